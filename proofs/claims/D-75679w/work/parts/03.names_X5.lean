/-! HeirsAtLawModel -/
set_option maxRecDepth 100000
def RX5 : String := "HeirsAtLawModel"
def TX5 : u_T := fun k => match k with
  | 0 => ("HeirsAtLawModel", "thrown", "I", false)
  | 1 => ("HeirsAtLawModel", "tape", "[B", true)
  | 2 => ("HeirsAtLawModel", "length", "I", false)
  | 3 => ("HeirsAtLawModel", "size", "I", false)
  | 4 => ("HeirsAtLawModel", "p", "I", false)
  | 5 => ("HeirsAtLawModel", "limit", "I", false)
  | 6 => ("HeirsAtLawModel", "s", "[I", true)
  | 7 => ("HeirsAtLawModel", "h", "[I", true)
  | 8 => ("HeirsAtLawModel", "read", "[I", true)
  | 9 => ("HeirsAtLawModel", "names", "[J", true)
  | 10 => ("HeirsAtLawModel", "reserved", "[J", true)
  | 11 => ("HeirsAtLawModel", "token", "I", false)
  | 12 => ("HeirsAtLawModel", "at", "I", false)
  | 13 => ("HeirsAtLawModel", "span", "I", false)
  | 14 => ("HeirsAtLawModel", "number", "I", false)
  | 15 => ("HeirsAtLawModel", "fault", "I", false)
  | 16 => ("HeirsAtLawModel", "faultAt", "I", false)
  | 17 => ("HeirsAtLawModel", "word", "J", false)
  | 18 => ("HeirsAtLawModel", "got", "I", false)
  | 19 => ("HeirsAtLawModel", "lines", "I", false)
  | 20 => ("HeirsAtLawModel", "hasWidow", "Z", false)
  | 21 => ("HeirsAtLawModel", "heapSet", "[I", true)
  | 22 => ("HeirsAtLawModel", "heapCoins", "[I", true)
  | 23 => ("HeirsAtLawModel", "heapMany", "I", false)
  | 24 => ("HeirsAtLawModel", "undone", "[I", true)
  | 25 => ("HeirsAtLawModel", "before", "[I", true)
  | 26 => ("HeirsAtLawModel", "undoMany", "I", false)
  | 27 => ("HeirsAtLawModel", "gains", "[I", true)
  | 28 => ("HeirsAtLawModel", "afterRow", "[I", true)
  | 29 => ("HeirsAtLawModel", "afterMany", "I", false)
  | 30 => ("HeirsAtLawModel", "bestRow", "[I", true)
  | 31 => ("HeirsAtLawModel", "bestMany", "I", false)
  | 32 => ("HeirsAtLawModel", "clearSet", "I", false)
  | 33 => ("HeirsAtLawModel", "hasClear", "Z", false)
  | 34 => ("HeirsAtLawModel", "askOne", "I", false)
  | 35 => ("HeirsAtLawModel", "hasFits", "Z", false)
  | 36 => ("HeirsAtLawModel", "text", "[B", true)
  | 37 => ("HeirsAtLawModel", "textMany", "I", false)
  | 38 => ("HeirsAtLawModel", "seed", "I", false)
  | 39 => ("HeirsAtLawModel", "toldMany", "I", false)
  | 40 => ("HeirsAtLawModel", "toldAt", "[I", true)
  | 41 => ("HeirsAtLawModel", "hasTold", "Z", false)
  | 42 => ("HeirsAtLawModel", "stack", "[I", true)
  | 43 => ("HeirsAtLawModel", "codes", "I", false)
  | 44 => ("HeirsAtLawModel", "ones", "I", false)
  | 45 => ("HeirsAtLawModel", "top", "I", false)
  | 46 => ("HeirsAtLawModel", "deep", "I", false)
  | 47 => ("HeirsAtLawModel", "isWhole", "Z", false)
  | 48 => ("HeirsAtLawModel", "truths", "[Z", true)
  | 49 => ("HeirsAtLawModel", "imaged", "[I", true)
  | 50 => ("HeirsAtLawModel", "namesKept", "[J", true)
  | _ => ("HeirsAtLawModel", "areKept", "[Z", true)
def tyX5 : Nat → FieldType := fun k => match k with
  | 0 => .int
  | 1 => .array .byte
  | 2 => .int
  | 3 => .int
  | 4 => .int
  | 5 => .int
  | 6 => .array .int
  | 7 => .array .int
  | 8 => .array .int
  | 9 => .array .long
  | 10 => .array .long
  | 11 => .int
  | 12 => .int
  | 13 => .int
  | 14 => .int
  | 15 => .int
  | 16 => .int
  | 17 => .long
  | 18 => .int
  | 19 => .int
  | 20 => .boolean
  | 21 => .array .int
  | 22 => .array .int
  | 23 => .int
  | 24 => .array .int
  | 25 => .array .int
  | 26 => .int
  | 27 => .array .int
  | 28 => .array .int
  | 29 => .int
  | 30 => .array .int
  | 31 => .int
  | 32 => .int
  | 33 => .boolean
  | 34 => .int
  | 35 => .boolean
  | 36 => .array .byte
  | 37 => .int
  | 38 => .int
  | 39 => .int
  | 40 => .array .int
  | 41 => .boolean
  | 42 => .array .int
  | 43 => .int
  | 44 => .int
  | 45 => .int
  | 46 => .int
  | 47 => .boolean
  | 48 => .array .boolean
  | 49 => .array .int
  | 50 => .array .long
  | _ => .array .boolean
abbrev wsX50 : List Cond := u_ws RX5 TX5 52
set_option maxRecDepth 100000 in
theorem nmX5 : ∀ a, a < 52 → ∀ b, b < 52 → a ≠ b → (TX5 a).2.1 ≠ (TX5 b).2.1 := by decide +kernel
set_option maxRecDepth 100000 in
theorem tyX5_ok : ∀ k, k < 52 → parseFieldDescriptor (TX5 k).2.2.1 = some (tyX5 k) := by decide +kernel
abbrev cX5_thrown : ByteArray := prog_29_method_1_code
def yX5_thrown : MethodName := ⟨RX5, "thrown", "()I"⟩
theorem dX5_thrown_0 : decode cX5_thrown 0 = .ok (.aload_n 0, 1) := by decide +kernel
theorem dX5_thrown_1 : decode cX5_thrown 1 = .ok (.getfield 1, 3) := by decide +kernel
theorem dX5_thrown_4 : decode cX5_thrown 4 = .ok (.ireturn, 1) := by decide +kernel
abbrev cX5_feed : ByteArray := prog_29_method_3_code
def yX5_feed : MethodName := ⟨RX5, "feed", "(IIIII)I"⟩
def dkwX5_feed_2 : List UInt8 := [182, 0, 10, 42, 180, 0, 7, 172]
abbrev dktX5_feed_2 : List UInt8 := dkwX5_feed_2 ++ []
def dkwX5_feed_1 : List UInt8 := [182, 0, 10, 42, 28, 182, 0, 10, 42, 29, 182, 0, 10, 42, 21, 4, 182, 0, 10, 42, 21, 5]
abbrev dktX5_feed_1 : List UInt8 := dkwX5_feed_1 ++ dktX5_feed_2
def dkwX5_feed_0 : List UInt8 := [42, 3, 181, 0, 1, 42, 180, 0, 7, 16, 20, 96, 17, 3, 172, 164, 0, 5, 2, 172, 42, 27]
abbrev dktX5_feed_0 : List UInt8 := dkwX5_feed_0 ++ dktX5_feed_1
theorem dksX5_feed_0 : cX5_feed.data.toList.drop 0 = dktX5_feed_0 := by decide +kernel
theorem dksX5_feed_1 : cX5_feed.data.toList.drop 22 = dktX5_feed_1 := dk_seg dksX5_feed_0 22 rfl rfl
theorem dksX5_feed_2 : cX5_feed.data.toList.drop 44 = dktX5_feed_2 := dk_seg dksX5_feed_1 22 rfl rfl
theorem dX5_feed_0 : decode cX5_feed 0 = .ok (.aload_n 0, 1) := dk_42 (dk_at dksX5_feed_0 0 rfl rfl)
theorem dX5_feed_1 : decode cX5_feed 1 = .ok (.iconst 0, 1) := dk_3 (dk_at dksX5_feed_0 1 rfl rfl)
theorem dX5_feed_2 : decode cX5_feed 2 = .ok (.putfield 1, 3) := dk_181 0 1 (dk_at dksX5_feed_0 2 rfl rfl)
theorem dX5_feed_5 : decode cX5_feed 5 = .ok (.aload_n 0, 1) := dk_42 (dk_at dksX5_feed_0 5 rfl rfl)
theorem dX5_feed_6 : decode cX5_feed 6 = .ok (.getfield 7, 3) := dk_180 0 7 (dk_at dksX5_feed_0 6 rfl rfl)
theorem dX5_feed_9 : decode cX5_feed 9 = .ok (.bipush 20, 2) := dk_16 20 (dk_at dksX5_feed_0 9 rfl rfl)
theorem dX5_feed_11 : decode cX5_feed 11 = .ok (.iadd, 1) := dk_96 (dk_at dksX5_feed_0 11 rfl rfl)
theorem dX5_feed_12 : decode cX5_feed 12 = .ok (.sipush 940, 3) := dk_17 3 172 (dk_at dksX5_feed_0 12 rfl rfl)
theorem dX5_feed_15 : decode cX5_feed 15 = .ok (.if_icmp .le 5, 3) := dk_164 0 5 (dk_at dksX5_feed_0 15 rfl rfl)
theorem dX5_feed_18 : decode cX5_feed 18 = .ok (.iconst (-1), 1) := dk_2 (dk_at dksX5_feed_0 18 rfl rfl)
theorem dX5_feed_19 : decode cX5_feed 19 = .ok (.ireturn, 1) := dk_172 (dk_at dksX5_feed_0 19 rfl rfl)
theorem dX5_feed_20 : decode cX5_feed 20 = .ok (.aload_n 0, 1) := dk_42 (dk_at dksX5_feed_0 20 rfl rfl)
theorem dX5_feed_21 : decode cX5_feed 21 = .ok (.iload_n 1, 1) := dk_27 (dk_at dksX5_feed_0 21 rfl rfl)
theorem dX5_feed_22 : decode cX5_feed 22 = .ok (.invokevirtual 10, 3) := dk_182 0 10 (dk_at dksX5_feed_1 0 rfl rfl)
theorem dX5_feed_25 : decode cX5_feed 25 = .ok (.aload_n 0, 1) := dk_42 (dk_at dksX5_feed_1 3 rfl rfl)
theorem dX5_feed_26 : decode cX5_feed 26 = .ok (.iload_n 2, 1) := dk_28 (dk_at dksX5_feed_1 4 rfl rfl)
theorem dX5_feed_27 : decode cX5_feed 27 = .ok (.invokevirtual 10, 3) := dk_182 0 10 (dk_at dksX5_feed_1 5 rfl rfl)
theorem dX5_feed_30 : decode cX5_feed 30 = .ok (.aload_n 0, 1) := dk_42 (dk_at dksX5_feed_1 8 rfl rfl)
theorem dX5_feed_31 : decode cX5_feed 31 = .ok (.iload_n 3, 1) := dk_29 (dk_at dksX5_feed_1 9 rfl rfl)
theorem dX5_feed_32 : decode cX5_feed 32 = .ok (.invokevirtual 10, 3) := dk_182 0 10 (dk_at dksX5_feed_1 10 rfl rfl)
theorem dX5_feed_35 : decode cX5_feed 35 = .ok (.aload_n 0, 1) := dk_42 (dk_at dksX5_feed_1 13 rfl rfl)
theorem dX5_feed_36 : decode cX5_feed 36 = .ok (.iload 4, 2) := dk_21 4 (dk_at dksX5_feed_1 14 rfl rfl)
theorem dX5_feed_38 : decode cX5_feed 38 = .ok (.invokevirtual 10, 3) := dk_182 0 10 (dk_at dksX5_feed_1 16 rfl rfl)
theorem dX5_feed_41 : decode cX5_feed 41 = .ok (.aload_n 0, 1) := dk_42 (dk_at dksX5_feed_1 19 rfl rfl)
theorem dX5_feed_42 : decode cX5_feed 42 = .ok (.iload 5, 2) := dk_21 5 (dk_at dksX5_feed_1 20 rfl rfl)
theorem dX5_feed_44 : decode cX5_feed 44 = .ok (.invokevirtual 10, 3) := dk_182 0 10 (dk_at dksX5_feed_2 0 rfl rfl)
theorem dX5_feed_47 : decode cX5_feed 47 = .ok (.aload_n 0, 1) := dk_42 (dk_at dksX5_feed_2 3 rfl rfl)
theorem dX5_feed_48 : decode cX5_feed 48 = .ok (.getfield 7, 3) := dk_180 0 7 (dk_at dksX5_feed_2 4 rfl rfl)
theorem dX5_feed_51 : decode cX5_feed 51 = .ok (.ireturn, 1) := dk_172 (dk_at dksX5_feed_2 7 rfl rfl)
abbrev cX5_four : ByteArray := prog_29_method_4_code
def yX5_four : MethodName := ⟨RX5, "four", "(I)V"⟩
def dkwX5_four_1 : List UInt8 := [180, 0, 7, 4, 96, 181, 0, 7, 132, 2, 248, 167, 255, 226, 177]
abbrev dktX5_four_1 : List UInt8 := dkwX5_four_1 ++ []
def dkwX5_four_0 : List UInt8 := [16, 24, 61, 28, 155, 0, 32, 42, 180, 0, 14, 42, 180, 0, 7, 27, 28, 122, 145, 84, 42, 89]
abbrev dktX5_four_0 : List UInt8 := dkwX5_four_0 ++ dktX5_four_1
theorem dksX5_four_0 : cX5_four.data.toList.drop 0 = dktX5_four_0 := by decide +kernel
theorem dksX5_four_1 : cX5_four.data.toList.drop 22 = dktX5_four_1 := dk_seg dksX5_four_0 22 rfl rfl
theorem dX5_four_0 : decode cX5_four 0 = .ok (.bipush 24, 2) := dk_16 24 (dk_at dksX5_four_0 0 rfl rfl)
theorem dX5_four_2 : decode cX5_four 2 = .ok (.istore_n 2, 1) := dk_61 (dk_at dksX5_four_0 2 rfl rfl)
theorem dX5_four_3 : decode cX5_four 3 = .ok (.iload_n 2, 1) := dk_28 (dk_at dksX5_four_0 3 rfl rfl)
theorem dX5_four_4 : decode cX5_four 4 = .ok (.ifCond .lt 32, 3) := dk_155 0 32 (dk_at dksX5_four_0 4 rfl rfl)
theorem dX5_four_7 : decode cX5_four 7 = .ok (.aload_n 0, 1) := dk_42 (dk_at dksX5_four_0 7 rfl rfl)
theorem dX5_four_8 : decode cX5_four 8 = .ok (.getfield 14, 3) := dk_180 0 14 (dk_at dksX5_four_0 8 rfl rfl)
theorem dX5_four_11 : decode cX5_four 11 = .ok (.aload_n 0, 1) := dk_42 (dk_at dksX5_four_0 11 rfl rfl)
theorem dX5_four_12 : decode cX5_four 12 = .ok (.getfield 7, 3) := dk_180 0 7 (dk_at dksX5_four_0 12 rfl rfl)
theorem dX5_four_15 : decode cX5_four 15 = .ok (.iload_n 1, 1) := dk_27 (dk_at dksX5_four_0 15 rfl rfl)
theorem dX5_four_16 : decode cX5_four 16 = .ok (.iload_n 2, 1) := dk_28 (dk_at dksX5_four_0 16 rfl rfl)
theorem dX5_four_17 : decode cX5_four 17 = .ok (.ishr, 1) := dk_122 (dk_at dksX5_four_0 17 rfl rfl)
theorem dX5_four_18 : decode cX5_four 18 = .ok (.i2b, 1) := dk_145 (dk_at dksX5_four_0 18 rfl rfl)
theorem dX5_four_19 : decode cX5_four 19 = .ok (.bastore, 1) := dk_84 (dk_at dksX5_four_0 19 rfl rfl)
theorem dX5_four_20 : decode cX5_four 20 = .ok (.aload_n 0, 1) := dk_42 (dk_at dksX5_four_0 20 rfl rfl)
theorem dX5_four_21 : decode cX5_four 21 = .ok (.dup, 1) := dk_89 (dk_at dksX5_four_0 21 rfl rfl)
theorem dX5_four_22 : decode cX5_four 22 = .ok (.getfield 7, 3) := dk_180 0 7 (dk_at dksX5_four_1 0 rfl rfl)
theorem dX5_four_25 : decode cX5_four 25 = .ok (.iconst 1, 1) := dk_4 (dk_at dksX5_four_1 3 rfl rfl)
theorem dX5_four_26 : decode cX5_four 26 = .ok (.iadd, 1) := dk_96 (dk_at dksX5_four_1 4 rfl rfl)
theorem dX5_four_27 : decode cX5_four 27 = .ok (.putfield 7, 3) := dk_181 0 7 (dk_at dksX5_four_1 5 rfl rfl)
theorem dX5_four_30 : decode cX5_four 30 = .ok (.iinc 2 (-8), 3) := dk_132 2 248 (dk_at dksX5_four_1 8 rfl rfl)
theorem dX5_four_33 : decode cX5_four 33 = .ok (.goto (-30), 3) := dk_167 255 226 (dk_at dksX5_four_1 11 rfl rfl)
theorem dX5_four_36 : decode cX5_four 36 = .ok (.return_, 1) := dk_177 (dk_at dksX5_four_1 14 rfl rfl)
abbrev cX5_end : ByteArray := prog_29_method_5_code
def yX5_end : MethodName := ⟨RX5, "end", "(I)Z"⟩
def dkwX5_end_1 : List UInt8 := [4, 172]
abbrev dktX5_end_1 : List UInt8 := dkwX5_end_1 ++ []
def dkwX5_end_0 : List UInt8 := [42, 3, 181, 0, 1, 27, 155, 0, 11, 27, 42, 180, 0, 7, 164, 0, 5, 3, 172, 42, 27, 181, 0, 7]
abbrev dktX5_end_0 : List UInt8 := dkwX5_end_0 ++ dktX5_end_1
theorem dksX5_end_0 : cX5_end.data.toList.drop 0 = dktX5_end_0 := by decide +kernel
theorem dksX5_end_1 : cX5_end.data.toList.drop 24 = dktX5_end_1 := dk_seg dksX5_end_0 24 rfl rfl
theorem dX5_end_0 : decode cX5_end 0 = .ok (.aload_n 0, 1) := dk_42 (dk_at dksX5_end_0 0 rfl rfl)
theorem dX5_end_1 : decode cX5_end 1 = .ok (.iconst 0, 1) := dk_3 (dk_at dksX5_end_0 1 rfl rfl)
theorem dX5_end_2 : decode cX5_end 2 = .ok (.putfield 1, 3) := dk_181 0 1 (dk_at dksX5_end_0 2 rfl rfl)
theorem dX5_end_5 : decode cX5_end 5 = .ok (.iload_n 1, 1) := dk_27 (dk_at dksX5_end_0 5 rfl rfl)
theorem dX5_end_6 : decode cX5_end 6 = .ok (.ifCond .lt 11, 3) := dk_155 0 11 (dk_at dksX5_end_0 6 rfl rfl)
theorem dX5_end_9 : decode cX5_end 9 = .ok (.iload_n 1, 1) := dk_27 (dk_at dksX5_end_0 9 rfl rfl)
theorem dX5_end_10 : decode cX5_end 10 = .ok (.aload_n 0, 1) := dk_42 (dk_at dksX5_end_0 10 rfl rfl)
theorem dX5_end_11 : decode cX5_end 11 = .ok (.getfield 7, 3) := dk_180 0 7 (dk_at dksX5_end_0 11 rfl rfl)
theorem dX5_end_14 : decode cX5_end 14 = .ok (.if_icmp .le 5, 3) := dk_164 0 5 (dk_at dksX5_end_0 14 rfl rfl)
theorem dX5_end_17 : decode cX5_end 17 = .ok (.iconst 0, 1) := dk_3 (dk_at dksX5_end_0 17 rfl rfl)
theorem dX5_end_18 : decode cX5_end 18 = .ok (.ireturn, 1) := dk_172 (dk_at dksX5_end_0 18 rfl rfl)
theorem dX5_end_19 : decode cX5_end 19 = .ok (.aload_n 0, 1) := dk_42 (dk_at dksX5_end_0 19 rfl rfl)
theorem dX5_end_20 : decode cX5_end 20 = .ok (.iload_n 1, 1) := dk_27 (dk_at dksX5_end_0 20 rfl rfl)
theorem dX5_end_21 : decode cX5_end 21 = .ok (.putfield 7, 3) := dk_181 0 7 (dk_at dksX5_end_0 21 rfl rfl)
theorem dX5_end_24 : decode cX5_end 24 = .ok (.iconst 1, 1) := dk_4 (dk_at dksX5_end_1 0 rfl rfl)
theorem dX5_end_25 : decode cX5_end 25 = .ok (.ireturn, 1) := dk_172 (dk_at dksX5_end_1 1 rfl rfl)
abbrev cX5_init : ByteArray := prog_29_method_13_code
def yX5_init : MethodName := ⟨RX5, "<init>", "()V"⟩
def dkwX5_init_18 : List UInt8 := [180, 0, 37, 27, 46, 79, 132, 1, 1, 167, 255, 235, 42, 180, 0, 33, 16, 100, 16, 100, 79, 177]
abbrev dktX5_init_18 : List UInt8 := dkwX5_init_18 ++ []
def dkwX5_init_17 : List UInt8 := [16, 22, 20, 0, 143, 80, 42, 182, 0, 145, 3, 60, 27, 16, 100, 162, 0, 21, 42, 180, 0, 33, 27, 42]
abbrev dktX5_init_17 : List UInt8 := dkwX5_init_17 ++ dktX5_init_18
def dkwX5_init_16 : List UInt8 := [42, 180, 0, 47, 16, 20, 20, 0, 139, 80, 42, 180, 0, 47, 16, 21, 20, 0, 141, 80, 42, 180, 0, 47]
abbrev dktX5_init_16 : List UInt8 := dkwX5_init_16 ++ dktX5_init_17
def dkwX5_init_15 : List UInt8 := [20, 0, 133, 80, 42, 180, 0, 47, 16, 18, 20, 0, 135, 80, 42, 180, 0, 47, 16, 19, 20, 0, 137, 80]
abbrev dktX5_init_15 : List UInt8 := dkwX5_init_15 ++ dktX5_init_16
def dkwX5_init_14 : List UInt8 := [16, 15, 20, 0, 129, 80, 42, 180, 0, 47, 16, 16, 20, 0, 131, 80, 42, 180, 0, 47, 16, 17]
abbrev dktX5_init_14 : List UInt8 := dkwX5_init_14 ++ dktX5_init_15
def dkwX5_init_13 : List UInt8 := [42, 180, 0, 47, 16, 13, 20, 0, 125, 80, 42, 180, 0, 47, 16, 14, 20, 0, 127, 80, 42, 180, 0, 47]
abbrev dktX5_init_13 : List UInt8 := dkwX5_init_13 ++ dktX5_init_14
def dkwX5_init_12 : List UInt8 := [20, 0, 119, 80, 42, 180, 0, 47, 16, 11, 20, 0, 121, 80, 42, 180, 0, 47, 16, 12, 20, 0, 123, 80]
abbrev dktX5_init_12 : List UInt8 := dkwX5_init_12 ++ dktX5_init_13
def dkwX5_init_11 : List UInt8 := [16, 8, 20, 0, 115, 80, 42, 180, 0, 47, 16, 9, 20, 0, 117, 80, 42, 180, 0, 47, 16, 10]
abbrev dktX5_init_11 : List UInt8 := dkwX5_init_11 ++ dktX5_init_12
def dkwX5_init_10 : List UInt8 := [180, 0, 47, 16, 6, 20, 0, 111, 80, 42, 180, 0, 47, 16, 7, 20, 0, 113, 80, 42, 180, 0, 47]
abbrev dktX5_init_10 : List UInt8 := dkwX5_init_10 ++ dktX5_init_11
def dkwX5_init_9 : List UInt8 := [20, 0, 105, 80, 42, 180, 0, 47, 7, 20, 0, 107, 80, 42, 180, 0, 47, 8, 20, 0, 109, 80, 42]
abbrev dktX5_init_9 : List UInt8 := dkwX5_init_9 ++ dktX5_init_10
def dkwX5_init_8 : List UInt8 := [42, 180, 0, 47, 4, 20, 0, 101, 80, 42, 180, 0, 47, 5, 20, 0, 103, 80, 42, 180, 0, 47, 6]
abbrev dktX5_init_8 : List UInt8 := dkwX5_init_8 ++ dktX5_init_9
def dkwX5_init_7 : List UInt8 := [42, 16, 24, 188, 11, 181, 0, 93, 42, 5, 188, 4, 181, 0, 96, 42, 180, 0, 47, 3, 20, 0, 99, 80]
abbrev dktX5_init_7 : List UInt8 := dkwX5_init_7 ++ dktX5_init_8
def dkwX5_init_6 : List UInt8 := [16, 45, 188, 10, 181, 0, 83, 42, 16, 45, 188, 4, 181, 0, 86, 42, 17, 2, 180, 188, 10, 181, 0, 90]
abbrev dktX5_init_6 : List UInt8 := dkwX5_init_6 ++ dktX5_init_7
def dkwX5_init_5 : List UInt8 := [181, 0, 71, 42, 2, 181, 0, 74, 42, 16, 48, 188, 8, 181, 0, 77, 42, 7, 188, 10, 181, 0, 80, 42]
abbrev dktX5_init_5 : List UInt8 := dkwX5_init_5 ++ dktX5_init_6
def dkwX5_init_4 : List UInt8 := [188, 10, 181, 0, 62, 42, 16, 12, 188, 10, 181, 0, 65, 42, 2, 181, 0, 68, 42, 8, 188, 10]
abbrev dktX5_init_4 : List UInt8 := dkwX5_init_4 ++ dktX5_init_5
def dkwX5_init_3 : List UInt8 := [181, 0, 53, 42, 17, 2, 8, 188, 10, 181, 0, 56, 42, 16, 65, 188, 10, 181, 0, 59, 42, 17, 0, 156]
abbrev dktX5_init_3 : List UInt8 := dkwX5_init_3 ++ dktX5_init_4
def dkwX5_init_2 : List UInt8 := [42, 16, 23, 188, 11, 181, 0, 47, 42, 17, 2, 0, 188, 10, 181, 0, 50, 42, 17, 2, 0, 188, 10]
abbrev dktX5_init_2 : List UInt8 := dkwX5_init_2 ++ dktX5_init_3
def dkwX5_init_1 : List UInt8 := [16, 100, 188, 10, 181, 0, 37, 42, 17, 0, 160, 188, 10, 181, 0, 40, 42, 16, 24, 188, 11, 181, 0, 43]
abbrev dktX5_init_1 : List UInt8 := dkwX5_init_1 ++ dktX5_init_2
def dkwX5_init_0 : List UInt8 := [42, 183, 0, 27, 42, 17, 3, 172, 188, 8, 181, 0, 14, 42, 17, 1, 90, 188, 10, 181, 0, 33, 42]
abbrev dktX5_init_0 : List UInt8 := dkwX5_init_0 ++ dktX5_init_1
theorem dksX5_init_0 : cX5_init.data.toList.drop 0 = dktX5_init_0 := by decide +kernel
theorem dksX5_init_1 : cX5_init.data.toList.drop 23 = dktX5_init_1 := dk_seg dksX5_init_0 23 rfl rfl
theorem dksX5_init_2 : cX5_init.data.toList.drop 47 = dktX5_init_2 := dk_seg dksX5_init_1 24 rfl rfl
theorem dksX5_init_3 : cX5_init.data.toList.drop 70 = dktX5_init_3 := dk_seg dksX5_init_2 23 rfl rfl
theorem dksX5_init_4 : cX5_init.data.toList.drop 94 = dktX5_init_4 := dk_seg dksX5_init_3 24 rfl rfl
theorem dksX5_init_5 : cX5_init.data.toList.drop 116 = dktX5_init_5 := dk_seg dksX5_init_4 22 rfl rfl
theorem dksX5_init_6 : cX5_init.data.toList.drop 140 = dktX5_init_6 := dk_seg dksX5_init_5 24 rfl rfl
theorem dksX5_init_7 : cX5_init.data.toList.drop 164 = dktX5_init_7 := dk_seg dksX5_init_6 24 rfl rfl
theorem dksX5_init_8 : cX5_init.data.toList.drop 188 = dktX5_init_8 := dk_seg dksX5_init_7 24 rfl rfl
theorem dksX5_init_9 : cX5_init.data.toList.drop 211 = dktX5_init_9 := dk_seg dksX5_init_8 23 rfl rfl
theorem dksX5_init_10 : cX5_init.data.toList.drop 234 = dktX5_init_10 := dk_seg dksX5_init_9 23 rfl rfl
theorem dksX5_init_11 : cX5_init.data.toList.drop 257 = dktX5_init_11 := dk_seg dksX5_init_10 23 rfl rfl
theorem dksX5_init_12 : cX5_init.data.toList.drop 279 = dktX5_init_12 := dk_seg dksX5_init_11 22 rfl rfl
theorem dksX5_init_13 : cX5_init.data.toList.drop 303 = dktX5_init_13 := dk_seg dksX5_init_12 24 rfl rfl
theorem dksX5_init_14 : cX5_init.data.toList.drop 327 = dktX5_init_14 := dk_seg dksX5_init_13 24 rfl rfl
theorem dksX5_init_15 : cX5_init.data.toList.drop 349 = dktX5_init_15 := dk_seg dksX5_init_14 22 rfl rfl
theorem dksX5_init_16 : cX5_init.data.toList.drop 373 = dktX5_init_16 := dk_seg dksX5_init_15 24 rfl rfl
theorem dksX5_init_17 : cX5_init.data.toList.drop 397 = dktX5_init_17 := dk_seg dksX5_init_16 24 rfl rfl
theorem dksX5_init_18 : cX5_init.data.toList.drop 421 = dktX5_init_18 := dk_seg dksX5_init_17 24 rfl rfl
theorem dX5_init_0 : decode cX5_init 0 = .ok (.aload_n 0, 1) := dk_42 (dk_at dksX5_init_0 0 rfl rfl)
theorem dX5_init_1 : decode cX5_init 1 = .ok (.invokespecial 27, 3) := dk_183 0 27 (dk_at dksX5_init_0 1 rfl rfl)
theorem dX5_init_4 : decode cX5_init 4 = .ok (.aload_n 0, 1) := dk_42 (dk_at dksX5_init_0 4 rfl rfl)
theorem dX5_init_5 : decode cX5_init 5 = .ok (.sipush 940, 3) := dk_17 3 172 (dk_at dksX5_init_0 5 rfl rfl)
theorem dX5_init_8 : decode cX5_init 8 = .ok (.newarray .byte, 2) := dk_188_8 (dk_at dksX5_init_0 8 rfl rfl)
theorem dX5_init_10 : decode cX5_init 10 = .ok (.putfield 14, 3) := dk_181 0 14 (dk_at dksX5_init_0 10 rfl rfl)
theorem dX5_init_13 : decode cX5_init 13 = .ok (.aload_n 0, 1) := dk_42 (dk_at dksX5_init_0 13 rfl rfl)
theorem dX5_init_14 : decode cX5_init 14 = .ok (.sipush 346, 3) := dk_17 1 90 (dk_at dksX5_init_0 14 rfl rfl)
theorem dX5_init_17 : decode cX5_init 17 = .ok (.newarray .int, 2) := dk_188_10 (dk_at dksX5_init_0 17 rfl rfl)
theorem dX5_init_19 : decode cX5_init 19 = .ok (.putfield 33, 3) := dk_181 0 33 (dk_at dksX5_init_0 19 rfl rfl)
theorem dX5_init_22 : decode cX5_init 22 = .ok (.aload_n 0, 1) := dk_42 (dk_at dksX5_init_0 22 rfl rfl)
theorem dX5_init_23 : decode cX5_init 23 = .ok (.bipush 100, 2) := dk_16 100 (dk_at dksX5_init_1 0 rfl rfl)
theorem dX5_init_25 : decode cX5_init 25 = .ok (.newarray .int, 2) := dk_188_10 (dk_at dksX5_init_1 2 rfl rfl)
theorem dX5_init_27 : decode cX5_init 27 = .ok (.putfield 37, 3) := dk_181 0 37 (dk_at dksX5_init_1 4 rfl rfl)
theorem dX5_init_30 : decode cX5_init 30 = .ok (.aload_n 0, 1) := dk_42 (dk_at dksX5_init_1 7 rfl rfl)
theorem dX5_init_31 : decode cX5_init 31 = .ok (.sipush 160, 3) := dk_17 0 160 (dk_at dksX5_init_1 8 rfl rfl)
theorem dX5_init_34 : decode cX5_init 34 = .ok (.newarray .int, 2) := dk_188_10 (dk_at dksX5_init_1 11 rfl rfl)
theorem dX5_init_36 : decode cX5_init 36 = .ok (.putfield 40, 3) := dk_181 0 40 (dk_at dksX5_init_1 13 rfl rfl)
theorem dX5_init_39 : decode cX5_init 39 = .ok (.aload_n 0, 1) := dk_42 (dk_at dksX5_init_1 16 rfl rfl)
theorem dX5_init_40 : decode cX5_init 40 = .ok (.bipush 24, 2) := dk_16 24 (dk_at dksX5_init_1 17 rfl rfl)
theorem dX5_init_42 : decode cX5_init 42 = .ok (.newarray .long, 2) := dk_188_11 (dk_at dksX5_init_1 19 rfl rfl)
theorem dX5_init_44 : decode cX5_init 44 = .ok (.putfield 43, 3) := dk_181 0 43 (dk_at dksX5_init_1 21 rfl rfl)
theorem dX5_init_47 : decode cX5_init 47 = .ok (.aload_n 0, 1) := dk_42 (dk_at dksX5_init_2 0 rfl rfl)
theorem dX5_init_48 : decode cX5_init 48 = .ok (.bipush 23, 2) := dk_16 23 (dk_at dksX5_init_2 1 rfl rfl)
theorem dX5_init_50 : decode cX5_init 50 = .ok (.newarray .long, 2) := dk_188_11 (dk_at dksX5_init_2 3 rfl rfl)
theorem dX5_init_52 : decode cX5_init 52 = .ok (.putfield 47, 3) := dk_181 0 47 (dk_at dksX5_init_2 5 rfl rfl)
theorem dX5_init_55 : decode cX5_init 55 = .ok (.aload_n 0, 1) := dk_42 (dk_at dksX5_init_2 8 rfl rfl)
theorem dX5_init_56 : decode cX5_init 56 = .ok (.sipush 512, 3) := dk_17 2 0 (dk_at dksX5_init_2 9 rfl rfl)
theorem dX5_init_59 : decode cX5_init 59 = .ok (.newarray .int, 2) := dk_188_10 (dk_at dksX5_init_2 12 rfl rfl)
theorem dX5_init_61 : decode cX5_init 61 = .ok (.putfield 50, 3) := dk_181 0 50 (dk_at dksX5_init_2 14 rfl rfl)
theorem dX5_init_64 : decode cX5_init 64 = .ok (.aload_n 0, 1) := dk_42 (dk_at dksX5_init_2 17 rfl rfl)
theorem dX5_init_65 : decode cX5_init 65 = .ok (.sipush 512, 3) := dk_17 2 0 (dk_at dksX5_init_2 18 rfl rfl)
theorem dX5_init_68 : decode cX5_init 68 = .ok (.newarray .int, 2) := dk_188_10 (dk_at dksX5_init_2 21 rfl rfl)
theorem dX5_init_70 : decode cX5_init 70 = .ok (.putfield 53, 3) := dk_181 0 53 (dk_at dksX5_init_3 0 rfl rfl)
theorem dX5_init_73 : decode cX5_init 73 = .ok (.aload_n 0, 1) := dk_42 (dk_at dksX5_init_3 3 rfl rfl)
theorem dX5_init_74 : decode cX5_init 74 = .ok (.sipush 520, 3) := dk_17 2 8 (dk_at dksX5_init_3 4 rfl rfl)
theorem dX5_init_77 : decode cX5_init 77 = .ok (.newarray .int, 2) := dk_188_10 (dk_at dksX5_init_3 7 rfl rfl)
theorem dX5_init_79 : decode cX5_init 79 = .ok (.putfield 56, 3) := dk_181 0 56 (dk_at dksX5_init_3 9 rfl rfl)
theorem dX5_init_82 : decode cX5_init 82 = .ok (.aload_n 0, 1) := dk_42 (dk_at dksX5_init_3 12 rfl rfl)
theorem dX5_init_83 : decode cX5_init 83 = .ok (.bipush 65, 2) := dk_16 65 (dk_at dksX5_init_3 13 rfl rfl)
theorem dX5_init_85 : decode cX5_init 85 = .ok (.newarray .int, 2) := dk_188_10 (dk_at dksX5_init_3 15 rfl rfl)
theorem dX5_init_87 : decode cX5_init 87 = .ok (.putfield 59, 3) := dk_181 0 59 (dk_at dksX5_init_3 17 rfl rfl)
theorem dX5_init_90 : decode cX5_init 90 = .ok (.aload_n 0, 1) := dk_42 (dk_at dksX5_init_3 20 rfl rfl)
theorem dX5_init_91 : decode cX5_init 91 = .ok (.sipush 156, 3) := dk_17 0 156 (dk_at dksX5_init_3 21 rfl rfl)
theorem dX5_init_94 : decode cX5_init 94 = .ok (.newarray .int, 2) := dk_188_10 (dk_at dksX5_init_4 0 rfl rfl)
theorem dX5_init_96 : decode cX5_init 96 = .ok (.putfield 62, 3) := dk_181 0 62 (dk_at dksX5_init_4 2 rfl rfl)
theorem dX5_init_99 : decode cX5_init 99 = .ok (.aload_n 0, 1) := dk_42 (dk_at dksX5_init_4 5 rfl rfl)
theorem dX5_init_100 : decode cX5_init 100 = .ok (.bipush 12, 2) := dk_16 12 (dk_at dksX5_init_4 6 rfl rfl)
theorem dX5_init_102 : decode cX5_init 102 = .ok (.newarray .int, 2) := dk_188_10 (dk_at dksX5_init_4 8 rfl rfl)
theorem dX5_init_104 : decode cX5_init 104 = .ok (.putfield 65, 3) := dk_181 0 65 (dk_at dksX5_init_4 10 rfl rfl)
theorem dX5_init_107 : decode cX5_init 107 = .ok (.aload_n 0, 1) := dk_42 (dk_at dksX5_init_4 13 rfl rfl)
theorem dX5_init_108 : decode cX5_init 108 = .ok (.iconst (-1), 1) := dk_2 (dk_at dksX5_init_4 14 rfl rfl)
theorem dX5_init_109 : decode cX5_init 109 = .ok (.putfield 68, 3) := dk_181 0 68 (dk_at dksX5_init_4 15 rfl rfl)
theorem dX5_init_112 : decode cX5_init 112 = .ok (.aload_n 0, 1) := dk_42 (dk_at dksX5_init_4 18 rfl rfl)
theorem dX5_init_113 : decode cX5_init 113 = .ok (.iconst 5, 1) := dk_8 (dk_at dksX5_init_4 19 rfl rfl)
theorem dX5_init_114 : decode cX5_init 114 = .ok (.newarray .int, 2) := dk_188_10 (dk_at dksX5_init_4 20 rfl rfl)
theorem dX5_init_116 : decode cX5_init 116 = .ok (.putfield 71, 3) := dk_181 0 71 (dk_at dksX5_init_5 0 rfl rfl)
theorem dX5_init_119 : decode cX5_init 119 = .ok (.aload_n 0, 1) := dk_42 (dk_at dksX5_init_5 3 rfl rfl)
theorem dX5_init_120 : decode cX5_init 120 = .ok (.iconst (-1), 1) := dk_2 (dk_at dksX5_init_5 4 rfl rfl)
theorem dX5_init_121 : decode cX5_init 121 = .ok (.putfield 74, 3) := dk_181 0 74 (dk_at dksX5_init_5 5 rfl rfl)
theorem dX5_init_124 : decode cX5_init 124 = .ok (.aload_n 0, 1) := dk_42 (dk_at dksX5_init_5 8 rfl rfl)
theorem dX5_init_125 : decode cX5_init 125 = .ok (.bipush 48, 2) := dk_16 48 (dk_at dksX5_init_5 9 rfl rfl)
theorem dX5_init_127 : decode cX5_init 127 = .ok (.newarray .byte, 2) := dk_188_8 (dk_at dksX5_init_5 11 rfl rfl)
theorem dX5_init_129 : decode cX5_init 129 = .ok (.putfield 77, 3) := dk_181 0 77 (dk_at dksX5_init_5 13 rfl rfl)
theorem dX5_init_132 : decode cX5_init 132 = .ok (.aload_n 0, 1) := dk_42 (dk_at dksX5_init_5 16 rfl rfl)
theorem dX5_init_133 : decode cX5_init 133 = .ok (.iconst 4, 1) := dk_7 (dk_at dksX5_init_5 17 rfl rfl)
theorem dX5_init_134 : decode cX5_init 134 = .ok (.newarray .int, 2) := dk_188_10 (dk_at dksX5_init_5 18 rfl rfl)
theorem dX5_init_136 : decode cX5_init 136 = .ok (.putfield 80, 3) := dk_181 0 80 (dk_at dksX5_init_5 20 rfl rfl)
theorem dX5_init_139 : decode cX5_init 139 = .ok (.aload_n 0, 1) := dk_42 (dk_at dksX5_init_5 23 rfl rfl)
theorem dX5_init_140 : decode cX5_init 140 = .ok (.bipush 45, 2) := dk_16 45 (dk_at dksX5_init_6 0 rfl rfl)
theorem dX5_init_142 : decode cX5_init 142 = .ok (.newarray .int, 2) := dk_188_10 (dk_at dksX5_init_6 2 rfl rfl)
theorem dX5_init_144 : decode cX5_init 144 = .ok (.putfield 83, 3) := dk_181 0 83 (dk_at dksX5_init_6 4 rfl rfl)
theorem dX5_init_147 : decode cX5_init 147 = .ok (.aload_n 0, 1) := dk_42 (dk_at dksX5_init_6 7 rfl rfl)
theorem dX5_init_148 : decode cX5_init 148 = .ok (.bipush 45, 2) := dk_16 45 (dk_at dksX5_init_6 8 rfl rfl)
theorem dX5_init_150 : decode cX5_init 150 = .ok (.newarray .boolean, 2) := dk_188_4 (dk_at dksX5_init_6 10 rfl rfl)
theorem dX5_init_152 : decode cX5_init 152 = .ok (.putfield 86, 3) := dk_181 0 86 (dk_at dksX5_init_6 12 rfl rfl)
theorem dX5_init_155 : decode cX5_init 155 = .ok (.aload_n 0, 1) := dk_42 (dk_at dksX5_init_6 15 rfl rfl)
theorem dX5_init_156 : decode cX5_init 156 = .ok (.sipush 692, 3) := dk_17 2 180 (dk_at dksX5_init_6 16 rfl rfl)
theorem dX5_init_159 : decode cX5_init 159 = .ok (.newarray .int, 2) := dk_188_10 (dk_at dksX5_init_6 19 rfl rfl)
theorem dX5_init_161 : decode cX5_init 161 = .ok (.putfield 90, 3) := dk_181 0 90 (dk_at dksX5_init_6 21 rfl rfl)
theorem dX5_init_164 : decode cX5_init 164 = .ok (.aload_n 0, 1) := dk_42 (dk_at dksX5_init_7 0 rfl rfl)
theorem dX5_init_165 : decode cX5_init 165 = .ok (.bipush 24, 2) := dk_16 24 (dk_at dksX5_init_7 1 rfl rfl)
theorem dX5_init_167 : decode cX5_init 167 = .ok (.newarray .long, 2) := dk_188_11 (dk_at dksX5_init_7 3 rfl rfl)
theorem dX5_init_169 : decode cX5_init 169 = .ok (.putfield 93, 3) := dk_181 0 93 (dk_at dksX5_init_7 5 rfl rfl)
theorem dX5_init_172 : decode cX5_init 172 = .ok (.aload_n 0, 1) := dk_42 (dk_at dksX5_init_7 8 rfl rfl)
theorem dX5_init_173 : decode cX5_init 173 = .ok (.iconst 2, 1) := dk_5 (dk_at dksX5_init_7 9 rfl rfl)
theorem dX5_init_174 : decode cX5_init 174 = .ok (.newarray .boolean, 2) := dk_188_4 (dk_at dksX5_init_7 10 rfl rfl)
theorem dX5_init_176 : decode cX5_init 176 = .ok (.putfield 96, 3) := dk_181 0 96 (dk_at dksX5_init_7 12 rfl rfl)
theorem dX5_init_179 : decode cX5_init 179 = .ok (.aload_n 0, 1) := dk_42 (dk_at dksX5_init_7 15 rfl rfl)
theorem dX5_init_180 : decode cX5_init 180 = .ok (.getfield 47, 3) := dk_180 0 47 (dk_at dksX5_init_7 16 rfl rfl)
theorem dX5_init_183 : decode cX5_init 183 = .ok (.iconst 0, 1) := dk_3 (dk_at dksX5_init_7 19 rfl rfl)
theorem dX5_init_184 : decode cX5_init 184 = .ok (.ldc2_w 99, 3) := dk_20 0 99 (dk_at dksX5_init_7 20 rfl rfl)
theorem dX5_init_187 : decode cX5_init 187 = .ok (.lastore, 1) := dk_80 (dk_at dksX5_init_7 23 rfl rfl)
theorem dX5_init_188 : decode cX5_init 188 = .ok (.aload_n 0, 1) := dk_42 (dk_at dksX5_init_8 0 rfl rfl)
theorem dX5_init_189 : decode cX5_init 189 = .ok (.getfield 47, 3) := dk_180 0 47 (dk_at dksX5_init_8 1 rfl rfl)
theorem dX5_init_192 : decode cX5_init 192 = .ok (.iconst 1, 1) := dk_4 (dk_at dksX5_init_8 4 rfl rfl)
theorem dX5_init_193 : decode cX5_init 193 = .ok (.ldc2_w 101, 3) := dk_20 0 101 (dk_at dksX5_init_8 5 rfl rfl)
theorem dX5_init_196 : decode cX5_init 196 = .ok (.lastore, 1) := dk_80 (dk_at dksX5_init_8 8 rfl rfl)
theorem dX5_init_197 : decode cX5_init 197 = .ok (.aload_n 0, 1) := dk_42 (dk_at dksX5_init_8 9 rfl rfl)
theorem dX5_init_198 : decode cX5_init 198 = .ok (.getfield 47, 3) := dk_180 0 47 (dk_at dksX5_init_8 10 rfl rfl)
theorem dX5_init_201 : decode cX5_init 201 = .ok (.iconst 2, 1) := dk_5 (dk_at dksX5_init_8 13 rfl rfl)
theorem dX5_init_202 : decode cX5_init 202 = .ok (.ldc2_w 103, 3) := dk_20 0 103 (dk_at dksX5_init_8 14 rfl rfl)
theorem dX5_init_205 : decode cX5_init 205 = .ok (.lastore, 1) := dk_80 (dk_at dksX5_init_8 17 rfl rfl)
theorem dX5_init_206 : decode cX5_init 206 = .ok (.aload_n 0, 1) := dk_42 (dk_at dksX5_init_8 18 rfl rfl)
theorem dX5_init_207 : decode cX5_init 207 = .ok (.getfield 47, 3) := dk_180 0 47 (dk_at dksX5_init_8 19 rfl rfl)
theorem dX5_init_210 : decode cX5_init 210 = .ok (.iconst 3, 1) := dk_6 (dk_at dksX5_init_8 22 rfl rfl)
theorem dX5_init_211 : decode cX5_init 211 = .ok (.ldc2_w 105, 3) := dk_20 0 105 (dk_at dksX5_init_9 0 rfl rfl)
theorem dX5_init_214 : decode cX5_init 214 = .ok (.lastore, 1) := dk_80 (dk_at dksX5_init_9 3 rfl rfl)
theorem dX5_init_215 : decode cX5_init 215 = .ok (.aload_n 0, 1) := dk_42 (dk_at dksX5_init_9 4 rfl rfl)
theorem dX5_init_216 : decode cX5_init 216 = .ok (.getfield 47, 3) := dk_180 0 47 (dk_at dksX5_init_9 5 rfl rfl)
theorem dX5_init_219 : decode cX5_init 219 = .ok (.iconst 4, 1) := dk_7 (dk_at dksX5_init_9 8 rfl rfl)
theorem dX5_init_220 : decode cX5_init 220 = .ok (.ldc2_w 107, 3) := dk_20 0 107 (dk_at dksX5_init_9 9 rfl rfl)
theorem dX5_init_223 : decode cX5_init 223 = .ok (.lastore, 1) := dk_80 (dk_at dksX5_init_9 12 rfl rfl)
theorem dX5_init_224 : decode cX5_init 224 = .ok (.aload_n 0, 1) := dk_42 (dk_at dksX5_init_9 13 rfl rfl)
theorem dX5_init_225 : decode cX5_init 225 = .ok (.getfield 47, 3) := dk_180 0 47 (dk_at dksX5_init_9 14 rfl rfl)
theorem dX5_init_228 : decode cX5_init 228 = .ok (.iconst 5, 1) := dk_8 (dk_at dksX5_init_9 17 rfl rfl)
theorem dX5_init_229 : decode cX5_init 229 = .ok (.ldc2_w 109, 3) := dk_20 0 109 (dk_at dksX5_init_9 18 rfl rfl)
theorem dX5_init_232 : decode cX5_init 232 = .ok (.lastore, 1) := dk_80 (dk_at dksX5_init_9 21 rfl rfl)
theorem dX5_init_233 : decode cX5_init 233 = .ok (.aload_n 0, 1) := dk_42 (dk_at dksX5_init_9 22 rfl rfl)
theorem dX5_init_234 : decode cX5_init 234 = .ok (.getfield 47, 3) := dk_180 0 47 (dk_at dksX5_init_10 0 rfl rfl)
theorem dX5_init_237 : decode cX5_init 237 = .ok (.bipush 6, 2) := dk_16 6 (dk_at dksX5_init_10 3 rfl rfl)
theorem dX5_init_239 : decode cX5_init 239 = .ok (.ldc2_w 111, 3) := dk_20 0 111 (dk_at dksX5_init_10 5 rfl rfl)
theorem dX5_init_242 : decode cX5_init 242 = .ok (.lastore, 1) := dk_80 (dk_at dksX5_init_10 8 rfl rfl)
theorem dX5_init_243 : decode cX5_init 243 = .ok (.aload_n 0, 1) := dk_42 (dk_at dksX5_init_10 9 rfl rfl)
theorem dX5_init_244 : decode cX5_init 244 = .ok (.getfield 47, 3) := dk_180 0 47 (dk_at dksX5_init_10 10 rfl rfl)
theorem dX5_init_247 : decode cX5_init 247 = .ok (.bipush 7, 2) := dk_16 7 (dk_at dksX5_init_10 13 rfl rfl)
theorem dX5_init_249 : decode cX5_init 249 = .ok (.ldc2_w 113, 3) := dk_20 0 113 (dk_at dksX5_init_10 15 rfl rfl)
theorem dX5_init_252 : decode cX5_init 252 = .ok (.lastore, 1) := dk_80 (dk_at dksX5_init_10 18 rfl rfl)
theorem dX5_init_253 : decode cX5_init 253 = .ok (.aload_n 0, 1) := dk_42 (dk_at dksX5_init_10 19 rfl rfl)
theorem dX5_init_254 : decode cX5_init 254 = .ok (.getfield 47, 3) := dk_180 0 47 (dk_at dksX5_init_10 20 rfl rfl)
theorem dX5_init_257 : decode cX5_init 257 = .ok (.bipush 8, 2) := dk_16 8 (dk_at dksX5_init_11 0 rfl rfl)
theorem dX5_init_259 : decode cX5_init 259 = .ok (.ldc2_w 115, 3) := dk_20 0 115 (dk_at dksX5_init_11 2 rfl rfl)
theorem dX5_init_262 : decode cX5_init 262 = .ok (.lastore, 1) := dk_80 (dk_at dksX5_init_11 5 rfl rfl)
theorem dX5_init_263 : decode cX5_init 263 = .ok (.aload_n 0, 1) := dk_42 (dk_at dksX5_init_11 6 rfl rfl)
theorem dX5_init_264 : decode cX5_init 264 = .ok (.getfield 47, 3) := dk_180 0 47 (dk_at dksX5_init_11 7 rfl rfl)
theorem dX5_init_267 : decode cX5_init 267 = .ok (.bipush 9, 2) := dk_16 9 (dk_at dksX5_init_11 10 rfl rfl)
theorem dX5_init_269 : decode cX5_init 269 = .ok (.ldc2_w 117, 3) := dk_20 0 117 (dk_at dksX5_init_11 12 rfl rfl)
theorem dX5_init_272 : decode cX5_init 272 = .ok (.lastore, 1) := dk_80 (dk_at dksX5_init_11 15 rfl rfl)
theorem dX5_init_273 : decode cX5_init 273 = .ok (.aload_n 0, 1) := dk_42 (dk_at dksX5_init_11 16 rfl rfl)
theorem dX5_init_274 : decode cX5_init 274 = .ok (.getfield 47, 3) := dk_180 0 47 (dk_at dksX5_init_11 17 rfl rfl)
theorem dX5_init_277 : decode cX5_init 277 = .ok (.bipush 10, 2) := dk_16 10 (dk_at dksX5_init_11 20 rfl rfl)
theorem dX5_init_279 : decode cX5_init 279 = .ok (.ldc2_w 119, 3) := dk_20 0 119 (dk_at dksX5_init_12 0 rfl rfl)
theorem dX5_init_282 : decode cX5_init 282 = .ok (.lastore, 1) := dk_80 (dk_at dksX5_init_12 3 rfl rfl)
theorem dX5_init_283 : decode cX5_init 283 = .ok (.aload_n 0, 1) := dk_42 (dk_at dksX5_init_12 4 rfl rfl)
theorem dX5_init_284 : decode cX5_init 284 = .ok (.getfield 47, 3) := dk_180 0 47 (dk_at dksX5_init_12 5 rfl rfl)
theorem dX5_init_287 : decode cX5_init 287 = .ok (.bipush 11, 2) := dk_16 11 (dk_at dksX5_init_12 8 rfl rfl)
theorem dX5_init_289 : decode cX5_init 289 = .ok (.ldc2_w 121, 3) := dk_20 0 121 (dk_at dksX5_init_12 10 rfl rfl)
theorem dX5_init_292 : decode cX5_init 292 = .ok (.lastore, 1) := dk_80 (dk_at dksX5_init_12 13 rfl rfl)
theorem dX5_init_293 : decode cX5_init 293 = .ok (.aload_n 0, 1) := dk_42 (dk_at dksX5_init_12 14 rfl rfl)
theorem dX5_init_294 : decode cX5_init 294 = .ok (.getfield 47, 3) := dk_180 0 47 (dk_at dksX5_init_12 15 rfl rfl)
theorem dX5_init_297 : decode cX5_init 297 = .ok (.bipush 12, 2) := dk_16 12 (dk_at dksX5_init_12 18 rfl rfl)
theorem dX5_init_299 : decode cX5_init 299 = .ok (.ldc2_w 123, 3) := dk_20 0 123 (dk_at dksX5_init_12 20 rfl rfl)
theorem dX5_init_302 : decode cX5_init 302 = .ok (.lastore, 1) := dk_80 (dk_at dksX5_init_12 23 rfl rfl)
theorem dX5_init_303 : decode cX5_init 303 = .ok (.aload_n 0, 1) := dk_42 (dk_at dksX5_init_13 0 rfl rfl)
theorem dX5_init_304 : decode cX5_init 304 = .ok (.getfield 47, 3) := dk_180 0 47 (dk_at dksX5_init_13 1 rfl rfl)
theorem dX5_init_307 : decode cX5_init 307 = .ok (.bipush 13, 2) := dk_16 13 (dk_at dksX5_init_13 4 rfl rfl)
theorem dX5_init_309 : decode cX5_init 309 = .ok (.ldc2_w 125, 3) := dk_20 0 125 (dk_at dksX5_init_13 6 rfl rfl)
theorem dX5_init_312 : decode cX5_init 312 = .ok (.lastore, 1) := dk_80 (dk_at dksX5_init_13 9 rfl rfl)
theorem dX5_init_313 : decode cX5_init 313 = .ok (.aload_n 0, 1) := dk_42 (dk_at dksX5_init_13 10 rfl rfl)
theorem dX5_init_314 : decode cX5_init 314 = .ok (.getfield 47, 3) := dk_180 0 47 (dk_at dksX5_init_13 11 rfl rfl)
theorem dX5_init_317 : decode cX5_init 317 = .ok (.bipush 14, 2) := dk_16 14 (dk_at dksX5_init_13 14 rfl rfl)
theorem dX5_init_319 : decode cX5_init 319 = .ok (.ldc2_w 127, 3) := dk_20 0 127 (dk_at dksX5_init_13 16 rfl rfl)
theorem dX5_init_322 : decode cX5_init 322 = .ok (.lastore, 1) := dk_80 (dk_at dksX5_init_13 19 rfl rfl)
theorem dX5_init_323 : decode cX5_init 323 = .ok (.aload_n 0, 1) := dk_42 (dk_at dksX5_init_13 20 rfl rfl)
theorem dX5_init_324 : decode cX5_init 324 = .ok (.getfield 47, 3) := dk_180 0 47 (dk_at dksX5_init_13 21 rfl rfl)
theorem dX5_init_327 : decode cX5_init 327 = .ok (.bipush 15, 2) := dk_16 15 (dk_at dksX5_init_14 0 rfl rfl)
theorem dX5_init_329 : decode cX5_init 329 = .ok (.ldc2_w 129, 3) := dk_20 0 129 (dk_at dksX5_init_14 2 rfl rfl)
theorem dX5_init_332 : decode cX5_init 332 = .ok (.lastore, 1) := dk_80 (dk_at dksX5_init_14 5 rfl rfl)
theorem dX5_init_333 : decode cX5_init 333 = .ok (.aload_n 0, 1) := dk_42 (dk_at dksX5_init_14 6 rfl rfl)
theorem dX5_init_334 : decode cX5_init 334 = .ok (.getfield 47, 3) := dk_180 0 47 (dk_at dksX5_init_14 7 rfl rfl)
theorem dX5_init_337 : decode cX5_init 337 = .ok (.bipush 16, 2) := dk_16 16 (dk_at dksX5_init_14 10 rfl rfl)
theorem dX5_init_339 : decode cX5_init 339 = .ok (.ldc2_w 131, 3) := dk_20 0 131 (dk_at dksX5_init_14 12 rfl rfl)
theorem dX5_init_342 : decode cX5_init 342 = .ok (.lastore, 1) := dk_80 (dk_at dksX5_init_14 15 rfl rfl)
theorem dX5_init_343 : decode cX5_init 343 = .ok (.aload_n 0, 1) := dk_42 (dk_at dksX5_init_14 16 rfl rfl)
theorem dX5_init_344 : decode cX5_init 344 = .ok (.getfield 47, 3) := dk_180 0 47 (dk_at dksX5_init_14 17 rfl rfl)
theorem dX5_init_347 : decode cX5_init 347 = .ok (.bipush 17, 2) := dk_16 17 (dk_at dksX5_init_14 20 rfl rfl)
theorem dX5_init_349 : decode cX5_init 349 = .ok (.ldc2_w 133, 3) := dk_20 0 133 (dk_at dksX5_init_15 0 rfl rfl)
theorem dX5_init_352 : decode cX5_init 352 = .ok (.lastore, 1) := dk_80 (dk_at dksX5_init_15 3 rfl rfl)
theorem dX5_init_353 : decode cX5_init 353 = .ok (.aload_n 0, 1) := dk_42 (dk_at dksX5_init_15 4 rfl rfl)
theorem dX5_init_354 : decode cX5_init 354 = .ok (.getfield 47, 3) := dk_180 0 47 (dk_at dksX5_init_15 5 rfl rfl)
theorem dX5_init_357 : decode cX5_init 357 = .ok (.bipush 18, 2) := dk_16 18 (dk_at dksX5_init_15 8 rfl rfl)
theorem dX5_init_359 : decode cX5_init 359 = .ok (.ldc2_w 135, 3) := dk_20 0 135 (dk_at dksX5_init_15 10 rfl rfl)
theorem dX5_init_362 : decode cX5_init 362 = .ok (.lastore, 1) := dk_80 (dk_at dksX5_init_15 13 rfl rfl)
theorem dX5_init_363 : decode cX5_init 363 = .ok (.aload_n 0, 1) := dk_42 (dk_at dksX5_init_15 14 rfl rfl)
theorem dX5_init_364 : decode cX5_init 364 = .ok (.getfield 47, 3) := dk_180 0 47 (dk_at dksX5_init_15 15 rfl rfl)
theorem dX5_init_367 : decode cX5_init 367 = .ok (.bipush 19, 2) := dk_16 19 (dk_at dksX5_init_15 18 rfl rfl)
theorem dX5_init_369 : decode cX5_init 369 = .ok (.ldc2_w 137, 3) := dk_20 0 137 (dk_at dksX5_init_15 20 rfl rfl)
theorem dX5_init_372 : decode cX5_init 372 = .ok (.lastore, 1) := dk_80 (dk_at dksX5_init_15 23 rfl rfl)
theorem dX5_init_373 : decode cX5_init 373 = .ok (.aload_n 0, 1) := dk_42 (dk_at dksX5_init_16 0 rfl rfl)
theorem dX5_init_374 : decode cX5_init 374 = .ok (.getfield 47, 3) := dk_180 0 47 (dk_at dksX5_init_16 1 rfl rfl)
theorem dX5_init_377 : decode cX5_init 377 = .ok (.bipush 20, 2) := dk_16 20 (dk_at dksX5_init_16 4 rfl rfl)
theorem dX5_init_379 : decode cX5_init 379 = .ok (.ldc2_w 139, 3) := dk_20 0 139 (dk_at dksX5_init_16 6 rfl rfl)
theorem dX5_init_382 : decode cX5_init 382 = .ok (.lastore, 1) := dk_80 (dk_at dksX5_init_16 9 rfl rfl)
theorem dX5_init_383 : decode cX5_init 383 = .ok (.aload_n 0, 1) := dk_42 (dk_at dksX5_init_16 10 rfl rfl)
theorem dX5_init_384 : decode cX5_init 384 = .ok (.getfield 47, 3) := dk_180 0 47 (dk_at dksX5_init_16 11 rfl rfl)
theorem dX5_init_387 : decode cX5_init 387 = .ok (.bipush 21, 2) := dk_16 21 (dk_at dksX5_init_16 14 rfl rfl)
theorem dX5_init_389 : decode cX5_init 389 = .ok (.ldc2_w 141, 3) := dk_20 0 141 (dk_at dksX5_init_16 16 rfl rfl)
theorem dX5_init_392 : decode cX5_init 392 = .ok (.lastore, 1) := dk_80 (dk_at dksX5_init_16 19 rfl rfl)
theorem dX5_init_393 : decode cX5_init 393 = .ok (.aload_n 0, 1) := dk_42 (dk_at dksX5_init_16 20 rfl rfl)
theorem dX5_init_394 : decode cX5_init 394 = .ok (.getfield 47, 3) := dk_180 0 47 (dk_at dksX5_init_16 21 rfl rfl)
theorem dX5_init_397 : decode cX5_init 397 = .ok (.bipush 22, 2) := dk_16 22 (dk_at dksX5_init_17 0 rfl rfl)
theorem dX5_init_399 : decode cX5_init 399 = .ok (.ldc2_w 143, 3) := dk_20 0 143 (dk_at dksX5_init_17 2 rfl rfl)
theorem dX5_init_402 : decode cX5_init 402 = .ok (.lastore, 1) := dk_80 (dk_at dksX5_init_17 5 rfl rfl)
theorem dX5_init_403 : decode cX5_init 403 = .ok (.aload_n 0, 1) := dk_42 (dk_at dksX5_init_17 6 rfl rfl)
theorem dX5_init_404 : decode cX5_init 404 = .ok (.invokevirtual 145, 3) := dk_182 0 145 (dk_at dksX5_init_17 7 rfl rfl)
theorem dX5_init_407 : decode cX5_init 407 = .ok (.iconst 0, 1) := dk_3 (dk_at dksX5_init_17 10 rfl rfl)
theorem dX5_init_408 : decode cX5_init 408 = .ok (.istore_n 1, 1) := dk_60 (dk_at dksX5_init_17 11 rfl rfl)
theorem dX5_init_409 : decode cX5_init 409 = .ok (.iload_n 1, 1) := dk_27 (dk_at dksX5_init_17 12 rfl rfl)
theorem dX5_init_410 : decode cX5_init 410 = .ok (.bipush 100, 2) := dk_16 100 (dk_at dksX5_init_17 13 rfl rfl)
theorem dX5_init_412 : decode cX5_init 412 = .ok (.if_icmp .ge 21, 3) := dk_162 0 21 (dk_at dksX5_init_17 15 rfl rfl)
theorem dX5_init_415 : decode cX5_init 415 = .ok (.aload_n 0, 1) := dk_42 (dk_at dksX5_init_17 18 rfl rfl)
theorem dX5_init_416 : decode cX5_init 416 = .ok (.getfield 33, 3) := dk_180 0 33 (dk_at dksX5_init_17 19 rfl rfl)
theorem dX5_init_419 : decode cX5_init 419 = .ok (.iload_n 1, 1) := dk_27 (dk_at dksX5_init_17 22 rfl rfl)
theorem dX5_init_420 : decode cX5_init 420 = .ok (.aload_n 0, 1) := dk_42 (dk_at dksX5_init_17 23 rfl rfl)
theorem dX5_init_421 : decode cX5_init 421 = .ok (.getfield 37, 3) := dk_180 0 37 (dk_at dksX5_init_18 0 rfl rfl)
theorem dX5_init_424 : decode cX5_init 424 = .ok (.iload_n 1, 1) := dk_27 (dk_at dksX5_init_18 3 rfl rfl)
theorem dX5_init_425 : decode cX5_init 425 = .ok (.iaload, 1) := dk_46 (dk_at dksX5_init_18 4 rfl rfl)
theorem dX5_init_426 : decode cX5_init 426 = .ok (.iastore, 1) := dk_79 (dk_at dksX5_init_18 5 rfl rfl)
theorem dX5_init_427 : decode cX5_init 427 = .ok (.iinc 1 1, 3) := dk_132 1 1 (dk_at dksX5_init_18 6 rfl rfl)
theorem dX5_init_430 : decode cX5_init 430 = .ok (.goto (-21), 3) := dk_167 255 235 (dk_at dksX5_init_18 9 rfl rfl)
theorem dX5_init_433 : decode cX5_init 433 = .ok (.aload_n 0, 1) := dk_42 (dk_at dksX5_init_18 12 rfl rfl)
theorem dX5_init_434 : decode cX5_init 434 = .ok (.getfield 33, 3) := dk_180 0 33 (dk_at dksX5_init_18 13 rfl rfl)
theorem dX5_init_437 : decode cX5_init 437 = .ok (.bipush 100, 2) := dk_16 100 (dk_at dksX5_init_18 16 rfl rfl)
theorem dX5_init_439 : decode cX5_init 439 = .ok (.bipush 100, 2) := dk_16 100 (dk_at dksX5_init_18 18 rfl rfl)
theorem dX5_init_441 : decode cX5_init 441 = .ok (.iastore, 1) := dk_79 (dk_at dksX5_init_18 20 rfl rfl)
theorem dX5_init_442 : decode cX5_init 442 = .ok (.return_, 1) := dk_177 (dk_at dksX5_init_18 21 rfl rfl)
abbrev cX5_clears : ByteArray := prog_29_method_14_code
def yX5_clears : MethodName := ⟨RX5, "clears", "()V"⟩
def dkwX5_clears_1 : List UInt8 := [180, 0, 37, 5, 16, 50, 79, 177]
abbrev dktX5_clears_1 : List UInt8 := dkwX5_clears_1 ++ []
def dkwX5_clears_0 : List UInt8 := [3, 60, 27, 16, 100, 162, 0, 16, 42, 180, 0, 37, 27, 3, 79, 132, 1, 1, 167, 255, 240, 42]
abbrev dktX5_clears_0 : List UInt8 := dkwX5_clears_0 ++ dktX5_clears_1
theorem dksX5_clears_0 : cX5_clears.data.toList.drop 0 = dktX5_clears_0 := by decide +kernel
theorem dksX5_clears_1 : cX5_clears.data.toList.drop 22 = dktX5_clears_1 := dk_seg dksX5_clears_0 22 rfl rfl
theorem dX5_clears_0 : decode cX5_clears 0 = .ok (.iconst 0, 1) := dk_3 (dk_at dksX5_clears_0 0 rfl rfl)
theorem dX5_clears_1 : decode cX5_clears 1 = .ok (.istore_n 1, 1) := dk_60 (dk_at dksX5_clears_0 1 rfl rfl)
theorem dX5_clears_2 : decode cX5_clears 2 = .ok (.iload_n 1, 1) := dk_27 (dk_at dksX5_clears_0 2 rfl rfl)
theorem dX5_clears_3 : decode cX5_clears 3 = .ok (.bipush 100, 2) := dk_16 100 (dk_at dksX5_clears_0 3 rfl rfl)
theorem dX5_clears_5 : decode cX5_clears 5 = .ok (.if_icmp .ge 16, 3) := dk_162 0 16 (dk_at dksX5_clears_0 5 rfl rfl)
theorem dX5_clears_8 : decode cX5_clears 8 = .ok (.aload_n 0, 1) := dk_42 (dk_at dksX5_clears_0 8 rfl rfl)
theorem dX5_clears_9 : decode cX5_clears 9 = .ok (.getfield 37, 3) := dk_180 0 37 (dk_at dksX5_clears_0 9 rfl rfl)
theorem dX5_clears_12 : decode cX5_clears 12 = .ok (.iload_n 1, 1) := dk_27 (dk_at dksX5_clears_0 12 rfl rfl)
theorem dX5_clears_13 : decode cX5_clears 13 = .ok (.iconst 0, 1) := dk_3 (dk_at dksX5_clears_0 13 rfl rfl)
theorem dX5_clears_14 : decode cX5_clears 14 = .ok (.iastore, 1) := dk_79 (dk_at dksX5_clears_0 14 rfl rfl)
theorem dX5_clears_15 : decode cX5_clears 15 = .ok (.iinc 1 1, 3) := dk_132 1 1 (dk_at dksX5_clears_0 15 rfl rfl)
theorem dX5_clears_18 : decode cX5_clears 18 = .ok (.goto (-16), 3) := dk_167 255 240 (dk_at dksX5_clears_0 18 rfl rfl)
theorem dX5_clears_21 : decode cX5_clears 21 = .ok (.aload_n 0, 1) := dk_42 (dk_at dksX5_clears_0 21 rfl rfl)
theorem dX5_clears_22 : decode cX5_clears 22 = .ok (.getfield 37, 3) := dk_180 0 37 (dk_at dksX5_clears_1 0 rfl rfl)
theorem dX5_clears_25 : decode cX5_clears 25 = .ok (.iconst 2, 1) := dk_5 (dk_at dksX5_clears_1 3 rfl rfl)
theorem dX5_clears_26 : decode cX5_clears 26 = .ok (.bipush 50, 2) := dk_16 50 (dk_at dksX5_clears_1 4 rfl rfl)
theorem dX5_clears_28 : decode cX5_clears 28 = .ok (.iastore, 1) := dk_79 (dk_at dksX5_clears_1 6 rfl rfl)
theorem dX5_clears_29 : decode cX5_clears 29 = .ok (.return_, 1) := dk_177 (dk_at dksX5_clears_1 7 rfl rfl)
abbrev cX5_family : ByteArray := prog_29_method_36_code
def yX5_family : MethodName := ⟨RX5, "family", "()I"⟩
def dkwX5_family_12 : List UInt8 := [180, 0, 254, 172]
abbrev dktX5_family_12 : List UInt8 := dkwX5_family_12 ++ []
def dkwX5_family_11 : List UInt8 := [42, 180, 0, 33, 16, 88, 27, 96, 46, 79, 132, 1, 1, 167, 255, 154, 42, 3, 181, 1, 7, 42]
abbrev dktX5_family_11 : List UInt8 := dkwX5_family_11 ++ dktX5_family_12
def dkwX5_family_10 : List UInt8 := [17, 0, 141, 27, 96, 42, 180, 0, 33, 16, 76, 27, 96, 46, 79, 42, 180, 0, 33, 17, 0, 153, 27, 96]
abbrev dktX5_family_10 : List UInt8 := dkwX5_family_10 ++ dktX5_family_11
def dkwX5_family_9 : List UInt8 := [180, 0, 33, 17, 0, 129, 27, 96, 42, 180, 0, 33, 16, 64, 27, 96, 46, 79, 42, 180, 0, 33]
abbrev dktX5_family_9 : List UInt8 := dkwX5_family_9 ++ dktX5_family_10
def dkwX5_family_8 : List UInt8 := [27, 96, 46, 79, 42, 180, 0, 33, 16, 117, 27, 96, 42, 180, 0, 33, 16, 39, 27, 96, 46, 79, 42]
abbrev dktX5_family_8 : List UInt8 := dkwX5_family_8 ++ dktX5_family_9
def dkwX5_family_7 : List UInt8 := [46, 79, 3, 60, 27, 16, 12, 162, 0, 102, 42, 180, 0, 33, 16, 105, 27, 96, 42, 180, 0, 33, 16, 15]
abbrev dktX5_family_7 : List UInt8 := dkwX5_family_7 ++ dktX5_family_8
def dkwX5_family_6 : List UInt8 := [167, 255, 232, 42, 180, 0, 33, 16, 100, 16, 100, 79, 42, 180, 0, 33, 16, 104, 42, 180, 0, 33, 16, 63]
abbrev dktX5_family_6 : List UInt8 := dkwX5_family_6 ++ dktX5_family_7
def dkwX5_family_5 : List UInt8 := [27, 16, 12, 162, 0, 24, 42, 180, 0, 43, 27, 42, 180, 0, 43, 16, 12, 27, 96, 47, 80, 132, 1, 1]
abbrev dktX5_family_5 : List UInt8 := dkwX5_family_5 ++ dktX5_family_6
def dkwX5_family_4 : List UInt8 := [16, 100, 162, 0, 12, 42, 180, 0, 37, 27, 46, 167, 0, 4, 3, 79, 132, 1, 1, 167, 255, 224, 3, 60]
abbrev dktX5_family_4 : List UInt8 := dkwX5_family_4 ++ dktX5_family_5
def dkwX5_family_3 : List UInt8 := [4, 96, 181, 0, 254, 167, 255, 216, 3, 60, 27, 17, 1, 90, 162, 0, 31, 42, 180, 0, 33, 27, 27]
abbrev dktX5_family_3 : List UInt8 := dkwX5_family_3 ++ dktX5_family_4
def dkwX5_family_2 : List UInt8 := [153, 0, 12, 42, 16, 59, 182, 1, 4, 154, 0, 10, 2, 42, 180, 0, 178, 100, 172, 42, 89, 180, 0, 254]
abbrev dktX5_family_2 : List UInt8 := dkwX5_family_2 ++ dktX5_family_3
def dkwX5_family_1 : List UInt8 := [181, 0, 231, 42, 182, 0, 145, 42, 182, 0, 187, 42, 180, 0, 158, 153, 0, 39, 42, 182, 1, 1]
abbrev dktX5_family_1 : List UInt8 := dkwX5_family_1 ++ dktX5_family_2
def dkwX5_family_0 : List UInt8 := [42, 3, 181, 0, 1, 42, 17, 3, 132, 182, 0, 251, 42, 3, 181, 0, 175, 42, 3, 181, 0, 254, 42, 3]
abbrev dktX5_family_0 : List UInt8 := dkwX5_family_0 ++ dktX5_family_1
theorem dksX5_family_0 : cX5_family.data.toList.drop 0 = dktX5_family_0 := by decide +kernel
theorem dksX5_family_1 : cX5_family.data.toList.drop 24 = dktX5_family_1 := dk_seg dksX5_family_0 24 rfl rfl
theorem dksX5_family_2 : cX5_family.data.toList.drop 46 = dktX5_family_2 := dk_seg dksX5_family_1 22 rfl rfl
theorem dksX5_family_3 : cX5_family.data.toList.drop 70 = dktX5_family_3 := dk_seg dksX5_family_2 24 rfl rfl
theorem dksX5_family_4 : cX5_family.data.toList.drop 93 = dktX5_family_4 := dk_seg dksX5_family_3 23 rfl rfl
theorem dksX5_family_5 : cX5_family.data.toList.drop 117 = dktX5_family_5 := dk_seg dksX5_family_4 24 rfl rfl
theorem dksX5_family_6 : cX5_family.data.toList.drop 141 = dktX5_family_6 := dk_seg dksX5_family_5 24 rfl rfl
theorem dksX5_family_7 : cX5_family.data.toList.drop 165 = dktX5_family_7 := dk_seg dksX5_family_6 24 rfl rfl
theorem dksX5_family_8 : cX5_family.data.toList.drop 189 = dktX5_family_8 := dk_seg dksX5_family_7 24 rfl rfl
theorem dksX5_family_9 : cX5_family.data.toList.drop 212 = dktX5_family_9 := dk_seg dksX5_family_8 23 rfl rfl
theorem dksX5_family_10 : cX5_family.data.toList.drop 234 = dktX5_family_10 := dk_seg dksX5_family_9 22 rfl rfl
theorem dksX5_family_11 : cX5_family.data.toList.drop 258 = dktX5_family_11 := dk_seg dksX5_family_10 24 rfl rfl
theorem dksX5_family_12 : cX5_family.data.toList.drop 280 = dktX5_family_12 := dk_seg dksX5_family_11 22 rfl rfl
theorem dX5_family_0 : decode cX5_family 0 = .ok (.aload_n 0, 1) := dk_42 (dk_at dksX5_family_0 0 rfl rfl)
theorem dX5_family_1 : decode cX5_family 1 = .ok (.iconst 0, 1) := dk_3 (dk_at dksX5_family_0 1 rfl rfl)
theorem dX5_family_2 : decode cX5_family 2 = .ok (.putfield 1, 3) := dk_181 0 1 (dk_at dksX5_family_0 2 rfl rfl)
theorem dX5_family_5 : decode cX5_family 5 = .ok (.aload_n 0, 1) := dk_42 (dk_at dksX5_family_0 5 rfl rfl)
theorem dX5_family_6 : decode cX5_family 6 = .ok (.sipush 900, 3) := dk_17 3 132 (dk_at dksX5_family_0 6 rfl rfl)
theorem dX5_family_9 : decode cX5_family 9 = .ok (.invokevirtual 251, 3) := dk_182 0 251 (dk_at dksX5_family_0 9 rfl rfl)
theorem dX5_family_12 : decode cX5_family 12 = .ok (.aload_n 0, 1) := dk_42 (dk_at dksX5_family_0 12 rfl rfl)
theorem dX5_family_13 : decode cX5_family 13 = .ok (.iconst 0, 1) := dk_3 (dk_at dksX5_family_0 13 rfl rfl)
theorem dX5_family_14 : decode cX5_family 14 = .ok (.putfield 175, 3) := dk_181 0 175 (dk_at dksX5_family_0 14 rfl rfl)
theorem dX5_family_17 : decode cX5_family 17 = .ok (.aload_n 0, 1) := dk_42 (dk_at dksX5_family_0 17 rfl rfl)
theorem dX5_family_18 : decode cX5_family 18 = .ok (.iconst 0, 1) := dk_3 (dk_at dksX5_family_0 18 rfl rfl)
theorem dX5_family_19 : decode cX5_family 19 = .ok (.putfield 254, 3) := dk_181 0 254 (dk_at dksX5_family_0 19 rfl rfl)
theorem dX5_family_22 : decode cX5_family 22 = .ok (.aload_n 0, 1) := dk_42 (dk_at dksX5_family_0 22 rfl rfl)
theorem dX5_family_23 : decode cX5_family 23 = .ok (.iconst 0, 1) := dk_3 (dk_at dksX5_family_0 23 rfl rfl)
theorem dX5_family_24 : decode cX5_family 24 = .ok (.putfield 231, 3) := dk_181 0 231 (dk_at dksX5_family_1 0 rfl rfl)
theorem dX5_family_27 : decode cX5_family 27 = .ok (.aload_n 0, 1) := dk_42 (dk_at dksX5_family_1 3 rfl rfl)
theorem dX5_family_28 : decode cX5_family 28 = .ok (.invokevirtual 145, 3) := dk_182 0 145 (dk_at dksX5_family_1 4 rfl rfl)
theorem dX5_family_31 : decode cX5_family 31 = .ok (.aload_n 0, 1) := dk_42 (dk_at dksX5_family_1 7 rfl rfl)
theorem dX5_family_32 : decode cX5_family 32 = .ok (.invokevirtual 187, 3) := dk_182 0 187 (dk_at dksX5_family_1 8 rfl rfl)
theorem dX5_family_35 : decode cX5_family 35 = .ok (.aload_n 0, 1) := dk_42 (dk_at dksX5_family_1 11 rfl rfl)
theorem dX5_family_36 : decode cX5_family 36 = .ok (.getfield 158, 3) := dk_180 0 158 (dk_at dksX5_family_1 12 rfl rfl)
theorem dX5_family_39 : decode cX5_family 39 = .ok (.ifCond .eq 39, 3) := dk_153 0 39 (dk_at dksX5_family_1 15 rfl rfl)
theorem dX5_family_42 : decode cX5_family 42 = .ok (.aload_n 0, 1) := dk_42 (dk_at dksX5_family_1 18 rfl rfl)
theorem dX5_family_43 : decode cX5_family 43 = .ok (.invokevirtual 257, 3) := dk_182 1 1 (dk_at dksX5_family_1 19 rfl rfl)
theorem dX5_family_46 : decode cX5_family 46 = .ok (.ifCond .eq 12, 3) := dk_153 0 12 (dk_at dksX5_family_2 0 rfl rfl)
theorem dX5_family_49 : decode cX5_family 49 = .ok (.aload_n 0, 1) := dk_42 (dk_at dksX5_family_2 3 rfl rfl)
theorem dX5_family_50 : decode cX5_family 50 = .ok (.bipush 59, 2) := dk_16 59 (dk_at dksX5_family_2 4 rfl rfl)
theorem dX5_family_52 : decode cX5_family 52 = .ok (.invokevirtual 260, 3) := dk_182 1 4 (dk_at dksX5_family_2 6 rfl rfl)
theorem dX5_family_55 : decode cX5_family 55 = .ok (.ifCond .ne 10, 3) := dk_154 0 10 (dk_at dksX5_family_2 9 rfl rfl)
theorem dX5_family_58 : decode cX5_family 58 = .ok (.iconst (-1), 1) := dk_2 (dk_at dksX5_family_2 12 rfl rfl)
theorem dX5_family_59 : decode cX5_family 59 = .ok (.aload_n 0, 1) := dk_42 (dk_at dksX5_family_2 13 rfl rfl)
theorem dX5_family_60 : decode cX5_family 60 = .ok (.getfield 178, 3) := dk_180 0 178 (dk_at dksX5_family_2 14 rfl rfl)
theorem dX5_family_63 : decode cX5_family 63 = .ok (.isub, 1) := dk_100 (dk_at dksX5_family_2 17 rfl rfl)
theorem dX5_family_64 : decode cX5_family 64 = .ok (.ireturn, 1) := dk_172 (dk_at dksX5_family_2 18 rfl rfl)
theorem dX5_family_65 : decode cX5_family 65 = .ok (.aload_n 0, 1) := dk_42 (dk_at dksX5_family_2 19 rfl rfl)
theorem dX5_family_66 : decode cX5_family 66 = .ok (.dup, 1) := dk_89 (dk_at dksX5_family_2 20 rfl rfl)
theorem dX5_family_67 : decode cX5_family 67 = .ok (.getfield 254, 3) := dk_180 0 254 (dk_at dksX5_family_2 21 rfl rfl)
theorem dX5_family_70 : decode cX5_family 70 = .ok (.iconst 1, 1) := dk_4 (dk_at dksX5_family_3 0 rfl rfl)
theorem dX5_family_71 : decode cX5_family 71 = .ok (.iadd, 1) := dk_96 (dk_at dksX5_family_3 1 rfl rfl)
theorem dX5_family_72 : decode cX5_family 72 = .ok (.putfield 254, 3) := dk_181 0 254 (dk_at dksX5_family_3 2 rfl rfl)
theorem dX5_family_75 : decode cX5_family 75 = .ok (.goto (-40), 3) := dk_167 255 216 (dk_at dksX5_family_3 5 rfl rfl)
theorem dX5_family_78 : decode cX5_family 78 = .ok (.iconst 0, 1) := dk_3 (dk_at dksX5_family_3 8 rfl rfl)
theorem dX5_family_79 : decode cX5_family 79 = .ok (.istore_n 1, 1) := dk_60 (dk_at dksX5_family_3 9 rfl rfl)
theorem dX5_family_80 : decode cX5_family 80 = .ok (.iload_n 1, 1) := dk_27 (dk_at dksX5_family_3 10 rfl rfl)
theorem dX5_family_81 : decode cX5_family 81 = .ok (.sipush 346, 3) := dk_17 1 90 (dk_at dksX5_family_3 11 rfl rfl)
theorem dX5_family_84 : decode cX5_family 84 = .ok (.if_icmp .ge 31, 3) := dk_162 0 31 (dk_at dksX5_family_3 14 rfl rfl)
theorem dX5_family_87 : decode cX5_family 87 = .ok (.aload_n 0, 1) := dk_42 (dk_at dksX5_family_3 17 rfl rfl)
theorem dX5_family_88 : decode cX5_family 88 = .ok (.getfield 33, 3) := dk_180 0 33 (dk_at dksX5_family_3 18 rfl rfl)
theorem dX5_family_91 : decode cX5_family 91 = .ok (.iload_n 1, 1) := dk_27 (dk_at dksX5_family_3 21 rfl rfl)
theorem dX5_family_92 : decode cX5_family 92 = .ok (.iload_n 1, 1) := dk_27 (dk_at dksX5_family_3 22 rfl rfl)
theorem dX5_family_93 : decode cX5_family 93 = .ok (.bipush 100, 2) := dk_16 100 (dk_at dksX5_family_4 0 rfl rfl)
theorem dX5_family_95 : decode cX5_family 95 = .ok (.if_icmp .ge 12, 3) := dk_162 0 12 (dk_at dksX5_family_4 2 rfl rfl)
theorem dX5_family_98 : decode cX5_family 98 = .ok (.aload_n 0, 1) := dk_42 (dk_at dksX5_family_4 5 rfl rfl)
theorem dX5_family_99 : decode cX5_family 99 = .ok (.getfield 37, 3) := dk_180 0 37 (dk_at dksX5_family_4 6 rfl rfl)
theorem dX5_family_102 : decode cX5_family 102 = .ok (.iload_n 1, 1) := dk_27 (dk_at dksX5_family_4 9 rfl rfl)
theorem dX5_family_103 : decode cX5_family 103 = .ok (.iaload, 1) := dk_46 (dk_at dksX5_family_4 10 rfl rfl)
theorem dX5_family_104 : decode cX5_family 104 = .ok (.goto 4, 3) := dk_167 0 4 (dk_at dksX5_family_4 11 rfl rfl)
theorem dX5_family_107 : decode cX5_family 107 = .ok (.iconst 0, 1) := dk_3 (dk_at dksX5_family_4 14 rfl rfl)
theorem dX5_family_108 : decode cX5_family 108 = .ok (.iastore, 1) := dk_79 (dk_at dksX5_family_4 15 rfl rfl)
theorem dX5_family_109 : decode cX5_family 109 = .ok (.iinc 1 1, 3) := dk_132 1 1 (dk_at dksX5_family_4 16 rfl rfl)
theorem dX5_family_112 : decode cX5_family 112 = .ok (.goto (-32), 3) := dk_167 255 224 (dk_at dksX5_family_4 19 rfl rfl)
theorem dX5_family_115 : decode cX5_family 115 = .ok (.iconst 0, 1) := dk_3 (dk_at dksX5_family_4 22 rfl rfl)
theorem dX5_family_116 : decode cX5_family 116 = .ok (.istore_n 1, 1) := dk_60 (dk_at dksX5_family_4 23 rfl rfl)
theorem dX5_family_117 : decode cX5_family 117 = .ok (.iload_n 1, 1) := dk_27 (dk_at dksX5_family_5 0 rfl rfl)
theorem dX5_family_118 : decode cX5_family 118 = .ok (.bipush 12, 2) := dk_16 12 (dk_at dksX5_family_5 1 rfl rfl)
theorem dX5_family_120 : decode cX5_family 120 = .ok (.if_icmp .ge 24, 3) := dk_162 0 24 (dk_at dksX5_family_5 3 rfl rfl)
theorem dX5_family_123 : decode cX5_family 123 = .ok (.aload_n 0, 1) := dk_42 (dk_at dksX5_family_5 6 rfl rfl)
theorem dX5_family_124 : decode cX5_family 124 = .ok (.getfield 43, 3) := dk_180 0 43 (dk_at dksX5_family_5 7 rfl rfl)
theorem dX5_family_127 : decode cX5_family 127 = .ok (.iload_n 1, 1) := dk_27 (dk_at dksX5_family_5 10 rfl rfl)
theorem dX5_family_128 : decode cX5_family 128 = .ok (.aload_n 0, 1) := dk_42 (dk_at dksX5_family_5 11 rfl rfl)
theorem dX5_family_129 : decode cX5_family 129 = .ok (.getfield 43, 3) := dk_180 0 43 (dk_at dksX5_family_5 12 rfl rfl)
theorem dX5_family_132 : decode cX5_family 132 = .ok (.bipush 12, 2) := dk_16 12 (dk_at dksX5_family_5 15 rfl rfl)
theorem dX5_family_134 : decode cX5_family 134 = .ok (.iload_n 1, 1) := dk_27 (dk_at dksX5_family_5 17 rfl rfl)
theorem dX5_family_135 : decode cX5_family 135 = .ok (.iadd, 1) := dk_96 (dk_at dksX5_family_5 18 rfl rfl)
theorem dX5_family_136 : decode cX5_family 136 = .ok (.laload, 1) := dk_47 (dk_at dksX5_family_5 19 rfl rfl)
theorem dX5_family_137 : decode cX5_family 137 = .ok (.lastore, 1) := dk_80 (dk_at dksX5_family_5 20 rfl rfl)
theorem dX5_family_138 : decode cX5_family 138 = .ok (.iinc 1 1, 3) := dk_132 1 1 (dk_at dksX5_family_5 21 rfl rfl)
theorem dX5_family_141 : decode cX5_family 141 = .ok (.goto (-24), 3) := dk_167 255 232 (dk_at dksX5_family_6 0 rfl rfl)
theorem dX5_family_144 : decode cX5_family 144 = .ok (.aload_n 0, 1) := dk_42 (dk_at dksX5_family_6 3 rfl rfl)
theorem dX5_family_145 : decode cX5_family 145 = .ok (.getfield 33, 3) := dk_180 0 33 (dk_at dksX5_family_6 4 rfl rfl)
theorem dX5_family_148 : decode cX5_family 148 = .ok (.bipush 100, 2) := dk_16 100 (dk_at dksX5_family_6 7 rfl rfl)
theorem dX5_family_150 : decode cX5_family 150 = .ok (.bipush 100, 2) := dk_16 100 (dk_at dksX5_family_6 9 rfl rfl)
theorem dX5_family_152 : decode cX5_family 152 = .ok (.iastore, 1) := dk_79 (dk_at dksX5_family_6 11 rfl rfl)
theorem dX5_family_153 : decode cX5_family 153 = .ok (.aload_n 0, 1) := dk_42 (dk_at dksX5_family_6 12 rfl rfl)
theorem dX5_family_154 : decode cX5_family 154 = .ok (.getfield 33, 3) := dk_180 0 33 (dk_at dksX5_family_6 13 rfl rfl)
theorem dX5_family_157 : decode cX5_family 157 = .ok (.bipush 104, 2) := dk_16 104 (dk_at dksX5_family_6 16 rfl rfl)
theorem dX5_family_159 : decode cX5_family 159 = .ok (.aload_n 0, 1) := dk_42 (dk_at dksX5_family_6 18 rfl rfl)
theorem dX5_family_160 : decode cX5_family 160 = .ok (.getfield 33, 3) := dk_180 0 33 (dk_at dksX5_family_6 19 rfl rfl)
theorem dX5_family_163 : decode cX5_family 163 = .ok (.bipush 63, 2) := dk_16 63 (dk_at dksX5_family_6 22 rfl rfl)
theorem dX5_family_165 : decode cX5_family 165 = .ok (.iaload, 1) := dk_46 (dk_at dksX5_family_7 0 rfl rfl)
theorem dX5_family_166 : decode cX5_family 166 = .ok (.iastore, 1) := dk_79 (dk_at dksX5_family_7 1 rfl rfl)
theorem dX5_family_167 : decode cX5_family 167 = .ok (.iconst 0, 1) := dk_3 (dk_at dksX5_family_7 2 rfl rfl)
theorem dX5_family_168 : decode cX5_family 168 = .ok (.istore_n 1, 1) := dk_60 (dk_at dksX5_family_7 3 rfl rfl)
theorem dX5_family_169 : decode cX5_family 169 = .ok (.iload_n 1, 1) := dk_27 (dk_at dksX5_family_7 4 rfl rfl)
theorem dX5_family_170 : decode cX5_family 170 = .ok (.bipush 12, 2) := dk_16 12 (dk_at dksX5_family_7 5 rfl rfl)
theorem dX5_family_172 : decode cX5_family 172 = .ok (.if_icmp .ge 102, 3) := dk_162 0 102 (dk_at dksX5_family_7 7 rfl rfl)
theorem dX5_family_175 : decode cX5_family 175 = .ok (.aload_n 0, 1) := dk_42 (dk_at dksX5_family_7 10 rfl rfl)
theorem dX5_family_176 : decode cX5_family 176 = .ok (.getfield 33, 3) := dk_180 0 33 (dk_at dksX5_family_7 11 rfl rfl)
theorem dX5_family_179 : decode cX5_family 179 = .ok (.bipush 105, 2) := dk_16 105 (dk_at dksX5_family_7 14 rfl rfl)
theorem dX5_family_181 : decode cX5_family 181 = .ok (.iload_n 1, 1) := dk_27 (dk_at dksX5_family_7 16 rfl rfl)
theorem dX5_family_182 : decode cX5_family 182 = .ok (.iadd, 1) := dk_96 (dk_at dksX5_family_7 17 rfl rfl)
theorem dX5_family_183 : decode cX5_family 183 = .ok (.aload_n 0, 1) := dk_42 (dk_at dksX5_family_7 18 rfl rfl)
theorem dX5_family_184 : decode cX5_family 184 = .ok (.getfield 33, 3) := dk_180 0 33 (dk_at dksX5_family_7 19 rfl rfl)
theorem dX5_family_187 : decode cX5_family 187 = .ok (.bipush 15, 2) := dk_16 15 (dk_at dksX5_family_7 22 rfl rfl)
theorem dX5_family_189 : decode cX5_family 189 = .ok (.iload_n 1, 1) := dk_27 (dk_at dksX5_family_8 0 rfl rfl)
theorem dX5_family_190 : decode cX5_family 190 = .ok (.iadd, 1) := dk_96 (dk_at dksX5_family_8 1 rfl rfl)
theorem dX5_family_191 : decode cX5_family 191 = .ok (.iaload, 1) := dk_46 (dk_at dksX5_family_8 2 rfl rfl)
theorem dX5_family_192 : decode cX5_family 192 = .ok (.iastore, 1) := dk_79 (dk_at dksX5_family_8 3 rfl rfl)
theorem dX5_family_193 : decode cX5_family 193 = .ok (.aload_n 0, 1) := dk_42 (dk_at dksX5_family_8 4 rfl rfl)
theorem dX5_family_194 : decode cX5_family 194 = .ok (.getfield 33, 3) := dk_180 0 33 (dk_at dksX5_family_8 5 rfl rfl)
theorem dX5_family_197 : decode cX5_family 197 = .ok (.bipush 117, 2) := dk_16 117 (dk_at dksX5_family_8 8 rfl rfl)
theorem dX5_family_199 : decode cX5_family 199 = .ok (.iload_n 1, 1) := dk_27 (dk_at dksX5_family_8 10 rfl rfl)
theorem dX5_family_200 : decode cX5_family 200 = .ok (.iadd, 1) := dk_96 (dk_at dksX5_family_8 11 rfl rfl)
theorem dX5_family_201 : decode cX5_family 201 = .ok (.aload_n 0, 1) := dk_42 (dk_at dksX5_family_8 12 rfl rfl)
theorem dX5_family_202 : decode cX5_family 202 = .ok (.getfield 33, 3) := dk_180 0 33 (dk_at dksX5_family_8 13 rfl rfl)
theorem dX5_family_205 : decode cX5_family 205 = .ok (.bipush 39, 2) := dk_16 39 (dk_at dksX5_family_8 16 rfl rfl)
theorem dX5_family_207 : decode cX5_family 207 = .ok (.iload_n 1, 1) := dk_27 (dk_at dksX5_family_8 18 rfl rfl)
theorem dX5_family_208 : decode cX5_family 208 = .ok (.iadd, 1) := dk_96 (dk_at dksX5_family_8 19 rfl rfl)
theorem dX5_family_209 : decode cX5_family 209 = .ok (.iaload, 1) := dk_46 (dk_at dksX5_family_8 20 rfl rfl)
theorem dX5_family_210 : decode cX5_family 210 = .ok (.iastore, 1) := dk_79 (dk_at dksX5_family_8 21 rfl rfl)
theorem dX5_family_211 : decode cX5_family 211 = .ok (.aload_n 0, 1) := dk_42 (dk_at dksX5_family_8 22 rfl rfl)
theorem dX5_family_212 : decode cX5_family 212 = .ok (.getfield 33, 3) := dk_180 0 33 (dk_at dksX5_family_9 0 rfl rfl)
theorem dX5_family_215 : decode cX5_family 215 = .ok (.sipush 129, 3) := dk_17 0 129 (dk_at dksX5_family_9 3 rfl rfl)
theorem dX5_family_218 : decode cX5_family 218 = .ok (.iload_n 1, 1) := dk_27 (dk_at dksX5_family_9 6 rfl rfl)
theorem dX5_family_219 : decode cX5_family 219 = .ok (.iadd, 1) := dk_96 (dk_at dksX5_family_9 7 rfl rfl)
theorem dX5_family_220 : decode cX5_family 220 = .ok (.aload_n 0, 1) := dk_42 (dk_at dksX5_family_9 8 rfl rfl)
theorem dX5_family_221 : decode cX5_family 221 = .ok (.getfield 33, 3) := dk_180 0 33 (dk_at dksX5_family_9 9 rfl rfl)
theorem dX5_family_224 : decode cX5_family 224 = .ok (.bipush 64, 2) := dk_16 64 (dk_at dksX5_family_9 12 rfl rfl)
theorem dX5_family_226 : decode cX5_family 226 = .ok (.iload_n 1, 1) := dk_27 (dk_at dksX5_family_9 14 rfl rfl)
theorem dX5_family_227 : decode cX5_family 227 = .ok (.iadd, 1) := dk_96 (dk_at dksX5_family_9 15 rfl rfl)
theorem dX5_family_228 : decode cX5_family 228 = .ok (.iaload, 1) := dk_46 (dk_at dksX5_family_9 16 rfl rfl)
theorem dX5_family_229 : decode cX5_family 229 = .ok (.iastore, 1) := dk_79 (dk_at dksX5_family_9 17 rfl rfl)
theorem dX5_family_230 : decode cX5_family 230 = .ok (.aload_n 0, 1) := dk_42 (dk_at dksX5_family_9 18 rfl rfl)
theorem dX5_family_231 : decode cX5_family 231 = .ok (.getfield 33, 3) := dk_180 0 33 (dk_at dksX5_family_9 19 rfl rfl)
theorem dX5_family_234 : decode cX5_family 234 = .ok (.sipush 141, 3) := dk_17 0 141 (dk_at dksX5_family_10 0 rfl rfl)
theorem dX5_family_237 : decode cX5_family 237 = .ok (.iload_n 1, 1) := dk_27 (dk_at dksX5_family_10 3 rfl rfl)
theorem dX5_family_238 : decode cX5_family 238 = .ok (.iadd, 1) := dk_96 (dk_at dksX5_family_10 4 rfl rfl)
theorem dX5_family_239 : decode cX5_family 239 = .ok (.aload_n 0, 1) := dk_42 (dk_at dksX5_family_10 5 rfl rfl)
theorem dX5_family_240 : decode cX5_family 240 = .ok (.getfield 33, 3) := dk_180 0 33 (dk_at dksX5_family_10 6 rfl rfl)
theorem dX5_family_243 : decode cX5_family 243 = .ok (.bipush 76, 2) := dk_16 76 (dk_at dksX5_family_10 9 rfl rfl)
theorem dX5_family_245 : decode cX5_family 245 = .ok (.iload_n 1, 1) := dk_27 (dk_at dksX5_family_10 11 rfl rfl)
theorem dX5_family_246 : decode cX5_family 246 = .ok (.iadd, 1) := dk_96 (dk_at dksX5_family_10 12 rfl rfl)
theorem dX5_family_247 : decode cX5_family 247 = .ok (.iaload, 1) := dk_46 (dk_at dksX5_family_10 13 rfl rfl)
theorem dX5_family_248 : decode cX5_family 248 = .ok (.iastore, 1) := dk_79 (dk_at dksX5_family_10 14 rfl rfl)
theorem dX5_family_249 : decode cX5_family 249 = .ok (.aload_n 0, 1) := dk_42 (dk_at dksX5_family_10 15 rfl rfl)
theorem dX5_family_250 : decode cX5_family 250 = .ok (.getfield 33, 3) := dk_180 0 33 (dk_at dksX5_family_10 16 rfl rfl)
theorem dX5_family_253 : decode cX5_family 253 = .ok (.sipush 153, 3) := dk_17 0 153 (dk_at dksX5_family_10 19 rfl rfl)
theorem dX5_family_256 : decode cX5_family 256 = .ok (.iload_n 1, 1) := dk_27 (dk_at dksX5_family_10 22 rfl rfl)
theorem dX5_family_257 : decode cX5_family 257 = .ok (.iadd, 1) := dk_96 (dk_at dksX5_family_10 23 rfl rfl)
theorem dX5_family_258 : decode cX5_family 258 = .ok (.aload_n 0, 1) := dk_42 (dk_at dksX5_family_11 0 rfl rfl)
theorem dX5_family_259 : decode cX5_family 259 = .ok (.getfield 33, 3) := dk_180 0 33 (dk_at dksX5_family_11 1 rfl rfl)
theorem dX5_family_262 : decode cX5_family 262 = .ok (.bipush 88, 2) := dk_16 88 (dk_at dksX5_family_11 4 rfl rfl)
theorem dX5_family_264 : decode cX5_family 264 = .ok (.iload_n 1, 1) := dk_27 (dk_at dksX5_family_11 6 rfl rfl)
theorem dX5_family_265 : decode cX5_family 265 = .ok (.iadd, 1) := dk_96 (dk_at dksX5_family_11 7 rfl rfl)
theorem dX5_family_266 : decode cX5_family 266 = .ok (.iaload, 1) := dk_46 (dk_at dksX5_family_11 8 rfl rfl)
theorem dX5_family_267 : decode cX5_family 267 = .ok (.iastore, 1) := dk_79 (dk_at dksX5_family_11 9 rfl rfl)
theorem dX5_family_268 : decode cX5_family 268 = .ok (.iinc 1 1, 3) := dk_132 1 1 (dk_at dksX5_family_11 10 rfl rfl)
theorem dX5_family_271 : decode cX5_family 271 = .ok (.goto (-102), 3) := dk_167 255 154 (dk_at dksX5_family_11 13 rfl rfl)
theorem dX5_family_274 : decode cX5_family 274 = .ok (.aload_n 0, 1) := dk_42 (dk_at dksX5_family_11 16 rfl rfl)
theorem dX5_family_275 : decode cX5_family 275 = .ok (.iconst 0, 1) := dk_3 (dk_at dksX5_family_11 17 rfl rfl)
theorem dX5_family_276 : decode cX5_family 276 = .ok (.putfield 263, 3) := dk_181 1 7 (dk_at dksX5_family_11 18 rfl rfl)
theorem dX5_family_279 : decode cX5_family 279 = .ok (.aload_n 0, 1) := dk_42 (dk_at dksX5_family_11 21 rfl rfl)
theorem dX5_family_280 : decode cX5_family 280 = .ok (.getfield 254, 3) := dk_180 0 254 (dk_at dksX5_family_12 0 rfl rfl)
theorem dX5_family_283 : decode cX5_family 283 = .ok (.ireturn, 1) := dk_172 (dk_at dksX5_family_12 3 rfl rfl)
abbrev cX5_taken : ByteArray := prog_29_method_6_code
def yX5_taken : MethodName := ⟨RX5, "taken", "(I)V"⟩
def dkwX5_taken_0 : List UInt8 := [42, 42, 180, 0, 7, 181, 0, 18, 42, 3, 181, 0, 7, 42, 3, 181, 0, 21, 42, 27, 181, 0, 24, 177]
abbrev dktX5_taken_0 : List UInt8 := dkwX5_taken_0 ++ []
theorem dksX5_taken_0 : cX5_taken.data.toList.drop 0 = dktX5_taken_0 := by decide +kernel
theorem dX5_taken_0 : decode cX5_taken 0 = .ok (.aload_n 0, 1) := dk_42 (dk_at dksX5_taken_0 0 rfl rfl)
theorem dX5_taken_1 : decode cX5_taken 1 = .ok (.aload_n 0, 1) := dk_42 (dk_at dksX5_taken_0 1 rfl rfl)
theorem dX5_taken_2 : decode cX5_taken 2 = .ok (.getfield 7, 3) := dk_180 0 7 (dk_at dksX5_taken_0 2 rfl rfl)
theorem dX5_taken_5 : decode cX5_taken 5 = .ok (.putfield 18, 3) := dk_181 0 18 (dk_at dksX5_taken_0 5 rfl rfl)
theorem dX5_taken_8 : decode cX5_taken 8 = .ok (.aload_n 0, 1) := dk_42 (dk_at dksX5_taken_0 8 rfl rfl)
theorem dX5_taken_9 : decode cX5_taken 9 = .ok (.iconst 0, 1) := dk_3 (dk_at dksX5_taken_0 9 rfl rfl)
theorem dX5_taken_10 : decode cX5_taken 10 = .ok (.putfield 7, 3) := dk_181 0 7 (dk_at dksX5_taken_0 10 rfl rfl)
theorem dX5_taken_13 : decode cX5_taken 13 = .ok (.aload_n 0, 1) := dk_42 (dk_at dksX5_taken_0 13 rfl rfl)
theorem dX5_taken_14 : decode cX5_taken 14 = .ok (.iconst 0, 1) := dk_3 (dk_at dksX5_taken_0 14 rfl rfl)
theorem dX5_taken_15 : decode cX5_taken 15 = .ok (.putfield 21, 3) := dk_181 0 21 (dk_at dksX5_taken_0 15 rfl rfl)
theorem dX5_taken_18 : decode cX5_taken 18 = .ok (.aload_n 0, 1) := dk_42 (dk_at dksX5_taken_0 18 rfl rfl)
theorem dX5_taken_19 : decode cX5_taken 19 = .ok (.iload_n 1, 1) := dk_27 (dk_at dksX5_taken_0 19 rfl rfl)
theorem dX5_taken_20 : decode cX5_taken 20 = .ok (.putfield 24, 3) := dk_181 0 24 (dk_at dksX5_taken_0 20 rfl rfl)
theorem dX5_taken_23 : decode cX5_taken 23 = .ok (.return_, 1) := dk_177 (dk_at dksX5_taken_0 23 rfl rfl)
abbrev cX5_next : ByteArray := prog_29_method_18_code
def yX5_next : MethodName := ⟨RX5, "next", "()V"⟩
def dkwX5_next_14 : List UInt8 := [4, 167, 0, 4, 5, 181, 0, 158, 177]
abbrev dktX5_next_14 : List UInt8 := dkwX5_next_14 ++ []
def dkwX5_next_13 : List UInt8 := [180, 0, 155, 28, 153, 0, 8, 16, 7, 167, 0, 4, 6, 164, 0, 7, 7, 167, 0, 12, 28, 153, 0, 7]
abbrev dktX5_next_13 : List UInt8 := dkwX5_next_13 ++ dktX5_next_14
def dkwX5_next_12 : List UInt8 := [181, 0, 155, 42, 89, 180, 0, 21, 4, 96, 181, 0, 21, 167, 255, 142, 42, 29, 153, 0, 20, 42]
abbrev dktX5_next_12 : List UInt8 := dkwX5_next_12 ++ dktX5_next_13
def dkwX5_next_11 : List UInt8 := [180, 0, 168, 104, 42, 182, 0, 148, 96, 16, 48, 100, 181, 0, 168, 42, 89, 180, 0, 155, 4, 96]
abbrev dktX5_next_11 : List UInt8 := dkwX5_next_11 ++ dktX5_next_12
def dkwX5_next_10 : List UInt8 := [16, 8, 121, 42, 182, 0, 148, 133, 129, 181, 0, 171, 42, 180, 0, 155, 6, 162, 0, 22, 42, 16, 10, 42]
abbrev dktX5_next_10 : List UInt8 := dkwX5_next_10 ++ dktX5_next_11
def dkwX5_next_9 : List UInt8 := [28, 160, 0, 7, 4, 167, 0, 4, 3, 62, 42, 180, 0, 155, 16, 7, 162, 0, 20, 42, 42, 180, 0, 171]
abbrev dktX5_next_9 : List UInt8 := dkwX5_next_9 ++ dktX5_next_10
def dkwX5_next_8 : List UInt8 := [154, 0, 13, 42, 182, 0, 148, 184, 0, 165, 153, 0, 100, 29, 153, 0, 18, 42, 182, 0, 148, 184, 0, 161]
abbrev dktX5_next_8 : List UInt8 := dkwX5_next_8 ++ dktX5_next_9
def dkwX5_next_7 : List UInt8 := [184, 0, 161, 61, 4, 62, 42, 9, 181, 0, 171, 42, 3, 181, 0, 168, 42, 182, 0, 148, 184, 0, 161]
abbrev dktX5_next_7 : List UInt8 := dkwX5_next_7 ++ dktX5_next_8
def dkwX5_next_6 : List UInt8 := [167, 0, 4, 7, 181, 0, 158, 42, 27, 181, 0, 168, 42, 89, 180, 0, 21, 4, 96, 181, 0, 21, 177, 27]
abbrev dktX5_next_6 : List UInt8 := dkwX5_next_6 ++ dktX5_next_7
def dkwX5_next_5 : List UInt8 := [159, 0, 21, 27, 16, 41, 159, 0, 15, 27, 16, 60, 161, 0, 13, 27, 16, 62, 163, 0, 7, 6]
abbrev dktX5_next_5 : List UInt8 := dkwX5_next_5 ++ dktX5_next_6
def dkwX5_next_4 : List UInt8 := [27, 184, 0, 161, 154, 0, 65, 27, 184, 0, 165, 154, 0, 58, 42, 27, 16, 59, 159, 0, 27, 27, 16, 40]
abbrev dktX5_next_4 : List UInt8 := dkwX5_next_4 ++ dktX5_next_5
def dkwX5_next_3 : List UInt8 := [181, 0, 152, 42, 7, 181, 0, 158, 177, 42, 182, 0, 148, 60, 27, 156, 0, 9, 42, 3, 181, 0, 158, 177]
abbrev dktX5_next_3 : List UInt8 := dkwX5_next_3 ++ dktX5_next_4
def dkwX5_next_2 : List UInt8 := [42, 180, 0, 24, 164, 0, 28, 42, 180, 0, 21, 42, 180, 0, 24, 161, 0, 17, 42, 42, 180, 0, 24]
abbrev dktX5_next_2 : List UInt8 := dkwX5_next_2 ++ dktX5_next_3
def dkwX5_next_1 : List UInt8 := [96, 181, 0, 21, 167, 255, 228, 42, 42, 180, 0, 21, 181, 0, 152, 42, 3, 181, 0, 155, 42, 180, 0, 18]
abbrev dktX5_next_1 : List UInt8 := dkwX5_next_1 ++ dktX5_next_2
def dkwX5_next_0 : List UInt8 := [42, 182, 0, 148, 16, 32, 159, 0, 12, 42, 182, 0, 148, 16, 10, 160, 0, 16, 42, 89, 180, 0, 21, 4]
abbrev dktX5_next_0 : List UInt8 := dkwX5_next_0 ++ dktX5_next_1
theorem dksX5_next_0 : cX5_next.data.toList.drop 0 = dktX5_next_0 := by decide +kernel
theorem dksX5_next_1 : cX5_next.data.toList.drop 24 = dktX5_next_1 := dk_seg dksX5_next_0 24 rfl rfl
theorem dksX5_next_2 : cX5_next.data.toList.drop 48 = dktX5_next_2 := dk_seg dksX5_next_1 24 rfl rfl
theorem dksX5_next_3 : cX5_next.data.toList.drop 71 = dktX5_next_3 := dk_seg dksX5_next_2 23 rfl rfl
theorem dksX5_next_4 : cX5_next.data.toList.drop 95 = dktX5_next_4 := dk_seg dksX5_next_3 24 rfl rfl
theorem dksX5_next_5 : cX5_next.data.toList.drop 119 = dktX5_next_5 := dk_seg dksX5_next_4 24 rfl rfl
theorem dksX5_next_6 : cX5_next.data.toList.drop 141 = dktX5_next_6 := dk_seg dksX5_next_5 22 rfl rfl
theorem dksX5_next_7 : cX5_next.data.toList.drop 165 = dktX5_next_7 := dk_seg dksX5_next_6 24 rfl rfl
theorem dksX5_next_8 : cX5_next.data.toList.drop 188 = dktX5_next_8 := dk_seg dksX5_next_7 23 rfl rfl
theorem dksX5_next_9 : cX5_next.data.toList.drop 212 = dktX5_next_9 := dk_seg dksX5_next_8 24 rfl rfl
theorem dksX5_next_10 : cX5_next.data.toList.drop 236 = dktX5_next_10 := dk_seg dksX5_next_9 24 rfl rfl
theorem dksX5_next_11 : cX5_next.data.toList.drop 260 = dktX5_next_11 := dk_seg dksX5_next_10 24 rfl rfl
theorem dksX5_next_12 : cX5_next.data.toList.drop 282 = dktX5_next_12 := dk_seg dksX5_next_11 22 rfl rfl
theorem dksX5_next_13 : cX5_next.data.toList.drop 304 = dktX5_next_13 := dk_seg dksX5_next_12 22 rfl rfl
theorem dksX5_next_14 : cX5_next.data.toList.drop 328 = dktX5_next_14 := dk_seg dksX5_next_13 24 rfl rfl
theorem dX5_next_0 : decode cX5_next 0 = .ok (.aload_n 0, 1) := dk_42 (dk_at dksX5_next_0 0 rfl rfl)
theorem dX5_next_1 : decode cX5_next 1 = .ok (.invokevirtual 148, 3) := dk_182 0 148 (dk_at dksX5_next_0 1 rfl rfl)
theorem dX5_next_4 : decode cX5_next 4 = .ok (.bipush 32, 2) := dk_16 32 (dk_at dksX5_next_0 4 rfl rfl)
theorem dX5_next_6 : decode cX5_next 6 = .ok (.if_icmp .eq 12, 3) := dk_159 0 12 (dk_at dksX5_next_0 6 rfl rfl)
theorem dX5_next_9 : decode cX5_next 9 = .ok (.aload_n 0, 1) := dk_42 (dk_at dksX5_next_0 9 rfl rfl)
theorem dX5_next_10 : decode cX5_next 10 = .ok (.invokevirtual 148, 3) := dk_182 0 148 (dk_at dksX5_next_0 10 rfl rfl)
theorem dX5_next_13 : decode cX5_next 13 = .ok (.bipush 10, 2) := dk_16 10 (dk_at dksX5_next_0 13 rfl rfl)
theorem dX5_next_15 : decode cX5_next 15 = .ok (.if_icmp .ne 16, 3) := dk_160 0 16 (dk_at dksX5_next_0 15 rfl rfl)
theorem dX5_next_18 : decode cX5_next 18 = .ok (.aload_n 0, 1) := dk_42 (dk_at dksX5_next_0 18 rfl rfl)
theorem dX5_next_19 : decode cX5_next 19 = .ok (.dup, 1) := dk_89 (dk_at dksX5_next_0 19 rfl rfl)
theorem dX5_next_20 : decode cX5_next 20 = .ok (.getfield 21, 3) := dk_180 0 21 (dk_at dksX5_next_0 20 rfl rfl)
theorem dX5_next_23 : decode cX5_next 23 = .ok (.iconst 1, 1) := dk_4 (dk_at dksX5_next_0 23 rfl rfl)
theorem dX5_next_24 : decode cX5_next 24 = .ok (.iadd, 1) := dk_96 (dk_at dksX5_next_1 0 rfl rfl)
theorem dX5_next_25 : decode cX5_next 25 = .ok (.putfield 21, 3) := dk_181 0 21 (dk_at dksX5_next_1 1 rfl rfl)
theorem dX5_next_28 : decode cX5_next 28 = .ok (.goto (-28), 3) := dk_167 255 228 (dk_at dksX5_next_1 4 rfl rfl)
theorem dX5_next_31 : decode cX5_next 31 = .ok (.aload_n 0, 1) := dk_42 (dk_at dksX5_next_1 7 rfl rfl)
theorem dX5_next_32 : decode cX5_next 32 = .ok (.aload_n 0, 1) := dk_42 (dk_at dksX5_next_1 8 rfl rfl)
theorem dX5_next_33 : decode cX5_next 33 = .ok (.getfield 21, 3) := dk_180 0 21 (dk_at dksX5_next_1 9 rfl rfl)
theorem dX5_next_36 : decode cX5_next 36 = .ok (.putfield 152, 3) := dk_181 0 152 (dk_at dksX5_next_1 12 rfl rfl)
theorem dX5_next_39 : decode cX5_next 39 = .ok (.aload_n 0, 1) := dk_42 (dk_at dksX5_next_1 15 rfl rfl)
theorem dX5_next_40 : decode cX5_next 40 = .ok (.iconst 0, 1) := dk_3 (dk_at dksX5_next_1 16 rfl rfl)
theorem dX5_next_41 : decode cX5_next 41 = .ok (.putfield 155, 3) := dk_181 0 155 (dk_at dksX5_next_1 17 rfl rfl)
theorem dX5_next_44 : decode cX5_next 44 = .ok (.aload_n 0, 1) := dk_42 (dk_at dksX5_next_1 20 rfl rfl)
theorem dX5_next_45 : decode cX5_next 45 = .ok (.getfield 18, 3) := dk_180 0 18 (dk_at dksX5_next_1 21 rfl rfl)
theorem dX5_next_48 : decode cX5_next 48 = .ok (.aload_n 0, 1) := dk_42 (dk_at dksX5_next_2 0 rfl rfl)
theorem dX5_next_49 : decode cX5_next 49 = .ok (.getfield 24, 3) := dk_180 0 24 (dk_at dksX5_next_2 1 rfl rfl)
theorem dX5_next_52 : decode cX5_next 52 = .ok (.if_icmp .le 28, 3) := dk_164 0 28 (dk_at dksX5_next_2 4 rfl rfl)
theorem dX5_next_55 : decode cX5_next 55 = .ok (.aload_n 0, 1) := dk_42 (dk_at dksX5_next_2 7 rfl rfl)
theorem dX5_next_56 : decode cX5_next 56 = .ok (.getfield 21, 3) := dk_180 0 21 (dk_at dksX5_next_2 8 rfl rfl)
theorem dX5_next_59 : decode cX5_next 59 = .ok (.aload_n 0, 1) := dk_42 (dk_at dksX5_next_2 11 rfl rfl)
theorem dX5_next_60 : decode cX5_next 60 = .ok (.getfield 24, 3) := dk_180 0 24 (dk_at dksX5_next_2 12 rfl rfl)
theorem dX5_next_63 : decode cX5_next 63 = .ok (.if_icmp .lt 17, 3) := dk_161 0 17 (dk_at dksX5_next_2 15 rfl rfl)
theorem dX5_next_66 : decode cX5_next 66 = .ok (.aload_n 0, 1) := dk_42 (dk_at dksX5_next_2 18 rfl rfl)
theorem dX5_next_67 : decode cX5_next 67 = .ok (.aload_n 0, 1) := dk_42 (dk_at dksX5_next_2 19 rfl rfl)
theorem dX5_next_68 : decode cX5_next 68 = .ok (.getfield 24, 3) := dk_180 0 24 (dk_at dksX5_next_2 20 rfl rfl)
theorem dX5_next_71 : decode cX5_next 71 = .ok (.putfield 152, 3) := dk_181 0 152 (dk_at dksX5_next_3 0 rfl rfl)
theorem dX5_next_74 : decode cX5_next 74 = .ok (.aload_n 0, 1) := dk_42 (dk_at dksX5_next_3 3 rfl rfl)
theorem dX5_next_75 : decode cX5_next 75 = .ok (.iconst 4, 1) := dk_7 (dk_at dksX5_next_3 4 rfl rfl)
theorem dX5_next_76 : decode cX5_next 76 = .ok (.putfield 158, 3) := dk_181 0 158 (dk_at dksX5_next_3 5 rfl rfl)
theorem dX5_next_79 : decode cX5_next 79 = .ok (.return_, 1) := dk_177 (dk_at dksX5_next_3 8 rfl rfl)
theorem dX5_next_80 : decode cX5_next 80 = .ok (.aload_n 0, 1) := dk_42 (dk_at dksX5_next_3 9 rfl rfl)
theorem dX5_next_81 : decode cX5_next 81 = .ok (.invokevirtual 148, 3) := dk_182 0 148 (dk_at dksX5_next_3 10 rfl rfl)
theorem dX5_next_84 : decode cX5_next 84 = .ok (.istore_n 1, 1) := dk_60 (dk_at dksX5_next_3 13 rfl rfl)
theorem dX5_next_85 : decode cX5_next 85 = .ok (.iload_n 1, 1) := dk_27 (dk_at dksX5_next_3 14 rfl rfl)
theorem dX5_next_86 : decode cX5_next 86 = .ok (.ifCond .ge 9, 3) := dk_156 0 9 (dk_at dksX5_next_3 15 rfl rfl)
theorem dX5_next_89 : decode cX5_next 89 = .ok (.aload_n 0, 1) := dk_42 (dk_at dksX5_next_3 18 rfl rfl)
theorem dX5_next_90 : decode cX5_next 90 = .ok (.iconst 0, 1) := dk_3 (dk_at dksX5_next_3 19 rfl rfl)
theorem dX5_next_91 : decode cX5_next 91 = .ok (.putfield 158, 3) := dk_181 0 158 (dk_at dksX5_next_3 20 rfl rfl)
theorem dX5_next_94 : decode cX5_next 94 = .ok (.return_, 1) := dk_177 (dk_at dksX5_next_3 23 rfl rfl)
theorem dX5_next_95 : decode cX5_next 95 = .ok (.iload_n 1, 1) := dk_27 (dk_at dksX5_next_4 0 rfl rfl)
theorem dX5_next_96 : decode cX5_next 96 = .ok (.invokestatic 161, 3) := dk_184 0 161 (dk_at dksX5_next_4 1 rfl rfl)
theorem dX5_next_99 : decode cX5_next 99 = .ok (.ifCond .ne 65, 3) := dk_154 0 65 (dk_at dksX5_next_4 4 rfl rfl)
theorem dX5_next_102 : decode cX5_next 102 = .ok (.iload_n 1, 1) := dk_27 (dk_at dksX5_next_4 7 rfl rfl)
theorem dX5_next_103 : decode cX5_next 103 = .ok (.invokestatic 165, 3) := dk_184 0 165 (dk_at dksX5_next_4 8 rfl rfl)
theorem dX5_next_106 : decode cX5_next 106 = .ok (.ifCond .ne 58, 3) := dk_154 0 58 (dk_at dksX5_next_4 11 rfl rfl)
theorem dX5_next_109 : decode cX5_next 109 = .ok (.aload_n 0, 1) := dk_42 (dk_at dksX5_next_4 14 rfl rfl)
theorem dX5_next_110 : decode cX5_next 110 = .ok (.iload_n 1, 1) := dk_27 (dk_at dksX5_next_4 15 rfl rfl)
theorem dX5_next_111 : decode cX5_next 111 = .ok (.bipush 59, 2) := dk_16 59 (dk_at dksX5_next_4 16 rfl rfl)
theorem dX5_next_113 : decode cX5_next 113 = .ok (.if_icmp .eq 27, 3) := dk_159 0 27 (dk_at dksX5_next_4 18 rfl rfl)
theorem dX5_next_116 : decode cX5_next 116 = .ok (.iload_n 1, 1) := dk_27 (dk_at dksX5_next_4 21 rfl rfl)
theorem dX5_next_117 : decode cX5_next 117 = .ok (.bipush 40, 2) := dk_16 40 (dk_at dksX5_next_4 22 rfl rfl)
theorem dX5_next_119 : decode cX5_next 119 = .ok (.if_icmp .eq 21, 3) := dk_159 0 21 (dk_at dksX5_next_5 0 rfl rfl)
theorem dX5_next_122 : decode cX5_next 122 = .ok (.iload_n 1, 1) := dk_27 (dk_at dksX5_next_5 3 rfl rfl)
theorem dX5_next_123 : decode cX5_next 123 = .ok (.bipush 41, 2) := dk_16 41 (dk_at dksX5_next_5 4 rfl rfl)
theorem dX5_next_125 : decode cX5_next 125 = .ok (.if_icmp .eq 15, 3) := dk_159 0 15 (dk_at dksX5_next_5 6 rfl rfl)
theorem dX5_next_128 : decode cX5_next 128 = .ok (.iload_n 1, 1) := dk_27 (dk_at dksX5_next_5 9 rfl rfl)
theorem dX5_next_129 : decode cX5_next 129 = .ok (.bipush 60, 2) := dk_16 60 (dk_at dksX5_next_5 10 rfl rfl)
theorem dX5_next_131 : decode cX5_next 131 = .ok (.if_icmp .lt 13, 3) := dk_161 0 13 (dk_at dksX5_next_5 12 rfl rfl)
theorem dX5_next_134 : decode cX5_next 134 = .ok (.iload_n 1, 1) := dk_27 (dk_at dksX5_next_5 15 rfl rfl)
theorem dX5_next_135 : decode cX5_next 135 = .ok (.bipush 62, 2) := dk_16 62 (dk_at dksX5_next_5 16 rfl rfl)
theorem dX5_next_137 : decode cX5_next 137 = .ok (.if_icmp .gt 7, 3) := dk_163 0 7 (dk_at dksX5_next_5 18 rfl rfl)
theorem dX5_next_140 : decode cX5_next 140 = .ok (.iconst 3, 1) := dk_6 (dk_at dksX5_next_5 21 rfl rfl)
theorem dX5_next_141 : decode cX5_next 141 = .ok (.goto 4, 3) := dk_167 0 4 (dk_at dksX5_next_6 0 rfl rfl)
theorem dX5_next_144 : decode cX5_next 144 = .ok (.iconst 4, 1) := dk_7 (dk_at dksX5_next_6 3 rfl rfl)
theorem dX5_next_145 : decode cX5_next 145 = .ok (.putfield 158, 3) := dk_181 0 158 (dk_at dksX5_next_6 4 rfl rfl)
theorem dX5_next_148 : decode cX5_next 148 = .ok (.aload_n 0, 1) := dk_42 (dk_at dksX5_next_6 7 rfl rfl)
theorem dX5_next_149 : decode cX5_next 149 = .ok (.iload_n 1, 1) := dk_27 (dk_at dksX5_next_6 8 rfl rfl)
theorem dX5_next_150 : decode cX5_next 150 = .ok (.putfield 168, 3) := dk_181 0 168 (dk_at dksX5_next_6 9 rfl rfl)
theorem dX5_next_153 : decode cX5_next 153 = .ok (.aload_n 0, 1) := dk_42 (dk_at dksX5_next_6 12 rfl rfl)
theorem dX5_next_154 : decode cX5_next 154 = .ok (.dup, 1) := dk_89 (dk_at dksX5_next_6 13 rfl rfl)
theorem dX5_next_155 : decode cX5_next 155 = .ok (.getfield 21, 3) := dk_180 0 21 (dk_at dksX5_next_6 14 rfl rfl)
theorem dX5_next_158 : decode cX5_next 158 = .ok (.iconst 1, 1) := dk_4 (dk_at dksX5_next_6 17 rfl rfl)
theorem dX5_next_159 : decode cX5_next 159 = .ok (.iadd, 1) := dk_96 (dk_at dksX5_next_6 18 rfl rfl)
theorem dX5_next_160 : decode cX5_next 160 = .ok (.putfield 21, 3) := dk_181 0 21 (dk_at dksX5_next_6 19 rfl rfl)
theorem dX5_next_163 : decode cX5_next 163 = .ok (.return_, 1) := dk_177 (dk_at dksX5_next_6 22 rfl rfl)
theorem dX5_next_164 : decode cX5_next 164 = .ok (.iload_n 1, 1) := dk_27 (dk_at dksX5_next_6 23 rfl rfl)
theorem dX5_next_165 : decode cX5_next 165 = .ok (.invokestatic 161, 3) := dk_184 0 161 (dk_at dksX5_next_7 0 rfl rfl)
theorem dX5_next_168 : decode cX5_next 168 = .ok (.istore_n 2, 1) := dk_61 (dk_at dksX5_next_7 3 rfl rfl)
theorem dX5_next_169 : decode cX5_next 169 = .ok (.iconst 1, 1) := dk_4 (dk_at dksX5_next_7 4 rfl rfl)
theorem dX5_next_170 : decode cX5_next 170 = .ok (.istore_n 3, 1) := dk_62 (dk_at dksX5_next_7 5 rfl rfl)
theorem dX5_next_171 : decode cX5_next 171 = .ok (.aload_n 0, 1) := dk_42 (dk_at dksX5_next_7 6 rfl rfl)
theorem dX5_next_172 : decode cX5_next 172 = .ok (.lconst 0, 1) := dk_9 (dk_at dksX5_next_7 7 rfl rfl)
theorem dX5_next_173 : decode cX5_next 173 = .ok (.putfield 171, 3) := dk_181 0 171 (dk_at dksX5_next_7 8 rfl rfl)
theorem dX5_next_176 : decode cX5_next 176 = .ok (.aload_n 0, 1) := dk_42 (dk_at dksX5_next_7 11 rfl rfl)
theorem dX5_next_177 : decode cX5_next 177 = .ok (.iconst 0, 1) := dk_3 (dk_at dksX5_next_7 12 rfl rfl)
theorem dX5_next_178 : decode cX5_next 178 = .ok (.putfield 168, 3) := dk_181 0 168 (dk_at dksX5_next_7 13 rfl rfl)
theorem dX5_next_181 : decode cX5_next 181 = .ok (.aload_n 0, 1) := dk_42 (dk_at dksX5_next_7 16 rfl rfl)
theorem dX5_next_182 : decode cX5_next 182 = .ok (.invokevirtual 148, 3) := dk_182 0 148 (dk_at dksX5_next_7 17 rfl rfl)
theorem dX5_next_185 : decode cX5_next 185 = .ok (.invokestatic 161, 3) := dk_184 0 161 (dk_at dksX5_next_7 20 rfl rfl)
theorem dX5_next_188 : decode cX5_next 188 = .ok (.ifCond .ne 13, 3) := dk_154 0 13 (dk_at dksX5_next_8 0 rfl rfl)
theorem dX5_next_191 : decode cX5_next 191 = .ok (.aload_n 0, 1) := dk_42 (dk_at dksX5_next_8 3 rfl rfl)
theorem dX5_next_192 : decode cX5_next 192 = .ok (.invokevirtual 148, 3) := dk_182 0 148 (dk_at dksX5_next_8 4 rfl rfl)
theorem dX5_next_195 : decode cX5_next 195 = .ok (.invokestatic 165, 3) := dk_184 0 165 (dk_at dksX5_next_8 7 rfl rfl)
theorem dX5_next_198 : decode cX5_next 198 = .ok (.ifCond .eq 100, 3) := dk_153 0 100 (dk_at dksX5_next_8 10 rfl rfl)
theorem dX5_next_201 : decode cX5_next 201 = .ok (.iload_n 3, 1) := dk_29 (dk_at dksX5_next_8 13 rfl rfl)
theorem dX5_next_202 : decode cX5_next 202 = .ok (.ifCond .eq 18, 3) := dk_153 0 18 (dk_at dksX5_next_8 14 rfl rfl)
theorem dX5_next_205 : decode cX5_next 205 = .ok (.aload_n 0, 1) := dk_42 (dk_at dksX5_next_8 17 rfl rfl)
theorem dX5_next_206 : decode cX5_next 206 = .ok (.invokevirtual 148, 3) := dk_182 0 148 (dk_at dksX5_next_8 18 rfl rfl)
theorem dX5_next_209 : decode cX5_next 209 = .ok (.invokestatic 161, 3) := dk_184 0 161 (dk_at dksX5_next_8 21 rfl rfl)
theorem dX5_next_212 : decode cX5_next 212 = .ok (.iload_n 2, 1) := dk_28 (dk_at dksX5_next_9 0 rfl rfl)
theorem dX5_next_213 : decode cX5_next 213 = .ok (.if_icmp .ne 7, 3) := dk_160 0 7 (dk_at dksX5_next_9 1 rfl rfl)
theorem dX5_next_216 : decode cX5_next 216 = .ok (.iconst 1, 1) := dk_4 (dk_at dksX5_next_9 4 rfl rfl)
theorem dX5_next_217 : decode cX5_next 217 = .ok (.goto 4, 3) := dk_167 0 4 (dk_at dksX5_next_9 5 rfl rfl)
theorem dX5_next_220 : decode cX5_next 220 = .ok (.iconst 0, 1) := dk_3 (dk_at dksX5_next_9 8 rfl rfl)
theorem dX5_next_221 : decode cX5_next 221 = .ok (.istore_n 3, 1) := dk_62 (dk_at dksX5_next_9 9 rfl rfl)
theorem dX5_next_222 : decode cX5_next 222 = .ok (.aload_n 0, 1) := dk_42 (dk_at dksX5_next_9 10 rfl rfl)
theorem dX5_next_223 : decode cX5_next 223 = .ok (.getfield 155, 3) := dk_180 0 155 (dk_at dksX5_next_9 11 rfl rfl)
theorem dX5_next_226 : decode cX5_next 226 = .ok (.bipush 7, 2) := dk_16 7 (dk_at dksX5_next_9 14 rfl rfl)
theorem dX5_next_228 : decode cX5_next 228 = .ok (.if_icmp .ge 20, 3) := dk_162 0 20 (dk_at dksX5_next_9 16 rfl rfl)
theorem dX5_next_231 : decode cX5_next 231 = .ok (.aload_n 0, 1) := dk_42 (dk_at dksX5_next_9 19 rfl rfl)
theorem dX5_next_232 : decode cX5_next 232 = .ok (.aload_n 0, 1) := dk_42 (dk_at dksX5_next_9 20 rfl rfl)
theorem dX5_next_233 : decode cX5_next 233 = .ok (.getfield 171, 3) := dk_180 0 171 (dk_at dksX5_next_9 21 rfl rfl)
theorem dX5_next_236 : decode cX5_next 236 = .ok (.bipush 8, 2) := dk_16 8 (dk_at dksX5_next_10 0 rfl rfl)
theorem dX5_next_238 : decode cX5_next 238 = .ok (.lshl, 1) := dk_121 (dk_at dksX5_next_10 2 rfl rfl)
theorem dX5_next_239 : decode cX5_next 239 = .ok (.aload_n 0, 1) := dk_42 (dk_at dksX5_next_10 3 rfl rfl)
theorem dX5_next_240 : decode cX5_next 240 = .ok (.invokevirtual 148, 3) := dk_182 0 148 (dk_at dksX5_next_10 4 rfl rfl)
theorem dX5_next_243 : decode cX5_next 243 = .ok (.i2l, 1) := dk_133 (dk_at dksX5_next_10 7 rfl rfl)
theorem dX5_next_244 : decode cX5_next 244 = .ok (.lor, 1) := dk_129 (dk_at dksX5_next_10 8 rfl rfl)
theorem dX5_next_245 : decode cX5_next 245 = .ok (.putfield 171, 3) := dk_181 0 171 (dk_at dksX5_next_10 9 rfl rfl)
theorem dX5_next_248 : decode cX5_next 248 = .ok (.aload_n 0, 1) := dk_42 (dk_at dksX5_next_10 12 rfl rfl)
theorem dX5_next_249 : decode cX5_next 249 = .ok (.getfield 155, 3) := dk_180 0 155 (dk_at dksX5_next_10 13 rfl rfl)
theorem dX5_next_252 : decode cX5_next 252 = .ok (.iconst 3, 1) := dk_6 (dk_at dksX5_next_10 16 rfl rfl)
theorem dX5_next_253 : decode cX5_next 253 = .ok (.if_icmp .ge 22, 3) := dk_162 0 22 (dk_at dksX5_next_10 17 rfl rfl)
theorem dX5_next_256 : decode cX5_next 256 = .ok (.aload_n 0, 1) := dk_42 (dk_at dksX5_next_10 20 rfl rfl)
theorem dX5_next_257 : decode cX5_next 257 = .ok (.bipush 10, 2) := dk_16 10 (dk_at dksX5_next_10 21 rfl rfl)
theorem dX5_next_259 : decode cX5_next 259 = .ok (.aload_n 0, 1) := dk_42 (dk_at dksX5_next_10 23 rfl rfl)
theorem dX5_next_260 : decode cX5_next 260 = .ok (.getfield 168, 3) := dk_180 0 168 (dk_at dksX5_next_11 0 rfl rfl)
theorem dX5_next_263 : decode cX5_next 263 = .ok (.imul, 1) := dk_104 (dk_at dksX5_next_11 3 rfl rfl)
theorem dX5_next_264 : decode cX5_next 264 = .ok (.aload_n 0, 1) := dk_42 (dk_at dksX5_next_11 4 rfl rfl)
theorem dX5_next_265 : decode cX5_next 265 = .ok (.invokevirtual 148, 3) := dk_182 0 148 (dk_at dksX5_next_11 5 rfl rfl)
theorem dX5_next_268 : decode cX5_next 268 = .ok (.iadd, 1) := dk_96 (dk_at dksX5_next_11 8 rfl rfl)
theorem dX5_next_269 : decode cX5_next 269 = .ok (.bipush 48, 2) := dk_16 48 (dk_at dksX5_next_11 9 rfl rfl)
theorem dX5_next_271 : decode cX5_next 271 = .ok (.isub, 1) := dk_100 (dk_at dksX5_next_11 11 rfl rfl)
theorem dX5_next_272 : decode cX5_next 272 = .ok (.putfield 168, 3) := dk_181 0 168 (dk_at dksX5_next_11 12 rfl rfl)
theorem dX5_next_275 : decode cX5_next 275 = .ok (.aload_n 0, 1) := dk_42 (dk_at dksX5_next_11 15 rfl rfl)
theorem dX5_next_276 : decode cX5_next 276 = .ok (.dup, 1) := dk_89 (dk_at dksX5_next_11 16 rfl rfl)
theorem dX5_next_277 : decode cX5_next 277 = .ok (.getfield 155, 3) := dk_180 0 155 (dk_at dksX5_next_11 17 rfl rfl)
theorem dX5_next_280 : decode cX5_next 280 = .ok (.iconst 1, 1) := dk_4 (dk_at dksX5_next_11 20 rfl rfl)
theorem dX5_next_281 : decode cX5_next 281 = .ok (.iadd, 1) := dk_96 (dk_at dksX5_next_11 21 rfl rfl)
theorem dX5_next_282 : decode cX5_next 282 = .ok (.putfield 155, 3) := dk_181 0 155 (dk_at dksX5_next_12 0 rfl rfl)
theorem dX5_next_285 : decode cX5_next 285 = .ok (.aload_n 0, 1) := dk_42 (dk_at dksX5_next_12 3 rfl rfl)
theorem dX5_next_286 : decode cX5_next 286 = .ok (.dup, 1) := dk_89 (dk_at dksX5_next_12 4 rfl rfl)
theorem dX5_next_287 : decode cX5_next 287 = .ok (.getfield 21, 3) := dk_180 0 21 (dk_at dksX5_next_12 5 rfl rfl)
theorem dX5_next_290 : decode cX5_next 290 = .ok (.iconst 1, 1) := dk_4 (dk_at dksX5_next_12 8 rfl rfl)
theorem dX5_next_291 : decode cX5_next 291 = .ok (.iadd, 1) := dk_96 (dk_at dksX5_next_12 9 rfl rfl)
theorem dX5_next_292 : decode cX5_next 292 = .ok (.putfield 21, 3) := dk_181 0 21 (dk_at dksX5_next_12 10 rfl rfl)
theorem dX5_next_295 : decode cX5_next 295 = .ok (.goto (-114), 3) := dk_167 255 142 (dk_at dksX5_next_12 13 rfl rfl)
theorem dX5_next_298 : decode cX5_next 298 = .ok (.aload_n 0, 1) := dk_42 (dk_at dksX5_next_12 16 rfl rfl)
theorem dX5_next_299 : decode cX5_next 299 = .ok (.iload_n 3, 1) := dk_29 (dk_at dksX5_next_12 17 rfl rfl)
theorem dX5_next_300 : decode cX5_next 300 = .ok (.ifCond .eq 20, 3) := dk_153 0 20 (dk_at dksX5_next_12 18 rfl rfl)
theorem dX5_next_303 : decode cX5_next 303 = .ok (.aload_n 0, 1) := dk_42 (dk_at dksX5_next_12 21 rfl rfl)
theorem dX5_next_304 : decode cX5_next 304 = .ok (.getfield 155, 3) := dk_180 0 155 (dk_at dksX5_next_13 0 rfl rfl)
theorem dX5_next_307 : decode cX5_next 307 = .ok (.iload_n 2, 1) := dk_28 (dk_at dksX5_next_13 3 rfl rfl)
theorem dX5_next_308 : decode cX5_next 308 = .ok (.ifCond .eq 8, 3) := dk_153 0 8 (dk_at dksX5_next_13 4 rfl rfl)
theorem dX5_next_311 : decode cX5_next 311 = .ok (.bipush 7, 2) := dk_16 7 (dk_at dksX5_next_13 7 rfl rfl)
theorem dX5_next_313 : decode cX5_next 313 = .ok (.goto 4, 3) := dk_167 0 4 (dk_at dksX5_next_13 9 rfl rfl)
theorem dX5_next_316 : decode cX5_next 316 = .ok (.iconst 3, 1) := dk_6 (dk_at dksX5_next_13 12 rfl rfl)
theorem dX5_next_317 : decode cX5_next 317 = .ok (.if_icmp .le 7, 3) := dk_164 0 7 (dk_at dksX5_next_13 13 rfl rfl)
theorem dX5_next_320 : decode cX5_next 320 = .ok (.iconst 4, 1) := dk_7 (dk_at dksX5_next_13 16 rfl rfl)
theorem dX5_next_321 : decode cX5_next 321 = .ok (.goto 12, 3) := dk_167 0 12 (dk_at dksX5_next_13 17 rfl rfl)
theorem dX5_next_324 : decode cX5_next 324 = .ok (.iload_n 2, 1) := dk_28 (dk_at dksX5_next_13 20 rfl rfl)
theorem dX5_next_325 : decode cX5_next 325 = .ok (.ifCond .eq 7, 3) := dk_153 0 7 (dk_at dksX5_next_13 21 rfl rfl)
theorem dX5_next_328 : decode cX5_next 328 = .ok (.iconst 1, 1) := dk_4 (dk_at dksX5_next_14 0 rfl rfl)
theorem dX5_next_329 : decode cX5_next 329 = .ok (.goto 4, 3) := dk_167 0 4 (dk_at dksX5_next_14 1 rfl rfl)
theorem dX5_next_332 : decode cX5_next 332 = .ok (.iconst 2, 1) := dk_5 (dk_at dksX5_next_14 4 rfl rfl)
theorem dX5_next_333 : decode cX5_next 333 = .ok (.putfield 158, 3) := dk_181 0 158 (dk_at dksX5_next_14 5 rfl rfl)
theorem dX5_next_336 : decode cX5_next 336 = .ok (.return_, 1) := dk_177 (dk_at dksX5_next_14 8 rfl rfl)
abbrev cX5_peek : ByteArray := prog_29_method_15_code
def yX5_peek : MethodName := ⟨RX5, "peek", "()I"⟩
def dkwX5_peek_1 : List UInt8 := [167, 0, 4, 2, 172]
abbrev dktX5_peek_1 : List UInt8 := dkwX5_peek_1 ++ []
def dkwX5_peek_0 : List UInt8 := [42, 180, 0, 21, 42, 180, 0, 18, 162, 0, 19, 42, 180, 0, 14, 42, 180, 0, 21, 51, 17, 0, 255, 126]
abbrev dktX5_peek_0 : List UInt8 := dkwX5_peek_0 ++ dktX5_peek_1
theorem dksX5_peek_0 : cX5_peek.data.toList.drop 0 = dktX5_peek_0 := by decide +kernel
theorem dksX5_peek_1 : cX5_peek.data.toList.drop 24 = dktX5_peek_1 := dk_seg dksX5_peek_0 24 rfl rfl
theorem dX5_peek_0 : decode cX5_peek 0 = .ok (.aload_n 0, 1) := dk_42 (dk_at dksX5_peek_0 0 rfl rfl)
theorem dX5_peek_1 : decode cX5_peek 1 = .ok (.getfield 21, 3) := dk_180 0 21 (dk_at dksX5_peek_0 1 rfl rfl)
theorem dX5_peek_4 : decode cX5_peek 4 = .ok (.aload_n 0, 1) := dk_42 (dk_at dksX5_peek_0 4 rfl rfl)
theorem dX5_peek_5 : decode cX5_peek 5 = .ok (.getfield 18, 3) := dk_180 0 18 (dk_at dksX5_peek_0 5 rfl rfl)
theorem dX5_peek_8 : decode cX5_peek 8 = .ok (.if_icmp .ge 19, 3) := dk_162 0 19 (dk_at dksX5_peek_0 8 rfl rfl)
theorem dX5_peek_11 : decode cX5_peek 11 = .ok (.aload_n 0, 1) := dk_42 (dk_at dksX5_peek_0 11 rfl rfl)
theorem dX5_peek_12 : decode cX5_peek 12 = .ok (.getfield 14, 3) := dk_180 0 14 (dk_at dksX5_peek_0 12 rfl rfl)
theorem dX5_peek_15 : decode cX5_peek 15 = .ok (.aload_n 0, 1) := dk_42 (dk_at dksX5_peek_0 15 rfl rfl)
theorem dX5_peek_16 : decode cX5_peek 16 = .ok (.getfield 21, 3) := dk_180 0 21 (dk_at dksX5_peek_0 16 rfl rfl)
theorem dX5_peek_19 : decode cX5_peek 19 = .ok (.baload, 1) := dk_51 (dk_at dksX5_peek_0 19 rfl rfl)
theorem dX5_peek_20 : decode cX5_peek 20 = .ok (.sipush 255, 3) := dk_17 0 255 (dk_at dksX5_peek_0 20 rfl rfl)
theorem dX5_peek_23 : decode cX5_peek 23 = .ok (.iand, 1) := dk_126 (dk_at dksX5_peek_0 23 rfl rfl)
theorem dX5_peek_24 : decode cX5_peek 24 = .ok (.goto 4, 3) := dk_167 0 4 (dk_at dksX5_peek_1 0 rfl rfl)
theorem dX5_peek_27 : decode cX5_peek 27 = .ok (.iconst (-1), 1) := dk_2 (dk_at dksX5_peek_1 3 rfl rfl)
theorem dX5_peek_28 : decode cX5_peek 28 = .ok (.ireturn, 1) := dk_172 (dk_at dksX5_peek_1 4 rfl rfl)
abbrev cX5_isSmall : ByteArray := prog_29_method_16_code
def yX5_isSmall : MethodName := ⟨RX5, "isSmall", "(I)Z"⟩
def dkwX5_isSmall_0 : List UInt8 := [26, 16, 97, 161, 0, 13, 26, 16, 122, 163, 0, 7, 4, 167, 0, 4, 3, 172]
abbrev dktX5_isSmall_0 : List UInt8 := dkwX5_isSmall_0 ++ []
theorem dksX5_isSmall_0 : cX5_isSmall.data.toList.drop 0 = dktX5_isSmall_0 := by decide +kernel
theorem dX5_isSmall_0 : decode cX5_isSmall 0 = .ok (.iload_n 0, 1) := dk_26 (dk_at dksX5_isSmall_0 0 rfl rfl)
theorem dX5_isSmall_1 : decode cX5_isSmall 1 = .ok (.bipush 97, 2) := dk_16 97 (dk_at dksX5_isSmall_0 1 rfl rfl)
theorem dX5_isSmall_3 : decode cX5_isSmall 3 = .ok (.if_icmp .lt 13, 3) := dk_161 0 13 (dk_at dksX5_isSmall_0 3 rfl rfl)
theorem dX5_isSmall_6 : decode cX5_isSmall 6 = .ok (.iload_n 0, 1) := dk_26 (dk_at dksX5_isSmall_0 6 rfl rfl)
theorem dX5_isSmall_7 : decode cX5_isSmall 7 = .ok (.bipush 122, 2) := dk_16 122 (dk_at dksX5_isSmall_0 7 rfl rfl)
theorem dX5_isSmall_9 : decode cX5_isSmall 9 = .ok (.if_icmp .gt 7, 3) := dk_163 0 7 (dk_at dksX5_isSmall_0 9 rfl rfl)
theorem dX5_isSmall_12 : decode cX5_isSmall 12 = .ok (.iconst 1, 1) := dk_4 (dk_at dksX5_isSmall_0 12 rfl rfl)
theorem dX5_isSmall_13 : decode cX5_isSmall 13 = .ok (.goto 4, 3) := dk_167 0 4 (dk_at dksX5_isSmall_0 13 rfl rfl)
theorem dX5_isSmall_16 : decode cX5_isSmall 16 = .ok (.iconst 0, 1) := dk_3 (dk_at dksX5_isSmall_0 16 rfl rfl)
theorem dX5_isSmall_17 : decode cX5_isSmall 17 = .ok (.ireturn, 1) := dk_172 (dk_at dksX5_isSmall_0 17 rfl rfl)
abbrev cX5_isDigit : ByteArray := prog_29_method_17_code
def yX5_isDigit : MethodName := ⟨RX5, "isDigit", "(I)Z"⟩
def dkwX5_isDigit_0 : List UInt8 := [26, 16, 48, 161, 0, 13, 26, 16, 57, 163, 0, 7, 4, 167, 0, 4, 3, 172]
abbrev dktX5_isDigit_0 : List UInt8 := dkwX5_isDigit_0 ++ []
theorem dksX5_isDigit_0 : cX5_isDigit.data.toList.drop 0 = dktX5_isDigit_0 := by decide +kernel
theorem dX5_isDigit_0 : decode cX5_isDigit 0 = .ok (.iload_n 0, 1) := dk_26 (dk_at dksX5_isDigit_0 0 rfl rfl)
theorem dX5_isDigit_1 : decode cX5_isDigit 1 = .ok (.bipush 48, 2) := dk_16 48 (dk_at dksX5_isDigit_0 1 rfl rfl)
theorem dX5_isDigit_3 : decode cX5_isDigit 3 = .ok (.if_icmp .lt 13, 3) := dk_161 0 13 (dk_at dksX5_isDigit_0 3 rfl rfl)
theorem dX5_isDigit_6 : decode cX5_isDigit 6 = .ok (.iload_n 0, 1) := dk_26 (dk_at dksX5_isDigit_0 6 rfl rfl)
theorem dX5_isDigit_7 : decode cX5_isDigit 7 = .ok (.bipush 57, 2) := dk_16 57 (dk_at dksX5_isDigit_0 7 rfl rfl)
theorem dX5_isDigit_9 : decode cX5_isDigit 9 = .ok (.if_icmp .gt 7, 3) := dk_163 0 7 (dk_at dksX5_isDigit_0 9 rfl rfl)
theorem dX5_isDigit_12 : decode cX5_isDigit 12 = .ok (.iconst 1, 1) := dk_4 (dk_at dksX5_isDigit_0 12 rfl rfl)
theorem dX5_isDigit_13 : decode cX5_isDigit 13 = .ok (.goto 4, 3) := dk_167 0 4 (dk_at dksX5_isDigit_0 13 rfl rfl)
theorem dX5_isDigit_16 : decode cX5_isDigit 16 = .ok (.iconst 0, 1) := dk_3 (dk_at dksX5_isDigit_0 16 rfl rfl)
theorem dX5_isDigit_17 : decode cX5_isDigit 17 = .ok (.ireturn, 1) := dk_172 (dk_at dksX5_isDigit_0 17 rfl rfl)
abbrev cX5_readLine : ByteArray := prog_29_method_30_code
def yX5_readLine : MethodName := ⟨RX5, "readLine", "()Z"⟩
def dkwX5_readLine_5 : List UInt8 := [16, 100, 182, 0, 235, 172]
abbrev dktX5_readLine_5 : List UInt8 := dkwX5_readLine_5 ++ []
def dkwX5_readLine_4 : List UInt8 := [180, 0, 231, 153, 0, 9, 42, 6, 182, 0, 184, 172, 42, 4, 181, 0, 231, 42, 182, 0, 187, 42, 5, 3]
abbrev dktX5_readLine_4 : List UInt8 := dkwX5_readLine_4 ++ dktX5_readLine_5
def dkwX5_readLine_3 : List UInt8 := [42, 182, 0, 228, 172, 42, 20, 0, 109, 182, 0, 212, 154, 0, 9, 42, 4, 182, 0, 184, 172, 42]
abbrev dktX5_readLine_3 : List UInt8 := dkwX5_readLine_3 ++ dktX5_readLine_4
def dkwX5_readLine_2 : List UInt8 := [20, 0, 105, 182, 0, 212, 153, 0, 8, 42, 182, 0, 225, 172, 42, 20, 0, 107, 182, 0, 212, 153, 0, 8]
abbrev dktX5_readLine_2 : List UInt8 := dkwX5_readLine_2 ++ dktX5_readLine_3
def dkwX5_readLine_1 : List UInt8 := [153, 0, 8, 42, 182, 0, 219, 172, 42, 20, 0, 103, 182, 0, 212, 153, 0, 8, 42, 182, 0, 222, 172, 42]
abbrev dktX5_readLine_1 : List UInt8 := dkwX5_readLine_1 ++ dktX5_readLine_2
def dkwX5_readLine_0 : List UInt8 := [42, 20, 0, 99, 182, 0, 212, 153, 0, 8, 42, 182, 0, 216, 172, 42, 20, 0, 101, 182, 0, 212]
abbrev dktX5_readLine_0 : List UInt8 := dkwX5_readLine_0 ++ dktX5_readLine_1
theorem dksX5_readLine_0 : cX5_readLine.data.toList.drop 0 = dktX5_readLine_0 := by decide +kernel
theorem dksX5_readLine_1 : cX5_readLine.data.toList.drop 22 = dktX5_readLine_1 := dk_seg dksX5_readLine_0 22 rfl rfl
theorem dksX5_readLine_2 : cX5_readLine.data.toList.drop 46 = dktX5_readLine_2 := dk_seg dksX5_readLine_1 24 rfl rfl
theorem dksX5_readLine_3 : cX5_readLine.data.toList.drop 70 = dktX5_readLine_3 := dk_seg dksX5_readLine_2 24 rfl rfl
theorem dksX5_readLine_4 : cX5_readLine.data.toList.drop 92 = dktX5_readLine_4 := dk_seg dksX5_readLine_3 22 rfl rfl
theorem dksX5_readLine_5 : cX5_readLine.data.toList.drop 116 = dktX5_readLine_5 := dk_seg dksX5_readLine_4 24 rfl rfl
theorem dX5_readLine_0 : decode cX5_readLine 0 = .ok (.aload_n 0, 1) := dk_42 (dk_at dksX5_readLine_0 0 rfl rfl)
theorem dX5_readLine_1 : decode cX5_readLine 1 = .ok (.ldc2_w 99, 3) := dk_20 0 99 (dk_at dksX5_readLine_0 1 rfl rfl)
theorem dX5_readLine_4 : decode cX5_readLine 4 = .ok (.invokevirtual 212, 3) := dk_182 0 212 (dk_at dksX5_readLine_0 4 rfl rfl)
theorem dX5_readLine_7 : decode cX5_readLine 7 = .ok (.ifCond .eq 8, 3) := dk_153 0 8 (dk_at dksX5_readLine_0 7 rfl rfl)
theorem dX5_readLine_10 : decode cX5_readLine 10 = .ok (.aload_n 0, 1) := dk_42 (dk_at dksX5_readLine_0 10 rfl rfl)
theorem dX5_readLine_11 : decode cX5_readLine 11 = .ok (.invokevirtual 216, 3) := dk_182 0 216 (dk_at dksX5_readLine_0 11 rfl rfl)
theorem dX5_readLine_14 : decode cX5_readLine 14 = .ok (.ireturn, 1) := dk_172 (dk_at dksX5_readLine_0 14 rfl rfl)
theorem dX5_readLine_15 : decode cX5_readLine 15 = .ok (.aload_n 0, 1) := dk_42 (dk_at dksX5_readLine_0 15 rfl rfl)
theorem dX5_readLine_16 : decode cX5_readLine 16 = .ok (.ldc2_w 101, 3) := dk_20 0 101 (dk_at dksX5_readLine_0 16 rfl rfl)
theorem dX5_readLine_19 : decode cX5_readLine 19 = .ok (.invokevirtual 212, 3) := dk_182 0 212 (dk_at dksX5_readLine_0 19 rfl rfl)
theorem dX5_readLine_22 : decode cX5_readLine 22 = .ok (.ifCond .eq 8, 3) := dk_153 0 8 (dk_at dksX5_readLine_1 0 rfl rfl)
theorem dX5_readLine_25 : decode cX5_readLine 25 = .ok (.aload_n 0, 1) := dk_42 (dk_at dksX5_readLine_1 3 rfl rfl)
theorem dX5_readLine_26 : decode cX5_readLine 26 = .ok (.invokevirtual 219, 3) := dk_182 0 219 (dk_at dksX5_readLine_1 4 rfl rfl)
theorem dX5_readLine_29 : decode cX5_readLine 29 = .ok (.ireturn, 1) := dk_172 (dk_at dksX5_readLine_1 7 rfl rfl)
theorem dX5_readLine_30 : decode cX5_readLine 30 = .ok (.aload_n 0, 1) := dk_42 (dk_at dksX5_readLine_1 8 rfl rfl)
theorem dX5_readLine_31 : decode cX5_readLine 31 = .ok (.ldc2_w 103, 3) := dk_20 0 103 (dk_at dksX5_readLine_1 9 rfl rfl)
theorem dX5_readLine_34 : decode cX5_readLine 34 = .ok (.invokevirtual 212, 3) := dk_182 0 212 (dk_at dksX5_readLine_1 12 rfl rfl)
theorem dX5_readLine_37 : decode cX5_readLine 37 = .ok (.ifCond .eq 8, 3) := dk_153 0 8 (dk_at dksX5_readLine_1 15 rfl rfl)
theorem dX5_readLine_40 : decode cX5_readLine 40 = .ok (.aload_n 0, 1) := dk_42 (dk_at dksX5_readLine_1 18 rfl rfl)
theorem dX5_readLine_41 : decode cX5_readLine 41 = .ok (.invokevirtual 222, 3) := dk_182 0 222 (dk_at dksX5_readLine_1 19 rfl rfl)
theorem dX5_readLine_44 : decode cX5_readLine 44 = .ok (.ireturn, 1) := dk_172 (dk_at dksX5_readLine_1 22 rfl rfl)
theorem dX5_readLine_45 : decode cX5_readLine 45 = .ok (.aload_n 0, 1) := dk_42 (dk_at dksX5_readLine_1 23 rfl rfl)
theorem dX5_readLine_46 : decode cX5_readLine 46 = .ok (.ldc2_w 105, 3) := dk_20 0 105 (dk_at dksX5_readLine_2 0 rfl rfl)
theorem dX5_readLine_49 : decode cX5_readLine 49 = .ok (.invokevirtual 212, 3) := dk_182 0 212 (dk_at dksX5_readLine_2 3 rfl rfl)
theorem dX5_readLine_52 : decode cX5_readLine 52 = .ok (.ifCond .eq 8, 3) := dk_153 0 8 (dk_at dksX5_readLine_2 6 rfl rfl)
theorem dX5_readLine_55 : decode cX5_readLine 55 = .ok (.aload_n 0, 1) := dk_42 (dk_at dksX5_readLine_2 9 rfl rfl)
theorem dX5_readLine_56 : decode cX5_readLine 56 = .ok (.invokevirtual 225, 3) := dk_182 0 225 (dk_at dksX5_readLine_2 10 rfl rfl)
theorem dX5_readLine_59 : decode cX5_readLine 59 = .ok (.ireturn, 1) := dk_172 (dk_at dksX5_readLine_2 13 rfl rfl)
theorem dX5_readLine_60 : decode cX5_readLine 60 = .ok (.aload_n 0, 1) := dk_42 (dk_at dksX5_readLine_2 14 rfl rfl)
theorem dX5_readLine_61 : decode cX5_readLine 61 = .ok (.ldc2_w 107, 3) := dk_20 0 107 (dk_at dksX5_readLine_2 15 rfl rfl)
theorem dX5_readLine_64 : decode cX5_readLine 64 = .ok (.invokevirtual 212, 3) := dk_182 0 212 (dk_at dksX5_readLine_2 18 rfl rfl)
theorem dX5_readLine_67 : decode cX5_readLine 67 = .ok (.ifCond .eq 8, 3) := dk_153 0 8 (dk_at dksX5_readLine_2 21 rfl rfl)
theorem dX5_readLine_70 : decode cX5_readLine 70 = .ok (.aload_n 0, 1) := dk_42 (dk_at dksX5_readLine_3 0 rfl rfl)
theorem dX5_readLine_71 : decode cX5_readLine 71 = .ok (.invokevirtual 228, 3) := dk_182 0 228 (dk_at dksX5_readLine_3 1 rfl rfl)
theorem dX5_readLine_74 : decode cX5_readLine 74 = .ok (.ireturn, 1) := dk_172 (dk_at dksX5_readLine_3 4 rfl rfl)
theorem dX5_readLine_75 : decode cX5_readLine 75 = .ok (.aload_n 0, 1) := dk_42 (dk_at dksX5_readLine_3 5 rfl rfl)
theorem dX5_readLine_76 : decode cX5_readLine 76 = .ok (.ldc2_w 109, 3) := dk_20 0 109 (dk_at dksX5_readLine_3 6 rfl rfl)
theorem dX5_readLine_79 : decode cX5_readLine 79 = .ok (.invokevirtual 212, 3) := dk_182 0 212 (dk_at dksX5_readLine_3 9 rfl rfl)
theorem dX5_readLine_82 : decode cX5_readLine 82 = .ok (.ifCond .ne 9, 3) := dk_154 0 9 (dk_at dksX5_readLine_3 12 rfl rfl)
theorem dX5_readLine_85 : decode cX5_readLine 85 = .ok (.aload_n 0, 1) := dk_42 (dk_at dksX5_readLine_3 15 rfl rfl)
theorem dX5_readLine_86 : decode cX5_readLine 86 = .ok (.iconst 1, 1) := dk_4 (dk_at dksX5_readLine_3 16 rfl rfl)
theorem dX5_readLine_87 : decode cX5_readLine 87 = .ok (.invokevirtual 184, 3) := dk_182 0 184 (dk_at dksX5_readLine_3 17 rfl rfl)
theorem dX5_readLine_90 : decode cX5_readLine 90 = .ok (.ireturn, 1) := dk_172 (dk_at dksX5_readLine_3 20 rfl rfl)
theorem dX5_readLine_91 : decode cX5_readLine 91 = .ok (.aload_n 0, 1) := dk_42 (dk_at dksX5_readLine_3 21 rfl rfl)
theorem dX5_readLine_92 : decode cX5_readLine 92 = .ok (.getfield 231, 3) := dk_180 0 231 (dk_at dksX5_readLine_4 0 rfl rfl)
theorem dX5_readLine_95 : decode cX5_readLine 95 = .ok (.ifCond .eq 9, 3) := dk_153 0 9 (dk_at dksX5_readLine_4 3 rfl rfl)
theorem dX5_readLine_98 : decode cX5_readLine 98 = .ok (.aload_n 0, 1) := dk_42 (dk_at dksX5_readLine_4 6 rfl rfl)
theorem dX5_readLine_99 : decode cX5_readLine 99 = .ok (.iconst 3, 1) := dk_6 (dk_at dksX5_readLine_4 7 rfl rfl)
theorem dX5_readLine_100 : decode cX5_readLine 100 = .ok (.invokevirtual 184, 3) := dk_182 0 184 (dk_at dksX5_readLine_4 8 rfl rfl)
theorem dX5_readLine_103 : decode cX5_readLine 103 = .ok (.ireturn, 1) := dk_172 (dk_at dksX5_readLine_4 11 rfl rfl)
theorem dX5_readLine_104 : decode cX5_readLine 104 = .ok (.aload_n 0, 1) := dk_42 (dk_at dksX5_readLine_4 12 rfl rfl)
theorem dX5_readLine_105 : decode cX5_readLine 105 = .ok (.iconst 1, 1) := dk_4 (dk_at dksX5_readLine_4 13 rfl rfl)
theorem dX5_readLine_106 : decode cX5_readLine 106 = .ok (.putfield 231, 3) := dk_181 0 231 (dk_at dksX5_readLine_4 14 rfl rfl)
theorem dX5_readLine_109 : decode cX5_readLine 109 = .ok (.aload_n 0, 1) := dk_42 (dk_at dksX5_readLine_4 17 rfl rfl)
theorem dX5_readLine_110 : decode cX5_readLine 110 = .ok (.invokevirtual 187, 3) := dk_182 0 187 (dk_at dksX5_readLine_4 18 rfl rfl)
theorem dX5_readLine_113 : decode cX5_readLine 113 = .ok (.aload_n 0, 1) := dk_42 (dk_at dksX5_readLine_4 21 rfl rfl)
theorem dX5_readLine_114 : decode cX5_readLine 114 = .ok (.iconst 2, 1) := dk_5 (dk_at dksX5_readLine_4 22 rfl rfl)
theorem dX5_readLine_115 : decode cX5_readLine 115 = .ok (.iconst 0, 1) := dk_3 (dk_at dksX5_readLine_4 23 rfl rfl)
theorem dX5_readLine_116 : decode cX5_readLine 116 = .ok (.bipush 100, 2) := dk_16 100 (dk_at dksX5_readLine_5 0 rfl rfl)
theorem dX5_readLine_118 : decode cX5_readLine 118 = .ok (.invokevirtual 235, 3) := dk_182 0 235 (dk_at dksX5_readLine_5 2 rfl rfl)
theorem dX5_readLine_121 : decode cX5_readLine 121 = .ok (.ireturn, 1) := dk_172 (dk_at dksX5_readLine_5 5 rfl rfl)
abbrev cX5_isWord : ByteArray := prog_29_method_20_code
def yX5_isWord : MethodName := ⟨RX5, "isWord", "(J)Z"⟩
def dkwX5_isWord_0 : List UInt8 := [42, 180, 0, 158, 4, 160, 0, 16, 42, 180, 0, 171, 31, 148, 154, 0, 7, 4, 167, 0, 4, 3, 172]
abbrev dktX5_isWord_0 : List UInt8 := dkwX5_isWord_0 ++ []
theorem dksX5_isWord_0 : cX5_isWord.data.toList.drop 0 = dktX5_isWord_0 := by decide +kernel
theorem dX5_isWord_0 : decode cX5_isWord 0 = .ok (.aload_n 0, 1) := dk_42 (dk_at dksX5_isWord_0 0 rfl rfl)
theorem dX5_isWord_1 : decode cX5_isWord 1 = .ok (.getfield 158, 3) := dk_180 0 158 (dk_at dksX5_isWord_0 1 rfl rfl)
theorem dX5_isWord_4 : decode cX5_isWord 4 = .ok (.iconst 1, 1) := dk_4 (dk_at dksX5_isWord_0 4 rfl rfl)
theorem dX5_isWord_5 : decode cX5_isWord 5 = .ok (.if_icmp .ne 16, 3) := dk_160 0 16 (dk_at dksX5_isWord_0 5 rfl rfl)
theorem dX5_isWord_8 : decode cX5_isWord 8 = .ok (.aload_n 0, 1) := dk_42 (dk_at dksX5_isWord_0 8 rfl rfl)
theorem dX5_isWord_9 : decode cX5_isWord 9 = .ok (.getfield 171, 3) := dk_180 0 171 (dk_at dksX5_isWord_0 9 rfl rfl)
theorem dX5_isWord_12 : decode cX5_isWord 12 = .ok (.lload_n 1, 1) := dk_31 (dk_at dksX5_isWord_0 12 rfl rfl)
theorem dX5_isWord_13 : decode cX5_isWord 13 = .ok (.lcmp, 1) := dk_148 (dk_at dksX5_isWord_0 13 rfl rfl)
theorem dX5_isWord_14 : decode cX5_isWord 14 = .ok (.ifCond .ne 7, 3) := dk_154 0 7 (dk_at dksX5_isWord_0 14 rfl rfl)
theorem dX5_isWord_17 : decode cX5_isWord 17 = .ok (.iconst 1, 1) := dk_4 (dk_at dksX5_isWord_0 17 rfl rfl)
theorem dX5_isWord_18 : decode cX5_isWord 18 = .ok (.goto 4, 3) := dk_167 0 4 (dk_at dksX5_isWord_0 18 rfl rfl)
theorem dX5_isWord_21 : decode cX5_isWord 21 = .ok (.iconst 0, 1) := dk_3 (dk_at dksX5_isWord_0 21 rfl rfl)
theorem dX5_isWord_22 : decode cX5_isWord 22 = .ok (.ireturn, 1) := dk_172 (dk_at dksX5_isWord_0 22 rfl rfl)
abbrev cX5_readPerson : ByteArray := prog_29_method_31_code
def yX5_readPerson : MethodName := ⟨RX5, "readPerson", "()Z"⟩
def dkwX5_readPerson_4 : List UInt8 := [154, 0, 5, 3, 172, 42, 180, 0, 37, 3, 92, 46, 4, 96, 79, 4, 172]
abbrev dktX5_readPerson_4 : List UInt8 := dkwX5_readPerson_4 ++ []
def dkwX5_readPerson_3 : List UInt8 := [96, 3, 16, 99, 182, 0, 235, 153, 0, 18, 42, 16, 15, 27, 96, 3, 17, 3, 231, 182, 0, 235]
abbrev dktX5_readPerson_3 : List UInt8 := dkwX5_readPerson_3 ++ dktX5_readPerson_4
def dkwX5_readPerson_2 : List UInt8 := [182, 0, 184, 172, 42, 180, 0, 43, 16, 12, 27, 96, 42, 180, 0, 171, 80, 42, 182, 0, 187, 42, 6, 27]
abbrev dktX5_readPerson_2 : List UInt8 := dkwX5_readPerson_2 ++ dktX5_readPerson_3
def dkwX5_readPerson_1 : List UInt8 := [182, 0, 201, 154, 0, 9, 42, 4, 182, 0, 184, 172, 42, 16, 12, 27, 182, 0, 205, 155, 0, 9, 42, 6]
abbrev dktX5_readPerson_1 : List UInt8 := dkwX5_readPerson_1 ++ dktX5_readPerson_2
def dkwX5_readPerson_0 : List UInt8 := [42, 180, 0, 37, 3, 46, 60, 27, 16, 12, 160, 0, 9, 42, 7, 182, 0, 184, 172, 42, 182, 0, 187, 42]
abbrev dktX5_readPerson_0 : List UInt8 := dkwX5_readPerson_0 ++ dktX5_readPerson_1
theorem dksX5_readPerson_0 : cX5_readPerson.data.toList.drop 0 = dktX5_readPerson_0 := by decide +kernel
theorem dksX5_readPerson_1 : cX5_readPerson.data.toList.drop 24 = dktX5_readPerson_1 := dk_seg dksX5_readPerson_0 24 rfl rfl
theorem dksX5_readPerson_2 : cX5_readPerson.data.toList.drop 48 = dktX5_readPerson_2 := dk_seg dksX5_readPerson_1 24 rfl rfl
theorem dksX5_readPerson_3 : cX5_readPerson.data.toList.drop 72 = dktX5_readPerson_3 := dk_seg dksX5_readPerson_2 24 rfl rfl
theorem dksX5_readPerson_4 : cX5_readPerson.data.toList.drop 94 = dktX5_readPerson_4 := dk_seg dksX5_readPerson_3 22 rfl rfl
theorem dX5_readPerson_0 : decode cX5_readPerson 0 = .ok (.aload_n 0, 1) := dk_42 (dk_at dksX5_readPerson_0 0 rfl rfl)
theorem dX5_readPerson_1 : decode cX5_readPerson 1 = .ok (.getfield 37, 3) := dk_180 0 37 (dk_at dksX5_readPerson_0 1 rfl rfl)
theorem dX5_readPerson_4 : decode cX5_readPerson 4 = .ok (.iconst 0, 1) := dk_3 (dk_at dksX5_readPerson_0 4 rfl rfl)
theorem dX5_readPerson_5 : decode cX5_readPerson 5 = .ok (.iaload, 1) := dk_46 (dk_at dksX5_readPerson_0 5 rfl rfl)
theorem dX5_readPerson_6 : decode cX5_readPerson 6 = .ok (.istore_n 1, 1) := dk_60 (dk_at dksX5_readPerson_0 6 rfl rfl)
theorem dX5_readPerson_7 : decode cX5_readPerson 7 = .ok (.iload_n 1, 1) := dk_27 (dk_at dksX5_readPerson_0 7 rfl rfl)
theorem dX5_readPerson_8 : decode cX5_readPerson 8 = .ok (.bipush 12, 2) := dk_16 12 (dk_at dksX5_readPerson_0 8 rfl rfl)
theorem dX5_readPerson_10 : decode cX5_readPerson 10 = .ok (.if_icmp .ne 9, 3) := dk_160 0 9 (dk_at dksX5_readPerson_0 10 rfl rfl)
theorem dX5_readPerson_13 : decode cX5_readPerson 13 = .ok (.aload_n 0, 1) := dk_42 (dk_at dksX5_readPerson_0 13 rfl rfl)
theorem dX5_readPerson_14 : decode cX5_readPerson 14 = .ok (.iconst 4, 1) := dk_7 (dk_at dksX5_readPerson_0 14 rfl rfl)
theorem dX5_readPerson_15 : decode cX5_readPerson 15 = .ok (.invokevirtual 184, 3) := dk_182 0 184 (dk_at dksX5_readPerson_0 15 rfl rfl)
theorem dX5_readPerson_18 : decode cX5_readPerson 18 = .ok (.ireturn, 1) := dk_172 (dk_at dksX5_readPerson_0 18 rfl rfl)
theorem dX5_readPerson_19 : decode cX5_readPerson 19 = .ok (.aload_n 0, 1) := dk_42 (dk_at dksX5_readPerson_0 19 rfl rfl)
theorem dX5_readPerson_20 : decode cX5_readPerson 20 = .ok (.invokevirtual 187, 3) := dk_182 0 187 (dk_at dksX5_readPerson_0 20 rfl rfl)
theorem dX5_readPerson_23 : decode cX5_readPerson 23 = .ok (.aload_n 0, 1) := dk_42 (dk_at dksX5_readPerson_0 23 rfl rfl)
theorem dX5_readPerson_24 : decode cX5_readPerson 24 = .ok (.invokevirtual 201, 3) := dk_182 0 201 (dk_at dksX5_readPerson_1 0 rfl rfl)
theorem dX5_readPerson_27 : decode cX5_readPerson 27 = .ok (.ifCond .ne 9, 3) := dk_154 0 9 (dk_at dksX5_readPerson_1 3 rfl rfl)
theorem dX5_readPerson_30 : decode cX5_readPerson 30 = .ok (.aload_n 0, 1) := dk_42 (dk_at dksX5_readPerson_1 6 rfl rfl)
theorem dX5_readPerson_31 : decode cX5_readPerson 31 = .ok (.iconst 1, 1) := dk_4 (dk_at dksX5_readPerson_1 7 rfl rfl)
theorem dX5_readPerson_32 : decode cX5_readPerson 32 = .ok (.invokevirtual 184, 3) := dk_182 0 184 (dk_at dksX5_readPerson_1 8 rfl rfl)
theorem dX5_readPerson_35 : decode cX5_readPerson 35 = .ok (.ireturn, 1) := dk_172 (dk_at dksX5_readPerson_1 11 rfl rfl)
theorem dX5_readPerson_36 : decode cX5_readPerson 36 = .ok (.aload_n 0, 1) := dk_42 (dk_at dksX5_readPerson_1 12 rfl rfl)
theorem dX5_readPerson_37 : decode cX5_readPerson 37 = .ok (.bipush 12, 2) := dk_16 12 (dk_at dksX5_readPerson_1 13 rfl rfl)
theorem dX5_readPerson_39 : decode cX5_readPerson 39 = .ok (.iload_n 1, 1) := dk_27 (dk_at dksX5_readPerson_1 15 rfl rfl)
theorem dX5_readPerson_40 : decode cX5_readPerson 40 = .ok (.invokevirtual 205, 3) := dk_182 0 205 (dk_at dksX5_readPerson_1 16 rfl rfl)
theorem dX5_readPerson_43 : decode cX5_readPerson 43 = .ok (.ifCond .lt 9, 3) := dk_155 0 9 (dk_at dksX5_readPerson_1 19 rfl rfl)
theorem dX5_readPerson_46 : decode cX5_readPerson 46 = .ok (.aload_n 0, 1) := dk_42 (dk_at dksX5_readPerson_1 22 rfl rfl)
theorem dX5_readPerson_47 : decode cX5_readPerson 47 = .ok (.iconst 3, 1) := dk_6 (dk_at dksX5_readPerson_1 23 rfl rfl)
theorem dX5_readPerson_48 : decode cX5_readPerson 48 = .ok (.invokevirtual 184, 3) := dk_182 0 184 (dk_at dksX5_readPerson_2 0 rfl rfl)
theorem dX5_readPerson_51 : decode cX5_readPerson 51 = .ok (.ireturn, 1) := dk_172 (dk_at dksX5_readPerson_2 3 rfl rfl)
theorem dX5_readPerson_52 : decode cX5_readPerson 52 = .ok (.aload_n 0, 1) := dk_42 (dk_at dksX5_readPerson_2 4 rfl rfl)
theorem dX5_readPerson_53 : decode cX5_readPerson 53 = .ok (.getfield 43, 3) := dk_180 0 43 (dk_at dksX5_readPerson_2 5 rfl rfl)
theorem dX5_readPerson_56 : decode cX5_readPerson 56 = .ok (.bipush 12, 2) := dk_16 12 (dk_at dksX5_readPerson_2 8 rfl rfl)
theorem dX5_readPerson_58 : decode cX5_readPerson 58 = .ok (.iload_n 1, 1) := dk_27 (dk_at dksX5_readPerson_2 10 rfl rfl)
theorem dX5_readPerson_59 : decode cX5_readPerson 59 = .ok (.iadd, 1) := dk_96 (dk_at dksX5_readPerson_2 11 rfl rfl)
theorem dX5_readPerson_60 : decode cX5_readPerson 60 = .ok (.aload_n 0, 1) := dk_42 (dk_at dksX5_readPerson_2 12 rfl rfl)
theorem dX5_readPerson_61 : decode cX5_readPerson 61 = .ok (.getfield 171, 3) := dk_180 0 171 (dk_at dksX5_readPerson_2 13 rfl rfl)
theorem dX5_readPerson_64 : decode cX5_readPerson 64 = .ok (.lastore, 1) := dk_80 (dk_at dksX5_readPerson_2 16 rfl rfl)
theorem dX5_readPerson_65 : decode cX5_readPerson 65 = .ok (.aload_n 0, 1) := dk_42 (dk_at dksX5_readPerson_2 17 rfl rfl)
theorem dX5_readPerson_66 : decode cX5_readPerson 66 = .ok (.invokevirtual 187, 3) := dk_182 0 187 (dk_at dksX5_readPerson_2 18 rfl rfl)
theorem dX5_readPerson_69 : decode cX5_readPerson 69 = .ok (.aload_n 0, 1) := dk_42 (dk_at dksX5_readPerson_2 21 rfl rfl)
theorem dX5_readPerson_70 : decode cX5_readPerson 70 = .ok (.iconst 3, 1) := dk_6 (dk_at dksX5_readPerson_2 22 rfl rfl)
theorem dX5_readPerson_71 : decode cX5_readPerson 71 = .ok (.iload_n 1, 1) := dk_27 (dk_at dksX5_readPerson_2 23 rfl rfl)
theorem dX5_readPerson_72 : decode cX5_readPerson 72 = .ok (.iadd, 1) := dk_96 (dk_at dksX5_readPerson_3 0 rfl rfl)
theorem dX5_readPerson_73 : decode cX5_readPerson 73 = .ok (.iconst 0, 1) := dk_3 (dk_at dksX5_readPerson_3 1 rfl rfl)
theorem dX5_readPerson_74 : decode cX5_readPerson 74 = .ok (.bipush 99, 2) := dk_16 99 (dk_at dksX5_readPerson_3 2 rfl rfl)
theorem dX5_readPerson_76 : decode cX5_readPerson 76 = .ok (.invokevirtual 235, 3) := dk_182 0 235 (dk_at dksX5_readPerson_3 4 rfl rfl)
theorem dX5_readPerson_79 : decode cX5_readPerson 79 = .ok (.ifCond .eq 18, 3) := dk_153 0 18 (dk_at dksX5_readPerson_3 7 rfl rfl)
theorem dX5_readPerson_82 : decode cX5_readPerson 82 = .ok (.aload_n 0, 1) := dk_42 (dk_at dksX5_readPerson_3 10 rfl rfl)
theorem dX5_readPerson_83 : decode cX5_readPerson 83 = .ok (.bipush 15, 2) := dk_16 15 (dk_at dksX5_readPerson_3 11 rfl rfl)
theorem dX5_readPerson_85 : decode cX5_readPerson 85 = .ok (.iload_n 1, 1) := dk_27 (dk_at dksX5_readPerson_3 13 rfl rfl)
theorem dX5_readPerson_86 : decode cX5_readPerson 86 = .ok (.iadd, 1) := dk_96 (dk_at dksX5_readPerson_3 14 rfl rfl)
theorem dX5_readPerson_87 : decode cX5_readPerson 87 = .ok (.iconst 0, 1) := dk_3 (dk_at dksX5_readPerson_3 15 rfl rfl)
theorem dX5_readPerson_88 : decode cX5_readPerson 88 = .ok (.sipush 999, 3) := dk_17 3 231 (dk_at dksX5_readPerson_3 16 rfl rfl)
theorem dX5_readPerson_91 : decode cX5_readPerson 91 = .ok (.invokevirtual 235, 3) := dk_182 0 235 (dk_at dksX5_readPerson_3 19 rfl rfl)
theorem dX5_readPerson_94 : decode cX5_readPerson 94 = .ok (.ifCond .ne 5, 3) := dk_154 0 5 (dk_at dksX5_readPerson_4 0 rfl rfl)
theorem dX5_readPerson_97 : decode cX5_readPerson 97 = .ok (.iconst 0, 1) := dk_3 (dk_at dksX5_readPerson_4 3 rfl rfl)
theorem dX5_readPerson_98 : decode cX5_readPerson 98 = .ok (.ireturn, 1) := dk_172 (dk_at dksX5_readPerson_4 4 rfl rfl)
theorem dX5_readPerson_99 : decode cX5_readPerson 99 = .ok (.aload_n 0, 1) := dk_42 (dk_at dksX5_readPerson_4 5 rfl rfl)
theorem dX5_readPerson_100 : decode cX5_readPerson 100 = .ok (.getfield 37, 3) := dk_180 0 37 (dk_at dksX5_readPerson_4 6 rfl rfl)
theorem dX5_readPerson_103 : decode cX5_readPerson 103 = .ok (.iconst 0, 1) := dk_3 (dk_at dksX5_readPerson_4 9 rfl rfl)
theorem dX5_readPerson_104 : decode cX5_readPerson 104 = .ok (.dup2, 1) := dk_92 (dk_at dksX5_readPerson_4 10 rfl rfl)
theorem dX5_readPerson_105 : decode cX5_readPerson 105 = .ok (.iaload, 1) := dk_46 (dk_at dksX5_readPerson_4 11 rfl rfl)
theorem dX5_readPerson_106 : decode cX5_readPerson 106 = .ok (.iconst 1, 1) := dk_4 (dk_at dksX5_readPerson_4 12 rfl rfl)
theorem dX5_readPerson_107 : decode cX5_readPerson 107 = .ok (.iadd, 1) := dk_96 (dk_at dksX5_readPerson_4 13 rfl rfl)
theorem dX5_readPerson_108 : decode cX5_readPerson 108 = .ok (.iastore, 1) := dk_79 (dk_at dksX5_readPerson_4 14 rfl rfl)
theorem dX5_readPerson_109 : decode cX5_readPerson 109 = .ok (.iconst 1, 1) := dk_4 (dk_at dksX5_readPerson_4 15 rfl rfl)
theorem dX5_readPerson_110 : decode cX5_readPerson 110 = .ok (.ireturn, 1) := dk_172 (dk_at dksX5_readPerson_4 16 rfl rfl)
abbrev cX5_bad : ByteArray := prog_29_method_19_code
def yX5_bad : MethodName := ⟨RX5, "bad", "(I)Z"⟩
def dkwX5_bad_0 : List UInt8 := [42, 27, 181, 0, 175, 42, 42, 180, 0, 152, 181, 0, 178, 3, 172]
abbrev dktX5_bad_0 : List UInt8 := dkwX5_bad_0 ++ []
theorem dksX5_bad_0 : cX5_bad.data.toList.drop 0 = dktX5_bad_0 := by decide +kernel
theorem dX5_bad_0 : decode cX5_bad 0 = .ok (.aload_n 0, 1) := dk_42 (dk_at dksX5_bad_0 0 rfl rfl)
theorem dX5_bad_1 : decode cX5_bad 1 = .ok (.iload_n 1, 1) := dk_27 (dk_at dksX5_bad_0 1 rfl rfl)
theorem dX5_bad_2 : decode cX5_bad 2 = .ok (.putfield 175, 3) := dk_181 0 175 (dk_at dksX5_bad_0 2 rfl rfl)
theorem dX5_bad_5 : decode cX5_bad 5 = .ok (.aload_n 0, 1) := dk_42 (dk_at dksX5_bad_0 5 rfl rfl)
theorem dX5_bad_6 : decode cX5_bad 6 = .ok (.aload_n 0, 1) := dk_42 (dk_at dksX5_bad_0 6 rfl rfl)
theorem dX5_bad_7 : decode cX5_bad 7 = .ok (.getfield 152, 3) := dk_180 0 152 (dk_at dksX5_bad_0 7 rfl rfl)
theorem dX5_bad_10 : decode cX5_bad 10 = .ok (.putfield 178, 3) := dk_181 0 178 (dk_at dksX5_bad_0 10 rfl rfl)
theorem dX5_bad_13 : decode cX5_bad 13 = .ok (.iconst 0, 1) := dk_3 (dk_at dksX5_bad_0 13 rfl rfl)
theorem dX5_bad_14 : decode cX5_bad 14 = .ok (.ireturn, 1) := dk_172 (dk_at dksX5_bad_0 14 rfl rfl)
abbrev cX5_isName : ByteArray := prog_29_method_23_code
def yX5_isName : MethodName := ⟨RX5, "isName", "()Z"⟩
def dkwX5_isName_2 : List UInt8 := [132, 2, 1, 167, 255, 223, 27, 172]
abbrev dktX5_isName_2 : List UInt8 := dkwX5_isName_2 ++ []
def dkwX5_isName_1 : List UInt8 := [153, 0, 21, 42, 180, 0, 171, 42, 180, 0, 47, 28, 47, 148, 153, 0, 7, 4, 167, 0, 4, 3, 60]
abbrev dktX5_isName_1 : List UInt8 := dkwX5_isName_1 ++ dktX5_isName_2
def dkwX5_isName_0 : List UInt8 := [42, 180, 0, 158, 4, 160, 0, 7, 4, 167, 0, 4, 3, 60, 3, 61, 28, 16, 23, 162, 0, 33, 27]
abbrev dktX5_isName_0 : List UInt8 := dkwX5_isName_0 ++ dktX5_isName_1
theorem dksX5_isName_0 : cX5_isName.data.toList.drop 0 = dktX5_isName_0 := by decide +kernel
theorem dksX5_isName_1 : cX5_isName.data.toList.drop 23 = dktX5_isName_1 := dk_seg dksX5_isName_0 23 rfl rfl
theorem dksX5_isName_2 : cX5_isName.data.toList.drop 46 = dktX5_isName_2 := dk_seg dksX5_isName_1 23 rfl rfl
theorem dX5_isName_0 : decode cX5_isName 0 = .ok (.aload_n 0, 1) := dk_42 (dk_at dksX5_isName_0 0 rfl rfl)
theorem dX5_isName_1 : decode cX5_isName 1 = .ok (.getfield 158, 3) := dk_180 0 158 (dk_at dksX5_isName_0 1 rfl rfl)
theorem dX5_isName_4 : decode cX5_isName 4 = .ok (.iconst 1, 1) := dk_4 (dk_at dksX5_isName_0 4 rfl rfl)
theorem dX5_isName_5 : decode cX5_isName 5 = .ok (.if_icmp .ne 7, 3) := dk_160 0 7 (dk_at dksX5_isName_0 5 rfl rfl)
theorem dX5_isName_8 : decode cX5_isName 8 = .ok (.iconst 1, 1) := dk_4 (dk_at dksX5_isName_0 8 rfl rfl)
theorem dX5_isName_9 : decode cX5_isName 9 = .ok (.goto 4, 3) := dk_167 0 4 (dk_at dksX5_isName_0 9 rfl rfl)
theorem dX5_isName_12 : decode cX5_isName 12 = .ok (.iconst 0, 1) := dk_3 (dk_at dksX5_isName_0 12 rfl rfl)
theorem dX5_isName_13 : decode cX5_isName 13 = .ok (.istore_n 1, 1) := dk_60 (dk_at dksX5_isName_0 13 rfl rfl)
theorem dX5_isName_14 : decode cX5_isName 14 = .ok (.iconst 0, 1) := dk_3 (dk_at dksX5_isName_0 14 rfl rfl)
theorem dX5_isName_15 : decode cX5_isName 15 = .ok (.istore_n 2, 1) := dk_61 (dk_at dksX5_isName_0 15 rfl rfl)
theorem dX5_isName_16 : decode cX5_isName 16 = .ok (.iload_n 2, 1) := dk_28 (dk_at dksX5_isName_0 16 rfl rfl)
theorem dX5_isName_17 : decode cX5_isName 17 = .ok (.bipush 23, 2) := dk_16 23 (dk_at dksX5_isName_0 17 rfl rfl)
theorem dX5_isName_19 : decode cX5_isName 19 = .ok (.if_icmp .ge 33, 3) := dk_162 0 33 (dk_at dksX5_isName_0 19 rfl rfl)
theorem dX5_isName_22 : decode cX5_isName 22 = .ok (.iload_n 1, 1) := dk_27 (dk_at dksX5_isName_0 22 rfl rfl)
theorem dX5_isName_23 : decode cX5_isName 23 = .ok (.ifCond .eq 21, 3) := dk_153 0 21 (dk_at dksX5_isName_1 0 rfl rfl)
theorem dX5_isName_26 : decode cX5_isName 26 = .ok (.aload_n 0, 1) := dk_42 (dk_at dksX5_isName_1 3 rfl rfl)
theorem dX5_isName_27 : decode cX5_isName 27 = .ok (.getfield 171, 3) := dk_180 0 171 (dk_at dksX5_isName_1 4 rfl rfl)
theorem dX5_isName_30 : decode cX5_isName 30 = .ok (.aload_n 0, 1) := dk_42 (dk_at dksX5_isName_1 7 rfl rfl)
theorem dX5_isName_31 : decode cX5_isName 31 = .ok (.getfield 47, 3) := dk_180 0 47 (dk_at dksX5_isName_1 8 rfl rfl)
theorem dX5_isName_34 : decode cX5_isName 34 = .ok (.iload_n 2, 1) := dk_28 (dk_at dksX5_isName_1 11 rfl rfl)
theorem dX5_isName_35 : decode cX5_isName 35 = .ok (.laload, 1) := dk_47 (dk_at dksX5_isName_1 12 rfl rfl)
theorem dX5_isName_36 : decode cX5_isName 36 = .ok (.lcmp, 1) := dk_148 (dk_at dksX5_isName_1 13 rfl rfl)
theorem dX5_isName_37 : decode cX5_isName 37 = .ok (.ifCond .eq 7, 3) := dk_153 0 7 (dk_at dksX5_isName_1 14 rfl rfl)
theorem dX5_isName_40 : decode cX5_isName 40 = .ok (.iconst 1, 1) := dk_4 (dk_at dksX5_isName_1 17 rfl rfl)
theorem dX5_isName_41 : decode cX5_isName 41 = .ok (.goto 4, 3) := dk_167 0 4 (dk_at dksX5_isName_1 18 rfl rfl)
theorem dX5_isName_44 : decode cX5_isName 44 = .ok (.iconst 0, 1) := dk_3 (dk_at dksX5_isName_1 21 rfl rfl)
theorem dX5_isName_45 : decode cX5_isName 45 = .ok (.istore_n 1, 1) := dk_60 (dk_at dksX5_isName_1 22 rfl rfl)
theorem dX5_isName_46 : decode cX5_isName 46 = .ok (.iinc 2 1, 3) := dk_132 2 1 (dk_at dksX5_isName_2 0 rfl rfl)
theorem dX5_isName_49 : decode cX5_isName 49 = .ok (.goto (-33), 3) := dk_167 255 223 (dk_at dksX5_isName_2 3 rfl rfl)
theorem dX5_isName_52 : decode cX5_isName 52 = .ok (.iload_n 1, 1) := dk_27 (dk_at dksX5_isName_2 6 rfl rfl)
theorem dX5_isName_53 : decode cX5_isName 53 = .ok (.ireturn, 1) := dk_172 (dk_at dksX5_isName_2 7 rfl rfl)
abbrev cX5_seek : ByteArray := prog_29_method_26_code
def yX5_seek : MethodName := ⟨RX5, "seek", "(II)I"⟩
def dkwX5_seek_1 : List UInt8 := [172, 132, 3, 1, 167, 255, 230, 2, 172]
abbrev dktX5_seek_1 : List UInt8 := dkwX5_seek_1 ++ []
def dkwX5_seek_0 : List UInt8 := [3, 62, 29, 28, 162, 0, 27, 42, 180, 0, 43, 27, 29, 96, 47, 42, 180, 0, 171, 148, 154, 0, 5, 29]
abbrev dktX5_seek_0 : List UInt8 := dkwX5_seek_0 ++ dktX5_seek_1
theorem dksX5_seek_0 : cX5_seek.data.toList.drop 0 = dktX5_seek_0 := by decide +kernel
theorem dksX5_seek_1 : cX5_seek.data.toList.drop 24 = dktX5_seek_1 := dk_seg dksX5_seek_0 24 rfl rfl
theorem dX5_seek_0 : decode cX5_seek 0 = .ok (.iconst 0, 1) := dk_3 (dk_at dksX5_seek_0 0 rfl rfl)
theorem dX5_seek_1 : decode cX5_seek 1 = .ok (.istore_n 3, 1) := dk_62 (dk_at dksX5_seek_0 1 rfl rfl)
theorem dX5_seek_2 : decode cX5_seek 2 = .ok (.iload_n 3, 1) := dk_29 (dk_at dksX5_seek_0 2 rfl rfl)
theorem dX5_seek_3 : decode cX5_seek 3 = .ok (.iload_n 2, 1) := dk_28 (dk_at dksX5_seek_0 3 rfl rfl)
theorem dX5_seek_4 : decode cX5_seek 4 = .ok (.if_icmp .ge 27, 3) := dk_162 0 27 (dk_at dksX5_seek_0 4 rfl rfl)
theorem dX5_seek_7 : decode cX5_seek 7 = .ok (.aload_n 0, 1) := dk_42 (dk_at dksX5_seek_0 7 rfl rfl)
theorem dX5_seek_8 : decode cX5_seek 8 = .ok (.getfield 43, 3) := dk_180 0 43 (dk_at dksX5_seek_0 8 rfl rfl)
theorem dX5_seek_11 : decode cX5_seek 11 = .ok (.iload_n 1, 1) := dk_27 (dk_at dksX5_seek_0 11 rfl rfl)
theorem dX5_seek_12 : decode cX5_seek 12 = .ok (.iload_n 3, 1) := dk_29 (dk_at dksX5_seek_0 12 rfl rfl)
theorem dX5_seek_13 : decode cX5_seek 13 = .ok (.iadd, 1) := dk_96 (dk_at dksX5_seek_0 13 rfl rfl)
theorem dX5_seek_14 : decode cX5_seek 14 = .ok (.laload, 1) := dk_47 (dk_at dksX5_seek_0 14 rfl rfl)
theorem dX5_seek_15 : decode cX5_seek 15 = .ok (.aload_n 0, 1) := dk_42 (dk_at dksX5_seek_0 15 rfl rfl)
theorem dX5_seek_16 : decode cX5_seek 16 = .ok (.getfield 171, 3) := dk_180 0 171 (dk_at dksX5_seek_0 16 rfl rfl)
theorem dX5_seek_19 : decode cX5_seek 19 = .ok (.lcmp, 1) := dk_148 (dk_at dksX5_seek_0 19 rfl rfl)
theorem dX5_seek_20 : decode cX5_seek 20 = .ok (.ifCond .ne 5, 3) := dk_154 0 5 (dk_at dksX5_seek_0 20 rfl rfl)
theorem dX5_seek_23 : decode cX5_seek 23 = .ok (.iload_n 3, 1) := dk_29 (dk_at dksX5_seek_0 23 rfl rfl)
theorem dX5_seek_24 : decode cX5_seek 24 = .ok (.ireturn, 1) := dk_172 (dk_at dksX5_seek_1 0 rfl rfl)
theorem dX5_seek_25 : decode cX5_seek 25 = .ok (.iinc 3 1, 3) := dk_132 3 1 (dk_at dksX5_seek_1 1 rfl rfl)
theorem dX5_seek_28 : decode cX5_seek 28 = .ok (.goto (-26), 3) := dk_167 255 230 (dk_at dksX5_seek_1 4 rfl rfl)
theorem dX5_seek_31 : decode cX5_seek 31 = .ok (.iconst (-1), 1) := dk_2 (dk_at dksX5_seek_1 7 rfl rfl)
theorem dX5_seek_32 : decode cX5_seek 32 = .ok (.ireturn, 1) := dk_172 (dk_at dksX5_seek_1 8 rfl rfl)
abbrev cX5_puts : ByteArray := prog_29_method_25_code
def yX5_puts : MethodName := ⟨RX5, "puts", "(III)Z"⟩
def dkwX5_puts_0 : List UInt8 := [42, 28, 29, 182, 0, 197, 154, 0, 5, 3, 172, 42, 180, 0, 37, 27, 42, 180, 0, 194, 79, 4, 172]
abbrev dktX5_puts_0 : List UInt8 := dkwX5_puts_0 ++ []
theorem dksX5_puts_0 : cX5_puts.data.toList.drop 0 = dktX5_puts_0 := by decide +kernel
theorem dX5_puts_0 : decode cX5_puts 0 = .ok (.aload_n 0, 1) := dk_42 (dk_at dksX5_puts_0 0 rfl rfl)
theorem dX5_puts_1 : decode cX5_puts 1 = .ok (.iload_n 2, 1) := dk_28 (dk_at dksX5_puts_0 1 rfl rfl)
theorem dX5_puts_2 : decode cX5_puts 2 = .ok (.iload_n 3, 1) := dk_29 (dk_at dksX5_puts_0 2 rfl rfl)
theorem dX5_puts_3 : decode cX5_puts 3 = .ok (.invokevirtual 197, 3) := dk_182 0 197 (dk_at dksX5_puts_0 3 rfl rfl)
theorem dX5_puts_6 : decode cX5_puts 6 = .ok (.ifCond .ne 5, 3) := dk_154 0 5 (dk_at dksX5_puts_0 6 rfl rfl)
theorem dX5_puts_9 : decode cX5_puts 9 = .ok (.iconst 0, 1) := dk_3 (dk_at dksX5_puts_0 9 rfl rfl)
theorem dX5_puts_10 : decode cX5_puts 10 = .ok (.ireturn, 1) := dk_172 (dk_at dksX5_puts_0 10 rfl rfl)
theorem dX5_puts_11 : decode cX5_puts 11 = .ok (.aload_n 0, 1) := dk_42 (dk_at dksX5_puts_0 11 rfl rfl)
theorem dX5_puts_12 : decode cX5_puts 12 = .ok (.getfield 37, 3) := dk_180 0 37 (dk_at dksX5_puts_0 12 rfl rfl)
theorem dX5_puts_15 : decode cX5_puts 15 = .ok (.iload_n 1, 1) := dk_27 (dk_at dksX5_puts_0 15 rfl rfl)
theorem dX5_puts_16 : decode cX5_puts 16 = .ok (.aload_n 0, 1) := dk_42 (dk_at dksX5_puts_0 16 rfl rfl)
theorem dX5_puts_17 : decode cX5_puts 17 = .ok (.getfield 194, 3) := dk_180 0 194 (dk_at dksX5_puts_0 17 rfl rfl)
theorem dX5_puts_20 : decode cX5_puts 20 = .ok (.iastore, 1) := dk_79 (dk_at dksX5_puts_0 20 rfl rfl)
theorem dX5_puts_21 : decode cX5_puts 21 = .ok (.iconst 1, 1) := dk_4 (dk_at dksX5_puts_0 21 rfl rfl)
theorem dX5_puts_22 : decode cX5_puts 22 = .ok (.ireturn, 1) := dk_172 (dk_at dksX5_puts_0 22 rfl rfl)
abbrev cX5_takes : ByteArray := prog_29_method_24_code
def yX5_takes : MethodName := ⟨RX5, "takes", "(II)Z"⟩
def dkwX5_takes_1 : List UInt8 := [154, 0, 9, 42, 5, 182, 0, 184, 172, 42, 42, 180, 0, 168, 181, 0, 194, 42, 182, 0, 187, 4, 172]
abbrev dktX5_takes_1 : List UInt8 := dkwX5_takes_1 ++ []
def dkwX5_takes_0 : List UInt8 := [42, 180, 0, 158, 5, 159, 0, 9, 42, 4, 182, 0, 184, 172, 42, 180, 0, 168, 27, 28, 184, 0, 190]
abbrev dktX5_takes_0 : List UInt8 := dkwX5_takes_0 ++ dktX5_takes_1
theorem dksX5_takes_0 : cX5_takes.data.toList.drop 0 = dktX5_takes_0 := by decide +kernel
theorem dksX5_takes_1 : cX5_takes.data.toList.drop 23 = dktX5_takes_1 := dk_seg dksX5_takes_0 23 rfl rfl
theorem dX5_takes_0 : decode cX5_takes 0 = .ok (.aload_n 0, 1) := dk_42 (dk_at dksX5_takes_0 0 rfl rfl)
theorem dX5_takes_1 : decode cX5_takes 1 = .ok (.getfield 158, 3) := dk_180 0 158 (dk_at dksX5_takes_0 1 rfl rfl)
theorem dX5_takes_4 : decode cX5_takes 4 = .ok (.iconst 2, 1) := dk_5 (dk_at dksX5_takes_0 4 rfl rfl)
theorem dX5_takes_5 : decode cX5_takes 5 = .ok (.if_icmp .eq 9, 3) := dk_159 0 9 (dk_at dksX5_takes_0 5 rfl rfl)
theorem dX5_takes_8 : decode cX5_takes 8 = .ok (.aload_n 0, 1) := dk_42 (dk_at dksX5_takes_0 8 rfl rfl)
theorem dX5_takes_9 : decode cX5_takes 9 = .ok (.iconst 1, 1) := dk_4 (dk_at dksX5_takes_0 9 rfl rfl)
theorem dX5_takes_10 : decode cX5_takes 10 = .ok (.invokevirtual 184, 3) := dk_182 0 184 (dk_at dksX5_takes_0 10 rfl rfl)
theorem dX5_takes_13 : decode cX5_takes 13 = .ok (.ireturn, 1) := dk_172 (dk_at dksX5_takes_0 13 rfl rfl)
theorem dX5_takes_14 : decode cX5_takes 14 = .ok (.aload_n 0, 1) := dk_42 (dk_at dksX5_takes_0 14 rfl rfl)
theorem dX5_takes_15 : decode cX5_takes 15 = .ok (.getfield 168, 3) := dk_180 0 168 (dk_at dksX5_takes_0 15 rfl rfl)
theorem dX5_takes_18 : decode cX5_takes 18 = .ok (.iload_n 1, 1) := dk_27 (dk_at dksX5_takes_0 18 rfl rfl)
theorem dX5_takes_19 : decode cX5_takes 19 = .ok (.iload_n 2, 1) := dk_28 (dk_at dksX5_takes_0 19 rfl rfl)
theorem dX5_takes_20 : decode cX5_takes 20 = .ok (.invokestatic 190, 3) := dk_184 0 190 (dk_at dksX5_takes_0 20 rfl rfl)
theorem dX5_takes_23 : decode cX5_takes 23 = .ok (.ifCond .ne 9, 3) := dk_154 0 9 (dk_at dksX5_takes_1 0 rfl rfl)
theorem dX5_takes_26 : decode cX5_takes 26 = .ok (.aload_n 0, 1) := dk_42 (dk_at dksX5_takes_1 3 rfl rfl)
theorem dX5_takes_27 : decode cX5_takes 27 = .ok (.iconst 2, 1) := dk_5 (dk_at dksX5_takes_1 4 rfl rfl)
theorem dX5_takes_28 : decode cX5_takes 28 = .ok (.invokevirtual 184, 3) := dk_182 0 184 (dk_at dksX5_takes_1 5 rfl rfl)
theorem dX5_takes_31 : decode cX5_takes 31 = .ok (.ireturn, 1) := dk_172 (dk_at dksX5_takes_1 8 rfl rfl)
theorem dX5_takes_32 : decode cX5_takes 32 = .ok (.aload_n 0, 1) := dk_42 (dk_at dksX5_takes_1 9 rfl rfl)
theorem dX5_takes_33 : decode cX5_takes 33 = .ok (.aload_n 0, 1) := dk_42 (dk_at dksX5_takes_1 10 rfl rfl)
theorem dX5_takes_34 : decode cX5_takes 34 = .ok (.getfield 168, 3) := dk_180 0 168 (dk_at dksX5_takes_1 11 rfl rfl)
theorem dX5_takes_37 : decode cX5_takes 37 = .ok (.putfield 194, 3) := dk_181 0 194 (dk_at dksX5_takes_1 14 rfl rfl)
theorem dX5_takes_40 : decode cX5_takes 40 = .ok (.aload_n 0, 1) := dk_42 (dk_at dksX5_takes_1 17 rfl rfl)
theorem dX5_takes_41 : decode cX5_takes 41 = .ok (.invokevirtual 187, 3) := dk_182 0 187 (dk_at dksX5_takes_1 18 rfl rfl)
theorem dX5_takes_44 : decode cX5_takes 44 = .ok (.iconst 1, 1) := dk_4 (dk_at dksX5_takes_1 21 rfl rfl)
theorem dX5_takes_45 : decode cX5_takes 45 = .ok (.ireturn, 1) := dk_172 (dk_at dksX5_takes_1 22 rfl rfl)
abbrev cX5_isIn : ByteArray := prog_29_method_7_code
def yX5_isIn : MethodName := ⟨RX5, "isIn", "(III)Z"⟩
def dkwX5_isIn_0 : List UInt8 := [26, 27, 161, 0, 12, 26, 28, 163, 0, 7, 4, 167, 0, 4, 3, 172]
abbrev dktX5_isIn_0 : List UInt8 := dkwX5_isIn_0 ++ []
theorem dksX5_isIn_0 : cX5_isIn.data.toList.drop 0 = dktX5_isIn_0 := by decide +kernel
theorem dX5_isIn_0 : decode cX5_isIn 0 = .ok (.iload_n 0, 1) := dk_26 (dk_at dksX5_isIn_0 0 rfl rfl)
theorem dX5_isIn_1 : decode cX5_isIn 1 = .ok (.iload_n 1, 1) := dk_27 (dk_at dksX5_isIn_0 1 rfl rfl)
theorem dX5_isIn_2 : decode cX5_isIn 2 = .ok (.if_icmp .lt 12, 3) := dk_161 0 12 (dk_at dksX5_isIn_0 2 rfl rfl)
theorem dX5_isIn_5 : decode cX5_isIn 5 = .ok (.iload_n 0, 1) := dk_26 (dk_at dksX5_isIn_0 5 rfl rfl)
theorem dX5_isIn_6 : decode cX5_isIn 6 = .ok (.iload_n 2, 1) := dk_28 (dk_at dksX5_isIn_0 6 rfl rfl)
theorem dX5_isIn_7 : decode cX5_isIn 7 = .ok (.if_icmp .gt 7, 3) := dk_163 0 7 (dk_at dksX5_isIn_0 7 rfl rfl)
theorem dX5_isIn_10 : decode cX5_isIn 10 = .ok (.iconst 1, 1) := dk_4 (dk_at dksX5_isIn_0 10 rfl rfl)
theorem dX5_isIn_11 : decode cX5_isIn 11 = .ok (.goto 4, 3) := dk_167 0 4 (dk_at dksX5_isIn_0 11 rfl rfl)
theorem dX5_isIn_14 : decode cX5_isIn 14 = .ok (.iconst 0, 1) := dk_3 (dk_at dksX5_isIn_0 14 rfl rfl)
theorem dX5_isIn_15 : decode cX5_isIn 15 = .ok (.ireturn, 1) := dk_172 (dk_at dksX5_isIn_0 15 rfl rfl)
abbrev cX5_readParent : ByteArray := prog_29_method_32_code
def yX5_readParent : MethodName := ⟨RX5, "readParent", "()Z"⟩
def dkwX5_readParent_6 : List UInt8 := [46, 4, 96, 79, 42, 182, 0, 187, 4, 172]
abbrev dktX5_readParent_6 : List UInt8 := dkwX5_readParent_6 ++ []
def dkwX5_readParent_5 : List UInt8 := [42, 180, 0, 37, 16, 27, 27, 96, 92, 46, 4, 42, 180, 0, 194, 120, 128, 79, 42, 180, 0, 37, 4, 92]
abbrev dktX5_readParent_5 : List UInt8 := dkwX5_readParent_5 ++ dktX5_readParent_6
def dkwX5_readParent_4 : List UInt8 := [180, 0, 37, 16, 27, 27, 96, 46, 42, 180, 0, 194, 184, 0, 242, 153, 0, 9, 42, 6, 182, 0, 184, 172]
abbrev dktX5_readParent_4 : List UInt8 := dkwX5_readParent_4 ++ dktX5_readParent_5
def dkwX5_readParent_3 : List UInt8 := [172, 42, 180, 0, 37, 6, 42, 180, 0, 194, 96, 46, 42, 180, 0, 37, 6, 27, 96, 46, 162, 0, 22, 42]
abbrev dktX5_readParent_3 : List UInt8 := dkwX5_readParent_3 ++ dktX5_readParent_4
def dkwX5_readParent_2 : List UInt8 := [182, 0, 184, 172, 42, 182, 0, 187, 42, 16, 12, 42, 180, 0, 37, 3, 46, 182, 0, 209, 154, 0, 5, 3]
abbrev dktX5_readParent_2 : List UInt8 := dkwX5_readParent_2 ++ dktX5_readParent_3
def dkwX5_readParent_1 : List UInt8 := [180, 0, 194, 60, 42, 180, 0, 37, 16, 27, 27, 96, 46, 184, 0, 238, 5, 160, 0, 9, 42, 7]
abbrev dktX5_readParent_1 : List UInt8 := dkwX5_readParent_1 ++ dktX5_readParent_2
def dkwX5_readParent_0 : List UInt8 := [42, 182, 0, 187, 42, 16, 12, 42, 180, 0, 37, 3, 46, 182, 0, 209, 154, 0, 5, 3, 172, 42]
abbrev dktX5_readParent_0 : List UInt8 := dkwX5_readParent_0 ++ dktX5_readParent_1
theorem dksX5_readParent_0 : cX5_readParent.data.toList.drop 0 = dktX5_readParent_0 := by decide +kernel
theorem dksX5_readParent_1 : cX5_readParent.data.toList.drop 22 = dktX5_readParent_1 := dk_seg dksX5_readParent_0 22 rfl rfl
theorem dksX5_readParent_2 : cX5_readParent.data.toList.drop 44 = dktX5_readParent_2 := dk_seg dksX5_readParent_1 22 rfl rfl
theorem dksX5_readParent_3 : cX5_readParent.data.toList.drop 68 = dktX5_readParent_3 := dk_seg dksX5_readParent_2 24 rfl rfl
theorem dksX5_readParent_4 : cX5_readParent.data.toList.drop 92 = dktX5_readParent_4 := dk_seg dksX5_readParent_3 24 rfl rfl
theorem dksX5_readParent_5 : cX5_readParent.data.toList.drop 116 = dktX5_readParent_5 := dk_seg dksX5_readParent_4 24 rfl rfl
theorem dksX5_readParent_6 : cX5_readParent.data.toList.drop 140 = dktX5_readParent_6 := dk_seg dksX5_readParent_5 24 rfl rfl
theorem dX5_readParent_0 : decode cX5_readParent 0 = .ok (.aload_n 0, 1) := dk_42 (dk_at dksX5_readParent_0 0 rfl rfl)
theorem dX5_readParent_1 : decode cX5_readParent 1 = .ok (.invokevirtual 187, 3) := dk_182 0 187 (dk_at dksX5_readParent_0 1 rfl rfl)
theorem dX5_readParent_4 : decode cX5_readParent 4 = .ok (.aload_n 0, 1) := dk_42 (dk_at dksX5_readParent_0 4 rfl rfl)
theorem dX5_readParent_5 : decode cX5_readParent 5 = .ok (.bipush 12, 2) := dk_16 12 (dk_at dksX5_readParent_0 5 rfl rfl)
theorem dX5_readParent_7 : decode cX5_readParent 7 = .ok (.aload_n 0, 1) := dk_42 (dk_at dksX5_readParent_0 7 rfl rfl)
theorem dX5_readParent_8 : decode cX5_readParent 8 = .ok (.getfield 37, 3) := dk_180 0 37 (dk_at dksX5_readParent_0 8 rfl rfl)
theorem dX5_readParent_11 : decode cX5_readParent 11 = .ok (.iconst 0, 1) := dk_3 (dk_at dksX5_readParent_0 11 rfl rfl)
theorem dX5_readParent_12 : decode cX5_readParent 12 = .ok (.iaload, 1) := dk_46 (dk_at dksX5_readParent_0 12 rfl rfl)
theorem dX5_readParent_13 : decode cX5_readParent 13 = .ok (.invokevirtual 209, 3) := dk_182 0 209 (dk_at dksX5_readParent_0 13 rfl rfl)
theorem dX5_readParent_16 : decode cX5_readParent 16 = .ok (.ifCond .ne 5, 3) := dk_154 0 5 (dk_at dksX5_readParent_0 16 rfl rfl)
theorem dX5_readParent_19 : decode cX5_readParent 19 = .ok (.iconst 0, 1) := dk_3 (dk_at dksX5_readParent_0 19 rfl rfl)
theorem dX5_readParent_20 : decode cX5_readParent 20 = .ok (.ireturn, 1) := dk_172 (dk_at dksX5_readParent_0 20 rfl rfl)
theorem dX5_readParent_21 : decode cX5_readParent 21 = .ok (.aload_n 0, 1) := dk_42 (dk_at dksX5_readParent_0 21 rfl rfl)
theorem dX5_readParent_22 : decode cX5_readParent 22 = .ok (.getfield 194, 3) := dk_180 0 194 (dk_at dksX5_readParent_1 0 rfl rfl)
theorem dX5_readParent_25 : decode cX5_readParent 25 = .ok (.istore_n 1, 1) := dk_60 (dk_at dksX5_readParent_1 3 rfl rfl)
theorem dX5_readParent_26 : decode cX5_readParent 26 = .ok (.aload_n 0, 1) := dk_42 (dk_at dksX5_readParent_1 4 rfl rfl)
theorem dX5_readParent_27 : decode cX5_readParent 27 = .ok (.getfield 37, 3) := dk_180 0 37 (dk_at dksX5_readParent_1 5 rfl rfl)
theorem dX5_readParent_30 : decode cX5_readParent 30 = .ok (.bipush 27, 2) := dk_16 27 (dk_at dksX5_readParent_1 8 rfl rfl)
theorem dX5_readParent_32 : decode cX5_readParent 32 = .ok (.iload_n 1, 1) := dk_27 (dk_at dksX5_readParent_1 10 rfl rfl)
theorem dX5_readParent_33 : decode cX5_readParent 33 = .ok (.iadd, 1) := dk_96 (dk_at dksX5_readParent_1 11 rfl rfl)
theorem dX5_readParent_34 : decode cX5_readParent 34 = .ok (.iaload, 1) := dk_46 (dk_at dksX5_readParent_1 12 rfl rfl)
theorem dX5_readParent_35 : decode cX5_readParent 35 = .ok (.invokestatic 238, 3) := dk_184 0 238 (dk_at dksX5_readParent_1 13 rfl rfl)
theorem dX5_readParent_38 : decode cX5_readParent 38 = .ok (.iconst 2, 1) := dk_5 (dk_at dksX5_readParent_1 16 rfl rfl)
theorem dX5_readParent_39 : decode cX5_readParent 39 = .ok (.if_icmp .ne 9, 3) := dk_160 0 9 (dk_at dksX5_readParent_1 17 rfl rfl)
theorem dX5_readParent_42 : decode cX5_readParent 42 = .ok (.aload_n 0, 1) := dk_42 (dk_at dksX5_readParent_1 20 rfl rfl)
theorem dX5_readParent_43 : decode cX5_readParent 43 = .ok (.iconst 4, 1) := dk_7 (dk_at dksX5_readParent_1 21 rfl rfl)
theorem dX5_readParent_44 : decode cX5_readParent 44 = .ok (.invokevirtual 184, 3) := dk_182 0 184 (dk_at dksX5_readParent_2 0 rfl rfl)
theorem dX5_readParent_47 : decode cX5_readParent 47 = .ok (.ireturn, 1) := dk_172 (dk_at dksX5_readParent_2 3 rfl rfl)
theorem dX5_readParent_48 : decode cX5_readParent 48 = .ok (.aload_n 0, 1) := dk_42 (dk_at dksX5_readParent_2 4 rfl rfl)
theorem dX5_readParent_49 : decode cX5_readParent 49 = .ok (.invokevirtual 187, 3) := dk_182 0 187 (dk_at dksX5_readParent_2 5 rfl rfl)
theorem dX5_readParent_52 : decode cX5_readParent 52 = .ok (.aload_n 0, 1) := dk_42 (dk_at dksX5_readParent_2 8 rfl rfl)
theorem dX5_readParent_53 : decode cX5_readParent 53 = .ok (.bipush 12, 2) := dk_16 12 (dk_at dksX5_readParent_2 9 rfl rfl)
theorem dX5_readParent_55 : decode cX5_readParent 55 = .ok (.aload_n 0, 1) := dk_42 (dk_at dksX5_readParent_2 11 rfl rfl)
theorem dX5_readParent_56 : decode cX5_readParent 56 = .ok (.getfield 37, 3) := dk_180 0 37 (dk_at dksX5_readParent_2 12 rfl rfl)
theorem dX5_readParent_59 : decode cX5_readParent 59 = .ok (.iconst 0, 1) := dk_3 (dk_at dksX5_readParent_2 15 rfl rfl)
theorem dX5_readParent_60 : decode cX5_readParent 60 = .ok (.iaload, 1) := dk_46 (dk_at dksX5_readParent_2 16 rfl rfl)
theorem dX5_readParent_61 : decode cX5_readParent 61 = .ok (.invokevirtual 209, 3) := dk_182 0 209 (dk_at dksX5_readParent_2 17 rfl rfl)
theorem dX5_readParent_64 : decode cX5_readParent 64 = .ok (.ifCond .ne 5, 3) := dk_154 0 5 (dk_at dksX5_readParent_2 20 rfl rfl)
theorem dX5_readParent_67 : decode cX5_readParent 67 = .ok (.iconst 0, 1) := dk_3 (dk_at dksX5_readParent_2 23 rfl rfl)
theorem dX5_readParent_68 : decode cX5_readParent 68 = .ok (.ireturn, 1) := dk_172 (dk_at dksX5_readParent_3 0 rfl rfl)
theorem dX5_readParent_69 : decode cX5_readParent 69 = .ok (.aload_n 0, 1) := dk_42 (dk_at dksX5_readParent_3 1 rfl rfl)
theorem dX5_readParent_70 : decode cX5_readParent 70 = .ok (.getfield 37, 3) := dk_180 0 37 (dk_at dksX5_readParent_3 2 rfl rfl)
theorem dX5_readParent_73 : decode cX5_readParent 73 = .ok (.iconst 3, 1) := dk_6 (dk_at dksX5_readParent_3 5 rfl rfl)
theorem dX5_readParent_74 : decode cX5_readParent 74 = .ok (.aload_n 0, 1) := dk_42 (dk_at dksX5_readParent_3 6 rfl rfl)
theorem dX5_readParent_75 : decode cX5_readParent 75 = .ok (.getfield 194, 3) := dk_180 0 194 (dk_at dksX5_readParent_3 7 rfl rfl)
theorem dX5_readParent_78 : decode cX5_readParent 78 = .ok (.iadd, 1) := dk_96 (dk_at dksX5_readParent_3 10 rfl rfl)
theorem dX5_readParent_79 : decode cX5_readParent 79 = .ok (.iaload, 1) := dk_46 (dk_at dksX5_readParent_3 11 rfl rfl)
theorem dX5_readParent_80 : decode cX5_readParent 80 = .ok (.aload_n 0, 1) := dk_42 (dk_at dksX5_readParent_3 12 rfl rfl)
theorem dX5_readParent_81 : decode cX5_readParent 81 = .ok (.getfield 37, 3) := dk_180 0 37 (dk_at dksX5_readParent_3 13 rfl rfl)
theorem dX5_readParent_84 : decode cX5_readParent 84 = .ok (.iconst 3, 1) := dk_6 (dk_at dksX5_readParent_3 16 rfl rfl)
theorem dX5_readParent_85 : decode cX5_readParent 85 = .ok (.iload_n 1, 1) := dk_27 (dk_at dksX5_readParent_3 17 rfl rfl)
theorem dX5_readParent_86 : decode cX5_readParent 86 = .ok (.iadd, 1) := dk_96 (dk_at dksX5_readParent_3 18 rfl rfl)
theorem dX5_readParent_87 : decode cX5_readParent 87 = .ok (.iaload, 1) := dk_46 (dk_at dksX5_readParent_3 19 rfl rfl)
theorem dX5_readParent_88 : decode cX5_readParent 88 = .ok (.if_icmp .ge 22, 3) := dk_162 0 22 (dk_at dksX5_readParent_3 20 rfl rfl)
theorem dX5_readParent_91 : decode cX5_readParent 91 = .ok (.aload_n 0, 1) := dk_42 (dk_at dksX5_readParent_3 23 rfl rfl)
theorem dX5_readParent_92 : decode cX5_readParent 92 = .ok (.getfield 37, 3) := dk_180 0 37 (dk_at dksX5_readParent_4 0 rfl rfl)
theorem dX5_readParent_95 : decode cX5_readParent 95 = .ok (.bipush 27, 2) := dk_16 27 (dk_at dksX5_readParent_4 3 rfl rfl)
theorem dX5_readParent_97 : decode cX5_readParent 97 = .ok (.iload_n 1, 1) := dk_27 (dk_at dksX5_readParent_4 5 rfl rfl)
theorem dX5_readParent_98 : decode cX5_readParent 98 = .ok (.iadd, 1) := dk_96 (dk_at dksX5_readParent_4 6 rfl rfl)
theorem dX5_readParent_99 : decode cX5_readParent 99 = .ok (.iaload, 1) := dk_46 (dk_at dksX5_readParent_4 7 rfl rfl)
theorem dX5_readParent_100 : decode cX5_readParent 100 = .ok (.aload_n 0, 1) := dk_42 (dk_at dksX5_readParent_4 8 rfl rfl)
theorem dX5_readParent_101 : decode cX5_readParent 101 = .ok (.getfield 194, 3) := dk_180 0 194 (dk_at dksX5_readParent_4 9 rfl rfl)
theorem dX5_readParent_104 : decode cX5_readParent 104 = .ok (.invokestatic 242, 3) := dk_184 0 242 (dk_at dksX5_readParent_4 12 rfl rfl)
theorem dX5_readParent_107 : decode cX5_readParent 107 = .ok (.ifCond .eq 9, 3) := dk_153 0 9 (dk_at dksX5_readParent_4 15 rfl rfl)
theorem dX5_readParent_110 : decode cX5_readParent 110 = .ok (.aload_n 0, 1) := dk_42 (dk_at dksX5_readParent_4 18 rfl rfl)
theorem dX5_readParent_111 : decode cX5_readParent 111 = .ok (.iconst 3, 1) := dk_6 (dk_at dksX5_readParent_4 19 rfl rfl)
theorem dX5_readParent_112 : decode cX5_readParent 112 = .ok (.invokevirtual 184, 3) := dk_182 0 184 (dk_at dksX5_readParent_4 20 rfl rfl)
theorem dX5_readParent_115 : decode cX5_readParent 115 = .ok (.ireturn, 1) := dk_172 (dk_at dksX5_readParent_4 23 rfl rfl)
theorem dX5_readParent_116 : decode cX5_readParent 116 = .ok (.aload_n 0, 1) := dk_42 (dk_at dksX5_readParent_5 0 rfl rfl)
theorem dX5_readParent_117 : decode cX5_readParent 117 = .ok (.getfield 37, 3) := dk_180 0 37 (dk_at dksX5_readParent_5 1 rfl rfl)
theorem dX5_readParent_120 : decode cX5_readParent 120 = .ok (.bipush 27, 2) := dk_16 27 (dk_at dksX5_readParent_5 4 rfl rfl)
theorem dX5_readParent_122 : decode cX5_readParent 122 = .ok (.iload_n 1, 1) := dk_27 (dk_at dksX5_readParent_5 6 rfl rfl)
theorem dX5_readParent_123 : decode cX5_readParent 123 = .ok (.iadd, 1) := dk_96 (dk_at dksX5_readParent_5 7 rfl rfl)
theorem dX5_readParent_124 : decode cX5_readParent 124 = .ok (.dup2, 1) := dk_92 (dk_at dksX5_readParent_5 8 rfl rfl)
theorem dX5_readParent_125 : decode cX5_readParent 125 = .ok (.iaload, 1) := dk_46 (dk_at dksX5_readParent_5 9 rfl rfl)
theorem dX5_readParent_126 : decode cX5_readParent 126 = .ok (.iconst 1, 1) := dk_4 (dk_at dksX5_readParent_5 10 rfl rfl)
theorem dX5_readParent_127 : decode cX5_readParent 127 = .ok (.aload_n 0, 1) := dk_42 (dk_at dksX5_readParent_5 11 rfl rfl)
theorem dX5_readParent_128 : decode cX5_readParent 128 = .ok (.getfield 194, 3) := dk_180 0 194 (dk_at dksX5_readParent_5 12 rfl rfl)
theorem dX5_readParent_131 : decode cX5_readParent 131 = .ok (.ishl, 1) := dk_120 (dk_at dksX5_readParent_5 15 rfl rfl)
theorem dX5_readParent_132 : decode cX5_readParent 132 = .ok (.ior, 1) := dk_128 (dk_at dksX5_readParent_5 16 rfl rfl)
theorem dX5_readParent_133 : decode cX5_readParent 133 = .ok (.iastore, 1) := dk_79 (dk_at dksX5_readParent_5 17 rfl rfl)
theorem dX5_readParent_134 : decode cX5_readParent 134 = .ok (.aload_n 0, 1) := dk_42 (dk_at dksX5_readParent_5 18 rfl rfl)
theorem dX5_readParent_135 : decode cX5_readParent 135 = .ok (.getfield 37, 3) := dk_180 0 37 (dk_at dksX5_readParent_5 19 rfl rfl)
theorem dX5_readParent_138 : decode cX5_readParent 138 = .ok (.iconst 1, 1) := dk_4 (dk_at dksX5_readParent_5 22 rfl rfl)
theorem dX5_readParent_139 : decode cX5_readParent 139 = .ok (.dup2, 1) := dk_92 (dk_at dksX5_readParent_5 23 rfl rfl)
theorem dX5_readParent_140 : decode cX5_readParent 140 = .ok (.iaload, 1) := dk_46 (dk_at dksX5_readParent_6 0 rfl rfl)
theorem dX5_readParent_141 : decode cX5_readParent 141 = .ok (.iconst 1, 1) := dk_4 (dk_at dksX5_readParent_6 1 rfl rfl)
theorem dX5_readParent_142 : decode cX5_readParent 142 = .ok (.iadd, 1) := dk_96 (dk_at dksX5_readParent_6 2 rfl rfl)
theorem dX5_readParent_143 : decode cX5_readParent 143 = .ok (.iastore, 1) := dk_79 (dk_at dksX5_readParent_6 3 rfl rfl)
theorem dX5_readParent_144 : decode cX5_readParent 144 = .ok (.aload_n 0, 1) := dk_42 (dk_at dksX5_readParent_6 4 rfl rfl)
theorem dX5_readParent_145 : decode cX5_readParent 145 = .ok (.invokevirtual 187, 3) := dk_182 0 187 (dk_at dksX5_readParent_6 5 rfl rfl)
theorem dX5_readParent_148 : decode cX5_readParent 148 = .ok (.iconst 1, 1) := dk_4 (dk_at dksX5_readParent_6 8 rfl rfl)
theorem dX5_readParent_149 : decode cX5_readParent 149 = .ok (.ireturn, 1) := dk_172 (dk_at dksX5_readParent_6 9 rfl rfl)
abbrev cX5_looksAt : ByteArray := prog_29_method_27_code
def yX5_looksAt : MethodName := ⟨RX5, "looksAt", "(II)Z"⟩
def dkwX5_looksAt_1 : List UInt8 := [180, 0, 194, 156, 0, 11, 42, 6, 182, 0, 184, 153, 0, 7, 4, 167, 0, 4, 3, 172]
abbrev dktX5_looksAt_1 : List UInt8 := dkwX5_looksAt_1 ++ []
def dkwX5_looksAt_0 : List UInt8 := [42, 182, 0, 201, 154, 0, 9, 42, 4, 182, 0, 184, 172, 42, 42, 27, 28, 182, 0, 205, 181, 0, 194, 42]
abbrev dktX5_looksAt_0 : List UInt8 := dkwX5_looksAt_0 ++ dktX5_looksAt_1
theorem dksX5_looksAt_0 : cX5_looksAt.data.toList.drop 0 = dktX5_looksAt_0 := by decide +kernel
theorem dksX5_looksAt_1 : cX5_looksAt.data.toList.drop 24 = dktX5_looksAt_1 := dk_seg dksX5_looksAt_0 24 rfl rfl
theorem dX5_looksAt_0 : decode cX5_looksAt 0 = .ok (.aload_n 0, 1) := dk_42 (dk_at dksX5_looksAt_0 0 rfl rfl)
theorem dX5_looksAt_1 : decode cX5_looksAt 1 = .ok (.invokevirtual 201, 3) := dk_182 0 201 (dk_at dksX5_looksAt_0 1 rfl rfl)
theorem dX5_looksAt_4 : decode cX5_looksAt 4 = .ok (.ifCond .ne 9, 3) := dk_154 0 9 (dk_at dksX5_looksAt_0 4 rfl rfl)
theorem dX5_looksAt_7 : decode cX5_looksAt 7 = .ok (.aload_n 0, 1) := dk_42 (dk_at dksX5_looksAt_0 7 rfl rfl)
theorem dX5_looksAt_8 : decode cX5_looksAt 8 = .ok (.iconst 1, 1) := dk_4 (dk_at dksX5_looksAt_0 8 rfl rfl)
theorem dX5_looksAt_9 : decode cX5_looksAt 9 = .ok (.invokevirtual 184, 3) := dk_182 0 184 (dk_at dksX5_looksAt_0 9 rfl rfl)
theorem dX5_looksAt_12 : decode cX5_looksAt 12 = .ok (.ireturn, 1) := dk_172 (dk_at dksX5_looksAt_0 12 rfl rfl)
theorem dX5_looksAt_13 : decode cX5_looksAt 13 = .ok (.aload_n 0, 1) := dk_42 (dk_at dksX5_looksAt_0 13 rfl rfl)
theorem dX5_looksAt_14 : decode cX5_looksAt 14 = .ok (.aload_n 0, 1) := dk_42 (dk_at dksX5_looksAt_0 14 rfl rfl)
theorem dX5_looksAt_15 : decode cX5_looksAt 15 = .ok (.iload_n 1, 1) := dk_27 (dk_at dksX5_looksAt_0 15 rfl rfl)
theorem dX5_looksAt_16 : decode cX5_looksAt 16 = .ok (.iload_n 2, 1) := dk_28 (dk_at dksX5_looksAt_0 16 rfl rfl)
theorem dX5_looksAt_17 : decode cX5_looksAt 17 = .ok (.invokevirtual 205, 3) := dk_182 0 205 (dk_at dksX5_looksAt_0 17 rfl rfl)
theorem dX5_looksAt_20 : decode cX5_looksAt 20 = .ok (.putfield 194, 3) := dk_181 0 194 (dk_at dksX5_looksAt_0 20 rfl rfl)
theorem dX5_looksAt_23 : decode cX5_looksAt 23 = .ok (.aload_n 0, 1) := dk_42 (dk_at dksX5_looksAt_0 23 rfl rfl)
theorem dX5_looksAt_24 : decode cX5_looksAt 24 = .ok (.getfield 194, 3) := dk_180 0 194 (dk_at dksX5_looksAt_1 0 rfl rfl)
theorem dX5_looksAt_27 : decode cX5_looksAt 27 = .ok (.ifCond .ge 11, 3) := dk_156 0 11 (dk_at dksX5_looksAt_1 3 rfl rfl)
theorem dX5_looksAt_30 : decode cX5_looksAt 30 = .ok (.aload_n 0, 1) := dk_42 (dk_at dksX5_looksAt_1 6 rfl rfl)
theorem dX5_looksAt_31 : decode cX5_looksAt 31 = .ok (.iconst 3, 1) := dk_6 (dk_at dksX5_looksAt_1 7 rfl rfl)
theorem dX5_looksAt_32 : decode cX5_looksAt 32 = .ok (.invokevirtual 184, 3) := dk_182 0 184 (dk_at dksX5_looksAt_1 8 rfl rfl)
theorem dX5_looksAt_35 : decode cX5_looksAt 35 = .ok (.ifCond .eq 7, 3) := dk_153 0 7 (dk_at dksX5_looksAt_1 11 rfl rfl)
theorem dX5_looksAt_38 : decode cX5_looksAt 38 = .ok (.iconst 1, 1) := dk_4 (dk_at dksX5_looksAt_1 14 rfl rfl)
theorem dX5_looksAt_39 : decode cX5_looksAt 39 = .ok (.goto 4, 3) := dk_167 0 4 (dk_at dksX5_looksAt_1 15 rfl rfl)
theorem dX5_looksAt_42 : decode cX5_looksAt 42 = .ok (.iconst 0, 1) := dk_3 (dk_at dksX5_looksAt_1 18 rfl rfl)
theorem dX5_looksAt_43 : decode cX5_looksAt 43 = .ok (.ireturn, 1) := dk_172 (dk_at dksX5_looksAt_1 19 rfl rfl)
abbrev cX5_bits : ByteArray := prog_29_method_11_code
def yX5_bits : MethodName := ⟨RX5, "bits", "(I)I"⟩
def dkwX5_bits_0 : List UInt8 := [3, 60, 26, 61, 28, 153, 0, 15, 132, 1, 1, 28, 28, 4, 100, 126, 61, 167, 255, 243, 27, 172]
abbrev dktX5_bits_0 : List UInt8 := dkwX5_bits_0 ++ []
theorem dksX5_bits_0 : cX5_bits.data.toList.drop 0 = dktX5_bits_0 := by decide +kernel
theorem dX5_bits_0 : decode cX5_bits 0 = .ok (.iconst 0, 1) := dk_3 (dk_at dksX5_bits_0 0 rfl rfl)
theorem dX5_bits_1 : decode cX5_bits 1 = .ok (.istore_n 1, 1) := dk_60 (dk_at dksX5_bits_0 1 rfl rfl)
theorem dX5_bits_2 : decode cX5_bits 2 = .ok (.iload_n 0, 1) := dk_26 (dk_at dksX5_bits_0 2 rfl rfl)
theorem dX5_bits_3 : decode cX5_bits 3 = .ok (.istore_n 2, 1) := dk_61 (dk_at dksX5_bits_0 3 rfl rfl)
theorem dX5_bits_4 : decode cX5_bits 4 = .ok (.iload_n 2, 1) := dk_28 (dk_at dksX5_bits_0 4 rfl rfl)
theorem dX5_bits_5 : decode cX5_bits 5 = .ok (.ifCond .eq 15, 3) := dk_153 0 15 (dk_at dksX5_bits_0 5 rfl rfl)
theorem dX5_bits_8 : decode cX5_bits 8 = .ok (.iinc 1 1, 3) := dk_132 1 1 (dk_at dksX5_bits_0 8 rfl rfl)
theorem dX5_bits_11 : decode cX5_bits 11 = .ok (.iload_n 2, 1) := dk_28 (dk_at dksX5_bits_0 11 rfl rfl)
theorem dX5_bits_12 : decode cX5_bits 12 = .ok (.iload_n 2, 1) := dk_28 (dk_at dksX5_bits_0 12 rfl rfl)
theorem dX5_bits_13 : decode cX5_bits 13 = .ok (.iconst 1, 1) := dk_4 (dk_at dksX5_bits_0 13 rfl rfl)
theorem dX5_bits_14 : decode cX5_bits 14 = .ok (.isub, 1) := dk_100 (dk_at dksX5_bits_0 14 rfl rfl)
theorem dX5_bits_15 : decode cX5_bits 15 = .ok (.iand, 1) := dk_126 (dk_at dksX5_bits_0 15 rfl rfl)
theorem dX5_bits_16 : decode cX5_bits 16 = .ok (.istore_n 2, 1) := dk_61 (dk_at dksX5_bits_0 16 rfl rfl)
theorem dX5_bits_17 : decode cX5_bits 17 = .ok (.goto (-13), 3) := dk_167 255 243 (dk_at dksX5_bits_0 17 rfl rfl)
theorem dX5_bits_20 : decode cX5_bits 20 = .ok (.iload_n 1, 1) := dk_27 (dk_at dksX5_bits_0 20 rfl rfl)
theorem dX5_bits_21 : decode cX5_bits 21 = .ok (.ireturn, 1) := dk_172 (dk_at dksX5_bits_0 21 rfl rfl)
abbrev cX5_bitOf : ByteArray := prog_29_method_8_code
def yX5_bitOf : MethodName := ⟨RX5, "bitOf", "(II)Z"⟩
def dkwX5_bitOf_0 : List UInt8 := [26, 27, 122, 4, 126, 4, 160, 0, 7, 4, 167, 0, 4, 3, 172]
abbrev dktX5_bitOf_0 : List UInt8 := dkwX5_bitOf_0 ++ []
theorem dksX5_bitOf_0 : cX5_bitOf.data.toList.drop 0 = dktX5_bitOf_0 := by decide +kernel
theorem dX5_bitOf_0 : decode cX5_bitOf 0 = .ok (.iload_n 0, 1) := dk_26 (dk_at dksX5_bitOf_0 0 rfl rfl)
theorem dX5_bitOf_1 : decode cX5_bitOf 1 = .ok (.iload_n 1, 1) := dk_27 (dk_at dksX5_bitOf_0 1 rfl rfl)
theorem dX5_bitOf_2 : decode cX5_bitOf 2 = .ok (.ishr, 1) := dk_122 (dk_at dksX5_bitOf_0 2 rfl rfl)
theorem dX5_bitOf_3 : decode cX5_bitOf 3 = .ok (.iconst 1, 1) := dk_4 (dk_at dksX5_bitOf_0 3 rfl rfl)
theorem dX5_bitOf_4 : decode cX5_bitOf 4 = .ok (.iand, 1) := dk_126 (dk_at dksX5_bitOf_0 4 rfl rfl)
theorem dX5_bitOf_5 : decode cX5_bitOf 5 = .ok (.iconst 1, 1) := dk_4 (dk_at dksX5_bitOf_0 5 rfl rfl)
theorem dX5_bitOf_6 : decode cX5_bitOf 6 = .ok (.if_icmp .ne 7, 3) := dk_160 0 7 (dk_at dksX5_bitOf_0 6 rfl rfl)
theorem dX5_bitOf_9 : decode cX5_bitOf 9 = .ok (.iconst 1, 1) := dk_4 (dk_at dksX5_bitOf_0 9 rfl rfl)
theorem dX5_bitOf_10 : decode cX5_bitOf 10 = .ok (.goto 4, 3) := dk_167 0 4 (dk_at dksX5_bitOf_0 10 rfl rfl)
theorem dX5_bitOf_13 : decode cX5_bitOf 13 = .ok (.iconst 0, 1) := dk_3 (dk_at dksX5_bitOf_0 13 rfl rfl)
theorem dX5_bitOf_14 : decode cX5_bitOf 14 = .ok (.ireturn, 1) := dk_172 (dk_at dksX5_bitOf_0 14 rfl rfl)
abbrev cX5_readWed : ByteArray := prog_29_method_33_code
def yX5_readWed : MethodName := ⟨RX5, "readWed", "()Z"⟩
def dkwX5_readWed_5 : List UInt8 := [180, 0, 194, 96, 27, 4, 96, 79, 42, 182, 0, 187, 4, 172]
abbrev dktX5_readWed_5 : List UInt8 := dkwX5_readWed_5 ++ []
def dkwX5_readWed_4 : List UInt8 := [172, 42, 180, 0, 37, 16, 39, 27, 96, 42, 180, 0, 194, 4, 96, 79, 42, 180, 0, 37, 16, 39, 42]
abbrev dktX5_readWed_4 : List UInt8 := dkwX5_readWed_4 ++ dktX5_readWed_5
def dkwX5_readWed_3 : List UInt8 := [27, 159, 0, 18, 42, 180, 0, 37, 16, 39, 42, 180, 0, 194, 96, 46, 158, 0, 9, 42, 6, 182, 0, 184]
abbrev dktX5_readWed_3 : List UInt8 := dkwX5_readWed_3 ++ dktX5_readWed_4
def dkwX5_readWed_2 : List UInt8 := [182, 0, 187, 42, 16, 12, 42, 180, 0, 37, 3, 46, 182, 0, 209, 154, 0, 5, 3, 172, 42, 180, 0, 194]
abbrev dktX5_readWed_2 : List UInt8 := dkwX5_readWed_2 ++ dktX5_readWed_3
def dkwX5_readWed_1 : List UInt8 := [180, 0, 194, 60, 42, 180, 0, 37, 16, 39, 27, 96, 46, 158, 0, 9, 42, 6, 182, 0, 184, 172, 42]
abbrev dktX5_readWed_1 : List UInt8 := dkwX5_readWed_1 ++ dktX5_readWed_2
def dkwX5_readWed_0 : List UInt8 := [42, 182, 0, 187, 42, 16, 12, 42, 180, 0, 37, 3, 46, 182, 0, 209, 154, 0, 5, 3, 172, 42]
abbrev dktX5_readWed_0 : List UInt8 := dkwX5_readWed_0 ++ dktX5_readWed_1
theorem dksX5_readWed_0 : cX5_readWed.data.toList.drop 0 = dktX5_readWed_0 := by decide +kernel
theorem dksX5_readWed_1 : cX5_readWed.data.toList.drop 22 = dktX5_readWed_1 := dk_seg dksX5_readWed_0 22 rfl rfl
theorem dksX5_readWed_2 : cX5_readWed.data.toList.drop 45 = dktX5_readWed_2 := dk_seg dksX5_readWed_1 23 rfl rfl
theorem dksX5_readWed_3 : cX5_readWed.data.toList.drop 69 = dktX5_readWed_3 := dk_seg dksX5_readWed_2 24 rfl rfl
theorem dksX5_readWed_4 : cX5_readWed.data.toList.drop 93 = dktX5_readWed_4 := dk_seg dksX5_readWed_3 24 rfl rfl
theorem dksX5_readWed_5 : cX5_readWed.data.toList.drop 116 = dktX5_readWed_5 := dk_seg dksX5_readWed_4 23 rfl rfl
theorem dX5_readWed_0 : decode cX5_readWed 0 = .ok (.aload_n 0, 1) := dk_42 (dk_at dksX5_readWed_0 0 rfl rfl)
theorem dX5_readWed_1 : decode cX5_readWed 1 = .ok (.invokevirtual 187, 3) := dk_182 0 187 (dk_at dksX5_readWed_0 1 rfl rfl)
theorem dX5_readWed_4 : decode cX5_readWed 4 = .ok (.aload_n 0, 1) := dk_42 (dk_at dksX5_readWed_0 4 rfl rfl)
theorem dX5_readWed_5 : decode cX5_readWed 5 = .ok (.bipush 12, 2) := dk_16 12 (dk_at dksX5_readWed_0 5 rfl rfl)
theorem dX5_readWed_7 : decode cX5_readWed 7 = .ok (.aload_n 0, 1) := dk_42 (dk_at dksX5_readWed_0 7 rfl rfl)
theorem dX5_readWed_8 : decode cX5_readWed 8 = .ok (.getfield 37, 3) := dk_180 0 37 (dk_at dksX5_readWed_0 8 rfl rfl)
theorem dX5_readWed_11 : decode cX5_readWed 11 = .ok (.iconst 0, 1) := dk_3 (dk_at dksX5_readWed_0 11 rfl rfl)
theorem dX5_readWed_12 : decode cX5_readWed 12 = .ok (.iaload, 1) := dk_46 (dk_at dksX5_readWed_0 12 rfl rfl)
theorem dX5_readWed_13 : decode cX5_readWed 13 = .ok (.invokevirtual 209, 3) := dk_182 0 209 (dk_at dksX5_readWed_0 13 rfl rfl)
theorem dX5_readWed_16 : decode cX5_readWed 16 = .ok (.ifCond .ne 5, 3) := dk_154 0 5 (dk_at dksX5_readWed_0 16 rfl rfl)
theorem dX5_readWed_19 : decode cX5_readWed 19 = .ok (.iconst 0, 1) := dk_3 (dk_at dksX5_readWed_0 19 rfl rfl)
theorem dX5_readWed_20 : decode cX5_readWed 20 = .ok (.ireturn, 1) := dk_172 (dk_at dksX5_readWed_0 20 rfl rfl)
theorem dX5_readWed_21 : decode cX5_readWed 21 = .ok (.aload_n 0, 1) := dk_42 (dk_at dksX5_readWed_0 21 rfl rfl)
theorem dX5_readWed_22 : decode cX5_readWed 22 = .ok (.getfield 194, 3) := dk_180 0 194 (dk_at dksX5_readWed_1 0 rfl rfl)
theorem dX5_readWed_25 : decode cX5_readWed 25 = .ok (.istore_n 1, 1) := dk_60 (dk_at dksX5_readWed_1 3 rfl rfl)
theorem dX5_readWed_26 : decode cX5_readWed 26 = .ok (.aload_n 0, 1) := dk_42 (dk_at dksX5_readWed_1 4 rfl rfl)
theorem dX5_readWed_27 : decode cX5_readWed 27 = .ok (.getfield 37, 3) := dk_180 0 37 (dk_at dksX5_readWed_1 5 rfl rfl)
theorem dX5_readWed_30 : decode cX5_readWed 30 = .ok (.bipush 39, 2) := dk_16 39 (dk_at dksX5_readWed_1 8 rfl rfl)
theorem dX5_readWed_32 : decode cX5_readWed 32 = .ok (.iload_n 1, 1) := dk_27 (dk_at dksX5_readWed_1 10 rfl rfl)
theorem dX5_readWed_33 : decode cX5_readWed 33 = .ok (.iadd, 1) := dk_96 (dk_at dksX5_readWed_1 11 rfl rfl)
theorem dX5_readWed_34 : decode cX5_readWed 34 = .ok (.iaload, 1) := dk_46 (dk_at dksX5_readWed_1 12 rfl rfl)
theorem dX5_readWed_35 : decode cX5_readWed 35 = .ok (.ifCond .le 9, 3) := dk_158 0 9 (dk_at dksX5_readWed_1 13 rfl rfl)
theorem dX5_readWed_38 : decode cX5_readWed 38 = .ok (.aload_n 0, 1) := dk_42 (dk_at dksX5_readWed_1 16 rfl rfl)
theorem dX5_readWed_39 : decode cX5_readWed 39 = .ok (.iconst 3, 1) := dk_6 (dk_at dksX5_readWed_1 17 rfl rfl)
theorem dX5_readWed_40 : decode cX5_readWed 40 = .ok (.invokevirtual 184, 3) := dk_182 0 184 (dk_at dksX5_readWed_1 18 rfl rfl)
theorem dX5_readWed_43 : decode cX5_readWed 43 = .ok (.ireturn, 1) := dk_172 (dk_at dksX5_readWed_1 21 rfl rfl)
theorem dX5_readWed_44 : decode cX5_readWed 44 = .ok (.aload_n 0, 1) := dk_42 (dk_at dksX5_readWed_1 22 rfl rfl)
theorem dX5_readWed_45 : decode cX5_readWed 45 = .ok (.invokevirtual 187, 3) := dk_182 0 187 (dk_at dksX5_readWed_2 0 rfl rfl)
theorem dX5_readWed_48 : decode cX5_readWed 48 = .ok (.aload_n 0, 1) := dk_42 (dk_at dksX5_readWed_2 3 rfl rfl)
theorem dX5_readWed_49 : decode cX5_readWed 49 = .ok (.bipush 12, 2) := dk_16 12 (dk_at dksX5_readWed_2 4 rfl rfl)
theorem dX5_readWed_51 : decode cX5_readWed 51 = .ok (.aload_n 0, 1) := dk_42 (dk_at dksX5_readWed_2 6 rfl rfl)
theorem dX5_readWed_52 : decode cX5_readWed 52 = .ok (.getfield 37, 3) := dk_180 0 37 (dk_at dksX5_readWed_2 7 rfl rfl)
theorem dX5_readWed_55 : decode cX5_readWed 55 = .ok (.iconst 0, 1) := dk_3 (dk_at dksX5_readWed_2 10 rfl rfl)
theorem dX5_readWed_56 : decode cX5_readWed 56 = .ok (.iaload, 1) := dk_46 (dk_at dksX5_readWed_2 11 rfl rfl)
theorem dX5_readWed_57 : decode cX5_readWed 57 = .ok (.invokevirtual 209, 3) := dk_182 0 209 (dk_at dksX5_readWed_2 12 rfl rfl)
theorem dX5_readWed_60 : decode cX5_readWed 60 = .ok (.ifCond .ne 5, 3) := dk_154 0 5 (dk_at dksX5_readWed_2 15 rfl rfl)
theorem dX5_readWed_63 : decode cX5_readWed 63 = .ok (.iconst 0, 1) := dk_3 (dk_at dksX5_readWed_2 18 rfl rfl)
theorem dX5_readWed_64 : decode cX5_readWed 64 = .ok (.ireturn, 1) := dk_172 (dk_at dksX5_readWed_2 19 rfl rfl)
theorem dX5_readWed_65 : decode cX5_readWed 65 = .ok (.aload_n 0, 1) := dk_42 (dk_at dksX5_readWed_2 20 rfl rfl)
theorem dX5_readWed_66 : decode cX5_readWed 66 = .ok (.getfield 194, 3) := dk_180 0 194 (dk_at dksX5_readWed_2 21 rfl rfl)
theorem dX5_readWed_69 : decode cX5_readWed 69 = .ok (.iload_n 1, 1) := dk_27 (dk_at dksX5_readWed_3 0 rfl rfl)
theorem dX5_readWed_70 : decode cX5_readWed 70 = .ok (.if_icmp .eq 18, 3) := dk_159 0 18 (dk_at dksX5_readWed_3 1 rfl rfl)
theorem dX5_readWed_73 : decode cX5_readWed 73 = .ok (.aload_n 0, 1) := dk_42 (dk_at dksX5_readWed_3 4 rfl rfl)
theorem dX5_readWed_74 : decode cX5_readWed 74 = .ok (.getfield 37, 3) := dk_180 0 37 (dk_at dksX5_readWed_3 5 rfl rfl)
theorem dX5_readWed_77 : decode cX5_readWed 77 = .ok (.bipush 39, 2) := dk_16 39 (dk_at dksX5_readWed_3 8 rfl rfl)
theorem dX5_readWed_79 : decode cX5_readWed 79 = .ok (.aload_n 0, 1) := dk_42 (dk_at dksX5_readWed_3 10 rfl rfl)
theorem dX5_readWed_80 : decode cX5_readWed 80 = .ok (.getfield 194, 3) := dk_180 0 194 (dk_at dksX5_readWed_3 11 rfl rfl)
theorem dX5_readWed_83 : decode cX5_readWed 83 = .ok (.iadd, 1) := dk_96 (dk_at dksX5_readWed_3 14 rfl rfl)
theorem dX5_readWed_84 : decode cX5_readWed 84 = .ok (.iaload, 1) := dk_46 (dk_at dksX5_readWed_3 15 rfl rfl)
theorem dX5_readWed_85 : decode cX5_readWed 85 = .ok (.ifCond .le 9, 3) := dk_158 0 9 (dk_at dksX5_readWed_3 16 rfl rfl)
theorem dX5_readWed_88 : decode cX5_readWed 88 = .ok (.aload_n 0, 1) := dk_42 (dk_at dksX5_readWed_3 19 rfl rfl)
theorem dX5_readWed_89 : decode cX5_readWed 89 = .ok (.iconst 3, 1) := dk_6 (dk_at dksX5_readWed_3 20 rfl rfl)
theorem dX5_readWed_90 : decode cX5_readWed 90 = .ok (.invokevirtual 184, 3) := dk_182 0 184 (dk_at dksX5_readWed_3 21 rfl rfl)
theorem dX5_readWed_93 : decode cX5_readWed 93 = .ok (.ireturn, 1) := dk_172 (dk_at dksX5_readWed_4 0 rfl rfl)
theorem dX5_readWed_94 : decode cX5_readWed 94 = .ok (.aload_n 0, 1) := dk_42 (dk_at dksX5_readWed_4 1 rfl rfl)
theorem dX5_readWed_95 : decode cX5_readWed 95 = .ok (.getfield 37, 3) := dk_180 0 37 (dk_at dksX5_readWed_4 2 rfl rfl)
theorem dX5_readWed_98 : decode cX5_readWed 98 = .ok (.bipush 39, 2) := dk_16 39 (dk_at dksX5_readWed_4 5 rfl rfl)
theorem dX5_readWed_100 : decode cX5_readWed 100 = .ok (.iload_n 1, 1) := dk_27 (dk_at dksX5_readWed_4 7 rfl rfl)
theorem dX5_readWed_101 : decode cX5_readWed 101 = .ok (.iadd, 1) := dk_96 (dk_at dksX5_readWed_4 8 rfl rfl)
theorem dX5_readWed_102 : decode cX5_readWed 102 = .ok (.aload_n 0, 1) := dk_42 (dk_at dksX5_readWed_4 9 rfl rfl)
theorem dX5_readWed_103 : decode cX5_readWed 103 = .ok (.getfield 194, 3) := dk_180 0 194 (dk_at dksX5_readWed_4 10 rfl rfl)
theorem dX5_readWed_106 : decode cX5_readWed 106 = .ok (.iconst 1, 1) := dk_4 (dk_at dksX5_readWed_4 13 rfl rfl)
theorem dX5_readWed_107 : decode cX5_readWed 107 = .ok (.iadd, 1) := dk_96 (dk_at dksX5_readWed_4 14 rfl rfl)
theorem dX5_readWed_108 : decode cX5_readWed 108 = .ok (.iastore, 1) := dk_79 (dk_at dksX5_readWed_4 15 rfl rfl)
theorem dX5_readWed_109 : decode cX5_readWed 109 = .ok (.aload_n 0, 1) := dk_42 (dk_at dksX5_readWed_4 16 rfl rfl)
theorem dX5_readWed_110 : decode cX5_readWed 110 = .ok (.getfield 37, 3) := dk_180 0 37 (dk_at dksX5_readWed_4 17 rfl rfl)
theorem dX5_readWed_113 : decode cX5_readWed 113 = .ok (.bipush 39, 2) := dk_16 39 (dk_at dksX5_readWed_4 20 rfl rfl)
theorem dX5_readWed_115 : decode cX5_readWed 115 = .ok (.aload_n 0, 1) := dk_42 (dk_at dksX5_readWed_4 22 rfl rfl)
theorem dX5_readWed_116 : decode cX5_readWed 116 = .ok (.getfield 194, 3) := dk_180 0 194 (dk_at dksX5_readWed_5 0 rfl rfl)
theorem dX5_readWed_119 : decode cX5_readWed 119 = .ok (.iadd, 1) := dk_96 (dk_at dksX5_readWed_5 3 rfl rfl)
theorem dX5_readWed_120 : decode cX5_readWed 120 = .ok (.iload_n 1, 1) := dk_27 (dk_at dksX5_readWed_5 4 rfl rfl)
theorem dX5_readWed_121 : decode cX5_readWed 121 = .ok (.iconst 1, 1) := dk_4 (dk_at dksX5_readWed_5 5 rfl rfl)
theorem dX5_readWed_122 : decode cX5_readWed 122 = .ok (.iadd, 1) := dk_96 (dk_at dksX5_readWed_5 6 rfl rfl)
theorem dX5_readWed_123 : decode cX5_readWed 123 = .ok (.iastore, 1) := dk_79 (dk_at dksX5_readWed_5 7 rfl rfl)
theorem dX5_readWed_124 : decode cX5_readWed 124 = .ok (.aload_n 0, 1) := dk_42 (dk_at dksX5_readWed_5 8 rfl rfl)
theorem dX5_readWed_125 : decode cX5_readWed 125 = .ok (.invokevirtual 187, 3) := dk_182 0 187 (dk_at dksX5_readWed_5 9 rfl rfl)
theorem dX5_readWed_128 : decode cX5_readWed 128 = .ok (.iconst 1, 1) := dk_4 (dk_at dksX5_readWed_5 12 rfl rfl)
theorem dX5_readWed_129 : decode cX5_readWed 129 = .ok (.ireturn, 1) := dk_172 (dk_at dksX5_readWed_5 13 rfl rfl)
abbrev cX5_readWill : ByteArray := prog_29_method_34_code
def yX5_readWill : MethodName := ⟨RX5, "readWill", "()Z"⟩
def dkwX5_readWill_4 : List UInt8 := [154, 0, 5, 3, 172, 42, 180, 0, 37, 16, 63, 92, 46, 4, 96, 79, 4, 172]
abbrev dktX5_readWill_4 : List UInt8 := dkwX5_readWill_4 ++ []
def dkwX5_readWill_3 : List UInt8 := [180, 0, 37, 16, 76, 27, 96, 42, 180, 0, 194, 79, 42, 16, 88, 27, 96, 4, 17, 3, 231, 182, 0, 235]
abbrev dktX5_readWill_3 : List UInt8 := dkwX5_readWill_3 ++ dktX5_readWill_4
def dkwX5_readWill_2 : List UInt8 := [96, 42, 180, 0, 194, 79, 42, 16, 12, 42, 180, 0, 37, 3, 46, 182, 0, 248, 154, 0, 5, 3, 172, 42]
abbrev dktX5_readWill_2 : List UInt8 := dkwX5_readWill_2 ++ dktX5_readWill_3
def dkwX5_readWill_1 : List UInt8 := [42, 16, 12, 42, 180, 0, 37, 3, 46, 182, 0, 245, 154, 0, 5, 3, 172, 42, 180, 0, 37, 16, 64, 27]
abbrev dktX5_readWill_1 : List UInt8 := dkwX5_readWill_1 ++ dktX5_readWill_2
def dkwX5_readWill_0 : List UInt8 := [42, 180, 0, 37, 16, 63, 46, 60, 27, 16, 12, 160, 0, 9, 42, 7, 182, 0, 184, 172, 42, 182, 0, 187]
abbrev dktX5_readWill_0 : List UInt8 := dkwX5_readWill_0 ++ dktX5_readWill_1
theorem dksX5_readWill_0 : cX5_readWill.data.toList.drop 0 = dktX5_readWill_0 := by decide +kernel
theorem dksX5_readWill_1 : cX5_readWill.data.toList.drop 24 = dktX5_readWill_1 := dk_seg dksX5_readWill_0 24 rfl rfl
theorem dksX5_readWill_2 : cX5_readWill.data.toList.drop 48 = dktX5_readWill_2 := dk_seg dksX5_readWill_1 24 rfl rfl
theorem dksX5_readWill_3 : cX5_readWill.data.toList.drop 72 = dktX5_readWill_3 := dk_seg dksX5_readWill_2 24 rfl rfl
theorem dksX5_readWill_4 : cX5_readWill.data.toList.drop 96 = dktX5_readWill_4 := dk_seg dksX5_readWill_3 24 rfl rfl
theorem dX5_readWill_0 : decode cX5_readWill 0 = .ok (.aload_n 0, 1) := dk_42 (dk_at dksX5_readWill_0 0 rfl rfl)
theorem dX5_readWill_1 : decode cX5_readWill 1 = .ok (.getfield 37, 3) := dk_180 0 37 (dk_at dksX5_readWill_0 1 rfl rfl)
theorem dX5_readWill_4 : decode cX5_readWill 4 = .ok (.bipush 63, 2) := dk_16 63 (dk_at dksX5_readWill_0 4 rfl rfl)
theorem dX5_readWill_6 : decode cX5_readWill 6 = .ok (.iaload, 1) := dk_46 (dk_at dksX5_readWill_0 6 rfl rfl)
theorem dX5_readWill_7 : decode cX5_readWill 7 = .ok (.istore_n 1, 1) := dk_60 (dk_at dksX5_readWill_0 7 rfl rfl)
theorem dX5_readWill_8 : decode cX5_readWill 8 = .ok (.iload_n 1, 1) := dk_27 (dk_at dksX5_readWill_0 8 rfl rfl)
theorem dX5_readWill_9 : decode cX5_readWill 9 = .ok (.bipush 12, 2) := dk_16 12 (dk_at dksX5_readWill_0 9 rfl rfl)
theorem dX5_readWill_11 : decode cX5_readWill 11 = .ok (.if_icmp .ne 9, 3) := dk_160 0 9 (dk_at dksX5_readWill_0 11 rfl rfl)
theorem dX5_readWill_14 : decode cX5_readWill 14 = .ok (.aload_n 0, 1) := dk_42 (dk_at dksX5_readWill_0 14 rfl rfl)
theorem dX5_readWill_15 : decode cX5_readWill 15 = .ok (.iconst 4, 1) := dk_7 (dk_at dksX5_readWill_0 15 rfl rfl)
theorem dX5_readWill_16 : decode cX5_readWill 16 = .ok (.invokevirtual 184, 3) := dk_182 0 184 (dk_at dksX5_readWill_0 16 rfl rfl)
theorem dX5_readWill_19 : decode cX5_readWill 19 = .ok (.ireturn, 1) := dk_172 (dk_at dksX5_readWill_0 19 rfl rfl)
theorem dX5_readWill_20 : decode cX5_readWill 20 = .ok (.aload_n 0, 1) := dk_42 (dk_at dksX5_readWill_0 20 rfl rfl)
theorem dX5_readWill_21 : decode cX5_readWill 21 = .ok (.invokevirtual 187, 3) := dk_182 0 187 (dk_at dksX5_readWill_0 21 rfl rfl)
theorem dX5_readWill_24 : decode cX5_readWill 24 = .ok (.aload_n 0, 1) := dk_42 (dk_at dksX5_readWill_1 0 rfl rfl)
theorem dX5_readWill_25 : decode cX5_readWill 25 = .ok (.bipush 12, 2) := dk_16 12 (dk_at dksX5_readWill_1 1 rfl rfl)
theorem dX5_readWill_27 : decode cX5_readWill 27 = .ok (.aload_n 0, 1) := dk_42 (dk_at dksX5_readWill_1 3 rfl rfl)
theorem dX5_readWill_28 : decode cX5_readWill 28 = .ok (.getfield 37, 3) := dk_180 0 37 (dk_at dksX5_readWill_1 4 rfl rfl)
theorem dX5_readWill_31 : decode cX5_readWill 31 = .ok (.iconst 0, 1) := dk_3 (dk_at dksX5_readWill_1 7 rfl rfl)
theorem dX5_readWill_32 : decode cX5_readWill 32 = .ok (.iaload, 1) := dk_46 (dk_at dksX5_readWill_1 8 rfl rfl)
theorem dX5_readWill_33 : decode cX5_readWill 33 = .ok (.invokevirtual 245, 3) := dk_182 0 245 (dk_at dksX5_readWill_1 9 rfl rfl)
theorem dX5_readWill_36 : decode cX5_readWill 36 = .ok (.ifCond .ne 5, 3) := dk_154 0 5 (dk_at dksX5_readWill_1 12 rfl rfl)
theorem dX5_readWill_39 : decode cX5_readWill 39 = .ok (.iconst 0, 1) := dk_3 (dk_at dksX5_readWill_1 15 rfl rfl)
theorem dX5_readWill_40 : decode cX5_readWill 40 = .ok (.ireturn, 1) := dk_172 (dk_at dksX5_readWill_1 16 rfl rfl)
theorem dX5_readWill_41 : decode cX5_readWill 41 = .ok (.aload_n 0, 1) := dk_42 (dk_at dksX5_readWill_1 17 rfl rfl)
theorem dX5_readWill_42 : decode cX5_readWill 42 = .ok (.getfield 37, 3) := dk_180 0 37 (dk_at dksX5_readWill_1 18 rfl rfl)
theorem dX5_readWill_45 : decode cX5_readWill 45 = .ok (.bipush 64, 2) := dk_16 64 (dk_at dksX5_readWill_1 21 rfl rfl)
theorem dX5_readWill_47 : decode cX5_readWill 47 = .ok (.iload_n 1, 1) := dk_27 (dk_at dksX5_readWill_1 23 rfl rfl)
theorem dX5_readWill_48 : decode cX5_readWill 48 = .ok (.iadd, 1) := dk_96 (dk_at dksX5_readWill_2 0 rfl rfl)
theorem dX5_readWill_49 : decode cX5_readWill 49 = .ok (.aload_n 0, 1) := dk_42 (dk_at dksX5_readWill_2 1 rfl rfl)
theorem dX5_readWill_50 : decode cX5_readWill 50 = .ok (.getfield 194, 3) := dk_180 0 194 (dk_at dksX5_readWill_2 2 rfl rfl)
theorem dX5_readWill_53 : decode cX5_readWill 53 = .ok (.iastore, 1) := dk_79 (dk_at dksX5_readWill_2 5 rfl rfl)
theorem dX5_readWill_54 : decode cX5_readWill 54 = .ok (.aload_n 0, 1) := dk_42 (dk_at dksX5_readWill_2 6 rfl rfl)
theorem dX5_readWill_55 : decode cX5_readWill 55 = .ok (.bipush 12, 2) := dk_16 12 (dk_at dksX5_readWill_2 7 rfl rfl)
theorem dX5_readWill_57 : decode cX5_readWill 57 = .ok (.aload_n 0, 1) := dk_42 (dk_at dksX5_readWill_2 9 rfl rfl)
theorem dX5_readWill_58 : decode cX5_readWill 58 = .ok (.getfield 37, 3) := dk_180 0 37 (dk_at dksX5_readWill_2 10 rfl rfl)
theorem dX5_readWill_61 : decode cX5_readWill 61 = .ok (.iconst 0, 1) := dk_3 (dk_at dksX5_readWill_2 13 rfl rfl)
theorem dX5_readWill_62 : decode cX5_readWill 62 = .ok (.iaload, 1) := dk_46 (dk_at dksX5_readWill_2 14 rfl rfl)
theorem dX5_readWill_63 : decode cX5_readWill 63 = .ok (.invokevirtual 248, 3) := dk_182 0 248 (dk_at dksX5_readWill_2 15 rfl rfl)
theorem dX5_readWill_66 : decode cX5_readWill 66 = .ok (.ifCond .ne 5, 3) := dk_154 0 5 (dk_at dksX5_readWill_2 18 rfl rfl)
theorem dX5_readWill_69 : decode cX5_readWill 69 = .ok (.iconst 0, 1) := dk_3 (dk_at dksX5_readWill_2 21 rfl rfl)
theorem dX5_readWill_70 : decode cX5_readWill 70 = .ok (.ireturn, 1) := dk_172 (dk_at dksX5_readWill_2 22 rfl rfl)
theorem dX5_readWill_71 : decode cX5_readWill 71 = .ok (.aload_n 0, 1) := dk_42 (dk_at dksX5_readWill_2 23 rfl rfl)
theorem dX5_readWill_72 : decode cX5_readWill 72 = .ok (.getfield 37, 3) := dk_180 0 37 (dk_at dksX5_readWill_3 0 rfl rfl)
theorem dX5_readWill_75 : decode cX5_readWill 75 = .ok (.bipush 76, 2) := dk_16 76 (dk_at dksX5_readWill_3 3 rfl rfl)
theorem dX5_readWill_77 : decode cX5_readWill 77 = .ok (.iload_n 1, 1) := dk_27 (dk_at dksX5_readWill_3 5 rfl rfl)
theorem dX5_readWill_78 : decode cX5_readWill 78 = .ok (.iadd, 1) := dk_96 (dk_at dksX5_readWill_3 6 rfl rfl)
theorem dX5_readWill_79 : decode cX5_readWill 79 = .ok (.aload_n 0, 1) := dk_42 (dk_at dksX5_readWill_3 7 rfl rfl)
theorem dX5_readWill_80 : decode cX5_readWill 80 = .ok (.getfield 194, 3) := dk_180 0 194 (dk_at dksX5_readWill_3 8 rfl rfl)
theorem dX5_readWill_83 : decode cX5_readWill 83 = .ok (.iastore, 1) := dk_79 (dk_at dksX5_readWill_3 11 rfl rfl)
theorem dX5_readWill_84 : decode cX5_readWill 84 = .ok (.aload_n 0, 1) := dk_42 (dk_at dksX5_readWill_3 12 rfl rfl)
theorem dX5_readWill_85 : decode cX5_readWill 85 = .ok (.bipush 88, 2) := dk_16 88 (dk_at dksX5_readWill_3 13 rfl rfl)
theorem dX5_readWill_87 : decode cX5_readWill 87 = .ok (.iload_n 1, 1) := dk_27 (dk_at dksX5_readWill_3 15 rfl rfl)
theorem dX5_readWill_88 : decode cX5_readWill 88 = .ok (.iadd, 1) := dk_96 (dk_at dksX5_readWill_3 16 rfl rfl)
theorem dX5_readWill_89 : decode cX5_readWill 89 = .ok (.iconst 1, 1) := dk_4 (dk_at dksX5_readWill_3 17 rfl rfl)
theorem dX5_readWill_90 : decode cX5_readWill 90 = .ok (.sipush 999, 3) := dk_17 3 231 (dk_at dksX5_readWill_3 18 rfl rfl)
theorem dX5_readWill_93 : decode cX5_readWill 93 = .ok (.invokevirtual 235, 3) := dk_182 0 235 (dk_at dksX5_readWill_3 21 rfl rfl)
theorem dX5_readWill_96 : decode cX5_readWill 96 = .ok (.ifCond .ne 5, 3) := dk_154 0 5 (dk_at dksX5_readWill_4 0 rfl rfl)
theorem dX5_readWill_99 : decode cX5_readWill 99 = .ok (.iconst 0, 1) := dk_3 (dk_at dksX5_readWill_4 3 rfl rfl)
theorem dX5_readWill_100 : decode cX5_readWill 100 = .ok (.ireturn, 1) := dk_172 (dk_at dksX5_readWill_4 4 rfl rfl)
theorem dX5_readWill_101 : decode cX5_readWill 101 = .ok (.aload_n 0, 1) := dk_42 (dk_at dksX5_readWill_4 5 rfl rfl)
theorem dX5_readWill_102 : decode cX5_readWill 102 = .ok (.getfield 37, 3) := dk_180 0 37 (dk_at dksX5_readWill_4 6 rfl rfl)
theorem dX5_readWill_105 : decode cX5_readWill 105 = .ok (.bipush 63, 2) := dk_16 63 (dk_at dksX5_readWill_4 9 rfl rfl)
theorem dX5_readWill_107 : decode cX5_readWill 107 = .ok (.dup2, 1) := dk_92 (dk_at dksX5_readWill_4 11 rfl rfl)
theorem dX5_readWill_108 : decode cX5_readWill 108 = .ok (.iaload, 1) := dk_46 (dk_at dksX5_readWill_4 12 rfl rfl)
theorem dX5_readWill_109 : decode cX5_readWill 109 = .ok (.iconst 1, 1) := dk_4 (dk_at dksX5_readWill_4 13 rfl rfl)
theorem dX5_readWill_110 : decode cX5_readWill 110 = .ok (.iadd, 1) := dk_96 (dk_at dksX5_readWill_4 14 rfl rfl)
theorem dX5_readWill_111 : decode cX5_readWill 111 = .ok (.iastore, 1) := dk_79 (dk_at dksX5_readWill_4 15 rfl rfl)
theorem dX5_readWill_112 : decode cX5_readWill 112 = .ok (.iconst 1, 1) := dk_4 (dk_at dksX5_readWill_4 16 rfl rfl)
theorem dX5_readWill_113 : decode cX5_readWill 113 = .ok (.ireturn, 1) := dk_172 (dk_at dksX5_readWill_4 17 rfl rfl)
abbrev cX5_takesName : ByteArray := prog_29_method_28_code
def yX5_takesName : MethodName := ⟨RX5, "takesName", "(II)Z"⟩
def dkwX5_takesName_0 : List UInt8 := [42, 27, 28, 182, 0, 209, 154, 0, 5, 3, 172, 42, 182, 0, 187, 4, 172]
abbrev dktX5_takesName_0 : List UInt8 := dkwX5_takesName_0 ++ []
theorem dksX5_takesName_0 : cX5_takesName.data.toList.drop 0 = dktX5_takesName_0 := by decide +kernel
theorem dX5_takesName_0 : decode cX5_takesName 0 = .ok (.aload_n 0, 1) := dk_42 (dk_at dksX5_takesName_0 0 rfl rfl)
theorem dX5_takesName_1 : decode cX5_takesName 1 = .ok (.iload_n 1, 1) := dk_27 (dk_at dksX5_takesName_0 1 rfl rfl)
theorem dX5_takesName_2 : decode cX5_takesName 2 = .ok (.iload_n 2, 1) := dk_28 (dk_at dksX5_takesName_0 2 rfl rfl)
theorem dX5_takesName_3 : decode cX5_takesName 3 = .ok (.invokevirtual 209, 3) := dk_182 0 209 (dk_at dksX5_takesName_0 3 rfl rfl)
theorem dX5_takesName_6 : decode cX5_takesName 6 = .ok (.ifCond .ne 5, 3) := dk_154 0 5 (dk_at dksX5_takesName_0 6 rfl rfl)
theorem dX5_takesName_9 : decode cX5_takesName 9 = .ok (.iconst 0, 1) := dk_3 (dk_at dksX5_takesName_0 9 rfl rfl)
theorem dX5_takesName_10 : decode cX5_takesName 10 = .ok (.ireturn, 1) := dk_172 (dk_at dksX5_takesName_0 10 rfl rfl)
theorem dX5_takesName_11 : decode cX5_takesName 11 = .ok (.aload_n 0, 1) := dk_42 (dk_at dksX5_takesName_0 11 rfl rfl)
theorem dX5_takesName_12 : decode cX5_takesName 12 = .ok (.invokevirtual 187, 3) := dk_182 0 187 (dk_at dksX5_takesName_0 12 rfl rfl)
theorem dX5_takesName_15 : decode cX5_takesName 15 = .ok (.iconst 1, 1) := dk_4 (dk_at dksX5_takesName_0 15 rfl rfl)
theorem dX5_takesName_16 : decode cX5_takesName 16 = .ok (.ireturn, 1) := dk_172 (dk_at dksX5_takesName_0 16 rfl rfl)
abbrev cX5_takesOther : ByteArray := prog_29_method_29_code
def yX5_takesOther : MethodName := ⟨RX5, "takesOther", "(II)Z"⟩
def dkwX5_takesOther_1 : List UInt8 := [42, 6, 182, 0, 184, 172, 42, 182, 0, 187, 4, 172]
abbrev dktX5_takesOther_1 : List UInt8 := dkwX5_takesOther_1 ++ []
def dkwX5_takesOther_0 : List UInt8 := [42, 180, 0, 194, 62, 42, 27, 28, 182, 0, 209, 154, 0, 5, 3, 172, 42, 180, 0, 194, 29, 160, 0, 9]
abbrev dktX5_takesOther_0 : List UInt8 := dkwX5_takesOther_0 ++ dktX5_takesOther_1
theorem dksX5_takesOther_0 : cX5_takesOther.data.toList.drop 0 = dktX5_takesOther_0 := by decide +kernel
theorem dksX5_takesOther_1 : cX5_takesOther.data.toList.drop 24 = dktX5_takesOther_1 := dk_seg dksX5_takesOther_0 24 rfl rfl
theorem dX5_takesOther_0 : decode cX5_takesOther 0 = .ok (.aload_n 0, 1) := dk_42 (dk_at dksX5_takesOther_0 0 rfl rfl)
theorem dX5_takesOther_1 : decode cX5_takesOther 1 = .ok (.getfield 194, 3) := dk_180 0 194 (dk_at dksX5_takesOther_0 1 rfl rfl)
theorem dX5_takesOther_4 : decode cX5_takesOther 4 = .ok (.istore_n 3, 1) := dk_62 (dk_at dksX5_takesOther_0 4 rfl rfl)
theorem dX5_takesOther_5 : decode cX5_takesOther 5 = .ok (.aload_n 0, 1) := dk_42 (dk_at dksX5_takesOther_0 5 rfl rfl)
theorem dX5_takesOther_6 : decode cX5_takesOther 6 = .ok (.iload_n 1, 1) := dk_27 (dk_at dksX5_takesOther_0 6 rfl rfl)
theorem dX5_takesOther_7 : decode cX5_takesOther 7 = .ok (.iload_n 2, 1) := dk_28 (dk_at dksX5_takesOther_0 7 rfl rfl)
theorem dX5_takesOther_8 : decode cX5_takesOther 8 = .ok (.invokevirtual 209, 3) := dk_182 0 209 (dk_at dksX5_takesOther_0 8 rfl rfl)
theorem dX5_takesOther_11 : decode cX5_takesOther 11 = .ok (.ifCond .ne 5, 3) := dk_154 0 5 (dk_at dksX5_takesOther_0 11 rfl rfl)
theorem dX5_takesOther_14 : decode cX5_takesOther 14 = .ok (.iconst 0, 1) := dk_3 (dk_at dksX5_takesOther_0 14 rfl rfl)
theorem dX5_takesOther_15 : decode cX5_takesOther 15 = .ok (.ireturn, 1) := dk_172 (dk_at dksX5_takesOther_0 15 rfl rfl)
theorem dX5_takesOther_16 : decode cX5_takesOther 16 = .ok (.aload_n 0, 1) := dk_42 (dk_at dksX5_takesOther_0 16 rfl rfl)
theorem dX5_takesOther_17 : decode cX5_takesOther 17 = .ok (.getfield 194, 3) := dk_180 0 194 (dk_at dksX5_takesOther_0 17 rfl rfl)
theorem dX5_takesOther_20 : decode cX5_takesOther 20 = .ok (.iload_n 3, 1) := dk_29 (dk_at dksX5_takesOther_0 20 rfl rfl)
theorem dX5_takesOther_21 : decode cX5_takesOther 21 = .ok (.if_icmp .ne 9, 3) := dk_160 0 9 (dk_at dksX5_takesOther_0 21 rfl rfl)
theorem dX5_takesOther_24 : decode cX5_takesOther 24 = .ok (.aload_n 0, 1) := dk_42 (dk_at dksX5_takesOther_1 0 rfl rfl)
theorem dX5_takesOther_25 : decode cX5_takesOther 25 = .ok (.iconst 3, 1) := dk_6 (dk_at dksX5_takesOther_1 1 rfl rfl)
theorem dX5_takesOther_26 : decode cX5_takesOther 26 = .ok (.invokevirtual 184, 3) := dk_182 0 184 (dk_at dksX5_takesOther_1 2 rfl rfl)
theorem dX5_takesOther_29 : decode cX5_takesOther 29 = .ok (.ireturn, 1) := dk_172 (dk_at dksX5_takesOther_1 5 rfl rfl)
theorem dX5_takesOther_30 : decode cX5_takesOther 30 = .ok (.aload_n 0, 1) := dk_42 (dk_at dksX5_takesOther_1 6 rfl rfl)
theorem dX5_takesOther_31 : decode cX5_takesOther 31 = .ok (.invokevirtual 187, 3) := dk_182 0 187 (dk_at dksX5_takesOther_1 7 rfl rfl)
theorem dX5_takesOther_34 : decode cX5_takesOther 34 = .ok (.iconst 1, 1) := dk_4 (dk_at dksX5_takesOther_1 10 rfl rfl)
theorem dX5_takesOther_35 : decode cX5_takesOther 35 = .ok (.ireturn, 1) := dk_172 (dk_at dksX5_takesOther_1 11 rfl rfl)
abbrev cX5_readDies : ByteArray := prog_29_method_35_code
def yX5_readDies : MethodName := ⟨RX5, "readDies", "()Z"⟩
def dkwX5_readDies_2 : List UInt8 := [182, 0, 187, 42, 16, 51, 27, 96, 16, 100, 17, 0, 199, 182, 0, 235, 172]
abbrev dktX5_readDies_2 : List UInt8 := dkwX5_readDies_2 ++ []
def dkwX5_readDies_1 : List UInt8 := [180, 0, 194, 60, 42, 180, 0, 37, 16, 51, 27, 96, 46, 158, 0, 9, 42, 6, 182, 0, 184, 172, 42]
abbrev dktX5_readDies_1 : List UInt8 := dkwX5_readDies_1 ++ dktX5_readDies_2
def dkwX5_readDies_0 : List UInt8 := [42, 182, 0, 187, 42, 16, 12, 42, 180, 0, 37, 3, 46, 182, 0, 209, 154, 0, 5, 3, 172, 42]
abbrev dktX5_readDies_0 : List UInt8 := dkwX5_readDies_0 ++ dktX5_readDies_1
theorem dksX5_readDies_0 : cX5_readDies.data.toList.drop 0 = dktX5_readDies_0 := by decide +kernel
theorem dksX5_readDies_1 : cX5_readDies.data.toList.drop 22 = dktX5_readDies_1 := dk_seg dksX5_readDies_0 22 rfl rfl
theorem dksX5_readDies_2 : cX5_readDies.data.toList.drop 45 = dktX5_readDies_2 := dk_seg dksX5_readDies_1 23 rfl rfl
theorem dX5_readDies_0 : decode cX5_readDies 0 = .ok (.aload_n 0, 1) := dk_42 (dk_at dksX5_readDies_0 0 rfl rfl)
theorem dX5_readDies_1 : decode cX5_readDies 1 = .ok (.invokevirtual 187, 3) := dk_182 0 187 (dk_at dksX5_readDies_0 1 rfl rfl)
theorem dX5_readDies_4 : decode cX5_readDies 4 = .ok (.aload_n 0, 1) := dk_42 (dk_at dksX5_readDies_0 4 rfl rfl)
theorem dX5_readDies_5 : decode cX5_readDies 5 = .ok (.bipush 12, 2) := dk_16 12 (dk_at dksX5_readDies_0 5 rfl rfl)
theorem dX5_readDies_7 : decode cX5_readDies 7 = .ok (.aload_n 0, 1) := dk_42 (dk_at dksX5_readDies_0 7 rfl rfl)
theorem dX5_readDies_8 : decode cX5_readDies 8 = .ok (.getfield 37, 3) := dk_180 0 37 (dk_at dksX5_readDies_0 8 rfl rfl)
theorem dX5_readDies_11 : decode cX5_readDies 11 = .ok (.iconst 0, 1) := dk_3 (dk_at dksX5_readDies_0 11 rfl rfl)
theorem dX5_readDies_12 : decode cX5_readDies 12 = .ok (.iaload, 1) := dk_46 (dk_at dksX5_readDies_0 12 rfl rfl)
theorem dX5_readDies_13 : decode cX5_readDies 13 = .ok (.invokevirtual 209, 3) := dk_182 0 209 (dk_at dksX5_readDies_0 13 rfl rfl)
theorem dX5_readDies_16 : decode cX5_readDies 16 = .ok (.ifCond .ne 5, 3) := dk_154 0 5 (dk_at dksX5_readDies_0 16 rfl rfl)
theorem dX5_readDies_19 : decode cX5_readDies 19 = .ok (.iconst 0, 1) := dk_3 (dk_at dksX5_readDies_0 19 rfl rfl)
theorem dX5_readDies_20 : decode cX5_readDies 20 = .ok (.ireturn, 1) := dk_172 (dk_at dksX5_readDies_0 20 rfl rfl)
theorem dX5_readDies_21 : decode cX5_readDies 21 = .ok (.aload_n 0, 1) := dk_42 (dk_at dksX5_readDies_0 21 rfl rfl)
theorem dX5_readDies_22 : decode cX5_readDies 22 = .ok (.getfield 194, 3) := dk_180 0 194 (dk_at dksX5_readDies_1 0 rfl rfl)
theorem dX5_readDies_25 : decode cX5_readDies 25 = .ok (.istore_n 1, 1) := dk_60 (dk_at dksX5_readDies_1 3 rfl rfl)
theorem dX5_readDies_26 : decode cX5_readDies 26 = .ok (.aload_n 0, 1) := dk_42 (dk_at dksX5_readDies_1 4 rfl rfl)
theorem dX5_readDies_27 : decode cX5_readDies 27 = .ok (.getfield 37, 3) := dk_180 0 37 (dk_at dksX5_readDies_1 5 rfl rfl)
theorem dX5_readDies_30 : decode cX5_readDies 30 = .ok (.bipush 51, 2) := dk_16 51 (dk_at dksX5_readDies_1 8 rfl rfl)
theorem dX5_readDies_32 : decode cX5_readDies 32 = .ok (.iload_n 1, 1) := dk_27 (dk_at dksX5_readDies_1 10 rfl rfl)
theorem dX5_readDies_33 : decode cX5_readDies 33 = .ok (.iadd, 1) := dk_96 (dk_at dksX5_readDies_1 11 rfl rfl)
theorem dX5_readDies_34 : decode cX5_readDies 34 = .ok (.iaload, 1) := dk_46 (dk_at dksX5_readDies_1 12 rfl rfl)
theorem dX5_readDies_35 : decode cX5_readDies 35 = .ok (.ifCond .le 9, 3) := dk_158 0 9 (dk_at dksX5_readDies_1 13 rfl rfl)
theorem dX5_readDies_38 : decode cX5_readDies 38 = .ok (.aload_n 0, 1) := dk_42 (dk_at dksX5_readDies_1 16 rfl rfl)
theorem dX5_readDies_39 : decode cX5_readDies 39 = .ok (.iconst 3, 1) := dk_6 (dk_at dksX5_readDies_1 17 rfl rfl)
theorem dX5_readDies_40 : decode cX5_readDies 40 = .ok (.invokevirtual 184, 3) := dk_182 0 184 (dk_at dksX5_readDies_1 18 rfl rfl)
theorem dX5_readDies_43 : decode cX5_readDies 43 = .ok (.ireturn, 1) := dk_172 (dk_at dksX5_readDies_1 21 rfl rfl)
theorem dX5_readDies_44 : decode cX5_readDies 44 = .ok (.aload_n 0, 1) := dk_42 (dk_at dksX5_readDies_1 22 rfl rfl)
theorem dX5_readDies_45 : decode cX5_readDies 45 = .ok (.invokevirtual 187, 3) := dk_182 0 187 (dk_at dksX5_readDies_2 0 rfl rfl)
theorem dX5_readDies_48 : decode cX5_readDies 48 = .ok (.aload_n 0, 1) := dk_42 (dk_at dksX5_readDies_2 3 rfl rfl)
theorem dX5_readDies_49 : decode cX5_readDies 49 = .ok (.bipush 51, 2) := dk_16 51 (dk_at dksX5_readDies_2 4 rfl rfl)
theorem dX5_readDies_51 : decode cX5_readDies 51 = .ok (.iload_n 1, 1) := dk_27 (dk_at dksX5_readDies_2 6 rfl rfl)
theorem dX5_readDies_52 : decode cX5_readDies 52 = .ok (.iadd, 1) := dk_96 (dk_at dksX5_readDies_2 7 rfl rfl)
theorem dX5_readDies_53 : decode cX5_readDies 53 = .ok (.bipush 100, 2) := dk_16 100 (dk_at dksX5_readDies_2 8 rfl rfl)
theorem dX5_readDies_55 : decode cX5_readDies 55 = .ok (.sipush 199, 3) := dk_17 0 199 (dk_at dksX5_readDies_2 10 rfl rfl)
theorem dX5_readDies_58 : decode cX5_readDies 58 = .ok (.invokevirtual 235, 3) := dk_182 0 235 (dk_at dksX5_readDies_2 13 rfl rfl)
theorem dX5_readDies_61 : decode cX5_readDies 61 = .ok (.ireturn, 1) := dk_172 (dk_at dksX5_readDies_2 16 rfl rfl)
abbrev cX5_sign : ByteArray := prog_29_method_22_code
def yX5_sign : MethodName := ⟨RX5, "sign", "(I)Z"⟩
def dkwX5_sign_0 : List UInt8 := [42, 27, 182, 0, 181, 154, 0, 9, 42, 4, 182, 0, 184, 172, 42, 182, 0, 187, 4, 172]
abbrev dktX5_sign_0 : List UInt8 := dkwX5_sign_0 ++ []
theorem dksX5_sign_0 : cX5_sign.data.toList.drop 0 = dktX5_sign_0 := by decide +kernel
theorem dX5_sign_0 : decode cX5_sign 0 = .ok (.aload_n 0, 1) := dk_42 (dk_at dksX5_sign_0 0 rfl rfl)
theorem dX5_sign_1 : decode cX5_sign 1 = .ok (.iload_n 1, 1) := dk_27 (dk_at dksX5_sign_0 1 rfl rfl)
theorem dX5_sign_2 : decode cX5_sign 2 = .ok (.invokevirtual 181, 3) := dk_182 0 181 (dk_at dksX5_sign_0 2 rfl rfl)
theorem dX5_sign_5 : decode cX5_sign 5 = .ok (.ifCond .ne 9, 3) := dk_154 0 9 (dk_at dksX5_sign_0 5 rfl rfl)
theorem dX5_sign_8 : decode cX5_sign 8 = .ok (.aload_n 0, 1) := dk_42 (dk_at dksX5_sign_0 8 rfl rfl)
theorem dX5_sign_9 : decode cX5_sign 9 = .ok (.iconst 1, 1) := dk_4 (dk_at dksX5_sign_0 9 rfl rfl)
theorem dX5_sign_10 : decode cX5_sign 10 = .ok (.invokevirtual 184, 3) := dk_182 0 184 (dk_at dksX5_sign_0 10 rfl rfl)
theorem dX5_sign_13 : decode cX5_sign 13 = .ok (.ireturn, 1) := dk_172 (dk_at dksX5_sign_0 13 rfl rfl)
theorem dX5_sign_14 : decode cX5_sign 14 = .ok (.aload_n 0, 1) := dk_42 (dk_at dksX5_sign_0 14 rfl rfl)
theorem dX5_sign_15 : decode cX5_sign 15 = .ok (.invokevirtual 187, 3) := dk_182 0 187 (dk_at dksX5_sign_0 15 rfl rfl)
theorem dX5_sign_18 : decode cX5_sign 18 = .ok (.iconst 1, 1) := dk_4 (dk_at dksX5_sign_0 18 rfl rfl)
theorem dX5_sign_19 : decode cX5_sign 19 = .ok (.ireturn, 1) := dk_172 (dk_at dksX5_sign_0 19 rfl rfl)
abbrev cX5_isSign : ByteArray := prog_29_method_21_code
def yX5_isSign : MethodName := ⟨RX5, "isSign", "(I)Z"⟩
def dkwX5_isSign_0 : List UInt8 := [42, 180, 0, 158, 6, 160, 0, 15, 42, 180, 0, 168, 27, 160, 0, 7, 4, 167, 0, 4, 3, 172]
abbrev dktX5_isSign_0 : List UInt8 := dkwX5_isSign_0 ++ []
theorem dksX5_isSign_0 : cX5_isSign.data.toList.drop 0 = dktX5_isSign_0 := by decide +kernel
theorem dX5_isSign_0 : decode cX5_isSign 0 = .ok (.aload_n 0, 1) := dk_42 (dk_at dksX5_isSign_0 0 rfl rfl)
theorem dX5_isSign_1 : decode cX5_isSign 1 = .ok (.getfield 158, 3) := dk_180 0 158 (dk_at dksX5_isSign_0 1 rfl rfl)
theorem dX5_isSign_4 : decode cX5_isSign 4 = .ok (.iconst 3, 1) := dk_6 (dk_at dksX5_isSign_0 4 rfl rfl)
theorem dX5_isSign_5 : decode cX5_isSign 5 = .ok (.if_icmp .ne 15, 3) := dk_160 0 15 (dk_at dksX5_isSign_0 5 rfl rfl)
theorem dX5_isSign_8 : decode cX5_isSign 8 = .ok (.aload_n 0, 1) := dk_42 (dk_at dksX5_isSign_0 8 rfl rfl)
theorem dX5_isSign_9 : decode cX5_isSign 9 = .ok (.getfield 168, 3) := dk_180 0 168 (dk_at dksX5_isSign_0 9 rfl rfl)
theorem dX5_isSign_12 : decode cX5_isSign 12 = .ok (.iload_n 1, 1) := dk_27 (dk_at dksX5_isSign_0 12 rfl rfl)
theorem dX5_isSign_13 : decode cX5_isSign 13 = .ok (.if_icmp .ne 7, 3) := dk_160 0 7 (dk_at dksX5_isSign_0 13 rfl rfl)
theorem dX5_isSign_16 : decode cX5_isSign 16 = .ok (.iconst 1, 1) := dk_4 (dk_at dksX5_isSign_0 16 rfl rfl)
theorem dX5_isSign_17 : decode cX5_isSign 17 = .ok (.goto 4, 3) := dk_167 0 4 (dk_at dksX5_isSign_0 17 rfl rfl)
theorem dX5_isSign_20 : decode cX5_isSign 20 = .ok (.iconst 0, 1) := dk_3 (dk_at dksX5_isSign_0 20 rfl rfl)
theorem dX5_isSign_21 : decode cX5_isSign 21 = .ok (.ireturn, 1) := dk_172 (dk_at dksX5_isSign_0 21 rfl rfl)
abbrev cX5_fault : ByteArray := prog_29_method_37_code
def yX5_fault : MethodName := ⟨RX5, "fault", "()I"⟩
def dkwX5_fault_0 : List UInt8 := [42, 3, 181, 0, 1, 42, 180, 0, 175, 172]
abbrev dktX5_fault_0 : List UInt8 := dkwX5_fault_0 ++ []
theorem dksX5_fault_0 : cX5_fault.data.toList.drop 0 = dktX5_fault_0 := by decide +kernel
theorem dX5_fault_0 : decode cX5_fault 0 = .ok (.aload_n 0, 1) := dk_42 (dk_at dksX5_fault_0 0 rfl rfl)
theorem dX5_fault_1 : decode cX5_fault 1 = .ok (.iconst 0, 1) := dk_3 (dk_at dksX5_fault_0 1 rfl rfl)
theorem dX5_fault_2 : decode cX5_fault 2 = .ok (.putfield 1, 3) := dk_181 0 1 (dk_at dksX5_fault_0 2 rfl rfl)
theorem dX5_fault_5 : decode cX5_fault 5 = .ok (.aload_n 0, 1) := dk_42 (dk_at dksX5_fault_0 5 rfl rfl)
theorem dX5_fault_6 : decode cX5_fault 6 = .ok (.getfield 175, 3) := dk_180 0 175 (dk_at dksX5_fault_0 6 rfl rfl)
theorem dX5_fault_9 : decode cX5_fault 9 = .ok (.ireturn, 1) := dk_172 (dk_at dksX5_fault_0 9 rfl rfl)
abbrev cX5_person : ByteArray := prog_29_method_49_code
def yX5_person : MethodName := ⟨RX5, "person", "(II)I"⟩
def dkwX5_person_7 : List UInt8 := [42, 180, 0, 33, 16, 51, 27, 96, 46, 172]
abbrev dktX5_person_7 : List UInt8 := dkwX5_person_7 ++ []
def dkwX5_person_6 : List UInt8 := [17, 0, 129, 27, 182, 1, 35, 172, 42, 180, 0, 33, 16, 51, 27, 96, 46, 154, 0, 7, 2, 167, 0, 12]
abbrev dktX5_person_6 : List UInt8 := dkwX5_person_6 ++ dktX5_person_7
def dkwX5_person_5 : List UInt8 := [180, 0, 33, 16, 27, 27, 96, 46, 172, 42, 4, 27, 120, 182, 1, 10, 172, 42, 27, 182, 1, 22, 172, 42]
abbrev dktX5_person_5 : List UInt8 := dkwX5_person_5 ++ dktX5_person_6
def dkwX5_person_4 : List UInt8 := [153, 0, 7, 4, 167, 0, 4, 3, 172, 42, 180, 0, 33, 16, 117, 27, 96, 46, 4, 100, 172, 42]
abbrev dktX5_person_4 : List UInt8 := dkwX5_person_4 ++ dktX5_person_5
def dkwX5_person_3 : List UInt8 := [42, 180, 0, 33, 6, 27, 96, 46, 172, 42, 180, 0, 33, 16, 105, 27, 96, 46, 172, 42, 27, 182, 1, 19]
abbrev dktX5_person_3 : List UInt8 := dkwX5_person_3 ++ dktX5_person_4
def dkwX5_person_2 : List UInt8 := [170, 0, 0, 0, 0, 0, 125, 0, 0, 0, 0, 0, 0, 0, 7, 0, 0, 0, 47, 0, 0, 0, 56, 0, 0, 0, 66, 0, 0, 0, 80, 0, 0, 0, 92, 0, 0, 0, 102, 0, 0, 0, 110, 0, 0, 0, 116]
abbrev dktX5_person_2 : List UInt8 := dkwX5_person_2 ++ dktX5_person_3
def dkwX5_person_1 : List UInt8 := [182, 1, 31, 153, 0, 5, 3, 172, 28]
abbrev dktX5_person_1 : List UInt8 := dkwX5_person_1 ++ dktX5_person_2
def dkwX5_person_0 : List UInt8 := [42, 42, 27, 182, 1, 28, 153, 0, 13, 28, 3, 16, 8, 184, 0, 190, 154, 0, 7, 4, 167, 0, 4, 3]
abbrev dktX5_person_0 : List UInt8 := dkwX5_person_0 ++ dktX5_person_1
theorem dksX5_person_0 : cX5_person.data.toList.drop 0 = dktX5_person_0 := by decide +kernel
theorem dksX5_person_1 : cX5_person.data.toList.drop 24 = dktX5_person_1 := dk_seg dksX5_person_0 24 rfl rfl
theorem dksX5_person_2 : cX5_person.data.toList.drop 33 = dktX5_person_2 := dk_seg dksX5_person_1 9 rfl rfl
theorem dksX5_person_3 : cX5_person.data.toList.drop 80 = dktX5_person_3 := dk_seg dksX5_person_2 47 rfl rfl
theorem dksX5_person_4 : cX5_person.data.toList.drop 104 = dktX5_person_4 := dk_seg dksX5_person_3 24 rfl rfl
theorem dksX5_person_5 : cX5_person.data.toList.drop 126 = dktX5_person_5 := dk_seg dksX5_person_4 22 rfl rfl
theorem dksX5_person_6 : cX5_person.data.toList.drop 150 = dktX5_person_6 := dk_seg dksX5_person_5 24 rfl rfl
theorem dksX5_person_7 : cX5_person.data.toList.drop 174 = dktX5_person_7 := dk_seg dksX5_person_6 24 rfl rfl
theorem dX5_person_0 : decode cX5_person 0 = .ok (.aload_n 0, 1) := dk_42 (dk_at dksX5_person_0 0 rfl rfl)
theorem dX5_person_1 : decode cX5_person 1 = .ok (.aload_n 0, 1) := dk_42 (dk_at dksX5_person_0 1 rfl rfl)
theorem dX5_person_2 : decode cX5_person 2 = .ok (.iload_n 1, 1) := dk_27 (dk_at dksX5_person_0 2 rfl rfl)
theorem dX5_person_3 : decode cX5_person 3 = .ok (.invokevirtual 284, 3) := dk_182 1 28 (dk_at dksX5_person_0 3 rfl rfl)
theorem dX5_person_6 : decode cX5_person 6 = .ok (.ifCond .eq 13, 3) := dk_153 0 13 (dk_at dksX5_person_0 6 rfl rfl)
theorem dX5_person_9 : decode cX5_person 9 = .ok (.iload_n 2, 1) := dk_28 (dk_at dksX5_person_0 9 rfl rfl)
theorem dX5_person_10 : decode cX5_person 10 = .ok (.iconst 0, 1) := dk_3 (dk_at dksX5_person_0 10 rfl rfl)
theorem dX5_person_11 : decode cX5_person 11 = .ok (.bipush 8, 2) := dk_16 8 (dk_at dksX5_person_0 11 rfl rfl)
theorem dX5_person_13 : decode cX5_person 13 = .ok (.invokestatic 190, 3) := dk_184 0 190 (dk_at dksX5_person_0 13 rfl rfl)
theorem dX5_person_16 : decode cX5_person 16 = .ok (.ifCond .ne 7, 3) := dk_154 0 7 (dk_at dksX5_person_0 16 rfl rfl)
theorem dX5_person_19 : decode cX5_person 19 = .ok (.iconst 1, 1) := dk_4 (dk_at dksX5_person_0 19 rfl rfl)
theorem dX5_person_20 : decode cX5_person 20 = .ok (.goto 4, 3) := dk_167 0 4 (dk_at dksX5_person_0 20 rfl rfl)
theorem dX5_person_23 : decode cX5_person 23 = .ok (.iconst 0, 1) := dk_3 (dk_at dksX5_person_0 23 rfl rfl)
theorem dX5_person_24 : decode cX5_person 24 = .ok (.invokevirtual 287, 3) := dk_182 1 31 (dk_at dksX5_person_1 0 rfl rfl)
theorem dX5_person_27 : decode cX5_person 27 = .ok (.ifCond .eq 5, 3) := dk_153 0 5 (dk_at dksX5_person_1 3 rfl rfl)
theorem dX5_person_30 : decode cX5_person 30 = .ok (.iconst 0, 1) := dk_3 (dk_at dksX5_person_1 6 rfl rfl)
theorem dX5_person_31 : decode cX5_person 31 = .ok (.ireturn, 1) := dk_172 (dk_at dksX5_person_1 7 rfl rfl)
theorem dX5_person_32 : decode cX5_person 32 = .ok (.iload_n 2, 1) := dk_28 (dk_at dksX5_person_1 8 rfl rfl)
theorem dX5_person_33 : decode cX5_person 33 = .ok (.tableswitch 125 0 7 #[47, 56, 66, 80, 92, 102, 110, 116], 47) := by decide +kernel
theorem dX5_person_80 : decode cX5_person 80 = .ok (.aload_n 0, 1) := dk_42 (dk_at dksX5_person_3 0 rfl rfl)
theorem dX5_person_81 : decode cX5_person 81 = .ok (.getfield 33, 3) := dk_180 0 33 (dk_at dksX5_person_3 1 rfl rfl)
theorem dX5_person_84 : decode cX5_person 84 = .ok (.iconst 3, 1) := dk_6 (dk_at dksX5_person_3 4 rfl rfl)
theorem dX5_person_85 : decode cX5_person 85 = .ok (.iload_n 1, 1) := dk_27 (dk_at dksX5_person_3 5 rfl rfl)
theorem dX5_person_86 : decode cX5_person 86 = .ok (.iadd, 1) := dk_96 (dk_at dksX5_person_3 6 rfl rfl)
theorem dX5_person_87 : decode cX5_person 87 = .ok (.iaload, 1) := dk_46 (dk_at dksX5_person_3 7 rfl rfl)
theorem dX5_person_88 : decode cX5_person 88 = .ok (.ireturn, 1) := dk_172 (dk_at dksX5_person_3 8 rfl rfl)
theorem dX5_person_89 : decode cX5_person 89 = .ok (.aload_n 0, 1) := dk_42 (dk_at dksX5_person_3 9 rfl rfl)
theorem dX5_person_90 : decode cX5_person 90 = .ok (.getfield 33, 3) := dk_180 0 33 (dk_at dksX5_person_3 10 rfl rfl)
theorem dX5_person_93 : decode cX5_person 93 = .ok (.bipush 105, 2) := dk_16 105 (dk_at dksX5_person_3 13 rfl rfl)
theorem dX5_person_95 : decode cX5_person 95 = .ok (.iload_n 1, 1) := dk_27 (dk_at dksX5_person_3 15 rfl rfl)
theorem dX5_person_96 : decode cX5_person 96 = .ok (.iadd, 1) := dk_96 (dk_at dksX5_person_3 16 rfl rfl)
theorem dX5_person_97 : decode cX5_person 97 = .ok (.iaload, 1) := dk_46 (dk_at dksX5_person_3 17 rfl rfl)
theorem dX5_person_98 : decode cX5_person 98 = .ok (.ireturn, 1) := dk_172 (dk_at dksX5_person_3 18 rfl rfl)
theorem dX5_person_99 : decode cX5_person 99 = .ok (.aload_n 0, 1) := dk_42 (dk_at dksX5_person_3 19 rfl rfl)
theorem dX5_person_100 : decode cX5_person 100 = .ok (.iload_n 1, 1) := dk_27 (dk_at dksX5_person_3 20 rfl rfl)
theorem dX5_person_101 : decode cX5_person 101 = .ok (.invokevirtual 275, 3) := dk_182 1 19 (dk_at dksX5_person_3 21 rfl rfl)
theorem dX5_person_104 : decode cX5_person 104 = .ok (.ifCond .eq 7, 3) := dk_153 0 7 (dk_at dksX5_person_4 0 rfl rfl)
theorem dX5_person_107 : decode cX5_person 107 = .ok (.iconst 1, 1) := dk_4 (dk_at dksX5_person_4 3 rfl rfl)
theorem dX5_person_108 : decode cX5_person 108 = .ok (.goto 4, 3) := dk_167 0 4 (dk_at dksX5_person_4 4 rfl rfl)
theorem dX5_person_111 : decode cX5_person 111 = .ok (.iconst 0, 1) := dk_3 (dk_at dksX5_person_4 7 rfl rfl)
theorem dX5_person_112 : decode cX5_person 112 = .ok (.ireturn, 1) := dk_172 (dk_at dksX5_person_4 8 rfl rfl)
theorem dX5_person_113 : decode cX5_person 113 = .ok (.aload_n 0, 1) := dk_42 (dk_at dksX5_person_4 9 rfl rfl)
theorem dX5_person_114 : decode cX5_person 114 = .ok (.getfield 33, 3) := dk_180 0 33 (dk_at dksX5_person_4 10 rfl rfl)
theorem dX5_person_117 : decode cX5_person 117 = .ok (.bipush 117, 2) := dk_16 117 (dk_at dksX5_person_4 13 rfl rfl)
theorem dX5_person_119 : decode cX5_person 119 = .ok (.iload_n 1, 1) := dk_27 (dk_at dksX5_person_4 15 rfl rfl)
theorem dX5_person_120 : decode cX5_person 120 = .ok (.iadd, 1) := dk_96 (dk_at dksX5_person_4 16 rfl rfl)
theorem dX5_person_121 : decode cX5_person 121 = .ok (.iaload, 1) := dk_46 (dk_at dksX5_person_4 17 rfl rfl)
theorem dX5_person_122 : decode cX5_person 122 = .ok (.iconst 1, 1) := dk_4 (dk_at dksX5_person_4 18 rfl rfl)
theorem dX5_person_123 : decode cX5_person 123 = .ok (.isub, 1) := dk_100 (dk_at dksX5_person_4 19 rfl rfl)
theorem dX5_person_124 : decode cX5_person 124 = .ok (.ireturn, 1) := dk_172 (dk_at dksX5_person_4 20 rfl rfl)
theorem dX5_person_125 : decode cX5_person 125 = .ok (.aload_n 0, 1) := dk_42 (dk_at dksX5_person_4 21 rfl rfl)
theorem dX5_person_126 : decode cX5_person 126 = .ok (.getfield 33, 3) := dk_180 0 33 (dk_at dksX5_person_5 0 rfl rfl)
theorem dX5_person_129 : decode cX5_person 129 = .ok (.bipush 27, 2) := dk_16 27 (dk_at dksX5_person_5 3 rfl rfl)
theorem dX5_person_131 : decode cX5_person 131 = .ok (.iload_n 1, 1) := dk_27 (dk_at dksX5_person_5 5 rfl rfl)
theorem dX5_person_132 : decode cX5_person 132 = .ok (.iadd, 1) := dk_96 (dk_at dksX5_person_5 6 rfl rfl)
theorem dX5_person_133 : decode cX5_person 133 = .ok (.iaload, 1) := dk_46 (dk_at dksX5_person_5 7 rfl rfl)
theorem dX5_person_134 : decode cX5_person 134 = .ok (.ireturn, 1) := dk_172 (dk_at dksX5_person_5 8 rfl rfl)
theorem dX5_person_135 : decode cX5_person 135 = .ok (.aload_n 0, 1) := dk_42 (dk_at dksX5_person_5 9 rfl rfl)
theorem dX5_person_136 : decode cX5_person 136 = .ok (.iconst 1, 1) := dk_4 (dk_at dksX5_person_5 10 rfl rfl)
theorem dX5_person_137 : decode cX5_person 137 = .ok (.iload_n 1, 1) := dk_27 (dk_at dksX5_person_5 11 rfl rfl)
theorem dX5_person_138 : decode cX5_person 138 = .ok (.ishl, 1) := dk_120 (dk_at dksX5_person_5 12 rfl rfl)
theorem dX5_person_139 : decode cX5_person 139 = .ok (.invokevirtual 266, 3) := dk_182 1 10 (dk_at dksX5_person_5 13 rfl rfl)
theorem dX5_person_142 : decode cX5_person 142 = .ok (.ireturn, 1) := dk_172 (dk_at dksX5_person_5 16 rfl rfl)
theorem dX5_person_143 : decode cX5_person 143 = .ok (.aload_n 0, 1) := dk_42 (dk_at dksX5_person_5 17 rfl rfl)
theorem dX5_person_144 : decode cX5_person 144 = .ok (.iload_n 1, 1) := dk_27 (dk_at dksX5_person_5 18 rfl rfl)
theorem dX5_person_145 : decode cX5_person 145 = .ok (.invokevirtual 278, 3) := dk_182 1 22 (dk_at dksX5_person_5 19 rfl rfl)
theorem dX5_person_148 : decode cX5_person 148 = .ok (.ireturn, 1) := dk_172 (dk_at dksX5_person_5 22 rfl rfl)
theorem dX5_person_149 : decode cX5_person 149 = .ok (.aload_n 0, 1) := dk_42 (dk_at dksX5_person_5 23 rfl rfl)
theorem dX5_person_150 : decode cX5_person 150 = .ok (.sipush 129, 3) := dk_17 0 129 (dk_at dksX5_person_6 0 rfl rfl)
theorem dX5_person_153 : decode cX5_person 153 = .ok (.iload_n 1, 1) := dk_27 (dk_at dksX5_person_6 3 rfl rfl)
theorem dX5_person_154 : decode cX5_person 154 = .ok (.invokevirtual 291, 3) := dk_182 1 35 (dk_at dksX5_person_6 4 rfl rfl)
theorem dX5_person_157 : decode cX5_person 157 = .ok (.ireturn, 1) := dk_172 (dk_at dksX5_person_6 7 rfl rfl)
theorem dX5_person_158 : decode cX5_person 158 = .ok (.aload_n 0, 1) := dk_42 (dk_at dksX5_person_6 8 rfl rfl)
theorem dX5_person_159 : decode cX5_person 159 = .ok (.getfield 33, 3) := dk_180 0 33 (dk_at dksX5_person_6 9 rfl rfl)
theorem dX5_person_162 : decode cX5_person 162 = .ok (.bipush 51, 2) := dk_16 51 (dk_at dksX5_person_6 12 rfl rfl)
theorem dX5_person_164 : decode cX5_person 164 = .ok (.iload_n 1, 1) := dk_27 (dk_at dksX5_person_6 14 rfl rfl)
theorem dX5_person_165 : decode cX5_person 165 = .ok (.iadd, 1) := dk_96 (dk_at dksX5_person_6 15 rfl rfl)
theorem dX5_person_166 : decode cX5_person 166 = .ok (.iaload, 1) := dk_46 (dk_at dksX5_person_6 16 rfl rfl)
theorem dX5_person_167 : decode cX5_person 167 = .ok (.ifCond .ne 7, 3) := dk_154 0 7 (dk_at dksX5_person_6 17 rfl rfl)
theorem dX5_person_170 : decode cX5_person 170 = .ok (.iconst (-1), 1) := dk_2 (dk_at dksX5_person_6 20 rfl rfl)
theorem dX5_person_171 : decode cX5_person 171 = .ok (.goto 12, 3) := dk_167 0 12 (dk_at dksX5_person_6 21 rfl rfl)
theorem dX5_person_174 : decode cX5_person 174 = .ok (.aload_n 0, 1) := dk_42 (dk_at dksX5_person_7 0 rfl rfl)
theorem dX5_person_175 : decode cX5_person 175 = .ok (.getfield 33, 3) := dk_180 0 33 (dk_at dksX5_person_7 1 rfl rfl)
theorem dX5_person_178 : decode cX5_person 178 = .ok (.bipush 51, 2) := dk_16 51 (dk_at dksX5_person_7 4 rfl rfl)
theorem dX5_person_180 : decode cX5_person 180 = .ok (.iload_n 1, 1) := dk_27 (dk_at dksX5_person_7 6 rfl rfl)
theorem dX5_person_181 : decode cX5_person 181 = .ok (.iadd, 1) := dk_96 (dk_at dksX5_person_7 7 rfl rfl)
theorem dX5_person_182 : decode cX5_person 182 = .ok (.iaload, 1) := dk_46 (dk_at dksX5_person_7 8 rfl rfl)
theorem dX5_person_183 : decode cX5_person 183 = .ok (.ireturn, 1) := dk_172 (dk_at dksX5_person_7 9 rfl rfl)
abbrev cX5_isPerson : ByteArray := prog_29_method_38_code
def yX5_isPerson : MethodName := ⟨RX5, "isPerson", "(I)Z"⟩
def dkwX5_isPerson_0 : List UInt8 := [27, 3, 42, 180, 0, 33, 3, 46, 4, 100, 184, 0, 190, 172]
abbrev dktX5_isPerson_0 : List UInt8 := dkwX5_isPerson_0 ++ []
theorem dksX5_isPerson_0 : cX5_isPerson.data.toList.drop 0 = dktX5_isPerson_0 := by decide +kernel
theorem dX5_isPerson_0 : decode cX5_isPerson 0 = .ok (.iload_n 1, 1) := dk_27 (dk_at dksX5_isPerson_0 0 rfl rfl)
theorem dX5_isPerson_1 : decode cX5_isPerson 1 = .ok (.iconst 0, 1) := dk_3 (dk_at dksX5_isPerson_0 1 rfl rfl)
theorem dX5_isPerson_2 : decode cX5_isPerson 2 = .ok (.aload_n 0, 1) := dk_42 (dk_at dksX5_isPerson_0 2 rfl rfl)
theorem dX5_isPerson_3 : decode cX5_isPerson 3 = .ok (.getfield 33, 3) := dk_180 0 33 (dk_at dksX5_isPerson_0 3 rfl rfl)
theorem dX5_isPerson_6 : decode cX5_isPerson 6 = .ok (.iconst 0, 1) := dk_3 (dk_at dksX5_isPerson_0 6 rfl rfl)
theorem dX5_isPerson_7 : decode cX5_isPerson 7 = .ok (.iaload, 1) := dk_46 (dk_at dksX5_isPerson_0 7 rfl rfl)
theorem dX5_isPerson_8 : decode cX5_isPerson 8 = .ok (.iconst 1, 1) := dk_4 (dk_at dksX5_isPerson_0 8 rfl rfl)
theorem dX5_isPerson_9 : decode cX5_isPerson 9 = .ok (.isub, 1) := dk_100 (dk_at dksX5_isPerson_0 9 rfl rfl)
theorem dX5_isPerson_10 : decode cX5_isPerson 10 = .ok (.invokestatic 190, 3) := dk_184 0 190 (dk_at dksX5_isPerson_0 10 rfl rfl)
theorem dX5_isPerson_13 : decode cX5_isPerson 13 = .ok (.ireturn, 1) := dk_172 (dk_at dksX5_isPerson_0 13 rfl rfl)
abbrev cX5_throwsIf : ByteArray := prog_29_method_2_code
def yX5_throwsIf : MethodName := ⟨RX5, "throwsIf", "(Z)Z"⟩
def dkwX5_throwsIf_0 : List UInt8 := [42, 27, 153, 0, 7, 4, 167, 0, 4, 3, 181, 0, 1, 27, 172]
abbrev dktX5_throwsIf_0 : List UInt8 := dkwX5_throwsIf_0 ++ []
theorem dksX5_throwsIf_0 : cX5_throwsIf.data.toList.drop 0 = dktX5_throwsIf_0 := by decide +kernel
theorem dX5_throwsIf_0 : decode cX5_throwsIf 0 = .ok (.aload_n 0, 1) := dk_42 (dk_at dksX5_throwsIf_0 0 rfl rfl)
theorem dX5_throwsIf_1 : decode cX5_throwsIf 1 = .ok (.iload_n 1, 1) := dk_27 (dk_at dksX5_throwsIf_0 1 rfl rfl)
theorem dX5_throwsIf_2 : decode cX5_throwsIf 2 = .ok (.ifCond .eq 7, 3) := dk_153 0 7 (dk_at dksX5_throwsIf_0 2 rfl rfl)
theorem dX5_throwsIf_5 : decode cX5_throwsIf 5 = .ok (.iconst 1, 1) := dk_4 (dk_at dksX5_throwsIf_0 5 rfl rfl)
theorem dX5_throwsIf_6 : decode cX5_throwsIf 6 = .ok (.goto 4, 3) := dk_167 0 4 (dk_at dksX5_throwsIf_0 6 rfl rfl)
theorem dX5_throwsIf_9 : decode cX5_throwsIf 9 = .ok (.iconst 0, 1) := dk_3 (dk_at dksX5_throwsIf_0 9 rfl rfl)
theorem dX5_throwsIf_10 : decode cX5_throwsIf 10 = .ok (.putfield 1, 3) := dk_181 0 1 (dk_at dksX5_throwsIf_0 10 rfl rfl)
theorem dX5_throwsIf_13 : decode cX5_throwsIf 13 = .ok (.iload_n 1, 1) := dk_27 (dk_at dksX5_throwsIf_0 13 rfl rfl)
theorem dX5_throwsIf_14 : decode cX5_throwsIf 14 = .ok (.ireturn, 1) := dk_172 (dk_at dksX5_throwsIf_0 14 rfl rfl)
abbrev cX5_isLiving : ByteArray := prog_29_method_39_code
def yX5_isLiving : MethodName := ⟨RX5, "isLiving", "(I)Z"⟩
def dkwX5_isLiving_0 : List UInt8 := [42, 180, 0, 33, 16, 101, 46, 27, 184, 0, 242, 154, 0, 7, 4, 167, 0, 4, 3, 172]
abbrev dktX5_isLiving_0 : List UInt8 := dkwX5_isLiving_0 ++ []
theorem dksX5_isLiving_0 : cX5_isLiving.data.toList.drop 0 = dktX5_isLiving_0 := by decide +kernel
theorem dX5_isLiving_0 : decode cX5_isLiving 0 = .ok (.aload_n 0, 1) := dk_42 (dk_at dksX5_isLiving_0 0 rfl rfl)
theorem dX5_isLiving_1 : decode cX5_isLiving 1 = .ok (.getfield 33, 3) := dk_180 0 33 (dk_at dksX5_isLiving_0 1 rfl rfl)
theorem dX5_isLiving_4 : decode cX5_isLiving 4 = .ok (.bipush 101, 2) := dk_16 101 (dk_at dksX5_isLiving_0 4 rfl rfl)
theorem dX5_isLiving_6 : decode cX5_isLiving 6 = .ok (.iaload, 1) := dk_46 (dk_at dksX5_isLiving_0 6 rfl rfl)
theorem dX5_isLiving_7 : decode cX5_isLiving 7 = .ok (.iload_n 1, 1) := dk_27 (dk_at dksX5_isLiving_0 7 rfl rfl)
theorem dX5_isLiving_8 : decode cX5_isLiving 8 = .ok (.invokestatic 242, 3) := dk_184 0 242 (dk_at dksX5_isLiving_0 8 rfl rfl)
theorem dX5_isLiving_11 : decode cX5_isLiving 11 = .ok (.ifCond .ne 7, 3) := dk_154 0 7 (dk_at dksX5_isLiving_0 11 rfl rfl)
theorem dX5_isLiving_14 : decode cX5_isLiving 14 = .ok (.iconst 1, 1) := dk_4 (dk_at dksX5_isLiving_0 14 rfl rfl)
theorem dX5_isLiving_15 : decode cX5_isLiving 15 = .ok (.goto 4, 3) := dk_167 0 4 (dk_at dksX5_isLiving_0 15 rfl rfl)
theorem dX5_isLiving_18 : decode cX5_isLiving 18 = .ok (.iconst 0, 1) := dk_3 (dk_at dksX5_isLiving_0 18 rfl rfl)
theorem dX5_isLiving_19 : decode cX5_isLiving 19 = .ok (.ireturn, 1) := dk_172 (dk_at dksX5_isLiving_0 19 rfl rfl)
abbrev cX5_childrenOf : ByteArray := prog_29_method_41_code
def yX5_childrenOf : MethodName := ⟨RX5, "childrenOf", "(I)I"⟩
def dkwX5_childrenOf_1 : List UInt8 := [27, 126, 153, 0, 9, 4, 29, 120, 167, 0, 4, 3, 128, 61, 132, 3, 1, 167, 255, 219, 28, 172]
abbrev dktX5_childrenOf_1 : List UInt8 := dkwX5_childrenOf_1 ++ []
def dkwX5_childrenOf_0 : List UInt8 := [3, 61, 3, 62, 29, 42, 180, 0, 33, 3, 46, 162, 0, 33, 28, 42, 180, 0, 33, 16, 27, 29, 96, 46]
abbrev dktX5_childrenOf_0 : List UInt8 := dkwX5_childrenOf_0 ++ dktX5_childrenOf_1
theorem dksX5_childrenOf_0 : cX5_childrenOf.data.toList.drop 0 = dktX5_childrenOf_0 := by decide +kernel
theorem dksX5_childrenOf_1 : cX5_childrenOf.data.toList.drop 24 = dktX5_childrenOf_1 := dk_seg dksX5_childrenOf_0 24 rfl rfl
theorem dX5_childrenOf_0 : decode cX5_childrenOf 0 = .ok (.iconst 0, 1) := dk_3 (dk_at dksX5_childrenOf_0 0 rfl rfl)
theorem dX5_childrenOf_1 : decode cX5_childrenOf 1 = .ok (.istore_n 2, 1) := dk_61 (dk_at dksX5_childrenOf_0 1 rfl rfl)
theorem dX5_childrenOf_2 : decode cX5_childrenOf 2 = .ok (.iconst 0, 1) := dk_3 (dk_at dksX5_childrenOf_0 2 rfl rfl)
theorem dX5_childrenOf_3 : decode cX5_childrenOf 3 = .ok (.istore_n 3, 1) := dk_62 (dk_at dksX5_childrenOf_0 3 rfl rfl)
theorem dX5_childrenOf_4 : decode cX5_childrenOf 4 = .ok (.iload_n 3, 1) := dk_29 (dk_at dksX5_childrenOf_0 4 rfl rfl)
theorem dX5_childrenOf_5 : decode cX5_childrenOf 5 = .ok (.aload_n 0, 1) := dk_42 (dk_at dksX5_childrenOf_0 5 rfl rfl)
theorem dX5_childrenOf_6 : decode cX5_childrenOf 6 = .ok (.getfield 33, 3) := dk_180 0 33 (dk_at dksX5_childrenOf_0 6 rfl rfl)
theorem dX5_childrenOf_9 : decode cX5_childrenOf 9 = .ok (.iconst 0, 1) := dk_3 (dk_at dksX5_childrenOf_0 9 rfl rfl)
theorem dX5_childrenOf_10 : decode cX5_childrenOf 10 = .ok (.iaload, 1) := dk_46 (dk_at dksX5_childrenOf_0 10 rfl rfl)
theorem dX5_childrenOf_11 : decode cX5_childrenOf 11 = .ok (.if_icmp .ge 33, 3) := dk_162 0 33 (dk_at dksX5_childrenOf_0 11 rfl rfl)
theorem dX5_childrenOf_14 : decode cX5_childrenOf 14 = .ok (.iload_n 2, 1) := dk_28 (dk_at dksX5_childrenOf_0 14 rfl rfl)
theorem dX5_childrenOf_15 : decode cX5_childrenOf 15 = .ok (.aload_n 0, 1) := dk_42 (dk_at dksX5_childrenOf_0 15 rfl rfl)
theorem dX5_childrenOf_16 : decode cX5_childrenOf 16 = .ok (.getfield 33, 3) := dk_180 0 33 (dk_at dksX5_childrenOf_0 16 rfl rfl)
theorem dX5_childrenOf_19 : decode cX5_childrenOf 19 = .ok (.bipush 27, 2) := dk_16 27 (dk_at dksX5_childrenOf_0 19 rfl rfl)
theorem dX5_childrenOf_21 : decode cX5_childrenOf 21 = .ok (.iload_n 3, 1) := dk_29 (dk_at dksX5_childrenOf_0 21 rfl rfl)
theorem dX5_childrenOf_22 : decode cX5_childrenOf 22 = .ok (.iadd, 1) := dk_96 (dk_at dksX5_childrenOf_0 22 rfl rfl)
theorem dX5_childrenOf_23 : decode cX5_childrenOf 23 = .ok (.iaload, 1) := dk_46 (dk_at dksX5_childrenOf_0 23 rfl rfl)
theorem dX5_childrenOf_24 : decode cX5_childrenOf 24 = .ok (.iload_n 1, 1) := dk_27 (dk_at dksX5_childrenOf_1 0 rfl rfl)
theorem dX5_childrenOf_25 : decode cX5_childrenOf 25 = .ok (.iand, 1) := dk_126 (dk_at dksX5_childrenOf_1 1 rfl rfl)
theorem dX5_childrenOf_26 : decode cX5_childrenOf 26 = .ok (.ifCond .eq 9, 3) := dk_153 0 9 (dk_at dksX5_childrenOf_1 2 rfl rfl)
theorem dX5_childrenOf_29 : decode cX5_childrenOf 29 = .ok (.iconst 1, 1) := dk_4 (dk_at dksX5_childrenOf_1 5 rfl rfl)
theorem dX5_childrenOf_30 : decode cX5_childrenOf 30 = .ok (.iload_n 3, 1) := dk_29 (dk_at dksX5_childrenOf_1 6 rfl rfl)
theorem dX5_childrenOf_31 : decode cX5_childrenOf 31 = .ok (.ishl, 1) := dk_120 (dk_at dksX5_childrenOf_1 7 rfl rfl)
theorem dX5_childrenOf_32 : decode cX5_childrenOf 32 = .ok (.goto 4, 3) := dk_167 0 4 (dk_at dksX5_childrenOf_1 8 rfl rfl)
theorem dX5_childrenOf_35 : decode cX5_childrenOf 35 = .ok (.iconst 0, 1) := dk_3 (dk_at dksX5_childrenOf_1 11 rfl rfl)
theorem dX5_childrenOf_36 : decode cX5_childrenOf 36 = .ok (.ior, 1) := dk_128 (dk_at dksX5_childrenOf_1 12 rfl rfl)
theorem dX5_childrenOf_37 : decode cX5_childrenOf 37 = .ok (.istore_n 2, 1) := dk_61 (dk_at dksX5_childrenOf_1 13 rfl rfl)
theorem dX5_childrenOf_38 : decode cX5_childrenOf 38 = .ok (.iinc 3 1, 3) := dk_132 3 1 (dk_at dksX5_childrenOf_1 14 rfl rfl)
theorem dX5_childrenOf_41 : decode cX5_childrenOf 41 = .ok (.goto (-37), 3) := dk_167 255 219 (dk_at dksX5_childrenOf_1 17 rfl rfl)
theorem dX5_childrenOf_44 : decode cX5_childrenOf 44 = .ok (.iload_n 2, 1) := dk_28 (dk_at dksX5_childrenOf_1 20 rfl rfl)
theorem dX5_childrenOf_45 : decode cX5_childrenOf 45 = .ok (.ireturn, 1) := dk_172 (dk_at dksX5_childrenOf_1 21 rfl rfl)
abbrev cX5_livingIssue : ByteArray := prog_29_method_44_code
def yX5_livingIssue : MethodName := ⟨RX5, "livingIssue", "(I)I"⟩
def dkwX5_livingIssue_0 : List UInt8 := [42, 27, 182, 1, 13, 42, 182, 1, 16, 126, 172]
abbrev dktX5_livingIssue_0 : List UInt8 := dkwX5_livingIssue_0 ++ []
theorem dksX5_livingIssue_0 : cX5_livingIssue.data.toList.drop 0 = dktX5_livingIssue_0 := by decide +kernel
theorem dX5_livingIssue_0 : decode cX5_livingIssue 0 = .ok (.aload_n 0, 1) := dk_42 (dk_at dksX5_livingIssue_0 0 rfl rfl)
theorem dX5_livingIssue_1 : decode cX5_livingIssue 1 = .ok (.iload_n 1, 1) := dk_27 (dk_at dksX5_livingIssue_0 1 rfl rfl)
theorem dX5_livingIssue_2 : decode cX5_livingIssue 2 = .ok (.invokevirtual 269, 3) := dk_182 1 13 (dk_at dksX5_livingIssue_0 2 rfl rfl)
theorem dX5_livingIssue_5 : decode cX5_livingIssue 5 = .ok (.aload_n 0, 1) := dk_42 (dk_at dksX5_livingIssue_0 5 rfl rfl)
theorem dX5_livingIssue_6 : decode cX5_livingIssue 6 = .ok (.invokevirtual 272, 3) := dk_182 1 16 (dk_at dksX5_livingIssue_0 6 rfl rfl)
theorem dX5_livingIssue_9 : decode cX5_livingIssue 9 = .ok (.iand, 1) := dk_126 (dk_at dksX5_livingIssue_0 9 rfl rfl)
theorem dX5_livingIssue_10 : decode cX5_livingIssue 10 = .ok (.ireturn, 1) := dk_172 (dk_at dksX5_livingIssue_0 10 rfl rfl)
abbrev cX5_issueOf : ByteArray := prog_29_method_43_code
def yX5_issueOf : MethodName := ⟨RX5, "issueOf", "(I)I"⟩
def dkwX5_issueOf_1 : List UInt8 := [28, 29, 128, 61, 167, 255, 238, 28, 172]
abbrev dktX5_issueOf_1 : List UInt8 := dkwX5_issueOf_1 ++ []
def dkwX5_issueOf_0 : List UInt8 := [42, 4, 27, 120, 182, 1, 10, 61, 28, 62, 29, 153, 0, 20, 42, 29, 182, 1, 10, 28, 2, 130, 126, 62]
abbrev dktX5_issueOf_0 : List UInt8 := dkwX5_issueOf_0 ++ dktX5_issueOf_1
theorem dksX5_issueOf_0 : cX5_issueOf.data.toList.drop 0 = dktX5_issueOf_0 := by decide +kernel
theorem dksX5_issueOf_1 : cX5_issueOf.data.toList.drop 24 = dktX5_issueOf_1 := dk_seg dksX5_issueOf_0 24 rfl rfl
theorem dX5_issueOf_0 : decode cX5_issueOf 0 = .ok (.aload_n 0, 1) := dk_42 (dk_at dksX5_issueOf_0 0 rfl rfl)
theorem dX5_issueOf_1 : decode cX5_issueOf 1 = .ok (.iconst 1, 1) := dk_4 (dk_at dksX5_issueOf_0 1 rfl rfl)
theorem dX5_issueOf_2 : decode cX5_issueOf 2 = .ok (.iload_n 1, 1) := dk_27 (dk_at dksX5_issueOf_0 2 rfl rfl)
theorem dX5_issueOf_3 : decode cX5_issueOf 3 = .ok (.ishl, 1) := dk_120 (dk_at dksX5_issueOf_0 3 rfl rfl)
theorem dX5_issueOf_4 : decode cX5_issueOf 4 = .ok (.invokevirtual 266, 3) := dk_182 1 10 (dk_at dksX5_issueOf_0 4 rfl rfl)
theorem dX5_issueOf_7 : decode cX5_issueOf 7 = .ok (.istore_n 2, 1) := dk_61 (dk_at dksX5_issueOf_0 7 rfl rfl)
theorem dX5_issueOf_8 : decode cX5_issueOf 8 = .ok (.iload_n 2, 1) := dk_28 (dk_at dksX5_issueOf_0 8 rfl rfl)
theorem dX5_issueOf_9 : decode cX5_issueOf 9 = .ok (.istore_n 3, 1) := dk_62 (dk_at dksX5_issueOf_0 9 rfl rfl)
theorem dX5_issueOf_10 : decode cX5_issueOf 10 = .ok (.iload_n 3, 1) := dk_29 (dk_at dksX5_issueOf_0 10 rfl rfl)
theorem dX5_issueOf_11 : decode cX5_issueOf 11 = .ok (.ifCond .eq 20, 3) := dk_153 0 20 (dk_at dksX5_issueOf_0 11 rfl rfl)
theorem dX5_issueOf_14 : decode cX5_issueOf 14 = .ok (.aload_n 0, 1) := dk_42 (dk_at dksX5_issueOf_0 14 rfl rfl)
theorem dX5_issueOf_15 : decode cX5_issueOf 15 = .ok (.iload_n 3, 1) := dk_29 (dk_at dksX5_issueOf_0 15 rfl rfl)
theorem dX5_issueOf_16 : decode cX5_issueOf 16 = .ok (.invokevirtual 266, 3) := dk_182 1 10 (dk_at dksX5_issueOf_0 16 rfl rfl)
theorem dX5_issueOf_19 : decode cX5_issueOf 19 = .ok (.iload_n 2, 1) := dk_28 (dk_at dksX5_issueOf_0 19 rfl rfl)
theorem dX5_issueOf_20 : decode cX5_issueOf 20 = .ok (.iconst (-1), 1) := dk_2 (dk_at dksX5_issueOf_0 20 rfl rfl)
theorem dX5_issueOf_21 : decode cX5_issueOf 21 = .ok (.ixor, 1) := dk_130 (dk_at dksX5_issueOf_0 21 rfl rfl)
theorem dX5_issueOf_22 : decode cX5_issueOf 22 = .ok (.iand, 1) := dk_126 (dk_at dksX5_issueOf_0 22 rfl rfl)
theorem dX5_issueOf_23 : decode cX5_issueOf 23 = .ok (.istore_n 3, 1) := dk_62 (dk_at dksX5_issueOf_0 23 rfl rfl)
theorem dX5_issueOf_24 : decode cX5_issueOf 24 = .ok (.iload_n 2, 1) := dk_28 (dk_at dksX5_issueOf_1 0 rfl rfl)
theorem dX5_issueOf_25 : decode cX5_issueOf 25 = .ok (.iload_n 3, 1) := dk_29 (dk_at dksX5_issueOf_1 1 rfl rfl)
theorem dX5_issueOf_26 : decode cX5_issueOf 26 = .ok (.ior, 1) := dk_128 (dk_at dksX5_issueOf_1 2 rfl rfl)
theorem dX5_issueOf_27 : decode cX5_issueOf 27 = .ok (.istore_n 2, 1) := dk_61 (dk_at dksX5_issueOf_1 3 rfl rfl)
theorem dX5_issueOf_28 : decode cX5_issueOf 28 = .ok (.goto (-18), 3) := dk_167 255 238 (dk_at dksX5_issueOf_1 4 rfl rfl)
theorem dX5_issueOf_31 : decode cX5_issueOf 31 = .ok (.iload_n 2, 1) := dk_28 (dk_at dksX5_issueOf_1 7 rfl rfl)
theorem dX5_issueOf_32 : decode cX5_issueOf 32 = .ok (.ireturn, 1) := dk_172 (dk_at dksX5_issueOf_1 8 rfl rfl)
abbrev cX5_living : ByteArray := prog_29_method_40_code
def yX5_living : MethodName := ⟨RX5, "living", "()I"⟩
def dkwX5_living_0 : List UInt8 := [4, 42, 180, 0, 33, 3, 46, 120, 4, 100, 42, 180, 0, 33, 16, 101, 46, 2, 130, 126, 172]
abbrev dktX5_living_0 : List UInt8 := dkwX5_living_0 ++ []
theorem dksX5_living_0 : cX5_living.data.toList.drop 0 = dktX5_living_0 := by decide +kernel
theorem dX5_living_0 : decode cX5_living 0 = .ok (.iconst 1, 1) := dk_4 (dk_at dksX5_living_0 0 rfl rfl)
theorem dX5_living_1 : decode cX5_living 1 = .ok (.aload_n 0, 1) := dk_42 (dk_at dksX5_living_0 1 rfl rfl)
theorem dX5_living_2 : decode cX5_living 2 = .ok (.getfield 33, 3) := dk_180 0 33 (dk_at dksX5_living_0 2 rfl rfl)
theorem dX5_living_5 : decode cX5_living 5 = .ok (.iconst 0, 1) := dk_3 (dk_at dksX5_living_0 5 rfl rfl)
theorem dX5_living_6 : decode cX5_living 6 = .ok (.iaload, 1) := dk_46 (dk_at dksX5_living_0 6 rfl rfl)
theorem dX5_living_7 : decode cX5_living 7 = .ok (.ishl, 1) := dk_120 (dk_at dksX5_living_0 7 rfl rfl)
theorem dX5_living_8 : decode cX5_living 8 = .ok (.iconst 1, 1) := dk_4 (dk_at dksX5_living_0 8 rfl rfl)
theorem dX5_living_9 : decode cX5_living 9 = .ok (.isub, 1) := dk_100 (dk_at dksX5_living_0 9 rfl rfl)
theorem dX5_living_10 : decode cX5_living 10 = .ok (.aload_n 0, 1) := dk_42 (dk_at dksX5_living_0 10 rfl rfl)
theorem dX5_living_11 : decode cX5_living 11 = .ok (.getfield 33, 3) := dk_180 0 33 (dk_at dksX5_living_0 11 rfl rfl)
theorem dX5_living_14 : decode cX5_living 14 = .ok (.bipush 101, 2) := dk_16 101 (dk_at dksX5_living_0 14 rfl rfl)
theorem dX5_living_16 : decode cX5_living 16 = .ok (.iaload, 1) := dk_46 (dk_at dksX5_living_0 16 rfl rfl)
theorem dX5_living_17 : decode cX5_living 17 = .ok (.iconst (-1), 1) := dk_2 (dk_at dksX5_living_0 17 rfl rfl)
theorem dX5_living_18 : decode cX5_living 18 = .ok (.ixor, 1) := dk_130 (dk_at dksX5_living_0 18 rfl rfl)
theorem dX5_living_19 : decode cX5_living 19 = .ok (.iand, 1) := dk_126 (dk_at dksX5_living_0 19 rfl rfl)
theorem dX5_living_20 : decode cX5_living 20 = .ok (.ireturn, 1) := dk_172 (dk_at dksX5_living_0 20 rfl rfl)
abbrev cX5_ofPerson : ByteArray := prog_29_method_47_code
def yX5_ofPerson : MethodName := ⟨RX5, "ofPerson", "(II)I"⟩
def dkwX5_ofPerson_1 : List UInt8 := [21, 4, 96, 46, 28, 160, 0, 7, 4, 167, 0, 4, 3, 96, 62, 132, 4, 1, 167, 255, 220, 29, 172]
abbrev dktX5_ofPerson_1 : List UInt8 := dkwX5_ofPerson_1 ++ []
def dkwX5_ofPerson_0 : List UInt8 := [3, 62, 3, 54, 4, 21, 4, 42, 180, 0, 33, 16, 104, 46, 162, 0, 30, 29, 42, 180, 0, 33, 27]
abbrev dktX5_ofPerson_0 : List UInt8 := dkwX5_ofPerson_0 ++ dktX5_ofPerson_1
theorem dksX5_ofPerson_0 : cX5_ofPerson.data.toList.drop 0 = dktX5_ofPerson_0 := by decide +kernel
theorem dksX5_ofPerson_1 : cX5_ofPerson.data.toList.drop 23 = dktX5_ofPerson_1 := dk_seg dksX5_ofPerson_0 23 rfl rfl
theorem dX5_ofPerson_0 : decode cX5_ofPerson 0 = .ok (.iconst 0, 1) := dk_3 (dk_at dksX5_ofPerson_0 0 rfl rfl)
theorem dX5_ofPerson_1 : decode cX5_ofPerson 1 = .ok (.istore_n 3, 1) := dk_62 (dk_at dksX5_ofPerson_0 1 rfl rfl)
theorem dX5_ofPerson_2 : decode cX5_ofPerson 2 = .ok (.iconst 0, 1) := dk_3 (dk_at dksX5_ofPerson_0 2 rfl rfl)
theorem dX5_ofPerson_3 : decode cX5_ofPerson 3 = .ok (.istore 4, 2) := dk_54 4 (dk_at dksX5_ofPerson_0 3 rfl rfl)
theorem dX5_ofPerson_5 : decode cX5_ofPerson 5 = .ok (.iload 4, 2) := dk_21 4 (dk_at dksX5_ofPerson_0 5 rfl rfl)
theorem dX5_ofPerson_7 : decode cX5_ofPerson 7 = .ok (.aload_n 0, 1) := dk_42 (dk_at dksX5_ofPerson_0 7 rfl rfl)
theorem dX5_ofPerson_8 : decode cX5_ofPerson 8 = .ok (.getfield 33, 3) := dk_180 0 33 (dk_at dksX5_ofPerson_0 8 rfl rfl)
theorem dX5_ofPerson_11 : decode cX5_ofPerson 11 = .ok (.bipush 104, 2) := dk_16 104 (dk_at dksX5_ofPerson_0 11 rfl rfl)
theorem dX5_ofPerson_13 : decode cX5_ofPerson 13 = .ok (.iaload, 1) := dk_46 (dk_at dksX5_ofPerson_0 13 rfl rfl)
theorem dX5_ofPerson_14 : decode cX5_ofPerson 14 = .ok (.if_icmp .ge 30, 3) := dk_162 0 30 (dk_at dksX5_ofPerson_0 14 rfl rfl)
theorem dX5_ofPerson_17 : decode cX5_ofPerson 17 = .ok (.iload_n 3, 1) := dk_29 (dk_at dksX5_ofPerson_0 17 rfl rfl)
theorem dX5_ofPerson_18 : decode cX5_ofPerson 18 = .ok (.aload_n 0, 1) := dk_42 (dk_at dksX5_ofPerson_0 18 rfl rfl)
theorem dX5_ofPerson_19 : decode cX5_ofPerson 19 = .ok (.getfield 33, 3) := dk_180 0 33 (dk_at dksX5_ofPerson_0 19 rfl rfl)
theorem dX5_ofPerson_22 : decode cX5_ofPerson 22 = .ok (.iload_n 1, 1) := dk_27 (dk_at dksX5_ofPerson_0 22 rfl rfl)
theorem dX5_ofPerson_23 : decode cX5_ofPerson 23 = .ok (.iload 4, 2) := dk_21 4 (dk_at dksX5_ofPerson_1 0 rfl rfl)
theorem dX5_ofPerson_25 : decode cX5_ofPerson 25 = .ok (.iadd, 1) := dk_96 (dk_at dksX5_ofPerson_1 2 rfl rfl)
theorem dX5_ofPerson_26 : decode cX5_ofPerson 26 = .ok (.iaload, 1) := dk_46 (dk_at dksX5_ofPerson_1 3 rfl rfl)
theorem dX5_ofPerson_27 : decode cX5_ofPerson 27 = .ok (.iload_n 2, 1) := dk_28 (dk_at dksX5_ofPerson_1 4 rfl rfl)
theorem dX5_ofPerson_28 : decode cX5_ofPerson 28 = .ok (.if_icmp .ne 7, 3) := dk_160 0 7 (dk_at dksX5_ofPerson_1 5 rfl rfl)
theorem dX5_ofPerson_31 : decode cX5_ofPerson 31 = .ok (.iconst 1, 1) := dk_4 (dk_at dksX5_ofPerson_1 8 rfl rfl)
theorem dX5_ofPerson_32 : decode cX5_ofPerson 32 = .ok (.goto 4, 3) := dk_167 0 4 (dk_at dksX5_ofPerson_1 9 rfl rfl)
theorem dX5_ofPerson_35 : decode cX5_ofPerson 35 = .ok (.iconst 0, 1) := dk_3 (dk_at dksX5_ofPerson_1 12 rfl rfl)
theorem dX5_ofPerson_36 : decode cX5_ofPerson 36 = .ok (.iadd, 1) := dk_96 (dk_at dksX5_ofPerson_1 13 rfl rfl)
theorem dX5_ofPerson_37 : decode cX5_ofPerson 37 = .ok (.istore_n 3, 1) := dk_62 (dk_at dksX5_ofPerson_1 14 rfl rfl)
theorem dX5_ofPerson_38 : decode cX5_ofPerson 38 = .ok (.iinc 4 1, 3) := dk_132 4 1 (dk_at dksX5_ofPerson_1 15 rfl rfl)
theorem dX5_ofPerson_41 : decode cX5_ofPerson 41 = .ok (.goto (-36), 3) := dk_167 255 220 (dk_at dksX5_ofPerson_1 18 rfl rfl)
theorem dX5_ofPerson_44 : decode cX5_ofPerson 44 = .ok (.iload_n 3, 1) := dk_29 (dk_at dksX5_ofPerson_1 21 rfl rfl)
theorem dX5_ofPerson_45 : decode cX5_ofPerson 45 = .ok (.ireturn, 1) := dk_172 (dk_at dksX5_ofPerson_1 22 rfl rfl)
abbrev cX5_legacy : ByteArray := prog_29_method_50_code
def yX5_legacy : MethodName := ⟨RX5, "legacy", "(II)I"⟩
def dkwX5_legacy_3 : List UInt8 := [27, 96, 46, 167, 0, 4, 2, 172]
abbrev dktX5_legacy_3 : List UInt8 := dkwX5_legacy_3 ++ []
def dkwX5_legacy_2 : List UInt8 := [180, 0, 33, 17, 0, 141, 27, 96, 46, 167, 0, 22, 28, 5, 160, 0, 16, 42, 180, 0, 33, 17, 0, 153]
abbrev dktX5_legacy_2 : List UInt8 := dkwX5_legacy_2 ++ dktX5_legacy_3
def dkwX5_legacy_1 : List UInt8 := [28, 154, 0, 16, 42, 180, 0, 33, 17, 0, 129, 27, 96, 46, 167, 0, 40, 28, 4, 160, 0, 16, 42]
abbrev dktX5_legacy_1 : List UInt8 := dkwX5_legacy_1 ++ dktX5_legacy_2
def dkwX5_legacy_0 : List UInt8 := [42, 3, 181, 0, 1, 27, 3, 42, 180, 0, 33, 16, 104, 46, 4, 100, 184, 0, 190, 154, 0, 5, 2, 172]
abbrev dktX5_legacy_0 : List UInt8 := dkwX5_legacy_0 ++ dktX5_legacy_1
theorem dksX5_legacy_0 : cX5_legacy.data.toList.drop 0 = dktX5_legacy_0 := by decide +kernel
theorem dksX5_legacy_1 : cX5_legacy.data.toList.drop 24 = dktX5_legacy_1 := dk_seg dksX5_legacy_0 24 rfl rfl
theorem dksX5_legacy_2 : cX5_legacy.data.toList.drop 47 = dktX5_legacy_2 := dk_seg dksX5_legacy_1 23 rfl rfl
theorem dksX5_legacy_3 : cX5_legacy.data.toList.drop 71 = dktX5_legacy_3 := dk_seg dksX5_legacy_2 24 rfl rfl
theorem dX5_legacy_0 : decode cX5_legacy 0 = .ok (.aload_n 0, 1) := dk_42 (dk_at dksX5_legacy_0 0 rfl rfl)
theorem dX5_legacy_1 : decode cX5_legacy 1 = .ok (.iconst 0, 1) := dk_3 (dk_at dksX5_legacy_0 1 rfl rfl)
theorem dX5_legacy_2 : decode cX5_legacy 2 = .ok (.putfield 1, 3) := dk_181 0 1 (dk_at dksX5_legacy_0 2 rfl rfl)
theorem dX5_legacy_5 : decode cX5_legacy 5 = .ok (.iload_n 1, 1) := dk_27 (dk_at dksX5_legacy_0 5 rfl rfl)
theorem dX5_legacy_6 : decode cX5_legacy 6 = .ok (.iconst 0, 1) := dk_3 (dk_at dksX5_legacy_0 6 rfl rfl)
theorem dX5_legacy_7 : decode cX5_legacy 7 = .ok (.aload_n 0, 1) := dk_42 (dk_at dksX5_legacy_0 7 rfl rfl)
theorem dX5_legacy_8 : decode cX5_legacy 8 = .ok (.getfield 33, 3) := dk_180 0 33 (dk_at dksX5_legacy_0 8 rfl rfl)
theorem dX5_legacy_11 : decode cX5_legacy 11 = .ok (.bipush 104, 2) := dk_16 104 (dk_at dksX5_legacy_0 11 rfl rfl)
theorem dX5_legacy_13 : decode cX5_legacy 13 = .ok (.iaload, 1) := dk_46 (dk_at dksX5_legacy_0 13 rfl rfl)
theorem dX5_legacy_14 : decode cX5_legacy 14 = .ok (.iconst 1, 1) := dk_4 (dk_at dksX5_legacy_0 14 rfl rfl)
theorem dX5_legacy_15 : decode cX5_legacy 15 = .ok (.isub, 1) := dk_100 (dk_at dksX5_legacy_0 15 rfl rfl)
theorem dX5_legacy_16 : decode cX5_legacy 16 = .ok (.invokestatic 190, 3) := dk_184 0 190 (dk_at dksX5_legacy_0 16 rfl rfl)
theorem dX5_legacy_19 : decode cX5_legacy 19 = .ok (.ifCond .ne 5, 3) := dk_154 0 5 (dk_at dksX5_legacy_0 19 rfl rfl)
theorem dX5_legacy_22 : decode cX5_legacy 22 = .ok (.iconst (-1), 1) := dk_2 (dk_at dksX5_legacy_0 22 rfl rfl)
theorem dX5_legacy_23 : decode cX5_legacy 23 = .ok (.ireturn, 1) := dk_172 (dk_at dksX5_legacy_0 23 rfl rfl)
theorem dX5_legacy_24 : decode cX5_legacy 24 = .ok (.iload_n 2, 1) := dk_28 (dk_at dksX5_legacy_1 0 rfl rfl)
theorem dX5_legacy_25 : decode cX5_legacy 25 = .ok (.ifCond .ne 16, 3) := dk_154 0 16 (dk_at dksX5_legacy_1 1 rfl rfl)
theorem dX5_legacy_28 : decode cX5_legacy 28 = .ok (.aload_n 0, 1) := dk_42 (dk_at dksX5_legacy_1 4 rfl rfl)
theorem dX5_legacy_29 : decode cX5_legacy 29 = .ok (.getfield 33, 3) := dk_180 0 33 (dk_at dksX5_legacy_1 5 rfl rfl)
theorem dX5_legacy_32 : decode cX5_legacy 32 = .ok (.sipush 129, 3) := dk_17 0 129 (dk_at dksX5_legacy_1 8 rfl rfl)
theorem dX5_legacy_35 : decode cX5_legacy 35 = .ok (.iload_n 1, 1) := dk_27 (dk_at dksX5_legacy_1 11 rfl rfl)
theorem dX5_legacy_36 : decode cX5_legacy 36 = .ok (.iadd, 1) := dk_96 (dk_at dksX5_legacy_1 12 rfl rfl)
theorem dX5_legacy_37 : decode cX5_legacy 37 = .ok (.iaload, 1) := dk_46 (dk_at dksX5_legacy_1 13 rfl rfl)
theorem dX5_legacy_38 : decode cX5_legacy 38 = .ok (.goto 40, 3) := dk_167 0 40 (dk_at dksX5_legacy_1 14 rfl rfl)
theorem dX5_legacy_41 : decode cX5_legacy 41 = .ok (.iload_n 2, 1) := dk_28 (dk_at dksX5_legacy_1 17 rfl rfl)
theorem dX5_legacy_42 : decode cX5_legacy 42 = .ok (.iconst 1, 1) := dk_4 (dk_at dksX5_legacy_1 18 rfl rfl)
theorem dX5_legacy_43 : decode cX5_legacy 43 = .ok (.if_icmp .ne 16, 3) := dk_160 0 16 (dk_at dksX5_legacy_1 19 rfl rfl)
theorem dX5_legacy_46 : decode cX5_legacy 46 = .ok (.aload_n 0, 1) := dk_42 (dk_at dksX5_legacy_1 22 rfl rfl)
theorem dX5_legacy_47 : decode cX5_legacy 47 = .ok (.getfield 33, 3) := dk_180 0 33 (dk_at dksX5_legacy_2 0 rfl rfl)
theorem dX5_legacy_50 : decode cX5_legacy 50 = .ok (.sipush 141, 3) := dk_17 0 141 (dk_at dksX5_legacy_2 3 rfl rfl)
theorem dX5_legacy_53 : decode cX5_legacy 53 = .ok (.iload_n 1, 1) := dk_27 (dk_at dksX5_legacy_2 6 rfl rfl)
theorem dX5_legacy_54 : decode cX5_legacy 54 = .ok (.iadd, 1) := dk_96 (dk_at dksX5_legacy_2 7 rfl rfl)
theorem dX5_legacy_55 : decode cX5_legacy 55 = .ok (.iaload, 1) := dk_46 (dk_at dksX5_legacy_2 8 rfl rfl)
theorem dX5_legacy_56 : decode cX5_legacy 56 = .ok (.goto 22, 3) := dk_167 0 22 (dk_at dksX5_legacy_2 9 rfl rfl)
theorem dX5_legacy_59 : decode cX5_legacy 59 = .ok (.iload_n 2, 1) := dk_28 (dk_at dksX5_legacy_2 12 rfl rfl)
theorem dX5_legacy_60 : decode cX5_legacy 60 = .ok (.iconst 2, 1) := dk_5 (dk_at dksX5_legacy_2 13 rfl rfl)
theorem dX5_legacy_61 : decode cX5_legacy 61 = .ok (.if_icmp .ne 16, 3) := dk_160 0 16 (dk_at dksX5_legacy_2 14 rfl rfl)
theorem dX5_legacy_64 : decode cX5_legacy 64 = .ok (.aload_n 0, 1) := dk_42 (dk_at dksX5_legacy_2 17 rfl rfl)
theorem dX5_legacy_65 : decode cX5_legacy 65 = .ok (.getfield 33, 3) := dk_180 0 33 (dk_at dksX5_legacy_2 18 rfl rfl)
theorem dX5_legacy_68 : decode cX5_legacy 68 = .ok (.sipush 153, 3) := dk_17 0 153 (dk_at dksX5_legacy_2 21 rfl rfl)
theorem dX5_legacy_71 : decode cX5_legacy 71 = .ok (.iload_n 1, 1) := dk_27 (dk_at dksX5_legacy_3 0 rfl rfl)
theorem dX5_legacy_72 : decode cX5_legacy 72 = .ok (.iadd, 1) := dk_96 (dk_at dksX5_legacy_3 1 rfl rfl)
theorem dX5_legacy_73 : decode cX5_legacy 73 = .ok (.iaload, 1) := dk_46 (dk_at dksX5_legacy_3 2 rfl rfl)
theorem dX5_legacy_74 : decode cX5_legacy 74 = .ok (.goto 4, 3) := dk_167 0 4 (dk_at dksX5_legacy_3 3 rfl rfl)
theorem dX5_legacy_77 : decode cX5_legacy 77 = .ok (.iconst (-1), 1) := dk_2 (dk_at dksX5_legacy_3 6 rfl rfl)
theorem dX5_legacy_78 : decode cX5_legacy 78 = .ok (.ireturn, 1) := dk_172 (dk_at dksX5_legacy_3 7 rfl rfl)
abbrev cX5_degree : ByteArray := prog_29_method_51_code
def yX5_degree : MethodName := ⟨RX5, "degree", "(II)I"⟩
def dkwX5_degree_1 : List UInt8 := [182, 1, 38, 167, 0, 4, 2, 172]
abbrev dktX5_degree_1 : List UInt8 := dkwX5_degree_1 ++ []
def dkwX5_degree_0 : List UInt8 := [42, 3, 181, 0, 1, 42, 27, 182, 1, 28, 153, 0, 20, 42, 28, 182, 1, 28, 153, 0, 12, 42, 27, 28]
abbrev dktX5_degree_0 : List UInt8 := dkwX5_degree_0 ++ dktX5_degree_1
theorem dksX5_degree_0 : cX5_degree.data.toList.drop 0 = dktX5_degree_0 := by decide +kernel
theorem dksX5_degree_1 : cX5_degree.data.toList.drop 24 = dktX5_degree_1 := dk_seg dksX5_degree_0 24 rfl rfl
theorem dX5_degree_0 : decode cX5_degree 0 = .ok (.aload_n 0, 1) := dk_42 (dk_at dksX5_degree_0 0 rfl rfl)
theorem dX5_degree_1 : decode cX5_degree 1 = .ok (.iconst 0, 1) := dk_3 (dk_at dksX5_degree_0 1 rfl rfl)
theorem dX5_degree_2 : decode cX5_degree 2 = .ok (.putfield 1, 3) := dk_181 0 1 (dk_at dksX5_degree_0 2 rfl rfl)
theorem dX5_degree_5 : decode cX5_degree 5 = .ok (.aload_n 0, 1) := dk_42 (dk_at dksX5_degree_0 5 rfl rfl)
theorem dX5_degree_6 : decode cX5_degree 6 = .ok (.iload_n 1, 1) := dk_27 (dk_at dksX5_degree_0 6 rfl rfl)
theorem dX5_degree_7 : decode cX5_degree 7 = .ok (.invokevirtual 284, 3) := dk_182 1 28 (dk_at dksX5_degree_0 7 rfl rfl)
theorem dX5_degree_10 : decode cX5_degree 10 = .ok (.ifCond .eq 20, 3) := dk_153 0 20 (dk_at dksX5_degree_0 10 rfl rfl)
theorem dX5_degree_13 : decode cX5_degree 13 = .ok (.aload_n 0, 1) := dk_42 (dk_at dksX5_degree_0 13 rfl rfl)
theorem dX5_degree_14 : decode cX5_degree 14 = .ok (.iload_n 2, 1) := dk_28 (dk_at dksX5_degree_0 14 rfl rfl)
theorem dX5_degree_15 : decode cX5_degree 15 = .ok (.invokevirtual 284, 3) := dk_182 1 28 (dk_at dksX5_degree_0 15 rfl rfl)
theorem dX5_degree_18 : decode cX5_degree 18 = .ok (.ifCond .eq 12, 3) := dk_153 0 12 (dk_at dksX5_degree_0 18 rfl rfl)
theorem dX5_degree_21 : decode cX5_degree 21 = .ok (.aload_n 0, 1) := dk_42 (dk_at dksX5_degree_0 21 rfl rfl)
theorem dX5_degree_22 : decode cX5_degree 22 = .ok (.iload_n 1, 1) := dk_27 (dk_at dksX5_degree_0 22 rfl rfl)
theorem dX5_degree_23 : decode cX5_degree 23 = .ok (.iload_n 2, 1) := dk_28 (dk_at dksX5_degree_0 23 rfl rfl)
theorem dX5_degree_24 : decode cX5_degree 24 = .ok (.invokevirtual 294, 3) := dk_182 1 38 (dk_at dksX5_degree_1 0 rfl rfl)
theorem dX5_degree_27 : decode cX5_degree 27 = .ok (.goto 4, 3) := dk_167 0 4 (dk_at dksX5_degree_1 3 rfl rfl)
theorem dX5_degree_30 : decode cX5_degree 30 = .ok (.iconst (-1), 1) := dk_2 (dk_at dksX5_degree_1 6 rfl rfl)
theorem dX5_degree_31 : decode cX5_degree 31 = .ok (.ireturn, 1) := dk_172 (dk_at dksX5_degree_1 7 rfl rfl)
abbrev cX5_degreeOf : ByteArray := prog_29_method_46_code
def yX5_degreeOf : MethodName := ⟨RX5, "degreeOf", "(II)I"⟩
def dkwX5_degreeOf_4 : List UInt8 := [167, 255, 172, 29, 172]
abbrev dktX5_degreeOf_4 : List UInt8 := dkwX5_degreeOf_4 ++ []
def dkwX5_degreeOf_3 : List UInt8 := [21, 6, 182, 1, 25, 54, 6, 132, 7, 1, 167, 255, 206, 42, 21, 4, 182, 1, 25, 54, 4, 132, 5, 1]
abbrev dktX5_degreeOf_3 : List UInt8 := dkwX5_degreeOf_3 ++ dktX5_degreeOf_4
def dkwX5_degreeOf_2 : List UInt8 := [153, 0, 22, 29, 155, 0, 12, 21, 5, 21, 7, 96, 29, 162, 0, 9, 21, 5, 21, 7, 96, 62, 42]
abbrev dktX5_degreeOf_2 : List UInt8 := dkwX5_degreeOf_2 ++ dktX5_degreeOf_3
def dkwX5_degreeOf_1 : List UInt8 := [120, 54, 6, 3, 54, 7, 21, 7, 16, 12, 162, 0, 49, 21, 6, 153, 0, 44, 21, 4, 21, 6, 126]
abbrev dktX5_degreeOf_1 : List UInt8 := dkwX5_degreeOf_1 ++ dktX5_degreeOf_2
def dkwX5_degreeOf_0 : List UInt8 := [2, 62, 4, 27, 120, 54, 4, 3, 54, 5, 21, 5, 16, 12, 162, 0, 83, 21, 4, 153, 0, 78, 4, 28]
abbrev dktX5_degreeOf_0 : List UInt8 := dkwX5_degreeOf_0 ++ dktX5_degreeOf_1
theorem dksX5_degreeOf_0 : cX5_degreeOf.data.toList.drop 0 = dktX5_degreeOf_0 := by decide +kernel
theorem dksX5_degreeOf_1 : cX5_degreeOf.data.toList.drop 24 = dktX5_degreeOf_1 := dk_seg dksX5_degreeOf_0 24 rfl rfl
theorem dksX5_degreeOf_2 : cX5_degreeOf.data.toList.drop 47 = dktX5_degreeOf_2 := dk_seg dksX5_degreeOf_1 23 rfl rfl
theorem dksX5_degreeOf_3 : cX5_degreeOf.data.toList.drop 70 = dktX5_degreeOf_3 := dk_seg dksX5_degreeOf_2 23 rfl rfl
theorem dksX5_degreeOf_4 : cX5_degreeOf.data.toList.drop 94 = dktX5_degreeOf_4 := dk_seg dksX5_degreeOf_3 24 rfl rfl
theorem dX5_degreeOf_0 : decode cX5_degreeOf 0 = .ok (.iconst (-1), 1) := dk_2 (dk_at dksX5_degreeOf_0 0 rfl rfl)
theorem dX5_degreeOf_1 : decode cX5_degreeOf 1 = .ok (.istore_n 3, 1) := dk_62 (dk_at dksX5_degreeOf_0 1 rfl rfl)
theorem dX5_degreeOf_2 : decode cX5_degreeOf 2 = .ok (.iconst 1, 1) := dk_4 (dk_at dksX5_degreeOf_0 2 rfl rfl)
theorem dX5_degreeOf_3 : decode cX5_degreeOf 3 = .ok (.iload_n 1, 1) := dk_27 (dk_at dksX5_degreeOf_0 3 rfl rfl)
theorem dX5_degreeOf_4 : decode cX5_degreeOf 4 = .ok (.ishl, 1) := dk_120 (dk_at dksX5_degreeOf_0 4 rfl rfl)
theorem dX5_degreeOf_5 : decode cX5_degreeOf 5 = .ok (.istore 4, 2) := dk_54 4 (dk_at dksX5_degreeOf_0 5 rfl rfl)
theorem dX5_degreeOf_7 : decode cX5_degreeOf 7 = .ok (.iconst 0, 1) := dk_3 (dk_at dksX5_degreeOf_0 7 rfl rfl)
theorem dX5_degreeOf_8 : decode cX5_degreeOf 8 = .ok (.istore 5, 2) := dk_54 5 (dk_at dksX5_degreeOf_0 8 rfl rfl)
theorem dX5_degreeOf_10 : decode cX5_degreeOf 10 = .ok (.iload 5, 2) := dk_21 5 (dk_at dksX5_degreeOf_0 10 rfl rfl)
theorem dX5_degreeOf_12 : decode cX5_degreeOf 12 = .ok (.bipush 12, 2) := dk_16 12 (dk_at dksX5_degreeOf_0 12 rfl rfl)
theorem dX5_degreeOf_14 : decode cX5_degreeOf 14 = .ok (.if_icmp .ge 83, 3) := dk_162 0 83 (dk_at dksX5_degreeOf_0 14 rfl rfl)
theorem dX5_degreeOf_17 : decode cX5_degreeOf 17 = .ok (.iload 4, 2) := dk_21 4 (dk_at dksX5_degreeOf_0 17 rfl rfl)
theorem dX5_degreeOf_19 : decode cX5_degreeOf 19 = .ok (.ifCond .eq 78, 3) := dk_153 0 78 (dk_at dksX5_degreeOf_0 19 rfl rfl)
theorem dX5_degreeOf_22 : decode cX5_degreeOf 22 = .ok (.iconst 1, 1) := dk_4 (dk_at dksX5_degreeOf_0 22 rfl rfl)
theorem dX5_degreeOf_23 : decode cX5_degreeOf 23 = .ok (.iload_n 2, 1) := dk_28 (dk_at dksX5_degreeOf_0 23 rfl rfl)
theorem dX5_degreeOf_24 : decode cX5_degreeOf 24 = .ok (.ishl, 1) := dk_120 (dk_at dksX5_degreeOf_1 0 rfl rfl)
theorem dX5_degreeOf_25 : decode cX5_degreeOf 25 = .ok (.istore 6, 2) := dk_54 6 (dk_at dksX5_degreeOf_1 1 rfl rfl)
theorem dX5_degreeOf_27 : decode cX5_degreeOf 27 = .ok (.iconst 0, 1) := dk_3 (dk_at dksX5_degreeOf_1 3 rfl rfl)
theorem dX5_degreeOf_28 : decode cX5_degreeOf 28 = .ok (.istore 7, 2) := dk_54 7 (dk_at dksX5_degreeOf_1 4 rfl rfl)
theorem dX5_degreeOf_30 : decode cX5_degreeOf 30 = .ok (.iload 7, 2) := dk_21 7 (dk_at dksX5_degreeOf_1 6 rfl rfl)
theorem dX5_degreeOf_32 : decode cX5_degreeOf 32 = .ok (.bipush 12, 2) := dk_16 12 (dk_at dksX5_degreeOf_1 8 rfl rfl)
theorem dX5_degreeOf_34 : decode cX5_degreeOf 34 = .ok (.if_icmp .ge 49, 3) := dk_162 0 49 (dk_at dksX5_degreeOf_1 10 rfl rfl)
theorem dX5_degreeOf_37 : decode cX5_degreeOf 37 = .ok (.iload 6, 2) := dk_21 6 (dk_at dksX5_degreeOf_1 13 rfl rfl)
theorem dX5_degreeOf_39 : decode cX5_degreeOf 39 = .ok (.ifCond .eq 44, 3) := dk_153 0 44 (dk_at dksX5_degreeOf_1 15 rfl rfl)
theorem dX5_degreeOf_42 : decode cX5_degreeOf 42 = .ok (.iload 4, 2) := dk_21 4 (dk_at dksX5_degreeOf_1 18 rfl rfl)
theorem dX5_degreeOf_44 : decode cX5_degreeOf 44 = .ok (.iload 6, 2) := dk_21 6 (dk_at dksX5_degreeOf_1 20 rfl rfl)
theorem dX5_degreeOf_46 : decode cX5_degreeOf 46 = .ok (.iand, 1) := dk_126 (dk_at dksX5_degreeOf_1 22 rfl rfl)
theorem dX5_degreeOf_47 : decode cX5_degreeOf 47 = .ok (.ifCond .eq 22, 3) := dk_153 0 22 (dk_at dksX5_degreeOf_2 0 rfl rfl)
theorem dX5_degreeOf_50 : decode cX5_degreeOf 50 = .ok (.iload_n 3, 1) := dk_29 (dk_at dksX5_degreeOf_2 3 rfl rfl)
theorem dX5_degreeOf_51 : decode cX5_degreeOf 51 = .ok (.ifCond .lt 12, 3) := dk_155 0 12 (dk_at dksX5_degreeOf_2 4 rfl rfl)
theorem dX5_degreeOf_54 : decode cX5_degreeOf 54 = .ok (.iload 5, 2) := dk_21 5 (dk_at dksX5_degreeOf_2 7 rfl rfl)
theorem dX5_degreeOf_56 : decode cX5_degreeOf 56 = .ok (.iload 7, 2) := dk_21 7 (dk_at dksX5_degreeOf_2 9 rfl rfl)
theorem dX5_degreeOf_58 : decode cX5_degreeOf 58 = .ok (.iadd, 1) := dk_96 (dk_at dksX5_degreeOf_2 11 rfl rfl)
theorem dX5_degreeOf_59 : decode cX5_degreeOf 59 = .ok (.iload_n 3, 1) := dk_29 (dk_at dksX5_degreeOf_2 12 rfl rfl)
theorem dX5_degreeOf_60 : decode cX5_degreeOf 60 = .ok (.if_icmp .ge 9, 3) := dk_162 0 9 (dk_at dksX5_degreeOf_2 13 rfl rfl)
theorem dX5_degreeOf_63 : decode cX5_degreeOf 63 = .ok (.iload 5, 2) := dk_21 5 (dk_at dksX5_degreeOf_2 16 rfl rfl)
theorem dX5_degreeOf_65 : decode cX5_degreeOf 65 = .ok (.iload 7, 2) := dk_21 7 (dk_at dksX5_degreeOf_2 18 rfl rfl)
theorem dX5_degreeOf_67 : decode cX5_degreeOf 67 = .ok (.iadd, 1) := dk_96 (dk_at dksX5_degreeOf_2 20 rfl rfl)
theorem dX5_degreeOf_68 : decode cX5_degreeOf 68 = .ok (.istore_n 3, 1) := dk_62 (dk_at dksX5_degreeOf_2 21 rfl rfl)
theorem dX5_degreeOf_69 : decode cX5_degreeOf 69 = .ok (.aload_n 0, 1) := dk_42 (dk_at dksX5_degreeOf_2 22 rfl rfl)
theorem dX5_degreeOf_70 : decode cX5_degreeOf 70 = .ok (.iload 6, 2) := dk_21 6 (dk_at dksX5_degreeOf_3 0 rfl rfl)
theorem dX5_degreeOf_72 : decode cX5_degreeOf 72 = .ok (.invokevirtual 281, 3) := dk_182 1 25 (dk_at dksX5_degreeOf_3 2 rfl rfl)
theorem dX5_degreeOf_75 : decode cX5_degreeOf 75 = .ok (.istore 6, 2) := dk_54 6 (dk_at dksX5_degreeOf_3 5 rfl rfl)
theorem dX5_degreeOf_77 : decode cX5_degreeOf 77 = .ok (.iinc 7 1, 3) := dk_132 7 1 (dk_at dksX5_degreeOf_3 7 rfl rfl)
theorem dX5_degreeOf_80 : decode cX5_degreeOf 80 = .ok (.goto (-50), 3) := dk_167 255 206 (dk_at dksX5_degreeOf_3 10 rfl rfl)
theorem dX5_degreeOf_83 : decode cX5_degreeOf 83 = .ok (.aload_n 0, 1) := dk_42 (dk_at dksX5_degreeOf_3 13 rfl rfl)
theorem dX5_degreeOf_84 : decode cX5_degreeOf 84 = .ok (.iload 4, 2) := dk_21 4 (dk_at dksX5_degreeOf_3 14 rfl rfl)
theorem dX5_degreeOf_86 : decode cX5_degreeOf 86 = .ok (.invokevirtual 281, 3) := dk_182 1 25 (dk_at dksX5_degreeOf_3 16 rfl rfl)
theorem dX5_degreeOf_89 : decode cX5_degreeOf 89 = .ok (.istore 4, 2) := dk_54 4 (dk_at dksX5_degreeOf_3 19 rfl rfl)
theorem dX5_degreeOf_91 : decode cX5_degreeOf 91 = .ok (.iinc 5 1, 3) := dk_132 5 1 (dk_at dksX5_degreeOf_3 21 rfl rfl)
theorem dX5_degreeOf_94 : decode cX5_degreeOf 94 = .ok (.goto (-84), 3) := dk_167 255 172 (dk_at dksX5_degreeOf_4 0 rfl rfl)
theorem dX5_degreeOf_97 : decode cX5_degreeOf 97 = .ok (.iload_n 3, 1) := dk_29 (dk_at dksX5_degreeOf_4 3 rfl rfl)
theorem dX5_degreeOf_98 : decode cX5_degreeOf 98 = .ok (.ireturn, 1) := dk_172 (dk_at dksX5_degreeOf_4 4 rfl rfl)
abbrev cX5_parentsOf : ByteArray := prog_29_method_42_code
def yX5_parentsOf : MethodName := ⟨RX5, "parentsOf", "(I)I"⟩
def dkwX5_parentsOf_1 : List UInt8 := [180, 0, 33, 16, 27, 29, 96, 46, 167, 0, 4, 3, 128, 61, 132, 3, 1, 167, 255, 219, 28, 172]
abbrev dktX5_parentsOf_1 : List UInt8 := dkwX5_parentsOf_1 ++ []
def dkwX5_parentsOf_0 : List UInt8 := [3, 61, 3, 62, 29, 42, 180, 0, 33, 3, 46, 162, 0, 33, 28, 27, 29, 184, 0, 242, 153, 0, 15, 42]
abbrev dktX5_parentsOf_0 : List UInt8 := dkwX5_parentsOf_0 ++ dktX5_parentsOf_1
theorem dksX5_parentsOf_0 : cX5_parentsOf.data.toList.drop 0 = dktX5_parentsOf_0 := by decide +kernel
theorem dksX5_parentsOf_1 : cX5_parentsOf.data.toList.drop 24 = dktX5_parentsOf_1 := dk_seg dksX5_parentsOf_0 24 rfl rfl
theorem dX5_parentsOf_0 : decode cX5_parentsOf 0 = .ok (.iconst 0, 1) := dk_3 (dk_at dksX5_parentsOf_0 0 rfl rfl)
theorem dX5_parentsOf_1 : decode cX5_parentsOf 1 = .ok (.istore_n 2, 1) := dk_61 (dk_at dksX5_parentsOf_0 1 rfl rfl)
theorem dX5_parentsOf_2 : decode cX5_parentsOf 2 = .ok (.iconst 0, 1) := dk_3 (dk_at dksX5_parentsOf_0 2 rfl rfl)
theorem dX5_parentsOf_3 : decode cX5_parentsOf 3 = .ok (.istore_n 3, 1) := dk_62 (dk_at dksX5_parentsOf_0 3 rfl rfl)
theorem dX5_parentsOf_4 : decode cX5_parentsOf 4 = .ok (.iload_n 3, 1) := dk_29 (dk_at dksX5_parentsOf_0 4 rfl rfl)
theorem dX5_parentsOf_5 : decode cX5_parentsOf 5 = .ok (.aload_n 0, 1) := dk_42 (dk_at dksX5_parentsOf_0 5 rfl rfl)
theorem dX5_parentsOf_6 : decode cX5_parentsOf 6 = .ok (.getfield 33, 3) := dk_180 0 33 (dk_at dksX5_parentsOf_0 6 rfl rfl)
theorem dX5_parentsOf_9 : decode cX5_parentsOf 9 = .ok (.iconst 0, 1) := dk_3 (dk_at dksX5_parentsOf_0 9 rfl rfl)
theorem dX5_parentsOf_10 : decode cX5_parentsOf 10 = .ok (.iaload, 1) := dk_46 (dk_at dksX5_parentsOf_0 10 rfl rfl)
theorem dX5_parentsOf_11 : decode cX5_parentsOf 11 = .ok (.if_icmp .ge 33, 3) := dk_162 0 33 (dk_at dksX5_parentsOf_0 11 rfl rfl)
theorem dX5_parentsOf_14 : decode cX5_parentsOf 14 = .ok (.iload_n 2, 1) := dk_28 (dk_at dksX5_parentsOf_0 14 rfl rfl)
theorem dX5_parentsOf_15 : decode cX5_parentsOf 15 = .ok (.iload_n 1, 1) := dk_27 (dk_at dksX5_parentsOf_0 15 rfl rfl)
theorem dX5_parentsOf_16 : decode cX5_parentsOf 16 = .ok (.iload_n 3, 1) := dk_29 (dk_at dksX5_parentsOf_0 16 rfl rfl)
theorem dX5_parentsOf_17 : decode cX5_parentsOf 17 = .ok (.invokestatic 242, 3) := dk_184 0 242 (dk_at dksX5_parentsOf_0 17 rfl rfl)
theorem dX5_parentsOf_20 : decode cX5_parentsOf 20 = .ok (.ifCond .eq 15, 3) := dk_153 0 15 (dk_at dksX5_parentsOf_0 20 rfl rfl)
theorem dX5_parentsOf_23 : decode cX5_parentsOf 23 = .ok (.aload_n 0, 1) := dk_42 (dk_at dksX5_parentsOf_0 23 rfl rfl)
theorem dX5_parentsOf_24 : decode cX5_parentsOf 24 = .ok (.getfield 33, 3) := dk_180 0 33 (dk_at dksX5_parentsOf_1 0 rfl rfl)
theorem dX5_parentsOf_27 : decode cX5_parentsOf 27 = .ok (.bipush 27, 2) := dk_16 27 (dk_at dksX5_parentsOf_1 3 rfl rfl)
theorem dX5_parentsOf_29 : decode cX5_parentsOf 29 = .ok (.iload_n 3, 1) := dk_29 (dk_at dksX5_parentsOf_1 5 rfl rfl)
theorem dX5_parentsOf_30 : decode cX5_parentsOf 30 = .ok (.iadd, 1) := dk_96 (dk_at dksX5_parentsOf_1 6 rfl rfl)
theorem dX5_parentsOf_31 : decode cX5_parentsOf 31 = .ok (.iaload, 1) := dk_46 (dk_at dksX5_parentsOf_1 7 rfl rfl)
theorem dX5_parentsOf_32 : decode cX5_parentsOf 32 = .ok (.goto 4, 3) := dk_167 0 4 (dk_at dksX5_parentsOf_1 8 rfl rfl)
theorem dX5_parentsOf_35 : decode cX5_parentsOf 35 = .ok (.iconst 0, 1) := dk_3 (dk_at dksX5_parentsOf_1 11 rfl rfl)
theorem dX5_parentsOf_36 : decode cX5_parentsOf 36 = .ok (.ior, 1) := dk_128 (dk_at dksX5_parentsOf_1 12 rfl rfl)
theorem dX5_parentsOf_37 : decode cX5_parentsOf 37 = .ok (.istore_n 2, 1) := dk_61 (dk_at dksX5_parentsOf_1 13 rfl rfl)
theorem dX5_parentsOf_38 : decode cX5_parentsOf 38 = .ok (.iinc 3 1, 3) := dk_132 3 1 (dk_at dksX5_parentsOf_1 14 rfl rfl)
theorem dX5_parentsOf_41 : decode cX5_parentsOf 41 = .ok (.goto (-37), 3) := dk_167 255 219 (dk_at dksX5_parentsOf_1 17 rfl rfl)
theorem dX5_parentsOf_44 : decode cX5_parentsOf 44 = .ok (.iload_n 2, 1) := dk_28 (dk_at dksX5_parentsOf_1 20 rfl rfl)
theorem dX5_parentsOf_45 : decode cX5_parentsOf 45 = .ok (.ireturn, 1) := dk_172 (dk_at dksX5_parentsOf_1 21 rfl rfl)
abbrev cX5_now : ByteArray := prog_29_method_52_code
def yX5_now : MethodName := ⟨RX5, "now", "(I)I"⟩
def dkwX5_now_4 : List UInt8 := [180, 0, 33, 16, 104, 46, 172, 42, 182, 1, 41, 172, 42, 180, 0, 33, 16, 103, 46, 172, 2, 172]
abbrev dktX5_now_4 : List UInt8 := dkwX5_now_4 ++ []
def dkwX5_now_3 : List UInt8 := [42, 180, 0, 33, 16, 100, 46, 172, 42, 182, 1, 16, 172, 28, 172, 42, 180, 0, 33, 16, 102, 46, 172, 42]
abbrev dktX5_now_3 : List UInt8 := dkwX5_now_3 ++ dktX5_now_4
def dkwX5_now_2 : List UInt8 := [170, 0, 0, 0, 0, 0, 0, 88, 0, 0, 0, 0, 0, 0, 0, 6, 0, 0, 0, 44, 0, 0, 0, 52, 0, 0, 0, 57, 0, 0, 0, 59, 0, 0, 0, 67, 0, 0, 0, 75, 0, 0, 0, 80]
abbrev dktX5_now_2 : List UInt8 := dkwX5_now_2 ++ dktX5_now_3
def dkwX5_now_1 : List UInt8 := [16, 117, 29, 96, 46, 158, 0, 9, 4, 29, 120, 167, 0, 4, 3, 128, 61, 132, 3, 1, 167, 255, 221, 27]
abbrev dktX5_now_1 : List UInt8 := dkwX5_now_1 ++ dktX5_now_2
def dkwX5_now_0 : List UInt8 := [42, 3, 181, 0, 1, 3, 61, 3, 62, 29, 42, 180, 0, 33, 3, 46, 162, 0, 31, 28, 42, 180, 0, 33]
abbrev dktX5_now_0 : List UInt8 := dkwX5_now_0 ++ dktX5_now_1
theorem dksX5_now_0 : cX5_now.data.toList.drop 0 = dktX5_now_0 := by decide +kernel
theorem dksX5_now_1 : cX5_now.data.toList.drop 24 = dktX5_now_1 := dk_seg dksX5_now_0 24 rfl rfl
theorem dksX5_now_2 : cX5_now.data.toList.drop 48 = dktX5_now_2 := dk_seg dksX5_now_1 24 rfl rfl
theorem dksX5_now_3 : cX5_now.data.toList.drop 92 = dktX5_now_3 := dk_seg dksX5_now_2 44 rfl rfl
theorem dksX5_now_4 : cX5_now.data.toList.drop 116 = dktX5_now_4 := dk_seg dksX5_now_3 24 rfl rfl
theorem dX5_now_0 : decode cX5_now 0 = .ok (.aload_n 0, 1) := dk_42 (dk_at dksX5_now_0 0 rfl rfl)
theorem dX5_now_1 : decode cX5_now 1 = .ok (.iconst 0, 1) := dk_3 (dk_at dksX5_now_0 1 rfl rfl)
theorem dX5_now_2 : decode cX5_now 2 = .ok (.putfield 1, 3) := dk_181 0 1 (dk_at dksX5_now_0 2 rfl rfl)
theorem dX5_now_5 : decode cX5_now 5 = .ok (.iconst 0, 1) := dk_3 (dk_at dksX5_now_0 5 rfl rfl)
theorem dX5_now_6 : decode cX5_now 6 = .ok (.istore_n 2, 1) := dk_61 (dk_at dksX5_now_0 6 rfl rfl)
theorem dX5_now_7 : decode cX5_now 7 = .ok (.iconst 0, 1) := dk_3 (dk_at dksX5_now_0 7 rfl rfl)
theorem dX5_now_8 : decode cX5_now 8 = .ok (.istore_n 3, 1) := dk_62 (dk_at dksX5_now_0 8 rfl rfl)
theorem dX5_now_9 : decode cX5_now 9 = .ok (.iload_n 3, 1) := dk_29 (dk_at dksX5_now_0 9 rfl rfl)
theorem dX5_now_10 : decode cX5_now 10 = .ok (.aload_n 0, 1) := dk_42 (dk_at dksX5_now_0 10 rfl rfl)
theorem dX5_now_11 : decode cX5_now 11 = .ok (.getfield 33, 3) := dk_180 0 33 (dk_at dksX5_now_0 11 rfl rfl)
theorem dX5_now_14 : decode cX5_now 14 = .ok (.iconst 0, 1) := dk_3 (dk_at dksX5_now_0 14 rfl rfl)
theorem dX5_now_15 : decode cX5_now 15 = .ok (.iaload, 1) := dk_46 (dk_at dksX5_now_0 15 rfl rfl)
theorem dX5_now_16 : decode cX5_now 16 = .ok (.if_icmp .ge 31, 3) := dk_162 0 31 (dk_at dksX5_now_0 16 rfl rfl)
theorem dX5_now_19 : decode cX5_now 19 = .ok (.iload_n 2, 1) := dk_28 (dk_at dksX5_now_0 19 rfl rfl)
theorem dX5_now_20 : decode cX5_now 20 = .ok (.aload_n 0, 1) := dk_42 (dk_at dksX5_now_0 20 rfl rfl)
theorem dX5_now_21 : decode cX5_now 21 = .ok (.getfield 33, 3) := dk_180 0 33 (dk_at dksX5_now_0 21 rfl rfl)
theorem dX5_now_24 : decode cX5_now 24 = .ok (.bipush 117, 2) := dk_16 117 (dk_at dksX5_now_1 0 rfl rfl)
theorem dX5_now_26 : decode cX5_now 26 = .ok (.iload_n 3, 1) := dk_29 (dk_at dksX5_now_1 2 rfl rfl)
theorem dX5_now_27 : decode cX5_now 27 = .ok (.iadd, 1) := dk_96 (dk_at dksX5_now_1 3 rfl rfl)
theorem dX5_now_28 : decode cX5_now 28 = .ok (.iaload, 1) := dk_46 (dk_at dksX5_now_1 4 rfl rfl)
theorem dX5_now_29 : decode cX5_now 29 = .ok (.ifCond .le 9, 3) := dk_158 0 9 (dk_at dksX5_now_1 5 rfl rfl)
theorem dX5_now_32 : decode cX5_now 32 = .ok (.iconst 1, 1) := dk_4 (dk_at dksX5_now_1 8 rfl rfl)
theorem dX5_now_33 : decode cX5_now 33 = .ok (.iload_n 3, 1) := dk_29 (dk_at dksX5_now_1 9 rfl rfl)
theorem dX5_now_34 : decode cX5_now 34 = .ok (.ishl, 1) := dk_120 (dk_at dksX5_now_1 10 rfl rfl)
theorem dX5_now_35 : decode cX5_now 35 = .ok (.goto 4, 3) := dk_167 0 4 (dk_at dksX5_now_1 11 rfl rfl)
theorem dX5_now_38 : decode cX5_now 38 = .ok (.iconst 0, 1) := dk_3 (dk_at dksX5_now_1 14 rfl rfl)
theorem dX5_now_39 : decode cX5_now 39 = .ok (.ior, 1) := dk_128 (dk_at dksX5_now_1 15 rfl rfl)
theorem dX5_now_40 : decode cX5_now 40 = .ok (.istore_n 2, 1) := dk_61 (dk_at dksX5_now_1 16 rfl rfl)
theorem dX5_now_41 : decode cX5_now 41 = .ok (.iinc 3 1, 3) := dk_132 3 1 (dk_at dksX5_now_1 17 rfl rfl)
theorem dX5_now_44 : decode cX5_now 44 = .ok (.goto (-35), 3) := dk_167 255 221 (dk_at dksX5_now_1 20 rfl rfl)
theorem dX5_now_47 : decode cX5_now 47 = .ok (.iload_n 1, 1) := dk_27 (dk_at dksX5_now_1 23 rfl rfl)
theorem dX5_now_48 : decode cX5_now 48 = .ok (.tableswitch 88 0 6 #[44, 52, 57, 59, 67, 75, 80], 44) := by decide +kernel
theorem dX5_now_92 : decode cX5_now 92 = .ok (.aload_n 0, 1) := dk_42 (dk_at dksX5_now_3 0 rfl rfl)
theorem dX5_now_93 : decode cX5_now 93 = .ok (.getfield 33, 3) := dk_180 0 33 (dk_at dksX5_now_3 1 rfl rfl)
theorem dX5_now_96 : decode cX5_now 96 = .ok (.bipush 100, 2) := dk_16 100 (dk_at dksX5_now_3 4 rfl rfl)
theorem dX5_now_98 : decode cX5_now 98 = .ok (.iaload, 1) := dk_46 (dk_at dksX5_now_3 6 rfl rfl)
theorem dX5_now_99 : decode cX5_now 99 = .ok (.ireturn, 1) := dk_172 (dk_at dksX5_now_3 7 rfl rfl)
theorem dX5_now_100 : decode cX5_now 100 = .ok (.aload_n 0, 1) := dk_42 (dk_at dksX5_now_3 8 rfl rfl)
theorem dX5_now_101 : decode cX5_now 101 = .ok (.invokevirtual 272, 3) := dk_182 1 16 (dk_at dksX5_now_3 9 rfl rfl)
theorem dX5_now_104 : decode cX5_now 104 = .ok (.ireturn, 1) := dk_172 (dk_at dksX5_now_3 12 rfl rfl)
theorem dX5_now_105 : decode cX5_now 105 = .ok (.iload_n 2, 1) := dk_28 (dk_at dksX5_now_3 13 rfl rfl)
theorem dX5_now_106 : decode cX5_now 106 = .ok (.ireturn, 1) := dk_172 (dk_at dksX5_now_3 14 rfl rfl)
theorem dX5_now_107 : decode cX5_now 107 = .ok (.aload_n 0, 1) := dk_42 (dk_at dksX5_now_3 15 rfl rfl)
theorem dX5_now_108 : decode cX5_now 108 = .ok (.getfield 33, 3) := dk_180 0 33 (dk_at dksX5_now_3 16 rfl rfl)
theorem dX5_now_111 : decode cX5_now 111 = .ok (.bipush 102, 2) := dk_16 102 (dk_at dksX5_now_3 19 rfl rfl)
theorem dX5_now_113 : decode cX5_now 113 = .ok (.iaload, 1) := dk_46 (dk_at dksX5_now_3 21 rfl rfl)
theorem dX5_now_114 : decode cX5_now 114 = .ok (.ireturn, 1) := dk_172 (dk_at dksX5_now_3 22 rfl rfl)
theorem dX5_now_115 : decode cX5_now 115 = .ok (.aload_n 0, 1) := dk_42 (dk_at dksX5_now_3 23 rfl rfl)
theorem dX5_now_116 : decode cX5_now 116 = .ok (.getfield 33, 3) := dk_180 0 33 (dk_at dksX5_now_4 0 rfl rfl)
theorem dX5_now_119 : decode cX5_now 119 = .ok (.bipush 104, 2) := dk_16 104 (dk_at dksX5_now_4 3 rfl rfl)
theorem dX5_now_121 : decode cX5_now 121 = .ok (.iaload, 1) := dk_46 (dk_at dksX5_now_4 5 rfl rfl)
theorem dX5_now_122 : decode cX5_now 122 = .ok (.ireturn, 1) := dk_172 (dk_at dksX5_now_4 6 rfl rfl)
theorem dX5_now_123 : decode cX5_now 123 = .ok (.aload_n 0, 1) := dk_42 (dk_at dksX5_now_4 7 rfl rfl)
theorem dX5_now_124 : decode cX5_now 124 = .ok (.invokevirtual 297, 3) := dk_182 1 41 (dk_at dksX5_now_4 8 rfl rfl)
theorem dX5_now_127 : decode cX5_now 127 = .ok (.ireturn, 1) := dk_172 (dk_at dksX5_now_4 11 rfl rfl)
theorem dX5_now_128 : decode cX5_now 128 = .ok (.aload_n 0, 1) := dk_42 (dk_at dksX5_now_4 12 rfl rfl)
theorem dX5_now_129 : decode cX5_now 129 = .ok (.getfield 33, 3) := dk_180 0 33 (dk_at dksX5_now_4 13 rfl rfl)
theorem dX5_now_132 : decode cX5_now 132 = .ok (.bipush 103, 2) := dk_16 103 (dk_at dksX5_now_4 16 rfl rfl)
theorem dX5_now_134 : decode cX5_now 134 = .ok (.iaload, 1) := dk_46 (dk_at dksX5_now_4 18 rfl rfl)
theorem dX5_now_135 : decode cX5_now 135 = .ok (.ireturn, 1) := dk_172 (dk_at dksX5_now_4 19 rfl rfl)
theorem dX5_now_136 : decode cX5_now 136 = .ok (.iconst (-1), 1) := dk_2 (dk_at dksX5_now_4 20 rfl rfl)
theorem dX5_now_137 : decode cX5_now 137 = .ok (.ireturn, 1) := dk_172 (dk_at dksX5_now_4 21 rfl rfl)
abbrev cX5_coinsOfAll : ByteArray := prog_29_method_48_code
def yX5_coinsOfAll : MethodName := ⟨RX5, "coinsOfAll", "()I"⟩
def dkwX5_coinsOfAll_1 : List UInt8 := [96, 60, 132, 2, 1, 167, 255, 231, 27, 172]
abbrev dktX5_coinsOfAll_1 : List UInt8 := dkwX5_coinsOfAll_1 ++ []
def dkwX5_coinsOfAll_0 : List UInt8 := [3, 60, 3, 61, 28, 42, 180, 0, 33, 3, 46, 162, 0, 21, 27, 42, 180, 0, 33, 16, 105, 28, 96, 46]
abbrev dktX5_coinsOfAll_0 : List UInt8 := dkwX5_coinsOfAll_0 ++ dktX5_coinsOfAll_1
theorem dksX5_coinsOfAll_0 : cX5_coinsOfAll.data.toList.drop 0 = dktX5_coinsOfAll_0 := by decide +kernel
theorem dksX5_coinsOfAll_1 : cX5_coinsOfAll.data.toList.drop 24 = dktX5_coinsOfAll_1 := dk_seg dksX5_coinsOfAll_0 24 rfl rfl
theorem dX5_coinsOfAll_0 : decode cX5_coinsOfAll 0 = .ok (.iconst 0, 1) := dk_3 (dk_at dksX5_coinsOfAll_0 0 rfl rfl)
theorem dX5_coinsOfAll_1 : decode cX5_coinsOfAll 1 = .ok (.istore_n 1, 1) := dk_60 (dk_at dksX5_coinsOfAll_0 1 rfl rfl)
theorem dX5_coinsOfAll_2 : decode cX5_coinsOfAll 2 = .ok (.iconst 0, 1) := dk_3 (dk_at dksX5_coinsOfAll_0 2 rfl rfl)
theorem dX5_coinsOfAll_3 : decode cX5_coinsOfAll 3 = .ok (.istore_n 2, 1) := dk_61 (dk_at dksX5_coinsOfAll_0 3 rfl rfl)
theorem dX5_coinsOfAll_4 : decode cX5_coinsOfAll 4 = .ok (.iload_n 2, 1) := dk_28 (dk_at dksX5_coinsOfAll_0 4 rfl rfl)
theorem dX5_coinsOfAll_5 : decode cX5_coinsOfAll 5 = .ok (.aload_n 0, 1) := dk_42 (dk_at dksX5_coinsOfAll_0 5 rfl rfl)
theorem dX5_coinsOfAll_6 : decode cX5_coinsOfAll 6 = .ok (.getfield 33, 3) := dk_180 0 33 (dk_at dksX5_coinsOfAll_0 6 rfl rfl)
theorem dX5_coinsOfAll_9 : decode cX5_coinsOfAll 9 = .ok (.iconst 0, 1) := dk_3 (dk_at dksX5_coinsOfAll_0 9 rfl rfl)
theorem dX5_coinsOfAll_10 : decode cX5_coinsOfAll 10 = .ok (.iaload, 1) := dk_46 (dk_at dksX5_coinsOfAll_0 10 rfl rfl)
theorem dX5_coinsOfAll_11 : decode cX5_coinsOfAll 11 = .ok (.if_icmp .ge 21, 3) := dk_162 0 21 (dk_at dksX5_coinsOfAll_0 11 rfl rfl)
theorem dX5_coinsOfAll_14 : decode cX5_coinsOfAll 14 = .ok (.iload_n 1, 1) := dk_27 (dk_at dksX5_coinsOfAll_0 14 rfl rfl)
theorem dX5_coinsOfAll_15 : decode cX5_coinsOfAll 15 = .ok (.aload_n 0, 1) := dk_42 (dk_at dksX5_coinsOfAll_0 15 rfl rfl)
theorem dX5_coinsOfAll_16 : decode cX5_coinsOfAll 16 = .ok (.getfield 33, 3) := dk_180 0 33 (dk_at dksX5_coinsOfAll_0 16 rfl rfl)
theorem dX5_coinsOfAll_19 : decode cX5_coinsOfAll 19 = .ok (.bipush 105, 2) := dk_16 105 (dk_at dksX5_coinsOfAll_0 19 rfl rfl)
theorem dX5_coinsOfAll_21 : decode cX5_coinsOfAll 21 = .ok (.iload_n 2, 1) := dk_28 (dk_at dksX5_coinsOfAll_0 21 rfl rfl)
theorem dX5_coinsOfAll_22 : decode cX5_coinsOfAll 22 = .ok (.iadd, 1) := dk_96 (dk_at dksX5_coinsOfAll_0 22 rfl rfl)
theorem dX5_coinsOfAll_23 : decode cX5_coinsOfAll 23 = .ok (.iaload, 1) := dk_46 (dk_at dksX5_coinsOfAll_0 23 rfl rfl)
theorem dX5_coinsOfAll_24 : decode cX5_coinsOfAll 24 = .ok (.iadd, 1) := dk_96 (dk_at dksX5_coinsOfAll_1 0 rfl rfl)
theorem dX5_coinsOfAll_25 : decode cX5_coinsOfAll 25 = .ok (.istore_n 1, 1) := dk_60 (dk_at dksX5_coinsOfAll_1 1 rfl rfl)
theorem dX5_coinsOfAll_26 : decode cX5_coinsOfAll 26 = .ok (.iinc 2 1, 3) := dk_132 2 1 (dk_at dksX5_coinsOfAll_1 2 rfl rfl)
theorem dX5_coinsOfAll_29 : decode cX5_coinsOfAll 29 = .ok (.goto (-25), 3) := dk_167 255 231 (dk_at dksX5_coinsOfAll_1 5 rfl rfl)
theorem dX5_coinsOfAll_32 : decode cX5_coinsOfAll 32 = .ok (.iload_n 1, 1) := dk_27 (dk_at dksX5_coinsOfAll_1 8 rfl rfl)
theorem dX5_coinsOfAll_33 : decode cX5_coinsOfAll 33 = .ok (.ireturn, 1) := dk_172 (dk_at dksX5_coinsOfAll_1 9 rfl rfl)
abbrev cX5_die : ByteArray := prog_29_method_68_code
def yX5_die : MethodName := ⟨RX5, "die", "(I)I"⟩
def dkwX5_die_1 : List UInt8 := [172, 42, 182, 1, 79, 42, 27, 182, 1, 73, 3, 172]
abbrev dktX5_die_1 : List UInt8 := dkwX5_die_1 ++ []
def dkwX5_die_0 : List UInt8 := [42, 3, 181, 0, 1, 42, 27, 182, 1, 28, 154, 0, 5, 2, 172, 42, 27, 182, 1, 19, 154, 0, 5, 4]
abbrev dktX5_die_0 : List UInt8 := dkwX5_die_0 ++ dktX5_die_1
theorem dksX5_die_0 : cX5_die.data.toList.drop 0 = dktX5_die_0 := by decide +kernel
theorem dksX5_die_1 : cX5_die.data.toList.drop 24 = dktX5_die_1 := dk_seg dksX5_die_0 24 rfl rfl
theorem dX5_die_0 : decode cX5_die 0 = .ok (.aload_n 0, 1) := dk_42 (dk_at dksX5_die_0 0 rfl rfl)
theorem dX5_die_1 : decode cX5_die 1 = .ok (.iconst 0, 1) := dk_3 (dk_at dksX5_die_0 1 rfl rfl)
theorem dX5_die_2 : decode cX5_die 2 = .ok (.putfield 1, 3) := dk_181 0 1 (dk_at dksX5_die_0 2 rfl rfl)
theorem dX5_die_5 : decode cX5_die 5 = .ok (.aload_n 0, 1) := dk_42 (dk_at dksX5_die_0 5 rfl rfl)
theorem dX5_die_6 : decode cX5_die 6 = .ok (.iload_n 1, 1) := dk_27 (dk_at dksX5_die_0 6 rfl rfl)
theorem dX5_die_7 : decode cX5_die 7 = .ok (.invokevirtual 284, 3) := dk_182 1 28 (dk_at dksX5_die_0 7 rfl rfl)
theorem dX5_die_10 : decode cX5_die 10 = .ok (.ifCond .ne 5, 3) := dk_154 0 5 (dk_at dksX5_die_0 10 rfl rfl)
theorem dX5_die_13 : decode cX5_die 13 = .ok (.iconst (-1), 1) := dk_2 (dk_at dksX5_die_0 13 rfl rfl)
theorem dX5_die_14 : decode cX5_die 14 = .ok (.ireturn, 1) := dk_172 (dk_at dksX5_die_0 14 rfl rfl)
theorem dX5_die_15 : decode cX5_die 15 = .ok (.aload_n 0, 1) := dk_42 (dk_at dksX5_die_0 15 rfl rfl)
theorem dX5_die_16 : decode cX5_die 16 = .ok (.iload_n 1, 1) := dk_27 (dk_at dksX5_die_0 16 rfl rfl)
theorem dX5_die_17 : decode cX5_die 17 = .ok (.invokevirtual 275, 3) := dk_182 1 19 (dk_at dksX5_die_0 17 rfl rfl)
theorem dX5_die_20 : decode cX5_die 20 = .ok (.ifCond .ne 5, 3) := dk_154 0 5 (dk_at dksX5_die_0 20 rfl rfl)
theorem dX5_die_23 : decode cX5_die 23 = .ok (.iconst 1, 1) := dk_4 (dk_at dksX5_die_0 23 rfl rfl)
theorem dX5_die_24 : decode cX5_die 24 = .ok (.ireturn, 1) := dk_172 (dk_at dksX5_die_1 0 rfl rfl)
theorem dX5_die_25 : decode cX5_die 25 = .ok (.aload_n 0, 1) := dk_42 (dk_at dksX5_die_1 1 rfl rfl)
theorem dX5_die_26 : decode cX5_die 26 = .ok (.invokevirtual 335, 3) := dk_182 1 79 (dk_at dksX5_die_1 2 rfl rfl)
theorem dX5_die_29 : decode cX5_die 29 = .ok (.aload_n 0, 1) := dk_42 (dk_at dksX5_die_1 5 rfl rfl)
theorem dX5_die_30 : decode cX5_die 30 = .ok (.iload_n 1, 1) := dk_27 (dk_at dksX5_die_1 6 rfl rfl)
theorem dX5_die_31 : decode cX5_die 31 = .ok (.invokevirtual 329, 3) := dk_182 1 73 (dk_at dksX5_die_1 7 rfl rfl)
theorem dX5_die_34 : decode cX5_die 34 = .ok (.iconst 0, 1) := dk_3 (dk_at dksX5_die_1 10 rfl rfl)
theorem dX5_die_35 : decode cX5_die 35 = .ok (.ireturn, 1) := dk_172 (dk_at dksX5_die_1 11 rfl rfl)
abbrev cX5_stores : ByteArray := prog_29_method_76_code
def yX5_stores : MethodName := ⟨RX5, "stores", "()V"⟩
def dkwX5_stores_3 : List UInt8 := [27, 96, 46, 79, 132, 1, 1, 167, 255, 224, 42, 89, 180, 1, 7, 4, 96, 181, 1, 7, 177]
abbrev dktX5_stores_3 : List UInt8 := dkwX5_stores_3 ++ []
def dkwX5_stores_2 : List UInt8 := [16, 65, 162, 0, 32, 42, 180, 0, 56, 16, 65, 42, 180, 1, 7, 104, 27, 96, 42, 180, 0, 33, 16, 100]
abbrev dktX5_stores_2 : List UInt8 := dkwX5_stores_2 ++ dktX5_stores_3
def dkwX5_stores_1 : List UInt8 := [180, 0, 56, 27, 16, 65, 96, 46, 79, 132, 1, 1, 167, 255, 231, 42, 16, 7, 181, 1, 7, 3, 60, 27]
abbrev dktX5_stores_1 : List UInt8 := dkwX5_stores_1 ++ dktX5_stores_2
def dkwX5_stores_0 : List UInt8 := [42, 180, 1, 7, 16, 8, 160, 0, 39, 3, 60, 27, 17, 1, 199, 162, 0, 24, 42, 180, 0, 56, 27, 42]
abbrev dktX5_stores_0 : List UInt8 := dkwX5_stores_0 ++ dktX5_stores_1
theorem dksX5_stores_0 : cX5_stores.data.toList.drop 0 = dktX5_stores_0 := by decide +kernel
theorem dksX5_stores_1 : cX5_stores.data.toList.drop 24 = dktX5_stores_1 := dk_seg dksX5_stores_0 24 rfl rfl
theorem dksX5_stores_2 : cX5_stores.data.toList.drop 48 = dktX5_stores_2 := dk_seg dksX5_stores_1 24 rfl rfl
theorem dksX5_stores_3 : cX5_stores.data.toList.drop 72 = dktX5_stores_3 := dk_seg dksX5_stores_2 24 rfl rfl
theorem dX5_stores_0 : decode cX5_stores 0 = .ok (.aload_n 0, 1) := dk_42 (dk_at dksX5_stores_0 0 rfl rfl)
theorem dX5_stores_1 : decode cX5_stores 1 = .ok (.getfield 263, 3) := dk_180 1 7 (dk_at dksX5_stores_0 1 rfl rfl)
theorem dX5_stores_4 : decode cX5_stores 4 = .ok (.bipush 8, 2) := dk_16 8 (dk_at dksX5_stores_0 4 rfl rfl)
theorem dX5_stores_6 : decode cX5_stores 6 = .ok (.if_icmp .ne 39, 3) := dk_160 0 39 (dk_at dksX5_stores_0 6 rfl rfl)
theorem dX5_stores_9 : decode cX5_stores 9 = .ok (.iconst 0, 1) := dk_3 (dk_at dksX5_stores_0 9 rfl rfl)
theorem dX5_stores_10 : decode cX5_stores 10 = .ok (.istore_n 1, 1) := dk_60 (dk_at dksX5_stores_0 10 rfl rfl)
theorem dX5_stores_11 : decode cX5_stores 11 = .ok (.iload_n 1, 1) := dk_27 (dk_at dksX5_stores_0 11 rfl rfl)
theorem dX5_stores_12 : decode cX5_stores 12 = .ok (.sipush 455, 3) := dk_17 1 199 (dk_at dksX5_stores_0 12 rfl rfl)
theorem dX5_stores_15 : decode cX5_stores 15 = .ok (.if_icmp .ge 24, 3) := dk_162 0 24 (dk_at dksX5_stores_0 15 rfl rfl)
theorem dX5_stores_18 : decode cX5_stores 18 = .ok (.aload_n 0, 1) := dk_42 (dk_at dksX5_stores_0 18 rfl rfl)
theorem dX5_stores_19 : decode cX5_stores 19 = .ok (.getfield 56, 3) := dk_180 0 56 (dk_at dksX5_stores_0 19 rfl rfl)
theorem dX5_stores_22 : decode cX5_stores 22 = .ok (.iload_n 1, 1) := dk_27 (dk_at dksX5_stores_0 22 rfl rfl)
theorem dX5_stores_23 : decode cX5_stores 23 = .ok (.aload_n 0, 1) := dk_42 (dk_at dksX5_stores_0 23 rfl rfl)
theorem dX5_stores_24 : decode cX5_stores 24 = .ok (.getfield 56, 3) := dk_180 0 56 (dk_at dksX5_stores_1 0 rfl rfl)
theorem dX5_stores_27 : decode cX5_stores 27 = .ok (.iload_n 1, 1) := dk_27 (dk_at dksX5_stores_1 3 rfl rfl)
theorem dX5_stores_28 : decode cX5_stores 28 = .ok (.bipush 65, 2) := dk_16 65 (dk_at dksX5_stores_1 4 rfl rfl)
theorem dX5_stores_30 : decode cX5_stores 30 = .ok (.iadd, 1) := dk_96 (dk_at dksX5_stores_1 6 rfl rfl)
theorem dX5_stores_31 : decode cX5_stores 31 = .ok (.iaload, 1) := dk_46 (dk_at dksX5_stores_1 7 rfl rfl)
theorem dX5_stores_32 : decode cX5_stores 32 = .ok (.iastore, 1) := dk_79 (dk_at dksX5_stores_1 8 rfl rfl)
theorem dX5_stores_33 : decode cX5_stores 33 = .ok (.iinc 1 1, 3) := dk_132 1 1 (dk_at dksX5_stores_1 9 rfl rfl)
theorem dX5_stores_36 : decode cX5_stores 36 = .ok (.goto (-25), 3) := dk_167 255 231 (dk_at dksX5_stores_1 12 rfl rfl)
theorem dX5_stores_39 : decode cX5_stores 39 = .ok (.aload_n 0, 1) := dk_42 (dk_at dksX5_stores_1 15 rfl rfl)
theorem dX5_stores_40 : decode cX5_stores 40 = .ok (.bipush 7, 2) := dk_16 7 (dk_at dksX5_stores_1 16 rfl rfl)
theorem dX5_stores_42 : decode cX5_stores 42 = .ok (.putfield 263, 3) := dk_181 1 7 (dk_at dksX5_stores_1 18 rfl rfl)
theorem dX5_stores_45 : decode cX5_stores 45 = .ok (.iconst 0, 1) := dk_3 (dk_at dksX5_stores_1 21 rfl rfl)
theorem dX5_stores_46 : decode cX5_stores 46 = .ok (.istore_n 1, 1) := dk_60 (dk_at dksX5_stores_1 22 rfl rfl)
theorem dX5_stores_47 : decode cX5_stores 47 = .ok (.iload_n 1, 1) := dk_27 (dk_at dksX5_stores_1 23 rfl rfl)
theorem dX5_stores_48 : decode cX5_stores 48 = .ok (.bipush 65, 2) := dk_16 65 (dk_at dksX5_stores_2 0 rfl rfl)
theorem dX5_stores_50 : decode cX5_stores 50 = .ok (.if_icmp .ge 32, 3) := dk_162 0 32 (dk_at dksX5_stores_2 2 rfl rfl)
theorem dX5_stores_53 : decode cX5_stores 53 = .ok (.aload_n 0, 1) := dk_42 (dk_at dksX5_stores_2 5 rfl rfl)
theorem dX5_stores_54 : decode cX5_stores 54 = .ok (.getfield 56, 3) := dk_180 0 56 (dk_at dksX5_stores_2 6 rfl rfl)
theorem dX5_stores_57 : decode cX5_stores 57 = .ok (.bipush 65, 2) := dk_16 65 (dk_at dksX5_stores_2 9 rfl rfl)
theorem dX5_stores_59 : decode cX5_stores 59 = .ok (.aload_n 0, 1) := dk_42 (dk_at dksX5_stores_2 11 rfl rfl)
theorem dX5_stores_60 : decode cX5_stores 60 = .ok (.getfield 263, 3) := dk_180 1 7 (dk_at dksX5_stores_2 12 rfl rfl)
theorem dX5_stores_63 : decode cX5_stores 63 = .ok (.imul, 1) := dk_104 (dk_at dksX5_stores_2 15 rfl rfl)
theorem dX5_stores_64 : decode cX5_stores 64 = .ok (.iload_n 1, 1) := dk_27 (dk_at dksX5_stores_2 16 rfl rfl)
theorem dX5_stores_65 : decode cX5_stores 65 = .ok (.iadd, 1) := dk_96 (dk_at dksX5_stores_2 17 rfl rfl)
theorem dX5_stores_66 : decode cX5_stores 66 = .ok (.aload_n 0, 1) := dk_42 (dk_at dksX5_stores_2 18 rfl rfl)
theorem dX5_stores_67 : decode cX5_stores 67 = .ok (.getfield 33, 3) := dk_180 0 33 (dk_at dksX5_stores_2 19 rfl rfl)
theorem dX5_stores_70 : decode cX5_stores 70 = .ok (.bipush 100, 2) := dk_16 100 (dk_at dksX5_stores_2 22 rfl rfl)
theorem dX5_stores_72 : decode cX5_stores 72 = .ok (.iload_n 1, 1) := dk_27 (dk_at dksX5_stores_3 0 rfl rfl)
theorem dX5_stores_73 : decode cX5_stores 73 = .ok (.iadd, 1) := dk_96 (dk_at dksX5_stores_3 1 rfl rfl)
theorem dX5_stores_74 : decode cX5_stores 74 = .ok (.iaload, 1) := dk_46 (dk_at dksX5_stores_3 2 rfl rfl)
theorem dX5_stores_75 : decode cX5_stores 75 = .ok (.iastore, 1) := dk_79 (dk_at dksX5_stores_3 3 rfl rfl)
theorem dX5_stores_76 : decode cX5_stores 76 = .ok (.iinc 1 1, 3) := dk_132 1 1 (dk_at dksX5_stores_3 4 rfl rfl)
theorem dX5_stores_79 : decode cX5_stores 79 = .ok (.goto (-32), 3) := dk_167 255 224 (dk_at dksX5_stores_3 7 rfl rfl)
theorem dX5_stores_82 : decode cX5_stores 82 = .ok (.aload_n 0, 1) := dk_42 (dk_at dksX5_stores_3 10 rfl rfl)
theorem dX5_stores_83 : decode cX5_stores 83 = .ok (.dup, 1) := dk_89 (dk_at dksX5_stores_3 11 rfl rfl)
theorem dX5_stores_84 : decode cX5_stores 84 = .ok (.getfield 263, 3) := dk_180 1 7 (dk_at dksX5_stores_3 12 rfl rfl)
theorem dX5_stores_87 : decode cX5_stores 87 = .ok (.iconst 1, 1) := dk_4 (dk_at dksX5_stores_3 15 rfl rfl)
theorem dX5_stores_88 : decode cX5_stores 88 = .ok (.iadd, 1) := dk_96 (dk_at dksX5_stores_3 16 rfl rfl)
theorem dX5_stores_89 : decode cX5_stores 89 = .ok (.putfield 263, 3) := dk_181 1 7 (dk_at dksX5_stores_3 17 rfl rfl)
theorem dX5_stores_92 : decode cX5_stores 92 = .ok (.return_, 1) := dk_177 (dk_at dksX5_stores_3 20 rfl rfl)
abbrev cX5_dies : ByteArray := prog_29_method_58_code
def yX5_dies : MethodName := ⟨RX5, "dies", "(I)V"⟩
def dkwX5_dies_7 : List UInt8 := [167, 255, 159, 42, 27, 182, 1, 63, 29, 158, 0, 10, 42, 27, 28, 29, 182, 1, 66, 177]
abbrev dktX5_dies_7 : List UInt8 := dkwX5_dies_7 ++ []
def dkwX5_dies_6 : List UInt8 := [17, 0, 141, 21, 4, 96, 46, 96, 92, 46, 21, 5, 96, 79, 29, 21, 5, 100, 62, 132, 4, 1]
abbrev dktX5_dies_6 : List UInt8 := dkwX5_dies_6 ++ dktX5_dies_7
def dkwX5_dies_5 : List UInt8 := [17, 0, 153, 21, 4, 96, 46, 184, 1, 60, 54, 5, 42, 180, 0, 33, 16, 105, 42, 180, 0, 33]
abbrev dktX5_dies_5 : List UInt8 := dkwX5_dies_5 ++ dktX5_dies_6
def dkwX5_dies_4 : List UInt8 := [180, 0, 33, 17, 0, 141, 21, 4, 96, 46, 182, 1, 19, 154, 0, 6, 167, 0, 49, 29, 42, 180, 0, 33]
abbrev dktX5_dies_4 : List UInt8 := dkwX5_dies_4 ++ dktX5_dies_5
def dkwX5_dies_3 : List UInt8 := [16, 104, 46, 162, 0, 91, 42, 180, 0, 33, 17, 0, 129, 21, 4, 96, 46, 27, 160, 0, 70, 42, 42]
abbrev dktX5_dies_3 : List UInt8 := dkwX5_dies_3 ++ dktX5_dies_4
def dkwX5_dies_2 : List UInt8 := [180, 0, 33, 16, 105, 27, 96, 3, 79, 42, 27, 182, 1, 57, 3, 54, 4, 21, 4, 42, 180, 0, 33]
abbrev dktX5_dies_2 : List UInt8 := dkwX5_dies_2 ++ dktX5_dies_3
def dkwX5_dies_1 : List UInt8 := [180, 0, 33, 16, 101, 92, 46, 4, 27, 120, 128, 79, 42, 180, 0, 33, 16, 103, 92, 46, 4, 96, 79, 42]
abbrev dktX5_dies_1 : List UInt8 := dkwX5_dies_1 ++ dktX5_dies_2
def dkwX5_dies_0 : List UInt8 := [42, 180, 0, 33, 16, 117, 27, 96, 46, 4, 100, 61, 42, 180, 0, 33, 16, 105, 27, 96, 46, 62, 42]
abbrev dktX5_dies_0 : List UInt8 := dkwX5_dies_0 ++ dktX5_dies_1
theorem dksX5_dies_0 : cX5_dies.data.toList.drop 0 = dktX5_dies_0 := by decide +kernel
theorem dksX5_dies_1 : cX5_dies.data.toList.drop 23 = dktX5_dies_1 := dk_seg dksX5_dies_0 23 rfl rfl
theorem dksX5_dies_2 : cX5_dies.data.toList.drop 47 = dktX5_dies_2 := dk_seg dksX5_dies_1 24 rfl rfl
theorem dksX5_dies_3 : cX5_dies.data.toList.drop 70 = dktX5_dies_3 := dk_seg dksX5_dies_2 23 rfl rfl
theorem dksX5_dies_4 : cX5_dies.data.toList.drop 93 = dktX5_dies_4 := dk_seg dksX5_dies_3 23 rfl rfl
theorem dksX5_dies_5 : cX5_dies.data.toList.drop 117 = dktX5_dies_5 := dk_seg dksX5_dies_4 24 rfl rfl
theorem dksX5_dies_6 : cX5_dies.data.toList.drop 139 = dktX5_dies_6 := dk_seg dksX5_dies_5 22 rfl rfl
theorem dksX5_dies_7 : cX5_dies.data.toList.drop 161 = dktX5_dies_7 := dk_seg dksX5_dies_6 22 rfl rfl
theorem dX5_dies_0 : decode cX5_dies 0 = .ok (.aload_n 0, 1) := dk_42 (dk_at dksX5_dies_0 0 rfl rfl)
theorem dX5_dies_1 : decode cX5_dies 1 = .ok (.getfield 33, 3) := dk_180 0 33 (dk_at dksX5_dies_0 1 rfl rfl)
theorem dX5_dies_4 : decode cX5_dies 4 = .ok (.bipush 117, 2) := dk_16 117 (dk_at dksX5_dies_0 4 rfl rfl)
theorem dX5_dies_6 : decode cX5_dies 6 = .ok (.iload_n 1, 1) := dk_27 (dk_at dksX5_dies_0 6 rfl rfl)
theorem dX5_dies_7 : decode cX5_dies 7 = .ok (.iadd, 1) := dk_96 (dk_at dksX5_dies_0 7 rfl rfl)
theorem dX5_dies_8 : decode cX5_dies 8 = .ok (.iaload, 1) := dk_46 (dk_at dksX5_dies_0 8 rfl rfl)
theorem dX5_dies_9 : decode cX5_dies 9 = .ok (.iconst 1, 1) := dk_4 (dk_at dksX5_dies_0 9 rfl rfl)
theorem dX5_dies_10 : decode cX5_dies 10 = .ok (.isub, 1) := dk_100 (dk_at dksX5_dies_0 10 rfl rfl)
theorem dX5_dies_11 : decode cX5_dies 11 = .ok (.istore_n 2, 1) := dk_61 (dk_at dksX5_dies_0 11 rfl rfl)
theorem dX5_dies_12 : decode cX5_dies 12 = .ok (.aload_n 0, 1) := dk_42 (dk_at dksX5_dies_0 12 rfl rfl)
theorem dX5_dies_13 : decode cX5_dies 13 = .ok (.getfield 33, 3) := dk_180 0 33 (dk_at dksX5_dies_0 13 rfl rfl)
theorem dX5_dies_16 : decode cX5_dies 16 = .ok (.bipush 105, 2) := dk_16 105 (dk_at dksX5_dies_0 16 rfl rfl)
theorem dX5_dies_18 : decode cX5_dies 18 = .ok (.iload_n 1, 1) := dk_27 (dk_at dksX5_dies_0 18 rfl rfl)
theorem dX5_dies_19 : decode cX5_dies 19 = .ok (.iadd, 1) := dk_96 (dk_at dksX5_dies_0 19 rfl rfl)
theorem dX5_dies_20 : decode cX5_dies 20 = .ok (.iaload, 1) := dk_46 (dk_at dksX5_dies_0 20 rfl rfl)
theorem dX5_dies_21 : decode cX5_dies 21 = .ok (.istore_n 3, 1) := dk_62 (dk_at dksX5_dies_0 21 rfl rfl)
theorem dX5_dies_22 : decode cX5_dies 22 = .ok (.aload_n 0, 1) := dk_42 (dk_at dksX5_dies_0 22 rfl rfl)
theorem dX5_dies_23 : decode cX5_dies 23 = .ok (.getfield 33, 3) := dk_180 0 33 (dk_at dksX5_dies_1 0 rfl rfl)
theorem dX5_dies_26 : decode cX5_dies 26 = .ok (.bipush 101, 2) := dk_16 101 (dk_at dksX5_dies_1 3 rfl rfl)
theorem dX5_dies_28 : decode cX5_dies 28 = .ok (.dup2, 1) := dk_92 (dk_at dksX5_dies_1 5 rfl rfl)
theorem dX5_dies_29 : decode cX5_dies 29 = .ok (.iaload, 1) := dk_46 (dk_at dksX5_dies_1 6 rfl rfl)
theorem dX5_dies_30 : decode cX5_dies 30 = .ok (.iconst 1, 1) := dk_4 (dk_at dksX5_dies_1 7 rfl rfl)
theorem dX5_dies_31 : decode cX5_dies 31 = .ok (.iload_n 1, 1) := dk_27 (dk_at dksX5_dies_1 8 rfl rfl)
theorem dX5_dies_32 : decode cX5_dies 32 = .ok (.ishl, 1) := dk_120 (dk_at dksX5_dies_1 9 rfl rfl)
theorem dX5_dies_33 : decode cX5_dies 33 = .ok (.ior, 1) := dk_128 (dk_at dksX5_dies_1 10 rfl rfl)
theorem dX5_dies_34 : decode cX5_dies 34 = .ok (.iastore, 1) := dk_79 (dk_at dksX5_dies_1 11 rfl rfl)
theorem dX5_dies_35 : decode cX5_dies 35 = .ok (.aload_n 0, 1) := dk_42 (dk_at dksX5_dies_1 12 rfl rfl)
theorem dX5_dies_36 : decode cX5_dies 36 = .ok (.getfield 33, 3) := dk_180 0 33 (dk_at dksX5_dies_1 13 rfl rfl)
theorem dX5_dies_39 : decode cX5_dies 39 = .ok (.bipush 103, 2) := dk_16 103 (dk_at dksX5_dies_1 16 rfl rfl)
theorem dX5_dies_41 : decode cX5_dies 41 = .ok (.dup2, 1) := dk_92 (dk_at dksX5_dies_1 18 rfl rfl)
theorem dX5_dies_42 : decode cX5_dies 42 = .ok (.iaload, 1) := dk_46 (dk_at dksX5_dies_1 19 rfl rfl)
theorem dX5_dies_43 : decode cX5_dies 43 = .ok (.iconst 1, 1) := dk_4 (dk_at dksX5_dies_1 20 rfl rfl)
theorem dX5_dies_44 : decode cX5_dies 44 = .ok (.iadd, 1) := dk_96 (dk_at dksX5_dies_1 21 rfl rfl)
theorem dX5_dies_45 : decode cX5_dies 45 = .ok (.iastore, 1) := dk_79 (dk_at dksX5_dies_1 22 rfl rfl)
theorem dX5_dies_46 : decode cX5_dies 46 = .ok (.aload_n 0, 1) := dk_42 (dk_at dksX5_dies_1 23 rfl rfl)
theorem dX5_dies_47 : decode cX5_dies 47 = .ok (.getfield 33, 3) := dk_180 0 33 (dk_at dksX5_dies_2 0 rfl rfl)
theorem dX5_dies_50 : decode cX5_dies 50 = .ok (.bipush 105, 2) := dk_16 105 (dk_at dksX5_dies_2 3 rfl rfl)
theorem dX5_dies_52 : decode cX5_dies 52 = .ok (.iload_n 1, 1) := dk_27 (dk_at dksX5_dies_2 5 rfl rfl)
theorem dX5_dies_53 : decode cX5_dies 53 = .ok (.iadd, 1) := dk_96 (dk_at dksX5_dies_2 6 rfl rfl)
theorem dX5_dies_54 : decode cX5_dies 54 = .ok (.iconst 0, 1) := dk_3 (dk_at dksX5_dies_2 7 rfl rfl)
theorem dX5_dies_55 : decode cX5_dies 55 = .ok (.iastore, 1) := dk_79 (dk_at dksX5_dies_2 8 rfl rfl)
theorem dX5_dies_56 : decode cX5_dies 56 = .ok (.aload_n 0, 1) := dk_42 (dk_at dksX5_dies_2 9 rfl rfl)
theorem dX5_dies_57 : decode cX5_dies 57 = .ok (.iload_n 1, 1) := dk_27 (dk_at dksX5_dies_2 10 rfl rfl)
theorem dX5_dies_58 : decode cX5_dies 58 = .ok (.invokevirtual 313, 3) := dk_182 1 57 (dk_at dksX5_dies_2 11 rfl rfl)
theorem dX5_dies_61 : decode cX5_dies 61 = .ok (.iconst 0, 1) := dk_3 (dk_at dksX5_dies_2 14 rfl rfl)
theorem dX5_dies_62 : decode cX5_dies 62 = .ok (.istore 4, 2) := dk_54 4 (dk_at dksX5_dies_2 15 rfl rfl)
theorem dX5_dies_64 : decode cX5_dies 64 = .ok (.iload 4, 2) := dk_21 4 (dk_at dksX5_dies_2 17 rfl rfl)
theorem dX5_dies_66 : decode cX5_dies 66 = .ok (.aload_n 0, 1) := dk_42 (dk_at dksX5_dies_2 19 rfl rfl)
theorem dX5_dies_67 : decode cX5_dies 67 = .ok (.getfield 33, 3) := dk_180 0 33 (dk_at dksX5_dies_2 20 rfl rfl)
theorem dX5_dies_70 : decode cX5_dies 70 = .ok (.bipush 104, 2) := dk_16 104 (dk_at dksX5_dies_3 0 rfl rfl)
theorem dX5_dies_72 : decode cX5_dies 72 = .ok (.iaload, 1) := dk_46 (dk_at dksX5_dies_3 2 rfl rfl)
theorem dX5_dies_73 : decode cX5_dies 73 = .ok (.if_icmp .ge 91, 3) := dk_162 0 91 (dk_at dksX5_dies_3 3 rfl rfl)
theorem dX5_dies_76 : decode cX5_dies 76 = .ok (.aload_n 0, 1) := dk_42 (dk_at dksX5_dies_3 6 rfl rfl)
theorem dX5_dies_77 : decode cX5_dies 77 = .ok (.getfield 33, 3) := dk_180 0 33 (dk_at dksX5_dies_3 7 rfl rfl)
theorem dX5_dies_80 : decode cX5_dies 80 = .ok (.sipush 129, 3) := dk_17 0 129 (dk_at dksX5_dies_3 10 rfl rfl)
theorem dX5_dies_83 : decode cX5_dies 83 = .ok (.iload 4, 2) := dk_21 4 (dk_at dksX5_dies_3 13 rfl rfl)
theorem dX5_dies_85 : decode cX5_dies 85 = .ok (.iadd, 1) := dk_96 (dk_at dksX5_dies_3 15 rfl rfl)
theorem dX5_dies_86 : decode cX5_dies 86 = .ok (.iaload, 1) := dk_46 (dk_at dksX5_dies_3 16 rfl rfl)
theorem dX5_dies_87 : decode cX5_dies 87 = .ok (.iload_n 1, 1) := dk_27 (dk_at dksX5_dies_3 17 rfl rfl)
theorem dX5_dies_88 : decode cX5_dies 88 = .ok (.if_icmp .ne 70, 3) := dk_160 0 70 (dk_at dksX5_dies_3 18 rfl rfl)
theorem dX5_dies_91 : decode cX5_dies 91 = .ok (.aload_n 0, 1) := dk_42 (dk_at dksX5_dies_3 21 rfl rfl)
theorem dX5_dies_92 : decode cX5_dies 92 = .ok (.aload_n 0, 1) := dk_42 (dk_at dksX5_dies_3 22 rfl rfl)
theorem dX5_dies_93 : decode cX5_dies 93 = .ok (.getfield 33, 3) := dk_180 0 33 (dk_at dksX5_dies_4 0 rfl rfl)
theorem dX5_dies_96 : decode cX5_dies 96 = .ok (.sipush 141, 3) := dk_17 0 141 (dk_at dksX5_dies_4 3 rfl rfl)
theorem dX5_dies_99 : decode cX5_dies 99 = .ok (.iload 4, 2) := dk_21 4 (dk_at dksX5_dies_4 6 rfl rfl)
theorem dX5_dies_101 : decode cX5_dies 101 = .ok (.iadd, 1) := dk_96 (dk_at dksX5_dies_4 8 rfl rfl)
theorem dX5_dies_102 : decode cX5_dies 102 = .ok (.iaload, 1) := dk_46 (dk_at dksX5_dies_4 9 rfl rfl)
theorem dX5_dies_103 : decode cX5_dies 103 = .ok (.invokevirtual 275, 3) := dk_182 1 19 (dk_at dksX5_dies_4 10 rfl rfl)
theorem dX5_dies_106 : decode cX5_dies 106 = .ok (.ifCond .ne 6, 3) := dk_154 0 6 (dk_at dksX5_dies_4 13 rfl rfl)
theorem dX5_dies_109 : decode cX5_dies 109 = .ok (.goto 49, 3) := dk_167 0 49 (dk_at dksX5_dies_4 16 rfl rfl)
theorem dX5_dies_112 : decode cX5_dies 112 = .ok (.iload_n 3, 1) := dk_29 (dk_at dksX5_dies_4 19 rfl rfl)
theorem dX5_dies_113 : decode cX5_dies 113 = .ok (.aload_n 0, 1) := dk_42 (dk_at dksX5_dies_4 20 rfl rfl)
theorem dX5_dies_114 : decode cX5_dies 114 = .ok (.getfield 33, 3) := dk_180 0 33 (dk_at dksX5_dies_4 21 rfl rfl)
theorem dX5_dies_117 : decode cX5_dies 117 = .ok (.sipush 153, 3) := dk_17 0 153 (dk_at dksX5_dies_5 0 rfl rfl)
theorem dX5_dies_120 : decode cX5_dies 120 = .ok (.iload 4, 2) := dk_21 4 (dk_at dksX5_dies_5 3 rfl rfl)
theorem dX5_dies_122 : decode cX5_dies 122 = .ok (.iadd, 1) := dk_96 (dk_at dksX5_dies_5 5 rfl rfl)
theorem dX5_dies_123 : decode cX5_dies 123 = .ok (.iaload, 1) := dk_46 (dk_at dksX5_dies_5 6 rfl rfl)
theorem dX5_dies_124 : decode cX5_dies 124 = .ok (.invokestatic 316, 3) := dk_184 1 60 (dk_at dksX5_dies_5 7 rfl rfl)
theorem dX5_dies_127 : decode cX5_dies 127 = .ok (.istore 5, 2) := dk_54 5 (dk_at dksX5_dies_5 10 rfl rfl)
theorem dX5_dies_129 : decode cX5_dies 129 = .ok (.aload_n 0, 1) := dk_42 (dk_at dksX5_dies_5 12 rfl rfl)
theorem dX5_dies_130 : decode cX5_dies 130 = .ok (.getfield 33, 3) := dk_180 0 33 (dk_at dksX5_dies_5 13 rfl rfl)
theorem dX5_dies_133 : decode cX5_dies 133 = .ok (.bipush 105, 2) := dk_16 105 (dk_at dksX5_dies_5 16 rfl rfl)
theorem dX5_dies_135 : decode cX5_dies 135 = .ok (.aload_n 0, 1) := dk_42 (dk_at dksX5_dies_5 18 rfl rfl)
theorem dX5_dies_136 : decode cX5_dies 136 = .ok (.getfield 33, 3) := dk_180 0 33 (dk_at dksX5_dies_5 19 rfl rfl)
theorem dX5_dies_139 : decode cX5_dies 139 = .ok (.sipush 141, 3) := dk_17 0 141 (dk_at dksX5_dies_6 0 rfl rfl)
theorem dX5_dies_142 : decode cX5_dies 142 = .ok (.iload 4, 2) := dk_21 4 (dk_at dksX5_dies_6 3 rfl rfl)
theorem dX5_dies_144 : decode cX5_dies 144 = .ok (.iadd, 1) := dk_96 (dk_at dksX5_dies_6 5 rfl rfl)
theorem dX5_dies_145 : decode cX5_dies 145 = .ok (.iaload, 1) := dk_46 (dk_at dksX5_dies_6 6 rfl rfl)
theorem dX5_dies_146 : decode cX5_dies 146 = .ok (.iadd, 1) := dk_96 (dk_at dksX5_dies_6 7 rfl rfl)
theorem dX5_dies_147 : decode cX5_dies 147 = .ok (.dup2, 1) := dk_92 (dk_at dksX5_dies_6 8 rfl rfl)
theorem dX5_dies_148 : decode cX5_dies 148 = .ok (.iaload, 1) := dk_46 (dk_at dksX5_dies_6 9 rfl rfl)
theorem dX5_dies_149 : decode cX5_dies 149 = .ok (.iload 5, 2) := dk_21 5 (dk_at dksX5_dies_6 10 rfl rfl)
theorem dX5_dies_151 : decode cX5_dies 151 = .ok (.iadd, 1) := dk_96 (dk_at dksX5_dies_6 12 rfl rfl)
theorem dX5_dies_152 : decode cX5_dies 152 = .ok (.iastore, 1) := dk_79 (dk_at dksX5_dies_6 13 rfl rfl)
theorem dX5_dies_153 : decode cX5_dies 153 = .ok (.iload_n 3, 1) := dk_29 (dk_at dksX5_dies_6 14 rfl rfl)
theorem dX5_dies_154 : decode cX5_dies 154 = .ok (.iload 5, 2) := dk_21 5 (dk_at dksX5_dies_6 15 rfl rfl)
theorem dX5_dies_156 : decode cX5_dies 156 = .ok (.isub, 1) := dk_100 (dk_at dksX5_dies_6 17 rfl rfl)
theorem dX5_dies_157 : decode cX5_dies 157 = .ok (.istore_n 3, 1) := dk_62 (dk_at dksX5_dies_6 18 rfl rfl)
theorem dX5_dies_158 : decode cX5_dies 158 = .ok (.iinc 4 1, 3) := dk_132 4 1 (dk_at dksX5_dies_6 19 rfl rfl)
theorem dX5_dies_161 : decode cX5_dies 161 = .ok (.goto (-97), 3) := dk_167 255 159 (dk_at dksX5_dies_7 0 rfl rfl)
theorem dX5_dies_164 : decode cX5_dies 164 = .ok (.aload_n 0, 1) := dk_42 (dk_at dksX5_dies_7 3 rfl rfl)
theorem dX5_dies_165 : decode cX5_dies 165 = .ok (.iload_n 1, 1) := dk_27 (dk_at dksX5_dies_7 4 rfl rfl)
theorem dX5_dies_166 : decode cX5_dies 166 = .ok (.invokevirtual 319, 3) := dk_182 1 63 (dk_at dksX5_dies_7 5 rfl rfl)
theorem dX5_dies_169 : decode cX5_dies 169 = .ok (.iload_n 3, 1) := dk_29 (dk_at dksX5_dies_7 8 rfl rfl)
theorem dX5_dies_170 : decode cX5_dies 170 = .ok (.ifCond .le 10, 3) := dk_158 0 10 (dk_at dksX5_dies_7 9 rfl rfl)
theorem dX5_dies_173 : decode cX5_dies 173 = .ok (.aload_n 0, 1) := dk_42 (dk_at dksX5_dies_7 12 rfl rfl)
theorem dX5_dies_174 : decode cX5_dies 174 = .ok (.iload_n 1, 1) := dk_27 (dk_at dksX5_dies_7 13 rfl rfl)
theorem dX5_dies_175 : decode cX5_dies 175 = .ok (.iload_n 2, 1) := dk_28 (dk_at dksX5_dies_7 14 rfl rfl)
theorem dX5_dies_176 : decode cX5_dies 176 = .ok (.iload_n 3, 1) := dk_29 (dk_at dksX5_dies_7 15 rfl rfl)
theorem dX5_dies_177 : decode cX5_dies 177 = .ok (.invokevirtual 322, 3) := dk_182 1 66 (dk_at dksX5_dies_7 16 rfl rfl)
theorem dX5_dies_180 : decode cX5_dies 180 = .ok (.return_, 1) := dk_177 (dk_at dksX5_dies_7 19 rfl rfl)
abbrev cX5_parts0 : ByteArray := prog_29_method_56_code
def yX5_parts0 : MethodName := ⟨RX5, "parts0", "(I)V"⟩
def dkwX5_parts0_1 : List UInt8 := [155, 0, 13, 42, 180, 0, 33, 16, 117, 28, 96, 3, 79, 177]
abbrev dktX5_parts0_1 : List UInt8 := dkwX5_parts0_1 ++ []
def dkwX5_parts0_0 : List UInt8 := [42, 180, 0, 33, 16, 117, 27, 96, 46, 4, 100, 61, 42, 180, 0, 33, 16, 117, 27, 96, 3, 79, 28]
abbrev dktX5_parts0_0 : List UInt8 := dkwX5_parts0_0 ++ dktX5_parts0_1
theorem dksX5_parts0_0 : cX5_parts0.data.toList.drop 0 = dktX5_parts0_0 := by decide +kernel
theorem dksX5_parts0_1 : cX5_parts0.data.toList.drop 23 = dktX5_parts0_1 := dk_seg dksX5_parts0_0 23 rfl rfl
theorem dX5_parts0_0 : decode cX5_parts0 0 = .ok (.aload_n 0, 1) := dk_42 (dk_at dksX5_parts0_0 0 rfl rfl)
theorem dX5_parts0_1 : decode cX5_parts0 1 = .ok (.getfield 33, 3) := dk_180 0 33 (dk_at dksX5_parts0_0 1 rfl rfl)
theorem dX5_parts0_4 : decode cX5_parts0 4 = .ok (.bipush 117, 2) := dk_16 117 (dk_at dksX5_parts0_0 4 rfl rfl)
theorem dX5_parts0_6 : decode cX5_parts0 6 = .ok (.iload_n 1, 1) := dk_27 (dk_at dksX5_parts0_0 6 rfl rfl)
theorem dX5_parts0_7 : decode cX5_parts0 7 = .ok (.iadd, 1) := dk_96 (dk_at dksX5_parts0_0 7 rfl rfl)
theorem dX5_parts0_8 : decode cX5_parts0 8 = .ok (.iaload, 1) := dk_46 (dk_at dksX5_parts0_0 8 rfl rfl)
theorem dX5_parts0_9 : decode cX5_parts0 9 = .ok (.iconst 1, 1) := dk_4 (dk_at dksX5_parts0_0 9 rfl rfl)
theorem dX5_parts0_10 : decode cX5_parts0 10 = .ok (.isub, 1) := dk_100 (dk_at dksX5_parts0_0 10 rfl rfl)
theorem dX5_parts0_11 : decode cX5_parts0 11 = .ok (.istore_n 2, 1) := dk_61 (dk_at dksX5_parts0_0 11 rfl rfl)
theorem dX5_parts0_12 : decode cX5_parts0 12 = .ok (.aload_n 0, 1) := dk_42 (dk_at dksX5_parts0_0 12 rfl rfl)
theorem dX5_parts0_13 : decode cX5_parts0 13 = .ok (.getfield 33, 3) := dk_180 0 33 (dk_at dksX5_parts0_0 13 rfl rfl)
theorem dX5_parts0_16 : decode cX5_parts0 16 = .ok (.bipush 117, 2) := dk_16 117 (dk_at dksX5_parts0_0 16 rfl rfl)
theorem dX5_parts0_18 : decode cX5_parts0 18 = .ok (.iload_n 1, 1) := dk_27 (dk_at dksX5_parts0_0 18 rfl rfl)
theorem dX5_parts0_19 : decode cX5_parts0 19 = .ok (.iadd, 1) := dk_96 (dk_at dksX5_parts0_0 19 rfl rfl)
theorem dX5_parts0_20 : decode cX5_parts0 20 = .ok (.iconst 0, 1) := dk_3 (dk_at dksX5_parts0_0 20 rfl rfl)
theorem dX5_parts0_21 : decode cX5_parts0 21 = .ok (.iastore, 1) := dk_79 (dk_at dksX5_parts0_0 21 rfl rfl)
theorem dX5_parts0_22 : decode cX5_parts0 22 = .ok (.iload_n 2, 1) := dk_28 (dk_at dksX5_parts0_0 22 rfl rfl)
theorem dX5_parts0_23 : decode cX5_parts0 23 = .ok (.ifCond .lt 13, 3) := dk_155 0 13 (dk_at dksX5_parts0_1 0 rfl rfl)
theorem dX5_parts0_26 : decode cX5_parts0 26 = .ok (.aload_n 0, 1) := dk_42 (dk_at dksX5_parts0_1 3 rfl rfl)
theorem dX5_parts0_27 : decode cX5_parts0 27 = .ok (.getfield 33, 3) := dk_180 0 33 (dk_at dksX5_parts0_1 4 rfl rfl)
theorem dX5_parts0_30 : decode cX5_parts0 30 = .ok (.bipush 117, 2) := dk_16 117 (dk_at dksX5_parts0_1 7 rfl rfl)
theorem dX5_parts0_32 : decode cX5_parts0 32 = .ok (.iload_n 2, 1) := dk_28 (dk_at dksX5_parts0_1 9 rfl rfl)
theorem dX5_parts0_33 : decode cX5_parts0 33 = .ok (.iadd, 1) := dk_96 (dk_at dksX5_parts0_1 10 rfl rfl)
theorem dX5_parts0_34 : decode cX5_parts0 34 = .ok (.iconst 0, 1) := dk_3 (dk_at dksX5_parts0_1 11 rfl rfl)
theorem dX5_parts0_35 : decode cX5_parts0 35 = .ok (.iastore, 1) := dk_79 (dk_at dksX5_parts0_1 12 rfl rfl)
theorem dX5_parts0_36 : decode cX5_parts0 36 = .ok (.return_, 1) := dk_177 (dk_at dksX5_parts0_1 13 rfl rfl)
abbrev cX5_lesser : ByteArray := prog_29_method_9_code
def yX5_lesser : MethodName := ⟨RX5, "lesser", "(II)I"⟩
def dkwX5_lesser_0 : List UInt8 := [26, 27, 162, 0, 7, 26, 167, 0, 4, 27, 172]
abbrev dktX5_lesser_0 : List UInt8 := dkwX5_lesser_0 ++ []
theorem dksX5_lesser_0 : cX5_lesser.data.toList.drop 0 = dktX5_lesser_0 := by decide +kernel
theorem dX5_lesser_0 : decode cX5_lesser 0 = .ok (.iload_n 0, 1) := dk_26 (dk_at dksX5_lesser_0 0 rfl rfl)
theorem dX5_lesser_1 : decode cX5_lesser 1 = .ok (.iload_n 1, 1) := dk_27 (dk_at dksX5_lesser_0 1 rfl rfl)
theorem dX5_lesser_2 : decode cX5_lesser 2 = .ok (.if_icmp .ge 7, 3) := dk_162 0 7 (dk_at dksX5_lesser_0 2 rfl rfl)
theorem dX5_lesser_5 : decode cX5_lesser 5 = .ok (.iload_n 0, 1) := dk_26 (dk_at dksX5_lesser_0 5 rfl rfl)
theorem dX5_lesser_6 : decode cX5_lesser 6 = .ok (.goto 4, 3) := dk_167 0 4 (dk_at dksX5_lesser_0 6 rfl rfl)
theorem dX5_lesser_9 : decode cX5_lesser 9 = .ok (.iload_n 1, 1) := dk_27 (dk_at dksX5_lesser_0 9 rfl rfl)
theorem dX5_lesser_10 : decode cX5_lesser 10 = .ok (.ireturn, 1) := dk_172 (dk_at dksX5_lesser_0 10 rfl rfl)
abbrev cX5_revokes : ByteArray := prog_29_method_57_code
def yX5_revokes : MethodName := ⟨RX5, "revokes", "(I)V"⟩
def dkwX5_revokes_6 : List UInt8 := [17, 0, 153, 29, 96, 3, 79, 132, 3, 1, 167, 255, 209, 42, 180, 0, 33, 16, 104, 28, 79, 177]
abbrev dktX5_revokes_6 : List UInt8 := dkwX5_revokes_6 ++ []
def dkwX5_revokes_5 : List UInt8 := [17, 0, 129, 29, 96, 3, 79, 42, 180, 0, 33, 17, 0, 141, 29, 96, 3, 79, 42, 180, 0, 33]
abbrev dktX5_revokes_5 : List UInt8 := dkwX5_revokes_5 ++ dktX5_revokes_6
def dkwX5_revokes_4 : List UInt8 := [132, 3, 1, 167, 255, 162, 28, 62, 29, 42, 180, 0, 33, 16, 104, 46, 162, 0, 42, 42, 180, 0, 33]
abbrev dktX5_revokes_4 : List UInt8 := dkwX5_revokes_4 ++ dktX5_revokes_5
def dkwX5_revokes_3 : List UInt8 := [42, 180, 0, 33, 17, 0, 153, 28, 96, 42, 180, 0, 33, 17, 0, 153, 29, 96, 46, 79, 132, 2, 1]
abbrev dktX5_revokes_3 : List UInt8 := dkwX5_revokes_3 ++ dktX5_revokes_4
def dkwX5_revokes_2 : List UInt8 := [29, 96, 46, 79, 42, 180, 0, 33, 17, 0, 141, 28, 96, 42, 180, 0, 33, 17, 0, 141, 29, 96, 46, 79]
abbrev dktX5_revokes_2 : List UInt8 := dkwX5_revokes_2 ++ dktX5_revokes_3
def dkwX5_revokes_1 : List UInt8 := [46, 27, 160, 0, 6, 167, 0, 66, 42, 180, 0, 33, 17, 0, 129, 28, 96, 42, 180, 0, 33, 17, 0, 129]
abbrev dktX5_revokes_1 : List UInt8 := dkwX5_revokes_1 ++ dktX5_revokes_2
def dkwX5_revokes_0 : List UInt8 := [3, 61, 3, 62, 29, 42, 180, 0, 33, 16, 104, 46, 162, 0, 89, 42, 180, 0, 33, 17, 0, 129, 29, 96]
abbrev dktX5_revokes_0 : List UInt8 := dkwX5_revokes_0 ++ dktX5_revokes_1
theorem dksX5_revokes_0 : cX5_revokes.data.toList.drop 0 = dktX5_revokes_0 := by decide +kernel
theorem dksX5_revokes_1 : cX5_revokes.data.toList.drop 24 = dktX5_revokes_1 := dk_seg dksX5_revokes_0 24 rfl rfl
theorem dksX5_revokes_2 : cX5_revokes.data.toList.drop 48 = dktX5_revokes_2 := dk_seg dksX5_revokes_1 24 rfl rfl
theorem dksX5_revokes_3 : cX5_revokes.data.toList.drop 72 = dktX5_revokes_3 := dk_seg dksX5_revokes_2 24 rfl rfl
theorem dksX5_revokes_4 : cX5_revokes.data.toList.drop 95 = dktX5_revokes_4 := dk_seg dksX5_revokes_3 23 rfl rfl
theorem dksX5_revokes_5 : cX5_revokes.data.toList.drop 118 = dktX5_revokes_5 := dk_seg dksX5_revokes_4 23 rfl rfl
theorem dksX5_revokes_6 : cX5_revokes.data.toList.drop 140 = dktX5_revokes_6 := dk_seg dksX5_revokes_5 22 rfl rfl
theorem dX5_revokes_0 : decode cX5_revokes 0 = .ok (.iconst 0, 1) := dk_3 (dk_at dksX5_revokes_0 0 rfl rfl)
theorem dX5_revokes_1 : decode cX5_revokes 1 = .ok (.istore_n 2, 1) := dk_61 (dk_at dksX5_revokes_0 1 rfl rfl)
theorem dX5_revokes_2 : decode cX5_revokes 2 = .ok (.iconst 0, 1) := dk_3 (dk_at dksX5_revokes_0 2 rfl rfl)
theorem dX5_revokes_3 : decode cX5_revokes 3 = .ok (.istore_n 3, 1) := dk_62 (dk_at dksX5_revokes_0 3 rfl rfl)
theorem dX5_revokes_4 : decode cX5_revokes 4 = .ok (.iload_n 3, 1) := dk_29 (dk_at dksX5_revokes_0 4 rfl rfl)
theorem dX5_revokes_5 : decode cX5_revokes 5 = .ok (.aload_n 0, 1) := dk_42 (dk_at dksX5_revokes_0 5 rfl rfl)
theorem dX5_revokes_6 : decode cX5_revokes 6 = .ok (.getfield 33, 3) := dk_180 0 33 (dk_at dksX5_revokes_0 6 rfl rfl)
theorem dX5_revokes_9 : decode cX5_revokes 9 = .ok (.bipush 104, 2) := dk_16 104 (dk_at dksX5_revokes_0 9 rfl rfl)
theorem dX5_revokes_11 : decode cX5_revokes 11 = .ok (.iaload, 1) := dk_46 (dk_at dksX5_revokes_0 11 rfl rfl)
theorem dX5_revokes_12 : decode cX5_revokes 12 = .ok (.if_icmp .ge 89, 3) := dk_162 0 89 (dk_at dksX5_revokes_0 12 rfl rfl)
theorem dX5_revokes_15 : decode cX5_revokes 15 = .ok (.aload_n 0, 1) := dk_42 (dk_at dksX5_revokes_0 15 rfl rfl)
theorem dX5_revokes_16 : decode cX5_revokes 16 = .ok (.getfield 33, 3) := dk_180 0 33 (dk_at dksX5_revokes_0 16 rfl rfl)
theorem dX5_revokes_19 : decode cX5_revokes 19 = .ok (.sipush 129, 3) := dk_17 0 129 (dk_at dksX5_revokes_0 19 rfl rfl)
theorem dX5_revokes_22 : decode cX5_revokes 22 = .ok (.iload_n 3, 1) := dk_29 (dk_at dksX5_revokes_0 22 rfl rfl)
theorem dX5_revokes_23 : decode cX5_revokes 23 = .ok (.iadd, 1) := dk_96 (dk_at dksX5_revokes_0 23 rfl rfl)
theorem dX5_revokes_24 : decode cX5_revokes 24 = .ok (.iaload, 1) := dk_46 (dk_at dksX5_revokes_1 0 rfl rfl)
theorem dX5_revokes_25 : decode cX5_revokes 25 = .ok (.iload_n 1, 1) := dk_27 (dk_at dksX5_revokes_1 1 rfl rfl)
theorem dX5_revokes_26 : decode cX5_revokes 26 = .ok (.if_icmp .ne 6, 3) := dk_160 0 6 (dk_at dksX5_revokes_1 2 rfl rfl)
theorem dX5_revokes_29 : decode cX5_revokes 29 = .ok (.goto 66, 3) := dk_167 0 66 (dk_at dksX5_revokes_1 5 rfl rfl)
theorem dX5_revokes_32 : decode cX5_revokes 32 = .ok (.aload_n 0, 1) := dk_42 (dk_at dksX5_revokes_1 8 rfl rfl)
theorem dX5_revokes_33 : decode cX5_revokes 33 = .ok (.getfield 33, 3) := dk_180 0 33 (dk_at dksX5_revokes_1 9 rfl rfl)
theorem dX5_revokes_36 : decode cX5_revokes 36 = .ok (.sipush 129, 3) := dk_17 0 129 (dk_at dksX5_revokes_1 12 rfl rfl)
theorem dX5_revokes_39 : decode cX5_revokes 39 = .ok (.iload_n 2, 1) := dk_28 (dk_at dksX5_revokes_1 15 rfl rfl)
theorem dX5_revokes_40 : decode cX5_revokes 40 = .ok (.iadd, 1) := dk_96 (dk_at dksX5_revokes_1 16 rfl rfl)
theorem dX5_revokes_41 : decode cX5_revokes 41 = .ok (.aload_n 0, 1) := dk_42 (dk_at dksX5_revokes_1 17 rfl rfl)
theorem dX5_revokes_42 : decode cX5_revokes 42 = .ok (.getfield 33, 3) := dk_180 0 33 (dk_at dksX5_revokes_1 18 rfl rfl)
theorem dX5_revokes_45 : decode cX5_revokes 45 = .ok (.sipush 129, 3) := dk_17 0 129 (dk_at dksX5_revokes_1 21 rfl rfl)
theorem dX5_revokes_48 : decode cX5_revokes 48 = .ok (.iload_n 3, 1) := dk_29 (dk_at dksX5_revokes_2 0 rfl rfl)
theorem dX5_revokes_49 : decode cX5_revokes 49 = .ok (.iadd, 1) := dk_96 (dk_at dksX5_revokes_2 1 rfl rfl)
theorem dX5_revokes_50 : decode cX5_revokes 50 = .ok (.iaload, 1) := dk_46 (dk_at dksX5_revokes_2 2 rfl rfl)
theorem dX5_revokes_51 : decode cX5_revokes 51 = .ok (.iastore, 1) := dk_79 (dk_at dksX5_revokes_2 3 rfl rfl)
theorem dX5_revokes_52 : decode cX5_revokes 52 = .ok (.aload_n 0, 1) := dk_42 (dk_at dksX5_revokes_2 4 rfl rfl)
theorem dX5_revokes_53 : decode cX5_revokes 53 = .ok (.getfield 33, 3) := dk_180 0 33 (dk_at dksX5_revokes_2 5 rfl rfl)
theorem dX5_revokes_56 : decode cX5_revokes 56 = .ok (.sipush 141, 3) := dk_17 0 141 (dk_at dksX5_revokes_2 8 rfl rfl)
theorem dX5_revokes_59 : decode cX5_revokes 59 = .ok (.iload_n 2, 1) := dk_28 (dk_at dksX5_revokes_2 11 rfl rfl)
theorem dX5_revokes_60 : decode cX5_revokes 60 = .ok (.iadd, 1) := dk_96 (dk_at dksX5_revokes_2 12 rfl rfl)
theorem dX5_revokes_61 : decode cX5_revokes 61 = .ok (.aload_n 0, 1) := dk_42 (dk_at dksX5_revokes_2 13 rfl rfl)
theorem dX5_revokes_62 : decode cX5_revokes 62 = .ok (.getfield 33, 3) := dk_180 0 33 (dk_at dksX5_revokes_2 14 rfl rfl)
theorem dX5_revokes_65 : decode cX5_revokes 65 = .ok (.sipush 141, 3) := dk_17 0 141 (dk_at dksX5_revokes_2 17 rfl rfl)
theorem dX5_revokes_68 : decode cX5_revokes 68 = .ok (.iload_n 3, 1) := dk_29 (dk_at dksX5_revokes_2 20 rfl rfl)
theorem dX5_revokes_69 : decode cX5_revokes 69 = .ok (.iadd, 1) := dk_96 (dk_at dksX5_revokes_2 21 rfl rfl)
theorem dX5_revokes_70 : decode cX5_revokes 70 = .ok (.iaload, 1) := dk_46 (dk_at dksX5_revokes_2 22 rfl rfl)
theorem dX5_revokes_71 : decode cX5_revokes 71 = .ok (.iastore, 1) := dk_79 (dk_at dksX5_revokes_2 23 rfl rfl)
theorem dX5_revokes_72 : decode cX5_revokes 72 = .ok (.aload_n 0, 1) := dk_42 (dk_at dksX5_revokes_3 0 rfl rfl)
theorem dX5_revokes_73 : decode cX5_revokes 73 = .ok (.getfield 33, 3) := dk_180 0 33 (dk_at dksX5_revokes_3 1 rfl rfl)
theorem dX5_revokes_76 : decode cX5_revokes 76 = .ok (.sipush 153, 3) := dk_17 0 153 (dk_at dksX5_revokes_3 4 rfl rfl)
theorem dX5_revokes_79 : decode cX5_revokes 79 = .ok (.iload_n 2, 1) := dk_28 (dk_at dksX5_revokes_3 7 rfl rfl)
theorem dX5_revokes_80 : decode cX5_revokes 80 = .ok (.iadd, 1) := dk_96 (dk_at dksX5_revokes_3 8 rfl rfl)
theorem dX5_revokes_81 : decode cX5_revokes 81 = .ok (.aload_n 0, 1) := dk_42 (dk_at dksX5_revokes_3 9 rfl rfl)
theorem dX5_revokes_82 : decode cX5_revokes 82 = .ok (.getfield 33, 3) := dk_180 0 33 (dk_at dksX5_revokes_3 10 rfl rfl)
theorem dX5_revokes_85 : decode cX5_revokes 85 = .ok (.sipush 153, 3) := dk_17 0 153 (dk_at dksX5_revokes_3 13 rfl rfl)
theorem dX5_revokes_88 : decode cX5_revokes 88 = .ok (.iload_n 3, 1) := dk_29 (dk_at dksX5_revokes_3 16 rfl rfl)
theorem dX5_revokes_89 : decode cX5_revokes 89 = .ok (.iadd, 1) := dk_96 (dk_at dksX5_revokes_3 17 rfl rfl)
theorem dX5_revokes_90 : decode cX5_revokes 90 = .ok (.iaload, 1) := dk_46 (dk_at dksX5_revokes_3 18 rfl rfl)
theorem dX5_revokes_91 : decode cX5_revokes 91 = .ok (.iastore, 1) := dk_79 (dk_at dksX5_revokes_3 19 rfl rfl)
theorem dX5_revokes_92 : decode cX5_revokes 92 = .ok (.iinc 2 1, 3) := dk_132 2 1 (dk_at dksX5_revokes_3 20 rfl rfl)
theorem dX5_revokes_95 : decode cX5_revokes 95 = .ok (.iinc 3 1, 3) := dk_132 3 1 (dk_at dksX5_revokes_4 0 rfl rfl)
theorem dX5_revokes_98 : decode cX5_revokes 98 = .ok (.goto (-94), 3) := dk_167 255 162 (dk_at dksX5_revokes_4 3 rfl rfl)
theorem dX5_revokes_101 : decode cX5_revokes 101 = .ok (.iload_n 2, 1) := dk_28 (dk_at dksX5_revokes_4 6 rfl rfl)
theorem dX5_revokes_102 : decode cX5_revokes 102 = .ok (.istore_n 3, 1) := dk_62 (dk_at dksX5_revokes_4 7 rfl rfl)
theorem dX5_revokes_103 : decode cX5_revokes 103 = .ok (.iload_n 3, 1) := dk_29 (dk_at dksX5_revokes_4 8 rfl rfl)
theorem dX5_revokes_104 : decode cX5_revokes 104 = .ok (.aload_n 0, 1) := dk_42 (dk_at dksX5_revokes_4 9 rfl rfl)
theorem dX5_revokes_105 : decode cX5_revokes 105 = .ok (.getfield 33, 3) := dk_180 0 33 (dk_at dksX5_revokes_4 10 rfl rfl)
theorem dX5_revokes_108 : decode cX5_revokes 108 = .ok (.bipush 104, 2) := dk_16 104 (dk_at dksX5_revokes_4 13 rfl rfl)
theorem dX5_revokes_110 : decode cX5_revokes 110 = .ok (.iaload, 1) := dk_46 (dk_at dksX5_revokes_4 15 rfl rfl)
theorem dX5_revokes_111 : decode cX5_revokes 111 = .ok (.if_icmp .ge 42, 3) := dk_162 0 42 (dk_at dksX5_revokes_4 16 rfl rfl)
theorem dX5_revokes_114 : decode cX5_revokes 114 = .ok (.aload_n 0, 1) := dk_42 (dk_at dksX5_revokes_4 19 rfl rfl)
theorem dX5_revokes_115 : decode cX5_revokes 115 = .ok (.getfield 33, 3) := dk_180 0 33 (dk_at dksX5_revokes_4 20 rfl rfl)
theorem dX5_revokes_118 : decode cX5_revokes 118 = .ok (.sipush 129, 3) := dk_17 0 129 (dk_at dksX5_revokes_5 0 rfl rfl)
theorem dX5_revokes_121 : decode cX5_revokes 121 = .ok (.iload_n 3, 1) := dk_29 (dk_at dksX5_revokes_5 3 rfl rfl)
theorem dX5_revokes_122 : decode cX5_revokes 122 = .ok (.iadd, 1) := dk_96 (dk_at dksX5_revokes_5 4 rfl rfl)
theorem dX5_revokes_123 : decode cX5_revokes 123 = .ok (.iconst 0, 1) := dk_3 (dk_at dksX5_revokes_5 5 rfl rfl)
theorem dX5_revokes_124 : decode cX5_revokes 124 = .ok (.iastore, 1) := dk_79 (dk_at dksX5_revokes_5 6 rfl rfl)
theorem dX5_revokes_125 : decode cX5_revokes 125 = .ok (.aload_n 0, 1) := dk_42 (dk_at dksX5_revokes_5 7 rfl rfl)
theorem dX5_revokes_126 : decode cX5_revokes 126 = .ok (.getfield 33, 3) := dk_180 0 33 (dk_at dksX5_revokes_5 8 rfl rfl)
theorem dX5_revokes_129 : decode cX5_revokes 129 = .ok (.sipush 141, 3) := dk_17 0 141 (dk_at dksX5_revokes_5 11 rfl rfl)
theorem dX5_revokes_132 : decode cX5_revokes 132 = .ok (.iload_n 3, 1) := dk_29 (dk_at dksX5_revokes_5 14 rfl rfl)
theorem dX5_revokes_133 : decode cX5_revokes 133 = .ok (.iadd, 1) := dk_96 (dk_at dksX5_revokes_5 15 rfl rfl)
theorem dX5_revokes_134 : decode cX5_revokes 134 = .ok (.iconst 0, 1) := dk_3 (dk_at dksX5_revokes_5 16 rfl rfl)
theorem dX5_revokes_135 : decode cX5_revokes 135 = .ok (.iastore, 1) := dk_79 (dk_at dksX5_revokes_5 17 rfl rfl)
theorem dX5_revokes_136 : decode cX5_revokes 136 = .ok (.aload_n 0, 1) := dk_42 (dk_at dksX5_revokes_5 18 rfl rfl)
theorem dX5_revokes_137 : decode cX5_revokes 137 = .ok (.getfield 33, 3) := dk_180 0 33 (dk_at dksX5_revokes_5 19 rfl rfl)
theorem dX5_revokes_140 : decode cX5_revokes 140 = .ok (.sipush 153, 3) := dk_17 0 153 (dk_at dksX5_revokes_6 0 rfl rfl)
theorem dX5_revokes_143 : decode cX5_revokes 143 = .ok (.iload_n 3, 1) := dk_29 (dk_at dksX5_revokes_6 3 rfl rfl)
theorem dX5_revokes_144 : decode cX5_revokes 144 = .ok (.iadd, 1) := dk_96 (dk_at dksX5_revokes_6 4 rfl rfl)
theorem dX5_revokes_145 : decode cX5_revokes 145 = .ok (.iconst 0, 1) := dk_3 (dk_at dksX5_revokes_6 5 rfl rfl)
theorem dX5_revokes_146 : decode cX5_revokes 146 = .ok (.iastore, 1) := dk_79 (dk_at dksX5_revokes_6 6 rfl rfl)
theorem dX5_revokes_147 : decode cX5_revokes 147 = .ok (.iinc 3 1, 3) := dk_132 3 1 (dk_at dksX5_revokes_6 7 rfl rfl)
theorem dX5_revokes_150 : decode cX5_revokes 150 = .ok (.goto (-47), 3) := dk_167 255 209 (dk_at dksX5_revokes_6 10 rfl rfl)
theorem dX5_revokes_153 : decode cX5_revokes 153 = .ok (.aload_n 0, 1) := dk_42 (dk_at dksX5_revokes_6 13 rfl rfl)
theorem dX5_revokes_154 : decode cX5_revokes 154 = .ok (.getfield 33, 3) := dk_180 0 33 (dk_at dksX5_revokes_6 14 rfl rfl)
theorem dX5_revokes_157 : decode cX5_revokes 157 = .ok (.bipush 104, 2) := dk_16 104 (dk_at dksX5_revokes_6 17 rfl rfl)
theorem dX5_revokes_159 : decode cX5_revokes 159 = .ok (.iload_n 2, 1) := dk_28 (dk_at dksX5_revokes_6 19 rfl rfl)
theorem dX5_revokes_160 : decode cX5_revokes 160 = .ok (.iastore, 1) := dk_79 (dk_at dksX5_revokes_6 20 rfl rfl)
theorem dX5_revokes_161 : decode cX5_revokes 161 = .ok (.return_, 1) := dk_177 (dk_at dksX5_revokes_6 21 rfl rfl)
abbrev cX5_inherits : ByteArray := prog_29_method_59_code
def yX5_inherits : MethodName := ⟨RX5, "inherits", "(III)V"⟩
def dkwX5_inherits_8 : List UInt8 := [46, 29, 96, 79, 177]
abbrev dktX5_inherits_8 : List UInt8 := dkwX5_inherits_8 ++ []
def dkwX5_inherits_7 : List UInt8 := [167, 0, 11, 42, 21, 7, 29, 182, 1, 70, 177, 132, 6, 1, 167, 255, 157, 42, 180, 0, 33, 16, 102, 92]
abbrev dktX5_inherits_7 : List UInt8 := dkwX5_inherits_7 ++ dktX5_inherits_8
def dkwX5_inherits_6 : List UInt8 := [182, 1, 16, 126, 167, 0, 9, 42, 21, 5, 182, 1, 10, 54, 7, 42, 21, 7, 182, 1, 51, 154, 0, 6]
abbrev dktX5_inherits_6 : List UInt8 := dkwX5_inherits_6 ++ dktX5_inherits_7
def dkwX5_inherits_5 : List UInt8 := [21, 6, 5, 160, 0, 12, 42, 21, 4, 182, 1, 10, 167, 0, 25, 21, 6, 6, 160, 0, 13, 21, 5, 42]
abbrev dktX5_inherits_5 : List UInt8 := dkwX5_inherits_5 ++ dktX5_inherits_6
def dkwX5_inherits_4 : List UInt8 := [120, 182, 1, 10, 167, 0, 56, 21, 6, 4, 160, 0, 13, 21, 4, 42, 182, 1, 16, 126, 167, 0, 40]
abbrev dktX5_inherits_4 : List UInt8 := dkwX5_inherits_4 ++ dktX5_inherits_5
def dkwX5_inherits_3 : List UInt8 := [21, 4, 182, 1, 25, 54, 5, 3, 54, 6, 21, 6, 8, 162, 0, 99, 21, 6, 154, 0, 13, 42, 4, 27]
abbrev dktX5_inherits_3 : List UInt8 := dkwX5_inherits_3 ++ dktX5_inherits_4
def dkwX5_inherits_2 : List UInt8 := [182, 1, 10, 29, 21, 4, 100, 182, 1, 70, 177, 42, 180, 0, 33, 16, 27, 27, 96, 46, 54, 4, 42]
abbrev dktX5_inherits_2 : List UInt8 := dkwX5_inherits_2 ++ dktX5_inherits_3
def dkwX5_inherits_1 : List UInt8 := [16, 100, 108, 54, 4, 42, 180, 0, 33, 16, 105, 28, 96, 92, 46, 21, 4, 96, 79, 42, 42, 4, 27, 120]
abbrev dktX5_inherits_1 : List UInt8 := dkwX5_inherits_1 ++ dktX5_inherits_2
def dkwX5_inherits_0 : List UInt8 := [28, 155, 0, 58, 42, 27, 182, 1, 22, 154, 0, 7, 29, 167, 0, 14, 29, 42, 180, 0, 33, 5, 46, 104]
abbrev dktX5_inherits_0 : List UInt8 := dkwX5_inherits_0 ++ dktX5_inherits_1
theorem dksX5_inherits_0 : cX5_inherits.data.toList.drop 0 = dktX5_inherits_0 := by decide +kernel
theorem dksX5_inherits_1 : cX5_inherits.data.toList.drop 24 = dktX5_inherits_1 := dk_seg dksX5_inherits_0 24 rfl rfl
theorem dksX5_inherits_2 : cX5_inherits.data.toList.drop 48 = dktX5_inherits_2 := dk_seg dksX5_inherits_1 24 rfl rfl
theorem dksX5_inherits_3 : cX5_inherits.data.toList.drop 71 = dktX5_inherits_3 := dk_seg dksX5_inherits_2 23 rfl rfl
theorem dksX5_inherits_4 : cX5_inherits.data.toList.drop 95 = dktX5_inherits_4 := dk_seg dksX5_inherits_3 24 rfl rfl
theorem dksX5_inherits_5 : cX5_inherits.data.toList.drop 118 = dktX5_inherits_5 := dk_seg dksX5_inherits_4 23 rfl rfl
theorem dksX5_inherits_6 : cX5_inherits.data.toList.drop 142 = dktX5_inherits_6 := dk_seg dksX5_inherits_5 24 rfl rfl
theorem dksX5_inherits_7 : cX5_inherits.data.toList.drop 166 = dktX5_inherits_7 := dk_seg dksX5_inherits_6 24 rfl rfl
theorem dksX5_inherits_8 : cX5_inherits.data.toList.drop 190 = dktX5_inherits_8 := dk_seg dksX5_inherits_7 24 rfl rfl
theorem dX5_inherits_0 : decode cX5_inherits 0 = .ok (.iload_n 2, 1) := dk_28 (dk_at dksX5_inherits_0 0 rfl rfl)
theorem dX5_inherits_1 : decode cX5_inherits 1 = .ok (.ifCond .lt 58, 3) := dk_155 0 58 (dk_at dksX5_inherits_0 1 rfl rfl)
theorem dX5_inherits_4 : decode cX5_inherits 4 = .ok (.aload_n 0, 1) := dk_42 (dk_at dksX5_inherits_0 4 rfl rfl)
theorem dX5_inherits_5 : decode cX5_inherits 5 = .ok (.iload_n 1, 1) := dk_27 (dk_at dksX5_inherits_0 5 rfl rfl)
theorem dX5_inherits_6 : decode cX5_inherits 6 = .ok (.invokevirtual 278, 3) := dk_182 1 22 (dk_at dksX5_inherits_0 6 rfl rfl)
theorem dX5_inherits_9 : decode cX5_inherits 9 = .ok (.ifCond .ne 7, 3) := dk_154 0 7 (dk_at dksX5_inherits_0 9 rfl rfl)
theorem dX5_inherits_12 : decode cX5_inherits 12 = .ok (.iload_n 3, 1) := dk_29 (dk_at dksX5_inherits_0 12 rfl rfl)
theorem dX5_inherits_13 : decode cX5_inherits 13 = .ok (.goto 14, 3) := dk_167 0 14 (dk_at dksX5_inherits_0 13 rfl rfl)
theorem dX5_inherits_16 : decode cX5_inherits 16 = .ok (.iload_n 3, 1) := dk_29 (dk_at dksX5_inherits_0 16 rfl rfl)
theorem dX5_inherits_17 : decode cX5_inherits 17 = .ok (.aload_n 0, 1) := dk_42 (dk_at dksX5_inherits_0 17 rfl rfl)
theorem dX5_inherits_18 : decode cX5_inherits 18 = .ok (.getfield 33, 3) := dk_180 0 33 (dk_at dksX5_inherits_0 18 rfl rfl)
theorem dX5_inherits_21 : decode cX5_inherits 21 = .ok (.iconst 2, 1) := dk_5 (dk_at dksX5_inherits_0 21 rfl rfl)
theorem dX5_inherits_22 : decode cX5_inherits 22 = .ok (.iaload, 1) := dk_46 (dk_at dksX5_inherits_0 22 rfl rfl)
theorem dX5_inherits_23 : decode cX5_inherits 23 = .ok (.imul, 1) := dk_104 (dk_at dksX5_inherits_0 23 rfl rfl)
theorem dX5_inherits_24 : decode cX5_inherits 24 = .ok (.bipush 100, 2) := dk_16 100 (dk_at dksX5_inherits_1 0 rfl rfl)
theorem dX5_inherits_26 : decode cX5_inherits 26 = .ok (.idiv, 1) := dk_108 (dk_at dksX5_inherits_1 2 rfl rfl)
theorem dX5_inherits_27 : decode cX5_inherits 27 = .ok (.istore 4, 2) := dk_54 4 (dk_at dksX5_inherits_1 3 rfl rfl)
theorem dX5_inherits_29 : decode cX5_inherits 29 = .ok (.aload_n 0, 1) := dk_42 (dk_at dksX5_inherits_1 5 rfl rfl)
theorem dX5_inherits_30 : decode cX5_inherits 30 = .ok (.getfield 33, 3) := dk_180 0 33 (dk_at dksX5_inherits_1 6 rfl rfl)
theorem dX5_inherits_33 : decode cX5_inherits 33 = .ok (.bipush 105, 2) := dk_16 105 (dk_at dksX5_inherits_1 9 rfl rfl)
theorem dX5_inherits_35 : decode cX5_inherits 35 = .ok (.iload_n 2, 1) := dk_28 (dk_at dksX5_inherits_1 11 rfl rfl)
theorem dX5_inherits_36 : decode cX5_inherits 36 = .ok (.iadd, 1) := dk_96 (dk_at dksX5_inherits_1 12 rfl rfl)
theorem dX5_inherits_37 : decode cX5_inherits 37 = .ok (.dup2, 1) := dk_92 (dk_at dksX5_inherits_1 13 rfl rfl)
theorem dX5_inherits_38 : decode cX5_inherits 38 = .ok (.iaload, 1) := dk_46 (dk_at dksX5_inherits_1 14 rfl rfl)
theorem dX5_inherits_39 : decode cX5_inherits 39 = .ok (.iload 4, 2) := dk_21 4 (dk_at dksX5_inherits_1 15 rfl rfl)
theorem dX5_inherits_41 : decode cX5_inherits 41 = .ok (.iadd, 1) := dk_96 (dk_at dksX5_inherits_1 17 rfl rfl)
theorem dX5_inherits_42 : decode cX5_inherits 42 = .ok (.iastore, 1) := dk_79 (dk_at dksX5_inherits_1 18 rfl rfl)
theorem dX5_inherits_43 : decode cX5_inherits 43 = .ok (.aload_n 0, 1) := dk_42 (dk_at dksX5_inherits_1 19 rfl rfl)
theorem dX5_inherits_44 : decode cX5_inherits 44 = .ok (.aload_n 0, 1) := dk_42 (dk_at dksX5_inherits_1 20 rfl rfl)
theorem dX5_inherits_45 : decode cX5_inherits 45 = .ok (.iconst 1, 1) := dk_4 (dk_at dksX5_inherits_1 21 rfl rfl)
theorem dX5_inherits_46 : decode cX5_inherits 46 = .ok (.iload_n 1, 1) := dk_27 (dk_at dksX5_inherits_1 22 rfl rfl)
theorem dX5_inherits_47 : decode cX5_inherits 47 = .ok (.ishl, 1) := dk_120 (dk_at dksX5_inherits_1 23 rfl rfl)
theorem dX5_inherits_48 : decode cX5_inherits 48 = .ok (.invokevirtual 266, 3) := dk_182 1 10 (dk_at dksX5_inherits_2 0 rfl rfl)
theorem dX5_inherits_51 : decode cX5_inherits 51 = .ok (.iload_n 3, 1) := dk_29 (dk_at dksX5_inherits_2 3 rfl rfl)
theorem dX5_inherits_52 : decode cX5_inherits 52 = .ok (.iload 4, 2) := dk_21 4 (dk_at dksX5_inherits_2 4 rfl rfl)
theorem dX5_inherits_54 : decode cX5_inherits 54 = .ok (.isub, 1) := dk_100 (dk_at dksX5_inherits_2 6 rfl rfl)
theorem dX5_inherits_55 : decode cX5_inherits 55 = .ok (.invokevirtual 326, 3) := dk_182 1 70 (dk_at dksX5_inherits_2 7 rfl rfl)
theorem dX5_inherits_58 : decode cX5_inherits 58 = .ok (.return_, 1) := dk_177 (dk_at dksX5_inherits_2 10 rfl rfl)
theorem dX5_inherits_59 : decode cX5_inherits 59 = .ok (.aload_n 0, 1) := dk_42 (dk_at dksX5_inherits_2 11 rfl rfl)
theorem dX5_inherits_60 : decode cX5_inherits 60 = .ok (.getfield 33, 3) := dk_180 0 33 (dk_at dksX5_inherits_2 12 rfl rfl)
theorem dX5_inherits_63 : decode cX5_inherits 63 = .ok (.bipush 27, 2) := dk_16 27 (dk_at dksX5_inherits_2 15 rfl rfl)
theorem dX5_inherits_65 : decode cX5_inherits 65 = .ok (.iload_n 1, 1) := dk_27 (dk_at dksX5_inherits_2 17 rfl rfl)
theorem dX5_inherits_66 : decode cX5_inherits 66 = .ok (.iadd, 1) := dk_96 (dk_at dksX5_inherits_2 18 rfl rfl)
theorem dX5_inherits_67 : decode cX5_inherits 67 = .ok (.iaload, 1) := dk_46 (dk_at dksX5_inherits_2 19 rfl rfl)
theorem dX5_inherits_68 : decode cX5_inherits 68 = .ok (.istore 4, 2) := dk_54 4 (dk_at dksX5_inherits_2 20 rfl rfl)
theorem dX5_inherits_70 : decode cX5_inherits 70 = .ok (.aload_n 0, 1) := dk_42 (dk_at dksX5_inherits_2 22 rfl rfl)
theorem dX5_inherits_71 : decode cX5_inherits 71 = .ok (.iload 4, 2) := dk_21 4 (dk_at dksX5_inherits_3 0 rfl rfl)
theorem dX5_inherits_73 : decode cX5_inherits 73 = .ok (.invokevirtual 281, 3) := dk_182 1 25 (dk_at dksX5_inherits_3 2 rfl rfl)
theorem dX5_inherits_76 : decode cX5_inherits 76 = .ok (.istore 5, 2) := dk_54 5 (dk_at dksX5_inherits_3 5 rfl rfl)
theorem dX5_inherits_78 : decode cX5_inherits 78 = .ok (.iconst 0, 1) := dk_3 (dk_at dksX5_inherits_3 7 rfl rfl)
theorem dX5_inherits_79 : decode cX5_inherits 79 = .ok (.istore 6, 2) := dk_54 6 (dk_at dksX5_inherits_3 8 rfl rfl)
theorem dX5_inherits_81 : decode cX5_inherits 81 = .ok (.iload 6, 2) := dk_21 6 (dk_at dksX5_inherits_3 10 rfl rfl)
theorem dX5_inherits_83 : decode cX5_inherits 83 = .ok (.iconst 5, 1) := dk_8 (dk_at dksX5_inherits_3 12 rfl rfl)
theorem dX5_inherits_84 : decode cX5_inherits 84 = .ok (.if_icmp .ge 99, 3) := dk_162 0 99 (dk_at dksX5_inherits_3 13 rfl rfl)
theorem dX5_inherits_87 : decode cX5_inherits 87 = .ok (.iload 6, 2) := dk_21 6 (dk_at dksX5_inherits_3 16 rfl rfl)
theorem dX5_inherits_89 : decode cX5_inherits 89 = .ok (.ifCond .ne 13, 3) := dk_154 0 13 (dk_at dksX5_inherits_3 18 rfl rfl)
theorem dX5_inherits_92 : decode cX5_inherits 92 = .ok (.aload_n 0, 1) := dk_42 (dk_at dksX5_inherits_3 21 rfl rfl)
theorem dX5_inherits_93 : decode cX5_inherits 93 = .ok (.iconst 1, 1) := dk_4 (dk_at dksX5_inherits_3 22 rfl rfl)
theorem dX5_inherits_94 : decode cX5_inherits 94 = .ok (.iload_n 1, 1) := dk_27 (dk_at dksX5_inherits_3 23 rfl rfl)
theorem dX5_inherits_95 : decode cX5_inherits 95 = .ok (.ishl, 1) := dk_120 (dk_at dksX5_inherits_4 0 rfl rfl)
theorem dX5_inherits_96 : decode cX5_inherits 96 = .ok (.invokevirtual 266, 3) := dk_182 1 10 (dk_at dksX5_inherits_4 1 rfl rfl)
theorem dX5_inherits_99 : decode cX5_inherits 99 = .ok (.goto 56, 3) := dk_167 0 56 (dk_at dksX5_inherits_4 4 rfl rfl)
theorem dX5_inherits_102 : decode cX5_inherits 102 = .ok (.iload 6, 2) := dk_21 6 (dk_at dksX5_inherits_4 7 rfl rfl)
theorem dX5_inherits_104 : decode cX5_inherits 104 = .ok (.iconst 1, 1) := dk_4 (dk_at dksX5_inherits_4 9 rfl rfl)
theorem dX5_inherits_105 : decode cX5_inherits 105 = .ok (.if_icmp .ne 13, 3) := dk_160 0 13 (dk_at dksX5_inherits_4 10 rfl rfl)
theorem dX5_inherits_108 : decode cX5_inherits 108 = .ok (.iload 4, 2) := dk_21 4 (dk_at dksX5_inherits_4 13 rfl rfl)
theorem dX5_inherits_110 : decode cX5_inherits 110 = .ok (.aload_n 0, 1) := dk_42 (dk_at dksX5_inherits_4 15 rfl rfl)
theorem dX5_inherits_111 : decode cX5_inherits 111 = .ok (.invokevirtual 272, 3) := dk_182 1 16 (dk_at dksX5_inherits_4 16 rfl rfl)
theorem dX5_inherits_114 : decode cX5_inherits 114 = .ok (.iand, 1) := dk_126 (dk_at dksX5_inherits_4 19 rfl rfl)
theorem dX5_inherits_115 : decode cX5_inherits 115 = .ok (.goto 40, 3) := dk_167 0 40 (dk_at dksX5_inherits_4 20 rfl rfl)
theorem dX5_inherits_118 : decode cX5_inherits 118 = .ok (.iload 6, 2) := dk_21 6 (dk_at dksX5_inherits_5 0 rfl rfl)
theorem dX5_inherits_120 : decode cX5_inherits 120 = .ok (.iconst 2, 1) := dk_5 (dk_at dksX5_inherits_5 2 rfl rfl)
theorem dX5_inherits_121 : decode cX5_inherits 121 = .ok (.if_icmp .ne 12, 3) := dk_160 0 12 (dk_at dksX5_inherits_5 3 rfl rfl)
theorem dX5_inherits_124 : decode cX5_inherits 124 = .ok (.aload_n 0, 1) := dk_42 (dk_at dksX5_inherits_5 6 rfl rfl)
theorem dX5_inherits_125 : decode cX5_inherits 125 = .ok (.iload 4, 2) := dk_21 4 (dk_at dksX5_inherits_5 7 rfl rfl)
theorem dX5_inherits_127 : decode cX5_inherits 127 = .ok (.invokevirtual 266, 3) := dk_182 1 10 (dk_at dksX5_inherits_5 9 rfl rfl)
theorem dX5_inherits_130 : decode cX5_inherits 130 = .ok (.goto 25, 3) := dk_167 0 25 (dk_at dksX5_inherits_5 12 rfl rfl)
theorem dX5_inherits_133 : decode cX5_inherits 133 = .ok (.iload 6, 2) := dk_21 6 (dk_at dksX5_inherits_5 15 rfl rfl)
theorem dX5_inherits_135 : decode cX5_inherits 135 = .ok (.iconst 3, 1) := dk_6 (dk_at dksX5_inherits_5 17 rfl rfl)
theorem dX5_inherits_136 : decode cX5_inherits 136 = .ok (.if_icmp .ne 13, 3) := dk_160 0 13 (dk_at dksX5_inherits_5 18 rfl rfl)
theorem dX5_inherits_139 : decode cX5_inherits 139 = .ok (.iload 5, 2) := dk_21 5 (dk_at dksX5_inherits_5 21 rfl rfl)
theorem dX5_inherits_141 : decode cX5_inherits 141 = .ok (.aload_n 0, 1) := dk_42 (dk_at dksX5_inherits_5 23 rfl rfl)
theorem dX5_inherits_142 : decode cX5_inherits 142 = .ok (.invokevirtual 272, 3) := dk_182 1 16 (dk_at dksX5_inherits_6 0 rfl rfl)
theorem dX5_inherits_145 : decode cX5_inherits 145 = .ok (.iand, 1) := dk_126 (dk_at dksX5_inherits_6 3 rfl rfl)
theorem dX5_inherits_146 : decode cX5_inherits 146 = .ok (.goto 9, 3) := dk_167 0 9 (dk_at dksX5_inherits_6 4 rfl rfl)
theorem dX5_inherits_149 : decode cX5_inherits 149 = .ok (.aload_n 0, 1) := dk_42 (dk_at dksX5_inherits_6 7 rfl rfl)
theorem dX5_inherits_150 : decode cX5_inherits 150 = .ok (.iload 5, 2) := dk_21 5 (dk_at dksX5_inherits_6 8 rfl rfl)
theorem dX5_inherits_152 : decode cX5_inherits 152 = .ok (.invokevirtual 266, 3) := dk_182 1 10 (dk_at dksX5_inherits_6 10 rfl rfl)
theorem dX5_inherits_155 : decode cX5_inherits 155 = .ok (.istore 7, 2) := dk_54 7 (dk_at dksX5_inherits_6 13 rfl rfl)
theorem dX5_inherits_157 : decode cX5_inherits 157 = .ok (.aload_n 0, 1) := dk_42 (dk_at dksX5_inherits_6 15 rfl rfl)
theorem dX5_inherits_158 : decode cX5_inherits 158 = .ok (.iload 7, 2) := dk_21 7 (dk_at dksX5_inherits_6 16 rfl rfl)
theorem dX5_inherits_160 : decode cX5_inherits 160 = .ok (.invokevirtual 307, 3) := dk_182 1 51 (dk_at dksX5_inherits_6 18 rfl rfl)
theorem dX5_inherits_163 : decode cX5_inherits 163 = .ok (.ifCond .ne 6, 3) := dk_154 0 6 (dk_at dksX5_inherits_6 21 rfl rfl)
theorem dX5_inherits_166 : decode cX5_inherits 166 = .ok (.goto 11, 3) := dk_167 0 11 (dk_at dksX5_inherits_7 0 rfl rfl)
theorem dX5_inherits_169 : decode cX5_inherits 169 = .ok (.aload_n 0, 1) := dk_42 (dk_at dksX5_inherits_7 3 rfl rfl)
theorem dX5_inherits_170 : decode cX5_inherits 170 = .ok (.iload 7, 2) := dk_21 7 (dk_at dksX5_inherits_7 4 rfl rfl)
theorem dX5_inherits_172 : decode cX5_inherits 172 = .ok (.iload_n 3, 1) := dk_29 (dk_at dksX5_inherits_7 6 rfl rfl)
theorem dX5_inherits_173 : decode cX5_inherits 173 = .ok (.invokevirtual 326, 3) := dk_182 1 70 (dk_at dksX5_inherits_7 7 rfl rfl)
theorem dX5_inherits_176 : decode cX5_inherits 176 = .ok (.return_, 1) := dk_177 (dk_at dksX5_inherits_7 10 rfl rfl)
theorem dX5_inherits_177 : decode cX5_inherits 177 = .ok (.iinc 6 1, 3) := dk_132 6 1 (dk_at dksX5_inherits_7 11 rfl rfl)
theorem dX5_inherits_180 : decode cX5_inherits 180 = .ok (.goto (-99), 3) := dk_167 255 157 (dk_at dksX5_inherits_7 14 rfl rfl)
theorem dX5_inherits_183 : decode cX5_inherits 183 = .ok (.aload_n 0, 1) := dk_42 (dk_at dksX5_inherits_7 17 rfl rfl)
theorem dX5_inherits_184 : decode cX5_inherits 184 = .ok (.getfield 33, 3) := dk_180 0 33 (dk_at dksX5_inherits_7 18 rfl rfl)
theorem dX5_inherits_187 : decode cX5_inherits 187 = .ok (.bipush 102, 2) := dk_16 102 (dk_at dksX5_inherits_7 21 rfl rfl)
theorem dX5_inherits_189 : decode cX5_inherits 189 = .ok (.dup2, 1) := dk_92 (dk_at dksX5_inherits_7 23 rfl rfl)
theorem dX5_inherits_190 : decode cX5_inherits 190 = .ok (.iaload, 1) := dk_46 (dk_at dksX5_inherits_8 0 rfl rfl)
theorem dX5_inherits_191 : decode cX5_inherits 191 = .ok (.iload_n 3, 1) := dk_29 (dk_at dksX5_inherits_8 1 rfl rfl)
theorem dX5_inherits_192 : decode cX5_inherits 192 = .ok (.iadd, 1) := dk_96 (dk_at dksX5_inherits_8 2 rfl rfl)
theorem dX5_inherits_193 : decode cX5_inherits 193 = .ok (.iastore, 1) := dk_79 (dk_at dksX5_inherits_8 3 rfl rfl)
theorem dX5_inherits_194 : decode cX5_inherits 194 = .ok (.return_, 1) := dk_177 (dk_at dksX5_inherits_8 4 rfl rfl)
abbrev cX5_shares : ByteArray := prog_29_method_54_code
def yX5_shares : MethodName := ⟨RX5, "shares", "(II)V"⟩
def dkwX5_shares_2 : List UInt8 := [180, 1, 44, 46, 182, 1, 54, 167, 255, 213, 177]
abbrev dktX5_shares_2 : List UInt8 := dkwX5_shares_2 ++ []
def dkwX5_shares_1 : List UInt8 := [100, 181, 1, 44, 42, 42, 42, 180, 0, 50, 42, 180, 1, 44, 46, 182, 1, 51, 42, 180, 0, 53, 42]
abbrev dktX5_shares_1 : List UInt8 := dkwX5_shares_1 ++ dktX5_shares_2
def dkwX5_shares_0 : List UInt8 := [42, 3, 181, 1, 44, 42, 27, 28, 182, 1, 47, 42, 180, 1, 44, 158, 0, 42, 42, 89, 180, 1, 44, 4]
abbrev dktX5_shares_0 : List UInt8 := dkwX5_shares_0 ++ dktX5_shares_1
theorem dksX5_shares_0 : cX5_shares.data.toList.drop 0 = dktX5_shares_0 := by decide +kernel
theorem dksX5_shares_1 : cX5_shares.data.toList.drop 24 = dktX5_shares_1 := dk_seg dksX5_shares_0 24 rfl rfl
theorem dksX5_shares_2 : cX5_shares.data.toList.drop 47 = dktX5_shares_2 := dk_seg dksX5_shares_1 23 rfl rfl
theorem dX5_shares_0 : decode cX5_shares 0 = .ok (.aload_n 0, 1) := dk_42 (dk_at dksX5_shares_0 0 rfl rfl)
theorem dX5_shares_1 : decode cX5_shares 1 = .ok (.iconst 0, 1) := dk_3 (dk_at dksX5_shares_0 1 rfl rfl)
theorem dX5_shares_2 : decode cX5_shares 2 = .ok (.putfield 300, 3) := dk_181 1 44 (dk_at dksX5_shares_0 2 rfl rfl)
theorem dX5_shares_5 : decode cX5_shares 5 = .ok (.aload_n 0, 1) := dk_42 (dk_at dksX5_shares_0 5 rfl rfl)
theorem dX5_shares_6 : decode cX5_shares 6 = .ok (.iload_n 1, 1) := dk_27 (dk_at dksX5_shares_0 6 rfl rfl)
theorem dX5_shares_7 : decode cX5_shares 7 = .ok (.iload_n 2, 1) := dk_28 (dk_at dksX5_shares_0 7 rfl rfl)
theorem dX5_shares_8 : decode cX5_shares 8 = .ok (.invokevirtual 303, 3) := dk_182 1 47 (dk_at dksX5_shares_0 8 rfl rfl)
theorem dX5_shares_11 : decode cX5_shares 11 = .ok (.aload_n 0, 1) := dk_42 (dk_at dksX5_shares_0 11 rfl rfl)
theorem dX5_shares_12 : decode cX5_shares 12 = .ok (.getfield 300, 3) := dk_180 1 44 (dk_at dksX5_shares_0 12 rfl rfl)
theorem dX5_shares_15 : decode cX5_shares 15 = .ok (.ifCond .le 42, 3) := dk_158 0 42 (dk_at dksX5_shares_0 15 rfl rfl)
theorem dX5_shares_18 : decode cX5_shares 18 = .ok (.aload_n 0, 1) := dk_42 (dk_at dksX5_shares_0 18 rfl rfl)
theorem dX5_shares_19 : decode cX5_shares 19 = .ok (.dup, 1) := dk_89 (dk_at dksX5_shares_0 19 rfl rfl)
theorem dX5_shares_20 : decode cX5_shares 20 = .ok (.getfield 300, 3) := dk_180 1 44 (dk_at dksX5_shares_0 20 rfl rfl)
theorem dX5_shares_23 : decode cX5_shares 23 = .ok (.iconst 1, 1) := dk_4 (dk_at dksX5_shares_0 23 rfl rfl)
theorem dX5_shares_24 : decode cX5_shares 24 = .ok (.isub, 1) := dk_100 (dk_at dksX5_shares_1 0 rfl rfl)
theorem dX5_shares_25 : decode cX5_shares 25 = .ok (.putfield 300, 3) := dk_181 1 44 (dk_at dksX5_shares_1 1 rfl rfl)
theorem dX5_shares_28 : decode cX5_shares 28 = .ok (.aload_n 0, 1) := dk_42 (dk_at dksX5_shares_1 4 rfl rfl)
theorem dX5_shares_29 : decode cX5_shares 29 = .ok (.aload_n 0, 1) := dk_42 (dk_at dksX5_shares_1 5 rfl rfl)
theorem dX5_shares_30 : decode cX5_shares 30 = .ok (.aload_n 0, 1) := dk_42 (dk_at dksX5_shares_1 6 rfl rfl)
theorem dX5_shares_31 : decode cX5_shares 31 = .ok (.getfield 50, 3) := dk_180 0 50 (dk_at dksX5_shares_1 7 rfl rfl)
theorem dX5_shares_34 : decode cX5_shares 34 = .ok (.aload_n 0, 1) := dk_42 (dk_at dksX5_shares_1 10 rfl rfl)
theorem dX5_shares_35 : decode cX5_shares 35 = .ok (.getfield 300, 3) := dk_180 1 44 (dk_at dksX5_shares_1 11 rfl rfl)
theorem dX5_shares_38 : decode cX5_shares 38 = .ok (.iaload, 1) := dk_46 (dk_at dksX5_shares_1 14 rfl rfl)
theorem dX5_shares_39 : decode cX5_shares 39 = .ok (.invokevirtual 307, 3) := dk_182 1 51 (dk_at dksX5_shares_1 15 rfl rfl)
theorem dX5_shares_42 : decode cX5_shares 42 = .ok (.aload_n 0, 1) := dk_42 (dk_at dksX5_shares_1 18 rfl rfl)
theorem dX5_shares_43 : decode cX5_shares 43 = .ok (.getfield 53, 3) := dk_180 0 53 (dk_at dksX5_shares_1 19 rfl rfl)
theorem dX5_shares_46 : decode cX5_shares 46 = .ok (.aload_n 0, 1) := dk_42 (dk_at dksX5_shares_1 22 rfl rfl)
theorem dX5_shares_47 : decode cX5_shares 47 = .ok (.getfield 300, 3) := dk_180 1 44 (dk_at dksX5_shares_2 0 rfl rfl)
theorem dX5_shares_50 : decode cX5_shares 50 = .ok (.iaload, 1) := dk_46 (dk_at dksX5_shares_2 3 rfl rfl)
theorem dX5_shares_51 : decode cX5_shares 51 = .ok (.invokevirtual 310, 3) := dk_182 1 54 (dk_at dksX5_shares_2 4 rfl rfl)
theorem dX5_shares_54 : decode cX5_shares 54 = .ok (.goto (-43), 3) := dk_167 255 213 (dk_at dksX5_shares_2 7 rfl rfl)
theorem dX5_shares_57 : decode cX5_shares 57 = .ok (.return_, 1) := dk_177 (dk_at dksX5_shares_2 10 rfl rfl)
abbrev cX5_heaps : ByteArray := prog_29_method_53_code
def yX5_heaps : MethodName := ⟨RX5, "heaps", "(II)V"⟩
def dkwX5_heaps_1 : List UInt8 := [79, 42, 89, 180, 1, 44, 4, 96, 181, 1, 44, 177]
abbrev dktX5_heaps_1 : List UInt8 := dkwX5_heaps_1 ++ []
def dkwX5_heaps_0 : List UInt8 := [28, 154, 0, 4, 177, 42, 180, 0, 50, 42, 180, 1, 44, 27, 79, 42, 180, 0, 53, 42, 180, 1, 44, 28]
abbrev dktX5_heaps_0 : List UInt8 := dkwX5_heaps_0 ++ dktX5_heaps_1
theorem dksX5_heaps_0 : cX5_heaps.data.toList.drop 0 = dktX5_heaps_0 := by decide +kernel
theorem dksX5_heaps_1 : cX5_heaps.data.toList.drop 24 = dktX5_heaps_1 := dk_seg dksX5_heaps_0 24 rfl rfl
theorem dX5_heaps_0 : decode cX5_heaps 0 = .ok (.iload_n 2, 1) := dk_28 (dk_at dksX5_heaps_0 0 rfl rfl)
theorem dX5_heaps_1 : decode cX5_heaps 1 = .ok (.ifCond .ne 4, 3) := dk_154 0 4 (dk_at dksX5_heaps_0 1 rfl rfl)
theorem dX5_heaps_4 : decode cX5_heaps 4 = .ok (.return_, 1) := dk_177 (dk_at dksX5_heaps_0 4 rfl rfl)
theorem dX5_heaps_5 : decode cX5_heaps 5 = .ok (.aload_n 0, 1) := dk_42 (dk_at dksX5_heaps_0 5 rfl rfl)
theorem dX5_heaps_6 : decode cX5_heaps 6 = .ok (.getfield 50, 3) := dk_180 0 50 (dk_at dksX5_heaps_0 6 rfl rfl)
theorem dX5_heaps_9 : decode cX5_heaps 9 = .ok (.aload_n 0, 1) := dk_42 (dk_at dksX5_heaps_0 9 rfl rfl)
theorem dX5_heaps_10 : decode cX5_heaps 10 = .ok (.getfield 300, 3) := dk_180 1 44 (dk_at dksX5_heaps_0 10 rfl rfl)
theorem dX5_heaps_13 : decode cX5_heaps 13 = .ok (.iload_n 1, 1) := dk_27 (dk_at dksX5_heaps_0 13 rfl rfl)
theorem dX5_heaps_14 : decode cX5_heaps 14 = .ok (.iastore, 1) := dk_79 (dk_at dksX5_heaps_0 14 rfl rfl)
theorem dX5_heaps_15 : decode cX5_heaps 15 = .ok (.aload_n 0, 1) := dk_42 (dk_at dksX5_heaps_0 15 rfl rfl)
theorem dX5_heaps_16 : decode cX5_heaps 16 = .ok (.getfield 53, 3) := dk_180 0 53 (dk_at dksX5_heaps_0 16 rfl rfl)
theorem dX5_heaps_19 : decode cX5_heaps 19 = .ok (.aload_n 0, 1) := dk_42 (dk_at dksX5_heaps_0 19 rfl rfl)
theorem dX5_heaps_20 : decode cX5_heaps 20 = .ok (.getfield 300, 3) := dk_180 1 44 (dk_at dksX5_heaps_0 20 rfl rfl)
theorem dX5_heaps_23 : decode cX5_heaps 23 = .ok (.iload_n 2, 1) := dk_28 (dk_at dksX5_heaps_0 23 rfl rfl)
theorem dX5_heaps_24 : decode cX5_heaps 24 = .ok (.iastore, 1) := dk_79 (dk_at dksX5_heaps_1 0 rfl rfl)
theorem dX5_heaps_25 : decode cX5_heaps 25 = .ok (.aload_n 0, 1) := dk_42 (dk_at dksX5_heaps_1 1 rfl rfl)
theorem dX5_heaps_26 : decode cX5_heaps 26 = .ok (.dup, 1) := dk_89 (dk_at dksX5_heaps_1 2 rfl rfl)
theorem dX5_heaps_27 : decode cX5_heaps 27 = .ok (.getfield 300, 3) := dk_180 1 44 (dk_at dksX5_heaps_1 3 rfl rfl)
theorem dX5_heaps_30 : decode cX5_heaps 30 = .ok (.iconst 1, 1) := dk_4 (dk_at dksX5_heaps_1 6 rfl rfl)
theorem dX5_heaps_31 : decode cX5_heaps 31 = .ok (.iadd, 1) := dk_96 (dk_at dksX5_heaps_1 7 rfl rfl)
theorem dX5_heaps_32 : decode cX5_heaps 32 = .ok (.putfield 300, 3) := dk_181 1 44 (dk_at dksX5_heaps_1 8 rfl rfl)
theorem dX5_heaps_35 : decode cX5_heaps 35 = .ok (.return_, 1) := dk_177 (dk_at dksX5_heaps_1 11 rfl rfl)
abbrev cX5_stirpes : ByteArray := prog_29_method_45_code
def yX5_stirpes : MethodName := ⟨RX5, "stirpes", "(I)I"⟩
def dkwX5_stirpes_2 : List UInt8 := [132, 3, 1, 167, 255, 209, 28, 172]
abbrev dktX5_stirpes_2 : List UInt8 := dkwX5_stirpes_2 ++ []
def dkwX5_stirpes_1 : List UInt8 := [29, 182, 1, 19, 154, 0, 11, 42, 29, 182, 1, 22, 153, 0, 9, 4, 29, 120, 167, 0, 4, 3, 128, 61]
abbrev dktX5_stirpes_1 : List UInt8 := dkwX5_stirpes_1 ++ dktX5_stirpes_2
def dkwX5_stirpes_0 : List UInt8 := [3, 61, 3, 62, 29, 42, 180, 0, 33, 3, 46, 162, 0, 43, 28, 27, 29, 184, 0, 242, 153, 0, 25, 42]
abbrev dktX5_stirpes_0 : List UInt8 := dkwX5_stirpes_0 ++ dktX5_stirpes_1
theorem dksX5_stirpes_0 : cX5_stirpes.data.toList.drop 0 = dktX5_stirpes_0 := by decide +kernel
theorem dksX5_stirpes_1 : cX5_stirpes.data.toList.drop 24 = dktX5_stirpes_1 := dk_seg dksX5_stirpes_0 24 rfl rfl
theorem dksX5_stirpes_2 : cX5_stirpes.data.toList.drop 48 = dktX5_stirpes_2 := dk_seg dksX5_stirpes_1 24 rfl rfl
theorem dX5_stirpes_0 : decode cX5_stirpes 0 = .ok (.iconst 0, 1) := dk_3 (dk_at dksX5_stirpes_0 0 rfl rfl)
theorem dX5_stirpes_1 : decode cX5_stirpes 1 = .ok (.istore_n 2, 1) := dk_61 (dk_at dksX5_stirpes_0 1 rfl rfl)
theorem dX5_stirpes_2 : decode cX5_stirpes 2 = .ok (.iconst 0, 1) := dk_3 (dk_at dksX5_stirpes_0 2 rfl rfl)
theorem dX5_stirpes_3 : decode cX5_stirpes 3 = .ok (.istore_n 3, 1) := dk_62 (dk_at dksX5_stirpes_0 3 rfl rfl)
theorem dX5_stirpes_4 : decode cX5_stirpes 4 = .ok (.iload_n 3, 1) := dk_29 (dk_at dksX5_stirpes_0 4 rfl rfl)
theorem dX5_stirpes_5 : decode cX5_stirpes 5 = .ok (.aload_n 0, 1) := dk_42 (dk_at dksX5_stirpes_0 5 rfl rfl)
theorem dX5_stirpes_6 : decode cX5_stirpes 6 = .ok (.getfield 33, 3) := dk_180 0 33 (dk_at dksX5_stirpes_0 6 rfl rfl)
theorem dX5_stirpes_9 : decode cX5_stirpes 9 = .ok (.iconst 0, 1) := dk_3 (dk_at dksX5_stirpes_0 9 rfl rfl)
theorem dX5_stirpes_10 : decode cX5_stirpes 10 = .ok (.iaload, 1) := dk_46 (dk_at dksX5_stirpes_0 10 rfl rfl)
theorem dX5_stirpes_11 : decode cX5_stirpes 11 = .ok (.if_icmp .ge 43, 3) := dk_162 0 43 (dk_at dksX5_stirpes_0 11 rfl rfl)
theorem dX5_stirpes_14 : decode cX5_stirpes 14 = .ok (.iload_n 2, 1) := dk_28 (dk_at dksX5_stirpes_0 14 rfl rfl)
theorem dX5_stirpes_15 : decode cX5_stirpes 15 = .ok (.iload_n 1, 1) := dk_27 (dk_at dksX5_stirpes_0 15 rfl rfl)
theorem dX5_stirpes_16 : decode cX5_stirpes 16 = .ok (.iload_n 3, 1) := dk_29 (dk_at dksX5_stirpes_0 16 rfl rfl)
theorem dX5_stirpes_17 : decode cX5_stirpes 17 = .ok (.invokestatic 242, 3) := dk_184 0 242 (dk_at dksX5_stirpes_0 17 rfl rfl)
theorem dX5_stirpes_20 : decode cX5_stirpes 20 = .ok (.ifCond .eq 25, 3) := dk_153 0 25 (dk_at dksX5_stirpes_0 20 rfl rfl)
theorem dX5_stirpes_23 : decode cX5_stirpes 23 = .ok (.aload_n 0, 1) := dk_42 (dk_at dksX5_stirpes_0 23 rfl rfl)
theorem dX5_stirpes_24 : decode cX5_stirpes 24 = .ok (.iload_n 3, 1) := dk_29 (dk_at dksX5_stirpes_1 0 rfl rfl)
theorem dX5_stirpes_25 : decode cX5_stirpes 25 = .ok (.invokevirtual 275, 3) := dk_182 1 19 (dk_at dksX5_stirpes_1 1 rfl rfl)
theorem dX5_stirpes_28 : decode cX5_stirpes 28 = .ok (.ifCond .ne 11, 3) := dk_154 0 11 (dk_at dksX5_stirpes_1 4 rfl rfl)
theorem dX5_stirpes_31 : decode cX5_stirpes 31 = .ok (.aload_n 0, 1) := dk_42 (dk_at dksX5_stirpes_1 7 rfl rfl)
theorem dX5_stirpes_32 : decode cX5_stirpes 32 = .ok (.iload_n 3, 1) := dk_29 (dk_at dksX5_stirpes_1 8 rfl rfl)
theorem dX5_stirpes_33 : decode cX5_stirpes 33 = .ok (.invokevirtual 278, 3) := dk_182 1 22 (dk_at dksX5_stirpes_1 9 rfl rfl)
theorem dX5_stirpes_36 : decode cX5_stirpes 36 = .ok (.ifCond .eq 9, 3) := dk_153 0 9 (dk_at dksX5_stirpes_1 12 rfl rfl)
theorem dX5_stirpes_39 : decode cX5_stirpes 39 = .ok (.iconst 1, 1) := dk_4 (dk_at dksX5_stirpes_1 15 rfl rfl)
theorem dX5_stirpes_40 : decode cX5_stirpes 40 = .ok (.iload_n 3, 1) := dk_29 (dk_at dksX5_stirpes_1 16 rfl rfl)
theorem dX5_stirpes_41 : decode cX5_stirpes 41 = .ok (.ishl, 1) := dk_120 (dk_at dksX5_stirpes_1 17 rfl rfl)
theorem dX5_stirpes_42 : decode cX5_stirpes 42 = .ok (.goto 4, 3) := dk_167 0 4 (dk_at dksX5_stirpes_1 18 rfl rfl)
theorem dX5_stirpes_45 : decode cX5_stirpes 45 = .ok (.iconst 0, 1) := dk_3 (dk_at dksX5_stirpes_1 21 rfl rfl)
theorem dX5_stirpes_46 : decode cX5_stirpes 46 = .ok (.ior, 1) := dk_128 (dk_at dksX5_stirpes_1 22 rfl rfl)
theorem dX5_stirpes_47 : decode cX5_stirpes 47 = .ok (.istore_n 2, 1) := dk_61 (dk_at dksX5_stirpes_1 23 rfl rfl)
theorem dX5_stirpes_48 : decode cX5_stirpes 48 = .ok (.iinc 3 1, 3) := dk_132 3 1 (dk_at dksX5_stirpes_2 0 rfl rfl)
theorem dX5_stirpes_51 : decode cX5_stirpes 51 = .ok (.goto (-47), 3) := dk_167 255 209 (dk_at dksX5_stirpes_2 3 rfl rfl)
theorem dX5_stirpes_54 : decode cX5_stirpes 54 = .ok (.iload_n 2, 1) := dk_28 (dk_at dksX5_stirpes_2 6 rfl rfl)
theorem dX5_stirpes_55 : decode cX5_stirpes 55 = .ok (.ireturn, 1) := dk_172 (dk_at dksX5_stirpes_2 7 rfl rfl)
abbrev cX5_parts : ByteArray := prog_29_method_55_code
def yX5_parts : MethodName := ⟨RX5, "parts", "(II)V"⟩
def dkwX5_parts_4 : List UInt8 := [167, 0, 17, 42, 42, 4, 21, 6, 120, 182, 1, 10, 21, 7, 182, 1, 47, 132, 6, 1, 167, 255, 159, 177]
abbrev dktX5_parts_4 : List UInt8 := dkwX5_parts_4 ++ []
def dkwX5_parts_3 : List UInt8 := [21, 6, 182, 1, 19, 153, 0, 21, 42, 180, 0, 33, 16, 105, 21, 6, 96, 92, 46, 21, 7, 96, 79]
abbrev dktX5_parts_3 : List UInt8 := dkwX5_parts_3 ++ dktX5_parts_4
def dkwX5_parts_2 : List UInt8 := [4, 167, 0, 4, 3, 96, 54, 7, 21, 5, 21, 5, 158, 0, 7, 4, 167, 0, 4, 3, 100, 54, 5, 42]
abbrev dktX5_parts_2 : List UInt8 := dkwX5_parts_2 ++ dktX5_parts_3
def dkwX5_parts_1 : List UInt8 := [3, 46, 162, 0, 92, 27, 21, 6, 184, 0, 242, 154, 0, 6, 167, 0, 74, 21, 4, 21, 5, 158, 0, 7]
abbrev dktX5_parts_1 : List UInt8 := dkwX5_parts_1 ++ dktX5_parts_2
def dkwX5_parts_0 : List UInt8 := [27, 184, 0, 238, 62, 28, 29, 108, 54, 4, 28, 29, 112, 54, 5, 3, 54, 6, 21, 6, 42, 180, 0, 33]
abbrev dktX5_parts_0 : List UInt8 := dkwX5_parts_0 ++ dktX5_parts_1
theorem dksX5_parts_0 : cX5_parts.data.toList.drop 0 = dktX5_parts_0 := by decide +kernel
theorem dksX5_parts_1 : cX5_parts.data.toList.drop 24 = dktX5_parts_1 := dk_seg dksX5_parts_0 24 rfl rfl
theorem dksX5_parts_2 : cX5_parts.data.toList.drop 48 = dktX5_parts_2 := dk_seg dksX5_parts_1 24 rfl rfl
theorem dksX5_parts_3 : cX5_parts.data.toList.drop 72 = dktX5_parts_3 := dk_seg dksX5_parts_2 24 rfl rfl
theorem dksX5_parts_4 : cX5_parts.data.toList.drop 95 = dktX5_parts_4 := dk_seg dksX5_parts_3 23 rfl rfl
theorem dX5_parts_0 : decode cX5_parts 0 = .ok (.iload_n 1, 1) := dk_27 (dk_at dksX5_parts_0 0 rfl rfl)
theorem dX5_parts_1 : decode cX5_parts 1 = .ok (.invokestatic 238, 3) := dk_184 0 238 (dk_at dksX5_parts_0 1 rfl rfl)
theorem dX5_parts_4 : decode cX5_parts 4 = .ok (.istore_n 3, 1) := dk_62 (dk_at dksX5_parts_0 4 rfl rfl)
theorem dX5_parts_5 : decode cX5_parts 5 = .ok (.iload_n 2, 1) := dk_28 (dk_at dksX5_parts_0 5 rfl rfl)
theorem dX5_parts_6 : decode cX5_parts 6 = .ok (.iload_n 3, 1) := dk_29 (dk_at dksX5_parts_0 6 rfl rfl)
theorem dX5_parts_7 : decode cX5_parts 7 = .ok (.idiv, 1) := dk_108 (dk_at dksX5_parts_0 7 rfl rfl)
theorem dX5_parts_8 : decode cX5_parts 8 = .ok (.istore 4, 2) := dk_54 4 (dk_at dksX5_parts_0 8 rfl rfl)
theorem dX5_parts_10 : decode cX5_parts 10 = .ok (.iload_n 2, 1) := dk_28 (dk_at dksX5_parts_0 10 rfl rfl)
theorem dX5_parts_11 : decode cX5_parts 11 = .ok (.iload_n 3, 1) := dk_29 (dk_at dksX5_parts_0 11 rfl rfl)
theorem dX5_parts_12 : decode cX5_parts 12 = .ok (.irem, 1) := dk_112 (dk_at dksX5_parts_0 12 rfl rfl)
theorem dX5_parts_13 : decode cX5_parts 13 = .ok (.istore 5, 2) := dk_54 5 (dk_at dksX5_parts_0 13 rfl rfl)
theorem dX5_parts_15 : decode cX5_parts 15 = .ok (.iconst 0, 1) := dk_3 (dk_at dksX5_parts_0 15 rfl rfl)
theorem dX5_parts_16 : decode cX5_parts 16 = .ok (.istore 6, 2) := dk_54 6 (dk_at dksX5_parts_0 16 rfl rfl)
theorem dX5_parts_18 : decode cX5_parts 18 = .ok (.iload 6, 2) := dk_21 6 (dk_at dksX5_parts_0 18 rfl rfl)
theorem dX5_parts_20 : decode cX5_parts 20 = .ok (.aload_n 0, 1) := dk_42 (dk_at dksX5_parts_0 20 rfl rfl)
theorem dX5_parts_21 : decode cX5_parts 21 = .ok (.getfield 33, 3) := dk_180 0 33 (dk_at dksX5_parts_0 21 rfl rfl)
theorem dX5_parts_24 : decode cX5_parts 24 = .ok (.iconst 0, 1) := dk_3 (dk_at dksX5_parts_1 0 rfl rfl)
theorem dX5_parts_25 : decode cX5_parts 25 = .ok (.iaload, 1) := dk_46 (dk_at dksX5_parts_1 1 rfl rfl)
theorem dX5_parts_26 : decode cX5_parts 26 = .ok (.if_icmp .ge 92, 3) := dk_162 0 92 (dk_at dksX5_parts_1 2 rfl rfl)
theorem dX5_parts_29 : decode cX5_parts 29 = .ok (.iload_n 1, 1) := dk_27 (dk_at dksX5_parts_1 5 rfl rfl)
theorem dX5_parts_30 : decode cX5_parts 30 = .ok (.iload 6, 2) := dk_21 6 (dk_at dksX5_parts_1 6 rfl rfl)
theorem dX5_parts_32 : decode cX5_parts 32 = .ok (.invokestatic 242, 3) := dk_184 0 242 (dk_at dksX5_parts_1 8 rfl rfl)
theorem dX5_parts_35 : decode cX5_parts 35 = .ok (.ifCond .ne 6, 3) := dk_154 0 6 (dk_at dksX5_parts_1 11 rfl rfl)
theorem dX5_parts_38 : decode cX5_parts 38 = .ok (.goto 74, 3) := dk_167 0 74 (dk_at dksX5_parts_1 14 rfl rfl)
theorem dX5_parts_41 : decode cX5_parts 41 = .ok (.iload 4, 2) := dk_21 4 (dk_at dksX5_parts_1 17 rfl rfl)
theorem dX5_parts_43 : decode cX5_parts 43 = .ok (.iload 5, 2) := dk_21 5 (dk_at dksX5_parts_1 19 rfl rfl)
theorem dX5_parts_45 : decode cX5_parts 45 = .ok (.ifCond .le 7, 3) := dk_158 0 7 (dk_at dksX5_parts_1 21 rfl rfl)
theorem dX5_parts_48 : decode cX5_parts 48 = .ok (.iconst 1, 1) := dk_4 (dk_at dksX5_parts_2 0 rfl rfl)
theorem dX5_parts_49 : decode cX5_parts 49 = .ok (.goto 4, 3) := dk_167 0 4 (dk_at dksX5_parts_2 1 rfl rfl)
theorem dX5_parts_52 : decode cX5_parts 52 = .ok (.iconst 0, 1) := dk_3 (dk_at dksX5_parts_2 4 rfl rfl)
theorem dX5_parts_53 : decode cX5_parts 53 = .ok (.iadd, 1) := dk_96 (dk_at dksX5_parts_2 5 rfl rfl)
theorem dX5_parts_54 : decode cX5_parts 54 = .ok (.istore 7, 2) := dk_54 7 (dk_at dksX5_parts_2 6 rfl rfl)
theorem dX5_parts_56 : decode cX5_parts 56 = .ok (.iload 5, 2) := dk_21 5 (dk_at dksX5_parts_2 8 rfl rfl)
theorem dX5_parts_58 : decode cX5_parts 58 = .ok (.iload 5, 2) := dk_21 5 (dk_at dksX5_parts_2 10 rfl rfl)
theorem dX5_parts_60 : decode cX5_parts 60 = .ok (.ifCond .le 7, 3) := dk_158 0 7 (dk_at dksX5_parts_2 12 rfl rfl)
theorem dX5_parts_63 : decode cX5_parts 63 = .ok (.iconst 1, 1) := dk_4 (dk_at dksX5_parts_2 15 rfl rfl)
theorem dX5_parts_64 : decode cX5_parts 64 = .ok (.goto 4, 3) := dk_167 0 4 (dk_at dksX5_parts_2 16 rfl rfl)
theorem dX5_parts_67 : decode cX5_parts 67 = .ok (.iconst 0, 1) := dk_3 (dk_at dksX5_parts_2 19 rfl rfl)
theorem dX5_parts_68 : decode cX5_parts 68 = .ok (.isub, 1) := dk_100 (dk_at dksX5_parts_2 20 rfl rfl)
theorem dX5_parts_69 : decode cX5_parts 69 = .ok (.istore 5, 2) := dk_54 5 (dk_at dksX5_parts_2 21 rfl rfl)
theorem dX5_parts_71 : decode cX5_parts 71 = .ok (.aload_n 0, 1) := dk_42 (dk_at dksX5_parts_2 23 rfl rfl)
theorem dX5_parts_72 : decode cX5_parts 72 = .ok (.iload 6, 2) := dk_21 6 (dk_at dksX5_parts_3 0 rfl rfl)
theorem dX5_parts_74 : decode cX5_parts 74 = .ok (.invokevirtual 275, 3) := dk_182 1 19 (dk_at dksX5_parts_3 2 rfl rfl)
theorem dX5_parts_77 : decode cX5_parts 77 = .ok (.ifCond .eq 21, 3) := dk_153 0 21 (dk_at dksX5_parts_3 5 rfl rfl)
theorem dX5_parts_80 : decode cX5_parts 80 = .ok (.aload_n 0, 1) := dk_42 (dk_at dksX5_parts_3 8 rfl rfl)
theorem dX5_parts_81 : decode cX5_parts 81 = .ok (.getfield 33, 3) := dk_180 0 33 (dk_at dksX5_parts_3 9 rfl rfl)
theorem dX5_parts_84 : decode cX5_parts 84 = .ok (.bipush 105, 2) := dk_16 105 (dk_at dksX5_parts_3 12 rfl rfl)
theorem dX5_parts_86 : decode cX5_parts 86 = .ok (.iload 6, 2) := dk_21 6 (dk_at dksX5_parts_3 14 rfl rfl)
theorem dX5_parts_88 : decode cX5_parts 88 = .ok (.iadd, 1) := dk_96 (dk_at dksX5_parts_3 16 rfl rfl)
theorem dX5_parts_89 : decode cX5_parts 89 = .ok (.dup2, 1) := dk_92 (dk_at dksX5_parts_3 17 rfl rfl)
theorem dX5_parts_90 : decode cX5_parts 90 = .ok (.iaload, 1) := dk_46 (dk_at dksX5_parts_3 18 rfl rfl)
theorem dX5_parts_91 : decode cX5_parts 91 = .ok (.iload 7, 2) := dk_21 7 (dk_at dksX5_parts_3 19 rfl rfl)
theorem dX5_parts_93 : decode cX5_parts 93 = .ok (.iadd, 1) := dk_96 (dk_at dksX5_parts_3 21 rfl rfl)
theorem dX5_parts_94 : decode cX5_parts 94 = .ok (.iastore, 1) := dk_79 (dk_at dksX5_parts_3 22 rfl rfl)
theorem dX5_parts_95 : decode cX5_parts 95 = .ok (.goto 17, 3) := dk_167 0 17 (dk_at dksX5_parts_4 0 rfl rfl)
theorem dX5_parts_98 : decode cX5_parts 98 = .ok (.aload_n 0, 1) := dk_42 (dk_at dksX5_parts_4 3 rfl rfl)
theorem dX5_parts_99 : decode cX5_parts 99 = .ok (.aload_n 0, 1) := dk_42 (dk_at dksX5_parts_4 4 rfl rfl)
theorem dX5_parts_100 : decode cX5_parts 100 = .ok (.iconst 1, 1) := dk_4 (dk_at dksX5_parts_4 5 rfl rfl)
theorem dX5_parts_101 : decode cX5_parts 101 = .ok (.iload 6, 2) := dk_21 6 (dk_at dksX5_parts_4 6 rfl rfl)
theorem dX5_parts_103 : decode cX5_parts 103 = .ok (.ishl, 1) := dk_120 (dk_at dksX5_parts_4 8 rfl rfl)
theorem dX5_parts_104 : decode cX5_parts 104 = .ok (.invokevirtual 266, 3) := dk_182 1 10 (dk_at dksX5_parts_4 9 rfl rfl)
theorem dX5_parts_107 : decode cX5_parts 107 = .ok (.iload 7, 2) := dk_21 7 (dk_at dksX5_parts_4 12 rfl rfl)
theorem dX5_parts_109 : decode cX5_parts 109 = .ok (.invokevirtual 303, 3) := dk_182 1 47 (dk_at dksX5_parts_4 14 rfl rfl)
theorem dX5_parts_112 : decode cX5_parts 112 = .ok (.iinc 6 1, 3) := dk_132 6 1 (dk_at dksX5_parts_4 17 rfl rfl)
theorem dX5_parts_115 : decode cX5_parts 115 = .ok (.goto (-97), 3) := dk_167 255 159 (dk_at dksX5_parts_4 20 rfl rfl)
theorem dX5_parts_118 : decode cX5_parts 118 = .ok (.return_, 1) := dk_177 (dk_at dksX5_parts_4 23 rfl rfl)
abbrev cX5_wed : ByteArray := prog_29_method_70_code
def yX5_wed : MethodName := ⟨RX5, "wed", "(II)I"⟩
def dkwX5_wed_1 : List UInt8 := [158, 0, 5, 29, 172, 42, 182, 1, 79, 42, 27, 28, 182, 1, 88, 3, 172]
abbrev dktX5_wed_1 : List UInt8 := dkwX5_wed_1 ++ []
def dkwX5_wed_0 : List UInt8 := [42, 3, 181, 0, 1, 42, 27, 28, 182, 1, 82, 154, 0, 5, 2, 172, 42, 27, 28, 182, 1, 85, 62, 29]
abbrev dktX5_wed_0 : List UInt8 := dkwX5_wed_0 ++ dktX5_wed_1
theorem dksX5_wed_0 : cX5_wed.data.toList.drop 0 = dktX5_wed_0 := by decide +kernel
theorem dksX5_wed_1 : cX5_wed.data.toList.drop 24 = dktX5_wed_1 := dk_seg dksX5_wed_0 24 rfl rfl
theorem dX5_wed_0 : decode cX5_wed 0 = .ok (.aload_n 0, 1) := dk_42 (dk_at dksX5_wed_0 0 rfl rfl)
theorem dX5_wed_1 : decode cX5_wed 1 = .ok (.iconst 0, 1) := dk_3 (dk_at dksX5_wed_0 1 rfl rfl)
theorem dX5_wed_2 : decode cX5_wed 2 = .ok (.putfield 1, 3) := dk_181 0 1 (dk_at dksX5_wed_0 2 rfl rfl)
theorem dX5_wed_5 : decode cX5_wed 5 = .ok (.aload_n 0, 1) := dk_42 (dk_at dksX5_wed_0 5 rfl rfl)
theorem dX5_wed_6 : decode cX5_wed 6 = .ok (.iload_n 1, 1) := dk_27 (dk_at dksX5_wed_0 6 rfl rfl)
theorem dX5_wed_7 : decode cX5_wed 7 = .ok (.iload_n 2, 1) := dk_28 (dk_at dksX5_wed_0 7 rfl rfl)
theorem dX5_wed_8 : decode cX5_wed 8 = .ok (.invokevirtual 338, 3) := dk_182 1 82 (dk_at dksX5_wed_0 8 rfl rfl)
theorem dX5_wed_11 : decode cX5_wed 11 = .ok (.ifCond .ne 5, 3) := dk_154 0 5 (dk_at dksX5_wed_0 11 rfl rfl)
theorem dX5_wed_14 : decode cX5_wed 14 = .ok (.iconst (-1), 1) := dk_2 (dk_at dksX5_wed_0 14 rfl rfl)
theorem dX5_wed_15 : decode cX5_wed 15 = .ok (.ireturn, 1) := dk_172 (dk_at dksX5_wed_0 15 rfl rfl)
theorem dX5_wed_16 : decode cX5_wed 16 = .ok (.aload_n 0, 1) := dk_42 (dk_at dksX5_wed_0 16 rfl rfl)
theorem dX5_wed_17 : decode cX5_wed 17 = .ok (.iload_n 1, 1) := dk_27 (dk_at dksX5_wed_0 17 rfl rfl)
theorem dX5_wed_18 : decode cX5_wed 18 = .ok (.iload_n 2, 1) := dk_28 (dk_at dksX5_wed_0 18 rfl rfl)
theorem dX5_wed_19 : decode cX5_wed 19 = .ok (.invokevirtual 341, 3) := dk_182 1 85 (dk_at dksX5_wed_0 19 rfl rfl)
theorem dX5_wed_22 : decode cX5_wed 22 = .ok (.istore_n 3, 1) := dk_62 (dk_at dksX5_wed_0 22 rfl rfl)
theorem dX5_wed_23 : decode cX5_wed 23 = .ok (.iload_n 3, 1) := dk_29 (dk_at dksX5_wed_0 23 rfl rfl)
theorem dX5_wed_24 : decode cX5_wed 24 = .ok (.ifCond .le 5, 3) := dk_158 0 5 (dk_at dksX5_wed_1 0 rfl rfl)
theorem dX5_wed_27 : decode cX5_wed 27 = .ok (.iload_n 3, 1) := dk_29 (dk_at dksX5_wed_1 3 rfl rfl)
theorem dX5_wed_28 : decode cX5_wed 28 = .ok (.ireturn, 1) := dk_172 (dk_at dksX5_wed_1 4 rfl rfl)
theorem dX5_wed_29 : decode cX5_wed 29 = .ok (.aload_n 0, 1) := dk_42 (dk_at dksX5_wed_1 5 rfl rfl)
theorem dX5_wed_30 : decode cX5_wed 30 = .ok (.invokevirtual 335, 3) := dk_182 1 79 (dk_at dksX5_wed_1 6 rfl rfl)
theorem dX5_wed_33 : decode cX5_wed 33 = .ok (.aload_n 0, 1) := dk_42 (dk_at dksX5_wed_1 9 rfl rfl)
theorem dX5_wed_34 : decode cX5_wed 34 = .ok (.iload_n 1, 1) := dk_27 (dk_at dksX5_wed_1 10 rfl rfl)
theorem dX5_wed_35 : decode cX5_wed 35 = .ok (.iload_n 2, 1) := dk_28 (dk_at dksX5_wed_1 11 rfl rfl)
theorem dX5_wed_36 : decode cX5_wed 36 = .ok (.invokevirtual 344, 3) := dk_182 1 88 (dk_at dksX5_wed_1 12 rfl rfl)
theorem dX5_wed_39 : decode cX5_wed 39 = .ok (.iconst 0, 1) := dk_3 (dk_at dksX5_wed_1 15 rfl rfl)
theorem dX5_wed_40 : decode cX5_wed 40 = .ok (.ireturn, 1) := dk_172 (dk_at dksX5_wed_1 16 rfl rfl)
abbrev cX5_areTwo : ByteArray := prog_29_method_69_code
def yX5_areTwo : MethodName := ⟨RX5, "areTwo", "(II)Z"⟩
def dkwX5_areTwo_1 : List UInt8 := [167, 0, 4, 3, 172]
abbrev dktX5_areTwo_1 : List UInt8 := dkwX5_areTwo_1 ++ []
def dkwX5_areTwo_0 : List UInt8 := [42, 27, 182, 1, 28, 153, 0, 20, 42, 28, 182, 1, 28, 153, 0, 12, 27, 28, 159, 0, 7, 4]
abbrev dktX5_areTwo_0 : List UInt8 := dkwX5_areTwo_0 ++ dktX5_areTwo_1
theorem dksX5_areTwo_0 : cX5_areTwo.data.toList.drop 0 = dktX5_areTwo_0 := by decide +kernel
theorem dksX5_areTwo_1 : cX5_areTwo.data.toList.drop 22 = dktX5_areTwo_1 := dk_seg dksX5_areTwo_0 22 rfl rfl
theorem dX5_areTwo_0 : decode cX5_areTwo 0 = .ok (.aload_n 0, 1) := dk_42 (dk_at dksX5_areTwo_0 0 rfl rfl)
theorem dX5_areTwo_1 : decode cX5_areTwo 1 = .ok (.iload_n 1, 1) := dk_27 (dk_at dksX5_areTwo_0 1 rfl rfl)
theorem dX5_areTwo_2 : decode cX5_areTwo 2 = .ok (.invokevirtual 284, 3) := dk_182 1 28 (dk_at dksX5_areTwo_0 2 rfl rfl)
theorem dX5_areTwo_5 : decode cX5_areTwo 5 = .ok (.ifCond .eq 20, 3) := dk_153 0 20 (dk_at dksX5_areTwo_0 5 rfl rfl)
theorem dX5_areTwo_8 : decode cX5_areTwo 8 = .ok (.aload_n 0, 1) := dk_42 (dk_at dksX5_areTwo_0 8 rfl rfl)
theorem dX5_areTwo_9 : decode cX5_areTwo 9 = .ok (.iload_n 2, 1) := dk_28 (dk_at dksX5_areTwo_0 9 rfl rfl)
theorem dX5_areTwo_10 : decode cX5_areTwo 10 = .ok (.invokevirtual 284, 3) := dk_182 1 28 (dk_at dksX5_areTwo_0 10 rfl rfl)
theorem dX5_areTwo_13 : decode cX5_areTwo 13 = .ok (.ifCond .eq 12, 3) := dk_153 0 12 (dk_at dksX5_areTwo_0 13 rfl rfl)
theorem dX5_areTwo_16 : decode cX5_areTwo 16 = .ok (.iload_n 1, 1) := dk_27 (dk_at dksX5_areTwo_0 16 rfl rfl)
theorem dX5_areTwo_17 : decode cX5_areTwo 17 = .ok (.iload_n 2, 1) := dk_28 (dk_at dksX5_areTwo_0 17 rfl rfl)
theorem dX5_areTwo_18 : decode cX5_areTwo 18 = .ok (.if_icmp .eq 7, 3) := dk_159 0 7 (dk_at dksX5_areTwo_0 18 rfl rfl)
theorem dX5_areTwo_21 : decode cX5_areTwo 21 = .ok (.iconst 1, 1) := dk_4 (dk_at dksX5_areTwo_0 21 rfl rfl)
theorem dX5_areTwo_22 : decode cX5_areTwo 22 = .ok (.goto 4, 3) := dk_167 0 4 (dk_at dksX5_areTwo_1 0 rfl rfl)
theorem dX5_areTwo_25 : decode cX5_areTwo 25 = .ok (.iconst 0, 1) := dk_3 (dk_at dksX5_areTwo_1 3 rfl rfl)
theorem dX5_areTwo_26 : decode cX5_areTwo 26 = .ok (.ireturn, 1) := dk_172 (dk_at dksX5_areTwo_1 4 rfl rfl)
abbrev cX5_whyWed : ByteArray := prog_29_method_60_code
def yX5_whyWed : MethodName := ⟨RX5, "whyWed", "(II)I"⟩
def dkwX5_whyWed_2 : List UInt8 := [182, 1, 38, 3, 5, 184, 0, 190, 153, 0, 7, 6, 167, 0, 4, 3, 172]
abbrev dktX5_whyWed_2 : List UInt8 := dkwX5_whyWed_2 ++ []
def dkwX5_whyWed_1 : List UInt8 := [27, 96, 46, 157, 0, 15, 42, 180, 0, 33, 16, 117, 28, 96, 46, 158, 0, 5, 5, 172, 42, 27, 28]
abbrev dktX5_whyWed_1 : List UInt8 := dkwX5_whyWed_1 ++ dktX5_whyWed_2
def dkwX5_whyWed_0 : List UInt8 := [42, 27, 182, 1, 19, 153, 0, 11, 42, 28, 182, 1, 19, 154, 0, 5, 4, 172, 42, 180, 0, 33, 16, 117]
abbrev dktX5_whyWed_0 : List UInt8 := dkwX5_whyWed_0 ++ dktX5_whyWed_1
theorem dksX5_whyWed_0 : cX5_whyWed.data.toList.drop 0 = dktX5_whyWed_0 := by decide +kernel
theorem dksX5_whyWed_1 : cX5_whyWed.data.toList.drop 24 = dktX5_whyWed_1 := dk_seg dksX5_whyWed_0 24 rfl rfl
theorem dksX5_whyWed_2 : cX5_whyWed.data.toList.drop 47 = dktX5_whyWed_2 := dk_seg dksX5_whyWed_1 23 rfl rfl
theorem dX5_whyWed_0 : decode cX5_whyWed 0 = .ok (.aload_n 0, 1) := dk_42 (dk_at dksX5_whyWed_0 0 rfl rfl)
theorem dX5_whyWed_1 : decode cX5_whyWed 1 = .ok (.iload_n 1, 1) := dk_27 (dk_at dksX5_whyWed_0 1 rfl rfl)
theorem dX5_whyWed_2 : decode cX5_whyWed 2 = .ok (.invokevirtual 275, 3) := dk_182 1 19 (dk_at dksX5_whyWed_0 2 rfl rfl)
theorem dX5_whyWed_5 : decode cX5_whyWed 5 = .ok (.ifCond .eq 11, 3) := dk_153 0 11 (dk_at dksX5_whyWed_0 5 rfl rfl)
theorem dX5_whyWed_8 : decode cX5_whyWed 8 = .ok (.aload_n 0, 1) := dk_42 (dk_at dksX5_whyWed_0 8 rfl rfl)
theorem dX5_whyWed_9 : decode cX5_whyWed 9 = .ok (.iload_n 2, 1) := dk_28 (dk_at dksX5_whyWed_0 9 rfl rfl)
theorem dX5_whyWed_10 : decode cX5_whyWed 10 = .ok (.invokevirtual 275, 3) := dk_182 1 19 (dk_at dksX5_whyWed_0 10 rfl rfl)
theorem dX5_whyWed_13 : decode cX5_whyWed 13 = .ok (.ifCond .ne 5, 3) := dk_154 0 5 (dk_at dksX5_whyWed_0 13 rfl rfl)
theorem dX5_whyWed_16 : decode cX5_whyWed 16 = .ok (.iconst 1, 1) := dk_4 (dk_at dksX5_whyWed_0 16 rfl rfl)
theorem dX5_whyWed_17 : decode cX5_whyWed 17 = .ok (.ireturn, 1) := dk_172 (dk_at dksX5_whyWed_0 17 rfl rfl)
theorem dX5_whyWed_18 : decode cX5_whyWed 18 = .ok (.aload_n 0, 1) := dk_42 (dk_at dksX5_whyWed_0 18 rfl rfl)
theorem dX5_whyWed_19 : decode cX5_whyWed 19 = .ok (.getfield 33, 3) := dk_180 0 33 (dk_at dksX5_whyWed_0 19 rfl rfl)
theorem dX5_whyWed_22 : decode cX5_whyWed 22 = .ok (.bipush 117, 2) := dk_16 117 (dk_at dksX5_whyWed_0 22 rfl rfl)
theorem dX5_whyWed_24 : decode cX5_whyWed 24 = .ok (.iload_n 1, 1) := dk_27 (dk_at dksX5_whyWed_1 0 rfl rfl)
theorem dX5_whyWed_25 : decode cX5_whyWed 25 = .ok (.iadd, 1) := dk_96 (dk_at dksX5_whyWed_1 1 rfl rfl)
theorem dX5_whyWed_26 : decode cX5_whyWed 26 = .ok (.iaload, 1) := dk_46 (dk_at dksX5_whyWed_1 2 rfl rfl)
theorem dX5_whyWed_27 : decode cX5_whyWed 27 = .ok (.ifCond .gt 15, 3) := dk_157 0 15 (dk_at dksX5_whyWed_1 3 rfl rfl)
theorem dX5_whyWed_30 : decode cX5_whyWed 30 = .ok (.aload_n 0, 1) := dk_42 (dk_at dksX5_whyWed_1 6 rfl rfl)
theorem dX5_whyWed_31 : decode cX5_whyWed 31 = .ok (.getfield 33, 3) := dk_180 0 33 (dk_at dksX5_whyWed_1 7 rfl rfl)
theorem dX5_whyWed_34 : decode cX5_whyWed 34 = .ok (.bipush 117, 2) := dk_16 117 (dk_at dksX5_whyWed_1 10 rfl rfl)
theorem dX5_whyWed_36 : decode cX5_whyWed 36 = .ok (.iload_n 2, 1) := dk_28 (dk_at dksX5_whyWed_1 12 rfl rfl)
theorem dX5_whyWed_37 : decode cX5_whyWed 37 = .ok (.iadd, 1) := dk_96 (dk_at dksX5_whyWed_1 13 rfl rfl)
theorem dX5_whyWed_38 : decode cX5_whyWed 38 = .ok (.iaload, 1) := dk_46 (dk_at dksX5_whyWed_1 14 rfl rfl)
theorem dX5_whyWed_39 : decode cX5_whyWed 39 = .ok (.ifCond .le 5, 3) := dk_158 0 5 (dk_at dksX5_whyWed_1 15 rfl rfl)
theorem dX5_whyWed_42 : decode cX5_whyWed 42 = .ok (.iconst 2, 1) := dk_5 (dk_at dksX5_whyWed_1 18 rfl rfl)
theorem dX5_whyWed_43 : decode cX5_whyWed 43 = .ok (.ireturn, 1) := dk_172 (dk_at dksX5_whyWed_1 19 rfl rfl)
theorem dX5_whyWed_44 : decode cX5_whyWed 44 = .ok (.aload_n 0, 1) := dk_42 (dk_at dksX5_whyWed_1 20 rfl rfl)
theorem dX5_whyWed_45 : decode cX5_whyWed 45 = .ok (.iload_n 1, 1) := dk_27 (dk_at dksX5_whyWed_1 21 rfl rfl)
theorem dX5_whyWed_46 : decode cX5_whyWed 46 = .ok (.iload_n 2, 1) := dk_28 (dk_at dksX5_whyWed_1 22 rfl rfl)
theorem dX5_whyWed_47 : decode cX5_whyWed 47 = .ok (.invokevirtual 294, 3) := dk_182 1 38 (dk_at dksX5_whyWed_2 0 rfl rfl)
theorem dX5_whyWed_50 : decode cX5_whyWed 50 = .ok (.iconst 0, 1) := dk_3 (dk_at dksX5_whyWed_2 3 rfl rfl)
theorem dX5_whyWed_51 : decode cX5_whyWed 51 = .ok (.iconst 2, 1) := dk_5 (dk_at dksX5_whyWed_2 4 rfl rfl)
theorem dX5_whyWed_52 : decode cX5_whyWed 52 = .ok (.invokestatic 190, 3) := dk_184 0 190 (dk_at dksX5_whyWed_2 5 rfl rfl)
theorem dX5_whyWed_55 : decode cX5_whyWed 55 = .ok (.ifCond .eq 7, 3) := dk_153 0 7 (dk_at dksX5_whyWed_2 8 rfl rfl)
theorem dX5_whyWed_58 : decode cX5_whyWed 58 = .ok (.iconst 3, 1) := dk_6 (dk_at dksX5_whyWed_2 11 rfl rfl)
theorem dX5_whyWed_59 : decode cX5_whyWed 59 = .ok (.goto 4, 3) := dk_167 0 4 (dk_at dksX5_whyWed_2 12 rfl rfl)
theorem dX5_whyWed_62 : decode cX5_whyWed 62 = .ok (.iconst 0, 1) := dk_3 (dk_at dksX5_whyWed_2 15 rfl rfl)
theorem dX5_whyWed_63 : decode cX5_whyWed 63 = .ok (.ireturn, 1) := dk_172 (dk_at dksX5_whyWed_2 16 rfl rfl)
abbrev cX5_weds : ByteArray := prog_29_method_61_code
def yX5_weds : MethodName := ⟨RX5, "weds", "(II)V"⟩
def dkwX5_weds_1 : List UInt8 := [177]
abbrev dktX5_weds_1 : List UInt8 := dkwX5_weds_1 ++ []
def dkwX5_weds_0 : List UInt8 := [42, 180, 0, 33, 16, 117, 27, 96, 28, 4, 96, 79, 42, 180, 0, 33, 16, 117, 28, 96, 27, 4, 96, 79]
abbrev dktX5_weds_0 : List UInt8 := dkwX5_weds_0 ++ dktX5_weds_1
theorem dksX5_weds_0 : cX5_weds.data.toList.drop 0 = dktX5_weds_0 := by decide +kernel
theorem dksX5_weds_1 : cX5_weds.data.toList.drop 24 = dktX5_weds_1 := dk_seg dksX5_weds_0 24 rfl rfl
theorem dX5_weds_0 : decode cX5_weds 0 = .ok (.aload_n 0, 1) := dk_42 (dk_at dksX5_weds_0 0 rfl rfl)
theorem dX5_weds_1 : decode cX5_weds 1 = .ok (.getfield 33, 3) := dk_180 0 33 (dk_at dksX5_weds_0 1 rfl rfl)
theorem dX5_weds_4 : decode cX5_weds 4 = .ok (.bipush 117, 2) := dk_16 117 (dk_at dksX5_weds_0 4 rfl rfl)
theorem dX5_weds_6 : decode cX5_weds 6 = .ok (.iload_n 1, 1) := dk_27 (dk_at dksX5_weds_0 6 rfl rfl)
theorem dX5_weds_7 : decode cX5_weds 7 = .ok (.iadd, 1) := dk_96 (dk_at dksX5_weds_0 7 rfl rfl)
theorem dX5_weds_8 : decode cX5_weds 8 = .ok (.iload_n 2, 1) := dk_28 (dk_at dksX5_weds_0 8 rfl rfl)
theorem dX5_weds_9 : decode cX5_weds 9 = .ok (.iconst 1, 1) := dk_4 (dk_at dksX5_weds_0 9 rfl rfl)
theorem dX5_weds_10 : decode cX5_weds 10 = .ok (.iadd, 1) := dk_96 (dk_at dksX5_weds_0 10 rfl rfl)
theorem dX5_weds_11 : decode cX5_weds 11 = .ok (.iastore, 1) := dk_79 (dk_at dksX5_weds_0 11 rfl rfl)
theorem dX5_weds_12 : decode cX5_weds 12 = .ok (.aload_n 0, 1) := dk_42 (dk_at dksX5_weds_0 12 rfl rfl)
theorem dX5_weds_13 : decode cX5_weds 13 = .ok (.getfield 33, 3) := dk_180 0 33 (dk_at dksX5_weds_0 13 rfl rfl)
theorem dX5_weds_16 : decode cX5_weds 16 = .ok (.bipush 117, 2) := dk_16 117 (dk_at dksX5_weds_0 16 rfl rfl)
theorem dX5_weds_18 : decode cX5_weds 18 = .ok (.iload_n 2, 1) := dk_28 (dk_at dksX5_weds_0 18 rfl rfl)
theorem dX5_weds_19 : decode cX5_weds 19 = .ok (.iadd, 1) := dk_96 (dk_at dksX5_weds_0 19 rfl rfl)
theorem dX5_weds_20 : decode cX5_weds 20 = .ok (.iload_n 1, 1) := dk_27 (dk_at dksX5_weds_0 20 rfl rfl)
theorem dX5_weds_21 : decode cX5_weds 21 = .ok (.iconst 1, 1) := dk_4 (dk_at dksX5_weds_0 21 rfl rfl)
theorem dX5_weds_22 : decode cX5_weds 22 = .ok (.iadd, 1) := dk_96 (dk_at dksX5_weds_0 22 rfl rfl)
theorem dX5_weds_23 : decode cX5_weds 23 = .ok (.iastore, 1) := dk_79 (dk_at dksX5_weds_0 23 rfl rfl)
theorem dX5_weds_24 : decode cX5_weds 24 = .ok (.return_, 1) := dk_177 (dk_at dksX5_weds_1 0 rfl rfl)
abbrev cX5_part : ByteArray := prog_29_method_71_code
def yX5_part : MethodName := ⟨RX5, "part", "(I)I"⟩
def dkwX5_part_1 : List UInt8 := [154, 0, 5, 4, 172, 42, 182, 1, 79, 42, 27, 182, 1, 57, 3, 172]
abbrev dktX5_part_1 : List UInt8 := dkwX5_part_1 ++ []
def dkwX5_part_0 : List UInt8 := [42, 3, 181, 0, 1, 42, 27, 182, 1, 28, 154, 0, 5, 2, 172, 42, 180, 0, 33, 16, 117, 27, 96, 46]
abbrev dktX5_part_0 : List UInt8 := dkwX5_part_0 ++ dktX5_part_1
theorem dksX5_part_0 : cX5_part.data.toList.drop 0 = dktX5_part_0 := by decide +kernel
theorem dksX5_part_1 : cX5_part.data.toList.drop 24 = dktX5_part_1 := dk_seg dksX5_part_0 24 rfl rfl
theorem dX5_part_0 : decode cX5_part 0 = .ok (.aload_n 0, 1) := dk_42 (dk_at dksX5_part_0 0 rfl rfl)
theorem dX5_part_1 : decode cX5_part 1 = .ok (.iconst 0, 1) := dk_3 (dk_at dksX5_part_0 1 rfl rfl)
theorem dX5_part_2 : decode cX5_part 2 = .ok (.putfield 1, 3) := dk_181 0 1 (dk_at dksX5_part_0 2 rfl rfl)
theorem dX5_part_5 : decode cX5_part 5 = .ok (.aload_n 0, 1) := dk_42 (dk_at dksX5_part_0 5 rfl rfl)
theorem dX5_part_6 : decode cX5_part 6 = .ok (.iload_n 1, 1) := dk_27 (dk_at dksX5_part_0 6 rfl rfl)
theorem dX5_part_7 : decode cX5_part 7 = .ok (.invokevirtual 284, 3) := dk_182 1 28 (dk_at dksX5_part_0 7 rfl rfl)
theorem dX5_part_10 : decode cX5_part 10 = .ok (.ifCond .ne 5, 3) := dk_154 0 5 (dk_at dksX5_part_0 10 rfl rfl)
theorem dX5_part_13 : decode cX5_part 13 = .ok (.iconst (-1), 1) := dk_2 (dk_at dksX5_part_0 13 rfl rfl)
theorem dX5_part_14 : decode cX5_part 14 = .ok (.ireturn, 1) := dk_172 (dk_at dksX5_part_0 14 rfl rfl)
theorem dX5_part_15 : decode cX5_part 15 = .ok (.aload_n 0, 1) := dk_42 (dk_at dksX5_part_0 15 rfl rfl)
theorem dX5_part_16 : decode cX5_part 16 = .ok (.getfield 33, 3) := dk_180 0 33 (dk_at dksX5_part_0 16 rfl rfl)
theorem dX5_part_19 : decode cX5_part 19 = .ok (.bipush 117, 2) := dk_16 117 (dk_at dksX5_part_0 19 rfl rfl)
theorem dX5_part_21 : decode cX5_part 21 = .ok (.iload_n 1, 1) := dk_27 (dk_at dksX5_part_0 21 rfl rfl)
theorem dX5_part_22 : decode cX5_part 22 = .ok (.iadd, 1) := dk_96 (dk_at dksX5_part_0 22 rfl rfl)
theorem dX5_part_23 : decode cX5_part 23 = .ok (.iaload, 1) := dk_46 (dk_at dksX5_part_0 23 rfl rfl)
theorem dX5_part_24 : decode cX5_part 24 = .ok (.ifCond .ne 5, 3) := dk_154 0 5 (dk_at dksX5_part_1 0 rfl rfl)
theorem dX5_part_27 : decode cX5_part 27 = .ok (.iconst 1, 1) := dk_4 (dk_at dksX5_part_1 3 rfl rfl)
theorem dX5_part_28 : decode cX5_part 28 = .ok (.ireturn, 1) := dk_172 (dk_at dksX5_part_1 4 rfl rfl)
theorem dX5_part_29 : decode cX5_part 29 = .ok (.aload_n 0, 1) := dk_42 (dk_at dksX5_part_1 5 rfl rfl)
theorem dX5_part_30 : decode cX5_part 30 = .ok (.invokevirtual 335, 3) := dk_182 1 79 (dk_at dksX5_part_1 6 rfl rfl)
theorem dX5_part_33 : decode cX5_part 33 = .ok (.aload_n 0, 1) := dk_42 (dk_at dksX5_part_1 9 rfl rfl)
theorem dX5_part_34 : decode cX5_part 34 = .ok (.iload_n 1, 1) := dk_27 (dk_at dksX5_part_1 10 rfl rfl)
theorem dX5_part_35 : decode cX5_part 35 = .ok (.invokevirtual 313, 3) := dk_182 1 57 (dk_at dksX5_part_1 11 rfl rfl)
theorem dX5_part_38 : decode cX5_part 38 = .ok (.iconst 0, 1) := dk_3 (dk_at dksX5_part_1 14 rfl rfl)
theorem dX5_part_39 : decode cX5_part 39 = .ok (.ireturn, 1) := dk_172 (dk_at dksX5_part_1 15 rfl rfl)
abbrev cX5_give : ByteArray := prog_29_method_72_code
def yX5_give : MethodName := ⟨RX5, "give", "(III)I"⟩
def dkwX5_give_2 : List UInt8 := [182, 1, 79, 42, 27, 28, 29, 182, 1, 95, 3, 172]
abbrev dktX5_give_2 : List UInt8 := dkwX5_give_2 ++ []
def dkwX5_give_1 : List UInt8 := [154, 0, 5, 2, 172, 42, 27, 28, 29, 182, 1, 91, 54, 4, 21, 4, 158, 0, 6, 21, 4, 172, 42]
abbrev dktX5_give_1 : List UInt8 := dkwX5_give_1 ++ dktX5_give_2
def dkwX5_give_0 : List UInt8 := [42, 3, 181, 0, 1, 42, 27, 28, 182, 1, 82, 153, 0, 14, 29, 4, 17, 3, 231, 184, 0, 190]
abbrev dktX5_give_0 : List UInt8 := dkwX5_give_0 ++ dktX5_give_1
theorem dksX5_give_0 : cX5_give.data.toList.drop 0 = dktX5_give_0 := by decide +kernel
theorem dksX5_give_1 : cX5_give.data.toList.drop 22 = dktX5_give_1 := dk_seg dksX5_give_0 22 rfl rfl
theorem dksX5_give_2 : cX5_give.data.toList.drop 45 = dktX5_give_2 := dk_seg dksX5_give_1 23 rfl rfl
theorem dX5_give_0 : decode cX5_give 0 = .ok (.aload_n 0, 1) := dk_42 (dk_at dksX5_give_0 0 rfl rfl)
theorem dX5_give_1 : decode cX5_give 1 = .ok (.iconst 0, 1) := dk_3 (dk_at dksX5_give_0 1 rfl rfl)
theorem dX5_give_2 : decode cX5_give 2 = .ok (.putfield 1, 3) := dk_181 0 1 (dk_at dksX5_give_0 2 rfl rfl)
theorem dX5_give_5 : decode cX5_give 5 = .ok (.aload_n 0, 1) := dk_42 (dk_at dksX5_give_0 5 rfl rfl)
theorem dX5_give_6 : decode cX5_give 6 = .ok (.iload_n 1, 1) := dk_27 (dk_at dksX5_give_0 6 rfl rfl)
theorem dX5_give_7 : decode cX5_give 7 = .ok (.iload_n 2, 1) := dk_28 (dk_at dksX5_give_0 7 rfl rfl)
theorem dX5_give_8 : decode cX5_give 8 = .ok (.invokevirtual 338, 3) := dk_182 1 82 (dk_at dksX5_give_0 8 rfl rfl)
theorem dX5_give_11 : decode cX5_give 11 = .ok (.ifCond .eq 14, 3) := dk_153 0 14 (dk_at dksX5_give_0 11 rfl rfl)
theorem dX5_give_14 : decode cX5_give 14 = .ok (.iload_n 3, 1) := dk_29 (dk_at dksX5_give_0 14 rfl rfl)
theorem dX5_give_15 : decode cX5_give 15 = .ok (.iconst 1, 1) := dk_4 (dk_at dksX5_give_0 15 rfl rfl)
theorem dX5_give_16 : decode cX5_give 16 = .ok (.sipush 999, 3) := dk_17 3 231 (dk_at dksX5_give_0 16 rfl rfl)
theorem dX5_give_19 : decode cX5_give 19 = .ok (.invokestatic 190, 3) := dk_184 0 190 (dk_at dksX5_give_0 19 rfl rfl)
theorem dX5_give_22 : decode cX5_give 22 = .ok (.ifCond .ne 5, 3) := dk_154 0 5 (dk_at dksX5_give_1 0 rfl rfl)
theorem dX5_give_25 : decode cX5_give 25 = .ok (.iconst (-1), 1) := dk_2 (dk_at dksX5_give_1 3 rfl rfl)
theorem dX5_give_26 : decode cX5_give 26 = .ok (.ireturn, 1) := dk_172 (dk_at dksX5_give_1 4 rfl rfl)
theorem dX5_give_27 : decode cX5_give 27 = .ok (.aload_n 0, 1) := dk_42 (dk_at dksX5_give_1 5 rfl rfl)
theorem dX5_give_28 : decode cX5_give 28 = .ok (.iload_n 1, 1) := dk_27 (dk_at dksX5_give_1 6 rfl rfl)
theorem dX5_give_29 : decode cX5_give 29 = .ok (.iload_n 2, 1) := dk_28 (dk_at dksX5_give_1 7 rfl rfl)
theorem dX5_give_30 : decode cX5_give 30 = .ok (.iload_n 3, 1) := dk_29 (dk_at dksX5_give_1 8 rfl rfl)
theorem dX5_give_31 : decode cX5_give 31 = .ok (.invokevirtual 347, 3) := dk_182 1 91 (dk_at dksX5_give_1 9 rfl rfl)
theorem dX5_give_34 : decode cX5_give 34 = .ok (.istore 4, 2) := dk_54 4 (dk_at dksX5_give_1 12 rfl rfl)
theorem dX5_give_36 : decode cX5_give 36 = .ok (.iload 4, 2) := dk_21 4 (dk_at dksX5_give_1 14 rfl rfl)
theorem dX5_give_38 : decode cX5_give 38 = .ok (.ifCond .le 6, 3) := dk_158 0 6 (dk_at dksX5_give_1 16 rfl rfl)
theorem dX5_give_41 : decode cX5_give 41 = .ok (.iload 4, 2) := dk_21 4 (dk_at dksX5_give_1 19 rfl rfl)
theorem dX5_give_43 : decode cX5_give 43 = .ok (.ireturn, 1) := dk_172 (dk_at dksX5_give_1 21 rfl rfl)
theorem dX5_give_44 : decode cX5_give 44 = .ok (.aload_n 0, 1) := dk_42 (dk_at dksX5_give_1 22 rfl rfl)
theorem dX5_give_45 : decode cX5_give 45 = .ok (.invokevirtual 335, 3) := dk_182 1 79 (dk_at dksX5_give_2 0 rfl rfl)
theorem dX5_give_48 : decode cX5_give 48 = .ok (.aload_n 0, 1) := dk_42 (dk_at dksX5_give_2 3 rfl rfl)
theorem dX5_give_49 : decode cX5_give 49 = .ok (.iload_n 1, 1) := dk_27 (dk_at dksX5_give_2 4 rfl rfl)
theorem dX5_give_50 : decode cX5_give 50 = .ok (.iload_n 2, 1) := dk_28 (dk_at dksX5_give_2 5 rfl rfl)
theorem dX5_give_51 : decode cX5_give 51 = .ok (.iload_n 3, 1) := dk_29 (dk_at dksX5_give_2 6 rfl rfl)
theorem dX5_give_52 : decode cX5_give 52 = .ok (.invokevirtual 351, 3) := dk_182 1 95 (dk_at dksX5_give_2 7 rfl rfl)
theorem dX5_give_55 : decode cX5_give 55 = .ok (.iconst 0, 1) := dk_3 (dk_at dksX5_give_2 10 rfl rfl)
theorem dX5_give_56 : decode cX5_give 56 = .ok (.ireturn, 1) := dk_172 (dk_at dksX5_give_2 11 rfl rfl)
abbrev cX5_whyGive : ByteArray := prog_29_method_62_code
def yX5_whyGive : MethodName := ⟨RX5, "whyGive", "(III)I"⟩
def dkwX5_whyGive_1 : List UInt8 := [16, 105, 27, 96, 46, 29, 162, 0, 7, 5, 167, 0, 4, 3, 172]
abbrev dktX5_whyGive_1 : List UInt8 := dkwX5_whyGive_1 ++ []
def dkwX5_whyGive_0 : List UInt8 := [42, 27, 182, 1, 19, 153, 0, 11, 42, 28, 182, 1, 19, 154, 0, 7, 4, 167, 0, 21, 42, 180, 0, 33]
abbrev dktX5_whyGive_0 : List UInt8 := dkwX5_whyGive_0 ++ dktX5_whyGive_1
theorem dksX5_whyGive_0 : cX5_whyGive.data.toList.drop 0 = dktX5_whyGive_0 := by decide +kernel
theorem dksX5_whyGive_1 : cX5_whyGive.data.toList.drop 24 = dktX5_whyGive_1 := dk_seg dksX5_whyGive_0 24 rfl rfl
theorem dX5_whyGive_0 : decode cX5_whyGive 0 = .ok (.aload_n 0, 1) := dk_42 (dk_at dksX5_whyGive_0 0 rfl rfl)
theorem dX5_whyGive_1 : decode cX5_whyGive 1 = .ok (.iload_n 1, 1) := dk_27 (dk_at dksX5_whyGive_0 1 rfl rfl)
theorem dX5_whyGive_2 : decode cX5_whyGive 2 = .ok (.invokevirtual 275, 3) := dk_182 1 19 (dk_at dksX5_whyGive_0 2 rfl rfl)
theorem dX5_whyGive_5 : decode cX5_whyGive 5 = .ok (.ifCond .eq 11, 3) := dk_153 0 11 (dk_at dksX5_whyGive_0 5 rfl rfl)
theorem dX5_whyGive_8 : decode cX5_whyGive 8 = .ok (.aload_n 0, 1) := dk_42 (dk_at dksX5_whyGive_0 8 rfl rfl)
theorem dX5_whyGive_9 : decode cX5_whyGive 9 = .ok (.iload_n 2, 1) := dk_28 (dk_at dksX5_whyGive_0 9 rfl rfl)
theorem dX5_whyGive_10 : decode cX5_whyGive 10 = .ok (.invokevirtual 275, 3) := dk_182 1 19 (dk_at dksX5_whyGive_0 10 rfl rfl)
theorem dX5_whyGive_13 : decode cX5_whyGive 13 = .ok (.ifCond .ne 7, 3) := dk_154 0 7 (dk_at dksX5_whyGive_0 13 rfl rfl)
theorem dX5_whyGive_16 : decode cX5_whyGive 16 = .ok (.iconst 1, 1) := dk_4 (dk_at dksX5_whyGive_0 16 rfl rfl)
theorem dX5_whyGive_17 : decode cX5_whyGive 17 = .ok (.goto 21, 3) := dk_167 0 21 (dk_at dksX5_whyGive_0 17 rfl rfl)
theorem dX5_whyGive_20 : decode cX5_whyGive 20 = .ok (.aload_n 0, 1) := dk_42 (dk_at dksX5_whyGive_0 20 rfl rfl)
theorem dX5_whyGive_21 : decode cX5_whyGive 21 = .ok (.getfield 33, 3) := dk_180 0 33 (dk_at dksX5_whyGive_0 21 rfl rfl)
theorem dX5_whyGive_24 : decode cX5_whyGive 24 = .ok (.bipush 105, 2) := dk_16 105 (dk_at dksX5_whyGive_1 0 rfl rfl)
theorem dX5_whyGive_26 : decode cX5_whyGive 26 = .ok (.iload_n 1, 1) := dk_27 (dk_at dksX5_whyGive_1 2 rfl rfl)
theorem dX5_whyGive_27 : decode cX5_whyGive 27 = .ok (.iadd, 1) := dk_96 (dk_at dksX5_whyGive_1 3 rfl rfl)
theorem dX5_whyGive_28 : decode cX5_whyGive 28 = .ok (.iaload, 1) := dk_46 (dk_at dksX5_whyGive_1 4 rfl rfl)
theorem dX5_whyGive_29 : decode cX5_whyGive 29 = .ok (.iload_n 3, 1) := dk_29 (dk_at dksX5_whyGive_1 5 rfl rfl)
theorem dX5_whyGive_30 : decode cX5_whyGive 30 = .ok (.if_icmp .ge 7, 3) := dk_162 0 7 (dk_at dksX5_whyGive_1 6 rfl rfl)
theorem dX5_whyGive_33 : decode cX5_whyGive 33 = .ok (.iconst 2, 1) := dk_5 (dk_at dksX5_whyGive_1 9 rfl rfl)
theorem dX5_whyGive_34 : decode cX5_whyGive 34 = .ok (.goto 4, 3) := dk_167 0 4 (dk_at dksX5_whyGive_1 10 rfl rfl)
theorem dX5_whyGive_37 : decode cX5_whyGive 37 = .ok (.iconst 0, 1) := dk_3 (dk_at dksX5_whyGive_1 13 rfl rfl)
theorem dX5_whyGive_38 : decode cX5_whyGive 38 = .ok (.ireturn, 1) := dk_172 (dk_at dksX5_whyGive_1 14 rfl rfl)
abbrev cX5_gives : ByteArray := prog_29_method_63_code
def yX5_gives : MethodName := ⟨RX5, "gives", "(III)V"⟩
def dkwX5_gives_1 : List UInt8 := [96, 79, 177]
abbrev dktX5_gives_1 : List UInt8 := dkwX5_gives_1 ++ []
def dkwX5_gives_0 : List UInt8 := [42, 180, 0, 33, 16, 105, 27, 96, 92, 46, 29, 100, 79, 42, 180, 0, 33, 16, 105, 28, 96, 92, 46, 29]
abbrev dktX5_gives_0 : List UInt8 := dkwX5_gives_0 ++ dktX5_gives_1
theorem dksX5_gives_0 : cX5_gives.data.toList.drop 0 = dktX5_gives_0 := by decide +kernel
theorem dksX5_gives_1 : cX5_gives.data.toList.drop 24 = dktX5_gives_1 := dk_seg dksX5_gives_0 24 rfl rfl
theorem dX5_gives_0 : decode cX5_gives 0 = .ok (.aload_n 0, 1) := dk_42 (dk_at dksX5_gives_0 0 rfl rfl)
theorem dX5_gives_1 : decode cX5_gives 1 = .ok (.getfield 33, 3) := dk_180 0 33 (dk_at dksX5_gives_0 1 rfl rfl)
theorem dX5_gives_4 : decode cX5_gives 4 = .ok (.bipush 105, 2) := dk_16 105 (dk_at dksX5_gives_0 4 rfl rfl)
theorem dX5_gives_6 : decode cX5_gives 6 = .ok (.iload_n 1, 1) := dk_27 (dk_at dksX5_gives_0 6 rfl rfl)
theorem dX5_gives_7 : decode cX5_gives 7 = .ok (.iadd, 1) := dk_96 (dk_at dksX5_gives_0 7 rfl rfl)
theorem dX5_gives_8 : decode cX5_gives 8 = .ok (.dup2, 1) := dk_92 (dk_at dksX5_gives_0 8 rfl rfl)
theorem dX5_gives_9 : decode cX5_gives 9 = .ok (.iaload, 1) := dk_46 (dk_at dksX5_gives_0 9 rfl rfl)
theorem dX5_gives_10 : decode cX5_gives 10 = .ok (.iload_n 3, 1) := dk_29 (dk_at dksX5_gives_0 10 rfl rfl)
theorem dX5_gives_11 : decode cX5_gives 11 = .ok (.isub, 1) := dk_100 (dk_at dksX5_gives_0 11 rfl rfl)
theorem dX5_gives_12 : decode cX5_gives 12 = .ok (.iastore, 1) := dk_79 (dk_at dksX5_gives_0 12 rfl rfl)
theorem dX5_gives_13 : decode cX5_gives 13 = .ok (.aload_n 0, 1) := dk_42 (dk_at dksX5_gives_0 13 rfl rfl)
theorem dX5_gives_14 : decode cX5_gives 14 = .ok (.getfield 33, 3) := dk_180 0 33 (dk_at dksX5_gives_0 14 rfl rfl)
theorem dX5_gives_17 : decode cX5_gives 17 = .ok (.bipush 105, 2) := dk_16 105 (dk_at dksX5_gives_0 17 rfl rfl)
theorem dX5_gives_19 : decode cX5_gives 19 = .ok (.iload_n 2, 1) := dk_28 (dk_at dksX5_gives_0 19 rfl rfl)
theorem dX5_gives_20 : decode cX5_gives 20 = .ok (.iadd, 1) := dk_96 (dk_at dksX5_gives_0 20 rfl rfl)
theorem dX5_gives_21 : decode cX5_gives 21 = .ok (.dup2, 1) := dk_92 (dk_at dksX5_gives_0 21 rfl rfl)
theorem dX5_gives_22 : decode cX5_gives 22 = .ok (.iaload, 1) := dk_46 (dk_at dksX5_gives_0 22 rfl rfl)
theorem dX5_gives_23 : decode cX5_gives 23 = .ok (.iload_n 3, 1) := dk_29 (dk_at dksX5_gives_0 23 rfl rfl)
theorem dX5_gives_24 : decode cX5_gives 24 = .ok (.iadd, 1) := dk_96 (dk_at dksX5_gives_1 0 rfl rfl)
theorem dX5_gives_25 : decode cX5_gives 25 = .ok (.iastore, 1) := dk_79 (dk_at dksX5_gives_1 1 rfl rfl)
theorem dX5_gives_26 : decode cX5_gives 26 = .ok (.return_, 1) := dk_177 (dk_at dksX5_gives_1 2 rfl rfl)
abbrev cX5_leave : ByteArray := prog_29_method_73_code
def yX5_leave : MethodName := ⟨RX5, "leave", "(III)I"⟩
def dkwX5_leave_2 : List UInt8 := [182, 1, 79, 42, 27, 28, 29, 182, 1, 101, 3, 172]
abbrev dktX5_leave_2 : List UInt8 := dkwX5_leave_2 ++ []
def dkwX5_leave_1 : List UInt8 := [154, 0, 5, 2, 172, 42, 27, 28, 182, 1, 98, 54, 4, 21, 4, 158, 0, 6, 21, 4, 172, 42]
abbrev dktX5_leave_1 : List UInt8 := dkwX5_leave_1 ++ dktX5_leave_2
def dkwX5_leave_0 : List UInt8 := [42, 3, 181, 0, 1, 42, 27, 28, 182, 1, 82, 153, 0, 14, 29, 4, 17, 3, 231, 184, 0, 190]
abbrev dktX5_leave_0 : List UInt8 := dkwX5_leave_0 ++ dktX5_leave_1
theorem dksX5_leave_0 : cX5_leave.data.toList.drop 0 = dktX5_leave_0 := by decide +kernel
theorem dksX5_leave_1 : cX5_leave.data.toList.drop 22 = dktX5_leave_1 := dk_seg dksX5_leave_0 22 rfl rfl
theorem dksX5_leave_2 : cX5_leave.data.toList.drop 44 = dktX5_leave_2 := dk_seg dksX5_leave_1 22 rfl rfl
theorem dX5_leave_0 : decode cX5_leave 0 = .ok (.aload_n 0, 1) := dk_42 (dk_at dksX5_leave_0 0 rfl rfl)
theorem dX5_leave_1 : decode cX5_leave 1 = .ok (.iconst 0, 1) := dk_3 (dk_at dksX5_leave_0 1 rfl rfl)
theorem dX5_leave_2 : decode cX5_leave 2 = .ok (.putfield 1, 3) := dk_181 0 1 (dk_at dksX5_leave_0 2 rfl rfl)
theorem dX5_leave_5 : decode cX5_leave 5 = .ok (.aload_n 0, 1) := dk_42 (dk_at dksX5_leave_0 5 rfl rfl)
theorem dX5_leave_6 : decode cX5_leave 6 = .ok (.iload_n 1, 1) := dk_27 (dk_at dksX5_leave_0 6 rfl rfl)
theorem dX5_leave_7 : decode cX5_leave 7 = .ok (.iload_n 2, 1) := dk_28 (dk_at dksX5_leave_0 7 rfl rfl)
theorem dX5_leave_8 : decode cX5_leave 8 = .ok (.invokevirtual 338, 3) := dk_182 1 82 (dk_at dksX5_leave_0 8 rfl rfl)
theorem dX5_leave_11 : decode cX5_leave 11 = .ok (.ifCond .eq 14, 3) := dk_153 0 14 (dk_at dksX5_leave_0 11 rfl rfl)
theorem dX5_leave_14 : decode cX5_leave 14 = .ok (.iload_n 3, 1) := dk_29 (dk_at dksX5_leave_0 14 rfl rfl)
theorem dX5_leave_15 : decode cX5_leave 15 = .ok (.iconst 1, 1) := dk_4 (dk_at dksX5_leave_0 15 rfl rfl)
theorem dX5_leave_16 : decode cX5_leave 16 = .ok (.sipush 999, 3) := dk_17 3 231 (dk_at dksX5_leave_0 16 rfl rfl)
theorem dX5_leave_19 : decode cX5_leave 19 = .ok (.invokestatic 190, 3) := dk_184 0 190 (dk_at dksX5_leave_0 19 rfl rfl)
theorem dX5_leave_22 : decode cX5_leave 22 = .ok (.ifCond .ne 5, 3) := dk_154 0 5 (dk_at dksX5_leave_1 0 rfl rfl)
theorem dX5_leave_25 : decode cX5_leave 25 = .ok (.iconst (-1), 1) := dk_2 (dk_at dksX5_leave_1 3 rfl rfl)
theorem dX5_leave_26 : decode cX5_leave 26 = .ok (.ireturn, 1) := dk_172 (dk_at dksX5_leave_1 4 rfl rfl)
theorem dX5_leave_27 : decode cX5_leave 27 = .ok (.aload_n 0, 1) := dk_42 (dk_at dksX5_leave_1 5 rfl rfl)
theorem dX5_leave_28 : decode cX5_leave 28 = .ok (.iload_n 1, 1) := dk_27 (dk_at dksX5_leave_1 6 rfl rfl)
theorem dX5_leave_29 : decode cX5_leave 29 = .ok (.iload_n 2, 1) := dk_28 (dk_at dksX5_leave_1 7 rfl rfl)
theorem dX5_leave_30 : decode cX5_leave 30 = .ok (.invokevirtual 354, 3) := dk_182 1 98 (dk_at dksX5_leave_1 8 rfl rfl)
theorem dX5_leave_33 : decode cX5_leave 33 = .ok (.istore 4, 2) := dk_54 4 (dk_at dksX5_leave_1 11 rfl rfl)
theorem dX5_leave_35 : decode cX5_leave 35 = .ok (.iload 4, 2) := dk_21 4 (dk_at dksX5_leave_1 13 rfl rfl)
theorem dX5_leave_37 : decode cX5_leave 37 = .ok (.ifCond .le 6, 3) := dk_158 0 6 (dk_at dksX5_leave_1 15 rfl rfl)
theorem dX5_leave_40 : decode cX5_leave 40 = .ok (.iload 4, 2) := dk_21 4 (dk_at dksX5_leave_1 18 rfl rfl)
theorem dX5_leave_42 : decode cX5_leave 42 = .ok (.ireturn, 1) := dk_172 (dk_at dksX5_leave_1 20 rfl rfl)
theorem dX5_leave_43 : decode cX5_leave 43 = .ok (.aload_n 0, 1) := dk_42 (dk_at dksX5_leave_1 21 rfl rfl)
theorem dX5_leave_44 : decode cX5_leave 44 = .ok (.invokevirtual 335, 3) := dk_182 1 79 (dk_at dksX5_leave_2 0 rfl rfl)
theorem dX5_leave_47 : decode cX5_leave 47 = .ok (.aload_n 0, 1) := dk_42 (dk_at dksX5_leave_2 3 rfl rfl)
theorem dX5_leave_48 : decode cX5_leave 48 = .ok (.iload_n 1, 1) := dk_27 (dk_at dksX5_leave_2 4 rfl rfl)
theorem dX5_leave_49 : decode cX5_leave 49 = .ok (.iload_n 2, 1) := dk_28 (dk_at dksX5_leave_2 5 rfl rfl)
theorem dX5_leave_50 : decode cX5_leave 50 = .ok (.iload_n 3, 1) := dk_29 (dk_at dksX5_leave_2 6 rfl rfl)
theorem dX5_leave_51 : decode cX5_leave 51 = .ok (.invokevirtual 357, 3) := dk_182 1 101 (dk_at dksX5_leave_2 7 rfl rfl)
theorem dX5_leave_54 : decode cX5_leave 54 = .ok (.iconst 0, 1) := dk_3 (dk_at dksX5_leave_2 10 rfl rfl)
theorem dX5_leave_55 : decode cX5_leave 55 = .ok (.ireturn, 1) := dk_172 (dk_at dksX5_leave_2 11 rfl rfl)
abbrev cX5_whyLeave : ByteArray := prog_29_method_64_code
def yX5_whyLeave : MethodName := ⟨RX5, "whyLeave", "(II)I"⟩
def dkwX5_whyLeave_1 : List UInt8 := [16, 104, 46, 16, 12, 160, 0, 7, 5, 167, 0, 4, 3, 172]
abbrev dktX5_whyLeave_1 : List UInt8 := dkwX5_whyLeave_1 ++ []
def dkwX5_whyLeave_0 : List UInt8 := [42, 27, 182, 1, 19, 153, 0, 11, 42, 28, 182, 1, 19, 154, 0, 7, 4, 167, 0, 20, 42, 180, 0, 33]
abbrev dktX5_whyLeave_0 : List UInt8 := dkwX5_whyLeave_0 ++ dktX5_whyLeave_1
theorem dksX5_whyLeave_0 : cX5_whyLeave.data.toList.drop 0 = dktX5_whyLeave_0 := by decide +kernel
theorem dksX5_whyLeave_1 : cX5_whyLeave.data.toList.drop 24 = dktX5_whyLeave_1 := dk_seg dksX5_whyLeave_0 24 rfl rfl
theorem dX5_whyLeave_0 : decode cX5_whyLeave 0 = .ok (.aload_n 0, 1) := dk_42 (dk_at dksX5_whyLeave_0 0 rfl rfl)
theorem dX5_whyLeave_1 : decode cX5_whyLeave 1 = .ok (.iload_n 1, 1) := dk_27 (dk_at dksX5_whyLeave_0 1 rfl rfl)
theorem dX5_whyLeave_2 : decode cX5_whyLeave 2 = .ok (.invokevirtual 275, 3) := dk_182 1 19 (dk_at dksX5_whyLeave_0 2 rfl rfl)
theorem dX5_whyLeave_5 : decode cX5_whyLeave 5 = .ok (.ifCond .eq 11, 3) := dk_153 0 11 (dk_at dksX5_whyLeave_0 5 rfl rfl)
theorem dX5_whyLeave_8 : decode cX5_whyLeave 8 = .ok (.aload_n 0, 1) := dk_42 (dk_at dksX5_whyLeave_0 8 rfl rfl)
theorem dX5_whyLeave_9 : decode cX5_whyLeave 9 = .ok (.iload_n 2, 1) := dk_28 (dk_at dksX5_whyLeave_0 9 rfl rfl)
theorem dX5_whyLeave_10 : decode cX5_whyLeave 10 = .ok (.invokevirtual 275, 3) := dk_182 1 19 (dk_at dksX5_whyLeave_0 10 rfl rfl)
theorem dX5_whyLeave_13 : decode cX5_whyLeave 13 = .ok (.ifCond .ne 7, 3) := dk_154 0 7 (dk_at dksX5_whyLeave_0 13 rfl rfl)
theorem dX5_whyLeave_16 : decode cX5_whyLeave 16 = .ok (.iconst 1, 1) := dk_4 (dk_at dksX5_whyLeave_0 16 rfl rfl)
theorem dX5_whyLeave_17 : decode cX5_whyLeave 17 = .ok (.goto 20, 3) := dk_167 0 20 (dk_at dksX5_whyLeave_0 17 rfl rfl)
theorem dX5_whyLeave_20 : decode cX5_whyLeave 20 = .ok (.aload_n 0, 1) := dk_42 (dk_at dksX5_whyLeave_0 20 rfl rfl)
theorem dX5_whyLeave_21 : decode cX5_whyLeave 21 = .ok (.getfield 33, 3) := dk_180 0 33 (dk_at dksX5_whyLeave_0 21 rfl rfl)
theorem dX5_whyLeave_24 : decode cX5_whyLeave 24 = .ok (.bipush 104, 2) := dk_16 104 (dk_at dksX5_whyLeave_1 0 rfl rfl)
theorem dX5_whyLeave_26 : decode cX5_whyLeave 26 = .ok (.iaload, 1) := dk_46 (dk_at dksX5_whyLeave_1 2 rfl rfl)
theorem dX5_whyLeave_27 : decode cX5_whyLeave 27 = .ok (.bipush 12, 2) := dk_16 12 (dk_at dksX5_whyLeave_1 3 rfl rfl)
theorem dX5_whyLeave_29 : decode cX5_whyLeave 29 = .ok (.if_icmp .ne 7, 3) := dk_160 0 7 (dk_at dksX5_whyLeave_1 5 rfl rfl)
theorem dX5_whyLeave_32 : decode cX5_whyLeave 32 = .ok (.iconst 2, 1) := dk_5 (dk_at dksX5_whyLeave_1 8 rfl rfl)
theorem dX5_whyLeave_33 : decode cX5_whyLeave 33 = .ok (.goto 4, 3) := dk_167 0 4 (dk_at dksX5_whyLeave_1 9 rfl rfl)
theorem dX5_whyLeave_36 : decode cX5_whyLeave 36 = .ok (.iconst 0, 1) := dk_3 (dk_at dksX5_whyLeave_1 12 rfl rfl)
theorem dX5_whyLeave_37 : decode cX5_whyLeave 37 = .ok (.ireturn, 1) := dk_172 (dk_at dksX5_whyLeave_1 13 rfl rfl)
abbrev cX5_leaves : ByteArray := prog_29_method_65_code
def yX5_leaves : MethodName := ⟨RX5, "leaves", "(III)V"⟩
def dkwX5_leaves_2 : List UInt8 := [96, 29, 79, 42, 180, 0, 33, 16, 104, 92, 46, 4, 96, 79, 177]
abbrev dktX5_leaves_2 : List UInt8 := dkwX5_leaves_2 ++ []
def dkwX5_leaves_1 : List UInt8 := [42, 180, 0, 33, 16, 104, 46, 96, 28, 79, 42, 180, 0, 33, 17, 0, 153, 42, 180, 0, 33, 16, 104, 46]
abbrev dktX5_leaves_1 : List UInt8 := dkwX5_leaves_1 ++ dktX5_leaves_2
def dkwX5_leaves_0 : List UInt8 := [42, 180, 0, 33, 17, 0, 129, 42, 180, 0, 33, 16, 104, 46, 96, 27, 79, 42, 180, 0, 33, 17, 0, 141]
abbrev dktX5_leaves_0 : List UInt8 := dkwX5_leaves_0 ++ dktX5_leaves_1
theorem dksX5_leaves_0 : cX5_leaves.data.toList.drop 0 = dktX5_leaves_0 := by decide +kernel
theorem dksX5_leaves_1 : cX5_leaves.data.toList.drop 24 = dktX5_leaves_1 := dk_seg dksX5_leaves_0 24 rfl rfl
theorem dksX5_leaves_2 : cX5_leaves.data.toList.drop 48 = dktX5_leaves_2 := dk_seg dksX5_leaves_1 24 rfl rfl
theorem dX5_leaves_0 : decode cX5_leaves 0 = .ok (.aload_n 0, 1) := dk_42 (dk_at dksX5_leaves_0 0 rfl rfl)
theorem dX5_leaves_1 : decode cX5_leaves 1 = .ok (.getfield 33, 3) := dk_180 0 33 (dk_at dksX5_leaves_0 1 rfl rfl)
theorem dX5_leaves_4 : decode cX5_leaves 4 = .ok (.sipush 129, 3) := dk_17 0 129 (dk_at dksX5_leaves_0 4 rfl rfl)
theorem dX5_leaves_7 : decode cX5_leaves 7 = .ok (.aload_n 0, 1) := dk_42 (dk_at dksX5_leaves_0 7 rfl rfl)
theorem dX5_leaves_8 : decode cX5_leaves 8 = .ok (.getfield 33, 3) := dk_180 0 33 (dk_at dksX5_leaves_0 8 rfl rfl)
theorem dX5_leaves_11 : decode cX5_leaves 11 = .ok (.bipush 104, 2) := dk_16 104 (dk_at dksX5_leaves_0 11 rfl rfl)
theorem dX5_leaves_13 : decode cX5_leaves 13 = .ok (.iaload, 1) := dk_46 (dk_at dksX5_leaves_0 13 rfl rfl)
theorem dX5_leaves_14 : decode cX5_leaves 14 = .ok (.iadd, 1) := dk_96 (dk_at dksX5_leaves_0 14 rfl rfl)
theorem dX5_leaves_15 : decode cX5_leaves 15 = .ok (.iload_n 1, 1) := dk_27 (dk_at dksX5_leaves_0 15 rfl rfl)
theorem dX5_leaves_16 : decode cX5_leaves 16 = .ok (.iastore, 1) := dk_79 (dk_at dksX5_leaves_0 16 rfl rfl)
theorem dX5_leaves_17 : decode cX5_leaves 17 = .ok (.aload_n 0, 1) := dk_42 (dk_at dksX5_leaves_0 17 rfl rfl)
theorem dX5_leaves_18 : decode cX5_leaves 18 = .ok (.getfield 33, 3) := dk_180 0 33 (dk_at dksX5_leaves_0 18 rfl rfl)
theorem dX5_leaves_21 : decode cX5_leaves 21 = .ok (.sipush 141, 3) := dk_17 0 141 (dk_at dksX5_leaves_0 21 rfl rfl)
theorem dX5_leaves_24 : decode cX5_leaves 24 = .ok (.aload_n 0, 1) := dk_42 (dk_at dksX5_leaves_1 0 rfl rfl)
theorem dX5_leaves_25 : decode cX5_leaves 25 = .ok (.getfield 33, 3) := dk_180 0 33 (dk_at dksX5_leaves_1 1 rfl rfl)
theorem dX5_leaves_28 : decode cX5_leaves 28 = .ok (.bipush 104, 2) := dk_16 104 (dk_at dksX5_leaves_1 4 rfl rfl)
theorem dX5_leaves_30 : decode cX5_leaves 30 = .ok (.iaload, 1) := dk_46 (dk_at dksX5_leaves_1 6 rfl rfl)
theorem dX5_leaves_31 : decode cX5_leaves 31 = .ok (.iadd, 1) := dk_96 (dk_at dksX5_leaves_1 7 rfl rfl)
theorem dX5_leaves_32 : decode cX5_leaves 32 = .ok (.iload_n 2, 1) := dk_28 (dk_at dksX5_leaves_1 8 rfl rfl)
theorem dX5_leaves_33 : decode cX5_leaves 33 = .ok (.iastore, 1) := dk_79 (dk_at dksX5_leaves_1 9 rfl rfl)
theorem dX5_leaves_34 : decode cX5_leaves 34 = .ok (.aload_n 0, 1) := dk_42 (dk_at dksX5_leaves_1 10 rfl rfl)
theorem dX5_leaves_35 : decode cX5_leaves 35 = .ok (.getfield 33, 3) := dk_180 0 33 (dk_at dksX5_leaves_1 11 rfl rfl)
theorem dX5_leaves_38 : decode cX5_leaves 38 = .ok (.sipush 153, 3) := dk_17 0 153 (dk_at dksX5_leaves_1 14 rfl rfl)
theorem dX5_leaves_41 : decode cX5_leaves 41 = .ok (.aload_n 0, 1) := dk_42 (dk_at dksX5_leaves_1 17 rfl rfl)
theorem dX5_leaves_42 : decode cX5_leaves 42 = .ok (.getfield 33, 3) := dk_180 0 33 (dk_at dksX5_leaves_1 18 rfl rfl)
theorem dX5_leaves_45 : decode cX5_leaves 45 = .ok (.bipush 104, 2) := dk_16 104 (dk_at dksX5_leaves_1 21 rfl rfl)
theorem dX5_leaves_47 : decode cX5_leaves 47 = .ok (.iaload, 1) := dk_46 (dk_at dksX5_leaves_1 23 rfl rfl)
theorem dX5_leaves_48 : decode cX5_leaves 48 = .ok (.iadd, 1) := dk_96 (dk_at dksX5_leaves_2 0 rfl rfl)
theorem dX5_leaves_49 : decode cX5_leaves 49 = .ok (.iload_n 3, 1) := dk_29 (dk_at dksX5_leaves_2 1 rfl rfl)
theorem dX5_leaves_50 : decode cX5_leaves 50 = .ok (.iastore, 1) := dk_79 (dk_at dksX5_leaves_2 2 rfl rfl)
theorem dX5_leaves_51 : decode cX5_leaves 51 = .ok (.aload_n 0, 1) := dk_42 (dk_at dksX5_leaves_2 3 rfl rfl)
theorem dX5_leaves_52 : decode cX5_leaves 52 = .ok (.getfield 33, 3) := dk_180 0 33 (dk_at dksX5_leaves_2 4 rfl rfl)
theorem dX5_leaves_55 : decode cX5_leaves 55 = .ok (.bipush 104, 2) := dk_16 104 (dk_at dksX5_leaves_2 7 rfl rfl)
theorem dX5_leaves_57 : decode cX5_leaves 57 = .ok (.dup2, 1) := dk_92 (dk_at dksX5_leaves_2 9 rfl rfl)
theorem dX5_leaves_58 : decode cX5_leaves 58 = .ok (.iaload, 1) := dk_46 (dk_at dksX5_leaves_2 10 rfl rfl)
theorem dX5_leaves_59 : decode cX5_leaves 59 = .ok (.iconst 1, 1) := dk_4 (dk_at dksX5_leaves_2 11 rfl rfl)
theorem dX5_leaves_60 : decode cX5_leaves 60 = .ok (.iadd, 1) := dk_96 (dk_at dksX5_leaves_2 12 rfl rfl)
theorem dX5_leaves_61 : decode cX5_leaves 61 = .ok (.iastore, 1) := dk_79 (dk_at dksX5_leaves_2 13 rfl rfl)
theorem dX5_leaves_62 : decode cX5_leaves 62 = .ok (.return_, 1) := dk_177 (dk_at dksX5_leaves_2 14 rfl rfl)
abbrev cX5_revoke : ByteArray := prog_29_method_74_code
def yX5_revoke : MethodName := ⟨RX5, "revoke", "(I)I"⟩
def dkwX5_revoke_1 : List UInt8 := [154, 0, 5, 4, 172, 42, 182, 1, 79, 42, 27, 182, 1, 63, 3, 172]
abbrev dktX5_revoke_1 : List UInt8 := dkwX5_revoke_1 ++ []
def dkwX5_revoke_0 : List UInt8 := [42, 3, 181, 0, 1, 42, 27, 182, 1, 28, 154, 0, 5, 2, 172, 42, 17, 0, 129, 27, 182, 1, 35]
abbrev dktX5_revoke_0 : List UInt8 := dkwX5_revoke_0 ++ dktX5_revoke_1
theorem dksX5_revoke_0 : cX5_revoke.data.toList.drop 0 = dktX5_revoke_0 := by decide +kernel
theorem dksX5_revoke_1 : cX5_revoke.data.toList.drop 23 = dktX5_revoke_1 := dk_seg dksX5_revoke_0 23 rfl rfl
theorem dX5_revoke_0 : decode cX5_revoke 0 = .ok (.aload_n 0, 1) := dk_42 (dk_at dksX5_revoke_0 0 rfl rfl)
theorem dX5_revoke_1 : decode cX5_revoke 1 = .ok (.iconst 0, 1) := dk_3 (dk_at dksX5_revoke_0 1 rfl rfl)
theorem dX5_revoke_2 : decode cX5_revoke 2 = .ok (.putfield 1, 3) := dk_181 0 1 (dk_at dksX5_revoke_0 2 rfl rfl)
theorem dX5_revoke_5 : decode cX5_revoke 5 = .ok (.aload_n 0, 1) := dk_42 (dk_at dksX5_revoke_0 5 rfl rfl)
theorem dX5_revoke_6 : decode cX5_revoke 6 = .ok (.iload_n 1, 1) := dk_27 (dk_at dksX5_revoke_0 6 rfl rfl)
theorem dX5_revoke_7 : decode cX5_revoke 7 = .ok (.invokevirtual 284, 3) := dk_182 1 28 (dk_at dksX5_revoke_0 7 rfl rfl)
theorem dX5_revoke_10 : decode cX5_revoke 10 = .ok (.ifCond .ne 5, 3) := dk_154 0 5 (dk_at dksX5_revoke_0 10 rfl rfl)
theorem dX5_revoke_13 : decode cX5_revoke 13 = .ok (.iconst (-1), 1) := dk_2 (dk_at dksX5_revoke_0 13 rfl rfl)
theorem dX5_revoke_14 : decode cX5_revoke 14 = .ok (.ireturn, 1) := dk_172 (dk_at dksX5_revoke_0 14 rfl rfl)
theorem dX5_revoke_15 : decode cX5_revoke 15 = .ok (.aload_n 0, 1) := dk_42 (dk_at dksX5_revoke_0 15 rfl rfl)
theorem dX5_revoke_16 : decode cX5_revoke 16 = .ok (.sipush 129, 3) := dk_17 0 129 (dk_at dksX5_revoke_0 16 rfl rfl)
theorem dX5_revoke_19 : decode cX5_revoke 19 = .ok (.iload_n 1, 1) := dk_27 (dk_at dksX5_revoke_0 19 rfl rfl)
theorem dX5_revoke_20 : decode cX5_revoke 20 = .ok (.invokevirtual 291, 3) := dk_182 1 35 (dk_at dksX5_revoke_0 20 rfl rfl)
theorem dX5_revoke_23 : decode cX5_revoke 23 = .ok (.ifCond .ne 5, 3) := dk_154 0 5 (dk_at dksX5_revoke_1 0 rfl rfl)
theorem dX5_revoke_26 : decode cX5_revoke 26 = .ok (.iconst 1, 1) := dk_4 (dk_at dksX5_revoke_1 3 rfl rfl)
theorem dX5_revoke_27 : decode cX5_revoke 27 = .ok (.ireturn, 1) := dk_172 (dk_at dksX5_revoke_1 4 rfl rfl)
theorem dX5_revoke_28 : decode cX5_revoke 28 = .ok (.aload_n 0, 1) := dk_42 (dk_at dksX5_revoke_1 5 rfl rfl)
theorem dX5_revoke_29 : decode cX5_revoke 29 = .ok (.invokevirtual 335, 3) := dk_182 1 79 (dk_at dksX5_revoke_1 6 rfl rfl)
theorem dX5_revoke_32 : decode cX5_revoke 32 = .ok (.aload_n 0, 1) := dk_42 (dk_at dksX5_revoke_1 9 rfl rfl)
theorem dX5_revoke_33 : decode cX5_revoke 33 = .ok (.iload_n 1, 1) := dk_27 (dk_at dksX5_revoke_1 10 rfl rfl)
theorem dX5_revoke_34 : decode cX5_revoke 34 = .ok (.invokevirtual 319, 3) := dk_182 1 63 (dk_at dksX5_revoke_1 11 rfl rfl)
theorem dX5_revoke_37 : decode cX5_revoke 37 = .ok (.iconst 0, 1) := dk_3 (dk_at dksX5_revoke_1 14 rfl rfl)
theorem dX5_revoke_38 : decode cX5_revoke 38 = .ok (.ireturn, 1) := dk_172 (dk_at dksX5_revoke_1 15 rfl rfl)
abbrev cX5_years : ByteArray := prog_29_method_75_code
def yX5_years : MethodName := ⟨RX5, "years", "(I)I"⟩
def dkwX5_years_1 : List UInt8 := [17, 0, 199, 160, 0, 5, 3, 172, 42, 182, 1, 79, 42, 27, 182, 1, 104, 172]
abbrev dktX5_years_1 : List UInt8 := dkwX5_years_1 ++ []
def dkwX5_years_0 : List UInt8 := [42, 3, 181, 0, 1, 27, 4, 16, 60, 184, 0, 190, 154, 0, 5, 2, 172, 42, 180, 0, 33, 16, 100, 46]
abbrev dktX5_years_0 : List UInt8 := dkwX5_years_0 ++ dktX5_years_1
theorem dksX5_years_0 : cX5_years.data.toList.drop 0 = dktX5_years_0 := by decide +kernel
theorem dksX5_years_1 : cX5_years.data.toList.drop 24 = dktX5_years_1 := dk_seg dksX5_years_0 24 rfl rfl
theorem dX5_years_0 : decode cX5_years 0 = .ok (.aload_n 0, 1) := dk_42 (dk_at dksX5_years_0 0 rfl rfl)
theorem dX5_years_1 : decode cX5_years 1 = .ok (.iconst 0, 1) := dk_3 (dk_at dksX5_years_0 1 rfl rfl)
theorem dX5_years_2 : decode cX5_years 2 = .ok (.putfield 1, 3) := dk_181 0 1 (dk_at dksX5_years_0 2 rfl rfl)
theorem dX5_years_5 : decode cX5_years 5 = .ok (.iload_n 1, 1) := dk_27 (dk_at dksX5_years_0 5 rfl rfl)
theorem dX5_years_6 : decode cX5_years 6 = .ok (.iconst 1, 1) := dk_4 (dk_at dksX5_years_0 6 rfl rfl)
theorem dX5_years_7 : decode cX5_years 7 = .ok (.bipush 60, 2) := dk_16 60 (dk_at dksX5_years_0 7 rfl rfl)
theorem dX5_years_9 : decode cX5_years 9 = .ok (.invokestatic 190, 3) := dk_184 0 190 (dk_at dksX5_years_0 9 rfl rfl)
theorem dX5_years_12 : decode cX5_years 12 = .ok (.ifCond .ne 5, 3) := dk_154 0 5 (dk_at dksX5_years_0 12 rfl rfl)
theorem dX5_years_15 : decode cX5_years 15 = .ok (.iconst (-1), 1) := dk_2 (dk_at dksX5_years_0 15 rfl rfl)
theorem dX5_years_16 : decode cX5_years 16 = .ok (.ireturn, 1) := dk_172 (dk_at dksX5_years_0 16 rfl rfl)
theorem dX5_years_17 : decode cX5_years 17 = .ok (.aload_n 0, 1) := dk_42 (dk_at dksX5_years_0 17 rfl rfl)
theorem dX5_years_18 : decode cX5_years 18 = .ok (.getfield 33, 3) := dk_180 0 33 (dk_at dksX5_years_0 18 rfl rfl)
theorem dX5_years_21 : decode cX5_years 21 = .ok (.bipush 100, 2) := dk_16 100 (dk_at dksX5_years_0 21 rfl rfl)
theorem dX5_years_23 : decode cX5_years 23 = .ok (.iaload, 1) := dk_46 (dk_at dksX5_years_0 23 rfl rfl)
theorem dX5_years_24 : decode cX5_years 24 = .ok (.sipush 199, 3) := dk_17 0 199 (dk_at dksX5_years_1 0 rfl rfl)
theorem dX5_years_27 : decode cX5_years 27 = .ok (.if_icmp .ne 5, 3) := dk_160 0 5 (dk_at dksX5_years_1 3 rfl rfl)
theorem dX5_years_30 : decode cX5_years 30 = .ok (.iconst 0, 1) := dk_3 (dk_at dksX5_years_1 6 rfl rfl)
theorem dX5_years_31 : decode cX5_years 31 = .ok (.ireturn, 1) := dk_172 (dk_at dksX5_years_1 7 rfl rfl)
theorem dX5_years_32 : decode cX5_years 32 = .ok (.aload_n 0, 1) := dk_42 (dk_at dksX5_years_1 8 rfl rfl)
theorem dX5_years_33 : decode cX5_years 33 = .ok (.invokevirtual 335, 3) := dk_182 1 79 (dk_at dksX5_years_1 9 rfl rfl)
theorem dX5_years_36 : decode cX5_years 36 = .ok (.aload_n 0, 1) := dk_42 (dk_at dksX5_years_1 12 rfl rfl)
theorem dX5_years_37 : decode cX5_years 37 = .ok (.iload_n 1, 1) := dk_27 (dk_at dksX5_years_1 13 rfl rfl)
theorem dX5_years_38 : decode cX5_years 38 = .ok (.invokevirtual 360, 3) := dk_182 1 104 (dk_at dksX5_years_1 14 rfl rfl)
theorem dX5_years_41 : decode cX5_years 41 = .ok (.ireturn, 1) := dk_172 (dk_at dksX5_years_1 17 rfl rfl)
abbrev cX5_goesOn : ByteArray := prog_29_method_67_code
def yX5_goesOn : MethodName := ⟨RX5, "goesOn", "(I)I"⟩
def dkwX5_goesOn_1 : List UInt8 := [132, 2, 1, 167, 255, 231, 28, 172]
abbrev dktX5_goesOn_1 : List UInt8 := dkwX5_goesOn_1 ++ []
def dkwX5_goesOn_0 : List UInt8 := [3, 61, 28, 27, 162, 0, 26, 42, 180, 0, 33, 16, 100, 46, 17, 0, 199, 162, 0, 13, 42, 182, 1, 76]
abbrev dktX5_goesOn_0 : List UInt8 := dkwX5_goesOn_0 ++ dktX5_goesOn_1
theorem dksX5_goesOn_0 : cX5_goesOn.data.toList.drop 0 = dktX5_goesOn_0 := by decide +kernel
theorem dksX5_goesOn_1 : cX5_goesOn.data.toList.drop 24 = dktX5_goesOn_1 := dk_seg dksX5_goesOn_0 24 rfl rfl
theorem dX5_goesOn_0 : decode cX5_goesOn 0 = .ok (.iconst 0, 1) := dk_3 (dk_at dksX5_goesOn_0 0 rfl rfl)
theorem dX5_goesOn_1 : decode cX5_goesOn 1 = .ok (.istore_n 2, 1) := dk_61 (dk_at dksX5_goesOn_0 1 rfl rfl)
theorem dX5_goesOn_2 : decode cX5_goesOn 2 = .ok (.iload_n 2, 1) := dk_28 (dk_at dksX5_goesOn_0 2 rfl rfl)
theorem dX5_goesOn_3 : decode cX5_goesOn 3 = .ok (.iload_n 1, 1) := dk_27 (dk_at dksX5_goesOn_0 3 rfl rfl)
theorem dX5_goesOn_4 : decode cX5_goesOn 4 = .ok (.if_icmp .ge 26, 3) := dk_162 0 26 (dk_at dksX5_goesOn_0 4 rfl rfl)
theorem dX5_goesOn_7 : decode cX5_goesOn 7 = .ok (.aload_n 0, 1) := dk_42 (dk_at dksX5_goesOn_0 7 rfl rfl)
theorem dX5_goesOn_8 : decode cX5_goesOn 8 = .ok (.getfield 33, 3) := dk_180 0 33 (dk_at dksX5_goesOn_0 8 rfl rfl)
theorem dX5_goesOn_11 : decode cX5_goesOn 11 = .ok (.bipush 100, 2) := dk_16 100 (dk_at dksX5_goesOn_0 11 rfl rfl)
theorem dX5_goesOn_13 : decode cX5_goesOn 13 = .ok (.iaload, 1) := dk_46 (dk_at dksX5_goesOn_0 13 rfl rfl)
theorem dX5_goesOn_14 : decode cX5_goesOn 14 = .ok (.sipush 199, 3) := dk_17 0 199 (dk_at dksX5_goesOn_0 14 rfl rfl)
theorem dX5_goesOn_17 : decode cX5_goesOn 17 = .ok (.if_icmp .ge 13, 3) := dk_162 0 13 (dk_at dksX5_goesOn_0 17 rfl rfl)
theorem dX5_goesOn_20 : decode cX5_goesOn 20 = .ok (.aload_n 0, 1) := dk_42 (dk_at dksX5_goesOn_0 20 rfl rfl)
theorem dX5_goesOn_21 : decode cX5_goesOn 21 = .ok (.invokevirtual 332, 3) := dk_182 1 76 (dk_at dksX5_goesOn_0 21 rfl rfl)
theorem dX5_goesOn_24 : decode cX5_goesOn 24 = .ok (.iinc 2 1, 3) := dk_132 2 1 (dk_at dksX5_goesOn_1 0 rfl rfl)
theorem dX5_goesOn_27 : decode cX5_goesOn 27 = .ok (.goto (-25), 3) := dk_167 255 231 (dk_at dksX5_goesOn_1 3 rfl rfl)
theorem dX5_goesOn_30 : decode cX5_goesOn 30 = .ok (.iload_n 2, 1) := dk_28 (dk_at dksX5_goesOn_1 6 rfl rfl)
theorem dX5_goesOn_31 : decode cX5_goesOn 31 = .ok (.ireturn, 1) := dk_172 (dk_at dksX5_goesOn_1 7 rfl rfl)
abbrev cX5_year : ByteArray := prog_29_method_66_code
def yX5_year : MethodName := ⟨RX5, "year", "()V"⟩
def dkwX5_year_2 : List UInt8 := [160, 0, 8, 42, 27, 182, 1, 73, 132, 1, 1, 167, 255, 211, 177]
abbrev dktX5_year_2 : List UInt8 := dkwX5_year_2 ++ []
def dkwX5_year_1 : List UInt8 := [27, 182, 1, 19, 153, 0, 27, 42, 180, 0, 33, 16, 51, 27, 96, 46, 42, 180, 0, 33, 16, 100, 46]
abbrev dktX5_year_1 : List UInt8 := dkwX5_year_1 ++ dktX5_year_2
def dkwX5_year_0 : List UInt8 := [42, 180, 0, 33, 16, 100, 92, 46, 4, 96, 79, 3, 60, 27, 42, 180, 0, 33, 3, 46, 162, 0, 41, 42]
abbrev dktX5_year_0 : List UInt8 := dkwX5_year_0 ++ dktX5_year_1
theorem dksX5_year_0 : cX5_year.data.toList.drop 0 = dktX5_year_0 := by decide +kernel
theorem dksX5_year_1 : cX5_year.data.toList.drop 24 = dktX5_year_1 := dk_seg dksX5_year_0 24 rfl rfl
theorem dksX5_year_2 : cX5_year.data.toList.drop 47 = dktX5_year_2 := dk_seg dksX5_year_1 23 rfl rfl
theorem dX5_year_0 : decode cX5_year 0 = .ok (.aload_n 0, 1) := dk_42 (dk_at dksX5_year_0 0 rfl rfl)
theorem dX5_year_1 : decode cX5_year 1 = .ok (.getfield 33, 3) := dk_180 0 33 (dk_at dksX5_year_0 1 rfl rfl)
theorem dX5_year_4 : decode cX5_year 4 = .ok (.bipush 100, 2) := dk_16 100 (dk_at dksX5_year_0 4 rfl rfl)
theorem dX5_year_6 : decode cX5_year 6 = .ok (.dup2, 1) := dk_92 (dk_at dksX5_year_0 6 rfl rfl)
theorem dX5_year_7 : decode cX5_year 7 = .ok (.iaload, 1) := dk_46 (dk_at dksX5_year_0 7 rfl rfl)
theorem dX5_year_8 : decode cX5_year 8 = .ok (.iconst 1, 1) := dk_4 (dk_at dksX5_year_0 8 rfl rfl)
theorem dX5_year_9 : decode cX5_year 9 = .ok (.iadd, 1) := dk_96 (dk_at dksX5_year_0 9 rfl rfl)
theorem dX5_year_10 : decode cX5_year 10 = .ok (.iastore, 1) := dk_79 (dk_at dksX5_year_0 10 rfl rfl)
theorem dX5_year_11 : decode cX5_year 11 = .ok (.iconst 0, 1) := dk_3 (dk_at dksX5_year_0 11 rfl rfl)
theorem dX5_year_12 : decode cX5_year 12 = .ok (.istore_n 1, 1) := dk_60 (dk_at dksX5_year_0 12 rfl rfl)
theorem dX5_year_13 : decode cX5_year 13 = .ok (.iload_n 1, 1) := dk_27 (dk_at dksX5_year_0 13 rfl rfl)
theorem dX5_year_14 : decode cX5_year 14 = .ok (.aload_n 0, 1) := dk_42 (dk_at dksX5_year_0 14 rfl rfl)
theorem dX5_year_15 : decode cX5_year 15 = .ok (.getfield 33, 3) := dk_180 0 33 (dk_at dksX5_year_0 15 rfl rfl)
theorem dX5_year_18 : decode cX5_year 18 = .ok (.iconst 0, 1) := dk_3 (dk_at dksX5_year_0 18 rfl rfl)
theorem dX5_year_19 : decode cX5_year 19 = .ok (.iaload, 1) := dk_46 (dk_at dksX5_year_0 19 rfl rfl)
theorem dX5_year_20 : decode cX5_year 20 = .ok (.if_icmp .ge 41, 3) := dk_162 0 41 (dk_at dksX5_year_0 20 rfl rfl)
theorem dX5_year_23 : decode cX5_year 23 = .ok (.aload_n 0, 1) := dk_42 (dk_at dksX5_year_0 23 rfl rfl)
theorem dX5_year_24 : decode cX5_year 24 = .ok (.iload_n 1, 1) := dk_27 (dk_at dksX5_year_1 0 rfl rfl)
theorem dX5_year_25 : decode cX5_year 25 = .ok (.invokevirtual 275, 3) := dk_182 1 19 (dk_at dksX5_year_1 1 rfl rfl)
theorem dX5_year_28 : decode cX5_year 28 = .ok (.ifCond .eq 27, 3) := dk_153 0 27 (dk_at dksX5_year_1 4 rfl rfl)
theorem dX5_year_31 : decode cX5_year 31 = .ok (.aload_n 0, 1) := dk_42 (dk_at dksX5_year_1 7 rfl rfl)
theorem dX5_year_32 : decode cX5_year 32 = .ok (.getfield 33, 3) := dk_180 0 33 (dk_at dksX5_year_1 8 rfl rfl)
theorem dX5_year_35 : decode cX5_year 35 = .ok (.bipush 51, 2) := dk_16 51 (dk_at dksX5_year_1 11 rfl rfl)
theorem dX5_year_37 : decode cX5_year 37 = .ok (.iload_n 1, 1) := dk_27 (dk_at dksX5_year_1 13 rfl rfl)
theorem dX5_year_38 : decode cX5_year 38 = .ok (.iadd, 1) := dk_96 (dk_at dksX5_year_1 14 rfl rfl)
theorem dX5_year_39 : decode cX5_year 39 = .ok (.iaload, 1) := dk_46 (dk_at dksX5_year_1 15 rfl rfl)
theorem dX5_year_40 : decode cX5_year 40 = .ok (.aload_n 0, 1) := dk_42 (dk_at dksX5_year_1 16 rfl rfl)
theorem dX5_year_41 : decode cX5_year 41 = .ok (.getfield 33, 3) := dk_180 0 33 (dk_at dksX5_year_1 17 rfl rfl)
theorem dX5_year_44 : decode cX5_year 44 = .ok (.bipush 100, 2) := dk_16 100 (dk_at dksX5_year_1 20 rfl rfl)
theorem dX5_year_46 : decode cX5_year 46 = .ok (.iaload, 1) := dk_46 (dk_at dksX5_year_1 22 rfl rfl)
theorem dX5_year_47 : decode cX5_year 47 = .ok (.if_icmp .ne 8, 3) := dk_160 0 8 (dk_at dksX5_year_2 0 rfl rfl)
theorem dX5_year_50 : decode cX5_year 50 = .ok (.aload_n 0, 1) := dk_42 (dk_at dksX5_year_2 3 rfl rfl)
theorem dX5_year_51 : decode cX5_year 51 = .ok (.iload_n 1, 1) := dk_27 (dk_at dksX5_year_2 4 rfl rfl)
theorem dX5_year_52 : decode cX5_year 52 = .ok (.invokevirtual 329, 3) := dk_182 1 73 (dk_at dksX5_year_2 5 rfl rfl)
theorem dX5_year_55 : decode cX5_year 55 = .ok (.iinc 1 1, 3) := dk_132 1 1 (dk_at dksX5_year_2 8 rfl rfl)
theorem dX5_year_58 : decode cX5_year 58 = .ok (.goto (-45), 3) := dk_167 255 211 (dk_at dksX5_year_2 11 rfl rfl)
theorem dX5_year_61 : decode cX5_year 61 = .ok (.return_, 1) := dk_177 (dk_at dksX5_year_2 14 rfl rfl)
abbrev cX5_undo : ByteArray := prog_29_method_77_code
def yX5_undo : MethodName := ⟨RX5, "undo", "()I"⟩
def dkwX5_undo_2 : List UInt8 := [180, 1, 7, 104, 27, 96, 46, 79, 132, 1, 1, 167, 255, 224, 42, 180, 1, 7, 172]
abbrev dktX5_undo_2 : List UInt8 := dkwX5_undo_2 ++ []
def dkwX5_undo_1 : List UInt8 := [3, 60, 27, 16, 65, 162, 0, 32, 42, 180, 0, 33, 16, 100, 27, 96, 42, 180, 0, 56, 16, 65, 42]
abbrev dktX5_undo_1 : List UInt8 := dkwX5_undo_1 ++ dktX5_undo_2
def dkwX5_undo_0 : List UInt8 := [42, 3, 181, 0, 1, 42, 180, 1, 7, 154, 0, 5, 2, 172, 42, 89, 180, 1, 7, 4, 100, 181, 1, 7]
abbrev dktX5_undo_0 : List UInt8 := dkwX5_undo_0 ++ dktX5_undo_1
theorem dksX5_undo_0 : cX5_undo.data.toList.drop 0 = dktX5_undo_0 := by decide +kernel
theorem dksX5_undo_1 : cX5_undo.data.toList.drop 24 = dktX5_undo_1 := dk_seg dksX5_undo_0 24 rfl rfl
theorem dksX5_undo_2 : cX5_undo.data.toList.drop 47 = dktX5_undo_2 := dk_seg dksX5_undo_1 23 rfl rfl
theorem dX5_undo_0 : decode cX5_undo 0 = .ok (.aload_n 0, 1) := dk_42 (dk_at dksX5_undo_0 0 rfl rfl)
theorem dX5_undo_1 : decode cX5_undo 1 = .ok (.iconst 0, 1) := dk_3 (dk_at dksX5_undo_0 1 rfl rfl)
theorem dX5_undo_2 : decode cX5_undo 2 = .ok (.putfield 1, 3) := dk_181 0 1 (dk_at dksX5_undo_0 2 rfl rfl)
theorem dX5_undo_5 : decode cX5_undo 5 = .ok (.aload_n 0, 1) := dk_42 (dk_at dksX5_undo_0 5 rfl rfl)
theorem dX5_undo_6 : decode cX5_undo 6 = .ok (.getfield 263, 3) := dk_180 1 7 (dk_at dksX5_undo_0 6 rfl rfl)
theorem dX5_undo_9 : decode cX5_undo 9 = .ok (.ifCond .ne 5, 3) := dk_154 0 5 (dk_at dksX5_undo_0 9 rfl rfl)
theorem dX5_undo_12 : decode cX5_undo 12 = .ok (.iconst (-1), 1) := dk_2 (dk_at dksX5_undo_0 12 rfl rfl)
theorem dX5_undo_13 : decode cX5_undo 13 = .ok (.ireturn, 1) := dk_172 (dk_at dksX5_undo_0 13 rfl rfl)
theorem dX5_undo_14 : decode cX5_undo 14 = .ok (.aload_n 0, 1) := dk_42 (dk_at dksX5_undo_0 14 rfl rfl)
theorem dX5_undo_15 : decode cX5_undo 15 = .ok (.dup, 1) := dk_89 (dk_at dksX5_undo_0 15 rfl rfl)
theorem dX5_undo_16 : decode cX5_undo 16 = .ok (.getfield 263, 3) := dk_180 1 7 (dk_at dksX5_undo_0 16 rfl rfl)
theorem dX5_undo_19 : decode cX5_undo 19 = .ok (.iconst 1, 1) := dk_4 (dk_at dksX5_undo_0 19 rfl rfl)
theorem dX5_undo_20 : decode cX5_undo 20 = .ok (.isub, 1) := dk_100 (dk_at dksX5_undo_0 20 rfl rfl)
theorem dX5_undo_21 : decode cX5_undo 21 = .ok (.putfield 263, 3) := dk_181 1 7 (dk_at dksX5_undo_0 21 rfl rfl)
theorem dX5_undo_24 : decode cX5_undo 24 = .ok (.iconst 0, 1) := dk_3 (dk_at dksX5_undo_1 0 rfl rfl)
theorem dX5_undo_25 : decode cX5_undo 25 = .ok (.istore_n 1, 1) := dk_60 (dk_at dksX5_undo_1 1 rfl rfl)
theorem dX5_undo_26 : decode cX5_undo 26 = .ok (.iload_n 1, 1) := dk_27 (dk_at dksX5_undo_1 2 rfl rfl)
theorem dX5_undo_27 : decode cX5_undo 27 = .ok (.bipush 65, 2) := dk_16 65 (dk_at dksX5_undo_1 3 rfl rfl)
theorem dX5_undo_29 : decode cX5_undo 29 = .ok (.if_icmp .ge 32, 3) := dk_162 0 32 (dk_at dksX5_undo_1 5 rfl rfl)
theorem dX5_undo_32 : decode cX5_undo 32 = .ok (.aload_n 0, 1) := dk_42 (dk_at dksX5_undo_1 8 rfl rfl)
theorem dX5_undo_33 : decode cX5_undo 33 = .ok (.getfield 33, 3) := dk_180 0 33 (dk_at dksX5_undo_1 9 rfl rfl)
theorem dX5_undo_36 : decode cX5_undo 36 = .ok (.bipush 100, 2) := dk_16 100 (dk_at dksX5_undo_1 12 rfl rfl)
theorem dX5_undo_38 : decode cX5_undo 38 = .ok (.iload_n 1, 1) := dk_27 (dk_at dksX5_undo_1 14 rfl rfl)
theorem dX5_undo_39 : decode cX5_undo 39 = .ok (.iadd, 1) := dk_96 (dk_at dksX5_undo_1 15 rfl rfl)
theorem dX5_undo_40 : decode cX5_undo 40 = .ok (.aload_n 0, 1) := dk_42 (dk_at dksX5_undo_1 16 rfl rfl)
theorem dX5_undo_41 : decode cX5_undo 41 = .ok (.getfield 56, 3) := dk_180 0 56 (dk_at dksX5_undo_1 17 rfl rfl)
theorem dX5_undo_44 : decode cX5_undo 44 = .ok (.bipush 65, 2) := dk_16 65 (dk_at dksX5_undo_1 20 rfl rfl)
theorem dX5_undo_46 : decode cX5_undo 46 = .ok (.aload_n 0, 1) := dk_42 (dk_at dksX5_undo_1 22 rfl rfl)
theorem dX5_undo_47 : decode cX5_undo 47 = .ok (.getfield 263, 3) := dk_180 1 7 (dk_at dksX5_undo_2 0 rfl rfl)
theorem dX5_undo_50 : decode cX5_undo 50 = .ok (.imul, 1) := dk_104 (dk_at dksX5_undo_2 3 rfl rfl)
theorem dX5_undo_51 : decode cX5_undo 51 = .ok (.iload_n 1, 1) := dk_27 (dk_at dksX5_undo_2 4 rfl rfl)
theorem dX5_undo_52 : decode cX5_undo 52 = .ok (.iadd, 1) := dk_96 (dk_at dksX5_undo_2 5 rfl rfl)
theorem dX5_undo_53 : decode cX5_undo 53 = .ok (.iaload, 1) := dk_46 (dk_at dksX5_undo_2 6 rfl rfl)
theorem dX5_undo_54 : decode cX5_undo 54 = .ok (.iastore, 1) := dk_79 (dk_at dksX5_undo_2 7 rfl rfl)
theorem dX5_undo_55 : decode cX5_undo 55 = .ok (.iinc 1 1, 3) := dk_132 1 1 (dk_at dksX5_undo_2 8 rfl rfl)
theorem dX5_undo_58 : decode cX5_undo 58 = .ok (.goto (-32), 3) := dk_167 255 224 (dk_at dksX5_undo_2 11 rfl rfl)
theorem dX5_undo_61 : decode cX5_undo 61 = .ok (.aload_n 0, 1) := dk_42 (dk_at dksX5_undo_2 14 rfl rfl)
theorem dX5_undo_62 : decode cX5_undo 62 = .ok (.getfield 263, 3) := dk_180 1 7 (dk_at dksX5_undo_2 15 rfl rfl)
theorem dX5_undo_65 : decode cX5_undo 65 = .ok (.ireturn, 1) := dk_172 (dk_at dksX5_undo_2 18 rfl rfl)
abbrev cX5_gets : ByteArray := prog_29_method_81_code
def yX5_gets : MethodName := ⟨RX5, "gets", "(II)I"⟩
def dkwX5_gets_2 : List UInt8 := [180, 0, 62, 16, 13, 27, 104, 28, 96, 46, 172]
abbrev dktX5_gets_2 : List UInt8 := dkwX5_gets_2 ++ []
def dkwX5_gets_1 : List UInt8 := [159, 0, 17, 28, 3, 42, 180, 0, 33, 3, 46, 184, 0, 190, 154, 0, 5, 2, 172, 42, 182, 1, 113, 42]
abbrev dktX5_gets_1 : List UInt8 := dkwX5_gets_1 ++ dktX5_gets_2
def dkwX5_gets_0 : List UInt8 := [42, 3, 181, 0, 1, 42, 27, 182, 1, 28, 153, 0, 30, 42, 27, 182, 1, 19, 153, 0, 22, 27, 28]
abbrev dktX5_gets_0 : List UInt8 := dkwX5_gets_0 ++ dktX5_gets_1
theorem dksX5_gets_0 : cX5_gets.data.toList.drop 0 = dktX5_gets_0 := by decide +kernel
theorem dksX5_gets_1 : cX5_gets.data.toList.drop 23 = dktX5_gets_1 := dk_seg dksX5_gets_0 23 rfl rfl
theorem dksX5_gets_2 : cX5_gets.data.toList.drop 47 = dktX5_gets_2 := dk_seg dksX5_gets_1 24 rfl rfl
theorem dX5_gets_0 : decode cX5_gets 0 = .ok (.aload_n 0, 1) := dk_42 (dk_at dksX5_gets_0 0 rfl rfl)
theorem dX5_gets_1 : decode cX5_gets 1 = .ok (.iconst 0, 1) := dk_3 (dk_at dksX5_gets_0 1 rfl rfl)
theorem dX5_gets_2 : decode cX5_gets 2 = .ok (.putfield 1, 3) := dk_181 0 1 (dk_at dksX5_gets_0 2 rfl rfl)
theorem dX5_gets_5 : decode cX5_gets 5 = .ok (.aload_n 0, 1) := dk_42 (dk_at dksX5_gets_0 5 rfl rfl)
theorem dX5_gets_6 : decode cX5_gets 6 = .ok (.iload_n 1, 1) := dk_27 (dk_at dksX5_gets_0 6 rfl rfl)
theorem dX5_gets_7 : decode cX5_gets 7 = .ok (.invokevirtual 284, 3) := dk_182 1 28 (dk_at dksX5_gets_0 7 rfl rfl)
theorem dX5_gets_10 : decode cX5_gets 10 = .ok (.ifCond .eq 30, 3) := dk_153 0 30 (dk_at dksX5_gets_0 10 rfl rfl)
theorem dX5_gets_13 : decode cX5_gets 13 = .ok (.aload_n 0, 1) := dk_42 (dk_at dksX5_gets_0 13 rfl rfl)
theorem dX5_gets_14 : decode cX5_gets 14 = .ok (.iload_n 1, 1) := dk_27 (dk_at dksX5_gets_0 14 rfl rfl)
theorem dX5_gets_15 : decode cX5_gets 15 = .ok (.invokevirtual 275, 3) := dk_182 1 19 (dk_at dksX5_gets_0 15 rfl rfl)
theorem dX5_gets_18 : decode cX5_gets 18 = .ok (.ifCond .eq 22, 3) := dk_153 0 22 (dk_at dksX5_gets_0 18 rfl rfl)
theorem dX5_gets_21 : decode cX5_gets 21 = .ok (.iload_n 1, 1) := dk_27 (dk_at dksX5_gets_0 21 rfl rfl)
theorem dX5_gets_22 : decode cX5_gets 22 = .ok (.iload_n 2, 1) := dk_28 (dk_at dksX5_gets_0 22 rfl rfl)
theorem dX5_gets_23 : decode cX5_gets 23 = .ok (.if_icmp .eq 17, 3) := dk_159 0 17 (dk_at dksX5_gets_1 0 rfl rfl)
theorem dX5_gets_26 : decode cX5_gets 26 = .ok (.iload_n 2, 1) := dk_28 (dk_at dksX5_gets_1 3 rfl rfl)
theorem dX5_gets_27 : decode cX5_gets 27 = .ok (.iconst 0, 1) := dk_3 (dk_at dksX5_gets_1 4 rfl rfl)
theorem dX5_gets_28 : decode cX5_gets 28 = .ok (.aload_n 0, 1) := dk_42 (dk_at dksX5_gets_1 5 rfl rfl)
theorem dX5_gets_29 : decode cX5_gets 29 = .ok (.getfield 33, 3) := dk_180 0 33 (dk_at dksX5_gets_1 6 rfl rfl)
theorem dX5_gets_32 : decode cX5_gets 32 = .ok (.iconst 0, 1) := dk_3 (dk_at dksX5_gets_1 9 rfl rfl)
theorem dX5_gets_33 : decode cX5_gets 33 = .ok (.iaload, 1) := dk_46 (dk_at dksX5_gets_1 10 rfl rfl)
theorem dX5_gets_34 : decode cX5_gets 34 = .ok (.invokestatic 190, 3) := dk_184 0 190 (dk_at dksX5_gets_1 11 rfl rfl)
theorem dX5_gets_37 : decode cX5_gets 37 = .ok (.ifCond .ne 5, 3) := dk_154 0 5 (dk_at dksX5_gets_1 14 rfl rfl)
theorem dX5_gets_40 : decode cX5_gets 40 = .ok (.iconst (-1), 1) := dk_2 (dk_at dksX5_gets_1 17 rfl rfl)
theorem dX5_gets_41 : decode cX5_gets 41 = .ok (.ireturn, 1) := dk_172 (dk_at dksX5_gets_1 18 rfl rfl)
theorem dX5_gets_42 : decode cX5_gets 42 = .ok (.aload_n 0, 1) := dk_42 (dk_at dksX5_gets_1 19 rfl rfl)
theorem dX5_gets_43 : decode cX5_gets 43 = .ok (.invokevirtual 369, 3) := dk_182 1 113 (dk_at dksX5_gets_1 20 rfl rfl)
theorem dX5_gets_46 : decode cX5_gets 46 = .ok (.aload_n 0, 1) := dk_42 (dk_at dksX5_gets_1 23 rfl rfl)
theorem dX5_gets_47 : decode cX5_gets 47 = .ok (.getfield 62, 3) := dk_180 0 62 (dk_at dksX5_gets_2 0 rfl rfl)
theorem dX5_gets_50 : decode cX5_gets 50 = .ok (.bipush 13, 2) := dk_16 13 (dk_at dksX5_gets_2 3 rfl rfl)
theorem dX5_gets_52 : decode cX5_gets 52 = .ok (.iload_n 1, 1) := dk_27 (dk_at dksX5_gets_2 5 rfl rfl)
theorem dX5_gets_53 : decode cX5_gets 53 = .ok (.imul, 1) := dk_104 (dk_at dksX5_gets_2 6 rfl rfl)
theorem dX5_gets_54 : decode cX5_gets 54 = .ok (.iload_n 2, 1) := dk_28 (dk_at dksX5_gets_2 7 rfl rfl)
theorem dX5_gets_55 : decode cX5_gets 55 = .ok (.iadd, 1) := dk_96 (dk_at dksX5_gets_2 8 rfl rfl)
theorem dX5_gets_56 : decode cX5_gets 56 = .ok (.iaload, 1) := dk_46 (dk_at dksX5_gets_2 9 rfl rfl)
theorem dX5_gets_57 : decode cX5_gets 57 = .ok (.ireturn, 1) := dk_172 (dk_at dksX5_gets_2 10 rfl rfl)
abbrev cX5_laysGains : ByteArray := prog_29_method_80_code
def yX5_laysGains : MethodName := ⟨RX5, "laysGains", "()V"⟩
def dkwX5_laysGains_5 : List UInt8 := [100, 79, 42, 182, 1, 110, 132, 1, 1, 167, 255, 134, 177]
abbrev dktX5_laysGains_5 : List UInt8 := dkwX5_laysGains_5 ++ []
def dkwX5_laysGains_4 : List UInt8 := [16, 13, 27, 104, 42, 180, 0, 33, 3, 46, 96, 42, 180, 0, 33, 16, 102, 46, 42, 180, 0, 59, 5, 46]
abbrev dktX5_laysGains_4 : List UInt8 := dkwX5_laysGains_4 ++ dktX5_laysGains_5
def dkwX5_laysGains_3 : List UInt8 := [28, 96, 46, 42, 180, 0, 59, 8, 28, 96, 46, 100, 79, 132, 2, 1, 167, 255, 205, 42, 180, 0, 62]
abbrev dktX5_laysGains_3 : List UInt8 := dkwX5_laysGains_3 ++ dktX5_laysGains_4
def dkwX5_laysGains_2 : List UInt8 := [180, 0, 62, 16, 13, 27, 104, 28, 96, 28, 27, 160, 0, 7, 2, 167, 0, 21, 42, 180, 0, 33, 16, 105]
abbrev dktX5_laysGains_2 : List UInt8 := dkwX5_laysGains_2 ++ dktX5_laysGains_3
def dkwX5_laysGains_1 : List UInt8 := [154, 0, 6, 167, 0, 98, 42, 27, 182, 1, 73, 3, 61, 28, 42, 180, 0, 33, 3, 46, 162, 0, 47, 42]
abbrev dktX5_laysGains_1 : List UInt8 := dkwX5_laysGains_1 ++ dktX5_laysGains_2
def dkwX5_laysGains_0 : List UInt8 := [42, 182, 1, 107, 3, 60, 27, 42, 180, 0, 33, 3, 46, 162, 0, 118, 42, 182, 1, 16, 27, 184, 0, 242]
abbrev dktX5_laysGains_0 : List UInt8 := dkwX5_laysGains_0 ++ dktX5_laysGains_1
theorem dksX5_laysGains_0 : cX5_laysGains.data.toList.drop 0 = dktX5_laysGains_0 := by decide +kernel
theorem dksX5_laysGains_1 : cX5_laysGains.data.toList.drop 24 = dktX5_laysGains_1 := dk_seg dksX5_laysGains_0 24 rfl rfl
theorem dksX5_laysGains_2 : cX5_laysGains.data.toList.drop 48 = dktX5_laysGains_2 := dk_seg dksX5_laysGains_1 24 rfl rfl
theorem dksX5_laysGains_3 : cX5_laysGains.data.toList.drop 72 = dktX5_laysGains_3 := dk_seg dksX5_laysGains_2 24 rfl rfl
theorem dksX5_laysGains_4 : cX5_laysGains.data.toList.drop 95 = dktX5_laysGains_4 := dk_seg dksX5_laysGains_3 23 rfl rfl
theorem dksX5_laysGains_5 : cX5_laysGains.data.toList.drop 119 = dktX5_laysGains_5 := dk_seg dksX5_laysGains_4 24 rfl rfl
theorem dX5_laysGains_0 : decode cX5_laysGains 0 = .ok (.aload_n 0, 1) := dk_42 (dk_at dksX5_laysGains_0 0 rfl rfl)
theorem dX5_laysGains_1 : decode cX5_laysGains 1 = .ok (.invokevirtual 363, 3) := dk_182 1 107 (dk_at dksX5_laysGains_0 1 rfl rfl)
theorem dX5_laysGains_4 : decode cX5_laysGains 4 = .ok (.iconst 0, 1) := dk_3 (dk_at dksX5_laysGains_0 4 rfl rfl)
theorem dX5_laysGains_5 : decode cX5_laysGains 5 = .ok (.istore_n 1, 1) := dk_60 (dk_at dksX5_laysGains_0 5 rfl rfl)
theorem dX5_laysGains_6 : decode cX5_laysGains 6 = .ok (.iload_n 1, 1) := dk_27 (dk_at dksX5_laysGains_0 6 rfl rfl)
theorem dX5_laysGains_7 : decode cX5_laysGains 7 = .ok (.aload_n 0, 1) := dk_42 (dk_at dksX5_laysGains_0 7 rfl rfl)
theorem dX5_laysGains_8 : decode cX5_laysGains 8 = .ok (.getfield 33, 3) := dk_180 0 33 (dk_at dksX5_laysGains_0 8 rfl rfl)
theorem dX5_laysGains_11 : decode cX5_laysGains 11 = .ok (.iconst 0, 1) := dk_3 (dk_at dksX5_laysGains_0 11 rfl rfl)
theorem dX5_laysGains_12 : decode cX5_laysGains 12 = .ok (.iaload, 1) := dk_46 (dk_at dksX5_laysGains_0 12 rfl rfl)
theorem dX5_laysGains_13 : decode cX5_laysGains 13 = .ok (.if_icmp .ge 118, 3) := dk_162 0 118 (dk_at dksX5_laysGains_0 13 rfl rfl)
theorem dX5_laysGains_16 : decode cX5_laysGains 16 = .ok (.aload_n 0, 1) := dk_42 (dk_at dksX5_laysGains_0 16 rfl rfl)
theorem dX5_laysGains_17 : decode cX5_laysGains 17 = .ok (.invokevirtual 272, 3) := dk_182 1 16 (dk_at dksX5_laysGains_0 17 rfl rfl)
theorem dX5_laysGains_20 : decode cX5_laysGains 20 = .ok (.iload_n 1, 1) := dk_27 (dk_at dksX5_laysGains_0 20 rfl rfl)
theorem dX5_laysGains_21 : decode cX5_laysGains 21 = .ok (.invokestatic 242, 3) := dk_184 0 242 (dk_at dksX5_laysGains_0 21 rfl rfl)
theorem dX5_laysGains_24 : decode cX5_laysGains 24 = .ok (.ifCond .ne 6, 3) := dk_154 0 6 (dk_at dksX5_laysGains_1 0 rfl rfl)
theorem dX5_laysGains_27 : decode cX5_laysGains 27 = .ok (.goto 98, 3) := dk_167 0 98 (dk_at dksX5_laysGains_1 3 rfl rfl)
theorem dX5_laysGains_30 : decode cX5_laysGains 30 = .ok (.aload_n 0, 1) := dk_42 (dk_at dksX5_laysGains_1 6 rfl rfl)
theorem dX5_laysGains_31 : decode cX5_laysGains 31 = .ok (.iload_n 1, 1) := dk_27 (dk_at dksX5_laysGains_1 7 rfl rfl)
theorem dX5_laysGains_32 : decode cX5_laysGains 32 = .ok (.invokevirtual 329, 3) := dk_182 1 73 (dk_at dksX5_laysGains_1 8 rfl rfl)
theorem dX5_laysGains_35 : decode cX5_laysGains 35 = .ok (.iconst 0, 1) := dk_3 (dk_at dksX5_laysGains_1 11 rfl rfl)
theorem dX5_laysGains_36 : decode cX5_laysGains 36 = .ok (.istore_n 2, 1) := dk_61 (dk_at dksX5_laysGains_1 12 rfl rfl)
theorem dX5_laysGains_37 : decode cX5_laysGains 37 = .ok (.iload_n 2, 1) := dk_28 (dk_at dksX5_laysGains_1 13 rfl rfl)
theorem dX5_laysGains_38 : decode cX5_laysGains 38 = .ok (.aload_n 0, 1) := dk_42 (dk_at dksX5_laysGains_1 14 rfl rfl)
theorem dX5_laysGains_39 : decode cX5_laysGains 39 = .ok (.getfield 33, 3) := dk_180 0 33 (dk_at dksX5_laysGains_1 15 rfl rfl)
theorem dX5_laysGains_42 : decode cX5_laysGains 42 = .ok (.iconst 0, 1) := dk_3 (dk_at dksX5_laysGains_1 18 rfl rfl)
theorem dX5_laysGains_43 : decode cX5_laysGains 43 = .ok (.iaload, 1) := dk_46 (dk_at dksX5_laysGains_1 19 rfl rfl)
theorem dX5_laysGains_44 : decode cX5_laysGains 44 = .ok (.if_icmp .ge 47, 3) := dk_162 0 47 (dk_at dksX5_laysGains_1 20 rfl rfl)
theorem dX5_laysGains_47 : decode cX5_laysGains 47 = .ok (.aload_n 0, 1) := dk_42 (dk_at dksX5_laysGains_1 23 rfl rfl)
theorem dX5_laysGains_48 : decode cX5_laysGains 48 = .ok (.getfield 62, 3) := dk_180 0 62 (dk_at dksX5_laysGains_2 0 rfl rfl)
theorem dX5_laysGains_51 : decode cX5_laysGains 51 = .ok (.bipush 13, 2) := dk_16 13 (dk_at dksX5_laysGains_2 3 rfl rfl)
theorem dX5_laysGains_53 : decode cX5_laysGains 53 = .ok (.iload_n 1, 1) := dk_27 (dk_at dksX5_laysGains_2 5 rfl rfl)
theorem dX5_laysGains_54 : decode cX5_laysGains 54 = .ok (.imul, 1) := dk_104 (dk_at dksX5_laysGains_2 6 rfl rfl)
theorem dX5_laysGains_55 : decode cX5_laysGains 55 = .ok (.iload_n 2, 1) := dk_28 (dk_at dksX5_laysGains_2 7 rfl rfl)
theorem dX5_laysGains_56 : decode cX5_laysGains 56 = .ok (.iadd, 1) := dk_96 (dk_at dksX5_laysGains_2 8 rfl rfl)
theorem dX5_laysGains_57 : decode cX5_laysGains 57 = .ok (.iload_n 2, 1) := dk_28 (dk_at dksX5_laysGains_2 9 rfl rfl)
theorem dX5_laysGains_58 : decode cX5_laysGains 58 = .ok (.iload_n 1, 1) := dk_27 (dk_at dksX5_laysGains_2 10 rfl rfl)
theorem dX5_laysGains_59 : decode cX5_laysGains 59 = .ok (.if_icmp .ne 7, 3) := dk_160 0 7 (dk_at dksX5_laysGains_2 11 rfl rfl)
theorem dX5_laysGains_62 : decode cX5_laysGains 62 = .ok (.iconst (-1), 1) := dk_2 (dk_at dksX5_laysGains_2 14 rfl rfl)
theorem dX5_laysGains_63 : decode cX5_laysGains 63 = .ok (.goto 21, 3) := dk_167 0 21 (dk_at dksX5_laysGains_2 15 rfl rfl)
theorem dX5_laysGains_66 : decode cX5_laysGains 66 = .ok (.aload_n 0, 1) := dk_42 (dk_at dksX5_laysGains_2 18 rfl rfl)
theorem dX5_laysGains_67 : decode cX5_laysGains 67 = .ok (.getfield 33, 3) := dk_180 0 33 (dk_at dksX5_laysGains_2 19 rfl rfl)
theorem dX5_laysGains_70 : decode cX5_laysGains 70 = .ok (.bipush 105, 2) := dk_16 105 (dk_at dksX5_laysGains_2 22 rfl rfl)
theorem dX5_laysGains_72 : decode cX5_laysGains 72 = .ok (.iload_n 2, 1) := dk_28 (dk_at dksX5_laysGains_3 0 rfl rfl)
theorem dX5_laysGains_73 : decode cX5_laysGains 73 = .ok (.iadd, 1) := dk_96 (dk_at dksX5_laysGains_3 1 rfl rfl)
theorem dX5_laysGains_74 : decode cX5_laysGains 74 = .ok (.iaload, 1) := dk_46 (dk_at dksX5_laysGains_3 2 rfl rfl)
theorem dX5_laysGains_75 : decode cX5_laysGains 75 = .ok (.aload_n 0, 1) := dk_42 (dk_at dksX5_laysGains_3 3 rfl rfl)
theorem dX5_laysGains_76 : decode cX5_laysGains 76 = .ok (.getfield 59, 3) := dk_180 0 59 (dk_at dksX5_laysGains_3 4 rfl rfl)
theorem dX5_laysGains_79 : decode cX5_laysGains 79 = .ok (.iconst 5, 1) := dk_8 (dk_at dksX5_laysGains_3 7 rfl rfl)
theorem dX5_laysGains_80 : decode cX5_laysGains 80 = .ok (.iload_n 2, 1) := dk_28 (dk_at dksX5_laysGains_3 8 rfl rfl)
theorem dX5_laysGains_81 : decode cX5_laysGains 81 = .ok (.iadd, 1) := dk_96 (dk_at dksX5_laysGains_3 9 rfl rfl)
theorem dX5_laysGains_82 : decode cX5_laysGains 82 = .ok (.iaload, 1) := dk_46 (dk_at dksX5_laysGains_3 10 rfl rfl)
theorem dX5_laysGains_83 : decode cX5_laysGains 83 = .ok (.isub, 1) := dk_100 (dk_at dksX5_laysGains_3 11 rfl rfl)
theorem dX5_laysGains_84 : decode cX5_laysGains 84 = .ok (.iastore, 1) := dk_79 (dk_at dksX5_laysGains_3 12 rfl rfl)
theorem dX5_laysGains_85 : decode cX5_laysGains 85 = .ok (.iinc 2 1, 3) := dk_132 2 1 (dk_at dksX5_laysGains_3 13 rfl rfl)
theorem dX5_laysGains_88 : decode cX5_laysGains 88 = .ok (.goto (-51), 3) := dk_167 255 205 (dk_at dksX5_laysGains_3 16 rfl rfl)
theorem dX5_laysGains_91 : decode cX5_laysGains 91 = .ok (.aload_n 0, 1) := dk_42 (dk_at dksX5_laysGains_3 19 rfl rfl)
theorem dX5_laysGains_92 : decode cX5_laysGains 92 = .ok (.getfield 62, 3) := dk_180 0 62 (dk_at dksX5_laysGains_3 20 rfl rfl)
theorem dX5_laysGains_95 : decode cX5_laysGains 95 = .ok (.bipush 13, 2) := dk_16 13 (dk_at dksX5_laysGains_4 0 rfl rfl)
theorem dX5_laysGains_97 : decode cX5_laysGains 97 = .ok (.iload_n 1, 1) := dk_27 (dk_at dksX5_laysGains_4 2 rfl rfl)
theorem dX5_laysGains_98 : decode cX5_laysGains 98 = .ok (.imul, 1) := dk_104 (dk_at dksX5_laysGains_4 3 rfl rfl)
theorem dX5_laysGains_99 : decode cX5_laysGains 99 = .ok (.aload_n 0, 1) := dk_42 (dk_at dksX5_laysGains_4 4 rfl rfl)
theorem dX5_laysGains_100 : decode cX5_laysGains 100 = .ok (.getfield 33, 3) := dk_180 0 33 (dk_at dksX5_laysGains_4 5 rfl rfl)
theorem dX5_laysGains_103 : decode cX5_laysGains 103 = .ok (.iconst 0, 1) := dk_3 (dk_at dksX5_laysGains_4 8 rfl rfl)
theorem dX5_laysGains_104 : decode cX5_laysGains 104 = .ok (.iaload, 1) := dk_46 (dk_at dksX5_laysGains_4 9 rfl rfl)
theorem dX5_laysGains_105 : decode cX5_laysGains 105 = .ok (.iadd, 1) := dk_96 (dk_at dksX5_laysGains_4 10 rfl rfl)
theorem dX5_laysGains_106 : decode cX5_laysGains 106 = .ok (.aload_n 0, 1) := dk_42 (dk_at dksX5_laysGains_4 11 rfl rfl)
theorem dX5_laysGains_107 : decode cX5_laysGains 107 = .ok (.getfield 33, 3) := dk_180 0 33 (dk_at dksX5_laysGains_4 12 rfl rfl)
theorem dX5_laysGains_110 : decode cX5_laysGains 110 = .ok (.bipush 102, 2) := dk_16 102 (dk_at dksX5_laysGains_4 15 rfl rfl)
theorem dX5_laysGains_112 : decode cX5_laysGains 112 = .ok (.iaload, 1) := dk_46 (dk_at dksX5_laysGains_4 17 rfl rfl)
theorem dX5_laysGains_113 : decode cX5_laysGains 113 = .ok (.aload_n 0, 1) := dk_42 (dk_at dksX5_laysGains_4 18 rfl rfl)
theorem dX5_laysGains_114 : decode cX5_laysGains 114 = .ok (.getfield 59, 3) := dk_180 0 59 (dk_at dksX5_laysGains_4 19 rfl rfl)
theorem dX5_laysGains_117 : decode cX5_laysGains 117 = .ok (.iconst 2, 1) := dk_5 (dk_at dksX5_laysGains_4 22 rfl rfl)
theorem dX5_laysGains_118 : decode cX5_laysGains 118 = .ok (.iaload, 1) := dk_46 (dk_at dksX5_laysGains_4 23 rfl rfl)
theorem dX5_laysGains_119 : decode cX5_laysGains 119 = .ok (.isub, 1) := dk_100 (dk_at dksX5_laysGains_5 0 rfl rfl)
theorem dX5_laysGains_120 : decode cX5_laysGains 120 = .ok (.iastore, 1) := dk_79 (dk_at dksX5_laysGains_5 1 rfl rfl)
theorem dX5_laysGains_121 : decode cX5_laysGains 121 = .ok (.aload_n 0, 1) := dk_42 (dk_at dksX5_laysGains_5 2 rfl rfl)
theorem dX5_laysGains_122 : decode cX5_laysGains 122 = .ok (.invokevirtual 366, 3) := dk_182 1 110 (dk_at dksX5_laysGains_5 3 rfl rfl)
theorem dX5_laysGains_125 : decode cX5_laysGains 125 = .ok (.iinc 1 1, 3) := dk_132 1 1 (dk_at dksX5_laysGains_5 6 rfl rfl)
theorem dX5_laysGains_128 : decode cX5_laysGains 128 = .ok (.goto (-122), 3) := dk_167 255 134 (dk_at dksX5_laysGains_5 9 rfl rfl)
theorem dX5_laysGains_131 : decode cX5_laysGains 131 = .ok (.return_, 1) := dk_177 (dk_at dksX5_laysGains_5 12 rfl rfl)
abbrev cX5_tries : ByteArray := prog_29_method_78_code
def yX5_tries : MethodName := ⟨RX5, "tries", "()V"⟩
def dkwX5_tries_1 : List UInt8 := [132, 1, 1, 167, 255, 232, 177]
abbrev dktX5_tries_1 : List UInt8 := dkwX5_tries_1 ++ []
def dkwX5_tries_0 : List UInt8 := [3, 60, 27, 16, 65, 162, 0, 24, 42, 180, 0, 59, 27, 42, 180, 0, 33, 16, 100, 27, 96, 46, 79]
abbrev dktX5_tries_0 : List UInt8 := dkwX5_tries_0 ++ dktX5_tries_1
theorem dksX5_tries_0 : cX5_tries.data.toList.drop 0 = dktX5_tries_0 := by decide +kernel
theorem dksX5_tries_1 : cX5_tries.data.toList.drop 23 = dktX5_tries_1 := dk_seg dksX5_tries_0 23 rfl rfl
theorem dX5_tries_0 : decode cX5_tries 0 = .ok (.iconst 0, 1) := dk_3 (dk_at dksX5_tries_0 0 rfl rfl)
theorem dX5_tries_1 : decode cX5_tries 1 = .ok (.istore_n 1, 1) := dk_60 (dk_at dksX5_tries_0 1 rfl rfl)
theorem dX5_tries_2 : decode cX5_tries 2 = .ok (.iload_n 1, 1) := dk_27 (dk_at dksX5_tries_0 2 rfl rfl)
theorem dX5_tries_3 : decode cX5_tries 3 = .ok (.bipush 65, 2) := dk_16 65 (dk_at dksX5_tries_0 3 rfl rfl)
theorem dX5_tries_5 : decode cX5_tries 5 = .ok (.if_icmp .ge 24, 3) := dk_162 0 24 (dk_at dksX5_tries_0 5 rfl rfl)
theorem dX5_tries_8 : decode cX5_tries 8 = .ok (.aload_n 0, 1) := dk_42 (dk_at dksX5_tries_0 8 rfl rfl)
theorem dX5_tries_9 : decode cX5_tries 9 = .ok (.getfield 59, 3) := dk_180 0 59 (dk_at dksX5_tries_0 9 rfl rfl)
theorem dX5_tries_12 : decode cX5_tries 12 = .ok (.iload_n 1, 1) := dk_27 (dk_at dksX5_tries_0 12 rfl rfl)
theorem dX5_tries_13 : decode cX5_tries 13 = .ok (.aload_n 0, 1) := dk_42 (dk_at dksX5_tries_0 13 rfl rfl)
theorem dX5_tries_14 : decode cX5_tries 14 = .ok (.getfield 33, 3) := dk_180 0 33 (dk_at dksX5_tries_0 14 rfl rfl)
theorem dX5_tries_17 : decode cX5_tries 17 = .ok (.bipush 100, 2) := dk_16 100 (dk_at dksX5_tries_0 17 rfl rfl)
theorem dX5_tries_19 : decode cX5_tries 19 = .ok (.iload_n 1, 1) := dk_27 (dk_at dksX5_tries_0 19 rfl rfl)
theorem dX5_tries_20 : decode cX5_tries 20 = .ok (.iadd, 1) := dk_96 (dk_at dksX5_tries_0 20 rfl rfl)
theorem dX5_tries_21 : decode cX5_tries 21 = .ok (.iaload, 1) := dk_46 (dk_at dksX5_tries_0 21 rfl rfl)
theorem dX5_tries_22 : decode cX5_tries 22 = .ok (.iastore, 1) := dk_79 (dk_at dksX5_tries_0 22 rfl rfl)
theorem dX5_tries_23 : decode cX5_tries 23 = .ok (.iinc 1 1, 3) := dk_132 1 1 (dk_at dksX5_tries_1 0 rfl rfl)
theorem dX5_tries_26 : decode cX5_tries 26 = .ok (.goto (-24), 3) := dk_167 255 232 (dk_at dksX5_tries_1 3 rfl rfl)
theorem dX5_tries_29 : decode cX5_tries 29 = .ok (.return_, 1) := dk_177 (dk_at dksX5_tries_1 6 rfl rfl)
abbrev cX5_back : ByteArray := prog_29_method_79_code
def yX5_back : MethodName := ⟨RX5, "back", "()V"⟩
def dkwX5_back_1 : List UInt8 := [132, 1, 1, 167, 255, 232, 177]
abbrev dktX5_back_1 : List UInt8 := dkwX5_back_1 ++ []
def dkwX5_back_0 : List UInt8 := [3, 60, 27, 16, 65, 162, 0, 24, 42, 180, 0, 33, 16, 100, 27, 96, 42, 180, 0, 59, 27, 46, 79]
abbrev dktX5_back_0 : List UInt8 := dkwX5_back_0 ++ dktX5_back_1
theorem dksX5_back_0 : cX5_back.data.toList.drop 0 = dktX5_back_0 := by decide +kernel
theorem dksX5_back_1 : cX5_back.data.toList.drop 23 = dktX5_back_1 := dk_seg dksX5_back_0 23 rfl rfl
theorem dX5_back_0 : decode cX5_back 0 = .ok (.iconst 0, 1) := dk_3 (dk_at dksX5_back_0 0 rfl rfl)
theorem dX5_back_1 : decode cX5_back 1 = .ok (.istore_n 1, 1) := dk_60 (dk_at dksX5_back_0 1 rfl rfl)
theorem dX5_back_2 : decode cX5_back 2 = .ok (.iload_n 1, 1) := dk_27 (dk_at dksX5_back_0 2 rfl rfl)
theorem dX5_back_3 : decode cX5_back 3 = .ok (.bipush 65, 2) := dk_16 65 (dk_at dksX5_back_0 3 rfl rfl)
theorem dX5_back_5 : decode cX5_back 5 = .ok (.if_icmp .ge 24, 3) := dk_162 0 24 (dk_at dksX5_back_0 5 rfl rfl)
theorem dX5_back_8 : decode cX5_back 8 = .ok (.aload_n 0, 1) := dk_42 (dk_at dksX5_back_0 8 rfl rfl)
theorem dX5_back_9 : decode cX5_back 9 = .ok (.getfield 33, 3) := dk_180 0 33 (dk_at dksX5_back_0 9 rfl rfl)
theorem dX5_back_12 : decode cX5_back 12 = .ok (.bipush 100, 2) := dk_16 100 (dk_at dksX5_back_0 12 rfl rfl)
theorem dX5_back_14 : decode cX5_back 14 = .ok (.iload_n 1, 1) := dk_27 (dk_at dksX5_back_0 14 rfl rfl)
theorem dX5_back_15 : decode cX5_back 15 = .ok (.iadd, 1) := dk_96 (dk_at dksX5_back_0 15 rfl rfl)
theorem dX5_back_16 : decode cX5_back 16 = .ok (.aload_n 0, 1) := dk_42 (dk_at dksX5_back_0 16 rfl rfl)
theorem dX5_back_17 : decode cX5_back 17 = .ok (.getfield 59, 3) := dk_180 0 59 (dk_at dksX5_back_0 17 rfl rfl)
theorem dX5_back_20 : decode cX5_back 20 = .ok (.iload_n 1, 1) := dk_27 (dk_at dksX5_back_0 20 rfl rfl)
theorem dX5_back_21 : decode cX5_back 21 = .ok (.iaload, 1) := dk_46 (dk_at dksX5_back_0 21 rfl rfl)
theorem dX5_back_22 : decode cX5_back 22 = .ok (.iastore, 1) := dk_79 (dk_at dksX5_back_0 22 rfl rfl)
theorem dX5_back_23 : decode cX5_back 23 = .ok (.iinc 1 1, 3) := dk_132 1 1 (dk_at dksX5_back_1 0 rfl rfl)
theorem dX5_back_26 : decode cX5_back 26 = .ok (.goto (-24), 3) := dk_167 255 232 (dk_at dksX5_back_1 3 rfl rfl)
theorem dX5_back_29 : decode cX5_back 29 = .ok (.return_, 1) := dk_177 (dk_at dksX5_back_1 6 rfl rfl)
abbrev cX5_after : ByteArray := prog_29_method_83_code
def yX5_after : MethodName := ⟨RX5, "after", "()I"⟩
def dkwX5_after_4 : List UInt8 := [167, 255, 228, 42, 180, 0, 33, 16, 102, 46, 60, 42, 182, 1, 110, 27, 172]
abbrev dktX5_after_4 : List UInt8 := dkwX5_after_4 ++ []
def dkwX5_after_3 : List UInt8 := [46, 162, 0, 24, 42, 180, 0, 65, 27, 42, 180, 0, 33, 16, 105, 27, 96, 46, 79, 132, 1, 1]
abbrev dktX5_after_3 : List UInt8 := dkwX5_after_3 ++ dktX5_after_4
def dkwX5_after_2 : List UInt8 := [132, 1, 1, 167, 255, 236, 42, 42, 180, 0, 33, 3, 46, 181, 0, 68, 3, 60, 27, 42, 180, 0, 33, 3]
abbrev dktX5_after_2 : List UInt8 := dkwX5_after_2 ++ dktX5_after_3
def dkwX5_after_1 : List UInt8 := [42, 182, 1, 107, 3, 60, 27, 42, 180, 0, 18, 162, 0, 18, 42, 42, 27, 182, 1, 116, 182, 1, 73]
abbrev dktX5_after_1 : List UInt8 := dkwX5_after_1 ++ dktX5_after_2
def dkwX5_after_0 : List UInt8 := [42, 3, 181, 0, 1, 42, 17, 3, 172, 182, 0, 251, 42, 16, 6, 2, 182, 1, 119, 156, 0, 5, 2, 172]
abbrev dktX5_after_0 : List UInt8 := dkwX5_after_0 ++ dktX5_after_1
theorem dksX5_after_0 : cX5_after.data.toList.drop 0 = dktX5_after_0 := by decide +kernel
theorem dksX5_after_1 : cX5_after.data.toList.drop 24 = dktX5_after_1 := dk_seg dksX5_after_0 24 rfl rfl
theorem dksX5_after_2 : cX5_after.data.toList.drop 47 = dktX5_after_2 := dk_seg dksX5_after_1 23 rfl rfl
theorem dksX5_after_3 : cX5_after.data.toList.drop 71 = dktX5_after_3 := dk_seg dksX5_after_2 24 rfl rfl
theorem dksX5_after_4 : cX5_after.data.toList.drop 93 = dktX5_after_4 := dk_seg dksX5_after_3 22 rfl rfl
theorem dX5_after_0 : decode cX5_after 0 = .ok (.aload_n 0, 1) := dk_42 (dk_at dksX5_after_0 0 rfl rfl)
theorem dX5_after_1 : decode cX5_after 1 = .ok (.iconst 0, 1) := dk_3 (dk_at dksX5_after_0 1 rfl rfl)
theorem dX5_after_2 : decode cX5_after 2 = .ok (.putfield 1, 3) := dk_181 0 1 (dk_at dksX5_after_0 2 rfl rfl)
theorem dX5_after_5 : decode cX5_after 5 = .ok (.aload_n 0, 1) := dk_42 (dk_at dksX5_after_0 5 rfl rfl)
theorem dX5_after_6 : decode cX5_after 6 = .ok (.sipush 940, 3) := dk_17 3 172 (dk_at dksX5_after_0 6 rfl rfl)
theorem dX5_after_9 : decode cX5_after 9 = .ok (.invokevirtual 251, 3) := dk_182 0 251 (dk_at dksX5_after_0 9 rfl rfl)
theorem dX5_after_12 : decode cX5_after 12 = .ok (.aload_n 0, 1) := dk_42 (dk_at dksX5_after_0 12 rfl rfl)
theorem dX5_after_13 : decode cX5_after 13 = .ok (.bipush 6, 2) := dk_16 6 (dk_at dksX5_after_0 13 rfl rfl)
theorem dX5_after_15 : decode cX5_after 15 = .ok (.iconst (-1), 1) := dk_2 (dk_at dksX5_after_0 15 rfl rfl)
theorem dX5_after_16 : decode cX5_after 16 = .ok (.invokevirtual 375, 3) := dk_182 1 119 (dk_at dksX5_after_0 16 rfl rfl)
theorem dX5_after_19 : decode cX5_after 19 = .ok (.ifCond .ge 5, 3) := dk_156 0 5 (dk_at dksX5_after_0 19 rfl rfl)
theorem dX5_after_22 : decode cX5_after 22 = .ok (.iconst (-1), 1) := dk_2 (dk_at dksX5_after_0 22 rfl rfl)
theorem dX5_after_23 : decode cX5_after 23 = .ok (.ireturn, 1) := dk_172 (dk_at dksX5_after_0 23 rfl rfl)
theorem dX5_after_24 : decode cX5_after 24 = .ok (.aload_n 0, 1) := dk_42 (dk_at dksX5_after_1 0 rfl rfl)
theorem dX5_after_25 : decode cX5_after 25 = .ok (.invokevirtual 363, 3) := dk_182 1 107 (dk_at dksX5_after_1 1 rfl rfl)
theorem dX5_after_28 : decode cX5_after 28 = .ok (.iconst 0, 1) := dk_3 (dk_at dksX5_after_1 4 rfl rfl)
theorem dX5_after_29 : decode cX5_after 29 = .ok (.istore_n 1, 1) := dk_60 (dk_at dksX5_after_1 5 rfl rfl)
theorem dX5_after_30 : decode cX5_after 30 = .ok (.iload_n 1, 1) := dk_27 (dk_at dksX5_after_1 6 rfl rfl)
theorem dX5_after_31 : decode cX5_after 31 = .ok (.aload_n 0, 1) := dk_42 (dk_at dksX5_after_1 7 rfl rfl)
theorem dX5_after_32 : decode cX5_after 32 = .ok (.getfield 18, 3) := dk_180 0 18 (dk_at dksX5_after_1 8 rfl rfl)
theorem dX5_after_35 : decode cX5_after 35 = .ok (.if_icmp .ge 18, 3) := dk_162 0 18 (dk_at dksX5_after_1 11 rfl rfl)
theorem dX5_after_38 : decode cX5_after 38 = .ok (.aload_n 0, 1) := dk_42 (dk_at dksX5_after_1 14 rfl rfl)
theorem dX5_after_39 : decode cX5_after 39 = .ok (.aload_n 0, 1) := dk_42 (dk_at dksX5_after_1 15 rfl rfl)
theorem dX5_after_40 : decode cX5_after 40 = .ok (.iload_n 1, 1) := dk_27 (dk_at dksX5_after_1 16 rfl rfl)
theorem dX5_after_41 : decode cX5_after 41 = .ok (.invokevirtual 372, 3) := dk_182 1 116 (dk_at dksX5_after_1 17 rfl rfl)
theorem dX5_after_44 : decode cX5_after 44 = .ok (.invokevirtual 329, 3) := dk_182 1 73 (dk_at dksX5_after_1 20 rfl rfl)
theorem dX5_after_47 : decode cX5_after 47 = .ok (.iinc 1 1, 3) := dk_132 1 1 (dk_at dksX5_after_2 0 rfl rfl)
theorem dX5_after_50 : decode cX5_after 50 = .ok (.goto (-20), 3) := dk_167 255 236 (dk_at dksX5_after_2 3 rfl rfl)
theorem dX5_after_53 : decode cX5_after 53 = .ok (.aload_n 0, 1) := dk_42 (dk_at dksX5_after_2 6 rfl rfl)
theorem dX5_after_54 : decode cX5_after 54 = .ok (.aload_n 0, 1) := dk_42 (dk_at dksX5_after_2 7 rfl rfl)
theorem dX5_after_55 : decode cX5_after 55 = .ok (.getfield 33, 3) := dk_180 0 33 (dk_at dksX5_after_2 8 rfl rfl)
theorem dX5_after_58 : decode cX5_after 58 = .ok (.iconst 0, 1) := dk_3 (dk_at dksX5_after_2 11 rfl rfl)
theorem dX5_after_59 : decode cX5_after 59 = .ok (.iaload, 1) := dk_46 (dk_at dksX5_after_2 12 rfl rfl)
theorem dX5_after_60 : decode cX5_after 60 = .ok (.putfield 68, 3) := dk_181 0 68 (dk_at dksX5_after_2 13 rfl rfl)
theorem dX5_after_63 : decode cX5_after 63 = .ok (.iconst 0, 1) := dk_3 (dk_at dksX5_after_2 16 rfl rfl)
theorem dX5_after_64 : decode cX5_after 64 = .ok (.istore_n 1, 1) := dk_60 (dk_at dksX5_after_2 17 rfl rfl)
theorem dX5_after_65 : decode cX5_after 65 = .ok (.iload_n 1, 1) := dk_27 (dk_at dksX5_after_2 18 rfl rfl)
theorem dX5_after_66 : decode cX5_after 66 = .ok (.aload_n 0, 1) := dk_42 (dk_at dksX5_after_2 19 rfl rfl)
theorem dX5_after_67 : decode cX5_after 67 = .ok (.getfield 33, 3) := dk_180 0 33 (dk_at dksX5_after_2 20 rfl rfl)
theorem dX5_after_70 : decode cX5_after 70 = .ok (.iconst 0, 1) := dk_3 (dk_at dksX5_after_2 23 rfl rfl)
theorem dX5_after_71 : decode cX5_after 71 = .ok (.iaload, 1) := dk_46 (dk_at dksX5_after_3 0 rfl rfl)
theorem dX5_after_72 : decode cX5_after 72 = .ok (.if_icmp .ge 24, 3) := dk_162 0 24 (dk_at dksX5_after_3 1 rfl rfl)
theorem dX5_after_75 : decode cX5_after 75 = .ok (.aload_n 0, 1) := dk_42 (dk_at dksX5_after_3 4 rfl rfl)
theorem dX5_after_76 : decode cX5_after 76 = .ok (.getfield 65, 3) := dk_180 0 65 (dk_at dksX5_after_3 5 rfl rfl)
theorem dX5_after_79 : decode cX5_after 79 = .ok (.iload_n 1, 1) := dk_27 (dk_at dksX5_after_3 8 rfl rfl)
theorem dX5_after_80 : decode cX5_after 80 = .ok (.aload_n 0, 1) := dk_42 (dk_at dksX5_after_3 9 rfl rfl)
theorem dX5_after_81 : decode cX5_after 81 = .ok (.getfield 33, 3) := dk_180 0 33 (dk_at dksX5_after_3 10 rfl rfl)
theorem dX5_after_84 : decode cX5_after 84 = .ok (.bipush 105, 2) := dk_16 105 (dk_at dksX5_after_3 13 rfl rfl)
theorem dX5_after_86 : decode cX5_after 86 = .ok (.iload_n 1, 1) := dk_27 (dk_at dksX5_after_3 15 rfl rfl)
theorem dX5_after_87 : decode cX5_after 87 = .ok (.iadd, 1) := dk_96 (dk_at dksX5_after_3 16 rfl rfl)
theorem dX5_after_88 : decode cX5_after 88 = .ok (.iaload, 1) := dk_46 (dk_at dksX5_after_3 17 rfl rfl)
theorem dX5_after_89 : decode cX5_after 89 = .ok (.iastore, 1) := dk_79 (dk_at dksX5_after_3 18 rfl rfl)
theorem dX5_after_90 : decode cX5_after 90 = .ok (.iinc 1 1, 3) := dk_132 1 1 (dk_at dksX5_after_3 19 rfl rfl)
theorem dX5_after_93 : decode cX5_after 93 = .ok (.goto (-28), 3) := dk_167 255 228 (dk_at dksX5_after_4 0 rfl rfl)
theorem dX5_after_96 : decode cX5_after 96 = .ok (.aload_n 0, 1) := dk_42 (dk_at dksX5_after_4 3 rfl rfl)
theorem dX5_after_97 : decode cX5_after 97 = .ok (.getfield 33, 3) := dk_180 0 33 (dk_at dksX5_after_4 4 rfl rfl)
theorem dX5_after_100 : decode cX5_after 100 = .ok (.bipush 102, 2) := dk_16 102 (dk_at dksX5_after_4 7 rfl rfl)
theorem dX5_after_102 : decode cX5_after 102 = .ok (.iaload, 1) := dk_46 (dk_at dksX5_after_4 9 rfl rfl)
theorem dX5_after_103 : decode cX5_after 103 = .ok (.istore_n 1, 1) := dk_60 (dk_at dksX5_after_4 10 rfl rfl)
theorem dX5_after_104 : decode cX5_after 104 = .ok (.aload_n 0, 1) := dk_42 (dk_at dksX5_after_4 11 rfl rfl)
theorem dX5_after_105 : decode cX5_after 105 = .ok (.invokevirtual 366, 3) := dk_182 1 110 (dk_at dksX5_after_4 12 rfl rfl)
theorem dX5_after_108 : decode cX5_after 108 = .ok (.iload_n 1, 1) := dk_27 (dk_at dksX5_after_4 15 rfl rfl)
theorem dX5_after_109 : decode cX5_after 109 = .ok (.ireturn, 1) := dk_172 (dk_at dksX5_after_4 16 rfl rfl)
abbrev cX5_toldLiving : ByteArray := prog_29_method_82_code
def yX5_toldLiving : MethodName := ⟨RX5, "toldLiving", "(II)I"⟩
def dkwX5_toldLiving_3 : List UInt8 := [172, 29, 4, 21, 5, 120, 128, 62, 132, 4, 1, 167, 255, 194, 29, 172]
abbrev dktX5_toldLiving_3 : List UInt8 := dkwX5_toldLiving_3 ++ []
def dkwX5_toldLiving_2 : List UInt8 := [21, 5, 182, 1, 19, 153, 0, 18, 21, 5, 28, 159, 0, 12, 29, 21, 5, 184, 0, 242, 153, 0, 5, 2]
abbrev dktX5_toldLiving_2 : List UInt8 := dkwX5_toldLiving_2 ++ dktX5_toldLiving_3
def dkwX5_toldLiving_1 : List UInt8 := [180, 0, 18, 162, 0, 59, 42, 21, 4, 182, 1, 116, 54, 5, 42, 21, 5, 182, 1, 28, 153, 0, 27, 42]
abbrev dktX5_toldLiving_1 : List UInt8 := dkwX5_toldLiving_1 ++ dktX5_toldLiving_2
def dkwX5_toldLiving_0 : List UInt8 := [42, 180, 0, 18, 4, 27, 184, 0, 190, 154, 0, 5, 2, 172, 3, 62, 3, 54, 4, 21, 4, 42]
abbrev dktX5_toldLiving_0 : List UInt8 := dkwX5_toldLiving_0 ++ dktX5_toldLiving_1
theorem dksX5_toldLiving_0 : cX5_toldLiving.data.toList.drop 0 = dktX5_toldLiving_0 := by decide +kernel
theorem dksX5_toldLiving_1 : cX5_toldLiving.data.toList.drop 22 = dktX5_toldLiving_1 := dk_seg dksX5_toldLiving_0 22 rfl rfl
theorem dksX5_toldLiving_2 : cX5_toldLiving.data.toList.drop 46 = dktX5_toldLiving_2 := dk_seg dksX5_toldLiving_1 24 rfl rfl
theorem dksX5_toldLiving_3 : cX5_toldLiving.data.toList.drop 70 = dktX5_toldLiving_3 := dk_seg dksX5_toldLiving_2 24 rfl rfl
theorem dX5_toldLiving_0 : decode cX5_toldLiving 0 = .ok (.aload_n 0, 1) := dk_42 (dk_at dksX5_toldLiving_0 0 rfl rfl)
theorem dX5_toldLiving_1 : decode cX5_toldLiving 1 = .ok (.getfield 18, 3) := dk_180 0 18 (dk_at dksX5_toldLiving_0 1 rfl rfl)
theorem dX5_toldLiving_4 : decode cX5_toldLiving 4 = .ok (.iconst 1, 1) := dk_4 (dk_at dksX5_toldLiving_0 4 rfl rfl)
theorem dX5_toldLiving_5 : decode cX5_toldLiving 5 = .ok (.iload_n 1, 1) := dk_27 (dk_at dksX5_toldLiving_0 5 rfl rfl)
theorem dX5_toldLiving_6 : decode cX5_toldLiving 6 = .ok (.invokestatic 190, 3) := dk_184 0 190 (dk_at dksX5_toldLiving_0 6 rfl rfl)
theorem dX5_toldLiving_9 : decode cX5_toldLiving 9 = .ok (.ifCond .ne 5, 3) := dk_154 0 5 (dk_at dksX5_toldLiving_0 9 rfl rfl)
theorem dX5_toldLiving_12 : decode cX5_toldLiving 12 = .ok (.iconst (-1), 1) := dk_2 (dk_at dksX5_toldLiving_0 12 rfl rfl)
theorem dX5_toldLiving_13 : decode cX5_toldLiving 13 = .ok (.ireturn, 1) := dk_172 (dk_at dksX5_toldLiving_0 13 rfl rfl)
theorem dX5_toldLiving_14 : decode cX5_toldLiving 14 = .ok (.iconst 0, 1) := dk_3 (dk_at dksX5_toldLiving_0 14 rfl rfl)
theorem dX5_toldLiving_15 : decode cX5_toldLiving 15 = .ok (.istore_n 3, 1) := dk_62 (dk_at dksX5_toldLiving_0 15 rfl rfl)
theorem dX5_toldLiving_16 : decode cX5_toldLiving 16 = .ok (.iconst 0, 1) := dk_3 (dk_at dksX5_toldLiving_0 16 rfl rfl)
theorem dX5_toldLiving_17 : decode cX5_toldLiving 17 = .ok (.istore 4, 2) := dk_54 4 (dk_at dksX5_toldLiving_0 17 rfl rfl)
theorem dX5_toldLiving_19 : decode cX5_toldLiving 19 = .ok (.iload 4, 2) := dk_21 4 (dk_at dksX5_toldLiving_0 19 rfl rfl)
theorem dX5_toldLiving_21 : decode cX5_toldLiving 21 = .ok (.aload_n 0, 1) := dk_42 (dk_at dksX5_toldLiving_0 21 rfl rfl)
theorem dX5_toldLiving_22 : decode cX5_toldLiving 22 = .ok (.getfield 18, 3) := dk_180 0 18 (dk_at dksX5_toldLiving_1 0 rfl rfl)
theorem dX5_toldLiving_25 : decode cX5_toldLiving 25 = .ok (.if_icmp .ge 59, 3) := dk_162 0 59 (dk_at dksX5_toldLiving_1 3 rfl rfl)
theorem dX5_toldLiving_28 : decode cX5_toldLiving 28 = .ok (.aload_n 0, 1) := dk_42 (dk_at dksX5_toldLiving_1 6 rfl rfl)
theorem dX5_toldLiving_29 : decode cX5_toldLiving 29 = .ok (.iload 4, 2) := dk_21 4 (dk_at dksX5_toldLiving_1 7 rfl rfl)
theorem dX5_toldLiving_31 : decode cX5_toldLiving 31 = .ok (.invokevirtual 372, 3) := dk_182 1 116 (dk_at dksX5_toldLiving_1 9 rfl rfl)
theorem dX5_toldLiving_34 : decode cX5_toldLiving 34 = .ok (.istore 5, 2) := dk_54 5 (dk_at dksX5_toldLiving_1 12 rfl rfl)
theorem dX5_toldLiving_36 : decode cX5_toldLiving 36 = .ok (.aload_n 0, 1) := dk_42 (dk_at dksX5_toldLiving_1 14 rfl rfl)
theorem dX5_toldLiving_37 : decode cX5_toldLiving 37 = .ok (.iload 5, 2) := dk_21 5 (dk_at dksX5_toldLiving_1 15 rfl rfl)
theorem dX5_toldLiving_39 : decode cX5_toldLiving 39 = .ok (.invokevirtual 284, 3) := dk_182 1 28 (dk_at dksX5_toldLiving_1 17 rfl rfl)
theorem dX5_toldLiving_42 : decode cX5_toldLiving 42 = .ok (.ifCond .eq 27, 3) := dk_153 0 27 (dk_at dksX5_toldLiving_1 20 rfl rfl)
theorem dX5_toldLiving_45 : decode cX5_toldLiving 45 = .ok (.aload_n 0, 1) := dk_42 (dk_at dksX5_toldLiving_1 23 rfl rfl)
theorem dX5_toldLiving_46 : decode cX5_toldLiving 46 = .ok (.iload 5, 2) := dk_21 5 (dk_at dksX5_toldLiving_2 0 rfl rfl)
theorem dX5_toldLiving_48 : decode cX5_toldLiving 48 = .ok (.invokevirtual 275, 3) := dk_182 1 19 (dk_at dksX5_toldLiving_2 2 rfl rfl)
theorem dX5_toldLiving_51 : decode cX5_toldLiving 51 = .ok (.ifCond .eq 18, 3) := dk_153 0 18 (dk_at dksX5_toldLiving_2 5 rfl rfl)
theorem dX5_toldLiving_54 : decode cX5_toldLiving 54 = .ok (.iload 5, 2) := dk_21 5 (dk_at dksX5_toldLiving_2 8 rfl rfl)
theorem dX5_toldLiving_56 : decode cX5_toldLiving 56 = .ok (.iload_n 2, 1) := dk_28 (dk_at dksX5_toldLiving_2 10 rfl rfl)
theorem dX5_toldLiving_57 : decode cX5_toldLiving 57 = .ok (.if_icmp .eq 12, 3) := dk_159 0 12 (dk_at dksX5_toldLiving_2 11 rfl rfl)
theorem dX5_toldLiving_60 : decode cX5_toldLiving 60 = .ok (.iload_n 3, 1) := dk_29 (dk_at dksX5_toldLiving_2 14 rfl rfl)
theorem dX5_toldLiving_61 : decode cX5_toldLiving 61 = .ok (.iload 5, 2) := dk_21 5 (dk_at dksX5_toldLiving_2 15 rfl rfl)
theorem dX5_toldLiving_63 : decode cX5_toldLiving 63 = .ok (.invokestatic 242, 3) := dk_184 0 242 (dk_at dksX5_toldLiving_2 17 rfl rfl)
theorem dX5_toldLiving_66 : decode cX5_toldLiving 66 = .ok (.ifCond .eq 5, 3) := dk_153 0 5 (dk_at dksX5_toldLiving_2 20 rfl rfl)
theorem dX5_toldLiving_69 : decode cX5_toldLiving 69 = .ok (.iconst (-1), 1) := dk_2 (dk_at dksX5_toldLiving_2 23 rfl rfl)
theorem dX5_toldLiving_70 : decode cX5_toldLiving 70 = .ok (.ireturn, 1) := dk_172 (dk_at dksX5_toldLiving_3 0 rfl rfl)
theorem dX5_toldLiving_71 : decode cX5_toldLiving 71 = .ok (.iload_n 3, 1) := dk_29 (dk_at dksX5_toldLiving_3 1 rfl rfl)
theorem dX5_toldLiving_72 : decode cX5_toldLiving 72 = .ok (.iconst 1, 1) := dk_4 (dk_at dksX5_toldLiving_3 2 rfl rfl)
theorem dX5_toldLiving_73 : decode cX5_toldLiving 73 = .ok (.iload 5, 2) := dk_21 5 (dk_at dksX5_toldLiving_3 3 rfl rfl)
theorem dX5_toldLiving_75 : decode cX5_toldLiving 75 = .ok (.ishl, 1) := dk_120 (dk_at dksX5_toldLiving_3 5 rfl rfl)
theorem dX5_toldLiving_76 : decode cX5_toldLiving 76 = .ok (.ior, 1) := dk_128 (dk_at dksX5_toldLiving_3 6 rfl rfl)
theorem dX5_toldLiving_77 : decode cX5_toldLiving 77 = .ok (.istore_n 3, 1) := dk_62 (dk_at dksX5_toldLiving_3 7 rfl rfl)
theorem dX5_toldLiving_78 : decode cX5_toldLiving 78 = .ok (.iinc 4 1, 3) := dk_132 4 1 (dk_at dksX5_toldLiving_3 8 rfl rfl)
theorem dX5_toldLiving_81 : decode cX5_toldLiving 81 = .ok (.goto (-62), 3) := dk_167 255 194 (dk_at dksX5_toldLiving_3 11 rfl rfl)
theorem dX5_toldLiving_84 : decode cX5_toldLiving 84 = .ok (.iload_n 3, 1) := dk_29 (dk_at dksX5_toldLiving_3 14 rfl rfl)
theorem dX5_toldLiving_85 : decode cX5_toldLiving 85 = .ok (.ireturn, 1) := dk_172 (dk_at dksX5_toldLiving_3 15 rfl rfl)
abbrev cX5_octet : ByteArray := prog_29_method_12_code
def yX5_octet : MethodName := ⟨RX5, "octet", "(I)I"⟩
def dkwX5_octet_0 : List UInt8 := [42, 180, 0, 14, 27, 51, 17, 0, 255, 126, 172]
abbrev dktX5_octet_0 : List UInt8 := dkwX5_octet_0 ++ []
theorem dksX5_octet_0 : cX5_octet.data.toList.drop 0 = dktX5_octet_0 := by decide +kernel
theorem dX5_octet_0 : decode cX5_octet 0 = .ok (.aload_n 0, 1) := dk_42 (dk_at dksX5_octet_0 0 rfl rfl)
theorem dX5_octet_1 : decode cX5_octet 1 = .ok (.getfield 14, 3) := dk_180 0 14 (dk_at dksX5_octet_0 1 rfl rfl)
theorem dX5_octet_4 : decode cX5_octet 4 = .ok (.iload_n 1, 1) := dk_27 (dk_at dksX5_octet_0 4 rfl rfl)
theorem dX5_octet_5 : decode cX5_octet 5 = .ok (.baload, 1) := dk_51 (dk_at dksX5_octet_0 5 rfl rfl)
theorem dX5_octet_6 : decode cX5_octet 6 = .ok (.sipush 255, 3) := dk_17 0 255 (dk_at dksX5_octet_0 6 rfl rfl)
theorem dX5_octet_9 : decode cX5_octet 9 = .ok (.iand, 1) := dk_126 (dk_at dksX5_octet_0 9 rfl rfl)
theorem dX5_octet_10 : decode cX5_octet 10 = .ok (.ireturn, 1) := dk_172 (dk_at dksX5_octet_0 10 rfl rfl)
abbrev cX5_afterOf : ByteArray := prog_29_method_84_code
def yX5_afterOf : MethodName := ⟨RX5, "afterOf", "(I)I"⟩
def dkwX5_afterOf_1 : List UInt8 := [46, 167, 0, 4, 2, 172]
abbrev dktX5_afterOf_1 : List UInt8 := dkwX5_afterOf_1 ++ []
def dkwX5_afterOf_0 : List UInt8 := [42, 3, 181, 0, 1, 27, 3, 42, 180, 0, 68, 4, 100, 184, 0, 190, 153, 0, 12, 42, 180, 0, 65, 27]
abbrev dktX5_afterOf_0 : List UInt8 := dkwX5_afterOf_0 ++ dktX5_afterOf_1
theorem dksX5_afterOf_0 : cX5_afterOf.data.toList.drop 0 = dktX5_afterOf_0 := by decide +kernel
theorem dksX5_afterOf_1 : cX5_afterOf.data.toList.drop 24 = dktX5_afterOf_1 := dk_seg dksX5_afterOf_0 24 rfl rfl
theorem dX5_afterOf_0 : decode cX5_afterOf 0 = .ok (.aload_n 0, 1) := dk_42 (dk_at dksX5_afterOf_0 0 rfl rfl)
theorem dX5_afterOf_1 : decode cX5_afterOf 1 = .ok (.iconst 0, 1) := dk_3 (dk_at dksX5_afterOf_0 1 rfl rfl)
theorem dX5_afterOf_2 : decode cX5_afterOf 2 = .ok (.putfield 1, 3) := dk_181 0 1 (dk_at dksX5_afterOf_0 2 rfl rfl)
theorem dX5_afterOf_5 : decode cX5_afterOf 5 = .ok (.iload_n 1, 1) := dk_27 (dk_at dksX5_afterOf_0 5 rfl rfl)
theorem dX5_afterOf_6 : decode cX5_afterOf 6 = .ok (.iconst 0, 1) := dk_3 (dk_at dksX5_afterOf_0 6 rfl rfl)
theorem dX5_afterOf_7 : decode cX5_afterOf 7 = .ok (.aload_n 0, 1) := dk_42 (dk_at dksX5_afterOf_0 7 rfl rfl)
theorem dX5_afterOf_8 : decode cX5_afterOf 8 = .ok (.getfield 68, 3) := dk_180 0 68 (dk_at dksX5_afterOf_0 8 rfl rfl)
theorem dX5_afterOf_11 : decode cX5_afterOf 11 = .ok (.iconst 1, 1) := dk_4 (dk_at dksX5_afterOf_0 11 rfl rfl)
theorem dX5_afterOf_12 : decode cX5_afterOf 12 = .ok (.isub, 1) := dk_100 (dk_at dksX5_afterOf_0 12 rfl rfl)
theorem dX5_afterOf_13 : decode cX5_afterOf 13 = .ok (.invokestatic 190, 3) := dk_184 0 190 (dk_at dksX5_afterOf_0 13 rfl rfl)
theorem dX5_afterOf_16 : decode cX5_afterOf 16 = .ok (.ifCond .eq 12, 3) := dk_153 0 12 (dk_at dksX5_afterOf_0 16 rfl rfl)
theorem dX5_afterOf_19 : decode cX5_afterOf 19 = .ok (.aload_n 0, 1) := dk_42 (dk_at dksX5_afterOf_0 19 rfl rfl)
theorem dX5_afterOf_20 : decode cX5_afterOf 20 = .ok (.getfield 65, 3) := dk_180 0 65 (dk_at dksX5_afterOf_0 20 rfl rfl)
theorem dX5_afterOf_23 : decode cX5_afterOf 23 = .ok (.iload_n 1, 1) := dk_27 (dk_at dksX5_afterOf_0 23 rfl rfl)
theorem dX5_afterOf_24 : decode cX5_afterOf 24 = .ok (.iaload, 1) := dk_46 (dk_at dksX5_afterOf_1 0 rfl rfl)
theorem dX5_afterOf_25 : decode cX5_afterOf 25 = .ok (.goto 4, 3) := dk_167 0 4 (dk_at dksX5_afterOf_1 1 rfl rfl)
theorem dX5_afterOf_28 : decode cX5_afterOf 28 = .ok (.iconst (-1), 1) := dk_2 (dk_at dksX5_afterOf_1 4 rfl rfl)
theorem dX5_afterOf_29 : decode cX5_afterOf 29 = .ok (.ireturn, 1) := dk_172 (dk_at dksX5_afterOf_1 5 rfl rfl)
abbrev cX5_best : ByteArray := prog_29_method_88_code
def yX5_best : MethodName := ⟨RX5, "best", "(I)I"⟩
def dkwX5_best_9 : List UInt8 := [132, 7, 1, 167, 255, 229, 21, 5, 172]
abbrev dktX5_best_9 : List UInt8 := dkwX5_best_9 ++ []
def dkwX5_best_8 : List UInt8 := [29, 162, 0, 27, 42, 180, 0, 71, 21, 7, 21, 6, 29, 4, 100, 21, 7, 100, 184, 1, 122, 79]
abbrev dktX5_best_8 : List UInt8 := dkwX5_best_8 ++ dktX5_best_9
def dkwX5_best_7 : List UInt8 := [4, 96, 28, 29, 21, 4, 184, 1, 128, 54, 7, 167, 255, 176, 42, 29, 181, 0, 74, 3, 54, 7, 21, 7]
abbrev dktX5_best_7 : List UInt8 := dkwX5_best_7 ++ dktX5_best_8
def dkwX5_best_6 : List UInt8 := [164, 0, 18, 42, 180, 0, 33, 16, 105, 27, 96, 46, 54, 5, 21, 7, 54, 6, 42, 182, 1, 110, 21, 7]
abbrev dktX5_best_6 : List UInt8 := dkwX5_best_6 ++ dktX5_best_7
def dkwX5_best_5 : List UInt8 := [184, 1, 122, 182, 1, 73, 132, 8, 255, 167, 255, 237, 42, 180, 0, 33, 16, 105, 27, 96, 46, 21, 5]
abbrev dktX5_best_5 : List UInt8 := dkwX5_best_5 ++ dktX5_best_6
def dkwX5_best_4 : List UInt8 := [54, 7, 21, 7, 21, 4, 162, 0, 79, 29, 4, 100, 54, 8, 21, 8, 155, 0, 20, 42, 21, 7, 21, 8]
abbrev dktX5_best_4 : List UInt8 := dkwX5_best_4 ++ dktX5_best_5
def dkwX5_best_3 : List UInt8 := [132, 5, 1, 167, 255, 240, 2, 54, 5, 3, 54, 6, 42, 182, 1, 107, 3, 28, 29, 21, 4, 184, 1, 128]
abbrev dktX5_best_3 : List UInt8 := dkwX5_best_3 ++ dktX5_best_4
def dkwX5_best_2 : List UInt8 := [180, 0, 18, 62, 4, 54, 4, 3, 54, 5, 21, 5, 29, 162, 0, 16, 21, 4, 16, 12, 104, 54, 4]
abbrev dktX5_best_2 : List UInt8 := dkwX5_best_2 ++ dktX5_best_3
def dkwX5_best_1 : List UInt8 := [182, 1, 19, 154, 0, 5, 2, 172, 42, 8, 27, 182, 1, 119, 61, 28, 156, 0, 5, 2, 172, 42]
abbrev dktX5_best_1 : List UInt8 := dkwX5_best_1 ++ dktX5_best_2
def dkwX5_best_0 : List UInt8 := [42, 3, 181, 0, 1, 42, 17, 3, 172, 182, 0, 251, 42, 27, 182, 1, 28, 153, 0, 11, 42, 27]
abbrev dktX5_best_0 : List UInt8 := dkwX5_best_0 ++ dktX5_best_1
theorem dksX5_best_0 : cX5_best.data.toList.drop 0 = dktX5_best_0 := by decide +kernel
theorem dksX5_best_1 : cX5_best.data.toList.drop 22 = dktX5_best_1 := dk_seg dksX5_best_0 22 rfl rfl
theorem dksX5_best_2 : cX5_best.data.toList.drop 44 = dktX5_best_2 := dk_seg dksX5_best_1 22 rfl rfl
theorem dksX5_best_3 : cX5_best.data.toList.drop 67 = dktX5_best_3 := dk_seg dksX5_best_2 23 rfl rfl
theorem dksX5_best_4 : cX5_best.data.toList.drop 91 = dktX5_best_4 := dk_seg dksX5_best_3 24 rfl rfl
theorem dksX5_best_5 : cX5_best.data.toList.drop 115 = dktX5_best_5 := dk_seg dksX5_best_4 24 rfl rfl
theorem dksX5_best_6 : cX5_best.data.toList.drop 138 = dktX5_best_6 := dk_seg dksX5_best_5 23 rfl rfl
theorem dksX5_best_7 : cX5_best.data.toList.drop 162 = dktX5_best_7 := dk_seg dksX5_best_6 24 rfl rfl
theorem dksX5_best_8 : cX5_best.data.toList.drop 186 = dktX5_best_8 := dk_seg dksX5_best_7 24 rfl rfl
theorem dksX5_best_9 : cX5_best.data.toList.drop 208 = dktX5_best_9 := dk_seg dksX5_best_8 22 rfl rfl
theorem dX5_best_0 : decode cX5_best 0 = .ok (.aload_n 0, 1) := dk_42 (dk_at dksX5_best_0 0 rfl rfl)
theorem dX5_best_1 : decode cX5_best 1 = .ok (.iconst 0, 1) := dk_3 (dk_at dksX5_best_0 1 rfl rfl)
theorem dX5_best_2 : decode cX5_best 2 = .ok (.putfield 1, 3) := dk_181 0 1 (dk_at dksX5_best_0 2 rfl rfl)
theorem dX5_best_5 : decode cX5_best 5 = .ok (.aload_n 0, 1) := dk_42 (dk_at dksX5_best_0 5 rfl rfl)
theorem dX5_best_6 : decode cX5_best 6 = .ok (.sipush 940, 3) := dk_17 3 172 (dk_at dksX5_best_0 6 rfl rfl)
theorem dX5_best_9 : decode cX5_best 9 = .ok (.invokevirtual 251, 3) := dk_182 0 251 (dk_at dksX5_best_0 9 rfl rfl)
theorem dX5_best_12 : decode cX5_best 12 = .ok (.aload_n 0, 1) := dk_42 (dk_at dksX5_best_0 12 rfl rfl)
theorem dX5_best_13 : decode cX5_best 13 = .ok (.iload_n 1, 1) := dk_27 (dk_at dksX5_best_0 13 rfl rfl)
theorem dX5_best_14 : decode cX5_best 14 = .ok (.invokevirtual 284, 3) := dk_182 1 28 (dk_at dksX5_best_0 14 rfl rfl)
theorem dX5_best_17 : decode cX5_best 17 = .ok (.ifCond .eq 11, 3) := dk_153 0 11 (dk_at dksX5_best_0 17 rfl rfl)
theorem dX5_best_20 : decode cX5_best 20 = .ok (.aload_n 0, 1) := dk_42 (dk_at dksX5_best_0 20 rfl rfl)
theorem dX5_best_21 : decode cX5_best 21 = .ok (.iload_n 1, 1) := dk_27 (dk_at dksX5_best_0 21 rfl rfl)
theorem dX5_best_22 : decode cX5_best 22 = .ok (.invokevirtual 275, 3) := dk_182 1 19 (dk_at dksX5_best_1 0 rfl rfl)
theorem dX5_best_25 : decode cX5_best 25 = .ok (.ifCond .ne 5, 3) := dk_154 0 5 (dk_at dksX5_best_1 3 rfl rfl)
theorem dX5_best_28 : decode cX5_best 28 = .ok (.iconst (-1), 1) := dk_2 (dk_at dksX5_best_1 6 rfl rfl)
theorem dX5_best_29 : decode cX5_best 29 = .ok (.ireturn, 1) := dk_172 (dk_at dksX5_best_1 7 rfl rfl)
theorem dX5_best_30 : decode cX5_best 30 = .ok (.aload_n 0, 1) := dk_42 (dk_at dksX5_best_1 8 rfl rfl)
theorem dX5_best_31 : decode cX5_best 31 = .ok (.iconst 5, 1) := dk_8 (dk_at dksX5_best_1 9 rfl rfl)
theorem dX5_best_32 : decode cX5_best 32 = .ok (.iload_n 1, 1) := dk_27 (dk_at dksX5_best_1 10 rfl rfl)
theorem dX5_best_33 : decode cX5_best 33 = .ok (.invokevirtual 375, 3) := dk_182 1 119 (dk_at dksX5_best_1 11 rfl rfl)
theorem dX5_best_36 : decode cX5_best 36 = .ok (.istore_n 2, 1) := dk_61 (dk_at dksX5_best_1 14 rfl rfl)
theorem dX5_best_37 : decode cX5_best 37 = .ok (.iload_n 2, 1) := dk_28 (dk_at dksX5_best_1 15 rfl rfl)
theorem dX5_best_38 : decode cX5_best 38 = .ok (.ifCond .ge 5, 3) := dk_156 0 5 (dk_at dksX5_best_1 16 rfl rfl)
theorem dX5_best_41 : decode cX5_best 41 = .ok (.iconst (-1), 1) := dk_2 (dk_at dksX5_best_1 19 rfl rfl)
theorem dX5_best_42 : decode cX5_best 42 = .ok (.ireturn, 1) := dk_172 (dk_at dksX5_best_1 20 rfl rfl)
theorem dX5_best_43 : decode cX5_best 43 = .ok (.aload_n 0, 1) := dk_42 (dk_at dksX5_best_1 21 rfl rfl)
theorem dX5_best_44 : decode cX5_best 44 = .ok (.getfield 18, 3) := dk_180 0 18 (dk_at dksX5_best_2 0 rfl rfl)
theorem dX5_best_47 : decode cX5_best 47 = .ok (.istore_n 3, 1) := dk_62 (dk_at dksX5_best_2 3 rfl rfl)
theorem dX5_best_48 : decode cX5_best 48 = .ok (.iconst 1, 1) := dk_4 (dk_at dksX5_best_2 4 rfl rfl)
theorem dX5_best_49 : decode cX5_best 49 = .ok (.istore 4, 2) := dk_54 4 (dk_at dksX5_best_2 5 rfl rfl)
theorem dX5_best_51 : decode cX5_best 51 = .ok (.iconst 0, 1) := dk_3 (dk_at dksX5_best_2 7 rfl rfl)
theorem dX5_best_52 : decode cX5_best 52 = .ok (.istore 5, 2) := dk_54 5 (dk_at dksX5_best_2 8 rfl rfl)
theorem dX5_best_54 : decode cX5_best 54 = .ok (.iload 5, 2) := dk_21 5 (dk_at dksX5_best_2 10 rfl rfl)
theorem dX5_best_56 : decode cX5_best 56 = .ok (.iload_n 3, 1) := dk_29 (dk_at dksX5_best_2 12 rfl rfl)
theorem dX5_best_57 : decode cX5_best 57 = .ok (.if_icmp .ge 16, 3) := dk_162 0 16 (dk_at dksX5_best_2 13 rfl rfl)
theorem dX5_best_60 : decode cX5_best 60 = .ok (.iload 4, 2) := dk_21 4 (dk_at dksX5_best_2 16 rfl rfl)
theorem dX5_best_62 : decode cX5_best 62 = .ok (.bipush 12, 2) := dk_16 12 (dk_at dksX5_best_2 18 rfl rfl)
theorem dX5_best_64 : decode cX5_best 64 = .ok (.imul, 1) := dk_104 (dk_at dksX5_best_2 20 rfl rfl)
theorem dX5_best_65 : decode cX5_best 65 = .ok (.istore 4, 2) := dk_54 4 (dk_at dksX5_best_2 21 rfl rfl)
theorem dX5_best_67 : decode cX5_best 67 = .ok (.iinc 5 1, 3) := dk_132 5 1 (dk_at dksX5_best_3 0 rfl rfl)
theorem dX5_best_70 : decode cX5_best 70 = .ok (.goto (-16), 3) := dk_167 255 240 (dk_at dksX5_best_3 3 rfl rfl)
theorem dX5_best_73 : decode cX5_best 73 = .ok (.iconst (-1), 1) := dk_2 (dk_at dksX5_best_3 6 rfl rfl)
theorem dX5_best_74 : decode cX5_best 74 = .ok (.istore 5, 2) := dk_54 5 (dk_at dksX5_best_3 7 rfl rfl)
theorem dX5_best_76 : decode cX5_best 76 = .ok (.iconst 0, 1) := dk_3 (dk_at dksX5_best_3 9 rfl rfl)
theorem dX5_best_77 : decode cX5_best 77 = .ok (.istore 6, 2) := dk_54 6 (dk_at dksX5_best_3 10 rfl rfl)
theorem dX5_best_79 : decode cX5_best 79 = .ok (.aload_n 0, 1) := dk_42 (dk_at dksX5_best_3 12 rfl rfl)
theorem dX5_best_80 : decode cX5_best 80 = .ok (.invokevirtual 363, 3) := dk_182 1 107 (dk_at dksX5_best_3 13 rfl rfl)
theorem dX5_best_83 : decode cX5_best 83 = .ok (.iconst 0, 1) := dk_3 (dk_at dksX5_best_3 16 rfl rfl)
theorem dX5_best_84 : decode cX5_best 84 = .ok (.iload_n 2, 1) := dk_28 (dk_at dksX5_best_3 17 rfl rfl)
theorem dX5_best_85 : decode cX5_best 85 = .ok (.iload_n 3, 1) := dk_29 (dk_at dksX5_best_3 18 rfl rfl)
theorem dX5_best_86 : decode cX5_best 86 = .ok (.iload 4, 2) := dk_21 4 (dk_at dksX5_best_3 19 rfl rfl)
theorem dX5_best_88 : decode cX5_best 88 = .ok (.invokestatic 384, 3) := dk_184 1 128 (dk_at dksX5_best_3 21 rfl rfl)
theorem dX5_best_91 : decode cX5_best 91 = .ok (.istore 7, 2) := dk_54 7 (dk_at dksX5_best_4 0 rfl rfl)
theorem dX5_best_93 : decode cX5_best 93 = .ok (.iload 7, 2) := dk_21 7 (dk_at dksX5_best_4 2 rfl rfl)
theorem dX5_best_95 : decode cX5_best 95 = .ok (.iload 4, 2) := dk_21 4 (dk_at dksX5_best_4 4 rfl rfl)
theorem dX5_best_97 : decode cX5_best 97 = .ok (.if_icmp .ge 79, 3) := dk_162 0 79 (dk_at dksX5_best_4 6 rfl rfl)
theorem dX5_best_100 : decode cX5_best 100 = .ok (.iload_n 3, 1) := dk_29 (dk_at dksX5_best_4 9 rfl rfl)
theorem dX5_best_101 : decode cX5_best 101 = .ok (.iconst 1, 1) := dk_4 (dk_at dksX5_best_4 10 rfl rfl)
theorem dX5_best_102 : decode cX5_best 102 = .ok (.isub, 1) := dk_100 (dk_at dksX5_best_4 11 rfl rfl)
theorem dX5_best_103 : decode cX5_best 103 = .ok (.istore 8, 2) := dk_54 8 (dk_at dksX5_best_4 12 rfl rfl)
theorem dX5_best_105 : decode cX5_best 105 = .ok (.iload 8, 2) := dk_21 8 (dk_at dksX5_best_4 14 rfl rfl)
theorem dX5_best_107 : decode cX5_best 107 = .ok (.ifCond .lt 20, 3) := dk_155 0 20 (dk_at dksX5_best_4 16 rfl rfl)
theorem dX5_best_110 : decode cX5_best 110 = .ok (.aload_n 0, 1) := dk_42 (dk_at dksX5_best_4 19 rfl rfl)
theorem dX5_best_111 : decode cX5_best 111 = .ok (.iload 7, 2) := dk_21 7 (dk_at dksX5_best_4 20 rfl rfl)
theorem dX5_best_113 : decode cX5_best 113 = .ok (.iload 8, 2) := dk_21 8 (dk_at dksX5_best_4 22 rfl rfl)
theorem dX5_best_115 : decode cX5_best 115 = .ok (.invokestatic 378, 3) := dk_184 1 122 (dk_at dksX5_best_5 0 rfl rfl)
theorem dX5_best_118 : decode cX5_best 118 = .ok (.invokevirtual 329, 3) := dk_182 1 73 (dk_at dksX5_best_5 3 rfl rfl)
theorem dX5_best_121 : decode cX5_best 121 = .ok (.iinc 8 (-1), 3) := dk_132 8 255 (dk_at dksX5_best_5 6 rfl rfl)
theorem dX5_best_124 : decode cX5_best 124 = .ok (.goto (-19), 3) := dk_167 255 237 (dk_at dksX5_best_5 9 rfl rfl)
theorem dX5_best_127 : decode cX5_best 127 = .ok (.aload_n 0, 1) := dk_42 (dk_at dksX5_best_5 12 rfl rfl)
theorem dX5_best_128 : decode cX5_best 128 = .ok (.getfield 33, 3) := dk_180 0 33 (dk_at dksX5_best_5 13 rfl rfl)
theorem dX5_best_131 : decode cX5_best 131 = .ok (.bipush 105, 2) := dk_16 105 (dk_at dksX5_best_5 16 rfl rfl)
theorem dX5_best_133 : decode cX5_best 133 = .ok (.iload_n 1, 1) := dk_27 (dk_at dksX5_best_5 18 rfl rfl)
theorem dX5_best_134 : decode cX5_best 134 = .ok (.iadd, 1) := dk_96 (dk_at dksX5_best_5 19 rfl rfl)
theorem dX5_best_135 : decode cX5_best 135 = .ok (.iaload, 1) := dk_46 (dk_at dksX5_best_5 20 rfl rfl)
theorem dX5_best_136 : decode cX5_best 136 = .ok (.iload 5, 2) := dk_21 5 (dk_at dksX5_best_5 21 rfl rfl)
theorem dX5_best_138 : decode cX5_best 138 = .ok (.if_icmp .le 18, 3) := dk_164 0 18 (dk_at dksX5_best_6 0 rfl rfl)
theorem dX5_best_141 : decode cX5_best 141 = .ok (.aload_n 0, 1) := dk_42 (dk_at dksX5_best_6 3 rfl rfl)
theorem dX5_best_142 : decode cX5_best 142 = .ok (.getfield 33, 3) := dk_180 0 33 (dk_at dksX5_best_6 4 rfl rfl)
theorem dX5_best_145 : decode cX5_best 145 = .ok (.bipush 105, 2) := dk_16 105 (dk_at dksX5_best_6 7 rfl rfl)
theorem dX5_best_147 : decode cX5_best 147 = .ok (.iload_n 1, 1) := dk_27 (dk_at dksX5_best_6 9 rfl rfl)
theorem dX5_best_148 : decode cX5_best 148 = .ok (.iadd, 1) := dk_96 (dk_at dksX5_best_6 10 rfl rfl)
theorem dX5_best_149 : decode cX5_best 149 = .ok (.iaload, 1) := dk_46 (dk_at dksX5_best_6 11 rfl rfl)
theorem dX5_best_150 : decode cX5_best 150 = .ok (.istore 5, 2) := dk_54 5 (dk_at dksX5_best_6 12 rfl rfl)
theorem dX5_best_152 : decode cX5_best 152 = .ok (.iload 7, 2) := dk_21 7 (dk_at dksX5_best_6 14 rfl rfl)
theorem dX5_best_154 : decode cX5_best 154 = .ok (.istore 6, 2) := dk_54 6 (dk_at dksX5_best_6 16 rfl rfl)
theorem dX5_best_156 : decode cX5_best 156 = .ok (.aload_n 0, 1) := dk_42 (dk_at dksX5_best_6 18 rfl rfl)
theorem dX5_best_157 : decode cX5_best 157 = .ok (.invokevirtual 366, 3) := dk_182 1 110 (dk_at dksX5_best_6 19 rfl rfl)
theorem dX5_best_160 : decode cX5_best 160 = .ok (.iload 7, 2) := dk_21 7 (dk_at dksX5_best_6 22 rfl rfl)
theorem dX5_best_162 : decode cX5_best 162 = .ok (.iconst 1, 1) := dk_4 (dk_at dksX5_best_7 0 rfl rfl)
theorem dX5_best_163 : decode cX5_best 163 = .ok (.iadd, 1) := dk_96 (dk_at dksX5_best_7 1 rfl rfl)
theorem dX5_best_164 : decode cX5_best 164 = .ok (.iload_n 2, 1) := dk_28 (dk_at dksX5_best_7 2 rfl rfl)
theorem dX5_best_165 : decode cX5_best 165 = .ok (.iload_n 3, 1) := dk_29 (dk_at dksX5_best_7 3 rfl rfl)
theorem dX5_best_166 : decode cX5_best 166 = .ok (.iload 4, 2) := dk_21 4 (dk_at dksX5_best_7 4 rfl rfl)
theorem dX5_best_168 : decode cX5_best 168 = .ok (.invokestatic 384, 3) := dk_184 1 128 (dk_at dksX5_best_7 6 rfl rfl)
theorem dX5_best_171 : decode cX5_best 171 = .ok (.istore 7, 2) := dk_54 7 (dk_at dksX5_best_7 9 rfl rfl)
theorem dX5_best_173 : decode cX5_best 173 = .ok (.goto (-80), 3) := dk_167 255 176 (dk_at dksX5_best_7 11 rfl rfl)
theorem dX5_best_176 : decode cX5_best 176 = .ok (.aload_n 0, 1) := dk_42 (dk_at dksX5_best_7 14 rfl rfl)
theorem dX5_best_177 : decode cX5_best 177 = .ok (.iload_n 3, 1) := dk_29 (dk_at dksX5_best_7 15 rfl rfl)
theorem dX5_best_178 : decode cX5_best 178 = .ok (.putfield 74, 3) := dk_181 0 74 (dk_at dksX5_best_7 16 rfl rfl)
theorem dX5_best_181 : decode cX5_best 181 = .ok (.iconst 0, 1) := dk_3 (dk_at dksX5_best_7 19 rfl rfl)
theorem dX5_best_182 : decode cX5_best 182 = .ok (.istore 7, 2) := dk_54 7 (dk_at dksX5_best_7 20 rfl rfl)
theorem dX5_best_184 : decode cX5_best 184 = .ok (.iload 7, 2) := dk_21 7 (dk_at dksX5_best_7 22 rfl rfl)
theorem dX5_best_186 : decode cX5_best 186 = .ok (.iload_n 3, 1) := dk_29 (dk_at dksX5_best_8 0 rfl rfl)
theorem dX5_best_187 : decode cX5_best 187 = .ok (.if_icmp .ge 27, 3) := dk_162 0 27 (dk_at dksX5_best_8 1 rfl rfl)
theorem dX5_best_190 : decode cX5_best 190 = .ok (.aload_n 0, 1) := dk_42 (dk_at dksX5_best_8 4 rfl rfl)
theorem dX5_best_191 : decode cX5_best 191 = .ok (.getfield 71, 3) := dk_180 0 71 (dk_at dksX5_best_8 5 rfl rfl)
theorem dX5_best_194 : decode cX5_best 194 = .ok (.iload 7, 2) := dk_21 7 (dk_at dksX5_best_8 8 rfl rfl)
theorem dX5_best_196 : decode cX5_best 196 = .ok (.iload 6, 2) := dk_21 6 (dk_at dksX5_best_8 10 rfl rfl)
theorem dX5_best_198 : decode cX5_best 198 = .ok (.iload_n 3, 1) := dk_29 (dk_at dksX5_best_8 12 rfl rfl)
theorem dX5_best_199 : decode cX5_best 199 = .ok (.iconst 1, 1) := dk_4 (dk_at dksX5_best_8 13 rfl rfl)
theorem dX5_best_200 : decode cX5_best 200 = .ok (.isub, 1) := dk_100 (dk_at dksX5_best_8 14 rfl rfl)
theorem dX5_best_201 : decode cX5_best 201 = .ok (.iload 7, 2) := dk_21 7 (dk_at dksX5_best_8 15 rfl rfl)
theorem dX5_best_203 : decode cX5_best 203 = .ok (.isub, 1) := dk_100 (dk_at dksX5_best_8 17 rfl rfl)
theorem dX5_best_204 : decode cX5_best 204 = .ok (.invokestatic 378, 3) := dk_184 1 122 (dk_at dksX5_best_8 18 rfl rfl)
theorem dX5_best_207 : decode cX5_best 207 = .ok (.iastore, 1) := dk_79 (dk_at dksX5_best_8 21 rfl rfl)
theorem dX5_best_208 : decode cX5_best 208 = .ok (.iinc 7 1, 3) := dk_132 7 1 (dk_at dksX5_best_9 0 rfl rfl)
theorem dX5_best_211 : decode cX5_best 211 = .ok (.goto (-27), 3) := dk_167 255 229 (dk_at dksX5_best_9 3 rfl rfl)
theorem dX5_best_214 : decode cX5_best 214 = .ok (.iload 5, 2) := dk_21 5 (dk_at dksX5_best_9 6 rfl rfl)
theorem dX5_best_216 : decode cX5_best 216 = .ok (.ireturn, 1) := dk_172 (dk_at dksX5_best_9 8 rfl rfl)
abbrev cX5_nextRow : ByteArray := prog_29_method_87_code
def yX5_nextRow : MethodName := ⟨RX5, "nextRow", "(IIII)I"⟩
def dkwX5_nextRow_1 : List UInt8 := [167, 255, 237, 21, 4, 172]
abbrev dktX5_nextRow_1 : List UInt8 := dkwX5_nextRow_1 ++ []
def dkwX5_nextRow_0 : List UInt8 := [26, 54, 4, 21, 4, 29, 162, 0, 19, 21, 4, 27, 28, 184, 1, 125, 154, 0, 9, 132, 4, 1]
abbrev dktX5_nextRow_0 : List UInt8 := dkwX5_nextRow_0 ++ dktX5_nextRow_1
theorem dksX5_nextRow_0 : cX5_nextRow.data.toList.drop 0 = dktX5_nextRow_0 := by decide +kernel
theorem dksX5_nextRow_1 : cX5_nextRow.data.toList.drop 22 = dktX5_nextRow_1 := dk_seg dksX5_nextRow_0 22 rfl rfl
theorem dX5_nextRow_0 : decode cX5_nextRow 0 = .ok (.iload_n 0, 1) := dk_26 (dk_at dksX5_nextRow_0 0 rfl rfl)
theorem dX5_nextRow_1 : decode cX5_nextRow 1 = .ok (.istore 4, 2) := dk_54 4 (dk_at dksX5_nextRow_0 1 rfl rfl)
theorem dX5_nextRow_3 : decode cX5_nextRow 3 = .ok (.iload 4, 2) := dk_21 4 (dk_at dksX5_nextRow_0 3 rfl rfl)
theorem dX5_nextRow_5 : decode cX5_nextRow 5 = .ok (.iload_n 3, 1) := dk_29 (dk_at dksX5_nextRow_0 5 rfl rfl)
theorem dX5_nextRow_6 : decode cX5_nextRow 6 = .ok (.if_icmp .ge 19, 3) := dk_162 0 19 (dk_at dksX5_nextRow_0 6 rfl rfl)
theorem dX5_nextRow_9 : decode cX5_nextRow 9 = .ok (.iload 4, 2) := dk_21 4 (dk_at dksX5_nextRow_0 9 rfl rfl)
theorem dX5_nextRow_11 : decode cX5_nextRow 11 = .ok (.iload_n 1, 1) := dk_27 (dk_at dksX5_nextRow_0 11 rfl rfl)
theorem dX5_nextRow_12 : decode cX5_nextRow 12 = .ok (.iload_n 2, 1) := dk_28 (dk_at dksX5_nextRow_0 12 rfl rfl)
theorem dX5_nextRow_13 : decode cX5_nextRow 13 = .ok (.invokestatic 381, 3) := dk_184 1 125 (dk_at dksX5_nextRow_0 13 rfl rfl)
theorem dX5_nextRow_16 : decode cX5_nextRow 16 = .ok (.ifCond .ne 9, 3) := dk_154 0 9 (dk_at dksX5_nextRow_0 16 rfl rfl)
theorem dX5_nextRow_19 : decode cX5_nextRow 19 = .ok (.iinc 4 1, 3) := dk_132 4 1 (dk_at dksX5_nextRow_0 19 rfl rfl)
theorem dX5_nextRow_22 : decode cX5_nextRow 22 = .ok (.goto (-19), 3) := dk_167 255 237 (dk_at dksX5_nextRow_1 0 rfl rfl)
theorem dX5_nextRow_25 : decode cX5_nextRow 25 = .ok (.iload 4, 2) := dk_21 4 (dk_at dksX5_nextRow_1 3 rfl rfl)
theorem dX5_nextRow_27 : decode cX5_nextRow 27 = .ok (.ireturn, 1) := dk_172 (dk_at dksX5_nextRow_1 5 rfl rfl)
abbrev cX5_isRow : ByteArray := prog_29_method_86_code
def yX5_isRow : MethodName := ⟨RX5, "isRow", "(III)Z"⟩
def dkwX5_isRow_2 : List UInt8 := [154, 0, 7, 4, 167, 0, 4, 3, 172]
abbrev dktX5_isRow_2 : List UInt8 := dkwX5_isRow_2 ++ []
def dkwX5_isRow_1 : List UInt8 := [3, 172, 29, 4, 26, 21, 4, 184, 1, 122, 120, 2, 130, 126, 62, 132, 4, 1, 167, 255, 219, 29]
abbrev dktX5_isRow_1 : List UInt8 := dkwX5_isRow_1 ++ dktX5_isRow_2
def dkwX5_isRow_0 : List UInt8 := [27, 62, 3, 54, 4, 21, 4, 28, 162, 0, 37, 29, 26, 21, 4, 184, 1, 122, 184, 0, 242, 154, 0, 5]
abbrev dktX5_isRow_0 : List UInt8 := dkwX5_isRow_0 ++ dktX5_isRow_1
theorem dksX5_isRow_0 : cX5_isRow.data.toList.drop 0 = dktX5_isRow_0 := by decide +kernel
theorem dksX5_isRow_1 : cX5_isRow.data.toList.drop 24 = dktX5_isRow_1 := dk_seg dksX5_isRow_0 24 rfl rfl
theorem dksX5_isRow_2 : cX5_isRow.data.toList.drop 46 = dktX5_isRow_2 := dk_seg dksX5_isRow_1 22 rfl rfl
theorem dX5_isRow_0 : decode cX5_isRow 0 = .ok (.iload_n 1, 1) := dk_27 (dk_at dksX5_isRow_0 0 rfl rfl)
theorem dX5_isRow_1 : decode cX5_isRow 1 = .ok (.istore_n 3, 1) := dk_62 (dk_at dksX5_isRow_0 1 rfl rfl)
theorem dX5_isRow_2 : decode cX5_isRow 2 = .ok (.iconst 0, 1) := dk_3 (dk_at dksX5_isRow_0 2 rfl rfl)
theorem dX5_isRow_3 : decode cX5_isRow 3 = .ok (.istore 4, 2) := dk_54 4 (dk_at dksX5_isRow_0 3 rfl rfl)
theorem dX5_isRow_5 : decode cX5_isRow 5 = .ok (.iload 4, 2) := dk_21 4 (dk_at dksX5_isRow_0 5 rfl rfl)
theorem dX5_isRow_7 : decode cX5_isRow 7 = .ok (.iload_n 2, 1) := dk_28 (dk_at dksX5_isRow_0 7 rfl rfl)
theorem dX5_isRow_8 : decode cX5_isRow 8 = .ok (.if_icmp .ge 37, 3) := dk_162 0 37 (dk_at dksX5_isRow_0 8 rfl rfl)
theorem dX5_isRow_11 : decode cX5_isRow 11 = .ok (.iload_n 3, 1) := dk_29 (dk_at dksX5_isRow_0 11 rfl rfl)
theorem dX5_isRow_12 : decode cX5_isRow 12 = .ok (.iload_n 0, 1) := dk_26 (dk_at dksX5_isRow_0 12 rfl rfl)
theorem dX5_isRow_13 : decode cX5_isRow 13 = .ok (.iload 4, 2) := dk_21 4 (dk_at dksX5_isRow_0 13 rfl rfl)
theorem dX5_isRow_15 : decode cX5_isRow 15 = .ok (.invokestatic 378, 3) := dk_184 1 122 (dk_at dksX5_isRow_0 15 rfl rfl)
theorem dX5_isRow_18 : decode cX5_isRow 18 = .ok (.invokestatic 242, 3) := dk_184 0 242 (dk_at dksX5_isRow_0 18 rfl rfl)
theorem dX5_isRow_21 : decode cX5_isRow 21 = .ok (.ifCond .ne 5, 3) := dk_154 0 5 (dk_at dksX5_isRow_0 21 rfl rfl)
theorem dX5_isRow_24 : decode cX5_isRow 24 = .ok (.iconst 0, 1) := dk_3 (dk_at dksX5_isRow_1 0 rfl rfl)
theorem dX5_isRow_25 : decode cX5_isRow 25 = .ok (.ireturn, 1) := dk_172 (dk_at dksX5_isRow_1 1 rfl rfl)
theorem dX5_isRow_26 : decode cX5_isRow 26 = .ok (.iload_n 3, 1) := dk_29 (dk_at dksX5_isRow_1 2 rfl rfl)
theorem dX5_isRow_27 : decode cX5_isRow 27 = .ok (.iconst 1, 1) := dk_4 (dk_at dksX5_isRow_1 3 rfl rfl)
theorem dX5_isRow_28 : decode cX5_isRow 28 = .ok (.iload_n 0, 1) := dk_26 (dk_at dksX5_isRow_1 4 rfl rfl)
theorem dX5_isRow_29 : decode cX5_isRow 29 = .ok (.iload 4, 2) := dk_21 4 (dk_at dksX5_isRow_1 5 rfl rfl)
theorem dX5_isRow_31 : decode cX5_isRow 31 = .ok (.invokestatic 378, 3) := dk_184 1 122 (dk_at dksX5_isRow_1 7 rfl rfl)
theorem dX5_isRow_34 : decode cX5_isRow 34 = .ok (.ishl, 1) := dk_120 (dk_at dksX5_isRow_1 10 rfl rfl)
theorem dX5_isRow_35 : decode cX5_isRow 35 = .ok (.iconst (-1), 1) := dk_2 (dk_at dksX5_isRow_1 11 rfl rfl)
theorem dX5_isRow_36 : decode cX5_isRow 36 = .ok (.ixor, 1) := dk_130 (dk_at dksX5_isRow_1 12 rfl rfl)
theorem dX5_isRow_37 : decode cX5_isRow 37 = .ok (.iand, 1) := dk_126 (dk_at dksX5_isRow_1 13 rfl rfl)
theorem dX5_isRow_38 : decode cX5_isRow 38 = .ok (.istore_n 3, 1) := dk_62 (dk_at dksX5_isRow_1 14 rfl rfl)
theorem dX5_isRow_39 : decode cX5_isRow 39 = .ok (.iinc 4 1, 3) := dk_132 4 1 (dk_at dksX5_isRow_1 15 rfl rfl)
theorem dX5_isRow_42 : decode cX5_isRow 42 = .ok (.goto (-37), 3) := dk_167 255 219 (dk_at dksX5_isRow_1 18 rfl rfl)
theorem dX5_isRow_45 : decode cX5_isRow 45 = .ok (.iload_n 3, 1) := dk_29 (dk_at dksX5_isRow_1 21 rfl rfl)
theorem dX5_isRow_46 : decode cX5_isRow 46 = .ok (.ifCond .ne 7, 3) := dk_154 0 7 (dk_at dksX5_isRow_2 0 rfl rfl)
theorem dX5_isRow_49 : decode cX5_isRow 49 = .ok (.iconst 1, 1) := dk_4 (dk_at dksX5_isRow_2 3 rfl rfl)
theorem dX5_isRow_50 : decode cX5_isRow 50 = .ok (.goto 4, 3) := dk_167 0 4 (dk_at dksX5_isRow_2 4 rfl rfl)
theorem dX5_isRow_53 : decode cX5_isRow 53 = .ok (.iconst 0, 1) := dk_3 (dk_at dksX5_isRow_2 7 rfl rfl)
theorem dX5_isRow_54 : decode cX5_isRow 54 = .ok (.ireturn, 1) := dk_172 (dk_at dksX5_isRow_2 8 rfl rfl)
abbrev cX5_placeIn : ByteArray := prog_29_method_85_code
def yX5_placeIn : MethodName := ⟨RX5, "placeIn", "(II)I"⟩
def dkwX5_placeIn_1 : List UInt8 := [172]
abbrev dktX5_placeIn_1 : List UInt8 := dkwX5_placeIn_1 ++ []
def dkwX5_placeIn_0 : List UInt8 := [26, 61, 3, 62, 29, 27, 162, 0, 14, 28, 16, 12, 108, 61, 132, 3, 1, 167, 255, 243, 28, 16, 12, 112]
abbrev dktX5_placeIn_0 : List UInt8 := dkwX5_placeIn_0 ++ dktX5_placeIn_1
theorem dksX5_placeIn_0 : cX5_placeIn.data.toList.drop 0 = dktX5_placeIn_0 := by decide +kernel
theorem dksX5_placeIn_1 : cX5_placeIn.data.toList.drop 24 = dktX5_placeIn_1 := dk_seg dksX5_placeIn_0 24 rfl rfl
theorem dX5_placeIn_0 : decode cX5_placeIn 0 = .ok (.iload_n 0, 1) := dk_26 (dk_at dksX5_placeIn_0 0 rfl rfl)
theorem dX5_placeIn_1 : decode cX5_placeIn 1 = .ok (.istore_n 2, 1) := dk_61 (dk_at dksX5_placeIn_0 1 rfl rfl)
theorem dX5_placeIn_2 : decode cX5_placeIn 2 = .ok (.iconst 0, 1) := dk_3 (dk_at dksX5_placeIn_0 2 rfl rfl)
theorem dX5_placeIn_3 : decode cX5_placeIn 3 = .ok (.istore_n 3, 1) := dk_62 (dk_at dksX5_placeIn_0 3 rfl rfl)
theorem dX5_placeIn_4 : decode cX5_placeIn 4 = .ok (.iload_n 3, 1) := dk_29 (dk_at dksX5_placeIn_0 4 rfl rfl)
theorem dX5_placeIn_5 : decode cX5_placeIn 5 = .ok (.iload_n 1, 1) := dk_27 (dk_at dksX5_placeIn_0 5 rfl rfl)
theorem dX5_placeIn_6 : decode cX5_placeIn 6 = .ok (.if_icmp .ge 14, 3) := dk_162 0 14 (dk_at dksX5_placeIn_0 6 rfl rfl)
theorem dX5_placeIn_9 : decode cX5_placeIn 9 = .ok (.iload_n 2, 1) := dk_28 (dk_at dksX5_placeIn_0 9 rfl rfl)
theorem dX5_placeIn_10 : decode cX5_placeIn 10 = .ok (.bipush 12, 2) := dk_16 12 (dk_at dksX5_placeIn_0 10 rfl rfl)
theorem dX5_placeIn_12 : decode cX5_placeIn 12 = .ok (.idiv, 1) := dk_108 (dk_at dksX5_placeIn_0 12 rfl rfl)
theorem dX5_placeIn_13 : decode cX5_placeIn 13 = .ok (.istore_n 2, 1) := dk_61 (dk_at dksX5_placeIn_0 13 rfl rfl)
theorem dX5_placeIn_14 : decode cX5_placeIn 14 = .ok (.iinc 3 1, 3) := dk_132 3 1 (dk_at dksX5_placeIn_0 14 rfl rfl)
theorem dX5_placeIn_17 : decode cX5_placeIn 17 = .ok (.goto (-13), 3) := dk_167 255 243 (dk_at dksX5_placeIn_0 17 rfl rfl)
theorem dX5_placeIn_20 : decode cX5_placeIn 20 = .ok (.iload_n 2, 1) := dk_28 (dk_at dksX5_placeIn_0 20 rfl rfl)
theorem dX5_placeIn_21 : decode cX5_placeIn 21 = .ok (.bipush 12, 2) := dk_16 12 (dk_at dksX5_placeIn_0 21 rfl rfl)
theorem dX5_placeIn_23 : decode cX5_placeIn 23 = .ok (.irem, 1) := dk_112 (dk_at dksX5_placeIn_0 23 rfl rfl)
theorem dX5_placeIn_24 : decode cX5_placeIn 24 = .ok (.ireturn, 1) := dk_172 (dk_at dksX5_placeIn_1 0 rfl rfl)
abbrev cX5_bestAt : ByteArray := prog_29_method_89_code
def yX5_bestAt : MethodName := ⟨RX5, "bestAt", "(I)I"⟩
def dkwX5_bestAt_1 : List UInt8 := [46, 167, 0, 4, 2, 172]
abbrev dktX5_bestAt_1 : List UInt8 := dkwX5_bestAt_1 ++ []
def dkwX5_bestAt_0 : List UInt8 := [42, 3, 181, 0, 1, 27, 3, 42, 180, 0, 74, 4, 100, 184, 0, 190, 153, 0, 12, 42, 180, 0, 71, 27]
abbrev dktX5_bestAt_0 : List UInt8 := dkwX5_bestAt_0 ++ dktX5_bestAt_1
theorem dksX5_bestAt_0 : cX5_bestAt.data.toList.drop 0 = dktX5_bestAt_0 := by decide +kernel
theorem dksX5_bestAt_1 : cX5_bestAt.data.toList.drop 24 = dktX5_bestAt_1 := dk_seg dksX5_bestAt_0 24 rfl rfl
theorem dX5_bestAt_0 : decode cX5_bestAt 0 = .ok (.aload_n 0, 1) := dk_42 (dk_at dksX5_bestAt_0 0 rfl rfl)
theorem dX5_bestAt_1 : decode cX5_bestAt 1 = .ok (.iconst 0, 1) := dk_3 (dk_at dksX5_bestAt_0 1 rfl rfl)
theorem dX5_bestAt_2 : decode cX5_bestAt 2 = .ok (.putfield 1, 3) := dk_181 0 1 (dk_at dksX5_bestAt_0 2 rfl rfl)
theorem dX5_bestAt_5 : decode cX5_bestAt 5 = .ok (.iload_n 1, 1) := dk_27 (dk_at dksX5_bestAt_0 5 rfl rfl)
theorem dX5_bestAt_6 : decode cX5_bestAt 6 = .ok (.iconst 0, 1) := dk_3 (dk_at dksX5_bestAt_0 6 rfl rfl)
theorem dX5_bestAt_7 : decode cX5_bestAt 7 = .ok (.aload_n 0, 1) := dk_42 (dk_at dksX5_bestAt_0 7 rfl rfl)
theorem dX5_bestAt_8 : decode cX5_bestAt 8 = .ok (.getfield 74, 3) := dk_180 0 74 (dk_at dksX5_bestAt_0 8 rfl rfl)
theorem dX5_bestAt_11 : decode cX5_bestAt 11 = .ok (.iconst 1, 1) := dk_4 (dk_at dksX5_bestAt_0 11 rfl rfl)
theorem dX5_bestAt_12 : decode cX5_bestAt 12 = .ok (.isub, 1) := dk_100 (dk_at dksX5_bestAt_0 12 rfl rfl)
theorem dX5_bestAt_13 : decode cX5_bestAt 13 = .ok (.invokestatic 190, 3) := dk_184 0 190 (dk_at dksX5_bestAt_0 13 rfl rfl)
theorem dX5_bestAt_16 : decode cX5_bestAt 16 = .ok (.ifCond .eq 12, 3) := dk_153 0 12 (dk_at dksX5_bestAt_0 16 rfl rfl)
theorem dX5_bestAt_19 : decode cX5_bestAt 19 = .ok (.aload_n 0, 1) := dk_42 (dk_at dksX5_bestAt_0 19 rfl rfl)
theorem dX5_bestAt_20 : decode cX5_bestAt 20 = .ok (.getfield 71, 3) := dk_180 0 71 (dk_at dksX5_bestAt_0 20 rfl rfl)
theorem dX5_bestAt_23 : decode cX5_bestAt 23 = .ok (.iload_n 1, 1) := dk_27 (dk_at dksX5_bestAt_0 23 rfl rfl)
theorem dX5_bestAt_24 : decode cX5_bestAt 24 = .ok (.iaload, 1) := dk_46 (dk_at dksX5_bestAt_1 0 rfl rfl)
theorem dX5_bestAt_25 : decode cX5_bestAt 25 = .ok (.goto 4, 3) := dk_167 0 4 (dk_at dksX5_bestAt_1 1 rfl rfl)
theorem dX5_bestAt_28 : decode cX5_bestAt 28 = .ok (.iconst (-1), 1) := dk_2 (dk_at dksX5_bestAt_1 4 rfl rfl)
theorem dX5_bestAt_29 : decode cX5_bestAt 29 = .ok (.ireturn, 1) := dk_172 (dk_at dksX5_bestAt_1 5 rfl rfl)
abbrev cX5_clear : ByteArray := prog_29_method_91_code
def yX5_clear : MethodName := ⟨RX5, "clear", "(II)I"⟩
def dkwX5_clear_5 : List UInt8 := [156, 0, 5, 2, 172, 42, 4, 181, 1, 134, 42, 21, 4, 181, 1, 137, 21, 4, 184, 0, 238, 172]
abbrev dktX5_clear_5 : List UInt8 := dkwX5_clear_5 ++ []
def dkwX5_clear_4 : List UInt8 := [42, 27, 28, 21, 5, 182, 1, 132, 153, 0, 7, 21, 5, 54, 4, 132, 5, 1, 167, 255, 202, 21, 4]
abbrev dktX5_clear_4 : List UInt8 := dkwX5_clear_4 ++ dktX5_clear_5
def dkwX5_clear_3 : List UInt8 := [154, 0, 39, 21, 4, 155, 0, 19, 21, 5, 184, 0, 238, 21, 4, 184, 0, 238, 161, 0, 6, 167, 0, 18]
abbrev dktX5_clear_3 : List UInt8 := dkwX5_clear_3 ++ dktX5_clear_4
def dkwX5_clear_2 : List UInt8 := [62, 2, 54, 4, 42, 182, 1, 107, 3, 54, 5, 21, 5, 29, 163, 0, 54, 21, 5, 29, 2, 130, 126]
abbrev dktX5_clear_2 : List UInt8 := dkwX5_clear_2 ++ dktX5_clear_3
def dkwX5_clear_1 : List UInt8 := [182, 1, 19, 154, 0, 5, 2, 172, 42, 182, 1, 16, 4, 27, 120, 2, 130, 126, 4, 28, 120, 2, 130, 126]
abbrev dktX5_clear_1 : List UInt8 := dkwX5_clear_1 ++ dktX5_clear_2
def dkwX5_clear_0 : List UInt8 := [42, 3, 181, 0, 1, 42, 27, 28, 182, 1, 82, 153, 0, 19, 42, 27, 182, 1, 19, 153, 0, 11, 42, 28]
abbrev dktX5_clear_0 : List UInt8 := dkwX5_clear_0 ++ dktX5_clear_1
theorem dksX5_clear_0 : cX5_clear.data.toList.drop 0 = dktX5_clear_0 := by decide +kernel
theorem dksX5_clear_1 : cX5_clear.data.toList.drop 24 = dktX5_clear_1 := dk_seg dksX5_clear_0 24 rfl rfl
theorem dksX5_clear_2 : cX5_clear.data.toList.drop 48 = dktX5_clear_2 := dk_seg dksX5_clear_1 24 rfl rfl
theorem dksX5_clear_3 : cX5_clear.data.toList.drop 71 = dktX5_clear_3 := dk_seg dksX5_clear_2 23 rfl rfl
theorem dksX5_clear_4 : cX5_clear.data.toList.drop 95 = dktX5_clear_4 := dk_seg dksX5_clear_3 24 rfl rfl
theorem dksX5_clear_5 : cX5_clear.data.toList.drop 118 = dktX5_clear_5 := dk_seg dksX5_clear_4 23 rfl rfl
theorem dX5_clear_0 : decode cX5_clear 0 = .ok (.aload_n 0, 1) := dk_42 (dk_at dksX5_clear_0 0 rfl rfl)
theorem dX5_clear_1 : decode cX5_clear 1 = .ok (.iconst 0, 1) := dk_3 (dk_at dksX5_clear_0 1 rfl rfl)
theorem dX5_clear_2 : decode cX5_clear 2 = .ok (.putfield 1, 3) := dk_181 0 1 (dk_at dksX5_clear_0 2 rfl rfl)
theorem dX5_clear_5 : decode cX5_clear 5 = .ok (.aload_n 0, 1) := dk_42 (dk_at dksX5_clear_0 5 rfl rfl)
theorem dX5_clear_6 : decode cX5_clear 6 = .ok (.iload_n 1, 1) := dk_27 (dk_at dksX5_clear_0 6 rfl rfl)
theorem dX5_clear_7 : decode cX5_clear 7 = .ok (.iload_n 2, 1) := dk_28 (dk_at dksX5_clear_0 7 rfl rfl)
theorem dX5_clear_8 : decode cX5_clear 8 = .ok (.invokevirtual 338, 3) := dk_182 1 82 (dk_at dksX5_clear_0 8 rfl rfl)
theorem dX5_clear_11 : decode cX5_clear 11 = .ok (.ifCond .eq 19, 3) := dk_153 0 19 (dk_at dksX5_clear_0 11 rfl rfl)
theorem dX5_clear_14 : decode cX5_clear 14 = .ok (.aload_n 0, 1) := dk_42 (dk_at dksX5_clear_0 14 rfl rfl)
theorem dX5_clear_15 : decode cX5_clear 15 = .ok (.iload_n 1, 1) := dk_27 (dk_at dksX5_clear_0 15 rfl rfl)
theorem dX5_clear_16 : decode cX5_clear 16 = .ok (.invokevirtual 275, 3) := dk_182 1 19 (dk_at dksX5_clear_0 16 rfl rfl)
theorem dX5_clear_19 : decode cX5_clear 19 = .ok (.ifCond .eq 11, 3) := dk_153 0 11 (dk_at dksX5_clear_0 19 rfl rfl)
theorem dX5_clear_22 : decode cX5_clear 22 = .ok (.aload_n 0, 1) := dk_42 (dk_at dksX5_clear_0 22 rfl rfl)
theorem dX5_clear_23 : decode cX5_clear 23 = .ok (.iload_n 2, 1) := dk_28 (dk_at dksX5_clear_0 23 rfl rfl)
theorem dX5_clear_24 : decode cX5_clear 24 = .ok (.invokevirtual 275, 3) := dk_182 1 19 (dk_at dksX5_clear_1 0 rfl rfl)
theorem dX5_clear_27 : decode cX5_clear 27 = .ok (.ifCond .ne 5, 3) := dk_154 0 5 (dk_at dksX5_clear_1 3 rfl rfl)
theorem dX5_clear_30 : decode cX5_clear 30 = .ok (.iconst (-1), 1) := dk_2 (dk_at dksX5_clear_1 6 rfl rfl)
theorem dX5_clear_31 : decode cX5_clear 31 = .ok (.ireturn, 1) := dk_172 (dk_at dksX5_clear_1 7 rfl rfl)
theorem dX5_clear_32 : decode cX5_clear 32 = .ok (.aload_n 0, 1) := dk_42 (dk_at dksX5_clear_1 8 rfl rfl)
theorem dX5_clear_33 : decode cX5_clear 33 = .ok (.invokevirtual 272, 3) := dk_182 1 16 (dk_at dksX5_clear_1 9 rfl rfl)
theorem dX5_clear_36 : decode cX5_clear 36 = .ok (.iconst 1, 1) := dk_4 (dk_at dksX5_clear_1 12 rfl rfl)
theorem dX5_clear_37 : decode cX5_clear 37 = .ok (.iload_n 1, 1) := dk_27 (dk_at dksX5_clear_1 13 rfl rfl)
theorem dX5_clear_38 : decode cX5_clear 38 = .ok (.ishl, 1) := dk_120 (dk_at dksX5_clear_1 14 rfl rfl)
theorem dX5_clear_39 : decode cX5_clear 39 = .ok (.iconst (-1), 1) := dk_2 (dk_at dksX5_clear_1 15 rfl rfl)
theorem dX5_clear_40 : decode cX5_clear 40 = .ok (.ixor, 1) := dk_130 (dk_at dksX5_clear_1 16 rfl rfl)
theorem dX5_clear_41 : decode cX5_clear 41 = .ok (.iand, 1) := dk_126 (dk_at dksX5_clear_1 17 rfl rfl)
theorem dX5_clear_42 : decode cX5_clear 42 = .ok (.iconst 1, 1) := dk_4 (dk_at dksX5_clear_1 18 rfl rfl)
theorem dX5_clear_43 : decode cX5_clear 43 = .ok (.iload_n 2, 1) := dk_28 (dk_at dksX5_clear_1 19 rfl rfl)
theorem dX5_clear_44 : decode cX5_clear 44 = .ok (.ishl, 1) := dk_120 (dk_at dksX5_clear_1 20 rfl rfl)
theorem dX5_clear_45 : decode cX5_clear 45 = .ok (.iconst (-1), 1) := dk_2 (dk_at dksX5_clear_1 21 rfl rfl)
theorem dX5_clear_46 : decode cX5_clear 46 = .ok (.ixor, 1) := dk_130 (dk_at dksX5_clear_1 22 rfl rfl)
theorem dX5_clear_47 : decode cX5_clear 47 = .ok (.iand, 1) := dk_126 (dk_at dksX5_clear_1 23 rfl rfl)
theorem dX5_clear_48 : decode cX5_clear 48 = .ok (.istore_n 3, 1) := dk_62 (dk_at dksX5_clear_2 0 rfl rfl)
theorem dX5_clear_49 : decode cX5_clear 49 = .ok (.iconst (-1), 1) := dk_2 (dk_at dksX5_clear_2 1 rfl rfl)
theorem dX5_clear_50 : decode cX5_clear 50 = .ok (.istore 4, 2) := dk_54 4 (dk_at dksX5_clear_2 2 rfl rfl)
theorem dX5_clear_52 : decode cX5_clear 52 = .ok (.aload_n 0, 1) := dk_42 (dk_at dksX5_clear_2 4 rfl rfl)
theorem dX5_clear_53 : decode cX5_clear 53 = .ok (.invokevirtual 363, 3) := dk_182 1 107 (dk_at dksX5_clear_2 5 rfl rfl)
theorem dX5_clear_56 : decode cX5_clear 56 = .ok (.iconst 0, 1) := dk_3 (dk_at dksX5_clear_2 8 rfl rfl)
theorem dX5_clear_57 : decode cX5_clear 57 = .ok (.istore 5, 2) := dk_54 5 (dk_at dksX5_clear_2 9 rfl rfl)
theorem dX5_clear_59 : decode cX5_clear 59 = .ok (.iload 5, 2) := dk_21 5 (dk_at dksX5_clear_2 11 rfl rfl)
theorem dX5_clear_61 : decode cX5_clear 61 = .ok (.iload_n 3, 1) := dk_29 (dk_at dksX5_clear_2 13 rfl rfl)
theorem dX5_clear_62 : decode cX5_clear 62 = .ok (.if_icmp .gt 54, 3) := dk_163 0 54 (dk_at dksX5_clear_2 14 rfl rfl)
theorem dX5_clear_65 : decode cX5_clear 65 = .ok (.iload 5, 2) := dk_21 5 (dk_at dksX5_clear_2 17 rfl rfl)
theorem dX5_clear_67 : decode cX5_clear 67 = .ok (.iload_n 3, 1) := dk_29 (dk_at dksX5_clear_2 19 rfl rfl)
theorem dX5_clear_68 : decode cX5_clear 68 = .ok (.iconst (-1), 1) := dk_2 (dk_at dksX5_clear_2 20 rfl rfl)
theorem dX5_clear_69 : decode cX5_clear 69 = .ok (.ixor, 1) := dk_130 (dk_at dksX5_clear_2 21 rfl rfl)
theorem dX5_clear_70 : decode cX5_clear 70 = .ok (.iand, 1) := dk_126 (dk_at dksX5_clear_2 22 rfl rfl)
theorem dX5_clear_71 : decode cX5_clear 71 = .ok (.ifCond .ne 39, 3) := dk_154 0 39 (dk_at dksX5_clear_3 0 rfl rfl)
theorem dX5_clear_74 : decode cX5_clear 74 = .ok (.iload 4, 2) := dk_21 4 (dk_at dksX5_clear_3 3 rfl rfl)
theorem dX5_clear_76 : decode cX5_clear 76 = .ok (.ifCond .lt 19, 3) := dk_155 0 19 (dk_at dksX5_clear_3 5 rfl rfl)
theorem dX5_clear_79 : decode cX5_clear 79 = .ok (.iload 5, 2) := dk_21 5 (dk_at dksX5_clear_3 8 rfl rfl)
theorem dX5_clear_81 : decode cX5_clear 81 = .ok (.invokestatic 238, 3) := dk_184 0 238 (dk_at dksX5_clear_3 10 rfl rfl)
theorem dX5_clear_84 : decode cX5_clear 84 = .ok (.iload 4, 2) := dk_21 4 (dk_at dksX5_clear_3 13 rfl rfl)
theorem dX5_clear_86 : decode cX5_clear 86 = .ok (.invokestatic 238, 3) := dk_184 0 238 (dk_at dksX5_clear_3 15 rfl rfl)
theorem dX5_clear_89 : decode cX5_clear 89 = .ok (.if_icmp .lt 6, 3) := dk_161 0 6 (dk_at dksX5_clear_3 18 rfl rfl)
theorem dX5_clear_92 : decode cX5_clear 92 = .ok (.goto 18, 3) := dk_167 0 18 (dk_at dksX5_clear_3 21 rfl rfl)
theorem dX5_clear_95 : decode cX5_clear 95 = .ok (.aload_n 0, 1) := dk_42 (dk_at dksX5_clear_4 0 rfl rfl)
theorem dX5_clear_96 : decode cX5_clear 96 = .ok (.iload_n 1, 1) := dk_27 (dk_at dksX5_clear_4 1 rfl rfl)
theorem dX5_clear_97 : decode cX5_clear 97 = .ok (.iload_n 2, 1) := dk_28 (dk_at dksX5_clear_4 2 rfl rfl)
theorem dX5_clear_98 : decode cX5_clear 98 = .ok (.iload 5, 2) := dk_21 5 (dk_at dksX5_clear_4 3 rfl rfl)
theorem dX5_clear_100 : decode cX5_clear 100 = .ok (.invokevirtual 388, 3) := dk_182 1 132 (dk_at dksX5_clear_4 5 rfl rfl)
theorem dX5_clear_103 : decode cX5_clear 103 = .ok (.ifCond .eq 7, 3) := dk_153 0 7 (dk_at dksX5_clear_4 8 rfl rfl)
theorem dX5_clear_106 : decode cX5_clear 106 = .ok (.iload 5, 2) := dk_21 5 (dk_at dksX5_clear_4 11 rfl rfl)
theorem dX5_clear_108 : decode cX5_clear 108 = .ok (.istore 4, 2) := dk_54 4 (dk_at dksX5_clear_4 13 rfl rfl)
theorem dX5_clear_110 : decode cX5_clear 110 = .ok (.iinc 5 1, 3) := dk_132 5 1 (dk_at dksX5_clear_4 15 rfl rfl)
theorem dX5_clear_113 : decode cX5_clear 113 = .ok (.goto (-54), 3) := dk_167 255 202 (dk_at dksX5_clear_4 18 rfl rfl)
theorem dX5_clear_116 : decode cX5_clear 116 = .ok (.iload 4, 2) := dk_21 4 (dk_at dksX5_clear_4 21 rfl rfl)
theorem dX5_clear_118 : decode cX5_clear 118 = .ok (.ifCond .ge 5, 3) := dk_156 0 5 (dk_at dksX5_clear_5 0 rfl rfl)
theorem dX5_clear_121 : decode cX5_clear 121 = .ok (.iconst (-1), 1) := dk_2 (dk_at dksX5_clear_5 3 rfl rfl)
theorem dX5_clear_122 : decode cX5_clear 122 = .ok (.ireturn, 1) := dk_172 (dk_at dksX5_clear_5 4 rfl rfl)
theorem dX5_clear_123 : decode cX5_clear 123 = .ok (.aload_n 0, 1) := dk_42 (dk_at dksX5_clear_5 5 rfl rfl)
theorem dX5_clear_124 : decode cX5_clear 124 = .ok (.iconst 1, 1) := dk_4 (dk_at dksX5_clear_5 6 rfl rfl)
theorem dX5_clear_125 : decode cX5_clear 125 = .ok (.putfield 390, 3) := dk_181 1 134 (dk_at dksX5_clear_5 7 rfl rfl)
theorem dX5_clear_128 : decode cX5_clear 128 = .ok (.aload_n 0, 1) := dk_42 (dk_at dksX5_clear_5 10 rfl rfl)
theorem dX5_clear_129 : decode cX5_clear 129 = .ok (.iload 4, 2) := dk_21 4 (dk_at dksX5_clear_5 11 rfl rfl)
theorem dX5_clear_131 : decode cX5_clear 131 = .ok (.putfield 393, 3) := dk_181 1 137 (dk_at dksX5_clear_5 13 rfl rfl)
theorem dX5_clear_134 : decode cX5_clear 134 = .ok (.iload 4, 2) := dk_21 4 (dk_at dksX5_clear_5 16 rfl rfl)
theorem dX5_clear_136 : decode cX5_clear 136 = .ok (.invokestatic 238, 3) := dk_184 0 238 (dk_at dksX5_clear_5 18 rfl rfl)
theorem dX5_clear_139 : decode cX5_clear 139 = .ok (.ireturn, 1) := dk_172 (dk_at dksX5_clear_5 21 rfl rfl)
abbrev cX5_clears_2 : ByteArray := prog_29_method_90_code
def yX5_clears_2 : MethodName := ⟨RX5, "clears", "(III)Z"⟩
def dkwX5_clears_2_4 : List UInt8 := [21, 6, 172]
abbrev dktX5_clears_2_4 : List UInt8 := dkwX5_clears_2_4 ++ []
def dkwX5_clears_2_3 : List UInt8 := [16, 105, 28, 96, 46, 21, 5, 100, 21, 4, 160, 0, 7, 4, 167, 0, 4, 3, 54, 6, 42, 182, 1, 110]
abbrev dktX5_clears_2_3 : List UInt8 := dkwX5_clears_2_3 ++ dktX5_clears_2_4
def dkwX5_clears_2_2 : List UInt8 := [180, 0, 33, 16, 105, 28, 96, 46, 54, 5, 42, 27, 182, 1, 73, 21, 4, 158, 0, 24, 42, 180, 0, 33]
abbrev dktX5_clears_2_2 : List UInt8 := dkwX5_clears_2_2 ++ dktX5_clears_2_3
def dkwX5_clears_2_1 : List UInt8 := [21, 4, 182, 1, 73, 132, 4, 1, 167, 255, 227, 42, 180, 0, 33, 16, 105, 27, 96, 46, 54, 4, 42]
abbrev dktX5_clears_2_1 : List UInt8 := dkwX5_clears_2_1 ++ dktX5_clears_2_2
def dkwX5_clears_2_0 : List UInt8 := [3, 54, 4, 21, 4, 42, 180, 0, 33, 3, 46, 162, 0, 24, 29, 21, 4, 184, 0, 242, 153, 0, 9, 42]
abbrev dktX5_clears_2_0 : List UInt8 := dkwX5_clears_2_0 ++ dktX5_clears_2_1
theorem dksX5_clears_2_0 : cX5_clears_2.data.toList.drop 0 = dktX5_clears_2_0 := by decide +kernel
theorem dksX5_clears_2_1 : cX5_clears_2.data.toList.drop 24 = dktX5_clears_2_1 := dk_seg dksX5_clears_2_0 24 rfl rfl
theorem dksX5_clears_2_2 : cX5_clears_2.data.toList.drop 47 = dktX5_clears_2_2 := dk_seg dksX5_clears_2_1 23 rfl rfl
theorem dksX5_clears_2_3 : cX5_clears_2.data.toList.drop 71 = dktX5_clears_2_3 := dk_seg dksX5_clears_2_2 24 rfl rfl
theorem dksX5_clears_2_4 : cX5_clears_2.data.toList.drop 95 = dktX5_clears_2_4 := dk_seg dksX5_clears_2_3 24 rfl rfl
theorem dX5_clears_2_0 : decode cX5_clears_2 0 = .ok (.iconst 0, 1) := dk_3 (dk_at dksX5_clears_2_0 0 rfl rfl)
theorem dX5_clears_2_1 : decode cX5_clears_2 1 = .ok (.istore 4, 2) := dk_54 4 (dk_at dksX5_clears_2_0 1 rfl rfl)
theorem dX5_clears_2_3 : decode cX5_clears_2 3 = .ok (.iload 4, 2) := dk_21 4 (dk_at dksX5_clears_2_0 3 rfl rfl)
theorem dX5_clears_2_5 : decode cX5_clears_2 5 = .ok (.aload_n 0, 1) := dk_42 (dk_at dksX5_clears_2_0 5 rfl rfl)
theorem dX5_clears_2_6 : decode cX5_clears_2 6 = .ok (.getfield 33, 3) := dk_180 0 33 (dk_at dksX5_clears_2_0 6 rfl rfl)
theorem dX5_clears_2_9 : decode cX5_clears_2 9 = .ok (.iconst 0, 1) := dk_3 (dk_at dksX5_clears_2_0 9 rfl rfl)
theorem dX5_clears_2_10 : decode cX5_clears_2 10 = .ok (.iaload, 1) := dk_46 (dk_at dksX5_clears_2_0 10 rfl rfl)
theorem dX5_clears_2_11 : decode cX5_clears_2 11 = .ok (.if_icmp .ge 24, 3) := dk_162 0 24 (dk_at dksX5_clears_2_0 11 rfl rfl)
theorem dX5_clears_2_14 : decode cX5_clears_2 14 = .ok (.iload_n 3, 1) := dk_29 (dk_at dksX5_clears_2_0 14 rfl rfl)
theorem dX5_clears_2_15 : decode cX5_clears_2 15 = .ok (.iload 4, 2) := dk_21 4 (dk_at dksX5_clears_2_0 15 rfl rfl)
theorem dX5_clears_2_17 : decode cX5_clears_2 17 = .ok (.invokestatic 242, 3) := dk_184 0 242 (dk_at dksX5_clears_2_0 17 rfl rfl)
theorem dX5_clears_2_20 : decode cX5_clears_2 20 = .ok (.ifCond .eq 9, 3) := dk_153 0 9 (dk_at dksX5_clears_2_0 20 rfl rfl)
theorem dX5_clears_2_23 : decode cX5_clears_2 23 = .ok (.aload_n 0, 1) := dk_42 (dk_at dksX5_clears_2_0 23 rfl rfl)
theorem dX5_clears_2_24 : decode cX5_clears_2 24 = .ok (.iload 4, 2) := dk_21 4 (dk_at dksX5_clears_2_1 0 rfl rfl)
theorem dX5_clears_2_26 : decode cX5_clears_2 26 = .ok (.invokevirtual 329, 3) := dk_182 1 73 (dk_at dksX5_clears_2_1 2 rfl rfl)
theorem dX5_clears_2_29 : decode cX5_clears_2 29 = .ok (.iinc 4 1, 3) := dk_132 4 1 (dk_at dksX5_clears_2_1 5 rfl rfl)
theorem dX5_clears_2_32 : decode cX5_clears_2 32 = .ok (.goto (-29), 3) := dk_167 255 227 (dk_at dksX5_clears_2_1 8 rfl rfl)
theorem dX5_clears_2_35 : decode cX5_clears_2 35 = .ok (.aload_n 0, 1) := dk_42 (dk_at dksX5_clears_2_1 11 rfl rfl)
theorem dX5_clears_2_36 : decode cX5_clears_2 36 = .ok (.getfield 33, 3) := dk_180 0 33 (dk_at dksX5_clears_2_1 12 rfl rfl)
theorem dX5_clears_2_39 : decode cX5_clears_2 39 = .ok (.bipush 105, 2) := dk_16 105 (dk_at dksX5_clears_2_1 15 rfl rfl)
theorem dX5_clears_2_41 : decode cX5_clears_2 41 = .ok (.iload_n 1, 1) := dk_27 (dk_at dksX5_clears_2_1 17 rfl rfl)
theorem dX5_clears_2_42 : decode cX5_clears_2 42 = .ok (.iadd, 1) := dk_96 (dk_at dksX5_clears_2_1 18 rfl rfl)
theorem dX5_clears_2_43 : decode cX5_clears_2 43 = .ok (.iaload, 1) := dk_46 (dk_at dksX5_clears_2_1 19 rfl rfl)
theorem dX5_clears_2_44 : decode cX5_clears_2 44 = .ok (.istore 4, 2) := dk_54 4 (dk_at dksX5_clears_2_1 20 rfl rfl)
theorem dX5_clears_2_46 : decode cX5_clears_2 46 = .ok (.aload_n 0, 1) := dk_42 (dk_at dksX5_clears_2_1 22 rfl rfl)
theorem dX5_clears_2_47 : decode cX5_clears_2 47 = .ok (.getfield 33, 3) := dk_180 0 33 (dk_at dksX5_clears_2_2 0 rfl rfl)
theorem dX5_clears_2_50 : decode cX5_clears_2 50 = .ok (.bipush 105, 2) := dk_16 105 (dk_at dksX5_clears_2_2 3 rfl rfl)
theorem dX5_clears_2_52 : decode cX5_clears_2 52 = .ok (.iload_n 2, 1) := dk_28 (dk_at dksX5_clears_2_2 5 rfl rfl)
theorem dX5_clears_2_53 : decode cX5_clears_2 53 = .ok (.iadd, 1) := dk_96 (dk_at dksX5_clears_2_2 6 rfl rfl)
theorem dX5_clears_2_54 : decode cX5_clears_2 54 = .ok (.iaload, 1) := dk_46 (dk_at dksX5_clears_2_2 7 rfl rfl)
theorem dX5_clears_2_55 : decode cX5_clears_2 55 = .ok (.istore 5, 2) := dk_54 5 (dk_at dksX5_clears_2_2 8 rfl rfl)
theorem dX5_clears_2_57 : decode cX5_clears_2 57 = .ok (.aload_n 0, 1) := dk_42 (dk_at dksX5_clears_2_2 10 rfl rfl)
theorem dX5_clears_2_58 : decode cX5_clears_2 58 = .ok (.iload_n 1, 1) := dk_27 (dk_at dksX5_clears_2_2 11 rfl rfl)
theorem dX5_clears_2_59 : decode cX5_clears_2 59 = .ok (.invokevirtual 329, 3) := dk_182 1 73 (dk_at dksX5_clears_2_2 12 rfl rfl)
theorem dX5_clears_2_62 : decode cX5_clears_2 62 = .ok (.iload 4, 2) := dk_21 4 (dk_at dksX5_clears_2_2 15 rfl rfl)
theorem dX5_clears_2_64 : decode cX5_clears_2 64 = .ok (.ifCond .le 24, 3) := dk_158 0 24 (dk_at dksX5_clears_2_2 17 rfl rfl)
theorem dX5_clears_2_67 : decode cX5_clears_2 67 = .ok (.aload_n 0, 1) := dk_42 (dk_at dksX5_clears_2_2 20 rfl rfl)
theorem dX5_clears_2_68 : decode cX5_clears_2 68 = .ok (.getfield 33, 3) := dk_180 0 33 (dk_at dksX5_clears_2_2 21 rfl rfl)
theorem dX5_clears_2_71 : decode cX5_clears_2 71 = .ok (.bipush 105, 2) := dk_16 105 (dk_at dksX5_clears_2_3 0 rfl rfl)
theorem dX5_clears_2_73 : decode cX5_clears_2 73 = .ok (.iload_n 2, 1) := dk_28 (dk_at dksX5_clears_2_3 2 rfl rfl)
theorem dX5_clears_2_74 : decode cX5_clears_2 74 = .ok (.iadd, 1) := dk_96 (dk_at dksX5_clears_2_3 3 rfl rfl)
theorem dX5_clears_2_75 : decode cX5_clears_2 75 = .ok (.iaload, 1) := dk_46 (dk_at dksX5_clears_2_3 4 rfl rfl)
theorem dX5_clears_2_76 : decode cX5_clears_2 76 = .ok (.iload 5, 2) := dk_21 5 (dk_at dksX5_clears_2_3 5 rfl rfl)
theorem dX5_clears_2_78 : decode cX5_clears_2 78 = .ok (.isub, 1) := dk_100 (dk_at dksX5_clears_2_3 7 rfl rfl)
theorem dX5_clears_2_79 : decode cX5_clears_2 79 = .ok (.iload 4, 2) := dk_21 4 (dk_at dksX5_clears_2_3 8 rfl rfl)
theorem dX5_clears_2_81 : decode cX5_clears_2 81 = .ok (.if_icmp .ne 7, 3) := dk_160 0 7 (dk_at dksX5_clears_2_3 10 rfl rfl)
theorem dX5_clears_2_84 : decode cX5_clears_2 84 = .ok (.iconst 1, 1) := dk_4 (dk_at dksX5_clears_2_3 13 rfl rfl)
theorem dX5_clears_2_85 : decode cX5_clears_2 85 = .ok (.goto 4, 3) := dk_167 0 4 (dk_at dksX5_clears_2_3 14 rfl rfl)
theorem dX5_clears_2_88 : decode cX5_clears_2 88 = .ok (.iconst 0, 1) := dk_3 (dk_at dksX5_clears_2_3 17 rfl rfl)
theorem dX5_clears_2_89 : decode cX5_clears_2 89 = .ok (.istore 6, 2) := dk_54 6 (dk_at dksX5_clears_2_3 18 rfl rfl)
theorem dX5_clears_2_91 : decode cX5_clears_2 91 = .ok (.aload_n 0, 1) := dk_42 (dk_at dksX5_clears_2_3 20 rfl rfl)
theorem dX5_clears_2_92 : decode cX5_clears_2 92 = .ok (.invokevirtual 366, 3) := dk_182 1 110 (dk_at dksX5_clears_2_3 21 rfl rfl)
theorem dX5_clears_2_95 : decode cX5_clears_2 95 = .ok (.iload 6, 2) := dk_21 6 (dk_at dksX5_clears_2_4 0 rfl rfl)
theorem dX5_clears_2_97 : decode cX5_clears_2 97 = .ok (.ireturn, 1) := dk_172 (dk_at dksX5_clears_2_4 2 rfl rfl)
abbrev cX5_cleared : ByteArray := prog_29_method_92_code
def yX5_cleared : MethodName := ⟨RX5, "cleared", "()I"⟩
def dkwX5_cleared_0 : List UInt8 := [42, 3, 181, 0, 1, 42, 180, 1, 134, 153, 0, 10, 42, 180, 1, 137, 167, 0, 4, 2, 172]
abbrev dktX5_cleared_0 : List UInt8 := dkwX5_cleared_0 ++ []
theorem dksX5_cleared_0 : cX5_cleared.data.toList.drop 0 = dktX5_cleared_0 := by decide +kernel
theorem dX5_cleared_0 : decode cX5_cleared 0 = .ok (.aload_n 0, 1) := dk_42 (dk_at dksX5_cleared_0 0 rfl rfl)
theorem dX5_cleared_1 : decode cX5_cleared 1 = .ok (.iconst 0, 1) := dk_3 (dk_at dksX5_cleared_0 1 rfl rfl)
theorem dX5_cleared_2 : decode cX5_cleared 2 = .ok (.putfield 1, 3) := dk_181 0 1 (dk_at dksX5_cleared_0 2 rfl rfl)
theorem dX5_cleared_5 : decode cX5_cleared 5 = .ok (.aload_n 0, 1) := dk_42 (dk_at dksX5_cleared_0 5 rfl rfl)
theorem dX5_cleared_6 : decode cX5_cleared 6 = .ok (.getfield 390, 3) := dk_180 1 134 (dk_at dksX5_cleared_0 6 rfl rfl)
theorem dX5_cleared_9 : decode cX5_cleared 9 = .ok (.ifCond .eq 10, 3) := dk_153 0 10 (dk_at dksX5_cleared_0 9 rfl rfl)
theorem dX5_cleared_12 : decode cX5_cleared 12 = .ok (.aload_n 0, 1) := dk_42 (dk_at dksX5_cleared_0 12 rfl rfl)
theorem dX5_cleared_13 : decode cX5_cleared 13 = .ok (.getfield 393, 3) := dk_180 1 137 (dk_at dksX5_cleared_0 13 rfl rfl)
theorem dX5_cleared_16 : decode cX5_cleared 16 = .ok (.goto 4, 3) := dk_167 0 4 (dk_at dksX5_cleared_0 16 rfl rfl)
theorem dX5_cleared_19 : decode cX5_cleared 19 = .ok (.iconst (-1), 1) := dk_2 (dk_at dksX5_cleared_0 19 rfl rfl)
theorem dX5_cleared_20 : decode cX5_cleared 20 = .ok (.ireturn, 1) := dk_172 (dk_at dksX5_cleared_0 20 rfl rfl)
abbrev cX5_fits : ByteArray := prog_29_method_95_code
def yX5_fits : MethodName := ⟨RX5, "fits", "()I"⟩
def dkwX5_fits_7 : List UInt8 := [181, 1, 149, 132, 2, 1, 167, 255, 220, 27, 172]
abbrev dktX5_fits_7 : List UInt8 := dkwX5_fits_7 ++ []
def dkwX5_fits_6 : List UInt8 := [163, 0, 32, 42, 27, 28, 182, 1, 152, 42, 27, 42, 180, 1, 149, 182, 1, 152, 162, 0, 8, 42, 28]
abbrev dktX5_fits_6 : List UInt8 := dkwX5_fits_6 ++ dktX5_fits_7
def dkwX5_fits_5 : List UInt8 := [154, 0, 5, 3, 172, 42, 4, 181, 1, 146, 42, 3, 181, 1, 149, 4, 61, 28, 42, 180, 0, 33, 3, 46]
abbrev dktX5_fits_5 : List UInt8 := dkwX5_fits_5 ++ dktX5_fits_6
def dkwX5_fits_4 : List UInt8 := [182, 1, 143, 153, 0, 9, 4, 28, 120, 167, 0, 4, 3, 128, 60, 132, 2, 1, 167, 255, 225, 27]
abbrev dktX5_fits_4 : List UInt8 := dkwX5_fits_4 ++ dktX5_fits_5
def dkwX5_fits_3 : List UInt8 := [167, 255, 229, 42, 182, 1, 113, 3, 60, 3, 61, 28, 42, 180, 0, 33, 3, 46, 162, 0, 27, 27, 42, 28]
abbrev dktX5_fits_3 : List UInt8 := dkwX5_fits_3 ++ dktX5_fits_4
def dkwX5_fits_2 : List UInt8 := [162, 0, 25, 42, 27, 182, 1, 116, 42, 180, 0, 33, 3, 46, 164, 0, 5, 2, 172, 132, 1, 2]
abbrev dktX5_fits_2 : List UInt8 := dkwX5_fits_2 ++ dktX5_fits_3
def dkwX5_fits_1 : List UInt8 := [153, 0, 13, 42, 180, 0, 18, 5, 112, 4, 160, 0, 5, 2, 172, 3, 60, 27, 42, 180, 0, 18]
abbrev dktX5_fits_1 : List UInt8 := dkwX5_fits_1 ++ dktX5_fits_2
def dkwX5_fits_0 : List UInt8 := [42, 3, 181, 0, 1, 42, 17, 3, 172, 182, 0, 251, 42, 180, 0, 18, 5, 16, 12, 184, 0, 190]
abbrev dktX5_fits_0 : List UInt8 := dkwX5_fits_0 ++ dktX5_fits_1
theorem dksX5_fits_0 : cX5_fits.data.toList.drop 0 = dktX5_fits_0 := by decide +kernel
theorem dksX5_fits_1 : cX5_fits.data.toList.drop 22 = dktX5_fits_1 := dk_seg dksX5_fits_0 22 rfl rfl
theorem dksX5_fits_2 : cX5_fits.data.toList.drop 44 = dktX5_fits_2 := dk_seg dksX5_fits_1 22 rfl rfl
theorem dksX5_fits_3 : cX5_fits.data.toList.drop 66 = dktX5_fits_3 := dk_seg dksX5_fits_2 22 rfl rfl
theorem dksX5_fits_4 : cX5_fits.data.toList.drop 90 = dktX5_fits_4 := dk_seg dksX5_fits_3 24 rfl rfl
theorem dksX5_fits_5 : cX5_fits.data.toList.drop 112 = dktX5_fits_5 := dk_seg dksX5_fits_4 22 rfl rfl
theorem dksX5_fits_6 : cX5_fits.data.toList.drop 136 = dktX5_fits_6 := dk_seg dksX5_fits_5 24 rfl rfl
theorem dksX5_fits_7 : cX5_fits.data.toList.drop 159 = dktX5_fits_7 := dk_seg dksX5_fits_6 23 rfl rfl
theorem dX5_fits_0 : decode cX5_fits 0 = .ok (.aload_n 0, 1) := dk_42 (dk_at dksX5_fits_0 0 rfl rfl)
theorem dX5_fits_1 : decode cX5_fits 1 = .ok (.iconst 0, 1) := dk_3 (dk_at dksX5_fits_0 1 rfl rfl)
theorem dX5_fits_2 : decode cX5_fits 2 = .ok (.putfield 1, 3) := dk_181 0 1 (dk_at dksX5_fits_0 2 rfl rfl)
theorem dX5_fits_5 : decode cX5_fits 5 = .ok (.aload_n 0, 1) := dk_42 (dk_at dksX5_fits_0 5 rfl rfl)
theorem dX5_fits_6 : decode cX5_fits 6 = .ok (.sipush 940, 3) := dk_17 3 172 (dk_at dksX5_fits_0 6 rfl rfl)
theorem dX5_fits_9 : decode cX5_fits 9 = .ok (.invokevirtual 251, 3) := dk_182 0 251 (dk_at dksX5_fits_0 9 rfl rfl)
theorem dX5_fits_12 : decode cX5_fits 12 = .ok (.aload_n 0, 1) := dk_42 (dk_at dksX5_fits_0 12 rfl rfl)
theorem dX5_fits_13 : decode cX5_fits 13 = .ok (.getfield 18, 3) := dk_180 0 18 (dk_at dksX5_fits_0 13 rfl rfl)
theorem dX5_fits_16 : decode cX5_fits 16 = .ok (.iconst 2, 1) := dk_5 (dk_at dksX5_fits_0 16 rfl rfl)
theorem dX5_fits_17 : decode cX5_fits 17 = .ok (.bipush 12, 2) := dk_16 12 (dk_at dksX5_fits_0 17 rfl rfl)
theorem dX5_fits_19 : decode cX5_fits 19 = .ok (.invokestatic 190, 3) := dk_184 0 190 (dk_at dksX5_fits_0 19 rfl rfl)
theorem dX5_fits_22 : decode cX5_fits 22 = .ok (.ifCond .eq 13, 3) := dk_153 0 13 (dk_at dksX5_fits_1 0 rfl rfl)
theorem dX5_fits_25 : decode cX5_fits 25 = .ok (.aload_n 0, 1) := dk_42 (dk_at dksX5_fits_1 3 rfl rfl)
theorem dX5_fits_26 : decode cX5_fits 26 = .ok (.getfield 18, 3) := dk_180 0 18 (dk_at dksX5_fits_1 4 rfl rfl)
theorem dX5_fits_29 : decode cX5_fits 29 = .ok (.iconst 2, 1) := dk_5 (dk_at dksX5_fits_1 7 rfl rfl)
theorem dX5_fits_30 : decode cX5_fits 30 = .ok (.irem, 1) := dk_112 (dk_at dksX5_fits_1 8 rfl rfl)
theorem dX5_fits_31 : decode cX5_fits 31 = .ok (.iconst 1, 1) := dk_4 (dk_at dksX5_fits_1 9 rfl rfl)
theorem dX5_fits_32 : decode cX5_fits 32 = .ok (.if_icmp .ne 5, 3) := dk_160 0 5 (dk_at dksX5_fits_1 10 rfl rfl)
theorem dX5_fits_35 : decode cX5_fits 35 = .ok (.iconst (-1), 1) := dk_2 (dk_at dksX5_fits_1 13 rfl rfl)
theorem dX5_fits_36 : decode cX5_fits 36 = .ok (.ireturn, 1) := dk_172 (dk_at dksX5_fits_1 14 rfl rfl)
theorem dX5_fits_37 : decode cX5_fits 37 = .ok (.iconst 0, 1) := dk_3 (dk_at dksX5_fits_1 15 rfl rfl)
theorem dX5_fits_38 : decode cX5_fits 38 = .ok (.istore_n 1, 1) := dk_60 (dk_at dksX5_fits_1 16 rfl rfl)
theorem dX5_fits_39 : decode cX5_fits 39 = .ok (.iload_n 1, 1) := dk_27 (dk_at dksX5_fits_1 17 rfl rfl)
theorem dX5_fits_40 : decode cX5_fits 40 = .ok (.aload_n 0, 1) := dk_42 (dk_at dksX5_fits_1 18 rfl rfl)
theorem dX5_fits_41 : decode cX5_fits 41 = .ok (.getfield 18, 3) := dk_180 0 18 (dk_at dksX5_fits_1 19 rfl rfl)
theorem dX5_fits_44 : decode cX5_fits 44 = .ok (.if_icmp .ge 25, 3) := dk_162 0 25 (dk_at dksX5_fits_2 0 rfl rfl)
theorem dX5_fits_47 : decode cX5_fits 47 = .ok (.aload_n 0, 1) := dk_42 (dk_at dksX5_fits_2 3 rfl rfl)
theorem dX5_fits_48 : decode cX5_fits 48 = .ok (.iload_n 1, 1) := dk_27 (dk_at dksX5_fits_2 4 rfl rfl)
theorem dX5_fits_49 : decode cX5_fits 49 = .ok (.invokevirtual 372, 3) := dk_182 1 116 (dk_at dksX5_fits_2 5 rfl rfl)
theorem dX5_fits_52 : decode cX5_fits 52 = .ok (.aload_n 0, 1) := dk_42 (dk_at dksX5_fits_2 8 rfl rfl)
theorem dX5_fits_53 : decode cX5_fits 53 = .ok (.getfield 33, 3) := dk_180 0 33 (dk_at dksX5_fits_2 9 rfl rfl)
theorem dX5_fits_56 : decode cX5_fits 56 = .ok (.iconst 0, 1) := dk_3 (dk_at dksX5_fits_2 12 rfl rfl)
theorem dX5_fits_57 : decode cX5_fits 57 = .ok (.iaload, 1) := dk_46 (dk_at dksX5_fits_2 13 rfl rfl)
theorem dX5_fits_58 : decode cX5_fits 58 = .ok (.if_icmp .le 5, 3) := dk_164 0 5 (dk_at dksX5_fits_2 14 rfl rfl)
theorem dX5_fits_61 : decode cX5_fits 61 = .ok (.iconst (-1), 1) := dk_2 (dk_at dksX5_fits_2 17 rfl rfl)
theorem dX5_fits_62 : decode cX5_fits 62 = .ok (.ireturn, 1) := dk_172 (dk_at dksX5_fits_2 18 rfl rfl)
theorem dX5_fits_63 : decode cX5_fits 63 = .ok (.iinc 1 2, 3) := dk_132 1 2 (dk_at dksX5_fits_2 19 rfl rfl)
theorem dX5_fits_66 : decode cX5_fits 66 = .ok (.goto (-27), 3) := dk_167 255 229 (dk_at dksX5_fits_3 0 rfl rfl)
theorem dX5_fits_69 : decode cX5_fits 69 = .ok (.aload_n 0, 1) := dk_42 (dk_at dksX5_fits_3 3 rfl rfl)
theorem dX5_fits_70 : decode cX5_fits 70 = .ok (.invokevirtual 369, 3) := dk_182 1 113 (dk_at dksX5_fits_3 4 rfl rfl)
theorem dX5_fits_73 : decode cX5_fits 73 = .ok (.iconst 0, 1) := dk_3 (dk_at dksX5_fits_3 7 rfl rfl)
theorem dX5_fits_74 : decode cX5_fits 74 = .ok (.istore_n 1, 1) := dk_60 (dk_at dksX5_fits_3 8 rfl rfl)
theorem dX5_fits_75 : decode cX5_fits 75 = .ok (.iconst 0, 1) := dk_3 (dk_at dksX5_fits_3 9 rfl rfl)
theorem dX5_fits_76 : decode cX5_fits 76 = .ok (.istore_n 2, 1) := dk_61 (dk_at dksX5_fits_3 10 rfl rfl)
theorem dX5_fits_77 : decode cX5_fits 77 = .ok (.iload_n 2, 1) := dk_28 (dk_at dksX5_fits_3 11 rfl rfl)
theorem dX5_fits_78 : decode cX5_fits 78 = .ok (.aload_n 0, 1) := dk_42 (dk_at dksX5_fits_3 12 rfl rfl)
theorem dX5_fits_79 : decode cX5_fits 79 = .ok (.getfield 33, 3) := dk_180 0 33 (dk_at dksX5_fits_3 13 rfl rfl)
theorem dX5_fits_82 : decode cX5_fits 82 = .ok (.iconst 0, 1) := dk_3 (dk_at dksX5_fits_3 16 rfl rfl)
theorem dX5_fits_83 : decode cX5_fits 83 = .ok (.iaload, 1) := dk_46 (dk_at dksX5_fits_3 17 rfl rfl)
theorem dX5_fits_84 : decode cX5_fits 84 = .ok (.if_icmp .ge 27, 3) := dk_162 0 27 (dk_at dksX5_fits_3 18 rfl rfl)
theorem dX5_fits_87 : decode cX5_fits 87 = .ok (.iload_n 1, 1) := dk_27 (dk_at dksX5_fits_3 21 rfl rfl)
theorem dX5_fits_88 : decode cX5_fits 88 = .ok (.aload_n 0, 1) := dk_42 (dk_at dksX5_fits_3 22 rfl rfl)
theorem dX5_fits_89 : decode cX5_fits 89 = .ok (.iload_n 2, 1) := dk_28 (dk_at dksX5_fits_3 23 rfl rfl)
theorem dX5_fits_90 : decode cX5_fits 90 = .ok (.invokevirtual 399, 3) := dk_182 1 143 (dk_at dksX5_fits_4 0 rfl rfl)
theorem dX5_fits_93 : decode cX5_fits 93 = .ok (.ifCond .eq 9, 3) := dk_153 0 9 (dk_at dksX5_fits_4 3 rfl rfl)
theorem dX5_fits_96 : decode cX5_fits 96 = .ok (.iconst 1, 1) := dk_4 (dk_at dksX5_fits_4 6 rfl rfl)
theorem dX5_fits_97 : decode cX5_fits 97 = .ok (.iload_n 2, 1) := dk_28 (dk_at dksX5_fits_4 7 rfl rfl)
theorem dX5_fits_98 : decode cX5_fits 98 = .ok (.ishl, 1) := dk_120 (dk_at dksX5_fits_4 8 rfl rfl)
theorem dX5_fits_99 : decode cX5_fits 99 = .ok (.goto 4, 3) := dk_167 0 4 (dk_at dksX5_fits_4 9 rfl rfl)
theorem dX5_fits_102 : decode cX5_fits 102 = .ok (.iconst 0, 1) := dk_3 (dk_at dksX5_fits_4 12 rfl rfl)
theorem dX5_fits_103 : decode cX5_fits 103 = .ok (.ior, 1) := dk_128 (dk_at dksX5_fits_4 13 rfl rfl)
theorem dX5_fits_104 : decode cX5_fits 104 = .ok (.istore_n 1, 1) := dk_60 (dk_at dksX5_fits_4 14 rfl rfl)
theorem dX5_fits_105 : decode cX5_fits 105 = .ok (.iinc 2 1, 3) := dk_132 2 1 (dk_at dksX5_fits_4 15 rfl rfl)
theorem dX5_fits_108 : decode cX5_fits 108 = .ok (.goto (-31), 3) := dk_167 255 225 (dk_at dksX5_fits_4 18 rfl rfl)
theorem dX5_fits_111 : decode cX5_fits 111 = .ok (.iload_n 1, 1) := dk_27 (dk_at dksX5_fits_4 21 rfl rfl)
theorem dX5_fits_112 : decode cX5_fits 112 = .ok (.ifCond .ne 5, 3) := dk_154 0 5 (dk_at dksX5_fits_5 0 rfl rfl)
theorem dX5_fits_115 : decode cX5_fits 115 = .ok (.iconst 0, 1) := dk_3 (dk_at dksX5_fits_5 3 rfl rfl)
theorem dX5_fits_116 : decode cX5_fits 116 = .ok (.ireturn, 1) := dk_172 (dk_at dksX5_fits_5 4 rfl rfl)
theorem dX5_fits_117 : decode cX5_fits 117 = .ok (.aload_n 0, 1) := dk_42 (dk_at dksX5_fits_5 5 rfl rfl)
theorem dX5_fits_118 : decode cX5_fits 118 = .ok (.iconst 1, 1) := dk_4 (dk_at dksX5_fits_5 6 rfl rfl)
theorem dX5_fits_119 : decode cX5_fits 119 = .ok (.putfield 402, 3) := dk_181 1 146 (dk_at dksX5_fits_5 7 rfl rfl)
theorem dX5_fits_122 : decode cX5_fits 122 = .ok (.aload_n 0, 1) := dk_42 (dk_at dksX5_fits_5 10 rfl rfl)
theorem dX5_fits_123 : decode cX5_fits 123 = .ok (.iconst 0, 1) := dk_3 (dk_at dksX5_fits_5 11 rfl rfl)
theorem dX5_fits_124 : decode cX5_fits 124 = .ok (.putfield 405, 3) := dk_181 1 149 (dk_at dksX5_fits_5 12 rfl rfl)
theorem dX5_fits_127 : decode cX5_fits 127 = .ok (.iconst 1, 1) := dk_4 (dk_at dksX5_fits_5 15 rfl rfl)
theorem dX5_fits_128 : decode cX5_fits 128 = .ok (.istore_n 2, 1) := dk_61 (dk_at dksX5_fits_5 16 rfl rfl)
theorem dX5_fits_129 : decode cX5_fits 129 = .ok (.iload_n 2, 1) := dk_28 (dk_at dksX5_fits_5 17 rfl rfl)
theorem dX5_fits_130 : decode cX5_fits 130 = .ok (.aload_n 0, 1) := dk_42 (dk_at dksX5_fits_5 18 rfl rfl)
theorem dX5_fits_131 : decode cX5_fits 131 = .ok (.getfield 33, 3) := dk_180 0 33 (dk_at dksX5_fits_5 19 rfl rfl)
theorem dX5_fits_134 : decode cX5_fits 134 = .ok (.iconst 0, 1) := dk_3 (dk_at dksX5_fits_5 22 rfl rfl)
theorem dX5_fits_135 : decode cX5_fits 135 = .ok (.iaload, 1) := dk_46 (dk_at dksX5_fits_5 23 rfl rfl)
theorem dX5_fits_136 : decode cX5_fits 136 = .ok (.if_icmp .gt 32, 3) := dk_163 0 32 (dk_at dksX5_fits_6 0 rfl rfl)
theorem dX5_fits_139 : decode cX5_fits 139 = .ok (.aload_n 0, 1) := dk_42 (dk_at dksX5_fits_6 3 rfl rfl)
theorem dX5_fits_140 : decode cX5_fits 140 = .ok (.iload_n 1, 1) := dk_27 (dk_at dksX5_fits_6 4 rfl rfl)
theorem dX5_fits_141 : decode cX5_fits 141 = .ok (.iload_n 2, 1) := dk_28 (dk_at dksX5_fits_6 5 rfl rfl)
theorem dX5_fits_142 : decode cX5_fits 142 = .ok (.invokevirtual 408, 3) := dk_182 1 152 (dk_at dksX5_fits_6 6 rfl rfl)
theorem dX5_fits_145 : decode cX5_fits 145 = .ok (.aload_n 0, 1) := dk_42 (dk_at dksX5_fits_6 9 rfl rfl)
theorem dX5_fits_146 : decode cX5_fits 146 = .ok (.iload_n 1, 1) := dk_27 (dk_at dksX5_fits_6 10 rfl rfl)
theorem dX5_fits_147 : decode cX5_fits 147 = .ok (.aload_n 0, 1) := dk_42 (dk_at dksX5_fits_6 11 rfl rfl)
theorem dX5_fits_148 : decode cX5_fits 148 = .ok (.getfield 405, 3) := dk_180 1 149 (dk_at dksX5_fits_6 12 rfl rfl)
theorem dX5_fits_151 : decode cX5_fits 151 = .ok (.invokevirtual 408, 3) := dk_182 1 152 (dk_at dksX5_fits_6 15 rfl rfl)
theorem dX5_fits_154 : decode cX5_fits 154 = .ok (.if_icmp .ge 8, 3) := dk_162 0 8 (dk_at dksX5_fits_6 18 rfl rfl)
theorem dX5_fits_157 : decode cX5_fits 157 = .ok (.aload_n 0, 1) := dk_42 (dk_at dksX5_fits_6 21 rfl rfl)
theorem dX5_fits_158 : decode cX5_fits 158 = .ok (.iload_n 2, 1) := dk_28 (dk_at dksX5_fits_6 22 rfl rfl)
theorem dX5_fits_159 : decode cX5_fits 159 = .ok (.putfield 405, 3) := dk_181 1 149 (dk_at dksX5_fits_7 0 rfl rfl)
theorem dX5_fits_162 : decode cX5_fits 162 = .ok (.iinc 2 1, 3) := dk_132 2 1 (dk_at dksX5_fits_7 3 rfl rfl)
theorem dX5_fits_165 : decode cX5_fits 165 = .ok (.goto (-36), 3) := dk_167 255 220 (dk_at dksX5_fits_7 6 rfl rfl)
theorem dX5_fits_168 : decode cX5_fits 168 = .ok (.iload_n 1, 1) := dk_27 (dk_at dksX5_fits_7 9 rfl rfl)
theorem dX5_fits_169 : decode cX5_fits 169 = .ok (.ireturn, 1) := dk_172 (dk_at dksX5_fits_7 10 rfl rfl)
abbrev cX5_isFit : ByteArray := prog_29_method_93_code
def yX5_isFit : MethodName := ⟨RX5, "isFit", "(I)Z"⟩
def dkwX5_isFit_2 : List UInt8 := [167, 0, 4, 3, 61, 132, 3, 2, 167, 255, 210, 28, 172]
abbrev dktX5_isFit_2 : List UInt8 := dkwX5_isFit_2 ++ []
def dkwX5_isFit_1 : List UInt8 := [16, 13, 27, 104, 42, 29, 182, 1, 116, 96, 46, 42, 29, 4, 96, 182, 1, 116, 160, 0, 7, 4]
abbrev dktX5_isFit_1 : List UInt8 := dkwX5_isFit_1 ++ dktX5_isFit_2
def dkwX5_isFit_0 : List UInt8 := [42, 27, 182, 1, 19, 61, 3, 62, 29, 42, 180, 0, 18, 162, 0, 44, 28, 153, 0, 32, 42, 180, 0, 62]
abbrev dktX5_isFit_0 : List UInt8 := dkwX5_isFit_0 ++ dktX5_isFit_1
theorem dksX5_isFit_0 : cX5_isFit.data.toList.drop 0 = dktX5_isFit_0 := by decide +kernel
theorem dksX5_isFit_1 : cX5_isFit.data.toList.drop 24 = dktX5_isFit_1 := dk_seg dksX5_isFit_0 24 rfl rfl
theorem dksX5_isFit_2 : cX5_isFit.data.toList.drop 46 = dktX5_isFit_2 := dk_seg dksX5_isFit_1 22 rfl rfl
theorem dX5_isFit_0 : decode cX5_isFit 0 = .ok (.aload_n 0, 1) := dk_42 (dk_at dksX5_isFit_0 0 rfl rfl)
theorem dX5_isFit_1 : decode cX5_isFit 1 = .ok (.iload_n 1, 1) := dk_27 (dk_at dksX5_isFit_0 1 rfl rfl)
theorem dX5_isFit_2 : decode cX5_isFit 2 = .ok (.invokevirtual 275, 3) := dk_182 1 19 (dk_at dksX5_isFit_0 2 rfl rfl)
theorem dX5_isFit_5 : decode cX5_isFit 5 = .ok (.istore_n 2, 1) := dk_61 (dk_at dksX5_isFit_0 5 rfl rfl)
theorem dX5_isFit_6 : decode cX5_isFit 6 = .ok (.iconst 0, 1) := dk_3 (dk_at dksX5_isFit_0 6 rfl rfl)
theorem dX5_isFit_7 : decode cX5_isFit 7 = .ok (.istore_n 3, 1) := dk_62 (dk_at dksX5_isFit_0 7 rfl rfl)
theorem dX5_isFit_8 : decode cX5_isFit 8 = .ok (.iload_n 3, 1) := dk_29 (dk_at dksX5_isFit_0 8 rfl rfl)
theorem dX5_isFit_9 : decode cX5_isFit 9 = .ok (.aload_n 0, 1) := dk_42 (dk_at dksX5_isFit_0 9 rfl rfl)
theorem dX5_isFit_10 : decode cX5_isFit 10 = .ok (.getfield 18, 3) := dk_180 0 18 (dk_at dksX5_isFit_0 10 rfl rfl)
theorem dX5_isFit_13 : decode cX5_isFit 13 = .ok (.if_icmp .ge 44, 3) := dk_162 0 44 (dk_at dksX5_isFit_0 13 rfl rfl)
theorem dX5_isFit_16 : decode cX5_isFit 16 = .ok (.iload_n 2, 1) := dk_28 (dk_at dksX5_isFit_0 16 rfl rfl)
theorem dX5_isFit_17 : decode cX5_isFit 17 = .ok (.ifCond .eq 32, 3) := dk_153 0 32 (dk_at dksX5_isFit_0 17 rfl rfl)
theorem dX5_isFit_20 : decode cX5_isFit 20 = .ok (.aload_n 0, 1) := dk_42 (dk_at dksX5_isFit_0 20 rfl rfl)
theorem dX5_isFit_21 : decode cX5_isFit 21 = .ok (.getfield 62, 3) := dk_180 0 62 (dk_at dksX5_isFit_0 21 rfl rfl)
theorem dX5_isFit_24 : decode cX5_isFit 24 = .ok (.bipush 13, 2) := dk_16 13 (dk_at dksX5_isFit_1 0 rfl rfl)
theorem dX5_isFit_26 : decode cX5_isFit 26 = .ok (.iload_n 1, 1) := dk_27 (dk_at dksX5_isFit_1 2 rfl rfl)
theorem dX5_isFit_27 : decode cX5_isFit 27 = .ok (.imul, 1) := dk_104 (dk_at dksX5_isFit_1 3 rfl rfl)
theorem dX5_isFit_28 : decode cX5_isFit 28 = .ok (.aload_n 0, 1) := dk_42 (dk_at dksX5_isFit_1 4 rfl rfl)
theorem dX5_isFit_29 : decode cX5_isFit 29 = .ok (.iload_n 3, 1) := dk_29 (dk_at dksX5_isFit_1 5 rfl rfl)
theorem dX5_isFit_30 : decode cX5_isFit 30 = .ok (.invokevirtual 372, 3) := dk_182 1 116 (dk_at dksX5_isFit_1 6 rfl rfl)
theorem dX5_isFit_33 : decode cX5_isFit 33 = .ok (.iadd, 1) := dk_96 (dk_at dksX5_isFit_1 9 rfl rfl)
theorem dX5_isFit_34 : decode cX5_isFit 34 = .ok (.iaload, 1) := dk_46 (dk_at dksX5_isFit_1 10 rfl rfl)
theorem dX5_isFit_35 : decode cX5_isFit 35 = .ok (.aload_n 0, 1) := dk_42 (dk_at dksX5_isFit_1 11 rfl rfl)
theorem dX5_isFit_36 : decode cX5_isFit 36 = .ok (.iload_n 3, 1) := dk_29 (dk_at dksX5_isFit_1 12 rfl rfl)
theorem dX5_isFit_37 : decode cX5_isFit 37 = .ok (.iconst 1, 1) := dk_4 (dk_at dksX5_isFit_1 13 rfl rfl)
theorem dX5_isFit_38 : decode cX5_isFit 38 = .ok (.iadd, 1) := dk_96 (dk_at dksX5_isFit_1 14 rfl rfl)
theorem dX5_isFit_39 : decode cX5_isFit 39 = .ok (.invokevirtual 372, 3) := dk_182 1 116 (dk_at dksX5_isFit_1 15 rfl rfl)
theorem dX5_isFit_42 : decode cX5_isFit 42 = .ok (.if_icmp .ne 7, 3) := dk_160 0 7 (dk_at dksX5_isFit_1 18 rfl rfl)
theorem dX5_isFit_45 : decode cX5_isFit 45 = .ok (.iconst 1, 1) := dk_4 (dk_at dksX5_isFit_1 21 rfl rfl)
theorem dX5_isFit_46 : decode cX5_isFit 46 = .ok (.goto 4, 3) := dk_167 0 4 (dk_at dksX5_isFit_2 0 rfl rfl)
theorem dX5_isFit_49 : decode cX5_isFit 49 = .ok (.iconst 0, 1) := dk_3 (dk_at dksX5_isFit_2 3 rfl rfl)
theorem dX5_isFit_50 : decode cX5_isFit 50 = .ok (.istore_n 2, 1) := dk_61 (dk_at dksX5_isFit_2 4 rfl rfl)
theorem dX5_isFit_51 : decode cX5_isFit 51 = .ok (.iinc 3 2, 3) := dk_132 3 2 (dk_at dksX5_isFit_2 5 rfl rfl)
theorem dX5_isFit_54 : decode cX5_isFit 54 = .ok (.goto (-46), 3) := dk_167 255 210 (dk_at dksX5_isFit_2 8 rfl rfl)
theorem dX5_isFit_57 : decode cX5_isFit 57 = .ok (.iload_n 2, 1) := dk_28 (dk_at dksX5_isFit_2 11 rfl rfl)
theorem dX5_isFit_58 : decode cX5_isFit 58 = .ok (.ireturn, 1) := dk_172 (dk_at dksX5_isFit_2 12 rfl rfl)
abbrev cX5_leftBy : ByteArray := prog_29_method_94_code
def yX5_leftBy : MethodName := ⟨RX5, "leftBy", "(II)I"⟩
def dkwX5_leftBy_4 : List UInt8 := [21, 5, 184, 1, 140, 62, 132, 4, 1, 167, 255, 157, 29, 172]
abbrev dktX5_leftBy_4 : List UInt8 := dkwX5_leftBy_4 ++ []
def dkwX5_leftBy_3 : List UInt8 := [21, 6, 104, 28, 96, 46, 160, 0, 7, 4, 167, 0, 4, 3, 96, 54, 5, 132, 6, 1, 167, 255, 187, 29]
abbrev dktX5_leftBy_3 : List UInt8 := dkwX5_leftBy_3 ++ dktX5_leftBy_4
def dkwX5_leftBy_2 : List UInt8 := [184, 0, 242, 153, 0, 34, 42, 180, 0, 62, 16, 13, 21, 4, 104, 28, 96, 46, 42, 180, 0, 62, 16, 13]
abbrev dktX5_leftBy_2 : List UInt8 := dkwX5_leftBy_2 ++ dktX5_leftBy_3
def dkwX5_leftBy_1 : List UInt8 := [42, 180, 0, 33, 3, 46, 162, 0, 64, 21, 5, 27, 21, 4, 184, 0, 242, 153, 0, 43, 27, 21, 6]
abbrev dktX5_leftBy_1 : List UInt8 := dkwX5_leftBy_1 ++ dktX5_leftBy_2
def dkwX5_leftBy_0 : List UInt8 := [3, 62, 3, 54, 4, 21, 4, 42, 180, 0, 33, 3, 46, 162, 0, 94, 3, 54, 5, 3, 54, 6, 21, 6]
abbrev dktX5_leftBy_0 : List UInt8 := dkwX5_leftBy_0 ++ dktX5_leftBy_1
theorem dksX5_leftBy_0 : cX5_leftBy.data.toList.drop 0 = dktX5_leftBy_0 := by decide +kernel
theorem dksX5_leftBy_1 : cX5_leftBy.data.toList.drop 24 = dktX5_leftBy_1 := dk_seg dksX5_leftBy_0 24 rfl rfl
theorem dksX5_leftBy_2 : cX5_leftBy.data.toList.drop 47 = dktX5_leftBy_2 := dk_seg dksX5_leftBy_1 23 rfl rfl
theorem dksX5_leftBy_3 : cX5_leftBy.data.toList.drop 71 = dktX5_leftBy_3 := dk_seg dksX5_leftBy_2 24 rfl rfl
theorem dksX5_leftBy_4 : cX5_leftBy.data.toList.drop 95 = dktX5_leftBy_4 := dk_seg dksX5_leftBy_3 24 rfl rfl
theorem dX5_leftBy_0 : decode cX5_leftBy 0 = .ok (.iconst 0, 1) := dk_3 (dk_at dksX5_leftBy_0 0 rfl rfl)
theorem dX5_leftBy_1 : decode cX5_leftBy 1 = .ok (.istore_n 3, 1) := dk_62 (dk_at dksX5_leftBy_0 1 rfl rfl)
theorem dX5_leftBy_2 : decode cX5_leftBy 2 = .ok (.iconst 0, 1) := dk_3 (dk_at dksX5_leftBy_0 2 rfl rfl)
theorem dX5_leftBy_3 : decode cX5_leftBy 3 = .ok (.istore 4, 2) := dk_54 4 (dk_at dksX5_leftBy_0 3 rfl rfl)
theorem dX5_leftBy_5 : decode cX5_leftBy 5 = .ok (.iload 4, 2) := dk_21 4 (dk_at dksX5_leftBy_0 5 rfl rfl)
theorem dX5_leftBy_7 : decode cX5_leftBy 7 = .ok (.aload_n 0, 1) := dk_42 (dk_at dksX5_leftBy_0 7 rfl rfl)
theorem dX5_leftBy_8 : decode cX5_leftBy 8 = .ok (.getfield 33, 3) := dk_180 0 33 (dk_at dksX5_leftBy_0 8 rfl rfl)
theorem dX5_leftBy_11 : decode cX5_leftBy 11 = .ok (.iconst 0, 1) := dk_3 (dk_at dksX5_leftBy_0 11 rfl rfl)
theorem dX5_leftBy_12 : decode cX5_leftBy 12 = .ok (.iaload, 1) := dk_46 (dk_at dksX5_leftBy_0 12 rfl rfl)
theorem dX5_leftBy_13 : decode cX5_leftBy 13 = .ok (.if_icmp .ge 94, 3) := dk_162 0 94 (dk_at dksX5_leftBy_0 13 rfl rfl)
theorem dX5_leftBy_16 : decode cX5_leftBy 16 = .ok (.iconst 0, 1) := dk_3 (dk_at dksX5_leftBy_0 16 rfl rfl)
theorem dX5_leftBy_17 : decode cX5_leftBy 17 = .ok (.istore 5, 2) := dk_54 5 (dk_at dksX5_leftBy_0 17 rfl rfl)
theorem dX5_leftBy_19 : decode cX5_leftBy 19 = .ok (.iconst 0, 1) := dk_3 (dk_at dksX5_leftBy_0 19 rfl rfl)
theorem dX5_leftBy_20 : decode cX5_leftBy 20 = .ok (.istore 6, 2) := dk_54 6 (dk_at dksX5_leftBy_0 20 rfl rfl)
theorem dX5_leftBy_22 : decode cX5_leftBy 22 = .ok (.iload 6, 2) := dk_21 6 (dk_at dksX5_leftBy_0 22 rfl rfl)
theorem dX5_leftBy_24 : decode cX5_leftBy 24 = .ok (.aload_n 0, 1) := dk_42 (dk_at dksX5_leftBy_1 0 rfl rfl)
theorem dX5_leftBy_25 : decode cX5_leftBy 25 = .ok (.getfield 33, 3) := dk_180 0 33 (dk_at dksX5_leftBy_1 1 rfl rfl)
theorem dX5_leftBy_28 : decode cX5_leftBy 28 = .ok (.iconst 0, 1) := dk_3 (dk_at dksX5_leftBy_1 4 rfl rfl)
theorem dX5_leftBy_29 : decode cX5_leftBy 29 = .ok (.iaload, 1) := dk_46 (dk_at dksX5_leftBy_1 5 rfl rfl)
theorem dX5_leftBy_30 : decode cX5_leftBy 30 = .ok (.if_icmp .ge 64, 3) := dk_162 0 64 (dk_at dksX5_leftBy_1 6 rfl rfl)
theorem dX5_leftBy_33 : decode cX5_leftBy 33 = .ok (.iload 5, 2) := dk_21 5 (dk_at dksX5_leftBy_1 9 rfl rfl)
theorem dX5_leftBy_35 : decode cX5_leftBy 35 = .ok (.iload_n 1, 1) := dk_27 (dk_at dksX5_leftBy_1 11 rfl rfl)
theorem dX5_leftBy_36 : decode cX5_leftBy 36 = .ok (.iload 4, 2) := dk_21 4 (dk_at dksX5_leftBy_1 12 rfl rfl)
theorem dX5_leftBy_38 : decode cX5_leftBy 38 = .ok (.invokestatic 242, 3) := dk_184 0 242 (dk_at dksX5_leftBy_1 14 rfl rfl)
theorem dX5_leftBy_41 : decode cX5_leftBy 41 = .ok (.ifCond .eq 43, 3) := dk_153 0 43 (dk_at dksX5_leftBy_1 17 rfl rfl)
theorem dX5_leftBy_44 : decode cX5_leftBy 44 = .ok (.iload_n 1, 1) := dk_27 (dk_at dksX5_leftBy_1 20 rfl rfl)
theorem dX5_leftBy_45 : decode cX5_leftBy 45 = .ok (.iload 6, 2) := dk_21 6 (dk_at dksX5_leftBy_1 21 rfl rfl)
theorem dX5_leftBy_47 : decode cX5_leftBy 47 = .ok (.invokestatic 242, 3) := dk_184 0 242 (dk_at dksX5_leftBy_2 0 rfl rfl)
theorem dX5_leftBy_50 : decode cX5_leftBy 50 = .ok (.ifCond .eq 34, 3) := dk_153 0 34 (dk_at dksX5_leftBy_2 3 rfl rfl)
theorem dX5_leftBy_53 : decode cX5_leftBy 53 = .ok (.aload_n 0, 1) := dk_42 (dk_at dksX5_leftBy_2 6 rfl rfl)
theorem dX5_leftBy_54 : decode cX5_leftBy 54 = .ok (.getfield 62, 3) := dk_180 0 62 (dk_at dksX5_leftBy_2 7 rfl rfl)
theorem dX5_leftBy_57 : decode cX5_leftBy 57 = .ok (.bipush 13, 2) := dk_16 13 (dk_at dksX5_leftBy_2 10 rfl rfl)
theorem dX5_leftBy_59 : decode cX5_leftBy 59 = .ok (.iload 4, 2) := dk_21 4 (dk_at dksX5_leftBy_2 12 rfl rfl)
theorem dX5_leftBy_61 : decode cX5_leftBy 61 = .ok (.imul, 1) := dk_104 (dk_at dksX5_leftBy_2 14 rfl rfl)
theorem dX5_leftBy_62 : decode cX5_leftBy 62 = .ok (.iload_n 2, 1) := dk_28 (dk_at dksX5_leftBy_2 15 rfl rfl)
theorem dX5_leftBy_63 : decode cX5_leftBy 63 = .ok (.iadd, 1) := dk_96 (dk_at dksX5_leftBy_2 16 rfl rfl)
theorem dX5_leftBy_64 : decode cX5_leftBy 64 = .ok (.iaload, 1) := dk_46 (dk_at dksX5_leftBy_2 17 rfl rfl)
theorem dX5_leftBy_65 : decode cX5_leftBy 65 = .ok (.aload_n 0, 1) := dk_42 (dk_at dksX5_leftBy_2 18 rfl rfl)
theorem dX5_leftBy_66 : decode cX5_leftBy 66 = .ok (.getfield 62, 3) := dk_180 0 62 (dk_at dksX5_leftBy_2 19 rfl rfl)
theorem dX5_leftBy_69 : decode cX5_leftBy 69 = .ok (.bipush 13, 2) := dk_16 13 (dk_at dksX5_leftBy_2 22 rfl rfl)
theorem dX5_leftBy_71 : decode cX5_leftBy 71 = .ok (.iload 6, 2) := dk_21 6 (dk_at dksX5_leftBy_3 0 rfl rfl)
theorem dX5_leftBy_73 : decode cX5_leftBy 73 = .ok (.imul, 1) := dk_104 (dk_at dksX5_leftBy_3 2 rfl rfl)
theorem dX5_leftBy_74 : decode cX5_leftBy 74 = .ok (.iload_n 2, 1) := dk_28 (dk_at dksX5_leftBy_3 3 rfl rfl)
theorem dX5_leftBy_75 : decode cX5_leftBy 75 = .ok (.iadd, 1) := dk_96 (dk_at dksX5_leftBy_3 4 rfl rfl)
theorem dX5_leftBy_76 : decode cX5_leftBy 76 = .ok (.iaload, 1) := dk_46 (dk_at dksX5_leftBy_3 5 rfl rfl)
theorem dX5_leftBy_77 : decode cX5_leftBy 77 = .ok (.if_icmp .ne 7, 3) := dk_160 0 7 (dk_at dksX5_leftBy_3 6 rfl rfl)
theorem dX5_leftBy_80 : decode cX5_leftBy 80 = .ok (.iconst 1, 1) := dk_4 (dk_at dksX5_leftBy_3 9 rfl rfl)
theorem dX5_leftBy_81 : decode cX5_leftBy 81 = .ok (.goto 4, 3) := dk_167 0 4 (dk_at dksX5_leftBy_3 10 rfl rfl)
theorem dX5_leftBy_84 : decode cX5_leftBy 84 = .ok (.iconst 0, 1) := dk_3 (dk_at dksX5_leftBy_3 13 rfl rfl)
theorem dX5_leftBy_85 : decode cX5_leftBy 85 = .ok (.iadd, 1) := dk_96 (dk_at dksX5_leftBy_3 14 rfl rfl)
theorem dX5_leftBy_86 : decode cX5_leftBy 86 = .ok (.istore 5, 2) := dk_54 5 (dk_at dksX5_leftBy_3 15 rfl rfl)
theorem dX5_leftBy_88 : decode cX5_leftBy 88 = .ok (.iinc 6 1, 3) := dk_132 6 1 (dk_at dksX5_leftBy_3 17 rfl rfl)
theorem dX5_leftBy_91 : decode cX5_leftBy 91 = .ok (.goto (-69), 3) := dk_167 255 187 (dk_at dksX5_leftBy_3 20 rfl rfl)
theorem dX5_leftBy_94 : decode cX5_leftBy 94 = .ok (.iload_n 3, 1) := dk_29 (dk_at dksX5_leftBy_3 23 rfl rfl)
theorem dX5_leftBy_95 : decode cX5_leftBy 95 = .ok (.iload 5, 2) := dk_21 5 (dk_at dksX5_leftBy_4 0 rfl rfl)
theorem dX5_leftBy_97 : decode cX5_leftBy 97 = .ok (.invokestatic 396, 3) := dk_184 1 140 (dk_at dksX5_leftBy_4 2 rfl rfl)
theorem dX5_leftBy_100 : decode cX5_leftBy 100 = .ok (.istore_n 3, 1) := dk_62 (dk_at dksX5_leftBy_4 5 rfl rfl)
theorem dX5_leftBy_101 : decode cX5_leftBy 101 = .ok (.iinc 4 1, 3) := dk_132 4 1 (dk_at dksX5_leftBy_4 6 rfl rfl)
theorem dX5_leftBy_104 : decode cX5_leftBy 104 = .ok (.goto (-99), 3) := dk_167 255 157 (dk_at dksX5_leftBy_4 9 rfl rfl)
theorem dX5_leftBy_107 : decode cX5_leftBy 107 = .ok (.iload_n 3, 1) := dk_29 (dk_at dksX5_leftBy_4 12 rfl rfl)
theorem dX5_leftBy_108 : decode cX5_leftBy 108 = .ok (.ireturn, 1) := dk_172 (dk_at dksX5_leftBy_4 13 rfl rfl)
abbrev cX5_greater : ByteArray := prog_29_method_10_code
def yX5_greater : MethodName := ⟨RX5, "greater", "(II)I"⟩
def dkwX5_greater_0 : List UInt8 := [26, 27, 164, 0, 7, 26, 167, 0, 4, 27, 172]
abbrev dktX5_greater_0 : List UInt8 := dkwX5_greater_0 ++ []
theorem dksX5_greater_0 : cX5_greater.data.toList.drop 0 = dktX5_greater_0 := by decide +kernel
theorem dX5_greater_0 : decode cX5_greater 0 = .ok (.iload_n 0, 1) := dk_26 (dk_at dksX5_greater_0 0 rfl rfl)
theorem dX5_greater_1 : decode cX5_greater 1 = .ok (.iload_n 1, 1) := dk_27 (dk_at dksX5_greater_0 1 rfl rfl)
theorem dX5_greater_2 : decode cX5_greater 2 = .ok (.if_icmp .le 7, 3) := dk_164 0 7 (dk_at dksX5_greater_0 2 rfl rfl)
theorem dX5_greater_5 : decode cX5_greater 5 = .ok (.iload_n 0, 1) := dk_26 (dk_at dksX5_greater_0 5 rfl rfl)
theorem dX5_greater_6 : decode cX5_greater 6 = .ok (.goto 4, 3) := dk_167 0 4 (dk_at dksX5_greater_0 6 rfl rfl)
theorem dX5_greater_9 : decode cX5_greater 9 = .ok (.iload_n 1, 1) := dk_27 (dk_at dksX5_greater_0 9 rfl rfl)
theorem dX5_greater_10 : decode cX5_greater 10 = .ok (.ireturn, 1) := dk_172 (dk_at dksX5_greater_0 10 rfl rfl)
abbrev cX5_ask : ByteArray := prog_29_method_96_code
def yX5_ask : MethodName := ⟨RX5, "ask", "()I"⟩
def dkwX5_ask_0 : List UInt8 := [42, 3, 181, 0, 1, 42, 180, 1, 146, 153, 0, 10, 42, 180, 1, 149, 167, 0, 4, 2, 172]
abbrev dktX5_ask_0 : List UInt8 := dkwX5_ask_0 ++ []
theorem dksX5_ask_0 : cX5_ask.data.toList.drop 0 = dktX5_ask_0 := by decide +kernel
theorem dX5_ask_0 : decode cX5_ask 0 = .ok (.aload_n 0, 1) := dk_42 (dk_at dksX5_ask_0 0 rfl rfl)
theorem dX5_ask_1 : decode cX5_ask 1 = .ok (.iconst 0, 1) := dk_3 (dk_at dksX5_ask_0 1 rfl rfl)
theorem dX5_ask_2 : decode cX5_ask 2 = .ok (.putfield 1, 3) := dk_181 0 1 (dk_at dksX5_ask_0 2 rfl rfl)
theorem dX5_ask_5 : decode cX5_ask 5 = .ok (.aload_n 0, 1) := dk_42 (dk_at dksX5_ask_0 5 rfl rfl)
theorem dX5_ask_6 : decode cX5_ask 6 = .ok (.getfield 402, 3) := dk_180 1 146 (dk_at dksX5_ask_0 6 rfl rfl)
theorem dX5_ask_9 : decode cX5_ask 9 = .ok (.ifCond .eq 10, 3) := dk_153 0 10 (dk_at dksX5_ask_0 9 rfl rfl)
theorem dX5_ask_12 : decode cX5_ask 12 = .ok (.aload_n 0, 1) := dk_42 (dk_at dksX5_ask_0 12 rfl rfl)
theorem dX5_ask_13 : decode cX5_ask 13 = .ok (.getfield 405, 3) := dk_180 1 149 (dk_at dksX5_ask_0 13 rfl rfl)
theorem dX5_ask_16 : decode cX5_ask 16 = .ok (.goto 4, 3) := dk_167 0 4 (dk_at dksX5_ask_0 16 rfl rfl)
theorem dX5_ask_19 : decode cX5_ask 19 = .ok (.iconst (-1), 1) := dk_2 (dk_at dksX5_ask_0 19 rfl rfl)
theorem dX5_ask_20 : decode cX5_ask 20 = .ok (.ireturn, 1) := dk_172 (dk_at dksX5_ask_0 20 rfl rfl)
abbrev cX5_crown : ByteArray := prog_29_method_97_code
def yX5_crown : MethodName := ⟨RX5, "crown", "(I)I"⟩
def dkwX5_crown_3 : List UInt8 := [153, 0, 7, 42, 182, 1, 76, 132, 4, 1, 167, 255, 204, 42, 182, 1, 110, 28, 172]
abbrev dktX5_crown_3 : List UInt8 := dkwX5_crown_3 ++ []
def dkwX5_crown_2 : List UInt8 := [156, 0, 20, 42, 180, 0, 33, 16, 100, 46, 17, 0, 199, 162, 0, 7, 4, 167, 0, 4, 3, 62, 29]
abbrev dktX5_crown_2 : List UInt8 := dkwX5_crown_2 ++ dktX5_crown_3
def dkwX5_crown_1 : List UInt8 := [4, 62, 3, 54, 4, 29, 153, 0, 54, 42, 180, 0, 33, 16, 102, 46, 27, 161, 0, 6, 21, 4, 61, 28]
abbrev dktX5_crown_1 : List UInt8 := dkwX5_crown_1 ++ dktX5_crown_2
def dkwX5_crown_0 : List UInt8 := [42, 3, 181, 0, 1, 27, 3, 17, 3, 231, 184, 0, 190, 154, 0, 5, 2, 172, 42, 182, 1, 107, 2, 61]
abbrev dktX5_crown_0 : List UInt8 := dkwX5_crown_0 ++ dktX5_crown_1
theorem dksX5_crown_0 : cX5_crown.data.toList.drop 0 = dktX5_crown_0 := by decide +kernel
theorem dksX5_crown_1 : cX5_crown.data.toList.drop 24 = dktX5_crown_1 := dk_seg dksX5_crown_0 24 rfl rfl
theorem dksX5_crown_2 : cX5_crown.data.toList.drop 48 = dktX5_crown_2 := dk_seg dksX5_crown_1 24 rfl rfl
theorem dksX5_crown_3 : cX5_crown.data.toList.drop 71 = dktX5_crown_3 := dk_seg dksX5_crown_2 23 rfl rfl
theorem dX5_crown_0 : decode cX5_crown 0 = .ok (.aload_n 0, 1) := dk_42 (dk_at dksX5_crown_0 0 rfl rfl)
theorem dX5_crown_1 : decode cX5_crown 1 = .ok (.iconst 0, 1) := dk_3 (dk_at dksX5_crown_0 1 rfl rfl)
theorem dX5_crown_2 : decode cX5_crown 2 = .ok (.putfield 1, 3) := dk_181 0 1 (dk_at dksX5_crown_0 2 rfl rfl)
theorem dX5_crown_5 : decode cX5_crown 5 = .ok (.iload_n 1, 1) := dk_27 (dk_at dksX5_crown_0 5 rfl rfl)
theorem dX5_crown_6 : decode cX5_crown 6 = .ok (.iconst 0, 1) := dk_3 (dk_at dksX5_crown_0 6 rfl rfl)
theorem dX5_crown_7 : decode cX5_crown 7 = .ok (.sipush 999, 3) := dk_17 3 231 (dk_at dksX5_crown_0 7 rfl rfl)
theorem dX5_crown_10 : decode cX5_crown 10 = .ok (.invokestatic 190, 3) := dk_184 0 190 (dk_at dksX5_crown_0 10 rfl rfl)
theorem dX5_crown_13 : decode cX5_crown 13 = .ok (.ifCond .ne 5, 3) := dk_154 0 5 (dk_at dksX5_crown_0 13 rfl rfl)
theorem dX5_crown_16 : decode cX5_crown 16 = .ok (.iconst (-1), 1) := dk_2 (dk_at dksX5_crown_0 16 rfl rfl)
theorem dX5_crown_17 : decode cX5_crown 17 = .ok (.ireturn, 1) := dk_172 (dk_at dksX5_crown_0 17 rfl rfl)
theorem dX5_crown_18 : decode cX5_crown 18 = .ok (.aload_n 0, 1) := dk_42 (dk_at dksX5_crown_0 18 rfl rfl)
theorem dX5_crown_19 : decode cX5_crown 19 = .ok (.invokevirtual 363, 3) := dk_182 1 107 (dk_at dksX5_crown_0 19 rfl rfl)
theorem dX5_crown_22 : decode cX5_crown 22 = .ok (.iconst (-1), 1) := dk_2 (dk_at dksX5_crown_0 22 rfl rfl)
theorem dX5_crown_23 : decode cX5_crown 23 = .ok (.istore_n 2, 1) := dk_61 (dk_at dksX5_crown_0 23 rfl rfl)
theorem dX5_crown_24 : decode cX5_crown 24 = .ok (.iconst 1, 1) := dk_4 (dk_at dksX5_crown_1 0 rfl rfl)
theorem dX5_crown_25 : decode cX5_crown 25 = .ok (.istore_n 3, 1) := dk_62 (dk_at dksX5_crown_1 1 rfl rfl)
theorem dX5_crown_26 : decode cX5_crown 26 = .ok (.iconst 0, 1) := dk_3 (dk_at dksX5_crown_1 2 rfl rfl)
theorem dX5_crown_27 : decode cX5_crown 27 = .ok (.istore 4, 2) := dk_54 4 (dk_at dksX5_crown_1 3 rfl rfl)
theorem dX5_crown_29 : decode cX5_crown 29 = .ok (.iload_n 3, 1) := dk_29 (dk_at dksX5_crown_1 5 rfl rfl)
theorem dX5_crown_30 : decode cX5_crown 30 = .ok (.ifCond .eq 54, 3) := dk_153 0 54 (dk_at dksX5_crown_1 6 rfl rfl)
theorem dX5_crown_33 : decode cX5_crown 33 = .ok (.aload_n 0, 1) := dk_42 (dk_at dksX5_crown_1 9 rfl rfl)
theorem dX5_crown_34 : decode cX5_crown 34 = .ok (.getfield 33, 3) := dk_180 0 33 (dk_at dksX5_crown_1 10 rfl rfl)
theorem dX5_crown_37 : decode cX5_crown 37 = .ok (.bipush 102, 2) := dk_16 102 (dk_at dksX5_crown_1 13 rfl rfl)
theorem dX5_crown_39 : decode cX5_crown 39 = .ok (.iaload, 1) := dk_46 (dk_at dksX5_crown_1 15 rfl rfl)
theorem dX5_crown_40 : decode cX5_crown 40 = .ok (.iload_n 1, 1) := dk_27 (dk_at dksX5_crown_1 16 rfl rfl)
theorem dX5_crown_41 : decode cX5_crown 41 = .ok (.if_icmp .lt 6, 3) := dk_161 0 6 (dk_at dksX5_crown_1 17 rfl rfl)
theorem dX5_crown_44 : decode cX5_crown 44 = .ok (.iload 4, 2) := dk_21 4 (dk_at dksX5_crown_1 20 rfl rfl)
theorem dX5_crown_46 : decode cX5_crown 46 = .ok (.istore_n 2, 1) := dk_61 (dk_at dksX5_crown_1 22 rfl rfl)
theorem dX5_crown_47 : decode cX5_crown 47 = .ok (.iload_n 2, 1) := dk_28 (dk_at dksX5_crown_1 23 rfl rfl)
theorem dX5_crown_48 : decode cX5_crown 48 = .ok (.ifCond .ge 20, 3) := dk_156 0 20 (dk_at dksX5_crown_2 0 rfl rfl)
theorem dX5_crown_51 : decode cX5_crown 51 = .ok (.aload_n 0, 1) := dk_42 (dk_at dksX5_crown_2 3 rfl rfl)
theorem dX5_crown_52 : decode cX5_crown 52 = .ok (.getfield 33, 3) := dk_180 0 33 (dk_at dksX5_crown_2 4 rfl rfl)
theorem dX5_crown_55 : decode cX5_crown 55 = .ok (.bipush 100, 2) := dk_16 100 (dk_at dksX5_crown_2 7 rfl rfl)
theorem dX5_crown_57 : decode cX5_crown 57 = .ok (.iaload, 1) := dk_46 (dk_at dksX5_crown_2 9 rfl rfl)
theorem dX5_crown_58 : decode cX5_crown 58 = .ok (.sipush 199, 3) := dk_17 0 199 (dk_at dksX5_crown_2 10 rfl rfl)
theorem dX5_crown_61 : decode cX5_crown 61 = .ok (.if_icmp .ge 7, 3) := dk_162 0 7 (dk_at dksX5_crown_2 13 rfl rfl)
theorem dX5_crown_64 : decode cX5_crown 64 = .ok (.iconst 1, 1) := dk_4 (dk_at dksX5_crown_2 16 rfl rfl)
theorem dX5_crown_65 : decode cX5_crown 65 = .ok (.goto 4, 3) := dk_167 0 4 (dk_at dksX5_crown_2 17 rfl rfl)
theorem dX5_crown_68 : decode cX5_crown 68 = .ok (.iconst 0, 1) := dk_3 (dk_at dksX5_crown_2 20 rfl rfl)
theorem dX5_crown_69 : decode cX5_crown 69 = .ok (.istore_n 3, 1) := dk_62 (dk_at dksX5_crown_2 21 rfl rfl)
theorem dX5_crown_70 : decode cX5_crown 70 = .ok (.iload_n 3, 1) := dk_29 (dk_at dksX5_crown_2 22 rfl rfl)
theorem dX5_crown_71 : decode cX5_crown 71 = .ok (.ifCond .eq 7, 3) := dk_153 0 7 (dk_at dksX5_crown_3 0 rfl rfl)
theorem dX5_crown_74 : decode cX5_crown 74 = .ok (.aload_n 0, 1) := dk_42 (dk_at dksX5_crown_3 3 rfl rfl)
theorem dX5_crown_75 : decode cX5_crown 75 = .ok (.invokevirtual 332, 3) := dk_182 1 76 (dk_at dksX5_crown_3 4 rfl rfl)
theorem dX5_crown_78 : decode cX5_crown 78 = .ok (.iinc 4 1, 3) := dk_132 4 1 (dk_at dksX5_crown_3 7 rfl rfl)
theorem dX5_crown_81 : decode cX5_crown 81 = .ok (.goto (-52), 3) := dk_167 255 204 (dk_at dksX5_crown_3 10 rfl rfl)
theorem dX5_crown_84 : decode cX5_crown 84 = .ok (.aload_n 0, 1) := dk_42 (dk_at dksX5_crown_3 13 rfl rfl)
theorem dX5_crown_85 : decode cX5_crown 85 = .ok (.invokevirtual 366, 3) := dk_182 1 110 (dk_at dksX5_crown_3 14 rfl rfl)
theorem dX5_crown_88 : decode cX5_crown 88 = .ok (.iload_n 2, 1) := dk_28 (dk_at dksX5_crown_3 17 rfl rfl)
theorem dX5_crown_89 : decode cX5_crown 89 = .ok (.ireturn, 1) := dk_172 (dk_at dksX5_crown_3 18 rfl rfl)
abbrev cX5_richest : ByteArray := prog_29_method_99_code
def yX5_richest : MethodName := ⟨RX5, "richest", "()I"⟩
def dkwX5_richest_0 : List UInt8 := [42, 3, 181, 0, 1, 42, 182, 1, 155, 172]
abbrev dktX5_richest_0 : List UInt8 := dkwX5_richest_0 ++ []
theorem dksX5_richest_0 : cX5_richest.data.toList.drop 0 = dktX5_richest_0 := by decide +kernel
theorem dX5_richest_0 : decode cX5_richest 0 = .ok (.aload_n 0, 1) := dk_42 (dk_at dksX5_richest_0 0 rfl rfl)
theorem dX5_richest_1 : decode cX5_richest 1 = .ok (.iconst 0, 1) := dk_3 (dk_at dksX5_richest_0 1 rfl rfl)
theorem dX5_richest_2 : decode cX5_richest 2 = .ok (.putfield 1, 3) := dk_181 0 1 (dk_at dksX5_richest_0 2 rfl rfl)
theorem dX5_richest_5 : decode cX5_richest 5 = .ok (.aload_n 0, 1) := dk_42 (dk_at dksX5_richest_0 5 rfl rfl)
theorem dX5_richest_6 : decode cX5_richest 6 = .ok (.invokevirtual 411, 3) := dk_182 1 155 (dk_at dksX5_richest_0 6 rfl rfl)
theorem dX5_richest_9 : decode cX5_richest 9 = .ok (.ireturn, 1) := dk_172 (dk_at dksX5_richest_0 9 rfl rfl)
abbrev cX5_richestNow : ByteArray := prog_29_method_98_code
def yX5_richestNow : MethodName := ⟨RX5, "richestNow", "()I"⟩
def dkwX5_richestNow_2 : List UInt8 := [172]
abbrev dktX5_richestNow_2 : List UInt8 := dkwX5_richestNow_2 ++ []
def dkwX5_richestNow_1 : List UInt8 := [28, 96, 46, 42, 180, 0, 33, 16, 105, 27, 96, 46, 164, 0, 5, 28, 60, 132, 2, 1, 167, 255, 216, 27]
abbrev dktX5_richestNow_1 : List UInt8 := dkwX5_richestNow_1 ++ dktX5_richestNow_2
def dkwX5_richestNow_0 : List UInt8 := [2, 60, 3, 61, 28, 42, 180, 0, 33, 3, 46, 162, 0, 36, 27, 155, 0, 24, 42, 180, 0, 33, 16, 105]
abbrev dktX5_richestNow_0 : List UInt8 := dkwX5_richestNow_0 ++ dktX5_richestNow_1
theorem dksX5_richestNow_0 : cX5_richestNow.data.toList.drop 0 = dktX5_richestNow_0 := by decide +kernel
theorem dksX5_richestNow_1 : cX5_richestNow.data.toList.drop 24 = dktX5_richestNow_1 := dk_seg dksX5_richestNow_0 24 rfl rfl
theorem dksX5_richestNow_2 : cX5_richestNow.data.toList.drop 48 = dktX5_richestNow_2 := dk_seg dksX5_richestNow_1 24 rfl rfl
theorem dX5_richestNow_0 : decode cX5_richestNow 0 = .ok (.iconst (-1), 1) := dk_2 (dk_at dksX5_richestNow_0 0 rfl rfl)
theorem dX5_richestNow_1 : decode cX5_richestNow 1 = .ok (.istore_n 1, 1) := dk_60 (dk_at dksX5_richestNow_0 1 rfl rfl)
theorem dX5_richestNow_2 : decode cX5_richestNow 2 = .ok (.iconst 0, 1) := dk_3 (dk_at dksX5_richestNow_0 2 rfl rfl)
theorem dX5_richestNow_3 : decode cX5_richestNow 3 = .ok (.istore_n 2, 1) := dk_61 (dk_at dksX5_richestNow_0 3 rfl rfl)
theorem dX5_richestNow_4 : decode cX5_richestNow 4 = .ok (.iload_n 2, 1) := dk_28 (dk_at dksX5_richestNow_0 4 rfl rfl)
theorem dX5_richestNow_5 : decode cX5_richestNow 5 = .ok (.aload_n 0, 1) := dk_42 (dk_at dksX5_richestNow_0 5 rfl rfl)
theorem dX5_richestNow_6 : decode cX5_richestNow 6 = .ok (.getfield 33, 3) := dk_180 0 33 (dk_at dksX5_richestNow_0 6 rfl rfl)
theorem dX5_richestNow_9 : decode cX5_richestNow 9 = .ok (.iconst 0, 1) := dk_3 (dk_at dksX5_richestNow_0 9 rfl rfl)
theorem dX5_richestNow_10 : decode cX5_richestNow 10 = .ok (.iaload, 1) := dk_46 (dk_at dksX5_richestNow_0 10 rfl rfl)
theorem dX5_richestNow_11 : decode cX5_richestNow 11 = .ok (.if_icmp .ge 36, 3) := dk_162 0 36 (dk_at dksX5_richestNow_0 11 rfl rfl)
theorem dX5_richestNow_14 : decode cX5_richestNow 14 = .ok (.iload_n 1, 1) := dk_27 (dk_at dksX5_richestNow_0 14 rfl rfl)
theorem dX5_richestNow_15 : decode cX5_richestNow 15 = .ok (.ifCond .lt 24, 3) := dk_155 0 24 (dk_at dksX5_richestNow_0 15 rfl rfl)
theorem dX5_richestNow_18 : decode cX5_richestNow 18 = .ok (.aload_n 0, 1) := dk_42 (dk_at dksX5_richestNow_0 18 rfl rfl)
theorem dX5_richestNow_19 : decode cX5_richestNow 19 = .ok (.getfield 33, 3) := dk_180 0 33 (dk_at dksX5_richestNow_0 19 rfl rfl)
theorem dX5_richestNow_22 : decode cX5_richestNow 22 = .ok (.bipush 105, 2) := dk_16 105 (dk_at dksX5_richestNow_0 22 rfl rfl)
theorem dX5_richestNow_24 : decode cX5_richestNow 24 = .ok (.iload_n 2, 1) := dk_28 (dk_at dksX5_richestNow_1 0 rfl rfl)
theorem dX5_richestNow_25 : decode cX5_richestNow 25 = .ok (.iadd, 1) := dk_96 (dk_at dksX5_richestNow_1 1 rfl rfl)
theorem dX5_richestNow_26 : decode cX5_richestNow 26 = .ok (.iaload, 1) := dk_46 (dk_at dksX5_richestNow_1 2 rfl rfl)
theorem dX5_richestNow_27 : decode cX5_richestNow 27 = .ok (.aload_n 0, 1) := dk_42 (dk_at dksX5_richestNow_1 3 rfl rfl)
theorem dX5_richestNow_28 : decode cX5_richestNow 28 = .ok (.getfield 33, 3) := dk_180 0 33 (dk_at dksX5_richestNow_1 4 rfl rfl)
theorem dX5_richestNow_31 : decode cX5_richestNow 31 = .ok (.bipush 105, 2) := dk_16 105 (dk_at dksX5_richestNow_1 7 rfl rfl)
theorem dX5_richestNow_33 : decode cX5_richestNow 33 = .ok (.iload_n 1, 1) := dk_27 (dk_at dksX5_richestNow_1 9 rfl rfl)
theorem dX5_richestNow_34 : decode cX5_richestNow 34 = .ok (.iadd, 1) := dk_96 (dk_at dksX5_richestNow_1 10 rfl rfl)
theorem dX5_richestNow_35 : decode cX5_richestNow 35 = .ok (.iaload, 1) := dk_46 (dk_at dksX5_richestNow_1 11 rfl rfl)
theorem dX5_richestNow_36 : decode cX5_richestNow 36 = .ok (.if_icmp .le 5, 3) := dk_164 0 5 (dk_at dksX5_richestNow_1 12 rfl rfl)
theorem dX5_richestNow_39 : decode cX5_richestNow 39 = .ok (.iload_n 2, 1) := dk_28 (dk_at dksX5_richestNow_1 15 rfl rfl)
theorem dX5_richestNow_40 : decode cX5_richestNow 40 = .ok (.istore_n 1, 1) := dk_60 (dk_at dksX5_richestNow_1 16 rfl rfl)
theorem dX5_richestNow_41 : decode cX5_richestNow 41 = .ok (.iinc 2 1, 3) := dk_132 2 1 (dk_at dksX5_richestNow_1 17 rfl rfl)
theorem dX5_richestNow_44 : decode cX5_richestNow 44 = .ok (.goto (-40), 3) := dk_167 255 216 (dk_at dksX5_richestNow_1 20 rfl rfl)
theorem dX5_richestNow_47 : decode cX5_richestNow 47 = .ok (.iload_n 1, 1) := dk_27 (dk_at dksX5_richestNow_1 23 rfl rfl)
theorem dX5_richestNow_48 : decode cX5_richestNow 48 = .ok (.ireturn, 1) := dk_172 (dk_at dksX5_richestNow_2 0 rfl rfl)
abbrev cX5_eldest : ByteArray := prog_29_method_100_code
def yX5_eldest : MethodName := ⟨RX5, "eldest", "()I"⟩
def dkwX5_eldest_2 : List UInt8 := [162, 0, 5, 28, 60, 132, 2, 1, 167, 255, 210, 27, 172]
abbrev dktX5_eldest_2 : List UInt8 := dkwX5_eldest_2 ++ []
def dkwX5_eldest_1 : List UInt8 := [153, 0, 28, 27, 155, 0, 22, 42, 180, 0, 33, 6, 28, 96, 46, 42, 180, 0, 33, 6, 27, 96, 46]
abbrev dktX5_eldest_1 : List UInt8 := dkwX5_eldest_1 ++ dktX5_eldest_2
def dkwX5_eldest_0 : List UInt8 := [42, 3, 181, 0, 1, 2, 60, 3, 61, 28, 42, 180, 0, 33, 3, 46, 162, 0, 42, 42, 28, 182, 1, 19]
abbrev dktX5_eldest_0 : List UInt8 := dkwX5_eldest_0 ++ dktX5_eldest_1
theorem dksX5_eldest_0 : cX5_eldest.data.toList.drop 0 = dktX5_eldest_0 := by decide +kernel
theorem dksX5_eldest_1 : cX5_eldest.data.toList.drop 24 = dktX5_eldest_1 := dk_seg dksX5_eldest_0 24 rfl rfl
theorem dksX5_eldest_2 : cX5_eldest.data.toList.drop 47 = dktX5_eldest_2 := dk_seg dksX5_eldest_1 23 rfl rfl
theorem dX5_eldest_0 : decode cX5_eldest 0 = .ok (.aload_n 0, 1) := dk_42 (dk_at dksX5_eldest_0 0 rfl rfl)
theorem dX5_eldest_1 : decode cX5_eldest 1 = .ok (.iconst 0, 1) := dk_3 (dk_at dksX5_eldest_0 1 rfl rfl)
theorem dX5_eldest_2 : decode cX5_eldest 2 = .ok (.putfield 1, 3) := dk_181 0 1 (dk_at dksX5_eldest_0 2 rfl rfl)
theorem dX5_eldest_5 : decode cX5_eldest 5 = .ok (.iconst (-1), 1) := dk_2 (dk_at dksX5_eldest_0 5 rfl rfl)
theorem dX5_eldest_6 : decode cX5_eldest 6 = .ok (.istore_n 1, 1) := dk_60 (dk_at dksX5_eldest_0 6 rfl rfl)
theorem dX5_eldest_7 : decode cX5_eldest 7 = .ok (.iconst 0, 1) := dk_3 (dk_at dksX5_eldest_0 7 rfl rfl)
theorem dX5_eldest_8 : decode cX5_eldest 8 = .ok (.istore_n 2, 1) := dk_61 (dk_at dksX5_eldest_0 8 rfl rfl)
theorem dX5_eldest_9 : decode cX5_eldest 9 = .ok (.iload_n 2, 1) := dk_28 (dk_at dksX5_eldest_0 9 rfl rfl)
theorem dX5_eldest_10 : decode cX5_eldest 10 = .ok (.aload_n 0, 1) := dk_42 (dk_at dksX5_eldest_0 10 rfl rfl)
theorem dX5_eldest_11 : decode cX5_eldest 11 = .ok (.getfield 33, 3) := dk_180 0 33 (dk_at dksX5_eldest_0 11 rfl rfl)
theorem dX5_eldest_14 : decode cX5_eldest 14 = .ok (.iconst 0, 1) := dk_3 (dk_at dksX5_eldest_0 14 rfl rfl)
theorem dX5_eldest_15 : decode cX5_eldest 15 = .ok (.iaload, 1) := dk_46 (dk_at dksX5_eldest_0 15 rfl rfl)
theorem dX5_eldest_16 : decode cX5_eldest 16 = .ok (.if_icmp .ge 42, 3) := dk_162 0 42 (dk_at dksX5_eldest_0 16 rfl rfl)
theorem dX5_eldest_19 : decode cX5_eldest 19 = .ok (.aload_n 0, 1) := dk_42 (dk_at dksX5_eldest_0 19 rfl rfl)
theorem dX5_eldest_20 : decode cX5_eldest 20 = .ok (.iload_n 2, 1) := dk_28 (dk_at dksX5_eldest_0 20 rfl rfl)
theorem dX5_eldest_21 : decode cX5_eldest 21 = .ok (.invokevirtual 275, 3) := dk_182 1 19 (dk_at dksX5_eldest_0 21 rfl rfl)
theorem dX5_eldest_24 : decode cX5_eldest 24 = .ok (.ifCond .eq 28, 3) := dk_153 0 28 (dk_at dksX5_eldest_1 0 rfl rfl)
theorem dX5_eldest_27 : decode cX5_eldest 27 = .ok (.iload_n 1, 1) := dk_27 (dk_at dksX5_eldest_1 3 rfl rfl)
theorem dX5_eldest_28 : decode cX5_eldest 28 = .ok (.ifCond .lt 22, 3) := dk_155 0 22 (dk_at dksX5_eldest_1 4 rfl rfl)
theorem dX5_eldest_31 : decode cX5_eldest 31 = .ok (.aload_n 0, 1) := dk_42 (dk_at dksX5_eldest_1 7 rfl rfl)
theorem dX5_eldest_32 : decode cX5_eldest 32 = .ok (.getfield 33, 3) := dk_180 0 33 (dk_at dksX5_eldest_1 8 rfl rfl)
theorem dX5_eldest_35 : decode cX5_eldest 35 = .ok (.iconst 3, 1) := dk_6 (dk_at dksX5_eldest_1 11 rfl rfl)
theorem dX5_eldest_36 : decode cX5_eldest 36 = .ok (.iload_n 2, 1) := dk_28 (dk_at dksX5_eldest_1 12 rfl rfl)
theorem dX5_eldest_37 : decode cX5_eldest 37 = .ok (.iadd, 1) := dk_96 (dk_at dksX5_eldest_1 13 rfl rfl)
theorem dX5_eldest_38 : decode cX5_eldest 38 = .ok (.iaload, 1) := dk_46 (dk_at dksX5_eldest_1 14 rfl rfl)
theorem dX5_eldest_39 : decode cX5_eldest 39 = .ok (.aload_n 0, 1) := dk_42 (dk_at dksX5_eldest_1 15 rfl rfl)
theorem dX5_eldest_40 : decode cX5_eldest 40 = .ok (.getfield 33, 3) := dk_180 0 33 (dk_at dksX5_eldest_1 16 rfl rfl)
theorem dX5_eldest_43 : decode cX5_eldest 43 = .ok (.iconst 3, 1) := dk_6 (dk_at dksX5_eldest_1 19 rfl rfl)
theorem dX5_eldest_44 : decode cX5_eldest 44 = .ok (.iload_n 1, 1) := dk_27 (dk_at dksX5_eldest_1 20 rfl rfl)
theorem dX5_eldest_45 : decode cX5_eldest 45 = .ok (.iadd, 1) := dk_96 (dk_at dksX5_eldest_1 21 rfl rfl)
theorem dX5_eldest_46 : decode cX5_eldest 46 = .ok (.iaload, 1) := dk_46 (dk_at dksX5_eldest_1 22 rfl rfl)
theorem dX5_eldest_47 : decode cX5_eldest 47 = .ok (.if_icmp .ge 5, 3) := dk_162 0 5 (dk_at dksX5_eldest_2 0 rfl rfl)
theorem dX5_eldest_50 : decode cX5_eldest 50 = .ok (.iload_n 2, 1) := dk_28 (dk_at dksX5_eldest_2 3 rfl rfl)
theorem dX5_eldest_51 : decode cX5_eldest 51 = .ok (.istore_n 1, 1) := dk_60 (dk_at dksX5_eldest_2 4 rfl rfl)
theorem dX5_eldest_52 : decode cX5_eldest 52 = .ok (.iinc 2 1, 3) := dk_132 2 1 (dk_at dksX5_eldest_2 5 rfl rfl)
theorem dX5_eldest_55 : decode cX5_eldest 55 = .ok (.goto (-46), 3) := dk_167 255 210 (dk_at dksX5_eldest_2 8 rfl rfl)
theorem dX5_eldest_58 : decode cX5_eldest 58 = .ok (.iload_n 1, 1) := dk_27 (dk_at dksX5_eldest_2 11 rfl rfl)
theorem dX5_eldest_59 : decode cX5_eldest 59 = .ok (.ireturn, 1) := dk_172 (dk_at dksX5_eldest_2 12 rfl rfl)
abbrev cX5_mean : ByteArray := prog_29_method_101_code
def yX5_mean : MethodName := ⟨RX5, "mean", "(I)I"⟩
def dkwX5_mean_3 : List UInt8 := [167, 0, 10, 42, 182, 1, 16, 184, 0, 238, 28, 108, 172]
abbrev dktX5_mean_3 : List UInt8 := dkwX5_mean_3 ++ []
def dkwX5_mean_2 : List UInt8 := [153, 0, 16, 28, 29, 112, 54, 4, 29, 61, 21, 4, 62, 167, 255, 242, 27, 154, 0, 10, 42, 182, 1, 41]
abbrev dktX5_mean_2 : List UInt8 := dkwX5_mean_2 ++ dktX5_mean_3
def dkwX5_mean_1 : List UInt8 := [182, 1, 31, 153, 0, 5, 3, 172, 42, 182, 1, 16, 184, 0, 238, 61, 42, 182, 1, 41, 62, 29]
abbrev dktX5_mean_1 : List UInt8 := dkwX5_mean_1 ++ dktX5_mean_2
def dkwX5_mean_0 : List UInt8 := [42, 42, 182, 1, 16, 153, 0, 12, 27, 3, 4, 184, 0, 190, 154, 0, 7, 4, 167, 0, 4, 3]
abbrev dktX5_mean_0 : List UInt8 := dkwX5_mean_0 ++ dktX5_mean_1
theorem dksX5_mean_0 : cX5_mean.data.toList.drop 0 = dktX5_mean_0 := by decide +kernel
theorem dksX5_mean_1 : cX5_mean.data.toList.drop 22 = dktX5_mean_1 := dk_seg dksX5_mean_0 22 rfl rfl
theorem dksX5_mean_2 : cX5_mean.data.toList.drop 44 = dktX5_mean_2 := dk_seg dksX5_mean_1 22 rfl rfl
theorem dksX5_mean_3 : cX5_mean.data.toList.drop 68 = dktX5_mean_3 := dk_seg dksX5_mean_2 24 rfl rfl
theorem dX5_mean_0 : decode cX5_mean 0 = .ok (.aload_n 0, 1) := dk_42 (dk_at dksX5_mean_0 0 rfl rfl)
theorem dX5_mean_1 : decode cX5_mean 1 = .ok (.aload_n 0, 1) := dk_42 (dk_at dksX5_mean_0 1 rfl rfl)
theorem dX5_mean_2 : decode cX5_mean 2 = .ok (.invokevirtual 272, 3) := dk_182 1 16 (dk_at dksX5_mean_0 2 rfl rfl)
theorem dX5_mean_5 : decode cX5_mean 5 = .ok (.ifCond .eq 12, 3) := dk_153 0 12 (dk_at dksX5_mean_0 5 rfl rfl)
theorem dX5_mean_8 : decode cX5_mean 8 = .ok (.iload_n 1, 1) := dk_27 (dk_at dksX5_mean_0 8 rfl rfl)
theorem dX5_mean_9 : decode cX5_mean 9 = .ok (.iconst 0, 1) := dk_3 (dk_at dksX5_mean_0 9 rfl rfl)
theorem dX5_mean_10 : decode cX5_mean 10 = .ok (.iconst 1, 1) := dk_4 (dk_at dksX5_mean_0 10 rfl rfl)
theorem dX5_mean_11 : decode cX5_mean 11 = .ok (.invokestatic 190, 3) := dk_184 0 190 (dk_at dksX5_mean_0 11 rfl rfl)
theorem dX5_mean_14 : decode cX5_mean 14 = .ok (.ifCond .ne 7, 3) := dk_154 0 7 (dk_at dksX5_mean_0 14 rfl rfl)
theorem dX5_mean_17 : decode cX5_mean 17 = .ok (.iconst 1, 1) := dk_4 (dk_at dksX5_mean_0 17 rfl rfl)
theorem dX5_mean_18 : decode cX5_mean 18 = .ok (.goto 4, 3) := dk_167 0 4 (dk_at dksX5_mean_0 18 rfl rfl)
theorem dX5_mean_21 : decode cX5_mean 21 = .ok (.iconst 0, 1) := dk_3 (dk_at dksX5_mean_0 21 rfl rfl)
theorem dX5_mean_22 : decode cX5_mean 22 = .ok (.invokevirtual 287, 3) := dk_182 1 31 (dk_at dksX5_mean_1 0 rfl rfl)
theorem dX5_mean_25 : decode cX5_mean 25 = .ok (.ifCond .eq 5, 3) := dk_153 0 5 (dk_at dksX5_mean_1 3 rfl rfl)
theorem dX5_mean_28 : decode cX5_mean 28 = .ok (.iconst 0, 1) := dk_3 (dk_at dksX5_mean_1 6 rfl rfl)
theorem dX5_mean_29 : decode cX5_mean 29 = .ok (.ireturn, 1) := dk_172 (dk_at dksX5_mean_1 7 rfl rfl)
theorem dX5_mean_30 : decode cX5_mean 30 = .ok (.aload_n 0, 1) := dk_42 (dk_at dksX5_mean_1 8 rfl rfl)
theorem dX5_mean_31 : decode cX5_mean 31 = .ok (.invokevirtual 272, 3) := dk_182 1 16 (dk_at dksX5_mean_1 9 rfl rfl)
theorem dX5_mean_34 : decode cX5_mean 34 = .ok (.invokestatic 238, 3) := dk_184 0 238 (dk_at dksX5_mean_1 12 rfl rfl)
theorem dX5_mean_37 : decode cX5_mean 37 = .ok (.istore_n 2, 1) := dk_61 (dk_at dksX5_mean_1 15 rfl rfl)
theorem dX5_mean_38 : decode cX5_mean 38 = .ok (.aload_n 0, 1) := dk_42 (dk_at dksX5_mean_1 16 rfl rfl)
theorem dX5_mean_39 : decode cX5_mean 39 = .ok (.invokevirtual 297, 3) := dk_182 1 41 (dk_at dksX5_mean_1 17 rfl rfl)
theorem dX5_mean_42 : decode cX5_mean 42 = .ok (.istore_n 3, 1) := dk_62 (dk_at dksX5_mean_1 20 rfl rfl)
theorem dX5_mean_43 : decode cX5_mean 43 = .ok (.iload_n 3, 1) := dk_29 (dk_at dksX5_mean_1 21 rfl rfl)
theorem dX5_mean_44 : decode cX5_mean 44 = .ok (.ifCond .eq 16, 3) := dk_153 0 16 (dk_at dksX5_mean_2 0 rfl rfl)
theorem dX5_mean_47 : decode cX5_mean 47 = .ok (.iload_n 2, 1) := dk_28 (dk_at dksX5_mean_2 3 rfl rfl)
theorem dX5_mean_48 : decode cX5_mean 48 = .ok (.iload_n 3, 1) := dk_29 (dk_at dksX5_mean_2 4 rfl rfl)
theorem dX5_mean_49 : decode cX5_mean 49 = .ok (.irem, 1) := dk_112 (dk_at dksX5_mean_2 5 rfl rfl)
theorem dX5_mean_50 : decode cX5_mean 50 = .ok (.istore 4, 2) := dk_54 4 (dk_at dksX5_mean_2 6 rfl rfl)
theorem dX5_mean_52 : decode cX5_mean 52 = .ok (.iload_n 3, 1) := dk_29 (dk_at dksX5_mean_2 8 rfl rfl)
theorem dX5_mean_53 : decode cX5_mean 53 = .ok (.istore_n 2, 1) := dk_61 (dk_at dksX5_mean_2 9 rfl rfl)
theorem dX5_mean_54 : decode cX5_mean 54 = .ok (.iload 4, 2) := dk_21 4 (dk_at dksX5_mean_2 10 rfl rfl)
theorem dX5_mean_56 : decode cX5_mean 56 = .ok (.istore_n 3, 1) := dk_62 (dk_at dksX5_mean_2 12 rfl rfl)
theorem dX5_mean_57 : decode cX5_mean 57 = .ok (.goto (-14), 3) := dk_167 255 242 (dk_at dksX5_mean_2 13 rfl rfl)
theorem dX5_mean_60 : decode cX5_mean 60 = .ok (.iload_n 1, 1) := dk_27 (dk_at dksX5_mean_2 16 rfl rfl)
theorem dX5_mean_61 : decode cX5_mean 61 = .ok (.ifCond .ne 10, 3) := dk_154 0 10 (dk_at dksX5_mean_2 17 rfl rfl)
theorem dX5_mean_64 : decode cX5_mean 64 = .ok (.aload_n 0, 1) := dk_42 (dk_at dksX5_mean_2 20 rfl rfl)
theorem dX5_mean_65 : decode cX5_mean 65 = .ok (.invokevirtual 297, 3) := dk_182 1 41 (dk_at dksX5_mean_2 21 rfl rfl)
theorem dX5_mean_68 : decode cX5_mean 68 = .ok (.goto 10, 3) := dk_167 0 10 (dk_at dksX5_mean_3 0 rfl rfl)
theorem dX5_mean_71 : decode cX5_mean 71 = .ok (.aload_n 0, 1) := dk_42 (dk_at dksX5_mean_3 3 rfl rfl)
theorem dX5_mean_72 : decode cX5_mean 72 = .ok (.invokevirtual 272, 3) := dk_182 1 16 (dk_at dksX5_mean_3 4 rfl rfl)
theorem dX5_mean_75 : decode cX5_mean 75 = .ok (.invokestatic 238, 3) := dk_184 0 238 (dk_at dksX5_mean_3 7 rfl rfl)
theorem dX5_mean_78 : decode cX5_mean 78 = .ok (.iload_n 2, 1) := dk_28 (dk_at dksX5_mean_3 10 rfl rfl)
theorem dX5_mean_79 : decode cX5_mean 79 = .ok (.idiv, 1) := dk_108 (dk_at dksX5_mean_3 11 rfl rfl)
theorem dX5_mean_80 : decode cX5_mean 80 = .ok (.ireturn, 1) := dk_172 (dk_at dksX5_mean_3 12 rfl rfl)
abbrev cX5_tag : ByteArray := prog_29_method_106_code
def yX5_tag : MethodName := ⟨RX5, "tag", "(I)I"⟩
def dkwX5_tag_5 : List UInt8 := [16, 105, 27, 96, 46, 182, 1, 177, 42, 180, 1, 158, 172]
abbrev dktX5_tag_5 : List UInt8 := dkwX5_tag_5 ++ []
def dkwX5_tag_4 : List UInt8 := [20, 1, 173, 182, 1, 170, 42, 20, 1, 175, 182, 1, 170, 42, 16, 32, 182, 1, 163, 42, 42, 180, 0, 33]
abbrev dktX5_tag_4 : List UInt8 := dkwX5_tag_4 ++ dktX5_tag_5
def dkwX5_tag_3 : List UInt8 := [180, 0, 43, 42, 180, 0, 33, 16, 117, 27, 96, 46, 4, 100, 47, 182, 1, 170, 167, 0, 10, 42]
abbrev dktX5_tag_3 : List UInt8 := dkwX5_tag_3 ++ dktX5_tag_4
def dkwX5_tag_2 : List UInt8 := [167, 0, 52, 42, 180, 0, 33, 16, 117, 27, 96, 46, 158, 0, 33, 42, 20, 0, 103, 182, 1, 170, 42, 42]
abbrev dktX5_tag_2 : List UInt8 := dkwX5_tag_2 ++ dktX5_tag_3
def dkwX5_tag_1 : List UInt8 := [180, 0, 43, 27, 47, 182, 1, 166, 42, 27, 182, 1, 19, 154, 0, 13, 42, 20, 0, 129, 182, 1, 170]
abbrev dktX5_tag_1 : List UInt8 := dkwX5_tag_1 ++ dktX5_tag_2
def dkwX5_tag_0 : List UInt8 := [42, 3, 181, 0, 1, 42, 27, 182, 1, 28, 154, 0, 5, 2, 172, 42, 3, 181, 1, 158, 42, 42]
abbrev dktX5_tag_0 : List UInt8 := dkwX5_tag_0 ++ dktX5_tag_1
theorem dksX5_tag_0 : cX5_tag.data.toList.drop 0 = dktX5_tag_0 := by decide +kernel
theorem dksX5_tag_1 : cX5_tag.data.toList.drop 22 = dktX5_tag_1 := dk_seg dksX5_tag_0 22 rfl rfl
theorem dksX5_tag_2 : cX5_tag.data.toList.drop 45 = dktX5_tag_2 := dk_seg dksX5_tag_1 23 rfl rfl
theorem dksX5_tag_3 : cX5_tag.data.toList.drop 69 = dktX5_tag_3 := dk_seg dksX5_tag_2 24 rfl rfl
theorem dksX5_tag_4 : cX5_tag.data.toList.drop 91 = dktX5_tag_4 := dk_seg dksX5_tag_3 22 rfl rfl
theorem dksX5_tag_5 : cX5_tag.data.toList.drop 115 = dktX5_tag_5 := dk_seg dksX5_tag_4 24 rfl rfl
theorem dX5_tag_0 : decode cX5_tag 0 = .ok (.aload_n 0, 1) := dk_42 (dk_at dksX5_tag_0 0 rfl rfl)
theorem dX5_tag_1 : decode cX5_tag 1 = .ok (.iconst 0, 1) := dk_3 (dk_at dksX5_tag_0 1 rfl rfl)
theorem dX5_tag_2 : decode cX5_tag 2 = .ok (.putfield 1, 3) := dk_181 0 1 (dk_at dksX5_tag_0 2 rfl rfl)
theorem dX5_tag_5 : decode cX5_tag 5 = .ok (.aload_n 0, 1) := dk_42 (dk_at dksX5_tag_0 5 rfl rfl)
theorem dX5_tag_6 : decode cX5_tag 6 = .ok (.iload_n 1, 1) := dk_27 (dk_at dksX5_tag_0 6 rfl rfl)
theorem dX5_tag_7 : decode cX5_tag 7 = .ok (.invokevirtual 284, 3) := dk_182 1 28 (dk_at dksX5_tag_0 7 rfl rfl)
theorem dX5_tag_10 : decode cX5_tag 10 = .ok (.ifCond .ne 5, 3) := dk_154 0 5 (dk_at dksX5_tag_0 10 rfl rfl)
theorem dX5_tag_13 : decode cX5_tag 13 = .ok (.iconst (-1), 1) := dk_2 (dk_at dksX5_tag_0 13 rfl rfl)
theorem dX5_tag_14 : decode cX5_tag 14 = .ok (.ireturn, 1) := dk_172 (dk_at dksX5_tag_0 14 rfl rfl)
theorem dX5_tag_15 : decode cX5_tag 15 = .ok (.aload_n 0, 1) := dk_42 (dk_at dksX5_tag_0 15 rfl rfl)
theorem dX5_tag_16 : decode cX5_tag 16 = .ok (.iconst 0, 1) := dk_3 (dk_at dksX5_tag_0 16 rfl rfl)
theorem dX5_tag_17 : decode cX5_tag 17 = .ok (.putfield 414, 3) := dk_181 1 158 (dk_at dksX5_tag_0 17 rfl rfl)
theorem dX5_tag_20 : decode cX5_tag 20 = .ok (.aload_n 0, 1) := dk_42 (dk_at dksX5_tag_0 20 rfl rfl)
theorem dX5_tag_21 : decode cX5_tag 21 = .ok (.aload_n 0, 1) := dk_42 (dk_at dksX5_tag_0 21 rfl rfl)
theorem dX5_tag_22 : decode cX5_tag 22 = .ok (.getfield 43, 3) := dk_180 0 43 (dk_at dksX5_tag_1 0 rfl rfl)
theorem dX5_tag_25 : decode cX5_tag 25 = .ok (.iload_n 1, 1) := dk_27 (dk_at dksX5_tag_1 3 rfl rfl)
theorem dX5_tag_26 : decode cX5_tag 26 = .ok (.laload, 1) := dk_47 (dk_at dksX5_tag_1 4 rfl rfl)
theorem dX5_tag_27 : decode cX5_tag 27 = .ok (.invokevirtual 422, 3) := dk_182 1 166 (dk_at dksX5_tag_1 5 rfl rfl)
theorem dX5_tag_30 : decode cX5_tag 30 = .ok (.aload_n 0, 1) := dk_42 (dk_at dksX5_tag_1 8 rfl rfl)
theorem dX5_tag_31 : decode cX5_tag 31 = .ok (.iload_n 1, 1) := dk_27 (dk_at dksX5_tag_1 9 rfl rfl)
theorem dX5_tag_32 : decode cX5_tag 32 = .ok (.invokevirtual 275, 3) := dk_182 1 19 (dk_at dksX5_tag_1 10 rfl rfl)
theorem dX5_tag_35 : decode cX5_tag 35 = .ok (.ifCond .ne 13, 3) := dk_154 0 13 (dk_at dksX5_tag_1 13 rfl rfl)
theorem dX5_tag_38 : decode cX5_tag 38 = .ok (.aload_n 0, 1) := dk_42 (dk_at dksX5_tag_1 16 rfl rfl)
theorem dX5_tag_39 : decode cX5_tag 39 = .ok (.ldc2_w 129, 3) := dk_20 0 129 (dk_at dksX5_tag_1 17 rfl rfl)
theorem dX5_tag_42 : decode cX5_tag 42 = .ok (.invokevirtual 426, 3) := dk_182 1 170 (dk_at dksX5_tag_1 20 rfl rfl)
theorem dX5_tag_45 : decode cX5_tag 45 = .ok (.goto 52, 3) := dk_167 0 52 (dk_at dksX5_tag_2 0 rfl rfl)
theorem dX5_tag_48 : decode cX5_tag 48 = .ok (.aload_n 0, 1) := dk_42 (dk_at dksX5_tag_2 3 rfl rfl)
theorem dX5_tag_49 : decode cX5_tag 49 = .ok (.getfield 33, 3) := dk_180 0 33 (dk_at dksX5_tag_2 4 rfl rfl)
theorem dX5_tag_52 : decode cX5_tag 52 = .ok (.bipush 117, 2) := dk_16 117 (dk_at dksX5_tag_2 7 rfl rfl)
theorem dX5_tag_54 : decode cX5_tag 54 = .ok (.iload_n 1, 1) := dk_27 (dk_at dksX5_tag_2 9 rfl rfl)
theorem dX5_tag_55 : decode cX5_tag 55 = .ok (.iadd, 1) := dk_96 (dk_at dksX5_tag_2 10 rfl rfl)
theorem dX5_tag_56 : decode cX5_tag 56 = .ok (.iaload, 1) := dk_46 (dk_at dksX5_tag_2 11 rfl rfl)
theorem dX5_tag_57 : decode cX5_tag 57 = .ok (.ifCond .le 33, 3) := dk_158 0 33 (dk_at dksX5_tag_2 12 rfl rfl)
theorem dX5_tag_60 : decode cX5_tag 60 = .ok (.aload_n 0, 1) := dk_42 (dk_at dksX5_tag_2 15 rfl rfl)
theorem dX5_tag_61 : decode cX5_tag 61 = .ok (.ldc2_w 103, 3) := dk_20 0 103 (dk_at dksX5_tag_2 16 rfl rfl)
theorem dX5_tag_64 : decode cX5_tag 64 = .ok (.invokevirtual 426, 3) := dk_182 1 170 (dk_at dksX5_tag_2 19 rfl rfl)
theorem dX5_tag_67 : decode cX5_tag 67 = .ok (.aload_n 0, 1) := dk_42 (dk_at dksX5_tag_2 22 rfl rfl)
theorem dX5_tag_68 : decode cX5_tag 68 = .ok (.aload_n 0, 1) := dk_42 (dk_at dksX5_tag_2 23 rfl rfl)
theorem dX5_tag_69 : decode cX5_tag 69 = .ok (.getfield 43, 3) := dk_180 0 43 (dk_at dksX5_tag_3 0 rfl rfl)
theorem dX5_tag_72 : decode cX5_tag 72 = .ok (.aload_n 0, 1) := dk_42 (dk_at dksX5_tag_3 3 rfl rfl)
theorem dX5_tag_73 : decode cX5_tag 73 = .ok (.getfield 33, 3) := dk_180 0 33 (dk_at dksX5_tag_3 4 rfl rfl)
theorem dX5_tag_76 : decode cX5_tag 76 = .ok (.bipush 117, 2) := dk_16 117 (dk_at dksX5_tag_3 7 rfl rfl)
theorem dX5_tag_78 : decode cX5_tag 78 = .ok (.iload_n 1, 1) := dk_27 (dk_at dksX5_tag_3 9 rfl rfl)
theorem dX5_tag_79 : decode cX5_tag 79 = .ok (.iadd, 1) := dk_96 (dk_at dksX5_tag_3 10 rfl rfl)
theorem dX5_tag_80 : decode cX5_tag 80 = .ok (.iaload, 1) := dk_46 (dk_at dksX5_tag_3 11 rfl rfl)
theorem dX5_tag_81 : decode cX5_tag 81 = .ok (.iconst 1, 1) := dk_4 (dk_at dksX5_tag_3 12 rfl rfl)
theorem dX5_tag_82 : decode cX5_tag 82 = .ok (.isub, 1) := dk_100 (dk_at dksX5_tag_3 13 rfl rfl)
theorem dX5_tag_83 : decode cX5_tag 83 = .ok (.laload, 1) := dk_47 (dk_at dksX5_tag_3 14 rfl rfl)
theorem dX5_tag_84 : decode cX5_tag 84 = .ok (.invokevirtual 426, 3) := dk_182 1 170 (dk_at dksX5_tag_3 15 rfl rfl)
theorem dX5_tag_87 : decode cX5_tag 87 = .ok (.goto 10, 3) := dk_167 0 10 (dk_at dksX5_tag_3 18 rfl rfl)
theorem dX5_tag_90 : decode cX5_tag 90 = .ok (.aload_n 0, 1) := dk_42 (dk_at dksX5_tag_3 21 rfl rfl)
theorem dX5_tag_91 : decode cX5_tag 91 = .ok (.ldc2_w 429, 3) := dk_20 1 173 (dk_at dksX5_tag_4 0 rfl rfl)
theorem dX5_tag_94 : decode cX5_tag 94 = .ok (.invokevirtual 426, 3) := dk_182 1 170 (dk_at dksX5_tag_4 3 rfl rfl)
theorem dX5_tag_97 : decode cX5_tag 97 = .ok (.aload_n 0, 1) := dk_42 (dk_at dksX5_tag_4 6 rfl rfl)
theorem dX5_tag_98 : decode cX5_tag 98 = .ok (.ldc2_w 431, 3) := dk_20 1 175 (dk_at dksX5_tag_4 7 rfl rfl)
theorem dX5_tag_101 : decode cX5_tag 101 = .ok (.invokevirtual 426, 3) := dk_182 1 170 (dk_at dksX5_tag_4 10 rfl rfl)
theorem dX5_tag_104 : decode cX5_tag 104 = .ok (.aload_n 0, 1) := dk_42 (dk_at dksX5_tag_4 13 rfl rfl)
theorem dX5_tag_105 : decode cX5_tag 105 = .ok (.bipush 32, 2) := dk_16 32 (dk_at dksX5_tag_4 14 rfl rfl)
theorem dX5_tag_107 : decode cX5_tag 107 = .ok (.invokevirtual 419, 3) := dk_182 1 163 (dk_at dksX5_tag_4 16 rfl rfl)
theorem dX5_tag_110 : decode cX5_tag 110 = .ok (.aload_n 0, 1) := dk_42 (dk_at dksX5_tag_4 19 rfl rfl)
theorem dX5_tag_111 : decode cX5_tag 111 = .ok (.aload_n 0, 1) := dk_42 (dk_at dksX5_tag_4 20 rfl rfl)
theorem dX5_tag_112 : decode cX5_tag 112 = .ok (.getfield 33, 3) := dk_180 0 33 (dk_at dksX5_tag_4 21 rfl rfl)
theorem dX5_tag_115 : decode cX5_tag 115 = .ok (.bipush 105, 2) := dk_16 105 (dk_at dksX5_tag_5 0 rfl rfl)
theorem dX5_tag_117 : decode cX5_tag 117 = .ok (.iload_n 1, 1) := dk_27 (dk_at dksX5_tag_5 2 rfl rfl)
theorem dX5_tag_118 : decode cX5_tag 118 = .ok (.iadd, 1) := dk_96 (dk_at dksX5_tag_5 3 rfl rfl)
theorem dX5_tag_119 : decode cX5_tag 119 = .ok (.iaload, 1) := dk_46 (dk_at dksX5_tag_5 4 rfl rfl)
theorem dX5_tag_120 : decode cX5_tag 120 = .ok (.invokevirtual 433, 3) := dk_182 1 177 (dk_at dksX5_tag_5 5 rfl rfl)
theorem dX5_tag_123 : decode cX5_tag 123 = .ok (.aload_n 0, 1) := dk_42 (dk_at dksX5_tag_5 8 rfl rfl)
theorem dX5_tag_124 : decode cX5_tag 124 = .ok (.getfield 414, 3) := dk_180 1 158 (dk_at dksX5_tag_5 9 rfl rfl)
theorem dX5_tag_127 : decode cX5_tag 127 = .ok (.ireturn, 1) := dk_172 (dk_at dksX5_tag_5 12 rfl rfl)
abbrev cX5_spells : ByteArray := prog_29_method_103_code
def yX5_spells : MethodName := ⟨RX5, "spells", "(J)V"⟩
def dkwX5_spells_1 : List UInt8 := [20, 1, 161, 127, 136, 182, 1, 163, 132, 3, 248, 167, 255, 225, 177]
abbrev dktX5_spells_1 : List UInt8 := dkwX5_spells_1 ++ []
def dkwX5_spells_0 : List UInt8 := [16, 56, 62, 29, 155, 0, 33, 31, 29, 123, 20, 1, 161, 127, 9, 148, 153, 0, 15, 42, 31, 29, 123]
abbrev dktX5_spells_0 : List UInt8 := dkwX5_spells_0 ++ dktX5_spells_1
theorem dksX5_spells_0 : cX5_spells.data.toList.drop 0 = dktX5_spells_0 := by decide +kernel
theorem dksX5_spells_1 : cX5_spells.data.toList.drop 23 = dktX5_spells_1 := dk_seg dksX5_spells_0 23 rfl rfl
theorem dX5_spells_0 : decode cX5_spells 0 = .ok (.bipush 56, 2) := dk_16 56 (dk_at dksX5_spells_0 0 rfl rfl)
theorem dX5_spells_2 : decode cX5_spells 2 = .ok (.istore_n 3, 1) := dk_62 (dk_at dksX5_spells_0 2 rfl rfl)
theorem dX5_spells_3 : decode cX5_spells 3 = .ok (.iload_n 3, 1) := dk_29 (dk_at dksX5_spells_0 3 rfl rfl)
theorem dX5_spells_4 : decode cX5_spells 4 = .ok (.ifCond .lt 33, 3) := dk_155 0 33 (dk_at dksX5_spells_0 4 rfl rfl)
theorem dX5_spells_7 : decode cX5_spells 7 = .ok (.lload_n 1, 1) := dk_31 (dk_at dksX5_spells_0 7 rfl rfl)
theorem dX5_spells_8 : decode cX5_spells 8 = .ok (.iload_n 3, 1) := dk_29 (dk_at dksX5_spells_0 8 rfl rfl)
theorem dX5_spells_9 : decode cX5_spells 9 = .ok (.lshr, 1) := dk_123 (dk_at dksX5_spells_0 9 rfl rfl)
theorem dX5_spells_10 : decode cX5_spells 10 = .ok (.ldc2_w 417, 3) := dk_20 1 161 (dk_at dksX5_spells_0 10 rfl rfl)
theorem dX5_spells_13 : decode cX5_spells 13 = .ok (.land, 1) := dk_127 (dk_at dksX5_spells_0 13 rfl rfl)
theorem dX5_spells_14 : decode cX5_spells 14 = .ok (.lconst 0, 1) := dk_9 (dk_at dksX5_spells_0 14 rfl rfl)
theorem dX5_spells_15 : decode cX5_spells 15 = .ok (.lcmp, 1) := dk_148 (dk_at dksX5_spells_0 15 rfl rfl)
theorem dX5_spells_16 : decode cX5_spells 16 = .ok (.ifCond .eq 15, 3) := dk_153 0 15 (dk_at dksX5_spells_0 16 rfl rfl)
theorem dX5_spells_19 : decode cX5_spells 19 = .ok (.aload_n 0, 1) := dk_42 (dk_at dksX5_spells_0 19 rfl rfl)
theorem dX5_spells_20 : decode cX5_spells 20 = .ok (.lload_n 1, 1) := dk_31 (dk_at dksX5_spells_0 20 rfl rfl)
theorem dX5_spells_21 : decode cX5_spells 21 = .ok (.iload_n 3, 1) := dk_29 (dk_at dksX5_spells_0 21 rfl rfl)
theorem dX5_spells_22 : decode cX5_spells 22 = .ok (.lshr, 1) := dk_123 (dk_at dksX5_spells_0 22 rfl rfl)
theorem dX5_spells_23 : decode cX5_spells 23 = .ok (.ldc2_w 417, 3) := dk_20 1 161 (dk_at dksX5_spells_1 0 rfl rfl)
theorem dX5_spells_26 : decode cX5_spells 26 = .ok (.land, 1) := dk_127 (dk_at dksX5_spells_1 3 rfl rfl)
theorem dX5_spells_27 : decode cX5_spells 27 = .ok (.l2i, 1) := dk_136 (dk_at dksX5_spells_1 4 rfl rfl)
theorem dX5_spells_28 : decode cX5_spells 28 = .ok (.invokevirtual 419, 3) := dk_182 1 163 (dk_at dksX5_spells_1 5 rfl rfl)
theorem dX5_spells_31 : decode cX5_spells 31 = .ok (.iinc 3 (-8), 3) := dk_132 3 248 (dk_at dksX5_spells_1 8 rfl rfl)
theorem dX5_spells_34 : decode cX5_spells 34 = .ok (.goto (-31), 3) := dk_167 255 225 (dk_at dksX5_spells_1 11 rfl rfl)
theorem dX5_spells_37 : decode cX5_spells 37 = .ok (.return_, 1) := dk_177 (dk_at dksX5_spells_1 14 rfl rfl)
abbrev cX5_lays : ByteArray := prog_29_method_102_code
def yX5_lays : MethodName := ⟨RX5, "lays", "(I)V"⟩
def dkwX5_lays_0 : List UInt8 := [42, 180, 0, 77, 42, 180, 1, 158, 27, 145, 84, 42, 89, 180, 1, 158, 4, 96, 181, 1, 158, 177]
abbrev dktX5_lays_0 : List UInt8 := dkwX5_lays_0 ++ []
theorem dksX5_lays_0 : cX5_lays.data.toList.drop 0 = dktX5_lays_0 := by decide +kernel
theorem dX5_lays_0 : decode cX5_lays 0 = .ok (.aload_n 0, 1) := dk_42 (dk_at dksX5_lays_0 0 rfl rfl)
theorem dX5_lays_1 : decode cX5_lays 1 = .ok (.getfield 77, 3) := dk_180 0 77 (dk_at dksX5_lays_0 1 rfl rfl)
theorem dX5_lays_4 : decode cX5_lays 4 = .ok (.aload_n 0, 1) := dk_42 (dk_at dksX5_lays_0 4 rfl rfl)
theorem dX5_lays_5 : decode cX5_lays 5 = .ok (.getfield 414, 3) := dk_180 1 158 (dk_at dksX5_lays_0 5 rfl rfl)
theorem dX5_lays_8 : decode cX5_lays 8 = .ok (.iload_n 1, 1) := dk_27 (dk_at dksX5_lays_0 8 rfl rfl)
theorem dX5_lays_9 : decode cX5_lays 9 = .ok (.i2b, 1) := dk_145 (dk_at dksX5_lays_0 9 rfl rfl)
theorem dX5_lays_10 : decode cX5_lays 10 = .ok (.bastore, 1) := dk_84 (dk_at dksX5_lays_0 10 rfl rfl)
theorem dX5_lays_11 : decode cX5_lays 11 = .ok (.aload_n 0, 1) := dk_42 (dk_at dksX5_lays_0 11 rfl rfl)
theorem dX5_lays_12 : decode cX5_lays 12 = .ok (.dup, 1) := dk_89 (dk_at dksX5_lays_0 12 rfl rfl)
theorem dX5_lays_13 : decode cX5_lays 13 = .ok (.getfield 414, 3) := dk_180 1 158 (dk_at dksX5_lays_0 13 rfl rfl)
theorem dX5_lays_16 : decode cX5_lays 16 = .ok (.iconst 1, 1) := dk_4 (dk_at dksX5_lays_0 16 rfl rfl)
theorem dX5_lays_17 : decode cX5_lays 17 = .ok (.iadd, 1) := dk_96 (dk_at dksX5_lays_0 17 rfl rfl)
theorem dX5_lays_18 : decode cX5_lays 18 = .ok (.putfield 414, 3) := dk_181 1 158 (dk_at dksX5_lays_0 18 rfl rfl)
theorem dX5_lays_21 : decode cX5_lays 21 = .ok (.return_, 1) := dk_177 (dk_at dksX5_lays_0 21 rfl rfl)
abbrev cX5_says : ByteArray := prog_29_method_104_code
def yX5_says : MethodName := ⟨RX5, "says", "(J)V"⟩
def dkwX5_says_0 : List UInt8 := [42, 16, 32, 182, 1, 163, 42, 31, 182, 1, 166, 177]
abbrev dktX5_says_0 : List UInt8 := dkwX5_says_0 ++ []
theorem dksX5_says_0 : cX5_says.data.toList.drop 0 = dktX5_says_0 := by decide +kernel
theorem dX5_says_0 : decode cX5_says 0 = .ok (.aload_n 0, 1) := dk_42 (dk_at dksX5_says_0 0 rfl rfl)
theorem dX5_says_1 : decode cX5_says 1 = .ok (.bipush 32, 2) := dk_16 32 (dk_at dksX5_says_0 1 rfl rfl)
theorem dX5_says_3 : decode cX5_says 3 = .ok (.invokevirtual 419, 3) := dk_182 1 163 (dk_at dksX5_says_0 3 rfl rfl)
theorem dX5_says_6 : decode cX5_says 6 = .ok (.aload_n 0, 1) := dk_42 (dk_at dksX5_says_0 6 rfl rfl)
theorem dX5_says_7 : decode cX5_says 7 = .ok (.lload_n 1, 1) := dk_31 (dk_at dksX5_says_0 7 rfl rfl)
theorem dX5_says_8 : decode cX5_says 8 = .ok (.invokevirtual 422, 3) := dk_182 1 166 (dk_at dksX5_says_0 8 rfl rfl)
theorem dX5_says_11 : decode cX5_says 11 = .ok (.return_, 1) := dk_177 (dk_at dksX5_says_0 11 rfl rfl)
abbrev cX5_digits : ByteArray := prog_29_method_105_code
def yX5_digits : MethodName := ⟨RX5, "digits", "(I)V"⟩
def dkwX5_digits_1 : List UInt8 := [16, 48, 27, 28, 108, 16, 10, 112, 96, 182, 1, 163, 28, 16, 10, 108, 61, 167, 255, 234, 177]
abbrev dktX5_digits_1 : List UInt8 := dkwX5_digits_1 ++ []
def dkwX5_digits_0 : List UInt8 := [4, 61, 27, 28, 108, 16, 9, 164, 0, 11, 28, 16, 10, 104, 61, 167, 255, 243, 28, 158, 0, 24, 42]
abbrev dktX5_digits_0 : List UInt8 := dkwX5_digits_0 ++ dktX5_digits_1
theorem dksX5_digits_0 : cX5_digits.data.toList.drop 0 = dktX5_digits_0 := by decide +kernel
theorem dksX5_digits_1 : cX5_digits.data.toList.drop 23 = dktX5_digits_1 := dk_seg dksX5_digits_0 23 rfl rfl
theorem dX5_digits_0 : decode cX5_digits 0 = .ok (.iconst 1, 1) := dk_4 (dk_at dksX5_digits_0 0 rfl rfl)
theorem dX5_digits_1 : decode cX5_digits 1 = .ok (.istore_n 2, 1) := dk_61 (dk_at dksX5_digits_0 1 rfl rfl)
theorem dX5_digits_2 : decode cX5_digits 2 = .ok (.iload_n 1, 1) := dk_27 (dk_at dksX5_digits_0 2 rfl rfl)
theorem dX5_digits_3 : decode cX5_digits 3 = .ok (.iload_n 2, 1) := dk_28 (dk_at dksX5_digits_0 3 rfl rfl)
theorem dX5_digits_4 : decode cX5_digits 4 = .ok (.idiv, 1) := dk_108 (dk_at dksX5_digits_0 4 rfl rfl)
theorem dX5_digits_5 : decode cX5_digits 5 = .ok (.bipush 9, 2) := dk_16 9 (dk_at dksX5_digits_0 5 rfl rfl)
theorem dX5_digits_7 : decode cX5_digits 7 = .ok (.if_icmp .le 11, 3) := dk_164 0 11 (dk_at dksX5_digits_0 7 rfl rfl)
theorem dX5_digits_10 : decode cX5_digits 10 = .ok (.iload_n 2, 1) := dk_28 (dk_at dksX5_digits_0 10 rfl rfl)
theorem dX5_digits_11 : decode cX5_digits 11 = .ok (.bipush 10, 2) := dk_16 10 (dk_at dksX5_digits_0 11 rfl rfl)
theorem dX5_digits_13 : decode cX5_digits 13 = .ok (.imul, 1) := dk_104 (dk_at dksX5_digits_0 13 rfl rfl)
theorem dX5_digits_14 : decode cX5_digits 14 = .ok (.istore_n 2, 1) := dk_61 (dk_at dksX5_digits_0 14 rfl rfl)
theorem dX5_digits_15 : decode cX5_digits 15 = .ok (.goto (-13), 3) := dk_167 255 243 (dk_at dksX5_digits_0 15 rfl rfl)
theorem dX5_digits_18 : decode cX5_digits 18 = .ok (.iload_n 2, 1) := dk_28 (dk_at dksX5_digits_0 18 rfl rfl)
theorem dX5_digits_19 : decode cX5_digits 19 = .ok (.ifCond .le 24, 3) := dk_158 0 24 (dk_at dksX5_digits_0 19 rfl rfl)
theorem dX5_digits_22 : decode cX5_digits 22 = .ok (.aload_n 0, 1) := dk_42 (dk_at dksX5_digits_0 22 rfl rfl)
theorem dX5_digits_23 : decode cX5_digits 23 = .ok (.bipush 48, 2) := dk_16 48 (dk_at dksX5_digits_1 0 rfl rfl)
theorem dX5_digits_25 : decode cX5_digits 25 = .ok (.iload_n 1, 1) := dk_27 (dk_at dksX5_digits_1 2 rfl rfl)
theorem dX5_digits_26 : decode cX5_digits 26 = .ok (.iload_n 2, 1) := dk_28 (dk_at dksX5_digits_1 3 rfl rfl)
theorem dX5_digits_27 : decode cX5_digits 27 = .ok (.idiv, 1) := dk_108 (dk_at dksX5_digits_1 4 rfl rfl)
theorem dX5_digits_28 : decode cX5_digits 28 = .ok (.bipush 10, 2) := dk_16 10 (dk_at dksX5_digits_1 5 rfl rfl)
theorem dX5_digits_30 : decode cX5_digits 30 = .ok (.irem, 1) := dk_112 (dk_at dksX5_digits_1 7 rfl rfl)
theorem dX5_digits_31 : decode cX5_digits 31 = .ok (.iadd, 1) := dk_96 (dk_at dksX5_digits_1 8 rfl rfl)
theorem dX5_digits_32 : decode cX5_digits 32 = .ok (.invokevirtual 419, 3) := dk_182 1 163 (dk_at dksX5_digits_1 9 rfl rfl)
theorem dX5_digits_35 : decode cX5_digits 35 = .ok (.iload_n 2, 1) := dk_28 (dk_at dksX5_digits_1 12 rfl rfl)
theorem dX5_digits_36 : decode cX5_digits 36 = .ok (.bipush 10, 2) := dk_16 10 (dk_at dksX5_digits_1 13 rfl rfl)
theorem dX5_digits_38 : decode cX5_digits 38 = .ok (.idiv, 1) := dk_108 (dk_at dksX5_digits_1 15 rfl rfl)
theorem dX5_digits_39 : decode cX5_digits 39 = .ok (.istore_n 2, 1) := dk_61 (dk_at dksX5_digits_1 16 rfl rfl)
theorem dX5_digits_40 : decode cX5_digits 40 = .ok (.goto (-22), 3) := dk_167 255 234 (dk_at dksX5_digits_1 17 rfl rfl)
theorem dX5_digits_43 : decode cX5_digits 43 = .ok (.return_, 1) := dk_177 (dk_at dksX5_digits_1 20 rfl rfl)
abbrev cX5_byteAt : ByteArray := prog_29_method_107_code
def yX5_byteAt : MethodName := ⟨RX5, "byteAt", "(I)I"⟩
def dkwX5_byteAt_1 : List UInt8 := [51, 167, 0, 4, 2, 172]
abbrev dktX5_byteAt_1 : List UInt8 := dkwX5_byteAt_1 ++ []
def dkwX5_byteAt_0 : List UInt8 := [42, 3, 181, 0, 1, 27, 3, 42, 180, 1, 158, 4, 100, 184, 0, 190, 153, 0, 12, 42, 180, 0, 77, 27]
abbrev dktX5_byteAt_0 : List UInt8 := dkwX5_byteAt_0 ++ dktX5_byteAt_1
theorem dksX5_byteAt_0 : cX5_byteAt.data.toList.drop 0 = dktX5_byteAt_0 := by decide +kernel
theorem dksX5_byteAt_1 : cX5_byteAt.data.toList.drop 24 = dktX5_byteAt_1 := dk_seg dksX5_byteAt_0 24 rfl rfl
theorem dX5_byteAt_0 : decode cX5_byteAt 0 = .ok (.aload_n 0, 1) := dk_42 (dk_at dksX5_byteAt_0 0 rfl rfl)
theorem dX5_byteAt_1 : decode cX5_byteAt 1 = .ok (.iconst 0, 1) := dk_3 (dk_at dksX5_byteAt_0 1 rfl rfl)
theorem dX5_byteAt_2 : decode cX5_byteAt 2 = .ok (.putfield 1, 3) := dk_181 0 1 (dk_at dksX5_byteAt_0 2 rfl rfl)
theorem dX5_byteAt_5 : decode cX5_byteAt 5 = .ok (.iload_n 1, 1) := dk_27 (dk_at dksX5_byteAt_0 5 rfl rfl)
theorem dX5_byteAt_6 : decode cX5_byteAt 6 = .ok (.iconst 0, 1) := dk_3 (dk_at dksX5_byteAt_0 6 rfl rfl)
theorem dX5_byteAt_7 : decode cX5_byteAt 7 = .ok (.aload_n 0, 1) := dk_42 (dk_at dksX5_byteAt_0 7 rfl rfl)
theorem dX5_byteAt_8 : decode cX5_byteAt 8 = .ok (.getfield 414, 3) := dk_180 1 158 (dk_at dksX5_byteAt_0 8 rfl rfl)
theorem dX5_byteAt_11 : decode cX5_byteAt 11 = .ok (.iconst 1, 1) := dk_4 (dk_at dksX5_byteAt_0 11 rfl rfl)
theorem dX5_byteAt_12 : decode cX5_byteAt 12 = .ok (.isub, 1) := dk_100 (dk_at dksX5_byteAt_0 12 rfl rfl)
theorem dX5_byteAt_13 : decode cX5_byteAt 13 = .ok (.invokestatic 190, 3) := dk_184 0 190 (dk_at dksX5_byteAt_0 13 rfl rfl)
theorem dX5_byteAt_16 : decode cX5_byteAt 16 = .ok (.ifCond .eq 12, 3) := dk_153 0 12 (dk_at dksX5_byteAt_0 16 rfl rfl)
theorem dX5_byteAt_19 : decode cX5_byteAt 19 = .ok (.aload_n 0, 1) := dk_42 (dk_at dksX5_byteAt_0 19 rfl rfl)
theorem dX5_byteAt_20 : decode cX5_byteAt 20 = .ok (.getfield 77, 3) := dk_180 0 77 (dk_at dksX5_byteAt_0 20 rfl rfl)
theorem dX5_byteAt_23 : decode cX5_byteAt 23 = .ok (.iload_n 1, 1) := dk_27 (dk_at dksX5_byteAt_0 23 rfl rfl)
theorem dX5_byteAt_24 : decode cX5_byteAt 24 = .ok (.baload, 1) := dk_51 (dk_at dksX5_byteAt_1 0 rfl rfl)
theorem dX5_byteAt_25 : decode cX5_byteAt 25 = .ok (.goto 4, 3) := dk_167 0 4 (dk_at dksX5_byteAt_1 1 rfl rfl)
theorem dX5_byteAt_28 : decode cX5_byteAt 28 = .ok (.iconst (-1), 1) := dk_2 (dk_at dksX5_byteAt_1 4 rfl rfl)
theorem dX5_byteAt_29 : decode cX5_byteAt 29 = .ok (.ireturn, 1) := dk_172 (dk_at dksX5_byteAt_1 5 rfl rfl)
abbrev cX5_drawn : ByteArray := prog_29_method_111_code
def yX5_drawn : MethodName := ⟨RX5, "drawn", "(II)I"⟩
def dkwX5_drawn_1 : List UInt8 := [17, 0, 199, 162, 0, 7, 42, 182, 1, 79, 42, 27, 28, 182, 1, 190, 172]
abbrev dktX5_drawn_1 : List UInt8 := dkwX5_drawn_1 ++ []
def dkwX5_drawn_0 : List UInt8 := [42, 3, 181, 0, 1, 27, 4, 16, 60, 184, 0, 190, 154, 0, 5, 2, 172, 42, 180, 0, 33, 16, 100, 46]
abbrev dktX5_drawn_0 : List UInt8 := dkwX5_drawn_0 ++ dktX5_drawn_1
theorem dksX5_drawn_0 : cX5_drawn.data.toList.drop 0 = dktX5_drawn_0 := by decide +kernel
theorem dksX5_drawn_1 : cX5_drawn.data.toList.drop 24 = dktX5_drawn_1 := dk_seg dksX5_drawn_0 24 rfl rfl
theorem dX5_drawn_0 : decode cX5_drawn 0 = .ok (.aload_n 0, 1) := dk_42 (dk_at dksX5_drawn_0 0 rfl rfl)
theorem dX5_drawn_1 : decode cX5_drawn 1 = .ok (.iconst 0, 1) := dk_3 (dk_at dksX5_drawn_0 1 rfl rfl)
theorem dX5_drawn_2 : decode cX5_drawn 2 = .ok (.putfield 1, 3) := dk_181 0 1 (dk_at dksX5_drawn_0 2 rfl rfl)
theorem dX5_drawn_5 : decode cX5_drawn 5 = .ok (.iload_n 1, 1) := dk_27 (dk_at dksX5_drawn_0 5 rfl rfl)
theorem dX5_drawn_6 : decode cX5_drawn 6 = .ok (.iconst 1, 1) := dk_4 (dk_at dksX5_drawn_0 6 rfl rfl)
theorem dX5_drawn_7 : decode cX5_drawn 7 = .ok (.bipush 60, 2) := dk_16 60 (dk_at dksX5_drawn_0 7 rfl rfl)
theorem dX5_drawn_9 : decode cX5_drawn 9 = .ok (.invokestatic 190, 3) := dk_184 0 190 (dk_at dksX5_drawn_0 9 rfl rfl)
theorem dX5_drawn_12 : decode cX5_drawn 12 = .ok (.ifCond .ne 5, 3) := dk_154 0 5 (dk_at dksX5_drawn_0 12 rfl rfl)
theorem dX5_drawn_15 : decode cX5_drawn 15 = .ok (.iconst (-1), 1) := dk_2 (dk_at dksX5_drawn_0 15 rfl rfl)
theorem dX5_drawn_16 : decode cX5_drawn 16 = .ok (.ireturn, 1) := dk_172 (dk_at dksX5_drawn_0 16 rfl rfl)
theorem dX5_drawn_17 : decode cX5_drawn 17 = .ok (.aload_n 0, 1) := dk_42 (dk_at dksX5_drawn_0 17 rfl rfl)
theorem dX5_drawn_18 : decode cX5_drawn 18 = .ok (.getfield 33, 3) := dk_180 0 33 (dk_at dksX5_drawn_0 18 rfl rfl)
theorem dX5_drawn_21 : decode cX5_drawn 21 = .ok (.bipush 100, 2) := dk_16 100 (dk_at dksX5_drawn_0 21 rfl rfl)
theorem dX5_drawn_23 : decode cX5_drawn 23 = .ok (.iaload, 1) := dk_46 (dk_at dksX5_drawn_0 23 rfl rfl)
theorem dX5_drawn_24 : decode cX5_drawn 24 = .ok (.sipush 199, 3) := dk_17 0 199 (dk_at dksX5_drawn_1 0 rfl rfl)
theorem dX5_drawn_27 : decode cX5_drawn 27 = .ok (.if_icmp .ge 7, 3) := dk_162 0 7 (dk_at dksX5_drawn_1 3 rfl rfl)
theorem dX5_drawn_30 : decode cX5_drawn 30 = .ok (.aload_n 0, 1) := dk_42 (dk_at dksX5_drawn_1 6 rfl rfl)
theorem dX5_drawn_31 : decode cX5_drawn 31 = .ok (.invokevirtual 335, 3) := dk_182 1 79 (dk_at dksX5_drawn_1 7 rfl rfl)
theorem dX5_drawn_34 : decode cX5_drawn 34 = .ok (.aload_n 0, 1) := dk_42 (dk_at dksX5_drawn_1 10 rfl rfl)
theorem dX5_drawn_35 : decode cX5_drawn 35 = .ok (.iload_n 1, 1) := dk_27 (dk_at dksX5_drawn_1 11 rfl rfl)
theorem dX5_drawn_36 : decode cX5_drawn 36 = .ok (.iload_n 2, 1) := dk_28 (dk_at dksX5_drawn_1 12 rfl rfl)
theorem dX5_drawn_37 : decode cX5_drawn 37 = .ok (.invokevirtual 446, 3) := dk_182 1 190 (dk_at dksX5_drawn_1 13 rfl rfl)
theorem dX5_drawn_40 : decode cX5_drawn 40 = .ok (.ireturn, 1) := dk_172 (dk_at dksX5_drawn_1 16 rfl rfl)
abbrev cX5_draws : ByteArray := prog_29_method_110_code
def yX5_draws : MethodName := ⟨RX5, "draws", "(II)I"⟩
def dkwX5_draws_2 : List UInt8 := [167, 255, 218, 29, 172]
abbrev dktX5_draws_2 : List UInt8 := dkwX5_draws_2 ++ []
def dkwX5_draws_1 : List UInt8 := [162, 0, 26, 42, 180, 0, 33, 3, 46, 158, 0, 7, 42, 182, 1, 187, 42, 182, 1, 76, 132, 3, 1]
abbrev dktX5_draws_1 : List UInt8 := dkwX5_draws_1 ++ dktX5_draws_2
def dkwX5_draws_0 : List UInt8 := [42, 28, 181, 1, 180, 3, 62, 29, 27, 162, 0, 39, 42, 180, 0, 33, 16, 100, 46, 17, 0, 199]
abbrev dktX5_draws_0 : List UInt8 := dkwX5_draws_0 ++ dktX5_draws_1
theorem dksX5_draws_0 : cX5_draws.data.toList.drop 0 = dktX5_draws_0 := by decide +kernel
theorem dksX5_draws_1 : cX5_draws.data.toList.drop 22 = dktX5_draws_1 := dk_seg dksX5_draws_0 22 rfl rfl
theorem dksX5_draws_2 : cX5_draws.data.toList.drop 45 = dktX5_draws_2 := dk_seg dksX5_draws_1 23 rfl rfl
theorem dX5_draws_0 : decode cX5_draws 0 = .ok (.aload_n 0, 1) := dk_42 (dk_at dksX5_draws_0 0 rfl rfl)
theorem dX5_draws_1 : decode cX5_draws 1 = .ok (.iload_n 2, 1) := dk_28 (dk_at dksX5_draws_0 1 rfl rfl)
theorem dX5_draws_2 : decode cX5_draws 2 = .ok (.putfield 436, 3) := dk_181 1 180 (dk_at dksX5_draws_0 2 rfl rfl)
theorem dX5_draws_5 : decode cX5_draws 5 = .ok (.iconst 0, 1) := dk_3 (dk_at dksX5_draws_0 5 rfl rfl)
theorem dX5_draws_6 : decode cX5_draws 6 = .ok (.istore_n 3, 1) := dk_62 (dk_at dksX5_draws_0 6 rfl rfl)
theorem dX5_draws_7 : decode cX5_draws 7 = .ok (.iload_n 3, 1) := dk_29 (dk_at dksX5_draws_0 7 rfl rfl)
theorem dX5_draws_8 : decode cX5_draws 8 = .ok (.iload_n 1, 1) := dk_27 (dk_at dksX5_draws_0 8 rfl rfl)
theorem dX5_draws_9 : decode cX5_draws 9 = .ok (.if_icmp .ge 39, 3) := dk_162 0 39 (dk_at dksX5_draws_0 9 rfl rfl)
theorem dX5_draws_12 : decode cX5_draws 12 = .ok (.aload_n 0, 1) := dk_42 (dk_at dksX5_draws_0 12 rfl rfl)
theorem dX5_draws_13 : decode cX5_draws 13 = .ok (.getfield 33, 3) := dk_180 0 33 (dk_at dksX5_draws_0 13 rfl rfl)
theorem dX5_draws_16 : decode cX5_draws 16 = .ok (.bipush 100, 2) := dk_16 100 (dk_at dksX5_draws_0 16 rfl rfl)
theorem dX5_draws_18 : decode cX5_draws 18 = .ok (.iaload, 1) := dk_46 (dk_at dksX5_draws_0 18 rfl rfl)
theorem dX5_draws_19 : decode cX5_draws 19 = .ok (.sipush 199, 3) := dk_17 0 199 (dk_at dksX5_draws_0 19 rfl rfl)
theorem dX5_draws_22 : decode cX5_draws 22 = .ok (.if_icmp .ge 26, 3) := dk_162 0 26 (dk_at dksX5_draws_1 0 rfl rfl)
theorem dX5_draws_25 : decode cX5_draws 25 = .ok (.aload_n 0, 1) := dk_42 (dk_at dksX5_draws_1 3 rfl rfl)
theorem dX5_draws_26 : decode cX5_draws 26 = .ok (.getfield 33, 3) := dk_180 0 33 (dk_at dksX5_draws_1 4 rfl rfl)
theorem dX5_draws_29 : decode cX5_draws 29 = .ok (.iconst 0, 1) := dk_3 (dk_at dksX5_draws_1 7 rfl rfl)
theorem dX5_draws_30 : decode cX5_draws 30 = .ok (.iaload, 1) := dk_46 (dk_at dksX5_draws_1 8 rfl rfl)
theorem dX5_draws_31 : decode cX5_draws 31 = .ok (.ifCond .le 7, 3) := dk_158 0 7 (dk_at dksX5_draws_1 9 rfl rfl)
theorem dX5_draws_34 : decode cX5_draws 34 = .ok (.aload_n 0, 1) := dk_42 (dk_at dksX5_draws_1 12 rfl rfl)
theorem dX5_draws_35 : decode cX5_draws 35 = .ok (.invokevirtual 443, 3) := dk_182 1 187 (dk_at dksX5_draws_1 13 rfl rfl)
theorem dX5_draws_38 : decode cX5_draws 38 = .ok (.aload_n 0, 1) := dk_42 (dk_at dksX5_draws_1 16 rfl rfl)
theorem dX5_draws_39 : decode cX5_draws 39 = .ok (.invokevirtual 332, 3) := dk_182 1 76 (dk_at dksX5_draws_1 17 rfl rfl)
theorem dX5_draws_42 : decode cX5_draws 42 = .ok (.iinc 3 1, 3) := dk_132 3 1 (dk_at dksX5_draws_1 20 rfl rfl)
theorem dX5_draws_45 : decode cX5_draws 45 = .ok (.goto (-38), 3) := dk_167 255 218 (dk_at dksX5_draws_2 0 rfl rfl)
theorem dX5_draws_48 : decode cX5_draws 48 = .ok (.iload_n 3, 1) := dk_29 (dk_at dksX5_draws_2 3 rfl rfl)
theorem dX5_draws_49 : decode cX5_draws 49 = .ok (.ireturn, 1) := dk_172 (dk_at dksX5_draws_2 4 rfl rfl)
abbrev cX5_drawYear : ByteArray := prog_29_method_109_code
def yX5_drawYear : MethodName := ⟨RX5, "drawYear", "()V"⟩
def dkwX5_drawYear_8 : List UInt8 := [182, 1, 57, 177]
abbrev dktX5_drawYear_8 : List UInt8 := dkwX5_drawYear_8 ++ []
def dkwX5_drawYear_7 : List UInt8 := [182, 1, 101, 27, 7, 160, 0, 20, 42, 180, 0, 33, 16, 117, 28, 96, 46, 158, 0, 8, 42, 28]
abbrev dktX5_drawYear_7 : List UInt8 := dkwX5_drawYear_7 ++ dktX5_drawYear_8
def dkwX5_drawYear_6 : List UInt8 := [6, 160, 0, 25, 28, 29, 159, 0, 20, 42, 28, 29, 182, 1, 98, 154, 0, 11, 42, 28, 29, 21, 4]
abbrev dktX5_drawYear_6 : List UInt8 := dkwX5_drawYear_6 ++ dktX5_drawYear_7
def dkwX5_drawYear_5 : List UInt8 := [29, 159, 0, 22, 42, 28, 29, 21, 4, 182, 1, 91, 154, 0, 11, 42, 28, 29, 21, 4, 182, 1, 95, 27]
abbrev dktX5_drawYear_5 : List UInt8 := dkwX5_drawYear_5 ++ dktX5_drawYear_6
def dkwX5_drawYear_4 : List UInt8 := [159, 0, 18, 42, 28, 29, 182, 1, 85, 154, 0, 9, 42, 28, 29, 182, 1, 88, 27, 5, 160, 0, 27, 28]
abbrev dktX5_drawYear_4 : List UInt8 := dkwX5_drawYear_4 ++ dktX5_drawYear_5
def dkwX5_drawYear_3 : List UInt8 := [27, 154, 0, 16, 42, 28, 182, 1, 19, 153, 0, 8, 42, 28, 182, 1, 73, 27, 4, 160, 0, 23, 28, 29]
abbrev dktX5_drawYear_3 : List UInt8 := dkwX5_drawYear_3 ++ dktX5_drawYear_4
def dkwX5_drawYear_2 : List UInt8 := [27, 5, 159, 0, 8, 27, 6, 160, 0, 14, 42, 16, 50, 182, 1, 184, 4, 96, 167, 0, 4, 3, 54, 4]
abbrev dktX5_drawYear_2 : List UInt8 := dkwX5_drawYear_2 ++ dktX5_drawYear_3
def dkwX5_drawYear_1 : List UInt8 := [27, 153, 0, 8, 27, 7, 160, 0, 7, 28, 167, 0, 13, 42, 42, 180, 0, 33, 3, 46, 182, 1, 184, 62]
abbrev dktX5_drawYear_1 : List UInt8 := dkwX5_drawYear_1 ++ dktX5_drawYear_2
def dkwX5_drawYear_0 : List UInt8 := [42, 16, 10, 182, 1, 184, 60, 27, 7, 164, 0, 4, 177, 42, 42, 180, 0, 33, 3, 46, 182, 1, 184, 61]
abbrev dktX5_drawYear_0 : List UInt8 := dkwX5_drawYear_0 ++ dktX5_drawYear_1
theorem dksX5_drawYear_0 : cX5_drawYear.data.toList.drop 0 = dktX5_drawYear_0 := by decide +kernel
theorem dksX5_drawYear_1 : cX5_drawYear.data.toList.drop 24 = dktX5_drawYear_1 := dk_seg dksX5_drawYear_0 24 rfl rfl
theorem dksX5_drawYear_2 : cX5_drawYear.data.toList.drop 48 = dktX5_drawYear_2 := dk_seg dksX5_drawYear_1 24 rfl rfl
theorem dksX5_drawYear_3 : cX5_drawYear.data.toList.drop 72 = dktX5_drawYear_3 := dk_seg dksX5_drawYear_2 24 rfl rfl
theorem dksX5_drawYear_4 : cX5_drawYear.data.toList.drop 96 = dktX5_drawYear_4 := dk_seg dksX5_drawYear_3 24 rfl rfl
theorem dksX5_drawYear_5 : cX5_drawYear.data.toList.drop 120 = dktX5_drawYear_5 := dk_seg dksX5_drawYear_4 24 rfl rfl
theorem dksX5_drawYear_6 : cX5_drawYear.data.toList.drop 144 = dktX5_drawYear_6 := dk_seg dksX5_drawYear_5 24 rfl rfl
theorem dksX5_drawYear_7 : cX5_drawYear.data.toList.drop 167 = dktX5_drawYear_7 := dk_seg dksX5_drawYear_6 23 rfl rfl
theorem dksX5_drawYear_8 : cX5_drawYear.data.toList.drop 189 = dktX5_drawYear_8 := dk_seg dksX5_drawYear_7 22 rfl rfl
theorem dX5_drawYear_0 : decode cX5_drawYear 0 = .ok (.aload_n 0, 1) := dk_42 (dk_at dksX5_drawYear_0 0 rfl rfl)
theorem dX5_drawYear_1 : decode cX5_drawYear 1 = .ok (.bipush 10, 2) := dk_16 10 (dk_at dksX5_drawYear_0 1 rfl rfl)
theorem dX5_drawYear_3 : decode cX5_drawYear 3 = .ok (.invokevirtual 440, 3) := dk_182 1 184 (dk_at dksX5_drawYear_0 3 rfl rfl)
theorem dX5_drawYear_6 : decode cX5_drawYear 6 = .ok (.istore_n 1, 1) := dk_60 (dk_at dksX5_drawYear_0 6 rfl rfl)
theorem dX5_drawYear_7 : decode cX5_drawYear 7 = .ok (.iload_n 1, 1) := dk_27 (dk_at dksX5_drawYear_0 7 rfl rfl)
theorem dX5_drawYear_8 : decode cX5_drawYear 8 = .ok (.iconst 4, 1) := dk_7 (dk_at dksX5_drawYear_0 8 rfl rfl)
theorem dX5_drawYear_9 : decode cX5_drawYear 9 = .ok (.if_icmp .le 4, 3) := dk_164 0 4 (dk_at dksX5_drawYear_0 9 rfl rfl)
theorem dX5_drawYear_12 : decode cX5_drawYear 12 = .ok (.return_, 1) := dk_177 (dk_at dksX5_drawYear_0 12 rfl rfl)
theorem dX5_drawYear_13 : decode cX5_drawYear 13 = .ok (.aload_n 0, 1) := dk_42 (dk_at dksX5_drawYear_0 13 rfl rfl)
theorem dX5_drawYear_14 : decode cX5_drawYear 14 = .ok (.aload_n 0, 1) := dk_42 (dk_at dksX5_drawYear_0 14 rfl rfl)
theorem dX5_drawYear_15 : decode cX5_drawYear 15 = .ok (.getfield 33, 3) := dk_180 0 33 (dk_at dksX5_drawYear_0 15 rfl rfl)
theorem dX5_drawYear_18 : decode cX5_drawYear 18 = .ok (.iconst 0, 1) := dk_3 (dk_at dksX5_drawYear_0 18 rfl rfl)
theorem dX5_drawYear_19 : decode cX5_drawYear 19 = .ok (.iaload, 1) := dk_46 (dk_at dksX5_drawYear_0 19 rfl rfl)
theorem dX5_drawYear_20 : decode cX5_drawYear 20 = .ok (.invokevirtual 440, 3) := dk_182 1 184 (dk_at dksX5_drawYear_0 20 rfl rfl)
theorem dX5_drawYear_23 : decode cX5_drawYear 23 = .ok (.istore_n 2, 1) := dk_61 (dk_at dksX5_drawYear_0 23 rfl rfl)
theorem dX5_drawYear_24 : decode cX5_drawYear 24 = .ok (.iload_n 1, 1) := dk_27 (dk_at dksX5_drawYear_1 0 rfl rfl)
theorem dX5_drawYear_25 : decode cX5_drawYear 25 = .ok (.ifCond .eq 8, 3) := dk_153 0 8 (dk_at dksX5_drawYear_1 1 rfl rfl)
theorem dX5_drawYear_28 : decode cX5_drawYear 28 = .ok (.iload_n 1, 1) := dk_27 (dk_at dksX5_drawYear_1 4 rfl rfl)
theorem dX5_drawYear_29 : decode cX5_drawYear 29 = .ok (.iconst 4, 1) := dk_7 (dk_at dksX5_drawYear_1 5 rfl rfl)
theorem dX5_drawYear_30 : decode cX5_drawYear 30 = .ok (.if_icmp .ne 7, 3) := dk_160 0 7 (dk_at dksX5_drawYear_1 6 rfl rfl)
theorem dX5_drawYear_33 : decode cX5_drawYear 33 = .ok (.iload_n 2, 1) := dk_28 (dk_at dksX5_drawYear_1 9 rfl rfl)
theorem dX5_drawYear_34 : decode cX5_drawYear 34 = .ok (.goto 13, 3) := dk_167 0 13 (dk_at dksX5_drawYear_1 10 rfl rfl)
theorem dX5_drawYear_37 : decode cX5_drawYear 37 = .ok (.aload_n 0, 1) := dk_42 (dk_at dksX5_drawYear_1 13 rfl rfl)
theorem dX5_drawYear_38 : decode cX5_drawYear 38 = .ok (.aload_n 0, 1) := dk_42 (dk_at dksX5_drawYear_1 14 rfl rfl)
theorem dX5_drawYear_39 : decode cX5_drawYear 39 = .ok (.getfield 33, 3) := dk_180 0 33 (dk_at dksX5_drawYear_1 15 rfl rfl)
theorem dX5_drawYear_42 : decode cX5_drawYear 42 = .ok (.iconst 0, 1) := dk_3 (dk_at dksX5_drawYear_1 18 rfl rfl)
theorem dX5_drawYear_43 : decode cX5_drawYear 43 = .ok (.iaload, 1) := dk_46 (dk_at dksX5_drawYear_1 19 rfl rfl)
theorem dX5_drawYear_44 : decode cX5_drawYear 44 = .ok (.invokevirtual 440, 3) := dk_182 1 184 (dk_at dksX5_drawYear_1 20 rfl rfl)
theorem dX5_drawYear_47 : decode cX5_drawYear 47 = .ok (.istore_n 3, 1) := dk_62 (dk_at dksX5_drawYear_1 23 rfl rfl)
theorem dX5_drawYear_48 : decode cX5_drawYear 48 = .ok (.iload_n 1, 1) := dk_27 (dk_at dksX5_drawYear_2 0 rfl rfl)
theorem dX5_drawYear_49 : decode cX5_drawYear 49 = .ok (.iconst 2, 1) := dk_5 (dk_at dksX5_drawYear_2 1 rfl rfl)
theorem dX5_drawYear_50 : decode cX5_drawYear 50 = .ok (.if_icmp .eq 8, 3) := dk_159 0 8 (dk_at dksX5_drawYear_2 2 rfl rfl)
theorem dX5_drawYear_53 : decode cX5_drawYear 53 = .ok (.iload_n 1, 1) := dk_27 (dk_at dksX5_drawYear_2 5 rfl rfl)
theorem dX5_drawYear_54 : decode cX5_drawYear 54 = .ok (.iconst 3, 1) := dk_6 (dk_at dksX5_drawYear_2 6 rfl rfl)
theorem dX5_drawYear_55 : decode cX5_drawYear 55 = .ok (.if_icmp .ne 14, 3) := dk_160 0 14 (dk_at dksX5_drawYear_2 7 rfl rfl)
theorem dX5_drawYear_58 : decode cX5_drawYear 58 = .ok (.aload_n 0, 1) := dk_42 (dk_at dksX5_drawYear_2 10 rfl rfl)
theorem dX5_drawYear_59 : decode cX5_drawYear 59 = .ok (.bipush 50, 2) := dk_16 50 (dk_at dksX5_drawYear_2 11 rfl rfl)
theorem dX5_drawYear_61 : decode cX5_drawYear 61 = .ok (.invokevirtual 440, 3) := dk_182 1 184 (dk_at dksX5_drawYear_2 13 rfl rfl)
theorem dX5_drawYear_64 : decode cX5_drawYear 64 = .ok (.iconst 1, 1) := dk_4 (dk_at dksX5_drawYear_2 16 rfl rfl)
theorem dX5_drawYear_65 : decode cX5_drawYear 65 = .ok (.iadd, 1) := dk_96 (dk_at dksX5_drawYear_2 17 rfl rfl)
theorem dX5_drawYear_66 : decode cX5_drawYear 66 = .ok (.goto 4, 3) := dk_167 0 4 (dk_at dksX5_drawYear_2 18 rfl rfl)
theorem dX5_drawYear_69 : decode cX5_drawYear 69 = .ok (.iconst 0, 1) := dk_3 (dk_at dksX5_drawYear_2 21 rfl rfl)
theorem dX5_drawYear_70 : decode cX5_drawYear 70 = .ok (.istore 4, 2) := dk_54 4 (dk_at dksX5_drawYear_2 22 rfl rfl)
theorem dX5_drawYear_72 : decode cX5_drawYear 72 = .ok (.iload_n 1, 1) := dk_27 (dk_at dksX5_drawYear_3 0 rfl rfl)
theorem dX5_drawYear_73 : decode cX5_drawYear 73 = .ok (.ifCond .ne 16, 3) := dk_154 0 16 (dk_at dksX5_drawYear_3 1 rfl rfl)
theorem dX5_drawYear_76 : decode cX5_drawYear 76 = .ok (.aload_n 0, 1) := dk_42 (dk_at dksX5_drawYear_3 4 rfl rfl)
theorem dX5_drawYear_77 : decode cX5_drawYear 77 = .ok (.iload_n 2, 1) := dk_28 (dk_at dksX5_drawYear_3 5 rfl rfl)
theorem dX5_drawYear_78 : decode cX5_drawYear 78 = .ok (.invokevirtual 275, 3) := dk_182 1 19 (dk_at dksX5_drawYear_3 6 rfl rfl)
theorem dX5_drawYear_81 : decode cX5_drawYear 81 = .ok (.ifCond .eq 8, 3) := dk_153 0 8 (dk_at dksX5_drawYear_3 9 rfl rfl)
theorem dX5_drawYear_84 : decode cX5_drawYear 84 = .ok (.aload_n 0, 1) := dk_42 (dk_at dksX5_drawYear_3 12 rfl rfl)
theorem dX5_drawYear_85 : decode cX5_drawYear 85 = .ok (.iload_n 2, 1) := dk_28 (dk_at dksX5_drawYear_3 13 rfl rfl)
theorem dX5_drawYear_86 : decode cX5_drawYear 86 = .ok (.invokevirtual 329, 3) := dk_182 1 73 (dk_at dksX5_drawYear_3 14 rfl rfl)
theorem dX5_drawYear_89 : decode cX5_drawYear 89 = .ok (.iload_n 1, 1) := dk_27 (dk_at dksX5_drawYear_3 17 rfl rfl)
theorem dX5_drawYear_90 : decode cX5_drawYear 90 = .ok (.iconst 1, 1) := dk_4 (dk_at dksX5_drawYear_3 18 rfl rfl)
theorem dX5_drawYear_91 : decode cX5_drawYear 91 = .ok (.if_icmp .ne 23, 3) := dk_160 0 23 (dk_at dksX5_drawYear_3 19 rfl rfl)
theorem dX5_drawYear_94 : decode cX5_drawYear 94 = .ok (.iload_n 2, 1) := dk_28 (dk_at dksX5_drawYear_3 22 rfl rfl)
theorem dX5_drawYear_95 : decode cX5_drawYear 95 = .ok (.iload_n 3, 1) := dk_29 (dk_at dksX5_drawYear_3 23 rfl rfl)
theorem dX5_drawYear_96 : decode cX5_drawYear 96 = .ok (.if_icmp .eq 18, 3) := dk_159 0 18 (dk_at dksX5_drawYear_4 0 rfl rfl)
theorem dX5_drawYear_99 : decode cX5_drawYear 99 = .ok (.aload_n 0, 1) := dk_42 (dk_at dksX5_drawYear_4 3 rfl rfl)
theorem dX5_drawYear_100 : decode cX5_drawYear 100 = .ok (.iload_n 2, 1) := dk_28 (dk_at dksX5_drawYear_4 4 rfl rfl)
theorem dX5_drawYear_101 : decode cX5_drawYear 101 = .ok (.iload_n 3, 1) := dk_29 (dk_at dksX5_drawYear_4 5 rfl rfl)
theorem dX5_drawYear_102 : decode cX5_drawYear 102 = .ok (.invokevirtual 341, 3) := dk_182 1 85 (dk_at dksX5_drawYear_4 6 rfl rfl)
theorem dX5_drawYear_105 : decode cX5_drawYear 105 = .ok (.ifCond .ne 9, 3) := dk_154 0 9 (dk_at dksX5_drawYear_4 9 rfl rfl)
theorem dX5_drawYear_108 : decode cX5_drawYear 108 = .ok (.aload_n 0, 1) := dk_42 (dk_at dksX5_drawYear_4 12 rfl rfl)
theorem dX5_drawYear_109 : decode cX5_drawYear 109 = .ok (.iload_n 2, 1) := dk_28 (dk_at dksX5_drawYear_4 13 rfl rfl)
theorem dX5_drawYear_110 : decode cX5_drawYear 110 = .ok (.iload_n 3, 1) := dk_29 (dk_at dksX5_drawYear_4 14 rfl rfl)
theorem dX5_drawYear_111 : decode cX5_drawYear 111 = .ok (.invokevirtual 344, 3) := dk_182 1 88 (dk_at dksX5_drawYear_4 15 rfl rfl)
theorem dX5_drawYear_114 : decode cX5_drawYear 114 = .ok (.iload_n 1, 1) := dk_27 (dk_at dksX5_drawYear_4 18 rfl rfl)
theorem dX5_drawYear_115 : decode cX5_drawYear 115 = .ok (.iconst 2, 1) := dk_5 (dk_at dksX5_drawYear_4 19 rfl rfl)
theorem dX5_drawYear_116 : decode cX5_drawYear 116 = .ok (.if_icmp .ne 27, 3) := dk_160 0 27 (dk_at dksX5_drawYear_4 20 rfl rfl)
theorem dX5_drawYear_119 : decode cX5_drawYear 119 = .ok (.iload_n 2, 1) := dk_28 (dk_at dksX5_drawYear_4 23 rfl rfl)
theorem dX5_drawYear_120 : decode cX5_drawYear 120 = .ok (.iload_n 3, 1) := dk_29 (dk_at dksX5_drawYear_5 0 rfl rfl)
theorem dX5_drawYear_121 : decode cX5_drawYear 121 = .ok (.if_icmp .eq 22, 3) := dk_159 0 22 (dk_at dksX5_drawYear_5 1 rfl rfl)
theorem dX5_drawYear_124 : decode cX5_drawYear 124 = .ok (.aload_n 0, 1) := dk_42 (dk_at dksX5_drawYear_5 4 rfl rfl)
theorem dX5_drawYear_125 : decode cX5_drawYear 125 = .ok (.iload_n 2, 1) := dk_28 (dk_at dksX5_drawYear_5 5 rfl rfl)
theorem dX5_drawYear_126 : decode cX5_drawYear 126 = .ok (.iload_n 3, 1) := dk_29 (dk_at dksX5_drawYear_5 6 rfl rfl)
theorem dX5_drawYear_127 : decode cX5_drawYear 127 = .ok (.iload 4, 2) := dk_21 4 (dk_at dksX5_drawYear_5 7 rfl rfl)
theorem dX5_drawYear_129 : decode cX5_drawYear 129 = .ok (.invokevirtual 347, 3) := dk_182 1 91 (dk_at dksX5_drawYear_5 9 rfl rfl)
theorem dX5_drawYear_132 : decode cX5_drawYear 132 = .ok (.ifCond .ne 11, 3) := dk_154 0 11 (dk_at dksX5_drawYear_5 12 rfl rfl)
theorem dX5_drawYear_135 : decode cX5_drawYear 135 = .ok (.aload_n 0, 1) := dk_42 (dk_at dksX5_drawYear_5 15 rfl rfl)
theorem dX5_drawYear_136 : decode cX5_drawYear 136 = .ok (.iload_n 2, 1) := dk_28 (dk_at dksX5_drawYear_5 16 rfl rfl)
theorem dX5_drawYear_137 : decode cX5_drawYear 137 = .ok (.iload_n 3, 1) := dk_29 (dk_at dksX5_drawYear_5 17 rfl rfl)
theorem dX5_drawYear_138 : decode cX5_drawYear 138 = .ok (.iload 4, 2) := dk_21 4 (dk_at dksX5_drawYear_5 18 rfl rfl)
theorem dX5_drawYear_140 : decode cX5_drawYear 140 = .ok (.invokevirtual 351, 3) := dk_182 1 95 (dk_at dksX5_drawYear_5 20 rfl rfl)
theorem dX5_drawYear_143 : decode cX5_drawYear 143 = .ok (.iload_n 1, 1) := dk_27 (dk_at dksX5_drawYear_5 23 rfl rfl)
theorem dX5_drawYear_144 : decode cX5_drawYear 144 = .ok (.iconst 3, 1) := dk_6 (dk_at dksX5_drawYear_6 0 rfl rfl)
theorem dX5_drawYear_145 : decode cX5_drawYear 145 = .ok (.if_icmp .ne 25, 3) := dk_160 0 25 (dk_at dksX5_drawYear_6 1 rfl rfl)
theorem dX5_drawYear_148 : decode cX5_drawYear 148 = .ok (.iload_n 2, 1) := dk_28 (dk_at dksX5_drawYear_6 4 rfl rfl)
theorem dX5_drawYear_149 : decode cX5_drawYear 149 = .ok (.iload_n 3, 1) := dk_29 (dk_at dksX5_drawYear_6 5 rfl rfl)
theorem dX5_drawYear_150 : decode cX5_drawYear 150 = .ok (.if_icmp .eq 20, 3) := dk_159 0 20 (dk_at dksX5_drawYear_6 6 rfl rfl)
theorem dX5_drawYear_153 : decode cX5_drawYear 153 = .ok (.aload_n 0, 1) := dk_42 (dk_at dksX5_drawYear_6 9 rfl rfl)
theorem dX5_drawYear_154 : decode cX5_drawYear 154 = .ok (.iload_n 2, 1) := dk_28 (dk_at dksX5_drawYear_6 10 rfl rfl)
theorem dX5_drawYear_155 : decode cX5_drawYear 155 = .ok (.iload_n 3, 1) := dk_29 (dk_at dksX5_drawYear_6 11 rfl rfl)
theorem dX5_drawYear_156 : decode cX5_drawYear 156 = .ok (.invokevirtual 354, 3) := dk_182 1 98 (dk_at dksX5_drawYear_6 12 rfl rfl)
theorem dX5_drawYear_159 : decode cX5_drawYear 159 = .ok (.ifCond .ne 11, 3) := dk_154 0 11 (dk_at dksX5_drawYear_6 15 rfl rfl)
theorem dX5_drawYear_162 : decode cX5_drawYear 162 = .ok (.aload_n 0, 1) := dk_42 (dk_at dksX5_drawYear_6 18 rfl rfl)
theorem dX5_drawYear_163 : decode cX5_drawYear 163 = .ok (.iload_n 2, 1) := dk_28 (dk_at dksX5_drawYear_6 19 rfl rfl)
theorem dX5_drawYear_164 : decode cX5_drawYear 164 = .ok (.iload_n 3, 1) := dk_29 (dk_at dksX5_drawYear_6 20 rfl rfl)
theorem dX5_drawYear_165 : decode cX5_drawYear 165 = .ok (.iload 4, 2) := dk_21 4 (dk_at dksX5_drawYear_6 21 rfl rfl)
theorem dX5_drawYear_167 : decode cX5_drawYear 167 = .ok (.invokevirtual 357, 3) := dk_182 1 101 (dk_at dksX5_drawYear_7 0 rfl rfl)
theorem dX5_drawYear_170 : decode cX5_drawYear 170 = .ok (.iload_n 1, 1) := dk_27 (dk_at dksX5_drawYear_7 3 rfl rfl)
theorem dX5_drawYear_171 : decode cX5_drawYear 171 = .ok (.iconst 4, 1) := dk_7 (dk_at dksX5_drawYear_7 4 rfl rfl)
theorem dX5_drawYear_172 : decode cX5_drawYear 172 = .ok (.if_icmp .ne 20, 3) := dk_160 0 20 (dk_at dksX5_drawYear_7 5 rfl rfl)
theorem dX5_drawYear_175 : decode cX5_drawYear 175 = .ok (.aload_n 0, 1) := dk_42 (dk_at dksX5_drawYear_7 8 rfl rfl)
theorem dX5_drawYear_176 : decode cX5_drawYear 176 = .ok (.getfield 33, 3) := dk_180 0 33 (dk_at dksX5_drawYear_7 9 rfl rfl)
theorem dX5_drawYear_179 : decode cX5_drawYear 179 = .ok (.bipush 117, 2) := dk_16 117 (dk_at dksX5_drawYear_7 12 rfl rfl)
theorem dX5_drawYear_181 : decode cX5_drawYear 181 = .ok (.iload_n 2, 1) := dk_28 (dk_at dksX5_drawYear_7 14 rfl rfl)
theorem dX5_drawYear_182 : decode cX5_drawYear 182 = .ok (.iadd, 1) := dk_96 (dk_at dksX5_drawYear_7 15 rfl rfl)
theorem dX5_drawYear_183 : decode cX5_drawYear 183 = .ok (.iaload, 1) := dk_46 (dk_at dksX5_drawYear_7 16 rfl rfl)
theorem dX5_drawYear_184 : decode cX5_drawYear 184 = .ok (.ifCond .le 8, 3) := dk_158 0 8 (dk_at dksX5_drawYear_7 17 rfl rfl)
theorem dX5_drawYear_187 : decode cX5_drawYear 187 = .ok (.aload_n 0, 1) := dk_42 (dk_at dksX5_drawYear_7 20 rfl rfl)
theorem dX5_drawYear_188 : decode cX5_drawYear 188 = .ok (.iload_n 2, 1) := dk_28 (dk_at dksX5_drawYear_7 21 rfl rfl)
theorem dX5_drawYear_189 : decode cX5_drawYear 189 = .ok (.invokevirtual 313, 3) := dk_182 1 57 (dk_at dksX5_drawYear_8 0 rfl rfl)
theorem dX5_drawYear_192 : decode cX5_drawYear 192 = .ok (.return_, 1) := dk_177 (dk_at dksX5_drawYear_8 3 rfl rfl)
abbrev cX5_draw : ByteArray := prog_29_method_108_code
def yX5_draw : MethodName := ⟨RX5, "draw", "(I)I"⟩
def dkwX5_draw_1 : List UInt8 := [112, 172]
abbrev dktX5_draw_1 : List UInt8 := dkwX5_draw_1 ++ []
def dkwX5_draw_0 : List UInt8 := [42, 42, 180, 1, 180, 19, 1, 183, 104, 17, 48, 57, 96, 181, 1, 180, 42, 180, 1, 180, 16, 8, 124, 27]
abbrev dktX5_draw_0 : List UInt8 := dkwX5_draw_0 ++ dktX5_draw_1
theorem dksX5_draw_0 : cX5_draw.data.toList.drop 0 = dktX5_draw_0 := by decide +kernel
theorem dksX5_draw_1 : cX5_draw.data.toList.drop 24 = dktX5_draw_1 := dk_seg dksX5_draw_0 24 rfl rfl
theorem dX5_draw_0 : decode cX5_draw 0 = .ok (.aload_n 0, 1) := dk_42 (dk_at dksX5_draw_0 0 rfl rfl)
theorem dX5_draw_1 : decode cX5_draw 1 = .ok (.aload_n 0, 1) := dk_42 (dk_at dksX5_draw_0 1 rfl rfl)
theorem dX5_draw_2 : decode cX5_draw 2 = .ok (.getfield 436, 3) := dk_180 1 180 (dk_at dksX5_draw_0 2 rfl rfl)
theorem dX5_draw_5 : decode cX5_draw 5 = .ok (.ldc_w 439, 3) := dk_19 1 183 (dk_at dksX5_draw_0 5 rfl rfl)
theorem dX5_draw_8 : decode cX5_draw 8 = .ok (.imul, 1) := dk_104 (dk_at dksX5_draw_0 8 rfl rfl)
theorem dX5_draw_9 : decode cX5_draw 9 = .ok (.sipush 12345, 3) := dk_17 48 57 (dk_at dksX5_draw_0 9 rfl rfl)
theorem dX5_draw_12 : decode cX5_draw 12 = .ok (.iadd, 1) := dk_96 (dk_at dksX5_draw_0 12 rfl rfl)
theorem dX5_draw_13 : decode cX5_draw 13 = .ok (.putfield 436, 3) := dk_181 1 180 (dk_at dksX5_draw_0 13 rfl rfl)
theorem dX5_draw_16 : decode cX5_draw 16 = .ok (.aload_n 0, 1) := dk_42 (dk_at dksX5_draw_0 16 rfl rfl)
theorem dX5_draw_17 : decode cX5_draw 17 = .ok (.getfield 436, 3) := dk_180 1 180 (dk_at dksX5_draw_0 17 rfl rfl)
theorem dX5_draw_20 : decode cX5_draw 20 = .ok (.bipush 8, 2) := dk_16 8 (dk_at dksX5_draw_0 20 rfl rfl)
theorem dX5_draw_22 : decode cX5_draw 22 = .ok (.iushr, 1) := dk_124 (dk_at dksX5_draw_0 22 rfl rfl)
theorem dX5_draw_23 : decode cX5_draw 23 = .ok (.iload_n 1, 1) := dk_27 (dk_at dksX5_draw_0 23 rfl rfl)
theorem dX5_draw_24 : decode cX5_draw 24 = .ok (.irem, 1) := dk_112 (dk_at dksX5_draw_1 0 rfl rfl)
theorem dX5_draw_25 : decode cX5_draw 25 = .ok (.ireturn, 1) := dk_172 (dk_at dksX5_draw_1 1 rfl rfl)
abbrev cX5_odds : ByteArray := prog_29_method_112_code
def yX5_odds : MethodName := ⟨RX5, "odds", "(III)I"⟩
def dkwX5_odds_3 : List UInt8 := [167, 0, 4, 3, 96, 54, 4, 42, 182, 1, 110, 132, 5, 1, 167, 255, 206, 21, 4, 172]
abbrev dktX5_odds_3 : List UInt8 := dkwX5_odds_3 ++ []
def dkwX5_odds_2 : List UInt8 := [182, 1, 190, 87, 21, 4, 42, 27, 182, 1, 19, 153, 0, 15, 42, 182, 1, 155, 27, 160, 0, 7, 4]
abbrev dktX5_odds_2 : List UInt8 := dkwX5_odds_2 ++ dktX5_odds_3
def dkwX5_odds_1 : List UInt8 := [172, 42, 182, 1, 107, 3, 54, 4, 3, 54, 5, 21, 5, 28, 162, 0, 50, 42, 16, 10, 29, 21, 5, 96]
abbrev dktX5_odds_1 : List UInt8 := dkwX5_odds_1 ++ dktX5_odds_2
def dkwX5_odds_0 : List UInt8 := [42, 3, 181, 0, 1, 42, 27, 182, 1, 28, 153, 0, 13, 28, 4, 16, 30, 184, 0, 190, 154, 0, 5, 2]
abbrev dktX5_odds_0 : List UInt8 := dkwX5_odds_0 ++ dktX5_odds_1
theorem dksX5_odds_0 : cX5_odds.data.toList.drop 0 = dktX5_odds_0 := by decide +kernel
theorem dksX5_odds_1 : cX5_odds.data.toList.drop 24 = dktX5_odds_1 := dk_seg dksX5_odds_0 24 rfl rfl
theorem dksX5_odds_2 : cX5_odds.data.toList.drop 48 = dktX5_odds_2 := dk_seg dksX5_odds_1 24 rfl rfl
theorem dksX5_odds_3 : cX5_odds.data.toList.drop 71 = dktX5_odds_3 := dk_seg dksX5_odds_2 23 rfl rfl
theorem dX5_odds_0 : decode cX5_odds 0 = .ok (.aload_n 0, 1) := dk_42 (dk_at dksX5_odds_0 0 rfl rfl)
theorem dX5_odds_1 : decode cX5_odds 1 = .ok (.iconst 0, 1) := dk_3 (dk_at dksX5_odds_0 1 rfl rfl)
theorem dX5_odds_2 : decode cX5_odds 2 = .ok (.putfield 1, 3) := dk_181 0 1 (dk_at dksX5_odds_0 2 rfl rfl)
theorem dX5_odds_5 : decode cX5_odds 5 = .ok (.aload_n 0, 1) := dk_42 (dk_at dksX5_odds_0 5 rfl rfl)
theorem dX5_odds_6 : decode cX5_odds 6 = .ok (.iload_n 1, 1) := dk_27 (dk_at dksX5_odds_0 6 rfl rfl)
theorem dX5_odds_7 : decode cX5_odds 7 = .ok (.invokevirtual 284, 3) := dk_182 1 28 (dk_at dksX5_odds_0 7 rfl rfl)
theorem dX5_odds_10 : decode cX5_odds 10 = .ok (.ifCond .eq 13, 3) := dk_153 0 13 (dk_at dksX5_odds_0 10 rfl rfl)
theorem dX5_odds_13 : decode cX5_odds 13 = .ok (.iload_n 2, 1) := dk_28 (dk_at dksX5_odds_0 13 rfl rfl)
theorem dX5_odds_14 : decode cX5_odds 14 = .ok (.iconst 1, 1) := dk_4 (dk_at dksX5_odds_0 14 rfl rfl)
theorem dX5_odds_15 : decode cX5_odds 15 = .ok (.bipush 30, 2) := dk_16 30 (dk_at dksX5_odds_0 15 rfl rfl)
theorem dX5_odds_17 : decode cX5_odds 17 = .ok (.invokestatic 190, 3) := dk_184 0 190 (dk_at dksX5_odds_0 17 rfl rfl)
theorem dX5_odds_20 : decode cX5_odds 20 = .ok (.ifCond .ne 5, 3) := dk_154 0 5 (dk_at dksX5_odds_0 20 rfl rfl)
theorem dX5_odds_23 : decode cX5_odds 23 = .ok (.iconst (-1), 1) := dk_2 (dk_at dksX5_odds_0 23 rfl rfl)
theorem dX5_odds_24 : decode cX5_odds 24 = .ok (.ireturn, 1) := dk_172 (dk_at dksX5_odds_1 0 rfl rfl)
theorem dX5_odds_25 : decode cX5_odds 25 = .ok (.aload_n 0, 1) := dk_42 (dk_at dksX5_odds_1 1 rfl rfl)
theorem dX5_odds_26 : decode cX5_odds 26 = .ok (.invokevirtual 363, 3) := dk_182 1 107 (dk_at dksX5_odds_1 2 rfl rfl)
theorem dX5_odds_29 : decode cX5_odds 29 = .ok (.iconst 0, 1) := dk_3 (dk_at dksX5_odds_1 5 rfl rfl)
theorem dX5_odds_30 : decode cX5_odds 30 = .ok (.istore 4, 2) := dk_54 4 (dk_at dksX5_odds_1 6 rfl rfl)
theorem dX5_odds_32 : decode cX5_odds 32 = .ok (.iconst 0, 1) := dk_3 (dk_at dksX5_odds_1 8 rfl rfl)
theorem dX5_odds_33 : decode cX5_odds 33 = .ok (.istore 5, 2) := dk_54 5 (dk_at dksX5_odds_1 9 rfl rfl)
theorem dX5_odds_35 : decode cX5_odds 35 = .ok (.iload 5, 2) := dk_21 5 (dk_at dksX5_odds_1 11 rfl rfl)
theorem dX5_odds_37 : decode cX5_odds 37 = .ok (.iload_n 2, 1) := dk_28 (dk_at dksX5_odds_1 13 rfl rfl)
theorem dX5_odds_38 : decode cX5_odds 38 = .ok (.if_icmp .ge 50, 3) := dk_162 0 50 (dk_at dksX5_odds_1 14 rfl rfl)
theorem dX5_odds_41 : decode cX5_odds 41 = .ok (.aload_n 0, 1) := dk_42 (dk_at dksX5_odds_1 17 rfl rfl)
theorem dX5_odds_42 : decode cX5_odds 42 = .ok (.bipush 10, 2) := dk_16 10 (dk_at dksX5_odds_1 18 rfl rfl)
theorem dX5_odds_44 : decode cX5_odds 44 = .ok (.iload_n 3, 1) := dk_29 (dk_at dksX5_odds_1 20 rfl rfl)
theorem dX5_odds_45 : decode cX5_odds 45 = .ok (.iload 5, 2) := dk_21 5 (dk_at dksX5_odds_1 21 rfl rfl)
theorem dX5_odds_47 : decode cX5_odds 47 = .ok (.iadd, 1) := dk_96 (dk_at dksX5_odds_1 23 rfl rfl)
theorem dX5_odds_48 : decode cX5_odds 48 = .ok (.invokevirtual 446, 3) := dk_182 1 190 (dk_at dksX5_odds_2 0 rfl rfl)
theorem dX5_odds_51 : decode cX5_odds 51 = .ok (.pop, 1) := dk_87 (dk_at dksX5_odds_2 3 rfl rfl)
theorem dX5_odds_52 : decode cX5_odds 52 = .ok (.iload 4, 2) := dk_21 4 (dk_at dksX5_odds_2 4 rfl rfl)
theorem dX5_odds_54 : decode cX5_odds 54 = .ok (.aload_n 0, 1) := dk_42 (dk_at dksX5_odds_2 6 rfl rfl)
theorem dX5_odds_55 : decode cX5_odds 55 = .ok (.iload_n 1, 1) := dk_27 (dk_at dksX5_odds_2 7 rfl rfl)
theorem dX5_odds_56 : decode cX5_odds 56 = .ok (.invokevirtual 275, 3) := dk_182 1 19 (dk_at dksX5_odds_2 8 rfl rfl)
theorem dX5_odds_59 : decode cX5_odds 59 = .ok (.ifCond .eq 15, 3) := dk_153 0 15 (dk_at dksX5_odds_2 11 rfl rfl)
theorem dX5_odds_62 : decode cX5_odds 62 = .ok (.aload_n 0, 1) := dk_42 (dk_at dksX5_odds_2 14 rfl rfl)
theorem dX5_odds_63 : decode cX5_odds 63 = .ok (.invokevirtual 411, 3) := dk_182 1 155 (dk_at dksX5_odds_2 15 rfl rfl)
theorem dX5_odds_66 : decode cX5_odds 66 = .ok (.iload_n 1, 1) := dk_27 (dk_at dksX5_odds_2 18 rfl rfl)
theorem dX5_odds_67 : decode cX5_odds 67 = .ok (.if_icmp .ne 7, 3) := dk_160 0 7 (dk_at dksX5_odds_2 19 rfl rfl)
theorem dX5_odds_70 : decode cX5_odds 70 = .ok (.iconst 1, 1) := dk_4 (dk_at dksX5_odds_2 22 rfl rfl)
theorem dX5_odds_71 : decode cX5_odds 71 = .ok (.goto 4, 3) := dk_167 0 4 (dk_at dksX5_odds_3 0 rfl rfl)
theorem dX5_odds_74 : decode cX5_odds 74 = .ok (.iconst 0, 1) := dk_3 (dk_at dksX5_odds_3 3 rfl rfl)
theorem dX5_odds_75 : decode cX5_odds 75 = .ok (.iadd, 1) := dk_96 (dk_at dksX5_odds_3 4 rfl rfl)
theorem dX5_odds_76 : decode cX5_odds 76 = .ok (.istore 4, 2) := dk_54 4 (dk_at dksX5_odds_3 5 rfl rfl)
theorem dX5_odds_78 : decode cX5_odds 78 = .ok (.aload_n 0, 1) := dk_42 (dk_at dksX5_odds_3 7 rfl rfl)
theorem dX5_odds_79 : decode cX5_odds 79 = .ok (.invokevirtual 366, 3) := dk_182 1 110 (dk_at dksX5_odds_3 8 rfl rfl)
theorem dX5_odds_82 : decode cX5_odds 82 = .ok (.iinc 5 1, 3) := dk_132 5 1 (dk_at dksX5_odds_3 11 rfl rfl)
theorem dX5_odds_85 : decode cX5_odds 85 = .ok (.goto (-50), 3) := dk_167 255 206 (dk_at dksX5_odds_3 14 rfl rfl)
theorem dX5_odds_88 : decode cX5_odds 88 = .ok (.iload 4, 2) := dk_21 4 (dk_at dksX5_odds_3 17 rfl rfl)
theorem dX5_odds_90 : decode cX5_odds 90 = .ok (.ireturn, 1) := dk_172 (dk_at dksX5_odds_3 19 rfl rfl)
abbrev cX5_book : ByteArray := prog_29_method_115_code
def yX5_book : MethodName := ⟨RX5, "book", "(I)I"⟩
def dkwX5_book_12 : List UInt8 := [132, 3, 1, 167, 255, 225, 27, 154, 0, 7, 42, 182, 1, 110, 28, 172]
abbrev dktX5_book_12 : List UInt8 := dkwX5_book_12 ++ []
def dkwX5_book_11 : List UInt8 := [42, 180, 0, 56, 16, 65, 42, 180, 1, 7, 4, 100, 104, 29, 96, 42, 180, 0, 59, 29, 46, 79]
abbrev dktX5_book_11 : List UInt8 := dkwX5_book_11 ++ dktX5_book_12
def dkwX5_book_10 : List UInt8 := [160, 0, 52, 42, 180, 0, 80, 4, 46, 158, 0, 43, 42, 182, 1, 79, 3, 62, 29, 16, 65, 162, 0, 31]
abbrev dktX5_book_10 : List UInt8 := dkwX5_book_10 ++ dktX5_book_11
def dkwX5_book_9 : List UInt8 := [16, 100, 46, 79, 42, 180, 0, 80, 6, 42, 180, 0, 33, 16, 102, 46, 79, 42, 4, 181, 1, 202, 27, 4]
abbrev dktX5_book_9 : List UInt8 := dkwX5_book_9 ++ dktX5_book_10
def dkwX5_book_8 : List UInt8 := [180, 0, 80, 4, 92, 46, 4, 96, 79, 132, 3, 1, 167, 255, 169, 42, 180, 0, 80, 5, 42, 180, 0, 33]
abbrev dktX5_book_8 : List UInt8 := dkwX5_book_8 ++ dktX5_book_9
def dkwX5_book_7 : List UInt8 := [29, 104, 6, 96, 46, 182, 1, 199, 79, 42, 180, 0, 80, 3, 46, 158, 0, 8, 29, 61, 167, 0, 13, 42]
abbrev dktX5_book_7 : List UInt8 := dkwX5_book_7 ++ dktX5_book_8
def dkwX5_book_6 : List UInt8 := [180, 0, 40, 7, 29, 104, 4, 96, 46, 42, 180, 0, 40, 7, 29, 104, 5, 96, 46, 42, 180, 0, 40, 7]
abbrev dktX5_book_6 : List UInt8 := dkwX5_book_6 ++ dktX5_book_7
def dkwX5_book_5 : List UInt8 := [162, 0, 85, 28, 156, 0, 81, 42, 180, 0, 80, 3, 42, 42, 180, 0, 40, 7, 29, 104, 46, 42]
abbrev dktX5_book_5 : List UInt8 := dkwX5_book_5 ++ dktX5_book_6
def dkwX5_book_4 : List UInt8 := [42, 180, 0, 80, 28, 3, 79, 132, 2, 1, 167, 255, 241, 2, 61, 3, 62, 29, 42, 180, 1, 193]
abbrev dktX5_book_4 : List UInt8 := dkwX5_book_4 ++ dktX5_book_5
def dkwX5_book_3 : List UInt8 := [42, 89, 180, 1, 193, 4, 96, 181, 1, 193, 167, 255, 215, 42, 182, 1, 107, 3, 61, 28, 7, 162, 0, 16]
abbrev dktX5_book_3 : List UInt8 := dkwX5_book_3 ++ dktX5_book_4
def dkwX5_book_2 : List UInt8 := [42, 182, 1, 196, 153, 0, 12, 42, 16, 59, 182, 1, 4, 154, 0, 11, 16, 254, 42, 180, 0, 178, 100, 172]
abbrev dktX5_book_2 : List UInt8 := dkwX5_book_2 ++ dktX5_book_3
def dkwX5_book_1 : List UInt8 := [182, 0, 251, 42, 3, 181, 0, 175, 42, 3, 181, 1, 193, 42, 182, 0, 187, 42, 180, 0, 158, 153, 0, 40]
abbrev dktX5_book_1 : List UInt8 := dkwX5_book_1 ++ dktX5_book_2
def dkwX5_book_0 : List UInt8 := [42, 3, 181, 0, 1, 27, 3, 4, 184, 0, 190, 154, 0, 7, 17, 252, 24, 172, 42, 17, 1, 144]
abbrev dktX5_book_0 : List UInt8 := dkwX5_book_0 ++ dktX5_book_1
theorem dksX5_book_0 : cX5_book.data.toList.drop 0 = dktX5_book_0 := by decide +kernel
theorem dksX5_book_1 : cX5_book.data.toList.drop 22 = dktX5_book_1 := dk_seg dksX5_book_0 22 rfl rfl
theorem dksX5_book_2 : cX5_book.data.toList.drop 46 = dktX5_book_2 := dk_seg dksX5_book_1 24 rfl rfl
theorem dksX5_book_3 : cX5_book.data.toList.drop 70 = dktX5_book_3 := dk_seg dksX5_book_2 24 rfl rfl
theorem dksX5_book_4 : cX5_book.data.toList.drop 94 = dktX5_book_4 := dk_seg dksX5_book_3 24 rfl rfl
theorem dksX5_book_5 : cX5_book.data.toList.drop 116 = dktX5_book_5 := dk_seg dksX5_book_4 22 rfl rfl
theorem dksX5_book_6 : cX5_book.data.toList.drop 138 = dktX5_book_6 := dk_seg dksX5_book_5 22 rfl rfl
theorem dksX5_book_7 : cX5_book.data.toList.drop 162 = dktX5_book_7 := dk_seg dksX5_book_6 24 rfl rfl
theorem dksX5_book_8 : cX5_book.data.toList.drop 186 = dktX5_book_8 := dk_seg dksX5_book_7 24 rfl rfl
theorem dksX5_book_9 : cX5_book.data.toList.drop 210 = dktX5_book_9 := dk_seg dksX5_book_8 24 rfl rfl
theorem dksX5_book_10 : cX5_book.data.toList.drop 234 = dktX5_book_10 := dk_seg dksX5_book_9 24 rfl rfl
theorem dksX5_book_11 : cX5_book.data.toList.drop 258 = dktX5_book_11 := dk_seg dksX5_book_10 24 rfl rfl
theorem dksX5_book_12 : cX5_book.data.toList.drop 280 = dktX5_book_12 := dk_seg dksX5_book_11 22 rfl rfl
theorem dX5_book_0 : decode cX5_book 0 = .ok (.aload_n 0, 1) := dk_42 (dk_at dksX5_book_0 0 rfl rfl)
theorem dX5_book_1 : decode cX5_book 1 = .ok (.iconst 0, 1) := dk_3 (dk_at dksX5_book_0 1 rfl rfl)
theorem dX5_book_2 : decode cX5_book 2 = .ok (.putfield 1, 3) := dk_181 0 1 (dk_at dksX5_book_0 2 rfl rfl)
theorem dX5_book_5 : decode cX5_book 5 = .ok (.iload_n 1, 1) := dk_27 (dk_at dksX5_book_0 5 rfl rfl)
theorem dX5_book_6 : decode cX5_book 6 = .ok (.iconst 0, 1) := dk_3 (dk_at dksX5_book_0 6 rfl rfl)
theorem dX5_book_7 : decode cX5_book 7 = .ok (.iconst 1, 1) := dk_4 (dk_at dksX5_book_0 7 rfl rfl)
theorem dX5_book_8 : decode cX5_book 8 = .ok (.invokestatic 190, 3) := dk_184 0 190 (dk_at dksX5_book_0 8 rfl rfl)
theorem dX5_book_11 : decode cX5_book 11 = .ok (.ifCond .ne 7, 3) := dk_154 0 7 (dk_at dksX5_book_0 11 rfl rfl)
theorem dX5_book_14 : decode cX5_book 14 = .ok (.sipush (-1000), 3) := dk_17 252 24 (dk_at dksX5_book_0 14 rfl rfl)
theorem dX5_book_17 : decode cX5_book 17 = .ok (.ireturn, 1) := dk_172 (dk_at dksX5_book_0 17 rfl rfl)
theorem dX5_book_18 : decode cX5_book 18 = .ok (.aload_n 0, 1) := dk_42 (dk_at dksX5_book_0 18 rfl rfl)
theorem dX5_book_19 : decode cX5_book 19 = .ok (.sipush 400, 3) := dk_17 1 144 (dk_at dksX5_book_0 19 rfl rfl)
theorem dX5_book_22 : decode cX5_book 22 = .ok (.invokevirtual 251, 3) := dk_182 0 251 (dk_at dksX5_book_1 0 rfl rfl)
theorem dX5_book_25 : decode cX5_book 25 = .ok (.aload_n 0, 1) := dk_42 (dk_at dksX5_book_1 3 rfl rfl)
theorem dX5_book_26 : decode cX5_book 26 = .ok (.iconst 0, 1) := dk_3 (dk_at dksX5_book_1 4 rfl rfl)
theorem dX5_book_27 : decode cX5_book 27 = .ok (.putfield 175, 3) := dk_181 0 175 (dk_at dksX5_book_1 5 rfl rfl)
theorem dX5_book_30 : decode cX5_book 30 = .ok (.aload_n 0, 1) := dk_42 (dk_at dksX5_book_1 8 rfl rfl)
theorem dX5_book_31 : decode cX5_book 31 = .ok (.iconst 0, 1) := dk_3 (dk_at dksX5_book_1 9 rfl rfl)
theorem dX5_book_32 : decode cX5_book 32 = .ok (.putfield 449, 3) := dk_181 1 193 (dk_at dksX5_book_1 10 rfl rfl)
theorem dX5_book_35 : decode cX5_book 35 = .ok (.aload_n 0, 1) := dk_42 (dk_at dksX5_book_1 13 rfl rfl)
theorem dX5_book_36 : decode cX5_book 36 = .ok (.invokevirtual 187, 3) := dk_182 0 187 (dk_at dksX5_book_1 14 rfl rfl)
theorem dX5_book_39 : decode cX5_book 39 = .ok (.aload_n 0, 1) := dk_42 (dk_at dksX5_book_1 17 rfl rfl)
theorem dX5_book_40 : decode cX5_book 40 = .ok (.getfield 158, 3) := dk_180 0 158 (dk_at dksX5_book_1 18 rfl rfl)
theorem dX5_book_43 : decode cX5_book 43 = .ok (.ifCond .eq 40, 3) := dk_153 0 40 (dk_at dksX5_book_1 21 rfl rfl)
theorem dX5_book_46 : decode cX5_book 46 = .ok (.aload_n 0, 1) := dk_42 (dk_at dksX5_book_2 0 rfl rfl)
theorem dX5_book_47 : decode cX5_book 47 = .ok (.invokevirtual 452, 3) := dk_182 1 196 (dk_at dksX5_book_2 1 rfl rfl)
theorem dX5_book_50 : decode cX5_book 50 = .ok (.ifCond .eq 12, 3) := dk_153 0 12 (dk_at dksX5_book_2 4 rfl rfl)
theorem dX5_book_53 : decode cX5_book 53 = .ok (.aload_n 0, 1) := dk_42 (dk_at dksX5_book_2 7 rfl rfl)
theorem dX5_book_54 : decode cX5_book 54 = .ok (.bipush 59, 2) := dk_16 59 (dk_at dksX5_book_2 8 rfl rfl)
theorem dX5_book_56 : decode cX5_book 56 = .ok (.invokevirtual 260, 3) := dk_182 1 4 (dk_at dksX5_book_2 10 rfl rfl)
theorem dX5_book_59 : decode cX5_book 59 = .ok (.ifCond .ne 11, 3) := dk_154 0 11 (dk_at dksX5_book_2 13 rfl rfl)
theorem dX5_book_62 : decode cX5_book 62 = .ok (.bipush (-2), 2) := dk_16 254 (dk_at dksX5_book_2 16 rfl rfl)
theorem dX5_book_64 : decode cX5_book 64 = .ok (.aload_n 0, 1) := dk_42 (dk_at dksX5_book_2 18 rfl rfl)
theorem dX5_book_65 : decode cX5_book 65 = .ok (.getfield 178, 3) := dk_180 0 178 (dk_at dksX5_book_2 19 rfl rfl)
theorem dX5_book_68 : decode cX5_book 68 = .ok (.isub, 1) := dk_100 (dk_at dksX5_book_2 22 rfl rfl)
theorem dX5_book_69 : decode cX5_book 69 = .ok (.ireturn, 1) := dk_172 (dk_at dksX5_book_2 23 rfl rfl)
theorem dX5_book_70 : decode cX5_book 70 = .ok (.aload_n 0, 1) := dk_42 (dk_at dksX5_book_3 0 rfl rfl)
theorem dX5_book_71 : decode cX5_book 71 = .ok (.dup, 1) := dk_89 (dk_at dksX5_book_3 1 rfl rfl)
theorem dX5_book_72 : decode cX5_book 72 = .ok (.getfield 449, 3) := dk_180 1 193 (dk_at dksX5_book_3 2 rfl rfl)
theorem dX5_book_75 : decode cX5_book 75 = .ok (.iconst 1, 1) := dk_4 (dk_at dksX5_book_3 5 rfl rfl)
theorem dX5_book_76 : decode cX5_book 76 = .ok (.iadd, 1) := dk_96 (dk_at dksX5_book_3 6 rfl rfl)
theorem dX5_book_77 : decode cX5_book 77 = .ok (.putfield 449, 3) := dk_181 1 193 (dk_at dksX5_book_3 7 rfl rfl)
theorem dX5_book_80 : decode cX5_book 80 = .ok (.goto (-41), 3) := dk_167 255 215 (dk_at dksX5_book_3 10 rfl rfl)
theorem dX5_book_83 : decode cX5_book 83 = .ok (.aload_n 0, 1) := dk_42 (dk_at dksX5_book_3 13 rfl rfl)
theorem dX5_book_84 : decode cX5_book 84 = .ok (.invokevirtual 363, 3) := dk_182 1 107 (dk_at dksX5_book_3 14 rfl rfl)
theorem dX5_book_87 : decode cX5_book 87 = .ok (.iconst 0, 1) := dk_3 (dk_at dksX5_book_3 17 rfl rfl)
theorem dX5_book_88 : decode cX5_book 88 = .ok (.istore_n 2, 1) := dk_61 (dk_at dksX5_book_3 18 rfl rfl)
theorem dX5_book_89 : decode cX5_book 89 = .ok (.iload_n 2, 1) := dk_28 (dk_at dksX5_book_3 19 rfl rfl)
theorem dX5_book_90 : decode cX5_book 90 = .ok (.iconst 4, 1) := dk_7 (dk_at dksX5_book_3 20 rfl rfl)
theorem dX5_book_91 : decode cX5_book 91 = .ok (.if_icmp .ge 16, 3) := dk_162 0 16 (dk_at dksX5_book_3 21 rfl rfl)
theorem dX5_book_94 : decode cX5_book 94 = .ok (.aload_n 0, 1) := dk_42 (dk_at dksX5_book_4 0 rfl rfl)
theorem dX5_book_95 : decode cX5_book 95 = .ok (.getfield 80, 3) := dk_180 0 80 (dk_at dksX5_book_4 1 rfl rfl)
theorem dX5_book_98 : decode cX5_book 98 = .ok (.iload_n 2, 1) := dk_28 (dk_at dksX5_book_4 4 rfl rfl)
theorem dX5_book_99 : decode cX5_book 99 = .ok (.iconst 0, 1) := dk_3 (dk_at dksX5_book_4 5 rfl rfl)
theorem dX5_book_100 : decode cX5_book 100 = .ok (.iastore, 1) := dk_79 (dk_at dksX5_book_4 6 rfl rfl)
theorem dX5_book_101 : decode cX5_book 101 = .ok (.iinc 2 1, 3) := dk_132 2 1 (dk_at dksX5_book_4 7 rfl rfl)
theorem dX5_book_104 : decode cX5_book 104 = .ok (.goto (-15), 3) := dk_167 255 241 (dk_at dksX5_book_4 10 rfl rfl)
theorem dX5_book_107 : decode cX5_book 107 = .ok (.iconst (-1), 1) := dk_2 (dk_at dksX5_book_4 13 rfl rfl)
theorem dX5_book_108 : decode cX5_book 108 = .ok (.istore_n 2, 1) := dk_61 (dk_at dksX5_book_4 14 rfl rfl)
theorem dX5_book_109 : decode cX5_book 109 = .ok (.iconst 0, 1) := dk_3 (dk_at dksX5_book_4 15 rfl rfl)
theorem dX5_book_110 : decode cX5_book 110 = .ok (.istore_n 3, 1) := dk_62 (dk_at dksX5_book_4 16 rfl rfl)
theorem dX5_book_111 : decode cX5_book 111 = .ok (.iload_n 3, 1) := dk_29 (dk_at dksX5_book_4 17 rfl rfl)
theorem dX5_book_112 : decode cX5_book 112 = .ok (.aload_n 0, 1) := dk_42 (dk_at dksX5_book_4 18 rfl rfl)
theorem dX5_book_113 : decode cX5_book 113 = .ok (.getfield 449, 3) := dk_180 1 193 (dk_at dksX5_book_4 19 rfl rfl)
theorem dX5_book_116 : decode cX5_book 116 = .ok (.if_icmp .ge 85, 3) := dk_162 0 85 (dk_at dksX5_book_5 0 rfl rfl)
theorem dX5_book_119 : decode cX5_book 119 = .ok (.iload_n 2, 1) := dk_28 (dk_at dksX5_book_5 3 rfl rfl)
theorem dX5_book_120 : decode cX5_book 120 = .ok (.ifCond .ge 81, 3) := dk_156 0 81 (dk_at dksX5_book_5 4 rfl rfl)
theorem dX5_book_123 : decode cX5_book 123 = .ok (.aload_n 0, 1) := dk_42 (dk_at dksX5_book_5 7 rfl rfl)
theorem dX5_book_124 : decode cX5_book 124 = .ok (.getfield 80, 3) := dk_180 0 80 (dk_at dksX5_book_5 8 rfl rfl)
theorem dX5_book_127 : decode cX5_book 127 = .ok (.iconst 0, 1) := dk_3 (dk_at dksX5_book_5 11 rfl rfl)
theorem dX5_book_128 : decode cX5_book 128 = .ok (.aload_n 0, 1) := dk_42 (dk_at dksX5_book_5 12 rfl rfl)
theorem dX5_book_129 : decode cX5_book 129 = .ok (.aload_n 0, 1) := dk_42 (dk_at dksX5_book_5 13 rfl rfl)
theorem dX5_book_130 : decode cX5_book 130 = .ok (.getfield 40, 3) := dk_180 0 40 (dk_at dksX5_book_5 14 rfl rfl)
theorem dX5_book_133 : decode cX5_book 133 = .ok (.iconst 4, 1) := dk_7 (dk_at dksX5_book_5 17 rfl rfl)
theorem dX5_book_134 : decode cX5_book 134 = .ok (.iload_n 3, 1) := dk_29 (dk_at dksX5_book_5 18 rfl rfl)
theorem dX5_book_135 : decode cX5_book 135 = .ok (.imul, 1) := dk_104 (dk_at dksX5_book_5 19 rfl rfl)
theorem dX5_book_136 : decode cX5_book 136 = .ok (.iaload, 1) := dk_46 (dk_at dksX5_book_5 20 rfl rfl)
theorem dX5_book_137 : decode cX5_book 137 = .ok (.aload_n 0, 1) := dk_42 (dk_at dksX5_book_5 21 rfl rfl)
theorem dX5_book_138 : decode cX5_book 138 = .ok (.getfield 40, 3) := dk_180 0 40 (dk_at dksX5_book_6 0 rfl rfl)
theorem dX5_book_141 : decode cX5_book 141 = .ok (.iconst 4, 1) := dk_7 (dk_at dksX5_book_6 3 rfl rfl)
theorem dX5_book_142 : decode cX5_book 142 = .ok (.iload_n 3, 1) := dk_29 (dk_at dksX5_book_6 4 rfl rfl)
theorem dX5_book_143 : decode cX5_book 143 = .ok (.imul, 1) := dk_104 (dk_at dksX5_book_6 5 rfl rfl)
theorem dX5_book_144 : decode cX5_book 144 = .ok (.iconst 1, 1) := dk_4 (dk_at dksX5_book_6 6 rfl rfl)
theorem dX5_book_145 : decode cX5_book 145 = .ok (.iadd, 1) := dk_96 (dk_at dksX5_book_6 7 rfl rfl)
theorem dX5_book_146 : decode cX5_book 146 = .ok (.iaload, 1) := dk_46 (dk_at dksX5_book_6 8 rfl rfl)
theorem dX5_book_147 : decode cX5_book 147 = .ok (.aload_n 0, 1) := dk_42 (dk_at dksX5_book_6 9 rfl rfl)
theorem dX5_book_148 : decode cX5_book 148 = .ok (.getfield 40, 3) := dk_180 0 40 (dk_at dksX5_book_6 10 rfl rfl)
theorem dX5_book_151 : decode cX5_book 151 = .ok (.iconst 4, 1) := dk_7 (dk_at dksX5_book_6 13 rfl rfl)
theorem dX5_book_152 : decode cX5_book 152 = .ok (.iload_n 3, 1) := dk_29 (dk_at dksX5_book_6 14 rfl rfl)
theorem dX5_book_153 : decode cX5_book 153 = .ok (.imul, 1) := dk_104 (dk_at dksX5_book_6 15 rfl rfl)
theorem dX5_book_154 : decode cX5_book 154 = .ok (.iconst 2, 1) := dk_5 (dk_at dksX5_book_6 16 rfl rfl)
theorem dX5_book_155 : decode cX5_book 155 = .ok (.iadd, 1) := dk_96 (dk_at dksX5_book_6 17 rfl rfl)
theorem dX5_book_156 : decode cX5_book 156 = .ok (.iaload, 1) := dk_46 (dk_at dksX5_book_6 18 rfl rfl)
theorem dX5_book_157 : decode cX5_book 157 = .ok (.aload_n 0, 1) := dk_42 (dk_at dksX5_book_6 19 rfl rfl)
theorem dX5_book_158 : decode cX5_book 158 = .ok (.getfield 40, 3) := dk_180 0 40 (dk_at dksX5_book_6 20 rfl rfl)
theorem dX5_book_161 : decode cX5_book 161 = .ok (.iconst 4, 1) := dk_7 (dk_at dksX5_book_6 23 rfl rfl)
theorem dX5_book_162 : decode cX5_book 162 = .ok (.iload_n 3, 1) := dk_29 (dk_at dksX5_book_7 0 rfl rfl)
theorem dX5_book_163 : decode cX5_book 163 = .ok (.imul, 1) := dk_104 (dk_at dksX5_book_7 1 rfl rfl)
theorem dX5_book_164 : decode cX5_book 164 = .ok (.iconst 3, 1) := dk_6 (dk_at dksX5_book_7 2 rfl rfl)
theorem dX5_book_165 : decode cX5_book 165 = .ok (.iadd, 1) := dk_96 (dk_at dksX5_book_7 3 rfl rfl)
theorem dX5_book_166 : decode cX5_book 166 = .ok (.iaload, 1) := dk_46 (dk_at dksX5_book_7 4 rfl rfl)
theorem dX5_book_167 : decode cX5_book 167 = .ok (.invokevirtual 455, 3) := dk_182 1 199 (dk_at dksX5_book_7 5 rfl rfl)
theorem dX5_book_170 : decode cX5_book 170 = .ok (.iastore, 1) := dk_79 (dk_at dksX5_book_7 8 rfl rfl)
theorem dX5_book_171 : decode cX5_book 171 = .ok (.aload_n 0, 1) := dk_42 (dk_at dksX5_book_7 9 rfl rfl)
theorem dX5_book_172 : decode cX5_book 172 = .ok (.getfield 80, 3) := dk_180 0 80 (dk_at dksX5_book_7 10 rfl rfl)
theorem dX5_book_175 : decode cX5_book 175 = .ok (.iconst 0, 1) := dk_3 (dk_at dksX5_book_7 13 rfl rfl)
theorem dX5_book_176 : decode cX5_book 176 = .ok (.iaload, 1) := dk_46 (dk_at dksX5_book_7 14 rfl rfl)
theorem dX5_book_177 : decode cX5_book 177 = .ok (.ifCond .le 8, 3) := dk_158 0 8 (dk_at dksX5_book_7 15 rfl rfl)
theorem dX5_book_180 : decode cX5_book 180 = .ok (.iload_n 3, 1) := dk_29 (dk_at dksX5_book_7 18 rfl rfl)
theorem dX5_book_181 : decode cX5_book 181 = .ok (.istore_n 2, 1) := dk_61 (dk_at dksX5_book_7 19 rfl rfl)
theorem dX5_book_182 : decode cX5_book 182 = .ok (.goto 13, 3) := dk_167 0 13 (dk_at dksX5_book_7 20 rfl rfl)
theorem dX5_book_185 : decode cX5_book 185 = .ok (.aload_n 0, 1) := dk_42 (dk_at dksX5_book_7 23 rfl rfl)
theorem dX5_book_186 : decode cX5_book 186 = .ok (.getfield 80, 3) := dk_180 0 80 (dk_at dksX5_book_8 0 rfl rfl)
theorem dX5_book_189 : decode cX5_book 189 = .ok (.iconst 1, 1) := dk_4 (dk_at dksX5_book_8 3 rfl rfl)
theorem dX5_book_190 : decode cX5_book 190 = .ok (.dup2, 1) := dk_92 (dk_at dksX5_book_8 4 rfl rfl)
theorem dX5_book_191 : decode cX5_book 191 = .ok (.iaload, 1) := dk_46 (dk_at dksX5_book_8 5 rfl rfl)
theorem dX5_book_192 : decode cX5_book 192 = .ok (.iconst 1, 1) := dk_4 (dk_at dksX5_book_8 6 rfl rfl)
theorem dX5_book_193 : decode cX5_book 193 = .ok (.iadd, 1) := dk_96 (dk_at dksX5_book_8 7 rfl rfl)
theorem dX5_book_194 : decode cX5_book 194 = .ok (.iastore, 1) := dk_79 (dk_at dksX5_book_8 8 rfl rfl)
theorem dX5_book_195 : decode cX5_book 195 = .ok (.iinc 3 1, 3) := dk_132 3 1 (dk_at dksX5_book_8 9 rfl rfl)
theorem dX5_book_198 : decode cX5_book 198 = .ok (.goto (-87), 3) := dk_167 255 169 (dk_at dksX5_book_8 12 rfl rfl)
theorem dX5_book_201 : decode cX5_book 201 = .ok (.aload_n 0, 1) := dk_42 (dk_at dksX5_book_8 15 rfl rfl)
theorem dX5_book_202 : decode cX5_book 202 = .ok (.getfield 80, 3) := dk_180 0 80 (dk_at dksX5_book_8 16 rfl rfl)
theorem dX5_book_205 : decode cX5_book 205 = .ok (.iconst 2, 1) := dk_5 (dk_at dksX5_book_8 19 rfl rfl)
theorem dX5_book_206 : decode cX5_book 206 = .ok (.aload_n 0, 1) := dk_42 (dk_at dksX5_book_8 20 rfl rfl)
theorem dX5_book_207 : decode cX5_book 207 = .ok (.getfield 33, 3) := dk_180 0 33 (dk_at dksX5_book_8 21 rfl rfl)
theorem dX5_book_210 : decode cX5_book 210 = .ok (.bipush 100, 2) := dk_16 100 (dk_at dksX5_book_9 0 rfl rfl)
theorem dX5_book_212 : decode cX5_book 212 = .ok (.iaload, 1) := dk_46 (dk_at dksX5_book_9 2 rfl rfl)
theorem dX5_book_213 : decode cX5_book 213 = .ok (.iastore, 1) := dk_79 (dk_at dksX5_book_9 3 rfl rfl)
theorem dX5_book_214 : decode cX5_book 214 = .ok (.aload_n 0, 1) := dk_42 (dk_at dksX5_book_9 4 rfl rfl)
theorem dX5_book_215 : decode cX5_book 215 = .ok (.getfield 80, 3) := dk_180 0 80 (dk_at dksX5_book_9 5 rfl rfl)
theorem dX5_book_218 : decode cX5_book 218 = .ok (.iconst 3, 1) := dk_6 (dk_at dksX5_book_9 8 rfl rfl)
theorem dX5_book_219 : decode cX5_book 219 = .ok (.aload_n 0, 1) := dk_42 (dk_at dksX5_book_9 9 rfl rfl)
theorem dX5_book_220 : decode cX5_book 220 = .ok (.getfield 33, 3) := dk_180 0 33 (dk_at dksX5_book_9 10 rfl rfl)
theorem dX5_book_223 : decode cX5_book 223 = .ok (.bipush 102, 2) := dk_16 102 (dk_at dksX5_book_9 13 rfl rfl)
theorem dX5_book_225 : decode cX5_book 225 = .ok (.iaload, 1) := dk_46 (dk_at dksX5_book_9 15 rfl rfl)
theorem dX5_book_226 : decode cX5_book 226 = .ok (.iastore, 1) := dk_79 (dk_at dksX5_book_9 16 rfl rfl)
theorem dX5_book_227 : decode cX5_book 227 = .ok (.aload_n 0, 1) := dk_42 (dk_at dksX5_book_9 17 rfl rfl)
theorem dX5_book_228 : decode cX5_book 228 = .ok (.iconst 1, 1) := dk_4 (dk_at dksX5_book_9 18 rfl rfl)
theorem dX5_book_229 : decode cX5_book 229 = .ok (.putfield 458, 3) := dk_181 1 202 (dk_at dksX5_book_9 19 rfl rfl)
theorem dX5_book_232 : decode cX5_book 232 = .ok (.iload_n 1, 1) := dk_27 (dk_at dksX5_book_9 22 rfl rfl)
theorem dX5_book_233 : decode cX5_book 233 = .ok (.iconst 1, 1) := dk_4 (dk_at dksX5_book_9 23 rfl rfl)
theorem dX5_book_234 : decode cX5_book 234 = .ok (.if_icmp .ne 52, 3) := dk_160 0 52 (dk_at dksX5_book_10 0 rfl rfl)
theorem dX5_book_237 : decode cX5_book 237 = .ok (.aload_n 0, 1) := dk_42 (dk_at dksX5_book_10 3 rfl rfl)
theorem dX5_book_238 : decode cX5_book 238 = .ok (.getfield 80, 3) := dk_180 0 80 (dk_at dksX5_book_10 4 rfl rfl)
theorem dX5_book_241 : decode cX5_book 241 = .ok (.iconst 1, 1) := dk_4 (dk_at dksX5_book_10 7 rfl rfl)
theorem dX5_book_242 : decode cX5_book 242 = .ok (.iaload, 1) := dk_46 (dk_at dksX5_book_10 8 rfl rfl)
theorem dX5_book_243 : decode cX5_book 243 = .ok (.ifCond .le 43, 3) := dk_158 0 43 (dk_at dksX5_book_10 9 rfl rfl)
theorem dX5_book_246 : decode cX5_book 246 = .ok (.aload_n 0, 1) := dk_42 (dk_at dksX5_book_10 12 rfl rfl)
theorem dX5_book_247 : decode cX5_book 247 = .ok (.invokevirtual 335, 3) := dk_182 1 79 (dk_at dksX5_book_10 13 rfl rfl)
theorem dX5_book_250 : decode cX5_book 250 = .ok (.iconst 0, 1) := dk_3 (dk_at dksX5_book_10 16 rfl rfl)
theorem dX5_book_251 : decode cX5_book 251 = .ok (.istore_n 3, 1) := dk_62 (dk_at dksX5_book_10 17 rfl rfl)
theorem dX5_book_252 : decode cX5_book 252 = .ok (.iload_n 3, 1) := dk_29 (dk_at dksX5_book_10 18 rfl rfl)
theorem dX5_book_253 : decode cX5_book 253 = .ok (.bipush 65, 2) := dk_16 65 (dk_at dksX5_book_10 19 rfl rfl)
theorem dX5_book_255 : decode cX5_book 255 = .ok (.if_icmp .ge 31, 3) := dk_162 0 31 (dk_at dksX5_book_10 21 rfl rfl)
theorem dX5_book_258 : decode cX5_book 258 = .ok (.aload_n 0, 1) := dk_42 (dk_at dksX5_book_11 0 rfl rfl)
theorem dX5_book_259 : decode cX5_book 259 = .ok (.getfield 56, 3) := dk_180 0 56 (dk_at dksX5_book_11 1 rfl rfl)
theorem dX5_book_262 : decode cX5_book 262 = .ok (.bipush 65, 2) := dk_16 65 (dk_at dksX5_book_11 4 rfl rfl)
theorem dX5_book_264 : decode cX5_book 264 = .ok (.aload_n 0, 1) := dk_42 (dk_at dksX5_book_11 6 rfl rfl)
theorem dX5_book_265 : decode cX5_book 265 = .ok (.getfield 263, 3) := dk_180 1 7 (dk_at dksX5_book_11 7 rfl rfl)
theorem dX5_book_268 : decode cX5_book 268 = .ok (.iconst 1, 1) := dk_4 (dk_at dksX5_book_11 10 rfl rfl)
theorem dX5_book_269 : decode cX5_book 269 = .ok (.isub, 1) := dk_100 (dk_at dksX5_book_11 11 rfl rfl)
theorem dX5_book_270 : decode cX5_book 270 = .ok (.imul, 1) := dk_104 (dk_at dksX5_book_11 12 rfl rfl)
theorem dX5_book_271 : decode cX5_book 271 = .ok (.iload_n 3, 1) := dk_29 (dk_at dksX5_book_11 13 rfl rfl)
theorem dX5_book_272 : decode cX5_book 272 = .ok (.iadd, 1) := dk_96 (dk_at dksX5_book_11 14 rfl rfl)
theorem dX5_book_273 : decode cX5_book 273 = .ok (.aload_n 0, 1) := dk_42 (dk_at dksX5_book_11 15 rfl rfl)
theorem dX5_book_274 : decode cX5_book 274 = .ok (.getfield 59, 3) := dk_180 0 59 (dk_at dksX5_book_11 16 rfl rfl)
theorem dX5_book_277 : decode cX5_book 277 = .ok (.iload_n 3, 1) := dk_29 (dk_at dksX5_book_11 19 rfl rfl)
theorem dX5_book_278 : decode cX5_book 278 = .ok (.iaload, 1) := dk_46 (dk_at dksX5_book_11 20 rfl rfl)
theorem dX5_book_279 : decode cX5_book 279 = .ok (.iastore, 1) := dk_79 (dk_at dksX5_book_11 21 rfl rfl)
theorem dX5_book_280 : decode cX5_book 280 = .ok (.iinc 3 1, 3) := dk_132 3 1 (dk_at dksX5_book_12 0 rfl rfl)
theorem dX5_book_283 : decode cX5_book 283 = .ok (.goto (-31), 3) := dk_167 255 225 (dk_at dksX5_book_12 3 rfl rfl)
theorem dX5_book_286 : decode cX5_book 286 = .ok (.iload_n 1, 1) := dk_27 (dk_at dksX5_book_12 6 rfl rfl)
theorem dX5_book_287 : decode cX5_book 287 = .ok (.ifCond .ne 7, 3) := dk_154 0 7 (dk_at dksX5_book_12 7 rfl rfl)
theorem dX5_book_290 : decode cX5_book 290 = .ok (.aload_n 0, 1) := dk_42 (dk_at dksX5_book_12 10 rfl rfl)
theorem dX5_book_291 : decode cX5_book 291 = .ok (.invokevirtual 366, 3) := dk_182 1 110 (dk_at dksX5_book_12 11 rfl rfl)
theorem dX5_book_294 : decode cX5_book 294 = .ok (.iload_n 2, 1) := dk_28 (dk_at dksX5_book_12 14 rfl rfl)
theorem dX5_book_295 : decode cX5_book 295 = .ok (.ireturn, 1) := dk_172 (dk_at dksX5_book_12 15 rfl rfl)
abbrev cX5_bookLine : ByteArray := prog_29_method_113_code
def yX5_bookLine : MethodName := ⟨RX5, "bookLine", "()Z"⟩
def dkwX5_bookLine_11 : List UInt8 := [42, 180, 0, 194, 79, 29, 172]
abbrev dktX5_bookLine_11 : List UInt8 := dkwX5_bookLine_11 ++ []
def dkwX5_bookLine_10 : List UInt8 := [79, 28, 4, 160, 0, 5, 4, 172, 42, 4, 17, 3, 231, 182, 0, 197, 62, 42, 180, 0, 40, 27, 6, 96]
abbrev dktX5_bookLine_10 : List UInt8 := dkwX5_bookLine_10 ++ dktX5_bookLine_11
def dkwX5_bookLine_9 : List UInt8 := [180, 0, 33, 3, 46, 182, 0, 248, 154, 0, 5, 3, 172, 42, 180, 0, 40, 27, 5, 96, 42, 180, 0, 194]
abbrev dktX5_bookLine_9 : List UInt8 := dkwX5_bookLine_9 ++ dktX5_bookLine_10
def dkwX5_bookLine_8 : List UInt8 := [153, 0, 17, 28, 153, 0, 13, 28, 5, 159, 0, 8, 28, 7, 164, 0, 5, 29, 172, 42, 3, 42]
abbrev dktX5_bookLine_8 : List UInt8 := dkwX5_bookLine_8 ++ dktX5_bookLine_9
def dkwX5_bookLine_7 : List UInt8 := [42, 180, 0, 33, 3, 46, 182, 0, 245, 62, 42, 180, 0, 40, 27, 4, 96, 42, 180, 0, 194, 79, 29]
abbrev dktX5_bookLine_7 : List UInt8 := dkwX5_bookLine_7 ++ dktX5_bookLine_8
def dkwX5_bookLine_6 : List UInt8 := [180, 0, 40, 27, 28, 79, 28, 16, 6, 160, 0, 13, 42, 4, 16, 60, 182, 0, 197, 167, 0, 14, 42, 3]
abbrev dktX5_bookLine_6 : List UInt8 := dkwX5_bookLine_6 ++ dktX5_bookLine_7
def dkwX5_bookLine_5 : List UInt8 := [182, 0, 184, 172, 42, 180, 1, 193, 16, 40, 160, 0, 9, 42, 7, 182, 0, 184, 172, 42, 182, 0, 187, 42]
abbrev dktX5_bookLine_5 : List UInt8 := dkwX5_bookLine_5 ++ dktX5_bookLine_6
def dkwX5_bookLine_4 : List UInt8 := [20, 0, 121, 182, 0, 212, 153, 0, 8, 16, 6, 167, 0, 4, 2, 61, 28, 156, 0, 9, 42, 4]
abbrev dktX5_bookLine_4 : List UInt8 := dkwX5_bookLine_4 ++ dktX5_bookLine_5
def dkwX5_bookLine_3 : List UInt8 := [153, 0, 7, 7, 167, 0, 33, 42, 20, 0, 119, 182, 0, 212, 153, 0, 7, 8, 167, 0, 19, 42]
abbrev dktX5_bookLine_3 : List UInt8 := dkwX5_bookLine_3 ++ dktX5_bookLine_4
def dkwX5_bookLine_2 : List UInt8 := [167, 0, 61, 42, 20, 0, 115, 182, 0, 212, 153, 0, 7, 6, 167, 0, 47, 42, 20, 0, 117, 182, 0, 212]
abbrev dktX5_bookLine_2 : List UInt8 := dkwX5_bookLine_2 ++ dktX5_bookLine_3
def dkwX5_bookLine_1 : List UInt8 := [20, 0, 103, 182, 0, 212, 153, 0, 7, 4, 167, 0, 75, 42, 20, 0, 113, 182, 0, 212, 153, 0, 7, 5]
abbrev dktX5_bookLine_1 : List UInt8 := dkwX5_bookLine_1 ++ dktX5_bookLine_2
def dkwX5_bookLine_0 : List UInt8 := [7, 42, 180, 1, 193, 104, 60, 42, 20, 0, 111, 182, 0, 212, 153, 0, 7, 3, 167, 0, 89, 42]
abbrev dktX5_bookLine_0 : List UInt8 := dkwX5_bookLine_0 ++ dktX5_bookLine_1
theorem dksX5_bookLine_0 : cX5_bookLine.data.toList.drop 0 = dktX5_bookLine_0 := by decide +kernel
theorem dksX5_bookLine_1 : cX5_bookLine.data.toList.drop 22 = dktX5_bookLine_1 := dk_seg dksX5_bookLine_0 22 rfl rfl
theorem dksX5_bookLine_2 : cX5_bookLine.data.toList.drop 46 = dktX5_bookLine_2 := dk_seg dksX5_bookLine_1 24 rfl rfl
theorem dksX5_bookLine_3 : cX5_bookLine.data.toList.drop 70 = dktX5_bookLine_3 := dk_seg dksX5_bookLine_2 24 rfl rfl
theorem dksX5_bookLine_4 : cX5_bookLine.data.toList.drop 92 = dktX5_bookLine_4 := dk_seg dksX5_bookLine_3 22 rfl rfl
theorem dksX5_bookLine_5 : cX5_bookLine.data.toList.drop 114 = dktX5_bookLine_5 := dk_seg dksX5_bookLine_4 22 rfl rfl
theorem dksX5_bookLine_6 : cX5_bookLine.data.toList.drop 138 = dktX5_bookLine_6 := dk_seg dksX5_bookLine_5 24 rfl rfl
theorem dksX5_bookLine_7 : cX5_bookLine.data.toList.drop 162 = dktX5_bookLine_7 := dk_seg dksX5_bookLine_6 24 rfl rfl
theorem dksX5_bookLine_8 : cX5_bookLine.data.toList.drop 185 = dktX5_bookLine_8 := dk_seg dksX5_bookLine_7 23 rfl rfl
theorem dksX5_bookLine_9 : cX5_bookLine.data.toList.drop 207 = dktX5_bookLine_9 := dk_seg dksX5_bookLine_8 22 rfl rfl
theorem dksX5_bookLine_10 : cX5_bookLine.data.toList.drop 231 = dktX5_bookLine_10 := dk_seg dksX5_bookLine_9 24 rfl rfl
theorem dksX5_bookLine_11 : cX5_bookLine.data.toList.drop 255 = dktX5_bookLine_11 := dk_seg dksX5_bookLine_10 24 rfl rfl
theorem dX5_bookLine_0 : decode cX5_bookLine 0 = .ok (.iconst 4, 1) := dk_7 (dk_at dksX5_bookLine_0 0 rfl rfl)
theorem dX5_bookLine_1 : decode cX5_bookLine 1 = .ok (.aload_n 0, 1) := dk_42 (dk_at dksX5_bookLine_0 1 rfl rfl)
theorem dX5_bookLine_2 : decode cX5_bookLine 2 = .ok (.getfield 449, 3) := dk_180 1 193 (dk_at dksX5_bookLine_0 2 rfl rfl)
theorem dX5_bookLine_5 : decode cX5_bookLine 5 = .ok (.imul, 1) := dk_104 (dk_at dksX5_bookLine_0 5 rfl rfl)
theorem dX5_bookLine_6 : decode cX5_bookLine 6 = .ok (.istore_n 1, 1) := dk_60 (dk_at dksX5_bookLine_0 6 rfl rfl)
theorem dX5_bookLine_7 : decode cX5_bookLine 7 = .ok (.aload_n 0, 1) := dk_42 (dk_at dksX5_bookLine_0 7 rfl rfl)
theorem dX5_bookLine_8 : decode cX5_bookLine 8 = .ok (.ldc2_w 111, 3) := dk_20 0 111 (dk_at dksX5_bookLine_0 8 rfl rfl)
theorem dX5_bookLine_11 : decode cX5_bookLine 11 = .ok (.invokevirtual 212, 3) := dk_182 0 212 (dk_at dksX5_bookLine_0 11 rfl rfl)
theorem dX5_bookLine_14 : decode cX5_bookLine 14 = .ok (.ifCond .eq 7, 3) := dk_153 0 7 (dk_at dksX5_bookLine_0 14 rfl rfl)
theorem dX5_bookLine_17 : decode cX5_bookLine 17 = .ok (.iconst 0, 1) := dk_3 (dk_at dksX5_bookLine_0 17 rfl rfl)
theorem dX5_bookLine_18 : decode cX5_bookLine 18 = .ok (.goto 89, 3) := dk_167 0 89 (dk_at dksX5_bookLine_0 18 rfl rfl)
theorem dX5_bookLine_21 : decode cX5_bookLine 21 = .ok (.aload_n 0, 1) := dk_42 (dk_at dksX5_bookLine_0 21 rfl rfl)
theorem dX5_bookLine_22 : decode cX5_bookLine 22 = .ok (.ldc2_w 103, 3) := dk_20 0 103 (dk_at dksX5_bookLine_1 0 rfl rfl)
theorem dX5_bookLine_25 : decode cX5_bookLine 25 = .ok (.invokevirtual 212, 3) := dk_182 0 212 (dk_at dksX5_bookLine_1 3 rfl rfl)
theorem dX5_bookLine_28 : decode cX5_bookLine 28 = .ok (.ifCond .eq 7, 3) := dk_153 0 7 (dk_at dksX5_bookLine_1 6 rfl rfl)
theorem dX5_bookLine_31 : decode cX5_bookLine 31 = .ok (.iconst 1, 1) := dk_4 (dk_at dksX5_bookLine_1 9 rfl rfl)
theorem dX5_bookLine_32 : decode cX5_bookLine 32 = .ok (.goto 75, 3) := dk_167 0 75 (dk_at dksX5_bookLine_1 10 rfl rfl)
theorem dX5_bookLine_35 : decode cX5_bookLine 35 = .ok (.aload_n 0, 1) := dk_42 (dk_at dksX5_bookLine_1 13 rfl rfl)
theorem dX5_bookLine_36 : decode cX5_bookLine 36 = .ok (.ldc2_w 113, 3) := dk_20 0 113 (dk_at dksX5_bookLine_1 14 rfl rfl)
theorem dX5_bookLine_39 : decode cX5_bookLine 39 = .ok (.invokevirtual 212, 3) := dk_182 0 212 (dk_at dksX5_bookLine_1 17 rfl rfl)
theorem dX5_bookLine_42 : decode cX5_bookLine 42 = .ok (.ifCond .eq 7, 3) := dk_153 0 7 (dk_at dksX5_bookLine_1 20 rfl rfl)
theorem dX5_bookLine_45 : decode cX5_bookLine 45 = .ok (.iconst 2, 1) := dk_5 (dk_at dksX5_bookLine_1 23 rfl rfl)
theorem dX5_bookLine_46 : decode cX5_bookLine 46 = .ok (.goto 61, 3) := dk_167 0 61 (dk_at dksX5_bookLine_2 0 rfl rfl)
theorem dX5_bookLine_49 : decode cX5_bookLine 49 = .ok (.aload_n 0, 1) := dk_42 (dk_at dksX5_bookLine_2 3 rfl rfl)
theorem dX5_bookLine_50 : decode cX5_bookLine 50 = .ok (.ldc2_w 115, 3) := dk_20 0 115 (dk_at dksX5_bookLine_2 4 rfl rfl)
theorem dX5_bookLine_53 : decode cX5_bookLine 53 = .ok (.invokevirtual 212, 3) := dk_182 0 212 (dk_at dksX5_bookLine_2 7 rfl rfl)
theorem dX5_bookLine_56 : decode cX5_bookLine 56 = .ok (.ifCond .eq 7, 3) := dk_153 0 7 (dk_at dksX5_bookLine_2 10 rfl rfl)
theorem dX5_bookLine_59 : decode cX5_bookLine 59 = .ok (.iconst 3, 1) := dk_6 (dk_at dksX5_bookLine_2 13 rfl rfl)
theorem dX5_bookLine_60 : decode cX5_bookLine 60 = .ok (.goto 47, 3) := dk_167 0 47 (dk_at dksX5_bookLine_2 14 rfl rfl)
theorem dX5_bookLine_63 : decode cX5_bookLine 63 = .ok (.aload_n 0, 1) := dk_42 (dk_at dksX5_bookLine_2 17 rfl rfl)
theorem dX5_bookLine_64 : decode cX5_bookLine 64 = .ok (.ldc2_w 117, 3) := dk_20 0 117 (dk_at dksX5_bookLine_2 18 rfl rfl)
theorem dX5_bookLine_67 : decode cX5_bookLine 67 = .ok (.invokevirtual 212, 3) := dk_182 0 212 (dk_at dksX5_bookLine_2 21 rfl rfl)
theorem dX5_bookLine_70 : decode cX5_bookLine 70 = .ok (.ifCond .eq 7, 3) := dk_153 0 7 (dk_at dksX5_bookLine_3 0 rfl rfl)
theorem dX5_bookLine_73 : decode cX5_bookLine 73 = .ok (.iconst 4, 1) := dk_7 (dk_at dksX5_bookLine_3 3 rfl rfl)
theorem dX5_bookLine_74 : decode cX5_bookLine 74 = .ok (.goto 33, 3) := dk_167 0 33 (dk_at dksX5_bookLine_3 4 rfl rfl)
theorem dX5_bookLine_77 : decode cX5_bookLine 77 = .ok (.aload_n 0, 1) := dk_42 (dk_at dksX5_bookLine_3 7 rfl rfl)
theorem dX5_bookLine_78 : decode cX5_bookLine 78 = .ok (.ldc2_w 119, 3) := dk_20 0 119 (dk_at dksX5_bookLine_3 8 rfl rfl)
theorem dX5_bookLine_81 : decode cX5_bookLine 81 = .ok (.invokevirtual 212, 3) := dk_182 0 212 (dk_at dksX5_bookLine_3 11 rfl rfl)
theorem dX5_bookLine_84 : decode cX5_bookLine 84 = .ok (.ifCond .eq 7, 3) := dk_153 0 7 (dk_at dksX5_bookLine_3 14 rfl rfl)
theorem dX5_bookLine_87 : decode cX5_bookLine 87 = .ok (.iconst 5, 1) := dk_8 (dk_at dksX5_bookLine_3 17 rfl rfl)
theorem dX5_bookLine_88 : decode cX5_bookLine 88 = .ok (.goto 19, 3) := dk_167 0 19 (dk_at dksX5_bookLine_3 18 rfl rfl)
theorem dX5_bookLine_91 : decode cX5_bookLine 91 = .ok (.aload_n 0, 1) := dk_42 (dk_at dksX5_bookLine_3 21 rfl rfl)
theorem dX5_bookLine_92 : decode cX5_bookLine 92 = .ok (.ldc2_w 121, 3) := dk_20 0 121 (dk_at dksX5_bookLine_4 0 rfl rfl)
theorem dX5_bookLine_95 : decode cX5_bookLine 95 = .ok (.invokevirtual 212, 3) := dk_182 0 212 (dk_at dksX5_bookLine_4 3 rfl rfl)
theorem dX5_bookLine_98 : decode cX5_bookLine 98 = .ok (.ifCond .eq 8, 3) := dk_153 0 8 (dk_at dksX5_bookLine_4 6 rfl rfl)
theorem dX5_bookLine_101 : decode cX5_bookLine 101 = .ok (.bipush 6, 2) := dk_16 6 (dk_at dksX5_bookLine_4 9 rfl rfl)
theorem dX5_bookLine_103 : decode cX5_bookLine 103 = .ok (.goto 4, 3) := dk_167 0 4 (dk_at dksX5_bookLine_4 11 rfl rfl)
theorem dX5_bookLine_106 : decode cX5_bookLine 106 = .ok (.iconst (-1), 1) := dk_2 (dk_at dksX5_bookLine_4 14 rfl rfl)
theorem dX5_bookLine_107 : decode cX5_bookLine 107 = .ok (.istore_n 2, 1) := dk_61 (dk_at dksX5_bookLine_4 15 rfl rfl)
theorem dX5_bookLine_108 : decode cX5_bookLine 108 = .ok (.iload_n 2, 1) := dk_28 (dk_at dksX5_bookLine_4 16 rfl rfl)
theorem dX5_bookLine_109 : decode cX5_bookLine 109 = .ok (.ifCond .ge 9, 3) := dk_156 0 9 (dk_at dksX5_bookLine_4 17 rfl rfl)
theorem dX5_bookLine_112 : decode cX5_bookLine 112 = .ok (.aload_n 0, 1) := dk_42 (dk_at dksX5_bookLine_4 20 rfl rfl)
theorem dX5_bookLine_113 : decode cX5_bookLine 113 = .ok (.iconst 1, 1) := dk_4 (dk_at dksX5_bookLine_4 21 rfl rfl)
theorem dX5_bookLine_114 : decode cX5_bookLine 114 = .ok (.invokevirtual 184, 3) := dk_182 0 184 (dk_at dksX5_bookLine_5 0 rfl rfl)
theorem dX5_bookLine_117 : decode cX5_bookLine 117 = .ok (.ireturn, 1) := dk_172 (dk_at dksX5_bookLine_5 3 rfl rfl)
theorem dX5_bookLine_118 : decode cX5_bookLine 118 = .ok (.aload_n 0, 1) := dk_42 (dk_at dksX5_bookLine_5 4 rfl rfl)
theorem dX5_bookLine_119 : decode cX5_bookLine 119 = .ok (.getfield 449, 3) := dk_180 1 193 (dk_at dksX5_bookLine_5 5 rfl rfl)
theorem dX5_bookLine_122 : decode cX5_bookLine 122 = .ok (.bipush 40, 2) := dk_16 40 (dk_at dksX5_bookLine_5 8 rfl rfl)
theorem dX5_bookLine_124 : decode cX5_bookLine 124 = .ok (.if_icmp .ne 9, 3) := dk_160 0 9 (dk_at dksX5_bookLine_5 10 rfl rfl)
theorem dX5_bookLine_127 : decode cX5_bookLine 127 = .ok (.aload_n 0, 1) := dk_42 (dk_at dksX5_bookLine_5 13 rfl rfl)
theorem dX5_bookLine_128 : decode cX5_bookLine 128 = .ok (.iconst 4, 1) := dk_7 (dk_at dksX5_bookLine_5 14 rfl rfl)
theorem dX5_bookLine_129 : decode cX5_bookLine 129 = .ok (.invokevirtual 184, 3) := dk_182 0 184 (dk_at dksX5_bookLine_5 15 rfl rfl)
theorem dX5_bookLine_132 : decode cX5_bookLine 132 = .ok (.ireturn, 1) := dk_172 (dk_at dksX5_bookLine_5 18 rfl rfl)
theorem dX5_bookLine_133 : decode cX5_bookLine 133 = .ok (.aload_n 0, 1) := dk_42 (dk_at dksX5_bookLine_5 19 rfl rfl)
theorem dX5_bookLine_134 : decode cX5_bookLine 134 = .ok (.invokevirtual 187, 3) := dk_182 0 187 (dk_at dksX5_bookLine_5 20 rfl rfl)
theorem dX5_bookLine_137 : decode cX5_bookLine 137 = .ok (.aload_n 0, 1) := dk_42 (dk_at dksX5_bookLine_5 23 rfl rfl)
theorem dX5_bookLine_138 : decode cX5_bookLine 138 = .ok (.getfield 40, 3) := dk_180 0 40 (dk_at dksX5_bookLine_6 0 rfl rfl)
theorem dX5_bookLine_141 : decode cX5_bookLine 141 = .ok (.iload_n 1, 1) := dk_27 (dk_at dksX5_bookLine_6 3 rfl rfl)
theorem dX5_bookLine_142 : decode cX5_bookLine 142 = .ok (.iload_n 2, 1) := dk_28 (dk_at dksX5_bookLine_6 4 rfl rfl)
theorem dX5_bookLine_143 : decode cX5_bookLine 143 = .ok (.iastore, 1) := dk_79 (dk_at dksX5_bookLine_6 5 rfl rfl)
theorem dX5_bookLine_144 : decode cX5_bookLine 144 = .ok (.iload_n 2, 1) := dk_28 (dk_at dksX5_bookLine_6 6 rfl rfl)
theorem dX5_bookLine_145 : decode cX5_bookLine 145 = .ok (.bipush 6, 2) := dk_16 6 (dk_at dksX5_bookLine_6 7 rfl rfl)
theorem dX5_bookLine_147 : decode cX5_bookLine 147 = .ok (.if_icmp .ne 13, 3) := dk_160 0 13 (dk_at dksX5_bookLine_6 9 rfl rfl)
theorem dX5_bookLine_150 : decode cX5_bookLine 150 = .ok (.aload_n 0, 1) := dk_42 (dk_at dksX5_bookLine_6 12 rfl rfl)
theorem dX5_bookLine_151 : decode cX5_bookLine 151 = .ok (.iconst 1, 1) := dk_4 (dk_at dksX5_bookLine_6 13 rfl rfl)
theorem dX5_bookLine_152 : decode cX5_bookLine 152 = .ok (.bipush 60, 2) := dk_16 60 (dk_at dksX5_bookLine_6 14 rfl rfl)
theorem dX5_bookLine_154 : decode cX5_bookLine 154 = .ok (.invokevirtual 197, 3) := dk_182 0 197 (dk_at dksX5_bookLine_6 16 rfl rfl)
theorem dX5_bookLine_157 : decode cX5_bookLine 157 = .ok (.goto 14, 3) := dk_167 0 14 (dk_at dksX5_bookLine_6 19 rfl rfl)
theorem dX5_bookLine_160 : decode cX5_bookLine 160 = .ok (.aload_n 0, 1) := dk_42 (dk_at dksX5_bookLine_6 22 rfl rfl)
theorem dX5_bookLine_161 : decode cX5_bookLine 161 = .ok (.iconst 0, 1) := dk_3 (dk_at dksX5_bookLine_6 23 rfl rfl)
theorem dX5_bookLine_162 : decode cX5_bookLine 162 = .ok (.aload_n 0, 1) := dk_42 (dk_at dksX5_bookLine_7 0 rfl rfl)
theorem dX5_bookLine_163 : decode cX5_bookLine 163 = .ok (.getfield 33, 3) := dk_180 0 33 (dk_at dksX5_bookLine_7 1 rfl rfl)
theorem dX5_bookLine_166 : decode cX5_bookLine 166 = .ok (.iconst 0, 1) := dk_3 (dk_at dksX5_bookLine_7 4 rfl rfl)
theorem dX5_bookLine_167 : decode cX5_bookLine 167 = .ok (.iaload, 1) := dk_46 (dk_at dksX5_bookLine_7 5 rfl rfl)
theorem dX5_bookLine_168 : decode cX5_bookLine 168 = .ok (.invokevirtual 245, 3) := dk_182 0 245 (dk_at dksX5_bookLine_7 6 rfl rfl)
theorem dX5_bookLine_171 : decode cX5_bookLine 171 = .ok (.istore_n 3, 1) := dk_62 (dk_at dksX5_bookLine_7 9 rfl rfl)
theorem dX5_bookLine_172 : decode cX5_bookLine 172 = .ok (.aload_n 0, 1) := dk_42 (dk_at dksX5_bookLine_7 10 rfl rfl)
theorem dX5_bookLine_173 : decode cX5_bookLine 173 = .ok (.getfield 40, 3) := dk_180 0 40 (dk_at dksX5_bookLine_7 11 rfl rfl)
theorem dX5_bookLine_176 : decode cX5_bookLine 176 = .ok (.iload_n 1, 1) := dk_27 (dk_at dksX5_bookLine_7 14 rfl rfl)
theorem dX5_bookLine_177 : decode cX5_bookLine 177 = .ok (.iconst 1, 1) := dk_4 (dk_at dksX5_bookLine_7 15 rfl rfl)
theorem dX5_bookLine_178 : decode cX5_bookLine 178 = .ok (.iadd, 1) := dk_96 (dk_at dksX5_bookLine_7 16 rfl rfl)
theorem dX5_bookLine_179 : decode cX5_bookLine 179 = .ok (.aload_n 0, 1) := dk_42 (dk_at dksX5_bookLine_7 17 rfl rfl)
theorem dX5_bookLine_180 : decode cX5_bookLine 180 = .ok (.getfield 194, 3) := dk_180 0 194 (dk_at dksX5_bookLine_7 18 rfl rfl)
theorem dX5_bookLine_183 : decode cX5_bookLine 183 = .ok (.iastore, 1) := dk_79 (dk_at dksX5_bookLine_7 21 rfl rfl)
theorem dX5_bookLine_184 : decode cX5_bookLine 184 = .ok (.iload_n 3, 1) := dk_29 (dk_at dksX5_bookLine_7 22 rfl rfl)
theorem dX5_bookLine_185 : decode cX5_bookLine 185 = .ok (.ifCond .eq 17, 3) := dk_153 0 17 (dk_at dksX5_bookLine_8 0 rfl rfl)
theorem dX5_bookLine_188 : decode cX5_bookLine 188 = .ok (.iload_n 2, 1) := dk_28 (dk_at dksX5_bookLine_8 3 rfl rfl)
theorem dX5_bookLine_189 : decode cX5_bookLine 189 = .ok (.ifCond .eq 13, 3) := dk_153 0 13 (dk_at dksX5_bookLine_8 4 rfl rfl)
theorem dX5_bookLine_192 : decode cX5_bookLine 192 = .ok (.iload_n 2, 1) := dk_28 (dk_at dksX5_bookLine_8 7 rfl rfl)
theorem dX5_bookLine_193 : decode cX5_bookLine 193 = .ok (.iconst 2, 1) := dk_5 (dk_at dksX5_bookLine_8 8 rfl rfl)
theorem dX5_bookLine_194 : decode cX5_bookLine 194 = .ok (.if_icmp .eq 8, 3) := dk_159 0 8 (dk_at dksX5_bookLine_8 9 rfl rfl)
theorem dX5_bookLine_197 : decode cX5_bookLine 197 = .ok (.iload_n 2, 1) := dk_28 (dk_at dksX5_bookLine_8 12 rfl rfl)
theorem dX5_bookLine_198 : decode cX5_bookLine 198 = .ok (.iconst 4, 1) := dk_7 (dk_at dksX5_bookLine_8 13 rfl rfl)
theorem dX5_bookLine_199 : decode cX5_bookLine 199 = .ok (.if_icmp .le 5, 3) := dk_164 0 5 (dk_at dksX5_bookLine_8 14 rfl rfl)
theorem dX5_bookLine_202 : decode cX5_bookLine 202 = .ok (.iload_n 3, 1) := dk_29 (dk_at dksX5_bookLine_8 17 rfl rfl)
theorem dX5_bookLine_203 : decode cX5_bookLine 203 = .ok (.ireturn, 1) := dk_172 (dk_at dksX5_bookLine_8 18 rfl rfl)
theorem dX5_bookLine_204 : decode cX5_bookLine 204 = .ok (.aload_n 0, 1) := dk_42 (dk_at dksX5_bookLine_8 19 rfl rfl)
theorem dX5_bookLine_205 : decode cX5_bookLine 205 = .ok (.iconst 0, 1) := dk_3 (dk_at dksX5_bookLine_8 20 rfl rfl)
theorem dX5_bookLine_206 : decode cX5_bookLine 206 = .ok (.aload_n 0, 1) := dk_42 (dk_at dksX5_bookLine_8 21 rfl rfl)
theorem dX5_bookLine_207 : decode cX5_bookLine 207 = .ok (.getfield 33, 3) := dk_180 0 33 (dk_at dksX5_bookLine_9 0 rfl rfl)
theorem dX5_bookLine_210 : decode cX5_bookLine 210 = .ok (.iconst 0, 1) := dk_3 (dk_at dksX5_bookLine_9 3 rfl rfl)
theorem dX5_bookLine_211 : decode cX5_bookLine 211 = .ok (.iaload, 1) := dk_46 (dk_at dksX5_bookLine_9 4 rfl rfl)
theorem dX5_bookLine_212 : decode cX5_bookLine 212 = .ok (.invokevirtual 248, 3) := dk_182 0 248 (dk_at dksX5_bookLine_9 5 rfl rfl)
theorem dX5_bookLine_215 : decode cX5_bookLine 215 = .ok (.ifCond .ne 5, 3) := dk_154 0 5 (dk_at dksX5_bookLine_9 8 rfl rfl)
theorem dX5_bookLine_218 : decode cX5_bookLine 218 = .ok (.iconst 0, 1) := dk_3 (dk_at dksX5_bookLine_9 11 rfl rfl)
theorem dX5_bookLine_219 : decode cX5_bookLine 219 = .ok (.ireturn, 1) := dk_172 (dk_at dksX5_bookLine_9 12 rfl rfl)
theorem dX5_bookLine_220 : decode cX5_bookLine 220 = .ok (.aload_n 0, 1) := dk_42 (dk_at dksX5_bookLine_9 13 rfl rfl)
theorem dX5_bookLine_221 : decode cX5_bookLine 221 = .ok (.getfield 40, 3) := dk_180 0 40 (dk_at dksX5_bookLine_9 14 rfl rfl)
theorem dX5_bookLine_224 : decode cX5_bookLine 224 = .ok (.iload_n 1, 1) := dk_27 (dk_at dksX5_bookLine_9 17 rfl rfl)
theorem dX5_bookLine_225 : decode cX5_bookLine 225 = .ok (.iconst 2, 1) := dk_5 (dk_at dksX5_bookLine_9 18 rfl rfl)
theorem dX5_bookLine_226 : decode cX5_bookLine 226 = .ok (.iadd, 1) := dk_96 (dk_at dksX5_bookLine_9 19 rfl rfl)
theorem dX5_bookLine_227 : decode cX5_bookLine 227 = .ok (.aload_n 0, 1) := dk_42 (dk_at dksX5_bookLine_9 20 rfl rfl)
theorem dX5_bookLine_228 : decode cX5_bookLine 228 = .ok (.getfield 194, 3) := dk_180 0 194 (dk_at dksX5_bookLine_9 21 rfl rfl)
theorem dX5_bookLine_231 : decode cX5_bookLine 231 = .ok (.iastore, 1) := dk_79 (dk_at dksX5_bookLine_10 0 rfl rfl)
theorem dX5_bookLine_232 : decode cX5_bookLine 232 = .ok (.iload_n 2, 1) := dk_28 (dk_at dksX5_bookLine_10 1 rfl rfl)
theorem dX5_bookLine_233 : decode cX5_bookLine 233 = .ok (.iconst 1, 1) := dk_4 (dk_at dksX5_bookLine_10 2 rfl rfl)
theorem dX5_bookLine_234 : decode cX5_bookLine 234 = .ok (.if_icmp .ne 5, 3) := dk_160 0 5 (dk_at dksX5_bookLine_10 3 rfl rfl)
theorem dX5_bookLine_237 : decode cX5_bookLine 237 = .ok (.iconst 1, 1) := dk_4 (dk_at dksX5_bookLine_10 6 rfl rfl)
theorem dX5_bookLine_238 : decode cX5_bookLine 238 = .ok (.ireturn, 1) := dk_172 (dk_at dksX5_bookLine_10 7 rfl rfl)
theorem dX5_bookLine_239 : decode cX5_bookLine 239 = .ok (.aload_n 0, 1) := dk_42 (dk_at dksX5_bookLine_10 8 rfl rfl)
theorem dX5_bookLine_240 : decode cX5_bookLine 240 = .ok (.iconst 1, 1) := dk_4 (dk_at dksX5_bookLine_10 9 rfl rfl)
theorem dX5_bookLine_241 : decode cX5_bookLine 241 = .ok (.sipush 999, 3) := dk_17 3 231 (dk_at dksX5_bookLine_10 10 rfl rfl)
theorem dX5_bookLine_244 : decode cX5_bookLine 244 = .ok (.invokevirtual 197, 3) := dk_182 0 197 (dk_at dksX5_bookLine_10 13 rfl rfl)
theorem dX5_bookLine_247 : decode cX5_bookLine 247 = .ok (.istore_n 3, 1) := dk_62 (dk_at dksX5_bookLine_10 16 rfl rfl)
theorem dX5_bookLine_248 : decode cX5_bookLine 248 = .ok (.aload_n 0, 1) := dk_42 (dk_at dksX5_bookLine_10 17 rfl rfl)
theorem dX5_bookLine_249 : decode cX5_bookLine 249 = .ok (.getfield 40, 3) := dk_180 0 40 (dk_at dksX5_bookLine_10 18 rfl rfl)
theorem dX5_bookLine_252 : decode cX5_bookLine 252 = .ok (.iload_n 1, 1) := dk_27 (dk_at dksX5_bookLine_10 21 rfl rfl)
theorem dX5_bookLine_253 : decode cX5_bookLine 253 = .ok (.iconst 3, 1) := dk_6 (dk_at dksX5_bookLine_10 22 rfl rfl)
theorem dX5_bookLine_254 : decode cX5_bookLine 254 = .ok (.iadd, 1) := dk_96 (dk_at dksX5_bookLine_10 23 rfl rfl)
theorem dX5_bookLine_255 : decode cX5_bookLine 255 = .ok (.aload_n 0, 1) := dk_42 (dk_at dksX5_bookLine_11 0 rfl rfl)
theorem dX5_bookLine_256 : decode cX5_bookLine 256 = .ok (.getfield 194, 3) := dk_180 0 194 (dk_at dksX5_bookLine_11 1 rfl rfl)
theorem dX5_bookLine_259 : decode cX5_bookLine 259 = .ok (.iastore, 1) := dk_79 (dk_at dksX5_bookLine_11 4 rfl rfl)
theorem dX5_bookLine_260 : decode cX5_bookLine 260 = .ok (.iload_n 3, 1) := dk_29 (dk_at dksX5_bookLine_11 5 rfl rfl)
theorem dX5_bookLine_261 : decode cX5_bookLine 261 = .ok (.ireturn, 1) := dk_172 (dk_at dksX5_bookLine_11 6 rfl rfl)
abbrev cX5_does : ByteArray := prog_29_method_114_code
def yX5_does : MethodName := ⟨RX5, "does", "(IIII)I"⟩
def dkwX5_does_11 : List UInt8 := [96, 167, 0, 4, 3, 172]
abbrev dktX5_does_11 : List UInt8 := dkwX5_does_11 ++ []
def dkwX5_does_10 : List UInt8 := [54, 5, 21, 5, 154, 0, 9, 42, 28, 182, 1, 104, 87, 21, 5, 158, 0, 13, 21, 5, 16, 10, 27, 104]
abbrev dktX5_does_10 : List UInt8 := dkwX5_does_10 ++ dktX5_does_11
def dkwX5_does_9 : List UInt8 := [167, 0, 36, 42, 180, 0, 33, 16, 100, 46, 28, 96, 17, 0, 199, 164, 0, 7, 4, 167, 0, 4, 3]
abbrev dktX5_does_9 : List UInt8 := dkwX5_does_9 ++ dktX5_does_10
def dkwX5_does_8 : List UInt8 := [182, 1, 35, 154, 0, 7, 4, 167, 0, 4, 3, 54, 5, 21, 5, 154, 0, 44, 42, 28, 182, 1, 63]
abbrev dktX5_does_8 : List UInt8 := dkwX5_does_8 ++ dktX5_does_9
def dkwX5_does_7 : List UInt8 := [54, 5, 21, 5, 154, 0, 78, 42, 28, 29, 21, 4, 182, 1, 101, 167, 0, 67, 42, 17, 0, 129, 28]
abbrev dktX5_does_7 : List UInt8 := dkwX5_does_7 ++ dktX5_does_8
def dkwX5_does_6 : List UInt8 := [54, 5, 21, 5, 154, 0, 102, 42, 28, 29, 21, 4, 182, 1, 95, 167, 0, 91, 42, 28, 29, 182, 1, 98]
abbrev dktX5_does_6 : List UInt8 := dkwX5_does_6 ++ dktX5_does_7
def dkwX5_does_5 : List UInt8 := [54, 5, 21, 5, 154, 0, 125, 42, 28, 182, 1, 57, 167, 0, 117, 42, 28, 29, 21, 4, 182, 1, 91]
abbrev dktX5_does_5 : List UInt8 := dkwX5_does_5 ++ dktX5_does_6
def dkwX5_does_4 : List UInt8 := [182, 1, 88, 167, 0, 149, 42, 180, 0, 33, 16, 117, 28, 96, 46, 154, 0, 7, 4, 167, 0, 4, 3]
abbrev dktX5_does_4 : List UInt8 := dkwX5_does_4 ++ dktX5_does_5
def dkwX5_does_3 : List UInt8 := [182, 1, 73, 167, 0, 171, 42, 28, 29, 182, 1, 85, 54, 5, 21, 5, 154, 0, 158, 42, 28, 29]
abbrev dktX5_does_3 : List UInt8 := dkwX5_does_3 ++ dktX5_does_4
def dkwX5_does_2 : List UInt8 := [42, 28, 182, 1, 19, 153, 0, 7, 3, 167, 0, 4, 4, 54, 5, 21, 5, 154, 0, 179, 42, 28]
abbrev dktX5_does_2 : List UInt8 := dkwX5_does_2 ++ dktX5_does_3
def dkwX5_does_1 : List UInt8 := [170, 0, 0, 0, 0, 0, 0, 203, 0, 0, 0, 0, 0, 0, 0, 5, 0, 0, 0, 40, 0, 0, 0, 68, 0, 0, 0, 90, 0, 0, 0, 122, 0, 0, 0, 148, 0, 0, 0, 172]
abbrev dktX5_does_1 : List UInt8 := dkwX5_does_1 ++ dktX5_does_2
def dkwX5_does_0 : List UInt8 := [3, 54, 5, 27]
abbrev dktX5_does_0 : List UInt8 := dkwX5_does_0 ++ dktX5_does_1
theorem dksX5_does_0 : cX5_does.data.toList.drop 0 = dktX5_does_0 := by decide +kernel
theorem dksX5_does_1 : cX5_does.data.toList.drop 4 = dktX5_does_1 := dk_seg dksX5_does_0 4 rfl rfl
theorem dksX5_does_2 : cX5_does.data.toList.drop 44 = dktX5_does_2 := dk_seg dksX5_does_1 40 rfl rfl
theorem dksX5_does_3 : cX5_does.data.toList.drop 66 = dktX5_does_3 := dk_seg dksX5_does_2 22 rfl rfl
theorem dksX5_does_4 : cX5_does.data.toList.drop 88 = dktX5_does_4 := dk_seg dksX5_does_3 22 rfl rfl
theorem dksX5_does_5 : cX5_does.data.toList.drop 111 = dktX5_does_5 := dk_seg dksX5_does_4 23 rfl rfl
theorem dksX5_does_6 : cX5_does.data.toList.drop 134 = dktX5_does_6 := dk_seg dksX5_does_5 23 rfl rfl
theorem dksX5_does_7 : cX5_does.data.toList.drop 158 = dktX5_does_7 := dk_seg dksX5_does_6 24 rfl rfl
theorem dksX5_does_8 : cX5_does.data.toList.drop 181 = dktX5_does_8 := dk_seg dksX5_does_7 23 rfl rfl
theorem dksX5_does_9 : cX5_does.data.toList.drop 204 = dktX5_does_9 := dk_seg dksX5_does_8 23 rfl rfl
theorem dksX5_does_10 : cX5_does.data.toList.drop 227 = dktX5_does_10 := dk_seg dksX5_does_9 23 rfl rfl
theorem dksX5_does_11 : cX5_does.data.toList.drop 251 = dktX5_does_11 := dk_seg dksX5_does_10 24 rfl rfl
theorem dX5_does_0 : decode cX5_does 0 = .ok (.iconst 0, 1) := dk_3 (dk_at dksX5_does_0 0 rfl rfl)
theorem dX5_does_1 : decode cX5_does 1 = .ok (.istore 5, 2) := dk_54 5 (dk_at dksX5_does_0 1 rfl rfl)
theorem dX5_does_3 : decode cX5_does 3 = .ok (.iload_n 1, 1) := dk_27 (dk_at dksX5_does_0 3 rfl rfl)
theorem dX5_does_4 : decode cX5_does 4 = .ok (.tableswitch 203 0 5 #[40, 68, 90, 122, 148, 172], 40) := by decide +kernel
theorem dX5_does_44 : decode cX5_does 44 = .ok (.aload_n 0, 1) := dk_42 (dk_at dksX5_does_2 0 rfl rfl)
theorem dX5_does_45 : decode cX5_does 45 = .ok (.iload_n 2, 1) := dk_28 (dk_at dksX5_does_2 1 rfl rfl)
theorem dX5_does_46 : decode cX5_does 46 = .ok (.invokevirtual 275, 3) := dk_182 1 19 (dk_at dksX5_does_2 2 rfl rfl)
theorem dX5_does_49 : decode cX5_does 49 = .ok (.ifCond .eq 7, 3) := dk_153 0 7 (dk_at dksX5_does_2 5 rfl rfl)
theorem dX5_does_52 : decode cX5_does 52 = .ok (.iconst 0, 1) := dk_3 (dk_at dksX5_does_2 8 rfl rfl)
theorem dX5_does_53 : decode cX5_does 53 = .ok (.goto 4, 3) := dk_167 0 4 (dk_at dksX5_does_2 9 rfl rfl)
theorem dX5_does_56 : decode cX5_does 56 = .ok (.iconst 1, 1) := dk_4 (dk_at dksX5_does_2 12 rfl rfl)
theorem dX5_does_57 : decode cX5_does 57 = .ok (.istore 5, 2) := dk_54 5 (dk_at dksX5_does_2 13 rfl rfl)
theorem dX5_does_59 : decode cX5_does 59 = .ok (.iload 5, 2) := dk_21 5 (dk_at dksX5_does_2 15 rfl rfl)
theorem dX5_does_61 : decode cX5_does 61 = .ok (.ifCond .ne 179, 3) := dk_154 0 179 (dk_at dksX5_does_2 17 rfl rfl)
theorem dX5_does_64 : decode cX5_does 64 = .ok (.aload_n 0, 1) := dk_42 (dk_at dksX5_does_2 20 rfl rfl)
theorem dX5_does_65 : decode cX5_does 65 = .ok (.iload_n 2, 1) := dk_28 (dk_at dksX5_does_2 21 rfl rfl)
theorem dX5_does_66 : decode cX5_does 66 = .ok (.invokevirtual 329, 3) := dk_182 1 73 (dk_at dksX5_does_3 0 rfl rfl)
theorem dX5_does_69 : decode cX5_does 69 = .ok (.goto 171, 3) := dk_167 0 171 (dk_at dksX5_does_3 3 rfl rfl)
theorem dX5_does_72 : decode cX5_does 72 = .ok (.aload_n 0, 1) := dk_42 (dk_at dksX5_does_3 6 rfl rfl)
theorem dX5_does_73 : decode cX5_does 73 = .ok (.iload_n 2, 1) := dk_28 (dk_at dksX5_does_3 7 rfl rfl)
theorem dX5_does_74 : decode cX5_does 74 = .ok (.iload_n 3, 1) := dk_29 (dk_at dksX5_does_3 8 rfl rfl)
theorem dX5_does_75 : decode cX5_does 75 = .ok (.invokevirtual 341, 3) := dk_182 1 85 (dk_at dksX5_does_3 9 rfl rfl)
theorem dX5_does_78 : decode cX5_does 78 = .ok (.istore 5, 2) := dk_54 5 (dk_at dksX5_does_3 12 rfl rfl)
theorem dX5_does_80 : decode cX5_does 80 = .ok (.iload 5, 2) := dk_21 5 (dk_at dksX5_does_3 14 rfl rfl)
theorem dX5_does_82 : decode cX5_does 82 = .ok (.ifCond .ne 158, 3) := dk_154 0 158 (dk_at dksX5_does_3 16 rfl rfl)
theorem dX5_does_85 : decode cX5_does 85 = .ok (.aload_n 0, 1) := dk_42 (dk_at dksX5_does_3 19 rfl rfl)
theorem dX5_does_86 : decode cX5_does 86 = .ok (.iload_n 2, 1) := dk_28 (dk_at dksX5_does_3 20 rfl rfl)
theorem dX5_does_87 : decode cX5_does 87 = .ok (.iload_n 3, 1) := dk_29 (dk_at dksX5_does_3 21 rfl rfl)
theorem dX5_does_88 : decode cX5_does 88 = .ok (.invokevirtual 344, 3) := dk_182 1 88 (dk_at dksX5_does_4 0 rfl rfl)
theorem dX5_does_91 : decode cX5_does 91 = .ok (.goto 149, 3) := dk_167 0 149 (dk_at dksX5_does_4 3 rfl rfl)
theorem dX5_does_94 : decode cX5_does 94 = .ok (.aload_n 0, 1) := dk_42 (dk_at dksX5_does_4 6 rfl rfl)
theorem dX5_does_95 : decode cX5_does 95 = .ok (.getfield 33, 3) := dk_180 0 33 (dk_at dksX5_does_4 7 rfl rfl)
theorem dX5_does_98 : decode cX5_does 98 = .ok (.bipush 117, 2) := dk_16 117 (dk_at dksX5_does_4 10 rfl rfl)
theorem dX5_does_100 : decode cX5_does 100 = .ok (.iload_n 2, 1) := dk_28 (dk_at dksX5_does_4 12 rfl rfl)
theorem dX5_does_101 : decode cX5_does 101 = .ok (.iadd, 1) := dk_96 (dk_at dksX5_does_4 13 rfl rfl)
theorem dX5_does_102 : decode cX5_does 102 = .ok (.iaload, 1) := dk_46 (dk_at dksX5_does_4 14 rfl rfl)
theorem dX5_does_103 : decode cX5_does 103 = .ok (.ifCond .ne 7, 3) := dk_154 0 7 (dk_at dksX5_does_4 15 rfl rfl)
theorem dX5_does_106 : decode cX5_does 106 = .ok (.iconst 1, 1) := dk_4 (dk_at dksX5_does_4 18 rfl rfl)
theorem dX5_does_107 : decode cX5_does 107 = .ok (.goto 4, 3) := dk_167 0 4 (dk_at dksX5_does_4 19 rfl rfl)
theorem dX5_does_110 : decode cX5_does 110 = .ok (.iconst 0, 1) := dk_3 (dk_at dksX5_does_4 22 rfl rfl)
theorem dX5_does_111 : decode cX5_does 111 = .ok (.istore 5, 2) := dk_54 5 (dk_at dksX5_does_5 0 rfl rfl)
theorem dX5_does_113 : decode cX5_does 113 = .ok (.iload 5, 2) := dk_21 5 (dk_at dksX5_does_5 2 rfl rfl)
theorem dX5_does_115 : decode cX5_does 115 = .ok (.ifCond .ne 125, 3) := dk_154 0 125 (dk_at dksX5_does_5 4 rfl rfl)
theorem dX5_does_118 : decode cX5_does 118 = .ok (.aload_n 0, 1) := dk_42 (dk_at dksX5_does_5 7 rfl rfl)
theorem dX5_does_119 : decode cX5_does 119 = .ok (.iload_n 2, 1) := dk_28 (dk_at dksX5_does_5 8 rfl rfl)
theorem dX5_does_120 : decode cX5_does 120 = .ok (.invokevirtual 313, 3) := dk_182 1 57 (dk_at dksX5_does_5 9 rfl rfl)
theorem dX5_does_123 : decode cX5_does 123 = .ok (.goto 117, 3) := dk_167 0 117 (dk_at dksX5_does_5 12 rfl rfl)
theorem dX5_does_126 : decode cX5_does 126 = .ok (.aload_n 0, 1) := dk_42 (dk_at dksX5_does_5 15 rfl rfl)
theorem dX5_does_127 : decode cX5_does 127 = .ok (.iload_n 2, 1) := dk_28 (dk_at dksX5_does_5 16 rfl rfl)
theorem dX5_does_128 : decode cX5_does 128 = .ok (.iload_n 3, 1) := dk_29 (dk_at dksX5_does_5 17 rfl rfl)
theorem dX5_does_129 : decode cX5_does 129 = .ok (.iload 4, 2) := dk_21 4 (dk_at dksX5_does_5 18 rfl rfl)
theorem dX5_does_131 : decode cX5_does 131 = .ok (.invokevirtual 347, 3) := dk_182 1 91 (dk_at dksX5_does_5 20 rfl rfl)
theorem dX5_does_134 : decode cX5_does 134 = .ok (.istore 5, 2) := dk_54 5 (dk_at dksX5_does_6 0 rfl rfl)
theorem dX5_does_136 : decode cX5_does 136 = .ok (.iload 5, 2) := dk_21 5 (dk_at dksX5_does_6 2 rfl rfl)
theorem dX5_does_138 : decode cX5_does 138 = .ok (.ifCond .ne 102, 3) := dk_154 0 102 (dk_at dksX5_does_6 4 rfl rfl)
theorem dX5_does_141 : decode cX5_does 141 = .ok (.aload_n 0, 1) := dk_42 (dk_at dksX5_does_6 7 rfl rfl)
theorem dX5_does_142 : decode cX5_does 142 = .ok (.iload_n 2, 1) := dk_28 (dk_at dksX5_does_6 8 rfl rfl)
theorem dX5_does_143 : decode cX5_does 143 = .ok (.iload_n 3, 1) := dk_29 (dk_at dksX5_does_6 9 rfl rfl)
theorem dX5_does_144 : decode cX5_does 144 = .ok (.iload 4, 2) := dk_21 4 (dk_at dksX5_does_6 10 rfl rfl)
theorem dX5_does_146 : decode cX5_does 146 = .ok (.invokevirtual 351, 3) := dk_182 1 95 (dk_at dksX5_does_6 12 rfl rfl)
theorem dX5_does_149 : decode cX5_does 149 = .ok (.goto 91, 3) := dk_167 0 91 (dk_at dksX5_does_6 15 rfl rfl)
theorem dX5_does_152 : decode cX5_does 152 = .ok (.aload_n 0, 1) := dk_42 (dk_at dksX5_does_6 18 rfl rfl)
theorem dX5_does_153 : decode cX5_does 153 = .ok (.iload_n 2, 1) := dk_28 (dk_at dksX5_does_6 19 rfl rfl)
theorem dX5_does_154 : decode cX5_does 154 = .ok (.iload_n 3, 1) := dk_29 (dk_at dksX5_does_6 20 rfl rfl)
theorem dX5_does_155 : decode cX5_does 155 = .ok (.invokevirtual 354, 3) := dk_182 1 98 (dk_at dksX5_does_6 21 rfl rfl)
theorem dX5_does_158 : decode cX5_does 158 = .ok (.istore 5, 2) := dk_54 5 (dk_at dksX5_does_7 0 rfl rfl)
theorem dX5_does_160 : decode cX5_does 160 = .ok (.iload 5, 2) := dk_21 5 (dk_at dksX5_does_7 2 rfl rfl)
theorem dX5_does_162 : decode cX5_does 162 = .ok (.ifCond .ne 78, 3) := dk_154 0 78 (dk_at dksX5_does_7 4 rfl rfl)
theorem dX5_does_165 : decode cX5_does 165 = .ok (.aload_n 0, 1) := dk_42 (dk_at dksX5_does_7 7 rfl rfl)
theorem dX5_does_166 : decode cX5_does 166 = .ok (.iload_n 2, 1) := dk_28 (dk_at dksX5_does_7 8 rfl rfl)
theorem dX5_does_167 : decode cX5_does 167 = .ok (.iload_n 3, 1) := dk_29 (dk_at dksX5_does_7 9 rfl rfl)
theorem dX5_does_168 : decode cX5_does 168 = .ok (.iload 4, 2) := dk_21 4 (dk_at dksX5_does_7 10 rfl rfl)
theorem dX5_does_170 : decode cX5_does 170 = .ok (.invokevirtual 357, 3) := dk_182 1 101 (dk_at dksX5_does_7 12 rfl rfl)
theorem dX5_does_173 : decode cX5_does 173 = .ok (.goto 67, 3) := dk_167 0 67 (dk_at dksX5_does_7 15 rfl rfl)
theorem dX5_does_176 : decode cX5_does 176 = .ok (.aload_n 0, 1) := dk_42 (dk_at dksX5_does_7 18 rfl rfl)
theorem dX5_does_177 : decode cX5_does 177 = .ok (.sipush 129, 3) := dk_17 0 129 (dk_at dksX5_does_7 19 rfl rfl)
theorem dX5_does_180 : decode cX5_does 180 = .ok (.iload_n 2, 1) := dk_28 (dk_at dksX5_does_7 22 rfl rfl)
theorem dX5_does_181 : decode cX5_does 181 = .ok (.invokevirtual 291, 3) := dk_182 1 35 (dk_at dksX5_does_8 0 rfl rfl)
theorem dX5_does_184 : decode cX5_does 184 = .ok (.ifCond .ne 7, 3) := dk_154 0 7 (dk_at dksX5_does_8 3 rfl rfl)
theorem dX5_does_187 : decode cX5_does 187 = .ok (.iconst 1, 1) := dk_4 (dk_at dksX5_does_8 6 rfl rfl)
theorem dX5_does_188 : decode cX5_does 188 = .ok (.goto 4, 3) := dk_167 0 4 (dk_at dksX5_does_8 7 rfl rfl)
theorem dX5_does_191 : decode cX5_does 191 = .ok (.iconst 0, 1) := dk_3 (dk_at dksX5_does_8 10 rfl rfl)
theorem dX5_does_192 : decode cX5_does 192 = .ok (.istore 5, 2) := dk_54 5 (dk_at dksX5_does_8 11 rfl rfl)
theorem dX5_does_194 : decode cX5_does 194 = .ok (.iload 5, 2) := dk_21 5 (dk_at dksX5_does_8 13 rfl rfl)
theorem dX5_does_196 : decode cX5_does 196 = .ok (.ifCond .ne 44, 3) := dk_154 0 44 (dk_at dksX5_does_8 15 rfl rfl)
theorem dX5_does_199 : decode cX5_does 199 = .ok (.aload_n 0, 1) := dk_42 (dk_at dksX5_does_8 18 rfl rfl)
theorem dX5_does_200 : decode cX5_does 200 = .ok (.iload_n 2, 1) := dk_28 (dk_at dksX5_does_8 19 rfl rfl)
theorem dX5_does_201 : decode cX5_does 201 = .ok (.invokevirtual 319, 3) := dk_182 1 63 (dk_at dksX5_does_8 20 rfl rfl)
theorem dX5_does_204 : decode cX5_does 204 = .ok (.goto 36, 3) := dk_167 0 36 (dk_at dksX5_does_9 0 rfl rfl)
theorem dX5_does_207 : decode cX5_does 207 = .ok (.aload_n 0, 1) := dk_42 (dk_at dksX5_does_9 3 rfl rfl)
theorem dX5_does_208 : decode cX5_does 208 = .ok (.getfield 33, 3) := dk_180 0 33 (dk_at dksX5_does_9 4 rfl rfl)
theorem dX5_does_211 : decode cX5_does 211 = .ok (.bipush 100, 2) := dk_16 100 (dk_at dksX5_does_9 7 rfl rfl)
theorem dX5_does_213 : decode cX5_does 213 = .ok (.iaload, 1) := dk_46 (dk_at dksX5_does_9 9 rfl rfl)
theorem dX5_does_214 : decode cX5_does 214 = .ok (.iload_n 2, 1) := dk_28 (dk_at dksX5_does_9 10 rfl rfl)
theorem dX5_does_215 : decode cX5_does 215 = .ok (.iadd, 1) := dk_96 (dk_at dksX5_does_9 11 rfl rfl)
theorem dX5_does_216 : decode cX5_does 216 = .ok (.sipush 199, 3) := dk_17 0 199 (dk_at dksX5_does_9 12 rfl rfl)
theorem dX5_does_219 : decode cX5_does 219 = .ok (.if_icmp .le 7, 3) := dk_164 0 7 (dk_at dksX5_does_9 15 rfl rfl)
theorem dX5_does_222 : decode cX5_does 222 = .ok (.iconst 1, 1) := dk_4 (dk_at dksX5_does_9 18 rfl rfl)
theorem dX5_does_223 : decode cX5_does 223 = .ok (.goto 4, 3) := dk_167 0 4 (dk_at dksX5_does_9 19 rfl rfl)
theorem dX5_does_226 : decode cX5_does 226 = .ok (.iconst 0, 1) := dk_3 (dk_at dksX5_does_9 22 rfl rfl)
theorem dX5_does_227 : decode cX5_does 227 = .ok (.istore 5, 2) := dk_54 5 (dk_at dksX5_does_10 0 rfl rfl)
theorem dX5_does_229 : decode cX5_does 229 = .ok (.iload 5, 2) := dk_21 5 (dk_at dksX5_does_10 2 rfl rfl)
theorem dX5_does_231 : decode cX5_does 231 = .ok (.ifCond .ne 9, 3) := dk_154 0 9 (dk_at dksX5_does_10 4 rfl rfl)
theorem dX5_does_234 : decode cX5_does 234 = .ok (.aload_n 0, 1) := dk_42 (dk_at dksX5_does_10 7 rfl rfl)
theorem dX5_does_235 : decode cX5_does 235 = .ok (.iload_n 2, 1) := dk_28 (dk_at dksX5_does_10 8 rfl rfl)
theorem dX5_does_236 : decode cX5_does 236 = .ok (.invokevirtual 360, 3) := dk_182 1 104 (dk_at dksX5_does_10 9 rfl rfl)
theorem dX5_does_239 : decode cX5_does 239 = .ok (.pop, 1) := dk_87 (dk_at dksX5_does_10 12 rfl rfl)
theorem dX5_does_240 : decode cX5_does 240 = .ok (.iload 5, 2) := dk_21 5 (dk_at dksX5_does_10 13 rfl rfl)
theorem dX5_does_242 : decode cX5_does 242 = .ok (.ifCond .le 13, 3) := dk_158 0 13 (dk_at dksX5_does_10 15 rfl rfl)
theorem dX5_does_245 : decode cX5_does 245 = .ok (.iload 5, 2) := dk_21 5 (dk_at dksX5_does_10 18 rfl rfl)
theorem dX5_does_247 : decode cX5_does 247 = .ok (.bipush 10, 2) := dk_16 10 (dk_at dksX5_does_10 20 rfl rfl)
theorem dX5_does_249 : decode cX5_does 249 = .ok (.iload_n 1, 1) := dk_27 (dk_at dksX5_does_10 22 rfl rfl)
theorem dX5_does_250 : decode cX5_does 250 = .ok (.imul, 1) := dk_104 (dk_at dksX5_does_10 23 rfl rfl)
theorem dX5_does_251 : decode cX5_does 251 = .ok (.iadd, 1) := dk_96 (dk_at dksX5_does_11 0 rfl rfl)
theorem dX5_does_252 : decode cX5_does 252 = .ok (.goto 4, 3) := dk_167 0 4 (dk_at dksX5_does_11 1 rfl rfl)
theorem dX5_does_255 : decode cX5_does 255 = .ok (.iconst 0, 1) := dk_3 (dk_at dksX5_does_11 4 rfl rfl)
theorem dX5_does_256 : decode cX5_does 256 = .ok (.ireturn, 1) := dk_172 (dk_at dksX5_does_11 5 rfl rfl)
abbrev cX5_told : ByteArray := prog_29_method_116_code
def yX5_told : MethodName := ⟨RX5, "told", "(I)I"⟩
def dkwX5_told_1 : List UInt8 := [180, 0, 80, 27, 46, 167, 0, 4, 2, 172]
abbrev dktX5_told_1 : List UInt8 := dkwX5_told_1 ++ []
def dkwX5_told_0 : List UInt8 := [42, 3, 181, 0, 1, 42, 180, 1, 202, 153, 0, 21, 27, 3, 6, 184, 0, 190, 153, 0, 12, 42]
abbrev dktX5_told_0 : List UInt8 := dkwX5_told_0 ++ dktX5_told_1
theorem dksX5_told_0 : cX5_told.data.toList.drop 0 = dktX5_told_0 := by decide +kernel
theorem dksX5_told_1 : cX5_told.data.toList.drop 22 = dktX5_told_1 := dk_seg dksX5_told_0 22 rfl rfl
theorem dX5_told_0 : decode cX5_told 0 = .ok (.aload_n 0, 1) := dk_42 (dk_at dksX5_told_0 0 rfl rfl)
theorem dX5_told_1 : decode cX5_told 1 = .ok (.iconst 0, 1) := dk_3 (dk_at dksX5_told_0 1 rfl rfl)
theorem dX5_told_2 : decode cX5_told 2 = .ok (.putfield 1, 3) := dk_181 0 1 (dk_at dksX5_told_0 2 rfl rfl)
theorem dX5_told_5 : decode cX5_told 5 = .ok (.aload_n 0, 1) := dk_42 (dk_at dksX5_told_0 5 rfl rfl)
theorem dX5_told_6 : decode cX5_told 6 = .ok (.getfield 458, 3) := dk_180 1 202 (dk_at dksX5_told_0 6 rfl rfl)
theorem dX5_told_9 : decode cX5_told 9 = .ok (.ifCond .eq 21, 3) := dk_153 0 21 (dk_at dksX5_told_0 9 rfl rfl)
theorem dX5_told_12 : decode cX5_told 12 = .ok (.iload_n 1, 1) := dk_27 (dk_at dksX5_told_0 12 rfl rfl)
theorem dX5_told_13 : decode cX5_told 13 = .ok (.iconst 0, 1) := dk_3 (dk_at dksX5_told_0 13 rfl rfl)
theorem dX5_told_14 : decode cX5_told 14 = .ok (.iconst 3, 1) := dk_6 (dk_at dksX5_told_0 14 rfl rfl)
theorem dX5_told_15 : decode cX5_told 15 = .ok (.invokestatic 190, 3) := dk_184 0 190 (dk_at dksX5_told_0 15 rfl rfl)
theorem dX5_told_18 : decode cX5_told 18 = .ok (.ifCond .eq 12, 3) := dk_153 0 12 (dk_at dksX5_told_0 18 rfl rfl)
theorem dX5_told_21 : decode cX5_told 21 = .ok (.aload_n 0, 1) := dk_42 (dk_at dksX5_told_0 21 rfl rfl)
theorem dX5_told_22 : decode cX5_told 22 = .ok (.getfield 80, 3) := dk_180 0 80 (dk_at dksX5_told_1 0 rfl rfl)
theorem dX5_told_25 : decode cX5_told 25 = .ok (.iload_n 1, 1) := dk_27 (dk_at dksX5_told_1 3 rfl rfl)
theorem dX5_told_26 : decode cX5_told 26 = .ok (.iaload, 1) := dk_46 (dk_at dksX5_told_1 4 rfl rfl)
theorem dX5_told_27 : decode cX5_told 27 = .ok (.goto 4, 3) := dk_167 0 4 (dk_at dksX5_told_1 5 rfl rfl)
theorem dX5_told_30 : decode cX5_told 30 = .ok (.iconst (-1), 1) := dk_2 (dk_at dksX5_told_1 8 rfl rfl)
theorem dX5_told_31 : decode cX5_told 31 = .ok (.ireturn, 1) := dk_172 (dk_at dksX5_told_1 9 rfl rfl)
abbrev cX5_sentence : ByteArray := prog_29_method_123_code
def yX5_sentence : MethodName := ⟨RX5, "sentence", "()I"⟩
def dkwX5_sentence_7 : List UInt8 := [180, 0, 40, 28, 46, 79, 132, 2, 1, 167, 255, 227, 42, 180, 1, 220, 172]
abbrev dktX5_sentence_7 : List UInt8 := dkwX5_sentence_7 ++ []
def dkwX5_sentence_6 : List UInt8 := [79, 3, 61, 28, 6, 42, 180, 1, 205, 104, 162, 0, 25, 42, 180, 0, 33, 17, 0, 166, 28, 96, 42]
abbrev dktX5_sentence_6 : List UInt8 := dkwX5_sentence_6 ++ dktX5_sentence_7
def dkwX5_sentence_5 : List UInt8 := [182, 1, 235, 154, 255, 182, 2, 42, 180, 0, 178, 100, 172, 42, 180, 0, 33, 17, 0, 165, 42, 180, 1, 205]
abbrev dktX5_sentence_5 : List UInt8 := dkwX5_sentence_5 ++ dktX5_sentence_6
def dkwX5_sentence_4 : List UInt8 := [172, 3, 60, 167, 255, 206, 42, 180, 1, 223, 153, 0, 13, 42, 182, 1, 232, 154, 255, 192, 167, 0, 10, 42]
abbrev dktX5_sentence_4 : List UInt8 := dkwX5_sentence_4 ++ dktX5_sentence_5
def dkwX5_sentence_3 : List UInt8 := [16, 22, 182, 1, 229, 42, 180, 1, 208, 158, 0, 16, 42, 4, 182, 0, 184, 87, 2, 42, 180, 0, 178, 100]
abbrev dktX5_sentence_3 : List UInt8 := dkwX5_sentence_3 ++ dktX5_sentence_4
def dkwX5_sentence_2 : List UInt8 := [27, 153, 0, 83, 42, 180, 1, 223, 153, 0, 45, 42, 180, 0, 158, 154, 0, 38, 42, 182, 1, 226, 42]
abbrev dktX5_sentence_2 : List UInt8 := dkwX5_sentence_2 ++ dktX5_sentence_3
def dkwX5_sentence_1 : List UInt8 := [181, 1, 220, 42, 3, 181, 1, 208, 42, 4, 181, 1, 214, 42, 3, 181, 1, 223, 42, 182, 0, 187, 4, 60]
abbrev dktX5_sentence_1 : List UInt8 := dkwX5_sentence_1 ++ dktX5_sentence_2
def dkwX5_sentence_0 : List UInt8 := [42, 3, 181, 0, 1, 42, 17, 0, 200, 182, 0, 251, 42, 3, 181, 0, 175, 42, 3, 181, 1, 205, 42, 3]
abbrev dktX5_sentence_0 : List UInt8 := dkwX5_sentence_0 ++ dktX5_sentence_1
theorem dksX5_sentence_0 : cX5_sentence.data.toList.drop 0 = dktX5_sentence_0 := by decide +kernel
theorem dksX5_sentence_1 : cX5_sentence.data.toList.drop 24 = dktX5_sentence_1 := dk_seg dksX5_sentence_0 24 rfl rfl
theorem dksX5_sentence_2 : cX5_sentence.data.toList.drop 48 = dktX5_sentence_2 := dk_seg dksX5_sentence_1 24 rfl rfl
theorem dksX5_sentence_3 : cX5_sentence.data.toList.drop 71 = dktX5_sentence_3 := dk_seg dksX5_sentence_2 23 rfl rfl
theorem dksX5_sentence_4 : cX5_sentence.data.toList.drop 95 = dktX5_sentence_4 := dk_seg dksX5_sentence_3 24 rfl rfl
theorem dksX5_sentence_5 : cX5_sentence.data.toList.drop 119 = dktX5_sentence_5 := dk_seg dksX5_sentence_4 24 rfl rfl
theorem dksX5_sentence_6 : cX5_sentence.data.toList.drop 143 = dktX5_sentence_6 := dk_seg dksX5_sentence_5 24 rfl rfl
theorem dksX5_sentence_7 : cX5_sentence.data.toList.drop 166 = dktX5_sentence_7 := dk_seg dksX5_sentence_6 23 rfl rfl
theorem dX5_sentence_0 : decode cX5_sentence 0 = .ok (.aload_n 0, 1) := dk_42 (dk_at dksX5_sentence_0 0 rfl rfl)
theorem dX5_sentence_1 : decode cX5_sentence 1 = .ok (.iconst 0, 1) := dk_3 (dk_at dksX5_sentence_0 1 rfl rfl)
theorem dX5_sentence_2 : decode cX5_sentence 2 = .ok (.putfield 1, 3) := dk_181 0 1 (dk_at dksX5_sentence_0 2 rfl rfl)
theorem dX5_sentence_5 : decode cX5_sentence 5 = .ok (.aload_n 0, 1) := dk_42 (dk_at dksX5_sentence_0 5 rfl rfl)
theorem dX5_sentence_6 : decode cX5_sentence 6 = .ok (.sipush 200, 3) := dk_17 0 200 (dk_at dksX5_sentence_0 6 rfl rfl)
theorem dX5_sentence_9 : decode cX5_sentence 9 = .ok (.invokevirtual 251, 3) := dk_182 0 251 (dk_at dksX5_sentence_0 9 rfl rfl)
theorem dX5_sentence_12 : decode cX5_sentence 12 = .ok (.aload_n 0, 1) := dk_42 (dk_at dksX5_sentence_0 12 rfl rfl)
theorem dX5_sentence_13 : decode cX5_sentence 13 = .ok (.iconst 0, 1) := dk_3 (dk_at dksX5_sentence_0 13 rfl rfl)
theorem dX5_sentence_14 : decode cX5_sentence 14 = .ok (.putfield 175, 3) := dk_181 0 175 (dk_at dksX5_sentence_0 14 rfl rfl)
theorem dX5_sentence_17 : decode cX5_sentence 17 = .ok (.aload_n 0, 1) := dk_42 (dk_at dksX5_sentence_0 17 rfl rfl)
theorem dX5_sentence_18 : decode cX5_sentence 18 = .ok (.iconst 0, 1) := dk_3 (dk_at dksX5_sentence_0 18 rfl rfl)
theorem dX5_sentence_19 : decode cX5_sentence 19 = .ok (.putfield 461, 3) := dk_181 1 205 (dk_at dksX5_sentence_0 19 rfl rfl)
theorem dX5_sentence_22 : decode cX5_sentence 22 = .ok (.aload_n 0, 1) := dk_42 (dk_at dksX5_sentence_0 22 rfl rfl)
theorem dX5_sentence_23 : decode cX5_sentence 23 = .ok (.iconst 0, 1) := dk_3 (dk_at dksX5_sentence_0 23 rfl rfl)
theorem dX5_sentence_24 : decode cX5_sentence 24 = .ok (.putfield 476, 3) := dk_181 1 220 (dk_at dksX5_sentence_1 0 rfl rfl)
theorem dX5_sentence_27 : decode cX5_sentence 27 = .ok (.aload_n 0, 1) := dk_42 (dk_at dksX5_sentence_1 3 rfl rfl)
theorem dX5_sentence_28 : decode cX5_sentence 28 = .ok (.iconst 0, 1) := dk_3 (dk_at dksX5_sentence_1 4 rfl rfl)
theorem dX5_sentence_29 : decode cX5_sentence 29 = .ok (.putfield 464, 3) := dk_181 1 208 (dk_at dksX5_sentence_1 5 rfl rfl)
theorem dX5_sentence_32 : decode cX5_sentence 32 = .ok (.aload_n 0, 1) := dk_42 (dk_at dksX5_sentence_1 8 rfl rfl)
theorem dX5_sentence_33 : decode cX5_sentence 33 = .ok (.iconst 1, 1) := dk_4 (dk_at dksX5_sentence_1 9 rfl rfl)
theorem dX5_sentence_34 : decode cX5_sentence 34 = .ok (.putfield 470, 3) := dk_181 1 214 (dk_at dksX5_sentence_1 10 rfl rfl)
theorem dX5_sentence_37 : decode cX5_sentence 37 = .ok (.aload_n 0, 1) := dk_42 (dk_at dksX5_sentence_1 13 rfl rfl)
theorem dX5_sentence_38 : decode cX5_sentence 38 = .ok (.iconst 0, 1) := dk_3 (dk_at dksX5_sentence_1 14 rfl rfl)
theorem dX5_sentence_39 : decode cX5_sentence 39 = .ok (.putfield 479, 3) := dk_181 1 223 (dk_at dksX5_sentence_1 15 rfl rfl)
theorem dX5_sentence_42 : decode cX5_sentence 42 = .ok (.aload_n 0, 1) := dk_42 (dk_at dksX5_sentence_1 18 rfl rfl)
theorem dX5_sentence_43 : decode cX5_sentence 43 = .ok (.invokevirtual 187, 3) := dk_182 0 187 (dk_at dksX5_sentence_1 19 rfl rfl)
theorem dX5_sentence_46 : decode cX5_sentence 46 = .ok (.iconst 1, 1) := dk_4 (dk_at dksX5_sentence_1 22 rfl rfl)
theorem dX5_sentence_47 : decode cX5_sentence 47 = .ok (.istore_n 1, 1) := dk_60 (dk_at dksX5_sentence_1 23 rfl rfl)
theorem dX5_sentence_48 : decode cX5_sentence 48 = .ok (.iload_n 1, 1) := dk_27 (dk_at dksX5_sentence_2 0 rfl rfl)
theorem dX5_sentence_49 : decode cX5_sentence 49 = .ok (.ifCond .eq 83, 3) := dk_153 0 83 (dk_at dksX5_sentence_2 1 rfl rfl)
theorem dX5_sentence_52 : decode cX5_sentence 52 = .ok (.aload_n 0, 1) := dk_42 (dk_at dksX5_sentence_2 4 rfl rfl)
theorem dX5_sentence_53 : decode cX5_sentence 53 = .ok (.getfield 479, 3) := dk_180 1 223 (dk_at dksX5_sentence_2 5 rfl rfl)
theorem dX5_sentence_56 : decode cX5_sentence 56 = .ok (.ifCond .eq 45, 3) := dk_153 0 45 (dk_at dksX5_sentence_2 8 rfl rfl)
theorem dX5_sentence_59 : decode cX5_sentence 59 = .ok (.aload_n 0, 1) := dk_42 (dk_at dksX5_sentence_2 11 rfl rfl)
theorem dX5_sentence_60 : decode cX5_sentence 60 = .ok (.getfield 158, 3) := dk_180 0 158 (dk_at dksX5_sentence_2 12 rfl rfl)
theorem dX5_sentence_63 : decode cX5_sentence 63 = .ok (.ifCond .ne 38, 3) := dk_154 0 38 (dk_at dksX5_sentence_2 15 rfl rfl)
theorem dX5_sentence_66 : decode cX5_sentence 66 = .ok (.aload_n 0, 1) := dk_42 (dk_at dksX5_sentence_2 18 rfl rfl)
theorem dX5_sentence_67 : decode cX5_sentence 67 = .ok (.invokevirtual 482, 3) := dk_182 1 226 (dk_at dksX5_sentence_2 19 rfl rfl)
theorem dX5_sentence_70 : decode cX5_sentence 70 = .ok (.aload_n 0, 1) := dk_42 (dk_at dksX5_sentence_2 22 rfl rfl)
theorem dX5_sentence_71 : decode cX5_sentence 71 = .ok (.bipush 22, 2) := dk_16 22 (dk_at dksX5_sentence_3 0 rfl rfl)
theorem dX5_sentence_73 : decode cX5_sentence 73 = .ok (.invokevirtual 485, 3) := dk_182 1 229 (dk_at dksX5_sentence_3 2 rfl rfl)
theorem dX5_sentence_76 : decode cX5_sentence 76 = .ok (.aload_n 0, 1) := dk_42 (dk_at dksX5_sentence_3 5 rfl rfl)
theorem dX5_sentence_77 : decode cX5_sentence 77 = .ok (.getfield 464, 3) := dk_180 1 208 (dk_at dksX5_sentence_3 6 rfl rfl)
theorem dX5_sentence_80 : decode cX5_sentence 80 = .ok (.ifCond .le 16, 3) := dk_158 0 16 (dk_at dksX5_sentence_3 9 rfl rfl)
theorem dX5_sentence_83 : decode cX5_sentence 83 = .ok (.aload_n 0, 1) := dk_42 (dk_at dksX5_sentence_3 12 rfl rfl)
theorem dX5_sentence_84 : decode cX5_sentence 84 = .ok (.iconst 1, 1) := dk_4 (dk_at dksX5_sentence_3 13 rfl rfl)
theorem dX5_sentence_85 : decode cX5_sentence 85 = .ok (.invokevirtual 184, 3) := dk_182 0 184 (dk_at dksX5_sentence_3 14 rfl rfl)
theorem dX5_sentence_88 : decode cX5_sentence 88 = .ok (.pop, 1) := dk_87 (dk_at dksX5_sentence_3 17 rfl rfl)
theorem dX5_sentence_89 : decode cX5_sentence 89 = .ok (.iconst (-1), 1) := dk_2 (dk_at dksX5_sentence_3 18 rfl rfl)
theorem dX5_sentence_90 : decode cX5_sentence 90 = .ok (.aload_n 0, 1) := dk_42 (dk_at dksX5_sentence_3 19 rfl rfl)
theorem dX5_sentence_91 : decode cX5_sentence 91 = .ok (.getfield 178, 3) := dk_180 0 178 (dk_at dksX5_sentence_3 20 rfl rfl)
theorem dX5_sentence_94 : decode cX5_sentence 94 = .ok (.isub, 1) := dk_100 (dk_at dksX5_sentence_3 23 rfl rfl)
theorem dX5_sentence_95 : decode cX5_sentence 95 = .ok (.ireturn, 1) := dk_172 (dk_at dksX5_sentence_4 0 rfl rfl)
theorem dX5_sentence_96 : decode cX5_sentence 96 = .ok (.iconst 0, 1) := dk_3 (dk_at dksX5_sentence_4 1 rfl rfl)
theorem dX5_sentence_97 : decode cX5_sentence 97 = .ok (.istore_n 1, 1) := dk_60 (dk_at dksX5_sentence_4 2 rfl rfl)
theorem dX5_sentence_98 : decode cX5_sentence 98 = .ok (.goto (-50), 3) := dk_167 255 206 (dk_at dksX5_sentence_4 3 rfl rfl)
theorem dX5_sentence_101 : decode cX5_sentence 101 = .ok (.aload_n 0, 1) := dk_42 (dk_at dksX5_sentence_4 6 rfl rfl)
theorem dX5_sentence_102 : decode cX5_sentence 102 = .ok (.getfield 479, 3) := dk_180 1 223 (dk_at dksX5_sentence_4 7 rfl rfl)
theorem dX5_sentence_105 : decode cX5_sentence 105 = .ok (.ifCond .eq 13, 3) := dk_153 0 13 (dk_at dksX5_sentence_4 10 rfl rfl)
theorem dX5_sentence_108 : decode cX5_sentence 108 = .ok (.aload_n 0, 1) := dk_42 (dk_at dksX5_sentence_4 13 rfl rfl)
theorem dX5_sentence_109 : decode cX5_sentence 109 = .ok (.invokevirtual 488, 3) := dk_182 1 232 (dk_at dksX5_sentence_4 14 rfl rfl)
theorem dX5_sentence_112 : decode cX5_sentence 112 = .ok (.ifCond .ne (-64), 3) := dk_154 255 192 (dk_at dksX5_sentence_4 17 rfl rfl)
theorem dX5_sentence_115 : decode cX5_sentence 115 = .ok (.goto 10, 3) := dk_167 0 10 (dk_at dksX5_sentence_4 20 rfl rfl)
theorem dX5_sentence_118 : decode cX5_sentence 118 = .ok (.aload_n 0, 1) := dk_42 (dk_at dksX5_sentence_4 23 rfl rfl)
theorem dX5_sentence_119 : decode cX5_sentence 119 = .ok (.invokevirtual 491, 3) := dk_182 1 235 (dk_at dksX5_sentence_5 0 rfl rfl)
theorem dX5_sentence_122 : decode cX5_sentence 122 = .ok (.ifCond .ne (-74), 3) := dk_154 255 182 (dk_at dksX5_sentence_5 3 rfl rfl)
theorem dX5_sentence_125 : decode cX5_sentence 125 = .ok (.iconst (-1), 1) := dk_2 (dk_at dksX5_sentence_5 6 rfl rfl)
theorem dX5_sentence_126 : decode cX5_sentence 126 = .ok (.aload_n 0, 1) := dk_42 (dk_at dksX5_sentence_5 7 rfl rfl)
theorem dX5_sentence_127 : decode cX5_sentence 127 = .ok (.getfield 178, 3) := dk_180 0 178 (dk_at dksX5_sentence_5 8 rfl rfl)
theorem dX5_sentence_130 : decode cX5_sentence 130 = .ok (.isub, 1) := dk_100 (dk_at dksX5_sentence_5 11 rfl rfl)
theorem dX5_sentence_131 : decode cX5_sentence 131 = .ok (.ireturn, 1) := dk_172 (dk_at dksX5_sentence_5 12 rfl rfl)
theorem dX5_sentence_132 : decode cX5_sentence 132 = .ok (.aload_n 0, 1) := dk_42 (dk_at dksX5_sentence_5 13 rfl rfl)
theorem dX5_sentence_133 : decode cX5_sentence 133 = .ok (.getfield 33, 3) := dk_180 0 33 (dk_at dksX5_sentence_5 14 rfl rfl)
theorem dX5_sentence_136 : decode cX5_sentence 136 = .ok (.sipush 165, 3) := dk_17 0 165 (dk_at dksX5_sentence_5 17 rfl rfl)
theorem dX5_sentence_139 : decode cX5_sentence 139 = .ok (.aload_n 0, 1) := dk_42 (dk_at dksX5_sentence_5 20 rfl rfl)
theorem dX5_sentence_140 : decode cX5_sentence 140 = .ok (.getfield 461, 3) := dk_180 1 205 (dk_at dksX5_sentence_5 21 rfl rfl)
theorem dX5_sentence_143 : decode cX5_sentence 143 = .ok (.iastore, 1) := dk_79 (dk_at dksX5_sentence_6 0 rfl rfl)
theorem dX5_sentence_144 : decode cX5_sentence 144 = .ok (.iconst 0, 1) := dk_3 (dk_at dksX5_sentence_6 1 rfl rfl)
theorem dX5_sentence_145 : decode cX5_sentence 145 = .ok (.istore_n 2, 1) := dk_61 (dk_at dksX5_sentence_6 2 rfl rfl)
theorem dX5_sentence_146 : decode cX5_sentence 146 = .ok (.iload_n 2, 1) := dk_28 (dk_at dksX5_sentence_6 3 rfl rfl)
theorem dX5_sentence_147 : decode cX5_sentence 147 = .ok (.iconst 3, 1) := dk_6 (dk_at dksX5_sentence_6 4 rfl rfl)
theorem dX5_sentence_148 : decode cX5_sentence 148 = .ok (.aload_n 0, 1) := dk_42 (dk_at dksX5_sentence_6 5 rfl rfl)
theorem dX5_sentence_149 : decode cX5_sentence 149 = .ok (.getfield 461, 3) := dk_180 1 205 (dk_at dksX5_sentence_6 6 rfl rfl)
theorem dX5_sentence_152 : decode cX5_sentence 152 = .ok (.imul, 1) := dk_104 (dk_at dksX5_sentence_6 9 rfl rfl)
theorem dX5_sentence_153 : decode cX5_sentence 153 = .ok (.if_icmp .ge 25, 3) := dk_162 0 25 (dk_at dksX5_sentence_6 10 rfl rfl)
theorem dX5_sentence_156 : decode cX5_sentence 156 = .ok (.aload_n 0, 1) := dk_42 (dk_at dksX5_sentence_6 13 rfl rfl)
theorem dX5_sentence_157 : decode cX5_sentence 157 = .ok (.getfield 33, 3) := dk_180 0 33 (dk_at dksX5_sentence_6 14 rfl rfl)
theorem dX5_sentence_160 : decode cX5_sentence 160 = .ok (.sipush 166, 3) := dk_17 0 166 (dk_at dksX5_sentence_6 17 rfl rfl)
theorem dX5_sentence_163 : decode cX5_sentence 163 = .ok (.iload_n 2, 1) := dk_28 (dk_at dksX5_sentence_6 20 rfl rfl)
theorem dX5_sentence_164 : decode cX5_sentence 164 = .ok (.iadd, 1) := dk_96 (dk_at dksX5_sentence_6 21 rfl rfl)
theorem dX5_sentence_165 : decode cX5_sentence 165 = .ok (.aload_n 0, 1) := dk_42 (dk_at dksX5_sentence_6 22 rfl rfl)
theorem dX5_sentence_166 : decode cX5_sentence 166 = .ok (.getfield 40, 3) := dk_180 0 40 (dk_at dksX5_sentence_7 0 rfl rfl)
theorem dX5_sentence_169 : decode cX5_sentence 169 = .ok (.iload_n 2, 1) := dk_28 (dk_at dksX5_sentence_7 3 rfl rfl)
theorem dX5_sentence_170 : decode cX5_sentence 170 = .ok (.iaload, 1) := dk_46 (dk_at dksX5_sentence_7 4 rfl rfl)
theorem dX5_sentence_171 : decode cX5_sentence 171 = .ok (.iastore, 1) := dk_79 (dk_at dksX5_sentence_7 5 rfl rfl)
theorem dX5_sentence_172 : decode cX5_sentence 172 = .ok (.iinc 2 1, 3) := dk_132 2 1 (dk_at dksX5_sentence_7 6 rfl rfl)
theorem dX5_sentence_175 : decode cX5_sentence 175 = .ok (.goto (-29), 3) := dk_167 255 227 (dk_at dksX5_sentence_7 9 rfl rfl)
theorem dX5_sentence_178 : decode cX5_sentence 178 = .ok (.aload_n 0, 1) := dk_42 (dk_at dksX5_sentence_7 12 rfl rfl)
theorem dX5_sentence_179 : decode cX5_sentence 179 = .ok (.getfield 476, 3) := dk_180 1 220 (dk_at dksX5_sentence_7 13 rfl rfl)
theorem dX5_sentence_182 : decode cX5_sentence 182 = .ok (.ireturn, 1) := dk_172 (dk_at dksX5_sentence_7 16 rfl rfl)
abbrev cX5_nots : ByteArray := prog_29_method_119_code
def yX5_nots : MethodName := ⟨RX5, "nots", "()V"⟩
def dkwX5_nots_2 : List UInt8 := [182, 1, 211, 167, 255, 205, 177]
abbrev dktX5_nots_2 : List UInt8 := dkwX5_nots_2 ++ []
def dkwX5_nots_1 : List UInt8 := [89, 180, 1, 208, 4, 100, 181, 1, 208, 42, 89, 180, 1, 214, 4, 100, 181, 1, 214, 42, 16, 20, 3, 3]
abbrev dktX5_nots_1 : List UInt8 := dkwX5_nots_1 ++ dktX5_nots_2
def dkwX5_nots_0 : List UInt8 := [42, 180, 1, 208, 158, 0, 50, 42, 180, 0, 83, 42, 180, 1, 208, 4, 100, 46, 16, 20, 160, 0, 34, 42]
abbrev dktX5_nots_0 : List UInt8 := dkwX5_nots_0 ++ dktX5_nots_1
theorem dksX5_nots_0 : cX5_nots.data.toList.drop 0 = dktX5_nots_0 := by decide +kernel
theorem dksX5_nots_1 : cX5_nots.data.toList.drop 24 = dktX5_nots_1 := dk_seg dksX5_nots_0 24 rfl rfl
theorem dksX5_nots_2 : cX5_nots.data.toList.drop 48 = dktX5_nots_2 := dk_seg dksX5_nots_1 24 rfl rfl
theorem dX5_nots_0 : decode cX5_nots 0 = .ok (.aload_n 0, 1) := dk_42 (dk_at dksX5_nots_0 0 rfl rfl)
theorem dX5_nots_1 : decode cX5_nots 1 = .ok (.getfield 464, 3) := dk_180 1 208 (dk_at dksX5_nots_0 1 rfl rfl)
theorem dX5_nots_4 : decode cX5_nots 4 = .ok (.ifCond .le 50, 3) := dk_158 0 50 (dk_at dksX5_nots_0 4 rfl rfl)
theorem dX5_nots_7 : decode cX5_nots 7 = .ok (.aload_n 0, 1) := dk_42 (dk_at dksX5_nots_0 7 rfl rfl)
theorem dX5_nots_8 : decode cX5_nots 8 = .ok (.getfield 83, 3) := dk_180 0 83 (dk_at dksX5_nots_0 8 rfl rfl)
theorem dX5_nots_11 : decode cX5_nots 11 = .ok (.aload_n 0, 1) := dk_42 (dk_at dksX5_nots_0 11 rfl rfl)
theorem dX5_nots_12 : decode cX5_nots 12 = .ok (.getfield 464, 3) := dk_180 1 208 (dk_at dksX5_nots_0 12 rfl rfl)
theorem dX5_nots_15 : decode cX5_nots 15 = .ok (.iconst 1, 1) := dk_4 (dk_at dksX5_nots_0 15 rfl rfl)
theorem dX5_nots_16 : decode cX5_nots 16 = .ok (.isub, 1) := dk_100 (dk_at dksX5_nots_0 16 rfl rfl)
theorem dX5_nots_17 : decode cX5_nots 17 = .ok (.iaload, 1) := dk_46 (dk_at dksX5_nots_0 17 rfl rfl)
theorem dX5_nots_18 : decode cX5_nots 18 = .ok (.bipush 20, 2) := dk_16 20 (dk_at dksX5_nots_0 18 rfl rfl)
theorem dX5_nots_20 : decode cX5_nots 20 = .ok (.if_icmp .ne 34, 3) := dk_160 0 34 (dk_at dksX5_nots_0 20 rfl rfl)
theorem dX5_nots_23 : decode cX5_nots 23 = .ok (.aload_n 0, 1) := dk_42 (dk_at dksX5_nots_0 23 rfl rfl)
theorem dX5_nots_24 : decode cX5_nots 24 = .ok (.dup, 1) := dk_89 (dk_at dksX5_nots_1 0 rfl rfl)
theorem dX5_nots_25 : decode cX5_nots 25 = .ok (.getfield 464, 3) := dk_180 1 208 (dk_at dksX5_nots_1 1 rfl rfl)
theorem dX5_nots_28 : decode cX5_nots 28 = .ok (.iconst 1, 1) := dk_4 (dk_at dksX5_nots_1 4 rfl rfl)
theorem dX5_nots_29 : decode cX5_nots 29 = .ok (.isub, 1) := dk_100 (dk_at dksX5_nots_1 5 rfl rfl)
theorem dX5_nots_30 : decode cX5_nots 30 = .ok (.putfield 464, 3) := dk_181 1 208 (dk_at dksX5_nots_1 6 rfl rfl)
theorem dX5_nots_33 : decode cX5_nots 33 = .ok (.aload_n 0, 1) := dk_42 (dk_at dksX5_nots_1 9 rfl rfl)
theorem dX5_nots_34 : decode cX5_nots 34 = .ok (.dup, 1) := dk_89 (dk_at dksX5_nots_1 10 rfl rfl)
theorem dX5_nots_35 : decode cX5_nots 35 = .ok (.getfield 470, 3) := dk_180 1 214 (dk_at dksX5_nots_1 11 rfl rfl)
theorem dX5_nots_38 : decode cX5_nots 38 = .ok (.iconst 1, 1) := dk_4 (dk_at dksX5_nots_1 14 rfl rfl)
theorem dX5_nots_39 : decode cX5_nots 39 = .ok (.isub, 1) := dk_100 (dk_at dksX5_nots_1 15 rfl rfl)
theorem dX5_nots_40 : decode cX5_nots 40 = .ok (.putfield 470, 3) := dk_181 1 214 (dk_at dksX5_nots_1 16 rfl rfl)
theorem dX5_nots_43 : decode cX5_nots 43 = .ok (.aload_n 0, 1) := dk_42 (dk_at dksX5_nots_1 19 rfl rfl)
theorem dX5_nots_44 : decode cX5_nots 44 = .ok (.bipush 20, 2) := dk_16 20 (dk_at dksX5_nots_1 20 rfl rfl)
theorem dX5_nots_46 : decode cX5_nots 46 = .ok (.iconst 0, 1) := dk_3 (dk_at dksX5_nots_1 22 rfl rfl)
theorem dX5_nots_47 : decode cX5_nots 47 = .ok (.iconst 0, 1) := dk_3 (dk_at dksX5_nots_1 23 rfl rfl)
theorem dX5_nots_48 : decode cX5_nots 48 = .ok (.invokevirtual 467, 3) := dk_182 1 211 (dk_at dksX5_nots_2 0 rfl rfl)
theorem dX5_nots_51 : decode cX5_nots 51 = .ok (.goto (-51), 3) := dk_167 255 205 (dk_at dksX5_nots_2 3 rfl rfl)
theorem dX5_nots_54 : decode cX5_nots 54 = .ok (.return_, 1) := dk_177 (dk_at dksX5_nots_2 6 rfl rfl)
abbrev cX5_code : ByteArray := prog_29_method_117_code
def yX5_code : MethodName := ⟨RX5, "code", "(III)V"⟩
def dkwX5_code_2 : List UInt8 := [181, 1, 205, 177]
abbrev dktX5_code_2 : List UInt8 := dkwX5_code_2 ++ []
def dkwX5_code_1 : List UInt8 := [28, 79, 42, 180, 0, 40, 6, 42, 180, 1, 205, 104, 5, 96, 29, 79, 42, 89, 180, 1, 205, 4, 96]
abbrev dktX5_code_1 : List UInt8 := dkwX5_code_1 ++ dktX5_code_2
def dkwX5_code_0 : List UInt8 := [42, 180, 0, 40, 6, 42, 180, 1, 205, 104, 27, 79, 42, 180, 0, 40, 6, 42, 180, 1, 205, 104, 4, 96]
abbrev dktX5_code_0 : List UInt8 := dkwX5_code_0 ++ dktX5_code_1
theorem dksX5_code_0 : cX5_code.data.toList.drop 0 = dktX5_code_0 := by decide +kernel
theorem dksX5_code_1 : cX5_code.data.toList.drop 24 = dktX5_code_1 := dk_seg dksX5_code_0 24 rfl rfl
theorem dksX5_code_2 : cX5_code.data.toList.drop 47 = dktX5_code_2 := dk_seg dksX5_code_1 23 rfl rfl
theorem dX5_code_0 : decode cX5_code 0 = .ok (.aload_n 0, 1) := dk_42 (dk_at dksX5_code_0 0 rfl rfl)
theorem dX5_code_1 : decode cX5_code 1 = .ok (.getfield 40, 3) := dk_180 0 40 (dk_at dksX5_code_0 1 rfl rfl)
theorem dX5_code_4 : decode cX5_code 4 = .ok (.iconst 3, 1) := dk_6 (dk_at dksX5_code_0 4 rfl rfl)
theorem dX5_code_5 : decode cX5_code 5 = .ok (.aload_n 0, 1) := dk_42 (dk_at dksX5_code_0 5 rfl rfl)
theorem dX5_code_6 : decode cX5_code 6 = .ok (.getfield 461, 3) := dk_180 1 205 (dk_at dksX5_code_0 6 rfl rfl)
theorem dX5_code_9 : decode cX5_code 9 = .ok (.imul, 1) := dk_104 (dk_at dksX5_code_0 9 rfl rfl)
theorem dX5_code_10 : decode cX5_code 10 = .ok (.iload_n 1, 1) := dk_27 (dk_at dksX5_code_0 10 rfl rfl)
theorem dX5_code_11 : decode cX5_code 11 = .ok (.iastore, 1) := dk_79 (dk_at dksX5_code_0 11 rfl rfl)
theorem dX5_code_12 : decode cX5_code 12 = .ok (.aload_n 0, 1) := dk_42 (dk_at dksX5_code_0 12 rfl rfl)
theorem dX5_code_13 : decode cX5_code 13 = .ok (.getfield 40, 3) := dk_180 0 40 (dk_at dksX5_code_0 13 rfl rfl)
theorem dX5_code_16 : decode cX5_code 16 = .ok (.iconst 3, 1) := dk_6 (dk_at dksX5_code_0 16 rfl rfl)
theorem dX5_code_17 : decode cX5_code 17 = .ok (.aload_n 0, 1) := dk_42 (dk_at dksX5_code_0 17 rfl rfl)
theorem dX5_code_18 : decode cX5_code 18 = .ok (.getfield 461, 3) := dk_180 1 205 (dk_at dksX5_code_0 18 rfl rfl)
theorem dX5_code_21 : decode cX5_code 21 = .ok (.imul, 1) := dk_104 (dk_at dksX5_code_0 21 rfl rfl)
theorem dX5_code_22 : decode cX5_code 22 = .ok (.iconst 1, 1) := dk_4 (dk_at dksX5_code_0 22 rfl rfl)
theorem dX5_code_23 : decode cX5_code 23 = .ok (.iadd, 1) := dk_96 (dk_at dksX5_code_0 23 rfl rfl)
theorem dX5_code_24 : decode cX5_code 24 = .ok (.iload_n 2, 1) := dk_28 (dk_at dksX5_code_1 0 rfl rfl)
theorem dX5_code_25 : decode cX5_code 25 = .ok (.iastore, 1) := dk_79 (dk_at dksX5_code_1 1 rfl rfl)
theorem dX5_code_26 : decode cX5_code 26 = .ok (.aload_n 0, 1) := dk_42 (dk_at dksX5_code_1 2 rfl rfl)
theorem dX5_code_27 : decode cX5_code 27 = .ok (.getfield 40, 3) := dk_180 0 40 (dk_at dksX5_code_1 3 rfl rfl)
theorem dX5_code_30 : decode cX5_code 30 = .ok (.iconst 3, 1) := dk_6 (dk_at dksX5_code_1 6 rfl rfl)
theorem dX5_code_31 : decode cX5_code 31 = .ok (.aload_n 0, 1) := dk_42 (dk_at dksX5_code_1 7 rfl rfl)
theorem dX5_code_32 : decode cX5_code 32 = .ok (.getfield 461, 3) := dk_180 1 205 (dk_at dksX5_code_1 8 rfl rfl)
theorem dX5_code_35 : decode cX5_code 35 = .ok (.imul, 1) := dk_104 (dk_at dksX5_code_1 11 rfl rfl)
theorem dX5_code_36 : decode cX5_code 36 = .ok (.iconst 2, 1) := dk_5 (dk_at dksX5_code_1 12 rfl rfl)
theorem dX5_code_37 : decode cX5_code 37 = .ok (.iadd, 1) := dk_96 (dk_at dksX5_code_1 13 rfl rfl)
theorem dX5_code_38 : decode cX5_code 38 = .ok (.iload_n 3, 1) := dk_29 (dk_at dksX5_code_1 14 rfl rfl)
theorem dX5_code_39 : decode cX5_code 39 = .ok (.iastore, 1) := dk_79 (dk_at dksX5_code_1 15 rfl rfl)
theorem dX5_code_40 : decode cX5_code 40 = .ok (.aload_n 0, 1) := dk_42 (dk_at dksX5_code_1 16 rfl rfl)
theorem dX5_code_41 : decode cX5_code 41 = .ok (.dup, 1) := dk_89 (dk_at dksX5_code_1 17 rfl rfl)
theorem dX5_code_42 : decode cX5_code 42 = .ok (.getfield 461, 3) := dk_180 1 205 (dk_at dksX5_code_1 18 rfl rfl)
theorem dX5_code_45 : decode cX5_code 45 = .ok (.iconst 1, 1) := dk_4 (dk_at dksX5_code_1 21 rfl rfl)
theorem dX5_code_46 : decode cX5_code 46 = .ok (.iadd, 1) := dk_96 (dk_at dksX5_code_1 22 rfl rfl)
theorem dX5_code_47 : decode cX5_code 47 = .ok (.putfield 461, 3) := dk_181 1 205 (dk_at dksX5_code_2 0 rfl rfl)
theorem dX5_code_50 : decode cX5_code 50 = .ok (.return_, 1) := dk_177 (dk_at dksX5_code_2 3 rfl rfl)
abbrev cX5_joins : ByteArray := prog_29_method_118_code
def yX5_joins : MethodName := ⟨RX5, "joins", "(I)V"⟩
def dkwX5_joins_3 : List UInt8 := [167, 255, 186, 177]
abbrev dktX5_joins_3 : List UInt8 := dkwX5_joins_3 ++ []
def dkwX5_joins_2 : List UInt8 := [180, 1, 208, 4, 100, 181, 1, 208, 42, 42, 180, 0, 83, 42, 180, 1, 208, 46, 3, 3, 182, 1, 211]
abbrev dktX5_joins_2 : List UInt8 := dkwX5_joins_2 ++ dktX5_joins_3
def dkwX5_joins_1 : List UInt8 := [180, 0, 83, 42, 180, 1, 208, 4, 100, 46, 16, 22, 160, 0, 37, 27, 16, 22, 160, 0, 31, 42, 89]
abbrev dktX5_joins_1 : List UInt8 := dkwX5_joins_1 ++ dktX5_joins_2
def dkwX5_joins_0 : List UInt8 := [42, 180, 1, 208, 158, 0, 69, 42, 180, 0, 83, 42, 180, 1, 208, 4, 100, 46, 16, 21, 159, 0, 25, 42]
abbrev dktX5_joins_0 : List UInt8 := dkwX5_joins_0 ++ dktX5_joins_1
theorem dksX5_joins_0 : cX5_joins.data.toList.drop 0 = dktX5_joins_0 := by decide +kernel
theorem dksX5_joins_1 : cX5_joins.data.toList.drop 24 = dktX5_joins_1 := dk_seg dksX5_joins_0 24 rfl rfl
theorem dksX5_joins_2 : cX5_joins.data.toList.drop 47 = dktX5_joins_2 := dk_seg dksX5_joins_1 23 rfl rfl
theorem dksX5_joins_3 : cX5_joins.data.toList.drop 70 = dktX5_joins_3 := dk_seg dksX5_joins_2 23 rfl rfl
theorem dX5_joins_0 : decode cX5_joins 0 = .ok (.aload_n 0, 1) := dk_42 (dk_at dksX5_joins_0 0 rfl rfl)
theorem dX5_joins_1 : decode cX5_joins 1 = .ok (.getfield 464, 3) := dk_180 1 208 (dk_at dksX5_joins_0 1 rfl rfl)
theorem dX5_joins_4 : decode cX5_joins 4 = .ok (.ifCond .le 69, 3) := dk_158 0 69 (dk_at dksX5_joins_0 4 rfl rfl)
theorem dX5_joins_7 : decode cX5_joins 7 = .ok (.aload_n 0, 1) := dk_42 (dk_at dksX5_joins_0 7 rfl rfl)
theorem dX5_joins_8 : decode cX5_joins 8 = .ok (.getfield 83, 3) := dk_180 0 83 (dk_at dksX5_joins_0 8 rfl rfl)
theorem dX5_joins_11 : decode cX5_joins 11 = .ok (.aload_n 0, 1) := dk_42 (dk_at dksX5_joins_0 11 rfl rfl)
theorem dX5_joins_12 : decode cX5_joins 12 = .ok (.getfield 464, 3) := dk_180 1 208 (dk_at dksX5_joins_0 12 rfl rfl)
theorem dX5_joins_15 : decode cX5_joins 15 = .ok (.iconst 1, 1) := dk_4 (dk_at dksX5_joins_0 15 rfl rfl)
theorem dX5_joins_16 : decode cX5_joins 16 = .ok (.isub, 1) := dk_100 (dk_at dksX5_joins_0 16 rfl rfl)
theorem dX5_joins_17 : decode cX5_joins 17 = .ok (.iaload, 1) := dk_46 (dk_at dksX5_joins_0 17 rfl rfl)
theorem dX5_joins_18 : decode cX5_joins 18 = .ok (.bipush 21, 2) := dk_16 21 (dk_at dksX5_joins_0 18 rfl rfl)
theorem dX5_joins_20 : decode cX5_joins 20 = .ok (.if_icmp .eq 25, 3) := dk_159 0 25 (dk_at dksX5_joins_0 20 rfl rfl)
theorem dX5_joins_23 : decode cX5_joins 23 = .ok (.aload_n 0, 1) := dk_42 (dk_at dksX5_joins_0 23 rfl rfl)
theorem dX5_joins_24 : decode cX5_joins 24 = .ok (.getfield 83, 3) := dk_180 0 83 (dk_at dksX5_joins_1 0 rfl rfl)
theorem dX5_joins_27 : decode cX5_joins 27 = .ok (.aload_n 0, 1) := dk_42 (dk_at dksX5_joins_1 3 rfl rfl)
theorem dX5_joins_28 : decode cX5_joins 28 = .ok (.getfield 464, 3) := dk_180 1 208 (dk_at dksX5_joins_1 4 rfl rfl)
theorem dX5_joins_31 : decode cX5_joins 31 = .ok (.iconst 1, 1) := dk_4 (dk_at dksX5_joins_1 7 rfl rfl)
theorem dX5_joins_32 : decode cX5_joins 32 = .ok (.isub, 1) := dk_100 (dk_at dksX5_joins_1 8 rfl rfl)
theorem dX5_joins_33 : decode cX5_joins 33 = .ok (.iaload, 1) := dk_46 (dk_at dksX5_joins_1 9 rfl rfl)
theorem dX5_joins_34 : decode cX5_joins 34 = .ok (.bipush 22, 2) := dk_16 22 (dk_at dksX5_joins_1 10 rfl rfl)
theorem dX5_joins_36 : decode cX5_joins 36 = .ok (.if_icmp .ne 37, 3) := dk_160 0 37 (dk_at dksX5_joins_1 12 rfl rfl)
theorem dX5_joins_39 : decode cX5_joins 39 = .ok (.iload_n 1, 1) := dk_27 (dk_at dksX5_joins_1 15 rfl rfl)
theorem dX5_joins_40 : decode cX5_joins 40 = .ok (.bipush 22, 2) := dk_16 22 (dk_at dksX5_joins_1 16 rfl rfl)
theorem dX5_joins_42 : decode cX5_joins 42 = .ok (.if_icmp .ne 31, 3) := dk_160 0 31 (dk_at dksX5_joins_1 18 rfl rfl)
theorem dX5_joins_45 : decode cX5_joins 45 = .ok (.aload_n 0, 1) := dk_42 (dk_at dksX5_joins_1 21 rfl rfl)
theorem dX5_joins_46 : decode cX5_joins 46 = .ok (.dup, 1) := dk_89 (dk_at dksX5_joins_1 22 rfl rfl)
theorem dX5_joins_47 : decode cX5_joins 47 = .ok (.getfield 464, 3) := dk_180 1 208 (dk_at dksX5_joins_2 0 rfl rfl)
theorem dX5_joins_50 : decode cX5_joins 50 = .ok (.iconst 1, 1) := dk_4 (dk_at dksX5_joins_2 3 rfl rfl)
theorem dX5_joins_51 : decode cX5_joins 51 = .ok (.isub, 1) := dk_100 (dk_at dksX5_joins_2 4 rfl rfl)
theorem dX5_joins_52 : decode cX5_joins 52 = .ok (.putfield 464, 3) := dk_181 1 208 (dk_at dksX5_joins_2 5 rfl rfl)
theorem dX5_joins_55 : decode cX5_joins 55 = .ok (.aload_n 0, 1) := dk_42 (dk_at dksX5_joins_2 8 rfl rfl)
theorem dX5_joins_56 : decode cX5_joins 56 = .ok (.aload_n 0, 1) := dk_42 (dk_at dksX5_joins_2 9 rfl rfl)
theorem dX5_joins_57 : decode cX5_joins 57 = .ok (.getfield 83, 3) := dk_180 0 83 (dk_at dksX5_joins_2 10 rfl rfl)
theorem dX5_joins_60 : decode cX5_joins 60 = .ok (.aload_n 0, 1) := dk_42 (dk_at dksX5_joins_2 13 rfl rfl)
theorem dX5_joins_61 : decode cX5_joins 61 = .ok (.getfield 464, 3) := dk_180 1 208 (dk_at dksX5_joins_2 14 rfl rfl)
theorem dX5_joins_64 : decode cX5_joins 64 = .ok (.iaload, 1) := dk_46 (dk_at dksX5_joins_2 17 rfl rfl)
theorem dX5_joins_65 : decode cX5_joins 65 = .ok (.iconst 0, 1) := dk_3 (dk_at dksX5_joins_2 18 rfl rfl)
theorem dX5_joins_66 : decode cX5_joins 66 = .ok (.iconst 0, 1) := dk_3 (dk_at dksX5_joins_2 19 rfl rfl)
theorem dX5_joins_67 : decode cX5_joins 67 = .ok (.invokevirtual 467, 3) := dk_182 1 211 (dk_at dksX5_joins_2 20 rfl rfl)
theorem dX5_joins_70 : decode cX5_joins 70 = .ok (.goto (-70), 3) := dk_167 255 186 (dk_at dksX5_joins_3 0 rfl rfl)
theorem dX5_joins_73 : decode cX5_joins 73 = .ok (.return_, 1) := dk_177 (dk_at dksX5_joins_3 3 rfl rfl)
abbrev cX5_behind : ByteArray := prog_29_method_122_code
def yX5_behind : MethodName := ⟨RX5, "behind", "()Z"⟩
def dkwX5_behind_6 : List UInt8 := [42, 182, 0, 187, 4, 172]
abbrev dktX5_behind_6 : List UInt8 := dkwX5_behind_6 ++ []
def dkwX5_behind_5 : List UInt8 := [182, 0, 184, 172, 42, 89, 180, 1, 208, 4, 100, 181, 1, 208, 42, 89, 180, 1, 214, 4, 100, 181, 1, 214]
abbrev dktX5_behind_5 : List UInt8 := dkwX5_behind_5 ++ dktX5_behind_6
def dkwX5_behind_4 : List UInt8 := [16, 22, 182, 1, 229, 42, 16, 41, 182, 0, 181, 153, 0, 10, 42, 180, 1, 208, 154, 0, 9, 42, 4]
abbrev dktX5_behind_4 : List UInt8 := dkwX5_behind_4 ++ dktX5_behind_5
def dkwX5_behind_3 : List UInt8 := [79, 42, 89, 180, 1, 208, 4, 96, 181, 1, 208, 42, 3, 181, 1, 223, 42, 182, 0, 187, 4, 172, 42]
abbrev dktX5_behind_3 : List UInt8 := dkwX5_behind_3 ++ dktX5_behind_4
def dkwX5_behind_2 : List UInt8 := [180, 0, 83, 42, 180, 1, 208, 42, 20, 0, 125, 182, 0, 212, 153, 0, 8, 16, 21, 167, 0, 5, 16, 22]
abbrev dktX5_behind_2 : List UInt8 := dkwX5_behind_2 ++ dktX5_behind_3
def dkwX5_behind_1 : List UInt8 := [42, 42, 20, 0, 125, 182, 0, 212, 153, 0, 8, 16, 21, 167, 0, 5, 16, 22, 182, 1, 229, 42]
abbrev dktX5_behind_1 : List UInt8 := dkwX5_behind_1 ++ dktX5_behind_2
def dkwX5_behind_0 : List UInt8 := [42, 182, 1, 226, 42, 20, 0, 125, 182, 0, 212, 154, 0, 13, 42, 20, 0, 123, 182, 0, 212, 153, 0, 71]
abbrev dktX5_behind_0 : List UInt8 := dkwX5_behind_0 ++ dktX5_behind_1
theorem dksX5_behind_0 : cX5_behind.data.toList.drop 0 = dktX5_behind_0 := by decide +kernel
theorem dksX5_behind_1 : cX5_behind.data.toList.drop 24 = dktX5_behind_1 := dk_seg dksX5_behind_0 24 rfl rfl
theorem dksX5_behind_2 : cX5_behind.data.toList.drop 46 = dktX5_behind_2 := dk_seg dksX5_behind_1 22 rfl rfl
theorem dksX5_behind_3 : cX5_behind.data.toList.drop 70 = dktX5_behind_3 := dk_seg dksX5_behind_2 24 rfl rfl
theorem dksX5_behind_4 : cX5_behind.data.toList.drop 93 = dktX5_behind_4 := dk_seg dksX5_behind_3 23 rfl rfl
theorem dksX5_behind_5 : cX5_behind.data.toList.drop 116 = dktX5_behind_5 := dk_seg dksX5_behind_4 23 rfl rfl
theorem dksX5_behind_6 : cX5_behind.data.toList.drop 140 = dktX5_behind_6 := dk_seg dksX5_behind_5 24 rfl rfl
theorem dX5_behind_0 : decode cX5_behind 0 = .ok (.aload_n 0, 1) := dk_42 (dk_at dksX5_behind_0 0 rfl rfl)
theorem dX5_behind_1 : decode cX5_behind 1 = .ok (.invokevirtual 482, 3) := dk_182 1 226 (dk_at dksX5_behind_0 1 rfl rfl)
theorem dX5_behind_4 : decode cX5_behind 4 = .ok (.aload_n 0, 1) := dk_42 (dk_at dksX5_behind_0 4 rfl rfl)
theorem dX5_behind_5 : decode cX5_behind 5 = .ok (.ldc2_w 125, 3) := dk_20 0 125 (dk_at dksX5_behind_0 5 rfl rfl)
theorem dX5_behind_8 : decode cX5_behind 8 = .ok (.invokevirtual 212, 3) := dk_182 0 212 (dk_at dksX5_behind_0 8 rfl rfl)
theorem dX5_behind_11 : decode cX5_behind 11 = .ok (.ifCond .ne 13, 3) := dk_154 0 13 (dk_at dksX5_behind_0 11 rfl rfl)
theorem dX5_behind_14 : decode cX5_behind 14 = .ok (.aload_n 0, 1) := dk_42 (dk_at dksX5_behind_0 14 rfl rfl)
theorem dX5_behind_15 : decode cX5_behind 15 = .ok (.ldc2_w 123, 3) := dk_20 0 123 (dk_at dksX5_behind_0 15 rfl rfl)
theorem dX5_behind_18 : decode cX5_behind 18 = .ok (.invokevirtual 212, 3) := dk_182 0 212 (dk_at dksX5_behind_0 18 rfl rfl)
theorem dX5_behind_21 : decode cX5_behind 21 = .ok (.ifCond .eq 71, 3) := dk_153 0 71 (dk_at dksX5_behind_0 21 rfl rfl)
theorem dX5_behind_24 : decode cX5_behind 24 = .ok (.aload_n 0, 1) := dk_42 (dk_at dksX5_behind_1 0 rfl rfl)
theorem dX5_behind_25 : decode cX5_behind 25 = .ok (.aload_n 0, 1) := dk_42 (dk_at dksX5_behind_1 1 rfl rfl)
theorem dX5_behind_26 : decode cX5_behind 26 = .ok (.ldc2_w 125, 3) := dk_20 0 125 (dk_at dksX5_behind_1 2 rfl rfl)
theorem dX5_behind_29 : decode cX5_behind 29 = .ok (.invokevirtual 212, 3) := dk_182 0 212 (dk_at dksX5_behind_1 5 rfl rfl)
theorem dX5_behind_32 : decode cX5_behind 32 = .ok (.ifCond .eq 8, 3) := dk_153 0 8 (dk_at dksX5_behind_1 8 rfl rfl)
theorem dX5_behind_35 : decode cX5_behind 35 = .ok (.bipush 21, 2) := dk_16 21 (dk_at dksX5_behind_1 11 rfl rfl)
theorem dX5_behind_37 : decode cX5_behind 37 = .ok (.goto 5, 3) := dk_167 0 5 (dk_at dksX5_behind_1 13 rfl rfl)
theorem dX5_behind_40 : decode cX5_behind 40 = .ok (.bipush 22, 2) := dk_16 22 (dk_at dksX5_behind_1 16 rfl rfl)
theorem dX5_behind_42 : decode cX5_behind 42 = .ok (.invokevirtual 485, 3) := dk_182 1 229 (dk_at dksX5_behind_1 18 rfl rfl)
theorem dX5_behind_45 : decode cX5_behind 45 = .ok (.aload_n 0, 1) := dk_42 (dk_at dksX5_behind_1 21 rfl rfl)
theorem dX5_behind_46 : decode cX5_behind 46 = .ok (.getfield 83, 3) := dk_180 0 83 (dk_at dksX5_behind_2 0 rfl rfl)
theorem dX5_behind_49 : decode cX5_behind 49 = .ok (.aload_n 0, 1) := dk_42 (dk_at dksX5_behind_2 3 rfl rfl)
theorem dX5_behind_50 : decode cX5_behind 50 = .ok (.getfield 464, 3) := dk_180 1 208 (dk_at dksX5_behind_2 4 rfl rfl)
theorem dX5_behind_53 : decode cX5_behind 53 = .ok (.aload_n 0, 1) := dk_42 (dk_at dksX5_behind_2 7 rfl rfl)
theorem dX5_behind_54 : decode cX5_behind 54 = .ok (.ldc2_w 125, 3) := dk_20 0 125 (dk_at dksX5_behind_2 8 rfl rfl)
theorem dX5_behind_57 : decode cX5_behind 57 = .ok (.invokevirtual 212, 3) := dk_182 0 212 (dk_at dksX5_behind_2 11 rfl rfl)
theorem dX5_behind_60 : decode cX5_behind 60 = .ok (.ifCond .eq 8, 3) := dk_153 0 8 (dk_at dksX5_behind_2 14 rfl rfl)
theorem dX5_behind_63 : decode cX5_behind 63 = .ok (.bipush 21, 2) := dk_16 21 (dk_at dksX5_behind_2 17 rfl rfl)
theorem dX5_behind_65 : decode cX5_behind 65 = .ok (.goto 5, 3) := dk_167 0 5 (dk_at dksX5_behind_2 19 rfl rfl)
theorem dX5_behind_68 : decode cX5_behind 68 = .ok (.bipush 22, 2) := dk_16 22 (dk_at dksX5_behind_2 22 rfl rfl)
theorem dX5_behind_70 : decode cX5_behind 70 = .ok (.iastore, 1) := dk_79 (dk_at dksX5_behind_3 0 rfl rfl)
theorem dX5_behind_71 : decode cX5_behind 71 = .ok (.aload_n 0, 1) := dk_42 (dk_at dksX5_behind_3 1 rfl rfl)
theorem dX5_behind_72 : decode cX5_behind 72 = .ok (.dup, 1) := dk_89 (dk_at dksX5_behind_3 2 rfl rfl)
theorem dX5_behind_73 : decode cX5_behind 73 = .ok (.getfield 464, 3) := dk_180 1 208 (dk_at dksX5_behind_3 3 rfl rfl)
theorem dX5_behind_76 : decode cX5_behind 76 = .ok (.iconst 1, 1) := dk_4 (dk_at dksX5_behind_3 6 rfl rfl)
theorem dX5_behind_77 : decode cX5_behind 77 = .ok (.iadd, 1) := dk_96 (dk_at dksX5_behind_3 7 rfl rfl)
theorem dX5_behind_78 : decode cX5_behind 78 = .ok (.putfield 464, 3) := dk_181 1 208 (dk_at dksX5_behind_3 8 rfl rfl)
theorem dX5_behind_81 : decode cX5_behind 81 = .ok (.aload_n 0, 1) := dk_42 (dk_at dksX5_behind_3 11 rfl rfl)
theorem dX5_behind_82 : decode cX5_behind 82 = .ok (.iconst 0, 1) := dk_3 (dk_at dksX5_behind_3 12 rfl rfl)
theorem dX5_behind_83 : decode cX5_behind 83 = .ok (.putfield 479, 3) := dk_181 1 223 (dk_at dksX5_behind_3 13 rfl rfl)
theorem dX5_behind_86 : decode cX5_behind 86 = .ok (.aload_n 0, 1) := dk_42 (dk_at dksX5_behind_3 16 rfl rfl)
theorem dX5_behind_87 : decode cX5_behind 87 = .ok (.invokevirtual 187, 3) := dk_182 0 187 (dk_at dksX5_behind_3 17 rfl rfl)
theorem dX5_behind_90 : decode cX5_behind 90 = .ok (.iconst 1, 1) := dk_4 (dk_at dksX5_behind_3 20 rfl rfl)
theorem dX5_behind_91 : decode cX5_behind 91 = .ok (.ireturn, 1) := dk_172 (dk_at dksX5_behind_3 21 rfl rfl)
theorem dX5_behind_92 : decode cX5_behind 92 = .ok (.aload_n 0, 1) := dk_42 (dk_at dksX5_behind_3 22 rfl rfl)
theorem dX5_behind_93 : decode cX5_behind 93 = .ok (.bipush 22, 2) := dk_16 22 (dk_at dksX5_behind_4 0 rfl rfl)
theorem dX5_behind_95 : decode cX5_behind 95 = .ok (.invokevirtual 485, 3) := dk_182 1 229 (dk_at dksX5_behind_4 2 rfl rfl)
theorem dX5_behind_98 : decode cX5_behind 98 = .ok (.aload_n 0, 1) := dk_42 (dk_at dksX5_behind_4 5 rfl rfl)
theorem dX5_behind_99 : decode cX5_behind 99 = .ok (.bipush 41, 2) := dk_16 41 (dk_at dksX5_behind_4 6 rfl rfl)
theorem dX5_behind_101 : decode cX5_behind 101 = .ok (.invokevirtual 181, 3) := dk_182 0 181 (dk_at dksX5_behind_4 8 rfl rfl)
theorem dX5_behind_104 : decode cX5_behind 104 = .ok (.ifCond .eq 10, 3) := dk_153 0 10 (dk_at dksX5_behind_4 11 rfl rfl)
theorem dX5_behind_107 : decode cX5_behind 107 = .ok (.aload_n 0, 1) := dk_42 (dk_at dksX5_behind_4 14 rfl rfl)
theorem dX5_behind_108 : decode cX5_behind 108 = .ok (.getfield 464, 3) := dk_180 1 208 (dk_at dksX5_behind_4 15 rfl rfl)
theorem dX5_behind_111 : decode cX5_behind 111 = .ok (.ifCond .ne 9, 3) := dk_154 0 9 (dk_at dksX5_behind_4 18 rfl rfl)
theorem dX5_behind_114 : decode cX5_behind 114 = .ok (.aload_n 0, 1) := dk_42 (dk_at dksX5_behind_4 21 rfl rfl)
theorem dX5_behind_115 : decode cX5_behind 115 = .ok (.iconst 1, 1) := dk_4 (dk_at dksX5_behind_4 22 rfl rfl)
theorem dX5_behind_116 : decode cX5_behind 116 = .ok (.invokevirtual 184, 3) := dk_182 0 184 (dk_at dksX5_behind_5 0 rfl rfl)
theorem dX5_behind_119 : decode cX5_behind 119 = .ok (.ireturn, 1) := dk_172 (dk_at dksX5_behind_5 3 rfl rfl)
theorem dX5_behind_120 : decode cX5_behind 120 = .ok (.aload_n 0, 1) := dk_42 (dk_at dksX5_behind_5 4 rfl rfl)
theorem dX5_behind_121 : decode cX5_behind 121 = .ok (.dup, 1) := dk_89 (dk_at dksX5_behind_5 5 rfl rfl)
theorem dX5_behind_122 : decode cX5_behind 122 = .ok (.getfield 464, 3) := dk_180 1 208 (dk_at dksX5_behind_5 6 rfl rfl)
theorem dX5_behind_125 : decode cX5_behind 125 = .ok (.iconst 1, 1) := dk_4 (dk_at dksX5_behind_5 9 rfl rfl)
theorem dX5_behind_126 : decode cX5_behind 126 = .ok (.isub, 1) := dk_100 (dk_at dksX5_behind_5 10 rfl rfl)
theorem dX5_behind_127 : decode cX5_behind 127 = .ok (.putfield 464, 3) := dk_181 1 208 (dk_at dksX5_behind_5 11 rfl rfl)
theorem dX5_behind_130 : decode cX5_behind 130 = .ok (.aload_n 0, 1) := dk_42 (dk_at dksX5_behind_5 14 rfl rfl)
theorem dX5_behind_131 : decode cX5_behind 131 = .ok (.dup, 1) := dk_89 (dk_at dksX5_behind_5 15 rfl rfl)
theorem dX5_behind_132 : decode cX5_behind 132 = .ok (.getfield 470, 3) := dk_180 1 214 (dk_at dksX5_behind_5 16 rfl rfl)
theorem dX5_behind_135 : decode cX5_behind 135 = .ok (.iconst 1, 1) := dk_4 (dk_at dksX5_behind_5 19 rfl rfl)
theorem dX5_behind_136 : decode cX5_behind 136 = .ok (.isub, 1) := dk_100 (dk_at dksX5_behind_5 20 rfl rfl)
theorem dX5_behind_137 : decode cX5_behind 137 = .ok (.putfield 470, 3) := dk_181 1 214 (dk_at dksX5_behind_5 21 rfl rfl)
theorem dX5_behind_140 : decode cX5_behind 140 = .ok (.aload_n 0, 1) := dk_42 (dk_at dksX5_behind_6 0 rfl rfl)
theorem dX5_behind_141 : decode cX5_behind 141 = .ok (.invokevirtual 187, 3) := dk_182 0 187 (dk_at dksX5_behind_6 1 rfl rfl)
theorem dX5_behind_144 : decode cX5_behind 144 = .ok (.iconst 1, 1) := dk_4 (dk_at dksX5_behind_6 4 rfl rfl)
theorem dX5_behind_145 : decode cX5_behind 145 = .ok (.ireturn, 1) := dk_172 (dk_at dksX5_behind_6 5 rfl rfl)
abbrev cX5_operand : ByteArray := prog_29_method_121_code
def yX5_operand : MethodName := ⟨RX5, "operand", "()Z"⟩
def dkwX5_operand_10 : List UInt8 := [29, 21, 4, 42, 180, 0, 168, 182, 1, 211, 42, 182, 0, 187, 4, 172]
abbrev dktX5_operand_10 : List UInt8 := dkwX5_operand_10 ++ []
def dkwX5_operand_9 : List UInt8 := [180, 0, 168, 54, 4, 42, 182, 0, 187, 42, 180, 0, 158, 5, 159, 0, 9, 42, 4, 182, 0, 184, 172, 42]
abbrev dktX5_operand_9 : List UInt8 := dkwX5_operand_9 ++ dktX5_operand_10
def dkwX5_operand_8 : List UInt8 := [180, 0, 168, 16, 60, 161, 0, 12, 42, 180, 0, 168, 16, 62, 164, 0, 9, 42, 4, 182, 0, 184, 172, 42]
abbrev dktX5_operand_8 : List UInt8 := dkwX5_operand_8 ++ dktX5_operand_9
def dkwX5_operand_7 : List UInt8 := [3, 42, 180, 0, 194, 182, 1, 211, 42, 182, 0, 187, 4, 172, 42, 180, 0, 158, 6, 160, 0, 21, 42]
abbrev dktX5_operand_7 : List UInt8 := dkwX5_operand_7 ++ dktX5_operand_8
def dkwX5_operand_6 : List UInt8 := [172, 29, 8, 162, 0, 35, 42, 3, 42, 180, 0, 33, 3, 46, 182, 0, 209, 154, 0, 5, 3, 172, 42, 29]
abbrev dktX5_operand_6 : List UInt8 := dkwX5_operand_6 ++ dktX5_operand_7
def dkwX5_operand_5 : List UInt8 := [96, 181, 1, 214, 4, 172, 42, 4, 181, 1, 223, 29, 6, 162, 0, 12, 42, 29, 3, 3, 182, 1, 211, 4]
abbrev dktX5_operand_5 : List UInt8 := dkwX5_operand_5 ++ dktX5_operand_6
def dkwX5_operand_4 : List UInt8 := [16, 20, 167, 0, 5, 16, 23, 79, 42, 89, 180, 1, 208, 4, 96, 181, 1, 208, 42, 89, 180, 1, 214, 4]
abbrev dktX5_operand_4 : List UInt8 := dkwX5_operand_4 ++ dktX5_operand_5
def dkwX5_operand_3 : List UInt8 := [42, 182, 0, 187, 27, 154, 0, 7, 28, 153, 0, 45, 42, 180, 0, 83, 42, 180, 1, 208, 27, 153, 0, 8]
abbrev dktX5_operand_3 : List UInt8 := dkwX5_operand_3 ++ dktX5_operand_4
def dkwX5_operand_2 : List UInt8 := [180, 1, 214, 16, 8, 164, 0, 9, 42, 7, 182, 0, 184, 172, 42, 89, 180, 1, 220, 4, 96, 181, 1, 220]
abbrev dktX5_operand_2 : List UInt8 := dkwX5_operand_2 ++ dktX5_operand_3
def dkwX5_operand_1 : List UInt8 := [28, 154, 0, 13, 29, 156, 0, 9, 42, 4, 182, 0, 184, 172, 42, 180, 1, 220, 16, 20, 159, 0, 12, 42]
abbrev dktX5_operand_1 : List UInt8 := dkwX5_operand_1 ++ dktX5_operand_2
def dkwX5_operand_0 : List UInt8 := [42, 20, 0, 127, 182, 0, 212, 60, 42, 16, 40, 182, 0, 181, 61, 42, 182, 1, 217, 62, 27, 154, 0, 17]
abbrev dktX5_operand_0 : List UInt8 := dkwX5_operand_0 ++ dktX5_operand_1
theorem dksX5_operand_0 : cX5_operand.data.toList.drop 0 = dktX5_operand_0 := by decide +kernel
theorem dksX5_operand_1 : cX5_operand.data.toList.drop 24 = dktX5_operand_1 := dk_seg dksX5_operand_0 24 rfl rfl
theorem dksX5_operand_2 : cX5_operand.data.toList.drop 48 = dktX5_operand_2 := dk_seg dksX5_operand_1 24 rfl rfl
theorem dksX5_operand_3 : cX5_operand.data.toList.drop 72 = dktX5_operand_3 := dk_seg dksX5_operand_2 24 rfl rfl
theorem dksX5_operand_4 : cX5_operand.data.toList.drop 96 = dktX5_operand_4 := dk_seg dksX5_operand_3 24 rfl rfl
theorem dksX5_operand_5 : cX5_operand.data.toList.drop 120 = dktX5_operand_5 := dk_seg dksX5_operand_4 24 rfl rfl
theorem dksX5_operand_6 : cX5_operand.data.toList.drop 144 = dktX5_operand_6 := dk_seg dksX5_operand_5 24 rfl rfl
theorem dksX5_operand_7 : cX5_operand.data.toList.drop 168 = dktX5_operand_7 := dk_seg dksX5_operand_6 24 rfl rfl
theorem dksX5_operand_8 : cX5_operand.data.toList.drop 191 = dktX5_operand_8 := dk_seg dksX5_operand_7 23 rfl rfl
theorem dksX5_operand_9 : cX5_operand.data.toList.drop 215 = dktX5_operand_9 := dk_seg dksX5_operand_8 24 rfl rfl
theorem dksX5_operand_10 : cX5_operand.data.toList.drop 239 = dktX5_operand_10 := dk_seg dksX5_operand_9 24 rfl rfl
theorem dX5_operand_0 : decode cX5_operand 0 = .ok (.aload_n 0, 1) := dk_42 (dk_at dksX5_operand_0 0 rfl rfl)
theorem dX5_operand_1 : decode cX5_operand 1 = .ok (.ldc2_w 127, 3) := dk_20 0 127 (dk_at dksX5_operand_0 1 rfl rfl)
theorem dX5_operand_4 : decode cX5_operand 4 = .ok (.invokevirtual 212, 3) := dk_182 0 212 (dk_at dksX5_operand_0 4 rfl rfl)
theorem dX5_operand_7 : decode cX5_operand 7 = .ok (.istore_n 1, 1) := dk_60 (dk_at dksX5_operand_0 7 rfl rfl)
theorem dX5_operand_8 : decode cX5_operand 8 = .ok (.aload_n 0, 1) := dk_42 (dk_at dksX5_operand_0 8 rfl rfl)
theorem dX5_operand_9 : decode cX5_operand 9 = .ok (.bipush 40, 2) := dk_16 40 (dk_at dksX5_operand_0 9 rfl rfl)
theorem dX5_operand_11 : decode cX5_operand 11 = .ok (.invokevirtual 181, 3) := dk_182 0 181 (dk_at dksX5_operand_0 11 rfl rfl)
theorem dX5_operand_14 : decode cX5_operand 14 = .ok (.istore_n 2, 1) := dk_61 (dk_at dksX5_operand_0 14 rfl rfl)
theorem dX5_operand_15 : decode cX5_operand 15 = .ok (.aload_n 0, 1) := dk_42 (dk_at dksX5_operand_0 15 rfl rfl)
theorem dX5_operand_16 : decode cX5_operand 16 = .ok (.invokevirtual 473, 3) := dk_182 1 217 (dk_at dksX5_operand_0 16 rfl rfl)
theorem dX5_operand_19 : decode cX5_operand 19 = .ok (.istore_n 3, 1) := dk_62 (dk_at dksX5_operand_0 19 rfl rfl)
theorem dX5_operand_20 : decode cX5_operand 20 = .ok (.iload_n 1, 1) := dk_27 (dk_at dksX5_operand_0 20 rfl rfl)
theorem dX5_operand_21 : decode cX5_operand 21 = .ok (.ifCond .ne 17, 3) := dk_154 0 17 (dk_at dksX5_operand_0 21 rfl rfl)
theorem dX5_operand_24 : decode cX5_operand 24 = .ok (.iload_n 2, 1) := dk_28 (dk_at dksX5_operand_1 0 rfl rfl)
theorem dX5_operand_25 : decode cX5_operand 25 = .ok (.ifCond .ne 13, 3) := dk_154 0 13 (dk_at dksX5_operand_1 1 rfl rfl)
theorem dX5_operand_28 : decode cX5_operand 28 = .ok (.iload_n 3, 1) := dk_29 (dk_at dksX5_operand_1 4 rfl rfl)
theorem dX5_operand_29 : decode cX5_operand 29 = .ok (.ifCond .ge 9, 3) := dk_156 0 9 (dk_at dksX5_operand_1 5 rfl rfl)
theorem dX5_operand_32 : decode cX5_operand 32 = .ok (.aload_n 0, 1) := dk_42 (dk_at dksX5_operand_1 8 rfl rfl)
theorem dX5_operand_33 : decode cX5_operand 33 = .ok (.iconst 1, 1) := dk_4 (dk_at dksX5_operand_1 9 rfl rfl)
theorem dX5_operand_34 : decode cX5_operand 34 = .ok (.invokevirtual 184, 3) := dk_182 0 184 (dk_at dksX5_operand_1 10 rfl rfl)
theorem dX5_operand_37 : decode cX5_operand 37 = .ok (.ireturn, 1) := dk_172 (dk_at dksX5_operand_1 13 rfl rfl)
theorem dX5_operand_38 : decode cX5_operand 38 = .ok (.aload_n 0, 1) := dk_42 (dk_at dksX5_operand_1 14 rfl rfl)
theorem dX5_operand_39 : decode cX5_operand 39 = .ok (.getfield 476, 3) := dk_180 1 220 (dk_at dksX5_operand_1 15 rfl rfl)
theorem dX5_operand_42 : decode cX5_operand 42 = .ok (.bipush 20, 2) := dk_16 20 (dk_at dksX5_operand_1 18 rfl rfl)
theorem dX5_operand_44 : decode cX5_operand 44 = .ok (.if_icmp .eq 12, 3) := dk_159 0 12 (dk_at dksX5_operand_1 20 rfl rfl)
theorem dX5_operand_47 : decode cX5_operand 47 = .ok (.aload_n 0, 1) := dk_42 (dk_at dksX5_operand_1 23 rfl rfl)
theorem dX5_operand_48 : decode cX5_operand 48 = .ok (.getfield 470, 3) := dk_180 1 214 (dk_at dksX5_operand_2 0 rfl rfl)
theorem dX5_operand_51 : decode cX5_operand 51 = .ok (.bipush 8, 2) := dk_16 8 (dk_at dksX5_operand_2 3 rfl rfl)
theorem dX5_operand_53 : decode cX5_operand 53 = .ok (.if_icmp .le 9, 3) := dk_164 0 9 (dk_at dksX5_operand_2 5 rfl rfl)
theorem dX5_operand_56 : decode cX5_operand 56 = .ok (.aload_n 0, 1) := dk_42 (dk_at dksX5_operand_2 8 rfl rfl)
theorem dX5_operand_57 : decode cX5_operand 57 = .ok (.iconst 4, 1) := dk_7 (dk_at dksX5_operand_2 9 rfl rfl)
theorem dX5_operand_58 : decode cX5_operand 58 = .ok (.invokevirtual 184, 3) := dk_182 0 184 (dk_at dksX5_operand_2 10 rfl rfl)
theorem dX5_operand_61 : decode cX5_operand 61 = .ok (.ireturn, 1) := dk_172 (dk_at dksX5_operand_2 13 rfl rfl)
theorem dX5_operand_62 : decode cX5_operand 62 = .ok (.aload_n 0, 1) := dk_42 (dk_at dksX5_operand_2 14 rfl rfl)
theorem dX5_operand_63 : decode cX5_operand 63 = .ok (.dup, 1) := dk_89 (dk_at dksX5_operand_2 15 rfl rfl)
theorem dX5_operand_64 : decode cX5_operand 64 = .ok (.getfield 476, 3) := dk_180 1 220 (dk_at dksX5_operand_2 16 rfl rfl)
theorem dX5_operand_67 : decode cX5_operand 67 = .ok (.iconst 1, 1) := dk_4 (dk_at dksX5_operand_2 19 rfl rfl)
theorem dX5_operand_68 : decode cX5_operand 68 = .ok (.iadd, 1) := dk_96 (dk_at dksX5_operand_2 20 rfl rfl)
theorem dX5_operand_69 : decode cX5_operand 69 = .ok (.putfield 476, 3) := dk_181 1 220 (dk_at dksX5_operand_2 21 rfl rfl)
theorem dX5_operand_72 : decode cX5_operand 72 = .ok (.aload_n 0, 1) := dk_42 (dk_at dksX5_operand_3 0 rfl rfl)
theorem dX5_operand_73 : decode cX5_operand 73 = .ok (.invokevirtual 187, 3) := dk_182 0 187 (dk_at dksX5_operand_3 1 rfl rfl)
theorem dX5_operand_76 : decode cX5_operand 76 = .ok (.iload_n 1, 1) := dk_27 (dk_at dksX5_operand_3 4 rfl rfl)
theorem dX5_operand_77 : decode cX5_operand 77 = .ok (.ifCond .ne 7, 3) := dk_154 0 7 (dk_at dksX5_operand_3 5 rfl rfl)
theorem dX5_operand_80 : decode cX5_operand 80 = .ok (.iload_n 2, 1) := dk_28 (dk_at dksX5_operand_3 8 rfl rfl)
theorem dX5_operand_81 : decode cX5_operand 81 = .ok (.ifCond .eq 45, 3) := dk_153 0 45 (dk_at dksX5_operand_3 9 rfl rfl)
theorem dX5_operand_84 : decode cX5_operand 84 = .ok (.aload_n 0, 1) := dk_42 (dk_at dksX5_operand_3 12 rfl rfl)
theorem dX5_operand_85 : decode cX5_operand 85 = .ok (.getfield 83, 3) := dk_180 0 83 (dk_at dksX5_operand_3 13 rfl rfl)
theorem dX5_operand_88 : decode cX5_operand 88 = .ok (.aload_n 0, 1) := dk_42 (dk_at dksX5_operand_3 16 rfl rfl)
theorem dX5_operand_89 : decode cX5_operand 89 = .ok (.getfield 464, 3) := dk_180 1 208 (dk_at dksX5_operand_3 17 rfl rfl)
theorem dX5_operand_92 : decode cX5_operand 92 = .ok (.iload_n 1, 1) := dk_27 (dk_at dksX5_operand_3 20 rfl rfl)
theorem dX5_operand_93 : decode cX5_operand 93 = .ok (.ifCond .eq 8, 3) := dk_153 0 8 (dk_at dksX5_operand_3 21 rfl rfl)
theorem dX5_operand_96 : decode cX5_operand 96 = .ok (.bipush 20, 2) := dk_16 20 (dk_at dksX5_operand_4 0 rfl rfl)
theorem dX5_operand_98 : decode cX5_operand 98 = .ok (.goto 5, 3) := dk_167 0 5 (dk_at dksX5_operand_4 2 rfl rfl)
theorem dX5_operand_101 : decode cX5_operand 101 = .ok (.bipush 23, 2) := dk_16 23 (dk_at dksX5_operand_4 5 rfl rfl)
theorem dX5_operand_103 : decode cX5_operand 103 = .ok (.iastore, 1) := dk_79 (dk_at dksX5_operand_4 7 rfl rfl)
theorem dX5_operand_104 : decode cX5_operand 104 = .ok (.aload_n 0, 1) := dk_42 (dk_at dksX5_operand_4 8 rfl rfl)
theorem dX5_operand_105 : decode cX5_operand 105 = .ok (.dup, 1) := dk_89 (dk_at dksX5_operand_4 9 rfl rfl)
theorem dX5_operand_106 : decode cX5_operand 106 = .ok (.getfield 464, 3) := dk_180 1 208 (dk_at dksX5_operand_4 10 rfl rfl)
theorem dX5_operand_109 : decode cX5_operand 109 = .ok (.iconst 1, 1) := dk_4 (dk_at dksX5_operand_4 13 rfl rfl)
theorem dX5_operand_110 : decode cX5_operand 110 = .ok (.iadd, 1) := dk_96 (dk_at dksX5_operand_4 14 rfl rfl)
theorem dX5_operand_111 : decode cX5_operand 111 = .ok (.putfield 464, 3) := dk_181 1 208 (dk_at dksX5_operand_4 15 rfl rfl)
theorem dX5_operand_114 : decode cX5_operand 114 = .ok (.aload_n 0, 1) := dk_42 (dk_at dksX5_operand_4 18 rfl rfl)
theorem dX5_operand_115 : decode cX5_operand 115 = .ok (.dup, 1) := dk_89 (dk_at dksX5_operand_4 19 rfl rfl)
theorem dX5_operand_116 : decode cX5_operand 116 = .ok (.getfield 470, 3) := dk_180 1 214 (dk_at dksX5_operand_4 20 rfl rfl)
theorem dX5_operand_119 : decode cX5_operand 119 = .ok (.iconst 1, 1) := dk_4 (dk_at dksX5_operand_4 23 rfl rfl)
theorem dX5_operand_120 : decode cX5_operand 120 = .ok (.iadd, 1) := dk_96 (dk_at dksX5_operand_5 0 rfl rfl)
theorem dX5_operand_121 : decode cX5_operand 121 = .ok (.putfield 470, 3) := dk_181 1 214 (dk_at dksX5_operand_5 1 rfl rfl)
theorem dX5_operand_124 : decode cX5_operand 124 = .ok (.iconst 1, 1) := dk_4 (dk_at dksX5_operand_5 4 rfl rfl)
theorem dX5_operand_125 : decode cX5_operand 125 = .ok (.ireturn, 1) := dk_172 (dk_at dksX5_operand_5 5 rfl rfl)
theorem dX5_operand_126 : decode cX5_operand 126 = .ok (.aload_n 0, 1) := dk_42 (dk_at dksX5_operand_5 6 rfl rfl)
theorem dX5_operand_127 : decode cX5_operand 127 = .ok (.iconst 1, 1) := dk_4 (dk_at dksX5_operand_5 7 rfl rfl)
theorem dX5_operand_128 : decode cX5_operand 128 = .ok (.putfield 479, 3) := dk_181 1 223 (dk_at dksX5_operand_5 8 rfl rfl)
theorem dX5_operand_131 : decode cX5_operand 131 = .ok (.iload_n 3, 1) := dk_29 (dk_at dksX5_operand_5 11 rfl rfl)
theorem dX5_operand_132 : decode cX5_operand 132 = .ok (.iconst 3, 1) := dk_6 (dk_at dksX5_operand_5 12 rfl rfl)
theorem dX5_operand_133 : decode cX5_operand 133 = .ok (.if_icmp .ge 12, 3) := dk_162 0 12 (dk_at dksX5_operand_5 13 rfl rfl)
theorem dX5_operand_136 : decode cX5_operand 136 = .ok (.aload_n 0, 1) := dk_42 (dk_at dksX5_operand_5 16 rfl rfl)
theorem dX5_operand_137 : decode cX5_operand 137 = .ok (.iload_n 3, 1) := dk_29 (dk_at dksX5_operand_5 17 rfl rfl)
theorem dX5_operand_138 : decode cX5_operand 138 = .ok (.iconst 0, 1) := dk_3 (dk_at dksX5_operand_5 18 rfl rfl)
theorem dX5_operand_139 : decode cX5_operand 139 = .ok (.iconst 0, 1) := dk_3 (dk_at dksX5_operand_5 19 rfl rfl)
theorem dX5_operand_140 : decode cX5_operand 140 = .ok (.invokevirtual 467, 3) := dk_182 1 211 (dk_at dksX5_operand_5 20 rfl rfl)
theorem dX5_operand_143 : decode cX5_operand 143 = .ok (.iconst 1, 1) := dk_4 (dk_at dksX5_operand_5 23 rfl rfl)
theorem dX5_operand_144 : decode cX5_operand 144 = .ok (.ireturn, 1) := dk_172 (dk_at dksX5_operand_6 0 rfl rfl)
theorem dX5_operand_145 : decode cX5_operand 145 = .ok (.iload_n 3, 1) := dk_29 (dk_at dksX5_operand_6 1 rfl rfl)
theorem dX5_operand_146 : decode cX5_operand 146 = .ok (.iconst 5, 1) := dk_8 (dk_at dksX5_operand_6 2 rfl rfl)
theorem dX5_operand_147 : decode cX5_operand 147 = .ok (.if_icmp .ge 35, 3) := dk_162 0 35 (dk_at dksX5_operand_6 3 rfl rfl)
theorem dX5_operand_150 : decode cX5_operand 150 = .ok (.aload_n 0, 1) := dk_42 (dk_at dksX5_operand_6 6 rfl rfl)
theorem dX5_operand_151 : decode cX5_operand 151 = .ok (.iconst 0, 1) := dk_3 (dk_at dksX5_operand_6 7 rfl rfl)
theorem dX5_operand_152 : decode cX5_operand 152 = .ok (.aload_n 0, 1) := dk_42 (dk_at dksX5_operand_6 8 rfl rfl)
theorem dX5_operand_153 : decode cX5_operand 153 = .ok (.getfield 33, 3) := dk_180 0 33 (dk_at dksX5_operand_6 9 rfl rfl)
theorem dX5_operand_156 : decode cX5_operand 156 = .ok (.iconst 0, 1) := dk_3 (dk_at dksX5_operand_6 12 rfl rfl)
theorem dX5_operand_157 : decode cX5_operand 157 = .ok (.iaload, 1) := dk_46 (dk_at dksX5_operand_6 13 rfl rfl)
theorem dX5_operand_158 : decode cX5_operand 158 = .ok (.invokevirtual 209, 3) := dk_182 0 209 (dk_at dksX5_operand_6 14 rfl rfl)
theorem dX5_operand_161 : decode cX5_operand 161 = .ok (.ifCond .ne 5, 3) := dk_154 0 5 (dk_at dksX5_operand_6 17 rfl rfl)
theorem dX5_operand_164 : decode cX5_operand 164 = .ok (.iconst 0, 1) := dk_3 (dk_at dksX5_operand_6 20 rfl rfl)
theorem dX5_operand_165 : decode cX5_operand 165 = .ok (.ireturn, 1) := dk_172 (dk_at dksX5_operand_6 21 rfl rfl)
theorem dX5_operand_166 : decode cX5_operand 166 = .ok (.aload_n 0, 1) := dk_42 (dk_at dksX5_operand_6 22 rfl rfl)
theorem dX5_operand_167 : decode cX5_operand 167 = .ok (.iload_n 3, 1) := dk_29 (dk_at dksX5_operand_6 23 rfl rfl)
theorem dX5_operand_168 : decode cX5_operand 168 = .ok (.iconst 0, 1) := dk_3 (dk_at dksX5_operand_7 0 rfl rfl)
theorem dX5_operand_169 : decode cX5_operand 169 = .ok (.aload_n 0, 1) := dk_42 (dk_at dksX5_operand_7 1 rfl rfl)
theorem dX5_operand_170 : decode cX5_operand 170 = .ok (.getfield 194, 3) := dk_180 0 194 (dk_at dksX5_operand_7 2 rfl rfl)
theorem dX5_operand_173 : decode cX5_operand 173 = .ok (.invokevirtual 467, 3) := dk_182 1 211 (dk_at dksX5_operand_7 5 rfl rfl)
theorem dX5_operand_176 : decode cX5_operand 176 = .ok (.aload_n 0, 1) := dk_42 (dk_at dksX5_operand_7 8 rfl rfl)
theorem dX5_operand_177 : decode cX5_operand 177 = .ok (.invokevirtual 187, 3) := dk_182 0 187 (dk_at dksX5_operand_7 9 rfl rfl)
theorem dX5_operand_180 : decode cX5_operand 180 = .ok (.iconst 1, 1) := dk_4 (dk_at dksX5_operand_7 12 rfl rfl)
theorem dX5_operand_181 : decode cX5_operand 181 = .ok (.ireturn, 1) := dk_172 (dk_at dksX5_operand_7 13 rfl rfl)
theorem dX5_operand_182 : decode cX5_operand 182 = .ok (.aload_n 0, 1) := dk_42 (dk_at dksX5_operand_7 14 rfl rfl)
theorem dX5_operand_183 : decode cX5_operand 183 = .ok (.getfield 158, 3) := dk_180 0 158 (dk_at dksX5_operand_7 15 rfl rfl)
theorem dX5_operand_186 : decode cX5_operand 186 = .ok (.iconst 3, 1) := dk_6 (dk_at dksX5_operand_7 18 rfl rfl)
theorem dX5_operand_187 : decode cX5_operand 187 = .ok (.if_icmp .ne 21, 3) := dk_160 0 21 (dk_at dksX5_operand_7 19 rfl rfl)
theorem dX5_operand_190 : decode cX5_operand 190 = .ok (.aload_n 0, 1) := dk_42 (dk_at dksX5_operand_7 22 rfl rfl)
theorem dX5_operand_191 : decode cX5_operand 191 = .ok (.getfield 168, 3) := dk_180 0 168 (dk_at dksX5_operand_8 0 rfl rfl)
theorem dX5_operand_194 : decode cX5_operand 194 = .ok (.bipush 60, 2) := dk_16 60 (dk_at dksX5_operand_8 3 rfl rfl)
theorem dX5_operand_196 : decode cX5_operand 196 = .ok (.if_icmp .lt 12, 3) := dk_161 0 12 (dk_at dksX5_operand_8 5 rfl rfl)
theorem dX5_operand_199 : decode cX5_operand 199 = .ok (.aload_n 0, 1) := dk_42 (dk_at dksX5_operand_8 8 rfl rfl)
theorem dX5_operand_200 : decode cX5_operand 200 = .ok (.getfield 168, 3) := dk_180 0 168 (dk_at dksX5_operand_8 9 rfl rfl)
theorem dX5_operand_203 : decode cX5_operand 203 = .ok (.bipush 62, 2) := dk_16 62 (dk_at dksX5_operand_8 12 rfl rfl)
theorem dX5_operand_205 : decode cX5_operand 205 = .ok (.if_icmp .le 9, 3) := dk_164 0 9 (dk_at dksX5_operand_8 14 rfl rfl)
theorem dX5_operand_208 : decode cX5_operand 208 = .ok (.aload_n 0, 1) := dk_42 (dk_at dksX5_operand_8 17 rfl rfl)
theorem dX5_operand_209 : decode cX5_operand 209 = .ok (.iconst 1, 1) := dk_4 (dk_at dksX5_operand_8 18 rfl rfl)
theorem dX5_operand_210 : decode cX5_operand 210 = .ok (.invokevirtual 184, 3) := dk_182 0 184 (dk_at dksX5_operand_8 19 rfl rfl)
theorem dX5_operand_213 : decode cX5_operand 213 = .ok (.ireturn, 1) := dk_172 (dk_at dksX5_operand_8 22 rfl rfl)
theorem dX5_operand_214 : decode cX5_operand 214 = .ok (.aload_n 0, 1) := dk_42 (dk_at dksX5_operand_8 23 rfl rfl)
theorem dX5_operand_215 : decode cX5_operand 215 = .ok (.getfield 168, 3) := dk_180 0 168 (dk_at dksX5_operand_9 0 rfl rfl)
theorem dX5_operand_218 : decode cX5_operand 218 = .ok (.istore 4, 2) := dk_54 4 (dk_at dksX5_operand_9 3 rfl rfl)
theorem dX5_operand_220 : decode cX5_operand 220 = .ok (.aload_n 0, 1) := dk_42 (dk_at dksX5_operand_9 5 rfl rfl)
theorem dX5_operand_221 : decode cX5_operand 221 = .ok (.invokevirtual 187, 3) := dk_182 0 187 (dk_at dksX5_operand_9 6 rfl rfl)
theorem dX5_operand_224 : decode cX5_operand 224 = .ok (.aload_n 0, 1) := dk_42 (dk_at dksX5_operand_9 9 rfl rfl)
theorem dX5_operand_225 : decode cX5_operand 225 = .ok (.getfield 158, 3) := dk_180 0 158 (dk_at dksX5_operand_9 10 rfl rfl)
theorem dX5_operand_228 : decode cX5_operand 228 = .ok (.iconst 2, 1) := dk_5 (dk_at dksX5_operand_9 13 rfl rfl)
theorem dX5_operand_229 : decode cX5_operand 229 = .ok (.if_icmp .eq 9, 3) := dk_159 0 9 (dk_at dksX5_operand_9 14 rfl rfl)
theorem dX5_operand_232 : decode cX5_operand 232 = .ok (.aload_n 0, 1) := dk_42 (dk_at dksX5_operand_9 17 rfl rfl)
theorem dX5_operand_233 : decode cX5_operand 233 = .ok (.iconst 1, 1) := dk_4 (dk_at dksX5_operand_9 18 rfl rfl)
theorem dX5_operand_234 : decode cX5_operand 234 = .ok (.invokevirtual 184, 3) := dk_182 0 184 (dk_at dksX5_operand_9 19 rfl rfl)
theorem dX5_operand_237 : decode cX5_operand 237 = .ok (.ireturn, 1) := dk_172 (dk_at dksX5_operand_9 22 rfl rfl)
theorem dX5_operand_238 : decode cX5_operand 238 = .ok (.aload_n 0, 1) := dk_42 (dk_at dksX5_operand_9 23 rfl rfl)
theorem dX5_operand_239 : decode cX5_operand 239 = .ok (.iload_n 3, 1) := dk_29 (dk_at dksX5_operand_10 0 rfl rfl)
theorem dX5_operand_240 : decode cX5_operand 240 = .ok (.iload 4, 2) := dk_21 4 (dk_at dksX5_operand_10 1 rfl rfl)
theorem dX5_operand_242 : decode cX5_operand 242 = .ok (.aload_n 0, 1) := dk_42 (dk_at dksX5_operand_10 3 rfl rfl)
theorem dX5_operand_243 : decode cX5_operand 243 = .ok (.getfield 168, 3) := dk_180 0 168 (dk_at dksX5_operand_10 4 rfl rfl)
theorem dX5_operand_246 : decode cX5_operand 246 = .ok (.invokevirtual 467, 3) := dk_182 1 211 (dk_at dksX5_operand_10 7 rfl rfl)
theorem dX5_operand_249 : decode cX5_operand 249 = .ok (.aload_n 0, 1) := dk_42 (dk_at dksX5_operand_10 10 rfl rfl)
theorem dX5_operand_250 : decode cX5_operand 250 = .ok (.invokevirtual 187, 3) := dk_182 0 187 (dk_at dksX5_operand_10 11 rfl rfl)
theorem dX5_operand_253 : decode cX5_operand 253 = .ok (.iconst 1, 1) := dk_4 (dk_at dksX5_operand_10 14 rfl rfl)
theorem dX5_operand_254 : decode cX5_operand 254 = .ok (.ireturn, 1) := dk_172 (dk_at dksX5_operand_10 15 rfl rfl)
abbrev cX5_leafOf : ByteArray := prog_29_method_120_code
def yX5_leafOf : MethodName := ⟨RX5, "leafOf", "()I"⟩
def dkwX5_leafOf_5 : List UInt8 := [182, 0, 212, 153, 0, 8, 16, 8, 167, 0, 4, 2, 172]
abbrev dktX5_leafOf_5 : List UInt8 := dkwX5_leafOf_5 ++ []
def dkwX5_leafOf_4 : List UInt8 := [16, 6, 167, 0, 34, 42, 20, 0, 141, 182, 0, 212, 153, 0, 8, 16, 7, 167, 0, 19, 42, 20, 0, 143]
abbrev dktX5_leafOf_4 : List UInt8 := dkwX5_leafOf_4 ++ dktX5_leafOf_5
def dkwX5_leafOf_3 : List UInt8 := [42, 20, 0, 137, 182, 0, 212, 153, 0, 7, 8, 167, 0, 49, 42, 20, 0, 139, 182, 0, 212, 153, 0, 8]
abbrev dktX5_leafOf_3 : List UInt8 := dkwX5_leafOf_3 ++ dktX5_leafOf_4
def dkwX5_leafOf_2 : List UInt8 := [182, 0, 212, 153, 0, 7, 6, 167, 0, 77, 42, 20, 0, 135, 182, 0, 212, 153, 0, 7, 7, 167, 0, 63]
abbrev dktX5_leafOf_2 : List UInt8 := dkwX5_leafOf_2 ++ dktX5_leafOf_3
def dkwX5_leafOf_1 : List UInt8 := [4, 167, 0, 105, 42, 20, 0, 131, 182, 0, 212, 153, 0, 7, 5, 167, 0, 91, 42, 20, 0, 133]
abbrev dktX5_leafOf_1 : List UInt8 := dkwX5_leafOf_1 ++ dktX5_leafOf_2
def dkwX5_leafOf_0 : List UInt8 := [42, 20, 0, 129, 182, 0, 212, 153, 0, 7, 3, 167, 0, 119, 42, 20, 0, 103, 182, 0, 212, 153, 0, 7]
abbrev dktX5_leafOf_0 : List UInt8 := dkwX5_leafOf_0 ++ dktX5_leafOf_1
theorem dksX5_leafOf_0 : cX5_leafOf.data.toList.drop 0 = dktX5_leafOf_0 := by decide +kernel
theorem dksX5_leafOf_1 : cX5_leafOf.data.toList.drop 24 = dktX5_leafOf_1 := dk_seg dksX5_leafOf_0 24 rfl rfl
theorem dksX5_leafOf_2 : cX5_leafOf.data.toList.drop 46 = dktX5_leafOf_2 := dk_seg dksX5_leafOf_1 22 rfl rfl
theorem dksX5_leafOf_3 : cX5_leafOf.data.toList.drop 70 = dktX5_leafOf_3 := dk_seg dksX5_leafOf_2 24 rfl rfl
theorem dksX5_leafOf_4 : cX5_leafOf.data.toList.drop 94 = dktX5_leafOf_4 := dk_seg dksX5_leafOf_3 24 rfl rfl
theorem dksX5_leafOf_5 : cX5_leafOf.data.toList.drop 118 = dktX5_leafOf_5 := dk_seg dksX5_leafOf_4 24 rfl rfl
theorem dX5_leafOf_0 : decode cX5_leafOf 0 = .ok (.aload_n 0, 1) := dk_42 (dk_at dksX5_leafOf_0 0 rfl rfl)
theorem dX5_leafOf_1 : decode cX5_leafOf 1 = .ok (.ldc2_w 129, 3) := dk_20 0 129 (dk_at dksX5_leafOf_0 1 rfl rfl)
theorem dX5_leafOf_4 : decode cX5_leafOf 4 = .ok (.invokevirtual 212, 3) := dk_182 0 212 (dk_at dksX5_leafOf_0 4 rfl rfl)
theorem dX5_leafOf_7 : decode cX5_leafOf 7 = .ok (.ifCond .eq 7, 3) := dk_153 0 7 (dk_at dksX5_leafOf_0 7 rfl rfl)
theorem dX5_leafOf_10 : decode cX5_leafOf 10 = .ok (.iconst 0, 1) := dk_3 (dk_at dksX5_leafOf_0 10 rfl rfl)
theorem dX5_leafOf_11 : decode cX5_leafOf 11 = .ok (.goto 119, 3) := dk_167 0 119 (dk_at dksX5_leafOf_0 11 rfl rfl)
theorem dX5_leafOf_14 : decode cX5_leafOf 14 = .ok (.aload_n 0, 1) := dk_42 (dk_at dksX5_leafOf_0 14 rfl rfl)
theorem dX5_leafOf_15 : decode cX5_leafOf 15 = .ok (.ldc2_w 103, 3) := dk_20 0 103 (dk_at dksX5_leafOf_0 15 rfl rfl)
theorem dX5_leafOf_18 : decode cX5_leafOf 18 = .ok (.invokevirtual 212, 3) := dk_182 0 212 (dk_at dksX5_leafOf_0 18 rfl rfl)
theorem dX5_leafOf_21 : decode cX5_leafOf 21 = .ok (.ifCond .eq 7, 3) := dk_153 0 7 (dk_at dksX5_leafOf_0 21 rfl rfl)
theorem dX5_leafOf_24 : decode cX5_leafOf 24 = .ok (.iconst 1, 1) := dk_4 (dk_at dksX5_leafOf_1 0 rfl rfl)
theorem dX5_leafOf_25 : decode cX5_leafOf 25 = .ok (.goto 105, 3) := dk_167 0 105 (dk_at dksX5_leafOf_1 1 rfl rfl)
theorem dX5_leafOf_28 : decode cX5_leafOf 28 = .ok (.aload_n 0, 1) := dk_42 (dk_at dksX5_leafOf_1 4 rfl rfl)
theorem dX5_leafOf_29 : decode cX5_leafOf 29 = .ok (.ldc2_w 131, 3) := dk_20 0 131 (dk_at dksX5_leafOf_1 5 rfl rfl)
theorem dX5_leafOf_32 : decode cX5_leafOf 32 = .ok (.invokevirtual 212, 3) := dk_182 0 212 (dk_at dksX5_leafOf_1 8 rfl rfl)
theorem dX5_leafOf_35 : decode cX5_leafOf 35 = .ok (.ifCond .eq 7, 3) := dk_153 0 7 (dk_at dksX5_leafOf_1 11 rfl rfl)
theorem dX5_leafOf_38 : decode cX5_leafOf 38 = .ok (.iconst 2, 1) := dk_5 (dk_at dksX5_leafOf_1 14 rfl rfl)
theorem dX5_leafOf_39 : decode cX5_leafOf 39 = .ok (.goto 91, 3) := dk_167 0 91 (dk_at dksX5_leafOf_1 15 rfl rfl)
theorem dX5_leafOf_42 : decode cX5_leafOf 42 = .ok (.aload_n 0, 1) := dk_42 (dk_at dksX5_leafOf_1 18 rfl rfl)
theorem dX5_leafOf_43 : decode cX5_leafOf 43 = .ok (.ldc2_w 133, 3) := dk_20 0 133 (dk_at dksX5_leafOf_1 19 rfl rfl)
theorem dX5_leafOf_46 : decode cX5_leafOf 46 = .ok (.invokevirtual 212, 3) := dk_182 0 212 (dk_at dksX5_leafOf_2 0 rfl rfl)
theorem dX5_leafOf_49 : decode cX5_leafOf 49 = .ok (.ifCond .eq 7, 3) := dk_153 0 7 (dk_at dksX5_leafOf_2 3 rfl rfl)
theorem dX5_leafOf_52 : decode cX5_leafOf 52 = .ok (.iconst 3, 1) := dk_6 (dk_at dksX5_leafOf_2 6 rfl rfl)
theorem dX5_leafOf_53 : decode cX5_leafOf 53 = .ok (.goto 77, 3) := dk_167 0 77 (dk_at dksX5_leafOf_2 7 rfl rfl)
theorem dX5_leafOf_56 : decode cX5_leafOf 56 = .ok (.aload_n 0, 1) := dk_42 (dk_at dksX5_leafOf_2 10 rfl rfl)
theorem dX5_leafOf_57 : decode cX5_leafOf 57 = .ok (.ldc2_w 135, 3) := dk_20 0 135 (dk_at dksX5_leafOf_2 11 rfl rfl)
theorem dX5_leafOf_60 : decode cX5_leafOf 60 = .ok (.invokevirtual 212, 3) := dk_182 0 212 (dk_at dksX5_leafOf_2 14 rfl rfl)
theorem dX5_leafOf_63 : decode cX5_leafOf 63 = .ok (.ifCond .eq 7, 3) := dk_153 0 7 (dk_at dksX5_leafOf_2 17 rfl rfl)
theorem dX5_leafOf_66 : decode cX5_leafOf 66 = .ok (.iconst 4, 1) := dk_7 (dk_at dksX5_leafOf_2 20 rfl rfl)
theorem dX5_leafOf_67 : decode cX5_leafOf 67 = .ok (.goto 63, 3) := dk_167 0 63 (dk_at dksX5_leafOf_2 21 rfl rfl)
theorem dX5_leafOf_70 : decode cX5_leafOf 70 = .ok (.aload_n 0, 1) := dk_42 (dk_at dksX5_leafOf_3 0 rfl rfl)
theorem dX5_leafOf_71 : decode cX5_leafOf 71 = .ok (.ldc2_w 137, 3) := dk_20 0 137 (dk_at dksX5_leafOf_3 1 rfl rfl)
theorem dX5_leafOf_74 : decode cX5_leafOf 74 = .ok (.invokevirtual 212, 3) := dk_182 0 212 (dk_at dksX5_leafOf_3 4 rfl rfl)
theorem dX5_leafOf_77 : decode cX5_leafOf 77 = .ok (.ifCond .eq 7, 3) := dk_153 0 7 (dk_at dksX5_leafOf_3 7 rfl rfl)
theorem dX5_leafOf_80 : decode cX5_leafOf 80 = .ok (.iconst 5, 1) := dk_8 (dk_at dksX5_leafOf_3 10 rfl rfl)
theorem dX5_leafOf_81 : decode cX5_leafOf 81 = .ok (.goto 49, 3) := dk_167 0 49 (dk_at dksX5_leafOf_3 11 rfl rfl)
theorem dX5_leafOf_84 : decode cX5_leafOf 84 = .ok (.aload_n 0, 1) := dk_42 (dk_at dksX5_leafOf_3 14 rfl rfl)
theorem dX5_leafOf_85 : decode cX5_leafOf 85 = .ok (.ldc2_w 139, 3) := dk_20 0 139 (dk_at dksX5_leafOf_3 15 rfl rfl)
theorem dX5_leafOf_88 : decode cX5_leafOf 88 = .ok (.invokevirtual 212, 3) := dk_182 0 212 (dk_at dksX5_leafOf_3 18 rfl rfl)
theorem dX5_leafOf_91 : decode cX5_leafOf 91 = .ok (.ifCond .eq 8, 3) := dk_153 0 8 (dk_at dksX5_leafOf_3 21 rfl rfl)
theorem dX5_leafOf_94 : decode cX5_leafOf 94 = .ok (.bipush 6, 2) := dk_16 6 (dk_at dksX5_leafOf_4 0 rfl rfl)
theorem dX5_leafOf_96 : decode cX5_leafOf 96 = .ok (.goto 34, 3) := dk_167 0 34 (dk_at dksX5_leafOf_4 2 rfl rfl)
theorem dX5_leafOf_99 : decode cX5_leafOf 99 = .ok (.aload_n 0, 1) := dk_42 (dk_at dksX5_leafOf_4 5 rfl rfl)
theorem dX5_leafOf_100 : decode cX5_leafOf 100 = .ok (.ldc2_w 141, 3) := dk_20 0 141 (dk_at dksX5_leafOf_4 6 rfl rfl)
theorem dX5_leafOf_103 : decode cX5_leafOf 103 = .ok (.invokevirtual 212, 3) := dk_182 0 212 (dk_at dksX5_leafOf_4 9 rfl rfl)
theorem dX5_leafOf_106 : decode cX5_leafOf 106 = .ok (.ifCond .eq 8, 3) := dk_153 0 8 (dk_at dksX5_leafOf_4 12 rfl rfl)
theorem dX5_leafOf_109 : decode cX5_leafOf 109 = .ok (.bipush 7, 2) := dk_16 7 (dk_at dksX5_leafOf_4 15 rfl rfl)
theorem dX5_leafOf_111 : decode cX5_leafOf 111 = .ok (.goto 19, 3) := dk_167 0 19 (dk_at dksX5_leafOf_4 17 rfl rfl)
theorem dX5_leafOf_114 : decode cX5_leafOf 114 = .ok (.aload_n 0, 1) := dk_42 (dk_at dksX5_leafOf_4 20 rfl rfl)
theorem dX5_leafOf_115 : decode cX5_leafOf 115 = .ok (.ldc2_w 143, 3) := dk_20 0 143 (dk_at dksX5_leafOf_4 21 rfl rfl)
theorem dX5_leafOf_118 : decode cX5_leafOf 118 = .ok (.invokevirtual 212, 3) := dk_182 0 212 (dk_at dksX5_leafOf_5 0 rfl rfl)
theorem dX5_leafOf_121 : decode cX5_leafOf 121 = .ok (.ifCond .eq 8, 3) := dk_153 0 8 (dk_at dksX5_leafOf_5 3 rfl rfl)
theorem dX5_leafOf_124 : decode cX5_leafOf 124 = .ok (.bipush 8, 2) := dk_16 8 (dk_at dksX5_leafOf_5 6 rfl rfl)
theorem dX5_leafOf_126 : decode cX5_leafOf 126 = .ok (.goto 4, 3) := dk_167 0 4 (dk_at dksX5_leafOf_5 8 rfl rfl)
theorem dX5_leafOf_129 : decode cX5_leafOf 129 = .ok (.iconst (-1), 1) := dk_2 (dk_at dksX5_leafOf_5 11 rfl rfl)
theorem dX5_leafOf_130 : decode cX5_leafOf 130 = .ok (.ireturn, 1) := dk_172 (dk_at dksX5_leafOf_5 12 rfl rfl)
abbrev cX5_said : ByteArray := prog_29_method_126_code
def yX5_said : MethodName := ⟨RX5, "said", "(I)I"⟩
def dkwX5_said_3 : List UInt8 := [167, 0, 4, 2, 172]
abbrev dktX5_said_3 : List UInt8 := dkwX5_said_3 ++ []
def dkwX5_said_2 : List UInt8 := [28, 27, 160, 0, 5, 29, 172, 132, 2, 1, 132, 3, 1, 167, 255, 222, 27, 2, 160, 0, 7, 28]
abbrev dktX5_said_2 : List UInt8 := dkwX5_said_2 ++ dktX5_said_3
def dkwX5_said_1 : List UInt8 := [61, 3, 62, 29, 42, 180, 0, 33, 3, 46, 162, 0, 30, 42, 29, 182, 1, 242, 154, 0, 6, 167, 0, 13]
abbrev dktX5_said_1 : List UInt8 := dkwX5_said_1 ++ dktX5_said_2
def dkwX5_said_0 : List UInt8 := [42, 3, 181, 0, 1, 42, 180, 0, 33, 17, 0, 165, 46, 153, 0, 8, 27, 2, 162, 0, 5, 2, 172, 3]
abbrev dktX5_said_0 : List UInt8 := dkwX5_said_0 ++ dktX5_said_1
theorem dksX5_said_0 : cX5_said.data.toList.drop 0 = dktX5_said_0 := by decide +kernel
theorem dksX5_said_1 : cX5_said.data.toList.drop 24 = dktX5_said_1 := dk_seg dksX5_said_0 24 rfl rfl
theorem dksX5_said_2 : cX5_said.data.toList.drop 48 = dktX5_said_2 := dk_seg dksX5_said_1 24 rfl rfl
theorem dksX5_said_3 : cX5_said.data.toList.drop 70 = dktX5_said_3 := dk_seg dksX5_said_2 22 rfl rfl
theorem dX5_said_0 : decode cX5_said 0 = .ok (.aload_n 0, 1) := dk_42 (dk_at dksX5_said_0 0 rfl rfl)
theorem dX5_said_1 : decode cX5_said 1 = .ok (.iconst 0, 1) := dk_3 (dk_at dksX5_said_0 1 rfl rfl)
theorem dX5_said_2 : decode cX5_said 2 = .ok (.putfield 1, 3) := dk_181 0 1 (dk_at dksX5_said_0 2 rfl rfl)
theorem dX5_said_5 : decode cX5_said 5 = .ok (.aload_n 0, 1) := dk_42 (dk_at dksX5_said_0 5 rfl rfl)
theorem dX5_said_6 : decode cX5_said 6 = .ok (.getfield 33, 3) := dk_180 0 33 (dk_at dksX5_said_0 6 rfl rfl)
theorem dX5_said_9 : decode cX5_said 9 = .ok (.sipush 165, 3) := dk_17 0 165 (dk_at dksX5_said_0 9 rfl rfl)
theorem dX5_said_12 : decode cX5_said 12 = .ok (.iaload, 1) := dk_46 (dk_at dksX5_said_0 12 rfl rfl)
theorem dX5_said_13 : decode cX5_said 13 = .ok (.ifCond .eq 8, 3) := dk_153 0 8 (dk_at dksX5_said_0 13 rfl rfl)
theorem dX5_said_16 : decode cX5_said 16 = .ok (.iload_n 1, 1) := dk_27 (dk_at dksX5_said_0 16 rfl rfl)
theorem dX5_said_17 : decode cX5_said 17 = .ok (.iconst (-1), 1) := dk_2 (dk_at dksX5_said_0 17 rfl rfl)
theorem dX5_said_18 : decode cX5_said 18 = .ok (.if_icmp .ge 5, 3) := dk_162 0 5 (dk_at dksX5_said_0 18 rfl rfl)
theorem dX5_said_21 : decode cX5_said 21 = .ok (.iconst (-1), 1) := dk_2 (dk_at dksX5_said_0 21 rfl rfl)
theorem dX5_said_22 : decode cX5_said 22 = .ok (.ireturn, 1) := dk_172 (dk_at dksX5_said_0 22 rfl rfl)
theorem dX5_said_23 : decode cX5_said 23 = .ok (.iconst 0, 1) := dk_3 (dk_at dksX5_said_0 23 rfl rfl)
theorem dX5_said_24 : decode cX5_said 24 = .ok (.istore_n 2, 1) := dk_61 (dk_at dksX5_said_1 0 rfl rfl)
theorem dX5_said_25 : decode cX5_said 25 = .ok (.iconst 0, 1) := dk_3 (dk_at dksX5_said_1 1 rfl rfl)
theorem dX5_said_26 : decode cX5_said 26 = .ok (.istore_n 3, 1) := dk_62 (dk_at dksX5_said_1 2 rfl rfl)
theorem dX5_said_27 : decode cX5_said 27 = .ok (.iload_n 3, 1) := dk_29 (dk_at dksX5_said_1 3 rfl rfl)
theorem dX5_said_28 : decode cX5_said 28 = .ok (.aload_n 0, 1) := dk_42 (dk_at dksX5_said_1 4 rfl rfl)
theorem dX5_said_29 : decode cX5_said 29 = .ok (.getfield 33, 3) := dk_180 0 33 (dk_at dksX5_said_1 5 rfl rfl)
theorem dX5_said_32 : decode cX5_said 32 = .ok (.iconst 0, 1) := dk_3 (dk_at dksX5_said_1 8 rfl rfl)
theorem dX5_said_33 : decode cX5_said 33 = .ok (.iaload, 1) := dk_46 (dk_at dksX5_said_1 9 rfl rfl)
theorem dX5_said_34 : decode cX5_said 34 = .ok (.if_icmp .ge 30, 3) := dk_162 0 30 (dk_at dksX5_said_1 10 rfl rfl)
theorem dX5_said_37 : decode cX5_said 37 = .ok (.aload_n 0, 1) := dk_42 (dk_at dksX5_said_1 13 rfl rfl)
theorem dX5_said_38 : decode cX5_said 38 = .ok (.iload_n 3, 1) := dk_29 (dk_at dksX5_said_1 14 rfl rfl)
theorem dX5_said_39 : decode cX5_said 39 = .ok (.invokevirtual 498, 3) := dk_182 1 242 (dk_at dksX5_said_1 15 rfl rfl)
theorem dX5_said_42 : decode cX5_said 42 = .ok (.ifCond .ne 6, 3) := dk_154 0 6 (dk_at dksX5_said_1 18 rfl rfl)
theorem dX5_said_45 : decode cX5_said 45 = .ok (.goto 13, 3) := dk_167 0 13 (dk_at dksX5_said_1 21 rfl rfl)
theorem dX5_said_48 : decode cX5_said 48 = .ok (.iload_n 2, 1) := dk_28 (dk_at dksX5_said_2 0 rfl rfl)
theorem dX5_said_49 : decode cX5_said 49 = .ok (.iload_n 1, 1) := dk_27 (dk_at dksX5_said_2 1 rfl rfl)
theorem dX5_said_50 : decode cX5_said 50 = .ok (.if_icmp .ne 5, 3) := dk_160 0 5 (dk_at dksX5_said_2 2 rfl rfl)
theorem dX5_said_53 : decode cX5_said 53 = .ok (.iload_n 3, 1) := dk_29 (dk_at dksX5_said_2 5 rfl rfl)
theorem dX5_said_54 : decode cX5_said 54 = .ok (.ireturn, 1) := dk_172 (dk_at dksX5_said_2 6 rfl rfl)
theorem dX5_said_55 : decode cX5_said 55 = .ok (.iinc 2 1, 3) := dk_132 2 1 (dk_at dksX5_said_2 7 rfl rfl)
theorem dX5_said_58 : decode cX5_said 58 = .ok (.iinc 3 1, 3) := dk_132 3 1 (dk_at dksX5_said_2 10 rfl rfl)
theorem dX5_said_61 : decode cX5_said 61 = .ok (.goto (-34), 3) := dk_167 255 222 (dk_at dksX5_said_2 13 rfl rfl)
theorem dX5_said_64 : decode cX5_said 64 = .ok (.iload_n 1, 1) := dk_27 (dk_at dksX5_said_2 16 rfl rfl)
theorem dX5_said_65 : decode cX5_said 65 = .ok (.iconst (-1), 1) := dk_2 (dk_at dksX5_said_2 17 rfl rfl)
theorem dX5_said_66 : decode cX5_said 66 = .ok (.if_icmp .ne 7, 3) := dk_160 0 7 (dk_at dksX5_said_2 18 rfl rfl)
theorem dX5_said_69 : decode cX5_said 69 = .ok (.iload_n 2, 1) := dk_28 (dk_at dksX5_said_2 21 rfl rfl)
theorem dX5_said_70 : decode cX5_said 70 = .ok (.goto 4, 3) := dk_167 0 4 (dk_at dksX5_said_3 0 rfl rfl)
theorem dX5_said_73 : decode cX5_said 73 = .ok (.iconst (-1), 1) := dk_2 (dk_at dksX5_said_3 3 rfl rfl)
theorem dX5_said_74 : decode cX5_said 74 = .ok (.ireturn, 1) := dk_172 (dk_at dksX5_said_3 4 rfl rfl)
abbrev cX5_isSaid : ByteArray := prog_29_method_125_code
def yX5_isSaid : MethodName := ⟨RX5, "isSaid", "(I)Z"⟩
def dkwX5_isSaid_9 : List UInt8 := [167, 255, 51, 42, 180, 0, 86, 3, 51, 172]
abbrev dktX5_isSaid_9 : List UInt8 := dkwX5_isSaid_9 ++ []
def dkwX5_isSaid_8 : List UInt8 := [4, 96, 46, 42, 180, 0, 33, 21, 4, 5, 96, 46, 182, 1, 238, 84, 132, 2, 1, 132, 3, 1]
abbrev dktX5_isSaid_8 : List UInt8 := dkwX5_isSaid_8 ++ dktX5_isSaid_9
def dkwX5_isSaid_7 : List UInt8 := [84, 167, 0, 42, 42, 180, 0, 86, 28, 42, 27, 42, 180, 0, 33, 21, 4, 46, 42, 180, 0, 33, 21, 4]
abbrev dktX5_isSaid_7 : List UInt8 := dkwX5_isSaid_7 ++ dktX5_isSaid_8
def dkwX5_isSaid_6 : List UInt8 := [180, 0, 86, 28, 4, 100, 51, 154, 0, 12, 42, 180, 0, 86, 28, 51, 153, 0, 7, 4, 167, 0, 4, 3]
abbrev dktX5_isSaid_6 : List UInt8 := dkwX5_isSaid_6 ++ dktX5_isSaid_7
def dkwX5_isSaid_5 : List UInt8 := [100, 51, 153, 0, 16, 42, 180, 0, 86, 28, 51, 153, 0, 7, 4, 167, 0, 32, 3, 167, 0, 28, 42]
abbrev dktX5_isSaid_5 : List UInt8 := dkwX5_isSaid_5 ++ dktX5_isSaid_6
def dkwX5_isSaid_4 : List UInt8 := [180, 0, 86, 28, 4, 100, 42, 180, 0, 33, 21, 4, 46, 16, 21, 160, 0, 31, 42, 180, 0, 86, 28, 4]
abbrev dktX5_isSaid_4 : List UInt8 := dkwX5_isSaid_4 ++ dktX5_isSaid_5
def dkwX5_isSaid_3 : List UInt8 := [21, 4, 46, 16, 21, 159, 0, 15, 42, 180, 0, 33, 21, 4, 46, 16, 22, 160, 0, 82, 132, 2, 255, 42]
abbrev dktX5_isSaid_3 : List UInt8 := dkwX5_isSaid_3 ++ dktX5_isSaid_4
def dkwX5_isSaid_2 : List UInt8 := [180, 0, 86, 28, 4, 100, 51, 154, 0, 7, 4, 167, 0, 4, 3, 84, 167, 0, 145, 42, 180, 0, 33]
abbrev dktX5_isSaid_2 : List UInt8 := dkwX5_isSaid_2 ++ dktX5_isSaid_3
def dkwX5_isSaid_1 : List UInt8 := [54, 4, 42, 180, 0, 33, 21, 4, 46, 16, 20, 160, 0, 30, 42, 180, 0, 86, 28, 4, 100, 42]
abbrev dktX5_isSaid_1 : List UInt8 := dkwX5_isSaid_1 ++ dktX5_isSaid_2
def dkwX5_isSaid_0 : List UInt8 := [3, 61, 3, 62, 29, 42, 180, 0, 33, 17, 0, 165, 46, 162, 0, 199, 17, 0, 166, 6, 29, 104, 96]
abbrev dktX5_isSaid_0 : List UInt8 := dkwX5_isSaid_0 ++ dktX5_isSaid_1
theorem dksX5_isSaid_0 : cX5_isSaid.data.toList.drop 0 = dktX5_isSaid_0 := by decide +kernel
theorem dksX5_isSaid_1 : cX5_isSaid.data.toList.drop 23 = dktX5_isSaid_1 := dk_seg dksX5_isSaid_0 23 rfl rfl
theorem dksX5_isSaid_2 : cX5_isSaid.data.toList.drop 45 = dktX5_isSaid_2 := dk_seg dksX5_isSaid_1 22 rfl rfl
theorem dksX5_isSaid_3 : cX5_isSaid.data.toList.drop 68 = dktX5_isSaid_3 := dk_seg dksX5_isSaid_2 23 rfl rfl
theorem dksX5_isSaid_4 : cX5_isSaid.data.toList.drop 92 = dktX5_isSaid_4 := dk_seg dksX5_isSaid_3 24 rfl rfl
theorem dksX5_isSaid_5 : cX5_isSaid.data.toList.drop 116 = dktX5_isSaid_5 := dk_seg dksX5_isSaid_4 24 rfl rfl
theorem dksX5_isSaid_6 : cX5_isSaid.data.toList.drop 139 = dktX5_isSaid_6 := dk_seg dksX5_isSaid_5 23 rfl rfl
theorem dksX5_isSaid_7 : cX5_isSaid.data.toList.drop 163 = dktX5_isSaid_7 := dk_seg dksX5_isSaid_6 24 rfl rfl
theorem dksX5_isSaid_8 : cX5_isSaid.data.toList.drop 187 = dktX5_isSaid_8 := dk_seg dksX5_isSaid_7 24 rfl rfl
theorem dksX5_isSaid_9 : cX5_isSaid.data.toList.drop 209 = dktX5_isSaid_9 := dk_seg dksX5_isSaid_8 22 rfl rfl
theorem dX5_isSaid_0 : decode cX5_isSaid 0 = .ok (.iconst 0, 1) := dk_3 (dk_at dksX5_isSaid_0 0 rfl rfl)
theorem dX5_isSaid_1 : decode cX5_isSaid 1 = .ok (.istore_n 2, 1) := dk_61 (dk_at dksX5_isSaid_0 1 rfl rfl)
theorem dX5_isSaid_2 : decode cX5_isSaid 2 = .ok (.iconst 0, 1) := dk_3 (dk_at dksX5_isSaid_0 2 rfl rfl)
theorem dX5_isSaid_3 : decode cX5_isSaid 3 = .ok (.istore_n 3, 1) := dk_62 (dk_at dksX5_isSaid_0 3 rfl rfl)
theorem dX5_isSaid_4 : decode cX5_isSaid 4 = .ok (.iload_n 3, 1) := dk_29 (dk_at dksX5_isSaid_0 4 rfl rfl)
theorem dX5_isSaid_5 : decode cX5_isSaid 5 = .ok (.aload_n 0, 1) := dk_42 (dk_at dksX5_isSaid_0 5 rfl rfl)
theorem dX5_isSaid_6 : decode cX5_isSaid 6 = .ok (.getfield 33, 3) := dk_180 0 33 (dk_at dksX5_isSaid_0 6 rfl rfl)
theorem dX5_isSaid_9 : decode cX5_isSaid 9 = .ok (.sipush 165, 3) := dk_17 0 165 (dk_at dksX5_isSaid_0 9 rfl rfl)
theorem dX5_isSaid_12 : decode cX5_isSaid 12 = .ok (.iaload, 1) := dk_46 (dk_at dksX5_isSaid_0 12 rfl rfl)
theorem dX5_isSaid_13 : decode cX5_isSaid 13 = .ok (.if_icmp .ge 199, 3) := dk_162 0 199 (dk_at dksX5_isSaid_0 13 rfl rfl)
theorem dX5_isSaid_16 : decode cX5_isSaid 16 = .ok (.sipush 166, 3) := dk_17 0 166 (dk_at dksX5_isSaid_0 16 rfl rfl)
theorem dX5_isSaid_19 : decode cX5_isSaid 19 = .ok (.iconst 3, 1) := dk_6 (dk_at dksX5_isSaid_0 19 rfl rfl)
theorem dX5_isSaid_20 : decode cX5_isSaid 20 = .ok (.iload_n 3, 1) := dk_29 (dk_at dksX5_isSaid_0 20 rfl rfl)
theorem dX5_isSaid_21 : decode cX5_isSaid 21 = .ok (.imul, 1) := dk_104 (dk_at dksX5_isSaid_0 21 rfl rfl)
theorem dX5_isSaid_22 : decode cX5_isSaid 22 = .ok (.iadd, 1) := dk_96 (dk_at dksX5_isSaid_0 22 rfl rfl)
theorem dX5_isSaid_23 : decode cX5_isSaid 23 = .ok (.istore 4, 2) := dk_54 4 (dk_at dksX5_isSaid_1 0 rfl rfl)
theorem dX5_isSaid_25 : decode cX5_isSaid 25 = .ok (.aload_n 0, 1) := dk_42 (dk_at dksX5_isSaid_1 2 rfl rfl)
theorem dX5_isSaid_26 : decode cX5_isSaid 26 = .ok (.getfield 33, 3) := dk_180 0 33 (dk_at dksX5_isSaid_1 3 rfl rfl)
theorem dX5_isSaid_29 : decode cX5_isSaid 29 = .ok (.iload 4, 2) := dk_21 4 (dk_at dksX5_isSaid_1 6 rfl rfl)
theorem dX5_isSaid_31 : decode cX5_isSaid 31 = .ok (.iaload, 1) := dk_46 (dk_at dksX5_isSaid_1 8 rfl rfl)
theorem dX5_isSaid_32 : decode cX5_isSaid 32 = .ok (.bipush 20, 2) := dk_16 20 (dk_at dksX5_isSaid_1 9 rfl rfl)
theorem dX5_isSaid_34 : decode cX5_isSaid 34 = .ok (.if_icmp .ne 30, 3) := dk_160 0 30 (dk_at dksX5_isSaid_1 11 rfl rfl)
theorem dX5_isSaid_37 : decode cX5_isSaid 37 = .ok (.aload_n 0, 1) := dk_42 (dk_at dksX5_isSaid_1 14 rfl rfl)
theorem dX5_isSaid_38 : decode cX5_isSaid 38 = .ok (.getfield 86, 3) := dk_180 0 86 (dk_at dksX5_isSaid_1 15 rfl rfl)
theorem dX5_isSaid_41 : decode cX5_isSaid 41 = .ok (.iload_n 2, 1) := dk_28 (dk_at dksX5_isSaid_1 18 rfl rfl)
theorem dX5_isSaid_42 : decode cX5_isSaid 42 = .ok (.iconst 1, 1) := dk_4 (dk_at dksX5_isSaid_1 19 rfl rfl)
theorem dX5_isSaid_43 : decode cX5_isSaid 43 = .ok (.isub, 1) := dk_100 (dk_at dksX5_isSaid_1 20 rfl rfl)
theorem dX5_isSaid_44 : decode cX5_isSaid 44 = .ok (.aload_n 0, 1) := dk_42 (dk_at dksX5_isSaid_1 21 rfl rfl)
theorem dX5_isSaid_45 : decode cX5_isSaid 45 = .ok (.getfield 86, 3) := dk_180 0 86 (dk_at dksX5_isSaid_2 0 rfl rfl)
theorem dX5_isSaid_48 : decode cX5_isSaid 48 = .ok (.iload_n 2, 1) := dk_28 (dk_at dksX5_isSaid_2 3 rfl rfl)
theorem dX5_isSaid_49 : decode cX5_isSaid 49 = .ok (.iconst 1, 1) := dk_4 (dk_at dksX5_isSaid_2 4 rfl rfl)
theorem dX5_isSaid_50 : decode cX5_isSaid 50 = .ok (.isub, 1) := dk_100 (dk_at dksX5_isSaid_2 5 rfl rfl)
theorem dX5_isSaid_51 : decode cX5_isSaid 51 = .ok (.baload, 1) := dk_51 (dk_at dksX5_isSaid_2 6 rfl rfl)
theorem dX5_isSaid_52 : decode cX5_isSaid 52 = .ok (.ifCond .ne 7, 3) := dk_154 0 7 (dk_at dksX5_isSaid_2 7 rfl rfl)
theorem dX5_isSaid_55 : decode cX5_isSaid 55 = .ok (.iconst 1, 1) := dk_4 (dk_at dksX5_isSaid_2 10 rfl rfl)
theorem dX5_isSaid_56 : decode cX5_isSaid 56 = .ok (.goto 4, 3) := dk_167 0 4 (dk_at dksX5_isSaid_2 11 rfl rfl)
theorem dX5_isSaid_59 : decode cX5_isSaid 59 = .ok (.iconst 0, 1) := dk_3 (dk_at dksX5_isSaid_2 14 rfl rfl)
theorem dX5_isSaid_60 : decode cX5_isSaid 60 = .ok (.bastore, 1) := dk_84 (dk_at dksX5_isSaid_2 15 rfl rfl)
theorem dX5_isSaid_61 : decode cX5_isSaid 61 = .ok (.goto 145, 3) := dk_167 0 145 (dk_at dksX5_isSaid_2 16 rfl rfl)
theorem dX5_isSaid_64 : decode cX5_isSaid 64 = .ok (.aload_n 0, 1) := dk_42 (dk_at dksX5_isSaid_2 19 rfl rfl)
theorem dX5_isSaid_65 : decode cX5_isSaid 65 = .ok (.getfield 33, 3) := dk_180 0 33 (dk_at dksX5_isSaid_2 20 rfl rfl)
theorem dX5_isSaid_68 : decode cX5_isSaid 68 = .ok (.iload 4, 2) := dk_21 4 (dk_at dksX5_isSaid_3 0 rfl rfl)
theorem dX5_isSaid_70 : decode cX5_isSaid 70 = .ok (.iaload, 1) := dk_46 (dk_at dksX5_isSaid_3 2 rfl rfl)
theorem dX5_isSaid_71 : decode cX5_isSaid 71 = .ok (.bipush 21, 2) := dk_16 21 (dk_at dksX5_isSaid_3 3 rfl rfl)
theorem dX5_isSaid_73 : decode cX5_isSaid 73 = .ok (.if_icmp .eq 15, 3) := dk_159 0 15 (dk_at dksX5_isSaid_3 5 rfl rfl)
theorem dX5_isSaid_76 : decode cX5_isSaid 76 = .ok (.aload_n 0, 1) := dk_42 (dk_at dksX5_isSaid_3 8 rfl rfl)
theorem dX5_isSaid_77 : decode cX5_isSaid 77 = .ok (.getfield 33, 3) := dk_180 0 33 (dk_at dksX5_isSaid_3 9 rfl rfl)
theorem dX5_isSaid_80 : decode cX5_isSaid 80 = .ok (.iload 4, 2) := dk_21 4 (dk_at dksX5_isSaid_3 12 rfl rfl)
theorem dX5_isSaid_82 : decode cX5_isSaid 82 = .ok (.iaload, 1) := dk_46 (dk_at dksX5_isSaid_3 14 rfl rfl)
theorem dX5_isSaid_83 : decode cX5_isSaid 83 = .ok (.bipush 22, 2) := dk_16 22 (dk_at dksX5_isSaid_3 15 rfl rfl)
theorem dX5_isSaid_85 : decode cX5_isSaid 85 = .ok (.if_icmp .ne 82, 3) := dk_160 0 82 (dk_at dksX5_isSaid_3 17 rfl rfl)
theorem dX5_isSaid_88 : decode cX5_isSaid 88 = .ok (.iinc 2 (-1), 3) := dk_132 2 255 (dk_at dksX5_isSaid_3 20 rfl rfl)
theorem dX5_isSaid_91 : decode cX5_isSaid 91 = .ok (.aload_n 0, 1) := dk_42 (dk_at dksX5_isSaid_3 23 rfl rfl)
theorem dX5_isSaid_92 : decode cX5_isSaid 92 = .ok (.getfield 86, 3) := dk_180 0 86 (dk_at dksX5_isSaid_4 0 rfl rfl)
theorem dX5_isSaid_95 : decode cX5_isSaid 95 = .ok (.iload_n 2, 1) := dk_28 (dk_at dksX5_isSaid_4 3 rfl rfl)
theorem dX5_isSaid_96 : decode cX5_isSaid 96 = .ok (.iconst 1, 1) := dk_4 (dk_at dksX5_isSaid_4 4 rfl rfl)
theorem dX5_isSaid_97 : decode cX5_isSaid 97 = .ok (.isub, 1) := dk_100 (dk_at dksX5_isSaid_4 5 rfl rfl)
theorem dX5_isSaid_98 : decode cX5_isSaid 98 = .ok (.aload_n 0, 1) := dk_42 (dk_at dksX5_isSaid_4 6 rfl rfl)
theorem dX5_isSaid_99 : decode cX5_isSaid 99 = .ok (.getfield 33, 3) := dk_180 0 33 (dk_at dksX5_isSaid_4 7 rfl rfl)
theorem dX5_isSaid_102 : decode cX5_isSaid 102 = .ok (.iload 4, 2) := dk_21 4 (dk_at dksX5_isSaid_4 10 rfl rfl)
theorem dX5_isSaid_104 : decode cX5_isSaid 104 = .ok (.iaload, 1) := dk_46 (dk_at dksX5_isSaid_4 12 rfl rfl)
theorem dX5_isSaid_105 : decode cX5_isSaid 105 = .ok (.bipush 21, 2) := dk_16 21 (dk_at dksX5_isSaid_4 13 rfl rfl)
theorem dX5_isSaid_107 : decode cX5_isSaid 107 = .ok (.if_icmp .ne 31, 3) := dk_160 0 31 (dk_at dksX5_isSaid_4 15 rfl rfl)
theorem dX5_isSaid_110 : decode cX5_isSaid 110 = .ok (.aload_n 0, 1) := dk_42 (dk_at dksX5_isSaid_4 18 rfl rfl)
theorem dX5_isSaid_111 : decode cX5_isSaid 111 = .ok (.getfield 86, 3) := dk_180 0 86 (dk_at dksX5_isSaid_4 19 rfl rfl)
theorem dX5_isSaid_114 : decode cX5_isSaid 114 = .ok (.iload_n 2, 1) := dk_28 (dk_at dksX5_isSaid_4 22 rfl rfl)
theorem dX5_isSaid_115 : decode cX5_isSaid 115 = .ok (.iconst 1, 1) := dk_4 (dk_at dksX5_isSaid_4 23 rfl rfl)
theorem dX5_isSaid_116 : decode cX5_isSaid 116 = .ok (.isub, 1) := dk_100 (dk_at dksX5_isSaid_5 0 rfl rfl)
theorem dX5_isSaid_117 : decode cX5_isSaid 117 = .ok (.baload, 1) := dk_51 (dk_at dksX5_isSaid_5 1 rfl rfl)
theorem dX5_isSaid_118 : decode cX5_isSaid 118 = .ok (.ifCond .eq 16, 3) := dk_153 0 16 (dk_at dksX5_isSaid_5 2 rfl rfl)
theorem dX5_isSaid_121 : decode cX5_isSaid 121 = .ok (.aload_n 0, 1) := dk_42 (dk_at dksX5_isSaid_5 5 rfl rfl)
theorem dX5_isSaid_122 : decode cX5_isSaid 122 = .ok (.getfield 86, 3) := dk_180 0 86 (dk_at dksX5_isSaid_5 6 rfl rfl)
theorem dX5_isSaid_125 : decode cX5_isSaid 125 = .ok (.iload_n 2, 1) := dk_28 (dk_at dksX5_isSaid_5 9 rfl rfl)
theorem dX5_isSaid_126 : decode cX5_isSaid 126 = .ok (.baload, 1) := dk_51 (dk_at dksX5_isSaid_5 10 rfl rfl)
theorem dX5_isSaid_127 : decode cX5_isSaid 127 = .ok (.ifCond .eq 7, 3) := dk_153 0 7 (dk_at dksX5_isSaid_5 11 rfl rfl)
theorem dX5_isSaid_130 : decode cX5_isSaid 130 = .ok (.iconst 1, 1) := dk_4 (dk_at dksX5_isSaid_5 14 rfl rfl)
theorem dX5_isSaid_131 : decode cX5_isSaid 131 = .ok (.goto 32, 3) := dk_167 0 32 (dk_at dksX5_isSaid_5 15 rfl rfl)
theorem dX5_isSaid_134 : decode cX5_isSaid 134 = .ok (.iconst 0, 1) := dk_3 (dk_at dksX5_isSaid_5 18 rfl rfl)
theorem dX5_isSaid_135 : decode cX5_isSaid 135 = .ok (.goto 28, 3) := dk_167 0 28 (dk_at dksX5_isSaid_5 19 rfl rfl)
theorem dX5_isSaid_138 : decode cX5_isSaid 138 = .ok (.aload_n 0, 1) := dk_42 (dk_at dksX5_isSaid_5 22 rfl rfl)
theorem dX5_isSaid_139 : decode cX5_isSaid 139 = .ok (.getfield 86, 3) := dk_180 0 86 (dk_at dksX5_isSaid_6 0 rfl rfl)
theorem dX5_isSaid_142 : decode cX5_isSaid 142 = .ok (.iload_n 2, 1) := dk_28 (dk_at dksX5_isSaid_6 3 rfl rfl)
theorem dX5_isSaid_143 : decode cX5_isSaid 143 = .ok (.iconst 1, 1) := dk_4 (dk_at dksX5_isSaid_6 4 rfl rfl)
theorem dX5_isSaid_144 : decode cX5_isSaid 144 = .ok (.isub, 1) := dk_100 (dk_at dksX5_isSaid_6 5 rfl rfl)
theorem dX5_isSaid_145 : decode cX5_isSaid 145 = .ok (.baload, 1) := dk_51 (dk_at dksX5_isSaid_6 6 rfl rfl)
theorem dX5_isSaid_146 : decode cX5_isSaid 146 = .ok (.ifCond .ne 12, 3) := dk_154 0 12 (dk_at dksX5_isSaid_6 7 rfl rfl)
theorem dX5_isSaid_149 : decode cX5_isSaid 149 = .ok (.aload_n 0, 1) := dk_42 (dk_at dksX5_isSaid_6 10 rfl rfl)
theorem dX5_isSaid_150 : decode cX5_isSaid 150 = .ok (.getfield 86, 3) := dk_180 0 86 (dk_at dksX5_isSaid_6 11 rfl rfl)
theorem dX5_isSaid_153 : decode cX5_isSaid 153 = .ok (.iload_n 2, 1) := dk_28 (dk_at dksX5_isSaid_6 14 rfl rfl)
theorem dX5_isSaid_154 : decode cX5_isSaid 154 = .ok (.baload, 1) := dk_51 (dk_at dksX5_isSaid_6 15 rfl rfl)
theorem dX5_isSaid_155 : decode cX5_isSaid 155 = .ok (.ifCond .eq 7, 3) := dk_153 0 7 (dk_at dksX5_isSaid_6 16 rfl rfl)
theorem dX5_isSaid_158 : decode cX5_isSaid 158 = .ok (.iconst 1, 1) := dk_4 (dk_at dksX5_isSaid_6 19 rfl rfl)
theorem dX5_isSaid_159 : decode cX5_isSaid 159 = .ok (.goto 4, 3) := dk_167 0 4 (dk_at dksX5_isSaid_6 20 rfl rfl)
theorem dX5_isSaid_162 : decode cX5_isSaid 162 = .ok (.iconst 0, 1) := dk_3 (dk_at dksX5_isSaid_6 23 rfl rfl)
theorem dX5_isSaid_163 : decode cX5_isSaid 163 = .ok (.bastore, 1) := dk_84 (dk_at dksX5_isSaid_7 0 rfl rfl)
theorem dX5_isSaid_164 : decode cX5_isSaid 164 = .ok (.goto 42, 3) := dk_167 0 42 (dk_at dksX5_isSaid_7 1 rfl rfl)
theorem dX5_isSaid_167 : decode cX5_isSaid 167 = .ok (.aload_n 0, 1) := dk_42 (dk_at dksX5_isSaid_7 4 rfl rfl)
theorem dX5_isSaid_168 : decode cX5_isSaid 168 = .ok (.getfield 86, 3) := dk_180 0 86 (dk_at dksX5_isSaid_7 5 rfl rfl)
theorem dX5_isSaid_171 : decode cX5_isSaid 171 = .ok (.iload_n 2, 1) := dk_28 (dk_at dksX5_isSaid_7 8 rfl rfl)
theorem dX5_isSaid_172 : decode cX5_isSaid 172 = .ok (.aload_n 0, 1) := dk_42 (dk_at dksX5_isSaid_7 9 rfl rfl)
theorem dX5_isSaid_173 : decode cX5_isSaid 173 = .ok (.iload_n 1, 1) := dk_27 (dk_at dksX5_isSaid_7 10 rfl rfl)
theorem dX5_isSaid_174 : decode cX5_isSaid 174 = .ok (.aload_n 0, 1) := dk_42 (dk_at dksX5_isSaid_7 11 rfl rfl)
theorem dX5_isSaid_175 : decode cX5_isSaid 175 = .ok (.getfield 33, 3) := dk_180 0 33 (dk_at dksX5_isSaid_7 12 rfl rfl)
theorem dX5_isSaid_178 : decode cX5_isSaid 178 = .ok (.iload 4, 2) := dk_21 4 (dk_at dksX5_isSaid_7 15 rfl rfl)
theorem dX5_isSaid_180 : decode cX5_isSaid 180 = .ok (.iaload, 1) := dk_46 (dk_at dksX5_isSaid_7 17 rfl rfl)
theorem dX5_isSaid_181 : decode cX5_isSaid 181 = .ok (.aload_n 0, 1) := dk_42 (dk_at dksX5_isSaid_7 18 rfl rfl)
theorem dX5_isSaid_182 : decode cX5_isSaid 182 = .ok (.getfield 33, 3) := dk_180 0 33 (dk_at dksX5_isSaid_7 19 rfl rfl)
theorem dX5_isSaid_185 : decode cX5_isSaid 185 = .ok (.iload 4, 2) := dk_21 4 (dk_at dksX5_isSaid_7 22 rfl rfl)
theorem dX5_isSaid_187 : decode cX5_isSaid 187 = .ok (.iconst 1, 1) := dk_4 (dk_at dksX5_isSaid_8 0 rfl rfl)
theorem dX5_isSaid_188 : decode cX5_isSaid 188 = .ok (.iadd, 1) := dk_96 (dk_at dksX5_isSaid_8 1 rfl rfl)
theorem dX5_isSaid_189 : decode cX5_isSaid 189 = .ok (.iaload, 1) := dk_46 (dk_at dksX5_isSaid_8 2 rfl rfl)
theorem dX5_isSaid_190 : decode cX5_isSaid 190 = .ok (.aload_n 0, 1) := dk_42 (dk_at dksX5_isSaid_8 3 rfl rfl)
theorem dX5_isSaid_191 : decode cX5_isSaid 191 = .ok (.getfield 33, 3) := dk_180 0 33 (dk_at dksX5_isSaid_8 4 rfl rfl)
theorem dX5_isSaid_194 : decode cX5_isSaid 194 = .ok (.iload 4, 2) := dk_21 4 (dk_at dksX5_isSaid_8 7 rfl rfl)
theorem dX5_isSaid_196 : decode cX5_isSaid 196 = .ok (.iconst 2, 1) := dk_5 (dk_at dksX5_isSaid_8 9 rfl rfl)
theorem dX5_isSaid_197 : decode cX5_isSaid 197 = .ok (.iadd, 1) := dk_96 (dk_at dksX5_isSaid_8 10 rfl rfl)
theorem dX5_isSaid_198 : decode cX5_isSaid 198 = .ok (.iaload, 1) := dk_46 (dk_at dksX5_isSaid_8 11 rfl rfl)
theorem dX5_isSaid_199 : decode cX5_isSaid 199 = .ok (.invokevirtual 494, 3) := dk_182 1 238 (dk_at dksX5_isSaid_8 12 rfl rfl)
theorem dX5_isSaid_202 : decode cX5_isSaid 202 = .ok (.bastore, 1) := dk_84 (dk_at dksX5_isSaid_8 15 rfl rfl)
theorem dX5_isSaid_203 : decode cX5_isSaid 203 = .ok (.iinc 2 1, 3) := dk_132 2 1 (dk_at dksX5_isSaid_8 16 rfl rfl)
theorem dX5_isSaid_206 : decode cX5_isSaid 206 = .ok (.iinc 3 1, 3) := dk_132 3 1 (dk_at dksX5_isSaid_8 19 rfl rfl)
theorem dX5_isSaid_209 : decode cX5_isSaid 209 = .ok (.goto (-205), 3) := dk_167 255 51 (dk_at dksX5_isSaid_9 0 rfl rfl)
theorem dX5_isSaid_212 : decode cX5_isSaid 212 = .ok (.aload_n 0, 1) := dk_42 (dk_at dksX5_isSaid_9 3 rfl rfl)
theorem dX5_isSaid_213 : decode cX5_isSaid 213 = .ok (.getfield 86, 3) := dk_180 0 86 (dk_at dksX5_isSaid_9 4 rfl rfl)
theorem dX5_isSaid_216 : decode cX5_isSaid 216 = .ok (.iconst 0, 1) := dk_3 (dk_at dksX5_isSaid_9 7 rfl rfl)
theorem dX5_isSaid_217 : decode cX5_isSaid 217 = .ok (.baload, 1) := dk_51 (dk_at dksX5_isSaid_9 8 rfl rfl)
theorem dX5_isSaid_218 : decode cX5_isSaid 218 = .ok (.ireturn, 1) := dk_172 (dk_at dksX5_isSaid_9 9 rfl rfl)
abbrev cX5_isLeaf : ByteArray := prog_29_method_124_code
def yX5_isLeaf : MethodName := ⟨RX5, "isLeaf", "(IIII)Z"⟩
def dkwX5_isLeaf_10 : List UInt8 := [3, 167, 0, 15, 21, 5, 21, 4, 164, 0, 7, 4, 167, 0, 4, 3, 172]
abbrev dktX5_isLeaf_10 : List UInt8 := dkwX5_isLeaf_10 ++ []
def dkwX5_isLeaf_9 : List UInt8 := [167, 0, 40, 3, 167, 0, 36, 29, 16, 61, 160, 0, 18, 21, 5, 21, 4, 160, 0, 7, 4, 167, 0, 19]
abbrev dktX5_isLeaf_9 : List UInt8 := dkwX5_isLeaf_9 ++ dktX5_isLeaf_10
def dkwX5_isLeaf_8 : List UInt8 := [184, 0, 238, 167, 0, 4, 27, 54, 5, 29, 16, 60, 160, 0, 18, 21, 5, 21, 4, 162, 0, 7, 4]
abbrev dktX5_isLeaf_8 : List UInt8 := dkwX5_isLeaf_8 ++ dktX5_isLeaf_9
def dkwX5_isLeaf_7 : List UInt8 := [42, 180, 0, 33, 6, 27, 96, 46, 100, 167, 0, 21, 28, 16, 7, 160, 0, 14, 42, 27, 182, 1, 22]
abbrev dktX5_isLeaf_7 : List UInt8 := dkwX5_isLeaf_7 ++ dktX5_isLeaf_8
def dkwX5_isLeaf_6 : List UInt8 := [180, 0, 33, 16, 105, 27, 96, 46, 167, 0, 46, 28, 16, 6, 160, 0, 22, 42, 180, 0, 33, 16, 100, 46]
abbrev dktX5_isLeaf_6 : List UInt8 := dkwX5_isLeaf_6 ++ dktX5_isLeaf_7
def dkwX5_isLeaf_5 : List UInt8 := [172, 42, 180, 0, 33, 16, 27, 27, 96, 46, 21, 4, 184, 0, 242, 172, 28, 8, 160, 0, 15, 42]
abbrev dktX5_isLeaf_5 : List UInt8 := dkwX5_isLeaf_5 ++ dktX5_isLeaf_6
def dkwX5_isLeaf_4 : List UInt8 := [154, 0, 7, 4, 167, 0, 4, 3, 172, 42, 27, 21, 4, 182, 1, 38, 155, 0, 7, 4, 167, 0, 4, 3]
abbrev dktX5_isLeaf_4 : List UInt8 := dkwX5_isLeaf_4 ++ dktX5_isLeaf_5
def dkwX5_isLeaf_3 : List UInt8 := [158, 0, 7, 4, 167, 0, 4, 3, 172, 42, 180, 0, 33, 16, 27, 27, 96, 46, 42, 182, 1, 16, 126]
abbrev dktX5_isLeaf_3 : List UInt8 := dkwX5_isLeaf_3 ++ dktX5_isLeaf_4
def dkwX5_isLeaf_2 : List UInt8 := [42, 27, 182, 1, 19, 154, 0, 7, 4, 167, 0, 4, 3, 172, 42, 180, 0, 33, 16, 117, 27, 96, 46]
abbrev dktX5_isLeaf_2 : List UInt8 := dkwX5_isLeaf_2 ++ dktX5_isLeaf_3
def dkwX5_isLeaf_1 : List UInt8 := [170, 0, 0, 0, 0, 0, 121, 0, 0, 0, 0, 0, 0, 0, 4, 0, 0, 0, 35, 0, 0, 0, 49, 0, 0, 0, 67, 0, 0, 0, 90, 0, 0, 0, 106]
abbrev dktX5_isLeaf_1 : List UInt8 := dkwX5_isLeaf_1 ++ dktX5_isLeaf_2
def dkwX5_isLeaf_0 : List UInt8 := [28]
abbrev dktX5_isLeaf_0 : List UInt8 := dkwX5_isLeaf_0 ++ dktX5_isLeaf_1
theorem dksX5_isLeaf_0 : cX5_isLeaf.data.toList.drop 0 = dktX5_isLeaf_0 := by decide +kernel
theorem dksX5_isLeaf_1 : cX5_isLeaf.data.toList.drop 1 = dktX5_isLeaf_1 := dk_seg dksX5_isLeaf_0 1 rfl rfl
theorem dksX5_isLeaf_2 : cX5_isLeaf.data.toList.drop 36 = dktX5_isLeaf_2 := dk_seg dksX5_isLeaf_1 35 rfl rfl
theorem dksX5_isLeaf_3 : cX5_isLeaf.data.toList.drop 59 = dktX5_isLeaf_3 := dk_seg dksX5_isLeaf_2 23 rfl rfl
theorem dksX5_isLeaf_4 : cX5_isLeaf.data.toList.drop 82 = dktX5_isLeaf_4 := dk_seg dksX5_isLeaf_3 23 rfl rfl
theorem dksX5_isLeaf_5 : cX5_isLeaf.data.toList.drop 106 = dktX5_isLeaf_5 := dk_seg dksX5_isLeaf_4 24 rfl rfl
theorem dksX5_isLeaf_6 : cX5_isLeaf.data.toList.drop 128 = dktX5_isLeaf_6 := dk_seg dksX5_isLeaf_5 22 rfl rfl
theorem dksX5_isLeaf_7 : cX5_isLeaf.data.toList.drop 152 = dktX5_isLeaf_7 := dk_seg dksX5_isLeaf_6 24 rfl rfl
theorem dksX5_isLeaf_8 : cX5_isLeaf.data.toList.drop 175 = dktX5_isLeaf_8 := dk_seg dksX5_isLeaf_7 23 rfl rfl
theorem dksX5_isLeaf_9 : cX5_isLeaf.data.toList.drop 198 = dktX5_isLeaf_9 := dk_seg dksX5_isLeaf_8 23 rfl rfl
theorem dksX5_isLeaf_10 : cX5_isLeaf.data.toList.drop 222 = dktX5_isLeaf_10 := dk_seg dksX5_isLeaf_9 24 rfl rfl
theorem dX5_isLeaf_0 : decode cX5_isLeaf 0 = .ok (.iload_n 2, 1) := dk_28 (dk_at dksX5_isLeaf_0 0 rfl rfl)
theorem dX5_isLeaf_1 : decode cX5_isLeaf 1 = .ok (.tableswitch 121 0 4 #[35, 49, 67, 90, 106], 35) := by decide +kernel
theorem dX5_isLeaf_36 : decode cX5_isLeaf 36 = .ok (.aload_n 0, 1) := dk_42 (dk_at dksX5_isLeaf_2 0 rfl rfl)
theorem dX5_isLeaf_37 : decode cX5_isLeaf 37 = .ok (.iload_n 1, 1) := dk_27 (dk_at dksX5_isLeaf_2 1 rfl rfl)
theorem dX5_isLeaf_38 : decode cX5_isLeaf 38 = .ok (.invokevirtual 275, 3) := dk_182 1 19 (dk_at dksX5_isLeaf_2 2 rfl rfl)
theorem dX5_isLeaf_41 : decode cX5_isLeaf 41 = .ok (.ifCond .ne 7, 3) := dk_154 0 7 (dk_at dksX5_isLeaf_2 5 rfl rfl)
theorem dX5_isLeaf_44 : decode cX5_isLeaf 44 = .ok (.iconst 1, 1) := dk_4 (dk_at dksX5_isLeaf_2 8 rfl rfl)
theorem dX5_isLeaf_45 : decode cX5_isLeaf 45 = .ok (.goto 4, 3) := dk_167 0 4 (dk_at dksX5_isLeaf_2 9 rfl rfl)
theorem dX5_isLeaf_48 : decode cX5_isLeaf 48 = .ok (.iconst 0, 1) := dk_3 (dk_at dksX5_isLeaf_2 12 rfl rfl)
theorem dX5_isLeaf_49 : decode cX5_isLeaf 49 = .ok (.ireturn, 1) := dk_172 (dk_at dksX5_isLeaf_2 13 rfl rfl)
theorem dX5_isLeaf_50 : decode cX5_isLeaf 50 = .ok (.aload_n 0, 1) := dk_42 (dk_at dksX5_isLeaf_2 14 rfl rfl)
theorem dX5_isLeaf_51 : decode cX5_isLeaf 51 = .ok (.getfield 33, 3) := dk_180 0 33 (dk_at dksX5_isLeaf_2 15 rfl rfl)
theorem dX5_isLeaf_54 : decode cX5_isLeaf 54 = .ok (.bipush 117, 2) := dk_16 117 (dk_at dksX5_isLeaf_2 18 rfl rfl)
theorem dX5_isLeaf_56 : decode cX5_isLeaf 56 = .ok (.iload_n 1, 1) := dk_27 (dk_at dksX5_isLeaf_2 20 rfl rfl)
theorem dX5_isLeaf_57 : decode cX5_isLeaf 57 = .ok (.iadd, 1) := dk_96 (dk_at dksX5_isLeaf_2 21 rfl rfl)
theorem dX5_isLeaf_58 : decode cX5_isLeaf 58 = .ok (.iaload, 1) := dk_46 (dk_at dksX5_isLeaf_2 22 rfl rfl)
theorem dX5_isLeaf_59 : decode cX5_isLeaf 59 = .ok (.ifCond .le 7, 3) := dk_158 0 7 (dk_at dksX5_isLeaf_3 0 rfl rfl)
theorem dX5_isLeaf_62 : decode cX5_isLeaf 62 = .ok (.iconst 1, 1) := dk_4 (dk_at dksX5_isLeaf_3 3 rfl rfl)
theorem dX5_isLeaf_63 : decode cX5_isLeaf 63 = .ok (.goto 4, 3) := dk_167 0 4 (dk_at dksX5_isLeaf_3 4 rfl rfl)
theorem dX5_isLeaf_66 : decode cX5_isLeaf 66 = .ok (.iconst 0, 1) := dk_3 (dk_at dksX5_isLeaf_3 7 rfl rfl)
theorem dX5_isLeaf_67 : decode cX5_isLeaf 67 = .ok (.ireturn, 1) := dk_172 (dk_at dksX5_isLeaf_3 8 rfl rfl)
theorem dX5_isLeaf_68 : decode cX5_isLeaf 68 = .ok (.aload_n 0, 1) := dk_42 (dk_at dksX5_isLeaf_3 9 rfl rfl)
theorem dX5_isLeaf_69 : decode cX5_isLeaf 69 = .ok (.getfield 33, 3) := dk_180 0 33 (dk_at dksX5_isLeaf_3 10 rfl rfl)
theorem dX5_isLeaf_72 : decode cX5_isLeaf 72 = .ok (.bipush 27, 2) := dk_16 27 (dk_at dksX5_isLeaf_3 13 rfl rfl)
theorem dX5_isLeaf_74 : decode cX5_isLeaf 74 = .ok (.iload_n 1, 1) := dk_27 (dk_at dksX5_isLeaf_3 15 rfl rfl)
theorem dX5_isLeaf_75 : decode cX5_isLeaf 75 = .ok (.iadd, 1) := dk_96 (dk_at dksX5_isLeaf_3 16 rfl rfl)
theorem dX5_isLeaf_76 : decode cX5_isLeaf 76 = .ok (.iaload, 1) := dk_46 (dk_at dksX5_isLeaf_3 17 rfl rfl)
theorem dX5_isLeaf_77 : decode cX5_isLeaf 77 = .ok (.aload_n 0, 1) := dk_42 (dk_at dksX5_isLeaf_3 18 rfl rfl)
theorem dX5_isLeaf_78 : decode cX5_isLeaf 78 = .ok (.invokevirtual 272, 3) := dk_182 1 16 (dk_at dksX5_isLeaf_3 19 rfl rfl)
theorem dX5_isLeaf_81 : decode cX5_isLeaf 81 = .ok (.iand, 1) := dk_126 (dk_at dksX5_isLeaf_3 22 rfl rfl)
theorem dX5_isLeaf_82 : decode cX5_isLeaf 82 = .ok (.ifCond .ne 7, 3) := dk_154 0 7 (dk_at dksX5_isLeaf_4 0 rfl rfl)
theorem dX5_isLeaf_85 : decode cX5_isLeaf 85 = .ok (.iconst 1, 1) := dk_4 (dk_at dksX5_isLeaf_4 3 rfl rfl)
theorem dX5_isLeaf_86 : decode cX5_isLeaf 86 = .ok (.goto 4, 3) := dk_167 0 4 (dk_at dksX5_isLeaf_4 4 rfl rfl)
theorem dX5_isLeaf_89 : decode cX5_isLeaf 89 = .ok (.iconst 0, 1) := dk_3 (dk_at dksX5_isLeaf_4 7 rfl rfl)
theorem dX5_isLeaf_90 : decode cX5_isLeaf 90 = .ok (.ireturn, 1) := dk_172 (dk_at dksX5_isLeaf_4 8 rfl rfl)
theorem dX5_isLeaf_91 : decode cX5_isLeaf 91 = .ok (.aload_n 0, 1) := dk_42 (dk_at dksX5_isLeaf_4 9 rfl rfl)
theorem dX5_isLeaf_92 : decode cX5_isLeaf 92 = .ok (.iload_n 1, 1) := dk_27 (dk_at dksX5_isLeaf_4 10 rfl rfl)
theorem dX5_isLeaf_93 : decode cX5_isLeaf 93 = .ok (.iload 4, 2) := dk_21 4 (dk_at dksX5_isLeaf_4 11 rfl rfl)
theorem dX5_isLeaf_95 : decode cX5_isLeaf 95 = .ok (.invokevirtual 294, 3) := dk_182 1 38 (dk_at dksX5_isLeaf_4 13 rfl rfl)
theorem dX5_isLeaf_98 : decode cX5_isLeaf 98 = .ok (.ifCond .lt 7, 3) := dk_155 0 7 (dk_at dksX5_isLeaf_4 16 rfl rfl)
theorem dX5_isLeaf_101 : decode cX5_isLeaf 101 = .ok (.iconst 1, 1) := dk_4 (dk_at dksX5_isLeaf_4 19 rfl rfl)
theorem dX5_isLeaf_102 : decode cX5_isLeaf 102 = .ok (.goto 4, 3) := dk_167 0 4 (dk_at dksX5_isLeaf_4 20 rfl rfl)
theorem dX5_isLeaf_105 : decode cX5_isLeaf 105 = .ok (.iconst 0, 1) := dk_3 (dk_at dksX5_isLeaf_4 23 rfl rfl)
theorem dX5_isLeaf_106 : decode cX5_isLeaf 106 = .ok (.ireturn, 1) := dk_172 (dk_at dksX5_isLeaf_5 0 rfl rfl)
theorem dX5_isLeaf_107 : decode cX5_isLeaf 107 = .ok (.aload_n 0, 1) := dk_42 (dk_at dksX5_isLeaf_5 1 rfl rfl)
theorem dX5_isLeaf_108 : decode cX5_isLeaf 108 = .ok (.getfield 33, 3) := dk_180 0 33 (dk_at dksX5_isLeaf_5 2 rfl rfl)
theorem dX5_isLeaf_111 : decode cX5_isLeaf 111 = .ok (.bipush 27, 2) := dk_16 27 (dk_at dksX5_isLeaf_5 5 rfl rfl)
theorem dX5_isLeaf_113 : decode cX5_isLeaf 113 = .ok (.iload_n 1, 1) := dk_27 (dk_at dksX5_isLeaf_5 7 rfl rfl)
theorem dX5_isLeaf_114 : decode cX5_isLeaf 114 = .ok (.iadd, 1) := dk_96 (dk_at dksX5_isLeaf_5 8 rfl rfl)
theorem dX5_isLeaf_115 : decode cX5_isLeaf 115 = .ok (.iaload, 1) := dk_46 (dk_at dksX5_isLeaf_5 9 rfl rfl)
theorem dX5_isLeaf_116 : decode cX5_isLeaf 116 = .ok (.iload 4, 2) := dk_21 4 (dk_at dksX5_isLeaf_5 10 rfl rfl)
theorem dX5_isLeaf_118 : decode cX5_isLeaf 118 = .ok (.invokestatic 242, 3) := dk_184 0 242 (dk_at dksX5_isLeaf_5 12 rfl rfl)
theorem dX5_isLeaf_121 : decode cX5_isLeaf 121 = .ok (.ireturn, 1) := dk_172 (dk_at dksX5_isLeaf_5 15 rfl rfl)
theorem dX5_isLeaf_122 : decode cX5_isLeaf 122 = .ok (.iload_n 2, 1) := dk_28 (dk_at dksX5_isLeaf_5 16 rfl rfl)
theorem dX5_isLeaf_123 : decode cX5_isLeaf 123 = .ok (.iconst 5, 1) := dk_8 (dk_at dksX5_isLeaf_5 17 rfl rfl)
theorem dX5_isLeaf_124 : decode cX5_isLeaf 124 = .ok (.if_icmp .ne 15, 3) := dk_160 0 15 (dk_at dksX5_isLeaf_5 18 rfl rfl)
theorem dX5_isLeaf_127 : decode cX5_isLeaf 127 = .ok (.aload_n 0, 1) := dk_42 (dk_at dksX5_isLeaf_5 21 rfl rfl)
theorem dX5_isLeaf_128 : decode cX5_isLeaf 128 = .ok (.getfield 33, 3) := dk_180 0 33 (dk_at dksX5_isLeaf_6 0 rfl rfl)
theorem dX5_isLeaf_131 : decode cX5_isLeaf 131 = .ok (.bipush 105, 2) := dk_16 105 (dk_at dksX5_isLeaf_6 3 rfl rfl)
theorem dX5_isLeaf_133 : decode cX5_isLeaf 133 = .ok (.iload_n 1, 1) := dk_27 (dk_at dksX5_isLeaf_6 5 rfl rfl)
theorem dX5_isLeaf_134 : decode cX5_isLeaf 134 = .ok (.iadd, 1) := dk_96 (dk_at dksX5_isLeaf_6 6 rfl rfl)
theorem dX5_isLeaf_135 : decode cX5_isLeaf 135 = .ok (.iaload, 1) := dk_46 (dk_at dksX5_isLeaf_6 7 rfl rfl)
theorem dX5_isLeaf_136 : decode cX5_isLeaf 136 = .ok (.goto 46, 3) := dk_167 0 46 (dk_at dksX5_isLeaf_6 8 rfl rfl)
theorem dX5_isLeaf_139 : decode cX5_isLeaf 139 = .ok (.iload_n 2, 1) := dk_28 (dk_at dksX5_isLeaf_6 11 rfl rfl)
theorem dX5_isLeaf_140 : decode cX5_isLeaf 140 = .ok (.bipush 6, 2) := dk_16 6 (dk_at dksX5_isLeaf_6 12 rfl rfl)
theorem dX5_isLeaf_142 : decode cX5_isLeaf 142 = .ok (.if_icmp .ne 22, 3) := dk_160 0 22 (dk_at dksX5_isLeaf_6 14 rfl rfl)
theorem dX5_isLeaf_145 : decode cX5_isLeaf 145 = .ok (.aload_n 0, 1) := dk_42 (dk_at dksX5_isLeaf_6 17 rfl rfl)
theorem dX5_isLeaf_146 : decode cX5_isLeaf 146 = .ok (.getfield 33, 3) := dk_180 0 33 (dk_at dksX5_isLeaf_6 18 rfl rfl)
theorem dX5_isLeaf_149 : decode cX5_isLeaf 149 = .ok (.bipush 100, 2) := dk_16 100 (dk_at dksX5_isLeaf_6 21 rfl rfl)
theorem dX5_isLeaf_151 : decode cX5_isLeaf 151 = .ok (.iaload, 1) := dk_46 (dk_at dksX5_isLeaf_6 23 rfl rfl)
theorem dX5_isLeaf_152 : decode cX5_isLeaf 152 = .ok (.aload_n 0, 1) := dk_42 (dk_at dksX5_isLeaf_7 0 rfl rfl)
theorem dX5_isLeaf_153 : decode cX5_isLeaf 153 = .ok (.getfield 33, 3) := dk_180 0 33 (dk_at dksX5_isLeaf_7 1 rfl rfl)
theorem dX5_isLeaf_156 : decode cX5_isLeaf 156 = .ok (.iconst 3, 1) := dk_6 (dk_at dksX5_isLeaf_7 4 rfl rfl)
theorem dX5_isLeaf_157 : decode cX5_isLeaf 157 = .ok (.iload_n 1, 1) := dk_27 (dk_at dksX5_isLeaf_7 5 rfl rfl)
theorem dX5_isLeaf_158 : decode cX5_isLeaf 158 = .ok (.iadd, 1) := dk_96 (dk_at dksX5_isLeaf_7 6 rfl rfl)
theorem dX5_isLeaf_159 : decode cX5_isLeaf 159 = .ok (.iaload, 1) := dk_46 (dk_at dksX5_isLeaf_7 7 rfl rfl)
theorem dX5_isLeaf_160 : decode cX5_isLeaf 160 = .ok (.isub, 1) := dk_100 (dk_at dksX5_isLeaf_7 8 rfl rfl)
theorem dX5_isLeaf_161 : decode cX5_isLeaf 161 = .ok (.goto 21, 3) := dk_167 0 21 (dk_at dksX5_isLeaf_7 9 rfl rfl)
theorem dX5_isLeaf_164 : decode cX5_isLeaf 164 = .ok (.iload_n 2, 1) := dk_28 (dk_at dksX5_isLeaf_7 12 rfl rfl)
theorem dX5_isLeaf_165 : decode cX5_isLeaf 165 = .ok (.bipush 7, 2) := dk_16 7 (dk_at dksX5_isLeaf_7 13 rfl rfl)
theorem dX5_isLeaf_167 : decode cX5_isLeaf 167 = .ok (.if_icmp .ne 14, 3) := dk_160 0 14 (dk_at dksX5_isLeaf_7 15 rfl rfl)
theorem dX5_isLeaf_170 : decode cX5_isLeaf 170 = .ok (.aload_n 0, 1) := dk_42 (dk_at dksX5_isLeaf_7 18 rfl rfl)
theorem dX5_isLeaf_171 : decode cX5_isLeaf 171 = .ok (.iload_n 1, 1) := dk_27 (dk_at dksX5_isLeaf_7 19 rfl rfl)
theorem dX5_isLeaf_172 : decode cX5_isLeaf 172 = .ok (.invokevirtual 278, 3) := dk_182 1 22 (dk_at dksX5_isLeaf_7 20 rfl rfl)
theorem dX5_isLeaf_175 : decode cX5_isLeaf 175 = .ok (.invokestatic 238, 3) := dk_184 0 238 (dk_at dksX5_isLeaf_8 0 rfl rfl)
theorem dX5_isLeaf_178 : decode cX5_isLeaf 178 = .ok (.goto 4, 3) := dk_167 0 4 (dk_at dksX5_isLeaf_8 3 rfl rfl)
theorem dX5_isLeaf_181 : decode cX5_isLeaf 181 = .ok (.iload_n 1, 1) := dk_27 (dk_at dksX5_isLeaf_8 6 rfl rfl)
theorem dX5_isLeaf_182 : decode cX5_isLeaf 182 = .ok (.istore 5, 2) := dk_54 5 (dk_at dksX5_isLeaf_8 7 rfl rfl)
theorem dX5_isLeaf_184 : decode cX5_isLeaf 184 = .ok (.iload_n 3, 1) := dk_29 (dk_at dksX5_isLeaf_8 9 rfl rfl)
theorem dX5_isLeaf_185 : decode cX5_isLeaf 185 = .ok (.bipush 60, 2) := dk_16 60 (dk_at dksX5_isLeaf_8 10 rfl rfl)
theorem dX5_isLeaf_187 : decode cX5_isLeaf 187 = .ok (.if_icmp .ne 18, 3) := dk_160 0 18 (dk_at dksX5_isLeaf_8 12 rfl rfl)
theorem dX5_isLeaf_190 : decode cX5_isLeaf 190 = .ok (.iload 5, 2) := dk_21 5 (dk_at dksX5_isLeaf_8 15 rfl rfl)
theorem dX5_isLeaf_192 : decode cX5_isLeaf 192 = .ok (.iload 4, 2) := dk_21 4 (dk_at dksX5_isLeaf_8 17 rfl rfl)
theorem dX5_isLeaf_194 : decode cX5_isLeaf 194 = .ok (.if_icmp .ge 7, 3) := dk_162 0 7 (dk_at dksX5_isLeaf_8 19 rfl rfl)
theorem dX5_isLeaf_197 : decode cX5_isLeaf 197 = .ok (.iconst 1, 1) := dk_4 (dk_at dksX5_isLeaf_8 22 rfl rfl)
theorem dX5_isLeaf_198 : decode cX5_isLeaf 198 = .ok (.goto 40, 3) := dk_167 0 40 (dk_at dksX5_isLeaf_9 0 rfl rfl)
theorem dX5_isLeaf_201 : decode cX5_isLeaf 201 = .ok (.iconst 0, 1) := dk_3 (dk_at dksX5_isLeaf_9 3 rfl rfl)
theorem dX5_isLeaf_202 : decode cX5_isLeaf 202 = .ok (.goto 36, 3) := dk_167 0 36 (dk_at dksX5_isLeaf_9 4 rfl rfl)
theorem dX5_isLeaf_205 : decode cX5_isLeaf 205 = .ok (.iload_n 3, 1) := dk_29 (dk_at dksX5_isLeaf_9 7 rfl rfl)
theorem dX5_isLeaf_206 : decode cX5_isLeaf 206 = .ok (.bipush 61, 2) := dk_16 61 (dk_at dksX5_isLeaf_9 8 rfl rfl)
theorem dX5_isLeaf_208 : decode cX5_isLeaf 208 = .ok (.if_icmp .ne 18, 3) := dk_160 0 18 (dk_at dksX5_isLeaf_9 10 rfl rfl)
theorem dX5_isLeaf_211 : decode cX5_isLeaf 211 = .ok (.iload 5, 2) := dk_21 5 (dk_at dksX5_isLeaf_9 13 rfl rfl)
theorem dX5_isLeaf_213 : decode cX5_isLeaf 213 = .ok (.iload 4, 2) := dk_21 4 (dk_at dksX5_isLeaf_9 15 rfl rfl)
theorem dX5_isLeaf_215 : decode cX5_isLeaf 215 = .ok (.if_icmp .ne 7, 3) := dk_160 0 7 (dk_at dksX5_isLeaf_9 17 rfl rfl)
theorem dX5_isLeaf_218 : decode cX5_isLeaf 218 = .ok (.iconst 1, 1) := dk_4 (dk_at dksX5_isLeaf_9 20 rfl rfl)
theorem dX5_isLeaf_219 : decode cX5_isLeaf 219 = .ok (.goto 19, 3) := dk_167 0 19 (dk_at dksX5_isLeaf_9 21 rfl rfl)
theorem dX5_isLeaf_222 : decode cX5_isLeaf 222 = .ok (.iconst 0, 1) := dk_3 (dk_at dksX5_isLeaf_10 0 rfl rfl)
theorem dX5_isLeaf_223 : decode cX5_isLeaf 223 = .ok (.goto 15, 3) := dk_167 0 15 (dk_at dksX5_isLeaf_10 1 rfl rfl)
theorem dX5_isLeaf_226 : decode cX5_isLeaf 226 = .ok (.iload 5, 2) := dk_21 5 (dk_at dksX5_isLeaf_10 4 rfl rfl)
theorem dX5_isLeaf_228 : decode cX5_isLeaf 228 = .ok (.iload 4, 2) := dk_21 4 (dk_at dksX5_isLeaf_10 6 rfl rfl)
theorem dX5_isLeaf_230 : decode cX5_isLeaf 230 = .ok (.if_icmp .le 7, 3) := dk_164 0 7 (dk_at dksX5_isLeaf_10 8 rfl rfl)
theorem dX5_isLeaf_233 : decode cX5_isLeaf 233 = .ok (.iconst 1, 1) := dk_4 (dk_at dksX5_isLeaf_10 11 rfl rfl)
theorem dX5_isLeaf_234 : decode cX5_isLeaf 234 = .ok (.goto 4, 3) := dk_167 0 4 (dk_at dksX5_isLeaf_10 12 rfl rfl)
theorem dX5_isLeaf_237 : decode cX5_isLeaf 237 = .ok (.iconst 0, 1) := dk_3 (dk_at dksX5_isLeaf_10 15 rfl rfl)
theorem dX5_isLeaf_238 : decode cX5_isLeaf 238 = .ok (.ireturn, 1) := dk_172 (dk_at dksX5_isLeaf_10 16 rfl rfl)
abbrev cX5_image : ByteArray := prog_29_method_127_code
def yX5_image : MethodName := ⟨RX5, "image", "(I)Z"⟩
def dkwX5_image_3 : List UInt8 := [180, 0, 43, 28, 47, 80, 132, 2, 1, 167, 255, 230, 42, 180, 0, 96, 27, 4, 84, 4, 172]
abbrev dktX5_image_3 : List UInt8 := dkwX5_image_3 ++ []
def dkwX5_image_2 : List UInt8 := [167, 255, 228, 3, 61, 28, 16, 12, 162, 0, 26, 42, 180, 0, 93, 16, 12, 27, 104, 28, 96, 42]
abbrev dktX5_image_2 : List UInt8 := dkwX5_image_2 ++ dktX5_image_3
def dkwX5_image_1 : List UInt8 := [162, 0, 27, 42, 180, 0, 90, 17, 1, 90, 27, 104, 28, 96, 42, 180, 0, 33, 28, 46, 79, 132, 2, 1]
abbrev dktX5_image_1 : List UInt8 := dkwX5_image_1 ++ dktX5_image_2
def dkwX5_image_0 : List UInt8 := [42, 3, 181, 0, 1, 27, 3, 4, 184, 0, 190, 154, 0, 5, 3, 172, 3, 61, 28, 17, 1, 90]
abbrev dktX5_image_0 : List UInt8 := dkwX5_image_0 ++ dktX5_image_1
theorem dksX5_image_0 : cX5_image.data.toList.drop 0 = dktX5_image_0 := by decide +kernel
theorem dksX5_image_1 : cX5_image.data.toList.drop 22 = dktX5_image_1 := dk_seg dksX5_image_0 22 rfl rfl
theorem dksX5_image_2 : cX5_image.data.toList.drop 46 = dktX5_image_2 := dk_seg dksX5_image_1 24 rfl rfl
theorem dksX5_image_3 : cX5_image.data.toList.drop 68 = dktX5_image_3 := dk_seg dksX5_image_2 22 rfl rfl
theorem dX5_image_0 : decode cX5_image 0 = .ok (.aload_n 0, 1) := dk_42 (dk_at dksX5_image_0 0 rfl rfl)
theorem dX5_image_1 : decode cX5_image 1 = .ok (.iconst 0, 1) := dk_3 (dk_at dksX5_image_0 1 rfl rfl)
theorem dX5_image_2 : decode cX5_image 2 = .ok (.putfield 1, 3) := dk_181 0 1 (dk_at dksX5_image_0 2 rfl rfl)
theorem dX5_image_5 : decode cX5_image 5 = .ok (.iload_n 1, 1) := dk_27 (dk_at dksX5_image_0 5 rfl rfl)
theorem dX5_image_6 : decode cX5_image 6 = .ok (.iconst 0, 1) := dk_3 (dk_at dksX5_image_0 6 rfl rfl)
theorem dX5_image_7 : decode cX5_image 7 = .ok (.iconst 1, 1) := dk_4 (dk_at dksX5_image_0 7 rfl rfl)
theorem dX5_image_8 : decode cX5_image 8 = .ok (.invokestatic 190, 3) := dk_184 0 190 (dk_at dksX5_image_0 8 rfl rfl)
theorem dX5_image_11 : decode cX5_image 11 = .ok (.ifCond .ne 5, 3) := dk_154 0 5 (dk_at dksX5_image_0 11 rfl rfl)
theorem dX5_image_14 : decode cX5_image 14 = .ok (.iconst 0, 1) := dk_3 (dk_at dksX5_image_0 14 rfl rfl)
theorem dX5_image_15 : decode cX5_image 15 = .ok (.ireturn, 1) := dk_172 (dk_at dksX5_image_0 15 rfl rfl)
theorem dX5_image_16 : decode cX5_image 16 = .ok (.iconst 0, 1) := dk_3 (dk_at dksX5_image_0 16 rfl rfl)
theorem dX5_image_17 : decode cX5_image 17 = .ok (.istore_n 2, 1) := dk_61 (dk_at dksX5_image_0 17 rfl rfl)
theorem dX5_image_18 : decode cX5_image 18 = .ok (.iload_n 2, 1) := dk_28 (dk_at dksX5_image_0 18 rfl rfl)
theorem dX5_image_19 : decode cX5_image 19 = .ok (.sipush 346, 3) := dk_17 1 90 (dk_at dksX5_image_0 19 rfl rfl)
theorem dX5_image_22 : decode cX5_image 22 = .ok (.if_icmp .ge 27, 3) := dk_162 0 27 (dk_at dksX5_image_1 0 rfl rfl)
theorem dX5_image_25 : decode cX5_image 25 = .ok (.aload_n 0, 1) := dk_42 (dk_at dksX5_image_1 3 rfl rfl)
theorem dX5_image_26 : decode cX5_image 26 = .ok (.getfield 90, 3) := dk_180 0 90 (dk_at dksX5_image_1 4 rfl rfl)
theorem dX5_image_29 : decode cX5_image 29 = .ok (.sipush 346, 3) := dk_17 1 90 (dk_at dksX5_image_1 7 rfl rfl)
theorem dX5_image_32 : decode cX5_image 32 = .ok (.iload_n 1, 1) := dk_27 (dk_at dksX5_image_1 10 rfl rfl)
theorem dX5_image_33 : decode cX5_image 33 = .ok (.imul, 1) := dk_104 (dk_at dksX5_image_1 11 rfl rfl)
theorem dX5_image_34 : decode cX5_image 34 = .ok (.iload_n 2, 1) := dk_28 (dk_at dksX5_image_1 12 rfl rfl)
theorem dX5_image_35 : decode cX5_image 35 = .ok (.iadd, 1) := dk_96 (dk_at dksX5_image_1 13 rfl rfl)
theorem dX5_image_36 : decode cX5_image 36 = .ok (.aload_n 0, 1) := dk_42 (dk_at dksX5_image_1 14 rfl rfl)
theorem dX5_image_37 : decode cX5_image 37 = .ok (.getfield 33, 3) := dk_180 0 33 (dk_at dksX5_image_1 15 rfl rfl)
theorem dX5_image_40 : decode cX5_image 40 = .ok (.iload_n 2, 1) := dk_28 (dk_at dksX5_image_1 18 rfl rfl)
theorem dX5_image_41 : decode cX5_image 41 = .ok (.iaload, 1) := dk_46 (dk_at dksX5_image_1 19 rfl rfl)
theorem dX5_image_42 : decode cX5_image 42 = .ok (.iastore, 1) := dk_79 (dk_at dksX5_image_1 20 rfl rfl)
theorem dX5_image_43 : decode cX5_image 43 = .ok (.iinc 2 1, 3) := dk_132 2 1 (dk_at dksX5_image_1 21 rfl rfl)
theorem dX5_image_46 : decode cX5_image 46 = .ok (.goto (-28), 3) := dk_167 255 228 (dk_at dksX5_image_2 0 rfl rfl)
theorem dX5_image_49 : decode cX5_image 49 = .ok (.iconst 0, 1) := dk_3 (dk_at dksX5_image_2 3 rfl rfl)
theorem dX5_image_50 : decode cX5_image 50 = .ok (.istore_n 2, 1) := dk_61 (dk_at dksX5_image_2 4 rfl rfl)
theorem dX5_image_51 : decode cX5_image 51 = .ok (.iload_n 2, 1) := dk_28 (dk_at dksX5_image_2 5 rfl rfl)
theorem dX5_image_52 : decode cX5_image 52 = .ok (.bipush 12, 2) := dk_16 12 (dk_at dksX5_image_2 6 rfl rfl)
theorem dX5_image_54 : decode cX5_image 54 = .ok (.if_icmp .ge 26, 3) := dk_162 0 26 (dk_at dksX5_image_2 8 rfl rfl)
theorem dX5_image_57 : decode cX5_image 57 = .ok (.aload_n 0, 1) := dk_42 (dk_at dksX5_image_2 11 rfl rfl)
theorem dX5_image_58 : decode cX5_image 58 = .ok (.getfield 93, 3) := dk_180 0 93 (dk_at dksX5_image_2 12 rfl rfl)
theorem dX5_image_61 : decode cX5_image 61 = .ok (.bipush 12, 2) := dk_16 12 (dk_at dksX5_image_2 15 rfl rfl)
theorem dX5_image_63 : decode cX5_image 63 = .ok (.iload_n 1, 1) := dk_27 (dk_at dksX5_image_2 17 rfl rfl)
theorem dX5_image_64 : decode cX5_image 64 = .ok (.imul, 1) := dk_104 (dk_at dksX5_image_2 18 rfl rfl)
theorem dX5_image_65 : decode cX5_image 65 = .ok (.iload_n 2, 1) := dk_28 (dk_at dksX5_image_2 19 rfl rfl)
theorem dX5_image_66 : decode cX5_image 66 = .ok (.iadd, 1) := dk_96 (dk_at dksX5_image_2 20 rfl rfl)
theorem dX5_image_67 : decode cX5_image 67 = .ok (.aload_n 0, 1) := dk_42 (dk_at dksX5_image_2 21 rfl rfl)
theorem dX5_image_68 : decode cX5_image 68 = .ok (.getfield 43, 3) := dk_180 0 43 (dk_at dksX5_image_3 0 rfl rfl)
theorem dX5_image_71 : decode cX5_image 71 = .ok (.iload_n 2, 1) := dk_28 (dk_at dksX5_image_3 3 rfl rfl)
theorem dX5_image_72 : decode cX5_image 72 = .ok (.laload, 1) := dk_47 (dk_at dksX5_image_3 4 rfl rfl)
theorem dX5_image_73 : decode cX5_image 73 = .ok (.lastore, 1) := dk_80 (dk_at dksX5_image_3 5 rfl rfl)
theorem dX5_image_74 : decode cX5_image 74 = .ok (.iinc 2 1, 3) := dk_132 2 1 (dk_at dksX5_image_3 6 rfl rfl)
theorem dX5_image_77 : decode cX5_image 77 = .ok (.goto (-26), 3) := dk_167 255 230 (dk_at dksX5_image_3 9 rfl rfl)
theorem dX5_image_80 : decode cX5_image 80 = .ok (.aload_n 0, 1) := dk_42 (dk_at dksX5_image_3 12 rfl rfl)
theorem dX5_image_81 : decode cX5_image 81 = .ok (.getfield 96, 3) := dk_180 0 96 (dk_at dksX5_image_3 13 rfl rfl)
theorem dX5_image_84 : decode cX5_image 84 = .ok (.iload_n 1, 1) := dk_27 (dk_at dksX5_image_3 16 rfl rfl)
theorem dX5_image_85 : decode cX5_image 85 = .ok (.iconst 1, 1) := dk_4 (dk_at dksX5_image_3 17 rfl rfl)
theorem dX5_image_86 : decode cX5_image 86 = .ok (.bastore, 1) := dk_84 (dk_at dksX5_image_3 18 rfl rfl)
theorem dX5_image_87 : decode cX5_image 87 = .ok (.iconst 1, 1) := dk_4 (dk_at dksX5_image_3 19 rfl rfl)
theorem dX5_image_88 : decode cX5_image 88 = .ok (.ireturn, 1) := dk_172 (dk_at dksX5_image_3 20 rfl rfl)
abbrev cX5_restore : ByteArray := prog_29_method_128_code
def yX5_restore : MethodName := ⟨RX5, "restore", "(I)Z"⟩
def dkwX5_restore_3 : List UInt8 := [180, 0, 93, 16, 12, 27, 104, 28, 96, 47, 80, 132, 2, 1, 167, 255, 230, 42, 3, 181, 1, 7, 4, 172]
abbrev dktX5_restore_3 : List UInt8 := dkwX5_restore_3 ++ []
def dkwX5_restore_2 : List UInt8 := [28, 96, 46, 79, 132, 2, 1, 167, 255, 228, 3, 61, 28, 16, 12, 162, 0, 26, 42, 180, 0, 43, 28, 42]
abbrev dktX5_restore_2 : List UInt8 := dkwX5_restore_2 ++ dktX5_restore_3
def dkwX5_restore_1 : List UInt8 := [172, 3, 61, 28, 17, 1, 90, 162, 0, 27, 42, 180, 0, 33, 28, 42, 180, 0, 90, 17, 1, 90, 27, 104]
abbrev dktX5_restore_1 : List UInt8 := dkwX5_restore_1 ++ dktX5_restore_2
def dkwX5_restore_0 : List UInt8 := [42, 3, 181, 0, 1, 27, 3, 4, 184, 0, 190, 153, 0, 12, 42, 180, 0, 96, 27, 51, 154, 0, 5, 3]
abbrev dktX5_restore_0 : List UInt8 := dkwX5_restore_0 ++ dktX5_restore_1
theorem dksX5_restore_0 : cX5_restore.data.toList.drop 0 = dktX5_restore_0 := by decide +kernel
theorem dksX5_restore_1 : cX5_restore.data.toList.drop 24 = dktX5_restore_1 := dk_seg dksX5_restore_0 24 rfl rfl
theorem dksX5_restore_2 : cX5_restore.data.toList.drop 48 = dktX5_restore_2 := dk_seg dksX5_restore_1 24 rfl rfl
theorem dksX5_restore_3 : cX5_restore.data.toList.drop 72 = dktX5_restore_3 := dk_seg dksX5_restore_2 24 rfl rfl
theorem dX5_restore_0 : decode cX5_restore 0 = .ok (.aload_n 0, 1) := dk_42 (dk_at dksX5_restore_0 0 rfl rfl)
theorem dX5_restore_1 : decode cX5_restore 1 = .ok (.iconst 0, 1) := dk_3 (dk_at dksX5_restore_0 1 rfl rfl)
theorem dX5_restore_2 : decode cX5_restore 2 = .ok (.putfield 1, 3) := dk_181 0 1 (dk_at dksX5_restore_0 2 rfl rfl)
theorem dX5_restore_5 : decode cX5_restore 5 = .ok (.iload_n 1, 1) := dk_27 (dk_at dksX5_restore_0 5 rfl rfl)
theorem dX5_restore_6 : decode cX5_restore 6 = .ok (.iconst 0, 1) := dk_3 (dk_at dksX5_restore_0 6 rfl rfl)
theorem dX5_restore_7 : decode cX5_restore 7 = .ok (.iconst 1, 1) := dk_4 (dk_at dksX5_restore_0 7 rfl rfl)
theorem dX5_restore_8 : decode cX5_restore 8 = .ok (.invokestatic 190, 3) := dk_184 0 190 (dk_at dksX5_restore_0 8 rfl rfl)
theorem dX5_restore_11 : decode cX5_restore 11 = .ok (.ifCond .eq 12, 3) := dk_153 0 12 (dk_at dksX5_restore_0 11 rfl rfl)
theorem dX5_restore_14 : decode cX5_restore 14 = .ok (.aload_n 0, 1) := dk_42 (dk_at dksX5_restore_0 14 rfl rfl)
theorem dX5_restore_15 : decode cX5_restore 15 = .ok (.getfield 96, 3) := dk_180 0 96 (dk_at dksX5_restore_0 15 rfl rfl)
theorem dX5_restore_18 : decode cX5_restore 18 = .ok (.iload_n 1, 1) := dk_27 (dk_at dksX5_restore_0 18 rfl rfl)
theorem dX5_restore_19 : decode cX5_restore 19 = .ok (.baload, 1) := dk_51 (dk_at dksX5_restore_0 19 rfl rfl)
theorem dX5_restore_20 : decode cX5_restore 20 = .ok (.ifCond .ne 5, 3) := dk_154 0 5 (dk_at dksX5_restore_0 20 rfl rfl)
theorem dX5_restore_23 : decode cX5_restore 23 = .ok (.iconst 0, 1) := dk_3 (dk_at dksX5_restore_0 23 rfl rfl)
theorem dX5_restore_24 : decode cX5_restore 24 = .ok (.ireturn, 1) := dk_172 (dk_at dksX5_restore_1 0 rfl rfl)
theorem dX5_restore_25 : decode cX5_restore 25 = .ok (.iconst 0, 1) := dk_3 (dk_at dksX5_restore_1 1 rfl rfl)
theorem dX5_restore_26 : decode cX5_restore 26 = .ok (.istore_n 2, 1) := dk_61 (dk_at dksX5_restore_1 2 rfl rfl)
theorem dX5_restore_27 : decode cX5_restore 27 = .ok (.iload_n 2, 1) := dk_28 (dk_at dksX5_restore_1 3 rfl rfl)
theorem dX5_restore_28 : decode cX5_restore 28 = .ok (.sipush 346, 3) := dk_17 1 90 (dk_at dksX5_restore_1 4 rfl rfl)
theorem dX5_restore_31 : decode cX5_restore 31 = .ok (.if_icmp .ge 27, 3) := dk_162 0 27 (dk_at dksX5_restore_1 7 rfl rfl)
theorem dX5_restore_34 : decode cX5_restore 34 = .ok (.aload_n 0, 1) := dk_42 (dk_at dksX5_restore_1 10 rfl rfl)
theorem dX5_restore_35 : decode cX5_restore 35 = .ok (.getfield 33, 3) := dk_180 0 33 (dk_at dksX5_restore_1 11 rfl rfl)
theorem dX5_restore_38 : decode cX5_restore 38 = .ok (.iload_n 2, 1) := dk_28 (dk_at dksX5_restore_1 14 rfl rfl)
theorem dX5_restore_39 : decode cX5_restore 39 = .ok (.aload_n 0, 1) := dk_42 (dk_at dksX5_restore_1 15 rfl rfl)
theorem dX5_restore_40 : decode cX5_restore 40 = .ok (.getfield 90, 3) := dk_180 0 90 (dk_at dksX5_restore_1 16 rfl rfl)
theorem dX5_restore_43 : decode cX5_restore 43 = .ok (.sipush 346, 3) := dk_17 1 90 (dk_at dksX5_restore_1 19 rfl rfl)
theorem dX5_restore_46 : decode cX5_restore 46 = .ok (.iload_n 1, 1) := dk_27 (dk_at dksX5_restore_1 22 rfl rfl)
theorem dX5_restore_47 : decode cX5_restore 47 = .ok (.imul, 1) := dk_104 (dk_at dksX5_restore_1 23 rfl rfl)
theorem dX5_restore_48 : decode cX5_restore 48 = .ok (.iload_n 2, 1) := dk_28 (dk_at dksX5_restore_2 0 rfl rfl)
theorem dX5_restore_49 : decode cX5_restore 49 = .ok (.iadd, 1) := dk_96 (dk_at dksX5_restore_2 1 rfl rfl)
theorem dX5_restore_50 : decode cX5_restore 50 = .ok (.iaload, 1) := dk_46 (dk_at dksX5_restore_2 2 rfl rfl)
theorem dX5_restore_51 : decode cX5_restore 51 = .ok (.iastore, 1) := dk_79 (dk_at dksX5_restore_2 3 rfl rfl)
theorem dX5_restore_52 : decode cX5_restore 52 = .ok (.iinc 2 1, 3) := dk_132 2 1 (dk_at dksX5_restore_2 4 rfl rfl)
theorem dX5_restore_55 : decode cX5_restore 55 = .ok (.goto (-28), 3) := dk_167 255 228 (dk_at dksX5_restore_2 7 rfl rfl)
theorem dX5_restore_58 : decode cX5_restore 58 = .ok (.iconst 0, 1) := dk_3 (dk_at dksX5_restore_2 10 rfl rfl)
theorem dX5_restore_59 : decode cX5_restore 59 = .ok (.istore_n 2, 1) := dk_61 (dk_at dksX5_restore_2 11 rfl rfl)
theorem dX5_restore_60 : decode cX5_restore 60 = .ok (.iload_n 2, 1) := dk_28 (dk_at dksX5_restore_2 12 rfl rfl)
theorem dX5_restore_61 : decode cX5_restore 61 = .ok (.bipush 12, 2) := dk_16 12 (dk_at dksX5_restore_2 13 rfl rfl)
theorem dX5_restore_63 : decode cX5_restore 63 = .ok (.if_icmp .ge 26, 3) := dk_162 0 26 (dk_at dksX5_restore_2 15 rfl rfl)
theorem dX5_restore_66 : decode cX5_restore 66 = .ok (.aload_n 0, 1) := dk_42 (dk_at dksX5_restore_2 18 rfl rfl)
theorem dX5_restore_67 : decode cX5_restore 67 = .ok (.getfield 43, 3) := dk_180 0 43 (dk_at dksX5_restore_2 19 rfl rfl)
theorem dX5_restore_70 : decode cX5_restore 70 = .ok (.iload_n 2, 1) := dk_28 (dk_at dksX5_restore_2 22 rfl rfl)
theorem dX5_restore_71 : decode cX5_restore 71 = .ok (.aload_n 0, 1) := dk_42 (dk_at dksX5_restore_2 23 rfl rfl)
theorem dX5_restore_72 : decode cX5_restore 72 = .ok (.getfield 93, 3) := dk_180 0 93 (dk_at dksX5_restore_3 0 rfl rfl)
theorem dX5_restore_75 : decode cX5_restore 75 = .ok (.bipush 12, 2) := dk_16 12 (dk_at dksX5_restore_3 3 rfl rfl)
theorem dX5_restore_77 : decode cX5_restore 77 = .ok (.iload_n 1, 1) := dk_27 (dk_at dksX5_restore_3 5 rfl rfl)
theorem dX5_restore_78 : decode cX5_restore 78 = .ok (.imul, 1) := dk_104 (dk_at dksX5_restore_3 6 rfl rfl)
theorem dX5_restore_79 : decode cX5_restore 79 = .ok (.iload_n 2, 1) := dk_28 (dk_at dksX5_restore_3 7 rfl rfl)
theorem dX5_restore_80 : decode cX5_restore 80 = .ok (.iadd, 1) := dk_96 (dk_at dksX5_restore_3 8 rfl rfl)
theorem dX5_restore_81 : decode cX5_restore 81 = .ok (.laload, 1) := dk_47 (dk_at dksX5_restore_3 9 rfl rfl)
theorem dX5_restore_82 : decode cX5_restore 82 = .ok (.lastore, 1) := dk_80 (dk_at dksX5_restore_3 10 rfl rfl)
theorem dX5_restore_83 : decode cX5_restore 83 = .ok (.iinc 2 1, 3) := dk_132 2 1 (dk_at dksX5_restore_3 11 rfl rfl)
theorem dX5_restore_86 : decode cX5_restore 86 = .ok (.goto (-26), 3) := dk_167 255 230 (dk_at dksX5_restore_3 14 rfl rfl)
theorem dX5_restore_89 : decode cX5_restore 89 = .ok (.aload_n 0, 1) := dk_42 (dk_at dksX5_restore_3 17 rfl rfl)
theorem dX5_restore_90 : decode cX5_restore 90 = .ok (.iconst 0, 1) := dk_3 (dk_at dksX5_restore_3 18 rfl rfl)
theorem dX5_restore_91 : decode cX5_restore 91 = .ok (.putfield 263, 3) := dk_181 1 7 (dk_at dksX5_restore_3 19 rfl rfl)
theorem dX5_restore_94 : decode cX5_restore 94 = .ok (.iconst 1, 1) := dk_4 (dk_at dksX5_restore_3 22 rfl rfl)
theorem dX5_restore_95 : decode cX5_restore 95 = .ok (.ireturn, 1) := dk_172 (dk_at dksX5_restore_3 23 rfl rfl)
abbrev cX5_count : ByteArray := prog_29_method_129_code
def yX5_count : MethodName := ⟨RX5, "count", "(I)I"⟩
def dkwX5_count_1 : List UInt8 := [153, 0, 12, 42, 180, 0, 33, 27, 46, 167, 0, 4, 2, 172]
abbrev dktX5_count_1 : List UInt8 := dkwX5_count_1 ++ []
def dkwX5_count_0 : List UInt8 := [42, 3, 181, 0, 1, 27, 6, 160, 0, 10, 42, 180, 0, 7, 167, 0, 22, 27, 3, 5, 184, 0, 190]
abbrev dktX5_count_0 : List UInt8 := dkwX5_count_0 ++ dktX5_count_1
theorem dksX5_count_0 : cX5_count.data.toList.drop 0 = dktX5_count_0 := by decide +kernel
theorem dksX5_count_1 : cX5_count.data.toList.drop 23 = dktX5_count_1 := dk_seg dksX5_count_0 23 rfl rfl
theorem dX5_count_0 : decode cX5_count 0 = .ok (.aload_n 0, 1) := dk_42 (dk_at dksX5_count_0 0 rfl rfl)
theorem dX5_count_1 : decode cX5_count 1 = .ok (.iconst 0, 1) := dk_3 (dk_at dksX5_count_0 1 rfl rfl)
theorem dX5_count_2 : decode cX5_count 2 = .ok (.putfield 1, 3) := dk_181 0 1 (dk_at dksX5_count_0 2 rfl rfl)
theorem dX5_count_5 : decode cX5_count 5 = .ok (.iload_n 1, 1) := dk_27 (dk_at dksX5_count_0 5 rfl rfl)
theorem dX5_count_6 : decode cX5_count 6 = .ok (.iconst 3, 1) := dk_6 (dk_at dksX5_count_0 6 rfl rfl)
theorem dX5_count_7 : decode cX5_count 7 = .ok (.if_icmp .ne 10, 3) := dk_160 0 10 (dk_at dksX5_count_0 7 rfl rfl)
theorem dX5_count_10 : decode cX5_count 10 = .ok (.aload_n 0, 1) := dk_42 (dk_at dksX5_count_0 10 rfl rfl)
theorem dX5_count_11 : decode cX5_count 11 = .ok (.getfield 7, 3) := dk_180 0 7 (dk_at dksX5_count_0 11 rfl rfl)
theorem dX5_count_14 : decode cX5_count 14 = .ok (.goto 22, 3) := dk_167 0 22 (dk_at dksX5_count_0 14 rfl rfl)
theorem dX5_count_17 : decode cX5_count 17 = .ok (.iload_n 1, 1) := dk_27 (dk_at dksX5_count_0 17 rfl rfl)
theorem dX5_count_18 : decode cX5_count 18 = .ok (.iconst 0, 1) := dk_3 (dk_at dksX5_count_0 18 rfl rfl)
theorem dX5_count_19 : decode cX5_count 19 = .ok (.iconst 2, 1) := dk_5 (dk_at dksX5_count_0 19 rfl rfl)
theorem dX5_count_20 : decode cX5_count 20 = .ok (.invokestatic 190, 3) := dk_184 0 190 (dk_at dksX5_count_0 20 rfl rfl)
theorem dX5_count_23 : decode cX5_count 23 = .ok (.ifCond .eq 12, 3) := dk_153 0 12 (dk_at dksX5_count_1 0 rfl rfl)
theorem dX5_count_26 : decode cX5_count 26 = .ok (.aload_n 0, 1) := dk_42 (dk_at dksX5_count_1 3 rfl rfl)
theorem dX5_count_27 : decode cX5_count 27 = .ok (.getfield 33, 3) := dk_180 0 33 (dk_at dksX5_count_1 4 rfl rfl)
theorem dX5_count_30 : decode cX5_count 30 = .ok (.iload_n 1, 1) := dk_27 (dk_at dksX5_count_1 7 rfl rfl)
theorem dX5_count_31 : decode cX5_count 31 = .ok (.iaload, 1) := dk_46 (dk_at dksX5_count_1 8 rfl rfl)
theorem dX5_count_32 : decode cX5_count 32 = .ok (.goto 4, 3) := dk_167 0 4 (dk_at dksX5_count_1 9 rfl rfl)
theorem dX5_count_35 : decode cX5_count 35 = .ok (.iconst (-1), 1) := dk_2 (dk_at dksX5_count_1 12 rfl rfl)
theorem dX5_count_36 : decode cX5_count 36 = .ok (.ireturn, 1) := dk_172 (dk_at dksX5_count_1 13 rfl rfl)
theorem q140 : (Jvm.Cond.initialized "HeirsAtLawModel") ∈ lw_all := lw_g (lw_at lw_m1 16 rfl) rfl
theorem q1075 : (Jvm.Cond.selects "HeirsAtLawModel" ({ cls := "java/lang/Object", name := "getClass", desc := "()Ljava/lang/Class;" } : Jvm.MethodName) ({ cls := "java/lang/Object", name := "getClass", desc := "()Ljava/lang/Class;" } : Jvm.MethodName)) ∈ lw_all := lw_g (lw_at lw_m4 231 rfl) rfl
theorem q2019 : (Jvm.Cond.instanceMethod ({ cls := "HeirsAtLawModel", name := "thrown", desc := "()I" } : Jvm.MethodName)) ∈ lw_all := lw_g (lw_at lw_m8 215 rfl) rfl
theorem q2020 : (Jvm.Cond.selects "HeirsAtLawModel" ({ cls := "HeirsAtLawModel", name := "thrown", desc := "()I" } : Jvm.MethodName) ({ cls := "HeirsAtLawModel", name := "thrown", desc := "()I" } : Jvm.MethodName)) ∈ lw_all := lw_g (lw_at lw_m8 216 rfl) rfl
theorem q2021 : (Jvm.Cond.code ({ cls := "HeirsAtLawModel", name := "thrown", desc := "()I" } : Jvm.MethodName) prog_29_method_1_code (1 : Nat) (Option.some Jvm.ClassFile.FieldType.int)) ∈ lw_all := lw_g (lw_at lw_m8 217 rfl) rfl
theorem q2023 : (Jvm.Cond.instanceMethod ({ cls := "HeirsAtLawModel", name := "feed", desc := "(IIIII)I" } : Jvm.MethodName)) ∈ lw_all := lw_g (lw_at lw_m8 219 rfl) rfl
theorem q2024 : (Jvm.Cond.selects "HeirsAtLawModel" ({ cls := "HeirsAtLawModel", name := "feed", desc := "(IIIII)I" } : Jvm.MethodName) ({ cls := "HeirsAtLawModel", name := "feed", desc := "(IIIII)I" } : Jvm.MethodName)) ∈ lw_all := lw_g (lw_at lw_m8 220 rfl) rfl
theorem q2025 : (Jvm.Cond.code ({ cls := "HeirsAtLawModel", name := "feed", desc := "(IIIII)I" } : Jvm.MethodName) prog_29_method_3_code (6 : Nat) (Option.some Jvm.ClassFile.FieldType.int)) ∈ lw_all := lw_g (lw_at lw_m8 221 rfl) rfl
theorem q2026 : (Jvm.Cond.methodLink "HeirsAtLawModel" (10 : Nat) ({ cls := "HeirsAtLawModel", name := "four", desc := "(I)V" } : Jvm.MethodName)) ∈ lw_all := lw_g (lw_at lw_m8 222 rfl) rfl
theorem q2027 : (Jvm.Cond.privateMethod ({ cls := "HeirsAtLawModel", name := "four", desc := "(I)V" } : Jvm.MethodName)) ∈ lw_tbl := lw_at lw_m8 223 rfl
theorem q2028 : (Jvm.Cond.instanceMethod ({ cls := "HeirsAtLawModel", name := "four", desc := "(I)V" } : Jvm.MethodName)) ∈ lw_all := lw_g (lw_at lw_m8 224 rfl) rfl
theorem q2029 : (Jvm.Cond.instantiable "HeirsAtLawModel" (52 : Nat)) ∈ lw_all := lw_g (lw_at lw_m8 225 rfl) rfl
theorem q2030 : (Jvm.Cond.code ({ cls := "HeirsAtLawModel", name := "four", desc := "(I)V" } : Jvm.MethodName) prog_29_method_4_code (3 : Nat) (Option.none : Option Jvm.ClassFile.FieldType)) ∈ lw_all := lw_g (lw_at lw_m8 226 rfl) rfl
theorem q2032 : (Jvm.Cond.instanceMethod ({ cls := "HeirsAtLawModel", name := "end", desc := "(I)Z" } : Jvm.MethodName)) ∈ lw_all := lw_g (lw_at lw_m8 228 rfl) rfl
theorem q2033 : (Jvm.Cond.selects "HeirsAtLawModel" ({ cls := "HeirsAtLawModel", name := "end", desc := "(I)Z" } : Jvm.MethodName) ({ cls := "HeirsAtLawModel", name := "end", desc := "(I)Z" } : Jvm.MethodName)) ∈ lw_all := lw_g (lw_at lw_m8 229 rfl) rfl
theorem q2034 : (Jvm.Cond.code ({ cls := "HeirsAtLawModel", name := "end", desc := "(I)Z" } : Jvm.MethodName) prog_29_method_5_code (2 : Nat) (Option.some Jvm.ClassFile.FieldType.boolean)) ∈ lw_all := lw_g (lw_at lw_m8 230 rfl) rfl
theorem q2037 : (Jvm.Cond.instanceMethod ({ cls := "HeirsAtLawModel", name := "<init>", desc := "()V" } : Jvm.MethodName)) ∈ lw_all := lw_g (lw_at lw_m8 233 rfl) rfl
theorem q2038 : (Jvm.Cond.code ({ cls := "HeirsAtLawModel", name := "<init>", desc := "()V" } : Jvm.MethodName) prog_29_method_13_code (2 : Nat) (Option.none : Option Jvm.ClassFile.FieldType)) ∈ lw_all := lw_g (lw_at lw_m8 234 rfl) rfl
theorem q2039 : (Jvm.Cond.methodLink "HeirsAtLawModel" (27 : Nat) ({ cls := "java/lang/Object", name := "<init>", desc := "()V" } : Jvm.MethodName)) ∈ lw_all := lw_g (lw_at lw_m8 235 rfl) rfl
theorem q2040 : (Jvm.Cond.constantLong "HeirsAtLawModel" (99 : Nat) (123581014175598 : Int64)) ∈ lw_all := lw_g (lw_at lw_m8 236 rfl) rfl
theorem q2041 : (Jvm.Cond.constantLong "HeirsAtLawModel" (101 : Nat) (123563833388660 : Int64)) ∈ lw_all := lw_g (lw_at lw_m8 237 rfl) rfl
theorem q2042 : (Jvm.Cond.constantLong "HeirsAtLawModel" (103 : Nat) (7824740 : Int64)) ∈ lw_all := lw_g (lw_at lw_m8 238 rfl) rfl
theorem q2043 : (Jvm.Cond.constantLong "HeirsAtLawModel" (105 : Nat) (2003397740 : Int64)) ∈ lw_all := lw_g (lw_at lw_m8 239 rfl) rfl
theorem q2044 : (Jvm.Cond.constantLong "HeirsAtLawModel" (107 : Nat) (1684628851 : Int64)) ∈ lw_all := lw_g (lw_at lw_m9 0 rfl) rfl
theorem q2045 : (Jvm.Cond.constantLong "HeirsAtLawModel" (109 : Nat) (512869298039 : Int64)) ∈ lw_all := lw_g (lw_at lw_m9 1 rfl) rfl
theorem q2046 : (Jvm.Cond.constantLong "HeirsAtLawModel" (111 : Nat) (6580581 : Int64)) ∈ lw_all := lw_g (lw_at lw_m9 2 rfl) rfl
theorem q2047 : (Jvm.Cond.constantLong "HeirsAtLawModel" (113 : Nat) (1885434484 : Int64)) ∈ lw_all := lw_g (lw_at lw_m9 3 rfl) rfl
theorem q2048 : (Jvm.Cond.constantLong "HeirsAtLawModel" (115 : Nat) (1734964837 : Int64)) ∈ lw_all := lw_g (lw_at lw_m9 4 rfl) rfl
theorem q2049 : (Jvm.Cond.constantLong "HeirsAtLawModel" (117 : Nat) (465557354085 : Int64)) ∈ lw_all := lw_g (lw_at lw_m9 5 rfl) rfl
theorem q2050 : (Jvm.Cond.constantLong "HeirsAtLawModel" (119 : Nat) (125780104276837 : Int64)) ∈ lw_all := lw_g (lw_at lw_m9 6 rfl) rfl
theorem q2051 : (Jvm.Cond.constantLong "HeirsAtLawModel" (121 : Nat) (2036687218 : Int64)) ∈ lw_all := lw_g (lw_at lw_m9 7 rfl) rfl
theorem q2052 : (Jvm.Cond.constantLong "HeirsAtLawModel" (123 : Nat) (28530 : Int64)) ∈ lw_all := lw_g (lw_at lw_m9 8 rfl) rfl
theorem q2053 : (Jvm.Cond.constantLong "HeirsAtLawModel" (125 : Nat) (6385252 : Int64)) ∈ lw_all := lw_g (lw_at lw_m9 9 rfl) rfl
theorem q2054 : (Jvm.Cond.constantLong "HeirsAtLawModel" (127 : Nat) (7237492 : Int64)) ∈ lw_all := lw_g (lw_at lw_m9 10 rfl) rfl
theorem q2055 : (Jvm.Cond.constantLong "HeirsAtLawModel" (129 : Nat) (1684365668 : Int64)) ∈ lw_all := lw_g (lw_at lw_m9 11 rfl) rfl
theorem q2056 : (Jvm.Cond.constantLong "HeirsAtLawModel" (131 : Nat) (122537302843758 : Int64)) ∈ lw_all := lw_g (lw_at lw_m9 12 rfl) rfl
theorem q2057 : (Jvm.Cond.constantLong "HeirsAtLawModel" (133 : Nat) (7039342 : Int64)) ∈ lw_all := lw_g (lw_at lw_m9 13 rfl) rfl
theorem q2058 : (Jvm.Cond.constantLong "HeirsAtLawModel" (135 : Nat) (28518 : Int64)) ∈ lw_all := lw_g (lw_at lw_m9 14 rfl) rfl
theorem q2059 : (Jvm.Cond.constantLong "HeirsAtLawModel" (137 : Nat) (427070942835 : Int64)) ∈ lw_all := lw_g (lw_at lw_m9 15 rfl) rfl
theorem q2060 : (Jvm.Cond.constantLong "HeirsAtLawModel" (139 : Nat) (6383461 : Int64)) ∈ lw_all := lw_g (lw_at lw_m9 16 rfl) rfl
theorem q2061 : (Jvm.Cond.constantLong "HeirsAtLawModel" (141 : Nat) (452908512613 : Int64)) ∈ lw_all := lw_g (lw_at lw_m9 17 rfl) rfl
theorem q2062 : (Jvm.Cond.constantLong "HeirsAtLawModel" (143 : Nat) (121450625394034 : Int64)) ∈ lw_all := lw_g (lw_at lw_m9 18 rfl) rfl
theorem q2063 : (Jvm.Cond.methodLink "HeirsAtLawModel" (145 : Nat) ({ cls := "HeirsAtLawModel", name := "clears", desc := "()V" } : Jvm.MethodName)) ∈ lw_all := lw_g (lw_at lw_m9 19 rfl) rfl
theorem q2064 : (Jvm.Cond.privateMethod ({ cls := "HeirsAtLawModel", name := "clears", desc := "()V" } : Jvm.MethodName)) ∈ lw_tbl := lw_at lw_m9 20 rfl
theorem q2065 : (Jvm.Cond.instanceMethod ({ cls := "HeirsAtLawModel", name := "clears", desc := "()V" } : Jvm.MethodName)) ∈ lw_all := lw_g (lw_at lw_m9 21 rfl) rfl
theorem q2066 : (Jvm.Cond.code ({ cls := "HeirsAtLawModel", name := "clears", desc := "()V" } : Jvm.MethodName) prog_29_method_14_code (2 : Nat) (Option.none : Option Jvm.ClassFile.FieldType)) ∈ lw_all := lw_g (lw_at lw_m9 22 rfl) rfl
theorem q2067 : (Jvm.Cond.fieldLink "HeirsAtLawModel" (1 : Nat) "HeirsAtLawModel" "thrown" "I") ∈ lw_all := lw_g (lw_at lw_m9 23 rfl) rfl
theorem q2068 : (Jvm.Cond.fieldLink "HeirsAtLawModel" (14 : Nat) "HeirsAtLawModel" "tape" "[B") ∈ lw_all := lw_g (lw_at lw_m9 24 rfl) rfl
theorem q2069 : (Jvm.Cond.fieldLink "HeirsAtLawModel" (7 : Nat) "HeirsAtLawModel" "length" "I") ∈ lw_all := lw_g (lw_at lw_m9 25 rfl) rfl
theorem q2070 : (Jvm.Cond.fieldLink "HeirsAtLawModel" (18 : Nat) "HeirsAtLawModel" "size" "I") ∈ lw_all := lw_g (lw_at lw_m9 26 rfl) rfl
theorem q2071 : (Jvm.Cond.fieldLink "HeirsAtLawModel" (21 : Nat) "HeirsAtLawModel" "p" "I") ∈ lw_all := lw_g (lw_at lw_m9 27 rfl) rfl
theorem q2072 : (Jvm.Cond.fieldLink "HeirsAtLawModel" (24 : Nat) "HeirsAtLawModel" "limit" "I") ∈ lw_all := lw_g (lw_at lw_m9 28 rfl) rfl
theorem q2073 : (Jvm.Cond.fieldLink "HeirsAtLawModel" (33 : Nat) "HeirsAtLawModel" "s" "[I") ∈ lw_all := lw_g (lw_at lw_m9 29 rfl) rfl
theorem q2074 : (Jvm.Cond.fieldLink "HeirsAtLawModel" (37 : Nat) "HeirsAtLawModel" "h" "[I") ∈ lw_all := lw_g (lw_at lw_m9 30 rfl) rfl
theorem q2075 : (Jvm.Cond.fieldLink "HeirsAtLawModel" (40 : Nat) "HeirsAtLawModel" "read" "[I") ∈ lw_all := lw_g (lw_at lw_m9 31 rfl) rfl
theorem q2076 : (Jvm.Cond.fieldLink "HeirsAtLawModel" (43 : Nat) "HeirsAtLawModel" "names" "[J") ∈ lw_all := lw_g (lw_at lw_m9 32 rfl) rfl
theorem q2077 : (Jvm.Cond.fieldLink "HeirsAtLawModel" (47 : Nat) "HeirsAtLawModel" "reserved" "[J") ∈ lw_all := lw_g (lw_at lw_m9 33 rfl) rfl
theorem q2078 : (Jvm.Cond.fieldLink "HeirsAtLawModel" (158 : Nat) "HeirsAtLawModel" "token" "I") ∈ lw_all := lw_g (lw_at lw_m9 34 rfl) rfl
theorem q2079 : (Jvm.Cond.fieldLink "HeirsAtLawModel" (152 : Nat) "HeirsAtLawModel" "at" "I") ∈ lw_all := lw_g (lw_at lw_m9 35 rfl) rfl
theorem q2080 : (Jvm.Cond.fieldLink "HeirsAtLawModel" (155 : Nat) "HeirsAtLawModel" "span" "I") ∈ lw_all := lw_g (lw_at lw_m9 36 rfl) rfl
theorem q2081 : (Jvm.Cond.fieldLink "HeirsAtLawModel" (168 : Nat) "HeirsAtLawModel" "number" "I") ∈ lw_all := lw_g (lw_at lw_m9 37 rfl) rfl
theorem q2082 : (Jvm.Cond.fieldLink "HeirsAtLawModel" (175 : Nat) "HeirsAtLawModel" "fault" "I") ∈ lw_all := lw_g (lw_at lw_m9 38 rfl) rfl
theorem q2083 : (Jvm.Cond.fieldLink "HeirsAtLawModel" (178 : Nat) "HeirsAtLawModel" "faultAt" "I") ∈ lw_all := lw_g (lw_at lw_m9 39 rfl) rfl
theorem q2084 : (Jvm.Cond.fieldLink "HeirsAtLawModel" (171 : Nat) "HeirsAtLawModel" "word" "J") ∈ lw_all := lw_g (lw_at lw_m9 40 rfl) rfl
theorem q2085 : (Jvm.Cond.fieldLink "HeirsAtLawModel" (194 : Nat) "HeirsAtLawModel" "got" "I") ∈ lw_all := lw_g (lw_at lw_m9 41 rfl) rfl
theorem q2086 : (Jvm.Cond.fieldLink "HeirsAtLawModel" (254 : Nat) "HeirsAtLawModel" "lines" "I") ∈ lw_all := lw_g (lw_at lw_m9 42 rfl) rfl
theorem q2087 : (Jvm.Cond.fieldLink "HeirsAtLawModel" (231 : Nat) "HeirsAtLawModel" "hasWidow" "Z") ∈ lw_all := lw_g (lw_at lw_m9 43 rfl) rfl
theorem q2088 : (Jvm.Cond.fieldLink "HeirsAtLawModel" (50 : Nat) "HeirsAtLawModel" "heapSet" "[I") ∈ lw_all := lw_g (lw_at lw_m9 44 rfl) rfl
theorem q2089 : (Jvm.Cond.fieldLink "HeirsAtLawModel" (53 : Nat) "HeirsAtLawModel" "heapCoins" "[I") ∈ lw_all := lw_g (lw_at lw_m9 45 rfl) rfl
theorem q2090 : (Jvm.Cond.fieldLink "HeirsAtLawModel" (300 : Nat) "HeirsAtLawModel" "heapMany" "I") ∈ lw_all := lw_g (lw_at lw_m9 46 rfl) rfl
theorem q2091 : (Jvm.Cond.fieldLink "HeirsAtLawModel" (56 : Nat) "HeirsAtLawModel" "undone" "[I") ∈ lw_all := lw_g (lw_at lw_m9 47 rfl) rfl
theorem q2092 : (Jvm.Cond.fieldLink "HeirsAtLawModel" (59 : Nat) "HeirsAtLawModel" "before" "[I") ∈ lw_all := lw_g (lw_at lw_m9 48 rfl) rfl
theorem q2093 : (Jvm.Cond.fieldLink "HeirsAtLawModel" (263 : Nat) "HeirsAtLawModel" "undoMany" "I") ∈ lw_all := lw_g (lw_at lw_m9 49 rfl) rfl
theorem q2094 : (Jvm.Cond.fieldLink "HeirsAtLawModel" (62 : Nat) "HeirsAtLawModel" "gains" "[I") ∈ lw_all := lw_g (lw_at lw_m9 50 rfl) rfl
theorem q2095 : (Jvm.Cond.fieldLink "HeirsAtLawModel" (65 : Nat) "HeirsAtLawModel" "afterRow" "[I") ∈ lw_all := lw_g (lw_at lw_m9 51 rfl) rfl
theorem q2096 : (Jvm.Cond.fieldLink "HeirsAtLawModel" (68 : Nat) "HeirsAtLawModel" "afterMany" "I") ∈ lw_all := lw_g (lw_at lw_m9 52 rfl) rfl
theorem q2097 : (Jvm.Cond.fieldLink "HeirsAtLawModel" (71 : Nat) "HeirsAtLawModel" "bestRow" "[I") ∈ lw_all := lw_g (lw_at lw_m9 53 rfl) rfl
theorem q2098 : (Jvm.Cond.fieldLink "HeirsAtLawModel" (74 : Nat) "HeirsAtLawModel" "bestMany" "I") ∈ lw_all := lw_g (lw_at lw_m9 54 rfl) rfl
theorem q2099 : (Jvm.Cond.fieldLink "HeirsAtLawModel" (393 : Nat) "HeirsAtLawModel" "clearSet" "I") ∈ lw_all := lw_g (lw_at lw_m9 55 rfl) rfl
theorem q2100 : (Jvm.Cond.fieldLink "HeirsAtLawModel" (390 : Nat) "HeirsAtLawModel" "hasClear" "Z") ∈ lw_all := lw_g (lw_at lw_m9 56 rfl) rfl
theorem q2101 : (Jvm.Cond.fieldLink "HeirsAtLawModel" (405 : Nat) "HeirsAtLawModel" "askOne" "I") ∈ lw_all := lw_g (lw_at lw_m9 57 rfl) rfl
theorem q2102 : (Jvm.Cond.fieldLink "HeirsAtLawModel" (402 : Nat) "HeirsAtLawModel" "hasFits" "Z") ∈ lw_all := lw_g (lw_at lw_m9 58 rfl) rfl
theorem q2103 : (Jvm.Cond.fieldLink "HeirsAtLawModel" (77 : Nat) "HeirsAtLawModel" "text" "[B") ∈ lw_all := lw_g (lw_at lw_m9 59 rfl) rfl
theorem q2104 : (Jvm.Cond.fieldLink "HeirsAtLawModel" (414 : Nat) "HeirsAtLawModel" "textMany" "I") ∈ lw_all := lw_g (lw_at lw_m9 60 rfl) rfl
theorem q2105 : (Jvm.Cond.fieldLink "HeirsAtLawModel" (436 : Nat) "HeirsAtLawModel" "seed" "I") ∈ lw_all := lw_g (lw_at lw_m9 61 rfl) rfl
theorem q2106 : (Jvm.Cond.fieldLink "HeirsAtLawModel" (449 : Nat) "HeirsAtLawModel" "toldMany" "I") ∈ lw_all := lw_g (lw_at lw_m9 62 rfl) rfl
theorem q2107 : (Jvm.Cond.fieldLink "HeirsAtLawModel" (80 : Nat) "HeirsAtLawModel" "toldAt" "[I") ∈ lw_all := lw_g (lw_at lw_m9 63 rfl) rfl
theorem q2108 : (Jvm.Cond.fieldLink "HeirsAtLawModel" (458 : Nat) "HeirsAtLawModel" "hasTold" "Z") ∈ lw_all := lw_g (lw_at lw_m9 64 rfl) rfl
theorem q2109 : (Jvm.Cond.fieldLink "HeirsAtLawModel" (83 : Nat) "HeirsAtLawModel" "stack" "[I") ∈ lw_all := lw_g (lw_at lw_m9 65 rfl) rfl
theorem q2110 : (Jvm.Cond.fieldLink "HeirsAtLawModel" (461 : Nat) "HeirsAtLawModel" "codes" "I") ∈ lw_all := lw_g (lw_at lw_m9 66 rfl) rfl
theorem q2111 : (Jvm.Cond.fieldLink "HeirsAtLawModel" (476 : Nat) "HeirsAtLawModel" "ones" "I") ∈ lw_all := lw_g (lw_at lw_m9 67 rfl) rfl
theorem q2112 : (Jvm.Cond.fieldLink "HeirsAtLawModel" (464 : Nat) "HeirsAtLawModel" "top" "I") ∈ lw_all := lw_g (lw_at lw_m9 68 rfl) rfl
theorem q2113 : (Jvm.Cond.fieldLink "HeirsAtLawModel" (470 : Nat) "HeirsAtLawModel" "deep" "I") ∈ lw_all := lw_g (lw_at lw_m9 69 rfl) rfl
theorem q2114 : (Jvm.Cond.fieldLink "HeirsAtLawModel" (479 : Nat) "HeirsAtLawModel" "isWhole" "Z") ∈ lw_all := lw_g (lw_at lw_m9 70 rfl) rfl
theorem q2115 : (Jvm.Cond.fieldLink "HeirsAtLawModel" (86 : Nat) "HeirsAtLawModel" "truths" "[Z") ∈ lw_all := lw_g (lw_at lw_m9 71 rfl) rfl
theorem q2116 : (Jvm.Cond.fieldLink "HeirsAtLawModel" (90 : Nat) "HeirsAtLawModel" "imaged" "[I") ∈ lw_all := lw_g (lw_at lw_m9 72 rfl) rfl
theorem q2117 : (Jvm.Cond.fieldLink "HeirsAtLawModel" (93 : Nat) "HeirsAtLawModel" "namesKept" "[J") ∈ lw_all := lw_g (lw_at lw_m9 73 rfl) rfl
theorem q2118 : (Jvm.Cond.fieldLink "HeirsAtLawModel" (96 : Nat) "HeirsAtLawModel" "areKept" "[Z") ∈ lw_all := lw_g (lw_at lw_m9 74 rfl) rfl
theorem q2119 : (Jvm.Cond.lays "HeirsAtLawModel" "HeirsAtLawModel" "thrown" "I") ∈ lw_all := lw_g (lw_at lw_m9 75 rfl) rfl
theorem q2120 : (Jvm.Cond.soleField "HeirsAtLawModel" "thrown") ∈ lw_all := lw_g (lw_at lw_m9 76 rfl) rfl
theorem q2121 : (Jvm.Cond.laysFinal "HeirsAtLawModel" "HeirsAtLawModel" "tape" "[B") ∈ lw_all := lw_g (lw_at lw_m9 77 rfl) rfl
theorem q2122 : (Jvm.Cond.soleField "HeirsAtLawModel" "tape") ∈ lw_all := lw_g (lw_at lw_m9 78 rfl) rfl
theorem q2123 : (Jvm.Cond.lays "HeirsAtLawModel" "HeirsAtLawModel" "length" "I") ∈ lw_all := lw_g (lw_at lw_m9 79 rfl) rfl
theorem q2124 : (Jvm.Cond.soleField "HeirsAtLawModel" "length") ∈ lw_all := lw_g (lw_at lw_m9 80 rfl) rfl
theorem q2125 : (Jvm.Cond.lays "HeirsAtLawModel" "HeirsAtLawModel" "size" "I") ∈ lw_all := lw_g (lw_at lw_m9 81 rfl) rfl
theorem q2126 : (Jvm.Cond.soleField "HeirsAtLawModel" "size") ∈ lw_all := lw_g (lw_at lw_m9 82 rfl) rfl
theorem q2127 : (Jvm.Cond.lays "HeirsAtLawModel" "HeirsAtLawModel" "p" "I") ∈ lw_all := lw_g (lw_at lw_m9 83 rfl) rfl
theorem q2128 : (Jvm.Cond.soleField "HeirsAtLawModel" "p") ∈ lw_all := lw_g (lw_at lw_m9 84 rfl) rfl
theorem q2129 : (Jvm.Cond.lays "HeirsAtLawModel" "HeirsAtLawModel" "limit" "I") ∈ lw_all := lw_g (lw_at lw_m9 85 rfl) rfl
theorem q2130 : (Jvm.Cond.soleField "HeirsAtLawModel" "limit") ∈ lw_all := lw_g (lw_at lw_m9 86 rfl) rfl
theorem q2131 : (Jvm.Cond.laysFinal "HeirsAtLawModel" "HeirsAtLawModel" "s" "[I") ∈ lw_all := lw_g (lw_at lw_m9 87 rfl) rfl
theorem q2132 : (Jvm.Cond.soleField "HeirsAtLawModel" "s") ∈ lw_all := lw_g (lw_at lw_m9 88 rfl) rfl
theorem q2133 : (Jvm.Cond.laysFinal "HeirsAtLawModel" "HeirsAtLawModel" "h" "[I") ∈ lw_all := lw_g (lw_at lw_m9 89 rfl) rfl
theorem q2134 : (Jvm.Cond.soleField "HeirsAtLawModel" "h") ∈ lw_all := lw_g (lw_at lw_m9 90 rfl) rfl
theorem q2135 : (Jvm.Cond.laysFinal "HeirsAtLawModel" "HeirsAtLawModel" "read" "[I") ∈ lw_all := lw_g (lw_at lw_m9 91 rfl) rfl
theorem q2136 : (Jvm.Cond.soleField "HeirsAtLawModel" "read") ∈ lw_all := lw_g (lw_at lw_m9 92 rfl) rfl
theorem q2137 : (Jvm.Cond.laysFinal "HeirsAtLawModel" "HeirsAtLawModel" "names" "[J") ∈ lw_all := lw_g (lw_at lw_m9 93 rfl) rfl
theorem q2138 : (Jvm.Cond.soleField "HeirsAtLawModel" "names") ∈ lw_all := lw_g (lw_at lw_m9 94 rfl) rfl
theorem q2139 : (Jvm.Cond.laysFinal "HeirsAtLawModel" "HeirsAtLawModel" "reserved" "[J") ∈ lw_all := lw_g (lw_at lw_m9 95 rfl) rfl
theorem q2140 : (Jvm.Cond.soleField "HeirsAtLawModel" "reserved") ∈ lw_all := lw_g (lw_at lw_m9 96 rfl) rfl
theorem q2141 : (Jvm.Cond.lays "HeirsAtLawModel" "HeirsAtLawModel" "token" "I") ∈ lw_all := lw_g (lw_at lw_m9 97 rfl) rfl
theorem q2142 : (Jvm.Cond.soleField "HeirsAtLawModel" "token") ∈ lw_all := lw_g (lw_at lw_m9 98 rfl) rfl
theorem q2143 : (Jvm.Cond.lays "HeirsAtLawModel" "HeirsAtLawModel" "at" "I") ∈ lw_all := lw_g (lw_at lw_m9 99 rfl) rfl
theorem q2144 : (Jvm.Cond.soleField "HeirsAtLawModel" "at") ∈ lw_all := lw_g (lw_at lw_m9 100 rfl) rfl
theorem q2145 : (Jvm.Cond.lays "HeirsAtLawModel" "HeirsAtLawModel" "span" "I") ∈ lw_all := lw_g (lw_at lw_m9 101 rfl) rfl
theorem q2146 : (Jvm.Cond.soleField "HeirsAtLawModel" "span") ∈ lw_all := lw_g (lw_at lw_m9 102 rfl) rfl
theorem q2147 : (Jvm.Cond.lays "HeirsAtLawModel" "HeirsAtLawModel" "number" "I") ∈ lw_all := lw_g (lw_at lw_m9 103 rfl) rfl
theorem q2148 : (Jvm.Cond.soleField "HeirsAtLawModel" "number") ∈ lw_all := lw_g (lw_at lw_m9 104 rfl) rfl
theorem q2149 : (Jvm.Cond.lays "HeirsAtLawModel" "HeirsAtLawModel" "fault" "I") ∈ lw_all := lw_g (lw_at lw_m9 105 rfl) rfl
theorem q2150 : (Jvm.Cond.soleField "HeirsAtLawModel" "fault") ∈ lw_all := lw_g (lw_at lw_m9 106 rfl) rfl
theorem q2151 : (Jvm.Cond.lays "HeirsAtLawModel" "HeirsAtLawModel" "faultAt" "I") ∈ lw_all := lw_g (lw_at lw_m9 107 rfl) rfl
theorem q2152 : (Jvm.Cond.soleField "HeirsAtLawModel" "faultAt") ∈ lw_all := lw_g (lw_at lw_m9 108 rfl) rfl
theorem q2153 : (Jvm.Cond.lays "HeirsAtLawModel" "HeirsAtLawModel" "word" "J") ∈ lw_all := lw_g (lw_at lw_m9 109 rfl) rfl
theorem q2154 : (Jvm.Cond.soleField "HeirsAtLawModel" "word") ∈ lw_all := lw_g (lw_at lw_m9 110 rfl) rfl
theorem q2155 : (Jvm.Cond.lays "HeirsAtLawModel" "HeirsAtLawModel" "got" "I") ∈ lw_all := lw_g (lw_at lw_m9 111 rfl) rfl
theorem q2156 : (Jvm.Cond.soleField "HeirsAtLawModel" "got") ∈ lw_all := lw_g (lw_at lw_m9 112 rfl) rfl
theorem q2157 : (Jvm.Cond.lays "HeirsAtLawModel" "HeirsAtLawModel" "lines" "I") ∈ lw_all := lw_g (lw_at lw_m9 113 rfl) rfl
theorem q2158 : (Jvm.Cond.soleField "HeirsAtLawModel" "lines") ∈ lw_all := lw_g (lw_at lw_m9 114 rfl) rfl
theorem q2159 : (Jvm.Cond.lays "HeirsAtLawModel" "HeirsAtLawModel" "hasWidow" "Z") ∈ lw_all := lw_g (lw_at lw_m9 115 rfl) rfl
theorem q2160 : (Jvm.Cond.soleField "HeirsAtLawModel" "hasWidow") ∈ lw_all := lw_g (lw_at lw_m9 116 rfl) rfl
theorem q2161 : (Jvm.Cond.laysFinal "HeirsAtLawModel" "HeirsAtLawModel" "heapSet" "[I") ∈ lw_all := lw_g (lw_at lw_m9 117 rfl) rfl
theorem q2162 : (Jvm.Cond.soleField "HeirsAtLawModel" "heapSet") ∈ lw_all := lw_g (lw_at lw_m9 118 rfl) rfl
theorem q2163 : (Jvm.Cond.laysFinal "HeirsAtLawModel" "HeirsAtLawModel" "heapCoins" "[I") ∈ lw_all := lw_g (lw_at lw_m9 119 rfl) rfl
theorem q2164 : (Jvm.Cond.soleField "HeirsAtLawModel" "heapCoins") ∈ lw_all := lw_g (lw_at lw_m9 120 rfl) rfl
theorem q2165 : (Jvm.Cond.lays "HeirsAtLawModel" "HeirsAtLawModel" "heapMany" "I") ∈ lw_all := lw_g (lw_at lw_m9 121 rfl) rfl
theorem q2166 : (Jvm.Cond.soleField "HeirsAtLawModel" "heapMany") ∈ lw_all := lw_g (lw_at lw_m9 122 rfl) rfl
theorem q2167 : (Jvm.Cond.laysFinal "HeirsAtLawModel" "HeirsAtLawModel" "undone" "[I") ∈ lw_all := lw_g (lw_at lw_m9 123 rfl) rfl
theorem q2168 : (Jvm.Cond.soleField "HeirsAtLawModel" "undone") ∈ lw_all := lw_g (lw_at lw_m9 124 rfl) rfl
theorem q2169 : (Jvm.Cond.laysFinal "HeirsAtLawModel" "HeirsAtLawModel" "before" "[I") ∈ lw_all := lw_g (lw_at lw_m9 125 rfl) rfl
theorem q2170 : (Jvm.Cond.soleField "HeirsAtLawModel" "before") ∈ lw_all := lw_g (lw_at lw_m9 126 rfl) rfl
theorem q2171 : (Jvm.Cond.lays "HeirsAtLawModel" "HeirsAtLawModel" "undoMany" "I") ∈ lw_all := lw_g (lw_at lw_m9 127 rfl) rfl
theorem q2172 : (Jvm.Cond.soleField "HeirsAtLawModel" "undoMany") ∈ lw_all := lw_g (lw_at lw_m9 128 rfl) rfl
theorem q2173 : (Jvm.Cond.laysFinal "HeirsAtLawModel" "HeirsAtLawModel" "gains" "[I") ∈ lw_all := lw_g (lw_at lw_m9 129 rfl) rfl
theorem q2174 : (Jvm.Cond.soleField "HeirsAtLawModel" "gains") ∈ lw_all := lw_g (lw_at lw_m9 130 rfl) rfl
theorem q2175 : (Jvm.Cond.laysFinal "HeirsAtLawModel" "HeirsAtLawModel" "afterRow" "[I") ∈ lw_all := lw_g (lw_at lw_m9 131 rfl) rfl
theorem q2176 : (Jvm.Cond.soleField "HeirsAtLawModel" "afterRow") ∈ lw_all := lw_g (lw_at lw_m9 132 rfl) rfl
theorem q2177 : (Jvm.Cond.lays "HeirsAtLawModel" "HeirsAtLawModel" "afterMany" "I") ∈ lw_all := lw_g (lw_at lw_m9 133 rfl) rfl
theorem q2178 : (Jvm.Cond.soleField "HeirsAtLawModel" "afterMany") ∈ lw_all := lw_g (lw_at lw_m9 134 rfl) rfl
theorem q2179 : (Jvm.Cond.laysFinal "HeirsAtLawModel" "HeirsAtLawModel" "bestRow" "[I") ∈ lw_all := lw_g (lw_at lw_m9 135 rfl) rfl
theorem q2180 : (Jvm.Cond.soleField "HeirsAtLawModel" "bestRow") ∈ lw_all := lw_g (lw_at lw_m9 136 rfl) rfl
theorem q2181 : (Jvm.Cond.lays "HeirsAtLawModel" "HeirsAtLawModel" "bestMany" "I") ∈ lw_all := lw_g (lw_at lw_m9 137 rfl) rfl
theorem q2182 : (Jvm.Cond.soleField "HeirsAtLawModel" "bestMany") ∈ lw_all := lw_g (lw_at lw_m9 138 rfl) rfl
theorem q2183 : (Jvm.Cond.lays "HeirsAtLawModel" "HeirsAtLawModel" "clearSet" "I") ∈ lw_all := lw_g (lw_at lw_m9 139 rfl) rfl
theorem q2184 : (Jvm.Cond.soleField "HeirsAtLawModel" "clearSet") ∈ lw_all := lw_g (lw_at lw_m9 140 rfl) rfl
theorem q2185 : (Jvm.Cond.lays "HeirsAtLawModel" "HeirsAtLawModel" "hasClear" "Z") ∈ lw_all := lw_g (lw_at lw_m9 141 rfl) rfl
theorem q2186 : (Jvm.Cond.soleField "HeirsAtLawModel" "hasClear") ∈ lw_all := lw_g (lw_at lw_m9 142 rfl) rfl
theorem q2187 : (Jvm.Cond.lays "HeirsAtLawModel" "HeirsAtLawModel" "askOne" "I") ∈ lw_all := lw_g (lw_at lw_m9 143 rfl) rfl
theorem q2188 : (Jvm.Cond.soleField "HeirsAtLawModel" "askOne") ∈ lw_all := lw_g (lw_at lw_m9 144 rfl) rfl
theorem q2189 : (Jvm.Cond.lays "HeirsAtLawModel" "HeirsAtLawModel" "hasFits" "Z") ∈ lw_all := lw_g (lw_at lw_m9 145 rfl) rfl
theorem q2190 : (Jvm.Cond.soleField "HeirsAtLawModel" "hasFits") ∈ lw_all := lw_g (lw_at lw_m9 146 rfl) rfl
theorem q2191 : (Jvm.Cond.laysFinal "HeirsAtLawModel" "HeirsAtLawModel" "text" "[B") ∈ lw_all := lw_g (lw_at lw_m9 147 rfl) rfl
theorem q2192 : (Jvm.Cond.soleField "HeirsAtLawModel" "text") ∈ lw_all := lw_g (lw_at lw_m9 148 rfl) rfl
theorem q2193 : (Jvm.Cond.lays "HeirsAtLawModel" "HeirsAtLawModel" "textMany" "I") ∈ lw_all := lw_g (lw_at lw_m9 149 rfl) rfl
theorem q2194 : (Jvm.Cond.soleField "HeirsAtLawModel" "textMany") ∈ lw_all := lw_g (lw_at lw_m9 150 rfl) rfl
theorem q2195 : (Jvm.Cond.lays "HeirsAtLawModel" "HeirsAtLawModel" "seed" "I") ∈ lw_all := lw_g (lw_at lw_m9 151 rfl) rfl
theorem q2196 : (Jvm.Cond.soleField "HeirsAtLawModel" "seed") ∈ lw_all := lw_g (lw_at lw_m9 152 rfl) rfl
theorem q2197 : (Jvm.Cond.lays "HeirsAtLawModel" "HeirsAtLawModel" "toldMany" "I") ∈ lw_all := lw_g (lw_at lw_m9 153 rfl) rfl
theorem q2198 : (Jvm.Cond.soleField "HeirsAtLawModel" "toldMany") ∈ lw_all := lw_g (lw_at lw_m9 154 rfl) rfl
theorem q2199 : (Jvm.Cond.laysFinal "HeirsAtLawModel" "HeirsAtLawModel" "toldAt" "[I") ∈ lw_all := lw_g (lw_at lw_m9 155 rfl) rfl
theorem q2200 : (Jvm.Cond.soleField "HeirsAtLawModel" "toldAt") ∈ lw_all := lw_g (lw_at lw_m9 156 rfl) rfl
theorem q2201 : (Jvm.Cond.lays "HeirsAtLawModel" "HeirsAtLawModel" "hasTold" "Z") ∈ lw_all := lw_g (lw_at lw_m9 157 rfl) rfl
theorem q2202 : (Jvm.Cond.soleField "HeirsAtLawModel" "hasTold") ∈ lw_all := lw_g (lw_at lw_m9 158 rfl) rfl
theorem q2203 : (Jvm.Cond.laysFinal "HeirsAtLawModel" "HeirsAtLawModel" "stack" "[I") ∈ lw_all := lw_g (lw_at lw_m9 159 rfl) rfl
theorem q2204 : (Jvm.Cond.soleField "HeirsAtLawModel" "stack") ∈ lw_all := lw_g (lw_at lw_m9 160 rfl) rfl
theorem q2205 : (Jvm.Cond.lays "HeirsAtLawModel" "HeirsAtLawModel" "codes" "I") ∈ lw_all := lw_g (lw_at lw_m9 161 rfl) rfl
theorem q2206 : (Jvm.Cond.soleField "HeirsAtLawModel" "codes") ∈ lw_all := lw_g (lw_at lw_m9 162 rfl) rfl
theorem q2207 : (Jvm.Cond.lays "HeirsAtLawModel" "HeirsAtLawModel" "ones" "I") ∈ lw_all := lw_g (lw_at lw_m9 163 rfl) rfl
theorem q2208 : (Jvm.Cond.soleField "HeirsAtLawModel" "ones") ∈ lw_all := lw_g (lw_at lw_m9 164 rfl) rfl
theorem q2209 : (Jvm.Cond.lays "HeirsAtLawModel" "HeirsAtLawModel" "top" "I") ∈ lw_all := lw_g (lw_at lw_m9 165 rfl) rfl
theorem q2210 : (Jvm.Cond.soleField "HeirsAtLawModel" "top") ∈ lw_all := lw_g (lw_at lw_m9 166 rfl) rfl
theorem q2211 : (Jvm.Cond.lays "HeirsAtLawModel" "HeirsAtLawModel" "deep" "I") ∈ lw_all := lw_g (lw_at lw_m9 167 rfl) rfl
theorem q2212 : (Jvm.Cond.soleField "HeirsAtLawModel" "deep") ∈ lw_all := lw_g (lw_at lw_m9 168 rfl) rfl
theorem q2213 : (Jvm.Cond.lays "HeirsAtLawModel" "HeirsAtLawModel" "isWhole" "Z") ∈ lw_all := lw_g (lw_at lw_m9 169 rfl) rfl
theorem q2214 : (Jvm.Cond.soleField "HeirsAtLawModel" "isWhole") ∈ lw_all := lw_g (lw_at lw_m9 170 rfl) rfl
theorem q2215 : (Jvm.Cond.laysFinal "HeirsAtLawModel" "HeirsAtLawModel" "truths" "[Z") ∈ lw_all := lw_g (lw_at lw_m9 171 rfl) rfl
theorem q2216 : (Jvm.Cond.soleField "HeirsAtLawModel" "truths") ∈ lw_all := lw_g (lw_at lw_m9 172 rfl) rfl
theorem q2217 : (Jvm.Cond.laysFinal "HeirsAtLawModel" "HeirsAtLawModel" "imaged" "[I") ∈ lw_all := lw_g (lw_at lw_m9 173 rfl) rfl
theorem q2218 : (Jvm.Cond.soleField "HeirsAtLawModel" "imaged") ∈ lw_all := lw_g (lw_at lw_m9 174 rfl) rfl
theorem q2219 : (Jvm.Cond.laysFinal "HeirsAtLawModel" "HeirsAtLawModel" "namesKept" "[J") ∈ lw_all := lw_g (lw_at lw_m9 175 rfl) rfl
theorem q2220 : (Jvm.Cond.soleField "HeirsAtLawModel" "namesKept") ∈ lw_all := lw_g (lw_at lw_m9 176 rfl) rfl
theorem q2221 : (Jvm.Cond.laysFinal "HeirsAtLawModel" "HeirsAtLawModel" "areKept" "[Z") ∈ lw_all := lw_g (lw_at lw_m9 177 rfl) rfl
theorem q2222 : (Jvm.Cond.soleField "HeirsAtLawModel" "areKept") ∈ lw_all := lw_g (lw_at lw_m9 178 rfl) rfl
theorem q2223 : (Jvm.Cond.superclass "HeirsAtLawModel" "java/lang/Object") ∈ lw_all := lw_g (lw_at lw_m9 179 rfl) rfl
theorem q2227 : (Jvm.Cond.instanceMethod ({ cls := "HeirsAtLawModel", name := "family", desc := "()I" } : Jvm.MethodName)) ∈ lw_all := lw_g (lw_at lw_m9 183 rfl) rfl
theorem q2228 : (Jvm.Cond.selects "HeirsAtLawModel" ({ cls := "HeirsAtLawModel", name := "family", desc := "()I" } : Jvm.MethodName) ({ cls := "HeirsAtLawModel", name := "family", desc := "()I" } : Jvm.MethodName)) ∈ lw_all := lw_g (lw_at lw_m9 184 rfl) rfl
theorem q2229 : (Jvm.Cond.code ({ cls := "HeirsAtLawModel", name := "family", desc := "()I" } : Jvm.MethodName) prog_29_method_36_code (2 : Nat) (Option.some Jvm.ClassFile.FieldType.int)) ∈ lw_all := lw_g (lw_at lw_m9 185 rfl) rfl
theorem q2230 : (Jvm.Cond.methodLink "HeirsAtLawModel" (251 : Nat) ({ cls := "HeirsAtLawModel", name := "taken", desc := "(I)V" } : Jvm.MethodName)) ∈ lw_all := lw_g (lw_at lw_m9 186 rfl) rfl
theorem q2231 : (Jvm.Cond.privateMethod ({ cls := "HeirsAtLawModel", name := "taken", desc := "(I)V" } : Jvm.MethodName)) ∈ lw_tbl := lw_at lw_m9 187 rfl
theorem q2232 : (Jvm.Cond.instanceMethod ({ cls := "HeirsAtLawModel", name := "taken", desc := "(I)V" } : Jvm.MethodName)) ∈ lw_all := lw_g (lw_at lw_m9 188 rfl) rfl
theorem q2233 : (Jvm.Cond.code ({ cls := "HeirsAtLawModel", name := "taken", desc := "(I)V" } : Jvm.MethodName) prog_29_method_6_code (2 : Nat) (Option.none : Option Jvm.ClassFile.FieldType)) ∈ lw_all := lw_g (lw_at lw_m9 189 rfl) rfl
theorem q2234 : (Jvm.Cond.methodLink "HeirsAtLawModel" (187 : Nat) ({ cls := "HeirsAtLawModel", name := "next", desc := "()V" } : Jvm.MethodName)) ∈ lw_all := lw_g (lw_at lw_m9 190 rfl) rfl
theorem q2235 : (Jvm.Cond.privateMethod ({ cls := "HeirsAtLawModel", name := "next", desc := "()V" } : Jvm.MethodName)) ∈ lw_tbl := lw_at lw_m9 191 rfl
theorem q2236 : (Jvm.Cond.instanceMethod ({ cls := "HeirsAtLawModel", name := "next", desc := "()V" } : Jvm.MethodName)) ∈ lw_all := lw_g (lw_at lw_m9 192 rfl) rfl
theorem q2237 : (Jvm.Cond.code ({ cls := "HeirsAtLawModel", name := "next", desc := "()V" } : Jvm.MethodName) prog_29_method_18_code (4 : Nat) (Option.none : Option Jvm.ClassFile.FieldType)) ∈ lw_all := lw_g (lw_at lw_m9 193 rfl) rfl
theorem q2238 : (Jvm.Cond.methodLink "HeirsAtLawModel" (148 : Nat) ({ cls := "HeirsAtLawModel", name := "peek", desc := "()I" } : Jvm.MethodName)) ∈ lw_all := lw_g (lw_at lw_m9 194 rfl) rfl
theorem q2239 : (Jvm.Cond.privateMethod ({ cls := "HeirsAtLawModel", name := "peek", desc := "()I" } : Jvm.MethodName)) ∈ lw_tbl := lw_at lw_m9 195 rfl
theorem q2240 : (Jvm.Cond.instanceMethod ({ cls := "HeirsAtLawModel", name := "peek", desc := "()I" } : Jvm.MethodName)) ∈ lw_all := lw_g (lw_at lw_m9 196 rfl) rfl
theorem q2241 : (Jvm.Cond.code ({ cls := "HeirsAtLawModel", name := "peek", desc := "()I" } : Jvm.MethodName) prog_29_method_15_code (1 : Nat) (Option.some Jvm.ClassFile.FieldType.int)) ∈ lw_all := lw_g (lw_at lw_m9 197 rfl) rfl
theorem q2242 : (Jvm.Cond.methodLink "HeirsAtLawModel" (161 : Nat) ({ cls := "HeirsAtLawModel", name := "isSmall", desc := "(I)Z" } : Jvm.MethodName)) ∈ lw_all := lw_g (lw_at lw_m9 198 rfl) rfl
theorem q2243 : (Jvm.Cond.static ({ cls := "HeirsAtLawModel", name := "isSmall", desc := "(I)Z" } : Jvm.MethodName)) ∈ lw_all := lw_g (lw_at lw_m9 199 rfl) rfl
theorem q2244 : (Jvm.Cond.code ({ cls := "HeirsAtLawModel", name := "isSmall", desc := "(I)Z" } : Jvm.MethodName) prog_29_method_16_code (1 : Nat) (Option.some Jvm.ClassFile.FieldType.boolean)) ∈ lw_all := lw_g (lw_at lw_m9 200 rfl) rfl
theorem q2245 : (Jvm.Cond.methodLink "HeirsAtLawModel" (165 : Nat) ({ cls := "HeirsAtLawModel", name := "isDigit", desc := "(I)Z" } : Jvm.MethodName)) ∈ lw_all := lw_g (lw_at lw_m9 201 rfl) rfl
theorem q2246 : (Jvm.Cond.static ({ cls := "HeirsAtLawModel", name := "isDigit", desc := "(I)Z" } : Jvm.MethodName)) ∈ lw_all := lw_g (lw_at lw_m9 202 rfl) rfl
theorem q2247 : (Jvm.Cond.code ({ cls := "HeirsAtLawModel", name := "isDigit", desc := "(I)Z" } : Jvm.MethodName) prog_29_method_17_code (1 : Nat) (Option.some Jvm.ClassFile.FieldType.boolean)) ∈ lw_all := lw_g (lw_at lw_m9 203 rfl) rfl
theorem q2248 : (Jvm.Cond.methodLink "HeirsAtLawModel" (257 : Nat) ({ cls := "HeirsAtLawModel", name := "readLine", desc := "()Z" } : Jvm.MethodName)) ∈ lw_all := lw_g (lw_at lw_m9 204 rfl) rfl
theorem q2249 : (Jvm.Cond.privateMethod ({ cls := "HeirsAtLawModel", name := "readLine", desc := "()Z" } : Jvm.MethodName)) ∈ lw_tbl := lw_at lw_m9 205 rfl
theorem q2250 : (Jvm.Cond.instanceMethod ({ cls := "HeirsAtLawModel", name := "readLine", desc := "()Z" } : Jvm.MethodName)) ∈ lw_all := lw_g (lw_at lw_m9 206 rfl) rfl
theorem q2251 : (Jvm.Cond.code ({ cls := "HeirsAtLawModel", name := "readLine", desc := "()Z" } : Jvm.MethodName) prog_29_method_30_code (1 : Nat) (Option.some Jvm.ClassFile.FieldType.boolean)) ∈ lw_all := lw_g (lw_at lw_m9 207 rfl) rfl
theorem q2252 : (Jvm.Cond.methodLink "HeirsAtLawModel" (212 : Nat) ({ cls := "HeirsAtLawModel", name := "isWord", desc := "(J)Z" } : Jvm.MethodName)) ∈ lw_all := lw_g (lw_at lw_m9 208 rfl) rfl
theorem q2253 : (Jvm.Cond.privateMethod ({ cls := "HeirsAtLawModel", name := "isWord", desc := "(J)Z" } : Jvm.MethodName)) ∈ lw_tbl := lw_at lw_m9 209 rfl
theorem q2254 : (Jvm.Cond.instanceMethod ({ cls := "HeirsAtLawModel", name := "isWord", desc := "(J)Z" } : Jvm.MethodName)) ∈ lw_all := lw_g (lw_at lw_m9 210 rfl) rfl
theorem q2255 : (Jvm.Cond.code ({ cls := "HeirsAtLawModel", name := "isWord", desc := "(J)Z" } : Jvm.MethodName) prog_29_method_20_code (3 : Nat) (Option.some Jvm.ClassFile.FieldType.boolean)) ∈ lw_all := lw_g (lw_at lw_m9 211 rfl) rfl
theorem q2256 : (Jvm.Cond.methodLink "HeirsAtLawModel" (216 : Nat) ({ cls := "HeirsAtLawModel", name := "readPerson", desc := "()Z" } : Jvm.MethodName)) ∈ lw_all := lw_g (lw_at lw_m9 212 rfl) rfl
theorem q2257 : (Jvm.Cond.privateMethod ({ cls := "HeirsAtLawModel", name := "readPerson", desc := "()Z" } : Jvm.MethodName)) ∈ lw_tbl := lw_at lw_m9 213 rfl
theorem q2258 : (Jvm.Cond.instanceMethod ({ cls := "HeirsAtLawModel", name := "readPerson", desc := "()Z" } : Jvm.MethodName)) ∈ lw_all := lw_g (lw_at lw_m9 214 rfl) rfl
theorem q2259 : (Jvm.Cond.code ({ cls := "HeirsAtLawModel", name := "readPerson", desc := "()Z" } : Jvm.MethodName) prog_29_method_31_code (2 : Nat) (Option.some Jvm.ClassFile.FieldType.boolean)) ∈ lw_all := lw_g (lw_at lw_m9 215 rfl) rfl
theorem q2260 : (Jvm.Cond.methodLink "HeirsAtLawModel" (184 : Nat) ({ cls := "HeirsAtLawModel", name := "bad", desc := "(I)Z" } : Jvm.MethodName)) ∈ lw_all := lw_g (lw_at lw_m9 216 rfl) rfl
theorem q2261 : (Jvm.Cond.privateMethod ({ cls := "HeirsAtLawModel", name := "bad", desc := "(I)Z" } : Jvm.MethodName)) ∈ lw_tbl := lw_at lw_m9 217 rfl
theorem q2262 : (Jvm.Cond.instanceMethod ({ cls := "HeirsAtLawModel", name := "bad", desc := "(I)Z" } : Jvm.MethodName)) ∈ lw_all := lw_g (lw_at lw_m9 218 rfl) rfl
theorem q2263 : (Jvm.Cond.code ({ cls := "HeirsAtLawModel", name := "bad", desc := "(I)Z" } : Jvm.MethodName) prog_29_method_19_code (2 : Nat) (Option.some Jvm.ClassFile.FieldType.boolean)) ∈ lw_all := lw_g (lw_at lw_m9 219 rfl) rfl
theorem q2264 : (Jvm.Cond.methodLink "HeirsAtLawModel" (201 : Nat) ({ cls := "HeirsAtLawModel", name := "isName", desc := "()Z" } : Jvm.MethodName)) ∈ lw_all := lw_g (lw_at lw_m9 220 rfl) rfl
theorem q2265 : (Jvm.Cond.privateMethod ({ cls := "HeirsAtLawModel", name := "isName", desc := "()Z" } : Jvm.MethodName)) ∈ lw_tbl := lw_at lw_m9 221 rfl
theorem q2266 : (Jvm.Cond.instanceMethod ({ cls := "HeirsAtLawModel", name := "isName", desc := "()Z" } : Jvm.MethodName)) ∈ lw_all := lw_g (lw_at lw_m9 222 rfl) rfl
theorem q2267 : (Jvm.Cond.code ({ cls := "HeirsAtLawModel", name := "isName", desc := "()Z" } : Jvm.MethodName) prog_29_method_23_code (3 : Nat) (Option.some Jvm.ClassFile.FieldType.boolean)) ∈ lw_all := lw_g (lw_at lw_m9 223 rfl) rfl
theorem q2268 : (Jvm.Cond.methodLink "HeirsAtLawModel" (205 : Nat) ({ cls := "HeirsAtLawModel", name := "seek", desc := "(II)I" } : Jvm.MethodName)) ∈ lw_all := lw_g (lw_at lw_m9 224 rfl) rfl
theorem q2269 : (Jvm.Cond.privateMethod ({ cls := "HeirsAtLawModel", name := "seek", desc := "(II)I" } : Jvm.MethodName)) ∈ lw_tbl := lw_at lw_m9 225 rfl
theorem q2270 : (Jvm.Cond.instanceMethod ({ cls := "HeirsAtLawModel", name := "seek", desc := "(II)I" } : Jvm.MethodName)) ∈ lw_all := lw_g (lw_at lw_m9 226 rfl) rfl
theorem q2271 : (Jvm.Cond.code ({ cls := "HeirsAtLawModel", name := "seek", desc := "(II)I" } : Jvm.MethodName) prog_29_method_26_code (4 : Nat) (Option.some Jvm.ClassFile.FieldType.int)) ∈ lw_all := lw_g (lw_at lw_m9 227 rfl) rfl
theorem q2272 : (Jvm.Cond.methodLink "HeirsAtLawModel" (235 : Nat) ({ cls := "HeirsAtLawModel", name := "puts", desc := "(III)Z" } : Jvm.MethodName)) ∈ lw_all := lw_g (lw_at lw_m9 228 rfl) rfl
theorem q2273 : (Jvm.Cond.privateMethod ({ cls := "HeirsAtLawModel", name := "puts", desc := "(III)Z" } : Jvm.MethodName)) ∈ lw_tbl := lw_at lw_m9 229 rfl
theorem q2274 : (Jvm.Cond.instanceMethod ({ cls := "HeirsAtLawModel", name := "puts", desc := "(III)Z" } : Jvm.MethodName)) ∈ lw_all := lw_g (lw_at lw_m9 230 rfl) rfl
theorem q2275 : (Jvm.Cond.code ({ cls := "HeirsAtLawModel", name := "puts", desc := "(III)Z" } : Jvm.MethodName) prog_29_method_25_code (4 : Nat) (Option.some Jvm.ClassFile.FieldType.boolean)) ∈ lw_all := lw_g (lw_at lw_m9 231 rfl) rfl
theorem q2276 : (Jvm.Cond.methodLink "HeirsAtLawModel" (197 : Nat) ({ cls := "HeirsAtLawModel", name := "takes", desc := "(II)Z" } : Jvm.MethodName)) ∈ lw_all := lw_g (lw_at lw_m9 232 rfl) rfl
theorem q2277 : (Jvm.Cond.privateMethod ({ cls := "HeirsAtLawModel", name := "takes", desc := "(II)Z" } : Jvm.MethodName)) ∈ lw_tbl := lw_at lw_m9 233 rfl
theorem q2278 : (Jvm.Cond.instanceMethod ({ cls := "HeirsAtLawModel", name := "takes", desc := "(II)Z" } : Jvm.MethodName)) ∈ lw_all := lw_g (lw_at lw_m9 234 rfl) rfl
theorem q2279 : (Jvm.Cond.code ({ cls := "HeirsAtLawModel", name := "takes", desc := "(II)Z" } : Jvm.MethodName) prog_29_method_24_code (3 : Nat) (Option.some Jvm.ClassFile.FieldType.boolean)) ∈ lw_all := lw_g (lw_at lw_m9 235 rfl) rfl
theorem q2280 : (Jvm.Cond.methodLink "HeirsAtLawModel" (190 : Nat) ({ cls := "HeirsAtLawModel", name := "isIn", desc := "(III)Z" } : Jvm.MethodName)) ∈ lw_all := lw_g (lw_at lw_m9 236 rfl) rfl
theorem q2281 : (Jvm.Cond.static ({ cls := "HeirsAtLawModel", name := "isIn", desc := "(III)Z" } : Jvm.MethodName)) ∈ lw_all := lw_g (lw_at lw_m9 237 rfl) rfl
theorem q2282 : (Jvm.Cond.code ({ cls := "HeirsAtLawModel", name := "isIn", desc := "(III)Z" } : Jvm.MethodName) prog_29_method_7_code (3 : Nat) (Option.some Jvm.ClassFile.FieldType.boolean)) ∈ lw_all := lw_g (lw_at lw_m9 238 rfl) rfl
theorem q2283 : (Jvm.Cond.methodLink "HeirsAtLawModel" (219 : Nat) ({ cls := "HeirsAtLawModel", name := "readParent", desc := "()Z" } : Jvm.MethodName)) ∈ lw_all := lw_g (lw_at lw_m9 239 rfl) rfl
theorem q2284 : (Jvm.Cond.privateMethod ({ cls := "HeirsAtLawModel", name := "readParent", desc := "()Z" } : Jvm.MethodName)) ∈ lw_tbl := lw_at lw_m10 0 rfl
theorem q2285 : (Jvm.Cond.instanceMethod ({ cls := "HeirsAtLawModel", name := "readParent", desc := "()Z" } : Jvm.MethodName)) ∈ lw_all := lw_g (lw_at lw_m10 1 rfl) rfl
theorem q2286 : (Jvm.Cond.code ({ cls := "HeirsAtLawModel", name := "readParent", desc := "()Z" } : Jvm.MethodName) prog_29_method_32_code (2 : Nat) (Option.some Jvm.ClassFile.FieldType.boolean)) ∈ lw_all := lw_g (lw_at lw_m10 2 rfl) rfl
theorem q2287 : (Jvm.Cond.methodLink "HeirsAtLawModel" (209 : Nat) ({ cls := "HeirsAtLawModel", name := "looksAt", desc := "(II)Z" } : Jvm.MethodName)) ∈ lw_all := lw_g (lw_at lw_m10 3 rfl) rfl
theorem q2288 : (Jvm.Cond.privateMethod ({ cls := "HeirsAtLawModel", name := "looksAt", desc := "(II)Z" } : Jvm.MethodName)) ∈ lw_tbl := lw_at lw_m10 4 rfl
theorem q2289 : (Jvm.Cond.instanceMethod ({ cls := "HeirsAtLawModel", name := "looksAt", desc := "(II)Z" } : Jvm.MethodName)) ∈ lw_all := lw_g (lw_at lw_m10 5 rfl) rfl
theorem q2290 : (Jvm.Cond.code ({ cls := "HeirsAtLawModel", name := "looksAt", desc := "(II)Z" } : Jvm.MethodName) prog_29_method_27_code (3 : Nat) (Option.some Jvm.ClassFile.FieldType.boolean)) ∈ lw_all := lw_g (lw_at lw_m10 6 rfl) rfl
theorem q2291 : (Jvm.Cond.methodLink "HeirsAtLawModel" (238 : Nat) ({ cls := "HeirsAtLawModel", name := "bits", desc := "(I)I" } : Jvm.MethodName)) ∈ lw_all := lw_g (lw_at lw_m10 7 rfl) rfl
theorem q2292 : (Jvm.Cond.static ({ cls := "HeirsAtLawModel", name := "bits", desc := "(I)I" } : Jvm.MethodName)) ∈ lw_all := lw_g (lw_at lw_m10 8 rfl) rfl
theorem q2293 : (Jvm.Cond.code ({ cls := "HeirsAtLawModel", name := "bits", desc := "(I)I" } : Jvm.MethodName) prog_29_method_11_code (3 : Nat) (Option.some Jvm.ClassFile.FieldType.int)) ∈ lw_all := lw_g (lw_at lw_m10 9 rfl) rfl
theorem q2294 : (Jvm.Cond.methodLink "HeirsAtLawModel" (242 : Nat) ({ cls := "HeirsAtLawModel", name := "bitOf", desc := "(II)Z" } : Jvm.MethodName)) ∈ lw_all := lw_g (lw_at lw_m10 10 rfl) rfl
theorem q2295 : (Jvm.Cond.static ({ cls := "HeirsAtLawModel", name := "bitOf", desc := "(II)Z" } : Jvm.MethodName)) ∈ lw_all := lw_g (lw_at lw_m10 11 rfl) rfl
theorem q2296 : (Jvm.Cond.code ({ cls := "HeirsAtLawModel", name := "bitOf", desc := "(II)Z" } : Jvm.MethodName) prog_29_method_8_code (2 : Nat) (Option.some Jvm.ClassFile.FieldType.boolean)) ∈ lw_all := lw_g (lw_at lw_m10 12 rfl) rfl
theorem q2297 : (Jvm.Cond.methodLink "HeirsAtLawModel" (222 : Nat) ({ cls := "HeirsAtLawModel", name := "readWed", desc := "()Z" } : Jvm.MethodName)) ∈ lw_all := lw_g (lw_at lw_m10 13 rfl) rfl
theorem q2298 : (Jvm.Cond.privateMethod ({ cls := "HeirsAtLawModel", name := "readWed", desc := "()Z" } : Jvm.MethodName)) ∈ lw_tbl := lw_at lw_m10 14 rfl
theorem q2299 : (Jvm.Cond.instanceMethod ({ cls := "HeirsAtLawModel", name := "readWed", desc := "()Z" } : Jvm.MethodName)) ∈ lw_all := lw_g (lw_at lw_m10 15 rfl) rfl
theorem q2300 : (Jvm.Cond.code ({ cls := "HeirsAtLawModel", name := "readWed", desc := "()Z" } : Jvm.MethodName) prog_29_method_33_code (2 : Nat) (Option.some Jvm.ClassFile.FieldType.boolean)) ∈ lw_all := lw_g (lw_at lw_m10 16 rfl) rfl
theorem q2301 : (Jvm.Cond.methodLink "HeirsAtLawModel" (225 : Nat) ({ cls := "HeirsAtLawModel", name := "readWill", desc := "()Z" } : Jvm.MethodName)) ∈ lw_all := lw_g (lw_at lw_m10 17 rfl) rfl
theorem q2302 : (Jvm.Cond.privateMethod ({ cls := "HeirsAtLawModel", name := "readWill", desc := "()Z" } : Jvm.MethodName)) ∈ lw_tbl := lw_at lw_m10 18 rfl
theorem q2303 : (Jvm.Cond.instanceMethod ({ cls := "HeirsAtLawModel", name := "readWill", desc := "()Z" } : Jvm.MethodName)) ∈ lw_all := lw_g (lw_at lw_m10 19 rfl) rfl
theorem q2304 : (Jvm.Cond.code ({ cls := "HeirsAtLawModel", name := "readWill", desc := "()Z" } : Jvm.MethodName) prog_29_method_34_code (2 : Nat) (Option.some Jvm.ClassFile.FieldType.boolean)) ∈ lw_all := lw_g (lw_at lw_m10 20 rfl) rfl
theorem q2305 : (Jvm.Cond.methodLink "HeirsAtLawModel" (245 : Nat) ({ cls := "HeirsAtLawModel", name := "takesName", desc := "(II)Z" } : Jvm.MethodName)) ∈ lw_all := lw_g (lw_at lw_m10 21 rfl) rfl
theorem q2306 : (Jvm.Cond.privateMethod ({ cls := "HeirsAtLawModel", name := "takesName", desc := "(II)Z" } : Jvm.MethodName)) ∈ lw_tbl := lw_at lw_m10 22 rfl
theorem q2307 : (Jvm.Cond.instanceMethod ({ cls := "HeirsAtLawModel", name := "takesName", desc := "(II)Z" } : Jvm.MethodName)) ∈ lw_all := lw_g (lw_at lw_m10 23 rfl) rfl
theorem q2308 : (Jvm.Cond.code ({ cls := "HeirsAtLawModel", name := "takesName", desc := "(II)Z" } : Jvm.MethodName) prog_29_method_28_code (3 : Nat) (Option.some Jvm.ClassFile.FieldType.boolean)) ∈ lw_all := lw_g (lw_at lw_m10 24 rfl) rfl
theorem q2309 : (Jvm.Cond.methodLink "HeirsAtLawModel" (248 : Nat) ({ cls := "HeirsAtLawModel", name := "takesOther", desc := "(II)Z" } : Jvm.MethodName)) ∈ lw_all := lw_g (lw_at lw_m10 25 rfl) rfl
theorem q2310 : (Jvm.Cond.privateMethod ({ cls := "HeirsAtLawModel", name := "takesOther", desc := "(II)Z" } : Jvm.MethodName)) ∈ lw_tbl := lw_at lw_m10 26 rfl
theorem q2311 : (Jvm.Cond.instanceMethod ({ cls := "HeirsAtLawModel", name := "takesOther", desc := "(II)Z" } : Jvm.MethodName)) ∈ lw_all := lw_g (lw_at lw_m10 27 rfl) rfl
theorem q2312 : (Jvm.Cond.code ({ cls := "HeirsAtLawModel", name := "takesOther", desc := "(II)Z" } : Jvm.MethodName) prog_29_method_29_code (4 : Nat) (Option.some Jvm.ClassFile.FieldType.boolean)) ∈ lw_all := lw_g (lw_at lw_m10 28 rfl) rfl
theorem q2313 : (Jvm.Cond.methodLink "HeirsAtLawModel" (228 : Nat) ({ cls := "HeirsAtLawModel", name := "readDies", desc := "()Z" } : Jvm.MethodName)) ∈ lw_all := lw_g (lw_at lw_m10 29 rfl) rfl
theorem q2314 : (Jvm.Cond.privateMethod ({ cls := "HeirsAtLawModel", name := "readDies", desc := "()Z" } : Jvm.MethodName)) ∈ lw_tbl := lw_at lw_m10 30 rfl
theorem q2315 : (Jvm.Cond.instanceMethod ({ cls := "HeirsAtLawModel", name := "readDies", desc := "()Z" } : Jvm.MethodName)) ∈ lw_all := lw_g (lw_at lw_m10 31 rfl) rfl
theorem q2316 : (Jvm.Cond.code ({ cls := "HeirsAtLawModel", name := "readDies", desc := "()Z" } : Jvm.MethodName) prog_29_method_35_code (2 : Nat) (Option.some Jvm.ClassFile.FieldType.boolean)) ∈ lw_all := lw_g (lw_at lw_m10 32 rfl) rfl
theorem q2317 : (Jvm.Cond.methodLink "HeirsAtLawModel" (260 : Nat) ({ cls := "HeirsAtLawModel", name := "sign", desc := "(I)Z" } : Jvm.MethodName)) ∈ lw_all := lw_g (lw_at lw_m10 33 rfl) rfl
theorem q2318 : (Jvm.Cond.privateMethod ({ cls := "HeirsAtLawModel", name := "sign", desc := "(I)Z" } : Jvm.MethodName)) ∈ lw_tbl := lw_at lw_m10 34 rfl
theorem q2319 : (Jvm.Cond.instanceMethod ({ cls := "HeirsAtLawModel", name := "sign", desc := "(I)Z" } : Jvm.MethodName)) ∈ lw_all := lw_g (lw_at lw_m10 35 rfl) rfl
theorem q2320 : (Jvm.Cond.code ({ cls := "HeirsAtLawModel", name := "sign", desc := "(I)Z" } : Jvm.MethodName) prog_29_method_22_code (2 : Nat) (Option.some Jvm.ClassFile.FieldType.boolean)) ∈ lw_all := lw_g (lw_at lw_m10 36 rfl) rfl
theorem q2321 : (Jvm.Cond.methodLink "HeirsAtLawModel" (181 : Nat) ({ cls := "HeirsAtLawModel", name := "isSign", desc := "(I)Z" } : Jvm.MethodName)) ∈ lw_all := lw_g (lw_at lw_m10 37 rfl) rfl
theorem q2322 : (Jvm.Cond.privateMethod ({ cls := "HeirsAtLawModel", name := "isSign", desc := "(I)Z" } : Jvm.MethodName)) ∈ lw_tbl := lw_at lw_m10 38 rfl
theorem q2323 : (Jvm.Cond.instanceMethod ({ cls := "HeirsAtLawModel", name := "isSign", desc := "(I)Z" } : Jvm.MethodName)) ∈ lw_all := lw_g (lw_at lw_m10 39 rfl) rfl
theorem q2324 : (Jvm.Cond.code ({ cls := "HeirsAtLawModel", name := "isSign", desc := "(I)Z" } : Jvm.MethodName) prog_29_method_21_code (2 : Nat) (Option.some Jvm.ClassFile.FieldType.boolean)) ∈ lw_all := lw_g (lw_at lw_m10 40 rfl) rfl
theorem q2326 : (Jvm.Cond.instanceMethod ({ cls := "HeirsAtLawModel", name := "fault", desc := "()I" } : Jvm.MethodName)) ∈ lw_all := lw_g (lw_at lw_m10 42 rfl) rfl
theorem q2327 : (Jvm.Cond.selects "HeirsAtLawModel" ({ cls := "HeirsAtLawModel", name := "fault", desc := "()I" } : Jvm.MethodName) ({ cls := "HeirsAtLawModel", name := "fault", desc := "()I" } : Jvm.MethodName)) ∈ lw_all := lw_g (lw_at lw_m10 43 rfl) rfl
theorem q2328 : (Jvm.Cond.code ({ cls := "HeirsAtLawModel", name := "fault", desc := "()I" } : Jvm.MethodName) prog_29_method_37_code (1 : Nat) (Option.some Jvm.ClassFile.FieldType.int)) ∈ lw_all := lw_g (lw_at lw_m10 44 rfl) rfl
theorem q2330 : (Jvm.Cond.instanceMethod ({ cls := "HeirsAtLawModel", name := "person", desc := "(II)I" } : Jvm.MethodName)) ∈ lw_all := lw_g (lw_at lw_m10 46 rfl) rfl
theorem q2331 : (Jvm.Cond.selects "HeirsAtLawModel" ({ cls := "HeirsAtLawModel", name := "person", desc := "(II)I" } : Jvm.MethodName) ({ cls := "HeirsAtLawModel", name := "person", desc := "(II)I" } : Jvm.MethodName)) ∈ lw_all := lw_g (lw_at lw_m10 47 rfl) rfl
theorem q2332 : (Jvm.Cond.code ({ cls := "HeirsAtLawModel", name := "person", desc := "(II)I" } : Jvm.MethodName) prog_29_method_49_code (3 : Nat) (Option.some Jvm.ClassFile.FieldType.int)) ∈ lw_all := lw_g (lw_at lw_m10 48 rfl) rfl
theorem q2333 : (Jvm.Cond.methodLink "HeirsAtLawModel" (284 : Nat) ({ cls := "HeirsAtLawModel", name := "isPerson", desc := "(I)Z" } : Jvm.MethodName)) ∈ lw_all := lw_g (lw_at lw_m10 49 rfl) rfl
theorem q2334 : (Jvm.Cond.privateMethod ({ cls := "HeirsAtLawModel", name := "isPerson", desc := "(I)Z" } : Jvm.MethodName)) ∈ lw_tbl := lw_at lw_m10 50 rfl
theorem q2335 : (Jvm.Cond.instanceMethod ({ cls := "HeirsAtLawModel", name := "isPerson", desc := "(I)Z" } : Jvm.MethodName)) ∈ lw_all := lw_g (lw_at lw_m10 51 rfl) rfl
theorem q2336 : (Jvm.Cond.code ({ cls := "HeirsAtLawModel", name := "isPerson", desc := "(I)Z" } : Jvm.MethodName) prog_29_method_38_code (2 : Nat) (Option.some Jvm.ClassFile.FieldType.boolean)) ∈ lw_all := lw_g (lw_at lw_m10 52 rfl) rfl
theorem q2337 : (Jvm.Cond.methodLink "HeirsAtLawModel" (287 : Nat) ({ cls := "HeirsAtLawModel", name := "throwsIf", desc := "(Z)Z" } : Jvm.MethodName)) ∈ lw_all := lw_g (lw_at lw_m10 53 rfl) rfl
theorem q2338 : (Jvm.Cond.privateMethod ({ cls := "HeirsAtLawModel", name := "throwsIf", desc := "(Z)Z" } : Jvm.MethodName)) ∈ lw_tbl := lw_at lw_m10 54 rfl
theorem q2339 : (Jvm.Cond.instanceMethod ({ cls := "HeirsAtLawModel", name := "throwsIf", desc := "(Z)Z" } : Jvm.MethodName)) ∈ lw_all := lw_g (lw_at lw_m10 55 rfl) rfl
theorem q2340 : (Jvm.Cond.code ({ cls := "HeirsAtLawModel", name := "throwsIf", desc := "(Z)Z" } : Jvm.MethodName) prog_29_method_2_code (2 : Nat) (Option.some Jvm.ClassFile.FieldType.boolean)) ∈ lw_all := lw_g (lw_at lw_m10 56 rfl) rfl
theorem q2341 : (Jvm.Cond.methodLink "HeirsAtLawModel" (275 : Nat) ({ cls := "HeirsAtLawModel", name := "isLiving", desc := "(I)Z" } : Jvm.MethodName)) ∈ lw_all := lw_g (lw_at lw_m10 57 rfl) rfl
theorem q2342 : (Jvm.Cond.privateMethod ({ cls := "HeirsAtLawModel", name := "isLiving", desc := "(I)Z" } : Jvm.MethodName)) ∈ lw_tbl := lw_at lw_m10 58 rfl
theorem q2343 : (Jvm.Cond.instanceMethod ({ cls := "HeirsAtLawModel", name := "isLiving", desc := "(I)Z" } : Jvm.MethodName)) ∈ lw_all := lw_g (lw_at lw_m10 59 rfl) rfl
theorem q2344 : (Jvm.Cond.code ({ cls := "HeirsAtLawModel", name := "isLiving", desc := "(I)Z" } : Jvm.MethodName) prog_29_method_39_code (2 : Nat) (Option.some Jvm.ClassFile.FieldType.boolean)) ∈ lw_all := lw_g (lw_at lw_m10 60 rfl) rfl
theorem q2345 : (Jvm.Cond.methodLink "HeirsAtLawModel" (266 : Nat) ({ cls := "HeirsAtLawModel", name := "childrenOf", desc := "(I)I" } : Jvm.MethodName)) ∈ lw_all := lw_g (lw_at lw_m10 61 rfl) rfl
theorem q2346 : (Jvm.Cond.privateMethod ({ cls := "HeirsAtLawModel", name := "childrenOf", desc := "(I)I" } : Jvm.MethodName)) ∈ lw_tbl := lw_at lw_m10 62 rfl
theorem q2347 : (Jvm.Cond.instanceMethod ({ cls := "HeirsAtLawModel", name := "childrenOf", desc := "(I)I" } : Jvm.MethodName)) ∈ lw_all := lw_g (lw_at lw_m10 63 rfl) rfl
theorem q2348 : (Jvm.Cond.code ({ cls := "HeirsAtLawModel", name := "childrenOf", desc := "(I)I" } : Jvm.MethodName) prog_29_method_41_code (4 : Nat) (Option.some Jvm.ClassFile.FieldType.int)) ∈ lw_all := lw_g (lw_at lw_m10 64 rfl) rfl
theorem q2349 : (Jvm.Cond.methodLink "HeirsAtLawModel" (278 : Nat) ({ cls := "HeirsAtLawModel", name := "livingIssue", desc := "(I)I" } : Jvm.MethodName)) ∈ lw_all := lw_g (lw_at lw_m10 65 rfl) rfl
theorem q2350 : (Jvm.Cond.privateMethod ({ cls := "HeirsAtLawModel", name := "livingIssue", desc := "(I)I" } : Jvm.MethodName)) ∈ lw_tbl := lw_at lw_m10 66 rfl
theorem q2351 : (Jvm.Cond.instanceMethod ({ cls := "HeirsAtLawModel", name := "livingIssue", desc := "(I)I" } : Jvm.MethodName)) ∈ lw_all := lw_g (lw_at lw_m10 67 rfl) rfl
theorem q2352 : (Jvm.Cond.code ({ cls := "HeirsAtLawModel", name := "livingIssue", desc := "(I)I" } : Jvm.MethodName) prog_29_method_44_code (2 : Nat) (Option.some Jvm.ClassFile.FieldType.int)) ∈ lw_all := lw_g (lw_at lw_m10 68 rfl) rfl
theorem q2353 : (Jvm.Cond.methodLink "HeirsAtLawModel" (269 : Nat) ({ cls := "HeirsAtLawModel", name := "issueOf", desc := "(I)I" } : Jvm.MethodName)) ∈ lw_all := lw_g (lw_at lw_m10 69 rfl) rfl
theorem q2354 : (Jvm.Cond.privateMethod ({ cls := "HeirsAtLawModel", name := "issueOf", desc := "(I)I" } : Jvm.MethodName)) ∈ lw_tbl := lw_at lw_m10 70 rfl
theorem q2355 : (Jvm.Cond.instanceMethod ({ cls := "HeirsAtLawModel", name := "issueOf", desc := "(I)I" } : Jvm.MethodName)) ∈ lw_all := lw_g (lw_at lw_m10 71 rfl) rfl
theorem q2356 : (Jvm.Cond.code ({ cls := "HeirsAtLawModel", name := "issueOf", desc := "(I)I" } : Jvm.MethodName) prog_29_method_43_code (4 : Nat) (Option.some Jvm.ClassFile.FieldType.int)) ∈ lw_all := lw_g (lw_at lw_m10 72 rfl) rfl
theorem q2357 : (Jvm.Cond.methodLink "HeirsAtLawModel" (272 : Nat) ({ cls := "HeirsAtLawModel", name := "living", desc := "()I" } : Jvm.MethodName)) ∈ lw_all := lw_g (lw_at lw_m10 73 rfl) rfl
theorem q2358 : (Jvm.Cond.privateMethod ({ cls := "HeirsAtLawModel", name := "living", desc := "()I" } : Jvm.MethodName)) ∈ lw_tbl := lw_at lw_m10 74 rfl
theorem q2359 : (Jvm.Cond.instanceMethod ({ cls := "HeirsAtLawModel", name := "living", desc := "()I" } : Jvm.MethodName)) ∈ lw_all := lw_g (lw_at lw_m10 75 rfl) rfl
theorem q2360 : (Jvm.Cond.code ({ cls := "HeirsAtLawModel", name := "living", desc := "()I" } : Jvm.MethodName) prog_29_method_40_code (1 : Nat) (Option.some Jvm.ClassFile.FieldType.int)) ∈ lw_all := lw_g (lw_at lw_m10 76 rfl) rfl
theorem q2361 : (Jvm.Cond.methodLink "HeirsAtLawModel" (291 : Nat) ({ cls := "HeirsAtLawModel", name := "ofPerson", desc := "(II)I" } : Jvm.MethodName)) ∈ lw_all := lw_g (lw_at lw_m10 77 rfl) rfl
theorem q2362 : (Jvm.Cond.privateMethod ({ cls := "HeirsAtLawModel", name := "ofPerson", desc := "(II)I" } : Jvm.MethodName)) ∈ lw_tbl := lw_at lw_m10 78 rfl
theorem q2363 : (Jvm.Cond.instanceMethod ({ cls := "HeirsAtLawModel", name := "ofPerson", desc := "(II)I" } : Jvm.MethodName)) ∈ lw_all := lw_g (lw_at lw_m10 79 rfl) rfl
theorem q2364 : (Jvm.Cond.code ({ cls := "HeirsAtLawModel", name := "ofPerson", desc := "(II)I" } : Jvm.MethodName) prog_29_method_47_code (5 : Nat) (Option.some Jvm.ClassFile.FieldType.int)) ∈ lw_all := lw_g (lw_at lw_m10 80 rfl) rfl
theorem q2366 : (Jvm.Cond.instanceMethod ({ cls := "HeirsAtLawModel", name := "legacy", desc := "(II)I" } : Jvm.MethodName)) ∈ lw_all := lw_g (lw_at lw_m10 82 rfl) rfl
theorem q2367 : (Jvm.Cond.selects "HeirsAtLawModel" ({ cls := "HeirsAtLawModel", name := "legacy", desc := "(II)I" } : Jvm.MethodName) ({ cls := "HeirsAtLawModel", name := "legacy", desc := "(II)I" } : Jvm.MethodName)) ∈ lw_all := lw_g (lw_at lw_m10 83 rfl) rfl
theorem q2368 : (Jvm.Cond.code ({ cls := "HeirsAtLawModel", name := "legacy", desc := "(II)I" } : Jvm.MethodName) prog_29_method_50_code (3 : Nat) (Option.some Jvm.ClassFile.FieldType.int)) ∈ lw_all := lw_g (lw_at lw_m10 84 rfl) rfl
theorem q2370 : (Jvm.Cond.instanceMethod ({ cls := "HeirsAtLawModel", name := "degree", desc := "(II)I" } : Jvm.MethodName)) ∈ lw_all := lw_g (lw_at lw_m10 86 rfl) rfl
theorem q2371 : (Jvm.Cond.selects "HeirsAtLawModel" ({ cls := "HeirsAtLawModel", name := "degree", desc := "(II)I" } : Jvm.MethodName) ({ cls := "HeirsAtLawModel", name := "degree", desc := "(II)I" } : Jvm.MethodName)) ∈ lw_all := lw_g (lw_at lw_m10 87 rfl) rfl
theorem q2372 : (Jvm.Cond.code ({ cls := "HeirsAtLawModel", name := "degree", desc := "(II)I" } : Jvm.MethodName) prog_29_method_51_code (3 : Nat) (Option.some Jvm.ClassFile.FieldType.int)) ∈ lw_all := lw_g (lw_at lw_m10 88 rfl) rfl
theorem q2373 : (Jvm.Cond.methodLink "HeirsAtLawModel" (294 : Nat) ({ cls := "HeirsAtLawModel", name := "degreeOf", desc := "(II)I" } : Jvm.MethodName)) ∈ lw_all := lw_g (lw_at lw_m10 89 rfl) rfl
theorem q2374 : (Jvm.Cond.privateMethod ({ cls := "HeirsAtLawModel", name := "degreeOf", desc := "(II)I" } : Jvm.MethodName)) ∈ lw_tbl := lw_at lw_m10 90 rfl
theorem q2375 : (Jvm.Cond.instanceMethod ({ cls := "HeirsAtLawModel", name := "degreeOf", desc := "(II)I" } : Jvm.MethodName)) ∈ lw_all := lw_g (lw_at lw_m10 91 rfl) rfl
theorem q2376 : (Jvm.Cond.code ({ cls := "HeirsAtLawModel", name := "degreeOf", desc := "(II)I" } : Jvm.MethodName) prog_29_method_46_code (8 : Nat) (Option.some Jvm.ClassFile.FieldType.int)) ∈ lw_all := lw_g (lw_at lw_m10 92 rfl) rfl
theorem q2377 : (Jvm.Cond.methodLink "HeirsAtLawModel" (281 : Nat) ({ cls := "HeirsAtLawModel", name := "parentsOf", desc := "(I)I" } : Jvm.MethodName)) ∈ lw_all := lw_g (lw_at lw_m10 93 rfl) rfl
theorem q2378 : (Jvm.Cond.privateMethod ({ cls := "HeirsAtLawModel", name := "parentsOf", desc := "(I)I" } : Jvm.MethodName)) ∈ lw_tbl := lw_at lw_m10 94 rfl
theorem q2379 : (Jvm.Cond.instanceMethod ({ cls := "HeirsAtLawModel", name := "parentsOf", desc := "(I)I" } : Jvm.MethodName)) ∈ lw_all := lw_g (lw_at lw_m10 95 rfl) rfl
theorem q2380 : (Jvm.Cond.code ({ cls := "HeirsAtLawModel", name := "parentsOf", desc := "(I)I" } : Jvm.MethodName) prog_29_method_42_code (4 : Nat) (Option.some Jvm.ClassFile.FieldType.int)) ∈ lw_all := lw_g (lw_at lw_m10 96 rfl) rfl
theorem q2382 : (Jvm.Cond.instanceMethod ({ cls := "HeirsAtLawModel", name := "now", desc := "(I)I" } : Jvm.MethodName)) ∈ lw_all := lw_g (lw_at lw_m10 98 rfl) rfl
theorem q2383 : (Jvm.Cond.selects "HeirsAtLawModel" ({ cls := "HeirsAtLawModel", name := "now", desc := "(I)I" } : Jvm.MethodName) ({ cls := "HeirsAtLawModel", name := "now", desc := "(I)I" } : Jvm.MethodName)) ∈ lw_all := lw_g (lw_at lw_m10 99 rfl) rfl
theorem q2384 : (Jvm.Cond.code ({ cls := "HeirsAtLawModel", name := "now", desc := "(I)I" } : Jvm.MethodName) prog_29_method_52_code (4 : Nat) (Option.some Jvm.ClassFile.FieldType.int)) ∈ lw_all := lw_g (lw_at lw_m10 100 rfl) rfl
theorem q2385 : (Jvm.Cond.methodLink "HeirsAtLawModel" (297 : Nat) ({ cls := "HeirsAtLawModel", name := "coinsOfAll", desc := "()I" } : Jvm.MethodName)) ∈ lw_all := lw_g (lw_at lw_m10 101 rfl) rfl
theorem q2386 : (Jvm.Cond.privateMethod ({ cls := "HeirsAtLawModel", name := "coinsOfAll", desc := "()I" } : Jvm.MethodName)) ∈ lw_tbl := lw_at lw_m10 102 rfl
theorem q2387 : (Jvm.Cond.instanceMethod ({ cls := "HeirsAtLawModel", name := "coinsOfAll", desc := "()I" } : Jvm.MethodName)) ∈ lw_all := lw_g (lw_at lw_m10 103 rfl) rfl
theorem q2388 : (Jvm.Cond.code ({ cls := "HeirsAtLawModel", name := "coinsOfAll", desc := "()I" } : Jvm.MethodName) prog_29_method_48_code (3 : Nat) (Option.some Jvm.ClassFile.FieldType.int)) ∈ lw_all := lw_g (lw_at lw_m10 104 rfl) rfl
theorem q2390 : (Jvm.Cond.instanceMethod ({ cls := "HeirsAtLawModel", name := "die", desc := "(I)I" } : Jvm.MethodName)) ∈ lw_all := lw_g (lw_at lw_m10 106 rfl) rfl
theorem q2391 : (Jvm.Cond.selects "HeirsAtLawModel" ({ cls := "HeirsAtLawModel", name := "die", desc := "(I)I" } : Jvm.MethodName) ({ cls := "HeirsAtLawModel", name := "die", desc := "(I)I" } : Jvm.MethodName)) ∈ lw_all := lw_g (lw_at lw_m10 107 rfl) rfl
theorem q2392 : (Jvm.Cond.code ({ cls := "HeirsAtLawModel", name := "die", desc := "(I)I" } : Jvm.MethodName) prog_29_method_68_code (2 : Nat) (Option.some Jvm.ClassFile.FieldType.int)) ∈ lw_all := lw_g (lw_at lw_m10 108 rfl) rfl
theorem q2393 : (Jvm.Cond.methodLink "HeirsAtLawModel" (335 : Nat) ({ cls := "HeirsAtLawModel", name := "stores", desc := "()V" } : Jvm.MethodName)) ∈ lw_all := lw_g (lw_at lw_m10 109 rfl) rfl
theorem q2394 : (Jvm.Cond.privateMethod ({ cls := "HeirsAtLawModel", name := "stores", desc := "()V" } : Jvm.MethodName)) ∈ lw_tbl := lw_at lw_m10 110 rfl
theorem q2395 : (Jvm.Cond.instanceMethod ({ cls := "HeirsAtLawModel", name := "stores", desc := "()V" } : Jvm.MethodName)) ∈ lw_all := lw_g (lw_at lw_m10 111 rfl) rfl
theorem q2396 : (Jvm.Cond.code ({ cls := "HeirsAtLawModel", name := "stores", desc := "()V" } : Jvm.MethodName) prog_29_method_76_code (2 : Nat) (Option.none : Option Jvm.ClassFile.FieldType)) ∈ lw_all := lw_g (lw_at lw_m10 112 rfl) rfl
theorem q2397 : (Jvm.Cond.methodLink "HeirsAtLawModel" (329 : Nat) ({ cls := "HeirsAtLawModel", name := "dies", desc := "(I)V" } : Jvm.MethodName)) ∈ lw_all := lw_g (lw_at lw_m10 113 rfl) rfl
theorem q2398 : (Jvm.Cond.privateMethod ({ cls := "HeirsAtLawModel", name := "dies", desc := "(I)V" } : Jvm.MethodName)) ∈ lw_tbl := lw_at lw_m10 114 rfl
theorem q2399 : (Jvm.Cond.instanceMethod ({ cls := "HeirsAtLawModel", name := "dies", desc := "(I)V" } : Jvm.MethodName)) ∈ lw_all := lw_g (lw_at lw_m10 115 rfl) rfl
theorem q2400 : (Jvm.Cond.code ({ cls := "HeirsAtLawModel", name := "dies", desc := "(I)V" } : Jvm.MethodName) prog_29_method_58_code (6 : Nat) (Option.none : Option Jvm.ClassFile.FieldType)) ∈ lw_all := lw_g (lw_at lw_m10 116 rfl) rfl
theorem q2401 : (Jvm.Cond.methodLink "HeirsAtLawModel" (313 : Nat) ({ cls := "HeirsAtLawModel", name := "parts0", desc := "(I)V" } : Jvm.MethodName)) ∈ lw_all := lw_g (lw_at lw_m10 117 rfl) rfl
theorem q2402 : (Jvm.Cond.privateMethod ({ cls := "HeirsAtLawModel", name := "parts0", desc := "(I)V" } : Jvm.MethodName)) ∈ lw_tbl := lw_at lw_m10 118 rfl
theorem q2403 : (Jvm.Cond.instanceMethod ({ cls := "HeirsAtLawModel", name := "parts0", desc := "(I)V" } : Jvm.MethodName)) ∈ lw_all := lw_g (lw_at lw_m10 119 rfl) rfl
theorem q2404 : (Jvm.Cond.code ({ cls := "HeirsAtLawModel", name := "parts0", desc := "(I)V" } : Jvm.MethodName) prog_29_method_56_code (3 : Nat) (Option.none : Option Jvm.ClassFile.FieldType)) ∈ lw_all := lw_g (lw_at lw_m10 120 rfl) rfl
theorem q2405 : (Jvm.Cond.methodLink "HeirsAtLawModel" (316 : Nat) ({ cls := "HeirsAtLawModel", name := "lesser", desc := "(II)I" } : Jvm.MethodName)) ∈ lw_all := lw_g (lw_at lw_m10 121 rfl) rfl
theorem q2406 : (Jvm.Cond.static ({ cls := "HeirsAtLawModel", name := "lesser", desc := "(II)I" } : Jvm.MethodName)) ∈ lw_all := lw_g (lw_at lw_m10 122 rfl) rfl
theorem q2407 : (Jvm.Cond.code ({ cls := "HeirsAtLawModel", name := "lesser", desc := "(II)I" } : Jvm.MethodName) prog_29_method_9_code (2 : Nat) (Option.some Jvm.ClassFile.FieldType.int)) ∈ lw_all := lw_g (lw_at lw_m10 123 rfl) rfl
theorem q2408 : (Jvm.Cond.methodLink "HeirsAtLawModel" (319 : Nat) ({ cls := "HeirsAtLawModel", name := "revokes", desc := "(I)V" } : Jvm.MethodName)) ∈ lw_all := lw_g (lw_at lw_m10 124 rfl) rfl
theorem q2409 : (Jvm.Cond.privateMethod ({ cls := "HeirsAtLawModel", name := "revokes", desc := "(I)V" } : Jvm.MethodName)) ∈ lw_tbl := lw_at lw_m10 125 rfl
theorem q2410 : (Jvm.Cond.instanceMethod ({ cls := "HeirsAtLawModel", name := "revokes", desc := "(I)V" } : Jvm.MethodName)) ∈ lw_all := lw_g (lw_at lw_m10 126 rfl) rfl
theorem q2411 : (Jvm.Cond.code ({ cls := "HeirsAtLawModel", name := "revokes", desc := "(I)V" } : Jvm.MethodName) prog_29_method_57_code (4 : Nat) (Option.none : Option Jvm.ClassFile.FieldType)) ∈ lw_all := lw_g (lw_at lw_m10 127 rfl) rfl
theorem q2412 : (Jvm.Cond.methodLink "HeirsAtLawModel" (322 : Nat) ({ cls := "HeirsAtLawModel", name := "inherits", desc := "(III)V" } : Jvm.MethodName)) ∈ lw_all := lw_g (lw_at lw_m10 128 rfl) rfl
theorem q2413 : (Jvm.Cond.privateMethod ({ cls := "HeirsAtLawModel", name := "inherits", desc := "(III)V" } : Jvm.MethodName)) ∈ lw_tbl := lw_at lw_m10 129 rfl
theorem q2414 : (Jvm.Cond.instanceMethod ({ cls := "HeirsAtLawModel", name := "inherits", desc := "(III)V" } : Jvm.MethodName)) ∈ lw_all := lw_g (lw_at lw_m10 130 rfl) rfl
theorem q2415 : (Jvm.Cond.code ({ cls := "HeirsAtLawModel", name := "inherits", desc := "(III)V" } : Jvm.MethodName) prog_29_method_59_code (8 : Nat) (Option.none : Option Jvm.ClassFile.FieldType)) ∈ lw_all := lw_g (lw_at lw_m10 131 rfl) rfl
theorem q2416 : (Jvm.Cond.methodLink "HeirsAtLawModel" (326 : Nat) ({ cls := "HeirsAtLawModel", name := "shares", desc := "(II)V" } : Jvm.MethodName)) ∈ lw_all := lw_g (lw_at lw_m10 132 rfl) rfl
theorem q2417 : (Jvm.Cond.privateMethod ({ cls := "HeirsAtLawModel", name := "shares", desc := "(II)V" } : Jvm.MethodName)) ∈ lw_tbl := lw_at lw_m10 133 rfl
theorem q2418 : (Jvm.Cond.instanceMethod ({ cls := "HeirsAtLawModel", name := "shares", desc := "(II)V" } : Jvm.MethodName)) ∈ lw_all := lw_g (lw_at lw_m10 134 rfl) rfl
theorem q2419 : (Jvm.Cond.code ({ cls := "HeirsAtLawModel", name := "shares", desc := "(II)V" } : Jvm.MethodName) prog_29_method_54_code (3 : Nat) (Option.none : Option Jvm.ClassFile.FieldType)) ∈ lw_all := lw_g (lw_at lw_m10 135 rfl) rfl
theorem q2420 : (Jvm.Cond.methodLink "HeirsAtLawModel" (303 : Nat) ({ cls := "HeirsAtLawModel", name := "heaps", desc := "(II)V" } : Jvm.MethodName)) ∈ lw_all := lw_g (lw_at lw_m10 136 rfl) rfl
theorem q2421 : (Jvm.Cond.privateMethod ({ cls := "HeirsAtLawModel", name := "heaps", desc := "(II)V" } : Jvm.MethodName)) ∈ lw_tbl := lw_at lw_m10 137 rfl
theorem q2422 : (Jvm.Cond.instanceMethod ({ cls := "HeirsAtLawModel", name := "heaps", desc := "(II)V" } : Jvm.MethodName)) ∈ lw_all := lw_g (lw_at lw_m10 138 rfl) rfl
theorem q2423 : (Jvm.Cond.code ({ cls := "HeirsAtLawModel", name := "heaps", desc := "(II)V" } : Jvm.MethodName) prog_29_method_53_code (3 : Nat) (Option.none : Option Jvm.ClassFile.FieldType)) ∈ lw_all := lw_g (lw_at lw_m10 139 rfl) rfl
theorem q2424 : (Jvm.Cond.methodLink "HeirsAtLawModel" (307 : Nat) ({ cls := "HeirsAtLawModel", name := "stirpes", desc := "(I)I" } : Jvm.MethodName)) ∈ lw_all := lw_g (lw_at lw_m10 140 rfl) rfl
theorem q2425 : (Jvm.Cond.privateMethod ({ cls := "HeirsAtLawModel", name := "stirpes", desc := "(I)I" } : Jvm.MethodName)) ∈ lw_tbl := lw_at lw_m10 141 rfl
theorem q2426 : (Jvm.Cond.instanceMethod ({ cls := "HeirsAtLawModel", name := "stirpes", desc := "(I)I" } : Jvm.MethodName)) ∈ lw_all := lw_g (lw_at lw_m10 142 rfl) rfl
theorem q2427 : (Jvm.Cond.code ({ cls := "HeirsAtLawModel", name := "stirpes", desc := "(I)I" } : Jvm.MethodName) prog_29_method_45_code (4 : Nat) (Option.some Jvm.ClassFile.FieldType.int)) ∈ lw_all := lw_g (lw_at lw_m10 143 rfl) rfl
theorem q2428 : (Jvm.Cond.methodLink "HeirsAtLawModel" (310 : Nat) ({ cls := "HeirsAtLawModel", name := "parts", desc := "(II)V" } : Jvm.MethodName)) ∈ lw_all := lw_g (lw_at lw_m10 144 rfl) rfl
theorem q2429 : (Jvm.Cond.privateMethod ({ cls := "HeirsAtLawModel", name := "parts", desc := "(II)V" } : Jvm.MethodName)) ∈ lw_tbl := lw_at lw_m10 145 rfl
theorem q2430 : (Jvm.Cond.instanceMethod ({ cls := "HeirsAtLawModel", name := "parts", desc := "(II)V" } : Jvm.MethodName)) ∈ lw_all := lw_g (lw_at lw_m10 146 rfl) rfl
theorem q2431 : (Jvm.Cond.code ({ cls := "HeirsAtLawModel", name := "parts", desc := "(II)V" } : Jvm.MethodName) prog_29_method_55_code (8 : Nat) (Option.none : Option Jvm.ClassFile.FieldType)) ∈ lw_all := lw_g (lw_at lw_m10 147 rfl) rfl
theorem q2433 : (Jvm.Cond.instanceMethod ({ cls := "HeirsAtLawModel", name := "wed", desc := "(II)I" } : Jvm.MethodName)) ∈ lw_all := lw_g (lw_at lw_m10 149 rfl) rfl
theorem q2434 : (Jvm.Cond.selects "HeirsAtLawModel" ({ cls := "HeirsAtLawModel", name := "wed", desc := "(II)I" } : Jvm.MethodName) ({ cls := "HeirsAtLawModel", name := "wed", desc := "(II)I" } : Jvm.MethodName)) ∈ lw_all := lw_g (lw_at lw_m10 150 rfl) rfl
theorem q2435 : (Jvm.Cond.code ({ cls := "HeirsAtLawModel", name := "wed", desc := "(II)I" } : Jvm.MethodName) prog_29_method_70_code (4 : Nat) (Option.some Jvm.ClassFile.FieldType.int)) ∈ lw_all := lw_g (lw_at lw_m10 151 rfl) rfl
theorem q2436 : (Jvm.Cond.methodLink "HeirsAtLawModel" (338 : Nat) ({ cls := "HeirsAtLawModel", name := "areTwo", desc := "(II)Z" } : Jvm.MethodName)) ∈ lw_all := lw_g (lw_at lw_m10 152 rfl) rfl
theorem q2437 : (Jvm.Cond.privateMethod ({ cls := "HeirsAtLawModel", name := "areTwo", desc := "(II)Z" } : Jvm.MethodName)) ∈ lw_tbl := lw_at lw_m10 153 rfl
theorem q2438 : (Jvm.Cond.instanceMethod ({ cls := "HeirsAtLawModel", name := "areTwo", desc := "(II)Z" } : Jvm.MethodName)) ∈ lw_all := lw_g (lw_at lw_m10 154 rfl) rfl
theorem q2439 : (Jvm.Cond.code ({ cls := "HeirsAtLawModel", name := "areTwo", desc := "(II)Z" } : Jvm.MethodName) prog_29_method_69_code (3 : Nat) (Option.some Jvm.ClassFile.FieldType.boolean)) ∈ lw_all := lw_g (lw_at lw_m10 155 rfl) rfl
theorem q2440 : (Jvm.Cond.methodLink "HeirsAtLawModel" (341 : Nat) ({ cls := "HeirsAtLawModel", name := "whyWed", desc := "(II)I" } : Jvm.MethodName)) ∈ lw_all := lw_g (lw_at lw_m10 156 rfl) rfl
theorem q2441 : (Jvm.Cond.privateMethod ({ cls := "HeirsAtLawModel", name := "whyWed", desc := "(II)I" } : Jvm.MethodName)) ∈ lw_tbl := lw_at lw_m10 157 rfl
theorem q2442 : (Jvm.Cond.instanceMethod ({ cls := "HeirsAtLawModel", name := "whyWed", desc := "(II)I" } : Jvm.MethodName)) ∈ lw_all := lw_g (lw_at lw_m10 158 rfl) rfl
theorem q2443 : (Jvm.Cond.code ({ cls := "HeirsAtLawModel", name := "whyWed", desc := "(II)I" } : Jvm.MethodName) prog_29_method_60_code (3 : Nat) (Option.some Jvm.ClassFile.FieldType.int)) ∈ lw_all := lw_g (lw_at lw_m10 159 rfl) rfl
theorem q2444 : (Jvm.Cond.methodLink "HeirsAtLawModel" (344 : Nat) ({ cls := "HeirsAtLawModel", name := "weds", desc := "(II)V" } : Jvm.MethodName)) ∈ lw_all := lw_g (lw_at lw_m10 160 rfl) rfl
theorem q2445 : (Jvm.Cond.privateMethod ({ cls := "HeirsAtLawModel", name := "weds", desc := "(II)V" } : Jvm.MethodName)) ∈ lw_tbl := lw_at lw_m10 161 rfl
theorem q2446 : (Jvm.Cond.instanceMethod ({ cls := "HeirsAtLawModel", name := "weds", desc := "(II)V" } : Jvm.MethodName)) ∈ lw_all := lw_g (lw_at lw_m10 162 rfl) rfl
theorem q2447 : (Jvm.Cond.code ({ cls := "HeirsAtLawModel", name := "weds", desc := "(II)V" } : Jvm.MethodName) prog_29_method_61_code (3 : Nat) (Option.none : Option Jvm.ClassFile.FieldType)) ∈ lw_all := lw_g (lw_at lw_m10 163 rfl) rfl
theorem q2449 : (Jvm.Cond.instanceMethod ({ cls := "HeirsAtLawModel", name := "part", desc := "(I)I" } : Jvm.MethodName)) ∈ lw_all := lw_g (lw_at lw_m10 165 rfl) rfl
theorem q2450 : (Jvm.Cond.selects "HeirsAtLawModel" ({ cls := "HeirsAtLawModel", name := "part", desc := "(I)I" } : Jvm.MethodName) ({ cls := "HeirsAtLawModel", name := "part", desc := "(I)I" } : Jvm.MethodName)) ∈ lw_all := lw_g (lw_at lw_m10 166 rfl) rfl
theorem q2451 : (Jvm.Cond.code ({ cls := "HeirsAtLawModel", name := "part", desc := "(I)I" } : Jvm.MethodName) prog_29_method_71_code (2 : Nat) (Option.some Jvm.ClassFile.FieldType.int)) ∈ lw_all := lw_g (lw_at lw_m10 167 rfl) rfl
theorem q2453 : (Jvm.Cond.instanceMethod ({ cls := "HeirsAtLawModel", name := "give", desc := "(III)I" } : Jvm.MethodName)) ∈ lw_all := lw_g (lw_at lw_m10 169 rfl) rfl
theorem q2454 : (Jvm.Cond.selects "HeirsAtLawModel" ({ cls := "HeirsAtLawModel", name := "give", desc := "(III)I" } : Jvm.MethodName) ({ cls := "HeirsAtLawModel", name := "give", desc := "(III)I" } : Jvm.MethodName)) ∈ lw_all := lw_g (lw_at lw_m10 170 rfl) rfl
theorem q2455 : (Jvm.Cond.code ({ cls := "HeirsAtLawModel", name := "give", desc := "(III)I" } : Jvm.MethodName) prog_29_method_72_code (5 : Nat) (Option.some Jvm.ClassFile.FieldType.int)) ∈ lw_all := lw_g (lw_at lw_m10 171 rfl) rfl
theorem q2456 : (Jvm.Cond.methodLink "HeirsAtLawModel" (347 : Nat) ({ cls := "HeirsAtLawModel", name := "whyGive", desc := "(III)I" } : Jvm.MethodName)) ∈ lw_all := lw_g (lw_at lw_m10 172 rfl) rfl
theorem q2457 : (Jvm.Cond.privateMethod ({ cls := "HeirsAtLawModel", name := "whyGive", desc := "(III)I" } : Jvm.MethodName)) ∈ lw_tbl := lw_at lw_m10 173 rfl
theorem q2458 : (Jvm.Cond.instanceMethod ({ cls := "HeirsAtLawModel", name := "whyGive", desc := "(III)I" } : Jvm.MethodName)) ∈ lw_all := lw_g (lw_at lw_m10 174 rfl) rfl
theorem q2459 : (Jvm.Cond.code ({ cls := "HeirsAtLawModel", name := "whyGive", desc := "(III)I" } : Jvm.MethodName) prog_29_method_62_code (4 : Nat) (Option.some Jvm.ClassFile.FieldType.int)) ∈ lw_all := lw_g (lw_at lw_m10 175 rfl) rfl
theorem q2460 : (Jvm.Cond.methodLink "HeirsAtLawModel" (351 : Nat) ({ cls := "HeirsAtLawModel", name := "gives", desc := "(III)V" } : Jvm.MethodName)) ∈ lw_all := lw_g (lw_at lw_m10 176 rfl) rfl
theorem q2461 : (Jvm.Cond.privateMethod ({ cls := "HeirsAtLawModel", name := "gives", desc := "(III)V" } : Jvm.MethodName)) ∈ lw_tbl := lw_at lw_m10 177 rfl
theorem q2462 : (Jvm.Cond.instanceMethod ({ cls := "HeirsAtLawModel", name := "gives", desc := "(III)V" } : Jvm.MethodName)) ∈ lw_all := lw_g (lw_at lw_m10 178 rfl) rfl
theorem q2463 : (Jvm.Cond.code ({ cls := "HeirsAtLawModel", name := "gives", desc := "(III)V" } : Jvm.MethodName) prog_29_method_63_code (4 : Nat) (Option.none : Option Jvm.ClassFile.FieldType)) ∈ lw_all := lw_g (lw_at lw_m10 179 rfl) rfl
theorem q2465 : (Jvm.Cond.instanceMethod ({ cls := "HeirsAtLawModel", name := "leave", desc := "(III)I" } : Jvm.MethodName)) ∈ lw_all := lw_g (lw_at lw_m10 181 rfl) rfl
theorem q2466 : (Jvm.Cond.selects "HeirsAtLawModel" ({ cls := "HeirsAtLawModel", name := "leave", desc := "(III)I" } : Jvm.MethodName) ({ cls := "HeirsAtLawModel", name := "leave", desc := "(III)I" } : Jvm.MethodName)) ∈ lw_all := lw_g (lw_at lw_m10 182 rfl) rfl
theorem q2467 : (Jvm.Cond.code ({ cls := "HeirsAtLawModel", name := "leave", desc := "(III)I" } : Jvm.MethodName) prog_29_method_73_code (5 : Nat) (Option.some Jvm.ClassFile.FieldType.int)) ∈ lw_all := lw_g (lw_at lw_m10 183 rfl) rfl
theorem q2468 : (Jvm.Cond.methodLink "HeirsAtLawModel" (354 : Nat) ({ cls := "HeirsAtLawModel", name := "whyLeave", desc := "(II)I" } : Jvm.MethodName)) ∈ lw_all := lw_g (lw_at lw_m10 184 rfl) rfl
theorem q2469 : (Jvm.Cond.privateMethod ({ cls := "HeirsAtLawModel", name := "whyLeave", desc := "(II)I" } : Jvm.MethodName)) ∈ lw_tbl := lw_at lw_m10 185 rfl
theorem q2470 : (Jvm.Cond.instanceMethod ({ cls := "HeirsAtLawModel", name := "whyLeave", desc := "(II)I" } : Jvm.MethodName)) ∈ lw_all := lw_g (lw_at lw_m10 186 rfl) rfl
theorem q2471 : (Jvm.Cond.code ({ cls := "HeirsAtLawModel", name := "whyLeave", desc := "(II)I" } : Jvm.MethodName) prog_29_method_64_code (3 : Nat) (Option.some Jvm.ClassFile.FieldType.int)) ∈ lw_all := lw_g (lw_at lw_m10 187 rfl) rfl
theorem q2472 : (Jvm.Cond.methodLink "HeirsAtLawModel" (357 : Nat) ({ cls := "HeirsAtLawModel", name := "leaves", desc := "(III)V" } : Jvm.MethodName)) ∈ lw_all := lw_g (lw_at lw_m10 188 rfl) rfl
theorem q2473 : (Jvm.Cond.privateMethod ({ cls := "HeirsAtLawModel", name := "leaves", desc := "(III)V" } : Jvm.MethodName)) ∈ lw_tbl := lw_at lw_m10 189 rfl
theorem q2474 : (Jvm.Cond.instanceMethod ({ cls := "HeirsAtLawModel", name := "leaves", desc := "(III)V" } : Jvm.MethodName)) ∈ lw_all := lw_g (lw_at lw_m10 190 rfl) rfl
theorem q2475 : (Jvm.Cond.code ({ cls := "HeirsAtLawModel", name := "leaves", desc := "(III)V" } : Jvm.MethodName) prog_29_method_65_code (4 : Nat) (Option.none : Option Jvm.ClassFile.FieldType)) ∈ lw_all := lw_g (lw_at lw_m10 191 rfl) rfl
theorem q2477 : (Jvm.Cond.instanceMethod ({ cls := "HeirsAtLawModel", name := "revoke", desc := "(I)I" } : Jvm.MethodName)) ∈ lw_all := lw_g (lw_at lw_m10 193 rfl) rfl
theorem q2478 : (Jvm.Cond.selects "HeirsAtLawModel" ({ cls := "HeirsAtLawModel", name := "revoke", desc := "(I)I" } : Jvm.MethodName) ({ cls := "HeirsAtLawModel", name := "revoke", desc := "(I)I" } : Jvm.MethodName)) ∈ lw_all := lw_g (lw_at lw_m10 194 rfl) rfl
theorem q2479 : (Jvm.Cond.code ({ cls := "HeirsAtLawModel", name := "revoke", desc := "(I)I" } : Jvm.MethodName) prog_29_method_74_code (2 : Nat) (Option.some Jvm.ClassFile.FieldType.int)) ∈ lw_all := lw_g (lw_at lw_m10 195 rfl) rfl
theorem q2481 : (Jvm.Cond.instanceMethod ({ cls := "HeirsAtLawModel", name := "years", desc := "(I)I" } : Jvm.MethodName)) ∈ lw_all := lw_g (lw_at lw_m10 197 rfl) rfl
theorem q2482 : (Jvm.Cond.selects "HeirsAtLawModel" ({ cls := "HeirsAtLawModel", name := "years", desc := "(I)I" } : Jvm.MethodName) ({ cls := "HeirsAtLawModel", name := "years", desc := "(I)I" } : Jvm.MethodName)) ∈ lw_all := lw_g (lw_at lw_m10 198 rfl) rfl
theorem q2483 : (Jvm.Cond.code ({ cls := "HeirsAtLawModel", name := "years", desc := "(I)I" } : Jvm.MethodName) prog_29_method_75_code (2 : Nat) (Option.some Jvm.ClassFile.FieldType.int)) ∈ lw_all := lw_g (lw_at lw_m10 199 rfl) rfl
theorem q2484 : (Jvm.Cond.methodLink "HeirsAtLawModel" (360 : Nat) ({ cls := "HeirsAtLawModel", name := "goesOn", desc := "(I)I" } : Jvm.MethodName)) ∈ lw_all := lw_g (lw_at lw_m10 200 rfl) rfl
theorem q2485 : (Jvm.Cond.privateMethod ({ cls := "HeirsAtLawModel", name := "goesOn", desc := "(I)I" } : Jvm.MethodName)) ∈ lw_tbl := lw_at lw_m10 201 rfl
theorem q2486 : (Jvm.Cond.instanceMethod ({ cls := "HeirsAtLawModel", name := "goesOn", desc := "(I)I" } : Jvm.MethodName)) ∈ lw_all := lw_g (lw_at lw_m10 202 rfl) rfl
theorem q2487 : (Jvm.Cond.code ({ cls := "HeirsAtLawModel", name := "goesOn", desc := "(I)I" } : Jvm.MethodName) prog_29_method_67_code (3 : Nat) (Option.some Jvm.ClassFile.FieldType.int)) ∈ lw_all := lw_g (lw_at lw_m10 203 rfl) rfl
theorem q2488 : (Jvm.Cond.methodLink "HeirsAtLawModel" (332 : Nat) ({ cls := "HeirsAtLawModel", name := "year", desc := "()V" } : Jvm.MethodName)) ∈ lw_all := lw_g (lw_at lw_m10 204 rfl) rfl
theorem q2489 : (Jvm.Cond.privateMethod ({ cls := "HeirsAtLawModel", name := "year", desc := "()V" } : Jvm.MethodName)) ∈ lw_tbl := lw_at lw_m10 205 rfl
theorem q2490 : (Jvm.Cond.instanceMethod ({ cls := "HeirsAtLawModel", name := "year", desc := "()V" } : Jvm.MethodName)) ∈ lw_all := lw_g (lw_at lw_m10 206 rfl) rfl
theorem q2491 : (Jvm.Cond.code ({ cls := "HeirsAtLawModel", name := "year", desc := "()V" } : Jvm.MethodName) prog_29_method_66_code (2 : Nat) (Option.none : Option Jvm.ClassFile.FieldType)) ∈ lw_all := lw_g (lw_at lw_m10 207 rfl) rfl
theorem q2493 : (Jvm.Cond.instanceMethod ({ cls := "HeirsAtLawModel", name := "undo", desc := "()I" } : Jvm.MethodName)) ∈ lw_all := lw_g (lw_at lw_m10 209 rfl) rfl
theorem q2494 : (Jvm.Cond.selects "HeirsAtLawModel" ({ cls := "HeirsAtLawModel", name := "undo", desc := "()I" } : Jvm.MethodName) ({ cls := "HeirsAtLawModel", name := "undo", desc := "()I" } : Jvm.MethodName)) ∈ lw_all := lw_g (lw_at lw_m10 210 rfl) rfl
theorem q2495 : (Jvm.Cond.code ({ cls := "HeirsAtLawModel", name := "undo", desc := "()I" } : Jvm.MethodName) prog_29_method_77_code (2 : Nat) (Option.some Jvm.ClassFile.FieldType.int)) ∈ lw_all := lw_g (lw_at lw_m10 211 rfl) rfl
theorem q2497 : (Jvm.Cond.instanceMethod ({ cls := "HeirsAtLawModel", name := "gets", desc := "(II)I" } : Jvm.MethodName)) ∈ lw_all := lw_g (lw_at lw_m10 213 rfl) rfl
theorem q2498 : (Jvm.Cond.selects "HeirsAtLawModel" ({ cls := "HeirsAtLawModel", name := "gets", desc := "(II)I" } : Jvm.MethodName) ({ cls := "HeirsAtLawModel", name := "gets", desc := "(II)I" } : Jvm.MethodName)) ∈ lw_all := lw_g (lw_at lw_m10 214 rfl) rfl
theorem q2499 : (Jvm.Cond.code ({ cls := "HeirsAtLawModel", name := "gets", desc := "(II)I" } : Jvm.MethodName) prog_29_method_81_code (3 : Nat) (Option.some Jvm.ClassFile.FieldType.int)) ∈ lw_all := lw_g (lw_at lw_m10 215 rfl) rfl
theorem q2500 : (Jvm.Cond.methodLink "HeirsAtLawModel" (369 : Nat) ({ cls := "HeirsAtLawModel", name := "laysGains", desc := "()V" } : Jvm.MethodName)) ∈ lw_all := lw_g (lw_at lw_m10 216 rfl) rfl
theorem q2501 : (Jvm.Cond.privateMethod ({ cls := "HeirsAtLawModel", name := "laysGains", desc := "()V" } : Jvm.MethodName)) ∈ lw_tbl := lw_at lw_m10 217 rfl
theorem q2502 : (Jvm.Cond.instanceMethod ({ cls := "HeirsAtLawModel", name := "laysGains", desc := "()V" } : Jvm.MethodName)) ∈ lw_all := lw_g (lw_at lw_m10 218 rfl) rfl
theorem q2503 : (Jvm.Cond.code ({ cls := "HeirsAtLawModel", name := "laysGains", desc := "()V" } : Jvm.MethodName) prog_29_method_80_code (3 : Nat) (Option.none : Option Jvm.ClassFile.FieldType)) ∈ lw_all := lw_g (lw_at lw_m10 219 rfl) rfl
theorem q2504 : (Jvm.Cond.methodLink "HeirsAtLawModel" (363 : Nat) ({ cls := "HeirsAtLawModel", name := "tries", desc := "()V" } : Jvm.MethodName)) ∈ lw_all := lw_g (lw_at lw_m10 220 rfl) rfl
theorem q2505 : (Jvm.Cond.privateMethod ({ cls := "HeirsAtLawModel", name := "tries", desc := "()V" } : Jvm.MethodName)) ∈ lw_tbl := lw_at lw_m10 221 rfl
theorem q2506 : (Jvm.Cond.instanceMethod ({ cls := "HeirsAtLawModel", name := "tries", desc := "()V" } : Jvm.MethodName)) ∈ lw_all := lw_g (lw_at lw_m10 222 rfl) rfl
theorem q2507 : (Jvm.Cond.code ({ cls := "HeirsAtLawModel", name := "tries", desc := "()V" } : Jvm.MethodName) prog_29_method_78_code (2 : Nat) (Option.none : Option Jvm.ClassFile.FieldType)) ∈ lw_all := lw_g (lw_at lw_m10 223 rfl) rfl
theorem q2508 : (Jvm.Cond.methodLink "HeirsAtLawModel" (366 : Nat) ({ cls := "HeirsAtLawModel", name := "back", desc := "()V" } : Jvm.MethodName)) ∈ lw_all := lw_g (lw_at lw_m10 224 rfl) rfl
theorem q2509 : (Jvm.Cond.privateMethod ({ cls := "HeirsAtLawModel", name := "back", desc := "()V" } : Jvm.MethodName)) ∈ lw_tbl := lw_at lw_m10 225 rfl
theorem q2510 : (Jvm.Cond.instanceMethod ({ cls := "HeirsAtLawModel", name := "back", desc := "()V" } : Jvm.MethodName)) ∈ lw_all := lw_g (lw_at lw_m10 226 rfl) rfl
theorem q2511 : (Jvm.Cond.code ({ cls := "HeirsAtLawModel", name := "back", desc := "()V" } : Jvm.MethodName) prog_29_method_79_code (2 : Nat) (Option.none : Option Jvm.ClassFile.FieldType)) ∈ lw_all := lw_g (lw_at lw_m10 227 rfl) rfl
theorem q2513 : (Jvm.Cond.instanceMethod ({ cls := "HeirsAtLawModel", name := "after", desc := "()I" } : Jvm.MethodName)) ∈ lw_all := lw_g (lw_at lw_m10 229 rfl) rfl
theorem q2514 : (Jvm.Cond.selects "HeirsAtLawModel" ({ cls := "HeirsAtLawModel", name := "after", desc := "()I" } : Jvm.MethodName) ({ cls := "HeirsAtLawModel", name := "after", desc := "()I" } : Jvm.MethodName)) ∈ lw_all := lw_g (lw_at lw_m10 230 rfl) rfl
theorem q2515 : (Jvm.Cond.code ({ cls := "HeirsAtLawModel", name := "after", desc := "()I" } : Jvm.MethodName) prog_29_method_83_code (2 : Nat) (Option.some Jvm.ClassFile.FieldType.int)) ∈ lw_all := lw_g (lw_at lw_m10 231 rfl) rfl
theorem q2516 : (Jvm.Cond.methodLink "HeirsAtLawModel" (375 : Nat) ({ cls := "HeirsAtLawModel", name := "toldLiving", desc := "(II)I" } : Jvm.MethodName)) ∈ lw_all := lw_g (lw_at lw_m10 232 rfl) rfl
theorem q2517 : (Jvm.Cond.privateMethod ({ cls := "HeirsAtLawModel", name := "toldLiving", desc := "(II)I" } : Jvm.MethodName)) ∈ lw_tbl := lw_at lw_m10 233 rfl
theorem q2518 : (Jvm.Cond.instanceMethod ({ cls := "HeirsAtLawModel", name := "toldLiving", desc := "(II)I" } : Jvm.MethodName)) ∈ lw_all := lw_g (lw_at lw_m10 234 rfl) rfl
theorem q2519 : (Jvm.Cond.code ({ cls := "HeirsAtLawModel", name := "toldLiving", desc := "(II)I" } : Jvm.MethodName) prog_29_method_82_code (6 : Nat) (Option.some Jvm.ClassFile.FieldType.int)) ∈ lw_all := lw_g (lw_at lw_m10 235 rfl) rfl
theorem q2520 : (Jvm.Cond.methodLink "HeirsAtLawModel" (372 : Nat) ({ cls := "HeirsAtLawModel", name := "octet", desc := "(I)I" } : Jvm.MethodName)) ∈ lw_all := lw_g (lw_at lw_m10 236 rfl) rfl
theorem q2521 : (Jvm.Cond.privateMethod ({ cls := "HeirsAtLawModel", name := "octet", desc := "(I)I" } : Jvm.MethodName)) ∈ lw_tbl := lw_at lw_m10 237 rfl
theorem q2522 : (Jvm.Cond.instanceMethod ({ cls := "HeirsAtLawModel", name := "octet", desc := "(I)I" } : Jvm.MethodName)) ∈ lw_all := lw_g (lw_at lw_m10 238 rfl) rfl
theorem q2523 : (Jvm.Cond.code ({ cls := "HeirsAtLawModel", name := "octet", desc := "(I)I" } : Jvm.MethodName) prog_29_method_12_code (2 : Nat) (Option.some Jvm.ClassFile.FieldType.int)) ∈ lw_all := lw_g (lw_at lw_m10 239 rfl) rfl
theorem q2525 : (Jvm.Cond.instanceMethod ({ cls := "HeirsAtLawModel", name := "afterOf", desc := "(I)I" } : Jvm.MethodName)) ∈ lw_all := lw_g (lw_at lw_m11 1 rfl) rfl
theorem q2526 : (Jvm.Cond.selects "HeirsAtLawModel" ({ cls := "HeirsAtLawModel", name := "afterOf", desc := "(I)I" } : Jvm.MethodName) ({ cls := "HeirsAtLawModel", name := "afterOf", desc := "(I)I" } : Jvm.MethodName)) ∈ lw_all := lw_g (lw_at lw_m11 2 rfl) rfl
theorem q2527 : (Jvm.Cond.code ({ cls := "HeirsAtLawModel", name := "afterOf", desc := "(I)I" } : Jvm.MethodName) prog_29_method_84_code (2 : Nat) (Option.some Jvm.ClassFile.FieldType.int)) ∈ lw_all := lw_g (lw_at lw_m11 3 rfl) rfl
theorem q2529 : (Jvm.Cond.instanceMethod ({ cls := "HeirsAtLawModel", name := "best", desc := "(I)I" } : Jvm.MethodName)) ∈ lw_all := lw_g (lw_at lw_m11 5 rfl) rfl
theorem q2530 : (Jvm.Cond.selects "HeirsAtLawModel" ({ cls := "HeirsAtLawModel", name := "best", desc := "(I)I" } : Jvm.MethodName) ({ cls := "HeirsAtLawModel", name := "best", desc := "(I)I" } : Jvm.MethodName)) ∈ lw_all := lw_g (lw_at lw_m11 6 rfl) rfl
theorem q2531 : (Jvm.Cond.code ({ cls := "HeirsAtLawModel", name := "best", desc := "(I)I" } : Jvm.MethodName) prog_29_method_88_code (9 : Nat) (Option.some Jvm.ClassFile.FieldType.int)) ∈ lw_all := lw_g (lw_at lw_m11 7 rfl) rfl
theorem q2532 : (Jvm.Cond.methodLink "HeirsAtLawModel" (384 : Nat) ({ cls := "HeirsAtLawModel", name := "nextRow", desc := "(IIII)I" } : Jvm.MethodName)) ∈ lw_all := lw_g (lw_at lw_m11 8 rfl) rfl
theorem q2533 : (Jvm.Cond.static ({ cls := "HeirsAtLawModel", name := "nextRow", desc := "(IIII)I" } : Jvm.MethodName)) ∈ lw_all := lw_g (lw_at lw_m11 9 rfl) rfl
theorem q2534 : (Jvm.Cond.code ({ cls := "HeirsAtLawModel", name := "nextRow", desc := "(IIII)I" } : Jvm.MethodName) prog_29_method_87_code (5 : Nat) (Option.some Jvm.ClassFile.FieldType.int)) ∈ lw_all := lw_g (lw_at lw_m11 10 rfl) rfl
theorem q2535 : (Jvm.Cond.methodLink "HeirsAtLawModel" (381 : Nat) ({ cls := "HeirsAtLawModel", name := "isRow", desc := "(III)Z" } : Jvm.MethodName)) ∈ lw_all := lw_g (lw_at lw_m11 11 rfl) rfl
theorem q2536 : (Jvm.Cond.static ({ cls := "HeirsAtLawModel", name := "isRow", desc := "(III)Z" } : Jvm.MethodName)) ∈ lw_all := lw_g (lw_at lw_m11 12 rfl) rfl
theorem q2537 : (Jvm.Cond.code ({ cls := "HeirsAtLawModel", name := "isRow", desc := "(III)Z" } : Jvm.MethodName) prog_29_method_86_code (5 : Nat) (Option.some Jvm.ClassFile.FieldType.boolean)) ∈ lw_all := lw_g (lw_at lw_m11 13 rfl) rfl
theorem q2538 : (Jvm.Cond.methodLink "HeirsAtLawModel" (378 : Nat) ({ cls := "HeirsAtLawModel", name := "placeIn", desc := "(II)I" } : Jvm.MethodName)) ∈ lw_all := lw_g (lw_at lw_m11 14 rfl) rfl
theorem q2539 : (Jvm.Cond.static ({ cls := "HeirsAtLawModel", name := "placeIn", desc := "(II)I" } : Jvm.MethodName)) ∈ lw_all := lw_g (lw_at lw_m11 15 rfl) rfl
theorem q2540 : (Jvm.Cond.code ({ cls := "HeirsAtLawModel", name := "placeIn", desc := "(II)I" } : Jvm.MethodName) prog_29_method_85_code (4 : Nat) (Option.some Jvm.ClassFile.FieldType.int)) ∈ lw_all := lw_g (lw_at lw_m11 16 rfl) rfl
theorem q2542 : (Jvm.Cond.instanceMethod ({ cls := "HeirsAtLawModel", name := "bestAt", desc := "(I)I" } : Jvm.MethodName)) ∈ lw_all := lw_g (lw_at lw_m11 18 rfl) rfl
theorem q2543 : (Jvm.Cond.selects "HeirsAtLawModel" ({ cls := "HeirsAtLawModel", name := "bestAt", desc := "(I)I" } : Jvm.MethodName) ({ cls := "HeirsAtLawModel", name := "bestAt", desc := "(I)I" } : Jvm.MethodName)) ∈ lw_all := lw_g (lw_at lw_m11 19 rfl) rfl
theorem q2544 : (Jvm.Cond.code ({ cls := "HeirsAtLawModel", name := "bestAt", desc := "(I)I" } : Jvm.MethodName) prog_29_method_89_code (2 : Nat) (Option.some Jvm.ClassFile.FieldType.int)) ∈ lw_all := lw_g (lw_at lw_m11 20 rfl) rfl
theorem q2546 : (Jvm.Cond.instanceMethod ({ cls := "HeirsAtLawModel", name := "clear", desc := "(II)I" } : Jvm.MethodName)) ∈ lw_all := lw_g (lw_at lw_m11 22 rfl) rfl
theorem q2547 : (Jvm.Cond.selects "HeirsAtLawModel" ({ cls := "HeirsAtLawModel", name := "clear", desc := "(II)I" } : Jvm.MethodName) ({ cls := "HeirsAtLawModel", name := "clear", desc := "(II)I" } : Jvm.MethodName)) ∈ lw_all := lw_g (lw_at lw_m11 23 rfl) rfl
theorem q2548 : (Jvm.Cond.code ({ cls := "HeirsAtLawModel", name := "clear", desc := "(II)I" } : Jvm.MethodName) prog_29_method_91_code (6 : Nat) (Option.some Jvm.ClassFile.FieldType.int)) ∈ lw_all := lw_g (lw_at lw_m11 24 rfl) rfl
theorem q2549 : (Jvm.Cond.methodLink "HeirsAtLawModel" (388 : Nat) ({ cls := "HeirsAtLawModel", name := "clears", desc := "(III)Z" } : Jvm.MethodName)) ∈ lw_all := lw_g (lw_at lw_m11 25 rfl) rfl
theorem q2550 : (Jvm.Cond.privateMethod ({ cls := "HeirsAtLawModel", name := "clears", desc := "(III)Z" } : Jvm.MethodName)) ∈ lw_tbl := lw_at lw_m11 26 rfl
theorem q2551 : (Jvm.Cond.instanceMethod ({ cls := "HeirsAtLawModel", name := "clears", desc := "(III)Z" } : Jvm.MethodName)) ∈ lw_all := lw_g (lw_at lw_m11 27 rfl) rfl
theorem q2552 : (Jvm.Cond.code ({ cls := "HeirsAtLawModel", name := "clears", desc := "(III)Z" } : Jvm.MethodName) prog_29_method_90_code (7 : Nat) (Option.some Jvm.ClassFile.FieldType.boolean)) ∈ lw_all := lw_g (lw_at lw_m11 28 rfl) rfl
theorem q2554 : (Jvm.Cond.instanceMethod ({ cls := "HeirsAtLawModel", name := "cleared", desc := "()I" } : Jvm.MethodName)) ∈ lw_all := lw_g (lw_at lw_m11 30 rfl) rfl
theorem q2555 : (Jvm.Cond.selects "HeirsAtLawModel" ({ cls := "HeirsAtLawModel", name := "cleared", desc := "()I" } : Jvm.MethodName) ({ cls := "HeirsAtLawModel", name := "cleared", desc := "()I" } : Jvm.MethodName)) ∈ lw_all := lw_g (lw_at lw_m11 31 rfl) rfl
theorem q2556 : (Jvm.Cond.code ({ cls := "HeirsAtLawModel", name := "cleared", desc := "()I" } : Jvm.MethodName) prog_29_method_92_code (1 : Nat) (Option.some Jvm.ClassFile.FieldType.int)) ∈ lw_all := lw_g (lw_at lw_m11 32 rfl) rfl
theorem q2558 : (Jvm.Cond.instanceMethod ({ cls := "HeirsAtLawModel", name := "fits", desc := "()I" } : Jvm.MethodName)) ∈ lw_all := lw_g (lw_at lw_m11 34 rfl) rfl
theorem q2559 : (Jvm.Cond.selects "HeirsAtLawModel" ({ cls := "HeirsAtLawModel", name := "fits", desc := "()I" } : Jvm.MethodName) ({ cls := "HeirsAtLawModel", name := "fits", desc := "()I" } : Jvm.MethodName)) ∈ lw_all := lw_g (lw_at lw_m11 35 rfl) rfl
theorem q2560 : (Jvm.Cond.code ({ cls := "HeirsAtLawModel", name := "fits", desc := "()I" } : Jvm.MethodName) prog_29_method_95_code (3 : Nat) (Option.some Jvm.ClassFile.FieldType.int)) ∈ lw_all := lw_g (lw_at lw_m11 36 rfl) rfl
theorem q2561 : (Jvm.Cond.methodLink "HeirsAtLawModel" (399 : Nat) ({ cls := "HeirsAtLawModel", name := "isFit", desc := "(I)Z" } : Jvm.MethodName)) ∈ lw_all := lw_g (lw_at lw_m11 37 rfl) rfl
theorem q2562 : (Jvm.Cond.privateMethod ({ cls := "HeirsAtLawModel", name := "isFit", desc := "(I)Z" } : Jvm.MethodName)) ∈ lw_tbl := lw_at lw_m11 38 rfl
theorem q2563 : (Jvm.Cond.instanceMethod ({ cls := "HeirsAtLawModel", name := "isFit", desc := "(I)Z" } : Jvm.MethodName)) ∈ lw_all := lw_g (lw_at lw_m11 39 rfl) rfl
theorem q2564 : (Jvm.Cond.code ({ cls := "HeirsAtLawModel", name := "isFit", desc := "(I)Z" } : Jvm.MethodName) prog_29_method_93_code (4 : Nat) (Option.some Jvm.ClassFile.FieldType.boolean)) ∈ lw_all := lw_g (lw_at lw_m11 40 rfl) rfl
theorem q2565 : (Jvm.Cond.methodLink "HeirsAtLawModel" (408 : Nat) ({ cls := "HeirsAtLawModel", name := "leftBy", desc := "(II)I" } : Jvm.MethodName)) ∈ lw_all := lw_g (lw_at lw_m11 41 rfl) rfl
theorem q2566 : (Jvm.Cond.privateMethod ({ cls := "HeirsAtLawModel", name := "leftBy", desc := "(II)I" } : Jvm.MethodName)) ∈ lw_tbl := lw_at lw_m11 42 rfl
theorem q2567 : (Jvm.Cond.instanceMethod ({ cls := "HeirsAtLawModel", name := "leftBy", desc := "(II)I" } : Jvm.MethodName)) ∈ lw_all := lw_g (lw_at lw_m11 43 rfl) rfl
theorem q2568 : (Jvm.Cond.code ({ cls := "HeirsAtLawModel", name := "leftBy", desc := "(II)I" } : Jvm.MethodName) prog_29_method_94_code (7 : Nat) (Option.some Jvm.ClassFile.FieldType.int)) ∈ lw_all := lw_g (lw_at lw_m11 44 rfl) rfl
theorem q2569 : (Jvm.Cond.methodLink "HeirsAtLawModel" (396 : Nat) ({ cls := "HeirsAtLawModel", name := "greater", desc := "(II)I" } : Jvm.MethodName)) ∈ lw_all := lw_g (lw_at lw_m11 45 rfl) rfl
theorem q2570 : (Jvm.Cond.static ({ cls := "HeirsAtLawModel", name := "greater", desc := "(II)I" } : Jvm.MethodName)) ∈ lw_all := lw_g (lw_at lw_m11 46 rfl) rfl
theorem q2571 : (Jvm.Cond.code ({ cls := "HeirsAtLawModel", name := "greater", desc := "(II)I" } : Jvm.MethodName) prog_29_method_10_code (2 : Nat) (Option.some Jvm.ClassFile.FieldType.int)) ∈ lw_all := lw_g (lw_at lw_m11 47 rfl) rfl
theorem q2573 : (Jvm.Cond.instanceMethod ({ cls := "HeirsAtLawModel", name := "ask", desc := "()I" } : Jvm.MethodName)) ∈ lw_all := lw_g (lw_at lw_m11 49 rfl) rfl
theorem q2574 : (Jvm.Cond.selects "HeirsAtLawModel" ({ cls := "HeirsAtLawModel", name := "ask", desc := "()I" } : Jvm.MethodName) ({ cls := "HeirsAtLawModel", name := "ask", desc := "()I" } : Jvm.MethodName)) ∈ lw_all := lw_g (lw_at lw_m11 50 rfl) rfl
theorem q2575 : (Jvm.Cond.code ({ cls := "HeirsAtLawModel", name := "ask", desc := "()I" } : Jvm.MethodName) prog_29_method_96_code (1 : Nat) (Option.some Jvm.ClassFile.FieldType.int)) ∈ lw_all := lw_g (lw_at lw_m11 51 rfl) rfl
theorem q2577 : (Jvm.Cond.instanceMethod ({ cls := "HeirsAtLawModel", name := "crown", desc := "(I)I" } : Jvm.MethodName)) ∈ lw_all := lw_g (lw_at lw_m11 53 rfl) rfl
theorem q2578 : (Jvm.Cond.selects "HeirsAtLawModel" ({ cls := "HeirsAtLawModel", name := "crown", desc := "(I)I" } : Jvm.MethodName) ({ cls := "HeirsAtLawModel", name := "crown", desc := "(I)I" } : Jvm.MethodName)) ∈ lw_all := lw_g (lw_at lw_m11 54 rfl) rfl
theorem q2579 : (Jvm.Cond.code ({ cls := "HeirsAtLawModel", name := "crown", desc := "(I)I" } : Jvm.MethodName) prog_29_method_97_code (5 : Nat) (Option.some Jvm.ClassFile.FieldType.int)) ∈ lw_all := lw_g (lw_at lw_m11 55 rfl) rfl
theorem q2581 : (Jvm.Cond.instanceMethod ({ cls := "HeirsAtLawModel", name := "richest", desc := "()I" } : Jvm.MethodName)) ∈ lw_all := lw_g (lw_at lw_m11 57 rfl) rfl
theorem q2582 : (Jvm.Cond.selects "HeirsAtLawModel" ({ cls := "HeirsAtLawModel", name := "richest", desc := "()I" } : Jvm.MethodName) ({ cls := "HeirsAtLawModel", name := "richest", desc := "()I" } : Jvm.MethodName)) ∈ lw_all := lw_g (lw_at lw_m11 58 rfl) rfl
theorem q2583 : (Jvm.Cond.code ({ cls := "HeirsAtLawModel", name := "richest", desc := "()I" } : Jvm.MethodName) prog_29_method_99_code (1 : Nat) (Option.some Jvm.ClassFile.FieldType.int)) ∈ lw_all := lw_g (lw_at lw_m11 59 rfl) rfl
theorem q2584 : (Jvm.Cond.methodLink "HeirsAtLawModel" (411 : Nat) ({ cls := "HeirsAtLawModel", name := "richestNow", desc := "()I" } : Jvm.MethodName)) ∈ lw_all := lw_g (lw_at lw_m11 60 rfl) rfl
theorem q2585 : (Jvm.Cond.privateMethod ({ cls := "HeirsAtLawModel", name := "richestNow", desc := "()I" } : Jvm.MethodName)) ∈ lw_tbl := lw_at lw_m11 61 rfl
theorem q2586 : (Jvm.Cond.instanceMethod ({ cls := "HeirsAtLawModel", name := "richestNow", desc := "()I" } : Jvm.MethodName)) ∈ lw_all := lw_g (lw_at lw_m11 62 rfl) rfl
theorem q2587 : (Jvm.Cond.code ({ cls := "HeirsAtLawModel", name := "richestNow", desc := "()I" } : Jvm.MethodName) prog_29_method_98_code (3 : Nat) (Option.some Jvm.ClassFile.FieldType.int)) ∈ lw_all := lw_g (lw_at lw_m11 63 rfl) rfl
theorem q2589 : (Jvm.Cond.instanceMethod ({ cls := "HeirsAtLawModel", name := "eldest", desc := "()I" } : Jvm.MethodName)) ∈ lw_all := lw_g (lw_at lw_m11 65 rfl) rfl
theorem q2590 : (Jvm.Cond.selects "HeirsAtLawModel" ({ cls := "HeirsAtLawModel", name := "eldest", desc := "()I" } : Jvm.MethodName) ({ cls := "HeirsAtLawModel", name := "eldest", desc := "()I" } : Jvm.MethodName)) ∈ lw_all := lw_g (lw_at lw_m11 66 rfl) rfl
theorem q2591 : (Jvm.Cond.code ({ cls := "HeirsAtLawModel", name := "eldest", desc := "()I" } : Jvm.MethodName) prog_29_method_100_code (3 : Nat) (Option.some Jvm.ClassFile.FieldType.int)) ∈ lw_all := lw_g (lw_at lw_m11 67 rfl) rfl
theorem q2593 : (Jvm.Cond.instanceMethod ({ cls := "HeirsAtLawModel", name := "mean", desc := "(I)I" } : Jvm.MethodName)) ∈ lw_all := lw_g (lw_at lw_m11 69 rfl) rfl
theorem q2594 : (Jvm.Cond.selects "HeirsAtLawModel" ({ cls := "HeirsAtLawModel", name := "mean", desc := "(I)I" } : Jvm.MethodName) ({ cls := "HeirsAtLawModel", name := "mean", desc := "(I)I" } : Jvm.MethodName)) ∈ lw_all := lw_g (lw_at lw_m11 70 rfl) rfl
theorem q2595 : (Jvm.Cond.code ({ cls := "HeirsAtLawModel", name := "mean", desc := "(I)I" } : Jvm.MethodName) prog_29_method_101_code (5 : Nat) (Option.some Jvm.ClassFile.FieldType.int)) ∈ lw_all := lw_g (lw_at lw_m11 71 rfl) rfl
theorem q2597 : (Jvm.Cond.instanceMethod ({ cls := "HeirsAtLawModel", name := "tag", desc := "(I)I" } : Jvm.MethodName)) ∈ lw_all := lw_g (lw_at lw_m11 73 rfl) rfl
theorem q2598 : (Jvm.Cond.selects "HeirsAtLawModel" ({ cls := "HeirsAtLawModel", name := "tag", desc := "(I)I" } : Jvm.MethodName) ({ cls := "HeirsAtLawModel", name := "tag", desc := "(I)I" } : Jvm.MethodName)) ∈ lw_all := lw_g (lw_at lw_m11 74 rfl) rfl
theorem q2599 : (Jvm.Cond.code ({ cls := "HeirsAtLawModel", name := "tag", desc := "(I)I" } : Jvm.MethodName) prog_29_method_106_code (2 : Nat) (Option.some Jvm.ClassFile.FieldType.int)) ∈ lw_all := lw_g (lw_at lw_m11 75 rfl) rfl
theorem q2600 : (Jvm.Cond.methodLink "HeirsAtLawModel" (422 : Nat) ({ cls := "HeirsAtLawModel", name := "spells", desc := "(J)V" } : Jvm.MethodName)) ∈ lw_all := lw_g (lw_at lw_m11 76 rfl) rfl
theorem q2601 : (Jvm.Cond.privateMethod ({ cls := "HeirsAtLawModel", name := "spells", desc := "(J)V" } : Jvm.MethodName)) ∈ lw_tbl := lw_at lw_m11 77 rfl
theorem q2602 : (Jvm.Cond.instanceMethod ({ cls := "HeirsAtLawModel", name := "spells", desc := "(J)V" } : Jvm.MethodName)) ∈ lw_all := lw_g (lw_at lw_m11 78 rfl) rfl
theorem q2603 : (Jvm.Cond.code ({ cls := "HeirsAtLawModel", name := "spells", desc := "(J)V" } : Jvm.MethodName) prog_29_method_103_code (4 : Nat) (Option.none : Option Jvm.ClassFile.FieldType)) ∈ lw_all := lw_g (lw_at lw_m11 79 rfl) rfl
theorem q2604 : (Jvm.Cond.constantLong "HeirsAtLawModel" (417 : Nat) (255 : Int64)) ∈ lw_all := lw_g (lw_at lw_m11 80 rfl) rfl
theorem q2605 : (Jvm.Cond.methodLink "HeirsAtLawModel" (419 : Nat) ({ cls := "HeirsAtLawModel", name := "lays", desc := "(I)V" } : Jvm.MethodName)) ∈ lw_all := lw_g (lw_at lw_m11 81 rfl) rfl
theorem q2606 : (Jvm.Cond.privateMethod ({ cls := "HeirsAtLawModel", name := "lays", desc := "(I)V" } : Jvm.MethodName)) ∈ lw_tbl := lw_at lw_m11 82 rfl
theorem q2607 : (Jvm.Cond.instanceMethod ({ cls := "HeirsAtLawModel", name := "lays", desc := "(I)V" } : Jvm.MethodName)) ∈ lw_all := lw_g (lw_at lw_m11 83 rfl) rfl
theorem q2608 : (Jvm.Cond.code ({ cls := "HeirsAtLawModel", name := "lays", desc := "(I)V" } : Jvm.MethodName) prog_29_method_102_code (2 : Nat) (Option.none : Option Jvm.ClassFile.FieldType)) ∈ lw_all := lw_g (lw_at lw_m11 84 rfl) rfl
theorem q2609 : (Jvm.Cond.methodLink "HeirsAtLawModel" (426 : Nat) ({ cls := "HeirsAtLawModel", name := "says", desc := "(J)V" } : Jvm.MethodName)) ∈ lw_all := lw_g (lw_at lw_m11 85 rfl) rfl
theorem q2610 : (Jvm.Cond.privateMethod ({ cls := "HeirsAtLawModel", name := "says", desc := "(J)V" } : Jvm.MethodName)) ∈ lw_tbl := lw_at lw_m11 86 rfl
theorem q2611 : (Jvm.Cond.instanceMethod ({ cls := "HeirsAtLawModel", name := "says", desc := "(J)V" } : Jvm.MethodName)) ∈ lw_all := lw_g (lw_at lw_m11 87 rfl) rfl
theorem q2612 : (Jvm.Cond.code ({ cls := "HeirsAtLawModel", name := "says", desc := "(J)V" } : Jvm.MethodName) prog_29_method_104_code (3 : Nat) (Option.none : Option Jvm.ClassFile.FieldType)) ∈ lw_all := lw_g (lw_at lw_m11 88 rfl) rfl
theorem q2613 : (Jvm.Cond.constantLong "HeirsAtLawModel" (429 : Nat) (126896661032037 : Int64)) ∈ lw_all := lw_g (lw_at lw_m11 89 rfl) rfl
theorem q2614 : (Jvm.Cond.constantLong "HeirsAtLawModel" (431 : Nat) (6840691 : Int64)) ∈ lw_all := lw_g (lw_at lw_m11 90 rfl) rfl
theorem q2615 : (Jvm.Cond.methodLink "HeirsAtLawModel" (433 : Nat) ({ cls := "HeirsAtLawModel", name := "digits", desc := "(I)V" } : Jvm.MethodName)) ∈ lw_all := lw_g (lw_at lw_m11 91 rfl) rfl
theorem q2616 : (Jvm.Cond.privateMethod ({ cls := "HeirsAtLawModel", name := "digits", desc := "(I)V" } : Jvm.MethodName)) ∈ lw_tbl := lw_at lw_m11 92 rfl
theorem q2617 : (Jvm.Cond.instanceMethod ({ cls := "HeirsAtLawModel", name := "digits", desc := "(I)V" } : Jvm.MethodName)) ∈ lw_all := lw_g (lw_at lw_m11 93 rfl) rfl
theorem q2618 : (Jvm.Cond.code ({ cls := "HeirsAtLawModel", name := "digits", desc := "(I)V" } : Jvm.MethodName) prog_29_method_105_code (3 : Nat) (Option.none : Option Jvm.ClassFile.FieldType)) ∈ lw_all := lw_g (lw_at lw_m11 94 rfl) rfl
theorem q2620 : (Jvm.Cond.instanceMethod ({ cls := "HeirsAtLawModel", name := "byteAt", desc := "(I)I" } : Jvm.MethodName)) ∈ lw_all := lw_g (lw_at lw_m11 96 rfl) rfl
theorem q2621 : (Jvm.Cond.selects "HeirsAtLawModel" ({ cls := "HeirsAtLawModel", name := "byteAt", desc := "(I)I" } : Jvm.MethodName) ({ cls := "HeirsAtLawModel", name := "byteAt", desc := "(I)I" } : Jvm.MethodName)) ∈ lw_all := lw_g (lw_at lw_m11 97 rfl) rfl
theorem q2622 : (Jvm.Cond.code ({ cls := "HeirsAtLawModel", name := "byteAt", desc := "(I)I" } : Jvm.MethodName) prog_29_method_107_code (2 : Nat) (Option.some Jvm.ClassFile.FieldType.int)) ∈ lw_all := lw_g (lw_at lw_m11 98 rfl) rfl
theorem q2624 : (Jvm.Cond.instanceMethod ({ cls := "HeirsAtLawModel", name := "drawn", desc := "(II)I" } : Jvm.MethodName)) ∈ lw_all := lw_g (lw_at lw_m11 100 rfl) rfl
theorem q2625 : (Jvm.Cond.selects "HeirsAtLawModel" ({ cls := "HeirsAtLawModel", name := "drawn", desc := "(II)I" } : Jvm.MethodName) ({ cls := "HeirsAtLawModel", name := "drawn", desc := "(II)I" } : Jvm.MethodName)) ∈ lw_all := lw_g (lw_at lw_m11 101 rfl) rfl
theorem q2626 : (Jvm.Cond.code ({ cls := "HeirsAtLawModel", name := "drawn", desc := "(II)I" } : Jvm.MethodName) prog_29_method_111_code (3 : Nat) (Option.some Jvm.ClassFile.FieldType.int)) ∈ lw_all := lw_g (lw_at lw_m11 102 rfl) rfl
theorem q2627 : (Jvm.Cond.methodLink "HeirsAtLawModel" (446 : Nat) ({ cls := "HeirsAtLawModel", name := "draws", desc := "(II)I" } : Jvm.MethodName)) ∈ lw_all := lw_g (lw_at lw_m11 103 rfl) rfl
theorem q2628 : (Jvm.Cond.privateMethod ({ cls := "HeirsAtLawModel", name := "draws", desc := "(II)I" } : Jvm.MethodName)) ∈ lw_tbl := lw_at lw_m11 104 rfl
theorem q2629 : (Jvm.Cond.instanceMethod ({ cls := "HeirsAtLawModel", name := "draws", desc := "(II)I" } : Jvm.MethodName)) ∈ lw_all := lw_g (lw_at lw_m11 105 rfl) rfl
theorem q2630 : (Jvm.Cond.code ({ cls := "HeirsAtLawModel", name := "draws", desc := "(II)I" } : Jvm.MethodName) prog_29_method_110_code (4 : Nat) (Option.some Jvm.ClassFile.FieldType.int)) ∈ lw_all := lw_g (lw_at lw_m11 106 rfl) rfl
theorem q2631 : (Jvm.Cond.methodLink "HeirsAtLawModel" (443 : Nat) ({ cls := "HeirsAtLawModel", name := "drawYear", desc := "()V" } : Jvm.MethodName)) ∈ lw_all := lw_g (lw_at lw_m11 107 rfl) rfl
theorem q2632 : (Jvm.Cond.privateMethod ({ cls := "HeirsAtLawModel", name := "drawYear", desc := "()V" } : Jvm.MethodName)) ∈ lw_tbl := lw_at lw_m11 108 rfl
theorem q2633 : (Jvm.Cond.instanceMethod ({ cls := "HeirsAtLawModel", name := "drawYear", desc := "()V" } : Jvm.MethodName)) ∈ lw_all := lw_g (lw_at lw_m11 109 rfl) rfl
theorem q2634 : (Jvm.Cond.code ({ cls := "HeirsAtLawModel", name := "drawYear", desc := "()V" } : Jvm.MethodName) prog_29_method_109_code (5 : Nat) (Option.none : Option Jvm.ClassFile.FieldType)) ∈ lw_all := lw_g (lw_at lw_m11 110 rfl) rfl
theorem q2635 : (Jvm.Cond.methodLink "HeirsAtLawModel" (440 : Nat) ({ cls := "HeirsAtLawModel", name := "draw", desc := "(I)I" } : Jvm.MethodName)) ∈ lw_all := lw_g (lw_at lw_m11 111 rfl) rfl
theorem q2636 : (Jvm.Cond.privateMethod ({ cls := "HeirsAtLawModel", name := "draw", desc := "(I)I" } : Jvm.MethodName)) ∈ lw_tbl := lw_at lw_m11 112 rfl
theorem q2637 : (Jvm.Cond.instanceMethod ({ cls := "HeirsAtLawModel", name := "draw", desc := "(I)I" } : Jvm.MethodName)) ∈ lw_all := lw_g (lw_at lw_m11 113 rfl) rfl
theorem q2638 : (Jvm.Cond.code ({ cls := "HeirsAtLawModel", name := "draw", desc := "(I)I" } : Jvm.MethodName) prog_29_method_108_code (2 : Nat) (Option.some Jvm.ClassFile.FieldType.int)) ∈ lw_all := lw_g (lw_at lw_m11 114 rfl) rfl
theorem q2639 : (Jvm.Cond.constant "HeirsAtLawModel" (439 : Nat) (1103515245 : Int32)) ∈ lw_all := lw_g (lw_at lw_m11 115 rfl) rfl
theorem q2641 : (Jvm.Cond.instanceMethod ({ cls := "HeirsAtLawModel", name := "odds", desc := "(III)I" } : Jvm.MethodName)) ∈ lw_all := lw_g (lw_at lw_m11 117 rfl) rfl
theorem q2642 : (Jvm.Cond.selects "HeirsAtLawModel" ({ cls := "HeirsAtLawModel", name := "odds", desc := "(III)I" } : Jvm.MethodName) ({ cls := "HeirsAtLawModel", name := "odds", desc := "(III)I" } : Jvm.MethodName)) ∈ lw_all := lw_g (lw_at lw_m11 118 rfl) rfl
theorem q2643 : (Jvm.Cond.code ({ cls := "HeirsAtLawModel", name := "odds", desc := "(III)I" } : Jvm.MethodName) prog_29_method_112_code (6 : Nat) (Option.some Jvm.ClassFile.FieldType.int)) ∈ lw_all := lw_g (lw_at lw_m11 119 rfl) rfl
theorem q2645 : (Jvm.Cond.instanceMethod ({ cls := "HeirsAtLawModel", name := "book", desc := "(I)I" } : Jvm.MethodName)) ∈ lw_all := lw_g (lw_at lw_m11 121 rfl) rfl
theorem q2646 : (Jvm.Cond.selects "HeirsAtLawModel" ({ cls := "HeirsAtLawModel", name := "book", desc := "(I)I" } : Jvm.MethodName) ({ cls := "HeirsAtLawModel", name := "book", desc := "(I)I" } : Jvm.MethodName)) ∈ lw_all := lw_g (lw_at lw_m11 122 rfl) rfl
theorem q2647 : (Jvm.Cond.code ({ cls := "HeirsAtLawModel", name := "book", desc := "(I)I" } : Jvm.MethodName) prog_29_method_115_code (4 : Nat) (Option.some Jvm.ClassFile.FieldType.int)) ∈ lw_all := lw_g (lw_at lw_m11 123 rfl) rfl
theorem q2648 : (Jvm.Cond.methodLink "HeirsAtLawModel" (452 : Nat) ({ cls := "HeirsAtLawModel", name := "bookLine", desc := "()Z" } : Jvm.MethodName)) ∈ lw_all := lw_g (lw_at lw_m11 124 rfl) rfl
theorem q2649 : (Jvm.Cond.privateMethod ({ cls := "HeirsAtLawModel", name := "bookLine", desc := "()Z" } : Jvm.MethodName)) ∈ lw_tbl := lw_at lw_m11 125 rfl
theorem q2650 : (Jvm.Cond.instanceMethod ({ cls := "HeirsAtLawModel", name := "bookLine", desc := "()Z" } : Jvm.MethodName)) ∈ lw_all := lw_g (lw_at lw_m11 126 rfl) rfl
theorem q2651 : (Jvm.Cond.code ({ cls := "HeirsAtLawModel", name := "bookLine", desc := "()Z" } : Jvm.MethodName) prog_29_method_113_code (4 : Nat) (Option.some Jvm.ClassFile.FieldType.boolean)) ∈ lw_all := lw_g (lw_at lw_m11 127 rfl) rfl
theorem q2652 : (Jvm.Cond.methodLink "HeirsAtLawModel" (455 : Nat) ({ cls := "HeirsAtLawModel", name := "does", desc := "(IIII)I" } : Jvm.MethodName)) ∈ lw_all := lw_g (lw_at lw_m11 128 rfl) rfl
theorem q2653 : (Jvm.Cond.privateMethod ({ cls := "HeirsAtLawModel", name := "does", desc := "(IIII)I" } : Jvm.MethodName)) ∈ lw_tbl := lw_at lw_m11 129 rfl
theorem q2654 : (Jvm.Cond.instanceMethod ({ cls := "HeirsAtLawModel", name := "does", desc := "(IIII)I" } : Jvm.MethodName)) ∈ lw_all := lw_g (lw_at lw_m11 130 rfl) rfl
theorem q2655 : (Jvm.Cond.code ({ cls := "HeirsAtLawModel", name := "does", desc := "(IIII)I" } : Jvm.MethodName) prog_29_method_114_code (6 : Nat) (Option.some Jvm.ClassFile.FieldType.int)) ∈ lw_all := lw_g (lw_at lw_m11 131 rfl) rfl
theorem q2657 : (Jvm.Cond.instanceMethod ({ cls := "HeirsAtLawModel", name := "told", desc := "(I)I" } : Jvm.MethodName)) ∈ lw_all := lw_g (lw_at lw_m11 133 rfl) rfl
theorem q2658 : (Jvm.Cond.selects "HeirsAtLawModel" ({ cls := "HeirsAtLawModel", name := "told", desc := "(I)I" } : Jvm.MethodName) ({ cls := "HeirsAtLawModel", name := "told", desc := "(I)I" } : Jvm.MethodName)) ∈ lw_all := lw_g (lw_at lw_m11 134 rfl) rfl
theorem q2659 : (Jvm.Cond.code ({ cls := "HeirsAtLawModel", name := "told", desc := "(I)I" } : Jvm.MethodName) prog_29_method_116_code (2 : Nat) (Option.some Jvm.ClassFile.FieldType.int)) ∈ lw_all := lw_g (lw_at lw_m11 135 rfl) rfl
theorem q2661 : (Jvm.Cond.instanceMethod ({ cls := "HeirsAtLawModel", name := "sentence", desc := "()I" } : Jvm.MethodName)) ∈ lw_all := lw_g (lw_at lw_m11 137 rfl) rfl
theorem q2662 : (Jvm.Cond.selects "HeirsAtLawModel" ({ cls := "HeirsAtLawModel", name := "sentence", desc := "()I" } : Jvm.MethodName) ({ cls := "HeirsAtLawModel", name := "sentence", desc := "()I" } : Jvm.MethodName)) ∈ lw_all := lw_g (lw_at lw_m11 138 rfl) rfl
theorem q2663 : (Jvm.Cond.code ({ cls := "HeirsAtLawModel", name := "sentence", desc := "()I" } : Jvm.MethodName) prog_29_method_123_code (3 : Nat) (Option.some Jvm.ClassFile.FieldType.int)) ∈ lw_all := lw_g (lw_at lw_m11 139 rfl) rfl
theorem q2664 : (Jvm.Cond.methodLink "HeirsAtLawModel" (482 : Nat) ({ cls := "HeirsAtLawModel", name := "nots", desc := "()V" } : Jvm.MethodName)) ∈ lw_all := lw_g (lw_at lw_m11 140 rfl) rfl
theorem q2665 : (Jvm.Cond.privateMethod ({ cls := "HeirsAtLawModel", name := "nots", desc := "()V" } : Jvm.MethodName)) ∈ lw_tbl := lw_at lw_m11 141 rfl
theorem q2666 : (Jvm.Cond.instanceMethod ({ cls := "HeirsAtLawModel", name := "nots", desc := "()V" } : Jvm.MethodName)) ∈ lw_all := lw_g (lw_at lw_m11 142 rfl) rfl
theorem q2667 : (Jvm.Cond.code ({ cls := "HeirsAtLawModel", name := "nots", desc := "()V" } : Jvm.MethodName) prog_29_method_119_code (1 : Nat) (Option.none : Option Jvm.ClassFile.FieldType)) ∈ lw_all := lw_g (lw_at lw_m11 143 rfl) rfl
theorem q2668 : (Jvm.Cond.methodLink "HeirsAtLawModel" (467 : Nat) ({ cls := "HeirsAtLawModel", name := "code", desc := "(III)V" } : Jvm.MethodName)) ∈ lw_all := lw_g (lw_at lw_m11 144 rfl) rfl
theorem q2669 : (Jvm.Cond.privateMethod ({ cls := "HeirsAtLawModel", name := "code", desc := "(III)V" } : Jvm.MethodName)) ∈ lw_tbl := lw_at lw_m11 145 rfl
theorem q2670 : (Jvm.Cond.instanceMethod ({ cls := "HeirsAtLawModel", name := "code", desc := "(III)V" } : Jvm.MethodName)) ∈ lw_all := lw_g (lw_at lw_m11 146 rfl) rfl
theorem q2671 : (Jvm.Cond.code ({ cls := "HeirsAtLawModel", name := "code", desc := "(III)V" } : Jvm.MethodName) prog_29_method_117_code (4 : Nat) (Option.none : Option Jvm.ClassFile.FieldType)) ∈ lw_all := lw_g (lw_at lw_m11 147 rfl) rfl
theorem q2672 : (Jvm.Cond.methodLink "HeirsAtLawModel" (485 : Nat) ({ cls := "HeirsAtLawModel", name := "joins", desc := "(I)V" } : Jvm.MethodName)) ∈ lw_all := lw_g (lw_at lw_m11 148 rfl) rfl
theorem q2673 : (Jvm.Cond.privateMethod ({ cls := "HeirsAtLawModel", name := "joins", desc := "(I)V" } : Jvm.MethodName)) ∈ lw_tbl := lw_at lw_m11 149 rfl
theorem q2674 : (Jvm.Cond.instanceMethod ({ cls := "HeirsAtLawModel", name := "joins", desc := "(I)V" } : Jvm.MethodName)) ∈ lw_all := lw_g (lw_at lw_m11 150 rfl) rfl
theorem q2675 : (Jvm.Cond.code ({ cls := "HeirsAtLawModel", name := "joins", desc := "(I)V" } : Jvm.MethodName) prog_29_method_118_code (2 : Nat) (Option.none : Option Jvm.ClassFile.FieldType)) ∈ lw_all := lw_g (lw_at lw_m11 151 rfl) rfl
theorem q2676 : (Jvm.Cond.methodLink "HeirsAtLawModel" (488 : Nat) ({ cls := "HeirsAtLawModel", name := "behind", desc := "()Z" } : Jvm.MethodName)) ∈ lw_all := lw_g (lw_at lw_m11 152 rfl) rfl
theorem q2677 : (Jvm.Cond.privateMethod ({ cls := "HeirsAtLawModel", name := "behind", desc := "()Z" } : Jvm.MethodName)) ∈ lw_tbl := lw_at lw_m11 153 rfl
theorem q2678 : (Jvm.Cond.instanceMethod ({ cls := "HeirsAtLawModel", name := "behind", desc := "()Z" } : Jvm.MethodName)) ∈ lw_all := lw_g (lw_at lw_m11 154 rfl) rfl
theorem q2679 : (Jvm.Cond.code ({ cls := "HeirsAtLawModel", name := "behind", desc := "()Z" } : Jvm.MethodName) prog_29_method_122_code (1 : Nat) (Option.some Jvm.ClassFile.FieldType.boolean)) ∈ lw_all := lw_g (lw_at lw_m11 155 rfl) rfl
theorem q2680 : (Jvm.Cond.methodLink "HeirsAtLawModel" (491 : Nat) ({ cls := "HeirsAtLawModel", name := "operand", desc := "()Z" } : Jvm.MethodName)) ∈ lw_all := lw_g (lw_at lw_m11 156 rfl) rfl
theorem q2681 : (Jvm.Cond.privateMethod ({ cls := "HeirsAtLawModel", name := "operand", desc := "()Z" } : Jvm.MethodName)) ∈ lw_tbl := lw_at lw_m11 157 rfl
theorem q2682 : (Jvm.Cond.instanceMethod ({ cls := "HeirsAtLawModel", name := "operand", desc := "()Z" } : Jvm.MethodName)) ∈ lw_all := lw_g (lw_at lw_m11 158 rfl) rfl
theorem q2683 : (Jvm.Cond.code ({ cls := "HeirsAtLawModel", name := "operand", desc := "()Z" } : Jvm.MethodName) prog_29_method_121_code (5 : Nat) (Option.some Jvm.ClassFile.FieldType.boolean)) ∈ lw_all := lw_g (lw_at lw_m11 159 rfl) rfl
theorem q2684 : (Jvm.Cond.methodLink "HeirsAtLawModel" (473 : Nat) ({ cls := "HeirsAtLawModel", name := "leafOf", desc := "()I" } : Jvm.MethodName)) ∈ lw_all := lw_g (lw_at lw_m11 160 rfl) rfl
theorem q2685 : (Jvm.Cond.privateMethod ({ cls := "HeirsAtLawModel", name := "leafOf", desc := "()I" } : Jvm.MethodName)) ∈ lw_tbl := lw_at lw_m11 161 rfl
theorem q2686 : (Jvm.Cond.instanceMethod ({ cls := "HeirsAtLawModel", name := "leafOf", desc := "()I" } : Jvm.MethodName)) ∈ lw_all := lw_g (lw_at lw_m11 162 rfl) rfl
theorem q2687 : (Jvm.Cond.code ({ cls := "HeirsAtLawModel", name := "leafOf", desc := "()I" } : Jvm.MethodName) prog_29_method_120_code (1 : Nat) (Option.some Jvm.ClassFile.FieldType.int)) ∈ lw_all := lw_g (lw_at lw_m11 163 rfl) rfl
theorem q2689 : (Jvm.Cond.instanceMethod ({ cls := "HeirsAtLawModel", name := "said", desc := "(I)I" } : Jvm.MethodName)) ∈ lw_all := lw_g (lw_at lw_m11 165 rfl) rfl
theorem q2690 : (Jvm.Cond.selects "HeirsAtLawModel" ({ cls := "HeirsAtLawModel", name := "said", desc := "(I)I" } : Jvm.MethodName) ({ cls := "HeirsAtLawModel", name := "said", desc := "(I)I" } : Jvm.MethodName)) ∈ lw_all := lw_g (lw_at lw_m11 166 rfl) rfl
theorem q2691 : (Jvm.Cond.code ({ cls := "HeirsAtLawModel", name := "said", desc := "(I)I" } : Jvm.MethodName) prog_29_method_126_code (4 : Nat) (Option.some Jvm.ClassFile.FieldType.int)) ∈ lw_all := lw_g (lw_at lw_m11 167 rfl) rfl
theorem q2692 : (Jvm.Cond.methodLink "HeirsAtLawModel" (498 : Nat) ({ cls := "HeirsAtLawModel", name := "isSaid", desc := "(I)Z" } : Jvm.MethodName)) ∈ lw_all := lw_g (lw_at lw_m11 168 rfl) rfl
theorem q2693 : (Jvm.Cond.privateMethod ({ cls := "HeirsAtLawModel", name := "isSaid", desc := "(I)Z" } : Jvm.MethodName)) ∈ lw_tbl := lw_at lw_m11 169 rfl
theorem q2694 : (Jvm.Cond.instanceMethod ({ cls := "HeirsAtLawModel", name := "isSaid", desc := "(I)Z" } : Jvm.MethodName)) ∈ lw_all := lw_g (lw_at lw_m11 170 rfl) rfl
theorem q2695 : (Jvm.Cond.code ({ cls := "HeirsAtLawModel", name := "isSaid", desc := "(I)Z" } : Jvm.MethodName) prog_29_method_125_code (5 : Nat) (Option.some Jvm.ClassFile.FieldType.boolean)) ∈ lw_all := lw_g (lw_at lw_m11 171 rfl) rfl
theorem q2696 : (Jvm.Cond.methodLink "HeirsAtLawModel" (494 : Nat) ({ cls := "HeirsAtLawModel", name := "isLeaf", desc := "(IIII)Z" } : Jvm.MethodName)) ∈ lw_all := lw_g (lw_at lw_m11 172 rfl) rfl
theorem q2697 : (Jvm.Cond.privateMethod ({ cls := "HeirsAtLawModel", name := "isLeaf", desc := "(IIII)Z" } : Jvm.MethodName)) ∈ lw_tbl := lw_at lw_m11 173 rfl
theorem q2698 : (Jvm.Cond.instanceMethod ({ cls := "HeirsAtLawModel", name := "isLeaf", desc := "(IIII)Z" } : Jvm.MethodName)) ∈ lw_all := lw_g (lw_at lw_m11 174 rfl) rfl
theorem q2699 : (Jvm.Cond.code ({ cls := "HeirsAtLawModel", name := "isLeaf", desc := "(IIII)Z" } : Jvm.MethodName) prog_29_method_124_code (6 : Nat) (Option.some Jvm.ClassFile.FieldType.boolean)) ∈ lw_all := lw_g (lw_at lw_m11 175 rfl) rfl
theorem q2701 : (Jvm.Cond.instanceMethod ({ cls := "HeirsAtLawModel", name := "image", desc := "(I)Z" } : Jvm.MethodName)) ∈ lw_all := lw_g (lw_at lw_m11 177 rfl) rfl
theorem q2702 : (Jvm.Cond.selects "HeirsAtLawModel" ({ cls := "HeirsAtLawModel", name := "image", desc := "(I)Z" } : Jvm.MethodName) ({ cls := "HeirsAtLawModel", name := "image", desc := "(I)Z" } : Jvm.MethodName)) ∈ lw_all := lw_g (lw_at lw_m11 178 rfl) rfl
theorem q2703 : (Jvm.Cond.code ({ cls := "HeirsAtLawModel", name := "image", desc := "(I)Z" } : Jvm.MethodName) prog_29_method_127_code (3 : Nat) (Option.some Jvm.ClassFile.FieldType.boolean)) ∈ lw_all := lw_g (lw_at lw_m11 179 rfl) rfl
theorem q2705 : (Jvm.Cond.instanceMethod ({ cls := "HeirsAtLawModel", name := "restore", desc := "(I)Z" } : Jvm.MethodName)) ∈ lw_all := lw_g (lw_at lw_m11 181 rfl) rfl
theorem q2706 : (Jvm.Cond.selects "HeirsAtLawModel" ({ cls := "HeirsAtLawModel", name := "restore", desc := "(I)Z" } : Jvm.MethodName) ({ cls := "HeirsAtLawModel", name := "restore", desc := "(I)Z" } : Jvm.MethodName)) ∈ lw_all := lw_g (lw_at lw_m11 182 rfl) rfl
theorem q2707 : (Jvm.Cond.code ({ cls := "HeirsAtLawModel", name := "restore", desc := "(I)Z" } : Jvm.MethodName) prog_29_method_128_code (3 : Nat) (Option.some Jvm.ClassFile.FieldType.boolean)) ∈ lw_all := lw_g (lw_at lw_m11 183 rfl) rfl
theorem q2709 : (Jvm.Cond.instanceMethod ({ cls := "HeirsAtLawModel", name := "count", desc := "(I)I" } : Jvm.MethodName)) ∈ lw_all := lw_g (lw_at lw_m11 185 rfl) rfl
theorem q2710 : (Jvm.Cond.selects "HeirsAtLawModel" ({ cls := "HeirsAtLawModel", name := "count", desc := "(I)I" } : Jvm.MethodName) ({ cls := "HeirsAtLawModel", name := "count", desc := "(I)I" } : Jvm.MethodName)) ∈ lw_all := lw_g (lw_at lw_m11 186 rfl) rfl
theorem q2711 : (Jvm.Cond.code ({ cls := "HeirsAtLawModel", name := "count", desc := "(I)I" } : Jvm.MethodName) prog_29_method_129_code (2 : Nat) (Option.some Jvm.ClassFile.FieldType.int)) ∈ lw_all := lw_g (lw_at lw_m11 187 rfl) rfl
theorem q2759 : (Jvm.Cond.castable "HeirsAtLawModel" "java/lang/Object") ∈ lw_tbl := lw_at lw_m11 235 rfl
theorem in_X5 : ∀ w ∈ wsX50, w ∈ lw_all := lw_in wsX50 [2119, 2121, 2123, 2125, 2127, 2129, 2131, 2133, 2135, 2137, 2139, 2141, 2143, 2145, 2147, 2149, 2151, 2153, 2155, 2157, 2159, 2161, 2163, 2165, 2167, 2169, 2171, 2173, 2175, 2177, 2179, 2181, 2183, 2185, 2187, 2189, 2191, 2193, 2195, 2197, 2199, 2201, 2203, 2205, 2207, 2209, 2211, 2213, 2215, 2217, 2219, 2221] (by decide +kernel) (by decide +kernel)
