/-! GrassParkModel -/
set_option maxRecDepth 100000
def RX5 : String := "GrassParkModel"
def TX5 : u_T := fun k => match k with
  | 0 => ("GrassParkModel", "thrown", "I", false)
  | 1 => ("GrassParkModel", "tape", "[B", true)
  | 2 => ("GrassParkModel", "length", "I", false)
  | 3 => ("GrassParkModel", "size", "I", false)
  | 4 => ("GrassParkModel", "p", "I", false)
  | 5 => ("GrassParkModel", "s", "[I", true)
  | 6 => ("GrassParkModel", "kept", "[I", true)
  | 7 => ("GrassParkModel", "aside", "[I", true)
  | 8 => ("GrassParkModel", "isKept", "[Z", true)
  | 9 => ("GrassParkModel", "lineMany", "[I", true)
  | 10 => ("GrassParkModel", "lineKind", "[I", true)
  | 11 => ("GrassParkModel", "lineWhat", "[I", true)
  | 12 => ("GrassParkModel", "lineNumber", "[I", true)
  | 13 => ("GrassParkModel", "lineFrom", "[I", true)
  | 14 => ("GrassParkModel", "lineTo", "[I", true)
  | 15 => ("GrassParkModel", "step", "[I", true)
  | 16 => ("GrassParkModel", "stepSign", "[I", true)
  | 17 => ("GrassParkModel", "stepNumber", "[I", true)
  | 18 => ("GrassParkModel", "pile", "[I", true)
  | 19 => ("GrassParkModel", "stepMany", "I", false)
  | 20 => ("GrassParkModel", "pileMany", "I", false)
  | 21 => ("GrassParkModel", "ones", "I", false)
  | 22 => ("GrassParkModel", "token", "I", false)
  | 23 => ("GrassParkModel", "at", "I", false)
  | 24 => ("GrassParkModel", "span", "I", false)
  | 25 => ("GrassParkModel", "number", "I", false)
  | 26 => ("GrassParkModel", "fault", "I", false)
  | 27 => ("GrassParkModel", "faultAt", "I", false)
  | 28 => ("GrassParkModel", "bound", "I", false)
  | 29 => ("GrassParkModel", "mud", "I", false)
  | 30 => ("GrassParkModel", "dry", "I", false)
  | 31 => ("GrassParkModel", "word", "J", false)
  | 32 => ("GrassParkModel", "told", "I", false)
  | 33 => ("GrassParkModel", "truth", "[Z", true)
  | 34 => ("GrassParkModel", "here", "I", false)
  | 35 => ("GrassParkModel", "goal", "I", false)
  | 36 => ("GrassParkModel", "text", "I", false)
  | 37 => ("GrassParkModel", "lastWay", "I", false)
  | 38 => ("GrassParkModel", "cameFrom", "I", false)
  | 39 => ("GrassParkModel", "alone", "Z", false)
  | 40 => ("GrassParkModel", "watched", "I", false)
  | 41 => ("GrassParkModel", "arrivedNow", "I", false)
  | 42 => ("GrassParkModel", "wasTrod", "Z", false)
  | 43 => ("GrassParkModel", "mark", "[Z", true)
  | 44 => ("GrassParkModel", "before", "[Z", true)
  | 45 => ("GrassParkModel", "behind", "[Z", true)
  | 46 => ("GrassParkModel", "during", "[Z", true)
  | 47 => ("GrassParkModel", "costs", "[I", true)
  | 48 => ("GrassParkModel", "ways", "[I", true)
  | 49 => ("GrassParkModel", "paveMany", "I", false)
  | 50 => ("GrassParkModel", "paveSoon", "I", false)
  | 51 => ("GrassParkModel", "paveMissed", "I", false)
  | 52 => ("GrassParkModel", "fenced", "[I", true)
  | 53 => ("GrassParkModel", "fencedMany", "I", false)
  | 54 => ("GrassParkModel", "path", "[I", true)
  | 55 => ("GrassParkModel", "pathKept", "[I", true)
  | 56 => ("GrassParkModel", "trodBy", "[I", true)
  | 57 => ("GrassParkModel", "least", "[I", true)
  | 58 => ("GrassParkModel", "greatest", "[I", true)
  | 59 => ("GrassParkModel", "tries", "[I", true)
  | 60 => ("GrassParkModel", "pathMany", "I", false)
  | 61 => ("GrassParkModel", "pathKeptMany", "I", false)
  | _ => ("GrassParkModel", "readMany", "I", false)
def tyX5 : Nat → FieldType := fun k => match k with
  | 0 => .int
  | 1 => .array .byte
  | 2 => .int
  | 3 => .int
  | 4 => .int
  | 5 => .array .int
  | 6 => .array .int
  | 7 => .array .int
  | 8 => .array .boolean
  | 9 => .array .int
  | 10 => .array .int
  | 11 => .array .int
  | 12 => .array .int
  | 13 => .array .int
  | 14 => .array .int
  | 15 => .array .int
  | 16 => .array .int
  | 17 => .array .int
  | 18 => .array .int
  | 19 => .int
  | 20 => .int
  | 21 => .int
  | 22 => .int
  | 23 => .int
  | 24 => .int
  | 25 => .int
  | 26 => .int
  | 27 => .int
  | 28 => .int
  | 29 => .int
  | 30 => .int
  | 31 => .long
  | 32 => .int
  | 33 => .array .boolean
  | 34 => .int
  | 35 => .int
  | 36 => .int
  | 37 => .int
  | 38 => .int
  | 39 => .boolean
  | 40 => .int
  | 41 => .int
  | 42 => .boolean
  | 43 => .array .boolean
  | 44 => .array .boolean
  | 45 => .array .boolean
  | 46 => .array .boolean
  | 47 => .array .int
  | 48 => .array .int
  | 49 => .int
  | 50 => .int
  | 51 => .int
  | 52 => .array .int
  | 53 => .int
  | 54 => .array .int
  | 55 => .array .int
  | 56 => .array .int
  | 57 => .array .int
  | 58 => .array .int
  | 59 => .array .int
  | 60 => .int
  | 61 => .int
  | _ => .int
abbrev wsX50 : List Cond := u_ws RX5 TX5 63
set_option maxRecDepth 100000 in
theorem nmX5 : ∀ a, a < 63 → ∀ b, b < 63 → a ≠ b → (TX5 a).2.1 ≠ (TX5 b).2.1 := by decide +kernel
set_option maxRecDepth 100000 in
theorem tyX5_ok : ∀ k, k < 63 → parseFieldDescriptor (TX5 k).2.2.1 = some (tyX5 k) := by decide +kernel
abbrev cX5_thrown : ByteArray := prog_12_method_1_code
def yX5_thrown : MethodName := ⟨RX5, "thrown", "()I"⟩
theorem dX5_thrown_0 : decode cX5_thrown 0 = .ok (.aload_n 0, 1) := by decide +kernel
theorem dX5_thrown_1 : decode cX5_thrown 1 = .ok (.getfield 1, 3) := by decide +kernel
theorem dX5_thrown_4 : decode cX5_thrown 4 = .ok (.ireturn, 1) := by decide +kernel
abbrev cX5_feed : ByteArray := prog_12_method_3_code
def yX5_feed : MethodName := ⟨RX5, "feed", "(IIIII)I"⟩
def dkwX5_feed_2 : List UInt8 := [182, 0, 10, 42, 180, 0, 7, 172]
abbrev dktX5_feed_2 : List UInt8 := dkwX5_feed_2 ++ []
def dkwX5_feed_1 : List UInt8 := [182, 0, 10, 42, 28, 182, 0, 10, 42, 29, 182, 0, 10, 42, 21, 4, 182, 0, 10, 42, 21, 5]
abbrev dktX5_feed_1 : List UInt8 := dkwX5_feed_1 ++ dktX5_feed_2
def dkwX5_feed_0 : List UInt8 := [42, 3, 181, 0, 1, 42, 180, 0, 7, 16, 20, 96, 17, 1, 184, 164, 0, 5, 2, 172, 42, 27]
abbrev dktX5_feed_0 : List UInt8 := dkwX5_feed_0 ++ dktX5_feed_1
theorem dksX5_feed_0 : cX5_feed.data.toList.drop 0 = dktX5_feed_0 := by decide +kernel
theorem dksX5_feed_1 : cX5_feed.data.toList.drop 22 = dktX5_feed_1 := dk_seg dksX5_feed_0 22 rfl rfl
theorem dksX5_feed_2 : cX5_feed.data.toList.drop 44 = dktX5_feed_2 := dk_seg dksX5_feed_1 22 rfl rfl
theorem dX5_feed_0 : decode cX5_feed 0 = .ok (.aload_n 0, 1) := dk_42 (dk_at dksX5_feed_0 0 rfl rfl)
theorem dX5_feed_1 : decode cX5_feed 1 = .ok (.iconst 0, 1) := dk_3 (dk_at dksX5_feed_0 1 rfl rfl)
theorem dX5_feed_2 : decode cX5_feed 2 = .ok (.putfield 1, 3) := dk_181 0 1 (dk_at dksX5_feed_0 2 rfl rfl)
theorem dX5_feed_5 : decode cX5_feed 5 = .ok (.aload_n 0, 1) := dk_42 (dk_at dksX5_feed_0 5 rfl rfl)
theorem dX5_feed_6 : decode cX5_feed 6 = .ok (.getfield 7, 3) := dk_180 0 7 (dk_at dksX5_feed_0 6 rfl rfl)
theorem dX5_feed_9 : decode cX5_feed 9 = .ok (.bipush 20, 2) := dk_16 20 (dk_at dksX5_feed_0 9 rfl rfl)
theorem dX5_feed_11 : decode cX5_feed 11 = .ok (.iadd, 1) := dk_96 (dk_at dksX5_feed_0 11 rfl rfl)
theorem dX5_feed_12 : decode cX5_feed 12 = .ok (.sipush 440, 3) := dk_17 1 184 (dk_at dksX5_feed_0 12 rfl rfl)
theorem dX5_feed_15 : decode cX5_feed 15 = .ok (.if_icmp .le 5, 3) := dk_164 0 5 (dk_at dksX5_feed_0 15 rfl rfl)
theorem dX5_feed_18 : decode cX5_feed 18 = .ok (.iconst (-1), 1) := dk_2 (dk_at dksX5_feed_0 18 rfl rfl)
theorem dX5_feed_19 : decode cX5_feed 19 = .ok (.ireturn, 1) := dk_172 (dk_at dksX5_feed_0 19 rfl rfl)
theorem dX5_feed_20 : decode cX5_feed 20 = .ok (.aload_n 0, 1) := dk_42 (dk_at dksX5_feed_0 20 rfl rfl)
theorem dX5_feed_21 : decode cX5_feed 21 = .ok (.iload_n 1, 1) := dk_27 (dk_at dksX5_feed_0 21 rfl rfl)
theorem dX5_feed_22 : decode cX5_feed 22 = .ok (.invokevirtual 10, 3) := dk_182 0 10 (dk_at dksX5_feed_1 0 rfl rfl)
theorem dX5_feed_25 : decode cX5_feed 25 = .ok (.aload_n 0, 1) := dk_42 (dk_at dksX5_feed_1 3 rfl rfl)
theorem dX5_feed_26 : decode cX5_feed 26 = .ok (.iload_n 2, 1) := dk_28 (dk_at dksX5_feed_1 4 rfl rfl)
theorem dX5_feed_27 : decode cX5_feed 27 = .ok (.invokevirtual 10, 3) := dk_182 0 10 (dk_at dksX5_feed_1 5 rfl rfl)
theorem dX5_feed_30 : decode cX5_feed 30 = .ok (.aload_n 0, 1) := dk_42 (dk_at dksX5_feed_1 8 rfl rfl)
theorem dX5_feed_31 : decode cX5_feed 31 = .ok (.iload_n 3, 1) := dk_29 (dk_at dksX5_feed_1 9 rfl rfl)
theorem dX5_feed_32 : decode cX5_feed 32 = .ok (.invokevirtual 10, 3) := dk_182 0 10 (dk_at dksX5_feed_1 10 rfl rfl)
theorem dX5_feed_35 : decode cX5_feed 35 = .ok (.aload_n 0, 1) := dk_42 (dk_at dksX5_feed_1 13 rfl rfl)
theorem dX5_feed_36 : decode cX5_feed 36 = .ok (.iload 4, 2) := dk_21 4 (dk_at dksX5_feed_1 14 rfl rfl)
theorem dX5_feed_38 : decode cX5_feed 38 = .ok (.invokevirtual 10, 3) := dk_182 0 10 (dk_at dksX5_feed_1 16 rfl rfl)
theorem dX5_feed_41 : decode cX5_feed 41 = .ok (.aload_n 0, 1) := dk_42 (dk_at dksX5_feed_1 19 rfl rfl)
theorem dX5_feed_42 : decode cX5_feed 42 = .ok (.iload 5, 2) := dk_21 5 (dk_at dksX5_feed_1 20 rfl rfl)
theorem dX5_feed_44 : decode cX5_feed 44 = .ok (.invokevirtual 10, 3) := dk_182 0 10 (dk_at dksX5_feed_2 0 rfl rfl)
theorem dX5_feed_47 : decode cX5_feed 47 = .ok (.aload_n 0, 1) := dk_42 (dk_at dksX5_feed_2 3 rfl rfl)
theorem dX5_feed_48 : decode cX5_feed 48 = .ok (.getfield 7, 3) := dk_180 0 7 (dk_at dksX5_feed_2 4 rfl rfl)
theorem dX5_feed_51 : decode cX5_feed 51 = .ok (.ireturn, 1) := dk_172 (dk_at dksX5_feed_2 7 rfl rfl)
abbrev cX5_four : ByteArray := prog_12_method_4_code
def yX5_four : MethodName := ⟨RX5, "four", "(I)V"⟩
def dkwX5_four_1 : List UInt8 := [180, 0, 7, 4, 96, 181, 0, 7, 132, 2, 248, 167, 255, 226, 177]
abbrev dktX5_four_1 : List UInt8 := dkwX5_four_1 ++ []
def dkwX5_four_0 : List UInt8 := [16, 24, 61, 28, 155, 0, 32, 42, 180, 0, 14, 42, 180, 0, 7, 27, 28, 122, 145, 84, 42, 89]
abbrev dktX5_four_0 : List UInt8 := dkwX5_four_0 ++ dktX5_four_1
theorem dksX5_four_0 : cX5_four.data.toList.drop 0 = dktX5_four_0 := by decide +kernel
theorem dksX5_four_1 : cX5_four.data.toList.drop 22 = dktX5_four_1 := dk_seg dksX5_four_0 22 rfl rfl
theorem dX5_four_0 : decode cX5_four 0 = .ok (.bipush 24, 2) := dk_16 24 (dk_at dksX5_four_0 0 rfl rfl)
theorem dX5_four_2 : decode cX5_four 2 = .ok (.istore_n 2, 1) := dk_61 (dk_at dksX5_four_0 2 rfl rfl)
theorem dX5_four_3 : decode cX5_four 3 = .ok (.iload_n 2, 1) := dk_28 (dk_at dksX5_four_0 3 rfl rfl)
theorem dX5_four_4 : decode cX5_four 4 = .ok (.ifCond .lt 32, 3) := dk_155 0 32 (dk_at dksX5_four_0 4 rfl rfl)
theorem dX5_four_7 : decode cX5_four 7 = .ok (.aload_n 0, 1) := dk_42 (dk_at dksX5_four_0 7 rfl rfl)
theorem dX5_four_8 : decode cX5_four 8 = .ok (.getfield 14, 3) := dk_180 0 14 (dk_at dksX5_four_0 8 rfl rfl)
theorem dX5_four_11 : decode cX5_four 11 = .ok (.aload_n 0, 1) := dk_42 (dk_at dksX5_four_0 11 rfl rfl)
theorem dX5_four_12 : decode cX5_four 12 = .ok (.getfield 7, 3) := dk_180 0 7 (dk_at dksX5_four_0 12 rfl rfl)
theorem dX5_four_15 : decode cX5_four 15 = .ok (.iload_n 1, 1) := dk_27 (dk_at dksX5_four_0 15 rfl rfl)
theorem dX5_four_16 : decode cX5_four 16 = .ok (.iload_n 2, 1) := dk_28 (dk_at dksX5_four_0 16 rfl rfl)
theorem dX5_four_17 : decode cX5_four 17 = .ok (.ishr, 1) := dk_122 (dk_at dksX5_four_0 17 rfl rfl)
theorem dX5_four_18 : decode cX5_four 18 = .ok (.i2b, 1) := dk_145 (dk_at dksX5_four_0 18 rfl rfl)
theorem dX5_four_19 : decode cX5_four 19 = .ok (.bastore, 1) := dk_84 (dk_at dksX5_four_0 19 rfl rfl)
theorem dX5_four_20 : decode cX5_four 20 = .ok (.aload_n 0, 1) := dk_42 (dk_at dksX5_four_0 20 rfl rfl)
theorem dX5_four_21 : decode cX5_four 21 = .ok (.dup, 1) := dk_89 (dk_at dksX5_four_0 21 rfl rfl)
theorem dX5_four_22 : decode cX5_four 22 = .ok (.getfield 7, 3) := dk_180 0 7 (dk_at dksX5_four_1 0 rfl rfl)
theorem dX5_four_25 : decode cX5_four 25 = .ok (.iconst 1, 1) := dk_4 (dk_at dksX5_four_1 3 rfl rfl)
theorem dX5_four_26 : decode cX5_four 26 = .ok (.iadd, 1) := dk_96 (dk_at dksX5_four_1 4 rfl rfl)
theorem dX5_four_27 : decode cX5_four 27 = .ok (.putfield 7, 3) := dk_181 0 7 (dk_at dksX5_four_1 5 rfl rfl)
theorem dX5_four_30 : decode cX5_four 30 = .ok (.iinc 2 (-8), 3) := dk_132 2 248 (dk_at dksX5_four_1 8 rfl rfl)
theorem dX5_four_33 : decode cX5_four 33 = .ok (.goto (-30), 3) := dk_167 255 226 (dk_at dksX5_four_1 11 rfl rfl)
theorem dX5_four_36 : decode cX5_four 36 = .ok (.return_, 1) := dk_177 (dk_at dksX5_four_1 14 rfl rfl)
abbrev cX5_end : ByteArray := prog_12_method_5_code
def yX5_end : MethodName := ⟨RX5, "end", "(I)Z"⟩
def dkwX5_end_1 : List UInt8 := [4, 172]
abbrev dktX5_end_1 : List UInt8 := dkwX5_end_1 ++ []
def dkwX5_end_0 : List UInt8 := [42, 3, 181, 0, 1, 27, 155, 0, 11, 27, 42, 180, 0, 7, 164, 0, 5, 3, 172, 42, 27, 181, 0, 7]
abbrev dktX5_end_0 : List UInt8 := dkwX5_end_0 ++ dktX5_end_1
theorem dksX5_end_0 : cX5_end.data.toList.drop 0 = dktX5_end_0 := by decide +kernel
theorem dksX5_end_1 : cX5_end.data.toList.drop 24 = dktX5_end_1 := dk_seg dksX5_end_0 24 rfl rfl
theorem dX5_end_0 : decode cX5_end 0 = .ok (.aload_n 0, 1) := dk_42 (dk_at dksX5_end_0 0 rfl rfl)
theorem dX5_end_1 : decode cX5_end 1 = .ok (.iconst 0, 1) := dk_3 (dk_at dksX5_end_0 1 rfl rfl)
theorem dX5_end_2 : decode cX5_end 2 = .ok (.putfield 1, 3) := dk_181 0 1 (dk_at dksX5_end_0 2 rfl rfl)
theorem dX5_end_5 : decode cX5_end 5 = .ok (.iload_n 1, 1) := dk_27 (dk_at dksX5_end_0 5 rfl rfl)
theorem dX5_end_6 : decode cX5_end 6 = .ok (.ifCond .lt 11, 3) := dk_155 0 11 (dk_at dksX5_end_0 6 rfl rfl)
theorem dX5_end_9 : decode cX5_end 9 = .ok (.iload_n 1, 1) := dk_27 (dk_at dksX5_end_0 9 rfl rfl)
theorem dX5_end_10 : decode cX5_end 10 = .ok (.aload_n 0, 1) := dk_42 (dk_at dksX5_end_0 10 rfl rfl)
theorem dX5_end_11 : decode cX5_end 11 = .ok (.getfield 7, 3) := dk_180 0 7 (dk_at dksX5_end_0 11 rfl rfl)
theorem dX5_end_14 : decode cX5_end 14 = .ok (.if_icmp .le 5, 3) := dk_164 0 5 (dk_at dksX5_end_0 14 rfl rfl)
theorem dX5_end_17 : decode cX5_end 17 = .ok (.iconst 0, 1) := dk_3 (dk_at dksX5_end_0 17 rfl rfl)
theorem dX5_end_18 : decode cX5_end 18 = .ok (.ireturn, 1) := dk_172 (dk_at dksX5_end_0 18 rfl rfl)
theorem dX5_end_19 : decode cX5_end 19 = .ok (.aload_n 0, 1) := dk_42 (dk_at dksX5_end_0 19 rfl rfl)
theorem dX5_end_20 : decode cX5_end 20 = .ok (.iload_n 1, 1) := dk_27 (dk_at dksX5_end_0 20 rfl rfl)
theorem dX5_end_21 : decode cX5_end 21 = .ok (.putfield 7, 3) := dk_181 0 7 (dk_at dksX5_end_0 21 rfl rfl)
theorem dX5_end_24 : decode cX5_end 24 = .ok (.iconst 1, 1) := dk_4 (dk_at dksX5_end_1 0 rfl rfl)
theorem dX5_end_25 : decode cX5_end 25 = .ok (.ireturn, 1) := dk_172 (dk_at dksX5_end_1 1 rfl rfl)
abbrev cX5_init : ByteArray := prog_12_method_10_code
def yX5_init : MethodName := ⟨RX5, "<init>", "()V"⟩
def dkwX5_init_12 : List UInt8 := [3, 7, 79, 42, 180, 0, 30, 4, 7, 79, 177]
abbrev dktX5_init_12 : List UInt8 := dkwX5_init_12 ++ []
def dkwX5_init_11 : List UInt8 := [8, 188, 10, 181, 0, 119, 42, 8, 188, 10, 181, 0, 122, 42, 8, 188, 10, 181, 0, 125, 42, 180, 0, 30]
abbrev dktX5_init_11 : List UInt8 := dkwX5_init_11 ++ dktX5_init_12
def dkwX5_init_10 : List UInt8 := [188, 10, 181, 0, 110, 42, 17, 0, 201, 188, 10, 181, 0, 113, 42, 17, 5, 0, 188, 10, 181, 0, 116, 42]
abbrev dktX5_init_10 : List UInt8 := dkwX5_init_10 ++ dktX5_init_11
def dkwX5_init_9 : List UInt8 := [181, 0, 101, 42, 17, 1, 0, 188, 10, 181, 0, 104, 42, 5, 188, 10, 181, 0, 107, 42, 17, 0, 201]
abbrev dktX5_init_9 : List UInt8 := dkwX5_init_9 ++ dktX5_init_10
def dkwX5_init_8 : List UInt8 := [17, 1, 0, 188, 4, 181, 0, 95, 42, 17, 1, 0, 188, 4, 181, 0, 98, 42, 17, 64, 0, 188, 10]
abbrev dktX5_init_8 : List UInt8 := dkwX5_init_8 ++ dktX5_init_9
def dkwX5_init_7 : List UInt8 := [2, 181, 0, 86, 42, 17, 1, 0, 188, 4, 181, 0, 89, 42, 17, 1, 0, 188, 4, 181, 0, 92, 42]
abbrev dktX5_init_7 : List UInt8 := dkwX5_init_7 ++ dktX5_init_8
def dkwX5_init_6 : List UInt8 := [181, 0, 74, 42, 16, 50, 181, 0, 77, 42, 16, 10, 181, 0, 80, 42, 16, 60, 188, 4, 181, 0, 83, 42]
abbrev dktX5_init_6 : List UInt8 := dkwX5_init_6 ++ dktX5_init_7
def dkwX5_init_5 : List UInt8 := [181, 0, 65, 42, 17, 6, 64, 188, 10, 181, 0, 68, 42, 16, 100, 188, 10, 181, 0, 71, 42, 16, 40]
abbrev dktX5_init_5 : List UInt8 := dkwX5_init_5 ++ dktX5_init_6
def dkwX5_init_4 : List UInt8 := [17, 0, 128, 188, 10, 181, 0, 59, 42, 17, 6, 64, 188, 10, 181, 0, 62, 42, 17, 6, 64, 188, 10]
abbrev dktX5_init_4 : List UInt8 := dkwX5_init_4 ++ dktX5_init_5
def dkwX5_init_3 : List UInt8 := [181, 0, 50, 42, 17, 0, 128, 188, 10, 181, 0, 53, 42, 17, 0, 128, 188, 10, 181, 0, 56, 42]
abbrev dktX5_init_3 : List UInt8 := dkwX5_init_3 ++ dktX5_init_4
def dkwX5_init_2 : List UInt8 := [42, 16, 8, 188, 10, 181, 0, 44, 42, 17, 0, 128, 188, 10, 181, 0, 47, 42, 17, 0, 128, 188, 10]
abbrev dktX5_init_2 : List UInt8 := dkwX5_init_2 ++ dktX5_init_3
def dkwX5_init_1 : List UInt8 := [17, 27, 30, 188, 10, 181, 0, 34, 42, 17, 9, 10, 188, 10, 181, 0, 37, 42, 6, 188, 4, 181, 0, 40]
abbrev dktX5_init_1 : List UInt8 := dkwX5_init_1 ++ dktX5_init_2
def dkwX5_init_0 : List UInt8 := [42, 183, 0, 24, 42, 17, 1, 184, 188, 8, 181, 0, 14, 42, 17, 9, 10, 188, 10, 181, 0, 30, 42]
abbrev dktX5_init_0 : List UInt8 := dkwX5_init_0 ++ dktX5_init_1
theorem dksX5_init_0 : cX5_init.data.toList.drop 0 = dktX5_init_0 := by decide +kernel
theorem dksX5_init_1 : cX5_init.data.toList.drop 23 = dktX5_init_1 := dk_seg dksX5_init_0 23 rfl rfl
theorem dksX5_init_2 : cX5_init.data.toList.drop 47 = dktX5_init_2 := dk_seg dksX5_init_1 24 rfl rfl
theorem dksX5_init_3 : cX5_init.data.toList.drop 70 = dktX5_init_3 := dk_seg dksX5_init_2 23 rfl rfl
theorem dksX5_init_4 : cX5_init.data.toList.drop 92 = dktX5_init_4 := dk_seg dksX5_init_3 22 rfl rfl
theorem dksX5_init_5 : cX5_init.data.toList.drop 115 = dktX5_init_5 := dk_seg dksX5_init_4 23 rfl rfl
theorem dksX5_init_6 : cX5_init.data.toList.drop 138 = dktX5_init_6 := dk_seg dksX5_init_5 23 rfl rfl
theorem dksX5_init_7 : cX5_init.data.toList.drop 162 = dktX5_init_7 := dk_seg dksX5_init_6 24 rfl rfl
theorem dksX5_init_8 : cX5_init.data.toList.drop 185 = dktX5_init_8 := dk_seg dksX5_init_7 23 rfl rfl
theorem dksX5_init_9 : cX5_init.data.toList.drop 208 = dktX5_init_9 := dk_seg dksX5_init_8 23 rfl rfl
theorem dksX5_init_10 : cX5_init.data.toList.drop 231 = dktX5_init_10 := dk_seg dksX5_init_9 23 rfl rfl
theorem dksX5_init_11 : cX5_init.data.toList.drop 255 = dktX5_init_11 := dk_seg dksX5_init_10 24 rfl rfl
theorem dksX5_init_12 : cX5_init.data.toList.drop 279 = dktX5_init_12 := dk_seg dksX5_init_11 24 rfl rfl
theorem dX5_init_0 : decode cX5_init 0 = .ok (.aload_n 0, 1) := dk_42 (dk_at dksX5_init_0 0 rfl rfl)
theorem dX5_init_1 : decode cX5_init 1 = .ok (.invokespecial 24, 3) := dk_183 0 24 (dk_at dksX5_init_0 1 rfl rfl)
theorem dX5_init_4 : decode cX5_init 4 = .ok (.aload_n 0, 1) := dk_42 (dk_at dksX5_init_0 4 rfl rfl)
theorem dX5_init_5 : decode cX5_init 5 = .ok (.sipush 440, 3) := dk_17 1 184 (dk_at dksX5_init_0 5 rfl rfl)
theorem dX5_init_8 : decode cX5_init 8 = .ok (.newarray .byte, 2) := dk_188_8 (dk_at dksX5_init_0 8 rfl rfl)
theorem dX5_init_10 : decode cX5_init 10 = .ok (.putfield 14, 3) := dk_181 0 14 (dk_at dksX5_init_0 10 rfl rfl)
theorem dX5_init_13 : decode cX5_init 13 = .ok (.aload_n 0, 1) := dk_42 (dk_at dksX5_init_0 13 rfl rfl)
theorem dX5_init_14 : decode cX5_init 14 = .ok (.sipush 2314, 3) := dk_17 9 10 (dk_at dksX5_init_0 14 rfl rfl)
theorem dX5_init_17 : decode cX5_init 17 = .ok (.newarray .int, 2) := dk_188_10 (dk_at dksX5_init_0 17 rfl rfl)
theorem dX5_init_19 : decode cX5_init 19 = .ok (.putfield 30, 3) := dk_181 0 30 (dk_at dksX5_init_0 19 rfl rfl)
theorem dX5_init_22 : decode cX5_init 22 = .ok (.aload_n 0, 1) := dk_42 (dk_at dksX5_init_0 22 rfl rfl)
theorem dX5_init_23 : decode cX5_init 23 = .ok (.sipush 6942, 3) := dk_17 27 30 (dk_at dksX5_init_1 0 rfl rfl)
theorem dX5_init_26 : decode cX5_init 26 = .ok (.newarray .int, 2) := dk_188_10 (dk_at dksX5_init_1 3 rfl rfl)
theorem dX5_init_28 : decode cX5_init 28 = .ok (.putfield 34, 3) := dk_181 0 34 (dk_at dksX5_init_1 5 rfl rfl)
theorem dX5_init_31 : decode cX5_init 31 = .ok (.aload_n 0, 1) := dk_42 (dk_at dksX5_init_1 8 rfl rfl)
theorem dX5_init_32 : decode cX5_init 32 = .ok (.sipush 2314, 3) := dk_17 9 10 (dk_at dksX5_init_1 9 rfl rfl)
theorem dX5_init_35 : decode cX5_init 35 = .ok (.newarray .int, 2) := dk_188_10 (dk_at dksX5_init_1 12 rfl rfl)
theorem dX5_init_37 : decode cX5_init 37 = .ok (.putfield 37, 3) := dk_181 0 37 (dk_at dksX5_init_1 14 rfl rfl)
theorem dX5_init_40 : decode cX5_init 40 = .ok (.aload_n 0, 1) := dk_42 (dk_at dksX5_init_1 17 rfl rfl)
theorem dX5_init_41 : decode cX5_init 41 = .ok (.iconst 3, 1) := dk_6 (dk_at dksX5_init_1 18 rfl rfl)
theorem dX5_init_42 : decode cX5_init 42 = .ok (.newarray .boolean, 2) := dk_188_4 (dk_at dksX5_init_1 19 rfl rfl)
theorem dX5_init_44 : decode cX5_init 44 = .ok (.putfield 40, 3) := dk_181 0 40 (dk_at dksX5_init_1 21 rfl rfl)
theorem dX5_init_47 : decode cX5_init 47 = .ok (.aload_n 0, 1) := dk_42 (dk_at dksX5_init_2 0 rfl rfl)
theorem dX5_init_48 : decode cX5_init 48 = .ok (.bipush 8, 2) := dk_16 8 (dk_at dksX5_init_2 1 rfl rfl)
theorem dX5_init_50 : decode cX5_init 50 = .ok (.newarray .int, 2) := dk_188_10 (dk_at dksX5_init_2 3 rfl rfl)
theorem dX5_init_52 : decode cX5_init 52 = .ok (.putfield 44, 3) := dk_181 0 44 (dk_at dksX5_init_2 5 rfl rfl)
theorem dX5_init_55 : decode cX5_init 55 = .ok (.aload_n 0, 1) := dk_42 (dk_at dksX5_init_2 8 rfl rfl)
theorem dX5_init_56 : decode cX5_init 56 = .ok (.sipush 128, 3) := dk_17 0 128 (dk_at dksX5_init_2 9 rfl rfl)
theorem dX5_init_59 : decode cX5_init 59 = .ok (.newarray .int, 2) := dk_188_10 (dk_at dksX5_init_2 12 rfl rfl)
theorem dX5_init_61 : decode cX5_init 61 = .ok (.putfield 47, 3) := dk_181 0 47 (dk_at dksX5_init_2 14 rfl rfl)
theorem dX5_init_64 : decode cX5_init 64 = .ok (.aload_n 0, 1) := dk_42 (dk_at dksX5_init_2 17 rfl rfl)
theorem dX5_init_65 : decode cX5_init 65 = .ok (.sipush 128, 3) := dk_17 0 128 (dk_at dksX5_init_2 18 rfl rfl)
theorem dX5_init_68 : decode cX5_init 68 = .ok (.newarray .int, 2) := dk_188_10 (dk_at dksX5_init_2 21 rfl rfl)
theorem dX5_init_70 : decode cX5_init 70 = .ok (.putfield 50, 3) := dk_181 0 50 (dk_at dksX5_init_3 0 rfl rfl)
theorem dX5_init_73 : decode cX5_init 73 = .ok (.aload_n 0, 1) := dk_42 (dk_at dksX5_init_3 3 rfl rfl)
theorem dX5_init_74 : decode cX5_init 74 = .ok (.sipush 128, 3) := dk_17 0 128 (dk_at dksX5_init_3 4 rfl rfl)
theorem dX5_init_77 : decode cX5_init 77 = .ok (.newarray .int, 2) := dk_188_10 (dk_at dksX5_init_3 7 rfl rfl)
theorem dX5_init_79 : decode cX5_init 79 = .ok (.putfield 53, 3) := dk_181 0 53 (dk_at dksX5_init_3 9 rfl rfl)
theorem dX5_init_82 : decode cX5_init 82 = .ok (.aload_n 0, 1) := dk_42 (dk_at dksX5_init_3 12 rfl rfl)
theorem dX5_init_83 : decode cX5_init 83 = .ok (.sipush 128, 3) := dk_17 0 128 (dk_at dksX5_init_3 13 rfl rfl)
theorem dX5_init_86 : decode cX5_init 86 = .ok (.newarray .int, 2) := dk_188_10 (dk_at dksX5_init_3 16 rfl rfl)
theorem dX5_init_88 : decode cX5_init 88 = .ok (.putfield 56, 3) := dk_181 0 56 (dk_at dksX5_init_3 18 rfl rfl)
theorem dX5_init_91 : decode cX5_init 91 = .ok (.aload_n 0, 1) := dk_42 (dk_at dksX5_init_3 21 rfl rfl)
theorem dX5_init_92 : decode cX5_init 92 = .ok (.sipush 128, 3) := dk_17 0 128 (dk_at dksX5_init_4 0 rfl rfl)
theorem dX5_init_95 : decode cX5_init 95 = .ok (.newarray .int, 2) := dk_188_10 (dk_at dksX5_init_4 3 rfl rfl)
theorem dX5_init_97 : decode cX5_init 97 = .ok (.putfield 59, 3) := dk_181 0 59 (dk_at dksX5_init_4 5 rfl rfl)
theorem dX5_init_100 : decode cX5_init 100 = .ok (.aload_n 0, 1) := dk_42 (dk_at dksX5_init_4 8 rfl rfl)
theorem dX5_init_101 : decode cX5_init 101 = .ok (.sipush 1600, 3) := dk_17 6 64 (dk_at dksX5_init_4 9 rfl rfl)
theorem dX5_init_104 : decode cX5_init 104 = .ok (.newarray .int, 2) := dk_188_10 (dk_at dksX5_init_4 12 rfl rfl)
theorem dX5_init_106 : decode cX5_init 106 = .ok (.putfield 62, 3) := dk_181 0 62 (dk_at dksX5_init_4 14 rfl rfl)
theorem dX5_init_109 : decode cX5_init 109 = .ok (.aload_n 0, 1) := dk_42 (dk_at dksX5_init_4 17 rfl rfl)
theorem dX5_init_110 : decode cX5_init 110 = .ok (.sipush 1600, 3) := dk_17 6 64 (dk_at dksX5_init_4 18 rfl rfl)
theorem dX5_init_113 : decode cX5_init 113 = .ok (.newarray .int, 2) := dk_188_10 (dk_at dksX5_init_4 21 rfl rfl)
theorem dX5_init_115 : decode cX5_init 115 = .ok (.putfield 65, 3) := dk_181 0 65 (dk_at dksX5_init_5 0 rfl rfl)
theorem dX5_init_118 : decode cX5_init 118 = .ok (.aload_n 0, 1) := dk_42 (dk_at dksX5_init_5 3 rfl rfl)
theorem dX5_init_119 : decode cX5_init 119 = .ok (.sipush 1600, 3) := dk_17 6 64 (dk_at dksX5_init_5 4 rfl rfl)
theorem dX5_init_122 : decode cX5_init 122 = .ok (.newarray .int, 2) := dk_188_10 (dk_at dksX5_init_5 7 rfl rfl)
theorem dX5_init_124 : decode cX5_init 124 = .ok (.putfield 68, 3) := dk_181 0 68 (dk_at dksX5_init_5 9 rfl rfl)
theorem dX5_init_127 : decode cX5_init 127 = .ok (.aload_n 0, 1) := dk_42 (dk_at dksX5_init_5 12 rfl rfl)
theorem dX5_init_128 : decode cX5_init 128 = .ok (.bipush 100, 2) := dk_16 100 (dk_at dksX5_init_5 13 rfl rfl)
theorem dX5_init_130 : decode cX5_init 130 = .ok (.newarray .int, 2) := dk_188_10 (dk_at dksX5_init_5 15 rfl rfl)
theorem dX5_init_132 : decode cX5_init 132 = .ok (.putfield 71, 3) := dk_181 0 71 (dk_at dksX5_init_5 17 rfl rfl)
theorem dX5_init_135 : decode cX5_init 135 = .ok (.aload_n 0, 1) := dk_42 (dk_at dksX5_init_5 20 rfl rfl)
theorem dX5_init_136 : decode cX5_init 136 = .ok (.bipush 40, 2) := dk_16 40 (dk_at dksX5_init_5 21 rfl rfl)
theorem dX5_init_138 : decode cX5_init 138 = .ok (.putfield 74, 3) := dk_181 0 74 (dk_at dksX5_init_6 0 rfl rfl)
theorem dX5_init_141 : decode cX5_init 141 = .ok (.aload_n 0, 1) := dk_42 (dk_at dksX5_init_6 3 rfl rfl)
theorem dX5_init_142 : decode cX5_init 142 = .ok (.bipush 50, 2) := dk_16 50 (dk_at dksX5_init_6 4 rfl rfl)
theorem dX5_init_144 : decode cX5_init 144 = .ok (.putfield 77, 3) := dk_181 0 77 (dk_at dksX5_init_6 6 rfl rfl)
theorem dX5_init_147 : decode cX5_init 147 = .ok (.aload_n 0, 1) := dk_42 (dk_at dksX5_init_6 9 rfl rfl)
theorem dX5_init_148 : decode cX5_init 148 = .ok (.bipush 10, 2) := dk_16 10 (dk_at dksX5_init_6 10 rfl rfl)
theorem dX5_init_150 : decode cX5_init 150 = .ok (.putfield 80, 3) := dk_181 0 80 (dk_at dksX5_init_6 12 rfl rfl)
theorem dX5_init_153 : decode cX5_init 153 = .ok (.aload_n 0, 1) := dk_42 (dk_at dksX5_init_6 15 rfl rfl)
theorem dX5_init_154 : decode cX5_init 154 = .ok (.bipush 60, 2) := dk_16 60 (dk_at dksX5_init_6 16 rfl rfl)
theorem dX5_init_156 : decode cX5_init 156 = .ok (.newarray .boolean, 2) := dk_188_4 (dk_at dksX5_init_6 18 rfl rfl)
theorem dX5_init_158 : decode cX5_init 158 = .ok (.putfield 83, 3) := dk_181 0 83 (dk_at dksX5_init_6 20 rfl rfl)
theorem dX5_init_161 : decode cX5_init 161 = .ok (.aload_n 0, 1) := dk_42 (dk_at dksX5_init_6 23 rfl rfl)
theorem dX5_init_162 : decode cX5_init 162 = .ok (.iconst (-1), 1) := dk_2 (dk_at dksX5_init_7 0 rfl rfl)
theorem dX5_init_163 : decode cX5_init 163 = .ok (.putfield 86, 3) := dk_181 0 86 (dk_at dksX5_init_7 1 rfl rfl)
theorem dX5_init_166 : decode cX5_init 166 = .ok (.aload_n 0, 1) := dk_42 (dk_at dksX5_init_7 4 rfl rfl)
theorem dX5_init_167 : decode cX5_init 167 = .ok (.sipush 256, 3) := dk_17 1 0 (dk_at dksX5_init_7 5 rfl rfl)
theorem dX5_init_170 : decode cX5_init 170 = .ok (.newarray .boolean, 2) := dk_188_4 (dk_at dksX5_init_7 8 rfl rfl)
theorem dX5_init_172 : decode cX5_init 172 = .ok (.putfield 89, 3) := dk_181 0 89 (dk_at dksX5_init_7 10 rfl rfl)
theorem dX5_init_175 : decode cX5_init 175 = .ok (.aload_n 0, 1) := dk_42 (dk_at dksX5_init_7 13 rfl rfl)
theorem dX5_init_176 : decode cX5_init 176 = .ok (.sipush 256, 3) := dk_17 1 0 (dk_at dksX5_init_7 14 rfl rfl)
theorem dX5_init_179 : decode cX5_init 179 = .ok (.newarray .boolean, 2) := dk_188_4 (dk_at dksX5_init_7 17 rfl rfl)
theorem dX5_init_181 : decode cX5_init 181 = .ok (.putfield 92, 3) := dk_181 0 92 (dk_at dksX5_init_7 19 rfl rfl)
theorem dX5_init_184 : decode cX5_init 184 = .ok (.aload_n 0, 1) := dk_42 (dk_at dksX5_init_7 22 rfl rfl)
theorem dX5_init_185 : decode cX5_init 185 = .ok (.sipush 256, 3) := dk_17 1 0 (dk_at dksX5_init_8 0 rfl rfl)
theorem dX5_init_188 : decode cX5_init 188 = .ok (.newarray .boolean, 2) := dk_188_4 (dk_at dksX5_init_8 3 rfl rfl)
theorem dX5_init_190 : decode cX5_init 190 = .ok (.putfield 95, 3) := dk_181 0 95 (dk_at dksX5_init_8 5 rfl rfl)
theorem dX5_init_193 : decode cX5_init 193 = .ok (.aload_n 0, 1) := dk_42 (dk_at dksX5_init_8 8 rfl rfl)
theorem dX5_init_194 : decode cX5_init 194 = .ok (.sipush 256, 3) := dk_17 1 0 (dk_at dksX5_init_8 9 rfl rfl)
theorem dX5_init_197 : decode cX5_init 197 = .ok (.newarray .boolean, 2) := dk_188_4 (dk_at dksX5_init_8 12 rfl rfl)
theorem dX5_init_199 : decode cX5_init 199 = .ok (.putfield 98, 3) := dk_181 0 98 (dk_at dksX5_init_8 14 rfl rfl)
theorem dX5_init_202 : decode cX5_init 202 = .ok (.aload_n 0, 1) := dk_42 (dk_at dksX5_init_8 17 rfl rfl)
theorem dX5_init_203 : decode cX5_init 203 = .ok (.sipush 16384, 3) := dk_17 64 0 (dk_at dksX5_init_8 18 rfl rfl)
theorem dX5_init_206 : decode cX5_init 206 = .ok (.newarray .int, 2) := dk_188_10 (dk_at dksX5_init_8 21 rfl rfl)
theorem dX5_init_208 : decode cX5_init 208 = .ok (.putfield 101, 3) := dk_181 0 101 (dk_at dksX5_init_9 0 rfl rfl)
theorem dX5_init_211 : decode cX5_init 211 = .ok (.aload_n 0, 1) := dk_42 (dk_at dksX5_init_9 3 rfl rfl)
theorem dX5_init_212 : decode cX5_init 212 = .ok (.sipush 256, 3) := dk_17 1 0 (dk_at dksX5_init_9 4 rfl rfl)
theorem dX5_init_215 : decode cX5_init 215 = .ok (.newarray .int, 2) := dk_188_10 (dk_at dksX5_init_9 7 rfl rfl)
theorem dX5_init_217 : decode cX5_init 217 = .ok (.putfield 104, 3) := dk_181 0 104 (dk_at dksX5_init_9 9 rfl rfl)
theorem dX5_init_220 : decode cX5_init 220 = .ok (.aload_n 0, 1) := dk_42 (dk_at dksX5_init_9 12 rfl rfl)
theorem dX5_init_221 : decode cX5_init 221 = .ok (.iconst 2, 1) := dk_5 (dk_at dksX5_init_9 13 rfl rfl)
theorem dX5_init_222 : decode cX5_init 222 = .ok (.newarray .int, 2) := dk_188_10 (dk_at dksX5_init_9 14 rfl rfl)
theorem dX5_init_224 : decode cX5_init 224 = .ok (.putfield 107, 3) := dk_181 0 107 (dk_at dksX5_init_9 16 rfl rfl)
theorem dX5_init_227 : decode cX5_init 227 = .ok (.aload_n 0, 1) := dk_42 (dk_at dksX5_init_9 19 rfl rfl)
theorem dX5_init_228 : decode cX5_init 228 = .ok (.sipush 201, 3) := dk_17 0 201 (dk_at dksX5_init_9 20 rfl rfl)
theorem dX5_init_231 : decode cX5_init 231 = .ok (.newarray .int, 2) := dk_188_10 (dk_at dksX5_init_10 0 rfl rfl)
theorem dX5_init_233 : decode cX5_init 233 = .ok (.putfield 110, 3) := dk_181 0 110 (dk_at dksX5_init_10 2 rfl rfl)
theorem dX5_init_236 : decode cX5_init 236 = .ok (.aload_n 0, 1) := dk_42 (dk_at dksX5_init_10 5 rfl rfl)
theorem dX5_init_237 : decode cX5_init 237 = .ok (.sipush 201, 3) := dk_17 0 201 (dk_at dksX5_init_10 6 rfl rfl)
theorem dX5_init_240 : decode cX5_init 240 = .ok (.newarray .int, 2) := dk_188_10 (dk_at dksX5_init_10 9 rfl rfl)
theorem dX5_init_242 : decode cX5_init 242 = .ok (.putfield 113, 3) := dk_181 0 113 (dk_at dksX5_init_10 11 rfl rfl)
theorem dX5_init_245 : decode cX5_init 245 = .ok (.aload_n 0, 1) := dk_42 (dk_at dksX5_init_10 14 rfl rfl)
theorem dX5_init_246 : decode cX5_init 246 = .ok (.sipush 1280, 3) := dk_17 5 0 (dk_at dksX5_init_10 15 rfl rfl)
theorem dX5_init_249 : decode cX5_init 249 = .ok (.newarray .int, 2) := dk_188_10 (dk_at dksX5_init_10 18 rfl rfl)
theorem dX5_init_251 : decode cX5_init 251 = .ok (.putfield 116, 3) := dk_181 0 116 (dk_at dksX5_init_10 20 rfl rfl)
theorem dX5_init_254 : decode cX5_init 254 = .ok (.aload_n 0, 1) := dk_42 (dk_at dksX5_init_10 23 rfl rfl)
theorem dX5_init_255 : decode cX5_init 255 = .ok (.iconst 5, 1) := dk_8 (dk_at dksX5_init_11 0 rfl rfl)
theorem dX5_init_256 : decode cX5_init 256 = .ok (.newarray .int, 2) := dk_188_10 (dk_at dksX5_init_11 1 rfl rfl)
theorem dX5_init_258 : decode cX5_init 258 = .ok (.putfield 119, 3) := dk_181 0 119 (dk_at dksX5_init_11 3 rfl rfl)
theorem dX5_init_261 : decode cX5_init 261 = .ok (.aload_n 0, 1) := dk_42 (dk_at dksX5_init_11 6 rfl rfl)
theorem dX5_init_262 : decode cX5_init 262 = .ok (.iconst 5, 1) := dk_8 (dk_at dksX5_init_11 7 rfl rfl)
theorem dX5_init_263 : decode cX5_init 263 = .ok (.newarray .int, 2) := dk_188_10 (dk_at dksX5_init_11 8 rfl rfl)
theorem dX5_init_265 : decode cX5_init 265 = .ok (.putfield 122, 3) := dk_181 0 122 (dk_at dksX5_init_11 10 rfl rfl)
theorem dX5_init_268 : decode cX5_init 268 = .ok (.aload_n 0, 1) := dk_42 (dk_at dksX5_init_11 13 rfl rfl)
theorem dX5_init_269 : decode cX5_init 269 = .ok (.iconst 5, 1) := dk_8 (dk_at dksX5_init_11 14 rfl rfl)
theorem dX5_init_270 : decode cX5_init 270 = .ok (.newarray .int, 2) := dk_188_10 (dk_at dksX5_init_11 15 rfl rfl)
theorem dX5_init_272 : decode cX5_init 272 = .ok (.putfield 125, 3) := dk_181 0 125 (dk_at dksX5_init_11 17 rfl rfl)
theorem dX5_init_275 : decode cX5_init 275 = .ok (.aload_n 0, 1) := dk_42 (dk_at dksX5_init_11 20 rfl rfl)
theorem dX5_init_276 : decode cX5_init 276 = .ok (.getfield 30, 3) := dk_180 0 30 (dk_at dksX5_init_11 21 rfl rfl)
theorem dX5_init_279 : decode cX5_init 279 = .ok (.iconst 0, 1) := dk_3 (dk_at dksX5_init_12 0 rfl rfl)
theorem dX5_init_280 : decode cX5_init 280 = .ok (.iconst 4, 1) := dk_7 (dk_at dksX5_init_12 1 rfl rfl)
theorem dX5_init_281 : decode cX5_init 281 = .ok (.iastore, 1) := dk_79 (dk_at dksX5_init_12 2 rfl rfl)
theorem dX5_init_282 : decode cX5_init 282 = .ok (.aload_n 0, 1) := dk_42 (dk_at dksX5_init_12 3 rfl rfl)
theorem dX5_init_283 : decode cX5_init 283 = .ok (.getfield 30, 3) := dk_180 0 30 (dk_at dksX5_init_12 4 rfl rfl)
theorem dX5_init_286 : decode cX5_init 286 = .ok (.iconst 1, 1) := dk_4 (dk_at dksX5_init_12 7 rfl rfl)
theorem dX5_init_287 : decode cX5_init 287 = .ok (.iconst 4, 1) := dk_7 (dk_at dksX5_init_12 8 rfl rfl)
theorem dX5_init_288 : decode cX5_init 288 = .ok (.iastore, 1) := dk_79 (dk_at dksX5_init_12 9 rfl rfl)
theorem dX5_init_289 : decode cX5_init 289 = .ok (.return_, 1) := dk_177 (dk_at dksX5_init_12 10 rfl rfl)
abbrev cX5_park : ByteArray := prog_12_method_22_code
def yX5_park : MethodName := ⟨RX5, "park", "(II)Z"⟩
def dkwX5_park_7 : List UInt8 := [182, 0, 151, 132, 3, 1, 167, 255, 201, 4, 172]
abbrev dktX5_park_7 : List UInt8 := dkwX5_park_7 ++ []
def dkwX5_park_6 : List UInt8 := [182, 0, 147, 16, 8, 108, 5, 112, 182, 0, 151, 42, 29, 5, 42, 29, 182, 0, 147, 16, 16, 108]
abbrev dktX5_park_6 : List UInt8 := dkwX5_park_6 ++ dktX5_park_7
def dkwX5_park_5 : List UInt8 := [162, 0, 53, 42, 29, 3, 42, 29, 182, 0, 147, 16, 8, 112, 182, 0, 151, 42, 29, 4, 42, 29]
abbrev dktX5_park_5 : List UInt8 := dkwX5_park_5 ++ dktX5_park_6
def dkwX5_park_4 : List UInt8 := [167, 255, 239, 42, 180, 0, 30, 3, 27, 79, 42, 180, 0, 30, 4, 28, 79, 3, 62, 29, 42, 180, 0, 18]
abbrev dktX5_park_4 : List UInt8 := dkwX5_park_4 ++ dktX5_park_5
def dkwX5_park_3 : List UInt8 := [167, 255, 230, 3, 62, 29, 17, 9, 10, 162, 0, 16, 42, 180, 0, 30, 29, 3, 79, 132, 3, 1]
abbrev dktX5_park_3 : List UInt8 := dkwX5_park_3 ++ dktX5_park_4
def dkwX5_park_2 : List UInt8 := [180, 0, 18, 162, 0, 24, 42, 29, 182, 0, 147, 16, 8, 112, 16, 7, 160, 0, 5, 3, 172, 132, 3, 1]
abbrev dktX5_park_2 : List UInt8 := dkwX5_park_2 ++ dktX5_park_3
def dkwX5_park_1 : List UInt8 := [184, 0, 132, 153, 0, 13, 42, 180, 0, 18, 27, 28, 104, 159, 0, 5, 3, 172, 3, 62, 29, 42]
abbrev dktX5_park_1 : List UInt8 := dkwX5_park_1 ++ dktX5_park_2
def dkwX5_park_0 : List UInt8 := [42, 3, 181, 0, 1, 42, 182, 0, 144, 27, 7, 16, 16, 184, 0, 132, 153, 0, 23, 28, 7, 16, 16]
abbrev dktX5_park_0 : List UInt8 := dkwX5_park_0 ++ dktX5_park_1
theorem dksX5_park_0 : cX5_park.data.toList.drop 0 = dktX5_park_0 := by decide +kernel
theorem dksX5_park_1 : cX5_park.data.toList.drop 23 = dktX5_park_1 := dk_seg dksX5_park_0 23 rfl rfl
theorem dksX5_park_2 : cX5_park.data.toList.drop 45 = dktX5_park_2 := dk_seg dksX5_park_1 22 rfl rfl
theorem dksX5_park_3 : cX5_park.data.toList.drop 69 = dktX5_park_3 := dk_seg dksX5_park_2 24 rfl rfl
theorem dksX5_park_4 : cX5_park.data.toList.drop 91 = dktX5_park_4 := dk_seg dksX5_park_3 22 rfl rfl
theorem dksX5_park_5 : cX5_park.data.toList.drop 115 = dktX5_park_5 := dk_seg dksX5_park_4 24 rfl rfl
theorem dksX5_park_6 : cX5_park.data.toList.drop 137 = dktX5_park_6 := dk_seg dksX5_park_5 22 rfl rfl
theorem dksX5_park_7 : cX5_park.data.toList.drop 159 = dktX5_park_7 := dk_seg dksX5_park_6 22 rfl rfl
theorem dX5_park_0 : decode cX5_park 0 = .ok (.aload_n 0, 1) := dk_42 (dk_at dksX5_park_0 0 rfl rfl)
theorem dX5_park_1 : decode cX5_park 1 = .ok (.iconst 0, 1) := dk_3 (dk_at dksX5_park_0 1 rfl rfl)
theorem dX5_park_2 : decode cX5_park 2 = .ok (.putfield 1, 3) := dk_181 0 1 (dk_at dksX5_park_0 2 rfl rfl)
theorem dX5_park_5 : decode cX5_park 5 = .ok (.aload_n 0, 1) := dk_42 (dk_at dksX5_park_0 5 rfl rfl)
theorem dX5_park_6 : decode cX5_park 6 = .ok (.invokevirtual 144, 3) := dk_182 0 144 (dk_at dksX5_park_0 6 rfl rfl)
theorem dX5_park_9 : decode cX5_park 9 = .ok (.iload_n 1, 1) := dk_27 (dk_at dksX5_park_0 9 rfl rfl)
theorem dX5_park_10 : decode cX5_park 10 = .ok (.iconst 4, 1) := dk_7 (dk_at dksX5_park_0 10 rfl rfl)
theorem dX5_park_11 : decode cX5_park 11 = .ok (.bipush 16, 2) := dk_16 16 (dk_at dksX5_park_0 11 rfl rfl)
theorem dX5_park_13 : decode cX5_park 13 = .ok (.invokestatic 132, 3) := dk_184 0 132 (dk_at dksX5_park_0 13 rfl rfl)
theorem dX5_park_16 : decode cX5_park 16 = .ok (.ifCond .eq 23, 3) := dk_153 0 23 (dk_at dksX5_park_0 16 rfl rfl)
theorem dX5_park_19 : decode cX5_park 19 = .ok (.iload_n 2, 1) := dk_28 (dk_at dksX5_park_0 19 rfl rfl)
theorem dX5_park_20 : decode cX5_park 20 = .ok (.iconst 4, 1) := dk_7 (dk_at dksX5_park_0 20 rfl rfl)
theorem dX5_park_21 : decode cX5_park 21 = .ok (.bipush 16, 2) := dk_16 16 (dk_at dksX5_park_0 21 rfl rfl)
theorem dX5_park_23 : decode cX5_park 23 = .ok (.invokestatic 132, 3) := dk_184 0 132 (dk_at dksX5_park_1 0 rfl rfl)
theorem dX5_park_26 : decode cX5_park 26 = .ok (.ifCond .eq 13, 3) := dk_153 0 13 (dk_at dksX5_park_1 3 rfl rfl)
theorem dX5_park_29 : decode cX5_park 29 = .ok (.aload_n 0, 1) := dk_42 (dk_at dksX5_park_1 6 rfl rfl)
theorem dX5_park_30 : decode cX5_park 30 = .ok (.getfield 18, 3) := dk_180 0 18 (dk_at dksX5_park_1 7 rfl rfl)
theorem dX5_park_33 : decode cX5_park 33 = .ok (.iload_n 1, 1) := dk_27 (dk_at dksX5_park_1 10 rfl rfl)
theorem dX5_park_34 : decode cX5_park 34 = .ok (.iload_n 2, 1) := dk_28 (dk_at dksX5_park_1 11 rfl rfl)
theorem dX5_park_35 : decode cX5_park 35 = .ok (.imul, 1) := dk_104 (dk_at dksX5_park_1 12 rfl rfl)
theorem dX5_park_36 : decode cX5_park 36 = .ok (.if_icmp .eq 5, 3) := dk_159 0 5 (dk_at dksX5_park_1 13 rfl rfl)
theorem dX5_park_39 : decode cX5_park 39 = .ok (.iconst 0, 1) := dk_3 (dk_at dksX5_park_1 16 rfl rfl)
theorem dX5_park_40 : decode cX5_park 40 = .ok (.ireturn, 1) := dk_172 (dk_at dksX5_park_1 17 rfl rfl)
theorem dX5_park_41 : decode cX5_park 41 = .ok (.iconst 0, 1) := dk_3 (dk_at dksX5_park_1 18 rfl rfl)
theorem dX5_park_42 : decode cX5_park 42 = .ok (.istore_n 3, 1) := dk_62 (dk_at dksX5_park_1 19 rfl rfl)
theorem dX5_park_43 : decode cX5_park 43 = .ok (.iload_n 3, 1) := dk_29 (dk_at dksX5_park_1 20 rfl rfl)
theorem dX5_park_44 : decode cX5_park 44 = .ok (.aload_n 0, 1) := dk_42 (dk_at dksX5_park_1 21 rfl rfl)
theorem dX5_park_45 : decode cX5_park 45 = .ok (.getfield 18, 3) := dk_180 0 18 (dk_at dksX5_park_2 0 rfl rfl)
theorem dX5_park_48 : decode cX5_park 48 = .ok (.if_icmp .ge 24, 3) := dk_162 0 24 (dk_at dksX5_park_2 3 rfl rfl)
theorem dX5_park_51 : decode cX5_park 51 = .ok (.aload_n 0, 1) := dk_42 (dk_at dksX5_park_2 6 rfl rfl)
theorem dX5_park_52 : decode cX5_park 52 = .ok (.iload_n 3, 1) := dk_29 (dk_at dksX5_park_2 7 rfl rfl)
theorem dX5_park_53 : decode cX5_park 53 = .ok (.invokevirtual 147, 3) := dk_182 0 147 (dk_at dksX5_park_2 8 rfl rfl)
theorem dX5_park_56 : decode cX5_park 56 = .ok (.bipush 8, 2) := dk_16 8 (dk_at dksX5_park_2 11 rfl rfl)
theorem dX5_park_58 : decode cX5_park 58 = .ok (.irem, 1) := dk_112 (dk_at dksX5_park_2 13 rfl rfl)
theorem dX5_park_59 : decode cX5_park 59 = .ok (.bipush 7, 2) := dk_16 7 (dk_at dksX5_park_2 14 rfl rfl)
theorem dX5_park_61 : decode cX5_park 61 = .ok (.if_icmp .ne 5, 3) := dk_160 0 5 (dk_at dksX5_park_2 16 rfl rfl)
theorem dX5_park_64 : decode cX5_park 64 = .ok (.iconst 0, 1) := dk_3 (dk_at dksX5_park_2 19 rfl rfl)
theorem dX5_park_65 : decode cX5_park 65 = .ok (.ireturn, 1) := dk_172 (dk_at dksX5_park_2 20 rfl rfl)
theorem dX5_park_66 : decode cX5_park 66 = .ok (.iinc 3 1, 3) := dk_132 3 1 (dk_at dksX5_park_2 21 rfl rfl)
theorem dX5_park_69 : decode cX5_park 69 = .ok (.goto (-26), 3) := dk_167 255 230 (dk_at dksX5_park_3 0 rfl rfl)
theorem dX5_park_72 : decode cX5_park 72 = .ok (.iconst 0, 1) := dk_3 (dk_at dksX5_park_3 3 rfl rfl)
theorem dX5_park_73 : decode cX5_park 73 = .ok (.istore_n 3, 1) := dk_62 (dk_at dksX5_park_3 4 rfl rfl)
theorem dX5_park_74 : decode cX5_park 74 = .ok (.iload_n 3, 1) := dk_29 (dk_at dksX5_park_3 5 rfl rfl)
theorem dX5_park_75 : decode cX5_park 75 = .ok (.sipush 2314, 3) := dk_17 9 10 (dk_at dksX5_park_3 6 rfl rfl)
theorem dX5_park_78 : decode cX5_park 78 = .ok (.if_icmp .ge 16, 3) := dk_162 0 16 (dk_at dksX5_park_3 9 rfl rfl)
theorem dX5_park_81 : decode cX5_park 81 = .ok (.aload_n 0, 1) := dk_42 (dk_at dksX5_park_3 12 rfl rfl)
theorem dX5_park_82 : decode cX5_park 82 = .ok (.getfield 30, 3) := dk_180 0 30 (dk_at dksX5_park_3 13 rfl rfl)
theorem dX5_park_85 : decode cX5_park 85 = .ok (.iload_n 3, 1) := dk_29 (dk_at dksX5_park_3 16 rfl rfl)
theorem dX5_park_86 : decode cX5_park 86 = .ok (.iconst 0, 1) := dk_3 (dk_at dksX5_park_3 17 rfl rfl)
theorem dX5_park_87 : decode cX5_park 87 = .ok (.iastore, 1) := dk_79 (dk_at dksX5_park_3 18 rfl rfl)
theorem dX5_park_88 : decode cX5_park 88 = .ok (.iinc 3 1, 3) := dk_132 3 1 (dk_at dksX5_park_3 19 rfl rfl)
theorem dX5_park_91 : decode cX5_park 91 = .ok (.goto (-17), 3) := dk_167 255 239 (dk_at dksX5_park_4 0 rfl rfl)
theorem dX5_park_94 : decode cX5_park 94 = .ok (.aload_n 0, 1) := dk_42 (dk_at dksX5_park_4 3 rfl rfl)
theorem dX5_park_95 : decode cX5_park 95 = .ok (.getfield 30, 3) := dk_180 0 30 (dk_at dksX5_park_4 4 rfl rfl)
theorem dX5_park_98 : decode cX5_park 98 = .ok (.iconst 0, 1) := dk_3 (dk_at dksX5_park_4 7 rfl rfl)
theorem dX5_park_99 : decode cX5_park 99 = .ok (.iload_n 1, 1) := dk_27 (dk_at dksX5_park_4 8 rfl rfl)
theorem dX5_park_100 : decode cX5_park 100 = .ok (.iastore, 1) := dk_79 (dk_at dksX5_park_4 9 rfl rfl)
theorem dX5_park_101 : decode cX5_park 101 = .ok (.aload_n 0, 1) := dk_42 (dk_at dksX5_park_4 10 rfl rfl)
theorem dX5_park_102 : decode cX5_park 102 = .ok (.getfield 30, 3) := dk_180 0 30 (dk_at dksX5_park_4 11 rfl rfl)
theorem dX5_park_105 : decode cX5_park 105 = .ok (.iconst 1, 1) := dk_4 (dk_at dksX5_park_4 14 rfl rfl)
theorem dX5_park_106 : decode cX5_park 106 = .ok (.iload_n 2, 1) := dk_28 (dk_at dksX5_park_4 15 rfl rfl)
theorem dX5_park_107 : decode cX5_park 107 = .ok (.iastore, 1) := dk_79 (dk_at dksX5_park_4 16 rfl rfl)
theorem dX5_park_108 : decode cX5_park 108 = .ok (.iconst 0, 1) := dk_3 (dk_at dksX5_park_4 17 rfl rfl)
theorem dX5_park_109 : decode cX5_park 109 = .ok (.istore_n 3, 1) := dk_62 (dk_at dksX5_park_4 18 rfl rfl)
theorem dX5_park_110 : decode cX5_park 110 = .ok (.iload_n 3, 1) := dk_29 (dk_at dksX5_park_4 19 rfl rfl)
theorem dX5_park_111 : decode cX5_park 111 = .ok (.aload_n 0, 1) := dk_42 (dk_at dksX5_park_4 20 rfl rfl)
theorem dX5_park_112 : decode cX5_park 112 = .ok (.getfield 18, 3) := dk_180 0 18 (dk_at dksX5_park_4 21 rfl rfl)
theorem dX5_park_115 : decode cX5_park 115 = .ok (.if_icmp .ge 53, 3) := dk_162 0 53 (dk_at dksX5_park_5 0 rfl rfl)
theorem dX5_park_118 : decode cX5_park 118 = .ok (.aload_n 0, 1) := dk_42 (dk_at dksX5_park_5 3 rfl rfl)
theorem dX5_park_119 : decode cX5_park 119 = .ok (.iload_n 3, 1) := dk_29 (dk_at dksX5_park_5 4 rfl rfl)
theorem dX5_park_120 : decode cX5_park 120 = .ok (.iconst 0, 1) := dk_3 (dk_at dksX5_park_5 5 rfl rfl)
theorem dX5_park_121 : decode cX5_park 121 = .ok (.aload_n 0, 1) := dk_42 (dk_at dksX5_park_5 6 rfl rfl)
theorem dX5_park_122 : decode cX5_park 122 = .ok (.iload_n 3, 1) := dk_29 (dk_at dksX5_park_5 7 rfl rfl)
theorem dX5_park_123 : decode cX5_park 123 = .ok (.invokevirtual 147, 3) := dk_182 0 147 (dk_at dksX5_park_5 8 rfl rfl)
theorem dX5_park_126 : decode cX5_park 126 = .ok (.bipush 8, 2) := dk_16 8 (dk_at dksX5_park_5 11 rfl rfl)
theorem dX5_park_128 : decode cX5_park 128 = .ok (.irem, 1) := dk_112 (dk_at dksX5_park_5 13 rfl rfl)
theorem dX5_park_129 : decode cX5_park 129 = .ok (.invokevirtual 151, 3) := dk_182 0 151 (dk_at dksX5_park_5 14 rfl rfl)
theorem dX5_park_132 : decode cX5_park 132 = .ok (.aload_n 0, 1) := dk_42 (dk_at dksX5_park_5 17 rfl rfl)
theorem dX5_park_133 : decode cX5_park 133 = .ok (.iload_n 3, 1) := dk_29 (dk_at dksX5_park_5 18 rfl rfl)
theorem dX5_park_134 : decode cX5_park 134 = .ok (.iconst 1, 1) := dk_4 (dk_at dksX5_park_5 19 rfl rfl)
theorem dX5_park_135 : decode cX5_park 135 = .ok (.aload_n 0, 1) := dk_42 (dk_at dksX5_park_5 20 rfl rfl)
theorem dX5_park_136 : decode cX5_park 136 = .ok (.iload_n 3, 1) := dk_29 (dk_at dksX5_park_5 21 rfl rfl)
theorem dX5_park_137 : decode cX5_park 137 = .ok (.invokevirtual 147, 3) := dk_182 0 147 (dk_at dksX5_park_6 0 rfl rfl)
theorem dX5_park_140 : decode cX5_park 140 = .ok (.bipush 8, 2) := dk_16 8 (dk_at dksX5_park_6 3 rfl rfl)
theorem dX5_park_142 : decode cX5_park 142 = .ok (.idiv, 1) := dk_108 (dk_at dksX5_park_6 5 rfl rfl)
theorem dX5_park_143 : decode cX5_park 143 = .ok (.iconst 2, 1) := dk_5 (dk_at dksX5_park_6 6 rfl rfl)
theorem dX5_park_144 : decode cX5_park 144 = .ok (.irem, 1) := dk_112 (dk_at dksX5_park_6 7 rfl rfl)
theorem dX5_park_145 : decode cX5_park 145 = .ok (.invokevirtual 151, 3) := dk_182 0 151 (dk_at dksX5_park_6 8 rfl rfl)
theorem dX5_park_148 : decode cX5_park 148 = .ok (.aload_n 0, 1) := dk_42 (dk_at dksX5_park_6 11 rfl rfl)
theorem dX5_park_149 : decode cX5_park 149 = .ok (.iload_n 3, 1) := dk_29 (dk_at dksX5_park_6 12 rfl rfl)
theorem dX5_park_150 : decode cX5_park 150 = .ok (.iconst 2, 1) := dk_5 (dk_at dksX5_park_6 13 rfl rfl)
theorem dX5_park_151 : decode cX5_park 151 = .ok (.aload_n 0, 1) := dk_42 (dk_at dksX5_park_6 14 rfl rfl)
theorem dX5_park_152 : decode cX5_park 152 = .ok (.iload_n 3, 1) := dk_29 (dk_at dksX5_park_6 15 rfl rfl)
theorem dX5_park_153 : decode cX5_park 153 = .ok (.invokevirtual 147, 3) := dk_182 0 147 (dk_at dksX5_park_6 16 rfl rfl)
theorem dX5_park_156 : decode cX5_park 156 = .ok (.bipush 16, 2) := dk_16 16 (dk_at dksX5_park_6 19 rfl rfl)
theorem dX5_park_158 : decode cX5_park 158 = .ok (.idiv, 1) := dk_108 (dk_at dksX5_park_6 21 rfl rfl)
theorem dX5_park_159 : decode cX5_park 159 = .ok (.invokevirtual 151, 3) := dk_182 0 151 (dk_at dksX5_park_7 0 rfl rfl)
theorem dX5_park_162 : decode cX5_park 162 = .ok (.iinc 3 1, 3) := dk_132 3 1 (dk_at dksX5_park_7 3 rfl rfl)
theorem dX5_park_165 : decode cX5_park 165 = .ok (.goto (-55), 3) := dk_167 255 201 (dk_at dksX5_park_7 6 rfl rfl)
theorem dX5_park_168 : decode cX5_park 168 = .ok (.iconst 1, 1) := dk_4 (dk_at dksX5_park_7 9 rfl rfl)
theorem dX5_park_169 : decode cX5_park 169 = .ok (.ireturn, 1) := dk_172 (dk_at dksX5_park_7 10 rfl rfl)
abbrev cX5_taken : ByteArray := prog_12_method_6_code
def yX5_taken : MethodName := ⟨RX5, "taken", "()V"⟩
def dkwX5_taken_0 : List UInt8 := [42, 42, 180, 0, 7, 181, 0, 18, 42, 3, 181, 0, 7, 42, 3, 181, 0, 21, 177]
abbrev dktX5_taken_0 : List UInt8 := dkwX5_taken_0 ++ []
theorem dksX5_taken_0 : cX5_taken.data.toList.drop 0 = dktX5_taken_0 := by decide +kernel
theorem dX5_taken_0 : decode cX5_taken 0 = .ok (.aload_n 0, 1) := dk_42 (dk_at dksX5_taken_0 0 rfl rfl)
theorem dX5_taken_1 : decode cX5_taken 1 = .ok (.aload_n 0, 1) := dk_42 (dk_at dksX5_taken_0 1 rfl rfl)
theorem dX5_taken_2 : decode cX5_taken 2 = .ok (.getfield 7, 3) := dk_180 0 7 (dk_at dksX5_taken_0 2 rfl rfl)
theorem dX5_taken_5 : decode cX5_taken 5 = .ok (.putfield 18, 3) := dk_181 0 18 (dk_at dksX5_taken_0 5 rfl rfl)
theorem dX5_taken_8 : decode cX5_taken 8 = .ok (.aload_n 0, 1) := dk_42 (dk_at dksX5_taken_0 8 rfl rfl)
theorem dX5_taken_9 : decode cX5_taken 9 = .ok (.iconst 0, 1) := dk_3 (dk_at dksX5_taken_0 9 rfl rfl)
theorem dX5_taken_10 : decode cX5_taken 10 = .ok (.putfield 7, 3) := dk_181 0 7 (dk_at dksX5_taken_0 10 rfl rfl)
theorem dX5_taken_13 : decode cX5_taken 13 = .ok (.aload_n 0, 1) := dk_42 (dk_at dksX5_taken_0 13 rfl rfl)
theorem dX5_taken_14 : decode cX5_taken 14 = .ok (.iconst 0, 1) := dk_3 (dk_at dksX5_taken_0 14 rfl rfl)
theorem dX5_taken_15 : decode cX5_taken 15 = .ok (.putfield 21, 3) := dk_181 0 21 (dk_at dksX5_taken_0 15 rfl rfl)
theorem dX5_taken_18 : decode cX5_taken 18 = .ok (.return_, 1) := dk_177 (dk_at dksX5_taken_0 18 rfl rfl)
abbrev cX5_isIn : ByteArray := prog_12_method_7_code
def yX5_isIn : MethodName := ⟨RX5, "isIn", "(III)Z"⟩
def dkwX5_isIn_0 : List UInt8 := [26, 27, 161, 0, 12, 26, 28, 163, 0, 7, 4, 167, 0, 4, 3, 172]
abbrev dktX5_isIn_0 : List UInt8 := dkwX5_isIn_0 ++ []
theorem dksX5_isIn_0 : cX5_isIn.data.toList.drop 0 = dktX5_isIn_0 := by decide +kernel
theorem dX5_isIn_0 : decode cX5_isIn 0 = .ok (.iload_n 0, 1) := dk_26 (dk_at dksX5_isIn_0 0 rfl rfl)
theorem dX5_isIn_1 : decode cX5_isIn 1 = .ok (.iload_n 1, 1) := dk_27 (dk_at dksX5_isIn_0 1 rfl rfl)
theorem dX5_isIn_2 : decode cX5_isIn 2 = .ok (.if_icmp .lt 12, 3) := dk_161 0 12 (dk_at dksX5_isIn_0 2 rfl rfl)
theorem dX5_isIn_5 : decode cX5_isIn 5 = .ok (.iload_n 0, 1) := dk_26 (dk_at dksX5_isIn_0 5 rfl rfl)
theorem dX5_isIn_6 : decode cX5_isIn 6 = .ok (.iload_n 2, 1) := dk_28 (dk_at dksX5_isIn_0 6 rfl rfl)
theorem dX5_isIn_7 : decode cX5_isIn 7 = .ok (.if_icmp .gt 7, 3) := dk_163 0 7 (dk_at dksX5_isIn_0 7 rfl rfl)
theorem dX5_isIn_10 : decode cX5_isIn 10 = .ok (.iconst 1, 1) := dk_4 (dk_at dksX5_isIn_0 10 rfl rfl)
theorem dX5_isIn_11 : decode cX5_isIn 11 = .ok (.goto 4, 3) := dk_167 0 4 (dk_at dksX5_isIn_0 11 rfl rfl)
theorem dX5_isIn_14 : decode cX5_isIn 14 = .ok (.iconst 0, 1) := dk_3 (dk_at dksX5_isIn_0 14 rfl rfl)
theorem dX5_isIn_15 : decode cX5_isIn 15 = .ok (.ireturn, 1) := dk_172 (dk_at dksX5_isIn_0 15 rfl rfl)
abbrev cX5_octet : ByteArray := prog_12_method_9_code
def yX5_octet : MethodName := ⟨RX5, "octet", "(I)I"⟩
def dkwX5_octet_0 : List UInt8 := [42, 180, 0, 14, 27, 51, 17, 0, 255, 126, 172]
abbrev dktX5_octet_0 : List UInt8 := dkwX5_octet_0 ++ []
theorem dksX5_octet_0 : cX5_octet.data.toList.drop 0 = dktX5_octet_0 := by decide +kernel
theorem dX5_octet_0 : decode cX5_octet 0 = .ok (.aload_n 0, 1) := dk_42 (dk_at dksX5_octet_0 0 rfl rfl)
theorem dX5_octet_1 : decode cX5_octet 1 = .ok (.getfield 14, 3) := dk_180 0 14 (dk_at dksX5_octet_0 1 rfl rfl)
theorem dX5_octet_4 : decode cX5_octet 4 = .ok (.iload_n 1, 1) := dk_27 (dk_at dksX5_octet_0 4 rfl rfl)
theorem dX5_octet_5 : decode cX5_octet 5 = .ok (.baload, 1) := dk_51 (dk_at dksX5_octet_0 5 rfl rfl)
theorem dX5_octet_6 : decode cX5_octet 6 = .ok (.sipush 255, 3) := dk_17 0 255 (dk_at dksX5_octet_0 6 rfl rfl)
theorem dX5_octet_9 : decode cX5_octet 9 = .ok (.iand, 1) := dk_126 (dk_at dksX5_octet_0 9 rfl rfl)
theorem dX5_octet_10 : decode cX5_octet 10 = .ok (.ireturn, 1) := dk_172 (dk_at dksX5_octet_0 10 rfl rfl)
abbrev cX5_set : ByteArray := prog_12_method_14_code
def yX5_set : MethodName := ⟨RX5, "set", "(III)V"⟩
def dkwX5_set_0 : List UInt8 := [42, 180, 0, 30, 17, 2, 10, 16, 7, 27, 104, 96, 28, 96, 29, 79, 177]
abbrev dktX5_set_0 : List UInt8 := dkwX5_set_0 ++ []
theorem dksX5_set_0 : cX5_set.data.toList.drop 0 = dktX5_set_0 := by decide +kernel
theorem dX5_set_0 : decode cX5_set 0 = .ok (.aload_n 0, 1) := dk_42 (dk_at dksX5_set_0 0 rfl rfl)
theorem dX5_set_1 : decode cX5_set 1 = .ok (.getfield 30, 3) := dk_180 0 30 (dk_at dksX5_set_0 1 rfl rfl)
theorem dX5_set_4 : decode cX5_set 4 = .ok (.sipush 522, 3) := dk_17 2 10 (dk_at dksX5_set_0 4 rfl rfl)
theorem dX5_set_7 : decode cX5_set 7 = .ok (.bipush 7, 2) := dk_16 7 (dk_at dksX5_set_0 7 rfl rfl)
theorem dX5_set_9 : decode cX5_set 9 = .ok (.iload_n 1, 1) := dk_27 (dk_at dksX5_set_0 9 rfl rfl)
theorem dX5_set_10 : decode cX5_set 10 = .ok (.imul, 1) := dk_104 (dk_at dksX5_set_0 10 rfl rfl)
theorem dX5_set_11 : decode cX5_set 11 = .ok (.iadd, 1) := dk_96 (dk_at dksX5_set_0 11 rfl rfl)
theorem dX5_set_12 : decode cX5_set 12 = .ok (.iload_n 2, 1) := dk_28 (dk_at dksX5_set_0 12 rfl rfl)
theorem dX5_set_13 : decode cX5_set 13 = .ok (.iadd, 1) := dk_96 (dk_at dksX5_set_0 13 rfl rfl)
theorem dX5_set_14 : decode cX5_set 14 = .ok (.iload_n 3, 1) := dk_29 (dk_at dksX5_set_0 14 rfl rfl)
theorem dX5_set_15 : decode cX5_set 15 = .ok (.iastore, 1) := dk_79 (dk_at dksX5_set_0 15 rfl rfl)
theorem dX5_set_16 : decode cX5_set 16 = .ok (.return_, 1) := dk_177 (dk_at dksX5_set_0 16 rfl rfl)
abbrev cX5_door : ByteArray := prog_12_method_23_code
def yX5_door : MethodName := ⟨RX5, "door", "(I)I"⟩
def dkwX5_door_3 : List UInt8 := [4, 100, 172]
abbrev dktX5_door_3 : List UInt8 := dkwX5_door_3 ++ []
def dkwX5_door_2 : List UInt8 := [180, 0, 30, 5, 46, 96, 27, 79, 42, 180, 0, 30, 5, 92, 46, 4, 96, 79, 42, 180, 0, 30, 5, 46]
abbrev dktX5_door_2 : List UInt8 := dkwX5_door_2 ++ dktX5_door_3
def dkwX5_door_1 : List UInt8 := [42, 27, 182, 0, 158, 153, 0, 11, 42, 27, 182, 0, 161, 153, 0, 5, 2, 172, 42, 180, 0, 30, 6, 42]
abbrev dktX5_door_1 : List UInt8 := dkwX5_door_1 ++ dktX5_door_2
def dkwX5_door_0 : List UInt8 := [42, 3, 181, 0, 1, 42, 180, 0, 30, 5, 46, 16, 9, 159, 0, 27, 42, 27, 182, 0, 155, 153, 0, 19]
abbrev dktX5_door_0 : List UInt8 := dkwX5_door_0 ++ dktX5_door_1
theorem dksX5_door_0 : cX5_door.data.toList.drop 0 = dktX5_door_0 := by decide +kernel
theorem dksX5_door_1 : cX5_door.data.toList.drop 24 = dktX5_door_1 := dk_seg dksX5_door_0 24 rfl rfl
theorem dksX5_door_2 : cX5_door.data.toList.drop 48 = dktX5_door_2 := dk_seg dksX5_door_1 24 rfl rfl
theorem dksX5_door_3 : cX5_door.data.toList.drop 72 = dktX5_door_3 := dk_seg dksX5_door_2 24 rfl rfl
theorem dX5_door_0 : decode cX5_door 0 = .ok (.aload_n 0, 1) := dk_42 (dk_at dksX5_door_0 0 rfl rfl)
theorem dX5_door_1 : decode cX5_door 1 = .ok (.iconst 0, 1) := dk_3 (dk_at dksX5_door_0 1 rfl rfl)
theorem dX5_door_2 : decode cX5_door 2 = .ok (.putfield 1, 3) := dk_181 0 1 (dk_at dksX5_door_0 2 rfl rfl)
theorem dX5_door_5 : decode cX5_door 5 = .ok (.aload_n 0, 1) := dk_42 (dk_at dksX5_door_0 5 rfl rfl)
theorem dX5_door_6 : decode cX5_door 6 = .ok (.getfield 30, 3) := dk_180 0 30 (dk_at dksX5_door_0 6 rfl rfl)
theorem dX5_door_9 : decode cX5_door 9 = .ok (.iconst 2, 1) := dk_5 (dk_at dksX5_door_0 9 rfl rfl)
theorem dX5_door_10 : decode cX5_door 10 = .ok (.iaload, 1) := dk_46 (dk_at dksX5_door_0 10 rfl rfl)
theorem dX5_door_11 : decode cX5_door 11 = .ok (.bipush 9, 2) := dk_16 9 (dk_at dksX5_door_0 11 rfl rfl)
theorem dX5_door_13 : decode cX5_door 13 = .ok (.if_icmp .eq 27, 3) := dk_159 0 27 (dk_at dksX5_door_0 13 rfl rfl)
theorem dX5_door_16 : decode cX5_door 16 = .ok (.aload_n 0, 1) := dk_42 (dk_at dksX5_door_0 16 rfl rfl)
theorem dX5_door_17 : decode cX5_door 17 = .ok (.iload_n 1, 1) := dk_27 (dk_at dksX5_door_0 17 rfl rfl)
theorem dX5_door_18 : decode cX5_door 18 = .ok (.invokevirtual 155, 3) := dk_182 0 155 (dk_at dksX5_door_0 18 rfl rfl)
theorem dX5_door_21 : decode cX5_door 21 = .ok (.ifCond .eq 19, 3) := dk_153 0 19 (dk_at dksX5_door_0 21 rfl rfl)
theorem dX5_door_24 : decode cX5_door 24 = .ok (.aload_n 0, 1) := dk_42 (dk_at dksX5_door_1 0 rfl rfl)
theorem dX5_door_25 : decode cX5_door 25 = .ok (.iload_n 1, 1) := dk_27 (dk_at dksX5_door_1 1 rfl rfl)
theorem dX5_door_26 : decode cX5_door 26 = .ok (.invokevirtual 158, 3) := dk_182 0 158 (dk_at dksX5_door_1 2 rfl rfl)
theorem dX5_door_29 : decode cX5_door 29 = .ok (.ifCond .eq 11, 3) := dk_153 0 11 (dk_at dksX5_door_1 5 rfl rfl)
theorem dX5_door_32 : decode cX5_door 32 = .ok (.aload_n 0, 1) := dk_42 (dk_at dksX5_door_1 8 rfl rfl)
theorem dX5_door_33 : decode cX5_door 33 = .ok (.iload_n 1, 1) := dk_27 (dk_at dksX5_door_1 9 rfl rfl)
theorem dX5_door_34 : decode cX5_door 34 = .ok (.invokevirtual 161, 3) := dk_182 0 161 (dk_at dksX5_door_1 10 rfl rfl)
theorem dX5_door_37 : decode cX5_door 37 = .ok (.ifCond .eq 5, 3) := dk_153 0 5 (dk_at dksX5_door_1 13 rfl rfl)
theorem dX5_door_40 : decode cX5_door 40 = .ok (.iconst (-1), 1) := dk_2 (dk_at dksX5_door_1 16 rfl rfl)
theorem dX5_door_41 : decode cX5_door 41 = .ok (.ireturn, 1) := dk_172 (dk_at dksX5_door_1 17 rfl rfl)
theorem dX5_door_42 : decode cX5_door 42 = .ok (.aload_n 0, 1) := dk_42 (dk_at dksX5_door_1 18 rfl rfl)
theorem dX5_door_43 : decode cX5_door 43 = .ok (.getfield 30, 3) := dk_180 0 30 (dk_at dksX5_door_1 19 rfl rfl)
theorem dX5_door_46 : decode cX5_door 46 = .ok (.iconst 3, 1) := dk_6 (dk_at dksX5_door_1 22 rfl rfl)
theorem dX5_door_47 : decode cX5_door 47 = .ok (.aload_n 0, 1) := dk_42 (dk_at dksX5_door_1 23 rfl rfl)
theorem dX5_door_48 : decode cX5_door 48 = .ok (.getfield 30, 3) := dk_180 0 30 (dk_at dksX5_door_2 0 rfl rfl)
theorem dX5_door_51 : decode cX5_door 51 = .ok (.iconst 2, 1) := dk_5 (dk_at dksX5_door_2 3 rfl rfl)
theorem dX5_door_52 : decode cX5_door 52 = .ok (.iaload, 1) := dk_46 (dk_at dksX5_door_2 4 rfl rfl)
theorem dX5_door_53 : decode cX5_door 53 = .ok (.iadd, 1) := dk_96 (dk_at dksX5_door_2 5 rfl rfl)
theorem dX5_door_54 : decode cX5_door 54 = .ok (.iload_n 1, 1) := dk_27 (dk_at dksX5_door_2 6 rfl rfl)
theorem dX5_door_55 : decode cX5_door 55 = .ok (.iastore, 1) := dk_79 (dk_at dksX5_door_2 7 rfl rfl)
theorem dX5_door_56 : decode cX5_door 56 = .ok (.aload_n 0, 1) := dk_42 (dk_at dksX5_door_2 8 rfl rfl)
theorem dX5_door_57 : decode cX5_door 57 = .ok (.getfield 30, 3) := dk_180 0 30 (dk_at dksX5_door_2 9 rfl rfl)
theorem dX5_door_60 : decode cX5_door 60 = .ok (.iconst 2, 1) := dk_5 (dk_at dksX5_door_2 12 rfl rfl)
theorem dX5_door_61 : decode cX5_door 61 = .ok (.dup2, 1) := dk_92 (dk_at dksX5_door_2 13 rfl rfl)
theorem dX5_door_62 : decode cX5_door 62 = .ok (.iaload, 1) := dk_46 (dk_at dksX5_door_2 14 rfl rfl)
theorem dX5_door_63 : decode cX5_door 63 = .ok (.iconst 1, 1) := dk_4 (dk_at dksX5_door_2 15 rfl rfl)
theorem dX5_door_64 : decode cX5_door 64 = .ok (.iadd, 1) := dk_96 (dk_at dksX5_door_2 16 rfl rfl)
theorem dX5_door_65 : decode cX5_door 65 = .ok (.iastore, 1) := dk_79 (dk_at dksX5_door_2 17 rfl rfl)
theorem dX5_door_66 : decode cX5_door 66 = .ok (.aload_n 0, 1) := dk_42 (dk_at dksX5_door_2 18 rfl rfl)
theorem dX5_door_67 : decode cX5_door 67 = .ok (.getfield 30, 3) := dk_180 0 30 (dk_at dksX5_door_2 19 rfl rfl)
theorem dX5_door_70 : decode cX5_door 70 = .ok (.iconst 2, 1) := dk_5 (dk_at dksX5_door_2 22 rfl rfl)
theorem dX5_door_71 : decode cX5_door 71 = .ok (.iaload, 1) := dk_46 (dk_at dksX5_door_2 23 rfl rfl)
theorem dX5_door_72 : decode cX5_door 72 = .ok (.iconst 1, 1) := dk_4 (dk_at dksX5_door_3 0 rfl rfl)
theorem dX5_door_73 : decode cX5_door 73 = .ok (.isub, 1) := dk_100 (dk_at dksX5_door_3 1 rfl rfl)
theorem dX5_door_74 : decode cX5_door 74 = .ok (.ireturn, 1) := dk_172 (dk_at dksX5_door_3 2 rfl rfl)
abbrev cX5_isCell : ByteArray := prog_12_method_12_code
def yX5_isCell : MethodName := ⟨RX5, "isCell", "(I)Z"⟩
def dkwX5_isCell_0 : List UInt8 := [27, 3, 42, 182, 0, 128, 4, 100, 184, 0, 132, 172]
abbrev dktX5_isCell_0 : List UInt8 := dkwX5_isCell_0 ++ []
theorem dksX5_isCell_0 : cX5_isCell.data.toList.drop 0 = dktX5_isCell_0 := by decide +kernel
theorem dX5_isCell_0 : decode cX5_isCell 0 = .ok (.iload_n 1, 1) := dk_27 (dk_at dksX5_isCell_0 0 rfl rfl)
theorem dX5_isCell_1 : decode cX5_isCell 1 = .ok (.iconst 0, 1) := dk_3 (dk_at dksX5_isCell_0 1 rfl rfl)
theorem dX5_isCell_2 : decode cX5_isCell 2 = .ok (.aload_n 0, 1) := dk_42 (dk_at dksX5_isCell_0 2 rfl rfl)
theorem dX5_isCell_3 : decode cX5_isCell 3 = .ok (.invokevirtual 128, 3) := dk_182 0 128 (dk_at dksX5_isCell_0 3 rfl rfl)
theorem dX5_isCell_6 : decode cX5_isCell 6 = .ok (.iconst 1, 1) := dk_4 (dk_at dksX5_isCell_0 6 rfl rfl)
theorem dX5_isCell_7 : decode cX5_isCell 7 = .ok (.isub, 1) := dk_100 (dk_at dksX5_isCell_0 7 rfl rfl)
theorem dX5_isCell_8 : decode cX5_isCell 8 = .ok (.invokestatic 132, 3) := dk_184 0 132 (dk_at dksX5_isCell_0 8 rfl rfl)
theorem dX5_isCell_11 : decode cX5_isCell 11 = .ok (.ireturn, 1) := dk_172 (dk_at dksX5_isCell_0 11 rfl rfl)
abbrev cX5_cells : ByteArray := prog_12_method_11_code
def yX5_cells : MethodName := ⟨RX5, "cells", "()I"⟩
def dkwX5_cells_0 : List UInt8 := [42, 180, 0, 30, 3, 46, 42, 180, 0, 30, 4, 46, 104, 172]
abbrev dktX5_cells_0 : List UInt8 := dkwX5_cells_0 ++ []
theorem dksX5_cells_0 : cX5_cells.data.toList.drop 0 = dktX5_cells_0 := by decide +kernel
theorem dX5_cells_0 : decode cX5_cells 0 = .ok (.aload_n 0, 1) := dk_42 (dk_at dksX5_cells_0 0 rfl rfl)
theorem dX5_cells_1 : decode cX5_cells 1 = .ok (.getfield 30, 3) := dk_180 0 30 (dk_at dksX5_cells_0 1 rfl rfl)
theorem dX5_cells_4 : decode cX5_cells 4 = .ok (.iconst 0, 1) := dk_3 (dk_at dksX5_cells_0 4 rfl rfl)
theorem dX5_cells_5 : decode cX5_cells 5 = .ok (.iaload, 1) := dk_46 (dk_at dksX5_cells_0 5 rfl rfl)
theorem dX5_cells_6 : decode cX5_cells 6 = .ok (.aload_n 0, 1) := dk_42 (dk_at dksX5_cells_0 6 rfl rfl)
theorem dX5_cells_7 : decode cX5_cells 7 = .ok (.getfield 30, 3) := dk_180 0 30 (dk_at dksX5_cells_0 7 rfl rfl)
theorem dX5_cells_10 : decode cX5_cells 10 = .ok (.iconst 1, 1) := dk_4 (dk_at dksX5_cells_0 10 rfl rfl)
theorem dX5_cells_11 : decode cX5_cells 11 = .ok (.iaload, 1) := dk_46 (dk_at dksX5_cells_0 11 rfl rfl)
theorem dX5_cells_12 : decode cX5_cells 12 = .ok (.imul, 1) := dk_104 (dk_at dksX5_cells_0 12 rfl rfl)
theorem dX5_cells_13 : decode cX5_cells 13 = .ok (.ireturn, 1) := dk_172 (dk_at dksX5_cells_0 13 rfl rfl)
abbrev cX5_bears : ByteArray := prog_12_method_15_code
def yX5_bears : MethodName := ⟨RX5, "bears", "(I)Z"⟩
def dkwX5_bears_1 : List UInt8 := [167, 0, 4, 3, 172]
abbrev dktX5_bears_1 : List UInt8 := dkwX5_bears_1 ++ []
def dkwX5_bears_0 : List UInt8 := [42, 27, 3, 182, 0, 136, 6, 159, 0, 18, 42, 27, 3, 182, 0, 136, 16, 6, 159, 0, 7, 4]
abbrev dktX5_bears_0 : List UInt8 := dkwX5_bears_0 ++ dktX5_bears_1
theorem dksX5_bears_0 : cX5_bears.data.toList.drop 0 = dktX5_bears_0 := by decide +kernel
theorem dksX5_bears_1 : cX5_bears.data.toList.drop 22 = dktX5_bears_1 := dk_seg dksX5_bears_0 22 rfl rfl
theorem dX5_bears_0 : decode cX5_bears 0 = .ok (.aload_n 0, 1) := dk_42 (dk_at dksX5_bears_0 0 rfl rfl)
theorem dX5_bears_1 : decode cX5_bears 1 = .ok (.iload_n 1, 1) := dk_27 (dk_at dksX5_bears_0 1 rfl rfl)
theorem dX5_bears_2 : decode cX5_bears 2 = .ok (.iconst 0, 1) := dk_3 (dk_at dksX5_bears_0 2 rfl rfl)
theorem dX5_bears_3 : decode cX5_bears 3 = .ok (.invokevirtual 136, 3) := dk_182 0 136 (dk_at dksX5_bears_0 3 rfl rfl)
theorem dX5_bears_6 : decode cX5_bears 6 = .ok (.iconst 3, 1) := dk_6 (dk_at dksX5_bears_0 6 rfl rfl)
theorem dX5_bears_7 : decode cX5_bears 7 = .ok (.if_icmp .eq 18, 3) := dk_159 0 18 (dk_at dksX5_bears_0 7 rfl rfl)
theorem dX5_bears_10 : decode cX5_bears 10 = .ok (.aload_n 0, 1) := dk_42 (dk_at dksX5_bears_0 10 rfl rfl)
theorem dX5_bears_11 : decode cX5_bears 11 = .ok (.iload_n 1, 1) := dk_27 (dk_at dksX5_bears_0 11 rfl rfl)
theorem dX5_bears_12 : decode cX5_bears 12 = .ok (.iconst 0, 1) := dk_3 (dk_at dksX5_bears_0 12 rfl rfl)
theorem dX5_bears_13 : decode cX5_bears 13 = .ok (.invokevirtual 136, 3) := dk_182 0 136 (dk_at dksX5_bears_0 13 rfl rfl)
theorem dX5_bears_16 : decode cX5_bears 16 = .ok (.bipush 6, 2) := dk_16 6 (dk_at dksX5_bears_0 16 rfl rfl)
theorem dX5_bears_18 : decode cX5_bears 18 = .ok (.if_icmp .eq 7, 3) := dk_159 0 7 (dk_at dksX5_bears_0 18 rfl rfl)
theorem dX5_bears_21 : decode cX5_bears 21 = .ok (.iconst 1, 1) := dk_4 (dk_at dksX5_bears_0 21 rfl rfl)
theorem dX5_bears_22 : decode cX5_bears 22 = .ok (.goto 4, 3) := dk_167 0 4 (dk_at dksX5_bears_1 0 rfl rfl)
theorem dX5_bears_25 : decode cX5_bears 25 = .ok (.iconst 0, 1) := dk_3 (dk_at dksX5_bears_1 3 rfl rfl)
theorem dX5_bears_26 : decode cX5_bears 26 = .ok (.ireturn, 1) := dk_172 (dk_at dksX5_bears_1 4 rfl rfl)
abbrev cX5_of : ByteArray := prog_12_method_13_code
def yX5_of : MethodName := ⟨RX5, "of", "(II)I"⟩
def dkwX5_of_0 : List UInt8 := [42, 180, 0, 30, 17, 2, 10, 16, 7, 27, 104, 96, 28, 96, 46, 172]
abbrev dktX5_of_0 : List UInt8 := dkwX5_of_0 ++ []
theorem dksX5_of_0 : cX5_of.data.toList.drop 0 = dktX5_of_0 := by decide +kernel
theorem dX5_of_0 : decode cX5_of 0 = .ok (.aload_n 0, 1) := dk_42 (dk_at dksX5_of_0 0 rfl rfl)
theorem dX5_of_1 : decode cX5_of 1 = .ok (.getfield 30, 3) := dk_180 0 30 (dk_at dksX5_of_0 1 rfl rfl)
theorem dX5_of_4 : decode cX5_of 4 = .ok (.sipush 522, 3) := dk_17 2 10 (dk_at dksX5_of_0 4 rfl rfl)
theorem dX5_of_7 : decode cX5_of 7 = .ok (.bipush 7, 2) := dk_16 7 (dk_at dksX5_of_0 7 rfl rfl)
theorem dX5_of_9 : decode cX5_of 9 = .ok (.iload_n 1, 1) := dk_27 (dk_at dksX5_of_0 9 rfl rfl)
theorem dX5_of_10 : decode cX5_of 10 = .ok (.imul, 1) := dk_104 (dk_at dksX5_of_0 10 rfl rfl)
theorem dX5_of_11 : decode cX5_of 11 = .ok (.iadd, 1) := dk_96 (dk_at dksX5_of_0 11 rfl rfl)
theorem dX5_of_12 : decode cX5_of 12 = .ok (.iload_n 2, 1) := dk_28 (dk_at dksX5_of_0 12 rfl rfl)
theorem dX5_of_13 : decode cX5_of 13 = .ok (.iadd, 1) := dk_96 (dk_at dksX5_of_0 13 rfl rfl)
theorem dX5_of_14 : decode cX5_of 14 = .ok (.iaload, 1) := dk_46 (dk_at dksX5_of_0 14 rfl rfl)
theorem dX5_of_15 : decode cX5_of 15 = .ok (.ireturn, 1) := dk_172 (dk_at dksX5_of_0 15 rfl rfl)
abbrev cX5_isDoorAt : ByteArray := prog_12_method_24_code
def yX5_isDoorAt : MethodName := ⟨RX5, "isDoorAt", "(I)Z"⟩
def dkwX5_isDoorAt_1 : List UInt8 := [4, 172, 132, 2, 1, 167, 255, 229, 3, 172]
abbrev dktX5_isDoorAt_1 : List UInt8 := dkwX5_isDoorAt_1 ++ []
def dkwX5_isDoorAt_0 : List UInt8 := [3, 61, 28, 42, 180, 0, 30, 5, 46, 162, 0, 23, 42, 180, 0, 30, 6, 28, 96, 46, 27, 160, 0, 5]
abbrev dktX5_isDoorAt_0 : List UInt8 := dkwX5_isDoorAt_0 ++ dktX5_isDoorAt_1
theorem dksX5_isDoorAt_0 : cX5_isDoorAt.data.toList.drop 0 = dktX5_isDoorAt_0 := by decide +kernel
theorem dksX5_isDoorAt_1 : cX5_isDoorAt.data.toList.drop 24 = dktX5_isDoorAt_1 := dk_seg dksX5_isDoorAt_0 24 rfl rfl
theorem dX5_isDoorAt_0 : decode cX5_isDoorAt 0 = .ok (.iconst 0, 1) := dk_3 (dk_at dksX5_isDoorAt_0 0 rfl rfl)
theorem dX5_isDoorAt_1 : decode cX5_isDoorAt 1 = .ok (.istore_n 2, 1) := dk_61 (dk_at dksX5_isDoorAt_0 1 rfl rfl)
theorem dX5_isDoorAt_2 : decode cX5_isDoorAt 2 = .ok (.iload_n 2, 1) := dk_28 (dk_at dksX5_isDoorAt_0 2 rfl rfl)
theorem dX5_isDoorAt_3 : decode cX5_isDoorAt 3 = .ok (.aload_n 0, 1) := dk_42 (dk_at dksX5_isDoorAt_0 3 rfl rfl)
theorem dX5_isDoorAt_4 : decode cX5_isDoorAt 4 = .ok (.getfield 30, 3) := dk_180 0 30 (dk_at dksX5_isDoorAt_0 4 rfl rfl)
theorem dX5_isDoorAt_7 : decode cX5_isDoorAt 7 = .ok (.iconst 2, 1) := dk_5 (dk_at dksX5_isDoorAt_0 7 rfl rfl)
theorem dX5_isDoorAt_8 : decode cX5_isDoorAt 8 = .ok (.iaload, 1) := dk_46 (dk_at dksX5_isDoorAt_0 8 rfl rfl)
theorem dX5_isDoorAt_9 : decode cX5_isDoorAt 9 = .ok (.if_icmp .ge 23, 3) := dk_162 0 23 (dk_at dksX5_isDoorAt_0 9 rfl rfl)
theorem dX5_isDoorAt_12 : decode cX5_isDoorAt 12 = .ok (.aload_n 0, 1) := dk_42 (dk_at dksX5_isDoorAt_0 12 rfl rfl)
theorem dX5_isDoorAt_13 : decode cX5_isDoorAt 13 = .ok (.getfield 30, 3) := dk_180 0 30 (dk_at dksX5_isDoorAt_0 13 rfl rfl)
theorem dX5_isDoorAt_16 : decode cX5_isDoorAt 16 = .ok (.iconst 3, 1) := dk_6 (dk_at dksX5_isDoorAt_0 16 rfl rfl)
theorem dX5_isDoorAt_17 : decode cX5_isDoorAt 17 = .ok (.iload_n 2, 1) := dk_28 (dk_at dksX5_isDoorAt_0 17 rfl rfl)
theorem dX5_isDoorAt_18 : decode cX5_isDoorAt 18 = .ok (.iadd, 1) := dk_96 (dk_at dksX5_isDoorAt_0 18 rfl rfl)
theorem dX5_isDoorAt_19 : decode cX5_isDoorAt 19 = .ok (.iaload, 1) := dk_46 (dk_at dksX5_isDoorAt_0 19 rfl rfl)
theorem dX5_isDoorAt_20 : decode cX5_isDoorAt 20 = .ok (.iload_n 1, 1) := dk_27 (dk_at dksX5_isDoorAt_0 20 rfl rfl)
theorem dX5_isDoorAt_21 : decode cX5_isDoorAt 21 = .ok (.if_icmp .ne 5, 3) := dk_160 0 5 (dk_at dksX5_isDoorAt_0 21 rfl rfl)
theorem dX5_isDoorAt_24 : decode cX5_isDoorAt 24 = .ok (.iconst 1, 1) := dk_4 (dk_at dksX5_isDoorAt_1 0 rfl rfl)
theorem dX5_isDoorAt_25 : decode cX5_isDoorAt 25 = .ok (.ireturn, 1) := dk_172 (dk_at dksX5_isDoorAt_1 1 rfl rfl)
theorem dX5_isDoorAt_26 : decode cX5_isDoorAt 26 = .ok (.iinc 2 1, 3) := dk_132 2 1 (dk_at dksX5_isDoorAt_1 2 rfl rfl)
theorem dX5_isDoorAt_29 : decode cX5_isDoorAt 29 = .ok (.goto (-27), 3) := dk_167 255 229 (dk_at dksX5_isDoorAt_1 5 rfl rfl)
theorem dX5_isDoorAt_32 : decode cX5_isDoorAt 32 = .ok (.iconst 0, 1) := dk_3 (dk_at dksX5_isDoorAt_1 8 rfl rfl)
theorem dX5_isDoorAt_33 : decode cX5_isDoorAt 33 = .ok (.ireturn, 1) := dk_172 (dk_at dksX5_isDoorAt_1 9 rfl rfl)
abbrev cX5_law : ByteArray := prog_12_method_50_code
def yX5_law : MethodName := ⟨RX5, "law", "()I"⟩
def dkwX5_law_2 : List UInt8 := [16, 10, 182, 1, 73, 181, 0, 80, 27, 172]
abbrev dktX5_law_2 : List UInt8 := dkwX5_law_2 ++ []
def dkwX5_law_1 : List UInt8 := [5, 16, 40, 182, 1, 73, 181, 0, 74, 42, 42, 6, 16, 50, 182, 1, 73, 181, 0, 77, 42, 42, 7]
abbrev dktX5_law_1 : List UInt8 := dkwX5_law_1 ++ dktX5_law_2
def dkwX5_law_0 : List UInt8 := [42, 3, 181, 0, 1, 42, 182, 0, 144, 42, 3, 4, 182, 1, 69, 60, 27, 156, 0, 5, 27, 172, 42, 42]
abbrev dktX5_law_0 : List UInt8 := dkwX5_law_0 ++ dktX5_law_1
theorem dksX5_law_0 : cX5_law.data.toList.drop 0 = dktX5_law_0 := by decide +kernel
theorem dksX5_law_1 : cX5_law.data.toList.drop 24 = dktX5_law_1 := dk_seg dksX5_law_0 24 rfl rfl
theorem dksX5_law_2 : cX5_law.data.toList.drop 47 = dktX5_law_2 := dk_seg dksX5_law_1 23 rfl rfl
theorem dX5_law_0 : decode cX5_law 0 = .ok (.aload_n 0, 1) := dk_42 (dk_at dksX5_law_0 0 rfl rfl)
theorem dX5_law_1 : decode cX5_law 1 = .ok (.iconst 0, 1) := dk_3 (dk_at dksX5_law_0 1 rfl rfl)
theorem dX5_law_2 : decode cX5_law 2 = .ok (.putfield 1, 3) := dk_181 0 1 (dk_at dksX5_law_0 2 rfl rfl)
theorem dX5_law_5 : decode cX5_law 5 = .ok (.aload_n 0, 1) := dk_42 (dk_at dksX5_law_0 5 rfl rfl)
theorem dX5_law_6 : decode cX5_law 6 = .ok (.invokevirtual 144, 3) := dk_182 0 144 (dk_at dksX5_law_0 6 rfl rfl)
theorem dX5_law_9 : decode cX5_law 9 = .ok (.aload_n 0, 1) := dk_42 (dk_at dksX5_law_0 9 rfl rfl)
theorem dX5_law_10 : decode cX5_law 10 = .ok (.iconst 0, 1) := dk_3 (dk_at dksX5_law_0 10 rfl rfl)
theorem dX5_law_11 : decode cX5_law 11 = .ok (.iconst 1, 1) := dk_4 (dk_at dksX5_law_0 11 rfl rfl)
theorem dX5_law_12 : decode cX5_law 12 = .ok (.invokevirtual 325, 3) := dk_182 1 69 (dk_at dksX5_law_0 12 rfl rfl)
theorem dX5_law_15 : decode cX5_law 15 = .ok (.istore_n 1, 1) := dk_60 (dk_at dksX5_law_0 15 rfl rfl)
theorem dX5_law_16 : decode cX5_law 16 = .ok (.iload_n 1, 1) := dk_27 (dk_at dksX5_law_0 16 rfl rfl)
theorem dX5_law_17 : decode cX5_law 17 = .ok (.ifCond .ge 5, 3) := dk_156 0 5 (dk_at dksX5_law_0 17 rfl rfl)
theorem dX5_law_20 : decode cX5_law 20 = .ok (.iload_n 1, 1) := dk_27 (dk_at dksX5_law_0 20 rfl rfl)
theorem dX5_law_21 : decode cX5_law 21 = .ok (.ireturn, 1) := dk_172 (dk_at dksX5_law_0 21 rfl rfl)
theorem dX5_law_22 : decode cX5_law 22 = .ok (.aload_n 0, 1) := dk_42 (dk_at dksX5_law_0 22 rfl rfl)
theorem dX5_law_23 : decode cX5_law 23 = .ok (.aload_n 0, 1) := dk_42 (dk_at dksX5_law_0 23 rfl rfl)
theorem dX5_law_24 : decode cX5_law 24 = .ok (.iconst 2, 1) := dk_5 (dk_at dksX5_law_1 0 rfl rfl)
theorem dX5_law_25 : decode cX5_law 25 = .ok (.bipush 40, 2) := dk_16 40 (dk_at dksX5_law_1 1 rfl rfl)
theorem dX5_law_27 : decode cX5_law 27 = .ok (.invokevirtual 329, 3) := dk_182 1 73 (dk_at dksX5_law_1 3 rfl rfl)
theorem dX5_law_30 : decode cX5_law 30 = .ok (.putfield 74, 3) := dk_181 0 74 (dk_at dksX5_law_1 6 rfl rfl)
theorem dX5_law_33 : decode cX5_law 33 = .ok (.aload_n 0, 1) := dk_42 (dk_at dksX5_law_1 9 rfl rfl)
theorem dX5_law_34 : decode cX5_law 34 = .ok (.aload_n 0, 1) := dk_42 (dk_at dksX5_law_1 10 rfl rfl)
theorem dX5_law_35 : decode cX5_law 35 = .ok (.iconst 3, 1) := dk_6 (dk_at dksX5_law_1 11 rfl rfl)
theorem dX5_law_36 : decode cX5_law 36 = .ok (.bipush 50, 2) := dk_16 50 (dk_at dksX5_law_1 12 rfl rfl)
theorem dX5_law_38 : decode cX5_law 38 = .ok (.invokevirtual 329, 3) := dk_182 1 73 (dk_at dksX5_law_1 14 rfl rfl)
theorem dX5_law_41 : decode cX5_law 41 = .ok (.putfield 77, 3) := dk_181 0 77 (dk_at dksX5_law_1 17 rfl rfl)
theorem dX5_law_44 : decode cX5_law 44 = .ok (.aload_n 0, 1) := dk_42 (dk_at dksX5_law_1 20 rfl rfl)
theorem dX5_law_45 : decode cX5_law 45 = .ok (.aload_n 0, 1) := dk_42 (dk_at dksX5_law_1 21 rfl rfl)
theorem dX5_law_46 : decode cX5_law 46 = .ok (.iconst 4, 1) := dk_7 (dk_at dksX5_law_1 22 rfl rfl)
theorem dX5_law_47 : decode cX5_law 47 = .ok (.bipush 10, 2) := dk_16 10 (dk_at dksX5_law_2 0 rfl rfl)
theorem dX5_law_49 : decode cX5_law 49 = .ok (.invokevirtual 329, 3) := dk_182 1 73 (dk_at dksX5_law_2 2 rfl rfl)
theorem dX5_law_52 : decode cX5_law 52 = .ok (.putfield 80, 3) := dk_181 0 80 (dk_at dksX5_law_2 5 rfl rfl)
theorem dX5_law_55 : decode cX5_law 55 = .ok (.iload_n 1, 1) := dk_27 (dk_at dksX5_law_2 8 rfl rfl)
theorem dX5_law_56 : decode cX5_law 56 = .ok (.ireturn, 1) := dk_172 (dk_at dksX5_law_2 9 rfl rfl)
abbrev cX5_text : ByteArray := prog_12_method_48_code
def yX5_text : MethodName := ⟨RX5, "text", "(IZ)I"⟩
def dkwX5_text_10 : List UInt8 := [42, 180, 0, 44, 27, 46, 172]
abbrev dktX5_text_10 : List UInt8 := dkwX5_text_10 ++ []
def dkwX5_text_9 : List UInt8 := [17, 0, 200, 27, 104, 29, 96, 42, 180, 0, 68, 17, 5, 120, 29, 96, 46, 79, 132, 3, 1, 167, 255, 180]
abbrev dktX5_text_9 : List UInt8 := dkwX5_text_9 ++ dktX5_text_10
def dkwX5_text_8 : List UInt8 := [17, 0, 200, 27, 104, 29, 96, 42, 180, 0, 65, 17, 5, 120, 29, 96, 46, 79, 42, 180, 0, 68]
abbrev dktX5_text_8 : List UInt8 := dkwX5_text_8 ++ dktX5_text_9
def dkwX5_text_7 : List UInt8 := [17, 0, 200, 27, 104, 29, 96, 42, 180, 0, 62, 17, 5, 120, 29, 96, 46, 79, 42, 180, 0, 65]
abbrev dktX5_text_7 : List UInt8 := dkwX5_text_7 ++ dktX5_text_8
def dkwX5_text_6 : List UInt8 := [21, 4, 46, 79, 132, 3, 1, 167, 255, 163, 3, 62, 29, 17, 0, 200, 162, 0, 75, 42, 180, 0, 62]
abbrev dktX5_text_6 : List UInt8 := dkwX5_text_6 ++ dktX5_text_7
def dkwX5_text_5 : List UInt8 := [42, 180, 0, 56, 21, 5, 42, 180, 0, 56, 21, 4, 46, 79, 42, 180, 0, 59, 21, 5, 42, 180, 0, 59]
abbrev dktX5_text_5 : List UInt8 := dkwX5_text_5 ++ dktX5_text_6
def dkwX5_text_4 : List UInt8 := [21, 5, 42, 180, 0, 50, 21, 4, 46, 79, 42, 180, 0, 53, 21, 5, 42, 180, 0, 53, 21, 4, 46, 79]
abbrev dktX5_text_4 : List UInt8 := dkwX5_text_4 ++ dktX5_text_5
def dkwX5_text_3 : List UInt8 := [104, 29, 96, 54, 5, 42, 180, 0, 47, 21, 5, 42, 180, 0, 47, 21, 4, 46, 79, 42, 180, 0, 50]
abbrev dktX5_text_3 : List UInt8 := dkwX5_text_3 ++ dktX5_text_4
def dkwX5_text_2 : List UInt8 := [180, 0, 44, 16, 7, 46, 79, 3, 62, 29, 16, 16, 162, 0, 93, 16, 112, 29, 96, 54, 4, 16, 16, 27]
abbrev dktX5_text_2 : List UInt8 := dkwX5_text_2 ++ dktX5_text_3
def dkwX5_text_1 : List UInt8 := [182, 0, 201, 42, 28, 182, 1, 65, 154, 0, 10, 2, 42, 180, 0, 192, 100, 172, 42, 180, 0, 44, 27, 42]
abbrev dktX5_text_1 : List UInt8 := dkwX5_text_1 ++ dktX5_text_2
def dkwX5_text_0 : List UInt8 := [42, 3, 181, 0, 189, 42, 180, 0, 44, 16, 7, 3, 79, 42, 3, 181, 0, 243, 42, 3, 181, 1, 59, 42]
abbrev dktX5_text_0 : List UInt8 := dkwX5_text_0 ++ dktX5_text_1
theorem dksX5_text_0 : cX5_text.data.toList.drop 0 = dktX5_text_0 := by decide +kernel
theorem dksX5_text_1 : cX5_text.data.toList.drop 24 = dktX5_text_1 := dk_seg dksX5_text_0 24 rfl rfl
theorem dksX5_text_2 : cX5_text.data.toList.drop 48 = dktX5_text_2 := dk_seg dksX5_text_1 24 rfl rfl
theorem dksX5_text_3 : cX5_text.data.toList.drop 72 = dktX5_text_3 := dk_seg dksX5_text_2 24 rfl rfl
theorem dksX5_text_4 : cX5_text.data.toList.drop 95 = dktX5_text_4 := dk_seg dksX5_text_3 23 rfl rfl
theorem dksX5_text_5 : cX5_text.data.toList.drop 119 = dktX5_text_5 := dk_seg dksX5_text_4 24 rfl rfl
theorem dksX5_text_6 : cX5_text.data.toList.drop 143 = dktX5_text_6 := dk_seg dksX5_text_5 24 rfl rfl
theorem dksX5_text_7 : cX5_text.data.toList.drop 166 = dktX5_text_7 := dk_seg dksX5_text_6 23 rfl rfl
theorem dksX5_text_8 : cX5_text.data.toList.drop 188 = dktX5_text_8 := dk_seg dksX5_text_7 22 rfl rfl
theorem dksX5_text_9 : cX5_text.data.toList.drop 210 = dktX5_text_9 := dk_seg dksX5_text_8 22 rfl rfl
theorem dksX5_text_10 : cX5_text.data.toList.drop 234 = dktX5_text_10 := dk_seg dksX5_text_9 24 rfl rfl
theorem dX5_text_0 : decode cX5_text 0 = .ok (.aload_n 0, 1) := dk_42 (dk_at dksX5_text_0 0 rfl rfl)
theorem dX5_text_1 : decode cX5_text 1 = .ok (.iconst 0, 1) := dk_3 (dk_at dksX5_text_0 1 rfl rfl)
theorem dX5_text_2 : decode cX5_text 2 = .ok (.putfield 189, 3) := dk_181 0 189 (dk_at dksX5_text_0 2 rfl rfl)
theorem dX5_text_5 : decode cX5_text 5 = .ok (.aload_n 0, 1) := dk_42 (dk_at dksX5_text_0 5 rfl rfl)
theorem dX5_text_6 : decode cX5_text 6 = .ok (.getfield 44, 3) := dk_180 0 44 (dk_at dksX5_text_0 6 rfl rfl)
theorem dX5_text_9 : decode cX5_text 9 = .ok (.bipush 7, 2) := dk_16 7 (dk_at dksX5_text_0 9 rfl rfl)
theorem dX5_text_11 : decode cX5_text 11 = .ok (.iconst 0, 1) := dk_3 (dk_at dksX5_text_0 11 rfl rfl)
theorem dX5_text_12 : decode cX5_text 12 = .ok (.iastore, 1) := dk_79 (dk_at dksX5_text_0 12 rfl rfl)
theorem dX5_text_13 : decode cX5_text 13 = .ok (.aload_n 0, 1) := dk_42 (dk_at dksX5_text_0 13 rfl rfl)
theorem dX5_text_14 : decode cX5_text 14 = .ok (.iconst 0, 1) := dk_3 (dk_at dksX5_text_0 14 rfl rfl)
theorem dX5_text_15 : decode cX5_text 15 = .ok (.putfield 243, 3) := dk_181 0 243 (dk_at dksX5_text_0 15 rfl rfl)
theorem dX5_text_18 : decode cX5_text 18 = .ok (.aload_n 0, 1) := dk_42 (dk_at dksX5_text_0 18 rfl rfl)
theorem dX5_text_19 : decode cX5_text 19 = .ok (.iconst 0, 1) := dk_3 (dk_at dksX5_text_0 19 rfl rfl)
theorem dX5_text_20 : decode cX5_text 20 = .ok (.putfield 315, 3) := dk_181 1 59 (dk_at dksX5_text_0 20 rfl rfl)
theorem dX5_text_23 : decode cX5_text 23 = .ok (.aload_n 0, 1) := dk_42 (dk_at dksX5_text_0 23 rfl rfl)
theorem dX5_text_24 : decode cX5_text 24 = .ok (.invokevirtual 201, 3) := dk_182 0 201 (dk_at dksX5_text_1 0 rfl rfl)
theorem dX5_text_27 : decode cX5_text 27 = .ok (.aload_n 0, 1) := dk_42 (dk_at dksX5_text_1 3 rfl rfl)
theorem dX5_text_28 : decode cX5_text 28 = .ok (.iload_n 2, 1) := dk_28 (dk_at dksX5_text_1 4 rfl rfl)
theorem dX5_text_29 : decode cX5_text 29 = .ok (.invokevirtual 321, 3) := dk_182 1 65 (dk_at dksX5_text_1 5 rfl rfl)
theorem dX5_text_32 : decode cX5_text 32 = .ok (.ifCond .ne 10, 3) := dk_154 0 10 (dk_at dksX5_text_1 8 rfl rfl)
theorem dX5_text_35 : decode cX5_text 35 = .ok (.iconst (-1), 1) := dk_2 (dk_at dksX5_text_1 11 rfl rfl)
theorem dX5_text_36 : decode cX5_text 36 = .ok (.aload_n 0, 1) := dk_42 (dk_at dksX5_text_1 12 rfl rfl)
theorem dX5_text_37 : decode cX5_text 37 = .ok (.getfield 192, 3) := dk_180 0 192 (dk_at dksX5_text_1 13 rfl rfl)
theorem dX5_text_40 : decode cX5_text 40 = .ok (.isub, 1) := dk_100 (dk_at dksX5_text_1 16 rfl rfl)
theorem dX5_text_41 : decode cX5_text 41 = .ok (.ireturn, 1) := dk_172 (dk_at dksX5_text_1 17 rfl rfl)
theorem dX5_text_42 : decode cX5_text 42 = .ok (.aload_n 0, 1) := dk_42 (dk_at dksX5_text_1 18 rfl rfl)
theorem dX5_text_43 : decode cX5_text 43 = .ok (.getfield 44, 3) := dk_180 0 44 (dk_at dksX5_text_1 19 rfl rfl)
theorem dX5_text_46 : decode cX5_text 46 = .ok (.iload_n 1, 1) := dk_27 (dk_at dksX5_text_1 22 rfl rfl)
theorem dX5_text_47 : decode cX5_text 47 = .ok (.aload_n 0, 1) := dk_42 (dk_at dksX5_text_1 23 rfl rfl)
theorem dX5_text_48 : decode cX5_text 48 = .ok (.getfield 44, 3) := dk_180 0 44 (dk_at dksX5_text_2 0 rfl rfl)
theorem dX5_text_51 : decode cX5_text 51 = .ok (.bipush 7, 2) := dk_16 7 (dk_at dksX5_text_2 3 rfl rfl)
theorem dX5_text_53 : decode cX5_text 53 = .ok (.iaload, 1) := dk_46 (dk_at dksX5_text_2 5 rfl rfl)
theorem dX5_text_54 : decode cX5_text 54 = .ok (.iastore, 1) := dk_79 (dk_at dksX5_text_2 6 rfl rfl)
theorem dX5_text_55 : decode cX5_text 55 = .ok (.iconst 0, 1) := dk_3 (dk_at dksX5_text_2 7 rfl rfl)
theorem dX5_text_56 : decode cX5_text 56 = .ok (.istore_n 3, 1) := dk_62 (dk_at dksX5_text_2 8 rfl rfl)
theorem dX5_text_57 : decode cX5_text 57 = .ok (.iload_n 3, 1) := dk_29 (dk_at dksX5_text_2 9 rfl rfl)
theorem dX5_text_58 : decode cX5_text 58 = .ok (.bipush 16, 2) := dk_16 16 (dk_at dksX5_text_2 10 rfl rfl)
theorem dX5_text_60 : decode cX5_text 60 = .ok (.if_icmp .ge 93, 3) := dk_162 0 93 (dk_at dksX5_text_2 12 rfl rfl)
theorem dX5_text_63 : decode cX5_text 63 = .ok (.bipush 112, 2) := dk_16 112 (dk_at dksX5_text_2 15 rfl rfl)
theorem dX5_text_65 : decode cX5_text 65 = .ok (.iload_n 3, 1) := dk_29 (dk_at dksX5_text_2 17 rfl rfl)
theorem dX5_text_66 : decode cX5_text 66 = .ok (.iadd, 1) := dk_96 (dk_at dksX5_text_2 18 rfl rfl)
theorem dX5_text_67 : decode cX5_text 67 = .ok (.istore 4, 2) := dk_54 4 (dk_at dksX5_text_2 19 rfl rfl)
theorem dX5_text_69 : decode cX5_text 69 = .ok (.bipush 16, 2) := dk_16 16 (dk_at dksX5_text_2 21 rfl rfl)
theorem dX5_text_71 : decode cX5_text 71 = .ok (.iload_n 1, 1) := dk_27 (dk_at dksX5_text_2 23 rfl rfl)
theorem dX5_text_72 : decode cX5_text 72 = .ok (.imul, 1) := dk_104 (dk_at dksX5_text_3 0 rfl rfl)
theorem dX5_text_73 : decode cX5_text 73 = .ok (.iload_n 3, 1) := dk_29 (dk_at dksX5_text_3 1 rfl rfl)
theorem dX5_text_74 : decode cX5_text 74 = .ok (.iadd, 1) := dk_96 (dk_at dksX5_text_3 2 rfl rfl)
theorem dX5_text_75 : decode cX5_text 75 = .ok (.istore 5, 2) := dk_54 5 (dk_at dksX5_text_3 3 rfl rfl)
theorem dX5_text_77 : decode cX5_text 77 = .ok (.aload_n 0, 1) := dk_42 (dk_at dksX5_text_3 5 rfl rfl)
theorem dX5_text_78 : decode cX5_text 78 = .ok (.getfield 47, 3) := dk_180 0 47 (dk_at dksX5_text_3 6 rfl rfl)
theorem dX5_text_81 : decode cX5_text 81 = .ok (.iload 5, 2) := dk_21 5 (dk_at dksX5_text_3 9 rfl rfl)
theorem dX5_text_83 : decode cX5_text 83 = .ok (.aload_n 0, 1) := dk_42 (dk_at dksX5_text_3 11 rfl rfl)
theorem dX5_text_84 : decode cX5_text 84 = .ok (.getfield 47, 3) := dk_180 0 47 (dk_at dksX5_text_3 12 rfl rfl)
theorem dX5_text_87 : decode cX5_text 87 = .ok (.iload 4, 2) := dk_21 4 (dk_at dksX5_text_3 15 rfl rfl)
theorem dX5_text_89 : decode cX5_text 89 = .ok (.iaload, 1) := dk_46 (dk_at dksX5_text_3 17 rfl rfl)
theorem dX5_text_90 : decode cX5_text 90 = .ok (.iastore, 1) := dk_79 (dk_at dksX5_text_3 18 rfl rfl)
theorem dX5_text_91 : decode cX5_text 91 = .ok (.aload_n 0, 1) := dk_42 (dk_at dksX5_text_3 19 rfl rfl)
theorem dX5_text_92 : decode cX5_text 92 = .ok (.getfield 50, 3) := dk_180 0 50 (dk_at dksX5_text_3 20 rfl rfl)
theorem dX5_text_95 : decode cX5_text 95 = .ok (.iload 5, 2) := dk_21 5 (dk_at dksX5_text_4 0 rfl rfl)
theorem dX5_text_97 : decode cX5_text 97 = .ok (.aload_n 0, 1) := dk_42 (dk_at dksX5_text_4 2 rfl rfl)
theorem dX5_text_98 : decode cX5_text 98 = .ok (.getfield 50, 3) := dk_180 0 50 (dk_at dksX5_text_4 3 rfl rfl)
theorem dX5_text_101 : decode cX5_text 101 = .ok (.iload 4, 2) := dk_21 4 (dk_at dksX5_text_4 6 rfl rfl)
theorem dX5_text_103 : decode cX5_text 103 = .ok (.iaload, 1) := dk_46 (dk_at dksX5_text_4 8 rfl rfl)
theorem dX5_text_104 : decode cX5_text 104 = .ok (.iastore, 1) := dk_79 (dk_at dksX5_text_4 9 rfl rfl)
theorem dX5_text_105 : decode cX5_text 105 = .ok (.aload_n 0, 1) := dk_42 (dk_at dksX5_text_4 10 rfl rfl)
theorem dX5_text_106 : decode cX5_text 106 = .ok (.getfield 53, 3) := dk_180 0 53 (dk_at dksX5_text_4 11 rfl rfl)
theorem dX5_text_109 : decode cX5_text 109 = .ok (.iload 5, 2) := dk_21 5 (dk_at dksX5_text_4 14 rfl rfl)
theorem dX5_text_111 : decode cX5_text 111 = .ok (.aload_n 0, 1) := dk_42 (dk_at dksX5_text_4 16 rfl rfl)
theorem dX5_text_112 : decode cX5_text 112 = .ok (.getfield 53, 3) := dk_180 0 53 (dk_at dksX5_text_4 17 rfl rfl)
theorem dX5_text_115 : decode cX5_text 115 = .ok (.iload 4, 2) := dk_21 4 (dk_at dksX5_text_4 20 rfl rfl)
theorem dX5_text_117 : decode cX5_text 117 = .ok (.iaload, 1) := dk_46 (dk_at dksX5_text_4 22 rfl rfl)
theorem dX5_text_118 : decode cX5_text 118 = .ok (.iastore, 1) := dk_79 (dk_at dksX5_text_4 23 rfl rfl)
theorem dX5_text_119 : decode cX5_text 119 = .ok (.aload_n 0, 1) := dk_42 (dk_at dksX5_text_5 0 rfl rfl)
theorem dX5_text_120 : decode cX5_text 120 = .ok (.getfield 56, 3) := dk_180 0 56 (dk_at dksX5_text_5 1 rfl rfl)
theorem dX5_text_123 : decode cX5_text 123 = .ok (.iload 5, 2) := dk_21 5 (dk_at dksX5_text_5 4 rfl rfl)
theorem dX5_text_125 : decode cX5_text 125 = .ok (.aload_n 0, 1) := dk_42 (dk_at dksX5_text_5 6 rfl rfl)
theorem dX5_text_126 : decode cX5_text 126 = .ok (.getfield 56, 3) := dk_180 0 56 (dk_at dksX5_text_5 7 rfl rfl)
theorem dX5_text_129 : decode cX5_text 129 = .ok (.iload 4, 2) := dk_21 4 (dk_at dksX5_text_5 10 rfl rfl)
theorem dX5_text_131 : decode cX5_text 131 = .ok (.iaload, 1) := dk_46 (dk_at dksX5_text_5 12 rfl rfl)
theorem dX5_text_132 : decode cX5_text 132 = .ok (.iastore, 1) := dk_79 (dk_at dksX5_text_5 13 rfl rfl)
theorem dX5_text_133 : decode cX5_text 133 = .ok (.aload_n 0, 1) := dk_42 (dk_at dksX5_text_5 14 rfl rfl)
theorem dX5_text_134 : decode cX5_text 134 = .ok (.getfield 59, 3) := dk_180 0 59 (dk_at dksX5_text_5 15 rfl rfl)
theorem dX5_text_137 : decode cX5_text 137 = .ok (.iload 5, 2) := dk_21 5 (dk_at dksX5_text_5 18 rfl rfl)
theorem dX5_text_139 : decode cX5_text 139 = .ok (.aload_n 0, 1) := dk_42 (dk_at dksX5_text_5 20 rfl rfl)
theorem dX5_text_140 : decode cX5_text 140 = .ok (.getfield 59, 3) := dk_180 0 59 (dk_at dksX5_text_5 21 rfl rfl)
theorem dX5_text_143 : decode cX5_text 143 = .ok (.iload 4, 2) := dk_21 4 (dk_at dksX5_text_6 0 rfl rfl)
theorem dX5_text_145 : decode cX5_text 145 = .ok (.iaload, 1) := dk_46 (dk_at dksX5_text_6 2 rfl rfl)
theorem dX5_text_146 : decode cX5_text 146 = .ok (.iastore, 1) := dk_79 (dk_at dksX5_text_6 3 rfl rfl)
theorem dX5_text_147 : decode cX5_text 147 = .ok (.iinc 3 1, 3) := dk_132 3 1 (dk_at dksX5_text_6 4 rfl rfl)
theorem dX5_text_150 : decode cX5_text 150 = .ok (.goto (-93), 3) := dk_167 255 163 (dk_at dksX5_text_6 7 rfl rfl)
theorem dX5_text_153 : decode cX5_text 153 = .ok (.iconst 0, 1) := dk_3 (dk_at dksX5_text_6 10 rfl rfl)
theorem dX5_text_154 : decode cX5_text 154 = .ok (.istore_n 3, 1) := dk_62 (dk_at dksX5_text_6 11 rfl rfl)
theorem dX5_text_155 : decode cX5_text 155 = .ok (.iload_n 3, 1) := dk_29 (dk_at dksX5_text_6 12 rfl rfl)
theorem dX5_text_156 : decode cX5_text 156 = .ok (.sipush 200, 3) := dk_17 0 200 (dk_at dksX5_text_6 13 rfl rfl)
theorem dX5_text_159 : decode cX5_text 159 = .ok (.if_icmp .ge 75, 3) := dk_162 0 75 (dk_at dksX5_text_6 16 rfl rfl)
theorem dX5_text_162 : decode cX5_text 162 = .ok (.aload_n 0, 1) := dk_42 (dk_at dksX5_text_6 19 rfl rfl)
theorem dX5_text_163 : decode cX5_text 163 = .ok (.getfield 62, 3) := dk_180 0 62 (dk_at dksX5_text_6 20 rfl rfl)
theorem dX5_text_166 : decode cX5_text 166 = .ok (.sipush 200, 3) := dk_17 0 200 (dk_at dksX5_text_7 0 rfl rfl)
theorem dX5_text_169 : decode cX5_text 169 = .ok (.iload_n 1, 1) := dk_27 (dk_at dksX5_text_7 3 rfl rfl)
theorem dX5_text_170 : decode cX5_text 170 = .ok (.imul, 1) := dk_104 (dk_at dksX5_text_7 4 rfl rfl)
theorem dX5_text_171 : decode cX5_text 171 = .ok (.iload_n 3, 1) := dk_29 (dk_at dksX5_text_7 5 rfl rfl)
theorem dX5_text_172 : decode cX5_text 172 = .ok (.iadd, 1) := dk_96 (dk_at dksX5_text_7 6 rfl rfl)
theorem dX5_text_173 : decode cX5_text 173 = .ok (.aload_n 0, 1) := dk_42 (dk_at dksX5_text_7 7 rfl rfl)
theorem dX5_text_174 : decode cX5_text 174 = .ok (.getfield 62, 3) := dk_180 0 62 (dk_at dksX5_text_7 8 rfl rfl)
theorem dX5_text_177 : decode cX5_text 177 = .ok (.sipush 1400, 3) := dk_17 5 120 (dk_at dksX5_text_7 11 rfl rfl)
theorem dX5_text_180 : decode cX5_text 180 = .ok (.iload_n 3, 1) := dk_29 (dk_at dksX5_text_7 14 rfl rfl)
theorem dX5_text_181 : decode cX5_text 181 = .ok (.iadd, 1) := dk_96 (dk_at dksX5_text_7 15 rfl rfl)
theorem dX5_text_182 : decode cX5_text 182 = .ok (.iaload, 1) := dk_46 (dk_at dksX5_text_7 16 rfl rfl)
theorem dX5_text_183 : decode cX5_text 183 = .ok (.iastore, 1) := dk_79 (dk_at dksX5_text_7 17 rfl rfl)
theorem dX5_text_184 : decode cX5_text 184 = .ok (.aload_n 0, 1) := dk_42 (dk_at dksX5_text_7 18 rfl rfl)
theorem dX5_text_185 : decode cX5_text 185 = .ok (.getfield 65, 3) := dk_180 0 65 (dk_at dksX5_text_7 19 rfl rfl)
theorem dX5_text_188 : decode cX5_text 188 = .ok (.sipush 200, 3) := dk_17 0 200 (dk_at dksX5_text_8 0 rfl rfl)
theorem dX5_text_191 : decode cX5_text 191 = .ok (.iload_n 1, 1) := dk_27 (dk_at dksX5_text_8 3 rfl rfl)
theorem dX5_text_192 : decode cX5_text 192 = .ok (.imul, 1) := dk_104 (dk_at dksX5_text_8 4 rfl rfl)
theorem dX5_text_193 : decode cX5_text 193 = .ok (.iload_n 3, 1) := dk_29 (dk_at dksX5_text_8 5 rfl rfl)
theorem dX5_text_194 : decode cX5_text 194 = .ok (.iadd, 1) := dk_96 (dk_at dksX5_text_8 6 rfl rfl)
theorem dX5_text_195 : decode cX5_text 195 = .ok (.aload_n 0, 1) := dk_42 (dk_at dksX5_text_8 7 rfl rfl)
theorem dX5_text_196 : decode cX5_text 196 = .ok (.getfield 65, 3) := dk_180 0 65 (dk_at dksX5_text_8 8 rfl rfl)
theorem dX5_text_199 : decode cX5_text 199 = .ok (.sipush 1400, 3) := dk_17 5 120 (dk_at dksX5_text_8 11 rfl rfl)
theorem dX5_text_202 : decode cX5_text 202 = .ok (.iload_n 3, 1) := dk_29 (dk_at dksX5_text_8 14 rfl rfl)
theorem dX5_text_203 : decode cX5_text 203 = .ok (.iadd, 1) := dk_96 (dk_at dksX5_text_8 15 rfl rfl)
theorem dX5_text_204 : decode cX5_text 204 = .ok (.iaload, 1) := dk_46 (dk_at dksX5_text_8 16 rfl rfl)
theorem dX5_text_205 : decode cX5_text 205 = .ok (.iastore, 1) := dk_79 (dk_at dksX5_text_8 17 rfl rfl)
theorem dX5_text_206 : decode cX5_text 206 = .ok (.aload_n 0, 1) := dk_42 (dk_at dksX5_text_8 18 rfl rfl)
theorem dX5_text_207 : decode cX5_text 207 = .ok (.getfield 68, 3) := dk_180 0 68 (dk_at dksX5_text_8 19 rfl rfl)
theorem dX5_text_210 : decode cX5_text 210 = .ok (.sipush 200, 3) := dk_17 0 200 (dk_at dksX5_text_9 0 rfl rfl)
theorem dX5_text_213 : decode cX5_text 213 = .ok (.iload_n 1, 1) := dk_27 (dk_at dksX5_text_9 3 rfl rfl)
theorem dX5_text_214 : decode cX5_text 214 = .ok (.imul, 1) := dk_104 (dk_at dksX5_text_9 4 rfl rfl)
theorem dX5_text_215 : decode cX5_text 215 = .ok (.iload_n 3, 1) := dk_29 (dk_at dksX5_text_9 5 rfl rfl)
theorem dX5_text_216 : decode cX5_text 216 = .ok (.iadd, 1) := dk_96 (dk_at dksX5_text_9 6 rfl rfl)
theorem dX5_text_217 : decode cX5_text 217 = .ok (.aload_n 0, 1) := dk_42 (dk_at dksX5_text_9 7 rfl rfl)
theorem dX5_text_218 : decode cX5_text 218 = .ok (.getfield 68, 3) := dk_180 0 68 (dk_at dksX5_text_9 8 rfl rfl)
theorem dX5_text_221 : decode cX5_text 221 = .ok (.sipush 1400, 3) := dk_17 5 120 (dk_at dksX5_text_9 11 rfl rfl)
theorem dX5_text_224 : decode cX5_text 224 = .ok (.iload_n 3, 1) := dk_29 (dk_at dksX5_text_9 14 rfl rfl)
theorem dX5_text_225 : decode cX5_text 225 = .ok (.iadd, 1) := dk_96 (dk_at dksX5_text_9 15 rfl rfl)
theorem dX5_text_226 : decode cX5_text 226 = .ok (.iaload, 1) := dk_46 (dk_at dksX5_text_9 16 rfl rfl)
theorem dX5_text_227 : decode cX5_text 227 = .ok (.iastore, 1) := dk_79 (dk_at dksX5_text_9 17 rfl rfl)
theorem dX5_text_228 : decode cX5_text 228 = .ok (.iinc 3 1, 3) := dk_132 3 1 (dk_at dksX5_text_9 18 rfl rfl)
theorem dX5_text_231 : decode cX5_text 231 = .ok (.goto (-76), 3) := dk_167 255 180 (dk_at dksX5_text_9 21 rfl rfl)
theorem dX5_text_234 : decode cX5_text 234 = .ok (.aload_n 0, 1) := dk_42 (dk_at dksX5_text_10 0 rfl rfl)
theorem dX5_text_235 : decode cX5_text 235 = .ok (.getfield 44, 3) := dk_180 0 44 (dk_at dksX5_text_10 1 rfl rfl)
theorem dX5_text_238 : decode cX5_text 238 = .ok (.iload_n 1, 1) := dk_27 (dk_at dksX5_text_10 4 rfl rfl)
theorem dX5_text_239 : decode cX5_text 239 = .ok (.iaload, 1) := dk_46 (dk_at dksX5_text_10 5 rfl rfl)
theorem dX5_text_240 : decode cX5_text 240 = .ok (.ireturn, 1) := dk_172 (dk_at dksX5_text_10 6 rfl rfl)
abbrev cX5_next : ByteArray := prog_12_method_29_code
def yX5_next : MethodName := ⟨RX5, "next", "()V"⟩
def dkwX5_next_14 : List UInt8 := [181, 0, 173, 177]
abbrev dktX5_next_14 : List UInt8 := dkwX5_next_14 ++ []
def dkwX5_next_13 : List UInt8 := [16, 6, 167, 0, 4, 6, 164, 0, 7, 7, 167, 0, 12, 28, 153, 0, 7, 4, 167, 0, 4, 5]
abbrev dktX5_next_13 : List UInt8 := dkwX5_next_13 ++ dktX5_next_14
def dkwX5_next_12 : List UInt8 := [180, 0, 21, 4, 96, 181, 0, 21, 167, 255, 142, 42, 29, 153, 0, 20, 42, 180, 0, 170, 28, 153, 0, 8]
abbrev dktX5_next_12 : List UInt8 := dkwX5_next_12 ++ dktX5_next_13
def dkwX5_next_11 : List UInt8 := [42, 182, 0, 164, 96, 16, 48, 100, 181, 0, 182, 42, 89, 180, 0, 170, 4, 96, 181, 0, 170, 42, 89]
abbrev dktX5_next_11 : List UInt8 := dkwX5_next_11 ++ dktX5_next_12
def dkwX5_next_10 : List UInt8 := [182, 0, 164, 133, 129, 181, 0, 185, 42, 180, 0, 170, 6, 162, 0, 22, 42, 16, 10, 42, 180, 0, 182, 104]
abbrev dktX5_next_10 : List UInt8 := dkwX5_next_10 ++ dktX5_next_11
def dkwX5_next_9 : List UInt8 := [4, 167, 0, 4, 3, 62, 42, 180, 0, 170, 16, 6, 162, 0, 20, 42, 42, 180, 0, 185, 16, 8, 121, 42]
abbrev dktX5_next_9 : List UInt8 := dkwX5_next_9 ++ dktX5_next_10
def dkwX5_next_8 : List UInt8 := [182, 0, 164, 184, 0, 179, 153, 0, 100, 29, 153, 0, 18, 42, 182, 0, 164, 184, 0, 176, 28, 160, 0, 7]
abbrev dktX5_next_8 : List UInt8 := dkwX5_next_8 ++ dktX5_next_9
def dkwX5_next_7 : List UInt8 := [4, 62, 42, 9, 181, 0, 185, 42, 3, 181, 0, 182, 42, 182, 0, 164, 184, 0, 176, 154, 0, 13, 42]
abbrev dktX5_next_7 : List UInt8 := dkwX5_next_7 ++ dktX5_next_8
def dkwX5_next_6 : List UInt8 := [181, 0, 173, 42, 27, 181, 0, 182, 42, 89, 180, 0, 21, 4, 96, 181, 0, 21, 177, 27, 184, 0, 176, 61]
abbrev dktX5_next_6 : List UInt8 := dkwX5_next_6 ++ dktX5_next_7
def dkwX5_next_5 : List UInt8 := [16, 41, 159, 0, 15, 27, 16, 60, 161, 0, 13, 27, 16, 62, 163, 0, 7, 6, 167, 0, 4, 7]
abbrev dktX5_next_5 : List UInt8 := dkwX5_next_5 ++ dktX5_next_6
def dkwX5_next_4 : List UInt8 := [154, 0, 65, 27, 184, 0, 179, 154, 0, 58, 42, 27, 16, 59, 159, 0, 27, 27, 16, 40, 159, 0, 21, 27]
abbrev dktX5_next_4 : List UInt8 := dkwX5_next_4 ++ dktX5_next_5
def dkwX5_next_3 : List UInt8 := [7, 181, 0, 173, 177, 42, 182, 0, 164, 60, 27, 156, 0, 9, 42, 3, 181, 0, 173, 177, 27, 184, 0, 176]
abbrev dktX5_next_3 : List UInt8 := dkwX5_next_3 ++ dktX5_next_4
def dkwX5_next_2 : List UInt8 := [17, 1, 144, 164, 0, 26, 42, 180, 0, 21, 17, 1, 144, 161, 0, 16, 42, 17, 1, 144, 181, 0, 167, 42]
abbrev dktX5_next_2 : List UInt8 := dkwX5_next_2 ++ dktX5_next_3
def dkwX5_next_1 : List UInt8 := [96, 181, 0, 21, 167, 255, 228, 42, 42, 180, 0, 21, 181, 0, 167, 42, 3, 181, 0, 170, 42, 180, 0, 18]
abbrev dktX5_next_1 : List UInt8 := dkwX5_next_1 ++ dktX5_next_2
def dkwX5_next_0 : List UInt8 := [42, 182, 0, 164, 16, 32, 159, 0, 12, 42, 182, 0, 164, 16, 10, 160, 0, 16, 42, 89, 180, 0, 21, 4]
abbrev dktX5_next_0 : List UInt8 := dkwX5_next_0 ++ dktX5_next_1
theorem dksX5_next_0 : cX5_next.data.toList.drop 0 = dktX5_next_0 := by decide +kernel
theorem dksX5_next_1 : cX5_next.data.toList.drop 24 = dktX5_next_1 := dk_seg dksX5_next_0 24 rfl rfl
theorem dksX5_next_2 : cX5_next.data.toList.drop 48 = dktX5_next_2 := dk_seg dksX5_next_1 24 rfl rfl
theorem dksX5_next_3 : cX5_next.data.toList.drop 72 = dktX5_next_3 := dk_seg dksX5_next_2 24 rfl rfl
theorem dksX5_next_4 : cX5_next.data.toList.drop 96 = dktX5_next_4 := dk_seg dksX5_next_3 24 rfl rfl
theorem dksX5_next_5 : cX5_next.data.toList.drop 120 = dktX5_next_5 := dk_seg dksX5_next_4 24 rfl rfl
theorem dksX5_next_6 : cX5_next.data.toList.drop 142 = dktX5_next_6 := dk_seg dksX5_next_5 22 rfl rfl
theorem dksX5_next_7 : cX5_next.data.toList.drop 166 = dktX5_next_7 := dk_seg dksX5_next_6 24 rfl rfl
theorem dksX5_next_8 : cX5_next.data.toList.drop 189 = dktX5_next_8 := dk_seg dksX5_next_7 23 rfl rfl
theorem dksX5_next_9 : cX5_next.data.toList.drop 213 = dktX5_next_9 := dk_seg dksX5_next_8 24 rfl rfl
theorem dksX5_next_10 : cX5_next.data.toList.drop 237 = dktX5_next_10 := dk_seg dksX5_next_9 24 rfl rfl
theorem dksX5_next_11 : cX5_next.data.toList.drop 261 = dktX5_next_11 := dk_seg dksX5_next_10 24 rfl rfl
theorem dksX5_next_12 : cX5_next.data.toList.drop 284 = dktX5_next_12 := dk_seg dksX5_next_11 23 rfl rfl
theorem dksX5_next_13 : cX5_next.data.toList.drop 308 = dktX5_next_13 := dk_seg dksX5_next_12 24 rfl rfl
theorem dksX5_next_14 : cX5_next.data.toList.drop 330 = dktX5_next_14 := dk_seg dksX5_next_13 22 rfl rfl
theorem dX5_next_0 : decode cX5_next 0 = .ok (.aload_n 0, 1) := dk_42 (dk_at dksX5_next_0 0 rfl rfl)
theorem dX5_next_1 : decode cX5_next 1 = .ok (.invokevirtual 164, 3) := dk_182 0 164 (dk_at dksX5_next_0 1 rfl rfl)
theorem dX5_next_4 : decode cX5_next 4 = .ok (.bipush 32, 2) := dk_16 32 (dk_at dksX5_next_0 4 rfl rfl)
theorem dX5_next_6 : decode cX5_next 6 = .ok (.if_icmp .eq 12, 3) := dk_159 0 12 (dk_at dksX5_next_0 6 rfl rfl)
theorem dX5_next_9 : decode cX5_next 9 = .ok (.aload_n 0, 1) := dk_42 (dk_at dksX5_next_0 9 rfl rfl)
theorem dX5_next_10 : decode cX5_next 10 = .ok (.invokevirtual 164, 3) := dk_182 0 164 (dk_at dksX5_next_0 10 rfl rfl)
theorem dX5_next_13 : decode cX5_next 13 = .ok (.bipush 10, 2) := dk_16 10 (dk_at dksX5_next_0 13 rfl rfl)
theorem dX5_next_15 : decode cX5_next 15 = .ok (.if_icmp .ne 16, 3) := dk_160 0 16 (dk_at dksX5_next_0 15 rfl rfl)
theorem dX5_next_18 : decode cX5_next 18 = .ok (.aload_n 0, 1) := dk_42 (dk_at dksX5_next_0 18 rfl rfl)
theorem dX5_next_19 : decode cX5_next 19 = .ok (.dup, 1) := dk_89 (dk_at dksX5_next_0 19 rfl rfl)
theorem dX5_next_20 : decode cX5_next 20 = .ok (.getfield 21, 3) := dk_180 0 21 (dk_at dksX5_next_0 20 rfl rfl)
theorem dX5_next_23 : decode cX5_next 23 = .ok (.iconst 1, 1) := dk_4 (dk_at dksX5_next_0 23 rfl rfl)
theorem dX5_next_24 : decode cX5_next 24 = .ok (.iadd, 1) := dk_96 (dk_at dksX5_next_1 0 rfl rfl)
theorem dX5_next_25 : decode cX5_next 25 = .ok (.putfield 21, 3) := dk_181 0 21 (dk_at dksX5_next_1 1 rfl rfl)
theorem dX5_next_28 : decode cX5_next 28 = .ok (.goto (-28), 3) := dk_167 255 228 (dk_at dksX5_next_1 4 rfl rfl)
theorem dX5_next_31 : decode cX5_next 31 = .ok (.aload_n 0, 1) := dk_42 (dk_at dksX5_next_1 7 rfl rfl)
theorem dX5_next_32 : decode cX5_next 32 = .ok (.aload_n 0, 1) := dk_42 (dk_at dksX5_next_1 8 rfl rfl)
theorem dX5_next_33 : decode cX5_next 33 = .ok (.getfield 21, 3) := dk_180 0 21 (dk_at dksX5_next_1 9 rfl rfl)
theorem dX5_next_36 : decode cX5_next 36 = .ok (.putfield 167, 3) := dk_181 0 167 (dk_at dksX5_next_1 12 rfl rfl)
theorem dX5_next_39 : decode cX5_next 39 = .ok (.aload_n 0, 1) := dk_42 (dk_at dksX5_next_1 15 rfl rfl)
theorem dX5_next_40 : decode cX5_next 40 = .ok (.iconst 0, 1) := dk_3 (dk_at dksX5_next_1 16 rfl rfl)
theorem dX5_next_41 : decode cX5_next 41 = .ok (.putfield 170, 3) := dk_181 0 170 (dk_at dksX5_next_1 17 rfl rfl)
theorem dX5_next_44 : decode cX5_next 44 = .ok (.aload_n 0, 1) := dk_42 (dk_at dksX5_next_1 20 rfl rfl)
theorem dX5_next_45 : decode cX5_next 45 = .ok (.getfield 18, 3) := dk_180 0 18 (dk_at dksX5_next_1 21 rfl rfl)
theorem dX5_next_48 : decode cX5_next 48 = .ok (.sipush 400, 3) := dk_17 1 144 (dk_at dksX5_next_2 0 rfl rfl)
theorem dX5_next_51 : decode cX5_next 51 = .ok (.if_icmp .le 26, 3) := dk_164 0 26 (dk_at dksX5_next_2 3 rfl rfl)
theorem dX5_next_54 : decode cX5_next 54 = .ok (.aload_n 0, 1) := dk_42 (dk_at dksX5_next_2 6 rfl rfl)
theorem dX5_next_55 : decode cX5_next 55 = .ok (.getfield 21, 3) := dk_180 0 21 (dk_at dksX5_next_2 7 rfl rfl)
theorem dX5_next_58 : decode cX5_next 58 = .ok (.sipush 400, 3) := dk_17 1 144 (dk_at dksX5_next_2 10 rfl rfl)
theorem dX5_next_61 : decode cX5_next 61 = .ok (.if_icmp .lt 16, 3) := dk_161 0 16 (dk_at dksX5_next_2 13 rfl rfl)
theorem dX5_next_64 : decode cX5_next 64 = .ok (.aload_n 0, 1) := dk_42 (dk_at dksX5_next_2 16 rfl rfl)
theorem dX5_next_65 : decode cX5_next 65 = .ok (.sipush 400, 3) := dk_17 1 144 (dk_at dksX5_next_2 17 rfl rfl)
theorem dX5_next_68 : decode cX5_next 68 = .ok (.putfield 167, 3) := dk_181 0 167 (dk_at dksX5_next_2 20 rfl rfl)
theorem dX5_next_71 : decode cX5_next 71 = .ok (.aload_n 0, 1) := dk_42 (dk_at dksX5_next_2 23 rfl rfl)
theorem dX5_next_72 : decode cX5_next 72 = .ok (.iconst 4, 1) := dk_7 (dk_at dksX5_next_3 0 rfl rfl)
theorem dX5_next_73 : decode cX5_next 73 = .ok (.putfield 173, 3) := dk_181 0 173 (dk_at dksX5_next_3 1 rfl rfl)
theorem dX5_next_76 : decode cX5_next 76 = .ok (.return_, 1) := dk_177 (dk_at dksX5_next_3 4 rfl rfl)
theorem dX5_next_77 : decode cX5_next 77 = .ok (.aload_n 0, 1) := dk_42 (dk_at dksX5_next_3 5 rfl rfl)
theorem dX5_next_78 : decode cX5_next 78 = .ok (.invokevirtual 164, 3) := dk_182 0 164 (dk_at dksX5_next_3 6 rfl rfl)
theorem dX5_next_81 : decode cX5_next 81 = .ok (.istore_n 1, 1) := dk_60 (dk_at dksX5_next_3 9 rfl rfl)
theorem dX5_next_82 : decode cX5_next 82 = .ok (.iload_n 1, 1) := dk_27 (dk_at dksX5_next_3 10 rfl rfl)
theorem dX5_next_83 : decode cX5_next 83 = .ok (.ifCond .ge 9, 3) := dk_156 0 9 (dk_at dksX5_next_3 11 rfl rfl)
theorem dX5_next_86 : decode cX5_next 86 = .ok (.aload_n 0, 1) := dk_42 (dk_at dksX5_next_3 14 rfl rfl)
theorem dX5_next_87 : decode cX5_next 87 = .ok (.iconst 0, 1) := dk_3 (dk_at dksX5_next_3 15 rfl rfl)
theorem dX5_next_88 : decode cX5_next 88 = .ok (.putfield 173, 3) := dk_181 0 173 (dk_at dksX5_next_3 16 rfl rfl)
theorem dX5_next_91 : decode cX5_next 91 = .ok (.return_, 1) := dk_177 (dk_at dksX5_next_3 19 rfl rfl)
theorem dX5_next_92 : decode cX5_next 92 = .ok (.iload_n 1, 1) := dk_27 (dk_at dksX5_next_3 20 rfl rfl)
theorem dX5_next_93 : decode cX5_next 93 = .ok (.invokestatic 176, 3) := dk_184 0 176 (dk_at dksX5_next_3 21 rfl rfl)
theorem dX5_next_96 : decode cX5_next 96 = .ok (.ifCond .ne 65, 3) := dk_154 0 65 (dk_at dksX5_next_4 0 rfl rfl)
theorem dX5_next_99 : decode cX5_next 99 = .ok (.iload_n 1, 1) := dk_27 (dk_at dksX5_next_4 3 rfl rfl)
theorem dX5_next_100 : decode cX5_next 100 = .ok (.invokestatic 179, 3) := dk_184 0 179 (dk_at dksX5_next_4 4 rfl rfl)
theorem dX5_next_103 : decode cX5_next 103 = .ok (.ifCond .ne 58, 3) := dk_154 0 58 (dk_at dksX5_next_4 7 rfl rfl)
theorem dX5_next_106 : decode cX5_next 106 = .ok (.aload_n 0, 1) := dk_42 (dk_at dksX5_next_4 10 rfl rfl)
theorem dX5_next_107 : decode cX5_next 107 = .ok (.iload_n 1, 1) := dk_27 (dk_at dksX5_next_4 11 rfl rfl)
theorem dX5_next_108 : decode cX5_next 108 = .ok (.bipush 59, 2) := dk_16 59 (dk_at dksX5_next_4 12 rfl rfl)
theorem dX5_next_110 : decode cX5_next 110 = .ok (.if_icmp .eq 27, 3) := dk_159 0 27 (dk_at dksX5_next_4 14 rfl rfl)
theorem dX5_next_113 : decode cX5_next 113 = .ok (.iload_n 1, 1) := dk_27 (dk_at dksX5_next_4 17 rfl rfl)
theorem dX5_next_114 : decode cX5_next 114 = .ok (.bipush 40, 2) := dk_16 40 (dk_at dksX5_next_4 18 rfl rfl)
theorem dX5_next_116 : decode cX5_next 116 = .ok (.if_icmp .eq 21, 3) := dk_159 0 21 (dk_at dksX5_next_4 20 rfl rfl)
theorem dX5_next_119 : decode cX5_next 119 = .ok (.iload_n 1, 1) := dk_27 (dk_at dksX5_next_4 23 rfl rfl)
theorem dX5_next_120 : decode cX5_next 120 = .ok (.bipush 41, 2) := dk_16 41 (dk_at dksX5_next_5 0 rfl rfl)
theorem dX5_next_122 : decode cX5_next 122 = .ok (.if_icmp .eq 15, 3) := dk_159 0 15 (dk_at dksX5_next_5 2 rfl rfl)
theorem dX5_next_125 : decode cX5_next 125 = .ok (.iload_n 1, 1) := dk_27 (dk_at dksX5_next_5 5 rfl rfl)
theorem dX5_next_126 : decode cX5_next 126 = .ok (.bipush 60, 2) := dk_16 60 (dk_at dksX5_next_5 6 rfl rfl)
theorem dX5_next_128 : decode cX5_next 128 = .ok (.if_icmp .lt 13, 3) := dk_161 0 13 (dk_at dksX5_next_5 8 rfl rfl)
theorem dX5_next_131 : decode cX5_next 131 = .ok (.iload_n 1, 1) := dk_27 (dk_at dksX5_next_5 11 rfl rfl)
theorem dX5_next_132 : decode cX5_next 132 = .ok (.bipush 62, 2) := dk_16 62 (dk_at dksX5_next_5 12 rfl rfl)
theorem dX5_next_134 : decode cX5_next 134 = .ok (.if_icmp .gt 7, 3) := dk_163 0 7 (dk_at dksX5_next_5 14 rfl rfl)
theorem dX5_next_137 : decode cX5_next 137 = .ok (.iconst 3, 1) := dk_6 (dk_at dksX5_next_5 17 rfl rfl)
theorem dX5_next_138 : decode cX5_next 138 = .ok (.goto 4, 3) := dk_167 0 4 (dk_at dksX5_next_5 18 rfl rfl)
theorem dX5_next_141 : decode cX5_next 141 = .ok (.iconst 4, 1) := dk_7 (dk_at dksX5_next_5 21 rfl rfl)
theorem dX5_next_142 : decode cX5_next 142 = .ok (.putfield 173, 3) := dk_181 0 173 (dk_at dksX5_next_6 0 rfl rfl)
theorem dX5_next_145 : decode cX5_next 145 = .ok (.aload_n 0, 1) := dk_42 (dk_at dksX5_next_6 3 rfl rfl)
theorem dX5_next_146 : decode cX5_next 146 = .ok (.iload_n 1, 1) := dk_27 (dk_at dksX5_next_6 4 rfl rfl)
theorem dX5_next_147 : decode cX5_next 147 = .ok (.putfield 182, 3) := dk_181 0 182 (dk_at dksX5_next_6 5 rfl rfl)
theorem dX5_next_150 : decode cX5_next 150 = .ok (.aload_n 0, 1) := dk_42 (dk_at dksX5_next_6 8 rfl rfl)
theorem dX5_next_151 : decode cX5_next 151 = .ok (.dup, 1) := dk_89 (dk_at dksX5_next_6 9 rfl rfl)
theorem dX5_next_152 : decode cX5_next 152 = .ok (.getfield 21, 3) := dk_180 0 21 (dk_at dksX5_next_6 10 rfl rfl)
theorem dX5_next_155 : decode cX5_next 155 = .ok (.iconst 1, 1) := dk_4 (dk_at dksX5_next_6 13 rfl rfl)
theorem dX5_next_156 : decode cX5_next 156 = .ok (.iadd, 1) := dk_96 (dk_at dksX5_next_6 14 rfl rfl)
theorem dX5_next_157 : decode cX5_next 157 = .ok (.putfield 21, 3) := dk_181 0 21 (dk_at dksX5_next_6 15 rfl rfl)
theorem dX5_next_160 : decode cX5_next 160 = .ok (.return_, 1) := dk_177 (dk_at dksX5_next_6 18 rfl rfl)
theorem dX5_next_161 : decode cX5_next 161 = .ok (.iload_n 1, 1) := dk_27 (dk_at dksX5_next_6 19 rfl rfl)
theorem dX5_next_162 : decode cX5_next 162 = .ok (.invokestatic 176, 3) := dk_184 0 176 (dk_at dksX5_next_6 20 rfl rfl)
theorem dX5_next_165 : decode cX5_next 165 = .ok (.istore_n 2, 1) := dk_61 (dk_at dksX5_next_6 23 rfl rfl)
theorem dX5_next_166 : decode cX5_next 166 = .ok (.iconst 1, 1) := dk_4 (dk_at dksX5_next_7 0 rfl rfl)
theorem dX5_next_167 : decode cX5_next 167 = .ok (.istore_n 3, 1) := dk_62 (dk_at dksX5_next_7 1 rfl rfl)
theorem dX5_next_168 : decode cX5_next 168 = .ok (.aload_n 0, 1) := dk_42 (dk_at dksX5_next_7 2 rfl rfl)
theorem dX5_next_169 : decode cX5_next 169 = .ok (.lconst 0, 1) := dk_9 (dk_at dksX5_next_7 3 rfl rfl)
theorem dX5_next_170 : decode cX5_next 170 = .ok (.putfield 185, 3) := dk_181 0 185 (dk_at dksX5_next_7 4 rfl rfl)
theorem dX5_next_173 : decode cX5_next 173 = .ok (.aload_n 0, 1) := dk_42 (dk_at dksX5_next_7 7 rfl rfl)
theorem dX5_next_174 : decode cX5_next 174 = .ok (.iconst 0, 1) := dk_3 (dk_at dksX5_next_7 8 rfl rfl)
theorem dX5_next_175 : decode cX5_next 175 = .ok (.putfield 182, 3) := dk_181 0 182 (dk_at dksX5_next_7 9 rfl rfl)
theorem dX5_next_178 : decode cX5_next 178 = .ok (.aload_n 0, 1) := dk_42 (dk_at dksX5_next_7 12 rfl rfl)
theorem dX5_next_179 : decode cX5_next 179 = .ok (.invokevirtual 164, 3) := dk_182 0 164 (dk_at dksX5_next_7 13 rfl rfl)
theorem dX5_next_182 : decode cX5_next 182 = .ok (.invokestatic 176, 3) := dk_184 0 176 (dk_at dksX5_next_7 16 rfl rfl)
theorem dX5_next_185 : decode cX5_next 185 = .ok (.ifCond .ne 13, 3) := dk_154 0 13 (dk_at dksX5_next_7 19 rfl rfl)
theorem dX5_next_188 : decode cX5_next 188 = .ok (.aload_n 0, 1) := dk_42 (dk_at dksX5_next_7 22 rfl rfl)
theorem dX5_next_189 : decode cX5_next 189 = .ok (.invokevirtual 164, 3) := dk_182 0 164 (dk_at dksX5_next_8 0 rfl rfl)
theorem dX5_next_192 : decode cX5_next 192 = .ok (.invokestatic 179, 3) := dk_184 0 179 (dk_at dksX5_next_8 3 rfl rfl)
theorem dX5_next_195 : decode cX5_next 195 = .ok (.ifCond .eq 100, 3) := dk_153 0 100 (dk_at dksX5_next_8 6 rfl rfl)
theorem dX5_next_198 : decode cX5_next 198 = .ok (.iload_n 3, 1) := dk_29 (dk_at dksX5_next_8 9 rfl rfl)
theorem dX5_next_199 : decode cX5_next 199 = .ok (.ifCond .eq 18, 3) := dk_153 0 18 (dk_at dksX5_next_8 10 rfl rfl)
theorem dX5_next_202 : decode cX5_next 202 = .ok (.aload_n 0, 1) := dk_42 (dk_at dksX5_next_8 13 rfl rfl)
theorem dX5_next_203 : decode cX5_next 203 = .ok (.invokevirtual 164, 3) := dk_182 0 164 (dk_at dksX5_next_8 14 rfl rfl)
theorem dX5_next_206 : decode cX5_next 206 = .ok (.invokestatic 176, 3) := dk_184 0 176 (dk_at dksX5_next_8 17 rfl rfl)
theorem dX5_next_209 : decode cX5_next 209 = .ok (.iload_n 2, 1) := dk_28 (dk_at dksX5_next_8 20 rfl rfl)
theorem dX5_next_210 : decode cX5_next 210 = .ok (.if_icmp .ne 7, 3) := dk_160 0 7 (dk_at dksX5_next_8 21 rfl rfl)
theorem dX5_next_213 : decode cX5_next 213 = .ok (.iconst 1, 1) := dk_4 (dk_at dksX5_next_9 0 rfl rfl)
theorem dX5_next_214 : decode cX5_next 214 = .ok (.goto 4, 3) := dk_167 0 4 (dk_at dksX5_next_9 1 rfl rfl)
theorem dX5_next_217 : decode cX5_next 217 = .ok (.iconst 0, 1) := dk_3 (dk_at dksX5_next_9 4 rfl rfl)
theorem dX5_next_218 : decode cX5_next 218 = .ok (.istore_n 3, 1) := dk_62 (dk_at dksX5_next_9 5 rfl rfl)
theorem dX5_next_219 : decode cX5_next 219 = .ok (.aload_n 0, 1) := dk_42 (dk_at dksX5_next_9 6 rfl rfl)
theorem dX5_next_220 : decode cX5_next 220 = .ok (.getfield 170, 3) := dk_180 0 170 (dk_at dksX5_next_9 7 rfl rfl)
theorem dX5_next_223 : decode cX5_next 223 = .ok (.bipush 6, 2) := dk_16 6 (dk_at dksX5_next_9 10 rfl rfl)
theorem dX5_next_225 : decode cX5_next 225 = .ok (.if_icmp .ge 20, 3) := dk_162 0 20 (dk_at dksX5_next_9 12 rfl rfl)
theorem dX5_next_228 : decode cX5_next 228 = .ok (.aload_n 0, 1) := dk_42 (dk_at dksX5_next_9 15 rfl rfl)
theorem dX5_next_229 : decode cX5_next 229 = .ok (.aload_n 0, 1) := dk_42 (dk_at dksX5_next_9 16 rfl rfl)
theorem dX5_next_230 : decode cX5_next 230 = .ok (.getfield 185, 3) := dk_180 0 185 (dk_at dksX5_next_9 17 rfl rfl)
theorem dX5_next_233 : decode cX5_next 233 = .ok (.bipush 8, 2) := dk_16 8 (dk_at dksX5_next_9 20 rfl rfl)
theorem dX5_next_235 : decode cX5_next 235 = .ok (.lshl, 1) := dk_121 (dk_at dksX5_next_9 22 rfl rfl)
theorem dX5_next_236 : decode cX5_next 236 = .ok (.aload_n 0, 1) := dk_42 (dk_at dksX5_next_9 23 rfl rfl)
theorem dX5_next_237 : decode cX5_next 237 = .ok (.invokevirtual 164, 3) := dk_182 0 164 (dk_at dksX5_next_10 0 rfl rfl)
theorem dX5_next_240 : decode cX5_next 240 = .ok (.i2l, 1) := dk_133 (dk_at dksX5_next_10 3 rfl rfl)
theorem dX5_next_241 : decode cX5_next 241 = .ok (.lor, 1) := dk_129 (dk_at dksX5_next_10 4 rfl rfl)
theorem dX5_next_242 : decode cX5_next 242 = .ok (.putfield 185, 3) := dk_181 0 185 (dk_at dksX5_next_10 5 rfl rfl)
theorem dX5_next_245 : decode cX5_next 245 = .ok (.aload_n 0, 1) := dk_42 (dk_at dksX5_next_10 8 rfl rfl)
theorem dX5_next_246 : decode cX5_next 246 = .ok (.getfield 170, 3) := dk_180 0 170 (dk_at dksX5_next_10 9 rfl rfl)
theorem dX5_next_249 : decode cX5_next 249 = .ok (.iconst 3, 1) := dk_6 (dk_at dksX5_next_10 12 rfl rfl)
theorem dX5_next_250 : decode cX5_next 250 = .ok (.if_icmp .ge 22, 3) := dk_162 0 22 (dk_at dksX5_next_10 13 rfl rfl)
theorem dX5_next_253 : decode cX5_next 253 = .ok (.aload_n 0, 1) := dk_42 (dk_at dksX5_next_10 16 rfl rfl)
theorem dX5_next_254 : decode cX5_next 254 = .ok (.bipush 10, 2) := dk_16 10 (dk_at dksX5_next_10 17 rfl rfl)
theorem dX5_next_256 : decode cX5_next 256 = .ok (.aload_n 0, 1) := dk_42 (dk_at dksX5_next_10 19 rfl rfl)
theorem dX5_next_257 : decode cX5_next 257 = .ok (.getfield 182, 3) := dk_180 0 182 (dk_at dksX5_next_10 20 rfl rfl)
theorem dX5_next_260 : decode cX5_next 260 = .ok (.imul, 1) := dk_104 (dk_at dksX5_next_10 23 rfl rfl)
theorem dX5_next_261 : decode cX5_next 261 = .ok (.aload_n 0, 1) := dk_42 (dk_at dksX5_next_11 0 rfl rfl)
theorem dX5_next_262 : decode cX5_next 262 = .ok (.invokevirtual 164, 3) := dk_182 0 164 (dk_at dksX5_next_11 1 rfl rfl)
theorem dX5_next_265 : decode cX5_next 265 = .ok (.iadd, 1) := dk_96 (dk_at dksX5_next_11 4 rfl rfl)
theorem dX5_next_266 : decode cX5_next 266 = .ok (.bipush 48, 2) := dk_16 48 (dk_at dksX5_next_11 5 rfl rfl)
theorem dX5_next_268 : decode cX5_next 268 = .ok (.isub, 1) := dk_100 (dk_at dksX5_next_11 7 rfl rfl)
theorem dX5_next_269 : decode cX5_next 269 = .ok (.putfield 182, 3) := dk_181 0 182 (dk_at dksX5_next_11 8 rfl rfl)
theorem dX5_next_272 : decode cX5_next 272 = .ok (.aload_n 0, 1) := dk_42 (dk_at dksX5_next_11 11 rfl rfl)
theorem dX5_next_273 : decode cX5_next 273 = .ok (.dup, 1) := dk_89 (dk_at dksX5_next_11 12 rfl rfl)
theorem dX5_next_274 : decode cX5_next 274 = .ok (.getfield 170, 3) := dk_180 0 170 (dk_at dksX5_next_11 13 rfl rfl)
theorem dX5_next_277 : decode cX5_next 277 = .ok (.iconst 1, 1) := dk_4 (dk_at dksX5_next_11 16 rfl rfl)
theorem dX5_next_278 : decode cX5_next 278 = .ok (.iadd, 1) := dk_96 (dk_at dksX5_next_11 17 rfl rfl)
theorem dX5_next_279 : decode cX5_next 279 = .ok (.putfield 170, 3) := dk_181 0 170 (dk_at dksX5_next_11 18 rfl rfl)
theorem dX5_next_282 : decode cX5_next 282 = .ok (.aload_n 0, 1) := dk_42 (dk_at dksX5_next_11 21 rfl rfl)
theorem dX5_next_283 : decode cX5_next 283 = .ok (.dup, 1) := dk_89 (dk_at dksX5_next_11 22 rfl rfl)
theorem dX5_next_284 : decode cX5_next 284 = .ok (.getfield 21, 3) := dk_180 0 21 (dk_at dksX5_next_12 0 rfl rfl)
theorem dX5_next_287 : decode cX5_next 287 = .ok (.iconst 1, 1) := dk_4 (dk_at dksX5_next_12 3 rfl rfl)
theorem dX5_next_288 : decode cX5_next 288 = .ok (.iadd, 1) := dk_96 (dk_at dksX5_next_12 4 rfl rfl)
theorem dX5_next_289 : decode cX5_next 289 = .ok (.putfield 21, 3) := dk_181 0 21 (dk_at dksX5_next_12 5 rfl rfl)
theorem dX5_next_292 : decode cX5_next 292 = .ok (.goto (-114), 3) := dk_167 255 142 (dk_at dksX5_next_12 8 rfl rfl)
theorem dX5_next_295 : decode cX5_next 295 = .ok (.aload_n 0, 1) := dk_42 (dk_at dksX5_next_12 11 rfl rfl)
theorem dX5_next_296 : decode cX5_next 296 = .ok (.iload_n 3, 1) := dk_29 (dk_at dksX5_next_12 12 rfl rfl)
theorem dX5_next_297 : decode cX5_next 297 = .ok (.ifCond .eq 20, 3) := dk_153 0 20 (dk_at dksX5_next_12 13 rfl rfl)
theorem dX5_next_300 : decode cX5_next 300 = .ok (.aload_n 0, 1) := dk_42 (dk_at dksX5_next_12 16 rfl rfl)
theorem dX5_next_301 : decode cX5_next 301 = .ok (.getfield 170, 3) := dk_180 0 170 (dk_at dksX5_next_12 17 rfl rfl)
theorem dX5_next_304 : decode cX5_next 304 = .ok (.iload_n 2, 1) := dk_28 (dk_at dksX5_next_12 20 rfl rfl)
theorem dX5_next_305 : decode cX5_next 305 = .ok (.ifCond .eq 8, 3) := dk_153 0 8 (dk_at dksX5_next_12 21 rfl rfl)
theorem dX5_next_308 : decode cX5_next 308 = .ok (.bipush 6, 2) := dk_16 6 (dk_at dksX5_next_13 0 rfl rfl)
theorem dX5_next_310 : decode cX5_next 310 = .ok (.goto 4, 3) := dk_167 0 4 (dk_at dksX5_next_13 2 rfl rfl)
theorem dX5_next_313 : decode cX5_next 313 = .ok (.iconst 3, 1) := dk_6 (dk_at dksX5_next_13 5 rfl rfl)
theorem dX5_next_314 : decode cX5_next 314 = .ok (.if_icmp .le 7, 3) := dk_164 0 7 (dk_at dksX5_next_13 6 rfl rfl)
theorem dX5_next_317 : decode cX5_next 317 = .ok (.iconst 4, 1) := dk_7 (dk_at dksX5_next_13 9 rfl rfl)
theorem dX5_next_318 : decode cX5_next 318 = .ok (.goto 12, 3) := dk_167 0 12 (dk_at dksX5_next_13 10 rfl rfl)
theorem dX5_next_321 : decode cX5_next 321 = .ok (.iload_n 2, 1) := dk_28 (dk_at dksX5_next_13 13 rfl rfl)
theorem dX5_next_322 : decode cX5_next 322 = .ok (.ifCond .eq 7, 3) := dk_153 0 7 (dk_at dksX5_next_13 14 rfl rfl)
theorem dX5_next_325 : decode cX5_next 325 = .ok (.iconst 1, 1) := dk_4 (dk_at dksX5_next_13 17 rfl rfl)
theorem dX5_next_326 : decode cX5_next 326 = .ok (.goto 4, 3) := dk_167 0 4 (dk_at dksX5_next_13 18 rfl rfl)
theorem dX5_next_329 : decode cX5_next 329 = .ok (.iconst 2, 1) := dk_5 (dk_at dksX5_next_13 21 rfl rfl)
theorem dX5_next_330 : decode cX5_next 330 = .ok (.putfield 173, 3) := dk_181 0 173 (dk_at dksX5_next_14 0 rfl rfl)
theorem dX5_next_333 : decode cX5_next 333 = .ok (.return_, 1) := dk_177 (dk_at dksX5_next_14 3 rfl rfl)
abbrev cX5_peek : ByteArray := prog_12_method_26_code
def yX5_peek : MethodName := ⟨RX5, "peek", "()I"⟩
def dkwX5_peek_1 : List UInt8 := [167, 0, 4, 2, 172]
abbrev dktX5_peek_1 : List UInt8 := dkwX5_peek_1 ++ []
def dkwX5_peek_0 : List UInt8 := [42, 180, 0, 21, 42, 180, 0, 18, 162, 0, 19, 42, 180, 0, 14, 42, 180, 0, 21, 51, 17, 0, 255, 126]
abbrev dktX5_peek_0 : List UInt8 := dkwX5_peek_0 ++ dktX5_peek_1
theorem dksX5_peek_0 : cX5_peek.data.toList.drop 0 = dktX5_peek_0 := by decide +kernel
theorem dksX5_peek_1 : cX5_peek.data.toList.drop 24 = dktX5_peek_1 := dk_seg dksX5_peek_0 24 rfl rfl
theorem dX5_peek_0 : decode cX5_peek 0 = .ok (.aload_n 0, 1) := dk_42 (dk_at dksX5_peek_0 0 rfl rfl)
theorem dX5_peek_1 : decode cX5_peek 1 = .ok (.getfield 21, 3) := dk_180 0 21 (dk_at dksX5_peek_0 1 rfl rfl)
theorem dX5_peek_4 : decode cX5_peek 4 = .ok (.aload_n 0, 1) := dk_42 (dk_at dksX5_peek_0 4 rfl rfl)
theorem dX5_peek_5 : decode cX5_peek 5 = .ok (.getfield 18, 3) := dk_180 0 18 (dk_at dksX5_peek_0 5 rfl rfl)
theorem dX5_peek_8 : decode cX5_peek 8 = .ok (.if_icmp .ge 19, 3) := dk_162 0 19 (dk_at dksX5_peek_0 8 rfl rfl)
theorem dX5_peek_11 : decode cX5_peek 11 = .ok (.aload_n 0, 1) := dk_42 (dk_at dksX5_peek_0 11 rfl rfl)
theorem dX5_peek_12 : decode cX5_peek 12 = .ok (.getfield 14, 3) := dk_180 0 14 (dk_at dksX5_peek_0 12 rfl rfl)
theorem dX5_peek_15 : decode cX5_peek 15 = .ok (.aload_n 0, 1) := dk_42 (dk_at dksX5_peek_0 15 rfl rfl)
theorem dX5_peek_16 : decode cX5_peek 16 = .ok (.getfield 21, 3) := dk_180 0 21 (dk_at dksX5_peek_0 16 rfl rfl)
theorem dX5_peek_19 : decode cX5_peek 19 = .ok (.baload, 1) := dk_51 (dk_at dksX5_peek_0 19 rfl rfl)
theorem dX5_peek_20 : decode cX5_peek 20 = .ok (.sipush 255, 3) := dk_17 0 255 (dk_at dksX5_peek_0 20 rfl rfl)
theorem dX5_peek_23 : decode cX5_peek 23 = .ok (.iand, 1) := dk_126 (dk_at dksX5_peek_0 23 rfl rfl)
theorem dX5_peek_24 : decode cX5_peek 24 = .ok (.goto 4, 3) := dk_167 0 4 (dk_at dksX5_peek_1 0 rfl rfl)
theorem dX5_peek_27 : decode cX5_peek 27 = .ok (.iconst (-1), 1) := dk_2 (dk_at dksX5_peek_1 3 rfl rfl)
theorem dX5_peek_28 : decode cX5_peek 28 = .ok (.ireturn, 1) := dk_172 (dk_at dksX5_peek_1 4 rfl rfl)
abbrev cX5_isSmall : ByteArray := prog_12_method_27_code
def yX5_isSmall : MethodName := ⟨RX5, "isSmall", "(I)Z"⟩
def dkwX5_isSmall_0 : List UInt8 := [26, 16, 97, 161, 0, 13, 26, 16, 122, 163, 0, 7, 4, 167, 0, 4, 3, 172]
abbrev dktX5_isSmall_0 : List UInt8 := dkwX5_isSmall_0 ++ []
theorem dksX5_isSmall_0 : cX5_isSmall.data.toList.drop 0 = dktX5_isSmall_0 := by decide +kernel
theorem dX5_isSmall_0 : decode cX5_isSmall 0 = .ok (.iload_n 0, 1) := dk_26 (dk_at dksX5_isSmall_0 0 rfl rfl)
theorem dX5_isSmall_1 : decode cX5_isSmall 1 = .ok (.bipush 97, 2) := dk_16 97 (dk_at dksX5_isSmall_0 1 rfl rfl)
theorem dX5_isSmall_3 : decode cX5_isSmall 3 = .ok (.if_icmp .lt 13, 3) := dk_161 0 13 (dk_at dksX5_isSmall_0 3 rfl rfl)
theorem dX5_isSmall_6 : decode cX5_isSmall 6 = .ok (.iload_n 0, 1) := dk_26 (dk_at dksX5_isSmall_0 6 rfl rfl)
theorem dX5_isSmall_7 : decode cX5_isSmall 7 = .ok (.bipush 122, 2) := dk_16 122 (dk_at dksX5_isSmall_0 7 rfl rfl)
theorem dX5_isSmall_9 : decode cX5_isSmall 9 = .ok (.if_icmp .gt 7, 3) := dk_163 0 7 (dk_at dksX5_isSmall_0 9 rfl rfl)
theorem dX5_isSmall_12 : decode cX5_isSmall 12 = .ok (.iconst 1, 1) := dk_4 (dk_at dksX5_isSmall_0 12 rfl rfl)
theorem dX5_isSmall_13 : decode cX5_isSmall 13 = .ok (.goto 4, 3) := dk_167 0 4 (dk_at dksX5_isSmall_0 13 rfl rfl)
theorem dX5_isSmall_16 : decode cX5_isSmall 16 = .ok (.iconst 0, 1) := dk_3 (dk_at dksX5_isSmall_0 16 rfl rfl)
theorem dX5_isSmall_17 : decode cX5_isSmall 17 = .ok (.ireturn, 1) := dk_172 (dk_at dksX5_isSmall_0 17 rfl rfl)
abbrev cX5_isDigit : ByteArray := prog_12_method_28_code
def yX5_isDigit : MethodName := ⟨RX5, "isDigit", "(I)Z"⟩
def dkwX5_isDigit_0 : List UInt8 := [26, 16, 48, 161, 0, 13, 26, 16, 57, 163, 0, 7, 4, 167, 0, 4, 3, 172]
abbrev dktX5_isDigit_0 : List UInt8 := dkwX5_isDigit_0 ++ []
theorem dksX5_isDigit_0 : cX5_isDigit.data.toList.drop 0 = dktX5_isDigit_0 := by decide +kernel
theorem dX5_isDigit_0 : decode cX5_isDigit 0 = .ok (.iload_n 0, 1) := dk_26 (dk_at dksX5_isDigit_0 0 rfl rfl)
theorem dX5_isDigit_1 : decode cX5_isDigit 1 = .ok (.bipush 48, 2) := dk_16 48 (dk_at dksX5_isDigit_0 1 rfl rfl)
theorem dX5_isDigit_3 : decode cX5_isDigit 3 = .ok (.if_icmp .lt 13, 3) := dk_161 0 13 (dk_at dksX5_isDigit_0 3 rfl rfl)
theorem dX5_isDigit_6 : decode cX5_isDigit 6 = .ok (.iload_n 0, 1) := dk_26 (dk_at dksX5_isDigit_0 6 rfl rfl)
theorem dX5_isDigit_7 : decode cX5_isDigit 7 = .ok (.bipush 57, 2) := dk_16 57 (dk_at dksX5_isDigit_0 7 rfl rfl)
theorem dX5_isDigit_9 : decode cX5_isDigit 9 = .ok (.if_icmp .gt 7, 3) := dk_163 0 7 (dk_at dksX5_isDigit_0 9 rfl rfl)
theorem dX5_isDigit_12 : decode cX5_isDigit 12 = .ok (.iconst 1, 1) := dk_4 (dk_at dksX5_isDigit_0 12 rfl rfl)
theorem dX5_isDigit_13 : decode cX5_isDigit 13 = .ok (.goto 4, 3) := dk_167 0 4 (dk_at dksX5_isDigit_0 13 rfl rfl)
theorem dX5_isDigit_16 : decode cX5_isDigit 16 = .ok (.iconst 0, 1) := dk_3 (dk_at dksX5_isDigit_0 16 rfl rfl)
theorem dX5_isDigit_17 : decode cX5_isDigit 17 = .ok (.ireturn, 1) := dk_172 (dk_at dksX5_isDigit_0 17 rfl rfl)
abbrev cX5_read : ByteArray := prog_12_method_36_code
def yX5_read : MethodName := ⟨RX5, "read", "(Z)Z"⟩
def dkwX5_read_6 : List UInt8 := [46, 4, 96, 79, 167, 255, 108, 4, 172]
abbrev dktX5_read_6 : List UInt8 := dkwX5_read_6 ++ []
def dkwX5_read_5 : List UInt8 := [182, 0, 230, 153, 0, 12, 42, 16, 59, 182, 0, 234, 154, 0, 5, 3, 172, 42, 180, 0, 44, 16, 7, 92]
abbrev dktX5_read_5 : List UInt8 := dkwX5_read_5 ++ dktX5_read_6
def dkwX5_read_4 : List UInt8 := [21, 4, 28, 79, 42, 180, 0, 50, 21, 4, 3, 79, 42, 180, 0, 53, 21, 4, 3, 79, 42, 21, 4, 28]
abbrev dktX5_read_4 : List UInt8 := dkwX5_read_4 ++ dktX5_read_5
def dkwX5_read_3 : List UInt8 := [182, 0, 198, 172, 16, 112, 42, 180, 0, 44, 16, 7, 46, 96, 54, 4, 42, 182, 0, 201, 42, 180, 0, 47]
abbrev dktX5_read_3 : List UInt8 := dkwX5_read_3 ++ dktX5_read_4
def dkwX5_read_2 : List UInt8 := [4, 167, 0, 4, 3, 62, 29, 154, 0, 15, 42, 180, 0, 44, 16, 7, 46, 16, 16, 160, 0, 9, 42, 6]
abbrev dktX5_read_2 : List UInt8 := dkwX5_read_2 ++ dktX5_read_3
def dkwX5_read_1 : List UInt8 := [5, 7, 184, 0, 132, 154, 0, 9, 28, 16, 7, 160, 0, 17, 42, 16, 7, 28, 182, 0, 227, 155, 0, 7]
abbrev dktX5_read_1 : List UInt8 := dkwX5_read_1 ++ dktX5_read_2
def dkwX5_read_0 : List UInt8 := [42, 180, 0, 173, 153, 0, 147, 42, 27, 182, 0, 223, 61, 28, 156, 0, 9, 42, 4, 182, 0, 198, 172, 28]
abbrev dktX5_read_0 : List UInt8 := dkwX5_read_0 ++ dktX5_read_1
theorem dksX5_read_0 : cX5_read.data.toList.drop 0 = dktX5_read_0 := by decide +kernel
theorem dksX5_read_1 : cX5_read.data.toList.drop 24 = dktX5_read_1 := dk_seg dksX5_read_0 24 rfl rfl
theorem dksX5_read_2 : cX5_read.data.toList.drop 48 = dktX5_read_2 := dk_seg dksX5_read_1 24 rfl rfl
theorem dksX5_read_3 : cX5_read.data.toList.drop 72 = dktX5_read_3 := dk_seg dksX5_read_2 24 rfl rfl
theorem dksX5_read_4 : cX5_read.data.toList.drop 96 = dktX5_read_4 := dk_seg dksX5_read_3 24 rfl rfl
theorem dksX5_read_5 : cX5_read.data.toList.drop 120 = dktX5_read_5 := dk_seg dksX5_read_4 24 rfl rfl
theorem dksX5_read_6 : cX5_read.data.toList.drop 144 = dktX5_read_6 := dk_seg dksX5_read_5 24 rfl rfl
theorem dX5_read_0 : decode cX5_read 0 = .ok (.aload_n 0, 1) := dk_42 (dk_at dksX5_read_0 0 rfl rfl)
theorem dX5_read_1 : decode cX5_read 1 = .ok (.getfield 173, 3) := dk_180 0 173 (dk_at dksX5_read_0 1 rfl rfl)
theorem dX5_read_4 : decode cX5_read 4 = .ok (.ifCond .eq 147, 3) := dk_153 0 147 (dk_at dksX5_read_0 4 rfl rfl)
theorem dX5_read_7 : decode cX5_read 7 = .ok (.aload_n 0, 1) := dk_42 (dk_at dksX5_read_0 7 rfl rfl)
theorem dX5_read_8 : decode cX5_read 8 = .ok (.iload_n 1, 1) := dk_27 (dk_at dksX5_read_0 8 rfl rfl)
theorem dX5_read_9 : decode cX5_read 9 = .ok (.invokevirtual 223, 3) := dk_182 0 223 (dk_at dksX5_read_0 9 rfl rfl)
theorem dX5_read_12 : decode cX5_read 12 = .ok (.istore_n 2, 1) := dk_61 (dk_at dksX5_read_0 12 rfl rfl)
theorem dX5_read_13 : decode cX5_read 13 = .ok (.iload_n 2, 1) := dk_28 (dk_at dksX5_read_0 13 rfl rfl)
theorem dX5_read_14 : decode cX5_read 14 = .ok (.ifCond .ge 9, 3) := dk_156 0 9 (dk_at dksX5_read_0 14 rfl rfl)
theorem dX5_read_17 : decode cX5_read 17 = .ok (.aload_n 0, 1) := dk_42 (dk_at dksX5_read_0 17 rfl rfl)
theorem dX5_read_18 : decode cX5_read 18 = .ok (.iconst 1, 1) := dk_4 (dk_at dksX5_read_0 18 rfl rfl)
theorem dX5_read_19 : decode cX5_read 19 = .ok (.invokevirtual 198, 3) := dk_182 0 198 (dk_at dksX5_read_0 19 rfl rfl)
theorem dX5_read_22 : decode cX5_read 22 = .ok (.ireturn, 1) := dk_172 (dk_at dksX5_read_0 22 rfl rfl)
theorem dX5_read_23 : decode cX5_read 23 = .ok (.iload_n 2, 1) := dk_28 (dk_at dksX5_read_0 23 rfl rfl)
theorem dX5_read_24 : decode cX5_read 24 = .ok (.iconst 2, 1) := dk_5 (dk_at dksX5_read_1 0 rfl rfl)
theorem dX5_read_25 : decode cX5_read 25 = .ok (.iconst 4, 1) := dk_7 (dk_at dksX5_read_1 1 rfl rfl)
theorem dX5_read_26 : decode cX5_read 26 = .ok (.invokestatic 132, 3) := dk_184 0 132 (dk_at dksX5_read_1 2 rfl rfl)
theorem dX5_read_29 : decode cX5_read 29 = .ok (.ifCond .ne 9, 3) := dk_154 0 9 (dk_at dksX5_read_1 5 rfl rfl)
theorem dX5_read_32 : decode cX5_read 32 = .ok (.iload_n 2, 1) := dk_28 (dk_at dksX5_read_1 8 rfl rfl)
theorem dX5_read_33 : decode cX5_read 33 = .ok (.bipush 7, 2) := dk_16 7 (dk_at dksX5_read_1 9 rfl rfl)
theorem dX5_read_35 : decode cX5_read 35 = .ok (.if_icmp .ne 17, 3) := dk_160 0 17 (dk_at dksX5_read_1 11 rfl rfl)
theorem dX5_read_38 : decode cX5_read 38 = .ok (.aload_n 0, 1) := dk_42 (dk_at dksX5_read_1 14 rfl rfl)
theorem dX5_read_39 : decode cX5_read 39 = .ok (.bipush 7, 2) := dk_16 7 (dk_at dksX5_read_1 15 rfl rfl)
theorem dX5_read_41 : decode cX5_read 41 = .ok (.iload_n 2, 1) := dk_28 (dk_at dksX5_read_1 17 rfl rfl)
theorem dX5_read_42 : decode cX5_read 42 = .ok (.invokevirtual 227, 3) := dk_182 0 227 (dk_at dksX5_read_1 18 rfl rfl)
theorem dX5_read_45 : decode cX5_read 45 = .ok (.ifCond .lt 7, 3) := dk_155 0 7 (dk_at dksX5_read_1 21 rfl rfl)
theorem dX5_read_48 : decode cX5_read 48 = .ok (.iconst 1, 1) := dk_4 (dk_at dksX5_read_2 0 rfl rfl)
theorem dX5_read_49 : decode cX5_read 49 = .ok (.goto 4, 3) := dk_167 0 4 (dk_at dksX5_read_2 1 rfl rfl)
theorem dX5_read_52 : decode cX5_read 52 = .ok (.iconst 0, 1) := dk_3 (dk_at dksX5_read_2 4 rfl rfl)
theorem dX5_read_53 : decode cX5_read 53 = .ok (.istore_n 3, 1) := dk_62 (dk_at dksX5_read_2 5 rfl rfl)
theorem dX5_read_54 : decode cX5_read 54 = .ok (.iload_n 3, 1) := dk_29 (dk_at dksX5_read_2 6 rfl rfl)
theorem dX5_read_55 : decode cX5_read 55 = .ok (.ifCond .ne 15, 3) := dk_154 0 15 (dk_at dksX5_read_2 7 rfl rfl)
theorem dX5_read_58 : decode cX5_read 58 = .ok (.aload_n 0, 1) := dk_42 (dk_at dksX5_read_2 10 rfl rfl)
theorem dX5_read_59 : decode cX5_read 59 = .ok (.getfield 44, 3) := dk_180 0 44 (dk_at dksX5_read_2 11 rfl rfl)
theorem dX5_read_62 : decode cX5_read 62 = .ok (.bipush 7, 2) := dk_16 7 (dk_at dksX5_read_2 14 rfl rfl)
theorem dX5_read_64 : decode cX5_read 64 = .ok (.iaload, 1) := dk_46 (dk_at dksX5_read_2 16 rfl rfl)
theorem dX5_read_65 : decode cX5_read 65 = .ok (.bipush 16, 2) := dk_16 16 (dk_at dksX5_read_2 17 rfl rfl)
theorem dX5_read_67 : decode cX5_read 67 = .ok (.if_icmp .ne 9, 3) := dk_160 0 9 (dk_at dksX5_read_2 19 rfl rfl)
theorem dX5_read_70 : decode cX5_read 70 = .ok (.aload_n 0, 1) := dk_42 (dk_at dksX5_read_2 22 rfl rfl)
theorem dX5_read_71 : decode cX5_read 71 = .ok (.iconst 3, 1) := dk_6 (dk_at dksX5_read_2 23 rfl rfl)
theorem dX5_read_72 : decode cX5_read 72 = .ok (.invokevirtual 198, 3) := dk_182 0 198 (dk_at dksX5_read_3 0 rfl rfl)
theorem dX5_read_75 : decode cX5_read 75 = .ok (.ireturn, 1) := dk_172 (dk_at dksX5_read_3 3 rfl rfl)
theorem dX5_read_76 : decode cX5_read 76 = .ok (.bipush 112, 2) := dk_16 112 (dk_at dksX5_read_3 4 rfl rfl)
theorem dX5_read_78 : decode cX5_read 78 = .ok (.aload_n 0, 1) := dk_42 (dk_at dksX5_read_3 6 rfl rfl)
theorem dX5_read_79 : decode cX5_read 79 = .ok (.getfield 44, 3) := dk_180 0 44 (dk_at dksX5_read_3 7 rfl rfl)
theorem dX5_read_82 : decode cX5_read 82 = .ok (.bipush 7, 2) := dk_16 7 (dk_at dksX5_read_3 10 rfl rfl)
theorem dX5_read_84 : decode cX5_read 84 = .ok (.iaload, 1) := dk_46 (dk_at dksX5_read_3 12 rfl rfl)
theorem dX5_read_85 : decode cX5_read 85 = .ok (.iadd, 1) := dk_96 (dk_at dksX5_read_3 13 rfl rfl)
theorem dX5_read_86 : decode cX5_read 86 = .ok (.istore 4, 2) := dk_54 4 (dk_at dksX5_read_3 14 rfl rfl)
theorem dX5_read_88 : decode cX5_read 88 = .ok (.aload_n 0, 1) := dk_42 (dk_at dksX5_read_3 16 rfl rfl)
theorem dX5_read_89 : decode cX5_read 89 = .ok (.invokevirtual 201, 3) := dk_182 0 201 (dk_at dksX5_read_3 17 rfl rfl)
theorem dX5_read_92 : decode cX5_read 92 = .ok (.aload_n 0, 1) := dk_42 (dk_at dksX5_read_3 20 rfl rfl)
theorem dX5_read_93 : decode cX5_read 93 = .ok (.getfield 47, 3) := dk_180 0 47 (dk_at dksX5_read_3 21 rfl rfl)
theorem dX5_read_96 : decode cX5_read 96 = .ok (.iload 4, 2) := dk_21 4 (dk_at dksX5_read_4 0 rfl rfl)
theorem dX5_read_98 : decode cX5_read 98 = .ok (.iload_n 2, 1) := dk_28 (dk_at dksX5_read_4 2 rfl rfl)
theorem dX5_read_99 : decode cX5_read 99 = .ok (.iastore, 1) := dk_79 (dk_at dksX5_read_4 3 rfl rfl)
theorem dX5_read_100 : decode cX5_read 100 = .ok (.aload_n 0, 1) := dk_42 (dk_at dksX5_read_4 4 rfl rfl)
theorem dX5_read_101 : decode cX5_read 101 = .ok (.getfield 50, 3) := dk_180 0 50 (dk_at dksX5_read_4 5 rfl rfl)
theorem dX5_read_104 : decode cX5_read 104 = .ok (.iload 4, 2) := dk_21 4 (dk_at dksX5_read_4 8 rfl rfl)
theorem dX5_read_106 : decode cX5_read 106 = .ok (.iconst 0, 1) := dk_3 (dk_at dksX5_read_4 10 rfl rfl)
theorem dX5_read_107 : decode cX5_read 107 = .ok (.iastore, 1) := dk_79 (dk_at dksX5_read_4 11 rfl rfl)
theorem dX5_read_108 : decode cX5_read 108 = .ok (.aload_n 0, 1) := dk_42 (dk_at dksX5_read_4 12 rfl rfl)
theorem dX5_read_109 : decode cX5_read 109 = .ok (.getfield 53, 3) := dk_180 0 53 (dk_at dksX5_read_4 13 rfl rfl)
theorem dX5_read_112 : decode cX5_read 112 = .ok (.iload 4, 2) := dk_21 4 (dk_at dksX5_read_4 16 rfl rfl)
theorem dX5_read_114 : decode cX5_read 114 = .ok (.iconst 0, 1) := dk_3 (dk_at dksX5_read_4 18 rfl rfl)
theorem dX5_read_115 : decode cX5_read 115 = .ok (.iastore, 1) := dk_79 (dk_at dksX5_read_4 19 rfl rfl)
theorem dX5_read_116 : decode cX5_read 116 = .ok (.aload_n 0, 1) := dk_42 (dk_at dksX5_read_4 20 rfl rfl)
theorem dX5_read_117 : decode cX5_read 117 = .ok (.iload 4, 2) := dk_21 4 (dk_at dksX5_read_4 21 rfl rfl)
theorem dX5_read_119 : decode cX5_read 119 = .ok (.iload_n 2, 1) := dk_28 (dk_at dksX5_read_4 23 rfl rfl)
theorem dX5_read_120 : decode cX5_read 120 = .ok (.invokevirtual 230, 3) := dk_182 0 230 (dk_at dksX5_read_5 0 rfl rfl)
theorem dX5_read_123 : decode cX5_read 123 = .ok (.ifCond .eq 12, 3) := dk_153 0 12 (dk_at dksX5_read_5 3 rfl rfl)
theorem dX5_read_126 : decode cX5_read 126 = .ok (.aload_n 0, 1) := dk_42 (dk_at dksX5_read_5 6 rfl rfl)
theorem dX5_read_127 : decode cX5_read 127 = .ok (.bipush 59, 2) := dk_16 59 (dk_at dksX5_read_5 7 rfl rfl)
theorem dX5_read_129 : decode cX5_read 129 = .ok (.invokevirtual 234, 3) := dk_182 0 234 (dk_at dksX5_read_5 9 rfl rfl)
theorem dX5_read_132 : decode cX5_read 132 = .ok (.ifCond .ne 5, 3) := dk_154 0 5 (dk_at dksX5_read_5 12 rfl rfl)
theorem dX5_read_135 : decode cX5_read 135 = .ok (.iconst 0, 1) := dk_3 (dk_at dksX5_read_5 15 rfl rfl)
theorem dX5_read_136 : decode cX5_read 136 = .ok (.ireturn, 1) := dk_172 (dk_at dksX5_read_5 16 rfl rfl)
theorem dX5_read_137 : decode cX5_read 137 = .ok (.aload_n 0, 1) := dk_42 (dk_at dksX5_read_5 17 rfl rfl)
theorem dX5_read_138 : decode cX5_read 138 = .ok (.getfield 44, 3) := dk_180 0 44 (dk_at dksX5_read_5 18 rfl rfl)
theorem dX5_read_141 : decode cX5_read 141 = .ok (.bipush 7, 2) := dk_16 7 (dk_at dksX5_read_5 21 rfl rfl)
theorem dX5_read_143 : decode cX5_read 143 = .ok (.dup2, 1) := dk_92 (dk_at dksX5_read_5 23 rfl rfl)
theorem dX5_read_144 : decode cX5_read 144 = .ok (.iaload, 1) := dk_46 (dk_at dksX5_read_6 0 rfl rfl)
theorem dX5_read_145 : decode cX5_read 145 = .ok (.iconst 1, 1) := dk_4 (dk_at dksX5_read_6 1 rfl rfl)
theorem dX5_read_146 : decode cX5_read 146 = .ok (.iadd, 1) := dk_96 (dk_at dksX5_read_6 2 rfl rfl)
theorem dX5_read_147 : decode cX5_read 147 = .ok (.iastore, 1) := dk_79 (dk_at dksX5_read_6 3 rfl rfl)
theorem dX5_read_148 : decode cX5_read 148 = .ok (.goto (-148), 3) := dk_167 255 108 (dk_at dksX5_read_6 4 rfl rfl)
theorem dX5_read_151 : decode cX5_read 151 = .ok (.iconst 1, 1) := dk_4 (dk_at dksX5_read_6 7 rfl rfl)
theorem dX5_read_152 : decode cX5_read 152 = .ok (.ireturn, 1) := dk_172 (dk_at dksX5_read_6 8 rfl rfl)
abbrev cX5_lineOf : ByteArray := prog_12_method_35_code
def yX5_lineOf : MethodName := ⟨RX5, "lineOf", "(Z)I"⟩
def dkwX5_lineOf_6 : List UInt8 := [2, 172]
abbrev dktX5_lineOf_6 : List UInt8 := dkwX5_lineOf_6 ++ []
def dkwX5_lineOf_5 : List UInt8 := [154, 0, 8, 16, 6, 167, 0, 20, 42, 180, 0, 185, 20, 0, 221, 148, 154, 0, 8, 16, 7, 167, 0, 4]
abbrev dktX5_lineOf_5 : List UInt8 := dkwX5_lineOf_5 ++ dktX5_lineOf_6
def dkwX5_lineOf_4 : List UInt8 := [42, 180, 0, 185, 20, 0, 217, 148, 154, 0, 7, 8, 167, 0, 36, 42, 180, 0, 185, 20, 0, 219, 148]
abbrev dktX5_lineOf_4 : List UInt8 := dkwX5_lineOf_4 ++ dktX5_lineOf_5
def dkwX5_lineOf_3 : List UInt8 := [154, 0, 7, 6, 167, 0, 19, 42, 180, 0, 185, 20, 0, 215, 148, 154, 0, 7, 7, 167, 0, 4, 2, 172]
abbrev dktX5_lineOf_3 : List UInt8 := dkwX5_lineOf_3 ++ dktX5_lineOf_4
def dkwX5_lineOf_2 : List UInt8 := [180, 0, 185, 20, 0, 211, 148, 154, 0, 7, 5, 167, 0, 34, 42, 180, 0, 185, 20, 0, 213, 148]
abbrev dktX5_lineOf_2 : List UInt8 := dkwX5_lineOf_2 ++ dktX5_lineOf_3
def dkwX5_lineOf_1 : List UInt8 := [154, 0, 7, 3, 167, 0, 64, 42, 180, 0, 185, 20, 0, 209, 148, 154, 0, 7, 4, 167, 0, 49, 42]
abbrev dktX5_lineOf_1 : List UInt8 := dkwX5_lineOf_1 ++ dktX5_lineOf_2
def dkwX5_lineOf_0 : List UInt8 := [42, 180, 0, 173, 4, 159, 0, 5, 2, 172, 27, 153, 0, 80, 42, 180, 0, 185, 20, 0, 207, 148]
abbrev dktX5_lineOf_0 : List UInt8 := dkwX5_lineOf_0 ++ dktX5_lineOf_1
theorem dksX5_lineOf_0 : cX5_lineOf.data.toList.drop 0 = dktX5_lineOf_0 := by decide +kernel
theorem dksX5_lineOf_1 : cX5_lineOf.data.toList.drop 22 = dktX5_lineOf_1 := dk_seg dksX5_lineOf_0 22 rfl rfl
theorem dksX5_lineOf_2 : cX5_lineOf.data.toList.drop 45 = dktX5_lineOf_2 := dk_seg dksX5_lineOf_1 23 rfl rfl
theorem dksX5_lineOf_3 : cX5_lineOf.data.toList.drop 67 = dktX5_lineOf_3 := dk_seg dksX5_lineOf_2 22 rfl rfl
theorem dksX5_lineOf_4 : cX5_lineOf.data.toList.drop 91 = dktX5_lineOf_4 := dk_seg dksX5_lineOf_3 24 rfl rfl
theorem dksX5_lineOf_5 : cX5_lineOf.data.toList.drop 114 = dktX5_lineOf_5 := dk_seg dksX5_lineOf_4 23 rfl rfl
theorem dksX5_lineOf_6 : cX5_lineOf.data.toList.drop 138 = dktX5_lineOf_6 := dk_seg dksX5_lineOf_5 24 rfl rfl
theorem dX5_lineOf_0 : decode cX5_lineOf 0 = .ok (.aload_n 0, 1) := dk_42 (dk_at dksX5_lineOf_0 0 rfl rfl)
theorem dX5_lineOf_1 : decode cX5_lineOf 1 = .ok (.getfield 173, 3) := dk_180 0 173 (dk_at dksX5_lineOf_0 1 rfl rfl)
theorem dX5_lineOf_4 : decode cX5_lineOf 4 = .ok (.iconst 1, 1) := dk_4 (dk_at dksX5_lineOf_0 4 rfl rfl)
theorem dX5_lineOf_5 : decode cX5_lineOf 5 = .ok (.if_icmp .eq 5, 3) := dk_159 0 5 (dk_at dksX5_lineOf_0 5 rfl rfl)
theorem dX5_lineOf_8 : decode cX5_lineOf 8 = .ok (.iconst (-1), 1) := dk_2 (dk_at dksX5_lineOf_0 8 rfl rfl)
theorem dX5_lineOf_9 : decode cX5_lineOf 9 = .ok (.ireturn, 1) := dk_172 (dk_at dksX5_lineOf_0 9 rfl rfl)
theorem dX5_lineOf_10 : decode cX5_lineOf 10 = .ok (.iload_n 1, 1) := dk_27 (dk_at dksX5_lineOf_0 10 rfl rfl)
theorem dX5_lineOf_11 : decode cX5_lineOf 11 = .ok (.ifCond .eq 80, 3) := dk_153 0 80 (dk_at dksX5_lineOf_0 11 rfl rfl)
theorem dX5_lineOf_14 : decode cX5_lineOf 14 = .ok (.aload_n 0, 1) := dk_42 (dk_at dksX5_lineOf_0 14 rfl rfl)
theorem dX5_lineOf_15 : decode cX5_lineOf 15 = .ok (.getfield 185, 3) := dk_180 0 185 (dk_at dksX5_lineOf_0 15 rfl rfl)
theorem dX5_lineOf_18 : decode cX5_lineOf 18 = .ok (.ldc2_w 207, 3) := dk_20 0 207 (dk_at dksX5_lineOf_0 18 rfl rfl)
theorem dX5_lineOf_21 : decode cX5_lineOf 21 = .ok (.lcmp, 1) := dk_148 (dk_at dksX5_lineOf_0 21 rfl rfl)
theorem dX5_lineOf_22 : decode cX5_lineOf 22 = .ok (.ifCond .ne 7, 3) := dk_154 0 7 (dk_at dksX5_lineOf_1 0 rfl rfl)
theorem dX5_lineOf_25 : decode cX5_lineOf 25 = .ok (.iconst 0, 1) := dk_3 (dk_at dksX5_lineOf_1 3 rfl rfl)
theorem dX5_lineOf_26 : decode cX5_lineOf 26 = .ok (.goto 64, 3) := dk_167 0 64 (dk_at dksX5_lineOf_1 4 rfl rfl)
theorem dX5_lineOf_29 : decode cX5_lineOf 29 = .ok (.aload_n 0, 1) := dk_42 (dk_at dksX5_lineOf_1 7 rfl rfl)
theorem dX5_lineOf_30 : decode cX5_lineOf 30 = .ok (.getfield 185, 3) := dk_180 0 185 (dk_at dksX5_lineOf_1 8 rfl rfl)
theorem dX5_lineOf_33 : decode cX5_lineOf 33 = .ok (.ldc2_w 209, 3) := dk_20 0 209 (dk_at dksX5_lineOf_1 11 rfl rfl)
theorem dX5_lineOf_36 : decode cX5_lineOf 36 = .ok (.lcmp, 1) := dk_148 (dk_at dksX5_lineOf_1 14 rfl rfl)
theorem dX5_lineOf_37 : decode cX5_lineOf 37 = .ok (.ifCond .ne 7, 3) := dk_154 0 7 (dk_at dksX5_lineOf_1 15 rfl rfl)
theorem dX5_lineOf_40 : decode cX5_lineOf 40 = .ok (.iconst 1, 1) := dk_4 (dk_at dksX5_lineOf_1 18 rfl rfl)
theorem dX5_lineOf_41 : decode cX5_lineOf 41 = .ok (.goto 49, 3) := dk_167 0 49 (dk_at dksX5_lineOf_1 19 rfl rfl)
theorem dX5_lineOf_44 : decode cX5_lineOf 44 = .ok (.aload_n 0, 1) := dk_42 (dk_at dksX5_lineOf_1 22 rfl rfl)
theorem dX5_lineOf_45 : decode cX5_lineOf 45 = .ok (.getfield 185, 3) := dk_180 0 185 (dk_at dksX5_lineOf_2 0 rfl rfl)
theorem dX5_lineOf_48 : decode cX5_lineOf 48 = .ok (.ldc2_w 211, 3) := dk_20 0 211 (dk_at dksX5_lineOf_2 3 rfl rfl)
theorem dX5_lineOf_51 : decode cX5_lineOf 51 = .ok (.lcmp, 1) := dk_148 (dk_at dksX5_lineOf_2 6 rfl rfl)
theorem dX5_lineOf_52 : decode cX5_lineOf 52 = .ok (.ifCond .ne 7, 3) := dk_154 0 7 (dk_at dksX5_lineOf_2 7 rfl rfl)
theorem dX5_lineOf_55 : decode cX5_lineOf 55 = .ok (.iconst 2, 1) := dk_5 (dk_at dksX5_lineOf_2 10 rfl rfl)
theorem dX5_lineOf_56 : decode cX5_lineOf 56 = .ok (.goto 34, 3) := dk_167 0 34 (dk_at dksX5_lineOf_2 11 rfl rfl)
theorem dX5_lineOf_59 : decode cX5_lineOf 59 = .ok (.aload_n 0, 1) := dk_42 (dk_at dksX5_lineOf_2 14 rfl rfl)
theorem dX5_lineOf_60 : decode cX5_lineOf 60 = .ok (.getfield 185, 3) := dk_180 0 185 (dk_at dksX5_lineOf_2 15 rfl rfl)
theorem dX5_lineOf_63 : decode cX5_lineOf 63 = .ok (.ldc2_w 213, 3) := dk_20 0 213 (dk_at dksX5_lineOf_2 18 rfl rfl)
theorem dX5_lineOf_66 : decode cX5_lineOf 66 = .ok (.lcmp, 1) := dk_148 (dk_at dksX5_lineOf_2 21 rfl rfl)
theorem dX5_lineOf_67 : decode cX5_lineOf 67 = .ok (.ifCond .ne 7, 3) := dk_154 0 7 (dk_at dksX5_lineOf_3 0 rfl rfl)
theorem dX5_lineOf_70 : decode cX5_lineOf 70 = .ok (.iconst 3, 1) := dk_6 (dk_at dksX5_lineOf_3 3 rfl rfl)
theorem dX5_lineOf_71 : decode cX5_lineOf 71 = .ok (.goto 19, 3) := dk_167 0 19 (dk_at dksX5_lineOf_3 4 rfl rfl)
theorem dX5_lineOf_74 : decode cX5_lineOf 74 = .ok (.aload_n 0, 1) := dk_42 (dk_at dksX5_lineOf_3 7 rfl rfl)
theorem dX5_lineOf_75 : decode cX5_lineOf 75 = .ok (.getfield 185, 3) := dk_180 0 185 (dk_at dksX5_lineOf_3 8 rfl rfl)
theorem dX5_lineOf_78 : decode cX5_lineOf 78 = .ok (.ldc2_w 215, 3) := dk_20 0 215 (dk_at dksX5_lineOf_3 11 rfl rfl)
theorem dX5_lineOf_81 : decode cX5_lineOf 81 = .ok (.lcmp, 1) := dk_148 (dk_at dksX5_lineOf_3 14 rfl rfl)
theorem dX5_lineOf_82 : decode cX5_lineOf 82 = .ok (.ifCond .ne 7, 3) := dk_154 0 7 (dk_at dksX5_lineOf_3 15 rfl rfl)
theorem dX5_lineOf_85 : decode cX5_lineOf 85 = .ok (.iconst 4, 1) := dk_7 (dk_at dksX5_lineOf_3 18 rfl rfl)
theorem dX5_lineOf_86 : decode cX5_lineOf 86 = .ok (.goto 4, 3) := dk_167 0 4 (dk_at dksX5_lineOf_3 19 rfl rfl)
theorem dX5_lineOf_89 : decode cX5_lineOf 89 = .ok (.iconst (-1), 1) := dk_2 (dk_at dksX5_lineOf_3 22 rfl rfl)
theorem dX5_lineOf_90 : decode cX5_lineOf 90 = .ok (.ireturn, 1) := dk_172 (dk_at dksX5_lineOf_3 23 rfl rfl)
theorem dX5_lineOf_91 : decode cX5_lineOf 91 = .ok (.aload_n 0, 1) := dk_42 (dk_at dksX5_lineOf_4 0 rfl rfl)
theorem dX5_lineOf_92 : decode cX5_lineOf 92 = .ok (.getfield 185, 3) := dk_180 0 185 (dk_at dksX5_lineOf_4 1 rfl rfl)
theorem dX5_lineOf_95 : decode cX5_lineOf 95 = .ok (.ldc2_w 217, 3) := dk_20 0 217 (dk_at dksX5_lineOf_4 4 rfl rfl)
theorem dX5_lineOf_98 : decode cX5_lineOf 98 = .ok (.lcmp, 1) := dk_148 (dk_at dksX5_lineOf_4 7 rfl rfl)
theorem dX5_lineOf_99 : decode cX5_lineOf 99 = .ok (.ifCond .ne 7, 3) := dk_154 0 7 (dk_at dksX5_lineOf_4 8 rfl rfl)
theorem dX5_lineOf_102 : decode cX5_lineOf 102 = .ok (.iconst 5, 1) := dk_8 (dk_at dksX5_lineOf_4 11 rfl rfl)
theorem dX5_lineOf_103 : decode cX5_lineOf 103 = .ok (.goto 36, 3) := dk_167 0 36 (dk_at dksX5_lineOf_4 12 rfl rfl)
theorem dX5_lineOf_106 : decode cX5_lineOf 106 = .ok (.aload_n 0, 1) := dk_42 (dk_at dksX5_lineOf_4 15 rfl rfl)
theorem dX5_lineOf_107 : decode cX5_lineOf 107 = .ok (.getfield 185, 3) := dk_180 0 185 (dk_at dksX5_lineOf_4 16 rfl rfl)
theorem dX5_lineOf_110 : decode cX5_lineOf 110 = .ok (.ldc2_w 219, 3) := dk_20 0 219 (dk_at dksX5_lineOf_4 19 rfl rfl)
theorem dX5_lineOf_113 : decode cX5_lineOf 113 = .ok (.lcmp, 1) := dk_148 (dk_at dksX5_lineOf_4 22 rfl rfl)
theorem dX5_lineOf_114 : decode cX5_lineOf 114 = .ok (.ifCond .ne 8, 3) := dk_154 0 8 (dk_at dksX5_lineOf_5 0 rfl rfl)
theorem dX5_lineOf_117 : decode cX5_lineOf 117 = .ok (.bipush 6, 2) := dk_16 6 (dk_at dksX5_lineOf_5 3 rfl rfl)
theorem dX5_lineOf_119 : decode cX5_lineOf 119 = .ok (.goto 20, 3) := dk_167 0 20 (dk_at dksX5_lineOf_5 5 rfl rfl)
theorem dX5_lineOf_122 : decode cX5_lineOf 122 = .ok (.aload_n 0, 1) := dk_42 (dk_at dksX5_lineOf_5 8 rfl rfl)
theorem dX5_lineOf_123 : decode cX5_lineOf 123 = .ok (.getfield 185, 3) := dk_180 0 185 (dk_at dksX5_lineOf_5 9 rfl rfl)
theorem dX5_lineOf_126 : decode cX5_lineOf 126 = .ok (.ldc2_w 221, 3) := dk_20 0 221 (dk_at dksX5_lineOf_5 12 rfl rfl)
theorem dX5_lineOf_129 : decode cX5_lineOf 129 = .ok (.lcmp, 1) := dk_148 (dk_at dksX5_lineOf_5 15 rfl rfl)
theorem dX5_lineOf_130 : decode cX5_lineOf 130 = .ok (.ifCond .ne 8, 3) := dk_154 0 8 (dk_at dksX5_lineOf_5 16 rfl rfl)
theorem dX5_lineOf_133 : decode cX5_lineOf 133 = .ok (.bipush 7, 2) := dk_16 7 (dk_at dksX5_lineOf_5 19 rfl rfl)
theorem dX5_lineOf_135 : decode cX5_lineOf 135 = .ok (.goto 4, 3) := dk_167 0 4 (dk_at dksX5_lineOf_5 21 rfl rfl)
theorem dX5_lineOf_138 : decode cX5_lineOf 138 = .ok (.iconst (-1), 1) := dk_2 (dk_at dksX5_lineOf_6 0 rfl rfl)
theorem dX5_lineOf_139 : decode cX5_lineOf 139 = .ok (.ireturn, 1) := dk_172 (dk_at dksX5_lineOf_6 1 rfl rfl)
abbrev cX5_bad : ByteArray := prog_12_method_30_code
def yX5_bad : MethodName := ⟨RX5, "bad", "(I)Z"⟩
def dkwX5_bad_0 : List UInt8 := [42, 27, 181, 0, 189, 42, 42, 180, 0, 167, 181, 0, 192, 3, 172]
abbrev dktX5_bad_0 : List UInt8 := dkwX5_bad_0 ++ []
theorem dksX5_bad_0 : cX5_bad.data.toList.drop 0 = dktX5_bad_0 := by decide +kernel
theorem dX5_bad_0 : decode cX5_bad 0 = .ok (.aload_n 0, 1) := dk_42 (dk_at dksX5_bad_0 0 rfl rfl)
theorem dX5_bad_1 : decode cX5_bad 1 = .ok (.iload_n 1, 1) := dk_27 (dk_at dksX5_bad_0 1 rfl rfl)
theorem dX5_bad_2 : decode cX5_bad 2 = .ok (.putfield 189, 3) := dk_181 0 189 (dk_at dksX5_bad_0 2 rfl rfl)
theorem dX5_bad_5 : decode cX5_bad 5 = .ok (.aload_n 0, 1) := dk_42 (dk_at dksX5_bad_0 5 rfl rfl)
theorem dX5_bad_6 : decode cX5_bad 6 = .ok (.aload_n 0, 1) := dk_42 (dk_at dksX5_bad_0 6 rfl rfl)
theorem dX5_bad_7 : decode cX5_bad 7 = .ok (.getfield 167, 3) := dk_180 0 167 (dk_at dksX5_bad_0 7 rfl rfl)
theorem dX5_bad_10 : decode cX5_bad 10 = .ok (.putfield 192, 3) := dk_181 0 192 (dk_at dksX5_bad_0 10 rfl rfl)
theorem dX5_bad_13 : decode cX5_bad 13 = .ok (.iconst 0, 1) := dk_3 (dk_at dksX5_bad_0 13 rfl rfl)
theorem dX5_bad_14 : decode cX5_bad 14 = .ok (.ireturn, 1) := dk_172 (dk_at dksX5_bad_0 14 rfl rfl)
abbrev cX5_find : ByteArray := prog_12_method_39_code
def yX5_find : MethodName := ⟨RX5, "find", "(II)I"⟩
def dkwX5_find_1 : List UInt8 := [29, 46, 28, 160, 0, 5, 29, 172, 132, 3, 1, 167, 255, 226, 2, 172]
abbrev dktX5_find_1 : List UInt8 := dkwX5_find_1 ++ []
def dkwX5_find_0 : List UInt8 := [16, 16, 27, 104, 62, 29, 16, 16, 27, 104, 42, 180, 0, 44, 27, 46, 96, 162, 0, 21, 42, 180, 0, 47]
abbrev dktX5_find_0 : List UInt8 := dkwX5_find_0 ++ dktX5_find_1
theorem dksX5_find_0 : cX5_find.data.toList.drop 0 = dktX5_find_0 := by decide +kernel
theorem dksX5_find_1 : cX5_find.data.toList.drop 24 = dktX5_find_1 := dk_seg dksX5_find_0 24 rfl rfl
theorem dX5_find_0 : decode cX5_find 0 = .ok (.bipush 16, 2) := dk_16 16 (dk_at dksX5_find_0 0 rfl rfl)
theorem dX5_find_2 : decode cX5_find 2 = .ok (.iload_n 1, 1) := dk_27 (dk_at dksX5_find_0 2 rfl rfl)
theorem dX5_find_3 : decode cX5_find 3 = .ok (.imul, 1) := dk_104 (dk_at dksX5_find_0 3 rfl rfl)
theorem dX5_find_4 : decode cX5_find 4 = .ok (.istore_n 3, 1) := dk_62 (dk_at dksX5_find_0 4 rfl rfl)
theorem dX5_find_5 : decode cX5_find 5 = .ok (.iload_n 3, 1) := dk_29 (dk_at dksX5_find_0 5 rfl rfl)
theorem dX5_find_6 : decode cX5_find 6 = .ok (.bipush 16, 2) := dk_16 16 (dk_at dksX5_find_0 6 rfl rfl)
theorem dX5_find_8 : decode cX5_find 8 = .ok (.iload_n 1, 1) := dk_27 (dk_at dksX5_find_0 8 rfl rfl)
theorem dX5_find_9 : decode cX5_find 9 = .ok (.imul, 1) := dk_104 (dk_at dksX5_find_0 9 rfl rfl)
theorem dX5_find_10 : decode cX5_find 10 = .ok (.aload_n 0, 1) := dk_42 (dk_at dksX5_find_0 10 rfl rfl)
theorem dX5_find_11 : decode cX5_find 11 = .ok (.getfield 44, 3) := dk_180 0 44 (dk_at dksX5_find_0 11 rfl rfl)
theorem dX5_find_14 : decode cX5_find 14 = .ok (.iload_n 1, 1) := dk_27 (dk_at dksX5_find_0 14 rfl rfl)
theorem dX5_find_15 : decode cX5_find 15 = .ok (.iaload, 1) := dk_46 (dk_at dksX5_find_0 15 rfl rfl)
theorem dX5_find_16 : decode cX5_find 16 = .ok (.iadd, 1) := dk_96 (dk_at dksX5_find_0 16 rfl rfl)
theorem dX5_find_17 : decode cX5_find 17 = .ok (.if_icmp .ge 21, 3) := dk_162 0 21 (dk_at dksX5_find_0 17 rfl rfl)
theorem dX5_find_20 : decode cX5_find 20 = .ok (.aload_n 0, 1) := dk_42 (dk_at dksX5_find_0 20 rfl rfl)
theorem dX5_find_21 : decode cX5_find 21 = .ok (.getfield 47, 3) := dk_180 0 47 (dk_at dksX5_find_0 21 rfl rfl)
theorem dX5_find_24 : decode cX5_find 24 = .ok (.iload_n 3, 1) := dk_29 (dk_at dksX5_find_1 0 rfl rfl)
theorem dX5_find_25 : decode cX5_find 25 = .ok (.iaload, 1) := dk_46 (dk_at dksX5_find_1 1 rfl rfl)
theorem dX5_find_26 : decode cX5_find 26 = .ok (.iload_n 2, 1) := dk_28 (dk_at dksX5_find_1 2 rfl rfl)
theorem dX5_find_27 : decode cX5_find 27 = .ok (.if_icmp .ne 5, 3) := dk_160 0 5 (dk_at dksX5_find_1 3 rfl rfl)
theorem dX5_find_30 : decode cX5_find 30 = .ok (.iload_n 3, 1) := dk_29 (dk_at dksX5_find_1 6 rfl rfl)
theorem dX5_find_31 : decode cX5_find 31 = .ok (.ireturn, 1) := dk_172 (dk_at dksX5_find_1 7 rfl rfl)
theorem dX5_find_32 : decode cX5_find 32 = .ok (.iinc 3 1, 3) := dk_132 3 1 (dk_at dksX5_find_1 8 rfl rfl)
theorem dX5_find_35 : decode cX5_find 35 = .ok (.goto (-30), 3) := dk_167 255 226 (dk_at dksX5_find_1 11 rfl rfl)
theorem dX5_find_38 : decode cX5_find 38 = .ok (.iconst (-1), 1) := dk_2 (dk_at dksX5_find_1 14 rfl rfl)
theorem dX5_find_39 : decode cX5_find 39 = .ok (.ireturn, 1) := dk_172 (dk_at dksX5_find_1 15 rfl rfl)
abbrev cX5_line : ByteArray := prog_12_method_37_code
def yX5_line : MethodName := ⟨RX5, "line", "(II)Z"⟩
def dkwX5_line_7 : List UInt8 := [172]
abbrev dktX5_line_7 : List UInt8 := dkwX5_line_7 ++ []
def dkwX5_line_6 : List UInt8 := [29, 153, 0, 12, 42, 182, 0, 252, 154, 0, 5, 3, 172, 42, 180, 0, 59, 27, 42, 180, 0, 243, 79, 4]
abbrev dktX5_line_6 : List UInt8 := dkwX5_line_6 ++ dktX5_line_7
def dkwX5_line_5 : List UInt8 := [159, 0, 8, 28, 8, 160, 0, 19, 42, 20, 0, 246, 182, 0, 248, 153, 0, 9, 42, 182, 0, 201, 4, 62]
abbrev dktX5_line_5 : List UInt8 := dkwX5_line_5 ++ dktX5_line_6
def dkwX5_line_4 : List UInt8 := [180, 0, 243, 79, 28, 16, 6, 160, 0, 7, 4, 167, 0, 4, 3, 62, 28, 153, 0, 13, 28, 4]
abbrev dktX5_line_4 : List UInt8 := dkwX5_line_4 ++ dktX5_line_5
def dkwX5_line_3 : List UInt8 := [182, 0, 240, 154, 0, 5, 3, 172, 42, 180, 0, 53, 27, 42, 180, 0, 204, 79, 42, 180, 0, 56, 27, 42]
abbrev dktX5_line_3 : List UInt8 := dkwX5_line_3 ++ dktX5_line_4
def dkwX5_line_2 : List UInt8 := [28, 8, 160, 0, 8, 16, 99, 167, 0, 17, 28, 16, 7, 160, 0, 8, 16, 9, 167, 0, 6, 17, 3, 231]
abbrev dktX5_line_2 : List UInt8 := dkwX5_line_2 ++ dktX5_line_3
def dkwX5_line_1 : List UInt8 := [27, 29, 79, 42, 182, 0, 201, 28, 16, 6, 159, 0, 56, 42, 28, 5, 160, 0, 7, 4, 167, 0, 4, 3]
abbrev dktX5_line_1 : List UInt8 := dkwX5_line_1 ++ dktX5_line_2
def dkwX5_line_0 : List UInt8 := [28, 8, 160, 0, 29, 42, 182, 0, 237, 62, 29, 156, 0, 9, 42, 4, 182, 0, 198, 172, 42, 180, 0, 50]
abbrev dktX5_line_0 : List UInt8 := dkwX5_line_0 ++ dktX5_line_1
theorem dksX5_line_0 : cX5_line.data.toList.drop 0 = dktX5_line_0 := by decide +kernel
theorem dksX5_line_1 : cX5_line.data.toList.drop 24 = dktX5_line_1 := dk_seg dksX5_line_0 24 rfl rfl
theorem dksX5_line_2 : cX5_line.data.toList.drop 48 = dktX5_line_2 := dk_seg dksX5_line_1 24 rfl rfl
theorem dksX5_line_3 : cX5_line.data.toList.drop 72 = dktX5_line_3 := dk_seg dksX5_line_2 24 rfl rfl
theorem dksX5_line_4 : cX5_line.data.toList.drop 96 = dktX5_line_4 := dk_seg dksX5_line_3 24 rfl rfl
theorem dksX5_line_5 : cX5_line.data.toList.drop 118 = dktX5_line_5 := dk_seg dksX5_line_4 22 rfl rfl
theorem dksX5_line_6 : cX5_line.data.toList.drop 142 = dktX5_line_6 := dk_seg dksX5_line_5 24 rfl rfl
theorem dksX5_line_7 : cX5_line.data.toList.drop 166 = dktX5_line_7 := dk_seg dksX5_line_6 24 rfl rfl
theorem dX5_line_0 : decode cX5_line 0 = .ok (.iload_n 2, 1) := dk_28 (dk_at dksX5_line_0 0 rfl rfl)
theorem dX5_line_1 : decode cX5_line 1 = .ok (.iconst 5, 1) := dk_8 (dk_at dksX5_line_0 1 rfl rfl)
theorem dX5_line_2 : decode cX5_line 2 = .ok (.if_icmp .ne 29, 3) := dk_160 0 29 (dk_at dksX5_line_0 2 rfl rfl)
theorem dX5_line_5 : decode cX5_line 5 = .ok (.aload_n 0, 1) := dk_42 (dk_at dksX5_line_0 5 rfl rfl)
theorem dX5_line_6 : decode cX5_line 6 = .ok (.invokevirtual 237, 3) := dk_182 0 237 (dk_at dksX5_line_0 6 rfl rfl)
theorem dX5_line_9 : decode cX5_line 9 = .ok (.istore_n 3, 1) := dk_62 (dk_at dksX5_line_0 9 rfl rfl)
theorem dX5_line_10 : decode cX5_line 10 = .ok (.iload_n 3, 1) := dk_29 (dk_at dksX5_line_0 10 rfl rfl)
theorem dX5_line_11 : decode cX5_line 11 = .ok (.ifCond .ge 9, 3) := dk_156 0 9 (dk_at dksX5_line_0 11 rfl rfl)
theorem dX5_line_14 : decode cX5_line 14 = .ok (.aload_n 0, 1) := dk_42 (dk_at dksX5_line_0 14 rfl rfl)
theorem dX5_line_15 : decode cX5_line 15 = .ok (.iconst 1, 1) := dk_4 (dk_at dksX5_line_0 15 rfl rfl)
theorem dX5_line_16 : decode cX5_line 16 = .ok (.invokevirtual 198, 3) := dk_182 0 198 (dk_at dksX5_line_0 16 rfl rfl)
theorem dX5_line_19 : decode cX5_line 19 = .ok (.ireturn, 1) := dk_172 (dk_at dksX5_line_0 19 rfl rfl)
theorem dX5_line_20 : decode cX5_line 20 = .ok (.aload_n 0, 1) := dk_42 (dk_at dksX5_line_0 20 rfl rfl)
theorem dX5_line_21 : decode cX5_line 21 = .ok (.getfield 50, 3) := dk_180 0 50 (dk_at dksX5_line_0 21 rfl rfl)
theorem dX5_line_24 : decode cX5_line 24 = .ok (.iload_n 1, 1) := dk_27 (dk_at dksX5_line_1 0 rfl rfl)
theorem dX5_line_25 : decode cX5_line 25 = .ok (.iload_n 3, 1) := dk_29 (dk_at dksX5_line_1 1 rfl rfl)
theorem dX5_line_26 : decode cX5_line 26 = .ok (.iastore, 1) := dk_79 (dk_at dksX5_line_1 2 rfl rfl)
theorem dX5_line_27 : decode cX5_line 27 = .ok (.aload_n 0, 1) := dk_42 (dk_at dksX5_line_1 3 rfl rfl)
theorem dX5_line_28 : decode cX5_line 28 = .ok (.invokevirtual 201, 3) := dk_182 0 201 (dk_at dksX5_line_1 4 rfl rfl)
theorem dX5_line_31 : decode cX5_line 31 = .ok (.iload_n 2, 1) := dk_28 (dk_at dksX5_line_1 7 rfl rfl)
theorem dX5_line_32 : decode cX5_line 32 = .ok (.bipush 6, 2) := dk_16 6 (dk_at dksX5_line_1 8 rfl rfl)
theorem dX5_line_34 : decode cX5_line 34 = .ok (.if_icmp .eq 56, 3) := dk_159 0 56 (dk_at dksX5_line_1 10 rfl rfl)
theorem dX5_line_37 : decode cX5_line 37 = .ok (.aload_n 0, 1) := dk_42 (dk_at dksX5_line_1 13 rfl rfl)
theorem dX5_line_38 : decode cX5_line 38 = .ok (.iload_n 2, 1) := dk_28 (dk_at dksX5_line_1 14 rfl rfl)
theorem dX5_line_39 : decode cX5_line 39 = .ok (.iconst 2, 1) := dk_5 (dk_at dksX5_line_1 15 rfl rfl)
theorem dX5_line_40 : decode cX5_line 40 = .ok (.if_icmp .ne 7, 3) := dk_160 0 7 (dk_at dksX5_line_1 16 rfl rfl)
theorem dX5_line_43 : decode cX5_line 43 = .ok (.iconst 1, 1) := dk_4 (dk_at dksX5_line_1 19 rfl rfl)
theorem dX5_line_44 : decode cX5_line 44 = .ok (.goto 4, 3) := dk_167 0 4 (dk_at dksX5_line_1 20 rfl rfl)
theorem dX5_line_47 : decode cX5_line 47 = .ok (.iconst 0, 1) := dk_3 (dk_at dksX5_line_1 23 rfl rfl)
theorem dX5_line_48 : decode cX5_line 48 = .ok (.iload_n 2, 1) := dk_28 (dk_at dksX5_line_2 0 rfl rfl)
theorem dX5_line_49 : decode cX5_line 49 = .ok (.iconst 5, 1) := dk_8 (dk_at dksX5_line_2 1 rfl rfl)
theorem dX5_line_50 : decode cX5_line 50 = .ok (.if_icmp .ne 8, 3) := dk_160 0 8 (dk_at dksX5_line_2 2 rfl rfl)
theorem dX5_line_53 : decode cX5_line 53 = .ok (.bipush 99, 2) := dk_16 99 (dk_at dksX5_line_2 5 rfl rfl)
theorem dX5_line_55 : decode cX5_line 55 = .ok (.goto 17, 3) := dk_167 0 17 (dk_at dksX5_line_2 7 rfl rfl)
theorem dX5_line_58 : decode cX5_line 58 = .ok (.iload_n 2, 1) := dk_28 (dk_at dksX5_line_2 10 rfl rfl)
theorem dX5_line_59 : decode cX5_line 59 = .ok (.bipush 7, 2) := dk_16 7 (dk_at dksX5_line_2 11 rfl rfl)
theorem dX5_line_61 : decode cX5_line 61 = .ok (.if_icmp .ne 8, 3) := dk_160 0 8 (dk_at dksX5_line_2 13 rfl rfl)
theorem dX5_line_64 : decode cX5_line 64 = .ok (.bipush 9, 2) := dk_16 9 (dk_at dksX5_line_2 16 rfl rfl)
theorem dX5_line_66 : decode cX5_line 66 = .ok (.goto 6, 3) := dk_167 0 6 (dk_at dksX5_line_2 18 rfl rfl)
theorem dX5_line_69 : decode cX5_line 69 = .ok (.sipush 999, 3) := dk_17 3 231 (dk_at dksX5_line_2 21 rfl rfl)
theorem dX5_line_72 : decode cX5_line 72 = .ok (.invokevirtual 240, 3) := dk_182 0 240 (dk_at dksX5_line_3 0 rfl rfl)
theorem dX5_line_75 : decode cX5_line 75 = .ok (.ifCond .ne 5, 3) := dk_154 0 5 (dk_at dksX5_line_3 3 rfl rfl)
theorem dX5_line_78 : decode cX5_line 78 = .ok (.iconst 0, 1) := dk_3 (dk_at dksX5_line_3 6 rfl rfl)
theorem dX5_line_79 : decode cX5_line 79 = .ok (.ireturn, 1) := dk_172 (dk_at dksX5_line_3 7 rfl rfl)
theorem dX5_line_80 : decode cX5_line 80 = .ok (.aload_n 0, 1) := dk_42 (dk_at dksX5_line_3 8 rfl rfl)
theorem dX5_line_81 : decode cX5_line 81 = .ok (.getfield 53, 3) := dk_180 0 53 (dk_at dksX5_line_3 9 rfl rfl)
theorem dX5_line_84 : decode cX5_line 84 = .ok (.iload_n 1, 1) := dk_27 (dk_at dksX5_line_3 12 rfl rfl)
theorem dX5_line_85 : decode cX5_line 85 = .ok (.aload_n 0, 1) := dk_42 (dk_at dksX5_line_3 13 rfl rfl)
theorem dX5_line_86 : decode cX5_line 86 = .ok (.getfield 204, 3) := dk_180 0 204 (dk_at dksX5_line_3 14 rfl rfl)
theorem dX5_line_89 : decode cX5_line 89 = .ok (.iastore, 1) := dk_79 (dk_at dksX5_line_3 17 rfl rfl)
theorem dX5_line_90 : decode cX5_line 90 = .ok (.aload_n 0, 1) := dk_42 (dk_at dksX5_line_3 18 rfl rfl)
theorem dX5_line_91 : decode cX5_line 91 = .ok (.getfield 56, 3) := dk_180 0 56 (dk_at dksX5_line_3 19 rfl rfl)
theorem dX5_line_94 : decode cX5_line 94 = .ok (.iload_n 1, 1) := dk_27 (dk_at dksX5_line_3 22 rfl rfl)
theorem dX5_line_95 : decode cX5_line 95 = .ok (.aload_n 0, 1) := dk_42 (dk_at dksX5_line_3 23 rfl rfl)
theorem dX5_line_96 : decode cX5_line 96 = .ok (.getfield 243, 3) := dk_180 0 243 (dk_at dksX5_line_4 0 rfl rfl)
theorem dX5_line_99 : decode cX5_line 99 = .ok (.iastore, 1) := dk_79 (dk_at dksX5_line_4 3 rfl rfl)
theorem dX5_line_100 : decode cX5_line 100 = .ok (.iload_n 2, 1) := dk_28 (dk_at dksX5_line_4 4 rfl rfl)
theorem dX5_line_101 : decode cX5_line 101 = .ok (.bipush 6, 2) := dk_16 6 (dk_at dksX5_line_4 5 rfl rfl)
theorem dX5_line_103 : decode cX5_line 103 = .ok (.if_icmp .ne 7, 3) := dk_160 0 7 (dk_at dksX5_line_4 7 rfl rfl)
theorem dX5_line_106 : decode cX5_line 106 = .ok (.iconst 1, 1) := dk_4 (dk_at dksX5_line_4 10 rfl rfl)
theorem dX5_line_107 : decode cX5_line 107 = .ok (.goto 4, 3) := dk_167 0 4 (dk_at dksX5_line_4 11 rfl rfl)
theorem dX5_line_110 : decode cX5_line 110 = .ok (.iconst 0, 1) := dk_3 (dk_at dksX5_line_4 14 rfl rfl)
theorem dX5_line_111 : decode cX5_line 111 = .ok (.istore_n 3, 1) := dk_62 (dk_at dksX5_line_4 15 rfl rfl)
theorem dX5_line_112 : decode cX5_line 112 = .ok (.iload_n 2, 1) := dk_28 (dk_at dksX5_line_4 16 rfl rfl)
theorem dX5_line_113 : decode cX5_line 113 = .ok (.ifCond .eq 13, 3) := dk_153 0 13 (dk_at dksX5_line_4 17 rfl rfl)
theorem dX5_line_116 : decode cX5_line 116 = .ok (.iload_n 2, 1) := dk_28 (dk_at dksX5_line_4 20 rfl rfl)
theorem dX5_line_117 : decode cX5_line 117 = .ok (.iconst 1, 1) := dk_4 (dk_at dksX5_line_4 21 rfl rfl)
theorem dX5_line_118 : decode cX5_line 118 = .ok (.if_icmp .eq 8, 3) := dk_159 0 8 (dk_at dksX5_line_5 0 rfl rfl)
theorem dX5_line_121 : decode cX5_line 121 = .ok (.iload_n 2, 1) := dk_28 (dk_at dksX5_line_5 3 rfl rfl)
theorem dX5_line_122 : decode cX5_line 122 = .ok (.iconst 5, 1) := dk_8 (dk_at dksX5_line_5 4 rfl rfl)
theorem dX5_line_123 : decode cX5_line 123 = .ok (.if_icmp .ne 19, 3) := dk_160 0 19 (dk_at dksX5_line_5 5 rfl rfl)
theorem dX5_line_126 : decode cX5_line 126 = .ok (.aload_n 0, 1) := dk_42 (dk_at dksX5_line_5 8 rfl rfl)
theorem dX5_line_127 : decode cX5_line 127 = .ok (.ldc2_w 246, 3) := dk_20 0 246 (dk_at dksX5_line_5 9 rfl rfl)
theorem dX5_line_130 : decode cX5_line 130 = .ok (.invokevirtual 248, 3) := dk_182 0 248 (dk_at dksX5_line_5 12 rfl rfl)
theorem dX5_line_133 : decode cX5_line 133 = .ok (.ifCond .eq 9, 3) := dk_153 0 9 (dk_at dksX5_line_5 15 rfl rfl)
theorem dX5_line_136 : decode cX5_line 136 = .ok (.aload_n 0, 1) := dk_42 (dk_at dksX5_line_5 18 rfl rfl)
theorem dX5_line_137 : decode cX5_line 137 = .ok (.invokevirtual 201, 3) := dk_182 0 201 (dk_at dksX5_line_5 19 rfl rfl)
theorem dX5_line_140 : decode cX5_line 140 = .ok (.iconst 1, 1) := dk_4 (dk_at dksX5_line_5 22 rfl rfl)
theorem dX5_line_141 : decode cX5_line 141 = .ok (.istore_n 3, 1) := dk_62 (dk_at dksX5_line_5 23 rfl rfl)
theorem dX5_line_142 : decode cX5_line 142 = .ok (.iload_n 3, 1) := dk_29 (dk_at dksX5_line_6 0 rfl rfl)
theorem dX5_line_143 : decode cX5_line 143 = .ok (.ifCond .eq 12, 3) := dk_153 0 12 (dk_at dksX5_line_6 1 rfl rfl)
theorem dX5_line_146 : decode cX5_line 146 = .ok (.aload_n 0, 1) := dk_42 (dk_at dksX5_line_6 4 rfl rfl)
theorem dX5_line_147 : decode cX5_line 147 = .ok (.invokevirtual 252, 3) := dk_182 0 252 (dk_at dksX5_line_6 5 rfl rfl)
theorem dX5_line_150 : decode cX5_line 150 = .ok (.ifCond .ne 5, 3) := dk_154 0 5 (dk_at dksX5_line_6 8 rfl rfl)
theorem dX5_line_153 : decode cX5_line 153 = .ok (.iconst 0, 1) := dk_3 (dk_at dksX5_line_6 11 rfl rfl)
theorem dX5_line_154 : decode cX5_line 154 = .ok (.ireturn, 1) := dk_172 (dk_at dksX5_line_6 12 rfl rfl)
theorem dX5_line_155 : decode cX5_line 155 = .ok (.aload_n 0, 1) := dk_42 (dk_at dksX5_line_6 13 rfl rfl)
theorem dX5_line_156 : decode cX5_line 156 = .ok (.getfield 59, 3) := dk_180 0 59 (dk_at dksX5_line_6 14 rfl rfl)
theorem dX5_line_159 : decode cX5_line 159 = .ok (.iload_n 1, 1) := dk_27 (dk_at dksX5_line_6 17 rfl rfl)
theorem dX5_line_160 : decode cX5_line 160 = .ok (.aload_n 0, 1) := dk_42 (dk_at dksX5_line_6 18 rfl rfl)
theorem dX5_line_161 : decode cX5_line 161 = .ok (.getfield 243, 3) := dk_180 0 243 (dk_at dksX5_line_6 19 rfl rfl)
theorem dX5_line_164 : decode cX5_line 164 = .ok (.iastore, 1) := dk_79 (dk_at dksX5_line_6 22 rfl rfl)
theorem dX5_line_165 : decode cX5_line 165 = .ok (.iconst 1, 1) := dk_4 (dk_at dksX5_line_6 23 rfl rfl)
theorem dX5_line_166 : decode cX5_line 166 = .ok (.ireturn, 1) := dk_172 (dk_at dksX5_line_7 0 rfl rfl)
abbrev cX5_measure : ByteArray := prog_12_method_38_code
def yX5_measure : MethodName := ⟨RX5, "measure", "()I"⟩
def dkwX5_measure_5 : List UInt8 := [167, 0, 4, 2, 172]
abbrev dktX5_measure_5 : List UInt8 := dkwX5_measure_5 ++ []
def dkwX5_measure_4 : List UInt8 := [20, 1, 10, 148, 154, 0, 7, 8, 167, 0, 20, 42, 180, 0, 185, 20, 0, 211, 148, 154, 0, 8, 16, 6]
abbrev dktX5_measure_4 : List UInt8 := dkwX5_measure_4 ++ dktX5_measure_5
def dkwX5_measure_3 : List UInt8 := [167, 0, 50, 42, 180, 0, 185, 20, 1, 8, 148, 154, 0, 7, 7, 167, 0, 35, 42, 180, 0, 185]
abbrev dktX5_measure_3 : List UInt8 := dkwX5_measure_3 ++ dktX5_measure_4
def dkwX5_measure_2 : List UInt8 := [20, 1, 4, 148, 154, 0, 7, 5, 167, 0, 65, 42, 180, 0, 185, 20, 1, 6, 148, 154, 0, 7, 6]
abbrev dktX5_measure_2 : List UInt8 := dkwX5_measure_2 ++ dktX5_measure_3
def dkwX5_measure_1 : List UInt8 := [167, 0, 95, 42, 180, 0, 185, 20, 1, 2, 148, 154, 0, 7, 4, 167, 0, 80, 42, 180, 0, 185]
abbrev dktX5_measure_1 : List UInt8 := dkwX5_measure_1 ++ dktX5_measure_2
def dkwX5_measure_0 : List UInt8 := [42, 180, 0, 173, 4, 159, 0, 5, 2, 172, 42, 180, 0, 185, 20, 1, 0, 148, 154, 0, 7, 3]
abbrev dktX5_measure_0 : List UInt8 := dkwX5_measure_0 ++ dktX5_measure_1
theorem dksX5_measure_0 : cX5_measure.data.toList.drop 0 = dktX5_measure_0 := by decide +kernel
theorem dksX5_measure_1 : cX5_measure.data.toList.drop 22 = dktX5_measure_1 := dk_seg dksX5_measure_0 22 rfl rfl
theorem dksX5_measure_2 : cX5_measure.data.toList.drop 44 = dktX5_measure_2 := dk_seg dksX5_measure_1 22 rfl rfl
theorem dksX5_measure_3 : cX5_measure.data.toList.drop 67 = dktX5_measure_3 := dk_seg dksX5_measure_2 23 rfl rfl
theorem dksX5_measure_4 : cX5_measure.data.toList.drop 89 = dktX5_measure_4 := dk_seg dksX5_measure_3 22 rfl rfl
theorem dksX5_measure_5 : cX5_measure.data.toList.drop 113 = dktX5_measure_5 := dk_seg dksX5_measure_4 24 rfl rfl
theorem dX5_measure_0 : decode cX5_measure 0 = .ok (.aload_n 0, 1) := dk_42 (dk_at dksX5_measure_0 0 rfl rfl)
theorem dX5_measure_1 : decode cX5_measure 1 = .ok (.getfield 173, 3) := dk_180 0 173 (dk_at dksX5_measure_0 1 rfl rfl)
theorem dX5_measure_4 : decode cX5_measure 4 = .ok (.iconst 1, 1) := dk_4 (dk_at dksX5_measure_0 4 rfl rfl)
theorem dX5_measure_5 : decode cX5_measure 5 = .ok (.if_icmp .eq 5, 3) := dk_159 0 5 (dk_at dksX5_measure_0 5 rfl rfl)
theorem dX5_measure_8 : decode cX5_measure 8 = .ok (.iconst (-1), 1) := dk_2 (dk_at dksX5_measure_0 8 rfl rfl)
theorem dX5_measure_9 : decode cX5_measure 9 = .ok (.ireturn, 1) := dk_172 (dk_at dksX5_measure_0 9 rfl rfl)
theorem dX5_measure_10 : decode cX5_measure 10 = .ok (.aload_n 0, 1) := dk_42 (dk_at dksX5_measure_0 10 rfl rfl)
theorem dX5_measure_11 : decode cX5_measure 11 = .ok (.getfield 185, 3) := dk_180 0 185 (dk_at dksX5_measure_0 11 rfl rfl)
theorem dX5_measure_14 : decode cX5_measure 14 = .ok (.ldc2_w 256, 3) := dk_20 1 0 (dk_at dksX5_measure_0 14 rfl rfl)
theorem dX5_measure_17 : decode cX5_measure 17 = .ok (.lcmp, 1) := dk_148 (dk_at dksX5_measure_0 17 rfl rfl)
theorem dX5_measure_18 : decode cX5_measure 18 = .ok (.ifCond .ne 7, 3) := dk_154 0 7 (dk_at dksX5_measure_0 18 rfl rfl)
theorem dX5_measure_21 : decode cX5_measure 21 = .ok (.iconst 0, 1) := dk_3 (dk_at dksX5_measure_0 21 rfl rfl)
theorem dX5_measure_22 : decode cX5_measure 22 = .ok (.goto 95, 3) := dk_167 0 95 (dk_at dksX5_measure_1 0 rfl rfl)
theorem dX5_measure_25 : decode cX5_measure 25 = .ok (.aload_n 0, 1) := dk_42 (dk_at dksX5_measure_1 3 rfl rfl)
theorem dX5_measure_26 : decode cX5_measure 26 = .ok (.getfield 185, 3) := dk_180 0 185 (dk_at dksX5_measure_1 4 rfl rfl)
theorem dX5_measure_29 : decode cX5_measure 29 = .ok (.ldc2_w 258, 3) := dk_20 1 2 (dk_at dksX5_measure_1 7 rfl rfl)
theorem dX5_measure_32 : decode cX5_measure 32 = .ok (.lcmp, 1) := dk_148 (dk_at dksX5_measure_1 10 rfl rfl)
theorem dX5_measure_33 : decode cX5_measure 33 = .ok (.ifCond .ne 7, 3) := dk_154 0 7 (dk_at dksX5_measure_1 11 rfl rfl)
theorem dX5_measure_36 : decode cX5_measure 36 = .ok (.iconst 1, 1) := dk_4 (dk_at dksX5_measure_1 14 rfl rfl)
theorem dX5_measure_37 : decode cX5_measure 37 = .ok (.goto 80, 3) := dk_167 0 80 (dk_at dksX5_measure_1 15 rfl rfl)
theorem dX5_measure_40 : decode cX5_measure 40 = .ok (.aload_n 0, 1) := dk_42 (dk_at dksX5_measure_1 18 rfl rfl)
theorem dX5_measure_41 : decode cX5_measure 41 = .ok (.getfield 185, 3) := dk_180 0 185 (dk_at dksX5_measure_1 19 rfl rfl)
theorem dX5_measure_44 : decode cX5_measure 44 = .ok (.ldc2_w 260, 3) := dk_20 1 4 (dk_at dksX5_measure_2 0 rfl rfl)
theorem dX5_measure_47 : decode cX5_measure 47 = .ok (.lcmp, 1) := dk_148 (dk_at dksX5_measure_2 3 rfl rfl)
theorem dX5_measure_48 : decode cX5_measure 48 = .ok (.ifCond .ne 7, 3) := dk_154 0 7 (dk_at dksX5_measure_2 4 rfl rfl)
theorem dX5_measure_51 : decode cX5_measure 51 = .ok (.iconst 2, 1) := dk_5 (dk_at dksX5_measure_2 7 rfl rfl)
theorem dX5_measure_52 : decode cX5_measure 52 = .ok (.goto 65, 3) := dk_167 0 65 (dk_at dksX5_measure_2 8 rfl rfl)
theorem dX5_measure_55 : decode cX5_measure 55 = .ok (.aload_n 0, 1) := dk_42 (dk_at dksX5_measure_2 11 rfl rfl)
theorem dX5_measure_56 : decode cX5_measure 56 = .ok (.getfield 185, 3) := dk_180 0 185 (dk_at dksX5_measure_2 12 rfl rfl)
theorem dX5_measure_59 : decode cX5_measure 59 = .ok (.ldc2_w 262, 3) := dk_20 1 6 (dk_at dksX5_measure_2 15 rfl rfl)
theorem dX5_measure_62 : decode cX5_measure 62 = .ok (.lcmp, 1) := dk_148 (dk_at dksX5_measure_2 18 rfl rfl)
theorem dX5_measure_63 : decode cX5_measure 63 = .ok (.ifCond .ne 7, 3) := dk_154 0 7 (dk_at dksX5_measure_2 19 rfl rfl)
theorem dX5_measure_66 : decode cX5_measure 66 = .ok (.iconst 3, 1) := dk_6 (dk_at dksX5_measure_2 22 rfl rfl)
theorem dX5_measure_67 : decode cX5_measure 67 = .ok (.goto 50, 3) := dk_167 0 50 (dk_at dksX5_measure_3 0 rfl rfl)
theorem dX5_measure_70 : decode cX5_measure 70 = .ok (.aload_n 0, 1) := dk_42 (dk_at dksX5_measure_3 3 rfl rfl)
theorem dX5_measure_71 : decode cX5_measure 71 = .ok (.getfield 185, 3) := dk_180 0 185 (dk_at dksX5_measure_3 4 rfl rfl)
theorem dX5_measure_74 : decode cX5_measure 74 = .ok (.ldc2_w 264, 3) := dk_20 1 8 (dk_at dksX5_measure_3 7 rfl rfl)
theorem dX5_measure_77 : decode cX5_measure 77 = .ok (.lcmp, 1) := dk_148 (dk_at dksX5_measure_3 10 rfl rfl)
theorem dX5_measure_78 : decode cX5_measure 78 = .ok (.ifCond .ne 7, 3) := dk_154 0 7 (dk_at dksX5_measure_3 11 rfl rfl)
theorem dX5_measure_81 : decode cX5_measure 81 = .ok (.iconst 4, 1) := dk_7 (dk_at dksX5_measure_3 14 rfl rfl)
theorem dX5_measure_82 : decode cX5_measure 82 = .ok (.goto 35, 3) := dk_167 0 35 (dk_at dksX5_measure_3 15 rfl rfl)
theorem dX5_measure_85 : decode cX5_measure 85 = .ok (.aload_n 0, 1) := dk_42 (dk_at dksX5_measure_3 18 rfl rfl)
theorem dX5_measure_86 : decode cX5_measure 86 = .ok (.getfield 185, 3) := dk_180 0 185 (dk_at dksX5_measure_3 19 rfl rfl)
theorem dX5_measure_89 : decode cX5_measure 89 = .ok (.ldc2_w 266, 3) := dk_20 1 10 (dk_at dksX5_measure_4 0 rfl rfl)
theorem dX5_measure_92 : decode cX5_measure 92 = .ok (.lcmp, 1) := dk_148 (dk_at dksX5_measure_4 3 rfl rfl)
theorem dX5_measure_93 : decode cX5_measure 93 = .ok (.ifCond .ne 7, 3) := dk_154 0 7 (dk_at dksX5_measure_4 4 rfl rfl)
theorem dX5_measure_96 : decode cX5_measure 96 = .ok (.iconst 5, 1) := dk_8 (dk_at dksX5_measure_4 7 rfl rfl)
theorem dX5_measure_97 : decode cX5_measure 97 = .ok (.goto 20, 3) := dk_167 0 20 (dk_at dksX5_measure_4 8 rfl rfl)
theorem dX5_measure_100 : decode cX5_measure 100 = .ok (.aload_n 0, 1) := dk_42 (dk_at dksX5_measure_4 11 rfl rfl)
theorem dX5_measure_101 : decode cX5_measure 101 = .ok (.getfield 185, 3) := dk_180 0 185 (dk_at dksX5_measure_4 12 rfl rfl)
theorem dX5_measure_104 : decode cX5_measure 104 = .ok (.ldc2_w 211, 3) := dk_20 0 211 (dk_at dksX5_measure_4 15 rfl rfl)
theorem dX5_measure_107 : decode cX5_measure 107 = .ok (.lcmp, 1) := dk_148 (dk_at dksX5_measure_4 18 rfl rfl)
theorem dX5_measure_108 : decode cX5_measure 108 = .ok (.ifCond .ne 8, 3) := dk_154 0 8 (dk_at dksX5_measure_4 19 rfl rfl)
theorem dX5_measure_111 : decode cX5_measure 111 = .ok (.bipush 6, 2) := dk_16 6 (dk_at dksX5_measure_4 22 rfl rfl)
theorem dX5_measure_113 : decode cX5_measure 113 = .ok (.goto 4, 3) := dk_167 0 4 (dk_at dksX5_measure_5 0 rfl rfl)
theorem dX5_measure_116 : decode cX5_measure 116 = .ok (.iconst (-1), 1) := dk_2 (dk_at dksX5_measure_5 3 rfl rfl)
theorem dX5_measure_117 : decode cX5_measure 117 = .ok (.ireturn, 1) := dk_172 (dk_at dksX5_measure_5 4 rfl rfl)
abbrev cX5_takes : ByteArray := prog_12_method_34_code
def yX5_takes : MethodName := ⟨RX5, "takes", "(II)Z"⟩
def dkwX5_takes_1 : List UInt8 := [154, 0, 9, 42, 5, 182, 0, 198, 172, 42, 42, 180, 0, 182, 181, 0, 204, 42, 182, 0, 201, 4, 172]
abbrev dktX5_takes_1 : List UInt8 := dkwX5_takes_1 ++ []
def dkwX5_takes_0 : List UInt8 := [42, 180, 0, 173, 5, 159, 0, 9, 42, 4, 182, 0, 198, 172, 42, 180, 0, 182, 27, 28, 184, 0, 132]
abbrev dktX5_takes_0 : List UInt8 := dkwX5_takes_0 ++ dktX5_takes_1
theorem dksX5_takes_0 : cX5_takes.data.toList.drop 0 = dktX5_takes_0 := by decide +kernel
theorem dksX5_takes_1 : cX5_takes.data.toList.drop 23 = dktX5_takes_1 := dk_seg dksX5_takes_0 23 rfl rfl
theorem dX5_takes_0 : decode cX5_takes 0 = .ok (.aload_n 0, 1) := dk_42 (dk_at dksX5_takes_0 0 rfl rfl)
theorem dX5_takes_1 : decode cX5_takes 1 = .ok (.getfield 173, 3) := dk_180 0 173 (dk_at dksX5_takes_0 1 rfl rfl)
theorem dX5_takes_4 : decode cX5_takes 4 = .ok (.iconst 2, 1) := dk_5 (dk_at dksX5_takes_0 4 rfl rfl)
theorem dX5_takes_5 : decode cX5_takes 5 = .ok (.if_icmp .eq 9, 3) := dk_159 0 9 (dk_at dksX5_takes_0 5 rfl rfl)
theorem dX5_takes_8 : decode cX5_takes 8 = .ok (.aload_n 0, 1) := dk_42 (dk_at dksX5_takes_0 8 rfl rfl)
theorem dX5_takes_9 : decode cX5_takes 9 = .ok (.iconst 1, 1) := dk_4 (dk_at dksX5_takes_0 9 rfl rfl)
theorem dX5_takes_10 : decode cX5_takes 10 = .ok (.invokevirtual 198, 3) := dk_182 0 198 (dk_at dksX5_takes_0 10 rfl rfl)
theorem dX5_takes_13 : decode cX5_takes 13 = .ok (.ireturn, 1) := dk_172 (dk_at dksX5_takes_0 13 rfl rfl)
theorem dX5_takes_14 : decode cX5_takes 14 = .ok (.aload_n 0, 1) := dk_42 (dk_at dksX5_takes_0 14 rfl rfl)
theorem dX5_takes_15 : decode cX5_takes 15 = .ok (.getfield 182, 3) := dk_180 0 182 (dk_at dksX5_takes_0 15 rfl rfl)
theorem dX5_takes_18 : decode cX5_takes 18 = .ok (.iload_n 1, 1) := dk_27 (dk_at dksX5_takes_0 18 rfl rfl)
theorem dX5_takes_19 : decode cX5_takes 19 = .ok (.iload_n 2, 1) := dk_28 (dk_at dksX5_takes_0 19 rfl rfl)
theorem dX5_takes_20 : decode cX5_takes 20 = .ok (.invokestatic 132, 3) := dk_184 0 132 (dk_at dksX5_takes_0 20 rfl rfl)
theorem dX5_takes_23 : decode cX5_takes 23 = .ok (.ifCond .ne 9, 3) := dk_154 0 9 (dk_at dksX5_takes_1 0 rfl rfl)
theorem dX5_takes_26 : decode cX5_takes 26 = .ok (.aload_n 0, 1) := dk_42 (dk_at dksX5_takes_1 3 rfl rfl)
theorem dX5_takes_27 : decode cX5_takes 27 = .ok (.iconst 2, 1) := dk_5 (dk_at dksX5_takes_1 4 rfl rfl)
theorem dX5_takes_28 : decode cX5_takes 28 = .ok (.invokevirtual 198, 3) := dk_182 0 198 (dk_at dksX5_takes_1 5 rfl rfl)
theorem dX5_takes_31 : decode cX5_takes 31 = .ok (.ireturn, 1) := dk_172 (dk_at dksX5_takes_1 8 rfl rfl)
theorem dX5_takes_32 : decode cX5_takes 32 = .ok (.aload_n 0, 1) := dk_42 (dk_at dksX5_takes_1 9 rfl rfl)
theorem dX5_takes_33 : decode cX5_takes 33 = .ok (.aload_n 0, 1) := dk_42 (dk_at dksX5_takes_1 10 rfl rfl)
theorem dX5_takes_34 : decode cX5_takes 34 = .ok (.getfield 182, 3) := dk_180 0 182 (dk_at dksX5_takes_1 11 rfl rfl)
theorem dX5_takes_37 : decode cX5_takes 37 = .ok (.putfield 204, 3) := dk_181 0 204 (dk_at dksX5_takes_1 14 rfl rfl)
theorem dX5_takes_40 : decode cX5_takes 40 = .ok (.aload_n 0, 1) := dk_42 (dk_at dksX5_takes_1 17 rfl rfl)
theorem dX5_takes_41 : decode cX5_takes 41 = .ok (.invokevirtual 201, 3) := dk_182 0 201 (dk_at dksX5_takes_1 18 rfl rfl)
theorem dX5_takes_44 : decode cX5_takes 44 = .ok (.iconst 1, 1) := dk_4 (dk_at dksX5_takes_1 21 rfl rfl)
theorem dX5_takes_45 : decode cX5_takes 45 = .ok (.ireturn, 1) := dk_172 (dk_at dksX5_takes_1 22 rfl rfl)
abbrev cX5_isWord : ByteArray := prog_12_method_31_code
def yX5_isWord : MethodName := ⟨RX5, "isWord", "(J)Z"⟩
def dkwX5_isWord_0 : List UInt8 := [42, 180, 0, 173, 4, 160, 0, 16, 42, 180, 0, 185, 31, 148, 154, 0, 7, 4, 167, 0, 4, 3, 172]
abbrev dktX5_isWord_0 : List UInt8 := dkwX5_isWord_0 ++ []
theorem dksX5_isWord_0 : cX5_isWord.data.toList.drop 0 = dktX5_isWord_0 := by decide +kernel
theorem dX5_isWord_0 : decode cX5_isWord 0 = .ok (.aload_n 0, 1) := dk_42 (dk_at dksX5_isWord_0 0 rfl rfl)
theorem dX5_isWord_1 : decode cX5_isWord 1 = .ok (.getfield 173, 3) := dk_180 0 173 (dk_at dksX5_isWord_0 1 rfl rfl)
theorem dX5_isWord_4 : decode cX5_isWord 4 = .ok (.iconst 1, 1) := dk_4 (dk_at dksX5_isWord_0 4 rfl rfl)
theorem dX5_isWord_5 : decode cX5_isWord 5 = .ok (.if_icmp .ne 16, 3) := dk_160 0 16 (dk_at dksX5_isWord_0 5 rfl rfl)
theorem dX5_isWord_8 : decode cX5_isWord 8 = .ok (.aload_n 0, 1) := dk_42 (dk_at dksX5_isWord_0 8 rfl rfl)
theorem dX5_isWord_9 : decode cX5_isWord 9 = .ok (.getfield 185, 3) := dk_180 0 185 (dk_at dksX5_isWord_0 9 rfl rfl)
theorem dX5_isWord_12 : decode cX5_isWord 12 = .ok (.lload_n 1, 1) := dk_31 (dk_at dksX5_isWord_0 12 rfl rfl)
theorem dX5_isWord_13 : decode cX5_isWord 13 = .ok (.lcmp, 1) := dk_148 (dk_at dksX5_isWord_0 13 rfl rfl)
theorem dX5_isWord_14 : decode cX5_isWord 14 = .ok (.ifCond .ne 7, 3) := dk_154 0 7 (dk_at dksX5_isWord_0 14 rfl rfl)
theorem dX5_isWord_17 : decode cX5_isWord 17 = .ok (.iconst 1, 1) := dk_4 (dk_at dksX5_isWord_0 17 rfl rfl)
theorem dX5_isWord_18 : decode cX5_isWord 18 = .ok (.goto 4, 3) := dk_167 0 4 (dk_at dksX5_isWord_0 18 rfl rfl)
theorem dX5_isWord_21 : decode cX5_isWord 21 = .ok (.iconst 0, 1) := dk_3 (dk_at dksX5_isWord_0 21 rfl rfl)
theorem dX5_isWord_22 : decode cX5_isWord 22 = .ok (.ireturn, 1) := dk_172 (dk_at dksX5_isWord_0 22 rfl rfl)
abbrev cX5_cond : ByteArray := prog_12_method_46_code
def yX5_cond : MethodName := ⟨RX5, "cond", "()Z"⟩
def dkwX5_cond_6 : List UInt8 := [181, 1, 32, 42, 182, 0, 201, 167, 255, 115]
abbrev dktX5_cond_6 : List UInt8 := dkwX5_cond_6 ++ []
def dkwX5_cond_5 : List UInt8 := [180, 1, 32, 27, 153, 0, 8, 16, 21, 167, 0, 5, 16, 22, 79, 42, 89, 180, 1, 32, 4, 96]
abbrev dktX5_cond_5 : List UInt8 := dkwX5_cond_5 ++ dktX5_cond_6
def dkwX5_cond_4 : List UInt8 := [182, 1, 47, 4, 172, 42, 27, 153, 0, 7, 5, 167, 0, 4, 4, 182, 1, 47, 42, 180, 0, 71, 42]
abbrev dktX5_cond_4 : List UInt8 := dkwX5_cond_4 ++ dktX5_cond_5
def dkwX5_cond_3 : List UInt8 := [20, 1, 52, 182, 0, 248, 154, 0, 23, 42, 182, 1, 44, 153, 0, 9, 42, 4, 182, 0, 198, 172, 42, 4]
abbrev dktX5_cond_3 : List UInt8 := dkwX5_cond_3 ++ dktX5_cond_4
def dkwX5_cond_2 : List UInt8 := [182, 1, 47, 42, 182, 0, 201, 167, 255, 216, 42, 20, 1, 50, 182, 0, 248, 60, 27, 154, 0, 33, 42]
abbrev dktX5_cond_2 : List UInt8 := dkwX5_cond_2 ++ dktX5_cond_3
def dkwX5_cond_1 : List UInt8 := [182, 1, 44, 153, 0, 30, 42, 4, 182, 1, 47, 42, 89, 180, 1, 32, 4, 100, 181, 1, 32, 42, 6]
abbrev dktX5_cond_1 : List UInt8 := dkwX5_cond_1 ++ dktX5_cond_2
def dkwX5_cond_0 : List UInt8 := [42, 3, 181, 1, 32, 42, 182, 1, 41, 154, 0, 5, 3, 172, 42, 16, 41, 182, 0, 195, 153, 0, 37, 42]
abbrev dktX5_cond_0 : List UInt8 := dkwX5_cond_0 ++ dktX5_cond_1
theorem dksX5_cond_0 : cX5_cond.data.toList.drop 0 = dktX5_cond_0 := by decide +kernel
theorem dksX5_cond_1 : cX5_cond.data.toList.drop 24 = dktX5_cond_1 := dk_seg dksX5_cond_0 24 rfl rfl
theorem dksX5_cond_2 : cX5_cond.data.toList.drop 47 = dktX5_cond_2 := dk_seg dksX5_cond_1 23 rfl rfl
theorem dksX5_cond_3 : cX5_cond.data.toList.drop 70 = dktX5_cond_3 := dk_seg dksX5_cond_2 23 rfl rfl
theorem dksX5_cond_4 : cX5_cond.data.toList.drop 94 = dktX5_cond_4 := dk_seg dksX5_cond_3 24 rfl rfl
theorem dksX5_cond_5 : cX5_cond.data.toList.drop 117 = dktX5_cond_5 := dk_seg dksX5_cond_4 23 rfl rfl
theorem dksX5_cond_6 : cX5_cond.data.toList.drop 139 = dktX5_cond_6 := dk_seg dksX5_cond_5 22 rfl rfl
theorem dX5_cond_0 : decode cX5_cond 0 = .ok (.aload_n 0, 1) := dk_42 (dk_at dksX5_cond_0 0 rfl rfl)
theorem dX5_cond_1 : decode cX5_cond 1 = .ok (.iconst 0, 1) := dk_3 (dk_at dksX5_cond_0 1 rfl rfl)
theorem dX5_cond_2 : decode cX5_cond 2 = .ok (.putfield 288, 3) := dk_181 1 32 (dk_at dksX5_cond_0 2 rfl rfl)
theorem dX5_cond_5 : decode cX5_cond 5 = .ok (.aload_n 0, 1) := dk_42 (dk_at dksX5_cond_0 5 rfl rfl)
theorem dX5_cond_6 : decode cX5_cond 6 = .ok (.invokevirtual 297, 3) := dk_182 1 41 (dk_at dksX5_cond_0 6 rfl rfl)
theorem dX5_cond_9 : decode cX5_cond 9 = .ok (.ifCond .ne 5, 3) := dk_154 0 5 (dk_at dksX5_cond_0 9 rfl rfl)
theorem dX5_cond_12 : decode cX5_cond 12 = .ok (.iconst 0, 1) := dk_3 (dk_at dksX5_cond_0 12 rfl rfl)
theorem dX5_cond_13 : decode cX5_cond 13 = .ok (.ireturn, 1) := dk_172 (dk_at dksX5_cond_0 13 rfl rfl)
theorem dX5_cond_14 : decode cX5_cond 14 = .ok (.aload_n 0, 1) := dk_42 (dk_at dksX5_cond_0 14 rfl rfl)
theorem dX5_cond_15 : decode cX5_cond 15 = .ok (.bipush 41, 2) := dk_16 41 (dk_at dksX5_cond_0 15 rfl rfl)
theorem dX5_cond_17 : decode cX5_cond 17 = .ok (.invokevirtual 195, 3) := dk_182 0 195 (dk_at dksX5_cond_0 17 rfl rfl)
theorem dX5_cond_20 : decode cX5_cond 20 = .ok (.ifCond .eq 37, 3) := dk_153 0 37 (dk_at dksX5_cond_0 20 rfl rfl)
theorem dX5_cond_23 : decode cX5_cond 23 = .ok (.aload_n 0, 1) := dk_42 (dk_at dksX5_cond_0 23 rfl rfl)
theorem dX5_cond_24 : decode cX5_cond 24 = .ok (.invokevirtual 300, 3) := dk_182 1 44 (dk_at dksX5_cond_1 0 rfl rfl)
theorem dX5_cond_27 : decode cX5_cond 27 = .ok (.ifCond .eq 30, 3) := dk_153 0 30 (dk_at dksX5_cond_1 3 rfl rfl)
theorem dX5_cond_30 : decode cX5_cond 30 = .ok (.aload_n 0, 1) := dk_42 (dk_at dksX5_cond_1 6 rfl rfl)
theorem dX5_cond_31 : decode cX5_cond 31 = .ok (.iconst 1, 1) := dk_4 (dk_at dksX5_cond_1 7 rfl rfl)
theorem dX5_cond_32 : decode cX5_cond 32 = .ok (.invokevirtual 303, 3) := dk_182 1 47 (dk_at dksX5_cond_1 8 rfl rfl)
theorem dX5_cond_35 : decode cX5_cond 35 = .ok (.aload_n 0, 1) := dk_42 (dk_at dksX5_cond_1 11 rfl rfl)
theorem dX5_cond_36 : decode cX5_cond 36 = .ok (.dup, 1) := dk_89 (dk_at dksX5_cond_1 12 rfl rfl)
theorem dX5_cond_37 : decode cX5_cond 37 = .ok (.getfield 288, 3) := dk_180 1 32 (dk_at dksX5_cond_1 13 rfl rfl)
theorem dX5_cond_40 : decode cX5_cond 40 = .ok (.iconst 1, 1) := dk_4 (dk_at dksX5_cond_1 16 rfl rfl)
theorem dX5_cond_41 : decode cX5_cond 41 = .ok (.isub, 1) := dk_100 (dk_at dksX5_cond_1 17 rfl rfl)
theorem dX5_cond_42 : decode cX5_cond 42 = .ok (.putfield 288, 3) := dk_181 1 32 (dk_at dksX5_cond_1 18 rfl rfl)
theorem dX5_cond_45 : decode cX5_cond 45 = .ok (.aload_n 0, 1) := dk_42 (dk_at dksX5_cond_1 21 rfl rfl)
theorem dX5_cond_46 : decode cX5_cond 46 = .ok (.iconst 3, 1) := dk_6 (dk_at dksX5_cond_1 22 rfl rfl)
theorem dX5_cond_47 : decode cX5_cond 47 = .ok (.invokevirtual 303, 3) := dk_182 1 47 (dk_at dksX5_cond_2 0 rfl rfl)
theorem dX5_cond_50 : decode cX5_cond 50 = .ok (.aload_n 0, 1) := dk_42 (dk_at dksX5_cond_2 3 rfl rfl)
theorem dX5_cond_51 : decode cX5_cond 51 = .ok (.invokevirtual 201, 3) := dk_182 0 201 (dk_at dksX5_cond_2 4 rfl rfl)
theorem dX5_cond_54 : decode cX5_cond 54 = .ok (.goto (-40), 3) := dk_167 255 216 (dk_at dksX5_cond_2 7 rfl rfl)
theorem dX5_cond_57 : decode cX5_cond 57 = .ok (.aload_n 0, 1) := dk_42 (dk_at dksX5_cond_2 10 rfl rfl)
theorem dX5_cond_58 : decode cX5_cond 58 = .ok (.ldc2_w 306, 3) := dk_20 1 50 (dk_at dksX5_cond_2 11 rfl rfl)
theorem dX5_cond_61 : decode cX5_cond 61 = .ok (.invokevirtual 248, 3) := dk_182 0 248 (dk_at dksX5_cond_2 14 rfl rfl)
theorem dX5_cond_64 : decode cX5_cond 64 = .ok (.istore_n 1, 1) := dk_60 (dk_at dksX5_cond_2 17 rfl rfl)
theorem dX5_cond_65 : decode cX5_cond 65 = .ok (.iload_n 1, 1) := dk_27 (dk_at dksX5_cond_2 18 rfl rfl)
theorem dX5_cond_66 : decode cX5_cond 66 = .ok (.ifCond .ne 33, 3) := dk_154 0 33 (dk_at dksX5_cond_2 19 rfl rfl)
theorem dX5_cond_69 : decode cX5_cond 69 = .ok (.aload_n 0, 1) := dk_42 (dk_at dksX5_cond_2 22 rfl rfl)
theorem dX5_cond_70 : decode cX5_cond 70 = .ok (.ldc2_w 308, 3) := dk_20 1 52 (dk_at dksX5_cond_3 0 rfl rfl)
theorem dX5_cond_73 : decode cX5_cond 73 = .ok (.invokevirtual 248, 3) := dk_182 0 248 (dk_at dksX5_cond_3 3 rfl rfl)
theorem dX5_cond_76 : decode cX5_cond 76 = .ok (.ifCond .ne 23, 3) := dk_154 0 23 (dk_at dksX5_cond_3 6 rfl rfl)
theorem dX5_cond_79 : decode cX5_cond 79 = .ok (.aload_n 0, 1) := dk_42 (dk_at dksX5_cond_3 9 rfl rfl)
theorem dX5_cond_80 : decode cX5_cond 80 = .ok (.invokevirtual 300, 3) := dk_182 1 44 (dk_at dksX5_cond_3 10 rfl rfl)
theorem dX5_cond_83 : decode cX5_cond 83 = .ok (.ifCond .eq 9, 3) := dk_153 0 9 (dk_at dksX5_cond_3 13 rfl rfl)
theorem dX5_cond_86 : decode cX5_cond 86 = .ok (.aload_n 0, 1) := dk_42 (dk_at dksX5_cond_3 16 rfl rfl)
theorem dX5_cond_87 : decode cX5_cond 87 = .ok (.iconst 1, 1) := dk_4 (dk_at dksX5_cond_3 17 rfl rfl)
theorem dX5_cond_88 : decode cX5_cond 88 = .ok (.invokevirtual 198, 3) := dk_182 0 198 (dk_at dksX5_cond_3 18 rfl rfl)
theorem dX5_cond_91 : decode cX5_cond 91 = .ok (.ireturn, 1) := dk_172 (dk_at dksX5_cond_3 21 rfl rfl)
theorem dX5_cond_92 : decode cX5_cond 92 = .ok (.aload_n 0, 1) := dk_42 (dk_at dksX5_cond_3 22 rfl rfl)
theorem dX5_cond_93 : decode cX5_cond 93 = .ok (.iconst 1, 1) := dk_4 (dk_at dksX5_cond_3 23 rfl rfl)
theorem dX5_cond_94 : decode cX5_cond 94 = .ok (.invokevirtual 303, 3) := dk_182 1 47 (dk_at dksX5_cond_4 0 rfl rfl)
theorem dX5_cond_97 : decode cX5_cond 97 = .ok (.iconst 1, 1) := dk_4 (dk_at dksX5_cond_4 3 rfl rfl)
theorem dX5_cond_98 : decode cX5_cond 98 = .ok (.ireturn, 1) := dk_172 (dk_at dksX5_cond_4 4 rfl rfl)
theorem dX5_cond_99 : decode cX5_cond 99 = .ok (.aload_n 0, 1) := dk_42 (dk_at dksX5_cond_4 5 rfl rfl)
theorem dX5_cond_100 : decode cX5_cond 100 = .ok (.iload_n 1, 1) := dk_27 (dk_at dksX5_cond_4 6 rfl rfl)
theorem dX5_cond_101 : decode cX5_cond 101 = .ok (.ifCond .eq 7, 3) := dk_153 0 7 (dk_at dksX5_cond_4 7 rfl rfl)
theorem dX5_cond_104 : decode cX5_cond 104 = .ok (.iconst 2, 1) := dk_5 (dk_at dksX5_cond_4 10 rfl rfl)
theorem dX5_cond_105 : decode cX5_cond 105 = .ok (.goto 4, 3) := dk_167 0 4 (dk_at dksX5_cond_4 11 rfl rfl)
theorem dX5_cond_108 : decode cX5_cond 108 = .ok (.iconst 1, 1) := dk_4 (dk_at dksX5_cond_4 14 rfl rfl)
theorem dX5_cond_109 : decode cX5_cond 109 = .ok (.invokevirtual 303, 3) := dk_182 1 47 (dk_at dksX5_cond_4 15 rfl rfl)
theorem dX5_cond_112 : decode cX5_cond 112 = .ok (.aload_n 0, 1) := dk_42 (dk_at dksX5_cond_4 18 rfl rfl)
theorem dX5_cond_113 : decode cX5_cond 113 = .ok (.getfield 71, 3) := dk_180 0 71 (dk_at dksX5_cond_4 19 rfl rfl)
theorem dX5_cond_116 : decode cX5_cond 116 = .ok (.aload_n 0, 1) := dk_42 (dk_at dksX5_cond_4 22 rfl rfl)
theorem dX5_cond_117 : decode cX5_cond 117 = .ok (.getfield 288, 3) := dk_180 1 32 (dk_at dksX5_cond_5 0 rfl rfl)
theorem dX5_cond_120 : decode cX5_cond 120 = .ok (.iload_n 1, 1) := dk_27 (dk_at dksX5_cond_5 3 rfl rfl)
theorem dX5_cond_121 : decode cX5_cond 121 = .ok (.ifCond .eq 8, 3) := dk_153 0 8 (dk_at dksX5_cond_5 4 rfl rfl)
theorem dX5_cond_124 : decode cX5_cond 124 = .ok (.bipush 21, 2) := dk_16 21 (dk_at dksX5_cond_5 7 rfl rfl)
theorem dX5_cond_126 : decode cX5_cond 126 = .ok (.goto 5, 3) := dk_167 0 5 (dk_at dksX5_cond_5 9 rfl rfl)
theorem dX5_cond_129 : decode cX5_cond 129 = .ok (.bipush 22, 2) := dk_16 22 (dk_at dksX5_cond_5 12 rfl rfl)
theorem dX5_cond_131 : decode cX5_cond 131 = .ok (.iastore, 1) := dk_79 (dk_at dksX5_cond_5 14 rfl rfl)
theorem dX5_cond_132 : decode cX5_cond 132 = .ok (.aload_n 0, 1) := dk_42 (dk_at dksX5_cond_5 15 rfl rfl)
theorem dX5_cond_133 : decode cX5_cond 133 = .ok (.dup, 1) := dk_89 (dk_at dksX5_cond_5 16 rfl rfl)
theorem dX5_cond_134 : decode cX5_cond 134 = .ok (.getfield 288, 3) := dk_180 1 32 (dk_at dksX5_cond_5 17 rfl rfl)
theorem dX5_cond_137 : decode cX5_cond 137 = .ok (.iconst 1, 1) := dk_4 (dk_at dksX5_cond_5 20 rfl rfl)
theorem dX5_cond_138 : decode cX5_cond 138 = .ok (.iadd, 1) := dk_96 (dk_at dksX5_cond_5 21 rfl rfl)
theorem dX5_cond_139 : decode cX5_cond 139 = .ok (.putfield 288, 3) := dk_181 1 32 (dk_at dksX5_cond_6 0 rfl rfl)
theorem dX5_cond_142 : decode cX5_cond 142 = .ok (.aload_n 0, 1) := dk_42 (dk_at dksX5_cond_6 3 rfl rfl)
theorem dX5_cond_143 : decode cX5_cond 143 = .ok (.invokevirtual 201, 3) := dk_182 0 201 (dk_at dksX5_cond_6 4 rfl rfl)
theorem dX5_cond_146 : decode cX5_cond 146 = .ok (.goto (-141), 3) := dk_167 255 115 (dk_at dksX5_cond_6 7 rfl rfl)
abbrev cX5_one : ByteArray := prog_12_method_47_code
def yX5_one : MethodName := ⟨RX5, "one", "()Z"⟩
def dkwX5_one_8 : List UInt8 := [29, 42, 180, 0, 182, 182, 1, 38, 42, 182, 0, 201, 42, 6, 182, 1, 47, 4, 172]
abbrev dktX5_one_8 : List UInt8 := dkwX5_one_8 ++ []
def dkwX5_one_7 : List UInt8 := [180, 0, 182, 62, 42, 182, 0, 201, 42, 180, 0, 173, 5, 159, 0, 9, 42, 4, 182, 0, 198, 172, 42, 28]
abbrev dktX5_one_7 : List UInt8 := dkwX5_one_7 ++ dktX5_one_8
def dkwX5_one_6 : List UInt8 := [16, 61, 182, 0, 195, 154, 0, 18, 42, 16, 62, 182, 0, 195, 154, 0, 9, 42, 4, 182, 0, 198, 172, 42]
abbrev dktX5_one_6 : List UInt8 := dkwX5_one_6 ++ dktX5_one_7
def dkwX5_one_5 : List UInt8 := [162, 0, 13, 42, 28, 3, 3, 182, 1, 38, 167, 0, 73, 42, 16, 60, 182, 0, 195, 154, 0, 27, 42]
abbrev dktX5_one_5 : List UInt8 := dkwX5_one_5 ++ dktX5_one_6
def dkwX5_one_4 : List UInt8 := [167, 0, 5, 16, 23, 79, 42, 89, 180, 1, 32, 4, 96, 181, 1, 32, 167, 255, 148, 28, 16, 8]
abbrev dktX5_one_4 : List UInt8 := dkwX5_one_4 ++ dktX5_one_5
def dkwX5_one_3 : List UInt8 := [42, 182, 0, 201, 28, 156, 0, 36, 42, 180, 0, 71, 42, 180, 1, 32, 27, 153, 0, 8, 16, 20]
abbrev dktX5_one_3 : List UInt8 := dkwX5_one_3 ++ dktX5_one_4
def dkwX5_one_2 : List UInt8 := [182, 1, 62, 16, 10, 160, 0, 9, 42, 7, 182, 0, 198, 172, 42, 89, 180, 1, 59, 4, 96, 181, 1, 59]
abbrev dktX5_one_2 : List UInt8 := dkwX5_one_2 ++ dktX5_one_3
def dkwX5_one_1 : List UInt8 := [182, 0, 195, 154, 0, 9, 42, 4, 182, 0, 198, 172, 42, 180, 1, 59, 16, 40, 159, 0, 12, 42]
abbrev dktX5_one_1 : List UInt8 := dkwX5_one_1 ++ dktX5_one_2
def dkwX5_one_0 : List UInt8 := [42, 20, 1, 54, 182, 0, 248, 60, 42, 182, 1, 56, 61, 27, 154, 0, 22, 28, 156, 0, 18, 42, 16, 40]
abbrev dktX5_one_0 : List UInt8 := dkwX5_one_0 ++ dktX5_one_1
theorem dksX5_one_0 : cX5_one.data.toList.drop 0 = dktX5_one_0 := by decide +kernel
theorem dksX5_one_1 : cX5_one.data.toList.drop 24 = dktX5_one_1 := dk_seg dksX5_one_0 24 rfl rfl
theorem dksX5_one_2 : cX5_one.data.toList.drop 46 = dktX5_one_2 := dk_seg dksX5_one_1 22 rfl rfl
theorem dksX5_one_3 : cX5_one.data.toList.drop 70 = dktX5_one_3 := dk_seg dksX5_one_2 24 rfl rfl
theorem dksX5_one_4 : cX5_one.data.toList.drop 92 = dktX5_one_4 := dk_seg dksX5_one_3 22 rfl rfl
theorem dksX5_one_5 : cX5_one.data.toList.drop 114 = dktX5_one_5 := dk_seg dksX5_one_4 22 rfl rfl
theorem dksX5_one_6 : cX5_one.data.toList.drop 137 = dktX5_one_6 := dk_seg dksX5_one_5 23 rfl rfl
theorem dksX5_one_7 : cX5_one.data.toList.drop 161 = dktX5_one_7 := dk_seg dksX5_one_6 24 rfl rfl
theorem dksX5_one_8 : cX5_one.data.toList.drop 185 = dktX5_one_8 := dk_seg dksX5_one_7 24 rfl rfl
theorem dX5_one_0 : decode cX5_one 0 = .ok (.aload_n 0, 1) := dk_42 (dk_at dksX5_one_0 0 rfl rfl)
theorem dX5_one_1 : decode cX5_one 1 = .ok (.ldc2_w 310, 3) := dk_20 1 54 (dk_at dksX5_one_0 1 rfl rfl)
theorem dX5_one_4 : decode cX5_one 4 = .ok (.invokevirtual 248, 3) := dk_182 0 248 (dk_at dksX5_one_0 4 rfl rfl)
theorem dX5_one_7 : decode cX5_one 7 = .ok (.istore_n 1, 1) := dk_60 (dk_at dksX5_one_0 7 rfl rfl)
theorem dX5_one_8 : decode cX5_one 8 = .ok (.aload_n 0, 1) := dk_42 (dk_at dksX5_one_0 8 rfl rfl)
theorem dX5_one_9 : decode cX5_one 9 = .ok (.invokevirtual 312, 3) := dk_182 1 56 (dk_at dksX5_one_0 9 rfl rfl)
theorem dX5_one_12 : decode cX5_one 12 = .ok (.istore_n 2, 1) := dk_61 (dk_at dksX5_one_0 12 rfl rfl)
theorem dX5_one_13 : decode cX5_one 13 = .ok (.iload_n 1, 1) := dk_27 (dk_at dksX5_one_0 13 rfl rfl)
theorem dX5_one_14 : decode cX5_one 14 = .ok (.ifCond .ne 22, 3) := dk_154 0 22 (dk_at dksX5_one_0 14 rfl rfl)
theorem dX5_one_17 : decode cX5_one 17 = .ok (.iload_n 2, 1) := dk_28 (dk_at dksX5_one_0 17 rfl rfl)
theorem dX5_one_18 : decode cX5_one 18 = .ok (.ifCond .ge 18, 3) := dk_156 0 18 (dk_at dksX5_one_0 18 rfl rfl)
theorem dX5_one_21 : decode cX5_one 21 = .ok (.aload_n 0, 1) := dk_42 (dk_at dksX5_one_0 21 rfl rfl)
theorem dX5_one_22 : decode cX5_one 22 = .ok (.bipush 40, 2) := dk_16 40 (dk_at dksX5_one_0 22 rfl rfl)
theorem dX5_one_24 : decode cX5_one 24 = .ok (.invokevirtual 195, 3) := dk_182 0 195 (dk_at dksX5_one_1 0 rfl rfl)
theorem dX5_one_27 : decode cX5_one 27 = .ok (.ifCond .ne 9, 3) := dk_154 0 9 (dk_at dksX5_one_1 3 rfl rfl)
theorem dX5_one_30 : decode cX5_one 30 = .ok (.aload_n 0, 1) := dk_42 (dk_at dksX5_one_1 6 rfl rfl)
theorem dX5_one_31 : decode cX5_one 31 = .ok (.iconst 1, 1) := dk_4 (dk_at dksX5_one_1 7 rfl rfl)
theorem dX5_one_32 : decode cX5_one 32 = .ok (.invokevirtual 198, 3) := dk_182 0 198 (dk_at dksX5_one_1 8 rfl rfl)
theorem dX5_one_35 : decode cX5_one 35 = .ok (.ireturn, 1) := dk_172 (dk_at dksX5_one_1 11 rfl rfl)
theorem dX5_one_36 : decode cX5_one 36 = .ok (.aload_n 0, 1) := dk_42 (dk_at dksX5_one_1 12 rfl rfl)
theorem dX5_one_37 : decode cX5_one 37 = .ok (.getfield 315, 3) := dk_180 1 59 (dk_at dksX5_one_1 13 rfl rfl)
theorem dX5_one_40 : decode cX5_one 40 = .ok (.bipush 40, 2) := dk_16 40 (dk_at dksX5_one_1 16 rfl rfl)
theorem dX5_one_42 : decode cX5_one 42 = .ok (.if_icmp .eq 12, 3) := dk_159 0 12 (dk_at dksX5_one_1 18 rfl rfl)
theorem dX5_one_45 : decode cX5_one 45 = .ok (.aload_n 0, 1) := dk_42 (dk_at dksX5_one_1 21 rfl rfl)
theorem dX5_one_46 : decode cX5_one 46 = .ok (.invokevirtual 318, 3) := dk_182 1 62 (dk_at dksX5_one_2 0 rfl rfl)
theorem dX5_one_49 : decode cX5_one 49 = .ok (.bipush 10, 2) := dk_16 10 (dk_at dksX5_one_2 3 rfl rfl)
theorem dX5_one_51 : decode cX5_one 51 = .ok (.if_icmp .ne 9, 3) := dk_160 0 9 (dk_at dksX5_one_2 5 rfl rfl)
theorem dX5_one_54 : decode cX5_one 54 = .ok (.aload_n 0, 1) := dk_42 (dk_at dksX5_one_2 8 rfl rfl)
theorem dX5_one_55 : decode cX5_one 55 = .ok (.iconst 4, 1) := dk_7 (dk_at dksX5_one_2 9 rfl rfl)
theorem dX5_one_56 : decode cX5_one 56 = .ok (.invokevirtual 198, 3) := dk_182 0 198 (dk_at dksX5_one_2 10 rfl rfl)
theorem dX5_one_59 : decode cX5_one 59 = .ok (.ireturn, 1) := dk_172 (dk_at dksX5_one_2 13 rfl rfl)
theorem dX5_one_60 : decode cX5_one 60 = .ok (.aload_n 0, 1) := dk_42 (dk_at dksX5_one_2 14 rfl rfl)
theorem dX5_one_61 : decode cX5_one 61 = .ok (.dup, 1) := dk_89 (dk_at dksX5_one_2 15 rfl rfl)
theorem dX5_one_62 : decode cX5_one 62 = .ok (.getfield 315, 3) := dk_180 1 59 (dk_at dksX5_one_2 16 rfl rfl)
theorem dX5_one_65 : decode cX5_one 65 = .ok (.iconst 1, 1) := dk_4 (dk_at dksX5_one_2 19 rfl rfl)
theorem dX5_one_66 : decode cX5_one 66 = .ok (.iadd, 1) := dk_96 (dk_at dksX5_one_2 20 rfl rfl)
theorem dX5_one_67 : decode cX5_one 67 = .ok (.putfield 315, 3) := dk_181 1 59 (dk_at dksX5_one_2 21 rfl rfl)
theorem dX5_one_70 : decode cX5_one 70 = .ok (.aload_n 0, 1) := dk_42 (dk_at dksX5_one_3 0 rfl rfl)
theorem dX5_one_71 : decode cX5_one 71 = .ok (.invokevirtual 201, 3) := dk_182 0 201 (dk_at dksX5_one_3 1 rfl rfl)
theorem dX5_one_74 : decode cX5_one 74 = .ok (.iload_n 2, 1) := dk_28 (dk_at dksX5_one_3 4 rfl rfl)
theorem dX5_one_75 : decode cX5_one 75 = .ok (.ifCond .ge 36, 3) := dk_156 0 36 (dk_at dksX5_one_3 5 rfl rfl)
theorem dX5_one_78 : decode cX5_one 78 = .ok (.aload_n 0, 1) := dk_42 (dk_at dksX5_one_3 8 rfl rfl)
theorem dX5_one_79 : decode cX5_one 79 = .ok (.getfield 71, 3) := dk_180 0 71 (dk_at dksX5_one_3 9 rfl rfl)
theorem dX5_one_82 : decode cX5_one 82 = .ok (.aload_n 0, 1) := dk_42 (dk_at dksX5_one_3 12 rfl rfl)
theorem dX5_one_83 : decode cX5_one 83 = .ok (.getfield 288, 3) := dk_180 1 32 (dk_at dksX5_one_3 13 rfl rfl)
theorem dX5_one_86 : decode cX5_one 86 = .ok (.iload_n 1, 1) := dk_27 (dk_at dksX5_one_3 16 rfl rfl)
theorem dX5_one_87 : decode cX5_one 87 = .ok (.ifCond .eq 8, 3) := dk_153 0 8 (dk_at dksX5_one_3 17 rfl rfl)
theorem dX5_one_90 : decode cX5_one 90 = .ok (.bipush 20, 2) := dk_16 20 (dk_at dksX5_one_3 20 rfl rfl)
theorem dX5_one_92 : decode cX5_one 92 = .ok (.goto 5, 3) := dk_167 0 5 (dk_at dksX5_one_4 0 rfl rfl)
theorem dX5_one_95 : decode cX5_one 95 = .ok (.bipush 23, 2) := dk_16 23 (dk_at dksX5_one_4 3 rfl rfl)
theorem dX5_one_97 : decode cX5_one 97 = .ok (.iastore, 1) := dk_79 (dk_at dksX5_one_4 5 rfl rfl)
theorem dX5_one_98 : decode cX5_one 98 = .ok (.aload_n 0, 1) := dk_42 (dk_at dksX5_one_4 6 rfl rfl)
theorem dX5_one_99 : decode cX5_one 99 = .ok (.dup, 1) := dk_89 (dk_at dksX5_one_4 7 rfl rfl)
theorem dX5_one_100 : decode cX5_one 100 = .ok (.getfield 288, 3) := dk_180 1 32 (dk_at dksX5_one_4 8 rfl rfl)
theorem dX5_one_103 : decode cX5_one 103 = .ok (.iconst 1, 1) := dk_4 (dk_at dksX5_one_4 11 rfl rfl)
theorem dX5_one_104 : decode cX5_one 104 = .ok (.iadd, 1) := dk_96 (dk_at dksX5_one_4 12 rfl rfl)
theorem dX5_one_105 : decode cX5_one 105 = .ok (.putfield 288, 3) := dk_181 1 32 (dk_at dksX5_one_4 13 rfl rfl)
theorem dX5_one_108 : decode cX5_one 108 = .ok (.goto (-108), 3) := dk_167 255 148 (dk_at dksX5_one_4 16 rfl rfl)
theorem dX5_one_111 : decode cX5_one 111 = .ok (.iload_n 2, 1) := dk_28 (dk_at dksX5_one_4 19 rfl rfl)
theorem dX5_one_112 : decode cX5_one 112 = .ok (.bipush 8, 2) := dk_16 8 (dk_at dksX5_one_4 20 rfl rfl)
theorem dX5_one_114 : decode cX5_one 114 = .ok (.if_icmp .ge 13, 3) := dk_162 0 13 (dk_at dksX5_one_5 0 rfl rfl)
theorem dX5_one_117 : decode cX5_one 117 = .ok (.aload_n 0, 1) := dk_42 (dk_at dksX5_one_5 3 rfl rfl)
theorem dX5_one_118 : decode cX5_one 118 = .ok (.iload_n 2, 1) := dk_28 (dk_at dksX5_one_5 4 rfl rfl)
theorem dX5_one_119 : decode cX5_one 119 = .ok (.iconst 0, 1) := dk_3 (dk_at dksX5_one_5 5 rfl rfl)
theorem dX5_one_120 : decode cX5_one 120 = .ok (.iconst 0, 1) := dk_3 (dk_at dksX5_one_5 6 rfl rfl)
theorem dX5_one_121 : decode cX5_one 121 = .ok (.invokevirtual 294, 3) := dk_182 1 38 (dk_at dksX5_one_5 7 rfl rfl)
theorem dX5_one_124 : decode cX5_one 124 = .ok (.goto 73, 3) := dk_167 0 73 (dk_at dksX5_one_5 10 rfl rfl)
theorem dX5_one_127 : decode cX5_one 127 = .ok (.aload_n 0, 1) := dk_42 (dk_at dksX5_one_5 13 rfl rfl)
theorem dX5_one_128 : decode cX5_one 128 = .ok (.bipush 60, 2) := dk_16 60 (dk_at dksX5_one_5 14 rfl rfl)
theorem dX5_one_130 : decode cX5_one 130 = .ok (.invokevirtual 195, 3) := dk_182 0 195 (dk_at dksX5_one_5 16 rfl rfl)
theorem dX5_one_133 : decode cX5_one 133 = .ok (.ifCond .ne 27, 3) := dk_154 0 27 (dk_at dksX5_one_5 19 rfl rfl)
theorem dX5_one_136 : decode cX5_one 136 = .ok (.aload_n 0, 1) := dk_42 (dk_at dksX5_one_5 22 rfl rfl)
theorem dX5_one_137 : decode cX5_one 137 = .ok (.bipush 61, 2) := dk_16 61 (dk_at dksX5_one_6 0 rfl rfl)
theorem dX5_one_139 : decode cX5_one 139 = .ok (.invokevirtual 195, 3) := dk_182 0 195 (dk_at dksX5_one_6 2 rfl rfl)
theorem dX5_one_142 : decode cX5_one 142 = .ok (.ifCond .ne 18, 3) := dk_154 0 18 (dk_at dksX5_one_6 5 rfl rfl)
theorem dX5_one_145 : decode cX5_one 145 = .ok (.aload_n 0, 1) := dk_42 (dk_at dksX5_one_6 8 rfl rfl)
theorem dX5_one_146 : decode cX5_one 146 = .ok (.bipush 62, 2) := dk_16 62 (dk_at dksX5_one_6 9 rfl rfl)
theorem dX5_one_148 : decode cX5_one 148 = .ok (.invokevirtual 195, 3) := dk_182 0 195 (dk_at dksX5_one_6 11 rfl rfl)
theorem dX5_one_151 : decode cX5_one 151 = .ok (.ifCond .ne 9, 3) := dk_154 0 9 (dk_at dksX5_one_6 14 rfl rfl)
theorem dX5_one_154 : decode cX5_one 154 = .ok (.aload_n 0, 1) := dk_42 (dk_at dksX5_one_6 17 rfl rfl)
theorem dX5_one_155 : decode cX5_one 155 = .ok (.iconst 1, 1) := dk_4 (dk_at dksX5_one_6 18 rfl rfl)
theorem dX5_one_156 : decode cX5_one 156 = .ok (.invokevirtual 198, 3) := dk_182 0 198 (dk_at dksX5_one_6 19 rfl rfl)
theorem dX5_one_159 : decode cX5_one 159 = .ok (.ireturn, 1) := dk_172 (dk_at dksX5_one_6 22 rfl rfl)
theorem dX5_one_160 : decode cX5_one 160 = .ok (.aload_n 0, 1) := dk_42 (dk_at dksX5_one_6 23 rfl rfl)
theorem dX5_one_161 : decode cX5_one 161 = .ok (.getfield 182, 3) := dk_180 0 182 (dk_at dksX5_one_7 0 rfl rfl)
theorem dX5_one_164 : decode cX5_one 164 = .ok (.istore_n 3, 1) := dk_62 (dk_at dksX5_one_7 3 rfl rfl)
theorem dX5_one_165 : decode cX5_one 165 = .ok (.aload_n 0, 1) := dk_42 (dk_at dksX5_one_7 4 rfl rfl)
theorem dX5_one_166 : decode cX5_one 166 = .ok (.invokevirtual 201, 3) := dk_182 0 201 (dk_at dksX5_one_7 5 rfl rfl)
theorem dX5_one_169 : decode cX5_one 169 = .ok (.aload_n 0, 1) := dk_42 (dk_at dksX5_one_7 8 rfl rfl)
theorem dX5_one_170 : decode cX5_one 170 = .ok (.getfield 173, 3) := dk_180 0 173 (dk_at dksX5_one_7 9 rfl rfl)
theorem dX5_one_173 : decode cX5_one 173 = .ok (.iconst 2, 1) := dk_5 (dk_at dksX5_one_7 12 rfl rfl)
theorem dX5_one_174 : decode cX5_one 174 = .ok (.if_icmp .eq 9, 3) := dk_159 0 9 (dk_at dksX5_one_7 13 rfl rfl)
theorem dX5_one_177 : decode cX5_one 177 = .ok (.aload_n 0, 1) := dk_42 (dk_at dksX5_one_7 16 rfl rfl)
theorem dX5_one_178 : decode cX5_one 178 = .ok (.iconst 1, 1) := dk_4 (dk_at dksX5_one_7 17 rfl rfl)
theorem dX5_one_179 : decode cX5_one 179 = .ok (.invokevirtual 198, 3) := dk_182 0 198 (dk_at dksX5_one_7 18 rfl rfl)
theorem dX5_one_182 : decode cX5_one 182 = .ok (.ireturn, 1) := dk_172 (dk_at dksX5_one_7 21 rfl rfl)
theorem dX5_one_183 : decode cX5_one 183 = .ok (.aload_n 0, 1) := dk_42 (dk_at dksX5_one_7 22 rfl rfl)
theorem dX5_one_184 : decode cX5_one 184 = .ok (.iload_n 2, 1) := dk_28 (dk_at dksX5_one_7 23 rfl rfl)
theorem dX5_one_185 : decode cX5_one 185 = .ok (.iload_n 3, 1) := dk_29 (dk_at dksX5_one_8 0 rfl rfl)
theorem dX5_one_186 : decode cX5_one 186 = .ok (.aload_n 0, 1) := dk_42 (dk_at dksX5_one_8 1 rfl rfl)
theorem dX5_one_187 : decode cX5_one 187 = .ok (.getfield 182, 3) := dk_180 0 182 (dk_at dksX5_one_8 2 rfl rfl)
theorem dX5_one_190 : decode cX5_one 190 = .ok (.invokevirtual 294, 3) := dk_182 1 38 (dk_at dksX5_one_8 5 rfl rfl)
theorem dX5_one_193 : decode cX5_one 193 = .ok (.aload_n 0, 1) := dk_42 (dk_at dksX5_one_8 8 rfl rfl)
theorem dX5_one_194 : decode cX5_one 194 = .ok (.invokevirtual 201, 3) := dk_182 0 201 (dk_at dksX5_one_8 9 rfl rfl)
theorem dX5_one_197 : decode cX5_one 197 = .ok (.aload_n 0, 1) := dk_42 (dk_at dksX5_one_8 12 rfl rfl)
theorem dX5_one_198 : decode cX5_one 198 = .ok (.iconst 3, 1) := dk_6 (dk_at dksX5_one_8 13 rfl rfl)
theorem dX5_one_199 : decode cX5_one 199 = .ok (.invokevirtual 303, 3) := dk_182 1 47 (dk_at dksX5_one_8 14 rfl rfl)
theorem dX5_one_202 : decode cX5_one 202 = .ok (.iconst 1, 1) := dk_4 (dk_at dksX5_one_8 17 rfl rfl)
theorem dX5_one_203 : decode cX5_one 203 = .ok (.ireturn, 1) := dk_172 (dk_at dksX5_one_8 18 rfl rfl)
abbrev cX5_atom : ByteArray := prog_12_method_40_code
def yX5_atom : MethodName := ⟨RX5, "atom", "()I"⟩
def dkwX5_atom_7 : List UInt8 := [42, 180, 0, 185, 20, 1, 30, 148, 154, 0, 8, 16, 11, 167, 0, 4, 2, 172]
abbrev dktX5_atom_7 : List UInt8 := dkwX5_atom_7 ++ []
def dkwX5_atom_6 : List UInt8 := [154, 0, 8, 16, 9, 167, 0, 36, 42, 180, 0, 185, 20, 1, 28, 148, 154, 0, 8, 16, 10, 167, 0, 20]
abbrev dktX5_atom_6 : List UInt8 := dkwX5_atom_6 ++ dktX5_atom_7
def dkwX5_atom_5 : List UInt8 := [42, 180, 0, 185, 20, 0, 207, 148, 154, 0, 8, 16, 8, 167, 0, 52, 42, 180, 0, 185, 20, 1, 2, 148]
abbrev dktX5_atom_5 : List UInt8 := dkwX5_atom_5 ++ dktX5_atom_6
def dkwX5_atom_4 : List UInt8 := [20, 1, 24, 148, 154, 0, 6, 16, 6, 172, 42, 180, 0, 185, 20, 1, 26, 148, 154, 0, 6, 16, 7, 172]
abbrev dktX5_atom_4 : List UInt8 := dkwX5_atom_4 ++ dktX5_atom_5
def dkwX5_atom_3 : List UInt8 := [154, 0, 5, 7, 172, 42, 180, 0, 185, 20, 1, 22, 148, 154, 0, 5, 8, 172, 42, 180, 0, 185]
abbrev dktX5_atom_3 : List UInt8 := dkwX5_atom_3 ++ dktX5_atom_4
def dkwX5_atom_2 : List UInt8 := [172, 42, 180, 0, 185, 20, 1, 18, 148, 154, 0, 5, 6, 172, 42, 180, 0, 185, 20, 1, 20, 148]
abbrev dktX5_atom_2 : List UInt8 := dkwX5_atom_2 ++ dktX5_atom_3
def dkwX5_atom_1 : List UInt8 := [180, 0, 185, 20, 1, 14, 148, 154, 0, 5, 4, 172, 42, 180, 0, 185, 20, 1, 16, 148, 154, 0, 5, 5]
abbrev dktX5_atom_1 : List UInt8 := dkwX5_atom_1 ++ dktX5_atom_2
def dkwX5_atom_0 : List UInt8 := [42, 180, 0, 173, 4, 159, 0, 5, 2, 172, 42, 180, 0, 185, 20, 1, 12, 148, 154, 0, 5, 3, 172, 42]
abbrev dktX5_atom_0 : List UInt8 := dkwX5_atom_0 ++ dktX5_atom_1
theorem dksX5_atom_0 : cX5_atom.data.toList.drop 0 = dktX5_atom_0 := by decide +kernel
theorem dksX5_atom_1 : cX5_atom.data.toList.drop 24 = dktX5_atom_1 := dk_seg dksX5_atom_0 24 rfl rfl
theorem dksX5_atom_2 : cX5_atom.data.toList.drop 48 = dktX5_atom_2 := dk_seg dksX5_atom_1 24 rfl rfl
theorem dksX5_atom_3 : cX5_atom.data.toList.drop 70 = dktX5_atom_3 := dk_seg dksX5_atom_2 22 rfl rfl
theorem dksX5_atom_4 : cX5_atom.data.toList.drop 92 = dktX5_atom_4 := dk_seg dksX5_atom_3 22 rfl rfl
theorem dksX5_atom_5 : cX5_atom.data.toList.drop 116 = dktX5_atom_5 := dk_seg dksX5_atom_4 24 rfl rfl
theorem dksX5_atom_6 : cX5_atom.data.toList.drop 140 = dktX5_atom_6 := dk_seg dksX5_atom_5 24 rfl rfl
theorem dksX5_atom_7 : cX5_atom.data.toList.drop 164 = dktX5_atom_7 := dk_seg dksX5_atom_6 24 rfl rfl
theorem dX5_atom_0 : decode cX5_atom 0 = .ok (.aload_n 0, 1) := dk_42 (dk_at dksX5_atom_0 0 rfl rfl)
theorem dX5_atom_1 : decode cX5_atom 1 = .ok (.getfield 173, 3) := dk_180 0 173 (dk_at dksX5_atom_0 1 rfl rfl)
theorem dX5_atom_4 : decode cX5_atom 4 = .ok (.iconst 1, 1) := dk_4 (dk_at dksX5_atom_0 4 rfl rfl)
theorem dX5_atom_5 : decode cX5_atom 5 = .ok (.if_icmp .eq 5, 3) := dk_159 0 5 (dk_at dksX5_atom_0 5 rfl rfl)
theorem dX5_atom_8 : decode cX5_atom 8 = .ok (.iconst (-1), 1) := dk_2 (dk_at dksX5_atom_0 8 rfl rfl)
theorem dX5_atom_9 : decode cX5_atom 9 = .ok (.ireturn, 1) := dk_172 (dk_at dksX5_atom_0 9 rfl rfl)
theorem dX5_atom_10 : decode cX5_atom 10 = .ok (.aload_n 0, 1) := dk_42 (dk_at dksX5_atom_0 10 rfl rfl)
theorem dX5_atom_11 : decode cX5_atom 11 = .ok (.getfield 185, 3) := dk_180 0 185 (dk_at dksX5_atom_0 11 rfl rfl)
theorem dX5_atom_14 : decode cX5_atom 14 = .ok (.ldc2_w 268, 3) := dk_20 1 12 (dk_at dksX5_atom_0 14 rfl rfl)
theorem dX5_atom_17 : decode cX5_atom 17 = .ok (.lcmp, 1) := dk_148 (dk_at dksX5_atom_0 17 rfl rfl)
theorem dX5_atom_18 : decode cX5_atom 18 = .ok (.ifCond .ne 5, 3) := dk_154 0 5 (dk_at dksX5_atom_0 18 rfl rfl)
theorem dX5_atom_21 : decode cX5_atom 21 = .ok (.iconst 0, 1) := dk_3 (dk_at dksX5_atom_0 21 rfl rfl)
theorem dX5_atom_22 : decode cX5_atom 22 = .ok (.ireturn, 1) := dk_172 (dk_at dksX5_atom_0 22 rfl rfl)
theorem dX5_atom_23 : decode cX5_atom 23 = .ok (.aload_n 0, 1) := dk_42 (dk_at dksX5_atom_0 23 rfl rfl)
theorem dX5_atom_24 : decode cX5_atom 24 = .ok (.getfield 185, 3) := dk_180 0 185 (dk_at dksX5_atom_1 0 rfl rfl)
theorem dX5_atom_27 : decode cX5_atom 27 = .ok (.ldc2_w 270, 3) := dk_20 1 14 (dk_at dksX5_atom_1 3 rfl rfl)
theorem dX5_atom_30 : decode cX5_atom 30 = .ok (.lcmp, 1) := dk_148 (dk_at dksX5_atom_1 6 rfl rfl)
theorem dX5_atom_31 : decode cX5_atom 31 = .ok (.ifCond .ne 5, 3) := dk_154 0 5 (dk_at dksX5_atom_1 7 rfl rfl)
theorem dX5_atom_34 : decode cX5_atom 34 = .ok (.iconst 1, 1) := dk_4 (dk_at dksX5_atom_1 10 rfl rfl)
theorem dX5_atom_35 : decode cX5_atom 35 = .ok (.ireturn, 1) := dk_172 (dk_at dksX5_atom_1 11 rfl rfl)
theorem dX5_atom_36 : decode cX5_atom 36 = .ok (.aload_n 0, 1) := dk_42 (dk_at dksX5_atom_1 12 rfl rfl)
theorem dX5_atom_37 : decode cX5_atom 37 = .ok (.getfield 185, 3) := dk_180 0 185 (dk_at dksX5_atom_1 13 rfl rfl)
theorem dX5_atom_40 : decode cX5_atom 40 = .ok (.ldc2_w 272, 3) := dk_20 1 16 (dk_at dksX5_atom_1 16 rfl rfl)
theorem dX5_atom_43 : decode cX5_atom 43 = .ok (.lcmp, 1) := dk_148 (dk_at dksX5_atom_1 19 rfl rfl)
theorem dX5_atom_44 : decode cX5_atom 44 = .ok (.ifCond .ne 5, 3) := dk_154 0 5 (dk_at dksX5_atom_1 20 rfl rfl)
theorem dX5_atom_47 : decode cX5_atom 47 = .ok (.iconst 2, 1) := dk_5 (dk_at dksX5_atom_1 23 rfl rfl)
theorem dX5_atom_48 : decode cX5_atom 48 = .ok (.ireturn, 1) := dk_172 (dk_at dksX5_atom_2 0 rfl rfl)
theorem dX5_atom_49 : decode cX5_atom 49 = .ok (.aload_n 0, 1) := dk_42 (dk_at dksX5_atom_2 1 rfl rfl)
theorem dX5_atom_50 : decode cX5_atom 50 = .ok (.getfield 185, 3) := dk_180 0 185 (dk_at dksX5_atom_2 2 rfl rfl)
theorem dX5_atom_53 : decode cX5_atom 53 = .ok (.ldc2_w 274, 3) := dk_20 1 18 (dk_at dksX5_atom_2 5 rfl rfl)
theorem dX5_atom_56 : decode cX5_atom 56 = .ok (.lcmp, 1) := dk_148 (dk_at dksX5_atom_2 8 rfl rfl)
theorem dX5_atom_57 : decode cX5_atom 57 = .ok (.ifCond .ne 5, 3) := dk_154 0 5 (dk_at dksX5_atom_2 9 rfl rfl)
theorem dX5_atom_60 : decode cX5_atom 60 = .ok (.iconst 3, 1) := dk_6 (dk_at dksX5_atom_2 12 rfl rfl)
theorem dX5_atom_61 : decode cX5_atom 61 = .ok (.ireturn, 1) := dk_172 (dk_at dksX5_atom_2 13 rfl rfl)
theorem dX5_atom_62 : decode cX5_atom 62 = .ok (.aload_n 0, 1) := dk_42 (dk_at dksX5_atom_2 14 rfl rfl)
theorem dX5_atom_63 : decode cX5_atom 63 = .ok (.getfield 185, 3) := dk_180 0 185 (dk_at dksX5_atom_2 15 rfl rfl)
theorem dX5_atom_66 : decode cX5_atom 66 = .ok (.ldc2_w 276, 3) := dk_20 1 20 (dk_at dksX5_atom_2 18 rfl rfl)
theorem dX5_atom_69 : decode cX5_atom 69 = .ok (.lcmp, 1) := dk_148 (dk_at dksX5_atom_2 21 rfl rfl)
theorem dX5_atom_70 : decode cX5_atom 70 = .ok (.ifCond .ne 5, 3) := dk_154 0 5 (dk_at dksX5_atom_3 0 rfl rfl)
theorem dX5_atom_73 : decode cX5_atom 73 = .ok (.iconst 4, 1) := dk_7 (dk_at dksX5_atom_3 3 rfl rfl)
theorem dX5_atom_74 : decode cX5_atom 74 = .ok (.ireturn, 1) := dk_172 (dk_at dksX5_atom_3 4 rfl rfl)
theorem dX5_atom_75 : decode cX5_atom 75 = .ok (.aload_n 0, 1) := dk_42 (dk_at dksX5_atom_3 5 rfl rfl)
theorem dX5_atom_76 : decode cX5_atom 76 = .ok (.getfield 185, 3) := dk_180 0 185 (dk_at dksX5_atom_3 6 rfl rfl)
theorem dX5_atom_79 : decode cX5_atom 79 = .ok (.ldc2_w 278, 3) := dk_20 1 22 (dk_at dksX5_atom_3 9 rfl rfl)
theorem dX5_atom_82 : decode cX5_atom 82 = .ok (.lcmp, 1) := dk_148 (dk_at dksX5_atom_3 12 rfl rfl)
theorem dX5_atom_83 : decode cX5_atom 83 = .ok (.ifCond .ne 5, 3) := dk_154 0 5 (dk_at dksX5_atom_3 13 rfl rfl)
theorem dX5_atom_86 : decode cX5_atom 86 = .ok (.iconst 5, 1) := dk_8 (dk_at dksX5_atom_3 16 rfl rfl)
theorem dX5_atom_87 : decode cX5_atom 87 = .ok (.ireturn, 1) := dk_172 (dk_at dksX5_atom_3 17 rfl rfl)
theorem dX5_atom_88 : decode cX5_atom 88 = .ok (.aload_n 0, 1) := dk_42 (dk_at dksX5_atom_3 18 rfl rfl)
theorem dX5_atom_89 : decode cX5_atom 89 = .ok (.getfield 185, 3) := dk_180 0 185 (dk_at dksX5_atom_3 19 rfl rfl)
theorem dX5_atom_92 : decode cX5_atom 92 = .ok (.ldc2_w 280, 3) := dk_20 1 24 (dk_at dksX5_atom_4 0 rfl rfl)
theorem dX5_atom_95 : decode cX5_atom 95 = .ok (.lcmp, 1) := dk_148 (dk_at dksX5_atom_4 3 rfl rfl)
theorem dX5_atom_96 : decode cX5_atom 96 = .ok (.ifCond .ne 6, 3) := dk_154 0 6 (dk_at dksX5_atom_4 4 rfl rfl)
theorem dX5_atom_99 : decode cX5_atom 99 = .ok (.bipush 6, 2) := dk_16 6 (dk_at dksX5_atom_4 7 rfl rfl)
theorem dX5_atom_101 : decode cX5_atom 101 = .ok (.ireturn, 1) := dk_172 (dk_at dksX5_atom_4 9 rfl rfl)
theorem dX5_atom_102 : decode cX5_atom 102 = .ok (.aload_n 0, 1) := dk_42 (dk_at dksX5_atom_4 10 rfl rfl)
theorem dX5_atom_103 : decode cX5_atom 103 = .ok (.getfield 185, 3) := dk_180 0 185 (dk_at dksX5_atom_4 11 rfl rfl)
theorem dX5_atom_106 : decode cX5_atom 106 = .ok (.ldc2_w 282, 3) := dk_20 1 26 (dk_at dksX5_atom_4 14 rfl rfl)
theorem dX5_atom_109 : decode cX5_atom 109 = .ok (.lcmp, 1) := dk_148 (dk_at dksX5_atom_4 17 rfl rfl)
theorem dX5_atom_110 : decode cX5_atom 110 = .ok (.ifCond .ne 6, 3) := dk_154 0 6 (dk_at dksX5_atom_4 18 rfl rfl)
theorem dX5_atom_113 : decode cX5_atom 113 = .ok (.bipush 7, 2) := dk_16 7 (dk_at dksX5_atom_4 21 rfl rfl)
theorem dX5_atom_115 : decode cX5_atom 115 = .ok (.ireturn, 1) := dk_172 (dk_at dksX5_atom_4 23 rfl rfl)
theorem dX5_atom_116 : decode cX5_atom 116 = .ok (.aload_n 0, 1) := dk_42 (dk_at dksX5_atom_5 0 rfl rfl)
theorem dX5_atom_117 : decode cX5_atom 117 = .ok (.getfield 185, 3) := dk_180 0 185 (dk_at dksX5_atom_5 1 rfl rfl)
theorem dX5_atom_120 : decode cX5_atom 120 = .ok (.ldc2_w 207, 3) := dk_20 0 207 (dk_at dksX5_atom_5 4 rfl rfl)
theorem dX5_atom_123 : decode cX5_atom 123 = .ok (.lcmp, 1) := dk_148 (dk_at dksX5_atom_5 7 rfl rfl)
theorem dX5_atom_124 : decode cX5_atom 124 = .ok (.ifCond .ne 8, 3) := dk_154 0 8 (dk_at dksX5_atom_5 8 rfl rfl)
theorem dX5_atom_127 : decode cX5_atom 127 = .ok (.bipush 8, 2) := dk_16 8 (dk_at dksX5_atom_5 11 rfl rfl)
theorem dX5_atom_129 : decode cX5_atom 129 = .ok (.goto 52, 3) := dk_167 0 52 (dk_at dksX5_atom_5 13 rfl rfl)
theorem dX5_atom_132 : decode cX5_atom 132 = .ok (.aload_n 0, 1) := dk_42 (dk_at dksX5_atom_5 16 rfl rfl)
theorem dX5_atom_133 : decode cX5_atom 133 = .ok (.getfield 185, 3) := dk_180 0 185 (dk_at dksX5_atom_5 17 rfl rfl)
theorem dX5_atom_136 : decode cX5_atom 136 = .ok (.ldc2_w 258, 3) := dk_20 1 2 (dk_at dksX5_atom_5 20 rfl rfl)
theorem dX5_atom_139 : decode cX5_atom 139 = .ok (.lcmp, 1) := dk_148 (dk_at dksX5_atom_5 23 rfl rfl)
theorem dX5_atom_140 : decode cX5_atom 140 = .ok (.ifCond .ne 8, 3) := dk_154 0 8 (dk_at dksX5_atom_6 0 rfl rfl)
theorem dX5_atom_143 : decode cX5_atom 143 = .ok (.bipush 9, 2) := dk_16 9 (dk_at dksX5_atom_6 3 rfl rfl)
theorem dX5_atom_145 : decode cX5_atom 145 = .ok (.goto 36, 3) := dk_167 0 36 (dk_at dksX5_atom_6 5 rfl rfl)
theorem dX5_atom_148 : decode cX5_atom 148 = .ok (.aload_n 0, 1) := dk_42 (dk_at dksX5_atom_6 8 rfl rfl)
theorem dX5_atom_149 : decode cX5_atom 149 = .ok (.getfield 185, 3) := dk_180 0 185 (dk_at dksX5_atom_6 9 rfl rfl)
theorem dX5_atom_152 : decode cX5_atom 152 = .ok (.ldc2_w 284, 3) := dk_20 1 28 (dk_at dksX5_atom_6 12 rfl rfl)
theorem dX5_atom_155 : decode cX5_atom 155 = .ok (.lcmp, 1) := dk_148 (dk_at dksX5_atom_6 15 rfl rfl)
theorem dX5_atom_156 : decode cX5_atom 156 = .ok (.ifCond .ne 8, 3) := dk_154 0 8 (dk_at dksX5_atom_6 16 rfl rfl)
theorem dX5_atom_159 : decode cX5_atom 159 = .ok (.bipush 10, 2) := dk_16 10 (dk_at dksX5_atom_6 19 rfl rfl)
theorem dX5_atom_161 : decode cX5_atom 161 = .ok (.goto 20, 3) := dk_167 0 20 (dk_at dksX5_atom_6 21 rfl rfl)
theorem dX5_atom_164 : decode cX5_atom 164 = .ok (.aload_n 0, 1) := dk_42 (dk_at dksX5_atom_7 0 rfl rfl)
theorem dX5_atom_165 : decode cX5_atom 165 = .ok (.getfield 185, 3) := dk_180 0 185 (dk_at dksX5_atom_7 1 rfl rfl)
theorem dX5_atom_168 : decode cX5_atom 168 = .ok (.ldc2_w 286, 3) := dk_20 1 30 (dk_at dksX5_atom_7 4 rfl rfl)
theorem dX5_atom_171 : decode cX5_atom 171 = .ok (.lcmp, 1) := dk_148 (dk_at dksX5_atom_7 7 rfl rfl)
theorem dX5_atom_172 : decode cX5_atom 172 = .ok (.ifCond .ne 8, 3) := dk_154 0 8 (dk_at dksX5_atom_7 8 rfl rfl)
theorem dX5_atom_175 : decode cX5_atom 175 = .ok (.bipush 11, 2) := dk_16 11 (dk_at dksX5_atom_7 11 rfl rfl)
theorem dX5_atom_177 : decode cX5_atom 177 = .ok (.goto 4, 3) := dk_167 0 4 (dk_at dksX5_atom_7 13 rfl rfl)
theorem dX5_atom_180 : decode cX5_atom 180 = .ok (.iconst (-1), 1) := dk_2 (dk_at dksX5_atom_7 16 rfl rfl)
theorem dX5_atom_181 : decode cX5_atom 181 = .ok (.ireturn, 1) := dk_172 (dk_at dksX5_atom_7 17 rfl rfl)
abbrev cX5_isSign : ByteArray := prog_12_method_32_code
def yX5_isSign : MethodName := ⟨RX5, "isSign", "(I)Z"⟩
def dkwX5_isSign_0 : List UInt8 := [42, 180, 0, 173, 6, 160, 0, 15, 42, 180, 0, 182, 27, 160, 0, 7, 4, 167, 0, 4, 3, 172]
abbrev dktX5_isSign_0 : List UInt8 := dkwX5_isSign_0 ++ []
theorem dksX5_isSign_0 : cX5_isSign.data.toList.drop 0 = dktX5_isSign_0 := by decide +kernel
theorem dX5_isSign_0 : decode cX5_isSign 0 = .ok (.aload_n 0, 1) := dk_42 (dk_at dksX5_isSign_0 0 rfl rfl)
theorem dX5_isSign_1 : decode cX5_isSign 1 = .ok (.getfield 173, 3) := dk_180 0 173 (dk_at dksX5_isSign_0 1 rfl rfl)
theorem dX5_isSign_4 : decode cX5_isSign 4 = .ok (.iconst 3, 1) := dk_6 (dk_at dksX5_isSign_0 4 rfl rfl)
theorem dX5_isSign_5 : decode cX5_isSign 5 = .ok (.if_icmp .ne 15, 3) := dk_160 0 15 (dk_at dksX5_isSign_0 5 rfl rfl)
theorem dX5_isSign_8 : decode cX5_isSign 8 = .ok (.aload_n 0, 1) := dk_42 (dk_at dksX5_isSign_0 8 rfl rfl)
theorem dX5_isSign_9 : decode cX5_isSign 9 = .ok (.getfield 182, 3) := dk_180 0 182 (dk_at dksX5_isSign_0 9 rfl rfl)
theorem dX5_isSign_12 : decode cX5_isSign 12 = .ok (.iload_n 1, 1) := dk_27 (dk_at dksX5_isSign_0 12 rfl rfl)
theorem dX5_isSign_13 : decode cX5_isSign 13 = .ok (.if_icmp .ne 7, 3) := dk_160 0 7 (dk_at dksX5_isSign_0 13 rfl rfl)
theorem dX5_isSign_16 : decode cX5_isSign 16 = .ok (.iconst 1, 1) := dk_4 (dk_at dksX5_isSign_0 16 rfl rfl)
theorem dX5_isSign_17 : decode cX5_isSign 17 = .ok (.goto 4, 3) := dk_167 0 4 (dk_at dksX5_isSign_0 17 rfl rfl)
theorem dX5_isSign_20 : decode cX5_isSign 20 = .ok (.iconst 0, 1) := dk_3 (dk_at dksX5_isSign_0 20 rfl rfl)
theorem dX5_isSign_21 : decode cX5_isSign 21 = .ok (.ireturn, 1) := dk_172 (dk_at dksX5_isSign_0 21 rfl rfl)
abbrev cX5_open : ByteArray := prog_12_method_44_code
def yX5_open : MethodName := ⟨RX5, "open", "()I"⟩
def dkwX5_open_2 : List UInt8 := [27, 172]
abbrev dktX5_open_2 : List UInt8 := dkwX5_open_2 ++ []
def dkwX5_open_1 : List UInt8 := [42, 180, 0, 71, 28, 46, 16, 23, 160, 0, 7, 4, 167, 0, 4, 3, 96, 60, 132, 2, 1, 167, 255, 215]
abbrev dktX5_open_1 : List UInt8 := dkwX5_open_1 ++ dktX5_open_2
def dkwX5_open_0 : List UInt8 := [3, 60, 3, 61, 28, 42, 180, 1, 32, 162, 0, 39, 27, 42, 180, 0, 71, 28, 46, 16, 20, 159, 0, 14]
abbrev dktX5_open_0 : List UInt8 := dkwX5_open_0 ++ dktX5_open_1
theorem dksX5_open_0 : cX5_open.data.toList.drop 0 = dktX5_open_0 := by decide +kernel
theorem dksX5_open_1 : cX5_open.data.toList.drop 24 = dktX5_open_1 := dk_seg dksX5_open_0 24 rfl rfl
theorem dksX5_open_2 : cX5_open.data.toList.drop 48 = dktX5_open_2 := dk_seg dksX5_open_1 24 rfl rfl
theorem dX5_open_0 : decode cX5_open 0 = .ok (.iconst 0, 1) := dk_3 (dk_at dksX5_open_0 0 rfl rfl)
theorem dX5_open_1 : decode cX5_open 1 = .ok (.istore_n 1, 1) := dk_60 (dk_at dksX5_open_0 1 rfl rfl)
theorem dX5_open_2 : decode cX5_open 2 = .ok (.iconst 0, 1) := dk_3 (dk_at dksX5_open_0 2 rfl rfl)
theorem dX5_open_3 : decode cX5_open 3 = .ok (.istore_n 2, 1) := dk_61 (dk_at dksX5_open_0 3 rfl rfl)
theorem dX5_open_4 : decode cX5_open 4 = .ok (.iload_n 2, 1) := dk_28 (dk_at dksX5_open_0 4 rfl rfl)
theorem dX5_open_5 : decode cX5_open 5 = .ok (.aload_n 0, 1) := dk_42 (dk_at dksX5_open_0 5 rfl rfl)
theorem dX5_open_6 : decode cX5_open 6 = .ok (.getfield 288, 3) := dk_180 1 32 (dk_at dksX5_open_0 6 rfl rfl)
theorem dX5_open_9 : decode cX5_open 9 = .ok (.if_icmp .ge 39, 3) := dk_162 0 39 (dk_at dksX5_open_0 9 rfl rfl)
theorem dX5_open_12 : decode cX5_open 12 = .ok (.iload_n 1, 1) := dk_27 (dk_at dksX5_open_0 12 rfl rfl)
theorem dX5_open_13 : decode cX5_open 13 = .ok (.aload_n 0, 1) := dk_42 (dk_at dksX5_open_0 13 rfl rfl)
theorem dX5_open_14 : decode cX5_open 14 = .ok (.getfield 71, 3) := dk_180 0 71 (dk_at dksX5_open_0 14 rfl rfl)
theorem dX5_open_17 : decode cX5_open 17 = .ok (.iload_n 2, 1) := dk_28 (dk_at dksX5_open_0 17 rfl rfl)
theorem dX5_open_18 : decode cX5_open 18 = .ok (.iaload, 1) := dk_46 (dk_at dksX5_open_0 18 rfl rfl)
theorem dX5_open_19 : decode cX5_open 19 = .ok (.bipush 20, 2) := dk_16 20 (dk_at dksX5_open_0 19 rfl rfl)
theorem dX5_open_21 : decode cX5_open 21 = .ok (.if_icmp .eq 14, 3) := dk_159 0 14 (dk_at dksX5_open_0 21 rfl rfl)
theorem dX5_open_24 : decode cX5_open 24 = .ok (.aload_n 0, 1) := dk_42 (dk_at dksX5_open_1 0 rfl rfl)
theorem dX5_open_25 : decode cX5_open 25 = .ok (.getfield 71, 3) := dk_180 0 71 (dk_at dksX5_open_1 1 rfl rfl)
theorem dX5_open_28 : decode cX5_open 28 = .ok (.iload_n 2, 1) := dk_28 (dk_at dksX5_open_1 4 rfl rfl)
theorem dX5_open_29 : decode cX5_open 29 = .ok (.iaload, 1) := dk_46 (dk_at dksX5_open_1 5 rfl rfl)
theorem dX5_open_30 : decode cX5_open 30 = .ok (.bipush 23, 2) := dk_16 23 (dk_at dksX5_open_1 6 rfl rfl)
theorem dX5_open_32 : decode cX5_open 32 = .ok (.if_icmp .ne 7, 3) := dk_160 0 7 (dk_at dksX5_open_1 8 rfl rfl)
theorem dX5_open_35 : decode cX5_open 35 = .ok (.iconst 1, 1) := dk_4 (dk_at dksX5_open_1 11 rfl rfl)
theorem dX5_open_36 : decode cX5_open 36 = .ok (.goto 4, 3) := dk_167 0 4 (dk_at dksX5_open_1 12 rfl rfl)
theorem dX5_open_39 : decode cX5_open 39 = .ok (.iconst 0, 1) := dk_3 (dk_at dksX5_open_1 15 rfl rfl)
theorem dX5_open_40 : decode cX5_open 40 = .ok (.iadd, 1) := dk_96 (dk_at dksX5_open_1 16 rfl rfl)
theorem dX5_open_41 : decode cX5_open 41 = .ok (.istore_n 1, 1) := dk_60 (dk_at dksX5_open_1 17 rfl rfl)
theorem dX5_open_42 : decode cX5_open 42 = .ok (.iinc 2 1, 3) := dk_132 2 1 (dk_at dksX5_open_1 18 rfl rfl)
theorem dX5_open_45 : decode cX5_open 45 = .ok (.goto (-41), 3) := dk_167 255 215 (dk_at dksX5_open_1 21 rfl rfl)
theorem dX5_open_48 : decode cX5_open 48 = .ok (.iload_n 1, 1) := dk_27 (dk_at dksX5_open_2 0 rfl rfl)
theorem dX5_open_49 : decode cX5_open 49 = .ok (.ireturn, 1) := dk_172 (dk_at dksX5_open_2 1 rfl rfl)
abbrev cX5_write : ByteArray := prog_12_method_41_code
def yX5_write : MethodName := ⟨RX5, "write", "(III)V"⟩
def dkwX5_write_2 : List UInt8 := [180, 0, 243, 4, 96, 181, 0, 243, 177]
abbrev dktX5_write_2 : List UInt8 := dkwX5_write_2 ++ []
def dkwX5_write_1 : List UInt8 := [180, 0, 243, 96, 28, 79, 42, 180, 0, 68, 17, 5, 120, 42, 180, 0, 243, 96, 29, 79, 42, 89]
abbrev dktX5_write_1 : List UInt8 := dkwX5_write_1 ++ dktX5_write_2
def dkwX5_write_0 : List UInt8 := [42, 180, 0, 62, 17, 5, 120, 42, 180, 0, 243, 96, 27, 79, 42, 180, 0, 65, 17, 5, 120, 42]
abbrev dktX5_write_0 : List UInt8 := dkwX5_write_0 ++ dktX5_write_1
theorem dksX5_write_0 : cX5_write.data.toList.drop 0 = dktX5_write_0 := by decide +kernel
theorem dksX5_write_1 : cX5_write.data.toList.drop 22 = dktX5_write_1 := dk_seg dksX5_write_0 22 rfl rfl
theorem dksX5_write_2 : cX5_write.data.toList.drop 44 = dktX5_write_2 := dk_seg dksX5_write_1 22 rfl rfl
theorem dX5_write_0 : decode cX5_write 0 = .ok (.aload_n 0, 1) := dk_42 (dk_at dksX5_write_0 0 rfl rfl)
theorem dX5_write_1 : decode cX5_write 1 = .ok (.getfield 62, 3) := dk_180 0 62 (dk_at dksX5_write_0 1 rfl rfl)
theorem dX5_write_4 : decode cX5_write 4 = .ok (.sipush 1400, 3) := dk_17 5 120 (dk_at dksX5_write_0 4 rfl rfl)
theorem dX5_write_7 : decode cX5_write 7 = .ok (.aload_n 0, 1) := dk_42 (dk_at dksX5_write_0 7 rfl rfl)
theorem dX5_write_8 : decode cX5_write 8 = .ok (.getfield 243, 3) := dk_180 0 243 (dk_at dksX5_write_0 8 rfl rfl)
theorem dX5_write_11 : decode cX5_write 11 = .ok (.iadd, 1) := dk_96 (dk_at dksX5_write_0 11 rfl rfl)
theorem dX5_write_12 : decode cX5_write 12 = .ok (.iload_n 1, 1) := dk_27 (dk_at dksX5_write_0 12 rfl rfl)
theorem dX5_write_13 : decode cX5_write 13 = .ok (.iastore, 1) := dk_79 (dk_at dksX5_write_0 13 rfl rfl)
theorem dX5_write_14 : decode cX5_write 14 = .ok (.aload_n 0, 1) := dk_42 (dk_at dksX5_write_0 14 rfl rfl)
theorem dX5_write_15 : decode cX5_write 15 = .ok (.getfield 65, 3) := dk_180 0 65 (dk_at dksX5_write_0 15 rfl rfl)
theorem dX5_write_18 : decode cX5_write 18 = .ok (.sipush 1400, 3) := dk_17 5 120 (dk_at dksX5_write_0 18 rfl rfl)
theorem dX5_write_21 : decode cX5_write 21 = .ok (.aload_n 0, 1) := dk_42 (dk_at dksX5_write_0 21 rfl rfl)
theorem dX5_write_22 : decode cX5_write 22 = .ok (.getfield 243, 3) := dk_180 0 243 (dk_at dksX5_write_1 0 rfl rfl)
theorem dX5_write_25 : decode cX5_write 25 = .ok (.iadd, 1) := dk_96 (dk_at dksX5_write_1 3 rfl rfl)
theorem dX5_write_26 : decode cX5_write 26 = .ok (.iload_n 2, 1) := dk_28 (dk_at dksX5_write_1 4 rfl rfl)
theorem dX5_write_27 : decode cX5_write 27 = .ok (.iastore, 1) := dk_79 (dk_at dksX5_write_1 5 rfl rfl)
theorem dX5_write_28 : decode cX5_write 28 = .ok (.aload_n 0, 1) := dk_42 (dk_at dksX5_write_1 6 rfl rfl)
theorem dX5_write_29 : decode cX5_write 29 = .ok (.getfield 68, 3) := dk_180 0 68 (dk_at dksX5_write_1 7 rfl rfl)
theorem dX5_write_32 : decode cX5_write 32 = .ok (.sipush 1400, 3) := dk_17 5 120 (dk_at dksX5_write_1 10 rfl rfl)
theorem dX5_write_35 : decode cX5_write 35 = .ok (.aload_n 0, 1) := dk_42 (dk_at dksX5_write_1 13 rfl rfl)
theorem dX5_write_36 : decode cX5_write 36 = .ok (.getfield 243, 3) := dk_180 0 243 (dk_at dksX5_write_1 14 rfl rfl)
theorem dX5_write_39 : decode cX5_write 39 = .ok (.iadd, 1) := dk_96 (dk_at dksX5_write_1 17 rfl rfl)
theorem dX5_write_40 : decode cX5_write 40 = .ok (.iload_n 3, 1) := dk_29 (dk_at dksX5_write_1 18 rfl rfl)
theorem dX5_write_41 : decode cX5_write 41 = .ok (.iastore, 1) := dk_79 (dk_at dksX5_write_1 19 rfl rfl)
theorem dX5_write_42 : decode cX5_write 42 = .ok (.aload_n 0, 1) := dk_42 (dk_at dksX5_write_1 20 rfl rfl)
theorem dX5_write_43 : decode cX5_write 43 = .ok (.dup, 1) := dk_89 (dk_at dksX5_write_1 21 rfl rfl)
theorem dX5_write_44 : decode cX5_write 44 = .ok (.getfield 243, 3) := dk_180 0 243 (dk_at dksX5_write_2 0 rfl rfl)
theorem dX5_write_47 : decode cX5_write 47 = .ok (.iconst 1, 1) := dk_4 (dk_at dksX5_write_2 3 rfl rfl)
theorem dX5_write_48 : decode cX5_write 48 = .ok (.iadd, 1) := dk_96 (dk_at dksX5_write_2 4 rfl rfl)
theorem dX5_write_49 : decode cX5_write 49 = .ok (.putfield 243, 3) := dk_181 0 243 (dk_at dksX5_write_2 5 rfl rfl)
theorem dX5_write_52 : decode cX5_write 52 = .ok (.return_, 1) := dk_177 (dk_at dksX5_write_2 8 rfl rfl)
abbrev cX5_writeDown : ByteArray := prog_12_method_42_code
def yX5_writeDown : MethodName := ⟨RX5, "writeDown", "(I)V"⟩
def dkwX5_writeDown_2 : List UInt8 := [181, 1, 32, 42, 42, 180, 0, 71, 42, 180, 1, 32, 46, 3, 3, 182, 1, 38, 167, 255, 190, 177]
abbrev dktX5_writeDown_2 : List UInt8 := dkwX5_writeDown_2 ++ []
def dkwX5_writeDown_1 : List UInt8 := [180, 0, 71, 42, 180, 1, 32, 4, 100, 46, 184, 1, 35, 27, 161, 0, 31, 42, 89, 180, 1, 32, 4, 100]
abbrev dktX5_writeDown_1 : List UInt8 := dkwX5_writeDown_1 ++ dktX5_writeDown_2
def dkwX5_writeDown_0 : List UInt8 := [42, 180, 1, 32, 158, 0, 65, 42, 180, 0, 71, 42, 180, 1, 32, 4, 100, 46, 16, 23, 159, 0, 49, 42]
abbrev dktX5_writeDown_0 : List UInt8 := dkwX5_writeDown_0 ++ dktX5_writeDown_1
theorem dksX5_writeDown_0 : cX5_writeDown.data.toList.drop 0 = dktX5_writeDown_0 := by decide +kernel
theorem dksX5_writeDown_1 : cX5_writeDown.data.toList.drop 24 = dktX5_writeDown_1 := dk_seg dksX5_writeDown_0 24 rfl rfl
theorem dksX5_writeDown_2 : cX5_writeDown.data.toList.drop 48 = dktX5_writeDown_2 := dk_seg dksX5_writeDown_1 24 rfl rfl
theorem dX5_writeDown_0 : decode cX5_writeDown 0 = .ok (.aload_n 0, 1) := dk_42 (dk_at dksX5_writeDown_0 0 rfl rfl)
theorem dX5_writeDown_1 : decode cX5_writeDown 1 = .ok (.getfield 288, 3) := dk_180 1 32 (dk_at dksX5_writeDown_0 1 rfl rfl)
theorem dX5_writeDown_4 : decode cX5_writeDown 4 = .ok (.ifCond .le 65, 3) := dk_158 0 65 (dk_at dksX5_writeDown_0 4 rfl rfl)
theorem dX5_writeDown_7 : decode cX5_writeDown 7 = .ok (.aload_n 0, 1) := dk_42 (dk_at dksX5_writeDown_0 7 rfl rfl)
theorem dX5_writeDown_8 : decode cX5_writeDown 8 = .ok (.getfield 71, 3) := dk_180 0 71 (dk_at dksX5_writeDown_0 8 rfl rfl)
theorem dX5_writeDown_11 : decode cX5_writeDown 11 = .ok (.aload_n 0, 1) := dk_42 (dk_at dksX5_writeDown_0 11 rfl rfl)
theorem dX5_writeDown_12 : decode cX5_writeDown 12 = .ok (.getfield 288, 3) := dk_180 1 32 (dk_at dksX5_writeDown_0 12 rfl rfl)
theorem dX5_writeDown_15 : decode cX5_writeDown 15 = .ok (.iconst 1, 1) := dk_4 (dk_at dksX5_writeDown_0 15 rfl rfl)
theorem dX5_writeDown_16 : decode cX5_writeDown 16 = .ok (.isub, 1) := dk_100 (dk_at dksX5_writeDown_0 16 rfl rfl)
theorem dX5_writeDown_17 : decode cX5_writeDown 17 = .ok (.iaload, 1) := dk_46 (dk_at dksX5_writeDown_0 17 rfl rfl)
theorem dX5_writeDown_18 : decode cX5_writeDown 18 = .ok (.bipush 23, 2) := dk_16 23 (dk_at dksX5_writeDown_0 18 rfl rfl)
theorem dX5_writeDown_20 : decode cX5_writeDown 20 = .ok (.if_icmp .eq 49, 3) := dk_159 0 49 (dk_at dksX5_writeDown_0 20 rfl rfl)
theorem dX5_writeDown_23 : decode cX5_writeDown 23 = .ok (.aload_n 0, 1) := dk_42 (dk_at dksX5_writeDown_0 23 rfl rfl)
theorem dX5_writeDown_24 : decode cX5_writeDown 24 = .ok (.getfield 71, 3) := dk_180 0 71 (dk_at dksX5_writeDown_1 0 rfl rfl)
theorem dX5_writeDown_27 : decode cX5_writeDown 27 = .ok (.aload_n 0, 1) := dk_42 (dk_at dksX5_writeDown_1 3 rfl rfl)
theorem dX5_writeDown_28 : decode cX5_writeDown 28 = .ok (.getfield 288, 3) := dk_180 1 32 (dk_at dksX5_writeDown_1 4 rfl rfl)
theorem dX5_writeDown_31 : decode cX5_writeDown 31 = .ok (.iconst 1, 1) := dk_4 (dk_at dksX5_writeDown_1 7 rfl rfl)
theorem dX5_writeDown_32 : decode cX5_writeDown 32 = .ok (.isub, 1) := dk_100 (dk_at dksX5_writeDown_1 8 rfl rfl)
theorem dX5_writeDown_33 : decode cX5_writeDown 33 = .ok (.iaload, 1) := dk_46 (dk_at dksX5_writeDown_1 9 rfl rfl)
theorem dX5_writeDown_34 : decode cX5_writeDown 34 = .ok (.invokestatic 291, 3) := dk_184 1 35 (dk_at dksX5_writeDown_1 10 rfl rfl)
theorem dX5_writeDown_37 : decode cX5_writeDown 37 = .ok (.iload_n 1, 1) := dk_27 (dk_at dksX5_writeDown_1 13 rfl rfl)
theorem dX5_writeDown_38 : decode cX5_writeDown 38 = .ok (.if_icmp .lt 31, 3) := dk_161 0 31 (dk_at dksX5_writeDown_1 14 rfl rfl)
theorem dX5_writeDown_41 : decode cX5_writeDown 41 = .ok (.aload_n 0, 1) := dk_42 (dk_at dksX5_writeDown_1 17 rfl rfl)
theorem dX5_writeDown_42 : decode cX5_writeDown 42 = .ok (.dup, 1) := dk_89 (dk_at dksX5_writeDown_1 18 rfl rfl)
theorem dX5_writeDown_43 : decode cX5_writeDown 43 = .ok (.getfield 288, 3) := dk_180 1 32 (dk_at dksX5_writeDown_1 19 rfl rfl)
theorem dX5_writeDown_46 : decode cX5_writeDown 46 = .ok (.iconst 1, 1) := dk_4 (dk_at dksX5_writeDown_1 22 rfl rfl)
theorem dX5_writeDown_47 : decode cX5_writeDown 47 = .ok (.isub, 1) := dk_100 (dk_at dksX5_writeDown_1 23 rfl rfl)
theorem dX5_writeDown_48 : decode cX5_writeDown 48 = .ok (.putfield 288, 3) := dk_181 1 32 (dk_at dksX5_writeDown_2 0 rfl rfl)
theorem dX5_writeDown_51 : decode cX5_writeDown 51 = .ok (.aload_n 0, 1) := dk_42 (dk_at dksX5_writeDown_2 3 rfl rfl)
theorem dX5_writeDown_52 : decode cX5_writeDown 52 = .ok (.aload_n 0, 1) := dk_42 (dk_at dksX5_writeDown_2 4 rfl rfl)
theorem dX5_writeDown_53 : decode cX5_writeDown 53 = .ok (.getfield 71, 3) := dk_180 0 71 (dk_at dksX5_writeDown_2 5 rfl rfl)
theorem dX5_writeDown_56 : decode cX5_writeDown 56 = .ok (.aload_n 0, 1) := dk_42 (dk_at dksX5_writeDown_2 8 rfl rfl)
theorem dX5_writeDown_57 : decode cX5_writeDown 57 = .ok (.getfield 288, 3) := dk_180 1 32 (dk_at dksX5_writeDown_2 9 rfl rfl)
theorem dX5_writeDown_60 : decode cX5_writeDown 60 = .ok (.iaload, 1) := dk_46 (dk_at dksX5_writeDown_2 12 rfl rfl)
theorem dX5_writeDown_61 : decode cX5_writeDown 61 = .ok (.iconst 0, 1) := dk_3 (dk_at dksX5_writeDown_2 13 rfl rfl)
theorem dX5_writeDown_62 : decode cX5_writeDown 62 = .ok (.iconst 0, 1) := dk_3 (dk_at dksX5_writeDown_2 14 rfl rfl)
theorem dX5_writeDown_63 : decode cX5_writeDown 63 = .ok (.invokevirtual 294, 3) := dk_182 1 38 (dk_at dksX5_writeDown_2 15 rfl rfl)
theorem dX5_writeDown_66 : decode cX5_writeDown 66 = .ok (.goto (-66), 3) := dk_167 255 190 (dk_at dksX5_writeDown_2 18 rfl rfl)
theorem dX5_writeDown_69 : decode cX5_writeDown 69 = .ok (.return_, 1) := dk_177 (dk_at dksX5_writeDown_2 21 rfl rfl)
abbrev cX5_binds : ByteArray := prog_12_method_43_code
def yX5_binds : MethodName := ⟨RX5, "binds", "(I)I"⟩
def dkwX5_binds_0 : List UInt8 := [26, 16, 20, 160, 0, 7, 6, 167, 0, 14, 26, 16, 21, 160, 0, 7, 5, 167, 0, 4, 4, 172]
abbrev dktX5_binds_0 : List UInt8 := dkwX5_binds_0 ++ []
theorem dksX5_binds_0 : cX5_binds.data.toList.drop 0 = dktX5_binds_0 := by decide +kernel
theorem dX5_binds_0 : decode cX5_binds 0 = .ok (.iload_n 0, 1) := dk_26 (dk_at dksX5_binds_0 0 rfl rfl)
theorem dX5_binds_1 : decode cX5_binds 1 = .ok (.bipush 20, 2) := dk_16 20 (dk_at dksX5_binds_0 1 rfl rfl)
theorem dX5_binds_3 : decode cX5_binds 3 = .ok (.if_icmp .ne 7, 3) := dk_160 0 7 (dk_at dksX5_binds_0 3 rfl rfl)
theorem dX5_binds_6 : decode cX5_binds 6 = .ok (.iconst 3, 1) := dk_6 (dk_at dksX5_binds_0 6 rfl rfl)
theorem dX5_binds_7 : decode cX5_binds 7 = .ok (.goto 14, 3) := dk_167 0 14 (dk_at dksX5_binds_0 7 rfl rfl)
theorem dX5_binds_10 : decode cX5_binds 10 = .ok (.iload_n 0, 1) := dk_26 (dk_at dksX5_binds_0 10 rfl rfl)
theorem dX5_binds_11 : decode cX5_binds 11 = .ok (.bipush 21, 2) := dk_16 21 (dk_at dksX5_binds_0 11 rfl rfl)
theorem dX5_binds_13 : decode cX5_binds 13 = .ok (.if_icmp .ne 7, 3) := dk_160 0 7 (dk_at dksX5_binds_0 13 rfl rfl)
theorem dX5_binds_16 : decode cX5_binds 16 = .ok (.iconst 2, 1) := dk_5 (dk_at dksX5_binds_0 16 rfl rfl)
theorem dX5_binds_17 : decode cX5_binds 17 = .ok (.goto 4, 3) := dk_167 0 4 (dk_at dksX5_binds_0 17 rfl rfl)
theorem dX5_binds_20 : decode cX5_binds 20 = .ok (.iconst 1, 1) := dk_4 (dk_at dksX5_binds_0 20 rfl rfl)
theorem dX5_binds_21 : decode cX5_binds 21 = .ok (.ireturn, 1) := dk_172 (dk_at dksX5_binds_0 21 rfl rfl)
abbrev cX5_isOpen : ByteArray := prog_12_method_45_code
def yX5_isOpen : MethodName := ⟨RX5, "isOpen", "()Z"⟩
def dkwX5_isOpen_1 : List UInt8 := [132, 1, 1, 167, 255, 232, 3, 172]
abbrev dktX5_isOpen_1 : List UInt8 := dkwX5_isOpen_1 ++ []
def dkwX5_isOpen_0 : List UInt8 := [3, 60, 27, 42, 180, 1, 32, 162, 0, 22, 42, 180, 0, 71, 27, 46, 16, 23, 160, 0, 5, 4, 172]
abbrev dktX5_isOpen_0 : List UInt8 := dkwX5_isOpen_0 ++ dktX5_isOpen_1
theorem dksX5_isOpen_0 : cX5_isOpen.data.toList.drop 0 = dktX5_isOpen_0 := by decide +kernel
theorem dksX5_isOpen_1 : cX5_isOpen.data.toList.drop 23 = dktX5_isOpen_1 := dk_seg dksX5_isOpen_0 23 rfl rfl
theorem dX5_isOpen_0 : decode cX5_isOpen 0 = .ok (.iconst 0, 1) := dk_3 (dk_at dksX5_isOpen_0 0 rfl rfl)
theorem dX5_isOpen_1 : decode cX5_isOpen 1 = .ok (.istore_n 1, 1) := dk_60 (dk_at dksX5_isOpen_0 1 rfl rfl)
theorem dX5_isOpen_2 : decode cX5_isOpen 2 = .ok (.iload_n 1, 1) := dk_27 (dk_at dksX5_isOpen_0 2 rfl rfl)
theorem dX5_isOpen_3 : decode cX5_isOpen 3 = .ok (.aload_n 0, 1) := dk_42 (dk_at dksX5_isOpen_0 3 rfl rfl)
theorem dX5_isOpen_4 : decode cX5_isOpen 4 = .ok (.getfield 288, 3) := dk_180 1 32 (dk_at dksX5_isOpen_0 4 rfl rfl)
theorem dX5_isOpen_7 : decode cX5_isOpen 7 = .ok (.if_icmp .ge 22, 3) := dk_162 0 22 (dk_at dksX5_isOpen_0 7 rfl rfl)
theorem dX5_isOpen_10 : decode cX5_isOpen 10 = .ok (.aload_n 0, 1) := dk_42 (dk_at dksX5_isOpen_0 10 rfl rfl)
theorem dX5_isOpen_11 : decode cX5_isOpen 11 = .ok (.getfield 71, 3) := dk_180 0 71 (dk_at dksX5_isOpen_0 11 rfl rfl)
theorem dX5_isOpen_14 : decode cX5_isOpen 14 = .ok (.iload_n 1, 1) := dk_27 (dk_at dksX5_isOpen_0 14 rfl rfl)
theorem dX5_isOpen_15 : decode cX5_isOpen 15 = .ok (.iaload, 1) := dk_46 (dk_at dksX5_isOpen_0 15 rfl rfl)
theorem dX5_isOpen_16 : decode cX5_isOpen 16 = .ok (.bipush 23, 2) := dk_16 23 (dk_at dksX5_isOpen_0 16 rfl rfl)
theorem dX5_isOpen_18 : decode cX5_isOpen 18 = .ok (.if_icmp .ne 5, 3) := dk_160 0 5 (dk_at dksX5_isOpen_0 18 rfl rfl)
theorem dX5_isOpen_21 : decode cX5_isOpen 21 = .ok (.iconst 1, 1) := dk_4 (dk_at dksX5_isOpen_0 21 rfl rfl)
theorem dX5_isOpen_22 : decode cX5_isOpen 22 = .ok (.ireturn, 1) := dk_172 (dk_at dksX5_isOpen_0 22 rfl rfl)
theorem dX5_isOpen_23 : decode cX5_isOpen 23 = .ok (.iinc 1 1, 3) := dk_132 1 1 (dk_at dksX5_isOpen_1 0 rfl rfl)
theorem dX5_isOpen_26 : decode cX5_isOpen 26 = .ok (.goto (-24), 3) := dk_167 255 232 (dk_at dksX5_isOpen_1 3 rfl rfl)
theorem dX5_isOpen_29 : decode cX5_isOpen 29 = .ok (.iconst 0, 1) := dk_3 (dk_at dksX5_isOpen_1 6 rfl rfl)
theorem dX5_isOpen_30 : decode cX5_isOpen 30 = .ok (.ireturn, 1) := dk_172 (dk_at dksX5_isOpen_1 7 rfl rfl)
abbrev cX5_sign : ByteArray := prog_12_method_33_code
def yX5_sign : MethodName := ⟨RX5, "sign", "(I)Z"⟩
def dkwX5_sign_0 : List UInt8 := [42, 27, 182, 0, 195, 154, 0, 9, 42, 4, 182, 0, 198, 172, 42, 182, 0, 201, 4, 172]
abbrev dktX5_sign_0 : List UInt8 := dkwX5_sign_0 ++ []
theorem dksX5_sign_0 : cX5_sign.data.toList.drop 0 = dktX5_sign_0 := by decide +kernel
theorem dX5_sign_0 : decode cX5_sign 0 = .ok (.aload_n 0, 1) := dk_42 (dk_at dksX5_sign_0 0 rfl rfl)
theorem dX5_sign_1 : decode cX5_sign 1 = .ok (.iload_n 1, 1) := dk_27 (dk_at dksX5_sign_0 1 rfl rfl)
theorem dX5_sign_2 : decode cX5_sign 2 = .ok (.invokevirtual 195, 3) := dk_182 0 195 (dk_at dksX5_sign_0 2 rfl rfl)
theorem dX5_sign_5 : decode cX5_sign 5 = .ok (.ifCond .ne 9, 3) := dk_154 0 9 (dk_at dksX5_sign_0 5 rfl rfl)
theorem dX5_sign_8 : decode cX5_sign 8 = .ok (.aload_n 0, 1) := dk_42 (dk_at dksX5_sign_0 8 rfl rfl)
theorem dX5_sign_9 : decode cX5_sign 9 = .ok (.iconst 1, 1) := dk_4 (dk_at dksX5_sign_0 9 rfl rfl)
theorem dX5_sign_10 : decode cX5_sign 10 = .ok (.invokevirtual 198, 3) := dk_182 0 198 (dk_at dksX5_sign_0 10 rfl rfl)
theorem dX5_sign_13 : decode cX5_sign 13 = .ok (.ireturn, 1) := dk_172 (dk_at dksX5_sign_0 13 rfl rfl)
theorem dX5_sign_14 : decode cX5_sign 14 = .ok (.aload_n 0, 1) := dk_42 (dk_at dksX5_sign_0 14 rfl rfl)
theorem dX5_sign_15 : decode cX5_sign 15 = .ok (.invokevirtual 201, 3) := dk_182 0 201 (dk_at dksX5_sign_0 15 rfl rfl)
theorem dX5_sign_18 : decode cX5_sign 18 = .ok (.iconst 1, 1) := dk_4 (dk_at dksX5_sign_0 18 rfl rfl)
theorem dX5_sign_19 : decode cX5_sign 19 = .ok (.ireturn, 1) := dk_172 (dk_at dksX5_sign_0 19 rfl rfl)
abbrev cX5_told : ByteArray := prog_12_method_49_code
def yX5_told : MethodName := ⟨RX5, "told", "(II)I"⟩
def dkwX5_told_0 : List UInt8 := [42, 3, 27, 182, 0, 227, 62, 29, 156, 0, 7, 28, 167, 0, 9, 42, 180, 0, 53, 29, 46, 172]
abbrev dktX5_told_0 : List UInt8 := dkwX5_told_0 ++ []
theorem dksX5_told_0 : cX5_told.data.toList.drop 0 = dktX5_told_0 := by decide +kernel
theorem dX5_told_0 : decode cX5_told 0 = .ok (.aload_n 0, 1) := dk_42 (dk_at dksX5_told_0 0 rfl rfl)
theorem dX5_told_1 : decode cX5_told 1 = .ok (.iconst 0, 1) := dk_3 (dk_at dksX5_told_0 1 rfl rfl)
theorem dX5_told_2 : decode cX5_told 2 = .ok (.iload_n 1, 1) := dk_27 (dk_at dksX5_told_0 2 rfl rfl)
theorem dX5_told_3 : decode cX5_told 3 = .ok (.invokevirtual 227, 3) := dk_182 0 227 (dk_at dksX5_told_0 3 rfl rfl)
theorem dX5_told_6 : decode cX5_told 6 = .ok (.istore_n 3, 1) := dk_62 (dk_at dksX5_told_0 6 rfl rfl)
theorem dX5_told_7 : decode cX5_told 7 = .ok (.iload_n 3, 1) := dk_29 (dk_at dksX5_told_0 7 rfl rfl)
theorem dX5_told_8 : decode cX5_told 8 = .ok (.ifCond .ge 7, 3) := dk_156 0 7 (dk_at dksX5_told_0 8 rfl rfl)
theorem dX5_told_11 : decode cX5_told 11 = .ok (.iload_n 2, 1) := dk_28 (dk_at dksX5_told_0 11 rfl rfl)
theorem dX5_told_12 : decode cX5_told 12 = .ok (.goto 9, 3) := dk_167 0 9 (dk_at dksX5_told_0 12 rfl rfl)
theorem dX5_told_15 : decode cX5_told 15 = .ok (.aload_n 0, 1) := dk_42 (dk_at dksX5_told_0 15 rfl rfl)
theorem dX5_told_16 : decode cX5_told 16 = .ok (.getfield 53, 3) := dk_180 0 53 (dk_at dksX5_told_0 16 rfl rfl)
theorem dX5_told_19 : decode cX5_told 19 = .ok (.iload_n 3, 1) := dk_29 (dk_at dksX5_told_0 19 rfl rfl)
theorem dX5_told_20 : decode cX5_told 20 = .ok (.iaload, 1) := dk_46 (dk_at dksX5_told_0 20 rfl rfl)
theorem dX5_told_21 : decode cX5_told 21 = .ok (.ireturn, 1) := dk_172 (dk_at dksX5_told_0 21 rfl rfl)
abbrev cX5_habit : ByteArray := prog_12_method_51_code
def yX5_habit : MethodName := ⟨RX5, "habit", "(I)I"⟩
def dkwX5_habit_1 : List UInt8 := [182, 1, 69, 167, 0, 6, 17, 252, 24, 172]
abbrev dktX5_habit_1 : List UInt8 := dkwX5_habit_1 ++ []
def dkwX5_habit_0 : List UInt8 := [42, 3, 181, 0, 1, 42, 182, 0, 144, 27, 3, 8, 184, 0, 132, 153, 0, 14, 42, 4, 27, 96, 3]
abbrev dktX5_habit_0 : List UInt8 := dkwX5_habit_0 ++ dktX5_habit_1
theorem dksX5_habit_0 : cX5_habit.data.toList.drop 0 = dktX5_habit_0 := by decide +kernel
theorem dksX5_habit_1 : cX5_habit.data.toList.drop 23 = dktX5_habit_1 := dk_seg dksX5_habit_0 23 rfl rfl
theorem dX5_habit_0 : decode cX5_habit 0 = .ok (.aload_n 0, 1) := dk_42 (dk_at dksX5_habit_0 0 rfl rfl)
theorem dX5_habit_1 : decode cX5_habit 1 = .ok (.iconst 0, 1) := dk_3 (dk_at dksX5_habit_0 1 rfl rfl)
theorem dX5_habit_2 : decode cX5_habit 2 = .ok (.putfield 1, 3) := dk_181 0 1 (dk_at dksX5_habit_0 2 rfl rfl)
theorem dX5_habit_5 : decode cX5_habit 5 = .ok (.aload_n 0, 1) := dk_42 (dk_at dksX5_habit_0 5 rfl rfl)
theorem dX5_habit_6 : decode cX5_habit 6 = .ok (.invokevirtual 144, 3) := dk_182 0 144 (dk_at dksX5_habit_0 6 rfl rfl)
theorem dX5_habit_9 : decode cX5_habit 9 = .ok (.iload_n 1, 1) := dk_27 (dk_at dksX5_habit_0 9 rfl rfl)
theorem dX5_habit_10 : decode cX5_habit 10 = .ok (.iconst 0, 1) := dk_3 (dk_at dksX5_habit_0 10 rfl rfl)
theorem dX5_habit_11 : decode cX5_habit 11 = .ok (.iconst 5, 1) := dk_8 (dk_at dksX5_habit_0 11 rfl rfl)
theorem dX5_habit_12 : decode cX5_habit 12 = .ok (.invokestatic 132, 3) := dk_184 0 132 (dk_at dksX5_habit_0 12 rfl rfl)
theorem dX5_habit_15 : decode cX5_habit 15 = .ok (.ifCond .eq 14, 3) := dk_153 0 14 (dk_at dksX5_habit_0 15 rfl rfl)
theorem dX5_habit_18 : decode cX5_habit 18 = .ok (.aload_n 0, 1) := dk_42 (dk_at dksX5_habit_0 18 rfl rfl)
theorem dX5_habit_19 : decode cX5_habit 19 = .ok (.iconst 1, 1) := dk_4 (dk_at dksX5_habit_0 19 rfl rfl)
theorem dX5_habit_20 : decode cX5_habit 20 = .ok (.iload_n 1, 1) := dk_27 (dk_at dksX5_habit_0 20 rfl rfl)
theorem dX5_habit_21 : decode cX5_habit 21 = .ok (.iadd, 1) := dk_96 (dk_at dksX5_habit_0 21 rfl rfl)
theorem dX5_habit_22 : decode cX5_habit 22 = .ok (.iconst 0, 1) := dk_3 (dk_at dksX5_habit_0 22 rfl rfl)
theorem dX5_habit_23 : decode cX5_habit 23 = .ok (.invokevirtual 325, 3) := dk_182 1 69 (dk_at dksX5_habit_1 0 rfl rfl)
theorem dX5_habit_26 : decode cX5_habit 26 = .ok (.goto 6, 3) := dk_167 0 6 (dk_at dksX5_habit_1 3 rfl rfl)
theorem dX5_habit_29 : decode cX5_habit 29 = .ok (.sipush (-1000), 3) := dk_17 252 24 (dk_at dksX5_habit_1 6 rfl rfl)
theorem dX5_habit_32 : decode cX5_habit 32 = .ok (.ireturn, 1) := dk_172 (dk_at dksX5_habit_1 9 rfl rfl)
abbrev cX5_fault : ByteArray := prog_12_method_52_code
def yX5_fault : MethodName := ⟨RX5, "fault", "()I"⟩
def dkwX5_fault_0 : List UInt8 := [42, 3, 181, 0, 1, 42, 180, 0, 189, 172]
abbrev dktX5_fault_0 : List UInt8 := dkwX5_fault_0 ++ []
theorem dksX5_fault_0 : cX5_fault.data.toList.drop 0 = dktX5_fault_0 := by decide +kernel
theorem dX5_fault_0 : decode cX5_fault 0 = .ok (.aload_n 0, 1) := dk_42 (dk_at dksX5_fault_0 0 rfl rfl)
theorem dX5_fault_1 : decode cX5_fault 1 = .ok (.iconst 0, 1) := dk_3 (dk_at dksX5_fault_0 1 rfl rfl)
theorem dX5_fault_2 : decode cX5_fault 2 = .ok (.putfield 1, 3) := dk_181 0 1 (dk_at dksX5_fault_0 2 rfl rfl)
theorem dX5_fault_5 : decode cX5_fault 5 = .ok (.aload_n 0, 1) := dk_42 (dk_at dksX5_fault_0 5 rfl rfl)
theorem dX5_fault_6 : decode cX5_fault 6 = .ok (.getfield 189, 3) := dk_180 0 189 (dk_at dksX5_fault_0 6 rfl rfl)
theorem dX5_fault_9 : decode cX5_fault 9 = .ok (.ireturn, 1) := dk_172 (dk_at dksX5_fault_0 9 rfl rfl)
abbrev cX5_wish : ByteArray := prog_12_method_57_code
def yX5_wish : MethodName := ⟨RX5, "wish", "(IIIII)I"⟩
def dkwX5_wish_7 : List UInt8 := [16, 12, 46, 4, 100, 172]
abbrev dktX5_wish_7 : List UInt8 := dkwX5_wish_7 ++ []
def dkwX5_wish_6 : List UInt8 := [180, 0, 30, 21, 6, 8, 96, 4, 79, 42, 180, 0, 30, 16, 12, 92, 46, 4, 96, 79, 42, 180, 0, 30]
abbrev dktX5_wish_6 : List UInt8 := dkwX5_wish_6 ++ dktX5_wish_7
def dkwX5_wish_5 : List UInt8 := [42, 180, 0, 30, 21, 6, 6, 96, 21, 4, 79, 42, 180, 0, 30, 21, 6, 7, 96, 21, 5, 79, 42]
abbrev dktX5_wish_5 : List UInt8 := dkwX5_wish_5 ++ dktX5_wish_6
def dkwX5_wish_4 : List UInt8 := [21, 6, 27, 79, 42, 180, 0, 30, 21, 6, 4, 96, 28, 79, 42, 180, 0, 30, 21, 6, 5, 96, 29, 79]
abbrev dktX5_wish_4 : List UInt8 := dkwX5_wish_4 ++ dktX5_wish_5
def dkwX5_wish_3 : List UInt8 := [154, 0, 5, 2, 172, 16, 13, 16, 6, 42, 180, 0, 30, 16, 12, 46, 104, 96, 54, 6, 42, 180, 0, 30]
abbrev dktX5_wish_3 : List UInt8 := dkwX5_wish_3 ++ dktX5_wish_4
def dkwX5_wish_2 : List UInt8 := [153, 0, 27, 21, 4, 4, 17, 0, 200, 184, 0, 132, 153, 0, 15, 21, 5, 3, 19, 1, 87, 184, 0, 132]
abbrev dktX5_wish_2 : List UInt8 := dkwX5_wish_2 ++ dktX5_wish_3
def dkwX5_wish_1 : List UInt8 := [153, 0, 49, 42, 28, 182, 1, 84, 153, 0, 41, 27, 28, 159, 0, 36, 29, 3, 8, 184, 0, 132]
abbrev dktX5_wish_1 : List UInt8 := dkwX5_wish_1 ++ dktX5_wish_2
def dkwX5_wish_0 : List UInt8 := [42, 3, 181, 0, 1, 42, 180, 0, 30, 16, 12, 46, 16, 24, 159, 0, 57, 42, 27, 182, 1, 84]
abbrev dktX5_wish_0 : List UInt8 := dkwX5_wish_0 ++ dktX5_wish_1
theorem dksX5_wish_0 : cX5_wish.data.toList.drop 0 = dktX5_wish_0 := by decide +kernel
theorem dksX5_wish_1 : cX5_wish.data.toList.drop 22 = dktX5_wish_1 := dk_seg dksX5_wish_0 22 rfl rfl
theorem dksX5_wish_2 : cX5_wish.data.toList.drop 44 = dktX5_wish_2 := dk_seg dksX5_wish_1 22 rfl rfl
theorem dksX5_wish_3 : cX5_wish.data.toList.drop 68 = dktX5_wish_3 := dk_seg dksX5_wish_2 24 rfl rfl
theorem dksX5_wish_4 : cX5_wish.data.toList.drop 92 = dktX5_wish_4 := dk_seg dksX5_wish_3 24 rfl rfl
theorem dksX5_wish_5 : cX5_wish.data.toList.drop 116 = dktX5_wish_5 := dk_seg dksX5_wish_4 24 rfl rfl
theorem dksX5_wish_6 : cX5_wish.data.toList.drop 139 = dktX5_wish_6 := dk_seg dksX5_wish_5 23 rfl rfl
theorem dksX5_wish_7 : cX5_wish.data.toList.drop 163 = dktX5_wish_7 := dk_seg dksX5_wish_6 24 rfl rfl
theorem dX5_wish_0 : decode cX5_wish 0 = .ok (.aload_n 0, 1) := dk_42 (dk_at dksX5_wish_0 0 rfl rfl)
theorem dX5_wish_1 : decode cX5_wish 1 = .ok (.iconst 0, 1) := dk_3 (dk_at dksX5_wish_0 1 rfl rfl)
theorem dX5_wish_2 : decode cX5_wish 2 = .ok (.putfield 1, 3) := dk_181 0 1 (dk_at dksX5_wish_0 2 rfl rfl)
theorem dX5_wish_5 : decode cX5_wish 5 = .ok (.aload_n 0, 1) := dk_42 (dk_at dksX5_wish_0 5 rfl rfl)
theorem dX5_wish_6 : decode cX5_wish 6 = .ok (.getfield 30, 3) := dk_180 0 30 (dk_at dksX5_wish_0 6 rfl rfl)
theorem dX5_wish_9 : decode cX5_wish 9 = .ok (.bipush 12, 2) := dk_16 12 (dk_at dksX5_wish_0 9 rfl rfl)
theorem dX5_wish_11 : decode cX5_wish 11 = .ok (.iaload, 1) := dk_46 (dk_at dksX5_wish_0 11 rfl rfl)
theorem dX5_wish_12 : decode cX5_wish 12 = .ok (.bipush 24, 2) := dk_16 24 (dk_at dksX5_wish_0 12 rfl rfl)
theorem dX5_wish_14 : decode cX5_wish 14 = .ok (.if_icmp .eq 57, 3) := dk_159 0 57 (dk_at dksX5_wish_0 14 rfl rfl)
theorem dX5_wish_17 : decode cX5_wish 17 = .ok (.aload_n 0, 1) := dk_42 (dk_at dksX5_wish_0 17 rfl rfl)
theorem dX5_wish_18 : decode cX5_wish 18 = .ok (.iload_n 1, 1) := dk_27 (dk_at dksX5_wish_0 18 rfl rfl)
theorem dX5_wish_19 : decode cX5_wish 19 = .ok (.invokevirtual 340, 3) := dk_182 1 84 (dk_at dksX5_wish_0 19 rfl rfl)
theorem dX5_wish_22 : decode cX5_wish 22 = .ok (.ifCond .eq 49, 3) := dk_153 0 49 (dk_at dksX5_wish_1 0 rfl rfl)
theorem dX5_wish_25 : decode cX5_wish 25 = .ok (.aload_n 0, 1) := dk_42 (dk_at dksX5_wish_1 3 rfl rfl)
theorem dX5_wish_26 : decode cX5_wish 26 = .ok (.iload_n 2, 1) := dk_28 (dk_at dksX5_wish_1 4 rfl rfl)
theorem dX5_wish_27 : decode cX5_wish 27 = .ok (.invokevirtual 340, 3) := dk_182 1 84 (dk_at dksX5_wish_1 5 rfl rfl)
theorem dX5_wish_30 : decode cX5_wish 30 = .ok (.ifCond .eq 41, 3) := dk_153 0 41 (dk_at dksX5_wish_1 8 rfl rfl)
theorem dX5_wish_33 : decode cX5_wish 33 = .ok (.iload_n 1, 1) := dk_27 (dk_at dksX5_wish_1 11 rfl rfl)
theorem dX5_wish_34 : decode cX5_wish 34 = .ok (.iload_n 2, 1) := dk_28 (dk_at dksX5_wish_1 12 rfl rfl)
theorem dX5_wish_35 : decode cX5_wish 35 = .ok (.if_icmp .eq 36, 3) := dk_159 0 36 (dk_at dksX5_wish_1 13 rfl rfl)
theorem dX5_wish_38 : decode cX5_wish 38 = .ok (.iload_n 3, 1) := dk_29 (dk_at dksX5_wish_1 16 rfl rfl)
theorem dX5_wish_39 : decode cX5_wish 39 = .ok (.iconst 0, 1) := dk_3 (dk_at dksX5_wish_1 17 rfl rfl)
theorem dX5_wish_40 : decode cX5_wish 40 = .ok (.iconst 5, 1) := dk_8 (dk_at dksX5_wish_1 18 rfl rfl)
theorem dX5_wish_41 : decode cX5_wish 41 = .ok (.invokestatic 132, 3) := dk_184 0 132 (dk_at dksX5_wish_1 19 rfl rfl)
theorem dX5_wish_44 : decode cX5_wish 44 = .ok (.ifCond .eq 27, 3) := dk_153 0 27 (dk_at dksX5_wish_2 0 rfl rfl)
theorem dX5_wish_47 : decode cX5_wish 47 = .ok (.iload 4, 2) := dk_21 4 (dk_at dksX5_wish_2 3 rfl rfl)
theorem dX5_wish_49 : decode cX5_wish 49 = .ok (.iconst 1, 1) := dk_4 (dk_at dksX5_wish_2 5 rfl rfl)
theorem dX5_wish_50 : decode cX5_wish 50 = .ok (.sipush 200, 3) := dk_17 0 200 (dk_at dksX5_wish_2 6 rfl rfl)
theorem dX5_wish_53 : decode cX5_wish 53 = .ok (.invokestatic 132, 3) := dk_184 0 132 (dk_at dksX5_wish_2 9 rfl rfl)
theorem dX5_wish_56 : decode cX5_wish 56 = .ok (.ifCond .eq 15, 3) := dk_153 0 15 (dk_at dksX5_wish_2 12 rfl rfl)
theorem dX5_wish_59 : decode cX5_wish 59 = .ok (.iload 5, 2) := dk_21 5 (dk_at dksX5_wish_2 15 rfl rfl)
theorem dX5_wish_61 : decode cX5_wish 61 = .ok (.iconst 0, 1) := dk_3 (dk_at dksX5_wish_2 17 rfl rfl)
theorem dX5_wish_62 : decode cX5_wish 62 = .ok (.ldc_w 343, 3) := dk_19 1 87 (dk_at dksX5_wish_2 18 rfl rfl)
theorem dX5_wish_65 : decode cX5_wish 65 = .ok (.invokestatic 132, 3) := dk_184 0 132 (dk_at dksX5_wish_2 21 rfl rfl)
theorem dX5_wish_68 : decode cX5_wish 68 = .ok (.ifCond .ne 5, 3) := dk_154 0 5 (dk_at dksX5_wish_3 0 rfl rfl)
theorem dX5_wish_71 : decode cX5_wish 71 = .ok (.iconst (-1), 1) := dk_2 (dk_at dksX5_wish_3 3 rfl rfl)
theorem dX5_wish_72 : decode cX5_wish 72 = .ok (.ireturn, 1) := dk_172 (dk_at dksX5_wish_3 4 rfl rfl)
theorem dX5_wish_73 : decode cX5_wish 73 = .ok (.bipush 13, 2) := dk_16 13 (dk_at dksX5_wish_3 5 rfl rfl)
theorem dX5_wish_75 : decode cX5_wish 75 = .ok (.bipush 6, 2) := dk_16 6 (dk_at dksX5_wish_3 7 rfl rfl)
theorem dX5_wish_77 : decode cX5_wish 77 = .ok (.aload_n 0, 1) := dk_42 (dk_at dksX5_wish_3 9 rfl rfl)
theorem dX5_wish_78 : decode cX5_wish 78 = .ok (.getfield 30, 3) := dk_180 0 30 (dk_at dksX5_wish_3 10 rfl rfl)
theorem dX5_wish_81 : decode cX5_wish 81 = .ok (.bipush 12, 2) := dk_16 12 (dk_at dksX5_wish_3 13 rfl rfl)
theorem dX5_wish_83 : decode cX5_wish 83 = .ok (.iaload, 1) := dk_46 (dk_at dksX5_wish_3 15 rfl rfl)
theorem dX5_wish_84 : decode cX5_wish 84 = .ok (.imul, 1) := dk_104 (dk_at dksX5_wish_3 16 rfl rfl)
theorem dX5_wish_85 : decode cX5_wish 85 = .ok (.iadd, 1) := dk_96 (dk_at dksX5_wish_3 17 rfl rfl)
theorem dX5_wish_86 : decode cX5_wish 86 = .ok (.istore 6, 2) := dk_54 6 (dk_at dksX5_wish_3 18 rfl rfl)
theorem dX5_wish_88 : decode cX5_wish 88 = .ok (.aload_n 0, 1) := dk_42 (dk_at dksX5_wish_3 20 rfl rfl)
theorem dX5_wish_89 : decode cX5_wish 89 = .ok (.getfield 30, 3) := dk_180 0 30 (dk_at dksX5_wish_3 21 rfl rfl)
theorem dX5_wish_92 : decode cX5_wish 92 = .ok (.iload 6, 2) := dk_21 6 (dk_at dksX5_wish_4 0 rfl rfl)
theorem dX5_wish_94 : decode cX5_wish 94 = .ok (.iload_n 1, 1) := dk_27 (dk_at dksX5_wish_4 2 rfl rfl)
theorem dX5_wish_95 : decode cX5_wish 95 = .ok (.iastore, 1) := dk_79 (dk_at dksX5_wish_4 3 rfl rfl)
theorem dX5_wish_96 : decode cX5_wish 96 = .ok (.aload_n 0, 1) := dk_42 (dk_at dksX5_wish_4 4 rfl rfl)
theorem dX5_wish_97 : decode cX5_wish 97 = .ok (.getfield 30, 3) := dk_180 0 30 (dk_at dksX5_wish_4 5 rfl rfl)
theorem dX5_wish_100 : decode cX5_wish 100 = .ok (.iload 6, 2) := dk_21 6 (dk_at dksX5_wish_4 8 rfl rfl)
theorem dX5_wish_102 : decode cX5_wish 102 = .ok (.iconst 1, 1) := dk_4 (dk_at dksX5_wish_4 10 rfl rfl)
theorem dX5_wish_103 : decode cX5_wish 103 = .ok (.iadd, 1) := dk_96 (dk_at dksX5_wish_4 11 rfl rfl)
theorem dX5_wish_104 : decode cX5_wish 104 = .ok (.iload_n 2, 1) := dk_28 (dk_at dksX5_wish_4 12 rfl rfl)
theorem dX5_wish_105 : decode cX5_wish 105 = .ok (.iastore, 1) := dk_79 (dk_at dksX5_wish_4 13 rfl rfl)
theorem dX5_wish_106 : decode cX5_wish 106 = .ok (.aload_n 0, 1) := dk_42 (dk_at dksX5_wish_4 14 rfl rfl)
theorem dX5_wish_107 : decode cX5_wish 107 = .ok (.getfield 30, 3) := dk_180 0 30 (dk_at dksX5_wish_4 15 rfl rfl)
theorem dX5_wish_110 : decode cX5_wish 110 = .ok (.iload 6, 2) := dk_21 6 (dk_at dksX5_wish_4 18 rfl rfl)
theorem dX5_wish_112 : decode cX5_wish 112 = .ok (.iconst 2, 1) := dk_5 (dk_at dksX5_wish_4 20 rfl rfl)
theorem dX5_wish_113 : decode cX5_wish 113 = .ok (.iadd, 1) := dk_96 (dk_at dksX5_wish_4 21 rfl rfl)
theorem dX5_wish_114 : decode cX5_wish 114 = .ok (.iload_n 3, 1) := dk_29 (dk_at dksX5_wish_4 22 rfl rfl)
theorem dX5_wish_115 : decode cX5_wish 115 = .ok (.iastore, 1) := dk_79 (dk_at dksX5_wish_4 23 rfl rfl)
theorem dX5_wish_116 : decode cX5_wish 116 = .ok (.aload_n 0, 1) := dk_42 (dk_at dksX5_wish_5 0 rfl rfl)
theorem dX5_wish_117 : decode cX5_wish 117 = .ok (.getfield 30, 3) := dk_180 0 30 (dk_at dksX5_wish_5 1 rfl rfl)
theorem dX5_wish_120 : decode cX5_wish 120 = .ok (.iload 6, 2) := dk_21 6 (dk_at dksX5_wish_5 4 rfl rfl)
theorem dX5_wish_122 : decode cX5_wish 122 = .ok (.iconst 3, 1) := dk_6 (dk_at dksX5_wish_5 6 rfl rfl)
theorem dX5_wish_123 : decode cX5_wish 123 = .ok (.iadd, 1) := dk_96 (dk_at dksX5_wish_5 7 rfl rfl)
theorem dX5_wish_124 : decode cX5_wish 124 = .ok (.iload 4, 2) := dk_21 4 (dk_at dksX5_wish_5 8 rfl rfl)
theorem dX5_wish_126 : decode cX5_wish 126 = .ok (.iastore, 1) := dk_79 (dk_at dksX5_wish_5 10 rfl rfl)
theorem dX5_wish_127 : decode cX5_wish 127 = .ok (.aload_n 0, 1) := dk_42 (dk_at dksX5_wish_5 11 rfl rfl)
theorem dX5_wish_128 : decode cX5_wish 128 = .ok (.getfield 30, 3) := dk_180 0 30 (dk_at dksX5_wish_5 12 rfl rfl)
theorem dX5_wish_131 : decode cX5_wish 131 = .ok (.iload 6, 2) := dk_21 6 (dk_at dksX5_wish_5 15 rfl rfl)
theorem dX5_wish_133 : decode cX5_wish 133 = .ok (.iconst 4, 1) := dk_7 (dk_at dksX5_wish_5 17 rfl rfl)
theorem dX5_wish_134 : decode cX5_wish 134 = .ok (.iadd, 1) := dk_96 (dk_at dksX5_wish_5 18 rfl rfl)
theorem dX5_wish_135 : decode cX5_wish 135 = .ok (.iload 5, 2) := dk_21 5 (dk_at dksX5_wish_5 19 rfl rfl)
theorem dX5_wish_137 : decode cX5_wish 137 = .ok (.iastore, 1) := dk_79 (dk_at dksX5_wish_5 21 rfl rfl)
theorem dX5_wish_138 : decode cX5_wish 138 = .ok (.aload_n 0, 1) := dk_42 (dk_at dksX5_wish_5 22 rfl rfl)
theorem dX5_wish_139 : decode cX5_wish 139 = .ok (.getfield 30, 3) := dk_180 0 30 (dk_at dksX5_wish_6 0 rfl rfl)
theorem dX5_wish_142 : decode cX5_wish 142 = .ok (.iload 6, 2) := dk_21 6 (dk_at dksX5_wish_6 3 rfl rfl)
theorem dX5_wish_144 : decode cX5_wish 144 = .ok (.iconst 5, 1) := dk_8 (dk_at dksX5_wish_6 5 rfl rfl)
theorem dX5_wish_145 : decode cX5_wish 145 = .ok (.iadd, 1) := dk_96 (dk_at dksX5_wish_6 6 rfl rfl)
theorem dX5_wish_146 : decode cX5_wish 146 = .ok (.iconst 1, 1) := dk_4 (dk_at dksX5_wish_6 7 rfl rfl)
theorem dX5_wish_147 : decode cX5_wish 147 = .ok (.iastore, 1) := dk_79 (dk_at dksX5_wish_6 8 rfl rfl)
theorem dX5_wish_148 : decode cX5_wish 148 = .ok (.aload_n 0, 1) := dk_42 (dk_at dksX5_wish_6 9 rfl rfl)
theorem dX5_wish_149 : decode cX5_wish 149 = .ok (.getfield 30, 3) := dk_180 0 30 (dk_at dksX5_wish_6 10 rfl rfl)
theorem dX5_wish_152 : decode cX5_wish 152 = .ok (.bipush 12, 2) := dk_16 12 (dk_at dksX5_wish_6 13 rfl rfl)
theorem dX5_wish_154 : decode cX5_wish 154 = .ok (.dup2, 1) := dk_92 (dk_at dksX5_wish_6 15 rfl rfl)
theorem dX5_wish_155 : decode cX5_wish 155 = .ok (.iaload, 1) := dk_46 (dk_at dksX5_wish_6 16 rfl rfl)
theorem dX5_wish_156 : decode cX5_wish 156 = .ok (.iconst 1, 1) := dk_4 (dk_at dksX5_wish_6 17 rfl rfl)
theorem dX5_wish_157 : decode cX5_wish 157 = .ok (.iadd, 1) := dk_96 (dk_at dksX5_wish_6 18 rfl rfl)
theorem dX5_wish_158 : decode cX5_wish 158 = .ok (.iastore, 1) := dk_79 (dk_at dksX5_wish_6 19 rfl rfl)
theorem dX5_wish_159 : decode cX5_wish 159 = .ok (.aload_n 0, 1) := dk_42 (dk_at dksX5_wish_6 20 rfl rfl)
theorem dX5_wish_160 : decode cX5_wish 160 = .ok (.getfield 30, 3) := dk_180 0 30 (dk_at dksX5_wish_6 21 rfl rfl)
theorem dX5_wish_163 : decode cX5_wish 163 = .ok (.bipush 12, 2) := dk_16 12 (dk_at dksX5_wish_7 0 rfl rfl)
theorem dX5_wish_165 : decode cX5_wish 165 = .ok (.iaload, 1) := dk_46 (dk_at dksX5_wish_7 2 rfl rfl)
theorem dX5_wish_166 : decode cX5_wish 166 = .ok (.iconst 1, 1) := dk_4 (dk_at dksX5_wish_7 3 rfl rfl)
theorem dX5_wish_167 : decode cX5_wish 167 = .ok (.isub, 1) := dk_100 (dk_at dksX5_wish_7 4 rfl rfl)
theorem dX5_wish_168 : decode cX5_wish 168 = .ok (.ireturn, 1) := dk_172 (dk_at dksX5_wish_7 5 rfl rfl)
abbrev cX5_isDoor : ByteArray := prog_12_method_19_code
def yX5_isDoor : MethodName := ⟨RX5, "isDoor", "(I)Z"⟩
def dkwX5_isDoor_0 : List UInt8 := [27, 3, 42, 180, 0, 30, 5, 46, 4, 100, 184, 0, 132, 172]
abbrev dktX5_isDoor_0 : List UInt8 := dkwX5_isDoor_0 ++ []
theorem dksX5_isDoor_0 : cX5_isDoor.data.toList.drop 0 = dktX5_isDoor_0 := by decide +kernel
theorem dX5_isDoor_0 : decode cX5_isDoor 0 = .ok (.iload_n 1, 1) := dk_27 (dk_at dksX5_isDoor_0 0 rfl rfl)
theorem dX5_isDoor_1 : decode cX5_isDoor 1 = .ok (.iconst 0, 1) := dk_3 (dk_at dksX5_isDoor_0 1 rfl rfl)
theorem dX5_isDoor_2 : decode cX5_isDoor 2 = .ok (.aload_n 0, 1) := dk_42 (dk_at dksX5_isDoor_0 2 rfl rfl)
theorem dX5_isDoor_3 : decode cX5_isDoor 3 = .ok (.getfield 30, 3) := dk_180 0 30 (dk_at dksX5_isDoor_0 3 rfl rfl)
theorem dX5_isDoor_6 : decode cX5_isDoor 6 = .ok (.iconst 2, 1) := dk_5 (dk_at dksX5_isDoor_0 6 rfl rfl)
theorem dX5_isDoor_7 : decode cX5_isDoor 7 = .ok (.iaload, 1) := dk_46 (dk_at dksX5_isDoor_0 7 rfl rfl)
theorem dX5_isDoor_8 : decode cX5_isDoor 8 = .ok (.iconst 1, 1) := dk_4 (dk_at dksX5_isDoor_0 8 rfl rfl)
theorem dX5_isDoor_9 : decode cX5_isDoor 9 = .ok (.isub, 1) := dk_100 (dk_at dksX5_isDoor_0 9 rfl rfl)
theorem dX5_isDoor_10 : decode cX5_isDoor 10 = .ok (.invokestatic 132, 3) := dk_184 0 132 (dk_at dksX5_isDoor_0 10 rfl rfl)
theorem dX5_isDoor_13 : decode cX5_isDoor 13 = .ok (.ireturn, 1) := dk_172 (dk_at dksX5_isDoor_0 13 rfl rfl)
abbrev cX5_drop : ByteArray := prog_12_method_58_code
def yX5_drop : MethodName := ⟨RX5, "drop", "(I)Z"⟩
def dkwX5_drop_1 : List UInt8 := [104, 96, 8, 96, 3, 79, 4, 172]
abbrev dktX5_drop_1 : List UInt8 := dkwX5_drop_1 ++ []
def dkwX5_drop_0 : List UInt8 := [42, 3, 181, 0, 1, 42, 27, 182, 1, 88, 154, 0, 5, 3, 172, 42, 180, 0, 30, 16, 13, 16, 6, 27]
abbrev dktX5_drop_0 : List UInt8 := dkwX5_drop_0 ++ dktX5_drop_1
theorem dksX5_drop_0 : cX5_drop.data.toList.drop 0 = dktX5_drop_0 := by decide +kernel
theorem dksX5_drop_1 : cX5_drop.data.toList.drop 24 = dktX5_drop_1 := dk_seg dksX5_drop_0 24 rfl rfl
theorem dX5_drop_0 : decode cX5_drop 0 = .ok (.aload_n 0, 1) := dk_42 (dk_at dksX5_drop_0 0 rfl rfl)
theorem dX5_drop_1 : decode cX5_drop 1 = .ok (.iconst 0, 1) := dk_3 (dk_at dksX5_drop_0 1 rfl rfl)
theorem dX5_drop_2 : decode cX5_drop 2 = .ok (.putfield 1, 3) := dk_181 0 1 (dk_at dksX5_drop_0 2 rfl rfl)
theorem dX5_drop_5 : decode cX5_drop 5 = .ok (.aload_n 0, 1) := dk_42 (dk_at dksX5_drop_0 5 rfl rfl)
theorem dX5_drop_6 : decode cX5_drop 6 = .ok (.iload_n 1, 1) := dk_27 (dk_at dksX5_drop_0 6 rfl rfl)
theorem dX5_drop_7 : decode cX5_drop 7 = .ok (.invokevirtual 344, 3) := dk_182 1 88 (dk_at dksX5_drop_0 7 rfl rfl)
theorem dX5_drop_10 : decode cX5_drop 10 = .ok (.ifCond .ne 5, 3) := dk_154 0 5 (dk_at dksX5_drop_0 10 rfl rfl)
theorem dX5_drop_13 : decode cX5_drop 13 = .ok (.iconst 0, 1) := dk_3 (dk_at dksX5_drop_0 13 rfl rfl)
theorem dX5_drop_14 : decode cX5_drop 14 = .ok (.ireturn, 1) := dk_172 (dk_at dksX5_drop_0 14 rfl rfl)
theorem dX5_drop_15 : decode cX5_drop 15 = .ok (.aload_n 0, 1) := dk_42 (dk_at dksX5_drop_0 15 rfl rfl)
theorem dX5_drop_16 : decode cX5_drop 16 = .ok (.getfield 30, 3) := dk_180 0 30 (dk_at dksX5_drop_0 16 rfl rfl)
theorem dX5_drop_19 : decode cX5_drop 19 = .ok (.bipush 13, 2) := dk_16 13 (dk_at dksX5_drop_0 19 rfl rfl)
theorem dX5_drop_21 : decode cX5_drop 21 = .ok (.bipush 6, 2) := dk_16 6 (dk_at dksX5_drop_0 21 rfl rfl)
theorem dX5_drop_23 : decode cX5_drop 23 = .ok (.iload_n 1, 1) := dk_27 (dk_at dksX5_drop_0 23 rfl rfl)
theorem dX5_drop_24 : decode cX5_drop 24 = .ok (.imul, 1) := dk_104 (dk_at dksX5_drop_1 0 rfl rfl)
theorem dX5_drop_25 : decode cX5_drop 25 = .ok (.iadd, 1) := dk_96 (dk_at dksX5_drop_1 1 rfl rfl)
theorem dX5_drop_26 : decode cX5_drop 26 = .ok (.iconst 5, 1) := dk_8 (dk_at dksX5_drop_1 2 rfl rfl)
theorem dX5_drop_27 : decode cX5_drop 27 = .ok (.iadd, 1) := dk_96 (dk_at dksX5_drop_1 3 rfl rfl)
theorem dX5_drop_28 : decode cX5_drop 28 = .ok (.iconst 0, 1) := dk_3 (dk_at dksX5_drop_1 4 rfl rfl)
theorem dX5_drop_29 : decode cX5_drop 29 = .ok (.iastore, 1) := dk_79 (dk_at dksX5_drop_1 5 rfl rfl)
theorem dX5_drop_30 : decode cX5_drop 30 = .ok (.iconst 1, 1) := dk_4 (dk_at dksX5_drop_1 6 rfl rfl)
theorem dX5_drop_31 : decode cX5_drop 31 = .ok (.ireturn, 1) := dk_172 (dk_at dksX5_drop_1 7 rfl rfl)
abbrev cX5_isWish : ByteArray := prog_12_method_56_code
def yX5_isWish : MethodName := ⟨RX5, "isWish", "(I)Z"⟩
def dkwX5_isWish_1 : List UInt8 := [16, 6, 27, 104, 96, 8, 96, 46, 4, 160, 0, 7, 4, 167, 0, 4, 3, 172]
abbrev dktX5_isWish_1 : List UInt8 := dkwX5_isWish_1 ++ []
def dkwX5_isWish_0 : List UInt8 := [27, 3, 42, 180, 0, 30, 16, 12, 46, 4, 100, 184, 0, 132, 153, 0, 25, 42, 180, 0, 30, 16, 13]
abbrev dktX5_isWish_0 : List UInt8 := dkwX5_isWish_0 ++ dktX5_isWish_1
theorem dksX5_isWish_0 : cX5_isWish.data.toList.drop 0 = dktX5_isWish_0 := by decide +kernel
theorem dksX5_isWish_1 : cX5_isWish.data.toList.drop 23 = dktX5_isWish_1 := dk_seg dksX5_isWish_0 23 rfl rfl
theorem dX5_isWish_0 : decode cX5_isWish 0 = .ok (.iload_n 1, 1) := dk_27 (dk_at dksX5_isWish_0 0 rfl rfl)
theorem dX5_isWish_1 : decode cX5_isWish 1 = .ok (.iconst 0, 1) := dk_3 (dk_at dksX5_isWish_0 1 rfl rfl)
theorem dX5_isWish_2 : decode cX5_isWish 2 = .ok (.aload_n 0, 1) := dk_42 (dk_at dksX5_isWish_0 2 rfl rfl)
theorem dX5_isWish_3 : decode cX5_isWish 3 = .ok (.getfield 30, 3) := dk_180 0 30 (dk_at dksX5_isWish_0 3 rfl rfl)
theorem dX5_isWish_6 : decode cX5_isWish 6 = .ok (.bipush 12, 2) := dk_16 12 (dk_at dksX5_isWish_0 6 rfl rfl)
theorem dX5_isWish_8 : decode cX5_isWish 8 = .ok (.iaload, 1) := dk_46 (dk_at dksX5_isWish_0 8 rfl rfl)
theorem dX5_isWish_9 : decode cX5_isWish 9 = .ok (.iconst 1, 1) := dk_4 (dk_at dksX5_isWish_0 9 rfl rfl)
theorem dX5_isWish_10 : decode cX5_isWish 10 = .ok (.isub, 1) := dk_100 (dk_at dksX5_isWish_0 10 rfl rfl)
theorem dX5_isWish_11 : decode cX5_isWish 11 = .ok (.invokestatic 132, 3) := dk_184 0 132 (dk_at dksX5_isWish_0 11 rfl rfl)
theorem dX5_isWish_14 : decode cX5_isWish 14 = .ok (.ifCond .eq 25, 3) := dk_153 0 25 (dk_at dksX5_isWish_0 14 rfl rfl)
theorem dX5_isWish_17 : decode cX5_isWish 17 = .ok (.aload_n 0, 1) := dk_42 (dk_at dksX5_isWish_0 17 rfl rfl)
theorem dX5_isWish_18 : decode cX5_isWish 18 = .ok (.getfield 30, 3) := dk_180 0 30 (dk_at dksX5_isWish_0 18 rfl rfl)
theorem dX5_isWish_21 : decode cX5_isWish 21 = .ok (.bipush 13, 2) := dk_16 13 (dk_at dksX5_isWish_0 21 rfl rfl)
theorem dX5_isWish_23 : decode cX5_isWish 23 = .ok (.bipush 6, 2) := dk_16 6 (dk_at dksX5_isWish_1 0 rfl rfl)
theorem dX5_isWish_25 : decode cX5_isWish 25 = .ok (.iload_n 1, 1) := dk_27 (dk_at dksX5_isWish_1 2 rfl rfl)
theorem dX5_isWish_26 : decode cX5_isWish 26 = .ok (.imul, 1) := dk_104 (dk_at dksX5_isWish_1 3 rfl rfl)
theorem dX5_isWish_27 : decode cX5_isWish 27 = .ok (.iadd, 1) := dk_96 (dk_at dksX5_isWish_1 4 rfl rfl)
theorem dX5_isWish_28 : decode cX5_isWish 28 = .ok (.iconst 5, 1) := dk_8 (dk_at dksX5_isWish_1 5 rfl rfl)
theorem dX5_isWish_29 : decode cX5_isWish 29 = .ok (.iadd, 1) := dk_96 (dk_at dksX5_isWish_1 6 rfl rfl)
theorem dX5_isWish_30 : decode cX5_isWish 30 = .ok (.iaload, 1) := dk_46 (dk_at dksX5_isWish_1 7 rfl rfl)
theorem dX5_isWish_31 : decode cX5_isWish 31 = .ok (.iconst 1, 1) := dk_4 (dk_at dksX5_isWish_1 8 rfl rfl)
theorem dX5_isWish_32 : decode cX5_isWish 32 = .ok (.if_icmp .ne 7, 3) := dk_160 0 7 (dk_at dksX5_isWish_1 9 rfl rfl)
theorem dX5_isWish_35 : decode cX5_isWish 35 = .ok (.iconst 1, 1) := dk_4 (dk_at dksX5_isWish_1 12 rfl rfl)
theorem dX5_isWish_36 : decode cX5_isWish 36 = .ok (.goto 4, 3) := dk_167 0 4 (dk_at dksX5_isWish_1 13 rfl rfl)
theorem dX5_isWish_39 : decode cX5_isWish 39 = .ok (.iconst 0, 1) := dk_3 (dk_at dksX5_isWish_1 16 rfl rfl)
theorem dX5_isWish_40 : decode cX5_isWish 40 = .ok (.ireturn, 1) := dk_172 (dk_at dksX5_isWish_1 17 rfl rfl)
abbrev cX5_run : ByteArray := prog_12_method_74_code
def yX5_run : MethodName := ⟨RX5, "run", "(I)I"⟩
def dkwX5_run_2 : List UInt8 := [182, 1, 167, 132, 2, 1, 167, 255, 244, 42, 180, 1, 164, 172]
abbrev dktX5_run_2 : List UInt8 := dkwX5_run_2 ++ []
def dkwX5_run_1 : List UInt8 := [27, 96, 19, 1, 87, 164, 0, 5, 2, 172, 42, 3, 181, 1, 164, 3, 61, 28, 27, 162, 0, 13, 42]
abbrev dktX5_run_1 : List UInt8 := dkwX5_run_1 ++ dktX5_run_2
def dkwX5_run_0 : List UInt8 := [42, 3, 181, 0, 1, 27, 4, 17, 1, 144, 184, 0, 132, 153, 0, 19, 42, 180, 0, 30, 17, 2, 6, 46]
abbrev dktX5_run_0 : List UInt8 := dkwX5_run_0 ++ dktX5_run_1
theorem dksX5_run_0 : cX5_run.data.toList.drop 0 = dktX5_run_0 := by decide +kernel
theorem dksX5_run_1 : cX5_run.data.toList.drop 24 = dktX5_run_1 := dk_seg dksX5_run_0 24 rfl rfl
theorem dksX5_run_2 : cX5_run.data.toList.drop 47 = dktX5_run_2 := dk_seg dksX5_run_1 23 rfl rfl
theorem dX5_run_0 : decode cX5_run 0 = .ok (.aload_n 0, 1) := dk_42 (dk_at dksX5_run_0 0 rfl rfl)
theorem dX5_run_1 : decode cX5_run 1 = .ok (.iconst 0, 1) := dk_3 (dk_at dksX5_run_0 1 rfl rfl)
theorem dX5_run_2 : decode cX5_run 2 = .ok (.putfield 1, 3) := dk_181 0 1 (dk_at dksX5_run_0 2 rfl rfl)
theorem dX5_run_5 : decode cX5_run 5 = .ok (.iload_n 1, 1) := dk_27 (dk_at dksX5_run_0 5 rfl rfl)
theorem dX5_run_6 : decode cX5_run 6 = .ok (.iconst 1, 1) := dk_4 (dk_at dksX5_run_0 6 rfl rfl)
theorem dX5_run_7 : decode cX5_run 7 = .ok (.sipush 400, 3) := dk_17 1 144 (dk_at dksX5_run_0 7 rfl rfl)
theorem dX5_run_10 : decode cX5_run 10 = .ok (.invokestatic 132, 3) := dk_184 0 132 (dk_at dksX5_run_0 10 rfl rfl)
theorem dX5_run_13 : decode cX5_run 13 = .ok (.ifCond .eq 19, 3) := dk_153 0 19 (dk_at dksX5_run_0 13 rfl rfl)
theorem dX5_run_16 : decode cX5_run 16 = .ok (.aload_n 0, 1) := dk_42 (dk_at dksX5_run_0 16 rfl rfl)
theorem dX5_run_17 : decode cX5_run 17 = .ok (.getfield 30, 3) := dk_180 0 30 (dk_at dksX5_run_0 17 rfl rfl)
theorem dX5_run_20 : decode cX5_run 20 = .ok (.sipush 518, 3) := dk_17 2 6 (dk_at dksX5_run_0 20 rfl rfl)
theorem dX5_run_23 : decode cX5_run 23 = .ok (.iaload, 1) := dk_46 (dk_at dksX5_run_0 23 rfl rfl)
theorem dX5_run_24 : decode cX5_run 24 = .ok (.iload_n 1, 1) := dk_27 (dk_at dksX5_run_1 0 rfl rfl)
theorem dX5_run_25 : decode cX5_run 25 = .ok (.iadd, 1) := dk_96 (dk_at dksX5_run_1 1 rfl rfl)
theorem dX5_run_26 : decode cX5_run 26 = .ok (.ldc_w 343, 3) := dk_19 1 87 (dk_at dksX5_run_1 2 rfl rfl)
theorem dX5_run_29 : decode cX5_run 29 = .ok (.if_icmp .le 5, 3) := dk_164 0 5 (dk_at dksX5_run_1 5 rfl rfl)
theorem dX5_run_32 : decode cX5_run 32 = .ok (.iconst (-1), 1) := dk_2 (dk_at dksX5_run_1 8 rfl rfl)
theorem dX5_run_33 : decode cX5_run 33 = .ok (.ireturn, 1) := dk_172 (dk_at dksX5_run_1 9 rfl rfl)
theorem dX5_run_34 : decode cX5_run 34 = .ok (.aload_n 0, 1) := dk_42 (dk_at dksX5_run_1 10 rfl rfl)
theorem dX5_run_35 : decode cX5_run 35 = .ok (.iconst 0, 1) := dk_3 (dk_at dksX5_run_1 11 rfl rfl)
theorem dX5_run_36 : decode cX5_run 36 = .ok (.putfield 420, 3) := dk_181 1 164 (dk_at dksX5_run_1 12 rfl rfl)
theorem dX5_run_39 : decode cX5_run 39 = .ok (.iconst 0, 1) := dk_3 (dk_at dksX5_run_1 15 rfl rfl)
theorem dX5_run_40 : decode cX5_run 40 = .ok (.istore_n 2, 1) := dk_61 (dk_at dksX5_run_1 16 rfl rfl)
theorem dX5_run_41 : decode cX5_run 41 = .ok (.iload_n 2, 1) := dk_28 (dk_at dksX5_run_1 17 rfl rfl)
theorem dX5_run_42 : decode cX5_run 42 = .ok (.iload_n 1, 1) := dk_27 (dk_at dksX5_run_1 18 rfl rfl)
theorem dX5_run_43 : decode cX5_run 43 = .ok (.if_icmp .ge 13, 3) := dk_162 0 13 (dk_at dksX5_run_1 19 rfl rfl)
theorem dX5_run_46 : decode cX5_run 46 = .ok (.aload_n 0, 1) := dk_42 (dk_at dksX5_run_1 22 rfl rfl)
theorem dX5_run_47 : decode cX5_run 47 = .ok (.invokevirtual 423, 3) := dk_182 1 167 (dk_at dksX5_run_2 0 rfl rfl)
theorem dX5_run_50 : decode cX5_run 50 = .ok (.iinc 2 1, 3) := dk_132 2 1 (dk_at dksX5_run_2 3 rfl rfl)
theorem dX5_run_53 : decode cX5_run 53 = .ok (.goto (-12), 3) := dk_167 255 244 (dk_at dksX5_run_2 6 rfl rfl)
theorem dX5_run_56 : decode cX5_run 56 = .ok (.aload_n 0, 1) := dk_42 (dk_at dksX5_run_2 9 rfl rfl)
theorem dX5_run_57 : decode cX5_run 57 = .ok (.getfield 420, 3) := dk_180 1 164 (dk_at dksX5_run_2 10 rfl rfl)
theorem dX5_run_60 : decode cX5_run 60 = .ok (.ireturn, 1) := dk_172 (dk_at dksX5_run_2 13 rfl rfl)
abbrev cX5_tick : ByteArray := prog_12_method_71_code
def yX5_tick : MethodName := ⟨RX5, "tick", "()V"⟩
def dkwX5_tick_10 : List UInt8 := [42, 27, 182, 1, 155, 167, 255, 218, 42, 180, 0, 30, 17, 2, 6, 92, 46, 4, 96, 79, 177]
abbrev dktX5_tick_10 : List UInt8 := dkwX5_tick_10 ++ []
def dkwX5_tick_9 : List UInt8 := [162, 0, 32, 42, 17, 0, 158, 16, 6, 27, 104, 96, 182, 1, 152, 153, 0, 9, 132, 1, 1, 167, 255, 226]
abbrev dktX5_tick_9 : List UInt8 := dkwX5_tick_9 ++ dktX5_tick_10
def dkwX5_tick_8 : List UInt8 := [92, 46, 4, 96, 79, 132, 1, 1, 167, 255, 61, 3, 60, 27, 42, 180, 0, 30, 17, 0, 157, 46]
abbrev dktX5_tick_8 : List UInt8 := dkwX5_tick_8 ++ dktX5_tick_9
def dkwX5_tick_7 : List UInt8 := [180, 0, 30, 29, 6, 96, 2, 79, 42, 180, 0, 30, 29, 7, 96, 2, 79, 42, 180, 0, 30, 17, 0, 157]
abbrev dktX5_tick_7 : List UInt8 := dkwX5_tick_7 ++ dktX5_tick_8
def dkwX5_tick_6 : List UInt8 := [28, 46, 96, 46, 79, 42, 180, 0, 30, 29, 4, 96, 27, 79, 42, 180, 0, 30, 29, 5, 96, 3, 79, 42]
abbrev dktX5_tick_6 : List UInt8 := dkwX5_tick_6 ++ dktX5_tick_7
def dkwX5_tick_5 : List UInt8 := [180, 0, 30, 17, 0, 157, 46, 104, 96, 62, 42, 180, 0, 30, 29, 42, 180, 0, 30, 6, 42, 180, 0, 30]
abbrev dktX5_tick_5 : List UInt8 := dkwX5_tick_5 ++ dktX5_tick_6
def dkwX5_tick_4 : List UInt8 := [160, 0, 18, 42, 180, 0, 30, 17, 2, 9, 92, 46, 4, 96, 79, 167, 0, 86, 17, 0, 158, 16, 6, 42]
abbrev dktX5_tick_4 : List UInt8 := dkwX5_tick_4 ++ dktX5_tick_5
def dkwX5_tick_3 : List UInt8 := [180, 0, 30, 28, 6, 96, 46, 112, 153, 0, 6, 167, 0, 114, 42, 180, 0, 30, 17, 0, 157, 46, 16, 60]
abbrev dktX5_tick_3 : List UInt8 := dkwX5_tick_3 ++ dktX5_tick_4
def dkwX5_tick_2 : List UInt8 := [96, 46, 161, 0, 146, 42, 180, 0, 30, 17, 2, 6, 46, 42, 180, 0, 30, 28, 7, 96, 46, 100, 42]
abbrev dktX5_tick_2 : List UInt8 := dkwX5_tick_2 ++ dktX5_tick_3
def dkwX5_tick_1 : List UInt8 := [180, 0, 30, 28, 8, 96, 46, 153, 0, 165, 42, 180, 0, 30, 17, 2, 6, 46, 42, 180, 0, 30, 28, 7]
abbrev dktX5_tick_1 : List UInt8 := dkwX5_tick_1 ++ dktX5_tick_2
def dkwX5_tick_0 : List UInt8 := [3, 60, 27, 42, 180, 0, 30, 16, 12, 46, 162, 0, 190, 16, 13, 16, 6, 27, 104, 96, 61, 42]
abbrev dktX5_tick_0 : List UInt8 := dkwX5_tick_0 ++ dktX5_tick_1
theorem dksX5_tick_0 : cX5_tick.data.toList.drop 0 = dktX5_tick_0 := by decide +kernel
theorem dksX5_tick_1 : cX5_tick.data.toList.drop 22 = dktX5_tick_1 := dk_seg dksX5_tick_0 22 rfl rfl
theorem dksX5_tick_2 : cX5_tick.data.toList.drop 46 = dktX5_tick_2 := dk_seg dksX5_tick_1 24 rfl rfl
theorem dksX5_tick_3 : cX5_tick.data.toList.drop 69 = dktX5_tick_3 := dk_seg dksX5_tick_2 23 rfl rfl
theorem dksX5_tick_4 : cX5_tick.data.toList.drop 93 = dktX5_tick_4 := dk_seg dksX5_tick_3 24 rfl rfl
theorem dksX5_tick_5 : cX5_tick.data.toList.drop 117 = dktX5_tick_5 := dk_seg dksX5_tick_4 24 rfl rfl
theorem dksX5_tick_6 : cX5_tick.data.toList.drop 141 = dktX5_tick_6 := dk_seg dksX5_tick_5 24 rfl rfl
theorem dksX5_tick_7 : cX5_tick.data.toList.drop 165 = dktX5_tick_7 := dk_seg dksX5_tick_6 24 rfl rfl
theorem dksX5_tick_8 : cX5_tick.data.toList.drop 189 = dktX5_tick_8 := dk_seg dksX5_tick_7 24 rfl rfl
theorem dksX5_tick_9 : cX5_tick.data.toList.drop 211 = dktX5_tick_9 := dk_seg dksX5_tick_8 22 rfl rfl
theorem dksX5_tick_10 : cX5_tick.data.toList.drop 235 = dktX5_tick_10 := dk_seg dksX5_tick_9 24 rfl rfl
theorem dX5_tick_0 : decode cX5_tick 0 = .ok (.iconst 0, 1) := dk_3 (dk_at dksX5_tick_0 0 rfl rfl)
theorem dX5_tick_1 : decode cX5_tick 1 = .ok (.istore_n 1, 1) := dk_60 (dk_at dksX5_tick_0 1 rfl rfl)
theorem dX5_tick_2 : decode cX5_tick 2 = .ok (.iload_n 1, 1) := dk_27 (dk_at dksX5_tick_0 2 rfl rfl)
theorem dX5_tick_3 : decode cX5_tick 3 = .ok (.aload_n 0, 1) := dk_42 (dk_at dksX5_tick_0 3 rfl rfl)
theorem dX5_tick_4 : decode cX5_tick 4 = .ok (.getfield 30, 3) := dk_180 0 30 (dk_at dksX5_tick_0 4 rfl rfl)
theorem dX5_tick_7 : decode cX5_tick 7 = .ok (.bipush 12, 2) := dk_16 12 (dk_at dksX5_tick_0 7 rfl rfl)
theorem dX5_tick_9 : decode cX5_tick 9 = .ok (.iaload, 1) := dk_46 (dk_at dksX5_tick_0 9 rfl rfl)
theorem dX5_tick_10 : decode cX5_tick 10 = .ok (.if_icmp .ge 190, 3) := dk_162 0 190 (dk_at dksX5_tick_0 10 rfl rfl)
theorem dX5_tick_13 : decode cX5_tick 13 = .ok (.bipush 13, 2) := dk_16 13 (dk_at dksX5_tick_0 13 rfl rfl)
theorem dX5_tick_15 : decode cX5_tick 15 = .ok (.bipush 6, 2) := dk_16 6 (dk_at dksX5_tick_0 15 rfl rfl)
theorem dX5_tick_17 : decode cX5_tick 17 = .ok (.iload_n 1, 1) := dk_27 (dk_at dksX5_tick_0 17 rfl rfl)
theorem dX5_tick_18 : decode cX5_tick 18 = .ok (.imul, 1) := dk_104 (dk_at dksX5_tick_0 18 rfl rfl)
theorem dX5_tick_19 : decode cX5_tick 19 = .ok (.iadd, 1) := dk_96 (dk_at dksX5_tick_0 19 rfl rfl)
theorem dX5_tick_20 : decode cX5_tick 20 = .ok (.istore_n 2, 1) := dk_61 (dk_at dksX5_tick_0 20 rfl rfl)
theorem dX5_tick_21 : decode cX5_tick 21 = .ok (.aload_n 0, 1) := dk_42 (dk_at dksX5_tick_0 21 rfl rfl)
theorem dX5_tick_22 : decode cX5_tick 22 = .ok (.getfield 30, 3) := dk_180 0 30 (dk_at dksX5_tick_1 0 rfl rfl)
theorem dX5_tick_25 : decode cX5_tick 25 = .ok (.iload_n 2, 1) := dk_28 (dk_at dksX5_tick_1 3 rfl rfl)
theorem dX5_tick_26 : decode cX5_tick 26 = .ok (.iconst 5, 1) := dk_8 (dk_at dksX5_tick_1 4 rfl rfl)
theorem dX5_tick_27 : decode cX5_tick 27 = .ok (.iadd, 1) := dk_96 (dk_at dksX5_tick_1 5 rfl rfl)
theorem dX5_tick_28 : decode cX5_tick 28 = .ok (.iaload, 1) := dk_46 (dk_at dksX5_tick_1 6 rfl rfl)
theorem dX5_tick_29 : decode cX5_tick 29 = .ok (.ifCond .eq 165, 3) := dk_153 0 165 (dk_at dksX5_tick_1 7 rfl rfl)
theorem dX5_tick_32 : decode cX5_tick 32 = .ok (.aload_n 0, 1) := dk_42 (dk_at dksX5_tick_1 10 rfl rfl)
theorem dX5_tick_33 : decode cX5_tick 33 = .ok (.getfield 30, 3) := dk_180 0 30 (dk_at dksX5_tick_1 11 rfl rfl)
theorem dX5_tick_36 : decode cX5_tick 36 = .ok (.sipush 518, 3) := dk_17 2 6 (dk_at dksX5_tick_1 14 rfl rfl)
theorem dX5_tick_39 : decode cX5_tick 39 = .ok (.iaload, 1) := dk_46 (dk_at dksX5_tick_1 17 rfl rfl)
theorem dX5_tick_40 : decode cX5_tick 40 = .ok (.aload_n 0, 1) := dk_42 (dk_at dksX5_tick_1 18 rfl rfl)
theorem dX5_tick_41 : decode cX5_tick 41 = .ok (.getfield 30, 3) := dk_180 0 30 (dk_at dksX5_tick_1 19 rfl rfl)
theorem dX5_tick_44 : decode cX5_tick 44 = .ok (.iload_n 2, 1) := dk_28 (dk_at dksX5_tick_1 22 rfl rfl)
theorem dX5_tick_45 : decode cX5_tick 45 = .ok (.iconst 4, 1) := dk_7 (dk_at dksX5_tick_1 23 rfl rfl)
theorem dX5_tick_46 : decode cX5_tick 46 = .ok (.iadd, 1) := dk_96 (dk_at dksX5_tick_2 0 rfl rfl)
theorem dX5_tick_47 : decode cX5_tick 47 = .ok (.iaload, 1) := dk_46 (dk_at dksX5_tick_2 1 rfl rfl)
theorem dX5_tick_48 : decode cX5_tick 48 = .ok (.if_icmp .lt 146, 3) := dk_161 0 146 (dk_at dksX5_tick_2 2 rfl rfl)
theorem dX5_tick_51 : decode cX5_tick 51 = .ok (.aload_n 0, 1) := dk_42 (dk_at dksX5_tick_2 5 rfl rfl)
theorem dX5_tick_52 : decode cX5_tick 52 = .ok (.getfield 30, 3) := dk_180 0 30 (dk_at dksX5_tick_2 6 rfl rfl)
theorem dX5_tick_55 : decode cX5_tick 55 = .ok (.sipush 518, 3) := dk_17 2 6 (dk_at dksX5_tick_2 9 rfl rfl)
theorem dX5_tick_58 : decode cX5_tick 58 = .ok (.iaload, 1) := dk_46 (dk_at dksX5_tick_2 12 rfl rfl)
theorem dX5_tick_59 : decode cX5_tick 59 = .ok (.aload_n 0, 1) := dk_42 (dk_at dksX5_tick_2 13 rfl rfl)
theorem dX5_tick_60 : decode cX5_tick 60 = .ok (.getfield 30, 3) := dk_180 0 30 (dk_at dksX5_tick_2 14 rfl rfl)
theorem dX5_tick_63 : decode cX5_tick 63 = .ok (.iload_n 2, 1) := dk_28 (dk_at dksX5_tick_2 17 rfl rfl)
theorem dX5_tick_64 : decode cX5_tick 64 = .ok (.iconst 4, 1) := dk_7 (dk_at dksX5_tick_2 18 rfl rfl)
theorem dX5_tick_65 : decode cX5_tick 65 = .ok (.iadd, 1) := dk_96 (dk_at dksX5_tick_2 19 rfl rfl)
theorem dX5_tick_66 : decode cX5_tick 66 = .ok (.iaload, 1) := dk_46 (dk_at dksX5_tick_2 20 rfl rfl)
theorem dX5_tick_67 : decode cX5_tick 67 = .ok (.isub, 1) := dk_100 (dk_at dksX5_tick_2 21 rfl rfl)
theorem dX5_tick_68 : decode cX5_tick 68 = .ok (.aload_n 0, 1) := dk_42 (dk_at dksX5_tick_2 22 rfl rfl)
theorem dX5_tick_69 : decode cX5_tick 69 = .ok (.getfield 30, 3) := dk_180 0 30 (dk_at dksX5_tick_3 0 rfl rfl)
theorem dX5_tick_72 : decode cX5_tick 72 = .ok (.iload_n 2, 1) := dk_28 (dk_at dksX5_tick_3 3 rfl rfl)
theorem dX5_tick_73 : decode cX5_tick 73 = .ok (.iconst 3, 1) := dk_6 (dk_at dksX5_tick_3 4 rfl rfl)
theorem dX5_tick_74 : decode cX5_tick 74 = .ok (.iadd, 1) := dk_96 (dk_at dksX5_tick_3 5 rfl rfl)
theorem dX5_tick_75 : decode cX5_tick 75 = .ok (.iaload, 1) := dk_46 (dk_at dksX5_tick_3 6 rfl rfl)
theorem dX5_tick_76 : decode cX5_tick 76 = .ok (.irem, 1) := dk_112 (dk_at dksX5_tick_3 7 rfl rfl)
theorem dX5_tick_77 : decode cX5_tick 77 = .ok (.ifCond .eq 6, 3) := dk_153 0 6 (dk_at dksX5_tick_3 8 rfl rfl)
theorem dX5_tick_80 : decode cX5_tick 80 = .ok (.goto 114, 3) := dk_167 0 114 (dk_at dksX5_tick_3 11 rfl rfl)
theorem dX5_tick_83 : decode cX5_tick 83 = .ok (.aload_n 0, 1) := dk_42 (dk_at dksX5_tick_3 14 rfl rfl)
theorem dX5_tick_84 : decode cX5_tick 84 = .ok (.getfield 30, 3) := dk_180 0 30 (dk_at dksX5_tick_3 15 rfl rfl)
theorem dX5_tick_87 : decode cX5_tick 87 = .ok (.sipush 157, 3) := dk_17 0 157 (dk_at dksX5_tick_3 18 rfl rfl)
theorem dX5_tick_90 : decode cX5_tick 90 = .ok (.iaload, 1) := dk_46 (dk_at dksX5_tick_3 21 rfl rfl)
theorem dX5_tick_91 : decode cX5_tick 91 = .ok (.bipush 60, 2) := dk_16 60 (dk_at dksX5_tick_3 22 rfl rfl)
theorem dX5_tick_93 : decode cX5_tick 93 = .ok (.if_icmp .ne 18, 3) := dk_160 0 18 (dk_at dksX5_tick_4 0 rfl rfl)
theorem dX5_tick_96 : decode cX5_tick 96 = .ok (.aload_n 0, 1) := dk_42 (dk_at dksX5_tick_4 3 rfl rfl)
theorem dX5_tick_97 : decode cX5_tick 97 = .ok (.getfield 30, 3) := dk_180 0 30 (dk_at dksX5_tick_4 4 rfl rfl)
theorem dX5_tick_100 : decode cX5_tick 100 = .ok (.sipush 521, 3) := dk_17 2 9 (dk_at dksX5_tick_4 7 rfl rfl)
theorem dX5_tick_103 : decode cX5_tick 103 = .ok (.dup2, 1) := dk_92 (dk_at dksX5_tick_4 10 rfl rfl)
theorem dX5_tick_104 : decode cX5_tick 104 = .ok (.iaload, 1) := dk_46 (dk_at dksX5_tick_4 11 rfl rfl)
theorem dX5_tick_105 : decode cX5_tick 105 = .ok (.iconst 1, 1) := dk_4 (dk_at dksX5_tick_4 12 rfl rfl)
theorem dX5_tick_106 : decode cX5_tick 106 = .ok (.iadd, 1) := dk_96 (dk_at dksX5_tick_4 13 rfl rfl)
theorem dX5_tick_107 : decode cX5_tick 107 = .ok (.iastore, 1) := dk_79 (dk_at dksX5_tick_4 14 rfl rfl)
theorem dX5_tick_108 : decode cX5_tick 108 = .ok (.goto 86, 3) := dk_167 0 86 (dk_at dksX5_tick_4 15 rfl rfl)
theorem dX5_tick_111 : decode cX5_tick 111 = .ok (.sipush 158, 3) := dk_17 0 158 (dk_at dksX5_tick_4 18 rfl rfl)
theorem dX5_tick_114 : decode cX5_tick 114 = .ok (.bipush 6, 2) := dk_16 6 (dk_at dksX5_tick_4 21 rfl rfl)
theorem dX5_tick_116 : decode cX5_tick 116 = .ok (.aload_n 0, 1) := dk_42 (dk_at dksX5_tick_4 23 rfl rfl)
theorem dX5_tick_117 : decode cX5_tick 117 = .ok (.getfield 30, 3) := dk_180 0 30 (dk_at dksX5_tick_5 0 rfl rfl)
theorem dX5_tick_120 : decode cX5_tick 120 = .ok (.sipush 157, 3) := dk_17 0 157 (dk_at dksX5_tick_5 3 rfl rfl)
theorem dX5_tick_123 : decode cX5_tick 123 = .ok (.iaload, 1) := dk_46 (dk_at dksX5_tick_5 6 rfl rfl)
theorem dX5_tick_124 : decode cX5_tick 124 = .ok (.imul, 1) := dk_104 (dk_at dksX5_tick_5 7 rfl rfl)
theorem dX5_tick_125 : decode cX5_tick 125 = .ok (.iadd, 1) := dk_96 (dk_at dksX5_tick_5 8 rfl rfl)
theorem dX5_tick_126 : decode cX5_tick 126 = .ok (.istore_n 3, 1) := dk_62 (dk_at dksX5_tick_5 9 rfl rfl)
theorem dX5_tick_127 : decode cX5_tick 127 = .ok (.aload_n 0, 1) := dk_42 (dk_at dksX5_tick_5 10 rfl rfl)
theorem dX5_tick_128 : decode cX5_tick 128 = .ok (.getfield 30, 3) := dk_180 0 30 (dk_at dksX5_tick_5 11 rfl rfl)
theorem dX5_tick_131 : decode cX5_tick 131 = .ok (.iload_n 3, 1) := dk_29 (dk_at dksX5_tick_5 14 rfl rfl)
theorem dX5_tick_132 : decode cX5_tick 132 = .ok (.aload_n 0, 1) := dk_42 (dk_at dksX5_tick_5 15 rfl rfl)
theorem dX5_tick_133 : decode cX5_tick 133 = .ok (.getfield 30, 3) := dk_180 0 30 (dk_at dksX5_tick_5 16 rfl rfl)
theorem dX5_tick_136 : decode cX5_tick 136 = .ok (.iconst 3, 1) := dk_6 (dk_at dksX5_tick_5 19 rfl rfl)
theorem dX5_tick_137 : decode cX5_tick 137 = .ok (.aload_n 0, 1) := dk_42 (dk_at dksX5_tick_5 20 rfl rfl)
theorem dX5_tick_138 : decode cX5_tick 138 = .ok (.getfield 30, 3) := dk_180 0 30 (dk_at dksX5_tick_5 21 rfl rfl)
theorem dX5_tick_141 : decode cX5_tick 141 = .ok (.iload_n 2, 1) := dk_28 (dk_at dksX5_tick_6 0 rfl rfl)
theorem dX5_tick_142 : decode cX5_tick 142 = .ok (.iaload, 1) := dk_46 (dk_at dksX5_tick_6 1 rfl rfl)
theorem dX5_tick_143 : decode cX5_tick 143 = .ok (.iadd, 1) := dk_96 (dk_at dksX5_tick_6 2 rfl rfl)
theorem dX5_tick_144 : decode cX5_tick 144 = .ok (.iaload, 1) := dk_46 (dk_at dksX5_tick_6 3 rfl rfl)
theorem dX5_tick_145 : decode cX5_tick 145 = .ok (.iastore, 1) := dk_79 (dk_at dksX5_tick_6 4 rfl rfl)
theorem dX5_tick_146 : decode cX5_tick 146 = .ok (.aload_n 0, 1) := dk_42 (dk_at dksX5_tick_6 5 rfl rfl)
theorem dX5_tick_147 : decode cX5_tick 147 = .ok (.getfield 30, 3) := dk_180 0 30 (dk_at dksX5_tick_6 6 rfl rfl)
theorem dX5_tick_150 : decode cX5_tick 150 = .ok (.iload_n 3, 1) := dk_29 (dk_at dksX5_tick_6 9 rfl rfl)
theorem dX5_tick_151 : decode cX5_tick 151 = .ok (.iconst 1, 1) := dk_4 (dk_at dksX5_tick_6 10 rfl rfl)
theorem dX5_tick_152 : decode cX5_tick 152 = .ok (.iadd, 1) := dk_96 (dk_at dksX5_tick_6 11 rfl rfl)
theorem dX5_tick_153 : decode cX5_tick 153 = .ok (.iload_n 1, 1) := dk_27 (dk_at dksX5_tick_6 12 rfl rfl)
theorem dX5_tick_154 : decode cX5_tick 154 = .ok (.iastore, 1) := dk_79 (dk_at dksX5_tick_6 13 rfl rfl)
theorem dX5_tick_155 : decode cX5_tick 155 = .ok (.aload_n 0, 1) := dk_42 (dk_at dksX5_tick_6 14 rfl rfl)
theorem dX5_tick_156 : decode cX5_tick 156 = .ok (.getfield 30, 3) := dk_180 0 30 (dk_at dksX5_tick_6 15 rfl rfl)
theorem dX5_tick_159 : decode cX5_tick 159 = .ok (.iload_n 3, 1) := dk_29 (dk_at dksX5_tick_6 18 rfl rfl)
theorem dX5_tick_160 : decode cX5_tick 160 = .ok (.iconst 2, 1) := dk_5 (dk_at dksX5_tick_6 19 rfl rfl)
theorem dX5_tick_161 : decode cX5_tick 161 = .ok (.iadd, 1) := dk_96 (dk_at dksX5_tick_6 20 rfl rfl)
theorem dX5_tick_162 : decode cX5_tick 162 = .ok (.iconst 0, 1) := dk_3 (dk_at dksX5_tick_6 21 rfl rfl)
theorem dX5_tick_163 : decode cX5_tick 163 = .ok (.iastore, 1) := dk_79 (dk_at dksX5_tick_6 22 rfl rfl)
theorem dX5_tick_164 : decode cX5_tick 164 = .ok (.aload_n 0, 1) := dk_42 (dk_at dksX5_tick_6 23 rfl rfl)
theorem dX5_tick_165 : decode cX5_tick 165 = .ok (.getfield 30, 3) := dk_180 0 30 (dk_at dksX5_tick_7 0 rfl rfl)
theorem dX5_tick_168 : decode cX5_tick 168 = .ok (.iload_n 3, 1) := dk_29 (dk_at dksX5_tick_7 3 rfl rfl)
theorem dX5_tick_169 : decode cX5_tick 169 = .ok (.iconst 3, 1) := dk_6 (dk_at dksX5_tick_7 4 rfl rfl)
theorem dX5_tick_170 : decode cX5_tick 170 = .ok (.iadd, 1) := dk_96 (dk_at dksX5_tick_7 5 rfl rfl)
theorem dX5_tick_171 : decode cX5_tick 171 = .ok (.iconst (-1), 1) := dk_2 (dk_at dksX5_tick_7 6 rfl rfl)
theorem dX5_tick_172 : decode cX5_tick 172 = .ok (.iastore, 1) := dk_79 (dk_at dksX5_tick_7 7 rfl rfl)
theorem dX5_tick_173 : decode cX5_tick 173 = .ok (.aload_n 0, 1) := dk_42 (dk_at dksX5_tick_7 8 rfl rfl)
theorem dX5_tick_174 : decode cX5_tick 174 = .ok (.getfield 30, 3) := dk_180 0 30 (dk_at dksX5_tick_7 9 rfl rfl)
theorem dX5_tick_177 : decode cX5_tick 177 = .ok (.iload_n 3, 1) := dk_29 (dk_at dksX5_tick_7 12 rfl rfl)
theorem dX5_tick_178 : decode cX5_tick 178 = .ok (.iconst 4, 1) := dk_7 (dk_at dksX5_tick_7 13 rfl rfl)
theorem dX5_tick_179 : decode cX5_tick 179 = .ok (.iadd, 1) := dk_96 (dk_at dksX5_tick_7 14 rfl rfl)
theorem dX5_tick_180 : decode cX5_tick 180 = .ok (.iconst (-1), 1) := dk_2 (dk_at dksX5_tick_7 15 rfl rfl)
theorem dX5_tick_181 : decode cX5_tick 181 = .ok (.iastore, 1) := dk_79 (dk_at dksX5_tick_7 16 rfl rfl)
theorem dX5_tick_182 : decode cX5_tick 182 = .ok (.aload_n 0, 1) := dk_42 (dk_at dksX5_tick_7 17 rfl rfl)
theorem dX5_tick_183 : decode cX5_tick 183 = .ok (.getfield 30, 3) := dk_180 0 30 (dk_at dksX5_tick_7 18 rfl rfl)
theorem dX5_tick_186 : decode cX5_tick 186 = .ok (.sipush 157, 3) := dk_17 0 157 (dk_at dksX5_tick_7 21 rfl rfl)
theorem dX5_tick_189 : decode cX5_tick 189 = .ok (.dup2, 1) := dk_92 (dk_at dksX5_tick_8 0 rfl rfl)
theorem dX5_tick_190 : decode cX5_tick 190 = .ok (.iaload, 1) := dk_46 (dk_at dksX5_tick_8 1 rfl rfl)
theorem dX5_tick_191 : decode cX5_tick 191 = .ok (.iconst 1, 1) := dk_4 (dk_at dksX5_tick_8 2 rfl rfl)
theorem dX5_tick_192 : decode cX5_tick 192 = .ok (.iadd, 1) := dk_96 (dk_at dksX5_tick_8 3 rfl rfl)
theorem dX5_tick_193 : decode cX5_tick 193 = .ok (.iastore, 1) := dk_79 (dk_at dksX5_tick_8 4 rfl rfl)
theorem dX5_tick_194 : decode cX5_tick 194 = .ok (.iinc 1 1, 3) := dk_132 1 1 (dk_at dksX5_tick_8 5 rfl rfl)
theorem dX5_tick_197 : decode cX5_tick 197 = .ok (.goto (-195), 3) := dk_167 255 61 (dk_at dksX5_tick_8 8 rfl rfl)
theorem dX5_tick_200 : decode cX5_tick 200 = .ok (.iconst 0, 1) := dk_3 (dk_at dksX5_tick_8 11 rfl rfl)
theorem dX5_tick_201 : decode cX5_tick 201 = .ok (.istore_n 1, 1) := dk_60 (dk_at dksX5_tick_8 12 rfl rfl)
theorem dX5_tick_202 : decode cX5_tick 202 = .ok (.iload_n 1, 1) := dk_27 (dk_at dksX5_tick_8 13 rfl rfl)
theorem dX5_tick_203 : decode cX5_tick 203 = .ok (.aload_n 0, 1) := dk_42 (dk_at dksX5_tick_8 14 rfl rfl)
theorem dX5_tick_204 : decode cX5_tick 204 = .ok (.getfield 30, 3) := dk_180 0 30 (dk_at dksX5_tick_8 15 rfl rfl)
theorem dX5_tick_207 : decode cX5_tick 207 = .ok (.sipush 157, 3) := dk_17 0 157 (dk_at dksX5_tick_8 18 rfl rfl)
theorem dX5_tick_210 : decode cX5_tick 210 = .ok (.iaload, 1) := dk_46 (dk_at dksX5_tick_8 21 rfl rfl)
theorem dX5_tick_211 : decode cX5_tick 211 = .ok (.if_icmp .ge 32, 3) := dk_162 0 32 (dk_at dksX5_tick_9 0 rfl rfl)
theorem dX5_tick_214 : decode cX5_tick 214 = .ok (.aload_n 0, 1) := dk_42 (dk_at dksX5_tick_9 3 rfl rfl)
theorem dX5_tick_215 : decode cX5_tick 215 = .ok (.sipush 158, 3) := dk_17 0 158 (dk_at dksX5_tick_9 4 rfl rfl)
theorem dX5_tick_218 : decode cX5_tick 218 = .ok (.bipush 6, 2) := dk_16 6 (dk_at dksX5_tick_9 7 rfl rfl)
theorem dX5_tick_220 : decode cX5_tick 220 = .ok (.iload_n 1, 1) := dk_27 (dk_at dksX5_tick_9 9 rfl rfl)
theorem dX5_tick_221 : decode cX5_tick 221 = .ok (.imul, 1) := dk_104 (dk_at dksX5_tick_9 10 rfl rfl)
theorem dX5_tick_222 : decode cX5_tick 222 = .ok (.iadd, 1) := dk_96 (dk_at dksX5_tick_9 11 rfl rfl)
theorem dX5_tick_223 : decode cX5_tick 223 = .ok (.invokevirtual 408, 3) := dk_182 1 152 (dk_at dksX5_tick_9 12 rfl rfl)
theorem dX5_tick_226 : decode cX5_tick 226 = .ok (.ifCond .eq 9, 3) := dk_153 0 9 (dk_at dksX5_tick_9 15 rfl rfl)
theorem dX5_tick_229 : decode cX5_tick 229 = .ok (.iinc 1 1, 3) := dk_132 1 1 (dk_at dksX5_tick_9 18 rfl rfl)
theorem dX5_tick_232 : decode cX5_tick 232 = .ok (.goto (-30), 3) := dk_167 255 226 (dk_at dksX5_tick_9 21 rfl rfl)
theorem dX5_tick_235 : decode cX5_tick 235 = .ok (.aload_n 0, 1) := dk_42 (dk_at dksX5_tick_10 0 rfl rfl)
theorem dX5_tick_236 : decode cX5_tick 236 = .ok (.iload_n 1, 1) := dk_27 (dk_at dksX5_tick_10 1 rfl rfl)
theorem dX5_tick_237 : decode cX5_tick 237 = .ok (.invokevirtual 411, 3) := dk_182 1 155 (dk_at dksX5_tick_10 2 rfl rfl)
theorem dX5_tick_240 : decode cX5_tick 240 = .ok (.goto (-38), 3) := dk_167 255 218 (dk_at dksX5_tick_10 5 rfl rfl)
theorem dX5_tick_243 : decode cX5_tick 243 = .ok (.aload_n 0, 1) := dk_42 (dk_at dksX5_tick_10 8 rfl rfl)
theorem dX5_tick_244 : decode cX5_tick 244 = .ok (.getfield 30, 3) := dk_180 0 30 (dk_at dksX5_tick_10 9 rfl rfl)
theorem dX5_tick_247 : decode cX5_tick 247 = .ok (.sipush 518, 3) := dk_17 2 6 (dk_at dksX5_tick_10 12 rfl rfl)
theorem dX5_tick_250 : decode cX5_tick 250 = .ok (.dup2, 1) := dk_92 (dk_at dksX5_tick_10 15 rfl rfl)
theorem dX5_tick_251 : decode cX5_tick 251 = .ok (.iaload, 1) := dk_46 (dk_at dksX5_tick_10 16 rfl rfl)
theorem dX5_tick_252 : decode cX5_tick 252 = .ok (.iconst 1, 1) := dk_4 (dk_at dksX5_tick_10 17 rfl rfl)
theorem dX5_tick_253 : decode cX5_tick 253 = .ok (.iadd, 1) := dk_96 (dk_at dksX5_tick_10 18 rfl rfl)
theorem dX5_tick_254 : decode cX5_tick 254 = .ok (.iastore, 1) := dk_79 (dk_at dksX5_tick_10 19 rfl rfl)
theorem dX5_tick_255 : decode cX5_tick 255 = .ok (.return_, 1) := dk_177 (dk_at dksX5_tick_10 20 rfl rfl)
abbrev cX5_goes : ByteArray := prog_12_method_73_code
def yX5_goes : MethodName := ⟨RX5, "goes", "(I)Z"⟩
def dkwX5_goes_9 : List UInt8 := [180, 0, 30, 17, 2, 8, 92, 46, 4, 96, 79, 3, 172]
abbrev dktX5_goes_9 : List UInt8 := dkwX5_goes_9 ++ []
def dkwX5_goes_8 : List UInt8 := [181, 1, 164, 3, 172, 42, 180, 0, 30, 27, 5, 96, 46, 17, 0, 200, 162, 0, 5, 4, 172, 42]
abbrev dktX5_goes_8 : List UInt8 := dkwX5_goes_8 ++ dktX5_goes_9
def dkwX5_goes_7 : List UInt8 := [160, 0, 27, 42, 180, 0, 30, 17, 2, 7, 92, 46, 4, 96, 79, 42, 89, 180, 1, 164, 4, 96]
abbrev dktX5_goes_7 : List UInt8 := dkwX5_goes_7 ++ dktX5_goes_8
def dkwX5_goes_6 : List UInt8 := [182, 1, 124, 79, 42, 42, 180, 0, 30, 27, 46, 182, 1, 161, 42, 180, 0, 30, 27, 46, 42, 180, 1, 127]
abbrev dktX5_goes_6 : List UInt8 := dkwX5_goes_6 ++ dktX5_goes_7
def dkwX5_goes_5 : List UInt8 := [42, 180, 0, 30, 27, 7, 96, 42, 180, 1, 103, 79, 42, 180, 0, 30, 27, 42, 42, 180, 1, 103, 29]
abbrev dktX5_goes_5 : List UInt8 := dkwX5_goes_5 ++ dktX5_goes_6
def dkwX5_goes_4 : List UInt8 := [180, 0, 30, 27, 5, 96, 92, 46, 4, 96, 79, 29, 155, 0, 49, 42, 180, 0, 30, 27, 6, 96, 29, 79]
abbrev dktX5_goes_4 : List UInt8 := dkwX5_goes_4 ++ dktX5_goes_5
def dkwX5_goes_3 : List UInt8 := [42, 42, 180, 0, 30, 27, 7, 96, 46, 181, 1, 116, 42, 3, 181, 1, 106, 42, 182, 1, 158, 62, 42]
abbrev dktX5_goes_3 : List UInt8 := dkwX5_goes_3 ++ dktX5_goes_4
def dkwX5_goes_2 : List UInt8 := [42, 180, 0, 30, 28, 5, 96, 46, 96, 181, 1, 122, 42, 42, 180, 0, 30, 27, 6, 96, 46, 181, 1, 113]
abbrev dktX5_goes_2 : List UInt8 := dkwX5_goes_2 ++ dktX5_goes_3
def dkwX5_goes_1 : List UInt8 := [181, 1, 103, 42, 42, 180, 0, 30, 6, 42, 180, 0, 30, 28, 4, 96, 46, 96, 46, 181, 1, 127, 42, 4]
abbrev dktX5_goes_1 : List UInt8 := dkwX5_goes_1 ++ dktX5_goes_2
def dkwX5_goes_0 : List UInt8 := [16, 13, 16, 6, 42, 180, 0, 30, 27, 4, 96, 46, 104, 96, 61, 42, 42, 180, 0, 30, 27, 46]
abbrev dktX5_goes_0 : List UInt8 := dkwX5_goes_0 ++ dktX5_goes_1
theorem dksX5_goes_0 : cX5_goes.data.toList.drop 0 = dktX5_goes_0 := by decide +kernel
theorem dksX5_goes_1 : cX5_goes.data.toList.drop 22 = dktX5_goes_1 := dk_seg dksX5_goes_0 22 rfl rfl
theorem dksX5_goes_2 : cX5_goes.data.toList.drop 46 = dktX5_goes_2 := dk_seg dksX5_goes_1 24 rfl rfl
theorem dksX5_goes_3 : cX5_goes.data.toList.drop 70 = dktX5_goes_3 := dk_seg dksX5_goes_2 24 rfl rfl
theorem dksX5_goes_4 : cX5_goes.data.toList.drop 93 = dktX5_goes_4 := dk_seg dksX5_goes_3 23 rfl rfl
theorem dksX5_goes_5 : cX5_goes.data.toList.drop 117 = dktX5_goes_5 := dk_seg dksX5_goes_4 24 rfl rfl
theorem dksX5_goes_6 : cX5_goes.data.toList.drop 140 = dktX5_goes_6 := dk_seg dksX5_goes_5 23 rfl rfl
theorem dksX5_goes_7 : cX5_goes.data.toList.drop 164 = dktX5_goes_7 := dk_seg dksX5_goes_6 24 rfl rfl
theorem dksX5_goes_8 : cX5_goes.data.toList.drop 186 = dktX5_goes_8 := dk_seg dksX5_goes_7 22 rfl rfl
theorem dksX5_goes_9 : cX5_goes.data.toList.drop 208 = dktX5_goes_9 := dk_seg dksX5_goes_8 22 rfl rfl
theorem dX5_goes_0 : decode cX5_goes 0 = .ok (.bipush 13, 2) := dk_16 13 (dk_at dksX5_goes_0 0 rfl rfl)
theorem dX5_goes_2 : decode cX5_goes 2 = .ok (.bipush 6, 2) := dk_16 6 (dk_at dksX5_goes_0 2 rfl rfl)
theorem dX5_goes_4 : decode cX5_goes 4 = .ok (.aload_n 0, 1) := dk_42 (dk_at dksX5_goes_0 4 rfl rfl)
theorem dX5_goes_5 : decode cX5_goes 5 = .ok (.getfield 30, 3) := dk_180 0 30 (dk_at dksX5_goes_0 5 rfl rfl)
theorem dX5_goes_8 : decode cX5_goes 8 = .ok (.iload_n 1, 1) := dk_27 (dk_at dksX5_goes_0 8 rfl rfl)
theorem dX5_goes_9 : decode cX5_goes 9 = .ok (.iconst 1, 1) := dk_4 (dk_at dksX5_goes_0 9 rfl rfl)
theorem dX5_goes_10 : decode cX5_goes 10 = .ok (.iadd, 1) := dk_96 (dk_at dksX5_goes_0 10 rfl rfl)
theorem dX5_goes_11 : decode cX5_goes 11 = .ok (.iaload, 1) := dk_46 (dk_at dksX5_goes_0 11 rfl rfl)
theorem dX5_goes_12 : decode cX5_goes 12 = .ok (.imul, 1) := dk_104 (dk_at dksX5_goes_0 12 rfl rfl)
theorem dX5_goes_13 : decode cX5_goes 13 = .ok (.iadd, 1) := dk_96 (dk_at dksX5_goes_0 13 rfl rfl)
theorem dX5_goes_14 : decode cX5_goes 14 = .ok (.istore_n 2, 1) := dk_61 (dk_at dksX5_goes_0 14 rfl rfl)
theorem dX5_goes_15 : decode cX5_goes 15 = .ok (.aload_n 0, 1) := dk_42 (dk_at dksX5_goes_0 15 rfl rfl)
theorem dX5_goes_16 : decode cX5_goes 16 = .ok (.aload_n 0, 1) := dk_42 (dk_at dksX5_goes_0 16 rfl rfl)
theorem dX5_goes_17 : decode cX5_goes 17 = .ok (.getfield 30, 3) := dk_180 0 30 (dk_at dksX5_goes_0 17 rfl rfl)
theorem dX5_goes_20 : decode cX5_goes 20 = .ok (.iload_n 1, 1) := dk_27 (dk_at dksX5_goes_0 20 rfl rfl)
theorem dX5_goes_21 : decode cX5_goes 21 = .ok (.iaload, 1) := dk_46 (dk_at dksX5_goes_0 21 rfl rfl)
theorem dX5_goes_22 : decode cX5_goes 22 = .ok (.putfield 359, 3) := dk_181 1 103 (dk_at dksX5_goes_1 0 rfl rfl)
theorem dX5_goes_25 : decode cX5_goes 25 = .ok (.aload_n 0, 1) := dk_42 (dk_at dksX5_goes_1 3 rfl rfl)
theorem dX5_goes_26 : decode cX5_goes 26 = .ok (.aload_n 0, 1) := dk_42 (dk_at dksX5_goes_1 4 rfl rfl)
theorem dX5_goes_27 : decode cX5_goes 27 = .ok (.getfield 30, 3) := dk_180 0 30 (dk_at dksX5_goes_1 5 rfl rfl)
theorem dX5_goes_30 : decode cX5_goes 30 = .ok (.iconst 3, 1) := dk_6 (dk_at dksX5_goes_1 8 rfl rfl)
theorem dX5_goes_31 : decode cX5_goes 31 = .ok (.aload_n 0, 1) := dk_42 (dk_at dksX5_goes_1 9 rfl rfl)
theorem dX5_goes_32 : decode cX5_goes 32 = .ok (.getfield 30, 3) := dk_180 0 30 (dk_at dksX5_goes_1 10 rfl rfl)
theorem dX5_goes_35 : decode cX5_goes 35 = .ok (.iload_n 2, 1) := dk_28 (dk_at dksX5_goes_1 13 rfl rfl)
theorem dX5_goes_36 : decode cX5_goes 36 = .ok (.iconst 1, 1) := dk_4 (dk_at dksX5_goes_1 14 rfl rfl)
theorem dX5_goes_37 : decode cX5_goes 37 = .ok (.iadd, 1) := dk_96 (dk_at dksX5_goes_1 15 rfl rfl)
theorem dX5_goes_38 : decode cX5_goes 38 = .ok (.iaload, 1) := dk_46 (dk_at dksX5_goes_1 16 rfl rfl)
theorem dX5_goes_39 : decode cX5_goes 39 = .ok (.iadd, 1) := dk_96 (dk_at dksX5_goes_1 17 rfl rfl)
theorem dX5_goes_40 : decode cX5_goes 40 = .ok (.iaload, 1) := dk_46 (dk_at dksX5_goes_1 18 rfl rfl)
theorem dX5_goes_41 : decode cX5_goes 41 = .ok (.putfield 383, 3) := dk_181 1 127 (dk_at dksX5_goes_1 19 rfl rfl)
theorem dX5_goes_44 : decode cX5_goes 44 = .ok (.aload_n 0, 1) := dk_42 (dk_at dksX5_goes_1 22 rfl rfl)
theorem dX5_goes_45 : decode cX5_goes 45 = .ok (.iconst 1, 1) := dk_4 (dk_at dksX5_goes_1 23 rfl rfl)
theorem dX5_goes_46 : decode cX5_goes 46 = .ok (.aload_n 0, 1) := dk_42 (dk_at dksX5_goes_2 0 rfl rfl)
theorem dX5_goes_47 : decode cX5_goes 47 = .ok (.getfield 30, 3) := dk_180 0 30 (dk_at dksX5_goes_2 1 rfl rfl)
theorem dX5_goes_50 : decode cX5_goes 50 = .ok (.iload_n 2, 1) := dk_28 (dk_at dksX5_goes_2 4 rfl rfl)
theorem dX5_goes_51 : decode cX5_goes 51 = .ok (.iconst 2, 1) := dk_5 (dk_at dksX5_goes_2 5 rfl rfl)
theorem dX5_goes_52 : decode cX5_goes 52 = .ok (.iadd, 1) := dk_96 (dk_at dksX5_goes_2 6 rfl rfl)
theorem dX5_goes_53 : decode cX5_goes 53 = .ok (.iaload, 1) := dk_46 (dk_at dksX5_goes_2 7 rfl rfl)
theorem dX5_goes_54 : decode cX5_goes 54 = .ok (.iadd, 1) := dk_96 (dk_at dksX5_goes_2 8 rfl rfl)
theorem dX5_goes_55 : decode cX5_goes 55 = .ok (.putfield 378, 3) := dk_181 1 122 (dk_at dksX5_goes_2 9 rfl rfl)
theorem dX5_goes_58 : decode cX5_goes 58 = .ok (.aload_n 0, 1) := dk_42 (dk_at dksX5_goes_2 12 rfl rfl)
theorem dX5_goes_59 : decode cX5_goes 59 = .ok (.aload_n 0, 1) := dk_42 (dk_at dksX5_goes_2 13 rfl rfl)
theorem dX5_goes_60 : decode cX5_goes 60 = .ok (.getfield 30, 3) := dk_180 0 30 (dk_at dksX5_goes_2 14 rfl rfl)
theorem dX5_goes_63 : decode cX5_goes 63 = .ok (.iload_n 1, 1) := dk_27 (dk_at dksX5_goes_2 17 rfl rfl)
theorem dX5_goes_64 : decode cX5_goes 64 = .ok (.iconst 3, 1) := dk_6 (dk_at dksX5_goes_2 18 rfl rfl)
theorem dX5_goes_65 : decode cX5_goes 65 = .ok (.iadd, 1) := dk_96 (dk_at dksX5_goes_2 19 rfl rfl)
theorem dX5_goes_66 : decode cX5_goes 66 = .ok (.iaload, 1) := dk_46 (dk_at dksX5_goes_2 20 rfl rfl)
theorem dX5_goes_67 : decode cX5_goes 67 = .ok (.putfield 369, 3) := dk_181 1 113 (dk_at dksX5_goes_2 21 rfl rfl)
theorem dX5_goes_70 : decode cX5_goes 70 = .ok (.aload_n 0, 1) := dk_42 (dk_at dksX5_goes_3 0 rfl rfl)
theorem dX5_goes_71 : decode cX5_goes 71 = .ok (.aload_n 0, 1) := dk_42 (dk_at dksX5_goes_3 1 rfl rfl)
theorem dX5_goes_72 : decode cX5_goes 72 = .ok (.getfield 30, 3) := dk_180 0 30 (dk_at dksX5_goes_3 2 rfl rfl)
theorem dX5_goes_75 : decode cX5_goes 75 = .ok (.iload_n 1, 1) := dk_27 (dk_at dksX5_goes_3 5 rfl rfl)
theorem dX5_goes_76 : decode cX5_goes 76 = .ok (.iconst 4, 1) := dk_7 (dk_at dksX5_goes_3 6 rfl rfl)
theorem dX5_goes_77 : decode cX5_goes 77 = .ok (.iadd, 1) := dk_96 (dk_at dksX5_goes_3 7 rfl rfl)
theorem dX5_goes_78 : decode cX5_goes 78 = .ok (.iaload, 1) := dk_46 (dk_at dksX5_goes_3 8 rfl rfl)
theorem dX5_goes_79 : decode cX5_goes 79 = .ok (.putfield 372, 3) := dk_181 1 116 (dk_at dksX5_goes_3 9 rfl rfl)
theorem dX5_goes_82 : decode cX5_goes 82 = .ok (.aload_n 0, 1) := dk_42 (dk_at dksX5_goes_3 12 rfl rfl)
theorem dX5_goes_83 : decode cX5_goes 83 = .ok (.iconst 0, 1) := dk_3 (dk_at dksX5_goes_3 13 rfl rfl)
theorem dX5_goes_84 : decode cX5_goes 84 = .ok (.putfield 362, 3) := dk_181 1 106 (dk_at dksX5_goes_3 14 rfl rfl)
theorem dX5_goes_87 : decode cX5_goes 87 = .ok (.aload_n 0, 1) := dk_42 (dk_at dksX5_goes_3 17 rfl rfl)
theorem dX5_goes_88 : decode cX5_goes 88 = .ok (.invokevirtual 414, 3) := dk_182 1 158 (dk_at dksX5_goes_3 18 rfl rfl)
theorem dX5_goes_91 : decode cX5_goes 91 = .ok (.istore_n 3, 1) := dk_62 (dk_at dksX5_goes_3 21 rfl rfl)
theorem dX5_goes_92 : decode cX5_goes 92 = .ok (.aload_n 0, 1) := dk_42 (dk_at dksX5_goes_3 22 rfl rfl)
theorem dX5_goes_93 : decode cX5_goes 93 = .ok (.getfield 30, 3) := dk_180 0 30 (dk_at dksX5_goes_4 0 rfl rfl)
theorem dX5_goes_96 : decode cX5_goes 96 = .ok (.iload_n 1, 1) := dk_27 (dk_at dksX5_goes_4 3 rfl rfl)
theorem dX5_goes_97 : decode cX5_goes 97 = .ok (.iconst 2, 1) := dk_5 (dk_at dksX5_goes_4 4 rfl rfl)
theorem dX5_goes_98 : decode cX5_goes 98 = .ok (.iadd, 1) := dk_96 (dk_at dksX5_goes_4 5 rfl rfl)
theorem dX5_goes_99 : decode cX5_goes 99 = .ok (.dup2, 1) := dk_92 (dk_at dksX5_goes_4 6 rfl rfl)
theorem dX5_goes_100 : decode cX5_goes 100 = .ok (.iaload, 1) := dk_46 (dk_at dksX5_goes_4 7 rfl rfl)
theorem dX5_goes_101 : decode cX5_goes 101 = .ok (.iconst 1, 1) := dk_4 (dk_at dksX5_goes_4 8 rfl rfl)
theorem dX5_goes_102 : decode cX5_goes 102 = .ok (.iadd, 1) := dk_96 (dk_at dksX5_goes_4 9 rfl rfl)
theorem dX5_goes_103 : decode cX5_goes 103 = .ok (.iastore, 1) := dk_79 (dk_at dksX5_goes_4 10 rfl rfl)
theorem dX5_goes_104 : decode cX5_goes 104 = .ok (.iload_n 3, 1) := dk_29 (dk_at dksX5_goes_4 11 rfl rfl)
theorem dX5_goes_105 : decode cX5_goes 105 = .ok (.ifCond .lt 49, 3) := dk_155 0 49 (dk_at dksX5_goes_4 12 rfl rfl)
theorem dX5_goes_108 : decode cX5_goes 108 = .ok (.aload_n 0, 1) := dk_42 (dk_at dksX5_goes_4 15 rfl rfl)
theorem dX5_goes_109 : decode cX5_goes 109 = .ok (.getfield 30, 3) := dk_180 0 30 (dk_at dksX5_goes_4 16 rfl rfl)
theorem dX5_goes_112 : decode cX5_goes 112 = .ok (.iload_n 1, 1) := dk_27 (dk_at dksX5_goes_4 19 rfl rfl)
theorem dX5_goes_113 : decode cX5_goes 113 = .ok (.iconst 3, 1) := dk_6 (dk_at dksX5_goes_4 20 rfl rfl)
theorem dX5_goes_114 : decode cX5_goes 114 = .ok (.iadd, 1) := dk_96 (dk_at dksX5_goes_4 21 rfl rfl)
theorem dX5_goes_115 : decode cX5_goes 115 = .ok (.iload_n 3, 1) := dk_29 (dk_at dksX5_goes_4 22 rfl rfl)
theorem dX5_goes_116 : decode cX5_goes 116 = .ok (.iastore, 1) := dk_79 (dk_at dksX5_goes_4 23 rfl rfl)
theorem dX5_goes_117 : decode cX5_goes 117 = .ok (.aload_n 0, 1) := dk_42 (dk_at dksX5_goes_5 0 rfl rfl)
theorem dX5_goes_118 : decode cX5_goes 118 = .ok (.getfield 30, 3) := dk_180 0 30 (dk_at dksX5_goes_5 1 rfl rfl)
theorem dX5_goes_121 : decode cX5_goes 121 = .ok (.iload_n 1, 1) := dk_27 (dk_at dksX5_goes_5 4 rfl rfl)
theorem dX5_goes_122 : decode cX5_goes 122 = .ok (.iconst 4, 1) := dk_7 (dk_at dksX5_goes_5 5 rfl rfl)
theorem dX5_goes_123 : decode cX5_goes 123 = .ok (.iadd, 1) := dk_96 (dk_at dksX5_goes_5 6 rfl rfl)
theorem dX5_goes_124 : decode cX5_goes 124 = .ok (.aload_n 0, 1) := dk_42 (dk_at dksX5_goes_5 7 rfl rfl)
theorem dX5_goes_125 : decode cX5_goes 125 = .ok (.getfield 359, 3) := dk_180 1 103 (dk_at dksX5_goes_5 8 rfl rfl)
theorem dX5_goes_128 : decode cX5_goes 128 = .ok (.iastore, 1) := dk_79 (dk_at dksX5_goes_5 11 rfl rfl)
theorem dX5_goes_129 : decode cX5_goes 129 = .ok (.aload_n 0, 1) := dk_42 (dk_at dksX5_goes_5 12 rfl rfl)
theorem dX5_goes_130 : decode cX5_goes 130 = .ok (.getfield 30, 3) := dk_180 0 30 (dk_at dksX5_goes_5 13 rfl rfl)
theorem dX5_goes_133 : decode cX5_goes 133 = .ok (.iload_n 1, 1) := dk_27 (dk_at dksX5_goes_5 16 rfl rfl)
theorem dX5_goes_134 : decode cX5_goes 134 = .ok (.aload_n 0, 1) := dk_42 (dk_at dksX5_goes_5 17 rfl rfl)
theorem dX5_goes_135 : decode cX5_goes 135 = .ok (.aload_n 0, 1) := dk_42 (dk_at dksX5_goes_5 18 rfl rfl)
theorem dX5_goes_136 : decode cX5_goes 136 = .ok (.getfield 359, 3) := dk_180 1 103 (dk_at dksX5_goes_5 19 rfl rfl)
theorem dX5_goes_139 : decode cX5_goes 139 = .ok (.iload_n 3, 1) := dk_29 (dk_at dksX5_goes_5 22 rfl rfl)
theorem dX5_goes_140 : decode cX5_goes 140 = .ok (.invokevirtual 380, 3) := dk_182 1 124 (dk_at dksX5_goes_6 0 rfl rfl)
theorem dX5_goes_143 : decode cX5_goes 143 = .ok (.iastore, 1) := dk_79 (dk_at dksX5_goes_6 3 rfl rfl)
theorem dX5_goes_144 : decode cX5_goes 144 = .ok (.aload_n 0, 1) := dk_42 (dk_at dksX5_goes_6 4 rfl rfl)
theorem dX5_goes_145 : decode cX5_goes 145 = .ok (.aload_n 0, 1) := dk_42 (dk_at dksX5_goes_6 5 rfl rfl)
theorem dX5_goes_146 : decode cX5_goes 146 = .ok (.getfield 30, 3) := dk_180 0 30 (dk_at dksX5_goes_6 6 rfl rfl)
theorem dX5_goes_149 : decode cX5_goes 149 = .ok (.iload_n 1, 1) := dk_27 (dk_at dksX5_goes_6 9 rfl rfl)
theorem dX5_goes_150 : decode cX5_goes 150 = .ok (.iaload, 1) := dk_46 (dk_at dksX5_goes_6 10 rfl rfl)
theorem dX5_goes_151 : decode cX5_goes 151 = .ok (.invokevirtual 417, 3) := dk_182 1 161 (dk_at dksX5_goes_6 11 rfl rfl)
theorem dX5_goes_154 : decode cX5_goes 154 = .ok (.aload_n 0, 1) := dk_42 (dk_at dksX5_goes_6 14 rfl rfl)
theorem dX5_goes_155 : decode cX5_goes 155 = .ok (.getfield 30, 3) := dk_180 0 30 (dk_at dksX5_goes_6 15 rfl rfl)
theorem dX5_goes_158 : decode cX5_goes 158 = .ok (.iload_n 1, 1) := dk_27 (dk_at dksX5_goes_6 18 rfl rfl)
theorem dX5_goes_159 : decode cX5_goes 159 = .ok (.iaload, 1) := dk_46 (dk_at dksX5_goes_6 19 rfl rfl)
theorem dX5_goes_160 : decode cX5_goes 160 = .ok (.aload_n 0, 1) := dk_42 (dk_at dksX5_goes_6 20 rfl rfl)
theorem dX5_goes_161 : decode cX5_goes 161 = .ok (.getfield 383, 3) := dk_180 1 127 (dk_at dksX5_goes_6 21 rfl rfl)
theorem dX5_goes_164 : decode cX5_goes 164 = .ok (.if_icmp .ne 27, 3) := dk_160 0 27 (dk_at dksX5_goes_7 0 rfl rfl)
theorem dX5_goes_167 : decode cX5_goes 167 = .ok (.aload_n 0, 1) := dk_42 (dk_at dksX5_goes_7 3 rfl rfl)
theorem dX5_goes_168 : decode cX5_goes 168 = .ok (.getfield 30, 3) := dk_180 0 30 (dk_at dksX5_goes_7 4 rfl rfl)
theorem dX5_goes_171 : decode cX5_goes 171 = .ok (.sipush 519, 3) := dk_17 2 7 (dk_at dksX5_goes_7 7 rfl rfl)
theorem dX5_goes_174 : decode cX5_goes 174 = .ok (.dup2, 1) := dk_92 (dk_at dksX5_goes_7 10 rfl rfl)
theorem dX5_goes_175 : decode cX5_goes 175 = .ok (.iaload, 1) := dk_46 (dk_at dksX5_goes_7 11 rfl rfl)
theorem dX5_goes_176 : decode cX5_goes 176 = .ok (.iconst 1, 1) := dk_4 (dk_at dksX5_goes_7 12 rfl rfl)
theorem dX5_goes_177 : decode cX5_goes 177 = .ok (.iadd, 1) := dk_96 (dk_at dksX5_goes_7 13 rfl rfl)
theorem dX5_goes_178 : decode cX5_goes 178 = .ok (.iastore, 1) := dk_79 (dk_at dksX5_goes_7 14 rfl rfl)
theorem dX5_goes_179 : decode cX5_goes 179 = .ok (.aload_n 0, 1) := dk_42 (dk_at dksX5_goes_7 15 rfl rfl)
theorem dX5_goes_180 : decode cX5_goes 180 = .ok (.dup, 1) := dk_89 (dk_at dksX5_goes_7 16 rfl rfl)
theorem dX5_goes_181 : decode cX5_goes 181 = .ok (.getfield 420, 3) := dk_180 1 164 (dk_at dksX5_goes_7 17 rfl rfl)
theorem dX5_goes_184 : decode cX5_goes 184 = .ok (.iconst 1, 1) := dk_4 (dk_at dksX5_goes_7 20 rfl rfl)
theorem dX5_goes_185 : decode cX5_goes 185 = .ok (.iadd, 1) := dk_96 (dk_at dksX5_goes_7 21 rfl rfl)
theorem dX5_goes_186 : decode cX5_goes 186 = .ok (.putfield 420, 3) := dk_181 1 164 (dk_at dksX5_goes_8 0 rfl rfl)
theorem dX5_goes_189 : decode cX5_goes 189 = .ok (.iconst 0, 1) := dk_3 (dk_at dksX5_goes_8 3 rfl rfl)
theorem dX5_goes_190 : decode cX5_goes 190 = .ok (.ireturn, 1) := dk_172 (dk_at dksX5_goes_8 4 rfl rfl)
theorem dX5_goes_191 : decode cX5_goes 191 = .ok (.aload_n 0, 1) := dk_42 (dk_at dksX5_goes_8 5 rfl rfl)
theorem dX5_goes_192 : decode cX5_goes 192 = .ok (.getfield 30, 3) := dk_180 0 30 (dk_at dksX5_goes_8 6 rfl rfl)
theorem dX5_goes_195 : decode cX5_goes 195 = .ok (.iload_n 1, 1) := dk_27 (dk_at dksX5_goes_8 9 rfl rfl)
theorem dX5_goes_196 : decode cX5_goes 196 = .ok (.iconst 2, 1) := dk_5 (dk_at dksX5_goes_8 10 rfl rfl)
theorem dX5_goes_197 : decode cX5_goes 197 = .ok (.iadd, 1) := dk_96 (dk_at dksX5_goes_8 11 rfl rfl)
theorem dX5_goes_198 : decode cX5_goes 198 = .ok (.iaload, 1) := dk_46 (dk_at dksX5_goes_8 12 rfl rfl)
theorem dX5_goes_199 : decode cX5_goes 199 = .ok (.sipush 200, 3) := dk_17 0 200 (dk_at dksX5_goes_8 13 rfl rfl)
theorem dX5_goes_202 : decode cX5_goes 202 = .ok (.if_icmp .ge 5, 3) := dk_162 0 5 (dk_at dksX5_goes_8 16 rfl rfl)
theorem dX5_goes_205 : decode cX5_goes 205 = .ok (.iconst 1, 1) := dk_4 (dk_at dksX5_goes_8 19 rfl rfl)
theorem dX5_goes_206 : decode cX5_goes 206 = .ok (.ireturn, 1) := dk_172 (dk_at dksX5_goes_8 20 rfl rfl)
theorem dX5_goes_207 : decode cX5_goes 207 = .ok (.aload_n 0, 1) := dk_42 (dk_at dksX5_goes_8 21 rfl rfl)
theorem dX5_goes_208 : decode cX5_goes 208 = .ok (.getfield 30, 3) := dk_180 0 30 (dk_at dksX5_goes_9 0 rfl rfl)
theorem dX5_goes_211 : decode cX5_goes 211 = .ok (.sipush 520, 3) := dk_17 2 8 (dk_at dksX5_goes_9 3 rfl rfl)
theorem dX5_goes_214 : decode cX5_goes 214 = .ok (.dup2, 1) := dk_92 (dk_at dksX5_goes_9 6 rfl rfl)
theorem dX5_goes_215 : decode cX5_goes 215 = .ok (.iaload, 1) := dk_46 (dk_at dksX5_goes_9 7 rfl rfl)
theorem dX5_goes_216 : decode cX5_goes 216 = .ok (.iconst 1, 1) := dk_4 (dk_at dksX5_goes_9 8 rfl rfl)
theorem dX5_goes_217 : decode cX5_goes 217 = .ok (.iadd, 1) := dk_96 (dk_at dksX5_goes_9 9 rfl rfl)
theorem dX5_goes_218 : decode cX5_goes 218 = .ok (.iastore, 1) := dk_79 (dk_at dksX5_goes_9 10 rfl rfl)
theorem dX5_goes_219 : decode cX5_goes 219 = .ok (.iconst 0, 1) := dk_3 (dk_at dksX5_goes_9 11 rfl rfl)
theorem dX5_goes_220 : decode cX5_goes 220 = .ok (.ireturn, 1) := dk_172 (dk_at dksX5_goes_9 12 rfl rfl)
abbrev cX5_choose : ByteArray := prog_12_method_69_code
def yX5_choose : MethodName := ⟨RX5, "choose", "()I"⟩
def dkwX5_choose_6 : List UInt8 := [132, 3, 1, 167, 255, 183, 27, 172]
abbrev dktX5_choose_6 : List UInt8 := dkwX5_choose_6 ++ []
def dkwX5_choose_5 : List UInt8 := [182, 1, 143, 54, 5, 27, 155, 0, 12, 21, 5, 28, 161, 0, 6, 167, 0, 8, 21, 5, 61, 29, 60]
abbrev dktX5_choose_5 : List UInt8 := dkwX5_choose_5 ++ dktX5_choose_6
def dkwX5_choose_4 : List UInt8 := [21, 4, 182, 0, 158, 153, 0, 42, 42, 21, 4, 182, 1, 140, 153, 0, 6, 167, 0, 30, 42, 21, 4, 29]
abbrev dktX5_choose_4 : List UInt8 := dkwX5_choose_4 ++ dktX5_choose_5
def dkwX5_choose_3 : List UInt8 := [29, 16, 8, 162, 0, 73, 42, 42, 180, 1, 103, 29, 182, 1, 124, 54, 4, 21, 4, 155, 0, 51, 42]
abbrev dktX5_choose_3 : List UInt8 := dkwX5_choose_3 ++ dktX5_choose_4
def dkwX5_choose_2 : List UInt8 := [182, 1, 124, 42, 180, 1, 127, 160, 0, 5, 27, 172, 132, 1, 1, 167, 255, 229, 2, 60, 3, 61, 3, 62]
abbrev dktX5_choose_2 : List UInt8 := dkwX5_choose_2 ++ dktX5_choose_3
def dkwX5_choose_1 : List UInt8 := [180, 1, 127, 182, 1, 133, 5, 162, 0, 35, 3, 60, 27, 16, 8, 162, 0, 27, 42, 42, 180, 1, 103, 27]
abbrev dktX5_choose_1 : List UInt8 := dkwX5_choose_1 ++ dktX5_choose_2
def dkwX5_choose_0 : List UInt8 := [42, 42, 180, 1, 103, 42, 180, 1, 127, 182, 1, 130, 5, 162, 0, 51, 42, 42, 180, 1, 103, 42]
abbrev dktX5_choose_0 : List UInt8 := dkwX5_choose_0 ++ dktX5_choose_1
theorem dksX5_choose_0 : cX5_choose.data.toList.drop 0 = dktX5_choose_0 := by decide +kernel
theorem dksX5_choose_1 : cX5_choose.data.toList.drop 22 = dktX5_choose_1 := dk_seg dksX5_choose_0 22 rfl rfl
theorem dksX5_choose_2 : cX5_choose.data.toList.drop 46 = dktX5_choose_2 := dk_seg dksX5_choose_1 24 rfl rfl
theorem dksX5_choose_3 : cX5_choose.data.toList.drop 70 = dktX5_choose_3 := dk_seg dksX5_choose_2 24 rfl rfl
theorem dksX5_choose_4 : cX5_choose.data.toList.drop 93 = dktX5_choose_4 := dk_seg dksX5_choose_3 23 rfl rfl
theorem dksX5_choose_5 : cX5_choose.data.toList.drop 117 = dktX5_choose_5 := dk_seg dksX5_choose_4 24 rfl rfl
theorem dksX5_choose_6 : cX5_choose.data.toList.drop 140 = dktX5_choose_6 := dk_seg dksX5_choose_5 23 rfl rfl
theorem dX5_choose_0 : decode cX5_choose 0 = .ok (.aload_n 0, 1) := dk_42 (dk_at dksX5_choose_0 0 rfl rfl)
theorem dX5_choose_1 : decode cX5_choose 1 = .ok (.aload_n 0, 1) := dk_42 (dk_at dksX5_choose_0 1 rfl rfl)
theorem dX5_choose_2 : decode cX5_choose 2 = .ok (.getfield 359, 3) := dk_180 1 103 (dk_at dksX5_choose_0 2 rfl rfl)
theorem dX5_choose_5 : decode cX5_choose 5 = .ok (.aload_n 0, 1) := dk_42 (dk_at dksX5_choose_0 5 rfl rfl)
theorem dX5_choose_6 : decode cX5_choose 6 = .ok (.getfield 383, 3) := dk_180 1 127 (dk_at dksX5_choose_0 6 rfl rfl)
theorem dX5_choose_9 : decode cX5_choose 9 = .ok (.invokevirtual 386, 3) := dk_182 1 130 (dk_at dksX5_choose_0 9 rfl rfl)
theorem dX5_choose_12 : decode cX5_choose 12 = .ok (.iconst 2, 1) := dk_5 (dk_at dksX5_choose_0 12 rfl rfl)
theorem dX5_choose_13 : decode cX5_choose 13 = .ok (.if_icmp .ge 51, 3) := dk_162 0 51 (dk_at dksX5_choose_0 13 rfl rfl)
theorem dX5_choose_16 : decode cX5_choose 16 = .ok (.aload_n 0, 1) := dk_42 (dk_at dksX5_choose_0 16 rfl rfl)
theorem dX5_choose_17 : decode cX5_choose 17 = .ok (.aload_n 0, 1) := dk_42 (dk_at dksX5_choose_0 17 rfl rfl)
theorem dX5_choose_18 : decode cX5_choose 18 = .ok (.getfield 359, 3) := dk_180 1 103 (dk_at dksX5_choose_0 18 rfl rfl)
theorem dX5_choose_21 : decode cX5_choose 21 = .ok (.aload_n 0, 1) := dk_42 (dk_at dksX5_choose_0 21 rfl rfl)
theorem dX5_choose_22 : decode cX5_choose 22 = .ok (.getfield 383, 3) := dk_180 1 127 (dk_at dksX5_choose_1 0 rfl rfl)
theorem dX5_choose_25 : decode cX5_choose 25 = .ok (.invokevirtual 389, 3) := dk_182 1 133 (dk_at dksX5_choose_1 3 rfl rfl)
theorem dX5_choose_28 : decode cX5_choose 28 = .ok (.iconst 2, 1) := dk_5 (dk_at dksX5_choose_1 6 rfl rfl)
theorem dX5_choose_29 : decode cX5_choose 29 = .ok (.if_icmp .ge 35, 3) := dk_162 0 35 (dk_at dksX5_choose_1 7 rfl rfl)
theorem dX5_choose_32 : decode cX5_choose 32 = .ok (.iconst 0, 1) := dk_3 (dk_at dksX5_choose_1 10 rfl rfl)
theorem dX5_choose_33 : decode cX5_choose 33 = .ok (.istore_n 1, 1) := dk_60 (dk_at dksX5_choose_1 11 rfl rfl)
theorem dX5_choose_34 : decode cX5_choose 34 = .ok (.iload_n 1, 1) := dk_27 (dk_at dksX5_choose_1 12 rfl rfl)
theorem dX5_choose_35 : decode cX5_choose 35 = .ok (.bipush 8, 2) := dk_16 8 (dk_at dksX5_choose_1 13 rfl rfl)
theorem dX5_choose_37 : decode cX5_choose 37 = .ok (.if_icmp .ge 27, 3) := dk_162 0 27 (dk_at dksX5_choose_1 15 rfl rfl)
theorem dX5_choose_40 : decode cX5_choose 40 = .ok (.aload_n 0, 1) := dk_42 (dk_at dksX5_choose_1 18 rfl rfl)
theorem dX5_choose_41 : decode cX5_choose 41 = .ok (.aload_n 0, 1) := dk_42 (dk_at dksX5_choose_1 19 rfl rfl)
theorem dX5_choose_42 : decode cX5_choose 42 = .ok (.getfield 359, 3) := dk_180 1 103 (dk_at dksX5_choose_1 20 rfl rfl)
theorem dX5_choose_45 : decode cX5_choose 45 = .ok (.iload_n 1, 1) := dk_27 (dk_at dksX5_choose_1 23 rfl rfl)
theorem dX5_choose_46 : decode cX5_choose 46 = .ok (.invokevirtual 380, 3) := dk_182 1 124 (dk_at dksX5_choose_2 0 rfl rfl)
theorem dX5_choose_49 : decode cX5_choose 49 = .ok (.aload_n 0, 1) := dk_42 (dk_at dksX5_choose_2 3 rfl rfl)
theorem dX5_choose_50 : decode cX5_choose 50 = .ok (.getfield 383, 3) := dk_180 1 127 (dk_at dksX5_choose_2 4 rfl rfl)
theorem dX5_choose_53 : decode cX5_choose 53 = .ok (.if_icmp .ne 5, 3) := dk_160 0 5 (dk_at dksX5_choose_2 7 rfl rfl)
theorem dX5_choose_56 : decode cX5_choose 56 = .ok (.iload_n 1, 1) := dk_27 (dk_at dksX5_choose_2 10 rfl rfl)
theorem dX5_choose_57 : decode cX5_choose 57 = .ok (.ireturn, 1) := dk_172 (dk_at dksX5_choose_2 11 rfl rfl)
theorem dX5_choose_58 : decode cX5_choose 58 = .ok (.iinc 1 1, 3) := dk_132 1 1 (dk_at dksX5_choose_2 12 rfl rfl)
theorem dX5_choose_61 : decode cX5_choose 61 = .ok (.goto (-27), 3) := dk_167 255 229 (dk_at dksX5_choose_2 15 rfl rfl)
theorem dX5_choose_64 : decode cX5_choose 64 = .ok (.iconst (-1), 1) := dk_2 (dk_at dksX5_choose_2 18 rfl rfl)
theorem dX5_choose_65 : decode cX5_choose 65 = .ok (.istore_n 1, 1) := dk_60 (dk_at dksX5_choose_2 19 rfl rfl)
theorem dX5_choose_66 : decode cX5_choose 66 = .ok (.iconst 0, 1) := dk_3 (dk_at dksX5_choose_2 20 rfl rfl)
theorem dX5_choose_67 : decode cX5_choose 67 = .ok (.istore_n 2, 1) := dk_61 (dk_at dksX5_choose_2 21 rfl rfl)
theorem dX5_choose_68 : decode cX5_choose 68 = .ok (.iconst 0, 1) := dk_3 (dk_at dksX5_choose_2 22 rfl rfl)
theorem dX5_choose_69 : decode cX5_choose 69 = .ok (.istore_n 3, 1) := dk_62 (dk_at dksX5_choose_2 23 rfl rfl)
theorem dX5_choose_70 : decode cX5_choose 70 = .ok (.iload_n 3, 1) := dk_29 (dk_at dksX5_choose_3 0 rfl rfl)
theorem dX5_choose_71 : decode cX5_choose 71 = .ok (.bipush 8, 2) := dk_16 8 (dk_at dksX5_choose_3 1 rfl rfl)
theorem dX5_choose_73 : decode cX5_choose 73 = .ok (.if_icmp .ge 73, 3) := dk_162 0 73 (dk_at dksX5_choose_3 3 rfl rfl)
theorem dX5_choose_76 : decode cX5_choose 76 = .ok (.aload_n 0, 1) := dk_42 (dk_at dksX5_choose_3 6 rfl rfl)
theorem dX5_choose_77 : decode cX5_choose 77 = .ok (.aload_n 0, 1) := dk_42 (dk_at dksX5_choose_3 7 rfl rfl)
theorem dX5_choose_78 : decode cX5_choose 78 = .ok (.getfield 359, 3) := dk_180 1 103 (dk_at dksX5_choose_3 8 rfl rfl)
theorem dX5_choose_81 : decode cX5_choose 81 = .ok (.iload_n 3, 1) := dk_29 (dk_at dksX5_choose_3 11 rfl rfl)
theorem dX5_choose_82 : decode cX5_choose 82 = .ok (.invokevirtual 380, 3) := dk_182 1 124 (dk_at dksX5_choose_3 12 rfl rfl)
theorem dX5_choose_85 : decode cX5_choose 85 = .ok (.istore 4, 2) := dk_54 4 (dk_at dksX5_choose_3 15 rfl rfl)
theorem dX5_choose_87 : decode cX5_choose 87 = .ok (.iload 4, 2) := dk_21 4 (dk_at dksX5_choose_3 17 rfl rfl)
theorem dX5_choose_89 : decode cX5_choose 89 = .ok (.ifCond .lt 51, 3) := dk_155 0 51 (dk_at dksX5_choose_3 19 rfl rfl)
theorem dX5_choose_92 : decode cX5_choose 92 = .ok (.aload_n 0, 1) := dk_42 (dk_at dksX5_choose_3 22 rfl rfl)
theorem dX5_choose_93 : decode cX5_choose 93 = .ok (.iload 4, 2) := dk_21 4 (dk_at dksX5_choose_4 0 rfl rfl)
theorem dX5_choose_95 : decode cX5_choose 95 = .ok (.invokevirtual 158, 3) := dk_182 0 158 (dk_at dksX5_choose_4 2 rfl rfl)
theorem dX5_choose_98 : decode cX5_choose 98 = .ok (.ifCond .eq 42, 3) := dk_153 0 42 (dk_at dksX5_choose_4 5 rfl rfl)
theorem dX5_choose_101 : decode cX5_choose 101 = .ok (.aload_n 0, 1) := dk_42 (dk_at dksX5_choose_4 8 rfl rfl)
theorem dX5_choose_102 : decode cX5_choose 102 = .ok (.iload 4, 2) := dk_21 4 (dk_at dksX5_choose_4 9 rfl rfl)
theorem dX5_choose_104 : decode cX5_choose 104 = .ok (.invokevirtual 396, 3) := dk_182 1 140 (dk_at dksX5_choose_4 11 rfl rfl)
theorem dX5_choose_107 : decode cX5_choose 107 = .ok (.ifCond .eq 6, 3) := dk_153 0 6 (dk_at dksX5_choose_4 14 rfl rfl)
theorem dX5_choose_110 : decode cX5_choose 110 = .ok (.goto 30, 3) := dk_167 0 30 (dk_at dksX5_choose_4 17 rfl rfl)
theorem dX5_choose_113 : decode cX5_choose 113 = .ok (.aload_n 0, 1) := dk_42 (dk_at dksX5_choose_4 20 rfl rfl)
theorem dX5_choose_114 : decode cX5_choose 114 = .ok (.iload 4, 2) := dk_21 4 (dk_at dksX5_choose_4 21 rfl rfl)
theorem dX5_choose_116 : decode cX5_choose 116 = .ok (.iload_n 3, 1) := dk_29 (dk_at dksX5_choose_4 23 rfl rfl)
theorem dX5_choose_117 : decode cX5_choose 117 = .ok (.invokevirtual 399, 3) := dk_182 1 143 (dk_at dksX5_choose_5 0 rfl rfl)
theorem dX5_choose_120 : decode cX5_choose 120 = .ok (.istore 5, 2) := dk_54 5 (dk_at dksX5_choose_5 3 rfl rfl)
theorem dX5_choose_122 : decode cX5_choose 122 = .ok (.iload_n 1, 1) := dk_27 (dk_at dksX5_choose_5 5 rfl rfl)
theorem dX5_choose_123 : decode cX5_choose 123 = .ok (.ifCond .lt 12, 3) := dk_155 0 12 (dk_at dksX5_choose_5 6 rfl rfl)
theorem dX5_choose_126 : decode cX5_choose 126 = .ok (.iload 5, 2) := dk_21 5 (dk_at dksX5_choose_5 9 rfl rfl)
theorem dX5_choose_128 : decode cX5_choose 128 = .ok (.iload_n 2, 1) := dk_28 (dk_at dksX5_choose_5 11 rfl rfl)
theorem dX5_choose_129 : decode cX5_choose 129 = .ok (.if_icmp .lt 6, 3) := dk_161 0 6 (dk_at dksX5_choose_5 12 rfl rfl)
theorem dX5_choose_132 : decode cX5_choose 132 = .ok (.goto 8, 3) := dk_167 0 8 (dk_at dksX5_choose_5 15 rfl rfl)
theorem dX5_choose_135 : decode cX5_choose 135 = .ok (.iload 5, 2) := dk_21 5 (dk_at dksX5_choose_5 18 rfl rfl)
theorem dX5_choose_137 : decode cX5_choose 137 = .ok (.istore_n 2, 1) := dk_61 (dk_at dksX5_choose_5 20 rfl rfl)
theorem dX5_choose_138 : decode cX5_choose 138 = .ok (.iload_n 3, 1) := dk_29 (dk_at dksX5_choose_5 21 rfl rfl)
theorem dX5_choose_139 : decode cX5_choose 139 = .ok (.istore_n 1, 1) := dk_60 (dk_at dksX5_choose_5 22 rfl rfl)
theorem dX5_choose_140 : decode cX5_choose 140 = .ok (.iinc 3 1, 3) := dk_132 3 1 (dk_at dksX5_choose_6 0 rfl rfl)
theorem dX5_choose_143 : decode cX5_choose 143 = .ok (.goto (-73), 3) := dk_167 255 183 (dk_at dksX5_choose_6 3 rfl rfl)
theorem dX5_choose_146 : decode cX5_choose 146 = .ok (.iload_n 1, 1) := dk_27 (dk_at dksX5_choose_6 6 rfl rfl)
theorem dX5_choose_147 : decode cX5_choose 147 = .ok (.ireturn, 1) := dk_172 (dk_at dksX5_choose_6 7 rfl rfl)
abbrev cX5_across : ByteArray := prog_12_method_62_code
def yX5_across : MethodName := ⟨RX5, "across", "(II)I"⟩
def dkwX5_across_0 : List UInt8 := [27, 42, 180, 0, 30, 3, 46, 112, 28, 42, 180, 0, 30, 3, 46, 112, 100, 184, 1, 97, 172]
abbrev dktX5_across_0 : List UInt8 := dkwX5_across_0 ++ []
theorem dksX5_across_0 : cX5_across.data.toList.drop 0 = dktX5_across_0 := by decide +kernel
theorem dX5_across_0 : decode cX5_across 0 = .ok (.iload_n 1, 1) := dk_27 (dk_at dksX5_across_0 0 rfl rfl)
theorem dX5_across_1 : decode cX5_across 1 = .ok (.aload_n 0, 1) := dk_42 (dk_at dksX5_across_0 1 rfl rfl)
theorem dX5_across_2 : decode cX5_across 2 = .ok (.getfield 30, 3) := dk_180 0 30 (dk_at dksX5_across_0 2 rfl rfl)
theorem dX5_across_5 : decode cX5_across 5 = .ok (.iconst 0, 1) := dk_3 (dk_at dksX5_across_0 5 rfl rfl)
theorem dX5_across_6 : decode cX5_across 6 = .ok (.iaload, 1) := dk_46 (dk_at dksX5_across_0 6 rfl rfl)
theorem dX5_across_7 : decode cX5_across 7 = .ok (.irem, 1) := dk_112 (dk_at dksX5_across_0 7 rfl rfl)
theorem dX5_across_8 : decode cX5_across 8 = .ok (.iload_n 2, 1) := dk_28 (dk_at dksX5_across_0 8 rfl rfl)
theorem dX5_across_9 : decode cX5_across 9 = .ok (.aload_n 0, 1) := dk_42 (dk_at dksX5_across_0 9 rfl rfl)
theorem dX5_across_10 : decode cX5_across 10 = .ok (.getfield 30, 3) := dk_180 0 30 (dk_at dksX5_across_0 10 rfl rfl)
theorem dX5_across_13 : decode cX5_across 13 = .ok (.iconst 0, 1) := dk_3 (dk_at dksX5_across_0 13 rfl rfl)
theorem dX5_across_14 : decode cX5_across 14 = .ok (.iaload, 1) := dk_46 (dk_at dksX5_across_0 14 rfl rfl)
theorem dX5_across_15 : decode cX5_across 15 = .ok (.irem, 1) := dk_112 (dk_at dksX5_across_0 15 rfl rfl)
theorem dX5_across_16 : decode cX5_across 16 = .ok (.isub, 1) := dk_100 (dk_at dksX5_across_0 16 rfl rfl)
theorem dX5_across_17 : decode cX5_across 17 = .ok (.invokestatic 353, 3) := dk_184 1 97 (dk_at dksX5_across_0 17 rfl rfl)
theorem dX5_across_20 : decode cX5_across 20 = .ok (.ireturn, 1) := dk_172 (dk_at dksX5_across_0 20 rfl rfl)
abbrev cX5_plain : ByteArray := prog_12_method_8_code
def yX5_plain : MethodName := ⟨RX5, "plain", "(I)I"⟩
def dkwX5_plain_0 : List UInt8 := [26, 156, 0, 8, 26, 116, 167, 0, 4, 26, 172]
abbrev dktX5_plain_0 : List UInt8 := dkwX5_plain_0 ++ []
theorem dksX5_plain_0 : cX5_plain.data.toList.drop 0 = dktX5_plain_0 := by decide +kernel
theorem dX5_plain_0 : decode cX5_plain 0 = .ok (.iload_n 0, 1) := dk_26 (dk_at dksX5_plain_0 0 rfl rfl)
theorem dX5_plain_1 : decode cX5_plain 1 = .ok (.ifCond .ge 8, 3) := dk_156 0 8 (dk_at dksX5_plain_0 1 rfl rfl)
theorem dX5_plain_4 : decode cX5_plain 4 = .ok (.iload_n 0, 1) := dk_26 (dk_at dksX5_plain_0 4 rfl rfl)
theorem dX5_plain_5 : decode cX5_plain 5 = .ok (.ineg, 1) := dk_116 (dk_at dksX5_plain_0 5 rfl rfl)
theorem dX5_plain_6 : decode cX5_plain 6 = .ok (.goto 4, 3) := dk_167 0 4 (dk_at dksX5_plain_0 6 rfl rfl)
theorem dX5_plain_9 : decode cX5_plain 9 = .ok (.iload_n 0, 1) := dk_26 (dk_at dksX5_plain_0 9 rfl rfl)
theorem dX5_plain_10 : decode cX5_plain 10 = .ok (.ireturn, 1) := dk_172 (dk_at dksX5_plain_0 10 rfl rfl)
abbrev cX5_along : ByteArray := prog_12_method_63_code
def yX5_along : MethodName := ⟨RX5, "along", "(II)I"⟩
def dkwX5_along_0 : List UInt8 := [27, 42, 180, 0, 30, 3, 46, 108, 28, 42, 180, 0, 30, 3, 46, 108, 100, 184, 1, 97, 172]
abbrev dktX5_along_0 : List UInt8 := dkwX5_along_0 ++ []
theorem dksX5_along_0 : cX5_along.data.toList.drop 0 = dktX5_along_0 := by decide +kernel
theorem dX5_along_0 : decode cX5_along 0 = .ok (.iload_n 1, 1) := dk_27 (dk_at dksX5_along_0 0 rfl rfl)
theorem dX5_along_1 : decode cX5_along 1 = .ok (.aload_n 0, 1) := dk_42 (dk_at dksX5_along_0 1 rfl rfl)
theorem dX5_along_2 : decode cX5_along 2 = .ok (.getfield 30, 3) := dk_180 0 30 (dk_at dksX5_along_0 2 rfl rfl)
theorem dX5_along_5 : decode cX5_along 5 = .ok (.iconst 0, 1) := dk_3 (dk_at dksX5_along_0 5 rfl rfl)
theorem dX5_along_6 : decode cX5_along 6 = .ok (.iaload, 1) := dk_46 (dk_at dksX5_along_0 6 rfl rfl)
theorem dX5_along_7 : decode cX5_along 7 = .ok (.idiv, 1) := dk_108 (dk_at dksX5_along_0 7 rfl rfl)
theorem dX5_along_8 : decode cX5_along 8 = .ok (.iload_n 2, 1) := dk_28 (dk_at dksX5_along_0 8 rfl rfl)
theorem dX5_along_9 : decode cX5_along 9 = .ok (.aload_n 0, 1) := dk_42 (dk_at dksX5_along_0 9 rfl rfl)
theorem dX5_along_10 : decode cX5_along 10 = .ok (.getfield 30, 3) := dk_180 0 30 (dk_at dksX5_along_0 10 rfl rfl)
theorem dX5_along_13 : decode cX5_along 13 = .ok (.iconst 0, 1) := dk_3 (dk_at dksX5_along_0 13 rfl rfl)
theorem dX5_along_14 : decode cX5_along 14 = .ok (.iaload, 1) := dk_46 (dk_at dksX5_along_0 14 rfl rfl)
theorem dX5_along_15 : decode cX5_along 15 = .ok (.idiv, 1) := dk_108 (dk_at dksX5_along_0 15 rfl rfl)
theorem dX5_along_16 : decode cX5_along 16 = .ok (.isub, 1) := dk_100 (dk_at dksX5_along_0 16 rfl rfl)
theorem dX5_along_17 : decode cX5_along 17 = .ok (.invokestatic 353, 3) := dk_184 1 97 (dk_at dksX5_along_0 17 rfl rfl)
theorem dX5_along_20 : decode cX5_along 20 = .ok (.ireturn, 1) := dk_172 (dk_at dksX5_along_0 20 rfl rfl)
abbrev cX5_beside : ByteArray := prog_12_method_61_code
def yX5_beside : MethodName := ⟨RX5, "beside", "(II)I"⟩
def dkwX5_beside_3 : List UInt8 := [29, 96, 167, 0, 4, 2, 172]
abbrev dktX5_beside_3 : List UInt8 := dkwX5_beside_3 ++ []
def dkwX5_beside_2 : List UInt8 := [3, 42, 180, 0, 30, 4, 46, 4, 100, 184, 0, 132, 153, 0, 17, 42, 180, 0, 30, 3, 46, 21, 4, 104]
abbrev dktX5_beside_2 : List UInt8 := dkwX5_beside_2 ++ dktX5_beside_3
def dkwX5_beside_1 : List UInt8 := [184, 1, 94, 96, 54, 4, 29, 3, 42, 180, 0, 30, 3, 46, 4, 100, 184, 0, 132, 153, 0, 34, 21, 4]
abbrev dktX5_beside_1 : List UInt8 := dkwX5_beside_1 ++ dktX5_beside_2
def dkwX5_beside_0 : List UInt8 := [27, 42, 180, 0, 30, 3, 46, 112, 28, 184, 1, 91, 96, 62, 27, 42, 180, 0, 30, 3, 46, 108, 28]
abbrev dktX5_beside_0 : List UInt8 := dkwX5_beside_0 ++ dktX5_beside_1
theorem dksX5_beside_0 : cX5_beside.data.toList.drop 0 = dktX5_beside_0 := by decide +kernel
theorem dksX5_beside_1 : cX5_beside.data.toList.drop 23 = dktX5_beside_1 := dk_seg dksX5_beside_0 23 rfl rfl
theorem dksX5_beside_2 : cX5_beside.data.toList.drop 47 = dktX5_beside_2 := dk_seg dksX5_beside_1 24 rfl rfl
theorem dksX5_beside_3 : cX5_beside.data.toList.drop 71 = dktX5_beside_3 := dk_seg dksX5_beside_2 24 rfl rfl
theorem dX5_beside_0 : decode cX5_beside 0 = .ok (.iload_n 1, 1) := dk_27 (dk_at dksX5_beside_0 0 rfl rfl)
theorem dX5_beside_1 : decode cX5_beside 1 = .ok (.aload_n 0, 1) := dk_42 (dk_at dksX5_beside_0 1 rfl rfl)
theorem dX5_beside_2 : decode cX5_beside 2 = .ok (.getfield 30, 3) := dk_180 0 30 (dk_at dksX5_beside_0 2 rfl rfl)
theorem dX5_beside_5 : decode cX5_beside 5 = .ok (.iconst 0, 1) := dk_3 (dk_at dksX5_beside_0 5 rfl rfl)
theorem dX5_beside_6 : decode cX5_beside 6 = .ok (.iaload, 1) := dk_46 (dk_at dksX5_beside_0 6 rfl rfl)
theorem dX5_beside_7 : decode cX5_beside 7 = .ok (.irem, 1) := dk_112 (dk_at dksX5_beside_0 7 rfl rfl)
theorem dX5_beside_8 : decode cX5_beside 8 = .ok (.iload_n 2, 1) := dk_28 (dk_at dksX5_beside_0 8 rfl rfl)
theorem dX5_beside_9 : decode cX5_beside 9 = .ok (.invokestatic 347, 3) := dk_184 1 91 (dk_at dksX5_beside_0 9 rfl rfl)
theorem dX5_beside_12 : decode cX5_beside 12 = .ok (.iadd, 1) := dk_96 (dk_at dksX5_beside_0 12 rfl rfl)
theorem dX5_beside_13 : decode cX5_beside 13 = .ok (.istore_n 3, 1) := dk_62 (dk_at dksX5_beside_0 13 rfl rfl)
theorem dX5_beside_14 : decode cX5_beside 14 = .ok (.iload_n 1, 1) := dk_27 (dk_at dksX5_beside_0 14 rfl rfl)
theorem dX5_beside_15 : decode cX5_beside 15 = .ok (.aload_n 0, 1) := dk_42 (dk_at dksX5_beside_0 15 rfl rfl)
theorem dX5_beside_16 : decode cX5_beside 16 = .ok (.getfield 30, 3) := dk_180 0 30 (dk_at dksX5_beside_0 16 rfl rfl)
theorem dX5_beside_19 : decode cX5_beside 19 = .ok (.iconst 0, 1) := dk_3 (dk_at dksX5_beside_0 19 rfl rfl)
theorem dX5_beside_20 : decode cX5_beside 20 = .ok (.iaload, 1) := dk_46 (dk_at dksX5_beside_0 20 rfl rfl)
theorem dX5_beside_21 : decode cX5_beside 21 = .ok (.idiv, 1) := dk_108 (dk_at dksX5_beside_0 21 rfl rfl)
theorem dX5_beside_22 : decode cX5_beside 22 = .ok (.iload_n 2, 1) := dk_28 (dk_at dksX5_beside_0 22 rfl rfl)
theorem dX5_beside_23 : decode cX5_beside 23 = .ok (.invokestatic 350, 3) := dk_184 1 94 (dk_at dksX5_beside_1 0 rfl rfl)
theorem dX5_beside_26 : decode cX5_beside 26 = .ok (.iadd, 1) := dk_96 (dk_at dksX5_beside_1 3 rfl rfl)
theorem dX5_beside_27 : decode cX5_beside 27 = .ok (.istore 4, 2) := dk_54 4 (dk_at dksX5_beside_1 4 rfl rfl)
theorem dX5_beside_29 : decode cX5_beside 29 = .ok (.iload_n 3, 1) := dk_29 (dk_at dksX5_beside_1 6 rfl rfl)
theorem dX5_beside_30 : decode cX5_beside 30 = .ok (.iconst 0, 1) := dk_3 (dk_at dksX5_beside_1 7 rfl rfl)
theorem dX5_beside_31 : decode cX5_beside 31 = .ok (.aload_n 0, 1) := dk_42 (dk_at dksX5_beside_1 8 rfl rfl)
theorem dX5_beside_32 : decode cX5_beside 32 = .ok (.getfield 30, 3) := dk_180 0 30 (dk_at dksX5_beside_1 9 rfl rfl)
theorem dX5_beside_35 : decode cX5_beside 35 = .ok (.iconst 0, 1) := dk_3 (dk_at dksX5_beside_1 12 rfl rfl)
theorem dX5_beside_36 : decode cX5_beside 36 = .ok (.iaload, 1) := dk_46 (dk_at dksX5_beside_1 13 rfl rfl)
theorem dX5_beside_37 : decode cX5_beside 37 = .ok (.iconst 1, 1) := dk_4 (dk_at dksX5_beside_1 14 rfl rfl)
theorem dX5_beside_38 : decode cX5_beside 38 = .ok (.isub, 1) := dk_100 (dk_at dksX5_beside_1 15 rfl rfl)
theorem dX5_beside_39 : decode cX5_beside 39 = .ok (.invokestatic 132, 3) := dk_184 0 132 (dk_at dksX5_beside_1 16 rfl rfl)
theorem dX5_beside_42 : decode cX5_beside 42 = .ok (.ifCond .eq 34, 3) := dk_153 0 34 (dk_at dksX5_beside_1 19 rfl rfl)
theorem dX5_beside_45 : decode cX5_beside 45 = .ok (.iload 4, 2) := dk_21 4 (dk_at dksX5_beside_1 22 rfl rfl)
theorem dX5_beside_47 : decode cX5_beside 47 = .ok (.iconst 0, 1) := dk_3 (dk_at dksX5_beside_2 0 rfl rfl)
theorem dX5_beside_48 : decode cX5_beside 48 = .ok (.aload_n 0, 1) := dk_42 (dk_at dksX5_beside_2 1 rfl rfl)
theorem dX5_beside_49 : decode cX5_beside 49 = .ok (.getfield 30, 3) := dk_180 0 30 (dk_at dksX5_beside_2 2 rfl rfl)
theorem dX5_beside_52 : decode cX5_beside 52 = .ok (.iconst 1, 1) := dk_4 (dk_at dksX5_beside_2 5 rfl rfl)
theorem dX5_beside_53 : decode cX5_beside 53 = .ok (.iaload, 1) := dk_46 (dk_at dksX5_beside_2 6 rfl rfl)
theorem dX5_beside_54 : decode cX5_beside 54 = .ok (.iconst 1, 1) := dk_4 (dk_at dksX5_beside_2 7 rfl rfl)
theorem dX5_beside_55 : decode cX5_beside 55 = .ok (.isub, 1) := dk_100 (dk_at dksX5_beside_2 8 rfl rfl)
theorem dX5_beside_56 : decode cX5_beside 56 = .ok (.invokestatic 132, 3) := dk_184 0 132 (dk_at dksX5_beside_2 9 rfl rfl)
theorem dX5_beside_59 : decode cX5_beside 59 = .ok (.ifCond .eq 17, 3) := dk_153 0 17 (dk_at dksX5_beside_2 12 rfl rfl)
theorem dX5_beside_62 : decode cX5_beside 62 = .ok (.aload_n 0, 1) := dk_42 (dk_at dksX5_beside_2 15 rfl rfl)
theorem dX5_beside_63 : decode cX5_beside 63 = .ok (.getfield 30, 3) := dk_180 0 30 (dk_at dksX5_beside_2 16 rfl rfl)
theorem dX5_beside_66 : decode cX5_beside 66 = .ok (.iconst 0, 1) := dk_3 (dk_at dksX5_beside_2 19 rfl rfl)
theorem dX5_beside_67 : decode cX5_beside 67 = .ok (.iaload, 1) := dk_46 (dk_at dksX5_beside_2 20 rfl rfl)
theorem dX5_beside_68 : decode cX5_beside 68 = .ok (.iload 4, 2) := dk_21 4 (dk_at dksX5_beside_2 21 rfl rfl)
theorem dX5_beside_70 : decode cX5_beside 70 = .ok (.imul, 1) := dk_104 (dk_at dksX5_beside_2 23 rfl rfl)
theorem dX5_beside_71 : decode cX5_beside 71 = .ok (.iload_n 3, 1) := dk_29 (dk_at dksX5_beside_3 0 rfl rfl)
theorem dX5_beside_72 : decode cX5_beside 72 = .ok (.iadd, 1) := dk_96 (dk_at dksX5_beside_3 1 rfl rfl)
theorem dX5_beside_73 : decode cX5_beside 73 = .ok (.goto 4, 3) := dk_167 0 4 (dk_at dksX5_beside_3 2 rfl rfl)
theorem dX5_beside_76 : decode cX5_beside 76 = .ok (.iconst (-1), 1) := dk_2 (dk_at dksX5_beside_3 5 rfl rfl)
theorem dX5_beside_77 : decode cX5_beside 77 = .ok (.ireturn, 1) := dk_172 (dk_at dksX5_beside_3 6 rfl rfl)
abbrev cX5_east : ByteArray := prog_12_method_59_code
def yX5_east : MethodName := ⟨RX5, "east", "(I)I"⟩
def dkwX5_east_0 : List UInt8 := [26, 7, 112, 154, 0, 7, 3, 167, 0, 13, 26, 7, 162, 0, 7, 4, 167, 0, 4, 2, 172]
abbrev dktX5_east_0 : List UInt8 := dkwX5_east_0 ++ []
theorem dksX5_east_0 : cX5_east.data.toList.drop 0 = dktX5_east_0 := by decide +kernel
theorem dX5_east_0 : decode cX5_east 0 = .ok (.iload_n 0, 1) := dk_26 (dk_at dksX5_east_0 0 rfl rfl)
theorem dX5_east_1 : decode cX5_east 1 = .ok (.iconst 4, 1) := dk_7 (dk_at dksX5_east_0 1 rfl rfl)
theorem dX5_east_2 : decode cX5_east 2 = .ok (.irem, 1) := dk_112 (dk_at dksX5_east_0 2 rfl rfl)
theorem dX5_east_3 : decode cX5_east 3 = .ok (.ifCond .ne 7, 3) := dk_154 0 7 (dk_at dksX5_east_0 3 rfl rfl)
theorem dX5_east_6 : decode cX5_east 6 = .ok (.iconst 0, 1) := dk_3 (dk_at dksX5_east_0 6 rfl rfl)
theorem dX5_east_7 : decode cX5_east 7 = .ok (.goto 13, 3) := dk_167 0 13 (dk_at dksX5_east_0 7 rfl rfl)
theorem dX5_east_10 : decode cX5_east 10 = .ok (.iload_n 0, 1) := dk_26 (dk_at dksX5_east_0 10 rfl rfl)
theorem dX5_east_11 : decode cX5_east 11 = .ok (.iconst 4, 1) := dk_7 (dk_at dksX5_east_0 11 rfl rfl)
theorem dX5_east_12 : decode cX5_east 12 = .ok (.if_icmp .ge 7, 3) := dk_162 0 7 (dk_at dksX5_east_0 12 rfl rfl)
theorem dX5_east_15 : decode cX5_east 15 = .ok (.iconst 1, 1) := dk_4 (dk_at dksX5_east_0 15 rfl rfl)
theorem dX5_east_16 : decode cX5_east 16 = .ok (.goto 4, 3) := dk_167 0 4 (dk_at dksX5_east_0 16 rfl rfl)
theorem dX5_east_19 : decode cX5_east 19 = .ok (.iconst (-1), 1) := dk_2 (dk_at dksX5_east_0 19 rfl rfl)
theorem dX5_east_20 : decode cX5_east 20 = .ok (.ireturn, 1) := dk_172 (dk_at dksX5_east_0 20 rfl rfl)
abbrev cX5_south : ByteArray := prog_12_method_60_code
def yX5_south : MethodName := ⟨RX5, "south", "(I)I"⟩
def dkwX5_south_1 : List UInt8 := [2, 172]
abbrev dktX5_south_1 : List UInt8 := dkwX5_south_1 ++ []
def dkwX5_south_0 : List UInt8 := [26, 7, 112, 5, 160, 0, 7, 3, 167, 0, 17, 26, 6, 8, 184, 0, 132, 153, 0, 7, 4, 167, 0, 4]
abbrev dktX5_south_0 : List UInt8 := dkwX5_south_0 ++ dktX5_south_1
theorem dksX5_south_0 : cX5_south.data.toList.drop 0 = dktX5_south_0 := by decide +kernel
theorem dksX5_south_1 : cX5_south.data.toList.drop 24 = dktX5_south_1 := dk_seg dksX5_south_0 24 rfl rfl
theorem dX5_south_0 : decode cX5_south 0 = .ok (.iload_n 0, 1) := dk_26 (dk_at dksX5_south_0 0 rfl rfl)
theorem dX5_south_1 : decode cX5_south 1 = .ok (.iconst 4, 1) := dk_7 (dk_at dksX5_south_0 1 rfl rfl)
theorem dX5_south_2 : decode cX5_south 2 = .ok (.irem, 1) := dk_112 (dk_at dksX5_south_0 2 rfl rfl)
theorem dX5_south_3 : decode cX5_south 3 = .ok (.iconst 2, 1) := dk_5 (dk_at dksX5_south_0 3 rfl rfl)
theorem dX5_south_4 : decode cX5_south 4 = .ok (.if_icmp .ne 7, 3) := dk_160 0 7 (dk_at dksX5_south_0 4 rfl rfl)
theorem dX5_south_7 : decode cX5_south 7 = .ok (.iconst 0, 1) := dk_3 (dk_at dksX5_south_0 7 rfl rfl)
theorem dX5_south_8 : decode cX5_south 8 = .ok (.goto 17, 3) := dk_167 0 17 (dk_at dksX5_south_0 8 rfl rfl)
theorem dX5_south_11 : decode cX5_south 11 = .ok (.iload_n 0, 1) := dk_26 (dk_at dksX5_south_0 11 rfl rfl)
theorem dX5_south_12 : decode cX5_south 12 = .ok (.iconst 3, 1) := dk_6 (dk_at dksX5_south_0 12 rfl rfl)
theorem dX5_south_13 : decode cX5_south 13 = .ok (.iconst 5, 1) := dk_8 (dk_at dksX5_south_0 13 rfl rfl)
theorem dX5_south_14 : decode cX5_south 14 = .ok (.invokestatic 132, 3) := dk_184 0 132 (dk_at dksX5_south_0 14 rfl rfl)
theorem dX5_south_17 : decode cX5_south 17 = .ok (.ifCond .eq 7, 3) := dk_153 0 7 (dk_at dksX5_south_0 17 rfl rfl)
theorem dX5_south_20 : decode cX5_south 20 = .ok (.iconst 1, 1) := dk_4 (dk_at dksX5_south_0 20 rfl rfl)
theorem dX5_south_21 : decode cX5_south 21 = .ok (.goto 4, 3) := dk_167 0 4 (dk_at dksX5_south_0 21 rfl rfl)
theorem dX5_south_24 : decode cX5_south 24 = .ok (.iconst (-1), 1) := dk_2 (dk_at dksX5_south_1 0 rfl rfl)
theorem dX5_south_25 : decode cX5_south 25 = .ok (.ireturn, 1) := dk_172 (dk_at dksX5_south_1 1 rfl rfl)
abbrev cX5_mayNot : ByteArray := prog_12_method_68_code
def yX5_mayNot : MethodName := ⟨RX5, "mayNot", "(I)Z"⟩
def dkwX5_mayNot_2 : List UInt8 := [153, 0, 5, 4, 172, 132, 2, 1, 167, 255, 210, 3, 172]
abbrev dktX5_mayNot_2 : List UInt8 := dkwX5_mayNot_2 ++ []
def dkwX5_mayNot_1 : List UInt8 := [46, 96, 162, 0, 31, 42, 180, 0, 47, 28, 46, 16, 6, 160, 0, 14, 42, 28, 27, 182, 1, 81]
abbrev dktX5_mayNot_1 : List UInt8 := dkwX5_mayNot_1 ++ dktX5_mayNot_2
def dkwX5_mayNot_0 : List UInt8 := [16, 16, 42, 180, 1, 122, 104, 61, 28, 16, 16, 42, 180, 1, 122, 104, 42, 180, 0, 44, 42, 180, 1, 122]
abbrev dktX5_mayNot_0 : List UInt8 := dkwX5_mayNot_0 ++ dktX5_mayNot_1
theorem dksX5_mayNot_0 : cX5_mayNot.data.toList.drop 0 = dktX5_mayNot_0 := by decide +kernel
theorem dksX5_mayNot_1 : cX5_mayNot.data.toList.drop 24 = dktX5_mayNot_1 := dk_seg dksX5_mayNot_0 24 rfl rfl
theorem dksX5_mayNot_2 : cX5_mayNot.data.toList.drop 46 = dktX5_mayNot_2 := dk_seg dksX5_mayNot_1 22 rfl rfl
theorem dX5_mayNot_0 : decode cX5_mayNot 0 = .ok (.bipush 16, 2) := dk_16 16 (dk_at dksX5_mayNot_0 0 rfl rfl)
theorem dX5_mayNot_2 : decode cX5_mayNot 2 = .ok (.aload_n 0, 1) := dk_42 (dk_at dksX5_mayNot_0 2 rfl rfl)
theorem dX5_mayNot_3 : decode cX5_mayNot 3 = .ok (.getfield 378, 3) := dk_180 1 122 (dk_at dksX5_mayNot_0 3 rfl rfl)
theorem dX5_mayNot_6 : decode cX5_mayNot 6 = .ok (.imul, 1) := dk_104 (dk_at dksX5_mayNot_0 6 rfl rfl)
theorem dX5_mayNot_7 : decode cX5_mayNot 7 = .ok (.istore_n 2, 1) := dk_61 (dk_at dksX5_mayNot_0 7 rfl rfl)
theorem dX5_mayNot_8 : decode cX5_mayNot 8 = .ok (.iload_n 2, 1) := dk_28 (dk_at dksX5_mayNot_0 8 rfl rfl)
theorem dX5_mayNot_9 : decode cX5_mayNot 9 = .ok (.bipush 16, 2) := dk_16 16 (dk_at dksX5_mayNot_0 9 rfl rfl)
theorem dX5_mayNot_11 : decode cX5_mayNot 11 = .ok (.aload_n 0, 1) := dk_42 (dk_at dksX5_mayNot_0 11 rfl rfl)
theorem dX5_mayNot_12 : decode cX5_mayNot 12 = .ok (.getfield 378, 3) := dk_180 1 122 (dk_at dksX5_mayNot_0 12 rfl rfl)
theorem dX5_mayNot_15 : decode cX5_mayNot 15 = .ok (.imul, 1) := dk_104 (dk_at dksX5_mayNot_0 15 rfl rfl)
theorem dX5_mayNot_16 : decode cX5_mayNot 16 = .ok (.aload_n 0, 1) := dk_42 (dk_at dksX5_mayNot_0 16 rfl rfl)
theorem dX5_mayNot_17 : decode cX5_mayNot 17 = .ok (.getfield 44, 3) := dk_180 0 44 (dk_at dksX5_mayNot_0 17 rfl rfl)
theorem dX5_mayNot_20 : decode cX5_mayNot 20 = .ok (.aload_n 0, 1) := dk_42 (dk_at dksX5_mayNot_0 20 rfl rfl)
theorem dX5_mayNot_21 : decode cX5_mayNot 21 = .ok (.getfield 378, 3) := dk_180 1 122 (dk_at dksX5_mayNot_0 21 rfl rfl)
theorem dX5_mayNot_24 : decode cX5_mayNot 24 = .ok (.iaload, 1) := dk_46 (dk_at dksX5_mayNot_1 0 rfl rfl)
theorem dX5_mayNot_25 : decode cX5_mayNot 25 = .ok (.iadd, 1) := dk_96 (dk_at dksX5_mayNot_1 1 rfl rfl)
theorem dX5_mayNot_26 : decode cX5_mayNot 26 = .ok (.if_icmp .ge 31, 3) := dk_162 0 31 (dk_at dksX5_mayNot_1 2 rfl rfl)
theorem dX5_mayNot_29 : decode cX5_mayNot 29 = .ok (.aload_n 0, 1) := dk_42 (dk_at dksX5_mayNot_1 5 rfl rfl)
theorem dX5_mayNot_30 : decode cX5_mayNot 30 = .ok (.getfield 47, 3) := dk_180 0 47 (dk_at dksX5_mayNot_1 6 rfl rfl)
theorem dX5_mayNot_33 : decode cX5_mayNot 33 = .ok (.iload_n 2, 1) := dk_28 (dk_at dksX5_mayNot_1 9 rfl rfl)
theorem dX5_mayNot_34 : decode cX5_mayNot 34 = .ok (.iaload, 1) := dk_46 (dk_at dksX5_mayNot_1 10 rfl rfl)
theorem dX5_mayNot_35 : decode cX5_mayNot 35 = .ok (.bipush 6, 2) := dk_16 6 (dk_at dksX5_mayNot_1 11 rfl rfl)
theorem dX5_mayNot_37 : decode cX5_mayNot 37 = .ok (.if_icmp .ne 14, 3) := dk_160 0 14 (dk_at dksX5_mayNot_1 13 rfl rfl)
theorem dX5_mayNot_40 : decode cX5_mayNot 40 = .ok (.aload_n 0, 1) := dk_42 (dk_at dksX5_mayNot_1 16 rfl rfl)
theorem dX5_mayNot_41 : decode cX5_mayNot 41 = .ok (.iload_n 2, 1) := dk_28 (dk_at dksX5_mayNot_1 17 rfl rfl)
theorem dX5_mayNot_42 : decode cX5_mayNot 42 = .ok (.iload_n 1, 1) := dk_27 (dk_at dksX5_mayNot_1 18 rfl rfl)
theorem dX5_mayNot_43 : decode cX5_mayNot 43 = .ok (.invokevirtual 337, 3) := dk_182 1 81 (dk_at dksX5_mayNot_1 19 rfl rfl)
theorem dX5_mayNot_46 : decode cX5_mayNot 46 = .ok (.ifCond .eq 5, 3) := dk_153 0 5 (dk_at dksX5_mayNot_2 0 rfl rfl)
theorem dX5_mayNot_49 : decode cX5_mayNot 49 = .ok (.iconst 1, 1) := dk_4 (dk_at dksX5_mayNot_2 3 rfl rfl)
theorem dX5_mayNot_50 : decode cX5_mayNot 50 = .ok (.ireturn, 1) := dk_172 (dk_at dksX5_mayNot_2 4 rfl rfl)
theorem dX5_mayNot_51 : decode cX5_mayNot 51 = .ok (.iinc 2 1, 3) := dk_132 2 1 (dk_at dksX5_mayNot_2 5 rfl rfl)
theorem dX5_mayNot_54 : decode cX5_mayNot 54 = .ok (.goto (-46), 3) := dk_167 255 210 (dk_at dksX5_mayNot_2 8 rfl rfl)
theorem dX5_mayNot_57 : decode cX5_mayNot 57 = .ok (.iconst 0, 1) := dk_3 (dk_at dksX5_mayNot_2 11 rfl rfl)
theorem dX5_mayNot_58 : decode cX5_mayNot 58 = .ok (.ireturn, 1) := dk_172 (dk_at dksX5_mayNot_2 12 rfl rfl)
abbrev cX5_holds : ByteArray := prog_12_method_54_code
def yX5_holds : MethodName := ⟨RX5, "holds", "(II)Z"⟩
def dkwX5_holds_15 : List UInt8 := [84, 132, 4, 1, 132, 5, 1, 167, 254, 194, 42, 180, 0, 83, 3, 51, 172]
abbrev dktX5_holds_15 : List UInt8 := dkwX5_holds_15 ++ []
def dkwX5_holds_14 : List UInt8 := [167, 0, 24, 3, 167, 0, 20, 21, 7, 42, 180, 0, 68, 21, 5, 46, 164, 0, 7, 4, 167, 0, 4, 3]
abbrev dktX5_holds_14 : List UInt8 := dkwX5_holds_14 ++ dktX5_holds_15
def dkwX5_holds_13 : List UInt8 := [180, 0, 65, 21, 5, 46, 16, 61, 160, 0, 23, 21, 7, 42, 180, 0, 68, 21, 5, 46, 160, 0, 7, 4]
abbrev dktX5_holds_13 : List UInt8 := dkwX5_holds_13 ++ dktX5_holds_14
def dkwX5_holds_12 : List UInt8 := [160, 0, 23, 21, 7, 42, 180, 0, 68, 21, 5, 46, 162, 0, 7, 4, 167, 0, 56, 3, 167, 0, 52, 42]
abbrev dktX5_holds_12 : List UInt8 := dkwX5_holds_12 ++ dktX5_holds_13
def dkwX5_holds_11 : List UInt8 := [162, 0, 13, 42, 28, 21, 6, 182, 1, 78, 167, 0, 84, 42, 180, 0, 65, 21, 5, 46, 16, 60]
abbrev dktX5_holds_11 : List UInt8 := dkwX5_holds_11 ++ dktX5_holds_12
def dkwX5_holds_10 : List UInt8 := [160, 0, 7, 5, 167, 0, 4, 8, 182, 0, 136, 54, 7, 42, 180, 0, 83, 21, 4, 21, 6, 16, 8]
abbrev dktX5_holds_10 : List UInt8 := dkwX5_holds_10 ++ dktX5_holds_11
def dkwX5_holds_9 : List UInt8 := [16, 8, 160, 0, 7, 6, 167, 0, 26, 21, 6, 16, 9, 160, 0, 7, 7, 167, 0, 15, 21, 6, 16, 10]
abbrev dktX5_holds_9 : List UInt8 := dkwX5_holds_9 ++ dktX5_holds_10
def dkwX5_holds_8 : List UInt8 := [167, 0, 4, 3, 84, 167, 0, 163, 21, 6, 16, 8, 162, 0, 7, 3, 167, 0, 42, 42, 28, 21, 6]
abbrev dktX5_holds_8 : List UInt8 := dkwX5_holds_8 ++ dktX5_holds_9
def dkwX5_holds_7 : List UInt8 := [42, 180, 0, 83, 21, 4, 4, 100, 51, 154, 0, 13, 42, 180, 0, 83, 21, 4, 51, 153, 0, 7, 4]
abbrev dktX5_holds_7 : List UInt8 := dkwX5_holds_7 ++ dktX5_holds_8
def dkwX5_holds_6 : List UInt8 := [4, 100, 51, 153, 0, 17, 42, 180, 0, 83, 21, 4, 51, 153, 0, 7, 4, 167, 0, 34, 3, 167, 0, 30]
abbrev dktX5_holds_6 : List UInt8 := dkwX5_holds_6 ++ dktX5_holds_7
def dkwX5_holds_5 : List UInt8 := [132, 4, 255, 42, 180, 0, 83, 21, 4, 4, 100, 21, 6, 16, 21, 160, 0, 33, 42, 180, 0, 83, 21, 4]
abbrev dktX5_holds_5 : List UInt8 := dkwX5_holds_5 ++ dktX5_holds_6
def dkwX5_holds_4 : List UInt8 := [167, 0, 4, 3, 84, 167, 1, 0, 21, 6, 16, 21, 159, 0, 10, 21, 6, 16, 22, 160, 0, 82]
abbrev dktX5_holds_4 : List UInt8 := dkwX5_holds_4 ++ dktX5_holds_5
def dkwX5_holds_3 : List UInt8 := [160, 0, 32, 42, 180, 0, 83, 21, 4, 4, 100, 42, 180, 0, 83, 21, 4, 4, 100, 51, 154, 0, 7, 4]
abbrev dktX5_holds_3 : List UInt8 := dkwX5_holds_3 ++ dktX5_holds_4
def dkwX5_holds_2 : List UInt8 := [180, 0, 59, 27, 46, 96, 162, 1, 51, 42, 180, 0, 62, 21, 5, 46, 54, 6, 21, 6, 16, 20]
abbrev dktX5_holds_2 : List UInt8 := dkwX5_holds_2 ++ dktX5_holds_3
def dkwX5_holds_1 : List UInt8 := [54, 4, 17, 0, 200, 29, 104, 42, 180, 0, 56, 27, 46, 96, 54, 5, 21, 5, 17, 0, 200, 29, 104, 42]
abbrev dktX5_holds_1 : List UInt8 := dkwX5_holds_1 ++ dktX5_holds_2
def dkwX5_holds_0 : List UInt8 := [27, 16, 16, 108, 62, 42, 180, 0, 56, 27, 46, 42, 180, 0, 59, 27, 46, 160, 0, 5, 4, 172, 3]
abbrev dktX5_holds_0 : List UInt8 := dkwX5_holds_0 ++ dktX5_holds_1
theorem dksX5_holds_0 : cX5_holds.data.toList.drop 0 = dktX5_holds_0 := by decide +kernel
theorem dksX5_holds_1 : cX5_holds.data.toList.drop 23 = dktX5_holds_1 := dk_seg dksX5_holds_0 23 rfl rfl
theorem dksX5_holds_2 : cX5_holds.data.toList.drop 47 = dktX5_holds_2 := dk_seg dksX5_holds_1 24 rfl rfl
theorem dksX5_holds_3 : cX5_holds.data.toList.drop 69 = dktX5_holds_3 := dk_seg dksX5_holds_2 22 rfl rfl
theorem dksX5_holds_4 : cX5_holds.data.toList.drop 93 = dktX5_holds_4 := dk_seg dksX5_holds_3 24 rfl rfl
theorem dksX5_holds_5 : cX5_holds.data.toList.drop 115 = dktX5_holds_5 := dk_seg dksX5_holds_4 22 rfl rfl
theorem dksX5_holds_6 : cX5_holds.data.toList.drop 139 = dktX5_holds_6 := dk_seg dksX5_holds_5 24 rfl rfl
theorem dksX5_holds_7 : cX5_holds.data.toList.drop 163 = dktX5_holds_7 := dk_seg dksX5_holds_6 24 rfl rfl
theorem dksX5_holds_8 : cX5_holds.data.toList.drop 186 = dktX5_holds_8 := dk_seg dksX5_holds_7 23 rfl rfl
theorem dksX5_holds_9 : cX5_holds.data.toList.drop 209 = dktX5_holds_9 := dk_seg dksX5_holds_8 23 rfl rfl
theorem dksX5_holds_10 : cX5_holds.data.toList.drop 233 = dktX5_holds_10 := dk_seg dksX5_holds_9 24 rfl rfl
theorem dksX5_holds_11 : cX5_holds.data.toList.drop 256 = dktX5_holds_11 := dk_seg dksX5_holds_10 23 rfl rfl
theorem dksX5_holds_12 : cX5_holds.data.toList.drop 278 = dktX5_holds_12 := dk_seg dksX5_holds_11 22 rfl rfl
theorem dksX5_holds_13 : cX5_holds.data.toList.drop 302 = dktX5_holds_13 := dk_seg dksX5_holds_12 24 rfl rfl
theorem dksX5_holds_14 : cX5_holds.data.toList.drop 326 = dktX5_holds_14 := dk_seg dksX5_holds_13 24 rfl rfl
theorem dksX5_holds_15 : cX5_holds.data.toList.drop 350 = dktX5_holds_15 := dk_seg dksX5_holds_14 24 rfl rfl
theorem dX5_holds_0 : decode cX5_holds 0 = .ok (.iload_n 1, 1) := dk_27 (dk_at dksX5_holds_0 0 rfl rfl)
theorem dX5_holds_1 : decode cX5_holds 1 = .ok (.bipush 16, 2) := dk_16 16 (dk_at dksX5_holds_0 1 rfl rfl)
theorem dX5_holds_3 : decode cX5_holds 3 = .ok (.idiv, 1) := dk_108 (dk_at dksX5_holds_0 3 rfl rfl)
theorem dX5_holds_4 : decode cX5_holds 4 = .ok (.istore_n 3, 1) := dk_62 (dk_at dksX5_holds_0 4 rfl rfl)
theorem dX5_holds_5 : decode cX5_holds 5 = .ok (.aload_n 0, 1) := dk_42 (dk_at dksX5_holds_0 5 rfl rfl)
theorem dX5_holds_6 : decode cX5_holds 6 = .ok (.getfield 56, 3) := dk_180 0 56 (dk_at dksX5_holds_0 6 rfl rfl)
theorem dX5_holds_9 : decode cX5_holds 9 = .ok (.iload_n 1, 1) := dk_27 (dk_at dksX5_holds_0 9 rfl rfl)
theorem dX5_holds_10 : decode cX5_holds 10 = .ok (.iaload, 1) := dk_46 (dk_at dksX5_holds_0 10 rfl rfl)
theorem dX5_holds_11 : decode cX5_holds 11 = .ok (.aload_n 0, 1) := dk_42 (dk_at dksX5_holds_0 11 rfl rfl)
theorem dX5_holds_12 : decode cX5_holds 12 = .ok (.getfield 59, 3) := dk_180 0 59 (dk_at dksX5_holds_0 12 rfl rfl)
theorem dX5_holds_15 : decode cX5_holds 15 = .ok (.iload_n 1, 1) := dk_27 (dk_at dksX5_holds_0 15 rfl rfl)
theorem dX5_holds_16 : decode cX5_holds 16 = .ok (.iaload, 1) := dk_46 (dk_at dksX5_holds_0 16 rfl rfl)
theorem dX5_holds_17 : decode cX5_holds 17 = .ok (.if_icmp .ne 5, 3) := dk_160 0 5 (dk_at dksX5_holds_0 17 rfl rfl)
theorem dX5_holds_20 : decode cX5_holds 20 = .ok (.iconst 1, 1) := dk_4 (dk_at dksX5_holds_0 20 rfl rfl)
theorem dX5_holds_21 : decode cX5_holds 21 = .ok (.ireturn, 1) := dk_172 (dk_at dksX5_holds_0 21 rfl rfl)
theorem dX5_holds_22 : decode cX5_holds 22 = .ok (.iconst 0, 1) := dk_3 (dk_at dksX5_holds_0 22 rfl rfl)
theorem dX5_holds_23 : decode cX5_holds 23 = .ok (.istore 4, 2) := dk_54 4 (dk_at dksX5_holds_1 0 rfl rfl)
theorem dX5_holds_25 : decode cX5_holds 25 = .ok (.sipush 200, 3) := dk_17 0 200 (dk_at dksX5_holds_1 2 rfl rfl)
theorem dX5_holds_28 : decode cX5_holds 28 = .ok (.iload_n 3, 1) := dk_29 (dk_at dksX5_holds_1 5 rfl rfl)
theorem dX5_holds_29 : decode cX5_holds 29 = .ok (.imul, 1) := dk_104 (dk_at dksX5_holds_1 6 rfl rfl)
theorem dX5_holds_30 : decode cX5_holds 30 = .ok (.aload_n 0, 1) := dk_42 (dk_at dksX5_holds_1 7 rfl rfl)
theorem dX5_holds_31 : decode cX5_holds 31 = .ok (.getfield 56, 3) := dk_180 0 56 (dk_at dksX5_holds_1 8 rfl rfl)
theorem dX5_holds_34 : decode cX5_holds 34 = .ok (.iload_n 1, 1) := dk_27 (dk_at dksX5_holds_1 11 rfl rfl)
theorem dX5_holds_35 : decode cX5_holds 35 = .ok (.iaload, 1) := dk_46 (dk_at dksX5_holds_1 12 rfl rfl)
theorem dX5_holds_36 : decode cX5_holds 36 = .ok (.iadd, 1) := dk_96 (dk_at dksX5_holds_1 13 rfl rfl)
theorem dX5_holds_37 : decode cX5_holds 37 = .ok (.istore 5, 2) := dk_54 5 (dk_at dksX5_holds_1 14 rfl rfl)
theorem dX5_holds_39 : decode cX5_holds 39 = .ok (.iload 5, 2) := dk_21 5 (dk_at dksX5_holds_1 16 rfl rfl)
theorem dX5_holds_41 : decode cX5_holds 41 = .ok (.sipush 200, 3) := dk_17 0 200 (dk_at dksX5_holds_1 18 rfl rfl)
theorem dX5_holds_44 : decode cX5_holds 44 = .ok (.iload_n 3, 1) := dk_29 (dk_at dksX5_holds_1 21 rfl rfl)
theorem dX5_holds_45 : decode cX5_holds 45 = .ok (.imul, 1) := dk_104 (dk_at dksX5_holds_1 22 rfl rfl)
theorem dX5_holds_46 : decode cX5_holds 46 = .ok (.aload_n 0, 1) := dk_42 (dk_at dksX5_holds_1 23 rfl rfl)
theorem dX5_holds_47 : decode cX5_holds 47 = .ok (.getfield 59, 3) := dk_180 0 59 (dk_at dksX5_holds_2 0 rfl rfl)
theorem dX5_holds_50 : decode cX5_holds 50 = .ok (.iload_n 1, 1) := dk_27 (dk_at dksX5_holds_2 3 rfl rfl)
theorem dX5_holds_51 : decode cX5_holds 51 = .ok (.iaload, 1) := dk_46 (dk_at dksX5_holds_2 4 rfl rfl)
theorem dX5_holds_52 : decode cX5_holds 52 = .ok (.iadd, 1) := dk_96 (dk_at dksX5_holds_2 5 rfl rfl)
theorem dX5_holds_53 : decode cX5_holds 53 = .ok (.if_icmp .ge 307, 3) := dk_162 1 51 (dk_at dksX5_holds_2 6 rfl rfl)
theorem dX5_holds_56 : decode cX5_holds 56 = .ok (.aload_n 0, 1) := dk_42 (dk_at dksX5_holds_2 9 rfl rfl)
theorem dX5_holds_57 : decode cX5_holds 57 = .ok (.getfield 62, 3) := dk_180 0 62 (dk_at dksX5_holds_2 10 rfl rfl)
theorem dX5_holds_60 : decode cX5_holds 60 = .ok (.iload 5, 2) := dk_21 5 (dk_at dksX5_holds_2 13 rfl rfl)
theorem dX5_holds_62 : decode cX5_holds 62 = .ok (.iaload, 1) := dk_46 (dk_at dksX5_holds_2 15 rfl rfl)
theorem dX5_holds_63 : decode cX5_holds 63 = .ok (.istore 6, 2) := dk_54 6 (dk_at dksX5_holds_2 16 rfl rfl)
theorem dX5_holds_65 : decode cX5_holds 65 = .ok (.iload 6, 2) := dk_21 6 (dk_at dksX5_holds_2 18 rfl rfl)
theorem dX5_holds_67 : decode cX5_holds 67 = .ok (.bipush 20, 2) := dk_16 20 (dk_at dksX5_holds_2 20 rfl rfl)
theorem dX5_holds_69 : decode cX5_holds 69 = .ok (.if_icmp .ne 32, 3) := dk_160 0 32 (dk_at dksX5_holds_3 0 rfl rfl)
theorem dX5_holds_72 : decode cX5_holds 72 = .ok (.aload_n 0, 1) := dk_42 (dk_at dksX5_holds_3 3 rfl rfl)
theorem dX5_holds_73 : decode cX5_holds 73 = .ok (.getfield 83, 3) := dk_180 0 83 (dk_at dksX5_holds_3 4 rfl rfl)
theorem dX5_holds_76 : decode cX5_holds 76 = .ok (.iload 4, 2) := dk_21 4 (dk_at dksX5_holds_3 7 rfl rfl)
theorem dX5_holds_78 : decode cX5_holds 78 = .ok (.iconst 1, 1) := dk_4 (dk_at dksX5_holds_3 9 rfl rfl)
theorem dX5_holds_79 : decode cX5_holds 79 = .ok (.isub, 1) := dk_100 (dk_at dksX5_holds_3 10 rfl rfl)
theorem dX5_holds_80 : decode cX5_holds 80 = .ok (.aload_n 0, 1) := dk_42 (dk_at dksX5_holds_3 11 rfl rfl)
theorem dX5_holds_81 : decode cX5_holds 81 = .ok (.getfield 83, 3) := dk_180 0 83 (dk_at dksX5_holds_3 12 rfl rfl)
theorem dX5_holds_84 : decode cX5_holds 84 = .ok (.iload 4, 2) := dk_21 4 (dk_at dksX5_holds_3 15 rfl rfl)
theorem dX5_holds_86 : decode cX5_holds 86 = .ok (.iconst 1, 1) := dk_4 (dk_at dksX5_holds_3 17 rfl rfl)
theorem dX5_holds_87 : decode cX5_holds 87 = .ok (.isub, 1) := dk_100 (dk_at dksX5_holds_3 18 rfl rfl)
theorem dX5_holds_88 : decode cX5_holds 88 = .ok (.baload, 1) := dk_51 (dk_at dksX5_holds_3 19 rfl rfl)
theorem dX5_holds_89 : decode cX5_holds 89 = .ok (.ifCond .ne 7, 3) := dk_154 0 7 (dk_at dksX5_holds_3 20 rfl rfl)
theorem dX5_holds_92 : decode cX5_holds 92 = .ok (.iconst 1, 1) := dk_4 (dk_at dksX5_holds_3 23 rfl rfl)
theorem dX5_holds_93 : decode cX5_holds 93 = .ok (.goto 4, 3) := dk_167 0 4 (dk_at dksX5_holds_4 0 rfl rfl)
theorem dX5_holds_96 : decode cX5_holds 96 = .ok (.iconst 0, 1) := dk_3 (dk_at dksX5_holds_4 3 rfl rfl)
theorem dX5_holds_97 : decode cX5_holds 97 = .ok (.bastore, 1) := dk_84 (dk_at dksX5_holds_4 4 rfl rfl)
theorem dX5_holds_98 : decode cX5_holds 98 = .ok (.goto 256, 3) := dk_167 1 0 (dk_at dksX5_holds_4 5 rfl rfl)
theorem dX5_holds_101 : decode cX5_holds 101 = .ok (.iload 6, 2) := dk_21 6 (dk_at dksX5_holds_4 8 rfl rfl)
theorem dX5_holds_103 : decode cX5_holds 103 = .ok (.bipush 21, 2) := dk_16 21 (dk_at dksX5_holds_4 10 rfl rfl)
theorem dX5_holds_105 : decode cX5_holds 105 = .ok (.if_icmp .eq 10, 3) := dk_159 0 10 (dk_at dksX5_holds_4 12 rfl rfl)
theorem dX5_holds_108 : decode cX5_holds 108 = .ok (.iload 6, 2) := dk_21 6 (dk_at dksX5_holds_4 15 rfl rfl)
theorem dX5_holds_110 : decode cX5_holds 110 = .ok (.bipush 22, 2) := dk_16 22 (dk_at dksX5_holds_4 17 rfl rfl)
theorem dX5_holds_112 : decode cX5_holds 112 = .ok (.if_icmp .ne 82, 3) := dk_160 0 82 (dk_at dksX5_holds_4 19 rfl rfl)
theorem dX5_holds_115 : decode cX5_holds 115 = .ok (.iinc 4 (-1), 3) := dk_132 4 255 (dk_at dksX5_holds_5 0 rfl rfl)
theorem dX5_holds_118 : decode cX5_holds 118 = .ok (.aload_n 0, 1) := dk_42 (dk_at dksX5_holds_5 3 rfl rfl)
theorem dX5_holds_119 : decode cX5_holds 119 = .ok (.getfield 83, 3) := dk_180 0 83 (dk_at dksX5_holds_5 4 rfl rfl)
theorem dX5_holds_122 : decode cX5_holds 122 = .ok (.iload 4, 2) := dk_21 4 (dk_at dksX5_holds_5 7 rfl rfl)
theorem dX5_holds_124 : decode cX5_holds 124 = .ok (.iconst 1, 1) := dk_4 (dk_at dksX5_holds_5 9 rfl rfl)
theorem dX5_holds_125 : decode cX5_holds 125 = .ok (.isub, 1) := dk_100 (dk_at dksX5_holds_5 10 rfl rfl)
theorem dX5_holds_126 : decode cX5_holds 126 = .ok (.iload 6, 2) := dk_21 6 (dk_at dksX5_holds_5 11 rfl rfl)
theorem dX5_holds_128 : decode cX5_holds 128 = .ok (.bipush 21, 2) := dk_16 21 (dk_at dksX5_holds_5 13 rfl rfl)
theorem dX5_holds_130 : decode cX5_holds 130 = .ok (.if_icmp .ne 33, 3) := dk_160 0 33 (dk_at dksX5_holds_5 15 rfl rfl)
theorem dX5_holds_133 : decode cX5_holds 133 = .ok (.aload_n 0, 1) := dk_42 (dk_at dksX5_holds_5 18 rfl rfl)
theorem dX5_holds_134 : decode cX5_holds 134 = .ok (.getfield 83, 3) := dk_180 0 83 (dk_at dksX5_holds_5 19 rfl rfl)
theorem dX5_holds_137 : decode cX5_holds 137 = .ok (.iload 4, 2) := dk_21 4 (dk_at dksX5_holds_5 22 rfl rfl)
theorem dX5_holds_139 : decode cX5_holds 139 = .ok (.iconst 1, 1) := dk_4 (dk_at dksX5_holds_6 0 rfl rfl)
theorem dX5_holds_140 : decode cX5_holds 140 = .ok (.isub, 1) := dk_100 (dk_at dksX5_holds_6 1 rfl rfl)
theorem dX5_holds_141 : decode cX5_holds 141 = .ok (.baload, 1) := dk_51 (dk_at dksX5_holds_6 2 rfl rfl)
theorem dX5_holds_142 : decode cX5_holds 142 = .ok (.ifCond .eq 17, 3) := dk_153 0 17 (dk_at dksX5_holds_6 3 rfl rfl)
theorem dX5_holds_145 : decode cX5_holds 145 = .ok (.aload_n 0, 1) := dk_42 (dk_at dksX5_holds_6 6 rfl rfl)
theorem dX5_holds_146 : decode cX5_holds 146 = .ok (.getfield 83, 3) := dk_180 0 83 (dk_at dksX5_holds_6 7 rfl rfl)
theorem dX5_holds_149 : decode cX5_holds 149 = .ok (.iload 4, 2) := dk_21 4 (dk_at dksX5_holds_6 10 rfl rfl)
theorem dX5_holds_151 : decode cX5_holds 151 = .ok (.baload, 1) := dk_51 (dk_at dksX5_holds_6 12 rfl rfl)
theorem dX5_holds_152 : decode cX5_holds 152 = .ok (.ifCond .eq 7, 3) := dk_153 0 7 (dk_at dksX5_holds_6 13 rfl rfl)
theorem dX5_holds_155 : decode cX5_holds 155 = .ok (.iconst 1, 1) := dk_4 (dk_at dksX5_holds_6 16 rfl rfl)
theorem dX5_holds_156 : decode cX5_holds 156 = .ok (.goto 34, 3) := dk_167 0 34 (dk_at dksX5_holds_6 17 rfl rfl)
theorem dX5_holds_159 : decode cX5_holds 159 = .ok (.iconst 0, 1) := dk_3 (dk_at dksX5_holds_6 20 rfl rfl)
theorem dX5_holds_160 : decode cX5_holds 160 = .ok (.goto 30, 3) := dk_167 0 30 (dk_at dksX5_holds_6 21 rfl rfl)
theorem dX5_holds_163 : decode cX5_holds 163 = .ok (.aload_n 0, 1) := dk_42 (dk_at dksX5_holds_7 0 rfl rfl)
theorem dX5_holds_164 : decode cX5_holds 164 = .ok (.getfield 83, 3) := dk_180 0 83 (dk_at dksX5_holds_7 1 rfl rfl)
theorem dX5_holds_167 : decode cX5_holds 167 = .ok (.iload 4, 2) := dk_21 4 (dk_at dksX5_holds_7 4 rfl rfl)
theorem dX5_holds_169 : decode cX5_holds 169 = .ok (.iconst 1, 1) := dk_4 (dk_at dksX5_holds_7 6 rfl rfl)
theorem dX5_holds_170 : decode cX5_holds 170 = .ok (.isub, 1) := dk_100 (dk_at dksX5_holds_7 7 rfl rfl)
theorem dX5_holds_171 : decode cX5_holds 171 = .ok (.baload, 1) := dk_51 (dk_at dksX5_holds_7 8 rfl rfl)
theorem dX5_holds_172 : decode cX5_holds 172 = .ok (.ifCond .ne 13, 3) := dk_154 0 13 (dk_at dksX5_holds_7 9 rfl rfl)
theorem dX5_holds_175 : decode cX5_holds 175 = .ok (.aload_n 0, 1) := dk_42 (dk_at dksX5_holds_7 12 rfl rfl)
theorem dX5_holds_176 : decode cX5_holds 176 = .ok (.getfield 83, 3) := dk_180 0 83 (dk_at dksX5_holds_7 13 rfl rfl)
theorem dX5_holds_179 : decode cX5_holds 179 = .ok (.iload 4, 2) := dk_21 4 (dk_at dksX5_holds_7 16 rfl rfl)
theorem dX5_holds_181 : decode cX5_holds 181 = .ok (.baload, 1) := dk_51 (dk_at dksX5_holds_7 18 rfl rfl)
theorem dX5_holds_182 : decode cX5_holds 182 = .ok (.ifCond .eq 7, 3) := dk_153 0 7 (dk_at dksX5_holds_7 19 rfl rfl)
theorem dX5_holds_185 : decode cX5_holds 185 = .ok (.iconst 1, 1) := dk_4 (dk_at dksX5_holds_7 22 rfl rfl)
theorem dX5_holds_186 : decode cX5_holds 186 = .ok (.goto 4, 3) := dk_167 0 4 (dk_at dksX5_holds_8 0 rfl rfl)
theorem dX5_holds_189 : decode cX5_holds 189 = .ok (.iconst 0, 1) := dk_3 (dk_at dksX5_holds_8 3 rfl rfl)
theorem dX5_holds_190 : decode cX5_holds 190 = .ok (.bastore, 1) := dk_84 (dk_at dksX5_holds_8 4 rfl rfl)
theorem dX5_holds_191 : decode cX5_holds 191 = .ok (.goto 163, 3) := dk_167 0 163 (dk_at dksX5_holds_8 5 rfl rfl)
theorem dX5_holds_194 : decode cX5_holds 194 = .ok (.iload 6, 2) := dk_21 6 (dk_at dksX5_holds_8 8 rfl rfl)
theorem dX5_holds_196 : decode cX5_holds 196 = .ok (.bipush 8, 2) := dk_16 8 (dk_at dksX5_holds_8 10 rfl rfl)
theorem dX5_holds_198 : decode cX5_holds 198 = .ok (.if_icmp .ge 7, 3) := dk_162 0 7 (dk_at dksX5_holds_8 12 rfl rfl)
theorem dX5_holds_201 : decode cX5_holds 201 = .ok (.iconst 0, 1) := dk_3 (dk_at dksX5_holds_8 15 rfl rfl)
theorem dX5_holds_202 : decode cX5_holds 202 = .ok (.goto 42, 3) := dk_167 0 42 (dk_at dksX5_holds_8 16 rfl rfl)
theorem dX5_holds_205 : decode cX5_holds 205 = .ok (.aload_n 0, 1) := dk_42 (dk_at dksX5_holds_8 19 rfl rfl)
theorem dX5_holds_206 : decode cX5_holds 206 = .ok (.iload_n 2, 1) := dk_28 (dk_at dksX5_holds_8 20 rfl rfl)
theorem dX5_holds_207 : decode cX5_holds 207 = .ok (.iload 6, 2) := dk_21 6 (dk_at dksX5_holds_8 21 rfl rfl)
theorem dX5_holds_209 : decode cX5_holds 209 = .ok (.bipush 8, 2) := dk_16 8 (dk_at dksX5_holds_9 0 rfl rfl)
theorem dX5_holds_211 : decode cX5_holds 211 = .ok (.if_icmp .ne 7, 3) := dk_160 0 7 (dk_at dksX5_holds_9 2 rfl rfl)
theorem dX5_holds_214 : decode cX5_holds 214 = .ok (.iconst 3, 1) := dk_6 (dk_at dksX5_holds_9 5 rfl rfl)
theorem dX5_holds_215 : decode cX5_holds 215 = .ok (.goto 26, 3) := dk_167 0 26 (dk_at dksX5_holds_9 6 rfl rfl)
theorem dX5_holds_218 : decode cX5_holds 218 = .ok (.iload 6, 2) := dk_21 6 (dk_at dksX5_holds_9 9 rfl rfl)
theorem dX5_holds_220 : decode cX5_holds 220 = .ok (.bipush 9, 2) := dk_16 9 (dk_at dksX5_holds_9 11 rfl rfl)
theorem dX5_holds_222 : decode cX5_holds 222 = .ok (.if_icmp .ne 7, 3) := dk_160 0 7 (dk_at dksX5_holds_9 13 rfl rfl)
theorem dX5_holds_225 : decode cX5_holds 225 = .ok (.iconst 4, 1) := dk_7 (dk_at dksX5_holds_9 16 rfl rfl)
theorem dX5_holds_226 : decode cX5_holds 226 = .ok (.goto 15, 3) := dk_167 0 15 (dk_at dksX5_holds_9 17 rfl rfl)
theorem dX5_holds_229 : decode cX5_holds 229 = .ok (.iload 6, 2) := dk_21 6 (dk_at dksX5_holds_9 20 rfl rfl)
theorem dX5_holds_231 : decode cX5_holds 231 = .ok (.bipush 10, 2) := dk_16 10 (dk_at dksX5_holds_9 22 rfl rfl)
theorem dX5_holds_233 : decode cX5_holds 233 = .ok (.if_icmp .ne 7, 3) := dk_160 0 7 (dk_at dksX5_holds_10 0 rfl rfl)
theorem dX5_holds_236 : decode cX5_holds 236 = .ok (.iconst 2, 1) := dk_5 (dk_at dksX5_holds_10 3 rfl rfl)
theorem dX5_holds_237 : decode cX5_holds 237 = .ok (.goto 4, 3) := dk_167 0 4 (dk_at dksX5_holds_10 4 rfl rfl)
theorem dX5_holds_240 : decode cX5_holds 240 = .ok (.iconst 5, 1) := dk_8 (dk_at dksX5_holds_10 7 rfl rfl)
theorem dX5_holds_241 : decode cX5_holds 241 = .ok (.invokevirtual 136, 3) := dk_182 0 136 (dk_at dksX5_holds_10 8 rfl rfl)
theorem dX5_holds_244 : decode cX5_holds 244 = .ok (.istore 7, 2) := dk_54 7 (dk_at dksX5_holds_10 11 rfl rfl)
theorem dX5_holds_246 : decode cX5_holds 246 = .ok (.aload_n 0, 1) := dk_42 (dk_at dksX5_holds_10 13 rfl rfl)
theorem dX5_holds_247 : decode cX5_holds 247 = .ok (.getfield 83, 3) := dk_180 0 83 (dk_at dksX5_holds_10 14 rfl rfl)
theorem dX5_holds_250 : decode cX5_holds 250 = .ok (.iload 4, 2) := dk_21 4 (dk_at dksX5_holds_10 17 rfl rfl)
theorem dX5_holds_252 : decode cX5_holds 252 = .ok (.iload 6, 2) := dk_21 6 (dk_at dksX5_holds_10 19 rfl rfl)
theorem dX5_holds_254 : decode cX5_holds 254 = .ok (.bipush 8, 2) := dk_16 8 (dk_at dksX5_holds_10 21 rfl rfl)
theorem dX5_holds_256 : decode cX5_holds 256 = .ok (.if_icmp .ge 13, 3) := dk_162 0 13 (dk_at dksX5_holds_11 0 rfl rfl)
theorem dX5_holds_259 : decode cX5_holds 259 = .ok (.aload_n 0, 1) := dk_42 (dk_at dksX5_holds_11 3 rfl rfl)
theorem dX5_holds_260 : decode cX5_holds 260 = .ok (.iload_n 2, 1) := dk_28 (dk_at dksX5_holds_11 4 rfl rfl)
theorem dX5_holds_261 : decode cX5_holds 261 = .ok (.iload 6, 2) := dk_21 6 (dk_at dksX5_holds_11 5 rfl rfl)
theorem dX5_holds_263 : decode cX5_holds 263 = .ok (.invokevirtual 334, 3) := dk_182 1 78 (dk_at dksX5_holds_11 7 rfl rfl)
theorem dX5_holds_266 : decode cX5_holds 266 = .ok (.goto 84, 3) := dk_167 0 84 (dk_at dksX5_holds_11 10 rfl rfl)
theorem dX5_holds_269 : decode cX5_holds 269 = .ok (.aload_n 0, 1) := dk_42 (dk_at dksX5_holds_11 13 rfl rfl)
theorem dX5_holds_270 : decode cX5_holds 270 = .ok (.getfield 65, 3) := dk_180 0 65 (dk_at dksX5_holds_11 14 rfl rfl)
theorem dX5_holds_273 : decode cX5_holds 273 = .ok (.iload 5, 2) := dk_21 5 (dk_at dksX5_holds_11 17 rfl rfl)
theorem dX5_holds_275 : decode cX5_holds 275 = .ok (.iaload, 1) := dk_46 (dk_at dksX5_holds_11 19 rfl rfl)
theorem dX5_holds_276 : decode cX5_holds 276 = .ok (.bipush 60, 2) := dk_16 60 (dk_at dksX5_holds_11 20 rfl rfl)
theorem dX5_holds_278 : decode cX5_holds 278 = .ok (.if_icmp .ne 23, 3) := dk_160 0 23 (dk_at dksX5_holds_12 0 rfl rfl)
theorem dX5_holds_281 : decode cX5_holds 281 = .ok (.iload 7, 2) := dk_21 7 (dk_at dksX5_holds_12 3 rfl rfl)
theorem dX5_holds_283 : decode cX5_holds 283 = .ok (.aload_n 0, 1) := dk_42 (dk_at dksX5_holds_12 5 rfl rfl)
theorem dX5_holds_284 : decode cX5_holds 284 = .ok (.getfield 68, 3) := dk_180 0 68 (dk_at dksX5_holds_12 6 rfl rfl)
theorem dX5_holds_287 : decode cX5_holds 287 = .ok (.iload 5, 2) := dk_21 5 (dk_at dksX5_holds_12 9 rfl rfl)
theorem dX5_holds_289 : decode cX5_holds 289 = .ok (.iaload, 1) := dk_46 (dk_at dksX5_holds_12 11 rfl rfl)
theorem dX5_holds_290 : decode cX5_holds 290 = .ok (.if_icmp .ge 7, 3) := dk_162 0 7 (dk_at dksX5_holds_12 12 rfl rfl)
theorem dX5_holds_293 : decode cX5_holds 293 = .ok (.iconst 1, 1) := dk_4 (dk_at dksX5_holds_12 15 rfl rfl)
theorem dX5_holds_294 : decode cX5_holds 294 = .ok (.goto 56, 3) := dk_167 0 56 (dk_at dksX5_holds_12 16 rfl rfl)
theorem dX5_holds_297 : decode cX5_holds 297 = .ok (.iconst 0, 1) := dk_3 (dk_at dksX5_holds_12 19 rfl rfl)
theorem dX5_holds_298 : decode cX5_holds 298 = .ok (.goto 52, 3) := dk_167 0 52 (dk_at dksX5_holds_12 20 rfl rfl)
theorem dX5_holds_301 : decode cX5_holds 301 = .ok (.aload_n 0, 1) := dk_42 (dk_at dksX5_holds_12 23 rfl rfl)
theorem dX5_holds_302 : decode cX5_holds 302 = .ok (.getfield 65, 3) := dk_180 0 65 (dk_at dksX5_holds_13 0 rfl rfl)
theorem dX5_holds_305 : decode cX5_holds 305 = .ok (.iload 5, 2) := dk_21 5 (dk_at dksX5_holds_13 3 rfl rfl)
theorem dX5_holds_307 : decode cX5_holds 307 = .ok (.iaload, 1) := dk_46 (dk_at dksX5_holds_13 5 rfl rfl)
theorem dX5_holds_308 : decode cX5_holds 308 = .ok (.bipush 61, 2) := dk_16 61 (dk_at dksX5_holds_13 6 rfl rfl)
theorem dX5_holds_310 : decode cX5_holds 310 = .ok (.if_icmp .ne 23, 3) := dk_160 0 23 (dk_at dksX5_holds_13 8 rfl rfl)
theorem dX5_holds_313 : decode cX5_holds 313 = .ok (.iload 7, 2) := dk_21 7 (dk_at dksX5_holds_13 11 rfl rfl)
theorem dX5_holds_315 : decode cX5_holds 315 = .ok (.aload_n 0, 1) := dk_42 (dk_at dksX5_holds_13 13 rfl rfl)
theorem dX5_holds_316 : decode cX5_holds 316 = .ok (.getfield 68, 3) := dk_180 0 68 (dk_at dksX5_holds_13 14 rfl rfl)
theorem dX5_holds_319 : decode cX5_holds 319 = .ok (.iload 5, 2) := dk_21 5 (dk_at dksX5_holds_13 17 rfl rfl)
theorem dX5_holds_321 : decode cX5_holds 321 = .ok (.iaload, 1) := dk_46 (dk_at dksX5_holds_13 19 rfl rfl)
theorem dX5_holds_322 : decode cX5_holds 322 = .ok (.if_icmp .ne 7, 3) := dk_160 0 7 (dk_at dksX5_holds_13 20 rfl rfl)
theorem dX5_holds_325 : decode cX5_holds 325 = .ok (.iconst 1, 1) := dk_4 (dk_at dksX5_holds_13 23 rfl rfl)
theorem dX5_holds_326 : decode cX5_holds 326 = .ok (.goto 24, 3) := dk_167 0 24 (dk_at dksX5_holds_14 0 rfl rfl)
theorem dX5_holds_329 : decode cX5_holds 329 = .ok (.iconst 0, 1) := dk_3 (dk_at dksX5_holds_14 3 rfl rfl)
theorem dX5_holds_330 : decode cX5_holds 330 = .ok (.goto 20, 3) := dk_167 0 20 (dk_at dksX5_holds_14 4 rfl rfl)
theorem dX5_holds_333 : decode cX5_holds 333 = .ok (.iload 7, 2) := dk_21 7 (dk_at dksX5_holds_14 7 rfl rfl)
theorem dX5_holds_335 : decode cX5_holds 335 = .ok (.aload_n 0, 1) := dk_42 (dk_at dksX5_holds_14 9 rfl rfl)
theorem dX5_holds_336 : decode cX5_holds 336 = .ok (.getfield 68, 3) := dk_180 0 68 (dk_at dksX5_holds_14 10 rfl rfl)
theorem dX5_holds_339 : decode cX5_holds 339 = .ok (.iload 5, 2) := dk_21 5 (dk_at dksX5_holds_14 13 rfl rfl)
theorem dX5_holds_341 : decode cX5_holds 341 = .ok (.iaload, 1) := dk_46 (dk_at dksX5_holds_14 15 rfl rfl)
theorem dX5_holds_342 : decode cX5_holds 342 = .ok (.if_icmp .le 7, 3) := dk_164 0 7 (dk_at dksX5_holds_14 16 rfl rfl)
theorem dX5_holds_345 : decode cX5_holds 345 = .ok (.iconst 1, 1) := dk_4 (dk_at dksX5_holds_14 19 rfl rfl)
theorem dX5_holds_346 : decode cX5_holds 346 = .ok (.goto 4, 3) := dk_167 0 4 (dk_at dksX5_holds_14 20 rfl rfl)
theorem dX5_holds_349 : decode cX5_holds 349 = .ok (.iconst 0, 1) := dk_3 (dk_at dksX5_holds_14 23 rfl rfl)
theorem dX5_holds_350 : decode cX5_holds 350 = .ok (.bastore, 1) := dk_84 (dk_at dksX5_holds_15 0 rfl rfl)
theorem dX5_holds_351 : decode cX5_holds 351 = .ok (.iinc 4 1, 3) := dk_132 4 1 (dk_at dksX5_holds_15 1 rfl rfl)
theorem dX5_holds_354 : decode cX5_holds 354 = .ok (.iinc 5 1, 3) := dk_132 5 1 (dk_at dksX5_holds_15 4 rfl rfl)
theorem dX5_holds_357 : decode cX5_holds 357 = .ok (.goto (-318), 3) := dk_167 254 194 (dk_at dksX5_holds_15 7 rfl rfl)
theorem dX5_holds_360 : decode cX5_holds 360 = .ok (.aload_n 0, 1) := dk_42 (dk_at dksX5_holds_15 10 rfl rfl)
theorem dX5_holds_361 : decode cX5_holds 361 = .ok (.getfield 83, 3) := dk_180 0 83 (dk_at dksX5_holds_15 11 rfl rfl)
theorem dX5_holds_364 : decode cX5_holds 364 = .ok (.iconst 0, 1) := dk_3 (dk_at dksX5_holds_15 14 rfl rfl)
theorem dX5_holds_365 : decode cX5_holds 365 = .ok (.baload, 1) := dk_51 (dk_at dksX5_holds_15 15 rfl rfl)
theorem dX5_holds_366 : decode cX5_holds 366 = .ok (.ireturn, 1) := dk_172 (dk_at dksX5_holds_15 16 rfl rfl)
abbrev cX5_is : ByteArray := prog_12_method_53_code
def yX5_is : MethodName := ⟨RX5, "is", "(II)Z"⟩
def dkwX5_is_6 : List UInt8 := [172, 42, 27, 182, 1, 75, 172, 42, 27, 182, 0, 140, 172]
abbrev dktX5_is_6 : List UInt8 := dkwX5_is_6 ++ []
def dkwX5_is_5 : List UInt8 := [160, 0, 7, 4, 167, 0, 4, 3, 172, 42, 27, 4, 182, 0, 136, 4, 160, 0, 7, 4, 167, 0, 4, 3]
abbrev dktX5_is_5 : List UInt8 := dkwX5_is_5 ++ dktX5_is_6
def dkwX5_is_4 : List UInt8 := [172, 42, 27, 3, 182, 0, 136, 7, 160, 0, 7, 4, 167, 0, 4, 3, 172, 42, 27, 3, 182, 0, 136, 8]
abbrev dktX5_is_4 : List UInt8 := dkwX5_is_4 ++ dktX5_is_5
def dkwX5_is_3 : List UInt8 := [160, 0, 7, 4, 167, 0, 4, 3, 172, 42, 27, 3, 182, 0, 136, 5, 160, 0, 7, 4, 167, 0, 4, 3]
abbrev dktX5_is_3 : List UInt8 := dkwX5_is_3 ++ dktX5_is_4
def dkwX5_is_2 : List UInt8 := [42, 27, 3, 182, 0, 136, 154, 0, 7, 4, 167, 0, 4, 3, 172, 42, 27, 3, 182, 0, 136, 4]
abbrev dktX5_is_2 : List UInt8 := dkwX5_is_2 ++ dktX5_is_3
def dkwX5_is_1 : List UInt8 := [170, 0, 0, 0, 0, 0, 144, 0, 0, 0, 0, 0, 0, 0, 6, 0, 0, 0, 43, 0, 0, 0, 58, 0, 0, 0, 74, 0, 0, 0, 90, 0, 0, 0, 106, 0, 0, 0, 122, 0, 0, 0, 138]
abbrev dktX5_is_1 : List UInt8 := dkwX5_is_1 ++ dktX5_is_2
def dkwX5_is_0 : List UInt8 := [28]
abbrev dktX5_is_0 : List UInt8 := dkwX5_is_0 ++ dktX5_is_1
theorem dksX5_is_0 : cX5_is.data.toList.drop 0 = dktX5_is_0 := by decide +kernel
theorem dksX5_is_1 : cX5_is.data.toList.drop 1 = dktX5_is_1 := dk_seg dksX5_is_0 1 rfl rfl
theorem dksX5_is_2 : cX5_is.data.toList.drop 44 = dktX5_is_2 := dk_seg dksX5_is_1 43 rfl rfl
theorem dksX5_is_3 : cX5_is.data.toList.drop 66 = dktX5_is_3 := dk_seg dksX5_is_2 22 rfl rfl
theorem dksX5_is_4 : cX5_is.data.toList.drop 90 = dktX5_is_4 := dk_seg dksX5_is_3 24 rfl rfl
theorem dksX5_is_5 : cX5_is.data.toList.drop 114 = dktX5_is_5 := dk_seg dksX5_is_4 24 rfl rfl
theorem dksX5_is_6 : cX5_is.data.toList.drop 138 = dktX5_is_6 := dk_seg dksX5_is_5 24 rfl rfl
theorem dX5_is_0 : decode cX5_is 0 = .ok (.iload_n 2, 1) := dk_28 (dk_at dksX5_is_0 0 rfl rfl)
theorem dX5_is_1 : decode cX5_is 1 = .ok (.tableswitch 144 0 6 #[43, 58, 74, 90, 106, 122, 138], 43) := by decide +kernel
theorem dX5_is_44 : decode cX5_is 44 = .ok (.aload_n 0, 1) := dk_42 (dk_at dksX5_is_2 0 rfl rfl)
theorem dX5_is_45 : decode cX5_is 45 = .ok (.iload_n 1, 1) := dk_27 (dk_at dksX5_is_2 1 rfl rfl)
theorem dX5_is_46 : decode cX5_is 46 = .ok (.iconst 0, 1) := dk_3 (dk_at dksX5_is_2 2 rfl rfl)
theorem dX5_is_47 : decode cX5_is 47 = .ok (.invokevirtual 136, 3) := dk_182 0 136 (dk_at dksX5_is_2 3 rfl rfl)
theorem dX5_is_50 : decode cX5_is 50 = .ok (.ifCond .ne 7, 3) := dk_154 0 7 (dk_at dksX5_is_2 6 rfl rfl)
theorem dX5_is_53 : decode cX5_is 53 = .ok (.iconst 1, 1) := dk_4 (dk_at dksX5_is_2 9 rfl rfl)
theorem dX5_is_54 : decode cX5_is 54 = .ok (.goto 4, 3) := dk_167 0 4 (dk_at dksX5_is_2 10 rfl rfl)
theorem dX5_is_57 : decode cX5_is 57 = .ok (.iconst 0, 1) := dk_3 (dk_at dksX5_is_2 13 rfl rfl)
theorem dX5_is_58 : decode cX5_is 58 = .ok (.ireturn, 1) := dk_172 (dk_at dksX5_is_2 14 rfl rfl)
theorem dX5_is_59 : decode cX5_is 59 = .ok (.aload_n 0, 1) := dk_42 (dk_at dksX5_is_2 15 rfl rfl)
theorem dX5_is_60 : decode cX5_is 60 = .ok (.iload_n 1, 1) := dk_27 (dk_at dksX5_is_2 16 rfl rfl)
theorem dX5_is_61 : decode cX5_is 61 = .ok (.iconst 0, 1) := dk_3 (dk_at dksX5_is_2 17 rfl rfl)
theorem dX5_is_62 : decode cX5_is 62 = .ok (.invokevirtual 136, 3) := dk_182 0 136 (dk_at dksX5_is_2 18 rfl rfl)
theorem dX5_is_65 : decode cX5_is 65 = .ok (.iconst 1, 1) := dk_4 (dk_at dksX5_is_2 21 rfl rfl)
theorem dX5_is_66 : decode cX5_is 66 = .ok (.if_icmp .ne 7, 3) := dk_160 0 7 (dk_at dksX5_is_3 0 rfl rfl)
theorem dX5_is_69 : decode cX5_is 69 = .ok (.iconst 1, 1) := dk_4 (dk_at dksX5_is_3 3 rfl rfl)
theorem dX5_is_70 : decode cX5_is 70 = .ok (.goto 4, 3) := dk_167 0 4 (dk_at dksX5_is_3 4 rfl rfl)
theorem dX5_is_73 : decode cX5_is 73 = .ok (.iconst 0, 1) := dk_3 (dk_at dksX5_is_3 7 rfl rfl)
theorem dX5_is_74 : decode cX5_is 74 = .ok (.ireturn, 1) := dk_172 (dk_at dksX5_is_3 8 rfl rfl)
theorem dX5_is_75 : decode cX5_is 75 = .ok (.aload_n 0, 1) := dk_42 (dk_at dksX5_is_3 9 rfl rfl)
theorem dX5_is_76 : decode cX5_is 76 = .ok (.iload_n 1, 1) := dk_27 (dk_at dksX5_is_3 10 rfl rfl)
theorem dX5_is_77 : decode cX5_is 77 = .ok (.iconst 0, 1) := dk_3 (dk_at dksX5_is_3 11 rfl rfl)
theorem dX5_is_78 : decode cX5_is 78 = .ok (.invokevirtual 136, 3) := dk_182 0 136 (dk_at dksX5_is_3 12 rfl rfl)
theorem dX5_is_81 : decode cX5_is 81 = .ok (.iconst 2, 1) := dk_5 (dk_at dksX5_is_3 15 rfl rfl)
theorem dX5_is_82 : decode cX5_is 82 = .ok (.if_icmp .ne 7, 3) := dk_160 0 7 (dk_at dksX5_is_3 16 rfl rfl)
theorem dX5_is_85 : decode cX5_is 85 = .ok (.iconst 1, 1) := dk_4 (dk_at dksX5_is_3 19 rfl rfl)
theorem dX5_is_86 : decode cX5_is 86 = .ok (.goto 4, 3) := dk_167 0 4 (dk_at dksX5_is_3 20 rfl rfl)
theorem dX5_is_89 : decode cX5_is 89 = .ok (.iconst 0, 1) := dk_3 (dk_at dksX5_is_3 23 rfl rfl)
theorem dX5_is_90 : decode cX5_is 90 = .ok (.ireturn, 1) := dk_172 (dk_at dksX5_is_4 0 rfl rfl)
theorem dX5_is_91 : decode cX5_is 91 = .ok (.aload_n 0, 1) := dk_42 (dk_at dksX5_is_4 1 rfl rfl)
theorem dX5_is_92 : decode cX5_is 92 = .ok (.iload_n 1, 1) := dk_27 (dk_at dksX5_is_4 2 rfl rfl)
theorem dX5_is_93 : decode cX5_is 93 = .ok (.iconst 0, 1) := dk_3 (dk_at dksX5_is_4 3 rfl rfl)
theorem dX5_is_94 : decode cX5_is 94 = .ok (.invokevirtual 136, 3) := dk_182 0 136 (dk_at dksX5_is_4 4 rfl rfl)
theorem dX5_is_97 : decode cX5_is 97 = .ok (.iconst 4, 1) := dk_7 (dk_at dksX5_is_4 7 rfl rfl)
theorem dX5_is_98 : decode cX5_is 98 = .ok (.if_icmp .ne 7, 3) := dk_160 0 7 (dk_at dksX5_is_4 8 rfl rfl)
theorem dX5_is_101 : decode cX5_is 101 = .ok (.iconst 1, 1) := dk_4 (dk_at dksX5_is_4 11 rfl rfl)
theorem dX5_is_102 : decode cX5_is 102 = .ok (.goto 4, 3) := dk_167 0 4 (dk_at dksX5_is_4 12 rfl rfl)
theorem dX5_is_105 : decode cX5_is 105 = .ok (.iconst 0, 1) := dk_3 (dk_at dksX5_is_4 15 rfl rfl)
theorem dX5_is_106 : decode cX5_is 106 = .ok (.ireturn, 1) := dk_172 (dk_at dksX5_is_4 16 rfl rfl)
theorem dX5_is_107 : decode cX5_is 107 = .ok (.aload_n 0, 1) := dk_42 (dk_at dksX5_is_4 17 rfl rfl)
theorem dX5_is_108 : decode cX5_is 108 = .ok (.iload_n 1, 1) := dk_27 (dk_at dksX5_is_4 18 rfl rfl)
theorem dX5_is_109 : decode cX5_is 109 = .ok (.iconst 0, 1) := dk_3 (dk_at dksX5_is_4 19 rfl rfl)
theorem dX5_is_110 : decode cX5_is 110 = .ok (.invokevirtual 136, 3) := dk_182 0 136 (dk_at dksX5_is_4 20 rfl rfl)
theorem dX5_is_113 : decode cX5_is 113 = .ok (.iconst 5, 1) := dk_8 (dk_at dksX5_is_4 23 rfl rfl)
theorem dX5_is_114 : decode cX5_is 114 = .ok (.if_icmp .ne 7, 3) := dk_160 0 7 (dk_at dksX5_is_5 0 rfl rfl)
theorem dX5_is_117 : decode cX5_is 117 = .ok (.iconst 1, 1) := dk_4 (dk_at dksX5_is_5 3 rfl rfl)
theorem dX5_is_118 : decode cX5_is 118 = .ok (.goto 4, 3) := dk_167 0 4 (dk_at dksX5_is_5 4 rfl rfl)
theorem dX5_is_121 : decode cX5_is 121 = .ok (.iconst 0, 1) := dk_3 (dk_at dksX5_is_5 7 rfl rfl)
theorem dX5_is_122 : decode cX5_is 122 = .ok (.ireturn, 1) := dk_172 (dk_at dksX5_is_5 8 rfl rfl)
theorem dX5_is_123 : decode cX5_is 123 = .ok (.aload_n 0, 1) := dk_42 (dk_at dksX5_is_5 9 rfl rfl)
theorem dX5_is_124 : decode cX5_is 124 = .ok (.iload_n 1, 1) := dk_27 (dk_at dksX5_is_5 10 rfl rfl)
theorem dX5_is_125 : decode cX5_is 125 = .ok (.iconst 1, 1) := dk_4 (dk_at dksX5_is_5 11 rfl rfl)
theorem dX5_is_126 : decode cX5_is 126 = .ok (.invokevirtual 136, 3) := dk_182 0 136 (dk_at dksX5_is_5 12 rfl rfl)
theorem dX5_is_129 : decode cX5_is 129 = .ok (.iconst 1, 1) := dk_4 (dk_at dksX5_is_5 15 rfl rfl)
theorem dX5_is_130 : decode cX5_is 130 = .ok (.if_icmp .ne 7, 3) := dk_160 0 7 (dk_at dksX5_is_5 16 rfl rfl)
theorem dX5_is_133 : decode cX5_is 133 = .ok (.iconst 1, 1) := dk_4 (dk_at dksX5_is_5 19 rfl rfl)
theorem dX5_is_134 : decode cX5_is 134 = .ok (.goto 4, 3) := dk_167 0 4 (dk_at dksX5_is_5 20 rfl rfl)
theorem dX5_is_137 : decode cX5_is 137 = .ok (.iconst 0, 1) := dk_3 (dk_at dksX5_is_5 23 rfl rfl)
theorem dX5_is_138 : decode cX5_is 138 = .ok (.ireturn, 1) := dk_172 (dk_at dksX5_is_6 0 rfl rfl)
theorem dX5_is_139 : decode cX5_is 139 = .ok (.aload_n 0, 1) := dk_42 (dk_at dksX5_is_6 1 rfl rfl)
theorem dX5_is_140 : decode cX5_is 140 = .ok (.iload_n 1, 1) := dk_27 (dk_at dksX5_is_6 2 rfl rfl)
theorem dX5_is_141 : decode cX5_is 141 = .ok (.invokevirtual 331, 3) := dk_182 1 75 (dk_at dksX5_is_6 3 rfl rfl)
theorem dX5_is_144 : decode cX5_is 144 = .ok (.ireturn, 1) := dk_172 (dk_at dksX5_is_6 6 rfl rfl)
theorem dX5_is_145 : decode cX5_is 145 = .ok (.aload_n 0, 1) := dk_42 (dk_at dksX5_is_6 7 rfl rfl)
theorem dX5_is_146 : decode cX5_is 146 = .ok (.iload_n 1, 1) := dk_27 (dk_at dksX5_is_6 8 rfl rfl)
theorem dX5_is_147 : decode cX5_is 147 = .ok (.invokevirtual 140, 3) := dk_182 0 140 (dk_at dksX5_is_6 9 rfl rfl)
theorem dX5_is_150 : decode cX5_is 150 = .ok (.ireturn, 1) := dk_172 (dk_at dksX5_is_6 12 rfl rfl)
abbrev cX5_isMuddy : ByteArray := prog_12_method_18_code
def yX5_isMuddy : MethodName := ⟨RX5, "isMuddy", "(I)Z"⟩
def dkwX5_isMuddy_1 : List UInt8 := [167, 0, 4, 3, 172]
abbrev dktX5_isMuddy_1 : List UInt8 := dkwX5_isMuddy_1 ++ []
def dkwX5_isMuddy_0 : List UInt8 := [42, 27, 182, 0, 140, 153, 0, 20, 42, 27, 7, 182, 0, 136, 42, 180, 0, 77, 161, 0, 7, 4]
abbrev dktX5_isMuddy_0 : List UInt8 := dkwX5_isMuddy_0 ++ dktX5_isMuddy_1
theorem dksX5_isMuddy_0 : cX5_isMuddy.data.toList.drop 0 = dktX5_isMuddy_0 := by decide +kernel
theorem dksX5_isMuddy_1 : cX5_isMuddy.data.toList.drop 22 = dktX5_isMuddy_1 := dk_seg dksX5_isMuddy_0 22 rfl rfl
theorem dX5_isMuddy_0 : decode cX5_isMuddy 0 = .ok (.aload_n 0, 1) := dk_42 (dk_at dksX5_isMuddy_0 0 rfl rfl)
theorem dX5_isMuddy_1 : decode cX5_isMuddy 1 = .ok (.iload_n 1, 1) := dk_27 (dk_at dksX5_isMuddy_0 1 rfl rfl)
theorem dX5_isMuddy_2 : decode cX5_isMuddy 2 = .ok (.invokevirtual 140, 3) := dk_182 0 140 (dk_at dksX5_isMuddy_0 2 rfl rfl)
theorem dX5_isMuddy_5 : decode cX5_isMuddy 5 = .ok (.ifCond .eq 20, 3) := dk_153 0 20 (dk_at dksX5_isMuddy_0 5 rfl rfl)
theorem dX5_isMuddy_8 : decode cX5_isMuddy 8 = .ok (.aload_n 0, 1) := dk_42 (dk_at dksX5_isMuddy_0 8 rfl rfl)
theorem dX5_isMuddy_9 : decode cX5_isMuddy 9 = .ok (.iload_n 1, 1) := dk_27 (dk_at dksX5_isMuddy_0 9 rfl rfl)
theorem dX5_isMuddy_10 : decode cX5_isMuddy 10 = .ok (.iconst 4, 1) := dk_7 (dk_at dksX5_isMuddy_0 10 rfl rfl)
theorem dX5_isMuddy_11 : decode cX5_isMuddy 11 = .ok (.invokevirtual 136, 3) := dk_182 0 136 (dk_at dksX5_isMuddy_0 11 rfl rfl)
theorem dX5_isMuddy_14 : decode cX5_isMuddy 14 = .ok (.aload_n 0, 1) := dk_42 (dk_at dksX5_isMuddy_0 14 rfl rfl)
theorem dX5_isMuddy_15 : decode cX5_isMuddy 15 = .ok (.getfield 77, 3) := dk_180 0 77 (dk_at dksX5_isMuddy_0 15 rfl rfl)
theorem dX5_isMuddy_18 : decode cX5_isMuddy 18 = .ok (.if_icmp .lt 7, 3) := dk_161 0 7 (dk_at dksX5_isMuddy_0 18 rfl rfl)
theorem dX5_isMuddy_21 : decode cX5_isMuddy 21 = .ok (.iconst 1, 1) := dk_4 (dk_at dksX5_isMuddy_0 21 rfl rfl)
theorem dX5_isMuddy_22 : decode cX5_isMuddy 22 = .ok (.goto 4, 3) := dk_167 0 4 (dk_at dksX5_isMuddy_1 0 rfl rfl)
theorem dX5_isMuddy_25 : decode cX5_isMuddy 25 = .ok (.iconst 0, 1) := dk_3 (dk_at dksX5_isMuddy_1 3 rfl rfl)
theorem dX5_isMuddy_26 : decode cX5_isMuddy 26 = .ok (.ireturn, 1) := dk_172 (dk_at dksX5_isMuddy_1 4 rfl rfl)
abbrev cX5_isWorn : ByteArray := prog_12_method_17_code
def yX5_isWorn : MethodName := ⟨RX5, "isWorn", "(I)Z"⟩
def dkwX5_isWorn_0 : List UInt8 := [42, 27, 6, 182, 0, 136, 42, 180, 0, 74, 161, 0, 7, 4, 167, 0, 4, 3, 172]
abbrev dktX5_isWorn_0 : List UInt8 := dkwX5_isWorn_0 ++ []
theorem dksX5_isWorn_0 : cX5_isWorn.data.toList.drop 0 = dktX5_isWorn_0 := by decide +kernel
theorem dX5_isWorn_0 : decode cX5_isWorn 0 = .ok (.aload_n 0, 1) := dk_42 (dk_at dksX5_isWorn_0 0 rfl rfl)
theorem dX5_isWorn_1 : decode cX5_isWorn 1 = .ok (.iload_n 1, 1) := dk_27 (dk_at dksX5_isWorn_0 1 rfl rfl)
theorem dX5_isWorn_2 : decode cX5_isWorn 2 = .ok (.iconst 3, 1) := dk_6 (dk_at dksX5_isWorn_0 2 rfl rfl)
theorem dX5_isWorn_3 : decode cX5_isWorn 3 = .ok (.invokevirtual 136, 3) := dk_182 0 136 (dk_at dksX5_isWorn_0 3 rfl rfl)
theorem dX5_isWorn_6 : decode cX5_isWorn 6 = .ok (.aload_n 0, 1) := dk_42 (dk_at dksX5_isWorn_0 6 rfl rfl)
theorem dX5_isWorn_7 : decode cX5_isWorn 7 = .ok (.getfield 74, 3) := dk_180 0 74 (dk_at dksX5_isWorn_0 7 rfl rfl)
theorem dX5_isWorn_10 : decode cX5_isWorn 10 = .ok (.if_icmp .lt 7, 3) := dk_161 0 7 (dk_at dksX5_isWorn_0 10 rfl rfl)
theorem dX5_isWorn_13 : decode cX5_isWorn 13 = .ok (.iconst 1, 1) := dk_4 (dk_at dksX5_isWorn_0 13 rfl rfl)
theorem dX5_isWorn_14 : decode cX5_isWorn 14 = .ok (.goto 4, 3) := dk_167 0 4 (dk_at dksX5_isWorn_0 14 rfl rfl)
theorem dX5_isWorn_17 : decode cX5_isWorn 17 = .ok (.iconst 0, 1) := dk_3 (dk_at dksX5_isWorn_0 17 rfl rfl)
theorem dX5_isWorn_18 : decode cX5_isWorn 18 = .ok (.ireturn, 1) := dk_172 (dk_at dksX5_isWorn_0 18 rfl rfl)
abbrev cX5_weight : ByteArray := prog_12_method_67_code
def yX5_weight : MethodName := ⟨RX5, "weight", "(II)I"⟩
def dkwX5_weight_6 : List UInt8 := [21, 7, 116, 167, 0, 5, 21, 7, 96, 54, 5, 132, 6, 1, 167, 255, 159, 21, 5, 172]
abbrev dktX5_weight_6 : List UInt8 := dkwX5_weight_6 ++ []
def dkwX5_weight_5 : List UInt8 := [21, 6, 46, 182, 1, 136, 104, 54, 7, 21, 5, 42, 180, 0, 50, 21, 6, 46, 16, 6, 160, 0, 9]
abbrev dktX5_weight_5 : List UInt8 := dkwX5_weight_5 ++ dktX5_weight_6
def dkwX5_weight_4 : List UInt8 := [182, 1, 81, 154, 0, 6, 167, 0, 51, 42, 180, 0, 53, 21, 6, 46, 42, 27, 28, 42, 180, 0, 50]
abbrev dktX5_weight_4 : List UInt8 := dkwX5_weight_4 ++ dktX5_weight_5
def dkwX5_weight_3 : List UInt8 := [42, 180, 1, 122, 46, 96, 162, 0, 81, 42, 180, 0, 47, 21, 6, 46, 8, 160, 0, 64, 42, 21, 6, 27]
abbrev dktX5_weight_3 : List UInt8 := dkwX5_weight_3 ++ dktX5_weight_4
def dkwX5_weight_2 : List UInt8 := [54, 5, 16, 16, 42, 180, 1, 122, 104, 54, 6, 21, 6, 16, 16, 42, 180, 1, 122, 104, 42, 180, 0, 44]
abbrev dktX5_weight_2 : List UInt8 := dkwX5_weight_2 ++ dktX5_weight_3
def dkwX5_weight_1 : List UInt8 := [164, 0, 15, 16, 10, 29, 104, 7, 21, 4, 104, 96, 167, 0, 12, 16, 10, 21, 4, 104, 7, 29, 104, 96]
abbrev dktX5_weight_1 : List UInt8 := dkwX5_weight_1 ++ dktX5_weight_2
def dkwX5_weight_0 : List UInt8 := [42, 27, 42, 180, 1, 127, 182, 1, 130, 62, 42, 27, 42, 180, 1, 127, 182, 1, 133, 54, 4, 29, 21, 4]
abbrev dktX5_weight_0 : List UInt8 := dkwX5_weight_0 ++ dktX5_weight_1
theorem dksX5_weight_0 : cX5_weight.data.toList.drop 0 = dktX5_weight_0 := by decide +kernel
theorem dksX5_weight_1 : cX5_weight.data.toList.drop 24 = dktX5_weight_1 := dk_seg dksX5_weight_0 24 rfl rfl
theorem dksX5_weight_2 : cX5_weight.data.toList.drop 48 = dktX5_weight_2 := dk_seg dksX5_weight_1 24 rfl rfl
theorem dksX5_weight_3 : cX5_weight.data.toList.drop 72 = dktX5_weight_3 := dk_seg dksX5_weight_2 24 rfl rfl
theorem dksX5_weight_4 : cX5_weight.data.toList.drop 96 = dktX5_weight_4 := dk_seg dksX5_weight_3 24 rfl rfl
theorem dksX5_weight_5 : cX5_weight.data.toList.drop 119 = dktX5_weight_5 := dk_seg dksX5_weight_4 23 rfl rfl
theorem dksX5_weight_6 : cX5_weight.data.toList.drop 142 = dktX5_weight_6 := dk_seg dksX5_weight_5 23 rfl rfl
theorem dX5_weight_0 : decode cX5_weight 0 = .ok (.aload_n 0, 1) := dk_42 (dk_at dksX5_weight_0 0 rfl rfl)
theorem dX5_weight_1 : decode cX5_weight 1 = .ok (.iload_n 1, 1) := dk_27 (dk_at dksX5_weight_0 1 rfl rfl)
theorem dX5_weight_2 : decode cX5_weight 2 = .ok (.aload_n 0, 1) := dk_42 (dk_at dksX5_weight_0 2 rfl rfl)
theorem dX5_weight_3 : decode cX5_weight 3 = .ok (.getfield 383, 3) := dk_180 1 127 (dk_at dksX5_weight_0 3 rfl rfl)
theorem dX5_weight_6 : decode cX5_weight 6 = .ok (.invokevirtual 386, 3) := dk_182 1 130 (dk_at dksX5_weight_0 6 rfl rfl)
theorem dX5_weight_9 : decode cX5_weight 9 = .ok (.istore_n 3, 1) := dk_62 (dk_at dksX5_weight_0 9 rfl rfl)
theorem dX5_weight_10 : decode cX5_weight 10 = .ok (.aload_n 0, 1) := dk_42 (dk_at dksX5_weight_0 10 rfl rfl)
theorem dX5_weight_11 : decode cX5_weight 11 = .ok (.iload_n 1, 1) := dk_27 (dk_at dksX5_weight_0 11 rfl rfl)
theorem dX5_weight_12 : decode cX5_weight 12 = .ok (.aload_n 0, 1) := dk_42 (dk_at dksX5_weight_0 12 rfl rfl)
theorem dX5_weight_13 : decode cX5_weight 13 = .ok (.getfield 383, 3) := dk_180 1 127 (dk_at dksX5_weight_0 13 rfl rfl)
theorem dX5_weight_16 : decode cX5_weight 16 = .ok (.invokevirtual 389, 3) := dk_182 1 133 (dk_at dksX5_weight_0 16 rfl rfl)
theorem dX5_weight_19 : decode cX5_weight 19 = .ok (.istore 4, 2) := dk_54 4 (dk_at dksX5_weight_0 19 rfl rfl)
theorem dX5_weight_21 : decode cX5_weight 21 = .ok (.iload_n 3, 1) := dk_29 (dk_at dksX5_weight_0 21 rfl rfl)
theorem dX5_weight_22 : decode cX5_weight 22 = .ok (.iload 4, 2) := dk_21 4 (dk_at dksX5_weight_0 22 rfl rfl)
theorem dX5_weight_24 : decode cX5_weight 24 = .ok (.if_icmp .le 15, 3) := dk_164 0 15 (dk_at dksX5_weight_1 0 rfl rfl)
theorem dX5_weight_27 : decode cX5_weight 27 = .ok (.bipush 10, 2) := dk_16 10 (dk_at dksX5_weight_1 3 rfl rfl)
theorem dX5_weight_29 : decode cX5_weight 29 = .ok (.iload_n 3, 1) := dk_29 (dk_at dksX5_weight_1 5 rfl rfl)
theorem dX5_weight_30 : decode cX5_weight 30 = .ok (.imul, 1) := dk_104 (dk_at dksX5_weight_1 6 rfl rfl)
theorem dX5_weight_31 : decode cX5_weight 31 = .ok (.iconst 4, 1) := dk_7 (dk_at dksX5_weight_1 7 rfl rfl)
theorem dX5_weight_32 : decode cX5_weight 32 = .ok (.iload 4, 2) := dk_21 4 (dk_at dksX5_weight_1 8 rfl rfl)
theorem dX5_weight_34 : decode cX5_weight 34 = .ok (.imul, 1) := dk_104 (dk_at dksX5_weight_1 10 rfl rfl)
theorem dX5_weight_35 : decode cX5_weight 35 = .ok (.iadd, 1) := dk_96 (dk_at dksX5_weight_1 11 rfl rfl)
theorem dX5_weight_36 : decode cX5_weight 36 = .ok (.goto 12, 3) := dk_167 0 12 (dk_at dksX5_weight_1 12 rfl rfl)
theorem dX5_weight_39 : decode cX5_weight 39 = .ok (.bipush 10, 2) := dk_16 10 (dk_at dksX5_weight_1 15 rfl rfl)
theorem dX5_weight_41 : decode cX5_weight 41 = .ok (.iload 4, 2) := dk_21 4 (dk_at dksX5_weight_1 17 rfl rfl)
theorem dX5_weight_43 : decode cX5_weight 43 = .ok (.imul, 1) := dk_104 (dk_at dksX5_weight_1 19 rfl rfl)
theorem dX5_weight_44 : decode cX5_weight 44 = .ok (.iconst 4, 1) := dk_7 (dk_at dksX5_weight_1 20 rfl rfl)
theorem dX5_weight_45 : decode cX5_weight 45 = .ok (.iload_n 3, 1) := dk_29 (dk_at dksX5_weight_1 21 rfl rfl)
theorem dX5_weight_46 : decode cX5_weight 46 = .ok (.imul, 1) := dk_104 (dk_at dksX5_weight_1 22 rfl rfl)
theorem dX5_weight_47 : decode cX5_weight 47 = .ok (.iadd, 1) := dk_96 (dk_at dksX5_weight_1 23 rfl rfl)
theorem dX5_weight_48 : decode cX5_weight 48 = .ok (.istore 5, 2) := dk_54 5 (dk_at dksX5_weight_2 0 rfl rfl)
theorem dX5_weight_50 : decode cX5_weight 50 = .ok (.bipush 16, 2) := dk_16 16 (dk_at dksX5_weight_2 2 rfl rfl)
theorem dX5_weight_52 : decode cX5_weight 52 = .ok (.aload_n 0, 1) := dk_42 (dk_at dksX5_weight_2 4 rfl rfl)
theorem dX5_weight_53 : decode cX5_weight 53 = .ok (.getfield 378, 3) := dk_180 1 122 (dk_at dksX5_weight_2 5 rfl rfl)
theorem dX5_weight_56 : decode cX5_weight 56 = .ok (.imul, 1) := dk_104 (dk_at dksX5_weight_2 8 rfl rfl)
theorem dX5_weight_57 : decode cX5_weight 57 = .ok (.istore 6, 2) := dk_54 6 (dk_at dksX5_weight_2 9 rfl rfl)
theorem dX5_weight_59 : decode cX5_weight 59 = .ok (.iload 6, 2) := dk_21 6 (dk_at dksX5_weight_2 11 rfl rfl)
theorem dX5_weight_61 : decode cX5_weight 61 = .ok (.bipush 16, 2) := dk_16 16 (dk_at dksX5_weight_2 13 rfl rfl)
theorem dX5_weight_63 : decode cX5_weight 63 = .ok (.aload_n 0, 1) := dk_42 (dk_at dksX5_weight_2 15 rfl rfl)
theorem dX5_weight_64 : decode cX5_weight 64 = .ok (.getfield 378, 3) := dk_180 1 122 (dk_at dksX5_weight_2 16 rfl rfl)
theorem dX5_weight_67 : decode cX5_weight 67 = .ok (.imul, 1) := dk_104 (dk_at dksX5_weight_2 19 rfl rfl)
theorem dX5_weight_68 : decode cX5_weight 68 = .ok (.aload_n 0, 1) := dk_42 (dk_at dksX5_weight_2 20 rfl rfl)
theorem dX5_weight_69 : decode cX5_weight 69 = .ok (.getfield 44, 3) := dk_180 0 44 (dk_at dksX5_weight_2 21 rfl rfl)
theorem dX5_weight_72 : decode cX5_weight 72 = .ok (.aload_n 0, 1) := dk_42 (dk_at dksX5_weight_3 0 rfl rfl)
theorem dX5_weight_73 : decode cX5_weight 73 = .ok (.getfield 378, 3) := dk_180 1 122 (dk_at dksX5_weight_3 1 rfl rfl)
theorem dX5_weight_76 : decode cX5_weight 76 = .ok (.iaload, 1) := dk_46 (dk_at dksX5_weight_3 4 rfl rfl)
theorem dX5_weight_77 : decode cX5_weight 77 = .ok (.iadd, 1) := dk_96 (dk_at dksX5_weight_3 5 rfl rfl)
theorem dX5_weight_78 : decode cX5_weight 78 = .ok (.if_icmp .ge 81, 3) := dk_162 0 81 (dk_at dksX5_weight_3 6 rfl rfl)
theorem dX5_weight_81 : decode cX5_weight 81 = .ok (.aload_n 0, 1) := dk_42 (dk_at dksX5_weight_3 9 rfl rfl)
theorem dX5_weight_82 : decode cX5_weight 82 = .ok (.getfield 47, 3) := dk_180 0 47 (dk_at dksX5_weight_3 10 rfl rfl)
theorem dX5_weight_85 : decode cX5_weight 85 = .ok (.iload 6, 2) := dk_21 6 (dk_at dksX5_weight_3 13 rfl rfl)
theorem dX5_weight_87 : decode cX5_weight 87 = .ok (.iaload, 1) := dk_46 (dk_at dksX5_weight_3 15 rfl rfl)
theorem dX5_weight_88 : decode cX5_weight 88 = .ok (.iconst 5, 1) := dk_8 (dk_at dksX5_weight_3 16 rfl rfl)
theorem dX5_weight_89 : decode cX5_weight 89 = .ok (.if_icmp .ne 64, 3) := dk_160 0 64 (dk_at dksX5_weight_3 17 rfl rfl)
theorem dX5_weight_92 : decode cX5_weight 92 = .ok (.aload_n 0, 1) := dk_42 (dk_at dksX5_weight_3 20 rfl rfl)
theorem dX5_weight_93 : decode cX5_weight 93 = .ok (.iload 6, 2) := dk_21 6 (dk_at dksX5_weight_3 21 rfl rfl)
theorem dX5_weight_95 : decode cX5_weight 95 = .ok (.iload_n 1, 1) := dk_27 (dk_at dksX5_weight_3 23 rfl rfl)
theorem dX5_weight_96 : decode cX5_weight 96 = .ok (.invokevirtual 337, 3) := dk_182 1 81 (dk_at dksX5_weight_4 0 rfl rfl)
theorem dX5_weight_99 : decode cX5_weight 99 = .ok (.ifCond .ne 6, 3) := dk_154 0 6 (dk_at dksX5_weight_4 3 rfl rfl)
theorem dX5_weight_102 : decode cX5_weight 102 = .ok (.goto 51, 3) := dk_167 0 51 (dk_at dksX5_weight_4 6 rfl rfl)
theorem dX5_weight_105 : decode cX5_weight 105 = .ok (.aload_n 0, 1) := dk_42 (dk_at dksX5_weight_4 9 rfl rfl)
theorem dX5_weight_106 : decode cX5_weight 106 = .ok (.getfield 53, 3) := dk_180 0 53 (dk_at dksX5_weight_4 10 rfl rfl)
theorem dX5_weight_109 : decode cX5_weight 109 = .ok (.iload 6, 2) := dk_21 6 (dk_at dksX5_weight_4 13 rfl rfl)
theorem dX5_weight_111 : decode cX5_weight 111 = .ok (.iaload, 1) := dk_46 (dk_at dksX5_weight_4 15 rfl rfl)
theorem dX5_weight_112 : decode cX5_weight 112 = .ok (.aload_n 0, 1) := dk_42 (dk_at dksX5_weight_4 16 rfl rfl)
theorem dX5_weight_113 : decode cX5_weight 113 = .ok (.iload_n 1, 1) := dk_27 (dk_at dksX5_weight_4 17 rfl rfl)
theorem dX5_weight_114 : decode cX5_weight 114 = .ok (.iload_n 2, 1) := dk_28 (dk_at dksX5_weight_4 18 rfl rfl)
theorem dX5_weight_115 : decode cX5_weight 115 = .ok (.aload_n 0, 1) := dk_42 (dk_at dksX5_weight_4 19 rfl rfl)
theorem dX5_weight_116 : decode cX5_weight 116 = .ok (.getfield 50, 3) := dk_180 0 50 (dk_at dksX5_weight_4 20 rfl rfl)
theorem dX5_weight_119 : decode cX5_weight 119 = .ok (.iload 6, 2) := dk_21 6 (dk_at dksX5_weight_5 0 rfl rfl)
theorem dX5_weight_121 : decode cX5_weight 121 = .ok (.iaload, 1) := dk_46 (dk_at dksX5_weight_5 2 rfl rfl)
theorem dX5_weight_122 : decode cX5_weight 122 = .ok (.invokevirtual 392, 3) := dk_182 1 136 (dk_at dksX5_weight_5 3 rfl rfl)
theorem dX5_weight_125 : decode cX5_weight 125 = .ok (.imul, 1) := dk_104 (dk_at dksX5_weight_5 6 rfl rfl)
theorem dX5_weight_126 : decode cX5_weight 126 = .ok (.istore 7, 2) := dk_54 7 (dk_at dksX5_weight_5 7 rfl rfl)
theorem dX5_weight_128 : decode cX5_weight 128 = .ok (.iload 5, 2) := dk_21 5 (dk_at dksX5_weight_5 9 rfl rfl)
theorem dX5_weight_130 : decode cX5_weight 130 = .ok (.aload_n 0, 1) := dk_42 (dk_at dksX5_weight_5 11 rfl rfl)
theorem dX5_weight_131 : decode cX5_weight 131 = .ok (.getfield 50, 3) := dk_180 0 50 (dk_at dksX5_weight_5 12 rfl rfl)
theorem dX5_weight_134 : decode cX5_weight 134 = .ok (.iload 6, 2) := dk_21 6 (dk_at dksX5_weight_5 15 rfl rfl)
theorem dX5_weight_136 : decode cX5_weight 136 = .ok (.iaload, 1) := dk_46 (dk_at dksX5_weight_5 17 rfl rfl)
theorem dX5_weight_137 : decode cX5_weight 137 = .ok (.bipush 6, 2) := dk_16 6 (dk_at dksX5_weight_5 18 rfl rfl)
theorem dX5_weight_139 : decode cX5_weight 139 = .ok (.if_icmp .ne 9, 3) := dk_160 0 9 (dk_at dksX5_weight_5 20 rfl rfl)
theorem dX5_weight_142 : decode cX5_weight 142 = .ok (.iload 7, 2) := dk_21 7 (dk_at dksX5_weight_6 0 rfl rfl)
theorem dX5_weight_144 : decode cX5_weight 144 = .ok (.ineg, 1) := dk_116 (dk_at dksX5_weight_6 2 rfl rfl)
theorem dX5_weight_145 : decode cX5_weight 145 = .ok (.goto 5, 3) := dk_167 0 5 (dk_at dksX5_weight_6 3 rfl rfl)
theorem dX5_weight_148 : decode cX5_weight 148 = .ok (.iload 7, 2) := dk_21 7 (dk_at dksX5_weight_6 6 rfl rfl)
theorem dX5_weight_150 : decode cX5_weight 150 = .ok (.iadd, 1) := dk_96 (dk_at dksX5_weight_6 8 rfl rfl)
theorem dX5_weight_151 : decode cX5_weight 151 = .ok (.istore 5, 2) := dk_54 5 (dk_at dksX5_weight_6 9 rfl rfl)
theorem dX5_weight_153 : decode cX5_weight 153 = .ok (.iinc 6 1, 3) := dk_132 6 1 (dk_at dksX5_weight_6 11 rfl rfl)
theorem dX5_weight_156 : decode cX5_weight 156 = .ok (.goto (-97), 3) := dk_167 255 159 (dk_at dksX5_weight_6 14 rfl rfl)
theorem dX5_weight_159 : decode cX5_weight 159 = .ok (.iload 5, 2) := dk_21 5 (dk_at dksX5_weight_6 17 rfl rfl)
theorem dX5_weight_161 : decode cX5_weight 161 = .ok (.ireturn, 1) := dk_172 (dk_at dksX5_weight_6 19 rfl rfl)
abbrev cX5_measured : ByteArray := prog_12_method_64_code
def yX5_measured : MethodName := ⟨RX5, "measured", "(III)I"⟩
def dkwX5_measured_7 : List UInt8 := [42, 27, 28, 182, 1, 119, 172]
abbrev dktX5_measured_7 : List UInt8 := dkwX5_measured_7 ++ []
def dkwX5_measured_6 : List UInt8 := [28, 159, 0, 7, 4, 167, 0, 4, 3, 172, 27, 42, 180, 1, 116, 160, 0, 7, 4, 167, 0, 4, 3, 172]
abbrev dktX5_measured_6 : List UInt8 := dkwX5_measured_6 ++ dktX5_measured_7
def dkwX5_measured_5 : List UInt8 := [153, 0, 7, 3, 167, 0, 8, 42, 27, 182, 1, 110, 172, 42, 180, 1, 113, 155, 0, 15, 42, 180, 1, 113]
abbrev dktX5_measured_5 : List UInt8 := dkwX5_measured_5 ++ dktX5_measured_6
def dkwX5_measured_4 : List UInt8 := [5, 182, 0, 136, 42, 42, 180, 1, 103, 5, 182, 0, 136, 100, 184, 1, 97, 172, 42, 180, 1, 106]
abbrev dktX5_measured_4 : List UInt8 := dkwX5_measured_4 ++ dktX5_measured_5
def dkwX5_measured_3 : List UInt8 := [182, 0, 136, 100, 16, 10, 108, 167, 0, 4, 3, 172, 42, 27, 7, 182, 0, 136, 16, 10, 108, 172, 42, 27]
abbrev dktX5_measured_3 : List UInt8 := dkwX5_measured_3 ++ dktX5_measured_4
def dkwX5_measured_2 : List UInt8 := [42, 27, 182, 1, 100, 153, 0, 28, 42, 27, 182, 0, 140, 154, 0, 20, 42, 180, 0, 74, 42, 27, 6]
abbrev dktX5_measured_2 : List UInt8 := dkwX5_measured_2 ++ dktX5_measured_3
def dkwX5_measured_1 : List UInt8 := [170, 0, 0, 0, 0, 0, 156, 0, 0, 0, 0, 0, 0, 0, 5, 0, 0, 0, 39, 0, 0, 0, 74, 0, 0, 0, 84, 0, 0, 0, 104, 0, 0, 0, 121, 0, 0, 0, 142]
abbrev dktX5_measured_1 : List UInt8 := dkwX5_measured_1 ++ dktX5_measured_2
def dkwX5_measured_0 : List UInt8 := [29]
abbrev dktX5_measured_0 : List UInt8 := dkwX5_measured_0 ++ dktX5_measured_1
theorem dksX5_measured_0 : cX5_measured.data.toList.drop 0 = dktX5_measured_0 := by decide +kernel
theorem dksX5_measured_1 : cX5_measured.data.toList.drop 1 = dktX5_measured_1 := dk_seg dksX5_measured_0 1 rfl rfl
theorem dksX5_measured_2 : cX5_measured.data.toList.drop 40 = dktX5_measured_2 := dk_seg dksX5_measured_1 39 rfl rfl
theorem dksX5_measured_3 : cX5_measured.data.toList.drop 63 = dktX5_measured_3 := dk_seg dksX5_measured_2 23 rfl rfl
theorem dksX5_measured_4 : cX5_measured.data.toList.drop 87 = dktX5_measured_4 := dk_seg dksX5_measured_3 24 rfl rfl
theorem dksX5_measured_5 : cX5_measured.data.toList.drop 109 = dktX5_measured_5 := dk_seg dksX5_measured_4 22 rfl rfl
theorem dksX5_measured_6 : cX5_measured.data.toList.drop 133 = dktX5_measured_6 := dk_seg dksX5_measured_5 24 rfl rfl
theorem dksX5_measured_7 : cX5_measured.data.toList.drop 157 = dktX5_measured_7 := dk_seg dksX5_measured_6 24 rfl rfl
theorem dX5_measured_0 : decode cX5_measured 0 = .ok (.iload_n 3, 1) := dk_29 (dk_at dksX5_measured_0 0 rfl rfl)
theorem dX5_measured_1 : decode cX5_measured 1 = .ok (.tableswitch 156 0 5 #[39, 74, 84, 104, 121, 142], 39) := by decide +kernel
theorem dX5_measured_40 : decode cX5_measured 40 = .ok (.aload_n 0, 1) := dk_42 (dk_at dksX5_measured_2 0 rfl rfl)
theorem dX5_measured_41 : decode cX5_measured 41 = .ok (.iload_n 1, 1) := dk_27 (dk_at dksX5_measured_2 1 rfl rfl)
theorem dX5_measured_42 : decode cX5_measured 42 = .ok (.invokevirtual 356, 3) := dk_182 1 100 (dk_at dksX5_measured_2 2 rfl rfl)
theorem dX5_measured_45 : decode cX5_measured 45 = .ok (.ifCond .eq 28, 3) := dk_153 0 28 (dk_at dksX5_measured_2 5 rfl rfl)
theorem dX5_measured_48 : decode cX5_measured 48 = .ok (.aload_n 0, 1) := dk_42 (dk_at dksX5_measured_2 8 rfl rfl)
theorem dX5_measured_49 : decode cX5_measured 49 = .ok (.iload_n 1, 1) := dk_27 (dk_at dksX5_measured_2 9 rfl rfl)
theorem dX5_measured_50 : decode cX5_measured 50 = .ok (.invokevirtual 140, 3) := dk_182 0 140 (dk_at dksX5_measured_2 10 rfl rfl)
theorem dX5_measured_53 : decode cX5_measured 53 = .ok (.ifCond .ne 20, 3) := dk_154 0 20 (dk_at dksX5_measured_2 13 rfl rfl)
theorem dX5_measured_56 : decode cX5_measured 56 = .ok (.aload_n 0, 1) := dk_42 (dk_at dksX5_measured_2 16 rfl rfl)
theorem dX5_measured_57 : decode cX5_measured 57 = .ok (.getfield 74, 3) := dk_180 0 74 (dk_at dksX5_measured_2 17 rfl rfl)
theorem dX5_measured_60 : decode cX5_measured 60 = .ok (.aload_n 0, 1) := dk_42 (dk_at dksX5_measured_2 20 rfl rfl)
theorem dX5_measured_61 : decode cX5_measured 61 = .ok (.iload_n 1, 1) := dk_27 (dk_at dksX5_measured_2 21 rfl rfl)
theorem dX5_measured_62 : decode cX5_measured 62 = .ok (.iconst 3, 1) := dk_6 (dk_at dksX5_measured_2 22 rfl rfl)
theorem dX5_measured_63 : decode cX5_measured 63 = .ok (.invokevirtual 136, 3) := dk_182 0 136 (dk_at dksX5_measured_3 0 rfl rfl)
theorem dX5_measured_66 : decode cX5_measured 66 = .ok (.isub, 1) := dk_100 (dk_at dksX5_measured_3 3 rfl rfl)
theorem dX5_measured_67 : decode cX5_measured 67 = .ok (.bipush 10, 2) := dk_16 10 (dk_at dksX5_measured_3 4 rfl rfl)
theorem dX5_measured_69 : decode cX5_measured 69 = .ok (.idiv, 1) := dk_108 (dk_at dksX5_measured_3 6 rfl rfl)
theorem dX5_measured_70 : decode cX5_measured 70 = .ok (.goto 4, 3) := dk_167 0 4 (dk_at dksX5_measured_3 7 rfl rfl)
theorem dX5_measured_73 : decode cX5_measured 73 = .ok (.iconst 0, 1) := dk_3 (dk_at dksX5_measured_3 10 rfl rfl)
theorem dX5_measured_74 : decode cX5_measured 74 = .ok (.ireturn, 1) := dk_172 (dk_at dksX5_measured_3 11 rfl rfl)
theorem dX5_measured_75 : decode cX5_measured 75 = .ok (.aload_n 0, 1) := dk_42 (dk_at dksX5_measured_3 12 rfl rfl)
theorem dX5_measured_76 : decode cX5_measured 76 = .ok (.iload_n 1, 1) := dk_27 (dk_at dksX5_measured_3 13 rfl rfl)
theorem dX5_measured_77 : decode cX5_measured 77 = .ok (.iconst 4, 1) := dk_7 (dk_at dksX5_measured_3 14 rfl rfl)
theorem dX5_measured_78 : decode cX5_measured 78 = .ok (.invokevirtual 136, 3) := dk_182 0 136 (dk_at dksX5_measured_3 15 rfl rfl)
theorem dX5_measured_81 : decode cX5_measured 81 = .ok (.bipush 10, 2) := dk_16 10 (dk_at dksX5_measured_3 18 rfl rfl)
theorem dX5_measured_83 : decode cX5_measured 83 = .ok (.idiv, 1) := dk_108 (dk_at dksX5_measured_3 20 rfl rfl)
theorem dX5_measured_84 : decode cX5_measured 84 = .ok (.ireturn, 1) := dk_172 (dk_at dksX5_measured_3 21 rfl rfl)
theorem dX5_measured_85 : decode cX5_measured 85 = .ok (.aload_n 0, 1) := dk_42 (dk_at dksX5_measured_3 22 rfl rfl)
theorem dX5_measured_86 : decode cX5_measured 86 = .ok (.iload_n 1, 1) := dk_27 (dk_at dksX5_measured_3 23 rfl rfl)
theorem dX5_measured_87 : decode cX5_measured 87 = .ok (.iconst 2, 1) := dk_5 (dk_at dksX5_measured_4 0 rfl rfl)
theorem dX5_measured_88 : decode cX5_measured 88 = .ok (.invokevirtual 136, 3) := dk_182 0 136 (dk_at dksX5_measured_4 1 rfl rfl)
theorem dX5_measured_91 : decode cX5_measured 91 = .ok (.aload_n 0, 1) := dk_42 (dk_at dksX5_measured_4 4 rfl rfl)
theorem dX5_measured_92 : decode cX5_measured 92 = .ok (.aload_n 0, 1) := dk_42 (dk_at dksX5_measured_4 5 rfl rfl)
theorem dX5_measured_93 : decode cX5_measured 93 = .ok (.getfield 359, 3) := dk_180 1 103 (dk_at dksX5_measured_4 6 rfl rfl)
theorem dX5_measured_96 : decode cX5_measured 96 = .ok (.iconst 2, 1) := dk_5 (dk_at dksX5_measured_4 9 rfl rfl)
theorem dX5_measured_97 : decode cX5_measured 97 = .ok (.invokevirtual 136, 3) := dk_182 0 136 (dk_at dksX5_measured_4 10 rfl rfl)
theorem dX5_measured_100 : decode cX5_measured 100 = .ok (.isub, 1) := dk_100 (dk_at dksX5_measured_4 13 rfl rfl)
theorem dX5_measured_101 : decode cX5_measured 101 = .ok (.invokestatic 353, 3) := dk_184 1 97 (dk_at dksX5_measured_4 14 rfl rfl)
theorem dX5_measured_104 : decode cX5_measured 104 = .ok (.ireturn, 1) := dk_172 (dk_at dksX5_measured_4 17 rfl rfl)
theorem dX5_measured_105 : decode cX5_measured 105 = .ok (.aload_n 0, 1) := dk_42 (dk_at dksX5_measured_4 18 rfl rfl)
theorem dX5_measured_106 : decode cX5_measured 106 = .ok (.getfield 362, 3) := dk_180 1 106 (dk_at dksX5_measured_4 19 rfl rfl)
theorem dX5_measured_109 : decode cX5_measured 109 = .ok (.ifCond .eq 7, 3) := dk_153 0 7 (dk_at dksX5_measured_5 0 rfl rfl)
theorem dX5_measured_112 : decode cX5_measured 112 = .ok (.iconst 0, 1) := dk_3 (dk_at dksX5_measured_5 3 rfl rfl)
theorem dX5_measured_113 : decode cX5_measured 113 = .ok (.goto 8, 3) := dk_167 0 8 (dk_at dksX5_measured_5 4 rfl rfl)
theorem dX5_measured_116 : decode cX5_measured 116 = .ok (.aload_n 0, 1) := dk_42 (dk_at dksX5_measured_5 7 rfl rfl)
theorem dX5_measured_117 : decode cX5_measured 117 = .ok (.iload_n 1, 1) := dk_27 (dk_at dksX5_measured_5 8 rfl rfl)
theorem dX5_measured_118 : decode cX5_measured 118 = .ok (.invokevirtual 366, 3) := dk_182 1 110 (dk_at dksX5_measured_5 9 rfl rfl)
theorem dX5_measured_121 : decode cX5_measured 121 = .ok (.ireturn, 1) := dk_172 (dk_at dksX5_measured_5 12 rfl rfl)
theorem dX5_measured_122 : decode cX5_measured 122 = .ok (.aload_n 0, 1) := dk_42 (dk_at dksX5_measured_5 13 rfl rfl)
theorem dX5_measured_123 : decode cX5_measured 123 = .ok (.getfield 369, 3) := dk_180 1 113 (dk_at dksX5_measured_5 14 rfl rfl)
theorem dX5_measured_126 : decode cX5_measured 126 = .ok (.ifCond .lt 15, 3) := dk_155 0 15 (dk_at dksX5_measured_5 17 rfl rfl)
theorem dX5_measured_129 : decode cX5_measured 129 = .ok (.aload_n 0, 1) := dk_42 (dk_at dksX5_measured_5 20 rfl rfl)
theorem dX5_measured_130 : decode cX5_measured 130 = .ok (.getfield 369, 3) := dk_180 1 113 (dk_at dksX5_measured_5 21 rfl rfl)
theorem dX5_measured_133 : decode cX5_measured 133 = .ok (.iload_n 2, 1) := dk_28 (dk_at dksX5_measured_6 0 rfl rfl)
theorem dX5_measured_134 : decode cX5_measured 134 = .ok (.if_icmp .eq 7, 3) := dk_159 0 7 (dk_at dksX5_measured_6 1 rfl rfl)
theorem dX5_measured_137 : decode cX5_measured 137 = .ok (.iconst 1, 1) := dk_4 (dk_at dksX5_measured_6 4 rfl rfl)
theorem dX5_measured_138 : decode cX5_measured 138 = .ok (.goto 4, 3) := dk_167 0 4 (dk_at dksX5_measured_6 5 rfl rfl)
theorem dX5_measured_141 : decode cX5_measured 141 = .ok (.iconst 0, 1) := dk_3 (dk_at dksX5_measured_6 8 rfl rfl)
theorem dX5_measured_142 : decode cX5_measured 142 = .ok (.ireturn, 1) := dk_172 (dk_at dksX5_measured_6 9 rfl rfl)
theorem dX5_measured_143 : decode cX5_measured 143 = .ok (.iload_n 1, 1) := dk_27 (dk_at dksX5_measured_6 10 rfl rfl)
theorem dX5_measured_144 : decode cX5_measured 144 = .ok (.aload_n 0, 1) := dk_42 (dk_at dksX5_measured_6 11 rfl rfl)
theorem dX5_measured_145 : decode cX5_measured 145 = .ok (.getfield 372, 3) := dk_180 1 116 (dk_at dksX5_measured_6 12 rfl rfl)
theorem dX5_measured_148 : decode cX5_measured 148 = .ok (.if_icmp .ne 7, 3) := dk_160 0 7 (dk_at dksX5_measured_6 15 rfl rfl)
theorem dX5_measured_151 : decode cX5_measured 151 = .ok (.iconst 1, 1) := dk_4 (dk_at dksX5_measured_6 18 rfl rfl)
theorem dX5_measured_152 : decode cX5_measured 152 = .ok (.goto 4, 3) := dk_167 0 4 (dk_at dksX5_measured_6 19 rfl rfl)
theorem dX5_measured_155 : decode cX5_measured 155 = .ok (.iconst 0, 1) := dk_3 (dk_at dksX5_measured_6 22 rfl rfl)
theorem dX5_measured_156 : decode cX5_measured 156 = .ok (.ireturn, 1) := dk_172 (dk_at dksX5_measured_6 23 rfl rfl)
theorem dX5_measured_157 : decode cX5_measured 157 = .ok (.aload_n 0, 1) := dk_42 (dk_at dksX5_measured_7 0 rfl rfl)
theorem dX5_measured_158 : decode cX5_measured 158 = .ok (.iload_n 1, 1) := dk_27 (dk_at dksX5_measured_7 1 rfl rfl)
theorem dX5_measured_159 : decode cX5_measured 159 = .ok (.iload_n 2, 1) := dk_28 (dk_at dksX5_measured_7 2 rfl rfl)
theorem dX5_measured_160 : decode cX5_measured 160 = .ok (.invokevirtual 375, 3) := dk_182 1 119 (dk_at dksX5_measured_7 3 rfl rfl)
theorem dX5_measured_163 : decode cX5_measured 163 = .ok (.ireturn, 1) := dk_172 (dk_at dksX5_measured_7 6 rfl rfl)
abbrev cX5_isGreen : ByteArray := prog_12_method_16_code
def yX5_isGreen : MethodName := ⟨RX5, "isGreen", "(I)Z"⟩
def dkwX5_isGreen_1 : List UInt8 := [172]
abbrev dktX5_isGreen_1 : List UInt8 := dkwX5_isGreen_1 ++ []
def dkwX5_isGreen_0 : List UInt8 := [42, 27, 3, 182, 0, 136, 153, 0, 13, 42, 27, 3, 182, 0, 136, 5, 160, 0, 7, 4, 167, 0, 4, 3]
abbrev dktX5_isGreen_0 : List UInt8 := dkwX5_isGreen_0 ++ dktX5_isGreen_1
theorem dksX5_isGreen_0 : cX5_isGreen.data.toList.drop 0 = dktX5_isGreen_0 := by decide +kernel
theorem dksX5_isGreen_1 : cX5_isGreen.data.toList.drop 24 = dktX5_isGreen_1 := dk_seg dksX5_isGreen_0 24 rfl rfl
theorem dX5_isGreen_0 : decode cX5_isGreen 0 = .ok (.aload_n 0, 1) := dk_42 (dk_at dksX5_isGreen_0 0 rfl rfl)
theorem dX5_isGreen_1 : decode cX5_isGreen 1 = .ok (.iload_n 1, 1) := dk_27 (dk_at dksX5_isGreen_0 1 rfl rfl)
theorem dX5_isGreen_2 : decode cX5_isGreen 2 = .ok (.iconst 0, 1) := dk_3 (dk_at dksX5_isGreen_0 2 rfl rfl)
theorem dX5_isGreen_3 : decode cX5_isGreen 3 = .ok (.invokevirtual 136, 3) := dk_182 0 136 (dk_at dksX5_isGreen_0 3 rfl rfl)
theorem dX5_isGreen_6 : decode cX5_isGreen 6 = .ok (.ifCond .eq 13, 3) := dk_153 0 13 (dk_at dksX5_isGreen_0 6 rfl rfl)
theorem dX5_isGreen_9 : decode cX5_isGreen 9 = .ok (.aload_n 0, 1) := dk_42 (dk_at dksX5_isGreen_0 9 rfl rfl)
theorem dX5_isGreen_10 : decode cX5_isGreen 10 = .ok (.iload_n 1, 1) := dk_27 (dk_at dksX5_isGreen_0 10 rfl rfl)
theorem dX5_isGreen_11 : decode cX5_isGreen 11 = .ok (.iconst 0, 1) := dk_3 (dk_at dksX5_isGreen_0 11 rfl rfl)
theorem dX5_isGreen_12 : decode cX5_isGreen 12 = .ok (.invokevirtual 136, 3) := dk_182 0 136 (dk_at dksX5_isGreen_0 12 rfl rfl)
theorem dX5_isGreen_15 : decode cX5_isGreen 15 = .ok (.iconst 2, 1) := dk_5 (dk_at dksX5_isGreen_0 15 rfl rfl)
theorem dX5_isGreen_16 : decode cX5_isGreen 16 = .ok (.if_icmp .ne 7, 3) := dk_160 0 7 (dk_at dksX5_isGreen_0 16 rfl rfl)
theorem dX5_isGreen_19 : decode cX5_isGreen 19 = .ok (.iconst 1, 1) := dk_4 (dk_at dksX5_isGreen_0 19 rfl rfl)
theorem dX5_isGreen_20 : decode cX5_isGreen 20 = .ok (.goto 4, 3) := dk_167 0 4 (dk_at dksX5_isGreen_0 20 rfl rfl)
theorem dX5_isGreen_23 : decode cX5_isGreen 23 = .ok (.iconst 0, 1) := dk_3 (dk_at dksX5_isGreen_0 23 rfl rfl)
theorem dX5_isGreen_24 : decode cX5_isGreen 24 = .ok (.ireturn, 1) := dk_172 (dk_at dksX5_isGreen_1 0 rfl rfl)
abbrev cX5_crowd : ByteArray := prog_12_method_65_code
def yX5_crowd : MethodName := ⟨RX5, "crowd", "(I)I"⟩
def dkwX5_crowd_2 : List UInt8 := [172]
abbrev dktX5_crowd_2 : List UInt8 := dkwX5_crowd_2 ++ []
def dkwX5_crowd_1 : List UInt8 := [16, 6, 29, 104, 96, 46, 27, 160, 0, 7, 4, 167, 0, 4, 3, 96, 61, 132, 3, 1, 167, 255, 216, 28]
abbrev dktX5_crowd_1 : List UInt8 := dkwX5_crowd_1 ++ dktX5_crowd_2
def dkwX5_crowd_0 : List UInt8 := [3, 61, 3, 62, 29, 42, 180, 0, 30, 17, 0, 157, 46, 162, 0, 34, 28, 42, 180, 0, 30, 17, 0, 158]
abbrev dktX5_crowd_0 : List UInt8 := dkwX5_crowd_0 ++ dktX5_crowd_1
theorem dksX5_crowd_0 : cX5_crowd.data.toList.drop 0 = dktX5_crowd_0 := by decide +kernel
theorem dksX5_crowd_1 : cX5_crowd.data.toList.drop 24 = dktX5_crowd_1 := dk_seg dksX5_crowd_0 24 rfl rfl
theorem dksX5_crowd_2 : cX5_crowd.data.toList.drop 48 = dktX5_crowd_2 := dk_seg dksX5_crowd_1 24 rfl rfl
theorem dX5_crowd_0 : decode cX5_crowd 0 = .ok (.iconst 0, 1) := dk_3 (dk_at dksX5_crowd_0 0 rfl rfl)
theorem dX5_crowd_1 : decode cX5_crowd 1 = .ok (.istore_n 2, 1) := dk_61 (dk_at dksX5_crowd_0 1 rfl rfl)
theorem dX5_crowd_2 : decode cX5_crowd 2 = .ok (.iconst 0, 1) := dk_3 (dk_at dksX5_crowd_0 2 rfl rfl)
theorem dX5_crowd_3 : decode cX5_crowd 3 = .ok (.istore_n 3, 1) := dk_62 (dk_at dksX5_crowd_0 3 rfl rfl)
theorem dX5_crowd_4 : decode cX5_crowd 4 = .ok (.iload_n 3, 1) := dk_29 (dk_at dksX5_crowd_0 4 rfl rfl)
theorem dX5_crowd_5 : decode cX5_crowd 5 = .ok (.aload_n 0, 1) := dk_42 (dk_at dksX5_crowd_0 5 rfl rfl)
theorem dX5_crowd_6 : decode cX5_crowd 6 = .ok (.getfield 30, 3) := dk_180 0 30 (dk_at dksX5_crowd_0 6 rfl rfl)
theorem dX5_crowd_9 : decode cX5_crowd 9 = .ok (.sipush 157, 3) := dk_17 0 157 (dk_at dksX5_crowd_0 9 rfl rfl)
theorem dX5_crowd_12 : decode cX5_crowd 12 = .ok (.iaload, 1) := dk_46 (dk_at dksX5_crowd_0 12 rfl rfl)
theorem dX5_crowd_13 : decode cX5_crowd 13 = .ok (.if_icmp .ge 34, 3) := dk_162 0 34 (dk_at dksX5_crowd_0 13 rfl rfl)
theorem dX5_crowd_16 : decode cX5_crowd 16 = .ok (.iload_n 2, 1) := dk_28 (dk_at dksX5_crowd_0 16 rfl rfl)
theorem dX5_crowd_17 : decode cX5_crowd 17 = .ok (.aload_n 0, 1) := dk_42 (dk_at dksX5_crowd_0 17 rfl rfl)
theorem dX5_crowd_18 : decode cX5_crowd 18 = .ok (.getfield 30, 3) := dk_180 0 30 (dk_at dksX5_crowd_0 18 rfl rfl)
theorem dX5_crowd_21 : decode cX5_crowd 21 = .ok (.sipush 158, 3) := dk_17 0 158 (dk_at dksX5_crowd_0 21 rfl rfl)
theorem dX5_crowd_24 : decode cX5_crowd 24 = .ok (.bipush 6, 2) := dk_16 6 (dk_at dksX5_crowd_1 0 rfl rfl)
theorem dX5_crowd_26 : decode cX5_crowd 26 = .ok (.iload_n 3, 1) := dk_29 (dk_at dksX5_crowd_1 2 rfl rfl)
theorem dX5_crowd_27 : decode cX5_crowd 27 = .ok (.imul, 1) := dk_104 (dk_at dksX5_crowd_1 3 rfl rfl)
theorem dX5_crowd_28 : decode cX5_crowd 28 = .ok (.iadd, 1) := dk_96 (dk_at dksX5_crowd_1 4 rfl rfl)
theorem dX5_crowd_29 : decode cX5_crowd 29 = .ok (.iaload, 1) := dk_46 (dk_at dksX5_crowd_1 5 rfl rfl)
theorem dX5_crowd_30 : decode cX5_crowd 30 = .ok (.iload_n 1, 1) := dk_27 (dk_at dksX5_crowd_1 6 rfl rfl)
theorem dX5_crowd_31 : decode cX5_crowd 31 = .ok (.if_icmp .ne 7, 3) := dk_160 0 7 (dk_at dksX5_crowd_1 7 rfl rfl)
theorem dX5_crowd_34 : decode cX5_crowd 34 = .ok (.iconst 1, 1) := dk_4 (dk_at dksX5_crowd_1 10 rfl rfl)
theorem dX5_crowd_35 : decode cX5_crowd 35 = .ok (.goto 4, 3) := dk_167 0 4 (dk_at dksX5_crowd_1 11 rfl rfl)
theorem dX5_crowd_38 : decode cX5_crowd 38 = .ok (.iconst 0, 1) := dk_3 (dk_at dksX5_crowd_1 14 rfl rfl)
theorem dX5_crowd_39 : decode cX5_crowd 39 = .ok (.iadd, 1) := dk_96 (dk_at dksX5_crowd_1 15 rfl rfl)
theorem dX5_crowd_40 : decode cX5_crowd 40 = .ok (.istore_n 2, 1) := dk_61 (dk_at dksX5_crowd_1 16 rfl rfl)
theorem dX5_crowd_41 : decode cX5_crowd 41 = .ok (.iinc 3 1, 3) := dk_132 3 1 (dk_at dksX5_crowd_1 17 rfl rfl)
theorem dX5_crowd_44 : decode cX5_crowd 44 = .ok (.goto (-40), 3) := dk_167 255 216 (dk_at dksX5_crowd_1 20 rfl rfl)
theorem dX5_crowd_47 : decode cX5_crowd 47 = .ok (.iload_n 2, 1) := dk_28 (dk_at dksX5_crowd_1 23 rfl rfl)
theorem dX5_crowd_48 : decode cX5_crowd 48 = .ok (.ireturn, 1) := dk_172 (dk_at dksX5_crowd_2 0 rfl rfl)
abbrev cX5_sees : ByteArray := prog_12_method_66_code
def yX5_sees : MethodName := ⟨RX5, "sees", "(II)I"⟩
def dkwX5_sees_3 : List UInt8 := [54, 5, 42, 21, 6, 28, 182, 1, 124, 54, 6, 132, 4, 255, 167, 255, 206, 21, 5, 172]
abbrev dktX5_sees_3 : List UInt8 := dkwX5_sees_3 ++ []
def dkwX5_sees_2 : List UInt8 := [182, 0, 158, 153, 0, 37, 21, 5, 42, 21, 6, 182, 0, 140, 153, 0, 7, 4, 167, 0, 4, 3, 96]
abbrev dktX5_sees_2 : List UInt8 := dkwX5_sees_2 ++ dktX5_sees_3
def dkwX5_sees_1 : List UInt8 := [46, 54, 4, 3, 54, 5, 27, 54, 6, 21, 4, 158, 0, 51, 21, 6, 155, 0, 46, 42, 21, 6]
abbrev dktX5_sees_1 : List UInt8 := dkwX5_sees_1 ++ dktX5_sees_2
def dkwX5_sees_0 : List UInt8 := [42, 42, 180, 1, 122, 16, 7, 182, 0, 227, 62, 29, 156, 0, 7, 6, 167, 0, 9, 42, 180, 0, 53, 29]
abbrev dktX5_sees_0 : List UInt8 := dkwX5_sees_0 ++ dktX5_sees_1
theorem dksX5_sees_0 : cX5_sees.data.toList.drop 0 = dktX5_sees_0 := by decide +kernel
theorem dksX5_sees_1 : cX5_sees.data.toList.drop 24 = dktX5_sees_1 := dk_seg dksX5_sees_0 24 rfl rfl
theorem dksX5_sees_2 : cX5_sees.data.toList.drop 46 = dktX5_sees_2 := dk_seg dksX5_sees_1 22 rfl rfl
theorem dksX5_sees_3 : cX5_sees.data.toList.drop 69 = dktX5_sees_3 := dk_seg dksX5_sees_2 23 rfl rfl
theorem dX5_sees_0 : decode cX5_sees 0 = .ok (.aload_n 0, 1) := dk_42 (dk_at dksX5_sees_0 0 rfl rfl)
theorem dX5_sees_1 : decode cX5_sees 1 = .ok (.aload_n 0, 1) := dk_42 (dk_at dksX5_sees_0 1 rfl rfl)
theorem dX5_sees_2 : decode cX5_sees 2 = .ok (.getfield 378, 3) := dk_180 1 122 (dk_at dksX5_sees_0 2 rfl rfl)
theorem dX5_sees_5 : decode cX5_sees 5 = .ok (.bipush 7, 2) := dk_16 7 (dk_at dksX5_sees_0 5 rfl rfl)
theorem dX5_sees_7 : decode cX5_sees 7 = .ok (.invokevirtual 227, 3) := dk_182 0 227 (dk_at dksX5_sees_0 7 rfl rfl)
theorem dX5_sees_10 : decode cX5_sees 10 = .ok (.istore_n 3, 1) := dk_62 (dk_at dksX5_sees_0 10 rfl rfl)
theorem dX5_sees_11 : decode cX5_sees 11 = .ok (.iload_n 3, 1) := dk_29 (dk_at dksX5_sees_0 11 rfl rfl)
theorem dX5_sees_12 : decode cX5_sees 12 = .ok (.ifCond .ge 7, 3) := dk_156 0 7 (dk_at dksX5_sees_0 12 rfl rfl)
theorem dX5_sees_15 : decode cX5_sees 15 = .ok (.iconst 3, 1) := dk_6 (dk_at dksX5_sees_0 15 rfl rfl)
theorem dX5_sees_16 : decode cX5_sees 16 = .ok (.goto 9, 3) := dk_167 0 9 (dk_at dksX5_sees_0 16 rfl rfl)
theorem dX5_sees_19 : decode cX5_sees 19 = .ok (.aload_n 0, 1) := dk_42 (dk_at dksX5_sees_0 19 rfl rfl)
theorem dX5_sees_20 : decode cX5_sees 20 = .ok (.getfield 53, 3) := dk_180 0 53 (dk_at dksX5_sees_0 20 rfl rfl)
theorem dX5_sees_23 : decode cX5_sees 23 = .ok (.iload_n 3, 1) := dk_29 (dk_at dksX5_sees_0 23 rfl rfl)
theorem dX5_sees_24 : decode cX5_sees 24 = .ok (.iaload, 1) := dk_46 (dk_at dksX5_sees_1 0 rfl rfl)
theorem dX5_sees_25 : decode cX5_sees 25 = .ok (.istore 4, 2) := dk_54 4 (dk_at dksX5_sees_1 1 rfl rfl)
theorem dX5_sees_27 : decode cX5_sees 27 = .ok (.iconst 0, 1) := dk_3 (dk_at dksX5_sees_1 3 rfl rfl)
theorem dX5_sees_28 : decode cX5_sees 28 = .ok (.istore 5, 2) := dk_54 5 (dk_at dksX5_sees_1 4 rfl rfl)
theorem dX5_sees_30 : decode cX5_sees 30 = .ok (.iload_n 1, 1) := dk_27 (dk_at dksX5_sees_1 6 rfl rfl)
theorem dX5_sees_31 : decode cX5_sees 31 = .ok (.istore 6, 2) := dk_54 6 (dk_at dksX5_sees_1 7 rfl rfl)
theorem dX5_sees_33 : decode cX5_sees 33 = .ok (.iload 4, 2) := dk_21 4 (dk_at dksX5_sees_1 9 rfl rfl)
theorem dX5_sees_35 : decode cX5_sees 35 = .ok (.ifCond .le 51, 3) := dk_158 0 51 (dk_at dksX5_sees_1 11 rfl rfl)
theorem dX5_sees_38 : decode cX5_sees 38 = .ok (.iload 6, 2) := dk_21 6 (dk_at dksX5_sees_1 14 rfl rfl)
theorem dX5_sees_40 : decode cX5_sees 40 = .ok (.ifCond .lt 46, 3) := dk_155 0 46 (dk_at dksX5_sees_1 16 rfl rfl)
theorem dX5_sees_43 : decode cX5_sees 43 = .ok (.aload_n 0, 1) := dk_42 (dk_at dksX5_sees_1 19 rfl rfl)
theorem dX5_sees_44 : decode cX5_sees 44 = .ok (.iload 6, 2) := dk_21 6 (dk_at dksX5_sees_1 20 rfl rfl)
theorem dX5_sees_46 : decode cX5_sees 46 = .ok (.invokevirtual 158, 3) := dk_182 0 158 (dk_at dksX5_sees_2 0 rfl rfl)
theorem dX5_sees_49 : decode cX5_sees 49 = .ok (.ifCond .eq 37, 3) := dk_153 0 37 (dk_at dksX5_sees_2 3 rfl rfl)
theorem dX5_sees_52 : decode cX5_sees 52 = .ok (.iload 5, 2) := dk_21 5 (dk_at dksX5_sees_2 6 rfl rfl)
theorem dX5_sees_54 : decode cX5_sees 54 = .ok (.aload_n 0, 1) := dk_42 (dk_at dksX5_sees_2 8 rfl rfl)
theorem dX5_sees_55 : decode cX5_sees 55 = .ok (.iload 6, 2) := dk_21 6 (dk_at dksX5_sees_2 9 rfl rfl)
theorem dX5_sees_57 : decode cX5_sees 57 = .ok (.invokevirtual 140, 3) := dk_182 0 140 (dk_at dksX5_sees_2 11 rfl rfl)
theorem dX5_sees_60 : decode cX5_sees 60 = .ok (.ifCond .eq 7, 3) := dk_153 0 7 (dk_at dksX5_sees_2 14 rfl rfl)
theorem dX5_sees_63 : decode cX5_sees 63 = .ok (.iconst 1, 1) := dk_4 (dk_at dksX5_sees_2 17 rfl rfl)
theorem dX5_sees_64 : decode cX5_sees 64 = .ok (.goto 4, 3) := dk_167 0 4 (dk_at dksX5_sees_2 18 rfl rfl)
theorem dX5_sees_67 : decode cX5_sees 67 = .ok (.iconst 0, 1) := dk_3 (dk_at dksX5_sees_2 21 rfl rfl)
theorem dX5_sees_68 : decode cX5_sees 68 = .ok (.iadd, 1) := dk_96 (dk_at dksX5_sees_2 22 rfl rfl)
theorem dX5_sees_69 : decode cX5_sees 69 = .ok (.istore 5, 2) := dk_54 5 (dk_at dksX5_sees_3 0 rfl rfl)
theorem dX5_sees_71 : decode cX5_sees 71 = .ok (.aload_n 0, 1) := dk_42 (dk_at dksX5_sees_3 2 rfl rfl)
theorem dX5_sees_72 : decode cX5_sees 72 = .ok (.iload 6, 2) := dk_21 6 (dk_at dksX5_sees_3 3 rfl rfl)
theorem dX5_sees_74 : decode cX5_sees 74 = .ok (.iload_n 2, 1) := dk_28 (dk_at dksX5_sees_3 5 rfl rfl)
theorem dX5_sees_75 : decode cX5_sees 75 = .ok (.invokevirtual 380, 3) := dk_182 1 124 (dk_at dksX5_sees_3 6 rfl rfl)
theorem dX5_sees_78 : decode cX5_sees 78 = .ok (.istore 6, 2) := dk_54 6 (dk_at dksX5_sees_3 9 rfl rfl)
theorem dX5_sees_80 : decode cX5_sees 80 = .ok (.iinc 4 (-1), 3) := dk_132 4 255 (dk_at dksX5_sees_3 11 rfl rfl)
theorem dX5_sees_83 : decode cX5_sees 83 = .ok (.goto (-50), 3) := dk_167 255 206 (dk_at dksX5_sees_3 14 rfl rfl)
theorem dX5_sees_86 : decode cX5_sees 86 = .ok (.iload 5, 2) := dk_21 5 (dk_at dksX5_sees_3 17 rfl rfl)
theorem dX5_sees_88 : decode cX5_sees 88 = .ok (.ireturn, 1) := dk_172 (dk_at dksX5_sees_3 19 rfl rfl)
abbrev cX5_tread : ByteArray := prog_12_method_70_code
def yX5_tread : MethodName := ⟨RX5, "tread", "(I)V"⟩
def dkwX5_tread_4 : List UInt8 := [181, 1, 149, 177]
abbrev dktX5_tread_4 : List UInt8 := dkwX5_tread_4 ++ []
def dkwX5_tread_3 : List UInt8 := [182, 0, 151, 42, 42, 180, 1, 149, 154, 0, 11, 27, 42, 180, 0, 86, 160, 0, 7, 4, 167, 0, 4, 3]
abbrev dktX5_tread_3 : List UInt8 := dkwX5_tread_3 ++ dktX5_tread_4
def dkwX5_tread_2 : List UInt8 := [8, 182, 0, 136, 4, 96, 182, 0, 151, 42, 27, 16, 6, 42, 27, 16, 6, 182, 0, 136, 4, 96]
abbrev dktX5_tread_2 : List UInt8 := dkwX5_tread_2 ++ dktX5_tread_3
def dkwX5_tread_1 : List UInt8 := [27, 6, 28, 17, 3, 231, 164, 0, 9, 17, 3, 231, 167, 0, 4, 28, 182, 0, 151, 42, 27, 8, 42, 27]
abbrev dktX5_tread_1 : List UInt8 := dkwX5_tread_1 ++ dktX5_tread_2
def dkwX5_tread_0 : List UInt8 := [42, 27, 182, 1, 100, 153, 0, 38, 42, 27, 6, 182, 0, 136, 42, 3, 27, 8, 182, 1, 146, 96, 61, 42]
abbrev dktX5_tread_0 : List UInt8 := dkwX5_tread_0 ++ dktX5_tread_1
theorem dksX5_tread_0 : cX5_tread.data.toList.drop 0 = dktX5_tread_0 := by decide +kernel
theorem dksX5_tread_1 : cX5_tread.data.toList.drop 24 = dktX5_tread_1 := dk_seg dksX5_tread_0 24 rfl rfl
theorem dksX5_tread_2 : cX5_tread.data.toList.drop 48 = dktX5_tread_2 := dk_seg dksX5_tread_1 24 rfl rfl
theorem dksX5_tread_3 : cX5_tread.data.toList.drop 70 = dktX5_tread_3 := dk_seg dksX5_tread_2 22 rfl rfl
theorem dksX5_tread_4 : cX5_tread.data.toList.drop 94 = dktX5_tread_4 := dk_seg dksX5_tread_3 24 rfl rfl
theorem dX5_tread_0 : decode cX5_tread 0 = .ok (.aload_n 0, 1) := dk_42 (dk_at dksX5_tread_0 0 rfl rfl)
theorem dX5_tread_1 : decode cX5_tread 1 = .ok (.iload_n 1, 1) := dk_27 (dk_at dksX5_tread_0 1 rfl rfl)
theorem dX5_tread_2 : decode cX5_tread 2 = .ok (.invokevirtual 356, 3) := dk_182 1 100 (dk_at dksX5_tread_0 2 rfl rfl)
theorem dX5_tread_5 : decode cX5_tread 5 = .ok (.ifCond .eq 38, 3) := dk_153 0 38 (dk_at dksX5_tread_0 5 rfl rfl)
theorem dX5_tread_8 : decode cX5_tread 8 = .ok (.aload_n 0, 1) := dk_42 (dk_at dksX5_tread_0 8 rfl rfl)
theorem dX5_tread_9 : decode cX5_tread 9 = .ok (.iload_n 1, 1) := dk_27 (dk_at dksX5_tread_0 9 rfl rfl)
theorem dX5_tread_10 : decode cX5_tread 10 = .ok (.iconst 3, 1) := dk_6 (dk_at dksX5_tread_0 10 rfl rfl)
theorem dX5_tread_11 : decode cX5_tread 11 = .ok (.invokevirtual 136, 3) := dk_182 0 136 (dk_at dksX5_tread_0 11 rfl rfl)
theorem dX5_tread_14 : decode cX5_tread 14 = .ok (.aload_n 0, 1) := dk_42 (dk_at dksX5_tread_0 14 rfl rfl)
theorem dX5_tread_15 : decode cX5_tread 15 = .ok (.iconst 0, 1) := dk_3 (dk_at dksX5_tread_0 15 rfl rfl)
theorem dX5_tread_16 : decode cX5_tread 16 = .ok (.iload_n 1, 1) := dk_27 (dk_at dksX5_tread_0 16 rfl rfl)
theorem dX5_tread_17 : decode cX5_tread 17 = .ok (.iconst 5, 1) := dk_8 (dk_at dksX5_tread_0 17 rfl rfl)
theorem dX5_tread_18 : decode cX5_tread 18 = .ok (.invokevirtual 402, 3) := dk_182 1 146 (dk_at dksX5_tread_0 18 rfl rfl)
theorem dX5_tread_21 : decode cX5_tread 21 = .ok (.iadd, 1) := dk_96 (dk_at dksX5_tread_0 21 rfl rfl)
theorem dX5_tread_22 : decode cX5_tread 22 = .ok (.istore_n 2, 1) := dk_61 (dk_at dksX5_tread_0 22 rfl rfl)
theorem dX5_tread_23 : decode cX5_tread 23 = .ok (.aload_n 0, 1) := dk_42 (dk_at dksX5_tread_0 23 rfl rfl)
theorem dX5_tread_24 : decode cX5_tread 24 = .ok (.iload_n 1, 1) := dk_27 (dk_at dksX5_tread_1 0 rfl rfl)
theorem dX5_tread_25 : decode cX5_tread 25 = .ok (.iconst 3, 1) := dk_6 (dk_at dksX5_tread_1 1 rfl rfl)
theorem dX5_tread_26 : decode cX5_tread 26 = .ok (.iload_n 2, 1) := dk_28 (dk_at dksX5_tread_1 2 rfl rfl)
theorem dX5_tread_27 : decode cX5_tread 27 = .ok (.sipush 999, 3) := dk_17 3 231 (dk_at dksX5_tread_1 3 rfl rfl)
theorem dX5_tread_30 : decode cX5_tread 30 = .ok (.if_icmp .le 9, 3) := dk_164 0 9 (dk_at dksX5_tread_1 6 rfl rfl)
theorem dX5_tread_33 : decode cX5_tread 33 = .ok (.sipush 999, 3) := dk_17 3 231 (dk_at dksX5_tread_1 9 rfl rfl)
theorem dX5_tread_36 : decode cX5_tread 36 = .ok (.goto 4, 3) := dk_167 0 4 (dk_at dksX5_tread_1 12 rfl rfl)
theorem dX5_tread_39 : decode cX5_tread 39 = .ok (.iload_n 2, 1) := dk_28 (dk_at dksX5_tread_1 15 rfl rfl)
theorem dX5_tread_40 : decode cX5_tread 40 = .ok (.invokevirtual 151, 3) := dk_182 0 151 (dk_at dksX5_tread_1 16 rfl rfl)
theorem dX5_tread_43 : decode cX5_tread 43 = .ok (.aload_n 0, 1) := dk_42 (dk_at dksX5_tread_1 19 rfl rfl)
theorem dX5_tread_44 : decode cX5_tread 44 = .ok (.iload_n 1, 1) := dk_27 (dk_at dksX5_tread_1 20 rfl rfl)
theorem dX5_tread_45 : decode cX5_tread 45 = .ok (.iconst 5, 1) := dk_8 (dk_at dksX5_tread_1 21 rfl rfl)
theorem dX5_tread_46 : decode cX5_tread 46 = .ok (.aload_n 0, 1) := dk_42 (dk_at dksX5_tread_1 22 rfl rfl)
theorem dX5_tread_47 : decode cX5_tread 47 = .ok (.iload_n 1, 1) := dk_27 (dk_at dksX5_tread_1 23 rfl rfl)
theorem dX5_tread_48 : decode cX5_tread 48 = .ok (.iconst 5, 1) := dk_8 (dk_at dksX5_tread_2 0 rfl rfl)
theorem dX5_tread_49 : decode cX5_tread 49 = .ok (.invokevirtual 136, 3) := dk_182 0 136 (dk_at dksX5_tread_2 1 rfl rfl)
theorem dX5_tread_52 : decode cX5_tread 52 = .ok (.iconst 1, 1) := dk_4 (dk_at dksX5_tread_2 4 rfl rfl)
theorem dX5_tread_53 : decode cX5_tread 53 = .ok (.iadd, 1) := dk_96 (dk_at dksX5_tread_2 5 rfl rfl)
theorem dX5_tread_54 : decode cX5_tread 54 = .ok (.invokevirtual 151, 3) := dk_182 0 151 (dk_at dksX5_tread_2 6 rfl rfl)
theorem dX5_tread_57 : decode cX5_tread 57 = .ok (.aload_n 0, 1) := dk_42 (dk_at dksX5_tread_2 9 rfl rfl)
theorem dX5_tread_58 : decode cX5_tread 58 = .ok (.iload_n 1, 1) := dk_27 (dk_at dksX5_tread_2 10 rfl rfl)
theorem dX5_tread_59 : decode cX5_tread 59 = .ok (.bipush 6, 2) := dk_16 6 (dk_at dksX5_tread_2 11 rfl rfl)
theorem dX5_tread_61 : decode cX5_tread 61 = .ok (.aload_n 0, 1) := dk_42 (dk_at dksX5_tread_2 13 rfl rfl)
theorem dX5_tread_62 : decode cX5_tread 62 = .ok (.iload_n 1, 1) := dk_27 (dk_at dksX5_tread_2 14 rfl rfl)
theorem dX5_tread_63 : decode cX5_tread 63 = .ok (.bipush 6, 2) := dk_16 6 (dk_at dksX5_tread_2 15 rfl rfl)
theorem dX5_tread_65 : decode cX5_tread 65 = .ok (.invokevirtual 136, 3) := dk_182 0 136 (dk_at dksX5_tread_2 17 rfl rfl)
theorem dX5_tread_68 : decode cX5_tread 68 = .ok (.iconst 1, 1) := dk_4 (dk_at dksX5_tread_2 20 rfl rfl)
theorem dX5_tread_69 : decode cX5_tread 69 = .ok (.iadd, 1) := dk_96 (dk_at dksX5_tread_2 21 rfl rfl)
theorem dX5_tread_70 : decode cX5_tread 70 = .ok (.invokevirtual 151, 3) := dk_182 0 151 (dk_at dksX5_tread_3 0 rfl rfl)
theorem dX5_tread_73 : decode cX5_tread 73 = .ok (.aload_n 0, 1) := dk_42 (dk_at dksX5_tread_3 3 rfl rfl)
theorem dX5_tread_74 : decode cX5_tread 74 = .ok (.aload_n 0, 1) := dk_42 (dk_at dksX5_tread_3 4 rfl rfl)
theorem dX5_tread_75 : decode cX5_tread 75 = .ok (.getfield 405, 3) := dk_180 1 149 (dk_at dksX5_tread_3 5 rfl rfl)
theorem dX5_tread_78 : decode cX5_tread 78 = .ok (.ifCond .ne 11, 3) := dk_154 0 11 (dk_at dksX5_tread_3 8 rfl rfl)
theorem dX5_tread_81 : decode cX5_tread 81 = .ok (.iload_n 1, 1) := dk_27 (dk_at dksX5_tread_3 11 rfl rfl)
theorem dX5_tread_82 : decode cX5_tread 82 = .ok (.aload_n 0, 1) := dk_42 (dk_at dksX5_tread_3 12 rfl rfl)
theorem dX5_tread_83 : decode cX5_tread 83 = .ok (.getfield 86, 3) := dk_180 0 86 (dk_at dksX5_tread_3 13 rfl rfl)
theorem dX5_tread_86 : decode cX5_tread 86 = .ok (.if_icmp .ne 7, 3) := dk_160 0 7 (dk_at dksX5_tread_3 16 rfl rfl)
theorem dX5_tread_89 : decode cX5_tread 89 = .ok (.iconst 1, 1) := dk_4 (dk_at dksX5_tread_3 19 rfl rfl)
theorem dX5_tread_90 : decode cX5_tread 90 = .ok (.goto 4, 3) := dk_167 0 4 (dk_at dksX5_tread_3 20 rfl rfl)
theorem dX5_tread_93 : decode cX5_tread 93 = .ok (.iconst 0, 1) := dk_3 (dk_at dksX5_tread_3 23 rfl rfl)
theorem dX5_tread_94 : decode cX5_tread 94 = .ok (.putfield 405, 3) := dk_181 1 149 (dk_at dksX5_tread_4 0 rfl rfl)
theorem dX5_tread_97 : decode cX5_tread 97 = .ok (.return_, 1) := dk_177 (dk_at dksX5_tread_4 3 rfl rfl)
abbrev cX5_first : ByteArray := prog_12_method_55_code
def yX5_first : MethodName := ⟨RX5, "first", "(III)I"⟩
def dkwX5_first_2 : List UInt8 := [167, 255, 213, 29, 172]
abbrev dktX5_first_2 : List UInt8 := dkwX5_first_2 ++ []
def dkwX5_first_1 : List UInt8 := [160, 0, 21, 42, 21, 4, 28, 182, 1, 81, 153, 0, 11, 42, 180, 0, 53, 21, 4, 46, 172, 132, 4, 1]
abbrev dktX5_first_1 : List UInt8 := dkwX5_first_1 ++ dktX5_first_2
def dkwX5_first_0 : List UInt8 := [3, 54, 4, 21, 4, 42, 180, 0, 44, 3, 46, 162, 0, 38, 42, 180, 0, 47, 21, 4, 46, 27]
abbrev dktX5_first_0 : List UInt8 := dkwX5_first_0 ++ dktX5_first_1
theorem dksX5_first_0 : cX5_first.data.toList.drop 0 = dktX5_first_0 := by decide +kernel
theorem dksX5_first_1 : cX5_first.data.toList.drop 22 = dktX5_first_1 := dk_seg dksX5_first_0 22 rfl rfl
theorem dksX5_first_2 : cX5_first.data.toList.drop 46 = dktX5_first_2 := dk_seg dksX5_first_1 24 rfl rfl
theorem dX5_first_0 : decode cX5_first 0 = .ok (.iconst 0, 1) := dk_3 (dk_at dksX5_first_0 0 rfl rfl)
theorem dX5_first_1 : decode cX5_first 1 = .ok (.istore 4, 2) := dk_54 4 (dk_at dksX5_first_0 1 rfl rfl)
theorem dX5_first_3 : decode cX5_first 3 = .ok (.iload 4, 2) := dk_21 4 (dk_at dksX5_first_0 3 rfl rfl)
theorem dX5_first_5 : decode cX5_first 5 = .ok (.aload_n 0, 1) := dk_42 (dk_at dksX5_first_0 5 rfl rfl)
theorem dX5_first_6 : decode cX5_first 6 = .ok (.getfield 44, 3) := dk_180 0 44 (dk_at dksX5_first_0 6 rfl rfl)
theorem dX5_first_9 : decode cX5_first 9 = .ok (.iconst 0, 1) := dk_3 (dk_at dksX5_first_0 9 rfl rfl)
theorem dX5_first_10 : decode cX5_first 10 = .ok (.iaload, 1) := dk_46 (dk_at dksX5_first_0 10 rfl rfl)
theorem dX5_first_11 : decode cX5_first 11 = .ok (.if_icmp .ge 38, 3) := dk_162 0 38 (dk_at dksX5_first_0 11 rfl rfl)
theorem dX5_first_14 : decode cX5_first 14 = .ok (.aload_n 0, 1) := dk_42 (dk_at dksX5_first_0 14 rfl rfl)
theorem dX5_first_15 : decode cX5_first 15 = .ok (.getfield 47, 3) := dk_180 0 47 (dk_at dksX5_first_0 15 rfl rfl)
theorem dX5_first_18 : decode cX5_first 18 = .ok (.iload 4, 2) := dk_21 4 (dk_at dksX5_first_0 18 rfl rfl)
theorem dX5_first_20 : decode cX5_first 20 = .ok (.iaload, 1) := dk_46 (dk_at dksX5_first_0 20 rfl rfl)
theorem dX5_first_21 : decode cX5_first 21 = .ok (.iload_n 1, 1) := dk_27 (dk_at dksX5_first_0 21 rfl rfl)
theorem dX5_first_22 : decode cX5_first 22 = .ok (.if_icmp .ne 21, 3) := dk_160 0 21 (dk_at dksX5_first_1 0 rfl rfl)
theorem dX5_first_25 : decode cX5_first 25 = .ok (.aload_n 0, 1) := dk_42 (dk_at dksX5_first_1 3 rfl rfl)
theorem dX5_first_26 : decode cX5_first 26 = .ok (.iload 4, 2) := dk_21 4 (dk_at dksX5_first_1 4 rfl rfl)
theorem dX5_first_28 : decode cX5_first 28 = .ok (.iload_n 2, 1) := dk_28 (dk_at dksX5_first_1 6 rfl rfl)
theorem dX5_first_29 : decode cX5_first 29 = .ok (.invokevirtual 337, 3) := dk_182 1 81 (dk_at dksX5_first_1 7 rfl rfl)
theorem dX5_first_32 : decode cX5_first 32 = .ok (.ifCond .eq 11, 3) := dk_153 0 11 (dk_at dksX5_first_1 10 rfl rfl)
theorem dX5_first_35 : decode cX5_first 35 = .ok (.aload_n 0, 1) := dk_42 (dk_at dksX5_first_1 13 rfl rfl)
theorem dX5_first_36 : decode cX5_first 36 = .ok (.getfield 53, 3) := dk_180 0 53 (dk_at dksX5_first_1 14 rfl rfl)
theorem dX5_first_39 : decode cX5_first 39 = .ok (.iload 4, 2) := dk_21 4 (dk_at dksX5_first_1 17 rfl rfl)
theorem dX5_first_41 : decode cX5_first 41 = .ok (.iaload, 1) := dk_46 (dk_at dksX5_first_1 19 rfl rfl)
theorem dX5_first_42 : decode cX5_first 42 = .ok (.ireturn, 1) := dk_172 (dk_at dksX5_first_1 20 rfl rfl)
theorem dX5_first_43 : decode cX5_first 43 = .ok (.iinc 4 1, 3) := dk_132 4 1 (dk_at dksX5_first_1 21 rfl rfl)
theorem dX5_first_46 : decode cX5_first 46 = .ok (.goto (-43), 3) := dk_167 255 213 (dk_at dksX5_first_2 0 rfl rfl)
theorem dX5_first_49 : decode cX5_first 49 = .ok (.iload_n 3, 1) := dk_29 (dk_at dksX5_first_2 3 rfl rfl)
theorem dX5_first_50 : decode cX5_first 50 = .ok (.ireturn, 1) := dk_172 (dk_at dksX5_first_2 4 rfl rfl)
abbrev cX5_leave : ByteArray := prog_12_method_72_code
def yX5_leave : MethodName := ⟨RX5, "leave", "(I)V"⟩
def dkwX5_leave_4 : List UInt8 := [16, 6, 96, 162, 0, 16, 42, 180, 0, 30, 28, 3, 79, 132, 2, 1, 167, 255, 224, 177]
abbrev dktX5_leave_4 : List UInt8 := dkwX5_leave_4 ++ []
def dkwX5_leave_3 : List UInt8 := [17, 0, 157, 46, 104, 96, 61, 28, 17, 0, 158, 16, 6, 42, 180, 0, 30, 17, 0, 157, 46, 104, 96]
abbrev dktX5_leave_3 : List UInt8 := dkwX5_leave_3 ++ dktX5_leave_4
def dkwX5_leave_2 : List UInt8 := [180, 0, 30, 28, 16, 6, 96, 46, 79, 132, 2, 1, 167, 255, 219, 17, 0, 158, 16, 6, 42, 180, 0, 30]
abbrev dktX5_leave_2 : List UInt8 := dkwX5_leave_2 ++ dktX5_leave_3
def dkwX5_leave_1 : List UInt8 := [17, 0, 158, 16, 6, 42, 180, 0, 30, 17, 0, 157, 46, 104, 96, 162, 0, 24, 42, 180, 0, 30, 28, 42]
abbrev dktX5_leave_1 : List UInt8 := dkwX5_leave_1 ++ dktX5_leave_2
def dkwX5_leave_0 : List UInt8 := [42, 180, 0, 30, 17, 0, 157, 92, 46, 4, 100, 79, 17, 0, 158, 16, 6, 27, 104, 96, 61, 28]
abbrev dktX5_leave_0 : List UInt8 := dkwX5_leave_0 ++ dktX5_leave_1
theorem dksX5_leave_0 : cX5_leave.data.toList.drop 0 = dktX5_leave_0 := by decide +kernel
theorem dksX5_leave_1 : cX5_leave.data.toList.drop 22 = dktX5_leave_1 := dk_seg dksX5_leave_0 22 rfl rfl
theorem dksX5_leave_2 : cX5_leave.data.toList.drop 46 = dktX5_leave_2 := dk_seg dksX5_leave_1 24 rfl rfl
theorem dksX5_leave_3 : cX5_leave.data.toList.drop 70 = dktX5_leave_3 := dk_seg dksX5_leave_2 24 rfl rfl
theorem dksX5_leave_4 : cX5_leave.data.toList.drop 93 = dktX5_leave_4 := dk_seg dksX5_leave_3 23 rfl rfl
theorem dX5_leave_0 : decode cX5_leave 0 = .ok (.aload_n 0, 1) := dk_42 (dk_at dksX5_leave_0 0 rfl rfl)
theorem dX5_leave_1 : decode cX5_leave 1 = .ok (.getfield 30, 3) := dk_180 0 30 (dk_at dksX5_leave_0 1 rfl rfl)
theorem dX5_leave_4 : decode cX5_leave 4 = .ok (.sipush 157, 3) := dk_17 0 157 (dk_at dksX5_leave_0 4 rfl rfl)
theorem dX5_leave_7 : decode cX5_leave 7 = .ok (.dup2, 1) := dk_92 (dk_at dksX5_leave_0 7 rfl rfl)
theorem dX5_leave_8 : decode cX5_leave 8 = .ok (.iaload, 1) := dk_46 (dk_at dksX5_leave_0 8 rfl rfl)
theorem dX5_leave_9 : decode cX5_leave 9 = .ok (.iconst 1, 1) := dk_4 (dk_at dksX5_leave_0 9 rfl rfl)
theorem dX5_leave_10 : decode cX5_leave 10 = .ok (.isub, 1) := dk_100 (dk_at dksX5_leave_0 10 rfl rfl)
theorem dX5_leave_11 : decode cX5_leave 11 = .ok (.iastore, 1) := dk_79 (dk_at dksX5_leave_0 11 rfl rfl)
theorem dX5_leave_12 : decode cX5_leave 12 = .ok (.sipush 158, 3) := dk_17 0 158 (dk_at dksX5_leave_0 12 rfl rfl)
theorem dX5_leave_15 : decode cX5_leave 15 = .ok (.bipush 6, 2) := dk_16 6 (dk_at dksX5_leave_0 15 rfl rfl)
theorem dX5_leave_17 : decode cX5_leave 17 = .ok (.iload_n 1, 1) := dk_27 (dk_at dksX5_leave_0 17 rfl rfl)
theorem dX5_leave_18 : decode cX5_leave 18 = .ok (.imul, 1) := dk_104 (dk_at dksX5_leave_0 18 rfl rfl)
theorem dX5_leave_19 : decode cX5_leave 19 = .ok (.iadd, 1) := dk_96 (dk_at dksX5_leave_0 19 rfl rfl)
theorem dX5_leave_20 : decode cX5_leave 20 = .ok (.istore_n 2, 1) := dk_61 (dk_at dksX5_leave_0 20 rfl rfl)
theorem dX5_leave_21 : decode cX5_leave 21 = .ok (.iload_n 2, 1) := dk_28 (dk_at dksX5_leave_0 21 rfl rfl)
theorem dX5_leave_22 : decode cX5_leave 22 = .ok (.sipush 158, 3) := dk_17 0 158 (dk_at dksX5_leave_1 0 rfl rfl)
theorem dX5_leave_25 : decode cX5_leave 25 = .ok (.bipush 6, 2) := dk_16 6 (dk_at dksX5_leave_1 3 rfl rfl)
theorem dX5_leave_27 : decode cX5_leave 27 = .ok (.aload_n 0, 1) := dk_42 (dk_at dksX5_leave_1 5 rfl rfl)
theorem dX5_leave_28 : decode cX5_leave 28 = .ok (.getfield 30, 3) := dk_180 0 30 (dk_at dksX5_leave_1 6 rfl rfl)
theorem dX5_leave_31 : decode cX5_leave 31 = .ok (.sipush 157, 3) := dk_17 0 157 (dk_at dksX5_leave_1 9 rfl rfl)
theorem dX5_leave_34 : decode cX5_leave 34 = .ok (.iaload, 1) := dk_46 (dk_at dksX5_leave_1 12 rfl rfl)
theorem dX5_leave_35 : decode cX5_leave 35 = .ok (.imul, 1) := dk_104 (dk_at dksX5_leave_1 13 rfl rfl)
theorem dX5_leave_36 : decode cX5_leave 36 = .ok (.iadd, 1) := dk_96 (dk_at dksX5_leave_1 14 rfl rfl)
theorem dX5_leave_37 : decode cX5_leave 37 = .ok (.if_icmp .ge 24, 3) := dk_162 0 24 (dk_at dksX5_leave_1 15 rfl rfl)
theorem dX5_leave_40 : decode cX5_leave 40 = .ok (.aload_n 0, 1) := dk_42 (dk_at dksX5_leave_1 18 rfl rfl)
theorem dX5_leave_41 : decode cX5_leave 41 = .ok (.getfield 30, 3) := dk_180 0 30 (dk_at dksX5_leave_1 19 rfl rfl)
theorem dX5_leave_44 : decode cX5_leave 44 = .ok (.iload_n 2, 1) := dk_28 (dk_at dksX5_leave_1 22 rfl rfl)
theorem dX5_leave_45 : decode cX5_leave 45 = .ok (.aload_n 0, 1) := dk_42 (dk_at dksX5_leave_1 23 rfl rfl)
theorem dX5_leave_46 : decode cX5_leave 46 = .ok (.getfield 30, 3) := dk_180 0 30 (dk_at dksX5_leave_2 0 rfl rfl)
theorem dX5_leave_49 : decode cX5_leave 49 = .ok (.iload_n 2, 1) := dk_28 (dk_at dksX5_leave_2 3 rfl rfl)
theorem dX5_leave_50 : decode cX5_leave 50 = .ok (.bipush 6, 2) := dk_16 6 (dk_at dksX5_leave_2 4 rfl rfl)
theorem dX5_leave_52 : decode cX5_leave 52 = .ok (.iadd, 1) := dk_96 (dk_at dksX5_leave_2 6 rfl rfl)
theorem dX5_leave_53 : decode cX5_leave 53 = .ok (.iaload, 1) := dk_46 (dk_at dksX5_leave_2 7 rfl rfl)
theorem dX5_leave_54 : decode cX5_leave 54 = .ok (.iastore, 1) := dk_79 (dk_at dksX5_leave_2 8 rfl rfl)
theorem dX5_leave_55 : decode cX5_leave 55 = .ok (.iinc 2 1, 3) := dk_132 2 1 (dk_at dksX5_leave_2 9 rfl rfl)
theorem dX5_leave_58 : decode cX5_leave 58 = .ok (.goto (-37), 3) := dk_167 255 219 (dk_at dksX5_leave_2 12 rfl rfl)
theorem dX5_leave_61 : decode cX5_leave 61 = .ok (.sipush 158, 3) := dk_17 0 158 (dk_at dksX5_leave_2 15 rfl rfl)
theorem dX5_leave_64 : decode cX5_leave 64 = .ok (.bipush 6, 2) := dk_16 6 (dk_at dksX5_leave_2 18 rfl rfl)
theorem dX5_leave_66 : decode cX5_leave 66 = .ok (.aload_n 0, 1) := dk_42 (dk_at dksX5_leave_2 20 rfl rfl)
theorem dX5_leave_67 : decode cX5_leave 67 = .ok (.getfield 30, 3) := dk_180 0 30 (dk_at dksX5_leave_2 21 rfl rfl)
theorem dX5_leave_70 : decode cX5_leave 70 = .ok (.sipush 157, 3) := dk_17 0 157 (dk_at dksX5_leave_3 0 rfl rfl)
theorem dX5_leave_73 : decode cX5_leave 73 = .ok (.iaload, 1) := dk_46 (dk_at dksX5_leave_3 3 rfl rfl)
theorem dX5_leave_74 : decode cX5_leave 74 = .ok (.imul, 1) := dk_104 (dk_at dksX5_leave_3 4 rfl rfl)
theorem dX5_leave_75 : decode cX5_leave 75 = .ok (.iadd, 1) := dk_96 (dk_at dksX5_leave_3 5 rfl rfl)
theorem dX5_leave_76 : decode cX5_leave 76 = .ok (.istore_n 2, 1) := dk_61 (dk_at dksX5_leave_3 6 rfl rfl)
theorem dX5_leave_77 : decode cX5_leave 77 = .ok (.iload_n 2, 1) := dk_28 (dk_at dksX5_leave_3 7 rfl rfl)
theorem dX5_leave_78 : decode cX5_leave 78 = .ok (.sipush 158, 3) := dk_17 0 158 (dk_at dksX5_leave_3 8 rfl rfl)
theorem dX5_leave_81 : decode cX5_leave 81 = .ok (.bipush 6, 2) := dk_16 6 (dk_at dksX5_leave_3 11 rfl rfl)
theorem dX5_leave_83 : decode cX5_leave 83 = .ok (.aload_n 0, 1) := dk_42 (dk_at dksX5_leave_3 13 rfl rfl)
theorem dX5_leave_84 : decode cX5_leave 84 = .ok (.getfield 30, 3) := dk_180 0 30 (dk_at dksX5_leave_3 14 rfl rfl)
theorem dX5_leave_87 : decode cX5_leave 87 = .ok (.sipush 157, 3) := dk_17 0 157 (dk_at dksX5_leave_3 17 rfl rfl)
theorem dX5_leave_90 : decode cX5_leave 90 = .ok (.iaload, 1) := dk_46 (dk_at dksX5_leave_3 20 rfl rfl)
theorem dX5_leave_91 : decode cX5_leave 91 = .ok (.imul, 1) := dk_104 (dk_at dksX5_leave_3 21 rfl rfl)
theorem dX5_leave_92 : decode cX5_leave 92 = .ok (.iadd, 1) := dk_96 (dk_at dksX5_leave_3 22 rfl rfl)
theorem dX5_leave_93 : decode cX5_leave 93 = .ok (.bipush 6, 2) := dk_16 6 (dk_at dksX5_leave_4 0 rfl rfl)
theorem dX5_leave_95 : decode cX5_leave 95 = .ok (.iadd, 1) := dk_96 (dk_at dksX5_leave_4 2 rfl rfl)
theorem dX5_leave_96 : decode cX5_leave 96 = .ok (.if_icmp .ge 16, 3) := dk_162 0 16 (dk_at dksX5_leave_4 3 rfl rfl)
theorem dX5_leave_99 : decode cX5_leave 99 = .ok (.aload_n 0, 1) := dk_42 (dk_at dksX5_leave_4 6 rfl rfl)
theorem dX5_leave_100 : decode cX5_leave 100 = .ok (.getfield 30, 3) := dk_180 0 30 (dk_at dksX5_leave_4 7 rfl rfl)
theorem dX5_leave_103 : decode cX5_leave 103 = .ok (.iload_n 2, 1) := dk_28 (dk_at dksX5_leave_4 10 rfl rfl)
theorem dX5_leave_104 : decode cX5_leave 104 = .ok (.iconst 0, 1) := dk_3 (dk_at dksX5_leave_4 11 rfl rfl)
theorem dX5_leave_105 : decode cX5_leave 105 = .ok (.iastore, 1) := dk_79 (dk_at dksX5_leave_4 12 rfl rfl)
theorem dX5_leave_106 : decode cX5_leave 106 = .ok (.iinc 2 1, 3) := dk_132 2 1 (dk_at dksX5_leave_4 13 rfl rfl)
theorem dX5_leave_109 : decode cX5_leave 109 = .ok (.goto (-32), 3) := dk_167 255 224 (dk_at dksX5_leave_4 16 rfl rfl)
theorem dX5_leave_112 : decode cX5_leave 112 = .ok (.return_, 1) := dk_177 (dk_at dksX5_leave_4 19 rfl rfl)
abbrev cX5_week : ByteArray := prog_12_method_76_code
def yX5_week : MethodName := ⟨RX5, "week", "()I"⟩
def dkwX5_week_0 : List UInt8 := [42, 3, 181, 0, 1, 42, 182, 1, 170, 42, 182, 1, 173, 172]
abbrev dktX5_week_0 : List UInt8 := dkwX5_week_0 ++ []
theorem dksX5_week_0 : cX5_week.data.toList.drop 0 = dktX5_week_0 := by decide +kernel
theorem dX5_week_0 : decode cX5_week 0 = .ok (.aload_n 0, 1) := dk_42 (dk_at dksX5_week_0 0 rfl rfl)
theorem dX5_week_1 : decode cX5_week 1 = .ok (.iconst 0, 1) := dk_3 (dk_at dksX5_week_0 1 rfl rfl)
theorem dX5_week_2 : decode cX5_week 2 = .ok (.putfield 1, 3) := dk_181 0 1 (dk_at dksX5_week_0 2 rfl rfl)
theorem dX5_week_5 : decode cX5_week 5 = .ok (.aload_n 0, 1) := dk_42 (dk_at dksX5_week_0 5 rfl rfl)
theorem dX5_week_6 : decode cX5_week 6 = .ok (.invokevirtual 426, 3) := dk_182 1 170 (dk_at dksX5_week_0 6 rfl rfl)
theorem dX5_week_9 : decode cX5_week 9 = .ok (.aload_n 0, 1) := dk_42 (dk_at dksX5_week_0 9 rfl rfl)
theorem dX5_week_10 : decode cX5_week 10 = .ok (.invokevirtual 429, 3) := dk_182 1 173 (dk_at dksX5_week_0 10 rfl rfl)
theorem dX5_week_13 : decode cX5_week 13 = .ok (.ireturn, 1) := dk_172 (dk_at dksX5_week_0 13 rfl rfl)
abbrev cX5_endWeek : ByteArray := prog_12_method_75_code
def yX5_endWeek : MethodName := ⟨RX5, "endWeek", "()V"⟩
def dkwX5_endWeek_4 : List UInt8 := [132, 1, 1, 167, 255, 238, 177]
abbrev dktX5_endWeek_4 : List UInt8 := dkwX5_endWeek_4 ++ []
def dkwX5_endWeek_3 : List UInt8 := [132, 1, 1, 167, 255, 187, 3, 60, 27, 42, 182, 0, 128, 162, 0, 16, 42, 27, 8, 3, 182, 0, 151]
abbrev dktX5_endWeek_3 : List UInt8 := dkwX5_endWeek_3 ++ dktX5_endWeek_4
def dkwX5_endWeek_2 : List UInt8 := [167, 0, 4, 28, 182, 0, 151, 42, 27, 7, 29, 156, 0, 7, 3, 167, 0, 4, 29, 182, 0, 151]
abbrev dktX5_endWeek_2 : List UInt8 := dkwX5_endWeek_2 ++ dktX5_endWeek_3
def dkwX5_endWeek_1 : List UInt8 := [100, 61, 42, 27, 7, 182, 0, 136, 42, 180, 0, 80, 100, 62, 42, 27, 6, 28, 156, 0, 7, 3]
abbrev dktX5_endWeek_1 : List UInt8 := dkwX5_endWeek_1 ++ dktX5_endWeek_2
def dkwX5_endWeek_0 : List UInt8 := [3, 60, 27, 42, 182, 0, 128, 162, 0, 67, 42, 27, 6, 182, 0, 136, 42, 4, 27, 16, 10, 182, 1, 146]
abbrev dktX5_endWeek_0 : List UInt8 := dkwX5_endWeek_0 ++ dktX5_endWeek_1
theorem dksX5_endWeek_0 : cX5_endWeek.data.toList.drop 0 = dktX5_endWeek_0 := by decide +kernel
theorem dksX5_endWeek_1 : cX5_endWeek.data.toList.drop 24 = dktX5_endWeek_1 := dk_seg dksX5_endWeek_0 24 rfl rfl
theorem dksX5_endWeek_2 : cX5_endWeek.data.toList.drop 46 = dktX5_endWeek_2 := dk_seg dksX5_endWeek_1 22 rfl rfl
theorem dksX5_endWeek_3 : cX5_endWeek.data.toList.drop 68 = dktX5_endWeek_3 := dk_seg dksX5_endWeek_2 22 rfl rfl
theorem dksX5_endWeek_4 : cX5_endWeek.data.toList.drop 91 = dktX5_endWeek_4 := dk_seg dksX5_endWeek_3 23 rfl rfl
theorem dX5_endWeek_0 : decode cX5_endWeek 0 = .ok (.iconst 0, 1) := dk_3 (dk_at dksX5_endWeek_0 0 rfl rfl)
theorem dX5_endWeek_1 : decode cX5_endWeek 1 = .ok (.istore_n 1, 1) := dk_60 (dk_at dksX5_endWeek_0 1 rfl rfl)
theorem dX5_endWeek_2 : decode cX5_endWeek 2 = .ok (.iload_n 1, 1) := dk_27 (dk_at dksX5_endWeek_0 2 rfl rfl)
theorem dX5_endWeek_3 : decode cX5_endWeek 3 = .ok (.aload_n 0, 1) := dk_42 (dk_at dksX5_endWeek_0 3 rfl rfl)
theorem dX5_endWeek_4 : decode cX5_endWeek 4 = .ok (.invokevirtual 128, 3) := dk_182 0 128 (dk_at dksX5_endWeek_0 4 rfl rfl)
theorem dX5_endWeek_7 : decode cX5_endWeek 7 = .ok (.if_icmp .ge 67, 3) := dk_162 0 67 (dk_at dksX5_endWeek_0 7 rfl rfl)
theorem dX5_endWeek_10 : decode cX5_endWeek 10 = .ok (.aload_n 0, 1) := dk_42 (dk_at dksX5_endWeek_0 10 rfl rfl)
theorem dX5_endWeek_11 : decode cX5_endWeek 11 = .ok (.iload_n 1, 1) := dk_27 (dk_at dksX5_endWeek_0 11 rfl rfl)
theorem dX5_endWeek_12 : decode cX5_endWeek 12 = .ok (.iconst 3, 1) := dk_6 (dk_at dksX5_endWeek_0 12 rfl rfl)
theorem dX5_endWeek_13 : decode cX5_endWeek 13 = .ok (.invokevirtual 136, 3) := dk_182 0 136 (dk_at dksX5_endWeek_0 13 rfl rfl)
theorem dX5_endWeek_16 : decode cX5_endWeek 16 = .ok (.aload_n 0, 1) := dk_42 (dk_at dksX5_endWeek_0 16 rfl rfl)
theorem dX5_endWeek_17 : decode cX5_endWeek 17 = .ok (.iconst 1, 1) := dk_4 (dk_at dksX5_endWeek_0 17 rfl rfl)
theorem dX5_endWeek_18 : decode cX5_endWeek 18 = .ok (.iload_n 1, 1) := dk_27 (dk_at dksX5_endWeek_0 18 rfl rfl)
theorem dX5_endWeek_19 : decode cX5_endWeek 19 = .ok (.bipush 10, 2) := dk_16 10 (dk_at dksX5_endWeek_0 19 rfl rfl)
theorem dX5_endWeek_21 : decode cX5_endWeek 21 = .ok (.invokevirtual 402, 3) := dk_182 1 146 (dk_at dksX5_endWeek_0 21 rfl rfl)
theorem dX5_endWeek_24 : decode cX5_endWeek 24 = .ok (.isub, 1) := dk_100 (dk_at dksX5_endWeek_1 0 rfl rfl)
theorem dX5_endWeek_25 : decode cX5_endWeek 25 = .ok (.istore_n 2, 1) := dk_61 (dk_at dksX5_endWeek_1 1 rfl rfl)
theorem dX5_endWeek_26 : decode cX5_endWeek 26 = .ok (.aload_n 0, 1) := dk_42 (dk_at dksX5_endWeek_1 2 rfl rfl)
theorem dX5_endWeek_27 : decode cX5_endWeek 27 = .ok (.iload_n 1, 1) := dk_27 (dk_at dksX5_endWeek_1 3 rfl rfl)
theorem dX5_endWeek_28 : decode cX5_endWeek 28 = .ok (.iconst 4, 1) := dk_7 (dk_at dksX5_endWeek_1 4 rfl rfl)
theorem dX5_endWeek_29 : decode cX5_endWeek 29 = .ok (.invokevirtual 136, 3) := dk_182 0 136 (dk_at dksX5_endWeek_1 5 rfl rfl)
theorem dX5_endWeek_32 : decode cX5_endWeek 32 = .ok (.aload_n 0, 1) := dk_42 (dk_at dksX5_endWeek_1 8 rfl rfl)
theorem dX5_endWeek_33 : decode cX5_endWeek 33 = .ok (.getfield 80, 3) := dk_180 0 80 (dk_at dksX5_endWeek_1 9 rfl rfl)
theorem dX5_endWeek_36 : decode cX5_endWeek 36 = .ok (.isub, 1) := dk_100 (dk_at dksX5_endWeek_1 12 rfl rfl)
theorem dX5_endWeek_37 : decode cX5_endWeek 37 = .ok (.istore_n 3, 1) := dk_62 (dk_at dksX5_endWeek_1 13 rfl rfl)
theorem dX5_endWeek_38 : decode cX5_endWeek 38 = .ok (.aload_n 0, 1) := dk_42 (dk_at dksX5_endWeek_1 14 rfl rfl)
theorem dX5_endWeek_39 : decode cX5_endWeek 39 = .ok (.iload_n 1, 1) := dk_27 (dk_at dksX5_endWeek_1 15 rfl rfl)
theorem dX5_endWeek_40 : decode cX5_endWeek 40 = .ok (.iconst 3, 1) := dk_6 (dk_at dksX5_endWeek_1 16 rfl rfl)
theorem dX5_endWeek_41 : decode cX5_endWeek 41 = .ok (.iload_n 2, 1) := dk_28 (dk_at dksX5_endWeek_1 17 rfl rfl)
theorem dX5_endWeek_42 : decode cX5_endWeek 42 = .ok (.ifCond .ge 7, 3) := dk_156 0 7 (dk_at dksX5_endWeek_1 18 rfl rfl)
theorem dX5_endWeek_45 : decode cX5_endWeek 45 = .ok (.iconst 0, 1) := dk_3 (dk_at dksX5_endWeek_1 21 rfl rfl)
theorem dX5_endWeek_46 : decode cX5_endWeek 46 = .ok (.goto 4, 3) := dk_167 0 4 (dk_at dksX5_endWeek_2 0 rfl rfl)
theorem dX5_endWeek_49 : decode cX5_endWeek 49 = .ok (.iload_n 2, 1) := dk_28 (dk_at dksX5_endWeek_2 3 rfl rfl)
theorem dX5_endWeek_50 : decode cX5_endWeek 50 = .ok (.invokevirtual 151, 3) := dk_182 0 151 (dk_at dksX5_endWeek_2 4 rfl rfl)
theorem dX5_endWeek_53 : decode cX5_endWeek 53 = .ok (.aload_n 0, 1) := dk_42 (dk_at dksX5_endWeek_2 7 rfl rfl)
theorem dX5_endWeek_54 : decode cX5_endWeek 54 = .ok (.iload_n 1, 1) := dk_27 (dk_at dksX5_endWeek_2 8 rfl rfl)
theorem dX5_endWeek_55 : decode cX5_endWeek 55 = .ok (.iconst 4, 1) := dk_7 (dk_at dksX5_endWeek_2 9 rfl rfl)
theorem dX5_endWeek_56 : decode cX5_endWeek 56 = .ok (.iload_n 3, 1) := dk_29 (dk_at dksX5_endWeek_2 10 rfl rfl)
theorem dX5_endWeek_57 : decode cX5_endWeek 57 = .ok (.ifCond .ge 7, 3) := dk_156 0 7 (dk_at dksX5_endWeek_2 11 rfl rfl)
theorem dX5_endWeek_60 : decode cX5_endWeek 60 = .ok (.iconst 0, 1) := dk_3 (dk_at dksX5_endWeek_2 14 rfl rfl)
theorem dX5_endWeek_61 : decode cX5_endWeek 61 = .ok (.goto 4, 3) := dk_167 0 4 (dk_at dksX5_endWeek_2 15 rfl rfl)
theorem dX5_endWeek_64 : decode cX5_endWeek 64 = .ok (.iload_n 3, 1) := dk_29 (dk_at dksX5_endWeek_2 18 rfl rfl)
theorem dX5_endWeek_65 : decode cX5_endWeek 65 = .ok (.invokevirtual 151, 3) := dk_182 0 151 (dk_at dksX5_endWeek_2 19 rfl rfl)
theorem dX5_endWeek_68 : decode cX5_endWeek 68 = .ok (.iinc 1 1, 3) := dk_132 1 1 (dk_at dksX5_endWeek_3 0 rfl rfl)
theorem dX5_endWeek_71 : decode cX5_endWeek 71 = .ok (.goto (-69), 3) := dk_167 255 187 (dk_at dksX5_endWeek_3 3 rfl rfl)
theorem dX5_endWeek_74 : decode cX5_endWeek 74 = .ok (.iconst 0, 1) := dk_3 (dk_at dksX5_endWeek_3 6 rfl rfl)
theorem dX5_endWeek_75 : decode cX5_endWeek 75 = .ok (.istore_n 1, 1) := dk_60 (dk_at dksX5_endWeek_3 7 rfl rfl)
theorem dX5_endWeek_76 : decode cX5_endWeek 76 = .ok (.iload_n 1, 1) := dk_27 (dk_at dksX5_endWeek_3 8 rfl rfl)
theorem dX5_endWeek_77 : decode cX5_endWeek 77 = .ok (.aload_n 0, 1) := dk_42 (dk_at dksX5_endWeek_3 9 rfl rfl)
theorem dX5_endWeek_78 : decode cX5_endWeek 78 = .ok (.invokevirtual 128, 3) := dk_182 0 128 (dk_at dksX5_endWeek_3 10 rfl rfl)
theorem dX5_endWeek_81 : decode cX5_endWeek 81 = .ok (.if_icmp .ge 16, 3) := dk_162 0 16 (dk_at dksX5_endWeek_3 13 rfl rfl)
theorem dX5_endWeek_84 : decode cX5_endWeek 84 = .ok (.aload_n 0, 1) := dk_42 (dk_at dksX5_endWeek_3 16 rfl rfl)
theorem dX5_endWeek_85 : decode cX5_endWeek 85 = .ok (.iload_n 1, 1) := dk_27 (dk_at dksX5_endWeek_3 17 rfl rfl)
theorem dX5_endWeek_86 : decode cX5_endWeek 86 = .ok (.iconst 5, 1) := dk_8 (dk_at dksX5_endWeek_3 18 rfl rfl)
theorem dX5_endWeek_87 : decode cX5_endWeek 87 = .ok (.iconst 0, 1) := dk_3 (dk_at dksX5_endWeek_3 19 rfl rfl)
theorem dX5_endWeek_88 : decode cX5_endWeek 88 = .ok (.invokevirtual 151, 3) := dk_182 0 151 (dk_at dksX5_endWeek_3 20 rfl rfl)
theorem dX5_endWeek_91 : decode cX5_endWeek 91 = .ok (.iinc 1 1, 3) := dk_132 1 1 (dk_at dksX5_endWeek_4 0 rfl rfl)
theorem dX5_endWeek_94 : decode cX5_endWeek 94 = .ok (.goto (-18), 3) := dk_167 255 238 (dk_at dksX5_endWeek_4 3 rfl rfl)
theorem dX5_endWeek_97 : decode cX5_endWeek 97 = .ok (.return_, 1) := dk_177 (dk_at dksX5_endWeek_4 6 rfl rfl)
abbrev cX5_wornMany : ByteArray := prog_12_method_83_code
def yX5_wornMany : MethodName := ⟨RX5, "wornMany", "()I"⟩
def dkwX5_wornMany_1 : List UInt8 := [167, 0, 4, 3, 96, 60, 132, 2, 1, 167, 255, 229, 27, 172]
abbrev dktX5_wornMany_1 : List UInt8 := dkwX5_wornMany_1 ++ []
def dkwX5_wornMany_0 : List UInt8 := [3, 60, 3, 61, 28, 42, 182, 0, 128, 162, 0, 25, 27, 42, 28, 182, 0, 140, 153, 0, 7, 4]
abbrev dktX5_wornMany_0 : List UInt8 := dkwX5_wornMany_0 ++ dktX5_wornMany_1
theorem dksX5_wornMany_0 : cX5_wornMany.data.toList.drop 0 = dktX5_wornMany_0 := by decide +kernel
theorem dksX5_wornMany_1 : cX5_wornMany.data.toList.drop 22 = dktX5_wornMany_1 := dk_seg dksX5_wornMany_0 22 rfl rfl
theorem dX5_wornMany_0 : decode cX5_wornMany 0 = .ok (.iconst 0, 1) := dk_3 (dk_at dksX5_wornMany_0 0 rfl rfl)
theorem dX5_wornMany_1 : decode cX5_wornMany 1 = .ok (.istore_n 1, 1) := dk_60 (dk_at dksX5_wornMany_0 1 rfl rfl)
theorem dX5_wornMany_2 : decode cX5_wornMany 2 = .ok (.iconst 0, 1) := dk_3 (dk_at dksX5_wornMany_0 2 rfl rfl)
theorem dX5_wornMany_3 : decode cX5_wornMany 3 = .ok (.istore_n 2, 1) := dk_61 (dk_at dksX5_wornMany_0 3 rfl rfl)
theorem dX5_wornMany_4 : decode cX5_wornMany 4 = .ok (.iload_n 2, 1) := dk_28 (dk_at dksX5_wornMany_0 4 rfl rfl)
theorem dX5_wornMany_5 : decode cX5_wornMany 5 = .ok (.aload_n 0, 1) := dk_42 (dk_at dksX5_wornMany_0 5 rfl rfl)
theorem dX5_wornMany_6 : decode cX5_wornMany 6 = .ok (.invokevirtual 128, 3) := dk_182 0 128 (dk_at dksX5_wornMany_0 6 rfl rfl)
theorem dX5_wornMany_9 : decode cX5_wornMany 9 = .ok (.if_icmp .ge 25, 3) := dk_162 0 25 (dk_at dksX5_wornMany_0 9 rfl rfl)
theorem dX5_wornMany_12 : decode cX5_wornMany 12 = .ok (.iload_n 1, 1) := dk_27 (dk_at dksX5_wornMany_0 12 rfl rfl)
theorem dX5_wornMany_13 : decode cX5_wornMany 13 = .ok (.aload_n 0, 1) := dk_42 (dk_at dksX5_wornMany_0 13 rfl rfl)
theorem dX5_wornMany_14 : decode cX5_wornMany 14 = .ok (.iload_n 2, 1) := dk_28 (dk_at dksX5_wornMany_0 14 rfl rfl)
theorem dX5_wornMany_15 : decode cX5_wornMany 15 = .ok (.invokevirtual 140, 3) := dk_182 0 140 (dk_at dksX5_wornMany_0 15 rfl rfl)
theorem dX5_wornMany_18 : decode cX5_wornMany 18 = .ok (.ifCond .eq 7, 3) := dk_153 0 7 (dk_at dksX5_wornMany_0 18 rfl rfl)
theorem dX5_wornMany_21 : decode cX5_wornMany 21 = .ok (.iconst 1, 1) := dk_4 (dk_at dksX5_wornMany_0 21 rfl rfl)
theorem dX5_wornMany_22 : decode cX5_wornMany 22 = .ok (.goto 4, 3) := dk_167 0 4 (dk_at dksX5_wornMany_1 0 rfl rfl)
theorem dX5_wornMany_25 : decode cX5_wornMany 25 = .ok (.iconst 0, 1) := dk_3 (dk_at dksX5_wornMany_1 3 rfl rfl)
theorem dX5_wornMany_26 : decode cX5_wornMany 26 = .ok (.iadd, 1) := dk_96 (dk_at dksX5_wornMany_1 4 rfl rfl)
theorem dX5_wornMany_27 : decode cX5_wornMany 27 = .ok (.istore_n 1, 1) := dk_60 (dk_at dksX5_wornMany_1 5 rfl rfl)
theorem dX5_wornMany_28 : decode cX5_wornMany 28 = .ok (.iinc 2 1, 3) := dk_132 2 1 (dk_at dksX5_wornMany_1 6 rfl rfl)
theorem dX5_wornMany_31 : decode cX5_wornMany 31 = .ok (.goto (-27), 3) := dk_167 255 229 (dk_at dksX5_wornMany_1 9 rfl rfl)
theorem dX5_wornMany_34 : decode cX5_wornMany 34 = .ok (.iload_n 1, 1) := dk_27 (dk_at dksX5_wornMany_1 12 rfl rfl)
theorem dX5_wornMany_35 : decode cX5_wornMany 35 = .ok (.ireturn, 1) := dk_172 (dk_at dksX5_wornMany_1 13 rfl rfl)
abbrev cX5_rain : ByteArray := prog_12_method_77_code
def yX5_rain : MethodName := ⟨RX5, "rain", "(I)Z"⟩
def dkwX5_rain_3 : List UInt8 := [96, 182, 0, 151, 132, 2, 1, 167, 255, 201, 4, 172]
abbrev dktX5_rain_3 : List UInt8 := dkwX5_rain_3 ++ []
def dkwX5_rain_2 : List UInt8 := [182, 0, 136, 27, 96, 17, 0, 200, 164, 0, 9, 17, 0, 200, 167, 0, 11, 42, 28, 7, 182, 0, 136, 27]
abbrev dktX5_rain_2 : List UInt8 := dkwX5_rain_2 ++ dktX5_rain_3
def dkwX5_rain_1 : List UInt8 := [182, 0, 128, 162, 0, 53, 42, 28, 3, 182, 0, 136, 6, 162, 0, 37, 42, 28, 7, 42, 28, 7]
abbrev dktX5_rain_1 : List UInt8 := dkwX5_rain_1 ++ dktX5_rain_2
def dkwX5_rain_0 : List UInt8 := [42, 3, 181, 0, 1, 27, 4, 17, 0, 200, 184, 0, 132, 154, 0, 5, 3, 172, 3, 61, 28, 42]
abbrev dktX5_rain_0 : List UInt8 := dkwX5_rain_0 ++ dktX5_rain_1
theorem dksX5_rain_0 : cX5_rain.data.toList.drop 0 = dktX5_rain_0 := by decide +kernel
theorem dksX5_rain_1 : cX5_rain.data.toList.drop 22 = dktX5_rain_1 := dk_seg dksX5_rain_0 22 rfl rfl
theorem dksX5_rain_2 : cX5_rain.data.toList.drop 44 = dktX5_rain_2 := dk_seg dksX5_rain_1 22 rfl rfl
theorem dksX5_rain_3 : cX5_rain.data.toList.drop 68 = dktX5_rain_3 := dk_seg dksX5_rain_2 24 rfl rfl
theorem dX5_rain_0 : decode cX5_rain 0 = .ok (.aload_n 0, 1) := dk_42 (dk_at dksX5_rain_0 0 rfl rfl)
theorem dX5_rain_1 : decode cX5_rain 1 = .ok (.iconst 0, 1) := dk_3 (dk_at dksX5_rain_0 1 rfl rfl)
theorem dX5_rain_2 : decode cX5_rain 2 = .ok (.putfield 1, 3) := dk_181 0 1 (dk_at dksX5_rain_0 2 rfl rfl)
theorem dX5_rain_5 : decode cX5_rain 5 = .ok (.iload_n 1, 1) := dk_27 (dk_at dksX5_rain_0 5 rfl rfl)
theorem dX5_rain_6 : decode cX5_rain 6 = .ok (.iconst 1, 1) := dk_4 (dk_at dksX5_rain_0 6 rfl rfl)
theorem dX5_rain_7 : decode cX5_rain 7 = .ok (.sipush 200, 3) := dk_17 0 200 (dk_at dksX5_rain_0 7 rfl rfl)
theorem dX5_rain_10 : decode cX5_rain 10 = .ok (.invokestatic 132, 3) := dk_184 0 132 (dk_at dksX5_rain_0 10 rfl rfl)
theorem dX5_rain_13 : decode cX5_rain 13 = .ok (.ifCond .ne 5, 3) := dk_154 0 5 (dk_at dksX5_rain_0 13 rfl rfl)
theorem dX5_rain_16 : decode cX5_rain 16 = .ok (.iconst 0, 1) := dk_3 (dk_at dksX5_rain_0 16 rfl rfl)
theorem dX5_rain_17 : decode cX5_rain 17 = .ok (.ireturn, 1) := dk_172 (dk_at dksX5_rain_0 17 rfl rfl)
theorem dX5_rain_18 : decode cX5_rain 18 = .ok (.iconst 0, 1) := dk_3 (dk_at dksX5_rain_0 18 rfl rfl)
theorem dX5_rain_19 : decode cX5_rain 19 = .ok (.istore_n 2, 1) := dk_61 (dk_at dksX5_rain_0 19 rfl rfl)
theorem dX5_rain_20 : decode cX5_rain 20 = .ok (.iload_n 2, 1) := dk_28 (dk_at dksX5_rain_0 20 rfl rfl)
theorem dX5_rain_21 : decode cX5_rain 21 = .ok (.aload_n 0, 1) := dk_42 (dk_at dksX5_rain_0 21 rfl rfl)
theorem dX5_rain_22 : decode cX5_rain 22 = .ok (.invokevirtual 128, 3) := dk_182 0 128 (dk_at dksX5_rain_1 0 rfl rfl)
theorem dX5_rain_25 : decode cX5_rain 25 = .ok (.if_icmp .ge 53, 3) := dk_162 0 53 (dk_at dksX5_rain_1 3 rfl rfl)
theorem dX5_rain_28 : decode cX5_rain 28 = .ok (.aload_n 0, 1) := dk_42 (dk_at dksX5_rain_1 6 rfl rfl)
theorem dX5_rain_29 : decode cX5_rain 29 = .ok (.iload_n 2, 1) := dk_28 (dk_at dksX5_rain_1 7 rfl rfl)
theorem dX5_rain_30 : decode cX5_rain 30 = .ok (.iconst 0, 1) := dk_3 (dk_at dksX5_rain_1 8 rfl rfl)
theorem dX5_rain_31 : decode cX5_rain 31 = .ok (.invokevirtual 136, 3) := dk_182 0 136 (dk_at dksX5_rain_1 9 rfl rfl)
theorem dX5_rain_34 : decode cX5_rain 34 = .ok (.iconst 3, 1) := dk_6 (dk_at dksX5_rain_1 12 rfl rfl)
theorem dX5_rain_35 : decode cX5_rain 35 = .ok (.if_icmp .ge 37, 3) := dk_162 0 37 (dk_at dksX5_rain_1 13 rfl rfl)
theorem dX5_rain_38 : decode cX5_rain 38 = .ok (.aload_n 0, 1) := dk_42 (dk_at dksX5_rain_1 16 rfl rfl)
theorem dX5_rain_39 : decode cX5_rain 39 = .ok (.iload_n 2, 1) := dk_28 (dk_at dksX5_rain_1 17 rfl rfl)
theorem dX5_rain_40 : decode cX5_rain 40 = .ok (.iconst 4, 1) := dk_7 (dk_at dksX5_rain_1 18 rfl rfl)
theorem dX5_rain_41 : decode cX5_rain 41 = .ok (.aload_n 0, 1) := dk_42 (dk_at dksX5_rain_1 19 rfl rfl)
theorem dX5_rain_42 : decode cX5_rain 42 = .ok (.iload_n 2, 1) := dk_28 (dk_at dksX5_rain_1 20 rfl rfl)
theorem dX5_rain_43 : decode cX5_rain 43 = .ok (.iconst 4, 1) := dk_7 (dk_at dksX5_rain_1 21 rfl rfl)
theorem dX5_rain_44 : decode cX5_rain 44 = .ok (.invokevirtual 136, 3) := dk_182 0 136 (dk_at dksX5_rain_2 0 rfl rfl)
theorem dX5_rain_47 : decode cX5_rain 47 = .ok (.iload_n 1, 1) := dk_27 (dk_at dksX5_rain_2 3 rfl rfl)
theorem dX5_rain_48 : decode cX5_rain 48 = .ok (.iadd, 1) := dk_96 (dk_at dksX5_rain_2 4 rfl rfl)
theorem dX5_rain_49 : decode cX5_rain 49 = .ok (.sipush 200, 3) := dk_17 0 200 (dk_at dksX5_rain_2 5 rfl rfl)
theorem dX5_rain_52 : decode cX5_rain 52 = .ok (.if_icmp .le 9, 3) := dk_164 0 9 (dk_at dksX5_rain_2 8 rfl rfl)
theorem dX5_rain_55 : decode cX5_rain 55 = .ok (.sipush 200, 3) := dk_17 0 200 (dk_at dksX5_rain_2 11 rfl rfl)
theorem dX5_rain_58 : decode cX5_rain 58 = .ok (.goto 11, 3) := dk_167 0 11 (dk_at dksX5_rain_2 14 rfl rfl)
theorem dX5_rain_61 : decode cX5_rain 61 = .ok (.aload_n 0, 1) := dk_42 (dk_at dksX5_rain_2 17 rfl rfl)
theorem dX5_rain_62 : decode cX5_rain 62 = .ok (.iload_n 2, 1) := dk_28 (dk_at dksX5_rain_2 18 rfl rfl)
theorem dX5_rain_63 : decode cX5_rain 63 = .ok (.iconst 4, 1) := dk_7 (dk_at dksX5_rain_2 19 rfl rfl)
theorem dX5_rain_64 : decode cX5_rain 64 = .ok (.invokevirtual 136, 3) := dk_182 0 136 (dk_at dksX5_rain_2 20 rfl rfl)
theorem dX5_rain_67 : decode cX5_rain 67 = .ok (.iload_n 1, 1) := dk_27 (dk_at dksX5_rain_2 23 rfl rfl)
theorem dX5_rain_68 : decode cX5_rain 68 = .ok (.iadd, 1) := dk_96 (dk_at dksX5_rain_3 0 rfl rfl)
theorem dX5_rain_69 : decode cX5_rain 69 = .ok (.invokevirtual 151, 3) := dk_182 0 151 (dk_at dksX5_rain_3 1 rfl rfl)
theorem dX5_rain_72 : decode cX5_rain 72 = .ok (.iinc 2 1, 3) := dk_132 2 1 (dk_at dksX5_rain_3 4 rfl rfl)
theorem dX5_rain_75 : decode cX5_rain 75 = .ok (.goto (-55), 3) := dk_167 255 201 (dk_at dksX5_rain_3 7 rfl rfl)
theorem dX5_rain_78 : decode cX5_rain 78 = .ok (.iconst 1, 1) := dk_4 (dk_at dksX5_rain_3 10 rfl rfl)
theorem dX5_rain_79 : decode cX5_rain 79 = .ok (.ireturn, 1) := dk_172 (dk_at dksX5_rain_3 11 rfl rfl)
abbrev cX5_snow : ByteArray := prog_12_method_78_code
def yX5_snow : MethodName := ⟨RX5, "snow", "()V"⟩
def dkwX5_snow_1 : List UInt8 := [132, 1, 1, 167, 255, 237, 177]
abbrev dktX5_snow_1 : List UInt8 := dkwX5_snow_1 ++ []
def dkwX5_snow_0 : List UInt8 := [42, 3, 181, 0, 1, 3, 60, 27, 42, 182, 0, 128, 162, 0, 17, 42, 27, 16, 6, 3, 182, 0, 151]
abbrev dktX5_snow_0 : List UInt8 := dkwX5_snow_0 ++ dktX5_snow_1
theorem dksX5_snow_0 : cX5_snow.data.toList.drop 0 = dktX5_snow_0 := by decide +kernel
theorem dksX5_snow_1 : cX5_snow.data.toList.drop 23 = dktX5_snow_1 := dk_seg dksX5_snow_0 23 rfl rfl
theorem dX5_snow_0 : decode cX5_snow 0 = .ok (.aload_n 0, 1) := dk_42 (dk_at dksX5_snow_0 0 rfl rfl)
theorem dX5_snow_1 : decode cX5_snow 1 = .ok (.iconst 0, 1) := dk_3 (dk_at dksX5_snow_0 1 rfl rfl)
theorem dX5_snow_2 : decode cX5_snow 2 = .ok (.putfield 1, 3) := dk_181 0 1 (dk_at dksX5_snow_0 2 rfl rfl)
theorem dX5_snow_5 : decode cX5_snow 5 = .ok (.iconst 0, 1) := dk_3 (dk_at dksX5_snow_0 5 rfl rfl)
theorem dX5_snow_6 : decode cX5_snow 6 = .ok (.istore_n 1, 1) := dk_60 (dk_at dksX5_snow_0 6 rfl rfl)
theorem dX5_snow_7 : decode cX5_snow 7 = .ok (.iload_n 1, 1) := dk_27 (dk_at dksX5_snow_0 7 rfl rfl)
theorem dX5_snow_8 : decode cX5_snow 8 = .ok (.aload_n 0, 1) := dk_42 (dk_at dksX5_snow_0 8 rfl rfl)
theorem dX5_snow_9 : decode cX5_snow 9 = .ok (.invokevirtual 128, 3) := dk_182 0 128 (dk_at dksX5_snow_0 9 rfl rfl)
theorem dX5_snow_12 : decode cX5_snow 12 = .ok (.if_icmp .ge 17, 3) := dk_162 0 17 (dk_at dksX5_snow_0 12 rfl rfl)
theorem dX5_snow_15 : decode cX5_snow 15 = .ok (.aload_n 0, 1) := dk_42 (dk_at dksX5_snow_0 15 rfl rfl)
theorem dX5_snow_16 : decode cX5_snow 16 = .ok (.iload_n 1, 1) := dk_27 (dk_at dksX5_snow_0 16 rfl rfl)
theorem dX5_snow_17 : decode cX5_snow 17 = .ok (.bipush 6, 2) := dk_16 6 (dk_at dksX5_snow_0 17 rfl rfl)
theorem dX5_snow_19 : decode cX5_snow 19 = .ok (.iconst 0, 1) := dk_3 (dk_at dksX5_snow_0 19 rfl rfl)
theorem dX5_snow_20 : decode cX5_snow 20 = .ok (.invokevirtual 151, 3) := dk_182 0 151 (dk_at dksX5_snow_0 20 rfl rfl)
theorem dX5_snow_23 : decode cX5_snow 23 = .ok (.iinc 1 1, 3) := dk_132 1 1 (dk_at dksX5_snow_1 0 rfl rfl)
theorem dX5_snow_26 : decode cX5_snow 26 = .ok (.goto (-19), 3) := dk_167 255 237 (dk_at dksX5_snow_1 3 rfl rfl)
theorem dX5_snow_29 : decode cX5_snow 29 = .ok (.return_, 1) := dk_177 (dk_at dksX5_snow_1 6 rfl rfl)
abbrev cX5_lay : ByteArray := prog_12_method_79_code
def yX5_lay : MethodName := ⟨RX5, "lay", "(II)Z"⟩
def dkwX5_lay_2 : List UInt8 := [153, 0, 5, 3, 172, 42, 27, 28, 182, 1, 179, 4, 172]
abbrev dktX5_lay_2 : List UInt8 := dkwX5_lay_2 ++ []
def dkwX5_lay_1 : List UInt8 := [6, 159, 0, 9, 28, 16, 6, 160, 0, 21, 42, 27, 182, 0, 161, 154, 0, 11, 42, 27, 182, 1, 176]
abbrev dktX5_lay_1 : List UInt8 := dkwX5_lay_1 ++ dktX5_lay_2
def dkwX5_lay_0 : List UInt8 := [42, 3, 181, 0, 1, 42, 27, 182, 0, 155, 153, 0, 40, 28, 3, 16, 6, 184, 0, 132, 153, 0, 30, 28]
abbrev dktX5_lay_0 : List UInt8 := dkwX5_lay_0 ++ dktX5_lay_1
theorem dksX5_lay_0 : cX5_lay.data.toList.drop 0 = dktX5_lay_0 := by decide +kernel
theorem dksX5_lay_1 : cX5_lay.data.toList.drop 24 = dktX5_lay_1 := dk_seg dksX5_lay_0 24 rfl rfl
theorem dksX5_lay_2 : cX5_lay.data.toList.drop 47 = dktX5_lay_2 := dk_seg dksX5_lay_1 23 rfl rfl
theorem dX5_lay_0 : decode cX5_lay 0 = .ok (.aload_n 0, 1) := dk_42 (dk_at dksX5_lay_0 0 rfl rfl)
theorem dX5_lay_1 : decode cX5_lay 1 = .ok (.iconst 0, 1) := dk_3 (dk_at dksX5_lay_0 1 rfl rfl)
theorem dX5_lay_2 : decode cX5_lay 2 = .ok (.putfield 1, 3) := dk_181 0 1 (dk_at dksX5_lay_0 2 rfl rfl)
theorem dX5_lay_5 : decode cX5_lay 5 = .ok (.aload_n 0, 1) := dk_42 (dk_at dksX5_lay_0 5 rfl rfl)
theorem dX5_lay_6 : decode cX5_lay 6 = .ok (.iload_n 1, 1) := dk_27 (dk_at dksX5_lay_0 6 rfl rfl)
theorem dX5_lay_7 : decode cX5_lay 7 = .ok (.invokevirtual 155, 3) := dk_182 0 155 (dk_at dksX5_lay_0 7 rfl rfl)
theorem dX5_lay_10 : decode cX5_lay 10 = .ok (.ifCond .eq 40, 3) := dk_153 0 40 (dk_at dksX5_lay_0 10 rfl rfl)
theorem dX5_lay_13 : decode cX5_lay 13 = .ok (.iload_n 2, 1) := dk_28 (dk_at dksX5_lay_0 13 rfl rfl)
theorem dX5_lay_14 : decode cX5_lay 14 = .ok (.iconst 0, 1) := dk_3 (dk_at dksX5_lay_0 14 rfl rfl)
theorem dX5_lay_15 : decode cX5_lay 15 = .ok (.bipush 6, 2) := dk_16 6 (dk_at dksX5_lay_0 15 rfl rfl)
theorem dX5_lay_17 : decode cX5_lay 17 = .ok (.invokestatic 132, 3) := dk_184 0 132 (dk_at dksX5_lay_0 17 rfl rfl)
theorem dX5_lay_20 : decode cX5_lay 20 = .ok (.ifCond .eq 30, 3) := dk_153 0 30 (dk_at dksX5_lay_0 20 rfl rfl)
theorem dX5_lay_23 : decode cX5_lay 23 = .ok (.iload_n 2, 1) := dk_28 (dk_at dksX5_lay_0 23 rfl rfl)
theorem dX5_lay_24 : decode cX5_lay 24 = .ok (.iconst 3, 1) := dk_6 (dk_at dksX5_lay_1 0 rfl rfl)
theorem dX5_lay_25 : decode cX5_lay 25 = .ok (.if_icmp .eq 9, 3) := dk_159 0 9 (dk_at dksX5_lay_1 1 rfl rfl)
theorem dX5_lay_28 : decode cX5_lay 28 = .ok (.iload_n 2, 1) := dk_28 (dk_at dksX5_lay_1 4 rfl rfl)
theorem dX5_lay_29 : decode cX5_lay 29 = .ok (.bipush 6, 2) := dk_16 6 (dk_at dksX5_lay_1 5 rfl rfl)
theorem dX5_lay_31 : decode cX5_lay 31 = .ok (.if_icmp .ne 21, 3) := dk_160 0 21 (dk_at dksX5_lay_1 7 rfl rfl)
theorem dX5_lay_34 : decode cX5_lay 34 = .ok (.aload_n 0, 1) := dk_42 (dk_at dksX5_lay_1 10 rfl rfl)
theorem dX5_lay_35 : decode cX5_lay 35 = .ok (.iload_n 1, 1) := dk_27 (dk_at dksX5_lay_1 11 rfl rfl)
theorem dX5_lay_36 : decode cX5_lay 36 = .ok (.invokevirtual 161, 3) := dk_182 0 161 (dk_at dksX5_lay_1 12 rfl rfl)
theorem dX5_lay_39 : decode cX5_lay 39 = .ok (.ifCond .ne 11, 3) := dk_154 0 11 (dk_at dksX5_lay_1 15 rfl rfl)
theorem dX5_lay_42 : decode cX5_lay 42 = .ok (.aload_n 0, 1) := dk_42 (dk_at dksX5_lay_1 18 rfl rfl)
theorem dX5_lay_43 : decode cX5_lay 43 = .ok (.iload_n 1, 1) := dk_27 (dk_at dksX5_lay_1 19 rfl rfl)
theorem dX5_lay_44 : decode cX5_lay 44 = .ok (.invokevirtual 432, 3) := dk_182 1 176 (dk_at dksX5_lay_1 20 rfl rfl)
theorem dX5_lay_47 : decode cX5_lay 47 = .ok (.ifCond .eq 5, 3) := dk_153 0 5 (dk_at dksX5_lay_2 0 rfl rfl)
theorem dX5_lay_50 : decode cX5_lay 50 = .ok (.iconst 0, 1) := dk_3 (dk_at dksX5_lay_2 3 rfl rfl)
theorem dX5_lay_51 : decode cX5_lay 51 = .ok (.ireturn, 1) := dk_172 (dk_at dksX5_lay_2 4 rfl rfl)
theorem dX5_lay_52 : decode cX5_lay 52 = .ok (.aload_n 0, 1) := dk_42 (dk_at dksX5_lay_2 5 rfl rfl)
theorem dX5_lay_53 : decode cX5_lay 53 = .ok (.iload_n 1, 1) := dk_27 (dk_at dksX5_lay_2 6 rfl rfl)
theorem dX5_lay_54 : decode cX5_lay 54 = .ok (.iload_n 2, 1) := dk_28 (dk_at dksX5_lay_2 7 rfl rfl)
theorem dX5_lay_55 : decode cX5_lay 55 = .ok (.invokevirtual 435, 3) := dk_182 1 179 (dk_at dksX5_lay_2 8 rfl rfl)
theorem dX5_lay_58 : decode cX5_lay 58 = .ok (.iconst 1, 1) := dk_4 (dk_at dksX5_lay_2 11 rfl rfl)
theorem dX5_lay_59 : decode cX5_lay 59 = .ok (.ireturn, 1) := dk_172 (dk_at dksX5_lay_2 12 rfl rfl)
abbrev cX5_isWalkerAt : ByteArray := prog_12_method_25_code
def yX5_isWalkerAt : MethodName := ⟨RX5, "isWalkerAt", "(I)Z"⟩
def dkwX5_isWalkerAt_1 : List UInt8 := [104, 96, 46, 27, 160, 0, 5, 4, 172, 132, 2, 1, 167, 255, 222, 3, 172]
abbrev dktX5_isWalkerAt_1 : List UInt8 := dkwX5_isWalkerAt_1 ++ []
def dkwX5_isWalkerAt_0 : List UInt8 := [3, 61, 28, 42, 180, 0, 30, 17, 0, 157, 46, 162, 0, 28, 42, 180, 0, 30, 17, 0, 158, 16, 6, 28]
abbrev dktX5_isWalkerAt_0 : List UInt8 := dkwX5_isWalkerAt_0 ++ dktX5_isWalkerAt_1
theorem dksX5_isWalkerAt_0 : cX5_isWalkerAt.data.toList.drop 0 = dktX5_isWalkerAt_0 := by decide +kernel
theorem dksX5_isWalkerAt_1 : cX5_isWalkerAt.data.toList.drop 24 = dktX5_isWalkerAt_1 := dk_seg dksX5_isWalkerAt_0 24 rfl rfl
theorem dX5_isWalkerAt_0 : decode cX5_isWalkerAt 0 = .ok (.iconst 0, 1) := dk_3 (dk_at dksX5_isWalkerAt_0 0 rfl rfl)
theorem dX5_isWalkerAt_1 : decode cX5_isWalkerAt 1 = .ok (.istore_n 2, 1) := dk_61 (dk_at dksX5_isWalkerAt_0 1 rfl rfl)
theorem dX5_isWalkerAt_2 : decode cX5_isWalkerAt 2 = .ok (.iload_n 2, 1) := dk_28 (dk_at dksX5_isWalkerAt_0 2 rfl rfl)
theorem dX5_isWalkerAt_3 : decode cX5_isWalkerAt 3 = .ok (.aload_n 0, 1) := dk_42 (dk_at dksX5_isWalkerAt_0 3 rfl rfl)
theorem dX5_isWalkerAt_4 : decode cX5_isWalkerAt 4 = .ok (.getfield 30, 3) := dk_180 0 30 (dk_at dksX5_isWalkerAt_0 4 rfl rfl)
theorem dX5_isWalkerAt_7 : decode cX5_isWalkerAt 7 = .ok (.sipush 157, 3) := dk_17 0 157 (dk_at dksX5_isWalkerAt_0 7 rfl rfl)
theorem dX5_isWalkerAt_10 : decode cX5_isWalkerAt 10 = .ok (.iaload, 1) := dk_46 (dk_at dksX5_isWalkerAt_0 10 rfl rfl)
theorem dX5_isWalkerAt_11 : decode cX5_isWalkerAt 11 = .ok (.if_icmp .ge 28, 3) := dk_162 0 28 (dk_at dksX5_isWalkerAt_0 11 rfl rfl)
theorem dX5_isWalkerAt_14 : decode cX5_isWalkerAt 14 = .ok (.aload_n 0, 1) := dk_42 (dk_at dksX5_isWalkerAt_0 14 rfl rfl)
theorem dX5_isWalkerAt_15 : decode cX5_isWalkerAt 15 = .ok (.getfield 30, 3) := dk_180 0 30 (dk_at dksX5_isWalkerAt_0 15 rfl rfl)
theorem dX5_isWalkerAt_18 : decode cX5_isWalkerAt 18 = .ok (.sipush 158, 3) := dk_17 0 158 (dk_at dksX5_isWalkerAt_0 18 rfl rfl)
theorem dX5_isWalkerAt_21 : decode cX5_isWalkerAt 21 = .ok (.bipush 6, 2) := dk_16 6 (dk_at dksX5_isWalkerAt_0 21 rfl rfl)
theorem dX5_isWalkerAt_23 : decode cX5_isWalkerAt 23 = .ok (.iload_n 2, 1) := dk_28 (dk_at dksX5_isWalkerAt_0 23 rfl rfl)
theorem dX5_isWalkerAt_24 : decode cX5_isWalkerAt 24 = .ok (.imul, 1) := dk_104 (dk_at dksX5_isWalkerAt_1 0 rfl rfl)
theorem dX5_isWalkerAt_25 : decode cX5_isWalkerAt 25 = .ok (.iadd, 1) := dk_96 (dk_at dksX5_isWalkerAt_1 1 rfl rfl)
theorem dX5_isWalkerAt_26 : decode cX5_isWalkerAt 26 = .ok (.iaload, 1) := dk_46 (dk_at dksX5_isWalkerAt_1 2 rfl rfl)
theorem dX5_isWalkerAt_27 : decode cX5_isWalkerAt 27 = .ok (.iload_n 1, 1) := dk_27 (dk_at dksX5_isWalkerAt_1 3 rfl rfl)
theorem dX5_isWalkerAt_28 : decode cX5_isWalkerAt 28 = .ok (.if_icmp .ne 5, 3) := dk_160 0 5 (dk_at dksX5_isWalkerAt_1 4 rfl rfl)
theorem dX5_isWalkerAt_31 : decode cX5_isWalkerAt 31 = .ok (.iconst 1, 1) := dk_4 (dk_at dksX5_isWalkerAt_1 7 rfl rfl)
theorem dX5_isWalkerAt_32 : decode cX5_isWalkerAt 32 = .ok (.ireturn, 1) := dk_172 (dk_at dksX5_isWalkerAt_1 8 rfl rfl)
theorem dX5_isWalkerAt_33 : decode cX5_isWalkerAt 33 = .ok (.iinc 2 1, 3) := dk_132 2 1 (dk_at dksX5_isWalkerAt_1 9 rfl rfl)
theorem dX5_isWalkerAt_36 : decode cX5_isWalkerAt 36 = .ok (.goto (-34), 3) := dk_167 255 222 (dk_at dksX5_isWalkerAt_1 12 rfl rfl)
theorem dX5_isWalkerAt_39 : decode cX5_isWalkerAt 39 = .ok (.iconst 0, 1) := dk_3 (dk_at dksX5_isWalkerAt_1 15 rfl rfl)
theorem dX5_isWalkerAt_40 : decode cX5_isWalkerAt 40 = .ok (.ireturn, 1) := dk_172 (dk_at dksX5_isWalkerAt_1 16 rfl rfl)
abbrev cX5_put : ByteArray := prog_12_method_80_code
def yX5_put : MethodName := ⟨RX5, "put", "(II)V"⟩
def dkwX5_put_0 : List UInt8 := [42, 27, 3, 28, 182, 0, 151, 42, 27, 182, 1, 100, 154, 0, 10, 42, 27, 6, 3, 182, 0, 151, 177]
abbrev dktX5_put_0 : List UInt8 := dkwX5_put_0 ++ []
theorem dksX5_put_0 : cX5_put.data.toList.drop 0 = dktX5_put_0 := by decide +kernel
theorem dX5_put_0 : decode cX5_put 0 = .ok (.aload_n 0, 1) := dk_42 (dk_at dksX5_put_0 0 rfl rfl)
theorem dX5_put_1 : decode cX5_put 1 = .ok (.iload_n 1, 1) := dk_27 (dk_at dksX5_put_0 1 rfl rfl)
theorem dX5_put_2 : decode cX5_put 2 = .ok (.iconst 0, 1) := dk_3 (dk_at dksX5_put_0 2 rfl rfl)
theorem dX5_put_3 : decode cX5_put 3 = .ok (.iload_n 2, 1) := dk_28 (dk_at dksX5_put_0 3 rfl rfl)
theorem dX5_put_4 : decode cX5_put 4 = .ok (.invokevirtual 151, 3) := dk_182 0 151 (dk_at dksX5_put_0 4 rfl rfl)
theorem dX5_put_7 : decode cX5_put 7 = .ok (.aload_n 0, 1) := dk_42 (dk_at dksX5_put_0 7 rfl rfl)
theorem dX5_put_8 : decode cX5_put 8 = .ok (.iload_n 1, 1) := dk_27 (dk_at dksX5_put_0 8 rfl rfl)
theorem dX5_put_9 : decode cX5_put 9 = .ok (.invokevirtual 356, 3) := dk_182 1 100 (dk_at dksX5_put_0 9 rfl rfl)
theorem dX5_put_12 : decode cX5_put 12 = .ok (.ifCond .ne 10, 3) := dk_154 0 10 (dk_at dksX5_put_0 12 rfl rfl)
theorem dX5_put_15 : decode cX5_put 15 = .ok (.aload_n 0, 1) := dk_42 (dk_at dksX5_put_0 15 rfl rfl)
theorem dX5_put_16 : decode cX5_put 16 = .ok (.iload_n 1, 1) := dk_27 (dk_at dksX5_put_0 16 rfl rfl)
theorem dX5_put_17 : decode cX5_put 17 = .ok (.iconst 3, 1) := dk_6 (dk_at dksX5_put_0 17 rfl rfl)
theorem dX5_put_18 : decode cX5_put 18 = .ok (.iconst 0, 1) := dk_3 (dk_at dksX5_put_0 18 rfl rfl)
theorem dX5_put_19 : decode cX5_put 19 = .ok (.invokevirtual 151, 3) := dk_182 0 151 (dk_at dksX5_put_0 19 rfl rfl)
theorem dX5_put_22 : decode cX5_put 22 = .ok (.return_, 1) := dk_177 (dk_at dksX5_put_0 22 rfl rfl)
abbrev cX5_cell : ByteArray := prog_12_method_81_code
def yX5_cell : MethodName := ⟨RX5, "cell", "(II)I"⟩
def dkwX5_cell_3 : List UInt8 := [182, 1, 75, 153, 0, 7, 4, 167, 0, 4, 3, 172]
abbrev dktX5_cell_3 : List UInt8 := dkwX5_cell_3 ++ []
def dkwX5_cell_2 : List UInt8 := [16, 7, 160, 0, 19, 42, 27, 182, 0, 140, 153, 0, 7, 4, 167, 0, 20, 3, 167, 0, 16, 42, 27]
abbrev dktX5_cell_2 : List UInt8 := dkwX5_cell_2 ++ dktX5_cell_3
def dkwX5_cell_1 : List UInt8 := [182, 1, 183, 153, 0, 5, 3, 172, 28, 16, 7, 162, 0, 12, 42, 27, 28, 182, 0, 136, 167, 0, 38, 28]
abbrev dktX5_cell_1 : List UInt8 := dkwX5_cell_1 ++ dktX5_cell_2
def dkwX5_cell_0 : List UInt8 := [42, 42, 27, 182, 0, 155, 153, 0, 13, 28, 3, 16, 8, 184, 0, 132, 154, 0, 7, 4, 167, 0, 4, 3]
abbrev dktX5_cell_0 : List UInt8 := dkwX5_cell_0 ++ dktX5_cell_1
theorem dksX5_cell_0 : cX5_cell.data.toList.drop 0 = dktX5_cell_0 := by decide +kernel
theorem dksX5_cell_1 : cX5_cell.data.toList.drop 24 = dktX5_cell_1 := dk_seg dksX5_cell_0 24 rfl rfl
theorem dksX5_cell_2 : cX5_cell.data.toList.drop 48 = dktX5_cell_2 := dk_seg dksX5_cell_1 24 rfl rfl
theorem dksX5_cell_3 : cX5_cell.data.toList.drop 71 = dktX5_cell_3 := dk_seg dksX5_cell_2 23 rfl rfl
theorem dX5_cell_0 : decode cX5_cell 0 = .ok (.aload_n 0, 1) := dk_42 (dk_at dksX5_cell_0 0 rfl rfl)
theorem dX5_cell_1 : decode cX5_cell 1 = .ok (.aload_n 0, 1) := dk_42 (dk_at dksX5_cell_0 1 rfl rfl)
theorem dX5_cell_2 : decode cX5_cell 2 = .ok (.iload_n 1, 1) := dk_27 (dk_at dksX5_cell_0 2 rfl rfl)
theorem dX5_cell_3 : decode cX5_cell 3 = .ok (.invokevirtual 155, 3) := dk_182 0 155 (dk_at dksX5_cell_0 3 rfl rfl)
theorem dX5_cell_6 : decode cX5_cell 6 = .ok (.ifCond .eq 13, 3) := dk_153 0 13 (dk_at dksX5_cell_0 6 rfl rfl)
theorem dX5_cell_9 : decode cX5_cell 9 = .ok (.iload_n 2, 1) := dk_28 (dk_at dksX5_cell_0 9 rfl rfl)
theorem dX5_cell_10 : decode cX5_cell 10 = .ok (.iconst 0, 1) := dk_3 (dk_at dksX5_cell_0 10 rfl rfl)
theorem dX5_cell_11 : decode cX5_cell 11 = .ok (.bipush 8, 2) := dk_16 8 (dk_at dksX5_cell_0 11 rfl rfl)
theorem dX5_cell_13 : decode cX5_cell 13 = .ok (.invokestatic 132, 3) := dk_184 0 132 (dk_at dksX5_cell_0 13 rfl rfl)
theorem dX5_cell_16 : decode cX5_cell 16 = .ok (.ifCond .ne 7, 3) := dk_154 0 7 (dk_at dksX5_cell_0 16 rfl rfl)
theorem dX5_cell_19 : decode cX5_cell 19 = .ok (.iconst 1, 1) := dk_4 (dk_at dksX5_cell_0 19 rfl rfl)
theorem dX5_cell_20 : decode cX5_cell 20 = .ok (.goto 4, 3) := dk_167 0 4 (dk_at dksX5_cell_0 20 rfl rfl)
theorem dX5_cell_23 : decode cX5_cell 23 = .ok (.iconst 0, 1) := dk_3 (dk_at dksX5_cell_0 23 rfl rfl)
theorem dX5_cell_24 : decode cX5_cell 24 = .ok (.invokevirtual 439, 3) := dk_182 1 183 (dk_at dksX5_cell_1 0 rfl rfl)
theorem dX5_cell_27 : decode cX5_cell 27 = .ok (.ifCond .eq 5, 3) := dk_153 0 5 (dk_at dksX5_cell_1 3 rfl rfl)
theorem dX5_cell_30 : decode cX5_cell 30 = .ok (.iconst 0, 1) := dk_3 (dk_at dksX5_cell_1 6 rfl rfl)
theorem dX5_cell_31 : decode cX5_cell 31 = .ok (.ireturn, 1) := dk_172 (dk_at dksX5_cell_1 7 rfl rfl)
theorem dX5_cell_32 : decode cX5_cell 32 = .ok (.iload_n 2, 1) := dk_28 (dk_at dksX5_cell_1 8 rfl rfl)
theorem dX5_cell_33 : decode cX5_cell 33 = .ok (.bipush 7, 2) := dk_16 7 (dk_at dksX5_cell_1 9 rfl rfl)
theorem dX5_cell_35 : decode cX5_cell 35 = .ok (.if_icmp .ge 12, 3) := dk_162 0 12 (dk_at dksX5_cell_1 11 rfl rfl)
theorem dX5_cell_38 : decode cX5_cell 38 = .ok (.aload_n 0, 1) := dk_42 (dk_at dksX5_cell_1 14 rfl rfl)
theorem dX5_cell_39 : decode cX5_cell 39 = .ok (.iload_n 1, 1) := dk_27 (dk_at dksX5_cell_1 15 rfl rfl)
theorem dX5_cell_40 : decode cX5_cell 40 = .ok (.iload_n 2, 1) := dk_28 (dk_at dksX5_cell_1 16 rfl rfl)
theorem dX5_cell_41 : decode cX5_cell 41 = .ok (.invokevirtual 136, 3) := dk_182 0 136 (dk_at dksX5_cell_1 17 rfl rfl)
theorem dX5_cell_44 : decode cX5_cell 44 = .ok (.goto 38, 3) := dk_167 0 38 (dk_at dksX5_cell_1 20 rfl rfl)
theorem dX5_cell_47 : decode cX5_cell 47 = .ok (.iload_n 2, 1) := dk_28 (dk_at dksX5_cell_1 23 rfl rfl)
theorem dX5_cell_48 : decode cX5_cell 48 = .ok (.bipush 7, 2) := dk_16 7 (dk_at dksX5_cell_2 0 rfl rfl)
theorem dX5_cell_50 : decode cX5_cell 50 = .ok (.if_icmp .ne 19, 3) := dk_160 0 19 (dk_at dksX5_cell_2 2 rfl rfl)
theorem dX5_cell_53 : decode cX5_cell 53 = .ok (.aload_n 0, 1) := dk_42 (dk_at dksX5_cell_2 5 rfl rfl)
theorem dX5_cell_54 : decode cX5_cell 54 = .ok (.iload_n 1, 1) := dk_27 (dk_at dksX5_cell_2 6 rfl rfl)
theorem dX5_cell_55 : decode cX5_cell 55 = .ok (.invokevirtual 140, 3) := dk_182 0 140 (dk_at dksX5_cell_2 7 rfl rfl)
theorem dX5_cell_58 : decode cX5_cell 58 = .ok (.ifCond .eq 7, 3) := dk_153 0 7 (dk_at dksX5_cell_2 10 rfl rfl)
theorem dX5_cell_61 : decode cX5_cell 61 = .ok (.iconst 1, 1) := dk_4 (dk_at dksX5_cell_2 13 rfl rfl)
theorem dX5_cell_62 : decode cX5_cell 62 = .ok (.goto 20, 3) := dk_167 0 20 (dk_at dksX5_cell_2 14 rfl rfl)
theorem dX5_cell_65 : decode cX5_cell 65 = .ok (.iconst 0, 1) := dk_3 (dk_at dksX5_cell_2 17 rfl rfl)
theorem dX5_cell_66 : decode cX5_cell 66 = .ok (.goto 16, 3) := dk_167 0 16 (dk_at dksX5_cell_2 18 rfl rfl)
theorem dX5_cell_69 : decode cX5_cell 69 = .ok (.aload_n 0, 1) := dk_42 (dk_at dksX5_cell_2 21 rfl rfl)
theorem dX5_cell_70 : decode cX5_cell 70 = .ok (.iload_n 1, 1) := dk_27 (dk_at dksX5_cell_2 22 rfl rfl)
theorem dX5_cell_71 : decode cX5_cell 71 = .ok (.invokevirtual 331, 3) := dk_182 1 75 (dk_at dksX5_cell_3 0 rfl rfl)
theorem dX5_cell_74 : decode cX5_cell 74 = .ok (.ifCond .eq 7, 3) := dk_153 0 7 (dk_at dksX5_cell_3 3 rfl rfl)
theorem dX5_cell_77 : decode cX5_cell 77 = .ok (.iconst 1, 1) := dk_4 (dk_at dksX5_cell_3 6 rfl rfl)
theorem dX5_cell_78 : decode cX5_cell 78 = .ok (.goto 4, 3) := dk_167 0 4 (dk_at dksX5_cell_3 7 rfl rfl)
theorem dX5_cell_81 : decode cX5_cell 81 = .ok (.iconst 0, 1) := dk_3 (dk_at dksX5_cell_3 10 rfl rfl)
theorem dX5_cell_82 : decode cX5_cell 82 = .ok (.ireturn, 1) := dk_172 (dk_at dksX5_cell_3 11 rfl rfl)
abbrev cX5_throwsIf : ByteArray := prog_12_method_2_code
def yX5_throwsIf : MethodName := ⟨RX5, "throwsIf", "(Z)Z"⟩
def dkwX5_throwsIf_0 : List UInt8 := [42, 27, 153, 0, 7, 4, 167, 0, 4, 3, 181, 0, 1, 27, 172]
abbrev dktX5_throwsIf_0 : List UInt8 := dkwX5_throwsIf_0 ++ []
theorem dksX5_throwsIf_0 : cX5_throwsIf.data.toList.drop 0 = dktX5_throwsIf_0 := by decide +kernel
theorem dX5_throwsIf_0 : decode cX5_throwsIf 0 = .ok (.aload_n 0, 1) := dk_42 (dk_at dksX5_throwsIf_0 0 rfl rfl)
theorem dX5_throwsIf_1 : decode cX5_throwsIf 1 = .ok (.iload_n 1, 1) := dk_27 (dk_at dksX5_throwsIf_0 1 rfl rfl)
theorem dX5_throwsIf_2 : decode cX5_throwsIf 2 = .ok (.ifCond .eq 7, 3) := dk_153 0 7 (dk_at dksX5_throwsIf_0 2 rfl rfl)
theorem dX5_throwsIf_5 : decode cX5_throwsIf 5 = .ok (.iconst 1, 1) := dk_4 (dk_at dksX5_throwsIf_0 5 rfl rfl)
theorem dX5_throwsIf_6 : decode cX5_throwsIf 6 = .ok (.goto 4, 3) := dk_167 0 4 (dk_at dksX5_throwsIf_0 6 rfl rfl)
theorem dX5_throwsIf_9 : decode cX5_throwsIf 9 = .ok (.iconst 0, 1) := dk_3 (dk_at dksX5_throwsIf_0 9 rfl rfl)
theorem dX5_throwsIf_10 : decode cX5_throwsIf 10 = .ok (.putfield 1, 3) := dk_181 0 1 (dk_at dksX5_throwsIf_0 10 rfl rfl)
theorem dX5_throwsIf_13 : decode cX5_throwsIf 13 = .ok (.iload_n 1, 1) := dk_27 (dk_at dksX5_throwsIf_0 13 rfl rfl)
theorem dX5_throwsIf_14 : decode cX5_throwsIf 14 = .ok (.ireturn, 1) := dk_172 (dk_at dksX5_throwsIf_0 14 rfl rfl)
abbrev cX5_walker : ByteArray := prog_12_method_82_code
def yX5_walker : MethodName := ⟨RX5, "walker", "(II)I"⟩
def dkwX5_walker_2 : List UInt8 := [167, 0, 4, 2, 172]
abbrev dktX5_walker_2 : List UInt8 := dkwX5_walker_2 ++ []
def dkwX5_walker_1 : List UInt8 := [3, 5, 184, 0, 132, 153, 0, 21, 42, 180, 0, 30, 17, 0, 158, 16, 6, 27, 104, 96, 28, 96, 46]
abbrev dktX5_walker_1 : List UInt8 := dkwX5_walker_1 ++ dktX5_walker_2
def dkwX5_walker_0 : List UInt8 := [42, 3, 181, 0, 1, 27, 3, 42, 180, 0, 30, 17, 0, 157, 46, 4, 100, 184, 0, 132, 153, 0, 30, 28]
abbrev dktX5_walker_0 : List UInt8 := dkwX5_walker_0 ++ dktX5_walker_1
theorem dksX5_walker_0 : cX5_walker.data.toList.drop 0 = dktX5_walker_0 := by decide +kernel
theorem dksX5_walker_1 : cX5_walker.data.toList.drop 24 = dktX5_walker_1 := dk_seg dksX5_walker_0 24 rfl rfl
theorem dksX5_walker_2 : cX5_walker.data.toList.drop 47 = dktX5_walker_2 := dk_seg dksX5_walker_1 23 rfl rfl
theorem dX5_walker_0 : decode cX5_walker 0 = .ok (.aload_n 0, 1) := dk_42 (dk_at dksX5_walker_0 0 rfl rfl)
theorem dX5_walker_1 : decode cX5_walker 1 = .ok (.iconst 0, 1) := dk_3 (dk_at dksX5_walker_0 1 rfl rfl)
theorem dX5_walker_2 : decode cX5_walker 2 = .ok (.putfield 1, 3) := dk_181 0 1 (dk_at dksX5_walker_0 2 rfl rfl)
theorem dX5_walker_5 : decode cX5_walker 5 = .ok (.iload_n 1, 1) := dk_27 (dk_at dksX5_walker_0 5 rfl rfl)
theorem dX5_walker_6 : decode cX5_walker 6 = .ok (.iconst 0, 1) := dk_3 (dk_at dksX5_walker_0 6 rfl rfl)
theorem dX5_walker_7 : decode cX5_walker 7 = .ok (.aload_n 0, 1) := dk_42 (dk_at dksX5_walker_0 7 rfl rfl)
theorem dX5_walker_8 : decode cX5_walker 8 = .ok (.getfield 30, 3) := dk_180 0 30 (dk_at dksX5_walker_0 8 rfl rfl)
theorem dX5_walker_11 : decode cX5_walker 11 = .ok (.sipush 157, 3) := dk_17 0 157 (dk_at dksX5_walker_0 11 rfl rfl)
theorem dX5_walker_14 : decode cX5_walker 14 = .ok (.iaload, 1) := dk_46 (dk_at dksX5_walker_0 14 rfl rfl)
theorem dX5_walker_15 : decode cX5_walker 15 = .ok (.iconst 1, 1) := dk_4 (dk_at dksX5_walker_0 15 rfl rfl)
theorem dX5_walker_16 : decode cX5_walker 16 = .ok (.isub, 1) := dk_100 (dk_at dksX5_walker_0 16 rfl rfl)
theorem dX5_walker_17 : decode cX5_walker 17 = .ok (.invokestatic 132, 3) := dk_184 0 132 (dk_at dksX5_walker_0 17 rfl rfl)
theorem dX5_walker_20 : decode cX5_walker 20 = .ok (.ifCond .eq 30, 3) := dk_153 0 30 (dk_at dksX5_walker_0 20 rfl rfl)
theorem dX5_walker_23 : decode cX5_walker 23 = .ok (.iload_n 2, 1) := dk_28 (dk_at dksX5_walker_0 23 rfl rfl)
theorem dX5_walker_24 : decode cX5_walker 24 = .ok (.iconst 0, 1) := dk_3 (dk_at dksX5_walker_1 0 rfl rfl)
theorem dX5_walker_25 : decode cX5_walker 25 = .ok (.iconst 2, 1) := dk_5 (dk_at dksX5_walker_1 1 rfl rfl)
theorem dX5_walker_26 : decode cX5_walker 26 = .ok (.invokestatic 132, 3) := dk_184 0 132 (dk_at dksX5_walker_1 2 rfl rfl)
theorem dX5_walker_29 : decode cX5_walker 29 = .ok (.ifCond .eq 21, 3) := dk_153 0 21 (dk_at dksX5_walker_1 5 rfl rfl)
theorem dX5_walker_32 : decode cX5_walker 32 = .ok (.aload_n 0, 1) := dk_42 (dk_at dksX5_walker_1 8 rfl rfl)
theorem dX5_walker_33 : decode cX5_walker 33 = .ok (.getfield 30, 3) := dk_180 0 30 (dk_at dksX5_walker_1 9 rfl rfl)
theorem dX5_walker_36 : decode cX5_walker 36 = .ok (.sipush 158, 3) := dk_17 0 158 (dk_at dksX5_walker_1 12 rfl rfl)
theorem dX5_walker_39 : decode cX5_walker 39 = .ok (.bipush 6, 2) := dk_16 6 (dk_at dksX5_walker_1 15 rfl rfl)
theorem dX5_walker_41 : decode cX5_walker 41 = .ok (.iload_n 1, 1) := dk_27 (dk_at dksX5_walker_1 17 rfl rfl)
theorem dX5_walker_42 : decode cX5_walker 42 = .ok (.imul, 1) := dk_104 (dk_at dksX5_walker_1 18 rfl rfl)
theorem dX5_walker_43 : decode cX5_walker 43 = .ok (.iadd, 1) := dk_96 (dk_at dksX5_walker_1 19 rfl rfl)
theorem dX5_walker_44 : decode cX5_walker 44 = .ok (.iload_n 2, 1) := dk_28 (dk_at dksX5_walker_1 20 rfl rfl)
theorem dX5_walker_45 : decode cX5_walker 45 = .ok (.iadd, 1) := dk_96 (dk_at dksX5_walker_1 21 rfl rfl)
theorem dX5_walker_46 : decode cX5_walker 46 = .ok (.iaload, 1) := dk_46 (dk_at dksX5_walker_1 22 rfl rfl)
theorem dX5_walker_47 : decode cX5_walker 47 = .ok (.goto 4, 3) := dk_167 0 4 (dk_at dksX5_walker_2 0 rfl rfl)
theorem dX5_walker_50 : decode cX5_walker 50 = .ok (.iconst (-1), 1) := dk_2 (dk_at dksX5_walker_2 3 rfl rfl)
theorem dX5_walker_51 : decode cX5_walker 51 = .ok (.ireturn, 1) := dk_172 (dk_at dksX5_walker_2 4 rfl rfl)
abbrev cX5_net : ByteArray := prog_12_method_84_code
def yX5_net : MethodName := ⟨RX5, "net", "()I"⟩
def dkwX5_net_0 : List UInt8 := [42, 3, 181, 0, 1, 42, 182, 1, 173, 172]
abbrev dktX5_net_0 : List UInt8 := dkwX5_net_0 ++ []
theorem dksX5_net_0 : cX5_net.data.toList.drop 0 = dktX5_net_0 := by decide +kernel
theorem dX5_net_0 : decode cX5_net 0 = .ok (.aload_n 0, 1) := dk_42 (dk_at dksX5_net_0 0 rfl rfl)
theorem dX5_net_1 : decode cX5_net 1 = .ok (.iconst 0, 1) := dk_3 (dk_at dksX5_net_0 1 rfl rfl)
theorem dX5_net_2 : decode cX5_net 2 = .ok (.putfield 1, 3) := dk_181 0 1 (dk_at dksX5_net_0 2 rfl rfl)
theorem dX5_net_5 : decode cX5_net 5 = .ok (.aload_n 0, 1) := dk_42 (dk_at dksX5_net_0 5 rfl rfl)
theorem dX5_net_6 : decode cX5_net 6 = .ok (.invokevirtual 429, 3) := dk_182 1 173 (dk_at dksX5_net_0 6 rfl rfl)
theorem dX5_net_9 : decode cX5_net 9 = .ok (.ireturn, 1) := dk_172 (dk_at dksX5_net_0 9 rfl rfl)
abbrev cX5_pieces : ByteArray := prog_12_method_85_code
def yX5_pieces : MethodName := ⟨RX5, "pieces", "()I"⟩
def dkwX5_pieces_3 : List UInt8 := [132, 1, 1, 42, 182, 1, 186, 132, 2, 1, 167, 255, 211, 27, 172]
abbrev dktX5_pieces_3 : List UInt8 := dkwX5_pieces_3 ++ []
def dkwX5_pieces_2 : List UInt8 := [153, 0, 29, 42, 180, 0, 89, 28, 51, 153, 0, 6, 167, 0, 17, 42, 180, 0, 89, 28, 4, 84]
abbrev dktX5_pieces_2 : List UInt8 := dkwX5_pieces_2 ++ dktX5_pieces_3
def dkwX5_pieces_1 : List UInt8 := [132, 1, 1, 167, 255, 238, 3, 60, 3, 61, 28, 42, 182, 0, 128, 162, 0, 43, 42, 28, 182, 0, 140]
abbrev dktX5_pieces_1 : List UInt8 := dkwX5_pieces_1 ++ dktX5_pieces_2
def dkwX5_pieces_0 : List UInt8 := [42, 3, 181, 0, 1, 3, 60, 27, 42, 182, 0, 128, 162, 0, 16, 42, 180, 0, 89, 27, 3, 84]
abbrev dktX5_pieces_0 : List UInt8 := dkwX5_pieces_0 ++ dktX5_pieces_1
theorem dksX5_pieces_0 : cX5_pieces.data.toList.drop 0 = dktX5_pieces_0 := by decide +kernel
theorem dksX5_pieces_1 : cX5_pieces.data.toList.drop 22 = dktX5_pieces_1 := dk_seg dksX5_pieces_0 22 rfl rfl
theorem dksX5_pieces_2 : cX5_pieces.data.toList.drop 45 = dktX5_pieces_2 := dk_seg dksX5_pieces_1 23 rfl rfl
theorem dksX5_pieces_3 : cX5_pieces.data.toList.drop 67 = dktX5_pieces_3 := dk_seg dksX5_pieces_2 22 rfl rfl
theorem dX5_pieces_0 : decode cX5_pieces 0 = .ok (.aload_n 0, 1) := dk_42 (dk_at dksX5_pieces_0 0 rfl rfl)
theorem dX5_pieces_1 : decode cX5_pieces 1 = .ok (.iconst 0, 1) := dk_3 (dk_at dksX5_pieces_0 1 rfl rfl)
theorem dX5_pieces_2 : decode cX5_pieces 2 = .ok (.putfield 1, 3) := dk_181 0 1 (dk_at dksX5_pieces_0 2 rfl rfl)
theorem dX5_pieces_5 : decode cX5_pieces 5 = .ok (.iconst 0, 1) := dk_3 (dk_at dksX5_pieces_0 5 rfl rfl)
theorem dX5_pieces_6 : decode cX5_pieces 6 = .ok (.istore_n 1, 1) := dk_60 (dk_at dksX5_pieces_0 6 rfl rfl)
theorem dX5_pieces_7 : decode cX5_pieces 7 = .ok (.iload_n 1, 1) := dk_27 (dk_at dksX5_pieces_0 7 rfl rfl)
theorem dX5_pieces_8 : decode cX5_pieces 8 = .ok (.aload_n 0, 1) := dk_42 (dk_at dksX5_pieces_0 8 rfl rfl)
theorem dX5_pieces_9 : decode cX5_pieces 9 = .ok (.invokevirtual 128, 3) := dk_182 0 128 (dk_at dksX5_pieces_0 9 rfl rfl)
theorem dX5_pieces_12 : decode cX5_pieces 12 = .ok (.if_icmp .ge 16, 3) := dk_162 0 16 (dk_at dksX5_pieces_0 12 rfl rfl)
theorem dX5_pieces_15 : decode cX5_pieces 15 = .ok (.aload_n 0, 1) := dk_42 (dk_at dksX5_pieces_0 15 rfl rfl)
theorem dX5_pieces_16 : decode cX5_pieces 16 = .ok (.getfield 89, 3) := dk_180 0 89 (dk_at dksX5_pieces_0 16 rfl rfl)
theorem dX5_pieces_19 : decode cX5_pieces 19 = .ok (.iload_n 1, 1) := dk_27 (dk_at dksX5_pieces_0 19 rfl rfl)
theorem dX5_pieces_20 : decode cX5_pieces 20 = .ok (.iconst 0, 1) := dk_3 (dk_at dksX5_pieces_0 20 rfl rfl)
theorem dX5_pieces_21 : decode cX5_pieces 21 = .ok (.bastore, 1) := dk_84 (dk_at dksX5_pieces_0 21 rfl rfl)
theorem dX5_pieces_22 : decode cX5_pieces 22 = .ok (.iinc 1 1, 3) := dk_132 1 1 (dk_at dksX5_pieces_1 0 rfl rfl)
theorem dX5_pieces_25 : decode cX5_pieces 25 = .ok (.goto (-18), 3) := dk_167 255 238 (dk_at dksX5_pieces_1 3 rfl rfl)
theorem dX5_pieces_28 : decode cX5_pieces 28 = .ok (.iconst 0, 1) := dk_3 (dk_at dksX5_pieces_1 6 rfl rfl)
theorem dX5_pieces_29 : decode cX5_pieces 29 = .ok (.istore_n 1, 1) := dk_60 (dk_at dksX5_pieces_1 7 rfl rfl)
theorem dX5_pieces_30 : decode cX5_pieces 30 = .ok (.iconst 0, 1) := dk_3 (dk_at dksX5_pieces_1 8 rfl rfl)
theorem dX5_pieces_31 : decode cX5_pieces 31 = .ok (.istore_n 2, 1) := dk_61 (dk_at dksX5_pieces_1 9 rfl rfl)
theorem dX5_pieces_32 : decode cX5_pieces 32 = .ok (.iload_n 2, 1) := dk_28 (dk_at dksX5_pieces_1 10 rfl rfl)
theorem dX5_pieces_33 : decode cX5_pieces 33 = .ok (.aload_n 0, 1) := dk_42 (dk_at dksX5_pieces_1 11 rfl rfl)
theorem dX5_pieces_34 : decode cX5_pieces 34 = .ok (.invokevirtual 128, 3) := dk_182 0 128 (dk_at dksX5_pieces_1 12 rfl rfl)
theorem dX5_pieces_37 : decode cX5_pieces 37 = .ok (.if_icmp .ge 43, 3) := dk_162 0 43 (dk_at dksX5_pieces_1 15 rfl rfl)
theorem dX5_pieces_40 : decode cX5_pieces 40 = .ok (.aload_n 0, 1) := dk_42 (dk_at dksX5_pieces_1 18 rfl rfl)
theorem dX5_pieces_41 : decode cX5_pieces 41 = .ok (.iload_n 2, 1) := dk_28 (dk_at dksX5_pieces_1 19 rfl rfl)
theorem dX5_pieces_42 : decode cX5_pieces 42 = .ok (.invokevirtual 140, 3) := dk_182 0 140 (dk_at dksX5_pieces_1 20 rfl rfl)
theorem dX5_pieces_45 : decode cX5_pieces 45 = .ok (.ifCond .eq 29, 3) := dk_153 0 29 (dk_at dksX5_pieces_2 0 rfl rfl)
theorem dX5_pieces_48 : decode cX5_pieces 48 = .ok (.aload_n 0, 1) := dk_42 (dk_at dksX5_pieces_2 3 rfl rfl)
theorem dX5_pieces_49 : decode cX5_pieces 49 = .ok (.getfield 89, 3) := dk_180 0 89 (dk_at dksX5_pieces_2 4 rfl rfl)
theorem dX5_pieces_52 : decode cX5_pieces 52 = .ok (.iload_n 2, 1) := dk_28 (dk_at dksX5_pieces_2 7 rfl rfl)
theorem dX5_pieces_53 : decode cX5_pieces 53 = .ok (.baload, 1) := dk_51 (dk_at dksX5_pieces_2 8 rfl rfl)
theorem dX5_pieces_54 : decode cX5_pieces 54 = .ok (.ifCond .eq 6, 3) := dk_153 0 6 (dk_at dksX5_pieces_2 9 rfl rfl)
theorem dX5_pieces_57 : decode cX5_pieces 57 = .ok (.goto 17, 3) := dk_167 0 17 (dk_at dksX5_pieces_2 12 rfl rfl)
theorem dX5_pieces_60 : decode cX5_pieces 60 = .ok (.aload_n 0, 1) := dk_42 (dk_at dksX5_pieces_2 15 rfl rfl)
theorem dX5_pieces_61 : decode cX5_pieces 61 = .ok (.getfield 89, 3) := dk_180 0 89 (dk_at dksX5_pieces_2 16 rfl rfl)
theorem dX5_pieces_64 : decode cX5_pieces 64 = .ok (.iload_n 2, 1) := dk_28 (dk_at dksX5_pieces_2 19 rfl rfl)
theorem dX5_pieces_65 : decode cX5_pieces 65 = .ok (.iconst 1, 1) := dk_4 (dk_at dksX5_pieces_2 20 rfl rfl)
theorem dX5_pieces_66 : decode cX5_pieces 66 = .ok (.bastore, 1) := dk_84 (dk_at dksX5_pieces_2 21 rfl rfl)
theorem dX5_pieces_67 : decode cX5_pieces 67 = .ok (.iinc 1 1, 3) := dk_132 1 1 (dk_at dksX5_pieces_3 0 rfl rfl)
theorem dX5_pieces_70 : decode cX5_pieces 70 = .ok (.aload_n 0, 1) := dk_42 (dk_at dksX5_pieces_3 3 rfl rfl)
theorem dX5_pieces_71 : decode cX5_pieces 71 = .ok (.invokevirtual 442, 3) := dk_182 1 186 (dk_at dksX5_pieces_3 4 rfl rfl)
theorem dX5_pieces_74 : decode cX5_pieces 74 = .ok (.iinc 2 1, 3) := dk_132 2 1 (dk_at dksX5_pieces_3 7 rfl rfl)
theorem dX5_pieces_77 : decode cX5_pieces 77 = .ok (.goto (-45), 3) := dk_167 255 211 (dk_at dksX5_pieces_3 10 rfl rfl)
theorem dX5_pieces_80 : decode cX5_pieces 80 = .ok (.iload_n 1, 1) := dk_27 (dk_at dksX5_pieces_3 13 rfl rfl)
theorem dX5_pieces_81 : decode cX5_pieces 81 = .ok (.ireturn, 1) := dk_172 (dk_at dksX5_pieces_3 14 rfl rfl)
abbrev cX5_spread : ByteArray := prog_12_method_86_code
def yX5_spread : MethodName := ⟨RX5, "spread", "()V"⟩
def dkwX5_spread_5 : List UInt8 := [51, 153, 0, 7, 4, 167, 0, 4, 3, 60, 132, 2, 1, 167, 255, 136, 167, 255, 125, 177]
abbrev dktX5_spread_5 : List UInt8 := dkwX5_spread_5 ++ []
def dkwX5_spread_4 : List UInt8 := [153, 0, 7, 4, 167, 0, 4, 3, 84, 132, 3, 1, 167, 255, 191, 27, 154, 0, 12, 42, 180, 0, 89, 28]
abbrev dktX5_spread_4 : List UInt8 := dkwX5_spread_4 ++ dktX5_spread_5
def dkwX5_spread_3 : List UInt8 := [180, 0, 89, 42, 28, 29, 182, 1, 124, 51, 153, 0, 20, 42, 42, 28, 29, 182, 1, 124, 182, 0, 140]
abbrev dktX5_spread_3 : List UInt8 := dkwX5_spread_3 ++ dktX5_spread_4
def dkwX5_spread_2 : List UInt8 := [180, 0, 89, 28, 51, 154, 0, 56, 42, 180, 0, 89, 28, 42, 28, 29, 182, 1, 124, 155, 0, 34, 42]
abbrev dktX5_spread_2 : List UInt8 := dkwX5_spread_2 ++ dktX5_spread_3
def dkwX5_spread_1 : List UInt8 := [153, 0, 104, 42, 180, 0, 89, 28, 51, 153, 0, 6, 167, 0, 92, 3, 62, 29, 16, 8, 162, 0, 65, 42]
abbrev dktX5_spread_1 : List UInt8 := dkwX5_spread_1 ++ dktX5_spread_2
def dkwX5_spread_0 : List UInt8 := [4, 60, 27, 153, 0, 133, 3, 60, 3, 61, 28, 42, 182, 0, 128, 162, 0, 118, 42, 28, 182, 0, 140]
abbrev dktX5_spread_0 : List UInt8 := dkwX5_spread_0 ++ dktX5_spread_1
theorem dksX5_spread_0 : cX5_spread.data.toList.drop 0 = dktX5_spread_0 := by decide +kernel
theorem dksX5_spread_1 : cX5_spread.data.toList.drop 23 = dktX5_spread_1 := dk_seg dksX5_spread_0 23 rfl rfl
theorem dksX5_spread_2 : cX5_spread.data.toList.drop 47 = dktX5_spread_2 := dk_seg dksX5_spread_1 24 rfl rfl
theorem dksX5_spread_3 : cX5_spread.data.toList.drop 70 = dktX5_spread_3 := dk_seg dksX5_spread_2 23 rfl rfl
theorem dksX5_spread_4 : cX5_spread.data.toList.drop 93 = dktX5_spread_4 := dk_seg dksX5_spread_3 23 rfl rfl
theorem dksX5_spread_5 : cX5_spread.data.toList.drop 117 = dktX5_spread_5 := dk_seg dksX5_spread_4 24 rfl rfl
theorem dX5_spread_0 : decode cX5_spread 0 = .ok (.iconst 1, 1) := dk_4 (dk_at dksX5_spread_0 0 rfl rfl)
theorem dX5_spread_1 : decode cX5_spread 1 = .ok (.istore_n 1, 1) := dk_60 (dk_at dksX5_spread_0 1 rfl rfl)
theorem dX5_spread_2 : decode cX5_spread 2 = .ok (.iload_n 1, 1) := dk_27 (dk_at dksX5_spread_0 2 rfl rfl)
theorem dX5_spread_3 : decode cX5_spread 3 = .ok (.ifCond .eq 133, 3) := dk_153 0 133 (dk_at dksX5_spread_0 3 rfl rfl)
theorem dX5_spread_6 : decode cX5_spread 6 = .ok (.iconst 0, 1) := dk_3 (dk_at dksX5_spread_0 6 rfl rfl)
theorem dX5_spread_7 : decode cX5_spread 7 = .ok (.istore_n 1, 1) := dk_60 (dk_at dksX5_spread_0 7 rfl rfl)
theorem dX5_spread_8 : decode cX5_spread 8 = .ok (.iconst 0, 1) := dk_3 (dk_at dksX5_spread_0 8 rfl rfl)
theorem dX5_spread_9 : decode cX5_spread 9 = .ok (.istore_n 2, 1) := dk_61 (dk_at dksX5_spread_0 9 rfl rfl)
theorem dX5_spread_10 : decode cX5_spread 10 = .ok (.iload_n 2, 1) := dk_28 (dk_at dksX5_spread_0 10 rfl rfl)
theorem dX5_spread_11 : decode cX5_spread 11 = .ok (.aload_n 0, 1) := dk_42 (dk_at dksX5_spread_0 11 rfl rfl)
theorem dX5_spread_12 : decode cX5_spread 12 = .ok (.invokevirtual 128, 3) := dk_182 0 128 (dk_at dksX5_spread_0 12 rfl rfl)
theorem dX5_spread_15 : decode cX5_spread 15 = .ok (.if_icmp .ge 118, 3) := dk_162 0 118 (dk_at dksX5_spread_0 15 rfl rfl)
theorem dX5_spread_18 : decode cX5_spread 18 = .ok (.aload_n 0, 1) := dk_42 (dk_at dksX5_spread_0 18 rfl rfl)
theorem dX5_spread_19 : decode cX5_spread 19 = .ok (.iload_n 2, 1) := dk_28 (dk_at dksX5_spread_0 19 rfl rfl)
theorem dX5_spread_20 : decode cX5_spread 20 = .ok (.invokevirtual 140, 3) := dk_182 0 140 (dk_at dksX5_spread_0 20 rfl rfl)
theorem dX5_spread_23 : decode cX5_spread 23 = .ok (.ifCond .eq 104, 3) := dk_153 0 104 (dk_at dksX5_spread_1 0 rfl rfl)
theorem dX5_spread_26 : decode cX5_spread 26 = .ok (.aload_n 0, 1) := dk_42 (dk_at dksX5_spread_1 3 rfl rfl)
theorem dX5_spread_27 : decode cX5_spread 27 = .ok (.getfield 89, 3) := dk_180 0 89 (dk_at dksX5_spread_1 4 rfl rfl)
theorem dX5_spread_30 : decode cX5_spread 30 = .ok (.iload_n 2, 1) := dk_28 (dk_at dksX5_spread_1 7 rfl rfl)
theorem dX5_spread_31 : decode cX5_spread 31 = .ok (.baload, 1) := dk_51 (dk_at dksX5_spread_1 8 rfl rfl)
theorem dX5_spread_32 : decode cX5_spread 32 = .ok (.ifCond .eq 6, 3) := dk_153 0 6 (dk_at dksX5_spread_1 9 rfl rfl)
theorem dX5_spread_35 : decode cX5_spread 35 = .ok (.goto 92, 3) := dk_167 0 92 (dk_at dksX5_spread_1 12 rfl rfl)
theorem dX5_spread_38 : decode cX5_spread 38 = .ok (.iconst 0, 1) := dk_3 (dk_at dksX5_spread_1 15 rfl rfl)
theorem dX5_spread_39 : decode cX5_spread 39 = .ok (.istore_n 3, 1) := dk_62 (dk_at dksX5_spread_1 16 rfl rfl)
theorem dX5_spread_40 : decode cX5_spread 40 = .ok (.iload_n 3, 1) := dk_29 (dk_at dksX5_spread_1 17 rfl rfl)
theorem dX5_spread_41 : decode cX5_spread 41 = .ok (.bipush 8, 2) := dk_16 8 (dk_at dksX5_spread_1 18 rfl rfl)
theorem dX5_spread_43 : decode cX5_spread 43 = .ok (.if_icmp .ge 65, 3) := dk_162 0 65 (dk_at dksX5_spread_1 20 rfl rfl)
theorem dX5_spread_46 : decode cX5_spread 46 = .ok (.aload_n 0, 1) := dk_42 (dk_at dksX5_spread_1 23 rfl rfl)
theorem dX5_spread_47 : decode cX5_spread 47 = .ok (.getfield 89, 3) := dk_180 0 89 (dk_at dksX5_spread_2 0 rfl rfl)
theorem dX5_spread_50 : decode cX5_spread 50 = .ok (.iload_n 2, 1) := dk_28 (dk_at dksX5_spread_2 3 rfl rfl)
theorem dX5_spread_51 : decode cX5_spread 51 = .ok (.baload, 1) := dk_51 (dk_at dksX5_spread_2 4 rfl rfl)
theorem dX5_spread_52 : decode cX5_spread 52 = .ok (.ifCond .ne 56, 3) := dk_154 0 56 (dk_at dksX5_spread_2 5 rfl rfl)
theorem dX5_spread_55 : decode cX5_spread 55 = .ok (.aload_n 0, 1) := dk_42 (dk_at dksX5_spread_2 8 rfl rfl)
theorem dX5_spread_56 : decode cX5_spread 56 = .ok (.getfield 89, 3) := dk_180 0 89 (dk_at dksX5_spread_2 9 rfl rfl)
theorem dX5_spread_59 : decode cX5_spread 59 = .ok (.iload_n 2, 1) := dk_28 (dk_at dksX5_spread_2 12 rfl rfl)
theorem dX5_spread_60 : decode cX5_spread 60 = .ok (.aload_n 0, 1) := dk_42 (dk_at dksX5_spread_2 13 rfl rfl)
theorem dX5_spread_61 : decode cX5_spread 61 = .ok (.iload_n 2, 1) := dk_28 (dk_at dksX5_spread_2 14 rfl rfl)
theorem dX5_spread_62 : decode cX5_spread 62 = .ok (.iload_n 3, 1) := dk_29 (dk_at dksX5_spread_2 15 rfl rfl)
theorem dX5_spread_63 : decode cX5_spread 63 = .ok (.invokevirtual 380, 3) := dk_182 1 124 (dk_at dksX5_spread_2 16 rfl rfl)
theorem dX5_spread_66 : decode cX5_spread 66 = .ok (.ifCond .lt 34, 3) := dk_155 0 34 (dk_at dksX5_spread_2 19 rfl rfl)
theorem dX5_spread_69 : decode cX5_spread 69 = .ok (.aload_n 0, 1) := dk_42 (dk_at dksX5_spread_2 22 rfl rfl)
theorem dX5_spread_70 : decode cX5_spread 70 = .ok (.getfield 89, 3) := dk_180 0 89 (dk_at dksX5_spread_3 0 rfl rfl)
theorem dX5_spread_73 : decode cX5_spread 73 = .ok (.aload_n 0, 1) := dk_42 (dk_at dksX5_spread_3 3 rfl rfl)
theorem dX5_spread_74 : decode cX5_spread 74 = .ok (.iload_n 2, 1) := dk_28 (dk_at dksX5_spread_3 4 rfl rfl)
theorem dX5_spread_75 : decode cX5_spread 75 = .ok (.iload_n 3, 1) := dk_29 (dk_at dksX5_spread_3 5 rfl rfl)
theorem dX5_spread_76 : decode cX5_spread 76 = .ok (.invokevirtual 380, 3) := dk_182 1 124 (dk_at dksX5_spread_3 6 rfl rfl)
theorem dX5_spread_79 : decode cX5_spread 79 = .ok (.baload, 1) := dk_51 (dk_at dksX5_spread_3 9 rfl rfl)
theorem dX5_spread_80 : decode cX5_spread 80 = .ok (.ifCond .eq 20, 3) := dk_153 0 20 (dk_at dksX5_spread_3 10 rfl rfl)
theorem dX5_spread_83 : decode cX5_spread 83 = .ok (.aload_n 0, 1) := dk_42 (dk_at dksX5_spread_3 13 rfl rfl)
theorem dX5_spread_84 : decode cX5_spread 84 = .ok (.aload_n 0, 1) := dk_42 (dk_at dksX5_spread_3 14 rfl rfl)
theorem dX5_spread_85 : decode cX5_spread 85 = .ok (.iload_n 2, 1) := dk_28 (dk_at dksX5_spread_3 15 rfl rfl)
theorem dX5_spread_86 : decode cX5_spread 86 = .ok (.iload_n 3, 1) := dk_29 (dk_at dksX5_spread_3 16 rfl rfl)
theorem dX5_spread_87 : decode cX5_spread 87 = .ok (.invokevirtual 380, 3) := dk_182 1 124 (dk_at dksX5_spread_3 17 rfl rfl)
theorem dX5_spread_90 : decode cX5_spread 90 = .ok (.invokevirtual 140, 3) := dk_182 0 140 (dk_at dksX5_spread_3 20 rfl rfl)
theorem dX5_spread_93 : decode cX5_spread 93 = .ok (.ifCond .eq 7, 3) := dk_153 0 7 (dk_at dksX5_spread_4 0 rfl rfl)
theorem dX5_spread_96 : decode cX5_spread 96 = .ok (.iconst 1, 1) := dk_4 (dk_at dksX5_spread_4 3 rfl rfl)
theorem dX5_spread_97 : decode cX5_spread 97 = .ok (.goto 4, 3) := dk_167 0 4 (dk_at dksX5_spread_4 4 rfl rfl)
theorem dX5_spread_100 : decode cX5_spread 100 = .ok (.iconst 0, 1) := dk_3 (dk_at dksX5_spread_4 7 rfl rfl)
theorem dX5_spread_101 : decode cX5_spread 101 = .ok (.bastore, 1) := dk_84 (dk_at dksX5_spread_4 8 rfl rfl)
theorem dX5_spread_102 : decode cX5_spread 102 = .ok (.iinc 3 1, 3) := dk_132 3 1 (dk_at dksX5_spread_4 9 rfl rfl)
theorem dX5_spread_105 : decode cX5_spread 105 = .ok (.goto (-65), 3) := dk_167 255 191 (dk_at dksX5_spread_4 12 rfl rfl)
theorem dX5_spread_108 : decode cX5_spread 108 = .ok (.iload_n 1, 1) := dk_27 (dk_at dksX5_spread_4 15 rfl rfl)
theorem dX5_spread_109 : decode cX5_spread 109 = .ok (.ifCond .ne 12, 3) := dk_154 0 12 (dk_at dksX5_spread_4 16 rfl rfl)
theorem dX5_spread_112 : decode cX5_spread 112 = .ok (.aload_n 0, 1) := dk_42 (dk_at dksX5_spread_4 19 rfl rfl)
theorem dX5_spread_113 : decode cX5_spread 113 = .ok (.getfield 89, 3) := dk_180 0 89 (dk_at dksX5_spread_4 20 rfl rfl)
theorem dX5_spread_116 : decode cX5_spread 116 = .ok (.iload_n 2, 1) := dk_28 (dk_at dksX5_spread_4 23 rfl rfl)
theorem dX5_spread_117 : decode cX5_spread 117 = .ok (.baload, 1) := dk_51 (dk_at dksX5_spread_5 0 rfl rfl)
theorem dX5_spread_118 : decode cX5_spread 118 = .ok (.ifCond .eq 7, 3) := dk_153 0 7 (dk_at dksX5_spread_5 1 rfl rfl)
theorem dX5_spread_121 : decode cX5_spread 121 = .ok (.iconst 1, 1) := dk_4 (dk_at dksX5_spread_5 4 rfl rfl)
theorem dX5_spread_122 : decode cX5_spread 122 = .ok (.goto 4, 3) := dk_167 0 4 (dk_at dksX5_spread_5 5 rfl rfl)
theorem dX5_spread_125 : decode cX5_spread 125 = .ok (.iconst 0, 1) := dk_3 (dk_at dksX5_spread_5 8 rfl rfl)
theorem dX5_spread_126 : decode cX5_spread 126 = .ok (.istore_n 1, 1) := dk_60 (dk_at dksX5_spread_5 9 rfl rfl)
theorem dX5_spread_127 : decode cX5_spread 127 = .ok (.iinc 2 1, 3) := dk_132 2 1 (dk_at dksX5_spread_5 10 rfl rfl)
theorem dX5_spread_130 : decode cX5_spread 130 = .ok (.goto (-120), 3) := dk_167 255 136 (dk_at dksX5_spread_5 13 rfl rfl)
theorem dX5_spread_133 : decode cX5_spread 133 = .ok (.goto (-131), 3) := dk_167 255 125 (dk_at dksX5_spread_5 16 rfl rfl)
theorem dX5_spread_136 : decode cX5_spread 136 = .ok (.return_, 1) := dk_177 (dk_at dksX5_spread_5 19 rfl rfl)
abbrev cX5_rests : ByteArray := prog_12_method_90_code
def yX5_rests : MethodName := ⟨RX5, "rests", "(II)I"⟩
def dkwX5_rests_3 : List UInt8 := [153, 0, 6, 21, 4, 62, 132, 4, 1, 167, 255, 216, 42, 182, 1, 203, 29, 172]
abbrev dktX5_rests_3 : List UInt8 := dkwX5_rests_3 ++ []
def dkwX5_rests_2 : List UInt8 := [156, 0, 36, 42, 42, 180, 0, 92, 182, 1, 192, 42, 28, 182, 1, 196, 42, 42, 180, 0, 92, 182, 1, 199]
abbrev dktX5_rests_2 : List UInt8 := dkwX5_rests_2 ++ dktX5_rests_3
def dkwX5_rests_1 : List UInt8 := [154, 0, 6, 16, 254, 172, 42, 182, 1, 189, 2, 62, 4, 54, 4, 21, 4, 27, 163, 0, 40, 29]
abbrev dktX5_rests_1 : List UInt8 := dkwX5_rests_1 ++ dktX5_rests_2
def dkwX5_rests_0 : List UInt8 := [42, 3, 181, 0, 1, 27, 4, 16, 40, 184, 0, 132, 153, 0, 14, 28, 4, 17, 0, 200, 184, 0, 132]
abbrev dktX5_rests_0 : List UInt8 := dkwX5_rests_0 ++ dktX5_rests_1
theorem dksX5_rests_0 : cX5_rests.data.toList.drop 0 = dktX5_rests_0 := by decide +kernel
theorem dksX5_rests_1 : cX5_rests.data.toList.drop 23 = dktX5_rests_1 := dk_seg dksX5_rests_0 23 rfl rfl
theorem dksX5_rests_2 : cX5_rests.data.toList.drop 45 = dktX5_rests_2 := dk_seg dksX5_rests_1 22 rfl rfl
theorem dksX5_rests_3 : cX5_rests.data.toList.drop 69 = dktX5_rests_3 := dk_seg dksX5_rests_2 24 rfl rfl
theorem dX5_rests_0 : decode cX5_rests 0 = .ok (.aload_n 0, 1) := dk_42 (dk_at dksX5_rests_0 0 rfl rfl)
theorem dX5_rests_1 : decode cX5_rests 1 = .ok (.iconst 0, 1) := dk_3 (dk_at dksX5_rests_0 1 rfl rfl)
theorem dX5_rests_2 : decode cX5_rests 2 = .ok (.putfield 1, 3) := dk_181 0 1 (dk_at dksX5_rests_0 2 rfl rfl)
theorem dX5_rests_5 : decode cX5_rests 5 = .ok (.iload_n 1, 1) := dk_27 (dk_at dksX5_rests_0 5 rfl rfl)
theorem dX5_rests_6 : decode cX5_rests 6 = .ok (.iconst 1, 1) := dk_4 (dk_at dksX5_rests_0 6 rfl rfl)
theorem dX5_rests_7 : decode cX5_rests 7 = .ok (.bipush 40, 2) := dk_16 40 (dk_at dksX5_rests_0 7 rfl rfl)
theorem dX5_rests_9 : decode cX5_rests 9 = .ok (.invokestatic 132, 3) := dk_184 0 132 (dk_at dksX5_rests_0 9 rfl rfl)
theorem dX5_rests_12 : decode cX5_rests 12 = .ok (.ifCond .eq 14, 3) := dk_153 0 14 (dk_at dksX5_rests_0 12 rfl rfl)
theorem dX5_rests_15 : decode cX5_rests 15 = .ok (.iload_n 2, 1) := dk_28 (dk_at dksX5_rests_0 15 rfl rfl)
theorem dX5_rests_16 : decode cX5_rests 16 = .ok (.iconst 1, 1) := dk_4 (dk_at dksX5_rests_0 16 rfl rfl)
theorem dX5_rests_17 : decode cX5_rests 17 = .ok (.sipush 200, 3) := dk_17 0 200 (dk_at dksX5_rests_0 17 rfl rfl)
theorem dX5_rests_20 : decode cX5_rests 20 = .ok (.invokestatic 132, 3) := dk_184 0 132 (dk_at dksX5_rests_0 20 rfl rfl)
theorem dX5_rests_23 : decode cX5_rests 23 = .ok (.ifCond .ne 6, 3) := dk_154 0 6 (dk_at dksX5_rests_1 0 rfl rfl)
theorem dX5_rests_26 : decode cX5_rests 26 = .ok (.bipush (-2), 2) := dk_16 254 (dk_at dksX5_rests_1 3 rfl rfl)
theorem dX5_rests_28 : decode cX5_rests 28 = .ok (.ireturn, 1) := dk_172 (dk_at dksX5_rests_1 5 rfl rfl)
theorem dX5_rests_29 : decode cX5_rests 29 = .ok (.aload_n 0, 1) := dk_42 (dk_at dksX5_rests_1 6 rfl rfl)
theorem dX5_rests_30 : decode cX5_rests 30 = .ok (.invokevirtual 445, 3) := dk_182 1 189 (dk_at dksX5_rests_1 7 rfl rfl)
theorem dX5_rests_33 : decode cX5_rests 33 = .ok (.iconst (-1), 1) := dk_2 (dk_at dksX5_rests_1 10 rfl rfl)
theorem dX5_rests_34 : decode cX5_rests 34 = .ok (.istore_n 3, 1) := dk_62 (dk_at dksX5_rests_1 11 rfl rfl)
theorem dX5_rests_35 : decode cX5_rests 35 = .ok (.iconst 1, 1) := dk_4 (dk_at dksX5_rests_1 12 rfl rfl)
theorem dX5_rests_36 : decode cX5_rests 36 = .ok (.istore 4, 2) := dk_54 4 (dk_at dksX5_rests_1 13 rfl rfl)
theorem dX5_rests_38 : decode cX5_rests 38 = .ok (.iload 4, 2) := dk_21 4 (dk_at dksX5_rests_1 15 rfl rfl)
theorem dX5_rests_40 : decode cX5_rests 40 = .ok (.iload_n 1, 1) := dk_27 (dk_at dksX5_rests_1 17 rfl rfl)
theorem dX5_rests_41 : decode cX5_rests 41 = .ok (.if_icmp .gt 40, 3) := dk_163 0 40 (dk_at dksX5_rests_1 18 rfl rfl)
theorem dX5_rests_44 : decode cX5_rests 44 = .ok (.iload_n 3, 1) := dk_29 (dk_at dksX5_rests_1 21 rfl rfl)
theorem dX5_rests_45 : decode cX5_rests 45 = .ok (.ifCond .ge 36, 3) := dk_156 0 36 (dk_at dksX5_rests_2 0 rfl rfl)
theorem dX5_rests_48 : decode cX5_rests 48 = .ok (.aload_n 0, 1) := dk_42 (dk_at dksX5_rests_2 3 rfl rfl)
theorem dX5_rests_49 : decode cX5_rests 49 = .ok (.aload_n 0, 1) := dk_42 (dk_at dksX5_rests_2 4 rfl rfl)
theorem dX5_rests_50 : decode cX5_rests 50 = .ok (.getfield 92, 3) := dk_180 0 92 (dk_at dksX5_rests_2 5 rfl rfl)
theorem dX5_rests_53 : decode cX5_rests 53 = .ok (.invokevirtual 448, 3) := dk_182 1 192 (dk_at dksX5_rests_2 8 rfl rfl)
theorem dX5_rests_56 : decode cX5_rests 56 = .ok (.aload_n 0, 1) := dk_42 (dk_at dksX5_rests_2 11 rfl rfl)
theorem dX5_rests_57 : decode cX5_rests 57 = .ok (.iload_n 2, 1) := dk_28 (dk_at dksX5_rests_2 12 rfl rfl)
theorem dX5_rests_58 : decode cX5_rests 58 = .ok (.invokevirtual 452, 3) := dk_182 1 196 (dk_at dksX5_rests_2 13 rfl rfl)
theorem dX5_rests_61 : decode cX5_rests 61 = .ok (.aload_n 0, 1) := dk_42 (dk_at dksX5_rests_2 16 rfl rfl)
theorem dX5_rests_62 : decode cX5_rests 62 = .ok (.aload_n 0, 1) := dk_42 (dk_at dksX5_rests_2 17 rfl rfl)
theorem dX5_rests_63 : decode cX5_rests 63 = .ok (.getfield 92, 3) := dk_180 0 92 (dk_at dksX5_rests_2 18 rfl rfl)
theorem dX5_rests_66 : decode cX5_rests 66 = .ok (.invokevirtual 455, 3) := dk_182 1 199 (dk_at dksX5_rests_2 21 rfl rfl)
theorem dX5_rests_69 : decode cX5_rests 69 = .ok (.ifCond .eq 6, 3) := dk_153 0 6 (dk_at dksX5_rests_3 0 rfl rfl)
theorem dX5_rests_72 : decode cX5_rests 72 = .ok (.iload 4, 2) := dk_21 4 (dk_at dksX5_rests_3 3 rfl rfl)
theorem dX5_rests_74 : decode cX5_rests 74 = .ok (.istore_n 3, 1) := dk_62 (dk_at dksX5_rests_3 5 rfl rfl)
theorem dX5_rests_75 : decode cX5_rests 75 = .ok (.iinc 4 1, 3) := dk_132 4 1 (dk_at dksX5_rests_3 6 rfl rfl)
theorem dX5_rests_78 : decode cX5_rests 78 = .ok (.goto (-40), 3) := dk_167 255 216 (dk_at dksX5_rests_3 9 rfl rfl)
theorem dX5_rests_81 : decode cX5_rests 81 = .ok (.aload_n 0, 1) := dk_42 (dk_at dksX5_rests_3 12 rfl rfl)
theorem dX5_rests_82 : decode cX5_rests 82 = .ok (.invokevirtual 459, 3) := dk_182 1 203 (dk_at dksX5_rests_3 13 rfl rfl)
theorem dX5_rests_85 : decode cX5_rests 85 = .ok (.iload_n 3, 1) := dk_29 (dk_at dksX5_rests_3 16 rfl rfl)
theorem dX5_rests_86 : decode cX5_rests 86 = .ok (.ireturn, 1) := dk_172 (dk_at dksX5_rests_3 17 rfl rfl)
abbrev cX5_layAside : ByteArray := prog_12_method_20_code
def yX5_layAside : MethodName := ⟨RX5, "layAside", "()V"⟩
def dkwX5_layAside_1 : List UInt8 := [167, 255, 234, 177]
abbrev dktX5_layAside_1 : List UInt8 := dkwX5_layAside_1 ++ []
def dkwX5_layAside_0 : List UInt8 := [3, 60, 27, 17, 9, 10, 162, 0, 21, 42, 180, 0, 37, 27, 42, 180, 0, 30, 27, 46, 79, 132, 1, 1]
abbrev dktX5_layAside_0 : List UInt8 := dkwX5_layAside_0 ++ dktX5_layAside_1
theorem dksX5_layAside_0 : cX5_layAside.data.toList.drop 0 = dktX5_layAside_0 := by decide +kernel
theorem dksX5_layAside_1 : cX5_layAside.data.toList.drop 24 = dktX5_layAside_1 := dk_seg dksX5_layAside_0 24 rfl rfl
theorem dX5_layAside_0 : decode cX5_layAside 0 = .ok (.iconst 0, 1) := dk_3 (dk_at dksX5_layAside_0 0 rfl rfl)
theorem dX5_layAside_1 : decode cX5_layAside 1 = .ok (.istore_n 1, 1) := dk_60 (dk_at dksX5_layAside_0 1 rfl rfl)
theorem dX5_layAside_2 : decode cX5_layAside 2 = .ok (.iload_n 1, 1) := dk_27 (dk_at dksX5_layAside_0 2 rfl rfl)
theorem dX5_layAside_3 : decode cX5_layAside 3 = .ok (.sipush 2314, 3) := dk_17 9 10 (dk_at dksX5_layAside_0 3 rfl rfl)
theorem dX5_layAside_6 : decode cX5_layAside 6 = .ok (.if_icmp .ge 21, 3) := dk_162 0 21 (dk_at dksX5_layAside_0 6 rfl rfl)
theorem dX5_layAside_9 : decode cX5_layAside 9 = .ok (.aload_n 0, 1) := dk_42 (dk_at dksX5_layAside_0 9 rfl rfl)
theorem dX5_layAside_10 : decode cX5_layAside 10 = .ok (.getfield 37, 3) := dk_180 0 37 (dk_at dksX5_layAside_0 10 rfl rfl)
theorem dX5_layAside_13 : decode cX5_layAside 13 = .ok (.iload_n 1, 1) := dk_27 (dk_at dksX5_layAside_0 13 rfl rfl)
theorem dX5_layAside_14 : decode cX5_layAside 14 = .ok (.aload_n 0, 1) := dk_42 (dk_at dksX5_layAside_0 14 rfl rfl)
theorem dX5_layAside_15 : decode cX5_layAside 15 = .ok (.getfield 30, 3) := dk_180 0 30 (dk_at dksX5_layAside_0 15 rfl rfl)
theorem dX5_layAside_18 : decode cX5_layAside 18 = .ok (.iload_n 1, 1) := dk_27 (dk_at dksX5_layAside_0 18 rfl rfl)
theorem dX5_layAside_19 : decode cX5_layAside 19 = .ok (.iaload, 1) := dk_46 (dk_at dksX5_layAside_0 19 rfl rfl)
theorem dX5_layAside_20 : decode cX5_layAside 20 = .ok (.iastore, 1) := dk_79 (dk_at dksX5_layAside_0 20 rfl rfl)
theorem dX5_layAside_21 : decode cX5_layAside 21 = .ok (.iinc 1 1, 3) := dk_132 1 1 (dk_at dksX5_layAside_0 21 rfl rfl)
theorem dX5_layAside_24 : decode cX5_layAside 24 = .ok (.goto (-22), 3) := dk_167 255 234 (dk_at dksX5_layAside_1 0 rfl rfl)
theorem dX5_layAside_27 : decode cX5_layAside 27 = .ok (.return_, 1) := dk_177 (dk_at dksX5_layAside_1 3 rfl rfl)
abbrev cX5_note : ByteArray := prog_12_method_87_code
def yX5_note : MethodName := ⟨RX5, "note", "([Z)V"⟩
def dkwX5_note_1 : List UInt8 := [177]
abbrev dktX5_note_1 : List UInt8 := dkwX5_note_1 ++ []
def dkwX5_note_0 : List UInt8 := [3, 61, 28, 42, 182, 0, 128, 162, 0, 17, 43, 28, 42, 28, 182, 0, 140, 84, 132, 2, 1, 167, 255, 237]
abbrev dktX5_note_0 : List UInt8 := dkwX5_note_0 ++ dktX5_note_1
theorem dksX5_note_0 : cX5_note.data.toList.drop 0 = dktX5_note_0 := by decide +kernel
theorem dksX5_note_1 : cX5_note.data.toList.drop 24 = dktX5_note_1 := dk_seg dksX5_note_0 24 rfl rfl
theorem dX5_note_0 : decode cX5_note 0 = .ok (.iconst 0, 1) := dk_3 (dk_at dksX5_note_0 0 rfl rfl)
theorem dX5_note_1 : decode cX5_note 1 = .ok (.istore_n 2, 1) := dk_61 (dk_at dksX5_note_0 1 rfl rfl)
theorem dX5_note_2 : decode cX5_note 2 = .ok (.iload_n 2, 1) := dk_28 (dk_at dksX5_note_0 2 rfl rfl)
theorem dX5_note_3 : decode cX5_note 3 = .ok (.aload_n 0, 1) := dk_42 (dk_at dksX5_note_0 3 rfl rfl)
theorem dX5_note_4 : decode cX5_note 4 = .ok (.invokevirtual 128, 3) := dk_182 0 128 (dk_at dksX5_note_0 4 rfl rfl)
theorem dX5_note_7 : decode cX5_note 7 = .ok (.if_icmp .ge 17, 3) := dk_162 0 17 (dk_at dksX5_note_0 7 rfl rfl)
theorem dX5_note_10 : decode cX5_note 10 = .ok (.aload_n 1, 1) := dk_43 (dk_at dksX5_note_0 10 rfl rfl)
theorem dX5_note_11 : decode cX5_note 11 = .ok (.iload_n 2, 1) := dk_28 (dk_at dksX5_note_0 11 rfl rfl)
theorem dX5_note_12 : decode cX5_note 12 = .ok (.aload_n 0, 1) := dk_42 (dk_at dksX5_note_0 12 rfl rfl)
theorem dX5_note_13 : decode cX5_note 13 = .ok (.iload_n 2, 1) := dk_28 (dk_at dksX5_note_0 13 rfl rfl)
theorem dX5_note_14 : decode cX5_note 14 = .ok (.invokevirtual 140, 3) := dk_182 0 140 (dk_at dksX5_note_0 14 rfl rfl)
theorem dX5_note_17 : decode cX5_note 17 = .ok (.bastore, 1) := dk_84 (dk_at dksX5_note_0 17 rfl rfl)
theorem dX5_note_18 : decode cX5_note 18 = .ok (.iinc 2 1, 3) := dk_132 2 1 (dk_at dksX5_note_0 18 rfl rfl)
theorem dX5_note_21 : decode cX5_note 21 = .ok (.goto (-19), 3) := dk_167 255 237 (dk_at dksX5_note_0 21 rfl rfl)
theorem dX5_note_24 : decode cX5_note 24 = .ok (.return_, 1) := dk_177 (dk_at dksX5_note_1 0 rfl rfl)
abbrev cX5_go : ByteArray := prog_12_method_89_code
def yX5_go : MethodName := ⟨RX5, "go", "(I)V"⟩
def dkwX5_go_0 : List UInt8 := [3, 61, 28, 27, 162, 0, 13, 42, 182, 1, 167, 132, 2, 1, 167, 255, 244, 42, 182, 1, 170, 177]
abbrev dktX5_go_0 : List UInt8 := dkwX5_go_0 ++ []
theorem dksX5_go_0 : cX5_go.data.toList.drop 0 = dktX5_go_0 := by decide +kernel
theorem dX5_go_0 : decode cX5_go 0 = .ok (.iconst 0, 1) := dk_3 (dk_at dksX5_go_0 0 rfl rfl)
theorem dX5_go_1 : decode cX5_go 1 = .ok (.istore_n 2, 1) := dk_61 (dk_at dksX5_go_0 1 rfl rfl)
theorem dX5_go_2 : decode cX5_go 2 = .ok (.iload_n 2, 1) := dk_28 (dk_at dksX5_go_0 2 rfl rfl)
theorem dX5_go_3 : decode cX5_go 3 = .ok (.iload_n 1, 1) := dk_27 (dk_at dksX5_go_0 3 rfl rfl)
theorem dX5_go_4 : decode cX5_go 4 = .ok (.if_icmp .ge 13, 3) := dk_162 0 13 (dk_at dksX5_go_0 4 rfl rfl)
theorem dX5_go_7 : decode cX5_go 7 = .ok (.aload_n 0, 1) := dk_42 (dk_at dksX5_go_0 7 rfl rfl)
theorem dX5_go_8 : decode cX5_go 8 = .ok (.invokevirtual 423, 3) := dk_182 1 167 (dk_at dksX5_go_0 8 rfl rfl)
theorem dX5_go_11 : decode cX5_go 11 = .ok (.iinc 2 1, 3) := dk_132 2 1 (dk_at dksX5_go_0 11 rfl rfl)
theorem dX5_go_14 : decode cX5_go 14 = .ok (.goto (-12), 3) := dk_167 255 244 (dk_at dksX5_go_0 14 rfl rfl)
theorem dX5_go_17 : decode cX5_go 17 = .ok (.aload_n 0, 1) := dk_42 (dk_at dksX5_go_0 17 rfl rfl)
theorem dX5_go_18 : decode cX5_go 18 = .ok (.invokevirtual 426, 3) := dk_182 1 170 (dk_at dksX5_go_0 18 rfl rfl)
theorem dX5_go_21 : decode cX5_go 21 = .ok (.return_, 1) := dk_177 (dk_at dksX5_go_0 21 rfl rfl)
abbrev cX5_isNoted : ByteArray := prog_12_method_88_code
def yX5_isNoted : MethodName := ⟨RX5, "isNoted", "([Z)Z"⟩
def dkwX5_isNoted_1 : List UInt8 := [132, 2, 1, 167, 255, 232, 4, 172]
abbrev dktX5_isNoted_1 : List UInt8 := dkwX5_isNoted_1 ++ []
def dkwX5_isNoted_0 : List UInt8 := [3, 61, 28, 42, 182, 0, 128, 162, 0, 22, 43, 28, 51, 42, 28, 182, 0, 140, 159, 0, 5, 3, 172]
abbrev dktX5_isNoted_0 : List UInt8 := dkwX5_isNoted_0 ++ dktX5_isNoted_1
theorem dksX5_isNoted_0 : cX5_isNoted.data.toList.drop 0 = dktX5_isNoted_0 := by decide +kernel
theorem dksX5_isNoted_1 : cX5_isNoted.data.toList.drop 23 = dktX5_isNoted_1 := dk_seg dksX5_isNoted_0 23 rfl rfl
theorem dX5_isNoted_0 : decode cX5_isNoted 0 = .ok (.iconst 0, 1) := dk_3 (dk_at dksX5_isNoted_0 0 rfl rfl)
theorem dX5_isNoted_1 : decode cX5_isNoted 1 = .ok (.istore_n 2, 1) := dk_61 (dk_at dksX5_isNoted_0 1 rfl rfl)
theorem dX5_isNoted_2 : decode cX5_isNoted 2 = .ok (.iload_n 2, 1) := dk_28 (dk_at dksX5_isNoted_0 2 rfl rfl)
theorem dX5_isNoted_3 : decode cX5_isNoted 3 = .ok (.aload_n 0, 1) := dk_42 (dk_at dksX5_isNoted_0 3 rfl rfl)
theorem dX5_isNoted_4 : decode cX5_isNoted 4 = .ok (.invokevirtual 128, 3) := dk_182 0 128 (dk_at dksX5_isNoted_0 4 rfl rfl)
theorem dX5_isNoted_7 : decode cX5_isNoted 7 = .ok (.if_icmp .ge 22, 3) := dk_162 0 22 (dk_at dksX5_isNoted_0 7 rfl rfl)
theorem dX5_isNoted_10 : decode cX5_isNoted 10 = .ok (.aload_n 1, 1) := dk_43 (dk_at dksX5_isNoted_0 10 rfl rfl)
theorem dX5_isNoted_11 : decode cX5_isNoted 11 = .ok (.iload_n 2, 1) := dk_28 (dk_at dksX5_isNoted_0 11 rfl rfl)
theorem dX5_isNoted_12 : decode cX5_isNoted 12 = .ok (.baload, 1) := dk_51 (dk_at dksX5_isNoted_0 12 rfl rfl)
theorem dX5_isNoted_13 : decode cX5_isNoted 13 = .ok (.aload_n 0, 1) := dk_42 (dk_at dksX5_isNoted_0 13 rfl rfl)
theorem dX5_isNoted_14 : decode cX5_isNoted 14 = .ok (.iload_n 2, 1) := dk_28 (dk_at dksX5_isNoted_0 14 rfl rfl)
theorem dX5_isNoted_15 : decode cX5_isNoted 15 = .ok (.invokevirtual 140, 3) := dk_182 0 140 (dk_at dksX5_isNoted_0 15 rfl rfl)
theorem dX5_isNoted_18 : decode cX5_isNoted 18 = .ok (.if_icmp .eq 5, 3) := dk_159 0 5 (dk_at dksX5_isNoted_0 18 rfl rfl)
theorem dX5_isNoted_21 : decode cX5_isNoted 21 = .ok (.iconst 0, 1) := dk_3 (dk_at dksX5_isNoted_0 21 rfl rfl)
theorem dX5_isNoted_22 : decode cX5_isNoted 22 = .ok (.ireturn, 1) := dk_172 (dk_at dksX5_isNoted_0 22 rfl rfl)
theorem dX5_isNoted_23 : decode cX5_isNoted 23 = .ok (.iinc 2 1, 3) := dk_132 2 1 (dk_at dksX5_isNoted_1 0 rfl rfl)
theorem dX5_isNoted_26 : decode cX5_isNoted 26 = .ok (.goto (-24), 3) := dk_167 255 232 (dk_at dksX5_isNoted_1 3 rfl rfl)
theorem dX5_isNoted_29 : decode cX5_isNoted 29 = .ok (.iconst 1, 1) := dk_4 (dk_at dksX5_isNoted_1 6 rfl rfl)
theorem dX5_isNoted_30 : decode cX5_isNoted 30 = .ok (.ireturn, 1) := dk_172 (dk_at dksX5_isNoted_1 7 rfl rfl)
abbrev cX5_layBack : ByteArray := prog_12_method_21_code
def yX5_layBack : MethodName := ⟨RX5, "layBack", "()V"⟩
def dkwX5_layBack_1 : List UInt8 := [167, 255, 234, 177]
abbrev dktX5_layBack_1 : List UInt8 := dkwX5_layBack_1 ++ []
def dkwX5_layBack_0 : List UInt8 := [3, 60, 27, 17, 9, 10, 162, 0, 21, 42, 180, 0, 30, 27, 42, 180, 0, 37, 27, 46, 79, 132, 1, 1]
abbrev dktX5_layBack_0 : List UInt8 := dkwX5_layBack_0 ++ dktX5_layBack_1
theorem dksX5_layBack_0 : cX5_layBack.data.toList.drop 0 = dktX5_layBack_0 := by decide +kernel
theorem dksX5_layBack_1 : cX5_layBack.data.toList.drop 24 = dktX5_layBack_1 := dk_seg dksX5_layBack_0 24 rfl rfl
theorem dX5_layBack_0 : decode cX5_layBack 0 = .ok (.iconst 0, 1) := dk_3 (dk_at dksX5_layBack_0 0 rfl rfl)
theorem dX5_layBack_1 : decode cX5_layBack 1 = .ok (.istore_n 1, 1) := dk_60 (dk_at dksX5_layBack_0 1 rfl rfl)
theorem dX5_layBack_2 : decode cX5_layBack 2 = .ok (.iload_n 1, 1) := dk_27 (dk_at dksX5_layBack_0 2 rfl rfl)
theorem dX5_layBack_3 : decode cX5_layBack 3 = .ok (.sipush 2314, 3) := dk_17 9 10 (dk_at dksX5_layBack_0 3 rfl rfl)
theorem dX5_layBack_6 : decode cX5_layBack 6 = .ok (.if_icmp .ge 21, 3) := dk_162 0 21 (dk_at dksX5_layBack_0 6 rfl rfl)
theorem dX5_layBack_9 : decode cX5_layBack 9 = .ok (.aload_n 0, 1) := dk_42 (dk_at dksX5_layBack_0 9 rfl rfl)
theorem dX5_layBack_10 : decode cX5_layBack 10 = .ok (.getfield 30, 3) := dk_180 0 30 (dk_at dksX5_layBack_0 10 rfl rfl)
theorem dX5_layBack_13 : decode cX5_layBack 13 = .ok (.iload_n 1, 1) := dk_27 (dk_at dksX5_layBack_0 13 rfl rfl)
theorem dX5_layBack_14 : decode cX5_layBack 14 = .ok (.aload_n 0, 1) := dk_42 (dk_at dksX5_layBack_0 14 rfl rfl)
theorem dX5_layBack_15 : decode cX5_layBack 15 = .ok (.getfield 37, 3) := dk_180 0 37 (dk_at dksX5_layBack_0 15 rfl rfl)
theorem dX5_layBack_18 : decode cX5_layBack 18 = .ok (.iload_n 1, 1) := dk_27 (dk_at dksX5_layBack_0 18 rfl rfl)
theorem dX5_layBack_19 : decode cX5_layBack 19 = .ok (.iaload, 1) := dk_46 (dk_at dksX5_layBack_0 19 rfl rfl)
theorem dX5_layBack_20 : decode cX5_layBack 20 = .ok (.iastore, 1) := dk_79 (dk_at dksX5_layBack_0 20 rfl rfl)
theorem dX5_layBack_21 : decode cX5_layBack 21 = .ok (.iinc 1 1, 3) := dk_132 1 1 (dk_at dksX5_layBack_0 21 rfl rfl)
theorem dX5_layBack_24 : decode cX5_layBack 24 = .ok (.goto (-22), 3) := dk_167 255 234 (dk_at dksX5_layBack_1 0 rfl rfl)
theorem dX5_layBack_27 : decode cX5_layBack 27 = .ok (.return_, 1) := dk_177 (dk_at dksX5_layBack_1 3 rfl rfl)
abbrev cX5_least : ByteArray := prog_12_method_92_code
def yX5_least : MethodName := ⟨RX5, "least", "()I"⟩
def dkwX5_least_15 : List UInt8 := [167, 0, 4, 29, 172]
abbrev dktX5_least_15 : List UInt8 := dkwX5_least_15 ++ []
def dkwX5_least_14 : List UInt8 := [104, 21, 4, 96, 46, 167, 0, 4, 29, 62, 132, 4, 1, 167, 255, 212, 29, 19, 1, 206, 161, 0, 7, 2]
abbrev dktX5_least_14 : List UInt8 := dkwX5_least_14 ++ dktX5_least_15
def dkwX5_least_13 : List UInt8 := [180, 0, 101, 17, 1, 0, 28, 104, 21, 4, 96, 46, 29, 162, 0, 19, 42, 180, 0, 101, 17, 1, 0, 28]
abbrev dktX5_least_13 : List UInt8 := dkwX5_least_13 ++ dktX5_least_14
def dkwX5_least_12 : List UInt8 := [182, 1, 210, 132, 3, 1, 167, 255, 70, 19, 1, 206, 62, 3, 54, 4, 21, 4, 27, 162, 0, 44, 42]
abbrev dktX5_least_12 : List UInt8 := dkwX5_least_12 ++ dktX5_least_13
def dkwX5_least_11 : List UInt8 := [17, 1, 0, 29, 104, 21, 4, 96, 21, 5, 79, 132, 4, 1, 167, 255, 94, 42, 17, 1, 0, 29, 104, 27]
abbrev dktX5_least_11 : List UInt8 := dkwX5_least_11 ++ dktX5_least_12
def dkwX5_least_10 : List UInt8 := [21, 7, 167, 0, 5, 21, 5, 54, 5, 21, 6, 4, 100, 29, 126, 54, 6, 167, 255, 185, 42, 180, 0, 101]
abbrev dktX5_least_10 : List UInt8 := dkwX5_least_10 ++ dktX5_least_11
def dkwX5_least_9 : List UInt8 := [130, 126, 104, 21, 4, 96, 46, 96, 42, 21, 4, 182, 1, 207, 100, 54, 7, 21, 7, 21, 5, 162, 0, 8]
abbrev dktX5_least_9 : List UInt8 := dkwX5_least_9 ++ dktX5_least_10
def dkwX5_least_8 : List UInt8 := [180, 0, 101, 17, 1, 0, 21, 6, 104, 21, 4, 96, 46, 42, 180, 0, 101, 17, 1, 0, 29, 21, 6, 2]
abbrev dktX5_least_8 : List UInt8 := dkwX5_least_8 ++ dktX5_least_9
def dkwX5_least_7 : List UInt8 := [182, 1, 207, 54, 5, 132, 6, 1, 167, 255, 210, 29, 4, 100, 29, 126, 54, 6, 21, 6, 158, 0, 72, 42]
abbrev dktX5_least_7 : List UInt8 := dkwX5_least_7 ++ dktX5_least_8
def dkwX5_least_6 : List UInt8 := [160, 0, 29, 42, 180, 0, 30, 6, 42, 21, 6, 182, 0, 147, 96, 46, 21, 4, 160, 0, 11, 42, 21, 4]
abbrev dktX5_least_6 : List UInt8 := dkwX5_least_6 ++ dktX5_least_7
def dkwX5_least_5 : List UInt8 := [19, 1, 206, 54, 5, 3, 54, 6, 21, 6, 42, 180, 0, 18, 162, 0, 43, 29, 4, 21, 6, 120]
abbrev dktX5_least_5 : List UInt8 := dkwX5_least_5 ++ dktX5_least_6
def dkwX5_least_4 : List UInt8 := [180, 0, 18, 120, 4, 100, 61, 4, 62, 29, 28, 163, 0, 187, 3, 54, 4, 21, 4, 27, 162, 0, 162]
abbrev dktX5_least_4 : List UInt8 := dkwX5_least_4 ++ dktX5_least_5
def dkwX5_least_3 : List UInt8 := [16, 254, 172, 132, 2, 1, 167, 255, 232, 132, 1, 1, 167, 255, 201, 42, 182, 0, 128, 60, 4, 42]
abbrev dktX5_least_3 : List UInt8 := dkwX5_least_3 ++ dktX5_least_4
def dkwX5_least_2 : List UInt8 := [16, 254, 172, 3, 61, 28, 27, 162, 0, 25, 42, 28, 182, 0, 147, 42, 27, 182, 0, 147, 160, 0, 6]
abbrev dktX5_least_2 : List UInt8 := dkwX5_least_2 ++ dktX5_least_3
def dkwX5_least_1 : List UInt8 := [172, 3, 60, 27, 42, 180, 0, 18, 162, 0, 53, 42, 42, 27, 182, 0, 147, 182, 1, 84, 154, 0, 6]
abbrev dktX5_least_1 : List UInt8 := dkwX5_least_1 ++ dktX5_least_2
def dkwX5_least_0 : List UInt8 := [42, 3, 181, 0, 1, 42, 182, 0, 144, 42, 180, 0, 18, 5, 16, 6, 184, 0, 132, 154, 0, 6, 16, 254]
abbrev dktX5_least_0 : List UInt8 := dkwX5_least_0 ++ dktX5_least_1
theorem dksX5_least_0 : cX5_least.data.toList.drop 0 = dktX5_least_0 := by decide +kernel
theorem dksX5_least_1 : cX5_least.data.toList.drop 24 = dktX5_least_1 := dk_seg dksX5_least_0 24 rfl rfl
theorem dksX5_least_2 : cX5_least.data.toList.drop 47 = dktX5_least_2 := dk_seg dksX5_least_1 23 rfl rfl
theorem dksX5_least_3 : cX5_least.data.toList.drop 70 = dktX5_least_3 := dk_seg dksX5_least_2 23 rfl rfl
theorem dksX5_least_4 : cX5_least.data.toList.drop 92 = dktX5_least_4 := dk_seg dksX5_least_3 22 rfl rfl
theorem dksX5_least_5 : cX5_least.data.toList.drop 115 = dktX5_least_5 := dk_seg dksX5_least_4 23 rfl rfl
theorem dksX5_least_6 : cX5_least.data.toList.drop 137 = dktX5_least_6 := dk_seg dksX5_least_5 22 rfl rfl
theorem dksX5_least_7 : cX5_least.data.toList.drop 161 = dktX5_least_7 := dk_seg dksX5_least_6 24 rfl rfl
theorem dksX5_least_8 : cX5_least.data.toList.drop 185 = dktX5_least_8 := dk_seg dksX5_least_7 24 rfl rfl
theorem dksX5_least_9 : cX5_least.data.toList.drop 209 = dktX5_least_9 := dk_seg dksX5_least_8 24 rfl rfl
theorem dksX5_least_10 : cX5_least.data.toList.drop 233 = dktX5_least_10 := dk_seg dksX5_least_9 24 rfl rfl
theorem dksX5_least_11 : cX5_least.data.toList.drop 257 = dktX5_least_11 := dk_seg dksX5_least_10 24 rfl rfl
theorem dksX5_least_12 : cX5_least.data.toList.drop 281 = dktX5_least_12 := dk_seg dksX5_least_11 24 rfl rfl
theorem dksX5_least_13 : cX5_least.data.toList.drop 304 = dktX5_least_13 := dk_seg dksX5_least_12 23 rfl rfl
theorem dksX5_least_14 : cX5_least.data.toList.drop 328 = dktX5_least_14 := dk_seg dksX5_least_13 24 rfl rfl
theorem dksX5_least_15 : cX5_least.data.toList.drop 352 = dktX5_least_15 := dk_seg dksX5_least_14 24 rfl rfl
theorem dX5_least_0 : decode cX5_least 0 = .ok (.aload_n 0, 1) := dk_42 (dk_at dksX5_least_0 0 rfl rfl)
theorem dX5_least_1 : decode cX5_least 1 = .ok (.iconst 0, 1) := dk_3 (dk_at dksX5_least_0 1 rfl rfl)
theorem dX5_least_2 : decode cX5_least 2 = .ok (.putfield 1, 3) := dk_181 0 1 (dk_at dksX5_least_0 2 rfl rfl)
theorem dX5_least_5 : decode cX5_least 5 = .ok (.aload_n 0, 1) := dk_42 (dk_at dksX5_least_0 5 rfl rfl)
theorem dX5_least_6 : decode cX5_least 6 = .ok (.invokevirtual 144, 3) := dk_182 0 144 (dk_at dksX5_least_0 6 rfl rfl)
theorem dX5_least_9 : decode cX5_least 9 = .ok (.aload_n 0, 1) := dk_42 (dk_at dksX5_least_0 9 rfl rfl)
theorem dX5_least_10 : decode cX5_least 10 = .ok (.getfield 18, 3) := dk_180 0 18 (dk_at dksX5_least_0 10 rfl rfl)
theorem dX5_least_13 : decode cX5_least 13 = .ok (.iconst 2, 1) := dk_5 (dk_at dksX5_least_0 13 rfl rfl)
theorem dX5_least_14 : decode cX5_least 14 = .ok (.bipush 6, 2) := dk_16 6 (dk_at dksX5_least_0 14 rfl rfl)
theorem dX5_least_16 : decode cX5_least 16 = .ok (.invokestatic 132, 3) := dk_184 0 132 (dk_at dksX5_least_0 16 rfl rfl)
theorem dX5_least_19 : decode cX5_least 19 = .ok (.ifCond .ne 6, 3) := dk_154 0 6 (dk_at dksX5_least_0 19 rfl rfl)
theorem dX5_least_22 : decode cX5_least 22 = .ok (.bipush (-2), 2) := dk_16 254 (dk_at dksX5_least_0 22 rfl rfl)
theorem dX5_least_24 : decode cX5_least 24 = .ok (.ireturn, 1) := dk_172 (dk_at dksX5_least_1 0 rfl rfl)
theorem dX5_least_25 : decode cX5_least 25 = .ok (.iconst 0, 1) := dk_3 (dk_at dksX5_least_1 1 rfl rfl)
theorem dX5_least_26 : decode cX5_least 26 = .ok (.istore_n 1, 1) := dk_60 (dk_at dksX5_least_1 2 rfl rfl)
theorem dX5_least_27 : decode cX5_least 27 = .ok (.iload_n 1, 1) := dk_27 (dk_at dksX5_least_1 3 rfl rfl)
theorem dX5_least_28 : decode cX5_least 28 = .ok (.aload_n 0, 1) := dk_42 (dk_at dksX5_least_1 4 rfl rfl)
theorem dX5_least_29 : decode cX5_least 29 = .ok (.getfield 18, 3) := dk_180 0 18 (dk_at dksX5_least_1 5 rfl rfl)
theorem dX5_least_32 : decode cX5_least 32 = .ok (.if_icmp .ge 53, 3) := dk_162 0 53 (dk_at dksX5_least_1 8 rfl rfl)
theorem dX5_least_35 : decode cX5_least 35 = .ok (.aload_n 0, 1) := dk_42 (dk_at dksX5_least_1 11 rfl rfl)
theorem dX5_least_36 : decode cX5_least 36 = .ok (.aload_n 0, 1) := dk_42 (dk_at dksX5_least_1 12 rfl rfl)
theorem dX5_least_37 : decode cX5_least 37 = .ok (.iload_n 1, 1) := dk_27 (dk_at dksX5_least_1 13 rfl rfl)
theorem dX5_least_38 : decode cX5_least 38 = .ok (.invokevirtual 147, 3) := dk_182 0 147 (dk_at dksX5_least_1 14 rfl rfl)
theorem dX5_least_41 : decode cX5_least 41 = .ok (.invokevirtual 340, 3) := dk_182 1 84 (dk_at dksX5_least_1 17 rfl rfl)
theorem dX5_least_44 : decode cX5_least 44 = .ok (.ifCond .ne 6, 3) := dk_154 0 6 (dk_at dksX5_least_1 20 rfl rfl)
theorem dX5_least_47 : decode cX5_least 47 = .ok (.bipush (-2), 2) := dk_16 254 (dk_at dksX5_least_2 0 rfl rfl)
theorem dX5_least_49 : decode cX5_least 49 = .ok (.ireturn, 1) := dk_172 (dk_at dksX5_least_2 2 rfl rfl)
theorem dX5_least_50 : decode cX5_least 50 = .ok (.iconst 0, 1) := dk_3 (dk_at dksX5_least_2 3 rfl rfl)
theorem dX5_least_51 : decode cX5_least 51 = .ok (.istore_n 2, 1) := dk_61 (dk_at dksX5_least_2 4 rfl rfl)
theorem dX5_least_52 : decode cX5_least 52 = .ok (.iload_n 2, 1) := dk_28 (dk_at dksX5_least_2 5 rfl rfl)
theorem dX5_least_53 : decode cX5_least 53 = .ok (.iload_n 1, 1) := dk_27 (dk_at dksX5_least_2 6 rfl rfl)
theorem dX5_least_54 : decode cX5_least 54 = .ok (.if_icmp .ge 25, 3) := dk_162 0 25 (dk_at dksX5_least_2 7 rfl rfl)
theorem dX5_least_57 : decode cX5_least 57 = .ok (.aload_n 0, 1) := dk_42 (dk_at dksX5_least_2 10 rfl rfl)
theorem dX5_least_58 : decode cX5_least 58 = .ok (.iload_n 2, 1) := dk_28 (dk_at dksX5_least_2 11 rfl rfl)
theorem dX5_least_59 : decode cX5_least 59 = .ok (.invokevirtual 147, 3) := dk_182 0 147 (dk_at dksX5_least_2 12 rfl rfl)
theorem dX5_least_62 : decode cX5_least 62 = .ok (.aload_n 0, 1) := dk_42 (dk_at dksX5_least_2 15 rfl rfl)
theorem dX5_least_63 : decode cX5_least 63 = .ok (.iload_n 1, 1) := dk_27 (dk_at dksX5_least_2 16 rfl rfl)
theorem dX5_least_64 : decode cX5_least 64 = .ok (.invokevirtual 147, 3) := dk_182 0 147 (dk_at dksX5_least_2 17 rfl rfl)
theorem dX5_least_67 : decode cX5_least 67 = .ok (.if_icmp .ne 6, 3) := dk_160 0 6 (dk_at dksX5_least_2 20 rfl rfl)
theorem dX5_least_70 : decode cX5_least 70 = .ok (.bipush (-2), 2) := dk_16 254 (dk_at dksX5_least_3 0 rfl rfl)
theorem dX5_least_72 : decode cX5_least 72 = .ok (.ireturn, 1) := dk_172 (dk_at dksX5_least_3 2 rfl rfl)
theorem dX5_least_73 : decode cX5_least 73 = .ok (.iinc 2 1, 3) := dk_132 2 1 (dk_at dksX5_least_3 3 rfl rfl)
theorem dX5_least_76 : decode cX5_least 76 = .ok (.goto (-24), 3) := dk_167 255 232 (dk_at dksX5_least_3 6 rfl rfl)
theorem dX5_least_79 : decode cX5_least 79 = .ok (.iinc 1 1, 3) := dk_132 1 1 (dk_at dksX5_least_3 9 rfl rfl)
theorem dX5_least_82 : decode cX5_least 82 = .ok (.goto (-55), 3) := dk_167 255 201 (dk_at dksX5_least_3 12 rfl rfl)
theorem dX5_least_85 : decode cX5_least 85 = .ok (.aload_n 0, 1) := dk_42 (dk_at dksX5_least_3 15 rfl rfl)
theorem dX5_least_86 : decode cX5_least 86 = .ok (.invokevirtual 128, 3) := dk_182 0 128 (dk_at dksX5_least_3 16 rfl rfl)
theorem dX5_least_89 : decode cX5_least 89 = .ok (.istore_n 1, 1) := dk_60 (dk_at dksX5_least_3 19 rfl rfl)
theorem dX5_least_90 : decode cX5_least 90 = .ok (.iconst 1, 1) := dk_4 (dk_at dksX5_least_3 20 rfl rfl)
theorem dX5_least_91 : decode cX5_least 91 = .ok (.aload_n 0, 1) := dk_42 (dk_at dksX5_least_3 21 rfl rfl)
theorem dX5_least_92 : decode cX5_least 92 = .ok (.getfield 18, 3) := dk_180 0 18 (dk_at dksX5_least_4 0 rfl rfl)
theorem dX5_least_95 : decode cX5_least 95 = .ok (.ishl, 1) := dk_120 (dk_at dksX5_least_4 3 rfl rfl)
theorem dX5_least_96 : decode cX5_least 96 = .ok (.iconst 1, 1) := dk_4 (dk_at dksX5_least_4 4 rfl rfl)
theorem dX5_least_97 : decode cX5_least 97 = .ok (.isub, 1) := dk_100 (dk_at dksX5_least_4 5 rfl rfl)
theorem dX5_least_98 : decode cX5_least 98 = .ok (.istore_n 2, 1) := dk_61 (dk_at dksX5_least_4 6 rfl rfl)
theorem dX5_least_99 : decode cX5_least 99 = .ok (.iconst 1, 1) := dk_4 (dk_at dksX5_least_4 7 rfl rfl)
theorem dX5_least_100 : decode cX5_least 100 = .ok (.istore_n 3, 1) := dk_62 (dk_at dksX5_least_4 8 rfl rfl)
theorem dX5_least_101 : decode cX5_least 101 = .ok (.iload_n 3, 1) := dk_29 (dk_at dksX5_least_4 9 rfl rfl)
theorem dX5_least_102 : decode cX5_least 102 = .ok (.iload_n 2, 1) := dk_28 (dk_at dksX5_least_4 10 rfl rfl)
theorem dX5_least_103 : decode cX5_least 103 = .ok (.if_icmp .gt 187, 3) := dk_163 0 187 (dk_at dksX5_least_4 11 rfl rfl)
theorem dX5_least_106 : decode cX5_least 106 = .ok (.iconst 0, 1) := dk_3 (dk_at dksX5_least_4 14 rfl rfl)
theorem dX5_least_107 : decode cX5_least 107 = .ok (.istore 4, 2) := dk_54 4 (dk_at dksX5_least_4 15 rfl rfl)
theorem dX5_least_109 : decode cX5_least 109 = .ok (.iload 4, 2) := dk_21 4 (dk_at dksX5_least_4 17 rfl rfl)
theorem dX5_least_111 : decode cX5_least 111 = .ok (.iload_n 1, 1) := dk_27 (dk_at dksX5_least_4 19 rfl rfl)
theorem dX5_least_112 : decode cX5_least 112 = .ok (.if_icmp .ge 162, 3) := dk_162 0 162 (dk_at dksX5_least_4 20 rfl rfl)
theorem dX5_least_115 : decode cX5_least 115 = .ok (.ldc_w 462, 3) := dk_19 1 206 (dk_at dksX5_least_5 0 rfl rfl)
theorem dX5_least_118 : decode cX5_least 118 = .ok (.istore 5, 2) := dk_54 5 (dk_at dksX5_least_5 3 rfl rfl)
theorem dX5_least_120 : decode cX5_least 120 = .ok (.iconst 0, 1) := dk_3 (dk_at dksX5_least_5 5 rfl rfl)
theorem dX5_least_121 : decode cX5_least 121 = .ok (.istore 6, 2) := dk_54 6 (dk_at dksX5_least_5 6 rfl rfl)
theorem dX5_least_123 : decode cX5_least 123 = .ok (.iload 6, 2) := dk_21 6 (dk_at dksX5_least_5 8 rfl rfl)
theorem dX5_least_125 : decode cX5_least 125 = .ok (.aload_n 0, 1) := dk_42 (dk_at dksX5_least_5 10 rfl rfl)
theorem dX5_least_126 : decode cX5_least 126 = .ok (.getfield 18, 3) := dk_180 0 18 (dk_at dksX5_least_5 11 rfl rfl)
theorem dX5_least_129 : decode cX5_least 129 = .ok (.if_icmp .ge 43, 3) := dk_162 0 43 (dk_at dksX5_least_5 14 rfl rfl)
theorem dX5_least_132 : decode cX5_least 132 = .ok (.iload_n 3, 1) := dk_29 (dk_at dksX5_least_5 17 rfl rfl)
theorem dX5_least_133 : decode cX5_least 133 = .ok (.iconst 1, 1) := dk_4 (dk_at dksX5_least_5 18 rfl rfl)
theorem dX5_least_134 : decode cX5_least 134 = .ok (.iload 6, 2) := dk_21 6 (dk_at dksX5_least_5 19 rfl rfl)
theorem dX5_least_136 : decode cX5_least 136 = .ok (.ishl, 1) := dk_120 (dk_at dksX5_least_5 21 rfl rfl)
theorem dX5_least_137 : decode cX5_least 137 = .ok (.if_icmp .ne 29, 3) := dk_160 0 29 (dk_at dksX5_least_6 0 rfl rfl)
theorem dX5_least_140 : decode cX5_least 140 = .ok (.aload_n 0, 1) := dk_42 (dk_at dksX5_least_6 3 rfl rfl)
theorem dX5_least_141 : decode cX5_least 141 = .ok (.getfield 30, 3) := dk_180 0 30 (dk_at dksX5_least_6 4 rfl rfl)
theorem dX5_least_144 : decode cX5_least 144 = .ok (.iconst 3, 1) := dk_6 (dk_at dksX5_least_6 7 rfl rfl)
theorem dX5_least_145 : decode cX5_least 145 = .ok (.aload_n 0, 1) := dk_42 (dk_at dksX5_least_6 8 rfl rfl)
theorem dX5_least_146 : decode cX5_least 146 = .ok (.iload 6, 2) := dk_21 6 (dk_at dksX5_least_6 9 rfl rfl)
theorem dX5_least_148 : decode cX5_least 148 = .ok (.invokevirtual 147, 3) := dk_182 0 147 (dk_at dksX5_least_6 11 rfl rfl)
theorem dX5_least_151 : decode cX5_least 151 = .ok (.iadd, 1) := dk_96 (dk_at dksX5_least_6 14 rfl rfl)
theorem dX5_least_152 : decode cX5_least 152 = .ok (.iaload, 1) := dk_46 (dk_at dksX5_least_6 15 rfl rfl)
theorem dX5_least_153 : decode cX5_least 153 = .ok (.iload 4, 2) := dk_21 4 (dk_at dksX5_least_6 16 rfl rfl)
theorem dX5_least_155 : decode cX5_least 155 = .ok (.if_icmp .ne 11, 3) := dk_160 0 11 (dk_at dksX5_least_6 18 rfl rfl)
theorem dX5_least_158 : decode cX5_least 158 = .ok (.aload_n 0, 1) := dk_42 (dk_at dksX5_least_6 21 rfl rfl)
theorem dX5_least_159 : decode cX5_least 159 = .ok (.iload 4, 2) := dk_21 4 (dk_at dksX5_least_6 22 rfl rfl)
theorem dX5_least_161 : decode cX5_least 161 = .ok (.invokevirtual 463, 3) := dk_182 1 207 (dk_at dksX5_least_7 0 rfl rfl)
theorem dX5_least_164 : decode cX5_least 164 = .ok (.istore 5, 2) := dk_54 5 (dk_at dksX5_least_7 3 rfl rfl)
theorem dX5_least_166 : decode cX5_least 166 = .ok (.iinc 6 1, 3) := dk_132 6 1 (dk_at dksX5_least_7 5 rfl rfl)
theorem dX5_least_169 : decode cX5_least 169 = .ok (.goto (-46), 3) := dk_167 255 210 (dk_at dksX5_least_7 8 rfl rfl)
theorem dX5_least_172 : decode cX5_least 172 = .ok (.iload_n 3, 1) := dk_29 (dk_at dksX5_least_7 11 rfl rfl)
theorem dX5_least_173 : decode cX5_least 173 = .ok (.iconst 1, 1) := dk_4 (dk_at dksX5_least_7 12 rfl rfl)
theorem dX5_least_174 : decode cX5_least 174 = .ok (.isub, 1) := dk_100 (dk_at dksX5_least_7 13 rfl rfl)
theorem dX5_least_175 : decode cX5_least 175 = .ok (.iload_n 3, 1) := dk_29 (dk_at dksX5_least_7 14 rfl rfl)
theorem dX5_least_176 : decode cX5_least 176 = .ok (.iand, 1) := dk_126 (dk_at dksX5_least_7 15 rfl rfl)
theorem dX5_least_177 : decode cX5_least 177 = .ok (.istore 6, 2) := dk_54 6 (dk_at dksX5_least_7 16 rfl rfl)
theorem dX5_least_179 : decode cX5_least 179 = .ok (.iload 6, 2) := dk_21 6 (dk_at dksX5_least_7 18 rfl rfl)
theorem dX5_least_181 : decode cX5_least 181 = .ok (.ifCond .le 72, 3) := dk_158 0 72 (dk_at dksX5_least_7 20 rfl rfl)
theorem dX5_least_184 : decode cX5_least 184 = .ok (.aload_n 0, 1) := dk_42 (dk_at dksX5_least_7 23 rfl rfl)
theorem dX5_least_185 : decode cX5_least 185 = .ok (.getfield 101, 3) := dk_180 0 101 (dk_at dksX5_least_8 0 rfl rfl)
theorem dX5_least_188 : decode cX5_least 188 = .ok (.sipush 256, 3) := dk_17 1 0 (dk_at dksX5_least_8 3 rfl rfl)
theorem dX5_least_191 : decode cX5_least 191 = .ok (.iload 6, 2) := dk_21 6 (dk_at dksX5_least_8 6 rfl rfl)
theorem dX5_least_193 : decode cX5_least 193 = .ok (.imul, 1) := dk_104 (dk_at dksX5_least_8 8 rfl rfl)
theorem dX5_least_194 : decode cX5_least 194 = .ok (.iload 4, 2) := dk_21 4 (dk_at dksX5_least_8 9 rfl rfl)
theorem dX5_least_196 : decode cX5_least 196 = .ok (.iadd, 1) := dk_96 (dk_at dksX5_least_8 11 rfl rfl)
theorem dX5_least_197 : decode cX5_least 197 = .ok (.iaload, 1) := dk_46 (dk_at dksX5_least_8 12 rfl rfl)
theorem dX5_least_198 : decode cX5_least 198 = .ok (.aload_n 0, 1) := dk_42 (dk_at dksX5_least_8 13 rfl rfl)
theorem dX5_least_199 : decode cX5_least 199 = .ok (.getfield 101, 3) := dk_180 0 101 (dk_at dksX5_least_8 14 rfl rfl)
theorem dX5_least_202 : decode cX5_least 202 = .ok (.sipush 256, 3) := dk_17 1 0 (dk_at dksX5_least_8 17 rfl rfl)
theorem dX5_least_205 : decode cX5_least 205 = .ok (.iload_n 3, 1) := dk_29 (dk_at dksX5_least_8 20 rfl rfl)
theorem dX5_least_206 : decode cX5_least 206 = .ok (.iload 6, 2) := dk_21 6 (dk_at dksX5_least_8 21 rfl rfl)
theorem dX5_least_208 : decode cX5_least 208 = .ok (.iconst (-1), 1) := dk_2 (dk_at dksX5_least_8 23 rfl rfl)
theorem dX5_least_209 : decode cX5_least 209 = .ok (.ixor, 1) := dk_130 (dk_at dksX5_least_9 0 rfl rfl)
theorem dX5_least_210 : decode cX5_least 210 = .ok (.iand, 1) := dk_126 (dk_at dksX5_least_9 1 rfl rfl)
theorem dX5_least_211 : decode cX5_least 211 = .ok (.imul, 1) := dk_104 (dk_at dksX5_least_9 2 rfl rfl)
theorem dX5_least_212 : decode cX5_least 212 = .ok (.iload 4, 2) := dk_21 4 (dk_at dksX5_least_9 3 rfl rfl)
theorem dX5_least_214 : decode cX5_least 214 = .ok (.iadd, 1) := dk_96 (dk_at dksX5_least_9 5 rfl rfl)
theorem dX5_least_215 : decode cX5_least 215 = .ok (.iaload, 1) := dk_46 (dk_at dksX5_least_9 6 rfl rfl)
theorem dX5_least_216 : decode cX5_least 216 = .ok (.iadd, 1) := dk_96 (dk_at dksX5_least_9 7 rfl rfl)
theorem dX5_least_217 : decode cX5_least 217 = .ok (.aload_n 0, 1) := dk_42 (dk_at dksX5_least_9 8 rfl rfl)
theorem dX5_least_218 : decode cX5_least 218 = .ok (.iload 4, 2) := dk_21 4 (dk_at dksX5_least_9 9 rfl rfl)
theorem dX5_least_220 : decode cX5_least 220 = .ok (.invokevirtual 463, 3) := dk_182 1 207 (dk_at dksX5_least_9 11 rfl rfl)
theorem dX5_least_223 : decode cX5_least 223 = .ok (.isub, 1) := dk_100 (dk_at dksX5_least_9 14 rfl rfl)
theorem dX5_least_224 : decode cX5_least 224 = .ok (.istore 7, 2) := dk_54 7 (dk_at dksX5_least_9 15 rfl rfl)
theorem dX5_least_226 : decode cX5_least 226 = .ok (.iload 7, 2) := dk_21 7 (dk_at dksX5_least_9 17 rfl rfl)
theorem dX5_least_228 : decode cX5_least 228 = .ok (.iload 5, 2) := dk_21 5 (dk_at dksX5_least_9 19 rfl rfl)
theorem dX5_least_230 : decode cX5_least 230 = .ok (.if_icmp .ge 8, 3) := dk_162 0 8 (dk_at dksX5_least_9 21 rfl rfl)
theorem dX5_least_233 : decode cX5_least 233 = .ok (.iload 7, 2) := dk_21 7 (dk_at dksX5_least_10 0 rfl rfl)
theorem dX5_least_235 : decode cX5_least 235 = .ok (.goto 5, 3) := dk_167 0 5 (dk_at dksX5_least_10 2 rfl rfl)
theorem dX5_least_238 : decode cX5_least 238 = .ok (.iload 5, 2) := dk_21 5 (dk_at dksX5_least_10 5 rfl rfl)
theorem dX5_least_240 : decode cX5_least 240 = .ok (.istore 5, 2) := dk_54 5 (dk_at dksX5_least_10 7 rfl rfl)
theorem dX5_least_242 : decode cX5_least 242 = .ok (.iload 6, 2) := dk_21 6 (dk_at dksX5_least_10 9 rfl rfl)
theorem dX5_least_244 : decode cX5_least 244 = .ok (.iconst 1, 1) := dk_4 (dk_at dksX5_least_10 11 rfl rfl)
theorem dX5_least_245 : decode cX5_least 245 = .ok (.isub, 1) := dk_100 (dk_at dksX5_least_10 12 rfl rfl)
theorem dX5_least_246 : decode cX5_least 246 = .ok (.iload_n 3, 1) := dk_29 (dk_at dksX5_least_10 13 rfl rfl)
theorem dX5_least_247 : decode cX5_least 247 = .ok (.iand, 1) := dk_126 (dk_at dksX5_least_10 14 rfl rfl)
theorem dX5_least_248 : decode cX5_least 248 = .ok (.istore 6, 2) := dk_54 6 (dk_at dksX5_least_10 15 rfl rfl)
theorem dX5_least_250 : decode cX5_least 250 = .ok (.goto (-71), 3) := dk_167 255 185 (dk_at dksX5_least_10 17 rfl rfl)
theorem dX5_least_253 : decode cX5_least 253 = .ok (.aload_n 0, 1) := dk_42 (dk_at dksX5_least_10 20 rfl rfl)
theorem dX5_least_254 : decode cX5_least 254 = .ok (.getfield 101, 3) := dk_180 0 101 (dk_at dksX5_least_10 21 rfl rfl)
theorem dX5_least_257 : decode cX5_least 257 = .ok (.sipush 256, 3) := dk_17 1 0 (dk_at dksX5_least_11 0 rfl rfl)
theorem dX5_least_260 : decode cX5_least 260 = .ok (.iload_n 3, 1) := dk_29 (dk_at dksX5_least_11 3 rfl rfl)
theorem dX5_least_261 : decode cX5_least 261 = .ok (.imul, 1) := dk_104 (dk_at dksX5_least_11 4 rfl rfl)
theorem dX5_least_262 : decode cX5_least 262 = .ok (.iload 4, 2) := dk_21 4 (dk_at dksX5_least_11 5 rfl rfl)
theorem dX5_least_264 : decode cX5_least 264 = .ok (.iadd, 1) := dk_96 (dk_at dksX5_least_11 7 rfl rfl)
theorem dX5_least_265 : decode cX5_least 265 = .ok (.iload 5, 2) := dk_21 5 (dk_at dksX5_least_11 8 rfl rfl)
theorem dX5_least_267 : decode cX5_least 267 = .ok (.iastore, 1) := dk_79 (dk_at dksX5_least_11 10 rfl rfl)
theorem dX5_least_268 : decode cX5_least 268 = .ok (.iinc 4 1, 3) := dk_132 4 1 (dk_at dksX5_least_11 11 rfl rfl)
theorem dX5_least_271 : decode cX5_least 271 = .ok (.goto (-162), 3) := dk_167 255 94 (dk_at dksX5_least_11 14 rfl rfl)
theorem dX5_least_274 : decode cX5_least 274 = .ok (.aload_n 0, 1) := dk_42 (dk_at dksX5_least_11 17 rfl rfl)
theorem dX5_least_275 : decode cX5_least 275 = .ok (.sipush 256, 3) := dk_17 1 0 (dk_at dksX5_least_11 18 rfl rfl)
theorem dX5_least_278 : decode cX5_least 278 = .ok (.iload_n 3, 1) := dk_29 (dk_at dksX5_least_11 21 rfl rfl)
theorem dX5_least_279 : decode cX5_least 279 = .ok (.imul, 1) := dk_104 (dk_at dksX5_least_11 22 rfl rfl)
theorem dX5_least_280 : decode cX5_least 280 = .ok (.iload_n 1, 1) := dk_27 (dk_at dksX5_least_11 23 rfl rfl)
theorem dX5_least_281 : decode cX5_least 281 = .ok (.invokevirtual 466, 3) := dk_182 1 210 (dk_at dksX5_least_12 0 rfl rfl)
theorem dX5_least_284 : decode cX5_least 284 = .ok (.iinc 3 1, 3) := dk_132 3 1 (dk_at dksX5_least_12 3 rfl rfl)
theorem dX5_least_287 : decode cX5_least 287 = .ok (.goto (-186), 3) := dk_167 255 70 (dk_at dksX5_least_12 6 rfl rfl)
theorem dX5_least_290 : decode cX5_least 290 = .ok (.ldc_w 462, 3) := dk_19 1 206 (dk_at dksX5_least_12 9 rfl rfl)
theorem dX5_least_293 : decode cX5_least 293 = .ok (.istore_n 3, 1) := dk_62 (dk_at dksX5_least_12 12 rfl rfl)
theorem dX5_least_294 : decode cX5_least 294 = .ok (.iconst 0, 1) := dk_3 (dk_at dksX5_least_12 13 rfl rfl)
theorem dX5_least_295 : decode cX5_least 295 = .ok (.istore 4, 2) := dk_54 4 (dk_at dksX5_least_12 14 rfl rfl)
theorem dX5_least_297 : decode cX5_least 297 = .ok (.iload 4, 2) := dk_21 4 (dk_at dksX5_least_12 16 rfl rfl)
theorem dX5_least_299 : decode cX5_least 299 = .ok (.iload_n 1, 1) := dk_27 (dk_at dksX5_least_12 18 rfl rfl)
theorem dX5_least_300 : decode cX5_least 300 = .ok (.if_icmp .ge 44, 3) := dk_162 0 44 (dk_at dksX5_least_12 19 rfl rfl)
theorem dX5_least_303 : decode cX5_least 303 = .ok (.aload_n 0, 1) := dk_42 (dk_at dksX5_least_12 22 rfl rfl)
theorem dX5_least_304 : decode cX5_least 304 = .ok (.getfield 101, 3) := dk_180 0 101 (dk_at dksX5_least_13 0 rfl rfl)
theorem dX5_least_307 : decode cX5_least 307 = .ok (.sipush 256, 3) := dk_17 1 0 (dk_at dksX5_least_13 3 rfl rfl)
theorem dX5_least_310 : decode cX5_least 310 = .ok (.iload_n 2, 1) := dk_28 (dk_at dksX5_least_13 6 rfl rfl)
theorem dX5_least_311 : decode cX5_least 311 = .ok (.imul, 1) := dk_104 (dk_at dksX5_least_13 7 rfl rfl)
theorem dX5_least_312 : decode cX5_least 312 = .ok (.iload 4, 2) := dk_21 4 (dk_at dksX5_least_13 8 rfl rfl)
theorem dX5_least_314 : decode cX5_least 314 = .ok (.iadd, 1) := dk_96 (dk_at dksX5_least_13 10 rfl rfl)
theorem dX5_least_315 : decode cX5_least 315 = .ok (.iaload, 1) := dk_46 (dk_at dksX5_least_13 11 rfl rfl)
theorem dX5_least_316 : decode cX5_least 316 = .ok (.iload_n 3, 1) := dk_29 (dk_at dksX5_least_13 12 rfl rfl)
theorem dX5_least_317 : decode cX5_least 317 = .ok (.if_icmp .ge 19, 3) := dk_162 0 19 (dk_at dksX5_least_13 13 rfl rfl)
theorem dX5_least_320 : decode cX5_least 320 = .ok (.aload_n 0, 1) := dk_42 (dk_at dksX5_least_13 16 rfl rfl)
theorem dX5_least_321 : decode cX5_least 321 = .ok (.getfield 101, 3) := dk_180 0 101 (dk_at dksX5_least_13 17 rfl rfl)
theorem dX5_least_324 : decode cX5_least 324 = .ok (.sipush 256, 3) := dk_17 1 0 (dk_at dksX5_least_13 20 rfl rfl)
theorem dX5_least_327 : decode cX5_least 327 = .ok (.iload_n 2, 1) := dk_28 (dk_at dksX5_least_13 23 rfl rfl)
theorem dX5_least_328 : decode cX5_least 328 = .ok (.imul, 1) := dk_104 (dk_at dksX5_least_14 0 rfl rfl)
theorem dX5_least_329 : decode cX5_least 329 = .ok (.iload 4, 2) := dk_21 4 (dk_at dksX5_least_14 1 rfl rfl)
theorem dX5_least_331 : decode cX5_least 331 = .ok (.iadd, 1) := dk_96 (dk_at dksX5_least_14 3 rfl rfl)
theorem dX5_least_332 : decode cX5_least 332 = .ok (.iaload, 1) := dk_46 (dk_at dksX5_least_14 4 rfl rfl)
theorem dX5_least_333 : decode cX5_least 333 = .ok (.goto 4, 3) := dk_167 0 4 (dk_at dksX5_least_14 5 rfl rfl)
theorem dX5_least_336 : decode cX5_least 336 = .ok (.iload_n 3, 1) := dk_29 (dk_at dksX5_least_14 8 rfl rfl)
theorem dX5_least_337 : decode cX5_least 337 = .ok (.istore_n 3, 1) := dk_62 (dk_at dksX5_least_14 9 rfl rfl)
theorem dX5_least_338 : decode cX5_least 338 = .ok (.iinc 4 1, 3) := dk_132 4 1 (dk_at dksX5_least_14 10 rfl rfl)
theorem dX5_least_341 : decode cX5_least 341 = .ok (.goto (-44), 3) := dk_167 255 212 (dk_at dksX5_least_14 13 rfl rfl)
theorem dX5_least_344 : decode cX5_least 344 = .ok (.iload_n 3, 1) := dk_29 (dk_at dksX5_least_14 16 rfl rfl)
theorem dX5_least_345 : decode cX5_least 345 = .ok (.ldc_w 462, 3) := dk_19 1 206 (dk_at dksX5_least_14 17 rfl rfl)
theorem dX5_least_348 : decode cX5_least 348 = .ok (.if_icmp .lt 7, 3) := dk_161 0 7 (dk_at dksX5_least_14 20 rfl rfl)
theorem dX5_least_351 : decode cX5_least 351 = .ok (.iconst (-1), 1) := dk_2 (dk_at dksX5_least_14 23 rfl rfl)
theorem dX5_least_352 : decode cX5_least 352 = .ok (.goto 4, 3) := dk_167 0 4 (dk_at dksX5_least_15 0 rfl rfl)
theorem dX5_least_355 : decode cX5_least 355 = .ok (.iload_n 3, 1) := dk_29 (dk_at dksX5_least_15 3 rfl rfl)
theorem dX5_least_356 : decode cX5_least 356 = .ok (.ireturn, 1) := dk_172 (dk_at dksX5_least_15 4 rfl rfl)
abbrev cX5_price : ByteArray := prog_12_method_91_code
def yX5_price : MethodName := ⟨RX5, "price", "(I)I"⟩
def dkwX5_price_0 : List UInt8 := [42, 27, 182, 1, 100, 153, 0, 8, 16, 21, 167, 0, 4, 4, 172]
abbrev dktX5_price_0 : List UInt8 := dkwX5_price_0 ++ []
theorem dksX5_price_0 : cX5_price.data.toList.drop 0 = dktX5_price_0 := by decide +kernel
theorem dX5_price_0 : decode cX5_price 0 = .ok (.aload_n 0, 1) := dk_42 (dk_at dksX5_price_0 0 rfl rfl)
theorem dX5_price_1 : decode cX5_price 1 = .ok (.iload_n 1, 1) := dk_27 (dk_at dksX5_price_0 1 rfl rfl)
theorem dX5_price_2 : decode cX5_price 2 = .ok (.invokevirtual 356, 3) := dk_182 1 100 (dk_at dksX5_price_0 2 rfl rfl)
theorem dX5_price_5 : decode cX5_price 5 = .ok (.ifCond .eq 8, 3) := dk_153 0 8 (dk_at dksX5_price_0 5 rfl rfl)
theorem dX5_price_8 : decode cX5_price 8 = .ok (.bipush 21, 2) := dk_16 21 (dk_at dksX5_price_0 8 rfl rfl)
theorem dX5_price_10 : decode cX5_price 10 = .ok (.goto 4, 3) := dk_167 0 4 (dk_at dksX5_price_0 10 rfl rfl)
theorem dX5_price_13 : decode cX5_price 13 = .ok (.iconst 1, 1) := dk_4 (dk_at dksX5_price_0 13 rfl rfl)
theorem dX5_price_14 : decode cX5_price 14 = .ok (.ireturn, 1) := dk_172 (dk_at dksX5_price_0 14 rfl rfl)
abbrev cX5_widen : ByteArray := prog_12_method_93_code
def yX5_widen : MethodName := ⟨RX5, "widen", "(II)V"⟩
def dkwX5_widen_5 : List UInt8 := [132, 5, 1, 167, 255, 155, 132, 4, 1, 167, 255, 140, 167, 255, 128, 177]
abbrev dktX5_widen_5 : List UInt8 := dkwX5_widen_5 ++ []
def dkwX5_widen_4 : List UInt8 := [21, 4, 96, 42, 180, 0, 101, 27, 21, 6, 96, 46, 42, 21, 4, 182, 1, 207, 96, 79, 4, 62]
abbrev dktX5_widen_4 : List UInt8 := dkwX5_widen_4 ++ dktX5_widen_5
def dkwX5_widen_3 : List UInt8 := [182, 1, 207, 96, 42, 180, 0, 101, 27, 21, 4, 96, 46, 161, 0, 6, 167, 0, 30, 42, 180, 0, 101, 27]
abbrev dktX5_widen_3 : List UInt8 := dkwX5_widen_3 ++ dktX5_widen_4
def dkwX5_widen_2 : List UInt8 := [155, 0, 70, 42, 21, 6, 182, 0, 158, 153, 0, 61, 42, 180, 0, 101, 27, 21, 6, 96, 46, 42, 21, 4]
abbrev dktX5_widen_2 : List UInt8 := dkwX5_widen_2 ++ dktX5_widen_3
def dkwX5_widen_1 : List UInt8 := [162, 0, 100, 42, 21, 4, 182, 0, 158, 153, 0, 91, 42, 21, 4, 21, 5, 182, 1, 124, 54, 6, 21, 6]
abbrev dktX5_widen_1 : List UInt8 := dkwX5_widen_1 ++ dktX5_widen_2
def dkwX5_widen_0 : List UInt8 := [4, 62, 29, 153, 0, 130, 3, 62, 3, 54, 4, 21, 4, 28, 162, 0, 116, 3, 54, 5, 21, 5, 16, 8]
abbrev dktX5_widen_0 : List UInt8 := dkwX5_widen_0 ++ dktX5_widen_1
theorem dksX5_widen_0 : cX5_widen.data.toList.drop 0 = dktX5_widen_0 := by decide +kernel
theorem dksX5_widen_1 : cX5_widen.data.toList.drop 24 = dktX5_widen_1 := dk_seg dksX5_widen_0 24 rfl rfl
theorem dksX5_widen_2 : cX5_widen.data.toList.drop 48 = dktX5_widen_2 := dk_seg dksX5_widen_1 24 rfl rfl
theorem dksX5_widen_3 : cX5_widen.data.toList.drop 72 = dktX5_widen_3 := dk_seg dksX5_widen_2 24 rfl rfl
theorem dksX5_widen_4 : cX5_widen.data.toList.drop 96 = dktX5_widen_4 := dk_seg dksX5_widen_3 24 rfl rfl
theorem dksX5_widen_5 : cX5_widen.data.toList.drop 118 = dktX5_widen_5 := dk_seg dksX5_widen_4 22 rfl rfl
theorem dX5_widen_0 : decode cX5_widen 0 = .ok (.iconst 1, 1) := dk_4 (dk_at dksX5_widen_0 0 rfl rfl)
theorem dX5_widen_1 : decode cX5_widen 1 = .ok (.istore_n 3, 1) := dk_62 (dk_at dksX5_widen_0 1 rfl rfl)
theorem dX5_widen_2 : decode cX5_widen 2 = .ok (.iload_n 3, 1) := dk_29 (dk_at dksX5_widen_0 2 rfl rfl)
theorem dX5_widen_3 : decode cX5_widen 3 = .ok (.ifCond .eq 130, 3) := dk_153 0 130 (dk_at dksX5_widen_0 3 rfl rfl)
theorem dX5_widen_6 : decode cX5_widen 6 = .ok (.iconst 0, 1) := dk_3 (dk_at dksX5_widen_0 6 rfl rfl)
theorem dX5_widen_7 : decode cX5_widen 7 = .ok (.istore_n 3, 1) := dk_62 (dk_at dksX5_widen_0 7 rfl rfl)
theorem dX5_widen_8 : decode cX5_widen 8 = .ok (.iconst 0, 1) := dk_3 (dk_at dksX5_widen_0 8 rfl rfl)
theorem dX5_widen_9 : decode cX5_widen 9 = .ok (.istore 4, 2) := dk_54 4 (dk_at dksX5_widen_0 9 rfl rfl)
theorem dX5_widen_11 : decode cX5_widen 11 = .ok (.iload 4, 2) := dk_21 4 (dk_at dksX5_widen_0 11 rfl rfl)
theorem dX5_widen_13 : decode cX5_widen 13 = .ok (.iload_n 2, 1) := dk_28 (dk_at dksX5_widen_0 13 rfl rfl)
theorem dX5_widen_14 : decode cX5_widen 14 = .ok (.if_icmp .ge 116, 3) := dk_162 0 116 (dk_at dksX5_widen_0 14 rfl rfl)
theorem dX5_widen_17 : decode cX5_widen 17 = .ok (.iconst 0, 1) := dk_3 (dk_at dksX5_widen_0 17 rfl rfl)
theorem dX5_widen_18 : decode cX5_widen 18 = .ok (.istore 5, 2) := dk_54 5 (dk_at dksX5_widen_0 18 rfl rfl)
theorem dX5_widen_20 : decode cX5_widen 20 = .ok (.iload 5, 2) := dk_21 5 (dk_at dksX5_widen_0 20 rfl rfl)
theorem dX5_widen_22 : decode cX5_widen 22 = .ok (.bipush 8, 2) := dk_16 8 (dk_at dksX5_widen_0 22 rfl rfl)
theorem dX5_widen_24 : decode cX5_widen 24 = .ok (.if_icmp .ge 100, 3) := dk_162 0 100 (dk_at dksX5_widen_1 0 rfl rfl)
theorem dX5_widen_27 : decode cX5_widen 27 = .ok (.aload_n 0, 1) := dk_42 (dk_at dksX5_widen_1 3 rfl rfl)
theorem dX5_widen_28 : decode cX5_widen 28 = .ok (.iload 4, 2) := dk_21 4 (dk_at dksX5_widen_1 4 rfl rfl)
theorem dX5_widen_30 : decode cX5_widen 30 = .ok (.invokevirtual 158, 3) := dk_182 0 158 (dk_at dksX5_widen_1 6 rfl rfl)
theorem dX5_widen_33 : decode cX5_widen 33 = .ok (.ifCond .eq 91, 3) := dk_153 0 91 (dk_at dksX5_widen_1 9 rfl rfl)
theorem dX5_widen_36 : decode cX5_widen 36 = .ok (.aload_n 0, 1) := dk_42 (dk_at dksX5_widen_1 12 rfl rfl)
theorem dX5_widen_37 : decode cX5_widen 37 = .ok (.iload 4, 2) := dk_21 4 (dk_at dksX5_widen_1 13 rfl rfl)
theorem dX5_widen_39 : decode cX5_widen 39 = .ok (.iload 5, 2) := dk_21 5 (dk_at dksX5_widen_1 15 rfl rfl)
theorem dX5_widen_41 : decode cX5_widen 41 = .ok (.invokevirtual 380, 3) := dk_182 1 124 (dk_at dksX5_widen_1 17 rfl rfl)
theorem dX5_widen_44 : decode cX5_widen 44 = .ok (.istore 6, 2) := dk_54 6 (dk_at dksX5_widen_1 20 rfl rfl)
theorem dX5_widen_46 : decode cX5_widen 46 = .ok (.iload 6, 2) := dk_21 6 (dk_at dksX5_widen_1 22 rfl rfl)
theorem dX5_widen_48 : decode cX5_widen 48 = .ok (.ifCond .lt 70, 3) := dk_155 0 70 (dk_at dksX5_widen_2 0 rfl rfl)
theorem dX5_widen_51 : decode cX5_widen 51 = .ok (.aload_n 0, 1) := dk_42 (dk_at dksX5_widen_2 3 rfl rfl)
theorem dX5_widen_52 : decode cX5_widen 52 = .ok (.iload 6, 2) := dk_21 6 (dk_at dksX5_widen_2 4 rfl rfl)
theorem dX5_widen_54 : decode cX5_widen 54 = .ok (.invokevirtual 158, 3) := dk_182 0 158 (dk_at dksX5_widen_2 6 rfl rfl)
theorem dX5_widen_57 : decode cX5_widen 57 = .ok (.ifCond .eq 61, 3) := dk_153 0 61 (dk_at dksX5_widen_2 9 rfl rfl)
theorem dX5_widen_60 : decode cX5_widen 60 = .ok (.aload_n 0, 1) := dk_42 (dk_at dksX5_widen_2 12 rfl rfl)
theorem dX5_widen_61 : decode cX5_widen 61 = .ok (.getfield 101, 3) := dk_180 0 101 (dk_at dksX5_widen_2 13 rfl rfl)
theorem dX5_widen_64 : decode cX5_widen 64 = .ok (.iload_n 1, 1) := dk_27 (dk_at dksX5_widen_2 16 rfl rfl)
theorem dX5_widen_65 : decode cX5_widen 65 = .ok (.iload 6, 2) := dk_21 6 (dk_at dksX5_widen_2 17 rfl rfl)
theorem dX5_widen_67 : decode cX5_widen 67 = .ok (.iadd, 1) := dk_96 (dk_at dksX5_widen_2 19 rfl rfl)
theorem dX5_widen_68 : decode cX5_widen 68 = .ok (.iaload, 1) := dk_46 (dk_at dksX5_widen_2 20 rfl rfl)
theorem dX5_widen_69 : decode cX5_widen 69 = .ok (.aload_n 0, 1) := dk_42 (dk_at dksX5_widen_2 21 rfl rfl)
theorem dX5_widen_70 : decode cX5_widen 70 = .ok (.iload 4, 2) := dk_21 4 (dk_at dksX5_widen_2 22 rfl rfl)
theorem dX5_widen_72 : decode cX5_widen 72 = .ok (.invokevirtual 463, 3) := dk_182 1 207 (dk_at dksX5_widen_3 0 rfl rfl)
theorem dX5_widen_75 : decode cX5_widen 75 = .ok (.iadd, 1) := dk_96 (dk_at dksX5_widen_3 3 rfl rfl)
theorem dX5_widen_76 : decode cX5_widen 76 = .ok (.aload_n 0, 1) := dk_42 (dk_at dksX5_widen_3 4 rfl rfl)
theorem dX5_widen_77 : decode cX5_widen 77 = .ok (.getfield 101, 3) := dk_180 0 101 (dk_at dksX5_widen_3 5 rfl rfl)
theorem dX5_widen_80 : decode cX5_widen 80 = .ok (.iload_n 1, 1) := dk_27 (dk_at dksX5_widen_3 8 rfl rfl)
theorem dX5_widen_81 : decode cX5_widen 81 = .ok (.iload 4, 2) := dk_21 4 (dk_at dksX5_widen_3 9 rfl rfl)
theorem dX5_widen_83 : decode cX5_widen 83 = .ok (.iadd, 1) := dk_96 (dk_at dksX5_widen_3 11 rfl rfl)
theorem dX5_widen_84 : decode cX5_widen 84 = .ok (.iaload, 1) := dk_46 (dk_at dksX5_widen_3 12 rfl rfl)
theorem dX5_widen_85 : decode cX5_widen 85 = .ok (.if_icmp .lt 6, 3) := dk_161 0 6 (dk_at dksX5_widen_3 13 rfl rfl)
theorem dX5_widen_88 : decode cX5_widen 88 = .ok (.goto 30, 3) := dk_167 0 30 (dk_at dksX5_widen_3 16 rfl rfl)
theorem dX5_widen_91 : decode cX5_widen 91 = .ok (.aload_n 0, 1) := dk_42 (dk_at dksX5_widen_3 19 rfl rfl)
theorem dX5_widen_92 : decode cX5_widen 92 = .ok (.getfield 101, 3) := dk_180 0 101 (dk_at dksX5_widen_3 20 rfl rfl)
theorem dX5_widen_95 : decode cX5_widen 95 = .ok (.iload_n 1, 1) := dk_27 (dk_at dksX5_widen_3 23 rfl rfl)
theorem dX5_widen_96 : decode cX5_widen 96 = .ok (.iload 4, 2) := dk_21 4 (dk_at dksX5_widen_4 0 rfl rfl)
theorem dX5_widen_98 : decode cX5_widen 98 = .ok (.iadd, 1) := dk_96 (dk_at dksX5_widen_4 2 rfl rfl)
theorem dX5_widen_99 : decode cX5_widen 99 = .ok (.aload_n 0, 1) := dk_42 (dk_at dksX5_widen_4 3 rfl rfl)
theorem dX5_widen_100 : decode cX5_widen 100 = .ok (.getfield 101, 3) := dk_180 0 101 (dk_at dksX5_widen_4 4 rfl rfl)
theorem dX5_widen_103 : decode cX5_widen 103 = .ok (.iload_n 1, 1) := dk_27 (dk_at dksX5_widen_4 7 rfl rfl)
theorem dX5_widen_104 : decode cX5_widen 104 = .ok (.iload 6, 2) := dk_21 6 (dk_at dksX5_widen_4 8 rfl rfl)
theorem dX5_widen_106 : decode cX5_widen 106 = .ok (.iadd, 1) := dk_96 (dk_at dksX5_widen_4 10 rfl rfl)
theorem dX5_widen_107 : decode cX5_widen 107 = .ok (.iaload, 1) := dk_46 (dk_at dksX5_widen_4 11 rfl rfl)
theorem dX5_widen_108 : decode cX5_widen 108 = .ok (.aload_n 0, 1) := dk_42 (dk_at dksX5_widen_4 12 rfl rfl)
theorem dX5_widen_109 : decode cX5_widen 109 = .ok (.iload 4, 2) := dk_21 4 (dk_at dksX5_widen_4 13 rfl rfl)
theorem dX5_widen_111 : decode cX5_widen 111 = .ok (.invokevirtual 463, 3) := dk_182 1 207 (dk_at dksX5_widen_4 15 rfl rfl)
theorem dX5_widen_114 : decode cX5_widen 114 = .ok (.iadd, 1) := dk_96 (dk_at dksX5_widen_4 18 rfl rfl)
theorem dX5_widen_115 : decode cX5_widen 115 = .ok (.iastore, 1) := dk_79 (dk_at dksX5_widen_4 19 rfl rfl)
theorem dX5_widen_116 : decode cX5_widen 116 = .ok (.iconst 1, 1) := dk_4 (dk_at dksX5_widen_4 20 rfl rfl)
theorem dX5_widen_117 : decode cX5_widen 117 = .ok (.istore_n 3, 1) := dk_62 (dk_at dksX5_widen_4 21 rfl rfl)
theorem dX5_widen_118 : decode cX5_widen 118 = .ok (.iinc 5 1, 3) := dk_132 5 1 (dk_at dksX5_widen_5 0 rfl rfl)
theorem dX5_widen_121 : decode cX5_widen 121 = .ok (.goto (-101), 3) := dk_167 255 155 (dk_at dksX5_widen_5 3 rfl rfl)
theorem dX5_widen_124 : decode cX5_widen 124 = .ok (.iinc 4 1, 3) := dk_132 4 1 (dk_at dksX5_widen_5 6 rfl rfl)
theorem dX5_widen_127 : decode cX5_widen 127 = .ok (.goto (-116), 3) := dk_167 255 140 (dk_at dksX5_widen_5 9 rfl rfl)
theorem dX5_widen_130 : decode cX5_widen 130 = .ok (.goto (-128), 3) := dk_167 255 128 (dk_at dksX5_widen_5 12 rfl rfl)
theorem dX5_widen_133 : decode cX5_widen 133 = .ok (.return_, 1) := dk_177 (dk_at dksX5_widen_5 15 rfl rfl)
abbrev cX5_longer : ByteArray := prog_12_method_95_code
def yX5_longer : MethodName := ⟨RX5, "longer", "(II)I"⟩
def dkwX5_longer_4 : List UInt8 := [16, 100, 21, 4, 104, 29, 108, 172]
abbrev dktX5_longer_4 : List UInt8 := dkwX5_longer_4 ++ []
def dkwX5_longer_3 : List UInt8 := [182, 1, 213, 54, 4, 29, 19, 1, 206, 162, 0, 11, 21, 4, 19, 1, 206, 161, 0, 7, 2, 167, 0, 10]
abbrev dktX5_longer_3 : List UInt8 := dkwX5_longer_3 ++ dktX5_longer_4
def dkwX5_longer_2 : List UInt8 := [182, 1, 213, 62, 42, 42, 180, 0, 30, 6, 27, 96, 46, 42, 180, 0, 30, 6, 28, 96, 46, 4]
abbrev dktX5_longer_2 : List UInt8 := dkwX5_longer_2 ++ dktX5_longer_3
def dkwX5_longer_1 : List UInt8 := [160, 0, 6, 16, 254, 172, 42, 42, 180, 0, 30, 6, 27, 96, 46, 42, 180, 0, 30, 6, 28, 96, 46, 3]
abbrev dktX5_longer_1 : List UInt8 := dkwX5_longer_1 ++ dktX5_longer_2
def dkwX5_longer_0 : List UInt8 := [42, 3, 181, 0, 1, 42, 27, 182, 1, 84, 153, 0, 16, 42, 28, 182, 1, 84, 153, 0, 8, 27, 28]
abbrev dktX5_longer_0 : List UInt8 := dkwX5_longer_0 ++ dktX5_longer_1
theorem dksX5_longer_0 : cX5_longer.data.toList.drop 0 = dktX5_longer_0 := by decide +kernel
theorem dksX5_longer_1 : cX5_longer.data.toList.drop 23 = dktX5_longer_1 := dk_seg dksX5_longer_0 23 rfl rfl
theorem dksX5_longer_2 : cX5_longer.data.toList.drop 47 = dktX5_longer_2 := dk_seg dksX5_longer_1 24 rfl rfl
theorem dksX5_longer_3 : cX5_longer.data.toList.drop 69 = dktX5_longer_3 := dk_seg dksX5_longer_2 22 rfl rfl
theorem dksX5_longer_4 : cX5_longer.data.toList.drop 93 = dktX5_longer_4 := dk_seg dksX5_longer_3 24 rfl rfl
theorem dX5_longer_0 : decode cX5_longer 0 = .ok (.aload_n 0, 1) := dk_42 (dk_at dksX5_longer_0 0 rfl rfl)
theorem dX5_longer_1 : decode cX5_longer 1 = .ok (.iconst 0, 1) := dk_3 (dk_at dksX5_longer_0 1 rfl rfl)
theorem dX5_longer_2 : decode cX5_longer 2 = .ok (.putfield 1, 3) := dk_181 0 1 (dk_at dksX5_longer_0 2 rfl rfl)
theorem dX5_longer_5 : decode cX5_longer 5 = .ok (.aload_n 0, 1) := dk_42 (dk_at dksX5_longer_0 5 rfl rfl)
theorem dX5_longer_6 : decode cX5_longer 6 = .ok (.iload_n 1, 1) := dk_27 (dk_at dksX5_longer_0 6 rfl rfl)
theorem dX5_longer_7 : decode cX5_longer 7 = .ok (.invokevirtual 340, 3) := dk_182 1 84 (dk_at dksX5_longer_0 7 rfl rfl)
theorem dX5_longer_10 : decode cX5_longer 10 = .ok (.ifCond .eq 16, 3) := dk_153 0 16 (dk_at dksX5_longer_0 10 rfl rfl)
theorem dX5_longer_13 : decode cX5_longer 13 = .ok (.aload_n 0, 1) := dk_42 (dk_at dksX5_longer_0 13 rfl rfl)
theorem dX5_longer_14 : decode cX5_longer 14 = .ok (.iload_n 2, 1) := dk_28 (dk_at dksX5_longer_0 14 rfl rfl)
theorem dX5_longer_15 : decode cX5_longer 15 = .ok (.invokevirtual 340, 3) := dk_182 1 84 (dk_at dksX5_longer_0 15 rfl rfl)
theorem dX5_longer_18 : decode cX5_longer 18 = .ok (.ifCond .eq 8, 3) := dk_153 0 8 (dk_at dksX5_longer_0 18 rfl rfl)
theorem dX5_longer_21 : decode cX5_longer 21 = .ok (.iload_n 1, 1) := dk_27 (dk_at dksX5_longer_0 21 rfl rfl)
theorem dX5_longer_22 : decode cX5_longer 22 = .ok (.iload_n 2, 1) := dk_28 (dk_at dksX5_longer_0 22 rfl rfl)
theorem dX5_longer_23 : decode cX5_longer 23 = .ok (.if_icmp .ne 6, 3) := dk_160 0 6 (dk_at dksX5_longer_1 0 rfl rfl)
theorem dX5_longer_26 : decode cX5_longer 26 = .ok (.bipush (-2), 2) := dk_16 254 (dk_at dksX5_longer_1 3 rfl rfl)
theorem dX5_longer_28 : decode cX5_longer 28 = .ok (.ireturn, 1) := dk_172 (dk_at dksX5_longer_1 5 rfl rfl)
theorem dX5_longer_29 : decode cX5_longer 29 = .ok (.aload_n 0, 1) := dk_42 (dk_at dksX5_longer_1 6 rfl rfl)
theorem dX5_longer_30 : decode cX5_longer 30 = .ok (.aload_n 0, 1) := dk_42 (dk_at dksX5_longer_1 7 rfl rfl)
theorem dX5_longer_31 : decode cX5_longer 31 = .ok (.getfield 30, 3) := dk_180 0 30 (dk_at dksX5_longer_1 8 rfl rfl)
theorem dX5_longer_34 : decode cX5_longer 34 = .ok (.iconst 3, 1) := dk_6 (dk_at dksX5_longer_1 11 rfl rfl)
theorem dX5_longer_35 : decode cX5_longer 35 = .ok (.iload_n 1, 1) := dk_27 (dk_at dksX5_longer_1 12 rfl rfl)
theorem dX5_longer_36 : decode cX5_longer 36 = .ok (.iadd, 1) := dk_96 (dk_at dksX5_longer_1 13 rfl rfl)
theorem dX5_longer_37 : decode cX5_longer 37 = .ok (.iaload, 1) := dk_46 (dk_at dksX5_longer_1 14 rfl rfl)
theorem dX5_longer_38 : decode cX5_longer 38 = .ok (.aload_n 0, 1) := dk_42 (dk_at dksX5_longer_1 15 rfl rfl)
theorem dX5_longer_39 : decode cX5_longer 39 = .ok (.getfield 30, 3) := dk_180 0 30 (dk_at dksX5_longer_1 16 rfl rfl)
theorem dX5_longer_42 : decode cX5_longer 42 = .ok (.iconst 3, 1) := dk_6 (dk_at dksX5_longer_1 19 rfl rfl)
theorem dX5_longer_43 : decode cX5_longer 43 = .ok (.iload_n 2, 1) := dk_28 (dk_at dksX5_longer_1 20 rfl rfl)
theorem dX5_longer_44 : decode cX5_longer 44 = .ok (.iadd, 1) := dk_96 (dk_at dksX5_longer_1 21 rfl rfl)
theorem dX5_longer_45 : decode cX5_longer 45 = .ok (.iaload, 1) := dk_46 (dk_at dksX5_longer_1 22 rfl rfl)
theorem dX5_longer_46 : decode cX5_longer 46 = .ok (.iconst 0, 1) := dk_3 (dk_at dksX5_longer_1 23 rfl rfl)
theorem dX5_longer_47 : decode cX5_longer 47 = .ok (.invokevirtual 469, 3) := dk_182 1 213 (dk_at dksX5_longer_2 0 rfl rfl)
theorem dX5_longer_50 : decode cX5_longer 50 = .ok (.istore_n 3, 1) := dk_62 (dk_at dksX5_longer_2 3 rfl rfl)
theorem dX5_longer_51 : decode cX5_longer 51 = .ok (.aload_n 0, 1) := dk_42 (dk_at dksX5_longer_2 4 rfl rfl)
theorem dX5_longer_52 : decode cX5_longer 52 = .ok (.aload_n 0, 1) := dk_42 (dk_at dksX5_longer_2 5 rfl rfl)
theorem dX5_longer_53 : decode cX5_longer 53 = .ok (.getfield 30, 3) := dk_180 0 30 (dk_at dksX5_longer_2 6 rfl rfl)
theorem dX5_longer_56 : decode cX5_longer 56 = .ok (.iconst 3, 1) := dk_6 (dk_at dksX5_longer_2 9 rfl rfl)
theorem dX5_longer_57 : decode cX5_longer 57 = .ok (.iload_n 1, 1) := dk_27 (dk_at dksX5_longer_2 10 rfl rfl)
theorem dX5_longer_58 : decode cX5_longer 58 = .ok (.iadd, 1) := dk_96 (dk_at dksX5_longer_2 11 rfl rfl)
theorem dX5_longer_59 : decode cX5_longer 59 = .ok (.iaload, 1) := dk_46 (dk_at dksX5_longer_2 12 rfl rfl)
theorem dX5_longer_60 : decode cX5_longer 60 = .ok (.aload_n 0, 1) := dk_42 (dk_at dksX5_longer_2 13 rfl rfl)
theorem dX5_longer_61 : decode cX5_longer 61 = .ok (.getfield 30, 3) := dk_180 0 30 (dk_at dksX5_longer_2 14 rfl rfl)
theorem dX5_longer_64 : decode cX5_longer 64 = .ok (.iconst 3, 1) := dk_6 (dk_at dksX5_longer_2 17 rfl rfl)
theorem dX5_longer_65 : decode cX5_longer 65 = .ok (.iload_n 2, 1) := dk_28 (dk_at dksX5_longer_2 18 rfl rfl)
theorem dX5_longer_66 : decode cX5_longer 66 = .ok (.iadd, 1) := dk_96 (dk_at dksX5_longer_2 19 rfl rfl)
theorem dX5_longer_67 : decode cX5_longer 67 = .ok (.iaload, 1) := dk_46 (dk_at dksX5_longer_2 20 rfl rfl)
theorem dX5_longer_68 : decode cX5_longer 68 = .ok (.iconst 1, 1) := dk_4 (dk_at dksX5_longer_2 21 rfl rfl)
theorem dX5_longer_69 : decode cX5_longer 69 = .ok (.invokevirtual 469, 3) := dk_182 1 213 (dk_at dksX5_longer_3 0 rfl rfl)
theorem dX5_longer_72 : decode cX5_longer 72 = .ok (.istore 4, 2) := dk_54 4 (dk_at dksX5_longer_3 3 rfl rfl)
theorem dX5_longer_74 : decode cX5_longer 74 = .ok (.iload_n 3, 1) := dk_29 (dk_at dksX5_longer_3 5 rfl rfl)
theorem dX5_longer_75 : decode cX5_longer 75 = .ok (.ldc_w 462, 3) := dk_19 1 206 (dk_at dksX5_longer_3 6 rfl rfl)
theorem dX5_longer_78 : decode cX5_longer 78 = .ok (.if_icmp .ge 11, 3) := dk_162 0 11 (dk_at dksX5_longer_3 9 rfl rfl)
theorem dX5_longer_81 : decode cX5_longer 81 = .ok (.iload 4, 2) := dk_21 4 (dk_at dksX5_longer_3 12 rfl rfl)
theorem dX5_longer_83 : decode cX5_longer 83 = .ok (.ldc_w 462, 3) := dk_19 1 206 (dk_at dksX5_longer_3 14 rfl rfl)
theorem dX5_longer_86 : decode cX5_longer 86 = .ok (.if_icmp .lt 7, 3) := dk_161 0 7 (dk_at dksX5_longer_3 17 rfl rfl)
theorem dX5_longer_89 : decode cX5_longer 89 = .ok (.iconst (-1), 1) := dk_2 (dk_at dksX5_longer_3 20 rfl rfl)
theorem dX5_longer_90 : decode cX5_longer 90 = .ok (.goto 10, 3) := dk_167 0 10 (dk_at dksX5_longer_3 21 rfl rfl)
theorem dX5_longer_93 : decode cX5_longer 93 = .ok (.bipush 100, 2) := dk_16 100 (dk_at dksX5_longer_4 0 rfl rfl)
theorem dX5_longer_95 : decode cX5_longer 95 = .ok (.iload 4, 2) := dk_21 4 (dk_at dksX5_longer_4 2 rfl rfl)
theorem dX5_longer_97 : decode cX5_longer 97 = .ok (.imul, 1) := dk_104 (dk_at dksX5_longer_4 4 rfl rfl)
theorem dX5_longer_98 : decode cX5_longer 98 = .ok (.iload_n 3, 1) := dk_29 (dk_at dksX5_longer_4 5 rfl rfl)
theorem dX5_longer_99 : decode cX5_longer 99 = .ok (.idiv, 1) := dk_108 (dk_at dksX5_longer_4 6 rfl rfl)
theorem dX5_longer_100 : decode cX5_longer 100 = .ok (.ireturn, 1) := dk_172 (dk_at dksX5_longer_4 7 rfl rfl)
abbrev cX5_shortest : ByteArray := prog_12_method_94_code
def yX5_shortest : MethodName := ⟨RX5, "shortest", "(IIZ)I"⟩
def dkwX5_shortest_8 : List UInt8 := [132, 6, 1, 167, 255, 174, 132, 5, 1, 167, 255, 110, 167, 255, 96, 42, 180, 0, 104, 28, 46, 172]
abbrev dktX5_shortest_8 : List UInt8 := dkwX5_shortest_8 ++ []
def dkwX5_shortest_7 : List UInt8 := [180, 0, 104, 21, 5, 46, 161, 0, 6, 167, 0, 15, 42, 180, 0, 104, 21, 5, 21, 8, 79, 4, 54, 4]
abbrev dktX5_shortest_7 : List UInt8 := dkwX5_shortest_7 ++ dktX5_shortest_8
def dkwX5_shortest_6 : List UInt8 := [21, 7, 46, 21, 6, 5, 112, 154, 0, 8, 16, 10, 167, 0, 5, 16, 14, 96, 54, 8, 21, 8, 42]
abbrev dktX5_shortest_6 : List UInt8 := dkwX5_shortest_6 ++ dktX5_shortest_7
def dkwX5_shortest_5 : List UInt8 := [21, 5, 21, 6, 182, 1, 124, 54, 7, 21, 7, 156, 0, 9, 19, 1, 206, 167, 0, 25, 42, 180, 0, 104]
abbrev dktX5_shortest_5 : List UInt8 := dkwX5_shortest_5 ++ dktX5_shortest_6
def dkwX5_shortest_4 : List UInt8 := [42, 21, 5, 182, 0, 140, 154, 0, 6, 167, 0, 91, 3, 54, 6, 21, 6, 16, 8, 162, 0, 81, 42]
abbrev dktX5_shortest_4 : List UInt8 := dkwX5_shortest_4 ++ dktX5_shortest_5
def dkwX5_shortest_3 : List UInt8 := [153, 0, 36, 21, 5, 27, 159, 0, 30, 21, 5, 28, 159, 0, 24, 42, 21, 5, 182, 1, 100, 153, 0, 15]
abbrev dktX5_shortest_3 : List UInt8 := dkwX5_shortest_3 ++ dktX5_shortest_4
def dkwX5_shortest_2 : List UInt8 := [3, 54, 5, 21, 5, 42, 182, 0, 128, 162, 0, 143, 42, 21, 5, 182, 0, 158, 153, 0, 128, 29]
abbrev dktX5_shortest_2 : List UInt8 := dkwX5_shortest_2 ++ dktX5_shortest_3
def dkwX5_shortest_1 : List UInt8 := [132, 4, 1, 167, 255, 234, 42, 180, 0, 104, 27, 3, 79, 4, 54, 4, 21, 4, 153, 0, 161, 3, 54, 4]
abbrev dktX5_shortest_1 : List UInt8 := dkwX5_shortest_1 ++ dktX5_shortest_2
def dkwX5_shortest_0 : List UInt8 := [3, 54, 4, 21, 4, 42, 182, 0, 128, 162, 0, 19, 42, 180, 0, 104, 21, 4, 19, 1, 206, 79]
abbrev dktX5_shortest_0 : List UInt8 := dkwX5_shortest_0 ++ dktX5_shortest_1
theorem dksX5_shortest_0 : cX5_shortest.data.toList.drop 0 = dktX5_shortest_0 := by decide +kernel
theorem dksX5_shortest_1 : cX5_shortest.data.toList.drop 22 = dktX5_shortest_1 := dk_seg dksX5_shortest_0 22 rfl rfl
theorem dksX5_shortest_2 : cX5_shortest.data.toList.drop 46 = dktX5_shortest_2 := dk_seg dksX5_shortest_1 24 rfl rfl
theorem dksX5_shortest_3 : cX5_shortest.data.toList.drop 68 = dktX5_shortest_3 := dk_seg dksX5_shortest_2 22 rfl rfl
theorem dksX5_shortest_4 : cX5_shortest.data.toList.drop 92 = dktX5_shortest_4 := dk_seg dksX5_shortest_3 24 rfl rfl
theorem dksX5_shortest_5 : cX5_shortest.data.toList.drop 115 = dktX5_shortest_5 := dk_seg dksX5_shortest_4 23 rfl rfl
theorem dksX5_shortest_6 : cX5_shortest.data.toList.drop 139 = dktX5_shortest_6 := dk_seg dksX5_shortest_5 24 rfl rfl
theorem dksX5_shortest_7 : cX5_shortest.data.toList.drop 162 = dktX5_shortest_7 := dk_seg dksX5_shortest_6 23 rfl rfl
theorem dksX5_shortest_8 : cX5_shortest.data.toList.drop 186 = dktX5_shortest_8 := dk_seg dksX5_shortest_7 24 rfl rfl
theorem dX5_shortest_0 : decode cX5_shortest 0 = .ok (.iconst 0, 1) := dk_3 (dk_at dksX5_shortest_0 0 rfl rfl)
theorem dX5_shortest_1 : decode cX5_shortest 1 = .ok (.istore 4, 2) := dk_54 4 (dk_at dksX5_shortest_0 1 rfl rfl)
theorem dX5_shortest_3 : decode cX5_shortest 3 = .ok (.iload 4, 2) := dk_21 4 (dk_at dksX5_shortest_0 3 rfl rfl)
theorem dX5_shortest_5 : decode cX5_shortest 5 = .ok (.aload_n 0, 1) := dk_42 (dk_at dksX5_shortest_0 5 rfl rfl)
theorem dX5_shortest_6 : decode cX5_shortest 6 = .ok (.invokevirtual 128, 3) := dk_182 0 128 (dk_at dksX5_shortest_0 6 rfl rfl)
theorem dX5_shortest_9 : decode cX5_shortest 9 = .ok (.if_icmp .ge 19, 3) := dk_162 0 19 (dk_at dksX5_shortest_0 9 rfl rfl)
theorem dX5_shortest_12 : decode cX5_shortest 12 = .ok (.aload_n 0, 1) := dk_42 (dk_at dksX5_shortest_0 12 rfl rfl)
theorem dX5_shortest_13 : decode cX5_shortest 13 = .ok (.getfield 104, 3) := dk_180 0 104 (dk_at dksX5_shortest_0 13 rfl rfl)
theorem dX5_shortest_16 : decode cX5_shortest 16 = .ok (.iload 4, 2) := dk_21 4 (dk_at dksX5_shortest_0 16 rfl rfl)
theorem dX5_shortest_18 : decode cX5_shortest 18 = .ok (.ldc_w 462, 3) := dk_19 1 206 (dk_at dksX5_shortest_0 18 rfl rfl)
theorem dX5_shortest_21 : decode cX5_shortest 21 = .ok (.iastore, 1) := dk_79 (dk_at dksX5_shortest_0 21 rfl rfl)
theorem dX5_shortest_22 : decode cX5_shortest 22 = .ok (.iinc 4 1, 3) := dk_132 4 1 (dk_at dksX5_shortest_1 0 rfl rfl)
theorem dX5_shortest_25 : decode cX5_shortest 25 = .ok (.goto (-22), 3) := dk_167 255 234 (dk_at dksX5_shortest_1 3 rfl rfl)
theorem dX5_shortest_28 : decode cX5_shortest 28 = .ok (.aload_n 0, 1) := dk_42 (dk_at dksX5_shortest_1 6 rfl rfl)
theorem dX5_shortest_29 : decode cX5_shortest 29 = .ok (.getfield 104, 3) := dk_180 0 104 (dk_at dksX5_shortest_1 7 rfl rfl)
theorem dX5_shortest_32 : decode cX5_shortest 32 = .ok (.iload_n 1, 1) := dk_27 (dk_at dksX5_shortest_1 10 rfl rfl)
theorem dX5_shortest_33 : decode cX5_shortest 33 = .ok (.iconst 0, 1) := dk_3 (dk_at dksX5_shortest_1 11 rfl rfl)
theorem dX5_shortest_34 : decode cX5_shortest 34 = .ok (.iastore, 1) := dk_79 (dk_at dksX5_shortest_1 12 rfl rfl)
theorem dX5_shortest_35 : decode cX5_shortest 35 = .ok (.iconst 1, 1) := dk_4 (dk_at dksX5_shortest_1 13 rfl rfl)
theorem dX5_shortest_36 : decode cX5_shortest 36 = .ok (.istore 4, 2) := dk_54 4 (dk_at dksX5_shortest_1 14 rfl rfl)
theorem dX5_shortest_38 : decode cX5_shortest 38 = .ok (.iload 4, 2) := dk_21 4 (dk_at dksX5_shortest_1 16 rfl rfl)
theorem dX5_shortest_40 : decode cX5_shortest 40 = .ok (.ifCond .eq 161, 3) := dk_153 0 161 (dk_at dksX5_shortest_1 18 rfl rfl)
theorem dX5_shortest_43 : decode cX5_shortest 43 = .ok (.iconst 0, 1) := dk_3 (dk_at dksX5_shortest_1 21 rfl rfl)
theorem dX5_shortest_44 : decode cX5_shortest 44 = .ok (.istore 4, 2) := dk_54 4 (dk_at dksX5_shortest_1 22 rfl rfl)
theorem dX5_shortest_46 : decode cX5_shortest 46 = .ok (.iconst 0, 1) := dk_3 (dk_at dksX5_shortest_2 0 rfl rfl)
theorem dX5_shortest_47 : decode cX5_shortest 47 = .ok (.istore 5, 2) := dk_54 5 (dk_at dksX5_shortest_2 1 rfl rfl)
theorem dX5_shortest_49 : decode cX5_shortest 49 = .ok (.iload 5, 2) := dk_21 5 (dk_at dksX5_shortest_2 3 rfl rfl)
theorem dX5_shortest_51 : decode cX5_shortest 51 = .ok (.aload_n 0, 1) := dk_42 (dk_at dksX5_shortest_2 5 rfl rfl)
theorem dX5_shortest_52 : decode cX5_shortest 52 = .ok (.invokevirtual 128, 3) := dk_182 0 128 (dk_at dksX5_shortest_2 6 rfl rfl)
theorem dX5_shortest_55 : decode cX5_shortest 55 = .ok (.if_icmp .ge 143, 3) := dk_162 0 143 (dk_at dksX5_shortest_2 9 rfl rfl)
theorem dX5_shortest_58 : decode cX5_shortest 58 = .ok (.aload_n 0, 1) := dk_42 (dk_at dksX5_shortest_2 12 rfl rfl)
theorem dX5_shortest_59 : decode cX5_shortest 59 = .ok (.iload 5, 2) := dk_21 5 (dk_at dksX5_shortest_2 13 rfl rfl)
theorem dX5_shortest_61 : decode cX5_shortest 61 = .ok (.invokevirtual 158, 3) := dk_182 0 158 (dk_at dksX5_shortest_2 15 rfl rfl)
theorem dX5_shortest_64 : decode cX5_shortest 64 = .ok (.ifCond .eq 128, 3) := dk_153 0 128 (dk_at dksX5_shortest_2 18 rfl rfl)
theorem dX5_shortest_67 : decode cX5_shortest 67 = .ok (.iload_n 3, 1) := dk_29 (dk_at dksX5_shortest_2 21 rfl rfl)
theorem dX5_shortest_68 : decode cX5_shortest 68 = .ok (.ifCond .eq 36, 3) := dk_153 0 36 (dk_at dksX5_shortest_3 0 rfl rfl)
theorem dX5_shortest_71 : decode cX5_shortest 71 = .ok (.iload 5, 2) := dk_21 5 (dk_at dksX5_shortest_3 3 rfl rfl)
theorem dX5_shortest_73 : decode cX5_shortest 73 = .ok (.iload_n 1, 1) := dk_27 (dk_at dksX5_shortest_3 5 rfl rfl)
theorem dX5_shortest_74 : decode cX5_shortest 74 = .ok (.if_icmp .eq 30, 3) := dk_159 0 30 (dk_at dksX5_shortest_3 6 rfl rfl)
theorem dX5_shortest_77 : decode cX5_shortest 77 = .ok (.iload 5, 2) := dk_21 5 (dk_at dksX5_shortest_3 9 rfl rfl)
theorem dX5_shortest_79 : decode cX5_shortest 79 = .ok (.iload_n 2, 1) := dk_28 (dk_at dksX5_shortest_3 11 rfl rfl)
theorem dX5_shortest_80 : decode cX5_shortest 80 = .ok (.if_icmp .eq 24, 3) := dk_159 0 24 (dk_at dksX5_shortest_3 12 rfl rfl)
theorem dX5_shortest_83 : decode cX5_shortest 83 = .ok (.aload_n 0, 1) := dk_42 (dk_at dksX5_shortest_3 15 rfl rfl)
theorem dX5_shortest_84 : decode cX5_shortest 84 = .ok (.iload 5, 2) := dk_21 5 (dk_at dksX5_shortest_3 16 rfl rfl)
theorem dX5_shortest_86 : decode cX5_shortest 86 = .ok (.invokevirtual 356, 3) := dk_182 1 100 (dk_at dksX5_shortest_3 18 rfl rfl)
theorem dX5_shortest_89 : decode cX5_shortest 89 = .ok (.ifCond .eq 15, 3) := dk_153 0 15 (dk_at dksX5_shortest_3 21 rfl rfl)
theorem dX5_shortest_92 : decode cX5_shortest 92 = .ok (.aload_n 0, 1) := dk_42 (dk_at dksX5_shortest_4 0 rfl rfl)
theorem dX5_shortest_93 : decode cX5_shortest 93 = .ok (.iload 5, 2) := dk_21 5 (dk_at dksX5_shortest_4 1 rfl rfl)
theorem dX5_shortest_95 : decode cX5_shortest 95 = .ok (.invokevirtual 140, 3) := dk_182 0 140 (dk_at dksX5_shortest_4 3 rfl rfl)
theorem dX5_shortest_98 : decode cX5_shortest 98 = .ok (.ifCond .ne 6, 3) := dk_154 0 6 (dk_at dksX5_shortest_4 6 rfl rfl)
theorem dX5_shortest_101 : decode cX5_shortest 101 = .ok (.goto 91, 3) := dk_167 0 91 (dk_at dksX5_shortest_4 9 rfl rfl)
theorem dX5_shortest_104 : decode cX5_shortest 104 = .ok (.iconst 0, 1) := dk_3 (dk_at dksX5_shortest_4 12 rfl rfl)
theorem dX5_shortest_105 : decode cX5_shortest 105 = .ok (.istore 6, 2) := dk_54 6 (dk_at dksX5_shortest_4 13 rfl rfl)
theorem dX5_shortest_107 : decode cX5_shortest 107 = .ok (.iload 6, 2) := dk_21 6 (dk_at dksX5_shortest_4 15 rfl rfl)
theorem dX5_shortest_109 : decode cX5_shortest 109 = .ok (.bipush 8, 2) := dk_16 8 (dk_at dksX5_shortest_4 17 rfl rfl)
theorem dX5_shortest_111 : decode cX5_shortest 111 = .ok (.if_icmp .ge 81, 3) := dk_162 0 81 (dk_at dksX5_shortest_4 19 rfl rfl)
theorem dX5_shortest_114 : decode cX5_shortest 114 = .ok (.aload_n 0, 1) := dk_42 (dk_at dksX5_shortest_4 22 rfl rfl)
theorem dX5_shortest_115 : decode cX5_shortest 115 = .ok (.iload 5, 2) := dk_21 5 (dk_at dksX5_shortest_5 0 rfl rfl)
theorem dX5_shortest_117 : decode cX5_shortest 117 = .ok (.iload 6, 2) := dk_21 6 (dk_at dksX5_shortest_5 2 rfl rfl)
theorem dX5_shortest_119 : decode cX5_shortest 119 = .ok (.invokevirtual 380, 3) := dk_182 1 124 (dk_at dksX5_shortest_5 4 rfl rfl)
theorem dX5_shortest_122 : decode cX5_shortest 122 = .ok (.istore 7, 2) := dk_54 7 (dk_at dksX5_shortest_5 7 rfl rfl)
theorem dX5_shortest_124 : decode cX5_shortest 124 = .ok (.iload 7, 2) := dk_21 7 (dk_at dksX5_shortest_5 9 rfl rfl)
theorem dX5_shortest_126 : decode cX5_shortest 126 = .ok (.ifCond .ge 9, 3) := dk_156 0 9 (dk_at dksX5_shortest_5 11 rfl rfl)
theorem dX5_shortest_129 : decode cX5_shortest 129 = .ok (.ldc_w 462, 3) := dk_19 1 206 (dk_at dksX5_shortest_5 14 rfl rfl)
theorem dX5_shortest_132 : decode cX5_shortest 132 = .ok (.goto 25, 3) := dk_167 0 25 (dk_at dksX5_shortest_5 17 rfl rfl)
theorem dX5_shortest_135 : decode cX5_shortest 135 = .ok (.aload_n 0, 1) := dk_42 (dk_at dksX5_shortest_5 20 rfl rfl)
theorem dX5_shortest_136 : decode cX5_shortest 136 = .ok (.getfield 104, 3) := dk_180 0 104 (dk_at dksX5_shortest_5 21 rfl rfl)
theorem dX5_shortest_139 : decode cX5_shortest 139 = .ok (.iload 7, 2) := dk_21 7 (dk_at dksX5_shortest_6 0 rfl rfl)
theorem dX5_shortest_141 : decode cX5_shortest 141 = .ok (.iaload, 1) := dk_46 (dk_at dksX5_shortest_6 2 rfl rfl)
theorem dX5_shortest_142 : decode cX5_shortest 142 = .ok (.iload 6, 2) := dk_21 6 (dk_at dksX5_shortest_6 3 rfl rfl)
theorem dX5_shortest_144 : decode cX5_shortest 144 = .ok (.iconst 2, 1) := dk_5 (dk_at dksX5_shortest_6 5 rfl rfl)
theorem dX5_shortest_145 : decode cX5_shortest 145 = .ok (.irem, 1) := dk_112 (dk_at dksX5_shortest_6 6 rfl rfl)
theorem dX5_shortest_146 : decode cX5_shortest 146 = .ok (.ifCond .ne 8, 3) := dk_154 0 8 (dk_at dksX5_shortest_6 7 rfl rfl)
theorem dX5_shortest_149 : decode cX5_shortest 149 = .ok (.bipush 10, 2) := dk_16 10 (dk_at dksX5_shortest_6 10 rfl rfl)
theorem dX5_shortest_151 : decode cX5_shortest 151 = .ok (.goto 5, 3) := dk_167 0 5 (dk_at dksX5_shortest_6 12 rfl rfl)
theorem dX5_shortest_154 : decode cX5_shortest 154 = .ok (.bipush 14, 2) := dk_16 14 (dk_at dksX5_shortest_6 15 rfl rfl)
theorem dX5_shortest_156 : decode cX5_shortest 156 = .ok (.iadd, 1) := dk_96 (dk_at dksX5_shortest_6 17 rfl rfl)
theorem dX5_shortest_157 : decode cX5_shortest 157 = .ok (.istore 8, 2) := dk_54 8 (dk_at dksX5_shortest_6 18 rfl rfl)
theorem dX5_shortest_159 : decode cX5_shortest 159 = .ok (.iload 8, 2) := dk_21 8 (dk_at dksX5_shortest_6 20 rfl rfl)
theorem dX5_shortest_161 : decode cX5_shortest 161 = .ok (.aload_n 0, 1) := dk_42 (dk_at dksX5_shortest_6 22 rfl rfl)
theorem dX5_shortest_162 : decode cX5_shortest 162 = .ok (.getfield 104, 3) := dk_180 0 104 (dk_at dksX5_shortest_7 0 rfl rfl)
theorem dX5_shortest_165 : decode cX5_shortest 165 = .ok (.iload 5, 2) := dk_21 5 (dk_at dksX5_shortest_7 3 rfl rfl)
theorem dX5_shortest_167 : decode cX5_shortest 167 = .ok (.iaload, 1) := dk_46 (dk_at dksX5_shortest_7 5 rfl rfl)
theorem dX5_shortest_168 : decode cX5_shortest 168 = .ok (.if_icmp .lt 6, 3) := dk_161 0 6 (dk_at dksX5_shortest_7 6 rfl rfl)
theorem dX5_shortest_171 : decode cX5_shortest 171 = .ok (.goto 15, 3) := dk_167 0 15 (dk_at dksX5_shortest_7 9 rfl rfl)
theorem dX5_shortest_174 : decode cX5_shortest 174 = .ok (.aload_n 0, 1) := dk_42 (dk_at dksX5_shortest_7 12 rfl rfl)
theorem dX5_shortest_175 : decode cX5_shortest 175 = .ok (.getfield 104, 3) := dk_180 0 104 (dk_at dksX5_shortest_7 13 rfl rfl)
theorem dX5_shortest_178 : decode cX5_shortest 178 = .ok (.iload 5, 2) := dk_21 5 (dk_at dksX5_shortest_7 16 rfl rfl)
theorem dX5_shortest_180 : decode cX5_shortest 180 = .ok (.iload 8, 2) := dk_21 8 (dk_at dksX5_shortest_7 18 rfl rfl)
theorem dX5_shortest_182 : decode cX5_shortest 182 = .ok (.iastore, 1) := dk_79 (dk_at dksX5_shortest_7 20 rfl rfl)
theorem dX5_shortest_183 : decode cX5_shortest 183 = .ok (.iconst 1, 1) := dk_4 (dk_at dksX5_shortest_7 21 rfl rfl)
theorem dX5_shortest_184 : decode cX5_shortest 184 = .ok (.istore 4, 2) := dk_54 4 (dk_at dksX5_shortest_7 22 rfl rfl)
theorem dX5_shortest_186 : decode cX5_shortest 186 = .ok (.iinc 6 1, 3) := dk_132 6 1 (dk_at dksX5_shortest_8 0 rfl rfl)
theorem dX5_shortest_189 : decode cX5_shortest 189 = .ok (.goto (-82), 3) := dk_167 255 174 (dk_at dksX5_shortest_8 3 rfl rfl)
theorem dX5_shortest_192 : decode cX5_shortest 192 = .ok (.iinc 5 1, 3) := dk_132 5 1 (dk_at dksX5_shortest_8 6 rfl rfl)
theorem dX5_shortest_195 : decode cX5_shortest 195 = .ok (.goto (-146), 3) := dk_167 255 110 (dk_at dksX5_shortest_8 9 rfl rfl)
theorem dX5_shortest_198 : decode cX5_shortest 198 = .ok (.goto (-160), 3) := dk_167 255 96 (dk_at dksX5_shortest_8 12 rfl rfl)
theorem dX5_shortest_201 : decode cX5_shortest 201 = .ok (.aload_n 0, 1) := dk_42 (dk_at dksX5_shortest_8 15 rfl rfl)
theorem dX5_shortest_202 : decode cX5_shortest 202 = .ok (.getfield 104, 3) := dk_180 0 104 (dk_at dksX5_shortest_8 16 rfl rfl)
theorem dX5_shortest_205 : decode cX5_shortest 205 = .ok (.iload_n 2, 1) := dk_28 (dk_at dksX5_shortest_8 19 rfl rfl)
theorem dX5_shortest_206 : decode cX5_shortest 206 = .ok (.iaload, 1) := dk_46 (dk_at dksX5_shortest_8 20 rfl rfl)
theorem dX5_shortest_207 : decode cX5_shortest 207 = .ok (.ireturn, 1) := dk_172 (dk_at dksX5_shortest_8 21 rfl rfl)
abbrev cX5_turns : ByteArray := prog_12_method_96_code
def yX5_turns : MethodName := ⟨RX5, "turns", "(IIII)I"⟩
def dkwX5_turns_8 : List UInt8 := [182, 1, 203, 132, 8, 1, 167, 255, 191, 42, 180, 0, 53, 21, 5, 21, 6, 79, 21, 7, 172]
abbrev dktX5_turns_8 : List UInt8 := dkwX5_turns_8 ++ []
def dkwX5_turns_7 : List UInt8 := [182, 1, 196, 132, 9, 1, 167, 255, 242, 42, 182, 1, 173, 21, 4, 163, 0, 7, 21, 8, 54, 7, 42]
abbrev dktX5_turns_7 : List UInt8 := dkwX5_turns_7 ++ dktX5_turns_8
def dkwX5_turns_6 : List UInt8 := [180, 0, 53, 21, 5, 21, 8, 79, 42, 182, 1, 189, 3, 54, 9, 21, 9, 28, 162, 0, 14, 42, 29]
abbrev dktX5_turns_6 : List UInt8 := dkwX5_turns_6 ++ dktX5_turns_7
def dkwX5_turns_5 : List UInt8 := [21, 5, 46, 54, 6, 2, 54, 7, 3, 54, 8, 21, 8, 16, 10, 162, 0, 64, 21, 7, 156, 0, 59, 42]
abbrev dktX5_turns_5 : List UInt8 := dkwX5_turns_5 ++ dktX5_turns_6
def dkwX5_turns_4 : List UInt8 := [160, 0, 7, 21, 6, 54, 5, 132, 6, 1, 167, 255, 201, 21, 5, 156, 0, 5, 2, 172, 42, 180, 0, 53]
abbrev dktX5_turns_4 : List UInt8 := dkwX5_turns_4 ++ dktX5_turns_5
def dkwX5_turns_3 : List UInt8 := [156, 0, 36, 42, 180, 0, 47, 21, 6, 46, 8, 160, 0, 19, 42, 180, 0, 50, 21, 6, 46, 16, 6]
abbrev dktX5_turns_3 : List UInt8 := dkwX5_turns_3 ++ dktX5_turns_4
def dkwX5_turns_2 : List UInt8 := [21, 6, 16, 16, 4, 27, 96, 104, 42, 180, 0, 44, 4, 27, 96, 46, 96, 162, 0, 41, 21, 5]
abbrev dktX5_turns_2 : List UInt8 := dkwX5_turns_2 ++ dktX5_turns_3
def dkwX5_turns_1 : List UInt8 := [4, 16, 100, 184, 0, 132, 154, 0, 6, 16, 254, 172, 2, 54, 5, 16, 16, 4, 27, 96, 104, 54, 6]
abbrev dktX5_turns_1 : List UInt8 := dkwX5_turns_1 ++ dktX5_turns_2
def dkwX5_turns_0 : List UInt8 := [42, 3, 181, 0, 1, 27, 3, 8, 184, 0, 132, 153, 0, 22, 28, 4, 7, 184, 0, 132, 153, 0, 13, 29]
abbrev dktX5_turns_0 : List UInt8 := dkwX5_turns_0 ++ dktX5_turns_1
theorem dksX5_turns_0 : cX5_turns.data.toList.drop 0 = dktX5_turns_0 := by decide +kernel
theorem dksX5_turns_1 : cX5_turns.data.toList.drop 24 = dktX5_turns_1 := dk_seg dksX5_turns_0 24 rfl rfl
theorem dksX5_turns_2 : cX5_turns.data.toList.drop 47 = dktX5_turns_2 := dk_seg dksX5_turns_1 23 rfl rfl
theorem dksX5_turns_3 : cX5_turns.data.toList.drop 69 = dktX5_turns_3 := dk_seg dksX5_turns_2 22 rfl rfl
theorem dksX5_turns_4 : cX5_turns.data.toList.drop 92 = dktX5_turns_4 := dk_seg dksX5_turns_3 23 rfl rfl
theorem dksX5_turns_5 : cX5_turns.data.toList.drop 116 = dktX5_turns_5 := dk_seg dksX5_turns_4 24 rfl rfl
theorem dksX5_turns_6 : cX5_turns.data.toList.drop 140 = dktX5_turns_6 := dk_seg dksX5_turns_5 24 rfl rfl
theorem dksX5_turns_7 : cX5_turns.data.toList.drop 163 = dktX5_turns_7 := dk_seg dksX5_turns_6 23 rfl rfl
theorem dksX5_turns_8 : cX5_turns.data.toList.drop 186 = dktX5_turns_8 := dk_seg dksX5_turns_7 23 rfl rfl
theorem dX5_turns_0 : decode cX5_turns 0 = .ok (.aload_n 0, 1) := dk_42 (dk_at dksX5_turns_0 0 rfl rfl)
theorem dX5_turns_1 : decode cX5_turns 1 = .ok (.iconst 0, 1) := dk_3 (dk_at dksX5_turns_0 1 rfl rfl)
theorem dX5_turns_2 : decode cX5_turns 2 = .ok (.putfield 1, 3) := dk_181 0 1 (dk_at dksX5_turns_0 2 rfl rfl)
theorem dX5_turns_5 : decode cX5_turns 5 = .ok (.iload_n 1, 1) := dk_27 (dk_at dksX5_turns_0 5 rfl rfl)
theorem dX5_turns_6 : decode cX5_turns 6 = .ok (.iconst 0, 1) := dk_3 (dk_at dksX5_turns_0 6 rfl rfl)
theorem dX5_turns_7 : decode cX5_turns 7 = .ok (.iconst 5, 1) := dk_8 (dk_at dksX5_turns_0 7 rfl rfl)
theorem dX5_turns_8 : decode cX5_turns 8 = .ok (.invokestatic 132, 3) := dk_184 0 132 (dk_at dksX5_turns_0 8 rfl rfl)
theorem dX5_turns_11 : decode cX5_turns 11 = .ok (.ifCond .eq 22, 3) := dk_153 0 22 (dk_at dksX5_turns_0 11 rfl rfl)
theorem dX5_turns_14 : decode cX5_turns 14 = .ok (.iload_n 2, 1) := dk_28 (dk_at dksX5_turns_0 14 rfl rfl)
theorem dX5_turns_15 : decode cX5_turns 15 = .ok (.iconst 1, 1) := dk_4 (dk_at dksX5_turns_0 15 rfl rfl)
theorem dX5_turns_16 : decode cX5_turns 16 = .ok (.iconst 4, 1) := dk_7 (dk_at dksX5_turns_0 16 rfl rfl)
theorem dX5_turns_17 : decode cX5_turns 17 = .ok (.invokestatic 132, 3) := dk_184 0 132 (dk_at dksX5_turns_0 17 rfl rfl)
theorem dX5_turns_20 : decode cX5_turns 20 = .ok (.ifCond .eq 13, 3) := dk_153 0 13 (dk_at dksX5_turns_0 20 rfl rfl)
theorem dX5_turns_23 : decode cX5_turns 23 = .ok (.iload_n 3, 1) := dk_29 (dk_at dksX5_turns_0 23 rfl rfl)
theorem dX5_turns_24 : decode cX5_turns 24 = .ok (.iconst 1, 1) := dk_4 (dk_at dksX5_turns_1 0 rfl rfl)
theorem dX5_turns_25 : decode cX5_turns 25 = .ok (.bipush 100, 2) := dk_16 100 (dk_at dksX5_turns_1 1 rfl rfl)
theorem dX5_turns_27 : decode cX5_turns 27 = .ok (.invokestatic 132, 3) := dk_184 0 132 (dk_at dksX5_turns_1 3 rfl rfl)
theorem dX5_turns_30 : decode cX5_turns 30 = .ok (.ifCond .ne 6, 3) := dk_154 0 6 (dk_at dksX5_turns_1 6 rfl rfl)
theorem dX5_turns_33 : decode cX5_turns 33 = .ok (.bipush (-2), 2) := dk_16 254 (dk_at dksX5_turns_1 9 rfl rfl)
theorem dX5_turns_35 : decode cX5_turns 35 = .ok (.ireturn, 1) := dk_172 (dk_at dksX5_turns_1 11 rfl rfl)
theorem dX5_turns_36 : decode cX5_turns 36 = .ok (.iconst (-1), 1) := dk_2 (dk_at dksX5_turns_1 12 rfl rfl)
theorem dX5_turns_37 : decode cX5_turns 37 = .ok (.istore 5, 2) := dk_54 5 (dk_at dksX5_turns_1 13 rfl rfl)
theorem dX5_turns_39 : decode cX5_turns 39 = .ok (.bipush 16, 2) := dk_16 16 (dk_at dksX5_turns_1 15 rfl rfl)
theorem dX5_turns_41 : decode cX5_turns 41 = .ok (.iconst 1, 1) := dk_4 (dk_at dksX5_turns_1 17 rfl rfl)
theorem dX5_turns_42 : decode cX5_turns 42 = .ok (.iload_n 1, 1) := dk_27 (dk_at dksX5_turns_1 18 rfl rfl)
theorem dX5_turns_43 : decode cX5_turns 43 = .ok (.iadd, 1) := dk_96 (dk_at dksX5_turns_1 19 rfl rfl)
theorem dX5_turns_44 : decode cX5_turns 44 = .ok (.imul, 1) := dk_104 (dk_at dksX5_turns_1 20 rfl rfl)
theorem dX5_turns_45 : decode cX5_turns 45 = .ok (.istore 6, 2) := dk_54 6 (dk_at dksX5_turns_1 21 rfl rfl)
theorem dX5_turns_47 : decode cX5_turns 47 = .ok (.iload 6, 2) := dk_21 6 (dk_at dksX5_turns_2 0 rfl rfl)
theorem dX5_turns_49 : decode cX5_turns 49 = .ok (.bipush 16, 2) := dk_16 16 (dk_at dksX5_turns_2 2 rfl rfl)
theorem dX5_turns_51 : decode cX5_turns 51 = .ok (.iconst 1, 1) := dk_4 (dk_at dksX5_turns_2 4 rfl rfl)
theorem dX5_turns_52 : decode cX5_turns 52 = .ok (.iload_n 1, 1) := dk_27 (dk_at dksX5_turns_2 5 rfl rfl)
theorem dX5_turns_53 : decode cX5_turns 53 = .ok (.iadd, 1) := dk_96 (dk_at dksX5_turns_2 6 rfl rfl)
theorem dX5_turns_54 : decode cX5_turns 54 = .ok (.imul, 1) := dk_104 (dk_at dksX5_turns_2 7 rfl rfl)
theorem dX5_turns_55 : decode cX5_turns 55 = .ok (.aload_n 0, 1) := dk_42 (dk_at dksX5_turns_2 8 rfl rfl)
theorem dX5_turns_56 : decode cX5_turns 56 = .ok (.getfield 44, 3) := dk_180 0 44 (dk_at dksX5_turns_2 9 rfl rfl)
theorem dX5_turns_59 : decode cX5_turns 59 = .ok (.iconst 1, 1) := dk_4 (dk_at dksX5_turns_2 12 rfl rfl)
theorem dX5_turns_60 : decode cX5_turns 60 = .ok (.iload_n 1, 1) := dk_27 (dk_at dksX5_turns_2 13 rfl rfl)
theorem dX5_turns_61 : decode cX5_turns 61 = .ok (.iadd, 1) := dk_96 (dk_at dksX5_turns_2 14 rfl rfl)
theorem dX5_turns_62 : decode cX5_turns 62 = .ok (.iaload, 1) := dk_46 (dk_at dksX5_turns_2 15 rfl rfl)
theorem dX5_turns_63 : decode cX5_turns 63 = .ok (.iadd, 1) := dk_96 (dk_at dksX5_turns_2 16 rfl rfl)
theorem dX5_turns_64 : decode cX5_turns 64 = .ok (.if_icmp .ge 41, 3) := dk_162 0 41 (dk_at dksX5_turns_2 17 rfl rfl)
theorem dX5_turns_67 : decode cX5_turns 67 = .ok (.iload 5, 2) := dk_21 5 (dk_at dksX5_turns_2 20 rfl rfl)
theorem dX5_turns_69 : decode cX5_turns 69 = .ok (.ifCond .ge 36, 3) := dk_156 0 36 (dk_at dksX5_turns_3 0 rfl rfl)
theorem dX5_turns_72 : decode cX5_turns 72 = .ok (.aload_n 0, 1) := dk_42 (dk_at dksX5_turns_3 3 rfl rfl)
theorem dX5_turns_73 : decode cX5_turns 73 = .ok (.getfield 47, 3) := dk_180 0 47 (dk_at dksX5_turns_3 4 rfl rfl)
theorem dX5_turns_76 : decode cX5_turns 76 = .ok (.iload 6, 2) := dk_21 6 (dk_at dksX5_turns_3 7 rfl rfl)
theorem dX5_turns_78 : decode cX5_turns 78 = .ok (.iaload, 1) := dk_46 (dk_at dksX5_turns_3 9 rfl rfl)
theorem dX5_turns_79 : decode cX5_turns 79 = .ok (.iconst 5, 1) := dk_8 (dk_at dksX5_turns_3 10 rfl rfl)
theorem dX5_turns_80 : decode cX5_turns 80 = .ok (.if_icmp .ne 19, 3) := dk_160 0 19 (dk_at dksX5_turns_3 11 rfl rfl)
theorem dX5_turns_83 : decode cX5_turns 83 = .ok (.aload_n 0, 1) := dk_42 (dk_at dksX5_turns_3 14 rfl rfl)
theorem dX5_turns_84 : decode cX5_turns 84 = .ok (.getfield 50, 3) := dk_180 0 50 (dk_at dksX5_turns_3 15 rfl rfl)
theorem dX5_turns_87 : decode cX5_turns 87 = .ok (.iload 6, 2) := dk_21 6 (dk_at dksX5_turns_3 18 rfl rfl)
theorem dX5_turns_89 : decode cX5_turns 89 = .ok (.iaload, 1) := dk_46 (dk_at dksX5_turns_3 20 rfl rfl)
theorem dX5_turns_90 : decode cX5_turns 90 = .ok (.bipush 6, 2) := dk_16 6 (dk_at dksX5_turns_3 21 rfl rfl)
theorem dX5_turns_92 : decode cX5_turns 92 = .ok (.if_icmp .ne 7, 3) := dk_160 0 7 (dk_at dksX5_turns_4 0 rfl rfl)
theorem dX5_turns_95 : decode cX5_turns 95 = .ok (.iload 6, 2) := dk_21 6 (dk_at dksX5_turns_4 3 rfl rfl)
theorem dX5_turns_97 : decode cX5_turns 97 = .ok (.istore 5, 2) := dk_54 5 (dk_at dksX5_turns_4 5 rfl rfl)
theorem dX5_turns_99 : decode cX5_turns 99 = .ok (.iinc 6 1, 3) := dk_132 6 1 (dk_at dksX5_turns_4 7 rfl rfl)
theorem dX5_turns_102 : decode cX5_turns 102 = .ok (.goto (-55), 3) := dk_167 255 201 (dk_at dksX5_turns_4 10 rfl rfl)
theorem dX5_turns_105 : decode cX5_turns 105 = .ok (.iload 5, 2) := dk_21 5 (dk_at dksX5_turns_4 13 rfl rfl)
theorem dX5_turns_107 : decode cX5_turns 107 = .ok (.ifCond .ge 5, 3) := dk_156 0 5 (dk_at dksX5_turns_4 15 rfl rfl)
theorem dX5_turns_110 : decode cX5_turns 110 = .ok (.iconst (-1), 1) := dk_2 (dk_at dksX5_turns_4 18 rfl rfl)
theorem dX5_turns_111 : decode cX5_turns 111 = .ok (.ireturn, 1) := dk_172 (dk_at dksX5_turns_4 19 rfl rfl)
theorem dX5_turns_112 : decode cX5_turns 112 = .ok (.aload_n 0, 1) := dk_42 (dk_at dksX5_turns_4 20 rfl rfl)
theorem dX5_turns_113 : decode cX5_turns 113 = .ok (.getfield 53, 3) := dk_180 0 53 (dk_at dksX5_turns_4 21 rfl rfl)
theorem dX5_turns_116 : decode cX5_turns 116 = .ok (.iload 5, 2) := dk_21 5 (dk_at dksX5_turns_5 0 rfl rfl)
theorem dX5_turns_118 : decode cX5_turns 118 = .ok (.iaload, 1) := dk_46 (dk_at dksX5_turns_5 2 rfl rfl)
theorem dX5_turns_119 : decode cX5_turns 119 = .ok (.istore 6, 2) := dk_54 6 (dk_at dksX5_turns_5 3 rfl rfl)
theorem dX5_turns_121 : decode cX5_turns 121 = .ok (.iconst (-1), 1) := dk_2 (dk_at dksX5_turns_5 5 rfl rfl)
theorem dX5_turns_122 : decode cX5_turns 122 = .ok (.istore 7, 2) := dk_54 7 (dk_at dksX5_turns_5 6 rfl rfl)
theorem dX5_turns_124 : decode cX5_turns 124 = .ok (.iconst 0, 1) := dk_3 (dk_at dksX5_turns_5 8 rfl rfl)
theorem dX5_turns_125 : decode cX5_turns 125 = .ok (.istore 8, 2) := dk_54 8 (dk_at dksX5_turns_5 9 rfl rfl)
theorem dX5_turns_127 : decode cX5_turns 127 = .ok (.iload 8, 2) := dk_21 8 (dk_at dksX5_turns_5 11 rfl rfl)
theorem dX5_turns_129 : decode cX5_turns 129 = .ok (.bipush 10, 2) := dk_16 10 (dk_at dksX5_turns_5 13 rfl rfl)
theorem dX5_turns_131 : decode cX5_turns 131 = .ok (.if_icmp .ge 64, 3) := dk_162 0 64 (dk_at dksX5_turns_5 15 rfl rfl)
theorem dX5_turns_134 : decode cX5_turns 134 = .ok (.iload 7, 2) := dk_21 7 (dk_at dksX5_turns_5 18 rfl rfl)
theorem dX5_turns_136 : decode cX5_turns 136 = .ok (.ifCond .ge 59, 3) := dk_156 0 59 (dk_at dksX5_turns_5 20 rfl rfl)
theorem dX5_turns_139 : decode cX5_turns 139 = .ok (.aload_n 0, 1) := dk_42 (dk_at dksX5_turns_5 23 rfl rfl)
theorem dX5_turns_140 : decode cX5_turns 140 = .ok (.getfield 53, 3) := dk_180 0 53 (dk_at dksX5_turns_6 0 rfl rfl)
theorem dX5_turns_143 : decode cX5_turns 143 = .ok (.iload 5, 2) := dk_21 5 (dk_at dksX5_turns_6 3 rfl rfl)
theorem dX5_turns_145 : decode cX5_turns 145 = .ok (.iload 8, 2) := dk_21 8 (dk_at dksX5_turns_6 5 rfl rfl)
theorem dX5_turns_147 : decode cX5_turns 147 = .ok (.iastore, 1) := dk_79 (dk_at dksX5_turns_6 7 rfl rfl)
theorem dX5_turns_148 : decode cX5_turns 148 = .ok (.aload_n 0, 1) := dk_42 (dk_at dksX5_turns_6 8 rfl rfl)
theorem dX5_turns_149 : decode cX5_turns 149 = .ok (.invokevirtual 445, 3) := dk_182 1 189 (dk_at dksX5_turns_6 9 rfl rfl)
theorem dX5_turns_152 : decode cX5_turns 152 = .ok (.iconst 0, 1) := dk_3 (dk_at dksX5_turns_6 12 rfl rfl)
theorem dX5_turns_153 : decode cX5_turns 153 = .ok (.istore 9, 2) := dk_54 9 (dk_at dksX5_turns_6 13 rfl rfl)
theorem dX5_turns_155 : decode cX5_turns 155 = .ok (.iload 9, 2) := dk_21 9 (dk_at dksX5_turns_6 15 rfl rfl)
theorem dX5_turns_157 : decode cX5_turns 157 = .ok (.iload_n 2, 1) := dk_28 (dk_at dksX5_turns_6 17 rfl rfl)
theorem dX5_turns_158 : decode cX5_turns 158 = .ok (.if_icmp .ge 14, 3) := dk_162 0 14 (dk_at dksX5_turns_6 18 rfl rfl)
theorem dX5_turns_161 : decode cX5_turns 161 = .ok (.aload_n 0, 1) := dk_42 (dk_at dksX5_turns_6 21 rfl rfl)
theorem dX5_turns_162 : decode cX5_turns 162 = .ok (.iload_n 3, 1) := dk_29 (dk_at dksX5_turns_6 22 rfl rfl)
theorem dX5_turns_163 : decode cX5_turns 163 = .ok (.invokevirtual 452, 3) := dk_182 1 196 (dk_at dksX5_turns_7 0 rfl rfl)
theorem dX5_turns_166 : decode cX5_turns 166 = .ok (.iinc 9 1, 3) := dk_132 9 1 (dk_at dksX5_turns_7 3 rfl rfl)
theorem dX5_turns_169 : decode cX5_turns 169 = .ok (.goto (-14), 3) := dk_167 255 242 (dk_at dksX5_turns_7 6 rfl rfl)
theorem dX5_turns_172 : decode cX5_turns 172 = .ok (.aload_n 0, 1) := dk_42 (dk_at dksX5_turns_7 9 rfl rfl)
theorem dX5_turns_173 : decode cX5_turns 173 = .ok (.invokevirtual 429, 3) := dk_182 1 173 (dk_at dksX5_turns_7 10 rfl rfl)
theorem dX5_turns_176 : decode cX5_turns 176 = .ok (.iload 4, 2) := dk_21 4 (dk_at dksX5_turns_7 13 rfl rfl)
theorem dX5_turns_178 : decode cX5_turns 178 = .ok (.if_icmp .gt 7, 3) := dk_163 0 7 (dk_at dksX5_turns_7 15 rfl rfl)
theorem dX5_turns_181 : decode cX5_turns 181 = .ok (.iload 8, 2) := dk_21 8 (dk_at dksX5_turns_7 18 rfl rfl)
theorem dX5_turns_183 : decode cX5_turns 183 = .ok (.istore 7, 2) := dk_54 7 (dk_at dksX5_turns_7 20 rfl rfl)
theorem dX5_turns_185 : decode cX5_turns 185 = .ok (.aload_n 0, 1) := dk_42 (dk_at dksX5_turns_7 22 rfl rfl)
theorem dX5_turns_186 : decode cX5_turns 186 = .ok (.invokevirtual 459, 3) := dk_182 1 203 (dk_at dksX5_turns_8 0 rfl rfl)
theorem dX5_turns_189 : decode cX5_turns 189 = .ok (.iinc 8 1, 3) := dk_132 8 1 (dk_at dksX5_turns_8 3 rfl rfl)
theorem dX5_turns_192 : decode cX5_turns 192 = .ok (.goto (-65), 3) := dk_167 255 191 (dk_at dksX5_turns_8 6 rfl rfl)
theorem dX5_turns_195 : decode cX5_turns 195 = .ok (.aload_n 0, 1) := dk_42 (dk_at dksX5_turns_8 9 rfl rfl)
theorem dX5_turns_196 : decode cX5_turns 196 = .ok (.getfield 53, 3) := dk_180 0 53 (dk_at dksX5_turns_8 10 rfl rfl)
theorem dX5_turns_199 : decode cX5_turns 199 = .ok (.iload 5, 2) := dk_21 5 (dk_at dksX5_turns_8 13 rfl rfl)
theorem dX5_turns_201 : decode cX5_turns 201 = .ok (.iload 6, 2) := dk_21 6 (dk_at dksX5_turns_8 15 rfl rfl)
theorem dX5_turns_203 : decode cX5_turns 203 = .ok (.iastore, 1) := dk_79 (dk_at dksX5_turns_8 17 rfl rfl)
theorem dX5_turns_204 : decode cX5_turns 204 = .ok (.iload 7, 2) := dk_21 7 (dk_at dksX5_turns_8 18 rfl rfl)
theorem dX5_turns_206 : decode cX5_turns 206 = .ok (.ireturn, 1) := dk_172 (dk_at dksX5_turns_8 20 rfl rfl)
abbrev cX5_paved : ByteArray := prog_12_method_98_code
def yX5_paved : MethodName := ⟨RX5, "paved", "(IIII)I"⟩
def dkwX5_paved_3 : List UInt8 := [42, 180, 1, 220, 167, 0, 7, 42, 180, 1, 223, 172]
abbrev dktX5_paved_3 : List UInt8 := dkwX5_paved_3 ++ []
def dkwX5_paved_2 : List UInt8 := [27, 28, 29, 182, 1, 226, 21, 4, 154, 0, 10, 42, 180, 1, 217, 167, 0, 20, 21, 4, 4, 160, 0, 10]
abbrev dktX5_paved_2 : List UInt8 := dkwX5_paved_2 ++ dktX5_paved_3
def dkwX5_paved_1 : List UInt8 := [29, 4, 17, 0, 200, 184, 0, 132, 153, 0, 13, 21, 4, 3, 5, 184, 0, 132, 154, 0, 5, 2, 172, 42]
abbrev dktX5_paved_1 : List UInt8 := dkwX5_paved_1 ++ dktX5_paved_2
def dkwX5_paved_0 : List UInt8 := [42, 3, 181, 0, 1, 28, 4, 16, 20, 184, 0, 132, 153, 0, 33, 27, 4, 28, 184, 0, 132, 153, 0, 24]
abbrev dktX5_paved_0 : List UInt8 := dkwX5_paved_0 ++ dktX5_paved_1
theorem dksX5_paved_0 : cX5_paved.data.toList.drop 0 = dktX5_paved_0 := by decide +kernel
theorem dksX5_paved_1 : cX5_paved.data.toList.drop 24 = dktX5_paved_1 := dk_seg dksX5_paved_0 24 rfl rfl
theorem dksX5_paved_2 : cX5_paved.data.toList.drop 48 = dktX5_paved_2 := dk_seg dksX5_paved_1 24 rfl rfl
theorem dksX5_paved_3 : cX5_paved.data.toList.drop 72 = dktX5_paved_3 := dk_seg dksX5_paved_2 24 rfl rfl
theorem dX5_paved_0 : decode cX5_paved 0 = .ok (.aload_n 0, 1) := dk_42 (dk_at dksX5_paved_0 0 rfl rfl)
theorem dX5_paved_1 : decode cX5_paved 1 = .ok (.iconst 0, 1) := dk_3 (dk_at dksX5_paved_0 1 rfl rfl)
theorem dX5_paved_2 : decode cX5_paved 2 = .ok (.putfield 1, 3) := dk_181 0 1 (dk_at dksX5_paved_0 2 rfl rfl)
theorem dX5_paved_5 : decode cX5_paved 5 = .ok (.iload_n 2, 1) := dk_28 (dk_at dksX5_paved_0 5 rfl rfl)
theorem dX5_paved_6 : decode cX5_paved 6 = .ok (.iconst 1, 1) := dk_4 (dk_at dksX5_paved_0 6 rfl rfl)
theorem dX5_paved_7 : decode cX5_paved 7 = .ok (.bipush 20, 2) := dk_16 20 (dk_at dksX5_paved_0 7 rfl rfl)
theorem dX5_paved_9 : decode cX5_paved 9 = .ok (.invokestatic 132, 3) := dk_184 0 132 (dk_at dksX5_paved_0 9 rfl rfl)
theorem dX5_paved_12 : decode cX5_paved 12 = .ok (.ifCond .eq 33, 3) := dk_153 0 33 (dk_at dksX5_paved_0 12 rfl rfl)
theorem dX5_paved_15 : decode cX5_paved 15 = .ok (.iload_n 1, 1) := dk_27 (dk_at dksX5_paved_0 15 rfl rfl)
theorem dX5_paved_16 : decode cX5_paved 16 = .ok (.iconst 1, 1) := dk_4 (dk_at dksX5_paved_0 16 rfl rfl)
theorem dX5_paved_17 : decode cX5_paved 17 = .ok (.iload_n 2, 1) := dk_28 (dk_at dksX5_paved_0 17 rfl rfl)
theorem dX5_paved_18 : decode cX5_paved 18 = .ok (.invokestatic 132, 3) := dk_184 0 132 (dk_at dksX5_paved_0 18 rfl rfl)
theorem dX5_paved_21 : decode cX5_paved 21 = .ok (.ifCond .eq 24, 3) := dk_153 0 24 (dk_at dksX5_paved_0 21 rfl rfl)
theorem dX5_paved_24 : decode cX5_paved 24 = .ok (.iload_n 3, 1) := dk_29 (dk_at dksX5_paved_1 0 rfl rfl)
theorem dX5_paved_25 : decode cX5_paved 25 = .ok (.iconst 1, 1) := dk_4 (dk_at dksX5_paved_1 1 rfl rfl)
theorem dX5_paved_26 : decode cX5_paved 26 = .ok (.sipush 200, 3) := dk_17 0 200 (dk_at dksX5_paved_1 2 rfl rfl)
theorem dX5_paved_29 : decode cX5_paved 29 = .ok (.invokestatic 132, 3) := dk_184 0 132 (dk_at dksX5_paved_1 5 rfl rfl)
theorem dX5_paved_32 : decode cX5_paved 32 = .ok (.ifCond .eq 13, 3) := dk_153 0 13 (dk_at dksX5_paved_1 8 rfl rfl)
theorem dX5_paved_35 : decode cX5_paved 35 = .ok (.iload 4, 2) := dk_21 4 (dk_at dksX5_paved_1 11 rfl rfl)
theorem dX5_paved_37 : decode cX5_paved 37 = .ok (.iconst 0, 1) := dk_3 (dk_at dksX5_paved_1 13 rfl rfl)
theorem dX5_paved_38 : decode cX5_paved 38 = .ok (.iconst 2, 1) := dk_5 (dk_at dksX5_paved_1 14 rfl rfl)
theorem dX5_paved_39 : decode cX5_paved 39 = .ok (.invokestatic 132, 3) := dk_184 0 132 (dk_at dksX5_paved_1 15 rfl rfl)
theorem dX5_paved_42 : decode cX5_paved 42 = .ok (.ifCond .ne 5, 3) := dk_154 0 5 (dk_at dksX5_paved_1 18 rfl rfl)
theorem dX5_paved_45 : decode cX5_paved 45 = .ok (.iconst (-1), 1) := dk_2 (dk_at dksX5_paved_1 21 rfl rfl)
theorem dX5_paved_46 : decode cX5_paved 46 = .ok (.ireturn, 1) := dk_172 (dk_at dksX5_paved_1 22 rfl rfl)
theorem dX5_paved_47 : decode cX5_paved 47 = .ok (.aload_n 0, 1) := dk_42 (dk_at dksX5_paved_1 23 rfl rfl)
theorem dX5_paved_48 : decode cX5_paved 48 = .ok (.iload_n 1, 1) := dk_27 (dk_at dksX5_paved_2 0 rfl rfl)
theorem dX5_paved_49 : decode cX5_paved 49 = .ok (.iload_n 2, 1) := dk_28 (dk_at dksX5_paved_2 1 rfl rfl)
theorem dX5_paved_50 : decode cX5_paved 50 = .ok (.iload_n 3, 1) := dk_29 (dk_at dksX5_paved_2 2 rfl rfl)
theorem dX5_paved_51 : decode cX5_paved 51 = .ok (.invokevirtual 482, 3) := dk_182 1 226 (dk_at dksX5_paved_2 3 rfl rfl)
theorem dX5_paved_54 : decode cX5_paved 54 = .ok (.iload 4, 2) := dk_21 4 (dk_at dksX5_paved_2 6 rfl rfl)
theorem dX5_paved_56 : decode cX5_paved 56 = .ok (.ifCond .ne 10, 3) := dk_154 0 10 (dk_at dksX5_paved_2 8 rfl rfl)
theorem dX5_paved_59 : decode cX5_paved 59 = .ok (.aload_n 0, 1) := dk_42 (dk_at dksX5_paved_2 11 rfl rfl)
theorem dX5_paved_60 : decode cX5_paved 60 = .ok (.getfield 473, 3) := dk_180 1 217 (dk_at dksX5_paved_2 12 rfl rfl)
theorem dX5_paved_63 : decode cX5_paved 63 = .ok (.goto 20, 3) := dk_167 0 20 (dk_at dksX5_paved_2 15 rfl rfl)
theorem dX5_paved_66 : decode cX5_paved 66 = .ok (.iload 4, 2) := dk_21 4 (dk_at dksX5_paved_2 18 rfl rfl)
theorem dX5_paved_68 : decode cX5_paved 68 = .ok (.iconst 1, 1) := dk_4 (dk_at dksX5_paved_2 20 rfl rfl)
theorem dX5_paved_69 : decode cX5_paved 69 = .ok (.if_icmp .ne 10, 3) := dk_160 0 10 (dk_at dksX5_paved_2 21 rfl rfl)
theorem dX5_paved_72 : decode cX5_paved 72 = .ok (.aload_n 0, 1) := dk_42 (dk_at dksX5_paved_3 0 rfl rfl)
theorem dX5_paved_73 : decode cX5_paved 73 = .ok (.getfield 476, 3) := dk_180 1 220 (dk_at dksX5_paved_3 1 rfl rfl)
theorem dX5_paved_76 : decode cX5_paved 76 = .ok (.goto 7, 3) := dk_167 0 7 (dk_at dksX5_paved_3 4 rfl rfl)
theorem dX5_paved_79 : decode cX5_paved 79 = .ok (.aload_n 0, 1) := dk_42 (dk_at dksX5_paved_3 7 rfl rfl)
theorem dX5_paved_80 : decode cX5_paved 80 = .ok (.getfield 479, 3) := dk_180 1 223 (dk_at dksX5_paved_3 8 rfl rfl)
theorem dX5_paved_83 : decode cX5_paved 83 = .ok (.ireturn, 1) := dk_172 (dk_at dksX5_paved_3 11 rfl rfl)
abbrev cX5_pave : ByteArray := prog_12_method_97_code
def yX5_pave : MethodName := ⟨RX5, "pave", "(III)V"⟩
def dkwX5_pave_7 : List UInt8 := [132, 4, 1, 167, 255, 152, 42, 182, 1, 203, 177]
abbrev dktX5_pave_7 : List UInt8 := dkwX5_pave_7 ++ []
def dkwX5_pave_6 : List UInt8 := [51, 153, 0, 17, 42, 180, 0, 98, 21, 4, 51, 154, 0, 7, 4, 167, 0, 4, 3, 96, 181, 1, 223]
abbrev dktX5_pave_6 : List UInt8 := dkwX5_pave_6 ++ dktX5_pave_7
def dkwX5_pave_5 : List UInt8 := [51, 154, 0, 7, 4, 167, 0, 4, 3, 96, 181, 1, 220, 42, 89, 180, 1, 223, 42, 180, 0, 95, 21, 4]
abbrev dktX5_pave_5 : List UInt8 := dkwX5_pave_5 ++ dktX5_pave_6
def dkwX5_pave_4 : List UInt8 := [181, 1, 217, 42, 89, 180, 1, 220, 42, 180, 0, 98, 21, 4, 51, 153, 0, 17, 42, 180, 0, 95, 21, 4]
abbrev dktX5_pave_4 : List UInt8 := dkwX5_pave_4 ++ dktX5_pave_5
def dkwX5_pave_3 : List UInt8 := [162, 0, 101, 42, 89, 180, 1, 217, 42, 180, 0, 98, 21, 4, 51, 153, 0, 7, 4, 167, 0, 4, 3, 96]
abbrev dktX5_pave_3 : List UInt8 := dkwX5_pave_3 ++ dktX5_pave_4
def dkwX5_pave_2 : List UInt8 := [181, 1, 217, 42, 3, 181, 1, 220, 42, 3, 181, 1, 223, 3, 54, 4, 21, 4, 42, 182, 0, 128]
abbrev dktX5_pave_2 : List UInt8 := dkwX5_pave_2 ++ dktX5_pave_3
def dkwX5_pave_1 : List UInt8 := [42, 42, 180, 0, 98, 182, 1, 192, 132, 4, 1, 167, 255, 228, 42, 42, 180, 0, 95, 182, 1, 192, 42, 3]
abbrev dktX5_pave_1 : List UInt8 := dkwX5_pave_1 ++ dktX5_pave_2
def dkwX5_pave_0 : List UInt8 := [42, 182, 1, 189, 4, 54, 4, 21, 4, 28, 163, 0, 28, 42, 29, 182, 1, 196, 21, 4, 27, 160, 0, 11]
abbrev dktX5_pave_0 : List UInt8 := dkwX5_pave_0 ++ dktX5_pave_1
theorem dksX5_pave_0 : cX5_pave.data.toList.drop 0 = dktX5_pave_0 := by decide +kernel
theorem dksX5_pave_1 : cX5_pave.data.toList.drop 24 = dktX5_pave_1 := dk_seg dksX5_pave_0 24 rfl rfl
theorem dksX5_pave_2 : cX5_pave.data.toList.drop 48 = dktX5_pave_2 := dk_seg dksX5_pave_1 24 rfl rfl
theorem dksX5_pave_3 : cX5_pave.data.toList.drop 70 = dktX5_pave_3 := dk_seg dksX5_pave_2 22 rfl rfl
theorem dksX5_pave_4 : cX5_pave.data.toList.drop 94 = dktX5_pave_4 := dk_seg dksX5_pave_3 24 rfl rfl
theorem dksX5_pave_5 : cX5_pave.data.toList.drop 118 = dktX5_pave_5 := dk_seg dksX5_pave_4 24 rfl rfl
theorem dksX5_pave_6 : cX5_pave.data.toList.drop 142 = dktX5_pave_6 := dk_seg dksX5_pave_5 24 rfl rfl
theorem dksX5_pave_7 : cX5_pave.data.toList.drop 165 = dktX5_pave_7 := dk_seg dksX5_pave_6 23 rfl rfl
theorem dX5_pave_0 : decode cX5_pave 0 = .ok (.aload_n 0, 1) := dk_42 (dk_at dksX5_pave_0 0 rfl rfl)
theorem dX5_pave_1 : decode cX5_pave 1 = .ok (.invokevirtual 445, 3) := dk_182 1 189 (dk_at dksX5_pave_0 1 rfl rfl)
theorem dX5_pave_4 : decode cX5_pave 4 = .ok (.iconst 1, 1) := dk_4 (dk_at dksX5_pave_0 4 rfl rfl)
theorem dX5_pave_5 : decode cX5_pave 5 = .ok (.istore 4, 2) := dk_54 4 (dk_at dksX5_pave_0 5 rfl rfl)
theorem dX5_pave_7 : decode cX5_pave 7 = .ok (.iload 4, 2) := dk_21 4 (dk_at dksX5_pave_0 7 rfl rfl)
theorem dX5_pave_9 : decode cX5_pave 9 = .ok (.iload_n 2, 1) := dk_28 (dk_at dksX5_pave_0 9 rfl rfl)
theorem dX5_pave_10 : decode cX5_pave 10 = .ok (.if_icmp .gt 28, 3) := dk_163 0 28 (dk_at dksX5_pave_0 10 rfl rfl)
theorem dX5_pave_13 : decode cX5_pave 13 = .ok (.aload_n 0, 1) := dk_42 (dk_at dksX5_pave_0 13 rfl rfl)
theorem dX5_pave_14 : decode cX5_pave 14 = .ok (.iload_n 3, 1) := dk_29 (dk_at dksX5_pave_0 14 rfl rfl)
theorem dX5_pave_15 : decode cX5_pave 15 = .ok (.invokevirtual 452, 3) := dk_182 1 196 (dk_at dksX5_pave_0 15 rfl rfl)
theorem dX5_pave_18 : decode cX5_pave 18 = .ok (.iload 4, 2) := dk_21 4 (dk_at dksX5_pave_0 18 rfl rfl)
theorem dX5_pave_20 : decode cX5_pave 20 = .ok (.iload_n 1, 1) := dk_27 (dk_at dksX5_pave_0 20 rfl rfl)
theorem dX5_pave_21 : decode cX5_pave 21 = .ok (.if_icmp .ne 11, 3) := dk_160 0 11 (dk_at dksX5_pave_0 21 rfl rfl)
theorem dX5_pave_24 : decode cX5_pave 24 = .ok (.aload_n 0, 1) := dk_42 (dk_at dksX5_pave_1 0 rfl rfl)
theorem dX5_pave_25 : decode cX5_pave 25 = .ok (.aload_n 0, 1) := dk_42 (dk_at dksX5_pave_1 1 rfl rfl)
theorem dX5_pave_26 : decode cX5_pave 26 = .ok (.getfield 98, 3) := dk_180 0 98 (dk_at dksX5_pave_1 2 rfl rfl)
theorem dX5_pave_29 : decode cX5_pave 29 = .ok (.invokevirtual 448, 3) := dk_182 1 192 (dk_at dksX5_pave_1 5 rfl rfl)
theorem dX5_pave_32 : decode cX5_pave 32 = .ok (.iinc 4 1, 3) := dk_132 4 1 (dk_at dksX5_pave_1 8 rfl rfl)
theorem dX5_pave_35 : decode cX5_pave 35 = .ok (.goto (-28), 3) := dk_167 255 228 (dk_at dksX5_pave_1 11 rfl rfl)
theorem dX5_pave_38 : decode cX5_pave 38 = .ok (.aload_n 0, 1) := dk_42 (dk_at dksX5_pave_1 14 rfl rfl)
theorem dX5_pave_39 : decode cX5_pave 39 = .ok (.aload_n 0, 1) := dk_42 (dk_at dksX5_pave_1 15 rfl rfl)
theorem dX5_pave_40 : decode cX5_pave 40 = .ok (.getfield 95, 3) := dk_180 0 95 (dk_at dksX5_pave_1 16 rfl rfl)
theorem dX5_pave_43 : decode cX5_pave 43 = .ok (.invokevirtual 448, 3) := dk_182 1 192 (dk_at dksX5_pave_1 19 rfl rfl)
theorem dX5_pave_46 : decode cX5_pave 46 = .ok (.aload_n 0, 1) := dk_42 (dk_at dksX5_pave_1 22 rfl rfl)
theorem dX5_pave_47 : decode cX5_pave 47 = .ok (.iconst 0, 1) := dk_3 (dk_at dksX5_pave_1 23 rfl rfl)
theorem dX5_pave_48 : decode cX5_pave 48 = .ok (.putfield 473, 3) := dk_181 1 217 (dk_at dksX5_pave_2 0 rfl rfl)
theorem dX5_pave_51 : decode cX5_pave 51 = .ok (.aload_n 0, 1) := dk_42 (dk_at dksX5_pave_2 3 rfl rfl)
theorem dX5_pave_52 : decode cX5_pave 52 = .ok (.iconst 0, 1) := dk_3 (dk_at dksX5_pave_2 4 rfl rfl)
theorem dX5_pave_53 : decode cX5_pave 53 = .ok (.putfield 476, 3) := dk_181 1 220 (dk_at dksX5_pave_2 5 rfl rfl)
theorem dX5_pave_56 : decode cX5_pave 56 = .ok (.aload_n 0, 1) := dk_42 (dk_at dksX5_pave_2 8 rfl rfl)
theorem dX5_pave_57 : decode cX5_pave 57 = .ok (.iconst 0, 1) := dk_3 (dk_at dksX5_pave_2 9 rfl rfl)
theorem dX5_pave_58 : decode cX5_pave 58 = .ok (.putfield 479, 3) := dk_181 1 223 (dk_at dksX5_pave_2 10 rfl rfl)
theorem dX5_pave_61 : decode cX5_pave 61 = .ok (.iconst 0, 1) := dk_3 (dk_at dksX5_pave_2 13 rfl rfl)
theorem dX5_pave_62 : decode cX5_pave 62 = .ok (.istore 4, 2) := dk_54 4 (dk_at dksX5_pave_2 14 rfl rfl)
theorem dX5_pave_64 : decode cX5_pave 64 = .ok (.iload 4, 2) := dk_21 4 (dk_at dksX5_pave_2 16 rfl rfl)
theorem dX5_pave_66 : decode cX5_pave 66 = .ok (.aload_n 0, 1) := dk_42 (dk_at dksX5_pave_2 18 rfl rfl)
theorem dX5_pave_67 : decode cX5_pave 67 = .ok (.invokevirtual 128, 3) := dk_182 0 128 (dk_at dksX5_pave_2 19 rfl rfl)
theorem dX5_pave_70 : decode cX5_pave 70 = .ok (.if_icmp .ge 101, 3) := dk_162 0 101 (dk_at dksX5_pave_3 0 rfl rfl)
theorem dX5_pave_73 : decode cX5_pave 73 = .ok (.aload_n 0, 1) := dk_42 (dk_at dksX5_pave_3 3 rfl rfl)
theorem dX5_pave_74 : decode cX5_pave 74 = .ok (.dup, 1) := dk_89 (dk_at dksX5_pave_3 4 rfl rfl)
theorem dX5_pave_75 : decode cX5_pave 75 = .ok (.getfield 473, 3) := dk_180 1 217 (dk_at dksX5_pave_3 5 rfl rfl)
theorem dX5_pave_78 : decode cX5_pave 78 = .ok (.aload_n 0, 1) := dk_42 (dk_at dksX5_pave_3 8 rfl rfl)
theorem dX5_pave_79 : decode cX5_pave 79 = .ok (.getfield 98, 3) := dk_180 0 98 (dk_at dksX5_pave_3 9 rfl rfl)
theorem dX5_pave_82 : decode cX5_pave 82 = .ok (.iload 4, 2) := dk_21 4 (dk_at dksX5_pave_3 12 rfl rfl)
theorem dX5_pave_84 : decode cX5_pave 84 = .ok (.baload, 1) := dk_51 (dk_at dksX5_pave_3 14 rfl rfl)
theorem dX5_pave_85 : decode cX5_pave 85 = .ok (.ifCond .eq 7, 3) := dk_153 0 7 (dk_at dksX5_pave_3 15 rfl rfl)
theorem dX5_pave_88 : decode cX5_pave 88 = .ok (.iconst 1, 1) := dk_4 (dk_at dksX5_pave_3 18 rfl rfl)
theorem dX5_pave_89 : decode cX5_pave 89 = .ok (.goto 4, 3) := dk_167 0 4 (dk_at dksX5_pave_3 19 rfl rfl)
theorem dX5_pave_92 : decode cX5_pave 92 = .ok (.iconst 0, 1) := dk_3 (dk_at dksX5_pave_3 22 rfl rfl)
theorem dX5_pave_93 : decode cX5_pave 93 = .ok (.iadd, 1) := dk_96 (dk_at dksX5_pave_3 23 rfl rfl)
theorem dX5_pave_94 : decode cX5_pave 94 = .ok (.putfield 473, 3) := dk_181 1 217 (dk_at dksX5_pave_4 0 rfl rfl)
theorem dX5_pave_97 : decode cX5_pave 97 = .ok (.aload_n 0, 1) := dk_42 (dk_at dksX5_pave_4 3 rfl rfl)
theorem dX5_pave_98 : decode cX5_pave 98 = .ok (.dup, 1) := dk_89 (dk_at dksX5_pave_4 4 rfl rfl)
theorem dX5_pave_99 : decode cX5_pave 99 = .ok (.getfield 476, 3) := dk_180 1 220 (dk_at dksX5_pave_4 5 rfl rfl)
theorem dX5_pave_102 : decode cX5_pave 102 = .ok (.aload_n 0, 1) := dk_42 (dk_at dksX5_pave_4 8 rfl rfl)
theorem dX5_pave_103 : decode cX5_pave 103 = .ok (.getfield 98, 3) := dk_180 0 98 (dk_at dksX5_pave_4 9 rfl rfl)
theorem dX5_pave_106 : decode cX5_pave 106 = .ok (.iload 4, 2) := dk_21 4 (dk_at dksX5_pave_4 12 rfl rfl)
theorem dX5_pave_108 : decode cX5_pave 108 = .ok (.baload, 1) := dk_51 (dk_at dksX5_pave_4 14 rfl rfl)
theorem dX5_pave_109 : decode cX5_pave 109 = .ok (.ifCond .eq 17, 3) := dk_153 0 17 (dk_at dksX5_pave_4 15 rfl rfl)
theorem dX5_pave_112 : decode cX5_pave 112 = .ok (.aload_n 0, 1) := dk_42 (dk_at dksX5_pave_4 18 rfl rfl)
theorem dX5_pave_113 : decode cX5_pave 113 = .ok (.getfield 95, 3) := dk_180 0 95 (dk_at dksX5_pave_4 19 rfl rfl)
theorem dX5_pave_116 : decode cX5_pave 116 = .ok (.iload 4, 2) := dk_21 4 (dk_at dksX5_pave_4 22 rfl rfl)
theorem dX5_pave_118 : decode cX5_pave 118 = .ok (.baload, 1) := dk_51 (dk_at dksX5_pave_5 0 rfl rfl)
theorem dX5_pave_119 : decode cX5_pave 119 = .ok (.ifCond .ne 7, 3) := dk_154 0 7 (dk_at dksX5_pave_5 1 rfl rfl)
theorem dX5_pave_122 : decode cX5_pave 122 = .ok (.iconst 1, 1) := dk_4 (dk_at dksX5_pave_5 4 rfl rfl)
theorem dX5_pave_123 : decode cX5_pave 123 = .ok (.goto 4, 3) := dk_167 0 4 (dk_at dksX5_pave_5 5 rfl rfl)
theorem dX5_pave_126 : decode cX5_pave 126 = .ok (.iconst 0, 1) := dk_3 (dk_at dksX5_pave_5 8 rfl rfl)
theorem dX5_pave_127 : decode cX5_pave 127 = .ok (.iadd, 1) := dk_96 (dk_at dksX5_pave_5 9 rfl rfl)
theorem dX5_pave_128 : decode cX5_pave 128 = .ok (.putfield 476, 3) := dk_181 1 220 (dk_at dksX5_pave_5 10 rfl rfl)
theorem dX5_pave_131 : decode cX5_pave 131 = .ok (.aload_n 0, 1) := dk_42 (dk_at dksX5_pave_5 13 rfl rfl)
theorem dX5_pave_132 : decode cX5_pave 132 = .ok (.dup, 1) := dk_89 (dk_at dksX5_pave_5 14 rfl rfl)
theorem dX5_pave_133 : decode cX5_pave 133 = .ok (.getfield 479, 3) := dk_180 1 223 (dk_at dksX5_pave_5 15 rfl rfl)
theorem dX5_pave_136 : decode cX5_pave 136 = .ok (.aload_n 0, 1) := dk_42 (dk_at dksX5_pave_5 18 rfl rfl)
theorem dX5_pave_137 : decode cX5_pave 137 = .ok (.getfield 95, 3) := dk_180 0 95 (dk_at dksX5_pave_5 19 rfl rfl)
theorem dX5_pave_140 : decode cX5_pave 140 = .ok (.iload 4, 2) := dk_21 4 (dk_at dksX5_pave_5 22 rfl rfl)
theorem dX5_pave_142 : decode cX5_pave 142 = .ok (.baload, 1) := dk_51 (dk_at dksX5_pave_6 0 rfl rfl)
theorem dX5_pave_143 : decode cX5_pave 143 = .ok (.ifCond .eq 17, 3) := dk_153 0 17 (dk_at dksX5_pave_6 1 rfl rfl)
theorem dX5_pave_146 : decode cX5_pave 146 = .ok (.aload_n 0, 1) := dk_42 (dk_at dksX5_pave_6 4 rfl rfl)
theorem dX5_pave_147 : decode cX5_pave 147 = .ok (.getfield 98, 3) := dk_180 0 98 (dk_at dksX5_pave_6 5 rfl rfl)
theorem dX5_pave_150 : decode cX5_pave 150 = .ok (.iload 4, 2) := dk_21 4 (dk_at dksX5_pave_6 8 rfl rfl)
theorem dX5_pave_152 : decode cX5_pave 152 = .ok (.baload, 1) := dk_51 (dk_at dksX5_pave_6 10 rfl rfl)
theorem dX5_pave_153 : decode cX5_pave 153 = .ok (.ifCond .ne 7, 3) := dk_154 0 7 (dk_at dksX5_pave_6 11 rfl rfl)
theorem dX5_pave_156 : decode cX5_pave 156 = .ok (.iconst 1, 1) := dk_4 (dk_at dksX5_pave_6 14 rfl rfl)
theorem dX5_pave_157 : decode cX5_pave 157 = .ok (.goto 4, 3) := dk_167 0 4 (dk_at dksX5_pave_6 15 rfl rfl)
theorem dX5_pave_160 : decode cX5_pave 160 = .ok (.iconst 0, 1) := dk_3 (dk_at dksX5_pave_6 18 rfl rfl)
theorem dX5_pave_161 : decode cX5_pave 161 = .ok (.iadd, 1) := dk_96 (dk_at dksX5_pave_6 19 rfl rfl)
theorem dX5_pave_162 : decode cX5_pave 162 = .ok (.putfield 479, 3) := dk_181 1 223 (dk_at dksX5_pave_6 20 rfl rfl)
theorem dX5_pave_165 : decode cX5_pave 165 = .ok (.iinc 4 1, 3) := dk_132 4 1 (dk_at dksX5_pave_7 0 rfl rfl)
theorem dX5_pave_168 : decode cX5_pave 168 = .ok (.goto (-104), 3) := dk_167 255 152 (dk_at dksX5_pave_7 3 rfl rfl)
theorem dX5_pave_171 : decode cX5_pave 171 = .ok (.aload_n 0, 1) := dk_42 (dk_at dksX5_pave_7 6 rfl rfl)
theorem dX5_pave_172 : decode cX5_pave 172 = .ok (.invokevirtual 459, 3) := dk_182 1 203 (dk_at dksX5_pave_7 7 rfl rfl)
theorem dX5_pave_175 : decode cX5_pave 175 = .ok (.return_, 1) := dk_177 (dk_at dksX5_pave_7 10 rfl rfl)
abbrev cX5_wait : ByteArray := prog_12_method_99_code
def yX5_wait : MethodName := ⟨RX5, "wait", "(II)I"⟩
def dkwX5_wait_3 : List UInt8 := [21, 4, 161, 0, 6, 167, 0, 10, 21, 6, 54, 4, 21, 5, 62, 132, 5, 1, 167, 255, 204, 29, 172]
abbrev dktX5_wait_3 : List UInt8 := dkwX5_wait_3 ++ []
def dkwX5_wait_2 : List UInt8 := [182, 1, 226, 42, 180, 1, 220, 42, 180, 1, 223, 96, 21, 5, 96, 54, 6, 29, 155, 0, 13, 21, 6]
abbrev dktX5_wait_2 : List UInt8 := dkwX5_wait_2 ++ dktX5_wait_3
def dkwX5_wait_1 : List UInt8 := [154, 0, 5, 2, 172, 2, 62, 3, 54, 4, 4, 54, 5, 21, 5, 27, 163, 0, 52, 42, 21, 5, 27, 28]
abbrev dktX5_wait_1 : List UInt8 := dkwX5_wait_1 ++ dktX5_wait_2
def dkwX5_wait_0 : List UInt8 := [42, 3, 181, 0, 1, 27, 4, 16, 20, 184, 0, 132, 153, 0, 14, 28, 4, 17, 0, 200, 184, 0, 132]
abbrev dktX5_wait_0 : List UInt8 := dkwX5_wait_0 ++ dktX5_wait_1
theorem dksX5_wait_0 : cX5_wait.data.toList.drop 0 = dktX5_wait_0 := by decide +kernel
theorem dksX5_wait_1 : cX5_wait.data.toList.drop 23 = dktX5_wait_1 := dk_seg dksX5_wait_0 23 rfl rfl
theorem dksX5_wait_2 : cX5_wait.data.toList.drop 47 = dktX5_wait_2 := dk_seg dksX5_wait_1 24 rfl rfl
theorem dksX5_wait_3 : cX5_wait.data.toList.drop 70 = dktX5_wait_3 := dk_seg dksX5_wait_2 23 rfl rfl
theorem dX5_wait_0 : decode cX5_wait 0 = .ok (.aload_n 0, 1) := dk_42 (dk_at dksX5_wait_0 0 rfl rfl)
theorem dX5_wait_1 : decode cX5_wait 1 = .ok (.iconst 0, 1) := dk_3 (dk_at dksX5_wait_0 1 rfl rfl)
theorem dX5_wait_2 : decode cX5_wait 2 = .ok (.putfield 1, 3) := dk_181 0 1 (dk_at dksX5_wait_0 2 rfl rfl)
theorem dX5_wait_5 : decode cX5_wait 5 = .ok (.iload_n 1, 1) := dk_27 (dk_at dksX5_wait_0 5 rfl rfl)
theorem dX5_wait_6 : decode cX5_wait 6 = .ok (.iconst 1, 1) := dk_4 (dk_at dksX5_wait_0 6 rfl rfl)
theorem dX5_wait_7 : decode cX5_wait 7 = .ok (.bipush 20, 2) := dk_16 20 (dk_at dksX5_wait_0 7 rfl rfl)
theorem dX5_wait_9 : decode cX5_wait 9 = .ok (.invokestatic 132, 3) := dk_184 0 132 (dk_at dksX5_wait_0 9 rfl rfl)
theorem dX5_wait_12 : decode cX5_wait 12 = .ok (.ifCond .eq 14, 3) := dk_153 0 14 (dk_at dksX5_wait_0 12 rfl rfl)
theorem dX5_wait_15 : decode cX5_wait 15 = .ok (.iload_n 2, 1) := dk_28 (dk_at dksX5_wait_0 15 rfl rfl)
theorem dX5_wait_16 : decode cX5_wait 16 = .ok (.iconst 1, 1) := dk_4 (dk_at dksX5_wait_0 16 rfl rfl)
theorem dX5_wait_17 : decode cX5_wait 17 = .ok (.sipush 200, 3) := dk_17 0 200 (dk_at dksX5_wait_0 17 rfl rfl)
theorem dX5_wait_20 : decode cX5_wait 20 = .ok (.invokestatic 132, 3) := dk_184 0 132 (dk_at dksX5_wait_0 20 rfl rfl)
theorem dX5_wait_23 : decode cX5_wait 23 = .ok (.ifCond .ne 5, 3) := dk_154 0 5 (dk_at dksX5_wait_1 0 rfl rfl)
theorem dX5_wait_26 : decode cX5_wait 26 = .ok (.iconst (-1), 1) := dk_2 (dk_at dksX5_wait_1 3 rfl rfl)
theorem dX5_wait_27 : decode cX5_wait 27 = .ok (.ireturn, 1) := dk_172 (dk_at dksX5_wait_1 4 rfl rfl)
theorem dX5_wait_28 : decode cX5_wait 28 = .ok (.iconst (-1), 1) := dk_2 (dk_at dksX5_wait_1 5 rfl rfl)
theorem dX5_wait_29 : decode cX5_wait 29 = .ok (.istore_n 3, 1) := dk_62 (dk_at dksX5_wait_1 6 rfl rfl)
theorem dX5_wait_30 : decode cX5_wait 30 = .ok (.iconst 0, 1) := dk_3 (dk_at dksX5_wait_1 7 rfl rfl)
theorem dX5_wait_31 : decode cX5_wait 31 = .ok (.istore 4, 2) := dk_54 4 (dk_at dksX5_wait_1 8 rfl rfl)
theorem dX5_wait_33 : decode cX5_wait 33 = .ok (.iconst 1, 1) := dk_4 (dk_at dksX5_wait_1 10 rfl rfl)
theorem dX5_wait_34 : decode cX5_wait 34 = .ok (.istore 5, 2) := dk_54 5 (dk_at dksX5_wait_1 11 rfl rfl)
theorem dX5_wait_36 : decode cX5_wait 36 = .ok (.iload 5, 2) := dk_21 5 (dk_at dksX5_wait_1 13 rfl rfl)
theorem dX5_wait_38 : decode cX5_wait 38 = .ok (.iload_n 1, 1) := dk_27 (dk_at dksX5_wait_1 15 rfl rfl)
theorem dX5_wait_39 : decode cX5_wait 39 = .ok (.if_icmp .gt 52, 3) := dk_163 0 52 (dk_at dksX5_wait_1 16 rfl rfl)
theorem dX5_wait_42 : decode cX5_wait 42 = .ok (.aload_n 0, 1) := dk_42 (dk_at dksX5_wait_1 19 rfl rfl)
theorem dX5_wait_43 : decode cX5_wait 43 = .ok (.iload 5, 2) := dk_21 5 (dk_at dksX5_wait_1 20 rfl rfl)
theorem dX5_wait_45 : decode cX5_wait 45 = .ok (.iload_n 1, 1) := dk_27 (dk_at dksX5_wait_1 22 rfl rfl)
theorem dX5_wait_46 : decode cX5_wait 46 = .ok (.iload_n 2, 1) := dk_28 (dk_at dksX5_wait_1 23 rfl rfl)
theorem dX5_wait_47 : decode cX5_wait 47 = .ok (.invokevirtual 482, 3) := dk_182 1 226 (dk_at dksX5_wait_2 0 rfl rfl)
theorem dX5_wait_50 : decode cX5_wait 50 = .ok (.aload_n 0, 1) := dk_42 (dk_at dksX5_wait_2 3 rfl rfl)
theorem dX5_wait_51 : decode cX5_wait 51 = .ok (.getfield 476, 3) := dk_180 1 220 (dk_at dksX5_wait_2 4 rfl rfl)
theorem dX5_wait_54 : decode cX5_wait 54 = .ok (.aload_n 0, 1) := dk_42 (dk_at dksX5_wait_2 7 rfl rfl)
theorem dX5_wait_55 : decode cX5_wait 55 = .ok (.getfield 479, 3) := dk_180 1 223 (dk_at dksX5_wait_2 8 rfl rfl)
theorem dX5_wait_58 : decode cX5_wait 58 = .ok (.iadd, 1) := dk_96 (dk_at dksX5_wait_2 11 rfl rfl)
theorem dX5_wait_59 : decode cX5_wait 59 = .ok (.iload 5, 2) := dk_21 5 (dk_at dksX5_wait_2 12 rfl rfl)
theorem dX5_wait_61 : decode cX5_wait 61 = .ok (.iadd, 1) := dk_96 (dk_at dksX5_wait_2 14 rfl rfl)
theorem dX5_wait_62 : decode cX5_wait 62 = .ok (.istore 6, 2) := dk_54 6 (dk_at dksX5_wait_2 15 rfl rfl)
theorem dX5_wait_64 : decode cX5_wait 64 = .ok (.iload_n 3, 1) := dk_29 (dk_at dksX5_wait_2 17 rfl rfl)
theorem dX5_wait_65 : decode cX5_wait 65 = .ok (.ifCond .lt 13, 3) := dk_155 0 13 (dk_at dksX5_wait_2 18 rfl rfl)
theorem dX5_wait_68 : decode cX5_wait 68 = .ok (.iload 6, 2) := dk_21 6 (dk_at dksX5_wait_2 21 rfl rfl)
theorem dX5_wait_70 : decode cX5_wait 70 = .ok (.iload 4, 2) := dk_21 4 (dk_at dksX5_wait_3 0 rfl rfl)
theorem dX5_wait_72 : decode cX5_wait 72 = .ok (.if_icmp .lt 6, 3) := dk_161 0 6 (dk_at dksX5_wait_3 2 rfl rfl)
theorem dX5_wait_75 : decode cX5_wait 75 = .ok (.goto 10, 3) := dk_167 0 10 (dk_at dksX5_wait_3 5 rfl rfl)
theorem dX5_wait_78 : decode cX5_wait 78 = .ok (.iload 6, 2) := dk_21 6 (dk_at dksX5_wait_3 8 rfl rfl)
theorem dX5_wait_80 : decode cX5_wait 80 = .ok (.istore 4, 2) := dk_54 4 (dk_at dksX5_wait_3 10 rfl rfl)
theorem dX5_wait_82 : decode cX5_wait 82 = .ok (.iload 5, 2) := dk_21 5 (dk_at dksX5_wait_3 12 rfl rfl)
theorem dX5_wait_84 : decode cX5_wait 84 = .ok (.istore_n 3, 1) := dk_62 (dk_at dksX5_wait_3 14 rfl rfl)
theorem dX5_wait_85 : decode cX5_wait 85 = .ok (.iinc 5 1, 3) := dk_132 5 1 (dk_at dksX5_wait_3 15 rfl rfl)
theorem dX5_wait_88 : decode cX5_wait 88 = .ok (.goto (-52), 3) := dk_167 255 204 (dk_at dksX5_wait_3 18 rfl rfl)
theorem dX5_wait_91 : decode cX5_wait 91 = .ok (.iload_n 3, 1) := dk_29 (dk_at dksX5_wait_3 21 rfl rfl)
theorem dX5_wait_92 : decode cX5_wait 92 = .ok (.ireturn, 1) := dk_172 (dk_at dksX5_wait_3 22 rfl rfl)
abbrev cX5_fences : ByteArray := prog_12_method_102_code
def yX5_fences : MethodName := ⟨RX5, "fences", "(II)I"⟩
def dkwX5_fences_11 : List UInt8 := [132, 5, 1, 167, 255, 202, 132, 4, 1, 167, 255, 177, 42, 2, 181, 0, 86, 29, 172]
abbrev dktX5_fences_11 : List UInt8 := dkwX5_fences_11 ++ []
def dkwX5_fences_10 : List UInt8 := [182, 1, 232, 154, 0, 21, 42, 5, 42, 21, 4, 182, 0, 147, 42, 21, 5, 182, 0, 147, 182, 1, 235, 62]
abbrev dktX5_fences_10 : List UInt8 := dkwX5_fences_10 ++ dktX5_fences_11
def dkwX5_fences_9 : List UInt8 := [180, 0, 18, 162, 0, 51, 29, 156, 0, 47, 42, 42, 21, 4, 182, 0, 147, 42, 21, 5, 182, 0, 147, 28]
abbrev dktX5_fences_9 : List UInt8 := dkwX5_fences_9 ++ dktX5_fences_10
def dkwX5_fences_8 : List UInt8 := [54, 4, 21, 4, 42, 180, 0, 18, 162, 0, 76, 29, 156, 0, 72, 21, 4, 4, 96, 54, 5, 21, 5, 42]
abbrev dktX5_fences_8 : List UInt8 := dkwX5_fences_8 ++ dktX5_fences_9
def dkwX5_fences_7 : List UInt8 := [154, 0, 16, 42, 4, 42, 21, 4, 182, 0, 147, 2, 182, 1, 235, 62, 132, 4, 1, 167, 255, 212, 3]
abbrev dktX5_fences_7 : List UInt8 := dkwX5_fences_7 ++ dktX5_fences_8
def dkwX5_fences_6 : List UInt8 := [180, 0, 18, 162, 0, 41, 29, 156, 0, 37, 42, 42, 21, 4, 182, 0, 147, 2, 28, 182, 1, 232]
abbrev dktX5_fences_6 : List UInt8 := dkwX5_fences_6 ++ dktX5_fences_7
def dkwX5_fences_5 : List UInt8 := [182, 1, 232, 153, 0, 7, 2, 167, 0, 10, 42, 3, 2, 2, 182, 1, 235, 62, 3, 54, 4, 21, 4, 42]
abbrev dktX5_fences_5 : List UInt8 := dkwX5_fences_5 ++ dktX5_fences_6
def dkwX5_fences_4 : List UInt8 := [182, 1, 176, 153, 0, 6, 16, 254, 172, 132, 3, 1, 167, 255, 194, 42, 27, 181, 0, 86, 42, 2, 2, 28]
abbrev dktX5_fences_4 : List UInt8 := dkwX5_fences_4 ++ dktX5_fences_5
def dkwX5_fences_3 : List UInt8 := [182, 0, 158, 153, 0, 27, 42, 42, 29, 182, 0, 147, 182, 0, 161, 154, 0, 15, 42, 42, 29, 182, 0, 147]
abbrev dktX5_fences_3 : List UInt8 := dkwX5_fences_3 ++ dktX5_fences_4
def dkwX5_fences_2 : List UInt8 := [180, 0, 18, 162, 0, 60, 42, 42, 29, 182, 0, 147, 182, 0, 155, 153, 0, 39, 42, 42, 29, 182, 0, 147]
abbrev dktX5_fences_2 : List UInt8 := dkwX5_fences_2 ++ dktX5_fences_3
def dkwX5_fences_1 : List UInt8 := [153, 0, 16, 42, 180, 0, 18, 4, 16, 12, 184, 0, 132, 154, 0, 6, 16, 254, 172, 3, 62, 29, 42]
abbrev dktX5_fences_1 : List UInt8 := dkwX5_fences_1 ++ dktX5_fences_2
def dkwX5_fences_0 : List UInt8 := [42, 3, 181, 0, 1, 42, 182, 0, 144, 42, 27, 182, 0, 155, 153, 0, 26, 28, 4, 16, 100, 184, 0, 132]
abbrev dktX5_fences_0 : List UInt8 := dkwX5_fences_0 ++ dktX5_fences_1
theorem dksX5_fences_0 : cX5_fences.data.toList.drop 0 = dktX5_fences_0 := by decide +kernel
theorem dksX5_fences_1 : cX5_fences.data.toList.drop 24 = dktX5_fences_1 := dk_seg dksX5_fences_0 24 rfl rfl
theorem dksX5_fences_2 : cX5_fences.data.toList.drop 47 = dktX5_fences_2 := dk_seg dksX5_fences_1 23 rfl rfl
theorem dksX5_fences_3 : cX5_fences.data.toList.drop 71 = dktX5_fences_3 := dk_seg dksX5_fences_2 24 rfl rfl
theorem dksX5_fences_4 : cX5_fences.data.toList.drop 95 = dktX5_fences_4 := dk_seg dksX5_fences_3 24 rfl rfl
theorem dksX5_fences_5 : cX5_fences.data.toList.drop 119 = dktX5_fences_5 := dk_seg dksX5_fences_4 24 rfl rfl
theorem dksX5_fences_6 : cX5_fences.data.toList.drop 143 = dktX5_fences_6 := dk_seg dksX5_fences_5 24 rfl rfl
theorem dksX5_fences_7 : cX5_fences.data.toList.drop 165 = dktX5_fences_7 := dk_seg dksX5_fences_6 22 rfl rfl
theorem dksX5_fences_8 : cX5_fences.data.toList.drop 188 = dktX5_fences_8 := dk_seg dksX5_fences_7 23 rfl rfl
theorem dksX5_fences_9 : cX5_fences.data.toList.drop 212 = dktX5_fences_9 := dk_seg dksX5_fences_8 24 rfl rfl
theorem dksX5_fences_10 : cX5_fences.data.toList.drop 236 = dktX5_fences_10 := dk_seg dksX5_fences_9 24 rfl rfl
theorem dksX5_fences_11 : cX5_fences.data.toList.drop 260 = dktX5_fences_11 := dk_seg dksX5_fences_10 24 rfl rfl
theorem dX5_fences_0 : decode cX5_fences 0 = .ok (.aload_n 0, 1) := dk_42 (dk_at dksX5_fences_0 0 rfl rfl)
theorem dX5_fences_1 : decode cX5_fences 1 = .ok (.iconst 0, 1) := dk_3 (dk_at dksX5_fences_0 1 rfl rfl)
theorem dX5_fences_2 : decode cX5_fences 2 = .ok (.putfield 1, 3) := dk_181 0 1 (dk_at dksX5_fences_0 2 rfl rfl)
theorem dX5_fences_5 : decode cX5_fences 5 = .ok (.aload_n 0, 1) := dk_42 (dk_at dksX5_fences_0 5 rfl rfl)
theorem dX5_fences_6 : decode cX5_fences 6 = .ok (.invokevirtual 144, 3) := dk_182 0 144 (dk_at dksX5_fences_0 6 rfl rfl)
theorem dX5_fences_9 : decode cX5_fences 9 = .ok (.aload_n 0, 1) := dk_42 (dk_at dksX5_fences_0 9 rfl rfl)
theorem dX5_fences_10 : decode cX5_fences 10 = .ok (.iload_n 1, 1) := dk_27 (dk_at dksX5_fences_0 10 rfl rfl)
theorem dX5_fences_11 : decode cX5_fences 11 = .ok (.invokevirtual 155, 3) := dk_182 0 155 (dk_at dksX5_fences_0 11 rfl rfl)
theorem dX5_fences_14 : decode cX5_fences 14 = .ok (.ifCond .eq 26, 3) := dk_153 0 26 (dk_at dksX5_fences_0 14 rfl rfl)
theorem dX5_fences_17 : decode cX5_fences 17 = .ok (.iload_n 2, 1) := dk_28 (dk_at dksX5_fences_0 17 rfl rfl)
theorem dX5_fences_18 : decode cX5_fences 18 = .ok (.iconst 1, 1) := dk_4 (dk_at dksX5_fences_0 18 rfl rfl)
theorem dX5_fences_19 : decode cX5_fences 19 = .ok (.bipush 100, 2) := dk_16 100 (dk_at dksX5_fences_0 19 rfl rfl)
theorem dX5_fences_21 : decode cX5_fences 21 = .ok (.invokestatic 132, 3) := dk_184 0 132 (dk_at dksX5_fences_0 21 rfl rfl)
theorem dX5_fences_24 : decode cX5_fences 24 = .ok (.ifCond .eq 16, 3) := dk_153 0 16 (dk_at dksX5_fences_1 0 rfl rfl)
theorem dX5_fences_27 : decode cX5_fences 27 = .ok (.aload_n 0, 1) := dk_42 (dk_at dksX5_fences_1 3 rfl rfl)
theorem dX5_fences_28 : decode cX5_fences 28 = .ok (.getfield 18, 3) := dk_180 0 18 (dk_at dksX5_fences_1 4 rfl rfl)
theorem dX5_fences_31 : decode cX5_fences 31 = .ok (.iconst 1, 1) := dk_4 (dk_at dksX5_fences_1 7 rfl rfl)
theorem dX5_fences_32 : decode cX5_fences 32 = .ok (.bipush 12, 2) := dk_16 12 (dk_at dksX5_fences_1 8 rfl rfl)
theorem dX5_fences_34 : decode cX5_fences 34 = .ok (.invokestatic 132, 3) := dk_184 0 132 (dk_at dksX5_fences_1 10 rfl rfl)
theorem dX5_fences_37 : decode cX5_fences 37 = .ok (.ifCond .ne 6, 3) := dk_154 0 6 (dk_at dksX5_fences_1 13 rfl rfl)
theorem dX5_fences_40 : decode cX5_fences 40 = .ok (.bipush (-2), 2) := dk_16 254 (dk_at dksX5_fences_1 16 rfl rfl)
theorem dX5_fences_42 : decode cX5_fences 42 = .ok (.ireturn, 1) := dk_172 (dk_at dksX5_fences_1 18 rfl rfl)
theorem dX5_fences_43 : decode cX5_fences 43 = .ok (.iconst 0, 1) := dk_3 (dk_at dksX5_fences_1 19 rfl rfl)
theorem dX5_fences_44 : decode cX5_fences 44 = .ok (.istore_n 3, 1) := dk_62 (dk_at dksX5_fences_1 20 rfl rfl)
theorem dX5_fences_45 : decode cX5_fences 45 = .ok (.iload_n 3, 1) := dk_29 (dk_at dksX5_fences_1 21 rfl rfl)
theorem dX5_fences_46 : decode cX5_fences 46 = .ok (.aload_n 0, 1) := dk_42 (dk_at dksX5_fences_1 22 rfl rfl)
theorem dX5_fences_47 : decode cX5_fences 47 = .ok (.getfield 18, 3) := dk_180 0 18 (dk_at dksX5_fences_2 0 rfl rfl)
theorem dX5_fences_50 : decode cX5_fences 50 = .ok (.if_icmp .ge 60, 3) := dk_162 0 60 (dk_at dksX5_fences_2 3 rfl rfl)
theorem dX5_fences_53 : decode cX5_fences 53 = .ok (.aload_n 0, 1) := dk_42 (dk_at dksX5_fences_2 6 rfl rfl)
theorem dX5_fences_54 : decode cX5_fences 54 = .ok (.aload_n 0, 1) := dk_42 (dk_at dksX5_fences_2 7 rfl rfl)
theorem dX5_fences_55 : decode cX5_fences 55 = .ok (.iload_n 3, 1) := dk_29 (dk_at dksX5_fences_2 8 rfl rfl)
theorem dX5_fences_56 : decode cX5_fences 56 = .ok (.invokevirtual 147, 3) := dk_182 0 147 (dk_at dksX5_fences_2 9 rfl rfl)
theorem dX5_fences_59 : decode cX5_fences 59 = .ok (.invokevirtual 155, 3) := dk_182 0 155 (dk_at dksX5_fences_2 12 rfl rfl)
theorem dX5_fences_62 : decode cX5_fences 62 = .ok (.ifCond .eq 39, 3) := dk_153 0 39 (dk_at dksX5_fences_2 15 rfl rfl)
theorem dX5_fences_65 : decode cX5_fences 65 = .ok (.aload_n 0, 1) := dk_42 (dk_at dksX5_fences_2 18 rfl rfl)
theorem dX5_fences_66 : decode cX5_fences 66 = .ok (.aload_n 0, 1) := dk_42 (dk_at dksX5_fences_2 19 rfl rfl)
theorem dX5_fences_67 : decode cX5_fences 67 = .ok (.iload_n 3, 1) := dk_29 (dk_at dksX5_fences_2 20 rfl rfl)
theorem dX5_fences_68 : decode cX5_fences 68 = .ok (.invokevirtual 147, 3) := dk_182 0 147 (dk_at dksX5_fences_2 21 rfl rfl)
theorem dX5_fences_71 : decode cX5_fences 71 = .ok (.invokevirtual 158, 3) := dk_182 0 158 (dk_at dksX5_fences_3 0 rfl rfl)
theorem dX5_fences_74 : decode cX5_fences 74 = .ok (.ifCond .eq 27, 3) := dk_153 0 27 (dk_at dksX5_fences_3 3 rfl rfl)
theorem dX5_fences_77 : decode cX5_fences 77 = .ok (.aload_n 0, 1) := dk_42 (dk_at dksX5_fences_3 6 rfl rfl)
theorem dX5_fences_78 : decode cX5_fences 78 = .ok (.aload_n 0, 1) := dk_42 (dk_at dksX5_fences_3 7 rfl rfl)
theorem dX5_fences_79 : decode cX5_fences 79 = .ok (.iload_n 3, 1) := dk_29 (dk_at dksX5_fences_3 8 rfl rfl)
theorem dX5_fences_80 : decode cX5_fences 80 = .ok (.invokevirtual 147, 3) := dk_182 0 147 (dk_at dksX5_fences_3 9 rfl rfl)
theorem dX5_fences_83 : decode cX5_fences 83 = .ok (.invokevirtual 161, 3) := dk_182 0 161 (dk_at dksX5_fences_3 12 rfl rfl)
theorem dX5_fences_86 : decode cX5_fences 86 = .ok (.ifCond .ne 15, 3) := dk_154 0 15 (dk_at dksX5_fences_3 15 rfl rfl)
theorem dX5_fences_89 : decode cX5_fences 89 = .ok (.aload_n 0, 1) := dk_42 (dk_at dksX5_fences_3 18 rfl rfl)
theorem dX5_fences_90 : decode cX5_fences 90 = .ok (.aload_n 0, 1) := dk_42 (dk_at dksX5_fences_3 19 rfl rfl)
theorem dX5_fences_91 : decode cX5_fences 91 = .ok (.iload_n 3, 1) := dk_29 (dk_at dksX5_fences_3 20 rfl rfl)
theorem dX5_fences_92 : decode cX5_fences 92 = .ok (.invokevirtual 147, 3) := dk_182 0 147 (dk_at dksX5_fences_3 21 rfl rfl)
theorem dX5_fences_95 : decode cX5_fences 95 = .ok (.invokevirtual 432, 3) := dk_182 1 176 (dk_at dksX5_fences_4 0 rfl rfl)
theorem dX5_fences_98 : decode cX5_fences 98 = .ok (.ifCond .eq 6, 3) := dk_153 0 6 (dk_at dksX5_fences_4 3 rfl rfl)
theorem dX5_fences_101 : decode cX5_fences 101 = .ok (.bipush (-2), 2) := dk_16 254 (dk_at dksX5_fences_4 6 rfl rfl)
theorem dX5_fences_103 : decode cX5_fences 103 = .ok (.ireturn, 1) := dk_172 (dk_at dksX5_fences_4 8 rfl rfl)
theorem dX5_fences_104 : decode cX5_fences 104 = .ok (.iinc 3 1, 3) := dk_132 3 1 (dk_at dksX5_fences_4 9 rfl rfl)
theorem dX5_fences_107 : decode cX5_fences 107 = .ok (.goto (-62), 3) := dk_167 255 194 (dk_at dksX5_fences_4 12 rfl rfl)
theorem dX5_fences_110 : decode cX5_fences 110 = .ok (.aload_n 0, 1) := dk_42 (dk_at dksX5_fences_4 15 rfl rfl)
theorem dX5_fences_111 : decode cX5_fences 111 = .ok (.iload_n 1, 1) := dk_27 (dk_at dksX5_fences_4 16 rfl rfl)
theorem dX5_fences_112 : decode cX5_fences 112 = .ok (.putfield 86, 3) := dk_181 0 86 (dk_at dksX5_fences_4 17 rfl rfl)
theorem dX5_fences_115 : decode cX5_fences 115 = .ok (.aload_n 0, 1) := dk_42 (dk_at dksX5_fences_4 20 rfl rfl)
theorem dX5_fences_116 : decode cX5_fences 116 = .ok (.iconst (-1), 1) := dk_2 (dk_at dksX5_fences_4 21 rfl rfl)
theorem dX5_fences_117 : decode cX5_fences 117 = .ok (.iconst (-1), 1) := dk_2 (dk_at dksX5_fences_4 22 rfl rfl)
theorem dX5_fences_118 : decode cX5_fences 118 = .ok (.iload_n 2, 1) := dk_28 (dk_at dksX5_fences_4 23 rfl rfl)
theorem dX5_fences_119 : decode cX5_fences 119 = .ok (.invokevirtual 488, 3) := dk_182 1 232 (dk_at dksX5_fences_5 0 rfl rfl)
theorem dX5_fences_122 : decode cX5_fences 122 = .ok (.ifCond .eq 7, 3) := dk_153 0 7 (dk_at dksX5_fences_5 3 rfl rfl)
theorem dX5_fences_125 : decode cX5_fences 125 = .ok (.iconst (-1), 1) := dk_2 (dk_at dksX5_fences_5 6 rfl rfl)
theorem dX5_fences_126 : decode cX5_fences 126 = .ok (.goto 10, 3) := dk_167 0 10 (dk_at dksX5_fences_5 7 rfl rfl)
theorem dX5_fences_129 : decode cX5_fences 129 = .ok (.aload_n 0, 1) := dk_42 (dk_at dksX5_fences_5 10 rfl rfl)
theorem dX5_fences_130 : decode cX5_fences 130 = .ok (.iconst 0, 1) := dk_3 (dk_at dksX5_fences_5 11 rfl rfl)
theorem dX5_fences_131 : decode cX5_fences 131 = .ok (.iconst (-1), 1) := dk_2 (dk_at dksX5_fences_5 12 rfl rfl)
theorem dX5_fences_132 : decode cX5_fences 132 = .ok (.iconst (-1), 1) := dk_2 (dk_at dksX5_fences_5 13 rfl rfl)
theorem dX5_fences_133 : decode cX5_fences 133 = .ok (.invokevirtual 491, 3) := dk_182 1 235 (dk_at dksX5_fences_5 14 rfl rfl)
theorem dX5_fences_136 : decode cX5_fences 136 = .ok (.istore_n 3, 1) := dk_62 (dk_at dksX5_fences_5 17 rfl rfl)
theorem dX5_fences_137 : decode cX5_fences 137 = .ok (.iconst 0, 1) := dk_3 (dk_at dksX5_fences_5 18 rfl rfl)
theorem dX5_fences_138 : decode cX5_fences 138 = .ok (.istore 4, 2) := dk_54 4 (dk_at dksX5_fences_5 19 rfl rfl)
theorem dX5_fences_140 : decode cX5_fences 140 = .ok (.iload 4, 2) := dk_21 4 (dk_at dksX5_fences_5 21 rfl rfl)
theorem dX5_fences_142 : decode cX5_fences 142 = .ok (.aload_n 0, 1) := dk_42 (dk_at dksX5_fences_5 23 rfl rfl)
theorem dX5_fences_143 : decode cX5_fences 143 = .ok (.getfield 18, 3) := dk_180 0 18 (dk_at dksX5_fences_6 0 rfl rfl)
theorem dX5_fences_146 : decode cX5_fences 146 = .ok (.if_icmp .ge 41, 3) := dk_162 0 41 (dk_at dksX5_fences_6 3 rfl rfl)
theorem dX5_fences_149 : decode cX5_fences 149 = .ok (.iload_n 3, 1) := dk_29 (dk_at dksX5_fences_6 6 rfl rfl)
theorem dX5_fences_150 : decode cX5_fences 150 = .ok (.ifCond .ge 37, 3) := dk_156 0 37 (dk_at dksX5_fences_6 7 rfl rfl)
theorem dX5_fences_153 : decode cX5_fences 153 = .ok (.aload_n 0, 1) := dk_42 (dk_at dksX5_fences_6 10 rfl rfl)
theorem dX5_fences_154 : decode cX5_fences 154 = .ok (.aload_n 0, 1) := dk_42 (dk_at dksX5_fences_6 11 rfl rfl)
theorem dX5_fences_155 : decode cX5_fences 155 = .ok (.iload 4, 2) := dk_21 4 (dk_at dksX5_fences_6 12 rfl rfl)
theorem dX5_fences_157 : decode cX5_fences 157 = .ok (.invokevirtual 147, 3) := dk_182 0 147 (dk_at dksX5_fences_6 14 rfl rfl)
theorem dX5_fences_160 : decode cX5_fences 160 = .ok (.iconst (-1), 1) := dk_2 (dk_at dksX5_fences_6 17 rfl rfl)
theorem dX5_fences_161 : decode cX5_fences 161 = .ok (.iload_n 2, 1) := dk_28 (dk_at dksX5_fences_6 18 rfl rfl)
theorem dX5_fences_162 : decode cX5_fences 162 = .ok (.invokevirtual 488, 3) := dk_182 1 232 (dk_at dksX5_fences_6 19 rfl rfl)
theorem dX5_fences_165 : decode cX5_fences 165 = .ok (.ifCond .ne 16, 3) := dk_154 0 16 (dk_at dksX5_fences_7 0 rfl rfl)
theorem dX5_fences_168 : decode cX5_fences 168 = .ok (.aload_n 0, 1) := dk_42 (dk_at dksX5_fences_7 3 rfl rfl)
theorem dX5_fences_169 : decode cX5_fences 169 = .ok (.iconst 1, 1) := dk_4 (dk_at dksX5_fences_7 4 rfl rfl)
theorem dX5_fences_170 : decode cX5_fences 170 = .ok (.aload_n 0, 1) := dk_42 (dk_at dksX5_fences_7 5 rfl rfl)
theorem dX5_fences_171 : decode cX5_fences 171 = .ok (.iload 4, 2) := dk_21 4 (dk_at dksX5_fences_7 6 rfl rfl)
theorem dX5_fences_173 : decode cX5_fences 173 = .ok (.invokevirtual 147, 3) := dk_182 0 147 (dk_at dksX5_fences_7 8 rfl rfl)
theorem dX5_fences_176 : decode cX5_fences 176 = .ok (.iconst (-1), 1) := dk_2 (dk_at dksX5_fences_7 11 rfl rfl)
theorem dX5_fences_177 : decode cX5_fences 177 = .ok (.invokevirtual 491, 3) := dk_182 1 235 (dk_at dksX5_fences_7 12 rfl rfl)
theorem dX5_fences_180 : decode cX5_fences 180 = .ok (.istore_n 3, 1) := dk_62 (dk_at dksX5_fences_7 15 rfl rfl)
theorem dX5_fences_181 : decode cX5_fences 181 = .ok (.iinc 4 1, 3) := dk_132 4 1 (dk_at dksX5_fences_7 16 rfl rfl)
theorem dX5_fences_184 : decode cX5_fences 184 = .ok (.goto (-44), 3) := dk_167 255 212 (dk_at dksX5_fences_7 19 rfl rfl)
theorem dX5_fences_187 : decode cX5_fences 187 = .ok (.iconst 0, 1) := dk_3 (dk_at dksX5_fences_7 22 rfl rfl)
theorem dX5_fences_188 : decode cX5_fences 188 = .ok (.istore 4, 2) := dk_54 4 (dk_at dksX5_fences_8 0 rfl rfl)
theorem dX5_fences_190 : decode cX5_fences 190 = .ok (.iload 4, 2) := dk_21 4 (dk_at dksX5_fences_8 2 rfl rfl)
theorem dX5_fences_192 : decode cX5_fences 192 = .ok (.aload_n 0, 1) := dk_42 (dk_at dksX5_fences_8 4 rfl rfl)
theorem dX5_fences_193 : decode cX5_fences 193 = .ok (.getfield 18, 3) := dk_180 0 18 (dk_at dksX5_fences_8 5 rfl rfl)
theorem dX5_fences_196 : decode cX5_fences 196 = .ok (.if_icmp .ge 76, 3) := dk_162 0 76 (dk_at dksX5_fences_8 8 rfl rfl)
theorem dX5_fences_199 : decode cX5_fences 199 = .ok (.iload_n 3, 1) := dk_29 (dk_at dksX5_fences_8 11 rfl rfl)
theorem dX5_fences_200 : decode cX5_fences 200 = .ok (.ifCond .ge 72, 3) := dk_156 0 72 (dk_at dksX5_fences_8 12 rfl rfl)
theorem dX5_fences_203 : decode cX5_fences 203 = .ok (.iload 4, 2) := dk_21 4 (dk_at dksX5_fences_8 15 rfl rfl)
theorem dX5_fences_205 : decode cX5_fences 205 = .ok (.iconst 1, 1) := dk_4 (dk_at dksX5_fences_8 17 rfl rfl)
theorem dX5_fences_206 : decode cX5_fences 206 = .ok (.iadd, 1) := dk_96 (dk_at dksX5_fences_8 18 rfl rfl)
theorem dX5_fences_207 : decode cX5_fences 207 = .ok (.istore 5, 2) := dk_54 5 (dk_at dksX5_fences_8 19 rfl rfl)
theorem dX5_fences_209 : decode cX5_fences 209 = .ok (.iload 5, 2) := dk_21 5 (dk_at dksX5_fences_8 21 rfl rfl)
theorem dX5_fences_211 : decode cX5_fences 211 = .ok (.aload_n 0, 1) := dk_42 (dk_at dksX5_fences_8 23 rfl rfl)
theorem dX5_fences_212 : decode cX5_fences 212 = .ok (.getfield 18, 3) := dk_180 0 18 (dk_at dksX5_fences_9 0 rfl rfl)
theorem dX5_fences_215 : decode cX5_fences 215 = .ok (.if_icmp .ge 51, 3) := dk_162 0 51 (dk_at dksX5_fences_9 3 rfl rfl)
theorem dX5_fences_218 : decode cX5_fences 218 = .ok (.iload_n 3, 1) := dk_29 (dk_at dksX5_fences_9 6 rfl rfl)
theorem dX5_fences_219 : decode cX5_fences 219 = .ok (.ifCond .ge 47, 3) := dk_156 0 47 (dk_at dksX5_fences_9 7 rfl rfl)
theorem dX5_fences_222 : decode cX5_fences 222 = .ok (.aload_n 0, 1) := dk_42 (dk_at dksX5_fences_9 10 rfl rfl)
theorem dX5_fences_223 : decode cX5_fences 223 = .ok (.aload_n 0, 1) := dk_42 (dk_at dksX5_fences_9 11 rfl rfl)
theorem dX5_fences_224 : decode cX5_fences 224 = .ok (.iload 4, 2) := dk_21 4 (dk_at dksX5_fences_9 12 rfl rfl)
theorem dX5_fences_226 : decode cX5_fences 226 = .ok (.invokevirtual 147, 3) := dk_182 0 147 (dk_at dksX5_fences_9 14 rfl rfl)
theorem dX5_fences_229 : decode cX5_fences 229 = .ok (.aload_n 0, 1) := dk_42 (dk_at dksX5_fences_9 17 rfl rfl)
theorem dX5_fences_230 : decode cX5_fences 230 = .ok (.iload 5, 2) := dk_21 5 (dk_at dksX5_fences_9 18 rfl rfl)
theorem dX5_fences_232 : decode cX5_fences 232 = .ok (.invokevirtual 147, 3) := dk_182 0 147 (dk_at dksX5_fences_9 20 rfl rfl)
theorem dX5_fences_235 : decode cX5_fences 235 = .ok (.iload_n 2, 1) := dk_28 (dk_at dksX5_fences_9 23 rfl rfl)
theorem dX5_fences_236 : decode cX5_fences 236 = .ok (.invokevirtual 488, 3) := dk_182 1 232 (dk_at dksX5_fences_10 0 rfl rfl)
theorem dX5_fences_239 : decode cX5_fences 239 = .ok (.ifCond .ne 21, 3) := dk_154 0 21 (dk_at dksX5_fences_10 3 rfl rfl)
theorem dX5_fences_242 : decode cX5_fences 242 = .ok (.aload_n 0, 1) := dk_42 (dk_at dksX5_fences_10 6 rfl rfl)
theorem dX5_fences_243 : decode cX5_fences 243 = .ok (.iconst 2, 1) := dk_5 (dk_at dksX5_fences_10 7 rfl rfl)
theorem dX5_fences_244 : decode cX5_fences 244 = .ok (.aload_n 0, 1) := dk_42 (dk_at dksX5_fences_10 8 rfl rfl)
theorem dX5_fences_245 : decode cX5_fences 245 = .ok (.iload 4, 2) := dk_21 4 (dk_at dksX5_fences_10 9 rfl rfl)
theorem dX5_fences_247 : decode cX5_fences 247 = .ok (.invokevirtual 147, 3) := dk_182 0 147 (dk_at dksX5_fences_10 11 rfl rfl)
theorem dX5_fences_250 : decode cX5_fences 250 = .ok (.aload_n 0, 1) := dk_42 (dk_at dksX5_fences_10 14 rfl rfl)
theorem dX5_fences_251 : decode cX5_fences 251 = .ok (.iload 5, 2) := dk_21 5 (dk_at dksX5_fences_10 15 rfl rfl)
theorem dX5_fences_253 : decode cX5_fences 253 = .ok (.invokevirtual 147, 3) := dk_182 0 147 (dk_at dksX5_fences_10 17 rfl rfl)
theorem dX5_fences_256 : decode cX5_fences 256 = .ok (.invokevirtual 491, 3) := dk_182 1 235 (dk_at dksX5_fences_10 20 rfl rfl)
theorem dX5_fences_259 : decode cX5_fences 259 = .ok (.istore_n 3, 1) := dk_62 (dk_at dksX5_fences_10 23 rfl rfl)
theorem dX5_fences_260 : decode cX5_fences 260 = .ok (.iinc 5 1, 3) := dk_132 5 1 (dk_at dksX5_fences_11 0 rfl rfl)
theorem dX5_fences_263 : decode cX5_fences 263 = .ok (.goto (-54), 3) := dk_167 255 202 (dk_at dksX5_fences_11 3 rfl rfl)
theorem dX5_fences_266 : decode cX5_fences 266 = .ok (.iinc 4 1, 3) := dk_132 4 1 (dk_at dksX5_fences_11 6 rfl rfl)
theorem dX5_fences_269 : decode cX5_fences 269 = .ok (.goto (-79), 3) := dk_167 255 177 (dk_at dksX5_fences_11 9 rfl rfl)
theorem dX5_fences_272 : decode cX5_fences 272 = .ok (.aload_n 0, 1) := dk_42 (dk_at dksX5_fences_11 12 rfl rfl)
theorem dX5_fences_273 : decode cX5_fences 273 = .ok (.iconst (-1), 1) := dk_2 (dk_at dksX5_fences_11 13 rfl rfl)
theorem dX5_fences_274 : decode cX5_fences 274 = .ok (.putfield 86, 3) := dk_181 0 86 (dk_at dksX5_fences_11 14 rfl rfl)
theorem dX5_fences_277 : decode cX5_fences 277 = .ok (.iload_n 3, 1) := dk_29 (dk_at dksX5_fences_11 17 rfl rfl)
theorem dX5_fences_278 : decode cX5_fences 278 = .ok (.ireturn, 1) := dk_172 (dk_at dksX5_fences_11 18 rfl rfl)
abbrev cX5_isTrod : ByteArray := prog_12_method_100_code
def yX5_isTrod : MethodName := ⟨RX5, "isTrod", "(III)Z"⟩
def dkwX5_isTrod_2 : List UInt8 := [42, 182, 1, 167, 132, 4, 1, 167, 255, 236, 42, 182, 1, 203, 42, 180, 1, 149, 172]
abbrev dktX5_isTrod_2 : List UInt8 := dkwX5_isTrod_2 ++ []
def dkwX5_isTrod_1 : List UInt8 := [182, 1, 179, 42, 3, 181, 1, 149, 3, 54, 4, 21, 4, 29, 162, 0, 20, 42, 180, 1, 149, 154, 0, 13]
abbrev dktX5_isTrod_1 : List UInt8 := dkwX5_isTrod_1 ++ dktX5_isTrod_2
def dkwX5_isTrod_0 : List UInt8 := [42, 182, 1, 189, 27, 155, 0, 10, 42, 27, 16, 6, 182, 1, 179, 28, 155, 0, 10, 42, 28, 16, 6]
abbrev dktX5_isTrod_0 : List UInt8 := dkwX5_isTrod_0 ++ dktX5_isTrod_1
theorem dksX5_isTrod_0 : cX5_isTrod.data.toList.drop 0 = dktX5_isTrod_0 := by decide +kernel
theorem dksX5_isTrod_1 : cX5_isTrod.data.toList.drop 23 = dktX5_isTrod_1 := dk_seg dksX5_isTrod_0 23 rfl rfl
theorem dksX5_isTrod_2 : cX5_isTrod.data.toList.drop 47 = dktX5_isTrod_2 := dk_seg dksX5_isTrod_1 24 rfl rfl
theorem dX5_isTrod_0 : decode cX5_isTrod 0 = .ok (.aload_n 0, 1) := dk_42 (dk_at dksX5_isTrod_0 0 rfl rfl)
theorem dX5_isTrod_1 : decode cX5_isTrod 1 = .ok (.invokevirtual 445, 3) := dk_182 1 189 (dk_at dksX5_isTrod_0 1 rfl rfl)
theorem dX5_isTrod_4 : decode cX5_isTrod 4 = .ok (.iload_n 1, 1) := dk_27 (dk_at dksX5_isTrod_0 4 rfl rfl)
theorem dX5_isTrod_5 : decode cX5_isTrod 5 = .ok (.ifCond .lt 10, 3) := dk_155 0 10 (dk_at dksX5_isTrod_0 5 rfl rfl)
theorem dX5_isTrod_8 : decode cX5_isTrod 8 = .ok (.aload_n 0, 1) := dk_42 (dk_at dksX5_isTrod_0 8 rfl rfl)
theorem dX5_isTrod_9 : decode cX5_isTrod 9 = .ok (.iload_n 1, 1) := dk_27 (dk_at dksX5_isTrod_0 9 rfl rfl)
theorem dX5_isTrod_10 : decode cX5_isTrod 10 = .ok (.bipush 6, 2) := dk_16 6 (dk_at dksX5_isTrod_0 10 rfl rfl)
theorem dX5_isTrod_12 : decode cX5_isTrod 12 = .ok (.invokevirtual 435, 3) := dk_182 1 179 (dk_at dksX5_isTrod_0 12 rfl rfl)
theorem dX5_isTrod_15 : decode cX5_isTrod 15 = .ok (.iload_n 2, 1) := dk_28 (dk_at dksX5_isTrod_0 15 rfl rfl)
theorem dX5_isTrod_16 : decode cX5_isTrod 16 = .ok (.ifCond .lt 10, 3) := dk_155 0 10 (dk_at dksX5_isTrod_0 16 rfl rfl)
theorem dX5_isTrod_19 : decode cX5_isTrod 19 = .ok (.aload_n 0, 1) := dk_42 (dk_at dksX5_isTrod_0 19 rfl rfl)
theorem dX5_isTrod_20 : decode cX5_isTrod 20 = .ok (.iload_n 2, 1) := dk_28 (dk_at dksX5_isTrod_0 20 rfl rfl)
theorem dX5_isTrod_21 : decode cX5_isTrod 21 = .ok (.bipush 6, 2) := dk_16 6 (dk_at dksX5_isTrod_0 21 rfl rfl)
theorem dX5_isTrod_23 : decode cX5_isTrod 23 = .ok (.invokevirtual 435, 3) := dk_182 1 179 (dk_at dksX5_isTrod_1 0 rfl rfl)
theorem dX5_isTrod_26 : decode cX5_isTrod 26 = .ok (.aload_n 0, 1) := dk_42 (dk_at dksX5_isTrod_1 3 rfl rfl)
theorem dX5_isTrod_27 : decode cX5_isTrod 27 = .ok (.iconst 0, 1) := dk_3 (dk_at dksX5_isTrod_1 4 rfl rfl)
theorem dX5_isTrod_28 : decode cX5_isTrod 28 = .ok (.putfield 405, 3) := dk_181 1 149 (dk_at dksX5_isTrod_1 5 rfl rfl)
theorem dX5_isTrod_31 : decode cX5_isTrod 31 = .ok (.iconst 0, 1) := dk_3 (dk_at dksX5_isTrod_1 8 rfl rfl)
theorem dX5_isTrod_32 : decode cX5_isTrod 32 = .ok (.istore 4, 2) := dk_54 4 (dk_at dksX5_isTrod_1 9 rfl rfl)
theorem dX5_isTrod_34 : decode cX5_isTrod 34 = .ok (.iload 4, 2) := dk_21 4 (dk_at dksX5_isTrod_1 11 rfl rfl)
theorem dX5_isTrod_36 : decode cX5_isTrod 36 = .ok (.iload_n 3, 1) := dk_29 (dk_at dksX5_isTrod_1 13 rfl rfl)
theorem dX5_isTrod_37 : decode cX5_isTrod 37 = .ok (.if_icmp .ge 20, 3) := dk_162 0 20 (dk_at dksX5_isTrod_1 14 rfl rfl)
theorem dX5_isTrod_40 : decode cX5_isTrod 40 = .ok (.aload_n 0, 1) := dk_42 (dk_at dksX5_isTrod_1 17 rfl rfl)
theorem dX5_isTrod_41 : decode cX5_isTrod 41 = .ok (.getfield 405, 3) := dk_180 1 149 (dk_at dksX5_isTrod_1 18 rfl rfl)
theorem dX5_isTrod_44 : decode cX5_isTrod 44 = .ok (.ifCond .ne 13, 3) := dk_154 0 13 (dk_at dksX5_isTrod_1 21 rfl rfl)
theorem dX5_isTrod_47 : decode cX5_isTrod 47 = .ok (.aload_n 0, 1) := dk_42 (dk_at dksX5_isTrod_2 0 rfl rfl)
theorem dX5_isTrod_48 : decode cX5_isTrod 48 = .ok (.invokevirtual 423, 3) := dk_182 1 167 (dk_at dksX5_isTrod_2 1 rfl rfl)
theorem dX5_isTrod_51 : decode cX5_isTrod 51 = .ok (.iinc 4 1, 3) := dk_132 4 1 (dk_at dksX5_isTrod_2 4 rfl rfl)
theorem dX5_isTrod_54 : decode cX5_isTrod 54 = .ok (.goto (-20), 3) := dk_167 255 236 (dk_at dksX5_isTrod_2 7 rfl rfl)
theorem dX5_isTrod_57 : decode cX5_isTrod 57 = .ok (.aload_n 0, 1) := dk_42 (dk_at dksX5_isTrod_2 10 rfl rfl)
theorem dX5_isTrod_58 : decode cX5_isTrod 58 = .ok (.invokevirtual 459, 3) := dk_182 1 203 (dk_at dksX5_isTrod_2 11 rfl rfl)
theorem dX5_isTrod_61 : decode cX5_isTrod 61 = .ok (.aload_n 0, 1) := dk_42 (dk_at dksX5_isTrod_2 14 rfl rfl)
theorem dX5_isTrod_62 : decode cX5_isTrod 62 = .ok (.getfield 405, 3) := dk_180 1 149 (dk_at dksX5_isTrod_2 15 rfl rfl)
theorem dX5_isTrod_65 : decode cX5_isTrod 65 = .ok (.ireturn, 1) := dk_172 (dk_at dksX5_isTrod_2 18 rfl rfl)
abbrev cX5_keep : ByteArray := prog_12_method_101_code
def yX5_keep : MethodName := ⟨RX5, "keep", "(III)I"⟩
def dkwX5_keep_0 : List UInt8 := [42, 27, 181, 1, 229, 42, 180, 0, 107, 3, 28, 79, 42, 180, 0, 107, 4, 29, 79, 27, 172]
abbrev dktX5_keep_0 : List UInt8 := dkwX5_keep_0 ++ []
theorem dksX5_keep_0 : cX5_keep.data.toList.drop 0 = dktX5_keep_0 := by decide +kernel
theorem dX5_keep_0 : decode cX5_keep 0 = .ok (.aload_n 0, 1) := dk_42 (dk_at dksX5_keep_0 0 rfl rfl)
theorem dX5_keep_1 : decode cX5_keep 1 = .ok (.iload_n 1, 1) := dk_27 (dk_at dksX5_keep_0 1 rfl rfl)
theorem dX5_keep_2 : decode cX5_keep 2 = .ok (.putfield 485, 3) := dk_181 1 229 (dk_at dksX5_keep_0 2 rfl rfl)
theorem dX5_keep_5 : decode cX5_keep 5 = .ok (.aload_n 0, 1) := dk_42 (dk_at dksX5_keep_0 5 rfl rfl)
theorem dX5_keep_6 : decode cX5_keep 6 = .ok (.getfield 107, 3) := dk_180 0 107 (dk_at dksX5_keep_0 6 rfl rfl)
theorem dX5_keep_9 : decode cX5_keep 9 = .ok (.iconst 0, 1) := dk_3 (dk_at dksX5_keep_0 9 rfl rfl)
theorem dX5_keep_10 : decode cX5_keep 10 = .ok (.iload_n 2, 1) := dk_28 (dk_at dksX5_keep_0 10 rfl rfl)
theorem dX5_keep_11 : decode cX5_keep 11 = .ok (.iastore, 1) := dk_79 (dk_at dksX5_keep_0 11 rfl rfl)
theorem dX5_keep_12 : decode cX5_keep 12 = .ok (.aload_n 0, 1) := dk_42 (dk_at dksX5_keep_0 12 rfl rfl)
theorem dX5_keep_13 : decode cX5_keep 13 = .ok (.getfield 107, 3) := dk_180 0 107 (dk_at dksX5_keep_0 13 rfl rfl)
theorem dX5_keep_16 : decode cX5_keep 16 = .ok (.iconst 1, 1) := dk_4 (dk_at dksX5_keep_0 16 rfl rfl)
theorem dX5_keep_17 : decode cX5_keep 17 = .ok (.iload_n 3, 1) := dk_29 (dk_at dksX5_keep_0 17 rfl rfl)
theorem dX5_keep_18 : decode cX5_keep 18 = .ok (.iastore, 1) := dk_79 (dk_at dksX5_keep_0 18 rfl rfl)
theorem dX5_keep_19 : decode cX5_keep 19 = .ok (.iload_n 1, 1) := dk_27 (dk_at dksX5_keep_0 19 rfl rfl)
theorem dX5_keep_20 : decode cX5_keep 20 = .ok (.ireturn, 1) := dk_172 (dk_at dksX5_keep_0 20 rfl rfl)
abbrev cX5_fenceAt : ByteArray := prog_12_method_103_code
def yX5_fenceAt : MethodName := ⟨RX5, "fenceAt", "(I)I"⟩
def dkwX5_fenceAt_1 : List UInt8 := [46, 167, 0, 4, 2, 172]
abbrev dktX5_fenceAt_1 : List UInt8 := dkwX5_fenceAt_1 ++ []
def dkwX5_fenceAt_0 : List UInt8 := [42, 3, 181, 0, 1, 27, 3, 42, 180, 1, 229, 4, 100, 184, 0, 132, 153, 0, 12, 42, 180, 0, 107, 27]
abbrev dktX5_fenceAt_0 : List UInt8 := dkwX5_fenceAt_0 ++ dktX5_fenceAt_1
theorem dksX5_fenceAt_0 : cX5_fenceAt.data.toList.drop 0 = dktX5_fenceAt_0 := by decide +kernel
theorem dksX5_fenceAt_1 : cX5_fenceAt.data.toList.drop 24 = dktX5_fenceAt_1 := dk_seg dksX5_fenceAt_0 24 rfl rfl
theorem dX5_fenceAt_0 : decode cX5_fenceAt 0 = .ok (.aload_n 0, 1) := dk_42 (dk_at dksX5_fenceAt_0 0 rfl rfl)
theorem dX5_fenceAt_1 : decode cX5_fenceAt 1 = .ok (.iconst 0, 1) := dk_3 (dk_at dksX5_fenceAt_0 1 rfl rfl)
theorem dX5_fenceAt_2 : decode cX5_fenceAt 2 = .ok (.putfield 1, 3) := dk_181 0 1 (dk_at dksX5_fenceAt_0 2 rfl rfl)
theorem dX5_fenceAt_5 : decode cX5_fenceAt 5 = .ok (.iload_n 1, 1) := dk_27 (dk_at dksX5_fenceAt_0 5 rfl rfl)
theorem dX5_fenceAt_6 : decode cX5_fenceAt 6 = .ok (.iconst 0, 1) := dk_3 (dk_at dksX5_fenceAt_0 6 rfl rfl)
theorem dX5_fenceAt_7 : decode cX5_fenceAt 7 = .ok (.aload_n 0, 1) := dk_42 (dk_at dksX5_fenceAt_0 7 rfl rfl)
theorem dX5_fenceAt_8 : decode cX5_fenceAt 8 = .ok (.getfield 485, 3) := dk_180 1 229 (dk_at dksX5_fenceAt_0 8 rfl rfl)
theorem dX5_fenceAt_11 : decode cX5_fenceAt 11 = .ok (.iconst 1, 1) := dk_4 (dk_at dksX5_fenceAt_0 11 rfl rfl)
theorem dX5_fenceAt_12 : decode cX5_fenceAt 12 = .ok (.isub, 1) := dk_100 (dk_at dksX5_fenceAt_0 12 rfl rfl)
theorem dX5_fenceAt_13 : decode cX5_fenceAt 13 = .ok (.invokestatic 132, 3) := dk_184 0 132 (dk_at dksX5_fenceAt_0 13 rfl rfl)
theorem dX5_fenceAt_16 : decode cX5_fenceAt 16 = .ok (.ifCond .eq 12, 3) := dk_153 0 12 (dk_at dksX5_fenceAt_0 16 rfl rfl)
theorem dX5_fenceAt_19 : decode cX5_fenceAt 19 = .ok (.aload_n 0, 1) := dk_42 (dk_at dksX5_fenceAt_0 19 rfl rfl)
theorem dX5_fenceAt_20 : decode cX5_fenceAt 20 = .ok (.getfield 107, 3) := dk_180 0 107 (dk_at dksX5_fenceAt_0 20 rfl rfl)
theorem dX5_fenceAt_23 : decode cX5_fenceAt 23 = .ok (.iload_n 1, 1) := dk_27 (dk_at dksX5_fenceAt_0 23 rfl rfl)
theorem dX5_fenceAt_24 : decode cX5_fenceAt 24 = .ok (.iaload, 1) := dk_46 (dk_at dksX5_fenceAt_1 0 rfl rfl)
theorem dX5_fenceAt_25 : decode cX5_fenceAt 25 = .ok (.goto 4, 3) := dk_167 0 4 (dk_at dksX5_fenceAt_1 1 rfl rfl)
theorem dX5_fenceAt_28 : decode cX5_fenceAt 28 = .ok (.iconst (-1), 1) := dk_2 (dk_at dksX5_fenceAt_1 4 rfl rfl)
theorem dX5_fenceAt_29 : decode cX5_fenceAt 29 = .ok (.ireturn, 1) := dk_172 (dk_at dksX5_fenceAt_1 5 rfl rfl)
abbrev cX5_lasts : ByteArray := prog_12_method_104_code
def yX5_lasts : MethodName := ⟨RX5, "lasts", "(IIII)I"⟩
def dkwX5_lasts_5 : List UInt8 := [182, 1, 203, 21, 5, 172]
abbrev dktX5_lasts_5 : List UInt8 := dkwX5_lasts_5 ++ []
def dkwX5_lasts_4 : List UInt8 := [182, 1, 196, 42, 28, 182, 0, 140, 154, 0, 7, 21, 6, 54, 5, 132, 6, 1, 167, 255, 224, 42]
abbrev dktX5_lasts_4 : List UInt8 := dkwX5_lasts_4 ++ dktX5_lasts_5
def dkwX5_lasts_3 : List UInt8 := [8, 96, 3, 79, 2, 54, 5, 4, 54, 6, 21, 6, 29, 163, 0, 32, 21, 5, 156, 0, 27, 42, 21, 4]
abbrev dktX5_lasts_3 : List UInt8 := dkwX5_lasts_3 ++ dktX5_lasts_4
def dkwX5_lasts_2 : List UInt8 := [28, 182, 0, 140, 154, 0, 5, 3, 172, 42, 182, 1, 189, 42, 180, 0, 30, 16, 13, 16, 6, 27, 104, 96]
abbrev dktX5_lasts_2 : List UInt8 := dkwX5_lasts_2 ++ dktX5_lasts_3
def dkwX5_lasts_1 : List UInt8 := [16, 40, 184, 0, 132, 153, 0, 15, 21, 4, 4, 17, 0, 200, 184, 0, 132, 154, 0, 6, 16, 254, 172, 42]
abbrev dktX5_lasts_1 : List UInt8 := dkwX5_lasts_1 ++ dktX5_lasts_2
def dkwX5_lasts_0 : List UInt8 := [42, 3, 181, 0, 1, 42, 27, 182, 1, 88, 153, 0, 33, 42, 28, 182, 0, 155, 153, 0, 25, 29, 4]
abbrev dktX5_lasts_0 : List UInt8 := dkwX5_lasts_0 ++ dktX5_lasts_1
theorem dksX5_lasts_0 : cX5_lasts.data.toList.drop 0 = dktX5_lasts_0 := by decide +kernel
theorem dksX5_lasts_1 : cX5_lasts.data.toList.drop 23 = dktX5_lasts_1 := dk_seg dksX5_lasts_0 23 rfl rfl
theorem dksX5_lasts_2 : cX5_lasts.data.toList.drop 47 = dktX5_lasts_2 := dk_seg dksX5_lasts_1 24 rfl rfl
theorem dksX5_lasts_3 : cX5_lasts.data.toList.drop 71 = dktX5_lasts_3 := dk_seg dksX5_lasts_2 24 rfl rfl
theorem dksX5_lasts_4 : cX5_lasts.data.toList.drop 95 = dktX5_lasts_4 := dk_seg dksX5_lasts_3 24 rfl rfl
theorem dksX5_lasts_5 : cX5_lasts.data.toList.drop 117 = dktX5_lasts_5 := dk_seg dksX5_lasts_4 22 rfl rfl
theorem dX5_lasts_0 : decode cX5_lasts 0 = .ok (.aload_n 0, 1) := dk_42 (dk_at dksX5_lasts_0 0 rfl rfl)
theorem dX5_lasts_1 : decode cX5_lasts 1 = .ok (.iconst 0, 1) := dk_3 (dk_at dksX5_lasts_0 1 rfl rfl)
theorem dX5_lasts_2 : decode cX5_lasts 2 = .ok (.putfield 1, 3) := dk_181 0 1 (dk_at dksX5_lasts_0 2 rfl rfl)
theorem dX5_lasts_5 : decode cX5_lasts 5 = .ok (.aload_n 0, 1) := dk_42 (dk_at dksX5_lasts_0 5 rfl rfl)
theorem dX5_lasts_6 : decode cX5_lasts 6 = .ok (.iload_n 1, 1) := dk_27 (dk_at dksX5_lasts_0 6 rfl rfl)
theorem dX5_lasts_7 : decode cX5_lasts 7 = .ok (.invokevirtual 344, 3) := dk_182 1 88 (dk_at dksX5_lasts_0 7 rfl rfl)
theorem dX5_lasts_10 : decode cX5_lasts 10 = .ok (.ifCond .eq 33, 3) := dk_153 0 33 (dk_at dksX5_lasts_0 10 rfl rfl)
theorem dX5_lasts_13 : decode cX5_lasts 13 = .ok (.aload_n 0, 1) := dk_42 (dk_at dksX5_lasts_0 13 rfl rfl)
theorem dX5_lasts_14 : decode cX5_lasts 14 = .ok (.iload_n 2, 1) := dk_28 (dk_at dksX5_lasts_0 14 rfl rfl)
theorem dX5_lasts_15 : decode cX5_lasts 15 = .ok (.invokevirtual 155, 3) := dk_182 0 155 (dk_at dksX5_lasts_0 15 rfl rfl)
theorem dX5_lasts_18 : decode cX5_lasts 18 = .ok (.ifCond .eq 25, 3) := dk_153 0 25 (dk_at dksX5_lasts_0 18 rfl rfl)
theorem dX5_lasts_21 : decode cX5_lasts 21 = .ok (.iload_n 3, 1) := dk_29 (dk_at dksX5_lasts_0 21 rfl rfl)
theorem dX5_lasts_22 : decode cX5_lasts 22 = .ok (.iconst 1, 1) := dk_4 (dk_at dksX5_lasts_0 22 rfl rfl)
theorem dX5_lasts_23 : decode cX5_lasts 23 = .ok (.bipush 40, 2) := dk_16 40 (dk_at dksX5_lasts_1 0 rfl rfl)
theorem dX5_lasts_25 : decode cX5_lasts 25 = .ok (.invokestatic 132, 3) := dk_184 0 132 (dk_at dksX5_lasts_1 2 rfl rfl)
theorem dX5_lasts_28 : decode cX5_lasts 28 = .ok (.ifCond .eq 15, 3) := dk_153 0 15 (dk_at dksX5_lasts_1 5 rfl rfl)
theorem dX5_lasts_31 : decode cX5_lasts 31 = .ok (.iload 4, 2) := dk_21 4 (dk_at dksX5_lasts_1 8 rfl rfl)
theorem dX5_lasts_33 : decode cX5_lasts 33 = .ok (.iconst 1, 1) := dk_4 (dk_at dksX5_lasts_1 10 rfl rfl)
theorem dX5_lasts_34 : decode cX5_lasts 34 = .ok (.sipush 200, 3) := dk_17 0 200 (dk_at dksX5_lasts_1 11 rfl rfl)
theorem dX5_lasts_37 : decode cX5_lasts 37 = .ok (.invokestatic 132, 3) := dk_184 0 132 (dk_at dksX5_lasts_1 14 rfl rfl)
theorem dX5_lasts_40 : decode cX5_lasts 40 = .ok (.ifCond .ne 6, 3) := dk_154 0 6 (dk_at dksX5_lasts_1 17 rfl rfl)
theorem dX5_lasts_43 : decode cX5_lasts 43 = .ok (.bipush (-2), 2) := dk_16 254 (dk_at dksX5_lasts_1 20 rfl rfl)
theorem dX5_lasts_45 : decode cX5_lasts 45 = .ok (.ireturn, 1) := dk_172 (dk_at dksX5_lasts_1 22 rfl rfl)
theorem dX5_lasts_46 : decode cX5_lasts 46 = .ok (.aload_n 0, 1) := dk_42 (dk_at dksX5_lasts_1 23 rfl rfl)
theorem dX5_lasts_47 : decode cX5_lasts 47 = .ok (.iload_n 2, 1) := dk_28 (dk_at dksX5_lasts_2 0 rfl rfl)
theorem dX5_lasts_48 : decode cX5_lasts 48 = .ok (.invokevirtual 140, 3) := dk_182 0 140 (dk_at dksX5_lasts_2 1 rfl rfl)
theorem dX5_lasts_51 : decode cX5_lasts 51 = .ok (.ifCond .ne 5, 3) := dk_154 0 5 (dk_at dksX5_lasts_2 4 rfl rfl)
theorem dX5_lasts_54 : decode cX5_lasts 54 = .ok (.iconst 0, 1) := dk_3 (dk_at dksX5_lasts_2 7 rfl rfl)
theorem dX5_lasts_55 : decode cX5_lasts 55 = .ok (.ireturn, 1) := dk_172 (dk_at dksX5_lasts_2 8 rfl rfl)
theorem dX5_lasts_56 : decode cX5_lasts 56 = .ok (.aload_n 0, 1) := dk_42 (dk_at dksX5_lasts_2 9 rfl rfl)
theorem dX5_lasts_57 : decode cX5_lasts 57 = .ok (.invokevirtual 445, 3) := dk_182 1 189 (dk_at dksX5_lasts_2 10 rfl rfl)
theorem dX5_lasts_60 : decode cX5_lasts 60 = .ok (.aload_n 0, 1) := dk_42 (dk_at dksX5_lasts_2 13 rfl rfl)
theorem dX5_lasts_61 : decode cX5_lasts 61 = .ok (.getfield 30, 3) := dk_180 0 30 (dk_at dksX5_lasts_2 14 rfl rfl)
theorem dX5_lasts_64 : decode cX5_lasts 64 = .ok (.bipush 13, 2) := dk_16 13 (dk_at dksX5_lasts_2 17 rfl rfl)
theorem dX5_lasts_66 : decode cX5_lasts 66 = .ok (.bipush 6, 2) := dk_16 6 (dk_at dksX5_lasts_2 19 rfl rfl)
theorem dX5_lasts_68 : decode cX5_lasts 68 = .ok (.iload_n 1, 1) := dk_27 (dk_at dksX5_lasts_2 21 rfl rfl)
theorem dX5_lasts_69 : decode cX5_lasts 69 = .ok (.imul, 1) := dk_104 (dk_at dksX5_lasts_2 22 rfl rfl)
theorem dX5_lasts_70 : decode cX5_lasts 70 = .ok (.iadd, 1) := dk_96 (dk_at dksX5_lasts_2 23 rfl rfl)
theorem dX5_lasts_71 : decode cX5_lasts 71 = .ok (.iconst 5, 1) := dk_8 (dk_at dksX5_lasts_3 0 rfl rfl)
theorem dX5_lasts_72 : decode cX5_lasts 72 = .ok (.iadd, 1) := dk_96 (dk_at dksX5_lasts_3 1 rfl rfl)
theorem dX5_lasts_73 : decode cX5_lasts 73 = .ok (.iconst 0, 1) := dk_3 (dk_at dksX5_lasts_3 2 rfl rfl)
theorem dX5_lasts_74 : decode cX5_lasts 74 = .ok (.iastore, 1) := dk_79 (dk_at dksX5_lasts_3 3 rfl rfl)
theorem dX5_lasts_75 : decode cX5_lasts 75 = .ok (.iconst (-1), 1) := dk_2 (dk_at dksX5_lasts_3 4 rfl rfl)
theorem dX5_lasts_76 : decode cX5_lasts 76 = .ok (.istore 5, 2) := dk_54 5 (dk_at dksX5_lasts_3 5 rfl rfl)
theorem dX5_lasts_78 : decode cX5_lasts 78 = .ok (.iconst 1, 1) := dk_4 (dk_at dksX5_lasts_3 7 rfl rfl)
theorem dX5_lasts_79 : decode cX5_lasts 79 = .ok (.istore 6, 2) := dk_54 6 (dk_at dksX5_lasts_3 8 rfl rfl)
theorem dX5_lasts_81 : decode cX5_lasts 81 = .ok (.iload 6, 2) := dk_21 6 (dk_at dksX5_lasts_3 10 rfl rfl)
theorem dX5_lasts_83 : decode cX5_lasts 83 = .ok (.iload_n 3, 1) := dk_29 (dk_at dksX5_lasts_3 12 rfl rfl)
theorem dX5_lasts_84 : decode cX5_lasts 84 = .ok (.if_icmp .gt 32, 3) := dk_163 0 32 (dk_at dksX5_lasts_3 13 rfl rfl)
theorem dX5_lasts_87 : decode cX5_lasts 87 = .ok (.iload 5, 2) := dk_21 5 (dk_at dksX5_lasts_3 16 rfl rfl)
theorem dX5_lasts_89 : decode cX5_lasts 89 = .ok (.ifCond .ge 27, 3) := dk_156 0 27 (dk_at dksX5_lasts_3 18 rfl rfl)
theorem dX5_lasts_92 : decode cX5_lasts 92 = .ok (.aload_n 0, 1) := dk_42 (dk_at dksX5_lasts_3 21 rfl rfl)
theorem dX5_lasts_93 : decode cX5_lasts 93 = .ok (.iload 4, 2) := dk_21 4 (dk_at dksX5_lasts_3 22 rfl rfl)
theorem dX5_lasts_95 : decode cX5_lasts 95 = .ok (.invokevirtual 452, 3) := dk_182 1 196 (dk_at dksX5_lasts_4 0 rfl rfl)
theorem dX5_lasts_98 : decode cX5_lasts 98 = .ok (.aload_n 0, 1) := dk_42 (dk_at dksX5_lasts_4 3 rfl rfl)
theorem dX5_lasts_99 : decode cX5_lasts 99 = .ok (.iload_n 2, 1) := dk_28 (dk_at dksX5_lasts_4 4 rfl rfl)
theorem dX5_lasts_100 : decode cX5_lasts 100 = .ok (.invokevirtual 140, 3) := dk_182 0 140 (dk_at dksX5_lasts_4 5 rfl rfl)
theorem dX5_lasts_103 : decode cX5_lasts 103 = .ok (.ifCond .ne 7, 3) := dk_154 0 7 (dk_at dksX5_lasts_4 8 rfl rfl)
theorem dX5_lasts_106 : decode cX5_lasts 106 = .ok (.iload 6, 2) := dk_21 6 (dk_at dksX5_lasts_4 11 rfl rfl)
theorem dX5_lasts_108 : decode cX5_lasts 108 = .ok (.istore 5, 2) := dk_54 5 (dk_at dksX5_lasts_4 13 rfl rfl)
theorem dX5_lasts_110 : decode cX5_lasts 110 = .ok (.iinc 6 1, 3) := dk_132 6 1 (dk_at dksX5_lasts_4 15 rfl rfl)
theorem dX5_lasts_113 : decode cX5_lasts 113 = .ok (.goto (-32), 3) := dk_167 255 224 (dk_at dksX5_lasts_4 18 rfl rfl)
theorem dX5_lasts_116 : decode cX5_lasts 116 = .ok (.aload_n 0, 1) := dk_42 (dk_at dksX5_lasts_4 21 rfl rfl)
theorem dX5_lasts_117 : decode cX5_lasts 117 = .ok (.invokevirtual 459, 3) := dk_182 1 203 (dk_at dksX5_lasts_5 0 rfl rfl)
theorem dX5_lasts_120 : decode cX5_lasts 120 = .ok (.iload 5, 2) := dk_21 5 (dk_at dksX5_lasts_5 3 rfl rfl)
theorem dX5_lasts_122 : decode cX5_lasts 122 = .ok (.ireturn, 1) := dk_172 (dk_at dksX5_lasts_5 5 rfl rfl)
abbrev cX5_way : ByteArray := prog_12_method_107_code
def yX5_way : MethodName := ⟨RX5, "way", "(III)I"⟩
def dkwX5_way_3 : List UInt8 := [21, 4, 172]
abbrev dktX5_way_3 : List UInt8 := dkwX5_way_3 ++ []
def dkwX5_way_2 : List UInt8 := [162, 0, 23, 42, 180, 0, 113, 21, 5, 42, 180, 0, 110, 21, 5, 46, 79, 132, 5, 1, 167, 255, 230]
abbrev dktX5_way_2 : List UInt8 := dkwX5_way_2 ++ dktX5_way_3
def dkwX5_way_1 : List UInt8 := [182, 1, 244, 54, 4, 42, 42, 180, 1, 238, 181, 1, 247, 3, 54, 5, 21, 5, 42, 180, 1, 238]
abbrev dktX5_way_1 : List UInt8 := dkwX5_way_1 ++ dktX5_way_2
def dkwX5_way_0 : List UInt8 := [42, 3, 181, 0, 1, 42, 27, 28, 29, 182, 1, 241, 154, 0, 6, 16, 254, 172, 42, 27, 28, 29]
abbrev dktX5_way_0 : List UInt8 := dkwX5_way_0 ++ dktX5_way_1
theorem dksX5_way_0 : cX5_way.data.toList.drop 0 = dktX5_way_0 := by decide +kernel
theorem dksX5_way_1 : cX5_way.data.toList.drop 22 = dktX5_way_1 := dk_seg dksX5_way_0 22 rfl rfl
theorem dksX5_way_2 : cX5_way.data.toList.drop 44 = dktX5_way_2 := dk_seg dksX5_way_1 22 rfl rfl
theorem dksX5_way_3 : cX5_way.data.toList.drop 67 = dktX5_way_3 := dk_seg dksX5_way_2 23 rfl rfl
theorem dX5_way_0 : decode cX5_way 0 = .ok (.aload_n 0, 1) := dk_42 (dk_at dksX5_way_0 0 rfl rfl)
theorem dX5_way_1 : decode cX5_way 1 = .ok (.iconst 0, 1) := dk_3 (dk_at dksX5_way_0 1 rfl rfl)
theorem dX5_way_2 : decode cX5_way 2 = .ok (.putfield 1, 3) := dk_181 0 1 (dk_at dksX5_way_0 2 rfl rfl)
theorem dX5_way_5 : decode cX5_way 5 = .ok (.aload_n 0, 1) := dk_42 (dk_at dksX5_way_0 5 rfl rfl)
theorem dX5_way_6 : decode cX5_way 6 = .ok (.iload_n 1, 1) := dk_27 (dk_at dksX5_way_0 6 rfl rfl)
theorem dX5_way_7 : decode cX5_way 7 = .ok (.iload_n 2, 1) := dk_28 (dk_at dksX5_way_0 7 rfl rfl)
theorem dX5_way_8 : decode cX5_way 8 = .ok (.iload_n 3, 1) := dk_29 (dk_at dksX5_way_0 8 rfl rfl)
theorem dX5_way_9 : decode cX5_way 9 = .ok (.invokevirtual 497, 3) := dk_182 1 241 (dk_at dksX5_way_0 9 rfl rfl)
theorem dX5_way_12 : decode cX5_way 12 = .ok (.ifCond .ne 6, 3) := dk_154 0 6 (dk_at dksX5_way_0 12 rfl rfl)
theorem dX5_way_15 : decode cX5_way 15 = .ok (.bipush (-2), 2) := dk_16 254 (dk_at dksX5_way_0 15 rfl rfl)
theorem dX5_way_17 : decode cX5_way 17 = .ok (.ireturn, 1) := dk_172 (dk_at dksX5_way_0 17 rfl rfl)
theorem dX5_way_18 : decode cX5_way 18 = .ok (.aload_n 0, 1) := dk_42 (dk_at dksX5_way_0 18 rfl rfl)
theorem dX5_way_19 : decode cX5_way 19 = .ok (.iload_n 1, 1) := dk_27 (dk_at dksX5_way_0 19 rfl rfl)
theorem dX5_way_20 : decode cX5_way 20 = .ok (.iload_n 2, 1) := dk_28 (dk_at dksX5_way_0 20 rfl rfl)
theorem dX5_way_21 : decode cX5_way 21 = .ok (.iload_n 3, 1) := dk_29 (dk_at dksX5_way_0 21 rfl rfl)
theorem dX5_way_22 : decode cX5_way 22 = .ok (.invokevirtual 500, 3) := dk_182 1 244 (dk_at dksX5_way_1 0 rfl rfl)
theorem dX5_way_25 : decode cX5_way 25 = .ok (.istore 4, 2) := dk_54 4 (dk_at dksX5_way_1 3 rfl rfl)
theorem dX5_way_27 : decode cX5_way 27 = .ok (.aload_n 0, 1) := dk_42 (dk_at dksX5_way_1 5 rfl rfl)
theorem dX5_way_28 : decode cX5_way 28 = .ok (.aload_n 0, 1) := dk_42 (dk_at dksX5_way_1 6 rfl rfl)
theorem dX5_way_29 : decode cX5_way 29 = .ok (.getfield 494, 3) := dk_180 1 238 (dk_at dksX5_way_1 7 rfl rfl)
theorem dX5_way_32 : decode cX5_way 32 = .ok (.putfield 503, 3) := dk_181 1 247 (dk_at dksX5_way_1 10 rfl rfl)
theorem dX5_way_35 : decode cX5_way 35 = .ok (.iconst 0, 1) := dk_3 (dk_at dksX5_way_1 13 rfl rfl)
theorem dX5_way_36 : decode cX5_way 36 = .ok (.istore 5, 2) := dk_54 5 (dk_at dksX5_way_1 14 rfl rfl)
theorem dX5_way_38 : decode cX5_way 38 = .ok (.iload 5, 2) := dk_21 5 (dk_at dksX5_way_1 16 rfl rfl)
theorem dX5_way_40 : decode cX5_way 40 = .ok (.aload_n 0, 1) := dk_42 (dk_at dksX5_way_1 18 rfl rfl)
theorem dX5_way_41 : decode cX5_way 41 = .ok (.getfield 494, 3) := dk_180 1 238 (dk_at dksX5_way_1 19 rfl rfl)
theorem dX5_way_44 : decode cX5_way 44 = .ok (.if_icmp .ge 23, 3) := dk_162 0 23 (dk_at dksX5_way_2 0 rfl rfl)
theorem dX5_way_47 : decode cX5_way 47 = .ok (.aload_n 0, 1) := dk_42 (dk_at dksX5_way_2 3 rfl rfl)
theorem dX5_way_48 : decode cX5_way 48 = .ok (.getfield 113, 3) := dk_180 0 113 (dk_at dksX5_way_2 4 rfl rfl)
theorem dX5_way_51 : decode cX5_way 51 = .ok (.iload 5, 2) := dk_21 5 (dk_at dksX5_way_2 7 rfl rfl)
theorem dX5_way_53 : decode cX5_way 53 = .ok (.aload_n 0, 1) := dk_42 (dk_at dksX5_way_2 9 rfl rfl)
theorem dX5_way_54 : decode cX5_way 54 = .ok (.getfield 110, 3) := dk_180 0 110 (dk_at dksX5_way_2 10 rfl rfl)
theorem dX5_way_57 : decode cX5_way 57 = .ok (.iload 5, 2) := dk_21 5 (dk_at dksX5_way_2 13 rfl rfl)
theorem dX5_way_59 : decode cX5_way 59 = .ok (.iaload, 1) := dk_46 (dk_at dksX5_way_2 15 rfl rfl)
theorem dX5_way_60 : decode cX5_way 60 = .ok (.iastore, 1) := dk_79 (dk_at dksX5_way_2 16 rfl rfl)
theorem dX5_way_61 : decode cX5_way 61 = .ok (.iinc 5 1, 3) := dk_132 5 1 (dk_at dksX5_way_2 17 rfl rfl)
theorem dX5_way_64 : decode cX5_way 64 = .ok (.goto (-26), 3) := dk_167 255 230 (dk_at dksX5_way_2 20 rfl rfl)
theorem dX5_way_67 : decode cX5_way 67 = .ok (.iload 4, 2) := dk_21 4 (dk_at dksX5_way_3 0 rfl rfl)
theorem dX5_way_69 : decode cX5_way 69 = .ok (.ireturn, 1) := dk_172 (dk_at dksX5_way_3 2 rfl rfl)
abbrev cX5_isWay : ByteArray := prog_12_method_106_code
def yX5_isWay : MethodName := ⟨RX5, "isWay", "(III)Z"⟩
def dkwX5_isWay_1 : List UInt8 := [184, 0, 132, 153, 0, 7, 4, 167, 0, 4, 3, 172]
abbrev dktX5_isWay_1 : List UInt8 := dkwX5_isWay_1 ++ []
def dkwX5_isWay_0 : List UInt8 := [42, 27, 182, 1, 84, 153, 0, 29, 42, 28, 182, 1, 84, 153, 0, 21, 27, 28, 159, 0, 16, 29, 3, 8]
abbrev dktX5_isWay_0 : List UInt8 := dkwX5_isWay_0 ++ dktX5_isWay_1
theorem dksX5_isWay_0 : cX5_isWay.data.toList.drop 0 = dktX5_isWay_0 := by decide +kernel
theorem dksX5_isWay_1 : cX5_isWay.data.toList.drop 24 = dktX5_isWay_1 := dk_seg dksX5_isWay_0 24 rfl rfl
theorem dX5_isWay_0 : decode cX5_isWay 0 = .ok (.aload_n 0, 1) := dk_42 (dk_at dksX5_isWay_0 0 rfl rfl)
theorem dX5_isWay_1 : decode cX5_isWay 1 = .ok (.iload_n 1, 1) := dk_27 (dk_at dksX5_isWay_0 1 rfl rfl)
theorem dX5_isWay_2 : decode cX5_isWay 2 = .ok (.invokevirtual 340, 3) := dk_182 1 84 (dk_at dksX5_isWay_0 2 rfl rfl)
theorem dX5_isWay_5 : decode cX5_isWay 5 = .ok (.ifCond .eq 29, 3) := dk_153 0 29 (dk_at dksX5_isWay_0 5 rfl rfl)
theorem dX5_isWay_8 : decode cX5_isWay 8 = .ok (.aload_n 0, 1) := dk_42 (dk_at dksX5_isWay_0 8 rfl rfl)
theorem dX5_isWay_9 : decode cX5_isWay 9 = .ok (.iload_n 2, 1) := dk_28 (dk_at dksX5_isWay_0 9 rfl rfl)
theorem dX5_isWay_10 : decode cX5_isWay 10 = .ok (.invokevirtual 340, 3) := dk_182 1 84 (dk_at dksX5_isWay_0 10 rfl rfl)
theorem dX5_isWay_13 : decode cX5_isWay 13 = .ok (.ifCond .eq 21, 3) := dk_153 0 21 (dk_at dksX5_isWay_0 13 rfl rfl)
theorem dX5_isWay_16 : decode cX5_isWay 16 = .ok (.iload_n 1, 1) := dk_27 (dk_at dksX5_isWay_0 16 rfl rfl)
theorem dX5_isWay_17 : decode cX5_isWay 17 = .ok (.iload_n 2, 1) := dk_28 (dk_at dksX5_isWay_0 17 rfl rfl)
theorem dX5_isWay_18 : decode cX5_isWay 18 = .ok (.if_icmp .eq 16, 3) := dk_159 0 16 (dk_at dksX5_isWay_0 18 rfl rfl)
theorem dX5_isWay_21 : decode cX5_isWay 21 = .ok (.iload_n 3, 1) := dk_29 (dk_at dksX5_isWay_0 21 rfl rfl)
theorem dX5_isWay_22 : decode cX5_isWay 22 = .ok (.iconst 0, 1) := dk_3 (dk_at dksX5_isWay_0 22 rfl rfl)
theorem dX5_isWay_23 : decode cX5_isWay 23 = .ok (.iconst 5, 1) := dk_8 (dk_at dksX5_isWay_0 23 rfl rfl)
theorem dX5_isWay_24 : decode cX5_isWay 24 = .ok (.invokestatic 132, 3) := dk_184 0 132 (dk_at dksX5_isWay_1 0 rfl rfl)
theorem dX5_isWay_27 : decode cX5_isWay 27 = .ok (.ifCond .eq 7, 3) := dk_153 0 7 (dk_at dksX5_isWay_1 3 rfl rfl)
theorem dX5_isWay_30 : decode cX5_isWay 30 = .ok (.iconst 1, 1) := dk_4 (dk_at dksX5_isWay_1 6 rfl rfl)
theorem dX5_isWay_31 : decode cX5_isWay 31 = .ok (.goto 4, 3) := dk_167 0 4 (dk_at dksX5_isWay_1 7 rfl rfl)
theorem dX5_isWay_34 : decode cX5_isWay 34 = .ok (.iconst 0, 1) := dk_3 (dk_at dksX5_isWay_1 10 rfl rfl)
theorem dX5_isWay_35 : decode cX5_isWay 35 = .ok (.ireturn, 1) := dk_172 (dk_at dksX5_isWay_1 11 rfl rfl)
abbrev cX5_walk : ByteArray := prog_12_method_105_code
def yX5_walk : MethodName := ⟨RX5, "walk", "(III)I"⟩
def dkwX5_walk_6 : List UInt8 := [180, 1, 127, 160, 0, 10, 42, 180, 1, 238, 4, 100, 172, 132, 4, 1, 167, 255, 163, 2, 172]
abbrev dktX5_walk_6 : List UInt8 := dkwX5_walk_6 ++ []
def dkwX5_walk_5 : List UInt8 := [180, 1, 238, 42, 180, 1, 103, 79, 42, 89, 180, 1, 238, 4, 96, 181, 1, 238, 42, 180, 1, 103, 42]
abbrev dktX5_walk_5 : List UInt8 := dkwX5_walk_5 ++ dktX5_walk_6
def dkwX5_walk_4 : List UInt8 := [181, 1, 116, 42, 42, 42, 180, 1, 103, 21, 5, 182, 1, 124, 181, 1, 103, 42, 180, 0, 110, 42]
abbrev dktX5_walk_4 : List UInt8 := dkwX5_walk_4 ++ dktX5_walk_5
def dkwX5_walk_3 : List UInt8 := [42, 182, 1, 158, 54, 5, 21, 5, 156, 0, 5, 2, 172, 42, 21, 5, 181, 1, 113, 42, 42, 180, 1, 103]
abbrev dktX5_walk_3 : List UInt8 := dkwX5_walk_3 ++ dktX5_walk_4
def dkwX5_walk_2 : List UInt8 := [181, 1, 238, 42, 180, 0, 110, 3, 42, 180, 1, 103, 79, 3, 54, 4, 21, 4, 17, 0, 200, 162, 0, 91]
abbrev dktX5_walk_2 : List UInt8 := dkwX5_walk_2 ++ dktX5_walk_3
def dkwX5_walk_1 : List UInt8 := [42, 4, 29, 96, 181, 1, 122, 42, 2, 181, 1, 113, 42, 2, 181, 1, 116, 42, 4, 181, 1, 106, 42, 4]
abbrev dktX5_walk_1 : List UInt8 := dkwX5_walk_1 ++ dktX5_walk_2
def dkwX5_walk_0 : List UInt8 := [42, 42, 180, 0, 30, 6, 27, 96, 46, 181, 1, 103, 42, 42, 180, 0, 30, 6, 28, 96, 46, 181, 1, 127]
abbrev dktX5_walk_0 : List UInt8 := dkwX5_walk_0 ++ dktX5_walk_1
theorem dksX5_walk_0 : cX5_walk.data.toList.drop 0 = dktX5_walk_0 := by decide +kernel
theorem dksX5_walk_1 : cX5_walk.data.toList.drop 24 = dktX5_walk_1 := dk_seg dksX5_walk_0 24 rfl rfl
theorem dksX5_walk_2 : cX5_walk.data.toList.drop 48 = dktX5_walk_2 := dk_seg dksX5_walk_1 24 rfl rfl
theorem dksX5_walk_3 : cX5_walk.data.toList.drop 72 = dktX5_walk_3 := dk_seg dksX5_walk_2 24 rfl rfl
theorem dksX5_walk_4 : cX5_walk.data.toList.drop 96 = dktX5_walk_4 := dk_seg dksX5_walk_3 24 rfl rfl
theorem dksX5_walk_5 : cX5_walk.data.toList.drop 118 = dktX5_walk_5 := dk_seg dksX5_walk_4 22 rfl rfl
theorem dksX5_walk_6 : cX5_walk.data.toList.drop 141 = dktX5_walk_6 := dk_seg dksX5_walk_5 23 rfl rfl
theorem dX5_walk_0 : decode cX5_walk 0 = .ok (.aload_n 0, 1) := dk_42 (dk_at dksX5_walk_0 0 rfl rfl)
theorem dX5_walk_1 : decode cX5_walk 1 = .ok (.aload_n 0, 1) := dk_42 (dk_at dksX5_walk_0 1 rfl rfl)
theorem dX5_walk_2 : decode cX5_walk 2 = .ok (.getfield 30, 3) := dk_180 0 30 (dk_at dksX5_walk_0 2 rfl rfl)
theorem dX5_walk_5 : decode cX5_walk 5 = .ok (.iconst 3, 1) := dk_6 (dk_at dksX5_walk_0 5 rfl rfl)
theorem dX5_walk_6 : decode cX5_walk 6 = .ok (.iload_n 1, 1) := dk_27 (dk_at dksX5_walk_0 6 rfl rfl)
theorem dX5_walk_7 : decode cX5_walk 7 = .ok (.iadd, 1) := dk_96 (dk_at dksX5_walk_0 7 rfl rfl)
theorem dX5_walk_8 : decode cX5_walk 8 = .ok (.iaload, 1) := dk_46 (dk_at dksX5_walk_0 8 rfl rfl)
theorem dX5_walk_9 : decode cX5_walk 9 = .ok (.putfield 359, 3) := dk_181 1 103 (dk_at dksX5_walk_0 9 rfl rfl)
theorem dX5_walk_12 : decode cX5_walk 12 = .ok (.aload_n 0, 1) := dk_42 (dk_at dksX5_walk_0 12 rfl rfl)
theorem dX5_walk_13 : decode cX5_walk 13 = .ok (.aload_n 0, 1) := dk_42 (dk_at dksX5_walk_0 13 rfl rfl)
theorem dX5_walk_14 : decode cX5_walk 14 = .ok (.getfield 30, 3) := dk_180 0 30 (dk_at dksX5_walk_0 14 rfl rfl)
theorem dX5_walk_17 : decode cX5_walk 17 = .ok (.iconst 3, 1) := dk_6 (dk_at dksX5_walk_0 17 rfl rfl)
theorem dX5_walk_18 : decode cX5_walk 18 = .ok (.iload_n 2, 1) := dk_28 (dk_at dksX5_walk_0 18 rfl rfl)
theorem dX5_walk_19 : decode cX5_walk 19 = .ok (.iadd, 1) := dk_96 (dk_at dksX5_walk_0 19 rfl rfl)
theorem dX5_walk_20 : decode cX5_walk 20 = .ok (.iaload, 1) := dk_46 (dk_at dksX5_walk_0 20 rfl rfl)
theorem dX5_walk_21 : decode cX5_walk 21 = .ok (.putfield 383, 3) := dk_181 1 127 (dk_at dksX5_walk_0 21 rfl rfl)
theorem dX5_walk_24 : decode cX5_walk 24 = .ok (.aload_n 0, 1) := dk_42 (dk_at dksX5_walk_1 0 rfl rfl)
theorem dX5_walk_25 : decode cX5_walk 25 = .ok (.iconst 1, 1) := dk_4 (dk_at dksX5_walk_1 1 rfl rfl)
theorem dX5_walk_26 : decode cX5_walk 26 = .ok (.iload_n 3, 1) := dk_29 (dk_at dksX5_walk_1 2 rfl rfl)
theorem dX5_walk_27 : decode cX5_walk 27 = .ok (.iadd, 1) := dk_96 (dk_at dksX5_walk_1 3 rfl rfl)
theorem dX5_walk_28 : decode cX5_walk 28 = .ok (.putfield 378, 3) := dk_181 1 122 (dk_at dksX5_walk_1 4 rfl rfl)
theorem dX5_walk_31 : decode cX5_walk 31 = .ok (.aload_n 0, 1) := dk_42 (dk_at dksX5_walk_1 7 rfl rfl)
theorem dX5_walk_32 : decode cX5_walk 32 = .ok (.iconst (-1), 1) := dk_2 (dk_at dksX5_walk_1 8 rfl rfl)
theorem dX5_walk_33 : decode cX5_walk 33 = .ok (.putfield 369, 3) := dk_181 1 113 (dk_at dksX5_walk_1 9 rfl rfl)
theorem dX5_walk_36 : decode cX5_walk 36 = .ok (.aload_n 0, 1) := dk_42 (dk_at dksX5_walk_1 12 rfl rfl)
theorem dX5_walk_37 : decode cX5_walk 37 = .ok (.iconst (-1), 1) := dk_2 (dk_at dksX5_walk_1 13 rfl rfl)
theorem dX5_walk_38 : decode cX5_walk 38 = .ok (.putfield 372, 3) := dk_181 1 116 (dk_at dksX5_walk_1 14 rfl rfl)
theorem dX5_walk_41 : decode cX5_walk 41 = .ok (.aload_n 0, 1) := dk_42 (dk_at dksX5_walk_1 17 rfl rfl)
theorem dX5_walk_42 : decode cX5_walk 42 = .ok (.iconst 1, 1) := dk_4 (dk_at dksX5_walk_1 18 rfl rfl)
theorem dX5_walk_43 : decode cX5_walk 43 = .ok (.putfield 362, 3) := dk_181 1 106 (dk_at dksX5_walk_1 19 rfl rfl)
theorem dX5_walk_46 : decode cX5_walk 46 = .ok (.aload_n 0, 1) := dk_42 (dk_at dksX5_walk_1 22 rfl rfl)
theorem dX5_walk_47 : decode cX5_walk 47 = .ok (.iconst 1, 1) := dk_4 (dk_at dksX5_walk_1 23 rfl rfl)
theorem dX5_walk_48 : decode cX5_walk 48 = .ok (.putfield 494, 3) := dk_181 1 238 (dk_at dksX5_walk_2 0 rfl rfl)
theorem dX5_walk_51 : decode cX5_walk 51 = .ok (.aload_n 0, 1) := dk_42 (dk_at dksX5_walk_2 3 rfl rfl)
theorem dX5_walk_52 : decode cX5_walk 52 = .ok (.getfield 110, 3) := dk_180 0 110 (dk_at dksX5_walk_2 4 rfl rfl)
theorem dX5_walk_55 : decode cX5_walk 55 = .ok (.iconst 0, 1) := dk_3 (dk_at dksX5_walk_2 7 rfl rfl)
theorem dX5_walk_56 : decode cX5_walk 56 = .ok (.aload_n 0, 1) := dk_42 (dk_at dksX5_walk_2 8 rfl rfl)
theorem dX5_walk_57 : decode cX5_walk 57 = .ok (.getfield 359, 3) := dk_180 1 103 (dk_at dksX5_walk_2 9 rfl rfl)
theorem dX5_walk_60 : decode cX5_walk 60 = .ok (.iastore, 1) := dk_79 (dk_at dksX5_walk_2 12 rfl rfl)
theorem dX5_walk_61 : decode cX5_walk 61 = .ok (.iconst 0, 1) := dk_3 (dk_at dksX5_walk_2 13 rfl rfl)
theorem dX5_walk_62 : decode cX5_walk 62 = .ok (.istore 4, 2) := dk_54 4 (dk_at dksX5_walk_2 14 rfl rfl)
theorem dX5_walk_64 : decode cX5_walk 64 = .ok (.iload 4, 2) := dk_21 4 (dk_at dksX5_walk_2 16 rfl rfl)
theorem dX5_walk_66 : decode cX5_walk 66 = .ok (.sipush 200, 3) := dk_17 0 200 (dk_at dksX5_walk_2 18 rfl rfl)
theorem dX5_walk_69 : decode cX5_walk 69 = .ok (.if_icmp .ge 91, 3) := dk_162 0 91 (dk_at dksX5_walk_2 21 rfl rfl)
theorem dX5_walk_72 : decode cX5_walk 72 = .ok (.aload_n 0, 1) := dk_42 (dk_at dksX5_walk_3 0 rfl rfl)
theorem dX5_walk_73 : decode cX5_walk 73 = .ok (.invokevirtual 414, 3) := dk_182 1 158 (dk_at dksX5_walk_3 1 rfl rfl)
theorem dX5_walk_76 : decode cX5_walk 76 = .ok (.istore 5, 2) := dk_54 5 (dk_at dksX5_walk_3 4 rfl rfl)
theorem dX5_walk_78 : decode cX5_walk 78 = .ok (.iload 5, 2) := dk_21 5 (dk_at dksX5_walk_3 6 rfl rfl)
theorem dX5_walk_80 : decode cX5_walk 80 = .ok (.ifCond .ge 5, 3) := dk_156 0 5 (dk_at dksX5_walk_3 8 rfl rfl)
theorem dX5_walk_83 : decode cX5_walk 83 = .ok (.iconst (-1), 1) := dk_2 (dk_at dksX5_walk_3 11 rfl rfl)
theorem dX5_walk_84 : decode cX5_walk 84 = .ok (.ireturn, 1) := dk_172 (dk_at dksX5_walk_3 12 rfl rfl)
theorem dX5_walk_85 : decode cX5_walk 85 = .ok (.aload_n 0, 1) := dk_42 (dk_at dksX5_walk_3 13 rfl rfl)
theorem dX5_walk_86 : decode cX5_walk 86 = .ok (.iload 5, 2) := dk_21 5 (dk_at dksX5_walk_3 14 rfl rfl)
theorem dX5_walk_88 : decode cX5_walk 88 = .ok (.putfield 369, 3) := dk_181 1 113 (dk_at dksX5_walk_3 16 rfl rfl)
theorem dX5_walk_91 : decode cX5_walk 91 = .ok (.aload_n 0, 1) := dk_42 (dk_at dksX5_walk_3 19 rfl rfl)
theorem dX5_walk_92 : decode cX5_walk 92 = .ok (.aload_n 0, 1) := dk_42 (dk_at dksX5_walk_3 20 rfl rfl)
theorem dX5_walk_93 : decode cX5_walk 93 = .ok (.getfield 359, 3) := dk_180 1 103 (dk_at dksX5_walk_3 21 rfl rfl)
theorem dX5_walk_96 : decode cX5_walk 96 = .ok (.putfield 372, 3) := dk_181 1 116 (dk_at dksX5_walk_4 0 rfl rfl)
theorem dX5_walk_99 : decode cX5_walk 99 = .ok (.aload_n 0, 1) := dk_42 (dk_at dksX5_walk_4 3 rfl rfl)
theorem dX5_walk_100 : decode cX5_walk 100 = .ok (.aload_n 0, 1) := dk_42 (dk_at dksX5_walk_4 4 rfl rfl)
theorem dX5_walk_101 : decode cX5_walk 101 = .ok (.aload_n 0, 1) := dk_42 (dk_at dksX5_walk_4 5 rfl rfl)
theorem dX5_walk_102 : decode cX5_walk 102 = .ok (.getfield 359, 3) := dk_180 1 103 (dk_at dksX5_walk_4 6 rfl rfl)
theorem dX5_walk_105 : decode cX5_walk 105 = .ok (.iload 5, 2) := dk_21 5 (dk_at dksX5_walk_4 9 rfl rfl)
theorem dX5_walk_107 : decode cX5_walk 107 = .ok (.invokevirtual 380, 3) := dk_182 1 124 (dk_at dksX5_walk_4 11 rfl rfl)
theorem dX5_walk_110 : decode cX5_walk 110 = .ok (.putfield 359, 3) := dk_181 1 103 (dk_at dksX5_walk_4 14 rfl rfl)
theorem dX5_walk_113 : decode cX5_walk 113 = .ok (.aload_n 0, 1) := dk_42 (dk_at dksX5_walk_4 17 rfl rfl)
theorem dX5_walk_114 : decode cX5_walk 114 = .ok (.getfield 110, 3) := dk_180 0 110 (dk_at dksX5_walk_4 18 rfl rfl)
theorem dX5_walk_117 : decode cX5_walk 117 = .ok (.aload_n 0, 1) := dk_42 (dk_at dksX5_walk_4 21 rfl rfl)
theorem dX5_walk_118 : decode cX5_walk 118 = .ok (.getfield 494, 3) := dk_180 1 238 (dk_at dksX5_walk_5 0 rfl rfl)
theorem dX5_walk_121 : decode cX5_walk 121 = .ok (.aload_n 0, 1) := dk_42 (dk_at dksX5_walk_5 3 rfl rfl)
theorem dX5_walk_122 : decode cX5_walk 122 = .ok (.getfield 359, 3) := dk_180 1 103 (dk_at dksX5_walk_5 4 rfl rfl)
theorem dX5_walk_125 : decode cX5_walk 125 = .ok (.iastore, 1) := dk_79 (dk_at dksX5_walk_5 7 rfl rfl)
theorem dX5_walk_126 : decode cX5_walk 126 = .ok (.aload_n 0, 1) := dk_42 (dk_at dksX5_walk_5 8 rfl rfl)
theorem dX5_walk_127 : decode cX5_walk 127 = .ok (.dup, 1) := dk_89 (dk_at dksX5_walk_5 9 rfl rfl)
theorem dX5_walk_128 : decode cX5_walk 128 = .ok (.getfield 494, 3) := dk_180 1 238 (dk_at dksX5_walk_5 10 rfl rfl)
theorem dX5_walk_131 : decode cX5_walk 131 = .ok (.iconst 1, 1) := dk_4 (dk_at dksX5_walk_5 13 rfl rfl)
theorem dX5_walk_132 : decode cX5_walk 132 = .ok (.iadd, 1) := dk_96 (dk_at dksX5_walk_5 14 rfl rfl)
theorem dX5_walk_133 : decode cX5_walk 133 = .ok (.putfield 494, 3) := dk_181 1 238 (dk_at dksX5_walk_5 15 rfl rfl)
theorem dX5_walk_136 : decode cX5_walk 136 = .ok (.aload_n 0, 1) := dk_42 (dk_at dksX5_walk_5 18 rfl rfl)
theorem dX5_walk_137 : decode cX5_walk 137 = .ok (.getfield 359, 3) := dk_180 1 103 (dk_at dksX5_walk_5 19 rfl rfl)
theorem dX5_walk_140 : decode cX5_walk 140 = .ok (.aload_n 0, 1) := dk_42 (dk_at dksX5_walk_5 22 rfl rfl)
theorem dX5_walk_141 : decode cX5_walk 141 = .ok (.getfield 383, 3) := dk_180 1 127 (dk_at dksX5_walk_6 0 rfl rfl)
theorem dX5_walk_144 : decode cX5_walk 144 = .ok (.if_icmp .ne 10, 3) := dk_160 0 10 (dk_at dksX5_walk_6 3 rfl rfl)
theorem dX5_walk_147 : decode cX5_walk 147 = .ok (.aload_n 0, 1) := dk_42 (dk_at dksX5_walk_6 6 rfl rfl)
theorem dX5_walk_148 : decode cX5_walk 148 = .ok (.getfield 494, 3) := dk_180 1 238 (dk_at dksX5_walk_6 7 rfl rfl)
theorem dX5_walk_151 : decode cX5_walk 151 = .ok (.iconst 1, 1) := dk_4 (dk_at dksX5_walk_6 10 rfl rfl)
theorem dX5_walk_152 : decode cX5_walk 152 = .ok (.isub, 1) := dk_100 (dk_at dksX5_walk_6 11 rfl rfl)
theorem dX5_walk_153 : decode cX5_walk 153 = .ok (.ireturn, 1) := dk_172 (dk_at dksX5_walk_6 12 rfl rfl)
theorem dX5_walk_154 : decode cX5_walk 154 = .ok (.iinc 4 1, 3) := dk_132 4 1 (dk_at dksX5_walk_6 13 rfl rfl)
theorem dX5_walk_157 : decode cX5_walk 157 = .ok (.goto (-93), 3) := dk_167 255 163 (dk_at dksX5_walk_6 16 rfl rfl)
theorem dX5_walk_160 : decode cX5_walk 160 = .ok (.iconst (-1), 1) := dk_2 (dk_at dksX5_walk_6 19 rfl rfl)
theorem dX5_walk_161 : decode cX5_walk 161 = .ok (.ireturn, 1) := dk_172 (dk_at dksX5_walk_6 20 rfl rfl)
abbrev cX5_wayAt : ByteArray := prog_12_method_108_code
def yX5_wayAt : MethodName := ⟨RX5, "wayAt", "(I)I"⟩
def dkwX5_wayAt_1 : List UInt8 := [46, 167, 0, 4, 2, 172]
abbrev dktX5_wayAt_1 : List UInt8 := dkwX5_wayAt_1 ++ []
def dkwX5_wayAt_0 : List UInt8 := [42, 3, 181, 0, 1, 27, 3, 42, 180, 1, 247, 4, 100, 184, 0, 132, 153, 0, 12, 42, 180, 0, 113, 27]
abbrev dktX5_wayAt_0 : List UInt8 := dkwX5_wayAt_0 ++ dktX5_wayAt_1
theorem dksX5_wayAt_0 : cX5_wayAt.data.toList.drop 0 = dktX5_wayAt_0 := by decide +kernel
theorem dksX5_wayAt_1 : cX5_wayAt.data.toList.drop 24 = dktX5_wayAt_1 := dk_seg dksX5_wayAt_0 24 rfl rfl
theorem dX5_wayAt_0 : decode cX5_wayAt 0 = .ok (.aload_n 0, 1) := dk_42 (dk_at dksX5_wayAt_0 0 rfl rfl)
theorem dX5_wayAt_1 : decode cX5_wayAt 1 = .ok (.iconst 0, 1) := dk_3 (dk_at dksX5_wayAt_0 1 rfl rfl)
theorem dX5_wayAt_2 : decode cX5_wayAt 2 = .ok (.putfield 1, 3) := dk_181 0 1 (dk_at dksX5_wayAt_0 2 rfl rfl)
theorem dX5_wayAt_5 : decode cX5_wayAt 5 = .ok (.iload_n 1, 1) := dk_27 (dk_at dksX5_wayAt_0 5 rfl rfl)
theorem dX5_wayAt_6 : decode cX5_wayAt 6 = .ok (.iconst 0, 1) := dk_3 (dk_at dksX5_wayAt_0 6 rfl rfl)
theorem dX5_wayAt_7 : decode cX5_wayAt 7 = .ok (.aload_n 0, 1) := dk_42 (dk_at dksX5_wayAt_0 7 rfl rfl)
theorem dX5_wayAt_8 : decode cX5_wayAt 8 = .ok (.getfield 503, 3) := dk_180 1 247 (dk_at dksX5_wayAt_0 8 rfl rfl)
theorem dX5_wayAt_11 : decode cX5_wayAt 11 = .ok (.iconst 1, 1) := dk_4 (dk_at dksX5_wayAt_0 11 rfl rfl)
theorem dX5_wayAt_12 : decode cX5_wayAt 12 = .ok (.isub, 1) := dk_100 (dk_at dksX5_wayAt_0 12 rfl rfl)
theorem dX5_wayAt_13 : decode cX5_wayAt 13 = .ok (.invokestatic 132, 3) := dk_184 0 132 (dk_at dksX5_wayAt_0 13 rfl rfl)
theorem dX5_wayAt_16 : decode cX5_wayAt 16 = .ok (.ifCond .eq 12, 3) := dk_153 0 12 (dk_at dksX5_wayAt_0 16 rfl rfl)
theorem dX5_wayAt_19 : decode cX5_wayAt 19 = .ok (.aload_n 0, 1) := dk_42 (dk_at dksX5_wayAt_0 19 rfl rfl)
theorem dX5_wayAt_20 : decode cX5_wayAt 20 = .ok (.getfield 113, 3) := dk_180 0 113 (dk_at dksX5_wayAt_0 20 rfl rfl)
theorem dX5_wayAt_23 : decode cX5_wayAt 23 = .ok (.iload_n 1, 1) := dk_27 (dk_at dksX5_wayAt_0 23 rfl rfl)
theorem dX5_wayAt_24 : decode cX5_wayAt 24 = .ok (.iaload, 1) := dk_46 (dk_at dksX5_wayAt_1 0 rfl rfl)
theorem dX5_wayAt_25 : decode cX5_wayAt 25 = .ok (.goto 4, 3) := dk_167 0 4 (dk_at dksX5_wayAt_1 1 rfl rfl)
theorem dX5_wayAt_28 : decode cX5_wayAt 28 = .ok (.iconst (-1), 1) := dk_2 (dk_at dksX5_wayAt_1 4 rfl rfl)
theorem dX5_wayAt_29 : decode cX5_wayAt 29 = .ok (.ireturn, 1) := dk_172 (dk_at dksX5_wayAt_1 5 rfl rfl)
abbrev cX5_read_2 : ByteArray := prog_12_method_109_code
def yX5_read_2 : MethodName := ⟨RX5, "read", "()I"⟩
def dkwX5_read_2_16 : List UInt8 := [167, 255, 157, 132, 3, 1, 132, 4, 1, 167, 255, 81, 29, 172]
abbrev dktX5_read_2_16 : List UInt8 := dkwX5_read_2_16 ++ []
def dkwX5_read_2_15 : List UInt8 := [164, 0, 13, 42, 180, 0, 125, 21, 6, 46, 167, 0, 10, 42, 180, 0, 122, 21, 6, 46, 79, 132, 6, 1]
abbrev dktX5_read_2_15 : List UInt8 := dkwX5_read_2_15 ++ dktX5_read_2_16
def dkwX5_read_2_14 : List UInt8 := [180, 0, 122, 21, 6, 29, 153, 0, 20, 42, 180, 0, 125, 21, 6, 46, 42, 180, 0, 122, 21, 6, 46]
abbrev dktX5_read_2_14 : List UInt8 := dkwX5_read_2_14 ++ dktX5_read_2_15
def dkwX5_read_2_13 : List UInt8 := [162, 0, 13, 42, 180, 0, 125, 21, 6, 46, 167, 0, 10, 42, 180, 0, 119, 21, 6, 46, 79, 42]
abbrev dktX5_read_2_13 : List UInt8 := dkwX5_read_2_13 ++ dktX5_read_2_14
def dkwX5_read_2_12 : List UInt8 := [42, 180, 0, 119, 21, 6, 29, 153, 0, 20, 42, 180, 0, 125, 21, 6, 46, 42, 180, 0, 119, 21, 6, 46]
abbrev dktX5_read_2_12 : List UInt8 := dkwX5_read_2_12 ++ dktX5_read_2_13
def dkwX5_read_2_11 : List UInt8 := [154, 0, 6, 167, 0, 120, 29, 154, 0, 8, 42, 27, 181, 1, 253, 3, 54, 6, 21, 6, 27, 162, 0, 99]
abbrev dktX5_read_2_11 : List UInt8 := dkwX5_read_2_11 ++ dktX5_read_2_12
def dkwX5_read_2_10 : List UInt8 := [16, 10, 112, 79, 21, 5, 16, 10, 108, 54, 5, 132, 6, 1, 167, 255, 228, 42, 27, 182, 1, 250]
abbrev dktX5_read_2_10 : List UInt8 := dkwX5_read_2_10 ++ dktX5_read_2_11
def dkwX5_read_2_9 : List UInt8 := [162, 0, 175, 21, 4, 54, 5, 3, 54, 6, 21, 6, 27, 162, 0, 28, 42, 180, 0, 125, 21, 6, 21, 5]
abbrev dktX5_read_2_9 : List UInt8 := dkwX5_read_2_9 ++ dktX5_read_2_10
def dkwX5_read_2_8 : List UInt8 := [162, 0, 14, 28, 16, 10, 104, 61, 132, 3, 1, 167, 255, 243, 3, 62, 3, 54, 4, 21, 4, 28]
abbrev dktX5_read_2_8 : List UInt8 := dkwX5_read_2_8 ++ dktX5_read_2_9
def dkwX5_read_2_7 : List UInt8 := [92, 46, 4, 96, 79, 132, 3, 1, 167, 255, 224, 132, 2, 1, 167, 255, 117, 4, 61, 3, 62, 29, 27]
abbrev dktX5_read_2_7 : List UInt8 := dkwX5_read_2_7 ++ dktX5_read_2_8
def dkwX5_read_2_6 : List UInt8 := [29, 42, 180, 1, 238, 162, 0, 30, 42, 180, 0, 116, 17, 1, 0, 28, 104, 42, 180, 0, 110, 29, 46, 96]
abbrev dktX5_read_2_6 : List UInt8 := dkwX5_read_2_6 ++ dktX5_read_2_7
def dkwX5_read_2_5 : List UInt8 := [162, 0, 22, 42, 180, 0, 116, 17, 1, 0, 28, 104, 29, 96, 3, 79, 132, 3, 1, 167, 255, 233, 4, 62]
abbrev dktX5_read_2_5 : List UInt8 := dkwX5_read_2_5 ++ dktX5_read_2_6
def dkwX5_read_2_4 : List UInt8 := [6, 28, 104, 5, 96, 182, 0, 147, 182, 1, 244, 156, 0, 5, 2, 172, 3, 62, 29, 17, 1, 0]
abbrev dktX5_read_2_4 : List UInt8 := dkwX5_read_2_4 ++ dktX5_read_2_5
def dkwX5_read_2_3 : List UInt8 := [182, 1, 241, 153, 0, 35, 42, 42, 6, 28, 104, 182, 0, 147, 42, 6, 28, 104, 4, 96, 182, 0, 147, 42]
abbrev dktX5_read_2_3 : List UInt8 := dkwX5_read_2_3 ++ dktX5_read_2_4
def dkwX5_read_2_2 : List UInt8 := [28, 104, 182, 0, 147, 42, 6, 28, 104, 4, 96, 182, 0, 147, 42, 6, 28, 104, 5, 96, 182, 0, 147]
abbrev dktX5_read_2_2 : List UInt8 := dkwX5_read_2_2 ++ dktX5_read_2_3
def dkwX5_read_2_1 : List UInt8 := [154, 0, 12, 27, 4, 8, 184, 0, 132, 154, 0, 5, 2, 172, 3, 61, 28, 27, 162, 0, 140, 42, 42, 6]
abbrev dktX5_read_2_1 : List UInt8 := dkwX5_read_2_1 ++ dktX5_read_2_2
def dkwX5_read_2_0 : List UInt8 := [42, 3, 181, 0, 1, 42, 182, 0, 144, 42, 180, 0, 18, 6, 108, 60, 42, 180, 0, 18, 6, 112]
abbrev dktX5_read_2_0 : List UInt8 := dkwX5_read_2_0 ++ dktX5_read_2_1
theorem dksX5_read_2_0 : cX5_read_2.data.toList.drop 0 = dktX5_read_2_0 := by decide +kernel
theorem dksX5_read_2_1 : cX5_read_2.data.toList.drop 22 = dktX5_read_2_1 := dk_seg dksX5_read_2_0 22 rfl rfl
theorem dksX5_read_2_2 : cX5_read_2.data.toList.drop 46 = dktX5_read_2_2 := dk_seg dksX5_read_2_1 24 rfl rfl
theorem dksX5_read_2_3 : cX5_read_2.data.toList.drop 69 = dktX5_read_2_3 := dk_seg dksX5_read_2_2 23 rfl rfl
theorem dksX5_read_2_4 : cX5_read_2.data.toList.drop 93 = dktX5_read_2_4 := dk_seg dksX5_read_2_3 24 rfl rfl
theorem dksX5_read_2_5 : cX5_read_2.data.toList.drop 115 = dktX5_read_2_5 := dk_seg dksX5_read_2_4 22 rfl rfl
theorem dksX5_read_2_6 : cX5_read_2.data.toList.drop 139 = dktX5_read_2_6 := dk_seg dksX5_read_2_5 24 rfl rfl
theorem dksX5_read_2_7 : cX5_read_2.data.toList.drop 163 = dktX5_read_2_7 := dk_seg dksX5_read_2_6 24 rfl rfl
theorem dksX5_read_2_8 : cX5_read_2.data.toList.drop 186 = dktX5_read_2_8 := dk_seg dksX5_read_2_7 23 rfl rfl
theorem dksX5_read_2_9 : cX5_read_2.data.toList.drop 208 = dktX5_read_2_9 := dk_seg dksX5_read_2_8 22 rfl rfl
theorem dksX5_read_2_10 : cX5_read_2.data.toList.drop 232 = dktX5_read_2_10 := dk_seg dksX5_read_2_9 24 rfl rfl
theorem dksX5_read_2_11 : cX5_read_2.data.toList.drop 254 = dktX5_read_2_11 := dk_seg dksX5_read_2_10 22 rfl rfl
theorem dksX5_read_2_12 : cX5_read_2.data.toList.drop 278 = dktX5_read_2_12 := dk_seg dksX5_read_2_11 24 rfl rfl
theorem dksX5_read_2_13 : cX5_read_2.data.toList.drop 302 = dktX5_read_2_13 := dk_seg dksX5_read_2_12 24 rfl rfl
theorem dksX5_read_2_14 : cX5_read_2.data.toList.drop 324 = dktX5_read_2_14 := dk_seg dksX5_read_2_13 22 rfl rfl
theorem dksX5_read_2_15 : cX5_read_2.data.toList.drop 347 = dktX5_read_2_15 := dk_seg dksX5_read_2_14 23 rfl rfl
theorem dksX5_read_2_16 : cX5_read_2.data.toList.drop 371 = dktX5_read_2_16 := dk_seg dksX5_read_2_15 24 rfl rfl
theorem dX5_read_2_0 : decode cX5_read_2 0 = .ok (.aload_n 0, 1) := dk_42 (dk_at dksX5_read_2_0 0 rfl rfl)
theorem dX5_read_2_1 : decode cX5_read_2 1 = .ok (.iconst 0, 1) := dk_3 (dk_at dksX5_read_2_0 1 rfl rfl)
theorem dX5_read_2_2 : decode cX5_read_2 2 = .ok (.putfield 1, 3) := dk_181 0 1 (dk_at dksX5_read_2_0 2 rfl rfl)
theorem dX5_read_2_5 : decode cX5_read_2 5 = .ok (.aload_n 0, 1) := dk_42 (dk_at dksX5_read_2_0 5 rfl rfl)
theorem dX5_read_2_6 : decode cX5_read_2 6 = .ok (.invokevirtual 144, 3) := dk_182 0 144 (dk_at dksX5_read_2_0 6 rfl rfl)
theorem dX5_read_2_9 : decode cX5_read_2 9 = .ok (.aload_n 0, 1) := dk_42 (dk_at dksX5_read_2_0 9 rfl rfl)
theorem dX5_read_2_10 : decode cX5_read_2 10 = .ok (.getfield 18, 3) := dk_180 0 18 (dk_at dksX5_read_2_0 10 rfl rfl)
theorem dX5_read_2_13 : decode cX5_read_2 13 = .ok (.iconst 3, 1) := dk_6 (dk_at dksX5_read_2_0 13 rfl rfl)
theorem dX5_read_2_14 : decode cX5_read_2 14 = .ok (.idiv, 1) := dk_108 (dk_at dksX5_read_2_0 14 rfl rfl)
theorem dX5_read_2_15 : decode cX5_read_2 15 = .ok (.istore_n 1, 1) := dk_60 (dk_at dksX5_read_2_0 15 rfl rfl)
theorem dX5_read_2_16 : decode cX5_read_2 16 = .ok (.aload_n 0, 1) := dk_42 (dk_at dksX5_read_2_0 16 rfl rfl)
theorem dX5_read_2_17 : decode cX5_read_2 17 = .ok (.getfield 18, 3) := dk_180 0 18 (dk_at dksX5_read_2_0 17 rfl rfl)
theorem dX5_read_2_20 : decode cX5_read_2 20 = .ok (.iconst 3, 1) := dk_6 (dk_at dksX5_read_2_0 20 rfl rfl)
theorem dX5_read_2_21 : decode cX5_read_2 21 = .ok (.irem, 1) := dk_112 (dk_at dksX5_read_2_0 21 rfl rfl)
theorem dX5_read_2_22 : decode cX5_read_2 22 = .ok (.ifCond .ne 12, 3) := dk_154 0 12 (dk_at dksX5_read_2_1 0 rfl rfl)
theorem dX5_read_2_25 : decode cX5_read_2 25 = .ok (.iload_n 1, 1) := dk_27 (dk_at dksX5_read_2_1 3 rfl rfl)
theorem dX5_read_2_26 : decode cX5_read_2 26 = .ok (.iconst 1, 1) := dk_4 (dk_at dksX5_read_2_1 4 rfl rfl)
theorem dX5_read_2_27 : decode cX5_read_2 27 = .ok (.iconst 5, 1) := dk_8 (dk_at dksX5_read_2_1 5 rfl rfl)
theorem dX5_read_2_28 : decode cX5_read_2 28 = .ok (.invokestatic 132, 3) := dk_184 0 132 (dk_at dksX5_read_2_1 6 rfl rfl)
theorem dX5_read_2_31 : decode cX5_read_2 31 = .ok (.ifCond .ne 5, 3) := dk_154 0 5 (dk_at dksX5_read_2_1 9 rfl rfl)
theorem dX5_read_2_34 : decode cX5_read_2 34 = .ok (.iconst (-1), 1) := dk_2 (dk_at dksX5_read_2_1 12 rfl rfl)
theorem dX5_read_2_35 : decode cX5_read_2 35 = .ok (.ireturn, 1) := dk_172 (dk_at dksX5_read_2_1 13 rfl rfl)
theorem dX5_read_2_36 : decode cX5_read_2 36 = .ok (.iconst 0, 1) := dk_3 (dk_at dksX5_read_2_1 14 rfl rfl)
theorem dX5_read_2_37 : decode cX5_read_2 37 = .ok (.istore_n 2, 1) := dk_61 (dk_at dksX5_read_2_1 15 rfl rfl)
theorem dX5_read_2_38 : decode cX5_read_2 38 = .ok (.iload_n 2, 1) := dk_28 (dk_at dksX5_read_2_1 16 rfl rfl)
theorem dX5_read_2_39 : decode cX5_read_2 39 = .ok (.iload_n 1, 1) := dk_27 (dk_at dksX5_read_2_1 17 rfl rfl)
theorem dX5_read_2_40 : decode cX5_read_2 40 = .ok (.if_icmp .ge 140, 3) := dk_162 0 140 (dk_at dksX5_read_2_1 18 rfl rfl)
theorem dX5_read_2_43 : decode cX5_read_2 43 = .ok (.aload_n 0, 1) := dk_42 (dk_at dksX5_read_2_1 21 rfl rfl)
theorem dX5_read_2_44 : decode cX5_read_2 44 = .ok (.aload_n 0, 1) := dk_42 (dk_at dksX5_read_2_1 22 rfl rfl)
theorem dX5_read_2_45 : decode cX5_read_2 45 = .ok (.iconst 3, 1) := dk_6 (dk_at dksX5_read_2_1 23 rfl rfl)
theorem dX5_read_2_46 : decode cX5_read_2 46 = .ok (.iload_n 2, 1) := dk_28 (dk_at dksX5_read_2_2 0 rfl rfl)
theorem dX5_read_2_47 : decode cX5_read_2 47 = .ok (.imul, 1) := dk_104 (dk_at dksX5_read_2_2 1 rfl rfl)
theorem dX5_read_2_48 : decode cX5_read_2 48 = .ok (.invokevirtual 147, 3) := dk_182 0 147 (dk_at dksX5_read_2_2 2 rfl rfl)
theorem dX5_read_2_51 : decode cX5_read_2 51 = .ok (.aload_n 0, 1) := dk_42 (dk_at dksX5_read_2_2 5 rfl rfl)
theorem dX5_read_2_52 : decode cX5_read_2 52 = .ok (.iconst 3, 1) := dk_6 (dk_at dksX5_read_2_2 6 rfl rfl)
theorem dX5_read_2_53 : decode cX5_read_2 53 = .ok (.iload_n 2, 1) := dk_28 (dk_at dksX5_read_2_2 7 rfl rfl)
theorem dX5_read_2_54 : decode cX5_read_2 54 = .ok (.imul, 1) := dk_104 (dk_at dksX5_read_2_2 8 rfl rfl)
theorem dX5_read_2_55 : decode cX5_read_2 55 = .ok (.iconst 1, 1) := dk_4 (dk_at dksX5_read_2_2 9 rfl rfl)
theorem dX5_read_2_56 : decode cX5_read_2 56 = .ok (.iadd, 1) := dk_96 (dk_at dksX5_read_2_2 10 rfl rfl)
theorem dX5_read_2_57 : decode cX5_read_2 57 = .ok (.invokevirtual 147, 3) := dk_182 0 147 (dk_at dksX5_read_2_2 11 rfl rfl)
theorem dX5_read_2_60 : decode cX5_read_2 60 = .ok (.aload_n 0, 1) := dk_42 (dk_at dksX5_read_2_2 14 rfl rfl)
theorem dX5_read_2_61 : decode cX5_read_2 61 = .ok (.iconst 3, 1) := dk_6 (dk_at dksX5_read_2_2 15 rfl rfl)
theorem dX5_read_2_62 : decode cX5_read_2 62 = .ok (.iload_n 2, 1) := dk_28 (dk_at dksX5_read_2_2 16 rfl rfl)
theorem dX5_read_2_63 : decode cX5_read_2 63 = .ok (.imul, 1) := dk_104 (dk_at dksX5_read_2_2 17 rfl rfl)
theorem dX5_read_2_64 : decode cX5_read_2 64 = .ok (.iconst 2, 1) := dk_5 (dk_at dksX5_read_2_2 18 rfl rfl)
theorem dX5_read_2_65 : decode cX5_read_2 65 = .ok (.iadd, 1) := dk_96 (dk_at dksX5_read_2_2 19 rfl rfl)
theorem dX5_read_2_66 : decode cX5_read_2 66 = .ok (.invokevirtual 147, 3) := dk_182 0 147 (dk_at dksX5_read_2_2 20 rfl rfl)
theorem dX5_read_2_69 : decode cX5_read_2 69 = .ok (.invokevirtual 497, 3) := dk_182 1 241 (dk_at dksX5_read_2_3 0 rfl rfl)
theorem dX5_read_2_72 : decode cX5_read_2 72 = .ok (.ifCond .eq 35, 3) := dk_153 0 35 (dk_at dksX5_read_2_3 3 rfl rfl)
theorem dX5_read_2_75 : decode cX5_read_2 75 = .ok (.aload_n 0, 1) := dk_42 (dk_at dksX5_read_2_3 6 rfl rfl)
theorem dX5_read_2_76 : decode cX5_read_2 76 = .ok (.aload_n 0, 1) := dk_42 (dk_at dksX5_read_2_3 7 rfl rfl)
theorem dX5_read_2_77 : decode cX5_read_2 77 = .ok (.iconst 3, 1) := dk_6 (dk_at dksX5_read_2_3 8 rfl rfl)
theorem dX5_read_2_78 : decode cX5_read_2 78 = .ok (.iload_n 2, 1) := dk_28 (dk_at dksX5_read_2_3 9 rfl rfl)
theorem dX5_read_2_79 : decode cX5_read_2 79 = .ok (.imul, 1) := dk_104 (dk_at dksX5_read_2_3 10 rfl rfl)
theorem dX5_read_2_80 : decode cX5_read_2 80 = .ok (.invokevirtual 147, 3) := dk_182 0 147 (dk_at dksX5_read_2_3 11 rfl rfl)
theorem dX5_read_2_83 : decode cX5_read_2 83 = .ok (.aload_n 0, 1) := dk_42 (dk_at dksX5_read_2_3 14 rfl rfl)
theorem dX5_read_2_84 : decode cX5_read_2 84 = .ok (.iconst 3, 1) := dk_6 (dk_at dksX5_read_2_3 15 rfl rfl)
theorem dX5_read_2_85 : decode cX5_read_2 85 = .ok (.iload_n 2, 1) := dk_28 (dk_at dksX5_read_2_3 16 rfl rfl)
theorem dX5_read_2_86 : decode cX5_read_2 86 = .ok (.imul, 1) := dk_104 (dk_at dksX5_read_2_3 17 rfl rfl)
theorem dX5_read_2_87 : decode cX5_read_2 87 = .ok (.iconst 1, 1) := dk_4 (dk_at dksX5_read_2_3 18 rfl rfl)
theorem dX5_read_2_88 : decode cX5_read_2 88 = .ok (.iadd, 1) := dk_96 (dk_at dksX5_read_2_3 19 rfl rfl)
theorem dX5_read_2_89 : decode cX5_read_2 89 = .ok (.invokevirtual 147, 3) := dk_182 0 147 (dk_at dksX5_read_2_3 20 rfl rfl)
theorem dX5_read_2_92 : decode cX5_read_2 92 = .ok (.aload_n 0, 1) := dk_42 (dk_at dksX5_read_2_3 23 rfl rfl)
theorem dX5_read_2_93 : decode cX5_read_2 93 = .ok (.iconst 3, 1) := dk_6 (dk_at dksX5_read_2_4 0 rfl rfl)
theorem dX5_read_2_94 : decode cX5_read_2 94 = .ok (.iload_n 2, 1) := dk_28 (dk_at dksX5_read_2_4 1 rfl rfl)
theorem dX5_read_2_95 : decode cX5_read_2 95 = .ok (.imul, 1) := dk_104 (dk_at dksX5_read_2_4 2 rfl rfl)
theorem dX5_read_2_96 : decode cX5_read_2 96 = .ok (.iconst 2, 1) := dk_5 (dk_at dksX5_read_2_4 3 rfl rfl)
theorem dX5_read_2_97 : decode cX5_read_2 97 = .ok (.iadd, 1) := dk_96 (dk_at dksX5_read_2_4 4 rfl rfl)
theorem dX5_read_2_98 : decode cX5_read_2 98 = .ok (.invokevirtual 147, 3) := dk_182 0 147 (dk_at dksX5_read_2_4 5 rfl rfl)
theorem dX5_read_2_101 : decode cX5_read_2 101 = .ok (.invokevirtual 500, 3) := dk_182 1 244 (dk_at dksX5_read_2_4 8 rfl rfl)
theorem dX5_read_2_104 : decode cX5_read_2 104 = .ok (.ifCond .ge 5, 3) := dk_156 0 5 (dk_at dksX5_read_2_4 11 rfl rfl)
theorem dX5_read_2_107 : decode cX5_read_2 107 = .ok (.iconst (-1), 1) := dk_2 (dk_at dksX5_read_2_4 14 rfl rfl)
theorem dX5_read_2_108 : decode cX5_read_2 108 = .ok (.ireturn, 1) := dk_172 (dk_at dksX5_read_2_4 15 rfl rfl)
theorem dX5_read_2_109 : decode cX5_read_2 109 = .ok (.iconst 0, 1) := dk_3 (dk_at dksX5_read_2_4 16 rfl rfl)
theorem dX5_read_2_110 : decode cX5_read_2 110 = .ok (.istore_n 3, 1) := dk_62 (dk_at dksX5_read_2_4 17 rfl rfl)
theorem dX5_read_2_111 : decode cX5_read_2 111 = .ok (.iload_n 3, 1) := dk_29 (dk_at dksX5_read_2_4 18 rfl rfl)
theorem dX5_read_2_112 : decode cX5_read_2 112 = .ok (.sipush 256, 3) := dk_17 1 0 (dk_at dksX5_read_2_4 19 rfl rfl)
theorem dX5_read_2_115 : decode cX5_read_2 115 = .ok (.if_icmp .ge 22, 3) := dk_162 0 22 (dk_at dksX5_read_2_5 0 rfl rfl)
theorem dX5_read_2_118 : decode cX5_read_2 118 = .ok (.aload_n 0, 1) := dk_42 (dk_at dksX5_read_2_5 3 rfl rfl)
theorem dX5_read_2_119 : decode cX5_read_2 119 = .ok (.getfield 116, 3) := dk_180 0 116 (dk_at dksX5_read_2_5 4 rfl rfl)
theorem dX5_read_2_122 : decode cX5_read_2 122 = .ok (.sipush 256, 3) := dk_17 1 0 (dk_at dksX5_read_2_5 7 rfl rfl)
theorem dX5_read_2_125 : decode cX5_read_2 125 = .ok (.iload_n 2, 1) := dk_28 (dk_at dksX5_read_2_5 10 rfl rfl)
theorem dX5_read_2_126 : decode cX5_read_2 126 = .ok (.imul, 1) := dk_104 (dk_at dksX5_read_2_5 11 rfl rfl)
theorem dX5_read_2_127 : decode cX5_read_2 127 = .ok (.iload_n 3, 1) := dk_29 (dk_at dksX5_read_2_5 12 rfl rfl)
theorem dX5_read_2_128 : decode cX5_read_2 128 = .ok (.iadd, 1) := dk_96 (dk_at dksX5_read_2_5 13 rfl rfl)
theorem dX5_read_2_129 : decode cX5_read_2 129 = .ok (.iconst 0, 1) := dk_3 (dk_at dksX5_read_2_5 14 rfl rfl)
theorem dX5_read_2_130 : decode cX5_read_2 130 = .ok (.iastore, 1) := dk_79 (dk_at dksX5_read_2_5 15 rfl rfl)
theorem dX5_read_2_131 : decode cX5_read_2 131 = .ok (.iinc 3 1, 3) := dk_132 3 1 (dk_at dksX5_read_2_5 16 rfl rfl)
theorem dX5_read_2_134 : decode cX5_read_2 134 = .ok (.goto (-23), 3) := dk_167 255 233 (dk_at dksX5_read_2_5 19 rfl rfl)
theorem dX5_read_2_137 : decode cX5_read_2 137 = .ok (.iconst 1, 1) := dk_4 (dk_at dksX5_read_2_5 22 rfl rfl)
theorem dX5_read_2_138 : decode cX5_read_2 138 = .ok (.istore_n 3, 1) := dk_62 (dk_at dksX5_read_2_5 23 rfl rfl)
theorem dX5_read_2_139 : decode cX5_read_2 139 = .ok (.iload_n 3, 1) := dk_29 (dk_at dksX5_read_2_6 0 rfl rfl)
theorem dX5_read_2_140 : decode cX5_read_2 140 = .ok (.aload_n 0, 1) := dk_42 (dk_at dksX5_read_2_6 1 rfl rfl)
theorem dX5_read_2_141 : decode cX5_read_2 141 = .ok (.getfield 494, 3) := dk_180 1 238 (dk_at dksX5_read_2_6 2 rfl rfl)
theorem dX5_read_2_144 : decode cX5_read_2 144 = .ok (.if_icmp .ge 30, 3) := dk_162 0 30 (dk_at dksX5_read_2_6 5 rfl rfl)
theorem dX5_read_2_147 : decode cX5_read_2 147 = .ok (.aload_n 0, 1) := dk_42 (dk_at dksX5_read_2_6 8 rfl rfl)
theorem dX5_read_2_148 : decode cX5_read_2 148 = .ok (.getfield 116, 3) := dk_180 0 116 (dk_at dksX5_read_2_6 9 rfl rfl)
theorem dX5_read_2_151 : decode cX5_read_2 151 = .ok (.sipush 256, 3) := dk_17 1 0 (dk_at dksX5_read_2_6 12 rfl rfl)
theorem dX5_read_2_154 : decode cX5_read_2 154 = .ok (.iload_n 2, 1) := dk_28 (dk_at dksX5_read_2_6 15 rfl rfl)
theorem dX5_read_2_155 : decode cX5_read_2 155 = .ok (.imul, 1) := dk_104 (dk_at dksX5_read_2_6 16 rfl rfl)
theorem dX5_read_2_156 : decode cX5_read_2 156 = .ok (.aload_n 0, 1) := dk_42 (dk_at dksX5_read_2_6 17 rfl rfl)
theorem dX5_read_2_157 : decode cX5_read_2 157 = .ok (.getfield 110, 3) := dk_180 0 110 (dk_at dksX5_read_2_6 18 rfl rfl)
theorem dX5_read_2_160 : decode cX5_read_2 160 = .ok (.iload_n 3, 1) := dk_29 (dk_at dksX5_read_2_6 21 rfl rfl)
theorem dX5_read_2_161 : decode cX5_read_2 161 = .ok (.iaload, 1) := dk_46 (dk_at dksX5_read_2_6 22 rfl rfl)
theorem dX5_read_2_162 : decode cX5_read_2 162 = .ok (.iadd, 1) := dk_96 (dk_at dksX5_read_2_6 23 rfl rfl)
theorem dX5_read_2_163 : decode cX5_read_2 163 = .ok (.dup2, 1) := dk_92 (dk_at dksX5_read_2_7 0 rfl rfl)
theorem dX5_read_2_164 : decode cX5_read_2 164 = .ok (.iaload, 1) := dk_46 (dk_at dksX5_read_2_7 1 rfl rfl)
theorem dX5_read_2_165 : decode cX5_read_2 165 = .ok (.iconst 1, 1) := dk_4 (dk_at dksX5_read_2_7 2 rfl rfl)
theorem dX5_read_2_166 : decode cX5_read_2 166 = .ok (.iadd, 1) := dk_96 (dk_at dksX5_read_2_7 3 rfl rfl)
theorem dX5_read_2_167 : decode cX5_read_2 167 = .ok (.iastore, 1) := dk_79 (dk_at dksX5_read_2_7 4 rfl rfl)
theorem dX5_read_2_168 : decode cX5_read_2 168 = .ok (.iinc 3 1, 3) := dk_132 3 1 (dk_at dksX5_read_2_7 5 rfl rfl)
theorem dX5_read_2_171 : decode cX5_read_2 171 = .ok (.goto (-32), 3) := dk_167 255 224 (dk_at dksX5_read_2_7 8 rfl rfl)
theorem dX5_read_2_174 : decode cX5_read_2 174 = .ok (.iinc 2 1, 3) := dk_132 2 1 (dk_at dksX5_read_2_7 11 rfl rfl)
theorem dX5_read_2_177 : decode cX5_read_2 177 = .ok (.goto (-139), 3) := dk_167 255 117 (dk_at dksX5_read_2_7 14 rfl rfl)
theorem dX5_read_2_180 : decode cX5_read_2 180 = .ok (.iconst 1, 1) := dk_4 (dk_at dksX5_read_2_7 17 rfl rfl)
theorem dX5_read_2_181 : decode cX5_read_2 181 = .ok (.istore_n 2, 1) := dk_61 (dk_at dksX5_read_2_7 18 rfl rfl)
theorem dX5_read_2_182 : decode cX5_read_2 182 = .ok (.iconst 0, 1) := dk_3 (dk_at dksX5_read_2_7 19 rfl rfl)
theorem dX5_read_2_183 : decode cX5_read_2 183 = .ok (.istore_n 3, 1) := dk_62 (dk_at dksX5_read_2_7 20 rfl rfl)
theorem dX5_read_2_184 : decode cX5_read_2 184 = .ok (.iload_n 3, 1) := dk_29 (dk_at dksX5_read_2_7 21 rfl rfl)
theorem dX5_read_2_185 : decode cX5_read_2 185 = .ok (.iload_n 1, 1) := dk_27 (dk_at dksX5_read_2_7 22 rfl rfl)
theorem dX5_read_2_186 : decode cX5_read_2 186 = .ok (.if_icmp .ge 14, 3) := dk_162 0 14 (dk_at dksX5_read_2_8 0 rfl rfl)
theorem dX5_read_2_189 : decode cX5_read_2 189 = .ok (.iload_n 2, 1) := dk_28 (dk_at dksX5_read_2_8 3 rfl rfl)
theorem dX5_read_2_190 : decode cX5_read_2 190 = .ok (.bipush 10, 2) := dk_16 10 (dk_at dksX5_read_2_8 4 rfl rfl)
theorem dX5_read_2_192 : decode cX5_read_2 192 = .ok (.imul, 1) := dk_104 (dk_at dksX5_read_2_8 6 rfl rfl)
theorem dX5_read_2_193 : decode cX5_read_2 193 = .ok (.istore_n 2, 1) := dk_61 (dk_at dksX5_read_2_8 7 rfl rfl)
theorem dX5_read_2_194 : decode cX5_read_2 194 = .ok (.iinc 3 1, 3) := dk_132 3 1 (dk_at dksX5_read_2_8 8 rfl rfl)
theorem dX5_read_2_197 : decode cX5_read_2 197 = .ok (.goto (-13), 3) := dk_167 255 243 (dk_at dksX5_read_2_8 11 rfl rfl)
theorem dX5_read_2_200 : decode cX5_read_2 200 = .ok (.iconst 0, 1) := dk_3 (dk_at dksX5_read_2_8 14 rfl rfl)
theorem dX5_read_2_201 : decode cX5_read_2 201 = .ok (.istore_n 3, 1) := dk_62 (dk_at dksX5_read_2_8 15 rfl rfl)
theorem dX5_read_2_202 : decode cX5_read_2 202 = .ok (.iconst 0, 1) := dk_3 (dk_at dksX5_read_2_8 16 rfl rfl)
theorem dX5_read_2_203 : decode cX5_read_2 203 = .ok (.istore 4, 2) := dk_54 4 (dk_at dksX5_read_2_8 17 rfl rfl)
theorem dX5_read_2_205 : decode cX5_read_2 205 = .ok (.iload 4, 2) := dk_21 4 (dk_at dksX5_read_2_8 19 rfl rfl)
theorem dX5_read_2_207 : decode cX5_read_2 207 = .ok (.iload_n 2, 1) := dk_28 (dk_at dksX5_read_2_8 21 rfl rfl)
theorem dX5_read_2_208 : decode cX5_read_2 208 = .ok (.if_icmp .ge 175, 3) := dk_162 0 175 (dk_at dksX5_read_2_9 0 rfl rfl)
theorem dX5_read_2_211 : decode cX5_read_2 211 = .ok (.iload 4, 2) := dk_21 4 (dk_at dksX5_read_2_9 3 rfl rfl)
theorem dX5_read_2_213 : decode cX5_read_2 213 = .ok (.istore 5, 2) := dk_54 5 (dk_at dksX5_read_2_9 5 rfl rfl)
theorem dX5_read_2_215 : decode cX5_read_2 215 = .ok (.iconst 0, 1) := dk_3 (dk_at dksX5_read_2_9 7 rfl rfl)
theorem dX5_read_2_216 : decode cX5_read_2 216 = .ok (.istore 6, 2) := dk_54 6 (dk_at dksX5_read_2_9 8 rfl rfl)
theorem dX5_read_2_218 : decode cX5_read_2 218 = .ok (.iload 6, 2) := dk_21 6 (dk_at dksX5_read_2_9 10 rfl rfl)
theorem dX5_read_2_220 : decode cX5_read_2 220 = .ok (.iload_n 1, 1) := dk_27 (dk_at dksX5_read_2_9 12 rfl rfl)
theorem dX5_read_2_221 : decode cX5_read_2 221 = .ok (.if_icmp .ge 28, 3) := dk_162 0 28 (dk_at dksX5_read_2_9 13 rfl rfl)
theorem dX5_read_2_224 : decode cX5_read_2 224 = .ok (.aload_n 0, 1) := dk_42 (dk_at dksX5_read_2_9 16 rfl rfl)
theorem dX5_read_2_225 : decode cX5_read_2 225 = .ok (.getfield 125, 3) := dk_180 0 125 (dk_at dksX5_read_2_9 17 rfl rfl)
theorem dX5_read_2_228 : decode cX5_read_2 228 = .ok (.iload 6, 2) := dk_21 6 (dk_at dksX5_read_2_9 20 rfl rfl)
theorem dX5_read_2_230 : decode cX5_read_2 230 = .ok (.iload 5, 2) := dk_21 5 (dk_at dksX5_read_2_9 22 rfl rfl)
theorem dX5_read_2_232 : decode cX5_read_2 232 = .ok (.bipush 10, 2) := dk_16 10 (dk_at dksX5_read_2_10 0 rfl rfl)
theorem dX5_read_2_234 : decode cX5_read_2 234 = .ok (.irem, 1) := dk_112 (dk_at dksX5_read_2_10 2 rfl rfl)
theorem dX5_read_2_235 : decode cX5_read_2 235 = .ok (.iastore, 1) := dk_79 (dk_at dksX5_read_2_10 3 rfl rfl)
theorem dX5_read_2_236 : decode cX5_read_2 236 = .ok (.iload 5, 2) := dk_21 5 (dk_at dksX5_read_2_10 4 rfl rfl)
theorem dX5_read_2_238 : decode cX5_read_2 238 = .ok (.bipush 10, 2) := dk_16 10 (dk_at dksX5_read_2_10 6 rfl rfl)
theorem dX5_read_2_240 : decode cX5_read_2 240 = .ok (.idiv, 1) := dk_108 (dk_at dksX5_read_2_10 8 rfl rfl)
theorem dX5_read_2_241 : decode cX5_read_2 241 = .ok (.istore 5, 2) := dk_54 5 (dk_at dksX5_read_2_10 9 rfl rfl)
theorem dX5_read_2_243 : decode cX5_read_2 243 = .ok (.iinc 6 1, 3) := dk_132 6 1 (dk_at dksX5_read_2_10 11 rfl rfl)
theorem dX5_read_2_246 : decode cX5_read_2 246 = .ok (.goto (-28), 3) := dk_167 255 228 (dk_at dksX5_read_2_10 14 rfl rfl)
theorem dX5_read_2_249 : decode cX5_read_2 249 = .ok (.aload_n 0, 1) := dk_42 (dk_at dksX5_read_2_10 17 rfl rfl)
theorem dX5_read_2_250 : decode cX5_read_2 250 = .ok (.iload_n 1, 1) := dk_27 (dk_at dksX5_read_2_10 18 rfl rfl)
theorem dX5_read_2_251 : decode cX5_read_2 251 = .ok (.invokevirtual 506, 3) := dk_182 1 250 (dk_at dksX5_read_2_10 19 rfl rfl)
theorem dX5_read_2_254 : decode cX5_read_2 254 = .ok (.ifCond .ne 6, 3) := dk_154 0 6 (dk_at dksX5_read_2_11 0 rfl rfl)
theorem dX5_read_2_257 : decode cX5_read_2 257 = .ok (.goto 120, 3) := dk_167 0 120 (dk_at dksX5_read_2_11 3 rfl rfl)
theorem dX5_read_2_260 : decode cX5_read_2 260 = .ok (.iload_n 3, 1) := dk_29 (dk_at dksX5_read_2_11 6 rfl rfl)
theorem dX5_read_2_261 : decode cX5_read_2 261 = .ok (.ifCond .ne 8, 3) := dk_154 0 8 (dk_at dksX5_read_2_11 7 rfl rfl)
theorem dX5_read_2_264 : decode cX5_read_2 264 = .ok (.aload_n 0, 1) := dk_42 (dk_at dksX5_read_2_11 10 rfl rfl)
theorem dX5_read_2_265 : decode cX5_read_2 265 = .ok (.iload_n 1, 1) := dk_27 (dk_at dksX5_read_2_11 11 rfl rfl)
theorem dX5_read_2_266 : decode cX5_read_2 266 = .ok (.putfield 509, 3) := dk_181 1 253 (dk_at dksX5_read_2_11 12 rfl rfl)
theorem dX5_read_2_269 : decode cX5_read_2 269 = .ok (.iconst 0, 1) := dk_3 (dk_at dksX5_read_2_11 15 rfl rfl)
theorem dX5_read_2_270 : decode cX5_read_2 270 = .ok (.istore 6, 2) := dk_54 6 (dk_at dksX5_read_2_11 16 rfl rfl)
theorem dX5_read_2_272 : decode cX5_read_2 272 = .ok (.iload 6, 2) := dk_21 6 (dk_at dksX5_read_2_11 18 rfl rfl)
theorem dX5_read_2_274 : decode cX5_read_2 274 = .ok (.iload_n 1, 1) := dk_27 (dk_at dksX5_read_2_11 20 rfl rfl)
theorem dX5_read_2_275 : decode cX5_read_2 275 = .ok (.if_icmp .ge 99, 3) := dk_162 0 99 (dk_at dksX5_read_2_11 21 rfl rfl)
theorem dX5_read_2_278 : decode cX5_read_2 278 = .ok (.aload_n 0, 1) := dk_42 (dk_at dksX5_read_2_12 0 rfl rfl)
theorem dX5_read_2_279 : decode cX5_read_2 279 = .ok (.getfield 119, 3) := dk_180 0 119 (dk_at dksX5_read_2_12 1 rfl rfl)
theorem dX5_read_2_282 : decode cX5_read_2 282 = .ok (.iload 6, 2) := dk_21 6 (dk_at dksX5_read_2_12 4 rfl rfl)
theorem dX5_read_2_284 : decode cX5_read_2 284 = .ok (.iload_n 3, 1) := dk_29 (dk_at dksX5_read_2_12 6 rfl rfl)
theorem dX5_read_2_285 : decode cX5_read_2 285 = .ok (.ifCond .eq 20, 3) := dk_153 0 20 (dk_at dksX5_read_2_12 7 rfl rfl)
theorem dX5_read_2_288 : decode cX5_read_2 288 = .ok (.aload_n 0, 1) := dk_42 (dk_at dksX5_read_2_12 10 rfl rfl)
theorem dX5_read_2_289 : decode cX5_read_2 289 = .ok (.getfield 125, 3) := dk_180 0 125 (dk_at dksX5_read_2_12 11 rfl rfl)
theorem dX5_read_2_292 : decode cX5_read_2 292 = .ok (.iload 6, 2) := dk_21 6 (dk_at dksX5_read_2_12 14 rfl rfl)
theorem dX5_read_2_294 : decode cX5_read_2 294 = .ok (.iaload, 1) := dk_46 (dk_at dksX5_read_2_12 16 rfl rfl)
theorem dX5_read_2_295 : decode cX5_read_2 295 = .ok (.aload_n 0, 1) := dk_42 (dk_at dksX5_read_2_12 17 rfl rfl)
theorem dX5_read_2_296 : decode cX5_read_2 296 = .ok (.getfield 119, 3) := dk_180 0 119 (dk_at dksX5_read_2_12 18 rfl rfl)
theorem dX5_read_2_299 : decode cX5_read_2 299 = .ok (.iload 6, 2) := dk_21 6 (dk_at dksX5_read_2_12 21 rfl rfl)
theorem dX5_read_2_301 : decode cX5_read_2 301 = .ok (.iaload, 1) := dk_46 (dk_at dksX5_read_2_12 23 rfl rfl)
theorem dX5_read_2_302 : decode cX5_read_2 302 = .ok (.if_icmp .ge 13, 3) := dk_162 0 13 (dk_at dksX5_read_2_13 0 rfl rfl)
theorem dX5_read_2_305 : decode cX5_read_2 305 = .ok (.aload_n 0, 1) := dk_42 (dk_at dksX5_read_2_13 3 rfl rfl)
theorem dX5_read_2_306 : decode cX5_read_2 306 = .ok (.getfield 125, 3) := dk_180 0 125 (dk_at dksX5_read_2_13 4 rfl rfl)
theorem dX5_read_2_309 : decode cX5_read_2 309 = .ok (.iload 6, 2) := dk_21 6 (dk_at dksX5_read_2_13 7 rfl rfl)
theorem dX5_read_2_311 : decode cX5_read_2 311 = .ok (.iaload, 1) := dk_46 (dk_at dksX5_read_2_13 9 rfl rfl)
theorem dX5_read_2_312 : decode cX5_read_2 312 = .ok (.goto 10, 3) := dk_167 0 10 (dk_at dksX5_read_2_13 10 rfl rfl)
theorem dX5_read_2_315 : decode cX5_read_2 315 = .ok (.aload_n 0, 1) := dk_42 (dk_at dksX5_read_2_13 13 rfl rfl)
theorem dX5_read_2_316 : decode cX5_read_2 316 = .ok (.getfield 119, 3) := dk_180 0 119 (dk_at dksX5_read_2_13 14 rfl rfl)
theorem dX5_read_2_319 : decode cX5_read_2 319 = .ok (.iload 6, 2) := dk_21 6 (dk_at dksX5_read_2_13 17 rfl rfl)
theorem dX5_read_2_321 : decode cX5_read_2 321 = .ok (.iaload, 1) := dk_46 (dk_at dksX5_read_2_13 19 rfl rfl)
theorem dX5_read_2_322 : decode cX5_read_2 322 = .ok (.iastore, 1) := dk_79 (dk_at dksX5_read_2_13 20 rfl rfl)
theorem dX5_read_2_323 : decode cX5_read_2 323 = .ok (.aload_n 0, 1) := dk_42 (dk_at dksX5_read_2_13 21 rfl rfl)
theorem dX5_read_2_324 : decode cX5_read_2 324 = .ok (.getfield 122, 3) := dk_180 0 122 (dk_at dksX5_read_2_14 0 rfl rfl)
theorem dX5_read_2_327 : decode cX5_read_2 327 = .ok (.iload 6, 2) := dk_21 6 (dk_at dksX5_read_2_14 3 rfl rfl)
theorem dX5_read_2_329 : decode cX5_read_2 329 = .ok (.iload_n 3, 1) := dk_29 (dk_at dksX5_read_2_14 5 rfl rfl)
theorem dX5_read_2_330 : decode cX5_read_2 330 = .ok (.ifCond .eq 20, 3) := dk_153 0 20 (dk_at dksX5_read_2_14 6 rfl rfl)
theorem dX5_read_2_333 : decode cX5_read_2 333 = .ok (.aload_n 0, 1) := dk_42 (dk_at dksX5_read_2_14 9 rfl rfl)
theorem dX5_read_2_334 : decode cX5_read_2 334 = .ok (.getfield 125, 3) := dk_180 0 125 (dk_at dksX5_read_2_14 10 rfl rfl)
theorem dX5_read_2_337 : decode cX5_read_2 337 = .ok (.iload 6, 2) := dk_21 6 (dk_at dksX5_read_2_14 13 rfl rfl)
theorem dX5_read_2_339 : decode cX5_read_2 339 = .ok (.iaload, 1) := dk_46 (dk_at dksX5_read_2_14 15 rfl rfl)
theorem dX5_read_2_340 : decode cX5_read_2 340 = .ok (.aload_n 0, 1) := dk_42 (dk_at dksX5_read_2_14 16 rfl rfl)
theorem dX5_read_2_341 : decode cX5_read_2 341 = .ok (.getfield 122, 3) := dk_180 0 122 (dk_at dksX5_read_2_14 17 rfl rfl)
theorem dX5_read_2_344 : decode cX5_read_2 344 = .ok (.iload 6, 2) := dk_21 6 (dk_at dksX5_read_2_14 20 rfl rfl)
theorem dX5_read_2_346 : decode cX5_read_2 346 = .ok (.iaload, 1) := dk_46 (dk_at dksX5_read_2_14 22 rfl rfl)
theorem dX5_read_2_347 : decode cX5_read_2 347 = .ok (.if_icmp .le 13, 3) := dk_164 0 13 (dk_at dksX5_read_2_15 0 rfl rfl)
theorem dX5_read_2_350 : decode cX5_read_2 350 = .ok (.aload_n 0, 1) := dk_42 (dk_at dksX5_read_2_15 3 rfl rfl)
theorem dX5_read_2_351 : decode cX5_read_2 351 = .ok (.getfield 125, 3) := dk_180 0 125 (dk_at dksX5_read_2_15 4 rfl rfl)
theorem dX5_read_2_354 : decode cX5_read_2 354 = .ok (.iload 6, 2) := dk_21 6 (dk_at dksX5_read_2_15 7 rfl rfl)
theorem dX5_read_2_356 : decode cX5_read_2 356 = .ok (.iaload, 1) := dk_46 (dk_at dksX5_read_2_15 9 rfl rfl)
theorem dX5_read_2_357 : decode cX5_read_2 357 = .ok (.goto 10, 3) := dk_167 0 10 (dk_at dksX5_read_2_15 10 rfl rfl)
theorem dX5_read_2_360 : decode cX5_read_2 360 = .ok (.aload_n 0, 1) := dk_42 (dk_at dksX5_read_2_15 13 rfl rfl)
theorem dX5_read_2_361 : decode cX5_read_2 361 = .ok (.getfield 122, 3) := dk_180 0 122 (dk_at dksX5_read_2_15 14 rfl rfl)
theorem dX5_read_2_364 : decode cX5_read_2 364 = .ok (.iload 6, 2) := dk_21 6 (dk_at dksX5_read_2_15 17 rfl rfl)
theorem dX5_read_2_366 : decode cX5_read_2 366 = .ok (.iaload, 1) := dk_46 (dk_at dksX5_read_2_15 19 rfl rfl)
theorem dX5_read_2_367 : decode cX5_read_2 367 = .ok (.iastore, 1) := dk_79 (dk_at dksX5_read_2_15 20 rfl rfl)
theorem dX5_read_2_368 : decode cX5_read_2 368 = .ok (.iinc 6 1, 3) := dk_132 6 1 (dk_at dksX5_read_2_15 21 rfl rfl)
theorem dX5_read_2_371 : decode cX5_read_2 371 = .ok (.goto (-99), 3) := dk_167 255 157 (dk_at dksX5_read_2_16 0 rfl rfl)
theorem dX5_read_2_374 : decode cX5_read_2 374 = .ok (.iinc 3 1, 3) := dk_132 3 1 (dk_at dksX5_read_2_16 3 rfl rfl)
theorem dX5_read_2_377 : decode cX5_read_2 377 = .ok (.iinc 4 1, 3) := dk_132 4 1 (dk_at dksX5_read_2_16 6 rfl rfl)
theorem dX5_read_2_380 : decode cX5_read_2 380 = .ok (.goto (-175), 3) := dk_167 255 81 (dk_at dksX5_read_2_16 9 rfl rfl)
theorem dX5_read_2_383 : decode cX5_read_2 383 = .ok (.iload_n 3, 1) := dk_29 (dk_at dksX5_read_2_16 12 rfl rfl)
theorem dX5_read_2_384 : decode cX5_read_2 384 = .ok (.ireturn, 1) := dk_172 (dk_at dksX5_read_2_16 13 rfl rfl)
abbrev cX5_isSnow : ByteArray := prog_12_method_110_code
def yX5_isSnow : MethodName := ⟨RX5, "isSnow", "(I)Z"⟩
def dkwX5_isSnow_2 : List UInt8 := [104, 100, 62, 132, 4, 1, 167, 255, 223, 29, 153, 0, 5, 3, 172, 132, 2, 1, 167, 255, 192, 4, 172]
abbrev dktX5_isSnow_2 : List UInt8 := dkwX5_isSnow_2 ++ []
def dkwX5_isSnow_1 : List UInt8 := [162, 0, 33, 29, 42, 180, 0, 125, 21, 4, 46, 42, 180, 0, 116, 17, 1, 0, 21, 4, 104, 28, 96, 46]
abbrev dktX5_isSnow_1 : List UInt8 := dkwX5_isSnow_1 ++ dktX5_isSnow_2
def dkwX5_isSnow_0 : List UInt8 := [3, 61, 28, 42, 182, 0, 128, 162, 0, 62, 42, 28, 16, 6, 182, 0, 136, 62, 3, 54, 4, 21, 4, 27]
abbrev dktX5_isSnow_0 : List UInt8 := dkwX5_isSnow_0 ++ dktX5_isSnow_1
theorem dksX5_isSnow_0 : cX5_isSnow.data.toList.drop 0 = dktX5_isSnow_0 := by decide +kernel
theorem dksX5_isSnow_1 : cX5_isSnow.data.toList.drop 24 = dktX5_isSnow_1 := dk_seg dksX5_isSnow_0 24 rfl rfl
theorem dksX5_isSnow_2 : cX5_isSnow.data.toList.drop 48 = dktX5_isSnow_2 := dk_seg dksX5_isSnow_1 24 rfl rfl
theorem dX5_isSnow_0 : decode cX5_isSnow 0 = .ok (.iconst 0, 1) := dk_3 (dk_at dksX5_isSnow_0 0 rfl rfl)
theorem dX5_isSnow_1 : decode cX5_isSnow 1 = .ok (.istore_n 2, 1) := dk_61 (dk_at dksX5_isSnow_0 1 rfl rfl)
theorem dX5_isSnow_2 : decode cX5_isSnow 2 = .ok (.iload_n 2, 1) := dk_28 (dk_at dksX5_isSnow_0 2 rfl rfl)
theorem dX5_isSnow_3 : decode cX5_isSnow 3 = .ok (.aload_n 0, 1) := dk_42 (dk_at dksX5_isSnow_0 3 rfl rfl)
theorem dX5_isSnow_4 : decode cX5_isSnow 4 = .ok (.invokevirtual 128, 3) := dk_182 0 128 (dk_at dksX5_isSnow_0 4 rfl rfl)
theorem dX5_isSnow_7 : decode cX5_isSnow 7 = .ok (.if_icmp .ge 62, 3) := dk_162 0 62 (dk_at dksX5_isSnow_0 7 rfl rfl)
theorem dX5_isSnow_10 : decode cX5_isSnow 10 = .ok (.aload_n 0, 1) := dk_42 (dk_at dksX5_isSnow_0 10 rfl rfl)
theorem dX5_isSnow_11 : decode cX5_isSnow 11 = .ok (.iload_n 2, 1) := dk_28 (dk_at dksX5_isSnow_0 11 rfl rfl)
theorem dX5_isSnow_12 : decode cX5_isSnow 12 = .ok (.bipush 6, 2) := dk_16 6 (dk_at dksX5_isSnow_0 12 rfl rfl)
theorem dX5_isSnow_14 : decode cX5_isSnow 14 = .ok (.invokevirtual 136, 3) := dk_182 0 136 (dk_at dksX5_isSnow_0 14 rfl rfl)
theorem dX5_isSnow_17 : decode cX5_isSnow 17 = .ok (.istore_n 3, 1) := dk_62 (dk_at dksX5_isSnow_0 17 rfl rfl)
theorem dX5_isSnow_18 : decode cX5_isSnow 18 = .ok (.iconst 0, 1) := dk_3 (dk_at dksX5_isSnow_0 18 rfl rfl)
theorem dX5_isSnow_19 : decode cX5_isSnow 19 = .ok (.istore 4, 2) := dk_54 4 (dk_at dksX5_isSnow_0 19 rfl rfl)
theorem dX5_isSnow_21 : decode cX5_isSnow 21 = .ok (.iload 4, 2) := dk_21 4 (dk_at dksX5_isSnow_0 21 rfl rfl)
theorem dX5_isSnow_23 : decode cX5_isSnow 23 = .ok (.iload_n 1, 1) := dk_27 (dk_at dksX5_isSnow_0 23 rfl rfl)
theorem dX5_isSnow_24 : decode cX5_isSnow 24 = .ok (.if_icmp .ge 33, 3) := dk_162 0 33 (dk_at dksX5_isSnow_1 0 rfl rfl)
theorem dX5_isSnow_27 : decode cX5_isSnow 27 = .ok (.iload_n 3, 1) := dk_29 (dk_at dksX5_isSnow_1 3 rfl rfl)
theorem dX5_isSnow_28 : decode cX5_isSnow 28 = .ok (.aload_n 0, 1) := dk_42 (dk_at dksX5_isSnow_1 4 rfl rfl)
theorem dX5_isSnow_29 : decode cX5_isSnow 29 = .ok (.getfield 125, 3) := dk_180 0 125 (dk_at dksX5_isSnow_1 5 rfl rfl)
theorem dX5_isSnow_32 : decode cX5_isSnow 32 = .ok (.iload 4, 2) := dk_21 4 (dk_at dksX5_isSnow_1 8 rfl rfl)
theorem dX5_isSnow_34 : decode cX5_isSnow 34 = .ok (.iaload, 1) := dk_46 (dk_at dksX5_isSnow_1 10 rfl rfl)
theorem dX5_isSnow_35 : decode cX5_isSnow 35 = .ok (.aload_n 0, 1) := dk_42 (dk_at dksX5_isSnow_1 11 rfl rfl)
theorem dX5_isSnow_36 : decode cX5_isSnow 36 = .ok (.getfield 116, 3) := dk_180 0 116 (dk_at dksX5_isSnow_1 12 rfl rfl)
theorem dX5_isSnow_39 : decode cX5_isSnow 39 = .ok (.sipush 256, 3) := dk_17 1 0 (dk_at dksX5_isSnow_1 15 rfl rfl)
theorem dX5_isSnow_42 : decode cX5_isSnow 42 = .ok (.iload 4, 2) := dk_21 4 (dk_at dksX5_isSnow_1 18 rfl rfl)
theorem dX5_isSnow_44 : decode cX5_isSnow 44 = .ok (.imul, 1) := dk_104 (dk_at dksX5_isSnow_1 20 rfl rfl)
theorem dX5_isSnow_45 : decode cX5_isSnow 45 = .ok (.iload_n 2, 1) := dk_28 (dk_at dksX5_isSnow_1 21 rfl rfl)
theorem dX5_isSnow_46 : decode cX5_isSnow 46 = .ok (.iadd, 1) := dk_96 (dk_at dksX5_isSnow_1 22 rfl rfl)
theorem dX5_isSnow_47 : decode cX5_isSnow 47 = .ok (.iaload, 1) := dk_46 (dk_at dksX5_isSnow_1 23 rfl rfl)
theorem dX5_isSnow_48 : decode cX5_isSnow 48 = .ok (.imul, 1) := dk_104 (dk_at dksX5_isSnow_2 0 rfl rfl)
theorem dX5_isSnow_49 : decode cX5_isSnow 49 = .ok (.isub, 1) := dk_100 (dk_at dksX5_isSnow_2 1 rfl rfl)
theorem dX5_isSnow_50 : decode cX5_isSnow 50 = .ok (.istore_n 3, 1) := dk_62 (dk_at dksX5_isSnow_2 2 rfl rfl)
theorem dX5_isSnow_51 : decode cX5_isSnow 51 = .ok (.iinc 4 1, 3) := dk_132 4 1 (dk_at dksX5_isSnow_2 3 rfl rfl)
theorem dX5_isSnow_54 : decode cX5_isSnow 54 = .ok (.goto (-33), 3) := dk_167 255 223 (dk_at dksX5_isSnow_2 6 rfl rfl)
theorem dX5_isSnow_57 : decode cX5_isSnow 57 = .ok (.iload_n 3, 1) := dk_29 (dk_at dksX5_isSnow_2 9 rfl rfl)
theorem dX5_isSnow_58 : decode cX5_isSnow 58 = .ok (.ifCond .eq 5, 3) := dk_153 0 5 (dk_at dksX5_isSnow_2 10 rfl rfl)
theorem dX5_isSnow_61 : decode cX5_isSnow 61 = .ok (.iconst 0, 1) := dk_3 (dk_at dksX5_isSnow_2 13 rfl rfl)
theorem dX5_isSnow_62 : decode cX5_isSnow 62 = .ok (.ireturn, 1) := dk_172 (dk_at dksX5_isSnow_2 14 rfl rfl)
theorem dX5_isSnow_63 : decode cX5_isSnow 63 = .ok (.iinc 2 1, 3) := dk_132 2 1 (dk_at dksX5_isSnow_2 15 rfl rfl)
theorem dX5_isSnow_66 : decode cX5_isSnow 66 = .ok (.goto (-64), 3) := dk_167 255 192 (dk_at dksX5_isSnow_2 18 rfl rfl)
theorem dX5_isSnow_69 : decode cX5_isSnow 69 = .ok (.iconst 1, 1) := dk_4 (dk_at dksX5_isSnow_2 21 rfl rfl)
theorem dX5_isSnow_70 : decode cX5_isSnow 70 = .ok (.ireturn, 1) := dk_172 (dk_at dksX5_isSnow_2 22 rfl rfl)
abbrev cX5_reads : ByteArray := prog_12_method_111_code
def yX5_reads : MethodName := ⟨RX5, "reads", "(II)I"⟩
def dkwX5_reads_2 : List UInt8 := [180, 0, 122, 27, 46, 172]
abbrev dktX5_reads_2 : List UInt8 := dkwX5_reads_2 ++ []
def dkwX5_reads_1 : List UInt8 := [184, 0, 132, 154, 0, 7, 2, 167, 0, 22, 28, 154, 0, 12, 42, 180, 0, 119, 27, 46, 167, 0, 9, 42]
abbrev dktX5_reads_1 : List UInt8 := dkwX5_reads_1 ++ dktX5_reads_2
def dkwX5_reads_0 : List UInt8 := [42, 3, 181, 0, 1, 27, 3, 42, 180, 1, 253, 4, 100, 184, 0, 132, 153, 0, 12, 28, 3, 4]
abbrev dktX5_reads_0 : List UInt8 := dkwX5_reads_0 ++ dktX5_reads_1
theorem dksX5_reads_0 : cX5_reads.data.toList.drop 0 = dktX5_reads_0 := by decide +kernel
theorem dksX5_reads_1 : cX5_reads.data.toList.drop 22 = dktX5_reads_1 := dk_seg dksX5_reads_0 22 rfl rfl
theorem dksX5_reads_2 : cX5_reads.data.toList.drop 46 = dktX5_reads_2 := dk_seg dksX5_reads_1 24 rfl rfl
theorem dX5_reads_0 : decode cX5_reads 0 = .ok (.aload_n 0, 1) := dk_42 (dk_at dksX5_reads_0 0 rfl rfl)
theorem dX5_reads_1 : decode cX5_reads 1 = .ok (.iconst 0, 1) := dk_3 (dk_at dksX5_reads_0 1 rfl rfl)
theorem dX5_reads_2 : decode cX5_reads 2 = .ok (.putfield 1, 3) := dk_181 0 1 (dk_at dksX5_reads_0 2 rfl rfl)
theorem dX5_reads_5 : decode cX5_reads 5 = .ok (.iload_n 1, 1) := dk_27 (dk_at dksX5_reads_0 5 rfl rfl)
theorem dX5_reads_6 : decode cX5_reads 6 = .ok (.iconst 0, 1) := dk_3 (dk_at dksX5_reads_0 6 rfl rfl)
theorem dX5_reads_7 : decode cX5_reads 7 = .ok (.aload_n 0, 1) := dk_42 (dk_at dksX5_reads_0 7 rfl rfl)
theorem dX5_reads_8 : decode cX5_reads 8 = .ok (.getfield 509, 3) := dk_180 1 253 (dk_at dksX5_reads_0 8 rfl rfl)
theorem dX5_reads_11 : decode cX5_reads 11 = .ok (.iconst 1, 1) := dk_4 (dk_at dksX5_reads_0 11 rfl rfl)
theorem dX5_reads_12 : decode cX5_reads 12 = .ok (.isub, 1) := dk_100 (dk_at dksX5_reads_0 12 rfl rfl)
theorem dX5_reads_13 : decode cX5_reads 13 = .ok (.invokestatic 132, 3) := dk_184 0 132 (dk_at dksX5_reads_0 13 rfl rfl)
theorem dX5_reads_16 : decode cX5_reads 16 = .ok (.ifCond .eq 12, 3) := dk_153 0 12 (dk_at dksX5_reads_0 16 rfl rfl)
theorem dX5_reads_19 : decode cX5_reads 19 = .ok (.iload_n 2, 1) := dk_28 (dk_at dksX5_reads_0 19 rfl rfl)
theorem dX5_reads_20 : decode cX5_reads 20 = .ok (.iconst 0, 1) := dk_3 (dk_at dksX5_reads_0 20 rfl rfl)
theorem dX5_reads_21 : decode cX5_reads 21 = .ok (.iconst 1, 1) := dk_4 (dk_at dksX5_reads_0 21 rfl rfl)
theorem dX5_reads_22 : decode cX5_reads 22 = .ok (.invokestatic 132, 3) := dk_184 0 132 (dk_at dksX5_reads_1 0 rfl rfl)
theorem dX5_reads_25 : decode cX5_reads 25 = .ok (.ifCond .ne 7, 3) := dk_154 0 7 (dk_at dksX5_reads_1 3 rfl rfl)
theorem dX5_reads_28 : decode cX5_reads 28 = .ok (.iconst (-1), 1) := dk_2 (dk_at dksX5_reads_1 6 rfl rfl)
theorem dX5_reads_29 : decode cX5_reads 29 = .ok (.goto 22, 3) := dk_167 0 22 (dk_at dksX5_reads_1 7 rfl rfl)
theorem dX5_reads_32 : decode cX5_reads 32 = .ok (.iload_n 2, 1) := dk_28 (dk_at dksX5_reads_1 10 rfl rfl)
theorem dX5_reads_33 : decode cX5_reads 33 = .ok (.ifCond .ne 12, 3) := dk_154 0 12 (dk_at dksX5_reads_1 11 rfl rfl)
theorem dX5_reads_36 : decode cX5_reads 36 = .ok (.aload_n 0, 1) := dk_42 (dk_at dksX5_reads_1 14 rfl rfl)
theorem dX5_reads_37 : decode cX5_reads 37 = .ok (.getfield 119, 3) := dk_180 0 119 (dk_at dksX5_reads_1 15 rfl rfl)
theorem dX5_reads_40 : decode cX5_reads 40 = .ok (.iload_n 1, 1) := dk_27 (dk_at dksX5_reads_1 18 rfl rfl)
theorem dX5_reads_41 : decode cX5_reads 41 = .ok (.iaload, 1) := dk_46 (dk_at dksX5_reads_1 19 rfl rfl)
theorem dX5_reads_42 : decode cX5_reads 42 = .ok (.goto 9, 3) := dk_167 0 9 (dk_at dksX5_reads_1 20 rfl rfl)
theorem dX5_reads_45 : decode cX5_reads 45 = .ok (.aload_n 0, 1) := dk_42 (dk_at dksX5_reads_1 23 rfl rfl)
theorem dX5_reads_46 : decode cX5_reads 46 = .ok (.getfield 122, 3) := dk_180 0 122 (dk_at dksX5_reads_2 0 rfl rfl)
theorem dX5_reads_49 : decode cX5_reads 49 = .ok (.iload_n 1, 1) := dk_27 (dk_at dksX5_reads_2 3 rfl rfl)
theorem dX5_reads_50 : decode cX5_reads 50 = .ok (.iaload, 1) := dk_46 (dk_at dksX5_reads_2 4 rfl rfl)
theorem dX5_reads_51 : decode cX5_reads 51 = .ok (.ireturn, 1) := dk_172 (dk_at dksX5_reads_2 5 rfl rfl)
abbrev cX5_fits : ByteArray := prog_12_method_112_code
def yX5_fits : MethodName := ⟨RX5, "fits", "(II)I"⟩
def dkwX5_fits_5 : List UInt8 := [153, 0, 10, 4, 21, 4, 120, 167, 0, 4, 3, 128, 62, 132, 4, 1, 167, 255, 160, 29, 172]
abbrev dktX5_fits_5 : List UInt8 := dkwX5_fits_5 ++ []
def dkwX5_fits_4 : List UInt8 := [21, 6, 182, 0, 147, 160, 0, 7, 4, 167, 0, 4, 3, 54, 5, 132, 6, 1, 167, 255, 214, 29, 21, 5]
abbrev dktX5_fits_4 : List UInt8 := dkwX5_fits_4 ++ dktX5_fits_5
def dkwX5_fits_3 : List UInt8 := [21, 6, 42, 180, 0, 18, 162, 0, 39, 21, 5, 153, 0, 34, 42, 180, 0, 110, 21, 6, 4, 96, 46, 42]
abbrev dktX5_fits_3 : List UInt8 := dkwX5_fits_3 ++ dktX5_fits_4
def dkwX5_fits_2 : List UInt8 := [27, 28, 21, 4, 182, 1, 244, 42, 180, 0, 18, 160, 0, 7, 4, 167, 0, 4, 3, 54, 5, 3, 54, 6]
abbrev dktX5_fits_2 : List UInt8 := dkwX5_fits_2 ++ dktX5_fits_3
def dkwX5_fits_1 : List UInt8 := [17, 0, 200, 184, 0, 132, 154, 0, 5, 2, 172, 3, 62, 3, 54, 4, 21, 4, 16, 6, 162, 0, 95, 42]
abbrev dktX5_fits_1 : List UInt8 := dkwX5_fits_1 ++ dktX5_fits_2
def dkwX5_fits_0 : List UInt8 := [42, 3, 181, 0, 1, 42, 182, 0, 144, 42, 27, 28, 3, 182, 1, 241, 153, 0, 17, 42, 180, 0, 18, 4]
abbrev dktX5_fits_0 : List UInt8 := dkwX5_fits_0 ++ dktX5_fits_1
theorem dksX5_fits_0 : cX5_fits.data.toList.drop 0 = dktX5_fits_0 := by decide +kernel
theorem dksX5_fits_1 : cX5_fits.data.toList.drop 24 = dktX5_fits_1 := dk_seg dksX5_fits_0 24 rfl rfl
theorem dksX5_fits_2 : cX5_fits.data.toList.drop 48 = dktX5_fits_2 := dk_seg dksX5_fits_1 24 rfl rfl
theorem dksX5_fits_3 : cX5_fits.data.toList.drop 72 = dktX5_fits_3 := dk_seg dksX5_fits_2 24 rfl rfl
theorem dksX5_fits_4 : cX5_fits.data.toList.drop 96 = dktX5_fits_4 := dk_seg dksX5_fits_3 24 rfl rfl
theorem dksX5_fits_5 : cX5_fits.data.toList.drop 120 = dktX5_fits_5 := dk_seg dksX5_fits_4 24 rfl rfl
theorem dX5_fits_0 : decode cX5_fits 0 = .ok (.aload_n 0, 1) := dk_42 (dk_at dksX5_fits_0 0 rfl rfl)
theorem dX5_fits_1 : decode cX5_fits 1 = .ok (.iconst 0, 1) := dk_3 (dk_at dksX5_fits_0 1 rfl rfl)
theorem dX5_fits_2 : decode cX5_fits 2 = .ok (.putfield 1, 3) := dk_181 0 1 (dk_at dksX5_fits_0 2 rfl rfl)
theorem dX5_fits_5 : decode cX5_fits 5 = .ok (.aload_n 0, 1) := dk_42 (dk_at dksX5_fits_0 5 rfl rfl)
theorem dX5_fits_6 : decode cX5_fits 6 = .ok (.invokevirtual 144, 3) := dk_182 0 144 (dk_at dksX5_fits_0 6 rfl rfl)
theorem dX5_fits_9 : decode cX5_fits 9 = .ok (.aload_n 0, 1) := dk_42 (dk_at dksX5_fits_0 9 rfl rfl)
theorem dX5_fits_10 : decode cX5_fits 10 = .ok (.iload_n 1, 1) := dk_27 (dk_at dksX5_fits_0 10 rfl rfl)
theorem dX5_fits_11 : decode cX5_fits 11 = .ok (.iload_n 2, 1) := dk_28 (dk_at dksX5_fits_0 11 rfl rfl)
theorem dX5_fits_12 : decode cX5_fits 12 = .ok (.iconst 0, 1) := dk_3 (dk_at dksX5_fits_0 12 rfl rfl)
theorem dX5_fits_13 : decode cX5_fits 13 = .ok (.invokevirtual 497, 3) := dk_182 1 241 (dk_at dksX5_fits_0 13 rfl rfl)
theorem dX5_fits_16 : decode cX5_fits 16 = .ok (.ifCond .eq 17, 3) := dk_153 0 17 (dk_at dksX5_fits_0 16 rfl rfl)
theorem dX5_fits_19 : decode cX5_fits 19 = .ok (.aload_n 0, 1) := dk_42 (dk_at dksX5_fits_0 19 rfl rfl)
theorem dX5_fits_20 : decode cX5_fits 20 = .ok (.getfield 18, 3) := dk_180 0 18 (dk_at dksX5_fits_0 20 rfl rfl)
theorem dX5_fits_23 : decode cX5_fits 23 = .ok (.iconst 1, 1) := dk_4 (dk_at dksX5_fits_0 23 rfl rfl)
theorem dX5_fits_24 : decode cX5_fits 24 = .ok (.sipush 200, 3) := dk_17 0 200 (dk_at dksX5_fits_1 0 rfl rfl)
theorem dX5_fits_27 : decode cX5_fits 27 = .ok (.invokestatic 132, 3) := dk_184 0 132 (dk_at dksX5_fits_1 3 rfl rfl)
theorem dX5_fits_30 : decode cX5_fits 30 = .ok (.ifCond .ne 5, 3) := dk_154 0 5 (dk_at dksX5_fits_1 6 rfl rfl)
theorem dX5_fits_33 : decode cX5_fits 33 = .ok (.iconst (-1), 1) := dk_2 (dk_at dksX5_fits_1 9 rfl rfl)
theorem dX5_fits_34 : decode cX5_fits 34 = .ok (.ireturn, 1) := dk_172 (dk_at dksX5_fits_1 10 rfl rfl)
theorem dX5_fits_35 : decode cX5_fits 35 = .ok (.iconst 0, 1) := dk_3 (dk_at dksX5_fits_1 11 rfl rfl)
theorem dX5_fits_36 : decode cX5_fits 36 = .ok (.istore_n 3, 1) := dk_62 (dk_at dksX5_fits_1 12 rfl rfl)
theorem dX5_fits_37 : decode cX5_fits 37 = .ok (.iconst 0, 1) := dk_3 (dk_at dksX5_fits_1 13 rfl rfl)
theorem dX5_fits_38 : decode cX5_fits 38 = .ok (.istore 4, 2) := dk_54 4 (dk_at dksX5_fits_1 14 rfl rfl)
theorem dX5_fits_40 : decode cX5_fits 40 = .ok (.iload 4, 2) := dk_21 4 (dk_at dksX5_fits_1 16 rfl rfl)
theorem dX5_fits_42 : decode cX5_fits 42 = .ok (.bipush 6, 2) := dk_16 6 (dk_at dksX5_fits_1 18 rfl rfl)
theorem dX5_fits_44 : decode cX5_fits 44 = .ok (.if_icmp .ge 95, 3) := dk_162 0 95 (dk_at dksX5_fits_1 20 rfl rfl)
theorem dX5_fits_47 : decode cX5_fits 47 = .ok (.aload_n 0, 1) := dk_42 (dk_at dksX5_fits_1 23 rfl rfl)
theorem dX5_fits_48 : decode cX5_fits 48 = .ok (.iload_n 1, 1) := dk_27 (dk_at dksX5_fits_2 0 rfl rfl)
theorem dX5_fits_49 : decode cX5_fits 49 = .ok (.iload_n 2, 1) := dk_28 (dk_at dksX5_fits_2 1 rfl rfl)
theorem dX5_fits_50 : decode cX5_fits 50 = .ok (.iload 4, 2) := dk_21 4 (dk_at dksX5_fits_2 2 rfl rfl)
theorem dX5_fits_52 : decode cX5_fits 52 = .ok (.invokevirtual 500, 3) := dk_182 1 244 (dk_at dksX5_fits_2 4 rfl rfl)
theorem dX5_fits_55 : decode cX5_fits 55 = .ok (.aload_n 0, 1) := dk_42 (dk_at dksX5_fits_2 7 rfl rfl)
theorem dX5_fits_56 : decode cX5_fits 56 = .ok (.getfield 18, 3) := dk_180 0 18 (dk_at dksX5_fits_2 8 rfl rfl)
theorem dX5_fits_59 : decode cX5_fits 59 = .ok (.if_icmp .ne 7, 3) := dk_160 0 7 (dk_at dksX5_fits_2 11 rfl rfl)
theorem dX5_fits_62 : decode cX5_fits 62 = .ok (.iconst 1, 1) := dk_4 (dk_at dksX5_fits_2 14 rfl rfl)
theorem dX5_fits_63 : decode cX5_fits 63 = .ok (.goto 4, 3) := dk_167 0 4 (dk_at dksX5_fits_2 15 rfl rfl)
theorem dX5_fits_66 : decode cX5_fits 66 = .ok (.iconst 0, 1) := dk_3 (dk_at dksX5_fits_2 18 rfl rfl)
theorem dX5_fits_67 : decode cX5_fits 67 = .ok (.istore 5, 2) := dk_54 5 (dk_at dksX5_fits_2 19 rfl rfl)
theorem dX5_fits_69 : decode cX5_fits 69 = .ok (.iconst 0, 1) := dk_3 (dk_at dksX5_fits_2 21 rfl rfl)
theorem dX5_fits_70 : decode cX5_fits 70 = .ok (.istore 6, 2) := dk_54 6 (dk_at dksX5_fits_2 22 rfl rfl)
theorem dX5_fits_72 : decode cX5_fits 72 = .ok (.iload 6, 2) := dk_21 6 (dk_at dksX5_fits_3 0 rfl rfl)
theorem dX5_fits_74 : decode cX5_fits 74 = .ok (.aload_n 0, 1) := dk_42 (dk_at dksX5_fits_3 2 rfl rfl)
theorem dX5_fits_75 : decode cX5_fits 75 = .ok (.getfield 18, 3) := dk_180 0 18 (dk_at dksX5_fits_3 3 rfl rfl)
theorem dX5_fits_78 : decode cX5_fits 78 = .ok (.if_icmp .ge 39, 3) := dk_162 0 39 (dk_at dksX5_fits_3 6 rfl rfl)
theorem dX5_fits_81 : decode cX5_fits 81 = .ok (.iload 5, 2) := dk_21 5 (dk_at dksX5_fits_3 9 rfl rfl)
theorem dX5_fits_83 : decode cX5_fits 83 = .ok (.ifCond .eq 34, 3) := dk_153 0 34 (dk_at dksX5_fits_3 11 rfl rfl)
theorem dX5_fits_86 : decode cX5_fits 86 = .ok (.aload_n 0, 1) := dk_42 (dk_at dksX5_fits_3 14 rfl rfl)
theorem dX5_fits_87 : decode cX5_fits 87 = .ok (.getfield 110, 3) := dk_180 0 110 (dk_at dksX5_fits_3 15 rfl rfl)
theorem dX5_fits_90 : decode cX5_fits 90 = .ok (.iload 6, 2) := dk_21 6 (dk_at dksX5_fits_3 18 rfl rfl)
theorem dX5_fits_92 : decode cX5_fits 92 = .ok (.iconst 1, 1) := dk_4 (dk_at dksX5_fits_3 20 rfl rfl)
theorem dX5_fits_93 : decode cX5_fits 93 = .ok (.iadd, 1) := dk_96 (dk_at dksX5_fits_3 21 rfl rfl)
theorem dX5_fits_94 : decode cX5_fits 94 = .ok (.iaload, 1) := dk_46 (dk_at dksX5_fits_3 22 rfl rfl)
theorem dX5_fits_95 : decode cX5_fits 95 = .ok (.aload_n 0, 1) := dk_42 (dk_at dksX5_fits_3 23 rfl rfl)
theorem dX5_fits_96 : decode cX5_fits 96 = .ok (.iload 6, 2) := dk_21 6 (dk_at dksX5_fits_4 0 rfl rfl)
theorem dX5_fits_98 : decode cX5_fits 98 = .ok (.invokevirtual 147, 3) := dk_182 0 147 (dk_at dksX5_fits_4 2 rfl rfl)
theorem dX5_fits_101 : decode cX5_fits 101 = .ok (.if_icmp .ne 7, 3) := dk_160 0 7 (dk_at dksX5_fits_4 5 rfl rfl)
theorem dX5_fits_104 : decode cX5_fits 104 = .ok (.iconst 1, 1) := dk_4 (dk_at dksX5_fits_4 8 rfl rfl)
theorem dX5_fits_105 : decode cX5_fits 105 = .ok (.goto 4, 3) := dk_167 0 4 (dk_at dksX5_fits_4 9 rfl rfl)
theorem dX5_fits_108 : decode cX5_fits 108 = .ok (.iconst 0, 1) := dk_3 (dk_at dksX5_fits_4 12 rfl rfl)
theorem dX5_fits_109 : decode cX5_fits 109 = .ok (.istore 5, 2) := dk_54 5 (dk_at dksX5_fits_4 13 rfl rfl)
theorem dX5_fits_111 : decode cX5_fits 111 = .ok (.iinc 6 1, 3) := dk_132 6 1 (dk_at dksX5_fits_4 15 rfl rfl)
theorem dX5_fits_114 : decode cX5_fits 114 = .ok (.goto (-42), 3) := dk_167 255 214 (dk_at dksX5_fits_4 18 rfl rfl)
theorem dX5_fits_117 : decode cX5_fits 117 = .ok (.iload_n 3, 1) := dk_29 (dk_at dksX5_fits_4 21 rfl rfl)
theorem dX5_fits_118 : decode cX5_fits 118 = .ok (.iload 5, 2) := dk_21 5 (dk_at dksX5_fits_4 22 rfl rfl)
theorem dX5_fits_120 : decode cX5_fits 120 = .ok (.ifCond .eq 10, 3) := dk_153 0 10 (dk_at dksX5_fits_5 0 rfl rfl)
theorem dX5_fits_123 : decode cX5_fits 123 = .ok (.iconst 1, 1) := dk_4 (dk_at dksX5_fits_5 3 rfl rfl)
theorem dX5_fits_124 : decode cX5_fits 124 = .ok (.iload 4, 2) := dk_21 4 (dk_at dksX5_fits_5 4 rfl rfl)
theorem dX5_fits_126 : decode cX5_fits 126 = .ok (.ishl, 1) := dk_120 (dk_at dksX5_fits_5 6 rfl rfl)
theorem dX5_fits_127 : decode cX5_fits 127 = .ok (.goto 4, 3) := dk_167 0 4 (dk_at dksX5_fits_5 7 rfl rfl)
theorem dX5_fits_130 : decode cX5_fits 130 = .ok (.iconst 0, 1) := dk_3 (dk_at dksX5_fits_5 10 rfl rfl)
theorem dX5_fits_131 : decode cX5_fits 131 = .ok (.ior, 1) := dk_128 (dk_at dksX5_fits_5 11 rfl rfl)
theorem dX5_fits_132 : decode cX5_fits 132 = .ok (.istore_n 3, 1) := dk_62 (dk_at dksX5_fits_5 12 rfl rfl)
theorem dX5_fits_133 : decode cX5_fits 133 = .ok (.iinc 4 1, 3) := dk_132 4 1 (dk_at dksX5_fits_5 13 rfl rfl)
theorem dX5_fits_136 : decode cX5_fits 136 = .ok (.goto (-96), 3) := dk_167 255 160 (dk_at dksX5_fits_5 16 rfl rfl)
theorem dX5_fits_139 : decode cX5_fits 139 = .ok (.iload_n 3, 1) := dk_29 (dk_at dksX5_fits_5 19 rfl rfl)
theorem dX5_fits_140 : decode cX5_fits 140 = .ok (.ireturn, 1) := dk_172 (dk_at dksX5_fits_5 20 rfl rfl)
abbrev cX5_image : ByteArray := prog_12_method_113_code
def yX5_image : MethodName := ⟨RX5, "image", "(I)Z"⟩
def dkwX5_image_2 : List UInt8 := [167, 255, 228, 42, 180, 0, 40, 27, 4, 84, 4, 172]
abbrev dktX5_image_2 : List UInt8 := dkwX5_image_2 ++ []
def dkwX5_image_1 : List UInt8 := [162, 0, 27, 42, 180, 0, 34, 17, 9, 10, 27, 104, 28, 96, 42, 180, 0, 30, 28, 46, 79, 132, 2, 1]
abbrev dktX5_image_1 : List UInt8 := dkwX5_image_1 ++ dktX5_image_2
def dkwX5_image_0 : List UInt8 := [42, 3, 181, 0, 1, 27, 3, 5, 184, 0, 132, 154, 0, 5, 3, 172, 3, 61, 28, 17, 9, 10]
abbrev dktX5_image_0 : List UInt8 := dkwX5_image_0 ++ dktX5_image_1
theorem dksX5_image_0 : cX5_image.data.toList.drop 0 = dktX5_image_0 := by decide +kernel
theorem dksX5_image_1 : cX5_image.data.toList.drop 22 = dktX5_image_1 := dk_seg dksX5_image_0 22 rfl rfl
theorem dksX5_image_2 : cX5_image.data.toList.drop 46 = dktX5_image_2 := dk_seg dksX5_image_1 24 rfl rfl
theorem dX5_image_0 : decode cX5_image 0 = .ok (.aload_n 0, 1) := dk_42 (dk_at dksX5_image_0 0 rfl rfl)
theorem dX5_image_1 : decode cX5_image 1 = .ok (.iconst 0, 1) := dk_3 (dk_at dksX5_image_0 1 rfl rfl)
theorem dX5_image_2 : decode cX5_image 2 = .ok (.putfield 1, 3) := dk_181 0 1 (dk_at dksX5_image_0 2 rfl rfl)
theorem dX5_image_5 : decode cX5_image 5 = .ok (.iload_n 1, 1) := dk_27 (dk_at dksX5_image_0 5 rfl rfl)
theorem dX5_image_6 : decode cX5_image 6 = .ok (.iconst 0, 1) := dk_3 (dk_at dksX5_image_0 6 rfl rfl)
theorem dX5_image_7 : decode cX5_image 7 = .ok (.iconst 2, 1) := dk_5 (dk_at dksX5_image_0 7 rfl rfl)
theorem dX5_image_8 : decode cX5_image 8 = .ok (.invokestatic 132, 3) := dk_184 0 132 (dk_at dksX5_image_0 8 rfl rfl)
theorem dX5_image_11 : decode cX5_image 11 = .ok (.ifCond .ne 5, 3) := dk_154 0 5 (dk_at dksX5_image_0 11 rfl rfl)
theorem dX5_image_14 : decode cX5_image 14 = .ok (.iconst 0, 1) := dk_3 (dk_at dksX5_image_0 14 rfl rfl)
theorem dX5_image_15 : decode cX5_image 15 = .ok (.ireturn, 1) := dk_172 (dk_at dksX5_image_0 15 rfl rfl)
theorem dX5_image_16 : decode cX5_image 16 = .ok (.iconst 0, 1) := dk_3 (dk_at dksX5_image_0 16 rfl rfl)
theorem dX5_image_17 : decode cX5_image 17 = .ok (.istore_n 2, 1) := dk_61 (dk_at dksX5_image_0 17 rfl rfl)
theorem dX5_image_18 : decode cX5_image 18 = .ok (.iload_n 2, 1) := dk_28 (dk_at dksX5_image_0 18 rfl rfl)
theorem dX5_image_19 : decode cX5_image 19 = .ok (.sipush 2314, 3) := dk_17 9 10 (dk_at dksX5_image_0 19 rfl rfl)
theorem dX5_image_22 : decode cX5_image 22 = .ok (.if_icmp .ge 27, 3) := dk_162 0 27 (dk_at dksX5_image_1 0 rfl rfl)
theorem dX5_image_25 : decode cX5_image 25 = .ok (.aload_n 0, 1) := dk_42 (dk_at dksX5_image_1 3 rfl rfl)
theorem dX5_image_26 : decode cX5_image 26 = .ok (.getfield 34, 3) := dk_180 0 34 (dk_at dksX5_image_1 4 rfl rfl)
theorem dX5_image_29 : decode cX5_image 29 = .ok (.sipush 2314, 3) := dk_17 9 10 (dk_at dksX5_image_1 7 rfl rfl)
theorem dX5_image_32 : decode cX5_image 32 = .ok (.iload_n 1, 1) := dk_27 (dk_at dksX5_image_1 10 rfl rfl)
theorem dX5_image_33 : decode cX5_image 33 = .ok (.imul, 1) := dk_104 (dk_at dksX5_image_1 11 rfl rfl)
theorem dX5_image_34 : decode cX5_image 34 = .ok (.iload_n 2, 1) := dk_28 (dk_at dksX5_image_1 12 rfl rfl)
theorem dX5_image_35 : decode cX5_image 35 = .ok (.iadd, 1) := dk_96 (dk_at dksX5_image_1 13 rfl rfl)
theorem dX5_image_36 : decode cX5_image 36 = .ok (.aload_n 0, 1) := dk_42 (dk_at dksX5_image_1 14 rfl rfl)
theorem dX5_image_37 : decode cX5_image 37 = .ok (.getfield 30, 3) := dk_180 0 30 (dk_at dksX5_image_1 15 rfl rfl)
theorem dX5_image_40 : decode cX5_image 40 = .ok (.iload_n 2, 1) := dk_28 (dk_at dksX5_image_1 18 rfl rfl)
theorem dX5_image_41 : decode cX5_image 41 = .ok (.iaload, 1) := dk_46 (dk_at dksX5_image_1 19 rfl rfl)
theorem dX5_image_42 : decode cX5_image 42 = .ok (.iastore, 1) := dk_79 (dk_at dksX5_image_1 20 rfl rfl)
theorem dX5_image_43 : decode cX5_image 43 = .ok (.iinc 2 1, 3) := dk_132 2 1 (dk_at dksX5_image_1 21 rfl rfl)
theorem dX5_image_46 : decode cX5_image 46 = .ok (.goto (-28), 3) := dk_167 255 228 (dk_at dksX5_image_2 0 rfl rfl)
theorem dX5_image_49 : decode cX5_image 49 = .ok (.aload_n 0, 1) := dk_42 (dk_at dksX5_image_2 3 rfl rfl)
theorem dX5_image_50 : decode cX5_image 50 = .ok (.getfield 40, 3) := dk_180 0 40 (dk_at dksX5_image_2 4 rfl rfl)
theorem dX5_image_53 : decode cX5_image 53 = .ok (.iload_n 1, 1) := dk_27 (dk_at dksX5_image_2 7 rfl rfl)
theorem dX5_image_54 : decode cX5_image 54 = .ok (.iconst 1, 1) := dk_4 (dk_at dksX5_image_2 8 rfl rfl)
theorem dX5_image_55 : decode cX5_image 55 = .ok (.bastore, 1) := dk_84 (dk_at dksX5_image_2 9 rfl rfl)
theorem dX5_image_56 : decode cX5_image 56 = .ok (.iconst 1, 1) := dk_4 (dk_at dksX5_image_2 10 rfl rfl)
theorem dX5_image_57 : decode cX5_image 57 = .ok (.ireturn, 1) := dk_172 (dk_at dksX5_image_2 11 rfl rfl)
abbrev cX5_restore : ByteArray := prog_12_method_114_code
def yX5_restore : MethodName := ⟨RX5, "restore", "(I)Z"⟩
def dkwX5_restore_2 : List UInt8 := [28, 96, 46, 79, 132, 2, 1, 167, 255, 228, 4, 172]
abbrev dktX5_restore_2 : List UInt8 := dkwX5_restore_2 ++ []
def dkwX5_restore_1 : List UInt8 := [172, 3, 61, 28, 17, 9, 10, 162, 0, 27, 42, 180, 0, 30, 28, 42, 180, 0, 34, 17, 9, 10, 27, 104]
abbrev dktX5_restore_1 : List UInt8 := dkwX5_restore_1 ++ dktX5_restore_2
def dkwX5_restore_0 : List UInt8 := [42, 3, 181, 0, 1, 27, 3, 5, 184, 0, 132, 153, 0, 12, 42, 180, 0, 40, 27, 51, 154, 0, 5, 3]
abbrev dktX5_restore_0 : List UInt8 := dkwX5_restore_0 ++ dktX5_restore_1
theorem dksX5_restore_0 : cX5_restore.data.toList.drop 0 = dktX5_restore_0 := by decide +kernel
theorem dksX5_restore_1 : cX5_restore.data.toList.drop 24 = dktX5_restore_1 := dk_seg dksX5_restore_0 24 rfl rfl
theorem dksX5_restore_2 : cX5_restore.data.toList.drop 48 = dktX5_restore_2 := dk_seg dksX5_restore_1 24 rfl rfl
theorem dX5_restore_0 : decode cX5_restore 0 = .ok (.aload_n 0, 1) := dk_42 (dk_at dksX5_restore_0 0 rfl rfl)
theorem dX5_restore_1 : decode cX5_restore 1 = .ok (.iconst 0, 1) := dk_3 (dk_at dksX5_restore_0 1 rfl rfl)
theorem dX5_restore_2 : decode cX5_restore 2 = .ok (.putfield 1, 3) := dk_181 0 1 (dk_at dksX5_restore_0 2 rfl rfl)
theorem dX5_restore_5 : decode cX5_restore 5 = .ok (.iload_n 1, 1) := dk_27 (dk_at dksX5_restore_0 5 rfl rfl)
theorem dX5_restore_6 : decode cX5_restore 6 = .ok (.iconst 0, 1) := dk_3 (dk_at dksX5_restore_0 6 rfl rfl)
theorem dX5_restore_7 : decode cX5_restore 7 = .ok (.iconst 2, 1) := dk_5 (dk_at dksX5_restore_0 7 rfl rfl)
theorem dX5_restore_8 : decode cX5_restore 8 = .ok (.invokestatic 132, 3) := dk_184 0 132 (dk_at dksX5_restore_0 8 rfl rfl)
theorem dX5_restore_11 : decode cX5_restore 11 = .ok (.ifCond .eq 12, 3) := dk_153 0 12 (dk_at dksX5_restore_0 11 rfl rfl)
theorem dX5_restore_14 : decode cX5_restore 14 = .ok (.aload_n 0, 1) := dk_42 (dk_at dksX5_restore_0 14 rfl rfl)
theorem dX5_restore_15 : decode cX5_restore 15 = .ok (.getfield 40, 3) := dk_180 0 40 (dk_at dksX5_restore_0 15 rfl rfl)
theorem dX5_restore_18 : decode cX5_restore 18 = .ok (.iload_n 1, 1) := dk_27 (dk_at dksX5_restore_0 18 rfl rfl)
theorem dX5_restore_19 : decode cX5_restore 19 = .ok (.baload, 1) := dk_51 (dk_at dksX5_restore_0 19 rfl rfl)
theorem dX5_restore_20 : decode cX5_restore 20 = .ok (.ifCond .ne 5, 3) := dk_154 0 5 (dk_at dksX5_restore_0 20 rfl rfl)
theorem dX5_restore_23 : decode cX5_restore 23 = .ok (.iconst 0, 1) := dk_3 (dk_at dksX5_restore_0 23 rfl rfl)
theorem dX5_restore_24 : decode cX5_restore 24 = .ok (.ireturn, 1) := dk_172 (dk_at dksX5_restore_1 0 rfl rfl)
theorem dX5_restore_25 : decode cX5_restore 25 = .ok (.iconst 0, 1) := dk_3 (dk_at dksX5_restore_1 1 rfl rfl)
theorem dX5_restore_26 : decode cX5_restore 26 = .ok (.istore_n 2, 1) := dk_61 (dk_at dksX5_restore_1 2 rfl rfl)
theorem dX5_restore_27 : decode cX5_restore 27 = .ok (.iload_n 2, 1) := dk_28 (dk_at dksX5_restore_1 3 rfl rfl)
theorem dX5_restore_28 : decode cX5_restore 28 = .ok (.sipush 2314, 3) := dk_17 9 10 (dk_at dksX5_restore_1 4 rfl rfl)
theorem dX5_restore_31 : decode cX5_restore 31 = .ok (.if_icmp .ge 27, 3) := dk_162 0 27 (dk_at dksX5_restore_1 7 rfl rfl)
theorem dX5_restore_34 : decode cX5_restore 34 = .ok (.aload_n 0, 1) := dk_42 (dk_at dksX5_restore_1 10 rfl rfl)
theorem dX5_restore_35 : decode cX5_restore 35 = .ok (.getfield 30, 3) := dk_180 0 30 (dk_at dksX5_restore_1 11 rfl rfl)
theorem dX5_restore_38 : decode cX5_restore 38 = .ok (.iload_n 2, 1) := dk_28 (dk_at dksX5_restore_1 14 rfl rfl)
theorem dX5_restore_39 : decode cX5_restore 39 = .ok (.aload_n 0, 1) := dk_42 (dk_at dksX5_restore_1 15 rfl rfl)
theorem dX5_restore_40 : decode cX5_restore 40 = .ok (.getfield 34, 3) := dk_180 0 34 (dk_at dksX5_restore_1 16 rfl rfl)
theorem dX5_restore_43 : decode cX5_restore 43 = .ok (.sipush 2314, 3) := dk_17 9 10 (dk_at dksX5_restore_1 19 rfl rfl)
theorem dX5_restore_46 : decode cX5_restore 46 = .ok (.iload_n 1, 1) := dk_27 (dk_at dksX5_restore_1 22 rfl rfl)
theorem dX5_restore_47 : decode cX5_restore 47 = .ok (.imul, 1) := dk_104 (dk_at dksX5_restore_1 23 rfl rfl)
theorem dX5_restore_48 : decode cX5_restore 48 = .ok (.iload_n 2, 1) := dk_28 (dk_at dksX5_restore_2 0 rfl rfl)
theorem dX5_restore_49 : decode cX5_restore 49 = .ok (.iadd, 1) := dk_96 (dk_at dksX5_restore_2 1 rfl rfl)
theorem dX5_restore_50 : decode cX5_restore 50 = .ok (.iaload, 1) := dk_46 (dk_at dksX5_restore_2 2 rfl rfl)
theorem dX5_restore_51 : decode cX5_restore 51 = .ok (.iastore, 1) := dk_79 (dk_at dksX5_restore_2 3 rfl rfl)
theorem dX5_restore_52 : decode cX5_restore 52 = .ok (.iinc 2 1, 3) := dk_132 2 1 (dk_at dksX5_restore_2 4 rfl rfl)
theorem dX5_restore_55 : decode cX5_restore 55 = .ok (.goto (-28), 3) := dk_167 255 228 (dk_at dksX5_restore_2 7 rfl rfl)
theorem dX5_restore_58 : decode cX5_restore 58 = .ok (.iconst 1, 1) := dk_4 (dk_at dksX5_restore_2 10 rfl rfl)
theorem dX5_restore_59 : decode cX5_restore 59 = .ok (.ireturn, 1) := dk_172 (dk_at dksX5_restore_2 11 rfl rfl)
abbrev cX5_count : ByteArray := prog_12_method_115_code
def yX5_count : MethodName := ⟨RX5, "count", "(I)I"⟩
def dkwX5_count_6 : List UInt8 := [172, 2, 172]
abbrev dktX5_count_6 : List UInt8 := dkwX5_count_6 ++ []
def dkwX5_count_5 : List UInt8 := [46, 172, 42, 180, 0, 30, 17, 2, 8, 46, 172, 42, 180, 0, 30, 17, 2, 9, 46, 172, 42, 180, 0, 7]
abbrev dktX5_count_5 : List UInt8 := dkwX5_count_5 ++ dktX5_count_6
def dkwX5_count_4 : List UInt8 := [180, 0, 30, 17, 0, 157, 46, 172, 42, 180, 0, 30, 17, 2, 6, 46, 172, 42, 180, 0, 30, 17, 2, 7]
abbrev dktX5_count_4 : List UInt8 := dkwX5_count_4 ++ dktX5_count_5
def dkwX5_count_3 : List UInt8 := [42, 180, 0, 30, 3, 46, 172, 42, 180, 0, 30, 4, 46, 172, 42, 180, 0, 30, 5, 46, 172, 28, 172, 42]
abbrev dktX5_count_3 : List UInt8 := dkwX5_count_3 ++ dktX5_count_4
def dkwX5_count_2 : List UInt8 := [170, 0, 0, 0, 0, 0, 0, 129, 0, 0, 0, 0, 0, 0, 0, 9, 0, 0, 0, 56, 0, 0, 0, 63, 0, 0, 0, 70, 0, 0, 0, 77, 0, 0, 0, 79, 0, 0, 0, 88, 0, 0, 0, 97, 0, 0, 0, 106, 0, 0, 0, 115, 0, 0, 0, 124]
abbrev dktX5_count_2 : List UInt8 := dkwX5_count_2 ++ dktX5_count_3
def dkwX5_count_1 : List UInt8 := [180, 0, 30, 16, 13, 16, 6, 29, 104, 96, 8, 96, 46, 96, 61, 132, 3, 1, 167, 255, 225, 27]
abbrev dktX5_count_1 : List UInt8 := dkwX5_count_1 ++ dktX5_count_2
def dkwX5_count_0 : List UInt8 := [42, 3, 181, 0, 1, 3, 61, 3, 62, 29, 42, 180, 0, 30, 16, 12, 46, 162, 0, 26, 28, 42]
abbrev dktX5_count_0 : List UInt8 := dkwX5_count_0 ++ dktX5_count_1
theorem dksX5_count_0 : cX5_count.data.toList.drop 0 = dktX5_count_0 := by decide +kernel
theorem dksX5_count_1 : cX5_count.data.toList.drop 22 = dktX5_count_1 := dk_seg dksX5_count_0 22 rfl rfl
theorem dksX5_count_2 : cX5_count.data.toList.drop 44 = dktX5_count_2 := dk_seg dksX5_count_1 22 rfl rfl
theorem dksX5_count_3 : cX5_count.data.toList.drop 100 = dktX5_count_3 := dk_seg dksX5_count_2 56 rfl rfl
theorem dksX5_count_4 : cX5_count.data.toList.drop 124 = dktX5_count_4 := dk_seg dksX5_count_3 24 rfl rfl
theorem dksX5_count_5 : cX5_count.data.toList.drop 148 = dktX5_count_5 := dk_seg dksX5_count_4 24 rfl rfl
theorem dksX5_count_6 : cX5_count.data.toList.drop 172 = dktX5_count_6 := dk_seg dksX5_count_5 24 rfl rfl
theorem dX5_count_0 : decode cX5_count 0 = .ok (.aload_n 0, 1) := dk_42 (dk_at dksX5_count_0 0 rfl rfl)
theorem dX5_count_1 : decode cX5_count 1 = .ok (.iconst 0, 1) := dk_3 (dk_at dksX5_count_0 1 rfl rfl)
theorem dX5_count_2 : decode cX5_count 2 = .ok (.putfield 1, 3) := dk_181 0 1 (dk_at dksX5_count_0 2 rfl rfl)
theorem dX5_count_5 : decode cX5_count 5 = .ok (.iconst 0, 1) := dk_3 (dk_at dksX5_count_0 5 rfl rfl)
theorem dX5_count_6 : decode cX5_count 6 = .ok (.istore_n 2, 1) := dk_61 (dk_at dksX5_count_0 6 rfl rfl)
theorem dX5_count_7 : decode cX5_count 7 = .ok (.iconst 0, 1) := dk_3 (dk_at dksX5_count_0 7 rfl rfl)
theorem dX5_count_8 : decode cX5_count 8 = .ok (.istore_n 3, 1) := dk_62 (dk_at dksX5_count_0 8 rfl rfl)
theorem dX5_count_9 : decode cX5_count 9 = .ok (.iload_n 3, 1) := dk_29 (dk_at dksX5_count_0 9 rfl rfl)
theorem dX5_count_10 : decode cX5_count 10 = .ok (.aload_n 0, 1) := dk_42 (dk_at dksX5_count_0 10 rfl rfl)
theorem dX5_count_11 : decode cX5_count 11 = .ok (.getfield 30, 3) := dk_180 0 30 (dk_at dksX5_count_0 11 rfl rfl)
theorem dX5_count_14 : decode cX5_count 14 = .ok (.bipush 12, 2) := dk_16 12 (dk_at dksX5_count_0 14 rfl rfl)
theorem dX5_count_16 : decode cX5_count 16 = .ok (.iaload, 1) := dk_46 (dk_at dksX5_count_0 16 rfl rfl)
theorem dX5_count_17 : decode cX5_count 17 = .ok (.if_icmp .ge 26, 3) := dk_162 0 26 (dk_at dksX5_count_0 17 rfl rfl)
theorem dX5_count_20 : decode cX5_count 20 = .ok (.iload_n 2, 1) := dk_28 (dk_at dksX5_count_0 20 rfl rfl)
theorem dX5_count_21 : decode cX5_count 21 = .ok (.aload_n 0, 1) := dk_42 (dk_at dksX5_count_0 21 rfl rfl)
theorem dX5_count_22 : decode cX5_count 22 = .ok (.getfield 30, 3) := dk_180 0 30 (dk_at dksX5_count_1 0 rfl rfl)
theorem dX5_count_25 : decode cX5_count 25 = .ok (.bipush 13, 2) := dk_16 13 (dk_at dksX5_count_1 3 rfl rfl)
theorem dX5_count_27 : decode cX5_count 27 = .ok (.bipush 6, 2) := dk_16 6 (dk_at dksX5_count_1 5 rfl rfl)
theorem dX5_count_29 : decode cX5_count 29 = .ok (.iload_n 3, 1) := dk_29 (dk_at dksX5_count_1 7 rfl rfl)
theorem dX5_count_30 : decode cX5_count 30 = .ok (.imul, 1) := dk_104 (dk_at dksX5_count_1 8 rfl rfl)
theorem dX5_count_31 : decode cX5_count 31 = .ok (.iadd, 1) := dk_96 (dk_at dksX5_count_1 9 rfl rfl)
theorem dX5_count_32 : decode cX5_count 32 = .ok (.iconst 5, 1) := dk_8 (dk_at dksX5_count_1 10 rfl rfl)
theorem dX5_count_33 : decode cX5_count 33 = .ok (.iadd, 1) := dk_96 (dk_at dksX5_count_1 11 rfl rfl)
theorem dX5_count_34 : decode cX5_count 34 = .ok (.iaload, 1) := dk_46 (dk_at dksX5_count_1 12 rfl rfl)
theorem dX5_count_35 : decode cX5_count 35 = .ok (.iadd, 1) := dk_96 (dk_at dksX5_count_1 13 rfl rfl)
theorem dX5_count_36 : decode cX5_count 36 = .ok (.istore_n 2, 1) := dk_61 (dk_at dksX5_count_1 14 rfl rfl)
theorem dX5_count_37 : decode cX5_count 37 = .ok (.iinc 3 1, 3) := dk_132 3 1 (dk_at dksX5_count_1 15 rfl rfl)
theorem dX5_count_40 : decode cX5_count 40 = .ok (.goto (-31), 3) := dk_167 255 225 (dk_at dksX5_count_1 18 rfl rfl)
theorem dX5_count_43 : decode cX5_count 43 = .ok (.iload_n 1, 1) := dk_27 (dk_at dksX5_count_1 21 rfl rfl)
theorem dX5_count_44 : decode cX5_count 44 = .ok (.tableswitch 129 0 9 #[56, 63, 70, 77, 79, 88, 97, 106, 115, 124], 56) := by decide +kernel
theorem dX5_count_100 : decode cX5_count 100 = .ok (.aload_n 0, 1) := dk_42 (dk_at dksX5_count_3 0 rfl rfl)
theorem dX5_count_101 : decode cX5_count 101 = .ok (.getfield 30, 3) := dk_180 0 30 (dk_at dksX5_count_3 1 rfl rfl)
theorem dX5_count_104 : decode cX5_count 104 = .ok (.iconst 0, 1) := dk_3 (dk_at dksX5_count_3 4 rfl rfl)
theorem dX5_count_105 : decode cX5_count 105 = .ok (.iaload, 1) := dk_46 (dk_at dksX5_count_3 5 rfl rfl)
theorem dX5_count_106 : decode cX5_count 106 = .ok (.ireturn, 1) := dk_172 (dk_at dksX5_count_3 6 rfl rfl)
theorem dX5_count_107 : decode cX5_count 107 = .ok (.aload_n 0, 1) := dk_42 (dk_at dksX5_count_3 7 rfl rfl)
theorem dX5_count_108 : decode cX5_count 108 = .ok (.getfield 30, 3) := dk_180 0 30 (dk_at dksX5_count_3 8 rfl rfl)
theorem dX5_count_111 : decode cX5_count 111 = .ok (.iconst 1, 1) := dk_4 (dk_at dksX5_count_3 11 rfl rfl)
theorem dX5_count_112 : decode cX5_count 112 = .ok (.iaload, 1) := dk_46 (dk_at dksX5_count_3 12 rfl rfl)
theorem dX5_count_113 : decode cX5_count 113 = .ok (.ireturn, 1) := dk_172 (dk_at dksX5_count_3 13 rfl rfl)
theorem dX5_count_114 : decode cX5_count 114 = .ok (.aload_n 0, 1) := dk_42 (dk_at dksX5_count_3 14 rfl rfl)
theorem dX5_count_115 : decode cX5_count 115 = .ok (.getfield 30, 3) := dk_180 0 30 (dk_at dksX5_count_3 15 rfl rfl)
theorem dX5_count_118 : decode cX5_count 118 = .ok (.iconst 2, 1) := dk_5 (dk_at dksX5_count_3 18 rfl rfl)
theorem dX5_count_119 : decode cX5_count 119 = .ok (.iaload, 1) := dk_46 (dk_at dksX5_count_3 19 rfl rfl)
theorem dX5_count_120 : decode cX5_count 120 = .ok (.ireturn, 1) := dk_172 (dk_at dksX5_count_3 20 rfl rfl)
theorem dX5_count_121 : decode cX5_count 121 = .ok (.iload_n 2, 1) := dk_28 (dk_at dksX5_count_3 21 rfl rfl)
theorem dX5_count_122 : decode cX5_count 122 = .ok (.ireturn, 1) := dk_172 (dk_at dksX5_count_3 22 rfl rfl)
theorem dX5_count_123 : decode cX5_count 123 = .ok (.aload_n 0, 1) := dk_42 (dk_at dksX5_count_3 23 rfl rfl)
theorem dX5_count_124 : decode cX5_count 124 = .ok (.getfield 30, 3) := dk_180 0 30 (dk_at dksX5_count_4 0 rfl rfl)
theorem dX5_count_127 : decode cX5_count 127 = .ok (.sipush 157, 3) := dk_17 0 157 (dk_at dksX5_count_4 3 rfl rfl)
theorem dX5_count_130 : decode cX5_count 130 = .ok (.iaload, 1) := dk_46 (dk_at dksX5_count_4 6 rfl rfl)
theorem dX5_count_131 : decode cX5_count 131 = .ok (.ireturn, 1) := dk_172 (dk_at dksX5_count_4 7 rfl rfl)
theorem dX5_count_132 : decode cX5_count 132 = .ok (.aload_n 0, 1) := dk_42 (dk_at dksX5_count_4 8 rfl rfl)
theorem dX5_count_133 : decode cX5_count 133 = .ok (.getfield 30, 3) := dk_180 0 30 (dk_at dksX5_count_4 9 rfl rfl)
theorem dX5_count_136 : decode cX5_count 136 = .ok (.sipush 518, 3) := dk_17 2 6 (dk_at dksX5_count_4 12 rfl rfl)
theorem dX5_count_139 : decode cX5_count 139 = .ok (.iaload, 1) := dk_46 (dk_at dksX5_count_4 15 rfl rfl)
theorem dX5_count_140 : decode cX5_count 140 = .ok (.ireturn, 1) := dk_172 (dk_at dksX5_count_4 16 rfl rfl)
theorem dX5_count_141 : decode cX5_count 141 = .ok (.aload_n 0, 1) := dk_42 (dk_at dksX5_count_4 17 rfl rfl)
theorem dX5_count_142 : decode cX5_count 142 = .ok (.getfield 30, 3) := dk_180 0 30 (dk_at dksX5_count_4 18 rfl rfl)
theorem dX5_count_145 : decode cX5_count 145 = .ok (.sipush 519, 3) := dk_17 2 7 (dk_at dksX5_count_4 21 rfl rfl)
theorem dX5_count_148 : decode cX5_count 148 = .ok (.iaload, 1) := dk_46 (dk_at dksX5_count_5 0 rfl rfl)
theorem dX5_count_149 : decode cX5_count 149 = .ok (.ireturn, 1) := dk_172 (dk_at dksX5_count_5 1 rfl rfl)
theorem dX5_count_150 : decode cX5_count 150 = .ok (.aload_n 0, 1) := dk_42 (dk_at dksX5_count_5 2 rfl rfl)
theorem dX5_count_151 : decode cX5_count 151 = .ok (.getfield 30, 3) := dk_180 0 30 (dk_at dksX5_count_5 3 rfl rfl)
theorem dX5_count_154 : decode cX5_count 154 = .ok (.sipush 520, 3) := dk_17 2 8 (dk_at dksX5_count_5 6 rfl rfl)
theorem dX5_count_157 : decode cX5_count 157 = .ok (.iaload, 1) := dk_46 (dk_at dksX5_count_5 9 rfl rfl)
theorem dX5_count_158 : decode cX5_count 158 = .ok (.ireturn, 1) := dk_172 (dk_at dksX5_count_5 10 rfl rfl)
theorem dX5_count_159 : decode cX5_count 159 = .ok (.aload_n 0, 1) := dk_42 (dk_at dksX5_count_5 11 rfl rfl)
theorem dX5_count_160 : decode cX5_count 160 = .ok (.getfield 30, 3) := dk_180 0 30 (dk_at dksX5_count_5 12 rfl rfl)
theorem dX5_count_163 : decode cX5_count 163 = .ok (.sipush 521, 3) := dk_17 2 9 (dk_at dksX5_count_5 15 rfl rfl)
theorem dX5_count_166 : decode cX5_count 166 = .ok (.iaload, 1) := dk_46 (dk_at dksX5_count_5 18 rfl rfl)
theorem dX5_count_167 : decode cX5_count 167 = .ok (.ireturn, 1) := dk_172 (dk_at dksX5_count_5 19 rfl rfl)
theorem dX5_count_168 : decode cX5_count 168 = .ok (.aload_n 0, 1) := dk_42 (dk_at dksX5_count_5 20 rfl rfl)
theorem dX5_count_169 : decode cX5_count 169 = .ok (.getfield 7, 3) := dk_180 0 7 (dk_at dksX5_count_5 21 rfl rfl)
theorem dX5_count_172 : decode cX5_count 172 = .ok (.ireturn, 1) := dk_172 (dk_at dksX5_count_6 0 rfl rfl)
theorem dX5_count_173 : decode cX5_count 173 = .ok (.iconst (-1), 1) := dk_2 (dk_at dksX5_count_6 1 rfl rfl)
theorem dX5_count_174 : decode cX5_count 174 = .ok (.ireturn, 1) := dk_172 (dk_at dksX5_count_6 2 rfl rfl)
theorem q124 : (Jvm.Cond.initialized "GrassParkModel") ∈ lw_all := lw_g (lw_at lw_m1 8 rfl) rfl
theorem q1079 : (Jvm.Cond.selects "GrassParkModel" ({ cls := "java/lang/Object", name := "getClass", desc := "()Ljava/lang/Class;" } : Jvm.MethodName) ({ cls := "java/lang/Object", name := "getClass", desc := "()Ljava/lang/Class;" } : Jvm.MethodName)) ∈ lw_all := lw_g (lw_at lw_m5 3 rfl) rfl
theorem q1602 : (Jvm.Cond.instanceMethod ({ cls := "GrassParkModel", name := "thrown", desc := "()I" } : Jvm.MethodName)) ∈ lw_all := lw_g (lw_at lw_m7 46 rfl) rfl
theorem q1603 : (Jvm.Cond.selects "GrassParkModel" ({ cls := "GrassParkModel", name := "thrown", desc := "()I" } : Jvm.MethodName) ({ cls := "GrassParkModel", name := "thrown", desc := "()I" } : Jvm.MethodName)) ∈ lw_all := lw_g (lw_at lw_m7 47 rfl) rfl
theorem q1604 : (Jvm.Cond.code ({ cls := "GrassParkModel", name := "thrown", desc := "()I" } : Jvm.MethodName) prog_12_method_1_code (1 : Nat) (Option.some Jvm.ClassFile.FieldType.int)) ∈ lw_all := lw_g (lw_at lw_m7 48 rfl) rfl
theorem q1606 : (Jvm.Cond.instanceMethod ({ cls := "GrassParkModel", name := "feed", desc := "(IIIII)I" } : Jvm.MethodName)) ∈ lw_all := lw_g (lw_at lw_m7 50 rfl) rfl
theorem q1607 : (Jvm.Cond.selects "GrassParkModel" ({ cls := "GrassParkModel", name := "feed", desc := "(IIIII)I" } : Jvm.MethodName) ({ cls := "GrassParkModel", name := "feed", desc := "(IIIII)I" } : Jvm.MethodName)) ∈ lw_all := lw_g (lw_at lw_m7 51 rfl) rfl
theorem q1608 : (Jvm.Cond.code ({ cls := "GrassParkModel", name := "feed", desc := "(IIIII)I" } : Jvm.MethodName) prog_12_method_3_code (6 : Nat) (Option.some Jvm.ClassFile.FieldType.int)) ∈ lw_all := lw_g (lw_at lw_m7 52 rfl) rfl
theorem q1609 : (Jvm.Cond.methodLink "GrassParkModel" (10 : Nat) ({ cls := "GrassParkModel", name := "four", desc := "(I)V" } : Jvm.MethodName)) ∈ lw_all := lw_g (lw_at lw_m7 53 rfl) rfl
theorem q1610 : (Jvm.Cond.privateMethod ({ cls := "GrassParkModel", name := "four", desc := "(I)V" } : Jvm.MethodName)) ∈ lw_tbl := lw_at lw_m7 54 rfl
theorem q1611 : (Jvm.Cond.instanceMethod ({ cls := "GrassParkModel", name := "four", desc := "(I)V" } : Jvm.MethodName)) ∈ lw_all := lw_g (lw_at lw_m7 55 rfl) rfl
theorem q1612 : (Jvm.Cond.instantiable "GrassParkModel" (63 : Nat)) ∈ lw_all := lw_g (lw_at lw_m7 56 rfl) rfl
theorem q1613 : (Jvm.Cond.code ({ cls := "GrassParkModel", name := "four", desc := "(I)V" } : Jvm.MethodName) prog_12_method_4_code (3 : Nat) (Option.none : Option Jvm.ClassFile.FieldType)) ∈ lw_all := lw_g (lw_at lw_m7 57 rfl) rfl
theorem q1615 : (Jvm.Cond.instanceMethod ({ cls := "GrassParkModel", name := "end", desc := "(I)Z" } : Jvm.MethodName)) ∈ lw_all := lw_g (lw_at lw_m7 59 rfl) rfl
theorem q1616 : (Jvm.Cond.selects "GrassParkModel" ({ cls := "GrassParkModel", name := "end", desc := "(I)Z" } : Jvm.MethodName) ({ cls := "GrassParkModel", name := "end", desc := "(I)Z" } : Jvm.MethodName)) ∈ lw_all := lw_g (lw_at lw_m7 60 rfl) rfl
theorem q1617 : (Jvm.Cond.code ({ cls := "GrassParkModel", name := "end", desc := "(I)Z" } : Jvm.MethodName) prog_12_method_5_code (2 : Nat) (Option.some Jvm.ClassFile.FieldType.boolean)) ∈ lw_all := lw_g (lw_at lw_m7 61 rfl) rfl
theorem q1620 : (Jvm.Cond.instanceMethod ({ cls := "GrassParkModel", name := "<init>", desc := "()V" } : Jvm.MethodName)) ∈ lw_all := lw_g (lw_at lw_m7 64 rfl) rfl
theorem q1621 : (Jvm.Cond.code ({ cls := "GrassParkModel", name := "<init>", desc := "()V" } : Jvm.MethodName) prog_12_method_10_code (1 : Nat) (Option.none : Option Jvm.ClassFile.FieldType)) ∈ lw_all := lw_g (lw_at lw_m7 65 rfl) rfl
theorem q1622 : (Jvm.Cond.methodLink "GrassParkModel" (24 : Nat) ({ cls := "java/lang/Object", name := "<init>", desc := "()V" } : Jvm.MethodName)) ∈ lw_all := lw_g (lw_at lw_m7 66 rfl) rfl
theorem q1623 : (Jvm.Cond.fieldLink "GrassParkModel" (1 : Nat) "GrassParkModel" "thrown" "I") ∈ lw_all := lw_g (lw_at lw_m7 67 rfl) rfl
theorem q1624 : (Jvm.Cond.fieldLink "GrassParkModel" (14 : Nat) "GrassParkModel" "tape" "[B") ∈ lw_all := lw_g (lw_at lw_m7 68 rfl) rfl
theorem q1625 : (Jvm.Cond.fieldLink "GrassParkModel" (7 : Nat) "GrassParkModel" "length" "I") ∈ lw_all := lw_g (lw_at lw_m7 69 rfl) rfl
theorem q1626 : (Jvm.Cond.fieldLink "GrassParkModel" (18 : Nat) "GrassParkModel" "size" "I") ∈ lw_all := lw_g (lw_at lw_m7 70 rfl) rfl
theorem q1627 : (Jvm.Cond.fieldLink "GrassParkModel" (21 : Nat) "GrassParkModel" "p" "I") ∈ lw_all := lw_g (lw_at lw_m7 71 rfl) rfl
theorem q1628 : (Jvm.Cond.fieldLink "GrassParkModel" (30 : Nat) "GrassParkModel" "s" "[I") ∈ lw_all := lw_g (lw_at lw_m7 72 rfl) rfl
theorem q1629 : (Jvm.Cond.fieldLink "GrassParkModel" (34 : Nat) "GrassParkModel" "kept" "[I") ∈ lw_all := lw_g (lw_at lw_m7 73 rfl) rfl
theorem q1630 : (Jvm.Cond.fieldLink "GrassParkModel" (37 : Nat) "GrassParkModel" "aside" "[I") ∈ lw_all := lw_g (lw_at lw_m7 74 rfl) rfl
theorem q1631 : (Jvm.Cond.fieldLink "GrassParkModel" (40 : Nat) "GrassParkModel" "isKept" "[Z") ∈ lw_all := lw_g (lw_at lw_m7 75 rfl) rfl
theorem q1632 : (Jvm.Cond.fieldLink "GrassParkModel" (44 : Nat) "GrassParkModel" "lineMany" "[I") ∈ lw_all := lw_g (lw_at lw_m7 76 rfl) rfl
theorem q1633 : (Jvm.Cond.fieldLink "GrassParkModel" (47 : Nat) "GrassParkModel" "lineKind" "[I") ∈ lw_all := lw_g (lw_at lw_m7 77 rfl) rfl
theorem q1634 : (Jvm.Cond.fieldLink "GrassParkModel" (50 : Nat) "GrassParkModel" "lineWhat" "[I") ∈ lw_all := lw_g (lw_at lw_m7 78 rfl) rfl
theorem q1635 : (Jvm.Cond.fieldLink "GrassParkModel" (53 : Nat) "GrassParkModel" "lineNumber" "[I") ∈ lw_all := lw_g (lw_at lw_m7 79 rfl) rfl
theorem q1636 : (Jvm.Cond.fieldLink "GrassParkModel" (56 : Nat) "GrassParkModel" "lineFrom" "[I") ∈ lw_all := lw_g (lw_at lw_m7 80 rfl) rfl
theorem q1637 : (Jvm.Cond.fieldLink "GrassParkModel" (59 : Nat) "GrassParkModel" "lineTo" "[I") ∈ lw_all := lw_g (lw_at lw_m7 81 rfl) rfl
theorem q1638 : (Jvm.Cond.fieldLink "GrassParkModel" (62 : Nat) "GrassParkModel" "step" "[I") ∈ lw_all := lw_g (lw_at lw_m7 82 rfl) rfl
theorem q1639 : (Jvm.Cond.fieldLink "GrassParkModel" (65 : Nat) "GrassParkModel" "stepSign" "[I") ∈ lw_all := lw_g (lw_at lw_m7 83 rfl) rfl
theorem q1640 : (Jvm.Cond.fieldLink "GrassParkModel" (68 : Nat) "GrassParkModel" "stepNumber" "[I") ∈ lw_all := lw_g (lw_at lw_m7 84 rfl) rfl
theorem q1641 : (Jvm.Cond.fieldLink "GrassParkModel" (71 : Nat) "GrassParkModel" "pile" "[I") ∈ lw_all := lw_g (lw_at lw_m7 85 rfl) rfl
theorem q1642 : (Jvm.Cond.fieldLink "GrassParkModel" (243 : Nat) "GrassParkModel" "stepMany" "I") ∈ lw_all := lw_g (lw_at lw_m7 86 rfl) rfl
theorem q1643 : (Jvm.Cond.fieldLink "GrassParkModel" (288 : Nat) "GrassParkModel" "pileMany" "I") ∈ lw_all := lw_g (lw_at lw_m7 87 rfl) rfl
theorem q1644 : (Jvm.Cond.fieldLink "GrassParkModel" (315 : Nat) "GrassParkModel" "ones" "I") ∈ lw_all := lw_g (lw_at lw_m7 88 rfl) rfl
theorem q1645 : (Jvm.Cond.fieldLink "GrassParkModel" (173 : Nat) "GrassParkModel" "token" "I") ∈ lw_all := lw_g (lw_at lw_m7 89 rfl) rfl
theorem q1646 : (Jvm.Cond.fieldLink "GrassParkModel" (167 : Nat) "GrassParkModel" "at" "I") ∈ lw_all := lw_g (lw_at lw_m7 90 rfl) rfl
theorem q1647 : (Jvm.Cond.fieldLink "GrassParkModel" (170 : Nat) "GrassParkModel" "span" "I") ∈ lw_all := lw_g (lw_at lw_m7 91 rfl) rfl
theorem q1648 : (Jvm.Cond.fieldLink "GrassParkModel" (182 : Nat) "GrassParkModel" "number" "I") ∈ lw_all := lw_g (lw_at lw_m7 92 rfl) rfl
theorem q1649 : (Jvm.Cond.fieldLink "GrassParkModel" (189 : Nat) "GrassParkModel" "fault" "I") ∈ lw_all := lw_g (lw_at lw_m7 93 rfl) rfl
theorem q1650 : (Jvm.Cond.fieldLink "GrassParkModel" (192 : Nat) "GrassParkModel" "faultAt" "I") ∈ lw_all := lw_g (lw_at lw_m7 94 rfl) rfl
theorem q1651 : (Jvm.Cond.fieldLink "GrassParkModel" (74 : Nat) "GrassParkModel" "bound" "I") ∈ lw_all := lw_g (lw_at lw_m7 95 rfl) rfl
theorem q1652 : (Jvm.Cond.fieldLink "GrassParkModel" (77 : Nat) "GrassParkModel" "mud" "I") ∈ lw_all := lw_g (lw_at lw_m7 96 rfl) rfl
theorem q1653 : (Jvm.Cond.fieldLink "GrassParkModel" (80 : Nat) "GrassParkModel" "dry" "I") ∈ lw_all := lw_g (lw_at lw_m7 97 rfl) rfl
theorem q1654 : (Jvm.Cond.fieldLink "GrassParkModel" (185 : Nat) "GrassParkModel" "word" "J") ∈ lw_all := lw_g (lw_at lw_m7 98 rfl) rfl
theorem q1655 : (Jvm.Cond.fieldLink "GrassParkModel" (204 : Nat) "GrassParkModel" "told" "I") ∈ lw_all := lw_g (lw_at lw_m7 99 rfl) rfl
theorem q1656 : (Jvm.Cond.fieldLink "GrassParkModel" (83 : Nat) "GrassParkModel" "truth" "[Z") ∈ lw_all := lw_g (lw_at lw_m7 100 rfl) rfl
theorem q1657 : (Jvm.Cond.fieldLink "GrassParkModel" (359 : Nat) "GrassParkModel" "here" "I") ∈ lw_all := lw_g (lw_at lw_m7 101 rfl) rfl
theorem q1658 : (Jvm.Cond.fieldLink "GrassParkModel" (383 : Nat) "GrassParkModel" "goal" "I") ∈ lw_all := lw_g (lw_at lw_m7 102 rfl) rfl
theorem q1659 : (Jvm.Cond.fieldLink "GrassParkModel" (378 : Nat) "GrassParkModel" "text" "I") ∈ lw_all := lw_g (lw_at lw_m7 103 rfl) rfl
theorem q1660 : (Jvm.Cond.fieldLink "GrassParkModel" (369 : Nat) "GrassParkModel" "lastWay" "I") ∈ lw_all := lw_g (lw_at lw_m7 104 rfl) rfl
theorem q1661 : (Jvm.Cond.fieldLink "GrassParkModel" (372 : Nat) "GrassParkModel" "cameFrom" "I") ∈ lw_all := lw_g (lw_at lw_m7 105 rfl) rfl
theorem q1662 : (Jvm.Cond.fieldLink "GrassParkModel" (362 : Nat) "GrassParkModel" "alone" "Z") ∈ lw_all := lw_g (lw_at lw_m7 106 rfl) rfl
theorem q1663 : (Jvm.Cond.fieldLink "GrassParkModel" (86 : Nat) "GrassParkModel" "watched" "I") ∈ lw_all := lw_g (lw_at lw_m7 107 rfl) rfl
theorem q1664 : (Jvm.Cond.fieldLink "GrassParkModel" (420 : Nat) "GrassParkModel" "arrivedNow" "I") ∈ lw_all := lw_g (lw_at lw_m7 108 rfl) rfl
theorem q1665 : (Jvm.Cond.fieldLink "GrassParkModel" (405 : Nat) "GrassParkModel" "wasTrod" "Z") ∈ lw_all := lw_g (lw_at lw_m7 109 rfl) rfl
theorem q1666 : (Jvm.Cond.fieldLink "GrassParkModel" (89 : Nat) "GrassParkModel" "mark" "[Z") ∈ lw_all := lw_g (lw_at lw_m7 110 rfl) rfl
theorem q1667 : (Jvm.Cond.fieldLink "GrassParkModel" (92 : Nat) "GrassParkModel" "before" "[Z") ∈ lw_all := lw_g (lw_at lw_m7 111 rfl) rfl
theorem q1668 : (Jvm.Cond.fieldLink "GrassParkModel" (95 : Nat) "GrassParkModel" "behind" "[Z") ∈ lw_all := lw_g (lw_at lw_m7 112 rfl) rfl
theorem q1669 : (Jvm.Cond.fieldLink "GrassParkModel" (98 : Nat) "GrassParkModel" "during" "[Z") ∈ lw_all := lw_g (lw_at lw_m7 113 rfl) rfl
theorem q1670 : (Jvm.Cond.fieldLink "GrassParkModel" (101 : Nat) "GrassParkModel" "costs" "[I") ∈ lw_all := lw_g (lw_at lw_m7 114 rfl) rfl
theorem q1671 : (Jvm.Cond.fieldLink "GrassParkModel" (104 : Nat) "GrassParkModel" "ways" "[I") ∈ lw_all := lw_g (lw_at lw_m7 115 rfl) rfl
theorem q1672 : (Jvm.Cond.fieldLink "GrassParkModel" (473 : Nat) "GrassParkModel" "paveMany" "I") ∈ lw_all := lw_g (lw_at lw_m7 116 rfl) rfl
theorem q1673 : (Jvm.Cond.fieldLink "GrassParkModel" (476 : Nat) "GrassParkModel" "paveSoon" "I") ∈ lw_all := lw_g (lw_at lw_m7 117 rfl) rfl
theorem q1674 : (Jvm.Cond.fieldLink "GrassParkModel" (479 : Nat) "GrassParkModel" "paveMissed" "I") ∈ lw_all := lw_g (lw_at lw_m7 118 rfl) rfl
theorem q1675 : (Jvm.Cond.fieldLink "GrassParkModel" (107 : Nat) "GrassParkModel" "fenced" "[I") ∈ lw_all := lw_g (lw_at lw_m7 119 rfl) rfl
theorem q1676 : (Jvm.Cond.fieldLink "GrassParkModel" (485 : Nat) "GrassParkModel" "fencedMany" "I") ∈ lw_all := lw_g (lw_at lw_m7 120 rfl) rfl
theorem q1677 : (Jvm.Cond.fieldLink "GrassParkModel" (110 : Nat) "GrassParkModel" "path" "[I") ∈ lw_all := lw_g (lw_at lw_m7 121 rfl) rfl
theorem q1678 : (Jvm.Cond.fieldLink "GrassParkModel" (113 : Nat) "GrassParkModel" "pathKept" "[I") ∈ lw_all := lw_g (lw_at lw_m7 122 rfl) rfl
theorem q1679 : (Jvm.Cond.fieldLink "GrassParkModel" (116 : Nat) "GrassParkModel" "trodBy" "[I") ∈ lw_all := lw_g (lw_at lw_m7 123 rfl) rfl
theorem q1680 : (Jvm.Cond.fieldLink "GrassParkModel" (119 : Nat) "GrassParkModel" "least" "[I") ∈ lw_all := lw_g (lw_at lw_m7 124 rfl) rfl
theorem q1681 : (Jvm.Cond.fieldLink "GrassParkModel" (122 : Nat) "GrassParkModel" "greatest" "[I") ∈ lw_all := lw_g (lw_at lw_m7 125 rfl) rfl
theorem q1682 : (Jvm.Cond.fieldLink "GrassParkModel" (125 : Nat) "GrassParkModel" "tries" "[I") ∈ lw_all := lw_g (lw_at lw_m7 126 rfl) rfl
theorem q1683 : (Jvm.Cond.fieldLink "GrassParkModel" (494 : Nat) "GrassParkModel" "pathMany" "I") ∈ lw_all := lw_g (lw_at lw_m7 127 rfl) rfl
theorem q1684 : (Jvm.Cond.fieldLink "GrassParkModel" (503 : Nat) "GrassParkModel" "pathKeptMany" "I") ∈ lw_all := lw_g (lw_at lw_m7 128 rfl) rfl
theorem q1685 : (Jvm.Cond.fieldLink "GrassParkModel" (509 : Nat) "GrassParkModel" "readMany" "I") ∈ lw_all := lw_g (lw_at lw_m7 129 rfl) rfl
theorem q1686 : (Jvm.Cond.lays "GrassParkModel" "GrassParkModel" "thrown" "I") ∈ lw_all := lw_g (lw_at lw_m7 130 rfl) rfl
theorem q1687 : (Jvm.Cond.soleField "GrassParkModel" "thrown") ∈ lw_all := lw_g (lw_at lw_m7 131 rfl) rfl
theorem q1688 : (Jvm.Cond.laysFinal "GrassParkModel" "GrassParkModel" "tape" "[B") ∈ lw_all := lw_g (lw_at lw_m7 132 rfl) rfl
theorem q1689 : (Jvm.Cond.soleField "GrassParkModel" "tape") ∈ lw_all := lw_g (lw_at lw_m7 133 rfl) rfl
theorem q1690 : (Jvm.Cond.lays "GrassParkModel" "GrassParkModel" "length" "I") ∈ lw_all := lw_g (lw_at lw_m7 134 rfl) rfl
theorem q1691 : (Jvm.Cond.soleField "GrassParkModel" "length") ∈ lw_all := lw_g (lw_at lw_m7 135 rfl) rfl
theorem q1692 : (Jvm.Cond.lays "GrassParkModel" "GrassParkModel" "size" "I") ∈ lw_all := lw_g (lw_at lw_m7 136 rfl) rfl
theorem q1693 : (Jvm.Cond.soleField "GrassParkModel" "size") ∈ lw_all := lw_g (lw_at lw_m7 137 rfl) rfl
theorem q1694 : (Jvm.Cond.lays "GrassParkModel" "GrassParkModel" "p" "I") ∈ lw_all := lw_g (lw_at lw_m7 138 rfl) rfl
theorem q1695 : (Jvm.Cond.soleField "GrassParkModel" "p") ∈ lw_all := lw_g (lw_at lw_m7 139 rfl) rfl
theorem q1696 : (Jvm.Cond.laysFinal "GrassParkModel" "GrassParkModel" "s" "[I") ∈ lw_all := lw_g (lw_at lw_m7 140 rfl) rfl
theorem q1697 : (Jvm.Cond.soleField "GrassParkModel" "s") ∈ lw_all := lw_g (lw_at lw_m7 141 rfl) rfl
theorem q1698 : (Jvm.Cond.laysFinal "GrassParkModel" "GrassParkModel" "kept" "[I") ∈ lw_all := lw_g (lw_at lw_m7 142 rfl) rfl
theorem q1699 : (Jvm.Cond.soleField "GrassParkModel" "kept") ∈ lw_all := lw_g (lw_at lw_m7 143 rfl) rfl
theorem q1700 : (Jvm.Cond.laysFinal "GrassParkModel" "GrassParkModel" "aside" "[I") ∈ lw_all := lw_g (lw_at lw_m7 144 rfl) rfl
theorem q1701 : (Jvm.Cond.soleField "GrassParkModel" "aside") ∈ lw_all := lw_g (lw_at lw_m7 145 rfl) rfl
theorem q1702 : (Jvm.Cond.laysFinal "GrassParkModel" "GrassParkModel" "isKept" "[Z") ∈ lw_all := lw_g (lw_at lw_m7 146 rfl) rfl
theorem q1703 : (Jvm.Cond.soleField "GrassParkModel" "isKept") ∈ lw_all := lw_g (lw_at lw_m7 147 rfl) rfl
theorem q1704 : (Jvm.Cond.laysFinal "GrassParkModel" "GrassParkModel" "lineMany" "[I") ∈ lw_all := lw_g (lw_at lw_m7 148 rfl) rfl
theorem q1705 : (Jvm.Cond.soleField "GrassParkModel" "lineMany") ∈ lw_all := lw_g (lw_at lw_m7 149 rfl) rfl
theorem q1706 : (Jvm.Cond.laysFinal "GrassParkModel" "GrassParkModel" "lineKind" "[I") ∈ lw_all := lw_g (lw_at lw_m7 150 rfl) rfl
theorem q1707 : (Jvm.Cond.soleField "GrassParkModel" "lineKind") ∈ lw_all := lw_g (lw_at lw_m7 151 rfl) rfl
theorem q1708 : (Jvm.Cond.laysFinal "GrassParkModel" "GrassParkModel" "lineWhat" "[I") ∈ lw_all := lw_g (lw_at lw_m7 152 rfl) rfl
theorem q1709 : (Jvm.Cond.soleField "GrassParkModel" "lineWhat") ∈ lw_all := lw_g (lw_at lw_m7 153 rfl) rfl
theorem q1710 : (Jvm.Cond.laysFinal "GrassParkModel" "GrassParkModel" "lineNumber" "[I") ∈ lw_all := lw_g (lw_at lw_m7 154 rfl) rfl
theorem q1711 : (Jvm.Cond.soleField "GrassParkModel" "lineNumber") ∈ lw_all := lw_g (lw_at lw_m7 155 rfl) rfl
theorem q1712 : (Jvm.Cond.laysFinal "GrassParkModel" "GrassParkModel" "lineFrom" "[I") ∈ lw_all := lw_g (lw_at lw_m7 156 rfl) rfl
theorem q1713 : (Jvm.Cond.soleField "GrassParkModel" "lineFrom") ∈ lw_all := lw_g (lw_at lw_m7 157 rfl) rfl
theorem q1714 : (Jvm.Cond.laysFinal "GrassParkModel" "GrassParkModel" "lineTo" "[I") ∈ lw_all := lw_g (lw_at lw_m7 158 rfl) rfl
theorem q1715 : (Jvm.Cond.soleField "GrassParkModel" "lineTo") ∈ lw_all := lw_g (lw_at lw_m7 159 rfl) rfl
theorem q1716 : (Jvm.Cond.laysFinal "GrassParkModel" "GrassParkModel" "step" "[I") ∈ lw_all := lw_g (lw_at lw_m7 160 rfl) rfl
theorem q1717 : (Jvm.Cond.soleField "GrassParkModel" "step") ∈ lw_all := lw_g (lw_at lw_m7 161 rfl) rfl
theorem q1718 : (Jvm.Cond.laysFinal "GrassParkModel" "GrassParkModel" "stepSign" "[I") ∈ lw_all := lw_g (lw_at lw_m7 162 rfl) rfl
theorem q1719 : (Jvm.Cond.soleField "GrassParkModel" "stepSign") ∈ lw_all := lw_g (lw_at lw_m7 163 rfl) rfl
theorem q1720 : (Jvm.Cond.laysFinal "GrassParkModel" "GrassParkModel" "stepNumber" "[I") ∈ lw_all := lw_g (lw_at lw_m7 164 rfl) rfl
theorem q1721 : (Jvm.Cond.soleField "GrassParkModel" "stepNumber") ∈ lw_all := lw_g (lw_at lw_m7 165 rfl) rfl
theorem q1722 : (Jvm.Cond.laysFinal "GrassParkModel" "GrassParkModel" "pile" "[I") ∈ lw_all := lw_g (lw_at lw_m7 166 rfl) rfl
theorem q1723 : (Jvm.Cond.soleField "GrassParkModel" "pile") ∈ lw_all := lw_g (lw_at lw_m7 167 rfl) rfl
theorem q1724 : (Jvm.Cond.lays "GrassParkModel" "GrassParkModel" "stepMany" "I") ∈ lw_all := lw_g (lw_at lw_m7 168 rfl) rfl
theorem q1725 : (Jvm.Cond.soleField "GrassParkModel" "stepMany") ∈ lw_all := lw_g (lw_at lw_m7 169 rfl) rfl
theorem q1726 : (Jvm.Cond.lays "GrassParkModel" "GrassParkModel" "pileMany" "I") ∈ lw_all := lw_g (lw_at lw_m7 170 rfl) rfl
theorem q1727 : (Jvm.Cond.soleField "GrassParkModel" "pileMany") ∈ lw_all := lw_g (lw_at lw_m7 171 rfl) rfl
theorem q1728 : (Jvm.Cond.lays "GrassParkModel" "GrassParkModel" "ones" "I") ∈ lw_all := lw_g (lw_at lw_m7 172 rfl) rfl
theorem q1729 : (Jvm.Cond.soleField "GrassParkModel" "ones") ∈ lw_all := lw_g (lw_at lw_m7 173 rfl) rfl
theorem q1730 : (Jvm.Cond.lays "GrassParkModel" "GrassParkModel" "token" "I") ∈ lw_all := lw_g (lw_at lw_m7 174 rfl) rfl
theorem q1731 : (Jvm.Cond.soleField "GrassParkModel" "token") ∈ lw_all := lw_g (lw_at lw_m7 175 rfl) rfl
theorem q1732 : (Jvm.Cond.lays "GrassParkModel" "GrassParkModel" "at" "I") ∈ lw_all := lw_g (lw_at lw_m7 176 rfl) rfl
theorem q1733 : (Jvm.Cond.soleField "GrassParkModel" "at") ∈ lw_all := lw_g (lw_at lw_m7 177 rfl) rfl
theorem q1734 : (Jvm.Cond.lays "GrassParkModel" "GrassParkModel" "span" "I") ∈ lw_all := lw_g (lw_at lw_m7 178 rfl) rfl
theorem q1735 : (Jvm.Cond.soleField "GrassParkModel" "span") ∈ lw_all := lw_g (lw_at lw_m7 179 rfl) rfl
theorem q1736 : (Jvm.Cond.lays "GrassParkModel" "GrassParkModel" "number" "I") ∈ lw_all := lw_g (lw_at lw_m7 180 rfl) rfl
theorem q1737 : (Jvm.Cond.soleField "GrassParkModel" "number") ∈ lw_all := lw_g (lw_at lw_m7 181 rfl) rfl
theorem q1738 : (Jvm.Cond.lays "GrassParkModel" "GrassParkModel" "fault" "I") ∈ lw_all := lw_g (lw_at lw_m7 182 rfl) rfl
theorem q1739 : (Jvm.Cond.soleField "GrassParkModel" "fault") ∈ lw_all := lw_g (lw_at lw_m7 183 rfl) rfl
theorem q1740 : (Jvm.Cond.lays "GrassParkModel" "GrassParkModel" "faultAt" "I") ∈ lw_all := lw_g (lw_at lw_m7 184 rfl) rfl
theorem q1741 : (Jvm.Cond.soleField "GrassParkModel" "faultAt") ∈ lw_all := lw_g (lw_at lw_m7 185 rfl) rfl
theorem q1742 : (Jvm.Cond.lays "GrassParkModel" "GrassParkModel" "bound" "I") ∈ lw_all := lw_g (lw_at lw_m7 186 rfl) rfl
theorem q1743 : (Jvm.Cond.soleField "GrassParkModel" "bound") ∈ lw_all := lw_g (lw_at lw_m7 187 rfl) rfl
theorem q1744 : (Jvm.Cond.lays "GrassParkModel" "GrassParkModel" "mud" "I") ∈ lw_all := lw_g (lw_at lw_m7 188 rfl) rfl
theorem q1745 : (Jvm.Cond.soleField "GrassParkModel" "mud") ∈ lw_all := lw_g (lw_at lw_m7 189 rfl) rfl
theorem q1746 : (Jvm.Cond.lays "GrassParkModel" "GrassParkModel" "dry" "I") ∈ lw_all := lw_g (lw_at lw_m7 190 rfl) rfl
theorem q1747 : (Jvm.Cond.soleField "GrassParkModel" "dry") ∈ lw_all := lw_g (lw_at lw_m7 191 rfl) rfl
theorem q1748 : (Jvm.Cond.lays "GrassParkModel" "GrassParkModel" "word" "J") ∈ lw_all := lw_g (lw_at lw_m7 192 rfl) rfl
theorem q1749 : (Jvm.Cond.soleField "GrassParkModel" "word") ∈ lw_all := lw_g (lw_at lw_m7 193 rfl) rfl
theorem q1750 : (Jvm.Cond.lays "GrassParkModel" "GrassParkModel" "told" "I") ∈ lw_all := lw_g (lw_at lw_m7 194 rfl) rfl
theorem q1751 : (Jvm.Cond.soleField "GrassParkModel" "told") ∈ lw_all := lw_g (lw_at lw_m7 195 rfl) rfl
theorem q1752 : (Jvm.Cond.laysFinal "GrassParkModel" "GrassParkModel" "truth" "[Z") ∈ lw_all := lw_g (lw_at lw_m7 196 rfl) rfl
theorem q1753 : (Jvm.Cond.soleField "GrassParkModel" "truth") ∈ lw_all := lw_g (lw_at lw_m7 197 rfl) rfl
theorem q1754 : (Jvm.Cond.lays "GrassParkModel" "GrassParkModel" "here" "I") ∈ lw_all := lw_g (lw_at lw_m7 198 rfl) rfl
theorem q1755 : (Jvm.Cond.soleField "GrassParkModel" "here") ∈ lw_all := lw_g (lw_at lw_m7 199 rfl) rfl
theorem q1756 : (Jvm.Cond.lays "GrassParkModel" "GrassParkModel" "goal" "I") ∈ lw_all := lw_g (lw_at lw_m7 200 rfl) rfl
theorem q1757 : (Jvm.Cond.soleField "GrassParkModel" "goal") ∈ lw_all := lw_g (lw_at lw_m7 201 rfl) rfl
theorem q1758 : (Jvm.Cond.lays "GrassParkModel" "GrassParkModel" "text" "I") ∈ lw_all := lw_g (lw_at lw_m7 202 rfl) rfl
theorem q1759 : (Jvm.Cond.soleField "GrassParkModel" "text") ∈ lw_all := lw_g (lw_at lw_m7 203 rfl) rfl
theorem q1760 : (Jvm.Cond.lays "GrassParkModel" "GrassParkModel" "lastWay" "I") ∈ lw_all := lw_g (lw_at lw_m7 204 rfl) rfl
theorem q1761 : (Jvm.Cond.soleField "GrassParkModel" "lastWay") ∈ lw_all := lw_g (lw_at lw_m7 205 rfl) rfl
theorem q1762 : (Jvm.Cond.lays "GrassParkModel" "GrassParkModel" "cameFrom" "I") ∈ lw_all := lw_g (lw_at lw_m7 206 rfl) rfl
theorem q1763 : (Jvm.Cond.soleField "GrassParkModel" "cameFrom") ∈ lw_all := lw_g (lw_at lw_m7 207 rfl) rfl
theorem q1764 : (Jvm.Cond.lays "GrassParkModel" "GrassParkModel" "alone" "Z") ∈ lw_all := lw_g (lw_at lw_m7 208 rfl) rfl
theorem q1765 : (Jvm.Cond.soleField "GrassParkModel" "alone") ∈ lw_all := lw_g (lw_at lw_m7 209 rfl) rfl
theorem q1766 : (Jvm.Cond.lays "GrassParkModel" "GrassParkModel" "watched" "I") ∈ lw_all := lw_g (lw_at lw_m7 210 rfl) rfl
theorem q1767 : (Jvm.Cond.soleField "GrassParkModel" "watched") ∈ lw_all := lw_g (lw_at lw_m7 211 rfl) rfl
theorem q1768 : (Jvm.Cond.lays "GrassParkModel" "GrassParkModel" "arrivedNow" "I") ∈ lw_all := lw_g (lw_at lw_m7 212 rfl) rfl
theorem q1769 : (Jvm.Cond.soleField "GrassParkModel" "arrivedNow") ∈ lw_all := lw_g (lw_at lw_m7 213 rfl) rfl
theorem q1770 : (Jvm.Cond.lays "GrassParkModel" "GrassParkModel" "wasTrod" "Z") ∈ lw_all := lw_g (lw_at lw_m7 214 rfl) rfl
theorem q1771 : (Jvm.Cond.soleField "GrassParkModel" "wasTrod") ∈ lw_all := lw_g (lw_at lw_m7 215 rfl) rfl
theorem q1772 : (Jvm.Cond.laysFinal "GrassParkModel" "GrassParkModel" "mark" "[Z") ∈ lw_all := lw_g (lw_at lw_m7 216 rfl) rfl
theorem q1773 : (Jvm.Cond.soleField "GrassParkModel" "mark") ∈ lw_all := lw_g (lw_at lw_m7 217 rfl) rfl
theorem q1774 : (Jvm.Cond.laysFinal "GrassParkModel" "GrassParkModel" "before" "[Z") ∈ lw_all := lw_g (lw_at lw_m7 218 rfl) rfl
theorem q1775 : (Jvm.Cond.soleField "GrassParkModel" "before") ∈ lw_all := lw_g (lw_at lw_m7 219 rfl) rfl
theorem q1776 : (Jvm.Cond.laysFinal "GrassParkModel" "GrassParkModel" "behind" "[Z") ∈ lw_all := lw_g (lw_at lw_m7 220 rfl) rfl
theorem q1777 : (Jvm.Cond.soleField "GrassParkModel" "behind") ∈ lw_all := lw_g (lw_at lw_m7 221 rfl) rfl
theorem q1778 : (Jvm.Cond.laysFinal "GrassParkModel" "GrassParkModel" "during" "[Z") ∈ lw_all := lw_g (lw_at lw_m7 222 rfl) rfl
theorem q1779 : (Jvm.Cond.soleField "GrassParkModel" "during") ∈ lw_all := lw_g (lw_at lw_m7 223 rfl) rfl
theorem q1780 : (Jvm.Cond.laysFinal "GrassParkModel" "GrassParkModel" "costs" "[I") ∈ lw_all := lw_g (lw_at lw_m7 224 rfl) rfl
theorem q1781 : (Jvm.Cond.soleField "GrassParkModel" "costs") ∈ lw_all := lw_g (lw_at lw_m7 225 rfl) rfl
theorem q1782 : (Jvm.Cond.laysFinal "GrassParkModel" "GrassParkModel" "ways" "[I") ∈ lw_all := lw_g (lw_at lw_m7 226 rfl) rfl
theorem q1783 : (Jvm.Cond.soleField "GrassParkModel" "ways") ∈ lw_all := lw_g (lw_at lw_m7 227 rfl) rfl
theorem q1784 : (Jvm.Cond.lays "GrassParkModel" "GrassParkModel" "paveMany" "I") ∈ lw_all := lw_g (lw_at lw_m7 228 rfl) rfl
theorem q1785 : (Jvm.Cond.soleField "GrassParkModel" "paveMany") ∈ lw_all := lw_g (lw_at lw_m7 229 rfl) rfl
theorem q1786 : (Jvm.Cond.lays "GrassParkModel" "GrassParkModel" "paveSoon" "I") ∈ lw_all := lw_g (lw_at lw_m7 230 rfl) rfl
theorem q1787 : (Jvm.Cond.soleField "GrassParkModel" "paveSoon") ∈ lw_all := lw_g (lw_at lw_m7 231 rfl) rfl
theorem q1788 : (Jvm.Cond.lays "GrassParkModel" "GrassParkModel" "paveMissed" "I") ∈ lw_all := lw_g (lw_at lw_m7 232 rfl) rfl
theorem q1789 : (Jvm.Cond.soleField "GrassParkModel" "paveMissed") ∈ lw_all := lw_g (lw_at lw_m7 233 rfl) rfl
theorem q1790 : (Jvm.Cond.laysFinal "GrassParkModel" "GrassParkModel" "fenced" "[I") ∈ lw_all := lw_g (lw_at lw_m7 234 rfl) rfl
theorem q1791 : (Jvm.Cond.soleField "GrassParkModel" "fenced") ∈ lw_all := lw_g (lw_at lw_m7 235 rfl) rfl
theorem q1792 : (Jvm.Cond.lays "GrassParkModel" "GrassParkModel" "fencedMany" "I") ∈ lw_all := lw_g (lw_at lw_m7 236 rfl) rfl
theorem q1793 : (Jvm.Cond.soleField "GrassParkModel" "fencedMany") ∈ lw_all := lw_g (lw_at lw_m7 237 rfl) rfl
theorem q1794 : (Jvm.Cond.laysFinal "GrassParkModel" "GrassParkModel" "path" "[I") ∈ lw_all := lw_g (lw_at lw_m7 238 rfl) rfl
theorem q1795 : (Jvm.Cond.soleField "GrassParkModel" "path") ∈ lw_all := lw_g (lw_at lw_m7 239 rfl) rfl
theorem q1796 : (Jvm.Cond.laysFinal "GrassParkModel" "GrassParkModel" "pathKept" "[I") ∈ lw_all := lw_g (lw_at lw_m8 0 rfl) rfl
theorem q1797 : (Jvm.Cond.soleField "GrassParkModel" "pathKept") ∈ lw_all := lw_g (lw_at lw_m8 1 rfl) rfl
theorem q1798 : (Jvm.Cond.laysFinal "GrassParkModel" "GrassParkModel" "trodBy" "[I") ∈ lw_all := lw_g (lw_at lw_m8 2 rfl) rfl
theorem q1799 : (Jvm.Cond.soleField "GrassParkModel" "trodBy") ∈ lw_all := lw_g (lw_at lw_m8 3 rfl) rfl
theorem q1800 : (Jvm.Cond.laysFinal "GrassParkModel" "GrassParkModel" "least" "[I") ∈ lw_all := lw_g (lw_at lw_m8 4 rfl) rfl
theorem q1801 : (Jvm.Cond.soleField "GrassParkModel" "least") ∈ lw_all := lw_g (lw_at lw_m8 5 rfl) rfl
theorem q1802 : (Jvm.Cond.laysFinal "GrassParkModel" "GrassParkModel" "greatest" "[I") ∈ lw_all := lw_g (lw_at lw_m8 6 rfl) rfl
theorem q1803 : (Jvm.Cond.soleField "GrassParkModel" "greatest") ∈ lw_all := lw_g (lw_at lw_m8 7 rfl) rfl
theorem q1804 : (Jvm.Cond.laysFinal "GrassParkModel" "GrassParkModel" "tries" "[I") ∈ lw_all := lw_g (lw_at lw_m8 8 rfl) rfl
theorem q1805 : (Jvm.Cond.soleField "GrassParkModel" "tries") ∈ lw_all := lw_g (lw_at lw_m8 9 rfl) rfl
theorem q1806 : (Jvm.Cond.lays "GrassParkModel" "GrassParkModel" "pathMany" "I") ∈ lw_all := lw_g (lw_at lw_m8 10 rfl) rfl
theorem q1807 : (Jvm.Cond.soleField "GrassParkModel" "pathMany") ∈ lw_all := lw_g (lw_at lw_m8 11 rfl) rfl
theorem q1808 : (Jvm.Cond.lays "GrassParkModel" "GrassParkModel" "pathKeptMany" "I") ∈ lw_all := lw_g (lw_at lw_m8 12 rfl) rfl
theorem q1809 : (Jvm.Cond.soleField "GrassParkModel" "pathKeptMany") ∈ lw_all := lw_g (lw_at lw_m8 13 rfl) rfl
theorem q1810 : (Jvm.Cond.lays "GrassParkModel" "GrassParkModel" "readMany" "I") ∈ lw_all := lw_g (lw_at lw_m8 14 rfl) rfl
theorem q1811 : (Jvm.Cond.soleField "GrassParkModel" "readMany") ∈ lw_all := lw_g (lw_at lw_m8 15 rfl) rfl
theorem q1812 : (Jvm.Cond.superclass "GrassParkModel" "java/lang/Object") ∈ lw_all := lw_g (lw_at lw_m8 16 rfl) rfl
theorem q1814 : (Jvm.Cond.instanceMethod ({ cls := "GrassParkModel", name := "park", desc := "(II)Z" } : Jvm.MethodName)) ∈ lw_all := lw_g (lw_at lw_m8 18 rfl) rfl
theorem q1815 : (Jvm.Cond.selects "GrassParkModel" ({ cls := "GrassParkModel", name := "park", desc := "(II)Z" } : Jvm.MethodName) ({ cls := "GrassParkModel", name := "park", desc := "(II)Z" } : Jvm.MethodName)) ∈ lw_all := lw_g (lw_at lw_m8 19 rfl) rfl
theorem q1816 : (Jvm.Cond.code ({ cls := "GrassParkModel", name := "park", desc := "(II)Z" } : Jvm.MethodName) prog_12_method_22_code (4 : Nat) (Option.some Jvm.ClassFile.FieldType.boolean)) ∈ lw_all := lw_g (lw_at lw_m8 20 rfl) rfl
theorem q1817 : (Jvm.Cond.methodLink "GrassParkModel" (144 : Nat) ({ cls := "GrassParkModel", name := "taken", desc := "()V" } : Jvm.MethodName)) ∈ lw_all := lw_g (lw_at lw_m8 21 rfl) rfl
theorem q1818 : (Jvm.Cond.privateMethod ({ cls := "GrassParkModel", name := "taken", desc := "()V" } : Jvm.MethodName)) ∈ lw_tbl := lw_at lw_m8 22 rfl
theorem q1819 : (Jvm.Cond.instanceMethod ({ cls := "GrassParkModel", name := "taken", desc := "()V" } : Jvm.MethodName)) ∈ lw_all := lw_g (lw_at lw_m8 23 rfl) rfl
theorem q1820 : (Jvm.Cond.code ({ cls := "GrassParkModel", name := "taken", desc := "()V" } : Jvm.MethodName) prog_12_method_6_code (1 : Nat) (Option.none : Option Jvm.ClassFile.FieldType)) ∈ lw_all := lw_g (lw_at lw_m8 24 rfl) rfl
theorem q1821 : (Jvm.Cond.methodLink "GrassParkModel" (132 : Nat) ({ cls := "GrassParkModel", name := "isIn", desc := "(III)Z" } : Jvm.MethodName)) ∈ lw_all := lw_g (lw_at lw_m8 25 rfl) rfl
theorem q1822 : (Jvm.Cond.static ({ cls := "GrassParkModel", name := "isIn", desc := "(III)Z" } : Jvm.MethodName)) ∈ lw_all := lw_g (lw_at lw_m8 26 rfl) rfl
theorem q1823 : (Jvm.Cond.code ({ cls := "GrassParkModel", name := "isIn", desc := "(III)Z" } : Jvm.MethodName) prog_12_method_7_code (3 : Nat) (Option.some Jvm.ClassFile.FieldType.boolean)) ∈ lw_all := lw_g (lw_at lw_m8 27 rfl) rfl
theorem q1824 : (Jvm.Cond.methodLink "GrassParkModel" (147 : Nat) ({ cls := "GrassParkModel", name := "octet", desc := "(I)I" } : Jvm.MethodName)) ∈ lw_all := lw_g (lw_at lw_m8 28 rfl) rfl
theorem q1825 : (Jvm.Cond.privateMethod ({ cls := "GrassParkModel", name := "octet", desc := "(I)I" } : Jvm.MethodName)) ∈ lw_tbl := lw_at lw_m8 29 rfl
theorem q1826 : (Jvm.Cond.instanceMethod ({ cls := "GrassParkModel", name := "octet", desc := "(I)I" } : Jvm.MethodName)) ∈ lw_all := lw_g (lw_at lw_m8 30 rfl) rfl
theorem q1827 : (Jvm.Cond.code ({ cls := "GrassParkModel", name := "octet", desc := "(I)I" } : Jvm.MethodName) prog_12_method_9_code (2 : Nat) (Option.some Jvm.ClassFile.FieldType.int)) ∈ lw_all := lw_g (lw_at lw_m8 31 rfl) rfl
theorem q1828 : (Jvm.Cond.methodLink "GrassParkModel" (151 : Nat) ({ cls := "GrassParkModel", name := "set", desc := "(III)V" } : Jvm.MethodName)) ∈ lw_all := lw_g (lw_at lw_m8 32 rfl) rfl
theorem q1829 : (Jvm.Cond.privateMethod ({ cls := "GrassParkModel", name := "set", desc := "(III)V" } : Jvm.MethodName)) ∈ lw_tbl := lw_at lw_m8 33 rfl
theorem q1830 : (Jvm.Cond.instanceMethod ({ cls := "GrassParkModel", name := "set", desc := "(III)V" } : Jvm.MethodName)) ∈ lw_all := lw_g (lw_at lw_m8 34 rfl) rfl
theorem q1831 : (Jvm.Cond.code ({ cls := "GrassParkModel", name := "set", desc := "(III)V" } : Jvm.MethodName) prog_12_method_14_code (4 : Nat) (Option.none : Option Jvm.ClassFile.FieldType)) ∈ lw_all := lw_g (lw_at lw_m8 35 rfl) rfl
theorem q1833 : (Jvm.Cond.instanceMethod ({ cls := "GrassParkModel", name := "door", desc := "(I)I" } : Jvm.MethodName)) ∈ lw_all := lw_g (lw_at lw_m8 37 rfl) rfl
theorem q1834 : (Jvm.Cond.selects "GrassParkModel" ({ cls := "GrassParkModel", name := "door", desc := "(I)I" } : Jvm.MethodName) ({ cls := "GrassParkModel", name := "door", desc := "(I)I" } : Jvm.MethodName)) ∈ lw_all := lw_g (lw_at lw_m8 38 rfl) rfl
theorem q1835 : (Jvm.Cond.code ({ cls := "GrassParkModel", name := "door", desc := "(I)I" } : Jvm.MethodName) prog_12_method_23_code (2 : Nat) (Option.some Jvm.ClassFile.FieldType.int)) ∈ lw_all := lw_g (lw_at lw_m8 39 rfl) rfl
theorem q1836 : (Jvm.Cond.methodLink "GrassParkModel" (155 : Nat) ({ cls := "GrassParkModel", name := "isCell", desc := "(I)Z" } : Jvm.MethodName)) ∈ lw_all := lw_g (lw_at lw_m8 40 rfl) rfl
theorem q1837 : (Jvm.Cond.privateMethod ({ cls := "GrassParkModel", name := "isCell", desc := "(I)Z" } : Jvm.MethodName)) ∈ lw_tbl := lw_at lw_m8 41 rfl
theorem q1838 : (Jvm.Cond.instanceMethod ({ cls := "GrassParkModel", name := "isCell", desc := "(I)Z" } : Jvm.MethodName)) ∈ lw_all := lw_g (lw_at lw_m8 42 rfl) rfl
theorem q1839 : (Jvm.Cond.code ({ cls := "GrassParkModel", name := "isCell", desc := "(I)Z" } : Jvm.MethodName) prog_12_method_12_code (2 : Nat) (Option.some Jvm.ClassFile.FieldType.boolean)) ∈ lw_all := lw_g (lw_at lw_m8 43 rfl) rfl
theorem q1840 : (Jvm.Cond.methodLink "GrassParkModel" (128 : Nat) ({ cls := "GrassParkModel", name := "cells", desc := "()I" } : Jvm.MethodName)) ∈ lw_all := lw_g (lw_at lw_m8 44 rfl) rfl
theorem q1841 : (Jvm.Cond.privateMethod ({ cls := "GrassParkModel", name := "cells", desc := "()I" } : Jvm.MethodName)) ∈ lw_tbl := lw_at lw_m8 45 rfl
theorem q1842 : (Jvm.Cond.instanceMethod ({ cls := "GrassParkModel", name := "cells", desc := "()I" } : Jvm.MethodName)) ∈ lw_all := lw_g (lw_at lw_m8 46 rfl) rfl
theorem q1843 : (Jvm.Cond.code ({ cls := "GrassParkModel", name := "cells", desc := "()I" } : Jvm.MethodName) prog_12_method_11_code (1 : Nat) (Option.some Jvm.ClassFile.FieldType.int)) ∈ lw_all := lw_g (lw_at lw_m8 47 rfl) rfl
theorem q1844 : (Jvm.Cond.methodLink "GrassParkModel" (158 : Nat) ({ cls := "GrassParkModel", name := "bears", desc := "(I)Z" } : Jvm.MethodName)) ∈ lw_all := lw_g (lw_at lw_m8 48 rfl) rfl
theorem q1845 : (Jvm.Cond.privateMethod ({ cls := "GrassParkModel", name := "bears", desc := "(I)Z" } : Jvm.MethodName)) ∈ lw_tbl := lw_at lw_m8 49 rfl
theorem q1846 : (Jvm.Cond.instanceMethod ({ cls := "GrassParkModel", name := "bears", desc := "(I)Z" } : Jvm.MethodName)) ∈ lw_all := lw_g (lw_at lw_m8 50 rfl) rfl
theorem q1847 : (Jvm.Cond.code ({ cls := "GrassParkModel", name := "bears", desc := "(I)Z" } : Jvm.MethodName) prog_12_method_15_code (2 : Nat) (Option.some Jvm.ClassFile.FieldType.boolean)) ∈ lw_all := lw_g (lw_at lw_m8 51 rfl) rfl
theorem q1848 : (Jvm.Cond.methodLink "GrassParkModel" (136 : Nat) ({ cls := "GrassParkModel", name := "of", desc := "(II)I" } : Jvm.MethodName)) ∈ lw_all := lw_g (lw_at lw_m8 52 rfl) rfl
theorem q1849 : (Jvm.Cond.privateMethod ({ cls := "GrassParkModel", name := "of", desc := "(II)I" } : Jvm.MethodName)) ∈ lw_tbl := lw_at lw_m8 53 rfl
theorem q1850 : (Jvm.Cond.instanceMethod ({ cls := "GrassParkModel", name := "of", desc := "(II)I" } : Jvm.MethodName)) ∈ lw_all := lw_g (lw_at lw_m8 54 rfl) rfl
theorem q1851 : (Jvm.Cond.code ({ cls := "GrassParkModel", name := "of", desc := "(II)I" } : Jvm.MethodName) prog_12_method_13_code (3 : Nat) (Option.some Jvm.ClassFile.FieldType.int)) ∈ lw_all := lw_g (lw_at lw_m8 55 rfl) rfl
theorem q1852 : (Jvm.Cond.methodLink "GrassParkModel" (161 : Nat) ({ cls := "GrassParkModel", name := "isDoorAt", desc := "(I)Z" } : Jvm.MethodName)) ∈ lw_all := lw_g (lw_at lw_m8 56 rfl) rfl
theorem q1853 : (Jvm.Cond.privateMethod ({ cls := "GrassParkModel", name := "isDoorAt", desc := "(I)Z" } : Jvm.MethodName)) ∈ lw_tbl := lw_at lw_m8 57 rfl
theorem q1854 : (Jvm.Cond.instanceMethod ({ cls := "GrassParkModel", name := "isDoorAt", desc := "(I)Z" } : Jvm.MethodName)) ∈ lw_all := lw_g (lw_at lw_m8 58 rfl) rfl
theorem q1855 : (Jvm.Cond.code ({ cls := "GrassParkModel", name := "isDoorAt", desc := "(I)Z" } : Jvm.MethodName) prog_12_method_24_code (3 : Nat) (Option.some Jvm.ClassFile.FieldType.boolean)) ∈ lw_all := lw_g (lw_at lw_m8 59 rfl) rfl
theorem q1857 : (Jvm.Cond.instanceMethod ({ cls := "GrassParkModel", name := "law", desc := "()I" } : Jvm.MethodName)) ∈ lw_all := lw_g (lw_at lw_m8 61 rfl) rfl
theorem q1858 : (Jvm.Cond.selects "GrassParkModel" ({ cls := "GrassParkModel", name := "law", desc := "()I" } : Jvm.MethodName) ({ cls := "GrassParkModel", name := "law", desc := "()I" } : Jvm.MethodName)) ∈ lw_all := lw_g (lw_at lw_m8 62 rfl) rfl
theorem q1859 : (Jvm.Cond.code ({ cls := "GrassParkModel", name := "law", desc := "()I" } : Jvm.MethodName) prog_12_method_50_code (2 : Nat) (Option.some Jvm.ClassFile.FieldType.int)) ∈ lw_all := lw_g (lw_at lw_m8 63 rfl) rfl
theorem q1860 : (Jvm.Cond.methodLink "GrassParkModel" (325 : Nat) ({ cls := "GrassParkModel", name := "text", desc := "(IZ)I" } : Jvm.MethodName)) ∈ lw_all := lw_g (lw_at lw_m8 64 rfl) rfl
theorem q1861 : (Jvm.Cond.privateMethod ({ cls := "GrassParkModel", name := "text", desc := "(IZ)I" } : Jvm.MethodName)) ∈ lw_tbl := lw_at lw_m8 65 rfl
theorem q1862 : (Jvm.Cond.instanceMethod ({ cls := "GrassParkModel", name := "text", desc := "(IZ)I" } : Jvm.MethodName)) ∈ lw_all := lw_g (lw_at lw_m8 66 rfl) rfl
theorem q1863 : (Jvm.Cond.code ({ cls := "GrassParkModel", name := "text", desc := "(IZ)I" } : Jvm.MethodName) prog_12_method_48_code (6 : Nat) (Option.some Jvm.ClassFile.FieldType.int)) ∈ lw_all := lw_g (lw_at lw_m8 67 rfl) rfl
theorem q1864 : (Jvm.Cond.methodLink "GrassParkModel" (201 : Nat) ({ cls := "GrassParkModel", name := "next", desc := "()V" } : Jvm.MethodName)) ∈ lw_all := lw_g (lw_at lw_m8 68 rfl) rfl
theorem q1865 : (Jvm.Cond.privateMethod ({ cls := "GrassParkModel", name := "next", desc := "()V" } : Jvm.MethodName)) ∈ lw_tbl := lw_at lw_m8 69 rfl
theorem q1866 : (Jvm.Cond.instanceMethod ({ cls := "GrassParkModel", name := "next", desc := "()V" } : Jvm.MethodName)) ∈ lw_all := lw_g (lw_at lw_m8 70 rfl) rfl
theorem q1867 : (Jvm.Cond.code ({ cls := "GrassParkModel", name := "next", desc := "()V" } : Jvm.MethodName) prog_12_method_29_code (4 : Nat) (Option.none : Option Jvm.ClassFile.FieldType)) ∈ lw_all := lw_g (lw_at lw_m8 71 rfl) rfl
theorem q1868 : (Jvm.Cond.methodLink "GrassParkModel" (164 : Nat) ({ cls := "GrassParkModel", name := "peek", desc := "()I" } : Jvm.MethodName)) ∈ lw_all := lw_g (lw_at lw_m8 72 rfl) rfl
theorem q1869 : (Jvm.Cond.privateMethod ({ cls := "GrassParkModel", name := "peek", desc := "()I" } : Jvm.MethodName)) ∈ lw_tbl := lw_at lw_m8 73 rfl
theorem q1870 : (Jvm.Cond.instanceMethod ({ cls := "GrassParkModel", name := "peek", desc := "()I" } : Jvm.MethodName)) ∈ lw_all := lw_g (lw_at lw_m8 74 rfl) rfl
theorem q1871 : (Jvm.Cond.code ({ cls := "GrassParkModel", name := "peek", desc := "()I" } : Jvm.MethodName) prog_12_method_26_code (1 : Nat) (Option.some Jvm.ClassFile.FieldType.int)) ∈ lw_all := lw_g (lw_at lw_m8 75 rfl) rfl
theorem q1872 : (Jvm.Cond.methodLink "GrassParkModel" (176 : Nat) ({ cls := "GrassParkModel", name := "isSmall", desc := "(I)Z" } : Jvm.MethodName)) ∈ lw_all := lw_g (lw_at lw_m8 76 rfl) rfl
theorem q1873 : (Jvm.Cond.static ({ cls := "GrassParkModel", name := "isSmall", desc := "(I)Z" } : Jvm.MethodName)) ∈ lw_all := lw_g (lw_at lw_m8 77 rfl) rfl
theorem q1874 : (Jvm.Cond.code ({ cls := "GrassParkModel", name := "isSmall", desc := "(I)Z" } : Jvm.MethodName) prog_12_method_27_code (1 : Nat) (Option.some Jvm.ClassFile.FieldType.boolean)) ∈ lw_all := lw_g (lw_at lw_m8 78 rfl) rfl
theorem q1875 : (Jvm.Cond.methodLink "GrassParkModel" (179 : Nat) ({ cls := "GrassParkModel", name := "isDigit", desc := "(I)Z" } : Jvm.MethodName)) ∈ lw_all := lw_g (lw_at lw_m8 79 rfl) rfl
theorem q1876 : (Jvm.Cond.static ({ cls := "GrassParkModel", name := "isDigit", desc := "(I)Z" } : Jvm.MethodName)) ∈ lw_all := lw_g (lw_at lw_m8 80 rfl) rfl
theorem q1877 : (Jvm.Cond.code ({ cls := "GrassParkModel", name := "isDigit", desc := "(I)Z" } : Jvm.MethodName) prog_12_method_28_code (1 : Nat) (Option.some Jvm.ClassFile.FieldType.boolean)) ∈ lw_all := lw_g (lw_at lw_m8 81 rfl) rfl
theorem q1878 : (Jvm.Cond.methodLink "GrassParkModel" (321 : Nat) ({ cls := "GrassParkModel", name := "read", desc := "(Z)Z" } : Jvm.MethodName)) ∈ lw_all := lw_g (lw_at lw_m8 82 rfl) rfl
theorem q1879 : (Jvm.Cond.privateMethod ({ cls := "GrassParkModel", name := "read", desc := "(Z)Z" } : Jvm.MethodName)) ∈ lw_tbl := lw_at lw_m8 83 rfl
theorem q1880 : (Jvm.Cond.instanceMethod ({ cls := "GrassParkModel", name := "read", desc := "(Z)Z" } : Jvm.MethodName)) ∈ lw_all := lw_g (lw_at lw_m8 84 rfl) rfl
theorem q1881 : (Jvm.Cond.code ({ cls := "GrassParkModel", name := "read", desc := "(Z)Z" } : Jvm.MethodName) prog_12_method_36_code (5 : Nat) (Option.some Jvm.ClassFile.FieldType.boolean)) ∈ lw_all := lw_g (lw_at lw_m8 85 rfl) rfl
theorem q1882 : (Jvm.Cond.methodLink "GrassParkModel" (223 : Nat) ({ cls := "GrassParkModel", name := "lineOf", desc := "(Z)I" } : Jvm.MethodName)) ∈ lw_all := lw_g (lw_at lw_m8 86 rfl) rfl
theorem q1883 : (Jvm.Cond.privateMethod ({ cls := "GrassParkModel", name := "lineOf", desc := "(Z)I" } : Jvm.MethodName)) ∈ lw_tbl := lw_at lw_m8 87 rfl
theorem q1884 : (Jvm.Cond.instanceMethod ({ cls := "GrassParkModel", name := "lineOf", desc := "(Z)I" } : Jvm.MethodName)) ∈ lw_all := lw_g (lw_at lw_m8 88 rfl) rfl
theorem q1885 : (Jvm.Cond.code ({ cls := "GrassParkModel", name := "lineOf", desc := "(Z)I" } : Jvm.MethodName) prog_12_method_35_code (2 : Nat) (Option.some Jvm.ClassFile.FieldType.int)) ∈ lw_all := lw_g (lw_at lw_m8 89 rfl) rfl
theorem q1886 : (Jvm.Cond.constantLong "GrassParkModel" (207 : Nat) (2003132786 : Int64)) ∈ lw_all := lw_g (lw_at lw_m8 90 rfl) rfl
theorem q1887 : (Jvm.Cond.constantLong "GrassParkModel" (209 : Nat) (1735552887 : Int64)) ∈ lw_all := lw_g (lw_at lw_m8 91 rfl) rfl
theorem q1888 : (Jvm.Cond.constantLong "GrassParkModel" (211 : Nat) (1818848869 : Int64)) ∈ lw_all := lw_g (lw_at lw_m8 92 rfl) rfl
theorem q1889 : (Jvm.Cond.constantLong "GrassParkModel" (213 : Nat) (7173476 : Int64)) ∈ lw_all := lw_g (lw_at lw_m8 93 rfl) rfl
theorem q1890 : (Jvm.Cond.constantLong "GrassParkModel" (215 : Nat) (6582905 : Int64)) ∈ lw_all := lw_g (lw_at lw_m8 94 rfl) rfl
theorem q1891 : (Jvm.Cond.constantLong "GrassParkModel" (217 : Nat) (512802514792 : Int64)) ∈ lw_all := lw_g (lw_at lw_m8 95 rfl) rfl
theorem q1892 : (Jvm.Cond.constantLong "GrassParkModel" (219 : Nat) (474148660594 : Int64)) ∈ lw_all := lw_g (lw_at lw_m8 96 rfl) rfl
theorem q1893 : (Jvm.Cond.constantLong "GrassParkModel" (221 : Nat) (495689623668 : Int64)) ∈ lw_all := lw_g (lw_at lw_m8 97 rfl) rfl
theorem q1894 : (Jvm.Cond.methodLink "GrassParkModel" (198 : Nat) ({ cls := "GrassParkModel", name := "bad", desc := "(I)Z" } : Jvm.MethodName)) ∈ lw_all := lw_g (lw_at lw_m8 98 rfl) rfl
theorem q1895 : (Jvm.Cond.privateMethod ({ cls := "GrassParkModel", name := "bad", desc := "(I)Z" } : Jvm.MethodName)) ∈ lw_tbl := lw_at lw_m8 99 rfl
theorem q1896 : (Jvm.Cond.instanceMethod ({ cls := "GrassParkModel", name := "bad", desc := "(I)Z" } : Jvm.MethodName)) ∈ lw_all := lw_g (lw_at lw_m8 100 rfl) rfl
theorem q1897 : (Jvm.Cond.code ({ cls := "GrassParkModel", name := "bad", desc := "(I)Z" } : Jvm.MethodName) prog_12_method_30_code (2 : Nat) (Option.some Jvm.ClassFile.FieldType.boolean)) ∈ lw_all := lw_g (lw_at lw_m8 101 rfl) rfl
theorem q1898 : (Jvm.Cond.methodLink "GrassParkModel" (227 : Nat) ({ cls := "GrassParkModel", name := "find", desc := "(II)I" } : Jvm.MethodName)) ∈ lw_all := lw_g (lw_at lw_m8 102 rfl) rfl
theorem q1899 : (Jvm.Cond.privateMethod ({ cls := "GrassParkModel", name := "find", desc := "(II)I" } : Jvm.MethodName)) ∈ lw_tbl := lw_at lw_m8 103 rfl
theorem q1900 : (Jvm.Cond.instanceMethod ({ cls := "GrassParkModel", name := "find", desc := "(II)I" } : Jvm.MethodName)) ∈ lw_all := lw_g (lw_at lw_m8 104 rfl) rfl
theorem q1901 : (Jvm.Cond.code ({ cls := "GrassParkModel", name := "find", desc := "(II)I" } : Jvm.MethodName) prog_12_method_39_code (4 : Nat) (Option.some Jvm.ClassFile.FieldType.int)) ∈ lw_all := lw_g (lw_at lw_m8 105 rfl) rfl
theorem q1902 : (Jvm.Cond.methodLink "GrassParkModel" (230 : Nat) ({ cls := "GrassParkModel", name := "line", desc := "(II)Z" } : Jvm.MethodName)) ∈ lw_all := lw_g (lw_at lw_m8 106 rfl) rfl
theorem q1903 : (Jvm.Cond.privateMethod ({ cls := "GrassParkModel", name := "line", desc := "(II)Z" } : Jvm.MethodName)) ∈ lw_tbl := lw_at lw_m8 107 rfl
theorem q1904 : (Jvm.Cond.instanceMethod ({ cls := "GrassParkModel", name := "line", desc := "(II)Z" } : Jvm.MethodName)) ∈ lw_all := lw_g (lw_at lw_m8 108 rfl) rfl
theorem q1905 : (Jvm.Cond.code ({ cls := "GrassParkModel", name := "line", desc := "(II)Z" } : Jvm.MethodName) prog_12_method_37_code (4 : Nat) (Option.some Jvm.ClassFile.FieldType.boolean)) ∈ lw_all := lw_g (lw_at lw_m8 109 rfl) rfl
theorem q1906 : (Jvm.Cond.methodLink "GrassParkModel" (237 : Nat) ({ cls := "GrassParkModel", name := "measure", desc := "()I" } : Jvm.MethodName)) ∈ lw_all := lw_g (lw_at lw_m8 110 rfl) rfl
theorem q1907 : (Jvm.Cond.privateMethod ({ cls := "GrassParkModel", name := "measure", desc := "()I" } : Jvm.MethodName)) ∈ lw_tbl := lw_at lw_m8 111 rfl
theorem q1908 : (Jvm.Cond.instanceMethod ({ cls := "GrassParkModel", name := "measure", desc := "()I" } : Jvm.MethodName)) ∈ lw_all := lw_g (lw_at lw_m8 112 rfl) rfl
theorem q1909 : (Jvm.Cond.code ({ cls := "GrassParkModel", name := "measure", desc := "()I" } : Jvm.MethodName) prog_12_method_38_code (1 : Nat) (Option.some Jvm.ClassFile.FieldType.int)) ∈ lw_all := lw_g (lw_at lw_m8 113 rfl) rfl
theorem q1910 : (Jvm.Cond.constantLong "GrassParkModel" (256 : Nat) (444300879214 : Int64)) ∈ lw_all := lw_g (lw_at lw_m8 114 rfl) rfl
theorem q1911 : (Jvm.Cond.constantLong "GrassParkModel" (258 : Nat) (7824756 : Int64)) ∈ lw_all := lw_g (lw_at lw_m8 115 rfl) rfl
theorem q1912 : (Jvm.Cond.constantLong "GrassParkModel" (260 : Nat) (427020610914 : Int64)) ∈ lw_all := lw_g (lw_at lw_m8 116 rfl) rfl
theorem q1913 : (Jvm.Cond.constantLong "GrassParkModel" (262 : Nat) (427121669988 : Int64)) ∈ lw_all := lw_g (lw_at lw_m8 117 rfl) rfl
theorem q1914 : (Jvm.Cond.constantLong "GrassParkModel" (264 : Nat) (1953854062 : Int64)) ∈ lw_all := lw_g (lw_at lw_m8 118 rfl) rfl
theorem q1915 : (Jvm.Cond.constantLong "GrassParkModel" (266 : Nat) (1668246885 : Int64)) ∈ lw_all := lw_g (lw_at lw_m8 119 rfl) rfl
theorem q1916 : (Jvm.Cond.methodLink "GrassParkModel" (240 : Nat) ({ cls := "GrassParkModel", name := "takes", desc := "(II)Z" } : Jvm.MethodName)) ∈ lw_all := lw_g (lw_at lw_m8 120 rfl) rfl
theorem q1917 : (Jvm.Cond.privateMethod ({ cls := "GrassParkModel", name := "takes", desc := "(II)Z" } : Jvm.MethodName)) ∈ lw_tbl := lw_at lw_m8 121 rfl
theorem q1918 : (Jvm.Cond.instanceMethod ({ cls := "GrassParkModel", name := "takes", desc := "(II)Z" } : Jvm.MethodName)) ∈ lw_all := lw_g (lw_at lw_m8 122 rfl) rfl
theorem q1919 : (Jvm.Cond.code ({ cls := "GrassParkModel", name := "takes", desc := "(II)Z" } : Jvm.MethodName) prog_12_method_34_code (3 : Nat) (Option.some Jvm.ClassFile.FieldType.boolean)) ∈ lw_all := lw_g (lw_at lw_m8 123 rfl) rfl
theorem q1920 : (Jvm.Cond.constantLong "GrassParkModel" (246 : Nat) (26982 : Int64)) ∈ lw_all := lw_g (lw_at lw_m8 124 rfl) rfl
theorem q1921 : (Jvm.Cond.methodLink "GrassParkModel" (248 : Nat) ({ cls := "GrassParkModel", name := "isWord", desc := "(J)Z" } : Jvm.MethodName)) ∈ lw_all := lw_g (lw_at lw_m8 125 rfl) rfl
theorem q1922 : (Jvm.Cond.privateMethod ({ cls := "GrassParkModel", name := "isWord", desc := "(J)Z" } : Jvm.MethodName)) ∈ lw_tbl := lw_at lw_m8 126 rfl
theorem q1923 : (Jvm.Cond.instanceMethod ({ cls := "GrassParkModel", name := "isWord", desc := "(J)Z" } : Jvm.MethodName)) ∈ lw_all := lw_g (lw_at lw_m8 127 rfl) rfl
theorem q1924 : (Jvm.Cond.code ({ cls := "GrassParkModel", name := "isWord", desc := "(J)Z" } : Jvm.MethodName) prog_12_method_31_code (3 : Nat) (Option.some Jvm.ClassFile.FieldType.boolean)) ∈ lw_all := lw_g (lw_at lw_m8 128 rfl) rfl
theorem q1925 : (Jvm.Cond.methodLink "GrassParkModel" (252 : Nat) ({ cls := "GrassParkModel", name := "cond", desc := "()Z" } : Jvm.MethodName)) ∈ lw_all := lw_g (lw_at lw_m8 129 rfl) rfl
theorem q1926 : (Jvm.Cond.privateMethod ({ cls := "GrassParkModel", name := "cond", desc := "()Z" } : Jvm.MethodName)) ∈ lw_tbl := lw_at lw_m8 130 rfl
theorem q1927 : (Jvm.Cond.instanceMethod ({ cls := "GrassParkModel", name := "cond", desc := "()Z" } : Jvm.MethodName)) ∈ lw_all := lw_g (lw_at lw_m8 131 rfl) rfl
theorem q1928 : (Jvm.Cond.code ({ cls := "GrassParkModel", name := "cond", desc := "()Z" } : Jvm.MethodName) prog_12_method_46_code (2 : Nat) (Option.some Jvm.ClassFile.FieldType.boolean)) ∈ lw_all := lw_g (lw_at lw_m8 132 rfl) rfl
theorem q1929 : (Jvm.Cond.methodLink "GrassParkModel" (297 : Nat) ({ cls := "GrassParkModel", name := "one", desc := "()Z" } : Jvm.MethodName)) ∈ lw_all := lw_g (lw_at lw_m8 133 rfl) rfl
theorem q1930 : (Jvm.Cond.privateMethod ({ cls := "GrassParkModel", name := "one", desc := "()Z" } : Jvm.MethodName)) ∈ lw_tbl := lw_at lw_m8 134 rfl
theorem q1931 : (Jvm.Cond.instanceMethod ({ cls := "GrassParkModel", name := "one", desc := "()Z" } : Jvm.MethodName)) ∈ lw_all := lw_g (lw_at lw_m8 135 rfl) rfl
theorem q1932 : (Jvm.Cond.code ({ cls := "GrassParkModel", name := "one", desc := "()Z" } : Jvm.MethodName) prog_12_method_47_code (4 : Nat) (Option.some Jvm.ClassFile.FieldType.boolean)) ∈ lw_all := lw_g (lw_at lw_m8 136 rfl) rfl
theorem q1933 : (Jvm.Cond.constantLong "GrassParkModel" (310 : Nat) (7237492 : Int64)) ∈ lw_all := lw_g (lw_at lw_m8 137 rfl) rfl
theorem q1934 : (Jvm.Cond.methodLink "GrassParkModel" (312 : Nat) ({ cls := "GrassParkModel", name := "atom", desc := "()I" } : Jvm.MethodName)) ∈ lw_all := lw_g (lw_at lw_m8 138 rfl) rfl
theorem q1935 : (Jvm.Cond.privateMethod ({ cls := "GrassParkModel", name := "atom", desc := "()I" } : Jvm.MethodName)) ∈ lw_tbl := lw_at lw_m8 139 rfl
theorem q1936 : (Jvm.Cond.instanceMethod ({ cls := "GrassParkModel", name := "atom", desc := "()I" } : Jvm.MethodName)) ∈ lw_all := lw_g (lw_at lw_m8 140 rfl) rfl
theorem q1937 : (Jvm.Cond.code ({ cls := "GrassParkModel", name := "atom", desc := "()I" } : Jvm.MethodName) prog_12_method_40_code (1 : Nat) (Option.some Jvm.ClassFile.FieldType.int)) ∈ lw_all := lw_g (lw_at lw_m8 141 rfl) rfl
theorem q1938 : (Jvm.Cond.constantLong "GrassParkModel" (268 : Nat) (444300620659 : Int64)) ∈ lw_all := lw_g (lw_at lw_m8 142 rfl) rfl
theorem q1939 : (Jvm.Cond.constantLong "GrassParkModel" (270 : Nat) (113740959081836 : Int64)) ∈ lw_all := lw_g (lw_at lw_m8 143 rfl) rfl
theorem q1940 : (Jvm.Cond.constantLong "GrassParkModel" (272 : Nat) (6448484 : Int64)) ∈ lw_all := lw_g (lw_at lw_m8 144 rfl) rfl
theorem q1941 : (Jvm.Cond.constantLong "GrassParkModel" (274 : Nat) (482671486308 : Int64)) ∈ lw_all := lw_g (lw_at lw_m8 145 rfl) rfl
theorem q1942 : (Jvm.Cond.constantLong "GrassParkModel" (276 : Nat) (495874044019 : Int64)) ∈ lw_all := lw_g (lw_at lw_m8 146 rfl) rfl
theorem q1943 : (Jvm.Cond.constantLong "GrassParkModel" (278 : Nat) (1936287598 : Int64)) ∈ lw_all := lw_g (lw_at lw_m8 147 rfl) rfl
theorem q1944 : (Jvm.Cond.constantLong "GrassParkModel" (280 : Nat) (470120948857 : Int64)) ∈ lw_all := lw_g (lw_at lw_m8 148 rfl) rfl
theorem q1945 : (Jvm.Cond.constantLong "GrassParkModel" (282 : Nat) (2003792494 : Int64)) ∈ lw_all := lw_g (lw_at lw_m8 149 rfl) rfl
theorem q1946 : (Jvm.Cond.constantLong "GrassParkModel" (284 : Nat) (114784769370228 : Int64)) ∈ lw_all := lw_g (lw_at lw_m8 150 rfl) rfl
theorem q1947 : (Jvm.Cond.constantLong "GrassParkModel" (286 : Nat) (1953656676 : Int64)) ∈ lw_all := lw_g (lw_at lw_m8 151 rfl) rfl
theorem q1948 : (Jvm.Cond.methodLink "GrassParkModel" (195 : Nat) ({ cls := "GrassParkModel", name := "isSign", desc := "(I)Z" } : Jvm.MethodName)) ∈ lw_all := lw_g (lw_at lw_m8 152 rfl) rfl
theorem q1949 : (Jvm.Cond.privateMethod ({ cls := "GrassParkModel", name := "isSign", desc := "(I)Z" } : Jvm.MethodName)) ∈ lw_tbl := lw_at lw_m8 153 rfl
theorem q1950 : (Jvm.Cond.instanceMethod ({ cls := "GrassParkModel", name := "isSign", desc := "(I)Z" } : Jvm.MethodName)) ∈ lw_all := lw_g (lw_at lw_m8 154 rfl) rfl
theorem q1951 : (Jvm.Cond.code ({ cls := "GrassParkModel", name := "isSign", desc := "(I)Z" } : Jvm.MethodName) prog_12_method_32_code (2 : Nat) (Option.some Jvm.ClassFile.FieldType.boolean)) ∈ lw_all := lw_g (lw_at lw_m8 155 rfl) rfl
theorem q1952 : (Jvm.Cond.methodLink "GrassParkModel" (318 : Nat) ({ cls := "GrassParkModel", name := "open", desc := "()I" } : Jvm.MethodName)) ∈ lw_all := lw_g (lw_at lw_m8 156 rfl) rfl
theorem q1953 : (Jvm.Cond.privateMethod ({ cls := "GrassParkModel", name := "open", desc := "()I" } : Jvm.MethodName)) ∈ lw_tbl := lw_at lw_m8 157 rfl
theorem q1954 : (Jvm.Cond.instanceMethod ({ cls := "GrassParkModel", name := "open", desc := "()I" } : Jvm.MethodName)) ∈ lw_all := lw_g (lw_at lw_m8 158 rfl) rfl
theorem q1955 : (Jvm.Cond.code ({ cls := "GrassParkModel", name := "open", desc := "()I" } : Jvm.MethodName) prog_12_method_44_code (3 : Nat) (Option.some Jvm.ClassFile.FieldType.int)) ∈ lw_all := lw_g (lw_at lw_m8 159 rfl) rfl
theorem q1956 : (Jvm.Cond.methodLink "GrassParkModel" (294 : Nat) ({ cls := "GrassParkModel", name := "write", desc := "(III)V" } : Jvm.MethodName)) ∈ lw_all := lw_g (lw_at lw_m8 160 rfl) rfl
theorem q1957 : (Jvm.Cond.privateMethod ({ cls := "GrassParkModel", name := "write", desc := "(III)V" } : Jvm.MethodName)) ∈ lw_tbl := lw_at lw_m8 161 rfl
theorem q1958 : (Jvm.Cond.instanceMethod ({ cls := "GrassParkModel", name := "write", desc := "(III)V" } : Jvm.MethodName)) ∈ lw_all := lw_g (lw_at lw_m8 162 rfl) rfl
theorem q1959 : (Jvm.Cond.code ({ cls := "GrassParkModel", name := "write", desc := "(III)V" } : Jvm.MethodName) prog_12_method_41_code (4 : Nat) (Option.none : Option Jvm.ClassFile.FieldType)) ∈ lw_all := lw_g (lw_at lw_m8 163 rfl) rfl
theorem q1960 : (Jvm.Cond.methodLink "GrassParkModel" (303 : Nat) ({ cls := "GrassParkModel", name := "writeDown", desc := "(I)V" } : Jvm.MethodName)) ∈ lw_all := lw_g (lw_at lw_m8 164 rfl) rfl
theorem q1961 : (Jvm.Cond.privateMethod ({ cls := "GrassParkModel", name := "writeDown", desc := "(I)V" } : Jvm.MethodName)) ∈ lw_tbl := lw_at lw_m8 165 rfl
theorem q1962 : (Jvm.Cond.instanceMethod ({ cls := "GrassParkModel", name := "writeDown", desc := "(I)V" } : Jvm.MethodName)) ∈ lw_all := lw_g (lw_at lw_m8 166 rfl) rfl
theorem q1963 : (Jvm.Cond.code ({ cls := "GrassParkModel", name := "writeDown", desc := "(I)V" } : Jvm.MethodName) prog_12_method_42_code (2 : Nat) (Option.none : Option Jvm.ClassFile.FieldType)) ∈ lw_all := lw_g (lw_at lw_m8 167 rfl) rfl
theorem q1964 : (Jvm.Cond.methodLink "GrassParkModel" (291 : Nat) ({ cls := "GrassParkModel", name := "binds", desc := "(I)I" } : Jvm.MethodName)) ∈ lw_all := lw_g (lw_at lw_m8 168 rfl) rfl
theorem q1965 : (Jvm.Cond.static ({ cls := "GrassParkModel", name := "binds", desc := "(I)I" } : Jvm.MethodName)) ∈ lw_all := lw_g (lw_at lw_m8 169 rfl) rfl
theorem q1966 : (Jvm.Cond.code ({ cls := "GrassParkModel", name := "binds", desc := "(I)I" } : Jvm.MethodName) prog_12_method_43_code (1 : Nat) (Option.some Jvm.ClassFile.FieldType.int)) ∈ lw_all := lw_g (lw_at lw_m8 170 rfl) rfl
theorem q1967 : (Jvm.Cond.methodLink "GrassParkModel" (300 : Nat) ({ cls := "GrassParkModel", name := "isOpen", desc := "()Z" } : Jvm.MethodName)) ∈ lw_all := lw_g (lw_at lw_m8 171 rfl) rfl
theorem q1968 : (Jvm.Cond.privateMethod ({ cls := "GrassParkModel", name := "isOpen", desc := "()Z" } : Jvm.MethodName)) ∈ lw_tbl := lw_at lw_m8 172 rfl
theorem q1969 : (Jvm.Cond.instanceMethod ({ cls := "GrassParkModel", name := "isOpen", desc := "()Z" } : Jvm.MethodName)) ∈ lw_all := lw_g (lw_at lw_m8 173 rfl) rfl
theorem q1970 : (Jvm.Cond.code ({ cls := "GrassParkModel", name := "isOpen", desc := "()Z" } : Jvm.MethodName) prog_12_method_45_code (2 : Nat) (Option.some Jvm.ClassFile.FieldType.boolean)) ∈ lw_all := lw_g (lw_at lw_m8 174 rfl) rfl
theorem q1971 : (Jvm.Cond.constantLong "GrassParkModel" (306 : Nat) (6385252 : Int64)) ∈ lw_all := lw_g (lw_at lw_m8 175 rfl) rfl
theorem q1972 : (Jvm.Cond.constantLong "GrassParkModel" (308 : Nat) (28530 : Int64)) ∈ lw_all := lw_g (lw_at lw_m8 176 rfl) rfl
theorem q1973 : (Jvm.Cond.methodLink "GrassParkModel" (234 : Nat) ({ cls := "GrassParkModel", name := "sign", desc := "(I)Z" } : Jvm.MethodName)) ∈ lw_all := lw_g (lw_at lw_m8 177 rfl) rfl
theorem q1974 : (Jvm.Cond.privateMethod ({ cls := "GrassParkModel", name := "sign", desc := "(I)Z" } : Jvm.MethodName)) ∈ lw_tbl := lw_at lw_m8 178 rfl
theorem q1975 : (Jvm.Cond.instanceMethod ({ cls := "GrassParkModel", name := "sign", desc := "(I)Z" } : Jvm.MethodName)) ∈ lw_all := lw_g (lw_at lw_m8 179 rfl) rfl
theorem q1976 : (Jvm.Cond.code ({ cls := "GrassParkModel", name := "sign", desc := "(I)Z" } : Jvm.MethodName) prog_12_method_33_code (2 : Nat) (Option.some Jvm.ClassFile.FieldType.boolean)) ∈ lw_all := lw_g (lw_at lw_m8 180 rfl) rfl
theorem q1977 : (Jvm.Cond.methodLink "GrassParkModel" (329 : Nat) ({ cls := "GrassParkModel", name := "told", desc := "(II)I" } : Jvm.MethodName)) ∈ lw_all := lw_g (lw_at lw_m8 181 rfl) rfl
theorem q1978 : (Jvm.Cond.privateMethod ({ cls := "GrassParkModel", name := "told", desc := "(II)I" } : Jvm.MethodName)) ∈ lw_tbl := lw_at lw_m8 182 rfl
theorem q1979 : (Jvm.Cond.instanceMethod ({ cls := "GrassParkModel", name := "told", desc := "(II)I" } : Jvm.MethodName)) ∈ lw_all := lw_g (lw_at lw_m8 183 rfl) rfl
theorem q1980 : (Jvm.Cond.code ({ cls := "GrassParkModel", name := "told", desc := "(II)I" } : Jvm.MethodName) prog_12_method_49_code (4 : Nat) (Option.some Jvm.ClassFile.FieldType.int)) ∈ lw_all := lw_g (lw_at lw_m8 184 rfl) rfl
theorem q1982 : (Jvm.Cond.instanceMethod ({ cls := "GrassParkModel", name := "habit", desc := "(I)I" } : Jvm.MethodName)) ∈ lw_all := lw_g (lw_at lw_m8 186 rfl) rfl
theorem q1983 : (Jvm.Cond.selects "GrassParkModel" ({ cls := "GrassParkModel", name := "habit", desc := "(I)I" } : Jvm.MethodName) ({ cls := "GrassParkModel", name := "habit", desc := "(I)I" } : Jvm.MethodName)) ∈ lw_all := lw_g (lw_at lw_m8 187 rfl) rfl
theorem q1984 : (Jvm.Cond.code ({ cls := "GrassParkModel", name := "habit", desc := "(I)I" } : Jvm.MethodName) prog_12_method_51_code (2 : Nat) (Option.some Jvm.ClassFile.FieldType.int)) ∈ lw_all := lw_g (lw_at lw_m8 188 rfl) rfl
theorem q1986 : (Jvm.Cond.instanceMethod ({ cls := "GrassParkModel", name := "fault", desc := "()I" } : Jvm.MethodName)) ∈ lw_all := lw_g (lw_at lw_m8 190 rfl) rfl
theorem q1987 : (Jvm.Cond.selects "GrassParkModel" ({ cls := "GrassParkModel", name := "fault", desc := "()I" } : Jvm.MethodName) ({ cls := "GrassParkModel", name := "fault", desc := "()I" } : Jvm.MethodName)) ∈ lw_all := lw_g (lw_at lw_m8 191 rfl) rfl
theorem q1988 : (Jvm.Cond.code ({ cls := "GrassParkModel", name := "fault", desc := "()I" } : Jvm.MethodName) prog_12_method_52_code (1 : Nat) (Option.some Jvm.ClassFile.FieldType.int)) ∈ lw_all := lw_g (lw_at lw_m8 192 rfl) rfl
theorem q1990 : (Jvm.Cond.instanceMethod ({ cls := "GrassParkModel", name := "wish", desc := "(IIIII)I" } : Jvm.MethodName)) ∈ lw_all := lw_g (lw_at lw_m8 194 rfl) rfl
theorem q1991 : (Jvm.Cond.selects "GrassParkModel" ({ cls := "GrassParkModel", name := "wish", desc := "(IIIII)I" } : Jvm.MethodName) ({ cls := "GrassParkModel", name := "wish", desc := "(IIIII)I" } : Jvm.MethodName)) ∈ lw_all := lw_g (lw_at lw_m8 195 rfl) rfl
theorem q1992 : (Jvm.Cond.code ({ cls := "GrassParkModel", name := "wish", desc := "(IIIII)I" } : Jvm.MethodName) prog_12_method_57_code (7 : Nat) (Option.some Jvm.ClassFile.FieldType.int)) ∈ lw_all := lw_g (lw_at lw_m8 196 rfl) rfl
theorem q1993 : (Jvm.Cond.methodLink "GrassParkModel" (340 : Nat) ({ cls := "GrassParkModel", name := "isDoor", desc := "(I)Z" } : Jvm.MethodName)) ∈ lw_all := lw_g (lw_at lw_m8 197 rfl) rfl
theorem q1994 : (Jvm.Cond.privateMethod ({ cls := "GrassParkModel", name := "isDoor", desc := "(I)Z" } : Jvm.MethodName)) ∈ lw_tbl := lw_at lw_m8 198 rfl
theorem q1995 : (Jvm.Cond.instanceMethod ({ cls := "GrassParkModel", name := "isDoor", desc := "(I)Z" } : Jvm.MethodName)) ∈ lw_all := lw_g (lw_at lw_m8 199 rfl) rfl
theorem q1996 : (Jvm.Cond.code ({ cls := "GrassParkModel", name := "isDoor", desc := "(I)Z" } : Jvm.MethodName) prog_12_method_19_code (2 : Nat) (Option.some Jvm.ClassFile.FieldType.boolean)) ∈ lw_all := lw_g (lw_at lw_m8 200 rfl) rfl
theorem q1997 : (Jvm.Cond.constant "GrassParkModel" (343 : Nat) (60000 : Int32)) ∈ lw_all := lw_g (lw_at lw_m8 201 rfl) rfl
theorem q1999 : (Jvm.Cond.instanceMethod ({ cls := "GrassParkModel", name := "drop", desc := "(I)Z" } : Jvm.MethodName)) ∈ lw_all := lw_g (lw_at lw_m8 203 rfl) rfl
theorem q2000 : (Jvm.Cond.selects "GrassParkModel" ({ cls := "GrassParkModel", name := "drop", desc := "(I)Z" } : Jvm.MethodName) ({ cls := "GrassParkModel", name := "drop", desc := "(I)Z" } : Jvm.MethodName)) ∈ lw_all := lw_g (lw_at lw_m8 204 rfl) rfl
theorem q2001 : (Jvm.Cond.code ({ cls := "GrassParkModel", name := "drop", desc := "(I)Z" } : Jvm.MethodName) prog_12_method_58_code (2 : Nat) (Option.some Jvm.ClassFile.FieldType.boolean)) ∈ lw_all := lw_g (lw_at lw_m8 205 rfl) rfl
theorem q2002 : (Jvm.Cond.methodLink "GrassParkModel" (344 : Nat) ({ cls := "GrassParkModel", name := "isWish", desc := "(I)Z" } : Jvm.MethodName)) ∈ lw_all := lw_g (lw_at lw_m8 206 rfl) rfl
theorem q2003 : (Jvm.Cond.privateMethod ({ cls := "GrassParkModel", name := "isWish", desc := "(I)Z" } : Jvm.MethodName)) ∈ lw_tbl := lw_at lw_m8 207 rfl
theorem q2004 : (Jvm.Cond.instanceMethod ({ cls := "GrassParkModel", name := "isWish", desc := "(I)Z" } : Jvm.MethodName)) ∈ lw_all := lw_g (lw_at lw_m8 208 rfl) rfl
theorem q2005 : (Jvm.Cond.code ({ cls := "GrassParkModel", name := "isWish", desc := "(I)Z" } : Jvm.MethodName) prog_12_method_56_code (2 : Nat) (Option.some Jvm.ClassFile.FieldType.boolean)) ∈ lw_all := lw_g (lw_at lw_m8 209 rfl) rfl
theorem q2007 : (Jvm.Cond.instanceMethod ({ cls := "GrassParkModel", name := "run", desc := "(I)I" } : Jvm.MethodName)) ∈ lw_all := lw_g (lw_at lw_m8 211 rfl) rfl
theorem q2008 : (Jvm.Cond.selects "GrassParkModel" ({ cls := "GrassParkModel", name := "run", desc := "(I)I" } : Jvm.MethodName) ({ cls := "GrassParkModel", name := "run", desc := "(I)I" } : Jvm.MethodName)) ∈ lw_all := lw_g (lw_at lw_m8 212 rfl) rfl
theorem q2009 : (Jvm.Cond.code ({ cls := "GrassParkModel", name := "run", desc := "(I)I" } : Jvm.MethodName) prog_12_method_74_code (3 : Nat) (Option.some Jvm.ClassFile.FieldType.int)) ∈ lw_all := lw_g (lw_at lw_m8 213 rfl) rfl
theorem q2010 : (Jvm.Cond.methodLink "GrassParkModel" (423 : Nat) ({ cls := "GrassParkModel", name := "tick", desc := "()V" } : Jvm.MethodName)) ∈ lw_all := lw_g (lw_at lw_m8 214 rfl) rfl
theorem q2011 : (Jvm.Cond.privateMethod ({ cls := "GrassParkModel", name := "tick", desc := "()V" } : Jvm.MethodName)) ∈ lw_tbl := lw_at lw_m8 215 rfl
theorem q2012 : (Jvm.Cond.instanceMethod ({ cls := "GrassParkModel", name := "tick", desc := "()V" } : Jvm.MethodName)) ∈ lw_all := lw_g (lw_at lw_m8 216 rfl) rfl
theorem q2013 : (Jvm.Cond.code ({ cls := "GrassParkModel", name := "tick", desc := "()V" } : Jvm.MethodName) prog_12_method_71_code (4 : Nat) (Option.none : Option Jvm.ClassFile.FieldType)) ∈ lw_all := lw_g (lw_at lw_m8 217 rfl) rfl
theorem q2014 : (Jvm.Cond.methodLink "GrassParkModel" (408 : Nat) ({ cls := "GrassParkModel", name := "goes", desc := "(I)Z" } : Jvm.MethodName)) ∈ lw_all := lw_g (lw_at lw_m8 218 rfl) rfl
theorem q2015 : (Jvm.Cond.privateMethod ({ cls := "GrassParkModel", name := "goes", desc := "(I)Z" } : Jvm.MethodName)) ∈ lw_tbl := lw_at lw_m8 219 rfl
theorem q2016 : (Jvm.Cond.instanceMethod ({ cls := "GrassParkModel", name := "goes", desc := "(I)Z" } : Jvm.MethodName)) ∈ lw_all := lw_g (lw_at lw_m8 220 rfl) rfl
theorem q2017 : (Jvm.Cond.code ({ cls := "GrassParkModel", name := "goes", desc := "(I)Z" } : Jvm.MethodName) prog_12_method_73_code (4 : Nat) (Option.some Jvm.ClassFile.FieldType.boolean)) ∈ lw_all := lw_g (lw_at lw_m8 221 rfl) rfl
theorem q2018 : (Jvm.Cond.methodLink "GrassParkModel" (414 : Nat) ({ cls := "GrassParkModel", name := "choose", desc := "()I" } : Jvm.MethodName)) ∈ lw_all := lw_g (lw_at lw_m8 222 rfl) rfl
theorem q2019 : (Jvm.Cond.privateMethod ({ cls := "GrassParkModel", name := "choose", desc := "()I" } : Jvm.MethodName)) ∈ lw_tbl := lw_at lw_m8 223 rfl
theorem q2020 : (Jvm.Cond.instanceMethod ({ cls := "GrassParkModel", name := "choose", desc := "()I" } : Jvm.MethodName)) ∈ lw_all := lw_g (lw_at lw_m8 224 rfl) rfl
theorem q2021 : (Jvm.Cond.code ({ cls := "GrassParkModel", name := "choose", desc := "()I" } : Jvm.MethodName) prog_12_method_69_code (6 : Nat) (Option.some Jvm.ClassFile.FieldType.int)) ∈ lw_all := lw_g (lw_at lw_m8 225 rfl) rfl
theorem q2022 : (Jvm.Cond.methodLink "GrassParkModel" (386 : Nat) ({ cls := "GrassParkModel", name := "across", desc := "(II)I" } : Jvm.MethodName)) ∈ lw_all := lw_g (lw_at lw_m8 226 rfl) rfl
theorem q2023 : (Jvm.Cond.privateMethod ({ cls := "GrassParkModel", name := "across", desc := "(II)I" } : Jvm.MethodName)) ∈ lw_tbl := lw_at lw_m8 227 rfl
theorem q2024 : (Jvm.Cond.instanceMethod ({ cls := "GrassParkModel", name := "across", desc := "(II)I" } : Jvm.MethodName)) ∈ lw_all := lw_g (lw_at lw_m8 228 rfl) rfl
theorem q2025 : (Jvm.Cond.code ({ cls := "GrassParkModel", name := "across", desc := "(II)I" } : Jvm.MethodName) prog_12_method_62_code (3 : Nat) (Option.some Jvm.ClassFile.FieldType.int)) ∈ lw_all := lw_g (lw_at lw_m8 229 rfl) rfl
theorem q2026 : (Jvm.Cond.methodLink "GrassParkModel" (353 : Nat) ({ cls := "GrassParkModel", name := "plain", desc := "(I)I" } : Jvm.MethodName)) ∈ lw_all := lw_g (lw_at lw_m8 230 rfl) rfl
theorem q2027 : (Jvm.Cond.static ({ cls := "GrassParkModel", name := "plain", desc := "(I)I" } : Jvm.MethodName)) ∈ lw_all := lw_g (lw_at lw_m8 231 rfl) rfl
theorem q2028 : (Jvm.Cond.code ({ cls := "GrassParkModel", name := "plain", desc := "(I)I" } : Jvm.MethodName) prog_12_method_8_code (1 : Nat) (Option.some Jvm.ClassFile.FieldType.int)) ∈ lw_all := lw_g (lw_at lw_m8 232 rfl) rfl
theorem q2029 : (Jvm.Cond.methodLink "GrassParkModel" (389 : Nat) ({ cls := "GrassParkModel", name := "along", desc := "(II)I" } : Jvm.MethodName)) ∈ lw_all := lw_g (lw_at lw_m8 233 rfl) rfl
theorem q2030 : (Jvm.Cond.privateMethod ({ cls := "GrassParkModel", name := "along", desc := "(II)I" } : Jvm.MethodName)) ∈ lw_tbl := lw_at lw_m8 234 rfl
theorem q2031 : (Jvm.Cond.instanceMethod ({ cls := "GrassParkModel", name := "along", desc := "(II)I" } : Jvm.MethodName)) ∈ lw_all := lw_g (lw_at lw_m8 235 rfl) rfl
theorem q2032 : (Jvm.Cond.code ({ cls := "GrassParkModel", name := "along", desc := "(II)I" } : Jvm.MethodName) prog_12_method_63_code (3 : Nat) (Option.some Jvm.ClassFile.FieldType.int)) ∈ lw_all := lw_g (lw_at lw_m8 236 rfl) rfl
theorem q2033 : (Jvm.Cond.methodLink "GrassParkModel" (380 : Nat) ({ cls := "GrassParkModel", name := "beside", desc := "(II)I" } : Jvm.MethodName)) ∈ lw_all := lw_g (lw_at lw_m8 237 rfl) rfl
theorem q2034 : (Jvm.Cond.privateMethod ({ cls := "GrassParkModel", name := "beside", desc := "(II)I" } : Jvm.MethodName)) ∈ lw_tbl := lw_at lw_m8 238 rfl
theorem q2035 : (Jvm.Cond.instanceMethod ({ cls := "GrassParkModel", name := "beside", desc := "(II)I" } : Jvm.MethodName)) ∈ lw_all := lw_g (lw_at lw_m8 239 rfl) rfl
theorem q2036 : (Jvm.Cond.code ({ cls := "GrassParkModel", name := "beside", desc := "(II)I" } : Jvm.MethodName) prog_12_method_61_code (5 : Nat) (Option.some Jvm.ClassFile.FieldType.int)) ∈ lw_all := lw_g (lw_at lw_m9 0 rfl) rfl
theorem q2037 : (Jvm.Cond.methodLink "GrassParkModel" (347 : Nat) ({ cls := "GrassParkModel", name := "east", desc := "(I)I" } : Jvm.MethodName)) ∈ lw_all := lw_g (lw_at lw_m9 1 rfl) rfl
theorem q2038 : (Jvm.Cond.static ({ cls := "GrassParkModel", name := "east", desc := "(I)I" } : Jvm.MethodName)) ∈ lw_all := lw_g (lw_at lw_m9 2 rfl) rfl
theorem q2039 : (Jvm.Cond.code ({ cls := "GrassParkModel", name := "east", desc := "(I)I" } : Jvm.MethodName) prog_12_method_59_code (1 : Nat) (Option.some Jvm.ClassFile.FieldType.int)) ∈ lw_all := lw_g (lw_at lw_m9 3 rfl) rfl
theorem q2040 : (Jvm.Cond.methodLink "GrassParkModel" (350 : Nat) ({ cls := "GrassParkModel", name := "south", desc := "(I)I" } : Jvm.MethodName)) ∈ lw_all := lw_g (lw_at lw_m9 4 rfl) rfl
theorem q2041 : (Jvm.Cond.static ({ cls := "GrassParkModel", name := "south", desc := "(I)I" } : Jvm.MethodName)) ∈ lw_all := lw_g (lw_at lw_m9 5 rfl) rfl
theorem q2042 : (Jvm.Cond.code ({ cls := "GrassParkModel", name := "south", desc := "(I)I" } : Jvm.MethodName) prog_12_method_60_code (1 : Nat) (Option.some Jvm.ClassFile.FieldType.int)) ∈ lw_all := lw_g (lw_at lw_m9 6 rfl) rfl
theorem q2043 : (Jvm.Cond.methodLink "GrassParkModel" (396 : Nat) ({ cls := "GrassParkModel", name := "mayNot", desc := "(I)Z" } : Jvm.MethodName)) ∈ lw_all := lw_g (lw_at lw_m9 7 rfl) rfl
theorem q2044 : (Jvm.Cond.privateMethod ({ cls := "GrassParkModel", name := "mayNot", desc := "(I)Z" } : Jvm.MethodName)) ∈ lw_tbl := lw_at lw_m9 8 rfl
theorem q2045 : (Jvm.Cond.instanceMethod ({ cls := "GrassParkModel", name := "mayNot", desc := "(I)Z" } : Jvm.MethodName)) ∈ lw_all := lw_g (lw_at lw_m9 9 rfl) rfl
theorem q2046 : (Jvm.Cond.code ({ cls := "GrassParkModel", name := "mayNot", desc := "(I)Z" } : Jvm.MethodName) prog_12_method_68_code (3 : Nat) (Option.some Jvm.ClassFile.FieldType.boolean)) ∈ lw_all := lw_g (lw_at lw_m9 10 rfl) rfl
theorem q2047 : (Jvm.Cond.methodLink "GrassParkModel" (337 : Nat) ({ cls := "GrassParkModel", name := "holds", desc := "(II)Z" } : Jvm.MethodName)) ∈ lw_all := lw_g (lw_at lw_m9 11 rfl) rfl
theorem q2048 : (Jvm.Cond.privateMethod ({ cls := "GrassParkModel", name := "holds", desc := "(II)Z" } : Jvm.MethodName)) ∈ lw_tbl := lw_at lw_m9 12 rfl
theorem q2049 : (Jvm.Cond.instanceMethod ({ cls := "GrassParkModel", name := "holds", desc := "(II)Z" } : Jvm.MethodName)) ∈ lw_all := lw_g (lw_at lw_m9 13 rfl) rfl
theorem q2050 : (Jvm.Cond.code ({ cls := "GrassParkModel", name := "holds", desc := "(II)Z" } : Jvm.MethodName) prog_12_method_54_code (8 : Nat) (Option.some Jvm.ClassFile.FieldType.boolean)) ∈ lw_all := lw_g (lw_at lw_m9 14 rfl) rfl
theorem q2051 : (Jvm.Cond.methodLink "GrassParkModel" (334 : Nat) ({ cls := "GrassParkModel", name := "is", desc := "(II)Z" } : Jvm.MethodName)) ∈ lw_all := lw_g (lw_at lw_m9 15 rfl) rfl
theorem q2052 : (Jvm.Cond.privateMethod ({ cls := "GrassParkModel", name := "is", desc := "(II)Z" } : Jvm.MethodName)) ∈ lw_tbl := lw_at lw_m9 16 rfl
theorem q2053 : (Jvm.Cond.instanceMethod ({ cls := "GrassParkModel", name := "is", desc := "(II)Z" } : Jvm.MethodName)) ∈ lw_all := lw_g (lw_at lw_m9 17 rfl) rfl
theorem q2054 : (Jvm.Cond.code ({ cls := "GrassParkModel", name := "is", desc := "(II)Z" } : Jvm.MethodName) prog_12_method_53_code (3 : Nat) (Option.some Jvm.ClassFile.FieldType.boolean)) ∈ lw_all := lw_g (lw_at lw_m9 18 rfl) rfl
theorem q2055 : (Jvm.Cond.methodLink "GrassParkModel" (331 : Nat) ({ cls := "GrassParkModel", name := "isMuddy", desc := "(I)Z" } : Jvm.MethodName)) ∈ lw_all := lw_g (lw_at lw_m9 19 rfl) rfl
theorem q2056 : (Jvm.Cond.privateMethod ({ cls := "GrassParkModel", name := "isMuddy", desc := "(I)Z" } : Jvm.MethodName)) ∈ lw_tbl := lw_at lw_m9 20 rfl
theorem q2057 : (Jvm.Cond.instanceMethod ({ cls := "GrassParkModel", name := "isMuddy", desc := "(I)Z" } : Jvm.MethodName)) ∈ lw_all := lw_g (lw_at lw_m9 21 rfl) rfl
theorem q2058 : (Jvm.Cond.code ({ cls := "GrassParkModel", name := "isMuddy", desc := "(I)Z" } : Jvm.MethodName) prog_12_method_18_code (2 : Nat) (Option.some Jvm.ClassFile.FieldType.boolean)) ∈ lw_all := lw_g (lw_at lw_m9 22 rfl) rfl
theorem q2059 : (Jvm.Cond.methodLink "GrassParkModel" (140 : Nat) ({ cls := "GrassParkModel", name := "isWorn", desc := "(I)Z" } : Jvm.MethodName)) ∈ lw_all := lw_g (lw_at lw_m9 23 rfl) rfl
theorem q2060 : (Jvm.Cond.privateMethod ({ cls := "GrassParkModel", name := "isWorn", desc := "(I)Z" } : Jvm.MethodName)) ∈ lw_tbl := lw_at lw_m9 24 rfl
theorem q2061 : (Jvm.Cond.instanceMethod ({ cls := "GrassParkModel", name := "isWorn", desc := "(I)Z" } : Jvm.MethodName)) ∈ lw_all := lw_g (lw_at lw_m9 25 rfl) rfl
theorem q2062 : (Jvm.Cond.code ({ cls := "GrassParkModel", name := "isWorn", desc := "(I)Z" } : Jvm.MethodName) prog_12_method_17_code (2 : Nat) (Option.some Jvm.ClassFile.FieldType.boolean)) ∈ lw_all := lw_g (lw_at lw_m9 26 rfl) rfl
theorem q2063 : (Jvm.Cond.methodLink "GrassParkModel" (399 : Nat) ({ cls := "GrassParkModel", name := "weight", desc := "(II)I" } : Jvm.MethodName)) ∈ lw_all := lw_g (lw_at lw_m9 27 rfl) rfl
theorem q2064 : (Jvm.Cond.privateMethod ({ cls := "GrassParkModel", name := "weight", desc := "(II)I" } : Jvm.MethodName)) ∈ lw_tbl := lw_at lw_m9 28 rfl
theorem q2065 : (Jvm.Cond.instanceMethod ({ cls := "GrassParkModel", name := "weight", desc := "(II)I" } : Jvm.MethodName)) ∈ lw_all := lw_g (lw_at lw_m9 29 rfl) rfl
theorem q2066 : (Jvm.Cond.code ({ cls := "GrassParkModel", name := "weight", desc := "(II)I" } : Jvm.MethodName) prog_12_method_67_code (8 : Nat) (Option.some Jvm.ClassFile.FieldType.int)) ∈ lw_all := lw_g (lw_at lw_m9 30 rfl) rfl
theorem q2067 : (Jvm.Cond.methodLink "GrassParkModel" (392 : Nat) ({ cls := "GrassParkModel", name := "measured", desc := "(III)I" } : Jvm.MethodName)) ∈ lw_all := lw_g (lw_at lw_m9 31 rfl) rfl
theorem q2068 : (Jvm.Cond.privateMethod ({ cls := "GrassParkModel", name := "measured", desc := "(III)I" } : Jvm.MethodName)) ∈ lw_tbl := lw_at lw_m9 32 rfl
theorem q2069 : (Jvm.Cond.instanceMethod ({ cls := "GrassParkModel", name := "measured", desc := "(III)I" } : Jvm.MethodName)) ∈ lw_all := lw_g (lw_at lw_m9 33 rfl) rfl
theorem q2070 : (Jvm.Cond.code ({ cls := "GrassParkModel", name := "measured", desc := "(III)I" } : Jvm.MethodName) prog_12_method_64_code (4 : Nat) (Option.some Jvm.ClassFile.FieldType.int)) ∈ lw_all := lw_g (lw_at lw_m9 34 rfl) rfl
theorem q2071 : (Jvm.Cond.methodLink "GrassParkModel" (356 : Nat) ({ cls := "GrassParkModel", name := "isGreen", desc := "(I)Z" } : Jvm.MethodName)) ∈ lw_all := lw_g (lw_at lw_m9 35 rfl) rfl
theorem q2072 : (Jvm.Cond.privateMethod ({ cls := "GrassParkModel", name := "isGreen", desc := "(I)Z" } : Jvm.MethodName)) ∈ lw_tbl := lw_at lw_m9 36 rfl
theorem q2073 : (Jvm.Cond.instanceMethod ({ cls := "GrassParkModel", name := "isGreen", desc := "(I)Z" } : Jvm.MethodName)) ∈ lw_all := lw_g (lw_at lw_m9 37 rfl) rfl
theorem q2074 : (Jvm.Cond.code ({ cls := "GrassParkModel", name := "isGreen", desc := "(I)Z" } : Jvm.MethodName) prog_12_method_16_code (2 : Nat) (Option.some Jvm.ClassFile.FieldType.boolean)) ∈ lw_all := lw_g (lw_at lw_m9 38 rfl) rfl
theorem q2075 : (Jvm.Cond.methodLink "GrassParkModel" (366 : Nat) ({ cls := "GrassParkModel", name := "crowd", desc := "(I)I" } : Jvm.MethodName)) ∈ lw_all := lw_g (lw_at lw_m9 39 rfl) rfl
theorem q2076 : (Jvm.Cond.privateMethod ({ cls := "GrassParkModel", name := "crowd", desc := "(I)I" } : Jvm.MethodName)) ∈ lw_tbl := lw_at lw_m9 40 rfl
theorem q2077 : (Jvm.Cond.instanceMethod ({ cls := "GrassParkModel", name := "crowd", desc := "(I)I" } : Jvm.MethodName)) ∈ lw_all := lw_g (lw_at lw_m9 41 rfl) rfl
theorem q2078 : (Jvm.Cond.code ({ cls := "GrassParkModel", name := "crowd", desc := "(I)I" } : Jvm.MethodName) prog_12_method_65_code (4 : Nat) (Option.some Jvm.ClassFile.FieldType.int)) ∈ lw_all := lw_g (lw_at lw_m9 42 rfl) rfl
theorem q2079 : (Jvm.Cond.methodLink "GrassParkModel" (375 : Nat) ({ cls := "GrassParkModel", name := "sees", desc := "(II)I" } : Jvm.MethodName)) ∈ lw_all := lw_g (lw_at lw_m9 43 rfl) rfl
theorem q2080 : (Jvm.Cond.privateMethod ({ cls := "GrassParkModel", name := "sees", desc := "(II)I" } : Jvm.MethodName)) ∈ lw_tbl := lw_at lw_m9 44 rfl
theorem q2081 : (Jvm.Cond.instanceMethod ({ cls := "GrassParkModel", name := "sees", desc := "(II)I" } : Jvm.MethodName)) ∈ lw_all := lw_g (lw_at lw_m9 45 rfl) rfl
theorem q2082 : (Jvm.Cond.code ({ cls := "GrassParkModel", name := "sees", desc := "(II)I" } : Jvm.MethodName) prog_12_method_66_code (7 : Nat) (Option.some Jvm.ClassFile.FieldType.int)) ∈ lw_all := lw_g (lw_at lw_m9 46 rfl) rfl
theorem q2083 : (Jvm.Cond.methodLink "GrassParkModel" (417 : Nat) ({ cls := "GrassParkModel", name := "tread", desc := "(I)V" } : Jvm.MethodName)) ∈ lw_all := lw_g (lw_at lw_m9 47 rfl) rfl
theorem q2084 : (Jvm.Cond.privateMethod ({ cls := "GrassParkModel", name := "tread", desc := "(I)V" } : Jvm.MethodName)) ∈ lw_tbl := lw_at lw_m9 48 rfl
theorem q2085 : (Jvm.Cond.instanceMethod ({ cls := "GrassParkModel", name := "tread", desc := "(I)V" } : Jvm.MethodName)) ∈ lw_all := lw_g (lw_at lw_m9 49 rfl) rfl
theorem q2086 : (Jvm.Cond.code ({ cls := "GrassParkModel", name := "tread", desc := "(I)V" } : Jvm.MethodName) prog_12_method_70_code (3 : Nat) (Option.none : Option Jvm.ClassFile.FieldType)) ∈ lw_all := lw_g (lw_at lw_m9 50 rfl) rfl
theorem q2087 : (Jvm.Cond.methodLink "GrassParkModel" (402 : Nat) ({ cls := "GrassParkModel", name := "first", desc := "(III)I" } : Jvm.MethodName)) ∈ lw_all := lw_g (lw_at lw_m9 51 rfl) rfl
theorem q2088 : (Jvm.Cond.privateMethod ({ cls := "GrassParkModel", name := "first", desc := "(III)I" } : Jvm.MethodName)) ∈ lw_tbl := lw_at lw_m9 52 rfl
theorem q2089 : (Jvm.Cond.instanceMethod ({ cls := "GrassParkModel", name := "first", desc := "(III)I" } : Jvm.MethodName)) ∈ lw_all := lw_g (lw_at lw_m9 53 rfl) rfl
theorem q2090 : (Jvm.Cond.code ({ cls := "GrassParkModel", name := "first", desc := "(III)I" } : Jvm.MethodName) prog_12_method_55_code (5 : Nat) (Option.some Jvm.ClassFile.FieldType.int)) ∈ lw_all := lw_g (lw_at lw_m9 54 rfl) rfl
theorem q2091 : (Jvm.Cond.methodLink "GrassParkModel" (411 : Nat) ({ cls := "GrassParkModel", name := "leave", desc := "(I)V" } : Jvm.MethodName)) ∈ lw_all := lw_g (lw_at lw_m9 55 rfl) rfl
theorem q2092 : (Jvm.Cond.privateMethod ({ cls := "GrassParkModel", name := "leave", desc := "(I)V" } : Jvm.MethodName)) ∈ lw_tbl := lw_at lw_m9 56 rfl
theorem q2093 : (Jvm.Cond.instanceMethod ({ cls := "GrassParkModel", name := "leave", desc := "(I)V" } : Jvm.MethodName)) ∈ lw_all := lw_g (lw_at lw_m9 57 rfl) rfl
theorem q2094 : (Jvm.Cond.code ({ cls := "GrassParkModel", name := "leave", desc := "(I)V" } : Jvm.MethodName) prog_12_method_72_code (3 : Nat) (Option.none : Option Jvm.ClassFile.FieldType)) ∈ lw_all := lw_g (lw_at lw_m9 58 rfl) rfl
theorem q2096 : (Jvm.Cond.instanceMethod ({ cls := "GrassParkModel", name := "week", desc := "()I" } : Jvm.MethodName)) ∈ lw_all := lw_g (lw_at lw_m9 60 rfl) rfl
theorem q2097 : (Jvm.Cond.selects "GrassParkModel" ({ cls := "GrassParkModel", name := "week", desc := "()I" } : Jvm.MethodName) ({ cls := "GrassParkModel", name := "week", desc := "()I" } : Jvm.MethodName)) ∈ lw_all := lw_g (lw_at lw_m9 61 rfl) rfl
theorem q2098 : (Jvm.Cond.code ({ cls := "GrassParkModel", name := "week", desc := "()I" } : Jvm.MethodName) prog_12_method_76_code (1 : Nat) (Option.some Jvm.ClassFile.FieldType.int)) ∈ lw_all := lw_g (lw_at lw_m9 62 rfl) rfl
theorem q2099 : (Jvm.Cond.methodLink "GrassParkModel" (426 : Nat) ({ cls := "GrassParkModel", name := "endWeek", desc := "()V" } : Jvm.MethodName)) ∈ lw_all := lw_g (lw_at lw_m9 63 rfl) rfl
theorem q2100 : (Jvm.Cond.privateMethod ({ cls := "GrassParkModel", name := "endWeek", desc := "()V" } : Jvm.MethodName)) ∈ lw_tbl := lw_at lw_m9 64 rfl
theorem q2101 : (Jvm.Cond.instanceMethod ({ cls := "GrassParkModel", name := "endWeek", desc := "()V" } : Jvm.MethodName)) ∈ lw_all := lw_g (lw_at lw_m9 65 rfl) rfl
theorem q2102 : (Jvm.Cond.code ({ cls := "GrassParkModel", name := "endWeek", desc := "()V" } : Jvm.MethodName) prog_12_method_75_code (4 : Nat) (Option.none : Option Jvm.ClassFile.FieldType)) ∈ lw_all := lw_g (lw_at lw_m9 66 rfl) rfl
theorem q2103 : (Jvm.Cond.methodLink "GrassParkModel" (429 : Nat) ({ cls := "GrassParkModel", name := "wornMany", desc := "()I" } : Jvm.MethodName)) ∈ lw_all := lw_g (lw_at lw_m9 67 rfl) rfl
theorem q2104 : (Jvm.Cond.privateMethod ({ cls := "GrassParkModel", name := "wornMany", desc := "()I" } : Jvm.MethodName)) ∈ lw_tbl := lw_at lw_m9 68 rfl
theorem q2105 : (Jvm.Cond.instanceMethod ({ cls := "GrassParkModel", name := "wornMany", desc := "()I" } : Jvm.MethodName)) ∈ lw_all := lw_g (lw_at lw_m9 69 rfl) rfl
theorem q2106 : (Jvm.Cond.code ({ cls := "GrassParkModel", name := "wornMany", desc := "()I" } : Jvm.MethodName) prog_12_method_83_code (3 : Nat) (Option.some Jvm.ClassFile.FieldType.int)) ∈ lw_all := lw_g (lw_at lw_m9 70 rfl) rfl
theorem q2108 : (Jvm.Cond.instanceMethod ({ cls := "GrassParkModel", name := "rain", desc := "(I)Z" } : Jvm.MethodName)) ∈ lw_all := lw_g (lw_at lw_m9 72 rfl) rfl
theorem q2109 : (Jvm.Cond.selects "GrassParkModel" ({ cls := "GrassParkModel", name := "rain", desc := "(I)Z" } : Jvm.MethodName) ({ cls := "GrassParkModel", name := "rain", desc := "(I)Z" } : Jvm.MethodName)) ∈ lw_all := lw_g (lw_at lw_m9 73 rfl) rfl
theorem q2110 : (Jvm.Cond.code ({ cls := "GrassParkModel", name := "rain", desc := "(I)Z" } : Jvm.MethodName) prog_12_method_77_code (3 : Nat) (Option.some Jvm.ClassFile.FieldType.boolean)) ∈ lw_all := lw_g (lw_at lw_m9 74 rfl) rfl
theorem q2112 : (Jvm.Cond.instanceMethod ({ cls := "GrassParkModel", name := "snow", desc := "()V" } : Jvm.MethodName)) ∈ lw_all := lw_g (lw_at lw_m9 76 rfl) rfl
theorem q2113 : (Jvm.Cond.selects "GrassParkModel" ({ cls := "GrassParkModel", name := "snow", desc := "()V" } : Jvm.MethodName) ({ cls := "GrassParkModel", name := "snow", desc := "()V" } : Jvm.MethodName)) ∈ lw_all := lw_g (lw_at lw_m9 77 rfl) rfl
theorem q2114 : (Jvm.Cond.code ({ cls := "GrassParkModel", name := "snow", desc := "()V" } : Jvm.MethodName) prog_12_method_78_code (2 : Nat) (Option.none : Option Jvm.ClassFile.FieldType)) ∈ lw_all := lw_g (lw_at lw_m9 78 rfl) rfl
theorem q2116 : (Jvm.Cond.instanceMethod ({ cls := "GrassParkModel", name := "lay", desc := "(II)Z" } : Jvm.MethodName)) ∈ lw_all := lw_g (lw_at lw_m9 80 rfl) rfl
theorem q2117 : (Jvm.Cond.selects "GrassParkModel" ({ cls := "GrassParkModel", name := "lay", desc := "(II)Z" } : Jvm.MethodName) ({ cls := "GrassParkModel", name := "lay", desc := "(II)Z" } : Jvm.MethodName)) ∈ lw_all := lw_g (lw_at lw_m9 81 rfl) rfl
theorem q2118 : (Jvm.Cond.code ({ cls := "GrassParkModel", name := "lay", desc := "(II)Z" } : Jvm.MethodName) prog_12_method_79_code (3 : Nat) (Option.some Jvm.ClassFile.FieldType.boolean)) ∈ lw_all := lw_g (lw_at lw_m9 82 rfl) rfl
theorem q2119 : (Jvm.Cond.methodLink "GrassParkModel" (432 : Nat) ({ cls := "GrassParkModel", name := "isWalkerAt", desc := "(I)Z" } : Jvm.MethodName)) ∈ lw_all := lw_g (lw_at lw_m9 83 rfl) rfl
theorem q2120 : (Jvm.Cond.privateMethod ({ cls := "GrassParkModel", name := "isWalkerAt", desc := "(I)Z" } : Jvm.MethodName)) ∈ lw_tbl := lw_at lw_m9 84 rfl
theorem q2121 : (Jvm.Cond.instanceMethod ({ cls := "GrassParkModel", name := "isWalkerAt", desc := "(I)Z" } : Jvm.MethodName)) ∈ lw_all := lw_g (lw_at lw_m9 85 rfl) rfl
theorem q2122 : (Jvm.Cond.code ({ cls := "GrassParkModel", name := "isWalkerAt", desc := "(I)Z" } : Jvm.MethodName) prog_12_method_25_code (3 : Nat) (Option.some Jvm.ClassFile.FieldType.boolean)) ∈ lw_all := lw_g (lw_at lw_m9 86 rfl) rfl
theorem q2123 : (Jvm.Cond.methodLink "GrassParkModel" (435 : Nat) ({ cls := "GrassParkModel", name := "put", desc := "(II)V" } : Jvm.MethodName)) ∈ lw_all := lw_g (lw_at lw_m9 87 rfl) rfl
theorem q2124 : (Jvm.Cond.privateMethod ({ cls := "GrassParkModel", name := "put", desc := "(II)V" } : Jvm.MethodName)) ∈ lw_tbl := lw_at lw_m9 88 rfl
theorem q2125 : (Jvm.Cond.instanceMethod ({ cls := "GrassParkModel", name := "put", desc := "(II)V" } : Jvm.MethodName)) ∈ lw_all := lw_g (lw_at lw_m9 89 rfl) rfl
theorem q2126 : (Jvm.Cond.code ({ cls := "GrassParkModel", name := "put", desc := "(II)V" } : Jvm.MethodName) prog_12_method_80_code (3 : Nat) (Option.none : Option Jvm.ClassFile.FieldType)) ∈ lw_all := lw_g (lw_at lw_m9 90 rfl) rfl
theorem q2128 : (Jvm.Cond.instanceMethod ({ cls := "GrassParkModel", name := "cell", desc := "(II)I" } : Jvm.MethodName)) ∈ lw_all := lw_g (lw_at lw_m9 92 rfl) rfl
theorem q2129 : (Jvm.Cond.selects "GrassParkModel" ({ cls := "GrassParkModel", name := "cell", desc := "(II)I" } : Jvm.MethodName) ({ cls := "GrassParkModel", name := "cell", desc := "(II)I" } : Jvm.MethodName)) ∈ lw_all := lw_g (lw_at lw_m9 93 rfl) rfl
theorem q2130 : (Jvm.Cond.code ({ cls := "GrassParkModel", name := "cell", desc := "(II)I" } : Jvm.MethodName) prog_12_method_81_code (3 : Nat) (Option.some Jvm.ClassFile.FieldType.int)) ∈ lw_all := lw_g (lw_at lw_m9 94 rfl) rfl
theorem q2131 : (Jvm.Cond.methodLink "GrassParkModel" (439 : Nat) ({ cls := "GrassParkModel", name := "throwsIf", desc := "(Z)Z" } : Jvm.MethodName)) ∈ lw_all := lw_g (lw_at lw_m9 95 rfl) rfl
theorem q2132 : (Jvm.Cond.privateMethod ({ cls := "GrassParkModel", name := "throwsIf", desc := "(Z)Z" } : Jvm.MethodName)) ∈ lw_tbl := lw_at lw_m9 96 rfl
theorem q2133 : (Jvm.Cond.instanceMethod ({ cls := "GrassParkModel", name := "throwsIf", desc := "(Z)Z" } : Jvm.MethodName)) ∈ lw_all := lw_g (lw_at lw_m9 97 rfl) rfl
theorem q2134 : (Jvm.Cond.code ({ cls := "GrassParkModel", name := "throwsIf", desc := "(Z)Z" } : Jvm.MethodName) prog_12_method_2_code (2 : Nat) (Option.some Jvm.ClassFile.FieldType.boolean)) ∈ lw_all := lw_g (lw_at lw_m9 98 rfl) rfl
theorem q2136 : (Jvm.Cond.instanceMethod ({ cls := "GrassParkModel", name := "walker", desc := "(II)I" } : Jvm.MethodName)) ∈ lw_all := lw_g (lw_at lw_m9 100 rfl) rfl
theorem q2137 : (Jvm.Cond.selects "GrassParkModel" ({ cls := "GrassParkModel", name := "walker", desc := "(II)I" } : Jvm.MethodName) ({ cls := "GrassParkModel", name := "walker", desc := "(II)I" } : Jvm.MethodName)) ∈ lw_all := lw_g (lw_at lw_m9 101 rfl) rfl
theorem q2138 : (Jvm.Cond.code ({ cls := "GrassParkModel", name := "walker", desc := "(II)I" } : Jvm.MethodName) prog_12_method_82_code (3 : Nat) (Option.some Jvm.ClassFile.FieldType.int)) ∈ lw_all := lw_g (lw_at lw_m9 102 rfl) rfl
theorem q2140 : (Jvm.Cond.instanceMethod ({ cls := "GrassParkModel", name := "net", desc := "()I" } : Jvm.MethodName)) ∈ lw_all := lw_g (lw_at lw_m9 104 rfl) rfl
theorem q2141 : (Jvm.Cond.selects "GrassParkModel" ({ cls := "GrassParkModel", name := "net", desc := "()I" } : Jvm.MethodName) ({ cls := "GrassParkModel", name := "net", desc := "()I" } : Jvm.MethodName)) ∈ lw_all := lw_g (lw_at lw_m9 105 rfl) rfl
theorem q2142 : (Jvm.Cond.code ({ cls := "GrassParkModel", name := "net", desc := "()I" } : Jvm.MethodName) prog_12_method_84_code (1 : Nat) (Option.some Jvm.ClassFile.FieldType.int)) ∈ lw_all := lw_g (lw_at lw_m9 106 rfl) rfl
theorem q2144 : (Jvm.Cond.instanceMethod ({ cls := "GrassParkModel", name := "pieces", desc := "()I" } : Jvm.MethodName)) ∈ lw_all := lw_g (lw_at lw_m9 108 rfl) rfl
theorem q2145 : (Jvm.Cond.selects "GrassParkModel" ({ cls := "GrassParkModel", name := "pieces", desc := "()I" } : Jvm.MethodName) ({ cls := "GrassParkModel", name := "pieces", desc := "()I" } : Jvm.MethodName)) ∈ lw_all := lw_g (lw_at lw_m9 109 rfl) rfl
theorem q2146 : (Jvm.Cond.code ({ cls := "GrassParkModel", name := "pieces", desc := "()I" } : Jvm.MethodName) prog_12_method_85_code (3 : Nat) (Option.some Jvm.ClassFile.FieldType.int)) ∈ lw_all := lw_g (lw_at lw_m9 110 rfl) rfl
theorem q2147 : (Jvm.Cond.methodLink "GrassParkModel" (442 : Nat) ({ cls := "GrassParkModel", name := "spread", desc := "()V" } : Jvm.MethodName)) ∈ lw_all := lw_g (lw_at lw_m9 111 rfl) rfl
theorem q2148 : (Jvm.Cond.privateMethod ({ cls := "GrassParkModel", name := "spread", desc := "()V" } : Jvm.MethodName)) ∈ lw_tbl := lw_at lw_m9 112 rfl
theorem q2149 : (Jvm.Cond.instanceMethod ({ cls := "GrassParkModel", name := "spread", desc := "()V" } : Jvm.MethodName)) ∈ lw_all := lw_g (lw_at lw_m9 113 rfl) rfl
theorem q2150 : (Jvm.Cond.code ({ cls := "GrassParkModel", name := "spread", desc := "()V" } : Jvm.MethodName) prog_12_method_86_code (4 : Nat) (Option.none : Option Jvm.ClassFile.FieldType)) ∈ lw_all := lw_g (lw_at lw_m9 114 rfl) rfl
theorem q2152 : (Jvm.Cond.instanceMethod ({ cls := "GrassParkModel", name := "rests", desc := "(II)I" } : Jvm.MethodName)) ∈ lw_all := lw_g (lw_at lw_m9 116 rfl) rfl
theorem q2153 : (Jvm.Cond.selects "GrassParkModel" ({ cls := "GrassParkModel", name := "rests", desc := "(II)I" } : Jvm.MethodName) ({ cls := "GrassParkModel", name := "rests", desc := "(II)I" } : Jvm.MethodName)) ∈ lw_all := lw_g (lw_at lw_m9 117 rfl) rfl
theorem q2154 : (Jvm.Cond.code ({ cls := "GrassParkModel", name := "rests", desc := "(II)I" } : Jvm.MethodName) prog_12_method_90_code (5 : Nat) (Option.some Jvm.ClassFile.FieldType.int)) ∈ lw_all := lw_g (lw_at lw_m9 118 rfl) rfl
theorem q2155 : (Jvm.Cond.methodLink "GrassParkModel" (445 : Nat) ({ cls := "GrassParkModel", name := "layAside", desc := "()V" } : Jvm.MethodName)) ∈ lw_all := lw_g (lw_at lw_m9 119 rfl) rfl
theorem q2156 : (Jvm.Cond.privateMethod ({ cls := "GrassParkModel", name := "layAside", desc := "()V" } : Jvm.MethodName)) ∈ lw_tbl := lw_at lw_m9 120 rfl
theorem q2157 : (Jvm.Cond.instanceMethod ({ cls := "GrassParkModel", name := "layAside", desc := "()V" } : Jvm.MethodName)) ∈ lw_all := lw_g (lw_at lw_m9 121 rfl) rfl
theorem q2158 : (Jvm.Cond.code ({ cls := "GrassParkModel", name := "layAside", desc := "()V" } : Jvm.MethodName) prog_12_method_20_code (2 : Nat) (Option.none : Option Jvm.ClassFile.FieldType)) ∈ lw_all := lw_g (lw_at lw_m9 122 rfl) rfl
theorem q2159 : (Jvm.Cond.methodLink "GrassParkModel" (448 : Nat) ({ cls := "GrassParkModel", name := "note", desc := "([Z)V" } : Jvm.MethodName)) ∈ lw_all := lw_g (lw_at lw_m9 123 rfl) rfl
theorem q2160 : (Jvm.Cond.privateMethod ({ cls := "GrassParkModel", name := "note", desc := "([Z)V" } : Jvm.MethodName)) ∈ lw_tbl := lw_at lw_m9 124 rfl
theorem q2161 : (Jvm.Cond.instanceMethod ({ cls := "GrassParkModel", name := "note", desc := "([Z)V" } : Jvm.MethodName)) ∈ lw_all := lw_g (lw_at lw_m9 125 rfl) rfl
theorem q2162 : (Jvm.Cond.code ({ cls := "GrassParkModel", name := "note", desc := "([Z)V" } : Jvm.MethodName) prog_12_method_87_code (3 : Nat) (Option.none : Option Jvm.ClassFile.FieldType)) ∈ lw_all := lw_g (lw_at lw_m9 126 rfl) rfl
theorem q2163 : (Jvm.Cond.methodLink "GrassParkModel" (452 : Nat) ({ cls := "GrassParkModel", name := "go", desc := "(I)V" } : Jvm.MethodName)) ∈ lw_all := lw_g (lw_at lw_m9 127 rfl) rfl
theorem q2164 : (Jvm.Cond.privateMethod ({ cls := "GrassParkModel", name := "go", desc := "(I)V" } : Jvm.MethodName)) ∈ lw_tbl := lw_at lw_m9 128 rfl
theorem q2165 : (Jvm.Cond.instanceMethod ({ cls := "GrassParkModel", name := "go", desc := "(I)V" } : Jvm.MethodName)) ∈ lw_all := lw_g (lw_at lw_m9 129 rfl) rfl
theorem q2166 : (Jvm.Cond.code ({ cls := "GrassParkModel", name := "go", desc := "(I)V" } : Jvm.MethodName) prog_12_method_89_code (3 : Nat) (Option.none : Option Jvm.ClassFile.FieldType)) ∈ lw_all := lw_g (lw_at lw_m9 130 rfl) rfl
theorem q2167 : (Jvm.Cond.methodLink "GrassParkModel" (455 : Nat) ({ cls := "GrassParkModel", name := "isNoted", desc := "([Z)Z" } : Jvm.MethodName)) ∈ lw_all := lw_g (lw_at lw_m9 131 rfl) rfl
theorem q2168 : (Jvm.Cond.privateMethod ({ cls := "GrassParkModel", name := "isNoted", desc := "([Z)Z" } : Jvm.MethodName)) ∈ lw_tbl := lw_at lw_m9 132 rfl
theorem q2169 : (Jvm.Cond.instanceMethod ({ cls := "GrassParkModel", name := "isNoted", desc := "([Z)Z" } : Jvm.MethodName)) ∈ lw_all := lw_g (lw_at lw_m9 133 rfl) rfl
theorem q2170 : (Jvm.Cond.code ({ cls := "GrassParkModel", name := "isNoted", desc := "([Z)Z" } : Jvm.MethodName) prog_12_method_88_code (3 : Nat) (Option.some Jvm.ClassFile.FieldType.boolean)) ∈ lw_all := lw_g (lw_at lw_m9 134 rfl) rfl
theorem q2171 : (Jvm.Cond.methodLink "GrassParkModel" (459 : Nat) ({ cls := "GrassParkModel", name := "layBack", desc := "()V" } : Jvm.MethodName)) ∈ lw_all := lw_g (lw_at lw_m9 135 rfl) rfl
theorem q2172 : (Jvm.Cond.privateMethod ({ cls := "GrassParkModel", name := "layBack", desc := "()V" } : Jvm.MethodName)) ∈ lw_tbl := lw_at lw_m9 136 rfl
theorem q2173 : (Jvm.Cond.instanceMethod ({ cls := "GrassParkModel", name := "layBack", desc := "()V" } : Jvm.MethodName)) ∈ lw_all := lw_g (lw_at lw_m9 137 rfl) rfl
theorem q2174 : (Jvm.Cond.code ({ cls := "GrassParkModel", name := "layBack", desc := "()V" } : Jvm.MethodName) prog_12_method_21_code (2 : Nat) (Option.none : Option Jvm.ClassFile.FieldType)) ∈ lw_all := lw_g (lw_at lw_m9 138 rfl) rfl
theorem q2176 : (Jvm.Cond.instanceMethod ({ cls := "GrassParkModel", name := "least", desc := "()I" } : Jvm.MethodName)) ∈ lw_all := lw_g (lw_at lw_m9 140 rfl) rfl
theorem q2177 : (Jvm.Cond.selects "GrassParkModel" ({ cls := "GrassParkModel", name := "least", desc := "()I" } : Jvm.MethodName) ({ cls := "GrassParkModel", name := "least", desc := "()I" } : Jvm.MethodName)) ∈ lw_all := lw_g (lw_at lw_m9 141 rfl) rfl
theorem q2178 : (Jvm.Cond.code ({ cls := "GrassParkModel", name := "least", desc := "()I" } : Jvm.MethodName) prog_12_method_92_code (8 : Nat) (Option.some Jvm.ClassFile.FieldType.int)) ∈ lw_all := lw_g (lw_at lw_m9 142 rfl) rfl
theorem q2179 : (Jvm.Cond.constant "GrassParkModel" (462 : Nat) (10000000 : Int32)) ∈ lw_all := lw_g (lw_at lw_m9 143 rfl) rfl
theorem q2180 : (Jvm.Cond.methodLink "GrassParkModel" (463 : Nat) ({ cls := "GrassParkModel", name := "price", desc := "(I)I" } : Jvm.MethodName)) ∈ lw_all := lw_g (lw_at lw_m9 144 rfl) rfl
theorem q2181 : (Jvm.Cond.privateMethod ({ cls := "GrassParkModel", name := "price", desc := "(I)I" } : Jvm.MethodName)) ∈ lw_tbl := lw_at lw_m9 145 rfl
theorem q2182 : (Jvm.Cond.instanceMethod ({ cls := "GrassParkModel", name := "price", desc := "(I)I" } : Jvm.MethodName)) ∈ lw_all := lw_g (lw_at lw_m9 146 rfl) rfl
theorem q2183 : (Jvm.Cond.code ({ cls := "GrassParkModel", name := "price", desc := "(I)I" } : Jvm.MethodName) prog_12_method_91_code (2 : Nat) (Option.some Jvm.ClassFile.FieldType.int)) ∈ lw_all := lw_g (lw_at lw_m9 147 rfl) rfl
theorem q2184 : (Jvm.Cond.methodLink "GrassParkModel" (466 : Nat) ({ cls := "GrassParkModel", name := "widen", desc := "(II)V" } : Jvm.MethodName)) ∈ lw_all := lw_g (lw_at lw_m9 148 rfl) rfl
theorem q2185 : (Jvm.Cond.privateMethod ({ cls := "GrassParkModel", name := "widen", desc := "(II)V" } : Jvm.MethodName)) ∈ lw_tbl := lw_at lw_m9 149 rfl
theorem q2186 : (Jvm.Cond.instanceMethod ({ cls := "GrassParkModel", name := "widen", desc := "(II)V" } : Jvm.MethodName)) ∈ lw_all := lw_g (lw_at lw_m9 150 rfl) rfl
theorem q2187 : (Jvm.Cond.code ({ cls := "GrassParkModel", name := "widen", desc := "(II)V" } : Jvm.MethodName) prog_12_method_93_code (7 : Nat) (Option.none : Option Jvm.ClassFile.FieldType)) ∈ lw_all := lw_g (lw_at lw_m9 151 rfl) rfl
theorem q2189 : (Jvm.Cond.instanceMethod ({ cls := "GrassParkModel", name := "longer", desc := "(II)I" } : Jvm.MethodName)) ∈ lw_all := lw_g (lw_at lw_m9 153 rfl) rfl
theorem q2190 : (Jvm.Cond.selects "GrassParkModel" ({ cls := "GrassParkModel", name := "longer", desc := "(II)I" } : Jvm.MethodName) ({ cls := "GrassParkModel", name := "longer", desc := "(II)I" } : Jvm.MethodName)) ∈ lw_all := lw_g (lw_at lw_m9 154 rfl) rfl
theorem q2191 : (Jvm.Cond.code ({ cls := "GrassParkModel", name := "longer", desc := "(II)I" } : Jvm.MethodName) prog_12_method_95_code (5 : Nat) (Option.some Jvm.ClassFile.FieldType.int)) ∈ lw_all := lw_g (lw_at lw_m9 155 rfl) rfl
theorem q2192 : (Jvm.Cond.methodLink "GrassParkModel" (469 : Nat) ({ cls := "GrassParkModel", name := "shortest", desc := "(IIZ)I" } : Jvm.MethodName)) ∈ lw_all := lw_g (lw_at lw_m9 156 rfl) rfl
theorem q2193 : (Jvm.Cond.privateMethod ({ cls := "GrassParkModel", name := "shortest", desc := "(IIZ)I" } : Jvm.MethodName)) ∈ lw_tbl := lw_at lw_m9 157 rfl
theorem q2194 : (Jvm.Cond.instanceMethod ({ cls := "GrassParkModel", name := "shortest", desc := "(IIZ)I" } : Jvm.MethodName)) ∈ lw_all := lw_g (lw_at lw_m9 158 rfl) rfl
theorem q2195 : (Jvm.Cond.code ({ cls := "GrassParkModel", name := "shortest", desc := "(IIZ)I" } : Jvm.MethodName) prog_12_method_94_code (9 : Nat) (Option.some Jvm.ClassFile.FieldType.int)) ∈ lw_all := lw_g (lw_at lw_m9 159 rfl) rfl
theorem q2197 : (Jvm.Cond.instanceMethod ({ cls := "GrassParkModel", name := "turns", desc := "(IIII)I" } : Jvm.MethodName)) ∈ lw_all := lw_g (lw_at lw_m9 161 rfl) rfl
theorem q2198 : (Jvm.Cond.selects "GrassParkModel" ({ cls := "GrassParkModel", name := "turns", desc := "(IIII)I" } : Jvm.MethodName) ({ cls := "GrassParkModel", name := "turns", desc := "(IIII)I" } : Jvm.MethodName)) ∈ lw_all := lw_g (lw_at lw_m9 162 rfl) rfl
theorem q2199 : (Jvm.Cond.code ({ cls := "GrassParkModel", name := "turns", desc := "(IIII)I" } : Jvm.MethodName) prog_12_method_96_code (10 : Nat) (Option.some Jvm.ClassFile.FieldType.int)) ∈ lw_all := lw_g (lw_at lw_m9 163 rfl) rfl
theorem q2201 : (Jvm.Cond.instanceMethod ({ cls := "GrassParkModel", name := "paved", desc := "(IIII)I" } : Jvm.MethodName)) ∈ lw_all := lw_g (lw_at lw_m9 165 rfl) rfl
theorem q2202 : (Jvm.Cond.selects "GrassParkModel" ({ cls := "GrassParkModel", name := "paved", desc := "(IIII)I" } : Jvm.MethodName) ({ cls := "GrassParkModel", name := "paved", desc := "(IIII)I" } : Jvm.MethodName)) ∈ lw_all := lw_g (lw_at lw_m9 166 rfl) rfl
theorem q2203 : (Jvm.Cond.code ({ cls := "GrassParkModel", name := "paved", desc := "(IIII)I" } : Jvm.MethodName) prog_12_method_98_code (5 : Nat) (Option.some Jvm.ClassFile.FieldType.int)) ∈ lw_all := lw_g (lw_at lw_m9 167 rfl) rfl
theorem q2204 : (Jvm.Cond.methodLink "GrassParkModel" (482 : Nat) ({ cls := "GrassParkModel", name := "pave", desc := "(III)V" } : Jvm.MethodName)) ∈ lw_all := lw_g (lw_at lw_m9 168 rfl) rfl
theorem q2205 : (Jvm.Cond.privateMethod ({ cls := "GrassParkModel", name := "pave", desc := "(III)V" } : Jvm.MethodName)) ∈ lw_tbl := lw_at lw_m9 169 rfl
theorem q2206 : (Jvm.Cond.instanceMethod ({ cls := "GrassParkModel", name := "pave", desc := "(III)V" } : Jvm.MethodName)) ∈ lw_all := lw_g (lw_at lw_m9 170 rfl) rfl
theorem q2207 : (Jvm.Cond.code ({ cls := "GrassParkModel", name := "pave", desc := "(III)V" } : Jvm.MethodName) prog_12_method_97_code (5 : Nat) (Option.none : Option Jvm.ClassFile.FieldType)) ∈ lw_all := lw_g (lw_at lw_m9 171 rfl) rfl
theorem q2209 : (Jvm.Cond.instanceMethod ({ cls := "GrassParkModel", name := "wait", desc := "(II)I" } : Jvm.MethodName)) ∈ lw_all := lw_g (lw_at lw_m9 173 rfl) rfl
theorem q2210 : (Jvm.Cond.selects "GrassParkModel" ({ cls := "GrassParkModel", name := "wait", desc := "(II)I" } : Jvm.MethodName) ({ cls := "GrassParkModel", name := "wait", desc := "(II)I" } : Jvm.MethodName)) ∈ lw_all := lw_g (lw_at lw_m9 174 rfl) rfl
theorem q2211 : (Jvm.Cond.code ({ cls := "GrassParkModel", name := "wait", desc := "(II)I" } : Jvm.MethodName) prog_12_method_99_code (7 : Nat) (Option.some Jvm.ClassFile.FieldType.int)) ∈ lw_all := lw_g (lw_at lw_m9 175 rfl) rfl
theorem q2213 : (Jvm.Cond.instanceMethod ({ cls := "GrassParkModel", name := "fences", desc := "(II)I" } : Jvm.MethodName)) ∈ lw_all := lw_g (lw_at lw_m9 177 rfl) rfl
theorem q2214 : (Jvm.Cond.selects "GrassParkModel" ({ cls := "GrassParkModel", name := "fences", desc := "(II)I" } : Jvm.MethodName) ({ cls := "GrassParkModel", name := "fences", desc := "(II)I" } : Jvm.MethodName)) ∈ lw_all := lw_g (lw_at lw_m9 178 rfl) rfl
theorem q2215 : (Jvm.Cond.code ({ cls := "GrassParkModel", name := "fences", desc := "(II)I" } : Jvm.MethodName) prog_12_method_102_code (6 : Nat) (Option.some Jvm.ClassFile.FieldType.int)) ∈ lw_all := lw_g (lw_at lw_m9 179 rfl) rfl
theorem q2216 : (Jvm.Cond.methodLink "GrassParkModel" (488 : Nat) ({ cls := "GrassParkModel", name := "isTrod", desc := "(III)Z" } : Jvm.MethodName)) ∈ lw_all := lw_g (lw_at lw_m9 180 rfl) rfl
theorem q2217 : (Jvm.Cond.privateMethod ({ cls := "GrassParkModel", name := "isTrod", desc := "(III)Z" } : Jvm.MethodName)) ∈ lw_tbl := lw_at lw_m9 181 rfl
theorem q2218 : (Jvm.Cond.instanceMethod ({ cls := "GrassParkModel", name := "isTrod", desc := "(III)Z" } : Jvm.MethodName)) ∈ lw_all := lw_g (lw_at lw_m9 182 rfl) rfl
theorem q2219 : (Jvm.Cond.code ({ cls := "GrassParkModel", name := "isTrod", desc := "(III)Z" } : Jvm.MethodName) prog_12_method_100_code (5 : Nat) (Option.some Jvm.ClassFile.FieldType.boolean)) ∈ lw_all := lw_g (lw_at lw_m9 183 rfl) rfl
theorem q2220 : (Jvm.Cond.methodLink "GrassParkModel" (491 : Nat) ({ cls := "GrassParkModel", name := "keep", desc := "(III)I" } : Jvm.MethodName)) ∈ lw_all := lw_g (lw_at lw_m9 184 rfl) rfl
theorem q2221 : (Jvm.Cond.privateMethod ({ cls := "GrassParkModel", name := "keep", desc := "(III)I" } : Jvm.MethodName)) ∈ lw_tbl := lw_at lw_m9 185 rfl
theorem q2222 : (Jvm.Cond.instanceMethod ({ cls := "GrassParkModel", name := "keep", desc := "(III)I" } : Jvm.MethodName)) ∈ lw_all := lw_g (lw_at lw_m9 186 rfl) rfl
theorem q2223 : (Jvm.Cond.code ({ cls := "GrassParkModel", name := "keep", desc := "(III)I" } : Jvm.MethodName) prog_12_method_101_code (4 : Nat) (Option.some Jvm.ClassFile.FieldType.int)) ∈ lw_all := lw_g (lw_at lw_m9 187 rfl) rfl
theorem q2225 : (Jvm.Cond.instanceMethod ({ cls := "GrassParkModel", name := "fenceAt", desc := "(I)I" } : Jvm.MethodName)) ∈ lw_all := lw_g (lw_at lw_m9 189 rfl) rfl
theorem q2226 : (Jvm.Cond.selects "GrassParkModel" ({ cls := "GrassParkModel", name := "fenceAt", desc := "(I)I" } : Jvm.MethodName) ({ cls := "GrassParkModel", name := "fenceAt", desc := "(I)I" } : Jvm.MethodName)) ∈ lw_all := lw_g (lw_at lw_m9 190 rfl) rfl
theorem q2227 : (Jvm.Cond.code ({ cls := "GrassParkModel", name := "fenceAt", desc := "(I)I" } : Jvm.MethodName) prog_12_method_103_code (2 : Nat) (Option.some Jvm.ClassFile.FieldType.int)) ∈ lw_all := lw_g (lw_at lw_m9 191 rfl) rfl
theorem q2229 : (Jvm.Cond.instanceMethod ({ cls := "GrassParkModel", name := "lasts", desc := "(IIII)I" } : Jvm.MethodName)) ∈ lw_all := lw_g (lw_at lw_m9 193 rfl) rfl
theorem q2230 : (Jvm.Cond.selects "GrassParkModel" ({ cls := "GrassParkModel", name := "lasts", desc := "(IIII)I" } : Jvm.MethodName) ({ cls := "GrassParkModel", name := "lasts", desc := "(IIII)I" } : Jvm.MethodName)) ∈ lw_all := lw_g (lw_at lw_m9 194 rfl) rfl
theorem q2231 : (Jvm.Cond.code ({ cls := "GrassParkModel", name := "lasts", desc := "(IIII)I" } : Jvm.MethodName) prog_12_method_104_code (7 : Nat) (Option.some Jvm.ClassFile.FieldType.int)) ∈ lw_all := lw_g (lw_at lw_m9 195 rfl) rfl
theorem q2233 : (Jvm.Cond.instanceMethod ({ cls := "GrassParkModel", name := "way", desc := "(III)I" } : Jvm.MethodName)) ∈ lw_all := lw_g (lw_at lw_m9 197 rfl) rfl
theorem q2234 : (Jvm.Cond.selects "GrassParkModel" ({ cls := "GrassParkModel", name := "way", desc := "(III)I" } : Jvm.MethodName) ({ cls := "GrassParkModel", name := "way", desc := "(III)I" } : Jvm.MethodName)) ∈ lw_all := lw_g (lw_at lw_m9 198 rfl) rfl
theorem q2235 : (Jvm.Cond.code ({ cls := "GrassParkModel", name := "way", desc := "(III)I" } : Jvm.MethodName) prog_12_method_107_code (6 : Nat) (Option.some Jvm.ClassFile.FieldType.int)) ∈ lw_all := lw_g (lw_at lw_m9 199 rfl) rfl
theorem q2236 : (Jvm.Cond.methodLink "GrassParkModel" (497 : Nat) ({ cls := "GrassParkModel", name := "isWay", desc := "(III)Z" } : Jvm.MethodName)) ∈ lw_all := lw_g (lw_at lw_m9 200 rfl) rfl
theorem q2237 : (Jvm.Cond.privateMethod ({ cls := "GrassParkModel", name := "isWay", desc := "(III)Z" } : Jvm.MethodName)) ∈ lw_tbl := lw_at lw_m9 201 rfl
theorem q2238 : (Jvm.Cond.instanceMethod ({ cls := "GrassParkModel", name := "isWay", desc := "(III)Z" } : Jvm.MethodName)) ∈ lw_all := lw_g (lw_at lw_m9 202 rfl) rfl
theorem q2239 : (Jvm.Cond.code ({ cls := "GrassParkModel", name := "isWay", desc := "(III)Z" } : Jvm.MethodName) prog_12_method_106_code (4 : Nat) (Option.some Jvm.ClassFile.FieldType.boolean)) ∈ lw_all := lw_g (lw_at lw_m9 203 rfl) rfl
theorem q2240 : (Jvm.Cond.methodLink "GrassParkModel" (500 : Nat) ({ cls := "GrassParkModel", name := "walk", desc := "(III)I" } : Jvm.MethodName)) ∈ lw_all := lw_g (lw_at lw_m9 204 rfl) rfl
theorem q2241 : (Jvm.Cond.privateMethod ({ cls := "GrassParkModel", name := "walk", desc := "(III)I" } : Jvm.MethodName)) ∈ lw_tbl := lw_at lw_m9 205 rfl
theorem q2242 : (Jvm.Cond.instanceMethod ({ cls := "GrassParkModel", name := "walk", desc := "(III)I" } : Jvm.MethodName)) ∈ lw_all := lw_g (lw_at lw_m9 206 rfl) rfl
theorem q2243 : (Jvm.Cond.code ({ cls := "GrassParkModel", name := "walk", desc := "(III)I" } : Jvm.MethodName) prog_12_method_105_code (6 : Nat) (Option.some Jvm.ClassFile.FieldType.int)) ∈ lw_all := lw_g (lw_at lw_m9 207 rfl) rfl
theorem q2245 : (Jvm.Cond.instanceMethod ({ cls := "GrassParkModel", name := "wayAt", desc := "(I)I" } : Jvm.MethodName)) ∈ lw_all := lw_g (lw_at lw_m9 209 rfl) rfl
theorem q2246 : (Jvm.Cond.selects "GrassParkModel" ({ cls := "GrassParkModel", name := "wayAt", desc := "(I)I" } : Jvm.MethodName) ({ cls := "GrassParkModel", name := "wayAt", desc := "(I)I" } : Jvm.MethodName)) ∈ lw_all := lw_g (lw_at lw_m9 210 rfl) rfl
theorem q2247 : (Jvm.Cond.code ({ cls := "GrassParkModel", name := "wayAt", desc := "(I)I" } : Jvm.MethodName) prog_12_method_108_code (2 : Nat) (Option.some Jvm.ClassFile.FieldType.int)) ∈ lw_all := lw_g (lw_at lw_m9 211 rfl) rfl
theorem q2249 : (Jvm.Cond.instanceMethod ({ cls := "GrassParkModel", name := "read", desc := "()I" } : Jvm.MethodName)) ∈ lw_all := lw_g (lw_at lw_m9 213 rfl) rfl
theorem q2250 : (Jvm.Cond.selects "GrassParkModel" ({ cls := "GrassParkModel", name := "read", desc := "()I" } : Jvm.MethodName) ({ cls := "GrassParkModel", name := "read", desc := "()I" } : Jvm.MethodName)) ∈ lw_all := lw_g (lw_at lw_m9 214 rfl) rfl
theorem q2251 : (Jvm.Cond.code ({ cls := "GrassParkModel", name := "read", desc := "()I" } : Jvm.MethodName) prog_12_method_109_code (7 : Nat) (Option.some Jvm.ClassFile.FieldType.int)) ∈ lw_all := lw_g (lw_at lw_m9 215 rfl) rfl
theorem q2252 : (Jvm.Cond.methodLink "GrassParkModel" (506 : Nat) ({ cls := "GrassParkModel", name := "isSnow", desc := "(I)Z" } : Jvm.MethodName)) ∈ lw_all := lw_g (lw_at lw_m9 216 rfl) rfl
theorem q2253 : (Jvm.Cond.privateMethod ({ cls := "GrassParkModel", name := "isSnow", desc := "(I)Z" } : Jvm.MethodName)) ∈ lw_tbl := lw_at lw_m9 217 rfl
theorem q2254 : (Jvm.Cond.instanceMethod ({ cls := "GrassParkModel", name := "isSnow", desc := "(I)Z" } : Jvm.MethodName)) ∈ lw_all := lw_g (lw_at lw_m9 218 rfl) rfl
theorem q2255 : (Jvm.Cond.code ({ cls := "GrassParkModel", name := "isSnow", desc := "(I)Z" } : Jvm.MethodName) prog_12_method_110_code (5 : Nat) (Option.some Jvm.ClassFile.FieldType.boolean)) ∈ lw_all := lw_g (lw_at lw_m9 219 rfl) rfl
theorem q2257 : (Jvm.Cond.instanceMethod ({ cls := "GrassParkModel", name := "reads", desc := "(II)I" } : Jvm.MethodName)) ∈ lw_all := lw_g (lw_at lw_m9 221 rfl) rfl
theorem q2258 : (Jvm.Cond.selects "GrassParkModel" ({ cls := "GrassParkModel", name := "reads", desc := "(II)I" } : Jvm.MethodName) ({ cls := "GrassParkModel", name := "reads", desc := "(II)I" } : Jvm.MethodName)) ∈ lw_all := lw_g (lw_at lw_m9 222 rfl) rfl
theorem q2259 : (Jvm.Cond.code ({ cls := "GrassParkModel", name := "reads", desc := "(II)I" } : Jvm.MethodName) prog_12_method_111_code (3 : Nat) (Option.some Jvm.ClassFile.FieldType.int)) ∈ lw_all := lw_g (lw_at lw_m9 223 rfl) rfl
theorem q2261 : (Jvm.Cond.instanceMethod ({ cls := "GrassParkModel", name := "fits", desc := "(II)I" } : Jvm.MethodName)) ∈ lw_all := lw_g (lw_at lw_m9 225 rfl) rfl
theorem q2262 : (Jvm.Cond.selects "GrassParkModel" ({ cls := "GrassParkModel", name := "fits", desc := "(II)I" } : Jvm.MethodName) ({ cls := "GrassParkModel", name := "fits", desc := "(II)I" } : Jvm.MethodName)) ∈ lw_all := lw_g (lw_at lw_m9 226 rfl) rfl
theorem q2263 : (Jvm.Cond.code ({ cls := "GrassParkModel", name := "fits", desc := "(II)I" } : Jvm.MethodName) prog_12_method_112_code (7 : Nat) (Option.some Jvm.ClassFile.FieldType.int)) ∈ lw_all := lw_g (lw_at lw_m9 227 rfl) rfl
theorem q2265 : (Jvm.Cond.instanceMethod ({ cls := "GrassParkModel", name := "image", desc := "(I)Z" } : Jvm.MethodName)) ∈ lw_all := lw_g (lw_at lw_m9 229 rfl) rfl
theorem q2266 : (Jvm.Cond.selects "GrassParkModel" ({ cls := "GrassParkModel", name := "image", desc := "(I)Z" } : Jvm.MethodName) ({ cls := "GrassParkModel", name := "image", desc := "(I)Z" } : Jvm.MethodName)) ∈ lw_all := lw_g (lw_at lw_m9 230 rfl) rfl
theorem q2267 : (Jvm.Cond.code ({ cls := "GrassParkModel", name := "image", desc := "(I)Z" } : Jvm.MethodName) prog_12_method_113_code (3 : Nat) (Option.some Jvm.ClassFile.FieldType.boolean)) ∈ lw_all := lw_g (lw_at lw_m9 231 rfl) rfl
theorem q2269 : (Jvm.Cond.instanceMethod ({ cls := "GrassParkModel", name := "restore", desc := "(I)Z" } : Jvm.MethodName)) ∈ lw_all := lw_g (lw_at lw_m9 233 rfl) rfl
theorem q2270 : (Jvm.Cond.selects "GrassParkModel" ({ cls := "GrassParkModel", name := "restore", desc := "(I)Z" } : Jvm.MethodName) ({ cls := "GrassParkModel", name := "restore", desc := "(I)Z" } : Jvm.MethodName)) ∈ lw_all := lw_g (lw_at lw_m9 234 rfl) rfl
theorem q2271 : (Jvm.Cond.code ({ cls := "GrassParkModel", name := "restore", desc := "(I)Z" } : Jvm.MethodName) prog_12_method_114_code (3 : Nat) (Option.some Jvm.ClassFile.FieldType.boolean)) ∈ lw_all := lw_g (lw_at lw_m9 235 rfl) rfl
theorem q2273 : (Jvm.Cond.instanceMethod ({ cls := "GrassParkModel", name := "count", desc := "(I)I" } : Jvm.MethodName)) ∈ lw_all := lw_g (lw_at lw_m9 237 rfl) rfl
theorem q2274 : (Jvm.Cond.selects "GrassParkModel" ({ cls := "GrassParkModel", name := "count", desc := "(I)I" } : Jvm.MethodName) ({ cls := "GrassParkModel", name := "count", desc := "(I)I" } : Jvm.MethodName)) ∈ lw_all := lw_g (lw_at lw_m9 238 rfl) rfl
theorem q2275 : (Jvm.Cond.code ({ cls := "GrassParkModel", name := "count", desc := "(I)I" } : Jvm.MethodName) prog_12_method_115_code (4 : Nat) (Option.some Jvm.ClassFile.FieldType.int)) ∈ lw_all := lw_g (lw_at lw_m9 239 rfl) rfl
theorem q2288 : (Jvm.Cond.castable "GrassParkModel" "java/lang/Object") ∈ lw_tbl := lw_at lw_m10 12 rfl
theorem in_X5 : ∀ w ∈ wsX50, w ∈ lw_all := lw_in wsX50 [1686, 1688, 1690, 1692, 1694, 1696, 1698, 1700, 1702, 1704, 1706, 1708, 1710, 1712, 1714, 1716, 1718, 1720, 1722, 1724, 1726, 1728, 1730, 1732, 1734, 1736, 1738, 1740, 1742, 1744, 1746, 1748, 1750, 1752, 1754, 1756, 1758, 1760, 1762, 1764, 1766, 1768, 1770, 1772, 1774, 1776, 1778, 1780, 1782, 1784, 1786, 1788, 1790, 1792, 1794, 1796, 1798, 1800, 1802, 1804, 1806, 1808, 1810] (by decide +kernel) (by decide +kernel)
