/-! ClockworkTailor -/
set_option maxRecDepth 100000
def RX1 : String := "ClockworkTailor"
def TX1 : u_T := fun k => match k with
  | 0 => ("ClockworkTailor", "state", "LClockworkTailor$State;", true)
  | 1 => ("ClockworkTailor", "attempt", "LClockworkTailor$State;", true)
  | 2 => ("ClockworkTailor", "snapshot", "LClockworkTailor$State;", true)
  | 3 => ("ClockworkTailor", "hasSnapshot", "Z", false)
  | 4 => ("ClockworkTailor", "history", "Ljava/util/ArrayDeque;", true)
  | 5 => ("ClockworkTailor", "spare", "Ljava/util/ArrayDeque;", true)
  | 6 => ("ClockworkTailor", "buffer", "Ljava/lang/StringBuilder;", true)
  | 7 => ("ClockworkTailor", "line", "Ljava/lang/StringBuilder;", true)
  | 8 => ("ClockworkTailor", "parser", "LClockworkTailor$Parser;", true)
  | 9 => ("ClockworkTailor", "errorPosition", "I", false)
  | _ => ("ClockworkTailor", "latest", "LClockworkTailor$Refusal;", false)
def tyX1 : Nat → FieldType := fun k => match k with
  | 0 => .object "ClockworkTailor$State"
  | 1 => .object "ClockworkTailor$State"
  | 2 => .object "ClockworkTailor$State"
  | 3 => .boolean
  | 4 => .object "java/util/ArrayDeque"
  | 5 => .object "java/util/ArrayDeque"
  | 6 => .object "java/lang/StringBuilder"
  | 7 => .object "java/lang/StringBuilder"
  | 8 => .object "ClockworkTailor$Parser"
  | 9 => .int
  | _ => .object "ClockworkTailor$Refusal"
abbrev wsX10 : List Cond := u_ws RX1 TX1 11
theorem nmX1 : ∀ a, a < 11 → ∀ b, b < 11 → a ≠ b → (TX1 a).2.1 ≠ (TX1 b).2.1 := by decide +kernel
theorem tyX1_ok : ∀ k, k < 11 → parseFieldDescriptor (TX1 k).2.2.1 = some (tyX1 k) := by decide +kernel
abbrev cX1_init : ByteArray := prog_1_method_7_code
def yX1_init : MethodName := ⟨RX1, "<init>", "()V"⟩
def dkwX1_init_5 : List UInt8 := [187, 0, 18, 89, 183, 0, 20, 182, 0, 64, 132, 1, 1, 167, 255, 233, 177]
abbrev dktX1_init_5 : List UInt8 := dkwX1_init_5 ++ []
def dkwX1_init_4 : List UInt8 := [183, 0, 53, 181, 0, 56, 42, 2, 181, 0, 60, 3, 60, 27, 16, 8, 162, 0, 23, 42, 180, 0, 38]
abbrev dktX1_init_4 : List UInt8 := dkwX1_init_4 ++ dktX1_init_5
def dkwX1_init_3 : List UInt8 := [181, 0, 44, 42, 187, 0, 41, 89, 183, 0, 43, 181, 0, 48, 42, 187, 0, 51, 89, 42, 180, 0, 44]
abbrev dktX1_init_3 : List UInt8 := dkwX1_init_3 ++ dktX1_init_4
def dkwX1_init_2 : List UInt8 := [181, 0, 34, 42, 187, 0, 31, 89, 183, 0, 33, 181, 0, 38, 42, 187, 0, 41, 89, 183, 0, 43]
abbrev dktX1_init_2 : List UInt8 := dkwX1_init_2 ++ dktX1_init_3
def dkwX1_init_1 : List UInt8 := [181, 0, 25, 42, 187, 0, 18, 89, 183, 0, 20, 181, 0, 28, 42, 187, 0, 31, 89, 183, 0, 33]
abbrev dktX1_init_1 : List UInt8 := dkwX1_init_1 ++ dktX1_init_2
def dkwX1_init_0 : List UInt8 := [42, 183, 0, 13, 42, 187, 0, 18, 89, 183, 0, 20, 181, 0, 21, 42, 187, 0, 18, 89, 183, 0, 20]
abbrev dktX1_init_0 : List UInt8 := dkwX1_init_0 ++ dktX1_init_1
theorem dksX1_init_0 : cX1_init.data.toList.drop 0 = dktX1_init_0 := by decide +kernel
theorem dksX1_init_1 : cX1_init.data.toList.drop 23 = dktX1_init_1 := dk_seg dksX1_init_0 23 rfl rfl
theorem dksX1_init_2 : cX1_init.data.toList.drop 45 = dktX1_init_2 := dk_seg dksX1_init_1 22 rfl rfl
theorem dksX1_init_3 : cX1_init.data.toList.drop 67 = dktX1_init_3 := dk_seg dksX1_init_2 22 rfl rfl
theorem dksX1_init_4 : cX1_init.data.toList.drop 90 = dktX1_init_4 := dk_seg dksX1_init_3 23 rfl rfl
theorem dksX1_init_5 : cX1_init.data.toList.drop 113 = dktX1_init_5 := dk_seg dksX1_init_4 23 rfl rfl
theorem dX1_init_0 : decode cX1_init 0 = .ok (.aload_n 0, 1) := dk_42 (dk_at dksX1_init_0 0 rfl rfl)
theorem dX1_init_1 : decode cX1_init 1 = .ok (.invokespecial 13, 3) := dk_183 0 13 (dk_at dksX1_init_0 1 rfl rfl)
theorem dX1_init_4 : decode cX1_init 4 = .ok (.aload_n 0, 1) := dk_42 (dk_at dksX1_init_0 4 rfl rfl)
theorem dX1_init_5 : decode cX1_init 5 = .ok (.new 18, 3) := dk_187 0 18 (dk_at dksX1_init_0 5 rfl rfl)
theorem dX1_init_8 : decode cX1_init 8 = .ok (.dup, 1) := dk_89 (dk_at dksX1_init_0 8 rfl rfl)
theorem dX1_init_9 : decode cX1_init 9 = .ok (.invokespecial 20, 3) := dk_183 0 20 (dk_at dksX1_init_0 9 rfl rfl)
theorem dX1_init_12 : decode cX1_init 12 = .ok (.putfield 21, 3) := dk_181 0 21 (dk_at dksX1_init_0 12 rfl rfl)
theorem dX1_init_15 : decode cX1_init 15 = .ok (.aload_n 0, 1) := dk_42 (dk_at dksX1_init_0 15 rfl rfl)
theorem dX1_init_16 : decode cX1_init 16 = .ok (.new 18, 3) := dk_187 0 18 (dk_at dksX1_init_0 16 rfl rfl)
theorem dX1_init_19 : decode cX1_init 19 = .ok (.dup, 1) := dk_89 (dk_at dksX1_init_0 19 rfl rfl)
theorem dX1_init_20 : decode cX1_init 20 = .ok (.invokespecial 20, 3) := dk_183 0 20 (dk_at dksX1_init_0 20 rfl rfl)
theorem dX1_init_23 : decode cX1_init 23 = .ok (.putfield 25, 3) := dk_181 0 25 (dk_at dksX1_init_1 0 rfl rfl)
theorem dX1_init_26 : decode cX1_init 26 = .ok (.aload_n 0, 1) := dk_42 (dk_at dksX1_init_1 3 rfl rfl)
theorem dX1_init_27 : decode cX1_init 27 = .ok (.new 18, 3) := dk_187 0 18 (dk_at dksX1_init_1 4 rfl rfl)
theorem dX1_init_30 : decode cX1_init 30 = .ok (.dup, 1) := dk_89 (dk_at dksX1_init_1 7 rfl rfl)
theorem dX1_init_31 : decode cX1_init 31 = .ok (.invokespecial 20, 3) := dk_183 0 20 (dk_at dksX1_init_1 8 rfl rfl)
theorem dX1_init_34 : decode cX1_init 34 = .ok (.putfield 28, 3) := dk_181 0 28 (dk_at dksX1_init_1 11 rfl rfl)
theorem dX1_init_37 : decode cX1_init 37 = .ok (.aload_n 0, 1) := dk_42 (dk_at dksX1_init_1 14 rfl rfl)
theorem dX1_init_38 : decode cX1_init 38 = .ok (.new 31, 3) := dk_187 0 31 (dk_at dksX1_init_1 15 rfl rfl)
theorem dX1_init_41 : decode cX1_init 41 = .ok (.dup, 1) := dk_89 (dk_at dksX1_init_1 18 rfl rfl)
theorem dX1_init_42 : decode cX1_init 42 = .ok (.invokespecial 33, 3) := dk_183 0 33 (dk_at dksX1_init_1 19 rfl rfl)
theorem dX1_init_45 : decode cX1_init 45 = .ok (.putfield 34, 3) := dk_181 0 34 (dk_at dksX1_init_2 0 rfl rfl)
theorem dX1_init_48 : decode cX1_init 48 = .ok (.aload_n 0, 1) := dk_42 (dk_at dksX1_init_2 3 rfl rfl)
theorem dX1_init_49 : decode cX1_init 49 = .ok (.new 31, 3) := dk_187 0 31 (dk_at dksX1_init_2 4 rfl rfl)
theorem dX1_init_52 : decode cX1_init 52 = .ok (.dup, 1) := dk_89 (dk_at dksX1_init_2 7 rfl rfl)
theorem dX1_init_53 : decode cX1_init 53 = .ok (.invokespecial 33, 3) := dk_183 0 33 (dk_at dksX1_init_2 8 rfl rfl)
theorem dX1_init_56 : decode cX1_init 56 = .ok (.putfield 38, 3) := dk_181 0 38 (dk_at dksX1_init_2 11 rfl rfl)
theorem dX1_init_59 : decode cX1_init 59 = .ok (.aload_n 0, 1) := dk_42 (dk_at dksX1_init_2 14 rfl rfl)
theorem dX1_init_60 : decode cX1_init 60 = .ok (.new 41, 3) := dk_187 0 41 (dk_at dksX1_init_2 15 rfl rfl)
theorem dX1_init_63 : decode cX1_init 63 = .ok (.dup, 1) := dk_89 (dk_at dksX1_init_2 18 rfl rfl)
theorem dX1_init_64 : decode cX1_init 64 = .ok (.invokespecial 43, 3) := dk_183 0 43 (dk_at dksX1_init_2 19 rfl rfl)
theorem dX1_init_67 : decode cX1_init 67 = .ok (.putfield 44, 3) := dk_181 0 44 (dk_at dksX1_init_3 0 rfl rfl)
theorem dX1_init_70 : decode cX1_init 70 = .ok (.aload_n 0, 1) := dk_42 (dk_at dksX1_init_3 3 rfl rfl)
theorem dX1_init_71 : decode cX1_init 71 = .ok (.new 41, 3) := dk_187 0 41 (dk_at dksX1_init_3 4 rfl rfl)
theorem dX1_init_74 : decode cX1_init 74 = .ok (.dup, 1) := dk_89 (dk_at dksX1_init_3 7 rfl rfl)
theorem dX1_init_75 : decode cX1_init 75 = .ok (.invokespecial 43, 3) := dk_183 0 43 (dk_at dksX1_init_3 8 rfl rfl)
theorem dX1_init_78 : decode cX1_init 78 = .ok (.putfield 48, 3) := dk_181 0 48 (dk_at dksX1_init_3 11 rfl rfl)
theorem dX1_init_81 : decode cX1_init 81 = .ok (.aload_n 0, 1) := dk_42 (dk_at dksX1_init_3 14 rfl rfl)
theorem dX1_init_82 : decode cX1_init 82 = .ok (.new 51, 3) := dk_187 0 51 (dk_at dksX1_init_3 15 rfl rfl)
theorem dX1_init_85 : decode cX1_init 85 = .ok (.dup, 1) := dk_89 (dk_at dksX1_init_3 18 rfl rfl)
theorem dX1_init_86 : decode cX1_init 86 = .ok (.aload_n 0, 1) := dk_42 (dk_at dksX1_init_3 19 rfl rfl)
theorem dX1_init_87 : decode cX1_init 87 = .ok (.getfield 44, 3) := dk_180 0 44 (dk_at dksX1_init_3 20 rfl rfl)
theorem dX1_init_90 : decode cX1_init 90 = .ok (.invokespecial 53, 3) := dk_183 0 53 (dk_at dksX1_init_4 0 rfl rfl)
theorem dX1_init_93 : decode cX1_init 93 = .ok (.putfield 56, 3) := dk_181 0 56 (dk_at dksX1_init_4 3 rfl rfl)
theorem dX1_init_96 : decode cX1_init 96 = .ok (.aload_n 0, 1) := dk_42 (dk_at dksX1_init_4 6 rfl rfl)
theorem dX1_init_97 : decode cX1_init 97 = .ok (.iconst (-1), 1) := dk_2 (dk_at dksX1_init_4 7 rfl rfl)
theorem dX1_init_98 : decode cX1_init 98 = .ok (.putfield 60, 3) := dk_181 0 60 (dk_at dksX1_init_4 8 rfl rfl)
theorem dX1_init_101 : decode cX1_init 101 = .ok (.iconst 0, 1) := dk_3 (dk_at dksX1_init_4 11 rfl rfl)
theorem dX1_init_102 : decode cX1_init 102 = .ok (.istore_n 1, 1) := dk_60 (dk_at dksX1_init_4 12 rfl rfl)
theorem dX1_init_103 : decode cX1_init 103 = .ok (.iload_n 1, 1) := dk_27 (dk_at dksX1_init_4 13 rfl rfl)
theorem dX1_init_104 : decode cX1_init 104 = .ok (.bipush 8, 2) := dk_16 8 (dk_at dksX1_init_4 14 rfl rfl)
theorem dX1_init_106 : decode cX1_init 106 = .ok (.if_icmp .ge 23, 3) := dk_162 0 23 (dk_at dksX1_init_4 16 rfl rfl)
theorem dX1_init_109 : decode cX1_init 109 = .ok (.aload_n 0, 1) := dk_42 (dk_at dksX1_init_4 19 rfl rfl)
theorem dX1_init_110 : decode cX1_init 110 = .ok (.getfield 38, 3) := dk_180 0 38 (dk_at dksX1_init_4 20 rfl rfl)
theorem dX1_init_113 : decode cX1_init 113 = .ok (.new 18, 3) := dk_187 0 18 (dk_at dksX1_init_5 0 rfl rfl)
theorem dX1_init_116 : decode cX1_init 116 = .ok (.dup, 1) := dk_89 (dk_at dksX1_init_5 3 rfl rfl)
theorem dX1_init_117 : decode cX1_init 117 = .ok (.invokespecial 20, 3) := dk_183 0 20 (dk_at dksX1_init_5 4 rfl rfl)
theorem dX1_init_120 : decode cX1_init 120 = .ok (.invokevirtual 64, 3) := dk_182 0 64 (dk_at dksX1_init_5 7 rfl rfl)
theorem dX1_init_123 : decode cX1_init 123 = .ok (.iinc 1 1, 3) := dk_132 1 1 (dk_at dksX1_init_5 10 rfl rfl)
theorem dX1_init_126 : decode cX1_init 126 = .ok (.goto (-23), 3) := dk_167 255 233 (dk_at dksX1_init_5 13 rfl rfl)
theorem dX1_init_129 : decode cX1_init 129 = .ok (.return_, 1) := dk_177 (dk_at dksX1_init_5 16 rfl rfl)
abbrev cX1_recipeCount : ByteArray := prog_1_method_25_code
def yX1_recipeCount : MethodName := ⟨RX1, "recipeCount", "()I"⟩
def dkwX1_recipeCount_0 : List UInt8 := [42, 182, 0, 138, 182, 0, 166, 172]
abbrev dktX1_recipeCount_0 : List UInt8 := dkwX1_recipeCount_0 ++ []
theorem dksX1_recipeCount_0 : cX1_recipeCount.data.toList.drop 0 = dktX1_recipeCount_0 := by decide +kernel
theorem dX1_recipeCount_0 : decode cX1_recipeCount 0 = .ok (.aload_n 0, 1) := dk_42 (dk_at dksX1_recipeCount_0 0 rfl rfl)
theorem dX1_recipeCount_1 : decode cX1_recipeCount 1 = .ok (.invokevirtual 138, 3) := dk_182 0 138 (dk_at dksX1_recipeCount_0 1 rfl rfl)
theorem dX1_recipeCount_4 : decode cX1_recipeCount 4 = .ok (.invokevirtual 166, 3) := dk_182 0 166 (dk_at dksX1_recipeCount_0 4 rfl rfl)
theorem dX1_recipeCount_7 : decode cX1_recipeCount 7 = .ok (.ireturn, 1) := dk_172 (dk_at dksX1_recipeCount_0 7 rfl rfl)
abbrev cX1_book : ByteArray := prog_1_method_18_code
def yX1_book : MethodName := ⟨RX1, "book", "()LClockworkTailor$Book;"⟩
def dkwX1_book_0 : List UInt8 := [42, 180, 0, 21, 180, 0, 123, 176]
abbrev dktX1_book_0 : List UInt8 := dkwX1_book_0 ++ []
theorem dksX1_book_0 : cX1_book.data.toList.drop 0 = dktX1_book_0 := by decide +kernel
theorem dX1_book_0 : decode cX1_book 0 = .ok (.aload_n 0, 1) := dk_42 (dk_at dksX1_book_0 0 rfl rfl)
theorem dX1_book_1 : decode cX1_book 1 = .ok (.getfield 21, 3) := dk_180 0 21 (dk_at dksX1_book_0 1 rfl rfl)
theorem dX1_book_4 : decode cX1_book 4 = .ok (.getfield 123, 3) := dk_180 0 123 (dk_at dksX1_book_0 4 rfl rfl)
theorem dX1_book_7 : decode cX1_book 7 = .ok (.areturn, 1) := dk_176 (dk_at dksX1_book_0 7 rfl rfl)
abbrev cX1_inCircles : ByteArray := prog_1_method_36_code
def yX1_inCircles : MethodName := ⟨RX1, "inCircles", "()I"⟩
def dkwX1_inCircles_0 : List UInt8 := [42, 182, 0, 138, 182, 0, 205, 172]
abbrev dktX1_inCircles_0 : List UInt8 := dkwX1_inCircles_0 ++ []
theorem dksX1_inCircles_0 : cX1_inCircles.data.toList.drop 0 = dktX1_inCircles_0 := by decide +kernel
theorem dX1_inCircles_0 : decode cX1_inCircles 0 = .ok (.aload_n 0, 1) := dk_42 (dk_at dksX1_inCircles_0 0 rfl rfl)
theorem dX1_inCircles_1 : decode cX1_inCircles 1 = .ok (.invokevirtual 138, 3) := dk_182 0 138 (dk_at dksX1_inCircles_0 1 rfl rfl)
theorem dX1_inCircles_4 : decode cX1_inCircles 4 = .ok (.invokevirtual 205, 3) := dk_182 0 205 (dk_at dksX1_inCircles_0 4 rfl rfl)
theorem dX1_inCircles_7 : decode cX1_inCircles 7 = .ok (.ireturn, 1) := dk_172 (dk_at dksX1_inCircles_0 7 rfl rfl)
abbrev cX1_inCirclesBySets : ByteArray := prog_1_method_37_code
def yX1_inCirclesBySets : MethodName := ⟨RX1, "inCirclesBySets", "()I"⟩
def dkwX1_inCirclesBySets_0 : List UInt8 := [42, 182, 0, 138, 182, 0, 208, 172]
abbrev dktX1_inCirclesBySets_0 : List UInt8 := dkwX1_inCirclesBySets_0 ++ []
theorem dksX1_inCirclesBySets_0 : cX1_inCirclesBySets.data.toList.drop 0 = dktX1_inCirclesBySets_0 := by decide +kernel
theorem dX1_inCirclesBySets_0 : decode cX1_inCirclesBySets 0 = .ok (.aload_n 0, 1) := dk_42 (dk_at dksX1_inCirclesBySets_0 0 rfl rfl)
theorem dX1_inCirclesBySets_1 : decode cX1_inCirclesBySets 1 = .ok (.invokevirtual 138, 3) := dk_182 0 138 (dk_at dksX1_inCirclesBySets_0 1 rfl rfl)
theorem dX1_inCirclesBySets_4 : decode cX1_inCirclesBySets 4 = .ok (.invokevirtual 208, 3) := dk_182 0 208 (dk_at dksX1_inCirclesBySets_0 4 rfl rfl)
theorem dX1_inCirclesBySets_7 : decode cX1_inCirclesBySets 7 = .ok (.ireturn, 1) := dk_172 (dk_at dksX1_inCirclesBySets_0 7 rfl rfl)
abbrev cX1_captives : ByteArray := prog_1_method_40_code
def yX1_captives : MethodName := ⟨RX1, "captives", "()I"⟩
def dkwX1_captives_0 : List UInt8 := [42, 182, 0, 138, 182, 0, 220, 172]
abbrev dktX1_captives_0 : List UInt8 := dkwX1_captives_0 ++ []
theorem dksX1_captives_0 : cX1_captives.data.toList.drop 0 = dktX1_captives_0 := by decide +kernel
theorem dX1_captives_0 : decode cX1_captives 0 = .ok (.aload_n 0, 1) := dk_42 (dk_at dksX1_captives_0 0 rfl rfl)
theorem dX1_captives_1 : decode cX1_captives 1 = .ok (.invokevirtual 138, 3) := dk_182 0 138 (dk_at dksX1_captives_0 1 rfl rfl)
theorem dX1_captives_4 : decode cX1_captives 4 = .ok (.invokevirtual 220, 3) := dk_182 0 220 (dk_at dksX1_captives_0 4 rfl rfl)
theorem dX1_captives_7 : decode cX1_captives 7 = .ok (.ireturn, 1) := dk_172 (dk_at dksX1_captives_0 7 rfl rfl)
abbrev cX1_objectCount : ByteArray := prog_1_method_49_code
def yX1_objectCount : MethodName := ⟨RX1, "objectCount", "()I"⟩
def dkwX1_objectCount_0 : List UInt8 := [42, 180, 0, 21, 180, 1, 0, 172]
abbrev dktX1_objectCount_0 : List UInt8 := dkwX1_objectCount_0 ++ []
theorem dksX1_objectCount_0 : cX1_objectCount.data.toList.drop 0 = dktX1_objectCount_0 := by decide +kernel
theorem dX1_objectCount_0 : decode cX1_objectCount 0 = .ok (.aload_n 0, 1) := dk_42 (dk_at dksX1_objectCount_0 0 rfl rfl)
theorem dX1_objectCount_1 : decode cX1_objectCount 1 = .ok (.getfield 21, 3) := dk_180 0 21 (dk_at dksX1_objectCount_0 1 rfl rfl)
theorem dX1_objectCount_4 : decode cX1_objectCount 4 = .ok (.getfield 256, 3) := dk_180 1 0 (dk_at dksX1_objectCount_0 4 rfl rfl)
theorem dX1_objectCount_7 : decode cX1_objectCount 7 = .ok (.ireturn, 1) := dk_172 (dk_at dksX1_objectCount_0 7 rfl rfl)
abbrev cX1_danglers : ByteArray := prog_1_method_54_code
def yX1_danglers : MethodName := ⟨RX1, "danglers", "()I"⟩
def dkwX1_danglers_0 : List UInt8 := [42, 180, 0, 21, 182, 1, 21, 172]
abbrev dktX1_danglers_0 : List UInt8 := dkwX1_danglers_0 ++ []
theorem dksX1_danglers_0 : cX1_danglers.data.toList.drop 0 = dktX1_danglers_0 := by decide +kernel
theorem dX1_danglers_0 : decode cX1_danglers 0 = .ok (.aload_n 0, 1) := dk_42 (dk_at dksX1_danglers_0 0 rfl rfl)
theorem dX1_danglers_1 : decode cX1_danglers 1 = .ok (.getfield 21, 3) := dk_180 0 21 (dk_at dksX1_danglers_0 1 rfl rfl)
theorem dX1_danglers_4 : decode cX1_danglers 4 = .ok (.invokevirtual 277, 3) := dk_182 1 21 (dk_at dksX1_danglers_0 4 rfl rfl)
theorem dX1_danglers_7 : decode cX1_danglers 7 = .ok (.ireturn, 1) := dk_172 (dk_at dksX1_danglers_0 7 rfl rfl)
abbrev cX1_gotCount : ByteArray := prog_1_method_55_code
def yX1_gotCount : MethodName := ⟨RX1, "gotCount", "()I"⟩
def dkwX1_gotCount_0 : List UInt8 := [42, 180, 0, 21, 180, 1, 24, 172]
abbrev dktX1_gotCount_0 : List UInt8 := dkwX1_gotCount_0 ++ []
theorem dksX1_gotCount_0 : cX1_gotCount.data.toList.drop 0 = dktX1_gotCount_0 := by decide +kernel
theorem dX1_gotCount_0 : decode cX1_gotCount 0 = .ok (.aload_n 0, 1) := dk_42 (dk_at dksX1_gotCount_0 0 rfl rfl)
theorem dX1_gotCount_1 : decode cX1_gotCount 1 = .ok (.getfield 21, 3) := dk_180 0 21 (dk_at dksX1_gotCount_0 1 rfl rfl)
theorem dX1_gotCount_4 : decode cX1_gotCount 4 = .ok (.getfield 280, 3) := dk_180 1 24 (dk_at dksX1_gotCount_0 4 rfl rfl)
theorem dX1_gotCount_7 : decode cX1_gotCount 7 = .ok (.ireturn, 1) := dk_172 (dk_at dksX1_gotCount_0 7 rfl rfl)
abbrev cX1_reusedCount : ByteArray := prog_1_method_56_code
def yX1_reusedCount : MethodName := ⟨RX1, "reusedCount", "()I"⟩
def dkwX1_reusedCount_0 : List UInt8 := [42, 180, 0, 21, 180, 1, 27, 172]
abbrev dktX1_reusedCount_0 : List UInt8 := dkwX1_reusedCount_0 ++ []
theorem dksX1_reusedCount_0 : cX1_reusedCount.data.toList.drop 0 = dktX1_reusedCount_0 := by decide +kernel
theorem dX1_reusedCount_0 : decode cX1_reusedCount 0 = .ok (.aload_n 0, 1) := dk_42 (dk_at dksX1_reusedCount_0 0 rfl rfl)
theorem dX1_reusedCount_1 : decode cX1_reusedCount 1 = .ok (.getfield 21, 3) := dk_180 0 21 (dk_at dksX1_reusedCount_0 1 rfl rfl)
theorem dX1_reusedCount_4 : decode cX1_reusedCount 4 = .ok (.getfield 283, 3) := dk_180 1 27 (dk_at dksX1_reusedCount_0 4 rfl rfl)
theorem dX1_reusedCount_7 : decode cX1_reusedCount 7 = .ok (.ireturn, 1) := dk_172 (dk_at dksX1_reusedCount_0 7 rfl rfl)
abbrev cX1_minutesSpent : ByteArray := prog_1_method_57_code
def yX1_minutesSpent : MethodName := ⟨RX1, "minutesSpent", "()J"⟩
def dkwX1_minutesSpent_0 : List UInt8 := [42, 180, 0, 21, 180, 1, 30, 173]
abbrev dktX1_minutesSpent_0 : List UInt8 := dkwX1_minutesSpent_0 ++ []
theorem dksX1_minutesSpent_0 : cX1_minutesSpent.data.toList.drop 0 = dktX1_minutesSpent_0 := by decide +kernel
theorem dX1_minutesSpent_0 : decode cX1_minutesSpent 0 = .ok (.aload_n 0, 1) := dk_42 (dk_at dksX1_minutesSpent_0 0 rfl rfl)
theorem dX1_minutesSpent_1 : decode cX1_minutesSpent 1 = .ok (.getfield 21, 3) := dk_180 0 21 (dk_at dksX1_minutesSpent_0 1 rfl rfl)
theorem dX1_minutesSpent_4 : decode cX1_minutesSpent 4 = .ok (.getfield 286, 3) := dk_180 1 30 (dk_at dksX1_minutesSpent_0 4 rfl rfl)
theorem dX1_minutesSpent_7 : decode cX1_minutesSpent 7 = .ok (.lreturn, 1) := dk_173 (dk_at dksX1_minutesSpent_0 7 rfl rfl)
abbrev cX1_isConsistent : ByteArray := prog_1_method_68_code
def yX1_isConsistent : MethodName := ⟨RX1, "isConsistent", "()Z"⟩
def dkwX1_isConsistent_0 : List UInt8 := [42, 180, 0, 21, 182, 1, 69, 153, 0, 14, 42, 182, 1, 72, 153, 0, 7, 4, 167, 0, 4, 3, 172]
abbrev dktX1_isConsistent_0 : List UInt8 := dkwX1_isConsistent_0 ++ []
theorem dksX1_isConsistent_0 : cX1_isConsistent.data.toList.drop 0 = dktX1_isConsistent_0 := by decide +kernel
theorem dX1_isConsistent_0 : decode cX1_isConsistent 0 = .ok (.aload_n 0, 1) := dk_42 (dk_at dksX1_isConsistent_0 0 rfl rfl)
theorem dX1_isConsistent_1 : decode cX1_isConsistent 1 = .ok (.getfield 21, 3) := dk_180 0 21 (dk_at dksX1_isConsistent_0 1 rfl rfl)
theorem dX1_isConsistent_4 : decode cX1_isConsistent 4 = .ok (.invokevirtual 325, 3) := dk_182 1 69 (dk_at dksX1_isConsistent_0 4 rfl rfl)
theorem dX1_isConsistent_7 : decode cX1_isConsistent 7 = .ok (.ifCond .eq 14, 3) := dk_153 0 14 (dk_at dksX1_isConsistent_0 7 rfl rfl)
theorem dX1_isConsistent_10 : decode cX1_isConsistent 10 = .ok (.aload_n 0, 1) := dk_42 (dk_at dksX1_isConsistent_0 10 rfl rfl)
theorem dX1_isConsistent_11 : decode cX1_isConsistent 11 = .ok (.invokevirtual 328, 3) := dk_182 1 72 (dk_at dksX1_isConsistent_0 11 rfl rfl)
theorem dX1_isConsistent_14 : decode cX1_isConsistent 14 = .ok (.ifCond .eq 7, 3) := dk_153 0 7 (dk_at dksX1_isConsistent_0 14 rfl rfl)
theorem dX1_isConsistent_17 : decode cX1_isConsistent 17 = .ok (.iconst 1, 1) := dk_4 (dk_at dksX1_isConsistent_0 17 rfl rfl)
theorem dX1_isConsistent_18 : decode cX1_isConsistent 18 = .ok (.goto 4, 3) := dk_167 0 4 (dk_at dksX1_isConsistent_0 18 rfl rfl)
theorem dX1_isConsistent_21 : decode cX1_isConsistent 21 = .ok (.iconst 0, 1) := dk_3 (dk_at dksX1_isConsistent_0 21 rfl rfl)
theorem dX1_isConsistent_22 : decode cX1_isConsistent 22 = .ok (.ireturn, 1) := dk_172 (dk_at dksX1_isConsistent_0 22 rfl rfl)
abbrev cX1_isIn : ByteArray := prog_1_method_4_code
def yX1_isIn : MethodName := ⟨RX1, "isIn", "(II)Z"⟩
def dkwX1_isIn_0 : List UInt8 := [26, 27, 122, 4, 126, 4, 160, 0, 7, 4, 167, 0, 4, 3, 172]
abbrev dktX1_isIn_0 : List UInt8 := dkwX1_isIn_0 ++ []
theorem dksX1_isIn_0 : cX1_isIn.data.toList.drop 0 = dktX1_isIn_0 := by decide +kernel
theorem dX1_isIn_0 : decode cX1_isIn 0 = .ok (.iload_n 0, 1) := dk_26 (dk_at dksX1_isIn_0 0 rfl rfl)
theorem dX1_isIn_1 : decode cX1_isIn 1 = .ok (.iload_n 1, 1) := dk_27 (dk_at dksX1_isIn_0 1 rfl rfl)
theorem dX1_isIn_2 : decode cX1_isIn 2 = .ok (.ishr, 1) := dk_122 (dk_at dksX1_isIn_0 2 rfl rfl)
theorem dX1_isIn_3 : decode cX1_isIn 3 = .ok (.iconst 1, 1) := dk_4 (dk_at dksX1_isIn_0 3 rfl rfl)
theorem dX1_isIn_4 : decode cX1_isIn 4 = .ok (.iand, 1) := dk_126 (dk_at dksX1_isIn_0 4 rfl rfl)
theorem dX1_isIn_5 : decode cX1_isIn 5 = .ok (.iconst 1, 1) := dk_4 (dk_at dksX1_isIn_0 5 rfl rfl)
theorem dX1_isIn_6 : decode cX1_isIn 6 = .ok (.if_icmp .ne 7, 3) := dk_160 0 7 (dk_at dksX1_isIn_0 6 rfl rfl)
theorem dX1_isIn_9 : decode cX1_isIn 9 = .ok (.iconst 1, 1) := dk_4 (dk_at dksX1_isIn_0 9 rfl rfl)
theorem dX1_isIn_10 : decode cX1_isIn 10 = .ok (.goto 4, 3) := dk_167 0 4 (dk_at dksX1_isIn_0 10 rfl rfl)
theorem dX1_isIn_13 : decode cX1_isIn 13 = .ok (.iconst 0, 1) := dk_3 (dk_at dksX1_isIn_0 13 rfl rfl)
theorem dX1_isIn_14 : decode cX1_isIn 14 = .ok (.ireturn, 1) := dk_172 (dk_at dksX1_isIn_0 14 rfl rfl)
abbrev cX1_areMakingsConsistent : ByteArray := prog_1_method_67_code
def yX1_areMakingsConsistent : MethodName := ⟨RX1, "areMakingsConsistent", "()Z"⟩
def dkwX1_areMakingsConsistent_3 : List UInt8 := [167, 255, 189, 27, 172]
abbrev dktX1_areMakingsConsistent_3 : List UInt8 := dkwX1_areMakingsConsistent_3 ++ []
def dkwX1_areMakingsConsistent_2 : List UInt8 := [29, 182, 0, 253, 160, 0, 7, 4, 167, 0, 4, 3, 126, 60, 132, 3, 1, 167, 255, 202, 132, 2, 1]
abbrev dktX1_areMakingsConsistent_2 : List UInt8 := dkwX1_areMakingsConsistent_2 ++ dktX1_areMakingsConsistent_3
def dkwX1_areMakingsConsistent_1 : List UInt8 := [28, 51, 153, 0, 42, 27, 42, 29, 28, 182, 0, 247, 187, 0, 248, 89, 42, 180, 0, 21, 28, 183, 0, 250]
abbrev dktX1_areMakingsConsistent_1 : List UInt8 := dkwX1_areMakingsConsistent_1 ++ dktX1_areMakingsConsistent_2
def dkwX1_areMakingsConsistent_0 : List UInt8 := [4, 60, 3, 61, 28, 7, 162, 0, 68, 3, 62, 29, 16, 8, 162, 0, 54, 42, 180, 0, 21, 180, 0, 232]
abbrev dktX1_areMakingsConsistent_0 : List UInt8 := dkwX1_areMakingsConsistent_0 ++ dktX1_areMakingsConsistent_1
theorem dksX1_areMakingsConsistent_0 : cX1_areMakingsConsistent.data.toList.drop 0 = dktX1_areMakingsConsistent_0 := by decide +kernel
theorem dksX1_areMakingsConsistent_1 : cX1_areMakingsConsistent.data.toList.drop 24 = dktX1_areMakingsConsistent_1 := dk_seg dksX1_areMakingsConsistent_0 24 rfl rfl
theorem dksX1_areMakingsConsistent_2 : cX1_areMakingsConsistent.data.toList.drop 48 = dktX1_areMakingsConsistent_2 := dk_seg dksX1_areMakingsConsistent_1 24 rfl rfl
theorem dksX1_areMakingsConsistent_3 : cX1_areMakingsConsistent.data.toList.drop 71 = dktX1_areMakingsConsistent_3 := dk_seg dksX1_areMakingsConsistent_2 23 rfl rfl
theorem dX1_areMakingsConsistent_0 : decode cX1_areMakingsConsistent 0 = .ok (.iconst 1, 1) := dk_4 (dk_at dksX1_areMakingsConsistent_0 0 rfl rfl)
theorem dX1_areMakingsConsistent_1 : decode cX1_areMakingsConsistent 1 = .ok (.istore_n 1, 1) := dk_60 (dk_at dksX1_areMakingsConsistent_0 1 rfl rfl)
theorem dX1_areMakingsConsistent_2 : decode cX1_areMakingsConsistent 2 = .ok (.iconst 0, 1) := dk_3 (dk_at dksX1_areMakingsConsistent_0 2 rfl rfl)
theorem dX1_areMakingsConsistent_3 : decode cX1_areMakingsConsistent 3 = .ok (.istore_n 2, 1) := dk_61 (dk_at dksX1_areMakingsConsistent_0 3 rfl rfl)
theorem dX1_areMakingsConsistent_4 : decode cX1_areMakingsConsistent 4 = .ok (.iload_n 2, 1) := dk_28 (dk_at dksX1_areMakingsConsistent_0 4 rfl rfl)
theorem dX1_areMakingsConsistent_5 : decode cX1_areMakingsConsistent 5 = .ok (.iconst 4, 1) := dk_7 (dk_at dksX1_areMakingsConsistent_0 5 rfl rfl)
theorem dX1_areMakingsConsistent_6 : decode cX1_areMakingsConsistent 6 = .ok (.if_icmp .ge 68, 3) := dk_162 0 68 (dk_at dksX1_areMakingsConsistent_0 6 rfl rfl)
theorem dX1_areMakingsConsistent_9 : decode cX1_areMakingsConsistent 9 = .ok (.iconst 0, 1) := dk_3 (dk_at dksX1_areMakingsConsistent_0 9 rfl rfl)
theorem dX1_areMakingsConsistent_10 : decode cX1_areMakingsConsistent 10 = .ok (.istore_n 3, 1) := dk_62 (dk_at dksX1_areMakingsConsistent_0 10 rfl rfl)
theorem dX1_areMakingsConsistent_11 : decode cX1_areMakingsConsistent 11 = .ok (.iload_n 3, 1) := dk_29 (dk_at dksX1_areMakingsConsistent_0 11 rfl rfl)
theorem dX1_areMakingsConsistent_12 : decode cX1_areMakingsConsistent 12 = .ok (.bipush 8, 2) := dk_16 8 (dk_at dksX1_areMakingsConsistent_0 12 rfl rfl)
theorem dX1_areMakingsConsistent_14 : decode cX1_areMakingsConsistent 14 = .ok (.if_icmp .ge 54, 3) := dk_162 0 54 (dk_at dksX1_areMakingsConsistent_0 14 rfl rfl)
theorem dX1_areMakingsConsistent_17 : decode cX1_areMakingsConsistent 17 = .ok (.aload_n 0, 1) := dk_42 (dk_at dksX1_areMakingsConsistent_0 17 rfl rfl)
theorem dX1_areMakingsConsistent_18 : decode cX1_areMakingsConsistent 18 = .ok (.getfield 21, 3) := dk_180 0 21 (dk_at dksX1_areMakingsConsistent_0 18 rfl rfl)
theorem dX1_areMakingsConsistent_21 : decode cX1_areMakingsConsistent 21 = .ok (.getfield 232, 3) := dk_180 0 232 (dk_at dksX1_areMakingsConsistent_0 21 rfl rfl)
theorem dX1_areMakingsConsistent_24 : decode cX1_areMakingsConsistent 24 = .ok (.iload_n 2, 1) := dk_28 (dk_at dksX1_areMakingsConsistent_1 0 rfl rfl)
theorem dX1_areMakingsConsistent_25 : decode cX1_areMakingsConsistent 25 = .ok (.baload, 1) := dk_51 (dk_at dksX1_areMakingsConsistent_1 1 rfl rfl)
theorem dX1_areMakingsConsistent_26 : decode cX1_areMakingsConsistent 26 = .ok (.ifCond .eq 42, 3) := dk_153 0 42 (dk_at dksX1_areMakingsConsistent_1 2 rfl rfl)
theorem dX1_areMakingsConsistent_29 : decode cX1_areMakingsConsistent 29 = .ok (.iload_n 1, 1) := dk_27 (dk_at dksX1_areMakingsConsistent_1 5 rfl rfl)
theorem dX1_areMakingsConsistent_30 : decode cX1_areMakingsConsistent 30 = .ok (.aload_n 0, 1) := dk_42 (dk_at dksX1_areMakingsConsistent_1 6 rfl rfl)
theorem dX1_areMakingsConsistent_31 : decode cX1_areMakingsConsistent 31 = .ok (.iload_n 3, 1) := dk_29 (dk_at dksX1_areMakingsConsistent_1 7 rfl rfl)
theorem dX1_areMakingsConsistent_32 : decode cX1_areMakingsConsistent 32 = .ok (.iload_n 2, 1) := dk_28 (dk_at dksX1_areMakingsConsistent_1 8 rfl rfl)
theorem dX1_areMakingsConsistent_33 : decode cX1_areMakingsConsistent 33 = .ok (.invokevirtual 247, 3) := dk_182 0 247 (dk_at dksX1_areMakingsConsistent_1 9 rfl rfl)
theorem dX1_areMakingsConsistent_36 : decode cX1_areMakingsConsistent 36 = .ok (.new 248, 3) := dk_187 0 248 (dk_at dksX1_areMakingsConsistent_1 12 rfl rfl)
theorem dX1_areMakingsConsistent_39 : decode cX1_areMakingsConsistent 39 = .ok (.dup, 1) := dk_89 (dk_at dksX1_areMakingsConsistent_1 15 rfl rfl)
theorem dX1_areMakingsConsistent_40 : decode cX1_areMakingsConsistent 40 = .ok (.aload_n 0, 1) := dk_42 (dk_at dksX1_areMakingsConsistent_1 16 rfl rfl)
theorem dX1_areMakingsConsistent_41 : decode cX1_areMakingsConsistent 41 = .ok (.getfield 21, 3) := dk_180 0 21 (dk_at dksX1_areMakingsConsistent_1 17 rfl rfl)
theorem dX1_areMakingsConsistent_44 : decode cX1_areMakingsConsistent 44 = .ok (.iload_n 2, 1) := dk_28 (dk_at dksX1_areMakingsConsistent_1 20 rfl rfl)
theorem dX1_areMakingsConsistent_45 : decode cX1_areMakingsConsistent 45 = .ok (.invokespecial 250, 3) := dk_183 0 250 (dk_at dksX1_areMakingsConsistent_1 21 rfl rfl)
theorem dX1_areMakingsConsistent_48 : decode cX1_areMakingsConsistent 48 = .ok (.iload_n 3, 1) := dk_29 (dk_at dksX1_areMakingsConsistent_2 0 rfl rfl)
theorem dX1_areMakingsConsistent_49 : decode cX1_areMakingsConsistent 49 = .ok (.invokevirtual 253, 3) := dk_182 0 253 (dk_at dksX1_areMakingsConsistent_2 1 rfl rfl)
theorem dX1_areMakingsConsistent_52 : decode cX1_areMakingsConsistent 52 = .ok (.if_icmp .ne 7, 3) := dk_160 0 7 (dk_at dksX1_areMakingsConsistent_2 4 rfl rfl)
theorem dX1_areMakingsConsistent_55 : decode cX1_areMakingsConsistent 55 = .ok (.iconst 1, 1) := dk_4 (dk_at dksX1_areMakingsConsistent_2 7 rfl rfl)
theorem dX1_areMakingsConsistent_56 : decode cX1_areMakingsConsistent 56 = .ok (.goto 4, 3) := dk_167 0 4 (dk_at dksX1_areMakingsConsistent_2 8 rfl rfl)
theorem dX1_areMakingsConsistent_59 : decode cX1_areMakingsConsistent 59 = .ok (.iconst 0, 1) := dk_3 (dk_at dksX1_areMakingsConsistent_2 11 rfl rfl)
theorem dX1_areMakingsConsistent_60 : decode cX1_areMakingsConsistent 60 = .ok (.iand, 1) := dk_126 (dk_at dksX1_areMakingsConsistent_2 12 rfl rfl)
theorem dX1_areMakingsConsistent_61 : decode cX1_areMakingsConsistent 61 = .ok (.istore_n 1, 1) := dk_60 (dk_at dksX1_areMakingsConsistent_2 13 rfl rfl)
theorem dX1_areMakingsConsistent_62 : decode cX1_areMakingsConsistent 62 = .ok (.iinc 3 1, 3) := dk_132 3 1 (dk_at dksX1_areMakingsConsistent_2 14 rfl rfl)
theorem dX1_areMakingsConsistent_65 : decode cX1_areMakingsConsistent 65 = .ok (.goto (-54), 3) := dk_167 255 202 (dk_at dksX1_areMakingsConsistent_2 17 rfl rfl)
theorem dX1_areMakingsConsistent_68 : decode cX1_areMakingsConsistent 68 = .ok (.iinc 2 1, 3) := dk_132 2 1 (dk_at dksX1_areMakingsConsistent_2 20 rfl rfl)
theorem dX1_areMakingsConsistent_71 : decode cX1_areMakingsConsistent 71 = .ok (.goto (-67), 3) := dk_167 255 189 (dk_at dksX1_areMakingsConsistent_3 0 rfl rfl)
theorem dX1_areMakingsConsistent_74 : decode cX1_areMakingsConsistent 74 = .ok (.iload_n 1, 1) := dk_27 (dk_at dksX1_areMakingsConsistent_3 3 rfl rfl)
theorem dX1_areMakingsConsistent_75 : decode cX1_areMakingsConsistent 75 = .ok (.ireturn, 1) := dk_172 (dk_at dksX1_areMakingsConsistent_3 4 rfl rfl)
abbrev cX1_tried : ByteArray := prog_1_method_46_code
def yX1_tried : MethodName := ⟨RX1, "tried", "(II)I"⟩
def dkwX1_tried_0 : List UInt8 := [42, 180, 0, 25, 42, 180, 0, 21, 182, 0, 94, 42, 180, 0, 25, 27, 28, 182, 0, 241, 172]
abbrev dktX1_tried_0 : List UInt8 := dkwX1_tried_0 ++ []
theorem dksX1_tried_0 : cX1_tried.data.toList.drop 0 = dktX1_tried_0 := by decide +kernel
theorem dX1_tried_0 : decode cX1_tried 0 = .ok (.aload_n 0, 1) := dk_42 (dk_at dksX1_tried_0 0 rfl rfl)
theorem dX1_tried_1 : decode cX1_tried 1 = .ok (.getfield 25, 3) := dk_180 0 25 (dk_at dksX1_tried_0 1 rfl rfl)
theorem dX1_tried_4 : decode cX1_tried 4 = .ok (.aload_n 0, 1) := dk_42 (dk_at dksX1_tried_0 4 rfl rfl)
theorem dX1_tried_5 : decode cX1_tried 5 = .ok (.getfield 21, 3) := dk_180 0 21 (dk_at dksX1_tried_0 5 rfl rfl)
theorem dX1_tried_8 : decode cX1_tried 8 = .ok (.invokevirtual 94, 3) := dk_182 0 94 (dk_at dksX1_tried_0 8 rfl rfl)
theorem dX1_tried_11 : decode cX1_tried 11 = .ok (.aload_n 0, 1) := dk_42 (dk_at dksX1_tried_0 11 rfl rfl)
theorem dX1_tried_12 : decode cX1_tried 12 = .ok (.getfield 25, 3) := dk_180 0 25 (dk_at dksX1_tried_0 12 rfl rfl)
theorem dX1_tried_15 : decode cX1_tried 15 = .ok (.iload_n 1, 1) := dk_27 (dk_at dksX1_tried_0 15 rfl rfl)
theorem dX1_tried_16 : decode cX1_tried 16 = .ok (.iload_n 2, 1) := dk_28 (dk_at dksX1_tried_0 16 rfl rfl)
theorem dX1_tried_17 : decode cX1_tried 17 = .ok (.invokevirtual 241, 3) := dk_182 0 241 (dk_at dksX1_tried_0 17 rfl rfl)
theorem dX1_tried_20 : decode cX1_tried 20 = .ok (.ireturn, 1) := dk_172 (dk_at dksX1_tried_0 20 rfl rfl)
abbrev cX1_refuseIf : ByteArray := prog_1_method_5_code
def yX1_refuseIf : MethodName := ⟨RX1, "refuseIf", "(ZII)V"⟩
def dkwX1_refuseIf_0 : List UInt8 := [26, 153, 0, 13, 187, 0, 7, 89, 27, 28, 183, 0, 9, 191, 177]
abbrev dktX1_refuseIf_0 : List UInt8 := dkwX1_refuseIf_0 ++ []
theorem dksX1_refuseIf_0 : cX1_refuseIf.data.toList.drop 0 = dktX1_refuseIf_0 := by decide +kernel
theorem dX1_refuseIf_0 : decode cX1_refuseIf 0 = .ok (.iload_n 0, 1) := dk_26 (dk_at dksX1_refuseIf_0 0 rfl rfl)
theorem dX1_refuseIf_1 : decode cX1_refuseIf 1 = .ok (.ifCond .eq 13, 3) := dk_153 0 13 (dk_at dksX1_refuseIf_0 1 rfl rfl)
theorem dX1_refuseIf_4 : decode cX1_refuseIf 4 = .ok (.new 7, 3) := dk_187 0 7 (dk_at dksX1_refuseIf_0 4 rfl rfl)
theorem dX1_refuseIf_7 : decode cX1_refuseIf 7 = .ok (.dup, 1) := dk_89 (dk_at dksX1_refuseIf_0 7 rfl rfl)
theorem dX1_refuseIf_8 : decode cX1_refuseIf 8 = .ok (.iload_n 1, 1) := dk_27 (dk_at dksX1_refuseIf_0 8 rfl rfl)
theorem dX1_refuseIf_9 : decode cX1_refuseIf 9 = .ok (.iload_n 2, 1) := dk_28 (dk_at dksX1_refuseIf_0 9 rfl rfl)
theorem dX1_refuseIf_10 : decode cX1_refuseIf 10 = .ok (.invokespecial 9, 3) := dk_183 0 9 (dk_at dksX1_refuseIf_0 10 rfl rfl)
theorem dX1_refuseIf_13 : decode cX1_refuseIf 13 = .ok (.athrow, 1) := dk_191 (dk_at dksX1_refuseIf_0 13 rfl rfl)
theorem dX1_refuseIf_14 : decode cX1_refuseIf 14 = .ok (.return_, 1) := dk_177 (dk_at dksX1_refuseIf_0 14 rfl rfl)
abbrev cX1_save : ByteArray := prog_1_method_76_code
def yX1_save : MethodName := ⟨RX1, "save", "()I"⟩
def dkwX1_save_0 : List UInt8 := [42, 180, 0, 28, 42, 180, 0, 21, 182, 0, 94, 42, 4, 181, 1, 125, 42, 180, 0, 21, 180, 1, 0, 172]
abbrev dktX1_save_0 : List UInt8 := dkwX1_save_0 ++ []
theorem dksX1_save_0 : cX1_save.data.toList.drop 0 = dktX1_save_0 := by decide +kernel
theorem dX1_save_0 : decode cX1_save 0 = .ok (.aload_n 0, 1) := dk_42 (dk_at dksX1_save_0 0 rfl rfl)
theorem dX1_save_1 : decode cX1_save 1 = .ok (.getfield 28, 3) := dk_180 0 28 (dk_at dksX1_save_0 1 rfl rfl)
theorem dX1_save_4 : decode cX1_save 4 = .ok (.aload_n 0, 1) := dk_42 (dk_at dksX1_save_0 4 rfl rfl)
theorem dX1_save_5 : decode cX1_save 5 = .ok (.getfield 21, 3) := dk_180 0 21 (dk_at dksX1_save_0 5 rfl rfl)
theorem dX1_save_8 : decode cX1_save 8 = .ok (.invokevirtual 94, 3) := dk_182 0 94 (dk_at dksX1_save_0 8 rfl rfl)
theorem dX1_save_11 : decode cX1_save 11 = .ok (.aload_n 0, 1) := dk_42 (dk_at dksX1_save_0 11 rfl rfl)
theorem dX1_save_12 : decode cX1_save 12 = .ok (.iconst 1, 1) := dk_4 (dk_at dksX1_save_0 12 rfl rfl)
theorem dX1_save_13 : decode cX1_save 13 = .ok (.putfield 381, 3) := dk_181 1 125 (dk_at dksX1_save_0 13 rfl rfl)
theorem dX1_save_16 : decode cX1_save 16 = .ok (.aload_n 0, 1) := dk_42 (dk_at dksX1_save_0 16 rfl rfl)
theorem dX1_save_17 : decode cX1_save 17 = .ok (.getfield 21, 3) := dk_180 0 21 (dk_at dksX1_save_0 17 rfl rfl)
theorem dX1_save_20 : decode cX1_save 20 = .ok (.getfield 256, 3) := dk_180 1 0 (dk_at dksX1_save_0 20 rfl rfl)
theorem dX1_save_23 : decode cX1_save 23 = .ok (.ireturn, 1) := dk_172 (dk_at dksX1_save_0 23 rfl rfl)
abbrev cX1_define : ByteArray := prog_1_method_21_code
def yX1_define : MethodName := ⟨RX1, "define", "(CCI)I"⟩
def dkwX1_define_0 : List UInt8 := [42, 27, 28, 29, 186, 0, 150, 0, 0, 182, 0, 153, 172]
abbrev dktX1_define_0 : List UInt8 := dkwX1_define_0 ++ []
theorem dksX1_define_0 : cX1_define.data.toList.drop 0 = dktX1_define_0 := by decide +kernel
theorem dX1_define_0 : decode cX1_define 0 = .ok (.aload_n 0, 1) := dk_42 (dk_at dksX1_define_0 0 rfl rfl)
theorem dX1_define_1 : decode cX1_define 1 = .ok (.iload_n 1, 1) := dk_27 (dk_at dksX1_define_0 1 rfl rfl)
theorem dX1_define_2 : decode cX1_define 2 = .ok (.iload_n 2, 1) := dk_28 (dk_at dksX1_define_0 2 rfl rfl)
theorem dX1_define_3 : decode cX1_define 3 = .ok (.iload_n 3, 1) := dk_29 (dk_at dksX1_define_0 3 rfl rfl)
theorem dX1_define_4 : decode cX1_define 4 = .ok (.invokedynamic 150, 5) := by decide +kernel
theorem dX1_define_9 : decode cX1_define 9 = .ok (.invokevirtual 153, 3) := dk_182 0 153 (dk_at dksX1_define_0 9 rfl rfl)
theorem dX1_define_12 : decode cX1_define 12 = .ok (.ireturn, 1) := dk_172 (dk_at dksX1_define_0 12 rfl rfl)
abbrev cX1_lambda_define_0 : ByteArray := prog_1_method_88_code
def yX1_lambda_define_0 : MethodName := ⟨RX1, "lambda$define$0", "(CCILClockworkTailor$State;)I"⟩
def dkwX1_lambda_define_0_0 : List UInt8 := [45, 26, 27, 28, 182, 1, 163, 172]
abbrev dktX1_lambda_define_0_0 : List UInt8 := dkwX1_lambda_define_0_0 ++ []
theorem dksX1_lambda_define_0_0 : cX1_lambda_define_0.data.toList.drop 0 = dktX1_lambda_define_0_0 := by decide +kernel
theorem dX1_lambda_define_0_0 : decode cX1_lambda_define_0 0 = .ok (.aload_n 3, 1) := dk_45 (dk_at dksX1_lambda_define_0_0 0 rfl rfl)
theorem dX1_lambda_define_0_1 : decode cX1_lambda_define_0 1 = .ok (.iload_n 0, 1) := dk_26 (dk_at dksX1_lambda_define_0_0 1 rfl rfl)
theorem dX1_lambda_define_0_2 : decode cX1_lambda_define_0 2 = .ok (.iload_n 1, 1) := dk_27 (dk_at dksX1_lambda_define_0_0 2 rfl rfl)
theorem dX1_lambda_define_0_3 : decode cX1_lambda_define_0 3 = .ok (.iload_n 2, 1) := dk_28 (dk_at dksX1_lambda_define_0_0 3 rfl rfl)
theorem dX1_lambda_define_0_4 : decode cX1_lambda_define_0 4 = .ok (.invokevirtual 419, 3) := dk_182 1 163 (dk_at dksX1_lambda_define_0_0 4 rfl rfl)
theorem dX1_lambda_define_0_7 : decode cX1_lambda_define_0 7 = .ok (.ireturn, 1) := dk_172 (dk_at dksX1_lambda_define_0_0 7 rfl rfl)
abbrev cX1_isTool : ByteArray := prog_1_method_2_code
def yX1_isTool : MethodName := ⟨RX1, "isTool", "(I)Z"⟩
def dkwX1_isTool_0 : List UInt8 := [26, 16, 97, 16, 104, 184, 0, 3, 172]
abbrev dktX1_isTool_0 : List UInt8 := dkwX1_isTool_0 ++ []
theorem dksX1_isTool_0 : cX1_isTool.data.toList.drop 0 = dktX1_isTool_0 := by decide +kernel
theorem dX1_isTool_0 : decode cX1_isTool 0 = .ok (.iload_n 0, 1) := dk_26 (dk_at dksX1_isTool_0 0 rfl rfl)
theorem dX1_isTool_1 : decode cX1_isTool 1 = .ok (.bipush 97, 2) := dk_16 97 (dk_at dksX1_isTool_0 1 rfl rfl)
theorem dX1_isTool_3 : decode cX1_isTool 3 = .ok (.bipush 104, 2) := dk_16 104 (dk_at dksX1_isTool_0 3 rfl rfl)
theorem dX1_isTool_5 : decode cX1_isTool 5 = .ok (.invokestatic 3, 3) := dk_184 0 3 (dk_at dksX1_isTool_0 5 rfl rfl)
theorem dX1_isTool_8 : decode cX1_isTool 8 = .ok (.ireturn, 1) := dk_172 (dk_at dksX1_isTool_0 8 rfl rfl)
abbrev cX1_inRange : ByteArray := prog_1_method_1_code
def yX1_inRange : MethodName := ⟨RX1, "inRange", "(III)Z"⟩
def dkwX1_inRange_0 : List UInt8 := [26, 27, 161, 0, 12, 26, 28, 163, 0, 7, 4, 167, 0, 4, 3, 172]
abbrev dktX1_inRange_0 : List UInt8 := dkwX1_inRange_0 ++ []
theorem dksX1_inRange_0 : cX1_inRange.data.toList.drop 0 = dktX1_inRange_0 := by decide +kernel
theorem dX1_inRange_0 : decode cX1_inRange 0 = .ok (.iload_n 0, 1) := dk_26 (dk_at dksX1_inRange_0 0 rfl rfl)
theorem dX1_inRange_1 : decode cX1_inRange 1 = .ok (.iload_n 1, 1) := dk_27 (dk_at dksX1_inRange_0 1 rfl rfl)
theorem dX1_inRange_2 : decode cX1_inRange 2 = .ok (.if_icmp .lt 12, 3) := dk_161 0 12 (dk_at dksX1_inRange_0 2 rfl rfl)
theorem dX1_inRange_5 : decode cX1_inRange 5 = .ok (.iload_n 0, 1) := dk_26 (dk_at dksX1_inRange_0 5 rfl rfl)
theorem dX1_inRange_6 : decode cX1_inRange 6 = .ok (.iload_n 2, 1) := dk_28 (dk_at dksX1_inRange_0 6 rfl rfl)
theorem dX1_inRange_7 : decode cX1_inRange 7 = .ok (.if_icmp .gt 7, 3) := dk_163 0 7 (dk_at dksX1_inRange_0 7 rfl rfl)
theorem dX1_inRange_10 : decode cX1_inRange 10 = .ok (.iconst 1, 1) := dk_4 (dk_at dksX1_inRange_0 10 rfl rfl)
theorem dX1_inRange_11 : decode cX1_inRange 11 = .ok (.goto 4, 3) := dk_167 0 4 (dk_at dksX1_inRange_0 11 rfl rfl)
theorem dX1_inRange_14 : decode cX1_inRange 14 = .ok (.iconst 0, 1) := dk_3 (dk_at dksX1_inRange_0 14 rfl rfl)
theorem dX1_inRange_15 : decode cX1_inRange 15 = .ok (.ireturn, 1) := dk_172 (dk_at dksX1_inRange_0 15 rfl rfl)
abbrev cX1_isScope : ByteArray := prog_1_method_3_code
def yX1_isScope : MethodName := ⟨RX1, "isScope", "(I)Z"⟩
def dkwX1_isScope_0 : List UInt8 := [26, 16, 115, 159, 0, 15, 26, 16, 116, 159, 0, 9, 26, 16, 101, 160, 0, 7, 4, 167, 0, 4, 3, 172]
abbrev dktX1_isScope_0 : List UInt8 := dkwX1_isScope_0 ++ []
theorem dksX1_isScope_0 : cX1_isScope.data.toList.drop 0 = dktX1_isScope_0 := by decide +kernel
theorem dX1_isScope_0 : decode cX1_isScope 0 = .ok (.iload_n 0, 1) := dk_26 (dk_at dksX1_isScope_0 0 rfl rfl)
theorem dX1_isScope_1 : decode cX1_isScope 1 = .ok (.bipush 115, 2) := dk_16 115 (dk_at dksX1_isScope_0 1 rfl rfl)
theorem dX1_isScope_3 : decode cX1_isScope 3 = .ok (.if_icmp .eq 15, 3) := dk_159 0 15 (dk_at dksX1_isScope_0 3 rfl rfl)
theorem dX1_isScope_6 : decode cX1_isScope 6 = .ok (.iload_n 0, 1) := dk_26 (dk_at dksX1_isScope_0 6 rfl rfl)
theorem dX1_isScope_7 : decode cX1_isScope 7 = .ok (.bipush 116, 2) := dk_16 116 (dk_at dksX1_isScope_0 7 rfl rfl)
theorem dX1_isScope_9 : decode cX1_isScope 9 = .ok (.if_icmp .eq 9, 3) := dk_159 0 9 (dk_at dksX1_isScope_0 9 rfl rfl)
theorem dX1_isScope_12 : decode cX1_isScope 12 = .ok (.iload_n 0, 1) := dk_26 (dk_at dksX1_isScope_0 12 rfl rfl)
theorem dX1_isScope_13 : decode cX1_isScope 13 = .ok (.bipush 101, 2) := dk_16 101 (dk_at dksX1_isScope_0 13 rfl rfl)
theorem dX1_isScope_15 : decode cX1_isScope 15 = .ok (.if_icmp .ne 7, 3) := dk_160 0 7 (dk_at dksX1_isScope_0 15 rfl rfl)
theorem dX1_isScope_18 : decode cX1_isScope 18 = .ok (.iconst 1, 1) := dk_4 (dk_at dksX1_isScope_0 18 rfl rfl)
theorem dX1_isScope_19 : decode cX1_isScope 19 = .ok (.goto 4, 3) := dk_167 0 4 (dk_at dksX1_isScope_0 19 rfl rfl)
theorem dX1_isScope_22 : decode cX1_isScope 22 = .ok (.iconst 0, 1) := dk_3 (dk_at dksX1_isScope_0 22 rfl rfl)
theorem dX1_isScope_23 : decode cX1_isScope 23 = .ok (.ireturn, 1) := dk_172 (dk_at dksX1_isScope_0 23 rfl rfl)
abbrev cX1_checkArgument : ByteArray := prog_1_method_8_code
def yX1_checkArgument : MethodName := ⟨RX1, "checkArgument", "(Z)V"⟩
def dkwX1_checkArgument_0 : List UInt8 := [26, 154, 0, 11, 187, 0, 68, 89, 183, 0, 70, 191, 177]
abbrev dktX1_checkArgument_0 : List UInt8 := dkwX1_checkArgument_0 ++ []
theorem dksX1_checkArgument_0 : cX1_checkArgument.data.toList.drop 0 = dktX1_checkArgument_0 := by decide +kernel
theorem dX1_checkArgument_0 : decode cX1_checkArgument 0 = .ok (.iload_n 0, 1) := dk_26 (dk_at dksX1_checkArgument_0 0 rfl rfl)
theorem dX1_checkArgument_1 : decode cX1_checkArgument 1 = .ok (.ifCond .ne 11, 3) := dk_154 0 11 (dk_at dksX1_checkArgument_0 1 rfl rfl)
theorem dX1_checkArgument_4 : decode cX1_checkArgument 4 = .ok (.new 68, 3) := dk_187 0 68 (dk_at dksX1_checkArgument_0 4 rfl rfl)
theorem dX1_checkArgument_7 : decode cX1_checkArgument 7 = .ok (.dup, 1) := dk_89 (dk_at dksX1_checkArgument_0 7 rfl rfl)
theorem dX1_checkArgument_8 : decode cX1_checkArgument 8 = .ok (.invokespecial 70, 3) := dk_183 0 70 (dk_at dksX1_checkArgument_0 8 rfl rfl)
theorem dX1_checkArgument_11 : decode cX1_checkArgument 11 = .ok (.athrow, 1) := dk_191 (dk_at dksX1_checkArgument_0 11 rfl rfl)
theorem dX1_checkArgument_12 : decode cX1_checkArgument 12 = .ok (.return_, 1) := dk_177 (dk_at dksX1_checkArgument_0 12 rfl rfl)
abbrev cX1_checkState : ByteArray := prog_1_method_10_code
def yX1_checkState : MethodName := ⟨RX1, "checkState", "(Z)V"⟩
def dkwX1_checkState_0 : List UInt8 := [26, 154, 0, 11, 187, 0, 74, 89, 183, 0, 76, 191, 177]
abbrev dktX1_checkState_0 : List UInt8 := dkwX1_checkState_0 ++ []
theorem dksX1_checkState_0 : cX1_checkState.data.toList.drop 0 = dktX1_checkState_0 := by decide +kernel
theorem dX1_checkState_0 : decode cX1_checkState 0 = .ok (.iload_n 0, 1) := dk_26 (dk_at dksX1_checkState_0 0 rfl rfl)
theorem dX1_checkState_1 : decode cX1_checkState 1 = .ok (.ifCond .ne 11, 3) := dk_154 0 11 (dk_at dksX1_checkState_0 1 rfl rfl)
theorem dX1_checkState_4 : decode cX1_checkState 4 = .ok (.new 74, 3) := dk_187 0 74 (dk_at dksX1_checkState_0 4 rfl rfl)
theorem dX1_checkState_7 : decode cX1_checkState 7 = .ok (.dup, 1) := dk_89 (dk_at dksX1_checkState_0 7 rfl rfl)
theorem dX1_checkState_8 : decode cX1_checkState 8 = .ok (.invokespecial 76, 3) := dk_183 0 76 (dk_at dksX1_checkState_0 8 rfl rfl)
theorem dX1_checkState_11 : decode cX1_checkState 11 = .ok (.athrow, 1) := dk_191 (dk_at dksX1_checkState_0 11 rfl rfl)
theorem dX1_checkState_12 : decode cX1_checkState 12 = .ok (.return_, 1) := dk_177 (dk_at dksX1_checkState_0 12 rfl rfl)
abbrev cX1_perform : ByteArray := prog_1_method_16_code
def yX1_perform : MethodName := ⟨RX1, "perform", "(LClockworkTailor$Change;)I"⟩
def dkwX1_perform_1 : List UInt8 := [182, 0, 104, 172, 77, 42, 44, 181, 0, 108, 187, 0, 112, 89, 183, 0, 114, 191]
abbrev dktX1_perform_1 : List UInt8 := dkwX1_perform_1 ++ []
def dkwX1_perform_0 : List UInt8 := [42, 180, 0, 25, 42, 180, 0, 21, 182, 0, 94, 42, 43, 42, 180, 0, 25, 185, 0, 98, 2, 0]
abbrev dktX1_perform_0 : List UInt8 := dkwX1_perform_0 ++ dktX1_perform_1
theorem dksX1_perform_0 : cX1_perform.data.toList.drop 0 = dktX1_perform_0 := by decide +kernel
theorem dksX1_perform_1 : cX1_perform.data.toList.drop 22 = dktX1_perform_1 := dk_seg dksX1_perform_0 22 rfl rfl
theorem dX1_perform_0 : decode cX1_perform 0 = .ok (.aload_n 0, 1) := dk_42 (dk_at dksX1_perform_0 0 rfl rfl)
theorem dX1_perform_1 : decode cX1_perform 1 = .ok (.getfield 25, 3) := dk_180 0 25 (dk_at dksX1_perform_0 1 rfl rfl)
theorem dX1_perform_4 : decode cX1_perform 4 = .ok (.aload_n 0, 1) := dk_42 (dk_at dksX1_perform_0 4 rfl rfl)
theorem dX1_perform_5 : decode cX1_perform 5 = .ok (.getfield 21, 3) := dk_180 0 21 (dk_at dksX1_perform_0 5 rfl rfl)
theorem dX1_perform_8 : decode cX1_perform 8 = .ok (.invokevirtual 94, 3) := dk_182 0 94 (dk_at dksX1_perform_0 8 rfl rfl)
theorem dX1_perform_11 : decode cX1_perform 11 = .ok (.aload_n 0, 1) := dk_42 (dk_at dksX1_perform_0 11 rfl rfl)
theorem dX1_perform_12 : decode cX1_perform 12 = .ok (.aload_n 1, 1) := dk_43 (dk_at dksX1_perform_0 12 rfl rfl)
theorem dX1_perform_13 : decode cX1_perform 13 = .ok (.aload_n 0, 1) := dk_42 (dk_at dksX1_perform_0 13 rfl rfl)
theorem dX1_perform_14 : decode cX1_perform 14 = .ok (.getfield 25, 3) := dk_180 0 25 (dk_at dksX1_perform_0 14 rfl rfl)
theorem dX1_perform_17 : decode cX1_perform 17 = .ok (.invokeinterface 98 2, 5) := by decide +kernel
theorem dX1_perform_22 : decode cX1_perform 22 = .ok (.invokevirtual 104, 3) := dk_182 0 104 (dk_at dksX1_perform_1 0 rfl rfl)
theorem dX1_perform_25 : decode cX1_perform 25 = .ok (.ireturn, 1) := dk_172 (dk_at dksX1_perform_1 3 rfl rfl)
theorem dX1_perform_26 : decode cX1_perform 26 = .ok (.astore_n 2, 1) := dk_77 (dk_at dksX1_perform_1 4 rfl rfl)
theorem dX1_perform_27 : decode cX1_perform 27 = .ok (.aload_n 0, 1) := dk_42 (dk_at dksX1_perform_1 5 rfl rfl)
theorem dX1_perform_28 : decode cX1_perform 28 = .ok (.aload_n 2, 1) := dk_44 (dk_at dksX1_perform_1 6 rfl rfl)
theorem dX1_perform_29 : decode cX1_perform 29 = .ok (.putfield 108, 3) := dk_181 0 108 (dk_at dksX1_perform_1 7 rfl rfl)
theorem dX1_perform_32 : decode cX1_perform 32 = .ok (.new 112, 3) := dk_187 0 112 (dk_at dksX1_perform_1 10 rfl rfl)
theorem dX1_perform_35 : decode cX1_perform 35 = .ok (.dup, 1) := dk_89 (dk_at dksX1_perform_1 13 rfl rfl)
theorem dX1_perform_36 : decode cX1_perform 36 = .ok (.invokespecial 114, 3) := dk_183 0 114 (dk_at dksX1_perform_1 14 rfl rfl)
theorem dX1_perform_39 : decode cX1_perform 39 = .ok (.athrow, 1) := dk_191 (dk_at dksX1_perform_1 17 rfl rfl)
abbrev cX1_commit : ByteArray := prog_1_method_17_code
def yX1_commit : MethodName := ⟨RX1, "commit", "(I)I"⟩
def dkwX1_commit_2 : List UInt8 := [182, 0, 64, 42, 180, 0, 21, 42, 180, 0, 25, 182, 0, 94, 27, 172]
abbrev dktX1_commit_2 : List UInt8 := dkwX1_commit_2 ++ []
def dkwX1_commit_1 : List UInt8 := [180, 0, 38, 182, 0, 119, 192, 0, 18, 77, 44, 42, 180, 0, 21, 182, 0, 94, 42, 180, 0, 34, 44]
abbrev dktX1_commit_1 : List UInt8 := dkwX1_commit_1 ++ dktX1_commit_2
def dkwX1_commit_0 : List UInt8 := [42, 180, 0, 38, 182, 0, 115, 153, 0, 16, 42, 180, 0, 34, 182, 0, 119, 192, 0, 18, 167, 0, 13, 42]
abbrev dktX1_commit_0 : List UInt8 := dkwX1_commit_0 ++ dktX1_commit_1
theorem dksX1_commit_0 : cX1_commit.data.toList.drop 0 = dktX1_commit_0 := by decide +kernel
theorem dksX1_commit_1 : cX1_commit.data.toList.drop 24 = dktX1_commit_1 := dk_seg dksX1_commit_0 24 rfl rfl
theorem dksX1_commit_2 : cX1_commit.data.toList.drop 47 = dktX1_commit_2 := dk_seg dksX1_commit_1 23 rfl rfl
theorem dX1_commit_0 : decode cX1_commit 0 = .ok (.aload_n 0, 1) := dk_42 (dk_at dksX1_commit_0 0 rfl rfl)
theorem dX1_commit_1 : decode cX1_commit 1 = .ok (.getfield 38, 3) := dk_180 0 38 (dk_at dksX1_commit_0 1 rfl rfl)
theorem dX1_commit_4 : decode cX1_commit 4 = .ok (.invokevirtual 115, 3) := dk_182 0 115 (dk_at dksX1_commit_0 4 rfl rfl)
theorem dX1_commit_7 : decode cX1_commit 7 = .ok (.ifCond .eq 16, 3) := dk_153 0 16 (dk_at dksX1_commit_0 7 rfl rfl)
theorem dX1_commit_10 : decode cX1_commit 10 = .ok (.aload_n 0, 1) := dk_42 (dk_at dksX1_commit_0 10 rfl rfl)
theorem dX1_commit_11 : decode cX1_commit 11 = .ok (.getfield 34, 3) := dk_180 0 34 (dk_at dksX1_commit_0 11 rfl rfl)
theorem dX1_commit_14 : decode cX1_commit 14 = .ok (.invokevirtual 119, 3) := dk_182 0 119 (dk_at dksX1_commit_0 14 rfl rfl)
theorem dX1_commit_17 : decode cX1_commit 17 = .ok (.checkcast 18, 3) := dk_192 0 18 (dk_at dksX1_commit_0 17 rfl rfl)
theorem dX1_commit_20 : decode cX1_commit 20 = .ok (.goto 13, 3) := dk_167 0 13 (dk_at dksX1_commit_0 20 rfl rfl)
theorem dX1_commit_23 : decode cX1_commit 23 = .ok (.aload_n 0, 1) := dk_42 (dk_at dksX1_commit_0 23 rfl rfl)
theorem dX1_commit_24 : decode cX1_commit 24 = .ok (.getfield 38, 3) := dk_180 0 38 (dk_at dksX1_commit_1 0 rfl rfl)
theorem dX1_commit_27 : decode cX1_commit 27 = .ok (.invokevirtual 119, 3) := dk_182 0 119 (dk_at dksX1_commit_1 3 rfl rfl)
theorem dX1_commit_30 : decode cX1_commit 30 = .ok (.checkcast 18, 3) := dk_192 0 18 (dk_at dksX1_commit_1 6 rfl rfl)
theorem dX1_commit_33 : decode cX1_commit 33 = .ok (.astore_n 2, 1) := dk_77 (dk_at dksX1_commit_1 9 rfl rfl)
theorem dX1_commit_34 : decode cX1_commit 34 = .ok (.aload_n 2, 1) := dk_44 (dk_at dksX1_commit_1 10 rfl rfl)
theorem dX1_commit_35 : decode cX1_commit 35 = .ok (.aload_n 0, 1) := dk_42 (dk_at dksX1_commit_1 11 rfl rfl)
theorem dX1_commit_36 : decode cX1_commit 36 = .ok (.getfield 21, 3) := dk_180 0 21 (dk_at dksX1_commit_1 12 rfl rfl)
theorem dX1_commit_39 : decode cX1_commit 39 = .ok (.invokevirtual 94, 3) := dk_182 0 94 (dk_at dksX1_commit_1 15 rfl rfl)
theorem dX1_commit_42 : decode cX1_commit 42 = .ok (.aload_n 0, 1) := dk_42 (dk_at dksX1_commit_1 18 rfl rfl)
theorem dX1_commit_43 : decode cX1_commit 43 = .ok (.getfield 34, 3) := dk_180 0 34 (dk_at dksX1_commit_1 19 rfl rfl)
theorem dX1_commit_46 : decode cX1_commit 46 = .ok (.aload_n 2, 1) := dk_44 (dk_at dksX1_commit_1 22 rfl rfl)
theorem dX1_commit_47 : decode cX1_commit 47 = .ok (.invokevirtual 64, 3) := dk_182 0 64 (dk_at dksX1_commit_2 0 rfl rfl)
theorem dX1_commit_50 : decode cX1_commit 50 = .ok (.aload_n 0, 1) := dk_42 (dk_at dksX1_commit_2 3 rfl rfl)
theorem dX1_commit_51 : decode cX1_commit 51 = .ok (.getfield 21, 3) := dk_180 0 21 (dk_at dksX1_commit_2 4 rfl rfl)
theorem dX1_commit_54 : decode cX1_commit 54 = .ok (.aload_n 0, 1) := dk_42 (dk_at dksX1_commit_2 7 rfl rfl)
theorem dX1_commit_55 : decode cX1_commit 55 = .ok (.getfield 25, 3) := dk_180 0 25 (dk_at dksX1_commit_2 8 rfl rfl)
theorem dX1_commit_58 : decode cX1_commit 58 = .ok (.invokevirtual 94, 3) := dk_182 0 94 (dk_at dksX1_commit_2 11 rfl rfl)
theorem dX1_commit_61 : decode cX1_commit 61 = .ok (.iload_n 1, 1) := dk_27 (dk_at dksX1_commit_2 14 rfl rfl)
theorem dX1_commit_62 : decode cX1_commit 62 = .ok (.ireturn, 1) := dk_172 (dk_at dksX1_commit_2 15 rfl rfl)
abbrev cX1_dropRecipe : ByteArray := prog_1_method_22_code
def yX1_dropRecipe : MethodName := ⟨RX1, "dropRecipe", "(C)I"⟩
def dkwX1_dropRecipe_0 : List UInt8 := [42, 27, 186, 0, 157, 0, 0, 182, 0, 153, 172]
abbrev dktX1_dropRecipe_0 : List UInt8 := dkwX1_dropRecipe_0 ++ []
theorem dksX1_dropRecipe_0 : cX1_dropRecipe.data.toList.drop 0 = dktX1_dropRecipe_0 := by decide +kernel
theorem dX1_dropRecipe_0 : decode cX1_dropRecipe 0 = .ok (.aload_n 0, 1) := dk_42 (dk_at dksX1_dropRecipe_0 0 rfl rfl)
theorem dX1_dropRecipe_1 : decode cX1_dropRecipe 1 = .ok (.iload_n 1, 1) := dk_27 (dk_at dksX1_dropRecipe_0 1 rfl rfl)
theorem dX1_dropRecipe_2 : decode cX1_dropRecipe 2 = .ok (.invokedynamic 157, 5) := by decide +kernel
theorem dX1_dropRecipe_7 : decode cX1_dropRecipe 7 = .ok (.invokevirtual 153, 3) := dk_182 0 153 (dk_at dksX1_dropRecipe_0 7 rfl rfl)
theorem dX1_dropRecipe_10 : decode cX1_dropRecipe 10 = .ok (.ireturn, 1) := dk_172 (dk_at dksX1_dropRecipe_0 10 rfl rfl)
abbrev cX1_lambda_dropRecipe_1 : ByteArray := prog_1_method_87_code
def yX1_lambda_dropRecipe_1 : MethodName := ⟨RX1, "lambda$dropRecipe$1", "(CLClockworkTailor$State;)I"⟩
def dkwX1_lambda_dropRecipe_1_0 : List UInt8 := [43, 26, 182, 1, 160, 172]
abbrev dktX1_lambda_dropRecipe_1_0 : List UInt8 := dkwX1_lambda_dropRecipe_1_0 ++ []
theorem dksX1_lambda_dropRecipe_1_0 : cX1_lambda_dropRecipe_1.data.toList.drop 0 = dktX1_lambda_dropRecipe_1_0 := by decide +kernel
theorem dX1_lambda_dropRecipe_1_0 : decode cX1_lambda_dropRecipe_1 0 = .ok (.aload_n 1, 1) := dk_43 (dk_at dksX1_lambda_dropRecipe_1_0 0 rfl rfl)
theorem dX1_lambda_dropRecipe_1_1 : decode cX1_lambda_dropRecipe_1 1 = .ok (.iload_n 0, 1) := dk_26 (dk_at dksX1_lambda_dropRecipe_1_0 1 rfl rfl)
theorem dX1_lambda_dropRecipe_1_2 : decode cX1_lambda_dropRecipe_1 2 = .ok (.invokevirtual 416, 3) := dk_182 1 160 (dk_at dksX1_lambda_dropRecipe_1_0 2 rfl rfl)
theorem dX1_lambda_dropRecipe_1_5 : decode cX1_lambda_dropRecipe_1 5 = .ok (.ireturn, 1) := dk_172 (dk_at dksX1_lambda_dropRecipe_1_0 5 rfl rfl)
abbrev cX1_indexOf : ByteArray := prog_1_method_14_code
def yX1_indexOf : MethodName := ⟨RX1, "indexOf", "(C)I"⟩
def dkwX1_indexOf_0 : List UInt8 := [26, 184, 0, 87, 184, 0, 91, 26, 16, 97, 100, 172]
abbrev dktX1_indexOf_0 : List UInt8 := dkwX1_indexOf_0 ++ []
theorem dksX1_indexOf_0 : cX1_indexOf.data.toList.drop 0 = dktX1_indexOf_0 := by decide +kernel
theorem dX1_indexOf_0 : decode cX1_indexOf 0 = .ok (.iload_n 0, 1) := dk_26 (dk_at dksX1_indexOf_0 0 rfl rfl)
theorem dX1_indexOf_1 : decode cX1_indexOf 1 = .ok (.invokestatic 87, 3) := dk_184 0 87 (dk_at dksX1_indexOf_0 1 rfl rfl)
theorem dX1_indexOf_4 : decode cX1_indexOf 4 = .ok (.invokestatic 91, 3) := dk_184 0 91 (dk_at dksX1_indexOf_0 4 rfl rfl)
theorem dX1_indexOf_7 : decode cX1_indexOf 7 = .ok (.iload_n 0, 1) := dk_26 (dk_at dksX1_indexOf_0 7 rfl rfl)
theorem dX1_indexOf_8 : decode cX1_indexOf 8 = .ok (.bipush 97, 2) := dk_16 97 (dk_at dksX1_indexOf_0 8 rfl rfl)
theorem dX1_indexOf_10 : decode cX1_indexOf 10 = .ok (.isub, 1) := dk_100 (dk_at dksX1_indexOf_0 10 rfl rfl)
theorem dX1_indexOf_11 : decode cX1_indexOf 11 = .ok (.ireturn, 1) := dk_172 (dk_at dksX1_indexOf_0 11 rfl rfl)
abbrev cX1_checkElement : ByteArray := prog_1_method_9_code
def yX1_checkElement : MethodName := ⟨RX1, "checkElement", "(Z)V"⟩
def dkwX1_checkElement_0 : List UInt8 := [26, 154, 0, 11, 187, 0, 71, 89, 183, 0, 73, 191, 177]
abbrev dktX1_checkElement_0 : List UInt8 := dkwX1_checkElement_0 ++ []
theorem dksX1_checkElement_0 : cX1_checkElement.data.toList.drop 0 = dktX1_checkElement_0 := by decide +kernel
theorem dX1_checkElement_0 : decode cX1_checkElement 0 = .ok (.iload_n 0, 1) := dk_26 (dk_at dksX1_checkElement_0 0 rfl rfl)
theorem dX1_checkElement_1 : decode cX1_checkElement 1 = .ok (.ifCond .ne 11, 3) := dk_154 0 11 (dk_at dksX1_checkElement_0 1 rfl rfl)
theorem dX1_checkElement_4 : decode cX1_checkElement 4 = .ok (.new 71, 3) := dk_187 0 71 (dk_at dksX1_checkElement_0 4 rfl rfl)
theorem dX1_checkElement_7 : decode cX1_checkElement 7 = .ok (.dup, 1) := dk_89 (dk_at dksX1_checkElement_0 7 rfl rfl)
theorem dX1_checkElement_8 : decode cX1_checkElement 8 = .ok (.invokespecial 73, 3) := dk_183 0 73 (dk_at dksX1_checkElement_0 8 rfl rfl)
theorem dX1_checkElement_11 : decode cX1_checkElement 11 = .ok (.athrow, 1) := dk_191 (dk_at dksX1_checkElement_0 11 rfl rfl)
theorem dX1_checkElement_12 : decode cX1_checkElement 12 = .ok (.return_, 1) := dk_177 (dk_at dksX1_checkElement_0 12 rfl rfl)
abbrev cX1_addNeed : ByteArray := prog_1_method_23_code
def yX1_addNeed : MethodName := ⟨RX1, "addNeed", "(CCZ)I"⟩
def dkwX1_addNeed_0 : List UInt8 := [42, 27, 28, 29, 186, 0, 160, 0, 0, 182, 0, 153, 172]
abbrev dktX1_addNeed_0 : List UInt8 := dkwX1_addNeed_0 ++ []
theorem dksX1_addNeed_0 : cX1_addNeed.data.toList.drop 0 = dktX1_addNeed_0 := by decide +kernel
theorem dX1_addNeed_0 : decode cX1_addNeed 0 = .ok (.aload_n 0, 1) := dk_42 (dk_at dksX1_addNeed_0 0 rfl rfl)
theorem dX1_addNeed_1 : decode cX1_addNeed 1 = .ok (.iload_n 1, 1) := dk_27 (dk_at dksX1_addNeed_0 1 rfl rfl)
theorem dX1_addNeed_2 : decode cX1_addNeed 2 = .ok (.iload_n 2, 1) := dk_28 (dk_at dksX1_addNeed_0 2 rfl rfl)
theorem dX1_addNeed_3 : decode cX1_addNeed 3 = .ok (.iload_n 3, 1) := dk_29 (dk_at dksX1_addNeed_0 3 rfl rfl)
theorem dX1_addNeed_4 : decode cX1_addNeed 4 = .ok (.invokedynamic 160, 5) := by decide +kernel
theorem dX1_addNeed_9 : decode cX1_addNeed 9 = .ok (.invokevirtual 153, 3) := dk_182 0 153 (dk_at dksX1_addNeed_0 9 rfl rfl)
theorem dX1_addNeed_12 : decode cX1_addNeed 12 = .ok (.ireturn, 1) := dk_172 (dk_at dksX1_addNeed_0 12 rfl rfl)
abbrev cX1_lambda_addNeed_2 : ByteArray := prog_1_method_86_code
def yX1_lambda_addNeed_2 : MethodName := ⟨RX1, "lambda$addNeed$2", "(CCZLClockworkTailor$State;)I"⟩
def dkwX1_lambda_addNeed_2_0 : List UInt8 := [45, 26, 27, 28, 182, 1, 156, 172]
abbrev dktX1_lambda_addNeed_2_0 : List UInt8 := dkwX1_lambda_addNeed_2_0 ++ []
theorem dksX1_lambda_addNeed_2_0 : cX1_lambda_addNeed_2.data.toList.drop 0 = dktX1_lambda_addNeed_2_0 := by decide +kernel
theorem dX1_lambda_addNeed_2_0 : decode cX1_lambda_addNeed_2 0 = .ok (.aload_n 3, 1) := dk_45 (dk_at dksX1_lambda_addNeed_2_0 0 rfl rfl)
theorem dX1_lambda_addNeed_2_1 : decode cX1_lambda_addNeed_2 1 = .ok (.iload_n 0, 1) := dk_26 (dk_at dksX1_lambda_addNeed_2_0 1 rfl rfl)
theorem dX1_lambda_addNeed_2_2 : decode cX1_lambda_addNeed_2 2 = .ok (.iload_n 1, 1) := dk_27 (dk_at dksX1_lambda_addNeed_2_0 2 rfl rfl)
theorem dX1_lambda_addNeed_2_3 : decode cX1_lambda_addNeed_2 3 = .ok (.iload_n 2, 1) := dk_28 (dk_at dksX1_lambda_addNeed_2_0 3 rfl rfl)
theorem dX1_lambda_addNeed_2_4 : decode cX1_lambda_addNeed_2 4 = .ok (.invokevirtual 412, 3) := dk_182 1 156 (dk_at dksX1_lambda_addNeed_2_0 4 rfl rfl)
theorem dX1_lambda_addNeed_2_7 : decode cX1_lambda_addNeed_2 7 = .ok (.ireturn, 1) := dk_172 (dk_at dksX1_lambda_addNeed_2_0 7 rfl rfl)
abbrev cX1_removeNeed : ByteArray := prog_1_method_24_code
def yX1_removeNeed : MethodName := ⟨RX1, "removeNeed", "(CC)I"⟩
def dkwX1_removeNeed_0 : List UInt8 := [42, 27, 28, 186, 0, 163, 0, 0, 182, 0, 153, 172]
abbrev dktX1_removeNeed_0 : List UInt8 := dkwX1_removeNeed_0 ++ []
theorem dksX1_removeNeed_0 : cX1_removeNeed.data.toList.drop 0 = dktX1_removeNeed_0 := by decide +kernel
theorem dX1_removeNeed_0 : decode cX1_removeNeed 0 = .ok (.aload_n 0, 1) := dk_42 (dk_at dksX1_removeNeed_0 0 rfl rfl)
theorem dX1_removeNeed_1 : decode cX1_removeNeed 1 = .ok (.iload_n 1, 1) := dk_27 (dk_at dksX1_removeNeed_0 1 rfl rfl)
theorem dX1_removeNeed_2 : decode cX1_removeNeed 2 = .ok (.iload_n 2, 1) := dk_28 (dk_at dksX1_removeNeed_0 2 rfl rfl)
theorem dX1_removeNeed_3 : decode cX1_removeNeed 3 = .ok (.invokedynamic 163, 5) := by decide +kernel
theorem dX1_removeNeed_8 : decode cX1_removeNeed 8 = .ok (.invokevirtual 153, 3) := dk_182 0 153 (dk_at dksX1_removeNeed_0 8 rfl rfl)
theorem dX1_removeNeed_11 : decode cX1_removeNeed 11 = .ok (.ireturn, 1) := dk_172 (dk_at dksX1_removeNeed_0 11 rfl rfl)
abbrev cX1_lambda_removeNeed_3 : ByteArray := prog_1_method_85_code
def yX1_lambda_removeNeed_3 : MethodName := ⟨RX1, "lambda$removeNeed$3", "(CCLClockworkTailor$State;)I"⟩
def dkwX1_lambda_removeNeed_3_0 : List UInt8 := [44, 26, 27, 182, 1, 153, 172]
abbrev dktX1_lambda_removeNeed_3_0 : List UInt8 := dkwX1_lambda_removeNeed_3_0 ++ []
theorem dksX1_lambda_removeNeed_3_0 : cX1_lambda_removeNeed_3.data.toList.drop 0 = dktX1_lambda_removeNeed_3_0 := by decide +kernel
theorem dX1_lambda_removeNeed_3_0 : decode cX1_lambda_removeNeed_3 0 = .ok (.aload_n 2, 1) := dk_44 (dk_at dksX1_lambda_removeNeed_3_0 0 rfl rfl)
theorem dX1_lambda_removeNeed_3_1 : decode cX1_lambda_removeNeed_3 1 = .ok (.iload_n 0, 1) := dk_26 (dk_at dksX1_lambda_removeNeed_3_0 1 rfl rfl)
theorem dX1_lambda_removeNeed_3_2 : decode cX1_lambda_removeNeed_3 2 = .ok (.iload_n 1, 1) := dk_27 (dk_at dksX1_lambda_removeNeed_3_0 2 rfl rfl)
theorem dX1_lambda_removeNeed_3_3 : decode cX1_lambda_removeNeed_3 3 = .ok (.invokevirtual 409, 3) := dk_182 1 153 (dk_at dksX1_lambda_removeNeed_3_0 3 rfl rfl)
theorem dX1_lambda_removeNeed_3_6 : decode cX1_lambda_removeNeed_3 6 = .ok (.ireturn, 1) := dk_172 (dk_at dksX1_lambda_removeNeed_3_0 6 rfl rfl)
abbrev cX1_found : ByteArray := prog_1_method_12_code
def yX1_found : MethodName := ⟨RX1, "found", "(I)I"⟩
def dkwX1_found_0 : List UInt8 := [26, 2, 159, 0, 7, 4, 167, 0, 4, 3, 184, 0, 80, 26, 172]
abbrev dktX1_found_0 : List UInt8 := dkwX1_found_0 ++ []
theorem dksX1_found_0 : cX1_found.data.toList.drop 0 = dktX1_found_0 := by decide +kernel
theorem dX1_found_0 : decode cX1_found 0 = .ok (.iload_n 0, 1) := dk_26 (dk_at dksX1_found_0 0 rfl rfl)
theorem dX1_found_1 : decode cX1_found 1 = .ok (.iconst (-1), 1) := dk_2 (dk_at dksX1_found_0 1 rfl rfl)
theorem dX1_found_2 : decode cX1_found 2 = .ok (.if_icmp .eq 7, 3) := dk_159 0 7 (dk_at dksX1_found_0 2 rfl rfl)
theorem dX1_found_5 : decode cX1_found 5 = .ok (.iconst 1, 1) := dk_4 (dk_at dksX1_found_0 5 rfl rfl)
theorem dX1_found_6 : decode cX1_found 6 = .ok (.goto 4, 3) := dk_167 0 4 (dk_at dksX1_found_0 6 rfl rfl)
theorem dX1_found_9 : decode cX1_found 9 = .ok (.iconst 0, 1) := dk_3 (dk_at dksX1_found_0 9 rfl rfl)
theorem dX1_found_10 : decode cX1_found 10 = .ok (.invokestatic 80, 3) := dk_184 0 80 (dk_at dksX1_found_0 10 rfl rfl)
theorem dX1_found_13 : decode cX1_found 13 = .ok (.iload_n 0, 1) := dk_26 (dk_at dksX1_found_0 13 rfl rfl)
theorem dX1_found_14 : decode cX1_found 14 = .ok (.ireturn, 1) := dk_172 (dk_at dksX1_found_0 14 rfl rfl)
abbrev cX1_hasRecipe : ByteArray := prog_1_method_26_code
def yX1_hasRecipe : MethodName := ⟨RX1, "hasRecipe", "(C)Z"⟩
def dkwX1_hasRecipe_0 : List UInt8 := [42, 182, 0, 138, 180, 0, 170, 27, 184, 0, 127, 51, 172]
abbrev dktX1_hasRecipe_0 : List UInt8 := dkwX1_hasRecipe_0 ++ []
theorem dksX1_hasRecipe_0 : cX1_hasRecipe.data.toList.drop 0 = dktX1_hasRecipe_0 := by decide +kernel
theorem dX1_hasRecipe_0 : decode cX1_hasRecipe 0 = .ok (.aload_n 0, 1) := dk_42 (dk_at dksX1_hasRecipe_0 0 rfl rfl)
theorem dX1_hasRecipe_1 : decode cX1_hasRecipe 1 = .ok (.invokevirtual 138, 3) := dk_182 0 138 (dk_at dksX1_hasRecipe_0 1 rfl rfl)
theorem dX1_hasRecipe_4 : decode cX1_hasRecipe 4 = .ok (.getfield 170, 3) := dk_180 0 170 (dk_at dksX1_hasRecipe_0 4 rfl rfl)
theorem dX1_hasRecipe_7 : decode cX1_hasRecipe 7 = .ok (.iload_n 1, 1) := dk_27 (dk_at dksX1_hasRecipe_0 7 rfl rfl)
theorem dX1_hasRecipe_8 : decode cX1_hasRecipe 8 = .ok (.invokestatic 127, 3) := dk_184 0 127 (dk_at dksX1_hasRecipe_0 8 rfl rfl)
theorem dX1_hasRecipe_11 : decode cX1_hasRecipe 11 = .ok (.baload, 1) := dk_51 (dk_at dksX1_hasRecipe_0 11 rfl rfl)
theorem dX1_hasRecipe_12 : decode cX1_hasRecipe 12 = .ok (.ireturn, 1) := dk_172 (dk_at dksX1_hasRecipe_0 12 rfl rfl)
abbrev cX1_scopeOf : ByteArray := prog_1_method_27_code
def yX1_scopeOf : MethodName := ⟨RX1, "scopeOf", "(C)C"⟩
def dkwX1_scopeOf_0 : List UInt8 := [42, 182, 0, 138, 180, 0, 174, 42, 27, 182, 0, 135, 52, 172]
abbrev dktX1_scopeOf_0 : List UInt8 := dkwX1_scopeOf_0 ++ []
theorem dksX1_scopeOf_0 : cX1_scopeOf.data.toList.drop 0 = dktX1_scopeOf_0 := by decide +kernel
theorem dX1_scopeOf_0 : decode cX1_scopeOf 0 = .ok (.aload_n 0, 1) := dk_42 (dk_at dksX1_scopeOf_0 0 rfl rfl)
theorem dX1_scopeOf_1 : decode cX1_scopeOf 1 = .ok (.invokevirtual 138, 3) := dk_182 0 138 (dk_at dksX1_scopeOf_0 1 rfl rfl)
theorem dX1_scopeOf_4 : decode cX1_scopeOf 4 = .ok (.getfield 174, 3) := dk_180 0 174 (dk_at dksX1_scopeOf_0 4 rfl rfl)
theorem dX1_scopeOf_7 : decode cX1_scopeOf 7 = .ok (.aload_n 0, 1) := dk_42 (dk_at dksX1_scopeOf_0 7 rfl rfl)
theorem dX1_scopeOf_8 : decode cX1_scopeOf 8 = .ok (.iload_n 1, 1) := dk_27 (dk_at dksX1_scopeOf_0 8 rfl rfl)
theorem dX1_scopeOf_9 : decode cX1_scopeOf 9 = .ok (.invokevirtual 135, 3) := dk_182 0 135 (dk_at dksX1_scopeOf_0 9 rfl rfl)
theorem dX1_scopeOf_12 : decode cX1_scopeOf 12 = .ok (.caload, 1) := dk_52 (dk_at dksX1_scopeOf_0 12 rfl rfl)
theorem dX1_scopeOf_13 : decode cX1_scopeOf 13 = .ok (.ireturn, 1) := dk_172 (dk_at dksX1_scopeOf_0 13 rfl rfl)
abbrev cX1_withRecipe : ByteArray := prog_1_method_19_code
def yX1_withRecipe : MethodName := ⟨RX1, "withRecipe", "(C)I"⟩
def dkwX1_withRecipe_0 : List UInt8 := [27, 184, 0, 127, 61, 42, 180, 0, 21, 28, 182, 0, 131, 28, 172]
abbrev dktX1_withRecipe_0 : List UInt8 := dkwX1_withRecipe_0 ++ []
theorem dksX1_withRecipe_0 : cX1_withRecipe.data.toList.drop 0 = dktX1_withRecipe_0 := by decide +kernel
theorem dX1_withRecipe_0 : decode cX1_withRecipe 0 = .ok (.iload_n 1, 1) := dk_27 (dk_at dksX1_withRecipe_0 0 rfl rfl)
theorem dX1_withRecipe_1 : decode cX1_withRecipe 1 = .ok (.invokestatic 127, 3) := dk_184 0 127 (dk_at dksX1_withRecipe_0 1 rfl rfl)
theorem dX1_withRecipe_4 : decode cX1_withRecipe 4 = .ok (.istore_n 2, 1) := dk_61 (dk_at dksX1_withRecipe_0 4 rfl rfl)
theorem dX1_withRecipe_5 : decode cX1_withRecipe 5 = .ok (.aload_n 0, 1) := dk_42 (dk_at dksX1_withRecipe_0 5 rfl rfl)
theorem dX1_withRecipe_6 : decode cX1_withRecipe 6 = .ok (.getfield 21, 3) := dk_180 0 21 (dk_at dksX1_withRecipe_0 6 rfl rfl)
theorem dX1_withRecipe_9 : decode cX1_withRecipe 9 = .ok (.iload_n 2, 1) := dk_28 (dk_at dksX1_withRecipe_0 9 rfl rfl)
theorem dX1_withRecipe_10 : decode cX1_withRecipe 10 = .ok (.invokevirtual 131, 3) := dk_182 0 131 (dk_at dksX1_withRecipe_0 10 rfl rfl)
theorem dX1_withRecipe_13 : decode cX1_withRecipe 13 = .ok (.iload_n 2, 1) := dk_28 (dk_at dksX1_withRecipe_0 13 rfl rfl)
theorem dX1_withRecipe_14 : decode cX1_withRecipe 14 = .ok (.ireturn, 1) := dk_172 (dk_at dksX1_withRecipe_0 14 rfl rfl)
abbrev cX1_needCount : ByteArray := prog_1_method_28_code
def yX1_needCount : MethodName := ⟨RX1, "needCount", "(C)I"⟩
def dkwX1_needCount_0 : List UInt8 := [42, 182, 0, 138, 180, 0, 141, 42, 27, 182, 0, 135, 46, 172]
abbrev dktX1_needCount_0 : List UInt8 := dkwX1_needCount_0 ++ []
theorem dksX1_needCount_0 : cX1_needCount.data.toList.drop 0 = dktX1_needCount_0 := by decide +kernel
theorem dX1_needCount_0 : decode cX1_needCount 0 = .ok (.aload_n 0, 1) := dk_42 (dk_at dksX1_needCount_0 0 rfl rfl)
theorem dX1_needCount_1 : decode cX1_needCount 1 = .ok (.invokevirtual 138, 3) := dk_182 0 138 (dk_at dksX1_needCount_0 1 rfl rfl)
theorem dX1_needCount_4 : decode cX1_needCount 4 = .ok (.getfield 141, 3) := dk_180 0 141 (dk_at dksX1_needCount_0 4 rfl rfl)
theorem dX1_needCount_7 : decode cX1_needCount 7 = .ok (.aload_n 0, 1) := dk_42 (dk_at dksX1_needCount_0 7 rfl rfl)
theorem dX1_needCount_8 : decode cX1_needCount 8 = .ok (.iload_n 1, 1) := dk_27 (dk_at dksX1_needCount_0 8 rfl rfl)
theorem dX1_needCount_9 : decode cX1_needCount 9 = .ok (.invokevirtual 135, 3) := dk_182 0 135 (dk_at dksX1_needCount_0 9 rfl rfl)
theorem dX1_needCount_12 : decode cX1_needCount 12 = .ok (.iaload, 1) := dk_46 (dk_at dksX1_needCount_0 12 rfl rfl)
theorem dX1_needCount_13 : decode cX1_needCount 13 = .ok (.ireturn, 1) := dk_172 (dk_at dksX1_needCount_0 13 rfl rfl)
abbrev cX1_needAt : ByteArray := prog_1_method_29_code
def yX1_needAt : MethodName := ⟨RX1, "needAt", "(CI)C"⟩
def dkwX1_needAt_0 : List UInt8 := [42, 182, 0, 138, 42, 27, 28, 182, 0, 178, 28, 182, 0, 182, 184, 0, 186, 172]
abbrev dktX1_needAt_0 : List UInt8 := dkwX1_needAt_0 ++ []
theorem dksX1_needAt_0 : cX1_needAt.data.toList.drop 0 = dktX1_needAt_0 := by decide +kernel
theorem dX1_needAt_0 : decode cX1_needAt 0 = .ok (.aload_n 0, 1) := dk_42 (dk_at dksX1_needAt_0 0 rfl rfl)
theorem dX1_needAt_1 : decode cX1_needAt 1 = .ok (.invokevirtual 138, 3) := dk_182 0 138 (dk_at dksX1_needAt_0 1 rfl rfl)
theorem dX1_needAt_4 : decode cX1_needAt 4 = .ok (.aload_n 0, 1) := dk_42 (dk_at dksX1_needAt_0 4 rfl rfl)
theorem dX1_needAt_5 : decode cX1_needAt 5 = .ok (.iload_n 1, 1) := dk_27 (dk_at dksX1_needAt_0 5 rfl rfl)
theorem dX1_needAt_6 : decode cX1_needAt 6 = .ok (.iload_n 2, 1) := dk_28 (dk_at dksX1_needAt_0 6 rfl rfl)
theorem dX1_needAt_7 : decode cX1_needAt 7 = .ok (.invokevirtual 178, 3) := dk_182 0 178 (dk_at dksX1_needAt_0 7 rfl rfl)
theorem dX1_needAt_10 : decode cX1_needAt 10 = .ok (.iload_n 2, 1) := dk_28 (dk_at dksX1_needAt_0 10 rfl rfl)
theorem dX1_needAt_11 : decode cX1_needAt 11 = .ok (.invokevirtual 182, 3) := dk_182 0 182 (dk_at dksX1_needAt_0 11 rfl rfl)
theorem dX1_needAt_14 : decode cX1_needAt 14 = .ok (.invokestatic 186, 3) := dk_184 0 186 (dk_at dksX1_needAt_0 14 rfl rfl)
theorem dX1_needAt_17 : decode cX1_needAt 17 = .ok (.ireturn, 1) := dk_172 (dk_at dksX1_needAt_0 17 rfl rfl)
abbrev cX1_withNeed : ByteArray := prog_1_method_20_code
def yX1_withNeed : MethodName := ⟨RX1, "withNeed", "(CI)I"⟩
def dkwX1_withNeed_1 : List UInt8 := [184, 0, 147, 29, 172]
abbrev dktX1_withNeed_1 : List UInt8 := dkwX1_withNeed_1 ++ []
def dkwX1_withNeed_0 : List UInt8 := [42, 27, 182, 0, 135, 62, 28, 3, 42, 182, 0, 138, 180, 0, 141, 29, 46, 4, 100, 184, 0, 3]
abbrev dktX1_withNeed_0 : List UInt8 := dkwX1_withNeed_0 ++ dktX1_withNeed_1
theorem dksX1_withNeed_0 : cX1_withNeed.data.toList.drop 0 = dktX1_withNeed_0 := by decide +kernel
theorem dksX1_withNeed_1 : cX1_withNeed.data.toList.drop 22 = dktX1_withNeed_1 := dk_seg dksX1_withNeed_0 22 rfl rfl
theorem dX1_withNeed_0 : decode cX1_withNeed 0 = .ok (.aload_n 0, 1) := dk_42 (dk_at dksX1_withNeed_0 0 rfl rfl)
theorem dX1_withNeed_1 : decode cX1_withNeed 1 = .ok (.iload_n 1, 1) := dk_27 (dk_at dksX1_withNeed_0 1 rfl rfl)
theorem dX1_withNeed_2 : decode cX1_withNeed 2 = .ok (.invokevirtual 135, 3) := dk_182 0 135 (dk_at dksX1_withNeed_0 2 rfl rfl)
theorem dX1_withNeed_5 : decode cX1_withNeed 5 = .ok (.istore_n 3, 1) := dk_62 (dk_at dksX1_withNeed_0 5 rfl rfl)
theorem dX1_withNeed_6 : decode cX1_withNeed 6 = .ok (.iload_n 2, 1) := dk_28 (dk_at dksX1_withNeed_0 6 rfl rfl)
theorem dX1_withNeed_7 : decode cX1_withNeed 7 = .ok (.iconst 0, 1) := dk_3 (dk_at dksX1_withNeed_0 7 rfl rfl)
theorem dX1_withNeed_8 : decode cX1_withNeed 8 = .ok (.aload_n 0, 1) := dk_42 (dk_at dksX1_withNeed_0 8 rfl rfl)
theorem dX1_withNeed_9 : decode cX1_withNeed 9 = .ok (.invokevirtual 138, 3) := dk_182 0 138 (dk_at dksX1_withNeed_0 9 rfl rfl)
theorem dX1_withNeed_12 : decode cX1_withNeed 12 = .ok (.getfield 141, 3) := dk_180 0 141 (dk_at dksX1_withNeed_0 12 rfl rfl)
theorem dX1_withNeed_15 : decode cX1_withNeed 15 = .ok (.iload_n 3, 1) := dk_29 (dk_at dksX1_withNeed_0 15 rfl rfl)
theorem dX1_withNeed_16 : decode cX1_withNeed 16 = .ok (.iaload, 1) := dk_46 (dk_at dksX1_withNeed_0 16 rfl rfl)
theorem dX1_withNeed_17 : decode cX1_withNeed 17 = .ok (.iconst 1, 1) := dk_4 (dk_at dksX1_withNeed_0 17 rfl rfl)
theorem dX1_withNeed_18 : decode cX1_withNeed 18 = .ok (.isub, 1) := dk_100 (dk_at dksX1_withNeed_0 18 rfl rfl)
theorem dX1_withNeed_19 : decode cX1_withNeed 19 = .ok (.invokestatic 3, 3) := dk_184 0 3 (dk_at dksX1_withNeed_0 19 rfl rfl)
theorem dX1_withNeed_22 : decode cX1_withNeed 22 = .ok (.invokestatic 147, 3) := dk_184 0 147 (dk_at dksX1_withNeed_1 0 rfl rfl)
theorem dX1_withNeed_25 : decode cX1_withNeed 25 = .ok (.iload_n 3, 1) := dk_29 (dk_at dksX1_withNeed_1 3 rfl rfl)
theorem dX1_withNeed_26 : decode cX1_withNeed 26 = .ok (.ireturn, 1) := dk_172 (dk_at dksX1_withNeed_1 4 rfl rfl)
abbrev cX1_checkIndex : ByteArray := prog_1_method_11_code
def yX1_checkIndex : MethodName := ⟨RX1, "checkIndex", "(Z)V"⟩
def dkwX1_checkIndex_0 : List UInt8 := [26, 154, 0, 11, 187, 0, 77, 89, 183, 0, 79, 191, 177]
abbrev dktX1_checkIndex_0 : List UInt8 := dkwX1_checkIndex_0 ++ []
theorem dksX1_checkIndex_0 : cX1_checkIndex.data.toList.drop 0 = dktX1_checkIndex_0 := by decide +kernel
theorem dX1_checkIndex_0 : decode cX1_checkIndex 0 = .ok (.iload_n 0, 1) := dk_26 (dk_at dksX1_checkIndex_0 0 rfl rfl)
theorem dX1_checkIndex_1 : decode cX1_checkIndex 1 = .ok (.ifCond .ne 11, 3) := dk_154 0 11 (dk_at dksX1_checkIndex_0 1 rfl rfl)
theorem dX1_checkIndex_4 : decode cX1_checkIndex 4 = .ok (.new 77, 3) := dk_187 0 77 (dk_at dksX1_checkIndex_0 4 rfl rfl)
theorem dX1_checkIndex_7 : decode cX1_checkIndex 7 = .ok (.dup, 1) := dk_89 (dk_at dksX1_checkIndex_0 7 rfl rfl)
theorem dX1_checkIndex_8 : decode cX1_checkIndex 8 = .ok (.invokespecial 79, 3) := dk_183 0 79 (dk_at dksX1_checkIndex_0 8 rfl rfl)
theorem dX1_checkIndex_11 : decode cX1_checkIndex 11 = .ok (.athrow, 1) := dk_191 (dk_at dksX1_checkIndex_0 11 rfl rfl)
theorem dX1_checkIndex_12 : decode cX1_checkIndex 12 = .ok (.return_, 1) := dk_177 (dk_at dksX1_checkIndex_0 12 rfl rfl)
abbrev cX1_letterOf : ByteArray := prog_1_method_6_code
def yX1_letterOf : MethodName := ⟨RX1, "letterOf", "(I)C"⟩
def dkwX1_letterOf_0 : List UInt8 := [16, 97, 26, 96, 146, 172]
abbrev dktX1_letterOf_0 : List UInt8 := dkwX1_letterOf_0 ++ []
theorem dksX1_letterOf_0 : cX1_letterOf.data.toList.drop 0 = dktX1_letterOf_0 := by decide +kernel
theorem dX1_letterOf_0 : decode cX1_letterOf 0 = .ok (.bipush 97, 2) := dk_16 97 (dk_at dksX1_letterOf_0 0 rfl rfl)
theorem dX1_letterOf_2 : decode cX1_letterOf 2 = .ok (.iload_n 0, 1) := dk_26 (dk_at dksX1_letterOf_0 2 rfl rfl)
theorem dX1_letterOf_3 : decode cX1_letterOf 3 = .ok (.iadd, 1) := dk_96 (dk_at dksX1_letterOf_0 3 rfl rfl)
theorem dX1_letterOf_4 : decode cX1_letterOf 4 = .ok (.i2c, 1) := dk_146 (dk_at dksX1_letterOf_0 4 rfl rfl)
theorem dX1_letterOf_5 : decode cX1_letterOf 5 = .ok (.ireturn, 1) := dk_172 (dk_at dksX1_letterOf_0 5 rfl rfl)
abbrev cX1_isLazyNeed : ByteArray := prog_1_method_30_code
def yX1_isLazyNeed : MethodName := ⟨RX1, "isLazyNeed", "(CI)Z"⟩
def dkwX1_isLazyNeed_0 : List UInt8 := [42, 182, 0, 138, 42, 27, 28, 182, 0, 178, 28, 182, 0, 190, 172]
abbrev dktX1_isLazyNeed_0 : List UInt8 := dkwX1_isLazyNeed_0 ++ []
theorem dksX1_isLazyNeed_0 : cX1_isLazyNeed.data.toList.drop 0 = dktX1_isLazyNeed_0 := by decide +kernel
theorem dX1_isLazyNeed_0 : decode cX1_isLazyNeed 0 = .ok (.aload_n 0, 1) := dk_42 (dk_at dksX1_isLazyNeed_0 0 rfl rfl)
theorem dX1_isLazyNeed_1 : decode cX1_isLazyNeed 1 = .ok (.invokevirtual 138, 3) := dk_182 0 138 (dk_at dksX1_isLazyNeed_0 1 rfl rfl)
theorem dX1_isLazyNeed_4 : decode cX1_isLazyNeed 4 = .ok (.aload_n 0, 1) := dk_42 (dk_at dksX1_isLazyNeed_0 4 rfl rfl)
theorem dX1_isLazyNeed_5 : decode cX1_isLazyNeed 5 = .ok (.iload_n 1, 1) := dk_27 (dk_at dksX1_isLazyNeed_0 5 rfl rfl)
theorem dX1_isLazyNeed_6 : decode cX1_isLazyNeed 6 = .ok (.iload_n 2, 1) := dk_28 (dk_at dksX1_isLazyNeed_0 6 rfl rfl)
theorem dX1_isLazyNeed_7 : decode cX1_isLazyNeed 7 = .ok (.invokevirtual 178, 3) := dk_182 0 178 (dk_at dksX1_isLazyNeed_0 7 rfl rfl)
theorem dX1_isLazyNeed_10 : decode cX1_isLazyNeed 10 = .ok (.iload_n 2, 1) := dk_28 (dk_at dksX1_isLazyNeed_0 10 rfl rfl)
theorem dX1_isLazyNeed_11 : decode cX1_isLazyNeed 11 = .ok (.invokevirtual 190, 3) := dk_182 0 190 (dk_at dksX1_isLazyNeed_0 11 rfl rfl)
theorem dX1_isLazyNeed_14 : decode cX1_isLazyNeed 14 = .ok (.ireturn, 1) := dk_172 (dk_at dksX1_isLazyNeed_0 14 rfl rfl)
abbrev cX1_replace : ByteArray := prog_1_method_31_code
def yX1_replace : MethodName := ⟨RX1, "replace", "(CC)I"⟩
def dkwX1_replace_0 : List UInt8 := [42, 27, 28, 186, 0, 194, 0, 0, 182, 0, 153, 172]
abbrev dktX1_replace_0 : List UInt8 := dkwX1_replace_0 ++ []
theorem dksX1_replace_0 : cX1_replace.data.toList.drop 0 = dktX1_replace_0 := by decide +kernel
theorem dX1_replace_0 : decode cX1_replace 0 = .ok (.aload_n 0, 1) := dk_42 (dk_at dksX1_replace_0 0 rfl rfl)
theorem dX1_replace_1 : decode cX1_replace 1 = .ok (.iload_n 1, 1) := dk_27 (dk_at dksX1_replace_0 1 rfl rfl)
theorem dX1_replace_2 : decode cX1_replace 2 = .ok (.iload_n 2, 1) := dk_28 (dk_at dksX1_replace_0 2 rfl rfl)
theorem dX1_replace_3 : decode cX1_replace 3 = .ok (.invokedynamic 194, 5) := by decide +kernel
theorem dX1_replace_8 : decode cX1_replace 8 = .ok (.invokevirtual 153, 3) := dk_182 0 153 (dk_at dksX1_replace_0 8 rfl rfl)
theorem dX1_replace_11 : decode cX1_replace 11 = .ok (.ireturn, 1) := dk_172 (dk_at dksX1_replace_0 11 rfl rfl)
abbrev cX1_lambda_replace_4 : ByteArray := prog_1_method_84_code
def yX1_lambda_replace_4 : MethodName := ⟨RX1, "lambda$replace$4", "(CCLClockworkTailor$State;)I"⟩
def dkwX1_lambda_replace_4_0 : List UInt8 := [44, 26, 27, 182, 1, 149, 172]
abbrev dktX1_lambda_replace_4_0 : List UInt8 := dkwX1_lambda_replace_4_0 ++ []
theorem dksX1_lambda_replace_4_0 : cX1_lambda_replace_4.data.toList.drop 0 = dktX1_lambda_replace_4_0 := by decide +kernel
theorem dX1_lambda_replace_4_0 : decode cX1_lambda_replace_4 0 = .ok (.aload_n 2, 1) := dk_44 (dk_at dksX1_lambda_replace_4_0 0 rfl rfl)
theorem dX1_lambda_replace_4_1 : decode cX1_lambda_replace_4 1 = .ok (.iload_n 0, 1) := dk_26 (dk_at dksX1_lambda_replace_4_0 1 rfl rfl)
theorem dX1_lambda_replace_4_2 : decode cX1_lambda_replace_4 2 = .ok (.iload_n 1, 1) := dk_27 (dk_at dksX1_lambda_replace_4_0 2 rfl rfl)
theorem dX1_lambda_replace_4_3 : decode cX1_lambda_replace_4 3 = .ok (.invokevirtual 405, 3) := dk_182 1 149 (dk_at dksX1_lambda_replace_4_0 3 rfl rfl)
theorem dX1_lambda_replace_4_6 : decode cX1_lambda_replace_4 6 = .ok (.ireturn, 1) := dk_172 (dk_at dksX1_lambda_replace_4_0 6 rfl rfl)
abbrev cX1_putBack : ByteArray := prog_1_method_32_code
def yX1_putBack : MethodName := ⟨RX1, "putBack", "(C)C"⟩
def dkwX1_putBack_0 : List UInt8 := [42, 27, 186, 0, 195, 0, 0, 182, 0, 153, 146, 172]
abbrev dktX1_putBack_0 : List UInt8 := dkwX1_putBack_0 ++ []
theorem dksX1_putBack_0 : cX1_putBack.data.toList.drop 0 = dktX1_putBack_0 := by decide +kernel
theorem dX1_putBack_0 : decode cX1_putBack 0 = .ok (.aload_n 0, 1) := dk_42 (dk_at dksX1_putBack_0 0 rfl rfl)
theorem dX1_putBack_1 : decode cX1_putBack 1 = .ok (.iload_n 1, 1) := dk_27 (dk_at dksX1_putBack_0 1 rfl rfl)
theorem dX1_putBack_2 : decode cX1_putBack 2 = .ok (.invokedynamic 195, 5) := by decide +kernel
theorem dX1_putBack_7 : decode cX1_putBack 7 = .ok (.invokevirtual 153, 3) := dk_182 0 153 (dk_at dksX1_putBack_0 7 rfl rfl)
theorem dX1_putBack_10 : decode cX1_putBack 10 = .ok (.i2c, 1) := dk_146 (dk_at dksX1_putBack_0 10 rfl rfl)
theorem dX1_putBack_11 : decode cX1_putBack 11 = .ok (.ireturn, 1) := dk_172 (dk_at dksX1_putBack_0 11 rfl rfl)
abbrev cX1_lambda_putBack_5 : ByteArray := prog_1_method_83_code
def yX1_lambda_putBack_5 : MethodName := ⟨RX1, "lambda$putBack$5", "(CLClockworkTailor$State;)I"⟩
def dkwX1_lambda_putBack_5_0 : List UInt8 := [43, 26, 182, 1, 145, 172]
abbrev dktX1_lambda_putBack_5_0 : List UInt8 := dkwX1_lambda_putBack_5_0 ++ []
theorem dksX1_lambda_putBack_5_0 : cX1_lambda_putBack_5.data.toList.drop 0 = dktX1_lambda_putBack_5_0 := by decide +kernel
theorem dX1_lambda_putBack_5_0 : decode cX1_lambda_putBack_5 0 = .ok (.aload_n 1, 1) := dk_43 (dk_at dksX1_lambda_putBack_5_0 0 rfl rfl)
theorem dX1_lambda_putBack_5_1 : decode cX1_lambda_putBack_5 1 = .ok (.iload_n 0, 1) := dk_26 (dk_at dksX1_lambda_putBack_5_0 1 rfl rfl)
theorem dX1_lambda_putBack_5_2 : decode cX1_lambda_putBack_5 2 = .ok (.invokevirtual 401, 3) := dk_182 1 145 (dk_at dksX1_lambda_putBack_5_0 2 rfl rfl)
theorem dX1_lambda_putBack_5_5 : decode cX1_lambda_putBack_5 5 = .ok (.ireturn, 1) := dk_172 (dk_at dksX1_lambda_putBack_5_0 5 rfl rfl)
abbrev cX1_standInFor : ByteArray := prog_1_method_33_code
def yX1_standInFor : MethodName := ⟨RX1, "standInFor", "(C)C"⟩
def dkwX1_standInFor_0 : List UInt8 := [42, 182, 0, 138, 27, 184, 0, 127, 182, 0, 196, 184, 0, 186, 172]
abbrev dktX1_standInFor_0 : List UInt8 := dkwX1_standInFor_0 ++ []
theorem dksX1_standInFor_0 : cX1_standInFor.data.toList.drop 0 = dktX1_standInFor_0 := by decide +kernel
theorem dX1_standInFor_0 : decode cX1_standInFor 0 = .ok (.aload_n 0, 1) := dk_42 (dk_at dksX1_standInFor_0 0 rfl rfl)
theorem dX1_standInFor_1 : decode cX1_standInFor 1 = .ok (.invokevirtual 138, 3) := dk_182 0 138 (dk_at dksX1_standInFor_0 1 rfl rfl)
theorem dX1_standInFor_4 : decode cX1_standInFor 4 = .ok (.iload_n 1, 1) := dk_27 (dk_at dksX1_standInFor_0 4 rfl rfl)
theorem dX1_standInFor_5 : decode cX1_standInFor 5 = .ok (.invokestatic 127, 3) := dk_184 0 127 (dk_at dksX1_standInFor_0 5 rfl rfl)
theorem dX1_standInFor_8 : decode cX1_standInFor 8 = .ok (.invokevirtual 196, 3) := dk_182 0 196 (dk_at dksX1_standInFor_0 8 rfl rfl)
theorem dX1_standInFor_11 : decode cX1_standInFor 11 = .ok (.invokestatic 186, 3) := dk_184 0 186 (dk_at dksX1_standInFor_0 11 rfl rfl)
theorem dX1_standInFor_14 : decode cX1_standInFor 14 = .ok (.ireturn, 1) := dk_172 (dk_at dksX1_standInFor_0 14 rfl rfl)
abbrev cX1_leadsToCount : ByteArray := prog_1_method_34_code
def yX1_leadsToCount : MethodName := ⟨RX1, "leadsToCount", "(C)I"⟩
def dkwX1_leadsToCount_0 : List UInt8 := [42, 182, 0, 138, 27, 184, 0, 127, 182, 0, 199, 172]
abbrev dktX1_leadsToCount_0 : List UInt8 := dkwX1_leadsToCount_0 ++ []
theorem dksX1_leadsToCount_0 : cX1_leadsToCount.data.toList.drop 0 = dktX1_leadsToCount_0 := by decide +kernel
theorem dX1_leadsToCount_0 : decode cX1_leadsToCount 0 = .ok (.aload_n 0, 1) := dk_42 (dk_at dksX1_leadsToCount_0 0 rfl rfl)
theorem dX1_leadsToCount_1 : decode cX1_leadsToCount 1 = .ok (.invokevirtual 138, 3) := dk_182 0 138 (dk_at dksX1_leadsToCount_0 1 rfl rfl)
theorem dX1_leadsToCount_4 : decode cX1_leadsToCount 4 = .ok (.iload_n 1, 1) := dk_27 (dk_at dksX1_leadsToCount_0 4 rfl rfl)
theorem dX1_leadsToCount_5 : decode cX1_leadsToCount 5 = .ok (.invokestatic 127, 3) := dk_184 0 127 (dk_at dksX1_leadsToCount_0 5 rfl rfl)
theorem dX1_leadsToCount_8 : decode cX1_leadsToCount 8 = .ok (.invokevirtual 199, 3) := dk_182 0 199 (dk_at dksX1_leadsToCount_0 8 rfl rfl)
theorem dX1_leadsToCount_11 : decode cX1_leadsToCount 11 = .ok (.ireturn, 1) := dk_172 (dk_at dksX1_leadsToCount_0 11 rfl rfl)
abbrev cX1_leadsToByTable : ByteArray := prog_1_method_35_code
def yX1_leadsToByTable : MethodName := ⟨RX1, "leadsToByTable", "(C)I"⟩
def dkwX1_leadsToByTable_0 : List UInt8 := [42, 182, 0, 138, 27, 184, 0, 127, 182, 0, 202, 172]
abbrev dktX1_leadsToByTable_0 : List UInt8 := dkwX1_leadsToByTable_0 ++ []
theorem dksX1_leadsToByTable_0 : cX1_leadsToByTable.data.toList.drop 0 = dktX1_leadsToByTable_0 := by decide +kernel
theorem dX1_leadsToByTable_0 : decode cX1_leadsToByTable 0 = .ok (.aload_n 0, 1) := dk_42 (dk_at dksX1_leadsToByTable_0 0 rfl rfl)
theorem dX1_leadsToByTable_1 : decode cX1_leadsToByTable 1 = .ok (.invokevirtual 138, 3) := dk_182 0 138 (dk_at dksX1_leadsToByTable_0 1 rfl rfl)
theorem dX1_leadsToByTable_4 : decode cX1_leadsToByTable 4 = .ok (.iload_n 1, 1) := dk_27 (dk_at dksX1_leadsToByTable_0 4 rfl rfl)
theorem dX1_leadsToByTable_5 : decode cX1_leadsToByTable 5 = .ok (.invokestatic 127, 3) := dk_184 0 127 (dk_at dksX1_leadsToByTable_0 5 rfl rfl)
theorem dX1_leadsToByTable_8 : decode cX1_leadsToByTable 8 = .ok (.invokevirtual 202, 3) := dk_182 0 202 (dk_at dksX1_leadsToByTable_0 8 rfl rfl)
theorem dX1_leadsToByTable_11 : decode cX1_leadsToByTable 11 = .ok (.ireturn, 1) := dk_172 (dk_at dksX1_leadsToByTable_0 11 rfl rfl)
abbrev cX1_longestWay : ByteArray := prog_1_method_38_code
def yX1_longestWay : MethodName := ⟨RX1, "longestWay", "(C)I"⟩
def dkwX1_longestWay_0 : List UInt8 := [42, 182, 0, 138, 27, 184, 0, 127, 182, 0, 211, 184, 0, 214, 172]
abbrev dktX1_longestWay_0 : List UInt8 := dkwX1_longestWay_0 ++ []
theorem dksX1_longestWay_0 : cX1_longestWay.data.toList.drop 0 = dktX1_longestWay_0 := by decide +kernel
theorem dX1_longestWay_0 : decode cX1_longestWay 0 = .ok (.aload_n 0, 1) := dk_42 (dk_at dksX1_longestWay_0 0 rfl rfl)
theorem dX1_longestWay_1 : decode cX1_longestWay 1 = .ok (.invokevirtual 138, 3) := dk_182 0 138 (dk_at dksX1_longestWay_0 1 rfl rfl)
theorem dX1_longestWay_4 : decode cX1_longestWay 4 = .ok (.iload_n 1, 1) := dk_27 (dk_at dksX1_longestWay_0 4 rfl rfl)
theorem dX1_longestWay_5 : decode cX1_longestWay 5 = .ok (.invokestatic 127, 3) := dk_184 0 127 (dk_at dksX1_longestWay_0 5 rfl rfl)
theorem dX1_longestWay_8 : decode cX1_longestWay 8 = .ok (.invokevirtual 211, 3) := dk_182 0 211 (dk_at dksX1_longestWay_0 8 rfl rfl)
theorem dX1_longestWay_11 : decode cX1_longestWay 11 = .ok (.invokestatic 214, 3) := dk_184 0 214 (dk_at dksX1_longestWay_0 11 rfl rfl)
theorem dX1_longestWay_14 : decode cX1_longestWay 14 = .ok (.ireturn, 1) := dk_172 (dk_at dksX1_longestWay_0 14 rfl rfl)
abbrev cX1_longestByRounds : ByteArray := prog_1_method_39_code
def yX1_longestByRounds : MethodName := ⟨RX1, "longestByRounds", "(C)I"⟩
def dkwX1_longestByRounds_0 : List UInt8 := [42, 182, 0, 138, 27, 184, 0, 127, 182, 0, 217, 184, 0, 214, 172]
abbrev dktX1_longestByRounds_0 : List UInt8 := dkwX1_longestByRounds_0 ++ []
theorem dksX1_longestByRounds_0 : cX1_longestByRounds.data.toList.drop 0 = dktX1_longestByRounds_0 := by decide +kernel
theorem dX1_longestByRounds_0 : decode cX1_longestByRounds 0 = .ok (.aload_n 0, 1) := dk_42 (dk_at dksX1_longestByRounds_0 0 rfl rfl)
theorem dX1_longestByRounds_1 : decode cX1_longestByRounds 1 = .ok (.invokevirtual 138, 3) := dk_182 0 138 (dk_at dksX1_longestByRounds_0 1 rfl rfl)
theorem dX1_longestByRounds_4 : decode cX1_longestByRounds 4 = .ok (.iload_n 1, 1) := dk_27 (dk_at dksX1_longestByRounds_0 4 rfl rfl)
theorem dX1_longestByRounds_5 : decode cX1_longestByRounds 5 = .ok (.invokestatic 127, 3) := dk_184 0 127 (dk_at dksX1_longestByRounds_0 5 rfl rfl)
theorem dX1_longestByRounds_8 : decode cX1_longestByRounds 8 = .ok (.invokevirtual 217, 3) := dk_182 0 217 (dk_at dksX1_longestByRounds_0 8 rfl rfl)
theorem dX1_longestByRounds_11 : decode cX1_longestByRounds 11 = .ok (.invokestatic 214, 3) := dk_184 0 214 (dk_at dksX1_longestByRounds_0 11 rfl rfl)
theorem dX1_longestByRounds_14 : decode cX1_longestByRounds 14 = .ok (.ireturn, 1) := dk_172 (dk_at dksX1_longestByRounds_0 14 rfl rfl)
abbrev cX1_openThread : ByteArray := prog_1_method_41_code
def yX1_openThread : MethodName := ⟨RX1, "openThread", "()I"⟩
def dkwX1_openThread_0 : List UInt8 := [42, 186, 0, 223, 0, 0, 182, 0, 153, 172]
abbrev dktX1_openThread_0 : List UInt8 := dkwX1_openThread_0 ++ []
theorem dksX1_openThread_0 : cX1_openThread.data.toList.drop 0 = dktX1_openThread_0 := by decide +kernel
theorem dX1_openThread_0 : decode cX1_openThread 0 = .ok (.aload_n 0, 1) := dk_42 (dk_at dksX1_openThread_0 0 rfl rfl)
theorem dX1_openThread_1 : decode cX1_openThread 1 = .ok (.invokedynamic 223, 5) := by decide +kernel
theorem dX1_openThread_6 : decode cX1_openThread 6 = .ok (.invokevirtual 153, 3) := dk_182 0 153 (dk_at dksX1_openThread_0 6 rfl rfl)
theorem dX1_openThread_9 : decode cX1_openThread 9 = .ok (.ireturn, 1) := dk_172 (dk_at dksX1_openThread_0 9 rfl rfl)
abbrev cX1_lambda_openThread_6 : ByteArray := prog_1_method_82_code
def yX1_lambda_openThread_6 : MethodName := ⟨RX1, "lambda$openThread$6", "(LClockworkTailor$State;)I"⟩
theorem dX1_lambda_openThread_6_0 : decode cX1_lambda_openThread_6 0 = .ok (.aload_n 0, 1) := by decide +kernel
theorem dX1_lambda_openThread_6_1 : decode cX1_lambda_openThread_6 1 = .ok (.invokevirtual 398, 3) := by decide +kernel
theorem dX1_lambda_openThread_6_4 : decode cX1_lambda_openThread_6 4 = .ok (.ireturn, 1) := by decide +kernel
abbrev cX1_closeThread : ByteArray := prog_1_method_42_code
def yX1_closeThread : MethodName := ⟨RX1, "closeThread", "(I)I"⟩
def dkwX1_closeThread_0 : List UInt8 := [42, 27, 186, 0, 226, 0, 0, 182, 0, 153, 172]
abbrev dktX1_closeThread_0 : List UInt8 := dkwX1_closeThread_0 ++ []
theorem dksX1_closeThread_0 : cX1_closeThread.data.toList.drop 0 = dktX1_closeThread_0 := by decide +kernel
theorem dX1_closeThread_0 : decode cX1_closeThread 0 = .ok (.aload_n 0, 1) := dk_42 (dk_at dksX1_closeThread_0 0 rfl rfl)
theorem dX1_closeThread_1 : decode cX1_closeThread 1 = .ok (.iload_n 1, 1) := dk_27 (dk_at dksX1_closeThread_0 1 rfl rfl)
theorem dX1_closeThread_2 : decode cX1_closeThread 2 = .ok (.invokedynamic 226, 5) := by decide +kernel
theorem dX1_closeThread_7 : decode cX1_closeThread 7 = .ok (.invokevirtual 153, 3) := dk_182 0 153 (dk_at dksX1_closeThread_0 7 rfl rfl)
theorem dX1_closeThread_10 : decode cX1_closeThread 10 = .ok (.ireturn, 1) := dk_172 (dk_at dksX1_closeThread_0 10 rfl rfl)
abbrev cX1_lambda_closeThread_7 : ByteArray := prog_1_method_81_code
def yX1_lambda_closeThread_7 : MethodName := ⟨RX1, "lambda$closeThread$7", "(ILClockworkTailor$State;)I"⟩
def dkwX1_lambda_closeThread_7_0 : List UInt8 := [43, 26, 182, 1, 139, 172]
abbrev dktX1_lambda_closeThread_7_0 : List UInt8 := dkwX1_lambda_closeThread_7_0 ++ []
theorem dksX1_lambda_closeThread_7_0 : cX1_lambda_closeThread_7.data.toList.drop 0 = dktX1_lambda_closeThread_7_0 := by decide +kernel
theorem dX1_lambda_closeThread_7_0 : decode cX1_lambda_closeThread_7 0 = .ok (.aload_n 1, 1) := dk_43 (dk_at dksX1_lambda_closeThread_7_0 0 rfl rfl)
theorem dX1_lambda_closeThread_7_1 : decode cX1_lambda_closeThread_7 1 = .ok (.iload_n 0, 1) := dk_26 (dk_at dksX1_lambda_closeThread_7_0 1 rfl rfl)
theorem dX1_lambda_closeThread_7_2 : decode cX1_lambda_closeThread_7 2 = .ok (.invokevirtual 395, 3) := dk_182 1 139 (dk_at dksX1_lambda_closeThread_7_0 2 rfl rfl)
theorem dX1_lambda_closeThread_7_5 : decode cX1_lambda_closeThread_7 5 = .ok (.ireturn, 1) := dk_172 (dk_at dksX1_lambda_closeThread_7_0 5 rfl rfl)
abbrev cX1_isThread : ByteArray := prog_1_method_15_code
def yX1_isThread : MethodName := ⟨RX1, "isThread", "(I)Z"⟩
def dkwX1_isThread_0 : List UInt8 := [26, 3, 6, 184, 0, 3, 172]
abbrev dktX1_isThread_0 : List UInt8 := dkwX1_isThread_0 ++ []
theorem dksX1_isThread_0 : cX1_isThread.data.toList.drop 0 = dktX1_isThread_0 := by decide +kernel
theorem dX1_isThread_0 : decode cX1_isThread 0 = .ok (.iload_n 0, 1) := dk_26 (dk_at dksX1_isThread_0 0 rfl rfl)
theorem dX1_isThread_1 : decode cX1_isThread 1 = .ok (.iconst 0, 1) := dk_3 (dk_at dksX1_isThread_0 1 rfl rfl)
theorem dX1_isThread_2 : decode cX1_isThread 2 = .ok (.iconst 3, 1) := dk_6 (dk_at dksX1_isThread_0 2 rfl rfl)
theorem dX1_isThread_3 : decode cX1_isThread 3 = .ok (.invokestatic 3, 3) := dk_184 0 3 (dk_at dksX1_isThread_0 3 rfl rfl)
theorem dX1_isThread_6 : decode cX1_isThread 6 = .ok (.ireturn, 1) := dk_172 (dk_at dksX1_isThread_0 6 rfl rfl)
abbrev cX1_isOpen : ByteArray := prog_1_method_43_code
def yX1_isOpen : MethodName := ⟨RX1, "isOpen", "(I)Z"⟩
def dkwX1_isOpen_0 : List UInt8 := [27, 184, 0, 229, 184, 0, 147, 42, 180, 0, 21, 180, 0, 232, 27, 51, 172]
abbrev dktX1_isOpen_0 : List UInt8 := dkwX1_isOpen_0 ++ []
theorem dksX1_isOpen_0 : cX1_isOpen.data.toList.drop 0 = dktX1_isOpen_0 := by decide +kernel
theorem dX1_isOpen_0 : decode cX1_isOpen 0 = .ok (.iload_n 1, 1) := dk_27 (dk_at dksX1_isOpen_0 0 rfl rfl)
theorem dX1_isOpen_1 : decode cX1_isOpen 1 = .ok (.invokestatic 229, 3) := dk_184 0 229 (dk_at dksX1_isOpen_0 1 rfl rfl)
theorem dX1_isOpen_4 : decode cX1_isOpen 4 = .ok (.invokestatic 147, 3) := dk_184 0 147 (dk_at dksX1_isOpen_0 4 rfl rfl)
theorem dX1_isOpen_7 : decode cX1_isOpen 7 = .ok (.aload_n 0, 1) := dk_42 (dk_at dksX1_isOpen_0 7 rfl rfl)
theorem dX1_isOpen_8 : decode cX1_isOpen 8 = .ok (.getfield 21, 3) := dk_180 0 21 (dk_at dksX1_isOpen_0 8 rfl rfl)
theorem dX1_isOpen_11 : decode cX1_isOpen 11 = .ok (.getfield 232, 3) := dk_180 0 232 (dk_at dksX1_isOpen_0 11 rfl rfl)
theorem dX1_isOpen_14 : decode cX1_isOpen 14 = .ok (.iload_n 1, 1) := dk_27 (dk_at dksX1_isOpen_0 14 rfl rfl)
theorem dX1_isOpen_15 : decode cX1_isOpen 15 = .ok (.baload, 1) := dk_51 (dk_at dksX1_isOpen_0 15 rfl rfl)
theorem dX1_isOpen_16 : decode cX1_isOpen 16 = .ok (.ireturn, 1) := dk_172 (dk_at dksX1_isOpen_0 16 rfl rfl)
abbrev cX1_make : ByteArray := prog_1_method_44_code
def yX1_make : MethodName := ⟨RX1, "make", "(CI)I"⟩
def dkwX1_make_0 : List UInt8 := [42, 27, 28, 186, 0, 235, 0, 0, 182, 0, 153, 172]
abbrev dktX1_make_0 : List UInt8 := dkwX1_make_0 ++ []
theorem dksX1_make_0 : cX1_make.data.toList.drop 0 = dktX1_make_0 := by decide +kernel
theorem dX1_make_0 : decode cX1_make 0 = .ok (.aload_n 0, 1) := dk_42 (dk_at dksX1_make_0 0 rfl rfl)
theorem dX1_make_1 : decode cX1_make 1 = .ok (.iload_n 1, 1) := dk_27 (dk_at dksX1_make_0 1 rfl rfl)
theorem dX1_make_2 : decode cX1_make 2 = .ok (.iload_n 2, 1) := dk_28 (dk_at dksX1_make_0 2 rfl rfl)
theorem dX1_make_3 : decode cX1_make 3 = .ok (.invokedynamic 235, 5) := by decide +kernel
theorem dX1_make_8 : decode cX1_make 8 = .ok (.invokevirtual 153, 3) := dk_182 0 153 (dk_at dksX1_make_0 8 rfl rfl)
theorem dX1_make_11 : decode cX1_make 11 = .ok (.ireturn, 1) := dk_172 (dk_at dksX1_make_0 11 rfl rfl)
abbrev cX1_lambda_make_8 : ByteArray := prog_1_method_80_code
def yX1_lambda_make_8 : MethodName := ⟨RX1, "lambda$make$8", "(CILClockworkTailor$State;)I"⟩
def dkwX1_lambda_make_8_0 : List UInt8 := [44, 26, 27, 182, 1, 136, 172]
abbrev dktX1_lambda_make_8_0 : List UInt8 := dkwX1_lambda_make_8_0 ++ []
theorem dksX1_lambda_make_8_0 : cX1_lambda_make_8.data.toList.drop 0 = dktX1_lambda_make_8_0 := by decide +kernel
theorem dX1_lambda_make_8_0 : decode cX1_lambda_make_8 0 = .ok (.aload_n 2, 1) := dk_44 (dk_at dksX1_lambda_make_8_0 0 rfl rfl)
theorem dX1_lambda_make_8_1 : decode cX1_lambda_make_8 1 = .ok (.iload_n 0, 1) := dk_26 (dk_at dksX1_lambda_make_8_0 1 rfl rfl)
theorem dX1_lambda_make_8_2 : decode cX1_lambda_make_8 2 = .ok (.iload_n 1, 1) := dk_27 (dk_at dksX1_lambda_make_8_0 2 rfl rfl)
theorem dX1_lambda_make_8_3 : decode cX1_lambda_make_8 3 = .ok (.invokevirtual 392, 3) := dk_182 1 136 (dk_at dksX1_lambda_make_8_0 3 rfl rfl)
theorem dX1_lambda_make_8_6 : decode cX1_lambda_make_8 6 = .ok (.ireturn, 1) := dk_172 (dk_at dksX1_lambda_make_8_0 6 rfl rfl)
abbrev cX1_touch : ByteArray := prog_1_method_45_code
def yX1_touch : MethodName := ⟨RX1, "touch", "(III)I"⟩
def dkwX1_touch_0 : List UInt8 := [42, 27, 28, 29, 186, 0, 238, 0, 0, 182, 0, 153, 172]
abbrev dktX1_touch_0 : List UInt8 := dkwX1_touch_0 ++ []
theorem dksX1_touch_0 : cX1_touch.data.toList.drop 0 = dktX1_touch_0 := by decide +kernel
theorem dX1_touch_0 : decode cX1_touch 0 = .ok (.aload_n 0, 1) := dk_42 (dk_at dksX1_touch_0 0 rfl rfl)
theorem dX1_touch_1 : decode cX1_touch 1 = .ok (.iload_n 1, 1) := dk_27 (dk_at dksX1_touch_0 1 rfl rfl)
theorem dX1_touch_2 : decode cX1_touch 2 = .ok (.iload_n 2, 1) := dk_28 (dk_at dksX1_touch_0 2 rfl rfl)
theorem dX1_touch_3 : decode cX1_touch 3 = .ok (.iload_n 3, 1) := dk_29 (dk_at dksX1_touch_0 3 rfl rfl)
theorem dX1_touch_4 : decode cX1_touch 4 = .ok (.invokedynamic 238, 5) := by decide +kernel
theorem dX1_touch_9 : decode cX1_touch 9 = .ok (.invokevirtual 153, 3) := dk_182 0 153 (dk_at dksX1_touch_0 9 rfl rfl)
theorem dX1_touch_12 : decode cX1_touch 12 = .ok (.ireturn, 1) := dk_172 (dk_at dksX1_touch_0 12 rfl rfl)
abbrev cX1_lambda_touch_9 : ByteArray := prog_1_method_79_code
def yX1_lambda_touch_9 : MethodName := ⟨RX1, "lambda$touch$9", "(IIILClockworkTailor$State;)I"⟩
def dkwX1_lambda_touch_9_0 : List UInt8 := [45, 26, 27, 28, 182, 1, 132, 172]
abbrev dktX1_lambda_touch_9_0 : List UInt8 := dkwX1_lambda_touch_9_0 ++ []
theorem dksX1_lambda_touch_9_0 : cX1_lambda_touch_9.data.toList.drop 0 = dktX1_lambda_touch_9_0 := by decide +kernel
theorem dX1_lambda_touch_9_0 : decode cX1_lambda_touch_9 0 = .ok (.aload_n 3, 1) := dk_45 (dk_at dksX1_lambda_touch_9_0 0 rfl rfl)
theorem dX1_lambda_touch_9_1 : decode cX1_lambda_touch_9 1 = .ok (.iload_n 0, 1) := dk_26 (dk_at dksX1_lambda_touch_9_0 1 rfl rfl)
theorem dX1_lambda_touch_9_2 : decode cX1_lambda_touch_9 2 = .ok (.iload_n 1, 1) := dk_27 (dk_at dksX1_lambda_touch_9_0 2 rfl rfl)
theorem dX1_lambda_touch_9_3 : decode cX1_lambda_touch_9 3 = .ok (.iload_n 2, 1) := dk_28 (dk_at dksX1_lambda_touch_9_0 3 rfl rfl)
theorem dX1_lambda_touch_9_4 : decode cX1_lambda_touch_9 4 = .ok (.invokevirtual 388, 3) := dk_182 1 132 (dk_at dksX1_lambda_touch_9_0 4 rfl rfl)
theorem dX1_lambda_touch_9_7 : decode cX1_lambda_touch_9 7 = .ok (.ireturn, 1) := dk_172 (dk_at dksX1_lambda_touch_9_0 7 rfl rfl)
abbrev cX1_wouldMake : ByteArray := prog_1_method_47_code
def yX1_wouldMake : MethodName := ⟨RX1, "wouldMake", "(CI)I"⟩
def dkwX1_wouldMake_0 : List UInt8 := [27, 184, 0, 127, 62, 42, 180, 0, 21, 28, 182, 0, 244, 42, 29, 28, 182, 0, 247, 184, 0, 214, 172]
abbrev dktX1_wouldMake_0 : List UInt8 := dkwX1_wouldMake_0 ++ []
theorem dksX1_wouldMake_0 : cX1_wouldMake.data.toList.drop 0 = dktX1_wouldMake_0 := by decide +kernel
theorem dX1_wouldMake_0 : decode cX1_wouldMake 0 = .ok (.iload_n 1, 1) := dk_27 (dk_at dksX1_wouldMake_0 0 rfl rfl)
theorem dX1_wouldMake_1 : decode cX1_wouldMake 1 = .ok (.invokestatic 127, 3) := dk_184 0 127 (dk_at dksX1_wouldMake_0 1 rfl rfl)
theorem dX1_wouldMake_4 : decode cX1_wouldMake 4 = .ok (.istore_n 3, 1) := dk_62 (dk_at dksX1_wouldMake_0 4 rfl rfl)
theorem dX1_wouldMake_5 : decode cX1_wouldMake 5 = .ok (.aload_n 0, 1) := dk_42 (dk_at dksX1_wouldMake_0 5 rfl rfl)
theorem dX1_wouldMake_6 : decode cX1_wouldMake 6 = .ok (.getfield 21, 3) := dk_180 0 21 (dk_at dksX1_wouldMake_0 6 rfl rfl)
theorem dX1_wouldMake_9 : decode cX1_wouldMake 9 = .ok (.iload_n 2, 1) := dk_28 (dk_at dksX1_wouldMake_0 9 rfl rfl)
theorem dX1_wouldMake_10 : decode cX1_wouldMake 10 = .ok (.invokevirtual 244, 3) := dk_182 0 244 (dk_at dksX1_wouldMake_0 10 rfl rfl)
theorem dX1_wouldMake_13 : decode cX1_wouldMake 13 = .ok (.aload_n 0, 1) := dk_42 (dk_at dksX1_wouldMake_0 13 rfl rfl)
theorem dX1_wouldMake_14 : decode cX1_wouldMake 14 = .ok (.iload_n 3, 1) := dk_29 (dk_at dksX1_wouldMake_0 14 rfl rfl)
theorem dX1_wouldMake_15 : decode cX1_wouldMake 15 = .ok (.iload_n 2, 1) := dk_28 (dk_at dksX1_wouldMake_0 15 rfl rfl)
theorem dX1_wouldMake_16 : decode cX1_wouldMake 16 = .ok (.invokevirtual 247, 3) := dk_182 0 247 (dk_at dksX1_wouldMake_0 16 rfl rfl)
theorem dX1_wouldMake_19 : decode cX1_wouldMake 19 = .ok (.invokestatic 214, 3) := dk_184 0 214 (dk_at dksX1_wouldMake_0 19 rfl rfl)
theorem dX1_wouldMake_22 : decode cX1_wouldMake 22 = .ok (.ireturn, 1) := dk_172 (dk_at dksX1_wouldMake_0 22 rfl rfl)
abbrev cX1_wouldMakeByCounting : ByteArray := prog_1_method_48_code
def yX1_wouldMakeByCounting : MethodName := ⟨RX1, "wouldMakeByCounting", "(CI)I"⟩
def dkwX1_wouldMakeByCounting_1 : List UInt8 := [183, 0, 250, 29, 182, 0, 253, 184, 0, 214, 172]
abbrev dktX1_wouldMakeByCounting_1 : List UInt8 := dkwX1_wouldMakeByCounting_1 ++ []
def dkwX1_wouldMakeByCounting_0 : List UInt8 := [27, 184, 0, 127, 62, 42, 180, 0, 21, 28, 182, 0, 244, 187, 0, 248, 89, 42, 180, 0, 21, 28]
abbrev dktX1_wouldMakeByCounting_0 : List UInt8 := dkwX1_wouldMakeByCounting_0 ++ dktX1_wouldMakeByCounting_1
theorem dksX1_wouldMakeByCounting_0 : cX1_wouldMakeByCounting.data.toList.drop 0 = dktX1_wouldMakeByCounting_0 := by decide +kernel
theorem dksX1_wouldMakeByCounting_1 : cX1_wouldMakeByCounting.data.toList.drop 22 = dktX1_wouldMakeByCounting_1 := dk_seg dksX1_wouldMakeByCounting_0 22 rfl rfl
theorem dX1_wouldMakeByCounting_0 : decode cX1_wouldMakeByCounting 0 = .ok (.iload_n 1, 1) := dk_27 (dk_at dksX1_wouldMakeByCounting_0 0 rfl rfl)
theorem dX1_wouldMakeByCounting_1 : decode cX1_wouldMakeByCounting 1 = .ok (.invokestatic 127, 3) := dk_184 0 127 (dk_at dksX1_wouldMakeByCounting_0 1 rfl rfl)
theorem dX1_wouldMakeByCounting_4 : decode cX1_wouldMakeByCounting 4 = .ok (.istore_n 3, 1) := dk_62 (dk_at dksX1_wouldMakeByCounting_0 4 rfl rfl)
theorem dX1_wouldMakeByCounting_5 : decode cX1_wouldMakeByCounting 5 = .ok (.aload_n 0, 1) := dk_42 (dk_at dksX1_wouldMakeByCounting_0 5 rfl rfl)
theorem dX1_wouldMakeByCounting_6 : decode cX1_wouldMakeByCounting 6 = .ok (.getfield 21, 3) := dk_180 0 21 (dk_at dksX1_wouldMakeByCounting_0 6 rfl rfl)
theorem dX1_wouldMakeByCounting_9 : decode cX1_wouldMakeByCounting 9 = .ok (.iload_n 2, 1) := dk_28 (dk_at dksX1_wouldMakeByCounting_0 9 rfl rfl)
theorem dX1_wouldMakeByCounting_10 : decode cX1_wouldMakeByCounting 10 = .ok (.invokevirtual 244, 3) := dk_182 0 244 (dk_at dksX1_wouldMakeByCounting_0 10 rfl rfl)
theorem dX1_wouldMakeByCounting_13 : decode cX1_wouldMakeByCounting 13 = .ok (.new 248, 3) := dk_187 0 248 (dk_at dksX1_wouldMakeByCounting_0 13 rfl rfl)
theorem dX1_wouldMakeByCounting_16 : decode cX1_wouldMakeByCounting 16 = .ok (.dup, 1) := dk_89 (dk_at dksX1_wouldMakeByCounting_0 16 rfl rfl)
theorem dX1_wouldMakeByCounting_17 : decode cX1_wouldMakeByCounting 17 = .ok (.aload_n 0, 1) := dk_42 (dk_at dksX1_wouldMakeByCounting_0 17 rfl rfl)
theorem dX1_wouldMakeByCounting_18 : decode cX1_wouldMakeByCounting 18 = .ok (.getfield 21, 3) := dk_180 0 21 (dk_at dksX1_wouldMakeByCounting_0 18 rfl rfl)
theorem dX1_wouldMakeByCounting_21 : decode cX1_wouldMakeByCounting 21 = .ok (.iload_n 2, 1) := dk_28 (dk_at dksX1_wouldMakeByCounting_0 21 rfl rfl)
theorem dX1_wouldMakeByCounting_22 : decode cX1_wouldMakeByCounting 22 = .ok (.invokespecial 250, 3) := dk_183 0 250 (dk_at dksX1_wouldMakeByCounting_1 0 rfl rfl)
theorem dX1_wouldMakeByCounting_25 : decode cX1_wouldMakeByCounting 25 = .ok (.iload_n 3, 1) := dk_29 (dk_at dksX1_wouldMakeByCounting_1 3 rfl rfl)
theorem dX1_wouldMakeByCounting_26 : decode cX1_wouldMakeByCounting 26 = .ok (.invokevirtual 253, 3) := dk_182 0 253 (dk_at dksX1_wouldMakeByCounting_1 4 rfl rfl)
theorem dX1_wouldMakeByCounting_29 : decode cX1_wouldMakeByCounting 29 = .ok (.invokestatic 214, 3) := dk_184 0 214 (dk_at dksX1_wouldMakeByCounting_1 7 rfl rfl)
theorem dX1_wouldMakeByCounting_32 : decode cX1_wouldMakeByCounting 32 = .ok (.ireturn, 1) := dk_172 (dk_at dksX1_wouldMakeByCounting_1 10 rfl rfl)
abbrev cX1_isThere : ByteArray := prog_1_method_50_code
def yX1_isThere : MethodName := ⟨RX1, "isThere", "(I)Z"⟩
def dkwX1_isThere_1 : List UInt8 := [27, 51, 172]
abbrev dktX1_isThere_1 : List UInt8 := dkwX1_isThere_1 ++ []
def dkwX1_isThere_0 : List UInt8 := [27, 3, 42, 180, 0, 21, 180, 1, 0, 4, 100, 184, 0, 3, 184, 0, 147, 42, 180, 0, 21, 180, 1, 3]
abbrev dktX1_isThere_0 : List UInt8 := dkwX1_isThere_0 ++ dktX1_isThere_1
theorem dksX1_isThere_0 : cX1_isThere.data.toList.drop 0 = dktX1_isThere_0 := by decide +kernel
theorem dksX1_isThere_1 : cX1_isThere.data.toList.drop 24 = dktX1_isThere_1 := dk_seg dksX1_isThere_0 24 rfl rfl
theorem dX1_isThere_0 : decode cX1_isThere 0 = .ok (.iload_n 1, 1) := dk_27 (dk_at dksX1_isThere_0 0 rfl rfl)
theorem dX1_isThere_1 : decode cX1_isThere 1 = .ok (.iconst 0, 1) := dk_3 (dk_at dksX1_isThere_0 1 rfl rfl)
theorem dX1_isThere_2 : decode cX1_isThere 2 = .ok (.aload_n 0, 1) := dk_42 (dk_at dksX1_isThere_0 2 rfl rfl)
theorem dX1_isThere_3 : decode cX1_isThere 3 = .ok (.getfield 21, 3) := dk_180 0 21 (dk_at dksX1_isThere_0 3 rfl rfl)
theorem dX1_isThere_6 : decode cX1_isThere 6 = .ok (.getfield 256, 3) := dk_180 1 0 (dk_at dksX1_isThere_0 6 rfl rfl)
theorem dX1_isThere_9 : decode cX1_isThere 9 = .ok (.iconst 1, 1) := dk_4 (dk_at dksX1_isThere_0 9 rfl rfl)
theorem dX1_isThere_10 : decode cX1_isThere 10 = .ok (.isub, 1) := dk_100 (dk_at dksX1_isThere_0 10 rfl rfl)
theorem dX1_isThere_11 : decode cX1_isThere 11 = .ok (.invokestatic 3, 3) := dk_184 0 3 (dk_at dksX1_isThere_0 11 rfl rfl)
theorem dX1_isThere_14 : decode cX1_isThere 14 = .ok (.invokestatic 147, 3) := dk_184 0 147 (dk_at dksX1_isThere_0 14 rfl rfl)
theorem dX1_isThere_17 : decode cX1_isThere 17 = .ok (.aload_n 0, 1) := dk_42 (dk_at dksX1_isThere_0 17 rfl rfl)
theorem dX1_isThere_18 : decode cX1_isThere 18 = .ok (.getfield 21, 3) := dk_180 0 21 (dk_at dksX1_isThere_0 18 rfl rfl)
theorem dX1_isThere_21 : decode cX1_isThere 21 = .ok (.getfield 259, 3) := dk_180 1 3 (dk_at dksX1_isThere_0 21 rfl rfl)
theorem dX1_isThere_24 : decode cX1_isThere 24 = .ok (.iload_n 1, 1) := dk_27 (dk_at dksX1_isThere_1 0 rfl rfl)
theorem dX1_isThere_25 : decode cX1_isThere 25 = .ok (.baload, 1) := dk_51 (dk_at dksX1_isThere_1 1 rfl rfl)
theorem dX1_isThere_26 : decode cX1_isThere 26 = .ok (.ireturn, 1) := dk_172 (dk_at dksX1_isThere_1 2 rfl rfl)
abbrev cX1_toolOf : ByteArray := prog_1_method_51_code
def yX1_toolOf : MethodName := ⟨RX1, "toolOf", "(I)C"⟩
def dkwX1_toolOf_0 : List UInt8 := [42, 180, 0, 21, 27, 182, 1, 6, 42, 180, 0, 21, 180, 1, 9, 27, 46, 184, 0, 186, 172]
abbrev dktX1_toolOf_0 : List UInt8 := dkwX1_toolOf_0 ++ []
theorem dksX1_toolOf_0 : cX1_toolOf.data.toList.drop 0 = dktX1_toolOf_0 := by decide +kernel
theorem dX1_toolOf_0 : decode cX1_toolOf 0 = .ok (.aload_n 0, 1) := dk_42 (dk_at dksX1_toolOf_0 0 rfl rfl)
theorem dX1_toolOf_1 : decode cX1_toolOf 1 = .ok (.getfield 21, 3) := dk_180 0 21 (dk_at dksX1_toolOf_0 1 rfl rfl)
theorem dX1_toolOf_4 : decode cX1_toolOf 4 = .ok (.iload_n 1, 1) := dk_27 (dk_at dksX1_toolOf_0 4 rfl rfl)
theorem dX1_toolOf_5 : decode cX1_toolOf 5 = .ok (.invokevirtual 262, 3) := dk_182 1 6 (dk_at dksX1_toolOf_0 5 rfl rfl)
theorem dX1_toolOf_8 : decode cX1_toolOf 8 = .ok (.aload_n 0, 1) := dk_42 (dk_at dksX1_toolOf_0 8 rfl rfl)
theorem dX1_toolOf_9 : decode cX1_toolOf 9 = .ok (.getfield 21, 3) := dk_180 0 21 (dk_at dksX1_toolOf_0 9 rfl rfl)
theorem dX1_toolOf_12 : decode cX1_toolOf 12 = .ok (.getfield 265, 3) := dk_180 1 9 (dk_at dksX1_toolOf_0 12 rfl rfl)
theorem dX1_toolOf_15 : decode cX1_toolOf 15 = .ok (.iload_n 1, 1) := dk_27 (dk_at dksX1_toolOf_0 15 rfl rfl)
theorem dX1_toolOf_16 : decode cX1_toolOf 16 = .ok (.iaload, 1) := dk_46 (dk_at dksX1_toolOf_0 16 rfl rfl)
theorem dX1_toolOf_17 : decode cX1_toolOf 17 = .ok (.invokestatic 186, 3) := dk_184 0 186 (dk_at dksX1_toolOf_0 17 rfl rfl)
theorem dX1_toolOf_20 : decode cX1_toolOf 20 = .ok (.ireturn, 1) := dk_172 (dk_at dksX1_toolOf_0 20 rfl rfl)
abbrev cX1_threadOf : ByteArray := prog_1_method_52_code
def yX1_threadOf : MethodName := ⟨RX1, "threadOf", "(I)I"⟩
def dkwX1_threadOf_0 : List UInt8 := [42, 180, 0, 21, 27, 182, 1, 6, 42, 180, 0, 21, 180, 1, 12, 27, 46, 172]
abbrev dktX1_threadOf_0 : List UInt8 := dkwX1_threadOf_0 ++ []
theorem dksX1_threadOf_0 : cX1_threadOf.data.toList.drop 0 = dktX1_threadOf_0 := by decide +kernel
theorem dX1_threadOf_0 : decode cX1_threadOf 0 = .ok (.aload_n 0, 1) := dk_42 (dk_at dksX1_threadOf_0 0 rfl rfl)
theorem dX1_threadOf_1 : decode cX1_threadOf 1 = .ok (.getfield 21, 3) := dk_180 0 21 (dk_at dksX1_threadOf_0 1 rfl rfl)
theorem dX1_threadOf_4 : decode cX1_threadOf 4 = .ok (.iload_n 1, 1) := dk_27 (dk_at dksX1_threadOf_0 4 rfl rfl)
theorem dX1_threadOf_5 : decode cX1_threadOf 5 = .ok (.invokevirtual 262, 3) := dk_182 1 6 (dk_at dksX1_threadOf_0 5 rfl rfl)
theorem dX1_threadOf_8 : decode cX1_threadOf 8 = .ok (.aload_n 0, 1) := dk_42 (dk_at dksX1_threadOf_0 8 rfl rfl)
theorem dX1_threadOf_9 : decode cX1_threadOf 9 = .ok (.getfield 21, 3) := dk_180 0 21 (dk_at dksX1_threadOf_0 9 rfl rfl)
theorem dX1_threadOf_12 : decode cX1_threadOf 12 = .ok (.getfield 268, 3) := dk_180 1 12 (dk_at dksX1_threadOf_0 12 rfl rfl)
theorem dX1_threadOf_15 : decode cX1_threadOf 15 = .ok (.iload_n 1, 1) := dk_27 (dk_at dksX1_threadOf_0 15 rfl rfl)
theorem dX1_threadOf_16 : decode cX1_threadOf 16 = .ok (.iaload, 1) := dk_46 (dk_at dksX1_threadOf_0 16 rfl rfl)
theorem dX1_threadOf_17 : decode cX1_threadOf 17 = .ok (.ireturn, 1) := dk_172 (dk_at dksX1_threadOf_0 17 rfl rfl)
abbrev cX1_filledBy : ByteArray := prog_1_method_53_code
def yX1_filledBy : MethodName := ⟨RX1, "filledBy", "(II)I"⟩
def dkwX1_filledBy_1 : List UInt8 := [184, 0, 214, 172]
abbrev dktX1_filledBy_1 : List UInt8 := dkwX1_filledBy_1 ++ []
def dkwX1_filledBy_0 : List UInt8 := [42, 180, 0, 21, 27, 28, 182, 1, 15, 42, 180, 0, 21, 180, 1, 18, 6, 27, 104, 28, 96, 46]
abbrev dktX1_filledBy_0 : List UInt8 := dkwX1_filledBy_0 ++ dktX1_filledBy_1
theorem dksX1_filledBy_0 : cX1_filledBy.data.toList.drop 0 = dktX1_filledBy_0 := by decide +kernel
theorem dksX1_filledBy_1 : cX1_filledBy.data.toList.drop 22 = dktX1_filledBy_1 := dk_seg dksX1_filledBy_0 22 rfl rfl
theorem dX1_filledBy_0 : decode cX1_filledBy 0 = .ok (.aload_n 0, 1) := dk_42 (dk_at dksX1_filledBy_0 0 rfl rfl)
theorem dX1_filledBy_1 : decode cX1_filledBy 1 = .ok (.getfield 21, 3) := dk_180 0 21 (dk_at dksX1_filledBy_0 1 rfl rfl)
theorem dX1_filledBy_4 : decode cX1_filledBy 4 = .ok (.iload_n 1, 1) := dk_27 (dk_at dksX1_filledBy_0 4 rfl rfl)
theorem dX1_filledBy_5 : decode cX1_filledBy 5 = .ok (.iload_n 2, 1) := dk_28 (dk_at dksX1_filledBy_0 5 rfl rfl)
theorem dX1_filledBy_6 : decode cX1_filledBy 6 = .ok (.invokevirtual 271, 3) := dk_182 1 15 (dk_at dksX1_filledBy_0 6 rfl rfl)
theorem dX1_filledBy_9 : decode cX1_filledBy 9 = .ok (.aload_n 0, 1) := dk_42 (dk_at dksX1_filledBy_0 9 rfl rfl)
theorem dX1_filledBy_10 : decode cX1_filledBy 10 = .ok (.getfield 21, 3) := dk_180 0 21 (dk_at dksX1_filledBy_0 10 rfl rfl)
theorem dX1_filledBy_13 : decode cX1_filledBy 13 = .ok (.getfield 274, 3) := dk_180 1 18 (dk_at dksX1_filledBy_0 13 rfl rfl)
theorem dX1_filledBy_16 : decode cX1_filledBy 16 = .ok (.iconst 3, 1) := dk_6 (dk_at dksX1_filledBy_0 16 rfl rfl)
theorem dX1_filledBy_17 : decode cX1_filledBy 17 = .ok (.iload_n 1, 1) := dk_27 (dk_at dksX1_filledBy_0 17 rfl rfl)
theorem dX1_filledBy_18 : decode cX1_filledBy 18 = .ok (.imul, 1) := dk_104 (dk_at dksX1_filledBy_0 18 rfl rfl)
theorem dX1_filledBy_19 : decode cX1_filledBy 19 = .ok (.iload_n 2, 1) := dk_28 (dk_at dksX1_filledBy_0 19 rfl rfl)
theorem dX1_filledBy_20 : decode cX1_filledBy 20 = .ok (.iadd, 1) := dk_96 (dk_at dksX1_filledBy_0 20 rfl rfl)
theorem dX1_filledBy_21 : decode cX1_filledBy 21 = .ok (.iaload, 1) := dk_46 (dk_at dksX1_filledBy_0 21 rfl rfl)
theorem dX1_filledBy_22 : decode cX1_filledBy 22 = .ok (.invokestatic 214, 3) := dk_184 0 214 (dk_at dksX1_filledBy_1 0 rfl rfl)
theorem dX1_filledBy_25 : decode cX1_filledBy 25 = .ok (.ireturn, 1) := dk_172 (dk_at dksX1_filledBy_1 3 rfl rfl)
abbrev cX1_meanMinutes : ByteArray := prog_1_method_58_code
def yX1_meanMinutes : MethodName := ⟨RX1, "meanMinutes", "()D"⟩
def dkwX1_meanMinutes_1 : List UInt8 := [182, 0, 166, 135, 111, 175]
abbrev dktX1_meanMinutes_1 : List UInt8 := dkwX1_meanMinutes_1 ++ []
def dkwX1_meanMinutes_0 : List UInt8 := [42, 182, 0, 138, 182, 0, 166, 184, 1, 34, 42, 182, 0, 138, 182, 1, 37, 135, 42, 182, 0, 138]
abbrev dktX1_meanMinutes_0 : List UInt8 := dkwX1_meanMinutes_0 ++ dktX1_meanMinutes_1
theorem dksX1_meanMinutes_0 : cX1_meanMinutes.data.toList.drop 0 = dktX1_meanMinutes_0 := by decide +kernel
theorem dksX1_meanMinutes_1 : cX1_meanMinutes.data.toList.drop 22 = dktX1_meanMinutes_1 := dk_seg dksX1_meanMinutes_0 22 rfl rfl
theorem dX1_meanMinutes_0 : decode cX1_meanMinutes 0 = .ok (.aload_n 0, 1) := dk_42 (dk_at dksX1_meanMinutes_0 0 rfl rfl)
theorem dX1_meanMinutes_1 : decode cX1_meanMinutes 1 = .ok (.invokevirtual 138, 3) := dk_182 0 138 (dk_at dksX1_meanMinutes_0 1 rfl rfl)
theorem dX1_meanMinutes_4 : decode cX1_meanMinutes 4 = .ok (.invokevirtual 166, 3) := dk_182 0 166 (dk_at dksX1_meanMinutes_0 4 rfl rfl)
theorem dX1_meanMinutes_7 : decode cX1_meanMinutes 7 = .ok (.invokestatic 290, 3) := dk_184 1 34 (dk_at dksX1_meanMinutes_0 7 rfl rfl)
theorem dX1_meanMinutes_10 : decode cX1_meanMinutes 10 = .ok (.aload_n 0, 1) := dk_42 (dk_at dksX1_meanMinutes_0 10 rfl rfl)
theorem dX1_meanMinutes_11 : decode cX1_meanMinutes 11 = .ok (.invokevirtual 138, 3) := dk_182 0 138 (dk_at dksX1_meanMinutes_0 11 rfl rfl)
theorem dX1_meanMinutes_14 : decode cX1_meanMinutes 14 = .ok (.invokevirtual 293, 3) := dk_182 1 37 (dk_at dksX1_meanMinutes_0 14 rfl rfl)
theorem dX1_meanMinutes_17 : decode cX1_meanMinutes 17 = .ok (.i2d, 1) := dk_135 (dk_at dksX1_meanMinutes_0 17 rfl rfl)
theorem dX1_meanMinutes_18 : decode cX1_meanMinutes 18 = .ok (.aload_n 0, 1) := dk_42 (dk_at dksX1_meanMinutes_0 18 rfl rfl)
theorem dX1_meanMinutes_19 : decode cX1_meanMinutes 19 = .ok (.invokevirtual 138, 3) := dk_182 0 138 (dk_at dksX1_meanMinutes_0 19 rfl rfl)
theorem dX1_meanMinutes_22 : decode cX1_meanMinutes 22 = .ok (.invokevirtual 166, 3) := dk_182 0 166 (dk_at dksX1_meanMinutes_1 0 rfl rfl)
theorem dX1_meanMinutes_25 : decode cX1_meanMinutes 25 = .ok (.i2d, 1) := dk_135 (dk_at dksX1_meanMinutes_1 3 rfl rfl)
theorem dX1_meanMinutes_26 : decode cX1_meanMinutes 26 = .ok (.ddiv, 1) := dk_111 (dk_at dksX1_meanMinutes_1 4 rfl rfl)
theorem dX1_meanMinutes_27 : decode cX1_meanMinutes 27 = .ok (.dreturn, 1) := dk_175 (dk_at dksX1_meanMinutes_1 5 rfl rfl)
abbrev cX1_checkAny : ByteArray := prog_1_method_13_code
def yX1_checkAny : MethodName := ⟨RX1, "checkAny", "(I)V"⟩
def dkwX1_checkAny_0 : List UInt8 := [26, 154, 0, 11, 187, 0, 84, 89, 183, 0, 86, 191, 177]
abbrev dktX1_checkAny_0 : List UInt8 := dkwX1_checkAny_0 ++ []
theorem dksX1_checkAny_0 : cX1_checkAny.data.toList.drop 0 = dktX1_checkAny_0 := by decide +kernel
theorem dX1_checkAny_0 : decode cX1_checkAny 0 = .ok (.iload_n 0, 1) := dk_26 (dk_at dksX1_checkAny_0 0 rfl rfl)
theorem dX1_checkAny_1 : decode cX1_checkAny 1 = .ok (.ifCond .ne 11, 3) := dk_154 0 11 (dk_at dksX1_checkAny_0 1 rfl rfl)
theorem dX1_checkAny_4 : decode cX1_checkAny 4 = .ok (.new 84, 3) := dk_187 0 84 (dk_at dksX1_checkAny_0 4 rfl rfl)
theorem dX1_checkAny_7 : decode cX1_checkAny 7 = .ok (.dup, 1) := dk_89 (dk_at dksX1_checkAny_0 7 rfl rfl)
theorem dX1_checkAny_8 : decode cX1_checkAny 8 = .ok (.invokespecial 86, 3) := dk_183 0 86 (dk_at dksX1_checkAny_0 8 rfl rfl)
theorem dX1_checkAny_11 : decode cX1_checkAny 11 = .ok (.athrow, 1) := dk_191 (dk_at dksX1_checkAny_0 11 rfl rfl)
theorem dX1_checkAny_12 : decode cX1_checkAny 12 = .ok (.return_, 1) := dk_177 (dk_at dksX1_checkAny_0 12 rfl rfl)
abbrev cX1_reuseShare : ByteArray := prog_1_method_59_code
def yX1_reuseShare : MethodName := ⟨RX1, "reuseShare", "()F"⟩
def dkwX1_reuseShare_1 : List UInt8 := [180, 1, 24, 134, 110, 174]
abbrev dktX1_reuseShare_1 : List UInt8 := dkwX1_reuseShare_1 ++ []
def dkwX1_reuseShare_0 : List UInt8 := [42, 180, 0, 21, 180, 1, 24, 184, 1, 34, 42, 180, 0, 21, 180, 1, 27, 134, 42, 180, 0, 21]
abbrev dktX1_reuseShare_0 : List UInt8 := dkwX1_reuseShare_0 ++ dktX1_reuseShare_1
theorem dksX1_reuseShare_0 : cX1_reuseShare.data.toList.drop 0 = dktX1_reuseShare_0 := by decide +kernel
theorem dksX1_reuseShare_1 : cX1_reuseShare.data.toList.drop 22 = dktX1_reuseShare_1 := dk_seg dksX1_reuseShare_0 22 rfl rfl
theorem dX1_reuseShare_0 : decode cX1_reuseShare 0 = .ok (.aload_n 0, 1) := dk_42 (dk_at dksX1_reuseShare_0 0 rfl rfl)
theorem dX1_reuseShare_1 : decode cX1_reuseShare 1 = .ok (.getfield 21, 3) := dk_180 0 21 (dk_at dksX1_reuseShare_0 1 rfl rfl)
theorem dX1_reuseShare_4 : decode cX1_reuseShare 4 = .ok (.getfield 280, 3) := dk_180 1 24 (dk_at dksX1_reuseShare_0 4 rfl rfl)
theorem dX1_reuseShare_7 : decode cX1_reuseShare 7 = .ok (.invokestatic 290, 3) := dk_184 1 34 (dk_at dksX1_reuseShare_0 7 rfl rfl)
theorem dX1_reuseShare_10 : decode cX1_reuseShare 10 = .ok (.aload_n 0, 1) := dk_42 (dk_at dksX1_reuseShare_0 10 rfl rfl)
theorem dX1_reuseShare_11 : decode cX1_reuseShare 11 = .ok (.getfield 21, 3) := dk_180 0 21 (dk_at dksX1_reuseShare_0 11 rfl rfl)
theorem dX1_reuseShare_14 : decode cX1_reuseShare 14 = .ok (.getfield 283, 3) := dk_180 1 27 (dk_at dksX1_reuseShare_0 14 rfl rfl)
theorem dX1_reuseShare_17 : decode cX1_reuseShare 17 = .ok (.i2f, 1) := dk_134 (dk_at dksX1_reuseShare_0 17 rfl rfl)
theorem dX1_reuseShare_18 : decode cX1_reuseShare 18 = .ok (.aload_n 0, 1) := dk_42 (dk_at dksX1_reuseShare_0 18 rfl rfl)
theorem dX1_reuseShare_19 : decode cX1_reuseShare 19 = .ok (.getfield 21, 3) := dk_180 0 21 (dk_at dksX1_reuseShare_0 19 rfl rfl)
theorem dX1_reuseShare_22 : decode cX1_reuseShare 22 = .ok (.getfield 280, 3) := dk_180 1 24 (dk_at dksX1_reuseShare_1 0 rfl rfl)
theorem dX1_reuseShare_25 : decode cX1_reuseShare 25 = .ok (.i2f, 1) := dk_134 (dk_at dksX1_reuseShare_1 3 rfl rfl)
theorem dX1_reuseShare_26 : decode cX1_reuseShare 26 = .ok (.fdiv, 1) := dk_110 (dk_at dksX1_reuseShare_1 4 rfl rfl)
theorem dX1_reuseShare_27 : decode cX1_reuseShare 27 = .ok (.freturn, 1) := dk_174 (dk_at dksX1_reuseShare_1 5 rfl rfl)
abbrev cX1_refusalReason : ByteArray := prog_1_method_61_code
def yX1_refusalReason : MethodName := ⟨RX1, "refusalReason", "()I"⟩
def dkwX1_refusalReason_0 : List UInt8 := [42, 182, 1, 40, 180, 1, 44, 172]
abbrev dktX1_refusalReason_0 : List UInt8 := dkwX1_refusalReason_0 ++ []
theorem dksX1_refusalReason_0 : cX1_refusalReason.data.toList.drop 0 = dktX1_refusalReason_0 := by decide +kernel
theorem dX1_refusalReason_0 : decode cX1_refusalReason 0 = .ok (.aload_n 0, 1) := dk_42 (dk_at dksX1_refusalReason_0 0 rfl rfl)
theorem dX1_refusalReason_1 : decode cX1_refusalReason 1 = .ok (.invokevirtual 296, 3) := dk_182 1 40 (dk_at dksX1_refusalReason_0 1 rfl rfl)
theorem dX1_refusalReason_4 : decode cX1_refusalReason 4 = .ok (.getfield 300, 3) := dk_180 1 44 (dk_at dksX1_refusalReason_0 4 rfl rfl)
theorem dX1_refusalReason_7 : decode cX1_refusalReason 7 = .ok (.ireturn, 1) := dk_172 (dk_at dksX1_refusalReason_0 7 rfl rfl)
abbrev cX1_refusal : ByteArray := prog_1_method_60_code
def yX1_refusal : MethodName := ⟨RX1, "refusal", "()LClockworkTailor$Refusal;"⟩
def dkwX1_refusal_0 : List UInt8 := [42, 180, 0, 108, 198, 0, 7, 4, 167, 0, 4, 3, 184, 0, 80, 42, 180, 0, 108, 176]
abbrev dktX1_refusal_0 : List UInt8 := dkwX1_refusal_0 ++ []
theorem dksX1_refusal_0 : cX1_refusal.data.toList.drop 0 = dktX1_refusal_0 := by decide +kernel
theorem dX1_refusal_0 : decode cX1_refusal 0 = .ok (.aload_n 0, 1) := dk_42 (dk_at dksX1_refusal_0 0 rfl rfl)
theorem dX1_refusal_1 : decode cX1_refusal 1 = .ok (.getfield 108, 3) := dk_180 0 108 (dk_at dksX1_refusal_0 1 rfl rfl)
theorem dX1_refusal_4 : decode cX1_refusal 4 = .ok (.ifnull 7, 3) := dk_198 0 7 (dk_at dksX1_refusal_0 4 rfl rfl)
theorem dX1_refusal_7 : decode cX1_refusal 7 = .ok (.iconst 1, 1) := dk_4 (dk_at dksX1_refusal_0 7 rfl rfl)
theorem dX1_refusal_8 : decode cX1_refusal 8 = .ok (.goto 4, 3) := dk_167 0 4 (dk_at dksX1_refusal_0 8 rfl rfl)
theorem dX1_refusal_11 : decode cX1_refusal 11 = .ok (.iconst 0, 1) := dk_3 (dk_at dksX1_refusal_0 11 rfl rfl)
theorem dX1_refusal_12 : decode cX1_refusal 12 = .ok (.invokestatic 80, 3) := dk_184 0 80 (dk_at dksX1_refusal_0 12 rfl rfl)
theorem dX1_refusal_15 : decode cX1_refusal 15 = .ok (.aload_n 0, 1) := dk_42 (dk_at dksX1_refusal_0 15 rfl rfl)
theorem dX1_refusal_16 : decode cX1_refusal 16 = .ok (.getfield 108, 3) := dk_180 0 108 (dk_at dksX1_refusal_0 16 rfl rfl)
theorem dX1_refusal_19 : decode cX1_refusal 19 = .ok (.areturn, 1) := dk_176 (dk_at dksX1_refusal_0 19 rfl rfl)
abbrev cX1_refusalDetail : ByteArray := prog_1_method_62_code
def yX1_refusalDetail : MethodName := ⟨RX1, "refusalDetail", "()I"⟩
def dkwX1_refusalDetail_0 : List UInt8 := [42, 182, 1, 40, 180, 1, 47, 172]
abbrev dktX1_refusalDetail_0 : List UInt8 := dkwX1_refusalDetail_0 ++ []
theorem dksX1_refusalDetail_0 : cX1_refusalDetail.data.toList.drop 0 = dktX1_refusalDetail_0 := by decide +kernel
theorem dX1_refusalDetail_0 : decode cX1_refusalDetail 0 = .ok (.aload_n 0, 1) := dk_42 (dk_at dksX1_refusalDetail_0 0 rfl rfl)
theorem dX1_refusalDetail_1 : decode cX1_refusalDetail 1 = .ok (.invokevirtual 296, 3) := dk_182 1 40 (dk_at dksX1_refusalDetail_0 1 rfl rfl)
theorem dX1_refusalDetail_4 : decode cX1_refusalDetail 4 = .ok (.getfield 303, 3) := dk_180 1 47 (dk_at dksX1_refusalDetail_0 4 rfl rfl)
theorem dX1_refusalDetail_7 : decode cX1_refusalDetail 7 = .ok (.ireturn, 1) := dk_172 (dk_at dksX1_refusalDetail_0 7 rfl rfl)
abbrev cX1_refusalCause : ByteArray := prog_1_method_63_code
def yX1_refusalCause : MethodName := ⟨RX1, "refusalCause", "()I"⟩
def dkwX1_refusalCause_0 : List UInt8 := [42, 182, 1, 40, 182, 1, 50, 184, 0, 214, 172]
abbrev dktX1_refusalCause_0 : List UInt8 := dkwX1_refusalCause_0 ++ []
theorem dksX1_refusalCause_0 : cX1_refusalCause.data.toList.drop 0 = dktX1_refusalCause_0 := by decide +kernel
theorem dX1_refusalCause_0 : decode cX1_refusalCause 0 = .ok (.aload_n 0, 1) := dk_42 (dk_at dksX1_refusalCause_0 0 rfl rfl)
theorem dX1_refusalCause_1 : decode cX1_refusalCause 1 = .ok (.invokevirtual 296, 3) := dk_182 1 40 (dk_at dksX1_refusalCause_0 1 rfl rfl)
theorem dX1_refusalCause_4 : decode cX1_refusalCause 4 = .ok (.invokevirtual 306, 3) := dk_182 1 50 (dk_at dksX1_refusalCause_0 4 rfl rfl)
theorem dX1_refusalCause_7 : decode cX1_refusalCause 7 = .ok (.invokestatic 214, 3) := dk_184 0 214 (dk_at dksX1_refusalCause_0 7 rfl rfl)
theorem dX1_refusalCause_10 : decode cX1_refusalCause 10 = .ok (.ireturn, 1) := dk_172 (dk_at dksX1_refusalCause_0 10 rfl rfl)
abbrev cX1_writeRecipe : ByteArray := prog_1_method_64_code
def yX1_writeRecipe : MethodName := ⟨RX1, "writeRecipe", "(C)I"⟩
def dkwX1_writeRecipe_1 : List UInt8 := [182, 1, 56, 42, 180, 0, 48, 182, 1, 60, 172]
abbrev dktX1_writeRecipe_1 : List UInt8 := dkwX1_writeRecipe_1 ++ []
def dkwX1_writeRecipe_0 : List UInt8 := [42, 27, 182, 0, 135, 61, 42, 180, 0, 48, 3, 182, 1, 53, 42, 182, 0, 138, 42, 180, 0, 48, 28]
abbrev dktX1_writeRecipe_0 : List UInt8 := dkwX1_writeRecipe_0 ++ dktX1_writeRecipe_1
theorem dksX1_writeRecipe_0 : cX1_writeRecipe.data.toList.drop 0 = dktX1_writeRecipe_0 := by decide +kernel
theorem dksX1_writeRecipe_1 : cX1_writeRecipe.data.toList.drop 23 = dktX1_writeRecipe_1 := dk_seg dksX1_writeRecipe_0 23 rfl rfl
theorem dX1_writeRecipe_0 : decode cX1_writeRecipe 0 = .ok (.aload_n 0, 1) := dk_42 (dk_at dksX1_writeRecipe_0 0 rfl rfl)
theorem dX1_writeRecipe_1 : decode cX1_writeRecipe 1 = .ok (.iload_n 1, 1) := dk_27 (dk_at dksX1_writeRecipe_0 1 rfl rfl)
theorem dX1_writeRecipe_2 : decode cX1_writeRecipe 2 = .ok (.invokevirtual 135, 3) := dk_182 0 135 (dk_at dksX1_writeRecipe_0 2 rfl rfl)
theorem dX1_writeRecipe_5 : decode cX1_writeRecipe 5 = .ok (.istore_n 2, 1) := dk_61 (dk_at dksX1_writeRecipe_0 5 rfl rfl)
theorem dX1_writeRecipe_6 : decode cX1_writeRecipe 6 = .ok (.aload_n 0, 1) := dk_42 (dk_at dksX1_writeRecipe_0 6 rfl rfl)
theorem dX1_writeRecipe_7 : decode cX1_writeRecipe 7 = .ok (.getfield 48, 3) := dk_180 0 48 (dk_at dksX1_writeRecipe_0 7 rfl rfl)
theorem dX1_writeRecipe_10 : decode cX1_writeRecipe 10 = .ok (.iconst 0, 1) := dk_3 (dk_at dksX1_writeRecipe_0 10 rfl rfl)
theorem dX1_writeRecipe_11 : decode cX1_writeRecipe 11 = .ok (.invokevirtual 309, 3) := dk_182 1 53 (dk_at dksX1_writeRecipe_0 11 rfl rfl)
theorem dX1_writeRecipe_14 : decode cX1_writeRecipe 14 = .ok (.aload_n 0, 1) := dk_42 (dk_at dksX1_writeRecipe_0 14 rfl rfl)
theorem dX1_writeRecipe_15 : decode cX1_writeRecipe 15 = .ok (.invokevirtual 138, 3) := dk_182 0 138 (dk_at dksX1_writeRecipe_0 15 rfl rfl)
theorem dX1_writeRecipe_18 : decode cX1_writeRecipe 18 = .ok (.aload_n 0, 1) := dk_42 (dk_at dksX1_writeRecipe_0 18 rfl rfl)
theorem dX1_writeRecipe_19 : decode cX1_writeRecipe 19 = .ok (.getfield 48, 3) := dk_180 0 48 (dk_at dksX1_writeRecipe_0 19 rfl rfl)
theorem dX1_writeRecipe_22 : decode cX1_writeRecipe 22 = .ok (.iload_n 2, 1) := dk_28 (dk_at dksX1_writeRecipe_0 22 rfl rfl)
theorem dX1_writeRecipe_23 : decode cX1_writeRecipe 23 = .ok (.invokevirtual 312, 3) := dk_182 1 56 (dk_at dksX1_writeRecipe_1 0 rfl rfl)
theorem dX1_writeRecipe_26 : decode cX1_writeRecipe 26 = .ok (.aload_n 0, 1) := dk_42 (dk_at dksX1_writeRecipe_1 3 rfl rfl)
theorem dX1_writeRecipe_27 : decode cX1_writeRecipe 27 = .ok (.getfield 48, 3) := dk_180 0 48 (dk_at dksX1_writeRecipe_1 4 rfl rfl)
theorem dX1_writeRecipe_30 : decode cX1_writeRecipe 30 = .ok (.invokevirtual 316, 3) := dk_182 1 60 (dk_at dksX1_writeRecipe_1 7 rfl rfl)
theorem dX1_writeRecipe_33 : decode cX1_writeRecipe 33 = .ok (.ireturn, 1) := dk_172 (dk_at dksX1_writeRecipe_1 10 rfl rfl)
abbrev cX1_writeObject : ByteArray := prog_1_method_65_code
def yX1_writeObject : MethodName := ⟨RX1, "writeObject", "(I)I"⟩
def dkwX1_writeObject_1 : List UInt8 := [27, 182, 1, 63, 42, 180, 0, 48, 182, 1, 60, 172]
abbrev dktX1_writeObject_1 : List UInt8 := dkwX1_writeObject_1 ++ []
def dkwX1_writeObject_0 : List UInt8 := [42, 180, 0, 21, 27, 182, 1, 6, 42, 180, 0, 48, 3, 182, 1, 53, 42, 180, 0, 21, 42, 180, 0, 48]
abbrev dktX1_writeObject_0 : List UInt8 := dkwX1_writeObject_0 ++ dktX1_writeObject_1
theorem dksX1_writeObject_0 : cX1_writeObject.data.toList.drop 0 = dktX1_writeObject_0 := by decide +kernel
theorem dksX1_writeObject_1 : cX1_writeObject.data.toList.drop 24 = dktX1_writeObject_1 := dk_seg dksX1_writeObject_0 24 rfl rfl
theorem dX1_writeObject_0 : decode cX1_writeObject 0 = .ok (.aload_n 0, 1) := dk_42 (dk_at dksX1_writeObject_0 0 rfl rfl)
theorem dX1_writeObject_1 : decode cX1_writeObject 1 = .ok (.getfield 21, 3) := dk_180 0 21 (dk_at dksX1_writeObject_0 1 rfl rfl)
theorem dX1_writeObject_4 : decode cX1_writeObject 4 = .ok (.iload_n 1, 1) := dk_27 (dk_at dksX1_writeObject_0 4 rfl rfl)
theorem dX1_writeObject_5 : decode cX1_writeObject 5 = .ok (.invokevirtual 262, 3) := dk_182 1 6 (dk_at dksX1_writeObject_0 5 rfl rfl)
theorem dX1_writeObject_8 : decode cX1_writeObject 8 = .ok (.aload_n 0, 1) := dk_42 (dk_at dksX1_writeObject_0 8 rfl rfl)
theorem dX1_writeObject_9 : decode cX1_writeObject 9 = .ok (.getfield 48, 3) := dk_180 0 48 (dk_at dksX1_writeObject_0 9 rfl rfl)
theorem dX1_writeObject_12 : decode cX1_writeObject 12 = .ok (.iconst 0, 1) := dk_3 (dk_at dksX1_writeObject_0 12 rfl rfl)
theorem dX1_writeObject_13 : decode cX1_writeObject 13 = .ok (.invokevirtual 309, 3) := dk_182 1 53 (dk_at dksX1_writeObject_0 13 rfl rfl)
theorem dX1_writeObject_16 : decode cX1_writeObject 16 = .ok (.aload_n 0, 1) := dk_42 (dk_at dksX1_writeObject_0 16 rfl rfl)
theorem dX1_writeObject_17 : decode cX1_writeObject 17 = .ok (.getfield 21, 3) := dk_180 0 21 (dk_at dksX1_writeObject_0 17 rfl rfl)
theorem dX1_writeObject_20 : decode cX1_writeObject 20 = .ok (.aload_n 0, 1) := dk_42 (dk_at dksX1_writeObject_0 20 rfl rfl)
theorem dX1_writeObject_21 : decode cX1_writeObject 21 = .ok (.getfield 48, 3) := dk_180 0 48 (dk_at dksX1_writeObject_0 21 rfl rfl)
theorem dX1_writeObject_24 : decode cX1_writeObject 24 = .ok (.iload_n 1, 1) := dk_27 (dk_at dksX1_writeObject_1 0 rfl rfl)
theorem dX1_writeObject_25 : decode cX1_writeObject 25 = .ok (.invokevirtual 319, 3) := dk_182 1 63 (dk_at dksX1_writeObject_1 1 rfl rfl)
theorem dX1_writeObject_28 : decode cX1_writeObject 28 = .ok (.aload_n 0, 1) := dk_42 (dk_at dksX1_writeObject_1 4 rfl rfl)
theorem dX1_writeObject_29 : decode cX1_writeObject 29 = .ok (.getfield 48, 3) := dk_180 0 48 (dk_at dksX1_writeObject_1 5 rfl rfl)
theorem dX1_writeObject_32 : decode cX1_writeObject 32 = .ok (.invokevirtual 316, 3) := dk_182 1 60 (dk_at dksX1_writeObject_1 8 rfl rfl)
theorem dX1_writeObject_35 : decode cX1_writeObject 35 = .ok (.ireturn, 1) := dk_172 (dk_at dksX1_writeObject_1 11 rfl rfl)
abbrev cX1_lineAt : ByteArray := prog_1_method_66_code
def yX1_lineAt : MethodName := ⟨RX1, "lineAt", "(I)C"⟩
def dkwX1_lineAt_1 : List UInt8 := [182, 1, 66, 172]
abbrev dktX1_lineAt_1 : List UInt8 := dkwX1_lineAt_1 ++ []
def dkwX1_lineAt_0 : List UInt8 := [27, 3, 42, 180, 0, 48, 182, 1, 60, 4, 100, 184, 0, 3, 184, 0, 147, 42, 180, 0, 48, 27]
abbrev dktX1_lineAt_0 : List UInt8 := dkwX1_lineAt_0 ++ dktX1_lineAt_1
theorem dksX1_lineAt_0 : cX1_lineAt.data.toList.drop 0 = dktX1_lineAt_0 := by decide +kernel
theorem dksX1_lineAt_1 : cX1_lineAt.data.toList.drop 22 = dktX1_lineAt_1 := dk_seg dksX1_lineAt_0 22 rfl rfl
theorem dX1_lineAt_0 : decode cX1_lineAt 0 = .ok (.iload_n 1, 1) := dk_27 (dk_at dksX1_lineAt_0 0 rfl rfl)
theorem dX1_lineAt_1 : decode cX1_lineAt 1 = .ok (.iconst 0, 1) := dk_3 (dk_at dksX1_lineAt_0 1 rfl rfl)
theorem dX1_lineAt_2 : decode cX1_lineAt 2 = .ok (.aload_n 0, 1) := dk_42 (dk_at dksX1_lineAt_0 2 rfl rfl)
theorem dX1_lineAt_3 : decode cX1_lineAt 3 = .ok (.getfield 48, 3) := dk_180 0 48 (dk_at dksX1_lineAt_0 3 rfl rfl)
theorem dX1_lineAt_6 : decode cX1_lineAt 6 = .ok (.invokevirtual 316, 3) := dk_182 1 60 (dk_at dksX1_lineAt_0 6 rfl rfl)
theorem dX1_lineAt_9 : decode cX1_lineAt 9 = .ok (.iconst 1, 1) := dk_4 (dk_at dksX1_lineAt_0 9 rfl rfl)
theorem dX1_lineAt_10 : decode cX1_lineAt 10 = .ok (.isub, 1) := dk_100 (dk_at dksX1_lineAt_0 10 rfl rfl)
theorem dX1_lineAt_11 : decode cX1_lineAt 11 = .ok (.invokestatic 3, 3) := dk_184 0 3 (dk_at dksX1_lineAt_0 11 rfl rfl)
theorem dX1_lineAt_14 : decode cX1_lineAt 14 = .ok (.invokestatic 147, 3) := dk_184 0 147 (dk_at dksX1_lineAt_0 14 rfl rfl)
theorem dX1_lineAt_17 : decode cX1_lineAt 17 = .ok (.aload_n 0, 1) := dk_42 (dk_at dksX1_lineAt_0 17 rfl rfl)
theorem dX1_lineAt_18 : decode cX1_lineAt 18 = .ok (.getfield 48, 3) := dk_180 0 48 (dk_at dksX1_lineAt_0 18 rfl rfl)
theorem dX1_lineAt_21 : decode cX1_lineAt 21 = .ok (.iload_n 1, 1) := dk_27 (dk_at dksX1_lineAt_0 21 rfl rfl)
theorem dX1_lineAt_22 : decode cX1_lineAt 22 = .ok (.invokevirtual 322, 3) := dk_182 1 66 (dk_at dksX1_lineAt_1 0 rfl rfl)
theorem dX1_lineAt_25 : decode cX1_lineAt 25 = .ok (.ireturn, 1) := dk_172 (dk_at dksX1_lineAt_1 3 rfl rfl)
abbrev cX1_type : ByteArray := prog_1_method_69_code
def yX1_type : MethodName := ⟨RX1, "type", "(C)I"⟩
def dkwX1_type_1 : List UInt8 := [167, 0, 4, 3, 184, 1, 75, 42, 180, 0, 44, 27, 182, 1, 78, 87, 42, 180, 0, 44, 182, 1, 60, 172]
abbrev dktX1_type_1 : List UInt8 := dkwX1_type_1 ++ []
def dkwX1_type_0 : List UInt8 := [27, 16, 32, 16, 126, 184, 0, 3, 184, 0, 91, 42, 180, 0, 44, 182, 1, 60, 16, 60, 162, 0, 7, 4]
abbrev dktX1_type_0 : List UInt8 := dkwX1_type_0 ++ dktX1_type_1
theorem dksX1_type_0 : cX1_type.data.toList.drop 0 = dktX1_type_0 := by decide +kernel
theorem dksX1_type_1 : cX1_type.data.toList.drop 24 = dktX1_type_1 := dk_seg dksX1_type_0 24 rfl rfl
theorem dX1_type_0 : decode cX1_type 0 = .ok (.iload_n 1, 1) := dk_27 (dk_at dksX1_type_0 0 rfl rfl)
theorem dX1_type_1 : decode cX1_type 1 = .ok (.bipush 32, 2) := dk_16 32 (dk_at dksX1_type_0 1 rfl rfl)
theorem dX1_type_3 : decode cX1_type 3 = .ok (.bipush 126, 2) := dk_16 126 (dk_at dksX1_type_0 3 rfl rfl)
theorem dX1_type_5 : decode cX1_type 5 = .ok (.invokestatic 3, 3) := dk_184 0 3 (dk_at dksX1_type_0 5 rfl rfl)
theorem dX1_type_8 : decode cX1_type 8 = .ok (.invokestatic 91, 3) := dk_184 0 91 (dk_at dksX1_type_0 8 rfl rfl)
theorem dX1_type_11 : decode cX1_type 11 = .ok (.aload_n 0, 1) := dk_42 (dk_at dksX1_type_0 11 rfl rfl)
theorem dX1_type_12 : decode cX1_type 12 = .ok (.getfield 44, 3) := dk_180 0 44 (dk_at dksX1_type_0 12 rfl rfl)
theorem dX1_type_15 : decode cX1_type 15 = .ok (.invokevirtual 316, 3) := dk_182 1 60 (dk_at dksX1_type_0 15 rfl rfl)
theorem dX1_type_18 : decode cX1_type 18 = .ok (.bipush 60, 2) := dk_16 60 (dk_at dksX1_type_0 18 rfl rfl)
theorem dX1_type_20 : decode cX1_type 20 = .ok (.if_icmp .ge 7, 3) := dk_162 0 7 (dk_at dksX1_type_0 20 rfl rfl)
theorem dX1_type_23 : decode cX1_type 23 = .ok (.iconst 1, 1) := dk_4 (dk_at dksX1_type_0 23 rfl rfl)
theorem dX1_type_24 : decode cX1_type 24 = .ok (.goto 4, 3) := dk_167 0 4 (dk_at dksX1_type_1 0 rfl rfl)
theorem dX1_type_27 : decode cX1_type 27 = .ok (.iconst 0, 1) := dk_3 (dk_at dksX1_type_1 3 rfl rfl)
theorem dX1_type_28 : decode cX1_type 28 = .ok (.invokestatic 331, 3) := dk_184 1 75 (dk_at dksX1_type_1 4 rfl rfl)
theorem dX1_type_31 : decode cX1_type 31 = .ok (.aload_n 0, 1) := dk_42 (dk_at dksX1_type_1 7 rfl rfl)
theorem dX1_type_32 : decode cX1_type 32 = .ok (.getfield 44, 3) := dk_180 0 44 (dk_at dksX1_type_1 8 rfl rfl)
theorem dX1_type_35 : decode cX1_type 35 = .ok (.iload_n 1, 1) := dk_27 (dk_at dksX1_type_1 11 rfl rfl)
theorem dX1_type_36 : decode cX1_type 36 = .ok (.invokevirtual 334, 3) := dk_182 1 78 (dk_at dksX1_type_1 12 rfl rfl)
theorem dX1_type_39 : decode cX1_type 39 = .ok (.pop, 1) := dk_87 (dk_at dksX1_type_1 15 rfl rfl)
theorem dX1_type_40 : decode cX1_type 40 = .ok (.aload_n 0, 1) := dk_42 (dk_at dksX1_type_1 16 rfl rfl)
theorem dX1_type_41 : decode cX1_type 41 = .ok (.getfield 44, 3) := dk_180 0 44 (dk_at dksX1_type_1 17 rfl rfl)
theorem dX1_type_44 : decode cX1_type 44 = .ok (.invokevirtual 316, 3) := dk_182 1 60 (dk_at dksX1_type_1 20 rfl rfl)
theorem dX1_type_47 : decode cX1_type 47 = .ok (.ireturn, 1) := dk_172 (dk_at dksX1_type_1 23 rfl rfl)
abbrev cX1_execute : ByteArray := prog_1_method_73_code
def yX1_execute : MethodName := ⟨RX1, "execute", "()I"⟩
def dkwX1_execute_0 : List UInt8 := [42, 182, 1, 115, 42, 42, 186, 1, 116, 0, 0, 182, 0, 153, 172]
abbrev dktX1_execute_0 : List UInt8 := dkwX1_execute_0 ++ []
theorem dksX1_execute_0 : cX1_execute.data.toList.drop 0 = dktX1_execute_0 := by decide +kernel
theorem dX1_execute_0 : decode cX1_execute 0 = .ok (.aload_n 0, 1) := dk_42 (dk_at dksX1_execute_0 0 rfl rfl)
theorem dX1_execute_1 : decode cX1_execute 1 = .ok (.invokevirtual 371, 3) := dk_182 1 115 (dk_at dksX1_execute_0 1 rfl rfl)
theorem dX1_execute_4 : decode cX1_execute 4 = .ok (.aload_n 0, 1) := dk_42 (dk_at dksX1_execute_0 4 rfl rfl)
theorem dX1_execute_5 : decode cX1_execute 5 = .ok (.aload_n 0, 1) := dk_42 (dk_at dksX1_execute_0 5 rfl rfl)
theorem dX1_execute_6 : decode cX1_execute 6 = .ok (.invokedynamic 372, 5) := by decide +kernel
theorem dX1_execute_11 : decode cX1_execute 11 = .ok (.invokevirtual 153, 3) := dk_182 0 153 (dk_at dksX1_execute_0 11 rfl rfl)
theorem dX1_execute_14 : decode cX1_execute 14 = .ok (.ireturn, 1) := dk_172 (dk_at dksX1_execute_0 14 rfl rfl)
abbrev cX1_parse : ByteArray := prog_1_method_70_code
def yX1_parse : MethodName := ⟨RX1, "parse", "()V"⟩
def dkwX1_parse_1 : List UInt8 := [181, 0, 60, 187, 0, 68, 89, 183, 0, 70, 191, 77, 42, 180, 0, 44, 3, 182, 1, 53, 44, 191, 177]
abbrev dktX1_parse_1 : List UInt8 := dkwX1_parse_1 ++ []
def dkwX1_parse_0 : List UInt8 := [42, 180, 0, 56, 182, 1, 82, 42, 180, 0, 44, 3, 182, 1, 53, 167, 0, 31, 76, 42, 43, 180, 1, 87]
abbrev dktX1_parse_0 : List UInt8 := dkwX1_parse_0 ++ dktX1_parse_1
theorem dksX1_parse_0 : cX1_parse.data.toList.drop 0 = dktX1_parse_0 := by decide +kernel
theorem dksX1_parse_1 : cX1_parse.data.toList.drop 24 = dktX1_parse_1 := dk_seg dksX1_parse_0 24 rfl rfl
theorem dX1_parse_0 : decode cX1_parse 0 = .ok (.aload_n 0, 1) := dk_42 (dk_at dksX1_parse_0 0 rfl rfl)
theorem dX1_parse_1 : decode cX1_parse 1 = .ok (.getfield 56, 3) := dk_180 0 56 (dk_at dksX1_parse_0 1 rfl rfl)
theorem dX1_parse_4 : decode cX1_parse 4 = .ok (.invokevirtual 338, 3) := dk_182 1 82 (dk_at dksX1_parse_0 4 rfl rfl)
theorem dX1_parse_7 : decode cX1_parse 7 = .ok (.aload_n 0, 1) := dk_42 (dk_at dksX1_parse_0 7 rfl rfl)
theorem dX1_parse_8 : decode cX1_parse 8 = .ok (.getfield 44, 3) := dk_180 0 44 (dk_at dksX1_parse_0 8 rfl rfl)
theorem dX1_parse_11 : decode cX1_parse 11 = .ok (.iconst 0, 1) := dk_3 (dk_at dksX1_parse_0 11 rfl rfl)
theorem dX1_parse_12 : decode cX1_parse 12 = .ok (.invokevirtual 309, 3) := dk_182 1 53 (dk_at dksX1_parse_0 12 rfl rfl)
theorem dX1_parse_15 : decode cX1_parse 15 = .ok (.goto 31, 3) := dk_167 0 31 (dk_at dksX1_parse_0 15 rfl rfl)
theorem dX1_parse_18 : decode cX1_parse 18 = .ok (.astore_n 1, 1) := dk_76 (dk_at dksX1_parse_0 18 rfl rfl)
theorem dX1_parse_19 : decode cX1_parse 19 = .ok (.aload_n 0, 1) := dk_42 (dk_at dksX1_parse_0 19 rfl rfl)
theorem dX1_parse_20 : decode cX1_parse 20 = .ok (.aload_n 1, 1) := dk_43 (dk_at dksX1_parse_0 20 rfl rfl)
theorem dX1_parse_21 : decode cX1_parse 21 = .ok (.getfield 343, 3) := dk_180 1 87 (dk_at dksX1_parse_0 21 rfl rfl)
theorem dX1_parse_24 : decode cX1_parse 24 = .ok (.putfield 60, 3) := dk_181 0 60 (dk_at dksX1_parse_1 0 rfl rfl)
theorem dX1_parse_27 : decode cX1_parse 27 = .ok (.new 68, 3) := dk_187 0 68 (dk_at dksX1_parse_1 3 rfl rfl)
theorem dX1_parse_30 : decode cX1_parse 30 = .ok (.dup, 1) := dk_89 (dk_at dksX1_parse_1 6 rfl rfl)
theorem dX1_parse_31 : decode cX1_parse 31 = .ok (.invokespecial 70, 3) := dk_183 0 70 (dk_at dksX1_parse_1 7 rfl rfl)
theorem dX1_parse_34 : decode cX1_parse 34 = .ok (.athrow, 1) := dk_191 (dk_at dksX1_parse_1 10 rfl rfl)
theorem dX1_parse_35 : decode cX1_parse 35 = .ok (.astore_n 2, 1) := dk_77 (dk_at dksX1_parse_1 11 rfl rfl)
theorem dX1_parse_36 : decode cX1_parse 36 = .ok (.aload_n 0, 1) := dk_42 (dk_at dksX1_parse_1 12 rfl rfl)
theorem dX1_parse_37 : decode cX1_parse 37 = .ok (.getfield 44, 3) := dk_180 0 44 (dk_at dksX1_parse_1 13 rfl rfl)
theorem dX1_parse_40 : decode cX1_parse 40 = .ok (.iconst 0, 1) := dk_3 (dk_at dksX1_parse_1 16 rfl rfl)
theorem dX1_parse_41 : decode cX1_parse 41 = .ok (.invokevirtual 309, 3) := dk_182 1 53 (dk_at dksX1_parse_1 17 rfl rfl)
theorem dX1_parse_44 : decode cX1_parse 44 = .ok (.aload_n 2, 1) := dk_44 (dk_at dksX1_parse_1 20 rfl rfl)
theorem dX1_parse_45 : decode cX1_parse 45 = .ok (.athrow, 1) := dk_191 (dk_at dksX1_parse_1 21 rfl rfl)
theorem dX1_parse_46 : decode cX1_parse 46 = .ok (.return_, 1) := dk_177 (dk_at dksX1_parse_1 22 rfl rfl)
abbrev cX1_lambda_execute_10 : ByteArray := prog_1_method_78_code
def yX1_lambda_execute_10 : MethodName := ⟨RX1, "lambda$execute$10", "(LClockworkTailor$State;)I"⟩
def dkwX1_lambda_execute_10_0 : List UInt8 := [42, 43, 182, 1, 129, 172]
abbrev dktX1_lambda_execute_10_0 : List UInt8 := dkwX1_lambda_execute_10_0 ++ []
theorem dksX1_lambda_execute_10_0 : cX1_lambda_execute_10.data.toList.drop 0 = dktX1_lambda_execute_10_0 := by decide +kernel
theorem dX1_lambda_execute_10_0 : decode cX1_lambda_execute_10 0 = .ok (.aload_n 0, 1) := dk_42 (dk_at dksX1_lambda_execute_10_0 0 rfl rfl)
theorem dX1_lambda_execute_10_1 : decode cX1_lambda_execute_10 1 = .ok (.aload_n 1, 1) := dk_43 (dk_at dksX1_lambda_execute_10_0 1 rfl rfl)
theorem dX1_lambda_execute_10_2 : decode cX1_lambda_execute_10 2 = .ok (.invokevirtual 385, 3) := dk_182 1 129 (dk_at dksX1_lambda_execute_10_0 2 rfl rfl)
theorem dX1_lambda_execute_10_5 : decode cX1_lambda_execute_10 5 = .ok (.ireturn, 1) := dk_172 (dk_at dksX1_lambda_execute_10_0 5 rfl rfl)
abbrev cX1_performAll : ByteArray := prog_1_method_72_code
def yX1_performAll : MethodName := ⟨RX1, "performAll", "(LClockworkTailor$State;)I"⟩
def dkwX1_performAll_2 : List UInt8 := [172]
abbrev dktX1_performAll_2 : List UInt8 := dkwX1_performAll_2 ++ []
def dkwX1_performAll_1 : List UInt8 := [185, 1, 108, 1, 0, 192, 0, 99, 58, 4, 43, 25, 4, 28, 184, 1, 111, 132, 2, 1, 167, 255, 226, 28]
abbrev dktX1_performAll_1 : List UInt8 := dkwX1_performAll_1 ++ dktX1_performAll_2
def dkwX1_performAll_0 : List UInt8 := [3, 61, 42, 180, 0, 56, 180, 1, 93, 182, 1, 97, 78, 45, 185, 1, 103, 1, 0, 153, 0, 27, 45]
abbrev dktX1_performAll_0 : List UInt8 := dkwX1_performAll_0 ++ dktX1_performAll_1
theorem dksX1_performAll_0 : cX1_performAll.data.toList.drop 0 = dktX1_performAll_0 := by decide +kernel
theorem dksX1_performAll_1 : cX1_performAll.data.toList.drop 23 = dktX1_performAll_1 := dk_seg dksX1_performAll_0 23 rfl rfl
theorem dksX1_performAll_2 : cX1_performAll.data.toList.drop 47 = dktX1_performAll_2 := dk_seg dksX1_performAll_1 24 rfl rfl
theorem dX1_performAll_0 : decode cX1_performAll 0 = .ok (.iconst 0, 1) := dk_3 (dk_at dksX1_performAll_0 0 rfl rfl)
theorem dX1_performAll_1 : decode cX1_performAll 1 = .ok (.istore_n 2, 1) := dk_61 (dk_at dksX1_performAll_0 1 rfl rfl)
theorem dX1_performAll_2 : decode cX1_performAll 2 = .ok (.aload_n 0, 1) := dk_42 (dk_at dksX1_performAll_0 2 rfl rfl)
theorem dX1_performAll_3 : decode cX1_performAll 3 = .ok (.getfield 56, 3) := dk_180 0 56 (dk_at dksX1_performAll_0 3 rfl rfl)
theorem dX1_performAll_6 : decode cX1_performAll 6 = .ok (.getfield 349, 3) := dk_180 1 93 (dk_at dksX1_performAll_0 6 rfl rfl)
theorem dX1_performAll_9 : decode cX1_performAll 9 = .ok (.invokevirtual 353, 3) := dk_182 1 97 (dk_at dksX1_performAll_0 9 rfl rfl)
theorem dX1_performAll_12 : decode cX1_performAll 12 = .ok (.astore_n 3, 1) := dk_78 (dk_at dksX1_performAll_0 12 rfl rfl)
theorem dX1_performAll_13 : decode cX1_performAll 13 = .ok (.aload_n 3, 1) := dk_45 (dk_at dksX1_performAll_0 13 rfl rfl)
theorem dX1_performAll_14 : decode cX1_performAll 14 = .ok (.invokeinterface 359 1, 5) := by decide +kernel
theorem dX1_performAll_19 : decode cX1_performAll 19 = .ok (.ifCond .eq 27, 3) := dk_153 0 27 (dk_at dksX1_performAll_0 19 rfl rfl)
theorem dX1_performAll_22 : decode cX1_performAll 22 = .ok (.aload_n 3, 1) := dk_45 (dk_at dksX1_performAll_0 22 rfl rfl)
theorem dX1_performAll_23 : decode cX1_performAll 23 = .ok (.invokeinterface 364 1, 5) := by decide +kernel
theorem dX1_performAll_28 : decode cX1_performAll 28 = .ok (.checkcast 99, 3) := dk_192 0 99 (dk_at dksX1_performAll_1 5 rfl rfl)
theorem dX1_performAll_31 : decode cX1_performAll 31 = .ok (.astore 4, 2) := dk_58 4 (dk_at dksX1_performAll_1 8 rfl rfl)
theorem dX1_performAll_33 : decode cX1_performAll 33 = .ok (.aload_n 1, 1) := dk_43 (dk_at dksX1_performAll_1 10 rfl rfl)
theorem dX1_performAll_34 : decode cX1_performAll 34 = .ok (.aload 4, 2) := dk_25 4 (dk_at dksX1_performAll_1 11 rfl rfl)
theorem dX1_performAll_36 : decode cX1_performAll 36 = .ok (.iload_n 2, 1) := dk_28 (dk_at dksX1_performAll_1 13 rfl rfl)
theorem dX1_performAll_37 : decode cX1_performAll 37 = .ok (.invokestatic 367, 3) := dk_184 1 111 (dk_at dksX1_performAll_1 14 rfl rfl)
theorem dX1_performAll_40 : decode cX1_performAll 40 = .ok (.iinc 2 1, 3) := dk_132 2 1 (dk_at dksX1_performAll_1 17 rfl rfl)
theorem dX1_performAll_43 : decode cX1_performAll 43 = .ok (.goto (-30), 3) := dk_167 255 226 (dk_at dksX1_performAll_1 20 rfl rfl)
theorem dX1_performAll_46 : decode cX1_performAll 46 = .ok (.iload_n 2, 1) := dk_28 (dk_at dksX1_performAll_1 23 rfl rfl)
theorem dX1_performAll_47 : decode cX1_performAll 47 = .ok (.ireturn, 1) := dk_172 (dk_at dksX1_performAll_2 0 rfl rfl)
abbrev cX1_performOne : ByteArray := prog_1_method_71_code
def yX1_performOne : MethodName := ⟨RX1, "performOne", "(LClockworkTailor$State;LClockworkTailor$Change;I)V"⟩
def dkwX1_performOne_1 : List UInt8 := [78, 187, 0, 7, 89, 16, 8, 28, 187, 0, 7, 89, 16, 9, 3, 183, 0, 9, 183, 1, 90, 191, 177]
abbrev dktX1_performOne_1 : List UInt8 := dkwX1_performOne_1 ++ []
def dkwX1_performOne_0 : List UInt8 := [43, 42, 185, 0, 98, 2, 0, 62, 167, 0, 38, 78, 187, 0, 7, 89, 16, 8, 28, 45, 183, 1, 90, 191]
abbrev dktX1_performOne_0 : List UInt8 := dkwX1_performOne_0 ++ dktX1_performOne_1
theorem dksX1_performOne_0 : cX1_performOne.data.toList.drop 0 = dktX1_performOne_0 := by decide +kernel
theorem dksX1_performOne_1 : cX1_performOne.data.toList.drop 24 = dktX1_performOne_1 := dk_seg dksX1_performOne_0 24 rfl rfl
theorem dX1_performOne_0 : decode cX1_performOne 0 = .ok (.aload_n 1, 1) := dk_43 (dk_at dksX1_performOne_0 0 rfl rfl)
theorem dX1_performOne_1 : decode cX1_performOne 1 = .ok (.aload_n 0, 1) := dk_42 (dk_at dksX1_performOne_0 1 rfl rfl)
theorem dX1_performOne_2 : decode cX1_performOne 2 = .ok (.invokeinterface 98 2, 5) := by decide +kernel
theorem dX1_performOne_7 : decode cX1_performOne 7 = .ok (.istore_n 3, 1) := dk_62 (dk_at dksX1_performOne_0 7 rfl rfl)
theorem dX1_performOne_8 : decode cX1_performOne 8 = .ok (.goto 38, 3) := dk_167 0 38 (dk_at dksX1_performOne_0 8 rfl rfl)
theorem dX1_performOne_11 : decode cX1_performOne 11 = .ok (.astore_n 3, 1) := dk_78 (dk_at dksX1_performOne_0 11 rfl rfl)
theorem dX1_performOne_12 : decode cX1_performOne 12 = .ok (.new 7, 3) := dk_187 0 7 (dk_at dksX1_performOne_0 12 rfl rfl)
theorem dX1_performOne_15 : decode cX1_performOne 15 = .ok (.dup, 1) := dk_89 (dk_at dksX1_performOne_0 15 rfl rfl)
theorem dX1_performOne_16 : decode cX1_performOne 16 = .ok (.bipush 8, 2) := dk_16 8 (dk_at dksX1_performOne_0 16 rfl rfl)
theorem dX1_performOne_18 : decode cX1_performOne 18 = .ok (.iload_n 2, 1) := dk_28 (dk_at dksX1_performOne_0 18 rfl rfl)
theorem dX1_performOne_19 : decode cX1_performOne 19 = .ok (.aload_n 3, 1) := dk_45 (dk_at dksX1_performOne_0 19 rfl rfl)
theorem dX1_performOne_20 : decode cX1_performOne 20 = .ok (.invokespecial 346, 3) := dk_183 1 90 (dk_at dksX1_performOne_0 20 rfl rfl)
theorem dX1_performOne_23 : decode cX1_performOne 23 = .ok (.athrow, 1) := dk_191 (dk_at dksX1_performOne_0 23 rfl rfl)
theorem dX1_performOne_24 : decode cX1_performOne 24 = .ok (.astore_n 3, 1) := dk_78 (dk_at dksX1_performOne_1 0 rfl rfl)
theorem dX1_performOne_25 : decode cX1_performOne 25 = .ok (.new 7, 3) := dk_187 0 7 (dk_at dksX1_performOne_1 1 rfl rfl)
theorem dX1_performOne_28 : decode cX1_performOne 28 = .ok (.dup, 1) := dk_89 (dk_at dksX1_performOne_1 4 rfl rfl)
theorem dX1_performOne_29 : decode cX1_performOne 29 = .ok (.bipush 8, 2) := dk_16 8 (dk_at dksX1_performOne_1 5 rfl rfl)
theorem dX1_performOne_31 : decode cX1_performOne 31 = .ok (.iload_n 2, 1) := dk_28 (dk_at dksX1_performOne_1 7 rfl rfl)
theorem dX1_performOne_32 : decode cX1_performOne 32 = .ok (.new 7, 3) := dk_187 0 7 (dk_at dksX1_performOne_1 8 rfl rfl)
theorem dX1_performOne_35 : decode cX1_performOne 35 = .ok (.dup, 1) := dk_89 (dk_at dksX1_performOne_1 11 rfl rfl)
theorem dX1_performOne_36 : decode cX1_performOne 36 = .ok (.bipush 9, 2) := dk_16 9 (dk_at dksX1_performOne_1 12 rfl rfl)
theorem dX1_performOne_38 : decode cX1_performOne 38 = .ok (.iconst 0, 1) := dk_3 (dk_at dksX1_performOne_1 14 rfl rfl)
theorem dX1_performOne_39 : decode cX1_performOne 39 = .ok (.invokespecial 9, 3) := dk_183 0 9 (dk_at dksX1_performOne_1 15 rfl rfl)
theorem dX1_performOne_42 : decode cX1_performOne 42 = .ok (.invokespecial 346, 3) := dk_183 1 90 (dk_at dksX1_performOne_1 18 rfl rfl)
theorem dX1_performOne_45 : decode cX1_performOne 45 = .ok (.athrow, 1) := dk_191 (dk_at dksX1_performOne_1 21 rfl rfl)
theorem dX1_performOne_46 : decode cX1_performOne 46 = .ok (.return_, 1) := dk_177 (dk_at dksX1_performOne_1 22 rfl rfl)
abbrev cX1_errorPosition : ByteArray := prog_1_method_74_code
def yX1_errorPosition : MethodName := ⟨RX1, "errorPosition", "()I"⟩
def dkwX1_errorPosition_0 : List UInt8 := [42, 180, 0, 60, 184, 0, 214, 172]
abbrev dktX1_errorPosition_0 : List UInt8 := dkwX1_errorPosition_0 ++ []
theorem dksX1_errorPosition_0 : cX1_errorPosition.data.toList.drop 0 = dktX1_errorPosition_0 := by decide +kernel
theorem dX1_errorPosition_0 : decode cX1_errorPosition 0 = .ok (.aload_n 0, 1) := dk_42 (dk_at dksX1_errorPosition_0 0 rfl rfl)
theorem dX1_errorPosition_1 : decode cX1_errorPosition 1 = .ok (.getfield 60, 3) := dk_180 0 60 (dk_at dksX1_errorPosition_0 1 rfl rfl)
theorem dX1_errorPosition_4 : decode cX1_errorPosition 4 = .ok (.invokestatic 214, 3) := dk_184 0 214 (dk_at dksX1_errorPosition_0 4 rfl rfl)
theorem dX1_errorPosition_7 : decode cX1_errorPosition 7 = .ok (.ireturn, 1) := dk_172 (dk_at dksX1_errorPosition_0 7 rfl rfl)
abbrev cX1_undo : ByteArray := prog_1_method_75_code
def yX1_undo : MethodName := ⟨RX1, "undo", "()I"⟩
def dkwX1_undo_2 : List UInt8 := [180, 0, 34, 182, 1, 122, 172]
abbrev dktX1_undo_2 : List UInt8 := dkwX1_undo_2 ++ []
def dkwX1_undo_1 : List UInt8 := [182, 1, 119, 192, 0, 18, 76, 42, 180, 0, 21, 43, 182, 0, 94, 42, 180, 0, 38, 43, 182, 0, 64, 42]
abbrev dktX1_undo_1 : List UInt8 := dkwX1_undo_1 ++ dktX1_undo_2
def dkwX1_undo_0 : List UInt8 := [42, 180, 0, 34, 182, 0, 115, 154, 0, 7, 4, 167, 0, 4, 3, 184, 1, 75, 42, 180, 0, 34]
abbrev dktX1_undo_0 : List UInt8 := dkwX1_undo_0 ++ dktX1_undo_1
theorem dksX1_undo_0 : cX1_undo.data.toList.drop 0 = dktX1_undo_0 := by decide +kernel
theorem dksX1_undo_1 : cX1_undo.data.toList.drop 22 = dktX1_undo_1 := dk_seg dksX1_undo_0 22 rfl rfl
theorem dksX1_undo_2 : cX1_undo.data.toList.drop 46 = dktX1_undo_2 := dk_seg dksX1_undo_1 24 rfl rfl
theorem dX1_undo_0 : decode cX1_undo 0 = .ok (.aload_n 0, 1) := dk_42 (dk_at dksX1_undo_0 0 rfl rfl)
theorem dX1_undo_1 : decode cX1_undo 1 = .ok (.getfield 34, 3) := dk_180 0 34 (dk_at dksX1_undo_0 1 rfl rfl)
theorem dX1_undo_4 : decode cX1_undo 4 = .ok (.invokevirtual 115, 3) := dk_182 0 115 (dk_at dksX1_undo_0 4 rfl rfl)
theorem dX1_undo_7 : decode cX1_undo 7 = .ok (.ifCond .ne 7, 3) := dk_154 0 7 (dk_at dksX1_undo_0 7 rfl rfl)
theorem dX1_undo_10 : decode cX1_undo 10 = .ok (.iconst 1, 1) := dk_4 (dk_at dksX1_undo_0 10 rfl rfl)
theorem dX1_undo_11 : decode cX1_undo 11 = .ok (.goto 4, 3) := dk_167 0 4 (dk_at dksX1_undo_0 11 rfl rfl)
theorem dX1_undo_14 : decode cX1_undo 14 = .ok (.iconst 0, 1) := dk_3 (dk_at dksX1_undo_0 14 rfl rfl)
theorem dX1_undo_15 : decode cX1_undo 15 = .ok (.invokestatic 331, 3) := dk_184 1 75 (dk_at dksX1_undo_0 15 rfl rfl)
theorem dX1_undo_18 : decode cX1_undo 18 = .ok (.aload_n 0, 1) := dk_42 (dk_at dksX1_undo_0 18 rfl rfl)
theorem dX1_undo_19 : decode cX1_undo 19 = .ok (.getfield 34, 3) := dk_180 0 34 (dk_at dksX1_undo_0 19 rfl rfl)
theorem dX1_undo_22 : decode cX1_undo 22 = .ok (.invokevirtual 375, 3) := dk_182 1 119 (dk_at dksX1_undo_1 0 rfl rfl)
theorem dX1_undo_25 : decode cX1_undo 25 = .ok (.checkcast 18, 3) := dk_192 0 18 (dk_at dksX1_undo_1 3 rfl rfl)
theorem dX1_undo_28 : decode cX1_undo 28 = .ok (.astore_n 1, 1) := dk_76 (dk_at dksX1_undo_1 6 rfl rfl)
theorem dX1_undo_29 : decode cX1_undo 29 = .ok (.aload_n 0, 1) := dk_42 (dk_at dksX1_undo_1 7 rfl rfl)
theorem dX1_undo_30 : decode cX1_undo 30 = .ok (.getfield 21, 3) := dk_180 0 21 (dk_at dksX1_undo_1 8 rfl rfl)
theorem dX1_undo_33 : decode cX1_undo 33 = .ok (.aload_n 1, 1) := dk_43 (dk_at dksX1_undo_1 11 rfl rfl)
theorem dX1_undo_34 : decode cX1_undo 34 = .ok (.invokevirtual 94, 3) := dk_182 0 94 (dk_at dksX1_undo_1 12 rfl rfl)
theorem dX1_undo_37 : decode cX1_undo 37 = .ok (.aload_n 0, 1) := dk_42 (dk_at dksX1_undo_1 15 rfl rfl)
theorem dX1_undo_38 : decode cX1_undo 38 = .ok (.getfield 38, 3) := dk_180 0 38 (dk_at dksX1_undo_1 16 rfl rfl)
theorem dX1_undo_41 : decode cX1_undo 41 = .ok (.aload_n 1, 1) := dk_43 (dk_at dksX1_undo_1 19 rfl rfl)
theorem dX1_undo_42 : decode cX1_undo 42 = .ok (.invokevirtual 64, 3) := dk_182 0 64 (dk_at dksX1_undo_1 20 rfl rfl)
theorem dX1_undo_45 : decode cX1_undo 45 = .ok (.aload_n 0, 1) := dk_42 (dk_at dksX1_undo_1 23 rfl rfl)
theorem dX1_undo_46 : decode cX1_undo 46 = .ok (.getfield 34, 3) := dk_180 0 34 (dk_at dksX1_undo_2 0 rfl rfl)
theorem dX1_undo_49 : decode cX1_undo 49 = .ok (.invokevirtual 378, 3) := dk_182 1 122 (dk_at dksX1_undo_2 3 rfl rfl)
theorem dX1_undo_52 : decode cX1_undo 52 = .ok (.ireturn, 1) := dk_172 (dk_at dksX1_undo_2 6 rfl rfl)
abbrev cX1_restore : ByteArray := prog_1_method_77_code
def yX1_restore : MethodName := ⟨RX1, "restore", "()I"⟩
def dkwX1_restore_2 : List UInt8 := [167, 255, 229, 42, 180, 0, 21, 180, 1, 0, 172]
abbrev dktX1_restore_2 : List UInt8 := dkwX1_restore_2 ++ []
def dkwX1_restore_1 : List UInt8 := [182, 0, 115, 154, 0, 23, 42, 180, 0, 38, 42, 180, 0, 34, 182, 1, 119, 192, 0, 18, 182, 0, 64]
abbrev dktX1_restore_1 : List UInt8 := dkwX1_restore_1 ++ dktX1_restore_2
def dkwX1_restore_0 : List UInt8 := [42, 180, 1, 125, 184, 1, 75, 42, 180, 0, 21, 42, 180, 0, 28, 182, 0, 94, 42, 180, 0, 34]
abbrev dktX1_restore_0 : List UInt8 := dkwX1_restore_0 ++ dktX1_restore_1
theorem dksX1_restore_0 : cX1_restore.data.toList.drop 0 = dktX1_restore_0 := by decide +kernel
theorem dksX1_restore_1 : cX1_restore.data.toList.drop 22 = dktX1_restore_1 := dk_seg dksX1_restore_0 22 rfl rfl
theorem dksX1_restore_2 : cX1_restore.data.toList.drop 45 = dktX1_restore_2 := dk_seg dksX1_restore_1 23 rfl rfl
theorem dX1_restore_0 : decode cX1_restore 0 = .ok (.aload_n 0, 1) := dk_42 (dk_at dksX1_restore_0 0 rfl rfl)
theorem dX1_restore_1 : decode cX1_restore 1 = .ok (.getfield 381, 3) := dk_180 1 125 (dk_at dksX1_restore_0 1 rfl rfl)
theorem dX1_restore_4 : decode cX1_restore 4 = .ok (.invokestatic 331, 3) := dk_184 1 75 (dk_at dksX1_restore_0 4 rfl rfl)
theorem dX1_restore_7 : decode cX1_restore 7 = .ok (.aload_n 0, 1) := dk_42 (dk_at dksX1_restore_0 7 rfl rfl)
theorem dX1_restore_8 : decode cX1_restore 8 = .ok (.getfield 21, 3) := dk_180 0 21 (dk_at dksX1_restore_0 8 rfl rfl)
theorem dX1_restore_11 : decode cX1_restore 11 = .ok (.aload_n 0, 1) := dk_42 (dk_at dksX1_restore_0 11 rfl rfl)
theorem dX1_restore_12 : decode cX1_restore 12 = .ok (.getfield 28, 3) := dk_180 0 28 (dk_at dksX1_restore_0 12 rfl rfl)
theorem dX1_restore_15 : decode cX1_restore 15 = .ok (.invokevirtual 94, 3) := dk_182 0 94 (dk_at dksX1_restore_0 15 rfl rfl)
theorem dX1_restore_18 : decode cX1_restore 18 = .ok (.aload_n 0, 1) := dk_42 (dk_at dksX1_restore_0 18 rfl rfl)
theorem dX1_restore_19 : decode cX1_restore 19 = .ok (.getfield 34, 3) := dk_180 0 34 (dk_at dksX1_restore_0 19 rfl rfl)
theorem dX1_restore_22 : decode cX1_restore 22 = .ok (.invokevirtual 115, 3) := dk_182 0 115 (dk_at dksX1_restore_1 0 rfl rfl)
theorem dX1_restore_25 : decode cX1_restore 25 = .ok (.ifCond .ne 23, 3) := dk_154 0 23 (dk_at dksX1_restore_1 3 rfl rfl)
theorem dX1_restore_28 : decode cX1_restore 28 = .ok (.aload_n 0, 1) := dk_42 (dk_at dksX1_restore_1 6 rfl rfl)
theorem dX1_restore_29 : decode cX1_restore 29 = .ok (.getfield 38, 3) := dk_180 0 38 (dk_at dksX1_restore_1 7 rfl rfl)
theorem dX1_restore_32 : decode cX1_restore 32 = .ok (.aload_n 0, 1) := dk_42 (dk_at dksX1_restore_1 10 rfl rfl)
theorem dX1_restore_33 : decode cX1_restore 33 = .ok (.getfield 34, 3) := dk_180 0 34 (dk_at dksX1_restore_1 11 rfl rfl)
theorem dX1_restore_36 : decode cX1_restore 36 = .ok (.invokevirtual 375, 3) := dk_182 1 119 (dk_at dksX1_restore_1 14 rfl rfl)
theorem dX1_restore_39 : decode cX1_restore 39 = .ok (.checkcast 18, 3) := dk_192 0 18 (dk_at dksX1_restore_1 17 rfl rfl)
theorem dX1_restore_42 : decode cX1_restore 42 = .ok (.invokevirtual 64, 3) := dk_182 0 64 (dk_at dksX1_restore_1 20 rfl rfl)
theorem dX1_restore_45 : decode cX1_restore 45 = .ok (.goto (-27), 3) := dk_167 255 229 (dk_at dksX1_restore_2 0 rfl rfl)
theorem dX1_restore_48 : decode cX1_restore 48 = .ok (.aload_n 0, 1) := dk_42 (dk_at dksX1_restore_2 3 rfl rfl)
theorem dX1_restore_49 : decode cX1_restore 49 = .ok (.getfield 21, 3) := dk_180 0 21 (dk_at dksX1_restore_2 4 rfl rfl)
theorem dX1_restore_52 : decode cX1_restore 52 = .ok (.getfield 256, 3) := dk_180 1 0 (dk_at dksX1_restore_2 7 rfl rfl)
theorem dX1_restore_55 : decode cX1_restore 55 = .ok (.ireturn, 1) := dk_172 (dk_at dksX1_restore_2 10 rfl rfl)
theorem q94 : (Jvm.Cond.initialized "ClockworkTailor") ∈ lw_all := lw_g (lw_at lw_m1 1 rfl) rfl
theorem q133 : (Jvm.Cond.instantiable "ClockworkTailor" (11 : Nat)) ∈ lw_all := lw_g (lw_at lw_m1 40 rfl) rfl
theorem q135 : (Jvm.Cond.instanceMethod ({ cls := "ClockworkTailor", name := "<init>", desc := "()V" } : Jvm.MethodName)) ∈ lw_all := lw_g (lw_at lw_m1 42 rfl) rfl
theorem q136 : (Jvm.Cond.code ({ cls := "ClockworkTailor", name := "<init>", desc := "()V" } : Jvm.MethodName) prog_1_method_7_code (2 : Nat) (Option.none : Option Jvm.ClassFile.FieldType)) ∈ lw_all := lw_g (lw_at lw_m1 43 rfl) rfl
theorem q137 : (Jvm.Cond.methodLink "ClockworkTailor" (13 : Nat) ({ cls := "java/lang/Object", name := "<init>", desc := "()V" } : Jvm.MethodName)) ∈ lw_all := lw_g (lw_at lw_m1 44 rfl) rfl
theorem q140 : (Jvm.Cond.classLink "ClockworkTailor" (18 : Nat) "ClockworkTailor$State") ∈ lw_all := lw_g (lw_at lw_m1 47 rfl) rfl
theorem q142 : (Jvm.Cond.methodLinkNest "ClockworkTailor" (20 : Nat) ({ cls := "ClockworkTailor$State", name := "<init>", desc := "()V" } : Jvm.MethodName) "ClockworkTailor") ∈ lw_tbl := lw_at lw_m1 49 rfl
theorem q155 : (Jvm.Cond.fieldLinkNest "ClockworkTailor" (170 : Nat) "ClockworkTailor$Book" "has" "[Z" "ClockworkTailor") ∈ lw_tbl := lw_at lw_m1 62 rfl
theorem q159 : (Jvm.Cond.fieldLinkNest "ClockworkTailor" (174 : Nat) "ClockworkTailor$Book" "scopes" "[C" "ClockworkTailor") ∈ lw_tbl := lw_at lw_m1 66 rfl
theorem q165 : (Jvm.Cond.fieldLinkNest "ClockworkTailor" (141 : Nat) "ClockworkTailor$Book" "counts" "[I" "ClockworkTailor") ∈ lw_tbl := lw_at lw_m1 72 rfl
theorem q190 : (Jvm.Cond.fieldLinkNest "ClockworkTailor" (123 : Nat) "ClockworkTailor$State" "book" "LClockworkTailor$Book;" "ClockworkTailor") ∈ lw_tbl := lw_at lw_m1 97 rfl
theorem q192 : (Jvm.Cond.fieldLinkNest "ClockworkTailor" (232 : Nat) "ClockworkTailor$State" "isOpen" "[Z" "ClockworkTailor") ∈ lw_tbl := lw_at lw_m1 99 rfl
theorem q194 : (Jvm.Cond.fieldLinkNest "ClockworkTailor" (256 : Nat) "ClockworkTailor$State" "objects" "I" "ClockworkTailor") ∈ lw_tbl := lw_at lw_m1 101 rfl
theorem q196 : (Jvm.Cond.fieldLinkNest "ClockworkTailor" (265 : Nat) "ClockworkTailor$State" "tools" "[I" "ClockworkTailor") ∈ lw_tbl := lw_at lw_m1 103 rfl
theorem q198 : (Jvm.Cond.fieldLinkNest "ClockworkTailor" (268 : Nat) "ClockworkTailor$State" "threads" "[I" "ClockworkTailor") ∈ lw_tbl := lw_at lw_m1 105 rfl
theorem q200 : (Jvm.Cond.fieldLinkNest "ClockworkTailor" (259 : Nat) "ClockworkTailor$State" "isThere" "[Z" "ClockworkTailor") ∈ lw_tbl := lw_at lw_m1 107 rfl
theorem q204 : (Jvm.Cond.fieldLinkNest "ClockworkTailor" (274 : Nat) "ClockworkTailor$State" "fillings" "[I" "ClockworkTailor") ∈ lw_tbl := lw_at lw_m1 111 rfl
theorem q206 : (Jvm.Cond.fieldLinkNest "ClockworkTailor" (280 : Nat) "ClockworkTailor$State" "got" "I" "ClockworkTailor") ∈ lw_tbl := lw_at lw_m1 113 rfl
theorem q208 : (Jvm.Cond.fieldLinkNest "ClockworkTailor" (283 : Nat) "ClockworkTailor$State" "reused" "I" "ClockworkTailor") ∈ lw_tbl := lw_at lw_m1 115 rfl
theorem q210 : (Jvm.Cond.fieldLinkNest "ClockworkTailor" (286 : Nat) "ClockworkTailor$State" "spent" "J" "ClockworkTailor") ∈ lw_tbl := lw_at lw_m1 117 rfl
theorem q242 : (Jvm.Cond.classLink "ClockworkTailor" (31 : Nat) "java/util/ArrayDeque") ∈ lw_all := lw_g (lw_at lw_m1 149 rfl) rfl
theorem q244 : (Jvm.Cond.methodLink "ClockworkTailor" (33 : Nat) ({ cls := "java/util/ArrayDeque", name := "<init>", desc := "()V" } : Jvm.MethodName)) ∈ lw_all := lw_g (lw_at lw_m1 151 rfl) rfl
theorem q263 : (Jvm.Cond.classLink "ClockworkTailor" (41 : Nat) "java/lang/StringBuilder") ∈ lw_all := lw_g (lw_at lw_m1 170 rfl) rfl
theorem q265 : (Jvm.Cond.methodLink "ClockworkTailor" (43 : Nat) ({ cls := "java/lang/StringBuilder", name := "<init>", desc := "()V" } : Jvm.MethodName)) ∈ lw_all := lw_g (lw_at lw_m1 172 rfl) rfl
theorem q296 : (Jvm.Cond.classLink "ClockworkTailor" (51 : Nat) "ClockworkTailor$Parser") ∈ lw_all := lw_g (lw_at lw_m1 203 rfl) rfl
theorem q298 : (Jvm.Cond.methodLink "ClockworkTailor" (53 : Nat) ({ cls := "ClockworkTailor$Parser", name := "<init>", desc := "(Ljava/lang/StringBuilder;)V" } : Jvm.MethodName)) ∈ lw_all := lw_g (lw_at lw_m1 205 rfl) rfl
theorem q331 : (Jvm.Cond.fieldLinkNest "ClockworkTailor" (349 : Nat) "ClockworkTailor$Parser" "changes" "Ljava/util/ArrayList;" "ClockworkTailor") ∈ lw_tbl := lw_at lw_m1 238 rfl
theorem q339 : (Jvm.Cond.methodLink "ClockworkTailor" (64 : Nat) ({ cls := "java/util/ArrayDeque", name := "addLast", desc := "(Ljava/lang/Object;)V" } : Jvm.MethodName)) ∈ lw_all := lw_g (lw_at lw_m2 6 rfl) rfl
theorem q436 : (Jvm.Cond.selects "ClockworkTailor" ({ cls := "java/lang/Object", name := "getClass", desc := "()Ljava/lang/Class;" } : Jvm.MethodName) ({ cls := "java/lang/Object", name := "getClass", desc := "()Ljava/lang/Class;" } : Jvm.MethodName)) ∈ lw_all := lw_g (lw_at lw_m2 103 rfl) rfl
theorem q472 : (Jvm.Cond.fieldLink "ClockworkTailor" (21 : Nat) "ClockworkTailor" "state" "LClockworkTailor$State;") ∈ lw_all := lw_g (lw_at lw_m2 139 rfl) rfl
theorem q473 : (Jvm.Cond.fieldLink "ClockworkTailor" (25 : Nat) "ClockworkTailor" "attempt" "LClockworkTailor$State;") ∈ lw_all := lw_g (lw_at lw_m2 140 rfl) rfl
theorem q474 : (Jvm.Cond.fieldLink "ClockworkTailor" (28 : Nat) "ClockworkTailor" "snapshot" "LClockworkTailor$State;") ∈ lw_all := lw_g (lw_at lw_m2 141 rfl) rfl
theorem q475 : (Jvm.Cond.fieldLink "ClockworkTailor" (381 : Nat) "ClockworkTailor" "hasSnapshot" "Z") ∈ lw_all := lw_g (lw_at lw_m2 142 rfl) rfl
theorem q476 : (Jvm.Cond.fieldLink "ClockworkTailor" (34 : Nat) "ClockworkTailor" "history" "Ljava/util/ArrayDeque;") ∈ lw_all := lw_g (lw_at lw_m2 143 rfl) rfl
theorem q477 : (Jvm.Cond.fieldLink "ClockworkTailor" (38 : Nat) "ClockworkTailor" "spare" "Ljava/util/ArrayDeque;") ∈ lw_all := lw_g (lw_at lw_m2 144 rfl) rfl
theorem q478 : (Jvm.Cond.fieldLink "ClockworkTailor" (44 : Nat) "ClockworkTailor" "buffer" "Ljava/lang/StringBuilder;") ∈ lw_all := lw_g (lw_at lw_m2 145 rfl) rfl
theorem q479 : (Jvm.Cond.fieldLink "ClockworkTailor" (48 : Nat) "ClockworkTailor" "line" "Ljava/lang/StringBuilder;") ∈ lw_all := lw_g (lw_at lw_m2 146 rfl) rfl
theorem q480 : (Jvm.Cond.fieldLink "ClockworkTailor" (56 : Nat) "ClockworkTailor" "parser" "LClockworkTailor$Parser;") ∈ lw_all := lw_g (lw_at lw_m2 147 rfl) rfl
theorem q481 : (Jvm.Cond.fieldLink "ClockworkTailor" (60 : Nat) "ClockworkTailor" "errorPosition" "I") ∈ lw_all := lw_g (lw_at lw_m2 148 rfl) rfl
theorem q482 : (Jvm.Cond.fieldLink "ClockworkTailor" (108 : Nat) "ClockworkTailor" "latest" "LClockworkTailor$Refusal;") ∈ lw_all := lw_g (lw_at lw_m2 149 rfl) rfl
theorem q483 : (Jvm.Cond.laysFinal "ClockworkTailor" "ClockworkTailor" "state" "LClockworkTailor$State;") ∈ lw_all := lw_g (lw_at lw_m2 150 rfl) rfl
theorem q484 : (Jvm.Cond.soleField "ClockworkTailor" "state") ∈ lw_all := lw_g (lw_at lw_m2 151 rfl) rfl
theorem q485 : (Jvm.Cond.laysFinal "ClockworkTailor" "ClockworkTailor" "attempt" "LClockworkTailor$State;") ∈ lw_all := lw_g (lw_at lw_m2 152 rfl) rfl
theorem q486 : (Jvm.Cond.soleField "ClockworkTailor" "attempt") ∈ lw_all := lw_g (lw_at lw_m2 153 rfl) rfl
theorem q487 : (Jvm.Cond.laysFinal "ClockworkTailor" "ClockworkTailor" "snapshot" "LClockworkTailor$State;") ∈ lw_all := lw_g (lw_at lw_m2 154 rfl) rfl
theorem q488 : (Jvm.Cond.soleField "ClockworkTailor" "snapshot") ∈ lw_all := lw_g (lw_at lw_m2 155 rfl) rfl
theorem q489 : (Jvm.Cond.lays "ClockworkTailor" "ClockworkTailor" "hasSnapshot" "Z") ∈ lw_all := lw_g (lw_at lw_m2 156 rfl) rfl
theorem q490 : (Jvm.Cond.soleField "ClockworkTailor" "hasSnapshot") ∈ lw_all := lw_g (lw_at lw_m2 157 rfl) rfl
theorem q491 : (Jvm.Cond.laysFinal "ClockworkTailor" "ClockworkTailor" "history" "Ljava/util/ArrayDeque;") ∈ lw_all := lw_g (lw_at lw_m2 158 rfl) rfl
theorem q492 : (Jvm.Cond.soleField "ClockworkTailor" "history") ∈ lw_all := lw_g (lw_at lw_m2 159 rfl) rfl
theorem q493 : (Jvm.Cond.laysFinal "ClockworkTailor" "ClockworkTailor" "spare" "Ljava/util/ArrayDeque;") ∈ lw_all := lw_g (lw_at lw_m2 160 rfl) rfl
theorem q494 : (Jvm.Cond.soleField "ClockworkTailor" "spare") ∈ lw_all := lw_g (lw_at lw_m2 161 rfl) rfl
theorem q495 : (Jvm.Cond.laysFinal "ClockworkTailor" "ClockworkTailor" "buffer" "Ljava/lang/StringBuilder;") ∈ lw_all := lw_g (lw_at lw_m2 162 rfl) rfl
theorem q496 : (Jvm.Cond.soleField "ClockworkTailor" "buffer") ∈ lw_all := lw_g (lw_at lw_m2 163 rfl) rfl
theorem q497 : (Jvm.Cond.laysFinal "ClockworkTailor" "ClockworkTailor" "line" "Ljava/lang/StringBuilder;") ∈ lw_all := lw_g (lw_at lw_m2 164 rfl) rfl
theorem q498 : (Jvm.Cond.soleField "ClockworkTailor" "line") ∈ lw_all := lw_g (lw_at lw_m2 165 rfl) rfl
theorem q499 : (Jvm.Cond.laysFinal "ClockworkTailor" "ClockworkTailor" "parser" "LClockworkTailor$Parser;") ∈ lw_all := lw_g (lw_at lw_m2 166 rfl) rfl
theorem q500 : (Jvm.Cond.soleField "ClockworkTailor" "parser") ∈ lw_all := lw_g (lw_at lw_m2 167 rfl) rfl
theorem q501 : (Jvm.Cond.lays "ClockworkTailor" "ClockworkTailor" "errorPosition" "I") ∈ lw_all := lw_g (lw_at lw_m2 168 rfl) rfl
theorem q502 : (Jvm.Cond.soleField "ClockworkTailor" "errorPosition") ∈ lw_all := lw_g (lw_at lw_m2 169 rfl) rfl
theorem q503 : (Jvm.Cond.lays "ClockworkTailor" "ClockworkTailor" "latest" "LClockworkTailor$Refusal;") ∈ lw_all := lw_g (lw_at lw_m2 170 rfl) rfl
theorem q504 : (Jvm.Cond.soleField "ClockworkTailor" "latest") ∈ lw_all := lw_g (lw_at lw_m2 171 rfl) rfl
theorem q505 : (Jvm.Cond.superclass "ClockworkTailor" "java/lang/Object") ∈ lw_all := lw_g (lw_at lw_m2 172 rfl) rfl
theorem q507 : (Jvm.Cond.instanceMethod ({ cls := "ClockworkTailor", name := "recipeCount", desc := "()I" } : Jvm.MethodName)) ∈ lw_all := lw_g (lw_at lw_m2 174 rfl) rfl
theorem q508 : (Jvm.Cond.selects "ClockworkTailor" ({ cls := "ClockworkTailor", name := "recipeCount", desc := "()I" } : Jvm.MethodName) ({ cls := "ClockworkTailor", name := "recipeCount", desc := "()I" } : Jvm.MethodName)) ∈ lw_all := lw_g (lw_at lw_m2 175 rfl) rfl
theorem q509 : (Jvm.Cond.code ({ cls := "ClockworkTailor", name := "recipeCount", desc := "()I" } : Jvm.MethodName) prog_1_method_25_code (1 : Nat) (Option.some Jvm.ClassFile.FieldType.int)) ∈ lw_all := lw_g (lw_at lw_m2 176 rfl) rfl
theorem q510 : (Jvm.Cond.methodLink "ClockworkTailor" (138 : Nat) ({ cls := "ClockworkTailor", name := "book", desc := "()LClockworkTailor$Book;" } : Jvm.MethodName)) ∈ lw_all := lw_g (lw_at lw_m2 177 rfl) rfl
theorem q511 : (Jvm.Cond.privateMethod ({ cls := "ClockworkTailor", name := "book", desc := "()LClockworkTailor$Book;" } : Jvm.MethodName)) ∈ lw_tbl := lw_at lw_m2 178 rfl
theorem q512 : (Jvm.Cond.instanceMethod ({ cls := "ClockworkTailor", name := "book", desc := "()LClockworkTailor$Book;" } : Jvm.MethodName)) ∈ lw_all := lw_g (lw_at lw_m2 179 rfl) rfl
theorem q513 : (Jvm.Cond.code ({ cls := "ClockworkTailor", name := "book", desc := "()LClockworkTailor$Book;" } : Jvm.MethodName) prog_1_method_18_code (1 : Nat) (Option.some (Jvm.ClassFile.FieldType.object "ClockworkTailor$Book"))) ∈ lw_all := lw_g (lw_at lw_m2 180 rfl) rfl
theorem q514 : (Jvm.Cond.methodLink "ClockworkTailor" (166 : Nat) ({ cls := "ClockworkTailor$Book", name := "count", desc := "()I" } : Jvm.MethodName)) ∈ lw_all := lw_g (lw_at lw_m2 181 rfl) rfl
theorem q519 : (Jvm.Cond.instanceMethod ({ cls := "ClockworkTailor", name := "inCircles", desc := "()I" } : Jvm.MethodName)) ∈ lw_all := lw_g (lw_at lw_m2 186 rfl) rfl
theorem q520 : (Jvm.Cond.selects "ClockworkTailor" ({ cls := "ClockworkTailor", name := "inCircles", desc := "()I" } : Jvm.MethodName) ({ cls := "ClockworkTailor", name := "inCircles", desc := "()I" } : Jvm.MethodName)) ∈ lw_all := lw_g (lw_at lw_m2 187 rfl) rfl
theorem q521 : (Jvm.Cond.code ({ cls := "ClockworkTailor", name := "inCircles", desc := "()I" } : Jvm.MethodName) prog_1_method_36_code (1 : Nat) (Option.some Jvm.ClassFile.FieldType.int)) ∈ lw_all := lw_g (lw_at lw_m2 188 rfl) rfl
theorem q522 : (Jvm.Cond.methodLink "ClockworkTailor" (205 : Nat) ({ cls := "ClockworkTailor$Book", name := "inCircles", desc := "()I" } : Jvm.MethodName)) ∈ lw_all := lw_g (lw_at lw_m2 189 rfl) rfl
theorem q600 : (Jvm.Cond.instanceMethod ({ cls := "ClockworkTailor", name := "inCirclesBySets", desc := "()I" } : Jvm.MethodName)) ∈ lw_all := lw_g (lw_at lw_m3 27 rfl) rfl
theorem q601 : (Jvm.Cond.selects "ClockworkTailor" ({ cls := "ClockworkTailor", name := "inCirclesBySets", desc := "()I" } : Jvm.MethodName) ({ cls := "ClockworkTailor", name := "inCirclesBySets", desc := "()I" } : Jvm.MethodName)) ∈ lw_all := lw_g (lw_at lw_m3 28 rfl) rfl
theorem q602 : (Jvm.Cond.code ({ cls := "ClockworkTailor", name := "inCirclesBySets", desc := "()I" } : Jvm.MethodName) prog_1_method_37_code (1 : Nat) (Option.some Jvm.ClassFile.FieldType.int)) ∈ lw_all := lw_g (lw_at lw_m3 29 rfl) rfl
theorem q603 : (Jvm.Cond.methodLink "ClockworkTailor" (208 : Nat) ({ cls := "ClockworkTailor$Book", name := "inCirclesBySets", desc := "()I" } : Jvm.MethodName)) ∈ lw_all := lw_g (lw_at lw_m3 30 rfl) rfl
theorem q668 : (Jvm.Cond.instanceMethod ({ cls := "ClockworkTailor", name := "captives", desc := "()I" } : Jvm.MethodName)) ∈ lw_all := lw_g (lw_at lw_m3 95 rfl) rfl
theorem q669 : (Jvm.Cond.selects "ClockworkTailor" ({ cls := "ClockworkTailor", name := "captives", desc := "()I" } : Jvm.MethodName) ({ cls := "ClockworkTailor", name := "captives", desc := "()I" } : Jvm.MethodName)) ∈ lw_all := lw_g (lw_at lw_m3 96 rfl) rfl
theorem q670 : (Jvm.Cond.code ({ cls := "ClockworkTailor", name := "captives", desc := "()I" } : Jvm.MethodName) prog_1_method_40_code (1 : Nat) (Option.some Jvm.ClassFile.FieldType.int)) ∈ lw_all := lw_g (lw_at lw_m3 97 rfl) rfl
theorem q671 : (Jvm.Cond.methodLink "ClockworkTailor" (220 : Nat) ({ cls := "ClockworkTailor$Book", name := "captives", desc := "()I" } : Jvm.MethodName)) ∈ lw_all := lw_g (lw_at lw_m3 98 rfl) rfl
theorem q676 : (Jvm.Cond.instanceMethod ({ cls := "ClockworkTailor", name := "objectCount", desc := "()I" } : Jvm.MethodName)) ∈ lw_all := lw_g (lw_at lw_m3 103 rfl) rfl
theorem q677 : (Jvm.Cond.selects "ClockworkTailor" ({ cls := "ClockworkTailor", name := "objectCount", desc := "()I" } : Jvm.MethodName) ({ cls := "ClockworkTailor", name := "objectCount", desc := "()I" } : Jvm.MethodName)) ∈ lw_all := lw_g (lw_at lw_m3 104 rfl) rfl
theorem q678 : (Jvm.Cond.code ({ cls := "ClockworkTailor", name := "objectCount", desc := "()I" } : Jvm.MethodName) prog_1_method_49_code (1 : Nat) (Option.some Jvm.ClassFile.FieldType.int)) ∈ lw_all := lw_g (lw_at lw_m3 105 rfl) rfl
theorem q680 : (Jvm.Cond.instanceMethod ({ cls := "ClockworkTailor", name := "danglers", desc := "()I" } : Jvm.MethodName)) ∈ lw_all := lw_g (lw_at lw_m3 107 rfl) rfl
theorem q681 : (Jvm.Cond.selects "ClockworkTailor" ({ cls := "ClockworkTailor", name := "danglers", desc := "()I" } : Jvm.MethodName) ({ cls := "ClockworkTailor", name := "danglers", desc := "()I" } : Jvm.MethodName)) ∈ lw_all := lw_g (lw_at lw_m3 108 rfl) rfl
theorem q682 : (Jvm.Cond.code ({ cls := "ClockworkTailor", name := "danglers", desc := "()I" } : Jvm.MethodName) prog_1_method_54_code (1 : Nat) (Option.some Jvm.ClassFile.FieldType.int)) ∈ lw_all := lw_g (lw_at lw_m3 109 rfl) rfl
theorem q683 : (Jvm.Cond.methodLink "ClockworkTailor" (277 : Nat) ({ cls := "ClockworkTailor$State", name := "danglers", desc := "()I" } : Jvm.MethodName)) ∈ lw_all := lw_g (lw_at lw_m3 110 rfl) rfl
theorem q688 : (Jvm.Cond.instanceMethod ({ cls := "ClockworkTailor", name := "gotCount", desc := "()I" } : Jvm.MethodName)) ∈ lw_all := lw_g (lw_at lw_m3 115 rfl) rfl
theorem q689 : (Jvm.Cond.selects "ClockworkTailor" ({ cls := "ClockworkTailor", name := "gotCount", desc := "()I" } : Jvm.MethodName) ({ cls := "ClockworkTailor", name := "gotCount", desc := "()I" } : Jvm.MethodName)) ∈ lw_all := lw_g (lw_at lw_m3 116 rfl) rfl
theorem q690 : (Jvm.Cond.code ({ cls := "ClockworkTailor", name := "gotCount", desc := "()I" } : Jvm.MethodName) prog_1_method_55_code (1 : Nat) (Option.some Jvm.ClassFile.FieldType.int)) ∈ lw_all := lw_g (lw_at lw_m3 117 rfl) rfl
theorem q692 : (Jvm.Cond.instanceMethod ({ cls := "ClockworkTailor", name := "reusedCount", desc := "()I" } : Jvm.MethodName)) ∈ lw_all := lw_g (lw_at lw_m3 119 rfl) rfl
theorem q693 : (Jvm.Cond.selects "ClockworkTailor" ({ cls := "ClockworkTailor", name := "reusedCount", desc := "()I" } : Jvm.MethodName) ({ cls := "ClockworkTailor", name := "reusedCount", desc := "()I" } : Jvm.MethodName)) ∈ lw_all := lw_g (lw_at lw_m3 120 rfl) rfl
theorem q694 : (Jvm.Cond.code ({ cls := "ClockworkTailor", name := "reusedCount", desc := "()I" } : Jvm.MethodName) prog_1_method_56_code (1 : Nat) (Option.some Jvm.ClassFile.FieldType.int)) ∈ lw_all := lw_g (lw_at lw_m3 121 rfl) rfl
theorem q696 : (Jvm.Cond.instanceMethod ({ cls := "ClockworkTailor", name := "minutesSpent", desc := "()J" } : Jvm.MethodName)) ∈ lw_all := lw_g (lw_at lw_m3 123 rfl) rfl
theorem q697 : (Jvm.Cond.selects "ClockworkTailor" ({ cls := "ClockworkTailor", name := "minutesSpent", desc := "()J" } : Jvm.MethodName) ({ cls := "ClockworkTailor", name := "minutesSpent", desc := "()J" } : Jvm.MethodName)) ∈ lw_all := lw_g (lw_at lw_m3 124 rfl) rfl
theorem q698 : (Jvm.Cond.code ({ cls := "ClockworkTailor", name := "minutesSpent", desc := "()J" } : Jvm.MethodName) prog_1_method_57_code (1 : Nat) (Option.some Jvm.ClassFile.FieldType.long)) ∈ lw_all := lw_g (lw_at lw_m3 125 rfl) rfl
theorem q700 : (Jvm.Cond.instanceMethod ({ cls := "ClockworkTailor", name := "isConsistent", desc := "()Z" } : Jvm.MethodName)) ∈ lw_all := lw_g (lw_at lw_m3 127 rfl) rfl
theorem q701 : (Jvm.Cond.selects "ClockworkTailor" ({ cls := "ClockworkTailor", name := "isConsistent", desc := "()Z" } : Jvm.MethodName) ({ cls := "ClockworkTailor", name := "isConsistent", desc := "()Z" } : Jvm.MethodName)) ∈ lw_all := lw_g (lw_at lw_m3 128 rfl) rfl
theorem q702 : (Jvm.Cond.code ({ cls := "ClockworkTailor", name := "isConsistent", desc := "()Z" } : Jvm.MethodName) prog_1_method_68_code (1 : Nat) (Option.some Jvm.ClassFile.FieldType.boolean)) ∈ lw_all := lw_g (lw_at lw_m3 129 rfl) rfl
theorem q703 : (Jvm.Cond.methodLink "ClockworkTailor" (325 : Nat) ({ cls := "ClockworkTailor$State", name := "areWaysConsistent", desc := "()Z" } : Jvm.MethodName)) ∈ lw_all := lw_g (lw_at lw_m3 130 rfl) rfl
theorem q750 : (Jvm.Cond.static ({ cls := "ClockworkTailor", name := "isIn", desc := "(II)Z" } : Jvm.MethodName)) ∈ lw_all := lw_g (lw_at lw_m3 177 rfl) rfl
theorem q751 : (Jvm.Cond.code ({ cls := "ClockworkTailor", name := "isIn", desc := "(II)Z" } : Jvm.MethodName) prog_1_method_4_code (2 : Nat) (Option.some Jvm.ClassFile.FieldType.boolean)) ∈ lw_all := lw_g (lw_at lw_m3 178 rfl) rfl
theorem q752 : (Jvm.Cond.methodLink "ClockworkTailor" (328 : Nat) ({ cls := "ClockworkTailor", name := "areMakingsConsistent", desc := "()Z" } : Jvm.MethodName)) ∈ lw_all := lw_g (lw_at lw_m3 179 rfl) rfl
theorem q753 : (Jvm.Cond.privateMethod ({ cls := "ClockworkTailor", name := "areMakingsConsistent", desc := "()Z" } : Jvm.MethodName)) ∈ lw_tbl := lw_at lw_m3 180 rfl
theorem q754 : (Jvm.Cond.instanceMethod ({ cls := "ClockworkTailor", name := "areMakingsConsistent", desc := "()Z" } : Jvm.MethodName)) ∈ lw_all := lw_g (lw_at lw_m3 181 rfl) rfl
theorem q755 : (Jvm.Cond.code ({ cls := "ClockworkTailor", name := "areMakingsConsistent", desc := "()Z" } : Jvm.MethodName) prog_1_method_67_code (4 : Nat) (Option.some Jvm.ClassFile.FieldType.boolean)) ∈ lw_all := lw_g (lw_at lw_m3 182 rfl) rfl
theorem q756 : (Jvm.Cond.methodLink "ClockworkTailor" (247 : Nat) ({ cls := "ClockworkTailor", name := "tried", desc := "(II)I" } : Jvm.MethodName)) ∈ lw_all := lw_g (lw_at lw_m3 183 rfl) rfl
theorem q757 : (Jvm.Cond.privateMethod ({ cls := "ClockworkTailor", name := "tried", desc := "(II)I" } : Jvm.MethodName)) ∈ lw_tbl := lw_at lw_m3 184 rfl
theorem q758 : (Jvm.Cond.instanceMethod ({ cls := "ClockworkTailor", name := "tried", desc := "(II)I" } : Jvm.MethodName)) ∈ lw_all := lw_g (lw_at lw_m3 185 rfl) rfl
theorem q759 : (Jvm.Cond.code ({ cls := "ClockworkTailor", name := "tried", desc := "(II)I" } : Jvm.MethodName) prog_1_method_46_code (3 : Nat) (Option.some Jvm.ClassFile.FieldType.int)) ∈ lw_all := lw_g (lw_at lw_m3 186 rfl) rfl
theorem q760 : (Jvm.Cond.methodLink "ClockworkTailor" (94 : Nat) ({ cls := "ClockworkTailor$State", name := "copyFrom", desc := "(LClockworkTailor$State;)V" } : Jvm.MethodName)) ∈ lw_all := lw_g (lw_at lw_m3 187 rfl) rfl
theorem q770 : (Jvm.Cond.methodLink "ClockworkTailor" (241 : Nat) ({ cls := "ClockworkTailor$State", name := "tried", desc := "(II)I" } : Jvm.MethodName)) ∈ lw_all := lw_g (lw_at lw_m3 197 rfl) rfl
theorem q813 : (Jvm.Cond.static ({ cls := "ClockworkTailor", name := "refuseIf", desc := "(ZII)V" } : Jvm.MethodName)) ∈ lw_all := lw_g (lw_at lw_m4 0 rfl) rfl
theorem q814 : (Jvm.Cond.code ({ cls := "ClockworkTailor", name := "refuseIf", desc := "(ZII)V" } : Jvm.MethodName) prog_1_method_5_code (3 : Nat) (Option.none : Option Jvm.ClassFile.FieldType)) ∈ lw_all := lw_g (lw_at lw_m4 1 rfl) rfl
theorem q815 : (Jvm.Cond.classLink "ClockworkTailor" (7 : Nat) "ClockworkTailor$Refusal") ∈ lw_all := lw_g (lw_at lw_m4 2 rfl) rfl
theorem q824 : (Jvm.Cond.methodLink "ClockworkTailor" (9 : Nat) ({ cls := "ClockworkTailor$Refusal", name := "<init>", desc := "(II)V" } : Jvm.MethodName)) ∈ lw_all := lw_g (lw_at lw_m4 11 rfl) rfl
theorem q835 : (Jvm.Cond.fieldLinkNest "ClockworkTailor" (300 : Nat) "ClockworkTailor$Refusal" "reason" "I" "ClockworkTailor") ∈ lw_tbl := lw_at lw_m4 22 rfl
theorem q837 : (Jvm.Cond.fieldLinkNest "ClockworkTailor" (303 : Nat) "ClockworkTailor$Refusal" "detail" "I" "ClockworkTailor") ∈ lw_tbl := lw_at lw_m4 24 rfl
theorem q854 : (Jvm.Cond.classLink "ClockworkTailor" (248 : Nat) "ClockworkTailor$Count") ∈ lw_all := lw_g (lw_at lw_m4 41 rfl) rfl
theorem q855 : (Jvm.Cond.methodLink "ClockworkTailor" (250 : Nat) ({ cls := "ClockworkTailor$Count", name := "<init>", desc := "(LClockworkTailor$State;I)V" } : Jvm.MethodName)) ∈ lw_all := lw_g (lw_at lw_m4 42 rfl) rfl
theorem q856 : (Jvm.Cond.methodLink "ClockworkTailor" (253 : Nat) ({ cls := "ClockworkTailor$Count", name := "wouldMake", desc := "(I)I" } : Jvm.MethodName)) ∈ lw_all := lw_g (lw_at lw_m4 43 rfl) rfl
theorem q861 : (Jvm.Cond.instanceMethod ({ cls := "ClockworkTailor", name := "save", desc := "()I" } : Jvm.MethodName)) ∈ lw_all := lw_g (lw_at lw_m4 48 rfl) rfl
theorem q862 : (Jvm.Cond.selects "ClockworkTailor" ({ cls := "ClockworkTailor", name := "save", desc := "()I" } : Jvm.MethodName) ({ cls := "ClockworkTailor", name := "save", desc := "()I" } : Jvm.MethodName)) ∈ lw_all := lw_g (lw_at lw_m4 49 rfl) rfl
theorem q863 : (Jvm.Cond.code ({ cls := "ClockworkTailor", name := "save", desc := "()I" } : Jvm.MethodName) prog_1_method_76_code (1 : Nat) (Option.some Jvm.ClassFile.FieldType.int)) ∈ lw_all := lw_g (lw_at lw_m4 50 rfl) rfl
theorem q870 : (Jvm.Cond.instanceMethod ({ cls := "ClockworkTailor", name := "define", desc := "(CCI)I" } : Jvm.MethodName)) ∈ lw_all := lw_g (lw_at lw_m4 57 rfl) rfl
theorem q871 : (Jvm.Cond.selects "ClockworkTailor" ({ cls := "ClockworkTailor", name := "define", desc := "(CCI)I" } : Jvm.MethodName) ({ cls := "ClockworkTailor", name := "define", desc := "(CCI)I" } : Jvm.MethodName)) ∈ lw_all := lw_g (lw_at lw_m4 58 rfl) rfl
theorem q872 : (Jvm.Cond.code ({ cls := "ClockworkTailor", name := "define", desc := "(CCI)I" } : Jvm.MethodName) prog_1_method_21_code (4 : Nat) (Option.some Jvm.ClassFile.FieldType.int)) ∈ lw_all := lw_g (lw_at lw_m4 59 rfl) rfl
theorem q873 : (Jvm.Cond.static ({ cls := "ClockworkTailor", name := "lambda$define$0", desc := "(CCILClockworkTailor$State;)I" } : Jvm.MethodName)) ∈ lw_all := lw_g (lw_at lw_m4 60 rfl) rfl
theorem q874 : (Jvm.Cond.code ({ cls := "ClockworkTailor", name := "lambda$define$0", desc := "(CCILClockworkTailor$State;)I" } : Jvm.MethodName) prog_1_method_88_code (4 : Nat) (Option.some Jvm.ClassFile.FieldType.int)) ∈ lw_all := lw_g (lw_at lw_m4 61 rfl) rfl
theorem q875 : (Jvm.Cond.methodLink "ClockworkTailor" (419 : Nat) ({ cls := "ClockworkTailor$State", name := "define", desc := "(CCI)I" } : Jvm.MethodName)) ∈ lw_all := lw_g (lw_at lw_m4 62 rfl) rfl
theorem q880 : (Jvm.Cond.static ({ cls := "ClockworkTailor", name := "isTool", desc := "(I)Z" } : Jvm.MethodName)) ∈ lw_all := lw_g (lw_at lw_m4 67 rfl) rfl
theorem q881 : (Jvm.Cond.code ({ cls := "ClockworkTailor", name := "isTool", desc := "(I)Z" } : Jvm.MethodName) prog_1_method_2_code (1 : Nat) (Option.some Jvm.ClassFile.FieldType.boolean)) ∈ lw_all := lw_g (lw_at lw_m4 68 rfl) rfl
theorem q882 : (Jvm.Cond.methodLink "ClockworkTailor" (3 : Nat) ({ cls := "ClockworkTailor", name := "inRange", desc := "(III)Z" } : Jvm.MethodName)) ∈ lw_all := lw_g (lw_at lw_m4 69 rfl) rfl
theorem q883 : (Jvm.Cond.static ({ cls := "ClockworkTailor", name := "inRange", desc := "(III)Z" } : Jvm.MethodName)) ∈ lw_all := lw_g (lw_at lw_m4 70 rfl) rfl
theorem q884 : (Jvm.Cond.code ({ cls := "ClockworkTailor", name := "inRange", desc := "(III)Z" } : Jvm.MethodName) prog_1_method_1_code (3 : Nat) (Option.some Jvm.ClassFile.FieldType.boolean)) ∈ lw_all := lw_g (lw_at lw_m4 71 rfl) rfl
theorem q886 : (Jvm.Cond.static ({ cls := "ClockworkTailor", name := "isScope", desc := "(I)Z" } : Jvm.MethodName)) ∈ lw_all := lw_g (lw_at lw_m4 73 rfl) rfl
theorem q887 : (Jvm.Cond.code ({ cls := "ClockworkTailor", name := "isScope", desc := "(I)Z" } : Jvm.MethodName) prog_1_method_3_code (1 : Nat) (Option.some Jvm.ClassFile.FieldType.boolean)) ∈ lw_all := lw_g (lw_at lw_m4 74 rfl) rfl
theorem q890 : (Jvm.Cond.static ({ cls := "ClockworkTailor", name := "checkArgument", desc := "(Z)V" } : Jvm.MethodName)) ∈ lw_all := lw_g (lw_at lw_m4 77 rfl) rfl
theorem q891 : (Jvm.Cond.code ({ cls := "ClockworkTailor", name := "checkArgument", desc := "(Z)V" } : Jvm.MethodName) prog_1_method_8_code (1 : Nat) (Option.none : Option Jvm.ClassFile.FieldType)) ∈ lw_all := lw_g (lw_at lw_m4 78 rfl) rfl
theorem q892 : (Jvm.Cond.classLink "ClockworkTailor" (68 : Nat) "java/lang/IllegalArgumentException") ∈ lw_all := lw_g (lw_at lw_m4 79 rfl) rfl
theorem q901 : (Jvm.Cond.methodLink "ClockworkTailor" (70 : Nat) ({ cls := "java/lang/IllegalArgumentException", name := "<init>", desc := "()V" } : Jvm.MethodName)) ∈ lw_all := lw_g (lw_at lw_m4 88 rfl) rfl
theorem q911 : (Jvm.Cond.static ({ cls := "ClockworkTailor", name := "checkState", desc := "(Z)V" } : Jvm.MethodName)) ∈ lw_all := lw_g (lw_at lw_m4 98 rfl) rfl
theorem q912 : (Jvm.Cond.code ({ cls := "ClockworkTailor", name := "checkState", desc := "(Z)V" } : Jvm.MethodName) prog_1_method_10_code (1 : Nat) (Option.none : Option Jvm.ClassFile.FieldType)) ∈ lw_all := lw_g (lw_at lw_m4 99 rfl) rfl
theorem q913 : (Jvm.Cond.classLink "ClockworkTailor" (74 : Nat) "java/lang/IllegalStateException") ∈ lw_all := lw_g (lw_at lw_m4 100 rfl) rfl
theorem q914 : (Jvm.Cond.methodLink "ClockworkTailor" (76 : Nat) ({ cls := "java/lang/IllegalStateException", name := "<init>", desc := "()V" } : Jvm.MethodName)) ∈ lw_all := lw_g (lw_at lw_m4 101 rfl) rfl
theorem q919 : (Jvm.Cond.methodLink "ClockworkTailor" (153 : Nat) ({ cls := "ClockworkTailor", name := "perform", desc := "(LClockworkTailor$Change;)I" } : Jvm.MethodName)) ∈ lw_all := lw_g (lw_at lw_m4 106 rfl) rfl
theorem q920 : (Jvm.Cond.privateMethod ({ cls := "ClockworkTailor", name := "perform", desc := "(LClockworkTailor$Change;)I" } : Jvm.MethodName)) ∈ lw_tbl := lw_at lw_m4 107 rfl
theorem q921 : (Jvm.Cond.instanceMethod ({ cls := "ClockworkTailor", name := "perform", desc := "(LClockworkTailor$Change;)I" } : Jvm.MethodName)) ∈ lw_all := lw_g (lw_at lw_m4 108 rfl) rfl
theorem q922 : (Jvm.Cond.codeWith ({ cls := "ClockworkTailor", name := "perform", desc := "(LClockworkTailor$Change;)I" } : Jvm.MethodName) prog_1_method_16_code (3 : Nat) (Option.some Jvm.ClassFile.FieldType.int) [((11 : Nat), (25 : Nat), (26 : Nat), (7 : Nat))]) ∈ lw_all := lw_g (lw_at lw_m4 109 rfl) rfl
theorem q923 : (Jvm.Cond.interfaceEntry "ClockworkTailor" (98 : Nat)) ∈ lw_tbl := lw_at lw_m4 110 rfl
theorem q924 : (Jvm.Cond.methodLink "ClockworkTailor" (98 : Nat) ({ cls := "ClockworkTailor$Change", name := "applyTo", desc := "(LClockworkTailor$State;)I" } : Jvm.MethodName)) ∈ lw_all := lw_g (lw_at lw_m4 111 rfl) rfl
theorem q927 : (Jvm.Cond.methodLink "ClockworkTailor" (104 : Nat) ({ cls := "ClockworkTailor", name := "commit", desc := "(I)I" } : Jvm.MethodName)) ∈ lw_all := lw_g (lw_at lw_m4 114 rfl) rfl
theorem q928 : (Jvm.Cond.privateMethod ({ cls := "ClockworkTailor", name := "commit", desc := "(I)I" } : Jvm.MethodName)) ∈ lw_tbl := lw_at lw_m4 115 rfl
theorem q929 : (Jvm.Cond.instanceMethod ({ cls := "ClockworkTailor", name := "commit", desc := "(I)I" } : Jvm.MethodName)) ∈ lw_all := lw_g (lw_at lw_m4 116 rfl) rfl
theorem q930 : (Jvm.Cond.code ({ cls := "ClockworkTailor", name := "commit", desc := "(I)I" } : Jvm.MethodName) prog_1_method_17_code (3 : Nat) (Option.some Jvm.ClassFile.FieldType.int)) ∈ lw_all := lw_g (lw_at lw_m4 117 rfl) rfl
theorem q931 : (Jvm.Cond.methodLink "ClockworkTailor" (115 : Nat) ({ cls := "java/util/ArrayDeque", name := "isEmpty", desc := "()Z" } : Jvm.MethodName)) ∈ lw_all := lw_g (lw_at lw_m4 118 rfl) rfl
theorem q932 : (Jvm.Cond.methodLink "ClockworkTailor" (119 : Nat) ({ cls := "java/util/ArrayDeque", name := "pollFirst", desc := "()Ljava/lang/Object;" } : Jvm.MethodName)) ∈ lw_all := lw_g (lw_at lw_m4 119 rfl) rfl
theorem q933 : (Jvm.Cond.classLink "ClockworkTailor" (112 : Nat) "java/lang/UnsupportedOperationException") ∈ lw_all := lw_g (lw_at lw_m4 120 rfl) rfl
theorem q942 : (Jvm.Cond.methodLink "ClockworkTailor" (114 : Nat) ({ cls := "java/lang/UnsupportedOperationException", name := "<init>", desc := "()V" } : Jvm.MethodName)) ∈ lw_all := lw_g (lw_at lw_m4 129 rfl) rfl
theorem q953 : (Jvm.Cond.instanceMethod ({ cls := "ClockworkTailor", name := "dropRecipe", desc := "(C)I" } : Jvm.MethodName)) ∈ lw_all := lw_g (lw_at lw_m4 140 rfl) rfl
theorem q954 : (Jvm.Cond.selects "ClockworkTailor" ({ cls := "ClockworkTailor", name := "dropRecipe", desc := "(C)I" } : Jvm.MethodName) ({ cls := "ClockworkTailor", name := "dropRecipe", desc := "(C)I" } : Jvm.MethodName)) ∈ lw_all := lw_g (lw_at lw_m4 141 rfl) rfl
theorem q955 : (Jvm.Cond.code ({ cls := "ClockworkTailor", name := "dropRecipe", desc := "(C)I" } : Jvm.MethodName) prog_1_method_22_code (2 : Nat) (Option.some Jvm.ClassFile.FieldType.int)) ∈ lw_all := lw_g (lw_at lw_m4 142 rfl) rfl
theorem q956 : (Jvm.Cond.static ({ cls := "ClockworkTailor", name := "lambda$dropRecipe$1", desc := "(CLClockworkTailor$State;)I" } : Jvm.MethodName)) ∈ lw_all := lw_g (lw_at lw_m4 143 rfl) rfl
theorem q957 : (Jvm.Cond.code ({ cls := "ClockworkTailor", name := "lambda$dropRecipe$1", desc := "(CLClockworkTailor$State;)I" } : Jvm.MethodName) prog_1_method_87_code (2 : Nat) (Option.some Jvm.ClassFile.FieldType.int)) ∈ lw_all := lw_g (lw_at lw_m4 144 rfl) rfl
theorem q958 : (Jvm.Cond.methodLink "ClockworkTailor" (416 : Nat) ({ cls := "ClockworkTailor$State", name := "dropRecipe", desc := "(C)I" } : Jvm.MethodName)) ∈ lw_all := lw_g (lw_at lw_m4 145 rfl) rfl
theorem q963 : (Jvm.Cond.static ({ cls := "ClockworkTailor", name := "indexOf", desc := "(C)I" } : Jvm.MethodName)) ∈ lw_all := lw_g (lw_at lw_m4 150 rfl) rfl
theorem q964 : (Jvm.Cond.code ({ cls := "ClockworkTailor", name := "indexOf", desc := "(C)I" } : Jvm.MethodName) prog_1_method_14_code (1 : Nat) (Option.some Jvm.ClassFile.FieldType.int)) ∈ lw_all := lw_g (lw_at lw_m4 151 rfl) rfl
theorem q965 : (Jvm.Cond.methodLink "ClockworkTailor" (87 : Nat) ({ cls := "ClockworkTailor", name := "isTool", desc := "(I)Z" } : Jvm.MethodName)) ∈ lw_all := lw_g (lw_at lw_m4 152 rfl) rfl
theorem q966 : (Jvm.Cond.methodLink "ClockworkTailor" (91 : Nat) ({ cls := "ClockworkTailor", name := "checkArgument", desc := "(Z)V" } : Jvm.MethodName)) ∈ lw_all := lw_g (lw_at lw_m4 153 rfl) rfl
theorem q972 : (Jvm.Cond.static ({ cls := "ClockworkTailor", name := "checkElement", desc := "(Z)V" } : Jvm.MethodName)) ∈ lw_all := lw_g (lw_at lw_m4 159 rfl) rfl
theorem q973 : (Jvm.Cond.code ({ cls := "ClockworkTailor", name := "checkElement", desc := "(Z)V" } : Jvm.MethodName) prog_1_method_9_code (1 : Nat) (Option.none : Option Jvm.ClassFile.FieldType)) ∈ lw_all := lw_g (lw_at lw_m4 160 rfl) rfl
theorem q974 : (Jvm.Cond.classLink "ClockworkTailor" (71 : Nat) "java/util/NoSuchElementException") ∈ lw_all := lw_g (lw_at lw_m4 161 rfl) rfl
theorem q983 : (Jvm.Cond.methodLink "ClockworkTailor" (73 : Nat) ({ cls := "java/util/NoSuchElementException", name := "<init>", desc := "()V" } : Jvm.MethodName)) ∈ lw_all := lw_g (lw_at lw_m4 170 rfl) rfl
theorem q998 : (Jvm.Cond.instanceMethod ({ cls := "ClockworkTailor", name := "addNeed", desc := "(CCZ)I" } : Jvm.MethodName)) ∈ lw_all := lw_g (lw_at lw_m4 185 rfl) rfl
theorem q999 : (Jvm.Cond.selects "ClockworkTailor" ({ cls := "ClockworkTailor", name := "addNeed", desc := "(CCZ)I" } : Jvm.MethodName) ({ cls := "ClockworkTailor", name := "addNeed", desc := "(CCZ)I" } : Jvm.MethodName)) ∈ lw_all := lw_g (lw_at lw_m4 186 rfl) rfl
theorem q1000 : (Jvm.Cond.code ({ cls := "ClockworkTailor", name := "addNeed", desc := "(CCZ)I" } : Jvm.MethodName) prog_1_method_23_code (4 : Nat) (Option.some Jvm.ClassFile.FieldType.int)) ∈ lw_all := lw_g (lw_at lw_m4 187 rfl) rfl
theorem q1001 : (Jvm.Cond.static ({ cls := "ClockworkTailor", name := "lambda$addNeed$2", desc := "(CCZLClockworkTailor$State;)I" } : Jvm.MethodName)) ∈ lw_all := lw_g (lw_at lw_m4 188 rfl) rfl
theorem q1002 : (Jvm.Cond.code ({ cls := "ClockworkTailor", name := "lambda$addNeed$2", desc := "(CCZLClockworkTailor$State;)I" } : Jvm.MethodName) prog_1_method_86_code (4 : Nat) (Option.some Jvm.ClassFile.FieldType.int)) ∈ lw_all := lw_g (lw_at lw_m4 189 rfl) rfl
theorem q1003 : (Jvm.Cond.methodLink "ClockworkTailor" (412 : Nat) ({ cls := "ClockworkTailor$State", name := "addNeed", desc := "(CCZ)I" } : Jvm.MethodName)) ∈ lw_all := lw_g (lw_at lw_m4 190 rfl) rfl
theorem q1028 : (Jvm.Cond.instanceMethod ({ cls := "ClockworkTailor", name := "removeNeed", desc := "(CC)I" } : Jvm.MethodName)) ∈ lw_all := lw_g (lw_at lw_m4 215 rfl) rfl
theorem q1029 : (Jvm.Cond.selects "ClockworkTailor" ({ cls := "ClockworkTailor", name := "removeNeed", desc := "(CC)I" } : Jvm.MethodName) ({ cls := "ClockworkTailor", name := "removeNeed", desc := "(CC)I" } : Jvm.MethodName)) ∈ lw_all := lw_g (lw_at lw_m4 216 rfl) rfl
theorem q1030 : (Jvm.Cond.code ({ cls := "ClockworkTailor", name := "removeNeed", desc := "(CC)I" } : Jvm.MethodName) prog_1_method_24_code (3 : Nat) (Option.some Jvm.ClassFile.FieldType.int)) ∈ lw_all := lw_g (lw_at lw_m4 217 rfl) rfl
theorem q1031 : (Jvm.Cond.static ({ cls := "ClockworkTailor", name := "lambda$removeNeed$3", desc := "(CCLClockworkTailor$State;)I" } : Jvm.MethodName)) ∈ lw_all := lw_g (lw_at lw_m4 218 rfl) rfl
theorem q1032 : (Jvm.Cond.code ({ cls := "ClockworkTailor", name := "lambda$removeNeed$3", desc := "(CCLClockworkTailor$State;)I" } : Jvm.MethodName) prog_1_method_85_code (3 : Nat) (Option.some Jvm.ClassFile.FieldType.int)) ∈ lw_all := lw_g (lw_at lw_m4 219 rfl) rfl
theorem q1033 : (Jvm.Cond.methodLink "ClockworkTailor" (409 : Nat) ({ cls := "ClockworkTailor$State", name := "removeNeed", desc := "(CC)I" } : Jvm.MethodName)) ∈ lw_all := lw_g (lw_at lw_m4 220 rfl) rfl
theorem q1038 : (Jvm.Cond.static ({ cls := "ClockworkTailor", name := "found", desc := "(I)I" } : Jvm.MethodName)) ∈ lw_all := lw_g (lw_at lw_m4 225 rfl) rfl
theorem q1039 : (Jvm.Cond.code ({ cls := "ClockworkTailor", name := "found", desc := "(I)I" } : Jvm.MethodName) prog_1_method_12_code (1 : Nat) (Option.some Jvm.ClassFile.FieldType.int)) ∈ lw_all := lw_g (lw_at lw_m4 226 rfl) rfl
theorem q1040 : (Jvm.Cond.methodLink "ClockworkTailor" (80 : Nat) ({ cls := "ClockworkTailor", name := "checkElement", desc := "(Z)V" } : Jvm.MethodName)) ∈ lw_all := lw_g (lw_at lw_m4 227 rfl) rfl
theorem q1049 : (Jvm.Cond.instanceMethod ({ cls := "ClockworkTailor", name := "hasRecipe", desc := "(C)Z" } : Jvm.MethodName)) ∈ lw_all := lw_g (lw_at lw_m4 236 rfl) rfl
theorem q1050 : (Jvm.Cond.selects "ClockworkTailor" ({ cls := "ClockworkTailor", name := "hasRecipe", desc := "(C)Z" } : Jvm.MethodName) ({ cls := "ClockworkTailor", name := "hasRecipe", desc := "(C)Z" } : Jvm.MethodName)) ∈ lw_all := lw_g (lw_at lw_m4 237 rfl) rfl
theorem q1051 : (Jvm.Cond.code ({ cls := "ClockworkTailor", name := "hasRecipe", desc := "(C)Z" } : Jvm.MethodName) prog_1_method_26_code (2 : Nat) (Option.some Jvm.ClassFile.FieldType.boolean)) ∈ lw_all := lw_g (lw_at lw_m4 238 rfl) rfl
theorem q1052 : (Jvm.Cond.methodLink "ClockworkTailor" (127 : Nat) ({ cls := "ClockworkTailor", name := "indexOf", desc := "(C)I" } : Jvm.MethodName)) ∈ lw_all := lw_g (lw_at lw_m4 239 rfl) rfl
theorem q1057 : (Jvm.Cond.instanceMethod ({ cls := "ClockworkTailor", name := "scopeOf", desc := "(C)C" } : Jvm.MethodName)) ∈ lw_all := lw_g (lw_at lw_m5 4 rfl) rfl
theorem q1058 : (Jvm.Cond.selects "ClockworkTailor" ({ cls := "ClockworkTailor", name := "scopeOf", desc := "(C)C" } : Jvm.MethodName) ({ cls := "ClockworkTailor", name := "scopeOf", desc := "(C)C" } : Jvm.MethodName)) ∈ lw_all := lw_g (lw_at lw_m5 5 rfl) rfl
theorem q1059 : (Jvm.Cond.code ({ cls := "ClockworkTailor", name := "scopeOf", desc := "(C)C" } : Jvm.MethodName) prog_1_method_27_code (2 : Nat) (Option.some Jvm.ClassFile.FieldType.char)) ∈ lw_all := lw_g (lw_at lw_m5 6 rfl) rfl
theorem q1060 : (Jvm.Cond.methodLink "ClockworkTailor" (135 : Nat) ({ cls := "ClockworkTailor", name := "withRecipe", desc := "(C)I" } : Jvm.MethodName)) ∈ lw_all := lw_g (lw_at lw_m5 7 rfl) rfl
theorem q1061 : (Jvm.Cond.privateMethod ({ cls := "ClockworkTailor", name := "withRecipe", desc := "(C)I" } : Jvm.MethodName)) ∈ lw_tbl := lw_at lw_m5 8 rfl
theorem q1062 : (Jvm.Cond.instanceMethod ({ cls := "ClockworkTailor", name := "withRecipe", desc := "(C)I" } : Jvm.MethodName)) ∈ lw_all := lw_g (lw_at lw_m5 9 rfl) rfl
theorem q1063 : (Jvm.Cond.code ({ cls := "ClockworkTailor", name := "withRecipe", desc := "(C)I" } : Jvm.MethodName) prog_1_method_19_code (3 : Nat) (Option.some Jvm.ClassFile.FieldType.int)) ∈ lw_all := lw_g (lw_at lw_m5 10 rfl) rfl
theorem q1064 : (Jvm.Cond.methodLink "ClockworkTailor" (131 : Nat) ({ cls := "ClockworkTailor$State", name := "checkRecipe", desc := "(I)V" } : Jvm.MethodName)) ∈ lw_all := lw_g (lw_at lw_m5 11 rfl) rfl
theorem q1069 : (Jvm.Cond.instanceMethod ({ cls := "ClockworkTailor", name := "needCount", desc := "(C)I" } : Jvm.MethodName)) ∈ lw_all := lw_g (lw_at lw_m5 16 rfl) rfl
theorem q1070 : (Jvm.Cond.selects "ClockworkTailor" ({ cls := "ClockworkTailor", name := "needCount", desc := "(C)I" } : Jvm.MethodName) ({ cls := "ClockworkTailor", name := "needCount", desc := "(C)I" } : Jvm.MethodName)) ∈ lw_all := lw_g (lw_at lw_m5 17 rfl) rfl
theorem q1071 : (Jvm.Cond.code ({ cls := "ClockworkTailor", name := "needCount", desc := "(C)I" } : Jvm.MethodName) prog_1_method_28_code (2 : Nat) (Option.some Jvm.ClassFile.FieldType.int)) ∈ lw_all := lw_g (lw_at lw_m5 18 rfl) rfl
theorem q1100 : (Jvm.Cond.instanceMethod ({ cls := "ClockworkTailor", name := "needAt", desc := "(CI)C" } : Jvm.MethodName)) ∈ lw_all := lw_g (lw_at lw_m5 47 rfl) rfl
theorem q1101 : (Jvm.Cond.selects "ClockworkTailor" ({ cls := "ClockworkTailor", name := "needAt", desc := "(CI)C" } : Jvm.MethodName) ({ cls := "ClockworkTailor", name := "needAt", desc := "(CI)C" } : Jvm.MethodName)) ∈ lw_all := lw_g (lw_at lw_m5 48 rfl) rfl
theorem q1102 : (Jvm.Cond.code ({ cls := "ClockworkTailor", name := "needAt", desc := "(CI)C" } : Jvm.MethodName) prog_1_method_29_code (3 : Nat) (Option.some Jvm.ClassFile.FieldType.char)) ∈ lw_all := lw_g (lw_at lw_m5 49 rfl) rfl
theorem q1103 : (Jvm.Cond.methodLink "ClockworkTailor" (178 : Nat) ({ cls := "ClockworkTailor", name := "withNeed", desc := "(CI)I" } : Jvm.MethodName)) ∈ lw_all := lw_g (lw_at lw_m5 50 rfl) rfl
theorem q1104 : (Jvm.Cond.privateMethod ({ cls := "ClockworkTailor", name := "withNeed", desc := "(CI)I" } : Jvm.MethodName)) ∈ lw_tbl := lw_at lw_m5 51 rfl
theorem q1105 : (Jvm.Cond.instanceMethod ({ cls := "ClockworkTailor", name := "withNeed", desc := "(CI)I" } : Jvm.MethodName)) ∈ lw_all := lw_g (lw_at lw_m5 52 rfl) rfl
theorem q1106 : (Jvm.Cond.code ({ cls := "ClockworkTailor", name := "withNeed", desc := "(CI)I" } : Jvm.MethodName) prog_1_method_20_code (4 : Nat) (Option.some Jvm.ClassFile.FieldType.int)) ∈ lw_all := lw_g (lw_at lw_m5 53 rfl) rfl
theorem q1107 : (Jvm.Cond.methodLink "ClockworkTailor" (147 : Nat) ({ cls := "ClockworkTailor", name := "checkIndex", desc := "(Z)V" } : Jvm.MethodName)) ∈ lw_all := lw_g (lw_at lw_m5 54 rfl) rfl
theorem q1108 : (Jvm.Cond.static ({ cls := "ClockworkTailor", name := "checkIndex", desc := "(Z)V" } : Jvm.MethodName)) ∈ lw_all := lw_g (lw_at lw_m5 55 rfl) rfl
theorem q1109 : (Jvm.Cond.code ({ cls := "ClockworkTailor", name := "checkIndex", desc := "(Z)V" } : Jvm.MethodName) prog_1_method_11_code (1 : Nat) (Option.none : Option Jvm.ClassFile.FieldType)) ∈ lw_all := lw_g (lw_at lw_m5 56 rfl) rfl
theorem q1110 : (Jvm.Cond.classLink "ClockworkTailor" (77 : Nat) "java/lang/IndexOutOfBoundsException") ∈ lw_all := lw_g (lw_at lw_m5 57 rfl) rfl
theorem q1119 : (Jvm.Cond.methodLink "ClockworkTailor" (79 : Nat) ({ cls := "java/lang/IndexOutOfBoundsException", name := "<init>", desc := "()V" } : Jvm.MethodName)) ∈ lw_all := lw_g (lw_at lw_m5 66 rfl) rfl
theorem q1125 : (Jvm.Cond.methodLink "ClockworkTailor" (182 : Nat) ({ cls := "ClockworkTailor$Book", name := "need", desc := "(II)I" } : Jvm.MethodName)) ∈ lw_all := lw_g (lw_at lw_m5 72 rfl) rfl
theorem q1126 : (Jvm.Cond.methodLink "ClockworkTailor" (186 : Nat) ({ cls := "ClockworkTailor", name := "letterOf", desc := "(I)C" } : Jvm.MethodName)) ∈ lw_all := lw_g (lw_at lw_m5 73 rfl) rfl
theorem q1127 : (Jvm.Cond.static ({ cls := "ClockworkTailor", name := "letterOf", desc := "(I)C" } : Jvm.MethodName)) ∈ lw_all := lw_g (lw_at lw_m5 74 rfl) rfl
theorem q1128 : (Jvm.Cond.code ({ cls := "ClockworkTailor", name := "letterOf", desc := "(I)C" } : Jvm.MethodName) prog_1_method_6_code (1 : Nat) (Option.some Jvm.ClassFile.FieldType.char)) ∈ lw_all := lw_g (lw_at lw_m5 75 rfl) rfl
theorem q1133 : (Jvm.Cond.instanceMethod ({ cls := "ClockworkTailor", name := "isLazyNeed", desc := "(CI)Z" } : Jvm.MethodName)) ∈ lw_all := lw_g (lw_at lw_m5 80 rfl) rfl
theorem q1134 : (Jvm.Cond.selects "ClockworkTailor" ({ cls := "ClockworkTailor", name := "isLazyNeed", desc := "(CI)Z" } : Jvm.MethodName) ({ cls := "ClockworkTailor", name := "isLazyNeed", desc := "(CI)Z" } : Jvm.MethodName)) ∈ lw_all := lw_g (lw_at lw_m5 81 rfl) rfl
theorem q1135 : (Jvm.Cond.code ({ cls := "ClockworkTailor", name := "isLazyNeed", desc := "(CI)Z" } : Jvm.MethodName) prog_1_method_30_code (3 : Nat) (Option.some Jvm.ClassFile.FieldType.boolean)) ∈ lw_all := lw_g (lw_at lw_m5 82 rfl) rfl
theorem q1136 : (Jvm.Cond.methodLink "ClockworkTailor" (190 : Nat) ({ cls := "ClockworkTailor$Book", name := "isLazy", desc := "(II)Z" } : Jvm.MethodName)) ∈ lw_all := lw_g (lw_at lw_m5 83 rfl) rfl
theorem q1141 : (Jvm.Cond.instanceMethod ({ cls := "ClockworkTailor", name := "replace", desc := "(CC)I" } : Jvm.MethodName)) ∈ lw_all := lw_g (lw_at lw_m5 88 rfl) rfl
theorem q1142 : (Jvm.Cond.selects "ClockworkTailor" ({ cls := "ClockworkTailor", name := "replace", desc := "(CC)I" } : Jvm.MethodName) ({ cls := "ClockworkTailor", name := "replace", desc := "(CC)I" } : Jvm.MethodName)) ∈ lw_all := lw_g (lw_at lw_m5 89 rfl) rfl
theorem q1143 : (Jvm.Cond.code ({ cls := "ClockworkTailor", name := "replace", desc := "(CC)I" } : Jvm.MethodName) prog_1_method_31_code (3 : Nat) (Option.some Jvm.ClassFile.FieldType.int)) ∈ lw_all := lw_g (lw_at lw_m5 90 rfl) rfl
theorem q1144 : (Jvm.Cond.static ({ cls := "ClockworkTailor", name := "lambda$replace$4", desc := "(CCLClockworkTailor$State;)I" } : Jvm.MethodName)) ∈ lw_all := lw_g (lw_at lw_m5 91 rfl) rfl
theorem q1145 : (Jvm.Cond.code ({ cls := "ClockworkTailor", name := "lambda$replace$4", desc := "(CCLClockworkTailor$State;)I" } : Jvm.MethodName) prog_1_method_84_code (3 : Nat) (Option.some Jvm.ClassFile.FieldType.int)) ∈ lw_all := lw_g (lw_at lw_m5 92 rfl) rfl
theorem q1146 : (Jvm.Cond.methodLink "ClockworkTailor" (405 : Nat) ({ cls := "ClockworkTailor$State", name := "replace", desc := "(CC)I" } : Jvm.MethodName)) ∈ lw_all := lw_g (lw_at lw_m5 93 rfl) rfl
theorem q1162 : (Jvm.Cond.instanceMethod ({ cls := "ClockworkTailor", name := "putBack", desc := "(C)C" } : Jvm.MethodName)) ∈ lw_all := lw_g (lw_at lw_m5 109 rfl) rfl
theorem q1163 : (Jvm.Cond.selects "ClockworkTailor" ({ cls := "ClockworkTailor", name := "putBack", desc := "(C)C" } : Jvm.MethodName) ({ cls := "ClockworkTailor", name := "putBack", desc := "(C)C" } : Jvm.MethodName)) ∈ lw_all := lw_g (lw_at lw_m5 110 rfl) rfl
theorem q1164 : (Jvm.Cond.code ({ cls := "ClockworkTailor", name := "putBack", desc := "(C)C" } : Jvm.MethodName) prog_1_method_32_code (2 : Nat) (Option.some Jvm.ClassFile.FieldType.char)) ∈ lw_all := lw_g (lw_at lw_m5 111 rfl) rfl
theorem q1165 : (Jvm.Cond.static ({ cls := "ClockworkTailor", name := "lambda$putBack$5", desc := "(CLClockworkTailor$State;)I" } : Jvm.MethodName)) ∈ lw_all := lw_g (lw_at lw_m5 112 rfl) rfl
theorem q1166 : (Jvm.Cond.code ({ cls := "ClockworkTailor", name := "lambda$putBack$5", desc := "(CLClockworkTailor$State;)I" } : Jvm.MethodName) prog_1_method_83_code (2 : Nat) (Option.some Jvm.ClassFile.FieldType.int)) ∈ lw_all := lw_g (lw_at lw_m5 113 rfl) rfl
theorem q1167 : (Jvm.Cond.methodLink "ClockworkTailor" (401 : Nat) ({ cls := "ClockworkTailor$State", name := "putBack", desc := "(C)C" } : Jvm.MethodName)) ∈ lw_all := lw_g (lw_at lw_m5 114 rfl) rfl
theorem q1176 : (Jvm.Cond.instanceMethod ({ cls := "ClockworkTailor", name := "standInFor", desc := "(C)C" } : Jvm.MethodName)) ∈ lw_all := lw_g (lw_at lw_m5 123 rfl) rfl
theorem q1177 : (Jvm.Cond.selects "ClockworkTailor" ({ cls := "ClockworkTailor", name := "standInFor", desc := "(C)C" } : Jvm.MethodName) ({ cls := "ClockworkTailor", name := "standInFor", desc := "(C)C" } : Jvm.MethodName)) ∈ lw_all := lw_g (lw_at lw_m5 124 rfl) rfl
theorem q1178 : (Jvm.Cond.code ({ cls := "ClockworkTailor", name := "standInFor", desc := "(C)C" } : Jvm.MethodName) prog_1_method_33_code (2 : Nat) (Option.some Jvm.ClassFile.FieldType.char)) ∈ lw_all := lw_g (lw_at lw_m5 125 rfl) rfl
theorem q1179 : (Jvm.Cond.methodLink "ClockworkTailor" (196 : Nat) ({ cls := "ClockworkTailor$Book", name := "standIn", desc := "(I)I" } : Jvm.MethodName)) ∈ lw_all := lw_g (lw_at lw_m5 126 rfl) rfl
theorem q1184 : (Jvm.Cond.instanceMethod ({ cls := "ClockworkTailor", name := "leadsToCount", desc := "(C)I" } : Jvm.MethodName)) ∈ lw_all := lw_g (lw_at lw_m5 131 rfl) rfl
theorem q1185 : (Jvm.Cond.selects "ClockworkTailor" ({ cls := "ClockworkTailor", name := "leadsToCount", desc := "(C)I" } : Jvm.MethodName) ({ cls := "ClockworkTailor", name := "leadsToCount", desc := "(C)I" } : Jvm.MethodName)) ∈ lw_all := lw_g (lw_at lw_m5 132 rfl) rfl
theorem q1186 : (Jvm.Cond.code ({ cls := "ClockworkTailor", name := "leadsToCount", desc := "(C)I" } : Jvm.MethodName) prog_1_method_34_code (2 : Nat) (Option.some Jvm.ClassFile.FieldType.int)) ∈ lw_all := lw_g (lw_at lw_m5 133 rfl) rfl
theorem q1187 : (Jvm.Cond.methodLink "ClockworkTailor" (199 : Nat) ({ cls := "ClockworkTailor$Book", name := "leadsToCount", desc := "(I)I" } : Jvm.MethodName)) ∈ lw_all := lw_g (lw_at lw_m5 134 rfl) rfl
theorem q1192 : (Jvm.Cond.instanceMethod ({ cls := "ClockworkTailor", name := "leadsToByTable", desc := "(C)I" } : Jvm.MethodName)) ∈ lw_all := lw_g (lw_at lw_m5 139 rfl) rfl
theorem q1193 : (Jvm.Cond.selects "ClockworkTailor" ({ cls := "ClockworkTailor", name := "leadsToByTable", desc := "(C)I" } : Jvm.MethodName) ({ cls := "ClockworkTailor", name := "leadsToByTable", desc := "(C)I" } : Jvm.MethodName)) ∈ lw_all := lw_g (lw_at lw_m5 140 rfl) rfl
theorem q1194 : (Jvm.Cond.code ({ cls := "ClockworkTailor", name := "leadsToByTable", desc := "(C)I" } : Jvm.MethodName) prog_1_method_35_code (2 : Nat) (Option.some Jvm.ClassFile.FieldType.int)) ∈ lw_all := lw_g (lw_at lw_m5 141 rfl) rfl
theorem q1195 : (Jvm.Cond.methodLink "ClockworkTailor" (202 : Nat) ({ cls := "ClockworkTailor$Book", name := "leadsToByTable", desc := "(I)I" } : Jvm.MethodName)) ∈ lw_all := lw_g (lw_at lw_m5 142 rfl) rfl
theorem q1200 : (Jvm.Cond.instanceMethod ({ cls := "ClockworkTailor", name := "longestWay", desc := "(C)I" } : Jvm.MethodName)) ∈ lw_all := lw_g (lw_at lw_m5 147 rfl) rfl
theorem q1201 : (Jvm.Cond.selects "ClockworkTailor" ({ cls := "ClockworkTailor", name := "longestWay", desc := "(C)I" } : Jvm.MethodName) ({ cls := "ClockworkTailor", name := "longestWay", desc := "(C)I" } : Jvm.MethodName)) ∈ lw_all := lw_g (lw_at lw_m5 148 rfl) rfl
theorem q1202 : (Jvm.Cond.code ({ cls := "ClockworkTailor", name := "longestWay", desc := "(C)I" } : Jvm.MethodName) prog_1_method_38_code (2 : Nat) (Option.some Jvm.ClassFile.FieldType.int)) ∈ lw_all := lw_g (lw_at lw_m5 149 rfl) rfl
theorem q1203 : (Jvm.Cond.methodLink "ClockworkTailor" (211 : Nat) ({ cls := "ClockworkTailor$Book", name := "longest", desc := "(I)I" } : Jvm.MethodName)) ∈ lw_all := lw_g (lw_at lw_m5 150 rfl) rfl
theorem q1204 : (Jvm.Cond.methodLink "ClockworkTailor" (214 : Nat) ({ cls := "ClockworkTailor", name := "found", desc := "(I)I" } : Jvm.MethodName)) ∈ lw_all := lw_g (lw_at lw_m5 151 rfl) rfl
theorem q1209 : (Jvm.Cond.instanceMethod ({ cls := "ClockworkTailor", name := "longestByRounds", desc := "(C)I" } : Jvm.MethodName)) ∈ lw_all := lw_g (lw_at lw_m5 156 rfl) rfl
theorem q1210 : (Jvm.Cond.selects "ClockworkTailor" ({ cls := "ClockworkTailor", name := "longestByRounds", desc := "(C)I" } : Jvm.MethodName) ({ cls := "ClockworkTailor", name := "longestByRounds", desc := "(C)I" } : Jvm.MethodName)) ∈ lw_all := lw_g (lw_at lw_m5 157 rfl) rfl
theorem q1211 : (Jvm.Cond.code ({ cls := "ClockworkTailor", name := "longestByRounds", desc := "(C)I" } : Jvm.MethodName) prog_1_method_39_code (2 : Nat) (Option.some Jvm.ClassFile.FieldType.int)) ∈ lw_all := lw_g (lw_at lw_m5 158 rfl) rfl
theorem q1212 : (Jvm.Cond.methodLink "ClockworkTailor" (217 : Nat) ({ cls := "ClockworkTailor$Book", name := "longestByRounds", desc := "(I)I" } : Jvm.MethodName)) ∈ lw_all := lw_g (lw_at lw_m5 159 rfl) rfl
theorem q1217 : (Jvm.Cond.instanceMethod ({ cls := "ClockworkTailor", name := "openThread", desc := "()I" } : Jvm.MethodName)) ∈ lw_all := lw_g (lw_at lw_m5 164 rfl) rfl
theorem q1218 : (Jvm.Cond.selects "ClockworkTailor" ({ cls := "ClockworkTailor", name := "openThread", desc := "()I" } : Jvm.MethodName) ({ cls := "ClockworkTailor", name := "openThread", desc := "()I" } : Jvm.MethodName)) ∈ lw_all := lw_g (lw_at lw_m5 165 rfl) rfl
theorem q1219 : (Jvm.Cond.code ({ cls := "ClockworkTailor", name := "openThread", desc := "()I" } : Jvm.MethodName) prog_1_method_41_code (1 : Nat) (Option.some Jvm.ClassFile.FieldType.int)) ∈ lw_all := lw_g (lw_at lw_m5 166 rfl) rfl
theorem q1220 : (Jvm.Cond.static ({ cls := "ClockworkTailor", name := "lambda$openThread$6", desc := "(LClockworkTailor$State;)I" } : Jvm.MethodName)) ∈ lw_all := lw_g (lw_at lw_m5 167 rfl) rfl
theorem q1221 : (Jvm.Cond.code ({ cls := "ClockworkTailor", name := "lambda$openThread$6", desc := "(LClockworkTailor$State;)I" } : Jvm.MethodName) prog_1_method_82_code (1 : Nat) (Option.some Jvm.ClassFile.FieldType.int)) ∈ lw_all := lw_g (lw_at lw_m5 168 rfl) rfl
theorem q1222 : (Jvm.Cond.methodLink "ClockworkTailor" (398 : Nat) ({ cls := "ClockworkTailor$State", name := "openThread", desc := "()I" } : Jvm.MethodName)) ∈ lw_all := lw_g (lw_at lw_m5 169 rfl) rfl
theorem q1230 : (Jvm.Cond.instanceMethod ({ cls := "ClockworkTailor", name := "closeThread", desc := "(I)I" } : Jvm.MethodName)) ∈ lw_all := lw_g (lw_at lw_m5 177 rfl) rfl
theorem q1231 : (Jvm.Cond.selects "ClockworkTailor" ({ cls := "ClockworkTailor", name := "closeThread", desc := "(I)I" } : Jvm.MethodName) ({ cls := "ClockworkTailor", name := "closeThread", desc := "(I)I" } : Jvm.MethodName)) ∈ lw_all := lw_g (lw_at lw_m5 178 rfl) rfl
theorem q1232 : (Jvm.Cond.code ({ cls := "ClockworkTailor", name := "closeThread", desc := "(I)I" } : Jvm.MethodName) prog_1_method_42_code (2 : Nat) (Option.some Jvm.ClassFile.FieldType.int)) ∈ lw_all := lw_g (lw_at lw_m5 179 rfl) rfl
theorem q1233 : (Jvm.Cond.static ({ cls := "ClockworkTailor", name := "lambda$closeThread$7", desc := "(ILClockworkTailor$State;)I" } : Jvm.MethodName)) ∈ lw_all := lw_g (lw_at lw_m5 180 rfl) rfl
theorem q1234 : (Jvm.Cond.code ({ cls := "ClockworkTailor", name := "lambda$closeThread$7", desc := "(ILClockworkTailor$State;)I" } : Jvm.MethodName) prog_1_method_81_code (2 : Nat) (Option.some Jvm.ClassFile.FieldType.int)) ∈ lw_all := lw_g (lw_at lw_m5 181 rfl) rfl
theorem q1235 : (Jvm.Cond.methodLink "ClockworkTailor" (395 : Nat) ({ cls := "ClockworkTailor$State", name := "closeThread", desc := "(I)I" } : Jvm.MethodName)) ∈ lw_all := lw_g (lw_at lw_m5 182 rfl) rfl
theorem q1244 : (Jvm.Cond.static ({ cls := "ClockworkTailor", name := "isThread", desc := "(I)Z" } : Jvm.MethodName)) ∈ lw_all := lw_g (lw_at lw_m5 191 rfl) rfl
theorem q1245 : (Jvm.Cond.code ({ cls := "ClockworkTailor", name := "isThread", desc := "(I)Z" } : Jvm.MethodName) prog_1_method_15_code (1 : Nat) (Option.some Jvm.ClassFile.FieldType.boolean)) ∈ lw_all := lw_g (lw_at lw_m5 192 rfl) rfl
theorem q1251 : (Jvm.Cond.instanceMethod ({ cls := "ClockworkTailor", name := "isOpen", desc := "(I)Z" } : Jvm.MethodName)) ∈ lw_all := lw_g (lw_at lw_m5 198 rfl) rfl
theorem q1252 : (Jvm.Cond.selects "ClockworkTailor" ({ cls := "ClockworkTailor", name := "isOpen", desc := "(I)Z" } : Jvm.MethodName) ({ cls := "ClockworkTailor", name := "isOpen", desc := "(I)Z" } : Jvm.MethodName)) ∈ lw_all := lw_g (lw_at lw_m5 199 rfl) rfl
theorem q1253 : (Jvm.Cond.code ({ cls := "ClockworkTailor", name := "isOpen", desc := "(I)Z" } : Jvm.MethodName) prog_1_method_43_code (2 : Nat) (Option.some Jvm.ClassFile.FieldType.boolean)) ∈ lw_all := lw_g (lw_at lw_m5 200 rfl) rfl
theorem q1254 : (Jvm.Cond.methodLink "ClockworkTailor" (229 : Nat) ({ cls := "ClockworkTailor", name := "isThread", desc := "(I)Z" } : Jvm.MethodName)) ∈ lw_all := lw_g (lw_at lw_m5 201 rfl) rfl
theorem q1259 : (Jvm.Cond.instanceMethod ({ cls := "ClockworkTailor", name := "make", desc := "(CI)I" } : Jvm.MethodName)) ∈ lw_all := lw_g (lw_at lw_m5 206 rfl) rfl
theorem q1260 : (Jvm.Cond.selects "ClockworkTailor" ({ cls := "ClockworkTailor", name := "make", desc := "(CI)I" } : Jvm.MethodName) ({ cls := "ClockworkTailor", name := "make", desc := "(CI)I" } : Jvm.MethodName)) ∈ lw_all := lw_g (lw_at lw_m5 207 rfl) rfl
theorem q1261 : (Jvm.Cond.code ({ cls := "ClockworkTailor", name := "make", desc := "(CI)I" } : Jvm.MethodName) prog_1_method_44_code (3 : Nat) (Option.some Jvm.ClassFile.FieldType.int)) ∈ lw_all := lw_g (lw_at lw_m5 208 rfl) rfl
theorem q1262 : (Jvm.Cond.static ({ cls := "ClockworkTailor", name := "lambda$make$8", desc := "(CILClockworkTailor$State;)I" } : Jvm.MethodName)) ∈ lw_all := lw_g (lw_at lw_m5 209 rfl) rfl
theorem q1263 : (Jvm.Cond.code ({ cls := "ClockworkTailor", name := "lambda$make$8", desc := "(CILClockworkTailor$State;)I" } : Jvm.MethodName) prog_1_method_80_code (3 : Nat) (Option.some Jvm.ClassFile.FieldType.int)) ∈ lw_all := lw_g (lw_at lw_m5 210 rfl) rfl
theorem q1264 : (Jvm.Cond.methodLink "ClockworkTailor" (392 : Nat) ({ cls := "ClockworkTailor$State", name := "make", desc := "(CI)I" } : Jvm.MethodName)) ∈ lw_all := lw_g (lw_at lw_m5 211 rfl) rfl
theorem q1276 : (Jvm.Cond.instanceMethod ({ cls := "ClockworkTailor", name := "touch", desc := "(III)I" } : Jvm.MethodName)) ∈ lw_all := lw_g (lw_at lw_m5 223 rfl) rfl
theorem q1277 : (Jvm.Cond.selects "ClockworkTailor" ({ cls := "ClockworkTailor", name := "touch", desc := "(III)I" } : Jvm.MethodName) ({ cls := "ClockworkTailor", name := "touch", desc := "(III)I" } : Jvm.MethodName)) ∈ lw_all := lw_g (lw_at lw_m5 224 rfl) rfl
theorem q1278 : (Jvm.Cond.code ({ cls := "ClockworkTailor", name := "touch", desc := "(III)I" } : Jvm.MethodName) prog_1_method_45_code (4 : Nat) (Option.some Jvm.ClassFile.FieldType.int)) ∈ lw_all := lw_g (lw_at lw_m5 225 rfl) rfl
theorem q1279 : (Jvm.Cond.static ({ cls := "ClockworkTailor", name := "lambda$touch$9", desc := "(IIILClockworkTailor$State;)I" } : Jvm.MethodName)) ∈ lw_all := lw_g (lw_at lw_m5 226 rfl) rfl
theorem q1280 : (Jvm.Cond.code ({ cls := "ClockworkTailor", name := "lambda$touch$9", desc := "(IIILClockworkTailor$State;)I" } : Jvm.MethodName) prog_1_method_79_code (4 : Nat) (Option.some Jvm.ClassFile.FieldType.int)) ∈ lw_all := lw_g (lw_at lw_m5 227 rfl) rfl
theorem q1281 : (Jvm.Cond.methodLink "ClockworkTailor" (388 : Nat) ({ cls := "ClockworkTailor$State", name := "touch", desc := "(III)I" } : Jvm.MethodName)) ∈ lw_all := lw_g (lw_at lw_m5 228 rfl) rfl
theorem q1297 : (Jvm.Cond.instanceMethod ({ cls := "ClockworkTailor", name := "wouldMake", desc := "(CI)I" } : Jvm.MethodName)) ∈ lw_all := lw_g (lw_at lw_m6 4 rfl) rfl
theorem q1298 : (Jvm.Cond.selects "ClockworkTailor" ({ cls := "ClockworkTailor", name := "wouldMake", desc := "(CI)I" } : Jvm.MethodName) ({ cls := "ClockworkTailor", name := "wouldMake", desc := "(CI)I" } : Jvm.MethodName)) ∈ lw_all := lw_g (lw_at lw_m6 5 rfl) rfl
theorem q1299 : (Jvm.Cond.code ({ cls := "ClockworkTailor", name := "wouldMake", desc := "(CI)I" } : Jvm.MethodName) prog_1_method_47_code (4 : Nat) (Option.some Jvm.ClassFile.FieldType.int)) ∈ lw_all := lw_g (lw_at lw_m6 6 rfl) rfl
theorem q1300 : (Jvm.Cond.methodLink "ClockworkTailor" (244 : Nat) ({ cls := "ClockworkTailor$State", name := "checkThread", desc := "(I)V" } : Jvm.MethodName)) ∈ lw_all := lw_g (lw_at lw_m6 7 rfl) rfl
theorem q1305 : (Jvm.Cond.instanceMethod ({ cls := "ClockworkTailor", name := "wouldMakeByCounting", desc := "(CI)I" } : Jvm.MethodName)) ∈ lw_all := lw_g (lw_at lw_m6 12 rfl) rfl
theorem q1306 : (Jvm.Cond.selects "ClockworkTailor" ({ cls := "ClockworkTailor", name := "wouldMakeByCounting", desc := "(CI)I" } : Jvm.MethodName) ({ cls := "ClockworkTailor", name := "wouldMakeByCounting", desc := "(CI)I" } : Jvm.MethodName)) ∈ lw_all := lw_g (lw_at lw_m6 13 rfl) rfl
theorem q1307 : (Jvm.Cond.code ({ cls := "ClockworkTailor", name := "wouldMakeByCounting", desc := "(CI)I" } : Jvm.MethodName) prog_1_method_48_code (4 : Nat) (Option.some Jvm.ClassFile.FieldType.int)) ∈ lw_all := lw_g (lw_at lw_m6 14 rfl) rfl
theorem q1312 : (Jvm.Cond.instanceMethod ({ cls := "ClockworkTailor", name := "isThere", desc := "(I)Z" } : Jvm.MethodName)) ∈ lw_all := lw_g (lw_at lw_m6 19 rfl) rfl
theorem q1313 : (Jvm.Cond.selects "ClockworkTailor" ({ cls := "ClockworkTailor", name := "isThere", desc := "(I)Z" } : Jvm.MethodName) ({ cls := "ClockworkTailor", name := "isThere", desc := "(I)Z" } : Jvm.MethodName)) ∈ lw_all := lw_g (lw_at lw_m6 20 rfl) rfl
theorem q1314 : (Jvm.Cond.code ({ cls := "ClockworkTailor", name := "isThere", desc := "(I)Z" } : Jvm.MethodName) prog_1_method_50_code (2 : Nat) (Option.some Jvm.ClassFile.FieldType.boolean)) ∈ lw_all := lw_g (lw_at lw_m6 21 rfl) rfl
theorem q1319 : (Jvm.Cond.instanceMethod ({ cls := "ClockworkTailor", name := "toolOf", desc := "(I)C" } : Jvm.MethodName)) ∈ lw_all := lw_g (lw_at lw_m6 26 rfl) rfl
theorem q1320 : (Jvm.Cond.selects "ClockworkTailor" ({ cls := "ClockworkTailor", name := "toolOf", desc := "(I)C" } : Jvm.MethodName) ({ cls := "ClockworkTailor", name := "toolOf", desc := "(I)C" } : Jvm.MethodName)) ∈ lw_all := lw_g (lw_at lw_m6 27 rfl) rfl
theorem q1321 : (Jvm.Cond.code ({ cls := "ClockworkTailor", name := "toolOf", desc := "(I)C" } : Jvm.MethodName) prog_1_method_51_code (2 : Nat) (Option.some Jvm.ClassFile.FieldType.char)) ∈ lw_all := lw_g (lw_at lw_m6 28 rfl) rfl
theorem q1322 : (Jvm.Cond.methodLink "ClockworkTailor" (262 : Nat) ({ cls := "ClockworkTailor$State", name := "checkObject", desc := "(I)V" } : Jvm.MethodName)) ∈ lw_all := lw_g (lw_at lw_m6 29 rfl) rfl
theorem q1327 : (Jvm.Cond.instanceMethod ({ cls := "ClockworkTailor", name := "threadOf", desc := "(I)I" } : Jvm.MethodName)) ∈ lw_all := lw_g (lw_at lw_m6 34 rfl) rfl
theorem q1328 : (Jvm.Cond.selects "ClockworkTailor" ({ cls := "ClockworkTailor", name := "threadOf", desc := "(I)I" } : Jvm.MethodName) ({ cls := "ClockworkTailor", name := "threadOf", desc := "(I)I" } : Jvm.MethodName)) ∈ lw_all := lw_g (lw_at lw_m6 35 rfl) rfl
theorem q1329 : (Jvm.Cond.code ({ cls := "ClockworkTailor", name := "threadOf", desc := "(I)I" } : Jvm.MethodName) prog_1_method_52_code (2 : Nat) (Option.some Jvm.ClassFile.FieldType.int)) ∈ lw_all := lw_g (lw_at lw_m6 36 rfl) rfl
theorem q1334 : (Jvm.Cond.instanceMethod ({ cls := "ClockworkTailor", name := "filledBy", desc := "(II)I" } : Jvm.MethodName)) ∈ lw_all := lw_g (lw_at lw_m6 41 rfl) rfl
theorem q1335 : (Jvm.Cond.selects "ClockworkTailor" ({ cls := "ClockworkTailor", name := "filledBy", desc := "(II)I" } : Jvm.MethodName) ({ cls := "ClockworkTailor", name := "filledBy", desc := "(II)I" } : Jvm.MethodName)) ∈ lw_all := lw_g (lw_at lw_m6 42 rfl) rfl
theorem q1336 : (Jvm.Cond.code ({ cls := "ClockworkTailor", name := "filledBy", desc := "(II)I" } : Jvm.MethodName) prog_1_method_53_code (3 : Nat) (Option.some Jvm.ClassFile.FieldType.int)) ∈ lw_all := lw_g (lw_at lw_m6 43 rfl) rfl
theorem q1337 : (Jvm.Cond.methodLink "ClockworkTailor" (271 : Nat) ({ cls := "ClockworkTailor$State", name := "checkNeed", desc := "(II)V" } : Jvm.MethodName)) ∈ lw_all := lw_g (lw_at lw_m6 44 rfl) rfl
theorem q1356 : (Jvm.Cond.instanceMethod ({ cls := "ClockworkTailor", name := "meanMinutes", desc := "()D" } : Jvm.MethodName)) ∈ lw_all := lw_g (lw_at lw_m6 63 rfl) rfl
theorem q1357 : (Jvm.Cond.selects "ClockworkTailor" ({ cls := "ClockworkTailor", name := "meanMinutes", desc := "()D" } : Jvm.MethodName) ({ cls := "ClockworkTailor", name := "meanMinutes", desc := "()D" } : Jvm.MethodName)) ∈ lw_all := lw_g (lw_at lw_m6 64 rfl) rfl
theorem q1358 : (Jvm.Cond.code ({ cls := "ClockworkTailor", name := "meanMinutes", desc := "()D" } : Jvm.MethodName) prog_1_method_58_code (1 : Nat) (Option.some Jvm.ClassFile.FieldType.double)) ∈ lw_all := lw_g (lw_at lw_m6 65 rfl) rfl
theorem q1359 : (Jvm.Cond.methodLink "ClockworkTailor" (290 : Nat) ({ cls := "ClockworkTailor", name := "checkAny", desc := "(I)V" } : Jvm.MethodName)) ∈ lw_all := lw_g (lw_at lw_m6 66 rfl) rfl
theorem q1360 : (Jvm.Cond.static ({ cls := "ClockworkTailor", name := "checkAny", desc := "(I)V" } : Jvm.MethodName)) ∈ lw_all := lw_g (lw_at lw_m6 67 rfl) rfl
theorem q1361 : (Jvm.Cond.code ({ cls := "ClockworkTailor", name := "checkAny", desc := "(I)V" } : Jvm.MethodName) prog_1_method_13_code (1 : Nat) (Option.none : Option Jvm.ClassFile.FieldType)) ∈ lw_all := lw_g (lw_at lw_m6 68 rfl) rfl
theorem q1362 : (Jvm.Cond.classLink "ClockworkTailor" (84 : Nat) "java/lang/ArithmeticException") ∈ lw_all := lw_g (lw_at lw_m6 69 rfl) rfl
theorem q1363 : (Jvm.Cond.methodLink "ClockworkTailor" (86 : Nat) ({ cls := "java/lang/ArithmeticException", name := "<init>", desc := "()V" } : Jvm.MethodName)) ∈ lw_all := lw_g (lw_at lw_m6 70 rfl) rfl
theorem q1367 : (Jvm.Cond.methodLink "ClockworkTailor" (293 : Nat) ({ cls := "ClockworkTailor$Book", name := "sumOfMinutes", desc := "()I" } : Jvm.MethodName)) ∈ lw_all := lw_g (lw_at lw_m6 74 rfl) rfl
theorem q1375 : (Jvm.Cond.instanceMethod ({ cls := "ClockworkTailor", name := "reuseShare", desc := "()F" } : Jvm.MethodName)) ∈ lw_all := lw_g (lw_at lw_m6 82 rfl) rfl
theorem q1376 : (Jvm.Cond.selects "ClockworkTailor" ({ cls := "ClockworkTailor", name := "reuseShare", desc := "()F" } : Jvm.MethodName) ({ cls := "ClockworkTailor", name := "reuseShare", desc := "()F" } : Jvm.MethodName)) ∈ lw_all := lw_g (lw_at lw_m6 83 rfl) rfl
theorem q1377 : (Jvm.Cond.code ({ cls := "ClockworkTailor", name := "reuseShare", desc := "()F" } : Jvm.MethodName) prog_1_method_59_code (1 : Nat) (Option.some Jvm.ClassFile.FieldType.float)) ∈ lw_all := lw_g (lw_at lw_m6 84 rfl) rfl
theorem q1382 : (Jvm.Cond.instanceMethod ({ cls := "ClockworkTailor", name := "refusalReason", desc := "()I" } : Jvm.MethodName)) ∈ lw_all := lw_g (lw_at lw_m6 89 rfl) rfl
theorem q1383 : (Jvm.Cond.selects "ClockworkTailor" ({ cls := "ClockworkTailor", name := "refusalReason", desc := "()I" } : Jvm.MethodName) ({ cls := "ClockworkTailor", name := "refusalReason", desc := "()I" } : Jvm.MethodName)) ∈ lw_all := lw_g (lw_at lw_m6 90 rfl) rfl
theorem q1384 : (Jvm.Cond.code ({ cls := "ClockworkTailor", name := "refusalReason", desc := "()I" } : Jvm.MethodName) prog_1_method_61_code (1 : Nat) (Option.some Jvm.ClassFile.FieldType.int)) ∈ lw_all := lw_g (lw_at lw_m6 91 rfl) rfl
theorem q1385 : (Jvm.Cond.methodLink "ClockworkTailor" (296 : Nat) ({ cls := "ClockworkTailor", name := "refusal", desc := "()LClockworkTailor$Refusal;" } : Jvm.MethodName)) ∈ lw_all := lw_g (lw_at lw_m6 92 rfl) rfl
theorem q1386 : (Jvm.Cond.privateMethod ({ cls := "ClockworkTailor", name := "refusal", desc := "()LClockworkTailor$Refusal;" } : Jvm.MethodName)) ∈ lw_tbl := lw_at lw_m6 93 rfl
theorem q1387 : (Jvm.Cond.instanceMethod ({ cls := "ClockworkTailor", name := "refusal", desc := "()LClockworkTailor$Refusal;" } : Jvm.MethodName)) ∈ lw_all := lw_g (lw_at lw_m6 94 rfl) rfl
theorem q1388 : (Jvm.Cond.code ({ cls := "ClockworkTailor", name := "refusal", desc := "()LClockworkTailor$Refusal;" } : Jvm.MethodName) prog_1_method_60_code (1 : Nat) (Option.some (Jvm.ClassFile.FieldType.object "ClockworkTailor$Refusal"))) ∈ lw_all := lw_g (lw_at lw_m6 95 rfl) rfl
theorem q1393 : (Jvm.Cond.instanceMethod ({ cls := "ClockworkTailor", name := "refusalDetail", desc := "()I" } : Jvm.MethodName)) ∈ lw_all := lw_g (lw_at lw_m6 100 rfl) rfl
theorem q1394 : (Jvm.Cond.selects "ClockworkTailor" ({ cls := "ClockworkTailor", name := "refusalDetail", desc := "()I" } : Jvm.MethodName) ({ cls := "ClockworkTailor", name := "refusalDetail", desc := "()I" } : Jvm.MethodName)) ∈ lw_all := lw_g (lw_at lw_m6 101 rfl) rfl
theorem q1395 : (Jvm.Cond.code ({ cls := "ClockworkTailor", name := "refusalDetail", desc := "()I" } : Jvm.MethodName) prog_1_method_62_code (1 : Nat) (Option.some Jvm.ClassFile.FieldType.int)) ∈ lw_all := lw_g (lw_at lw_m6 102 rfl) rfl
theorem q1400 : (Jvm.Cond.instanceMethod ({ cls := "ClockworkTailor", name := "refusalCause", desc := "()I" } : Jvm.MethodName)) ∈ lw_all := lw_g (lw_at lw_m6 107 rfl) rfl
theorem q1401 : (Jvm.Cond.selects "ClockworkTailor" ({ cls := "ClockworkTailor", name := "refusalCause", desc := "()I" } : Jvm.MethodName) ({ cls := "ClockworkTailor", name := "refusalCause", desc := "()I" } : Jvm.MethodName)) ∈ lw_all := lw_g (lw_at lw_m6 108 rfl) rfl
theorem q1402 : (Jvm.Cond.code ({ cls := "ClockworkTailor", name := "refusalCause", desc := "()I" } : Jvm.MethodName) prog_1_method_63_code (1 : Nat) (Option.some Jvm.ClassFile.FieldType.int)) ∈ lw_all := lw_g (lw_at lw_m6 109 rfl) rfl
theorem q1403 : (Jvm.Cond.methodLink "ClockworkTailor" (306 : Nat) ({ cls := "ClockworkTailor$Refusal", name := "originReason", desc := "()I" } : Jvm.MethodName)) ∈ lw_all := lw_g (lw_at lw_m6 110 rfl) rfl
theorem q1411 : (Jvm.Cond.instanceMethod ({ cls := "ClockworkTailor", name := "writeRecipe", desc := "(C)I" } : Jvm.MethodName)) ∈ lw_all := lw_g (lw_at lw_m6 118 rfl) rfl
theorem q1412 : (Jvm.Cond.selects "ClockworkTailor" ({ cls := "ClockworkTailor", name := "writeRecipe", desc := "(C)I" } : Jvm.MethodName) ({ cls := "ClockworkTailor", name := "writeRecipe", desc := "(C)I" } : Jvm.MethodName)) ∈ lw_all := lw_g (lw_at lw_m6 119 rfl) rfl
theorem q1413 : (Jvm.Cond.code ({ cls := "ClockworkTailor", name := "writeRecipe", desc := "(C)I" } : Jvm.MethodName) prog_1_method_64_code (3 : Nat) (Option.some Jvm.ClassFile.FieldType.int)) ∈ lw_all := lw_g (lw_at lw_m6 120 rfl) rfl
theorem q1414 : (Jvm.Cond.methodLink "ClockworkTailor" (309 : Nat) ({ cls := "java/lang/StringBuilder", name := "setLength", desc := "(I)V" } : Jvm.MethodName)) ∈ lw_all := lw_g (lw_at lw_m6 121 rfl) rfl
theorem q1664 : (Jvm.Cond.methodLink "ClockworkTailor" (312 : Nat) ({ cls := "ClockworkTailor$Book", name := "write", desc := "(Ljava/lang/StringBuilder;I)V" } : Jvm.MethodName)) ∈ lw_all := lw_g (lw_at lw_m7 131 rfl) rfl
theorem q1695 : (Jvm.Cond.methodLink "ClockworkTailor" (316 : Nat) ({ cls := "java/lang/StringBuilder", name := "length", desc := "()I" } : Jvm.MethodName)) ∈ lw_all := lw_g (lw_at lw_m7 162 rfl) rfl
theorem q1700 : (Jvm.Cond.instanceMethod ({ cls := "ClockworkTailor", name := "writeObject", desc := "(I)I" } : Jvm.MethodName)) ∈ lw_all := lw_g (lw_at lw_m7 167 rfl) rfl
theorem q1701 : (Jvm.Cond.selects "ClockworkTailor" ({ cls := "ClockworkTailor", name := "writeObject", desc := "(I)I" } : Jvm.MethodName) ({ cls := "ClockworkTailor", name := "writeObject", desc := "(I)I" } : Jvm.MethodName)) ∈ lw_all := lw_g (lw_at lw_m7 168 rfl) rfl
theorem q1702 : (Jvm.Cond.code ({ cls := "ClockworkTailor", name := "writeObject", desc := "(I)I" } : Jvm.MethodName) prog_1_method_65_code (2 : Nat) (Option.some Jvm.ClassFile.FieldType.int)) ∈ lw_all := lw_g (lw_at lw_m7 169 rfl) rfl
theorem q1703 : (Jvm.Cond.methodLink "ClockworkTailor" (319 : Nat) ({ cls := "ClockworkTailor$State", name := "writeObject", desc := "(Ljava/lang/StringBuilder;I)V" } : Jvm.MethodName)) ∈ lw_all := lw_g (lw_at lw_m7 170 rfl) rfl
theorem q1715 : (Jvm.Cond.instanceMethod ({ cls := "ClockworkTailor", name := "lineAt", desc := "(I)C" } : Jvm.MethodName)) ∈ lw_all := lw_g (lw_at lw_m7 182 rfl) rfl
theorem q1716 : (Jvm.Cond.selects "ClockworkTailor" ({ cls := "ClockworkTailor", name := "lineAt", desc := "(I)C" } : Jvm.MethodName) ({ cls := "ClockworkTailor", name := "lineAt", desc := "(I)C" } : Jvm.MethodName)) ∈ lw_all := lw_g (lw_at lw_m7 183 rfl) rfl
theorem q1717 : (Jvm.Cond.code ({ cls := "ClockworkTailor", name := "lineAt", desc := "(I)C" } : Jvm.MethodName) prog_1_method_66_code (2 : Nat) (Option.some Jvm.ClassFile.FieldType.char)) ∈ lw_all := lw_g (lw_at lw_m7 184 rfl) rfl
theorem q1718 : (Jvm.Cond.methodLink "ClockworkTailor" (322 : Nat) ({ cls := "java/lang/StringBuilder", name := "charAt", desc := "(I)C" } : Jvm.MethodName)) ∈ lw_all := lw_g (lw_at lw_m7 185 rfl) rfl
theorem q1732 : (Jvm.Cond.instanceMethod ({ cls := "ClockworkTailor", name := "type", desc := "(C)I" } : Jvm.MethodName)) ∈ lw_all := lw_g (lw_at lw_m7 199 rfl) rfl
theorem q1733 : (Jvm.Cond.selects "ClockworkTailor" ({ cls := "ClockworkTailor", name := "type", desc := "(C)I" } : Jvm.MethodName) ({ cls := "ClockworkTailor", name := "type", desc := "(C)I" } : Jvm.MethodName)) ∈ lw_all := lw_g (lw_at lw_m7 200 rfl) rfl
theorem q1734 : (Jvm.Cond.code ({ cls := "ClockworkTailor", name := "type", desc := "(C)I" } : Jvm.MethodName) prog_1_method_69_code (2 : Nat) (Option.some Jvm.ClassFile.FieldType.int)) ∈ lw_all := lw_g (lw_at lw_m7 201 rfl) rfl
theorem q1735 : (Jvm.Cond.methodLink "ClockworkTailor" (331 : Nat) ({ cls := "ClockworkTailor", name := "checkState", desc := "(Z)V" } : Jvm.MethodName)) ∈ lw_all := lw_g (lw_at lw_m7 202 rfl) rfl
theorem q1736 : (Jvm.Cond.methodLink "ClockworkTailor" (334 : Nat) ({ cls := "java/lang/StringBuilder", name := "append", desc := "(C)Ljava/lang/StringBuilder;" } : Jvm.MethodName)) ∈ lw_all := lw_g (lw_at lw_m7 203 rfl) rfl
theorem q1741 : (Jvm.Cond.instanceMethod ({ cls := "ClockworkTailor", name := "execute", desc := "()I" } : Jvm.MethodName)) ∈ lw_all := lw_g (lw_at lw_m7 208 rfl) rfl
theorem q1742 : (Jvm.Cond.selects "ClockworkTailor" ({ cls := "ClockworkTailor", name := "execute", desc := "()I" } : Jvm.MethodName) ({ cls := "ClockworkTailor", name := "execute", desc := "()I" } : Jvm.MethodName)) ∈ lw_all := lw_g (lw_at lw_m7 209 rfl) rfl
theorem q1743 : (Jvm.Cond.code ({ cls := "ClockworkTailor", name := "execute", desc := "()I" } : Jvm.MethodName) prog_1_method_73_code (1 : Nat) (Option.some Jvm.ClassFile.FieldType.int)) ∈ lw_all := lw_g (lw_at lw_m7 210 rfl) rfl
theorem q1744 : (Jvm.Cond.methodLink "ClockworkTailor" (371 : Nat) ({ cls := "ClockworkTailor", name := "parse", desc := "()V" } : Jvm.MethodName)) ∈ lw_all := lw_g (lw_at lw_m7 211 rfl) rfl
theorem q1745 : (Jvm.Cond.privateMethod ({ cls := "ClockworkTailor", name := "parse", desc := "()V" } : Jvm.MethodName)) ∈ lw_tbl := lw_at lw_m7 212 rfl
theorem q1746 : (Jvm.Cond.instanceMethod ({ cls := "ClockworkTailor", name := "parse", desc := "()V" } : Jvm.MethodName)) ∈ lw_all := lw_g (lw_at lw_m7 213 rfl) rfl
theorem q1747 : (Jvm.Cond.codeWith ({ cls := "ClockworkTailor", name := "parse", desc := "()V" } : Jvm.MethodName) prog_1_method_70_code (3 : Nat) (Option.none : Option Jvm.ClassFile.FieldType) [((0 : Nat), (7 : Nat), (18 : Nat), (341 : Nat)), ((0 : Nat), (7 : Nat), (35 : Nat), (0 : Nat)), ((18 : Nat), (36 : Nat), (35 : Nat), (0 : Nat))]) ∈ lw_all := lw_g (lw_at lw_m7 214 rfl) rfl
theorem q1748 : (Jvm.Cond.classLink "ClockworkTailor" (341 : Nat) "ClockworkTailor$SyntaxError") ∈ lw_all := lw_g (lw_at lw_m7 215 rfl) rfl
theorem q1749 : (Jvm.Cond.methodLink "ClockworkTailor" (338 : Nat) ({ cls := "ClockworkTailor$Parser", name := "parse", desc := "()V" } : Jvm.MethodName)) ∈ lw_all := lw_g (lw_at lw_m7 216 rfl) rfl
theorem q1818 : (Jvm.Cond.fieldLinkNest "ClockworkTailor" (343 : Nat) "ClockworkTailor$SyntaxError" "position" "I" "ClockworkTailor") ∈ lw_tbl := lw_at lw_m8 45 rfl
theorem q1934 : (Jvm.Cond.privateMethod ({ cls := "ClockworkTailor", name := "lambda$execute$10", desc := "(LClockworkTailor$State;)I" } : Jvm.MethodName)) ∈ lw_tbl := lw_at lw_m8 161 rfl
theorem q1935 : (Jvm.Cond.instanceMethod ({ cls := "ClockworkTailor", name := "lambda$execute$10", desc := "(LClockworkTailor$State;)I" } : Jvm.MethodName)) ∈ lw_all := lw_g (lw_at lw_m8 162 rfl) rfl
theorem q1936 : (Jvm.Cond.code ({ cls := "ClockworkTailor", name := "lambda$execute$10", desc := "(LClockworkTailor$State;)I" } : Jvm.MethodName) prog_1_method_78_code (2 : Nat) (Option.some Jvm.ClassFile.FieldType.int)) ∈ lw_all := lw_g (lw_at lw_m8 163 rfl) rfl
theorem q1937 : (Jvm.Cond.methodLink "ClockworkTailor" (385 : Nat) ({ cls := "ClockworkTailor", name := "performAll", desc := "(LClockworkTailor$State;)I" } : Jvm.MethodName)) ∈ lw_all := lw_g (lw_at lw_m8 164 rfl) rfl
theorem q1938 : (Jvm.Cond.privateMethod ({ cls := "ClockworkTailor", name := "performAll", desc := "(LClockworkTailor$State;)I" } : Jvm.MethodName)) ∈ lw_tbl := lw_at lw_m8 165 rfl
theorem q1939 : (Jvm.Cond.instanceMethod ({ cls := "ClockworkTailor", name := "performAll", desc := "(LClockworkTailor$State;)I" } : Jvm.MethodName)) ∈ lw_all := lw_g (lw_at lw_m8 166 rfl) rfl
theorem q1940 : (Jvm.Cond.code ({ cls := "ClockworkTailor", name := "performAll", desc := "(LClockworkTailor$State;)I" } : Jvm.MethodName) prog_1_method_72_code (5 : Nat) (Option.some Jvm.ClassFile.FieldType.int)) ∈ lw_all := lw_g (lw_at lw_m8 167 rfl) rfl
theorem q1941 : (Jvm.Cond.methodLink "ClockworkTailor" (353 : Nat) ({ cls := "java/util/ArrayList", name := "iterator", desc := "()Ljava/util/Iterator;" } : Jvm.MethodName)) ∈ lw_all := lw_g (lw_at lw_m8 168 rfl) rfl
theorem q1964 : (Jvm.Cond.interfaceEntry "ClockworkTailor" (359 : Nat)) ∈ lw_tbl := lw_at lw_m8 191 rfl
theorem q1965 : (Jvm.Cond.methodLink "ClockworkTailor" (359 : Nat) ({ cls := "java/util/Iterator", name := "hasNext", desc := "()Z" } : Jvm.MethodName)) ∈ lw_all := lw_g (lw_at lw_m8 192 rfl) rfl
theorem q1974 : (Jvm.Cond.interfaceEntry "ClockworkTailor" (364 : Nat)) ∈ lw_tbl := lw_at lw_m8 201 rfl
theorem q1975 : (Jvm.Cond.methodLink "ClockworkTailor" (364 : Nat) ({ cls := "java/util/Iterator", name := "next", desc := "()Ljava/lang/Object;" } : Jvm.MethodName)) ∈ lw_all := lw_g (lw_at lw_m8 202 rfl) rfl
theorem q1989 : (Jvm.Cond.classLink "ClockworkTailor" (99 : Nat) "ClockworkTailor$Change") ∈ lw_all := lw_g (lw_at lw_m8 216 rfl) rfl
theorem q1990 : (Jvm.Cond.methodLink "ClockworkTailor" (367 : Nat) ({ cls := "ClockworkTailor", name := "performOne", desc := "(LClockworkTailor$State;LClockworkTailor$Change;I)V" } : Jvm.MethodName)) ∈ lw_all := lw_g (lw_at lw_m8 217 rfl) rfl
theorem q1991 : (Jvm.Cond.static ({ cls := "ClockworkTailor", name := "performOne", desc := "(LClockworkTailor$State;LClockworkTailor$Change;I)V" } : Jvm.MethodName)) ∈ lw_all := lw_g (lw_at lw_m8 218 rfl) rfl
theorem q1992 : (Jvm.Cond.codeWith ({ cls := "ClockworkTailor", name := "performOne", desc := "(LClockworkTailor$State;LClockworkTailor$Change;I)V" } : Jvm.MethodName) prog_1_method_71_code (4 : Nat) (Option.none : Option Jvm.ClassFile.FieldType) [((0 : Nat), (8 : Nat), (11 : Nat), (7 : Nat)), ((0 : Nat), (8 : Nat), (24 : Nat), (68 : Nat)), ((0 : Nat), (8 : Nat), (24 : Nat), (74 : Nat)), ((0 : Nat), (8 : Nat), (24 : Nat), (77 : Nat)), ((0 : Nat), (8 : Nat), (24 : Nat), (71 : Nat))]) ∈ lw_all := lw_g (lw_at lw_m8 219 rfl) rfl
theorem q1993 : (Jvm.Cond.methodLink "ClockworkTailor" (346 : Nat) ({ cls := "ClockworkTailor$Refusal", name := "<init>", desc := "(IILClockworkTailor$Refusal;)V" } : Jvm.MethodName)) ∈ lw_all := lw_g (lw_at lw_m8 220 rfl) rfl
theorem q1998 : (Jvm.Cond.instanceMethod ({ cls := "ClockworkTailor", name := "errorPosition", desc := "()I" } : Jvm.MethodName)) ∈ lw_all := lw_g (lw_at lw_m8 225 rfl) rfl
theorem q1999 : (Jvm.Cond.selects "ClockworkTailor" ({ cls := "ClockworkTailor", name := "errorPosition", desc := "()I" } : Jvm.MethodName) ({ cls := "ClockworkTailor", name := "errorPosition", desc := "()I" } : Jvm.MethodName)) ∈ lw_all := lw_g (lw_at lw_m8 226 rfl) rfl
theorem q2000 : (Jvm.Cond.code ({ cls := "ClockworkTailor", name := "errorPosition", desc := "()I" } : Jvm.MethodName) prog_1_method_74_code (1 : Nat) (Option.some Jvm.ClassFile.FieldType.int)) ∈ lw_all := lw_g (lw_at lw_m8 227 rfl) rfl
theorem q2005 : (Jvm.Cond.instanceMethod ({ cls := "ClockworkTailor", name := "undo", desc := "()I" } : Jvm.MethodName)) ∈ lw_all := lw_g (lw_at lw_m8 232 rfl) rfl
theorem q2006 : (Jvm.Cond.selects "ClockworkTailor" ({ cls := "ClockworkTailor", name := "undo", desc := "()I" } : Jvm.MethodName) ({ cls := "ClockworkTailor", name := "undo", desc := "()I" } : Jvm.MethodName)) ∈ lw_all := lw_g (lw_at lw_m8 233 rfl) rfl
theorem q2007 : (Jvm.Cond.code ({ cls := "ClockworkTailor", name := "undo", desc := "()I" } : Jvm.MethodName) prog_1_method_75_code (2 : Nat) (Option.some Jvm.ClassFile.FieldType.int)) ∈ lw_all := lw_g (lw_at lw_m8 234 rfl) rfl
theorem q2008 : (Jvm.Cond.methodLink "ClockworkTailor" (375 : Nat) ({ cls := "java/util/ArrayDeque", name := "pollLast", desc := "()Ljava/lang/Object;" } : Jvm.MethodName)) ∈ lw_all := lw_g (lw_at lw_m8 235 rfl) rfl
theorem q2009 : (Jvm.Cond.methodLink "ClockworkTailor" (378 : Nat) ({ cls := "java/util/ArrayDeque", name := "size", desc := "()I" } : Jvm.MethodName)) ∈ lw_all := lw_g (lw_at lw_m8 236 rfl) rfl
theorem q2020 : (Jvm.Cond.instanceMethod ({ cls := "ClockworkTailor", name := "restore", desc := "()I" } : Jvm.MethodName)) ∈ lw_all := lw_g (lw_at lw_m9 7 rfl) rfl
theorem q2021 : (Jvm.Cond.selects "ClockworkTailor" ({ cls := "ClockworkTailor", name := "restore", desc := "()I" } : Jvm.MethodName) ({ cls := "ClockworkTailor", name := "restore", desc := "()I" } : Jvm.MethodName)) ∈ lw_all := lw_g (lw_at lw_m9 8 rfl) rfl
theorem q2022 : (Jvm.Cond.code ({ cls := "ClockworkTailor", name := "restore", desc := "()I" } : Jvm.MethodName) prog_1_method_77_code (1 : Nat) (Option.some Jvm.ClassFile.FieldType.int)) ∈ lw_all := lw_g (lw_at lw_m9 9 rfl) rfl
theorem q2549 : (Jvm.Cond.castable "ClockworkTailor" "java/lang/Object") ∈ lw_tbl := lw_at lw_m11 56 rfl
theorem in_X1 : ∀ w ∈ wsX10, w ∈ lw_all := lw_in wsX10 [483, 485, 487, 489, 491, 493, 495, 497, 499, 501, 503] (by decide +kernel) (by decide +kernel)

/-! ClockworkTailor$Parser -/
set_option maxRecDepth 100000
def RX4 : String := "ClockworkTailor$Parser"
def TX4 : u_T := fun k => match k with
  | 0 => ("ClockworkTailor$Parser", "text", "Ljava/lang/StringBuilder;", true)
  | 1 => ("ClockworkTailor$Parser", "position", "I", false)
  | _ => ("ClockworkTailor$Parser", "changes", "Ljava/util/ArrayList;", true)
def tyX4 : Nat → FieldType := fun k => match k with
  | 0 => .object "java/lang/StringBuilder"
  | 1 => .int
  | _ => .object "java/util/ArrayList"
abbrev wsX40 : List Cond := u_ws RX4 TX4 3
theorem nmX4 : ∀ a, a < 3 → ∀ b, b < 3 → a ≠ b → (TX4 a).2.1 ≠ (TX4 b).2.1 := by decide +kernel
theorem tyX4_ok : ∀ k, k < 3 → parseFieldDescriptor (TX4 k).2.2.1 = some (tyX4 k) := by decide +kernel
abbrev cX4_init : ByteArray := prog_5_method_1_code
def yX4_init : MethodName := ⟨RX4, "<init>", "(Ljava/lang/StringBuilder;)V"⟩
def dkwX4_init_0 : List UInt8 := [42, 183, 0, 3, 42, 187, 0, 9, 89, 183, 0, 11, 181, 0, 12, 42, 43, 181, 0, 18, 177]
abbrev dktX4_init_0 : List UInt8 := dkwX4_init_0 ++ []
theorem dksX4_init_0 : cX4_init.data.toList.drop 0 = dktX4_init_0 := by decide +kernel
theorem dX4_init_0 : decode cX4_init 0 = .ok (.aload_n 0, 1) := dk_42 (dk_at dksX4_init_0 0 rfl rfl)
theorem dX4_init_1 : decode cX4_init 1 = .ok (.invokespecial 3, 3) := dk_183 0 3 (dk_at dksX4_init_0 1 rfl rfl)
theorem dX4_init_4 : decode cX4_init 4 = .ok (.aload_n 0, 1) := dk_42 (dk_at dksX4_init_0 4 rfl rfl)
theorem dX4_init_5 : decode cX4_init 5 = .ok (.new 9, 3) := dk_187 0 9 (dk_at dksX4_init_0 5 rfl rfl)
theorem dX4_init_8 : decode cX4_init 8 = .ok (.dup, 1) := dk_89 (dk_at dksX4_init_0 8 rfl rfl)
theorem dX4_init_9 : decode cX4_init 9 = .ok (.invokespecial 11, 3) := dk_183 0 11 (dk_at dksX4_init_0 9 rfl rfl)
theorem dX4_init_12 : decode cX4_init 12 = .ok (.putfield 12, 3) := dk_181 0 12 (dk_at dksX4_init_0 12 rfl rfl)
theorem dX4_init_15 : decode cX4_init 15 = .ok (.aload_n 0, 1) := dk_42 (dk_at dksX4_init_0 15 rfl rfl)
theorem dX4_init_16 : decode cX4_init 16 = .ok (.aload_n 1, 1) := dk_43 (dk_at dksX4_init_0 16 rfl rfl)
theorem dX4_init_17 : decode cX4_init 17 = .ok (.putfield 18, 3) := dk_181 0 18 (dk_at dksX4_init_0 17 rfl rfl)
theorem dX4_init_20 : decode cX4_init 20 = .ok (.return_, 1) := dk_177 (dk_at dksX4_init_0 20 rfl rfl)
abbrev cX4_parse : ByteArray := prog_5_method_21_code
def yX4_parse : MethodName := ⟨RX4, "parse", "()V"⟩
def dkwX4_parse_2 : List UInt8 := [4, 167, 0, 4, 3, 182, 0, 56, 177]
abbrev dktX4_parse_2 : List UInt8 := dkwX4_parse_2 ++ []
def dkwX4_parse_1 : List UInt8 := [42, 16, 59, 182, 0, 52, 154, 255, 238, 42, 42, 180, 0, 32, 42, 180, 0, 18, 182, 0, 22, 160, 0, 7]
abbrev dktX4_parse_1 : List UInt8 := dkwX4_parse_1 ++ dktX4_parse_2
def dkwX4_parse_0 : List UInt8 := [42, 3, 181, 0, 32, 42, 180, 0, 12, 182, 0, 165, 42, 180, 0, 12, 42, 182, 0, 168, 182, 0, 171, 87]
abbrev dktX4_parse_0 : List UInt8 := dkwX4_parse_0 ++ dktX4_parse_1
theorem dksX4_parse_0 : cX4_parse.data.toList.drop 0 = dktX4_parse_0 := by decide +kernel
theorem dksX4_parse_1 : cX4_parse.data.toList.drop 24 = dktX4_parse_1 := dk_seg dksX4_parse_0 24 rfl rfl
theorem dksX4_parse_2 : cX4_parse.data.toList.drop 48 = dktX4_parse_2 := dk_seg dksX4_parse_1 24 rfl rfl
theorem dX4_parse_0 : decode cX4_parse 0 = .ok (.aload_n 0, 1) := dk_42 (dk_at dksX4_parse_0 0 rfl rfl)
theorem dX4_parse_1 : decode cX4_parse 1 = .ok (.iconst 0, 1) := dk_3 (dk_at dksX4_parse_0 1 rfl rfl)
theorem dX4_parse_2 : decode cX4_parse 2 = .ok (.putfield 32, 3) := dk_181 0 32 (dk_at dksX4_parse_0 2 rfl rfl)
theorem dX4_parse_5 : decode cX4_parse 5 = .ok (.aload_n 0, 1) := dk_42 (dk_at dksX4_parse_0 5 rfl rfl)
theorem dX4_parse_6 : decode cX4_parse 6 = .ok (.getfield 12, 3) := dk_180 0 12 (dk_at dksX4_parse_0 6 rfl rfl)
theorem dX4_parse_9 : decode cX4_parse 9 = .ok (.invokevirtual 165, 3) := dk_182 0 165 (dk_at dksX4_parse_0 9 rfl rfl)
theorem dX4_parse_12 : decode cX4_parse 12 = .ok (.aload_n 0, 1) := dk_42 (dk_at dksX4_parse_0 12 rfl rfl)
theorem dX4_parse_13 : decode cX4_parse 13 = .ok (.getfield 12, 3) := dk_180 0 12 (dk_at dksX4_parse_0 13 rfl rfl)
theorem dX4_parse_16 : decode cX4_parse 16 = .ok (.aload_n 0, 1) := dk_42 (dk_at dksX4_parse_0 16 rfl rfl)
theorem dX4_parse_17 : decode cX4_parse 17 = .ok (.invokevirtual 168, 3) := dk_182 0 168 (dk_at dksX4_parse_0 17 rfl rfl)
theorem dX4_parse_20 : decode cX4_parse 20 = .ok (.invokevirtual 171, 3) := dk_182 0 171 (dk_at dksX4_parse_0 20 rfl rfl)
theorem dX4_parse_23 : decode cX4_parse 23 = .ok (.pop, 1) := dk_87 (dk_at dksX4_parse_0 23 rfl rfl)
theorem dX4_parse_24 : decode cX4_parse 24 = .ok (.aload_n 0, 1) := dk_42 (dk_at dksX4_parse_1 0 rfl rfl)
theorem dX4_parse_25 : decode cX4_parse 25 = .ok (.bipush 59, 2) := dk_16 59 (dk_at dksX4_parse_1 1 rfl rfl)
theorem dX4_parse_27 : decode cX4_parse 27 = .ok (.invokevirtual 52, 3) := dk_182 0 52 (dk_at dksX4_parse_1 3 rfl rfl)
theorem dX4_parse_30 : decode cX4_parse 30 = .ok (.ifCond .ne (-18), 3) := dk_154 255 238 (dk_at dksX4_parse_1 6 rfl rfl)
theorem dX4_parse_33 : decode cX4_parse 33 = .ok (.aload_n 0, 1) := dk_42 (dk_at dksX4_parse_1 9 rfl rfl)
theorem dX4_parse_34 : decode cX4_parse 34 = .ok (.aload_n 0, 1) := dk_42 (dk_at dksX4_parse_1 10 rfl rfl)
theorem dX4_parse_35 : decode cX4_parse 35 = .ok (.getfield 32, 3) := dk_180 0 32 (dk_at dksX4_parse_1 11 rfl rfl)
theorem dX4_parse_38 : decode cX4_parse 38 = .ok (.aload_n 0, 1) := dk_42 (dk_at dksX4_parse_1 14 rfl rfl)
theorem dX4_parse_39 : decode cX4_parse 39 = .ok (.getfield 18, 3) := dk_180 0 18 (dk_at dksX4_parse_1 15 rfl rfl)
theorem dX4_parse_42 : decode cX4_parse 42 = .ok (.invokevirtual 22, 3) := dk_182 0 22 (dk_at dksX4_parse_1 18 rfl rfl)
theorem dX4_parse_45 : decode cX4_parse 45 = .ok (.if_icmp .ne 7, 3) := dk_160 0 7 (dk_at dksX4_parse_1 21 rfl rfl)
theorem dX4_parse_48 : decode cX4_parse 48 = .ok (.iconst 1, 1) := dk_4 (dk_at dksX4_parse_2 0 rfl rfl)
theorem dX4_parse_49 : decode cX4_parse 49 = .ok (.goto 4, 3) := dk_167 0 4 (dk_at dksX4_parse_2 1 rfl rfl)
theorem dX4_parse_52 : decode cX4_parse 52 = .ok (.iconst 0, 1) := dk_3 (dk_at dksX4_parse_2 4 rfl rfl)
theorem dX4_parse_53 : decode cX4_parse 53 = .ok (.invokevirtual 56, 3) := dk_182 0 56 (dk_at dksX4_parse_2 5 rfl rfl)
theorem dX4_parse_56 : decode cX4_parse 56 = .ok (.return_, 1) := dk_177 (dk_at dksX4_parse_2 8 rfl rfl)
abbrev cX4_change : ByteArray := prog_5_method_20_code
def yX4_change : MethodName := ⟨RX4, "change", "()LClockworkTailor$Change;"⟩
def dkwX4_change_5 : List UInt8 := [182, 0, 162, 176]
abbrev dktX4_change_5 : List UInt8 := dkwX4_change_5 ++ []
def dkwX4_change_4 : List UInt8 := [176, 42, 182, 0, 150, 176, 42, 182, 0, 153, 176, 42, 182, 0, 156, 176, 42, 182, 0, 159, 176, 42]
abbrev dktX4_change_4 : List UInt8 := dkwX4_change_4 ++ dktX4_change_5
def dkwX4_change_3 : List UInt8 := [180, 0, 32, 4, 96, 182, 0, 36, 16, 108, 160, 0, 10, 42, 182, 0, 144, 167, 0, 7, 42, 182, 0, 147]
abbrev dktX4_change_3 : List UInt8 := dkwX4_change_3 ++ dktX4_change_4
def dkwX4_change_2 : List UInt8 := [42, 182, 0, 135, 176, 42, 182, 0, 137, 176, 42, 3, 182, 0, 140, 176, 42, 4, 182, 0, 140, 176, 42, 42]
abbrev dktX4_change_2 : List UInt8 := dkwX4_change_2 ++ dktX4_change_3
def dkwX4_change_1 : List UInt8 := [170, 0, 0, 0, 0, 0, 0, 157, 0, 0, 0, 98, 0, 0, 0, 115, 0, 0, 0, 142, 0, 0, 0, 110, 0, 0, 0, 93, 0, 0, 0, 157, 0, 0, 0, 157, 0, 0, 0, 157, 0, 0, 0, 157, 0, 0, 0, 157, 0, 0, 0, 157, 0, 0, 0, 157, 0, 0, 0, 104, 0, 0, 0, 152, 0, 0, 0, 98, 0, 0, 0, 147, 0, 0, 0, 157, 0, 0, 0, 157, 0, 0, 0, 88, 0, 0, 0, 137]
abbrev dktX4_change_1 : List UInt8 := dkwX4_change_1 ++ dktX4_change_2
def dkwX4_change_0 : List UInt8 := [42, 182, 0, 40]
abbrev dktX4_change_0 : List UInt8 := dkwX4_change_0 ++ dktX4_change_1
theorem dksX4_change_0 : cX4_change.data.toList.drop 0 = dktX4_change_0 := by decide +kernel
theorem dksX4_change_1 : cX4_change.data.toList.drop 4 = dktX4_change_1 := dk_seg dksX4_change_0 4 rfl rfl
theorem dksX4_change_2 : cX4_change.data.toList.drop 92 = dktX4_change_2 := dk_seg dksX4_change_1 88 rfl rfl
theorem dksX4_change_3 : cX4_change.data.toList.drop 116 = dktX4_change_3 := dk_seg dksX4_change_2 24 rfl rfl
theorem dksX4_change_4 : cX4_change.data.toList.drop 140 = dktX4_change_4 := dk_seg dksX4_change_3 24 rfl rfl
theorem dksX4_change_5 : cX4_change.data.toList.drop 162 = dktX4_change_5 := dk_seg dksX4_change_4 22 rfl rfl
theorem dX4_change_0 : decode cX4_change 0 = .ok (.aload_n 0, 1) := dk_42 (dk_at dksX4_change_0 0 rfl rfl)
theorem dX4_change_1 : decode cX4_change 1 = .ok (.invokevirtual 40, 3) := dk_182 0 40 (dk_at dksX4_change_0 1 rfl rfl)
theorem dX4_change_4 : decode cX4_change 4 = .ok (.tableswitch 157 98 115 #[142, 110, 93, 157, 157, 157, 157, 157, 157, 157, 104, 152, 98, 147, 157, 157, 88, 137], 88) := by decide +kernel
theorem dX4_change_92 : decode cX4_change 92 = .ok (.aload_n 0, 1) := dk_42 (dk_at dksX4_change_2 0 rfl rfl)
theorem dX4_change_93 : decode cX4_change 93 = .ok (.invokevirtual 135, 3) := dk_182 0 135 (dk_at dksX4_change_2 1 rfl rfl)
theorem dX4_change_96 : decode cX4_change 96 = .ok (.areturn, 1) := dk_176 (dk_at dksX4_change_2 4 rfl rfl)
theorem dX4_change_97 : decode cX4_change 97 = .ok (.aload_n 0, 1) := dk_42 (dk_at dksX4_change_2 5 rfl rfl)
theorem dX4_change_98 : decode cX4_change 98 = .ok (.invokevirtual 137, 3) := dk_182 0 137 (dk_at dksX4_change_2 6 rfl rfl)
theorem dX4_change_101 : decode cX4_change 101 = .ok (.areturn, 1) := dk_176 (dk_at dksX4_change_2 9 rfl rfl)
theorem dX4_change_102 : decode cX4_change 102 = .ok (.aload_n 0, 1) := dk_42 (dk_at dksX4_change_2 10 rfl rfl)
theorem dX4_change_103 : decode cX4_change 103 = .ok (.iconst 0, 1) := dk_3 (dk_at dksX4_change_2 11 rfl rfl)
theorem dX4_change_104 : decode cX4_change 104 = .ok (.invokevirtual 140, 3) := dk_182 0 140 (dk_at dksX4_change_2 12 rfl rfl)
theorem dX4_change_107 : decode cX4_change 107 = .ok (.areturn, 1) := dk_176 (dk_at dksX4_change_2 15 rfl rfl)
theorem dX4_change_108 : decode cX4_change 108 = .ok (.aload_n 0, 1) := dk_42 (dk_at dksX4_change_2 16 rfl rfl)
theorem dX4_change_109 : decode cX4_change 109 = .ok (.iconst 1, 1) := dk_4 (dk_at dksX4_change_2 17 rfl rfl)
theorem dX4_change_110 : decode cX4_change 110 = .ok (.invokevirtual 140, 3) := dk_182 0 140 (dk_at dksX4_change_2 18 rfl rfl)
theorem dX4_change_113 : decode cX4_change 113 = .ok (.areturn, 1) := dk_176 (dk_at dksX4_change_2 21 rfl rfl)
theorem dX4_change_114 : decode cX4_change 114 = .ok (.aload_n 0, 1) := dk_42 (dk_at dksX4_change_2 22 rfl rfl)
theorem dX4_change_115 : decode cX4_change 115 = .ok (.aload_n 0, 1) := dk_42 (dk_at dksX4_change_2 23 rfl rfl)
theorem dX4_change_116 : decode cX4_change 116 = .ok (.getfield 32, 3) := dk_180 0 32 (dk_at dksX4_change_3 0 rfl rfl)
theorem dX4_change_119 : decode cX4_change 119 = .ok (.iconst 1, 1) := dk_4 (dk_at dksX4_change_3 3 rfl rfl)
theorem dX4_change_120 : decode cX4_change 120 = .ok (.iadd, 1) := dk_96 (dk_at dksX4_change_3 4 rfl rfl)
theorem dX4_change_121 : decode cX4_change 121 = .ok (.invokevirtual 36, 3) := dk_182 0 36 (dk_at dksX4_change_3 5 rfl rfl)
theorem dX4_change_124 : decode cX4_change 124 = .ok (.bipush 108, 2) := dk_16 108 (dk_at dksX4_change_3 8 rfl rfl)
theorem dX4_change_126 : decode cX4_change 126 = .ok (.if_icmp .ne 10, 3) := dk_160 0 10 (dk_at dksX4_change_3 10 rfl rfl)
theorem dX4_change_129 : decode cX4_change 129 = .ok (.aload_n 0, 1) := dk_42 (dk_at dksX4_change_3 13 rfl rfl)
theorem dX4_change_130 : decode cX4_change 130 = .ok (.invokevirtual 144, 3) := dk_182 0 144 (dk_at dksX4_change_3 14 rfl rfl)
theorem dX4_change_133 : decode cX4_change 133 = .ok (.goto 7, 3) := dk_167 0 7 (dk_at dksX4_change_3 17 rfl rfl)
theorem dX4_change_136 : decode cX4_change 136 = .ok (.aload_n 0, 1) := dk_42 (dk_at dksX4_change_3 20 rfl rfl)
theorem dX4_change_137 : decode cX4_change 137 = .ok (.invokevirtual 147, 3) := dk_182 0 147 (dk_at dksX4_change_3 21 rfl rfl)
theorem dX4_change_140 : decode cX4_change 140 = .ok (.areturn, 1) := dk_176 (dk_at dksX4_change_4 0 rfl rfl)
theorem dX4_change_141 : decode cX4_change 141 = .ok (.aload_n 0, 1) := dk_42 (dk_at dksX4_change_4 1 rfl rfl)
theorem dX4_change_142 : decode cX4_change 142 = .ok (.invokevirtual 150, 3) := dk_182 0 150 (dk_at dksX4_change_4 2 rfl rfl)
theorem dX4_change_145 : decode cX4_change 145 = .ok (.areturn, 1) := dk_176 (dk_at dksX4_change_4 5 rfl rfl)
theorem dX4_change_146 : decode cX4_change 146 = .ok (.aload_n 0, 1) := dk_42 (dk_at dksX4_change_4 6 rfl rfl)
theorem dX4_change_147 : decode cX4_change 147 = .ok (.invokevirtual 153, 3) := dk_182 0 153 (dk_at dksX4_change_4 7 rfl rfl)
theorem dX4_change_150 : decode cX4_change 150 = .ok (.areturn, 1) := dk_176 (dk_at dksX4_change_4 10 rfl rfl)
theorem dX4_change_151 : decode cX4_change 151 = .ok (.aload_n 0, 1) := dk_42 (dk_at dksX4_change_4 11 rfl rfl)
theorem dX4_change_152 : decode cX4_change 152 = .ok (.invokevirtual 156, 3) := dk_182 0 156 (dk_at dksX4_change_4 12 rfl rfl)
theorem dX4_change_155 : decode cX4_change 155 = .ok (.areturn, 1) := dk_176 (dk_at dksX4_change_4 15 rfl rfl)
theorem dX4_change_156 : decode cX4_change 156 = .ok (.aload_n 0, 1) := dk_42 (dk_at dksX4_change_4 16 rfl rfl)
theorem dX4_change_157 : decode cX4_change 157 = .ok (.invokevirtual 159, 3) := dk_182 0 159 (dk_at dksX4_change_4 17 rfl rfl)
theorem dX4_change_160 : decode cX4_change 160 = .ok (.areturn, 1) := dk_176 (dk_at dksX4_change_4 20 rfl rfl)
theorem dX4_change_161 : decode cX4_change 161 = .ok (.aload_n 0, 1) := dk_42 (dk_at dksX4_change_4 21 rfl rfl)
theorem dX4_change_162 : decode cX4_change 162 = .ok (.invokevirtual 162, 3) := dk_182 0 162 (dk_at dksX4_change_5 0 rfl rfl)
theorem dX4_change_165 : decode cX4_change 165 = .ok (.areturn, 1) := dk_176 (dk_at dksX4_change_5 3 rfl rfl)
abbrev cX4_current : ByteArray := prog_5_method_3_code
def yX4_current : MethodName := ⟨RX4, "current", "()I"⟩
def dkwX4_current_0 : List UInt8 := [42, 42, 180, 0, 32, 182, 0, 36, 172]
abbrev dktX4_current_0 : List UInt8 := dkwX4_current_0 ++ []
theorem dksX4_current_0 : cX4_current.data.toList.drop 0 = dktX4_current_0 := by decide +kernel
theorem dX4_current_0 : decode cX4_current 0 = .ok (.aload_n 0, 1) := dk_42 (dk_at dksX4_current_0 0 rfl rfl)
theorem dX4_current_1 : decode cX4_current 1 = .ok (.aload_n 0, 1) := dk_42 (dk_at dksX4_current_0 1 rfl rfl)
theorem dX4_current_2 : decode cX4_current 2 = .ok (.getfield 32, 3) := dk_180 0 32 (dk_at dksX4_current_0 2 rfl rfl)
theorem dX4_current_5 : decode cX4_current 5 = .ok (.invokevirtual 36, 3) := dk_182 0 36 (dk_at dksX4_current_0 5 rfl rfl)
theorem dX4_current_8 : decode cX4_current 8 = .ok (.ireturn, 1) := dk_172 (dk_at dksX4_current_0 8 rfl rfl)
abbrev cX4_at : ByteArray := prog_5_method_2_code
def yX4_at : MethodName := ⟨RX4, "at", "(I)I"⟩
def dkwX4_at_0 : List UInt8 := [27, 42, 180, 0, 18, 182, 0, 22, 162, 0, 14, 42, 180, 0, 18, 27, 182, 0, 28, 167, 0, 4, 2, 172]
abbrev dktX4_at_0 : List UInt8 := dkwX4_at_0 ++ []
theorem dksX4_at_0 : cX4_at.data.toList.drop 0 = dktX4_at_0 := by decide +kernel
theorem dX4_at_0 : decode cX4_at 0 = .ok (.iload_n 1, 1) := dk_27 (dk_at dksX4_at_0 0 rfl rfl)
theorem dX4_at_1 : decode cX4_at 1 = .ok (.aload_n 0, 1) := dk_42 (dk_at dksX4_at_0 1 rfl rfl)
theorem dX4_at_2 : decode cX4_at 2 = .ok (.getfield 18, 3) := dk_180 0 18 (dk_at dksX4_at_0 2 rfl rfl)
theorem dX4_at_5 : decode cX4_at 5 = .ok (.invokevirtual 22, 3) := dk_182 0 22 (dk_at dksX4_at_0 5 rfl rfl)
theorem dX4_at_8 : decode cX4_at 8 = .ok (.if_icmp .ge 14, 3) := dk_162 0 14 (dk_at dksX4_at_0 8 rfl rfl)
theorem dX4_at_11 : decode cX4_at 11 = .ok (.aload_n 0, 1) := dk_42 (dk_at dksX4_at_0 11 rfl rfl)
theorem dX4_at_12 : decode cX4_at 12 = .ok (.getfield 18, 3) := dk_180 0 18 (dk_at dksX4_at_0 12 rfl rfl)
theorem dX4_at_15 : decode cX4_at 15 = .ok (.iload_n 1, 1) := dk_27 (dk_at dksX4_at_0 15 rfl rfl)
theorem dX4_at_16 : decode cX4_at 16 = .ok (.invokevirtual 28, 3) := dk_182 0 28 (dk_at dksX4_at_0 16 rfl rfl)
theorem dX4_at_19 : decode cX4_at 19 = .ok (.goto 4, 3) := dk_167 0 4 (dk_at dksX4_at_0 19 rfl rfl)
theorem dX4_at_22 : decode cX4_at 22 = .ok (.iconst (-1), 1) := dk_2 (dk_at dksX4_at_0 22 rfl rfl)
theorem dX4_at_23 : decode cX4_at 23 = .ok (.ireturn, 1) := dk_172 (dk_at dksX4_at_0 23 rfl rfl)
abbrev cX4_recipe : ByteArray := prog_5_method_10_code
def yX4_recipe : MethodName := ⟨RX4, "recipe", "()LClockworkTailor$Change;"⟩
def dkwX4_recipe_1 : List UInt8 := [27, 28, 29, 186, 0, 88, 0, 0, 176]
abbrev dktX4_recipe_1 : List UInt8 := dkwX4_recipe_1 ++ []
def dkwX4_recipe_0 : List UInt8 := [42, 18, 75, 182, 0, 77, 42, 3, 182, 0, 81, 60, 42, 4, 182, 0, 81, 61, 42, 5, 182, 0, 85, 62]
abbrev dktX4_recipe_0 : List UInt8 := dkwX4_recipe_0 ++ dktX4_recipe_1
theorem dksX4_recipe_0 : cX4_recipe.data.toList.drop 0 = dktX4_recipe_0 := by decide +kernel
theorem dksX4_recipe_1 : cX4_recipe.data.toList.drop 24 = dktX4_recipe_1 := dk_seg dksX4_recipe_0 24 rfl rfl
theorem dX4_recipe_0 : decode cX4_recipe 0 = .ok (.aload_n 0, 1) := dk_42 (dk_at dksX4_recipe_0 0 rfl rfl)
theorem dX4_recipe_1 : decode cX4_recipe 1 = .ok (.ldc 75, 2) := dk_18 75 (dk_at dksX4_recipe_0 1 rfl rfl)
theorem dX4_recipe_3 : decode cX4_recipe 3 = .ok (.invokevirtual 77, 3) := dk_182 0 77 (dk_at dksX4_recipe_0 3 rfl rfl)
theorem dX4_recipe_6 : decode cX4_recipe 6 = .ok (.aload_n 0, 1) := dk_42 (dk_at dksX4_recipe_0 6 rfl rfl)
theorem dX4_recipe_7 : decode cX4_recipe 7 = .ok (.iconst 0, 1) := dk_3 (dk_at dksX4_recipe_0 7 rfl rfl)
theorem dX4_recipe_8 : decode cX4_recipe 8 = .ok (.invokevirtual 81, 3) := dk_182 0 81 (dk_at dksX4_recipe_0 8 rfl rfl)
theorem dX4_recipe_11 : decode cX4_recipe 11 = .ok (.istore_n 1, 1) := dk_60 (dk_at dksX4_recipe_0 11 rfl rfl)
theorem dX4_recipe_12 : decode cX4_recipe 12 = .ok (.aload_n 0, 1) := dk_42 (dk_at dksX4_recipe_0 12 rfl rfl)
theorem dX4_recipe_13 : decode cX4_recipe 13 = .ok (.iconst 1, 1) := dk_4 (dk_at dksX4_recipe_0 13 rfl rfl)
theorem dX4_recipe_14 : decode cX4_recipe 14 = .ok (.invokevirtual 81, 3) := dk_182 0 81 (dk_at dksX4_recipe_0 14 rfl rfl)
theorem dX4_recipe_17 : decode cX4_recipe 17 = .ok (.istore_n 2, 1) := dk_61 (dk_at dksX4_recipe_0 17 rfl rfl)
theorem dX4_recipe_18 : decode cX4_recipe 18 = .ok (.aload_n 0, 1) := dk_42 (dk_at dksX4_recipe_0 18 rfl rfl)
theorem dX4_recipe_19 : decode cX4_recipe 19 = .ok (.iconst 2, 1) := dk_5 (dk_at dksX4_recipe_0 19 rfl rfl)
theorem dX4_recipe_20 : decode cX4_recipe 20 = .ok (.invokevirtual 85, 3) := dk_182 0 85 (dk_at dksX4_recipe_0 20 rfl rfl)
theorem dX4_recipe_23 : decode cX4_recipe 23 = .ok (.istore_n 3, 1) := dk_62 (dk_at dksX4_recipe_0 23 rfl rfl)
theorem dX4_recipe_24 : decode cX4_recipe 24 = .ok (.iload_n 1, 1) := dk_27 (dk_at dksX4_recipe_1 0 rfl rfl)
theorem dX4_recipe_25 : decode cX4_recipe 25 = .ok (.iload_n 2, 1) := dk_28 (dk_at dksX4_recipe_1 1 rfl rfl)
theorem dX4_recipe_26 : decode cX4_recipe 26 = .ok (.iload_n 3, 1) := dk_29 (dk_at dksX4_recipe_1 2 rfl rfl)
theorem dX4_recipe_27 : decode cX4_recipe 27 = .ok (.invokedynamic 88, 5) := by decide +kernel
theorem dX4_recipe_32 : decode cX4_recipe 32 = .ok (.areturn, 1) := dk_176 (dk_at dksX4_recipe_1 8 rfl rfl)
abbrev cX4_expectWord : ByteArray := prog_5_method_6_code
def yX4_expectWord : MethodName := ⟨RX4, "expectWord", "(Ljava/lang/String;)V"⟩
def dkwX4_expectWord_1 : List UInt8 := [132, 2, 1, 167, 255, 232, 177]
abbrev dktX4_expectWord_1 : List UInt8 := dkwX4_expectWord_1 ++ []
def dkwX4_expectWord_0 : List UInt8 := [3, 61, 28, 43, 182, 0, 48, 162, 0, 22, 42, 42, 43, 28, 182, 0, 51, 182, 0, 52, 182, 0, 56]
abbrev dktX4_expectWord_0 : List UInt8 := dkwX4_expectWord_0 ++ dktX4_expectWord_1
theorem dksX4_expectWord_0 : cX4_expectWord.data.toList.drop 0 = dktX4_expectWord_0 := by decide +kernel
theorem dksX4_expectWord_1 : cX4_expectWord.data.toList.drop 23 = dktX4_expectWord_1 := dk_seg dksX4_expectWord_0 23 rfl rfl
theorem dX4_expectWord_0 : decode cX4_expectWord 0 = .ok (.iconst 0, 1) := dk_3 (dk_at dksX4_expectWord_0 0 rfl rfl)
theorem dX4_expectWord_1 : decode cX4_expectWord 1 = .ok (.istore_n 2, 1) := dk_61 (dk_at dksX4_expectWord_0 1 rfl rfl)
theorem dX4_expectWord_2 : decode cX4_expectWord 2 = .ok (.iload_n 2, 1) := dk_28 (dk_at dksX4_expectWord_0 2 rfl rfl)
theorem dX4_expectWord_3 : decode cX4_expectWord 3 = .ok (.aload_n 1, 1) := dk_43 (dk_at dksX4_expectWord_0 3 rfl rfl)
theorem dX4_expectWord_4 : decode cX4_expectWord 4 = .ok (.invokevirtual 48, 3) := dk_182 0 48 (dk_at dksX4_expectWord_0 4 rfl rfl)
theorem dX4_expectWord_7 : decode cX4_expectWord 7 = .ok (.if_icmp .ge 22, 3) := dk_162 0 22 (dk_at dksX4_expectWord_0 7 rfl rfl)
theorem dX4_expectWord_10 : decode cX4_expectWord 10 = .ok (.aload_n 0, 1) := dk_42 (dk_at dksX4_expectWord_0 10 rfl rfl)
theorem dX4_expectWord_11 : decode cX4_expectWord 11 = .ok (.aload_n 0, 1) := dk_42 (dk_at dksX4_expectWord_0 11 rfl rfl)
theorem dX4_expectWord_12 : decode cX4_expectWord 12 = .ok (.aload_n 1, 1) := dk_43 (dk_at dksX4_expectWord_0 12 rfl rfl)
theorem dX4_expectWord_13 : decode cX4_expectWord 13 = .ok (.iload_n 2, 1) := dk_28 (dk_at dksX4_expectWord_0 13 rfl rfl)
theorem dX4_expectWord_14 : decode cX4_expectWord 14 = .ok (.invokevirtual 51, 3) := dk_182 0 51 (dk_at dksX4_expectWord_0 14 rfl rfl)
theorem dX4_expectWord_17 : decode cX4_expectWord 17 = .ok (.invokevirtual 52, 3) := dk_182 0 52 (dk_at dksX4_expectWord_0 17 rfl rfl)
theorem dX4_expectWord_20 : decode cX4_expectWord 20 = .ok (.invokevirtual 56, 3) := dk_182 0 56 (dk_at dksX4_expectWord_0 20 rfl rfl)
theorem dX4_expectWord_23 : decode cX4_expectWord 23 = .ok (.iinc 2 1, 3) := dk_132 2 1 (dk_at dksX4_expectWord_1 0 rfl rfl)
theorem dX4_expectWord_26 : decode cX4_expectWord 26 = .ok (.goto (-24), 3) := dk_167 255 232 (dk_at dksX4_expectWord_1 3 rfl rfl)
theorem dX4_expectWord_29 : decode cX4_expectWord 29 = .ok (.return_, 1) := dk_177 (dk_at dksX4_expectWord_1 6 rfl rfl)
abbrev cX4_accept : ByteArray := prog_5_method_4_code
def yX4_accept : MethodName := ⟨RX4, "accept", "(C)Z"⟩
def dkwX4_accept_0 : List UInt8 := [42, 182, 0, 40, 27, 159, 0, 5, 3, 172, 42, 89, 180, 0, 32, 4, 96, 181, 0, 32, 4, 172]
abbrev dktX4_accept_0 : List UInt8 := dkwX4_accept_0 ++ []
theorem dksX4_accept_0 : cX4_accept.data.toList.drop 0 = dktX4_accept_0 := by decide +kernel
theorem dX4_accept_0 : decode cX4_accept 0 = .ok (.aload_n 0, 1) := dk_42 (dk_at dksX4_accept_0 0 rfl rfl)
theorem dX4_accept_1 : decode cX4_accept 1 = .ok (.invokevirtual 40, 3) := dk_182 0 40 (dk_at dksX4_accept_0 1 rfl rfl)
theorem dX4_accept_4 : decode cX4_accept 4 = .ok (.iload_n 1, 1) := dk_27 (dk_at dksX4_accept_0 4 rfl rfl)
theorem dX4_accept_5 : decode cX4_accept 5 = .ok (.if_icmp .eq 5, 3) := dk_159 0 5 (dk_at dksX4_accept_0 5 rfl rfl)
theorem dX4_accept_8 : decode cX4_accept 8 = .ok (.iconst 0, 1) := dk_3 (dk_at dksX4_accept_0 8 rfl rfl)
theorem dX4_accept_9 : decode cX4_accept 9 = .ok (.ireturn, 1) := dk_172 (dk_at dksX4_accept_0 9 rfl rfl)
theorem dX4_accept_10 : decode cX4_accept 10 = .ok (.aload_n 0, 1) := dk_42 (dk_at dksX4_accept_0 10 rfl rfl)
theorem dX4_accept_11 : decode cX4_accept 11 = .ok (.dup, 1) := dk_89 (dk_at dksX4_accept_0 11 rfl rfl)
theorem dX4_accept_12 : decode cX4_accept 12 = .ok (.getfield 32, 3) := dk_180 0 32 (dk_at dksX4_accept_0 12 rfl rfl)
theorem dX4_accept_15 : decode cX4_accept 15 = .ok (.iconst 1, 1) := dk_4 (dk_at dksX4_accept_0 15 rfl rfl)
theorem dX4_accept_16 : decode cX4_accept 16 = .ok (.iadd, 1) := dk_96 (dk_at dksX4_accept_0 16 rfl rfl)
theorem dX4_accept_17 : decode cX4_accept 17 = .ok (.putfield 32, 3) := dk_181 0 32 (dk_at dksX4_accept_0 17 rfl rfl)
theorem dX4_accept_20 : decode cX4_accept 20 = .ok (.iconst 1, 1) := dk_4 (dk_at dksX4_accept_0 20 rfl rfl)
theorem dX4_accept_21 : decode cX4_accept 21 = .ok (.ireturn, 1) := dk_172 (dk_at dksX4_accept_0 21 rfl rfl)
abbrev cX4_expect : ByteArray := prog_5_method_5_code
def yX4_expect : MethodName := ⟨RX4, "expect", "(Z)V"⟩
def dkwX4_expect_0 : List UInt8 := [27, 154, 0, 15, 187, 0, 43, 89, 42, 180, 0, 32, 183, 0, 45, 191, 177]
abbrev dktX4_expect_0 : List UInt8 := dkwX4_expect_0 ++ []
theorem dksX4_expect_0 : cX4_expect.data.toList.drop 0 = dktX4_expect_0 := by decide +kernel
theorem dX4_expect_0 : decode cX4_expect 0 = .ok (.iload_n 1, 1) := dk_27 (dk_at dksX4_expect_0 0 rfl rfl)
theorem dX4_expect_1 : decode cX4_expect 1 = .ok (.ifCond .ne 15, 3) := dk_154 0 15 (dk_at dksX4_expect_0 1 rfl rfl)
theorem dX4_expect_4 : decode cX4_expect 4 = .ok (.new 43, 3) := dk_187 0 43 (dk_at dksX4_expect_0 4 rfl rfl)
theorem dX4_expect_7 : decode cX4_expect 7 = .ok (.dup, 1) := dk_89 (dk_at dksX4_expect_0 7 rfl rfl)
theorem dX4_expect_8 : decode cX4_expect 8 = .ok (.aload_n 0, 1) := dk_42 (dk_at dksX4_expect_0 8 rfl rfl)
theorem dX4_expect_9 : decode cX4_expect 9 = .ok (.getfield 32, 3) := dk_180 0 32 (dk_at dksX4_expect_0 9 rfl rfl)
theorem dX4_expect_12 : decode cX4_expect 12 = .ok (.invokespecial 45, 3) := dk_183 0 45 (dk_at dksX4_expect_0 12 rfl rfl)
theorem dX4_expect_15 : decode cX4_expect 15 = .ok (.athrow, 1) := dk_191 (dk_at dksX4_expect_0 15 rfl rfl)
theorem dX4_expect_16 : decode cX4_expect 16 = .ok (.return_, 1) := dk_177 (dk_at dksX4_expect_0 16 rfl rfl)
abbrev cX4_letter : ByteArray := prog_5_method_9_code
def yX4_letter : MethodName := ⟨RX4, "letter", "(Z)C"⟩
def dkwX4_letter_2 : List UInt8 := [180, 0, 18, 42, 180, 0, 32, 4, 100, 182, 0, 28, 172]
abbrev dktX4_letter_2 : List UInt8 := dkwX4_letter_2 ++ []
def dkwX4_letter_1 : List UInt8 := [167, 0, 10, 42, 182, 0, 40, 184, 0, 72, 182, 0, 56, 42, 89, 180, 0, 32, 4, 96, 181, 0, 32, 42]
abbrev dktX4_letter_1 : List UInt8 := dkwX4_letter_1 ++ dktX4_letter_2
def dkwX4_letter_0 : List UInt8 := [42, 42, 16, 32, 182, 0, 52, 182, 0, 56, 42, 27, 153, 0, 13, 42, 182, 0, 40, 184, 0, 68]
abbrev dktX4_letter_0 : List UInt8 := dkwX4_letter_0 ++ dktX4_letter_1
theorem dksX4_letter_0 : cX4_letter.data.toList.drop 0 = dktX4_letter_0 := by decide +kernel
theorem dksX4_letter_1 : cX4_letter.data.toList.drop 22 = dktX4_letter_1 := dk_seg dksX4_letter_0 22 rfl rfl
theorem dksX4_letter_2 : cX4_letter.data.toList.drop 46 = dktX4_letter_2 := dk_seg dksX4_letter_1 24 rfl rfl
theorem dX4_letter_0 : decode cX4_letter 0 = .ok (.aload_n 0, 1) := dk_42 (dk_at dksX4_letter_0 0 rfl rfl)
theorem dX4_letter_1 : decode cX4_letter 1 = .ok (.aload_n 0, 1) := dk_42 (dk_at dksX4_letter_0 1 rfl rfl)
theorem dX4_letter_2 : decode cX4_letter 2 = .ok (.bipush 32, 2) := dk_16 32 (dk_at dksX4_letter_0 2 rfl rfl)
theorem dX4_letter_4 : decode cX4_letter 4 = .ok (.invokevirtual 52, 3) := dk_182 0 52 (dk_at dksX4_letter_0 4 rfl rfl)
theorem dX4_letter_7 : decode cX4_letter 7 = .ok (.invokevirtual 56, 3) := dk_182 0 56 (dk_at dksX4_letter_0 7 rfl rfl)
theorem dX4_letter_10 : decode cX4_letter 10 = .ok (.aload_n 0, 1) := dk_42 (dk_at dksX4_letter_0 10 rfl rfl)
theorem dX4_letter_11 : decode cX4_letter 11 = .ok (.iload_n 1, 1) := dk_27 (dk_at dksX4_letter_0 11 rfl rfl)
theorem dX4_letter_12 : decode cX4_letter 12 = .ok (.ifCond .eq 13, 3) := dk_153 0 13 (dk_at dksX4_letter_0 12 rfl rfl)
theorem dX4_letter_15 : decode cX4_letter 15 = .ok (.aload_n 0, 1) := dk_42 (dk_at dksX4_letter_0 15 rfl rfl)
theorem dX4_letter_16 : decode cX4_letter 16 = .ok (.invokevirtual 40, 3) := dk_182 0 40 (dk_at dksX4_letter_0 16 rfl rfl)
theorem dX4_letter_19 : decode cX4_letter 19 = .ok (.invokestatic 68, 3) := dk_184 0 68 (dk_at dksX4_letter_0 19 rfl rfl)
theorem dX4_letter_22 : decode cX4_letter 22 = .ok (.goto 10, 3) := dk_167 0 10 (dk_at dksX4_letter_1 0 rfl rfl)
theorem dX4_letter_25 : decode cX4_letter 25 = .ok (.aload_n 0, 1) := dk_42 (dk_at dksX4_letter_1 3 rfl rfl)
theorem dX4_letter_26 : decode cX4_letter 26 = .ok (.invokevirtual 40, 3) := dk_182 0 40 (dk_at dksX4_letter_1 4 rfl rfl)
theorem dX4_letter_29 : decode cX4_letter 29 = .ok (.invokestatic 72, 3) := dk_184 0 72 (dk_at dksX4_letter_1 7 rfl rfl)
theorem dX4_letter_32 : decode cX4_letter 32 = .ok (.invokevirtual 56, 3) := dk_182 0 56 (dk_at dksX4_letter_1 10 rfl rfl)
theorem dX4_letter_35 : decode cX4_letter 35 = .ok (.aload_n 0, 1) := dk_42 (dk_at dksX4_letter_1 13 rfl rfl)
theorem dX4_letter_36 : decode cX4_letter 36 = .ok (.dup, 1) := dk_89 (dk_at dksX4_letter_1 14 rfl rfl)
theorem dX4_letter_37 : decode cX4_letter 37 = .ok (.getfield 32, 3) := dk_180 0 32 (dk_at dksX4_letter_1 15 rfl rfl)
theorem dX4_letter_40 : decode cX4_letter 40 = .ok (.iconst 1, 1) := dk_4 (dk_at dksX4_letter_1 18 rfl rfl)
theorem dX4_letter_41 : decode cX4_letter 41 = .ok (.iadd, 1) := dk_96 (dk_at dksX4_letter_1 19 rfl rfl)
theorem dX4_letter_42 : decode cX4_letter 42 = .ok (.putfield 32, 3) := dk_181 0 32 (dk_at dksX4_letter_1 20 rfl rfl)
theorem dX4_letter_45 : decode cX4_letter 45 = .ok (.aload_n 0, 1) := dk_42 (dk_at dksX4_letter_1 23 rfl rfl)
theorem dX4_letter_46 : decode cX4_letter 46 = .ok (.getfield 18, 3) := dk_180 0 18 (dk_at dksX4_letter_2 0 rfl rfl)
theorem dX4_letter_49 : decode cX4_letter 49 = .ok (.aload_n 0, 1) := dk_42 (dk_at dksX4_letter_2 3 rfl rfl)
theorem dX4_letter_50 : decode cX4_letter 50 = .ok (.getfield 32, 3) := dk_180 0 32 (dk_at dksX4_letter_2 4 rfl rfl)
theorem dX4_letter_53 : decode cX4_letter 53 = .ok (.iconst 1, 1) := dk_4 (dk_at dksX4_letter_2 7 rfl rfl)
theorem dX4_letter_54 : decode cX4_letter 54 = .ok (.isub, 1) := dk_100 (dk_at dksX4_letter_2 8 rfl rfl)
theorem dX4_letter_55 : decode cX4_letter 55 = .ok (.invokevirtual 28, 3) := dk_182 0 28 (dk_at dksX4_letter_2 9 rfl rfl)
theorem dX4_letter_58 : decode cX4_letter 58 = .ok (.ireturn, 1) := dk_172 (dk_at dksX4_letter_2 12 rfl rfl)
abbrev cX4_number : ByteArray := prog_5_method_8_code
def yX4_number : MethodName := ⟨RX4, "number", "(I)I"⟩
def dkwX4_number_2 : List UInt8 := [89, 180, 0, 32, 4, 96, 181, 0, 32, 132, 3, 1, 167, 255, 218, 28, 172]
abbrev dktX4_number_2 : List UInt8 := dkwX4_number_2 ++ []
def dkwX4_number_1 : List UInt8 := [162, 0, 39, 42, 182, 0, 64, 153, 0, 32, 16, 10, 28, 104, 42, 182, 0, 40, 96, 16, 48, 100, 61, 42]
abbrev dktX4_number_1 : List UInt8 := dkwX4_number_1 ++ dktX4_number_2
def dkwX4_number_0 : List UInt8 := [42, 42, 16, 32, 182, 0, 52, 182, 0, 56, 42, 42, 182, 0, 64, 182, 0, 56, 3, 61, 3, 62, 29, 27]
abbrev dktX4_number_0 : List UInt8 := dkwX4_number_0 ++ dktX4_number_1
theorem dksX4_number_0 : cX4_number.data.toList.drop 0 = dktX4_number_0 := by decide +kernel
theorem dksX4_number_1 : cX4_number.data.toList.drop 24 = dktX4_number_1 := dk_seg dksX4_number_0 24 rfl rfl
theorem dksX4_number_2 : cX4_number.data.toList.drop 48 = dktX4_number_2 := dk_seg dksX4_number_1 24 rfl rfl
theorem dX4_number_0 : decode cX4_number 0 = .ok (.aload_n 0, 1) := dk_42 (dk_at dksX4_number_0 0 rfl rfl)
theorem dX4_number_1 : decode cX4_number 1 = .ok (.aload_n 0, 1) := dk_42 (dk_at dksX4_number_0 1 rfl rfl)
theorem dX4_number_2 : decode cX4_number 2 = .ok (.bipush 32, 2) := dk_16 32 (dk_at dksX4_number_0 2 rfl rfl)
theorem dX4_number_4 : decode cX4_number 4 = .ok (.invokevirtual 52, 3) := dk_182 0 52 (dk_at dksX4_number_0 4 rfl rfl)
theorem dX4_number_7 : decode cX4_number 7 = .ok (.invokevirtual 56, 3) := dk_182 0 56 (dk_at dksX4_number_0 7 rfl rfl)
theorem dX4_number_10 : decode cX4_number 10 = .ok (.aload_n 0, 1) := dk_42 (dk_at dksX4_number_0 10 rfl rfl)
theorem dX4_number_11 : decode cX4_number 11 = .ok (.aload_n 0, 1) := dk_42 (dk_at dksX4_number_0 11 rfl rfl)
theorem dX4_number_12 : decode cX4_number 12 = .ok (.invokevirtual 64, 3) := dk_182 0 64 (dk_at dksX4_number_0 12 rfl rfl)
theorem dX4_number_15 : decode cX4_number 15 = .ok (.invokevirtual 56, 3) := dk_182 0 56 (dk_at dksX4_number_0 15 rfl rfl)
theorem dX4_number_18 : decode cX4_number 18 = .ok (.iconst 0, 1) := dk_3 (dk_at dksX4_number_0 18 rfl rfl)
theorem dX4_number_19 : decode cX4_number 19 = .ok (.istore_n 2, 1) := dk_61 (dk_at dksX4_number_0 19 rfl rfl)
theorem dX4_number_20 : decode cX4_number 20 = .ok (.iconst 0, 1) := dk_3 (dk_at dksX4_number_0 20 rfl rfl)
theorem dX4_number_21 : decode cX4_number 21 = .ok (.istore_n 3, 1) := dk_62 (dk_at dksX4_number_0 21 rfl rfl)
theorem dX4_number_22 : decode cX4_number 22 = .ok (.iload_n 3, 1) := dk_29 (dk_at dksX4_number_0 22 rfl rfl)
theorem dX4_number_23 : decode cX4_number 23 = .ok (.iload_n 1, 1) := dk_27 (dk_at dksX4_number_0 23 rfl rfl)
theorem dX4_number_24 : decode cX4_number 24 = .ok (.if_icmp .ge 39, 3) := dk_162 0 39 (dk_at dksX4_number_1 0 rfl rfl)
theorem dX4_number_27 : decode cX4_number 27 = .ok (.aload_n 0, 1) := dk_42 (dk_at dksX4_number_1 3 rfl rfl)
theorem dX4_number_28 : decode cX4_number 28 = .ok (.invokevirtual 64, 3) := dk_182 0 64 (dk_at dksX4_number_1 4 rfl rfl)
theorem dX4_number_31 : decode cX4_number 31 = .ok (.ifCond .eq 32, 3) := dk_153 0 32 (dk_at dksX4_number_1 7 rfl rfl)
theorem dX4_number_34 : decode cX4_number 34 = .ok (.bipush 10, 2) := dk_16 10 (dk_at dksX4_number_1 10 rfl rfl)
theorem dX4_number_36 : decode cX4_number 36 = .ok (.iload_n 2, 1) := dk_28 (dk_at dksX4_number_1 12 rfl rfl)
theorem dX4_number_37 : decode cX4_number 37 = .ok (.imul, 1) := dk_104 (dk_at dksX4_number_1 13 rfl rfl)
theorem dX4_number_38 : decode cX4_number 38 = .ok (.aload_n 0, 1) := dk_42 (dk_at dksX4_number_1 14 rfl rfl)
theorem dX4_number_39 : decode cX4_number 39 = .ok (.invokevirtual 40, 3) := dk_182 0 40 (dk_at dksX4_number_1 15 rfl rfl)
theorem dX4_number_42 : decode cX4_number 42 = .ok (.iadd, 1) := dk_96 (dk_at dksX4_number_1 18 rfl rfl)
theorem dX4_number_43 : decode cX4_number 43 = .ok (.bipush 48, 2) := dk_16 48 (dk_at dksX4_number_1 19 rfl rfl)
theorem dX4_number_45 : decode cX4_number 45 = .ok (.isub, 1) := dk_100 (dk_at dksX4_number_1 21 rfl rfl)
theorem dX4_number_46 : decode cX4_number 46 = .ok (.istore_n 2, 1) := dk_61 (dk_at dksX4_number_1 22 rfl rfl)
theorem dX4_number_47 : decode cX4_number 47 = .ok (.aload_n 0, 1) := dk_42 (dk_at dksX4_number_1 23 rfl rfl)
theorem dX4_number_48 : decode cX4_number 48 = .ok (.dup, 1) := dk_89 (dk_at dksX4_number_2 0 rfl rfl)
theorem dX4_number_49 : decode cX4_number 49 = .ok (.getfield 32, 3) := dk_180 0 32 (dk_at dksX4_number_2 1 rfl rfl)
theorem dX4_number_52 : decode cX4_number 52 = .ok (.iconst 1, 1) := dk_4 (dk_at dksX4_number_2 4 rfl rfl)
theorem dX4_number_53 : decode cX4_number 53 = .ok (.iadd, 1) := dk_96 (dk_at dksX4_number_2 5 rfl rfl)
theorem dX4_number_54 : decode cX4_number 54 = .ok (.putfield 32, 3) := dk_181 0 32 (dk_at dksX4_number_2 6 rfl rfl)
theorem dX4_number_57 : decode cX4_number 57 = .ok (.iinc 3 1, 3) := dk_132 3 1 (dk_at dksX4_number_2 9 rfl rfl)
theorem dX4_number_60 : decode cX4_number 60 = .ok (.goto (-38), 3) := dk_167 255 218 (dk_at dksX4_number_2 12 rfl rfl)
theorem dX4_number_63 : decode cX4_number 63 = .ok (.iload_n 2, 1) := dk_28 (dk_at dksX4_number_2 15 rfl rfl)
theorem dX4_number_64 : decode cX4_number 64 = .ok (.ireturn, 1) := dk_172 (dk_at dksX4_number_2 16 rfl rfl)
abbrev cX4_isDigit : ByteArray := prog_5_method_7_code
def yX4_isDigit : MethodName := ⟨RX4, "isDigit", "()Z"⟩
def dkwX4_isDigit_0 : List UInt8 := [42, 182, 0, 40, 16, 48, 16, 57, 184, 0, 60, 172]
abbrev dktX4_isDigit_0 : List UInt8 := dkwX4_isDigit_0 ++ []
theorem dksX4_isDigit_0 : cX4_isDigit.data.toList.drop 0 = dktX4_isDigit_0 := by decide +kernel
theorem dX4_isDigit_0 : decode cX4_isDigit 0 = .ok (.aload_n 0, 1) := dk_42 (dk_at dksX4_isDigit_0 0 rfl rfl)
theorem dX4_isDigit_1 : decode cX4_isDigit 1 = .ok (.invokevirtual 40, 3) := dk_182 0 40 (dk_at dksX4_isDigit_0 1 rfl rfl)
theorem dX4_isDigit_4 : decode cX4_isDigit 4 = .ok (.bipush 48, 2) := dk_16 48 (dk_at dksX4_isDigit_0 4 rfl rfl)
theorem dX4_isDigit_6 : decode cX4_isDigit 6 = .ok (.bipush 57, 2) := dk_16 57 (dk_at dksX4_isDigit_0 6 rfl rfl)
theorem dX4_isDigit_8 : decode cX4_isDigit 8 = .ok (.invokestatic 60, 3) := dk_184 0 60 (dk_at dksX4_isDigit_0 8 rfl rfl)
theorem dX4_isDigit_11 : decode cX4_isDigit 11 = .ok (.ireturn, 1) := dk_172 (dk_at dksX4_isDigit_0 11 rfl rfl)
abbrev cX4_lambda_recipe_0 : ByteArray := prog_5_method_31_code
def yX4_lambda_recipe_0 : MethodName := ⟨RX4, "lambda$recipe$0", "(CCILClockworkTailor$State;)I"⟩
def dkwX4_lambda_recipe_0_0 : List UInt8 := [45, 26, 27, 28, 182, 0, 208, 172]
abbrev dktX4_lambda_recipe_0_0 : List UInt8 := dkwX4_lambda_recipe_0_0 ++ []
theorem dksX4_lambda_recipe_0_0 : cX4_lambda_recipe_0.data.toList.drop 0 = dktX4_lambda_recipe_0_0 := by decide +kernel
theorem dX4_lambda_recipe_0_0 : decode cX4_lambda_recipe_0 0 = .ok (.aload_n 3, 1) := dk_45 (dk_at dksX4_lambda_recipe_0_0 0 rfl rfl)
theorem dX4_lambda_recipe_0_1 : decode cX4_lambda_recipe_0 1 = .ok (.iload_n 0, 1) := dk_26 (dk_at dksX4_lambda_recipe_0_0 1 rfl rfl)
theorem dX4_lambda_recipe_0_2 : decode cX4_lambda_recipe_0 2 = .ok (.iload_n 1, 1) := dk_27 (dk_at dksX4_lambda_recipe_0_0 2 rfl rfl)
theorem dX4_lambda_recipe_0_3 : decode cX4_lambda_recipe_0 3 = .ok (.iload_n 2, 1) := dk_28 (dk_at dksX4_lambda_recipe_0_0 3 rfl rfl)
theorem dX4_lambda_recipe_0_4 : decode cX4_lambda_recipe_0 4 = .ok (.invokevirtual 208, 3) := dk_182 0 208 (dk_at dksX4_lambda_recipe_0_0 4 rfl rfl)
theorem dX4_lambda_recipe_0_7 : decode cX4_lambda_recipe_0 7 = .ok (.ireturn, 1) := dk_172 (dk_at dksX4_lambda_recipe_0_0 7 rfl rfl)
abbrev cX4_dropping : ByteArray := prog_5_method_11_code
def yX4_dropping : MethodName := ⟨RX4, "dropping", "()LClockworkTailor$Change;"⟩
def dkwX4_dropping_0 : List UInt8 := [42, 18, 92, 182, 0, 77, 42, 3, 182, 0, 81, 60, 27, 186, 0, 94, 0, 0, 176]
abbrev dktX4_dropping_0 : List UInt8 := dkwX4_dropping_0 ++ []
theorem dksX4_dropping_0 : cX4_dropping.data.toList.drop 0 = dktX4_dropping_0 := by decide +kernel
theorem dX4_dropping_0 : decode cX4_dropping 0 = .ok (.aload_n 0, 1) := dk_42 (dk_at dksX4_dropping_0 0 rfl rfl)
theorem dX4_dropping_1 : decode cX4_dropping 1 = .ok (.ldc 92, 2) := dk_18 92 (dk_at dksX4_dropping_0 1 rfl rfl)
theorem dX4_dropping_3 : decode cX4_dropping 3 = .ok (.invokevirtual 77, 3) := dk_182 0 77 (dk_at dksX4_dropping_0 3 rfl rfl)
theorem dX4_dropping_6 : decode cX4_dropping 6 = .ok (.aload_n 0, 1) := dk_42 (dk_at dksX4_dropping_0 6 rfl rfl)
theorem dX4_dropping_7 : decode cX4_dropping 7 = .ok (.iconst 0, 1) := dk_3 (dk_at dksX4_dropping_0 7 rfl rfl)
theorem dX4_dropping_8 : decode cX4_dropping 8 = .ok (.invokevirtual 81, 3) := dk_182 0 81 (dk_at dksX4_dropping_0 8 rfl rfl)
theorem dX4_dropping_11 : decode cX4_dropping 11 = .ok (.istore_n 1, 1) := dk_60 (dk_at dksX4_dropping_0 11 rfl rfl)
theorem dX4_dropping_12 : decode cX4_dropping 12 = .ok (.iload_n 1, 1) := dk_27 (dk_at dksX4_dropping_0 12 rfl rfl)
theorem dX4_dropping_13 : decode cX4_dropping 13 = .ok (.invokedynamic 94, 5) := by decide +kernel
theorem dX4_dropping_18 : decode cX4_dropping 18 = .ok (.areturn, 1) := dk_176 (dk_at dksX4_dropping_0 18 rfl rfl)
abbrev cX4_lambda_dropping_1 : ByteArray := prog_5_method_30_code
def yX4_lambda_dropping_1 : MethodName := ⟨RX4, "lambda$dropping$1", "(CLClockworkTailor$State;)I"⟩
def dkwX4_lambda_dropping_1_0 : List UInt8 := [43, 26, 182, 0, 204, 172]
abbrev dktX4_lambda_dropping_1_0 : List UInt8 := dkwX4_lambda_dropping_1_0 ++ []
theorem dksX4_lambda_dropping_1_0 : cX4_lambda_dropping_1.data.toList.drop 0 = dktX4_lambda_dropping_1_0 := by decide +kernel
theorem dX4_lambda_dropping_1_0 : decode cX4_lambda_dropping_1 0 = .ok (.aload_n 1, 1) := dk_43 (dk_at dksX4_lambda_dropping_1_0 0 rfl rfl)
theorem dX4_lambda_dropping_1_1 : decode cX4_lambda_dropping_1 1 = .ok (.iload_n 0, 1) := dk_26 (dk_at dksX4_lambda_dropping_1_0 1 rfl rfl)
theorem dX4_lambda_dropping_1_2 : decode cX4_lambda_dropping_1 2 = .ok (.invokevirtual 204, 3) := dk_182 0 204 (dk_at dksX4_lambda_dropping_1_0 2 rfl rfl)
theorem dX4_lambda_dropping_1_5 : decode cX4_lambda_dropping_1 5 = .ok (.ireturn, 1) := dk_172 (dk_at dksX4_lambda_dropping_1_0 5 rfl rfl)
abbrev cX4_needing : ByteArray := prog_5_method_12_code
def yX4_needing : MethodName := ⟨RX4, "needing", "(Z)LClockworkTailor$Change;"⟩
def dkwX4_needing_1 : List UInt8 := [182, 0, 81, 62, 28, 29, 27, 186, 0, 101, 0, 0, 176]
abbrev dktX4_needing_1 : List UInt8 := dkwX4_needing_1 ++ []
def dkwX4_needing_0 : List UInt8 := [42, 27, 153, 0, 8, 18, 97, 167, 0, 5, 18, 99, 182, 0, 77, 42, 3, 182, 0, 81, 61, 42, 3]
abbrev dktX4_needing_0 : List UInt8 := dkwX4_needing_0 ++ dktX4_needing_1
theorem dksX4_needing_0 : cX4_needing.data.toList.drop 0 = dktX4_needing_0 := by decide +kernel
theorem dksX4_needing_1 : cX4_needing.data.toList.drop 23 = dktX4_needing_1 := dk_seg dksX4_needing_0 23 rfl rfl
theorem dX4_needing_0 : decode cX4_needing 0 = .ok (.aload_n 0, 1) := dk_42 (dk_at dksX4_needing_0 0 rfl rfl)
theorem dX4_needing_1 : decode cX4_needing 1 = .ok (.iload_n 1, 1) := dk_27 (dk_at dksX4_needing_0 1 rfl rfl)
theorem dX4_needing_2 : decode cX4_needing 2 = .ok (.ifCond .eq 8, 3) := dk_153 0 8 (dk_at dksX4_needing_0 2 rfl rfl)
theorem dX4_needing_5 : decode cX4_needing 5 = .ok (.ldc 97, 2) := dk_18 97 (dk_at dksX4_needing_0 5 rfl rfl)
theorem dX4_needing_7 : decode cX4_needing 7 = .ok (.goto 5, 3) := dk_167 0 5 (dk_at dksX4_needing_0 7 rfl rfl)
theorem dX4_needing_10 : decode cX4_needing 10 = .ok (.ldc 99, 2) := dk_18 99 (dk_at dksX4_needing_0 10 rfl rfl)
theorem dX4_needing_12 : decode cX4_needing 12 = .ok (.invokevirtual 77, 3) := dk_182 0 77 (dk_at dksX4_needing_0 12 rfl rfl)
theorem dX4_needing_15 : decode cX4_needing 15 = .ok (.aload_n 0, 1) := dk_42 (dk_at dksX4_needing_0 15 rfl rfl)
theorem dX4_needing_16 : decode cX4_needing 16 = .ok (.iconst 0, 1) := dk_3 (dk_at dksX4_needing_0 16 rfl rfl)
theorem dX4_needing_17 : decode cX4_needing 17 = .ok (.invokevirtual 81, 3) := dk_182 0 81 (dk_at dksX4_needing_0 17 rfl rfl)
theorem dX4_needing_20 : decode cX4_needing 20 = .ok (.istore_n 2, 1) := dk_61 (dk_at dksX4_needing_0 20 rfl rfl)
theorem dX4_needing_21 : decode cX4_needing 21 = .ok (.aload_n 0, 1) := dk_42 (dk_at dksX4_needing_0 21 rfl rfl)
theorem dX4_needing_22 : decode cX4_needing 22 = .ok (.iconst 0, 1) := dk_3 (dk_at dksX4_needing_0 22 rfl rfl)
theorem dX4_needing_23 : decode cX4_needing 23 = .ok (.invokevirtual 81, 3) := dk_182 0 81 (dk_at dksX4_needing_1 0 rfl rfl)
theorem dX4_needing_26 : decode cX4_needing 26 = .ok (.istore_n 3, 1) := dk_62 (dk_at dksX4_needing_1 3 rfl rfl)
theorem dX4_needing_27 : decode cX4_needing 27 = .ok (.iload_n 2, 1) := dk_28 (dk_at dksX4_needing_1 4 rfl rfl)
theorem dX4_needing_28 : decode cX4_needing 28 = .ok (.iload_n 3, 1) := dk_29 (dk_at dksX4_needing_1 5 rfl rfl)
theorem dX4_needing_29 : decode cX4_needing 29 = .ok (.iload_n 1, 1) := dk_27 (dk_at dksX4_needing_1 6 rfl rfl)
theorem dX4_needing_30 : decode cX4_needing 30 = .ok (.invokedynamic 101, 5) := by decide +kernel
theorem dX4_needing_35 : decode cX4_needing 35 = .ok (.areturn, 1) := dk_176 (dk_at dksX4_needing_1 12 rfl rfl)
abbrev cX4_lambda_needing_2 : ByteArray := prog_5_method_29_code
def yX4_lambda_needing_2 : MethodName := ⟨RX4, "lambda$needing$2", "(CCZLClockworkTailor$State;)I"⟩
def dkwX4_lambda_needing_2_0 : List UInt8 := [45, 26, 27, 28, 182, 0, 200, 172]
abbrev dktX4_lambda_needing_2_0 : List UInt8 := dkwX4_lambda_needing_2_0 ++ []
theorem dksX4_lambda_needing_2_0 : cX4_lambda_needing_2.data.toList.drop 0 = dktX4_lambda_needing_2_0 := by decide +kernel
theorem dX4_lambda_needing_2_0 : decode cX4_lambda_needing_2 0 = .ok (.aload_n 3, 1) := dk_45 (dk_at dksX4_lambda_needing_2_0 0 rfl rfl)
theorem dX4_lambda_needing_2_1 : decode cX4_lambda_needing_2 1 = .ok (.iload_n 0, 1) := dk_26 (dk_at dksX4_lambda_needing_2_0 1 rfl rfl)
theorem dX4_lambda_needing_2_2 : decode cX4_lambda_needing_2 2 = .ok (.iload_n 1, 1) := dk_27 (dk_at dksX4_lambda_needing_2_0 2 rfl rfl)
theorem dX4_lambda_needing_2_3 : decode cX4_lambda_needing_2 3 = .ok (.iload_n 2, 1) := dk_28 (dk_at dksX4_lambda_needing_2_0 3 rfl rfl)
theorem dX4_lambda_needing_2_4 : decode cX4_lambda_needing_2 4 = .ok (.invokevirtual 200, 3) := dk_182 0 200 (dk_at dksX4_lambda_needing_2_0 4 rfl rfl)
theorem dX4_lambda_needing_2_7 : decode cX4_lambda_needing_2 7 = .ok (.ireturn, 1) := dk_172 (dk_at dksX4_lambda_needing_2_0 7 rfl rfl)
abbrev cX4_closing : ByteArray := prog_5_method_17_code
def yX4_closing : MethodName := ⟨RX4, "closing", "()LClockworkTailor$Change;"⟩
def dkwX4_closing_0 : List UInt8 := [42, 18, 120, 182, 0, 77, 42, 4, 182, 0, 85, 60, 27, 186, 0, 122, 0, 0, 176]
abbrev dktX4_closing_0 : List UInt8 := dkwX4_closing_0 ++ []
theorem dksX4_closing_0 : cX4_closing.data.toList.drop 0 = dktX4_closing_0 := by decide +kernel
theorem dX4_closing_0 : decode cX4_closing 0 = .ok (.aload_n 0, 1) := dk_42 (dk_at dksX4_closing_0 0 rfl rfl)
theorem dX4_closing_1 : decode cX4_closing 1 = .ok (.ldc 120, 2) := dk_18 120 (dk_at dksX4_closing_0 1 rfl rfl)
theorem dX4_closing_3 : decode cX4_closing 3 = .ok (.invokevirtual 77, 3) := dk_182 0 77 (dk_at dksX4_closing_0 3 rfl rfl)
theorem dX4_closing_6 : decode cX4_closing 6 = .ok (.aload_n 0, 1) := dk_42 (dk_at dksX4_closing_0 6 rfl rfl)
theorem dX4_closing_7 : decode cX4_closing 7 = .ok (.iconst 1, 1) := dk_4 (dk_at dksX4_closing_0 7 rfl rfl)
theorem dX4_closing_8 : decode cX4_closing 8 = .ok (.invokevirtual 85, 3) := dk_182 0 85 (dk_at dksX4_closing_0 8 rfl rfl)
theorem dX4_closing_11 : decode cX4_closing 11 = .ok (.istore_n 1, 1) := dk_60 (dk_at dksX4_closing_0 11 rfl rfl)
theorem dX4_closing_12 : decode cX4_closing 12 = .ok (.iload_n 1, 1) := dk_27 (dk_at dksX4_closing_0 12 rfl rfl)
theorem dX4_closing_13 : decode cX4_closing 13 = .ok (.invokedynamic 122, 5) := by decide +kernel
theorem dX4_closing_18 : decode cX4_closing 18 = .ok (.areturn, 1) := dk_176 (dk_at dksX4_closing_0 18 rfl rfl)
abbrev cX4_lambda_closing_7 : ByteArray := prog_5_method_24_code
def yX4_lambda_closing_7 : MethodName := ⟨RX4, "lambda$closing$7", "(ILClockworkTailor$State;)I"⟩
def dkwX4_lambda_closing_7_0 : List UInt8 := [43, 26, 182, 0, 183, 172]
abbrev dktX4_lambda_closing_7_0 : List UInt8 := dkwX4_lambda_closing_7_0 ++ []
theorem dksX4_lambda_closing_7_0 : cX4_lambda_closing_7.data.toList.drop 0 = dktX4_lambda_closing_7_0 := by decide +kernel
theorem dX4_lambda_closing_7_0 : decode cX4_lambda_closing_7 0 = .ok (.aload_n 1, 1) := dk_43 (dk_at dksX4_lambda_closing_7_0 0 rfl rfl)
theorem dX4_lambda_closing_7_1 : decode cX4_lambda_closing_7 1 = .ok (.iload_n 0, 1) := dk_26 (dk_at dksX4_lambda_closing_7_0 1 rfl rfl)
theorem dX4_lambda_closing_7_2 : decode cX4_lambda_closing_7 2 = .ok (.invokevirtual 183, 3) := dk_182 0 183 (dk_at dksX4_lambda_closing_7_0 2 rfl rfl)
theorem dX4_lambda_closing_7_5 : decode cX4_lambda_closing_7 5 = .ok (.ireturn, 1) := dk_172 (dk_at dksX4_lambda_closing_7_0 5 rfl rfl)
abbrev cX4_cutting : ByteArray := prog_5_method_13_code
def yX4_cutting : MethodName := ⟨RX4, "cutting", "()LClockworkTailor$Change;"⟩
def dkwX4_cutting_1 : List UInt8 := [186, 0, 106, 0, 0, 176]
abbrev dktX4_cutting_1 : List UInt8 := dkwX4_cutting_1 ++ []
def dkwX4_cutting_0 : List UInt8 := [42, 18, 104, 182, 0, 77, 42, 3, 182, 0, 81, 60, 42, 3, 182, 0, 81, 61, 27, 28]
abbrev dktX4_cutting_0 : List UInt8 := dkwX4_cutting_0 ++ dktX4_cutting_1
theorem dksX4_cutting_0 : cX4_cutting.data.toList.drop 0 = dktX4_cutting_0 := by decide +kernel
theorem dksX4_cutting_1 : cX4_cutting.data.toList.drop 20 = dktX4_cutting_1 := dk_seg dksX4_cutting_0 20 rfl rfl
theorem dX4_cutting_0 : decode cX4_cutting 0 = .ok (.aload_n 0, 1) := dk_42 (dk_at dksX4_cutting_0 0 rfl rfl)
theorem dX4_cutting_1 : decode cX4_cutting 1 = .ok (.ldc 104, 2) := dk_18 104 (dk_at dksX4_cutting_0 1 rfl rfl)
theorem dX4_cutting_3 : decode cX4_cutting 3 = .ok (.invokevirtual 77, 3) := dk_182 0 77 (dk_at dksX4_cutting_0 3 rfl rfl)
theorem dX4_cutting_6 : decode cX4_cutting 6 = .ok (.aload_n 0, 1) := dk_42 (dk_at dksX4_cutting_0 6 rfl rfl)
theorem dX4_cutting_7 : decode cX4_cutting 7 = .ok (.iconst 0, 1) := dk_3 (dk_at dksX4_cutting_0 7 rfl rfl)
theorem dX4_cutting_8 : decode cX4_cutting 8 = .ok (.invokevirtual 81, 3) := dk_182 0 81 (dk_at dksX4_cutting_0 8 rfl rfl)
theorem dX4_cutting_11 : decode cX4_cutting 11 = .ok (.istore_n 1, 1) := dk_60 (dk_at dksX4_cutting_0 11 rfl rfl)
theorem dX4_cutting_12 : decode cX4_cutting 12 = .ok (.aload_n 0, 1) := dk_42 (dk_at dksX4_cutting_0 12 rfl rfl)
theorem dX4_cutting_13 : decode cX4_cutting 13 = .ok (.iconst 0, 1) := dk_3 (dk_at dksX4_cutting_0 13 rfl rfl)
theorem dX4_cutting_14 : decode cX4_cutting 14 = .ok (.invokevirtual 81, 3) := dk_182 0 81 (dk_at dksX4_cutting_0 14 rfl rfl)
theorem dX4_cutting_17 : decode cX4_cutting 17 = .ok (.istore_n 2, 1) := dk_61 (dk_at dksX4_cutting_0 17 rfl rfl)
theorem dX4_cutting_18 : decode cX4_cutting 18 = .ok (.iload_n 1, 1) := dk_27 (dk_at dksX4_cutting_0 18 rfl rfl)
theorem dX4_cutting_19 : decode cX4_cutting 19 = .ok (.iload_n 2, 1) := dk_28 (dk_at dksX4_cutting_0 19 rfl rfl)
theorem dX4_cutting_20 : decode cX4_cutting 20 = .ok (.invokedynamic 106, 5) := by decide +kernel
theorem dX4_cutting_25 : decode cX4_cutting 25 = .ok (.areturn, 1) := dk_176 (dk_at dksX4_cutting_1 5 rfl rfl)
abbrev cX4_lambda_cutting_3 : ByteArray := prog_5_method_28_code
def yX4_lambda_cutting_3 : MethodName := ⟨RX4, "lambda$cutting$3", "(CCLClockworkTailor$State;)I"⟩
def dkwX4_lambda_cutting_3_0 : List UInt8 := [44, 26, 27, 182, 0, 197, 172]
abbrev dktX4_lambda_cutting_3_0 : List UInt8 := dkwX4_lambda_cutting_3_0 ++ []
theorem dksX4_lambda_cutting_3_0 : cX4_lambda_cutting_3.data.toList.drop 0 = dktX4_lambda_cutting_3_0 := by decide +kernel
theorem dX4_lambda_cutting_3_0 : decode cX4_lambda_cutting_3 0 = .ok (.aload_n 2, 1) := dk_44 (dk_at dksX4_lambda_cutting_3_0 0 rfl rfl)
theorem dX4_lambda_cutting_3_1 : decode cX4_lambda_cutting_3 1 = .ok (.iload_n 0, 1) := dk_26 (dk_at dksX4_lambda_cutting_3_0 1 rfl rfl)
theorem dX4_lambda_cutting_3_2 : decode cX4_lambda_cutting_3 2 = .ok (.iload_n 1, 1) := dk_27 (dk_at dksX4_lambda_cutting_3_0 2 rfl rfl)
theorem dX4_lambda_cutting_3_3 : decode cX4_lambda_cutting_3 3 = .ok (.invokevirtual 197, 3) := dk_182 0 197 (dk_at dksX4_lambda_cutting_3_0 3 rfl rfl)
theorem dX4_lambda_cutting_3_6 : decode cX4_lambda_cutting_3 6 = .ok (.ireturn, 1) := dk_172 (dk_at dksX4_lambda_cutting_3_0 6 rfl rfl)
abbrev cX4_swapping : ByteArray := prog_5_method_14_code
def yX4_swapping : MethodName := ⟨RX4, "swapping", "()LClockworkTailor$Change;"⟩
def dkwX4_swapping_1 : List UInt8 := [186, 0, 111, 0, 0, 176]
abbrev dktX4_swapping_1 : List UInt8 := dkwX4_swapping_1 ++ []
def dkwX4_swapping_0 : List UInt8 := [42, 18, 109, 182, 0, 77, 42, 3, 182, 0, 81, 60, 42, 3, 182, 0, 81, 61, 27, 28]
abbrev dktX4_swapping_0 : List UInt8 := dkwX4_swapping_0 ++ dktX4_swapping_1
theorem dksX4_swapping_0 : cX4_swapping.data.toList.drop 0 = dktX4_swapping_0 := by decide +kernel
theorem dksX4_swapping_1 : cX4_swapping.data.toList.drop 20 = dktX4_swapping_1 := dk_seg dksX4_swapping_0 20 rfl rfl
theorem dX4_swapping_0 : decode cX4_swapping 0 = .ok (.aload_n 0, 1) := dk_42 (dk_at dksX4_swapping_0 0 rfl rfl)
theorem dX4_swapping_1 : decode cX4_swapping 1 = .ok (.ldc 109, 2) := dk_18 109 (dk_at dksX4_swapping_0 1 rfl rfl)
theorem dX4_swapping_3 : decode cX4_swapping 3 = .ok (.invokevirtual 77, 3) := dk_182 0 77 (dk_at dksX4_swapping_0 3 rfl rfl)
theorem dX4_swapping_6 : decode cX4_swapping 6 = .ok (.aload_n 0, 1) := dk_42 (dk_at dksX4_swapping_0 6 rfl rfl)
theorem dX4_swapping_7 : decode cX4_swapping 7 = .ok (.iconst 0, 1) := dk_3 (dk_at dksX4_swapping_0 7 rfl rfl)
theorem dX4_swapping_8 : decode cX4_swapping 8 = .ok (.invokevirtual 81, 3) := dk_182 0 81 (dk_at dksX4_swapping_0 8 rfl rfl)
theorem dX4_swapping_11 : decode cX4_swapping 11 = .ok (.istore_n 1, 1) := dk_60 (dk_at dksX4_swapping_0 11 rfl rfl)
theorem dX4_swapping_12 : decode cX4_swapping 12 = .ok (.aload_n 0, 1) := dk_42 (dk_at dksX4_swapping_0 12 rfl rfl)
theorem dX4_swapping_13 : decode cX4_swapping 13 = .ok (.iconst 0, 1) := dk_3 (dk_at dksX4_swapping_0 13 rfl rfl)
theorem dX4_swapping_14 : decode cX4_swapping 14 = .ok (.invokevirtual 81, 3) := dk_182 0 81 (dk_at dksX4_swapping_0 14 rfl rfl)
theorem dX4_swapping_17 : decode cX4_swapping 17 = .ok (.istore_n 2, 1) := dk_61 (dk_at dksX4_swapping_0 17 rfl rfl)
theorem dX4_swapping_18 : decode cX4_swapping 18 = .ok (.iload_n 1, 1) := dk_27 (dk_at dksX4_swapping_0 18 rfl rfl)
theorem dX4_swapping_19 : decode cX4_swapping 19 = .ok (.iload_n 2, 1) := dk_28 (dk_at dksX4_swapping_0 19 rfl rfl)
theorem dX4_swapping_20 : decode cX4_swapping 20 = .ok (.invokedynamic 111, 5) := by decide +kernel
theorem dX4_swapping_25 : decode cX4_swapping 25 = .ok (.areturn, 1) := dk_176 (dk_at dksX4_swapping_1 5 rfl rfl)
abbrev cX4_lambda_swapping_4 : ByteArray := prog_5_method_27_code
def yX4_lambda_swapping_4 : MethodName := ⟨RX4, "lambda$swapping$4", "(CCLClockworkTailor$State;)I"⟩
def dkwX4_lambda_swapping_4_0 : List UInt8 := [44, 26, 27, 182, 0, 193, 172]
abbrev dktX4_lambda_swapping_4_0 : List UInt8 := dkwX4_lambda_swapping_4_0 ++ []
theorem dksX4_lambda_swapping_4_0 : cX4_lambda_swapping_4.data.toList.drop 0 = dktX4_lambda_swapping_4_0 := by decide +kernel
theorem dX4_lambda_swapping_4_0 : decode cX4_lambda_swapping_4 0 = .ok (.aload_n 2, 1) := dk_44 (dk_at dksX4_lambda_swapping_4_0 0 rfl rfl)
theorem dX4_lambda_swapping_4_1 : decode cX4_lambda_swapping_4 1 = .ok (.iload_n 0, 1) := dk_26 (dk_at dksX4_lambda_swapping_4_0 1 rfl rfl)
theorem dX4_lambda_swapping_4_2 : decode cX4_lambda_swapping_4 2 = .ok (.iload_n 1, 1) := dk_27 (dk_at dksX4_lambda_swapping_4_0 2 rfl rfl)
theorem dX4_lambda_swapping_4_3 : decode cX4_lambda_swapping_4 3 = .ok (.invokevirtual 193, 3) := dk_182 0 193 (dk_at dksX4_lambda_swapping_4_0 3 rfl rfl)
theorem dX4_lambda_swapping_4_6 : decode cX4_lambda_swapping_4 6 = .ok (.ireturn, 1) := dk_172 (dk_at dksX4_lambda_swapping_4_0 6 rfl rfl)
abbrev cX4_puttingBack : ByteArray := prog_5_method_15_code
def yX4_puttingBack : MethodName := ⟨RX4, "puttingBack", "()LClockworkTailor$Change;"⟩
def dkwX4_puttingBack_0 : List UInt8 := [42, 18, 112, 182, 0, 77, 42, 3, 182, 0, 81, 60, 27, 186, 0, 114, 0, 0, 176]
abbrev dktX4_puttingBack_0 : List UInt8 := dkwX4_puttingBack_0 ++ []
theorem dksX4_puttingBack_0 : cX4_puttingBack.data.toList.drop 0 = dktX4_puttingBack_0 := by decide +kernel
theorem dX4_puttingBack_0 : decode cX4_puttingBack 0 = .ok (.aload_n 0, 1) := dk_42 (dk_at dksX4_puttingBack_0 0 rfl rfl)
theorem dX4_puttingBack_1 : decode cX4_puttingBack 1 = .ok (.ldc 112, 2) := dk_18 112 (dk_at dksX4_puttingBack_0 1 rfl rfl)
theorem dX4_puttingBack_3 : decode cX4_puttingBack 3 = .ok (.invokevirtual 77, 3) := dk_182 0 77 (dk_at dksX4_puttingBack_0 3 rfl rfl)
theorem dX4_puttingBack_6 : decode cX4_puttingBack 6 = .ok (.aload_n 0, 1) := dk_42 (dk_at dksX4_puttingBack_0 6 rfl rfl)
theorem dX4_puttingBack_7 : decode cX4_puttingBack 7 = .ok (.iconst 0, 1) := dk_3 (dk_at dksX4_puttingBack_0 7 rfl rfl)
theorem dX4_puttingBack_8 : decode cX4_puttingBack 8 = .ok (.invokevirtual 81, 3) := dk_182 0 81 (dk_at dksX4_puttingBack_0 8 rfl rfl)
theorem dX4_puttingBack_11 : decode cX4_puttingBack 11 = .ok (.istore_n 1, 1) := dk_60 (dk_at dksX4_puttingBack_0 11 rfl rfl)
theorem dX4_puttingBack_12 : decode cX4_puttingBack 12 = .ok (.iload_n 1, 1) := dk_27 (dk_at dksX4_puttingBack_0 12 rfl rfl)
theorem dX4_puttingBack_13 : decode cX4_puttingBack 13 = .ok (.invokedynamic 114, 5) := by decide +kernel
theorem dX4_puttingBack_18 : decode cX4_puttingBack 18 = .ok (.areturn, 1) := dk_176 (dk_at dksX4_puttingBack_0 18 rfl rfl)
abbrev cX4_lambda_puttingBack_5 : ByteArray := prog_5_method_26_code
def yX4_lambda_puttingBack_5 : MethodName := ⟨RX4, "lambda$puttingBack$5", "(CLClockworkTailor$State;)I"⟩
def dkwX4_lambda_puttingBack_5_0 : List UInt8 := [43, 26, 182, 0, 189, 172]
abbrev dktX4_lambda_puttingBack_5_0 : List UInt8 := dkwX4_lambda_puttingBack_5_0 ++ []
theorem dksX4_lambda_puttingBack_5_0 : cX4_lambda_puttingBack_5.data.toList.drop 0 = dktX4_lambda_puttingBack_5_0 := by decide +kernel
theorem dX4_lambda_puttingBack_5_0 : decode cX4_lambda_puttingBack_5 0 = .ok (.aload_n 1, 1) := dk_43 (dk_at dksX4_lambda_puttingBack_5_0 0 rfl rfl)
theorem dX4_lambda_puttingBack_5_1 : decode cX4_lambda_puttingBack_5 1 = .ok (.iload_n 0, 1) := dk_26 (dk_at dksX4_lambda_puttingBack_5_0 1 rfl rfl)
theorem dX4_lambda_puttingBack_5_2 : decode cX4_lambda_puttingBack_5 2 = .ok (.invokevirtual 189, 3) := dk_182 0 189 (dk_at dksX4_lambda_puttingBack_5_0 2 rfl rfl)
theorem dX4_lambda_puttingBack_5_5 : decode cX4_lambda_puttingBack_5 5 = .ok (.ireturn, 1) := dk_172 (dk_at dksX4_lambda_puttingBack_5_0 5 rfl rfl)
abbrev cX4_opening : ByteArray := prog_5_method_16_code
def yX4_opening : MethodName := ⟨RX4, "opening", "()LClockworkTailor$Change;"⟩
def dkwX4_opening_0 : List UInt8 := [42, 18, 115, 182, 0, 77, 186, 0, 117, 0, 0, 176]
abbrev dktX4_opening_0 : List UInt8 := dkwX4_opening_0 ++ []
theorem dksX4_opening_0 : cX4_opening.data.toList.drop 0 = dktX4_opening_0 := by decide +kernel
theorem dX4_opening_0 : decode cX4_opening 0 = .ok (.aload_n 0, 1) := dk_42 (dk_at dksX4_opening_0 0 rfl rfl)
theorem dX4_opening_1 : decode cX4_opening 1 = .ok (.ldc 115, 2) := dk_18 115 (dk_at dksX4_opening_0 1 rfl rfl)
theorem dX4_opening_3 : decode cX4_opening 3 = .ok (.invokevirtual 77, 3) := dk_182 0 77 (dk_at dksX4_opening_0 3 rfl rfl)
theorem dX4_opening_6 : decode cX4_opening 6 = .ok (.invokedynamic 117, 5) := by decide +kernel
theorem dX4_opening_11 : decode cX4_opening 11 = .ok (.areturn, 1) := dk_176 (dk_at dksX4_opening_0 11 rfl rfl)
abbrev cX4_lambda_opening_6 : ByteArray := prog_5_method_25_code
def yX4_lambda_opening_6 : MethodName := ⟨RX4, "lambda$opening$6", "(LClockworkTailor$State;)I"⟩
theorem dX4_lambda_opening_6_0 : decode cX4_lambda_opening_6 0 = .ok (.aload_n 0, 1) := by decide +kernel
theorem dX4_lambda_opening_6_1 : decode cX4_lambda_opening_6 1 = .ok (.invokevirtual 186, 3) := by decide +kernel
theorem dX4_lambda_opening_6_4 : decode cX4_lambda_opening_6 4 = .ok (.ireturn, 1) := by decide +kernel
abbrev cX4_making : ByteArray := prog_5_method_18_code
def yX4_making : MethodName := ⟨RX4, "making", "()LClockworkTailor$Change;"⟩
def dkwX4_making_1 : List UInt8 := [186, 0, 127, 0, 0, 176]
abbrev dktX4_making_1 : List UInt8 := dkwX4_making_1 ++ []
def dkwX4_making_0 : List UInt8 := [42, 18, 125, 182, 0, 77, 42, 3, 182, 0, 81, 60, 42, 4, 182, 0, 85, 61, 27, 28]
abbrev dktX4_making_0 : List UInt8 := dkwX4_making_0 ++ dktX4_making_1
theorem dksX4_making_0 : cX4_making.data.toList.drop 0 = dktX4_making_0 := by decide +kernel
theorem dksX4_making_1 : cX4_making.data.toList.drop 20 = dktX4_making_1 := dk_seg dksX4_making_0 20 rfl rfl
theorem dX4_making_0 : decode cX4_making 0 = .ok (.aload_n 0, 1) := dk_42 (dk_at dksX4_making_0 0 rfl rfl)
theorem dX4_making_1 : decode cX4_making 1 = .ok (.ldc 125, 2) := dk_18 125 (dk_at dksX4_making_0 1 rfl rfl)
theorem dX4_making_3 : decode cX4_making 3 = .ok (.invokevirtual 77, 3) := dk_182 0 77 (dk_at dksX4_making_0 3 rfl rfl)
theorem dX4_making_6 : decode cX4_making 6 = .ok (.aload_n 0, 1) := dk_42 (dk_at dksX4_making_0 6 rfl rfl)
theorem dX4_making_7 : decode cX4_making 7 = .ok (.iconst 0, 1) := dk_3 (dk_at dksX4_making_0 7 rfl rfl)
theorem dX4_making_8 : decode cX4_making 8 = .ok (.invokevirtual 81, 3) := dk_182 0 81 (dk_at dksX4_making_0 8 rfl rfl)
theorem dX4_making_11 : decode cX4_making 11 = .ok (.istore_n 1, 1) := dk_60 (dk_at dksX4_making_0 11 rfl rfl)
theorem dX4_making_12 : decode cX4_making 12 = .ok (.aload_n 0, 1) := dk_42 (dk_at dksX4_making_0 12 rfl rfl)
theorem dX4_making_13 : decode cX4_making 13 = .ok (.iconst 1, 1) := dk_4 (dk_at dksX4_making_0 13 rfl rfl)
theorem dX4_making_14 : decode cX4_making 14 = .ok (.invokevirtual 85, 3) := dk_182 0 85 (dk_at dksX4_making_0 14 rfl rfl)
theorem dX4_making_17 : decode cX4_making 17 = .ok (.istore_n 2, 1) := dk_61 (dk_at dksX4_making_0 17 rfl rfl)
theorem dX4_making_18 : decode cX4_making 18 = .ok (.iload_n 1, 1) := dk_27 (dk_at dksX4_making_0 18 rfl rfl)
theorem dX4_making_19 : decode cX4_making 19 = .ok (.iload_n 2, 1) := dk_28 (dk_at dksX4_making_0 19 rfl rfl)
theorem dX4_making_20 : decode cX4_making 20 = .ok (.invokedynamic 127, 5) := by decide +kernel
theorem dX4_making_25 : decode cX4_making 25 = .ok (.areturn, 1) := dk_176 (dk_at dksX4_making_1 5 rfl rfl)
abbrev cX4_lambda_making_8 : ByteArray := prog_5_method_23_code
def yX4_lambda_making_8 : MethodName := ⟨RX4, "lambda$making$8", "(CILClockworkTailor$State;)I"⟩
def dkwX4_lambda_making_8_0 : List UInt8 := [44, 26, 27, 182, 0, 180, 172]
abbrev dktX4_lambda_making_8_0 : List UInt8 := dkwX4_lambda_making_8_0 ++ []
theorem dksX4_lambda_making_8_0 : cX4_lambda_making_8.data.toList.drop 0 = dktX4_lambda_making_8_0 := by decide +kernel
theorem dX4_lambda_making_8_0 : decode cX4_lambda_making_8 0 = .ok (.aload_n 2, 1) := dk_44 (dk_at dksX4_lambda_making_8_0 0 rfl rfl)
theorem dX4_lambda_making_8_1 : decode cX4_lambda_making_8 1 = .ok (.iload_n 0, 1) := dk_26 (dk_at dksX4_lambda_making_8_0 1 rfl rfl)
theorem dX4_lambda_making_8_2 : decode cX4_lambda_making_8 2 = .ok (.iload_n 1, 1) := dk_27 (dk_at dksX4_lambda_making_8_0 2 rfl rfl)
theorem dX4_lambda_making_8_3 : decode cX4_lambda_making_8 3 = .ok (.invokevirtual 180, 3) := dk_182 0 180 (dk_at dksX4_lambda_making_8_0 3 rfl rfl)
theorem dX4_lambda_making_8_6 : decode cX4_lambda_making_8 6 = .ok (.ireturn, 1) := dk_172 (dk_at dksX4_lambda_making_8_0 6 rfl rfl)
abbrev cX4_touching : ByteArray := prog_5_method_19_code
def yX4_touching : MethodName := ⟨RX4, "touching", "()LClockworkTailor$Change;"⟩
def dkwX4_touching_1 : List UInt8 := [27, 28, 29, 186, 0, 132, 0, 0, 176]
abbrev dktX4_touching_1 : List UInt8 := dkwX4_touching_1 ++ []
def dkwX4_touching_0 : List UInt8 := [42, 18, 130, 182, 0, 77, 42, 5, 182, 0, 85, 60, 42, 4, 182, 0, 85, 61, 42, 4, 182, 0, 85, 62]
abbrev dktX4_touching_0 : List UInt8 := dkwX4_touching_0 ++ dktX4_touching_1
theorem dksX4_touching_0 : cX4_touching.data.toList.drop 0 = dktX4_touching_0 := by decide +kernel
theorem dksX4_touching_1 : cX4_touching.data.toList.drop 24 = dktX4_touching_1 := dk_seg dksX4_touching_0 24 rfl rfl
theorem dX4_touching_0 : decode cX4_touching 0 = .ok (.aload_n 0, 1) := dk_42 (dk_at dksX4_touching_0 0 rfl rfl)
theorem dX4_touching_1 : decode cX4_touching 1 = .ok (.ldc 130, 2) := dk_18 130 (dk_at dksX4_touching_0 1 rfl rfl)
theorem dX4_touching_3 : decode cX4_touching 3 = .ok (.invokevirtual 77, 3) := dk_182 0 77 (dk_at dksX4_touching_0 3 rfl rfl)
theorem dX4_touching_6 : decode cX4_touching 6 = .ok (.aload_n 0, 1) := dk_42 (dk_at dksX4_touching_0 6 rfl rfl)
theorem dX4_touching_7 : decode cX4_touching 7 = .ok (.iconst 2, 1) := dk_5 (dk_at dksX4_touching_0 7 rfl rfl)
theorem dX4_touching_8 : decode cX4_touching 8 = .ok (.invokevirtual 85, 3) := dk_182 0 85 (dk_at dksX4_touching_0 8 rfl rfl)
theorem dX4_touching_11 : decode cX4_touching 11 = .ok (.istore_n 1, 1) := dk_60 (dk_at dksX4_touching_0 11 rfl rfl)
theorem dX4_touching_12 : decode cX4_touching 12 = .ok (.aload_n 0, 1) := dk_42 (dk_at dksX4_touching_0 12 rfl rfl)
theorem dX4_touching_13 : decode cX4_touching 13 = .ok (.iconst 1, 1) := dk_4 (dk_at dksX4_touching_0 13 rfl rfl)
theorem dX4_touching_14 : decode cX4_touching 14 = .ok (.invokevirtual 85, 3) := dk_182 0 85 (dk_at dksX4_touching_0 14 rfl rfl)
theorem dX4_touching_17 : decode cX4_touching 17 = .ok (.istore_n 2, 1) := dk_61 (dk_at dksX4_touching_0 17 rfl rfl)
theorem dX4_touching_18 : decode cX4_touching 18 = .ok (.aload_n 0, 1) := dk_42 (dk_at dksX4_touching_0 18 rfl rfl)
theorem dX4_touching_19 : decode cX4_touching 19 = .ok (.iconst 1, 1) := dk_4 (dk_at dksX4_touching_0 19 rfl rfl)
theorem dX4_touching_20 : decode cX4_touching 20 = .ok (.invokevirtual 85, 3) := dk_182 0 85 (dk_at dksX4_touching_0 20 rfl rfl)
theorem dX4_touching_23 : decode cX4_touching 23 = .ok (.istore_n 3, 1) := dk_62 (dk_at dksX4_touching_0 23 rfl rfl)
theorem dX4_touching_24 : decode cX4_touching 24 = .ok (.iload_n 1, 1) := dk_27 (dk_at dksX4_touching_1 0 rfl rfl)
theorem dX4_touching_25 : decode cX4_touching 25 = .ok (.iload_n 2, 1) := dk_28 (dk_at dksX4_touching_1 1 rfl rfl)
theorem dX4_touching_26 : decode cX4_touching 26 = .ok (.iload_n 3, 1) := dk_29 (dk_at dksX4_touching_1 2 rfl rfl)
theorem dX4_touching_27 : decode cX4_touching 27 = .ok (.invokedynamic 132, 5) := by decide +kernel
theorem dX4_touching_32 : decode cX4_touching 32 = .ok (.areturn, 1) := dk_176 (dk_at dksX4_touching_1 8 rfl rfl)
abbrev cX4_lambda_touching_9 : ByteArray := prog_5_method_22_code
def yX4_lambda_touching_9 : MethodName := ⟨RX4, "lambda$touching$9", "(IIILClockworkTailor$State;)I"⟩
def dkwX4_lambda_touching_9_0 : List UInt8 := [45, 26, 27, 28, 182, 0, 175, 172]
abbrev dktX4_lambda_touching_9_0 : List UInt8 := dkwX4_lambda_touching_9_0 ++ []
theorem dksX4_lambda_touching_9_0 : cX4_lambda_touching_9.data.toList.drop 0 = dktX4_lambda_touching_9_0 := by decide +kernel
theorem dX4_lambda_touching_9_0 : decode cX4_lambda_touching_9 0 = .ok (.aload_n 3, 1) := dk_45 (dk_at dksX4_lambda_touching_9_0 0 rfl rfl)
theorem dX4_lambda_touching_9_1 : decode cX4_lambda_touching_9 1 = .ok (.iload_n 0, 1) := dk_26 (dk_at dksX4_lambda_touching_9_0 1 rfl rfl)
theorem dX4_lambda_touching_9_2 : decode cX4_lambda_touching_9 2 = .ok (.iload_n 1, 1) := dk_27 (dk_at dksX4_lambda_touching_9_0 2 rfl rfl)
theorem dX4_lambda_touching_9_3 : decode cX4_lambda_touching_9 3 = .ok (.iload_n 2, 1) := dk_28 (dk_at dksX4_lambda_touching_9_0 3 rfl rfl)
theorem dX4_lambda_touching_9_4 : decode cX4_lambda_touching_9 4 = .ok (.invokevirtual 175, 3) := dk_182 0 175 (dk_at dksX4_lambda_touching_9_0 4 rfl rfl)
theorem dX4_lambda_touching_9_7 : decode cX4_lambda_touching_9 7 = .ok (.ireturn, 1) := dk_172 (dk_at dksX4_lambda_touching_9_0 7 rfl rfl)
theorem q103 : (Jvm.Cond.initialized "ClockworkTailor$Parser") ∈ lw_all := lw_g (lw_at lw_m1 10 rfl) rfl
theorem q297 : (Jvm.Cond.instantiable "ClockworkTailor$Parser" (3 : Nat)) ∈ lw_all := lw_g (lw_at lw_m1 204 rfl) rfl
theorem q299 : (Jvm.Cond.instanceMethod ({ cls := "ClockworkTailor$Parser", name := "<init>", desc := "(Ljava/lang/StringBuilder;)V" } : Jvm.MethodName)) ∈ lw_all := lw_g (lw_at lw_m1 206 rfl) rfl
theorem q300 : (Jvm.Cond.code ({ cls := "ClockworkTailor$Parser", name := "<init>", desc := "(Ljava/lang/StringBuilder;)V" } : Jvm.MethodName) prog_5_method_1_code (2 : Nat) (Option.none : Option Jvm.ClassFile.FieldType)) ∈ lw_all := lw_g (lw_at lw_m1 207 rfl) rfl
theorem q301 : (Jvm.Cond.methodLink "ClockworkTailor$Parser" (3 : Nat) ({ cls := "java/lang/Object", name := "<init>", desc := "()V" } : Jvm.MethodName)) ∈ lw_all := lw_g (lw_at lw_m1 208 rfl) rfl
theorem q302 : (Jvm.Cond.classLink "ClockworkTailor$Parser" (9 : Nat) "java/util/ArrayList") ∈ lw_all := lw_g (lw_at lw_m1 209 rfl) rfl
theorem q304 : (Jvm.Cond.methodLink "ClockworkTailor$Parser" (11 : Nat) ({ cls := "java/util/ArrayList", name := "<init>", desc := "()V" } : Jvm.MethodName)) ∈ lw_all := lw_g (lw_at lw_m1 211 rfl) rfl
theorem q328 : (Jvm.Cond.fieldLink "ClockworkTailor$Parser" (18 : Nat) "ClockworkTailor$Parser" "text" "Ljava/lang/StringBuilder;") ∈ lw_all := lw_g (lw_at lw_m1 235 rfl) rfl
theorem q329 : (Jvm.Cond.fieldLink "ClockworkTailor$Parser" (32 : Nat) "ClockworkTailor$Parser" "position" "I") ∈ lw_all := lw_g (lw_at lw_m1 236 rfl) rfl
theorem q330 : (Jvm.Cond.fieldLink "ClockworkTailor$Parser" (12 : Nat) "ClockworkTailor$Parser" "changes" "Ljava/util/ArrayList;") ∈ lw_all := lw_g (lw_at lw_m1 237 rfl) rfl
theorem q332 : (Jvm.Cond.laysFinal "ClockworkTailor$Parser" "ClockworkTailor$Parser" "text" "Ljava/lang/StringBuilder;") ∈ lw_all := lw_g (lw_at lw_m1 239 rfl) rfl
theorem q333 : (Jvm.Cond.soleField "ClockworkTailor$Parser" "text") ∈ lw_all := lw_g (lw_at lw_m2 0 rfl) rfl
theorem q334 : (Jvm.Cond.lays "ClockworkTailor$Parser" "ClockworkTailor$Parser" "position" "I") ∈ lw_all := lw_g (lw_at lw_m2 1 rfl) rfl
theorem q335 : (Jvm.Cond.soleField "ClockworkTailor$Parser" "position") ∈ lw_all := lw_g (lw_at lw_m2 2 rfl) rfl
theorem q336 : (Jvm.Cond.laysFinal "ClockworkTailor$Parser" "ClockworkTailor$Parser" "changes" "Ljava/util/ArrayList;") ∈ lw_all := lw_g (lw_at lw_m2 3 rfl) rfl
theorem q337 : (Jvm.Cond.soleField "ClockworkTailor$Parser" "changes") ∈ lw_all := lw_g (lw_at lw_m2 4 rfl) rfl
theorem q338 : (Jvm.Cond.superclass "ClockworkTailor$Parser" "java/lang/Object") ∈ lw_all := lw_g (lw_at lw_m2 5 rfl) rfl
theorem q439 : (Jvm.Cond.selects "ClockworkTailor$Parser" ({ cls := "java/lang/Object", name := "getClass", desc := "()Ljava/lang/Class;" } : Jvm.MethodName) ({ cls := "java/lang/Object", name := "getClass", desc := "()Ljava/lang/Class;" } : Jvm.MethodName)) ∈ lw_all := lw_g (lw_at lw_m2 106 rfl) rfl
theorem q1750 : (Jvm.Cond.instanceMethod ({ cls := "ClockworkTailor$Parser", name := "parse", desc := "()V" } : Jvm.MethodName)) ∈ lw_all := lw_g (lw_at lw_m7 217 rfl) rfl
theorem q1751 : (Jvm.Cond.selects "ClockworkTailor$Parser" ({ cls := "ClockworkTailor$Parser", name := "parse", desc := "()V" } : Jvm.MethodName) ({ cls := "ClockworkTailor$Parser", name := "parse", desc := "()V" } : Jvm.MethodName)) ∈ lw_all := lw_g (lw_at lw_m7 218 rfl) rfl
theorem q1752 : (Jvm.Cond.code ({ cls := "ClockworkTailor$Parser", name := "parse", desc := "()V" } : Jvm.MethodName) prog_5_method_21_code (1 : Nat) (Option.none : Option Jvm.ClassFile.FieldType)) ∈ lw_all := lw_g (lw_at lw_m7 219 rfl) rfl
theorem q1753 : (Jvm.Cond.methodLink "ClockworkTailor$Parser" (165 : Nat) ({ cls := "java/util/ArrayList", name := "clear", desc := "()V" } : Jvm.MethodName)) ∈ lw_all := lw_g (lw_at lw_m7 220 rfl) rfl
theorem q1757 : (Jvm.Cond.methodLink "ClockworkTailor$Parser" (168 : Nat) ({ cls := "ClockworkTailor$Parser", name := "change", desc := "()LClockworkTailor$Change;" } : Jvm.MethodName)) ∈ lw_all := lw_g (lw_at lw_m7 224 rfl) rfl
theorem q1758 : (Jvm.Cond.privateMethod ({ cls := "ClockworkTailor$Parser", name := "change", desc := "()LClockworkTailor$Change;" } : Jvm.MethodName)) ∈ lw_tbl := lw_at lw_m7 225 rfl
theorem q1759 : (Jvm.Cond.instanceMethod ({ cls := "ClockworkTailor$Parser", name := "change", desc := "()LClockworkTailor$Change;" } : Jvm.MethodName)) ∈ lw_all := lw_g (lw_at lw_m7 226 rfl) rfl
theorem q1760 : (Jvm.Cond.code ({ cls := "ClockworkTailor$Parser", name := "change", desc := "()LClockworkTailor$Change;" } : Jvm.MethodName) prog_5_method_20_code (1 : Nat) (Option.some (Jvm.ClassFile.FieldType.object "ClockworkTailor$Change"))) ∈ lw_all := lw_g (lw_at lw_m7 227 rfl) rfl
theorem q1761 : (Jvm.Cond.methodLink "ClockworkTailor$Parser" (40 : Nat) ({ cls := "ClockworkTailor$Parser", name := "current", desc := "()I" } : Jvm.MethodName)) ∈ lw_all := lw_g (lw_at lw_m7 228 rfl) rfl
theorem q1762 : (Jvm.Cond.privateMethod ({ cls := "ClockworkTailor$Parser", name := "current", desc := "()I" } : Jvm.MethodName)) ∈ lw_tbl := lw_at lw_m7 229 rfl
theorem q1763 : (Jvm.Cond.instanceMethod ({ cls := "ClockworkTailor$Parser", name := "current", desc := "()I" } : Jvm.MethodName)) ∈ lw_all := lw_g (lw_at lw_m7 230 rfl) rfl
theorem q1764 : (Jvm.Cond.code ({ cls := "ClockworkTailor$Parser", name := "current", desc := "()I" } : Jvm.MethodName) prog_5_method_3_code (1 : Nat) (Option.some Jvm.ClassFile.FieldType.int)) ∈ lw_all := lw_g (lw_at lw_m7 231 rfl) rfl
theorem q1765 : (Jvm.Cond.methodLink "ClockworkTailor$Parser" (36 : Nat) ({ cls := "ClockworkTailor$Parser", name := "at", desc := "(I)I" } : Jvm.MethodName)) ∈ lw_all := lw_g (lw_at lw_m7 232 rfl) rfl
theorem q1766 : (Jvm.Cond.privateMethod ({ cls := "ClockworkTailor$Parser", name := "at", desc := "(I)I" } : Jvm.MethodName)) ∈ lw_tbl := lw_at lw_m7 233 rfl
theorem q1767 : (Jvm.Cond.instanceMethod ({ cls := "ClockworkTailor$Parser", name := "at", desc := "(I)I" } : Jvm.MethodName)) ∈ lw_all := lw_g (lw_at lw_m7 234 rfl) rfl
theorem q1768 : (Jvm.Cond.code ({ cls := "ClockworkTailor$Parser", name := "at", desc := "(I)I" } : Jvm.MethodName) prog_5_method_2_code (2 : Nat) (Option.some Jvm.ClassFile.FieldType.int)) ∈ lw_all := lw_g (lw_at lw_m7 235 rfl) rfl
theorem q1769 : (Jvm.Cond.methodLink "ClockworkTailor$Parser" (22 : Nat) ({ cls := "java/lang/StringBuilder", name := "length", desc := "()I" } : Jvm.MethodName)) ∈ lw_all := lw_g (lw_at lw_m7 236 rfl) rfl
theorem q1770 : (Jvm.Cond.methodLink "ClockworkTailor$Parser" (28 : Nat) ({ cls := "java/lang/StringBuilder", name := "charAt", desc := "(I)C" } : Jvm.MethodName)) ∈ lw_all := lw_g (lw_at lw_m7 237 rfl) rfl
theorem q1771 : (Jvm.Cond.methodLink "ClockworkTailor$Parser" (135 : Nat) ({ cls := "ClockworkTailor$Parser", name := "recipe", desc := "()LClockworkTailor$Change;" } : Jvm.MethodName)) ∈ lw_all := lw_g (lw_at lw_m7 238 rfl) rfl
theorem q1772 : (Jvm.Cond.privateMethod ({ cls := "ClockworkTailor$Parser", name := "recipe", desc := "()LClockworkTailor$Change;" } : Jvm.MethodName)) ∈ lw_tbl := lw_at lw_m7 239 rfl
theorem q1773 : (Jvm.Cond.instanceMethod ({ cls := "ClockworkTailor$Parser", name := "recipe", desc := "()LClockworkTailor$Change;" } : Jvm.MethodName)) ∈ lw_all := lw_g (lw_at lw_m8 0 rfl) rfl
theorem q1774 : (Jvm.Cond.code ({ cls := "ClockworkTailor$Parser", name := "recipe", desc := "()LClockworkTailor$Change;" } : Jvm.MethodName) prog_5_method_10_code (4 : Nat) (Option.some (Jvm.ClassFile.FieldType.object "ClockworkTailor$Change"))) ∈ lw_all := lw_g (lw_at lw_m8 1 rfl) rfl
theorem q1775 : (Jvm.Cond.stringRef "ClockworkTailor$Parser" (75 : Nat) "recipe") ∈ lw_tbl := lw_at lw_m8 2 rfl
theorem q1776 : (Jvm.Cond.methodLink "ClockworkTailor$Parser" (77 : Nat) ({ cls := "ClockworkTailor$Parser", name := "expectWord", desc := "(Ljava/lang/String;)V" } : Jvm.MethodName)) ∈ lw_all := lw_g (lw_at lw_m8 3 rfl) rfl
theorem q1777 : (Jvm.Cond.privateMethod ({ cls := "ClockworkTailor$Parser", name := "expectWord", desc := "(Ljava/lang/String;)V" } : Jvm.MethodName)) ∈ lw_tbl := lw_at lw_m8 4 rfl
theorem q1778 : (Jvm.Cond.instanceMethod ({ cls := "ClockworkTailor$Parser", name := "expectWord", desc := "(Ljava/lang/String;)V" } : Jvm.MethodName)) ∈ lw_all := lw_g (lw_at lw_m8 5 rfl) rfl
theorem q1779 : (Jvm.Cond.code ({ cls := "ClockworkTailor$Parser", name := "expectWord", desc := "(Ljava/lang/String;)V" } : Jvm.MethodName) prog_5_method_6_code (3 : Nat) (Option.none : Option Jvm.ClassFile.FieldType)) ∈ lw_all := lw_g (lw_at lw_m8 6 rfl) rfl
theorem q1780 : (Jvm.Cond.methodLink "ClockworkTailor$Parser" (48 : Nat) ({ cls := "java/lang/String", name := "length", desc := "()I" } : Jvm.MethodName)) ∈ lw_all := lw_g (lw_at lw_m8 7 rfl) rfl
theorem q1781 : (Jvm.Cond.methodLink "ClockworkTailor$Parser" (51 : Nat) ({ cls := "java/lang/String", name := "charAt", desc := "(I)C" } : Jvm.MethodName)) ∈ lw_all := lw_g (lw_at lw_m8 8 rfl) rfl
theorem q1796 : (Jvm.Cond.methodLink "ClockworkTailor$Parser" (52 : Nat) ({ cls := "ClockworkTailor$Parser", name := "accept", desc := "(C)Z" } : Jvm.MethodName)) ∈ lw_all := lw_g (lw_at lw_m8 23 rfl) rfl
theorem q1797 : (Jvm.Cond.privateMethod ({ cls := "ClockworkTailor$Parser", name := "accept", desc := "(C)Z" } : Jvm.MethodName)) ∈ lw_tbl := lw_at lw_m8 24 rfl
theorem q1798 : (Jvm.Cond.instanceMethod ({ cls := "ClockworkTailor$Parser", name := "accept", desc := "(C)Z" } : Jvm.MethodName)) ∈ lw_all := lw_g (lw_at lw_m8 25 rfl) rfl
theorem q1799 : (Jvm.Cond.code ({ cls := "ClockworkTailor$Parser", name := "accept", desc := "(C)Z" } : Jvm.MethodName) prog_5_method_4_code (2 : Nat) (Option.some Jvm.ClassFile.FieldType.boolean)) ∈ lw_all := lw_g (lw_at lw_m8 26 rfl) rfl
theorem q1800 : (Jvm.Cond.methodLink "ClockworkTailor$Parser" (56 : Nat) ({ cls := "ClockworkTailor$Parser", name := "expect", desc := "(Z)V" } : Jvm.MethodName)) ∈ lw_all := lw_g (lw_at lw_m8 27 rfl) rfl
theorem q1801 : (Jvm.Cond.privateMethod ({ cls := "ClockworkTailor$Parser", name := "expect", desc := "(Z)V" } : Jvm.MethodName)) ∈ lw_tbl := lw_at lw_m8 28 rfl
theorem q1802 : (Jvm.Cond.instanceMethod ({ cls := "ClockworkTailor$Parser", name := "expect", desc := "(Z)V" } : Jvm.MethodName)) ∈ lw_all := lw_g (lw_at lw_m8 29 rfl) rfl
theorem q1803 : (Jvm.Cond.code ({ cls := "ClockworkTailor$Parser", name := "expect", desc := "(Z)V" } : Jvm.MethodName) prog_5_method_5_code (2 : Nat) (Option.none : Option Jvm.ClassFile.FieldType)) ∈ lw_all := lw_g (lw_at lw_m8 30 rfl) rfl
theorem q1804 : (Jvm.Cond.classLink "ClockworkTailor$Parser" (43 : Nat) "ClockworkTailor$SyntaxError") ∈ lw_all := lw_g (lw_at lw_m8 31 rfl) rfl
theorem q1813 : (Jvm.Cond.methodLink "ClockworkTailor$Parser" (45 : Nat) ({ cls := "ClockworkTailor$SyntaxError", name := "<init>", desc := "(I)V" } : Jvm.MethodName)) ∈ lw_all := lw_g (lw_at lw_m8 40 rfl) rfl
theorem q1823 : (Jvm.Cond.methodLink "ClockworkTailor$Parser" (81 : Nat) ({ cls := "ClockworkTailor$Parser", name := "letter", desc := "(Z)C" } : Jvm.MethodName)) ∈ lw_all := lw_g (lw_at lw_m8 50 rfl) rfl
theorem q1824 : (Jvm.Cond.privateMethod ({ cls := "ClockworkTailor$Parser", name := "letter", desc := "(Z)C" } : Jvm.MethodName)) ∈ lw_tbl := lw_at lw_m8 51 rfl
theorem q1825 : (Jvm.Cond.instanceMethod ({ cls := "ClockworkTailor$Parser", name := "letter", desc := "(Z)C" } : Jvm.MethodName)) ∈ lw_all := lw_g (lw_at lw_m8 52 rfl) rfl
theorem q1826 : (Jvm.Cond.code ({ cls := "ClockworkTailor$Parser", name := "letter", desc := "(Z)C" } : Jvm.MethodName) prog_5_method_9_code (2 : Nat) (Option.some Jvm.ClassFile.FieldType.char)) ∈ lw_all := lw_g (lw_at lw_m8 53 rfl) rfl
theorem q1827 : (Jvm.Cond.methodLinkNest "ClockworkTailor$Parser" (68 : Nat) ({ cls := "ClockworkTailor", name := "isScope", desc := "(I)Z" } : Jvm.MethodName) "ClockworkTailor") ∈ lw_tbl := lw_at lw_m8 54 rfl
theorem q1828 : (Jvm.Cond.methodLinkNest "ClockworkTailor$Parser" (72 : Nat) ({ cls := "ClockworkTailor", name := "isTool", desc := "(I)Z" } : Jvm.MethodName) "ClockworkTailor") ∈ lw_tbl := lw_at lw_m8 55 rfl
theorem q1829 : (Jvm.Cond.methodLink "ClockworkTailor$Parser" (85 : Nat) ({ cls := "ClockworkTailor$Parser", name := "number", desc := "(I)I" } : Jvm.MethodName)) ∈ lw_all := lw_g (lw_at lw_m8 56 rfl) rfl
theorem q1830 : (Jvm.Cond.privateMethod ({ cls := "ClockworkTailor$Parser", name := "number", desc := "(I)I" } : Jvm.MethodName)) ∈ lw_tbl := lw_at lw_m8 57 rfl
theorem q1831 : (Jvm.Cond.instanceMethod ({ cls := "ClockworkTailor$Parser", name := "number", desc := "(I)I" } : Jvm.MethodName)) ∈ lw_all := lw_g (lw_at lw_m8 58 rfl) rfl
theorem q1832 : (Jvm.Cond.code ({ cls := "ClockworkTailor$Parser", name := "number", desc := "(I)I" } : Jvm.MethodName) prog_5_method_8_code (4 : Nat) (Option.some Jvm.ClassFile.FieldType.int)) ∈ lw_all := lw_g (lw_at lw_m8 59 rfl) rfl
theorem q1833 : (Jvm.Cond.methodLink "ClockworkTailor$Parser" (64 : Nat) ({ cls := "ClockworkTailor$Parser", name := "isDigit", desc := "()Z" } : Jvm.MethodName)) ∈ lw_all := lw_g (lw_at lw_m8 60 rfl) rfl
theorem q1834 : (Jvm.Cond.privateMethod ({ cls := "ClockworkTailor$Parser", name := "isDigit", desc := "()Z" } : Jvm.MethodName)) ∈ lw_tbl := lw_at lw_m8 61 rfl
theorem q1835 : (Jvm.Cond.instanceMethod ({ cls := "ClockworkTailor$Parser", name := "isDigit", desc := "()Z" } : Jvm.MethodName)) ∈ lw_all := lw_g (lw_at lw_m8 62 rfl) rfl
theorem q1836 : (Jvm.Cond.code ({ cls := "ClockworkTailor$Parser", name := "isDigit", desc := "()Z" } : Jvm.MethodName) prog_5_method_7_code (1 : Nat) (Option.some Jvm.ClassFile.FieldType.boolean)) ∈ lw_all := lw_g (lw_at lw_m8 63 rfl) rfl
theorem q1837 : (Jvm.Cond.methodLinkNest "ClockworkTailor$Parser" (60 : Nat) ({ cls := "ClockworkTailor", name := "inRange", desc := "(III)Z" } : Jvm.MethodName) "ClockworkTailor") ∈ lw_tbl := lw_at lw_m8 64 rfl
theorem q1838 : (Jvm.Cond.static ({ cls := "ClockworkTailor$Parser", name := "lambda$recipe$0", desc := "(CCILClockworkTailor$State;)I" } : Jvm.MethodName)) ∈ lw_all := lw_g (lw_at lw_m8 65 rfl) rfl
theorem q1839 : (Jvm.Cond.code ({ cls := "ClockworkTailor$Parser", name := "lambda$recipe$0", desc := "(CCILClockworkTailor$State;)I" } : Jvm.MethodName) prog_5_method_31_code (4 : Nat) (Option.some Jvm.ClassFile.FieldType.int)) ∈ lw_all := lw_g (lw_at lw_m8 66 rfl) rfl
theorem q1840 : (Jvm.Cond.methodLink "ClockworkTailor$Parser" (208 : Nat) ({ cls := "ClockworkTailor$State", name := "define", desc := "(CCI)I" } : Jvm.MethodName)) ∈ lw_all := lw_g (lw_at lw_m8 67 rfl) rfl
theorem q1841 : (Jvm.Cond.methodLink "ClockworkTailor$Parser" (137 : Nat) ({ cls := "ClockworkTailor$Parser", name := "dropping", desc := "()LClockworkTailor$Change;" } : Jvm.MethodName)) ∈ lw_all := lw_g (lw_at lw_m8 68 rfl) rfl
theorem q1842 : (Jvm.Cond.privateMethod ({ cls := "ClockworkTailor$Parser", name := "dropping", desc := "()LClockworkTailor$Change;" } : Jvm.MethodName)) ∈ lw_tbl := lw_at lw_m8 69 rfl
theorem q1843 : (Jvm.Cond.instanceMethod ({ cls := "ClockworkTailor$Parser", name := "dropping", desc := "()LClockworkTailor$Change;" } : Jvm.MethodName)) ∈ lw_all := lw_g (lw_at lw_m8 70 rfl) rfl
theorem q1844 : (Jvm.Cond.code ({ cls := "ClockworkTailor$Parser", name := "dropping", desc := "()LClockworkTailor$Change;" } : Jvm.MethodName) prog_5_method_11_code (2 : Nat) (Option.some (Jvm.ClassFile.FieldType.object "ClockworkTailor$Change"))) ∈ lw_all := lw_g (lw_at lw_m8 71 rfl) rfl
theorem q1845 : (Jvm.Cond.stringRef "ClockworkTailor$Parser" (92 : Nat) "drop") ∈ lw_tbl := lw_at lw_m8 72 rfl
theorem q1846 : (Jvm.Cond.static ({ cls := "ClockworkTailor$Parser", name := "lambda$dropping$1", desc := "(CLClockworkTailor$State;)I" } : Jvm.MethodName)) ∈ lw_all := lw_g (lw_at lw_m8 73 rfl) rfl
theorem q1847 : (Jvm.Cond.code ({ cls := "ClockworkTailor$Parser", name := "lambda$dropping$1", desc := "(CLClockworkTailor$State;)I" } : Jvm.MethodName) prog_5_method_30_code (2 : Nat) (Option.some Jvm.ClassFile.FieldType.int)) ∈ lw_all := lw_g (lw_at lw_m8 74 rfl) rfl
theorem q1848 : (Jvm.Cond.methodLink "ClockworkTailor$Parser" (204 : Nat) ({ cls := "ClockworkTailor$State", name := "dropRecipe", desc := "(C)I" } : Jvm.MethodName)) ∈ lw_all := lw_g (lw_at lw_m8 75 rfl) rfl
theorem q1849 : (Jvm.Cond.methodLink "ClockworkTailor$Parser" (140 : Nat) ({ cls := "ClockworkTailor$Parser", name := "needing", desc := "(Z)LClockworkTailor$Change;" } : Jvm.MethodName)) ∈ lw_all := lw_g (lw_at lw_m8 76 rfl) rfl
theorem q1850 : (Jvm.Cond.privateMethod ({ cls := "ClockworkTailor$Parser", name := "needing", desc := "(Z)LClockworkTailor$Change;" } : Jvm.MethodName)) ∈ lw_tbl := lw_at lw_m8 77 rfl
theorem q1851 : (Jvm.Cond.instanceMethod ({ cls := "ClockworkTailor$Parser", name := "needing", desc := "(Z)LClockworkTailor$Change;" } : Jvm.MethodName)) ∈ lw_all := lw_g (lw_at lw_m8 78 rfl) rfl
theorem q1852 : (Jvm.Cond.code ({ cls := "ClockworkTailor$Parser", name := "needing", desc := "(Z)LClockworkTailor$Change;" } : Jvm.MethodName) prog_5_method_12_code (4 : Nat) (Option.some (Jvm.ClassFile.FieldType.object "ClockworkTailor$Change"))) ∈ lw_all := lw_g (lw_at lw_m8 79 rfl) rfl
theorem q1853 : (Jvm.Cond.stringRef "ClockworkTailor$Parser" (97 : Nat) "lazy") ∈ lw_tbl := lw_at lw_m8 80 rfl
theorem q1854 : (Jvm.Cond.stringRef "ClockworkTailor$Parser" (99 : Nat) "need") ∈ lw_tbl := lw_at lw_m8 81 rfl
theorem q1855 : (Jvm.Cond.static ({ cls := "ClockworkTailor$Parser", name := "lambda$needing$2", desc := "(CCZLClockworkTailor$State;)I" } : Jvm.MethodName)) ∈ lw_all := lw_g (lw_at lw_m8 82 rfl) rfl
theorem q1856 : (Jvm.Cond.code ({ cls := "ClockworkTailor$Parser", name := "lambda$needing$2", desc := "(CCZLClockworkTailor$State;)I" } : Jvm.MethodName) prog_5_method_29_code (4 : Nat) (Option.some Jvm.ClassFile.FieldType.int)) ∈ lw_all := lw_g (lw_at lw_m8 83 rfl) rfl
theorem q1857 : (Jvm.Cond.methodLink "ClockworkTailor$Parser" (200 : Nat) ({ cls := "ClockworkTailor$State", name := "addNeed", desc := "(CCZ)I" } : Jvm.MethodName)) ∈ lw_all := lw_g (lw_at lw_m8 84 rfl) rfl
theorem q1858 : (Jvm.Cond.methodLink "ClockworkTailor$Parser" (144 : Nat) ({ cls := "ClockworkTailor$Parser", name := "closing", desc := "()LClockworkTailor$Change;" } : Jvm.MethodName)) ∈ lw_all := lw_g (lw_at lw_m8 85 rfl) rfl
theorem q1859 : (Jvm.Cond.privateMethod ({ cls := "ClockworkTailor$Parser", name := "closing", desc := "()LClockworkTailor$Change;" } : Jvm.MethodName)) ∈ lw_tbl := lw_at lw_m8 86 rfl
theorem q1860 : (Jvm.Cond.instanceMethod ({ cls := "ClockworkTailor$Parser", name := "closing", desc := "()LClockworkTailor$Change;" } : Jvm.MethodName)) ∈ lw_all := lw_g (lw_at lw_m8 87 rfl) rfl
theorem q1861 : (Jvm.Cond.code ({ cls := "ClockworkTailor$Parser", name := "closing", desc := "()LClockworkTailor$Change;" } : Jvm.MethodName) prog_5_method_17_code (2 : Nat) (Option.some (Jvm.ClassFile.FieldType.object "ClockworkTailor$Change"))) ∈ lw_all := lw_g (lw_at lw_m8 88 rfl) rfl
theorem q1862 : (Jvm.Cond.stringRef "ClockworkTailor$Parser" (120 : Nat) "close") ∈ lw_tbl := lw_at lw_m8 89 rfl
theorem q1863 : (Jvm.Cond.static ({ cls := "ClockworkTailor$Parser", name := "lambda$closing$7", desc := "(ILClockworkTailor$State;)I" } : Jvm.MethodName)) ∈ lw_all := lw_g (lw_at lw_m8 90 rfl) rfl
theorem q1864 : (Jvm.Cond.code ({ cls := "ClockworkTailor$Parser", name := "lambda$closing$7", desc := "(ILClockworkTailor$State;)I" } : Jvm.MethodName) prog_5_method_24_code (2 : Nat) (Option.some Jvm.ClassFile.FieldType.int)) ∈ lw_all := lw_g (lw_at lw_m8 91 rfl) rfl
theorem q1865 : (Jvm.Cond.methodLink "ClockworkTailor$Parser" (183 : Nat) ({ cls := "ClockworkTailor$State", name := "closeThread", desc := "(I)I" } : Jvm.MethodName)) ∈ lw_all := lw_g (lw_at lw_m8 92 rfl) rfl
theorem q1866 : (Jvm.Cond.methodLink "ClockworkTailor$Parser" (147 : Nat) ({ cls := "ClockworkTailor$Parser", name := "cutting", desc := "()LClockworkTailor$Change;" } : Jvm.MethodName)) ∈ lw_all := lw_g (lw_at lw_m8 93 rfl) rfl
theorem q1867 : (Jvm.Cond.privateMethod ({ cls := "ClockworkTailor$Parser", name := "cutting", desc := "()LClockworkTailor$Change;" } : Jvm.MethodName)) ∈ lw_tbl := lw_at lw_m8 94 rfl
theorem q1868 : (Jvm.Cond.instanceMethod ({ cls := "ClockworkTailor$Parser", name := "cutting", desc := "()LClockworkTailor$Change;" } : Jvm.MethodName)) ∈ lw_all := lw_g (lw_at lw_m8 95 rfl) rfl
theorem q1869 : (Jvm.Cond.code ({ cls := "ClockworkTailor$Parser", name := "cutting", desc := "()LClockworkTailor$Change;" } : Jvm.MethodName) prog_5_method_13_code (3 : Nat) (Option.some (Jvm.ClassFile.FieldType.object "ClockworkTailor$Change"))) ∈ lw_all := lw_g (lw_at lw_m8 96 rfl) rfl
theorem q1870 : (Jvm.Cond.stringRef "ClockworkTailor$Parser" (104 : Nat) "cut") ∈ lw_tbl := lw_at lw_m8 97 rfl
theorem q1871 : (Jvm.Cond.static ({ cls := "ClockworkTailor$Parser", name := "lambda$cutting$3", desc := "(CCLClockworkTailor$State;)I" } : Jvm.MethodName)) ∈ lw_all := lw_g (lw_at lw_m8 98 rfl) rfl
theorem q1872 : (Jvm.Cond.code ({ cls := "ClockworkTailor$Parser", name := "lambda$cutting$3", desc := "(CCLClockworkTailor$State;)I" } : Jvm.MethodName) prog_5_method_28_code (3 : Nat) (Option.some Jvm.ClassFile.FieldType.int)) ∈ lw_all := lw_g (lw_at lw_m8 99 rfl) rfl
theorem q1873 : (Jvm.Cond.methodLink "ClockworkTailor$Parser" (197 : Nat) ({ cls := "ClockworkTailor$State", name := "removeNeed", desc := "(CC)I" } : Jvm.MethodName)) ∈ lw_all := lw_g (lw_at lw_m8 100 rfl) rfl
theorem q1874 : (Jvm.Cond.methodLink "ClockworkTailor$Parser" (150 : Nat) ({ cls := "ClockworkTailor$Parser", name := "swapping", desc := "()LClockworkTailor$Change;" } : Jvm.MethodName)) ∈ lw_all := lw_g (lw_at lw_m8 101 rfl) rfl
theorem q1875 : (Jvm.Cond.privateMethod ({ cls := "ClockworkTailor$Parser", name := "swapping", desc := "()LClockworkTailor$Change;" } : Jvm.MethodName)) ∈ lw_tbl := lw_at lw_m8 102 rfl
theorem q1876 : (Jvm.Cond.instanceMethod ({ cls := "ClockworkTailor$Parser", name := "swapping", desc := "()LClockworkTailor$Change;" } : Jvm.MethodName)) ∈ lw_all := lw_g (lw_at lw_m8 103 rfl) rfl
theorem q1877 : (Jvm.Cond.code ({ cls := "ClockworkTailor$Parser", name := "swapping", desc := "()LClockworkTailor$Change;" } : Jvm.MethodName) prog_5_method_14_code (3 : Nat) (Option.some (Jvm.ClassFile.FieldType.object "ClockworkTailor$Change"))) ∈ lw_all := lw_g (lw_at lw_m8 104 rfl) rfl
theorem q1878 : (Jvm.Cond.stringRef "ClockworkTailor$Parser" (109 : Nat) "swap") ∈ lw_tbl := lw_at lw_m8 105 rfl
theorem q1879 : (Jvm.Cond.static ({ cls := "ClockworkTailor$Parser", name := "lambda$swapping$4", desc := "(CCLClockworkTailor$State;)I" } : Jvm.MethodName)) ∈ lw_all := lw_g (lw_at lw_m8 106 rfl) rfl
theorem q1880 : (Jvm.Cond.code ({ cls := "ClockworkTailor$Parser", name := "lambda$swapping$4", desc := "(CCLClockworkTailor$State;)I" } : Jvm.MethodName) prog_5_method_27_code (3 : Nat) (Option.some Jvm.ClassFile.FieldType.int)) ∈ lw_all := lw_g (lw_at lw_m8 107 rfl) rfl
theorem q1881 : (Jvm.Cond.methodLink "ClockworkTailor$Parser" (193 : Nat) ({ cls := "ClockworkTailor$State", name := "replace", desc := "(CC)I" } : Jvm.MethodName)) ∈ lw_all := lw_g (lw_at lw_m8 108 rfl) rfl
theorem q1882 : (Jvm.Cond.methodLink "ClockworkTailor$Parser" (153 : Nat) ({ cls := "ClockworkTailor$Parser", name := "puttingBack", desc := "()LClockworkTailor$Change;" } : Jvm.MethodName)) ∈ lw_all := lw_g (lw_at lw_m8 109 rfl) rfl
theorem q1883 : (Jvm.Cond.privateMethod ({ cls := "ClockworkTailor$Parser", name := "puttingBack", desc := "()LClockworkTailor$Change;" } : Jvm.MethodName)) ∈ lw_tbl := lw_at lw_m8 110 rfl
theorem q1884 : (Jvm.Cond.instanceMethod ({ cls := "ClockworkTailor$Parser", name := "puttingBack", desc := "()LClockworkTailor$Change;" } : Jvm.MethodName)) ∈ lw_all := lw_g (lw_at lw_m8 111 rfl) rfl
theorem q1885 : (Jvm.Cond.code ({ cls := "ClockworkTailor$Parser", name := "puttingBack", desc := "()LClockworkTailor$Change;" } : Jvm.MethodName) prog_5_method_15_code (2 : Nat) (Option.some (Jvm.ClassFile.FieldType.object "ClockworkTailor$Change"))) ∈ lw_all := lw_g (lw_at lw_m8 112 rfl) rfl
theorem q1886 : (Jvm.Cond.stringRef "ClockworkTailor$Parser" (112 : Nat) "back") ∈ lw_tbl := lw_at lw_m8 113 rfl
theorem q1887 : (Jvm.Cond.static ({ cls := "ClockworkTailor$Parser", name := "lambda$puttingBack$5", desc := "(CLClockworkTailor$State;)I" } : Jvm.MethodName)) ∈ lw_all := lw_g (lw_at lw_m8 114 rfl) rfl
theorem q1888 : (Jvm.Cond.code ({ cls := "ClockworkTailor$Parser", name := "lambda$puttingBack$5", desc := "(CLClockworkTailor$State;)I" } : Jvm.MethodName) prog_5_method_26_code (2 : Nat) (Option.some Jvm.ClassFile.FieldType.int)) ∈ lw_all := lw_g (lw_at lw_m8 115 rfl) rfl
theorem q1889 : (Jvm.Cond.methodLink "ClockworkTailor$Parser" (189 : Nat) ({ cls := "ClockworkTailor$State", name := "putBack", desc := "(C)C" } : Jvm.MethodName)) ∈ lw_all := lw_g (lw_at lw_m8 116 rfl) rfl
theorem q1890 : (Jvm.Cond.methodLink "ClockworkTailor$Parser" (156 : Nat) ({ cls := "ClockworkTailor$Parser", name := "opening", desc := "()LClockworkTailor$Change;" } : Jvm.MethodName)) ∈ lw_all := lw_g (lw_at lw_m8 117 rfl) rfl
theorem q1891 : (Jvm.Cond.privateMethod ({ cls := "ClockworkTailor$Parser", name := "opening", desc := "()LClockworkTailor$Change;" } : Jvm.MethodName)) ∈ lw_tbl := lw_at lw_m8 118 rfl
theorem q1892 : (Jvm.Cond.instanceMethod ({ cls := "ClockworkTailor$Parser", name := "opening", desc := "()LClockworkTailor$Change;" } : Jvm.MethodName)) ∈ lw_all := lw_g (lw_at lw_m8 119 rfl) rfl
theorem q1893 : (Jvm.Cond.code ({ cls := "ClockworkTailor$Parser", name := "opening", desc := "()LClockworkTailor$Change;" } : Jvm.MethodName) prog_5_method_16_code (1 : Nat) (Option.some (Jvm.ClassFile.FieldType.object "ClockworkTailor$Change"))) ∈ lw_all := lw_g (lw_at lw_m8 120 rfl) rfl
theorem q1894 : (Jvm.Cond.stringRef "ClockworkTailor$Parser" (115 : Nat) "open") ∈ lw_tbl := lw_at lw_m8 121 rfl
theorem q1895 : (Jvm.Cond.static ({ cls := "ClockworkTailor$Parser", name := "lambda$opening$6", desc := "(LClockworkTailor$State;)I" } : Jvm.MethodName)) ∈ lw_all := lw_g (lw_at lw_m8 122 rfl) rfl
theorem q1896 : (Jvm.Cond.code ({ cls := "ClockworkTailor$Parser", name := "lambda$opening$6", desc := "(LClockworkTailor$State;)I" } : Jvm.MethodName) prog_5_method_25_code (1 : Nat) (Option.some Jvm.ClassFile.FieldType.int)) ∈ lw_all := lw_g (lw_at lw_m8 123 rfl) rfl
theorem q1897 : (Jvm.Cond.methodLink "ClockworkTailor$Parser" (186 : Nat) ({ cls := "ClockworkTailor$State", name := "openThread", desc := "()I" } : Jvm.MethodName)) ∈ lw_all := lw_g (lw_at lw_m8 124 rfl) rfl
theorem q1898 : (Jvm.Cond.methodLink "ClockworkTailor$Parser" (159 : Nat) ({ cls := "ClockworkTailor$Parser", name := "making", desc := "()LClockworkTailor$Change;" } : Jvm.MethodName)) ∈ lw_all := lw_g (lw_at lw_m8 125 rfl) rfl
theorem q1899 : (Jvm.Cond.privateMethod ({ cls := "ClockworkTailor$Parser", name := "making", desc := "()LClockworkTailor$Change;" } : Jvm.MethodName)) ∈ lw_tbl := lw_at lw_m8 126 rfl
theorem q1900 : (Jvm.Cond.instanceMethod ({ cls := "ClockworkTailor$Parser", name := "making", desc := "()LClockworkTailor$Change;" } : Jvm.MethodName)) ∈ lw_all := lw_g (lw_at lw_m8 127 rfl) rfl
theorem q1901 : (Jvm.Cond.code ({ cls := "ClockworkTailor$Parser", name := "making", desc := "()LClockworkTailor$Change;" } : Jvm.MethodName) prog_5_method_18_code (3 : Nat) (Option.some (Jvm.ClassFile.FieldType.object "ClockworkTailor$Change"))) ∈ lw_all := lw_g (lw_at lw_m8 128 rfl) rfl
theorem q1902 : (Jvm.Cond.stringRef "ClockworkTailor$Parser" (125 : Nat) "make") ∈ lw_tbl := lw_at lw_m8 129 rfl
theorem q1903 : (Jvm.Cond.static ({ cls := "ClockworkTailor$Parser", name := "lambda$making$8", desc := "(CILClockworkTailor$State;)I" } : Jvm.MethodName)) ∈ lw_all := lw_g (lw_at lw_m8 130 rfl) rfl
theorem q1904 : (Jvm.Cond.code ({ cls := "ClockworkTailor$Parser", name := "lambda$making$8", desc := "(CILClockworkTailor$State;)I" } : Jvm.MethodName) prog_5_method_23_code (3 : Nat) (Option.some Jvm.ClassFile.FieldType.int)) ∈ lw_all := lw_g (lw_at lw_m8 131 rfl) rfl
theorem q1905 : (Jvm.Cond.methodLink "ClockworkTailor$Parser" (180 : Nat) ({ cls := "ClockworkTailor$State", name := "make", desc := "(CI)I" } : Jvm.MethodName)) ∈ lw_all := lw_g (lw_at lw_m8 132 rfl) rfl
theorem q1906 : (Jvm.Cond.methodLink "ClockworkTailor$Parser" (162 : Nat) ({ cls := "ClockworkTailor$Parser", name := "touching", desc := "()LClockworkTailor$Change;" } : Jvm.MethodName)) ∈ lw_all := lw_g (lw_at lw_m8 133 rfl) rfl
theorem q1907 : (Jvm.Cond.privateMethod ({ cls := "ClockworkTailor$Parser", name := "touching", desc := "()LClockworkTailor$Change;" } : Jvm.MethodName)) ∈ lw_tbl := lw_at lw_m8 134 rfl
theorem q1908 : (Jvm.Cond.instanceMethod ({ cls := "ClockworkTailor$Parser", name := "touching", desc := "()LClockworkTailor$Change;" } : Jvm.MethodName)) ∈ lw_all := lw_g (lw_at lw_m8 135 rfl) rfl
theorem q1909 : (Jvm.Cond.code ({ cls := "ClockworkTailor$Parser", name := "touching", desc := "()LClockworkTailor$Change;" } : Jvm.MethodName) prog_5_method_19_code (4 : Nat) (Option.some (Jvm.ClassFile.FieldType.object "ClockworkTailor$Change"))) ∈ lw_all := lw_g (lw_at lw_m8 136 rfl) rfl
theorem q1910 : (Jvm.Cond.stringRef "ClockworkTailor$Parser" (130 : Nat) "touch") ∈ lw_tbl := lw_at lw_m8 137 rfl
theorem q1911 : (Jvm.Cond.static ({ cls := "ClockworkTailor$Parser", name := "lambda$touching$9", desc := "(IIILClockworkTailor$State;)I" } : Jvm.MethodName)) ∈ lw_all := lw_g (lw_at lw_m8 138 rfl) rfl
theorem q1912 : (Jvm.Cond.code ({ cls := "ClockworkTailor$Parser", name := "lambda$touching$9", desc := "(IIILClockworkTailor$State;)I" } : Jvm.MethodName) prog_5_method_22_code (4 : Nat) (Option.some Jvm.ClassFile.FieldType.int)) ∈ lw_all := lw_g (lw_at lw_m8 139 rfl) rfl
theorem q1913 : (Jvm.Cond.methodLink "ClockworkTailor$Parser" (175 : Nat) ({ cls := "ClockworkTailor$State", name := "touch", desc := "(III)I" } : Jvm.MethodName)) ∈ lw_all := lw_g (lw_at lw_m8 140 rfl) rfl
theorem q1914 : (Jvm.Cond.methodLink "ClockworkTailor$Parser" (171 : Nat) ({ cls := "java/util/ArrayList", name := "add", desc := "(Ljava/lang/Object;)Z" } : Jvm.MethodName)) ∈ lw_all := lw_g (lw_at lw_m8 141 rfl) rfl
theorem q2554 : (Jvm.Cond.castable "ClockworkTailor$Parser" "java/lang/Object") ∈ lw_tbl := lw_at lw_m11 61 rfl
theorem in_X4 : ∀ w ∈ wsX40, w ∈ lw_all := lw_in wsX40 [332, 334, 336] (by decide +kernel) (by decide +kernel)

