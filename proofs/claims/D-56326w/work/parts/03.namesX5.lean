/-! ClockworkTailorModel -/
set_option maxRecDepth 100000
def RX5 : String := "ClockworkTailorModel"
def TX5 : u_T := fun k => match k with
  | 0 => ("ClockworkTailorModel", "g", "[I", true)
  | 1 => ("ClockworkTailorModel", "kept", "[I", true)
  | 2 => ("ClockworkTailorModel", "saved", "[I", true)
  | 3 => ("ClockworkTailorModel", "before", "[I", true)
  | 4 => ("ClockworkTailorModel", "isSaved", "Z", false)
  | 5 => ("ClockworkTailorModel", "changes", "I", false)
  | 6 => ("ClockworkTailorModel", "isWithin", "Z", false)
  | 7 => ("ClockworkTailorModel", "isRefused", "Z", false)
  | 8 => ("ClockworkTailorModel", "code", "I", false)
  | 9 => ("ClockworkTailorModel", "why", "I", false)
  | 10 => ("ClockworkTailorModel", "detail", "I", false)
  | 11 => ("ClockworkTailorModel", "cause", "I", false)
  | 12 => ("ClockworkTailorModel", "input", "[I", true)
  | 13 => ("ClockworkTailorModel", "length", "I", false)
  | 14 => ("ClockworkTailorModel", "fault", "I", false)
  | 15 => ("ClockworkTailorModel", "signs", "[C", true)
  | 16 => ("ClockworkTailorModel", "signMany", "I", false)
  | 17 => ("ClockworkTailorModel", "news", "I", false)
  | 18 => ("ClockworkTailorModel", "missing", "I", false)
  | 19 => ("ClockworkTailorModel", "fills", "[I", true)
  | 20 => ("ClockworkTailorModel", "at", "I", false)
  | 21 => ("ClockworkTailorModel", "told", "[I", true)
  | _ => ("ClockworkTailorModel", "toldMany", "I", false)
def tyX5 : Nat → FieldType := fun k => match k with
  | 0 => .array .int
  | 1 => .array .int
  | 2 => .array .int
  | 3 => .array .int
  | 4 => .boolean
  | 5 => .int
  | 6 => .boolean
  | 7 => .boolean
  | 8 => .int
  | 9 => .int
  | 10 => .int
  | 11 => .int
  | 12 => .array .int
  | 13 => .int
  | 14 => .int
  | 15 => .array .char
  | 16 => .int
  | 17 => .int
  | 18 => .int
  | 19 => .array .int
  | 20 => .int
  | 21 => .array .int
  | _ => .int
abbrev wsX50 : List Cond := u_ws RX5 TX5 23
set_option maxRecDepth 100000 in
theorem nmX5 : ∀ a, a < 23 → ∀ b, b < 23 → a ≠ b → (TX5 a).2.1 ≠ (TX5 b).2.1 := by decide +kernel
set_option maxRecDepth 100000 in
theorem tyX5_ok : ∀ k, k < 23 → parseFieldDescriptor (TX5 k).2.2.1 = some (tyX5 k) := by decide +kernel
abbrev cX5_init : ByteArray := prog_12_method_1_code
def yX5_init : MethodName := ⟨RX5, "<init>", "()V"⟩
def dkwX5_init_3 : List UInt8 := [42, 16, 124, 188, 10, 181, 0, 36, 177]
abbrev dktX5_init_3 : List UInt8 := dkwX5_init_3 ++ []
def dkwX5_init_2 : List UInt8 := [181, 0, 22, 42, 2, 181, 0, 25, 42, 16, 40, 188, 5, 181, 0, 29, 42, 16, 30, 188, 10, 181, 0, 33]
abbrev dktX5_init_2 : List UInt8 := dkwX5_init_2 ++ dktX5_init_3
def dkwX5_init_1 : List UInt8 := [17, 2, 149, 188, 10, 181, 0, 16, 42, 17, 2, 149, 188, 10, 181, 0, 19, 42, 16, 60, 188, 10]
abbrev dktX5_init_1 : List UInt8 := dkwX5_init_1 ++ dktX5_init_2
def dkwX5_init_0 : List UInt8 := [42, 183, 0, 1, 42, 17, 2, 149, 188, 10, 181, 0, 7, 42, 17, 20, 168, 188, 10, 181, 0, 13, 42]
abbrev dktX5_init_0 : List UInt8 := dkwX5_init_0 ++ dktX5_init_1
theorem dksX5_init_0 : cX5_init.data.toList.drop 0 = dktX5_init_0 := by decide +kernel
theorem dksX5_init_1 : cX5_init.data.toList.drop 23 = dktX5_init_1 := dk_seg dksX5_init_0 23 rfl rfl
theorem dksX5_init_2 : cX5_init.data.toList.drop 45 = dktX5_init_2 := dk_seg dksX5_init_1 22 rfl rfl
theorem dksX5_init_3 : cX5_init.data.toList.drop 69 = dktX5_init_3 := dk_seg dksX5_init_2 24 rfl rfl
theorem dX5_init_0 : decode cX5_init 0 = .ok (.aload_n 0, 1) := dk_42 (dk_at dksX5_init_0 0 rfl rfl)
theorem dX5_init_1 : decode cX5_init 1 = .ok (.invokespecial 1, 3) := dk_183 0 1 (dk_at dksX5_init_0 1 rfl rfl)
theorem dX5_init_4 : decode cX5_init 4 = .ok (.aload_n 0, 1) := dk_42 (dk_at dksX5_init_0 4 rfl rfl)
theorem dX5_init_5 : decode cX5_init 5 = .ok (.sipush 661, 3) := dk_17 2 149 (dk_at dksX5_init_0 5 rfl rfl)
theorem dX5_init_8 : decode cX5_init 8 = .ok (.newarray .int, 2) := dk_188_10 (dk_at dksX5_init_0 8 rfl rfl)
theorem dX5_init_10 : decode cX5_init 10 = .ok (.putfield 7, 3) := dk_181 0 7 (dk_at dksX5_init_0 10 rfl rfl)
theorem dX5_init_13 : decode cX5_init 13 = .ok (.aload_n 0, 1) := dk_42 (dk_at dksX5_init_0 13 rfl rfl)
theorem dX5_init_14 : decode cX5_init 14 = .ok (.sipush 5288, 3) := dk_17 20 168 (dk_at dksX5_init_0 14 rfl rfl)
theorem dX5_init_17 : decode cX5_init 17 = .ok (.newarray .int, 2) := dk_188_10 (dk_at dksX5_init_0 17 rfl rfl)
theorem dX5_init_19 : decode cX5_init 19 = .ok (.putfield 13, 3) := dk_181 0 13 (dk_at dksX5_init_0 19 rfl rfl)
theorem dX5_init_22 : decode cX5_init 22 = .ok (.aload_n 0, 1) := dk_42 (dk_at dksX5_init_0 22 rfl rfl)
theorem dX5_init_23 : decode cX5_init 23 = .ok (.sipush 661, 3) := dk_17 2 149 (dk_at dksX5_init_1 0 rfl rfl)
theorem dX5_init_26 : decode cX5_init 26 = .ok (.newarray .int, 2) := dk_188_10 (dk_at dksX5_init_1 3 rfl rfl)
theorem dX5_init_28 : decode cX5_init 28 = .ok (.putfield 16, 3) := dk_181 0 16 (dk_at dksX5_init_1 5 rfl rfl)
theorem dX5_init_31 : decode cX5_init 31 = .ok (.aload_n 0, 1) := dk_42 (dk_at dksX5_init_1 8 rfl rfl)
theorem dX5_init_32 : decode cX5_init 32 = .ok (.sipush 661, 3) := dk_17 2 149 (dk_at dksX5_init_1 9 rfl rfl)
theorem dX5_init_35 : decode cX5_init 35 = .ok (.newarray .int, 2) := dk_188_10 (dk_at dksX5_init_1 12 rfl rfl)
theorem dX5_init_37 : decode cX5_init 37 = .ok (.putfield 19, 3) := dk_181 0 19 (dk_at dksX5_init_1 14 rfl rfl)
theorem dX5_init_40 : decode cX5_init 40 = .ok (.aload_n 0, 1) := dk_42 (dk_at dksX5_init_1 17 rfl rfl)
theorem dX5_init_41 : decode cX5_init 41 = .ok (.bipush 60, 2) := dk_16 60 (dk_at dksX5_init_1 18 rfl rfl)
theorem dX5_init_43 : decode cX5_init 43 = .ok (.newarray .int, 2) := dk_188_10 (dk_at dksX5_init_1 20 rfl rfl)
theorem dX5_init_45 : decode cX5_init 45 = .ok (.putfield 22, 3) := dk_181 0 22 (dk_at dksX5_init_2 0 rfl rfl)
theorem dX5_init_48 : decode cX5_init 48 = .ok (.aload_n 0, 1) := dk_42 (dk_at dksX5_init_2 3 rfl rfl)
theorem dX5_init_49 : decode cX5_init 49 = .ok (.iconst (-1), 1) := dk_2 (dk_at dksX5_init_2 4 rfl rfl)
theorem dX5_init_50 : decode cX5_init 50 = .ok (.putfield 25, 3) := dk_181 0 25 (dk_at dksX5_init_2 5 rfl rfl)
theorem dX5_init_53 : decode cX5_init 53 = .ok (.aload_n 0, 1) := dk_42 (dk_at dksX5_init_2 8 rfl rfl)
theorem dX5_init_54 : decode cX5_init 54 = .ok (.bipush 40, 2) := dk_16 40 (dk_at dksX5_init_2 9 rfl rfl)
theorem dX5_init_56 : decode cX5_init 56 = .ok (.newarray .char, 2) := dk_188_5 (dk_at dksX5_init_2 11 rfl rfl)
theorem dX5_init_58 : decode cX5_init 58 = .ok (.putfield 29, 3) := dk_181 0 29 (dk_at dksX5_init_2 13 rfl rfl)
theorem dX5_init_61 : decode cX5_init 61 = .ok (.aload_n 0, 1) := dk_42 (dk_at dksX5_init_2 16 rfl rfl)
theorem dX5_init_62 : decode cX5_init 62 = .ok (.bipush 30, 2) := dk_16 30 (dk_at dksX5_init_2 17 rfl rfl)
theorem dX5_init_64 : decode cX5_init 64 = .ok (.newarray .int, 2) := dk_188_10 (dk_at dksX5_init_2 19 rfl rfl)
theorem dX5_init_66 : decode cX5_init 66 = .ok (.putfield 33, 3) := dk_181 0 33 (dk_at dksX5_init_2 21 rfl rfl)
theorem dX5_init_69 : decode cX5_init 69 = .ok (.aload_n 0, 1) := dk_42 (dk_at dksX5_init_3 0 rfl rfl)
theorem dX5_init_70 : decode cX5_init 70 = .ok (.bipush 124, 2) := dk_16 124 (dk_at dksX5_init_3 1 rfl rfl)
theorem dX5_init_72 : decode cX5_init 72 = .ok (.newarray .int, 2) := dk_188_10 (dk_at dksX5_init_3 3 rfl rfl)
theorem dX5_init_74 : decode cX5_init 74 = .ok (.putfield 36, 3) := dk_181 0 36 (dk_at dksX5_init_3 5 rfl rfl)
theorem dX5_init_77 : decode cX5_init 77 = .ok (.return_, 1) := dk_177 (dk_at dksX5_init_3 8 rfl rfl)
abbrev cX5_thrown : ByteArray := prog_12_method_2_code
def yX5_thrown : MethodName := ⟨RX5, "thrown", "()I"⟩
theorem dX5_thrown_0 : decode cX5_thrown 0 = .ok (.aload_n 0, 1) := by decide +kernel
theorem dX5_thrown_1 : decode cX5_thrown 1 = .ok (.getfield 39, 3) := by decide +kernel
theorem dX5_thrown_4 : decode cX5_thrown 4 = .ok (.ireturn, 1) := by decide +kernel
abbrev cX5_define : ByteArray := prog_12_method_19_code
def yX5_define : MethodName := ⟨RX5, "define", "(CCI)I"⟩
def dkwX5_define_4 : List UInt8 := [182, 0, 94, 172]
abbrev dktX5_define_4 : List UInt8 := dkwX5_define_4 ++ []
def dkwX5_define_3 : List UInt8 := [182, 0, 90, 42, 27, 16, 97, 100, 4, 29, 182, 0, 90, 42, 27, 16, 97, 100, 5, 3, 182, 0, 90, 42]
abbrev dktX5_define_3 : List UInt8 := dkwX5_define_3 ++ dktX5_define_4
def dkwX5_define_2 : List UInt8 := [182, 0, 83, 153, 0, 5, 3, 172, 42, 42, 180, 0, 7, 182, 0, 86, 42, 27, 16, 97, 100, 3, 28]
abbrev dktX5_define_2 : List UInt8 := dkwX5_define_2 ++ dktX5_define_3
def dkwX5_define_1 : List UInt8 := [154, 0, 7, 4, 167, 0, 19, 42, 27, 16, 97, 100, 182, 0, 73, 153, 0, 7, 5, 167, 0, 4, 3]
abbrev dktX5_define_1 : List UInt8 := dkwX5_define_1 ++ dktX5_define_2
def dkwX5_define_0 : List UInt8 := [42, 27, 184, 0, 77, 153, 0, 20, 28, 184, 0, 80, 153, 0, 13, 29, 4, 16, 20, 184, 0, 65]
abbrev dktX5_define_0 : List UInt8 := dkwX5_define_0 ++ dktX5_define_1
theorem dksX5_define_0 : cX5_define.data.toList.drop 0 = dktX5_define_0 := by decide +kernel
theorem dksX5_define_1 : cX5_define.data.toList.drop 22 = dktX5_define_1 := dk_seg dksX5_define_0 22 rfl rfl
theorem dksX5_define_2 : cX5_define.data.toList.drop 45 = dktX5_define_2 := dk_seg dksX5_define_1 23 rfl rfl
theorem dksX5_define_3 : cX5_define.data.toList.drop 68 = dktX5_define_3 := dk_seg dksX5_define_2 23 rfl rfl
theorem dksX5_define_4 : cX5_define.data.toList.drop 92 = dktX5_define_4 := dk_seg dksX5_define_3 24 rfl rfl
theorem dX5_define_0 : decode cX5_define 0 = .ok (.aload_n 0, 1) := dk_42 (dk_at dksX5_define_0 0 rfl rfl)
theorem dX5_define_1 : decode cX5_define 1 = .ok (.iload_n 1, 1) := dk_27 (dk_at dksX5_define_0 1 rfl rfl)
theorem dX5_define_2 : decode cX5_define 2 = .ok (.invokestatic 77, 3) := dk_184 0 77 (dk_at dksX5_define_0 2 rfl rfl)
theorem dX5_define_5 : decode cX5_define 5 = .ok (.ifCond .eq 20, 3) := dk_153 0 20 (dk_at dksX5_define_0 5 rfl rfl)
theorem dX5_define_8 : decode cX5_define 8 = .ok (.iload_n 2, 1) := dk_28 (dk_at dksX5_define_0 8 rfl rfl)
theorem dX5_define_9 : decode cX5_define 9 = .ok (.invokestatic 80, 3) := dk_184 0 80 (dk_at dksX5_define_0 9 rfl rfl)
theorem dX5_define_12 : decode cX5_define 12 = .ok (.ifCond .eq 13, 3) := dk_153 0 13 (dk_at dksX5_define_0 12 rfl rfl)
theorem dX5_define_15 : decode cX5_define 15 = .ok (.iload_n 3, 1) := dk_29 (dk_at dksX5_define_0 15 rfl rfl)
theorem dX5_define_16 : decode cX5_define 16 = .ok (.iconst 1, 1) := dk_4 (dk_at dksX5_define_0 16 rfl rfl)
theorem dX5_define_17 : decode cX5_define 17 = .ok (.bipush 20, 2) := dk_16 20 (dk_at dksX5_define_0 17 rfl rfl)
theorem dX5_define_19 : decode cX5_define 19 = .ok (.invokestatic 65, 3) := dk_184 0 65 (dk_at dksX5_define_0 19 rfl rfl)
theorem dX5_define_22 : decode cX5_define 22 = .ok (.ifCond .ne 7, 3) := dk_154 0 7 (dk_at dksX5_define_1 0 rfl rfl)
theorem dX5_define_25 : decode cX5_define 25 = .ok (.iconst 1, 1) := dk_4 (dk_at dksX5_define_1 3 rfl rfl)
theorem dX5_define_26 : decode cX5_define 26 = .ok (.goto 19, 3) := dk_167 0 19 (dk_at dksX5_define_1 4 rfl rfl)
theorem dX5_define_29 : decode cX5_define 29 = .ok (.aload_n 0, 1) := dk_42 (dk_at dksX5_define_1 7 rfl rfl)
theorem dX5_define_30 : decode cX5_define 30 = .ok (.iload_n 1, 1) := dk_27 (dk_at dksX5_define_1 8 rfl rfl)
theorem dX5_define_31 : decode cX5_define 31 = .ok (.bipush 97, 2) := dk_16 97 (dk_at dksX5_define_1 9 rfl rfl)
theorem dX5_define_33 : decode cX5_define 33 = .ok (.isub, 1) := dk_100 (dk_at dksX5_define_1 11 rfl rfl)
theorem dX5_define_34 : decode cX5_define 34 = .ok (.invokevirtual 73, 3) := dk_182 0 73 (dk_at dksX5_define_1 12 rfl rfl)
theorem dX5_define_37 : decode cX5_define 37 = .ok (.ifCond .eq 7, 3) := dk_153 0 7 (dk_at dksX5_define_1 15 rfl rfl)
theorem dX5_define_40 : decode cX5_define 40 = .ok (.iconst 2, 1) := dk_5 (dk_at dksX5_define_1 18 rfl rfl)
theorem dX5_define_41 : decode cX5_define 41 = .ok (.goto 4, 3) := dk_167 0 4 (dk_at dksX5_define_1 19 rfl rfl)
theorem dX5_define_44 : decode cX5_define 44 = .ok (.iconst 0, 1) := dk_3 (dk_at dksX5_define_1 22 rfl rfl)
theorem dX5_define_45 : decode cX5_define 45 = .ok (.invokevirtual 83, 3) := dk_182 0 83 (dk_at dksX5_define_2 0 rfl rfl)
theorem dX5_define_48 : decode cX5_define 48 = .ok (.ifCond .eq 5, 3) := dk_153 0 5 (dk_at dksX5_define_2 3 rfl rfl)
theorem dX5_define_51 : decode cX5_define 51 = .ok (.iconst 0, 1) := dk_3 (dk_at dksX5_define_2 6 rfl rfl)
theorem dX5_define_52 : decode cX5_define 52 = .ok (.ireturn, 1) := dk_172 (dk_at dksX5_define_2 7 rfl rfl)
theorem dX5_define_53 : decode cX5_define 53 = .ok (.aload_n 0, 1) := dk_42 (dk_at dksX5_define_2 8 rfl rfl)
theorem dX5_define_54 : decode cX5_define 54 = .ok (.aload_n 0, 1) := dk_42 (dk_at dksX5_define_2 9 rfl rfl)
theorem dX5_define_55 : decode cX5_define 55 = .ok (.getfield 7, 3) := dk_180 0 7 (dk_at dksX5_define_2 10 rfl rfl)
theorem dX5_define_58 : decode cX5_define 58 = .ok (.invokevirtual 86, 3) := dk_182 0 86 (dk_at dksX5_define_2 13 rfl rfl)
theorem dX5_define_61 : decode cX5_define 61 = .ok (.aload_n 0, 1) := dk_42 (dk_at dksX5_define_2 16 rfl rfl)
theorem dX5_define_62 : decode cX5_define 62 = .ok (.iload_n 1, 1) := dk_27 (dk_at dksX5_define_2 17 rfl rfl)
theorem dX5_define_63 : decode cX5_define 63 = .ok (.bipush 97, 2) := dk_16 97 (dk_at dksX5_define_2 18 rfl rfl)
theorem dX5_define_65 : decode cX5_define 65 = .ok (.isub, 1) := dk_100 (dk_at dksX5_define_2 20 rfl rfl)
theorem dX5_define_66 : decode cX5_define 66 = .ok (.iconst 0, 1) := dk_3 (dk_at dksX5_define_2 21 rfl rfl)
theorem dX5_define_67 : decode cX5_define 67 = .ok (.iload_n 2, 1) := dk_28 (dk_at dksX5_define_2 22 rfl rfl)
theorem dX5_define_68 : decode cX5_define 68 = .ok (.invokevirtual 90, 3) := dk_182 0 90 (dk_at dksX5_define_3 0 rfl rfl)
theorem dX5_define_71 : decode cX5_define 71 = .ok (.aload_n 0, 1) := dk_42 (dk_at dksX5_define_3 3 rfl rfl)
theorem dX5_define_72 : decode cX5_define 72 = .ok (.iload_n 1, 1) := dk_27 (dk_at dksX5_define_3 4 rfl rfl)
theorem dX5_define_73 : decode cX5_define 73 = .ok (.bipush 97, 2) := dk_16 97 (dk_at dksX5_define_3 5 rfl rfl)
theorem dX5_define_75 : decode cX5_define 75 = .ok (.isub, 1) := dk_100 (dk_at dksX5_define_3 7 rfl rfl)
theorem dX5_define_76 : decode cX5_define 76 = .ok (.iconst 1, 1) := dk_4 (dk_at dksX5_define_3 8 rfl rfl)
theorem dX5_define_77 : decode cX5_define 77 = .ok (.iload_n 3, 1) := dk_29 (dk_at dksX5_define_3 9 rfl rfl)
theorem dX5_define_78 : decode cX5_define 78 = .ok (.invokevirtual 90, 3) := dk_182 0 90 (dk_at dksX5_define_3 10 rfl rfl)
theorem dX5_define_81 : decode cX5_define 81 = .ok (.aload_n 0, 1) := dk_42 (dk_at dksX5_define_3 13 rfl rfl)
theorem dX5_define_82 : decode cX5_define 82 = .ok (.iload_n 1, 1) := dk_27 (dk_at dksX5_define_3 14 rfl rfl)
theorem dX5_define_83 : decode cX5_define 83 = .ok (.bipush 97, 2) := dk_16 97 (dk_at dksX5_define_3 15 rfl rfl)
theorem dX5_define_85 : decode cX5_define 85 = .ok (.isub, 1) := dk_100 (dk_at dksX5_define_3 17 rfl rfl)
theorem dX5_define_86 : decode cX5_define 86 = .ok (.iconst 2, 1) := dk_5 (dk_at dksX5_define_3 18 rfl rfl)
theorem dX5_define_87 : decode cX5_define 87 = .ok (.iconst 0, 1) := dk_3 (dk_at dksX5_define_3 19 rfl rfl)
theorem dX5_define_88 : decode cX5_define 88 = .ok (.invokevirtual 90, 3) := dk_182 0 90 (dk_at dksX5_define_3 20 rfl rfl)
theorem dX5_define_91 : decode cX5_define 91 = .ok (.aload_n 0, 1) := dk_42 (dk_at dksX5_define_3 23 rfl rfl)
theorem dX5_define_92 : decode cX5_define 92 = .ok (.invokevirtual 94, 3) := dk_182 0 94 (dk_at dksX5_define_4 0 rfl rfl)
theorem dX5_define_95 : decode cX5_define 95 = .ok (.ireturn, 1) := dk_172 (dk_at dksX5_define_4 3 rfl rfl)
abbrev cX5_isTool : ByteArray := prog_12_method_9_code
def yX5_isTool : MethodName := ⟨RX5, "isTool", "(I)Z"⟩
def dkwX5_isTool_0 : List UInt8 := [26, 16, 97, 16, 104, 184, 0, 65, 172]
abbrev dktX5_isTool_0 : List UInt8 := dkwX5_isTool_0 ++ []
theorem dksX5_isTool_0 : cX5_isTool.data.toList.drop 0 = dktX5_isTool_0 := by decide +kernel
theorem dX5_isTool_0 : decode cX5_isTool 0 = .ok (.iload_n 0, 1) := dk_26 (dk_at dksX5_isTool_0 0 rfl rfl)
theorem dX5_isTool_1 : decode cX5_isTool 1 = .ok (.bipush 97, 2) := dk_16 97 (dk_at dksX5_isTool_0 1 rfl rfl)
theorem dX5_isTool_3 : decode cX5_isTool 3 = .ok (.bipush 104, 2) := dk_16 104 (dk_at dksX5_isTool_0 3 rfl rfl)
theorem dX5_isTool_5 : decode cX5_isTool 5 = .ok (.invokestatic 65, 3) := dk_184 0 65 (dk_at dksX5_isTool_0 5 rfl rfl)
theorem dX5_isTool_8 : decode cX5_isTool 8 = .ok (.ireturn, 1) := dk_172 (dk_at dksX5_isTool_0 8 rfl rfl)
abbrev cX5_in : ByteArray := prog_12_method_5_code
def yX5_in : MethodName := ⟨RX5, "in", "(III)Z"⟩
def dkwX5_in_0 : List UInt8 := [26, 27, 161, 0, 12, 26, 28, 163, 0, 7, 4, 167, 0, 4, 3, 172]
abbrev dktX5_in_0 : List UInt8 := dkwX5_in_0 ++ []
theorem dksX5_in_0 : cX5_in.data.toList.drop 0 = dktX5_in_0 := by decide +kernel
theorem dX5_in_0 : decode cX5_in 0 = .ok (.iload_n 0, 1) := dk_26 (dk_at dksX5_in_0 0 rfl rfl)
theorem dX5_in_1 : decode cX5_in 1 = .ok (.iload_n 1, 1) := dk_27 (dk_at dksX5_in_0 1 rfl rfl)
theorem dX5_in_2 : decode cX5_in 2 = .ok (.if_icmp .lt 12, 3) := dk_161 0 12 (dk_at dksX5_in_0 2 rfl rfl)
theorem dX5_in_5 : decode cX5_in 5 = .ok (.iload_n 0, 1) := dk_26 (dk_at dksX5_in_0 5 rfl rfl)
theorem dX5_in_6 : decode cX5_in 6 = .ok (.iload_n 2, 1) := dk_28 (dk_at dksX5_in_0 6 rfl rfl)
theorem dX5_in_7 : decode cX5_in 7 = .ok (.if_icmp .gt 7, 3) := dk_163 0 7 (dk_at dksX5_in_0 7 rfl rfl)
theorem dX5_in_10 : decode cX5_in 10 = .ok (.iconst 1, 1) := dk_4 (dk_at dksX5_in_0 10 rfl rfl)
theorem dX5_in_11 : decode cX5_in 11 = .ok (.goto 4, 3) := dk_167 0 4 (dk_at dksX5_in_0 11 rfl rfl)
theorem dX5_in_14 : decode cX5_in 14 = .ok (.iconst 0, 1) := dk_3 (dk_at dksX5_in_0 14 rfl rfl)
theorem dX5_in_15 : decode cX5_in 15 = .ok (.ireturn, 1) := dk_172 (dk_at dksX5_in_0 15 rfl rfl)
abbrev cX5_isScope : ByteArray := prog_12_method_10_code
def yX5_isScope : MethodName := ⟨RX5, "isScope", "(I)Z"⟩
def dkwX5_isScope_0 : List UInt8 := [26, 16, 115, 159, 0, 15, 26, 16, 116, 159, 0, 9, 26, 16, 101, 160, 0, 7, 4, 167, 0, 4, 3, 172]
abbrev dktX5_isScope_0 : List UInt8 := dkwX5_isScope_0 ++ []
theorem dksX5_isScope_0 : cX5_isScope.data.toList.drop 0 = dktX5_isScope_0 := by decide +kernel
theorem dX5_isScope_0 : decode cX5_isScope 0 = .ok (.iload_n 0, 1) := dk_26 (dk_at dksX5_isScope_0 0 rfl rfl)
theorem dX5_isScope_1 : decode cX5_isScope 1 = .ok (.bipush 115, 2) := dk_16 115 (dk_at dksX5_isScope_0 1 rfl rfl)
theorem dX5_isScope_3 : decode cX5_isScope 3 = .ok (.if_icmp .eq 15, 3) := dk_159 0 15 (dk_at dksX5_isScope_0 3 rfl rfl)
theorem dX5_isScope_6 : decode cX5_isScope 6 = .ok (.iload_n 0, 1) := dk_26 (dk_at dksX5_isScope_0 6 rfl rfl)
theorem dX5_isScope_7 : decode cX5_isScope 7 = .ok (.bipush 116, 2) := dk_16 116 (dk_at dksX5_isScope_0 7 rfl rfl)
theorem dX5_isScope_9 : decode cX5_isScope 9 = .ok (.if_icmp .eq 9, 3) := dk_159 0 9 (dk_at dksX5_isScope_0 9 rfl rfl)
theorem dX5_isScope_12 : decode cX5_isScope 12 = .ok (.iload_n 0, 1) := dk_26 (dk_at dksX5_isScope_0 12 rfl rfl)
theorem dX5_isScope_13 : decode cX5_isScope 13 = .ok (.bipush 101, 2) := dk_16 101 (dk_at dksX5_isScope_0 13 rfl rfl)
theorem dX5_isScope_15 : decode cX5_isScope 15 = .ok (.if_icmp .ne 7, 3) := dk_160 0 7 (dk_at dksX5_isScope_0 15 rfl rfl)
theorem dX5_isScope_18 : decode cX5_isScope 18 = .ok (.iconst 1, 1) := dk_4 (dk_at dksX5_isScope_0 18 rfl rfl)
theorem dX5_isScope_19 : decode cX5_isScope 19 = .ok (.goto 4, 3) := dk_167 0 4 (dk_at dksX5_isScope_0 19 rfl rfl)
theorem dX5_isScope_22 : decode cX5_isScope 22 = .ok (.iconst 0, 1) := dk_3 (dk_at dksX5_isScope_0 22 rfl rfl)
theorem dX5_isScope_23 : decode cX5_isScope 23 = .ok (.ireturn, 1) := dk_172 (dk_at dksX5_isScope_0 23 rfl rfl)
abbrev cX5_has : ByteArray := prog_12_method_14_code
def yX5_has : MethodName := ⟨RX5, "has", "(I)Z"⟩
def dkwX5_has_0 : List UInt8 := [42, 27, 3, 182, 0, 69, 153, 0, 7, 4, 167, 0, 4, 3, 172]
abbrev dktX5_has_0 : List UInt8 := dkwX5_has_0 ++ []
theorem dksX5_has_0 : cX5_has.data.toList.drop 0 = dktX5_has_0 := by decide +kernel
theorem dX5_has_0 : decode cX5_has 0 = .ok (.aload_n 0, 1) := dk_42 (dk_at dksX5_has_0 0 rfl rfl)
theorem dX5_has_1 : decode cX5_has 1 = .ok (.iload_n 1, 1) := dk_27 (dk_at dksX5_has_0 1 rfl rfl)
theorem dX5_has_2 : decode cX5_has 2 = .ok (.iconst 0, 1) := dk_3 (dk_at dksX5_has_0 2 rfl rfl)
theorem dX5_has_3 : decode cX5_has 3 = .ok (.invokevirtual 69, 3) := dk_182 0 69 (dk_at dksX5_has_0 3 rfl rfl)
theorem dX5_has_6 : decode cX5_has 6 = .ok (.ifCond .eq 7, 3) := dk_153 0 7 (dk_at dksX5_has_0 6 rfl rfl)
theorem dX5_has_9 : decode cX5_has 9 = .ok (.iconst 1, 1) := dk_4 (dk_at dksX5_has_0 9 rfl rfl)
theorem dX5_has_10 : decode cX5_has 10 = .ok (.goto 4, 3) := dk_167 0 4 (dk_at dksX5_has_0 10 rfl rfl)
theorem dX5_has_13 : decode cX5_has 13 = .ok (.iconst 0, 1) := dk_3 (dk_at dksX5_has_0 13 rfl rfl)
theorem dX5_has_14 : decode cX5_has 14 = .ok (.ireturn, 1) := dk_172 (dk_at dksX5_has_0 14 rfl rfl)
abbrev cX5_of : ByteArray := prog_12_method_12_code
def yX5_of : MethodName := ⟨RX5, "of", "(II)I"⟩
def dkwX5_of_0 : List UInt8 := [42, 180, 0, 7, 8, 16, 7, 27, 104, 96, 28, 96, 46, 172]
abbrev dktX5_of_0 : List UInt8 := dkwX5_of_0 ++ []
theorem dksX5_of_0 : cX5_of.data.toList.drop 0 = dktX5_of_0 := by decide +kernel
theorem dX5_of_0 : decode cX5_of 0 = .ok (.aload_n 0, 1) := dk_42 (dk_at dksX5_of_0 0 rfl rfl)
theorem dX5_of_1 : decode cX5_of 1 = .ok (.getfield 7, 3) := dk_180 0 7 (dk_at dksX5_of_0 1 rfl rfl)
theorem dX5_of_4 : decode cX5_of 4 = .ok (.iconst 5, 1) := dk_8 (dk_at dksX5_of_0 4 rfl rfl)
theorem dX5_of_5 : decode cX5_of 5 = .ok (.bipush 7, 2) := dk_16 7 (dk_at dksX5_of_0 5 rfl rfl)
theorem dX5_of_7 : decode cX5_of 7 = .ok (.iload_n 1, 1) := dk_27 (dk_at dksX5_of_0 7 rfl rfl)
theorem dX5_of_8 : decode cX5_of 8 = .ok (.imul, 1) := dk_104 (dk_at dksX5_of_0 8 rfl rfl)
theorem dX5_of_9 : decode cX5_of 9 = .ok (.iadd, 1) := dk_96 (dk_at dksX5_of_0 9 rfl rfl)
theorem dX5_of_10 : decode cX5_of 10 = .ok (.iload_n 2, 1) := dk_28 (dk_at dksX5_of_0 10 rfl rfl)
theorem dX5_of_11 : decode cX5_of 11 = .ok (.iadd, 1) := dk_96 (dk_at dksX5_of_0 11 rfl rfl)
theorem dX5_of_12 : decode cX5_of 12 = .ok (.iaload, 1) := dk_46 (dk_at dksX5_of_0 12 rfl rfl)
theorem dX5_of_13 : decode cX5_of 13 = .ok (.ireturn, 1) := dk_172 (dk_at dksX5_of_0 13 rfl rfl)
abbrev cX5_fails : ByteArray := prog_12_method_3_code
def yX5_fails : MethodName := ⟨RX5, "fails", "(I)Z"⟩
def dkwX5_fails_0 : List UInt8 := [42, 27, 181, 0, 39, 42, 3, 181, 0, 42, 27, 158, 0, 7, 4, 167, 0, 4, 3, 172]
abbrev dktX5_fails_0 : List UInt8 := dkwX5_fails_0 ++ []
theorem dksX5_fails_0 : cX5_fails.data.toList.drop 0 = dktX5_fails_0 := by decide +kernel
theorem dX5_fails_0 : decode cX5_fails 0 = .ok (.aload_n 0, 1) := dk_42 (dk_at dksX5_fails_0 0 rfl rfl)
theorem dX5_fails_1 : decode cX5_fails 1 = .ok (.iload_n 1, 1) := dk_27 (dk_at dksX5_fails_0 1 rfl rfl)
theorem dX5_fails_2 : decode cX5_fails 2 = .ok (.putfield 39, 3) := dk_181 0 39 (dk_at dksX5_fails_0 2 rfl rfl)
theorem dX5_fails_5 : decode cX5_fails 5 = .ok (.aload_n 0, 1) := dk_42 (dk_at dksX5_fails_0 5 rfl rfl)
theorem dX5_fails_6 : decode cX5_fails 6 = .ok (.iconst 0, 1) := dk_3 (dk_at dksX5_fails_0 6 rfl rfl)
theorem dX5_fails_7 : decode cX5_fails 7 = .ok (.putfield 42, 3) := dk_181 0 42 (dk_at dksX5_fails_0 7 rfl rfl)
theorem dX5_fails_10 : decode cX5_fails 10 = .ok (.iload_n 1, 1) := dk_27 (dk_at dksX5_fails_0 10 rfl rfl)
theorem dX5_fails_11 : decode cX5_fails 11 = .ok (.ifCond .le 7, 3) := dk_158 0 7 (dk_at dksX5_fails_0 11 rfl rfl)
theorem dX5_fails_14 : decode cX5_fails 14 = .ok (.iconst 1, 1) := dk_4 (dk_at dksX5_fails_0 14 rfl rfl)
theorem dX5_fails_15 : decode cX5_fails 15 = .ok (.goto 4, 3) := dk_167 0 4 (dk_at dksX5_fails_0 15 rfl rfl)
theorem dX5_fails_18 : decode cX5_fails 18 = .ok (.iconst 0, 1) := dk_3 (dk_at dksX5_fails_0 18 rfl rfl)
theorem dX5_fails_19 : decode cX5_fails 19 = .ok (.ireturn, 1) := dk_172 (dk_at dksX5_fails_0 19 rfl rfl)
abbrev cX5_keeps : ByteArray := prog_12_method_8_code
def yX5_keeps : MethodName := ⟨RX5, "keeps", "([I)V"⟩
def dkwX5_keeps_3 : List UInt8 := [17, 2, 149, 42, 180, 0, 58, 104, 184, 0, 61, 42, 89, 180, 0, 58, 4, 96, 181, 0, 58, 177]
abbrev dktX5_keeps_3 : List UInt8 := dkwX5_keeps_3 ++ []
def dkwX5_keeps_2 : List UInt8 := [132, 2, 1, 167, 255, 230, 42, 89, 180, 0, 58, 4, 100, 181, 0, 58, 43, 3, 42, 180, 0, 13]
abbrev dktX5_keeps_2 : List UInt8 := dkwX5_keeps_2 ++ dktX5_keeps_3
def dkwX5_keeps_1 : List UInt8 := [28, 17, 18, 19, 162, 0, 25, 42, 180, 0, 13, 28, 42, 180, 0, 13, 28, 17, 2, 149, 96, 46, 79]
abbrev dktX5_keeps_1 : List UInt8 := dkwX5_keeps_1 ++ dktX5_keeps_2
def dkwX5_keeps_0 : List UInt8 := [42, 3, 181, 0, 39, 42, 180, 0, 55, 153, 0, 4, 177, 42, 180, 0, 58, 16, 8, 160, 0, 44, 3, 61]
abbrev dktX5_keeps_0 : List UInt8 := dkwX5_keeps_0 ++ dktX5_keeps_1
theorem dksX5_keeps_0 : cX5_keeps.data.toList.drop 0 = dktX5_keeps_0 := by decide +kernel
theorem dksX5_keeps_1 : cX5_keeps.data.toList.drop 24 = dktX5_keeps_1 := dk_seg dksX5_keeps_0 24 rfl rfl
theorem dksX5_keeps_2 : cX5_keeps.data.toList.drop 47 = dktX5_keeps_2 := dk_seg dksX5_keeps_1 23 rfl rfl
theorem dksX5_keeps_3 : cX5_keeps.data.toList.drop 69 = dktX5_keeps_3 := dk_seg dksX5_keeps_2 22 rfl rfl
theorem dX5_keeps_0 : decode cX5_keeps 0 = .ok (.aload_n 0, 1) := dk_42 (dk_at dksX5_keeps_0 0 rfl rfl)
theorem dX5_keeps_1 : decode cX5_keeps 1 = .ok (.iconst 0, 1) := dk_3 (dk_at dksX5_keeps_0 1 rfl rfl)
theorem dX5_keeps_2 : decode cX5_keeps 2 = .ok (.putfield 39, 3) := dk_181 0 39 (dk_at dksX5_keeps_0 2 rfl rfl)
theorem dX5_keeps_5 : decode cX5_keeps 5 = .ok (.aload_n 0, 1) := dk_42 (dk_at dksX5_keeps_0 5 rfl rfl)
theorem dX5_keeps_6 : decode cX5_keeps 6 = .ok (.getfield 55, 3) := dk_180 0 55 (dk_at dksX5_keeps_0 6 rfl rfl)
theorem dX5_keeps_9 : decode cX5_keeps 9 = .ok (.ifCond .eq 4, 3) := dk_153 0 4 (dk_at dksX5_keeps_0 9 rfl rfl)
theorem dX5_keeps_12 : decode cX5_keeps 12 = .ok (.return_, 1) := dk_177 (dk_at dksX5_keeps_0 12 rfl rfl)
theorem dX5_keeps_13 : decode cX5_keeps 13 = .ok (.aload_n 0, 1) := dk_42 (dk_at dksX5_keeps_0 13 rfl rfl)
theorem dX5_keeps_14 : decode cX5_keeps 14 = .ok (.getfield 58, 3) := dk_180 0 58 (dk_at dksX5_keeps_0 14 rfl rfl)
theorem dX5_keeps_17 : decode cX5_keeps 17 = .ok (.bipush 8, 2) := dk_16 8 (dk_at dksX5_keeps_0 17 rfl rfl)
theorem dX5_keeps_19 : decode cX5_keeps 19 = .ok (.if_icmp .ne 44, 3) := dk_160 0 44 (dk_at dksX5_keeps_0 19 rfl rfl)
theorem dX5_keeps_22 : decode cX5_keeps 22 = .ok (.iconst 0, 1) := dk_3 (dk_at dksX5_keeps_0 22 rfl rfl)
theorem dX5_keeps_23 : decode cX5_keeps 23 = .ok (.istore_n 2, 1) := dk_61 (dk_at dksX5_keeps_0 23 rfl rfl)
theorem dX5_keeps_24 : decode cX5_keeps 24 = .ok (.iload_n 2, 1) := dk_28 (dk_at dksX5_keeps_1 0 rfl rfl)
theorem dX5_keeps_25 : decode cX5_keeps 25 = .ok (.sipush 4627, 3) := dk_17 18 19 (dk_at dksX5_keeps_1 1 rfl rfl)
theorem dX5_keeps_28 : decode cX5_keeps 28 = .ok (.if_icmp .ge 25, 3) := dk_162 0 25 (dk_at dksX5_keeps_1 4 rfl rfl)
theorem dX5_keeps_31 : decode cX5_keeps 31 = .ok (.aload_n 0, 1) := dk_42 (dk_at dksX5_keeps_1 7 rfl rfl)
theorem dX5_keeps_32 : decode cX5_keeps 32 = .ok (.getfield 13, 3) := dk_180 0 13 (dk_at dksX5_keeps_1 8 rfl rfl)
theorem dX5_keeps_35 : decode cX5_keeps 35 = .ok (.iload_n 2, 1) := dk_28 (dk_at dksX5_keeps_1 11 rfl rfl)
theorem dX5_keeps_36 : decode cX5_keeps 36 = .ok (.aload_n 0, 1) := dk_42 (dk_at dksX5_keeps_1 12 rfl rfl)
theorem dX5_keeps_37 : decode cX5_keeps 37 = .ok (.getfield 13, 3) := dk_180 0 13 (dk_at dksX5_keeps_1 13 rfl rfl)
theorem dX5_keeps_40 : decode cX5_keeps 40 = .ok (.iload_n 2, 1) := dk_28 (dk_at dksX5_keeps_1 16 rfl rfl)
theorem dX5_keeps_41 : decode cX5_keeps 41 = .ok (.sipush 661, 3) := dk_17 2 149 (dk_at dksX5_keeps_1 17 rfl rfl)
theorem dX5_keeps_44 : decode cX5_keeps 44 = .ok (.iadd, 1) := dk_96 (dk_at dksX5_keeps_1 20 rfl rfl)
theorem dX5_keeps_45 : decode cX5_keeps 45 = .ok (.iaload, 1) := dk_46 (dk_at dksX5_keeps_1 21 rfl rfl)
theorem dX5_keeps_46 : decode cX5_keeps 46 = .ok (.iastore, 1) := dk_79 (dk_at dksX5_keeps_1 22 rfl rfl)
theorem dX5_keeps_47 : decode cX5_keeps 47 = .ok (.iinc 2 1, 3) := dk_132 2 1 (dk_at dksX5_keeps_2 0 rfl rfl)
theorem dX5_keeps_50 : decode cX5_keeps 50 = .ok (.goto (-26), 3) := dk_167 255 230 (dk_at dksX5_keeps_2 3 rfl rfl)
theorem dX5_keeps_53 : decode cX5_keeps 53 = .ok (.aload_n 0, 1) := dk_42 (dk_at dksX5_keeps_2 6 rfl rfl)
theorem dX5_keeps_54 : decode cX5_keeps 54 = .ok (.dup, 1) := dk_89 (dk_at dksX5_keeps_2 7 rfl rfl)
theorem dX5_keeps_55 : decode cX5_keeps 55 = .ok (.getfield 58, 3) := dk_180 0 58 (dk_at dksX5_keeps_2 8 rfl rfl)
theorem dX5_keeps_58 : decode cX5_keeps 58 = .ok (.iconst 1, 1) := dk_4 (dk_at dksX5_keeps_2 11 rfl rfl)
theorem dX5_keeps_59 : decode cX5_keeps 59 = .ok (.isub, 1) := dk_100 (dk_at dksX5_keeps_2 12 rfl rfl)
theorem dX5_keeps_60 : decode cX5_keeps 60 = .ok (.putfield 58, 3) := dk_181 0 58 (dk_at dksX5_keeps_2 13 rfl rfl)
theorem dX5_keeps_63 : decode cX5_keeps 63 = .ok (.aload_n 1, 1) := dk_43 (dk_at dksX5_keeps_2 16 rfl rfl)
theorem dX5_keeps_64 : decode cX5_keeps 64 = .ok (.iconst 0, 1) := dk_3 (dk_at dksX5_keeps_2 17 rfl rfl)
theorem dX5_keeps_65 : decode cX5_keeps 65 = .ok (.aload_n 0, 1) := dk_42 (dk_at dksX5_keeps_2 18 rfl rfl)
theorem dX5_keeps_66 : decode cX5_keeps 66 = .ok (.getfield 13, 3) := dk_180 0 13 (dk_at dksX5_keeps_2 19 rfl rfl)
theorem dX5_keeps_69 : decode cX5_keeps 69 = .ok (.sipush 661, 3) := dk_17 2 149 (dk_at dksX5_keeps_3 0 rfl rfl)
theorem dX5_keeps_72 : decode cX5_keeps 72 = .ok (.aload_n 0, 1) := dk_42 (dk_at dksX5_keeps_3 3 rfl rfl)
theorem dX5_keeps_73 : decode cX5_keeps 73 = .ok (.getfield 58, 3) := dk_180 0 58 (dk_at dksX5_keeps_3 4 rfl rfl)
theorem dX5_keeps_76 : decode cX5_keeps 76 = .ok (.imul, 1) := dk_104 (dk_at dksX5_keeps_3 7 rfl rfl)
theorem dX5_keeps_77 : decode cX5_keeps 77 = .ok (.invokestatic 61, 3) := dk_184 0 61 (dk_at dksX5_keeps_3 8 rfl rfl)
theorem dX5_keeps_80 : decode cX5_keeps 80 = .ok (.aload_n 0, 1) := dk_42 (dk_at dksX5_keeps_3 11 rfl rfl)
theorem dX5_keeps_81 : decode cX5_keeps 81 = .ok (.dup, 1) := dk_89 (dk_at dksX5_keeps_3 12 rfl rfl)
theorem dX5_keeps_82 : decode cX5_keeps 82 = .ok (.getfield 58, 3) := dk_180 0 58 (dk_at dksX5_keeps_3 13 rfl rfl)
theorem dX5_keeps_85 : decode cX5_keeps 85 = .ok (.iconst 1, 1) := dk_4 (dk_at dksX5_keeps_3 16 rfl rfl)
theorem dX5_keeps_86 : decode cX5_keeps 86 = .ok (.iadd, 1) := dk_96 (dk_at dksX5_keeps_3 17 rfl rfl)
theorem dX5_keeps_87 : decode cX5_keeps 87 = .ok (.putfield 58, 3) := dk_181 0 58 (dk_at dksX5_keeps_3 18 rfl rfl)
theorem dX5_keeps_90 : decode cX5_keeps 90 = .ok (.return_, 1) := dk_177 (dk_at dksX5_keeps_3 21 rfl rfl)
abbrev cX5_copies : ByteArray := prog_12_method_7_code
def yX5_copies : MethodName := ⟨RX5, "copies", "([II[II)V"⟩
def dkwX5_copies_1 : List UInt8 := [132, 4, 1, 167, 255, 233, 177]
abbrev dktX5_copies_1 : List UInt8 := dkwX5_copies_1 ++ []
def dkwX5_copies_0 : List UInt8 := [3, 54, 4, 21, 4, 17, 2, 149, 162, 0, 21, 44, 29, 21, 4, 96, 42, 27, 21, 4, 96, 46, 79]
abbrev dktX5_copies_0 : List UInt8 := dkwX5_copies_0 ++ dktX5_copies_1
theorem dksX5_copies_0 : cX5_copies.data.toList.drop 0 = dktX5_copies_0 := by decide +kernel
theorem dksX5_copies_1 : cX5_copies.data.toList.drop 23 = dktX5_copies_1 := dk_seg dksX5_copies_0 23 rfl rfl
theorem dX5_copies_0 : decode cX5_copies 0 = .ok (.iconst 0, 1) := dk_3 (dk_at dksX5_copies_0 0 rfl rfl)
theorem dX5_copies_1 : decode cX5_copies 1 = .ok (.istore 4, 2) := dk_54 4 (dk_at dksX5_copies_0 1 rfl rfl)
theorem dX5_copies_3 : decode cX5_copies 3 = .ok (.iload 4, 2) := dk_21 4 (dk_at dksX5_copies_0 3 rfl rfl)
theorem dX5_copies_5 : decode cX5_copies 5 = .ok (.sipush 661, 3) := dk_17 2 149 (dk_at dksX5_copies_0 5 rfl rfl)
theorem dX5_copies_8 : decode cX5_copies 8 = .ok (.if_icmp .ge 21, 3) := dk_162 0 21 (dk_at dksX5_copies_0 8 rfl rfl)
theorem dX5_copies_11 : decode cX5_copies 11 = .ok (.aload_n 2, 1) := dk_44 (dk_at dksX5_copies_0 11 rfl rfl)
theorem dX5_copies_12 : decode cX5_copies 12 = .ok (.iload_n 3, 1) := dk_29 (dk_at dksX5_copies_0 12 rfl rfl)
theorem dX5_copies_13 : decode cX5_copies 13 = .ok (.iload 4, 2) := dk_21 4 (dk_at dksX5_copies_0 13 rfl rfl)
theorem dX5_copies_15 : decode cX5_copies 15 = .ok (.iadd, 1) := dk_96 (dk_at dksX5_copies_0 15 rfl rfl)
theorem dX5_copies_16 : decode cX5_copies 16 = .ok (.aload_n 0, 1) := dk_42 (dk_at dksX5_copies_0 16 rfl rfl)
theorem dX5_copies_17 : decode cX5_copies 17 = .ok (.iload_n 1, 1) := dk_27 (dk_at dksX5_copies_0 17 rfl rfl)
theorem dX5_copies_18 : decode cX5_copies 18 = .ok (.iload 4, 2) := dk_21 4 (dk_at dksX5_copies_0 18 rfl rfl)
theorem dX5_copies_20 : decode cX5_copies 20 = .ok (.iadd, 1) := dk_96 (dk_at dksX5_copies_0 20 rfl rfl)
theorem dX5_copies_21 : decode cX5_copies 21 = .ok (.iaload, 1) := dk_46 (dk_at dksX5_copies_0 21 rfl rfl)
theorem dX5_copies_22 : decode cX5_copies 22 = .ok (.iastore, 1) := dk_79 (dk_at dksX5_copies_0 22 rfl rfl)
theorem dX5_copies_23 : decode cX5_copies 23 = .ok (.iinc 4 1, 3) := dk_132 4 1 (dk_at dksX5_copies_1 0 rfl rfl)
theorem dX5_copies_26 : decode cX5_copies 26 = .ok (.goto (-23), 3) := dk_167 255 233 (dk_at dksX5_copies_1 3 rfl rfl)
theorem dX5_copies_29 : decode cX5_copies 29 = .ok (.return_, 1) := dk_177 (dk_at dksX5_copies_1 6 rfl rfl)
abbrev cX5_lays : ByteArray := prog_12_method_13_code
def yX5_lays : MethodName := ⟨RX5, "lays", "(III)V"⟩
def dkwX5_lays_0 : List UInt8 := [42, 180, 0, 7, 8, 16, 7, 27, 104, 96, 28, 96, 29, 79, 177]
abbrev dktX5_lays_0 : List UInt8 := dkwX5_lays_0 ++ []
theorem dksX5_lays_0 : cX5_lays.data.toList.drop 0 = dktX5_lays_0 := by decide +kernel
theorem dX5_lays_0 : decode cX5_lays 0 = .ok (.aload_n 0, 1) := dk_42 (dk_at dksX5_lays_0 0 rfl rfl)
theorem dX5_lays_1 : decode cX5_lays 1 = .ok (.getfield 7, 3) := dk_180 0 7 (dk_at dksX5_lays_0 1 rfl rfl)
theorem dX5_lays_4 : decode cX5_lays 4 = .ok (.iconst 5, 1) := dk_8 (dk_at dksX5_lays_0 4 rfl rfl)
theorem dX5_lays_5 : decode cX5_lays 5 = .ok (.bipush 7, 2) := dk_16 7 (dk_at dksX5_lays_0 5 rfl rfl)
theorem dX5_lays_7 : decode cX5_lays 7 = .ok (.iload_n 1, 1) := dk_27 (dk_at dksX5_lays_0 7 rfl rfl)
theorem dX5_lays_8 : decode cX5_lays 8 = .ok (.imul, 1) := dk_104 (dk_at dksX5_lays_0 8 rfl rfl)
theorem dX5_lays_9 : decode cX5_lays 9 = .ok (.iadd, 1) := dk_96 (dk_at dksX5_lays_0 9 rfl rfl)
theorem dX5_lays_10 : decode cX5_lays 10 = .ok (.iload_n 2, 1) := dk_28 (dk_at dksX5_lays_0 10 rfl rfl)
theorem dX5_lays_11 : decode cX5_lays 11 = .ok (.iadd, 1) := dk_96 (dk_at dksX5_lays_0 11 rfl rfl)
theorem dX5_lays_12 : decode cX5_lays 12 = .ok (.iload_n 3, 1) := dk_29 (dk_at dksX5_lays_0 12 rfl rfl)
theorem dX5_lays_13 : decode cX5_lays 13 = .ok (.iastore, 1) := dk_79 (dk_at dksX5_lays_0 13 rfl rfl)
theorem dX5_lays_14 : decode cX5_lays 14 = .ok (.return_, 1) := dk_177 (dk_at dksX5_lays_0 14 rfl rfl)
abbrev cX5_recipes : ByteArray := prog_12_method_18_code
def yX5_recipes : MethodName := ⟨RX5, "recipes", "()I"⟩
def dkwX5_recipes_1 : List UInt8 := [96, 60, 132, 2, 1, 167, 255, 231, 27, 172]
abbrev dktX5_recipes_1 : List UInt8 := dkwX5_recipes_1 ++ []
def dkwX5_recipes_0 : List UInt8 := [3, 60, 3, 61, 28, 16, 8, 162, 0, 25, 27, 42, 28, 182, 0, 73, 153, 0, 7, 4, 167, 0, 4, 3]
abbrev dktX5_recipes_0 : List UInt8 := dkwX5_recipes_0 ++ dktX5_recipes_1
theorem dksX5_recipes_0 : cX5_recipes.data.toList.drop 0 = dktX5_recipes_0 := by decide +kernel
theorem dksX5_recipes_1 : cX5_recipes.data.toList.drop 24 = dktX5_recipes_1 := dk_seg dksX5_recipes_0 24 rfl rfl
theorem dX5_recipes_0 : decode cX5_recipes 0 = .ok (.iconst 0, 1) := dk_3 (dk_at dksX5_recipes_0 0 rfl rfl)
theorem dX5_recipes_1 : decode cX5_recipes 1 = .ok (.istore_n 1, 1) := dk_60 (dk_at dksX5_recipes_0 1 rfl rfl)
theorem dX5_recipes_2 : decode cX5_recipes 2 = .ok (.iconst 0, 1) := dk_3 (dk_at dksX5_recipes_0 2 rfl rfl)
theorem dX5_recipes_3 : decode cX5_recipes 3 = .ok (.istore_n 2, 1) := dk_61 (dk_at dksX5_recipes_0 3 rfl rfl)
theorem dX5_recipes_4 : decode cX5_recipes 4 = .ok (.iload_n 2, 1) := dk_28 (dk_at dksX5_recipes_0 4 rfl rfl)
theorem dX5_recipes_5 : decode cX5_recipes 5 = .ok (.bipush 8, 2) := dk_16 8 (dk_at dksX5_recipes_0 5 rfl rfl)
theorem dX5_recipes_7 : decode cX5_recipes 7 = .ok (.if_icmp .ge 25, 3) := dk_162 0 25 (dk_at dksX5_recipes_0 7 rfl rfl)
theorem dX5_recipes_10 : decode cX5_recipes 10 = .ok (.iload_n 1, 1) := dk_27 (dk_at dksX5_recipes_0 10 rfl rfl)
theorem dX5_recipes_11 : decode cX5_recipes 11 = .ok (.aload_n 0, 1) := dk_42 (dk_at dksX5_recipes_0 11 rfl rfl)
theorem dX5_recipes_12 : decode cX5_recipes 12 = .ok (.iload_n 2, 1) := dk_28 (dk_at dksX5_recipes_0 12 rfl rfl)
theorem dX5_recipes_13 : decode cX5_recipes 13 = .ok (.invokevirtual 73, 3) := dk_182 0 73 (dk_at dksX5_recipes_0 13 rfl rfl)
theorem dX5_recipes_16 : decode cX5_recipes 16 = .ok (.ifCond .eq 7, 3) := dk_153 0 7 (dk_at dksX5_recipes_0 16 rfl rfl)
theorem dX5_recipes_19 : decode cX5_recipes 19 = .ok (.iconst 1, 1) := dk_4 (dk_at dksX5_recipes_0 19 rfl rfl)
theorem dX5_recipes_20 : decode cX5_recipes 20 = .ok (.goto 4, 3) := dk_167 0 4 (dk_at dksX5_recipes_0 20 rfl rfl)
theorem dX5_recipes_23 : decode cX5_recipes 23 = .ok (.iconst 0, 1) := dk_3 (dk_at dksX5_recipes_0 23 rfl rfl)
theorem dX5_recipes_24 : decode cX5_recipes 24 = .ok (.iadd, 1) := dk_96 (dk_at dksX5_recipes_1 0 rfl rfl)
theorem dX5_recipes_25 : decode cX5_recipes 25 = .ok (.istore_n 1, 1) := dk_60 (dk_at dksX5_recipes_1 1 rfl rfl)
theorem dX5_recipes_26 : decode cX5_recipes 26 = .ok (.iinc 2 1, 3) := dk_132 2 1 (dk_at dksX5_recipes_1 2 rfl rfl)
theorem dX5_recipes_29 : decode cX5_recipes 29 = .ok (.goto (-25), 3) := dk_167 255 231 (dk_at dksX5_recipes_1 5 rfl rfl)
theorem dX5_recipes_32 : decode cX5_recipes 32 = .ok (.iload_n 1, 1) := dk_27 (dk_at dksX5_recipes_1 8 rfl rfl)
theorem dX5_recipes_33 : decode cX5_recipes 33 = .ok (.ireturn, 1) := dk_172 (dk_at dksX5_recipes_1 9 rfl rfl)
abbrev cX5_dropRecipe : ByteArray := prog_12_method_21_code
def yX5_dropRecipe : MethodName := ⟨RX5, "dropRecipe", "(C)I"⟩
def dkwX5_dropRecipe_4 : List UInt8 := [182, 0, 94, 172]
abbrev dktX5_dropRecipe_4 : List UInt8 := dkwX5_dropRecipe_4 ++ []
def dkwX5_dropRecipe_3 : List UInt8 := [61, 28, 16, 6, 162, 0, 19, 42, 27, 16, 97, 100, 28, 3, 182, 0, 90, 132, 2, 1, 167, 255, 237, 42]
abbrev dktX5_dropRecipe_3 : List UInt8 := dkwX5_dropRecipe_3 ++ dktX5_dropRecipe_4
def dkwX5_dropRecipe_2 : List UInt8 := [3, 182, 0, 83, 153, 0, 5, 3, 172, 132, 2, 1, 167, 255, 208, 42, 42, 180, 0, 7, 182, 0, 86, 3]
abbrev dktX5_dropRecipe_2 : List UInt8 := dkwX5_dropRecipe_2 ++ dktX5_dropRecipe_3
def dkwX5_dropRecipe_1 : List UInt8 := [28, 182, 0, 101, 153, 0, 20, 42, 28, 3, 182, 0, 104, 27, 16, 97, 100, 160, 0, 7, 6, 167, 0, 4]
abbrev dktX5_dropRecipe_1 : List UInt8 := dkwX5_dropRecipe_1 ++ dktX5_dropRecipe_2
def dkwX5_dropRecipe_0 : List UInt8 := [42, 27, 182, 0, 98, 153, 0, 5, 3, 172, 3, 61, 28, 42, 180, 0, 7, 4, 46, 162, 0, 44, 42, 42]
abbrev dktX5_dropRecipe_0 : List UInt8 := dkwX5_dropRecipe_0 ++ dktX5_dropRecipe_1
theorem dksX5_dropRecipe_0 : cX5_dropRecipe.data.toList.drop 0 = dktX5_dropRecipe_0 := by decide +kernel
theorem dksX5_dropRecipe_1 : cX5_dropRecipe.data.toList.drop 24 = dktX5_dropRecipe_1 := dk_seg dksX5_dropRecipe_0 24 rfl rfl
theorem dksX5_dropRecipe_2 : cX5_dropRecipe.data.toList.drop 48 = dktX5_dropRecipe_2 := dk_seg dksX5_dropRecipe_1 24 rfl rfl
theorem dksX5_dropRecipe_3 : cX5_dropRecipe.data.toList.drop 72 = dktX5_dropRecipe_3 := dk_seg dksX5_dropRecipe_2 24 rfl rfl
theorem dksX5_dropRecipe_4 : cX5_dropRecipe.data.toList.drop 96 = dktX5_dropRecipe_4 := dk_seg dksX5_dropRecipe_3 24 rfl rfl
theorem dX5_dropRecipe_0 : decode cX5_dropRecipe 0 = .ok (.aload_n 0, 1) := dk_42 (dk_at dksX5_dropRecipe_0 0 rfl rfl)
theorem dX5_dropRecipe_1 : decode cX5_dropRecipe 1 = .ok (.iload_n 1, 1) := dk_27 (dk_at dksX5_dropRecipe_0 1 rfl rfl)
theorem dX5_dropRecipe_2 : decode cX5_dropRecipe 2 = .ok (.invokevirtual 98, 3) := dk_182 0 98 (dk_at dksX5_dropRecipe_0 2 rfl rfl)
theorem dX5_dropRecipe_5 : decode cX5_dropRecipe 5 = .ok (.ifCond .eq 5, 3) := dk_153 0 5 (dk_at dksX5_dropRecipe_0 5 rfl rfl)
theorem dX5_dropRecipe_8 : decode cX5_dropRecipe 8 = .ok (.iconst 0, 1) := dk_3 (dk_at dksX5_dropRecipe_0 8 rfl rfl)
theorem dX5_dropRecipe_9 : decode cX5_dropRecipe 9 = .ok (.ireturn, 1) := dk_172 (dk_at dksX5_dropRecipe_0 9 rfl rfl)
theorem dX5_dropRecipe_10 : decode cX5_dropRecipe 10 = .ok (.iconst 0, 1) := dk_3 (dk_at dksX5_dropRecipe_0 10 rfl rfl)
theorem dX5_dropRecipe_11 : decode cX5_dropRecipe 11 = .ok (.istore_n 2, 1) := dk_61 (dk_at dksX5_dropRecipe_0 11 rfl rfl)
theorem dX5_dropRecipe_12 : decode cX5_dropRecipe 12 = .ok (.iload_n 2, 1) := dk_28 (dk_at dksX5_dropRecipe_0 12 rfl rfl)
theorem dX5_dropRecipe_13 : decode cX5_dropRecipe 13 = .ok (.aload_n 0, 1) := dk_42 (dk_at dksX5_dropRecipe_0 13 rfl rfl)
theorem dX5_dropRecipe_14 : decode cX5_dropRecipe 14 = .ok (.getfield 7, 3) := dk_180 0 7 (dk_at dksX5_dropRecipe_0 14 rfl rfl)
theorem dX5_dropRecipe_17 : decode cX5_dropRecipe 17 = .ok (.iconst 1, 1) := dk_4 (dk_at dksX5_dropRecipe_0 17 rfl rfl)
theorem dX5_dropRecipe_18 : decode cX5_dropRecipe 18 = .ok (.iaload, 1) := dk_46 (dk_at dksX5_dropRecipe_0 18 rfl rfl)
theorem dX5_dropRecipe_19 : decode cX5_dropRecipe 19 = .ok (.if_icmp .ge 44, 3) := dk_162 0 44 (dk_at dksX5_dropRecipe_0 19 rfl rfl)
theorem dX5_dropRecipe_22 : decode cX5_dropRecipe 22 = .ok (.aload_n 0, 1) := dk_42 (dk_at dksX5_dropRecipe_0 22 rfl rfl)
theorem dX5_dropRecipe_23 : decode cX5_dropRecipe 23 = .ok (.aload_n 0, 1) := dk_42 (dk_at dksX5_dropRecipe_0 23 rfl rfl)
theorem dX5_dropRecipe_24 : decode cX5_dropRecipe 24 = .ok (.iload_n 2, 1) := dk_28 (dk_at dksX5_dropRecipe_1 0 rfl rfl)
theorem dX5_dropRecipe_25 : decode cX5_dropRecipe 25 = .ok (.invokevirtual 101, 3) := dk_182 0 101 (dk_at dksX5_dropRecipe_1 1 rfl rfl)
theorem dX5_dropRecipe_28 : decode cX5_dropRecipe 28 = .ok (.ifCond .eq 20, 3) := dk_153 0 20 (dk_at dksX5_dropRecipe_1 4 rfl rfl)
theorem dX5_dropRecipe_31 : decode cX5_dropRecipe 31 = .ok (.aload_n 0, 1) := dk_42 (dk_at dksX5_dropRecipe_1 7 rfl rfl)
theorem dX5_dropRecipe_32 : decode cX5_dropRecipe 32 = .ok (.iload_n 2, 1) := dk_28 (dk_at dksX5_dropRecipe_1 8 rfl rfl)
theorem dX5_dropRecipe_33 : decode cX5_dropRecipe 33 = .ok (.iconst 0, 1) := dk_3 (dk_at dksX5_dropRecipe_1 9 rfl rfl)
theorem dX5_dropRecipe_34 : decode cX5_dropRecipe 34 = .ok (.invokevirtual 104, 3) := dk_182 0 104 (dk_at dksX5_dropRecipe_1 10 rfl rfl)
theorem dX5_dropRecipe_37 : decode cX5_dropRecipe 37 = .ok (.iload_n 1, 1) := dk_27 (dk_at dksX5_dropRecipe_1 13 rfl rfl)
theorem dX5_dropRecipe_38 : decode cX5_dropRecipe 38 = .ok (.bipush 97, 2) := dk_16 97 (dk_at dksX5_dropRecipe_1 14 rfl rfl)
theorem dX5_dropRecipe_40 : decode cX5_dropRecipe 40 = .ok (.isub, 1) := dk_100 (dk_at dksX5_dropRecipe_1 16 rfl rfl)
theorem dX5_dropRecipe_41 : decode cX5_dropRecipe 41 = .ok (.if_icmp .ne 7, 3) := dk_160 0 7 (dk_at dksX5_dropRecipe_1 17 rfl rfl)
theorem dX5_dropRecipe_44 : decode cX5_dropRecipe 44 = .ok (.iconst 3, 1) := dk_6 (dk_at dksX5_dropRecipe_1 20 rfl rfl)
theorem dX5_dropRecipe_45 : decode cX5_dropRecipe 45 = .ok (.goto 4, 3) := dk_167 0 4 (dk_at dksX5_dropRecipe_1 21 rfl rfl)
theorem dX5_dropRecipe_48 : decode cX5_dropRecipe 48 = .ok (.iconst 0, 1) := dk_3 (dk_at dksX5_dropRecipe_2 0 rfl rfl)
theorem dX5_dropRecipe_49 : decode cX5_dropRecipe 49 = .ok (.invokevirtual 83, 3) := dk_182 0 83 (dk_at dksX5_dropRecipe_2 1 rfl rfl)
theorem dX5_dropRecipe_52 : decode cX5_dropRecipe 52 = .ok (.ifCond .eq 5, 3) := dk_153 0 5 (dk_at dksX5_dropRecipe_2 4 rfl rfl)
theorem dX5_dropRecipe_55 : decode cX5_dropRecipe 55 = .ok (.iconst 0, 1) := dk_3 (dk_at dksX5_dropRecipe_2 7 rfl rfl)
theorem dX5_dropRecipe_56 : decode cX5_dropRecipe 56 = .ok (.ireturn, 1) := dk_172 (dk_at dksX5_dropRecipe_2 8 rfl rfl)
theorem dX5_dropRecipe_57 : decode cX5_dropRecipe 57 = .ok (.iinc 2 1, 3) := dk_132 2 1 (dk_at dksX5_dropRecipe_2 9 rfl rfl)
theorem dX5_dropRecipe_60 : decode cX5_dropRecipe 60 = .ok (.goto (-48), 3) := dk_167 255 208 (dk_at dksX5_dropRecipe_2 12 rfl rfl)
theorem dX5_dropRecipe_63 : decode cX5_dropRecipe 63 = .ok (.aload_n 0, 1) := dk_42 (dk_at dksX5_dropRecipe_2 15 rfl rfl)
theorem dX5_dropRecipe_64 : decode cX5_dropRecipe 64 = .ok (.aload_n 0, 1) := dk_42 (dk_at dksX5_dropRecipe_2 16 rfl rfl)
theorem dX5_dropRecipe_65 : decode cX5_dropRecipe 65 = .ok (.getfield 7, 3) := dk_180 0 7 (dk_at dksX5_dropRecipe_2 17 rfl rfl)
theorem dX5_dropRecipe_68 : decode cX5_dropRecipe 68 = .ok (.invokevirtual 86, 3) := dk_182 0 86 (dk_at dksX5_dropRecipe_2 20 rfl rfl)
theorem dX5_dropRecipe_71 : decode cX5_dropRecipe 71 = .ok (.iconst 0, 1) := dk_3 (dk_at dksX5_dropRecipe_2 23 rfl rfl)
theorem dX5_dropRecipe_72 : decode cX5_dropRecipe 72 = .ok (.istore_n 2, 1) := dk_61 (dk_at dksX5_dropRecipe_3 0 rfl rfl)
theorem dX5_dropRecipe_73 : decode cX5_dropRecipe 73 = .ok (.iload_n 2, 1) := dk_28 (dk_at dksX5_dropRecipe_3 1 rfl rfl)
theorem dX5_dropRecipe_74 : decode cX5_dropRecipe 74 = .ok (.bipush 6, 2) := dk_16 6 (dk_at dksX5_dropRecipe_3 2 rfl rfl)
theorem dX5_dropRecipe_76 : decode cX5_dropRecipe 76 = .ok (.if_icmp .ge 19, 3) := dk_162 0 19 (dk_at dksX5_dropRecipe_3 4 rfl rfl)
theorem dX5_dropRecipe_79 : decode cX5_dropRecipe 79 = .ok (.aload_n 0, 1) := dk_42 (dk_at dksX5_dropRecipe_3 7 rfl rfl)
theorem dX5_dropRecipe_80 : decode cX5_dropRecipe 80 = .ok (.iload_n 1, 1) := dk_27 (dk_at dksX5_dropRecipe_3 8 rfl rfl)
theorem dX5_dropRecipe_81 : decode cX5_dropRecipe 81 = .ok (.bipush 97, 2) := dk_16 97 (dk_at dksX5_dropRecipe_3 9 rfl rfl)
theorem dX5_dropRecipe_83 : decode cX5_dropRecipe 83 = .ok (.isub, 1) := dk_100 (dk_at dksX5_dropRecipe_3 11 rfl rfl)
theorem dX5_dropRecipe_84 : decode cX5_dropRecipe 84 = .ok (.iload_n 2, 1) := dk_28 (dk_at dksX5_dropRecipe_3 12 rfl rfl)
theorem dX5_dropRecipe_85 : decode cX5_dropRecipe 85 = .ok (.iconst 0, 1) := dk_3 (dk_at dksX5_dropRecipe_3 13 rfl rfl)
theorem dX5_dropRecipe_86 : decode cX5_dropRecipe 86 = .ok (.invokevirtual 90, 3) := dk_182 0 90 (dk_at dksX5_dropRecipe_3 14 rfl rfl)
theorem dX5_dropRecipe_89 : decode cX5_dropRecipe 89 = .ok (.iinc 2 1, 3) := dk_132 2 1 (dk_at dksX5_dropRecipe_3 17 rfl rfl)
theorem dX5_dropRecipe_92 : decode cX5_dropRecipe 92 = .ok (.goto (-19), 3) := dk_167 255 237 (dk_at dksX5_dropRecipe_3 20 rfl rfl)
theorem dX5_dropRecipe_95 : decode cX5_dropRecipe 95 = .ok (.aload_n 0, 1) := dk_42 (dk_at dksX5_dropRecipe_3 23 rfl rfl)
theorem dX5_dropRecipe_96 : decode cX5_dropRecipe 96 = .ok (.invokevirtual 94, 3) := dk_182 0 94 (dk_at dksX5_dropRecipe_4 0 rfl rfl)
theorem dX5_dropRecipe_99 : decode cX5_dropRecipe 99 = .ok (.ireturn, 1) := dk_172 (dk_at dksX5_dropRecipe_4 3 rfl rfl)
abbrev cX5_isNone : ByteArray := prog_12_method_20_code
def yX5_isNone : MethodName := ⟨RX5, "isNone", "(I)Z"⟩
def dkwX5_isNone_1 : List UInt8 := [167, 0, 4, 5, 182, 0, 83, 172]
abbrev dktX5_isNone_1 : List UInt8 := dkwX5_isNone_1 ++ []
def dkwX5_isNone_0 : List UInt8 := [42, 27, 184, 0, 77, 154, 0, 7, 4, 167, 0, 19, 42, 27, 16, 97, 100, 182, 0, 73, 153, 0, 7, 3]
abbrev dktX5_isNone_0 : List UInt8 := dkwX5_isNone_0 ++ dktX5_isNone_1
theorem dksX5_isNone_0 : cX5_isNone.data.toList.drop 0 = dktX5_isNone_0 := by decide +kernel
theorem dksX5_isNone_1 : cX5_isNone.data.toList.drop 24 = dktX5_isNone_1 := dk_seg dksX5_isNone_0 24 rfl rfl
theorem dX5_isNone_0 : decode cX5_isNone 0 = .ok (.aload_n 0, 1) := dk_42 (dk_at dksX5_isNone_0 0 rfl rfl)
theorem dX5_isNone_1 : decode cX5_isNone 1 = .ok (.iload_n 1, 1) := dk_27 (dk_at dksX5_isNone_0 1 rfl rfl)
theorem dX5_isNone_2 : decode cX5_isNone 2 = .ok (.invokestatic 77, 3) := dk_184 0 77 (dk_at dksX5_isNone_0 2 rfl rfl)
theorem dX5_isNone_5 : decode cX5_isNone 5 = .ok (.ifCond .ne 7, 3) := dk_154 0 7 (dk_at dksX5_isNone_0 5 rfl rfl)
theorem dX5_isNone_8 : decode cX5_isNone 8 = .ok (.iconst 1, 1) := dk_4 (dk_at dksX5_isNone_0 8 rfl rfl)
theorem dX5_isNone_9 : decode cX5_isNone 9 = .ok (.goto 19, 3) := dk_167 0 19 (dk_at dksX5_isNone_0 9 rfl rfl)
theorem dX5_isNone_12 : decode cX5_isNone 12 = .ok (.aload_n 0, 1) := dk_42 (dk_at dksX5_isNone_0 12 rfl rfl)
theorem dX5_isNone_13 : decode cX5_isNone 13 = .ok (.iload_n 1, 1) := dk_27 (dk_at dksX5_isNone_0 13 rfl rfl)
theorem dX5_isNone_14 : decode cX5_isNone 14 = .ok (.bipush 97, 2) := dk_16 97 (dk_at dksX5_isNone_0 14 rfl rfl)
theorem dX5_isNone_16 : decode cX5_isNone 16 = .ok (.isub, 1) := dk_100 (dk_at dksX5_isNone_0 16 rfl rfl)
theorem dX5_isNone_17 : decode cX5_isNone 17 = .ok (.invokevirtual 73, 3) := dk_182 0 73 (dk_at dksX5_isNone_0 17 rfl rfl)
theorem dX5_isNone_20 : decode cX5_isNone 20 = .ok (.ifCond .eq 7, 3) := dk_153 0 7 (dk_at dksX5_isNone_0 20 rfl rfl)
theorem dX5_isNone_23 : decode cX5_isNone 23 = .ok (.iconst 0, 1) := dk_3 (dk_at dksX5_isNone_0 23 rfl rfl)
theorem dX5_isNone_24 : decode cX5_isNone 24 = .ok (.goto 4, 3) := dk_167 0 4 (dk_at dksX5_isNone_1 0 rfl rfl)
theorem dX5_isNone_27 : decode cX5_isNone 27 = .ok (.iconst 2, 1) := dk_5 (dk_at dksX5_isNone_1 3 rfl rfl)
theorem dX5_isNone_28 : decode cX5_isNone 28 = .ok (.invokevirtual 83, 3) := dk_182 0 83 (dk_at dksX5_isNone_1 4 rfl rfl)
theorem dX5_isNone_31 : decode cX5_isNone 31 = .ok (.ireturn, 1) := dk_172 (dk_at dksX5_isNone_1 7 rfl rfl)
abbrev cX5_isHere : ByteArray := prog_12_method_56_code
def yX5_isHere : MethodName := ⟨RX5, "isHere", "(I)Z"⟩
def dkwX5_isHere_0 : List UInt8 := [42, 27, 5, 182, 0, 104, 154, 0, 7, 4, 167, 0, 4, 3, 172]
abbrev dktX5_isHere_0 : List UInt8 := dkwX5_isHere_0 ++ []
theorem dksX5_isHere_0 : cX5_isHere.data.toList.drop 0 = dktX5_isHere_0 := by decide +kernel
theorem dX5_isHere_0 : decode cX5_isHere 0 = .ok (.aload_n 0, 1) := dk_42 (dk_at dksX5_isHere_0 0 rfl rfl)
theorem dX5_isHere_1 : decode cX5_isHere 1 = .ok (.iload_n 1, 1) := dk_27 (dk_at dksX5_isHere_0 1 rfl rfl)
theorem dX5_isHere_2 : decode cX5_isHere 2 = .ok (.iconst 2, 1) := dk_5 (dk_at dksX5_isHere_0 2 rfl rfl)
theorem dX5_isHere_3 : decode cX5_isHere 3 = .ok (.invokevirtual 104, 3) := dk_182 0 104 (dk_at dksX5_isHere_0 3 rfl rfl)
theorem dX5_isHere_6 : decode cX5_isHere 6 = .ok (.ifCond .ne 7, 3) := dk_154 0 7 (dk_at dksX5_isHere_0 6 rfl rfl)
theorem dX5_isHere_9 : decode cX5_isHere 9 = .ok (.iconst 1, 1) := dk_4 (dk_at dksX5_isHere_0 9 rfl rfl)
theorem dX5_isHere_10 : decode cX5_isHere 10 = .ok (.goto 4, 3) := dk_167 0 4 (dk_at dksX5_isHere_0 10 rfl rfl)
theorem dX5_isHere_13 : decode cX5_isHere 13 = .ok (.iconst 0, 1) := dk_3 (dk_at dksX5_isHere_0 13 rfl rfl)
theorem dX5_isHere_14 : decode cX5_isHere 14 = .ok (.ireturn, 1) := dk_172 (dk_at dksX5_isHere_0 14 rfl rfl)
abbrev cX5_thing : ByteArray := prog_12_method_55_code
def yX5_thing : MethodName := ⟨RX5, "thing", "(II)I"⟩
def dkwX5_thing_0 : List UInt8 := [42, 180, 0, 7, 16, 61, 16, 10, 27, 104, 96, 28, 96, 46, 172]
abbrev dktX5_thing_0 : List UInt8 := dkwX5_thing_0 ++ []
theorem dksX5_thing_0 : cX5_thing.data.toList.drop 0 = dktX5_thing_0 := by decide +kernel
theorem dX5_thing_0 : decode cX5_thing 0 = .ok (.aload_n 0, 1) := dk_42 (dk_at dksX5_thing_0 0 rfl rfl)
theorem dX5_thing_1 : decode cX5_thing 1 = .ok (.getfield 7, 3) := dk_180 0 7 (dk_at dksX5_thing_0 1 rfl rfl)
theorem dX5_thing_4 : decode cX5_thing 4 = .ok (.bipush 61, 2) := dk_16 61 (dk_at dksX5_thing_0 4 rfl rfl)
theorem dX5_thing_6 : decode cX5_thing 6 = .ok (.bipush 10, 2) := dk_16 10 (dk_at dksX5_thing_0 6 rfl rfl)
theorem dX5_thing_8 : decode cX5_thing 8 = .ok (.iload_n 1, 1) := dk_27 (dk_at dksX5_thing_0 8 rfl rfl)
theorem dX5_thing_9 : decode cX5_thing 9 = .ok (.imul, 1) := dk_104 (dk_at dksX5_thing_0 9 rfl rfl)
theorem dX5_thing_10 : decode cX5_thing 10 = .ok (.iadd, 1) := dk_96 (dk_at dksX5_thing_0 10 rfl rfl)
theorem dX5_thing_11 : decode cX5_thing 11 = .ok (.iload_n 2, 1) := dk_28 (dk_at dksX5_thing_0 11 rfl rfl)
theorem dX5_thing_12 : decode cX5_thing 12 = .ok (.iadd, 1) := dk_96 (dk_at dksX5_thing_0 12 rfl rfl)
theorem dX5_thing_13 : decode cX5_thing 13 = .ok (.iaload, 1) := dk_46 (dk_at dksX5_thing_0 13 rfl rfl)
theorem dX5_thing_14 : decode cX5_thing 14 = .ok (.ireturn, 1) := dk_172 (dk_at dksX5_thing_0 14 rfl rfl)
abbrev cX5_addNeed : ByteArray := prog_12_method_23_code
def yX5_addNeed : MethodName := ⟨RX5, "addNeed", "(CCZ)I"⟩
def dkwX5_addNeed_10 : List UInt8 := [182, 0, 90, 21, 6, 172]
abbrev dktX5_addNeed_10 : List UInt8 := dkwX5_addNeed_10 ++ []
def dkwX5_addNeed_9 : List UInt8 := [182, 0, 86, 42, 21, 4, 6, 21, 6, 96, 21, 8, 182, 0, 90, 42, 21, 4, 5, 21, 6, 4, 96]
abbrev dktX5_addNeed_9 : List UInt8 := dkwX5_addNeed_9 ++ dktX5_addNeed_10
def dkwX5_addNeed_8 : List UInt8 := [182, 0, 90, 21, 7, 158, 0, 12, 42, 6, 6, 21, 7, 182, 0, 113, 172, 42, 42, 180, 0, 7]
abbrev dktX5_addNeed_8 : List UInt8 := dkwX5_addNeed_8 ++ dktX5_addNeed_9
def dkwX5_addNeed_7 : List UInt8 := [182, 0, 69, 54, 8, 42, 21, 4, 5, 21, 6, 182, 0, 90, 42, 21, 4, 6, 21, 6, 96, 3]
abbrev dktX5_addNeed_7 : List UInt8 := dkwX5_addNeed_7 ++ dktX5_addNeed_8
def dkwX5_addNeed_6 : List UInt8 := [182, 0, 90, 29, 153, 0, 7, 3, 167, 0, 7, 42, 182, 0, 117, 54, 7, 42, 21, 4, 6, 21, 6, 96]
abbrev dktX5_addNeed_6 : List UInt8 := dkwX5_addNeed_6 ++ dktX5_addNeed_7
def dkwX5_addNeed_5 : List UInt8 := [29, 153, 0, 8, 16, 8, 167, 0, 4, 3, 96, 182, 0, 90, 42, 21, 4, 5, 21, 6, 4, 96]
abbrev dktX5_addNeed_5 : List UInt8 := dkwX5_addNeed_5 ++ dktX5_addNeed_6
def dkwX5_addNeed_4 : List UInt8 := [5, 6, 182, 0, 113, 172, 42, 21, 4, 5, 182, 0, 69, 54, 6, 42, 21, 4, 6, 21, 6, 96, 21, 5]
abbrev dktX5_addNeed_4 : List UInt8 := dkwX5_addNeed_4 ++ dktX5_addNeed_5
def dkwX5_addNeed_3 : List UInt8 := [21, 4, 21, 5, 182, 0, 110, 182, 0, 113, 172, 42, 21, 4, 5, 182, 0, 69, 6, 160, 0, 11, 42, 6]
abbrev dktX5_addNeed_3 : List UInt8 := dkwX5_addNeed_3 ++ dktX5_addNeed_4
def dkwX5_addNeed_2 : List UInt8 := [54, 4, 28, 16, 97, 100, 54, 5, 42, 21, 4, 21, 5, 182, 0, 110, 155, 0, 18, 42, 6, 4, 42]
abbrev dktX5_addNeed_2 : List UInt8 := dkwX5_addNeed_2 ++ dktX5_addNeed_3
def dkwX5_addNeed_1 : List UInt8 := [182, 0, 73, 153, 0, 7, 3, 167, 0, 4, 5, 182, 0, 83, 153, 0, 5, 3, 172, 27, 16, 97, 100]
abbrev dktX5_addNeed_1 : List UInt8 := dkwX5_addNeed_1 ++ dktX5_addNeed_2
def dkwX5_addNeed_0 : List UInt8 := [42, 27, 184, 0, 77, 153, 0, 10, 28, 184, 0, 77, 154, 0, 7, 4, 167, 0, 19, 42, 27, 16, 97, 100]
abbrev dktX5_addNeed_0 : List UInt8 := dkwX5_addNeed_0 ++ dktX5_addNeed_1
theorem dksX5_addNeed_0 : cX5_addNeed.data.toList.drop 0 = dktX5_addNeed_0 := by decide +kernel
theorem dksX5_addNeed_1 : cX5_addNeed.data.toList.drop 24 = dktX5_addNeed_1 := dk_seg dksX5_addNeed_0 24 rfl rfl
theorem dksX5_addNeed_2 : cX5_addNeed.data.toList.drop 47 = dktX5_addNeed_2 := dk_seg dksX5_addNeed_1 23 rfl rfl
theorem dksX5_addNeed_3 : cX5_addNeed.data.toList.drop 70 = dktX5_addNeed_3 := dk_seg dksX5_addNeed_2 23 rfl rfl
theorem dksX5_addNeed_4 : cX5_addNeed.data.toList.drop 94 = dktX5_addNeed_4 := dk_seg dksX5_addNeed_3 24 rfl rfl
theorem dksX5_addNeed_5 : cX5_addNeed.data.toList.drop 118 = dktX5_addNeed_5 := dk_seg dksX5_addNeed_4 24 rfl rfl
theorem dksX5_addNeed_6 : cX5_addNeed.data.toList.drop 140 = dktX5_addNeed_6 := dk_seg dksX5_addNeed_5 22 rfl rfl
theorem dksX5_addNeed_7 : cX5_addNeed.data.toList.drop 164 = dktX5_addNeed_7 := dk_seg dksX5_addNeed_6 24 rfl rfl
theorem dksX5_addNeed_8 : cX5_addNeed.data.toList.drop 186 = dktX5_addNeed_8 := dk_seg dksX5_addNeed_7 22 rfl rfl
theorem dksX5_addNeed_9 : cX5_addNeed.data.toList.drop 208 = dktX5_addNeed_9 := dk_seg dksX5_addNeed_8 22 rfl rfl
theorem dksX5_addNeed_10 : cX5_addNeed.data.toList.drop 231 = dktX5_addNeed_10 := dk_seg dksX5_addNeed_9 23 rfl rfl
theorem dX5_addNeed_0 : decode cX5_addNeed 0 = .ok (.aload_n 0, 1) := dk_42 (dk_at dksX5_addNeed_0 0 rfl rfl)
theorem dX5_addNeed_1 : decode cX5_addNeed 1 = .ok (.iload_n 1, 1) := dk_27 (dk_at dksX5_addNeed_0 1 rfl rfl)
theorem dX5_addNeed_2 : decode cX5_addNeed 2 = .ok (.invokestatic 77, 3) := dk_184 0 77 (dk_at dksX5_addNeed_0 2 rfl rfl)
theorem dX5_addNeed_5 : decode cX5_addNeed 5 = .ok (.ifCond .eq 10, 3) := dk_153 0 10 (dk_at dksX5_addNeed_0 5 rfl rfl)
theorem dX5_addNeed_8 : decode cX5_addNeed 8 = .ok (.iload_n 2, 1) := dk_28 (dk_at dksX5_addNeed_0 8 rfl rfl)
theorem dX5_addNeed_9 : decode cX5_addNeed 9 = .ok (.invokestatic 77, 3) := dk_184 0 77 (dk_at dksX5_addNeed_0 9 rfl rfl)
theorem dX5_addNeed_12 : decode cX5_addNeed 12 = .ok (.ifCond .ne 7, 3) := dk_154 0 7 (dk_at dksX5_addNeed_0 12 rfl rfl)
theorem dX5_addNeed_15 : decode cX5_addNeed 15 = .ok (.iconst 1, 1) := dk_4 (dk_at dksX5_addNeed_0 15 rfl rfl)
theorem dX5_addNeed_16 : decode cX5_addNeed 16 = .ok (.goto 19, 3) := dk_167 0 19 (dk_at dksX5_addNeed_0 16 rfl rfl)
theorem dX5_addNeed_19 : decode cX5_addNeed 19 = .ok (.aload_n 0, 1) := dk_42 (dk_at dksX5_addNeed_0 19 rfl rfl)
theorem dX5_addNeed_20 : decode cX5_addNeed 20 = .ok (.iload_n 1, 1) := dk_27 (dk_at dksX5_addNeed_0 20 rfl rfl)
theorem dX5_addNeed_21 : decode cX5_addNeed 21 = .ok (.bipush 97, 2) := dk_16 97 (dk_at dksX5_addNeed_0 21 rfl rfl)
theorem dX5_addNeed_23 : decode cX5_addNeed 23 = .ok (.isub, 1) := dk_100 (dk_at dksX5_addNeed_0 23 rfl rfl)
theorem dX5_addNeed_24 : decode cX5_addNeed 24 = .ok (.invokevirtual 73, 3) := dk_182 0 73 (dk_at dksX5_addNeed_1 0 rfl rfl)
theorem dX5_addNeed_27 : decode cX5_addNeed 27 = .ok (.ifCond .eq 7, 3) := dk_153 0 7 (dk_at dksX5_addNeed_1 3 rfl rfl)
theorem dX5_addNeed_30 : decode cX5_addNeed 30 = .ok (.iconst 0, 1) := dk_3 (dk_at dksX5_addNeed_1 6 rfl rfl)
theorem dX5_addNeed_31 : decode cX5_addNeed 31 = .ok (.goto 4, 3) := dk_167 0 4 (dk_at dksX5_addNeed_1 7 rfl rfl)
theorem dX5_addNeed_34 : decode cX5_addNeed 34 = .ok (.iconst 2, 1) := dk_5 (dk_at dksX5_addNeed_1 10 rfl rfl)
theorem dX5_addNeed_35 : decode cX5_addNeed 35 = .ok (.invokevirtual 83, 3) := dk_182 0 83 (dk_at dksX5_addNeed_1 11 rfl rfl)
theorem dX5_addNeed_38 : decode cX5_addNeed 38 = .ok (.ifCond .eq 5, 3) := dk_153 0 5 (dk_at dksX5_addNeed_1 14 rfl rfl)
theorem dX5_addNeed_41 : decode cX5_addNeed 41 = .ok (.iconst 0, 1) := dk_3 (dk_at dksX5_addNeed_1 17 rfl rfl)
theorem dX5_addNeed_42 : decode cX5_addNeed 42 = .ok (.ireturn, 1) := dk_172 (dk_at dksX5_addNeed_1 18 rfl rfl)
theorem dX5_addNeed_43 : decode cX5_addNeed 43 = .ok (.iload_n 1, 1) := dk_27 (dk_at dksX5_addNeed_1 19 rfl rfl)
theorem dX5_addNeed_44 : decode cX5_addNeed 44 = .ok (.bipush 97, 2) := dk_16 97 (dk_at dksX5_addNeed_1 20 rfl rfl)
theorem dX5_addNeed_46 : decode cX5_addNeed 46 = .ok (.isub, 1) := dk_100 (dk_at dksX5_addNeed_1 22 rfl rfl)
theorem dX5_addNeed_47 : decode cX5_addNeed 47 = .ok (.istore 4, 2) := dk_54 4 (dk_at dksX5_addNeed_2 0 rfl rfl)
theorem dX5_addNeed_49 : decode cX5_addNeed 49 = .ok (.iload_n 2, 1) := dk_28 (dk_at dksX5_addNeed_2 2 rfl rfl)
theorem dX5_addNeed_50 : decode cX5_addNeed 50 = .ok (.bipush 97, 2) := dk_16 97 (dk_at dksX5_addNeed_2 3 rfl rfl)
theorem dX5_addNeed_52 : decode cX5_addNeed 52 = .ok (.isub, 1) := dk_100 (dk_at dksX5_addNeed_2 5 rfl rfl)
theorem dX5_addNeed_53 : decode cX5_addNeed 53 = .ok (.istore 5, 2) := dk_54 5 (dk_at dksX5_addNeed_2 6 rfl rfl)
theorem dX5_addNeed_55 : decode cX5_addNeed 55 = .ok (.aload_n 0, 1) := dk_42 (dk_at dksX5_addNeed_2 8 rfl rfl)
theorem dX5_addNeed_56 : decode cX5_addNeed 56 = .ok (.iload 4, 2) := dk_21 4 (dk_at dksX5_addNeed_2 9 rfl rfl)
theorem dX5_addNeed_58 : decode cX5_addNeed 58 = .ok (.iload 5, 2) := dk_21 5 (dk_at dksX5_addNeed_2 11 rfl rfl)
theorem dX5_addNeed_60 : decode cX5_addNeed 60 = .ok (.invokevirtual 110, 3) := dk_182 0 110 (dk_at dksX5_addNeed_2 13 rfl rfl)
theorem dX5_addNeed_63 : decode cX5_addNeed 63 = .ok (.ifCond .lt 18, 3) := dk_155 0 18 (dk_at dksX5_addNeed_2 16 rfl rfl)
theorem dX5_addNeed_66 : decode cX5_addNeed 66 = .ok (.aload_n 0, 1) := dk_42 (dk_at dksX5_addNeed_2 19 rfl rfl)
theorem dX5_addNeed_67 : decode cX5_addNeed 67 = .ok (.iconst 3, 1) := dk_6 (dk_at dksX5_addNeed_2 20 rfl rfl)
theorem dX5_addNeed_68 : decode cX5_addNeed 68 = .ok (.iconst 1, 1) := dk_4 (dk_at dksX5_addNeed_2 21 rfl rfl)
theorem dX5_addNeed_69 : decode cX5_addNeed 69 = .ok (.aload_n 0, 1) := dk_42 (dk_at dksX5_addNeed_2 22 rfl rfl)
theorem dX5_addNeed_70 : decode cX5_addNeed 70 = .ok (.iload 4, 2) := dk_21 4 (dk_at dksX5_addNeed_3 0 rfl rfl)
theorem dX5_addNeed_72 : decode cX5_addNeed 72 = .ok (.iload 5, 2) := dk_21 5 (dk_at dksX5_addNeed_3 2 rfl rfl)
theorem dX5_addNeed_74 : decode cX5_addNeed 74 = .ok (.invokevirtual 110, 3) := dk_182 0 110 (dk_at dksX5_addNeed_3 4 rfl rfl)
theorem dX5_addNeed_77 : decode cX5_addNeed 77 = .ok (.invokevirtual 113, 3) := dk_182 0 113 (dk_at dksX5_addNeed_3 7 rfl rfl)
theorem dX5_addNeed_80 : decode cX5_addNeed 80 = .ok (.ireturn, 1) := dk_172 (dk_at dksX5_addNeed_3 10 rfl rfl)
theorem dX5_addNeed_81 : decode cX5_addNeed 81 = .ok (.aload_n 0, 1) := dk_42 (dk_at dksX5_addNeed_3 11 rfl rfl)
theorem dX5_addNeed_82 : decode cX5_addNeed 82 = .ok (.iload 4, 2) := dk_21 4 (dk_at dksX5_addNeed_3 12 rfl rfl)
theorem dX5_addNeed_84 : decode cX5_addNeed 84 = .ok (.iconst 2, 1) := dk_5 (dk_at dksX5_addNeed_3 14 rfl rfl)
theorem dX5_addNeed_85 : decode cX5_addNeed 85 = .ok (.invokevirtual 69, 3) := dk_182 0 69 (dk_at dksX5_addNeed_3 15 rfl rfl)
theorem dX5_addNeed_88 : decode cX5_addNeed 88 = .ok (.iconst 3, 1) := dk_6 (dk_at dksX5_addNeed_3 18 rfl rfl)
theorem dX5_addNeed_89 : decode cX5_addNeed 89 = .ok (.if_icmp .ne 11, 3) := dk_160 0 11 (dk_at dksX5_addNeed_3 19 rfl rfl)
theorem dX5_addNeed_92 : decode cX5_addNeed 92 = .ok (.aload_n 0, 1) := dk_42 (dk_at dksX5_addNeed_3 22 rfl rfl)
theorem dX5_addNeed_93 : decode cX5_addNeed 93 = .ok (.iconst 3, 1) := dk_6 (dk_at dksX5_addNeed_3 23 rfl rfl)
theorem dX5_addNeed_94 : decode cX5_addNeed 94 = .ok (.iconst 2, 1) := dk_5 (dk_at dksX5_addNeed_4 0 rfl rfl)
theorem dX5_addNeed_95 : decode cX5_addNeed 95 = .ok (.iconst 3, 1) := dk_6 (dk_at dksX5_addNeed_4 1 rfl rfl)
theorem dX5_addNeed_96 : decode cX5_addNeed 96 = .ok (.invokevirtual 113, 3) := dk_182 0 113 (dk_at dksX5_addNeed_4 2 rfl rfl)
theorem dX5_addNeed_99 : decode cX5_addNeed 99 = .ok (.ireturn, 1) := dk_172 (dk_at dksX5_addNeed_4 5 rfl rfl)
theorem dX5_addNeed_100 : decode cX5_addNeed 100 = .ok (.aload_n 0, 1) := dk_42 (dk_at dksX5_addNeed_4 6 rfl rfl)
theorem dX5_addNeed_101 : decode cX5_addNeed 101 = .ok (.iload 4, 2) := dk_21 4 (dk_at dksX5_addNeed_4 7 rfl rfl)
theorem dX5_addNeed_103 : decode cX5_addNeed 103 = .ok (.iconst 2, 1) := dk_5 (dk_at dksX5_addNeed_4 9 rfl rfl)
theorem dX5_addNeed_104 : decode cX5_addNeed 104 = .ok (.invokevirtual 69, 3) := dk_182 0 69 (dk_at dksX5_addNeed_4 10 rfl rfl)
theorem dX5_addNeed_107 : decode cX5_addNeed 107 = .ok (.istore 6, 2) := dk_54 6 (dk_at dksX5_addNeed_4 13 rfl rfl)
theorem dX5_addNeed_109 : decode cX5_addNeed 109 = .ok (.aload_n 0, 1) := dk_42 (dk_at dksX5_addNeed_4 15 rfl rfl)
theorem dX5_addNeed_110 : decode cX5_addNeed 110 = .ok (.iload 4, 2) := dk_21 4 (dk_at dksX5_addNeed_4 16 rfl rfl)
theorem dX5_addNeed_112 : decode cX5_addNeed 112 = .ok (.iconst 3, 1) := dk_6 (dk_at dksX5_addNeed_4 18 rfl rfl)
theorem dX5_addNeed_113 : decode cX5_addNeed 113 = .ok (.iload 6, 2) := dk_21 6 (dk_at dksX5_addNeed_4 19 rfl rfl)
theorem dX5_addNeed_115 : decode cX5_addNeed 115 = .ok (.iadd, 1) := dk_96 (dk_at dksX5_addNeed_4 21 rfl rfl)
theorem dX5_addNeed_116 : decode cX5_addNeed 116 = .ok (.iload 5, 2) := dk_21 5 (dk_at dksX5_addNeed_4 22 rfl rfl)
theorem dX5_addNeed_118 : decode cX5_addNeed 118 = .ok (.iload_n 3, 1) := dk_29 (dk_at dksX5_addNeed_5 0 rfl rfl)
theorem dX5_addNeed_119 : decode cX5_addNeed 119 = .ok (.ifCond .eq 8, 3) := dk_153 0 8 (dk_at dksX5_addNeed_5 1 rfl rfl)
theorem dX5_addNeed_122 : decode cX5_addNeed 122 = .ok (.bipush 8, 2) := dk_16 8 (dk_at dksX5_addNeed_5 4 rfl rfl)
theorem dX5_addNeed_124 : decode cX5_addNeed 124 = .ok (.goto 4, 3) := dk_167 0 4 (dk_at dksX5_addNeed_5 6 rfl rfl)
theorem dX5_addNeed_127 : decode cX5_addNeed 127 = .ok (.iconst 0, 1) := dk_3 (dk_at dksX5_addNeed_5 9 rfl rfl)
theorem dX5_addNeed_128 : decode cX5_addNeed 128 = .ok (.iadd, 1) := dk_96 (dk_at dksX5_addNeed_5 10 rfl rfl)
theorem dX5_addNeed_129 : decode cX5_addNeed 129 = .ok (.invokevirtual 90, 3) := dk_182 0 90 (dk_at dksX5_addNeed_5 11 rfl rfl)
theorem dX5_addNeed_132 : decode cX5_addNeed 132 = .ok (.aload_n 0, 1) := dk_42 (dk_at dksX5_addNeed_5 14 rfl rfl)
theorem dX5_addNeed_133 : decode cX5_addNeed 133 = .ok (.iload 4, 2) := dk_21 4 (dk_at dksX5_addNeed_5 15 rfl rfl)
theorem dX5_addNeed_135 : decode cX5_addNeed 135 = .ok (.iconst 2, 1) := dk_5 (dk_at dksX5_addNeed_5 17 rfl rfl)
theorem dX5_addNeed_136 : decode cX5_addNeed 136 = .ok (.iload 6, 2) := dk_21 6 (dk_at dksX5_addNeed_5 18 rfl rfl)
theorem dX5_addNeed_138 : decode cX5_addNeed 138 = .ok (.iconst 1, 1) := dk_4 (dk_at dksX5_addNeed_5 20 rfl rfl)
theorem dX5_addNeed_139 : decode cX5_addNeed 139 = .ok (.iadd, 1) := dk_96 (dk_at dksX5_addNeed_5 21 rfl rfl)
theorem dX5_addNeed_140 : decode cX5_addNeed 140 = .ok (.invokevirtual 90, 3) := dk_182 0 90 (dk_at dksX5_addNeed_6 0 rfl rfl)
theorem dX5_addNeed_143 : decode cX5_addNeed 143 = .ok (.iload_n 3, 1) := dk_29 (dk_at dksX5_addNeed_6 3 rfl rfl)
theorem dX5_addNeed_144 : decode cX5_addNeed 144 = .ok (.ifCond .eq 7, 3) := dk_153 0 7 (dk_at dksX5_addNeed_6 4 rfl rfl)
theorem dX5_addNeed_147 : decode cX5_addNeed 147 = .ok (.iconst 0, 1) := dk_3 (dk_at dksX5_addNeed_6 7 rfl rfl)
theorem dX5_addNeed_148 : decode cX5_addNeed 148 = .ok (.goto 7, 3) := dk_167 0 7 (dk_at dksX5_addNeed_6 8 rfl rfl)
theorem dX5_addNeed_151 : decode cX5_addNeed 151 = .ok (.aload_n 0, 1) := dk_42 (dk_at dksX5_addNeed_6 11 rfl rfl)
theorem dX5_addNeed_152 : decode cX5_addNeed 152 = .ok (.invokevirtual 117, 3) := dk_182 0 117 (dk_at dksX5_addNeed_6 12 rfl rfl)
theorem dX5_addNeed_155 : decode cX5_addNeed 155 = .ok (.istore 7, 2) := dk_54 7 (dk_at dksX5_addNeed_6 15 rfl rfl)
theorem dX5_addNeed_157 : decode cX5_addNeed 157 = .ok (.aload_n 0, 1) := dk_42 (dk_at dksX5_addNeed_6 17 rfl rfl)
theorem dX5_addNeed_158 : decode cX5_addNeed 158 = .ok (.iload 4, 2) := dk_21 4 (dk_at dksX5_addNeed_6 18 rfl rfl)
theorem dX5_addNeed_160 : decode cX5_addNeed 160 = .ok (.iconst 3, 1) := dk_6 (dk_at dksX5_addNeed_6 20 rfl rfl)
theorem dX5_addNeed_161 : decode cX5_addNeed 161 = .ok (.iload 6, 2) := dk_21 6 (dk_at dksX5_addNeed_6 21 rfl rfl)
theorem dX5_addNeed_163 : decode cX5_addNeed 163 = .ok (.iadd, 1) := dk_96 (dk_at dksX5_addNeed_6 23 rfl rfl)
theorem dX5_addNeed_164 : decode cX5_addNeed 164 = .ok (.invokevirtual 69, 3) := dk_182 0 69 (dk_at dksX5_addNeed_7 0 rfl rfl)
theorem dX5_addNeed_167 : decode cX5_addNeed 167 = .ok (.istore 8, 2) := dk_54 8 (dk_at dksX5_addNeed_7 3 rfl rfl)
theorem dX5_addNeed_169 : decode cX5_addNeed 169 = .ok (.aload_n 0, 1) := dk_42 (dk_at dksX5_addNeed_7 5 rfl rfl)
theorem dX5_addNeed_170 : decode cX5_addNeed 170 = .ok (.iload 4, 2) := dk_21 4 (dk_at dksX5_addNeed_7 6 rfl rfl)
theorem dX5_addNeed_172 : decode cX5_addNeed 172 = .ok (.iconst 2, 1) := dk_5 (dk_at dksX5_addNeed_7 8 rfl rfl)
theorem dX5_addNeed_173 : decode cX5_addNeed 173 = .ok (.iload 6, 2) := dk_21 6 (dk_at dksX5_addNeed_7 9 rfl rfl)
theorem dX5_addNeed_175 : decode cX5_addNeed 175 = .ok (.invokevirtual 90, 3) := dk_182 0 90 (dk_at dksX5_addNeed_7 11 rfl rfl)
theorem dX5_addNeed_178 : decode cX5_addNeed 178 = .ok (.aload_n 0, 1) := dk_42 (dk_at dksX5_addNeed_7 14 rfl rfl)
theorem dX5_addNeed_179 : decode cX5_addNeed 179 = .ok (.iload 4, 2) := dk_21 4 (dk_at dksX5_addNeed_7 15 rfl rfl)
theorem dX5_addNeed_181 : decode cX5_addNeed 181 = .ok (.iconst 3, 1) := dk_6 (dk_at dksX5_addNeed_7 17 rfl rfl)
theorem dX5_addNeed_182 : decode cX5_addNeed 182 = .ok (.iload 6, 2) := dk_21 6 (dk_at dksX5_addNeed_7 18 rfl rfl)
theorem dX5_addNeed_184 : decode cX5_addNeed 184 = .ok (.iadd, 1) := dk_96 (dk_at dksX5_addNeed_7 20 rfl rfl)
theorem dX5_addNeed_185 : decode cX5_addNeed 185 = .ok (.iconst 0, 1) := dk_3 (dk_at dksX5_addNeed_7 21 rfl rfl)
theorem dX5_addNeed_186 : decode cX5_addNeed 186 = .ok (.invokevirtual 90, 3) := dk_182 0 90 (dk_at dksX5_addNeed_8 0 rfl rfl)
theorem dX5_addNeed_189 : decode cX5_addNeed 189 = .ok (.iload 7, 2) := dk_21 7 (dk_at dksX5_addNeed_8 3 rfl rfl)
theorem dX5_addNeed_191 : decode cX5_addNeed 191 = .ok (.ifCond .le 12, 3) := dk_158 0 12 (dk_at dksX5_addNeed_8 5 rfl rfl)
theorem dX5_addNeed_194 : decode cX5_addNeed 194 = .ok (.aload_n 0, 1) := dk_42 (dk_at dksX5_addNeed_8 8 rfl rfl)
theorem dX5_addNeed_195 : decode cX5_addNeed 195 = .ok (.iconst 3, 1) := dk_6 (dk_at dksX5_addNeed_8 9 rfl rfl)
theorem dX5_addNeed_196 : decode cX5_addNeed 196 = .ok (.iconst 3, 1) := dk_6 (dk_at dksX5_addNeed_8 10 rfl rfl)
theorem dX5_addNeed_197 : decode cX5_addNeed 197 = .ok (.iload 7, 2) := dk_21 7 (dk_at dksX5_addNeed_8 11 rfl rfl)
theorem dX5_addNeed_199 : decode cX5_addNeed 199 = .ok (.invokevirtual 113, 3) := dk_182 0 113 (dk_at dksX5_addNeed_8 13 rfl rfl)
theorem dX5_addNeed_202 : decode cX5_addNeed 202 = .ok (.ireturn, 1) := dk_172 (dk_at dksX5_addNeed_8 16 rfl rfl)
theorem dX5_addNeed_203 : decode cX5_addNeed 203 = .ok (.aload_n 0, 1) := dk_42 (dk_at dksX5_addNeed_8 17 rfl rfl)
theorem dX5_addNeed_204 : decode cX5_addNeed 204 = .ok (.aload_n 0, 1) := dk_42 (dk_at dksX5_addNeed_8 18 rfl rfl)
theorem dX5_addNeed_205 : decode cX5_addNeed 205 = .ok (.getfield 7, 3) := dk_180 0 7 (dk_at dksX5_addNeed_8 19 rfl rfl)
theorem dX5_addNeed_208 : decode cX5_addNeed 208 = .ok (.invokevirtual 86, 3) := dk_182 0 86 (dk_at dksX5_addNeed_9 0 rfl rfl)
theorem dX5_addNeed_211 : decode cX5_addNeed 211 = .ok (.aload_n 0, 1) := dk_42 (dk_at dksX5_addNeed_9 3 rfl rfl)
theorem dX5_addNeed_212 : decode cX5_addNeed 212 = .ok (.iload 4, 2) := dk_21 4 (dk_at dksX5_addNeed_9 4 rfl rfl)
theorem dX5_addNeed_214 : decode cX5_addNeed 214 = .ok (.iconst 3, 1) := dk_6 (dk_at dksX5_addNeed_9 6 rfl rfl)
theorem dX5_addNeed_215 : decode cX5_addNeed 215 = .ok (.iload 6, 2) := dk_21 6 (dk_at dksX5_addNeed_9 7 rfl rfl)
theorem dX5_addNeed_217 : decode cX5_addNeed 217 = .ok (.iadd, 1) := dk_96 (dk_at dksX5_addNeed_9 9 rfl rfl)
theorem dX5_addNeed_218 : decode cX5_addNeed 218 = .ok (.iload 8, 2) := dk_21 8 (dk_at dksX5_addNeed_9 10 rfl rfl)
theorem dX5_addNeed_220 : decode cX5_addNeed 220 = .ok (.invokevirtual 90, 3) := dk_182 0 90 (dk_at dksX5_addNeed_9 12 rfl rfl)
theorem dX5_addNeed_223 : decode cX5_addNeed 223 = .ok (.aload_n 0, 1) := dk_42 (dk_at dksX5_addNeed_9 15 rfl rfl)
theorem dX5_addNeed_224 : decode cX5_addNeed 224 = .ok (.iload 4, 2) := dk_21 4 (dk_at dksX5_addNeed_9 16 rfl rfl)
theorem dX5_addNeed_226 : decode cX5_addNeed 226 = .ok (.iconst 2, 1) := dk_5 (dk_at dksX5_addNeed_9 18 rfl rfl)
theorem dX5_addNeed_227 : decode cX5_addNeed 227 = .ok (.iload 6, 2) := dk_21 6 (dk_at dksX5_addNeed_9 19 rfl rfl)
theorem dX5_addNeed_229 : decode cX5_addNeed 229 = .ok (.iconst 1, 1) := dk_4 (dk_at dksX5_addNeed_9 21 rfl rfl)
theorem dX5_addNeed_230 : decode cX5_addNeed 230 = .ok (.iadd, 1) := dk_96 (dk_at dksX5_addNeed_9 22 rfl rfl)
theorem dX5_addNeed_231 : decode cX5_addNeed 231 = .ok (.invokevirtual 90, 3) := dk_182 0 90 (dk_at dksX5_addNeed_10 0 rfl rfl)
theorem dX5_addNeed_234 : decode cX5_addNeed 234 = .ok (.iload 6, 2) := dk_21 6 (dk_at dksX5_addNeed_10 3 rfl rfl)
theorem dX5_addNeed_236 : decode cX5_addNeed 236 = .ok (.ireturn, 1) := dk_172 (dk_at dksX5_addNeed_10 5 rfl rfl)
abbrev cX5_placeOf : ByteArray := prog_12_method_22_code
def yX5_placeOf : MethodName := ⟨RX5, "placeOf", "(II)I"⟩
def dkwX5_placeOf_1 : List UInt8 := [132, 3, 1, 167, 255, 231, 2, 172]
abbrev dktX5_placeOf_1 : List UInt8 := dkwX5_placeOf_1 ++ []
def dkwX5_placeOf_0 : List UInt8 := [3, 62, 29, 42, 27, 5, 182, 0, 69, 162, 0, 21, 42, 27, 29, 182, 0, 107, 28, 160, 0, 5, 29, 172]
abbrev dktX5_placeOf_0 : List UInt8 := dkwX5_placeOf_0 ++ dktX5_placeOf_1
theorem dksX5_placeOf_0 : cX5_placeOf.data.toList.drop 0 = dktX5_placeOf_0 := by decide +kernel
theorem dksX5_placeOf_1 : cX5_placeOf.data.toList.drop 24 = dktX5_placeOf_1 := dk_seg dksX5_placeOf_0 24 rfl rfl
theorem dX5_placeOf_0 : decode cX5_placeOf 0 = .ok (.iconst 0, 1) := dk_3 (dk_at dksX5_placeOf_0 0 rfl rfl)
theorem dX5_placeOf_1 : decode cX5_placeOf 1 = .ok (.istore_n 3, 1) := dk_62 (dk_at dksX5_placeOf_0 1 rfl rfl)
theorem dX5_placeOf_2 : decode cX5_placeOf 2 = .ok (.iload_n 3, 1) := dk_29 (dk_at dksX5_placeOf_0 2 rfl rfl)
theorem dX5_placeOf_3 : decode cX5_placeOf 3 = .ok (.aload_n 0, 1) := dk_42 (dk_at dksX5_placeOf_0 3 rfl rfl)
theorem dX5_placeOf_4 : decode cX5_placeOf 4 = .ok (.iload_n 1, 1) := dk_27 (dk_at dksX5_placeOf_0 4 rfl rfl)
theorem dX5_placeOf_5 : decode cX5_placeOf 5 = .ok (.iconst 2, 1) := dk_5 (dk_at dksX5_placeOf_0 5 rfl rfl)
theorem dX5_placeOf_6 : decode cX5_placeOf 6 = .ok (.invokevirtual 69, 3) := dk_182 0 69 (dk_at dksX5_placeOf_0 6 rfl rfl)
theorem dX5_placeOf_9 : decode cX5_placeOf 9 = .ok (.if_icmp .ge 21, 3) := dk_162 0 21 (dk_at dksX5_placeOf_0 9 rfl rfl)
theorem dX5_placeOf_12 : decode cX5_placeOf 12 = .ok (.aload_n 0, 1) := dk_42 (dk_at dksX5_placeOf_0 12 rfl rfl)
theorem dX5_placeOf_13 : decode cX5_placeOf 13 = .ok (.iload_n 1, 1) := dk_27 (dk_at dksX5_placeOf_0 13 rfl rfl)
theorem dX5_placeOf_14 : decode cX5_placeOf 14 = .ok (.iload_n 3, 1) := dk_29 (dk_at dksX5_placeOf_0 14 rfl rfl)
theorem dX5_placeOf_15 : decode cX5_placeOf 15 = .ok (.invokevirtual 107, 3) := dk_182 0 107 (dk_at dksX5_placeOf_0 15 rfl rfl)
theorem dX5_placeOf_18 : decode cX5_placeOf 18 = .ok (.iload_n 2, 1) := dk_28 (dk_at dksX5_placeOf_0 18 rfl rfl)
theorem dX5_placeOf_19 : decode cX5_placeOf 19 = .ok (.if_icmp .ne 5, 3) := dk_160 0 5 (dk_at dksX5_placeOf_0 19 rfl rfl)
theorem dX5_placeOf_22 : decode cX5_placeOf 22 = .ok (.iload_n 3, 1) := dk_29 (dk_at dksX5_placeOf_0 22 rfl rfl)
theorem dX5_placeOf_23 : decode cX5_placeOf 23 = .ok (.ireturn, 1) := dk_172 (dk_at dksX5_placeOf_0 23 rfl rfl)
theorem dX5_placeOf_24 : decode cX5_placeOf 24 = .ok (.iinc 3 1, 3) := dk_132 3 1 (dk_at dksX5_placeOf_1 0 rfl rfl)
theorem dX5_placeOf_27 : decode cX5_placeOf 27 = .ok (.goto (-25), 3) := dk_167 255 231 (dk_at dksX5_placeOf_1 3 rfl rfl)
theorem dX5_placeOf_30 : decode cX5_placeOf 30 = .ok (.iconst (-1), 1) := dk_2 (dk_at dksX5_placeOf_1 6 rfl rfl)
theorem dX5_placeOf_31 : decode cX5_placeOf 31 = .ok (.ireturn, 1) := dk_172 (dk_at dksX5_placeOf_1 7 rfl rfl)
abbrev cX5_need : ByteArray := prog_12_method_15_code
def yX5_need : MethodName := ⟨RX5, "need", "(II)I"⟩
def dkwX5_need_0 : List UInt8 := [42, 27, 6, 28, 96, 182, 0, 69, 16, 8, 112, 172]
abbrev dktX5_need_0 : List UInt8 := dkwX5_need_0 ++ []
theorem dksX5_need_0 : cX5_need.data.toList.drop 0 = dktX5_need_0 := by decide +kernel
theorem dX5_need_0 : decode cX5_need 0 = .ok (.aload_n 0, 1) := dk_42 (dk_at dksX5_need_0 0 rfl rfl)
theorem dX5_need_1 : decode cX5_need 1 = .ok (.iload_n 1, 1) := dk_27 (dk_at dksX5_need_0 1 rfl rfl)
theorem dX5_need_2 : decode cX5_need 2 = .ok (.iconst 3, 1) := dk_6 (dk_at dksX5_need_0 2 rfl rfl)
theorem dX5_need_3 : decode cX5_need 3 = .ok (.iload_n 2, 1) := dk_28 (dk_at dksX5_need_0 3 rfl rfl)
theorem dX5_need_4 : decode cX5_need 4 = .ok (.iadd, 1) := dk_96 (dk_at dksX5_need_0 4 rfl rfl)
theorem dX5_need_5 : decode cX5_need 5 = .ok (.invokevirtual 69, 3) := dk_182 0 69 (dk_at dksX5_need_0 5 rfl rfl)
theorem dX5_need_8 : decode cX5_need 8 = .ok (.bipush 8, 2) := dk_16 8 (dk_at dksX5_need_0 8 rfl rfl)
theorem dX5_need_10 : decode cX5_need 10 = .ok (.irem, 1) := dk_112 (dk_at dksX5_need_0 10 rfl rfl)
theorem dX5_need_11 : decode cX5_need 11 = .ok (.ireturn, 1) := dk_172 (dk_at dksX5_need_0 11 rfl rfl)
abbrev cX5_refuses : ByteArray := prog_12_method_4_code
def yX5_refuses : MethodName := ⟨RX5, "refuses", "(III)I"⟩
def dkwX5_refuses_1 : List UInt8 := [181, 0, 52, 3, 172]
abbrev dktX5_refuses_1 : List UInt8 := dkwX5_refuses_1 ++ []
def dkwX5_refuses_0 : List UInt8 := [42, 27, 181, 0, 39, 42, 4, 181, 0, 42, 42, 28, 181, 0, 46, 42, 29, 181, 0, 49, 42, 3]
abbrev dktX5_refuses_0 : List UInt8 := dkwX5_refuses_0 ++ dktX5_refuses_1
theorem dksX5_refuses_0 : cX5_refuses.data.toList.drop 0 = dktX5_refuses_0 := by decide +kernel
theorem dksX5_refuses_1 : cX5_refuses.data.toList.drop 22 = dktX5_refuses_1 := dk_seg dksX5_refuses_0 22 rfl rfl
theorem dX5_refuses_0 : decode cX5_refuses 0 = .ok (.aload_n 0, 1) := dk_42 (dk_at dksX5_refuses_0 0 rfl rfl)
theorem dX5_refuses_1 : decode cX5_refuses 1 = .ok (.iload_n 1, 1) := dk_27 (dk_at dksX5_refuses_0 1 rfl rfl)
theorem dX5_refuses_2 : decode cX5_refuses 2 = .ok (.putfield 39, 3) := dk_181 0 39 (dk_at dksX5_refuses_0 2 rfl rfl)
theorem dX5_refuses_5 : decode cX5_refuses 5 = .ok (.aload_n 0, 1) := dk_42 (dk_at dksX5_refuses_0 5 rfl rfl)
theorem dX5_refuses_6 : decode cX5_refuses 6 = .ok (.iconst 1, 1) := dk_4 (dk_at dksX5_refuses_0 6 rfl rfl)
theorem dX5_refuses_7 : decode cX5_refuses 7 = .ok (.putfield 42, 3) := dk_181 0 42 (dk_at dksX5_refuses_0 7 rfl rfl)
theorem dX5_refuses_10 : decode cX5_refuses 10 = .ok (.aload_n 0, 1) := dk_42 (dk_at dksX5_refuses_0 10 rfl rfl)
theorem dX5_refuses_11 : decode cX5_refuses 11 = .ok (.iload_n 2, 1) := dk_28 (dk_at dksX5_refuses_0 11 rfl rfl)
theorem dX5_refuses_12 : decode cX5_refuses 12 = .ok (.putfield 46, 3) := dk_181 0 46 (dk_at dksX5_refuses_0 12 rfl rfl)
theorem dX5_refuses_15 : decode cX5_refuses 15 = .ok (.aload_n 0, 1) := dk_42 (dk_at dksX5_refuses_0 15 rfl rfl)
theorem dX5_refuses_16 : decode cX5_refuses 16 = .ok (.iload_n 3, 1) := dk_29 (dk_at dksX5_refuses_0 16 rfl rfl)
theorem dX5_refuses_17 : decode cX5_refuses 17 = .ok (.putfield 49, 3) := dk_181 0 49 (dk_at dksX5_refuses_0 17 rfl rfl)
theorem dX5_refuses_20 : decode cX5_refuses 20 = .ok (.aload_n 0, 1) := dk_42 (dk_at dksX5_refuses_0 20 rfl rfl)
theorem dX5_refuses_21 : decode cX5_refuses 21 = .ok (.iconst 0, 1) := dk_3 (dk_at dksX5_refuses_0 21 rfl rfl)
theorem dX5_refuses_22 : decode cX5_refuses 22 = .ok (.putfield 52, 3) := dk_181 0 52 (dk_at dksX5_refuses_1 0 rfl rfl)
theorem dX5_refuses_25 : decode cX5_refuses 25 = .ok (.iconst 0, 1) := dk_3 (dk_at dksX5_refuses_1 3 rfl rfl)
theorem dX5_refuses_26 : decode cX5_refuses 26 = .ok (.ireturn, 1) := dk_172 (dk_at dksX5_refuses_1 4 rfl rfl)
abbrev cX5_circle : ByteArray := prog_12_method_35_code
def yX5_circle : MethodName := ⟨RX5, "circle", "()I"⟩
def dkwX5_circle_2 : List UInt8 := [162, 0, 6, 21, 4, 60, 132, 4, 1, 167, 255, 217, 132, 2, 1, 167, 255, 198, 27, 172]
abbrev dktX5_circle_2 : List UInt8 := dkwX5_circle_2 ++ []
def dkwX5_circle_1 : List UInt8 := [42, 29, 3, 182, 0, 139, 62, 29, 28, 122, 4, 126, 4, 160, 0, 16, 27, 153, 0, 9, 21, 4, 27]
abbrev dktX5_circle_1 : List UInt8 := dkwX5_circle_1 ++ dktX5_circle_2
def dkwX5_circle_0 : List UInt8 := [3, 60, 3, 61, 28, 16, 8, 162, 0, 58, 4, 28, 120, 62, 4, 54, 4, 21, 4, 16, 8, 163, 0, 38]
abbrev dktX5_circle_0 : List UInt8 := dkwX5_circle_0 ++ dktX5_circle_1
theorem dksX5_circle_0 : cX5_circle.data.toList.drop 0 = dktX5_circle_0 := by decide +kernel
theorem dksX5_circle_1 : cX5_circle.data.toList.drop 24 = dktX5_circle_1 := dk_seg dksX5_circle_0 24 rfl rfl
theorem dksX5_circle_2 : cX5_circle.data.toList.drop 47 = dktX5_circle_2 := dk_seg dksX5_circle_1 23 rfl rfl
theorem dX5_circle_0 : decode cX5_circle 0 = .ok (.iconst 0, 1) := dk_3 (dk_at dksX5_circle_0 0 rfl rfl)
theorem dX5_circle_1 : decode cX5_circle 1 = .ok (.istore_n 1, 1) := dk_60 (dk_at dksX5_circle_0 1 rfl rfl)
theorem dX5_circle_2 : decode cX5_circle 2 = .ok (.iconst 0, 1) := dk_3 (dk_at dksX5_circle_0 2 rfl rfl)
theorem dX5_circle_3 : decode cX5_circle 3 = .ok (.istore_n 2, 1) := dk_61 (dk_at dksX5_circle_0 3 rfl rfl)
theorem dX5_circle_4 : decode cX5_circle 4 = .ok (.iload_n 2, 1) := dk_28 (dk_at dksX5_circle_0 4 rfl rfl)
theorem dX5_circle_5 : decode cX5_circle 5 = .ok (.bipush 8, 2) := dk_16 8 (dk_at dksX5_circle_0 5 rfl rfl)
theorem dX5_circle_7 : decode cX5_circle 7 = .ok (.if_icmp .ge 58, 3) := dk_162 0 58 (dk_at dksX5_circle_0 7 rfl rfl)
theorem dX5_circle_10 : decode cX5_circle 10 = .ok (.iconst 1, 1) := dk_4 (dk_at dksX5_circle_0 10 rfl rfl)
theorem dX5_circle_11 : decode cX5_circle 11 = .ok (.iload_n 2, 1) := dk_28 (dk_at dksX5_circle_0 11 rfl rfl)
theorem dX5_circle_12 : decode cX5_circle 12 = .ok (.ishl, 1) := dk_120 (dk_at dksX5_circle_0 12 rfl rfl)
theorem dX5_circle_13 : decode cX5_circle 13 = .ok (.istore_n 3, 1) := dk_62 (dk_at dksX5_circle_0 13 rfl rfl)
theorem dX5_circle_14 : decode cX5_circle 14 = .ok (.iconst 1, 1) := dk_4 (dk_at dksX5_circle_0 14 rfl rfl)
theorem dX5_circle_15 : decode cX5_circle 15 = .ok (.istore 4, 2) := dk_54 4 (dk_at dksX5_circle_0 15 rfl rfl)
theorem dX5_circle_17 : decode cX5_circle 17 = .ok (.iload 4, 2) := dk_21 4 (dk_at dksX5_circle_0 17 rfl rfl)
theorem dX5_circle_19 : decode cX5_circle 19 = .ok (.bipush 8, 2) := dk_16 8 (dk_at dksX5_circle_0 19 rfl rfl)
theorem dX5_circle_21 : decode cX5_circle 21 = .ok (.if_icmp .gt 38, 3) := dk_163 0 38 (dk_at dksX5_circle_0 21 rfl rfl)
theorem dX5_circle_24 : decode cX5_circle 24 = .ok (.aload_n 0, 1) := dk_42 (dk_at dksX5_circle_1 0 rfl rfl)
theorem dX5_circle_25 : decode cX5_circle 25 = .ok (.iload_n 3, 1) := dk_29 (dk_at dksX5_circle_1 1 rfl rfl)
theorem dX5_circle_26 : decode cX5_circle 26 = .ok (.iconst 0, 1) := dk_3 (dk_at dksX5_circle_1 2 rfl rfl)
theorem dX5_circle_27 : decode cX5_circle 27 = .ok (.invokevirtual 139, 3) := dk_182 0 139 (dk_at dksX5_circle_1 3 rfl rfl)
theorem dX5_circle_30 : decode cX5_circle 30 = .ok (.istore_n 3, 1) := dk_62 (dk_at dksX5_circle_1 6 rfl rfl)
theorem dX5_circle_31 : decode cX5_circle 31 = .ok (.iload_n 3, 1) := dk_29 (dk_at dksX5_circle_1 7 rfl rfl)
theorem dX5_circle_32 : decode cX5_circle 32 = .ok (.iload_n 2, 1) := dk_28 (dk_at dksX5_circle_1 8 rfl rfl)
theorem dX5_circle_33 : decode cX5_circle 33 = .ok (.ishr, 1) := dk_122 (dk_at dksX5_circle_1 9 rfl rfl)
theorem dX5_circle_34 : decode cX5_circle 34 = .ok (.iconst 1, 1) := dk_4 (dk_at dksX5_circle_1 10 rfl rfl)
theorem dX5_circle_35 : decode cX5_circle 35 = .ok (.iand, 1) := dk_126 (dk_at dksX5_circle_1 11 rfl rfl)
theorem dX5_circle_36 : decode cX5_circle 36 = .ok (.iconst 1, 1) := dk_4 (dk_at dksX5_circle_1 12 rfl rfl)
theorem dX5_circle_37 : decode cX5_circle 37 = .ok (.if_icmp .ne 16, 3) := dk_160 0 16 (dk_at dksX5_circle_1 13 rfl rfl)
theorem dX5_circle_40 : decode cX5_circle 40 = .ok (.iload_n 1, 1) := dk_27 (dk_at dksX5_circle_1 16 rfl rfl)
theorem dX5_circle_41 : decode cX5_circle 41 = .ok (.ifCond .eq 9, 3) := dk_153 0 9 (dk_at dksX5_circle_1 17 rfl rfl)
theorem dX5_circle_44 : decode cX5_circle 44 = .ok (.iload 4, 2) := dk_21 4 (dk_at dksX5_circle_1 20 rfl rfl)
theorem dX5_circle_46 : decode cX5_circle 46 = .ok (.iload_n 1, 1) := dk_27 (dk_at dksX5_circle_1 22 rfl rfl)
theorem dX5_circle_47 : decode cX5_circle 47 = .ok (.if_icmp .ge 6, 3) := dk_162 0 6 (dk_at dksX5_circle_2 0 rfl rfl)
theorem dX5_circle_50 : decode cX5_circle 50 = .ok (.iload 4, 2) := dk_21 4 (dk_at dksX5_circle_2 3 rfl rfl)
theorem dX5_circle_52 : decode cX5_circle 52 = .ok (.istore_n 1, 1) := dk_60 (dk_at dksX5_circle_2 5 rfl rfl)
theorem dX5_circle_53 : decode cX5_circle 53 = .ok (.iinc 4 1, 3) := dk_132 4 1 (dk_at dksX5_circle_2 6 rfl rfl)
theorem dX5_circle_56 : decode cX5_circle 56 = .ok (.goto (-39), 3) := dk_167 255 217 (dk_at dksX5_circle_2 9 rfl rfl)
theorem dX5_circle_59 : decode cX5_circle 59 = .ok (.iinc 2 1, 3) := dk_132 2 1 (dk_at dksX5_circle_2 12 rfl rfl)
theorem dX5_circle_62 : decode cX5_circle 62 = .ok (.goto (-58), 3) := dk_167 255 198 (dk_at dksX5_circle_2 15 rfl rfl)
theorem dX5_circle_65 : decode cX5_circle 65 = .ok (.iload_n 1, 1) := dk_27 (dk_at dksX5_circle_2 18 rfl rfl)
theorem dX5_circle_66 : decode cX5_circle 66 = .ok (.ireturn, 1) := dk_172 (dk_at dksX5_circle_2 19 rfl rfl)
abbrev cX5_nextOf : ByteArray := prog_12_method_33_code
def yX5_nextOf : MethodName := ⟨RX5, "nextOf", "(IZ)I"⟩
def dkwX5_nextOf_1 : List UInt8 := [21, 4, 28, 182, 0, 135, 128, 62, 132, 4, 1, 167, 255, 226, 29, 172]
abbrev dktX5_nextOf_1 : List UInt8 := dkwX5_nextOf_1 ++ []
def dkwX5_nextOf_0 : List UInt8 := [3, 62, 3, 54, 4, 21, 4, 16, 8, 162, 0, 29, 27, 21, 4, 122, 4, 126, 4, 160, 0, 13, 29, 42]
abbrev dktX5_nextOf_0 : List UInt8 := dkwX5_nextOf_0 ++ dktX5_nextOf_1
theorem dksX5_nextOf_0 : cX5_nextOf.data.toList.drop 0 = dktX5_nextOf_0 := by decide +kernel
theorem dksX5_nextOf_1 : cX5_nextOf.data.toList.drop 24 = dktX5_nextOf_1 := dk_seg dksX5_nextOf_0 24 rfl rfl
theorem dX5_nextOf_0 : decode cX5_nextOf 0 = .ok (.iconst 0, 1) := dk_3 (dk_at dksX5_nextOf_0 0 rfl rfl)
theorem dX5_nextOf_1 : decode cX5_nextOf 1 = .ok (.istore_n 3, 1) := dk_62 (dk_at dksX5_nextOf_0 1 rfl rfl)
theorem dX5_nextOf_2 : decode cX5_nextOf 2 = .ok (.iconst 0, 1) := dk_3 (dk_at dksX5_nextOf_0 2 rfl rfl)
theorem dX5_nextOf_3 : decode cX5_nextOf 3 = .ok (.istore 4, 2) := dk_54 4 (dk_at dksX5_nextOf_0 3 rfl rfl)
theorem dX5_nextOf_5 : decode cX5_nextOf 5 = .ok (.iload 4, 2) := dk_21 4 (dk_at dksX5_nextOf_0 5 rfl rfl)
theorem dX5_nextOf_7 : decode cX5_nextOf 7 = .ok (.bipush 8, 2) := dk_16 8 (dk_at dksX5_nextOf_0 7 rfl rfl)
theorem dX5_nextOf_9 : decode cX5_nextOf 9 = .ok (.if_icmp .ge 29, 3) := dk_162 0 29 (dk_at dksX5_nextOf_0 9 rfl rfl)
theorem dX5_nextOf_12 : decode cX5_nextOf 12 = .ok (.iload_n 1, 1) := dk_27 (dk_at dksX5_nextOf_0 12 rfl rfl)
theorem dX5_nextOf_13 : decode cX5_nextOf 13 = .ok (.iload 4, 2) := dk_21 4 (dk_at dksX5_nextOf_0 13 rfl rfl)
theorem dX5_nextOf_15 : decode cX5_nextOf 15 = .ok (.ishr, 1) := dk_122 (dk_at dksX5_nextOf_0 15 rfl rfl)
theorem dX5_nextOf_16 : decode cX5_nextOf 16 = .ok (.iconst 1, 1) := dk_4 (dk_at dksX5_nextOf_0 16 rfl rfl)
theorem dX5_nextOf_17 : decode cX5_nextOf 17 = .ok (.iand, 1) := dk_126 (dk_at dksX5_nextOf_0 17 rfl rfl)
theorem dX5_nextOf_18 : decode cX5_nextOf 18 = .ok (.iconst 1, 1) := dk_4 (dk_at dksX5_nextOf_0 18 rfl rfl)
theorem dX5_nextOf_19 : decode cX5_nextOf 19 = .ok (.if_icmp .ne 13, 3) := dk_160 0 13 (dk_at dksX5_nextOf_0 19 rfl rfl)
theorem dX5_nextOf_22 : decode cX5_nextOf 22 = .ok (.iload_n 3, 1) := dk_29 (dk_at dksX5_nextOf_0 22 rfl rfl)
theorem dX5_nextOf_23 : decode cX5_nextOf 23 = .ok (.aload_n 0, 1) := dk_42 (dk_at dksX5_nextOf_0 23 rfl rfl)
theorem dX5_nextOf_24 : decode cX5_nextOf 24 = .ok (.iload 4, 2) := dk_21 4 (dk_at dksX5_nextOf_1 0 rfl rfl)
theorem dX5_nextOf_26 : decode cX5_nextOf 26 = .ok (.iload_n 2, 1) := dk_28 (dk_at dksX5_nextOf_1 2 rfl rfl)
theorem dX5_nextOf_27 : decode cX5_nextOf 27 = .ok (.invokevirtual 135, 3) := dk_182 0 135 (dk_at dksX5_nextOf_1 3 rfl rfl)
theorem dX5_nextOf_30 : decode cX5_nextOf 30 = .ok (.ior, 1) := dk_128 (dk_at dksX5_nextOf_1 6 rfl rfl)
theorem dX5_nextOf_31 : decode cX5_nextOf 31 = .ok (.istore_n 3, 1) := dk_62 (dk_at dksX5_nextOf_1 7 rfl rfl)
theorem dX5_nextOf_32 : decode cX5_nextOf 32 = .ok (.iinc 4 1, 3) := dk_132 4 1 (dk_at dksX5_nextOf_1 8 rfl rfl)
theorem dX5_nextOf_35 : decode cX5_nextOf 35 = .ok (.goto (-30), 3) := dk_167 255 226 (dk_at dksX5_nextOf_1 11 rfl rfl)
theorem dX5_nextOf_38 : decode cX5_nextOf 38 = .ok (.iload_n 3, 1) := dk_29 (dk_at dksX5_nextOf_1 14 rfl rfl)
theorem dX5_nextOf_39 : decode cX5_nextOf 39 = .ok (.ireturn, 1) := dk_172 (dk_at dksX5_nextOf_1 15 rfl rfl)
abbrev cX5_next : ByteArray := prog_12_method_32_code
def yX5_next : MethodName := ⟨RX5, "next", "(IZ)I"⟩
def dkwX5_next_2 : List UInt8 := [182, 0, 107, 182, 0, 131, 120, 128, 62, 132, 4, 1, 167, 255, 212, 29, 172]
abbrev dktX5_next_2 : List UInt8 := dkwX5_next_2 ++ []
def dkwX5_next_1 : List UInt8 := [162, 0, 39, 28, 154, 0, 13, 42, 27, 21, 4, 182, 0, 128, 153, 0, 19, 29, 4, 42, 42, 27, 21, 4]
abbrev dktX5_next_1 : List UInt8 := dkwX5_next_1 ++ dktX5_next_2
def dkwX5_next_0 : List UInt8 := [3, 62, 42, 27, 182, 0, 73, 154, 0, 5, 3, 172, 3, 54, 4, 21, 4, 42, 27, 5, 182, 0, 69]
abbrev dktX5_next_0 : List UInt8 := dkwX5_next_0 ++ dktX5_next_1
theorem dksX5_next_0 : cX5_next.data.toList.drop 0 = dktX5_next_0 := by decide +kernel
theorem dksX5_next_1 : cX5_next.data.toList.drop 23 = dktX5_next_1 := dk_seg dksX5_next_0 23 rfl rfl
theorem dksX5_next_2 : cX5_next.data.toList.drop 47 = dktX5_next_2 := dk_seg dksX5_next_1 24 rfl rfl
theorem dX5_next_0 : decode cX5_next 0 = .ok (.iconst 0, 1) := dk_3 (dk_at dksX5_next_0 0 rfl rfl)
theorem dX5_next_1 : decode cX5_next 1 = .ok (.istore_n 3, 1) := dk_62 (dk_at dksX5_next_0 1 rfl rfl)
theorem dX5_next_2 : decode cX5_next 2 = .ok (.aload_n 0, 1) := dk_42 (dk_at dksX5_next_0 2 rfl rfl)
theorem dX5_next_3 : decode cX5_next 3 = .ok (.iload_n 1, 1) := dk_27 (dk_at dksX5_next_0 3 rfl rfl)
theorem dX5_next_4 : decode cX5_next 4 = .ok (.invokevirtual 73, 3) := dk_182 0 73 (dk_at dksX5_next_0 4 rfl rfl)
theorem dX5_next_7 : decode cX5_next 7 = .ok (.ifCond .ne 5, 3) := dk_154 0 5 (dk_at dksX5_next_0 7 rfl rfl)
theorem dX5_next_10 : decode cX5_next 10 = .ok (.iconst 0, 1) := dk_3 (dk_at dksX5_next_0 10 rfl rfl)
theorem dX5_next_11 : decode cX5_next 11 = .ok (.ireturn, 1) := dk_172 (dk_at dksX5_next_0 11 rfl rfl)
theorem dX5_next_12 : decode cX5_next 12 = .ok (.iconst 0, 1) := dk_3 (dk_at dksX5_next_0 12 rfl rfl)
theorem dX5_next_13 : decode cX5_next 13 = .ok (.istore 4, 2) := dk_54 4 (dk_at dksX5_next_0 13 rfl rfl)
theorem dX5_next_15 : decode cX5_next 15 = .ok (.iload 4, 2) := dk_21 4 (dk_at dksX5_next_0 15 rfl rfl)
theorem dX5_next_17 : decode cX5_next 17 = .ok (.aload_n 0, 1) := dk_42 (dk_at dksX5_next_0 17 rfl rfl)
theorem dX5_next_18 : decode cX5_next 18 = .ok (.iload_n 1, 1) := dk_27 (dk_at dksX5_next_0 18 rfl rfl)
theorem dX5_next_19 : decode cX5_next 19 = .ok (.iconst 2, 1) := dk_5 (dk_at dksX5_next_0 19 rfl rfl)
theorem dX5_next_20 : decode cX5_next 20 = .ok (.invokevirtual 69, 3) := dk_182 0 69 (dk_at dksX5_next_0 20 rfl rfl)
theorem dX5_next_23 : decode cX5_next 23 = .ok (.if_icmp .ge 39, 3) := dk_162 0 39 (dk_at dksX5_next_1 0 rfl rfl)
theorem dX5_next_26 : decode cX5_next 26 = .ok (.iload_n 2, 1) := dk_28 (dk_at dksX5_next_1 3 rfl rfl)
theorem dX5_next_27 : decode cX5_next 27 = .ok (.ifCond .ne 13, 3) := dk_154 0 13 (dk_at dksX5_next_1 4 rfl rfl)
theorem dX5_next_30 : decode cX5_next 30 = .ok (.aload_n 0, 1) := dk_42 (dk_at dksX5_next_1 7 rfl rfl)
theorem dX5_next_31 : decode cX5_next 31 = .ok (.iload_n 1, 1) := dk_27 (dk_at dksX5_next_1 8 rfl rfl)
theorem dX5_next_32 : decode cX5_next 32 = .ok (.iload 4, 2) := dk_21 4 (dk_at dksX5_next_1 9 rfl rfl)
theorem dX5_next_34 : decode cX5_next 34 = .ok (.invokevirtual 128, 3) := dk_182 0 128 (dk_at dksX5_next_1 11 rfl rfl)
theorem dX5_next_37 : decode cX5_next 37 = .ok (.ifCond .eq 19, 3) := dk_153 0 19 (dk_at dksX5_next_1 14 rfl rfl)
theorem dX5_next_40 : decode cX5_next 40 = .ok (.iload_n 3, 1) := dk_29 (dk_at dksX5_next_1 17 rfl rfl)
theorem dX5_next_41 : decode cX5_next 41 = .ok (.iconst 1, 1) := dk_4 (dk_at dksX5_next_1 18 rfl rfl)
theorem dX5_next_42 : decode cX5_next 42 = .ok (.aload_n 0, 1) := dk_42 (dk_at dksX5_next_1 19 rfl rfl)
theorem dX5_next_43 : decode cX5_next 43 = .ok (.aload_n 0, 1) := dk_42 (dk_at dksX5_next_1 20 rfl rfl)
theorem dX5_next_44 : decode cX5_next 44 = .ok (.iload_n 1, 1) := dk_27 (dk_at dksX5_next_1 21 rfl rfl)
theorem dX5_next_45 : decode cX5_next 45 = .ok (.iload 4, 2) := dk_21 4 (dk_at dksX5_next_1 22 rfl rfl)
theorem dX5_next_47 : decode cX5_next 47 = .ok (.invokevirtual 107, 3) := dk_182 0 107 (dk_at dksX5_next_2 0 rfl rfl)
theorem dX5_next_50 : decode cX5_next 50 = .ok (.invokevirtual 131, 3) := dk_182 0 131 (dk_at dksX5_next_2 3 rfl rfl)
theorem dX5_next_53 : decode cX5_next 53 = .ok (.ishl, 1) := dk_120 (dk_at dksX5_next_2 6 rfl rfl)
theorem dX5_next_54 : decode cX5_next 54 = .ok (.ior, 1) := dk_128 (dk_at dksX5_next_2 7 rfl rfl)
theorem dX5_next_55 : decode cX5_next 55 = .ok (.istore_n 3, 1) := dk_62 (dk_at dksX5_next_2 8 rfl rfl)
theorem dX5_next_56 : decode cX5_next 56 = .ok (.iinc 4 1, 3) := dk_132 4 1 (dk_at dksX5_next_2 9 rfl rfl)
theorem dX5_next_59 : decode cX5_next 59 = .ok (.goto (-44), 3) := dk_167 255 212 (dk_at dksX5_next_2 12 rfl rfl)
theorem dX5_next_62 : decode cX5_next 62 = .ok (.iload_n 3, 1) := dk_29 (dk_at dksX5_next_2 15 rfl rfl)
theorem dX5_next_63 : decode cX5_next 63 = .ok (.ireturn, 1) := dk_172 (dk_at dksX5_next_2 16 rfl rfl)
abbrev cX5_isDirect : ByteArray := prog_12_method_16_code
def yX5_isDirect : MethodName := ⟨RX5, "isDirect", "(II)Z"⟩
def dkwX5_isDirect_0 : List UInt8 := [42, 27, 6, 28, 96, 182, 0, 69, 16, 8, 162, 0, 7, 4, 167, 0, 4, 3, 172]
abbrev dktX5_isDirect_0 : List UInt8 := dkwX5_isDirect_0 ++ []
theorem dksX5_isDirect_0 : cX5_isDirect.data.toList.drop 0 = dktX5_isDirect_0 := by decide +kernel
theorem dX5_isDirect_0 : decode cX5_isDirect 0 = .ok (.aload_n 0, 1) := dk_42 (dk_at dksX5_isDirect_0 0 rfl rfl)
theorem dX5_isDirect_1 : decode cX5_isDirect 1 = .ok (.iload_n 1, 1) := dk_27 (dk_at dksX5_isDirect_0 1 rfl rfl)
theorem dX5_isDirect_2 : decode cX5_isDirect 2 = .ok (.iconst 3, 1) := dk_6 (dk_at dksX5_isDirect_0 2 rfl rfl)
theorem dX5_isDirect_3 : decode cX5_isDirect 3 = .ok (.iload_n 2, 1) := dk_28 (dk_at dksX5_isDirect_0 3 rfl rfl)
theorem dX5_isDirect_4 : decode cX5_isDirect 4 = .ok (.iadd, 1) := dk_96 (dk_at dksX5_isDirect_0 4 rfl rfl)
theorem dX5_isDirect_5 : decode cX5_isDirect 5 = .ok (.invokevirtual 69, 3) := dk_182 0 69 (dk_at dksX5_isDirect_0 5 rfl rfl)
theorem dX5_isDirect_8 : decode cX5_isDirect 8 = .ok (.bipush 8, 2) := dk_16 8 (dk_at dksX5_isDirect_0 8 rfl rfl)
theorem dX5_isDirect_10 : decode cX5_isDirect 10 = .ok (.if_icmp .ge 7, 3) := dk_162 0 7 (dk_at dksX5_isDirect_0 10 rfl rfl)
theorem dX5_isDirect_13 : decode cX5_isDirect 13 = .ok (.iconst 1, 1) := dk_4 (dk_at dksX5_isDirect_0 13 rfl rfl)
theorem dX5_isDirect_14 : decode cX5_isDirect 14 = .ok (.goto 4, 3) := dk_167 0 4 (dk_at dksX5_isDirect_0 14 rfl rfl)
theorem dX5_isDirect_17 : decode cX5_isDirect 17 = .ok (.iconst 0, 1) := dk_3 (dk_at dksX5_isDirect_0 17 rfl rfl)
theorem dX5_isDirect_18 : decode cX5_isDirect 18 = .ok (.ireturn, 1) := dk_172 (dk_at dksX5_isDirect_0 18 rfl rfl)
abbrev cX5_stands : ByteArray := prog_12_method_17_code
def yX5_stands : MethodName := ⟨RX5, "stands", "(I)I"⟩
def dkwX5_stands_1 : List UInt8 := [167, 255, 236, 28, 172]
abbrev dktX5_stands_1 : List UInt8 := dkwX5_stands_1 ++ []
def dkwX5_stands_0 : List UInt8 := [27, 61, 42, 28, 16, 6, 182, 0, 69, 158, 0, 16, 42, 28, 16, 6, 182, 0, 69, 4, 100, 61]
abbrev dktX5_stands_0 : List UInt8 := dkwX5_stands_0 ++ dktX5_stands_1
theorem dksX5_stands_0 : cX5_stands.data.toList.drop 0 = dktX5_stands_0 := by decide +kernel
theorem dksX5_stands_1 : cX5_stands.data.toList.drop 22 = dktX5_stands_1 := dk_seg dksX5_stands_0 22 rfl rfl
theorem dX5_stands_0 : decode cX5_stands 0 = .ok (.iload_n 1, 1) := dk_27 (dk_at dksX5_stands_0 0 rfl rfl)
theorem dX5_stands_1 : decode cX5_stands 1 = .ok (.istore_n 2, 1) := dk_61 (dk_at dksX5_stands_0 1 rfl rfl)
theorem dX5_stands_2 : decode cX5_stands 2 = .ok (.aload_n 0, 1) := dk_42 (dk_at dksX5_stands_0 2 rfl rfl)
theorem dX5_stands_3 : decode cX5_stands 3 = .ok (.iload_n 2, 1) := dk_28 (dk_at dksX5_stands_0 3 rfl rfl)
theorem dX5_stands_4 : decode cX5_stands 4 = .ok (.bipush 6, 2) := dk_16 6 (dk_at dksX5_stands_0 4 rfl rfl)
theorem dX5_stands_6 : decode cX5_stands 6 = .ok (.invokevirtual 69, 3) := dk_182 0 69 (dk_at dksX5_stands_0 6 rfl rfl)
theorem dX5_stands_9 : decode cX5_stands 9 = .ok (.ifCond .le 16, 3) := dk_158 0 16 (dk_at dksX5_stands_0 9 rfl rfl)
theorem dX5_stands_12 : decode cX5_stands 12 = .ok (.aload_n 0, 1) := dk_42 (dk_at dksX5_stands_0 12 rfl rfl)
theorem dX5_stands_13 : decode cX5_stands 13 = .ok (.iload_n 2, 1) := dk_28 (dk_at dksX5_stands_0 13 rfl rfl)
theorem dX5_stands_14 : decode cX5_stands 14 = .ok (.bipush 6, 2) := dk_16 6 (dk_at dksX5_stands_0 14 rfl rfl)
theorem dX5_stands_16 : decode cX5_stands 16 = .ok (.invokevirtual 69, 3) := dk_182 0 69 (dk_at dksX5_stands_0 16 rfl rfl)
theorem dX5_stands_19 : decode cX5_stands 19 = .ok (.iconst 1, 1) := dk_4 (dk_at dksX5_stands_0 19 rfl rfl)
theorem dX5_stands_20 : decode cX5_stands 20 = .ok (.isub, 1) := dk_100 (dk_at dksX5_stands_0 20 rfl rfl)
theorem dX5_stands_21 : decode cX5_stands 21 = .ok (.istore_n 2, 1) := dk_61 (dk_at dksX5_stands_0 21 rfl rfl)
theorem dX5_stands_22 : decode cX5_stands 22 = .ok (.goto (-20), 3) := dk_167 255 236 (dk_at dksX5_stands_1 0 rfl rfl)
theorem dX5_stands_25 : decode cX5_stands 25 = .ok (.iload_n 2, 1) := dk_28 (dk_at dksX5_stands_1 3 rfl rfl)
theorem dX5_stands_26 : decode cX5_stands 26 = .ok (.ireturn, 1) := dk_172 (dk_at dksX5_stands_1 4 rfl rfl)
abbrev cX5_removeNeed : ByteArray := prog_12_method_24_code
def yX5_removeNeed : MethodName := ⟨RX5, "removeNeed", "(CC)I"⟩
def dkwX5_removeNeed_6 : List UInt8 := [29, 5, 182, 0, 69, 96, 3, 182, 0, 90, 21, 4, 172]
abbrev dktX5_removeNeed_6 : List UInt8 := dkwX5_removeNeed_6 ++ []
def dkwX5_removeNeed_5 : List UInt8 := [42, 29, 6, 21, 5, 96, 4, 96, 182, 0, 69, 182, 0, 90, 132, 5, 1, 167, 255, 222, 42, 29, 6, 42]
abbrev dktX5_removeNeed_5 : List UInt8 := dkwX5_removeNeed_5 ++ dktX5_removeNeed_6
def dkwX5_removeNeed_4 : List UInt8 := [182, 0, 90, 21, 4, 54, 5, 21, 5, 42, 29, 5, 182, 0, 69, 162, 0, 29, 42, 29, 6, 21, 5, 96]
abbrev dktX5_removeNeed_4 : List UInt8 := dkwX5_removeNeed_4 ++ dktX5_removeNeed_5
def dkwX5_removeNeed_3 : List UInt8 := [182, 0, 110, 54, 4, 42, 42, 180, 0, 7, 182, 0, 86, 42, 29, 5, 42, 29, 5, 182, 0, 69, 4, 100]
abbrev dktX5_removeNeed_3 : List UInt8 := dkwX5_removeNeed_3 ++ dktX5_removeNeed_4
def dkwX5_removeNeed_2 : List UInt8 := [167, 0, 4, 3, 182, 0, 83, 153, 0, 5, 3, 172, 27, 16, 97, 100, 62, 42, 29, 28, 16, 97, 100]
abbrev dktX5_removeNeed_2 : List UInt8 := dkwX5_removeNeed_2 ++ dktX5_removeNeed_3
def dkwX5_removeNeed_1 : List UInt8 := [182, 0, 73, 153, 0, 18, 42, 27, 16, 97, 100, 28, 16, 97, 100, 182, 0, 110, 156, 0, 7, 5]
abbrev dktX5_removeNeed_1 : List UInt8 := dkwX5_removeNeed_1 ++ dktX5_removeNeed_2
def dkwX5_removeNeed_0 : List UInt8 := [42, 27, 184, 0, 77, 153, 0, 10, 28, 184, 0, 77, 154, 0, 7, 4, 167, 0, 34, 42, 27, 16, 97, 100]
abbrev dktX5_removeNeed_0 : List UInt8 := dkwX5_removeNeed_0 ++ dktX5_removeNeed_1
theorem dksX5_removeNeed_0 : cX5_removeNeed.data.toList.drop 0 = dktX5_removeNeed_0 := by decide +kernel
theorem dksX5_removeNeed_1 : cX5_removeNeed.data.toList.drop 24 = dktX5_removeNeed_1 := dk_seg dksX5_removeNeed_0 24 rfl rfl
theorem dksX5_removeNeed_2 : cX5_removeNeed.data.toList.drop 46 = dktX5_removeNeed_2 := dk_seg dksX5_removeNeed_1 22 rfl rfl
theorem dksX5_removeNeed_3 : cX5_removeNeed.data.toList.drop 69 = dktX5_removeNeed_3 := dk_seg dksX5_removeNeed_2 23 rfl rfl
theorem dksX5_removeNeed_4 : cX5_removeNeed.data.toList.drop 93 = dktX5_removeNeed_4 := dk_seg dksX5_removeNeed_3 24 rfl rfl
theorem dksX5_removeNeed_5 : cX5_removeNeed.data.toList.drop 117 = dktX5_removeNeed_5 := dk_seg dksX5_removeNeed_4 24 rfl rfl
theorem dksX5_removeNeed_6 : cX5_removeNeed.data.toList.drop 141 = dktX5_removeNeed_6 := dk_seg dksX5_removeNeed_5 24 rfl rfl
theorem dX5_removeNeed_0 : decode cX5_removeNeed 0 = .ok (.aload_n 0, 1) := dk_42 (dk_at dksX5_removeNeed_0 0 rfl rfl)
theorem dX5_removeNeed_1 : decode cX5_removeNeed 1 = .ok (.iload_n 1, 1) := dk_27 (dk_at dksX5_removeNeed_0 1 rfl rfl)
theorem dX5_removeNeed_2 : decode cX5_removeNeed 2 = .ok (.invokestatic 77, 3) := dk_184 0 77 (dk_at dksX5_removeNeed_0 2 rfl rfl)
theorem dX5_removeNeed_5 : decode cX5_removeNeed 5 = .ok (.ifCond .eq 10, 3) := dk_153 0 10 (dk_at dksX5_removeNeed_0 5 rfl rfl)
theorem dX5_removeNeed_8 : decode cX5_removeNeed 8 = .ok (.iload_n 2, 1) := dk_28 (dk_at dksX5_removeNeed_0 8 rfl rfl)
theorem dX5_removeNeed_9 : decode cX5_removeNeed 9 = .ok (.invokestatic 77, 3) := dk_184 0 77 (dk_at dksX5_removeNeed_0 9 rfl rfl)
theorem dX5_removeNeed_12 : decode cX5_removeNeed 12 = .ok (.ifCond .ne 7, 3) := dk_154 0 7 (dk_at dksX5_removeNeed_0 12 rfl rfl)
theorem dX5_removeNeed_15 : decode cX5_removeNeed 15 = .ok (.iconst 1, 1) := dk_4 (dk_at dksX5_removeNeed_0 15 rfl rfl)
theorem dX5_removeNeed_16 : decode cX5_removeNeed 16 = .ok (.goto 34, 3) := dk_167 0 34 (dk_at dksX5_removeNeed_0 16 rfl rfl)
theorem dX5_removeNeed_19 : decode cX5_removeNeed 19 = .ok (.aload_n 0, 1) := dk_42 (dk_at dksX5_removeNeed_0 19 rfl rfl)
theorem dX5_removeNeed_20 : decode cX5_removeNeed 20 = .ok (.iload_n 1, 1) := dk_27 (dk_at dksX5_removeNeed_0 20 rfl rfl)
theorem dX5_removeNeed_21 : decode cX5_removeNeed 21 = .ok (.bipush 97, 2) := dk_16 97 (dk_at dksX5_removeNeed_0 21 rfl rfl)
theorem dX5_removeNeed_23 : decode cX5_removeNeed 23 = .ok (.isub, 1) := dk_100 (dk_at dksX5_removeNeed_0 23 rfl rfl)
theorem dX5_removeNeed_24 : decode cX5_removeNeed 24 = .ok (.invokevirtual 73, 3) := dk_182 0 73 (dk_at dksX5_removeNeed_1 0 rfl rfl)
theorem dX5_removeNeed_27 : decode cX5_removeNeed 27 = .ok (.ifCond .eq 18, 3) := dk_153 0 18 (dk_at dksX5_removeNeed_1 3 rfl rfl)
theorem dX5_removeNeed_30 : decode cX5_removeNeed 30 = .ok (.aload_n 0, 1) := dk_42 (dk_at dksX5_removeNeed_1 6 rfl rfl)
theorem dX5_removeNeed_31 : decode cX5_removeNeed 31 = .ok (.iload_n 1, 1) := dk_27 (dk_at dksX5_removeNeed_1 7 rfl rfl)
theorem dX5_removeNeed_32 : decode cX5_removeNeed 32 = .ok (.bipush 97, 2) := dk_16 97 (dk_at dksX5_removeNeed_1 8 rfl rfl)
theorem dX5_removeNeed_34 : decode cX5_removeNeed 34 = .ok (.isub, 1) := dk_100 (dk_at dksX5_removeNeed_1 10 rfl rfl)
theorem dX5_removeNeed_35 : decode cX5_removeNeed 35 = .ok (.iload_n 2, 1) := dk_28 (dk_at dksX5_removeNeed_1 11 rfl rfl)
theorem dX5_removeNeed_36 : decode cX5_removeNeed 36 = .ok (.bipush 97, 2) := dk_16 97 (dk_at dksX5_removeNeed_1 12 rfl rfl)
theorem dX5_removeNeed_38 : decode cX5_removeNeed 38 = .ok (.isub, 1) := dk_100 (dk_at dksX5_removeNeed_1 14 rfl rfl)
theorem dX5_removeNeed_39 : decode cX5_removeNeed 39 = .ok (.invokevirtual 110, 3) := dk_182 0 110 (dk_at dksX5_removeNeed_1 15 rfl rfl)
theorem dX5_removeNeed_42 : decode cX5_removeNeed 42 = .ok (.ifCond .ge 7, 3) := dk_156 0 7 (dk_at dksX5_removeNeed_1 18 rfl rfl)
theorem dX5_removeNeed_45 : decode cX5_removeNeed 45 = .ok (.iconst 2, 1) := dk_5 (dk_at dksX5_removeNeed_1 21 rfl rfl)
theorem dX5_removeNeed_46 : decode cX5_removeNeed 46 = .ok (.goto 4, 3) := dk_167 0 4 (dk_at dksX5_removeNeed_2 0 rfl rfl)
theorem dX5_removeNeed_49 : decode cX5_removeNeed 49 = .ok (.iconst 0, 1) := dk_3 (dk_at dksX5_removeNeed_2 3 rfl rfl)
theorem dX5_removeNeed_50 : decode cX5_removeNeed 50 = .ok (.invokevirtual 83, 3) := dk_182 0 83 (dk_at dksX5_removeNeed_2 4 rfl rfl)
theorem dX5_removeNeed_53 : decode cX5_removeNeed 53 = .ok (.ifCond .eq 5, 3) := dk_153 0 5 (dk_at dksX5_removeNeed_2 7 rfl rfl)
theorem dX5_removeNeed_56 : decode cX5_removeNeed 56 = .ok (.iconst 0, 1) := dk_3 (dk_at dksX5_removeNeed_2 10 rfl rfl)
theorem dX5_removeNeed_57 : decode cX5_removeNeed 57 = .ok (.ireturn, 1) := dk_172 (dk_at dksX5_removeNeed_2 11 rfl rfl)
theorem dX5_removeNeed_58 : decode cX5_removeNeed 58 = .ok (.iload_n 1, 1) := dk_27 (dk_at dksX5_removeNeed_2 12 rfl rfl)
theorem dX5_removeNeed_59 : decode cX5_removeNeed 59 = .ok (.bipush 97, 2) := dk_16 97 (dk_at dksX5_removeNeed_2 13 rfl rfl)
theorem dX5_removeNeed_61 : decode cX5_removeNeed 61 = .ok (.isub, 1) := dk_100 (dk_at dksX5_removeNeed_2 15 rfl rfl)
theorem dX5_removeNeed_62 : decode cX5_removeNeed 62 = .ok (.istore_n 3, 1) := dk_62 (dk_at dksX5_removeNeed_2 16 rfl rfl)
theorem dX5_removeNeed_63 : decode cX5_removeNeed 63 = .ok (.aload_n 0, 1) := dk_42 (dk_at dksX5_removeNeed_2 17 rfl rfl)
theorem dX5_removeNeed_64 : decode cX5_removeNeed 64 = .ok (.iload_n 3, 1) := dk_29 (dk_at dksX5_removeNeed_2 18 rfl rfl)
theorem dX5_removeNeed_65 : decode cX5_removeNeed 65 = .ok (.iload_n 2, 1) := dk_28 (dk_at dksX5_removeNeed_2 19 rfl rfl)
theorem dX5_removeNeed_66 : decode cX5_removeNeed 66 = .ok (.bipush 97, 2) := dk_16 97 (dk_at dksX5_removeNeed_2 20 rfl rfl)
theorem dX5_removeNeed_68 : decode cX5_removeNeed 68 = .ok (.isub, 1) := dk_100 (dk_at dksX5_removeNeed_2 22 rfl rfl)
theorem dX5_removeNeed_69 : decode cX5_removeNeed 69 = .ok (.invokevirtual 110, 3) := dk_182 0 110 (dk_at dksX5_removeNeed_3 0 rfl rfl)
theorem dX5_removeNeed_72 : decode cX5_removeNeed 72 = .ok (.istore 4, 2) := dk_54 4 (dk_at dksX5_removeNeed_3 3 rfl rfl)
theorem dX5_removeNeed_74 : decode cX5_removeNeed 74 = .ok (.aload_n 0, 1) := dk_42 (dk_at dksX5_removeNeed_3 5 rfl rfl)
theorem dX5_removeNeed_75 : decode cX5_removeNeed 75 = .ok (.aload_n 0, 1) := dk_42 (dk_at dksX5_removeNeed_3 6 rfl rfl)
theorem dX5_removeNeed_76 : decode cX5_removeNeed 76 = .ok (.getfield 7, 3) := dk_180 0 7 (dk_at dksX5_removeNeed_3 7 rfl rfl)
theorem dX5_removeNeed_79 : decode cX5_removeNeed 79 = .ok (.invokevirtual 86, 3) := dk_182 0 86 (dk_at dksX5_removeNeed_3 10 rfl rfl)
theorem dX5_removeNeed_82 : decode cX5_removeNeed 82 = .ok (.aload_n 0, 1) := dk_42 (dk_at dksX5_removeNeed_3 13 rfl rfl)
theorem dX5_removeNeed_83 : decode cX5_removeNeed 83 = .ok (.iload_n 3, 1) := dk_29 (dk_at dksX5_removeNeed_3 14 rfl rfl)
theorem dX5_removeNeed_84 : decode cX5_removeNeed 84 = .ok (.iconst 2, 1) := dk_5 (dk_at dksX5_removeNeed_3 15 rfl rfl)
theorem dX5_removeNeed_85 : decode cX5_removeNeed 85 = .ok (.aload_n 0, 1) := dk_42 (dk_at dksX5_removeNeed_3 16 rfl rfl)
theorem dX5_removeNeed_86 : decode cX5_removeNeed 86 = .ok (.iload_n 3, 1) := dk_29 (dk_at dksX5_removeNeed_3 17 rfl rfl)
theorem dX5_removeNeed_87 : decode cX5_removeNeed 87 = .ok (.iconst 2, 1) := dk_5 (dk_at dksX5_removeNeed_3 18 rfl rfl)
theorem dX5_removeNeed_88 : decode cX5_removeNeed 88 = .ok (.invokevirtual 69, 3) := dk_182 0 69 (dk_at dksX5_removeNeed_3 19 rfl rfl)
theorem dX5_removeNeed_91 : decode cX5_removeNeed 91 = .ok (.iconst 1, 1) := dk_4 (dk_at dksX5_removeNeed_3 22 rfl rfl)
theorem dX5_removeNeed_92 : decode cX5_removeNeed 92 = .ok (.isub, 1) := dk_100 (dk_at dksX5_removeNeed_3 23 rfl rfl)
theorem dX5_removeNeed_93 : decode cX5_removeNeed 93 = .ok (.invokevirtual 90, 3) := dk_182 0 90 (dk_at dksX5_removeNeed_4 0 rfl rfl)
theorem dX5_removeNeed_96 : decode cX5_removeNeed 96 = .ok (.iload 4, 2) := dk_21 4 (dk_at dksX5_removeNeed_4 3 rfl rfl)
theorem dX5_removeNeed_98 : decode cX5_removeNeed 98 = .ok (.istore 5, 2) := dk_54 5 (dk_at dksX5_removeNeed_4 5 rfl rfl)
theorem dX5_removeNeed_100 : decode cX5_removeNeed 100 = .ok (.iload 5, 2) := dk_21 5 (dk_at dksX5_removeNeed_4 7 rfl rfl)
theorem dX5_removeNeed_102 : decode cX5_removeNeed 102 = .ok (.aload_n 0, 1) := dk_42 (dk_at dksX5_removeNeed_4 9 rfl rfl)
theorem dX5_removeNeed_103 : decode cX5_removeNeed 103 = .ok (.iload_n 3, 1) := dk_29 (dk_at dksX5_removeNeed_4 10 rfl rfl)
theorem dX5_removeNeed_104 : decode cX5_removeNeed 104 = .ok (.iconst 2, 1) := dk_5 (dk_at dksX5_removeNeed_4 11 rfl rfl)
theorem dX5_removeNeed_105 : decode cX5_removeNeed 105 = .ok (.invokevirtual 69, 3) := dk_182 0 69 (dk_at dksX5_removeNeed_4 12 rfl rfl)
theorem dX5_removeNeed_108 : decode cX5_removeNeed 108 = .ok (.if_icmp .ge 29, 3) := dk_162 0 29 (dk_at dksX5_removeNeed_4 15 rfl rfl)
theorem dX5_removeNeed_111 : decode cX5_removeNeed 111 = .ok (.aload_n 0, 1) := dk_42 (dk_at dksX5_removeNeed_4 18 rfl rfl)
theorem dX5_removeNeed_112 : decode cX5_removeNeed 112 = .ok (.iload_n 3, 1) := dk_29 (dk_at dksX5_removeNeed_4 19 rfl rfl)
theorem dX5_removeNeed_113 : decode cX5_removeNeed 113 = .ok (.iconst 3, 1) := dk_6 (dk_at dksX5_removeNeed_4 20 rfl rfl)
theorem dX5_removeNeed_114 : decode cX5_removeNeed 114 = .ok (.iload 5, 2) := dk_21 5 (dk_at dksX5_removeNeed_4 21 rfl rfl)
theorem dX5_removeNeed_116 : decode cX5_removeNeed 116 = .ok (.iadd, 1) := dk_96 (dk_at dksX5_removeNeed_4 23 rfl rfl)
theorem dX5_removeNeed_117 : decode cX5_removeNeed 117 = .ok (.aload_n 0, 1) := dk_42 (dk_at dksX5_removeNeed_5 0 rfl rfl)
theorem dX5_removeNeed_118 : decode cX5_removeNeed 118 = .ok (.iload_n 3, 1) := dk_29 (dk_at dksX5_removeNeed_5 1 rfl rfl)
theorem dX5_removeNeed_119 : decode cX5_removeNeed 119 = .ok (.iconst 3, 1) := dk_6 (dk_at dksX5_removeNeed_5 2 rfl rfl)
theorem dX5_removeNeed_120 : decode cX5_removeNeed 120 = .ok (.iload 5, 2) := dk_21 5 (dk_at dksX5_removeNeed_5 3 rfl rfl)
theorem dX5_removeNeed_122 : decode cX5_removeNeed 122 = .ok (.iadd, 1) := dk_96 (dk_at dksX5_removeNeed_5 5 rfl rfl)
theorem dX5_removeNeed_123 : decode cX5_removeNeed 123 = .ok (.iconst 1, 1) := dk_4 (dk_at dksX5_removeNeed_5 6 rfl rfl)
theorem dX5_removeNeed_124 : decode cX5_removeNeed 124 = .ok (.iadd, 1) := dk_96 (dk_at dksX5_removeNeed_5 7 rfl rfl)
theorem dX5_removeNeed_125 : decode cX5_removeNeed 125 = .ok (.invokevirtual 69, 3) := dk_182 0 69 (dk_at dksX5_removeNeed_5 8 rfl rfl)
theorem dX5_removeNeed_128 : decode cX5_removeNeed 128 = .ok (.invokevirtual 90, 3) := dk_182 0 90 (dk_at dksX5_removeNeed_5 11 rfl rfl)
theorem dX5_removeNeed_131 : decode cX5_removeNeed 131 = .ok (.iinc 5 1, 3) := dk_132 5 1 (dk_at dksX5_removeNeed_5 14 rfl rfl)
theorem dX5_removeNeed_134 : decode cX5_removeNeed 134 = .ok (.goto (-34), 3) := dk_167 255 222 (dk_at dksX5_removeNeed_5 17 rfl rfl)
theorem dX5_removeNeed_137 : decode cX5_removeNeed 137 = .ok (.aload_n 0, 1) := dk_42 (dk_at dksX5_removeNeed_5 20 rfl rfl)
theorem dX5_removeNeed_138 : decode cX5_removeNeed 138 = .ok (.iload_n 3, 1) := dk_29 (dk_at dksX5_removeNeed_5 21 rfl rfl)
theorem dX5_removeNeed_139 : decode cX5_removeNeed 139 = .ok (.iconst 3, 1) := dk_6 (dk_at dksX5_removeNeed_5 22 rfl rfl)
theorem dX5_removeNeed_140 : decode cX5_removeNeed 140 = .ok (.aload_n 0, 1) := dk_42 (dk_at dksX5_removeNeed_5 23 rfl rfl)
theorem dX5_removeNeed_141 : decode cX5_removeNeed 141 = .ok (.iload_n 3, 1) := dk_29 (dk_at dksX5_removeNeed_6 0 rfl rfl)
theorem dX5_removeNeed_142 : decode cX5_removeNeed 142 = .ok (.iconst 2, 1) := dk_5 (dk_at dksX5_removeNeed_6 1 rfl rfl)
theorem dX5_removeNeed_143 : decode cX5_removeNeed 143 = .ok (.invokevirtual 69, 3) := dk_182 0 69 (dk_at dksX5_removeNeed_6 2 rfl rfl)
theorem dX5_removeNeed_146 : decode cX5_removeNeed 146 = .ok (.iadd, 1) := dk_96 (dk_at dksX5_removeNeed_6 5 rfl rfl)
theorem dX5_removeNeed_147 : decode cX5_removeNeed 147 = .ok (.iconst 0, 1) := dk_3 (dk_at dksX5_removeNeed_6 6 rfl rfl)
theorem dX5_removeNeed_148 : decode cX5_removeNeed 148 = .ok (.invokevirtual 90, 3) := dk_182 0 90 (dk_at dksX5_removeNeed_6 7 rfl rfl)
theorem dX5_removeNeed_151 : decode cX5_removeNeed 151 = .ok (.iload 4, 2) := dk_21 4 (dk_at dksX5_removeNeed_6 10 rfl rfl)
theorem dX5_removeNeed_153 : decode cX5_removeNeed 153 = .ok (.ireturn, 1) := dk_172 (dk_at dksX5_removeNeed_6 12 rfl rfl)
abbrev cX5_recipeCount : ByteArray := prog_12_method_25_code
def yX5_recipeCount : MethodName := ⟨RX5, "recipeCount", "()I"⟩
def dkwX5_recipeCount_0 : List UInt8 := [42, 3, 181, 0, 39, 42, 182, 0, 94, 172]
abbrev dktX5_recipeCount_0 : List UInt8 := dkwX5_recipeCount_0 ++ []
theorem dksX5_recipeCount_0 : cX5_recipeCount.data.toList.drop 0 = dktX5_recipeCount_0 := by decide +kernel
theorem dX5_recipeCount_0 : decode cX5_recipeCount 0 = .ok (.aload_n 0, 1) := dk_42 (dk_at dksX5_recipeCount_0 0 rfl rfl)
theorem dX5_recipeCount_1 : decode cX5_recipeCount 1 = .ok (.iconst 0, 1) := dk_3 (dk_at dksX5_recipeCount_0 1 rfl rfl)
theorem dX5_recipeCount_2 : decode cX5_recipeCount 2 = .ok (.putfield 39, 3) := dk_181 0 39 (dk_at dksX5_recipeCount_0 2 rfl rfl)
theorem dX5_recipeCount_5 : decode cX5_recipeCount 5 = .ok (.aload_n 0, 1) := dk_42 (dk_at dksX5_recipeCount_0 5 rfl rfl)
theorem dX5_recipeCount_6 : decode cX5_recipeCount 6 = .ok (.invokevirtual 94, 3) := dk_182 0 94 (dk_at dksX5_recipeCount_0 6 rfl rfl)
theorem dX5_recipeCount_9 : decode cX5_recipeCount 9 = .ok (.ireturn, 1) := dk_172 (dk_at dksX5_recipeCount_0 9 rfl rfl)
abbrev cX5_hasRecipe : ByteArray := prog_12_method_26_code
def yX5_hasRecipe : MethodName := ⟨RX5, "hasRecipe", "(C)Z"⟩
def dkwX5_hasRecipe_1 : List UInt8 := [182, 0, 73, 153, 0, 7, 4, 167, 0, 4, 3, 172]
abbrev dktX5_hasRecipe_1 : List UInt8 := dkwX5_hasRecipe_1 ++ []
def dkwX5_hasRecipe_0 : List UInt8 := [42, 27, 184, 0, 77, 153, 0, 7, 3, 167, 0, 4, 4, 182, 0, 83, 154, 0, 18, 42, 27, 16, 97, 100]
abbrev dktX5_hasRecipe_0 : List UInt8 := dkwX5_hasRecipe_0 ++ dktX5_hasRecipe_1
theorem dksX5_hasRecipe_0 : cX5_hasRecipe.data.toList.drop 0 = dktX5_hasRecipe_0 := by decide +kernel
theorem dksX5_hasRecipe_1 : cX5_hasRecipe.data.toList.drop 24 = dktX5_hasRecipe_1 := dk_seg dksX5_hasRecipe_0 24 rfl rfl
theorem dX5_hasRecipe_0 : decode cX5_hasRecipe 0 = .ok (.aload_n 0, 1) := dk_42 (dk_at dksX5_hasRecipe_0 0 rfl rfl)
theorem dX5_hasRecipe_1 : decode cX5_hasRecipe 1 = .ok (.iload_n 1, 1) := dk_27 (dk_at dksX5_hasRecipe_0 1 rfl rfl)
theorem dX5_hasRecipe_2 : decode cX5_hasRecipe 2 = .ok (.invokestatic 77, 3) := dk_184 0 77 (dk_at dksX5_hasRecipe_0 2 rfl rfl)
theorem dX5_hasRecipe_5 : decode cX5_hasRecipe 5 = .ok (.ifCond .eq 7, 3) := dk_153 0 7 (dk_at dksX5_hasRecipe_0 5 rfl rfl)
theorem dX5_hasRecipe_8 : decode cX5_hasRecipe 8 = .ok (.iconst 0, 1) := dk_3 (dk_at dksX5_hasRecipe_0 8 rfl rfl)
theorem dX5_hasRecipe_9 : decode cX5_hasRecipe 9 = .ok (.goto 4, 3) := dk_167 0 4 (dk_at dksX5_hasRecipe_0 9 rfl rfl)
theorem dX5_hasRecipe_12 : decode cX5_hasRecipe 12 = .ok (.iconst 1, 1) := dk_4 (dk_at dksX5_hasRecipe_0 12 rfl rfl)
theorem dX5_hasRecipe_13 : decode cX5_hasRecipe 13 = .ok (.invokevirtual 83, 3) := dk_182 0 83 (dk_at dksX5_hasRecipe_0 13 rfl rfl)
theorem dX5_hasRecipe_16 : decode cX5_hasRecipe 16 = .ok (.ifCond .ne 18, 3) := dk_154 0 18 (dk_at dksX5_hasRecipe_0 16 rfl rfl)
theorem dX5_hasRecipe_19 : decode cX5_hasRecipe 19 = .ok (.aload_n 0, 1) := dk_42 (dk_at dksX5_hasRecipe_0 19 rfl rfl)
theorem dX5_hasRecipe_20 : decode cX5_hasRecipe 20 = .ok (.iload_n 1, 1) := dk_27 (dk_at dksX5_hasRecipe_0 20 rfl rfl)
theorem dX5_hasRecipe_21 : decode cX5_hasRecipe 21 = .ok (.bipush 97, 2) := dk_16 97 (dk_at dksX5_hasRecipe_0 21 rfl rfl)
theorem dX5_hasRecipe_23 : decode cX5_hasRecipe 23 = .ok (.isub, 1) := dk_100 (dk_at dksX5_hasRecipe_0 23 rfl rfl)
theorem dX5_hasRecipe_24 : decode cX5_hasRecipe 24 = .ok (.invokevirtual 73, 3) := dk_182 0 73 (dk_at dksX5_hasRecipe_1 0 rfl rfl)
theorem dX5_hasRecipe_27 : decode cX5_hasRecipe 27 = .ok (.ifCond .eq 7, 3) := dk_153 0 7 (dk_at dksX5_hasRecipe_1 3 rfl rfl)
theorem dX5_hasRecipe_30 : decode cX5_hasRecipe 30 = .ok (.iconst 1, 1) := dk_4 (dk_at dksX5_hasRecipe_1 6 rfl rfl)
theorem dX5_hasRecipe_31 : decode cX5_hasRecipe 31 = .ok (.goto 4, 3) := dk_167 0 4 (dk_at dksX5_hasRecipe_1 7 rfl rfl)
theorem dX5_hasRecipe_34 : decode cX5_hasRecipe 34 = .ok (.iconst 0, 1) := dk_3 (dk_at dksX5_hasRecipe_1 10 rfl rfl)
theorem dX5_hasRecipe_35 : decode cX5_hasRecipe 35 = .ok (.ireturn, 1) := dk_172 (dk_at dksX5_hasRecipe_1 11 rfl rfl)
abbrev cX5_scopeOf : ByteArray := prog_12_method_27_code
def yX5_scopeOf : MethodName := ⟨RX5, "scopeOf", "(C)C"⟩
def dkwX5_scopeOf_0 : List UInt8 := [42, 27, 182, 0, 98, 153, 0, 8, 16, 32, 167, 0, 13, 42, 27, 16, 97, 100, 3, 182, 0, 69, 146, 172]
abbrev dktX5_scopeOf_0 : List UInt8 := dkwX5_scopeOf_0 ++ []
theorem dksX5_scopeOf_0 : cX5_scopeOf.data.toList.drop 0 = dktX5_scopeOf_0 := by decide +kernel
theorem dX5_scopeOf_0 : decode cX5_scopeOf 0 = .ok (.aload_n 0, 1) := dk_42 (dk_at dksX5_scopeOf_0 0 rfl rfl)
theorem dX5_scopeOf_1 : decode cX5_scopeOf 1 = .ok (.iload_n 1, 1) := dk_27 (dk_at dksX5_scopeOf_0 1 rfl rfl)
theorem dX5_scopeOf_2 : decode cX5_scopeOf 2 = .ok (.invokevirtual 98, 3) := dk_182 0 98 (dk_at dksX5_scopeOf_0 2 rfl rfl)
theorem dX5_scopeOf_5 : decode cX5_scopeOf 5 = .ok (.ifCond .eq 8, 3) := dk_153 0 8 (dk_at dksX5_scopeOf_0 5 rfl rfl)
theorem dX5_scopeOf_8 : decode cX5_scopeOf 8 = .ok (.bipush 32, 2) := dk_16 32 (dk_at dksX5_scopeOf_0 8 rfl rfl)
theorem dX5_scopeOf_10 : decode cX5_scopeOf 10 = .ok (.goto 13, 3) := dk_167 0 13 (dk_at dksX5_scopeOf_0 10 rfl rfl)
theorem dX5_scopeOf_13 : decode cX5_scopeOf 13 = .ok (.aload_n 0, 1) := dk_42 (dk_at dksX5_scopeOf_0 13 rfl rfl)
theorem dX5_scopeOf_14 : decode cX5_scopeOf 14 = .ok (.iload_n 1, 1) := dk_27 (dk_at dksX5_scopeOf_0 14 rfl rfl)
theorem dX5_scopeOf_15 : decode cX5_scopeOf 15 = .ok (.bipush 97, 2) := dk_16 97 (dk_at dksX5_scopeOf_0 15 rfl rfl)
theorem dX5_scopeOf_17 : decode cX5_scopeOf 17 = .ok (.isub, 1) := dk_100 (dk_at dksX5_scopeOf_0 17 rfl rfl)
theorem dX5_scopeOf_18 : decode cX5_scopeOf 18 = .ok (.iconst 0, 1) := dk_3 (dk_at dksX5_scopeOf_0 18 rfl rfl)
theorem dX5_scopeOf_19 : decode cX5_scopeOf 19 = .ok (.invokevirtual 69, 3) := dk_182 0 69 (dk_at dksX5_scopeOf_0 19 rfl rfl)
theorem dX5_scopeOf_22 : decode cX5_scopeOf 22 = .ok (.i2c, 1) := dk_146 (dk_at dksX5_scopeOf_0 22 rfl rfl)
theorem dX5_scopeOf_23 : decode cX5_scopeOf 23 = .ok (.ireturn, 1) := dk_172 (dk_at dksX5_scopeOf_0 23 rfl rfl)
abbrev cX5_needCount : ByteArray := prog_12_method_28_code
def yX5_needCount : MethodName := ⟨RX5, "needCount", "(C)I"⟩
def dkwX5_needCount_0 : List UInt8 := [42, 27, 182, 0, 98, 153, 0, 7, 3, 167, 0, 12, 42, 27, 16, 97, 100, 5, 182, 0, 69, 172]
abbrev dktX5_needCount_0 : List UInt8 := dkwX5_needCount_0 ++ []
theorem dksX5_needCount_0 : cX5_needCount.data.toList.drop 0 = dktX5_needCount_0 := by decide +kernel
theorem dX5_needCount_0 : decode cX5_needCount 0 = .ok (.aload_n 0, 1) := dk_42 (dk_at dksX5_needCount_0 0 rfl rfl)
theorem dX5_needCount_1 : decode cX5_needCount 1 = .ok (.iload_n 1, 1) := dk_27 (dk_at dksX5_needCount_0 1 rfl rfl)
theorem dX5_needCount_2 : decode cX5_needCount 2 = .ok (.invokevirtual 98, 3) := dk_182 0 98 (dk_at dksX5_needCount_0 2 rfl rfl)
theorem dX5_needCount_5 : decode cX5_needCount 5 = .ok (.ifCond .eq 7, 3) := dk_153 0 7 (dk_at dksX5_needCount_0 5 rfl rfl)
theorem dX5_needCount_8 : decode cX5_needCount 8 = .ok (.iconst 0, 1) := dk_3 (dk_at dksX5_needCount_0 8 rfl rfl)
theorem dX5_needCount_9 : decode cX5_needCount 9 = .ok (.goto 12, 3) := dk_167 0 12 (dk_at dksX5_needCount_0 9 rfl rfl)
theorem dX5_needCount_12 : decode cX5_needCount 12 = .ok (.aload_n 0, 1) := dk_42 (dk_at dksX5_needCount_0 12 rfl rfl)
theorem dX5_needCount_13 : decode cX5_needCount 13 = .ok (.iload_n 1, 1) := dk_27 (dk_at dksX5_needCount_0 13 rfl rfl)
theorem dX5_needCount_14 : decode cX5_needCount 14 = .ok (.bipush 97, 2) := dk_16 97 (dk_at dksX5_needCount_0 14 rfl rfl)
theorem dX5_needCount_16 : decode cX5_needCount 16 = .ok (.isub, 1) := dk_100 (dk_at dksX5_needCount_0 16 rfl rfl)
theorem dX5_needCount_17 : decode cX5_needCount 17 = .ok (.iconst 2, 1) := dk_5 (dk_at dksX5_needCount_0 17 rfl rfl)
theorem dX5_needCount_18 : decode cX5_needCount 18 = .ok (.invokevirtual 69, 3) := dk_182 0 69 (dk_at dksX5_needCount_0 18 rfl rfl)
theorem dX5_needCount_21 : decode cX5_needCount 21 = .ok (.ireturn, 1) := dk_172 (dk_at dksX5_needCount_0 21 rfl rfl)
abbrev cX5_needAt : ByteArray := prog_12_method_30_code
def yX5_needAt : MethodName := ⟨RX5, "needAt", "(CI)C"⟩
def dkwX5_needAt_1 : List UInt8 := [184, 0, 124, 172]
abbrev dktX5_needAt_1 : List UInt8 := dkwX5_needAt_1 ++ []
def dkwX5_needAt_0 : List UInt8 := [42, 27, 28, 182, 0, 120, 153, 0, 8, 16, 32, 167, 0, 15, 42, 27, 16, 97, 100, 28, 182, 0, 107]
abbrev dktX5_needAt_0 : List UInt8 := dkwX5_needAt_0 ++ dktX5_needAt_1
theorem dksX5_needAt_0 : cX5_needAt.data.toList.drop 0 = dktX5_needAt_0 := by decide +kernel
theorem dksX5_needAt_1 : cX5_needAt.data.toList.drop 23 = dktX5_needAt_1 := dk_seg dksX5_needAt_0 23 rfl rfl
theorem dX5_needAt_0 : decode cX5_needAt 0 = .ok (.aload_n 0, 1) := dk_42 (dk_at dksX5_needAt_0 0 rfl rfl)
theorem dX5_needAt_1 : decode cX5_needAt 1 = .ok (.iload_n 1, 1) := dk_27 (dk_at dksX5_needAt_0 1 rfl rfl)
theorem dX5_needAt_2 : decode cX5_needAt 2 = .ok (.iload_n 2, 1) := dk_28 (dk_at dksX5_needAt_0 2 rfl rfl)
theorem dX5_needAt_3 : decode cX5_needAt 3 = .ok (.invokevirtual 120, 3) := dk_182 0 120 (dk_at dksX5_needAt_0 3 rfl rfl)
theorem dX5_needAt_6 : decode cX5_needAt 6 = .ok (.ifCond .eq 8, 3) := dk_153 0 8 (dk_at dksX5_needAt_0 6 rfl rfl)
theorem dX5_needAt_9 : decode cX5_needAt 9 = .ok (.bipush 32, 2) := dk_16 32 (dk_at dksX5_needAt_0 9 rfl rfl)
theorem dX5_needAt_11 : decode cX5_needAt 11 = .ok (.goto 15, 3) := dk_167 0 15 (dk_at dksX5_needAt_0 11 rfl rfl)
theorem dX5_needAt_14 : decode cX5_needAt 14 = .ok (.aload_n 0, 1) := dk_42 (dk_at dksX5_needAt_0 14 rfl rfl)
theorem dX5_needAt_15 : decode cX5_needAt 15 = .ok (.iload_n 1, 1) := dk_27 (dk_at dksX5_needAt_0 15 rfl rfl)
theorem dX5_needAt_16 : decode cX5_needAt 16 = .ok (.bipush 97, 2) := dk_16 97 (dk_at dksX5_needAt_0 16 rfl rfl)
theorem dX5_needAt_18 : decode cX5_needAt 18 = .ok (.isub, 1) := dk_100 (dk_at dksX5_needAt_0 18 rfl rfl)
theorem dX5_needAt_19 : decode cX5_needAt 19 = .ok (.iload_n 2, 1) := dk_28 (dk_at dksX5_needAt_0 19 rfl rfl)
theorem dX5_needAt_20 : decode cX5_needAt 20 = .ok (.invokevirtual 107, 3) := dk_182 0 107 (dk_at dksX5_needAt_0 20 rfl rfl)
theorem dX5_needAt_23 : decode cX5_needAt 23 = .ok (.invokestatic 124, 3) := dk_184 0 124 (dk_at dksX5_needAt_1 0 rfl rfl)
theorem dX5_needAt_26 : decode cX5_needAt 26 = .ok (.ireturn, 1) := dk_172 (dk_at dksX5_needAt_1 3 rfl rfl)
abbrev cX5_isNoNeed : ByteArray := prog_12_method_29_code
def yX5_isNoNeed : MethodName := ⟨RX5, "isNoNeed", "(II)Z"⟩
def dkwX5_isNoNeed_1 : List UInt8 := [184, 0, 65, 153, 0, 7, 3, 167, 0, 4, 6, 182, 0, 83, 153, 0, 7, 4, 167, 0, 4, 3, 172]
abbrev dktX5_isNoNeed_1 : List UInt8 := dkwX5_isNoNeed_1 ++ []
def dkwX5_isNoNeed_0 : List UInt8 := [42, 27, 182, 0, 98, 154, 0, 34, 42, 28, 3, 42, 27, 16, 97, 100, 5, 182, 0, 69, 4, 100]
abbrev dktX5_isNoNeed_0 : List UInt8 := dkwX5_isNoNeed_0 ++ dktX5_isNoNeed_1
theorem dksX5_isNoNeed_0 : cX5_isNoNeed.data.toList.drop 0 = dktX5_isNoNeed_0 := by decide +kernel
theorem dksX5_isNoNeed_1 : cX5_isNoNeed.data.toList.drop 22 = dktX5_isNoNeed_1 := dk_seg dksX5_isNoNeed_0 22 rfl rfl
theorem dX5_isNoNeed_0 : decode cX5_isNoNeed 0 = .ok (.aload_n 0, 1) := dk_42 (dk_at dksX5_isNoNeed_0 0 rfl rfl)
theorem dX5_isNoNeed_1 : decode cX5_isNoNeed 1 = .ok (.iload_n 1, 1) := dk_27 (dk_at dksX5_isNoNeed_0 1 rfl rfl)
theorem dX5_isNoNeed_2 : decode cX5_isNoNeed 2 = .ok (.invokevirtual 98, 3) := dk_182 0 98 (dk_at dksX5_isNoNeed_0 2 rfl rfl)
theorem dX5_isNoNeed_5 : decode cX5_isNoNeed 5 = .ok (.ifCond .ne 34, 3) := dk_154 0 34 (dk_at dksX5_isNoNeed_0 5 rfl rfl)
theorem dX5_isNoNeed_8 : decode cX5_isNoNeed 8 = .ok (.aload_n 0, 1) := dk_42 (dk_at dksX5_isNoNeed_0 8 rfl rfl)
theorem dX5_isNoNeed_9 : decode cX5_isNoNeed 9 = .ok (.iload_n 2, 1) := dk_28 (dk_at dksX5_isNoNeed_0 9 rfl rfl)
theorem dX5_isNoNeed_10 : decode cX5_isNoNeed 10 = .ok (.iconst 0, 1) := dk_3 (dk_at dksX5_isNoNeed_0 10 rfl rfl)
theorem dX5_isNoNeed_11 : decode cX5_isNoNeed 11 = .ok (.aload_n 0, 1) := dk_42 (dk_at dksX5_isNoNeed_0 11 rfl rfl)
theorem dX5_isNoNeed_12 : decode cX5_isNoNeed 12 = .ok (.iload_n 1, 1) := dk_27 (dk_at dksX5_isNoNeed_0 12 rfl rfl)
theorem dX5_isNoNeed_13 : decode cX5_isNoNeed 13 = .ok (.bipush 97, 2) := dk_16 97 (dk_at dksX5_isNoNeed_0 13 rfl rfl)
theorem dX5_isNoNeed_15 : decode cX5_isNoNeed 15 = .ok (.isub, 1) := dk_100 (dk_at dksX5_isNoNeed_0 15 rfl rfl)
theorem dX5_isNoNeed_16 : decode cX5_isNoNeed 16 = .ok (.iconst 2, 1) := dk_5 (dk_at dksX5_isNoNeed_0 16 rfl rfl)
theorem dX5_isNoNeed_17 : decode cX5_isNoNeed 17 = .ok (.invokevirtual 69, 3) := dk_182 0 69 (dk_at dksX5_isNoNeed_0 17 rfl rfl)
theorem dX5_isNoNeed_20 : decode cX5_isNoNeed 20 = .ok (.iconst 1, 1) := dk_4 (dk_at dksX5_isNoNeed_0 20 rfl rfl)
theorem dX5_isNoNeed_21 : decode cX5_isNoNeed 21 = .ok (.isub, 1) := dk_100 (dk_at dksX5_isNoNeed_0 21 rfl rfl)
theorem dX5_isNoNeed_22 : decode cX5_isNoNeed 22 = .ok (.invokestatic 65, 3) := dk_184 0 65 (dk_at dksX5_isNoNeed_1 0 rfl rfl)
theorem dX5_isNoNeed_25 : decode cX5_isNoNeed 25 = .ok (.ifCond .eq 7, 3) := dk_153 0 7 (dk_at dksX5_isNoNeed_1 3 rfl rfl)
theorem dX5_isNoNeed_28 : decode cX5_isNoNeed 28 = .ok (.iconst 0, 1) := dk_3 (dk_at dksX5_isNoNeed_1 6 rfl rfl)
theorem dX5_isNoNeed_29 : decode cX5_isNoNeed 29 = .ok (.goto 4, 3) := dk_167 0 4 (dk_at dksX5_isNoNeed_1 7 rfl rfl)
theorem dX5_isNoNeed_32 : decode cX5_isNoNeed 32 = .ok (.iconst 3, 1) := dk_6 (dk_at dksX5_isNoNeed_1 10 rfl rfl)
theorem dX5_isNoNeed_33 : decode cX5_isNoNeed 33 = .ok (.invokevirtual 83, 3) := dk_182 0 83 (dk_at dksX5_isNoNeed_1 11 rfl rfl)
theorem dX5_isNoNeed_36 : decode cX5_isNoNeed 36 = .ok (.ifCond .eq 7, 3) := dk_153 0 7 (dk_at dksX5_isNoNeed_1 14 rfl rfl)
theorem dX5_isNoNeed_39 : decode cX5_isNoNeed 39 = .ok (.iconst 1, 1) := dk_4 (dk_at dksX5_isNoNeed_1 17 rfl rfl)
theorem dX5_isNoNeed_40 : decode cX5_isNoNeed 40 = .ok (.goto 4, 3) := dk_167 0 4 (dk_at dksX5_isNoNeed_1 18 rfl rfl)
theorem dX5_isNoNeed_43 : decode cX5_isNoNeed 43 = .ok (.iconst 0, 1) := dk_3 (dk_at dksX5_isNoNeed_1 21 rfl rfl)
theorem dX5_isNoNeed_44 : decode cX5_isNoNeed 44 = .ok (.ireturn, 1) := dk_172 (dk_at dksX5_isNoNeed_1 22 rfl rfl)
abbrev cX5_letter : ByteArray := prog_12_method_11_code
def yX5_letter : MethodName := ⟨RX5, "letter", "(I)C"⟩
def dkwX5_letter_0 : List UInt8 := [16, 97, 26, 96, 146, 172]
abbrev dktX5_letter_0 : List UInt8 := dkwX5_letter_0 ++ []
theorem dksX5_letter_0 : cX5_letter.data.toList.drop 0 = dktX5_letter_0 := by decide +kernel
theorem dX5_letter_0 : decode cX5_letter 0 = .ok (.bipush 97, 2) := dk_16 97 (dk_at dksX5_letter_0 0 rfl rfl)
theorem dX5_letter_2 : decode cX5_letter 2 = .ok (.iload_n 0, 1) := dk_26 (dk_at dksX5_letter_0 2 rfl rfl)
theorem dX5_letter_3 : decode cX5_letter 3 = .ok (.iadd, 1) := dk_96 (dk_at dksX5_letter_0 3 rfl rfl)
theorem dX5_letter_4 : decode cX5_letter 4 = .ok (.i2c, 1) := dk_146 (dk_at dksX5_letter_0 4 rfl rfl)
theorem dX5_letter_5 : decode cX5_letter 5 = .ok (.ireturn, 1) := dk_172 (dk_at dksX5_letter_0 5 rfl rfl)
abbrev cX5_isLazyNeed : ByteArray := prog_12_method_31_code
def yX5_isLazyNeed : MethodName := ⟨RX5, "isLazyNeed", "(CI)Z"⟩
def dkwX5_isLazyNeed_1 : List UInt8 := [167, 0, 4, 3, 172]
abbrev dktX5_isLazyNeed_1 : List UInt8 := dkwX5_isLazyNeed_1 ++ []
def dkwX5_isLazyNeed_0 : List UInt8 := [42, 27, 28, 182, 0, 120, 154, 0, 19, 42, 27, 16, 97, 100, 28, 182, 0, 128, 154, 0, 7, 4]
abbrev dktX5_isLazyNeed_0 : List UInt8 := dkwX5_isLazyNeed_0 ++ dktX5_isLazyNeed_1
theorem dksX5_isLazyNeed_0 : cX5_isLazyNeed.data.toList.drop 0 = dktX5_isLazyNeed_0 := by decide +kernel
theorem dksX5_isLazyNeed_1 : cX5_isLazyNeed.data.toList.drop 22 = dktX5_isLazyNeed_1 := dk_seg dksX5_isLazyNeed_0 22 rfl rfl
theorem dX5_isLazyNeed_0 : decode cX5_isLazyNeed 0 = .ok (.aload_n 0, 1) := dk_42 (dk_at dksX5_isLazyNeed_0 0 rfl rfl)
theorem dX5_isLazyNeed_1 : decode cX5_isLazyNeed 1 = .ok (.iload_n 1, 1) := dk_27 (dk_at dksX5_isLazyNeed_0 1 rfl rfl)
theorem dX5_isLazyNeed_2 : decode cX5_isLazyNeed 2 = .ok (.iload_n 2, 1) := dk_28 (dk_at dksX5_isLazyNeed_0 2 rfl rfl)
theorem dX5_isLazyNeed_3 : decode cX5_isLazyNeed 3 = .ok (.invokevirtual 120, 3) := dk_182 0 120 (dk_at dksX5_isLazyNeed_0 3 rfl rfl)
theorem dX5_isLazyNeed_6 : decode cX5_isLazyNeed 6 = .ok (.ifCond .ne 19, 3) := dk_154 0 19 (dk_at dksX5_isLazyNeed_0 6 rfl rfl)
theorem dX5_isLazyNeed_9 : decode cX5_isLazyNeed 9 = .ok (.aload_n 0, 1) := dk_42 (dk_at dksX5_isLazyNeed_0 9 rfl rfl)
theorem dX5_isLazyNeed_10 : decode cX5_isLazyNeed 10 = .ok (.iload_n 1, 1) := dk_27 (dk_at dksX5_isLazyNeed_0 10 rfl rfl)
theorem dX5_isLazyNeed_11 : decode cX5_isLazyNeed 11 = .ok (.bipush 97, 2) := dk_16 97 (dk_at dksX5_isLazyNeed_0 11 rfl rfl)
theorem dX5_isLazyNeed_13 : decode cX5_isLazyNeed 13 = .ok (.isub, 1) := dk_100 (dk_at dksX5_isLazyNeed_0 13 rfl rfl)
theorem dX5_isLazyNeed_14 : decode cX5_isLazyNeed 14 = .ok (.iload_n 2, 1) := dk_28 (dk_at dksX5_isLazyNeed_0 14 rfl rfl)
theorem dX5_isLazyNeed_15 : decode cX5_isLazyNeed 15 = .ok (.invokevirtual 128, 3) := dk_182 0 128 (dk_at dksX5_isLazyNeed_0 15 rfl rfl)
theorem dX5_isLazyNeed_18 : decode cX5_isLazyNeed 18 = .ok (.ifCond .ne 7, 3) := dk_154 0 7 (dk_at dksX5_isLazyNeed_0 18 rfl rfl)
theorem dX5_isLazyNeed_21 : decode cX5_isLazyNeed 21 = .ok (.iconst 1, 1) := dk_4 (dk_at dksX5_isLazyNeed_0 21 rfl rfl)
theorem dX5_isLazyNeed_22 : decode cX5_isLazyNeed 22 = .ok (.goto 4, 3) := dk_167 0 4 (dk_at dksX5_isLazyNeed_1 0 rfl rfl)
theorem dX5_isLazyNeed_25 : decode cX5_isLazyNeed 25 = .ok (.iconst 0, 1) := dk_3 (dk_at dksX5_isLazyNeed_1 3 rfl rfl)
theorem dX5_isLazyNeed_26 : decode cX5_isLazyNeed 26 = .ok (.ireturn, 1) := dk_172 (dk_at dksX5_isLazyNeed_1 4 rfl rfl)
abbrev cX5_replace : ByteArray := prog_12_method_36_code
def yX5_replace : MethodName := ⟨RX5, "replace", "(CC)I"⟩
def dkwX5_replace_8 : List UInt8 := [167, 0, 4, 3, 96, 54, 7, 132, 8, 1, 167, 255, 225, 21, 7, 172]
abbrev dktX5_replace_8 : List UInt8 := dkwX5_replace_8 ++ []
def dkwX5_replace_7 : List UInt8 := [54, 8, 21, 8, 16, 8, 162, 0, 30, 21, 7, 42, 21, 8, 16, 6, 182, 0, 69, 158, 0, 7, 4]
abbrev dktX5_replace_7 : List UInt8 := dkwX5_replace_7 ++ dktX5_replace_8
def dkwX5_replace_6 : List UInt8 := [180, 0, 7, 182, 0, 86, 42, 29, 16, 6, 28, 16, 97, 100, 4, 96, 182, 0, 90, 3, 54, 7, 3]
abbrev dktX5_replace_6 : List UInt8 := dkwX5_replace_6 ++ dktX5_replace_7
def dkwX5_replace_5 : List UInt8 := [16, 6, 21, 5, 182, 0, 90, 21, 6, 158, 0, 12, 42, 5, 6, 21, 6, 182, 0, 113, 172, 42, 42]
abbrev dktX5_replace_5 : List UInt8 := dkwX5_replace_5 ++ dktX5_replace_6
def dkwX5_replace_4 : List UInt8 := [54, 5, 42, 29, 16, 6, 28, 16, 97, 100, 4, 96, 182, 0, 90, 42, 182, 0, 117, 54, 6, 42, 29]
abbrev dktX5_replace_4 : List UInt8 := dkwX5_replace_4 ++ dktX5_replace_5
def dkwX5_replace_3 : List UInt8 := [172, 42, 21, 5, 16, 6, 182, 0, 69, 4, 100, 54, 5, 167, 255, 219, 42, 29, 16, 6, 182, 0, 69]
abbrev dktX5_replace_3 : List UInt8 := dkwX5_replace_3 ++ dktX5_replace_4
def dkwX5_replace_2 : List UInt8 := [21, 5, 155, 0, 38, 132, 4, 1, 21, 5, 29, 160, 0, 14, 42, 5, 7, 21, 4, 4, 100, 182, 0, 113]
abbrev dktX5_replace_2 : List UInt8 := dkwX5_replace_2 ++ dktX5_replace_3
def dkwX5_replace_1 : List UInt8 := [4, 182, 0, 83, 153, 0, 5, 3, 172, 27, 16, 97, 100, 62, 4, 54, 4, 28, 16, 97, 100, 54, 5]
abbrev dktX5_replace_1 : List UInt8 := dkwX5_replace_1 ++ dktX5_replace_2
def dkwX5_replace_0 : List UInt8 := [42, 27, 184, 0, 77, 153, 0, 19, 28, 184, 0, 77, 153, 0, 12, 27, 28, 159, 0, 7, 3, 167, 0, 4]
abbrev dktX5_replace_0 : List UInt8 := dkwX5_replace_0 ++ dktX5_replace_1
theorem dksX5_replace_0 : cX5_replace.data.toList.drop 0 = dktX5_replace_0 := by decide +kernel
theorem dksX5_replace_1 : cX5_replace.data.toList.drop 24 = dktX5_replace_1 := dk_seg dksX5_replace_0 24 rfl rfl
theorem dksX5_replace_2 : cX5_replace.data.toList.drop 47 = dktX5_replace_2 := dk_seg dksX5_replace_1 23 rfl rfl
theorem dksX5_replace_3 : cX5_replace.data.toList.drop 71 = dktX5_replace_3 := dk_seg dksX5_replace_2 24 rfl rfl
theorem dksX5_replace_4 : cX5_replace.data.toList.drop 94 = dktX5_replace_4 := dk_seg dksX5_replace_3 23 rfl rfl
theorem dksX5_replace_5 : cX5_replace.data.toList.drop 117 = dktX5_replace_5 := dk_seg dksX5_replace_4 23 rfl rfl
theorem dksX5_replace_6 : cX5_replace.data.toList.drop 140 = dktX5_replace_6 := dk_seg dksX5_replace_5 23 rfl rfl
theorem dksX5_replace_7 : cX5_replace.data.toList.drop 163 = dktX5_replace_7 := dk_seg dksX5_replace_6 23 rfl rfl
theorem dksX5_replace_8 : cX5_replace.data.toList.drop 186 = dktX5_replace_8 := dk_seg dksX5_replace_7 23 rfl rfl
theorem dX5_replace_0 : decode cX5_replace 0 = .ok (.aload_n 0, 1) := dk_42 (dk_at dksX5_replace_0 0 rfl rfl)
theorem dX5_replace_1 : decode cX5_replace 1 = .ok (.iload_n 1, 1) := dk_27 (dk_at dksX5_replace_0 1 rfl rfl)
theorem dX5_replace_2 : decode cX5_replace 2 = .ok (.invokestatic 77, 3) := dk_184 0 77 (dk_at dksX5_replace_0 2 rfl rfl)
theorem dX5_replace_5 : decode cX5_replace 5 = .ok (.ifCond .eq 19, 3) := dk_153 0 19 (dk_at dksX5_replace_0 5 rfl rfl)
theorem dX5_replace_8 : decode cX5_replace 8 = .ok (.iload_n 2, 1) := dk_28 (dk_at dksX5_replace_0 8 rfl rfl)
theorem dX5_replace_9 : decode cX5_replace 9 = .ok (.invokestatic 77, 3) := dk_184 0 77 (dk_at dksX5_replace_0 9 rfl rfl)
theorem dX5_replace_12 : decode cX5_replace 12 = .ok (.ifCond .eq 12, 3) := dk_153 0 12 (dk_at dksX5_replace_0 12 rfl rfl)
theorem dX5_replace_15 : decode cX5_replace 15 = .ok (.iload_n 1, 1) := dk_27 (dk_at dksX5_replace_0 15 rfl rfl)
theorem dX5_replace_16 : decode cX5_replace 16 = .ok (.iload_n 2, 1) := dk_28 (dk_at dksX5_replace_0 16 rfl rfl)
theorem dX5_replace_17 : decode cX5_replace 17 = .ok (.if_icmp .eq 7, 3) := dk_159 0 7 (dk_at dksX5_replace_0 17 rfl rfl)
theorem dX5_replace_20 : decode cX5_replace 20 = .ok (.iconst 0, 1) := dk_3 (dk_at dksX5_replace_0 20 rfl rfl)
theorem dX5_replace_21 : decode cX5_replace 21 = .ok (.goto 4, 3) := dk_167 0 4 (dk_at dksX5_replace_0 21 rfl rfl)
theorem dX5_replace_24 : decode cX5_replace 24 = .ok (.iconst 1, 1) := dk_4 (dk_at dksX5_replace_1 0 rfl rfl)
theorem dX5_replace_25 : decode cX5_replace 25 = .ok (.invokevirtual 83, 3) := dk_182 0 83 (dk_at dksX5_replace_1 1 rfl rfl)
theorem dX5_replace_28 : decode cX5_replace 28 = .ok (.ifCond .eq 5, 3) := dk_153 0 5 (dk_at dksX5_replace_1 4 rfl rfl)
theorem dX5_replace_31 : decode cX5_replace 31 = .ok (.iconst 0, 1) := dk_3 (dk_at dksX5_replace_1 7 rfl rfl)
theorem dX5_replace_32 : decode cX5_replace 32 = .ok (.ireturn, 1) := dk_172 (dk_at dksX5_replace_1 8 rfl rfl)
theorem dX5_replace_33 : decode cX5_replace 33 = .ok (.iload_n 1, 1) := dk_27 (dk_at dksX5_replace_1 9 rfl rfl)
theorem dX5_replace_34 : decode cX5_replace 34 = .ok (.bipush 97, 2) := dk_16 97 (dk_at dksX5_replace_1 10 rfl rfl)
theorem dX5_replace_36 : decode cX5_replace 36 = .ok (.isub, 1) := dk_100 (dk_at dksX5_replace_1 12 rfl rfl)
theorem dX5_replace_37 : decode cX5_replace 37 = .ok (.istore_n 3, 1) := dk_62 (dk_at dksX5_replace_1 13 rfl rfl)
theorem dX5_replace_38 : decode cX5_replace 38 = .ok (.iconst 1, 1) := dk_4 (dk_at dksX5_replace_1 14 rfl rfl)
theorem dX5_replace_39 : decode cX5_replace 39 = .ok (.istore 4, 2) := dk_54 4 (dk_at dksX5_replace_1 15 rfl rfl)
theorem dX5_replace_41 : decode cX5_replace 41 = .ok (.iload_n 2, 1) := dk_28 (dk_at dksX5_replace_1 17 rfl rfl)
theorem dX5_replace_42 : decode cX5_replace 42 = .ok (.bipush 97, 2) := dk_16 97 (dk_at dksX5_replace_1 18 rfl rfl)
theorem dX5_replace_44 : decode cX5_replace 44 = .ok (.isub, 1) := dk_100 (dk_at dksX5_replace_1 20 rfl rfl)
theorem dX5_replace_45 : decode cX5_replace 45 = .ok (.istore 5, 2) := dk_54 5 (dk_at dksX5_replace_1 21 rfl rfl)
theorem dX5_replace_47 : decode cX5_replace 47 = .ok (.iload 5, 2) := dk_21 5 (dk_at dksX5_replace_2 0 rfl rfl)
theorem dX5_replace_49 : decode cX5_replace 49 = .ok (.ifCond .lt 38, 3) := dk_155 0 38 (dk_at dksX5_replace_2 2 rfl rfl)
theorem dX5_replace_52 : decode cX5_replace 52 = .ok (.iinc 4 1, 3) := dk_132 4 1 (dk_at dksX5_replace_2 5 rfl rfl)
theorem dX5_replace_55 : decode cX5_replace 55 = .ok (.iload 5, 2) := dk_21 5 (dk_at dksX5_replace_2 8 rfl rfl)
theorem dX5_replace_57 : decode cX5_replace 57 = .ok (.iload_n 3, 1) := dk_29 (dk_at dksX5_replace_2 10 rfl rfl)
theorem dX5_replace_58 : decode cX5_replace 58 = .ok (.if_icmp .ne 14, 3) := dk_160 0 14 (dk_at dksX5_replace_2 11 rfl rfl)
theorem dX5_replace_61 : decode cX5_replace 61 = .ok (.aload_n 0, 1) := dk_42 (dk_at dksX5_replace_2 14 rfl rfl)
theorem dX5_replace_62 : decode cX5_replace 62 = .ok (.iconst 2, 1) := dk_5 (dk_at dksX5_replace_2 15 rfl rfl)
theorem dX5_replace_63 : decode cX5_replace 63 = .ok (.iconst 4, 1) := dk_7 (dk_at dksX5_replace_2 16 rfl rfl)
theorem dX5_replace_64 : decode cX5_replace 64 = .ok (.iload 4, 2) := dk_21 4 (dk_at dksX5_replace_2 17 rfl rfl)
theorem dX5_replace_66 : decode cX5_replace 66 = .ok (.iconst 1, 1) := dk_4 (dk_at dksX5_replace_2 19 rfl rfl)
theorem dX5_replace_67 : decode cX5_replace 67 = .ok (.isub, 1) := dk_100 (dk_at dksX5_replace_2 20 rfl rfl)
theorem dX5_replace_68 : decode cX5_replace 68 = .ok (.invokevirtual 113, 3) := dk_182 0 113 (dk_at dksX5_replace_2 21 rfl rfl)
theorem dX5_replace_71 : decode cX5_replace 71 = .ok (.ireturn, 1) := dk_172 (dk_at dksX5_replace_3 0 rfl rfl)
theorem dX5_replace_72 : decode cX5_replace 72 = .ok (.aload_n 0, 1) := dk_42 (dk_at dksX5_replace_3 1 rfl rfl)
theorem dX5_replace_73 : decode cX5_replace 73 = .ok (.iload 5, 2) := dk_21 5 (dk_at dksX5_replace_3 2 rfl rfl)
theorem dX5_replace_75 : decode cX5_replace 75 = .ok (.bipush 6, 2) := dk_16 6 (dk_at dksX5_replace_3 4 rfl rfl)
theorem dX5_replace_77 : decode cX5_replace 77 = .ok (.invokevirtual 69, 3) := dk_182 0 69 (dk_at dksX5_replace_3 6 rfl rfl)
theorem dX5_replace_80 : decode cX5_replace 80 = .ok (.iconst 1, 1) := dk_4 (dk_at dksX5_replace_3 9 rfl rfl)
theorem dX5_replace_81 : decode cX5_replace 81 = .ok (.isub, 1) := dk_100 (dk_at dksX5_replace_3 10 rfl rfl)
theorem dX5_replace_82 : decode cX5_replace 82 = .ok (.istore 5, 2) := dk_54 5 (dk_at dksX5_replace_3 11 rfl rfl)
theorem dX5_replace_84 : decode cX5_replace 84 = .ok (.goto (-37), 3) := dk_167 255 219 (dk_at dksX5_replace_3 13 rfl rfl)
theorem dX5_replace_87 : decode cX5_replace 87 = .ok (.aload_n 0, 1) := dk_42 (dk_at dksX5_replace_3 16 rfl rfl)
theorem dX5_replace_88 : decode cX5_replace 88 = .ok (.iload_n 3, 1) := dk_29 (dk_at dksX5_replace_3 17 rfl rfl)
theorem dX5_replace_89 : decode cX5_replace 89 = .ok (.bipush 6, 2) := dk_16 6 (dk_at dksX5_replace_3 18 rfl rfl)
theorem dX5_replace_91 : decode cX5_replace 91 = .ok (.invokevirtual 69, 3) := dk_182 0 69 (dk_at dksX5_replace_3 20 rfl rfl)
theorem dX5_replace_94 : decode cX5_replace 94 = .ok (.istore 5, 2) := dk_54 5 (dk_at dksX5_replace_4 0 rfl rfl)
theorem dX5_replace_96 : decode cX5_replace 96 = .ok (.aload_n 0, 1) := dk_42 (dk_at dksX5_replace_4 2 rfl rfl)
theorem dX5_replace_97 : decode cX5_replace 97 = .ok (.iload_n 3, 1) := dk_29 (dk_at dksX5_replace_4 3 rfl rfl)
theorem dX5_replace_98 : decode cX5_replace 98 = .ok (.bipush 6, 2) := dk_16 6 (dk_at dksX5_replace_4 4 rfl rfl)
theorem dX5_replace_100 : decode cX5_replace 100 = .ok (.iload_n 2, 1) := dk_28 (dk_at dksX5_replace_4 6 rfl rfl)
theorem dX5_replace_101 : decode cX5_replace 101 = .ok (.bipush 97, 2) := dk_16 97 (dk_at dksX5_replace_4 7 rfl rfl)
theorem dX5_replace_103 : decode cX5_replace 103 = .ok (.isub, 1) := dk_100 (dk_at dksX5_replace_4 9 rfl rfl)
theorem dX5_replace_104 : decode cX5_replace 104 = .ok (.iconst 1, 1) := dk_4 (dk_at dksX5_replace_4 10 rfl rfl)
theorem dX5_replace_105 : decode cX5_replace 105 = .ok (.iadd, 1) := dk_96 (dk_at dksX5_replace_4 11 rfl rfl)
theorem dX5_replace_106 : decode cX5_replace 106 = .ok (.invokevirtual 90, 3) := dk_182 0 90 (dk_at dksX5_replace_4 12 rfl rfl)
theorem dX5_replace_109 : decode cX5_replace 109 = .ok (.aload_n 0, 1) := dk_42 (dk_at dksX5_replace_4 15 rfl rfl)
theorem dX5_replace_110 : decode cX5_replace 110 = .ok (.invokevirtual 117, 3) := dk_182 0 117 (dk_at dksX5_replace_4 16 rfl rfl)
theorem dX5_replace_113 : decode cX5_replace 113 = .ok (.istore 6, 2) := dk_54 6 (dk_at dksX5_replace_4 19 rfl rfl)
theorem dX5_replace_115 : decode cX5_replace 115 = .ok (.aload_n 0, 1) := dk_42 (dk_at dksX5_replace_4 21 rfl rfl)
theorem dX5_replace_116 : decode cX5_replace 116 = .ok (.iload_n 3, 1) := dk_29 (dk_at dksX5_replace_4 22 rfl rfl)
theorem dX5_replace_117 : decode cX5_replace 117 = .ok (.bipush 6, 2) := dk_16 6 (dk_at dksX5_replace_5 0 rfl rfl)
theorem dX5_replace_119 : decode cX5_replace 119 = .ok (.iload 5, 2) := dk_21 5 (dk_at dksX5_replace_5 2 rfl rfl)
theorem dX5_replace_121 : decode cX5_replace 121 = .ok (.invokevirtual 90, 3) := dk_182 0 90 (dk_at dksX5_replace_5 4 rfl rfl)
theorem dX5_replace_124 : decode cX5_replace 124 = .ok (.iload 6, 2) := dk_21 6 (dk_at dksX5_replace_5 7 rfl rfl)
theorem dX5_replace_126 : decode cX5_replace 126 = .ok (.ifCond .le 12, 3) := dk_158 0 12 (dk_at dksX5_replace_5 9 rfl rfl)
theorem dX5_replace_129 : decode cX5_replace 129 = .ok (.aload_n 0, 1) := dk_42 (dk_at dksX5_replace_5 12 rfl rfl)
theorem dX5_replace_130 : decode cX5_replace 130 = .ok (.iconst 2, 1) := dk_5 (dk_at dksX5_replace_5 13 rfl rfl)
theorem dX5_replace_131 : decode cX5_replace 131 = .ok (.iconst 3, 1) := dk_6 (dk_at dksX5_replace_5 14 rfl rfl)
theorem dX5_replace_132 : decode cX5_replace 132 = .ok (.iload 6, 2) := dk_21 6 (dk_at dksX5_replace_5 15 rfl rfl)
theorem dX5_replace_134 : decode cX5_replace 134 = .ok (.invokevirtual 113, 3) := dk_182 0 113 (dk_at dksX5_replace_5 17 rfl rfl)
theorem dX5_replace_137 : decode cX5_replace 137 = .ok (.ireturn, 1) := dk_172 (dk_at dksX5_replace_5 20 rfl rfl)
theorem dX5_replace_138 : decode cX5_replace 138 = .ok (.aload_n 0, 1) := dk_42 (dk_at dksX5_replace_5 21 rfl rfl)
theorem dX5_replace_139 : decode cX5_replace 139 = .ok (.aload_n 0, 1) := dk_42 (dk_at dksX5_replace_5 22 rfl rfl)
theorem dX5_replace_140 : decode cX5_replace 140 = .ok (.getfield 7, 3) := dk_180 0 7 (dk_at dksX5_replace_6 0 rfl rfl)
theorem dX5_replace_143 : decode cX5_replace 143 = .ok (.invokevirtual 86, 3) := dk_182 0 86 (dk_at dksX5_replace_6 3 rfl rfl)
theorem dX5_replace_146 : decode cX5_replace 146 = .ok (.aload_n 0, 1) := dk_42 (dk_at dksX5_replace_6 6 rfl rfl)
theorem dX5_replace_147 : decode cX5_replace 147 = .ok (.iload_n 3, 1) := dk_29 (dk_at dksX5_replace_6 7 rfl rfl)
theorem dX5_replace_148 : decode cX5_replace 148 = .ok (.bipush 6, 2) := dk_16 6 (dk_at dksX5_replace_6 8 rfl rfl)
theorem dX5_replace_150 : decode cX5_replace 150 = .ok (.iload_n 2, 1) := dk_28 (dk_at dksX5_replace_6 10 rfl rfl)
theorem dX5_replace_151 : decode cX5_replace 151 = .ok (.bipush 97, 2) := dk_16 97 (dk_at dksX5_replace_6 11 rfl rfl)
theorem dX5_replace_153 : decode cX5_replace 153 = .ok (.isub, 1) := dk_100 (dk_at dksX5_replace_6 13 rfl rfl)
theorem dX5_replace_154 : decode cX5_replace 154 = .ok (.iconst 1, 1) := dk_4 (dk_at dksX5_replace_6 14 rfl rfl)
theorem dX5_replace_155 : decode cX5_replace 155 = .ok (.iadd, 1) := dk_96 (dk_at dksX5_replace_6 15 rfl rfl)
theorem dX5_replace_156 : decode cX5_replace 156 = .ok (.invokevirtual 90, 3) := dk_182 0 90 (dk_at dksX5_replace_6 16 rfl rfl)
theorem dX5_replace_159 : decode cX5_replace 159 = .ok (.iconst 0, 1) := dk_3 (dk_at dksX5_replace_6 19 rfl rfl)
theorem dX5_replace_160 : decode cX5_replace 160 = .ok (.istore 7, 2) := dk_54 7 (dk_at dksX5_replace_6 20 rfl rfl)
theorem dX5_replace_162 : decode cX5_replace 162 = .ok (.iconst 0, 1) := dk_3 (dk_at dksX5_replace_6 22 rfl rfl)
theorem dX5_replace_163 : decode cX5_replace 163 = .ok (.istore 8, 2) := dk_54 8 (dk_at dksX5_replace_7 0 rfl rfl)
theorem dX5_replace_165 : decode cX5_replace 165 = .ok (.iload 8, 2) := dk_21 8 (dk_at dksX5_replace_7 2 rfl rfl)
theorem dX5_replace_167 : decode cX5_replace 167 = .ok (.bipush 8, 2) := dk_16 8 (dk_at dksX5_replace_7 4 rfl rfl)
theorem dX5_replace_169 : decode cX5_replace 169 = .ok (.if_icmp .ge 30, 3) := dk_162 0 30 (dk_at dksX5_replace_7 6 rfl rfl)
theorem dX5_replace_172 : decode cX5_replace 172 = .ok (.iload 7, 2) := dk_21 7 (dk_at dksX5_replace_7 9 rfl rfl)
theorem dX5_replace_174 : decode cX5_replace 174 = .ok (.aload_n 0, 1) := dk_42 (dk_at dksX5_replace_7 11 rfl rfl)
theorem dX5_replace_175 : decode cX5_replace 175 = .ok (.iload 8, 2) := dk_21 8 (dk_at dksX5_replace_7 12 rfl rfl)
theorem dX5_replace_177 : decode cX5_replace 177 = .ok (.bipush 6, 2) := dk_16 6 (dk_at dksX5_replace_7 14 rfl rfl)
theorem dX5_replace_179 : decode cX5_replace 179 = .ok (.invokevirtual 69, 3) := dk_182 0 69 (dk_at dksX5_replace_7 16 rfl rfl)
theorem dX5_replace_182 : decode cX5_replace 182 = .ok (.ifCond .le 7, 3) := dk_158 0 7 (dk_at dksX5_replace_7 19 rfl rfl)
theorem dX5_replace_185 : decode cX5_replace 185 = .ok (.iconst 1, 1) := dk_4 (dk_at dksX5_replace_7 22 rfl rfl)
theorem dX5_replace_186 : decode cX5_replace 186 = .ok (.goto 4, 3) := dk_167 0 4 (dk_at dksX5_replace_8 0 rfl rfl)
theorem dX5_replace_189 : decode cX5_replace 189 = .ok (.iconst 0, 1) := dk_3 (dk_at dksX5_replace_8 3 rfl rfl)
theorem dX5_replace_190 : decode cX5_replace 190 = .ok (.iadd, 1) := dk_96 (dk_at dksX5_replace_8 4 rfl rfl)
theorem dX5_replace_191 : decode cX5_replace 191 = .ok (.istore 7, 2) := dk_54 7 (dk_at dksX5_replace_8 5 rfl rfl)
theorem dX5_replace_193 : decode cX5_replace 193 = .ok (.iinc 8 1, 3) := dk_132 8 1 (dk_at dksX5_replace_8 7 rfl rfl)
theorem dX5_replace_196 : decode cX5_replace 196 = .ok (.goto (-31), 3) := dk_167 255 225 (dk_at dksX5_replace_8 10 rfl rfl)
theorem dX5_replace_199 : decode cX5_replace 199 = .ok (.iload 7, 2) := dk_21 7 (dk_at dksX5_replace_8 13 rfl rfl)
theorem dX5_replace_201 : decode cX5_replace 201 = .ok (.ireturn, 1) := dk_172 (dk_at dksX5_replace_8 15 rfl rfl)
abbrev cX5_putBack : ByteArray := prog_12_method_37_code
def yX5_putBack : MethodName := ⟨RX5, "putBack", "(C)C"⟩
def dkwX5_putBack_4 : List UInt8 := [180, 0, 7, 182, 0, 86, 42, 28, 16, 6, 3, 182, 0, 90, 29, 4, 100, 184, 0, 124, 172]
abbrev dktX5_putBack_4 : List UInt8 := dkwX5_putBack_4 ++ []
def dkwX5_putBack_3 : List UInt8 := [29, 182, 0, 90, 21, 4, 158, 0, 15, 42, 6, 6, 21, 4, 182, 0, 113, 87, 16, 32, 172, 42, 42]
abbrev dktX5_putBack_3 : List UInt8 := dkwX5_putBack_3 ++ dktX5_putBack_4
def dkwX5_putBack_2 : List UInt8 := [16, 6, 182, 0, 69, 62, 42, 28, 16, 6, 3, 182, 0, 90, 42, 182, 0, 117, 54, 4, 42, 28, 16, 6]
abbrev dktX5_putBack_2 : List UInt8 := dkwX5_putBack_2 ++ dktX5_putBack_3
def dkwX5_putBack_1 : List UInt8 := [154, 0, 7, 5, 167, 0, 4, 3, 182, 0, 83, 153, 0, 6, 16, 32, 172, 27, 16, 97, 100, 61, 42, 28]
abbrev dktX5_putBack_1 : List UInt8 := dkwX5_putBack_1 ++ dktX5_putBack_2
def dkwX5_putBack_0 : List UInt8 := [42, 27, 184, 0, 77, 154, 0, 7, 4, 167, 0, 21, 42, 27, 16, 97, 100, 16, 6, 182, 0, 69]
abbrev dktX5_putBack_0 : List UInt8 := dkwX5_putBack_0 ++ dktX5_putBack_1
theorem dksX5_putBack_0 : cX5_putBack.data.toList.drop 0 = dktX5_putBack_0 := by decide +kernel
theorem dksX5_putBack_1 : cX5_putBack.data.toList.drop 22 = dktX5_putBack_1 := dk_seg dksX5_putBack_0 22 rfl rfl
theorem dksX5_putBack_2 : cX5_putBack.data.toList.drop 46 = dktX5_putBack_2 := dk_seg dksX5_putBack_1 24 rfl rfl
theorem dksX5_putBack_3 : cX5_putBack.data.toList.drop 70 = dktX5_putBack_3 := dk_seg dksX5_putBack_2 24 rfl rfl
theorem dksX5_putBack_4 : cX5_putBack.data.toList.drop 93 = dktX5_putBack_4 := dk_seg dksX5_putBack_3 23 rfl rfl
theorem dX5_putBack_0 : decode cX5_putBack 0 = .ok (.aload_n 0, 1) := dk_42 (dk_at dksX5_putBack_0 0 rfl rfl)
theorem dX5_putBack_1 : decode cX5_putBack 1 = .ok (.iload_n 1, 1) := dk_27 (dk_at dksX5_putBack_0 1 rfl rfl)
theorem dX5_putBack_2 : decode cX5_putBack 2 = .ok (.invokestatic 77, 3) := dk_184 0 77 (dk_at dksX5_putBack_0 2 rfl rfl)
theorem dX5_putBack_5 : decode cX5_putBack 5 = .ok (.ifCond .ne 7, 3) := dk_154 0 7 (dk_at dksX5_putBack_0 5 rfl rfl)
theorem dX5_putBack_8 : decode cX5_putBack 8 = .ok (.iconst 1, 1) := dk_4 (dk_at dksX5_putBack_0 8 rfl rfl)
theorem dX5_putBack_9 : decode cX5_putBack 9 = .ok (.goto 21, 3) := dk_167 0 21 (dk_at dksX5_putBack_0 9 rfl rfl)
theorem dX5_putBack_12 : decode cX5_putBack 12 = .ok (.aload_n 0, 1) := dk_42 (dk_at dksX5_putBack_0 12 rfl rfl)
theorem dX5_putBack_13 : decode cX5_putBack 13 = .ok (.iload_n 1, 1) := dk_27 (dk_at dksX5_putBack_0 13 rfl rfl)
theorem dX5_putBack_14 : decode cX5_putBack 14 = .ok (.bipush 97, 2) := dk_16 97 (dk_at dksX5_putBack_0 14 rfl rfl)
theorem dX5_putBack_16 : decode cX5_putBack 16 = .ok (.isub, 1) := dk_100 (dk_at dksX5_putBack_0 16 rfl rfl)
theorem dX5_putBack_17 : decode cX5_putBack 17 = .ok (.bipush 6, 2) := dk_16 6 (dk_at dksX5_putBack_0 17 rfl rfl)
theorem dX5_putBack_19 : decode cX5_putBack 19 = .ok (.invokevirtual 69, 3) := dk_182 0 69 (dk_at dksX5_putBack_0 19 rfl rfl)
theorem dX5_putBack_22 : decode cX5_putBack 22 = .ok (.ifCond .ne 7, 3) := dk_154 0 7 (dk_at dksX5_putBack_1 0 rfl rfl)
theorem dX5_putBack_25 : decode cX5_putBack 25 = .ok (.iconst 2, 1) := dk_5 (dk_at dksX5_putBack_1 3 rfl rfl)
theorem dX5_putBack_26 : decode cX5_putBack 26 = .ok (.goto 4, 3) := dk_167 0 4 (dk_at dksX5_putBack_1 4 rfl rfl)
theorem dX5_putBack_29 : decode cX5_putBack 29 = .ok (.iconst 0, 1) := dk_3 (dk_at dksX5_putBack_1 7 rfl rfl)
theorem dX5_putBack_30 : decode cX5_putBack 30 = .ok (.invokevirtual 83, 3) := dk_182 0 83 (dk_at dksX5_putBack_1 8 rfl rfl)
theorem dX5_putBack_33 : decode cX5_putBack 33 = .ok (.ifCond .eq 6, 3) := dk_153 0 6 (dk_at dksX5_putBack_1 11 rfl rfl)
theorem dX5_putBack_36 : decode cX5_putBack 36 = .ok (.bipush 32, 2) := dk_16 32 (dk_at dksX5_putBack_1 14 rfl rfl)
theorem dX5_putBack_38 : decode cX5_putBack 38 = .ok (.ireturn, 1) := dk_172 (dk_at dksX5_putBack_1 16 rfl rfl)
theorem dX5_putBack_39 : decode cX5_putBack 39 = .ok (.iload_n 1, 1) := dk_27 (dk_at dksX5_putBack_1 17 rfl rfl)
theorem dX5_putBack_40 : decode cX5_putBack 40 = .ok (.bipush 97, 2) := dk_16 97 (dk_at dksX5_putBack_1 18 rfl rfl)
theorem dX5_putBack_42 : decode cX5_putBack 42 = .ok (.isub, 1) := dk_100 (dk_at dksX5_putBack_1 20 rfl rfl)
theorem dX5_putBack_43 : decode cX5_putBack 43 = .ok (.istore_n 2, 1) := dk_61 (dk_at dksX5_putBack_1 21 rfl rfl)
theorem dX5_putBack_44 : decode cX5_putBack 44 = .ok (.aload_n 0, 1) := dk_42 (dk_at dksX5_putBack_1 22 rfl rfl)
theorem dX5_putBack_45 : decode cX5_putBack 45 = .ok (.iload_n 2, 1) := dk_28 (dk_at dksX5_putBack_1 23 rfl rfl)
theorem dX5_putBack_46 : decode cX5_putBack 46 = .ok (.bipush 6, 2) := dk_16 6 (dk_at dksX5_putBack_2 0 rfl rfl)
theorem dX5_putBack_48 : decode cX5_putBack 48 = .ok (.invokevirtual 69, 3) := dk_182 0 69 (dk_at dksX5_putBack_2 2 rfl rfl)
theorem dX5_putBack_51 : decode cX5_putBack 51 = .ok (.istore_n 3, 1) := dk_62 (dk_at dksX5_putBack_2 5 rfl rfl)
theorem dX5_putBack_52 : decode cX5_putBack 52 = .ok (.aload_n 0, 1) := dk_42 (dk_at dksX5_putBack_2 6 rfl rfl)
theorem dX5_putBack_53 : decode cX5_putBack 53 = .ok (.iload_n 2, 1) := dk_28 (dk_at dksX5_putBack_2 7 rfl rfl)
theorem dX5_putBack_54 : decode cX5_putBack 54 = .ok (.bipush 6, 2) := dk_16 6 (dk_at dksX5_putBack_2 8 rfl rfl)
theorem dX5_putBack_56 : decode cX5_putBack 56 = .ok (.iconst 0, 1) := dk_3 (dk_at dksX5_putBack_2 10 rfl rfl)
theorem dX5_putBack_57 : decode cX5_putBack 57 = .ok (.invokevirtual 90, 3) := dk_182 0 90 (dk_at dksX5_putBack_2 11 rfl rfl)
theorem dX5_putBack_60 : decode cX5_putBack 60 = .ok (.aload_n 0, 1) := dk_42 (dk_at dksX5_putBack_2 14 rfl rfl)
theorem dX5_putBack_61 : decode cX5_putBack 61 = .ok (.invokevirtual 117, 3) := dk_182 0 117 (dk_at dksX5_putBack_2 15 rfl rfl)
theorem dX5_putBack_64 : decode cX5_putBack 64 = .ok (.istore 4, 2) := dk_54 4 (dk_at dksX5_putBack_2 18 rfl rfl)
theorem dX5_putBack_66 : decode cX5_putBack 66 = .ok (.aload_n 0, 1) := dk_42 (dk_at dksX5_putBack_2 20 rfl rfl)
theorem dX5_putBack_67 : decode cX5_putBack 67 = .ok (.iload_n 2, 1) := dk_28 (dk_at dksX5_putBack_2 21 rfl rfl)
theorem dX5_putBack_68 : decode cX5_putBack 68 = .ok (.bipush 6, 2) := dk_16 6 (dk_at dksX5_putBack_2 22 rfl rfl)
theorem dX5_putBack_70 : decode cX5_putBack 70 = .ok (.iload_n 3, 1) := dk_29 (dk_at dksX5_putBack_3 0 rfl rfl)
theorem dX5_putBack_71 : decode cX5_putBack 71 = .ok (.invokevirtual 90, 3) := dk_182 0 90 (dk_at dksX5_putBack_3 1 rfl rfl)
theorem dX5_putBack_74 : decode cX5_putBack 74 = .ok (.iload 4, 2) := dk_21 4 (dk_at dksX5_putBack_3 4 rfl rfl)
theorem dX5_putBack_76 : decode cX5_putBack 76 = .ok (.ifCond .le 15, 3) := dk_158 0 15 (dk_at dksX5_putBack_3 6 rfl rfl)
theorem dX5_putBack_79 : decode cX5_putBack 79 = .ok (.aload_n 0, 1) := dk_42 (dk_at dksX5_putBack_3 9 rfl rfl)
theorem dX5_putBack_80 : decode cX5_putBack 80 = .ok (.iconst 3, 1) := dk_6 (dk_at dksX5_putBack_3 10 rfl rfl)
theorem dX5_putBack_81 : decode cX5_putBack 81 = .ok (.iconst 3, 1) := dk_6 (dk_at dksX5_putBack_3 11 rfl rfl)
theorem dX5_putBack_82 : decode cX5_putBack 82 = .ok (.iload 4, 2) := dk_21 4 (dk_at dksX5_putBack_3 12 rfl rfl)
theorem dX5_putBack_84 : decode cX5_putBack 84 = .ok (.invokevirtual 113, 3) := dk_182 0 113 (dk_at dksX5_putBack_3 14 rfl rfl)
theorem dX5_putBack_87 : decode cX5_putBack 87 = .ok (.pop, 1) := dk_87 (dk_at dksX5_putBack_3 17 rfl rfl)
theorem dX5_putBack_88 : decode cX5_putBack 88 = .ok (.bipush 32, 2) := dk_16 32 (dk_at dksX5_putBack_3 18 rfl rfl)
theorem dX5_putBack_90 : decode cX5_putBack 90 = .ok (.ireturn, 1) := dk_172 (dk_at dksX5_putBack_3 20 rfl rfl)
theorem dX5_putBack_91 : decode cX5_putBack 91 = .ok (.aload_n 0, 1) := dk_42 (dk_at dksX5_putBack_3 21 rfl rfl)
theorem dX5_putBack_92 : decode cX5_putBack 92 = .ok (.aload_n 0, 1) := dk_42 (dk_at dksX5_putBack_3 22 rfl rfl)
theorem dX5_putBack_93 : decode cX5_putBack 93 = .ok (.getfield 7, 3) := dk_180 0 7 (dk_at dksX5_putBack_4 0 rfl rfl)
theorem dX5_putBack_96 : decode cX5_putBack 96 = .ok (.invokevirtual 86, 3) := dk_182 0 86 (dk_at dksX5_putBack_4 3 rfl rfl)
theorem dX5_putBack_99 : decode cX5_putBack 99 = .ok (.aload_n 0, 1) := dk_42 (dk_at dksX5_putBack_4 6 rfl rfl)
theorem dX5_putBack_100 : decode cX5_putBack 100 = .ok (.iload_n 2, 1) := dk_28 (dk_at dksX5_putBack_4 7 rfl rfl)
theorem dX5_putBack_101 : decode cX5_putBack 101 = .ok (.bipush 6, 2) := dk_16 6 (dk_at dksX5_putBack_4 8 rfl rfl)
theorem dX5_putBack_103 : decode cX5_putBack 103 = .ok (.iconst 0, 1) := dk_3 (dk_at dksX5_putBack_4 10 rfl rfl)
theorem dX5_putBack_104 : decode cX5_putBack 104 = .ok (.invokevirtual 90, 3) := dk_182 0 90 (dk_at dksX5_putBack_4 11 rfl rfl)
theorem dX5_putBack_107 : decode cX5_putBack 107 = .ok (.iload_n 3, 1) := dk_29 (dk_at dksX5_putBack_4 14 rfl rfl)
theorem dX5_putBack_108 : decode cX5_putBack 108 = .ok (.iconst 1, 1) := dk_4 (dk_at dksX5_putBack_4 15 rfl rfl)
theorem dX5_putBack_109 : decode cX5_putBack 109 = .ok (.isub, 1) := dk_100 (dk_at dksX5_putBack_4 16 rfl rfl)
theorem dX5_putBack_110 : decode cX5_putBack 110 = .ok (.invokestatic 124, 3) := dk_184 0 124 (dk_at dksX5_putBack_4 17 rfl rfl)
theorem dX5_putBack_113 : decode cX5_putBack 113 = .ok (.ireturn, 1) := dk_172 (dk_at dksX5_putBack_4 20 rfl rfl)
abbrev cX5_standInFor : ByteArray := prog_12_method_38_code
def yX5_standInFor : MethodName := ⟨RX5, "standInFor", "(C)C"⟩
def dkwX5_standInFor_1 : List UInt8 := [42, 27, 16, 97, 100, 182, 0, 131, 184, 0, 124, 172]
abbrev dktX5_standInFor_1 : List UInt8 := dkwX5_standInFor_1 ++ []
def dkwX5_standInFor_0 : List UInt8 := [42, 27, 184, 0, 77, 153, 0, 7, 3, 167, 0, 4, 4, 182, 0, 83, 153, 0, 8, 16, 32, 167, 0, 14]
abbrev dktX5_standInFor_0 : List UInt8 := dkwX5_standInFor_0 ++ dktX5_standInFor_1
theorem dksX5_standInFor_0 : cX5_standInFor.data.toList.drop 0 = dktX5_standInFor_0 := by decide +kernel
theorem dksX5_standInFor_1 : cX5_standInFor.data.toList.drop 24 = dktX5_standInFor_1 := dk_seg dksX5_standInFor_0 24 rfl rfl
theorem dX5_standInFor_0 : decode cX5_standInFor 0 = .ok (.aload_n 0, 1) := dk_42 (dk_at dksX5_standInFor_0 0 rfl rfl)
theorem dX5_standInFor_1 : decode cX5_standInFor 1 = .ok (.iload_n 1, 1) := dk_27 (dk_at dksX5_standInFor_0 1 rfl rfl)
theorem dX5_standInFor_2 : decode cX5_standInFor 2 = .ok (.invokestatic 77, 3) := dk_184 0 77 (dk_at dksX5_standInFor_0 2 rfl rfl)
theorem dX5_standInFor_5 : decode cX5_standInFor 5 = .ok (.ifCond .eq 7, 3) := dk_153 0 7 (dk_at dksX5_standInFor_0 5 rfl rfl)
theorem dX5_standInFor_8 : decode cX5_standInFor 8 = .ok (.iconst 0, 1) := dk_3 (dk_at dksX5_standInFor_0 8 rfl rfl)
theorem dX5_standInFor_9 : decode cX5_standInFor 9 = .ok (.goto 4, 3) := dk_167 0 4 (dk_at dksX5_standInFor_0 9 rfl rfl)
theorem dX5_standInFor_12 : decode cX5_standInFor 12 = .ok (.iconst 1, 1) := dk_4 (dk_at dksX5_standInFor_0 12 rfl rfl)
theorem dX5_standInFor_13 : decode cX5_standInFor 13 = .ok (.invokevirtual 83, 3) := dk_182 0 83 (dk_at dksX5_standInFor_0 13 rfl rfl)
theorem dX5_standInFor_16 : decode cX5_standInFor 16 = .ok (.ifCond .eq 8, 3) := dk_153 0 8 (dk_at dksX5_standInFor_0 16 rfl rfl)
theorem dX5_standInFor_19 : decode cX5_standInFor 19 = .ok (.bipush 32, 2) := dk_16 32 (dk_at dksX5_standInFor_0 19 rfl rfl)
theorem dX5_standInFor_21 : decode cX5_standInFor 21 = .ok (.goto 14, 3) := dk_167 0 14 (dk_at dksX5_standInFor_0 21 rfl rfl)
theorem dX5_standInFor_24 : decode cX5_standInFor 24 = .ok (.aload_n 0, 1) := dk_42 (dk_at dksX5_standInFor_1 0 rfl rfl)
theorem dX5_standInFor_25 : decode cX5_standInFor 25 = .ok (.iload_n 1, 1) := dk_27 (dk_at dksX5_standInFor_1 1 rfl rfl)
theorem dX5_standInFor_26 : decode cX5_standInFor 26 = .ok (.bipush 97, 2) := dk_16 97 (dk_at dksX5_standInFor_1 2 rfl rfl)
theorem dX5_standInFor_28 : decode cX5_standInFor 28 = .ok (.isub, 1) := dk_100 (dk_at dksX5_standInFor_1 4 rfl rfl)
theorem dX5_standInFor_29 : decode cX5_standInFor 29 = .ok (.invokevirtual 131, 3) := dk_182 0 131 (dk_at dksX5_standInFor_1 5 rfl rfl)
theorem dX5_standInFor_32 : decode cX5_standInFor 32 = .ok (.invokestatic 124, 3) := dk_184 0 124 (dk_at dksX5_standInFor_1 8 rfl rfl)
theorem dX5_standInFor_35 : decode cX5_standInFor 35 = .ok (.ireturn, 1) := dk_172 (dk_at dksX5_standInFor_1 11 rfl rfl)
abbrev cX5_leadsToCount : ByteArray := prog_12_method_41_code
def yX5_leadsToCount : MethodName := ⟨RX5, "leadsToCount", "(C)I"⟩
def dkwX5_leadsToCount_0 : List UInt8 := [42, 27, 182, 0, 148, 172]
abbrev dktX5_leadsToCount_0 : List UInt8 := dkwX5_leadsToCount_0 ++ []
theorem dksX5_leadsToCount_0 : cX5_leadsToCount.data.toList.drop 0 = dktX5_leadsToCount_0 := by decide +kernel
theorem dX5_leadsToCount_0 : decode cX5_leadsToCount 0 = .ok (.aload_n 0, 1) := dk_42 (dk_at dksX5_leadsToCount_0 0 rfl rfl)
theorem dX5_leadsToCount_1 : decode cX5_leadsToCount 1 = .ok (.iload_n 1, 1) := dk_27 (dk_at dksX5_leadsToCount_0 1 rfl rfl)
theorem dX5_leadsToCount_2 : decode cX5_leadsToCount 2 = .ok (.invokevirtual 148, 3) := dk_182 0 148 (dk_at dksX5_leadsToCount_0 2 rfl rfl)
theorem dX5_leadsToCount_5 : decode cX5_leadsToCount 5 = .ok (.ireturn, 1) := dk_172 (dk_at dksX5_leadsToCount_0 5 rfl rfl)
abbrev cX5_leads : ByteArray := prog_12_method_40_code
def yX5_leads : MethodName := ⟨RX5, "leads", "(I)I"⟩
def dkwX5_leads_1 : List UInt8 := [27, 16, 97, 100, 4, 182, 0, 142, 184, 0, 145, 172]
abbrev dktX5_leads_1 : List UInt8 := dkwX5_leads_1 ++ []
def dkwX5_leads_0 : List UInt8 := [42, 27, 184, 0, 77, 153, 0, 7, 3, 167, 0, 4, 4, 182, 0, 83, 153, 0, 7, 3, 167, 0, 15, 42]
abbrev dktX5_leads_0 : List UInt8 := dkwX5_leads_0 ++ dktX5_leads_1
theorem dksX5_leads_0 : cX5_leads.data.toList.drop 0 = dktX5_leads_0 := by decide +kernel
theorem dksX5_leads_1 : cX5_leads.data.toList.drop 24 = dktX5_leads_1 := dk_seg dksX5_leads_0 24 rfl rfl
theorem dX5_leads_0 : decode cX5_leads 0 = .ok (.aload_n 0, 1) := dk_42 (dk_at dksX5_leads_0 0 rfl rfl)
theorem dX5_leads_1 : decode cX5_leads 1 = .ok (.iload_n 1, 1) := dk_27 (dk_at dksX5_leads_0 1 rfl rfl)
theorem dX5_leads_2 : decode cX5_leads 2 = .ok (.invokestatic 77, 3) := dk_184 0 77 (dk_at dksX5_leads_0 2 rfl rfl)
theorem dX5_leads_5 : decode cX5_leads 5 = .ok (.ifCond .eq 7, 3) := dk_153 0 7 (dk_at dksX5_leads_0 5 rfl rfl)
theorem dX5_leads_8 : decode cX5_leads 8 = .ok (.iconst 0, 1) := dk_3 (dk_at dksX5_leads_0 8 rfl rfl)
theorem dX5_leads_9 : decode cX5_leads 9 = .ok (.goto 4, 3) := dk_167 0 4 (dk_at dksX5_leads_0 9 rfl rfl)
theorem dX5_leads_12 : decode cX5_leads 12 = .ok (.iconst 1, 1) := dk_4 (dk_at dksX5_leads_0 12 rfl rfl)
theorem dX5_leads_13 : decode cX5_leads 13 = .ok (.invokevirtual 83, 3) := dk_182 0 83 (dk_at dksX5_leads_0 13 rfl rfl)
theorem dX5_leads_16 : decode cX5_leads 16 = .ok (.ifCond .eq 7, 3) := dk_153 0 7 (dk_at dksX5_leads_0 16 rfl rfl)
theorem dX5_leads_19 : decode cX5_leads 19 = .ok (.iconst 0, 1) := dk_3 (dk_at dksX5_leads_0 19 rfl rfl)
theorem dX5_leads_20 : decode cX5_leads 20 = .ok (.goto 15, 3) := dk_167 0 15 (dk_at dksX5_leads_0 20 rfl rfl)
theorem dX5_leads_23 : decode cX5_leads 23 = .ok (.aload_n 0, 1) := dk_42 (dk_at dksX5_leads_0 23 rfl rfl)
theorem dX5_leads_24 : decode cX5_leads 24 = .ok (.iload_n 1, 1) := dk_27 (dk_at dksX5_leads_1 0 rfl rfl)
theorem dX5_leads_25 : decode cX5_leads 25 = .ok (.bipush 97, 2) := dk_16 97 (dk_at dksX5_leads_1 1 rfl rfl)
theorem dX5_leads_27 : decode cX5_leads 27 = .ok (.isub, 1) := dk_100 (dk_at dksX5_leads_1 3 rfl rfl)
theorem dX5_leads_28 : decode cX5_leads 28 = .ok (.iconst 1, 1) := dk_4 (dk_at dksX5_leads_1 4 rfl rfl)
theorem dX5_leads_29 : decode cX5_leads 29 = .ok (.invokevirtual 142, 3) := dk_182 0 142 (dk_at dksX5_leads_1 5 rfl rfl)
theorem dX5_leads_32 : decode cX5_leads 32 = .ok (.invokestatic 145, 3) := dk_184 0 145 (dk_at dksX5_leads_1 8 rfl rfl)
theorem dX5_leads_35 : decode cX5_leads 35 = .ok (.ireturn, 1) := dk_172 (dk_at dksX5_leads_1 11 rfl rfl)
abbrev cX5_reached : ByteArray := prog_12_method_34_code
def yX5_reached : MethodName := ⟨RX5, "reached", "(IZ)I"⟩
def dkwX5_reached_1 : List UInt8 := [182, 0, 139, 128, 62, 167, 255, 238, 29, 172]
abbrev dktX5_reached_1 : List UInt8 := dkwX5_reached_1 ++ []
def dkwX5_reached_0 : List UInt8 := [42, 27, 28, 182, 0, 135, 62, 2, 54, 4, 29, 21, 4, 159, 0, 18, 29, 54, 4, 29, 42, 29, 28]
abbrev dktX5_reached_0 : List UInt8 := dkwX5_reached_0 ++ dktX5_reached_1
theorem dksX5_reached_0 : cX5_reached.data.toList.drop 0 = dktX5_reached_0 := by decide +kernel
theorem dksX5_reached_1 : cX5_reached.data.toList.drop 23 = dktX5_reached_1 := dk_seg dksX5_reached_0 23 rfl rfl
theorem dX5_reached_0 : decode cX5_reached 0 = .ok (.aload_n 0, 1) := dk_42 (dk_at dksX5_reached_0 0 rfl rfl)
theorem dX5_reached_1 : decode cX5_reached 1 = .ok (.iload_n 1, 1) := dk_27 (dk_at dksX5_reached_0 1 rfl rfl)
theorem dX5_reached_2 : decode cX5_reached 2 = .ok (.iload_n 2, 1) := dk_28 (dk_at dksX5_reached_0 2 rfl rfl)
theorem dX5_reached_3 : decode cX5_reached 3 = .ok (.invokevirtual 135, 3) := dk_182 0 135 (dk_at dksX5_reached_0 3 rfl rfl)
theorem dX5_reached_6 : decode cX5_reached 6 = .ok (.istore_n 3, 1) := dk_62 (dk_at dksX5_reached_0 6 rfl rfl)
theorem dX5_reached_7 : decode cX5_reached 7 = .ok (.iconst (-1), 1) := dk_2 (dk_at dksX5_reached_0 7 rfl rfl)
theorem dX5_reached_8 : decode cX5_reached 8 = .ok (.istore 4, 2) := dk_54 4 (dk_at dksX5_reached_0 8 rfl rfl)
theorem dX5_reached_10 : decode cX5_reached 10 = .ok (.iload_n 3, 1) := dk_29 (dk_at dksX5_reached_0 10 rfl rfl)
theorem dX5_reached_11 : decode cX5_reached 11 = .ok (.iload 4, 2) := dk_21 4 (dk_at dksX5_reached_0 11 rfl rfl)
theorem dX5_reached_13 : decode cX5_reached 13 = .ok (.if_icmp .eq 18, 3) := dk_159 0 18 (dk_at dksX5_reached_0 13 rfl rfl)
theorem dX5_reached_16 : decode cX5_reached 16 = .ok (.iload_n 3, 1) := dk_29 (dk_at dksX5_reached_0 16 rfl rfl)
theorem dX5_reached_17 : decode cX5_reached 17 = .ok (.istore 4, 2) := dk_54 4 (dk_at dksX5_reached_0 17 rfl rfl)
theorem dX5_reached_19 : decode cX5_reached 19 = .ok (.iload_n 3, 1) := dk_29 (dk_at dksX5_reached_0 19 rfl rfl)
theorem dX5_reached_20 : decode cX5_reached 20 = .ok (.aload_n 0, 1) := dk_42 (dk_at dksX5_reached_0 20 rfl rfl)
theorem dX5_reached_21 : decode cX5_reached 21 = .ok (.iload_n 3, 1) := dk_29 (dk_at dksX5_reached_0 21 rfl rfl)
theorem dX5_reached_22 : decode cX5_reached 22 = .ok (.iload_n 2, 1) := dk_28 (dk_at dksX5_reached_0 22 rfl rfl)
theorem dX5_reached_23 : decode cX5_reached 23 = .ok (.invokevirtual 139, 3) := dk_182 0 139 (dk_at dksX5_reached_1 0 rfl rfl)
theorem dX5_reached_26 : decode cX5_reached 26 = .ok (.ior, 1) := dk_128 (dk_at dksX5_reached_1 3 rfl rfl)
theorem dX5_reached_27 : decode cX5_reached 27 = .ok (.istore_n 3, 1) := dk_62 (dk_at dksX5_reached_1 4 rfl rfl)
theorem dX5_reached_28 : decode cX5_reached 28 = .ok (.goto (-18), 3) := dk_167 255 238 (dk_at dksX5_reached_1 5 rfl rfl)
theorem dX5_reached_31 : decode cX5_reached 31 = .ok (.iload_n 3, 1) := dk_29 (dk_at dksX5_reached_1 8 rfl rfl)
theorem dX5_reached_32 : decode cX5_reached 32 = .ok (.ireturn, 1) := dk_172 (dk_at dksX5_reached_1 9 rfl rfl)
abbrev cX5_bits : ByteArray := prog_12_method_39_code
def yX5_bits : MethodName := ⟨RX5, "bits", "(I)I"⟩
def dkwX5_bits_1 : List UInt8 := [27, 172]
abbrev dktX5_bits_1 : List UInt8 := dkwX5_bits_1 ++ []
def dkwX5_bits_0 : List UInt8 := [3, 60, 3, 61, 28, 16, 8, 162, 0, 17, 27, 26, 28, 122, 4, 126, 96, 60, 132, 2, 1, 167, 255, 239]
abbrev dktX5_bits_0 : List UInt8 := dkwX5_bits_0 ++ dktX5_bits_1
theorem dksX5_bits_0 : cX5_bits.data.toList.drop 0 = dktX5_bits_0 := by decide +kernel
theorem dksX5_bits_1 : cX5_bits.data.toList.drop 24 = dktX5_bits_1 := dk_seg dksX5_bits_0 24 rfl rfl
theorem dX5_bits_0 : decode cX5_bits 0 = .ok (.iconst 0, 1) := dk_3 (dk_at dksX5_bits_0 0 rfl rfl)
theorem dX5_bits_1 : decode cX5_bits 1 = .ok (.istore_n 1, 1) := dk_60 (dk_at dksX5_bits_0 1 rfl rfl)
theorem dX5_bits_2 : decode cX5_bits 2 = .ok (.iconst 0, 1) := dk_3 (dk_at dksX5_bits_0 2 rfl rfl)
theorem dX5_bits_3 : decode cX5_bits 3 = .ok (.istore_n 2, 1) := dk_61 (dk_at dksX5_bits_0 3 rfl rfl)
theorem dX5_bits_4 : decode cX5_bits 4 = .ok (.iload_n 2, 1) := dk_28 (dk_at dksX5_bits_0 4 rfl rfl)
theorem dX5_bits_5 : decode cX5_bits 5 = .ok (.bipush 8, 2) := dk_16 8 (dk_at dksX5_bits_0 5 rfl rfl)
theorem dX5_bits_7 : decode cX5_bits 7 = .ok (.if_icmp .ge 17, 3) := dk_162 0 17 (dk_at dksX5_bits_0 7 rfl rfl)
theorem dX5_bits_10 : decode cX5_bits 10 = .ok (.iload_n 1, 1) := dk_27 (dk_at dksX5_bits_0 10 rfl rfl)
theorem dX5_bits_11 : decode cX5_bits 11 = .ok (.iload_n 0, 1) := dk_26 (dk_at dksX5_bits_0 11 rfl rfl)
theorem dX5_bits_12 : decode cX5_bits 12 = .ok (.iload_n 2, 1) := dk_28 (dk_at dksX5_bits_0 12 rfl rfl)
theorem dX5_bits_13 : decode cX5_bits 13 = .ok (.ishr, 1) := dk_122 (dk_at dksX5_bits_0 13 rfl rfl)
theorem dX5_bits_14 : decode cX5_bits 14 = .ok (.iconst 1, 1) := dk_4 (dk_at dksX5_bits_0 14 rfl rfl)
theorem dX5_bits_15 : decode cX5_bits 15 = .ok (.iand, 1) := dk_126 (dk_at dksX5_bits_0 15 rfl rfl)
theorem dX5_bits_16 : decode cX5_bits 16 = .ok (.iadd, 1) := dk_96 (dk_at dksX5_bits_0 16 rfl rfl)
theorem dX5_bits_17 : decode cX5_bits 17 = .ok (.istore_n 1, 1) := dk_60 (dk_at dksX5_bits_0 17 rfl rfl)
theorem dX5_bits_18 : decode cX5_bits 18 = .ok (.iinc 2 1, 3) := dk_132 2 1 (dk_at dksX5_bits_0 18 rfl rfl)
theorem dX5_bits_21 : decode cX5_bits 21 = .ok (.goto (-17), 3) := dk_167 255 239 (dk_at dksX5_bits_0 21 rfl rfl)
theorem dX5_bits_24 : decode cX5_bits 24 = .ok (.iload_n 1, 1) := dk_27 (dk_at dksX5_bits_1 0 rfl rfl)
theorem dX5_bits_25 : decode cX5_bits 25 = .ok (.ireturn, 1) := dk_172 (dk_at dksX5_bits_1 1 rfl rfl)
abbrev cX5_leadsToByTable : ByteArray := prog_12_method_42_code
def yX5_leadsToByTable : MethodName := ⟨RX5, "leadsToByTable", "(C)I"⟩
def dkwX5_leadsToByTable_0 : List UInt8 := [42, 27, 182, 0, 148, 172]
abbrev dktX5_leadsToByTable_0 : List UInt8 := dkwX5_leadsToByTable_0 ++ []
theorem dksX5_leadsToByTable_0 : cX5_leadsToByTable.data.toList.drop 0 = dktX5_leadsToByTable_0 := by decide +kernel
theorem dX5_leadsToByTable_0 : decode cX5_leadsToByTable 0 = .ok (.aload_n 0, 1) := dk_42 (dk_at dksX5_leadsToByTable_0 0 rfl rfl)
theorem dX5_leadsToByTable_1 : decode cX5_leadsToByTable 1 = .ok (.iload_n 1, 1) := dk_27 (dk_at dksX5_leadsToByTable_0 1 rfl rfl)
theorem dX5_leadsToByTable_2 : decode cX5_leadsToByTable 2 = .ok (.invokevirtual 148, 3) := dk_182 0 148 (dk_at dksX5_leadsToByTable_0 2 rfl rfl)
theorem dX5_leadsToByTable_5 : decode cX5_leadsToByTable 5 = .ok (.ireturn, 1) := dk_172 (dk_at dksX5_leadsToByTable_0 5 rfl rfl)
abbrev cX5_inCircles : ByteArray := prog_12_method_44_code
def yX5_inCircles : MethodName := ⟨RX5, "inCircles", "()I"⟩
theorem dX5_inCircles_0 : decode cX5_inCircles 0 = .ok (.aload_n 0, 1) := by decide +kernel
theorem dX5_inCircles_1 : decode cX5_inCircles 1 = .ok (.invokevirtual 151, 3) := by decide +kernel
theorem dX5_inCircles_4 : decode cX5_inCircles 4 = .ok (.ireturn, 1) := by decide +kernel
abbrev cX5_round : ByteArray := prog_12_method_43_code
def yX5_round : MethodName := ⟨RX5, "round", "()I"⟩
def dkwX5_round_1 : List UInt8 := [4, 126, 96, 60, 132, 2, 1, 167, 255, 234, 27, 172]
abbrev dktX5_round_1 : List UInt8 := dkwX5_round_1 ++ []
def dkwX5_round_0 : List UInt8 := [42, 3, 181, 0, 39, 3, 60, 3, 61, 28, 16, 8, 162, 0, 22, 27, 42, 28, 4, 182, 0, 142, 28, 122]
abbrev dktX5_round_0 : List UInt8 := dkwX5_round_0 ++ dktX5_round_1
theorem dksX5_round_0 : cX5_round.data.toList.drop 0 = dktX5_round_0 := by decide +kernel
theorem dksX5_round_1 : cX5_round.data.toList.drop 24 = dktX5_round_1 := dk_seg dksX5_round_0 24 rfl rfl
theorem dX5_round_0 : decode cX5_round 0 = .ok (.aload_n 0, 1) := dk_42 (dk_at dksX5_round_0 0 rfl rfl)
theorem dX5_round_1 : decode cX5_round 1 = .ok (.iconst 0, 1) := dk_3 (dk_at dksX5_round_0 1 rfl rfl)
theorem dX5_round_2 : decode cX5_round 2 = .ok (.putfield 39, 3) := dk_181 0 39 (dk_at dksX5_round_0 2 rfl rfl)
theorem dX5_round_5 : decode cX5_round 5 = .ok (.iconst 0, 1) := dk_3 (dk_at dksX5_round_0 5 rfl rfl)
theorem dX5_round_6 : decode cX5_round 6 = .ok (.istore_n 1, 1) := dk_60 (dk_at dksX5_round_0 6 rfl rfl)
theorem dX5_round_7 : decode cX5_round 7 = .ok (.iconst 0, 1) := dk_3 (dk_at dksX5_round_0 7 rfl rfl)
theorem dX5_round_8 : decode cX5_round 8 = .ok (.istore_n 2, 1) := dk_61 (dk_at dksX5_round_0 8 rfl rfl)
theorem dX5_round_9 : decode cX5_round 9 = .ok (.iload_n 2, 1) := dk_28 (dk_at dksX5_round_0 9 rfl rfl)
theorem dX5_round_10 : decode cX5_round 10 = .ok (.bipush 8, 2) := dk_16 8 (dk_at dksX5_round_0 10 rfl rfl)
theorem dX5_round_12 : decode cX5_round 12 = .ok (.if_icmp .ge 22, 3) := dk_162 0 22 (dk_at dksX5_round_0 12 rfl rfl)
theorem dX5_round_15 : decode cX5_round 15 = .ok (.iload_n 1, 1) := dk_27 (dk_at dksX5_round_0 15 rfl rfl)
theorem dX5_round_16 : decode cX5_round 16 = .ok (.aload_n 0, 1) := dk_42 (dk_at dksX5_round_0 16 rfl rfl)
theorem dX5_round_17 : decode cX5_round 17 = .ok (.iload_n 2, 1) := dk_28 (dk_at dksX5_round_0 17 rfl rfl)
theorem dX5_round_18 : decode cX5_round 18 = .ok (.iconst 1, 1) := dk_4 (dk_at dksX5_round_0 18 rfl rfl)
theorem dX5_round_19 : decode cX5_round 19 = .ok (.invokevirtual 142, 3) := dk_182 0 142 (dk_at dksX5_round_0 19 rfl rfl)
theorem dX5_round_22 : decode cX5_round 22 = .ok (.iload_n 2, 1) := dk_28 (dk_at dksX5_round_0 22 rfl rfl)
theorem dX5_round_23 : decode cX5_round 23 = .ok (.ishr, 1) := dk_122 (dk_at dksX5_round_0 23 rfl rfl)
theorem dX5_round_24 : decode cX5_round 24 = .ok (.iconst 1, 1) := dk_4 (dk_at dksX5_round_1 0 rfl rfl)
theorem dX5_round_25 : decode cX5_round 25 = .ok (.iand, 1) := dk_126 (dk_at dksX5_round_1 1 rfl rfl)
theorem dX5_round_26 : decode cX5_round 26 = .ok (.iadd, 1) := dk_96 (dk_at dksX5_round_1 2 rfl rfl)
theorem dX5_round_27 : decode cX5_round 27 = .ok (.istore_n 1, 1) := dk_60 (dk_at dksX5_round_1 3 rfl rfl)
theorem dX5_round_28 : decode cX5_round 28 = .ok (.iinc 2 1, 3) := dk_132 2 1 (dk_at dksX5_round_1 4 rfl rfl)
theorem dX5_round_31 : decode cX5_round 31 = .ok (.goto (-22), 3) := dk_167 255 234 (dk_at dksX5_round_1 7 rfl rfl)
theorem dX5_round_34 : decode cX5_round 34 = .ok (.iload_n 1, 1) := dk_27 (dk_at dksX5_round_1 10 rfl rfl)
theorem dX5_round_35 : decode cX5_round 35 = .ok (.ireturn, 1) := dk_172 (dk_at dksX5_round_1 11 rfl rfl)
abbrev cX5_inCirclesBySets : ByteArray := prog_12_method_45_code
def yX5_inCirclesBySets : MethodName := ⟨RX5, "inCirclesBySets", "()I"⟩
theorem dX5_inCirclesBySets_0 : decode cX5_inCirclesBySets 0 = .ok (.aload_n 0, 1) := by decide +kernel
theorem dX5_inCirclesBySets_1 : decode cX5_inCirclesBySets 1 = .ok (.invokevirtual 151, 3) := by decide +kernel
theorem dX5_inCirclesBySets_4 : decode cX5_inCirclesBySets 4 = .ok (.ireturn, 1) := by decide +kernel
abbrev cX5_longestWay : ByteArray := prog_12_method_48_code
def yX5_longestWay : MethodName := ⟨RX5, "longestWay", "(C)I"⟩
def dkwX5_longestWay_0 : List UInt8 := [42, 27, 182, 0, 160, 172]
abbrev dktX5_longestWay_0 : List UInt8 := dkwX5_longestWay_0 ++ []
theorem dksX5_longestWay_0 : cX5_longestWay.data.toList.drop 0 = dktX5_longestWay_0 := by decide +kernel
theorem dX5_longestWay_0 : decode cX5_longestWay 0 = .ok (.aload_n 0, 1) := dk_42 (dk_at dksX5_longestWay_0 0 rfl rfl)
theorem dX5_longestWay_1 : decode cX5_longestWay 1 = .ok (.iload_n 1, 1) := dk_27 (dk_at dksX5_longestWay_0 1 rfl rfl)
theorem dX5_longestWay_2 : decode cX5_longestWay 2 = .ok (.invokevirtual 160, 3) := dk_182 0 160 (dk_at dksX5_longestWay_0 2 rfl rfl)
theorem dX5_longestWay_5 : decode cX5_longestWay 5 = .ok (.ireturn, 1) := dk_172 (dk_at dksX5_longestWay_0 5 rfl rfl)
abbrev cX5_way : ByteArray := prog_12_method_47_code
def yX5_way : MethodName := ⟨RX5, "way", "(I)I"⟩
def dkwX5_way_3 : List UInt8 := [182, 0, 154, 172]
abbrev dktX5_way_3 : List UInt8 := dkwX5_way_3 ++ []
def dkwX5_way_2 : List UInt8 := [167, 0, 4, 3, 182, 0, 83, 153, 0, 5, 3, 172, 132, 3, 1, 167, 255, 216, 42, 27, 16, 97, 100]
abbrev dktX5_way_2 : List UInt8 := dkwX5_way_2 ++ dktX5_way_3
def dkwX5_way_1 : List UInt8 := [16, 8, 162, 0, 40, 42, 28, 29, 122, 4, 126, 4, 160, 0, 15, 42, 29, 182, 0, 73, 154, 0, 7, 5]
abbrev dktX5_way_1 : List UInt8 := dkwX5_way_1 ++ dktX5_way_2
def dkwX5_way_0 : List UInt8 := [42, 27, 182, 0, 98, 153, 0, 5, 3, 172, 42, 27, 16, 97, 100, 3, 182, 0, 142, 61, 3, 62, 29]
abbrev dktX5_way_0 : List UInt8 := dkwX5_way_0 ++ dktX5_way_1
theorem dksX5_way_0 : cX5_way.data.toList.drop 0 = dktX5_way_0 := by decide +kernel
theorem dksX5_way_1 : cX5_way.data.toList.drop 23 = dktX5_way_1 := dk_seg dksX5_way_0 23 rfl rfl
theorem dksX5_way_2 : cX5_way.data.toList.drop 47 = dktX5_way_2 := dk_seg dksX5_way_1 24 rfl rfl
theorem dksX5_way_3 : cX5_way.data.toList.drop 70 = dktX5_way_3 := dk_seg dksX5_way_2 23 rfl rfl
theorem dX5_way_0 : decode cX5_way 0 = .ok (.aload_n 0, 1) := dk_42 (dk_at dksX5_way_0 0 rfl rfl)
theorem dX5_way_1 : decode cX5_way 1 = .ok (.iload_n 1, 1) := dk_27 (dk_at dksX5_way_0 1 rfl rfl)
theorem dX5_way_2 : decode cX5_way 2 = .ok (.invokevirtual 98, 3) := dk_182 0 98 (dk_at dksX5_way_0 2 rfl rfl)
theorem dX5_way_5 : decode cX5_way 5 = .ok (.ifCond .eq 5, 3) := dk_153 0 5 (dk_at dksX5_way_0 5 rfl rfl)
theorem dX5_way_8 : decode cX5_way 8 = .ok (.iconst 0, 1) := dk_3 (dk_at dksX5_way_0 8 rfl rfl)
theorem dX5_way_9 : decode cX5_way 9 = .ok (.ireturn, 1) := dk_172 (dk_at dksX5_way_0 9 rfl rfl)
theorem dX5_way_10 : decode cX5_way 10 = .ok (.aload_n 0, 1) := dk_42 (dk_at dksX5_way_0 10 rfl rfl)
theorem dX5_way_11 : decode cX5_way 11 = .ok (.iload_n 1, 1) := dk_27 (dk_at dksX5_way_0 11 rfl rfl)
theorem dX5_way_12 : decode cX5_way 12 = .ok (.bipush 97, 2) := dk_16 97 (dk_at dksX5_way_0 12 rfl rfl)
theorem dX5_way_14 : decode cX5_way 14 = .ok (.isub, 1) := dk_100 (dk_at dksX5_way_0 14 rfl rfl)
theorem dX5_way_15 : decode cX5_way 15 = .ok (.iconst 0, 1) := dk_3 (dk_at dksX5_way_0 15 rfl rfl)
theorem dX5_way_16 : decode cX5_way 16 = .ok (.invokevirtual 142, 3) := dk_182 0 142 (dk_at dksX5_way_0 16 rfl rfl)
theorem dX5_way_19 : decode cX5_way 19 = .ok (.istore_n 2, 1) := dk_61 (dk_at dksX5_way_0 19 rfl rfl)
theorem dX5_way_20 : decode cX5_way 20 = .ok (.iconst 0, 1) := dk_3 (dk_at dksX5_way_0 20 rfl rfl)
theorem dX5_way_21 : decode cX5_way 21 = .ok (.istore_n 3, 1) := dk_62 (dk_at dksX5_way_0 21 rfl rfl)
theorem dX5_way_22 : decode cX5_way 22 = .ok (.iload_n 3, 1) := dk_29 (dk_at dksX5_way_0 22 rfl rfl)
theorem dX5_way_23 : decode cX5_way 23 = .ok (.bipush 8, 2) := dk_16 8 (dk_at dksX5_way_1 0 rfl rfl)
theorem dX5_way_25 : decode cX5_way 25 = .ok (.if_icmp .ge 40, 3) := dk_162 0 40 (dk_at dksX5_way_1 2 rfl rfl)
theorem dX5_way_28 : decode cX5_way 28 = .ok (.aload_n 0, 1) := dk_42 (dk_at dksX5_way_1 5 rfl rfl)
theorem dX5_way_29 : decode cX5_way 29 = .ok (.iload_n 2, 1) := dk_28 (dk_at dksX5_way_1 6 rfl rfl)
theorem dX5_way_30 : decode cX5_way 30 = .ok (.iload_n 3, 1) := dk_29 (dk_at dksX5_way_1 7 rfl rfl)
theorem dX5_way_31 : decode cX5_way 31 = .ok (.ishr, 1) := dk_122 (dk_at dksX5_way_1 8 rfl rfl)
theorem dX5_way_32 : decode cX5_way 32 = .ok (.iconst 1, 1) := dk_4 (dk_at dksX5_way_1 9 rfl rfl)
theorem dX5_way_33 : decode cX5_way 33 = .ok (.iand, 1) := dk_126 (dk_at dksX5_way_1 10 rfl rfl)
theorem dX5_way_34 : decode cX5_way 34 = .ok (.iconst 1, 1) := dk_4 (dk_at dksX5_way_1 11 rfl rfl)
theorem dX5_way_35 : decode cX5_way 35 = .ok (.if_icmp .ne 15, 3) := dk_160 0 15 (dk_at dksX5_way_1 12 rfl rfl)
theorem dX5_way_38 : decode cX5_way 38 = .ok (.aload_n 0, 1) := dk_42 (dk_at dksX5_way_1 15 rfl rfl)
theorem dX5_way_39 : decode cX5_way 39 = .ok (.iload_n 3, 1) := dk_29 (dk_at dksX5_way_1 16 rfl rfl)
theorem dX5_way_40 : decode cX5_way 40 = .ok (.invokevirtual 73, 3) := dk_182 0 73 (dk_at dksX5_way_1 17 rfl rfl)
theorem dX5_way_43 : decode cX5_way 43 = .ok (.ifCond .ne 7, 3) := dk_154 0 7 (dk_at dksX5_way_1 20 rfl rfl)
theorem dX5_way_46 : decode cX5_way 46 = .ok (.iconst 2, 1) := dk_5 (dk_at dksX5_way_1 23 rfl rfl)
theorem dX5_way_47 : decode cX5_way 47 = .ok (.goto 4, 3) := dk_167 0 4 (dk_at dksX5_way_2 0 rfl rfl)
theorem dX5_way_50 : decode cX5_way 50 = .ok (.iconst 0, 1) := dk_3 (dk_at dksX5_way_2 3 rfl rfl)
theorem dX5_way_51 : decode cX5_way 51 = .ok (.invokevirtual 83, 3) := dk_182 0 83 (dk_at dksX5_way_2 4 rfl rfl)
theorem dX5_way_54 : decode cX5_way 54 = .ok (.ifCond .eq 5, 3) := dk_153 0 5 (dk_at dksX5_way_2 7 rfl rfl)
theorem dX5_way_57 : decode cX5_way 57 = .ok (.iconst 0, 1) := dk_3 (dk_at dksX5_way_2 10 rfl rfl)
theorem dX5_way_58 : decode cX5_way 58 = .ok (.ireturn, 1) := dk_172 (dk_at dksX5_way_2 11 rfl rfl)
theorem dX5_way_59 : decode cX5_way 59 = .ok (.iinc 3 1, 3) := dk_132 3 1 (dk_at dksX5_way_2 12 rfl rfl)
theorem dX5_way_62 : decode cX5_way 62 = .ok (.goto (-40), 3) := dk_167 255 216 (dk_at dksX5_way_2 15 rfl rfl)
theorem dX5_way_65 : decode cX5_way 65 = .ok (.aload_n 0, 1) := dk_42 (dk_at dksX5_way_2 18 rfl rfl)
theorem dX5_way_66 : decode cX5_way 66 = .ok (.iload_n 1, 1) := dk_27 (dk_at dksX5_way_2 19 rfl rfl)
theorem dX5_way_67 : decode cX5_way 67 = .ok (.bipush 97, 2) := dk_16 97 (dk_at dksX5_way_2 20 rfl rfl)
theorem dX5_way_69 : decode cX5_way 69 = .ok (.isub, 1) := dk_100 (dk_at dksX5_way_2 22 rfl rfl)
theorem dX5_way_70 : decode cX5_way 70 = .ok (.invokevirtual 154, 3) := dk_182 0 154 (dk_at dksX5_way_3 0 rfl rfl)
theorem dX5_way_73 : decode cX5_way 73 = .ok (.ireturn, 1) := dk_172 (dk_at dksX5_way_3 3 rfl rfl)
abbrev cX5_longest : ByteArray := prog_12_method_46_code
def yX5_longest : MethodName := ⟨RX5, "longest", "(I)I"⟩
def dkwX5_longest_2 : List UInt8 := [28, 42, 27, 4, 182, 0, 69, 96, 172]
abbrev dktX5_longest_2 : List UInt8 := dkwX5_longest_2 ++ []
def dkwX5_longest_1 : List UInt8 := [42, 42, 42, 27, 29, 182, 0, 107, 182, 0, 131, 182, 0, 154, 184, 0, 157, 61, 132, 3, 1, 167, 255, 215]
abbrev dktX5_longest_1 : List UInt8 := dkwX5_longest_1 ++ dktX5_longest_2
def dkwX5_longest_0 : List UInt8 := [3, 61, 3, 62, 29, 42, 27, 5, 182, 0, 69, 162, 0, 37, 42, 27, 29, 182, 0, 128, 153, 0, 22, 28]
abbrev dktX5_longest_0 : List UInt8 := dkwX5_longest_0 ++ dktX5_longest_1
theorem dksX5_longest_0 : cX5_longest.data.toList.drop 0 = dktX5_longest_0 := by decide +kernel
theorem dksX5_longest_1 : cX5_longest.data.toList.drop 24 = dktX5_longest_1 := dk_seg dksX5_longest_0 24 rfl rfl
theorem dksX5_longest_2 : cX5_longest.data.toList.drop 48 = dktX5_longest_2 := dk_seg dksX5_longest_1 24 rfl rfl
theorem dX5_longest_0 : decode cX5_longest 0 = .ok (.iconst 0, 1) := dk_3 (dk_at dksX5_longest_0 0 rfl rfl)
theorem dX5_longest_1 : decode cX5_longest 1 = .ok (.istore_n 2, 1) := dk_61 (dk_at dksX5_longest_0 1 rfl rfl)
theorem dX5_longest_2 : decode cX5_longest 2 = .ok (.iconst 0, 1) := dk_3 (dk_at dksX5_longest_0 2 rfl rfl)
theorem dX5_longest_3 : decode cX5_longest 3 = .ok (.istore_n 3, 1) := dk_62 (dk_at dksX5_longest_0 3 rfl rfl)
theorem dX5_longest_4 : decode cX5_longest 4 = .ok (.iload_n 3, 1) := dk_29 (dk_at dksX5_longest_0 4 rfl rfl)
theorem dX5_longest_5 : decode cX5_longest 5 = .ok (.aload_n 0, 1) := dk_42 (dk_at dksX5_longest_0 5 rfl rfl)
theorem dX5_longest_6 : decode cX5_longest 6 = .ok (.iload_n 1, 1) := dk_27 (dk_at dksX5_longest_0 6 rfl rfl)
theorem dX5_longest_7 : decode cX5_longest 7 = .ok (.iconst 2, 1) := dk_5 (dk_at dksX5_longest_0 7 rfl rfl)
theorem dX5_longest_8 : decode cX5_longest 8 = .ok (.invokevirtual 69, 3) := dk_182 0 69 (dk_at dksX5_longest_0 8 rfl rfl)
theorem dX5_longest_11 : decode cX5_longest 11 = .ok (.if_icmp .ge 37, 3) := dk_162 0 37 (dk_at dksX5_longest_0 11 rfl rfl)
theorem dX5_longest_14 : decode cX5_longest 14 = .ok (.aload_n 0, 1) := dk_42 (dk_at dksX5_longest_0 14 rfl rfl)
theorem dX5_longest_15 : decode cX5_longest 15 = .ok (.iload_n 1, 1) := dk_27 (dk_at dksX5_longest_0 15 rfl rfl)
theorem dX5_longest_16 : decode cX5_longest 16 = .ok (.iload_n 3, 1) := dk_29 (dk_at dksX5_longest_0 16 rfl rfl)
theorem dX5_longest_17 : decode cX5_longest 17 = .ok (.invokevirtual 128, 3) := dk_182 0 128 (dk_at dksX5_longest_0 17 rfl rfl)
theorem dX5_longest_20 : decode cX5_longest 20 = .ok (.ifCond .eq 22, 3) := dk_153 0 22 (dk_at dksX5_longest_0 20 rfl rfl)
theorem dX5_longest_23 : decode cX5_longest 23 = .ok (.iload_n 2, 1) := dk_28 (dk_at dksX5_longest_0 23 rfl rfl)
theorem dX5_longest_24 : decode cX5_longest 24 = .ok (.aload_n 0, 1) := dk_42 (dk_at dksX5_longest_1 0 rfl rfl)
theorem dX5_longest_25 : decode cX5_longest 25 = .ok (.aload_n 0, 1) := dk_42 (dk_at dksX5_longest_1 1 rfl rfl)
theorem dX5_longest_26 : decode cX5_longest 26 = .ok (.aload_n 0, 1) := dk_42 (dk_at dksX5_longest_1 2 rfl rfl)
theorem dX5_longest_27 : decode cX5_longest 27 = .ok (.iload_n 1, 1) := dk_27 (dk_at dksX5_longest_1 3 rfl rfl)
theorem dX5_longest_28 : decode cX5_longest 28 = .ok (.iload_n 3, 1) := dk_29 (dk_at dksX5_longest_1 4 rfl rfl)
theorem dX5_longest_29 : decode cX5_longest 29 = .ok (.invokevirtual 107, 3) := dk_182 0 107 (dk_at dksX5_longest_1 5 rfl rfl)
theorem dX5_longest_32 : decode cX5_longest 32 = .ok (.invokevirtual 131, 3) := dk_182 0 131 (dk_at dksX5_longest_1 8 rfl rfl)
theorem dX5_longest_35 : decode cX5_longest 35 = .ok (.invokevirtual 154, 3) := dk_182 0 154 (dk_at dksX5_longest_1 11 rfl rfl)
theorem dX5_longest_38 : decode cX5_longest 38 = .ok (.invokestatic 157, 3) := dk_184 0 157 (dk_at dksX5_longest_1 14 rfl rfl)
theorem dX5_longest_41 : decode cX5_longest 41 = .ok (.istore_n 2, 1) := dk_61 (dk_at dksX5_longest_1 17 rfl rfl)
theorem dX5_longest_42 : decode cX5_longest 42 = .ok (.iinc 3 1, 3) := dk_132 3 1 (dk_at dksX5_longest_1 18 rfl rfl)
theorem dX5_longest_45 : decode cX5_longest 45 = .ok (.goto (-41), 3) := dk_167 255 215 (dk_at dksX5_longest_1 21 rfl rfl)
theorem dX5_longest_48 : decode cX5_longest 48 = .ok (.iload_n 2, 1) := dk_28 (dk_at dksX5_longest_2 0 rfl rfl)
theorem dX5_longest_49 : decode cX5_longest 49 = .ok (.aload_n 0, 1) := dk_42 (dk_at dksX5_longest_2 1 rfl rfl)
theorem dX5_longest_50 : decode cX5_longest 50 = .ok (.iload_n 1, 1) := dk_27 (dk_at dksX5_longest_2 2 rfl rfl)
theorem dX5_longest_51 : decode cX5_longest 51 = .ok (.iconst 1, 1) := dk_4 (dk_at dksX5_longest_2 3 rfl rfl)
theorem dX5_longest_52 : decode cX5_longest 52 = .ok (.invokevirtual 69, 3) := dk_182 0 69 (dk_at dksX5_longest_2 4 rfl rfl)
theorem dX5_longest_55 : decode cX5_longest 55 = .ok (.iadd, 1) := dk_96 (dk_at dksX5_longest_2 7 rfl rfl)
theorem dX5_longest_56 : decode cX5_longest 56 = .ok (.ireturn, 1) := dk_172 (dk_at dksX5_longest_2 8 rfl rfl)
abbrev cX5_most : ByteArray := prog_12_method_6_code
def yX5_most : MethodName := ⟨RX5, "most", "(II)I"⟩
def dkwX5_most_0 : List UInt8 := [26, 27, 164, 0, 7, 26, 167, 0, 4, 27, 172]
abbrev dktX5_most_0 : List UInt8 := dkwX5_most_0 ++ []
theorem dksX5_most_0 : cX5_most.data.toList.drop 0 = dktX5_most_0 := by decide +kernel
theorem dX5_most_0 : decode cX5_most 0 = .ok (.iload_n 0, 1) := dk_26 (dk_at dksX5_most_0 0 rfl rfl)
theorem dX5_most_1 : decode cX5_most 1 = .ok (.iload_n 1, 1) := dk_27 (dk_at dksX5_most_0 1 rfl rfl)
theorem dX5_most_2 : decode cX5_most 2 = .ok (.if_icmp .le 7, 3) := dk_164 0 7 (dk_at dksX5_most_0 2 rfl rfl)
theorem dX5_most_5 : decode cX5_most 5 = .ok (.iload_n 0, 1) := dk_26 (dk_at dksX5_most_0 5 rfl rfl)
theorem dX5_most_6 : decode cX5_most 6 = .ok (.goto 4, 3) := dk_167 0 4 (dk_at dksX5_most_0 6 rfl rfl)
theorem dX5_most_9 : decode cX5_most 9 = .ok (.iload_n 1, 1) := dk_27 (dk_at dksX5_most_0 9 rfl rfl)
theorem dX5_most_10 : decode cX5_most 10 = .ok (.ireturn, 1) := dk_172 (dk_at dksX5_most_0 10 rfl rfl)
abbrev cX5_longestByRounds : ByteArray := prog_12_method_49_code
def yX5_longestByRounds : MethodName := ⟨RX5, "longestByRounds", "(C)I"⟩
def dkwX5_longestByRounds_0 : List UInt8 := [42, 27, 182, 0, 160, 172]
abbrev dktX5_longestByRounds_0 : List UInt8 := dkwX5_longestByRounds_0 ++ []
theorem dksX5_longestByRounds_0 : cX5_longestByRounds.data.toList.drop 0 = dktX5_longestByRounds_0 := by decide +kernel
theorem dX5_longestByRounds_0 : decode cX5_longestByRounds 0 = .ok (.aload_n 0, 1) := dk_42 (dk_at dksX5_longestByRounds_0 0 rfl rfl)
theorem dX5_longestByRounds_1 : decode cX5_longestByRounds 1 = .ok (.iload_n 1, 1) := dk_27 (dk_at dksX5_longestByRounds_0 1 rfl rfl)
theorem dX5_longestByRounds_2 : decode cX5_longestByRounds 2 = .ok (.invokevirtual 160, 3) := dk_182 0 160 (dk_at dksX5_longestByRounds_0 2 rfl rfl)
theorem dX5_longestByRounds_5 : decode cX5_longestByRounds 5 = .ok (.ireturn, 1) := dk_172 (dk_at dksX5_longestByRounds_0 5 rfl rfl)
abbrev cX5_captives : ByteArray := prog_12_method_50_code
def yX5_captives : MethodName := ⟨RX5, "captives", "()I"⟩
def dkwX5_captives_3 : List UInt8 := [160, 0, 7, 4, 167, 0, 4, 3, 96, 60, 132, 3, 1, 167, 255, 206, 132, 2, 1, 167, 255, 178, 27, 172]
abbrev dktX5_captives_3 : List UInt8 := dkwX5_captives_3 ++ []
def dkwX5_captives_2 : List UInt8 := [182, 0, 128, 153, 0, 27, 42, 42, 42, 28, 29, 182, 0, 107, 182, 0, 131, 3, 182, 0, 69, 16, 116]
abbrev dktX5_captives_2 : List UInt8 := dkwX5_captives_2 ++ dktX5_captives_3
def dkwX5_captives_1 : List UInt8 := [159, 0, 6, 167, 0, 58, 3, 62, 29, 42, 28, 5, 182, 0, 69, 162, 0, 46, 27, 42, 28, 29]
abbrev dktX5_captives_1 : List UInt8 := dkwX5_captives_1 ++ dktX5_captives_2
def dkwX5_captives_0 : List UInt8 := [42, 3, 181, 0, 39, 3, 60, 3, 61, 28, 16, 8, 162, 0, 78, 42, 28, 3, 182, 0, 69, 16, 115]
abbrev dktX5_captives_0 : List UInt8 := dkwX5_captives_0 ++ dktX5_captives_1
theorem dksX5_captives_0 : cX5_captives.data.toList.drop 0 = dktX5_captives_0 := by decide +kernel
theorem dksX5_captives_1 : cX5_captives.data.toList.drop 23 = dktX5_captives_1 := dk_seg dksX5_captives_0 23 rfl rfl
theorem dksX5_captives_2 : cX5_captives.data.toList.drop 45 = dktX5_captives_2 := dk_seg dksX5_captives_1 22 rfl rfl
theorem dksX5_captives_3 : cX5_captives.data.toList.drop 68 = dktX5_captives_3 := dk_seg dksX5_captives_2 23 rfl rfl
theorem dX5_captives_0 : decode cX5_captives 0 = .ok (.aload_n 0, 1) := dk_42 (dk_at dksX5_captives_0 0 rfl rfl)
theorem dX5_captives_1 : decode cX5_captives 1 = .ok (.iconst 0, 1) := dk_3 (dk_at dksX5_captives_0 1 rfl rfl)
theorem dX5_captives_2 : decode cX5_captives 2 = .ok (.putfield 39, 3) := dk_181 0 39 (dk_at dksX5_captives_0 2 rfl rfl)
theorem dX5_captives_5 : decode cX5_captives 5 = .ok (.iconst 0, 1) := dk_3 (dk_at dksX5_captives_0 5 rfl rfl)
theorem dX5_captives_6 : decode cX5_captives 6 = .ok (.istore_n 1, 1) := dk_60 (dk_at dksX5_captives_0 6 rfl rfl)
theorem dX5_captives_7 : decode cX5_captives 7 = .ok (.iconst 0, 1) := dk_3 (dk_at dksX5_captives_0 7 rfl rfl)
theorem dX5_captives_8 : decode cX5_captives 8 = .ok (.istore_n 2, 1) := dk_61 (dk_at dksX5_captives_0 8 rfl rfl)
theorem dX5_captives_9 : decode cX5_captives 9 = .ok (.iload_n 2, 1) := dk_28 (dk_at dksX5_captives_0 9 rfl rfl)
theorem dX5_captives_10 : decode cX5_captives 10 = .ok (.bipush 8, 2) := dk_16 8 (dk_at dksX5_captives_0 10 rfl rfl)
theorem dX5_captives_12 : decode cX5_captives 12 = .ok (.if_icmp .ge 78, 3) := dk_162 0 78 (dk_at dksX5_captives_0 12 rfl rfl)
theorem dX5_captives_15 : decode cX5_captives 15 = .ok (.aload_n 0, 1) := dk_42 (dk_at dksX5_captives_0 15 rfl rfl)
theorem dX5_captives_16 : decode cX5_captives 16 = .ok (.iload_n 2, 1) := dk_28 (dk_at dksX5_captives_0 16 rfl rfl)
theorem dX5_captives_17 : decode cX5_captives 17 = .ok (.iconst 0, 1) := dk_3 (dk_at dksX5_captives_0 17 rfl rfl)
theorem dX5_captives_18 : decode cX5_captives 18 = .ok (.invokevirtual 69, 3) := dk_182 0 69 (dk_at dksX5_captives_0 18 rfl rfl)
theorem dX5_captives_21 : decode cX5_captives 21 = .ok (.bipush 115, 2) := dk_16 115 (dk_at dksX5_captives_0 21 rfl rfl)
theorem dX5_captives_23 : decode cX5_captives 23 = .ok (.if_icmp .eq 6, 3) := dk_159 0 6 (dk_at dksX5_captives_1 0 rfl rfl)
theorem dX5_captives_26 : decode cX5_captives 26 = .ok (.goto 58, 3) := dk_167 0 58 (dk_at dksX5_captives_1 3 rfl rfl)
theorem dX5_captives_29 : decode cX5_captives 29 = .ok (.iconst 0, 1) := dk_3 (dk_at dksX5_captives_1 6 rfl rfl)
theorem dX5_captives_30 : decode cX5_captives 30 = .ok (.istore_n 3, 1) := dk_62 (dk_at dksX5_captives_1 7 rfl rfl)
theorem dX5_captives_31 : decode cX5_captives 31 = .ok (.iload_n 3, 1) := dk_29 (dk_at dksX5_captives_1 8 rfl rfl)
theorem dX5_captives_32 : decode cX5_captives 32 = .ok (.aload_n 0, 1) := dk_42 (dk_at dksX5_captives_1 9 rfl rfl)
theorem dX5_captives_33 : decode cX5_captives 33 = .ok (.iload_n 2, 1) := dk_28 (dk_at dksX5_captives_1 10 rfl rfl)
theorem dX5_captives_34 : decode cX5_captives 34 = .ok (.iconst 2, 1) := dk_5 (dk_at dksX5_captives_1 11 rfl rfl)
theorem dX5_captives_35 : decode cX5_captives 35 = .ok (.invokevirtual 69, 3) := dk_182 0 69 (dk_at dksX5_captives_1 12 rfl rfl)
theorem dX5_captives_38 : decode cX5_captives 38 = .ok (.if_icmp .ge 46, 3) := dk_162 0 46 (dk_at dksX5_captives_1 15 rfl rfl)
theorem dX5_captives_41 : decode cX5_captives 41 = .ok (.iload_n 1, 1) := dk_27 (dk_at dksX5_captives_1 18 rfl rfl)
theorem dX5_captives_42 : decode cX5_captives 42 = .ok (.aload_n 0, 1) := dk_42 (dk_at dksX5_captives_1 19 rfl rfl)
theorem dX5_captives_43 : decode cX5_captives 43 = .ok (.iload_n 2, 1) := dk_28 (dk_at dksX5_captives_1 20 rfl rfl)
theorem dX5_captives_44 : decode cX5_captives 44 = .ok (.iload_n 3, 1) := dk_29 (dk_at dksX5_captives_1 21 rfl rfl)
theorem dX5_captives_45 : decode cX5_captives 45 = .ok (.invokevirtual 128, 3) := dk_182 0 128 (dk_at dksX5_captives_2 0 rfl rfl)
theorem dX5_captives_48 : decode cX5_captives 48 = .ok (.ifCond .eq 27, 3) := dk_153 0 27 (dk_at dksX5_captives_2 3 rfl rfl)
theorem dX5_captives_51 : decode cX5_captives 51 = .ok (.aload_n 0, 1) := dk_42 (dk_at dksX5_captives_2 6 rfl rfl)
theorem dX5_captives_52 : decode cX5_captives 52 = .ok (.aload_n 0, 1) := dk_42 (dk_at dksX5_captives_2 7 rfl rfl)
theorem dX5_captives_53 : decode cX5_captives 53 = .ok (.aload_n 0, 1) := dk_42 (dk_at dksX5_captives_2 8 rfl rfl)
theorem dX5_captives_54 : decode cX5_captives 54 = .ok (.iload_n 2, 1) := dk_28 (dk_at dksX5_captives_2 9 rfl rfl)
theorem dX5_captives_55 : decode cX5_captives 55 = .ok (.iload_n 3, 1) := dk_29 (dk_at dksX5_captives_2 10 rfl rfl)
theorem dX5_captives_56 : decode cX5_captives 56 = .ok (.invokevirtual 107, 3) := dk_182 0 107 (dk_at dksX5_captives_2 11 rfl rfl)
theorem dX5_captives_59 : decode cX5_captives 59 = .ok (.invokevirtual 131, 3) := dk_182 0 131 (dk_at dksX5_captives_2 14 rfl rfl)
theorem dX5_captives_62 : decode cX5_captives 62 = .ok (.iconst 0, 1) := dk_3 (dk_at dksX5_captives_2 17 rfl rfl)
theorem dX5_captives_63 : decode cX5_captives 63 = .ok (.invokevirtual 69, 3) := dk_182 0 69 (dk_at dksX5_captives_2 18 rfl rfl)
theorem dX5_captives_66 : decode cX5_captives 66 = .ok (.bipush 116, 2) := dk_16 116 (dk_at dksX5_captives_2 21 rfl rfl)
theorem dX5_captives_68 : decode cX5_captives 68 = .ok (.if_icmp .ne 7, 3) := dk_160 0 7 (dk_at dksX5_captives_3 0 rfl rfl)
theorem dX5_captives_71 : decode cX5_captives 71 = .ok (.iconst 1, 1) := dk_4 (dk_at dksX5_captives_3 3 rfl rfl)
theorem dX5_captives_72 : decode cX5_captives 72 = .ok (.goto 4, 3) := dk_167 0 4 (dk_at dksX5_captives_3 4 rfl rfl)
theorem dX5_captives_75 : decode cX5_captives 75 = .ok (.iconst 0, 1) := dk_3 (dk_at dksX5_captives_3 7 rfl rfl)
theorem dX5_captives_76 : decode cX5_captives 76 = .ok (.iadd, 1) := dk_96 (dk_at dksX5_captives_3 8 rfl rfl)
theorem dX5_captives_77 : decode cX5_captives 77 = .ok (.istore_n 1, 1) := dk_60 (dk_at dksX5_captives_3 9 rfl rfl)
theorem dX5_captives_78 : decode cX5_captives 78 = .ok (.iinc 3 1, 3) := dk_132 3 1 (dk_at dksX5_captives_3 10 rfl rfl)
theorem dX5_captives_81 : decode cX5_captives 81 = .ok (.goto (-50), 3) := dk_167 255 206 (dk_at dksX5_captives_3 13 rfl rfl)
theorem dX5_captives_84 : decode cX5_captives 84 = .ok (.iinc 2 1, 3) := dk_132 2 1 (dk_at dksX5_captives_3 16 rfl rfl)
theorem dX5_captives_87 : decode cX5_captives 87 = .ok (.goto (-78), 3) := dk_167 255 178 (dk_at dksX5_captives_3 19 rfl rfl)
theorem dX5_captives_90 : decode cX5_captives 90 = .ok (.iload_n 1, 1) := dk_27 (dk_at dksX5_captives_3 22 rfl rfl)
theorem dX5_captives_91 : decode cX5_captives 91 = .ok (.ireturn, 1) := dk_172 (dk_at dksX5_captives_3 23 rfl rfl)
abbrev cX5_openThread : ByteArray := prog_12_method_51_code
def yX5_openThread : MethodName := ⟨RX5, "openThread", "()I"⟩
def dkwX5_openThread_2 : List UInt8 := [42, 180, 0, 7, 3, 92, 46, 4, 27, 120, 128, 79, 27, 172]
abbrev dktX5_openThread_2 : List UInt8 := dkwX5_openThread_2 ++ []
def dkwX5_openThread_1 : List UInt8 := [160, 0, 7, 4, 167, 0, 4, 3, 182, 0, 83, 153, 0, 5, 3, 172, 42, 42, 180, 0, 7, 182, 0, 86]
abbrev dktX5_openThread_1 : List UInt8 := dkwX5_openThread_1 ++ dktX5_openThread_2
def dkwX5_openThread_0 : List UInt8 := [3, 60, 27, 7, 162, 0, 17, 42, 27, 182, 0, 163, 153, 0, 9, 132, 1, 1, 167, 255, 240, 42, 27, 7]
abbrev dktX5_openThread_0 : List UInt8 := dkwX5_openThread_0 ++ dktX5_openThread_1
theorem dksX5_openThread_0 : cX5_openThread.data.toList.drop 0 = dktX5_openThread_0 := by decide +kernel
theorem dksX5_openThread_1 : cX5_openThread.data.toList.drop 24 = dktX5_openThread_1 := dk_seg dksX5_openThread_0 24 rfl rfl
theorem dksX5_openThread_2 : cX5_openThread.data.toList.drop 48 = dktX5_openThread_2 := dk_seg dksX5_openThread_1 24 rfl rfl
theorem dX5_openThread_0 : decode cX5_openThread 0 = .ok (.iconst 0, 1) := dk_3 (dk_at dksX5_openThread_0 0 rfl rfl)
theorem dX5_openThread_1 : decode cX5_openThread 1 = .ok (.istore_n 1, 1) := dk_60 (dk_at dksX5_openThread_0 1 rfl rfl)
theorem dX5_openThread_2 : decode cX5_openThread 2 = .ok (.iload_n 1, 1) := dk_27 (dk_at dksX5_openThread_0 2 rfl rfl)
theorem dX5_openThread_3 : decode cX5_openThread 3 = .ok (.iconst 4, 1) := dk_7 (dk_at dksX5_openThread_0 3 rfl rfl)
theorem dX5_openThread_4 : decode cX5_openThread 4 = .ok (.if_icmp .ge 17, 3) := dk_162 0 17 (dk_at dksX5_openThread_0 4 rfl rfl)
theorem dX5_openThread_7 : decode cX5_openThread 7 = .ok (.aload_n 0, 1) := dk_42 (dk_at dksX5_openThread_0 7 rfl rfl)
theorem dX5_openThread_8 : decode cX5_openThread 8 = .ok (.iload_n 1, 1) := dk_27 (dk_at dksX5_openThread_0 8 rfl rfl)
theorem dX5_openThread_9 : decode cX5_openThread 9 = .ok (.invokevirtual 163, 3) := dk_182 0 163 (dk_at dksX5_openThread_0 9 rfl rfl)
theorem dX5_openThread_12 : decode cX5_openThread 12 = .ok (.ifCond .eq 9, 3) := dk_153 0 9 (dk_at dksX5_openThread_0 12 rfl rfl)
theorem dX5_openThread_15 : decode cX5_openThread 15 = .ok (.iinc 1 1, 3) := dk_132 1 1 (dk_at dksX5_openThread_0 15 rfl rfl)
theorem dX5_openThread_18 : decode cX5_openThread 18 = .ok (.goto (-16), 3) := dk_167 255 240 (dk_at dksX5_openThread_0 18 rfl rfl)
theorem dX5_openThread_21 : decode cX5_openThread 21 = .ok (.aload_n 0, 1) := dk_42 (dk_at dksX5_openThread_0 21 rfl rfl)
theorem dX5_openThread_22 : decode cX5_openThread 22 = .ok (.iload_n 1, 1) := dk_27 (dk_at dksX5_openThread_0 22 rfl rfl)
theorem dX5_openThread_23 : decode cX5_openThread 23 = .ok (.iconst 4, 1) := dk_7 (dk_at dksX5_openThread_0 23 rfl rfl)
theorem dX5_openThread_24 : decode cX5_openThread 24 = .ok (.if_icmp .ne 7, 3) := dk_160 0 7 (dk_at dksX5_openThread_1 0 rfl rfl)
theorem dX5_openThread_27 : decode cX5_openThread 27 = .ok (.iconst 1, 1) := dk_4 (dk_at dksX5_openThread_1 3 rfl rfl)
theorem dX5_openThread_28 : decode cX5_openThread 28 = .ok (.goto 4, 3) := dk_167 0 4 (dk_at dksX5_openThread_1 4 rfl rfl)
theorem dX5_openThread_31 : decode cX5_openThread 31 = .ok (.iconst 0, 1) := dk_3 (dk_at dksX5_openThread_1 7 rfl rfl)
theorem dX5_openThread_32 : decode cX5_openThread 32 = .ok (.invokevirtual 83, 3) := dk_182 0 83 (dk_at dksX5_openThread_1 8 rfl rfl)
theorem dX5_openThread_35 : decode cX5_openThread 35 = .ok (.ifCond .eq 5, 3) := dk_153 0 5 (dk_at dksX5_openThread_1 11 rfl rfl)
theorem dX5_openThread_38 : decode cX5_openThread 38 = .ok (.iconst 0, 1) := dk_3 (dk_at dksX5_openThread_1 14 rfl rfl)
theorem dX5_openThread_39 : decode cX5_openThread 39 = .ok (.ireturn, 1) := dk_172 (dk_at dksX5_openThread_1 15 rfl rfl)
theorem dX5_openThread_40 : decode cX5_openThread 40 = .ok (.aload_n 0, 1) := dk_42 (dk_at dksX5_openThread_1 16 rfl rfl)
theorem dX5_openThread_41 : decode cX5_openThread 41 = .ok (.aload_n 0, 1) := dk_42 (dk_at dksX5_openThread_1 17 rfl rfl)
theorem dX5_openThread_42 : decode cX5_openThread 42 = .ok (.getfield 7, 3) := dk_180 0 7 (dk_at dksX5_openThread_1 18 rfl rfl)
theorem dX5_openThread_45 : decode cX5_openThread 45 = .ok (.invokevirtual 86, 3) := dk_182 0 86 (dk_at dksX5_openThread_1 21 rfl rfl)
theorem dX5_openThread_48 : decode cX5_openThread 48 = .ok (.aload_n 0, 1) := dk_42 (dk_at dksX5_openThread_2 0 rfl rfl)
theorem dX5_openThread_49 : decode cX5_openThread 49 = .ok (.getfield 7, 3) := dk_180 0 7 (dk_at dksX5_openThread_2 1 rfl rfl)
theorem dX5_openThread_52 : decode cX5_openThread 52 = .ok (.iconst 0, 1) := dk_3 (dk_at dksX5_openThread_2 4 rfl rfl)
theorem dX5_openThread_53 : decode cX5_openThread 53 = .ok (.dup2, 1) := dk_92 (dk_at dksX5_openThread_2 5 rfl rfl)
theorem dX5_openThread_54 : decode cX5_openThread 54 = .ok (.iaload, 1) := dk_46 (dk_at dksX5_openThread_2 6 rfl rfl)
theorem dX5_openThread_55 : decode cX5_openThread 55 = .ok (.iconst 1, 1) := dk_4 (dk_at dksX5_openThread_2 7 rfl rfl)
theorem dX5_openThread_56 : decode cX5_openThread 56 = .ok (.iload_n 1, 1) := dk_27 (dk_at dksX5_openThread_2 8 rfl rfl)
theorem dX5_openThread_57 : decode cX5_openThread 57 = .ok (.ishl, 1) := dk_120 (dk_at dksX5_openThread_2 9 rfl rfl)
theorem dX5_openThread_58 : decode cX5_openThread 58 = .ok (.ior, 1) := dk_128 (dk_at dksX5_openThread_2 10 rfl rfl)
theorem dX5_openThread_59 : decode cX5_openThread 59 = .ok (.iastore, 1) := dk_79 (dk_at dksX5_openThread_2 11 rfl rfl)
theorem dX5_openThread_60 : decode cX5_openThread 60 = .ok (.iload_n 1, 1) := dk_27 (dk_at dksX5_openThread_2 12 rfl rfl)
theorem dX5_openThread_61 : decode cX5_openThread 61 = .ok (.ireturn, 1) := dk_172 (dk_at dksX5_openThread_2 13 rfl rfl)
abbrev cX5_isOpened : ByteArray := prog_12_method_52_code
def yX5_isOpened : MethodName := ⟨RX5, "isOpened", "(I)Z"⟩
def dkwX5_isOpened_1 : List UInt8 := [167, 0, 4, 3, 172]
abbrev dktX5_isOpened_1 : List UInt8 := dkwX5_isOpened_1 ++ []
def dkwX5_isOpened_0 : List UInt8 := [27, 3, 6, 184, 0, 65, 153, 0, 21, 42, 180, 0, 7, 3, 46, 27, 122, 4, 126, 4, 160, 0, 7, 4]
abbrev dktX5_isOpened_0 : List UInt8 := dkwX5_isOpened_0 ++ dktX5_isOpened_1
theorem dksX5_isOpened_0 : cX5_isOpened.data.toList.drop 0 = dktX5_isOpened_0 := by decide +kernel
theorem dksX5_isOpened_1 : cX5_isOpened.data.toList.drop 24 = dktX5_isOpened_1 := dk_seg dksX5_isOpened_0 24 rfl rfl
theorem dX5_isOpened_0 : decode cX5_isOpened 0 = .ok (.iload_n 1, 1) := dk_27 (dk_at dksX5_isOpened_0 0 rfl rfl)
theorem dX5_isOpened_1 : decode cX5_isOpened 1 = .ok (.iconst 0, 1) := dk_3 (dk_at dksX5_isOpened_0 1 rfl rfl)
theorem dX5_isOpened_2 : decode cX5_isOpened 2 = .ok (.iconst 3, 1) := dk_6 (dk_at dksX5_isOpened_0 2 rfl rfl)
theorem dX5_isOpened_3 : decode cX5_isOpened 3 = .ok (.invokestatic 65, 3) := dk_184 0 65 (dk_at dksX5_isOpened_0 3 rfl rfl)
theorem dX5_isOpened_6 : decode cX5_isOpened 6 = .ok (.ifCond .eq 21, 3) := dk_153 0 21 (dk_at dksX5_isOpened_0 6 rfl rfl)
theorem dX5_isOpened_9 : decode cX5_isOpened 9 = .ok (.aload_n 0, 1) := dk_42 (dk_at dksX5_isOpened_0 9 rfl rfl)
theorem dX5_isOpened_10 : decode cX5_isOpened 10 = .ok (.getfield 7, 3) := dk_180 0 7 (dk_at dksX5_isOpened_0 10 rfl rfl)
theorem dX5_isOpened_13 : decode cX5_isOpened 13 = .ok (.iconst 0, 1) := dk_3 (dk_at dksX5_isOpened_0 13 rfl rfl)
theorem dX5_isOpened_14 : decode cX5_isOpened 14 = .ok (.iaload, 1) := dk_46 (dk_at dksX5_isOpened_0 14 rfl rfl)
theorem dX5_isOpened_15 : decode cX5_isOpened 15 = .ok (.iload_n 1, 1) := dk_27 (dk_at dksX5_isOpened_0 15 rfl rfl)
theorem dX5_isOpened_16 : decode cX5_isOpened 16 = .ok (.ishr, 1) := dk_122 (dk_at dksX5_isOpened_0 16 rfl rfl)
theorem dX5_isOpened_17 : decode cX5_isOpened 17 = .ok (.iconst 1, 1) := dk_4 (dk_at dksX5_isOpened_0 17 rfl rfl)
theorem dX5_isOpened_18 : decode cX5_isOpened 18 = .ok (.iand, 1) := dk_126 (dk_at dksX5_isOpened_0 18 rfl rfl)
theorem dX5_isOpened_19 : decode cX5_isOpened 19 = .ok (.iconst 1, 1) := dk_4 (dk_at dksX5_isOpened_0 19 rfl rfl)
theorem dX5_isOpened_20 : decode cX5_isOpened 20 = .ok (.if_icmp .ne 7, 3) := dk_160 0 7 (dk_at dksX5_isOpened_0 20 rfl rfl)
theorem dX5_isOpened_23 : decode cX5_isOpened 23 = .ok (.iconst 1, 1) := dk_4 (dk_at dksX5_isOpened_0 23 rfl rfl)
theorem dX5_isOpened_24 : decode cX5_isOpened 24 = .ok (.goto 4, 3) := dk_167 0 4 (dk_at dksX5_isOpened_1 0 rfl rfl)
theorem dX5_isOpened_27 : decode cX5_isOpened 27 = .ok (.iconst 0, 1) := dk_3 (dk_at dksX5_isOpened_1 3 rfl rfl)
theorem dX5_isOpened_28 : decode cX5_isOpened 28 = .ok (.ireturn, 1) := dk_172 (dk_at dksX5_isOpened_1 4 rfl rfl)
abbrev cX5_closeThread : ByteArray := prog_12_method_53_code
def yX5_closeThread : MethodName := ⟨RX5, "closeThread", "(I)I"⟩
def dkwX5_closeThread_5 : List UInt8 := [172]
abbrev dktX5_closeThread_5 : List UInt8 := dkwX5_closeThread_5 ++ []
def dkwX5_closeThread_4 : List UInt8 := [180, 0, 7, 16, 61, 16, 10, 29, 104, 96, 5, 96, 4, 79, 132, 2, 1, 132, 3, 1, 167, 255, 188, 28]
abbrev dktX5_closeThread_4 : List UInt8 := dkwX5_closeThread_4 ++ dktX5_closeThread_5
def dkwX5_closeThread_3 : List UInt8 := [160, 0, 40, 42, 42, 29, 3, 182, 0, 104, 3, 182, 0, 69, 16, 115, 160, 0, 6, 167, 0, 21, 42]
abbrev dktX5_closeThread_3 : List UInt8 := dkwX5_closeThread_3 ++ dktX5_closeThread_4
def dkwX5_closeThread_2 : List UInt8 := [180, 0, 7, 4, 46, 162, 0, 64, 42, 29, 182, 0, 101, 153, 0, 50, 42, 29, 4, 182, 0, 104, 27]
abbrev dktX5_closeThread_2 : List UInt8 := dkwX5_closeThread_2 ++ dktX5_closeThread_3
def dkwX5_closeThread_1 : List UInt8 := [180, 0, 7, 182, 0, 86, 42, 180, 0, 7, 3, 92, 46, 4, 27, 120, 130, 79, 3, 61, 3, 62, 29, 42]
abbrev dktX5_closeThread_1 : List UInt8 := dkwX5_closeThread_1 ++ dktX5_closeThread_2
def dkwX5_closeThread_0 : List UInt8 := [42, 42, 27, 182, 0, 163, 153, 0, 7, 3, 167, 0, 4, 4, 182, 0, 83, 153, 0, 5, 3, 172, 42, 42]
abbrev dktX5_closeThread_0 : List UInt8 := dkwX5_closeThread_0 ++ dktX5_closeThread_1
theorem dksX5_closeThread_0 : cX5_closeThread.data.toList.drop 0 = dktX5_closeThread_0 := by decide +kernel
theorem dksX5_closeThread_1 : cX5_closeThread.data.toList.drop 24 = dktX5_closeThread_1 := dk_seg dksX5_closeThread_0 24 rfl rfl
theorem dksX5_closeThread_2 : cX5_closeThread.data.toList.drop 48 = dktX5_closeThread_2 := dk_seg dksX5_closeThread_1 24 rfl rfl
theorem dksX5_closeThread_3 : cX5_closeThread.data.toList.drop 71 = dktX5_closeThread_3 := dk_seg dksX5_closeThread_2 23 rfl rfl
theorem dksX5_closeThread_4 : cX5_closeThread.data.toList.drop 94 = dktX5_closeThread_4 := dk_seg dksX5_closeThread_3 23 rfl rfl
theorem dksX5_closeThread_5 : cX5_closeThread.data.toList.drop 118 = dktX5_closeThread_5 := dk_seg dksX5_closeThread_4 24 rfl rfl
theorem dX5_closeThread_0 : decode cX5_closeThread 0 = .ok (.aload_n 0, 1) := dk_42 (dk_at dksX5_closeThread_0 0 rfl rfl)
theorem dX5_closeThread_1 : decode cX5_closeThread 1 = .ok (.aload_n 0, 1) := dk_42 (dk_at dksX5_closeThread_0 1 rfl rfl)
theorem dX5_closeThread_2 : decode cX5_closeThread 2 = .ok (.iload_n 1, 1) := dk_27 (dk_at dksX5_closeThread_0 2 rfl rfl)
theorem dX5_closeThread_3 : decode cX5_closeThread 3 = .ok (.invokevirtual 163, 3) := dk_182 0 163 (dk_at dksX5_closeThread_0 3 rfl rfl)
theorem dX5_closeThread_6 : decode cX5_closeThread 6 = .ok (.ifCond .eq 7, 3) := dk_153 0 7 (dk_at dksX5_closeThread_0 6 rfl rfl)
theorem dX5_closeThread_9 : decode cX5_closeThread 9 = .ok (.iconst 0, 1) := dk_3 (dk_at dksX5_closeThread_0 9 rfl rfl)
theorem dX5_closeThread_10 : decode cX5_closeThread 10 = .ok (.goto 4, 3) := dk_167 0 4 (dk_at dksX5_closeThread_0 10 rfl rfl)
theorem dX5_closeThread_13 : decode cX5_closeThread 13 = .ok (.iconst 1, 1) := dk_4 (dk_at dksX5_closeThread_0 13 rfl rfl)
theorem dX5_closeThread_14 : decode cX5_closeThread 14 = .ok (.invokevirtual 83, 3) := dk_182 0 83 (dk_at dksX5_closeThread_0 14 rfl rfl)
theorem dX5_closeThread_17 : decode cX5_closeThread 17 = .ok (.ifCond .eq 5, 3) := dk_153 0 5 (dk_at dksX5_closeThread_0 17 rfl rfl)
theorem dX5_closeThread_20 : decode cX5_closeThread 20 = .ok (.iconst 0, 1) := dk_3 (dk_at dksX5_closeThread_0 20 rfl rfl)
theorem dX5_closeThread_21 : decode cX5_closeThread 21 = .ok (.ireturn, 1) := dk_172 (dk_at dksX5_closeThread_0 21 rfl rfl)
theorem dX5_closeThread_22 : decode cX5_closeThread 22 = .ok (.aload_n 0, 1) := dk_42 (dk_at dksX5_closeThread_0 22 rfl rfl)
theorem dX5_closeThread_23 : decode cX5_closeThread 23 = .ok (.aload_n 0, 1) := dk_42 (dk_at dksX5_closeThread_0 23 rfl rfl)
theorem dX5_closeThread_24 : decode cX5_closeThread 24 = .ok (.getfield 7, 3) := dk_180 0 7 (dk_at dksX5_closeThread_1 0 rfl rfl)
theorem dX5_closeThread_27 : decode cX5_closeThread 27 = .ok (.invokevirtual 86, 3) := dk_182 0 86 (dk_at dksX5_closeThread_1 3 rfl rfl)
theorem dX5_closeThread_30 : decode cX5_closeThread 30 = .ok (.aload_n 0, 1) := dk_42 (dk_at dksX5_closeThread_1 6 rfl rfl)
theorem dX5_closeThread_31 : decode cX5_closeThread 31 = .ok (.getfield 7, 3) := dk_180 0 7 (dk_at dksX5_closeThread_1 7 rfl rfl)
theorem dX5_closeThread_34 : decode cX5_closeThread 34 = .ok (.iconst 0, 1) := dk_3 (dk_at dksX5_closeThread_1 10 rfl rfl)
theorem dX5_closeThread_35 : decode cX5_closeThread 35 = .ok (.dup2, 1) := dk_92 (dk_at dksX5_closeThread_1 11 rfl rfl)
theorem dX5_closeThread_36 : decode cX5_closeThread 36 = .ok (.iaload, 1) := dk_46 (dk_at dksX5_closeThread_1 12 rfl rfl)
theorem dX5_closeThread_37 : decode cX5_closeThread 37 = .ok (.iconst 1, 1) := dk_4 (dk_at dksX5_closeThread_1 13 rfl rfl)
theorem dX5_closeThread_38 : decode cX5_closeThread 38 = .ok (.iload_n 1, 1) := dk_27 (dk_at dksX5_closeThread_1 14 rfl rfl)
theorem dX5_closeThread_39 : decode cX5_closeThread 39 = .ok (.ishl, 1) := dk_120 (dk_at dksX5_closeThread_1 15 rfl rfl)
theorem dX5_closeThread_40 : decode cX5_closeThread 40 = .ok (.ixor, 1) := dk_130 (dk_at dksX5_closeThread_1 16 rfl rfl)
theorem dX5_closeThread_41 : decode cX5_closeThread 41 = .ok (.iastore, 1) := dk_79 (dk_at dksX5_closeThread_1 17 rfl rfl)
theorem dX5_closeThread_42 : decode cX5_closeThread 42 = .ok (.iconst 0, 1) := dk_3 (dk_at dksX5_closeThread_1 18 rfl rfl)
theorem dX5_closeThread_43 : decode cX5_closeThread 43 = .ok (.istore_n 2, 1) := dk_61 (dk_at dksX5_closeThread_1 19 rfl rfl)
theorem dX5_closeThread_44 : decode cX5_closeThread 44 = .ok (.iconst 0, 1) := dk_3 (dk_at dksX5_closeThread_1 20 rfl rfl)
theorem dX5_closeThread_45 : decode cX5_closeThread 45 = .ok (.istore_n 3, 1) := dk_62 (dk_at dksX5_closeThread_1 21 rfl rfl)
theorem dX5_closeThread_46 : decode cX5_closeThread 46 = .ok (.iload_n 3, 1) := dk_29 (dk_at dksX5_closeThread_1 22 rfl rfl)
theorem dX5_closeThread_47 : decode cX5_closeThread 47 = .ok (.aload_n 0, 1) := dk_42 (dk_at dksX5_closeThread_1 23 rfl rfl)
theorem dX5_closeThread_48 : decode cX5_closeThread 48 = .ok (.getfield 7, 3) := dk_180 0 7 (dk_at dksX5_closeThread_2 0 rfl rfl)
theorem dX5_closeThread_51 : decode cX5_closeThread 51 = .ok (.iconst 1, 1) := dk_4 (dk_at dksX5_closeThread_2 3 rfl rfl)
theorem dX5_closeThread_52 : decode cX5_closeThread 52 = .ok (.iaload, 1) := dk_46 (dk_at dksX5_closeThread_2 4 rfl rfl)
theorem dX5_closeThread_53 : decode cX5_closeThread 53 = .ok (.if_icmp .ge 64, 3) := dk_162 0 64 (dk_at dksX5_closeThread_2 5 rfl rfl)
theorem dX5_closeThread_56 : decode cX5_closeThread 56 = .ok (.aload_n 0, 1) := dk_42 (dk_at dksX5_closeThread_2 8 rfl rfl)
theorem dX5_closeThread_57 : decode cX5_closeThread 57 = .ok (.iload_n 3, 1) := dk_29 (dk_at dksX5_closeThread_2 9 rfl rfl)
theorem dX5_closeThread_58 : decode cX5_closeThread 58 = .ok (.invokevirtual 101, 3) := dk_182 0 101 (dk_at dksX5_closeThread_2 10 rfl rfl)
theorem dX5_closeThread_61 : decode cX5_closeThread 61 = .ok (.ifCond .eq 50, 3) := dk_153 0 50 (dk_at dksX5_closeThread_2 13 rfl rfl)
theorem dX5_closeThread_64 : decode cX5_closeThread 64 = .ok (.aload_n 0, 1) := dk_42 (dk_at dksX5_closeThread_2 16 rfl rfl)
theorem dX5_closeThread_65 : decode cX5_closeThread 65 = .ok (.iload_n 3, 1) := dk_29 (dk_at dksX5_closeThread_2 17 rfl rfl)
theorem dX5_closeThread_66 : decode cX5_closeThread 66 = .ok (.iconst 1, 1) := dk_4 (dk_at dksX5_closeThread_2 18 rfl rfl)
theorem dX5_closeThread_67 : decode cX5_closeThread 67 = .ok (.invokevirtual 104, 3) := dk_182 0 104 (dk_at dksX5_closeThread_2 19 rfl rfl)
theorem dX5_closeThread_70 : decode cX5_closeThread 70 = .ok (.iload_n 1, 1) := dk_27 (dk_at dksX5_closeThread_2 22 rfl rfl)
theorem dX5_closeThread_71 : decode cX5_closeThread 71 = .ok (.if_icmp .ne 40, 3) := dk_160 0 40 (dk_at dksX5_closeThread_3 0 rfl rfl)
theorem dX5_closeThread_74 : decode cX5_closeThread 74 = .ok (.aload_n 0, 1) := dk_42 (dk_at dksX5_closeThread_3 3 rfl rfl)
theorem dX5_closeThread_75 : decode cX5_closeThread 75 = .ok (.aload_n 0, 1) := dk_42 (dk_at dksX5_closeThread_3 4 rfl rfl)
theorem dX5_closeThread_76 : decode cX5_closeThread 76 = .ok (.iload_n 3, 1) := dk_29 (dk_at dksX5_closeThread_3 5 rfl rfl)
theorem dX5_closeThread_77 : decode cX5_closeThread 77 = .ok (.iconst 0, 1) := dk_3 (dk_at dksX5_closeThread_3 6 rfl rfl)
theorem dX5_closeThread_78 : decode cX5_closeThread 78 = .ok (.invokevirtual 104, 3) := dk_182 0 104 (dk_at dksX5_closeThread_3 7 rfl rfl)
theorem dX5_closeThread_81 : decode cX5_closeThread 81 = .ok (.iconst 0, 1) := dk_3 (dk_at dksX5_closeThread_3 10 rfl rfl)
theorem dX5_closeThread_82 : decode cX5_closeThread 82 = .ok (.invokevirtual 69, 3) := dk_182 0 69 (dk_at dksX5_closeThread_3 11 rfl rfl)
theorem dX5_closeThread_85 : decode cX5_closeThread 85 = .ok (.bipush 115, 2) := dk_16 115 (dk_at dksX5_closeThread_3 14 rfl rfl)
theorem dX5_closeThread_87 : decode cX5_closeThread 87 = .ok (.if_icmp .ne 6, 3) := dk_160 0 6 (dk_at dksX5_closeThread_3 16 rfl rfl)
theorem dX5_closeThread_90 : decode cX5_closeThread 90 = .ok (.goto 21, 3) := dk_167 0 21 (dk_at dksX5_closeThread_3 19 rfl rfl)
theorem dX5_closeThread_93 : decode cX5_closeThread 93 = .ok (.aload_n 0, 1) := dk_42 (dk_at dksX5_closeThread_3 22 rfl rfl)
theorem dX5_closeThread_94 : decode cX5_closeThread 94 = .ok (.getfield 7, 3) := dk_180 0 7 (dk_at dksX5_closeThread_4 0 rfl rfl)
theorem dX5_closeThread_97 : decode cX5_closeThread 97 = .ok (.bipush 61, 2) := dk_16 61 (dk_at dksX5_closeThread_4 3 rfl rfl)
theorem dX5_closeThread_99 : decode cX5_closeThread 99 = .ok (.bipush 10, 2) := dk_16 10 (dk_at dksX5_closeThread_4 5 rfl rfl)
theorem dX5_closeThread_101 : decode cX5_closeThread 101 = .ok (.iload_n 3, 1) := dk_29 (dk_at dksX5_closeThread_4 7 rfl rfl)
theorem dX5_closeThread_102 : decode cX5_closeThread 102 = .ok (.imul, 1) := dk_104 (dk_at dksX5_closeThread_4 8 rfl rfl)
theorem dX5_closeThread_103 : decode cX5_closeThread 103 = .ok (.iadd, 1) := dk_96 (dk_at dksX5_closeThread_4 9 rfl rfl)
theorem dX5_closeThread_104 : decode cX5_closeThread 104 = .ok (.iconst 2, 1) := dk_5 (dk_at dksX5_closeThread_4 10 rfl rfl)
theorem dX5_closeThread_105 : decode cX5_closeThread 105 = .ok (.iadd, 1) := dk_96 (dk_at dksX5_closeThread_4 11 rfl rfl)
theorem dX5_closeThread_106 : decode cX5_closeThread 106 = .ok (.iconst 1, 1) := dk_4 (dk_at dksX5_closeThread_4 12 rfl rfl)
theorem dX5_closeThread_107 : decode cX5_closeThread 107 = .ok (.iastore, 1) := dk_79 (dk_at dksX5_closeThread_4 13 rfl rfl)
theorem dX5_closeThread_108 : decode cX5_closeThread 108 = .ok (.iinc 2 1, 3) := dk_132 2 1 (dk_at dksX5_closeThread_4 14 rfl rfl)
theorem dX5_closeThread_111 : decode cX5_closeThread 111 = .ok (.iinc 3 1, 3) := dk_132 3 1 (dk_at dksX5_closeThread_4 17 rfl rfl)
theorem dX5_closeThread_114 : decode cX5_closeThread 114 = .ok (.goto (-68), 3) := dk_167 255 188 (dk_at dksX5_closeThread_4 20 rfl rfl)
theorem dX5_closeThread_117 : decode cX5_closeThread 117 = .ok (.iload_n 2, 1) := dk_28 (dk_at dksX5_closeThread_4 23 rfl rfl)
theorem dX5_closeThread_118 : decode cX5_closeThread 118 = .ok (.ireturn, 1) := dk_172 (dk_at dksX5_closeThread_5 0 rfl rfl)
abbrev cX5_isOpen : ByteArray := prog_12_method_54_code
def yX5_isOpen : MethodName := ⟨RX5, "isOpen", "(I)Z"⟩
def dkwX5_isOpen_1 : List UInt8 := [182, 0, 163, 153, 0, 7, 4, 167, 0, 4, 3, 172]
abbrev dktX5_isOpen_1 : List UInt8 := dkwX5_isOpen_1 ++ []
def dkwX5_isOpen_0 : List UInt8 := [42, 27, 3, 6, 184, 0, 65, 153, 0, 7, 3, 167, 0, 4, 4, 182, 0, 83, 154, 0, 15, 42, 27]
abbrev dktX5_isOpen_0 : List UInt8 := dkwX5_isOpen_0 ++ dktX5_isOpen_1
theorem dksX5_isOpen_0 : cX5_isOpen.data.toList.drop 0 = dktX5_isOpen_0 := by decide +kernel
theorem dksX5_isOpen_1 : cX5_isOpen.data.toList.drop 23 = dktX5_isOpen_1 := dk_seg dksX5_isOpen_0 23 rfl rfl
theorem dX5_isOpen_0 : decode cX5_isOpen 0 = .ok (.aload_n 0, 1) := dk_42 (dk_at dksX5_isOpen_0 0 rfl rfl)
theorem dX5_isOpen_1 : decode cX5_isOpen 1 = .ok (.iload_n 1, 1) := dk_27 (dk_at dksX5_isOpen_0 1 rfl rfl)
theorem dX5_isOpen_2 : decode cX5_isOpen 2 = .ok (.iconst 0, 1) := dk_3 (dk_at dksX5_isOpen_0 2 rfl rfl)
theorem dX5_isOpen_3 : decode cX5_isOpen 3 = .ok (.iconst 3, 1) := dk_6 (dk_at dksX5_isOpen_0 3 rfl rfl)
theorem dX5_isOpen_4 : decode cX5_isOpen 4 = .ok (.invokestatic 65, 3) := dk_184 0 65 (dk_at dksX5_isOpen_0 4 rfl rfl)
theorem dX5_isOpen_7 : decode cX5_isOpen 7 = .ok (.ifCond .eq 7, 3) := dk_153 0 7 (dk_at dksX5_isOpen_0 7 rfl rfl)
theorem dX5_isOpen_10 : decode cX5_isOpen 10 = .ok (.iconst 0, 1) := dk_3 (dk_at dksX5_isOpen_0 10 rfl rfl)
theorem dX5_isOpen_11 : decode cX5_isOpen 11 = .ok (.goto 4, 3) := dk_167 0 4 (dk_at dksX5_isOpen_0 11 rfl rfl)
theorem dX5_isOpen_14 : decode cX5_isOpen 14 = .ok (.iconst 1, 1) := dk_4 (dk_at dksX5_isOpen_0 14 rfl rfl)
theorem dX5_isOpen_15 : decode cX5_isOpen 15 = .ok (.invokevirtual 83, 3) := dk_182 0 83 (dk_at dksX5_isOpen_0 15 rfl rfl)
theorem dX5_isOpen_18 : decode cX5_isOpen 18 = .ok (.ifCond .ne 15, 3) := dk_154 0 15 (dk_at dksX5_isOpen_0 18 rfl rfl)
theorem dX5_isOpen_21 : decode cX5_isOpen 21 = .ok (.aload_n 0, 1) := dk_42 (dk_at dksX5_isOpen_0 21 rfl rfl)
theorem dX5_isOpen_22 : decode cX5_isOpen 22 = .ok (.iload_n 1, 1) := dk_27 (dk_at dksX5_isOpen_0 22 rfl rfl)
theorem dX5_isOpen_23 : decode cX5_isOpen 23 = .ok (.invokevirtual 163, 3) := dk_182 0 163 (dk_at dksX5_isOpen_1 0 rfl rfl)
theorem dX5_isOpen_26 : decode cX5_isOpen 26 = .ok (.ifCond .eq 7, 3) := dk_153 0 7 (dk_at dksX5_isOpen_1 3 rfl rfl)
theorem dX5_isOpen_29 : decode cX5_isOpen 29 = .ok (.iconst 1, 1) := dk_4 (dk_at dksX5_isOpen_1 6 rfl rfl)
theorem dX5_isOpen_30 : decode cX5_isOpen 30 = .ok (.goto 4, 3) := dk_167 0 4 (dk_at dksX5_isOpen_1 7 rfl rfl)
theorem dX5_isOpen_33 : decode cX5_isOpen 33 = .ok (.iconst 0, 1) := dk_3 (dk_at dksX5_isOpen_1 10 rfl rfl)
theorem dX5_isOpen_34 : decode cX5_isOpen 34 = .ok (.ireturn, 1) := dk_172 (dk_at dksX5_isOpen_1 11 rfl rfl)
abbrev cX5_make : ByteArray := prog_12_method_63_code
def yX5_make : MethodName := ⟨RX5, "make", "(CI)I"⟩
def dkwX5_make_2 : List UInt8 := [180, 0, 7, 182, 0, 86, 42, 27, 16, 97, 100, 28, 3, 182, 0, 178, 172]
abbrev dktX5_make_2 : List UInt8 := dkwX5_make_2 ++ []
def dkwX5_make_1 : List UInt8 := [5, 182, 0, 83, 154, 0, 16, 42, 6, 27, 16, 97, 100, 28, 182, 0, 184, 153, 0, 5, 3, 172, 42, 42]
abbrev dktX5_make_1 : List UInt8 := dkwX5_make_1 ++ dktX5_make_2
def dkwX5_make_0 : List UInt8 := [42, 27, 184, 0, 77, 154, 0, 7, 4, 167, 0, 16, 42, 28, 182, 0, 163, 153, 0, 7, 3, 167, 0, 4]
abbrev dktX5_make_0 : List UInt8 := dkwX5_make_0 ++ dktX5_make_1
theorem dksX5_make_0 : cX5_make.data.toList.drop 0 = dktX5_make_0 := by decide +kernel
theorem dksX5_make_1 : cX5_make.data.toList.drop 24 = dktX5_make_1 := dk_seg dksX5_make_0 24 rfl rfl
theorem dksX5_make_2 : cX5_make.data.toList.drop 48 = dktX5_make_2 := dk_seg dksX5_make_1 24 rfl rfl
theorem dX5_make_0 : decode cX5_make 0 = .ok (.aload_n 0, 1) := dk_42 (dk_at dksX5_make_0 0 rfl rfl)
theorem dX5_make_1 : decode cX5_make 1 = .ok (.iload_n 1, 1) := dk_27 (dk_at dksX5_make_0 1 rfl rfl)
theorem dX5_make_2 : decode cX5_make 2 = .ok (.invokestatic 77, 3) := dk_184 0 77 (dk_at dksX5_make_0 2 rfl rfl)
theorem dX5_make_5 : decode cX5_make 5 = .ok (.ifCond .ne 7, 3) := dk_154 0 7 (dk_at dksX5_make_0 5 rfl rfl)
theorem dX5_make_8 : decode cX5_make 8 = .ok (.iconst 1, 1) := dk_4 (dk_at dksX5_make_0 8 rfl rfl)
theorem dX5_make_9 : decode cX5_make 9 = .ok (.goto 16, 3) := dk_167 0 16 (dk_at dksX5_make_0 9 rfl rfl)
theorem dX5_make_12 : decode cX5_make 12 = .ok (.aload_n 0, 1) := dk_42 (dk_at dksX5_make_0 12 rfl rfl)
theorem dX5_make_13 : decode cX5_make 13 = .ok (.iload_n 2, 1) := dk_28 (dk_at dksX5_make_0 13 rfl rfl)
theorem dX5_make_14 : decode cX5_make 14 = .ok (.invokevirtual 163, 3) := dk_182 0 163 (dk_at dksX5_make_0 14 rfl rfl)
theorem dX5_make_17 : decode cX5_make 17 = .ok (.ifCond .eq 7, 3) := dk_153 0 7 (dk_at dksX5_make_0 17 rfl rfl)
theorem dX5_make_20 : decode cX5_make 20 = .ok (.iconst 0, 1) := dk_3 (dk_at dksX5_make_0 20 rfl rfl)
theorem dX5_make_21 : decode cX5_make 21 = .ok (.goto 4, 3) := dk_167 0 4 (dk_at dksX5_make_0 21 rfl rfl)
theorem dX5_make_24 : decode cX5_make 24 = .ok (.iconst 2, 1) := dk_5 (dk_at dksX5_make_1 0 rfl rfl)
theorem dX5_make_25 : decode cX5_make 25 = .ok (.invokevirtual 83, 3) := dk_182 0 83 (dk_at dksX5_make_1 1 rfl rfl)
theorem dX5_make_28 : decode cX5_make 28 = .ok (.ifCond .ne 16, 3) := dk_154 0 16 (dk_at dksX5_make_1 4 rfl rfl)
theorem dX5_make_31 : decode cX5_make 31 = .ok (.aload_n 0, 1) := dk_42 (dk_at dksX5_make_1 7 rfl rfl)
theorem dX5_make_32 : decode cX5_make 32 = .ok (.iconst 3, 1) := dk_6 (dk_at dksX5_make_1 8 rfl rfl)
theorem dX5_make_33 : decode cX5_make 33 = .ok (.iload_n 1, 1) := dk_27 (dk_at dksX5_make_1 9 rfl rfl)
theorem dX5_make_34 : decode cX5_make 34 = .ok (.bipush 97, 2) := dk_16 97 (dk_at dksX5_make_1 10 rfl rfl)
theorem dX5_make_36 : decode cX5_make 36 = .ok (.isub, 1) := dk_100 (dk_at dksX5_make_1 12 rfl rfl)
theorem dX5_make_37 : decode cX5_make 37 = .ok (.iload_n 2, 1) := dk_28 (dk_at dksX5_make_1 13 rfl rfl)
theorem dX5_make_38 : decode cX5_make 38 = .ok (.invokevirtual 184, 3) := dk_182 0 184 (dk_at dksX5_make_1 14 rfl rfl)
theorem dX5_make_41 : decode cX5_make 41 = .ok (.ifCond .eq 5, 3) := dk_153 0 5 (dk_at dksX5_make_1 17 rfl rfl)
theorem dX5_make_44 : decode cX5_make 44 = .ok (.iconst 0, 1) := dk_3 (dk_at dksX5_make_1 20 rfl rfl)
theorem dX5_make_45 : decode cX5_make 45 = .ok (.ireturn, 1) := dk_172 (dk_at dksX5_make_1 21 rfl rfl)
theorem dX5_make_46 : decode cX5_make 46 = .ok (.aload_n 0, 1) := dk_42 (dk_at dksX5_make_1 22 rfl rfl)
theorem dX5_make_47 : decode cX5_make 47 = .ok (.aload_n 0, 1) := dk_42 (dk_at dksX5_make_1 23 rfl rfl)
theorem dX5_make_48 : decode cX5_make 48 = .ok (.getfield 7, 3) := dk_180 0 7 (dk_at dksX5_make_2 0 rfl rfl)
theorem dX5_make_51 : decode cX5_make 51 = .ok (.invokevirtual 86, 3) := dk_182 0 86 (dk_at dksX5_make_2 3 rfl rfl)
theorem dX5_make_54 : decode cX5_make 54 = .ok (.aload_n 0, 1) := dk_42 (dk_at dksX5_make_2 6 rfl rfl)
theorem dX5_make_55 : decode cX5_make 55 = .ok (.iload_n 1, 1) := dk_27 (dk_at dksX5_make_2 7 rfl rfl)
theorem dX5_make_56 : decode cX5_make 56 = .ok (.bipush 97, 2) := dk_16 97 (dk_at dksX5_make_2 8 rfl rfl)
theorem dX5_make_58 : decode cX5_make 58 = .ok (.isub, 1) := dk_100 (dk_at dksX5_make_2 10 rfl rfl)
theorem dX5_make_59 : decode cX5_make 59 = .ok (.iload_n 2, 1) := dk_28 (dk_at dksX5_make_2 11 rfl rfl)
theorem dX5_make_60 : decode cX5_make 60 = .ok (.iconst 0, 1) := dk_3 (dk_at dksX5_make_2 12 rfl rfl)
theorem dX5_make_61 : decode cX5_make 61 = .ok (.invokevirtual 178, 3) := dk_182 0 178 (dk_at dksX5_make_2 13 rfl rfl)
theorem dX5_make_64 : decode cX5_make 64 = .ok (.ireturn, 1) := dk_172 (dk_at dksX5_make_2 16 rfl rfl)
abbrev cX5_isDenied : ByteArray := prog_12_method_62_code
def yX5_isDenied : MethodName := ⟨RX5, "isDenied", "(III)Z"⟩
def dkwX5_isDenied_2 : List UInt8 := [16, 6, 16, 60, 182, 0, 113, 87, 4, 172]
abbrev dktX5_isDenied_2 : List UInt8 := dkwX5_isDenied_2 ++ []
def dkwX5_isDenied_1 : List UInt8 := [182, 0, 113, 87, 4, 172, 42, 180, 0, 7, 4, 46, 21, 4, 96, 16, 60, 163, 0, 5, 3, 172, 42, 27]
abbrev dktX5_isDenied_1 : List UInt8 := dkwX5_isDenied_1 ++ dktX5_isDenied_2
def dkwX5_isDenied_0 : List UInt8 := [42, 28, 29, 182, 0, 181, 54, 4, 42, 180, 0, 166, 155, 0, 16, 42, 27, 8, 42, 180, 0, 166]
abbrev dktX5_isDenied_0 : List UInt8 := dkwX5_isDenied_0 ++ dktX5_isDenied_1
theorem dksX5_isDenied_0 : cX5_isDenied.data.toList.drop 0 = dktX5_isDenied_0 := by decide +kernel
theorem dksX5_isDenied_1 : cX5_isDenied.data.toList.drop 22 = dktX5_isDenied_1 := dk_seg dksX5_isDenied_0 22 rfl rfl
theorem dksX5_isDenied_2 : cX5_isDenied.data.toList.drop 46 = dktX5_isDenied_2 := dk_seg dksX5_isDenied_1 24 rfl rfl
theorem dX5_isDenied_0 : decode cX5_isDenied 0 = .ok (.aload_n 0, 1) := dk_42 (dk_at dksX5_isDenied_0 0 rfl rfl)
theorem dX5_isDenied_1 : decode cX5_isDenied 1 = .ok (.iload_n 2, 1) := dk_28 (dk_at dksX5_isDenied_0 1 rfl rfl)
theorem dX5_isDenied_2 : decode cX5_isDenied 2 = .ok (.iload_n 3, 1) := dk_29 (dk_at dksX5_isDenied_0 2 rfl rfl)
theorem dX5_isDenied_3 : decode cX5_isDenied 3 = .ok (.invokevirtual 181, 3) := dk_182 0 181 (dk_at dksX5_isDenied_0 3 rfl rfl)
theorem dX5_isDenied_6 : decode cX5_isDenied 6 = .ok (.istore 4, 2) := dk_54 4 (dk_at dksX5_isDenied_0 6 rfl rfl)
theorem dX5_isDenied_8 : decode cX5_isDenied 8 = .ok (.aload_n 0, 1) := dk_42 (dk_at dksX5_isDenied_0 8 rfl rfl)
theorem dX5_isDenied_9 : decode cX5_isDenied 9 = .ok (.getfield 166, 3) := dk_180 0 166 (dk_at dksX5_isDenied_0 9 rfl rfl)
theorem dX5_isDenied_12 : decode cX5_isDenied 12 = .ok (.ifCond .lt 16, 3) := dk_155 0 16 (dk_at dksX5_isDenied_0 12 rfl rfl)
theorem dX5_isDenied_15 : decode cX5_isDenied 15 = .ok (.aload_n 0, 1) := dk_42 (dk_at dksX5_isDenied_0 15 rfl rfl)
theorem dX5_isDenied_16 : decode cX5_isDenied 16 = .ok (.iload_n 1, 1) := dk_27 (dk_at dksX5_isDenied_0 16 rfl rfl)
theorem dX5_isDenied_17 : decode cX5_isDenied 17 = .ok (.iconst 5, 1) := dk_8 (dk_at dksX5_isDenied_0 17 rfl rfl)
theorem dX5_isDenied_18 : decode cX5_isDenied 18 = .ok (.aload_n 0, 1) := dk_42 (dk_at dksX5_isDenied_0 18 rfl rfl)
theorem dX5_isDenied_19 : decode cX5_isDenied 19 = .ok (.getfield 166, 3) := dk_180 0 166 (dk_at dksX5_isDenied_0 19 rfl rfl)
theorem dX5_isDenied_22 : decode cX5_isDenied 22 = .ok (.invokevirtual 113, 3) := dk_182 0 113 (dk_at dksX5_isDenied_1 0 rfl rfl)
theorem dX5_isDenied_25 : decode cX5_isDenied 25 = .ok (.pop, 1) := dk_87 (dk_at dksX5_isDenied_1 3 rfl rfl)
theorem dX5_isDenied_26 : decode cX5_isDenied 26 = .ok (.iconst 1, 1) := dk_4 (dk_at dksX5_isDenied_1 4 rfl rfl)
theorem dX5_isDenied_27 : decode cX5_isDenied 27 = .ok (.ireturn, 1) := dk_172 (dk_at dksX5_isDenied_1 5 rfl rfl)
theorem dX5_isDenied_28 : decode cX5_isDenied 28 = .ok (.aload_n 0, 1) := dk_42 (dk_at dksX5_isDenied_1 6 rfl rfl)
theorem dX5_isDenied_29 : decode cX5_isDenied 29 = .ok (.getfield 7, 3) := dk_180 0 7 (dk_at dksX5_isDenied_1 7 rfl rfl)
theorem dX5_isDenied_32 : decode cX5_isDenied 32 = .ok (.iconst 1, 1) := dk_4 (dk_at dksX5_isDenied_1 10 rfl rfl)
theorem dX5_isDenied_33 : decode cX5_isDenied 33 = .ok (.iaload, 1) := dk_46 (dk_at dksX5_isDenied_1 11 rfl rfl)
theorem dX5_isDenied_34 : decode cX5_isDenied 34 = .ok (.iload 4, 2) := dk_21 4 (dk_at dksX5_isDenied_1 12 rfl rfl)
theorem dX5_isDenied_36 : decode cX5_isDenied 36 = .ok (.iadd, 1) := dk_96 (dk_at dksX5_isDenied_1 14 rfl rfl)
theorem dX5_isDenied_37 : decode cX5_isDenied 37 = .ok (.bipush 60, 2) := dk_16 60 (dk_at dksX5_isDenied_1 15 rfl rfl)
theorem dX5_isDenied_39 : decode cX5_isDenied 39 = .ok (.if_icmp .gt 5, 3) := dk_163 0 5 (dk_at dksX5_isDenied_1 17 rfl rfl)
theorem dX5_isDenied_42 : decode cX5_isDenied 42 = .ok (.iconst 0, 1) := dk_3 (dk_at dksX5_isDenied_1 20 rfl rfl)
theorem dX5_isDenied_43 : decode cX5_isDenied 43 = .ok (.ireturn, 1) := dk_172 (dk_at dksX5_isDenied_1 21 rfl rfl)
theorem dX5_isDenied_44 : decode cX5_isDenied 44 = .ok (.aload_n 0, 1) := dk_42 (dk_at dksX5_isDenied_1 22 rfl rfl)
theorem dX5_isDenied_45 : decode cX5_isDenied 45 = .ok (.iload_n 1, 1) := dk_27 (dk_at dksX5_isDenied_1 23 rfl rfl)
theorem dX5_isDenied_46 : decode cX5_isDenied 46 = .ok (.bipush 6, 2) := dk_16 6 (dk_at dksX5_isDenied_2 0 rfl rfl)
theorem dX5_isDenied_48 : decode cX5_isDenied 48 = .ok (.bipush 60, 2) := dk_16 60 (dk_at dksX5_isDenied_2 2 rfl rfl)
theorem dX5_isDenied_50 : decode cX5_isDenied 50 = .ok (.invokevirtual 113, 3) := dk_182 0 113 (dk_at dksX5_isDenied_2 4 rfl rfl)
theorem dX5_isDenied_53 : decode cX5_isDenied 53 = .ok (.pop, 1) := dk_87 (dk_at dksX5_isDenied_2 7 rfl rfl)
theorem dX5_isDenied_54 : decode cX5_isDenied 54 = .ok (.iconst 1, 1) := dk_4 (dk_at dksX5_isDenied_2 8 rfl rfl)
theorem dX5_isDenied_55 : decode cX5_isDenied 55 = .ok (.ireturn, 1) := dk_172 (dk_at dksX5_isDenied_2 9 rfl rfl)
abbrev cX5_dues : ByteArray := prog_12_method_60_code
def yX5_dues : MethodName := ⟨RX5, "dues", "(II)I"⟩
def dkwX5_dues_0 : List UInt8 := [42, 3, 181, 0, 172, 42, 2, 181, 0, 166, 42, 27, 28, 182, 0, 175, 172]
abbrev dktX5_dues_0 : List UInt8 := dkwX5_dues_0 ++ []
theorem dksX5_dues_0 : cX5_dues.data.toList.drop 0 = dktX5_dues_0 := by decide +kernel
theorem dX5_dues_0 : decode cX5_dues 0 = .ok (.aload_n 0, 1) := dk_42 (dk_at dksX5_dues_0 0 rfl rfl)
theorem dX5_dues_1 : decode cX5_dues 1 = .ok (.iconst 0, 1) := dk_3 (dk_at dksX5_dues_0 1 rfl rfl)
theorem dX5_dues_2 : decode cX5_dues 2 = .ok (.putfield 172, 3) := dk_181 0 172 (dk_at dksX5_dues_0 2 rfl rfl)
theorem dX5_dues_5 : decode cX5_dues 5 = .ok (.aload_n 0, 1) := dk_42 (dk_at dksX5_dues_0 5 rfl rfl)
theorem dX5_dues_6 : decode cX5_dues 6 = .ok (.iconst (-1), 1) := dk_2 (dk_at dksX5_dues_0 6 rfl rfl)
theorem dX5_dues_7 : decode cX5_dues 7 = .ok (.putfield 166, 3) := dk_181 0 166 (dk_at dksX5_dues_0 7 rfl rfl)
theorem dX5_dues_10 : decode cX5_dues 10 = .ok (.aload_n 0, 1) := dk_42 (dk_at dksX5_dues_0 10 rfl rfl)
theorem dX5_dues_11 : decode cX5_dues 11 = .ok (.iload_n 1, 1) := dk_27 (dk_at dksX5_dues_0 11 rfl rfl)
theorem dX5_dues_12 : decode cX5_dues 12 = .ok (.iload_n 2, 1) := dk_28 (dk_at dksX5_dues_0 12 rfl rfl)
theorem dX5_dues_13 : decode cX5_dues 13 = .ok (.invokevirtual 175, 3) := dk_182 0 175 (dk_at dksX5_dues_0 13 rfl rfl)
theorem dX5_dues_16 : decode cX5_dues 16 = .ok (.ireturn, 1) := dk_172 (dk_at dksX5_dues_0 16 rfl rfl)
abbrev cX5_counts : ByteArray := prog_12_method_59_code
def yX5_counts : MethodName := ⟨RX5, "counts", "(II)I"⟩
def dkwX5_counts_5 : List UInt8 := [159, 0, 15, 42, 89, 180, 0, 172, 4, 29, 120, 128, 181, 0, 172, 21, 4, 172]
abbrev dktX5_counts_5 : List UInt8 := dkwX5_counts_5 ++ []
def dkwX5_counts_4 : List UInt8 := [182, 0, 107, 28, 182, 0, 175, 96, 54, 4, 132, 5, 1, 167, 255, 215, 42, 29, 3, 182, 0, 69, 16, 101]
abbrev dktX5_counts_4 : List UInt8 := dkwX5_counts_4 ++ dktX5_counts_5
def dkwX5_counts_3 : List UInt8 := [182, 0, 69, 162, 0, 36, 42, 29, 21, 5, 182, 0, 128, 153, 0, 20, 21, 4, 42, 42, 29, 21, 5]
abbrev dktX5_counts_3 : List UInt8 := dkwX5_counts_3 ++ dktX5_counts_4
def dkwX5_counts_2 : List UInt8 := [180, 0, 172, 29, 122, 4, 126, 4, 160, 0, 5, 3, 172, 4, 54, 4, 3, 54, 5, 21, 5, 42, 29, 5]
abbrev dktX5_counts_2 : List UInt8 := dkwX5_counts_2 ++ dktX5_counts_3
def dkwX5_counts_1 : List UInt8 := [167, 0, 7, 42, 180, 0, 166, 181, 0, 166, 3, 172, 42, 29, 28, 182, 0, 169, 156, 0, 15, 42]
abbrev dktX5_counts_1 : List UInt8 := dkwX5_counts_1 ++ dktX5_counts_2
def dkwX5_counts_0 : List UInt8 := [42, 27, 182, 0, 131, 62, 42, 29, 182, 0, 73, 154, 0, 24, 42, 42, 180, 0, 166, 156, 0, 7, 29]
abbrev dktX5_counts_0 : List UInt8 := dkwX5_counts_0 ++ dktX5_counts_1
theorem dksX5_counts_0 : cX5_counts.data.toList.drop 0 = dktX5_counts_0 := by decide +kernel
theorem dksX5_counts_1 : cX5_counts.data.toList.drop 23 = dktX5_counts_1 := dk_seg dksX5_counts_0 23 rfl rfl
theorem dksX5_counts_2 : cX5_counts.data.toList.drop 45 = dktX5_counts_2 := dk_seg dksX5_counts_1 22 rfl rfl
theorem dksX5_counts_3 : cX5_counts.data.toList.drop 69 = dktX5_counts_3 := dk_seg dksX5_counts_2 24 rfl rfl
theorem dksX5_counts_4 : cX5_counts.data.toList.drop 92 = dktX5_counts_4 := dk_seg dksX5_counts_3 23 rfl rfl
theorem dksX5_counts_5 : cX5_counts.data.toList.drop 116 = dktX5_counts_5 := dk_seg dksX5_counts_4 24 rfl rfl
theorem dX5_counts_0 : decode cX5_counts 0 = .ok (.aload_n 0, 1) := dk_42 (dk_at dksX5_counts_0 0 rfl rfl)
theorem dX5_counts_1 : decode cX5_counts 1 = .ok (.iload_n 1, 1) := dk_27 (dk_at dksX5_counts_0 1 rfl rfl)
theorem dX5_counts_2 : decode cX5_counts 2 = .ok (.invokevirtual 131, 3) := dk_182 0 131 (dk_at dksX5_counts_0 2 rfl rfl)
theorem dX5_counts_5 : decode cX5_counts 5 = .ok (.istore_n 3, 1) := dk_62 (dk_at dksX5_counts_0 5 rfl rfl)
theorem dX5_counts_6 : decode cX5_counts 6 = .ok (.aload_n 0, 1) := dk_42 (dk_at dksX5_counts_0 6 rfl rfl)
theorem dX5_counts_7 : decode cX5_counts 7 = .ok (.iload_n 3, 1) := dk_29 (dk_at dksX5_counts_0 7 rfl rfl)
theorem dX5_counts_8 : decode cX5_counts 8 = .ok (.invokevirtual 73, 3) := dk_182 0 73 (dk_at dksX5_counts_0 8 rfl rfl)
theorem dX5_counts_11 : decode cX5_counts 11 = .ok (.ifCond .ne 24, 3) := dk_154 0 24 (dk_at dksX5_counts_0 11 rfl rfl)
theorem dX5_counts_14 : decode cX5_counts 14 = .ok (.aload_n 0, 1) := dk_42 (dk_at dksX5_counts_0 14 rfl rfl)
theorem dX5_counts_15 : decode cX5_counts 15 = .ok (.aload_n 0, 1) := dk_42 (dk_at dksX5_counts_0 15 rfl rfl)
theorem dX5_counts_16 : decode cX5_counts 16 = .ok (.getfield 166, 3) := dk_180 0 166 (dk_at dksX5_counts_0 16 rfl rfl)
theorem dX5_counts_19 : decode cX5_counts 19 = .ok (.ifCond .ge 7, 3) := dk_156 0 7 (dk_at dksX5_counts_0 19 rfl rfl)
theorem dX5_counts_22 : decode cX5_counts 22 = .ok (.iload_n 3, 1) := dk_29 (dk_at dksX5_counts_0 22 rfl rfl)
theorem dX5_counts_23 : decode cX5_counts 23 = .ok (.goto 7, 3) := dk_167 0 7 (dk_at dksX5_counts_1 0 rfl rfl)
theorem dX5_counts_26 : decode cX5_counts 26 = .ok (.aload_n 0, 1) := dk_42 (dk_at dksX5_counts_1 3 rfl rfl)
theorem dX5_counts_27 : decode cX5_counts 27 = .ok (.getfield 166, 3) := dk_180 0 166 (dk_at dksX5_counts_1 4 rfl rfl)
theorem dX5_counts_30 : decode cX5_counts 30 = .ok (.putfield 166, 3) := dk_181 0 166 (dk_at dksX5_counts_1 7 rfl rfl)
theorem dX5_counts_33 : decode cX5_counts 33 = .ok (.iconst 0, 1) := dk_3 (dk_at dksX5_counts_1 10 rfl rfl)
theorem dX5_counts_34 : decode cX5_counts 34 = .ok (.ireturn, 1) := dk_172 (dk_at dksX5_counts_1 11 rfl rfl)
theorem dX5_counts_35 : decode cX5_counts 35 = .ok (.aload_n 0, 1) := dk_42 (dk_at dksX5_counts_1 12 rfl rfl)
theorem dX5_counts_36 : decode cX5_counts 36 = .ok (.iload_n 3, 1) := dk_29 (dk_at dksX5_counts_1 13 rfl rfl)
theorem dX5_counts_37 : decode cX5_counts 37 = .ok (.iload_n 2, 1) := dk_28 (dk_at dksX5_counts_1 14 rfl rfl)
theorem dX5_counts_38 : decode cX5_counts 38 = .ok (.invokevirtual 169, 3) := dk_182 0 169 (dk_at dksX5_counts_1 15 rfl rfl)
theorem dX5_counts_41 : decode cX5_counts 41 = .ok (.ifCond .ge 15, 3) := dk_156 0 15 (dk_at dksX5_counts_1 18 rfl rfl)
theorem dX5_counts_44 : decode cX5_counts 44 = .ok (.aload_n 0, 1) := dk_42 (dk_at dksX5_counts_1 21 rfl rfl)
theorem dX5_counts_45 : decode cX5_counts 45 = .ok (.getfield 172, 3) := dk_180 0 172 (dk_at dksX5_counts_2 0 rfl rfl)
theorem dX5_counts_48 : decode cX5_counts 48 = .ok (.iload_n 3, 1) := dk_29 (dk_at dksX5_counts_2 3 rfl rfl)
theorem dX5_counts_49 : decode cX5_counts 49 = .ok (.ishr, 1) := dk_122 (dk_at dksX5_counts_2 4 rfl rfl)
theorem dX5_counts_50 : decode cX5_counts 50 = .ok (.iconst 1, 1) := dk_4 (dk_at dksX5_counts_2 5 rfl rfl)
theorem dX5_counts_51 : decode cX5_counts 51 = .ok (.iand, 1) := dk_126 (dk_at dksX5_counts_2 6 rfl rfl)
theorem dX5_counts_52 : decode cX5_counts 52 = .ok (.iconst 1, 1) := dk_4 (dk_at dksX5_counts_2 7 rfl rfl)
theorem dX5_counts_53 : decode cX5_counts 53 = .ok (.if_icmp .ne 5, 3) := dk_160 0 5 (dk_at dksX5_counts_2 8 rfl rfl)
theorem dX5_counts_56 : decode cX5_counts 56 = .ok (.iconst 0, 1) := dk_3 (dk_at dksX5_counts_2 11 rfl rfl)
theorem dX5_counts_57 : decode cX5_counts 57 = .ok (.ireturn, 1) := dk_172 (dk_at dksX5_counts_2 12 rfl rfl)
theorem dX5_counts_58 : decode cX5_counts 58 = .ok (.iconst 1, 1) := dk_4 (dk_at dksX5_counts_2 13 rfl rfl)
theorem dX5_counts_59 : decode cX5_counts 59 = .ok (.istore 4, 2) := dk_54 4 (dk_at dksX5_counts_2 14 rfl rfl)
theorem dX5_counts_61 : decode cX5_counts 61 = .ok (.iconst 0, 1) := dk_3 (dk_at dksX5_counts_2 16 rfl rfl)
theorem dX5_counts_62 : decode cX5_counts 62 = .ok (.istore 5, 2) := dk_54 5 (dk_at dksX5_counts_2 17 rfl rfl)
theorem dX5_counts_64 : decode cX5_counts 64 = .ok (.iload 5, 2) := dk_21 5 (dk_at dksX5_counts_2 19 rfl rfl)
theorem dX5_counts_66 : decode cX5_counts 66 = .ok (.aload_n 0, 1) := dk_42 (dk_at dksX5_counts_2 21 rfl rfl)
theorem dX5_counts_67 : decode cX5_counts 67 = .ok (.iload_n 3, 1) := dk_29 (dk_at dksX5_counts_2 22 rfl rfl)
theorem dX5_counts_68 : decode cX5_counts 68 = .ok (.iconst 2, 1) := dk_5 (dk_at dksX5_counts_2 23 rfl rfl)
theorem dX5_counts_69 : decode cX5_counts 69 = .ok (.invokevirtual 69, 3) := dk_182 0 69 (dk_at dksX5_counts_3 0 rfl rfl)
theorem dX5_counts_72 : decode cX5_counts 72 = .ok (.if_icmp .ge 36, 3) := dk_162 0 36 (dk_at dksX5_counts_3 3 rfl rfl)
theorem dX5_counts_75 : decode cX5_counts 75 = .ok (.aload_n 0, 1) := dk_42 (dk_at dksX5_counts_3 6 rfl rfl)
theorem dX5_counts_76 : decode cX5_counts 76 = .ok (.iload_n 3, 1) := dk_29 (dk_at dksX5_counts_3 7 rfl rfl)
theorem dX5_counts_77 : decode cX5_counts 77 = .ok (.iload 5, 2) := dk_21 5 (dk_at dksX5_counts_3 8 rfl rfl)
theorem dX5_counts_79 : decode cX5_counts 79 = .ok (.invokevirtual 128, 3) := dk_182 0 128 (dk_at dksX5_counts_3 10 rfl rfl)
theorem dX5_counts_82 : decode cX5_counts 82 = .ok (.ifCond .eq 20, 3) := dk_153 0 20 (dk_at dksX5_counts_3 13 rfl rfl)
theorem dX5_counts_85 : decode cX5_counts 85 = .ok (.iload 4, 2) := dk_21 4 (dk_at dksX5_counts_3 16 rfl rfl)
theorem dX5_counts_87 : decode cX5_counts 87 = .ok (.aload_n 0, 1) := dk_42 (dk_at dksX5_counts_3 18 rfl rfl)
theorem dX5_counts_88 : decode cX5_counts 88 = .ok (.aload_n 0, 1) := dk_42 (dk_at dksX5_counts_3 19 rfl rfl)
theorem dX5_counts_89 : decode cX5_counts 89 = .ok (.iload_n 3, 1) := dk_29 (dk_at dksX5_counts_3 20 rfl rfl)
theorem dX5_counts_90 : decode cX5_counts 90 = .ok (.iload 5, 2) := dk_21 5 (dk_at dksX5_counts_3 21 rfl rfl)
theorem dX5_counts_92 : decode cX5_counts 92 = .ok (.invokevirtual 107, 3) := dk_182 0 107 (dk_at dksX5_counts_4 0 rfl rfl)
theorem dX5_counts_95 : decode cX5_counts 95 = .ok (.iload_n 2, 1) := dk_28 (dk_at dksX5_counts_4 3 rfl rfl)
theorem dX5_counts_96 : decode cX5_counts 96 = .ok (.invokevirtual 175, 3) := dk_182 0 175 (dk_at dksX5_counts_4 4 rfl rfl)
theorem dX5_counts_99 : decode cX5_counts 99 = .ok (.iadd, 1) := dk_96 (dk_at dksX5_counts_4 7 rfl rfl)
theorem dX5_counts_100 : decode cX5_counts 100 = .ok (.istore 4, 2) := dk_54 4 (dk_at dksX5_counts_4 8 rfl rfl)
theorem dX5_counts_102 : decode cX5_counts 102 = .ok (.iinc 5 1, 3) := dk_132 5 1 (dk_at dksX5_counts_4 10 rfl rfl)
theorem dX5_counts_105 : decode cX5_counts 105 = .ok (.goto (-41), 3) := dk_167 255 215 (dk_at dksX5_counts_4 13 rfl rfl)
theorem dX5_counts_108 : decode cX5_counts 108 = .ok (.aload_n 0, 1) := dk_42 (dk_at dksX5_counts_4 16 rfl rfl)
theorem dX5_counts_109 : decode cX5_counts 109 = .ok (.iload_n 3, 1) := dk_29 (dk_at dksX5_counts_4 17 rfl rfl)
theorem dX5_counts_110 : decode cX5_counts 110 = .ok (.iconst 0, 1) := dk_3 (dk_at dksX5_counts_4 18 rfl rfl)
theorem dX5_counts_111 : decode cX5_counts 111 = .ok (.invokevirtual 69, 3) := dk_182 0 69 (dk_at dksX5_counts_4 19 rfl rfl)
theorem dX5_counts_114 : decode cX5_counts 114 = .ok (.bipush 101, 2) := dk_16 101 (dk_at dksX5_counts_4 22 rfl rfl)
theorem dX5_counts_116 : decode cX5_counts 116 = .ok (.if_icmp .eq 15, 3) := dk_159 0 15 (dk_at dksX5_counts_5 0 rfl rfl)
theorem dX5_counts_119 : decode cX5_counts 119 = .ok (.aload_n 0, 1) := dk_42 (dk_at dksX5_counts_5 3 rfl rfl)
theorem dX5_counts_120 : decode cX5_counts 120 = .ok (.dup, 1) := dk_89 (dk_at dksX5_counts_5 4 rfl rfl)
theorem dX5_counts_121 : decode cX5_counts 121 = .ok (.getfield 172, 3) := dk_180 0 172 (dk_at dksX5_counts_5 5 rfl rfl)
theorem dX5_counts_124 : decode cX5_counts 124 = .ok (.iconst 1, 1) := dk_4 (dk_at dksX5_counts_5 8 rfl rfl)
theorem dX5_counts_125 : decode cX5_counts 125 = .ok (.iload_n 3, 1) := dk_29 (dk_at dksX5_counts_5 9 rfl rfl)
theorem dX5_counts_126 : decode cX5_counts 126 = .ok (.ishl, 1) := dk_120 (dk_at dksX5_counts_5 10 rfl rfl)
theorem dX5_counts_127 : decode cX5_counts 127 = .ok (.ior, 1) := dk_128 (dk_at dksX5_counts_5 11 rfl rfl)
theorem dX5_counts_128 : decode cX5_counts 128 = .ok (.putfield 172, 3) := dk_181 0 172 (dk_at dksX5_counts_5 12 rfl rfl)
theorem dX5_counts_131 : decode cX5_counts 131 = .ok (.iload 4, 2) := dk_21 4 (dk_at dksX5_counts_5 15 rfl rfl)
theorem dX5_counts_133 : decode cX5_counts 133 = .ok (.ireturn, 1) := dk_172 (dk_at dksX5_counts_5 17 rfl rfl)
abbrev cX5_existing : ByteArray := prog_12_method_58_code
def yX5_existing : MethodName := ⟨RX5, "existing", "(II)I"⟩
def dkwX5_existing_3 : List UInt8 := [167, 255, 202, 2, 172]
abbrev dktX5_existing_3 : List UInt8 := dkwX5_existing_3 ++ []
def dkwX5_existing_2 : List UInt8 := [182, 0, 69, 16, 115, 159, 0, 13, 42, 29, 4, 182, 0, 104, 28, 160, 0, 5, 29, 172, 132, 3, 1]
abbrev dktX5_existing_2 : List UInt8 := dkwX5_existing_2 ++ dktX5_existing_3
def dkwX5_existing_1 : List UInt8 := [162, 0, 50, 42, 29, 182, 0, 101, 153, 0, 36, 42, 29, 3, 182, 0, 104, 27, 160, 0, 26, 42, 27, 3]
abbrev dktX5_existing_1 : List UInt8 := dkwX5_existing_1 ++ dktX5_existing_2
def dkwX5_existing_0 : List UInt8 := [42, 27, 3, 182, 0, 69, 16, 101, 160, 0, 5, 2, 172, 3, 62, 29, 42, 180, 0, 7, 4, 46]
abbrev dktX5_existing_0 : List UInt8 := dkwX5_existing_0 ++ dktX5_existing_1
theorem dksX5_existing_0 : cX5_existing.data.toList.drop 0 = dktX5_existing_0 := by decide +kernel
theorem dksX5_existing_1 : cX5_existing.data.toList.drop 22 = dktX5_existing_1 := dk_seg dksX5_existing_0 22 rfl rfl
theorem dksX5_existing_2 : cX5_existing.data.toList.drop 46 = dktX5_existing_2 := dk_seg dksX5_existing_1 24 rfl rfl
theorem dksX5_existing_3 : cX5_existing.data.toList.drop 69 = dktX5_existing_3 := dk_seg dksX5_existing_2 23 rfl rfl
theorem dX5_existing_0 : decode cX5_existing 0 = .ok (.aload_n 0, 1) := dk_42 (dk_at dksX5_existing_0 0 rfl rfl)
theorem dX5_existing_1 : decode cX5_existing 1 = .ok (.iload_n 1, 1) := dk_27 (dk_at dksX5_existing_0 1 rfl rfl)
theorem dX5_existing_2 : decode cX5_existing 2 = .ok (.iconst 0, 1) := dk_3 (dk_at dksX5_existing_0 2 rfl rfl)
theorem dX5_existing_3 : decode cX5_existing 3 = .ok (.invokevirtual 69, 3) := dk_182 0 69 (dk_at dksX5_existing_0 3 rfl rfl)
theorem dX5_existing_6 : decode cX5_existing 6 = .ok (.bipush 101, 2) := dk_16 101 (dk_at dksX5_existing_0 6 rfl rfl)
theorem dX5_existing_8 : decode cX5_existing 8 = .ok (.if_icmp .ne 5, 3) := dk_160 0 5 (dk_at dksX5_existing_0 8 rfl rfl)
theorem dX5_existing_11 : decode cX5_existing 11 = .ok (.iconst (-1), 1) := dk_2 (dk_at dksX5_existing_0 11 rfl rfl)
theorem dX5_existing_12 : decode cX5_existing 12 = .ok (.ireturn, 1) := dk_172 (dk_at dksX5_existing_0 12 rfl rfl)
theorem dX5_existing_13 : decode cX5_existing 13 = .ok (.iconst 0, 1) := dk_3 (dk_at dksX5_existing_0 13 rfl rfl)
theorem dX5_existing_14 : decode cX5_existing 14 = .ok (.istore_n 3, 1) := dk_62 (dk_at dksX5_existing_0 14 rfl rfl)
theorem dX5_existing_15 : decode cX5_existing 15 = .ok (.iload_n 3, 1) := dk_29 (dk_at dksX5_existing_0 15 rfl rfl)
theorem dX5_existing_16 : decode cX5_existing 16 = .ok (.aload_n 0, 1) := dk_42 (dk_at dksX5_existing_0 16 rfl rfl)
theorem dX5_existing_17 : decode cX5_existing 17 = .ok (.getfield 7, 3) := dk_180 0 7 (dk_at dksX5_existing_0 17 rfl rfl)
theorem dX5_existing_20 : decode cX5_existing 20 = .ok (.iconst 1, 1) := dk_4 (dk_at dksX5_existing_0 20 rfl rfl)
theorem dX5_existing_21 : decode cX5_existing 21 = .ok (.iaload, 1) := dk_46 (dk_at dksX5_existing_0 21 rfl rfl)
theorem dX5_existing_22 : decode cX5_existing 22 = .ok (.if_icmp .ge 50, 3) := dk_162 0 50 (dk_at dksX5_existing_1 0 rfl rfl)
theorem dX5_existing_25 : decode cX5_existing 25 = .ok (.aload_n 0, 1) := dk_42 (dk_at dksX5_existing_1 3 rfl rfl)
theorem dX5_existing_26 : decode cX5_existing 26 = .ok (.iload_n 3, 1) := dk_29 (dk_at dksX5_existing_1 4 rfl rfl)
theorem dX5_existing_27 : decode cX5_existing 27 = .ok (.invokevirtual 101, 3) := dk_182 0 101 (dk_at dksX5_existing_1 5 rfl rfl)
theorem dX5_existing_30 : decode cX5_existing 30 = .ok (.ifCond .eq 36, 3) := dk_153 0 36 (dk_at dksX5_existing_1 8 rfl rfl)
theorem dX5_existing_33 : decode cX5_existing 33 = .ok (.aload_n 0, 1) := dk_42 (dk_at dksX5_existing_1 11 rfl rfl)
theorem dX5_existing_34 : decode cX5_existing 34 = .ok (.iload_n 3, 1) := dk_29 (dk_at dksX5_existing_1 12 rfl rfl)
theorem dX5_existing_35 : decode cX5_existing 35 = .ok (.iconst 0, 1) := dk_3 (dk_at dksX5_existing_1 13 rfl rfl)
theorem dX5_existing_36 : decode cX5_existing 36 = .ok (.invokevirtual 104, 3) := dk_182 0 104 (dk_at dksX5_existing_1 14 rfl rfl)
theorem dX5_existing_39 : decode cX5_existing 39 = .ok (.iload_n 1, 1) := dk_27 (dk_at dksX5_existing_1 17 rfl rfl)
theorem dX5_existing_40 : decode cX5_existing 40 = .ok (.if_icmp .ne 26, 3) := dk_160 0 26 (dk_at dksX5_existing_1 18 rfl rfl)
theorem dX5_existing_43 : decode cX5_existing 43 = .ok (.aload_n 0, 1) := dk_42 (dk_at dksX5_existing_1 21 rfl rfl)
theorem dX5_existing_44 : decode cX5_existing 44 = .ok (.iload_n 1, 1) := dk_27 (dk_at dksX5_existing_1 22 rfl rfl)
theorem dX5_existing_45 : decode cX5_existing 45 = .ok (.iconst 0, 1) := dk_3 (dk_at dksX5_existing_1 23 rfl rfl)
theorem dX5_existing_46 : decode cX5_existing 46 = .ok (.invokevirtual 69, 3) := dk_182 0 69 (dk_at dksX5_existing_2 0 rfl rfl)
theorem dX5_existing_49 : decode cX5_existing 49 = .ok (.bipush 115, 2) := dk_16 115 (dk_at dksX5_existing_2 3 rfl rfl)
theorem dX5_existing_51 : decode cX5_existing 51 = .ok (.if_icmp .eq 13, 3) := dk_159 0 13 (dk_at dksX5_existing_2 5 rfl rfl)
theorem dX5_existing_54 : decode cX5_existing 54 = .ok (.aload_n 0, 1) := dk_42 (dk_at dksX5_existing_2 8 rfl rfl)
theorem dX5_existing_55 : decode cX5_existing 55 = .ok (.iload_n 3, 1) := dk_29 (dk_at dksX5_existing_2 9 rfl rfl)
theorem dX5_existing_56 : decode cX5_existing 56 = .ok (.iconst 1, 1) := dk_4 (dk_at dksX5_existing_2 10 rfl rfl)
theorem dX5_existing_57 : decode cX5_existing 57 = .ok (.invokevirtual 104, 3) := dk_182 0 104 (dk_at dksX5_existing_2 11 rfl rfl)
theorem dX5_existing_60 : decode cX5_existing 60 = .ok (.iload_n 2, 1) := dk_28 (dk_at dksX5_existing_2 14 rfl rfl)
theorem dX5_existing_61 : decode cX5_existing 61 = .ok (.if_icmp .ne 5, 3) := dk_160 0 5 (dk_at dksX5_existing_2 15 rfl rfl)
theorem dX5_existing_64 : decode cX5_existing 64 = .ok (.iload_n 3, 1) := dk_29 (dk_at dksX5_existing_2 18 rfl rfl)
theorem dX5_existing_65 : decode cX5_existing 65 = .ok (.ireturn, 1) := dk_172 (dk_at dksX5_existing_2 19 rfl rfl)
theorem dX5_existing_66 : decode cX5_existing 66 = .ok (.iinc 3 1, 3) := dk_132 3 1 (dk_at dksX5_existing_2 20 rfl rfl)
theorem dX5_existing_69 : decode cX5_existing 69 = .ok (.goto (-54), 3) := dk_167 255 202 (dk_at dksX5_existing_3 0 rfl rfl)
theorem dX5_existing_72 : decode cX5_existing 72 = .ok (.iconst (-1), 1) := dk_2 (dk_at dksX5_existing_3 3 rfl rfl)
theorem dX5_existing_73 : decode cX5_existing 73 = .ok (.ireturn, 1) := dk_172 (dk_at dksX5_existing_3 4 rfl rfl)
abbrev cX5_gets : ByteArray := prog_12_method_61_code
def yX5_gets : MethodName := ⟨RX5, "gets", "(III)I"⟩
def dkwX5_gets_11 : List UInt8 := [21, 4, 4, 182, 0, 69, 96, 79, 21, 6, 172]
abbrev dktX5_gets_11 : List UInt8 := dkwX5_gets_11 ++ []
def dkwX5_gets_10 : List UInt8 := [132, 8, 1, 167, 255, 197, 42, 180, 0, 7, 4, 92, 46, 4, 96, 79, 42, 180, 0, 7, 7, 92, 46, 42]
abbrev dktX5_gets_10 : List UInt8 := dkwX5_gets_10 ++ dktX5_gets_11
def dkwX5_gets_9 : List UInt8 := [180, 0, 7, 21, 7, 16, 7, 96, 21, 8, 96, 42, 180, 0, 33, 6, 29, 104, 21, 8, 96, 46, 79]
abbrev dktX5_gets_9 : List UInt8 := dkwX5_gets_9 ++ dktX5_gets_10
def dkwX5_gets_8 : List UInt8 := [162, 0, 53, 42, 180, 0, 7, 21, 7, 7, 96, 21, 8, 96, 42, 21, 4, 21, 8, 182, 0, 107, 79, 42]
abbrev dktX5_gets_8 : List UInt8 := dkwX5_gets_8 ++ dktX5_gets_9
def dkwX5_gets_7 : List UInt8 := [21, 7, 6, 96, 42, 21, 4, 5, 182, 0, 69, 79, 3, 54, 8, 21, 8, 42, 21, 4, 5, 182, 0, 69]
abbrev dktX5_gets_7 : List UInt8 := dkwX5_gets_7 ++ dktX5_gets_8
def dkwX5_gets_6 : List UInt8 := [180, 0, 7, 21, 7, 4, 96, 28, 79, 42, 180, 0, 7, 21, 7, 5, 96, 3, 79, 42, 180, 0, 7]
abbrev dktX5_gets_6 : List UInt8 := dkwX5_gets_6 ++ dktX5_gets_7
def dkwX5_gets_5 : List UInt8 := [16, 61, 16, 10, 21, 6, 104, 96, 54, 7, 42, 180, 0, 7, 21, 7, 3, 96, 21, 4, 79, 42]
abbrev dktX5_gets_5 : List UInt8 := dkwX5_gets_5 ++ dktX5_gets_6
def dkwX5_gets_4 : List UInt8 := [182, 0, 178, 4, 96, 167, 0, 4, 3, 79, 132, 6, 1, 167, 255, 197, 42, 180, 0, 7, 4, 46, 54, 6]
abbrev dktX5_gets_4 : List UInt8 := dkwX5_gets_4 ++ dktX5_gets_5
def dkwX5_gets_3 : List UInt8 := [21, 4, 21, 6, 182, 0, 128, 153, 0, 24, 42, 42, 21, 4, 21, 6, 182, 0, 107, 28, 29, 4, 96]
abbrev dktX5_gets_3 : List UInt8 := dkwX5_gets_3 ++ dktX5_gets_4
def dkwX5_gets_2 : List UInt8 := [21, 6, 42, 21, 4, 5, 182, 0, 69, 162, 0, 53, 42, 180, 0, 33, 6, 29, 104, 21, 6, 96, 42]
abbrev dktX5_gets_2 : List UInt8 := dkwX5_gets_2 ++ dktX5_gets_3
def dkwX5_gets_1 : List UInt8 := [54, 5, 21, 5, 155, 0, 16, 42, 180, 0, 7, 6, 92, 46, 4, 96, 79, 21, 5, 172, 3, 54, 6]
abbrev dktX5_gets_1 : List UInt8 := dkwX5_gets_1 ++ dktX5_gets_2
def dkwX5_gets_0 : List UInt8 := [42, 180, 0, 7, 5, 92, 46, 4, 96, 79, 42, 27, 182, 0, 131, 54, 4, 42, 21, 4, 28, 182, 0, 169]
abbrev dktX5_gets_0 : List UInt8 := dkwX5_gets_0 ++ dktX5_gets_1
theorem dksX5_gets_0 : cX5_gets.data.toList.drop 0 = dktX5_gets_0 := by decide +kernel
theorem dksX5_gets_1 : cX5_gets.data.toList.drop 24 = dktX5_gets_1 := dk_seg dksX5_gets_0 24 rfl rfl
theorem dksX5_gets_2 : cX5_gets.data.toList.drop 47 = dktX5_gets_2 := dk_seg dksX5_gets_1 23 rfl rfl
theorem dksX5_gets_3 : cX5_gets.data.toList.drop 70 = dktX5_gets_3 := dk_seg dksX5_gets_2 23 rfl rfl
theorem dksX5_gets_4 : cX5_gets.data.toList.drop 93 = dktX5_gets_4 := dk_seg dksX5_gets_3 23 rfl rfl
theorem dksX5_gets_5 : cX5_gets.data.toList.drop 117 = dktX5_gets_5 := dk_seg dksX5_gets_4 24 rfl rfl
theorem dksX5_gets_6 : cX5_gets.data.toList.drop 139 = dktX5_gets_6 := dk_seg dksX5_gets_5 22 rfl rfl
theorem dksX5_gets_7 : cX5_gets.data.toList.drop 162 = dktX5_gets_7 := dk_seg dksX5_gets_6 23 rfl rfl
theorem dksX5_gets_8 : cX5_gets.data.toList.drop 186 = dktX5_gets_8 := dk_seg dksX5_gets_7 24 rfl rfl
theorem dksX5_gets_9 : cX5_gets.data.toList.drop 210 = dktX5_gets_9 := dk_seg dksX5_gets_8 24 rfl rfl
theorem dksX5_gets_10 : cX5_gets.data.toList.drop 233 = dktX5_gets_10 := dk_seg dksX5_gets_9 23 rfl rfl
theorem dksX5_gets_11 : cX5_gets.data.toList.drop 257 = dktX5_gets_11 := dk_seg dksX5_gets_10 24 rfl rfl
theorem dX5_gets_0 : decode cX5_gets 0 = .ok (.aload_n 0, 1) := dk_42 (dk_at dksX5_gets_0 0 rfl rfl)
theorem dX5_gets_1 : decode cX5_gets 1 = .ok (.getfield 7, 3) := dk_180 0 7 (dk_at dksX5_gets_0 1 rfl rfl)
theorem dX5_gets_4 : decode cX5_gets 4 = .ok (.iconst 2, 1) := dk_5 (dk_at dksX5_gets_0 4 rfl rfl)
theorem dX5_gets_5 : decode cX5_gets 5 = .ok (.dup2, 1) := dk_92 (dk_at dksX5_gets_0 5 rfl rfl)
theorem dX5_gets_6 : decode cX5_gets 6 = .ok (.iaload, 1) := dk_46 (dk_at dksX5_gets_0 6 rfl rfl)
theorem dX5_gets_7 : decode cX5_gets 7 = .ok (.iconst 1, 1) := dk_4 (dk_at dksX5_gets_0 7 rfl rfl)
theorem dX5_gets_8 : decode cX5_gets 8 = .ok (.iadd, 1) := dk_96 (dk_at dksX5_gets_0 8 rfl rfl)
theorem dX5_gets_9 : decode cX5_gets 9 = .ok (.iastore, 1) := dk_79 (dk_at dksX5_gets_0 9 rfl rfl)
theorem dX5_gets_10 : decode cX5_gets 10 = .ok (.aload_n 0, 1) := dk_42 (dk_at dksX5_gets_0 10 rfl rfl)
theorem dX5_gets_11 : decode cX5_gets 11 = .ok (.iload_n 1, 1) := dk_27 (dk_at dksX5_gets_0 11 rfl rfl)
theorem dX5_gets_12 : decode cX5_gets 12 = .ok (.invokevirtual 131, 3) := dk_182 0 131 (dk_at dksX5_gets_0 12 rfl rfl)
theorem dX5_gets_15 : decode cX5_gets 15 = .ok (.istore 4, 2) := dk_54 4 (dk_at dksX5_gets_0 15 rfl rfl)
theorem dX5_gets_17 : decode cX5_gets 17 = .ok (.aload_n 0, 1) := dk_42 (dk_at dksX5_gets_0 17 rfl rfl)
theorem dX5_gets_18 : decode cX5_gets 18 = .ok (.iload 4, 2) := dk_21 4 (dk_at dksX5_gets_0 18 rfl rfl)
theorem dX5_gets_20 : decode cX5_gets 20 = .ok (.iload_n 2, 1) := dk_28 (dk_at dksX5_gets_0 20 rfl rfl)
theorem dX5_gets_21 : decode cX5_gets 21 = .ok (.invokevirtual 169, 3) := dk_182 0 169 (dk_at dksX5_gets_0 21 rfl rfl)
theorem dX5_gets_24 : decode cX5_gets 24 = .ok (.istore 5, 2) := dk_54 5 (dk_at dksX5_gets_1 0 rfl rfl)
theorem dX5_gets_26 : decode cX5_gets 26 = .ok (.iload 5, 2) := dk_21 5 (dk_at dksX5_gets_1 2 rfl rfl)
theorem dX5_gets_28 : decode cX5_gets 28 = .ok (.ifCond .lt 16, 3) := dk_155 0 16 (dk_at dksX5_gets_1 4 rfl rfl)
theorem dX5_gets_31 : decode cX5_gets 31 = .ok (.aload_n 0, 1) := dk_42 (dk_at dksX5_gets_1 7 rfl rfl)
theorem dX5_gets_32 : decode cX5_gets 32 = .ok (.getfield 7, 3) := dk_180 0 7 (dk_at dksX5_gets_1 8 rfl rfl)
theorem dX5_gets_35 : decode cX5_gets 35 = .ok (.iconst 3, 1) := dk_6 (dk_at dksX5_gets_1 11 rfl rfl)
theorem dX5_gets_36 : decode cX5_gets 36 = .ok (.dup2, 1) := dk_92 (dk_at dksX5_gets_1 12 rfl rfl)
theorem dX5_gets_37 : decode cX5_gets 37 = .ok (.iaload, 1) := dk_46 (dk_at dksX5_gets_1 13 rfl rfl)
theorem dX5_gets_38 : decode cX5_gets 38 = .ok (.iconst 1, 1) := dk_4 (dk_at dksX5_gets_1 14 rfl rfl)
theorem dX5_gets_39 : decode cX5_gets 39 = .ok (.iadd, 1) := dk_96 (dk_at dksX5_gets_1 15 rfl rfl)
theorem dX5_gets_40 : decode cX5_gets 40 = .ok (.iastore, 1) := dk_79 (dk_at dksX5_gets_1 16 rfl rfl)
theorem dX5_gets_41 : decode cX5_gets 41 = .ok (.iload 5, 2) := dk_21 5 (dk_at dksX5_gets_1 17 rfl rfl)
theorem dX5_gets_43 : decode cX5_gets 43 = .ok (.ireturn, 1) := dk_172 (dk_at dksX5_gets_1 19 rfl rfl)
theorem dX5_gets_44 : decode cX5_gets 44 = .ok (.iconst 0, 1) := dk_3 (dk_at dksX5_gets_1 20 rfl rfl)
theorem dX5_gets_45 : decode cX5_gets 45 = .ok (.istore 6, 2) := dk_54 6 (dk_at dksX5_gets_1 21 rfl rfl)
theorem dX5_gets_47 : decode cX5_gets 47 = .ok (.iload 6, 2) := dk_21 6 (dk_at dksX5_gets_2 0 rfl rfl)
theorem dX5_gets_49 : decode cX5_gets 49 = .ok (.aload_n 0, 1) := dk_42 (dk_at dksX5_gets_2 2 rfl rfl)
theorem dX5_gets_50 : decode cX5_gets 50 = .ok (.iload 4, 2) := dk_21 4 (dk_at dksX5_gets_2 3 rfl rfl)
theorem dX5_gets_52 : decode cX5_gets 52 = .ok (.iconst 2, 1) := dk_5 (dk_at dksX5_gets_2 5 rfl rfl)
theorem dX5_gets_53 : decode cX5_gets 53 = .ok (.invokevirtual 69, 3) := dk_182 0 69 (dk_at dksX5_gets_2 6 rfl rfl)
theorem dX5_gets_56 : decode cX5_gets 56 = .ok (.if_icmp .ge 53, 3) := dk_162 0 53 (dk_at dksX5_gets_2 9 rfl rfl)
theorem dX5_gets_59 : decode cX5_gets 59 = .ok (.aload_n 0, 1) := dk_42 (dk_at dksX5_gets_2 12 rfl rfl)
theorem dX5_gets_60 : decode cX5_gets 60 = .ok (.getfield 33, 3) := dk_180 0 33 (dk_at dksX5_gets_2 13 rfl rfl)
theorem dX5_gets_63 : decode cX5_gets 63 = .ok (.iconst 3, 1) := dk_6 (dk_at dksX5_gets_2 16 rfl rfl)
theorem dX5_gets_64 : decode cX5_gets 64 = .ok (.iload_n 3, 1) := dk_29 (dk_at dksX5_gets_2 17 rfl rfl)
theorem dX5_gets_65 : decode cX5_gets 65 = .ok (.imul, 1) := dk_104 (dk_at dksX5_gets_2 18 rfl rfl)
theorem dX5_gets_66 : decode cX5_gets 66 = .ok (.iload 6, 2) := dk_21 6 (dk_at dksX5_gets_2 19 rfl rfl)
theorem dX5_gets_68 : decode cX5_gets 68 = .ok (.iadd, 1) := dk_96 (dk_at dksX5_gets_2 21 rfl rfl)
theorem dX5_gets_69 : decode cX5_gets 69 = .ok (.aload_n 0, 1) := dk_42 (dk_at dksX5_gets_2 22 rfl rfl)
theorem dX5_gets_70 : decode cX5_gets 70 = .ok (.iload 4, 2) := dk_21 4 (dk_at dksX5_gets_3 0 rfl rfl)
theorem dX5_gets_72 : decode cX5_gets 72 = .ok (.iload 6, 2) := dk_21 6 (dk_at dksX5_gets_3 2 rfl rfl)
theorem dX5_gets_74 : decode cX5_gets 74 = .ok (.invokevirtual 128, 3) := dk_182 0 128 (dk_at dksX5_gets_3 4 rfl rfl)
theorem dX5_gets_77 : decode cX5_gets 77 = .ok (.ifCond .eq 24, 3) := dk_153 0 24 (dk_at dksX5_gets_3 7 rfl rfl)
theorem dX5_gets_80 : decode cX5_gets 80 = .ok (.aload_n 0, 1) := dk_42 (dk_at dksX5_gets_3 10 rfl rfl)
theorem dX5_gets_81 : decode cX5_gets 81 = .ok (.aload_n 0, 1) := dk_42 (dk_at dksX5_gets_3 11 rfl rfl)
theorem dX5_gets_82 : decode cX5_gets 82 = .ok (.iload 4, 2) := dk_21 4 (dk_at dksX5_gets_3 12 rfl rfl)
theorem dX5_gets_84 : decode cX5_gets 84 = .ok (.iload 6, 2) := dk_21 6 (dk_at dksX5_gets_3 14 rfl rfl)
theorem dX5_gets_86 : decode cX5_gets 86 = .ok (.invokevirtual 107, 3) := dk_182 0 107 (dk_at dksX5_gets_3 16 rfl rfl)
theorem dX5_gets_89 : decode cX5_gets 89 = .ok (.iload_n 2, 1) := dk_28 (dk_at dksX5_gets_3 19 rfl rfl)
theorem dX5_gets_90 : decode cX5_gets 90 = .ok (.iload_n 3, 1) := dk_29 (dk_at dksX5_gets_3 20 rfl rfl)
theorem dX5_gets_91 : decode cX5_gets 91 = .ok (.iconst 1, 1) := dk_4 (dk_at dksX5_gets_3 21 rfl rfl)
theorem dX5_gets_92 : decode cX5_gets 92 = .ok (.iadd, 1) := dk_96 (dk_at dksX5_gets_3 22 rfl rfl)
theorem dX5_gets_93 : decode cX5_gets 93 = .ok (.invokevirtual 178, 3) := dk_182 0 178 (dk_at dksX5_gets_4 0 rfl rfl)
theorem dX5_gets_96 : decode cX5_gets 96 = .ok (.iconst 1, 1) := dk_4 (dk_at dksX5_gets_4 3 rfl rfl)
theorem dX5_gets_97 : decode cX5_gets 97 = .ok (.iadd, 1) := dk_96 (dk_at dksX5_gets_4 4 rfl rfl)
theorem dX5_gets_98 : decode cX5_gets 98 = .ok (.goto 4, 3) := dk_167 0 4 (dk_at dksX5_gets_4 5 rfl rfl)
theorem dX5_gets_101 : decode cX5_gets 101 = .ok (.iconst 0, 1) := dk_3 (dk_at dksX5_gets_4 8 rfl rfl)
theorem dX5_gets_102 : decode cX5_gets 102 = .ok (.iastore, 1) := dk_79 (dk_at dksX5_gets_4 9 rfl rfl)
theorem dX5_gets_103 : decode cX5_gets 103 = .ok (.iinc 6 1, 3) := dk_132 6 1 (dk_at dksX5_gets_4 10 rfl rfl)
theorem dX5_gets_106 : decode cX5_gets 106 = .ok (.goto (-59), 3) := dk_167 255 197 (dk_at dksX5_gets_4 13 rfl rfl)
theorem dX5_gets_109 : decode cX5_gets 109 = .ok (.aload_n 0, 1) := dk_42 (dk_at dksX5_gets_4 16 rfl rfl)
theorem dX5_gets_110 : decode cX5_gets 110 = .ok (.getfield 7, 3) := dk_180 0 7 (dk_at dksX5_gets_4 17 rfl rfl)
theorem dX5_gets_113 : decode cX5_gets 113 = .ok (.iconst 1, 1) := dk_4 (dk_at dksX5_gets_4 20 rfl rfl)
theorem dX5_gets_114 : decode cX5_gets 114 = .ok (.iaload, 1) := dk_46 (dk_at dksX5_gets_4 21 rfl rfl)
theorem dX5_gets_115 : decode cX5_gets 115 = .ok (.istore 6, 2) := dk_54 6 (dk_at dksX5_gets_4 22 rfl rfl)
theorem dX5_gets_117 : decode cX5_gets 117 = .ok (.bipush 61, 2) := dk_16 61 (dk_at dksX5_gets_5 0 rfl rfl)
theorem dX5_gets_119 : decode cX5_gets 119 = .ok (.bipush 10, 2) := dk_16 10 (dk_at dksX5_gets_5 2 rfl rfl)
theorem dX5_gets_121 : decode cX5_gets 121 = .ok (.iload 6, 2) := dk_21 6 (dk_at dksX5_gets_5 4 rfl rfl)
theorem dX5_gets_123 : decode cX5_gets 123 = .ok (.imul, 1) := dk_104 (dk_at dksX5_gets_5 6 rfl rfl)
theorem dX5_gets_124 : decode cX5_gets 124 = .ok (.iadd, 1) := dk_96 (dk_at dksX5_gets_5 7 rfl rfl)
theorem dX5_gets_125 : decode cX5_gets 125 = .ok (.istore 7, 2) := dk_54 7 (dk_at dksX5_gets_5 8 rfl rfl)
theorem dX5_gets_127 : decode cX5_gets 127 = .ok (.aload_n 0, 1) := dk_42 (dk_at dksX5_gets_5 10 rfl rfl)
theorem dX5_gets_128 : decode cX5_gets 128 = .ok (.getfield 7, 3) := dk_180 0 7 (dk_at dksX5_gets_5 11 rfl rfl)
theorem dX5_gets_131 : decode cX5_gets 131 = .ok (.iload 7, 2) := dk_21 7 (dk_at dksX5_gets_5 14 rfl rfl)
theorem dX5_gets_133 : decode cX5_gets 133 = .ok (.iconst 0, 1) := dk_3 (dk_at dksX5_gets_5 16 rfl rfl)
theorem dX5_gets_134 : decode cX5_gets 134 = .ok (.iadd, 1) := dk_96 (dk_at dksX5_gets_5 17 rfl rfl)
theorem dX5_gets_135 : decode cX5_gets 135 = .ok (.iload 4, 2) := dk_21 4 (dk_at dksX5_gets_5 18 rfl rfl)
theorem dX5_gets_137 : decode cX5_gets 137 = .ok (.iastore, 1) := dk_79 (dk_at dksX5_gets_5 20 rfl rfl)
theorem dX5_gets_138 : decode cX5_gets 138 = .ok (.aload_n 0, 1) := dk_42 (dk_at dksX5_gets_5 21 rfl rfl)
theorem dX5_gets_139 : decode cX5_gets 139 = .ok (.getfield 7, 3) := dk_180 0 7 (dk_at dksX5_gets_6 0 rfl rfl)
theorem dX5_gets_142 : decode cX5_gets 142 = .ok (.iload 7, 2) := dk_21 7 (dk_at dksX5_gets_6 3 rfl rfl)
theorem dX5_gets_144 : decode cX5_gets 144 = .ok (.iconst 1, 1) := dk_4 (dk_at dksX5_gets_6 5 rfl rfl)
theorem dX5_gets_145 : decode cX5_gets 145 = .ok (.iadd, 1) := dk_96 (dk_at dksX5_gets_6 6 rfl rfl)
theorem dX5_gets_146 : decode cX5_gets 146 = .ok (.iload_n 2, 1) := dk_28 (dk_at dksX5_gets_6 7 rfl rfl)
theorem dX5_gets_147 : decode cX5_gets 147 = .ok (.iastore, 1) := dk_79 (dk_at dksX5_gets_6 8 rfl rfl)
theorem dX5_gets_148 : decode cX5_gets 148 = .ok (.aload_n 0, 1) := dk_42 (dk_at dksX5_gets_6 9 rfl rfl)
theorem dX5_gets_149 : decode cX5_gets 149 = .ok (.getfield 7, 3) := dk_180 0 7 (dk_at dksX5_gets_6 10 rfl rfl)
theorem dX5_gets_152 : decode cX5_gets 152 = .ok (.iload 7, 2) := dk_21 7 (dk_at dksX5_gets_6 13 rfl rfl)
theorem dX5_gets_154 : decode cX5_gets 154 = .ok (.iconst 2, 1) := dk_5 (dk_at dksX5_gets_6 15 rfl rfl)
theorem dX5_gets_155 : decode cX5_gets 155 = .ok (.iadd, 1) := dk_96 (dk_at dksX5_gets_6 16 rfl rfl)
theorem dX5_gets_156 : decode cX5_gets 156 = .ok (.iconst 0, 1) := dk_3 (dk_at dksX5_gets_6 17 rfl rfl)
theorem dX5_gets_157 : decode cX5_gets 157 = .ok (.iastore, 1) := dk_79 (dk_at dksX5_gets_6 18 rfl rfl)
theorem dX5_gets_158 : decode cX5_gets 158 = .ok (.aload_n 0, 1) := dk_42 (dk_at dksX5_gets_6 19 rfl rfl)
theorem dX5_gets_159 : decode cX5_gets 159 = .ok (.getfield 7, 3) := dk_180 0 7 (dk_at dksX5_gets_6 20 rfl rfl)
theorem dX5_gets_162 : decode cX5_gets 162 = .ok (.iload 7, 2) := dk_21 7 (dk_at dksX5_gets_7 0 rfl rfl)
theorem dX5_gets_164 : decode cX5_gets 164 = .ok (.iconst 3, 1) := dk_6 (dk_at dksX5_gets_7 2 rfl rfl)
theorem dX5_gets_165 : decode cX5_gets 165 = .ok (.iadd, 1) := dk_96 (dk_at dksX5_gets_7 3 rfl rfl)
theorem dX5_gets_166 : decode cX5_gets 166 = .ok (.aload_n 0, 1) := dk_42 (dk_at dksX5_gets_7 4 rfl rfl)
theorem dX5_gets_167 : decode cX5_gets 167 = .ok (.iload 4, 2) := dk_21 4 (dk_at dksX5_gets_7 5 rfl rfl)
theorem dX5_gets_169 : decode cX5_gets 169 = .ok (.iconst 2, 1) := dk_5 (dk_at dksX5_gets_7 7 rfl rfl)
theorem dX5_gets_170 : decode cX5_gets 170 = .ok (.invokevirtual 69, 3) := dk_182 0 69 (dk_at dksX5_gets_7 8 rfl rfl)
theorem dX5_gets_173 : decode cX5_gets 173 = .ok (.iastore, 1) := dk_79 (dk_at dksX5_gets_7 11 rfl rfl)
theorem dX5_gets_174 : decode cX5_gets 174 = .ok (.iconst 0, 1) := dk_3 (dk_at dksX5_gets_7 12 rfl rfl)
theorem dX5_gets_175 : decode cX5_gets 175 = .ok (.istore 8, 2) := dk_54 8 (dk_at dksX5_gets_7 13 rfl rfl)
theorem dX5_gets_177 : decode cX5_gets 177 = .ok (.iload 8, 2) := dk_21 8 (dk_at dksX5_gets_7 15 rfl rfl)
theorem dX5_gets_179 : decode cX5_gets 179 = .ok (.aload_n 0, 1) := dk_42 (dk_at dksX5_gets_7 17 rfl rfl)
theorem dX5_gets_180 : decode cX5_gets 180 = .ok (.iload 4, 2) := dk_21 4 (dk_at dksX5_gets_7 18 rfl rfl)
theorem dX5_gets_182 : decode cX5_gets 182 = .ok (.iconst 2, 1) := dk_5 (dk_at dksX5_gets_7 20 rfl rfl)
theorem dX5_gets_183 : decode cX5_gets 183 = .ok (.invokevirtual 69, 3) := dk_182 0 69 (dk_at dksX5_gets_7 21 rfl rfl)
theorem dX5_gets_186 : decode cX5_gets 186 = .ok (.if_icmp .ge 53, 3) := dk_162 0 53 (dk_at dksX5_gets_8 0 rfl rfl)
theorem dX5_gets_189 : decode cX5_gets 189 = .ok (.aload_n 0, 1) := dk_42 (dk_at dksX5_gets_8 3 rfl rfl)
theorem dX5_gets_190 : decode cX5_gets 190 = .ok (.getfield 7, 3) := dk_180 0 7 (dk_at dksX5_gets_8 4 rfl rfl)
theorem dX5_gets_193 : decode cX5_gets 193 = .ok (.iload 7, 2) := dk_21 7 (dk_at dksX5_gets_8 7 rfl rfl)
theorem dX5_gets_195 : decode cX5_gets 195 = .ok (.iconst 4, 1) := dk_7 (dk_at dksX5_gets_8 9 rfl rfl)
theorem dX5_gets_196 : decode cX5_gets 196 = .ok (.iadd, 1) := dk_96 (dk_at dksX5_gets_8 10 rfl rfl)
theorem dX5_gets_197 : decode cX5_gets 197 = .ok (.iload 8, 2) := dk_21 8 (dk_at dksX5_gets_8 11 rfl rfl)
theorem dX5_gets_199 : decode cX5_gets 199 = .ok (.iadd, 1) := dk_96 (dk_at dksX5_gets_8 13 rfl rfl)
theorem dX5_gets_200 : decode cX5_gets 200 = .ok (.aload_n 0, 1) := dk_42 (dk_at dksX5_gets_8 14 rfl rfl)
theorem dX5_gets_201 : decode cX5_gets 201 = .ok (.iload 4, 2) := dk_21 4 (dk_at dksX5_gets_8 15 rfl rfl)
theorem dX5_gets_203 : decode cX5_gets 203 = .ok (.iload 8, 2) := dk_21 8 (dk_at dksX5_gets_8 17 rfl rfl)
theorem dX5_gets_205 : decode cX5_gets 205 = .ok (.invokevirtual 107, 3) := dk_182 0 107 (dk_at dksX5_gets_8 19 rfl rfl)
theorem dX5_gets_208 : decode cX5_gets 208 = .ok (.iastore, 1) := dk_79 (dk_at dksX5_gets_8 22 rfl rfl)
theorem dX5_gets_209 : decode cX5_gets 209 = .ok (.aload_n 0, 1) := dk_42 (dk_at dksX5_gets_8 23 rfl rfl)
theorem dX5_gets_210 : decode cX5_gets 210 = .ok (.getfield 7, 3) := dk_180 0 7 (dk_at dksX5_gets_9 0 rfl rfl)
theorem dX5_gets_213 : decode cX5_gets 213 = .ok (.iload 7, 2) := dk_21 7 (dk_at dksX5_gets_9 3 rfl rfl)
theorem dX5_gets_215 : decode cX5_gets 215 = .ok (.bipush 7, 2) := dk_16 7 (dk_at dksX5_gets_9 5 rfl rfl)
theorem dX5_gets_217 : decode cX5_gets 217 = .ok (.iadd, 1) := dk_96 (dk_at dksX5_gets_9 7 rfl rfl)
theorem dX5_gets_218 : decode cX5_gets 218 = .ok (.iload 8, 2) := dk_21 8 (dk_at dksX5_gets_9 8 rfl rfl)
theorem dX5_gets_220 : decode cX5_gets 220 = .ok (.iadd, 1) := dk_96 (dk_at dksX5_gets_9 10 rfl rfl)
theorem dX5_gets_221 : decode cX5_gets 221 = .ok (.aload_n 0, 1) := dk_42 (dk_at dksX5_gets_9 11 rfl rfl)
theorem dX5_gets_222 : decode cX5_gets 222 = .ok (.getfield 33, 3) := dk_180 0 33 (dk_at dksX5_gets_9 12 rfl rfl)
theorem dX5_gets_225 : decode cX5_gets 225 = .ok (.iconst 3, 1) := dk_6 (dk_at dksX5_gets_9 15 rfl rfl)
theorem dX5_gets_226 : decode cX5_gets 226 = .ok (.iload_n 3, 1) := dk_29 (dk_at dksX5_gets_9 16 rfl rfl)
theorem dX5_gets_227 : decode cX5_gets 227 = .ok (.imul, 1) := dk_104 (dk_at dksX5_gets_9 17 rfl rfl)
theorem dX5_gets_228 : decode cX5_gets 228 = .ok (.iload 8, 2) := dk_21 8 (dk_at dksX5_gets_9 18 rfl rfl)
theorem dX5_gets_230 : decode cX5_gets 230 = .ok (.iadd, 1) := dk_96 (dk_at dksX5_gets_9 20 rfl rfl)
theorem dX5_gets_231 : decode cX5_gets 231 = .ok (.iaload, 1) := dk_46 (dk_at dksX5_gets_9 21 rfl rfl)
theorem dX5_gets_232 : decode cX5_gets 232 = .ok (.iastore, 1) := dk_79 (dk_at dksX5_gets_9 22 rfl rfl)
theorem dX5_gets_233 : decode cX5_gets 233 = .ok (.iinc 8 1, 3) := dk_132 8 1 (dk_at dksX5_gets_10 0 rfl rfl)
theorem dX5_gets_236 : decode cX5_gets 236 = .ok (.goto (-59), 3) := dk_167 255 197 (dk_at dksX5_gets_10 3 rfl rfl)
theorem dX5_gets_239 : decode cX5_gets 239 = .ok (.aload_n 0, 1) := dk_42 (dk_at dksX5_gets_10 6 rfl rfl)
theorem dX5_gets_240 : decode cX5_gets 240 = .ok (.getfield 7, 3) := dk_180 0 7 (dk_at dksX5_gets_10 7 rfl rfl)
theorem dX5_gets_243 : decode cX5_gets 243 = .ok (.iconst 1, 1) := dk_4 (dk_at dksX5_gets_10 10 rfl rfl)
theorem dX5_gets_244 : decode cX5_gets 244 = .ok (.dup2, 1) := dk_92 (dk_at dksX5_gets_10 11 rfl rfl)
theorem dX5_gets_245 : decode cX5_gets 245 = .ok (.iaload, 1) := dk_46 (dk_at dksX5_gets_10 12 rfl rfl)
theorem dX5_gets_246 : decode cX5_gets 246 = .ok (.iconst 1, 1) := dk_4 (dk_at dksX5_gets_10 13 rfl rfl)
theorem dX5_gets_247 : decode cX5_gets 247 = .ok (.iadd, 1) := dk_96 (dk_at dksX5_gets_10 14 rfl rfl)
theorem dX5_gets_248 : decode cX5_gets 248 = .ok (.iastore, 1) := dk_79 (dk_at dksX5_gets_10 15 rfl rfl)
theorem dX5_gets_249 : decode cX5_gets 249 = .ok (.aload_n 0, 1) := dk_42 (dk_at dksX5_gets_10 16 rfl rfl)
theorem dX5_gets_250 : decode cX5_gets 250 = .ok (.getfield 7, 3) := dk_180 0 7 (dk_at dksX5_gets_10 17 rfl rfl)
theorem dX5_gets_253 : decode cX5_gets 253 = .ok (.iconst 4, 1) := dk_7 (dk_at dksX5_gets_10 20 rfl rfl)
theorem dX5_gets_254 : decode cX5_gets 254 = .ok (.dup2, 1) := dk_92 (dk_at dksX5_gets_10 21 rfl rfl)
theorem dX5_gets_255 : decode cX5_gets 255 = .ok (.iaload, 1) := dk_46 (dk_at dksX5_gets_10 22 rfl rfl)
theorem dX5_gets_256 : decode cX5_gets 256 = .ok (.aload_n 0, 1) := dk_42 (dk_at dksX5_gets_10 23 rfl rfl)
theorem dX5_gets_257 : decode cX5_gets 257 = .ok (.iload 4, 2) := dk_21 4 (dk_at dksX5_gets_11 0 rfl rfl)
theorem dX5_gets_259 : decode cX5_gets 259 = .ok (.iconst 1, 1) := dk_4 (dk_at dksX5_gets_11 2 rfl rfl)
theorem dX5_gets_260 : decode cX5_gets 260 = .ok (.invokevirtual 69, 3) := dk_182 0 69 (dk_at dksX5_gets_11 3 rfl rfl)
theorem dX5_gets_263 : decode cX5_gets 263 = .ok (.iadd, 1) := dk_96 (dk_at dksX5_gets_11 6 rfl rfl)
theorem dX5_gets_264 : decode cX5_gets 264 = .ok (.iastore, 1) := dk_79 (dk_at dksX5_gets_11 7 rfl rfl)
theorem dX5_gets_265 : decode cX5_gets 265 = .ok (.iload 6, 2) := dk_21 6 (dk_at dksX5_gets_11 8 rfl rfl)
theorem dX5_gets_267 : decode cX5_gets 267 = .ok (.ireturn, 1) := dk_172 (dk_at dksX5_gets_11 10 rfl rfl)
abbrev cX5_touch : ByteArray := prog_12_method_65_code
def yX5_touch : MethodName := ⟨RX5, "touch", "(III)I"⟩
def dkwX5_touch_5 : List UInt8 := [96, 21, 5, 4, 96, 79, 21, 5, 172]
abbrev dktX5_touch_5 : List UInt8 := dkwX5_touch_5 ++ []
def dkwX5_touch_4 : List UInt8 := [21, 4, 29, 3, 182, 0, 178, 54, 5, 42, 180, 0, 7, 16, 61, 16, 10, 27, 104, 96, 16, 7, 96, 28]
abbrev dktX5_touch_4 : List UInt8 := dkwX5_touch_4 ++ dktX5_touch_5
def dkwX5_touch_3 : List UInt8 := [54, 4, 42, 5, 21, 4, 29, 182, 0, 184, 153, 0, 5, 3, 172, 42, 42, 180, 0, 7, 182, 0, 86, 42]
abbrev dktX5_touch_3 : List UInt8 := dkwX5_touch_3 ++ dktX5_touch_4
def dkwX5_touch_2 : List UInt8 := [42, 27, 16, 7, 28, 96, 182, 0, 104, 4, 100, 182, 0, 113, 172, 42, 27, 7, 28, 96, 182, 0, 104]
abbrev dktX5_touch_2 : List UInt8 := dkwX5_touch_2 ++ dktX5_touch_3
def dkwX5_touch_1 : List UInt8 := [182, 0, 83, 153, 0, 5, 3, 172, 42, 27, 16, 7, 28, 96, 182, 0, 104, 158, 0, 22, 42, 5, 16, 7]
abbrev dktX5_touch_1 : List UInt8 := dkwX5_touch_1 ++ dktX5_touch_2
def dkwX5_touch_0 : List UInt8 := [42, 42, 27, 28, 182, 0, 190, 154, 0, 11, 42, 29, 182, 0, 163, 154, 0, 7, 4, 167, 0, 4, 3]
abbrev dktX5_touch_0 : List UInt8 := dkwX5_touch_0 ++ dktX5_touch_1
theorem dksX5_touch_0 : cX5_touch.data.toList.drop 0 = dktX5_touch_0 := by decide +kernel
theorem dksX5_touch_1 : cX5_touch.data.toList.drop 23 = dktX5_touch_1 := dk_seg dksX5_touch_0 23 rfl rfl
theorem dksX5_touch_2 : cX5_touch.data.toList.drop 47 = dktX5_touch_2 := dk_seg dksX5_touch_1 24 rfl rfl
theorem dksX5_touch_3 : cX5_touch.data.toList.drop 70 = dktX5_touch_3 := dk_seg dksX5_touch_2 23 rfl rfl
theorem dksX5_touch_4 : cX5_touch.data.toList.drop 94 = dktX5_touch_4 := dk_seg dksX5_touch_3 24 rfl rfl
theorem dksX5_touch_5 : cX5_touch.data.toList.drop 118 = dktX5_touch_5 := dk_seg dksX5_touch_4 24 rfl rfl
theorem dX5_touch_0 : decode cX5_touch 0 = .ok (.aload_n 0, 1) := dk_42 (dk_at dksX5_touch_0 0 rfl rfl)
theorem dX5_touch_1 : decode cX5_touch 1 = .ok (.aload_n 0, 1) := dk_42 (dk_at dksX5_touch_0 1 rfl rfl)
theorem dX5_touch_2 : decode cX5_touch 2 = .ok (.iload_n 1, 1) := dk_27 (dk_at dksX5_touch_0 2 rfl rfl)
theorem dX5_touch_3 : decode cX5_touch 3 = .ok (.iload_n 2, 1) := dk_28 (dk_at dksX5_touch_0 3 rfl rfl)
theorem dX5_touch_4 : decode cX5_touch 4 = .ok (.invokevirtual 190, 3) := dk_182 0 190 (dk_at dksX5_touch_0 4 rfl rfl)
theorem dX5_touch_7 : decode cX5_touch 7 = .ok (.ifCond .ne 11, 3) := dk_154 0 11 (dk_at dksX5_touch_0 7 rfl rfl)
theorem dX5_touch_10 : decode cX5_touch 10 = .ok (.aload_n 0, 1) := dk_42 (dk_at dksX5_touch_0 10 rfl rfl)
theorem dX5_touch_11 : decode cX5_touch 11 = .ok (.iload_n 3, 1) := dk_29 (dk_at dksX5_touch_0 11 rfl rfl)
theorem dX5_touch_12 : decode cX5_touch 12 = .ok (.invokevirtual 163, 3) := dk_182 0 163 (dk_at dksX5_touch_0 12 rfl rfl)
theorem dX5_touch_15 : decode cX5_touch 15 = .ok (.ifCond .ne 7, 3) := dk_154 0 7 (dk_at dksX5_touch_0 15 rfl rfl)
theorem dX5_touch_18 : decode cX5_touch 18 = .ok (.iconst 1, 1) := dk_4 (dk_at dksX5_touch_0 18 rfl rfl)
theorem dX5_touch_19 : decode cX5_touch 19 = .ok (.goto 4, 3) := dk_167 0 4 (dk_at dksX5_touch_0 19 rfl rfl)
theorem dX5_touch_22 : decode cX5_touch 22 = .ok (.iconst 0, 1) := dk_3 (dk_at dksX5_touch_0 22 rfl rfl)
theorem dX5_touch_23 : decode cX5_touch 23 = .ok (.invokevirtual 83, 3) := dk_182 0 83 (dk_at dksX5_touch_1 0 rfl rfl)
theorem dX5_touch_26 : decode cX5_touch 26 = .ok (.ifCond .eq 5, 3) := dk_153 0 5 (dk_at dksX5_touch_1 3 rfl rfl)
theorem dX5_touch_29 : decode cX5_touch 29 = .ok (.iconst 0, 1) := dk_3 (dk_at dksX5_touch_1 6 rfl rfl)
theorem dX5_touch_30 : decode cX5_touch 30 = .ok (.ireturn, 1) := dk_172 (dk_at dksX5_touch_1 7 rfl rfl)
theorem dX5_touch_31 : decode cX5_touch 31 = .ok (.aload_n 0, 1) := dk_42 (dk_at dksX5_touch_1 8 rfl rfl)
theorem dX5_touch_32 : decode cX5_touch 32 = .ok (.iload_n 1, 1) := dk_27 (dk_at dksX5_touch_1 9 rfl rfl)
theorem dX5_touch_33 : decode cX5_touch 33 = .ok (.bipush 7, 2) := dk_16 7 (dk_at dksX5_touch_1 10 rfl rfl)
theorem dX5_touch_35 : decode cX5_touch 35 = .ok (.iload_n 2, 1) := dk_28 (dk_at dksX5_touch_1 12 rfl rfl)
theorem dX5_touch_36 : decode cX5_touch 36 = .ok (.iadd, 1) := dk_96 (dk_at dksX5_touch_1 13 rfl rfl)
theorem dX5_touch_37 : decode cX5_touch 37 = .ok (.invokevirtual 104, 3) := dk_182 0 104 (dk_at dksX5_touch_1 14 rfl rfl)
theorem dX5_touch_40 : decode cX5_touch 40 = .ok (.ifCond .le 22, 3) := dk_158 0 22 (dk_at dksX5_touch_1 17 rfl rfl)
theorem dX5_touch_43 : decode cX5_touch 43 = .ok (.aload_n 0, 1) := dk_42 (dk_at dksX5_touch_1 20 rfl rfl)
theorem dX5_touch_44 : decode cX5_touch 44 = .ok (.iconst 2, 1) := dk_5 (dk_at dksX5_touch_1 21 rfl rfl)
theorem dX5_touch_45 : decode cX5_touch 45 = .ok (.bipush 7, 2) := dk_16 7 (dk_at dksX5_touch_1 22 rfl rfl)
theorem dX5_touch_47 : decode cX5_touch 47 = .ok (.aload_n 0, 1) := dk_42 (dk_at dksX5_touch_2 0 rfl rfl)
theorem dX5_touch_48 : decode cX5_touch 48 = .ok (.iload_n 1, 1) := dk_27 (dk_at dksX5_touch_2 1 rfl rfl)
theorem dX5_touch_49 : decode cX5_touch 49 = .ok (.bipush 7, 2) := dk_16 7 (dk_at dksX5_touch_2 2 rfl rfl)
theorem dX5_touch_51 : decode cX5_touch 51 = .ok (.iload_n 2, 1) := dk_28 (dk_at dksX5_touch_2 4 rfl rfl)
theorem dX5_touch_52 : decode cX5_touch 52 = .ok (.iadd, 1) := dk_96 (dk_at dksX5_touch_2 5 rfl rfl)
theorem dX5_touch_53 : decode cX5_touch 53 = .ok (.invokevirtual 104, 3) := dk_182 0 104 (dk_at dksX5_touch_2 6 rfl rfl)
theorem dX5_touch_56 : decode cX5_touch 56 = .ok (.iconst 1, 1) := dk_4 (dk_at dksX5_touch_2 9 rfl rfl)
theorem dX5_touch_57 : decode cX5_touch 57 = .ok (.isub, 1) := dk_100 (dk_at dksX5_touch_2 10 rfl rfl)
theorem dX5_touch_58 : decode cX5_touch 58 = .ok (.invokevirtual 113, 3) := dk_182 0 113 (dk_at dksX5_touch_2 11 rfl rfl)
theorem dX5_touch_61 : decode cX5_touch 61 = .ok (.ireturn, 1) := dk_172 (dk_at dksX5_touch_2 14 rfl rfl)
theorem dX5_touch_62 : decode cX5_touch 62 = .ok (.aload_n 0, 1) := dk_42 (dk_at dksX5_touch_2 15 rfl rfl)
theorem dX5_touch_63 : decode cX5_touch 63 = .ok (.iload_n 1, 1) := dk_27 (dk_at dksX5_touch_2 16 rfl rfl)
theorem dX5_touch_64 : decode cX5_touch 64 = .ok (.iconst 4, 1) := dk_7 (dk_at dksX5_touch_2 17 rfl rfl)
theorem dX5_touch_65 : decode cX5_touch 65 = .ok (.iload_n 2, 1) := dk_28 (dk_at dksX5_touch_2 18 rfl rfl)
theorem dX5_touch_66 : decode cX5_touch 66 = .ok (.iadd, 1) := dk_96 (dk_at dksX5_touch_2 19 rfl rfl)
theorem dX5_touch_67 : decode cX5_touch 67 = .ok (.invokevirtual 104, 3) := dk_182 0 104 (dk_at dksX5_touch_2 20 rfl rfl)
theorem dX5_touch_70 : decode cX5_touch 70 = .ok (.istore 4, 2) := dk_54 4 (dk_at dksX5_touch_3 0 rfl rfl)
theorem dX5_touch_72 : decode cX5_touch 72 = .ok (.aload_n 0, 1) := dk_42 (dk_at dksX5_touch_3 2 rfl rfl)
theorem dX5_touch_73 : decode cX5_touch 73 = .ok (.iconst 2, 1) := dk_5 (dk_at dksX5_touch_3 3 rfl rfl)
theorem dX5_touch_74 : decode cX5_touch 74 = .ok (.iload 4, 2) := dk_21 4 (dk_at dksX5_touch_3 4 rfl rfl)
theorem dX5_touch_76 : decode cX5_touch 76 = .ok (.iload_n 3, 1) := dk_29 (dk_at dksX5_touch_3 6 rfl rfl)
theorem dX5_touch_77 : decode cX5_touch 77 = .ok (.invokevirtual 184, 3) := dk_182 0 184 (dk_at dksX5_touch_3 7 rfl rfl)
theorem dX5_touch_80 : decode cX5_touch 80 = .ok (.ifCond .eq 5, 3) := dk_153 0 5 (dk_at dksX5_touch_3 10 rfl rfl)
theorem dX5_touch_83 : decode cX5_touch 83 = .ok (.iconst 0, 1) := dk_3 (dk_at dksX5_touch_3 13 rfl rfl)
theorem dX5_touch_84 : decode cX5_touch 84 = .ok (.ireturn, 1) := dk_172 (dk_at dksX5_touch_3 14 rfl rfl)
theorem dX5_touch_85 : decode cX5_touch 85 = .ok (.aload_n 0, 1) := dk_42 (dk_at dksX5_touch_3 15 rfl rfl)
theorem dX5_touch_86 : decode cX5_touch 86 = .ok (.aload_n 0, 1) := dk_42 (dk_at dksX5_touch_3 16 rfl rfl)
theorem dX5_touch_87 : decode cX5_touch 87 = .ok (.getfield 7, 3) := dk_180 0 7 (dk_at dksX5_touch_3 17 rfl rfl)
theorem dX5_touch_90 : decode cX5_touch 90 = .ok (.invokevirtual 86, 3) := dk_182 0 86 (dk_at dksX5_touch_3 20 rfl rfl)
theorem dX5_touch_93 : decode cX5_touch 93 = .ok (.aload_n 0, 1) := dk_42 (dk_at dksX5_touch_3 23 rfl rfl)
theorem dX5_touch_94 : decode cX5_touch 94 = .ok (.iload 4, 2) := dk_21 4 (dk_at dksX5_touch_4 0 rfl rfl)
theorem dX5_touch_96 : decode cX5_touch 96 = .ok (.iload_n 3, 1) := dk_29 (dk_at dksX5_touch_4 2 rfl rfl)
theorem dX5_touch_97 : decode cX5_touch 97 = .ok (.iconst 0, 1) := dk_3 (dk_at dksX5_touch_4 3 rfl rfl)
theorem dX5_touch_98 : decode cX5_touch 98 = .ok (.invokevirtual 178, 3) := dk_182 0 178 (dk_at dksX5_touch_4 4 rfl rfl)
theorem dX5_touch_101 : decode cX5_touch 101 = .ok (.istore 5, 2) := dk_54 5 (dk_at dksX5_touch_4 7 rfl rfl)
theorem dX5_touch_103 : decode cX5_touch 103 = .ok (.aload_n 0, 1) := dk_42 (dk_at dksX5_touch_4 9 rfl rfl)
theorem dX5_touch_104 : decode cX5_touch 104 = .ok (.getfield 7, 3) := dk_180 0 7 (dk_at dksX5_touch_4 10 rfl rfl)
theorem dX5_touch_107 : decode cX5_touch 107 = .ok (.bipush 61, 2) := dk_16 61 (dk_at dksX5_touch_4 13 rfl rfl)
theorem dX5_touch_109 : decode cX5_touch 109 = .ok (.bipush 10, 2) := dk_16 10 (dk_at dksX5_touch_4 15 rfl rfl)
theorem dX5_touch_111 : decode cX5_touch 111 = .ok (.iload_n 1, 1) := dk_27 (dk_at dksX5_touch_4 17 rfl rfl)
theorem dX5_touch_112 : decode cX5_touch 112 = .ok (.imul, 1) := dk_104 (dk_at dksX5_touch_4 18 rfl rfl)
theorem dX5_touch_113 : decode cX5_touch 113 = .ok (.iadd, 1) := dk_96 (dk_at dksX5_touch_4 19 rfl rfl)
theorem dX5_touch_114 : decode cX5_touch 114 = .ok (.bipush 7, 2) := dk_16 7 (dk_at dksX5_touch_4 20 rfl rfl)
theorem dX5_touch_116 : decode cX5_touch 116 = .ok (.iadd, 1) := dk_96 (dk_at dksX5_touch_4 22 rfl rfl)
theorem dX5_touch_117 : decode cX5_touch 117 = .ok (.iload_n 2, 1) := dk_28 (dk_at dksX5_touch_4 23 rfl rfl)
theorem dX5_touch_118 : decode cX5_touch 118 = .ok (.iadd, 1) := dk_96 (dk_at dksX5_touch_5 0 rfl rfl)
theorem dX5_touch_119 : decode cX5_touch 119 = .ok (.iload 5, 2) := dk_21 5 (dk_at dksX5_touch_5 1 rfl rfl)
theorem dX5_touch_121 : decode cX5_touch 121 = .ok (.iconst 1, 1) := dk_4 (dk_at dksX5_touch_5 3 rfl rfl)
theorem dX5_touch_122 : decode cX5_touch 122 = .ok (.iadd, 1) := dk_96 (dk_at dksX5_touch_5 4 rfl rfl)
theorem dX5_touch_123 : decode cX5_touch 123 = .ok (.iastore, 1) := dk_79 (dk_at dksX5_touch_5 5 rfl rfl)
theorem dX5_touch_124 : decode cX5_touch 124 = .ok (.iload 5, 2) := dk_21 5 (dk_at dksX5_touch_5 6 rfl rfl)
theorem dX5_touch_126 : decode cX5_touch 126 = .ok (.ireturn, 1) := dk_172 (dk_at dksX5_touch_5 8 rfl rfl)
abbrev cX5_isNoNeedOf : ByteArray := prog_12_method_64_code
def yX5_isNoNeedOf : MethodName := ⟨RX5, "isNoNeedOf", "(II)Z"⟩
def dkwX5_isNoNeedOf_1 : List UInt8 := [4, 167, 0, 4, 3, 172]
abbrev dktX5_isNoNeedOf_1 : List UInt8 := dkwX5_isNoNeedOf_1 ++ []
def dkwX5_isNoNeedOf_0 : List UInt8 := [42, 27, 182, 0, 187, 153, 0, 19, 28, 3, 42, 27, 6, 182, 0, 104, 4, 100, 184, 0, 65, 154, 0, 7]
abbrev dktX5_isNoNeedOf_0 : List UInt8 := dkwX5_isNoNeedOf_0 ++ dktX5_isNoNeedOf_1
theorem dksX5_isNoNeedOf_0 : cX5_isNoNeedOf.data.toList.drop 0 = dktX5_isNoNeedOf_0 := by decide +kernel
theorem dksX5_isNoNeedOf_1 : cX5_isNoNeedOf.data.toList.drop 24 = dktX5_isNoNeedOf_1 := dk_seg dksX5_isNoNeedOf_0 24 rfl rfl
theorem dX5_isNoNeedOf_0 : decode cX5_isNoNeedOf 0 = .ok (.aload_n 0, 1) := dk_42 (dk_at dksX5_isNoNeedOf_0 0 rfl rfl)
theorem dX5_isNoNeedOf_1 : decode cX5_isNoNeedOf 1 = .ok (.iload_n 1, 1) := dk_27 (dk_at dksX5_isNoNeedOf_0 1 rfl rfl)
theorem dX5_isNoNeedOf_2 : decode cX5_isNoNeedOf 2 = .ok (.invokevirtual 187, 3) := dk_182 0 187 (dk_at dksX5_isNoNeedOf_0 2 rfl rfl)
theorem dX5_isNoNeedOf_5 : decode cX5_isNoNeedOf 5 = .ok (.ifCond .eq 19, 3) := dk_153 0 19 (dk_at dksX5_isNoNeedOf_0 5 rfl rfl)
theorem dX5_isNoNeedOf_8 : decode cX5_isNoNeedOf 8 = .ok (.iload_n 2, 1) := dk_28 (dk_at dksX5_isNoNeedOf_0 8 rfl rfl)
theorem dX5_isNoNeedOf_9 : decode cX5_isNoNeedOf 9 = .ok (.iconst 0, 1) := dk_3 (dk_at dksX5_isNoNeedOf_0 9 rfl rfl)
theorem dX5_isNoNeedOf_10 : decode cX5_isNoNeedOf 10 = .ok (.aload_n 0, 1) := dk_42 (dk_at dksX5_isNoNeedOf_0 10 rfl rfl)
theorem dX5_isNoNeedOf_11 : decode cX5_isNoNeedOf 11 = .ok (.iload_n 1, 1) := dk_27 (dk_at dksX5_isNoNeedOf_0 11 rfl rfl)
theorem dX5_isNoNeedOf_12 : decode cX5_isNoNeedOf 12 = .ok (.iconst 3, 1) := dk_6 (dk_at dksX5_isNoNeedOf_0 12 rfl rfl)
theorem dX5_isNoNeedOf_13 : decode cX5_isNoNeedOf 13 = .ok (.invokevirtual 104, 3) := dk_182 0 104 (dk_at dksX5_isNoNeedOf_0 13 rfl rfl)
theorem dX5_isNoNeedOf_16 : decode cX5_isNoNeedOf 16 = .ok (.iconst 1, 1) := dk_4 (dk_at dksX5_isNoNeedOf_0 16 rfl rfl)
theorem dX5_isNoNeedOf_17 : decode cX5_isNoNeedOf 17 = .ok (.isub, 1) := dk_100 (dk_at dksX5_isNoNeedOf_0 17 rfl rfl)
theorem dX5_isNoNeedOf_18 : decode cX5_isNoNeedOf 18 = .ok (.invokestatic 65, 3) := dk_184 0 65 (dk_at dksX5_isNoNeedOf_0 18 rfl rfl)
theorem dX5_isNoNeedOf_21 : decode cX5_isNoNeedOf 21 = .ok (.ifCond .ne 7, 3) := dk_154 0 7 (dk_at dksX5_isNoNeedOf_0 21 rfl rfl)
theorem dX5_isNoNeedOf_24 : decode cX5_isNoNeedOf 24 = .ok (.iconst 1, 1) := dk_4 (dk_at dksX5_isNoNeedOf_1 0 rfl rfl)
theorem dX5_isNoNeedOf_25 : decode cX5_isNoNeedOf 25 = .ok (.goto 4, 3) := dk_167 0 4 (dk_at dksX5_isNoNeedOf_1 1 rfl rfl)
theorem dX5_isNoNeedOf_28 : decode cX5_isNoNeedOf 28 = .ok (.iconst 0, 1) := dk_3 (dk_at dksX5_isNoNeedOf_1 4 rfl rfl)
theorem dX5_isNoNeedOf_29 : decode cX5_isNoNeedOf 29 = .ok (.ireturn, 1) := dk_172 (dk_at dksX5_isNoNeedOf_1 5 rfl rfl)
abbrev cX5_isObject : ByteArray := prog_12_method_57_code
def yX5_isObject : MethodName := ⟨RX5, "isObject", "(I)Z"⟩
def dkwX5_isObject_1 : List UInt8 := [4, 167, 0, 4, 3, 172]
abbrev dktX5_isObject_1 : List UInt8 := dkwX5_isObject_1 ++ []
def dkwX5_isObject_0 : List UInt8 := [27, 3, 42, 180, 0, 7, 4, 46, 4, 100, 184, 0, 65, 153, 0, 15, 42, 27, 182, 0, 101, 153, 0, 7]
abbrev dktX5_isObject_0 : List UInt8 := dkwX5_isObject_0 ++ dktX5_isObject_1
theorem dksX5_isObject_0 : cX5_isObject.data.toList.drop 0 = dktX5_isObject_0 := by decide +kernel
theorem dksX5_isObject_1 : cX5_isObject.data.toList.drop 24 = dktX5_isObject_1 := dk_seg dksX5_isObject_0 24 rfl rfl
theorem dX5_isObject_0 : decode cX5_isObject 0 = .ok (.iload_n 1, 1) := dk_27 (dk_at dksX5_isObject_0 0 rfl rfl)
theorem dX5_isObject_1 : decode cX5_isObject 1 = .ok (.iconst 0, 1) := dk_3 (dk_at dksX5_isObject_0 1 rfl rfl)
theorem dX5_isObject_2 : decode cX5_isObject 2 = .ok (.aload_n 0, 1) := dk_42 (dk_at dksX5_isObject_0 2 rfl rfl)
theorem dX5_isObject_3 : decode cX5_isObject 3 = .ok (.getfield 7, 3) := dk_180 0 7 (dk_at dksX5_isObject_0 3 rfl rfl)
theorem dX5_isObject_6 : decode cX5_isObject 6 = .ok (.iconst 1, 1) := dk_4 (dk_at dksX5_isObject_0 6 rfl rfl)
theorem dX5_isObject_7 : decode cX5_isObject 7 = .ok (.iaload, 1) := dk_46 (dk_at dksX5_isObject_0 7 rfl rfl)
theorem dX5_isObject_8 : decode cX5_isObject 8 = .ok (.iconst 1, 1) := dk_4 (dk_at dksX5_isObject_0 8 rfl rfl)
theorem dX5_isObject_9 : decode cX5_isObject 9 = .ok (.isub, 1) := dk_100 (dk_at dksX5_isObject_0 9 rfl rfl)
theorem dX5_isObject_10 : decode cX5_isObject 10 = .ok (.invokestatic 65, 3) := dk_184 0 65 (dk_at dksX5_isObject_0 10 rfl rfl)
theorem dX5_isObject_13 : decode cX5_isObject 13 = .ok (.ifCond .eq 15, 3) := dk_153 0 15 (dk_at dksX5_isObject_0 13 rfl rfl)
theorem dX5_isObject_16 : decode cX5_isObject 16 = .ok (.aload_n 0, 1) := dk_42 (dk_at dksX5_isObject_0 16 rfl rfl)
theorem dX5_isObject_17 : decode cX5_isObject 17 = .ok (.iload_n 1, 1) := dk_27 (dk_at dksX5_isObject_0 17 rfl rfl)
theorem dX5_isObject_18 : decode cX5_isObject 18 = .ok (.invokevirtual 101, 3) := dk_182 0 101 (dk_at dksX5_isObject_0 18 rfl rfl)
theorem dX5_isObject_21 : decode cX5_isObject 21 = .ok (.ifCond .eq 7, 3) := dk_153 0 7 (dk_at dksX5_isObject_0 21 rfl rfl)
theorem dX5_isObject_24 : decode cX5_isObject 24 = .ok (.iconst 1, 1) := dk_4 (dk_at dksX5_isObject_1 0 rfl rfl)
theorem dX5_isObject_25 : decode cX5_isObject 25 = .ok (.goto 4, 3) := dk_167 0 4 (dk_at dksX5_isObject_1 1 rfl rfl)
theorem dX5_isObject_28 : decode cX5_isObject 28 = .ok (.iconst 0, 1) := dk_3 (dk_at dksX5_isObject_1 4 rfl rfl)
theorem dX5_isObject_29 : decode cX5_isObject 29 = .ok (.ireturn, 1) := dk_172 (dk_at dksX5_isObject_1 5 rfl rfl)
abbrev cX5_wouldMake : ByteArray := prog_12_method_67_code
def yX5_wouldMake : MethodName := ⟨RX5, "wouldMake", "(CI)I"⟩
def dkwX5_wouldMake_0 : List UInt8 := [42, 27, 28, 182, 0, 193, 172]
abbrev dktX5_wouldMake_0 : List UInt8 := dkwX5_wouldMake_0 ++ []
theorem dksX5_wouldMake_0 : cX5_wouldMake.data.toList.drop 0 = dktX5_wouldMake_0 := by decide +kernel
theorem dX5_wouldMake_0 : decode cX5_wouldMake 0 = .ok (.aload_n 0, 1) := dk_42 (dk_at dksX5_wouldMake_0 0 rfl rfl)
theorem dX5_wouldMake_1 : decode cX5_wouldMake 1 = .ok (.iload_n 1, 1) := dk_27 (dk_at dksX5_wouldMake_0 1 rfl rfl)
theorem dX5_wouldMake_2 : decode cX5_wouldMake 2 = .ok (.iload_n 2, 1) := dk_28 (dk_at dksX5_wouldMake_0 2 rfl rfl)
theorem dX5_wouldMake_3 : decode cX5_wouldMake 3 = .ok (.invokevirtual 193, 3) := dk_182 0 193 (dk_at dksX5_wouldMake_0 3 rfl rfl)
theorem dX5_wouldMake_6 : decode cX5_wouldMake 6 = .ok (.ireturn, 1) := dk_172 (dk_at dksX5_wouldMake_0 6 rfl rfl)
abbrev cX5_would : ByteArray := prog_12_method_66_code
def yX5_would : MethodName := ⟨RX5, "would", "(II)I"⟩
def dkwX5_would_2 : List UInt8 := [155, 0, 7, 6, 167, 0, 4, 3, 182, 0, 83, 153, 0, 7, 3, 167, 0, 4, 29, 172]
abbrev dktX5_would_2 : List UInt8 := dkwX5_would_2 ++ []
def dkwX5_would_1 : List UInt8 := [5, 182, 0, 83, 153, 0, 5, 3, 172, 42, 27, 16, 97, 100, 28, 182, 0, 181, 62, 42, 42, 180, 0, 166]
abbrev dktX5_would_1 : List UInt8 := dkwX5_would_1 ++ dktX5_would_2
def dkwX5_would_0 : List UInt8 := [42, 27, 184, 0, 77, 154, 0, 7, 4, 167, 0, 16, 42, 28, 182, 0, 163, 153, 0, 7, 3, 167, 0, 4]
abbrev dktX5_would_0 : List UInt8 := dkwX5_would_0 ++ dktX5_would_1
theorem dksX5_would_0 : cX5_would.data.toList.drop 0 = dktX5_would_0 := by decide +kernel
theorem dksX5_would_1 : cX5_would.data.toList.drop 24 = dktX5_would_1 := dk_seg dksX5_would_0 24 rfl rfl
theorem dksX5_would_2 : cX5_would.data.toList.drop 48 = dktX5_would_2 := dk_seg dksX5_would_1 24 rfl rfl
theorem dX5_would_0 : decode cX5_would 0 = .ok (.aload_n 0, 1) := dk_42 (dk_at dksX5_would_0 0 rfl rfl)
theorem dX5_would_1 : decode cX5_would 1 = .ok (.iload_n 1, 1) := dk_27 (dk_at dksX5_would_0 1 rfl rfl)
theorem dX5_would_2 : decode cX5_would 2 = .ok (.invokestatic 77, 3) := dk_184 0 77 (dk_at dksX5_would_0 2 rfl rfl)
theorem dX5_would_5 : decode cX5_would 5 = .ok (.ifCond .ne 7, 3) := dk_154 0 7 (dk_at dksX5_would_0 5 rfl rfl)
theorem dX5_would_8 : decode cX5_would 8 = .ok (.iconst 1, 1) := dk_4 (dk_at dksX5_would_0 8 rfl rfl)
theorem dX5_would_9 : decode cX5_would 9 = .ok (.goto 16, 3) := dk_167 0 16 (dk_at dksX5_would_0 9 rfl rfl)
theorem dX5_would_12 : decode cX5_would 12 = .ok (.aload_n 0, 1) := dk_42 (dk_at dksX5_would_0 12 rfl rfl)
theorem dX5_would_13 : decode cX5_would 13 = .ok (.iload_n 2, 1) := dk_28 (dk_at dksX5_would_0 13 rfl rfl)
theorem dX5_would_14 : decode cX5_would 14 = .ok (.invokevirtual 163, 3) := dk_182 0 163 (dk_at dksX5_would_0 14 rfl rfl)
theorem dX5_would_17 : decode cX5_would 17 = .ok (.ifCond .eq 7, 3) := dk_153 0 7 (dk_at dksX5_would_0 17 rfl rfl)
theorem dX5_would_20 : decode cX5_would 20 = .ok (.iconst 0, 1) := dk_3 (dk_at dksX5_would_0 20 rfl rfl)
theorem dX5_would_21 : decode cX5_would 21 = .ok (.goto 4, 3) := dk_167 0 4 (dk_at dksX5_would_0 21 rfl rfl)
theorem dX5_would_24 : decode cX5_would 24 = .ok (.iconst 2, 1) := dk_5 (dk_at dksX5_would_1 0 rfl rfl)
theorem dX5_would_25 : decode cX5_would 25 = .ok (.invokevirtual 83, 3) := dk_182 0 83 (dk_at dksX5_would_1 1 rfl rfl)
theorem dX5_would_28 : decode cX5_would 28 = .ok (.ifCond .eq 5, 3) := dk_153 0 5 (dk_at dksX5_would_1 4 rfl rfl)
theorem dX5_would_31 : decode cX5_would 31 = .ok (.iconst 0, 1) := dk_3 (dk_at dksX5_would_1 7 rfl rfl)
theorem dX5_would_32 : decode cX5_would 32 = .ok (.ireturn, 1) := dk_172 (dk_at dksX5_would_1 8 rfl rfl)
theorem dX5_would_33 : decode cX5_would 33 = .ok (.aload_n 0, 1) := dk_42 (dk_at dksX5_would_1 9 rfl rfl)
theorem dX5_would_34 : decode cX5_would 34 = .ok (.iload_n 1, 1) := dk_27 (dk_at dksX5_would_1 10 rfl rfl)
theorem dX5_would_35 : decode cX5_would 35 = .ok (.bipush 97, 2) := dk_16 97 (dk_at dksX5_would_1 11 rfl rfl)
theorem dX5_would_37 : decode cX5_would 37 = .ok (.isub, 1) := dk_100 (dk_at dksX5_would_1 13 rfl rfl)
theorem dX5_would_38 : decode cX5_would 38 = .ok (.iload_n 2, 1) := dk_28 (dk_at dksX5_would_1 14 rfl rfl)
theorem dX5_would_39 : decode cX5_would 39 = .ok (.invokevirtual 181, 3) := dk_182 0 181 (dk_at dksX5_would_1 15 rfl rfl)
theorem dX5_would_42 : decode cX5_would 42 = .ok (.istore_n 3, 1) := dk_62 (dk_at dksX5_would_1 18 rfl rfl)
theorem dX5_would_43 : decode cX5_would 43 = .ok (.aload_n 0, 1) := dk_42 (dk_at dksX5_would_1 19 rfl rfl)
theorem dX5_would_44 : decode cX5_would 44 = .ok (.aload_n 0, 1) := dk_42 (dk_at dksX5_would_1 20 rfl rfl)
theorem dX5_would_45 : decode cX5_would 45 = .ok (.getfield 166, 3) := dk_180 0 166 (dk_at dksX5_would_1 21 rfl rfl)
theorem dX5_would_48 : decode cX5_would 48 = .ok (.ifCond .lt 7, 3) := dk_155 0 7 (dk_at dksX5_would_2 0 rfl rfl)
theorem dX5_would_51 : decode cX5_would 51 = .ok (.iconst 3, 1) := dk_6 (dk_at dksX5_would_2 3 rfl rfl)
theorem dX5_would_52 : decode cX5_would 52 = .ok (.goto 4, 3) := dk_167 0 4 (dk_at dksX5_would_2 4 rfl rfl)
theorem dX5_would_55 : decode cX5_would 55 = .ok (.iconst 0, 1) := dk_3 (dk_at dksX5_would_2 7 rfl rfl)
theorem dX5_would_56 : decode cX5_would 56 = .ok (.invokevirtual 83, 3) := dk_182 0 83 (dk_at dksX5_would_2 8 rfl rfl)
theorem dX5_would_59 : decode cX5_would 59 = .ok (.ifCond .eq 7, 3) := dk_153 0 7 (dk_at dksX5_would_2 11 rfl rfl)
theorem dX5_would_62 : decode cX5_would 62 = .ok (.iconst 0, 1) := dk_3 (dk_at dksX5_would_2 14 rfl rfl)
theorem dX5_would_63 : decode cX5_would 63 = .ok (.goto 4, 3) := dk_167 0 4 (dk_at dksX5_would_2 15 rfl rfl)
theorem dX5_would_66 : decode cX5_would 66 = .ok (.iload_n 3, 1) := dk_29 (dk_at dksX5_would_2 18 rfl rfl)
theorem dX5_would_67 : decode cX5_would 67 = .ok (.ireturn, 1) := dk_172 (dk_at dksX5_would_2 19 rfl rfl)
abbrev cX5_wouldMakeByCounting : ByteArray := prog_12_method_68_code
def yX5_wouldMakeByCounting : MethodName := ⟨RX5, "wouldMakeByCounting", "(CI)I"⟩
def dkwX5_wouldMakeByCounting_0 : List UInt8 := [42, 27, 28, 182, 0, 193, 172]
abbrev dktX5_wouldMakeByCounting_0 : List UInt8 := dkwX5_wouldMakeByCounting_0 ++ []
theorem dksX5_wouldMakeByCounting_0 : cX5_wouldMakeByCounting.data.toList.drop 0 = dktX5_wouldMakeByCounting_0 := by decide +kernel
theorem dX5_wouldMakeByCounting_0 : decode cX5_wouldMakeByCounting 0 = .ok (.aload_n 0, 1) := dk_42 (dk_at dksX5_wouldMakeByCounting_0 0 rfl rfl)
theorem dX5_wouldMakeByCounting_1 : decode cX5_wouldMakeByCounting 1 = .ok (.iload_n 1, 1) := dk_27 (dk_at dksX5_wouldMakeByCounting_0 1 rfl rfl)
theorem dX5_wouldMakeByCounting_2 : decode cX5_wouldMakeByCounting 2 = .ok (.iload_n 2, 1) := dk_28 (dk_at dksX5_wouldMakeByCounting_0 2 rfl rfl)
theorem dX5_wouldMakeByCounting_3 : decode cX5_wouldMakeByCounting 3 = .ok (.invokevirtual 193, 3) := dk_182 0 193 (dk_at dksX5_wouldMakeByCounting_0 3 rfl rfl)
theorem dX5_wouldMakeByCounting_6 : decode cX5_wouldMakeByCounting 6 = .ok (.ireturn, 1) := dk_172 (dk_at dksX5_wouldMakeByCounting_0 6 rfl rfl)
abbrev cX5_objectCount : ByteArray := prog_12_method_69_code
def yX5_objectCount : MethodName := ⟨RX5, "objectCount", "()I"⟩
def dkwX5_objectCount_0 : List UInt8 := [42, 3, 181, 0, 39, 42, 180, 0, 7, 4, 46, 172]
abbrev dktX5_objectCount_0 : List UInt8 := dkwX5_objectCount_0 ++ []
theorem dksX5_objectCount_0 : cX5_objectCount.data.toList.drop 0 = dktX5_objectCount_0 := by decide +kernel
theorem dX5_objectCount_0 : decode cX5_objectCount 0 = .ok (.aload_n 0, 1) := dk_42 (dk_at dksX5_objectCount_0 0 rfl rfl)
theorem dX5_objectCount_1 : decode cX5_objectCount 1 = .ok (.iconst 0, 1) := dk_3 (dk_at dksX5_objectCount_0 1 rfl rfl)
theorem dX5_objectCount_2 : decode cX5_objectCount 2 = .ok (.putfield 39, 3) := dk_181 0 39 (dk_at dksX5_objectCount_0 2 rfl rfl)
theorem dX5_objectCount_5 : decode cX5_objectCount 5 = .ok (.aload_n 0, 1) := dk_42 (dk_at dksX5_objectCount_0 5 rfl rfl)
theorem dX5_objectCount_6 : decode cX5_objectCount 6 = .ok (.getfield 7, 3) := dk_180 0 7 (dk_at dksX5_objectCount_0 6 rfl rfl)
theorem dX5_objectCount_9 : decode cX5_objectCount 9 = .ok (.iconst 1, 1) := dk_4 (dk_at dksX5_objectCount_0 9 rfl rfl)
theorem dX5_objectCount_10 : decode cX5_objectCount 10 = .ok (.iaload, 1) := dk_46 (dk_at dksX5_objectCount_0 10 rfl rfl)
theorem dX5_objectCount_11 : decode cX5_objectCount 11 = .ok (.ireturn, 1) := dk_172 (dk_at dksX5_objectCount_0 11 rfl rfl)
abbrev cX5_isThere : ByteArray := prog_12_method_70_code
def yX5_isThere : MethodName := ⟨RX5, "isThere", "(I)Z"⟩
def dkwX5_isThere_1 : List UInt8 := [182, 0, 83, 154, 0, 15, 42, 27, 182, 0, 101, 153, 0, 7, 4, 167, 0, 4, 3, 172]
abbrev dktX5_isThere_1 : List UInt8 := dkwX5_isThere_1 ++ []
def dkwX5_isThere_0 : List UInt8 := [42, 27, 3, 42, 180, 0, 7, 4, 46, 4, 100, 184, 0, 65, 153, 0, 7, 3, 167, 0, 4, 4]
abbrev dktX5_isThere_0 : List UInt8 := dkwX5_isThere_0 ++ dktX5_isThere_1
theorem dksX5_isThere_0 : cX5_isThere.data.toList.drop 0 = dktX5_isThere_0 := by decide +kernel
theorem dksX5_isThere_1 : cX5_isThere.data.toList.drop 22 = dktX5_isThere_1 := dk_seg dksX5_isThere_0 22 rfl rfl
theorem dX5_isThere_0 : decode cX5_isThere 0 = .ok (.aload_n 0, 1) := dk_42 (dk_at dksX5_isThere_0 0 rfl rfl)
theorem dX5_isThere_1 : decode cX5_isThere 1 = .ok (.iload_n 1, 1) := dk_27 (dk_at dksX5_isThere_0 1 rfl rfl)
theorem dX5_isThere_2 : decode cX5_isThere 2 = .ok (.iconst 0, 1) := dk_3 (dk_at dksX5_isThere_0 2 rfl rfl)
theorem dX5_isThere_3 : decode cX5_isThere 3 = .ok (.aload_n 0, 1) := dk_42 (dk_at dksX5_isThere_0 3 rfl rfl)
theorem dX5_isThere_4 : decode cX5_isThere 4 = .ok (.getfield 7, 3) := dk_180 0 7 (dk_at dksX5_isThere_0 4 rfl rfl)
theorem dX5_isThere_7 : decode cX5_isThere 7 = .ok (.iconst 1, 1) := dk_4 (dk_at dksX5_isThere_0 7 rfl rfl)
theorem dX5_isThere_8 : decode cX5_isThere 8 = .ok (.iaload, 1) := dk_46 (dk_at dksX5_isThere_0 8 rfl rfl)
theorem dX5_isThere_9 : decode cX5_isThere 9 = .ok (.iconst 1, 1) := dk_4 (dk_at dksX5_isThere_0 9 rfl rfl)
theorem dX5_isThere_10 : decode cX5_isThere 10 = .ok (.isub, 1) := dk_100 (dk_at dksX5_isThere_0 10 rfl rfl)
theorem dX5_isThere_11 : decode cX5_isThere 11 = .ok (.invokestatic 65, 3) := dk_184 0 65 (dk_at dksX5_isThere_0 11 rfl rfl)
theorem dX5_isThere_14 : decode cX5_isThere 14 = .ok (.ifCond .eq 7, 3) := dk_153 0 7 (dk_at dksX5_isThere_0 14 rfl rfl)
theorem dX5_isThere_17 : decode cX5_isThere 17 = .ok (.iconst 0, 1) := dk_3 (dk_at dksX5_isThere_0 17 rfl rfl)
theorem dX5_isThere_18 : decode cX5_isThere 18 = .ok (.goto 4, 3) := dk_167 0 4 (dk_at dksX5_isThere_0 18 rfl rfl)
theorem dX5_isThere_21 : decode cX5_isThere 21 = .ok (.iconst 1, 1) := dk_4 (dk_at dksX5_isThere_0 21 rfl rfl)
theorem dX5_isThere_22 : decode cX5_isThere 22 = .ok (.invokevirtual 83, 3) := dk_182 0 83 (dk_at dksX5_isThere_1 0 rfl rfl)
theorem dX5_isThere_25 : decode cX5_isThere 25 = .ok (.ifCond .ne 15, 3) := dk_154 0 15 (dk_at dksX5_isThere_1 3 rfl rfl)
theorem dX5_isThere_28 : decode cX5_isThere 28 = .ok (.aload_n 0, 1) := dk_42 (dk_at dksX5_isThere_1 6 rfl rfl)
theorem dX5_isThere_29 : decode cX5_isThere 29 = .ok (.iload_n 1, 1) := dk_27 (dk_at dksX5_isThere_1 7 rfl rfl)
theorem dX5_isThere_30 : decode cX5_isThere 30 = .ok (.invokevirtual 101, 3) := dk_182 0 101 (dk_at dksX5_isThere_1 8 rfl rfl)
theorem dX5_isThere_33 : decode cX5_isThere 33 = .ok (.ifCond .eq 7, 3) := dk_153 0 7 (dk_at dksX5_isThere_1 11 rfl rfl)
theorem dX5_isThere_36 : decode cX5_isThere 36 = .ok (.iconst 1, 1) := dk_4 (dk_at dksX5_isThere_1 14 rfl rfl)
theorem dX5_isThere_37 : decode cX5_isThere 37 = .ok (.goto 4, 3) := dk_167 0 4 (dk_at dksX5_isThere_1 15 rfl rfl)
theorem dX5_isThere_40 : decode cX5_isThere 40 = .ok (.iconst 0, 1) := dk_3 (dk_at dksX5_isThere_1 18 rfl rfl)
theorem dX5_isThere_41 : decode cX5_isThere 41 = .ok (.ireturn, 1) := dk_172 (dk_at dksX5_isThere_1 19 rfl rfl)
abbrev cX5_toolOf : ByteArray := prog_12_method_71_code
def yX5_toolOf : MethodName := ⟨RX5, "toolOf", "(I)C"⟩
def dkwX5_toolOf_1 : List UInt8 := [167, 0, 12, 42, 27, 3, 182, 0, 104, 184, 0, 124, 172]
abbrev dktX5_toolOf_1 : List UInt8 := dkwX5_toolOf_1 ++ []
def dkwX5_toolOf_0 : List UInt8 := [42, 42, 27, 182, 0, 187, 153, 0, 7, 3, 167, 0, 4, 4, 182, 0, 83, 153, 0, 8, 16, 32]
abbrev dktX5_toolOf_0 : List UInt8 := dkwX5_toolOf_0 ++ dktX5_toolOf_1
theorem dksX5_toolOf_0 : cX5_toolOf.data.toList.drop 0 = dktX5_toolOf_0 := by decide +kernel
theorem dksX5_toolOf_1 : cX5_toolOf.data.toList.drop 22 = dktX5_toolOf_1 := dk_seg dksX5_toolOf_0 22 rfl rfl
theorem dX5_toolOf_0 : decode cX5_toolOf 0 = .ok (.aload_n 0, 1) := dk_42 (dk_at dksX5_toolOf_0 0 rfl rfl)
theorem dX5_toolOf_1 : decode cX5_toolOf 1 = .ok (.aload_n 0, 1) := dk_42 (dk_at dksX5_toolOf_0 1 rfl rfl)
theorem dX5_toolOf_2 : decode cX5_toolOf 2 = .ok (.iload_n 1, 1) := dk_27 (dk_at dksX5_toolOf_0 2 rfl rfl)
theorem dX5_toolOf_3 : decode cX5_toolOf 3 = .ok (.invokevirtual 187, 3) := dk_182 0 187 (dk_at dksX5_toolOf_0 3 rfl rfl)
theorem dX5_toolOf_6 : decode cX5_toolOf 6 = .ok (.ifCond .eq 7, 3) := dk_153 0 7 (dk_at dksX5_toolOf_0 6 rfl rfl)
theorem dX5_toolOf_9 : decode cX5_toolOf 9 = .ok (.iconst 0, 1) := dk_3 (dk_at dksX5_toolOf_0 9 rfl rfl)
theorem dX5_toolOf_10 : decode cX5_toolOf 10 = .ok (.goto 4, 3) := dk_167 0 4 (dk_at dksX5_toolOf_0 10 rfl rfl)
theorem dX5_toolOf_13 : decode cX5_toolOf 13 = .ok (.iconst 1, 1) := dk_4 (dk_at dksX5_toolOf_0 13 rfl rfl)
theorem dX5_toolOf_14 : decode cX5_toolOf 14 = .ok (.invokevirtual 83, 3) := dk_182 0 83 (dk_at dksX5_toolOf_0 14 rfl rfl)
theorem dX5_toolOf_17 : decode cX5_toolOf 17 = .ok (.ifCond .eq 8, 3) := dk_153 0 8 (dk_at dksX5_toolOf_0 17 rfl rfl)
theorem dX5_toolOf_20 : decode cX5_toolOf 20 = .ok (.bipush 32, 2) := dk_16 32 (dk_at dksX5_toolOf_0 20 rfl rfl)
theorem dX5_toolOf_22 : decode cX5_toolOf 22 = .ok (.goto 12, 3) := dk_167 0 12 (dk_at dksX5_toolOf_1 0 rfl rfl)
theorem dX5_toolOf_25 : decode cX5_toolOf 25 = .ok (.aload_n 0, 1) := dk_42 (dk_at dksX5_toolOf_1 3 rfl rfl)
theorem dX5_toolOf_26 : decode cX5_toolOf 26 = .ok (.iload_n 1, 1) := dk_27 (dk_at dksX5_toolOf_1 4 rfl rfl)
theorem dX5_toolOf_27 : decode cX5_toolOf 27 = .ok (.iconst 0, 1) := dk_3 (dk_at dksX5_toolOf_1 5 rfl rfl)
theorem dX5_toolOf_28 : decode cX5_toolOf 28 = .ok (.invokevirtual 104, 3) := dk_182 0 104 (dk_at dksX5_toolOf_1 6 rfl rfl)
theorem dX5_toolOf_31 : decode cX5_toolOf 31 = .ok (.invokestatic 124, 3) := dk_184 0 124 (dk_at dksX5_toolOf_1 9 rfl rfl)
theorem dX5_toolOf_34 : decode cX5_toolOf 34 = .ok (.ireturn, 1) := dk_172 (dk_at dksX5_toolOf_1 12 rfl rfl)
abbrev cX5_threadOf : ByteArray := prog_12_method_72_code
def yX5_threadOf : MethodName := ⟨RX5, "threadOf", "(I)I"⟩
def dkwX5_threadOf_1 : List UInt8 := [42, 27, 4, 182, 0, 104, 172]
abbrev dktX5_threadOf_1 : List UInt8 := dkwX5_threadOf_1 ++ []
def dkwX5_threadOf_0 : List UInt8 := [42, 42, 27, 182, 0, 187, 153, 0, 7, 3, 167, 0, 4, 4, 182, 0, 83, 153, 0, 7, 3, 167, 0, 9]
abbrev dktX5_threadOf_0 : List UInt8 := dkwX5_threadOf_0 ++ dktX5_threadOf_1
theorem dksX5_threadOf_0 : cX5_threadOf.data.toList.drop 0 = dktX5_threadOf_0 := by decide +kernel
theorem dksX5_threadOf_1 : cX5_threadOf.data.toList.drop 24 = dktX5_threadOf_1 := dk_seg dksX5_threadOf_0 24 rfl rfl
theorem dX5_threadOf_0 : decode cX5_threadOf 0 = .ok (.aload_n 0, 1) := dk_42 (dk_at dksX5_threadOf_0 0 rfl rfl)
theorem dX5_threadOf_1 : decode cX5_threadOf 1 = .ok (.aload_n 0, 1) := dk_42 (dk_at dksX5_threadOf_0 1 rfl rfl)
theorem dX5_threadOf_2 : decode cX5_threadOf 2 = .ok (.iload_n 1, 1) := dk_27 (dk_at dksX5_threadOf_0 2 rfl rfl)
theorem dX5_threadOf_3 : decode cX5_threadOf 3 = .ok (.invokevirtual 187, 3) := dk_182 0 187 (dk_at dksX5_threadOf_0 3 rfl rfl)
theorem dX5_threadOf_6 : decode cX5_threadOf 6 = .ok (.ifCond .eq 7, 3) := dk_153 0 7 (dk_at dksX5_threadOf_0 6 rfl rfl)
theorem dX5_threadOf_9 : decode cX5_threadOf 9 = .ok (.iconst 0, 1) := dk_3 (dk_at dksX5_threadOf_0 9 rfl rfl)
theorem dX5_threadOf_10 : decode cX5_threadOf 10 = .ok (.goto 4, 3) := dk_167 0 4 (dk_at dksX5_threadOf_0 10 rfl rfl)
theorem dX5_threadOf_13 : decode cX5_threadOf 13 = .ok (.iconst 1, 1) := dk_4 (dk_at dksX5_threadOf_0 13 rfl rfl)
theorem dX5_threadOf_14 : decode cX5_threadOf 14 = .ok (.invokevirtual 83, 3) := dk_182 0 83 (dk_at dksX5_threadOf_0 14 rfl rfl)
theorem dX5_threadOf_17 : decode cX5_threadOf 17 = .ok (.ifCond .eq 7, 3) := dk_153 0 7 (dk_at dksX5_threadOf_0 17 rfl rfl)
theorem dX5_threadOf_20 : decode cX5_threadOf 20 = .ok (.iconst 0, 1) := dk_3 (dk_at dksX5_threadOf_0 20 rfl rfl)
theorem dX5_threadOf_21 : decode cX5_threadOf 21 = .ok (.goto 9, 3) := dk_167 0 9 (dk_at dksX5_threadOf_0 21 rfl rfl)
theorem dX5_threadOf_24 : decode cX5_threadOf 24 = .ok (.aload_n 0, 1) := dk_42 (dk_at dksX5_threadOf_1 0 rfl rfl)
theorem dX5_threadOf_25 : decode cX5_threadOf 25 = .ok (.iload_n 1, 1) := dk_27 (dk_at dksX5_threadOf_1 1 rfl rfl)
theorem dX5_threadOf_26 : decode cX5_threadOf 26 = .ok (.iconst 1, 1) := dk_4 (dk_at dksX5_threadOf_1 2 rfl rfl)
theorem dX5_threadOf_27 : decode cX5_threadOf 27 = .ok (.invokevirtual 104, 3) := dk_182 0 104 (dk_at dksX5_threadOf_1 3 rfl rfl)
theorem dX5_threadOf_30 : decode cX5_threadOf 30 = .ok (.ireturn, 1) := dk_172 (dk_at dksX5_threadOf_1 6 rfl rfl)
abbrev cX5_filledBy : ByteArray := prog_12_method_73_code
def yX5_filledBy : MethodName := ⟨RX5, "filledBy", "(II)I"⟩
def dkwX5_filledBy_2 : List UInt8 := [182, 0, 104, 4, 100, 172]
abbrev dktX5_filledBy_2 : List UInt8 := dkwX5_filledBy_2 ++ []
def dkwX5_filledBy_1 : List UInt8 := [154, 0, 7, 5, 167, 0, 4, 3, 182, 0, 83, 153, 0, 7, 3, 167, 0, 14, 42, 27, 16, 7, 28, 96]
abbrev dktX5_filledBy_1 : List UInt8 := dkwX5_filledBy_1 ++ dktX5_filledBy_2
def dkwX5_filledBy_0 : List UInt8 := [42, 42, 27, 28, 182, 0, 190, 153, 0, 7, 4, 167, 0, 20, 42, 27, 16, 7, 28, 96, 182, 0, 104]
abbrev dktX5_filledBy_0 : List UInt8 := dkwX5_filledBy_0 ++ dktX5_filledBy_1
theorem dksX5_filledBy_0 : cX5_filledBy.data.toList.drop 0 = dktX5_filledBy_0 := by decide +kernel
theorem dksX5_filledBy_1 : cX5_filledBy.data.toList.drop 23 = dktX5_filledBy_1 := dk_seg dksX5_filledBy_0 23 rfl rfl
theorem dksX5_filledBy_2 : cX5_filledBy.data.toList.drop 47 = dktX5_filledBy_2 := dk_seg dksX5_filledBy_1 24 rfl rfl
theorem dX5_filledBy_0 : decode cX5_filledBy 0 = .ok (.aload_n 0, 1) := dk_42 (dk_at dksX5_filledBy_0 0 rfl rfl)
theorem dX5_filledBy_1 : decode cX5_filledBy 1 = .ok (.aload_n 0, 1) := dk_42 (dk_at dksX5_filledBy_0 1 rfl rfl)
theorem dX5_filledBy_2 : decode cX5_filledBy 2 = .ok (.iload_n 1, 1) := dk_27 (dk_at dksX5_filledBy_0 2 rfl rfl)
theorem dX5_filledBy_3 : decode cX5_filledBy 3 = .ok (.iload_n 2, 1) := dk_28 (dk_at dksX5_filledBy_0 3 rfl rfl)
theorem dX5_filledBy_4 : decode cX5_filledBy 4 = .ok (.invokevirtual 190, 3) := dk_182 0 190 (dk_at dksX5_filledBy_0 4 rfl rfl)
theorem dX5_filledBy_7 : decode cX5_filledBy 7 = .ok (.ifCond .eq 7, 3) := dk_153 0 7 (dk_at dksX5_filledBy_0 7 rfl rfl)
theorem dX5_filledBy_10 : decode cX5_filledBy 10 = .ok (.iconst 1, 1) := dk_4 (dk_at dksX5_filledBy_0 10 rfl rfl)
theorem dX5_filledBy_11 : decode cX5_filledBy 11 = .ok (.goto 20, 3) := dk_167 0 20 (dk_at dksX5_filledBy_0 11 rfl rfl)
theorem dX5_filledBy_14 : decode cX5_filledBy 14 = .ok (.aload_n 0, 1) := dk_42 (dk_at dksX5_filledBy_0 14 rfl rfl)
theorem dX5_filledBy_15 : decode cX5_filledBy 15 = .ok (.iload_n 1, 1) := dk_27 (dk_at dksX5_filledBy_0 15 rfl rfl)
theorem dX5_filledBy_16 : decode cX5_filledBy 16 = .ok (.bipush 7, 2) := dk_16 7 (dk_at dksX5_filledBy_0 16 rfl rfl)
theorem dX5_filledBy_18 : decode cX5_filledBy 18 = .ok (.iload_n 2, 1) := dk_28 (dk_at dksX5_filledBy_0 18 rfl rfl)
theorem dX5_filledBy_19 : decode cX5_filledBy 19 = .ok (.iadd, 1) := dk_96 (dk_at dksX5_filledBy_0 19 rfl rfl)
theorem dX5_filledBy_20 : decode cX5_filledBy 20 = .ok (.invokevirtual 104, 3) := dk_182 0 104 (dk_at dksX5_filledBy_0 20 rfl rfl)
theorem dX5_filledBy_23 : decode cX5_filledBy 23 = .ok (.ifCond .ne 7, 3) := dk_154 0 7 (dk_at dksX5_filledBy_1 0 rfl rfl)
theorem dX5_filledBy_26 : decode cX5_filledBy 26 = .ok (.iconst 2, 1) := dk_5 (dk_at dksX5_filledBy_1 3 rfl rfl)
theorem dX5_filledBy_27 : decode cX5_filledBy 27 = .ok (.goto 4, 3) := dk_167 0 4 (dk_at dksX5_filledBy_1 4 rfl rfl)
theorem dX5_filledBy_30 : decode cX5_filledBy 30 = .ok (.iconst 0, 1) := dk_3 (dk_at dksX5_filledBy_1 7 rfl rfl)
theorem dX5_filledBy_31 : decode cX5_filledBy 31 = .ok (.invokevirtual 83, 3) := dk_182 0 83 (dk_at dksX5_filledBy_1 8 rfl rfl)
theorem dX5_filledBy_34 : decode cX5_filledBy 34 = .ok (.ifCond .eq 7, 3) := dk_153 0 7 (dk_at dksX5_filledBy_1 11 rfl rfl)
theorem dX5_filledBy_37 : decode cX5_filledBy 37 = .ok (.iconst 0, 1) := dk_3 (dk_at dksX5_filledBy_1 14 rfl rfl)
theorem dX5_filledBy_38 : decode cX5_filledBy 38 = .ok (.goto 14, 3) := dk_167 0 14 (dk_at dksX5_filledBy_1 15 rfl rfl)
theorem dX5_filledBy_41 : decode cX5_filledBy 41 = .ok (.aload_n 0, 1) := dk_42 (dk_at dksX5_filledBy_1 18 rfl rfl)
theorem dX5_filledBy_42 : decode cX5_filledBy 42 = .ok (.iload_n 1, 1) := dk_27 (dk_at dksX5_filledBy_1 19 rfl rfl)
theorem dX5_filledBy_43 : decode cX5_filledBy 43 = .ok (.bipush 7, 2) := dk_16 7 (dk_at dksX5_filledBy_1 20 rfl rfl)
theorem dX5_filledBy_45 : decode cX5_filledBy 45 = .ok (.iload_n 2, 1) := dk_28 (dk_at dksX5_filledBy_1 22 rfl rfl)
theorem dX5_filledBy_46 : decode cX5_filledBy 46 = .ok (.iadd, 1) := dk_96 (dk_at dksX5_filledBy_1 23 rfl rfl)
theorem dX5_filledBy_47 : decode cX5_filledBy 47 = .ok (.invokevirtual 104, 3) := dk_182 0 104 (dk_at dksX5_filledBy_2 0 rfl rfl)
theorem dX5_filledBy_50 : decode cX5_filledBy 50 = .ok (.iconst 1, 1) := dk_4 (dk_at dksX5_filledBy_2 3 rfl rfl)
theorem dX5_filledBy_51 : decode cX5_filledBy 51 = .ok (.isub, 1) := dk_100 (dk_at dksX5_filledBy_2 4 rfl rfl)
theorem dX5_filledBy_52 : decode cX5_filledBy 52 = .ok (.ireturn, 1) := dk_172 (dk_at dksX5_filledBy_2 5 rfl rfl)
abbrev cX5_danglers : ByteArray := prog_12_method_74_code
def yX5_danglers : MethodName := ⟨RX5, "danglers", "()I"⟩
def dkwX5_danglers_4 : List UInt8 := [153, 0, 7, 4, 167, 0, 4, 3, 96, 60, 132, 2, 1, 167, 255, 161, 27, 172]
abbrev dktX5_danglers_4 : List UInt8 := dkwX5_danglers_4 ++ []
def dkwX5_danglers_3 : List UInt8 := [167, 0, 4, 3, 128, 62, 132, 4, 1, 167, 255, 202, 27, 29, 153, 0, 15, 42, 28, 182, 0, 101]
abbrev dktX5_danglers_3 : List UInt8 := dkwX5_danglers_3 ++ dktX5_danglers_4
def dkwX5_danglers_2 : List UInt8 := [158, 0, 26, 42, 42, 28, 16, 7, 21, 4, 96, 182, 0, 104, 4, 100, 182, 0, 101, 154, 0, 7, 4]
abbrev dktX5_danglers_2 : List UInt8 := dkwX5_danglers_2 ++ dktX5_danglers_3
def dkwX5_danglers_1 : List UInt8 := [21, 4, 42, 28, 6, 182, 0, 104, 162, 0, 49, 29, 42, 28, 16, 7, 21, 4, 96, 182, 0, 104]
abbrev dktX5_danglers_1 : List UInt8 := dkwX5_danglers_1 ++ dktX5_danglers_2
def dkwX5_danglers_0 : List UInt8 := [42, 3, 181, 0, 39, 3, 60, 3, 61, 28, 42, 180, 0, 7, 4, 46, 162, 0, 91, 3, 62, 3, 54, 4]
abbrev dktX5_danglers_0 : List UInt8 := dkwX5_danglers_0 ++ dktX5_danglers_1
theorem dksX5_danglers_0 : cX5_danglers.data.toList.drop 0 = dktX5_danglers_0 := by decide +kernel
theorem dksX5_danglers_1 : cX5_danglers.data.toList.drop 24 = dktX5_danglers_1 := dk_seg dksX5_danglers_0 24 rfl rfl
theorem dksX5_danglers_2 : cX5_danglers.data.toList.drop 46 = dktX5_danglers_2 := dk_seg dksX5_danglers_1 22 rfl rfl
theorem dksX5_danglers_3 : cX5_danglers.data.toList.drop 69 = dktX5_danglers_3 := dk_seg dksX5_danglers_2 23 rfl rfl
theorem dksX5_danglers_4 : cX5_danglers.data.toList.drop 91 = dktX5_danglers_4 := dk_seg dksX5_danglers_3 22 rfl rfl
theorem dX5_danglers_0 : decode cX5_danglers 0 = .ok (.aload_n 0, 1) := dk_42 (dk_at dksX5_danglers_0 0 rfl rfl)
theorem dX5_danglers_1 : decode cX5_danglers 1 = .ok (.iconst 0, 1) := dk_3 (dk_at dksX5_danglers_0 1 rfl rfl)
theorem dX5_danglers_2 : decode cX5_danglers 2 = .ok (.putfield 39, 3) := dk_181 0 39 (dk_at dksX5_danglers_0 2 rfl rfl)
theorem dX5_danglers_5 : decode cX5_danglers 5 = .ok (.iconst 0, 1) := dk_3 (dk_at dksX5_danglers_0 5 rfl rfl)
theorem dX5_danglers_6 : decode cX5_danglers 6 = .ok (.istore_n 1, 1) := dk_60 (dk_at dksX5_danglers_0 6 rfl rfl)
theorem dX5_danglers_7 : decode cX5_danglers 7 = .ok (.iconst 0, 1) := dk_3 (dk_at dksX5_danglers_0 7 rfl rfl)
theorem dX5_danglers_8 : decode cX5_danglers 8 = .ok (.istore_n 2, 1) := dk_61 (dk_at dksX5_danglers_0 8 rfl rfl)
theorem dX5_danglers_9 : decode cX5_danglers 9 = .ok (.iload_n 2, 1) := dk_28 (dk_at dksX5_danglers_0 9 rfl rfl)
theorem dX5_danglers_10 : decode cX5_danglers 10 = .ok (.aload_n 0, 1) := dk_42 (dk_at dksX5_danglers_0 10 rfl rfl)
theorem dX5_danglers_11 : decode cX5_danglers 11 = .ok (.getfield 7, 3) := dk_180 0 7 (dk_at dksX5_danglers_0 11 rfl rfl)
theorem dX5_danglers_14 : decode cX5_danglers 14 = .ok (.iconst 1, 1) := dk_4 (dk_at dksX5_danglers_0 14 rfl rfl)
theorem dX5_danglers_15 : decode cX5_danglers 15 = .ok (.iaload, 1) := dk_46 (dk_at dksX5_danglers_0 15 rfl rfl)
theorem dX5_danglers_16 : decode cX5_danglers 16 = .ok (.if_icmp .ge 91, 3) := dk_162 0 91 (dk_at dksX5_danglers_0 16 rfl rfl)
theorem dX5_danglers_19 : decode cX5_danglers 19 = .ok (.iconst 0, 1) := dk_3 (dk_at dksX5_danglers_0 19 rfl rfl)
theorem dX5_danglers_20 : decode cX5_danglers 20 = .ok (.istore_n 3, 1) := dk_62 (dk_at dksX5_danglers_0 20 rfl rfl)
theorem dX5_danglers_21 : decode cX5_danglers 21 = .ok (.iconst 0, 1) := dk_3 (dk_at dksX5_danglers_0 21 rfl rfl)
theorem dX5_danglers_22 : decode cX5_danglers 22 = .ok (.istore 4, 2) := dk_54 4 (dk_at dksX5_danglers_0 22 rfl rfl)
theorem dX5_danglers_24 : decode cX5_danglers 24 = .ok (.iload 4, 2) := dk_21 4 (dk_at dksX5_danglers_1 0 rfl rfl)
theorem dX5_danglers_26 : decode cX5_danglers 26 = .ok (.aload_n 0, 1) := dk_42 (dk_at dksX5_danglers_1 2 rfl rfl)
theorem dX5_danglers_27 : decode cX5_danglers 27 = .ok (.iload_n 2, 1) := dk_28 (dk_at dksX5_danglers_1 3 rfl rfl)
theorem dX5_danglers_28 : decode cX5_danglers 28 = .ok (.iconst 3, 1) := dk_6 (dk_at dksX5_danglers_1 4 rfl rfl)
theorem dX5_danglers_29 : decode cX5_danglers 29 = .ok (.invokevirtual 104, 3) := dk_182 0 104 (dk_at dksX5_danglers_1 5 rfl rfl)
theorem dX5_danglers_32 : decode cX5_danglers 32 = .ok (.if_icmp .ge 49, 3) := dk_162 0 49 (dk_at dksX5_danglers_1 8 rfl rfl)
theorem dX5_danglers_35 : decode cX5_danglers 35 = .ok (.iload_n 3, 1) := dk_29 (dk_at dksX5_danglers_1 11 rfl rfl)
theorem dX5_danglers_36 : decode cX5_danglers 36 = .ok (.aload_n 0, 1) := dk_42 (dk_at dksX5_danglers_1 12 rfl rfl)
theorem dX5_danglers_37 : decode cX5_danglers 37 = .ok (.iload_n 2, 1) := dk_28 (dk_at dksX5_danglers_1 13 rfl rfl)
theorem dX5_danglers_38 : decode cX5_danglers 38 = .ok (.bipush 7, 2) := dk_16 7 (dk_at dksX5_danglers_1 14 rfl rfl)
theorem dX5_danglers_40 : decode cX5_danglers 40 = .ok (.iload 4, 2) := dk_21 4 (dk_at dksX5_danglers_1 16 rfl rfl)
theorem dX5_danglers_42 : decode cX5_danglers 42 = .ok (.iadd, 1) := dk_96 (dk_at dksX5_danglers_1 18 rfl rfl)
theorem dX5_danglers_43 : decode cX5_danglers 43 = .ok (.invokevirtual 104, 3) := dk_182 0 104 (dk_at dksX5_danglers_1 19 rfl rfl)
theorem dX5_danglers_46 : decode cX5_danglers 46 = .ok (.ifCond .le 26, 3) := dk_158 0 26 (dk_at dksX5_danglers_2 0 rfl rfl)
theorem dX5_danglers_49 : decode cX5_danglers 49 = .ok (.aload_n 0, 1) := dk_42 (dk_at dksX5_danglers_2 3 rfl rfl)
theorem dX5_danglers_50 : decode cX5_danglers 50 = .ok (.aload_n 0, 1) := dk_42 (dk_at dksX5_danglers_2 4 rfl rfl)
theorem dX5_danglers_51 : decode cX5_danglers 51 = .ok (.iload_n 2, 1) := dk_28 (dk_at dksX5_danglers_2 5 rfl rfl)
theorem dX5_danglers_52 : decode cX5_danglers 52 = .ok (.bipush 7, 2) := dk_16 7 (dk_at dksX5_danglers_2 6 rfl rfl)
theorem dX5_danglers_54 : decode cX5_danglers 54 = .ok (.iload 4, 2) := dk_21 4 (dk_at dksX5_danglers_2 8 rfl rfl)
theorem dX5_danglers_56 : decode cX5_danglers 56 = .ok (.iadd, 1) := dk_96 (dk_at dksX5_danglers_2 10 rfl rfl)
theorem dX5_danglers_57 : decode cX5_danglers 57 = .ok (.invokevirtual 104, 3) := dk_182 0 104 (dk_at dksX5_danglers_2 11 rfl rfl)
theorem dX5_danglers_60 : decode cX5_danglers 60 = .ok (.iconst 1, 1) := dk_4 (dk_at dksX5_danglers_2 14 rfl rfl)
theorem dX5_danglers_61 : decode cX5_danglers 61 = .ok (.isub, 1) := dk_100 (dk_at dksX5_danglers_2 15 rfl rfl)
theorem dX5_danglers_62 : decode cX5_danglers 62 = .ok (.invokevirtual 101, 3) := dk_182 0 101 (dk_at dksX5_danglers_2 16 rfl rfl)
theorem dX5_danglers_65 : decode cX5_danglers 65 = .ok (.ifCond .ne 7, 3) := dk_154 0 7 (dk_at dksX5_danglers_2 19 rfl rfl)
theorem dX5_danglers_68 : decode cX5_danglers 68 = .ok (.iconst 1, 1) := dk_4 (dk_at dksX5_danglers_2 22 rfl rfl)
theorem dX5_danglers_69 : decode cX5_danglers 69 = .ok (.goto 4, 3) := dk_167 0 4 (dk_at dksX5_danglers_3 0 rfl rfl)
theorem dX5_danglers_72 : decode cX5_danglers 72 = .ok (.iconst 0, 1) := dk_3 (dk_at dksX5_danglers_3 3 rfl rfl)
theorem dX5_danglers_73 : decode cX5_danglers 73 = .ok (.ior, 1) := dk_128 (dk_at dksX5_danglers_3 4 rfl rfl)
theorem dX5_danglers_74 : decode cX5_danglers 74 = .ok (.istore_n 3, 1) := dk_62 (dk_at dksX5_danglers_3 5 rfl rfl)
theorem dX5_danglers_75 : decode cX5_danglers 75 = .ok (.iinc 4 1, 3) := dk_132 4 1 (dk_at dksX5_danglers_3 6 rfl rfl)
theorem dX5_danglers_78 : decode cX5_danglers 78 = .ok (.goto (-54), 3) := dk_167 255 202 (dk_at dksX5_danglers_3 9 rfl rfl)
theorem dX5_danglers_81 : decode cX5_danglers 81 = .ok (.iload_n 1, 1) := dk_27 (dk_at dksX5_danglers_3 12 rfl rfl)
theorem dX5_danglers_82 : decode cX5_danglers 82 = .ok (.iload_n 3, 1) := dk_29 (dk_at dksX5_danglers_3 13 rfl rfl)
theorem dX5_danglers_83 : decode cX5_danglers 83 = .ok (.ifCond .eq 15, 3) := dk_153 0 15 (dk_at dksX5_danglers_3 14 rfl rfl)
theorem dX5_danglers_86 : decode cX5_danglers 86 = .ok (.aload_n 0, 1) := dk_42 (dk_at dksX5_danglers_3 17 rfl rfl)
theorem dX5_danglers_87 : decode cX5_danglers 87 = .ok (.iload_n 2, 1) := dk_28 (dk_at dksX5_danglers_3 18 rfl rfl)
theorem dX5_danglers_88 : decode cX5_danglers 88 = .ok (.invokevirtual 101, 3) := dk_182 0 101 (dk_at dksX5_danglers_3 19 rfl rfl)
theorem dX5_danglers_91 : decode cX5_danglers 91 = .ok (.ifCond .eq 7, 3) := dk_153 0 7 (dk_at dksX5_danglers_4 0 rfl rfl)
theorem dX5_danglers_94 : decode cX5_danglers 94 = .ok (.iconst 1, 1) := dk_4 (dk_at dksX5_danglers_4 3 rfl rfl)
theorem dX5_danglers_95 : decode cX5_danglers 95 = .ok (.goto 4, 3) := dk_167 0 4 (dk_at dksX5_danglers_4 4 rfl rfl)
theorem dX5_danglers_98 : decode cX5_danglers 98 = .ok (.iconst 0, 1) := dk_3 (dk_at dksX5_danglers_4 7 rfl rfl)
theorem dX5_danglers_99 : decode cX5_danglers 99 = .ok (.iadd, 1) := dk_96 (dk_at dksX5_danglers_4 8 rfl rfl)
theorem dX5_danglers_100 : decode cX5_danglers 100 = .ok (.istore_n 1, 1) := dk_60 (dk_at dksX5_danglers_4 9 rfl rfl)
theorem dX5_danglers_101 : decode cX5_danglers 101 = .ok (.iinc 2 1, 3) := dk_132 2 1 (dk_at dksX5_danglers_4 10 rfl rfl)
theorem dX5_danglers_104 : decode cX5_danglers 104 = .ok (.goto (-95), 3) := dk_167 255 161 (dk_at dksX5_danglers_4 13 rfl rfl)
theorem dX5_danglers_107 : decode cX5_danglers 107 = .ok (.iload_n 1, 1) := dk_27 (dk_at dksX5_danglers_4 16 rfl rfl)
theorem dX5_danglers_108 : decode cX5_danglers 108 = .ok (.ireturn, 1) := dk_172 (dk_at dksX5_danglers_4 17 rfl rfl)
abbrev cX5_gotCount : ByteArray := prog_12_method_75_code
def yX5_gotCount : MethodName := ⟨RX5, "gotCount", "()I"⟩
def dkwX5_gotCount_0 : List UInt8 := [42, 3, 181, 0, 39, 42, 180, 0, 7, 5, 46, 172]
abbrev dktX5_gotCount_0 : List UInt8 := dkwX5_gotCount_0 ++ []
theorem dksX5_gotCount_0 : cX5_gotCount.data.toList.drop 0 = dktX5_gotCount_0 := by decide +kernel
theorem dX5_gotCount_0 : decode cX5_gotCount 0 = .ok (.aload_n 0, 1) := dk_42 (dk_at dksX5_gotCount_0 0 rfl rfl)
theorem dX5_gotCount_1 : decode cX5_gotCount 1 = .ok (.iconst 0, 1) := dk_3 (dk_at dksX5_gotCount_0 1 rfl rfl)
theorem dX5_gotCount_2 : decode cX5_gotCount 2 = .ok (.putfield 39, 3) := dk_181 0 39 (dk_at dksX5_gotCount_0 2 rfl rfl)
theorem dX5_gotCount_5 : decode cX5_gotCount 5 = .ok (.aload_n 0, 1) := dk_42 (dk_at dksX5_gotCount_0 5 rfl rfl)
theorem dX5_gotCount_6 : decode cX5_gotCount 6 = .ok (.getfield 7, 3) := dk_180 0 7 (dk_at dksX5_gotCount_0 6 rfl rfl)
theorem dX5_gotCount_9 : decode cX5_gotCount 9 = .ok (.iconst 2, 1) := dk_5 (dk_at dksX5_gotCount_0 9 rfl rfl)
theorem dX5_gotCount_10 : decode cX5_gotCount 10 = .ok (.iaload, 1) := dk_46 (dk_at dksX5_gotCount_0 10 rfl rfl)
theorem dX5_gotCount_11 : decode cX5_gotCount 11 = .ok (.ireturn, 1) := dk_172 (dk_at dksX5_gotCount_0 11 rfl rfl)
abbrev cX5_reusedCount : ByteArray := prog_12_method_76_code
def yX5_reusedCount : MethodName := ⟨RX5, "reusedCount", "()I"⟩
def dkwX5_reusedCount_0 : List UInt8 := [42, 3, 181, 0, 39, 42, 180, 0, 7, 6, 46, 172]
abbrev dktX5_reusedCount_0 : List UInt8 := dkwX5_reusedCount_0 ++ []
theorem dksX5_reusedCount_0 : cX5_reusedCount.data.toList.drop 0 = dktX5_reusedCount_0 := by decide +kernel
theorem dX5_reusedCount_0 : decode cX5_reusedCount 0 = .ok (.aload_n 0, 1) := dk_42 (dk_at dksX5_reusedCount_0 0 rfl rfl)
theorem dX5_reusedCount_1 : decode cX5_reusedCount 1 = .ok (.iconst 0, 1) := dk_3 (dk_at dksX5_reusedCount_0 1 rfl rfl)
theorem dX5_reusedCount_2 : decode cX5_reusedCount 2 = .ok (.putfield 39, 3) := dk_181 0 39 (dk_at dksX5_reusedCount_0 2 rfl rfl)
theorem dX5_reusedCount_5 : decode cX5_reusedCount 5 = .ok (.aload_n 0, 1) := dk_42 (dk_at dksX5_reusedCount_0 5 rfl rfl)
theorem dX5_reusedCount_6 : decode cX5_reusedCount 6 = .ok (.getfield 7, 3) := dk_180 0 7 (dk_at dksX5_reusedCount_0 6 rfl rfl)
theorem dX5_reusedCount_9 : decode cX5_reusedCount 9 = .ok (.iconst 3, 1) := dk_6 (dk_at dksX5_reusedCount_0 9 rfl rfl)
theorem dX5_reusedCount_10 : decode cX5_reusedCount 10 = .ok (.iaload, 1) := dk_46 (dk_at dksX5_reusedCount_0 10 rfl rfl)
theorem dX5_reusedCount_11 : decode cX5_reusedCount 11 = .ok (.ireturn, 1) := dk_172 (dk_at dksX5_reusedCount_0 11 rfl rfl)
abbrev cX5_minutesSpent : ByteArray := prog_12_method_77_code
def yX5_minutesSpent : MethodName := ⟨RX5, "minutesSpent", "()J"⟩
def dkwX5_minutesSpent_0 : List UInt8 := [42, 3, 181, 0, 39, 42, 180, 0, 7, 7, 46, 133, 173]
abbrev dktX5_minutesSpent_0 : List UInt8 := dkwX5_minutesSpent_0 ++ []
theorem dksX5_minutesSpent_0 : cX5_minutesSpent.data.toList.drop 0 = dktX5_minutesSpent_0 := by decide +kernel
theorem dX5_minutesSpent_0 : decode cX5_minutesSpent 0 = .ok (.aload_n 0, 1) := dk_42 (dk_at dksX5_minutesSpent_0 0 rfl rfl)
theorem dX5_minutesSpent_1 : decode cX5_minutesSpent 1 = .ok (.iconst 0, 1) := dk_3 (dk_at dksX5_minutesSpent_0 1 rfl rfl)
theorem dX5_minutesSpent_2 : decode cX5_minutesSpent 2 = .ok (.putfield 39, 3) := dk_181 0 39 (dk_at dksX5_minutesSpent_0 2 rfl rfl)
theorem dX5_minutesSpent_5 : decode cX5_minutesSpent 5 = .ok (.aload_n 0, 1) := dk_42 (dk_at dksX5_minutesSpent_0 5 rfl rfl)
theorem dX5_minutesSpent_6 : decode cX5_minutesSpent 6 = .ok (.getfield 7, 3) := dk_180 0 7 (dk_at dksX5_minutesSpent_0 6 rfl rfl)
theorem dX5_minutesSpent_9 : decode cX5_minutesSpent 9 = .ok (.iconst 4, 1) := dk_7 (dk_at dksX5_minutesSpent_0 9 rfl rfl)
theorem dX5_minutesSpent_10 : decode cX5_minutesSpent 10 = .ok (.iaload, 1) := dk_46 (dk_at dksX5_minutesSpent_0 10 rfl rfl)
theorem dX5_minutesSpent_11 : decode cX5_minutesSpent 11 = .ok (.i2l, 1) := dk_133 (dk_at dksX5_minutesSpent_0 11 rfl rfl)
theorem dX5_minutesSpent_12 : decode cX5_minutesSpent 12 = .ok (.lreturn, 1) := dk_173 (dk_at dksX5_minutesSpent_0 12 rfl rfl)
abbrev cX5_meanMinutes : ByteArray := prog_12_method_78_code
def yX5_meanMinutes : MethodName := ⟨RX5, "meanMinutes", "()D"⟩
def dkwX5_meanMinutes_2 : List UInt8 := [42, 182, 0, 94, 135, 111, 175]
abbrev dktX5_meanMinutes_2 : List UInt8 := dkwX5_meanMinutes_2 ++ []
def dkwX5_meanMinutes_1 : List UInt8 := [61, 28, 16, 8, 162, 0, 18, 27, 42, 28, 4, 182, 0, 69, 96, 60, 132, 2, 1, 167, 255, 238, 27, 135]
abbrev dktX5_meanMinutes_1 : List UInt8 := dkwX5_meanMinutes_1 ++ dktX5_meanMinutes_2
def dkwX5_meanMinutes_0 : List UInt8 := [42, 42, 182, 0, 94, 154, 0, 7, 4, 167, 0, 4, 3, 182, 0, 83, 153, 0, 5, 14, 175, 3, 60, 3]
abbrev dktX5_meanMinutes_0 : List UInt8 := dkwX5_meanMinutes_0 ++ dktX5_meanMinutes_1
theorem dksX5_meanMinutes_0 : cX5_meanMinutes.data.toList.drop 0 = dktX5_meanMinutes_0 := by decide +kernel
theorem dksX5_meanMinutes_1 : cX5_meanMinutes.data.toList.drop 24 = dktX5_meanMinutes_1 := dk_seg dksX5_meanMinutes_0 24 rfl rfl
theorem dksX5_meanMinutes_2 : cX5_meanMinutes.data.toList.drop 48 = dktX5_meanMinutes_2 := dk_seg dksX5_meanMinutes_1 24 rfl rfl
theorem dX5_meanMinutes_0 : decode cX5_meanMinutes 0 = .ok (.aload_n 0, 1) := dk_42 (dk_at dksX5_meanMinutes_0 0 rfl rfl)
theorem dX5_meanMinutes_1 : decode cX5_meanMinutes 1 = .ok (.aload_n 0, 1) := dk_42 (dk_at dksX5_meanMinutes_0 1 rfl rfl)
theorem dX5_meanMinutes_2 : decode cX5_meanMinutes 2 = .ok (.invokevirtual 94, 3) := dk_182 0 94 (dk_at dksX5_meanMinutes_0 2 rfl rfl)
theorem dX5_meanMinutes_5 : decode cX5_meanMinutes 5 = .ok (.ifCond .ne 7, 3) := dk_154 0 7 (dk_at dksX5_meanMinutes_0 5 rfl rfl)
theorem dX5_meanMinutes_8 : decode cX5_meanMinutes 8 = .ok (.iconst 1, 1) := dk_4 (dk_at dksX5_meanMinutes_0 8 rfl rfl)
theorem dX5_meanMinutes_9 : decode cX5_meanMinutes 9 = .ok (.goto 4, 3) := dk_167 0 4 (dk_at dksX5_meanMinutes_0 9 rfl rfl)
theorem dX5_meanMinutes_12 : decode cX5_meanMinutes 12 = .ok (.iconst 0, 1) := dk_3 (dk_at dksX5_meanMinutes_0 12 rfl rfl)
theorem dX5_meanMinutes_13 : decode cX5_meanMinutes 13 = .ok (.invokevirtual 83, 3) := dk_182 0 83 (dk_at dksX5_meanMinutes_0 13 rfl rfl)
theorem dX5_meanMinutes_16 : decode cX5_meanMinutes 16 = .ok (.ifCond .eq 5, 3) := dk_153 0 5 (dk_at dksX5_meanMinutes_0 16 rfl rfl)
theorem dX5_meanMinutes_19 : decode cX5_meanMinutes 19 = .ok (.dconst 0, 1) := dk_14 (dk_at dksX5_meanMinutes_0 19 rfl rfl)
theorem dX5_meanMinutes_20 : decode cX5_meanMinutes 20 = .ok (.dreturn, 1) := dk_175 (dk_at dksX5_meanMinutes_0 20 rfl rfl)
theorem dX5_meanMinutes_21 : decode cX5_meanMinutes 21 = .ok (.iconst 0, 1) := dk_3 (dk_at dksX5_meanMinutes_0 21 rfl rfl)
theorem dX5_meanMinutes_22 : decode cX5_meanMinutes 22 = .ok (.istore_n 1, 1) := dk_60 (dk_at dksX5_meanMinutes_0 22 rfl rfl)
theorem dX5_meanMinutes_23 : decode cX5_meanMinutes 23 = .ok (.iconst 0, 1) := dk_3 (dk_at dksX5_meanMinutes_0 23 rfl rfl)
theorem dX5_meanMinutes_24 : decode cX5_meanMinutes 24 = .ok (.istore_n 2, 1) := dk_61 (dk_at dksX5_meanMinutes_1 0 rfl rfl)
theorem dX5_meanMinutes_25 : decode cX5_meanMinutes 25 = .ok (.iload_n 2, 1) := dk_28 (dk_at dksX5_meanMinutes_1 1 rfl rfl)
theorem dX5_meanMinutes_26 : decode cX5_meanMinutes 26 = .ok (.bipush 8, 2) := dk_16 8 (dk_at dksX5_meanMinutes_1 2 rfl rfl)
theorem dX5_meanMinutes_28 : decode cX5_meanMinutes 28 = .ok (.if_icmp .ge 18, 3) := dk_162 0 18 (dk_at dksX5_meanMinutes_1 4 rfl rfl)
theorem dX5_meanMinutes_31 : decode cX5_meanMinutes 31 = .ok (.iload_n 1, 1) := dk_27 (dk_at dksX5_meanMinutes_1 7 rfl rfl)
theorem dX5_meanMinutes_32 : decode cX5_meanMinutes 32 = .ok (.aload_n 0, 1) := dk_42 (dk_at dksX5_meanMinutes_1 8 rfl rfl)
theorem dX5_meanMinutes_33 : decode cX5_meanMinutes 33 = .ok (.iload_n 2, 1) := dk_28 (dk_at dksX5_meanMinutes_1 9 rfl rfl)
theorem dX5_meanMinutes_34 : decode cX5_meanMinutes 34 = .ok (.iconst 1, 1) := dk_4 (dk_at dksX5_meanMinutes_1 10 rfl rfl)
theorem dX5_meanMinutes_35 : decode cX5_meanMinutes 35 = .ok (.invokevirtual 69, 3) := dk_182 0 69 (dk_at dksX5_meanMinutes_1 11 rfl rfl)
theorem dX5_meanMinutes_38 : decode cX5_meanMinutes 38 = .ok (.iadd, 1) := dk_96 (dk_at dksX5_meanMinutes_1 14 rfl rfl)
theorem dX5_meanMinutes_39 : decode cX5_meanMinutes 39 = .ok (.istore_n 1, 1) := dk_60 (dk_at dksX5_meanMinutes_1 15 rfl rfl)
theorem dX5_meanMinutes_40 : decode cX5_meanMinutes 40 = .ok (.iinc 2 1, 3) := dk_132 2 1 (dk_at dksX5_meanMinutes_1 16 rfl rfl)
theorem dX5_meanMinutes_43 : decode cX5_meanMinutes 43 = .ok (.goto (-18), 3) := dk_167 255 238 (dk_at dksX5_meanMinutes_1 19 rfl rfl)
theorem dX5_meanMinutes_46 : decode cX5_meanMinutes 46 = .ok (.iload_n 1, 1) := dk_27 (dk_at dksX5_meanMinutes_1 22 rfl rfl)
theorem dX5_meanMinutes_47 : decode cX5_meanMinutes 47 = .ok (.i2d, 1) := dk_135 (dk_at dksX5_meanMinutes_1 23 rfl rfl)
theorem dX5_meanMinutes_48 : decode cX5_meanMinutes 48 = .ok (.aload_n 0, 1) := dk_42 (dk_at dksX5_meanMinutes_2 0 rfl rfl)
theorem dX5_meanMinutes_49 : decode cX5_meanMinutes 49 = .ok (.invokevirtual 94, 3) := dk_182 0 94 (dk_at dksX5_meanMinutes_2 1 rfl rfl)
theorem dX5_meanMinutes_52 : decode cX5_meanMinutes 52 = .ok (.i2d, 1) := dk_135 (dk_at dksX5_meanMinutes_2 4 rfl rfl)
theorem dX5_meanMinutes_53 : decode cX5_meanMinutes 53 = .ok (.ddiv, 1) := dk_111 (dk_at dksX5_meanMinutes_2 5 rfl rfl)
theorem dX5_meanMinutes_54 : decode cX5_meanMinutes 54 = .ok (.dreturn, 1) := dk_175 (dk_at dksX5_meanMinutes_2 6 rfl rfl)
abbrev cX5_reuseShare : ByteArray := prog_12_method_79_code
def yX5_reuseShare : MethodName := ⟨RX5, "reuseShare", "()F"⟩
def dkwX5_reuseShare_1 : List UInt8 := [167, 0, 18, 42, 180, 0, 7, 6, 46, 134, 42, 180, 0, 7, 5, 46, 134, 110, 174]
abbrev dktX5_reuseShare_1 : List UInt8 := dkwX5_reuseShare_1 ++ []
def dkwX5_reuseShare_0 : List UInt8 := [42, 42, 180, 0, 7, 5, 46, 154, 0, 7, 4, 167, 0, 4, 3, 182, 0, 83, 153, 0, 7, 11]
abbrev dktX5_reuseShare_0 : List UInt8 := dkwX5_reuseShare_0 ++ dktX5_reuseShare_1
theorem dksX5_reuseShare_0 : cX5_reuseShare.data.toList.drop 0 = dktX5_reuseShare_0 := by decide +kernel
theorem dksX5_reuseShare_1 : cX5_reuseShare.data.toList.drop 22 = dktX5_reuseShare_1 := dk_seg dksX5_reuseShare_0 22 rfl rfl
theorem dX5_reuseShare_0 : decode cX5_reuseShare 0 = .ok (.aload_n 0, 1) := dk_42 (dk_at dksX5_reuseShare_0 0 rfl rfl)
theorem dX5_reuseShare_1 : decode cX5_reuseShare 1 = .ok (.aload_n 0, 1) := dk_42 (dk_at dksX5_reuseShare_0 1 rfl rfl)
theorem dX5_reuseShare_2 : decode cX5_reuseShare 2 = .ok (.getfield 7, 3) := dk_180 0 7 (dk_at dksX5_reuseShare_0 2 rfl rfl)
theorem dX5_reuseShare_5 : decode cX5_reuseShare 5 = .ok (.iconst 2, 1) := dk_5 (dk_at dksX5_reuseShare_0 5 rfl rfl)
theorem dX5_reuseShare_6 : decode cX5_reuseShare 6 = .ok (.iaload, 1) := dk_46 (dk_at dksX5_reuseShare_0 6 rfl rfl)
theorem dX5_reuseShare_7 : decode cX5_reuseShare 7 = .ok (.ifCond .ne 7, 3) := dk_154 0 7 (dk_at dksX5_reuseShare_0 7 rfl rfl)
theorem dX5_reuseShare_10 : decode cX5_reuseShare 10 = .ok (.iconst 1, 1) := dk_4 (dk_at dksX5_reuseShare_0 10 rfl rfl)
theorem dX5_reuseShare_11 : decode cX5_reuseShare 11 = .ok (.goto 4, 3) := dk_167 0 4 (dk_at dksX5_reuseShare_0 11 rfl rfl)
theorem dX5_reuseShare_14 : decode cX5_reuseShare 14 = .ok (.iconst 0, 1) := dk_3 (dk_at dksX5_reuseShare_0 14 rfl rfl)
theorem dX5_reuseShare_15 : decode cX5_reuseShare 15 = .ok (.invokevirtual 83, 3) := dk_182 0 83 (dk_at dksX5_reuseShare_0 15 rfl rfl)
theorem dX5_reuseShare_18 : decode cX5_reuseShare 18 = .ok (.ifCond .eq 7, 3) := dk_153 0 7 (dk_at dksX5_reuseShare_0 18 rfl rfl)
theorem dX5_reuseShare_21 : decode cX5_reuseShare 21 = .ok (.fconst 0, 1) := dk_11 (dk_at dksX5_reuseShare_0 21 rfl rfl)
theorem dX5_reuseShare_22 : decode cX5_reuseShare 22 = .ok (.goto 18, 3) := dk_167 0 18 (dk_at dksX5_reuseShare_1 0 rfl rfl)
theorem dX5_reuseShare_25 : decode cX5_reuseShare 25 = .ok (.aload_n 0, 1) := dk_42 (dk_at dksX5_reuseShare_1 3 rfl rfl)
theorem dX5_reuseShare_26 : decode cX5_reuseShare 26 = .ok (.getfield 7, 3) := dk_180 0 7 (dk_at dksX5_reuseShare_1 4 rfl rfl)
theorem dX5_reuseShare_29 : decode cX5_reuseShare 29 = .ok (.iconst 3, 1) := dk_6 (dk_at dksX5_reuseShare_1 7 rfl rfl)
theorem dX5_reuseShare_30 : decode cX5_reuseShare 30 = .ok (.iaload, 1) := dk_46 (dk_at dksX5_reuseShare_1 8 rfl rfl)
theorem dX5_reuseShare_31 : decode cX5_reuseShare 31 = .ok (.i2f, 1) := dk_134 (dk_at dksX5_reuseShare_1 9 rfl rfl)
theorem dX5_reuseShare_32 : decode cX5_reuseShare 32 = .ok (.aload_n 0, 1) := dk_42 (dk_at dksX5_reuseShare_1 10 rfl rfl)
theorem dX5_reuseShare_33 : decode cX5_reuseShare 33 = .ok (.getfield 7, 3) := dk_180 0 7 (dk_at dksX5_reuseShare_1 11 rfl rfl)
theorem dX5_reuseShare_36 : decode cX5_reuseShare 36 = .ok (.iconst 2, 1) := dk_5 (dk_at dksX5_reuseShare_1 14 rfl rfl)
theorem dX5_reuseShare_37 : decode cX5_reuseShare 37 = .ok (.iaload, 1) := dk_46 (dk_at dksX5_reuseShare_1 15 rfl rfl)
theorem dX5_reuseShare_38 : decode cX5_reuseShare 38 = .ok (.i2f, 1) := dk_134 (dk_at dksX5_reuseShare_1 16 rfl rfl)
theorem dX5_reuseShare_39 : decode cX5_reuseShare 39 = .ok (.fdiv, 1) := dk_110 (dk_at dksX5_reuseShare_1 17 rfl rfl)
theorem dX5_reuseShare_40 : decode cX5_reuseShare 40 = .ok (.freturn, 1) := dk_174 (dk_at dksX5_reuseShare_1 18 rfl rfl)
abbrev cX5_refusalReason : ByteArray := prog_12_method_80_code
def yX5_refusalReason : MethodName := ⟨RX5, "refusalReason", "()I"⟩
def dkwX5_refusalReason_1 : List UInt8 := [180, 0, 46, 172]
abbrev dktX5_refusalReason_1 : List UInt8 := dkwX5_refusalReason_1 ++ []
def dkwX5_refusalReason_0 : List UInt8 := [42, 42, 180, 0, 46, 154, 0, 7, 4, 167, 0, 4, 3, 182, 0, 83, 153, 0, 7, 3, 167, 0, 7, 42]
abbrev dktX5_refusalReason_0 : List UInt8 := dkwX5_refusalReason_0 ++ dktX5_refusalReason_1
theorem dksX5_refusalReason_0 : cX5_refusalReason.data.toList.drop 0 = dktX5_refusalReason_0 := by decide +kernel
theorem dksX5_refusalReason_1 : cX5_refusalReason.data.toList.drop 24 = dktX5_refusalReason_1 := dk_seg dksX5_refusalReason_0 24 rfl rfl
theorem dX5_refusalReason_0 : decode cX5_refusalReason 0 = .ok (.aload_n 0, 1) := dk_42 (dk_at dksX5_refusalReason_0 0 rfl rfl)
theorem dX5_refusalReason_1 : decode cX5_refusalReason 1 = .ok (.aload_n 0, 1) := dk_42 (dk_at dksX5_refusalReason_0 1 rfl rfl)
theorem dX5_refusalReason_2 : decode cX5_refusalReason 2 = .ok (.getfield 46, 3) := dk_180 0 46 (dk_at dksX5_refusalReason_0 2 rfl rfl)
theorem dX5_refusalReason_5 : decode cX5_refusalReason 5 = .ok (.ifCond .ne 7, 3) := dk_154 0 7 (dk_at dksX5_refusalReason_0 5 rfl rfl)
theorem dX5_refusalReason_8 : decode cX5_refusalReason 8 = .ok (.iconst 1, 1) := dk_4 (dk_at dksX5_refusalReason_0 8 rfl rfl)
theorem dX5_refusalReason_9 : decode cX5_refusalReason 9 = .ok (.goto 4, 3) := dk_167 0 4 (dk_at dksX5_refusalReason_0 9 rfl rfl)
theorem dX5_refusalReason_12 : decode cX5_refusalReason 12 = .ok (.iconst 0, 1) := dk_3 (dk_at dksX5_refusalReason_0 12 rfl rfl)
theorem dX5_refusalReason_13 : decode cX5_refusalReason 13 = .ok (.invokevirtual 83, 3) := dk_182 0 83 (dk_at dksX5_refusalReason_0 13 rfl rfl)
theorem dX5_refusalReason_16 : decode cX5_refusalReason 16 = .ok (.ifCond .eq 7, 3) := dk_153 0 7 (dk_at dksX5_refusalReason_0 16 rfl rfl)
theorem dX5_refusalReason_19 : decode cX5_refusalReason 19 = .ok (.iconst 0, 1) := dk_3 (dk_at dksX5_refusalReason_0 19 rfl rfl)
theorem dX5_refusalReason_20 : decode cX5_refusalReason 20 = .ok (.goto 7, 3) := dk_167 0 7 (dk_at dksX5_refusalReason_0 20 rfl rfl)
theorem dX5_refusalReason_23 : decode cX5_refusalReason 23 = .ok (.aload_n 0, 1) := dk_42 (dk_at dksX5_refusalReason_0 23 rfl rfl)
theorem dX5_refusalReason_24 : decode cX5_refusalReason 24 = .ok (.getfield 46, 3) := dk_180 0 46 (dk_at dksX5_refusalReason_1 0 rfl rfl)
theorem dX5_refusalReason_27 : decode cX5_refusalReason 27 = .ok (.ireturn, 1) := dk_172 (dk_at dksX5_refusalReason_1 3 rfl rfl)
abbrev cX5_refusalDetail : ByteArray := prog_12_method_81_code
def yX5_refusalDetail : MethodName := ⟨RX5, "refusalDetail", "()I"⟩
def dkwX5_refusalDetail_1 : List UInt8 := [180, 0, 49, 172]
abbrev dktX5_refusalDetail_1 : List UInt8 := dkwX5_refusalDetail_1 ++ []
def dkwX5_refusalDetail_0 : List UInt8 := [42, 42, 180, 0, 46, 154, 0, 7, 4, 167, 0, 4, 3, 182, 0, 83, 153, 0, 7, 3, 167, 0, 7, 42]
abbrev dktX5_refusalDetail_0 : List UInt8 := dkwX5_refusalDetail_0 ++ dktX5_refusalDetail_1
theorem dksX5_refusalDetail_0 : cX5_refusalDetail.data.toList.drop 0 = dktX5_refusalDetail_0 := by decide +kernel
theorem dksX5_refusalDetail_1 : cX5_refusalDetail.data.toList.drop 24 = dktX5_refusalDetail_1 := dk_seg dksX5_refusalDetail_0 24 rfl rfl
theorem dX5_refusalDetail_0 : decode cX5_refusalDetail 0 = .ok (.aload_n 0, 1) := dk_42 (dk_at dksX5_refusalDetail_0 0 rfl rfl)
theorem dX5_refusalDetail_1 : decode cX5_refusalDetail 1 = .ok (.aload_n 0, 1) := dk_42 (dk_at dksX5_refusalDetail_0 1 rfl rfl)
theorem dX5_refusalDetail_2 : decode cX5_refusalDetail 2 = .ok (.getfield 46, 3) := dk_180 0 46 (dk_at dksX5_refusalDetail_0 2 rfl rfl)
theorem dX5_refusalDetail_5 : decode cX5_refusalDetail 5 = .ok (.ifCond .ne 7, 3) := dk_154 0 7 (dk_at dksX5_refusalDetail_0 5 rfl rfl)
theorem dX5_refusalDetail_8 : decode cX5_refusalDetail 8 = .ok (.iconst 1, 1) := dk_4 (dk_at dksX5_refusalDetail_0 8 rfl rfl)
theorem dX5_refusalDetail_9 : decode cX5_refusalDetail 9 = .ok (.goto 4, 3) := dk_167 0 4 (dk_at dksX5_refusalDetail_0 9 rfl rfl)
theorem dX5_refusalDetail_12 : decode cX5_refusalDetail 12 = .ok (.iconst 0, 1) := dk_3 (dk_at dksX5_refusalDetail_0 12 rfl rfl)
theorem dX5_refusalDetail_13 : decode cX5_refusalDetail 13 = .ok (.invokevirtual 83, 3) := dk_182 0 83 (dk_at dksX5_refusalDetail_0 13 rfl rfl)
theorem dX5_refusalDetail_16 : decode cX5_refusalDetail 16 = .ok (.ifCond .eq 7, 3) := dk_153 0 7 (dk_at dksX5_refusalDetail_0 16 rfl rfl)
theorem dX5_refusalDetail_19 : decode cX5_refusalDetail 19 = .ok (.iconst 0, 1) := dk_3 (dk_at dksX5_refusalDetail_0 19 rfl rfl)
theorem dX5_refusalDetail_20 : decode cX5_refusalDetail 20 = .ok (.goto 7, 3) := dk_167 0 7 (dk_at dksX5_refusalDetail_0 20 rfl rfl)
theorem dX5_refusalDetail_23 : decode cX5_refusalDetail 23 = .ok (.aload_n 0, 1) := dk_42 (dk_at dksX5_refusalDetail_0 23 rfl rfl)
theorem dX5_refusalDetail_24 : decode cX5_refusalDetail 24 = .ok (.getfield 49, 3) := dk_180 0 49 (dk_at dksX5_refusalDetail_1 0 rfl rfl)
theorem dX5_refusalDetail_27 : decode cX5_refusalDetail 27 = .ok (.ireturn, 1) := dk_172 (dk_at dksX5_refusalDetail_1 3 rfl rfl)
abbrev cX5_refusalCause : ByteArray := prog_12_method_82_code
def yX5_refusalCause : MethodName := ⟨RX5, "refusalCause", "()I"⟩
def dkwX5_refusalCause_1 : List UInt8 := [180, 0, 52, 172]
abbrev dktX5_refusalCause_1 : List UInt8 := dkwX5_refusalCause_1 ++ []
def dkwX5_refusalCause_0 : List UInt8 := [42, 42, 180, 0, 52, 154, 0, 7, 4, 167, 0, 4, 3, 182, 0, 83, 153, 0, 7, 3, 167, 0, 7, 42]
abbrev dktX5_refusalCause_0 : List UInt8 := dkwX5_refusalCause_0 ++ dktX5_refusalCause_1
theorem dksX5_refusalCause_0 : cX5_refusalCause.data.toList.drop 0 = dktX5_refusalCause_0 := by decide +kernel
theorem dksX5_refusalCause_1 : cX5_refusalCause.data.toList.drop 24 = dktX5_refusalCause_1 := dk_seg dksX5_refusalCause_0 24 rfl rfl
theorem dX5_refusalCause_0 : decode cX5_refusalCause 0 = .ok (.aload_n 0, 1) := dk_42 (dk_at dksX5_refusalCause_0 0 rfl rfl)
theorem dX5_refusalCause_1 : decode cX5_refusalCause 1 = .ok (.aload_n 0, 1) := dk_42 (dk_at dksX5_refusalCause_0 1 rfl rfl)
theorem dX5_refusalCause_2 : decode cX5_refusalCause 2 = .ok (.getfield 52, 3) := dk_180 0 52 (dk_at dksX5_refusalCause_0 2 rfl rfl)
theorem dX5_refusalCause_5 : decode cX5_refusalCause 5 = .ok (.ifCond .ne 7, 3) := dk_154 0 7 (dk_at dksX5_refusalCause_0 5 rfl rfl)
theorem dX5_refusalCause_8 : decode cX5_refusalCause 8 = .ok (.iconst 1, 1) := dk_4 (dk_at dksX5_refusalCause_0 8 rfl rfl)
theorem dX5_refusalCause_9 : decode cX5_refusalCause 9 = .ok (.goto 4, 3) := dk_167 0 4 (dk_at dksX5_refusalCause_0 9 rfl rfl)
theorem dX5_refusalCause_12 : decode cX5_refusalCause 12 = .ok (.iconst 0, 1) := dk_3 (dk_at dksX5_refusalCause_0 12 rfl rfl)
theorem dX5_refusalCause_13 : decode cX5_refusalCause 13 = .ok (.invokevirtual 83, 3) := dk_182 0 83 (dk_at dksX5_refusalCause_0 13 rfl rfl)
theorem dX5_refusalCause_16 : decode cX5_refusalCause 16 = .ok (.ifCond .eq 7, 3) := dk_153 0 7 (dk_at dksX5_refusalCause_0 16 rfl rfl)
theorem dX5_refusalCause_19 : decode cX5_refusalCause 19 = .ok (.iconst 0, 1) := dk_3 (dk_at dksX5_refusalCause_0 19 rfl rfl)
theorem dX5_refusalCause_20 : decode cX5_refusalCause 20 = .ok (.goto 7, 3) := dk_167 0 7 (dk_at dksX5_refusalCause_0 20 rfl rfl)
theorem dX5_refusalCause_23 : decode cX5_refusalCause 23 = .ok (.aload_n 0, 1) := dk_42 (dk_at dksX5_refusalCause_0 23 rfl rfl)
theorem dX5_refusalCause_24 : decode cX5_refusalCause 24 = .ok (.getfield 52, 3) := dk_180 0 52 (dk_at dksX5_refusalCause_1 0 rfl rfl)
theorem dX5_refusalCause_27 : decode cX5_refusalCause 27 = .ok (.ireturn, 1) := dk_172 (dk_at dksX5_refusalCause_1 3 rfl rfl)
abbrev cX5_writeRecipe : ByteArray := prog_12_method_85_code
def yX5_writeRecipe : MethodName := ⟨RX5, "writeRecipe", "(C)I"⟩
def dkwX5_writeRecipe_5 : List UInt8 := [28, 16, 6, 182, 0, 69, 4, 100, 184, 0, 124, 182, 0, 203, 42, 180, 0, 196, 172]
abbrev dktX5_writeRecipe_5 : List UInt8 := dkwX5_writeRecipe_5 ++ []
def dkwX5_writeRecipe_4 : List UInt8 := [132, 3, 1, 167, 255, 209, 42, 28, 16, 6, 182, 0, 69, 158, 0, 25, 42, 16, 62, 182, 0, 203, 42, 42]
abbrev dktX5_writeRecipe_4 : List UInt8 := dkwX5_writeRecipe_4 ++ dktX5_writeRecipe_5
def dkwX5_writeRecipe_3 : List UInt8 := [154, 0, 9, 42, 16, 63, 182, 0, 203, 42, 42, 28, 29, 182, 0, 107, 184, 0, 124, 182, 0, 203]
abbrev dktX5_writeRecipe_3 : List UInt8 := dkwX5_writeRecipe_3 ++ dktX5_writeRecipe_4
def dkwX5_writeRecipe_2 : List UInt8 := [62, 29, 42, 28, 5, 182, 0, 69, 162, 0, 43, 42, 16, 32, 182, 0, 203, 42, 28, 29, 182, 0, 128]
abbrev dktX5_writeRecipe_2 : List UInt8 := dkwX5_writeRecipe_2 ++ dktX5_writeRecipe_3
def dkwX5_writeRecipe_1 : List UInt8 := [182, 0, 203, 42, 42, 28, 3, 182, 0, 69, 182, 0, 203, 42, 42, 28, 4, 182, 0, 69, 182, 0, 199, 3]
abbrev dktX5_writeRecipe_1 : List UInt8 := dkwX5_writeRecipe_1 ++ dktX5_writeRecipe_2
def dkwX5_writeRecipe_0 : List UInt8 := [42, 27, 182, 0, 98, 153, 0, 5, 3, 172, 27, 16, 97, 100, 61, 42, 3, 181, 0, 196, 42, 27]
abbrev dktX5_writeRecipe_0 : List UInt8 := dkwX5_writeRecipe_0 ++ dktX5_writeRecipe_1
theorem dksX5_writeRecipe_0 : cX5_writeRecipe.data.toList.drop 0 = dktX5_writeRecipe_0 := by decide +kernel
theorem dksX5_writeRecipe_1 : cX5_writeRecipe.data.toList.drop 22 = dktX5_writeRecipe_1 := dk_seg dksX5_writeRecipe_0 22 rfl rfl
theorem dksX5_writeRecipe_2 : cX5_writeRecipe.data.toList.drop 46 = dktX5_writeRecipe_2 := dk_seg dksX5_writeRecipe_1 24 rfl rfl
theorem dksX5_writeRecipe_3 : cX5_writeRecipe.data.toList.drop 69 = dktX5_writeRecipe_3 := dk_seg dksX5_writeRecipe_2 23 rfl rfl
theorem dksX5_writeRecipe_4 : cX5_writeRecipe.data.toList.drop 91 = dktX5_writeRecipe_4 := dk_seg dksX5_writeRecipe_3 22 rfl rfl
theorem dksX5_writeRecipe_5 : cX5_writeRecipe.data.toList.drop 115 = dktX5_writeRecipe_5 := dk_seg dksX5_writeRecipe_4 24 rfl rfl
theorem dX5_writeRecipe_0 : decode cX5_writeRecipe 0 = .ok (.aload_n 0, 1) := dk_42 (dk_at dksX5_writeRecipe_0 0 rfl rfl)
theorem dX5_writeRecipe_1 : decode cX5_writeRecipe 1 = .ok (.iload_n 1, 1) := dk_27 (dk_at dksX5_writeRecipe_0 1 rfl rfl)
theorem dX5_writeRecipe_2 : decode cX5_writeRecipe 2 = .ok (.invokevirtual 98, 3) := dk_182 0 98 (dk_at dksX5_writeRecipe_0 2 rfl rfl)
theorem dX5_writeRecipe_5 : decode cX5_writeRecipe 5 = .ok (.ifCond .eq 5, 3) := dk_153 0 5 (dk_at dksX5_writeRecipe_0 5 rfl rfl)
theorem dX5_writeRecipe_8 : decode cX5_writeRecipe 8 = .ok (.iconst 0, 1) := dk_3 (dk_at dksX5_writeRecipe_0 8 rfl rfl)
theorem dX5_writeRecipe_9 : decode cX5_writeRecipe 9 = .ok (.ireturn, 1) := dk_172 (dk_at dksX5_writeRecipe_0 9 rfl rfl)
theorem dX5_writeRecipe_10 : decode cX5_writeRecipe 10 = .ok (.iload_n 1, 1) := dk_27 (dk_at dksX5_writeRecipe_0 10 rfl rfl)
theorem dX5_writeRecipe_11 : decode cX5_writeRecipe 11 = .ok (.bipush 97, 2) := dk_16 97 (dk_at dksX5_writeRecipe_0 11 rfl rfl)
theorem dX5_writeRecipe_13 : decode cX5_writeRecipe 13 = .ok (.isub, 1) := dk_100 (dk_at dksX5_writeRecipe_0 13 rfl rfl)
theorem dX5_writeRecipe_14 : decode cX5_writeRecipe 14 = .ok (.istore_n 2, 1) := dk_61 (dk_at dksX5_writeRecipe_0 14 rfl rfl)
theorem dX5_writeRecipe_15 : decode cX5_writeRecipe 15 = .ok (.aload_n 0, 1) := dk_42 (dk_at dksX5_writeRecipe_0 15 rfl rfl)
theorem dX5_writeRecipe_16 : decode cX5_writeRecipe 16 = .ok (.iconst 0, 1) := dk_3 (dk_at dksX5_writeRecipe_0 16 rfl rfl)
theorem dX5_writeRecipe_17 : decode cX5_writeRecipe 17 = .ok (.putfield 196, 3) := dk_181 0 196 (dk_at dksX5_writeRecipe_0 17 rfl rfl)
theorem dX5_writeRecipe_20 : decode cX5_writeRecipe 20 = .ok (.aload_n 0, 1) := dk_42 (dk_at dksX5_writeRecipe_0 20 rfl rfl)
theorem dX5_writeRecipe_21 : decode cX5_writeRecipe 21 = .ok (.iload_n 1, 1) := dk_27 (dk_at dksX5_writeRecipe_0 21 rfl rfl)
theorem dX5_writeRecipe_22 : decode cX5_writeRecipe 22 = .ok (.invokevirtual 203, 3) := dk_182 0 203 (dk_at dksX5_writeRecipe_1 0 rfl rfl)
theorem dX5_writeRecipe_25 : decode cX5_writeRecipe 25 = .ok (.aload_n 0, 1) := dk_42 (dk_at dksX5_writeRecipe_1 3 rfl rfl)
theorem dX5_writeRecipe_26 : decode cX5_writeRecipe 26 = .ok (.aload_n 0, 1) := dk_42 (dk_at dksX5_writeRecipe_1 4 rfl rfl)
theorem dX5_writeRecipe_27 : decode cX5_writeRecipe 27 = .ok (.iload_n 2, 1) := dk_28 (dk_at dksX5_writeRecipe_1 5 rfl rfl)
theorem dX5_writeRecipe_28 : decode cX5_writeRecipe 28 = .ok (.iconst 0, 1) := dk_3 (dk_at dksX5_writeRecipe_1 6 rfl rfl)
theorem dX5_writeRecipe_29 : decode cX5_writeRecipe 29 = .ok (.invokevirtual 69, 3) := dk_182 0 69 (dk_at dksX5_writeRecipe_1 7 rfl rfl)
theorem dX5_writeRecipe_32 : decode cX5_writeRecipe 32 = .ok (.invokevirtual 203, 3) := dk_182 0 203 (dk_at dksX5_writeRecipe_1 10 rfl rfl)
theorem dX5_writeRecipe_35 : decode cX5_writeRecipe 35 = .ok (.aload_n 0, 1) := dk_42 (dk_at dksX5_writeRecipe_1 13 rfl rfl)
theorem dX5_writeRecipe_36 : decode cX5_writeRecipe 36 = .ok (.aload_n 0, 1) := dk_42 (dk_at dksX5_writeRecipe_1 14 rfl rfl)
theorem dX5_writeRecipe_37 : decode cX5_writeRecipe 37 = .ok (.iload_n 2, 1) := dk_28 (dk_at dksX5_writeRecipe_1 15 rfl rfl)
theorem dX5_writeRecipe_38 : decode cX5_writeRecipe 38 = .ok (.iconst 1, 1) := dk_4 (dk_at dksX5_writeRecipe_1 16 rfl rfl)
theorem dX5_writeRecipe_39 : decode cX5_writeRecipe 39 = .ok (.invokevirtual 69, 3) := dk_182 0 69 (dk_at dksX5_writeRecipe_1 17 rfl rfl)
theorem dX5_writeRecipe_42 : decode cX5_writeRecipe 42 = .ok (.invokevirtual 199, 3) := dk_182 0 199 (dk_at dksX5_writeRecipe_1 20 rfl rfl)
theorem dX5_writeRecipe_45 : decode cX5_writeRecipe 45 = .ok (.iconst 0, 1) := dk_3 (dk_at dksX5_writeRecipe_1 23 rfl rfl)
theorem dX5_writeRecipe_46 : decode cX5_writeRecipe 46 = .ok (.istore_n 3, 1) := dk_62 (dk_at dksX5_writeRecipe_2 0 rfl rfl)
theorem dX5_writeRecipe_47 : decode cX5_writeRecipe 47 = .ok (.iload_n 3, 1) := dk_29 (dk_at dksX5_writeRecipe_2 1 rfl rfl)
theorem dX5_writeRecipe_48 : decode cX5_writeRecipe 48 = .ok (.aload_n 0, 1) := dk_42 (dk_at dksX5_writeRecipe_2 2 rfl rfl)
theorem dX5_writeRecipe_49 : decode cX5_writeRecipe 49 = .ok (.iload_n 2, 1) := dk_28 (dk_at dksX5_writeRecipe_2 3 rfl rfl)
theorem dX5_writeRecipe_50 : decode cX5_writeRecipe 50 = .ok (.iconst 2, 1) := dk_5 (dk_at dksX5_writeRecipe_2 4 rfl rfl)
theorem dX5_writeRecipe_51 : decode cX5_writeRecipe 51 = .ok (.invokevirtual 69, 3) := dk_182 0 69 (dk_at dksX5_writeRecipe_2 5 rfl rfl)
theorem dX5_writeRecipe_54 : decode cX5_writeRecipe 54 = .ok (.if_icmp .ge 43, 3) := dk_162 0 43 (dk_at dksX5_writeRecipe_2 8 rfl rfl)
theorem dX5_writeRecipe_57 : decode cX5_writeRecipe 57 = .ok (.aload_n 0, 1) := dk_42 (dk_at dksX5_writeRecipe_2 11 rfl rfl)
theorem dX5_writeRecipe_58 : decode cX5_writeRecipe 58 = .ok (.bipush 32, 2) := dk_16 32 (dk_at dksX5_writeRecipe_2 12 rfl rfl)
theorem dX5_writeRecipe_60 : decode cX5_writeRecipe 60 = .ok (.invokevirtual 203, 3) := dk_182 0 203 (dk_at dksX5_writeRecipe_2 14 rfl rfl)
theorem dX5_writeRecipe_63 : decode cX5_writeRecipe 63 = .ok (.aload_n 0, 1) := dk_42 (dk_at dksX5_writeRecipe_2 17 rfl rfl)
theorem dX5_writeRecipe_64 : decode cX5_writeRecipe 64 = .ok (.iload_n 2, 1) := dk_28 (dk_at dksX5_writeRecipe_2 18 rfl rfl)
theorem dX5_writeRecipe_65 : decode cX5_writeRecipe 65 = .ok (.iload_n 3, 1) := dk_29 (dk_at dksX5_writeRecipe_2 19 rfl rfl)
theorem dX5_writeRecipe_66 : decode cX5_writeRecipe 66 = .ok (.invokevirtual 128, 3) := dk_182 0 128 (dk_at dksX5_writeRecipe_2 20 rfl rfl)
theorem dX5_writeRecipe_69 : decode cX5_writeRecipe 69 = .ok (.ifCond .ne 9, 3) := dk_154 0 9 (dk_at dksX5_writeRecipe_3 0 rfl rfl)
theorem dX5_writeRecipe_72 : decode cX5_writeRecipe 72 = .ok (.aload_n 0, 1) := dk_42 (dk_at dksX5_writeRecipe_3 3 rfl rfl)
theorem dX5_writeRecipe_73 : decode cX5_writeRecipe 73 = .ok (.bipush 63, 2) := dk_16 63 (dk_at dksX5_writeRecipe_3 4 rfl rfl)
theorem dX5_writeRecipe_75 : decode cX5_writeRecipe 75 = .ok (.invokevirtual 203, 3) := dk_182 0 203 (dk_at dksX5_writeRecipe_3 6 rfl rfl)
theorem dX5_writeRecipe_78 : decode cX5_writeRecipe 78 = .ok (.aload_n 0, 1) := dk_42 (dk_at dksX5_writeRecipe_3 9 rfl rfl)
theorem dX5_writeRecipe_79 : decode cX5_writeRecipe 79 = .ok (.aload_n 0, 1) := dk_42 (dk_at dksX5_writeRecipe_3 10 rfl rfl)
theorem dX5_writeRecipe_80 : decode cX5_writeRecipe 80 = .ok (.iload_n 2, 1) := dk_28 (dk_at dksX5_writeRecipe_3 11 rfl rfl)
theorem dX5_writeRecipe_81 : decode cX5_writeRecipe 81 = .ok (.iload_n 3, 1) := dk_29 (dk_at dksX5_writeRecipe_3 12 rfl rfl)
theorem dX5_writeRecipe_82 : decode cX5_writeRecipe 82 = .ok (.invokevirtual 107, 3) := dk_182 0 107 (dk_at dksX5_writeRecipe_3 13 rfl rfl)
theorem dX5_writeRecipe_85 : decode cX5_writeRecipe 85 = .ok (.invokestatic 124, 3) := dk_184 0 124 (dk_at dksX5_writeRecipe_3 16 rfl rfl)
theorem dX5_writeRecipe_88 : decode cX5_writeRecipe 88 = .ok (.invokevirtual 203, 3) := dk_182 0 203 (dk_at dksX5_writeRecipe_3 19 rfl rfl)
theorem dX5_writeRecipe_91 : decode cX5_writeRecipe 91 = .ok (.iinc 3 1, 3) := dk_132 3 1 (dk_at dksX5_writeRecipe_4 0 rfl rfl)
theorem dX5_writeRecipe_94 : decode cX5_writeRecipe 94 = .ok (.goto (-47), 3) := dk_167 255 209 (dk_at dksX5_writeRecipe_4 3 rfl rfl)
theorem dX5_writeRecipe_97 : decode cX5_writeRecipe 97 = .ok (.aload_n 0, 1) := dk_42 (dk_at dksX5_writeRecipe_4 6 rfl rfl)
theorem dX5_writeRecipe_98 : decode cX5_writeRecipe 98 = .ok (.iload_n 2, 1) := dk_28 (dk_at dksX5_writeRecipe_4 7 rfl rfl)
theorem dX5_writeRecipe_99 : decode cX5_writeRecipe 99 = .ok (.bipush 6, 2) := dk_16 6 (dk_at dksX5_writeRecipe_4 8 rfl rfl)
theorem dX5_writeRecipe_101 : decode cX5_writeRecipe 101 = .ok (.invokevirtual 69, 3) := dk_182 0 69 (dk_at dksX5_writeRecipe_4 10 rfl rfl)
theorem dX5_writeRecipe_104 : decode cX5_writeRecipe 104 = .ok (.ifCond .le 25, 3) := dk_158 0 25 (dk_at dksX5_writeRecipe_4 13 rfl rfl)
theorem dX5_writeRecipe_107 : decode cX5_writeRecipe 107 = .ok (.aload_n 0, 1) := dk_42 (dk_at dksX5_writeRecipe_4 16 rfl rfl)
theorem dX5_writeRecipe_108 : decode cX5_writeRecipe 108 = .ok (.bipush 62, 2) := dk_16 62 (dk_at dksX5_writeRecipe_4 17 rfl rfl)
theorem dX5_writeRecipe_110 : decode cX5_writeRecipe 110 = .ok (.invokevirtual 203, 3) := dk_182 0 203 (dk_at dksX5_writeRecipe_4 19 rfl rfl)
theorem dX5_writeRecipe_113 : decode cX5_writeRecipe 113 = .ok (.aload_n 0, 1) := dk_42 (dk_at dksX5_writeRecipe_4 22 rfl rfl)
theorem dX5_writeRecipe_114 : decode cX5_writeRecipe 114 = .ok (.aload_n 0, 1) := dk_42 (dk_at dksX5_writeRecipe_4 23 rfl rfl)
theorem dX5_writeRecipe_115 : decode cX5_writeRecipe 115 = .ok (.iload_n 2, 1) := dk_28 (dk_at dksX5_writeRecipe_5 0 rfl rfl)
theorem dX5_writeRecipe_116 : decode cX5_writeRecipe 116 = .ok (.bipush 6, 2) := dk_16 6 (dk_at dksX5_writeRecipe_5 1 rfl rfl)
theorem dX5_writeRecipe_118 : decode cX5_writeRecipe 118 = .ok (.invokevirtual 69, 3) := dk_182 0 69 (dk_at dksX5_writeRecipe_5 3 rfl rfl)
theorem dX5_writeRecipe_121 : decode cX5_writeRecipe 121 = .ok (.iconst 1, 1) := dk_4 (dk_at dksX5_writeRecipe_5 6 rfl rfl)
theorem dX5_writeRecipe_122 : decode cX5_writeRecipe 122 = .ok (.isub, 1) := dk_100 (dk_at dksX5_writeRecipe_5 7 rfl rfl)
theorem dX5_writeRecipe_123 : decode cX5_writeRecipe 123 = .ok (.invokestatic 124, 3) := dk_184 0 124 (dk_at dksX5_writeRecipe_5 8 rfl rfl)
theorem dX5_writeRecipe_126 : decode cX5_writeRecipe 126 = .ok (.invokevirtual 203, 3) := dk_182 0 203 (dk_at dksX5_writeRecipe_5 11 rfl rfl)
theorem dX5_writeRecipe_129 : decode cX5_writeRecipe 129 = .ok (.aload_n 0, 1) := dk_42 (dk_at dksX5_writeRecipe_5 14 rfl rfl)
theorem dX5_writeRecipe_130 : decode cX5_writeRecipe 130 = .ok (.getfield 196, 3) := dk_180 0 196 (dk_at dksX5_writeRecipe_5 15 rfl rfl)
theorem dX5_writeRecipe_133 : decode cX5_writeRecipe 133 = .ok (.ireturn, 1) := dk_172 (dk_at dksX5_writeRecipe_5 18 rfl rfl)
abbrev cX5_writes : ByteArray := prog_12_method_83_code
def yX5_writes : MethodName := ⟨RX5, "writes", "(I)V"⟩
def dkwX5_writes_0 : List UInt8 := [42, 180, 0, 29, 42, 180, 0, 196, 27, 146, 85, 42, 89, 180, 0, 196, 4, 96, 181, 0, 196, 177]
abbrev dktX5_writes_0 : List UInt8 := dkwX5_writes_0 ++ []
theorem dksX5_writes_0 : cX5_writes.data.toList.drop 0 = dktX5_writes_0 := by decide +kernel
theorem dX5_writes_0 : decode cX5_writes 0 = .ok (.aload_n 0, 1) := dk_42 (dk_at dksX5_writes_0 0 rfl rfl)
theorem dX5_writes_1 : decode cX5_writes 1 = .ok (.getfield 29, 3) := dk_180 0 29 (dk_at dksX5_writes_0 1 rfl rfl)
theorem dX5_writes_4 : decode cX5_writes 4 = .ok (.aload_n 0, 1) := dk_42 (dk_at dksX5_writes_0 4 rfl rfl)
theorem dX5_writes_5 : decode cX5_writes 5 = .ok (.getfield 196, 3) := dk_180 0 196 (dk_at dksX5_writes_0 5 rfl rfl)
theorem dX5_writes_8 : decode cX5_writes 8 = .ok (.iload_n 1, 1) := dk_27 (dk_at dksX5_writes_0 8 rfl rfl)
theorem dX5_writes_9 : decode cX5_writes 9 = .ok (.i2c, 1) := dk_146 (dk_at dksX5_writes_0 9 rfl rfl)
theorem dX5_writes_10 : decode cX5_writes 10 = .ok (.castore, 1) := dk_85 (dk_at dksX5_writes_0 10 rfl rfl)
theorem dX5_writes_11 : decode cX5_writes 11 = .ok (.aload_n 0, 1) := dk_42 (dk_at dksX5_writes_0 11 rfl rfl)
theorem dX5_writes_12 : decode cX5_writes 12 = .ok (.dup, 1) := dk_89 (dk_at dksX5_writes_0 12 rfl rfl)
theorem dX5_writes_13 : decode cX5_writes 13 = .ok (.getfield 196, 3) := dk_180 0 196 (dk_at dksX5_writes_0 13 rfl rfl)
theorem dX5_writes_16 : decode cX5_writes 16 = .ok (.iconst 1, 1) := dk_4 (dk_at dksX5_writes_0 16 rfl rfl)
theorem dX5_writes_17 : decode cX5_writes 17 = .ok (.iadd, 1) := dk_96 (dk_at dksX5_writes_0 17 rfl rfl)
theorem dX5_writes_18 : decode cX5_writes 18 = .ok (.putfield 196, 3) := dk_181 0 196 (dk_at dksX5_writes_0 18 rfl rfl)
theorem dX5_writes_21 : decode cX5_writes 21 = .ok (.return_, 1) := dk_177 (dk_at dksX5_writes_0 21 rfl rfl)
abbrev cX5_writesNumber : ByteArray := prog_12_method_84_code
def yX5_writesNumber : MethodName := ⟨RX5, "writesNumber", "(I)V"⟩
def dkwX5_writesNumber_1 : List UInt8 := [182, 0, 203, 177]
abbrev dktX5_writesNumber_1 : List UInt8 := dkwX5_writesNumber_1 ++ []
def dkwX5_writesNumber_0 : List UInt8 := [27, 16, 9, 164, 0, 11, 42, 27, 16, 10, 108, 182, 0, 199, 42, 16, 48, 27, 16, 10, 112, 96]
abbrev dktX5_writesNumber_0 : List UInt8 := dkwX5_writesNumber_0 ++ dktX5_writesNumber_1
theorem dksX5_writesNumber_0 : cX5_writesNumber.data.toList.drop 0 = dktX5_writesNumber_0 := by decide +kernel
theorem dksX5_writesNumber_1 : cX5_writesNumber.data.toList.drop 22 = dktX5_writesNumber_1 := dk_seg dksX5_writesNumber_0 22 rfl rfl
theorem dX5_writesNumber_0 : decode cX5_writesNumber 0 = .ok (.iload_n 1, 1) := dk_27 (dk_at dksX5_writesNumber_0 0 rfl rfl)
theorem dX5_writesNumber_1 : decode cX5_writesNumber 1 = .ok (.bipush 9, 2) := dk_16 9 (dk_at dksX5_writesNumber_0 1 rfl rfl)
theorem dX5_writesNumber_3 : decode cX5_writesNumber 3 = .ok (.if_icmp .le 11, 3) := dk_164 0 11 (dk_at dksX5_writesNumber_0 3 rfl rfl)
theorem dX5_writesNumber_6 : decode cX5_writesNumber 6 = .ok (.aload_n 0, 1) := dk_42 (dk_at dksX5_writesNumber_0 6 rfl rfl)
theorem dX5_writesNumber_7 : decode cX5_writesNumber 7 = .ok (.iload_n 1, 1) := dk_27 (dk_at dksX5_writesNumber_0 7 rfl rfl)
theorem dX5_writesNumber_8 : decode cX5_writesNumber 8 = .ok (.bipush 10, 2) := dk_16 10 (dk_at dksX5_writesNumber_0 8 rfl rfl)
theorem dX5_writesNumber_10 : decode cX5_writesNumber 10 = .ok (.idiv, 1) := dk_108 (dk_at dksX5_writesNumber_0 10 rfl rfl)
theorem dX5_writesNumber_11 : decode cX5_writesNumber 11 = .ok (.invokevirtual 199, 3) := dk_182 0 199 (dk_at dksX5_writesNumber_0 11 rfl rfl)
theorem dX5_writesNumber_14 : decode cX5_writesNumber 14 = .ok (.aload_n 0, 1) := dk_42 (dk_at dksX5_writesNumber_0 14 rfl rfl)
theorem dX5_writesNumber_15 : decode cX5_writesNumber 15 = .ok (.bipush 48, 2) := dk_16 48 (dk_at dksX5_writesNumber_0 15 rfl rfl)
theorem dX5_writesNumber_17 : decode cX5_writesNumber 17 = .ok (.iload_n 1, 1) := dk_27 (dk_at dksX5_writesNumber_0 17 rfl rfl)
theorem dX5_writesNumber_18 : decode cX5_writesNumber 18 = .ok (.bipush 10, 2) := dk_16 10 (dk_at dksX5_writesNumber_0 18 rfl rfl)
theorem dX5_writesNumber_20 : decode cX5_writesNumber 20 = .ok (.irem, 1) := dk_112 (dk_at dksX5_writesNumber_0 20 rfl rfl)
theorem dX5_writesNumber_21 : decode cX5_writesNumber 21 = .ok (.iadd, 1) := dk_96 (dk_at dksX5_writesNumber_0 21 rfl rfl)
theorem dX5_writesNumber_22 : decode cX5_writesNumber 22 = .ok (.invokevirtual 203, 3) := dk_182 0 203 (dk_at dksX5_writesNumber_1 0 rfl rfl)
theorem dX5_writesNumber_25 : decode cX5_writesNumber 25 = .ok (.return_, 1) := dk_177 (dk_at dksX5_writesNumber_1 3 rfl rfl)
abbrev cX5_writeObject : ByteArray := prog_12_method_86_code
def yX5_writeObject : MethodName := ⟨RX5, "writeObject", "(I)I"⟩
def dkwX5_writeObject_4 : List UInt8 := [182, 0, 199, 132, 2, 1, 167, 255, 201, 42, 180, 0, 196, 172]
abbrev dktX5_writeObject_4 : List UInt8 := dkwX5_writeObject_4 ++ []
def dkwX5_writeObject_3 : List UInt8 := [154, 0, 12, 42, 16, 63, 182, 0, 203, 167, 0, 18, 42, 42, 27, 16, 7, 28, 96, 182, 0, 104, 4, 100]
abbrev dktX5_writeObject_3 : List UInt8 := dkwX5_writeObject_3 ++ dktX5_writeObject_4
def dkwX5_writeObject_2 : List UInt8 := [42, 27, 6, 182, 0, 104, 162, 0, 51, 42, 16, 32, 182, 0, 203, 42, 27, 16, 7, 28, 96, 182, 0, 104]
abbrev dktX5_writeObject_2 : List UInt8 := dkwX5_writeObject_2 ++ dktX5_writeObject_3
def dkwX5_writeObject_1 : List UInt8 := [181, 0, 196, 42, 27, 182, 0, 199, 42, 42, 27, 3, 182, 0, 104, 184, 0, 124, 182, 0, 203, 3, 61, 28]
abbrev dktX5_writeObject_1 : List UInt8 := dkwX5_writeObject_1 ++ dktX5_writeObject_2
def dkwX5_writeObject_0 : List UInt8 := [42, 42, 27, 182, 0, 187, 153, 0, 7, 3, 167, 0, 4, 4, 182, 0, 83, 153, 0, 5, 3, 172, 42, 3]
abbrev dktX5_writeObject_0 : List UInt8 := dkwX5_writeObject_0 ++ dktX5_writeObject_1
theorem dksX5_writeObject_0 : cX5_writeObject.data.toList.drop 0 = dktX5_writeObject_0 := by decide +kernel
theorem dksX5_writeObject_1 : cX5_writeObject.data.toList.drop 24 = dktX5_writeObject_1 := dk_seg dksX5_writeObject_0 24 rfl rfl
theorem dksX5_writeObject_2 : cX5_writeObject.data.toList.drop 48 = dktX5_writeObject_2 := dk_seg dksX5_writeObject_1 24 rfl rfl
theorem dksX5_writeObject_3 : cX5_writeObject.data.toList.drop 72 = dktX5_writeObject_3 := dk_seg dksX5_writeObject_2 24 rfl rfl
theorem dksX5_writeObject_4 : cX5_writeObject.data.toList.drop 96 = dktX5_writeObject_4 := dk_seg dksX5_writeObject_3 24 rfl rfl
theorem dX5_writeObject_0 : decode cX5_writeObject 0 = .ok (.aload_n 0, 1) := dk_42 (dk_at dksX5_writeObject_0 0 rfl rfl)
theorem dX5_writeObject_1 : decode cX5_writeObject 1 = .ok (.aload_n 0, 1) := dk_42 (dk_at dksX5_writeObject_0 1 rfl rfl)
theorem dX5_writeObject_2 : decode cX5_writeObject 2 = .ok (.iload_n 1, 1) := dk_27 (dk_at dksX5_writeObject_0 2 rfl rfl)
theorem dX5_writeObject_3 : decode cX5_writeObject 3 = .ok (.invokevirtual 187, 3) := dk_182 0 187 (dk_at dksX5_writeObject_0 3 rfl rfl)
theorem dX5_writeObject_6 : decode cX5_writeObject 6 = .ok (.ifCond .eq 7, 3) := dk_153 0 7 (dk_at dksX5_writeObject_0 6 rfl rfl)
theorem dX5_writeObject_9 : decode cX5_writeObject 9 = .ok (.iconst 0, 1) := dk_3 (dk_at dksX5_writeObject_0 9 rfl rfl)
theorem dX5_writeObject_10 : decode cX5_writeObject 10 = .ok (.goto 4, 3) := dk_167 0 4 (dk_at dksX5_writeObject_0 10 rfl rfl)
theorem dX5_writeObject_13 : decode cX5_writeObject 13 = .ok (.iconst 1, 1) := dk_4 (dk_at dksX5_writeObject_0 13 rfl rfl)
theorem dX5_writeObject_14 : decode cX5_writeObject 14 = .ok (.invokevirtual 83, 3) := dk_182 0 83 (dk_at dksX5_writeObject_0 14 rfl rfl)
theorem dX5_writeObject_17 : decode cX5_writeObject 17 = .ok (.ifCond .eq 5, 3) := dk_153 0 5 (dk_at dksX5_writeObject_0 17 rfl rfl)
theorem dX5_writeObject_20 : decode cX5_writeObject 20 = .ok (.iconst 0, 1) := dk_3 (dk_at dksX5_writeObject_0 20 rfl rfl)
theorem dX5_writeObject_21 : decode cX5_writeObject 21 = .ok (.ireturn, 1) := dk_172 (dk_at dksX5_writeObject_0 21 rfl rfl)
theorem dX5_writeObject_22 : decode cX5_writeObject 22 = .ok (.aload_n 0, 1) := dk_42 (dk_at dksX5_writeObject_0 22 rfl rfl)
theorem dX5_writeObject_23 : decode cX5_writeObject 23 = .ok (.iconst 0, 1) := dk_3 (dk_at dksX5_writeObject_0 23 rfl rfl)
theorem dX5_writeObject_24 : decode cX5_writeObject 24 = .ok (.putfield 196, 3) := dk_181 0 196 (dk_at dksX5_writeObject_1 0 rfl rfl)
theorem dX5_writeObject_27 : decode cX5_writeObject 27 = .ok (.aload_n 0, 1) := dk_42 (dk_at dksX5_writeObject_1 3 rfl rfl)
theorem dX5_writeObject_28 : decode cX5_writeObject 28 = .ok (.iload_n 1, 1) := dk_27 (dk_at dksX5_writeObject_1 4 rfl rfl)
theorem dX5_writeObject_29 : decode cX5_writeObject 29 = .ok (.invokevirtual 199, 3) := dk_182 0 199 (dk_at dksX5_writeObject_1 5 rfl rfl)
theorem dX5_writeObject_32 : decode cX5_writeObject 32 = .ok (.aload_n 0, 1) := dk_42 (dk_at dksX5_writeObject_1 8 rfl rfl)
theorem dX5_writeObject_33 : decode cX5_writeObject 33 = .ok (.aload_n 0, 1) := dk_42 (dk_at dksX5_writeObject_1 9 rfl rfl)
theorem dX5_writeObject_34 : decode cX5_writeObject 34 = .ok (.iload_n 1, 1) := dk_27 (dk_at dksX5_writeObject_1 10 rfl rfl)
theorem dX5_writeObject_35 : decode cX5_writeObject 35 = .ok (.iconst 0, 1) := dk_3 (dk_at dksX5_writeObject_1 11 rfl rfl)
theorem dX5_writeObject_36 : decode cX5_writeObject 36 = .ok (.invokevirtual 104, 3) := dk_182 0 104 (dk_at dksX5_writeObject_1 12 rfl rfl)
theorem dX5_writeObject_39 : decode cX5_writeObject 39 = .ok (.invokestatic 124, 3) := dk_184 0 124 (dk_at dksX5_writeObject_1 15 rfl rfl)
theorem dX5_writeObject_42 : decode cX5_writeObject 42 = .ok (.invokevirtual 203, 3) := dk_182 0 203 (dk_at dksX5_writeObject_1 18 rfl rfl)
theorem dX5_writeObject_45 : decode cX5_writeObject 45 = .ok (.iconst 0, 1) := dk_3 (dk_at dksX5_writeObject_1 21 rfl rfl)
theorem dX5_writeObject_46 : decode cX5_writeObject 46 = .ok (.istore_n 2, 1) := dk_61 (dk_at dksX5_writeObject_1 22 rfl rfl)
theorem dX5_writeObject_47 : decode cX5_writeObject 47 = .ok (.iload_n 2, 1) := dk_28 (dk_at dksX5_writeObject_1 23 rfl rfl)
theorem dX5_writeObject_48 : decode cX5_writeObject 48 = .ok (.aload_n 0, 1) := dk_42 (dk_at dksX5_writeObject_2 0 rfl rfl)
theorem dX5_writeObject_49 : decode cX5_writeObject 49 = .ok (.iload_n 1, 1) := dk_27 (dk_at dksX5_writeObject_2 1 rfl rfl)
theorem dX5_writeObject_50 : decode cX5_writeObject 50 = .ok (.iconst 3, 1) := dk_6 (dk_at dksX5_writeObject_2 2 rfl rfl)
theorem dX5_writeObject_51 : decode cX5_writeObject 51 = .ok (.invokevirtual 104, 3) := dk_182 0 104 (dk_at dksX5_writeObject_2 3 rfl rfl)
theorem dX5_writeObject_54 : decode cX5_writeObject 54 = .ok (.if_icmp .ge 51, 3) := dk_162 0 51 (dk_at dksX5_writeObject_2 6 rfl rfl)
theorem dX5_writeObject_57 : decode cX5_writeObject 57 = .ok (.aload_n 0, 1) := dk_42 (dk_at dksX5_writeObject_2 9 rfl rfl)
theorem dX5_writeObject_58 : decode cX5_writeObject 58 = .ok (.bipush 32, 2) := dk_16 32 (dk_at dksX5_writeObject_2 10 rfl rfl)
theorem dX5_writeObject_60 : decode cX5_writeObject 60 = .ok (.invokevirtual 203, 3) := dk_182 0 203 (dk_at dksX5_writeObject_2 12 rfl rfl)
theorem dX5_writeObject_63 : decode cX5_writeObject 63 = .ok (.aload_n 0, 1) := dk_42 (dk_at dksX5_writeObject_2 15 rfl rfl)
theorem dX5_writeObject_64 : decode cX5_writeObject 64 = .ok (.iload_n 1, 1) := dk_27 (dk_at dksX5_writeObject_2 16 rfl rfl)
theorem dX5_writeObject_65 : decode cX5_writeObject 65 = .ok (.bipush 7, 2) := dk_16 7 (dk_at dksX5_writeObject_2 17 rfl rfl)
theorem dX5_writeObject_67 : decode cX5_writeObject 67 = .ok (.iload_n 2, 1) := dk_28 (dk_at dksX5_writeObject_2 19 rfl rfl)
theorem dX5_writeObject_68 : decode cX5_writeObject 68 = .ok (.iadd, 1) := dk_96 (dk_at dksX5_writeObject_2 20 rfl rfl)
theorem dX5_writeObject_69 : decode cX5_writeObject 69 = .ok (.invokevirtual 104, 3) := dk_182 0 104 (dk_at dksX5_writeObject_2 21 rfl rfl)
theorem dX5_writeObject_72 : decode cX5_writeObject 72 = .ok (.ifCond .ne 12, 3) := dk_154 0 12 (dk_at dksX5_writeObject_3 0 rfl rfl)
theorem dX5_writeObject_75 : decode cX5_writeObject 75 = .ok (.aload_n 0, 1) := dk_42 (dk_at dksX5_writeObject_3 3 rfl rfl)
theorem dX5_writeObject_76 : decode cX5_writeObject 76 = .ok (.bipush 63, 2) := dk_16 63 (dk_at dksX5_writeObject_3 4 rfl rfl)
theorem dX5_writeObject_78 : decode cX5_writeObject 78 = .ok (.invokevirtual 203, 3) := dk_182 0 203 (dk_at dksX5_writeObject_3 6 rfl rfl)
theorem dX5_writeObject_81 : decode cX5_writeObject 81 = .ok (.goto 18, 3) := dk_167 0 18 (dk_at dksX5_writeObject_3 9 rfl rfl)
theorem dX5_writeObject_84 : decode cX5_writeObject 84 = .ok (.aload_n 0, 1) := dk_42 (dk_at dksX5_writeObject_3 12 rfl rfl)
theorem dX5_writeObject_85 : decode cX5_writeObject 85 = .ok (.aload_n 0, 1) := dk_42 (dk_at dksX5_writeObject_3 13 rfl rfl)
theorem dX5_writeObject_86 : decode cX5_writeObject 86 = .ok (.iload_n 1, 1) := dk_27 (dk_at dksX5_writeObject_3 14 rfl rfl)
theorem dX5_writeObject_87 : decode cX5_writeObject 87 = .ok (.bipush 7, 2) := dk_16 7 (dk_at dksX5_writeObject_3 15 rfl rfl)
theorem dX5_writeObject_89 : decode cX5_writeObject 89 = .ok (.iload_n 2, 1) := dk_28 (dk_at dksX5_writeObject_3 17 rfl rfl)
theorem dX5_writeObject_90 : decode cX5_writeObject 90 = .ok (.iadd, 1) := dk_96 (dk_at dksX5_writeObject_3 18 rfl rfl)
theorem dX5_writeObject_91 : decode cX5_writeObject 91 = .ok (.invokevirtual 104, 3) := dk_182 0 104 (dk_at dksX5_writeObject_3 19 rfl rfl)
theorem dX5_writeObject_94 : decode cX5_writeObject 94 = .ok (.iconst 1, 1) := dk_4 (dk_at dksX5_writeObject_3 22 rfl rfl)
theorem dX5_writeObject_95 : decode cX5_writeObject 95 = .ok (.isub, 1) := dk_100 (dk_at dksX5_writeObject_3 23 rfl rfl)
theorem dX5_writeObject_96 : decode cX5_writeObject 96 = .ok (.invokevirtual 199, 3) := dk_182 0 199 (dk_at dksX5_writeObject_4 0 rfl rfl)
theorem dX5_writeObject_99 : decode cX5_writeObject 99 = .ok (.iinc 2 1, 3) := dk_132 2 1 (dk_at dksX5_writeObject_4 3 rfl rfl)
theorem dX5_writeObject_102 : decode cX5_writeObject 102 = .ok (.goto (-55), 3) := dk_167 255 201 (dk_at dksX5_writeObject_4 6 rfl rfl)
theorem dX5_writeObject_105 : decode cX5_writeObject 105 = .ok (.aload_n 0, 1) := dk_42 (dk_at dksX5_writeObject_4 9 rfl rfl)
theorem dX5_writeObject_106 : decode cX5_writeObject 106 = .ok (.getfield 196, 3) := dk_180 0 196 (dk_at dksX5_writeObject_4 10 rfl rfl)
theorem dX5_writeObject_109 : decode cX5_writeObject 109 = .ok (.ireturn, 1) := dk_172 (dk_at dksX5_writeObject_4 13 rfl rfl)
abbrev cX5_lineAt : ByteArray := prog_12_method_87_code
def yX5_lineAt : MethodName := ⟨RX5, "lineAt", "(I)C"⟩
def dkwX5_lineAt_1 : List UInt8 := [153, 0, 8, 16, 32, 167, 0, 9, 42, 180, 0, 29, 27, 52, 172]
abbrev dktX5_lineAt_1 : List UInt8 := dkwX5_lineAt_1 ++ []
def dkwX5_lineAt_0 : List UInt8 := [42, 27, 3, 42, 180, 0, 196, 4, 100, 184, 0, 65, 153, 0, 7, 3, 167, 0, 4, 4, 182, 0, 83]
abbrev dktX5_lineAt_0 : List UInt8 := dkwX5_lineAt_0 ++ dktX5_lineAt_1
theorem dksX5_lineAt_0 : cX5_lineAt.data.toList.drop 0 = dktX5_lineAt_0 := by decide +kernel
theorem dksX5_lineAt_1 : cX5_lineAt.data.toList.drop 23 = dktX5_lineAt_1 := dk_seg dksX5_lineAt_0 23 rfl rfl
theorem dX5_lineAt_0 : decode cX5_lineAt 0 = .ok (.aload_n 0, 1) := dk_42 (dk_at dksX5_lineAt_0 0 rfl rfl)
theorem dX5_lineAt_1 : decode cX5_lineAt 1 = .ok (.iload_n 1, 1) := dk_27 (dk_at dksX5_lineAt_0 1 rfl rfl)
theorem dX5_lineAt_2 : decode cX5_lineAt 2 = .ok (.iconst 0, 1) := dk_3 (dk_at dksX5_lineAt_0 2 rfl rfl)
theorem dX5_lineAt_3 : decode cX5_lineAt 3 = .ok (.aload_n 0, 1) := dk_42 (dk_at dksX5_lineAt_0 3 rfl rfl)
theorem dX5_lineAt_4 : decode cX5_lineAt 4 = .ok (.getfield 196, 3) := dk_180 0 196 (dk_at dksX5_lineAt_0 4 rfl rfl)
theorem dX5_lineAt_7 : decode cX5_lineAt 7 = .ok (.iconst 1, 1) := dk_4 (dk_at dksX5_lineAt_0 7 rfl rfl)
theorem dX5_lineAt_8 : decode cX5_lineAt 8 = .ok (.isub, 1) := dk_100 (dk_at dksX5_lineAt_0 8 rfl rfl)
theorem dX5_lineAt_9 : decode cX5_lineAt 9 = .ok (.invokestatic 65, 3) := dk_184 0 65 (dk_at dksX5_lineAt_0 9 rfl rfl)
theorem dX5_lineAt_12 : decode cX5_lineAt 12 = .ok (.ifCond .eq 7, 3) := dk_153 0 7 (dk_at dksX5_lineAt_0 12 rfl rfl)
theorem dX5_lineAt_15 : decode cX5_lineAt 15 = .ok (.iconst 0, 1) := dk_3 (dk_at dksX5_lineAt_0 15 rfl rfl)
theorem dX5_lineAt_16 : decode cX5_lineAt 16 = .ok (.goto 4, 3) := dk_167 0 4 (dk_at dksX5_lineAt_0 16 rfl rfl)
theorem dX5_lineAt_19 : decode cX5_lineAt 19 = .ok (.iconst 1, 1) := dk_4 (dk_at dksX5_lineAt_0 19 rfl rfl)
theorem dX5_lineAt_20 : decode cX5_lineAt 20 = .ok (.invokevirtual 83, 3) := dk_182 0 83 (dk_at dksX5_lineAt_0 20 rfl rfl)
theorem dX5_lineAt_23 : decode cX5_lineAt 23 = .ok (.ifCond .eq 8, 3) := dk_153 0 8 (dk_at dksX5_lineAt_1 0 rfl rfl)
theorem dX5_lineAt_26 : decode cX5_lineAt 26 = .ok (.bipush 32, 2) := dk_16 32 (dk_at dksX5_lineAt_1 3 rfl rfl)
theorem dX5_lineAt_28 : decode cX5_lineAt 28 = .ok (.goto 9, 3) := dk_167 0 9 (dk_at dksX5_lineAt_1 5 rfl rfl)
theorem dX5_lineAt_31 : decode cX5_lineAt 31 = .ok (.aload_n 0, 1) := dk_42 (dk_at dksX5_lineAt_1 8 rfl rfl)
theorem dX5_lineAt_32 : decode cX5_lineAt 32 = .ok (.getfield 29, 3) := dk_180 0 29 (dk_at dksX5_lineAt_1 9 rfl rfl)
theorem dX5_lineAt_35 : decode cX5_lineAt 35 = .ok (.iload_n 1, 1) := dk_27 (dk_at dksX5_lineAt_1 12 rfl rfl)
theorem dX5_lineAt_36 : decode cX5_lineAt 36 = .ok (.caload, 1) := dk_52 (dk_at dksX5_lineAt_1 13 rfl rfl)
theorem dX5_lineAt_37 : decode cX5_lineAt 37 = .ok (.ireturn, 1) := dk_172 (dk_at dksX5_lineAt_1 14 rfl rfl)
abbrev cX5_isConsistent : ByteArray := prog_12_method_88_code
def yX5_isConsistent : MethodName := ⟨RX5, "isConsistent", "()Z"⟩
def dkwX5_isConsistent_1 : List UInt8 := [160, 0, 7, 4, 167, 0, 4, 3, 172]
abbrev dktX5_isConsistent_1 : List UInt8 := dkwX5_isConsistent_1 ++ []
def dkwX5_isConsistent_0 : List UInt8 := [42, 3, 181, 0, 39, 42, 180, 0, 7, 5, 46, 42, 180, 0, 7, 4, 46, 42, 180, 0, 7, 6, 46, 96]
abbrev dktX5_isConsistent_0 : List UInt8 := dkwX5_isConsistent_0 ++ dktX5_isConsistent_1
theorem dksX5_isConsistent_0 : cX5_isConsistent.data.toList.drop 0 = dktX5_isConsistent_0 := by decide +kernel
theorem dksX5_isConsistent_1 : cX5_isConsistent.data.toList.drop 24 = dktX5_isConsistent_1 := dk_seg dksX5_isConsistent_0 24 rfl rfl
theorem dX5_isConsistent_0 : decode cX5_isConsistent 0 = .ok (.aload_n 0, 1) := dk_42 (dk_at dksX5_isConsistent_0 0 rfl rfl)
theorem dX5_isConsistent_1 : decode cX5_isConsistent 1 = .ok (.iconst 0, 1) := dk_3 (dk_at dksX5_isConsistent_0 1 rfl rfl)
theorem dX5_isConsistent_2 : decode cX5_isConsistent 2 = .ok (.putfield 39, 3) := dk_181 0 39 (dk_at dksX5_isConsistent_0 2 rfl rfl)
theorem dX5_isConsistent_5 : decode cX5_isConsistent 5 = .ok (.aload_n 0, 1) := dk_42 (dk_at dksX5_isConsistent_0 5 rfl rfl)
theorem dX5_isConsistent_6 : decode cX5_isConsistent 6 = .ok (.getfield 7, 3) := dk_180 0 7 (dk_at dksX5_isConsistent_0 6 rfl rfl)
theorem dX5_isConsistent_9 : decode cX5_isConsistent 9 = .ok (.iconst 2, 1) := dk_5 (dk_at dksX5_isConsistent_0 9 rfl rfl)
theorem dX5_isConsistent_10 : decode cX5_isConsistent 10 = .ok (.iaload, 1) := dk_46 (dk_at dksX5_isConsistent_0 10 rfl rfl)
theorem dX5_isConsistent_11 : decode cX5_isConsistent 11 = .ok (.aload_n 0, 1) := dk_42 (dk_at dksX5_isConsistent_0 11 rfl rfl)
theorem dX5_isConsistent_12 : decode cX5_isConsistent 12 = .ok (.getfield 7, 3) := dk_180 0 7 (dk_at dksX5_isConsistent_0 12 rfl rfl)
theorem dX5_isConsistent_15 : decode cX5_isConsistent 15 = .ok (.iconst 1, 1) := dk_4 (dk_at dksX5_isConsistent_0 15 rfl rfl)
theorem dX5_isConsistent_16 : decode cX5_isConsistent 16 = .ok (.iaload, 1) := dk_46 (dk_at dksX5_isConsistent_0 16 rfl rfl)
theorem dX5_isConsistent_17 : decode cX5_isConsistent 17 = .ok (.aload_n 0, 1) := dk_42 (dk_at dksX5_isConsistent_0 17 rfl rfl)
theorem dX5_isConsistent_18 : decode cX5_isConsistent 18 = .ok (.getfield 7, 3) := dk_180 0 7 (dk_at dksX5_isConsistent_0 18 rfl rfl)
theorem dX5_isConsistent_21 : decode cX5_isConsistent 21 = .ok (.iconst 3, 1) := dk_6 (dk_at dksX5_isConsistent_0 21 rfl rfl)
theorem dX5_isConsistent_22 : decode cX5_isConsistent 22 = .ok (.iaload, 1) := dk_46 (dk_at dksX5_isConsistent_0 22 rfl rfl)
theorem dX5_isConsistent_23 : decode cX5_isConsistent 23 = .ok (.iadd, 1) := dk_96 (dk_at dksX5_isConsistent_0 23 rfl rfl)
theorem dX5_isConsistent_24 : decode cX5_isConsistent 24 = .ok (.if_icmp .ne 7, 3) := dk_160 0 7 (dk_at dksX5_isConsistent_1 0 rfl rfl)
theorem dX5_isConsistent_27 : decode cX5_isConsistent 27 = .ok (.iconst 1, 1) := dk_4 (dk_at dksX5_isConsistent_1 3 rfl rfl)
theorem dX5_isConsistent_28 : decode cX5_isConsistent 28 = .ok (.goto 4, 3) := dk_167 0 4 (dk_at dksX5_isConsistent_1 4 rfl rfl)
theorem dX5_isConsistent_31 : decode cX5_isConsistent 31 = .ok (.iconst 0, 1) := dk_3 (dk_at dksX5_isConsistent_1 7 rfl rfl)
theorem dX5_isConsistent_32 : decode cX5_isConsistent 32 = .ok (.ireturn, 1) := dk_172 (dk_at dksX5_isConsistent_1 8 rfl rfl)
abbrev cX5_type : ByteArray := prog_12_method_89_code
def yX5_type : MethodName := ⟨RX5, "type", "(C)I"⟩
def dkwX5_type_2 : List UInt8 := [27, 79, 42, 89, 180, 0, 206, 4, 96, 181, 0, 206, 42, 180, 0, 206, 172]
abbrev dktX5_type_2 : List UInt8 := dkwX5_type_2 ++ []
def dkwX5_type_1 : List UInt8 := [160, 0, 7, 5, 167, 0, 4, 3, 182, 0, 83, 153, 0, 5, 3, 172, 42, 180, 0, 22, 42, 180, 0, 206]
abbrev dktX5_type_1 : List UInt8 := dkwX5_type_1 ++ dktX5_type_2
def dkwX5_type_0 : List UInt8 := [42, 27, 16, 32, 16, 126, 184, 0, 65, 154, 0, 7, 4, 167, 0, 17, 42, 180, 0, 206, 16, 60]
abbrev dktX5_type_0 : List UInt8 := dkwX5_type_0 ++ dktX5_type_1
theorem dksX5_type_0 : cX5_type.data.toList.drop 0 = dktX5_type_0 := by decide +kernel
theorem dksX5_type_1 : cX5_type.data.toList.drop 22 = dktX5_type_1 := dk_seg dksX5_type_0 22 rfl rfl
theorem dksX5_type_2 : cX5_type.data.toList.drop 46 = dktX5_type_2 := dk_seg dksX5_type_1 24 rfl rfl
theorem dX5_type_0 : decode cX5_type 0 = .ok (.aload_n 0, 1) := dk_42 (dk_at dksX5_type_0 0 rfl rfl)
theorem dX5_type_1 : decode cX5_type 1 = .ok (.iload_n 1, 1) := dk_27 (dk_at dksX5_type_0 1 rfl rfl)
theorem dX5_type_2 : decode cX5_type 2 = .ok (.bipush 32, 2) := dk_16 32 (dk_at dksX5_type_0 2 rfl rfl)
theorem dX5_type_4 : decode cX5_type 4 = .ok (.bipush 126, 2) := dk_16 126 (dk_at dksX5_type_0 4 rfl rfl)
theorem dX5_type_6 : decode cX5_type 6 = .ok (.invokestatic 65, 3) := dk_184 0 65 (dk_at dksX5_type_0 6 rfl rfl)
theorem dX5_type_9 : decode cX5_type 9 = .ok (.ifCond .ne 7, 3) := dk_154 0 7 (dk_at dksX5_type_0 9 rfl rfl)
theorem dX5_type_12 : decode cX5_type 12 = .ok (.iconst 1, 1) := dk_4 (dk_at dksX5_type_0 12 rfl rfl)
theorem dX5_type_13 : decode cX5_type 13 = .ok (.goto 17, 3) := dk_167 0 17 (dk_at dksX5_type_0 13 rfl rfl)
theorem dX5_type_16 : decode cX5_type 16 = .ok (.aload_n 0, 1) := dk_42 (dk_at dksX5_type_0 16 rfl rfl)
theorem dX5_type_17 : decode cX5_type 17 = .ok (.getfield 206, 3) := dk_180 0 206 (dk_at dksX5_type_0 17 rfl rfl)
theorem dX5_type_20 : decode cX5_type 20 = .ok (.bipush 60, 2) := dk_16 60 (dk_at dksX5_type_0 20 rfl rfl)
theorem dX5_type_22 : decode cX5_type 22 = .ok (.if_icmp .ne 7, 3) := dk_160 0 7 (dk_at dksX5_type_1 0 rfl rfl)
theorem dX5_type_25 : decode cX5_type 25 = .ok (.iconst 2, 1) := dk_5 (dk_at dksX5_type_1 3 rfl rfl)
theorem dX5_type_26 : decode cX5_type 26 = .ok (.goto 4, 3) := dk_167 0 4 (dk_at dksX5_type_1 4 rfl rfl)
theorem dX5_type_29 : decode cX5_type 29 = .ok (.iconst 0, 1) := dk_3 (dk_at dksX5_type_1 7 rfl rfl)
theorem dX5_type_30 : decode cX5_type 30 = .ok (.invokevirtual 83, 3) := dk_182 0 83 (dk_at dksX5_type_1 8 rfl rfl)
theorem dX5_type_33 : decode cX5_type 33 = .ok (.ifCond .eq 5, 3) := dk_153 0 5 (dk_at dksX5_type_1 11 rfl rfl)
theorem dX5_type_36 : decode cX5_type 36 = .ok (.iconst 0, 1) := dk_3 (dk_at dksX5_type_1 14 rfl rfl)
theorem dX5_type_37 : decode cX5_type 37 = .ok (.ireturn, 1) := dk_172 (dk_at dksX5_type_1 15 rfl rfl)
theorem dX5_type_38 : decode cX5_type 38 = .ok (.aload_n 0, 1) := dk_42 (dk_at dksX5_type_1 16 rfl rfl)
theorem dX5_type_39 : decode cX5_type 39 = .ok (.getfield 22, 3) := dk_180 0 22 (dk_at dksX5_type_1 17 rfl rfl)
theorem dX5_type_42 : decode cX5_type 42 = .ok (.aload_n 0, 1) := dk_42 (dk_at dksX5_type_1 20 rfl rfl)
theorem dX5_type_43 : decode cX5_type 43 = .ok (.getfield 206, 3) := dk_180 0 206 (dk_at dksX5_type_1 21 rfl rfl)
theorem dX5_type_46 : decode cX5_type 46 = .ok (.iload_n 1, 1) := dk_27 (dk_at dksX5_type_2 0 rfl rfl)
theorem dX5_type_47 : decode cX5_type 47 = .ok (.iastore, 1) := dk_79 (dk_at dksX5_type_2 1 rfl rfl)
theorem dX5_type_48 : decode cX5_type 48 = .ok (.aload_n 0, 1) := dk_42 (dk_at dksX5_type_2 2 rfl rfl)
theorem dX5_type_49 : decode cX5_type 49 = .ok (.dup, 1) := dk_89 (dk_at dksX5_type_2 3 rfl rfl)
theorem dX5_type_50 : decode cX5_type 50 = .ok (.getfield 206, 3) := dk_180 0 206 (dk_at dksX5_type_2 4 rfl rfl)
theorem dX5_type_53 : decode cX5_type 53 = .ok (.iconst 1, 1) := dk_4 (dk_at dksX5_type_2 7 rfl rfl)
theorem dX5_type_54 : decode cX5_type 54 = .ok (.iadd, 1) := dk_96 (dk_at dksX5_type_2 8 rfl rfl)
theorem dX5_type_55 : decode cX5_type 55 = .ok (.putfield 206, 3) := dk_181 0 206 (dk_at dksX5_type_2 9 rfl rfl)
theorem dX5_type_58 : decode cX5_type 58 = .ok (.aload_n 0, 1) := dk_42 (dk_at dksX5_type_2 12 rfl rfl)
theorem dX5_type_59 : decode cX5_type 59 = .ok (.getfield 206, 3) := dk_180 0 206 (dk_at dksX5_type_2 13 rfl rfl)
theorem dX5_type_62 : decode cX5_type 62 = .ok (.ireturn, 1) := dk_172 (dk_at dksX5_type_2 16 rfl rfl)
abbrev cX5_execute : ByteArray := prog_12_method_101_code
def yX5_execute : MethodName := ⟨RX5, "execute", "()I"⟩
def dkwX5_execute_6 : List UInt8 := [42, 180, 0, 19, 182, 0, 86, 42, 180, 0, 215, 172]
abbrev dktX5_execute_6 : List UInt8 := dkwX5_execute_6 ++ []
def dkwX5_execute_5 : List UInt8 := [180, 0, 7, 3, 184, 0, 61, 42, 28, 182, 1, 56, 29, 158, 0, 7, 3, 167, 0, 4, 29, 96, 172, 42]
abbrev dktX5_execute_5 : List UInt8 := dkwX5_execute_5 ++ dktX5_execute_6
def dkwX5_execute_4 : List UInt8 := [132, 2, 1, 167, 255, 223, 42, 3, 181, 0, 55, 42, 180, 0, 39, 158, 0, 32, 42, 180, 0, 19, 3, 42]
abbrev dktX5_execute_4 : List UInt8 := dkwX5_execute_4 ++ dktX5_execute_5
def dkwX5_execute_3 : List UInt8 := [42, 180, 0, 39, 154, 0, 24, 42, 7, 28, 104, 182, 1, 53, 62, 42, 180, 0, 39, 154, 255, 229]
abbrev dktX5_execute_3 : List UInt8 := dkwX5_execute_3 ++ dktX5_execute_4
def dkwX5_execute_2 : List UInt8 := [180, 0, 19, 3, 184, 0, 61, 42, 4, 181, 0, 55, 3, 61, 3, 62, 28, 42, 180, 0, 215, 162, 0, 31]
abbrev dktX5_execute_2 : List UInt8 := dkwX5_execute_2 ++ dktX5_execute_3
def dkwX5_execute_1 : List UInt8 := [153, 0, 7, 3, 167, 0, 4, 4, 182, 0, 83, 153, 0, 5, 3, 172, 42, 180, 0, 7, 3, 42]
abbrev dktX5_execute_1 : List UInt8 := dkwX5_execute_1 ++ dktX5_execute_2
def dkwX5_execute_0 : List UInt8 := [42, 182, 1, 50, 60, 27, 154, 0, 11, 42, 42, 180, 0, 209, 181, 0, 25, 42, 3, 181, 0, 206, 42, 27]
abbrev dktX5_execute_0 : List UInt8 := dkwX5_execute_0 ++ dktX5_execute_1
theorem dksX5_execute_0 : cX5_execute.data.toList.drop 0 = dktX5_execute_0 := by decide +kernel
theorem dksX5_execute_1 : cX5_execute.data.toList.drop 24 = dktX5_execute_1 := dk_seg dksX5_execute_0 24 rfl rfl
theorem dksX5_execute_2 : cX5_execute.data.toList.drop 46 = dktX5_execute_2 := dk_seg dksX5_execute_1 22 rfl rfl
theorem dksX5_execute_3 : cX5_execute.data.toList.drop 70 = dktX5_execute_3 := dk_seg dksX5_execute_2 24 rfl rfl
theorem dksX5_execute_4 : cX5_execute.data.toList.drop 92 = dktX5_execute_4 := dk_seg dksX5_execute_3 22 rfl rfl
theorem dksX5_execute_5 : cX5_execute.data.toList.drop 116 = dktX5_execute_5 := dk_seg dksX5_execute_4 24 rfl rfl
theorem dksX5_execute_6 : cX5_execute.data.toList.drop 140 = dktX5_execute_6 := dk_seg dksX5_execute_5 24 rfl rfl
theorem dX5_execute_0 : decode cX5_execute 0 = .ok (.aload_n 0, 1) := dk_42 (dk_at dksX5_execute_0 0 rfl rfl)
theorem dX5_execute_1 : decode cX5_execute 1 = .ok (.invokevirtual 306, 3) := dk_182 1 50 (dk_at dksX5_execute_0 1 rfl rfl)
theorem dX5_execute_4 : decode cX5_execute 4 = .ok (.istore_n 1, 1) := dk_60 (dk_at dksX5_execute_0 4 rfl rfl)
theorem dX5_execute_5 : decode cX5_execute 5 = .ok (.iload_n 1, 1) := dk_27 (dk_at dksX5_execute_0 5 rfl rfl)
theorem dX5_execute_6 : decode cX5_execute 6 = .ok (.ifCond .ne 11, 3) := dk_154 0 11 (dk_at dksX5_execute_0 6 rfl rfl)
theorem dX5_execute_9 : decode cX5_execute 9 = .ok (.aload_n 0, 1) := dk_42 (dk_at dksX5_execute_0 9 rfl rfl)
theorem dX5_execute_10 : decode cX5_execute 10 = .ok (.aload_n 0, 1) := dk_42 (dk_at dksX5_execute_0 10 rfl rfl)
theorem dX5_execute_11 : decode cX5_execute 11 = .ok (.getfield 209, 3) := dk_180 0 209 (dk_at dksX5_execute_0 11 rfl rfl)
theorem dX5_execute_14 : decode cX5_execute 14 = .ok (.putfield 25, 3) := dk_181 0 25 (dk_at dksX5_execute_0 14 rfl rfl)
theorem dX5_execute_17 : decode cX5_execute 17 = .ok (.aload_n 0, 1) := dk_42 (dk_at dksX5_execute_0 17 rfl rfl)
theorem dX5_execute_18 : decode cX5_execute 18 = .ok (.iconst 0, 1) := dk_3 (dk_at dksX5_execute_0 18 rfl rfl)
theorem dX5_execute_19 : decode cX5_execute 19 = .ok (.putfield 206, 3) := dk_181 0 206 (dk_at dksX5_execute_0 19 rfl rfl)
theorem dX5_execute_22 : decode cX5_execute 22 = .ok (.aload_n 0, 1) := dk_42 (dk_at dksX5_execute_0 22 rfl rfl)
theorem dX5_execute_23 : decode cX5_execute 23 = .ok (.iload_n 1, 1) := dk_27 (dk_at dksX5_execute_0 23 rfl rfl)
theorem dX5_execute_24 : decode cX5_execute 24 = .ok (.ifCond .eq 7, 3) := dk_153 0 7 (dk_at dksX5_execute_1 0 rfl rfl)
theorem dX5_execute_27 : decode cX5_execute 27 = .ok (.iconst 0, 1) := dk_3 (dk_at dksX5_execute_1 3 rfl rfl)
theorem dX5_execute_28 : decode cX5_execute 28 = .ok (.goto 4, 3) := dk_167 0 4 (dk_at dksX5_execute_1 4 rfl rfl)
theorem dX5_execute_31 : decode cX5_execute 31 = .ok (.iconst 1, 1) := dk_4 (dk_at dksX5_execute_1 7 rfl rfl)
theorem dX5_execute_32 : decode cX5_execute 32 = .ok (.invokevirtual 83, 3) := dk_182 0 83 (dk_at dksX5_execute_1 8 rfl rfl)
theorem dX5_execute_35 : decode cX5_execute 35 = .ok (.ifCond .eq 5, 3) := dk_153 0 5 (dk_at dksX5_execute_1 11 rfl rfl)
theorem dX5_execute_38 : decode cX5_execute 38 = .ok (.iconst 0, 1) := dk_3 (dk_at dksX5_execute_1 14 rfl rfl)
theorem dX5_execute_39 : decode cX5_execute 39 = .ok (.ireturn, 1) := dk_172 (dk_at dksX5_execute_1 15 rfl rfl)
theorem dX5_execute_40 : decode cX5_execute 40 = .ok (.aload_n 0, 1) := dk_42 (dk_at dksX5_execute_1 16 rfl rfl)
theorem dX5_execute_41 : decode cX5_execute 41 = .ok (.getfield 7, 3) := dk_180 0 7 (dk_at dksX5_execute_1 17 rfl rfl)
theorem dX5_execute_44 : decode cX5_execute 44 = .ok (.iconst 0, 1) := dk_3 (dk_at dksX5_execute_1 20 rfl rfl)
theorem dX5_execute_45 : decode cX5_execute 45 = .ok (.aload_n 0, 1) := dk_42 (dk_at dksX5_execute_1 21 rfl rfl)
theorem dX5_execute_46 : decode cX5_execute 46 = .ok (.getfield 19, 3) := dk_180 0 19 (dk_at dksX5_execute_2 0 rfl rfl)
theorem dX5_execute_49 : decode cX5_execute 49 = .ok (.iconst 0, 1) := dk_3 (dk_at dksX5_execute_2 3 rfl rfl)
theorem dX5_execute_50 : decode cX5_execute 50 = .ok (.invokestatic 61, 3) := dk_184 0 61 (dk_at dksX5_execute_2 4 rfl rfl)
theorem dX5_execute_53 : decode cX5_execute 53 = .ok (.aload_n 0, 1) := dk_42 (dk_at dksX5_execute_2 7 rfl rfl)
theorem dX5_execute_54 : decode cX5_execute 54 = .ok (.iconst 1, 1) := dk_4 (dk_at dksX5_execute_2 8 rfl rfl)
theorem dX5_execute_55 : decode cX5_execute 55 = .ok (.putfield 55, 3) := dk_181 0 55 (dk_at dksX5_execute_2 9 rfl rfl)
theorem dX5_execute_58 : decode cX5_execute 58 = .ok (.iconst 0, 1) := dk_3 (dk_at dksX5_execute_2 12 rfl rfl)
theorem dX5_execute_59 : decode cX5_execute 59 = .ok (.istore_n 2, 1) := dk_61 (dk_at dksX5_execute_2 13 rfl rfl)
theorem dX5_execute_60 : decode cX5_execute 60 = .ok (.iconst 0, 1) := dk_3 (dk_at dksX5_execute_2 14 rfl rfl)
theorem dX5_execute_61 : decode cX5_execute 61 = .ok (.istore_n 3, 1) := dk_62 (dk_at dksX5_execute_2 15 rfl rfl)
theorem dX5_execute_62 : decode cX5_execute 62 = .ok (.iload_n 2, 1) := dk_28 (dk_at dksX5_execute_2 16 rfl rfl)
theorem dX5_execute_63 : decode cX5_execute 63 = .ok (.aload_n 0, 1) := dk_42 (dk_at dksX5_execute_2 17 rfl rfl)
theorem dX5_execute_64 : decode cX5_execute 64 = .ok (.getfield 215, 3) := dk_180 0 215 (dk_at dksX5_execute_2 18 rfl rfl)
theorem dX5_execute_67 : decode cX5_execute 67 = .ok (.if_icmp .ge 31, 3) := dk_162 0 31 (dk_at dksX5_execute_2 21 rfl rfl)
theorem dX5_execute_70 : decode cX5_execute 70 = .ok (.aload_n 0, 1) := dk_42 (dk_at dksX5_execute_3 0 rfl rfl)
theorem dX5_execute_71 : decode cX5_execute 71 = .ok (.getfield 39, 3) := dk_180 0 39 (dk_at dksX5_execute_3 1 rfl rfl)
theorem dX5_execute_74 : decode cX5_execute 74 = .ok (.ifCond .ne 24, 3) := dk_154 0 24 (dk_at dksX5_execute_3 4 rfl rfl)
theorem dX5_execute_77 : decode cX5_execute 77 = .ok (.aload_n 0, 1) := dk_42 (dk_at dksX5_execute_3 7 rfl rfl)
theorem dX5_execute_78 : decode cX5_execute 78 = .ok (.iconst 4, 1) := dk_7 (dk_at dksX5_execute_3 8 rfl rfl)
theorem dX5_execute_79 : decode cX5_execute 79 = .ok (.iload_n 2, 1) := dk_28 (dk_at dksX5_execute_3 9 rfl rfl)
theorem dX5_execute_80 : decode cX5_execute 80 = .ok (.imul, 1) := dk_104 (dk_at dksX5_execute_3 10 rfl rfl)
theorem dX5_execute_81 : decode cX5_execute 81 = .ok (.invokevirtual 309, 3) := dk_182 1 53 (dk_at dksX5_execute_3 11 rfl rfl)
theorem dX5_execute_84 : decode cX5_execute 84 = .ok (.istore_n 3, 1) := dk_62 (dk_at dksX5_execute_3 14 rfl rfl)
theorem dX5_execute_85 : decode cX5_execute 85 = .ok (.aload_n 0, 1) := dk_42 (dk_at dksX5_execute_3 15 rfl rfl)
theorem dX5_execute_86 : decode cX5_execute 86 = .ok (.getfield 39, 3) := dk_180 0 39 (dk_at dksX5_execute_3 16 rfl rfl)
theorem dX5_execute_89 : decode cX5_execute 89 = .ok (.ifCond .ne (-27), 3) := dk_154 255 229 (dk_at dksX5_execute_3 19 rfl rfl)
theorem dX5_execute_92 : decode cX5_execute 92 = .ok (.iinc 2 1, 3) := dk_132 2 1 (dk_at dksX5_execute_4 0 rfl rfl)
theorem dX5_execute_95 : decode cX5_execute 95 = .ok (.goto (-33), 3) := dk_167 255 223 (dk_at dksX5_execute_4 3 rfl rfl)
theorem dX5_execute_98 : decode cX5_execute 98 = .ok (.aload_n 0, 1) := dk_42 (dk_at dksX5_execute_4 6 rfl rfl)
theorem dX5_execute_99 : decode cX5_execute 99 = .ok (.iconst 0, 1) := dk_3 (dk_at dksX5_execute_4 7 rfl rfl)
theorem dX5_execute_100 : decode cX5_execute 100 = .ok (.putfield 55, 3) := dk_181 0 55 (dk_at dksX5_execute_4 8 rfl rfl)
theorem dX5_execute_103 : decode cX5_execute 103 = .ok (.aload_n 0, 1) := dk_42 (dk_at dksX5_execute_4 11 rfl rfl)
theorem dX5_execute_104 : decode cX5_execute 104 = .ok (.getfield 39, 3) := dk_180 0 39 (dk_at dksX5_execute_4 12 rfl rfl)
theorem dX5_execute_107 : decode cX5_execute 107 = .ok (.ifCond .le 32, 3) := dk_158 0 32 (dk_at dksX5_execute_4 15 rfl rfl)
theorem dX5_execute_110 : decode cX5_execute 110 = .ok (.aload_n 0, 1) := dk_42 (dk_at dksX5_execute_4 18 rfl rfl)
theorem dX5_execute_111 : decode cX5_execute 111 = .ok (.getfield 19, 3) := dk_180 0 19 (dk_at dksX5_execute_4 19 rfl rfl)
theorem dX5_execute_114 : decode cX5_execute 114 = .ok (.iconst 0, 1) := dk_3 (dk_at dksX5_execute_4 22 rfl rfl)
theorem dX5_execute_115 : decode cX5_execute 115 = .ok (.aload_n 0, 1) := dk_42 (dk_at dksX5_execute_4 23 rfl rfl)
theorem dX5_execute_116 : decode cX5_execute 116 = .ok (.getfield 7, 3) := dk_180 0 7 (dk_at dksX5_execute_5 0 rfl rfl)
theorem dX5_execute_119 : decode cX5_execute 119 = .ok (.iconst 0, 1) := dk_3 (dk_at dksX5_execute_5 3 rfl rfl)
theorem dX5_execute_120 : decode cX5_execute 120 = .ok (.invokestatic 61, 3) := dk_184 0 61 (dk_at dksX5_execute_5 4 rfl rfl)
theorem dX5_execute_123 : decode cX5_execute 123 = .ok (.aload_n 0, 1) := dk_42 (dk_at dksX5_execute_5 7 rfl rfl)
theorem dX5_execute_124 : decode cX5_execute 124 = .ok (.iload_n 2, 1) := dk_28 (dk_at dksX5_execute_5 8 rfl rfl)
theorem dX5_execute_125 : decode cX5_execute 125 = .ok (.invokevirtual 312, 3) := dk_182 1 56 (dk_at dksX5_execute_5 9 rfl rfl)
theorem dX5_execute_128 : decode cX5_execute 128 = .ok (.iload_n 3, 1) := dk_29 (dk_at dksX5_execute_5 12 rfl rfl)
theorem dX5_execute_129 : decode cX5_execute 129 = .ok (.ifCond .le 7, 3) := dk_158 0 7 (dk_at dksX5_execute_5 13 rfl rfl)
theorem dX5_execute_132 : decode cX5_execute 132 = .ok (.iconst 0, 1) := dk_3 (dk_at dksX5_execute_5 16 rfl rfl)
theorem dX5_execute_133 : decode cX5_execute 133 = .ok (.goto 4, 3) := dk_167 0 4 (dk_at dksX5_execute_5 17 rfl rfl)
theorem dX5_execute_136 : decode cX5_execute 136 = .ok (.iload_n 3, 1) := dk_29 (dk_at dksX5_execute_5 20 rfl rfl)
theorem dX5_execute_137 : decode cX5_execute 137 = .ok (.iadd, 1) := dk_96 (dk_at dksX5_execute_5 21 rfl rfl)
theorem dX5_execute_138 : decode cX5_execute 138 = .ok (.ireturn, 1) := dk_172 (dk_at dksX5_execute_5 22 rfl rfl)
theorem dX5_execute_139 : decode cX5_execute 139 = .ok (.aload_n 0, 1) := dk_42 (dk_at dksX5_execute_5 23 rfl rfl)
theorem dX5_execute_140 : decode cX5_execute 140 = .ok (.aload_n 0, 1) := dk_42 (dk_at dksX5_execute_6 0 rfl rfl)
theorem dX5_execute_141 : decode cX5_execute 141 = .ok (.getfield 19, 3) := dk_180 0 19 (dk_at dksX5_execute_6 1 rfl rfl)
theorem dX5_execute_144 : decode cX5_execute 144 = .ok (.invokevirtual 86, 3) := dk_182 0 86 (dk_at dksX5_execute_6 4 rfl rfl)
theorem dX5_execute_147 : decode cX5_execute 147 = .ok (.aload_n 0, 1) := dk_42 (dk_at dksX5_execute_6 7 rfl rfl)
theorem dX5_execute_148 : decode cX5_execute 148 = .ok (.getfield 215, 3) := dk_180 0 215 (dk_at dksX5_execute_6 8 rfl rfl)
theorem dX5_execute_151 : decode cX5_execute 151 = .ok (.ireturn, 1) := dk_172 (dk_at dksX5_execute_6 11 rfl rfl)
abbrev cX5_isText : ByteArray := prog_12_method_98_code
def yX5_isText : MethodName := ⟨RX5, "isText", "()Z"⟩
def dkwX5_isText_2 : List UInt8 := [160, 0, 7, 4, 167, 0, 4, 3, 172]
abbrev dktX5_isText_2 : List UInt8 := dkwX5_isText_2 ++ []
def dkwX5_isText_1 : List UInt8 := [4, 96, 181, 0, 215, 42, 16, 59, 182, 0, 225, 154, 255, 231, 42, 180, 0, 209, 42, 180, 0, 206]
abbrev dktX5_isText_1 : List UInt8 := dkwX5_isText_1 ++ dktX5_isText_2
def dkwX5_isText_0 : List UInt8 := [42, 3, 181, 0, 209, 42, 3, 181, 0, 215, 42, 182, 1, 10, 154, 0, 5, 3, 172, 42, 89, 180, 0, 215]
abbrev dktX5_isText_0 : List UInt8 := dkwX5_isText_0 ++ dktX5_isText_1
theorem dksX5_isText_0 : cX5_isText.data.toList.drop 0 = dktX5_isText_0 := by decide +kernel
theorem dksX5_isText_1 : cX5_isText.data.toList.drop 24 = dktX5_isText_1 := dk_seg dksX5_isText_0 24 rfl rfl
theorem dksX5_isText_2 : cX5_isText.data.toList.drop 46 = dktX5_isText_2 := dk_seg dksX5_isText_1 22 rfl rfl
theorem dX5_isText_0 : decode cX5_isText 0 = .ok (.aload_n 0, 1) := dk_42 (dk_at dksX5_isText_0 0 rfl rfl)
theorem dX5_isText_1 : decode cX5_isText 1 = .ok (.iconst 0, 1) := dk_3 (dk_at dksX5_isText_0 1 rfl rfl)
theorem dX5_isText_2 : decode cX5_isText 2 = .ok (.putfield 209, 3) := dk_181 0 209 (dk_at dksX5_isText_0 2 rfl rfl)
theorem dX5_isText_5 : decode cX5_isText 5 = .ok (.aload_n 0, 1) := dk_42 (dk_at dksX5_isText_0 5 rfl rfl)
theorem dX5_isText_6 : decode cX5_isText 6 = .ok (.iconst 0, 1) := dk_3 (dk_at dksX5_isText_0 6 rfl rfl)
theorem dX5_isText_7 : decode cX5_isText 7 = .ok (.putfield 215, 3) := dk_181 0 215 (dk_at dksX5_isText_0 7 rfl rfl)
theorem dX5_isText_10 : decode cX5_isText 10 = .ok (.aload_n 0, 1) := dk_42 (dk_at dksX5_isText_0 10 rfl rfl)
theorem dX5_isText_11 : decode cX5_isText 11 = .ok (.invokevirtual 266, 3) := dk_182 1 10 (dk_at dksX5_isText_0 11 rfl rfl)
theorem dX5_isText_14 : decode cX5_isText 14 = .ok (.ifCond .ne 5, 3) := dk_154 0 5 (dk_at dksX5_isText_0 14 rfl rfl)
theorem dX5_isText_17 : decode cX5_isText 17 = .ok (.iconst 0, 1) := dk_3 (dk_at dksX5_isText_0 17 rfl rfl)
theorem dX5_isText_18 : decode cX5_isText 18 = .ok (.ireturn, 1) := dk_172 (dk_at dksX5_isText_0 18 rfl rfl)
theorem dX5_isText_19 : decode cX5_isText 19 = .ok (.aload_n 0, 1) := dk_42 (dk_at dksX5_isText_0 19 rfl rfl)
theorem dX5_isText_20 : decode cX5_isText 20 = .ok (.dup, 1) := dk_89 (dk_at dksX5_isText_0 20 rfl rfl)
theorem dX5_isText_21 : decode cX5_isText 21 = .ok (.getfield 215, 3) := dk_180 0 215 (dk_at dksX5_isText_0 21 rfl rfl)
theorem dX5_isText_24 : decode cX5_isText 24 = .ok (.iconst 1, 1) := dk_4 (dk_at dksX5_isText_1 0 rfl rfl)
theorem dX5_isText_25 : decode cX5_isText 25 = .ok (.iadd, 1) := dk_96 (dk_at dksX5_isText_1 1 rfl rfl)
theorem dX5_isText_26 : decode cX5_isText 26 = .ok (.putfield 215, 3) := dk_181 0 215 (dk_at dksX5_isText_1 2 rfl rfl)
theorem dX5_isText_29 : decode cX5_isText 29 = .ok (.aload_n 0, 1) := dk_42 (dk_at dksX5_isText_1 5 rfl rfl)
theorem dX5_isText_30 : decode cX5_isText 30 = .ok (.bipush 59, 2) := dk_16 59 (dk_at dksX5_isText_1 6 rfl rfl)
theorem dX5_isText_32 : decode cX5_isText 32 = .ok (.invokevirtual 225, 3) := dk_182 0 225 (dk_at dksX5_isText_1 8 rfl rfl)
theorem dX5_isText_35 : decode cX5_isText 35 = .ok (.ifCond .ne (-25), 3) := dk_154 255 231 (dk_at dksX5_isText_1 11 rfl rfl)
theorem dX5_isText_38 : decode cX5_isText 38 = .ok (.aload_n 0, 1) := dk_42 (dk_at dksX5_isText_1 14 rfl rfl)
theorem dX5_isText_39 : decode cX5_isText 39 = .ok (.getfield 209, 3) := dk_180 0 209 (dk_at dksX5_isText_1 15 rfl rfl)
theorem dX5_isText_42 : decode cX5_isText 42 = .ok (.aload_n 0, 1) := dk_42 (dk_at dksX5_isText_1 18 rfl rfl)
theorem dX5_isText_43 : decode cX5_isText 43 = .ok (.getfield 206, 3) := dk_180 0 206 (dk_at dksX5_isText_1 19 rfl rfl)
theorem dX5_isText_46 : decode cX5_isText 46 = .ok (.if_icmp .ne 7, 3) := dk_160 0 7 (dk_at dksX5_isText_2 0 rfl rfl)
theorem dX5_isText_49 : decode cX5_isText 49 = .ok (.iconst 1, 1) := dk_4 (dk_at dksX5_isText_2 3 rfl rfl)
theorem dX5_isText_50 : decode cX5_isText 50 = .ok (.goto 4, 3) := dk_167 0 4 (dk_at dksX5_isText_2 4 rfl rfl)
theorem dX5_isText_53 : decode cX5_isText 53 = .ok (.iconst 0, 1) := dk_3 (dk_at dksX5_isText_2 7 rfl rfl)
theorem dX5_isText_54 : decode cX5_isText 54 = .ok (.ireturn, 1) := dk_172 (dk_at dksX5_isText_2 8 rfl rfl)
abbrev cX5_commandHere : ByteArray := prog_12_method_97_code
def yX5_commandHere : MethodName := ⟨RX5, "commandHere", "()Z"⟩
def dkwX5_commandHere_18 : List UInt8 := [167, 0, 4, 3, 172]
abbrev dktX5_commandHere_18 : List UInt8 := dkwX5_commandHere_18 ++ []
def dkwX5_commandHere_17 : List UInt8 := [42, 27, 4, 96, 4, 182, 0, 240, 153, 0, 18, 42, 27, 5, 96, 4, 182, 0, 240, 153, 0, 7, 4]
abbrev dktX5_commandHere_17 : List UInt8 := dkwX5_commandHere_17 ++ dktX5_commandHere_18
def dkwX5_commandHere_16 : List UInt8 := [153, 0, 50, 42, 16, 10, 19, 1, 8, 182, 0, 233, 153, 0, 38, 42, 27, 5, 182, 0, 240, 153, 0, 29]
abbrev dktX5_commandHere_16 : List UInt8 := dkwX5_commandHere_16 ++ dktX5_commandHere_17
def dkwX5_commandHere_15 : List UInt8 := [27, 4, 96, 4, 182, 0, 240, 153, 0, 7, 4, 167, 0, 4, 3, 172, 42, 16, 116, 182, 0, 225]
abbrev dktX5_commandHere_15 : List UInt8 := dkwX5_commandHere_15 ++ dktX5_commandHere_16
def dkwX5_commandHere_14 : List UInt8 := [153, 0, 40, 42, 16, 9, 19, 1, 6, 182, 0, 233, 153, 0, 26, 42, 27, 182, 0, 228, 153, 0, 18, 42]
abbrev dktX5_commandHere_14 : List UInt8 := dkwX5_commandHere_14 ++ dktX5_commandHere_15
def dkwX5_commandHere_13 : List UInt8 := [182, 0, 225, 153, 0, 13, 42, 16, 7, 19, 1, 4, 182, 0, 233, 172, 42, 16, 109, 182, 0, 225]
abbrev dktX5_commandHere_13 : List UInt8 := dkwX5_commandHere_13 ++ dktX5_commandHere_14
def dkwX5_commandHere_12 : List UInt8 := [182, 0, 233, 153, 0, 15, 42, 27, 182, 0, 228, 153, 0, 7, 4, 167, 0, 4, 3, 172, 42, 16, 111]
abbrev dktX5_commandHere_12 : List UInt8 := dkwX5_commandHere_12 ++ dktX5_commandHere_13
def dkwX5_commandHere_11 : List UInt8 := [153, 0, 7, 4, 167, 0, 4, 3, 172, 42, 16, 98, 182, 0, 225, 153, 0, 29, 42, 16, 6, 19, 1, 2]
abbrev dktX5_commandHere_11 : List UInt8 := dkwX5_commandHere_11 ++ dktX5_commandHere_12
def dkwX5_commandHere_10 : List UInt8 := [182, 0, 225, 153, 0, 28, 42, 8, 19, 1, 0, 182, 0, 233, 153, 0, 15, 42, 27, 182, 0, 247]
abbrev dktX5_commandHere_10 : List UInt8 := dkwX5_commandHere_10 ++ dktX5_commandHere_11
def dkwX5_commandHere_9 : List UInt8 := [182, 0, 233, 153, 0, 16, 42, 27, 4, 182, 0, 240, 153, 0, 7, 4, 167, 0, 4, 3, 172, 42, 16, 115]
abbrev dktX5_commandHere_9 : List UInt8 := dkwX5_commandHere_9 ++ dktX5_commandHere_10
def dkwX5_commandHere_8 : List UInt8 := [153, 0, 15, 42, 27, 182, 0, 247, 153, 0, 7, 4, 167, 0, 32, 3, 167, 0, 28, 42, 16, 8, 18, 254]
abbrev dktX5_commandHere_8 : List UInt8 := dkwX5_commandHere_8 ++ dktX5_commandHere_9
def dkwX5_commandHere_7 : List UInt8 := [16, 99, 182, 0, 225, 153, 0, 64, 42, 16, 117, 182, 0, 225, 153, 0, 29, 42, 7, 18, 252, 182, 0, 233]
abbrev dktX5_commandHere_7 : List UInt8 := dkwX5_commandHere_7 ++ dktX5_commandHere_8
def dkwX5_commandHere_6 : List UInt8 := [6, 18, 250, 182, 0, 233, 153, 0, 15, 42, 27, 182, 0, 247, 153, 0, 7, 4, 167, 0, 4, 3, 172, 42]
abbrev dktX5_commandHere_6 : List UInt8 := dkwX5_commandHere_6 ++ dktX5_commandHere_7
def dkwX5_commandHere_5 : List UInt8 := [42, 27, 182, 0, 247, 153, 0, 7, 4, 167, 0, 4, 3, 172, 42, 16, 108, 182, 0, 225, 153, 0, 27, 42]
abbrev dktX5_commandHere_5 : List UInt8 := dkwX5_commandHere_5 ++ dktX5_commandHere_6
def dkwX5_commandHere_4 : List UInt8 := [167, 0, 4, 3, 172, 42, 16, 110, 182, 0, 225, 153, 0, 27, 42, 5, 18, 245, 182, 0, 233, 153, 0, 15]
abbrev dktX5_commandHere_4 : List UInt8 := dkwX5_commandHere_4 ++ dktX5_commandHere_5
def dkwX5_commandHere_3 : List UInt8 := [153, 0, 27, 42, 4, 18, 243, 182, 0, 233, 153, 0, 15, 42, 27, 182, 0, 228, 153, 0, 7, 4]
abbrev dktX5_commandHere_3 : List UInt8 := dkwX5_commandHere_3 ++ dktX5_commandHere_4
def dkwX5_commandHere_2 : List UInt8 := [42, 27, 5, 96, 5, 182, 0, 240, 153, 0, 7, 4, 167, 0, 4, 3, 172, 42, 16, 100, 182, 0, 225]
abbrev dktX5_commandHere_2 : List UInt8 := dkwX5_commandHere_2 ++ dktX5_commandHere_3
def dkwX5_commandHere_1 : List UInt8 := [182, 0, 233, 153, 0, 36, 42, 27, 182, 0, 228, 153, 0, 28, 42, 27, 4, 96, 182, 0, 237, 153, 0, 18]
abbrev dktX5_commandHere_1 : List UInt8 := dkwX5_commandHere_1 ++ dktX5_commandHere_2
def dkwX5_commandHere_0 : List UInt8 := [7, 42, 180, 0, 215, 104, 4, 96, 60, 42, 16, 114, 182, 0, 225, 153, 0, 48, 42, 3, 18, 231]
abbrev dktX5_commandHere_0 : List UInt8 := dkwX5_commandHere_0 ++ dktX5_commandHere_1
theorem dksX5_commandHere_0 : cX5_commandHere.data.toList.drop 0 = dktX5_commandHere_0 := by decide +kernel
theorem dksX5_commandHere_1 : cX5_commandHere.data.toList.drop 22 = dktX5_commandHere_1 := dk_seg dksX5_commandHere_0 22 rfl rfl
theorem dksX5_commandHere_2 : cX5_commandHere.data.toList.drop 46 = dktX5_commandHere_2 := dk_seg dksX5_commandHere_1 24 rfl rfl
theorem dksX5_commandHere_3 : cX5_commandHere.data.toList.drop 69 = dktX5_commandHere_3 := dk_seg dksX5_commandHere_2 23 rfl rfl
theorem dksX5_commandHere_4 : cX5_commandHere.data.toList.drop 91 = dktX5_commandHere_4 := dk_seg dksX5_commandHere_3 22 rfl rfl
theorem dksX5_commandHere_5 : cX5_commandHere.data.toList.drop 115 = dktX5_commandHere_5 := dk_seg dksX5_commandHere_4 24 rfl rfl
theorem dksX5_commandHere_6 : cX5_commandHere.data.toList.drop 139 = dktX5_commandHere_6 := dk_seg dksX5_commandHere_5 24 rfl rfl
theorem dksX5_commandHere_7 : cX5_commandHere.data.toList.drop 163 = dktX5_commandHere_7 := dk_seg dksX5_commandHere_6 24 rfl rfl
theorem dksX5_commandHere_8 : cX5_commandHere.data.toList.drop 187 = dktX5_commandHere_8 := dk_seg dksX5_commandHere_7 24 rfl rfl
theorem dksX5_commandHere_9 : cX5_commandHere.data.toList.drop 211 = dktX5_commandHere_9 := dk_seg dksX5_commandHere_8 24 rfl rfl
theorem dksX5_commandHere_10 : cX5_commandHere.data.toList.drop 235 = dktX5_commandHere_10 := dk_seg dksX5_commandHere_9 24 rfl rfl
theorem dksX5_commandHere_11 : cX5_commandHere.data.toList.drop 257 = dktX5_commandHere_11 := dk_seg dksX5_commandHere_10 22 rfl rfl
theorem dksX5_commandHere_12 : cX5_commandHere.data.toList.drop 281 = dktX5_commandHere_12 := dk_seg dksX5_commandHere_11 24 rfl rfl
theorem dksX5_commandHere_13 : cX5_commandHere.data.toList.drop 304 = dktX5_commandHere_13 := dk_seg dksX5_commandHere_12 23 rfl rfl
theorem dksX5_commandHere_14 : cX5_commandHere.data.toList.drop 326 = dktX5_commandHere_14 := dk_seg dksX5_commandHere_13 22 rfl rfl
theorem dksX5_commandHere_15 : cX5_commandHere.data.toList.drop 350 = dktX5_commandHere_15 := dk_seg dksX5_commandHere_14 24 rfl rfl
theorem dksX5_commandHere_16 : cX5_commandHere.data.toList.drop 372 = dktX5_commandHere_16 := dk_seg dksX5_commandHere_15 22 rfl rfl
theorem dksX5_commandHere_17 : cX5_commandHere.data.toList.drop 396 = dktX5_commandHere_17 := dk_seg dksX5_commandHere_16 24 rfl rfl
theorem dksX5_commandHere_18 : cX5_commandHere.data.toList.drop 419 = dktX5_commandHere_18 := dk_seg dksX5_commandHere_17 23 rfl rfl
theorem dX5_commandHere_0 : decode cX5_commandHere 0 = .ok (.iconst 4, 1) := dk_7 (dk_at dksX5_commandHere_0 0 rfl rfl)
theorem dX5_commandHere_1 : decode cX5_commandHere 1 = .ok (.aload_n 0, 1) := dk_42 (dk_at dksX5_commandHere_0 1 rfl rfl)
theorem dX5_commandHere_2 : decode cX5_commandHere 2 = .ok (.getfield 215, 3) := dk_180 0 215 (dk_at dksX5_commandHere_0 2 rfl rfl)
theorem dX5_commandHere_5 : decode cX5_commandHere 5 = .ok (.imul, 1) := dk_104 (dk_at dksX5_commandHere_0 5 rfl rfl)
theorem dX5_commandHere_6 : decode cX5_commandHere 6 = .ok (.iconst 1, 1) := dk_4 (dk_at dksX5_commandHere_0 6 rfl rfl)
theorem dX5_commandHere_7 : decode cX5_commandHere 7 = .ok (.iadd, 1) := dk_96 (dk_at dksX5_commandHere_0 7 rfl rfl)
theorem dX5_commandHere_8 : decode cX5_commandHere 8 = .ok (.istore_n 1, 1) := dk_60 (dk_at dksX5_commandHere_0 8 rfl rfl)
theorem dX5_commandHere_9 : decode cX5_commandHere 9 = .ok (.aload_n 0, 1) := dk_42 (dk_at dksX5_commandHere_0 9 rfl rfl)
theorem dX5_commandHere_10 : decode cX5_commandHere 10 = .ok (.bipush 114, 2) := dk_16 114 (dk_at dksX5_commandHere_0 10 rfl rfl)
theorem dX5_commandHere_12 : decode cX5_commandHere 12 = .ok (.invokevirtual 225, 3) := dk_182 0 225 (dk_at dksX5_commandHere_0 12 rfl rfl)
theorem dX5_commandHere_15 : decode cX5_commandHere 15 = .ok (.ifCond .eq 48, 3) := dk_153 0 48 (dk_at dksX5_commandHere_0 15 rfl rfl)
theorem dX5_commandHere_18 : decode cX5_commandHere 18 = .ok (.aload_n 0, 1) := dk_42 (dk_at dksX5_commandHere_0 18 rfl rfl)
theorem dX5_commandHere_19 : decode cX5_commandHere 19 = .ok (.iconst 0, 1) := dk_3 (dk_at dksX5_commandHere_0 19 rfl rfl)
theorem dX5_commandHere_20 : decode cX5_commandHere 20 = .ok (.ldc 231, 2) := dk_18 231 (dk_at dksX5_commandHere_0 20 rfl rfl)
theorem dX5_commandHere_22 : decode cX5_commandHere 22 = .ok (.invokevirtual 233, 3) := dk_182 0 233 (dk_at dksX5_commandHere_1 0 rfl rfl)
theorem dX5_commandHere_25 : decode cX5_commandHere 25 = .ok (.ifCond .eq 36, 3) := dk_153 0 36 (dk_at dksX5_commandHere_1 3 rfl rfl)
theorem dX5_commandHere_28 : decode cX5_commandHere 28 = .ok (.aload_n 0, 1) := dk_42 (dk_at dksX5_commandHere_1 6 rfl rfl)
theorem dX5_commandHere_29 : decode cX5_commandHere 29 = .ok (.iload_n 1, 1) := dk_27 (dk_at dksX5_commandHere_1 7 rfl rfl)
theorem dX5_commandHere_30 : decode cX5_commandHere 30 = .ok (.invokevirtual 228, 3) := dk_182 0 228 (dk_at dksX5_commandHere_1 8 rfl rfl)
theorem dX5_commandHere_33 : decode cX5_commandHere 33 = .ok (.ifCond .eq 28, 3) := dk_153 0 28 (dk_at dksX5_commandHere_1 11 rfl rfl)
theorem dX5_commandHere_36 : decode cX5_commandHere 36 = .ok (.aload_n 0, 1) := dk_42 (dk_at dksX5_commandHere_1 14 rfl rfl)
theorem dX5_commandHere_37 : decode cX5_commandHere 37 = .ok (.iload_n 1, 1) := dk_27 (dk_at dksX5_commandHere_1 15 rfl rfl)
theorem dX5_commandHere_38 : decode cX5_commandHere 38 = .ok (.iconst 1, 1) := dk_4 (dk_at dksX5_commandHere_1 16 rfl rfl)
theorem dX5_commandHere_39 : decode cX5_commandHere 39 = .ok (.iadd, 1) := dk_96 (dk_at dksX5_commandHere_1 17 rfl rfl)
theorem dX5_commandHere_40 : decode cX5_commandHere 40 = .ok (.invokevirtual 237, 3) := dk_182 0 237 (dk_at dksX5_commandHere_1 18 rfl rfl)
theorem dX5_commandHere_43 : decode cX5_commandHere 43 = .ok (.ifCond .eq 18, 3) := dk_153 0 18 (dk_at dksX5_commandHere_1 21 rfl rfl)
theorem dX5_commandHere_46 : decode cX5_commandHere 46 = .ok (.aload_n 0, 1) := dk_42 (dk_at dksX5_commandHere_2 0 rfl rfl)
theorem dX5_commandHere_47 : decode cX5_commandHere 47 = .ok (.iload_n 1, 1) := dk_27 (dk_at dksX5_commandHere_2 1 rfl rfl)
theorem dX5_commandHere_48 : decode cX5_commandHere 48 = .ok (.iconst 2, 1) := dk_5 (dk_at dksX5_commandHere_2 2 rfl rfl)
theorem dX5_commandHere_49 : decode cX5_commandHere 49 = .ok (.iadd, 1) := dk_96 (dk_at dksX5_commandHere_2 3 rfl rfl)
theorem dX5_commandHere_50 : decode cX5_commandHere 50 = .ok (.iconst 2, 1) := dk_5 (dk_at dksX5_commandHere_2 4 rfl rfl)
theorem dX5_commandHere_51 : decode cX5_commandHere 51 = .ok (.invokevirtual 240, 3) := dk_182 0 240 (dk_at dksX5_commandHere_2 5 rfl rfl)
theorem dX5_commandHere_54 : decode cX5_commandHere 54 = .ok (.ifCond .eq 7, 3) := dk_153 0 7 (dk_at dksX5_commandHere_2 8 rfl rfl)
theorem dX5_commandHere_57 : decode cX5_commandHere 57 = .ok (.iconst 1, 1) := dk_4 (dk_at dksX5_commandHere_2 11 rfl rfl)
theorem dX5_commandHere_58 : decode cX5_commandHere 58 = .ok (.goto 4, 3) := dk_167 0 4 (dk_at dksX5_commandHere_2 12 rfl rfl)
theorem dX5_commandHere_61 : decode cX5_commandHere 61 = .ok (.iconst 0, 1) := dk_3 (dk_at dksX5_commandHere_2 15 rfl rfl)
theorem dX5_commandHere_62 : decode cX5_commandHere 62 = .ok (.ireturn, 1) := dk_172 (dk_at dksX5_commandHere_2 16 rfl rfl)
theorem dX5_commandHere_63 : decode cX5_commandHere 63 = .ok (.aload_n 0, 1) := dk_42 (dk_at dksX5_commandHere_2 17 rfl rfl)
theorem dX5_commandHere_64 : decode cX5_commandHere 64 = .ok (.bipush 100, 2) := dk_16 100 (dk_at dksX5_commandHere_2 18 rfl rfl)
theorem dX5_commandHere_66 : decode cX5_commandHere 66 = .ok (.invokevirtual 225, 3) := dk_182 0 225 (dk_at dksX5_commandHere_2 20 rfl rfl)
theorem dX5_commandHere_69 : decode cX5_commandHere 69 = .ok (.ifCond .eq 27, 3) := dk_153 0 27 (dk_at dksX5_commandHere_3 0 rfl rfl)
theorem dX5_commandHere_72 : decode cX5_commandHere 72 = .ok (.aload_n 0, 1) := dk_42 (dk_at dksX5_commandHere_3 3 rfl rfl)
theorem dX5_commandHere_73 : decode cX5_commandHere 73 = .ok (.iconst 1, 1) := dk_4 (dk_at dksX5_commandHere_3 4 rfl rfl)
theorem dX5_commandHere_74 : decode cX5_commandHere 74 = .ok (.ldc 243, 2) := dk_18 243 (dk_at dksX5_commandHere_3 5 rfl rfl)
theorem dX5_commandHere_76 : decode cX5_commandHere 76 = .ok (.invokevirtual 233, 3) := dk_182 0 233 (dk_at dksX5_commandHere_3 7 rfl rfl)
theorem dX5_commandHere_79 : decode cX5_commandHere 79 = .ok (.ifCond .eq 15, 3) := dk_153 0 15 (dk_at dksX5_commandHere_3 10 rfl rfl)
theorem dX5_commandHere_82 : decode cX5_commandHere 82 = .ok (.aload_n 0, 1) := dk_42 (dk_at dksX5_commandHere_3 13 rfl rfl)
theorem dX5_commandHere_83 : decode cX5_commandHere 83 = .ok (.iload_n 1, 1) := dk_27 (dk_at dksX5_commandHere_3 14 rfl rfl)
theorem dX5_commandHere_84 : decode cX5_commandHere 84 = .ok (.invokevirtual 228, 3) := dk_182 0 228 (dk_at dksX5_commandHere_3 15 rfl rfl)
theorem dX5_commandHere_87 : decode cX5_commandHere 87 = .ok (.ifCond .eq 7, 3) := dk_153 0 7 (dk_at dksX5_commandHere_3 18 rfl rfl)
theorem dX5_commandHere_90 : decode cX5_commandHere 90 = .ok (.iconst 1, 1) := dk_4 (dk_at dksX5_commandHere_3 21 rfl rfl)
theorem dX5_commandHere_91 : decode cX5_commandHere 91 = .ok (.goto 4, 3) := dk_167 0 4 (dk_at dksX5_commandHere_4 0 rfl rfl)
theorem dX5_commandHere_94 : decode cX5_commandHere 94 = .ok (.iconst 0, 1) := dk_3 (dk_at dksX5_commandHere_4 3 rfl rfl)
theorem dX5_commandHere_95 : decode cX5_commandHere 95 = .ok (.ireturn, 1) := dk_172 (dk_at dksX5_commandHere_4 4 rfl rfl)
theorem dX5_commandHere_96 : decode cX5_commandHere 96 = .ok (.aload_n 0, 1) := dk_42 (dk_at dksX5_commandHere_4 5 rfl rfl)
theorem dX5_commandHere_97 : decode cX5_commandHere 97 = .ok (.bipush 110, 2) := dk_16 110 (dk_at dksX5_commandHere_4 6 rfl rfl)
theorem dX5_commandHere_99 : decode cX5_commandHere 99 = .ok (.invokevirtual 225, 3) := dk_182 0 225 (dk_at dksX5_commandHere_4 8 rfl rfl)
theorem dX5_commandHere_102 : decode cX5_commandHere 102 = .ok (.ifCond .eq 27, 3) := dk_153 0 27 (dk_at dksX5_commandHere_4 11 rfl rfl)
theorem dX5_commandHere_105 : decode cX5_commandHere 105 = .ok (.aload_n 0, 1) := dk_42 (dk_at dksX5_commandHere_4 14 rfl rfl)
theorem dX5_commandHere_106 : decode cX5_commandHere 106 = .ok (.iconst 2, 1) := dk_5 (dk_at dksX5_commandHere_4 15 rfl rfl)
theorem dX5_commandHere_107 : decode cX5_commandHere 107 = .ok (.ldc 245, 2) := dk_18 245 (dk_at dksX5_commandHere_4 16 rfl rfl)
theorem dX5_commandHere_109 : decode cX5_commandHere 109 = .ok (.invokevirtual 233, 3) := dk_182 0 233 (dk_at dksX5_commandHere_4 18 rfl rfl)
theorem dX5_commandHere_112 : decode cX5_commandHere 112 = .ok (.ifCond .eq 15, 3) := dk_153 0 15 (dk_at dksX5_commandHere_4 21 rfl rfl)
theorem dX5_commandHere_115 : decode cX5_commandHere 115 = .ok (.aload_n 0, 1) := dk_42 (dk_at dksX5_commandHere_5 0 rfl rfl)
theorem dX5_commandHere_116 : decode cX5_commandHere 116 = .ok (.iload_n 1, 1) := dk_27 (dk_at dksX5_commandHere_5 1 rfl rfl)
theorem dX5_commandHere_117 : decode cX5_commandHere 117 = .ok (.invokevirtual 247, 3) := dk_182 0 247 (dk_at dksX5_commandHere_5 2 rfl rfl)
theorem dX5_commandHere_120 : decode cX5_commandHere 120 = .ok (.ifCond .eq 7, 3) := dk_153 0 7 (dk_at dksX5_commandHere_5 5 rfl rfl)
theorem dX5_commandHere_123 : decode cX5_commandHere 123 = .ok (.iconst 1, 1) := dk_4 (dk_at dksX5_commandHere_5 8 rfl rfl)
theorem dX5_commandHere_124 : decode cX5_commandHere 124 = .ok (.goto 4, 3) := dk_167 0 4 (dk_at dksX5_commandHere_5 9 rfl rfl)
theorem dX5_commandHere_127 : decode cX5_commandHere 127 = .ok (.iconst 0, 1) := dk_3 (dk_at dksX5_commandHere_5 12 rfl rfl)
theorem dX5_commandHere_128 : decode cX5_commandHere 128 = .ok (.ireturn, 1) := dk_172 (dk_at dksX5_commandHere_5 13 rfl rfl)
theorem dX5_commandHere_129 : decode cX5_commandHere 129 = .ok (.aload_n 0, 1) := dk_42 (dk_at dksX5_commandHere_5 14 rfl rfl)
theorem dX5_commandHere_130 : decode cX5_commandHere 130 = .ok (.bipush 108, 2) := dk_16 108 (dk_at dksX5_commandHere_5 15 rfl rfl)
theorem dX5_commandHere_132 : decode cX5_commandHere 132 = .ok (.invokevirtual 225, 3) := dk_182 0 225 (dk_at dksX5_commandHere_5 17 rfl rfl)
theorem dX5_commandHere_135 : decode cX5_commandHere 135 = .ok (.ifCond .eq 27, 3) := dk_153 0 27 (dk_at dksX5_commandHere_5 20 rfl rfl)
theorem dX5_commandHere_138 : decode cX5_commandHere 138 = .ok (.aload_n 0, 1) := dk_42 (dk_at dksX5_commandHere_5 23 rfl rfl)
theorem dX5_commandHere_139 : decode cX5_commandHere 139 = .ok (.iconst 3, 1) := dk_6 (dk_at dksX5_commandHere_6 0 rfl rfl)
theorem dX5_commandHere_140 : decode cX5_commandHere 140 = .ok (.ldc 250, 2) := dk_18 250 (dk_at dksX5_commandHere_6 1 rfl rfl)
theorem dX5_commandHere_142 : decode cX5_commandHere 142 = .ok (.invokevirtual 233, 3) := dk_182 0 233 (dk_at dksX5_commandHere_6 3 rfl rfl)
theorem dX5_commandHere_145 : decode cX5_commandHere 145 = .ok (.ifCond .eq 15, 3) := dk_153 0 15 (dk_at dksX5_commandHere_6 6 rfl rfl)
theorem dX5_commandHere_148 : decode cX5_commandHere 148 = .ok (.aload_n 0, 1) := dk_42 (dk_at dksX5_commandHere_6 9 rfl rfl)
theorem dX5_commandHere_149 : decode cX5_commandHere 149 = .ok (.iload_n 1, 1) := dk_27 (dk_at dksX5_commandHere_6 10 rfl rfl)
theorem dX5_commandHere_150 : decode cX5_commandHere 150 = .ok (.invokevirtual 247, 3) := dk_182 0 247 (dk_at dksX5_commandHere_6 11 rfl rfl)
theorem dX5_commandHere_153 : decode cX5_commandHere 153 = .ok (.ifCond .eq 7, 3) := dk_153 0 7 (dk_at dksX5_commandHere_6 14 rfl rfl)
theorem dX5_commandHere_156 : decode cX5_commandHere 156 = .ok (.iconst 1, 1) := dk_4 (dk_at dksX5_commandHere_6 17 rfl rfl)
theorem dX5_commandHere_157 : decode cX5_commandHere 157 = .ok (.goto 4, 3) := dk_167 0 4 (dk_at dksX5_commandHere_6 18 rfl rfl)
theorem dX5_commandHere_160 : decode cX5_commandHere 160 = .ok (.iconst 0, 1) := dk_3 (dk_at dksX5_commandHere_6 21 rfl rfl)
theorem dX5_commandHere_161 : decode cX5_commandHere 161 = .ok (.ireturn, 1) := dk_172 (dk_at dksX5_commandHere_6 22 rfl rfl)
theorem dX5_commandHere_162 : decode cX5_commandHere 162 = .ok (.aload_n 0, 1) := dk_42 (dk_at dksX5_commandHere_6 23 rfl rfl)
theorem dX5_commandHere_163 : decode cX5_commandHere 163 = .ok (.bipush 99, 2) := dk_16 99 (dk_at dksX5_commandHere_7 0 rfl rfl)
theorem dX5_commandHere_165 : decode cX5_commandHere 165 = .ok (.invokevirtual 225, 3) := dk_182 0 225 (dk_at dksX5_commandHere_7 2 rfl rfl)
theorem dX5_commandHere_168 : decode cX5_commandHere 168 = .ok (.ifCond .eq 64, 3) := dk_153 0 64 (dk_at dksX5_commandHere_7 5 rfl rfl)
theorem dX5_commandHere_171 : decode cX5_commandHere 171 = .ok (.aload_n 0, 1) := dk_42 (dk_at dksX5_commandHere_7 8 rfl rfl)
theorem dX5_commandHere_172 : decode cX5_commandHere 172 = .ok (.bipush 117, 2) := dk_16 117 (dk_at dksX5_commandHere_7 9 rfl rfl)
theorem dX5_commandHere_174 : decode cX5_commandHere 174 = .ok (.invokevirtual 225, 3) := dk_182 0 225 (dk_at dksX5_commandHere_7 11 rfl rfl)
theorem dX5_commandHere_177 : decode cX5_commandHere 177 = .ok (.ifCond .eq 29, 3) := dk_153 0 29 (dk_at dksX5_commandHere_7 14 rfl rfl)
theorem dX5_commandHere_180 : decode cX5_commandHere 180 = .ok (.aload_n 0, 1) := dk_42 (dk_at dksX5_commandHere_7 17 rfl rfl)
theorem dX5_commandHere_181 : decode cX5_commandHere 181 = .ok (.iconst 4, 1) := dk_7 (dk_at dksX5_commandHere_7 18 rfl rfl)
theorem dX5_commandHere_182 : decode cX5_commandHere 182 = .ok (.ldc 252, 2) := dk_18 252 (dk_at dksX5_commandHere_7 19 rfl rfl)
theorem dX5_commandHere_184 : decode cX5_commandHere 184 = .ok (.invokevirtual 233, 3) := dk_182 0 233 (dk_at dksX5_commandHere_7 21 rfl rfl)
theorem dX5_commandHere_187 : decode cX5_commandHere 187 = .ok (.ifCond .eq 15, 3) := dk_153 0 15 (dk_at dksX5_commandHere_8 0 rfl rfl)
theorem dX5_commandHere_190 : decode cX5_commandHere 190 = .ok (.aload_n 0, 1) := dk_42 (dk_at dksX5_commandHere_8 3 rfl rfl)
theorem dX5_commandHere_191 : decode cX5_commandHere 191 = .ok (.iload_n 1, 1) := dk_27 (dk_at dksX5_commandHere_8 4 rfl rfl)
theorem dX5_commandHere_192 : decode cX5_commandHere 192 = .ok (.invokevirtual 247, 3) := dk_182 0 247 (dk_at dksX5_commandHere_8 5 rfl rfl)
theorem dX5_commandHere_195 : decode cX5_commandHere 195 = .ok (.ifCond .eq 7, 3) := dk_153 0 7 (dk_at dksX5_commandHere_8 8 rfl rfl)
theorem dX5_commandHere_198 : decode cX5_commandHere 198 = .ok (.iconst 1, 1) := dk_4 (dk_at dksX5_commandHere_8 11 rfl rfl)
theorem dX5_commandHere_199 : decode cX5_commandHere 199 = .ok (.goto 32, 3) := dk_167 0 32 (dk_at dksX5_commandHere_8 12 rfl rfl)
theorem dX5_commandHere_202 : decode cX5_commandHere 202 = .ok (.iconst 0, 1) := dk_3 (dk_at dksX5_commandHere_8 15 rfl rfl)
theorem dX5_commandHere_203 : decode cX5_commandHere 203 = .ok (.goto 28, 3) := dk_167 0 28 (dk_at dksX5_commandHere_8 16 rfl rfl)
theorem dX5_commandHere_206 : decode cX5_commandHere 206 = .ok (.aload_n 0, 1) := dk_42 (dk_at dksX5_commandHere_8 19 rfl rfl)
theorem dX5_commandHere_207 : decode cX5_commandHere 207 = .ok (.bipush 8, 2) := dk_16 8 (dk_at dksX5_commandHere_8 20 rfl rfl)
theorem dX5_commandHere_209 : decode cX5_commandHere 209 = .ok (.ldc 254, 2) := dk_18 254 (dk_at dksX5_commandHere_8 22 rfl rfl)
theorem dX5_commandHere_211 : decode cX5_commandHere 211 = .ok (.invokevirtual 233, 3) := dk_182 0 233 (dk_at dksX5_commandHere_9 0 rfl rfl)
theorem dX5_commandHere_214 : decode cX5_commandHere 214 = .ok (.ifCond .eq 16, 3) := dk_153 0 16 (dk_at dksX5_commandHere_9 3 rfl rfl)
theorem dX5_commandHere_217 : decode cX5_commandHere 217 = .ok (.aload_n 0, 1) := dk_42 (dk_at dksX5_commandHere_9 6 rfl rfl)
theorem dX5_commandHere_218 : decode cX5_commandHere 218 = .ok (.iload_n 1, 1) := dk_27 (dk_at dksX5_commandHere_9 7 rfl rfl)
theorem dX5_commandHere_219 : decode cX5_commandHere 219 = .ok (.iconst 1, 1) := dk_4 (dk_at dksX5_commandHere_9 8 rfl rfl)
theorem dX5_commandHere_220 : decode cX5_commandHere 220 = .ok (.invokevirtual 240, 3) := dk_182 0 240 (dk_at dksX5_commandHere_9 9 rfl rfl)
theorem dX5_commandHere_223 : decode cX5_commandHere 223 = .ok (.ifCond .eq 7, 3) := dk_153 0 7 (dk_at dksX5_commandHere_9 12 rfl rfl)
theorem dX5_commandHere_226 : decode cX5_commandHere 226 = .ok (.iconst 1, 1) := dk_4 (dk_at dksX5_commandHere_9 15 rfl rfl)
theorem dX5_commandHere_227 : decode cX5_commandHere 227 = .ok (.goto 4, 3) := dk_167 0 4 (dk_at dksX5_commandHere_9 16 rfl rfl)
theorem dX5_commandHere_230 : decode cX5_commandHere 230 = .ok (.iconst 0, 1) := dk_3 (dk_at dksX5_commandHere_9 19 rfl rfl)
theorem dX5_commandHere_231 : decode cX5_commandHere 231 = .ok (.ireturn, 1) := dk_172 (dk_at dksX5_commandHere_9 20 rfl rfl)
theorem dX5_commandHere_232 : decode cX5_commandHere 232 = .ok (.aload_n 0, 1) := dk_42 (dk_at dksX5_commandHere_9 21 rfl rfl)
theorem dX5_commandHere_233 : decode cX5_commandHere 233 = .ok (.bipush 115, 2) := dk_16 115 (dk_at dksX5_commandHere_9 22 rfl rfl)
theorem dX5_commandHere_235 : decode cX5_commandHere 235 = .ok (.invokevirtual 225, 3) := dk_182 0 225 (dk_at dksX5_commandHere_10 0 rfl rfl)
theorem dX5_commandHere_238 : decode cX5_commandHere 238 = .ok (.ifCond .eq 28, 3) := dk_153 0 28 (dk_at dksX5_commandHere_10 3 rfl rfl)
theorem dX5_commandHere_241 : decode cX5_commandHere 241 = .ok (.aload_n 0, 1) := dk_42 (dk_at dksX5_commandHere_10 6 rfl rfl)
theorem dX5_commandHere_242 : decode cX5_commandHere 242 = .ok (.iconst 5, 1) := dk_8 (dk_at dksX5_commandHere_10 7 rfl rfl)
theorem dX5_commandHere_243 : decode cX5_commandHere 243 = .ok (.ldc_w 256, 3) := dk_19 1 0 (dk_at dksX5_commandHere_10 8 rfl rfl)
theorem dX5_commandHere_246 : decode cX5_commandHere 246 = .ok (.invokevirtual 233, 3) := dk_182 0 233 (dk_at dksX5_commandHere_10 11 rfl rfl)
theorem dX5_commandHere_249 : decode cX5_commandHere 249 = .ok (.ifCond .eq 15, 3) := dk_153 0 15 (dk_at dksX5_commandHere_10 14 rfl rfl)
theorem dX5_commandHere_252 : decode cX5_commandHere 252 = .ok (.aload_n 0, 1) := dk_42 (dk_at dksX5_commandHere_10 17 rfl rfl)
theorem dX5_commandHere_253 : decode cX5_commandHere 253 = .ok (.iload_n 1, 1) := dk_27 (dk_at dksX5_commandHere_10 18 rfl rfl)
theorem dX5_commandHere_254 : decode cX5_commandHere 254 = .ok (.invokevirtual 247, 3) := dk_182 0 247 (dk_at dksX5_commandHere_10 19 rfl rfl)
theorem dX5_commandHere_257 : decode cX5_commandHere 257 = .ok (.ifCond .eq 7, 3) := dk_153 0 7 (dk_at dksX5_commandHere_11 0 rfl rfl)
theorem dX5_commandHere_260 : decode cX5_commandHere 260 = .ok (.iconst 1, 1) := dk_4 (dk_at dksX5_commandHere_11 3 rfl rfl)
theorem dX5_commandHere_261 : decode cX5_commandHere 261 = .ok (.goto 4, 3) := dk_167 0 4 (dk_at dksX5_commandHere_11 4 rfl rfl)
theorem dX5_commandHere_264 : decode cX5_commandHere 264 = .ok (.iconst 0, 1) := dk_3 (dk_at dksX5_commandHere_11 7 rfl rfl)
theorem dX5_commandHere_265 : decode cX5_commandHere 265 = .ok (.ireturn, 1) := dk_172 (dk_at dksX5_commandHere_11 8 rfl rfl)
theorem dX5_commandHere_266 : decode cX5_commandHere 266 = .ok (.aload_n 0, 1) := dk_42 (dk_at dksX5_commandHere_11 9 rfl rfl)
theorem dX5_commandHere_267 : decode cX5_commandHere 267 = .ok (.bipush 98, 2) := dk_16 98 (dk_at dksX5_commandHere_11 10 rfl rfl)
theorem dX5_commandHere_269 : decode cX5_commandHere 269 = .ok (.invokevirtual 225, 3) := dk_182 0 225 (dk_at dksX5_commandHere_11 12 rfl rfl)
theorem dX5_commandHere_272 : decode cX5_commandHere 272 = .ok (.ifCond .eq 29, 3) := dk_153 0 29 (dk_at dksX5_commandHere_11 15 rfl rfl)
theorem dX5_commandHere_275 : decode cX5_commandHere 275 = .ok (.aload_n 0, 1) := dk_42 (dk_at dksX5_commandHere_11 18 rfl rfl)
theorem dX5_commandHere_276 : decode cX5_commandHere 276 = .ok (.bipush 6, 2) := dk_16 6 (dk_at dksX5_commandHere_11 19 rfl rfl)
theorem dX5_commandHere_278 : decode cX5_commandHere 278 = .ok (.ldc_w 258, 3) := dk_19 1 2 (dk_at dksX5_commandHere_11 21 rfl rfl)
theorem dX5_commandHere_281 : decode cX5_commandHere 281 = .ok (.invokevirtual 233, 3) := dk_182 0 233 (dk_at dksX5_commandHere_12 0 rfl rfl)
theorem dX5_commandHere_284 : decode cX5_commandHere 284 = .ok (.ifCond .eq 15, 3) := dk_153 0 15 (dk_at dksX5_commandHere_12 3 rfl rfl)
theorem dX5_commandHere_287 : decode cX5_commandHere 287 = .ok (.aload_n 0, 1) := dk_42 (dk_at dksX5_commandHere_12 6 rfl rfl)
theorem dX5_commandHere_288 : decode cX5_commandHere 288 = .ok (.iload_n 1, 1) := dk_27 (dk_at dksX5_commandHere_12 7 rfl rfl)
theorem dX5_commandHere_289 : decode cX5_commandHere 289 = .ok (.invokevirtual 228, 3) := dk_182 0 228 (dk_at dksX5_commandHere_12 8 rfl rfl)
theorem dX5_commandHere_292 : decode cX5_commandHere 292 = .ok (.ifCond .eq 7, 3) := dk_153 0 7 (dk_at dksX5_commandHere_12 11 rfl rfl)
theorem dX5_commandHere_295 : decode cX5_commandHere 295 = .ok (.iconst 1, 1) := dk_4 (dk_at dksX5_commandHere_12 14 rfl rfl)
theorem dX5_commandHere_296 : decode cX5_commandHere 296 = .ok (.goto 4, 3) := dk_167 0 4 (dk_at dksX5_commandHere_12 15 rfl rfl)
theorem dX5_commandHere_299 : decode cX5_commandHere 299 = .ok (.iconst 0, 1) := dk_3 (dk_at dksX5_commandHere_12 18 rfl rfl)
theorem dX5_commandHere_300 : decode cX5_commandHere 300 = .ok (.ireturn, 1) := dk_172 (dk_at dksX5_commandHere_12 19 rfl rfl)
theorem dX5_commandHere_301 : decode cX5_commandHere 301 = .ok (.aload_n 0, 1) := dk_42 (dk_at dksX5_commandHere_12 20 rfl rfl)
theorem dX5_commandHere_302 : decode cX5_commandHere 302 = .ok (.bipush 111, 2) := dk_16 111 (dk_at dksX5_commandHere_12 21 rfl rfl)
theorem dX5_commandHere_304 : decode cX5_commandHere 304 = .ok (.invokevirtual 225, 3) := dk_182 0 225 (dk_at dksX5_commandHere_13 0 rfl rfl)
theorem dX5_commandHere_307 : decode cX5_commandHere 307 = .ok (.ifCond .eq 13, 3) := dk_153 0 13 (dk_at dksX5_commandHere_13 3 rfl rfl)
theorem dX5_commandHere_310 : decode cX5_commandHere 310 = .ok (.aload_n 0, 1) := dk_42 (dk_at dksX5_commandHere_13 6 rfl rfl)
theorem dX5_commandHere_311 : decode cX5_commandHere 311 = .ok (.bipush 7, 2) := dk_16 7 (dk_at dksX5_commandHere_13 7 rfl rfl)
theorem dX5_commandHere_313 : decode cX5_commandHere 313 = .ok (.ldc_w 260, 3) := dk_19 1 4 (dk_at dksX5_commandHere_13 9 rfl rfl)
theorem dX5_commandHere_316 : decode cX5_commandHere 316 = .ok (.invokevirtual 233, 3) := dk_182 0 233 (dk_at dksX5_commandHere_13 12 rfl rfl)
theorem dX5_commandHere_319 : decode cX5_commandHere 319 = .ok (.ireturn, 1) := dk_172 (dk_at dksX5_commandHere_13 15 rfl rfl)
theorem dX5_commandHere_320 : decode cX5_commandHere 320 = .ok (.aload_n 0, 1) := dk_42 (dk_at dksX5_commandHere_13 16 rfl rfl)
theorem dX5_commandHere_321 : decode cX5_commandHere 321 = .ok (.bipush 109, 2) := dk_16 109 (dk_at dksX5_commandHere_13 17 rfl rfl)
theorem dX5_commandHere_323 : decode cX5_commandHere 323 = .ok (.invokevirtual 225, 3) := dk_182 0 225 (dk_at dksX5_commandHere_13 19 rfl rfl)
theorem dX5_commandHere_326 : decode cX5_commandHere 326 = .ok (.ifCond .eq 40, 3) := dk_153 0 40 (dk_at dksX5_commandHere_14 0 rfl rfl)
theorem dX5_commandHere_329 : decode cX5_commandHere 329 = .ok (.aload_n 0, 1) := dk_42 (dk_at dksX5_commandHere_14 3 rfl rfl)
theorem dX5_commandHere_330 : decode cX5_commandHere 330 = .ok (.bipush 9, 2) := dk_16 9 (dk_at dksX5_commandHere_14 4 rfl rfl)
theorem dX5_commandHere_332 : decode cX5_commandHere 332 = .ok (.ldc_w 262, 3) := dk_19 1 6 (dk_at dksX5_commandHere_14 6 rfl rfl)
theorem dX5_commandHere_335 : decode cX5_commandHere 335 = .ok (.invokevirtual 233, 3) := dk_182 0 233 (dk_at dksX5_commandHere_14 9 rfl rfl)
theorem dX5_commandHere_338 : decode cX5_commandHere 338 = .ok (.ifCond .eq 26, 3) := dk_153 0 26 (dk_at dksX5_commandHere_14 12 rfl rfl)
theorem dX5_commandHere_341 : decode cX5_commandHere 341 = .ok (.aload_n 0, 1) := dk_42 (dk_at dksX5_commandHere_14 15 rfl rfl)
theorem dX5_commandHere_342 : decode cX5_commandHere 342 = .ok (.iload_n 1, 1) := dk_27 (dk_at dksX5_commandHere_14 16 rfl rfl)
theorem dX5_commandHere_343 : decode cX5_commandHere 343 = .ok (.invokevirtual 228, 3) := dk_182 0 228 (dk_at dksX5_commandHere_14 17 rfl rfl)
theorem dX5_commandHere_346 : decode cX5_commandHere 346 = .ok (.ifCond .eq 18, 3) := dk_153 0 18 (dk_at dksX5_commandHere_14 20 rfl rfl)
theorem dX5_commandHere_349 : decode cX5_commandHere 349 = .ok (.aload_n 0, 1) := dk_42 (dk_at dksX5_commandHere_14 23 rfl rfl)
theorem dX5_commandHere_350 : decode cX5_commandHere 350 = .ok (.iload_n 1, 1) := dk_27 (dk_at dksX5_commandHere_15 0 rfl rfl)
theorem dX5_commandHere_351 : decode cX5_commandHere 351 = .ok (.iconst 1, 1) := dk_4 (dk_at dksX5_commandHere_15 1 rfl rfl)
theorem dX5_commandHere_352 : decode cX5_commandHere 352 = .ok (.iadd, 1) := dk_96 (dk_at dksX5_commandHere_15 2 rfl rfl)
theorem dX5_commandHere_353 : decode cX5_commandHere 353 = .ok (.iconst 1, 1) := dk_4 (dk_at dksX5_commandHere_15 3 rfl rfl)
theorem dX5_commandHere_354 : decode cX5_commandHere 354 = .ok (.invokevirtual 240, 3) := dk_182 0 240 (dk_at dksX5_commandHere_15 4 rfl rfl)
theorem dX5_commandHere_357 : decode cX5_commandHere 357 = .ok (.ifCond .eq 7, 3) := dk_153 0 7 (dk_at dksX5_commandHere_15 7 rfl rfl)
theorem dX5_commandHere_360 : decode cX5_commandHere 360 = .ok (.iconst 1, 1) := dk_4 (dk_at dksX5_commandHere_15 10 rfl rfl)
theorem dX5_commandHere_361 : decode cX5_commandHere 361 = .ok (.goto 4, 3) := dk_167 0 4 (dk_at dksX5_commandHere_15 11 rfl rfl)
theorem dX5_commandHere_364 : decode cX5_commandHere 364 = .ok (.iconst 0, 1) := dk_3 (dk_at dksX5_commandHere_15 14 rfl rfl)
theorem dX5_commandHere_365 : decode cX5_commandHere 365 = .ok (.ireturn, 1) := dk_172 (dk_at dksX5_commandHere_15 15 rfl rfl)
theorem dX5_commandHere_366 : decode cX5_commandHere 366 = .ok (.aload_n 0, 1) := dk_42 (dk_at dksX5_commandHere_15 16 rfl rfl)
theorem dX5_commandHere_367 : decode cX5_commandHere 367 = .ok (.bipush 116, 2) := dk_16 116 (dk_at dksX5_commandHere_15 17 rfl rfl)
theorem dX5_commandHere_369 : decode cX5_commandHere 369 = .ok (.invokevirtual 225, 3) := dk_182 0 225 (dk_at dksX5_commandHere_15 19 rfl rfl)
theorem dX5_commandHere_372 : decode cX5_commandHere 372 = .ok (.ifCond .eq 50, 3) := dk_153 0 50 (dk_at dksX5_commandHere_16 0 rfl rfl)
theorem dX5_commandHere_375 : decode cX5_commandHere 375 = .ok (.aload_n 0, 1) := dk_42 (dk_at dksX5_commandHere_16 3 rfl rfl)
theorem dX5_commandHere_376 : decode cX5_commandHere 376 = .ok (.bipush 10, 2) := dk_16 10 (dk_at dksX5_commandHere_16 4 rfl rfl)
theorem dX5_commandHere_378 : decode cX5_commandHere 378 = .ok (.ldc_w 264, 3) := dk_19 1 8 (dk_at dksX5_commandHere_16 6 rfl rfl)
theorem dX5_commandHere_381 : decode cX5_commandHere 381 = .ok (.invokevirtual 233, 3) := dk_182 0 233 (dk_at dksX5_commandHere_16 9 rfl rfl)
theorem dX5_commandHere_384 : decode cX5_commandHere 384 = .ok (.ifCond .eq 38, 3) := dk_153 0 38 (dk_at dksX5_commandHere_16 12 rfl rfl)
theorem dX5_commandHere_387 : decode cX5_commandHere 387 = .ok (.aload_n 0, 1) := dk_42 (dk_at dksX5_commandHere_16 15 rfl rfl)
theorem dX5_commandHere_388 : decode cX5_commandHere 388 = .ok (.iload_n 1, 1) := dk_27 (dk_at dksX5_commandHere_16 16 rfl rfl)
theorem dX5_commandHere_389 : decode cX5_commandHere 389 = .ok (.iconst 2, 1) := dk_5 (dk_at dksX5_commandHere_16 17 rfl rfl)
theorem dX5_commandHere_390 : decode cX5_commandHere 390 = .ok (.invokevirtual 240, 3) := dk_182 0 240 (dk_at dksX5_commandHere_16 18 rfl rfl)
theorem dX5_commandHere_393 : decode cX5_commandHere 393 = .ok (.ifCond .eq 29, 3) := dk_153 0 29 (dk_at dksX5_commandHere_16 21 rfl rfl)
theorem dX5_commandHere_396 : decode cX5_commandHere 396 = .ok (.aload_n 0, 1) := dk_42 (dk_at dksX5_commandHere_17 0 rfl rfl)
theorem dX5_commandHere_397 : decode cX5_commandHere 397 = .ok (.iload_n 1, 1) := dk_27 (dk_at dksX5_commandHere_17 1 rfl rfl)
theorem dX5_commandHere_398 : decode cX5_commandHere 398 = .ok (.iconst 1, 1) := dk_4 (dk_at dksX5_commandHere_17 2 rfl rfl)
theorem dX5_commandHere_399 : decode cX5_commandHere 399 = .ok (.iadd, 1) := dk_96 (dk_at dksX5_commandHere_17 3 rfl rfl)
theorem dX5_commandHere_400 : decode cX5_commandHere 400 = .ok (.iconst 1, 1) := dk_4 (dk_at dksX5_commandHere_17 4 rfl rfl)
theorem dX5_commandHere_401 : decode cX5_commandHere 401 = .ok (.invokevirtual 240, 3) := dk_182 0 240 (dk_at dksX5_commandHere_17 5 rfl rfl)
theorem dX5_commandHere_404 : decode cX5_commandHere 404 = .ok (.ifCond .eq 18, 3) := dk_153 0 18 (dk_at dksX5_commandHere_17 8 rfl rfl)
theorem dX5_commandHere_407 : decode cX5_commandHere 407 = .ok (.aload_n 0, 1) := dk_42 (dk_at dksX5_commandHere_17 11 rfl rfl)
theorem dX5_commandHere_408 : decode cX5_commandHere 408 = .ok (.iload_n 1, 1) := dk_27 (dk_at dksX5_commandHere_17 12 rfl rfl)
theorem dX5_commandHere_409 : decode cX5_commandHere 409 = .ok (.iconst 2, 1) := dk_5 (dk_at dksX5_commandHere_17 13 rfl rfl)
theorem dX5_commandHere_410 : decode cX5_commandHere 410 = .ok (.iadd, 1) := dk_96 (dk_at dksX5_commandHere_17 14 rfl rfl)
theorem dX5_commandHere_411 : decode cX5_commandHere 411 = .ok (.iconst 1, 1) := dk_4 (dk_at dksX5_commandHere_17 15 rfl rfl)
theorem dX5_commandHere_412 : decode cX5_commandHere 412 = .ok (.invokevirtual 240, 3) := dk_182 0 240 (dk_at dksX5_commandHere_17 16 rfl rfl)
theorem dX5_commandHere_415 : decode cX5_commandHere 415 = .ok (.ifCond .eq 7, 3) := dk_153 0 7 (dk_at dksX5_commandHere_17 19 rfl rfl)
theorem dX5_commandHere_418 : decode cX5_commandHere 418 = .ok (.iconst 1, 1) := dk_4 (dk_at dksX5_commandHere_17 22 rfl rfl)
theorem dX5_commandHere_419 : decode cX5_commandHere 419 = .ok (.goto 4, 3) := dk_167 0 4 (dk_at dksX5_commandHere_18 0 rfl rfl)
theorem dX5_commandHere_422 : decode cX5_commandHere 422 = .ok (.iconst 0, 1) := dk_3 (dk_at dksX5_commandHere_18 3 rfl rfl)
theorem dX5_commandHere_423 : decode cX5_commandHere 423 = .ok (.ireturn, 1) := dk_172 (dk_at dksX5_commandHere_18 4 rfl rfl)
abbrev cX5_skips : ByteArray := prog_12_method_91_code
def yX5_skips : MethodName := ⟨RX5, "skips", "(I)Z"⟩
def dkwX5_skips_0 : List UInt8 := [42, 182, 0, 212, 27, 159, 0, 5, 3, 172, 42, 89, 180, 0, 209, 4, 96, 181, 0, 209, 4, 172]
abbrev dktX5_skips_0 : List UInt8 := dkwX5_skips_0 ++ []
theorem dksX5_skips_0 : cX5_skips.data.toList.drop 0 = dktX5_skips_0 := by decide +kernel
theorem dX5_skips_0 : decode cX5_skips 0 = .ok (.aload_n 0, 1) := dk_42 (dk_at dksX5_skips_0 0 rfl rfl)
theorem dX5_skips_1 : decode cX5_skips 1 = .ok (.invokevirtual 212, 3) := dk_182 0 212 (dk_at dksX5_skips_0 1 rfl rfl)
theorem dX5_skips_4 : decode cX5_skips 4 = .ok (.iload_n 1, 1) := dk_27 (dk_at dksX5_skips_0 4 rfl rfl)
theorem dX5_skips_5 : decode cX5_skips 5 = .ok (.if_icmp .eq 5, 3) := dk_159 0 5 (dk_at dksX5_skips_0 5 rfl rfl)
theorem dX5_skips_8 : decode cX5_skips 8 = .ok (.iconst 0, 1) := dk_3 (dk_at dksX5_skips_0 8 rfl rfl)
theorem dX5_skips_9 : decode cX5_skips 9 = .ok (.ireturn, 1) := dk_172 (dk_at dksX5_skips_0 9 rfl rfl)
theorem dX5_skips_10 : decode cX5_skips 10 = .ok (.aload_n 0, 1) := dk_42 (dk_at dksX5_skips_0 10 rfl rfl)
theorem dX5_skips_11 : decode cX5_skips 11 = .ok (.dup, 1) := dk_89 (dk_at dksX5_skips_0 11 rfl rfl)
theorem dX5_skips_12 : decode cX5_skips 12 = .ok (.getfield 209, 3) := dk_180 0 209 (dk_at dksX5_skips_0 12 rfl rfl)
theorem dX5_skips_15 : decode cX5_skips 15 = .ok (.iconst 1, 1) := dk_4 (dk_at dksX5_skips_0 15 rfl rfl)
theorem dX5_skips_16 : decode cX5_skips 16 = .ok (.iadd, 1) := dk_96 (dk_at dksX5_skips_0 16 rfl rfl)
theorem dX5_skips_17 : decode cX5_skips 17 = .ok (.putfield 209, 3) := dk_181 0 209 (dk_at dksX5_skips_0 17 rfl rfl)
theorem dX5_skips_20 : decode cX5_skips 20 = .ok (.iconst 1, 1) := dk_4 (dk_at dksX5_skips_0 20 rfl rfl)
theorem dX5_skips_21 : decode cX5_skips 21 = .ok (.ireturn, 1) := dk_172 (dk_at dksX5_skips_0 21 rfl rfl)
abbrev cX5_here : ByteArray := prog_12_method_90_code
def yX5_here : MethodName := ⟨RX5, "here", "()I"⟩
def dkwX5_here_1 : List UInt8 := [172]
abbrev dktX5_here_1 : List UInt8 := dkwX5_here_1 ++ []
def dkwX5_here_0 : List UInt8 := [42, 180, 0, 209, 42, 180, 0, 206, 162, 0, 15, 42, 180, 0, 22, 42, 180, 0, 209, 46, 167, 0, 4, 2]
abbrev dktX5_here_0 : List UInt8 := dkwX5_here_0 ++ dktX5_here_1
theorem dksX5_here_0 : cX5_here.data.toList.drop 0 = dktX5_here_0 := by decide +kernel
theorem dksX5_here_1 : cX5_here.data.toList.drop 24 = dktX5_here_1 := dk_seg dksX5_here_0 24 rfl rfl
theorem dX5_here_0 : decode cX5_here 0 = .ok (.aload_n 0, 1) := dk_42 (dk_at dksX5_here_0 0 rfl rfl)
theorem dX5_here_1 : decode cX5_here 1 = .ok (.getfield 209, 3) := dk_180 0 209 (dk_at dksX5_here_0 1 rfl rfl)
theorem dX5_here_4 : decode cX5_here 4 = .ok (.aload_n 0, 1) := dk_42 (dk_at dksX5_here_0 4 rfl rfl)
theorem dX5_here_5 : decode cX5_here 5 = .ok (.getfield 206, 3) := dk_180 0 206 (dk_at dksX5_here_0 5 rfl rfl)
theorem dX5_here_8 : decode cX5_here 8 = .ok (.if_icmp .ge 15, 3) := dk_162 0 15 (dk_at dksX5_here_0 8 rfl rfl)
theorem dX5_here_11 : decode cX5_here 11 = .ok (.aload_n 0, 1) := dk_42 (dk_at dksX5_here_0 11 rfl rfl)
theorem dX5_here_12 : decode cX5_here 12 = .ok (.getfield 22, 3) := dk_180 0 22 (dk_at dksX5_here_0 12 rfl rfl)
theorem dX5_here_15 : decode cX5_here 15 = .ok (.aload_n 0, 1) := dk_42 (dk_at dksX5_here_0 15 rfl rfl)
theorem dX5_here_16 : decode cX5_here 16 = .ok (.getfield 209, 3) := dk_180 0 209 (dk_at dksX5_here_0 16 rfl rfl)
theorem dX5_here_19 : decode cX5_here 19 = .ok (.iaload, 1) := dk_46 (dk_at dksX5_here_0 19 rfl rfl)
theorem dX5_here_20 : decode cX5_here 20 = .ok (.goto 4, 3) := dk_167 0 4 (dk_at dksX5_here_0 20 rfl rfl)
theorem dX5_here_23 : decode cX5_here 23 = .ok (.iconst (-1), 1) := dk_2 (dk_at dksX5_here_0 23 rfl rfl)
theorem dX5_here_24 : decode cX5_here 24 = .ok (.ireturn, 1) := dk_172 (dk_at dksX5_here_1 0 rfl rfl)
abbrev cX5_isWord : ByteArray := prog_12_method_92_code
def yX5_isWord : MethodName := ⟨RX5, "isWord", "(ILjava/lang/String;)Z"⟩
def dkwX5_isWord_1 : List UInt8 := [29, 182, 0, 222, 182, 0, 225, 154, 0, 5, 3, 172, 132, 3, 1, 167, 255, 231, 4, 172]
abbrev dktX5_isWord_1 : List UInt8 := dkwX5_isWord_1 ++ []
def dkwX5_isWord_0 : List UInt8 := [42, 180, 0, 36, 7, 42, 180, 0, 215, 104, 27, 79, 3, 62, 29, 44, 182, 0, 218, 162, 0, 23, 42, 44]
abbrev dktX5_isWord_0 : List UInt8 := dkwX5_isWord_0 ++ dktX5_isWord_1
theorem dksX5_isWord_0 : cX5_isWord.data.toList.drop 0 = dktX5_isWord_0 := by decide +kernel
theorem dksX5_isWord_1 : cX5_isWord.data.toList.drop 24 = dktX5_isWord_1 := dk_seg dksX5_isWord_0 24 rfl rfl
theorem dX5_isWord_0 : decode cX5_isWord 0 = .ok (.aload_n 0, 1) := dk_42 (dk_at dksX5_isWord_0 0 rfl rfl)
theorem dX5_isWord_1 : decode cX5_isWord 1 = .ok (.getfield 36, 3) := dk_180 0 36 (dk_at dksX5_isWord_0 1 rfl rfl)
theorem dX5_isWord_4 : decode cX5_isWord 4 = .ok (.iconst 4, 1) := dk_7 (dk_at dksX5_isWord_0 4 rfl rfl)
theorem dX5_isWord_5 : decode cX5_isWord 5 = .ok (.aload_n 0, 1) := dk_42 (dk_at dksX5_isWord_0 5 rfl rfl)
theorem dX5_isWord_6 : decode cX5_isWord 6 = .ok (.getfield 215, 3) := dk_180 0 215 (dk_at dksX5_isWord_0 6 rfl rfl)
theorem dX5_isWord_9 : decode cX5_isWord 9 = .ok (.imul, 1) := dk_104 (dk_at dksX5_isWord_0 9 rfl rfl)
theorem dX5_isWord_10 : decode cX5_isWord 10 = .ok (.iload_n 1, 1) := dk_27 (dk_at dksX5_isWord_0 10 rfl rfl)
theorem dX5_isWord_11 : decode cX5_isWord 11 = .ok (.iastore, 1) := dk_79 (dk_at dksX5_isWord_0 11 rfl rfl)
theorem dX5_isWord_12 : decode cX5_isWord 12 = .ok (.iconst 0, 1) := dk_3 (dk_at dksX5_isWord_0 12 rfl rfl)
theorem dX5_isWord_13 : decode cX5_isWord 13 = .ok (.istore_n 3, 1) := dk_62 (dk_at dksX5_isWord_0 13 rfl rfl)
theorem dX5_isWord_14 : decode cX5_isWord 14 = .ok (.iload_n 3, 1) := dk_29 (dk_at dksX5_isWord_0 14 rfl rfl)
theorem dX5_isWord_15 : decode cX5_isWord 15 = .ok (.aload_n 2, 1) := dk_44 (dk_at dksX5_isWord_0 15 rfl rfl)
theorem dX5_isWord_16 : decode cX5_isWord 16 = .ok (.invokevirtual 218, 3) := dk_182 0 218 (dk_at dksX5_isWord_0 16 rfl rfl)
theorem dX5_isWord_19 : decode cX5_isWord 19 = .ok (.if_icmp .ge 23, 3) := dk_162 0 23 (dk_at dksX5_isWord_0 19 rfl rfl)
theorem dX5_isWord_22 : decode cX5_isWord 22 = .ok (.aload_n 0, 1) := dk_42 (dk_at dksX5_isWord_0 22 rfl rfl)
theorem dX5_isWord_23 : decode cX5_isWord 23 = .ok (.aload_n 2, 1) := dk_44 (dk_at dksX5_isWord_0 23 rfl rfl)
theorem dX5_isWord_24 : decode cX5_isWord 24 = .ok (.iload_n 3, 1) := dk_29 (dk_at dksX5_isWord_1 0 rfl rfl)
theorem dX5_isWord_25 : decode cX5_isWord 25 = .ok (.invokevirtual 222, 3) := dk_182 0 222 (dk_at dksX5_isWord_1 1 rfl rfl)
theorem dX5_isWord_28 : decode cX5_isWord 28 = .ok (.invokevirtual 225, 3) := dk_182 0 225 (dk_at dksX5_isWord_1 4 rfl rfl)
theorem dX5_isWord_31 : decode cX5_isWord 31 = .ok (.ifCond .ne 5, 3) := dk_154 0 5 (dk_at dksX5_isWord_1 7 rfl rfl)
theorem dX5_isWord_34 : decode cX5_isWord 34 = .ok (.iconst 0, 1) := dk_3 (dk_at dksX5_isWord_1 10 rfl rfl)
theorem dX5_isWord_35 : decode cX5_isWord 35 = .ok (.ireturn, 1) := dk_172 (dk_at dksX5_isWord_1 11 rfl rfl)
theorem dX5_isWord_36 : decode cX5_isWord 36 = .ok (.iinc 3 1, 3) := dk_132 3 1 (dk_at dksX5_isWord_1 12 rfl rfl)
theorem dX5_isWord_39 : decode cX5_isWord 39 = .ok (.goto (-25), 3) := dk_167 255 231 (dk_at dksX5_isWord_1 15 rfl rfl)
theorem dX5_isWord_42 : decode cX5_isWord 42 = .ok (.iconst 1, 1) := dk_4 (dk_at dksX5_isWord_1 18 rfl rfl)
theorem dX5_isWord_43 : decode cX5_isWord 43 = .ok (.ireturn, 1) := dk_172 (dk_at dksX5_isWord_1 19 rfl rfl)
abbrev cX5_toolHere : ByteArray := prog_12_method_93_code
def yX5_toolHere : MethodName := ⟨RX5, "toolHere", "(I)Z"⟩
def dkwX5_toolHere_1 : List UInt8 := [180, 0, 36, 27, 42, 182, 0, 212, 79, 42, 89, 180, 0, 209, 4, 96, 181, 0, 209, 4, 172]
abbrev dktX5_toolHere_1 : List UInt8 := dkwX5_toolHere_1 ++ []
def dkwX5_toolHere_0 : List UInt8 := [42, 16, 32, 182, 0, 225, 153, 0, 13, 42, 182, 0, 212, 184, 0, 77, 154, 0, 5, 3, 172, 42]
abbrev dktX5_toolHere_0 : List UInt8 := dkwX5_toolHere_0 ++ dktX5_toolHere_1
theorem dksX5_toolHere_0 : cX5_toolHere.data.toList.drop 0 = dktX5_toolHere_0 := by decide +kernel
theorem dksX5_toolHere_1 : cX5_toolHere.data.toList.drop 22 = dktX5_toolHere_1 := dk_seg dksX5_toolHere_0 22 rfl rfl
theorem dX5_toolHere_0 : decode cX5_toolHere 0 = .ok (.aload_n 0, 1) := dk_42 (dk_at dksX5_toolHere_0 0 rfl rfl)
theorem dX5_toolHere_1 : decode cX5_toolHere 1 = .ok (.bipush 32, 2) := dk_16 32 (dk_at dksX5_toolHere_0 1 rfl rfl)
theorem dX5_toolHere_3 : decode cX5_toolHere 3 = .ok (.invokevirtual 225, 3) := dk_182 0 225 (dk_at dksX5_toolHere_0 3 rfl rfl)
theorem dX5_toolHere_6 : decode cX5_toolHere 6 = .ok (.ifCond .eq 13, 3) := dk_153 0 13 (dk_at dksX5_toolHere_0 6 rfl rfl)
theorem dX5_toolHere_9 : decode cX5_toolHere 9 = .ok (.aload_n 0, 1) := dk_42 (dk_at dksX5_toolHere_0 9 rfl rfl)
theorem dX5_toolHere_10 : decode cX5_toolHere 10 = .ok (.invokevirtual 212, 3) := dk_182 0 212 (dk_at dksX5_toolHere_0 10 rfl rfl)
theorem dX5_toolHere_13 : decode cX5_toolHere 13 = .ok (.invokestatic 77, 3) := dk_184 0 77 (dk_at dksX5_toolHere_0 13 rfl rfl)
theorem dX5_toolHere_16 : decode cX5_toolHere 16 = .ok (.ifCond .ne 5, 3) := dk_154 0 5 (dk_at dksX5_toolHere_0 16 rfl rfl)
theorem dX5_toolHere_19 : decode cX5_toolHere 19 = .ok (.iconst 0, 1) := dk_3 (dk_at dksX5_toolHere_0 19 rfl rfl)
theorem dX5_toolHere_20 : decode cX5_toolHere 20 = .ok (.ireturn, 1) := dk_172 (dk_at dksX5_toolHere_0 20 rfl rfl)
theorem dX5_toolHere_21 : decode cX5_toolHere 21 = .ok (.aload_n 0, 1) := dk_42 (dk_at dksX5_toolHere_0 21 rfl rfl)
theorem dX5_toolHere_22 : decode cX5_toolHere 22 = .ok (.getfield 36, 3) := dk_180 0 36 (dk_at dksX5_toolHere_1 0 rfl rfl)
theorem dX5_toolHere_25 : decode cX5_toolHere 25 = .ok (.iload_n 1, 1) := dk_27 (dk_at dksX5_toolHere_1 3 rfl rfl)
theorem dX5_toolHere_26 : decode cX5_toolHere 26 = .ok (.aload_n 0, 1) := dk_42 (dk_at dksX5_toolHere_1 4 rfl rfl)
theorem dX5_toolHere_27 : decode cX5_toolHere 27 = .ok (.invokevirtual 212, 3) := dk_182 0 212 (dk_at dksX5_toolHere_1 5 rfl rfl)
theorem dX5_toolHere_30 : decode cX5_toolHere 30 = .ok (.iastore, 1) := dk_79 (dk_at dksX5_toolHere_1 8 rfl rfl)
theorem dX5_toolHere_31 : decode cX5_toolHere 31 = .ok (.aload_n 0, 1) := dk_42 (dk_at dksX5_toolHere_1 9 rfl rfl)
theorem dX5_toolHere_32 : decode cX5_toolHere 32 = .ok (.dup, 1) := dk_89 (dk_at dksX5_toolHere_1 10 rfl rfl)
theorem dX5_toolHere_33 : decode cX5_toolHere 33 = .ok (.getfield 209, 3) := dk_180 0 209 (dk_at dksX5_toolHere_1 11 rfl rfl)
theorem dX5_toolHere_36 : decode cX5_toolHere 36 = .ok (.iconst 1, 1) := dk_4 (dk_at dksX5_toolHere_1 14 rfl rfl)
theorem dX5_toolHere_37 : decode cX5_toolHere 37 = .ok (.iadd, 1) := dk_96 (dk_at dksX5_toolHere_1 15 rfl rfl)
theorem dX5_toolHere_38 : decode cX5_toolHere 38 = .ok (.putfield 209, 3) := dk_181 0 209 (dk_at dksX5_toolHere_1 16 rfl rfl)
theorem dX5_toolHere_41 : decode cX5_toolHere 41 = .ok (.iconst 1, 1) := dk_4 (dk_at dksX5_toolHere_1 19 rfl rfl)
theorem dX5_toolHere_42 : decode cX5_toolHere 42 = .ok (.ireturn, 1) := dk_172 (dk_at dksX5_toolHere_1 20 rfl rfl)
abbrev cX5_scopeHere : ByteArray := prog_12_method_94_code
def yX5_scopeHere : MethodName := ⟨RX5, "scopeHere", "(I)Z"⟩
def dkwX5_scopeHere_1 : List UInt8 := [180, 0, 36, 27, 42, 182, 0, 212, 79, 42, 89, 180, 0, 209, 4, 96, 181, 0, 209, 4, 172]
abbrev dktX5_scopeHere_1 : List UInt8 := dkwX5_scopeHere_1 ++ []
def dkwX5_scopeHere_0 : List UInt8 := [42, 16, 32, 182, 0, 225, 153, 0, 13, 42, 182, 0, 212, 184, 0, 80, 154, 0, 5, 3, 172, 42]
abbrev dktX5_scopeHere_0 : List UInt8 := dkwX5_scopeHere_0 ++ dktX5_scopeHere_1
theorem dksX5_scopeHere_0 : cX5_scopeHere.data.toList.drop 0 = dktX5_scopeHere_0 := by decide +kernel
theorem dksX5_scopeHere_1 : cX5_scopeHere.data.toList.drop 22 = dktX5_scopeHere_1 := dk_seg dksX5_scopeHere_0 22 rfl rfl
theorem dX5_scopeHere_0 : decode cX5_scopeHere 0 = .ok (.aload_n 0, 1) := dk_42 (dk_at dksX5_scopeHere_0 0 rfl rfl)
theorem dX5_scopeHere_1 : decode cX5_scopeHere 1 = .ok (.bipush 32, 2) := dk_16 32 (dk_at dksX5_scopeHere_0 1 rfl rfl)
theorem dX5_scopeHere_3 : decode cX5_scopeHere 3 = .ok (.invokevirtual 225, 3) := dk_182 0 225 (dk_at dksX5_scopeHere_0 3 rfl rfl)
theorem dX5_scopeHere_6 : decode cX5_scopeHere 6 = .ok (.ifCond .eq 13, 3) := dk_153 0 13 (dk_at dksX5_scopeHere_0 6 rfl rfl)
theorem dX5_scopeHere_9 : decode cX5_scopeHere 9 = .ok (.aload_n 0, 1) := dk_42 (dk_at dksX5_scopeHere_0 9 rfl rfl)
theorem dX5_scopeHere_10 : decode cX5_scopeHere 10 = .ok (.invokevirtual 212, 3) := dk_182 0 212 (dk_at dksX5_scopeHere_0 10 rfl rfl)
theorem dX5_scopeHere_13 : decode cX5_scopeHere 13 = .ok (.invokestatic 80, 3) := dk_184 0 80 (dk_at dksX5_scopeHere_0 13 rfl rfl)
theorem dX5_scopeHere_16 : decode cX5_scopeHere 16 = .ok (.ifCond .ne 5, 3) := dk_154 0 5 (dk_at dksX5_scopeHere_0 16 rfl rfl)
theorem dX5_scopeHere_19 : decode cX5_scopeHere 19 = .ok (.iconst 0, 1) := dk_3 (dk_at dksX5_scopeHere_0 19 rfl rfl)
theorem dX5_scopeHere_20 : decode cX5_scopeHere 20 = .ok (.ireturn, 1) := dk_172 (dk_at dksX5_scopeHere_0 20 rfl rfl)
theorem dX5_scopeHere_21 : decode cX5_scopeHere 21 = .ok (.aload_n 0, 1) := dk_42 (dk_at dksX5_scopeHere_0 21 rfl rfl)
theorem dX5_scopeHere_22 : decode cX5_scopeHere 22 = .ok (.getfield 36, 3) := dk_180 0 36 (dk_at dksX5_scopeHere_1 0 rfl rfl)
theorem dX5_scopeHere_25 : decode cX5_scopeHere 25 = .ok (.iload_n 1, 1) := dk_27 (dk_at dksX5_scopeHere_1 3 rfl rfl)
theorem dX5_scopeHere_26 : decode cX5_scopeHere 26 = .ok (.aload_n 0, 1) := dk_42 (dk_at dksX5_scopeHere_1 4 rfl rfl)
theorem dX5_scopeHere_27 : decode cX5_scopeHere 27 = .ok (.invokevirtual 212, 3) := dk_182 0 212 (dk_at dksX5_scopeHere_1 5 rfl rfl)
theorem dX5_scopeHere_30 : decode cX5_scopeHere 30 = .ok (.iastore, 1) := dk_79 (dk_at dksX5_scopeHere_1 8 rfl rfl)
theorem dX5_scopeHere_31 : decode cX5_scopeHere 31 = .ok (.aload_n 0, 1) := dk_42 (dk_at dksX5_scopeHere_1 9 rfl rfl)
theorem dX5_scopeHere_32 : decode cX5_scopeHere 32 = .ok (.dup, 1) := dk_89 (dk_at dksX5_scopeHere_1 10 rfl rfl)
theorem dX5_scopeHere_33 : decode cX5_scopeHere 33 = .ok (.getfield 209, 3) := dk_180 0 209 (dk_at dksX5_scopeHere_1 11 rfl rfl)
theorem dX5_scopeHere_36 : decode cX5_scopeHere 36 = .ok (.iconst 1, 1) := dk_4 (dk_at dksX5_scopeHere_1 14 rfl rfl)
theorem dX5_scopeHere_37 : decode cX5_scopeHere 37 = .ok (.iadd, 1) := dk_96 (dk_at dksX5_scopeHere_1 15 rfl rfl)
theorem dX5_scopeHere_38 : decode cX5_scopeHere 38 = .ok (.putfield 209, 3) := dk_181 0 209 (dk_at dksX5_scopeHere_1 16 rfl rfl)
theorem dX5_scopeHere_41 : decode cX5_scopeHere 41 = .ok (.iconst 1, 1) := dk_4 (dk_at dksX5_scopeHere_1 19 rfl rfl)
theorem dX5_scopeHere_42 : decode cX5_scopeHere 42 = .ok (.ireturn, 1) := dk_172 (dk_at dksX5_scopeHere_1 20 rfl rfl)
abbrev cX5_figures : ByteArray := prog_12_method_95_code
def yX5_figures : MethodName := ⟨RX5, "figures", "(II)Z"⟩
def dkwX5_figures_3 : List UInt8 := [96, 16, 48, 100, 79, 42, 89, 180, 0, 209, 4, 96, 181, 0, 209, 132, 3, 1, 167, 255, 201, 4, 172]
abbrev dktX5_figures_3 : List UInt8 := dkwX5_figures_3 ++ []
def dkwX5_figures_2 : List UInt8 := [184, 0, 65, 153, 0, 42, 42, 180, 0, 36, 27, 16, 10, 42, 180, 0, 36, 27, 46, 104, 42, 182, 0, 212]
abbrev dktX5_figures_2 : List UInt8 := dkwX5_figures_2 ++ dktX5_figures_3
def dkwX5_figures_1 : List UInt8 := [172, 42, 180, 0, 36, 27, 3, 79, 3, 62, 29, 28, 162, 0, 56, 42, 182, 0, 212, 16, 48, 16, 57]
abbrev dktX5_figures_1 : List UInt8 := dkwX5_figures_1 ++ dktX5_figures_2
def dkwX5_figures_0 : List UInt8 := [42, 16, 32, 182, 0, 225, 153, 0, 17, 42, 182, 0, 212, 16, 48, 16, 57, 184, 0, 65, 154, 0, 5, 3]
abbrev dktX5_figures_0 : List UInt8 := dkwX5_figures_0 ++ dktX5_figures_1
theorem dksX5_figures_0 : cX5_figures.data.toList.drop 0 = dktX5_figures_0 := by decide +kernel
theorem dksX5_figures_1 : cX5_figures.data.toList.drop 24 = dktX5_figures_1 := dk_seg dksX5_figures_0 24 rfl rfl
theorem dksX5_figures_2 : cX5_figures.data.toList.drop 47 = dktX5_figures_2 := dk_seg dksX5_figures_1 23 rfl rfl
theorem dksX5_figures_3 : cX5_figures.data.toList.drop 71 = dktX5_figures_3 := dk_seg dksX5_figures_2 24 rfl rfl
theorem dX5_figures_0 : decode cX5_figures 0 = .ok (.aload_n 0, 1) := dk_42 (dk_at dksX5_figures_0 0 rfl rfl)
theorem dX5_figures_1 : decode cX5_figures 1 = .ok (.bipush 32, 2) := dk_16 32 (dk_at dksX5_figures_0 1 rfl rfl)
theorem dX5_figures_3 : decode cX5_figures 3 = .ok (.invokevirtual 225, 3) := dk_182 0 225 (dk_at dksX5_figures_0 3 rfl rfl)
theorem dX5_figures_6 : decode cX5_figures 6 = .ok (.ifCond .eq 17, 3) := dk_153 0 17 (dk_at dksX5_figures_0 6 rfl rfl)
theorem dX5_figures_9 : decode cX5_figures 9 = .ok (.aload_n 0, 1) := dk_42 (dk_at dksX5_figures_0 9 rfl rfl)
theorem dX5_figures_10 : decode cX5_figures 10 = .ok (.invokevirtual 212, 3) := dk_182 0 212 (dk_at dksX5_figures_0 10 rfl rfl)
theorem dX5_figures_13 : decode cX5_figures 13 = .ok (.bipush 48, 2) := dk_16 48 (dk_at dksX5_figures_0 13 rfl rfl)
theorem dX5_figures_15 : decode cX5_figures 15 = .ok (.bipush 57, 2) := dk_16 57 (dk_at dksX5_figures_0 15 rfl rfl)
theorem dX5_figures_17 : decode cX5_figures 17 = .ok (.invokestatic 65, 3) := dk_184 0 65 (dk_at dksX5_figures_0 17 rfl rfl)
theorem dX5_figures_20 : decode cX5_figures 20 = .ok (.ifCond .ne 5, 3) := dk_154 0 5 (dk_at dksX5_figures_0 20 rfl rfl)
theorem dX5_figures_23 : decode cX5_figures 23 = .ok (.iconst 0, 1) := dk_3 (dk_at dksX5_figures_0 23 rfl rfl)
theorem dX5_figures_24 : decode cX5_figures 24 = .ok (.ireturn, 1) := dk_172 (dk_at dksX5_figures_1 0 rfl rfl)
theorem dX5_figures_25 : decode cX5_figures 25 = .ok (.aload_n 0, 1) := dk_42 (dk_at dksX5_figures_1 1 rfl rfl)
theorem dX5_figures_26 : decode cX5_figures 26 = .ok (.getfield 36, 3) := dk_180 0 36 (dk_at dksX5_figures_1 2 rfl rfl)
theorem dX5_figures_29 : decode cX5_figures 29 = .ok (.iload_n 1, 1) := dk_27 (dk_at dksX5_figures_1 5 rfl rfl)
theorem dX5_figures_30 : decode cX5_figures 30 = .ok (.iconst 0, 1) := dk_3 (dk_at dksX5_figures_1 6 rfl rfl)
theorem dX5_figures_31 : decode cX5_figures 31 = .ok (.iastore, 1) := dk_79 (dk_at dksX5_figures_1 7 rfl rfl)
theorem dX5_figures_32 : decode cX5_figures 32 = .ok (.iconst 0, 1) := dk_3 (dk_at dksX5_figures_1 8 rfl rfl)
theorem dX5_figures_33 : decode cX5_figures 33 = .ok (.istore_n 3, 1) := dk_62 (dk_at dksX5_figures_1 9 rfl rfl)
theorem dX5_figures_34 : decode cX5_figures 34 = .ok (.iload_n 3, 1) := dk_29 (dk_at dksX5_figures_1 10 rfl rfl)
theorem dX5_figures_35 : decode cX5_figures 35 = .ok (.iload_n 2, 1) := dk_28 (dk_at dksX5_figures_1 11 rfl rfl)
theorem dX5_figures_36 : decode cX5_figures 36 = .ok (.if_icmp .ge 56, 3) := dk_162 0 56 (dk_at dksX5_figures_1 12 rfl rfl)
theorem dX5_figures_39 : decode cX5_figures 39 = .ok (.aload_n 0, 1) := dk_42 (dk_at dksX5_figures_1 15 rfl rfl)
theorem dX5_figures_40 : decode cX5_figures 40 = .ok (.invokevirtual 212, 3) := dk_182 0 212 (dk_at dksX5_figures_1 16 rfl rfl)
theorem dX5_figures_43 : decode cX5_figures 43 = .ok (.bipush 48, 2) := dk_16 48 (dk_at dksX5_figures_1 19 rfl rfl)
theorem dX5_figures_45 : decode cX5_figures 45 = .ok (.bipush 57, 2) := dk_16 57 (dk_at dksX5_figures_1 21 rfl rfl)
theorem dX5_figures_47 : decode cX5_figures 47 = .ok (.invokestatic 65, 3) := dk_184 0 65 (dk_at dksX5_figures_2 0 rfl rfl)
theorem dX5_figures_50 : decode cX5_figures 50 = .ok (.ifCond .eq 42, 3) := dk_153 0 42 (dk_at dksX5_figures_2 3 rfl rfl)
theorem dX5_figures_53 : decode cX5_figures 53 = .ok (.aload_n 0, 1) := dk_42 (dk_at dksX5_figures_2 6 rfl rfl)
theorem dX5_figures_54 : decode cX5_figures 54 = .ok (.getfield 36, 3) := dk_180 0 36 (dk_at dksX5_figures_2 7 rfl rfl)
theorem dX5_figures_57 : decode cX5_figures 57 = .ok (.iload_n 1, 1) := dk_27 (dk_at dksX5_figures_2 10 rfl rfl)
theorem dX5_figures_58 : decode cX5_figures 58 = .ok (.bipush 10, 2) := dk_16 10 (dk_at dksX5_figures_2 11 rfl rfl)
theorem dX5_figures_60 : decode cX5_figures 60 = .ok (.aload_n 0, 1) := dk_42 (dk_at dksX5_figures_2 13 rfl rfl)
theorem dX5_figures_61 : decode cX5_figures 61 = .ok (.getfield 36, 3) := dk_180 0 36 (dk_at dksX5_figures_2 14 rfl rfl)
theorem dX5_figures_64 : decode cX5_figures 64 = .ok (.iload_n 1, 1) := dk_27 (dk_at dksX5_figures_2 17 rfl rfl)
theorem dX5_figures_65 : decode cX5_figures 65 = .ok (.iaload, 1) := dk_46 (dk_at dksX5_figures_2 18 rfl rfl)
theorem dX5_figures_66 : decode cX5_figures 66 = .ok (.imul, 1) := dk_104 (dk_at dksX5_figures_2 19 rfl rfl)
theorem dX5_figures_67 : decode cX5_figures 67 = .ok (.aload_n 0, 1) := dk_42 (dk_at dksX5_figures_2 20 rfl rfl)
theorem dX5_figures_68 : decode cX5_figures 68 = .ok (.invokevirtual 212, 3) := dk_182 0 212 (dk_at dksX5_figures_2 21 rfl rfl)
theorem dX5_figures_71 : decode cX5_figures 71 = .ok (.iadd, 1) := dk_96 (dk_at dksX5_figures_3 0 rfl rfl)
theorem dX5_figures_72 : decode cX5_figures 72 = .ok (.bipush 48, 2) := dk_16 48 (dk_at dksX5_figures_3 1 rfl rfl)
theorem dX5_figures_74 : decode cX5_figures 74 = .ok (.isub, 1) := dk_100 (dk_at dksX5_figures_3 3 rfl rfl)
theorem dX5_figures_75 : decode cX5_figures 75 = .ok (.iastore, 1) := dk_79 (dk_at dksX5_figures_3 4 rfl rfl)
theorem dX5_figures_76 : decode cX5_figures 76 = .ok (.aload_n 0, 1) := dk_42 (dk_at dksX5_figures_3 5 rfl rfl)
theorem dX5_figures_77 : decode cX5_figures 77 = .ok (.dup, 1) := dk_89 (dk_at dksX5_figures_3 6 rfl rfl)
theorem dX5_figures_78 : decode cX5_figures 78 = .ok (.getfield 209, 3) := dk_180 0 209 (dk_at dksX5_figures_3 7 rfl rfl)
theorem dX5_figures_81 : decode cX5_figures 81 = .ok (.iconst 1, 1) := dk_4 (dk_at dksX5_figures_3 10 rfl rfl)
theorem dX5_figures_82 : decode cX5_figures 82 = .ok (.iadd, 1) := dk_96 (dk_at dksX5_figures_3 11 rfl rfl)
theorem dX5_figures_83 : decode cX5_figures 83 = .ok (.putfield 209, 3) := dk_181 0 209 (dk_at dksX5_figures_3 12 rfl rfl)
theorem dX5_figures_86 : decode cX5_figures 86 = .ok (.iinc 3 1, 3) := dk_132 3 1 (dk_at dksX5_figures_3 15 rfl rfl)
theorem dX5_figures_89 : decode cX5_figures 89 = .ok (.goto (-55), 3) := dk_167 255 201 (dk_at dksX5_figures_3 18 rfl rfl)
theorem dX5_figures_92 : decode cX5_figures 92 = .ok (.iconst 1, 1) := dk_4 (dk_at dksX5_figures_3 21 rfl rfl)
theorem dX5_figures_93 : decode cX5_figures 93 = .ok (.ireturn, 1) := dk_172 (dk_at dksX5_figures_3 22 rfl rfl)
abbrev cX5_toolsHere : ByteArray := prog_12_method_96_code
def yX5_toolsHere : MethodName := ⟨RX5, "toolsHere", "(I)Z"⟩
def dkwX5_toolsHere_0 : List UInt8 := [42, 27, 182, 0, 228, 153, 0, 17, 42, 27, 4, 96, 182, 0, 228, 153, 0, 7, 4, 167, 0, 4, 3, 172]
abbrev dktX5_toolsHere_0 : List UInt8 := dkwX5_toolsHere_0 ++ []
theorem dksX5_toolsHere_0 : cX5_toolsHere.data.toList.drop 0 = dktX5_toolsHere_0 := by decide +kernel
theorem dX5_toolsHere_0 : decode cX5_toolsHere 0 = .ok (.aload_n 0, 1) := dk_42 (dk_at dksX5_toolsHere_0 0 rfl rfl)
theorem dX5_toolsHere_1 : decode cX5_toolsHere 1 = .ok (.iload_n 1, 1) := dk_27 (dk_at dksX5_toolsHere_0 1 rfl rfl)
theorem dX5_toolsHere_2 : decode cX5_toolsHere 2 = .ok (.invokevirtual 228, 3) := dk_182 0 228 (dk_at dksX5_toolsHere_0 2 rfl rfl)
theorem dX5_toolsHere_5 : decode cX5_toolsHere 5 = .ok (.ifCond .eq 17, 3) := dk_153 0 17 (dk_at dksX5_toolsHere_0 5 rfl rfl)
theorem dX5_toolsHere_8 : decode cX5_toolsHere 8 = .ok (.aload_n 0, 1) := dk_42 (dk_at dksX5_toolsHere_0 8 rfl rfl)
theorem dX5_toolsHere_9 : decode cX5_toolsHere 9 = .ok (.iload_n 1, 1) := dk_27 (dk_at dksX5_toolsHere_0 9 rfl rfl)
theorem dX5_toolsHere_10 : decode cX5_toolsHere 10 = .ok (.iconst 1, 1) := dk_4 (dk_at dksX5_toolsHere_0 10 rfl rfl)
theorem dX5_toolsHere_11 : decode cX5_toolsHere 11 = .ok (.iadd, 1) := dk_96 (dk_at dksX5_toolsHere_0 11 rfl rfl)
theorem dX5_toolsHere_12 : decode cX5_toolsHere 12 = .ok (.invokevirtual 228, 3) := dk_182 0 228 (dk_at dksX5_toolsHere_0 12 rfl rfl)
theorem dX5_toolsHere_15 : decode cX5_toolsHere 15 = .ok (.ifCond .eq 7, 3) := dk_153 0 7 (dk_at dksX5_toolsHere_0 15 rfl rfl)
theorem dX5_toolsHere_18 : decode cX5_toolsHere 18 = .ok (.iconst 1, 1) := dk_4 (dk_at dksX5_toolsHere_0 18 rfl rfl)
theorem dX5_toolsHere_19 : decode cX5_toolsHere 19 = .ok (.goto 4, 3) := dk_167 0 4 (dk_at dksX5_toolsHere_0 19 rfl rfl)
theorem dX5_toolsHere_22 : decode cX5_toolsHere 22 = .ok (.iconst 0, 1) := dk_3 (dk_at dksX5_toolsHere_0 22 rfl rfl)
theorem dX5_toolsHere_23 : decode cX5_toolsHere 23 = .ok (.ireturn, 1) := dk_172 (dk_at dksX5_toolsHere_0 23 rfl rfl)
abbrev cX5_does : ByteArray := prog_12_method_99_code
def yX5_does : MethodName := ⟨RX5, "does", "(I)I"⟩
def dkwX5_does_6 : List UInt8 := [180, 0, 36, 27, 6, 96, 46, 182, 1, 47, 172]
abbrev dktX5_does_6 : List UInt8 := dkwX5_does_6 ++ []
def dkwX5_does_5 : List UInt8 := [182, 1, 37, 172, 42, 28, 182, 1, 40, 172, 42, 28, 146, 29, 182, 1, 43, 172, 42, 28, 29, 42]
abbrev dktX5_does_5 : List UInt8 := dkwX5_does_5 ++ dktX5_does_6
def dkwX5_does_4 : List UInt8 := [146, 182, 1, 26, 172, 42, 28, 146, 29, 146, 182, 1, 30, 172, 42, 28, 146, 182, 1, 33, 172, 42]
abbrev dktX5_does_4 : List UInt8 := dkwX5_does_4 ++ dktX5_does_5
def dkwX5_does_3 : List UInt8 := [42, 28, 146, 29, 146, 3, 182, 1, 22, 172, 42, 28, 146, 29, 146, 4, 182, 1, 22, 172, 42, 28, 146, 29]
abbrev dktX5_does_3 : List UInt8 := dkwX5_does_3 ++ dktX5_does_4
def dkwX5_does_2 : List UInt8 := [42, 28, 146, 29, 146, 42, 180, 0, 36, 27, 6, 96, 46, 182, 1, 14, 172, 42, 28, 146, 182, 1, 18, 172]
abbrev dktX5_does_2 : List UInt8 := dkwX5_does_2 ++ dktX5_does_3
def dkwX5_does_1 : List UInt8 := [170, 0, 0, 0, 0, 0, 0, 144, 0, 0, 0, 0, 0, 0, 0, 9, 0, 0, 0, 56, 0, 0, 0, 73, 0, 0, 0, 80, 0, 0, 0, 90, 0, 0, 0, 100, 0, 0, 0, 109, 0, 0, 0, 118, 0, 0, 0, 125, 0, 0, 0, 130, 0, 0, 0, 136]
abbrev dktX5_does_1 : List UInt8 := dkwX5_does_1 ++ dktX5_does_2
def dkwX5_does_0 : List UInt8 := [42, 180, 0, 36, 27, 4, 96, 46, 61, 42, 180, 0, 36, 27, 5, 96, 46, 62, 42, 180, 0, 36, 27, 46]
abbrev dktX5_does_0 : List UInt8 := dkwX5_does_0 ++ dktX5_does_1
theorem dksX5_does_0 : cX5_does.data.toList.drop 0 = dktX5_does_0 := by decide +kernel
theorem dksX5_does_1 : cX5_does.data.toList.drop 24 = dktX5_does_1 := dk_seg dksX5_does_0 24 rfl rfl
theorem dksX5_does_2 : cX5_does.data.toList.drop 80 = dktX5_does_2 := dk_seg dksX5_does_1 56 rfl rfl
theorem dksX5_does_3 : cX5_does.data.toList.drop 104 = dktX5_does_3 := dk_seg dksX5_does_2 24 rfl rfl
theorem dksX5_does_4 : cX5_does.data.toList.drop 128 = dktX5_does_4 := dk_seg dksX5_does_3 24 rfl rfl
theorem dksX5_does_5 : cX5_does.data.toList.drop 150 = dktX5_does_5 := dk_seg dksX5_does_4 22 rfl rfl
theorem dksX5_does_6 : cX5_does.data.toList.drop 172 = dktX5_does_6 := dk_seg dksX5_does_5 22 rfl rfl
theorem dX5_does_0 : decode cX5_does 0 = .ok (.aload_n 0, 1) := dk_42 (dk_at dksX5_does_0 0 rfl rfl)
theorem dX5_does_1 : decode cX5_does 1 = .ok (.getfield 36, 3) := dk_180 0 36 (dk_at dksX5_does_0 1 rfl rfl)
theorem dX5_does_4 : decode cX5_does 4 = .ok (.iload_n 1, 1) := dk_27 (dk_at dksX5_does_0 4 rfl rfl)
theorem dX5_does_5 : decode cX5_does 5 = .ok (.iconst 1, 1) := dk_4 (dk_at dksX5_does_0 5 rfl rfl)
theorem dX5_does_6 : decode cX5_does 6 = .ok (.iadd, 1) := dk_96 (dk_at dksX5_does_0 6 rfl rfl)
theorem dX5_does_7 : decode cX5_does 7 = .ok (.iaload, 1) := dk_46 (dk_at dksX5_does_0 7 rfl rfl)
theorem dX5_does_8 : decode cX5_does 8 = .ok (.istore_n 2, 1) := dk_61 (dk_at dksX5_does_0 8 rfl rfl)
theorem dX5_does_9 : decode cX5_does 9 = .ok (.aload_n 0, 1) := dk_42 (dk_at dksX5_does_0 9 rfl rfl)
theorem dX5_does_10 : decode cX5_does 10 = .ok (.getfield 36, 3) := dk_180 0 36 (dk_at dksX5_does_0 10 rfl rfl)
theorem dX5_does_13 : decode cX5_does 13 = .ok (.iload_n 1, 1) := dk_27 (dk_at dksX5_does_0 13 rfl rfl)
theorem dX5_does_14 : decode cX5_does 14 = .ok (.iconst 2, 1) := dk_5 (dk_at dksX5_does_0 14 rfl rfl)
theorem dX5_does_15 : decode cX5_does 15 = .ok (.iadd, 1) := dk_96 (dk_at dksX5_does_0 15 rfl rfl)
theorem dX5_does_16 : decode cX5_does 16 = .ok (.iaload, 1) := dk_46 (dk_at dksX5_does_0 16 rfl rfl)
theorem dX5_does_17 : decode cX5_does 17 = .ok (.istore_n 3, 1) := dk_62 (dk_at dksX5_does_0 17 rfl rfl)
theorem dX5_does_18 : decode cX5_does 18 = .ok (.aload_n 0, 1) := dk_42 (dk_at dksX5_does_0 18 rfl rfl)
theorem dX5_does_19 : decode cX5_does 19 = .ok (.getfield 36, 3) := dk_180 0 36 (dk_at dksX5_does_0 19 rfl rfl)
theorem dX5_does_22 : decode cX5_does 22 = .ok (.iload_n 1, 1) := dk_27 (dk_at dksX5_does_0 22 rfl rfl)
theorem dX5_does_23 : decode cX5_does 23 = .ok (.iaload, 1) := dk_46 (dk_at dksX5_does_0 23 rfl rfl)
theorem dX5_does_24 : decode cX5_does 24 = .ok (.tableswitch 144 0 9 #[56, 73, 80, 90, 100, 109, 118, 125, 130, 136], 56) := by decide +kernel
theorem dX5_does_80 : decode cX5_does 80 = .ok (.aload_n 0, 1) := dk_42 (dk_at dksX5_does_2 0 rfl rfl)
theorem dX5_does_81 : decode cX5_does 81 = .ok (.iload_n 2, 1) := dk_28 (dk_at dksX5_does_2 1 rfl rfl)
theorem dX5_does_82 : decode cX5_does 82 = .ok (.i2c, 1) := dk_146 (dk_at dksX5_does_2 2 rfl rfl)
theorem dX5_does_83 : decode cX5_does 83 = .ok (.iload_n 3, 1) := dk_29 (dk_at dksX5_does_2 3 rfl rfl)
theorem dX5_does_84 : decode cX5_does 84 = .ok (.i2c, 1) := dk_146 (dk_at dksX5_does_2 4 rfl rfl)
theorem dX5_does_85 : decode cX5_does 85 = .ok (.aload_n 0, 1) := dk_42 (dk_at dksX5_does_2 5 rfl rfl)
theorem dX5_does_86 : decode cX5_does 86 = .ok (.getfield 36, 3) := dk_180 0 36 (dk_at dksX5_does_2 6 rfl rfl)
theorem dX5_does_89 : decode cX5_does 89 = .ok (.iload_n 1, 1) := dk_27 (dk_at dksX5_does_2 9 rfl rfl)
theorem dX5_does_90 : decode cX5_does 90 = .ok (.iconst 3, 1) := dk_6 (dk_at dksX5_does_2 10 rfl rfl)
theorem dX5_does_91 : decode cX5_does 91 = .ok (.iadd, 1) := dk_96 (dk_at dksX5_does_2 11 rfl rfl)
theorem dX5_does_92 : decode cX5_does 92 = .ok (.iaload, 1) := dk_46 (dk_at dksX5_does_2 12 rfl rfl)
theorem dX5_does_93 : decode cX5_does 93 = .ok (.invokevirtual 270, 3) := dk_182 1 14 (dk_at dksX5_does_2 13 rfl rfl)
theorem dX5_does_96 : decode cX5_does 96 = .ok (.ireturn, 1) := dk_172 (dk_at dksX5_does_2 16 rfl rfl)
theorem dX5_does_97 : decode cX5_does 97 = .ok (.aload_n 0, 1) := dk_42 (dk_at dksX5_does_2 17 rfl rfl)
theorem dX5_does_98 : decode cX5_does 98 = .ok (.iload_n 2, 1) := dk_28 (dk_at dksX5_does_2 18 rfl rfl)
theorem dX5_does_99 : decode cX5_does 99 = .ok (.i2c, 1) := dk_146 (dk_at dksX5_does_2 19 rfl rfl)
theorem dX5_does_100 : decode cX5_does 100 = .ok (.invokevirtual 274, 3) := dk_182 1 18 (dk_at dksX5_does_2 20 rfl rfl)
theorem dX5_does_103 : decode cX5_does 103 = .ok (.ireturn, 1) := dk_172 (dk_at dksX5_does_2 23 rfl rfl)
theorem dX5_does_104 : decode cX5_does 104 = .ok (.aload_n 0, 1) := dk_42 (dk_at dksX5_does_3 0 rfl rfl)
theorem dX5_does_105 : decode cX5_does 105 = .ok (.iload_n 2, 1) := dk_28 (dk_at dksX5_does_3 1 rfl rfl)
theorem dX5_does_106 : decode cX5_does 106 = .ok (.i2c, 1) := dk_146 (dk_at dksX5_does_3 2 rfl rfl)
theorem dX5_does_107 : decode cX5_does 107 = .ok (.iload_n 3, 1) := dk_29 (dk_at dksX5_does_3 3 rfl rfl)
theorem dX5_does_108 : decode cX5_does 108 = .ok (.i2c, 1) := dk_146 (dk_at dksX5_does_3 4 rfl rfl)
theorem dX5_does_109 : decode cX5_does 109 = .ok (.iconst 0, 1) := dk_3 (dk_at dksX5_does_3 5 rfl rfl)
theorem dX5_does_110 : decode cX5_does 110 = .ok (.invokevirtual 278, 3) := dk_182 1 22 (dk_at dksX5_does_3 6 rfl rfl)
theorem dX5_does_113 : decode cX5_does 113 = .ok (.ireturn, 1) := dk_172 (dk_at dksX5_does_3 9 rfl rfl)
theorem dX5_does_114 : decode cX5_does 114 = .ok (.aload_n 0, 1) := dk_42 (dk_at dksX5_does_3 10 rfl rfl)
theorem dX5_does_115 : decode cX5_does 115 = .ok (.iload_n 2, 1) := dk_28 (dk_at dksX5_does_3 11 rfl rfl)
theorem dX5_does_116 : decode cX5_does 116 = .ok (.i2c, 1) := dk_146 (dk_at dksX5_does_3 12 rfl rfl)
theorem dX5_does_117 : decode cX5_does 117 = .ok (.iload_n 3, 1) := dk_29 (dk_at dksX5_does_3 13 rfl rfl)
theorem dX5_does_118 : decode cX5_does 118 = .ok (.i2c, 1) := dk_146 (dk_at dksX5_does_3 14 rfl rfl)
theorem dX5_does_119 : decode cX5_does 119 = .ok (.iconst 1, 1) := dk_4 (dk_at dksX5_does_3 15 rfl rfl)
theorem dX5_does_120 : decode cX5_does 120 = .ok (.invokevirtual 278, 3) := dk_182 1 22 (dk_at dksX5_does_3 16 rfl rfl)
theorem dX5_does_123 : decode cX5_does 123 = .ok (.ireturn, 1) := dk_172 (dk_at dksX5_does_3 19 rfl rfl)
theorem dX5_does_124 : decode cX5_does 124 = .ok (.aload_n 0, 1) := dk_42 (dk_at dksX5_does_3 20 rfl rfl)
theorem dX5_does_125 : decode cX5_does 125 = .ok (.iload_n 2, 1) := dk_28 (dk_at dksX5_does_3 21 rfl rfl)
theorem dX5_does_126 : decode cX5_does 126 = .ok (.i2c, 1) := dk_146 (dk_at dksX5_does_3 22 rfl rfl)
theorem dX5_does_127 : decode cX5_does 127 = .ok (.iload_n 3, 1) := dk_29 (dk_at dksX5_does_3 23 rfl rfl)
theorem dX5_does_128 : decode cX5_does 128 = .ok (.i2c, 1) := dk_146 (dk_at dksX5_does_4 0 rfl rfl)
theorem dX5_does_129 : decode cX5_does 129 = .ok (.invokevirtual 282, 3) := dk_182 1 26 (dk_at dksX5_does_4 1 rfl rfl)
theorem dX5_does_132 : decode cX5_does 132 = .ok (.ireturn, 1) := dk_172 (dk_at dksX5_does_4 4 rfl rfl)
theorem dX5_does_133 : decode cX5_does 133 = .ok (.aload_n 0, 1) := dk_42 (dk_at dksX5_does_4 5 rfl rfl)
theorem dX5_does_134 : decode cX5_does 134 = .ok (.iload_n 2, 1) := dk_28 (dk_at dksX5_does_4 6 rfl rfl)
theorem dX5_does_135 : decode cX5_does 135 = .ok (.i2c, 1) := dk_146 (dk_at dksX5_does_4 7 rfl rfl)
theorem dX5_does_136 : decode cX5_does 136 = .ok (.iload_n 3, 1) := dk_29 (dk_at dksX5_does_4 8 rfl rfl)
theorem dX5_does_137 : decode cX5_does 137 = .ok (.i2c, 1) := dk_146 (dk_at dksX5_does_4 9 rfl rfl)
theorem dX5_does_138 : decode cX5_does 138 = .ok (.invokevirtual 286, 3) := dk_182 1 30 (dk_at dksX5_does_4 10 rfl rfl)
theorem dX5_does_141 : decode cX5_does 141 = .ok (.ireturn, 1) := dk_172 (dk_at dksX5_does_4 13 rfl rfl)
theorem dX5_does_142 : decode cX5_does 142 = .ok (.aload_n 0, 1) := dk_42 (dk_at dksX5_does_4 14 rfl rfl)
theorem dX5_does_143 : decode cX5_does 143 = .ok (.iload_n 2, 1) := dk_28 (dk_at dksX5_does_4 15 rfl rfl)
theorem dX5_does_144 : decode cX5_does 144 = .ok (.i2c, 1) := dk_146 (dk_at dksX5_does_4 16 rfl rfl)
theorem dX5_does_145 : decode cX5_does 145 = .ok (.invokevirtual 289, 3) := dk_182 1 33 (dk_at dksX5_does_4 17 rfl rfl)
theorem dX5_does_148 : decode cX5_does 148 = .ok (.ireturn, 1) := dk_172 (dk_at dksX5_does_4 20 rfl rfl)
theorem dX5_does_149 : decode cX5_does 149 = .ok (.aload_n 0, 1) := dk_42 (dk_at dksX5_does_4 21 rfl rfl)
theorem dX5_does_150 : decode cX5_does 150 = .ok (.invokevirtual 293, 3) := dk_182 1 37 (dk_at dksX5_does_5 0 rfl rfl)
theorem dX5_does_153 : decode cX5_does 153 = .ok (.ireturn, 1) := dk_172 (dk_at dksX5_does_5 3 rfl rfl)
theorem dX5_does_154 : decode cX5_does 154 = .ok (.aload_n 0, 1) := dk_42 (dk_at dksX5_does_5 4 rfl rfl)
theorem dX5_does_155 : decode cX5_does 155 = .ok (.iload_n 2, 1) := dk_28 (dk_at dksX5_does_5 5 rfl rfl)
theorem dX5_does_156 : decode cX5_does 156 = .ok (.invokevirtual 296, 3) := dk_182 1 40 (dk_at dksX5_does_5 6 rfl rfl)
theorem dX5_does_159 : decode cX5_does 159 = .ok (.ireturn, 1) := dk_172 (dk_at dksX5_does_5 9 rfl rfl)
theorem dX5_does_160 : decode cX5_does 160 = .ok (.aload_n 0, 1) := dk_42 (dk_at dksX5_does_5 10 rfl rfl)
theorem dX5_does_161 : decode cX5_does 161 = .ok (.iload_n 2, 1) := dk_28 (dk_at dksX5_does_5 11 rfl rfl)
theorem dX5_does_162 : decode cX5_does 162 = .ok (.i2c, 1) := dk_146 (dk_at dksX5_does_5 12 rfl rfl)
theorem dX5_does_163 : decode cX5_does 163 = .ok (.iload_n 3, 1) := dk_29 (dk_at dksX5_does_5 13 rfl rfl)
theorem dX5_does_164 : decode cX5_does 164 = .ok (.invokevirtual 299, 3) := dk_182 1 43 (dk_at dksX5_does_5 14 rfl rfl)
theorem dX5_does_167 : decode cX5_does 167 = .ok (.ireturn, 1) := dk_172 (dk_at dksX5_does_5 17 rfl rfl)
theorem dX5_does_168 : decode cX5_does 168 = .ok (.aload_n 0, 1) := dk_42 (dk_at dksX5_does_5 18 rfl rfl)
theorem dX5_does_169 : decode cX5_does 169 = .ok (.iload_n 2, 1) := dk_28 (dk_at dksX5_does_5 19 rfl rfl)
theorem dX5_does_170 : decode cX5_does 170 = .ok (.iload_n 3, 1) := dk_29 (dk_at dksX5_does_5 20 rfl rfl)
theorem dX5_does_171 : decode cX5_does 171 = .ok (.aload_n 0, 1) := dk_42 (dk_at dksX5_does_5 21 rfl rfl)
theorem dX5_does_172 : decode cX5_does 172 = .ok (.getfield 36, 3) := dk_180 0 36 (dk_at dksX5_does_6 0 rfl rfl)
theorem dX5_does_175 : decode cX5_does 175 = .ok (.iload_n 1, 1) := dk_27 (dk_at dksX5_does_6 3 rfl rfl)
theorem dX5_does_176 : decode cX5_does 176 = .ok (.iconst 3, 1) := dk_6 (dk_at dksX5_does_6 4 rfl rfl)
theorem dX5_does_177 : decode cX5_does 177 = .ok (.iadd, 1) := dk_96 (dk_at dksX5_does_6 5 rfl rfl)
theorem dX5_does_178 : decode cX5_does 178 = .ok (.iaload, 1) := dk_46 (dk_at dksX5_does_6 6 rfl rfl)
theorem dX5_does_179 : decode cX5_does 179 = .ok (.invokevirtual 303, 3) := dk_182 1 47 (dk_at dksX5_does_6 7 rfl rfl)
theorem dX5_does_182 : decode cX5_does 182 = .ok (.ireturn, 1) := dk_172 (dk_at dksX5_does_6 10 rfl rfl)
abbrev cX5_refusesText : ByteArray := prog_12_method_100_code
def yX5_refusesText : MethodName := ⟨RX5, "refusesText", "(I)I"⟩
def dkwX5_refusesText_1 : List UInt8 := [182, 0, 113, 87, 42, 28, 181, 0, 52, 3, 172]
abbrev dktX5_refusesText_1 : List UInt8 := dkwX5_refusesText_1 ++ []
def dkwX5_refusesText_0 : List UInt8 := [42, 180, 0, 42, 153, 0, 10, 42, 180, 0, 46, 167, 0, 5, 16, 9, 61, 42, 5, 16, 8, 27]
abbrev dktX5_refusesText_0 : List UInt8 := dkwX5_refusesText_0 ++ dktX5_refusesText_1
theorem dksX5_refusesText_0 : cX5_refusesText.data.toList.drop 0 = dktX5_refusesText_0 := by decide +kernel
theorem dksX5_refusesText_1 : cX5_refusesText.data.toList.drop 22 = dktX5_refusesText_1 := dk_seg dksX5_refusesText_0 22 rfl rfl
theorem dX5_refusesText_0 : decode cX5_refusesText 0 = .ok (.aload_n 0, 1) := dk_42 (dk_at dksX5_refusesText_0 0 rfl rfl)
theorem dX5_refusesText_1 : decode cX5_refusesText 1 = .ok (.getfield 42, 3) := dk_180 0 42 (dk_at dksX5_refusesText_0 1 rfl rfl)
theorem dX5_refusesText_4 : decode cX5_refusesText 4 = .ok (.ifCond .eq 10, 3) := dk_153 0 10 (dk_at dksX5_refusesText_0 4 rfl rfl)
theorem dX5_refusesText_7 : decode cX5_refusesText 7 = .ok (.aload_n 0, 1) := dk_42 (dk_at dksX5_refusesText_0 7 rfl rfl)
theorem dX5_refusesText_8 : decode cX5_refusesText 8 = .ok (.getfield 46, 3) := dk_180 0 46 (dk_at dksX5_refusesText_0 8 rfl rfl)
theorem dX5_refusesText_11 : decode cX5_refusesText 11 = .ok (.goto 5, 3) := dk_167 0 5 (dk_at dksX5_refusesText_0 11 rfl rfl)
theorem dX5_refusesText_14 : decode cX5_refusesText 14 = .ok (.bipush 9, 2) := dk_16 9 (dk_at dksX5_refusesText_0 14 rfl rfl)
theorem dX5_refusesText_16 : decode cX5_refusesText 16 = .ok (.istore_n 2, 1) := dk_61 (dk_at dksX5_refusesText_0 16 rfl rfl)
theorem dX5_refusesText_17 : decode cX5_refusesText 17 = .ok (.aload_n 0, 1) := dk_42 (dk_at dksX5_refusesText_0 17 rfl rfl)
theorem dX5_refusesText_18 : decode cX5_refusesText 18 = .ok (.iconst 2, 1) := dk_5 (dk_at dksX5_refusesText_0 18 rfl rfl)
theorem dX5_refusesText_19 : decode cX5_refusesText 19 = .ok (.bipush 8, 2) := dk_16 8 (dk_at dksX5_refusesText_0 19 rfl rfl)
theorem dX5_refusesText_21 : decode cX5_refusesText 21 = .ok (.iload_n 1, 1) := dk_27 (dk_at dksX5_refusesText_0 21 rfl rfl)
theorem dX5_refusesText_22 : decode cX5_refusesText 22 = .ok (.invokevirtual 113, 3) := dk_182 0 113 (dk_at dksX5_refusesText_1 0 rfl rfl)
theorem dX5_refusesText_25 : decode cX5_refusesText 25 = .ok (.pop, 1) := dk_87 (dk_at dksX5_refusesText_1 3 rfl rfl)
theorem dX5_refusesText_26 : decode cX5_refusesText 26 = .ok (.aload_n 0, 1) := dk_42 (dk_at dksX5_refusesText_1 4 rfl rfl)
theorem dX5_refusesText_27 : decode cX5_refusesText 27 = .ok (.iload_n 2, 1) := dk_28 (dk_at dksX5_refusesText_1 5 rfl rfl)
theorem dX5_refusesText_28 : decode cX5_refusesText 28 = .ok (.putfield 52, 3) := dk_181 0 52 (dk_at dksX5_refusesText_1 6 rfl rfl)
theorem dX5_refusesText_31 : decode cX5_refusesText 31 = .ok (.iconst 0, 1) := dk_3 (dk_at dksX5_refusesText_1 9 rfl rfl)
theorem dX5_refusesText_32 : decode cX5_refusesText 32 = .ok (.ireturn, 1) := dk_172 (dk_at dksX5_refusesText_1 10 rfl rfl)
abbrev cX5_errorPosition : ByteArray := prog_12_method_102_code
def yX5_errorPosition : MethodName := ⟨RX5, "errorPosition", "()I"⟩
def dkwX5_errorPosition_1 : List UInt8 := [180, 0, 25, 172]
abbrev dktX5_errorPosition_1 : List UInt8 := dkwX5_errorPosition_1 ++ []
def dkwX5_errorPosition_0 : List UInt8 := [42, 42, 180, 0, 25, 156, 0, 7, 4, 167, 0, 4, 3, 182, 0, 83, 153, 0, 7, 3, 167, 0, 7, 42]
abbrev dktX5_errorPosition_0 : List UInt8 := dkwX5_errorPosition_0 ++ dktX5_errorPosition_1
theorem dksX5_errorPosition_0 : cX5_errorPosition.data.toList.drop 0 = dktX5_errorPosition_0 := by decide +kernel
theorem dksX5_errorPosition_1 : cX5_errorPosition.data.toList.drop 24 = dktX5_errorPosition_1 := dk_seg dksX5_errorPosition_0 24 rfl rfl
theorem dX5_errorPosition_0 : decode cX5_errorPosition 0 = .ok (.aload_n 0, 1) := dk_42 (dk_at dksX5_errorPosition_0 0 rfl rfl)
theorem dX5_errorPosition_1 : decode cX5_errorPosition 1 = .ok (.aload_n 0, 1) := dk_42 (dk_at dksX5_errorPosition_0 1 rfl rfl)
theorem dX5_errorPosition_2 : decode cX5_errorPosition 2 = .ok (.getfield 25, 3) := dk_180 0 25 (dk_at dksX5_errorPosition_0 2 rfl rfl)
theorem dX5_errorPosition_5 : decode cX5_errorPosition 5 = .ok (.ifCond .ge 7, 3) := dk_156 0 7 (dk_at dksX5_errorPosition_0 5 rfl rfl)
theorem dX5_errorPosition_8 : decode cX5_errorPosition 8 = .ok (.iconst 1, 1) := dk_4 (dk_at dksX5_errorPosition_0 8 rfl rfl)
theorem dX5_errorPosition_9 : decode cX5_errorPosition 9 = .ok (.goto 4, 3) := dk_167 0 4 (dk_at dksX5_errorPosition_0 9 rfl rfl)
theorem dX5_errorPosition_12 : decode cX5_errorPosition 12 = .ok (.iconst 0, 1) := dk_3 (dk_at dksX5_errorPosition_0 12 rfl rfl)
theorem dX5_errorPosition_13 : decode cX5_errorPosition 13 = .ok (.invokevirtual 83, 3) := dk_182 0 83 (dk_at dksX5_errorPosition_0 13 rfl rfl)
theorem dX5_errorPosition_16 : decode cX5_errorPosition 16 = .ok (.ifCond .eq 7, 3) := dk_153 0 7 (dk_at dksX5_errorPosition_0 16 rfl rfl)
theorem dX5_errorPosition_19 : decode cX5_errorPosition 19 = .ok (.iconst 0, 1) := dk_3 (dk_at dksX5_errorPosition_0 19 rfl rfl)
theorem dX5_errorPosition_20 : decode cX5_errorPosition 20 = .ok (.goto 7, 3) := dk_167 0 7 (dk_at dksX5_errorPosition_0 20 rfl rfl)
theorem dX5_errorPosition_23 : decode cX5_errorPosition 23 = .ok (.aload_n 0, 1) := dk_42 (dk_at dksX5_errorPosition_0 23 rfl rfl)
theorem dX5_errorPosition_24 : decode cX5_errorPosition 24 = .ok (.getfield 25, 3) := dk_180 0 25 (dk_at dksX5_errorPosition_1 0 rfl rfl)
theorem dX5_errorPosition_27 : decode cX5_errorPosition 27 = .ok (.ireturn, 1) := dk_172 (dk_at dksX5_errorPosition_1 3 rfl rfl)
abbrev cX5_undo : ByteArray := prog_12_method_103_code
def yX5_undo : MethodName := ⟨RX5, "undo", "()I"⟩
def dkwX5_undo_2 : List UInt8 := [3, 184, 0, 61, 42, 180, 0, 58, 172]
abbrev dktX5_undo_2 : List UInt8 := dkwX5_undo_2 ++ []
def dkwX5_undo_1 : List UInt8 := [180, 0, 58, 4, 100, 181, 0, 58, 42, 180, 0, 13, 17, 2, 149, 42, 180, 0, 58, 104, 42, 180, 0, 7]
abbrev dktX5_undo_1 : List UInt8 := dkwX5_undo_1 ++ dktX5_undo_2
def dkwX5_undo_0 : List UInt8 := [42, 42, 180, 0, 58, 154, 0, 7, 4, 167, 0, 4, 3, 182, 0, 83, 153, 0, 5, 3, 172, 42, 89]
abbrev dktX5_undo_0 : List UInt8 := dkwX5_undo_0 ++ dktX5_undo_1
theorem dksX5_undo_0 : cX5_undo.data.toList.drop 0 = dktX5_undo_0 := by decide +kernel
theorem dksX5_undo_1 : cX5_undo.data.toList.drop 23 = dktX5_undo_1 := dk_seg dksX5_undo_0 23 rfl rfl
theorem dksX5_undo_2 : cX5_undo.data.toList.drop 47 = dktX5_undo_2 := dk_seg dksX5_undo_1 24 rfl rfl
theorem dX5_undo_0 : decode cX5_undo 0 = .ok (.aload_n 0, 1) := dk_42 (dk_at dksX5_undo_0 0 rfl rfl)
theorem dX5_undo_1 : decode cX5_undo 1 = .ok (.aload_n 0, 1) := dk_42 (dk_at dksX5_undo_0 1 rfl rfl)
theorem dX5_undo_2 : decode cX5_undo 2 = .ok (.getfield 58, 3) := dk_180 0 58 (dk_at dksX5_undo_0 2 rfl rfl)
theorem dX5_undo_5 : decode cX5_undo 5 = .ok (.ifCond .ne 7, 3) := dk_154 0 7 (dk_at dksX5_undo_0 5 rfl rfl)
theorem dX5_undo_8 : decode cX5_undo 8 = .ok (.iconst 1, 1) := dk_4 (dk_at dksX5_undo_0 8 rfl rfl)
theorem dX5_undo_9 : decode cX5_undo 9 = .ok (.goto 4, 3) := dk_167 0 4 (dk_at dksX5_undo_0 9 rfl rfl)
theorem dX5_undo_12 : decode cX5_undo 12 = .ok (.iconst 0, 1) := dk_3 (dk_at dksX5_undo_0 12 rfl rfl)
theorem dX5_undo_13 : decode cX5_undo 13 = .ok (.invokevirtual 83, 3) := dk_182 0 83 (dk_at dksX5_undo_0 13 rfl rfl)
theorem dX5_undo_16 : decode cX5_undo 16 = .ok (.ifCond .eq 5, 3) := dk_153 0 5 (dk_at dksX5_undo_0 16 rfl rfl)
theorem dX5_undo_19 : decode cX5_undo 19 = .ok (.iconst 0, 1) := dk_3 (dk_at dksX5_undo_0 19 rfl rfl)
theorem dX5_undo_20 : decode cX5_undo 20 = .ok (.ireturn, 1) := dk_172 (dk_at dksX5_undo_0 20 rfl rfl)
theorem dX5_undo_21 : decode cX5_undo 21 = .ok (.aload_n 0, 1) := dk_42 (dk_at dksX5_undo_0 21 rfl rfl)
theorem dX5_undo_22 : decode cX5_undo 22 = .ok (.dup, 1) := dk_89 (dk_at dksX5_undo_0 22 rfl rfl)
theorem dX5_undo_23 : decode cX5_undo 23 = .ok (.getfield 58, 3) := dk_180 0 58 (dk_at dksX5_undo_1 0 rfl rfl)
theorem dX5_undo_26 : decode cX5_undo 26 = .ok (.iconst 1, 1) := dk_4 (dk_at dksX5_undo_1 3 rfl rfl)
theorem dX5_undo_27 : decode cX5_undo 27 = .ok (.isub, 1) := dk_100 (dk_at dksX5_undo_1 4 rfl rfl)
theorem dX5_undo_28 : decode cX5_undo 28 = .ok (.putfield 58, 3) := dk_181 0 58 (dk_at dksX5_undo_1 5 rfl rfl)
theorem dX5_undo_31 : decode cX5_undo 31 = .ok (.aload_n 0, 1) := dk_42 (dk_at dksX5_undo_1 8 rfl rfl)
theorem dX5_undo_32 : decode cX5_undo 32 = .ok (.getfield 13, 3) := dk_180 0 13 (dk_at dksX5_undo_1 9 rfl rfl)
theorem dX5_undo_35 : decode cX5_undo 35 = .ok (.sipush 661, 3) := dk_17 2 149 (dk_at dksX5_undo_1 12 rfl rfl)
theorem dX5_undo_38 : decode cX5_undo 38 = .ok (.aload_n 0, 1) := dk_42 (dk_at dksX5_undo_1 15 rfl rfl)
theorem dX5_undo_39 : decode cX5_undo 39 = .ok (.getfield 58, 3) := dk_180 0 58 (dk_at dksX5_undo_1 16 rfl rfl)
theorem dX5_undo_42 : decode cX5_undo 42 = .ok (.imul, 1) := dk_104 (dk_at dksX5_undo_1 19 rfl rfl)
theorem dX5_undo_43 : decode cX5_undo 43 = .ok (.aload_n 0, 1) := dk_42 (dk_at dksX5_undo_1 20 rfl rfl)
theorem dX5_undo_44 : decode cX5_undo 44 = .ok (.getfield 7, 3) := dk_180 0 7 (dk_at dksX5_undo_1 21 rfl rfl)
theorem dX5_undo_47 : decode cX5_undo 47 = .ok (.iconst 0, 1) := dk_3 (dk_at dksX5_undo_2 0 rfl rfl)
theorem dX5_undo_48 : decode cX5_undo 48 = .ok (.invokestatic 61, 3) := dk_184 0 61 (dk_at dksX5_undo_2 1 rfl rfl)
theorem dX5_undo_51 : decode cX5_undo 51 = .ok (.aload_n 0, 1) := dk_42 (dk_at dksX5_undo_2 4 rfl rfl)
theorem dX5_undo_52 : decode cX5_undo 52 = .ok (.getfield 58, 3) := dk_180 0 58 (dk_at dksX5_undo_2 5 rfl rfl)
theorem dX5_undo_55 : decode cX5_undo 55 = .ok (.ireturn, 1) := dk_172 (dk_at dksX5_undo_2 8 rfl rfl)
abbrev cX5_save : ByteArray := prog_12_method_104_code
def yX5_save : MethodName := ⟨RX5, "save", "()I"⟩
def dkwX5_save_1 : List UInt8 := [180, 0, 7, 4, 46, 172]
abbrev dktX5_save_1 : List UInt8 := dkwX5_save_1 ++ []
def dkwX5_save_0 : List UInt8 := [42, 3, 181, 0, 39, 42, 4, 181, 1, 59, 42, 180, 0, 7, 3, 42, 180, 0, 16, 3, 184, 0, 61, 42]
abbrev dktX5_save_0 : List UInt8 := dkwX5_save_0 ++ dktX5_save_1
theorem dksX5_save_0 : cX5_save.data.toList.drop 0 = dktX5_save_0 := by decide +kernel
theorem dksX5_save_1 : cX5_save.data.toList.drop 24 = dktX5_save_1 := dk_seg dksX5_save_0 24 rfl rfl
theorem dX5_save_0 : decode cX5_save 0 = .ok (.aload_n 0, 1) := dk_42 (dk_at dksX5_save_0 0 rfl rfl)
theorem dX5_save_1 : decode cX5_save 1 = .ok (.iconst 0, 1) := dk_3 (dk_at dksX5_save_0 1 rfl rfl)
theorem dX5_save_2 : decode cX5_save 2 = .ok (.putfield 39, 3) := dk_181 0 39 (dk_at dksX5_save_0 2 rfl rfl)
theorem dX5_save_5 : decode cX5_save 5 = .ok (.aload_n 0, 1) := dk_42 (dk_at dksX5_save_0 5 rfl rfl)
theorem dX5_save_6 : decode cX5_save 6 = .ok (.iconst 1, 1) := dk_4 (dk_at dksX5_save_0 6 rfl rfl)
theorem dX5_save_7 : decode cX5_save 7 = .ok (.putfield 315, 3) := dk_181 1 59 (dk_at dksX5_save_0 7 rfl rfl)
theorem dX5_save_10 : decode cX5_save 10 = .ok (.aload_n 0, 1) := dk_42 (dk_at dksX5_save_0 10 rfl rfl)
theorem dX5_save_11 : decode cX5_save 11 = .ok (.getfield 7, 3) := dk_180 0 7 (dk_at dksX5_save_0 11 rfl rfl)
theorem dX5_save_14 : decode cX5_save 14 = .ok (.iconst 0, 1) := dk_3 (dk_at dksX5_save_0 14 rfl rfl)
theorem dX5_save_15 : decode cX5_save 15 = .ok (.aload_n 0, 1) := dk_42 (dk_at dksX5_save_0 15 rfl rfl)
theorem dX5_save_16 : decode cX5_save 16 = .ok (.getfield 16, 3) := dk_180 0 16 (dk_at dksX5_save_0 16 rfl rfl)
theorem dX5_save_19 : decode cX5_save 19 = .ok (.iconst 0, 1) := dk_3 (dk_at dksX5_save_0 19 rfl rfl)
theorem dX5_save_20 : decode cX5_save 20 = .ok (.invokestatic 61, 3) := dk_184 0 61 (dk_at dksX5_save_0 20 rfl rfl)
theorem dX5_save_23 : decode cX5_save 23 = .ok (.aload_n 0, 1) := dk_42 (dk_at dksX5_save_0 23 rfl rfl)
theorem dX5_save_24 : decode cX5_save 24 = .ok (.getfield 7, 3) := dk_180 0 7 (dk_at dksX5_save_1 0 rfl rfl)
theorem dX5_save_27 : decode cX5_save 27 = .ok (.iconst 1, 1) := dk_4 (dk_at dksX5_save_1 3 rfl rfl)
theorem dX5_save_28 : decode cX5_save 28 = .ok (.iaload, 1) := dk_46 (dk_at dksX5_save_1 4 rfl rfl)
theorem dX5_save_29 : decode cX5_save 29 = .ok (.ireturn, 1) := dk_172 (dk_at dksX5_save_1 5 rfl rfl)
abbrev cX5_restore : ByteArray := prog_12_method_105_code
def yX5_restore : MethodName := ⟨RX5, "restore", "()I"⟩
def dkwX5_restore_1 : List UInt8 := [180, 0, 16, 3, 42, 180, 0, 7, 3, 184, 0, 61, 42, 3, 181, 0, 58, 42, 180, 0, 7, 4, 46, 172]
abbrev dktX5_restore_1 : List UInt8 := dkwX5_restore_1 ++ []
def dkwX5_restore_0 : List UInt8 := [42, 42, 180, 1, 59, 153, 0, 7, 3, 167, 0, 4, 4, 182, 0, 83, 153, 0, 5, 3, 172, 42]
abbrev dktX5_restore_0 : List UInt8 := dkwX5_restore_0 ++ dktX5_restore_1
theorem dksX5_restore_0 : cX5_restore.data.toList.drop 0 = dktX5_restore_0 := by decide +kernel
theorem dksX5_restore_1 : cX5_restore.data.toList.drop 22 = dktX5_restore_1 := dk_seg dksX5_restore_0 22 rfl rfl
theorem dX5_restore_0 : decode cX5_restore 0 = .ok (.aload_n 0, 1) := dk_42 (dk_at dksX5_restore_0 0 rfl rfl)
theorem dX5_restore_1 : decode cX5_restore 1 = .ok (.aload_n 0, 1) := dk_42 (dk_at dksX5_restore_0 1 rfl rfl)
theorem dX5_restore_2 : decode cX5_restore 2 = .ok (.getfield 315, 3) := dk_180 1 59 (dk_at dksX5_restore_0 2 rfl rfl)
theorem dX5_restore_5 : decode cX5_restore 5 = .ok (.ifCond .eq 7, 3) := dk_153 0 7 (dk_at dksX5_restore_0 5 rfl rfl)
theorem dX5_restore_8 : decode cX5_restore 8 = .ok (.iconst 0, 1) := dk_3 (dk_at dksX5_restore_0 8 rfl rfl)
theorem dX5_restore_9 : decode cX5_restore 9 = .ok (.goto 4, 3) := dk_167 0 4 (dk_at dksX5_restore_0 9 rfl rfl)
theorem dX5_restore_12 : decode cX5_restore 12 = .ok (.iconst 1, 1) := dk_4 (dk_at dksX5_restore_0 12 rfl rfl)
theorem dX5_restore_13 : decode cX5_restore 13 = .ok (.invokevirtual 83, 3) := dk_182 0 83 (dk_at dksX5_restore_0 13 rfl rfl)
theorem dX5_restore_16 : decode cX5_restore 16 = .ok (.ifCond .eq 5, 3) := dk_153 0 5 (dk_at dksX5_restore_0 16 rfl rfl)
theorem dX5_restore_19 : decode cX5_restore 19 = .ok (.iconst 0, 1) := dk_3 (dk_at dksX5_restore_0 19 rfl rfl)
theorem dX5_restore_20 : decode cX5_restore 20 = .ok (.ireturn, 1) := dk_172 (dk_at dksX5_restore_0 20 rfl rfl)
theorem dX5_restore_21 : decode cX5_restore 21 = .ok (.aload_n 0, 1) := dk_42 (dk_at dksX5_restore_0 21 rfl rfl)
theorem dX5_restore_22 : decode cX5_restore 22 = .ok (.getfield 16, 3) := dk_180 0 16 (dk_at dksX5_restore_1 0 rfl rfl)
theorem dX5_restore_25 : decode cX5_restore 25 = .ok (.iconst 0, 1) := dk_3 (dk_at dksX5_restore_1 3 rfl rfl)
theorem dX5_restore_26 : decode cX5_restore 26 = .ok (.aload_n 0, 1) := dk_42 (dk_at dksX5_restore_1 4 rfl rfl)
theorem dX5_restore_27 : decode cX5_restore 27 = .ok (.getfield 7, 3) := dk_180 0 7 (dk_at dksX5_restore_1 5 rfl rfl)
theorem dX5_restore_30 : decode cX5_restore 30 = .ok (.iconst 0, 1) := dk_3 (dk_at dksX5_restore_1 8 rfl rfl)
theorem dX5_restore_31 : decode cX5_restore 31 = .ok (.invokestatic 61, 3) := dk_184 0 61 (dk_at dksX5_restore_1 9 rfl rfl)
theorem dX5_restore_34 : decode cX5_restore 34 = .ok (.aload_n 0, 1) := dk_42 (dk_at dksX5_restore_1 12 rfl rfl)
theorem dX5_restore_35 : decode cX5_restore 35 = .ok (.iconst 0, 1) := dk_3 (dk_at dksX5_restore_1 13 rfl rfl)
theorem dX5_restore_36 : decode cX5_restore 36 = .ok (.putfield 58, 3) := dk_181 0 58 (dk_at dksX5_restore_1 14 rfl rfl)
theorem dX5_restore_39 : decode cX5_restore 39 = .ok (.aload_n 0, 1) := dk_42 (dk_at dksX5_restore_1 17 rfl rfl)
theorem dX5_restore_40 : decode cX5_restore 40 = .ok (.getfield 7, 3) := dk_180 0 7 (dk_at dksX5_restore_1 18 rfl rfl)
theorem dX5_restore_43 : decode cX5_restore 43 = .ok (.iconst 1, 1) := dk_4 (dk_at dksX5_restore_1 21 rfl rfl)
theorem dX5_restore_44 : decode cX5_restore 44 = .ok (.iaload, 1) := dk_46 (dk_at dksX5_restore_1 22 rfl rfl)
theorem dX5_restore_45 : decode cX5_restore 45 = .ok (.ireturn, 1) := dk_172 (dk_at dksX5_restore_1 23 rfl rfl)
theorem q113 : (Jvm.Cond.initialized "ClockworkTailorModel") ∈ lw_all := lw_g (lw_at lw_m1 20 rfl) rfl
theorem q444 : (Jvm.Cond.selects "ClockworkTailorModel" ({ cls := "java/lang/Object", name := "getClass", desc := "()Ljava/lang/Class;" } : Jvm.MethodName) ({ cls := "java/lang/Object", name := "getClass", desc := "()Ljava/lang/Class;" } : Jvm.MethodName)) ∈ lw_all := lw_g (lw_at lw_m2 111 rfl) rfl
theorem q2024 : (Jvm.Cond.instantiable "ClockworkTailorModel" (23 : Nat)) ∈ lw_all := lw_g (lw_at lw_m9 11 rfl) rfl
theorem q2026 : (Jvm.Cond.instanceMethod ({ cls := "ClockworkTailorModel", name := "<init>", desc := "()V" } : Jvm.MethodName)) ∈ lw_all := lw_g (lw_at lw_m9 13 rfl) rfl
theorem q2027 : (Jvm.Cond.code ({ cls := "ClockworkTailorModel", name := "<init>", desc := "()V" } : Jvm.MethodName) prog_12_method_1_code (1 : Nat) (Option.none : Option Jvm.ClassFile.FieldType)) ∈ lw_all := lw_g (lw_at lw_m9 14 rfl) rfl
theorem q2028 : (Jvm.Cond.methodLink "ClockworkTailorModel" (1 : Nat) ({ cls := "java/lang/Object", name := "<init>", desc := "()V" } : Jvm.MethodName)) ∈ lw_all := lw_g (lw_at lw_m9 15 rfl) rfl
theorem q2029 : (Jvm.Cond.fieldLink "ClockworkTailorModel" (7 : Nat) "ClockworkTailorModel" "g" "[I") ∈ lw_all := lw_g (lw_at lw_m9 16 rfl) rfl
theorem q2030 : (Jvm.Cond.fieldLink "ClockworkTailorModel" (13 : Nat) "ClockworkTailorModel" "kept" "[I") ∈ lw_all := lw_g (lw_at lw_m9 17 rfl) rfl
theorem q2031 : (Jvm.Cond.fieldLink "ClockworkTailorModel" (16 : Nat) "ClockworkTailorModel" "saved" "[I") ∈ lw_all := lw_g (lw_at lw_m9 18 rfl) rfl
theorem q2032 : (Jvm.Cond.fieldLink "ClockworkTailorModel" (19 : Nat) "ClockworkTailorModel" "before" "[I") ∈ lw_all := lw_g (lw_at lw_m9 19 rfl) rfl
theorem q2033 : (Jvm.Cond.fieldLink "ClockworkTailorModel" (315 : Nat) "ClockworkTailorModel" "isSaved" "Z") ∈ lw_all := lw_g (lw_at lw_m9 20 rfl) rfl
theorem q2034 : (Jvm.Cond.fieldLink "ClockworkTailorModel" (58 : Nat) "ClockworkTailorModel" "changes" "I") ∈ lw_all := lw_g (lw_at lw_m9 21 rfl) rfl
theorem q2035 : (Jvm.Cond.fieldLink "ClockworkTailorModel" (55 : Nat) "ClockworkTailorModel" "isWithin" "Z") ∈ lw_all := lw_g (lw_at lw_m9 22 rfl) rfl
theorem q2036 : (Jvm.Cond.fieldLink "ClockworkTailorModel" (42 : Nat) "ClockworkTailorModel" "isRefused" "Z") ∈ lw_all := lw_g (lw_at lw_m9 23 rfl) rfl
theorem q2037 : (Jvm.Cond.fieldLink "ClockworkTailorModel" (39 : Nat) "ClockworkTailorModel" "code" "I") ∈ lw_all := lw_g (lw_at lw_m9 24 rfl) rfl
theorem q2038 : (Jvm.Cond.fieldLink "ClockworkTailorModel" (46 : Nat) "ClockworkTailorModel" "why" "I") ∈ lw_all := lw_g (lw_at lw_m9 25 rfl) rfl
theorem q2039 : (Jvm.Cond.fieldLink "ClockworkTailorModel" (49 : Nat) "ClockworkTailorModel" "detail" "I") ∈ lw_all := lw_g (lw_at lw_m9 26 rfl) rfl
theorem q2040 : (Jvm.Cond.fieldLink "ClockworkTailorModel" (52 : Nat) "ClockworkTailorModel" "cause" "I") ∈ lw_all := lw_g (lw_at lw_m9 27 rfl) rfl
theorem q2041 : (Jvm.Cond.fieldLink "ClockworkTailorModel" (22 : Nat) "ClockworkTailorModel" "input" "[I") ∈ lw_all := lw_g (lw_at lw_m9 28 rfl) rfl
theorem q2042 : (Jvm.Cond.fieldLink "ClockworkTailorModel" (206 : Nat) "ClockworkTailorModel" "length" "I") ∈ lw_all := lw_g (lw_at lw_m9 29 rfl) rfl
theorem q2043 : (Jvm.Cond.fieldLink "ClockworkTailorModel" (25 : Nat) "ClockworkTailorModel" "fault" "I") ∈ lw_all := lw_g (lw_at lw_m9 30 rfl) rfl
theorem q2044 : (Jvm.Cond.fieldLink "ClockworkTailorModel" (29 : Nat) "ClockworkTailorModel" "signs" "[C") ∈ lw_all := lw_g (lw_at lw_m9 31 rfl) rfl
theorem q2045 : (Jvm.Cond.fieldLink "ClockworkTailorModel" (196 : Nat) "ClockworkTailorModel" "signMany" "I") ∈ lw_all := lw_g (lw_at lw_m9 32 rfl) rfl
theorem q2046 : (Jvm.Cond.fieldLink "ClockworkTailorModel" (172 : Nat) "ClockworkTailorModel" "news" "I") ∈ lw_all := lw_g (lw_at lw_m9 33 rfl) rfl
theorem q2047 : (Jvm.Cond.fieldLink "ClockworkTailorModel" (166 : Nat) "ClockworkTailorModel" "missing" "I") ∈ lw_all := lw_g (lw_at lw_m9 34 rfl) rfl
theorem q2048 : (Jvm.Cond.fieldLink "ClockworkTailorModel" (33 : Nat) "ClockworkTailorModel" "fills" "[I") ∈ lw_all := lw_g (lw_at lw_m9 35 rfl) rfl
theorem q2049 : (Jvm.Cond.fieldLink "ClockworkTailorModel" (209 : Nat) "ClockworkTailorModel" "at" "I") ∈ lw_all := lw_g (lw_at lw_m9 36 rfl) rfl
theorem q2050 : (Jvm.Cond.fieldLink "ClockworkTailorModel" (36 : Nat) "ClockworkTailorModel" "told" "[I") ∈ lw_all := lw_g (lw_at lw_m9 37 rfl) rfl
theorem q2051 : (Jvm.Cond.fieldLink "ClockworkTailorModel" (215 : Nat) "ClockworkTailorModel" "toldMany" "I") ∈ lw_all := lw_g (lw_at lw_m9 38 rfl) rfl
theorem q2052 : (Jvm.Cond.laysFinal "ClockworkTailorModel" "ClockworkTailorModel" "g" "[I") ∈ lw_all := lw_g (lw_at lw_m9 39 rfl) rfl
theorem q2053 : (Jvm.Cond.soleField "ClockworkTailorModel" "g") ∈ lw_all := lw_g (lw_at lw_m9 40 rfl) rfl
theorem q2054 : (Jvm.Cond.laysFinal "ClockworkTailorModel" "ClockworkTailorModel" "kept" "[I") ∈ lw_all := lw_g (lw_at lw_m9 41 rfl) rfl
theorem q2055 : (Jvm.Cond.soleField "ClockworkTailorModel" "kept") ∈ lw_all := lw_g (lw_at lw_m9 42 rfl) rfl
theorem q2056 : (Jvm.Cond.laysFinal "ClockworkTailorModel" "ClockworkTailorModel" "saved" "[I") ∈ lw_all := lw_g (lw_at lw_m9 43 rfl) rfl
theorem q2057 : (Jvm.Cond.soleField "ClockworkTailorModel" "saved") ∈ lw_all := lw_g (lw_at lw_m9 44 rfl) rfl
theorem q2058 : (Jvm.Cond.laysFinal "ClockworkTailorModel" "ClockworkTailorModel" "before" "[I") ∈ lw_all := lw_g (lw_at lw_m9 45 rfl) rfl
theorem q2059 : (Jvm.Cond.soleField "ClockworkTailorModel" "before") ∈ lw_all := lw_g (lw_at lw_m9 46 rfl) rfl
theorem q2060 : (Jvm.Cond.lays "ClockworkTailorModel" "ClockworkTailorModel" "isSaved" "Z") ∈ lw_all := lw_g (lw_at lw_m9 47 rfl) rfl
theorem q2061 : (Jvm.Cond.soleField "ClockworkTailorModel" "isSaved") ∈ lw_all := lw_g (lw_at lw_m9 48 rfl) rfl
theorem q2062 : (Jvm.Cond.lays "ClockworkTailorModel" "ClockworkTailorModel" "changes" "I") ∈ lw_all := lw_g (lw_at lw_m9 49 rfl) rfl
theorem q2063 : (Jvm.Cond.soleField "ClockworkTailorModel" "changes") ∈ lw_all := lw_g (lw_at lw_m9 50 rfl) rfl
theorem q2064 : (Jvm.Cond.lays "ClockworkTailorModel" "ClockworkTailorModel" "isWithin" "Z") ∈ lw_all := lw_g (lw_at lw_m9 51 rfl) rfl
theorem q2065 : (Jvm.Cond.soleField "ClockworkTailorModel" "isWithin") ∈ lw_all := lw_g (lw_at lw_m9 52 rfl) rfl
theorem q2066 : (Jvm.Cond.lays "ClockworkTailorModel" "ClockworkTailorModel" "isRefused" "Z") ∈ lw_all := lw_g (lw_at lw_m9 53 rfl) rfl
theorem q2067 : (Jvm.Cond.soleField "ClockworkTailorModel" "isRefused") ∈ lw_all := lw_g (lw_at lw_m9 54 rfl) rfl
theorem q2068 : (Jvm.Cond.lays "ClockworkTailorModel" "ClockworkTailorModel" "code" "I") ∈ lw_all := lw_g (lw_at lw_m9 55 rfl) rfl
theorem q2069 : (Jvm.Cond.soleField "ClockworkTailorModel" "code") ∈ lw_all := lw_g (lw_at lw_m9 56 rfl) rfl
theorem q2070 : (Jvm.Cond.lays "ClockworkTailorModel" "ClockworkTailorModel" "why" "I") ∈ lw_all := lw_g (lw_at lw_m9 57 rfl) rfl
theorem q2071 : (Jvm.Cond.soleField "ClockworkTailorModel" "why") ∈ lw_all := lw_g (lw_at lw_m9 58 rfl) rfl
theorem q2072 : (Jvm.Cond.lays "ClockworkTailorModel" "ClockworkTailorModel" "detail" "I") ∈ lw_all := lw_g (lw_at lw_m9 59 rfl) rfl
theorem q2073 : (Jvm.Cond.soleField "ClockworkTailorModel" "detail") ∈ lw_all := lw_g (lw_at lw_m9 60 rfl) rfl
theorem q2074 : (Jvm.Cond.lays "ClockworkTailorModel" "ClockworkTailorModel" "cause" "I") ∈ lw_all := lw_g (lw_at lw_m9 61 rfl) rfl
theorem q2075 : (Jvm.Cond.soleField "ClockworkTailorModel" "cause") ∈ lw_all := lw_g (lw_at lw_m9 62 rfl) rfl
theorem q2076 : (Jvm.Cond.laysFinal "ClockworkTailorModel" "ClockworkTailorModel" "input" "[I") ∈ lw_all := lw_g (lw_at lw_m9 63 rfl) rfl
theorem q2077 : (Jvm.Cond.soleField "ClockworkTailorModel" "input") ∈ lw_all := lw_g (lw_at lw_m9 64 rfl) rfl
theorem q2078 : (Jvm.Cond.lays "ClockworkTailorModel" "ClockworkTailorModel" "length" "I") ∈ lw_all := lw_g (lw_at lw_m9 65 rfl) rfl
theorem q2079 : (Jvm.Cond.soleField "ClockworkTailorModel" "length") ∈ lw_all := lw_g (lw_at lw_m9 66 rfl) rfl
theorem q2080 : (Jvm.Cond.lays "ClockworkTailorModel" "ClockworkTailorModel" "fault" "I") ∈ lw_all := lw_g (lw_at lw_m9 67 rfl) rfl
theorem q2081 : (Jvm.Cond.soleField "ClockworkTailorModel" "fault") ∈ lw_all := lw_g (lw_at lw_m9 68 rfl) rfl
theorem q2082 : (Jvm.Cond.laysFinal "ClockworkTailorModel" "ClockworkTailorModel" "signs" "[C") ∈ lw_all := lw_g (lw_at lw_m9 69 rfl) rfl
theorem q2083 : (Jvm.Cond.soleField "ClockworkTailorModel" "signs") ∈ lw_all := lw_g (lw_at lw_m9 70 rfl) rfl
theorem q2084 : (Jvm.Cond.lays "ClockworkTailorModel" "ClockworkTailorModel" "signMany" "I") ∈ lw_all := lw_g (lw_at lw_m9 71 rfl) rfl
theorem q2085 : (Jvm.Cond.soleField "ClockworkTailorModel" "signMany") ∈ lw_all := lw_g (lw_at lw_m9 72 rfl) rfl
theorem q2086 : (Jvm.Cond.lays "ClockworkTailorModel" "ClockworkTailorModel" "news" "I") ∈ lw_all := lw_g (lw_at lw_m9 73 rfl) rfl
theorem q2087 : (Jvm.Cond.soleField "ClockworkTailorModel" "news") ∈ lw_all := lw_g (lw_at lw_m9 74 rfl) rfl
theorem q2088 : (Jvm.Cond.lays "ClockworkTailorModel" "ClockworkTailorModel" "missing" "I") ∈ lw_all := lw_g (lw_at lw_m9 75 rfl) rfl
theorem q2089 : (Jvm.Cond.soleField "ClockworkTailorModel" "missing") ∈ lw_all := lw_g (lw_at lw_m9 76 rfl) rfl
theorem q2090 : (Jvm.Cond.laysFinal "ClockworkTailorModel" "ClockworkTailorModel" "fills" "[I") ∈ lw_all := lw_g (lw_at lw_m9 77 rfl) rfl
theorem q2091 : (Jvm.Cond.soleField "ClockworkTailorModel" "fills") ∈ lw_all := lw_g (lw_at lw_m9 78 rfl) rfl
theorem q2092 : (Jvm.Cond.lays "ClockworkTailorModel" "ClockworkTailorModel" "at" "I") ∈ lw_all := lw_g (lw_at lw_m9 79 rfl) rfl
theorem q2093 : (Jvm.Cond.soleField "ClockworkTailorModel" "at") ∈ lw_all := lw_g (lw_at lw_m9 80 rfl) rfl
theorem q2094 : (Jvm.Cond.laysFinal "ClockworkTailorModel" "ClockworkTailorModel" "told" "[I") ∈ lw_all := lw_g (lw_at lw_m9 81 rfl) rfl
theorem q2095 : (Jvm.Cond.soleField "ClockworkTailorModel" "told") ∈ lw_all := lw_g (lw_at lw_m9 82 rfl) rfl
theorem q2096 : (Jvm.Cond.lays "ClockworkTailorModel" "ClockworkTailorModel" "toldMany" "I") ∈ lw_all := lw_g (lw_at lw_m9 83 rfl) rfl
theorem q2097 : (Jvm.Cond.soleField "ClockworkTailorModel" "toldMany") ∈ lw_all := lw_g (lw_at lw_m9 84 rfl) rfl
theorem q2098 : (Jvm.Cond.superclass "ClockworkTailorModel" "java/lang/Object") ∈ lw_all := lw_g (lw_at lw_m9 85 rfl) rfl
theorem q2100 : (Jvm.Cond.instanceMethod ({ cls := "ClockworkTailorModel", name := "thrown", desc := "()I" } : Jvm.MethodName)) ∈ lw_all := lw_g (lw_at lw_m9 87 rfl) rfl
theorem q2101 : (Jvm.Cond.selects "ClockworkTailorModel" ({ cls := "ClockworkTailorModel", name := "thrown", desc := "()I" } : Jvm.MethodName) ({ cls := "ClockworkTailorModel", name := "thrown", desc := "()I" } : Jvm.MethodName)) ∈ lw_all := lw_g (lw_at lw_m9 88 rfl) rfl
theorem q2102 : (Jvm.Cond.code ({ cls := "ClockworkTailorModel", name := "thrown", desc := "()I" } : Jvm.MethodName) prog_12_method_2_code (1 : Nat) (Option.some Jvm.ClassFile.FieldType.int)) ∈ lw_all := lw_g (lw_at lw_m9 89 rfl) rfl
theorem q2104 : (Jvm.Cond.instanceMethod ({ cls := "ClockworkTailorModel", name := "define", desc := "(CCI)I" } : Jvm.MethodName)) ∈ lw_all := lw_g (lw_at lw_m9 91 rfl) rfl
theorem q2105 : (Jvm.Cond.selects "ClockworkTailorModel" ({ cls := "ClockworkTailorModel", name := "define", desc := "(CCI)I" } : Jvm.MethodName) ({ cls := "ClockworkTailorModel", name := "define", desc := "(CCI)I" } : Jvm.MethodName)) ∈ lw_all := lw_g (lw_at lw_m9 92 rfl) rfl
theorem q2106 : (Jvm.Cond.code ({ cls := "ClockworkTailorModel", name := "define", desc := "(CCI)I" } : Jvm.MethodName) prog_12_method_19_code (4 : Nat) (Option.some Jvm.ClassFile.FieldType.int)) ∈ lw_all := lw_g (lw_at lw_m9 93 rfl) rfl
theorem q2107 : (Jvm.Cond.methodLink "ClockworkTailorModel" (77 : Nat) ({ cls := "ClockworkTailorModel", name := "isTool", desc := "(I)Z" } : Jvm.MethodName)) ∈ lw_all := lw_g (lw_at lw_m9 94 rfl) rfl
theorem q2108 : (Jvm.Cond.static ({ cls := "ClockworkTailorModel", name := "isTool", desc := "(I)Z" } : Jvm.MethodName)) ∈ lw_all := lw_g (lw_at lw_m9 95 rfl) rfl
theorem q2109 : (Jvm.Cond.code ({ cls := "ClockworkTailorModel", name := "isTool", desc := "(I)Z" } : Jvm.MethodName) prog_12_method_9_code (1 : Nat) (Option.some Jvm.ClassFile.FieldType.boolean)) ∈ lw_all := lw_g (lw_at lw_m9 96 rfl) rfl
theorem q2110 : (Jvm.Cond.methodLink "ClockworkTailorModel" (65 : Nat) ({ cls := "ClockworkTailorModel", name := "in", desc := "(III)Z" } : Jvm.MethodName)) ∈ lw_all := lw_g (lw_at lw_m9 97 rfl) rfl
theorem q2111 : (Jvm.Cond.static ({ cls := "ClockworkTailorModel", name := "in", desc := "(III)Z" } : Jvm.MethodName)) ∈ lw_all := lw_g (lw_at lw_m9 98 rfl) rfl
theorem q2112 : (Jvm.Cond.code ({ cls := "ClockworkTailorModel", name := "in", desc := "(III)Z" } : Jvm.MethodName) prog_12_method_5_code (3 : Nat) (Option.some Jvm.ClassFile.FieldType.boolean)) ∈ lw_all := lw_g (lw_at lw_m9 99 rfl) rfl
theorem q2113 : (Jvm.Cond.methodLink "ClockworkTailorModel" (80 : Nat) ({ cls := "ClockworkTailorModel", name := "isScope", desc := "(I)Z" } : Jvm.MethodName)) ∈ lw_all := lw_g (lw_at lw_m9 100 rfl) rfl
theorem q2114 : (Jvm.Cond.static ({ cls := "ClockworkTailorModel", name := "isScope", desc := "(I)Z" } : Jvm.MethodName)) ∈ lw_all := lw_g (lw_at lw_m9 101 rfl) rfl
theorem q2115 : (Jvm.Cond.code ({ cls := "ClockworkTailorModel", name := "isScope", desc := "(I)Z" } : Jvm.MethodName) prog_12_method_10_code (1 : Nat) (Option.some Jvm.ClassFile.FieldType.boolean)) ∈ lw_all := lw_g (lw_at lw_m9 102 rfl) rfl
theorem q2116 : (Jvm.Cond.methodLink "ClockworkTailorModel" (73 : Nat) ({ cls := "ClockworkTailorModel", name := "has", desc := "(I)Z" } : Jvm.MethodName)) ∈ lw_all := lw_g (lw_at lw_m9 103 rfl) rfl
theorem q2117 : (Jvm.Cond.privateMethod ({ cls := "ClockworkTailorModel", name := "has", desc := "(I)Z" } : Jvm.MethodName)) ∈ lw_tbl := lw_at lw_m9 104 rfl
theorem q2118 : (Jvm.Cond.instanceMethod ({ cls := "ClockworkTailorModel", name := "has", desc := "(I)Z" } : Jvm.MethodName)) ∈ lw_all := lw_g (lw_at lw_m9 105 rfl) rfl
theorem q2119 : (Jvm.Cond.code ({ cls := "ClockworkTailorModel", name := "has", desc := "(I)Z" } : Jvm.MethodName) prog_12_method_14_code (2 : Nat) (Option.some Jvm.ClassFile.FieldType.boolean)) ∈ lw_all := lw_g (lw_at lw_m9 106 rfl) rfl
theorem q2120 : (Jvm.Cond.methodLink "ClockworkTailorModel" (69 : Nat) ({ cls := "ClockworkTailorModel", name := "of", desc := "(II)I" } : Jvm.MethodName)) ∈ lw_all := lw_g (lw_at lw_m9 107 rfl) rfl
theorem q2121 : (Jvm.Cond.privateMethod ({ cls := "ClockworkTailorModel", name := "of", desc := "(II)I" } : Jvm.MethodName)) ∈ lw_tbl := lw_at lw_m9 108 rfl
theorem q2122 : (Jvm.Cond.instanceMethod ({ cls := "ClockworkTailorModel", name := "of", desc := "(II)I" } : Jvm.MethodName)) ∈ lw_all := lw_g (lw_at lw_m9 109 rfl) rfl
theorem q2123 : (Jvm.Cond.code ({ cls := "ClockworkTailorModel", name := "of", desc := "(II)I" } : Jvm.MethodName) prog_12_method_12_code (3 : Nat) (Option.some Jvm.ClassFile.FieldType.int)) ∈ lw_all := lw_g (lw_at lw_m9 110 rfl) rfl
theorem q2124 : (Jvm.Cond.methodLink "ClockworkTailorModel" (83 : Nat) ({ cls := "ClockworkTailorModel", name := "fails", desc := "(I)Z" } : Jvm.MethodName)) ∈ lw_all := lw_g (lw_at lw_m9 111 rfl) rfl
theorem q2125 : (Jvm.Cond.privateMethod ({ cls := "ClockworkTailorModel", name := "fails", desc := "(I)Z" } : Jvm.MethodName)) ∈ lw_tbl := lw_at lw_m9 112 rfl
theorem q2126 : (Jvm.Cond.instanceMethod ({ cls := "ClockworkTailorModel", name := "fails", desc := "(I)Z" } : Jvm.MethodName)) ∈ lw_all := lw_g (lw_at lw_m9 113 rfl) rfl
theorem q2127 : (Jvm.Cond.code ({ cls := "ClockworkTailorModel", name := "fails", desc := "(I)Z" } : Jvm.MethodName) prog_12_method_3_code (2 : Nat) (Option.some Jvm.ClassFile.FieldType.boolean)) ∈ lw_all := lw_g (lw_at lw_m9 114 rfl) rfl
theorem q2128 : (Jvm.Cond.methodLink "ClockworkTailorModel" (86 : Nat) ({ cls := "ClockworkTailorModel", name := "keeps", desc := "([I)V" } : Jvm.MethodName)) ∈ lw_all := lw_g (lw_at lw_m9 115 rfl) rfl
theorem q2129 : (Jvm.Cond.privateMethod ({ cls := "ClockworkTailorModel", name := "keeps", desc := "([I)V" } : Jvm.MethodName)) ∈ lw_tbl := lw_at lw_m9 116 rfl
theorem q2130 : (Jvm.Cond.instanceMethod ({ cls := "ClockworkTailorModel", name := "keeps", desc := "([I)V" } : Jvm.MethodName)) ∈ lw_all := lw_g (lw_at lw_m9 117 rfl) rfl
theorem q2131 : (Jvm.Cond.code ({ cls := "ClockworkTailorModel", name := "keeps", desc := "([I)V" } : Jvm.MethodName) prog_12_method_8_code (3 : Nat) (Option.none : Option Jvm.ClassFile.FieldType)) ∈ lw_all := lw_g (lw_at lw_m9 118 rfl) rfl
theorem q2132 : (Jvm.Cond.methodLink "ClockworkTailorModel" (61 : Nat) ({ cls := "ClockworkTailorModel", name := "copies", desc := "([II[II)V" } : Jvm.MethodName)) ∈ lw_all := lw_g (lw_at lw_m9 119 rfl) rfl
theorem q2133 : (Jvm.Cond.static ({ cls := "ClockworkTailorModel", name := "copies", desc := "([II[II)V" } : Jvm.MethodName)) ∈ lw_all := lw_g (lw_at lw_m9 120 rfl) rfl
theorem q2134 : (Jvm.Cond.code ({ cls := "ClockworkTailorModel", name := "copies", desc := "([II[II)V" } : Jvm.MethodName) prog_12_method_7_code (5 : Nat) (Option.none : Option Jvm.ClassFile.FieldType)) ∈ lw_all := lw_g (lw_at lw_m9 121 rfl) rfl
theorem q2135 : (Jvm.Cond.methodLink "ClockworkTailorModel" (90 : Nat) ({ cls := "ClockworkTailorModel", name := "lays", desc := "(III)V" } : Jvm.MethodName)) ∈ lw_all := lw_g (lw_at lw_m9 122 rfl) rfl
theorem q2136 : (Jvm.Cond.privateMethod ({ cls := "ClockworkTailorModel", name := "lays", desc := "(III)V" } : Jvm.MethodName)) ∈ lw_tbl := lw_at lw_m9 123 rfl
theorem q2137 : (Jvm.Cond.instanceMethod ({ cls := "ClockworkTailorModel", name := "lays", desc := "(III)V" } : Jvm.MethodName)) ∈ lw_all := lw_g (lw_at lw_m9 124 rfl) rfl
theorem q2138 : (Jvm.Cond.code ({ cls := "ClockworkTailorModel", name := "lays", desc := "(III)V" } : Jvm.MethodName) prog_12_method_13_code (4 : Nat) (Option.none : Option Jvm.ClassFile.FieldType)) ∈ lw_all := lw_g (lw_at lw_m9 125 rfl) rfl
theorem q2139 : (Jvm.Cond.methodLink "ClockworkTailorModel" (94 : Nat) ({ cls := "ClockworkTailorModel", name := "recipes", desc := "()I" } : Jvm.MethodName)) ∈ lw_all := lw_g (lw_at lw_m9 126 rfl) rfl
theorem q2140 : (Jvm.Cond.privateMethod ({ cls := "ClockworkTailorModel", name := "recipes", desc := "()I" } : Jvm.MethodName)) ∈ lw_tbl := lw_at lw_m9 127 rfl
theorem q2141 : (Jvm.Cond.instanceMethod ({ cls := "ClockworkTailorModel", name := "recipes", desc := "()I" } : Jvm.MethodName)) ∈ lw_all := lw_g (lw_at lw_m9 128 rfl) rfl
theorem q2142 : (Jvm.Cond.code ({ cls := "ClockworkTailorModel", name := "recipes", desc := "()I" } : Jvm.MethodName) prog_12_method_18_code (3 : Nat) (Option.some Jvm.ClassFile.FieldType.int)) ∈ lw_all := lw_g (lw_at lw_m9 129 rfl) rfl
theorem q2144 : (Jvm.Cond.instanceMethod ({ cls := "ClockworkTailorModel", name := "dropRecipe", desc := "(C)I" } : Jvm.MethodName)) ∈ lw_all := lw_g (lw_at lw_m9 131 rfl) rfl
theorem q2145 : (Jvm.Cond.selects "ClockworkTailorModel" ({ cls := "ClockworkTailorModel", name := "dropRecipe", desc := "(C)I" } : Jvm.MethodName) ({ cls := "ClockworkTailorModel", name := "dropRecipe", desc := "(C)I" } : Jvm.MethodName)) ∈ lw_all := lw_g (lw_at lw_m9 132 rfl) rfl
theorem q2146 : (Jvm.Cond.code ({ cls := "ClockworkTailorModel", name := "dropRecipe", desc := "(C)I" } : Jvm.MethodName) prog_12_method_21_code (3 : Nat) (Option.some Jvm.ClassFile.FieldType.int)) ∈ lw_all := lw_g (lw_at lw_m9 133 rfl) rfl
theorem q2147 : (Jvm.Cond.methodLink "ClockworkTailorModel" (98 : Nat) ({ cls := "ClockworkTailorModel", name := "isNone", desc := "(I)Z" } : Jvm.MethodName)) ∈ lw_all := lw_g (lw_at lw_m9 134 rfl) rfl
theorem q2148 : (Jvm.Cond.privateMethod ({ cls := "ClockworkTailorModel", name := "isNone", desc := "(I)Z" } : Jvm.MethodName)) ∈ lw_tbl := lw_at lw_m9 135 rfl
theorem q2149 : (Jvm.Cond.instanceMethod ({ cls := "ClockworkTailorModel", name := "isNone", desc := "(I)Z" } : Jvm.MethodName)) ∈ lw_all := lw_g (lw_at lw_m9 136 rfl) rfl
theorem q2150 : (Jvm.Cond.code ({ cls := "ClockworkTailorModel", name := "isNone", desc := "(I)Z" } : Jvm.MethodName) prog_12_method_20_code (2 : Nat) (Option.some Jvm.ClassFile.FieldType.boolean)) ∈ lw_all := lw_g (lw_at lw_m9 137 rfl) rfl
theorem q2151 : (Jvm.Cond.methodLink "ClockworkTailorModel" (101 : Nat) ({ cls := "ClockworkTailorModel", name := "isHere", desc := "(I)Z" } : Jvm.MethodName)) ∈ lw_all := lw_g (lw_at lw_m9 138 rfl) rfl
theorem q2152 : (Jvm.Cond.privateMethod ({ cls := "ClockworkTailorModel", name := "isHere", desc := "(I)Z" } : Jvm.MethodName)) ∈ lw_tbl := lw_at lw_m9 139 rfl
theorem q2153 : (Jvm.Cond.instanceMethod ({ cls := "ClockworkTailorModel", name := "isHere", desc := "(I)Z" } : Jvm.MethodName)) ∈ lw_all := lw_g (lw_at lw_m9 140 rfl) rfl
theorem q2154 : (Jvm.Cond.code ({ cls := "ClockworkTailorModel", name := "isHere", desc := "(I)Z" } : Jvm.MethodName) prog_12_method_56_code (2 : Nat) (Option.some Jvm.ClassFile.FieldType.boolean)) ∈ lw_all := lw_g (lw_at lw_m9 141 rfl) rfl
theorem q2155 : (Jvm.Cond.methodLink "ClockworkTailorModel" (104 : Nat) ({ cls := "ClockworkTailorModel", name := "thing", desc := "(II)I" } : Jvm.MethodName)) ∈ lw_all := lw_g (lw_at lw_m9 142 rfl) rfl
theorem q2156 : (Jvm.Cond.privateMethod ({ cls := "ClockworkTailorModel", name := "thing", desc := "(II)I" } : Jvm.MethodName)) ∈ lw_tbl := lw_at lw_m9 143 rfl
theorem q2157 : (Jvm.Cond.instanceMethod ({ cls := "ClockworkTailorModel", name := "thing", desc := "(II)I" } : Jvm.MethodName)) ∈ lw_all := lw_g (lw_at lw_m9 144 rfl) rfl
theorem q2158 : (Jvm.Cond.code ({ cls := "ClockworkTailorModel", name := "thing", desc := "(II)I" } : Jvm.MethodName) prog_12_method_55_code (3 : Nat) (Option.some Jvm.ClassFile.FieldType.int)) ∈ lw_all := lw_g (lw_at lw_m9 145 rfl) rfl
theorem q2160 : (Jvm.Cond.instanceMethod ({ cls := "ClockworkTailorModel", name := "addNeed", desc := "(CCZ)I" } : Jvm.MethodName)) ∈ lw_all := lw_g (lw_at lw_m9 147 rfl) rfl
theorem q2161 : (Jvm.Cond.selects "ClockworkTailorModel" ({ cls := "ClockworkTailorModel", name := "addNeed", desc := "(CCZ)I" } : Jvm.MethodName) ({ cls := "ClockworkTailorModel", name := "addNeed", desc := "(CCZ)I" } : Jvm.MethodName)) ∈ lw_all := lw_g (lw_at lw_m9 148 rfl) rfl
theorem q2162 : (Jvm.Cond.code ({ cls := "ClockworkTailorModel", name := "addNeed", desc := "(CCZ)I" } : Jvm.MethodName) prog_12_method_23_code (9 : Nat) (Option.some Jvm.ClassFile.FieldType.int)) ∈ lw_all := lw_g (lw_at lw_m9 149 rfl) rfl
theorem q2163 : (Jvm.Cond.methodLink "ClockworkTailorModel" (110 : Nat) ({ cls := "ClockworkTailorModel", name := "placeOf", desc := "(II)I" } : Jvm.MethodName)) ∈ lw_all := lw_g (lw_at lw_m9 150 rfl) rfl
theorem q2164 : (Jvm.Cond.privateMethod ({ cls := "ClockworkTailorModel", name := "placeOf", desc := "(II)I" } : Jvm.MethodName)) ∈ lw_tbl := lw_at lw_m9 151 rfl
theorem q2165 : (Jvm.Cond.instanceMethod ({ cls := "ClockworkTailorModel", name := "placeOf", desc := "(II)I" } : Jvm.MethodName)) ∈ lw_all := lw_g (lw_at lw_m9 152 rfl) rfl
theorem q2166 : (Jvm.Cond.code ({ cls := "ClockworkTailorModel", name := "placeOf", desc := "(II)I" } : Jvm.MethodName) prog_12_method_22_code (4 : Nat) (Option.some Jvm.ClassFile.FieldType.int)) ∈ lw_all := lw_g (lw_at lw_m9 153 rfl) rfl
theorem q2167 : (Jvm.Cond.methodLink "ClockworkTailorModel" (107 : Nat) ({ cls := "ClockworkTailorModel", name := "need", desc := "(II)I" } : Jvm.MethodName)) ∈ lw_all := lw_g (lw_at lw_m9 154 rfl) rfl
theorem q2168 : (Jvm.Cond.privateMethod ({ cls := "ClockworkTailorModel", name := "need", desc := "(II)I" } : Jvm.MethodName)) ∈ lw_tbl := lw_at lw_m9 155 rfl
theorem q2169 : (Jvm.Cond.instanceMethod ({ cls := "ClockworkTailorModel", name := "need", desc := "(II)I" } : Jvm.MethodName)) ∈ lw_all := lw_g (lw_at lw_m9 156 rfl) rfl
theorem q2170 : (Jvm.Cond.code ({ cls := "ClockworkTailorModel", name := "need", desc := "(II)I" } : Jvm.MethodName) prog_12_method_15_code (3 : Nat) (Option.some Jvm.ClassFile.FieldType.int)) ∈ lw_all := lw_g (lw_at lw_m9 157 rfl) rfl
theorem q2171 : (Jvm.Cond.methodLink "ClockworkTailorModel" (113 : Nat) ({ cls := "ClockworkTailorModel", name := "refuses", desc := "(III)I" } : Jvm.MethodName)) ∈ lw_all := lw_g (lw_at lw_m9 158 rfl) rfl
theorem q2172 : (Jvm.Cond.privateMethod ({ cls := "ClockworkTailorModel", name := "refuses", desc := "(III)I" } : Jvm.MethodName)) ∈ lw_tbl := lw_at lw_m9 159 rfl
theorem q2173 : (Jvm.Cond.instanceMethod ({ cls := "ClockworkTailorModel", name := "refuses", desc := "(III)I" } : Jvm.MethodName)) ∈ lw_all := lw_g (lw_at lw_m9 160 rfl) rfl
theorem q2174 : (Jvm.Cond.code ({ cls := "ClockworkTailorModel", name := "refuses", desc := "(III)I" } : Jvm.MethodName) prog_12_method_4_code (4 : Nat) (Option.some Jvm.ClassFile.FieldType.int)) ∈ lw_all := lw_g (lw_at lw_m9 161 rfl) rfl
theorem q2175 : (Jvm.Cond.methodLink "ClockworkTailorModel" (117 : Nat) ({ cls := "ClockworkTailorModel", name := "circle", desc := "()I" } : Jvm.MethodName)) ∈ lw_all := lw_g (lw_at lw_m9 162 rfl) rfl
theorem q2176 : (Jvm.Cond.privateMethod ({ cls := "ClockworkTailorModel", name := "circle", desc := "()I" } : Jvm.MethodName)) ∈ lw_tbl := lw_at lw_m9 163 rfl
theorem q2177 : (Jvm.Cond.instanceMethod ({ cls := "ClockworkTailorModel", name := "circle", desc := "()I" } : Jvm.MethodName)) ∈ lw_all := lw_g (lw_at lw_m9 164 rfl) rfl
theorem q2178 : (Jvm.Cond.code ({ cls := "ClockworkTailorModel", name := "circle", desc := "()I" } : Jvm.MethodName) prog_12_method_35_code (5 : Nat) (Option.some Jvm.ClassFile.FieldType.int)) ∈ lw_all := lw_g (lw_at lw_m9 165 rfl) rfl
theorem q2179 : (Jvm.Cond.methodLink "ClockworkTailorModel" (139 : Nat) ({ cls := "ClockworkTailorModel", name := "nextOf", desc := "(IZ)I" } : Jvm.MethodName)) ∈ lw_all := lw_g (lw_at lw_m9 166 rfl) rfl
theorem q2180 : (Jvm.Cond.privateMethod ({ cls := "ClockworkTailorModel", name := "nextOf", desc := "(IZ)I" } : Jvm.MethodName)) ∈ lw_tbl := lw_at lw_m9 167 rfl
theorem q2181 : (Jvm.Cond.instanceMethod ({ cls := "ClockworkTailorModel", name := "nextOf", desc := "(IZ)I" } : Jvm.MethodName)) ∈ lw_all := lw_g (lw_at lw_m9 168 rfl) rfl
theorem q2182 : (Jvm.Cond.code ({ cls := "ClockworkTailorModel", name := "nextOf", desc := "(IZ)I" } : Jvm.MethodName) prog_12_method_33_code (5 : Nat) (Option.some Jvm.ClassFile.FieldType.int)) ∈ lw_all := lw_g (lw_at lw_m9 169 rfl) rfl
theorem q2183 : (Jvm.Cond.methodLink "ClockworkTailorModel" (135 : Nat) ({ cls := "ClockworkTailorModel", name := "next", desc := "(IZ)I" } : Jvm.MethodName)) ∈ lw_all := lw_g (lw_at lw_m9 170 rfl) rfl
theorem q2184 : (Jvm.Cond.privateMethod ({ cls := "ClockworkTailorModel", name := "next", desc := "(IZ)I" } : Jvm.MethodName)) ∈ lw_tbl := lw_at lw_m9 171 rfl
theorem q2185 : (Jvm.Cond.instanceMethod ({ cls := "ClockworkTailorModel", name := "next", desc := "(IZ)I" } : Jvm.MethodName)) ∈ lw_all := lw_g (lw_at lw_m9 172 rfl) rfl
theorem q2186 : (Jvm.Cond.code ({ cls := "ClockworkTailorModel", name := "next", desc := "(IZ)I" } : Jvm.MethodName) prog_12_method_32_code (5 : Nat) (Option.some Jvm.ClassFile.FieldType.int)) ∈ lw_all := lw_g (lw_at lw_m9 173 rfl) rfl
theorem q2187 : (Jvm.Cond.methodLink "ClockworkTailorModel" (128 : Nat) ({ cls := "ClockworkTailorModel", name := "isDirect", desc := "(II)Z" } : Jvm.MethodName)) ∈ lw_all := lw_g (lw_at lw_m9 174 rfl) rfl
theorem q2188 : (Jvm.Cond.privateMethod ({ cls := "ClockworkTailorModel", name := "isDirect", desc := "(II)Z" } : Jvm.MethodName)) ∈ lw_tbl := lw_at lw_m9 175 rfl
theorem q2189 : (Jvm.Cond.instanceMethod ({ cls := "ClockworkTailorModel", name := "isDirect", desc := "(II)Z" } : Jvm.MethodName)) ∈ lw_all := lw_g (lw_at lw_m9 176 rfl) rfl
theorem q2190 : (Jvm.Cond.code ({ cls := "ClockworkTailorModel", name := "isDirect", desc := "(II)Z" } : Jvm.MethodName) prog_12_method_16_code (3 : Nat) (Option.some Jvm.ClassFile.FieldType.boolean)) ∈ lw_all := lw_g (lw_at lw_m9 177 rfl) rfl
theorem q2191 : (Jvm.Cond.methodLink "ClockworkTailorModel" (131 : Nat) ({ cls := "ClockworkTailorModel", name := "stands", desc := "(I)I" } : Jvm.MethodName)) ∈ lw_all := lw_g (lw_at lw_m9 178 rfl) rfl
theorem q2192 : (Jvm.Cond.privateMethod ({ cls := "ClockworkTailorModel", name := "stands", desc := "(I)I" } : Jvm.MethodName)) ∈ lw_tbl := lw_at lw_m9 179 rfl
theorem q2193 : (Jvm.Cond.instanceMethod ({ cls := "ClockworkTailorModel", name := "stands", desc := "(I)I" } : Jvm.MethodName)) ∈ lw_all := lw_g (lw_at lw_m9 180 rfl) rfl
theorem q2194 : (Jvm.Cond.code ({ cls := "ClockworkTailorModel", name := "stands", desc := "(I)I" } : Jvm.MethodName) prog_12_method_17_code (3 : Nat) (Option.some Jvm.ClassFile.FieldType.int)) ∈ lw_all := lw_g (lw_at lw_m9 181 rfl) rfl
theorem q2196 : (Jvm.Cond.instanceMethod ({ cls := "ClockworkTailorModel", name := "removeNeed", desc := "(CC)I" } : Jvm.MethodName)) ∈ lw_all := lw_g (lw_at lw_m9 183 rfl) rfl
theorem q2197 : (Jvm.Cond.selects "ClockworkTailorModel" ({ cls := "ClockworkTailorModel", name := "removeNeed", desc := "(CC)I" } : Jvm.MethodName) ({ cls := "ClockworkTailorModel", name := "removeNeed", desc := "(CC)I" } : Jvm.MethodName)) ∈ lw_all := lw_g (lw_at lw_m9 184 rfl) rfl
theorem q2198 : (Jvm.Cond.code ({ cls := "ClockworkTailorModel", name := "removeNeed", desc := "(CC)I" } : Jvm.MethodName) prog_12_method_24_code (6 : Nat) (Option.some Jvm.ClassFile.FieldType.int)) ∈ lw_all := lw_g (lw_at lw_m9 185 rfl) rfl
theorem q2200 : (Jvm.Cond.instanceMethod ({ cls := "ClockworkTailorModel", name := "recipeCount", desc := "()I" } : Jvm.MethodName)) ∈ lw_all := lw_g (lw_at lw_m9 187 rfl) rfl
theorem q2201 : (Jvm.Cond.selects "ClockworkTailorModel" ({ cls := "ClockworkTailorModel", name := "recipeCount", desc := "()I" } : Jvm.MethodName) ({ cls := "ClockworkTailorModel", name := "recipeCount", desc := "()I" } : Jvm.MethodName)) ∈ lw_all := lw_g (lw_at lw_m9 188 rfl) rfl
theorem q2202 : (Jvm.Cond.code ({ cls := "ClockworkTailorModel", name := "recipeCount", desc := "()I" } : Jvm.MethodName) prog_12_method_25_code (1 : Nat) (Option.some Jvm.ClassFile.FieldType.int)) ∈ lw_all := lw_g (lw_at lw_m9 189 rfl) rfl
theorem q2204 : (Jvm.Cond.instanceMethod ({ cls := "ClockworkTailorModel", name := "hasRecipe", desc := "(C)Z" } : Jvm.MethodName)) ∈ lw_all := lw_g (lw_at lw_m9 191 rfl) rfl
theorem q2205 : (Jvm.Cond.selects "ClockworkTailorModel" ({ cls := "ClockworkTailorModel", name := "hasRecipe", desc := "(C)Z" } : Jvm.MethodName) ({ cls := "ClockworkTailorModel", name := "hasRecipe", desc := "(C)Z" } : Jvm.MethodName)) ∈ lw_all := lw_g (lw_at lw_m9 192 rfl) rfl
theorem q2206 : (Jvm.Cond.code ({ cls := "ClockworkTailorModel", name := "hasRecipe", desc := "(C)Z" } : Jvm.MethodName) prog_12_method_26_code (2 : Nat) (Option.some Jvm.ClassFile.FieldType.boolean)) ∈ lw_all := lw_g (lw_at lw_m9 193 rfl) rfl
theorem q2208 : (Jvm.Cond.instanceMethod ({ cls := "ClockworkTailorModel", name := "scopeOf", desc := "(C)C" } : Jvm.MethodName)) ∈ lw_all := lw_g (lw_at lw_m9 195 rfl) rfl
theorem q2209 : (Jvm.Cond.selects "ClockworkTailorModel" ({ cls := "ClockworkTailorModel", name := "scopeOf", desc := "(C)C" } : Jvm.MethodName) ({ cls := "ClockworkTailorModel", name := "scopeOf", desc := "(C)C" } : Jvm.MethodName)) ∈ lw_all := lw_g (lw_at lw_m9 196 rfl) rfl
theorem q2210 : (Jvm.Cond.code ({ cls := "ClockworkTailorModel", name := "scopeOf", desc := "(C)C" } : Jvm.MethodName) prog_12_method_27_code (2 : Nat) (Option.some Jvm.ClassFile.FieldType.char)) ∈ lw_all := lw_g (lw_at lw_m9 197 rfl) rfl
theorem q2212 : (Jvm.Cond.instanceMethod ({ cls := "ClockworkTailorModel", name := "needCount", desc := "(C)I" } : Jvm.MethodName)) ∈ lw_all := lw_g (lw_at lw_m9 199 rfl) rfl
theorem q2213 : (Jvm.Cond.selects "ClockworkTailorModel" ({ cls := "ClockworkTailorModel", name := "needCount", desc := "(C)I" } : Jvm.MethodName) ({ cls := "ClockworkTailorModel", name := "needCount", desc := "(C)I" } : Jvm.MethodName)) ∈ lw_all := lw_g (lw_at lw_m9 200 rfl) rfl
theorem q2214 : (Jvm.Cond.code ({ cls := "ClockworkTailorModel", name := "needCount", desc := "(C)I" } : Jvm.MethodName) prog_12_method_28_code (2 : Nat) (Option.some Jvm.ClassFile.FieldType.int)) ∈ lw_all := lw_g (lw_at lw_m9 201 rfl) rfl
theorem q2216 : (Jvm.Cond.instanceMethod ({ cls := "ClockworkTailorModel", name := "needAt", desc := "(CI)C" } : Jvm.MethodName)) ∈ lw_all := lw_g (lw_at lw_m9 203 rfl) rfl
theorem q2217 : (Jvm.Cond.selects "ClockworkTailorModel" ({ cls := "ClockworkTailorModel", name := "needAt", desc := "(CI)C" } : Jvm.MethodName) ({ cls := "ClockworkTailorModel", name := "needAt", desc := "(CI)C" } : Jvm.MethodName)) ∈ lw_all := lw_g (lw_at lw_m9 204 rfl) rfl
theorem q2218 : (Jvm.Cond.code ({ cls := "ClockworkTailorModel", name := "needAt", desc := "(CI)C" } : Jvm.MethodName) prog_12_method_30_code (3 : Nat) (Option.some Jvm.ClassFile.FieldType.char)) ∈ lw_all := lw_g (lw_at lw_m9 205 rfl) rfl
theorem q2219 : (Jvm.Cond.methodLink "ClockworkTailorModel" (120 : Nat) ({ cls := "ClockworkTailorModel", name := "isNoNeed", desc := "(II)Z" } : Jvm.MethodName)) ∈ lw_all := lw_g (lw_at lw_m9 206 rfl) rfl
theorem q2220 : (Jvm.Cond.privateMethod ({ cls := "ClockworkTailorModel", name := "isNoNeed", desc := "(II)Z" } : Jvm.MethodName)) ∈ lw_tbl := lw_at lw_m9 207 rfl
theorem q2221 : (Jvm.Cond.instanceMethod ({ cls := "ClockworkTailorModel", name := "isNoNeed", desc := "(II)Z" } : Jvm.MethodName)) ∈ lw_all := lw_g (lw_at lw_m9 208 rfl) rfl
theorem q2222 : (Jvm.Cond.code ({ cls := "ClockworkTailorModel", name := "isNoNeed", desc := "(II)Z" } : Jvm.MethodName) prog_12_method_29_code (3 : Nat) (Option.some Jvm.ClassFile.FieldType.boolean)) ∈ lw_all := lw_g (lw_at lw_m9 209 rfl) rfl
theorem q2223 : (Jvm.Cond.methodLink "ClockworkTailorModel" (124 : Nat) ({ cls := "ClockworkTailorModel", name := "letter", desc := "(I)C" } : Jvm.MethodName)) ∈ lw_all := lw_g (lw_at lw_m9 210 rfl) rfl
theorem q2224 : (Jvm.Cond.static ({ cls := "ClockworkTailorModel", name := "letter", desc := "(I)C" } : Jvm.MethodName)) ∈ lw_all := lw_g (lw_at lw_m9 211 rfl) rfl
theorem q2225 : (Jvm.Cond.code ({ cls := "ClockworkTailorModel", name := "letter", desc := "(I)C" } : Jvm.MethodName) prog_12_method_11_code (1 : Nat) (Option.some Jvm.ClassFile.FieldType.char)) ∈ lw_all := lw_g (lw_at lw_m9 212 rfl) rfl
theorem q2227 : (Jvm.Cond.instanceMethod ({ cls := "ClockworkTailorModel", name := "isLazyNeed", desc := "(CI)Z" } : Jvm.MethodName)) ∈ lw_all := lw_g (lw_at lw_m9 214 rfl) rfl
theorem q2228 : (Jvm.Cond.selects "ClockworkTailorModel" ({ cls := "ClockworkTailorModel", name := "isLazyNeed", desc := "(CI)Z" } : Jvm.MethodName) ({ cls := "ClockworkTailorModel", name := "isLazyNeed", desc := "(CI)Z" } : Jvm.MethodName)) ∈ lw_all := lw_g (lw_at lw_m9 215 rfl) rfl
theorem q2229 : (Jvm.Cond.code ({ cls := "ClockworkTailorModel", name := "isLazyNeed", desc := "(CI)Z" } : Jvm.MethodName) prog_12_method_31_code (3 : Nat) (Option.some Jvm.ClassFile.FieldType.boolean)) ∈ lw_all := lw_g (lw_at lw_m9 216 rfl) rfl
theorem q2231 : (Jvm.Cond.instanceMethod ({ cls := "ClockworkTailorModel", name := "replace", desc := "(CC)I" } : Jvm.MethodName)) ∈ lw_all := lw_g (lw_at lw_m9 218 rfl) rfl
theorem q2232 : (Jvm.Cond.selects "ClockworkTailorModel" ({ cls := "ClockworkTailorModel", name := "replace", desc := "(CC)I" } : Jvm.MethodName) ({ cls := "ClockworkTailorModel", name := "replace", desc := "(CC)I" } : Jvm.MethodName)) ∈ lw_all := lw_g (lw_at lw_m9 219 rfl) rfl
theorem q2233 : (Jvm.Cond.code ({ cls := "ClockworkTailorModel", name := "replace", desc := "(CC)I" } : Jvm.MethodName) prog_12_method_36_code (9 : Nat) (Option.some Jvm.ClassFile.FieldType.int)) ∈ lw_all := lw_g (lw_at lw_m9 220 rfl) rfl
theorem q2235 : (Jvm.Cond.instanceMethod ({ cls := "ClockworkTailorModel", name := "putBack", desc := "(C)C" } : Jvm.MethodName)) ∈ lw_all := lw_g (lw_at lw_m9 222 rfl) rfl
theorem q2236 : (Jvm.Cond.selects "ClockworkTailorModel" ({ cls := "ClockworkTailorModel", name := "putBack", desc := "(C)C" } : Jvm.MethodName) ({ cls := "ClockworkTailorModel", name := "putBack", desc := "(C)C" } : Jvm.MethodName)) ∈ lw_all := lw_g (lw_at lw_m9 223 rfl) rfl
theorem q2237 : (Jvm.Cond.code ({ cls := "ClockworkTailorModel", name := "putBack", desc := "(C)C" } : Jvm.MethodName) prog_12_method_37_code (5 : Nat) (Option.some Jvm.ClassFile.FieldType.char)) ∈ lw_all := lw_g (lw_at lw_m9 224 rfl) rfl
theorem q2239 : (Jvm.Cond.instanceMethod ({ cls := "ClockworkTailorModel", name := "standInFor", desc := "(C)C" } : Jvm.MethodName)) ∈ lw_all := lw_g (lw_at lw_m9 226 rfl) rfl
theorem q2240 : (Jvm.Cond.selects "ClockworkTailorModel" ({ cls := "ClockworkTailorModel", name := "standInFor", desc := "(C)C" } : Jvm.MethodName) ({ cls := "ClockworkTailorModel", name := "standInFor", desc := "(C)C" } : Jvm.MethodName)) ∈ lw_all := lw_g (lw_at lw_m9 227 rfl) rfl
theorem q2241 : (Jvm.Cond.code ({ cls := "ClockworkTailorModel", name := "standInFor", desc := "(C)C" } : Jvm.MethodName) prog_12_method_38_code (2 : Nat) (Option.some Jvm.ClassFile.FieldType.char)) ∈ lw_all := lw_g (lw_at lw_m9 228 rfl) rfl
theorem q2243 : (Jvm.Cond.instanceMethod ({ cls := "ClockworkTailorModel", name := "leadsToCount", desc := "(C)I" } : Jvm.MethodName)) ∈ lw_all := lw_g (lw_at lw_m9 230 rfl) rfl
theorem q2244 : (Jvm.Cond.selects "ClockworkTailorModel" ({ cls := "ClockworkTailorModel", name := "leadsToCount", desc := "(C)I" } : Jvm.MethodName) ({ cls := "ClockworkTailorModel", name := "leadsToCount", desc := "(C)I" } : Jvm.MethodName)) ∈ lw_all := lw_g (lw_at lw_m9 231 rfl) rfl
theorem q2245 : (Jvm.Cond.code ({ cls := "ClockworkTailorModel", name := "leadsToCount", desc := "(C)I" } : Jvm.MethodName) prog_12_method_41_code (2 : Nat) (Option.some Jvm.ClassFile.FieldType.int)) ∈ lw_all := lw_g (lw_at lw_m9 232 rfl) rfl
theorem q2246 : (Jvm.Cond.methodLink "ClockworkTailorModel" (148 : Nat) ({ cls := "ClockworkTailorModel", name := "leads", desc := "(I)I" } : Jvm.MethodName)) ∈ lw_all := lw_g (lw_at lw_m9 233 rfl) rfl
theorem q2247 : (Jvm.Cond.privateMethod ({ cls := "ClockworkTailorModel", name := "leads", desc := "(I)I" } : Jvm.MethodName)) ∈ lw_tbl := lw_at lw_m9 234 rfl
theorem q2248 : (Jvm.Cond.instanceMethod ({ cls := "ClockworkTailorModel", name := "leads", desc := "(I)I" } : Jvm.MethodName)) ∈ lw_all := lw_g (lw_at lw_m9 235 rfl) rfl
theorem q2249 : (Jvm.Cond.code ({ cls := "ClockworkTailorModel", name := "leads", desc := "(I)I" } : Jvm.MethodName) prog_12_method_40_code (2 : Nat) (Option.some Jvm.ClassFile.FieldType.int)) ∈ lw_all := lw_g (lw_at lw_m9 236 rfl) rfl
theorem q2250 : (Jvm.Cond.methodLink "ClockworkTailorModel" (142 : Nat) ({ cls := "ClockworkTailorModel", name := "reached", desc := "(IZ)I" } : Jvm.MethodName)) ∈ lw_all := lw_g (lw_at lw_m9 237 rfl) rfl
theorem q2251 : (Jvm.Cond.privateMethod ({ cls := "ClockworkTailorModel", name := "reached", desc := "(IZ)I" } : Jvm.MethodName)) ∈ lw_tbl := lw_at lw_m9 238 rfl
theorem q2252 : (Jvm.Cond.instanceMethod ({ cls := "ClockworkTailorModel", name := "reached", desc := "(IZ)I" } : Jvm.MethodName)) ∈ lw_all := lw_g (lw_at lw_m9 239 rfl) rfl
theorem q2253 : (Jvm.Cond.code ({ cls := "ClockworkTailorModel", name := "reached", desc := "(IZ)I" } : Jvm.MethodName) prog_12_method_34_code (5 : Nat) (Option.some Jvm.ClassFile.FieldType.int)) ∈ lw_all := lw_g (lw_at lw_m10 0 rfl) rfl
theorem q2254 : (Jvm.Cond.methodLink "ClockworkTailorModel" (145 : Nat) ({ cls := "ClockworkTailorModel", name := "bits", desc := "(I)I" } : Jvm.MethodName)) ∈ lw_all := lw_g (lw_at lw_m10 1 rfl) rfl
theorem q2255 : (Jvm.Cond.static ({ cls := "ClockworkTailorModel", name := "bits", desc := "(I)I" } : Jvm.MethodName)) ∈ lw_all := lw_g (lw_at lw_m10 2 rfl) rfl
theorem q2256 : (Jvm.Cond.code ({ cls := "ClockworkTailorModel", name := "bits", desc := "(I)I" } : Jvm.MethodName) prog_12_method_39_code (3 : Nat) (Option.some Jvm.ClassFile.FieldType.int)) ∈ lw_all := lw_g (lw_at lw_m10 3 rfl) rfl
theorem q2258 : (Jvm.Cond.instanceMethod ({ cls := "ClockworkTailorModel", name := "leadsToByTable", desc := "(C)I" } : Jvm.MethodName)) ∈ lw_all := lw_g (lw_at lw_m10 5 rfl) rfl
theorem q2259 : (Jvm.Cond.selects "ClockworkTailorModel" ({ cls := "ClockworkTailorModel", name := "leadsToByTable", desc := "(C)I" } : Jvm.MethodName) ({ cls := "ClockworkTailorModel", name := "leadsToByTable", desc := "(C)I" } : Jvm.MethodName)) ∈ lw_all := lw_g (lw_at lw_m10 6 rfl) rfl
theorem q2260 : (Jvm.Cond.code ({ cls := "ClockworkTailorModel", name := "leadsToByTable", desc := "(C)I" } : Jvm.MethodName) prog_12_method_42_code (2 : Nat) (Option.some Jvm.ClassFile.FieldType.int)) ∈ lw_all := lw_g (lw_at lw_m10 7 rfl) rfl
theorem q2262 : (Jvm.Cond.instanceMethod ({ cls := "ClockworkTailorModel", name := "inCircles", desc := "()I" } : Jvm.MethodName)) ∈ lw_all := lw_g (lw_at lw_m10 9 rfl) rfl
theorem q2263 : (Jvm.Cond.selects "ClockworkTailorModel" ({ cls := "ClockworkTailorModel", name := "inCircles", desc := "()I" } : Jvm.MethodName) ({ cls := "ClockworkTailorModel", name := "inCircles", desc := "()I" } : Jvm.MethodName)) ∈ lw_all := lw_g (lw_at lw_m10 10 rfl) rfl
theorem q2264 : (Jvm.Cond.code ({ cls := "ClockworkTailorModel", name := "inCircles", desc := "()I" } : Jvm.MethodName) prog_12_method_44_code (1 : Nat) (Option.some Jvm.ClassFile.FieldType.int)) ∈ lw_all := lw_g (lw_at lw_m10 11 rfl) rfl
theorem q2265 : (Jvm.Cond.methodLink "ClockworkTailorModel" (151 : Nat) ({ cls := "ClockworkTailorModel", name := "round", desc := "()I" } : Jvm.MethodName)) ∈ lw_all := lw_g (lw_at lw_m10 12 rfl) rfl
theorem q2266 : (Jvm.Cond.privateMethod ({ cls := "ClockworkTailorModel", name := "round", desc := "()I" } : Jvm.MethodName)) ∈ lw_tbl := lw_at lw_m10 13 rfl
theorem q2267 : (Jvm.Cond.instanceMethod ({ cls := "ClockworkTailorModel", name := "round", desc := "()I" } : Jvm.MethodName)) ∈ lw_all := lw_g (lw_at lw_m10 14 rfl) rfl
theorem q2268 : (Jvm.Cond.code ({ cls := "ClockworkTailorModel", name := "round", desc := "()I" } : Jvm.MethodName) prog_12_method_43_code (3 : Nat) (Option.some Jvm.ClassFile.FieldType.int)) ∈ lw_all := lw_g (lw_at lw_m10 15 rfl) rfl
theorem q2270 : (Jvm.Cond.instanceMethod ({ cls := "ClockworkTailorModel", name := "inCirclesBySets", desc := "()I" } : Jvm.MethodName)) ∈ lw_all := lw_g (lw_at lw_m10 17 rfl) rfl
theorem q2271 : (Jvm.Cond.selects "ClockworkTailorModel" ({ cls := "ClockworkTailorModel", name := "inCirclesBySets", desc := "()I" } : Jvm.MethodName) ({ cls := "ClockworkTailorModel", name := "inCirclesBySets", desc := "()I" } : Jvm.MethodName)) ∈ lw_all := lw_g (lw_at lw_m10 18 rfl) rfl
theorem q2272 : (Jvm.Cond.code ({ cls := "ClockworkTailorModel", name := "inCirclesBySets", desc := "()I" } : Jvm.MethodName) prog_12_method_45_code (1 : Nat) (Option.some Jvm.ClassFile.FieldType.int)) ∈ lw_all := lw_g (lw_at lw_m10 19 rfl) rfl
theorem q2274 : (Jvm.Cond.instanceMethod ({ cls := "ClockworkTailorModel", name := "longestWay", desc := "(C)I" } : Jvm.MethodName)) ∈ lw_all := lw_g (lw_at lw_m10 21 rfl) rfl
theorem q2275 : (Jvm.Cond.selects "ClockworkTailorModel" ({ cls := "ClockworkTailorModel", name := "longestWay", desc := "(C)I" } : Jvm.MethodName) ({ cls := "ClockworkTailorModel", name := "longestWay", desc := "(C)I" } : Jvm.MethodName)) ∈ lw_all := lw_g (lw_at lw_m10 22 rfl) rfl
theorem q2276 : (Jvm.Cond.code ({ cls := "ClockworkTailorModel", name := "longestWay", desc := "(C)I" } : Jvm.MethodName) prog_12_method_48_code (2 : Nat) (Option.some Jvm.ClassFile.FieldType.int)) ∈ lw_all := lw_g (lw_at lw_m10 23 rfl) rfl
theorem q2277 : (Jvm.Cond.methodLink "ClockworkTailorModel" (160 : Nat) ({ cls := "ClockworkTailorModel", name := "way", desc := "(I)I" } : Jvm.MethodName)) ∈ lw_all := lw_g (lw_at lw_m10 24 rfl) rfl
theorem q2278 : (Jvm.Cond.privateMethod ({ cls := "ClockworkTailorModel", name := "way", desc := "(I)I" } : Jvm.MethodName)) ∈ lw_tbl := lw_at lw_m10 25 rfl
theorem q2279 : (Jvm.Cond.instanceMethod ({ cls := "ClockworkTailorModel", name := "way", desc := "(I)I" } : Jvm.MethodName)) ∈ lw_all := lw_g (lw_at lw_m10 26 rfl) rfl
theorem q2280 : (Jvm.Cond.code ({ cls := "ClockworkTailorModel", name := "way", desc := "(I)I" } : Jvm.MethodName) prog_12_method_47_code (4 : Nat) (Option.some Jvm.ClassFile.FieldType.int)) ∈ lw_all := lw_g (lw_at lw_m10 27 rfl) rfl
theorem q2281 : (Jvm.Cond.methodLink "ClockworkTailorModel" (154 : Nat) ({ cls := "ClockworkTailorModel", name := "longest", desc := "(I)I" } : Jvm.MethodName)) ∈ lw_all := lw_g (lw_at lw_m10 28 rfl) rfl
theorem q2282 : (Jvm.Cond.privateMethod ({ cls := "ClockworkTailorModel", name := "longest", desc := "(I)I" } : Jvm.MethodName)) ∈ lw_tbl := lw_at lw_m10 29 rfl
theorem q2283 : (Jvm.Cond.instanceMethod ({ cls := "ClockworkTailorModel", name := "longest", desc := "(I)I" } : Jvm.MethodName)) ∈ lw_all := lw_g (lw_at lw_m10 30 rfl) rfl
theorem q2284 : (Jvm.Cond.code ({ cls := "ClockworkTailorModel", name := "longest", desc := "(I)I" } : Jvm.MethodName) prog_12_method_46_code (4 : Nat) (Option.some Jvm.ClassFile.FieldType.int)) ∈ lw_all := lw_g (lw_at lw_m10 31 rfl) rfl
theorem q2285 : (Jvm.Cond.methodLink "ClockworkTailorModel" (157 : Nat) ({ cls := "ClockworkTailorModel", name := "most", desc := "(II)I" } : Jvm.MethodName)) ∈ lw_all := lw_g (lw_at lw_m10 32 rfl) rfl
theorem q2286 : (Jvm.Cond.static ({ cls := "ClockworkTailorModel", name := "most", desc := "(II)I" } : Jvm.MethodName)) ∈ lw_all := lw_g (lw_at lw_m10 33 rfl) rfl
theorem q2287 : (Jvm.Cond.code ({ cls := "ClockworkTailorModel", name := "most", desc := "(II)I" } : Jvm.MethodName) prog_12_method_6_code (2 : Nat) (Option.some Jvm.ClassFile.FieldType.int)) ∈ lw_all := lw_g (lw_at lw_m10 34 rfl) rfl
theorem q2289 : (Jvm.Cond.instanceMethod ({ cls := "ClockworkTailorModel", name := "longestByRounds", desc := "(C)I" } : Jvm.MethodName)) ∈ lw_all := lw_g (lw_at lw_m10 36 rfl) rfl
theorem q2290 : (Jvm.Cond.selects "ClockworkTailorModel" ({ cls := "ClockworkTailorModel", name := "longestByRounds", desc := "(C)I" } : Jvm.MethodName) ({ cls := "ClockworkTailorModel", name := "longestByRounds", desc := "(C)I" } : Jvm.MethodName)) ∈ lw_all := lw_g (lw_at lw_m10 37 rfl) rfl
theorem q2291 : (Jvm.Cond.code ({ cls := "ClockworkTailorModel", name := "longestByRounds", desc := "(C)I" } : Jvm.MethodName) prog_12_method_49_code (2 : Nat) (Option.some Jvm.ClassFile.FieldType.int)) ∈ lw_all := lw_g (lw_at lw_m10 38 rfl) rfl
theorem q2293 : (Jvm.Cond.instanceMethod ({ cls := "ClockworkTailorModel", name := "captives", desc := "()I" } : Jvm.MethodName)) ∈ lw_all := lw_g (lw_at lw_m10 40 rfl) rfl
theorem q2294 : (Jvm.Cond.selects "ClockworkTailorModel" ({ cls := "ClockworkTailorModel", name := "captives", desc := "()I" } : Jvm.MethodName) ({ cls := "ClockworkTailorModel", name := "captives", desc := "()I" } : Jvm.MethodName)) ∈ lw_all := lw_g (lw_at lw_m10 41 rfl) rfl
theorem q2295 : (Jvm.Cond.code ({ cls := "ClockworkTailorModel", name := "captives", desc := "()I" } : Jvm.MethodName) prog_12_method_50_code (4 : Nat) (Option.some Jvm.ClassFile.FieldType.int)) ∈ lw_all := lw_g (lw_at lw_m10 42 rfl) rfl
theorem q2297 : (Jvm.Cond.instanceMethod ({ cls := "ClockworkTailorModel", name := "openThread", desc := "()I" } : Jvm.MethodName)) ∈ lw_all := lw_g (lw_at lw_m10 44 rfl) rfl
theorem q2298 : (Jvm.Cond.selects "ClockworkTailorModel" ({ cls := "ClockworkTailorModel", name := "openThread", desc := "()I" } : Jvm.MethodName) ({ cls := "ClockworkTailorModel", name := "openThread", desc := "()I" } : Jvm.MethodName)) ∈ lw_all := lw_g (lw_at lw_m10 45 rfl) rfl
theorem q2299 : (Jvm.Cond.code ({ cls := "ClockworkTailorModel", name := "openThread", desc := "()I" } : Jvm.MethodName) prog_12_method_51_code (2 : Nat) (Option.some Jvm.ClassFile.FieldType.int)) ∈ lw_all := lw_g (lw_at lw_m10 46 rfl) rfl
theorem q2300 : (Jvm.Cond.methodLink "ClockworkTailorModel" (163 : Nat) ({ cls := "ClockworkTailorModel", name := "isOpened", desc := "(I)Z" } : Jvm.MethodName)) ∈ lw_all := lw_g (lw_at lw_m10 47 rfl) rfl
theorem q2301 : (Jvm.Cond.privateMethod ({ cls := "ClockworkTailorModel", name := "isOpened", desc := "(I)Z" } : Jvm.MethodName)) ∈ lw_tbl := lw_at lw_m10 48 rfl
theorem q2302 : (Jvm.Cond.instanceMethod ({ cls := "ClockworkTailorModel", name := "isOpened", desc := "(I)Z" } : Jvm.MethodName)) ∈ lw_all := lw_g (lw_at lw_m10 49 rfl) rfl
theorem q2303 : (Jvm.Cond.code ({ cls := "ClockworkTailorModel", name := "isOpened", desc := "(I)Z" } : Jvm.MethodName) prog_12_method_52_code (2 : Nat) (Option.some Jvm.ClassFile.FieldType.boolean)) ∈ lw_all := lw_g (lw_at lw_m10 50 rfl) rfl
theorem q2305 : (Jvm.Cond.instanceMethod ({ cls := "ClockworkTailorModel", name := "closeThread", desc := "(I)I" } : Jvm.MethodName)) ∈ lw_all := lw_g (lw_at lw_m10 52 rfl) rfl
theorem q2306 : (Jvm.Cond.selects "ClockworkTailorModel" ({ cls := "ClockworkTailorModel", name := "closeThread", desc := "(I)I" } : Jvm.MethodName) ({ cls := "ClockworkTailorModel", name := "closeThread", desc := "(I)I" } : Jvm.MethodName)) ∈ lw_all := lw_g (lw_at lw_m10 53 rfl) rfl
theorem q2307 : (Jvm.Cond.code ({ cls := "ClockworkTailorModel", name := "closeThread", desc := "(I)I" } : Jvm.MethodName) prog_12_method_53_code (4 : Nat) (Option.some Jvm.ClassFile.FieldType.int)) ∈ lw_all := lw_g (lw_at lw_m10 54 rfl) rfl
theorem q2309 : (Jvm.Cond.instanceMethod ({ cls := "ClockworkTailorModel", name := "isOpen", desc := "(I)Z" } : Jvm.MethodName)) ∈ lw_all := lw_g (lw_at lw_m10 56 rfl) rfl
theorem q2310 : (Jvm.Cond.selects "ClockworkTailorModel" ({ cls := "ClockworkTailorModel", name := "isOpen", desc := "(I)Z" } : Jvm.MethodName) ({ cls := "ClockworkTailorModel", name := "isOpen", desc := "(I)Z" } : Jvm.MethodName)) ∈ lw_all := lw_g (lw_at lw_m10 57 rfl) rfl
theorem q2311 : (Jvm.Cond.code ({ cls := "ClockworkTailorModel", name := "isOpen", desc := "(I)Z" } : Jvm.MethodName) prog_12_method_54_code (2 : Nat) (Option.some Jvm.ClassFile.FieldType.boolean)) ∈ lw_all := lw_g (lw_at lw_m10 58 rfl) rfl
theorem q2313 : (Jvm.Cond.instanceMethod ({ cls := "ClockworkTailorModel", name := "make", desc := "(CI)I" } : Jvm.MethodName)) ∈ lw_all := lw_g (lw_at lw_m10 60 rfl) rfl
theorem q2314 : (Jvm.Cond.selects "ClockworkTailorModel" ({ cls := "ClockworkTailorModel", name := "make", desc := "(CI)I" } : Jvm.MethodName) ({ cls := "ClockworkTailorModel", name := "make", desc := "(CI)I" } : Jvm.MethodName)) ∈ lw_all := lw_g (lw_at lw_m10 61 rfl) rfl
theorem q2315 : (Jvm.Cond.code ({ cls := "ClockworkTailorModel", name := "make", desc := "(CI)I" } : Jvm.MethodName) prog_12_method_63_code (3 : Nat) (Option.some Jvm.ClassFile.FieldType.int)) ∈ lw_all := lw_g (lw_at lw_m10 62 rfl) rfl
theorem q2316 : (Jvm.Cond.methodLink "ClockworkTailorModel" (184 : Nat) ({ cls := "ClockworkTailorModel", name := "isDenied", desc := "(III)Z" } : Jvm.MethodName)) ∈ lw_all := lw_g (lw_at lw_m10 63 rfl) rfl
theorem q2317 : (Jvm.Cond.privateMethod ({ cls := "ClockworkTailorModel", name := "isDenied", desc := "(III)Z" } : Jvm.MethodName)) ∈ lw_tbl := lw_at lw_m10 64 rfl
theorem q2318 : (Jvm.Cond.instanceMethod ({ cls := "ClockworkTailorModel", name := "isDenied", desc := "(III)Z" } : Jvm.MethodName)) ∈ lw_all := lw_g (lw_at lw_m10 65 rfl) rfl
theorem q2319 : (Jvm.Cond.code ({ cls := "ClockworkTailorModel", name := "isDenied", desc := "(III)Z" } : Jvm.MethodName) prog_12_method_62_code (5 : Nat) (Option.some Jvm.ClassFile.FieldType.boolean)) ∈ lw_all := lw_g (lw_at lw_m10 66 rfl) rfl
theorem q2320 : (Jvm.Cond.methodLink "ClockworkTailorModel" (181 : Nat) ({ cls := "ClockworkTailorModel", name := "dues", desc := "(II)I" } : Jvm.MethodName)) ∈ lw_all := lw_g (lw_at lw_m10 67 rfl) rfl
theorem q2321 : (Jvm.Cond.privateMethod ({ cls := "ClockworkTailorModel", name := "dues", desc := "(II)I" } : Jvm.MethodName)) ∈ lw_tbl := lw_at lw_m10 68 rfl
theorem q2322 : (Jvm.Cond.instanceMethod ({ cls := "ClockworkTailorModel", name := "dues", desc := "(II)I" } : Jvm.MethodName)) ∈ lw_all := lw_g (lw_at lw_m10 69 rfl) rfl
theorem q2323 : (Jvm.Cond.code ({ cls := "ClockworkTailorModel", name := "dues", desc := "(II)I" } : Jvm.MethodName) prog_12_method_60_code (3 : Nat) (Option.some Jvm.ClassFile.FieldType.int)) ∈ lw_all := lw_g (lw_at lw_m10 70 rfl) rfl
theorem q2324 : (Jvm.Cond.methodLink "ClockworkTailorModel" (175 : Nat) ({ cls := "ClockworkTailorModel", name := "counts", desc := "(II)I" } : Jvm.MethodName)) ∈ lw_all := lw_g (lw_at lw_m10 71 rfl) rfl
theorem q2325 : (Jvm.Cond.privateMethod ({ cls := "ClockworkTailorModel", name := "counts", desc := "(II)I" } : Jvm.MethodName)) ∈ lw_tbl := lw_at lw_m10 72 rfl
theorem q2326 : (Jvm.Cond.instanceMethod ({ cls := "ClockworkTailorModel", name := "counts", desc := "(II)I" } : Jvm.MethodName)) ∈ lw_all := lw_g (lw_at lw_m10 73 rfl) rfl
theorem q2327 : (Jvm.Cond.code ({ cls := "ClockworkTailorModel", name := "counts", desc := "(II)I" } : Jvm.MethodName) prog_12_method_59_code (6 : Nat) (Option.some Jvm.ClassFile.FieldType.int)) ∈ lw_all := lw_g (lw_at lw_m10 74 rfl) rfl
theorem q2328 : (Jvm.Cond.methodLink "ClockworkTailorModel" (169 : Nat) ({ cls := "ClockworkTailorModel", name := "existing", desc := "(II)I" } : Jvm.MethodName)) ∈ lw_all := lw_g (lw_at lw_m10 75 rfl) rfl
theorem q2329 : (Jvm.Cond.privateMethod ({ cls := "ClockworkTailorModel", name := "existing", desc := "(II)I" } : Jvm.MethodName)) ∈ lw_tbl := lw_at lw_m10 76 rfl
theorem q2330 : (Jvm.Cond.instanceMethod ({ cls := "ClockworkTailorModel", name := "existing", desc := "(II)I" } : Jvm.MethodName)) ∈ lw_all := lw_g (lw_at lw_m10 77 rfl) rfl
theorem q2331 : (Jvm.Cond.code ({ cls := "ClockworkTailorModel", name := "existing", desc := "(II)I" } : Jvm.MethodName) prog_12_method_58_code (4 : Nat) (Option.some Jvm.ClassFile.FieldType.int)) ∈ lw_all := lw_g (lw_at lw_m10 78 rfl) rfl
theorem q2332 : (Jvm.Cond.methodLink "ClockworkTailorModel" (178 : Nat) ({ cls := "ClockworkTailorModel", name := "gets", desc := "(III)I" } : Jvm.MethodName)) ∈ lw_all := lw_g (lw_at lw_m10 79 rfl) rfl
theorem q2333 : (Jvm.Cond.privateMethod ({ cls := "ClockworkTailorModel", name := "gets", desc := "(III)I" } : Jvm.MethodName)) ∈ lw_tbl := lw_at lw_m10 80 rfl
theorem q2334 : (Jvm.Cond.instanceMethod ({ cls := "ClockworkTailorModel", name := "gets", desc := "(III)I" } : Jvm.MethodName)) ∈ lw_all := lw_g (lw_at lw_m10 81 rfl) rfl
theorem q2335 : (Jvm.Cond.code ({ cls := "ClockworkTailorModel", name := "gets", desc := "(III)I" } : Jvm.MethodName) prog_12_method_61_code (9 : Nat) (Option.some Jvm.ClassFile.FieldType.int)) ∈ lw_all := lw_g (lw_at lw_m10 82 rfl) rfl
theorem q2337 : (Jvm.Cond.instanceMethod ({ cls := "ClockworkTailorModel", name := "touch", desc := "(III)I" } : Jvm.MethodName)) ∈ lw_all := lw_g (lw_at lw_m10 84 rfl) rfl
theorem q2338 : (Jvm.Cond.selects "ClockworkTailorModel" ({ cls := "ClockworkTailorModel", name := "touch", desc := "(III)I" } : Jvm.MethodName) ({ cls := "ClockworkTailorModel", name := "touch", desc := "(III)I" } : Jvm.MethodName)) ∈ lw_all := lw_g (lw_at lw_m10 85 rfl) rfl
theorem q2339 : (Jvm.Cond.code ({ cls := "ClockworkTailorModel", name := "touch", desc := "(III)I" } : Jvm.MethodName) prog_12_method_65_code (6 : Nat) (Option.some Jvm.ClassFile.FieldType.int)) ∈ lw_all := lw_g (lw_at lw_m10 86 rfl) rfl
theorem q2340 : (Jvm.Cond.methodLink "ClockworkTailorModel" (190 : Nat) ({ cls := "ClockworkTailorModel", name := "isNoNeedOf", desc := "(II)Z" } : Jvm.MethodName)) ∈ lw_all := lw_g (lw_at lw_m10 87 rfl) rfl
theorem q2341 : (Jvm.Cond.privateMethod ({ cls := "ClockworkTailorModel", name := "isNoNeedOf", desc := "(II)Z" } : Jvm.MethodName)) ∈ lw_tbl := lw_at lw_m10 88 rfl
theorem q2342 : (Jvm.Cond.instanceMethod ({ cls := "ClockworkTailorModel", name := "isNoNeedOf", desc := "(II)Z" } : Jvm.MethodName)) ∈ lw_all := lw_g (lw_at lw_m10 89 rfl) rfl
theorem q2343 : (Jvm.Cond.code ({ cls := "ClockworkTailorModel", name := "isNoNeedOf", desc := "(II)Z" } : Jvm.MethodName) prog_12_method_64_code (3 : Nat) (Option.some Jvm.ClassFile.FieldType.boolean)) ∈ lw_all := lw_g (lw_at lw_m10 90 rfl) rfl
theorem q2344 : (Jvm.Cond.methodLink "ClockworkTailorModel" (187 : Nat) ({ cls := "ClockworkTailorModel", name := "isObject", desc := "(I)Z" } : Jvm.MethodName)) ∈ lw_all := lw_g (lw_at lw_m10 91 rfl) rfl
theorem q2345 : (Jvm.Cond.privateMethod ({ cls := "ClockworkTailorModel", name := "isObject", desc := "(I)Z" } : Jvm.MethodName)) ∈ lw_tbl := lw_at lw_m10 92 rfl
theorem q2346 : (Jvm.Cond.instanceMethod ({ cls := "ClockworkTailorModel", name := "isObject", desc := "(I)Z" } : Jvm.MethodName)) ∈ lw_all := lw_g (lw_at lw_m10 93 rfl) rfl
theorem q2347 : (Jvm.Cond.code ({ cls := "ClockworkTailorModel", name := "isObject", desc := "(I)Z" } : Jvm.MethodName) prog_12_method_57_code (2 : Nat) (Option.some Jvm.ClassFile.FieldType.boolean)) ∈ lw_all := lw_g (lw_at lw_m10 94 rfl) rfl
theorem q2349 : (Jvm.Cond.instanceMethod ({ cls := "ClockworkTailorModel", name := "wouldMake", desc := "(CI)I" } : Jvm.MethodName)) ∈ lw_all := lw_g (lw_at lw_m10 96 rfl) rfl
theorem q2350 : (Jvm.Cond.selects "ClockworkTailorModel" ({ cls := "ClockworkTailorModel", name := "wouldMake", desc := "(CI)I" } : Jvm.MethodName) ({ cls := "ClockworkTailorModel", name := "wouldMake", desc := "(CI)I" } : Jvm.MethodName)) ∈ lw_all := lw_g (lw_at lw_m10 97 rfl) rfl
theorem q2351 : (Jvm.Cond.code ({ cls := "ClockworkTailorModel", name := "wouldMake", desc := "(CI)I" } : Jvm.MethodName) prog_12_method_67_code (3 : Nat) (Option.some Jvm.ClassFile.FieldType.int)) ∈ lw_all := lw_g (lw_at lw_m10 98 rfl) rfl
theorem q2352 : (Jvm.Cond.methodLink "ClockworkTailorModel" (193 : Nat) ({ cls := "ClockworkTailorModel", name := "would", desc := "(II)I" } : Jvm.MethodName)) ∈ lw_all := lw_g (lw_at lw_m10 99 rfl) rfl
theorem q2353 : (Jvm.Cond.privateMethod ({ cls := "ClockworkTailorModel", name := "would", desc := "(II)I" } : Jvm.MethodName)) ∈ lw_tbl := lw_at lw_m10 100 rfl
theorem q2354 : (Jvm.Cond.instanceMethod ({ cls := "ClockworkTailorModel", name := "would", desc := "(II)I" } : Jvm.MethodName)) ∈ lw_all := lw_g (lw_at lw_m10 101 rfl) rfl
theorem q2355 : (Jvm.Cond.code ({ cls := "ClockworkTailorModel", name := "would", desc := "(II)I" } : Jvm.MethodName) prog_12_method_66_code (4 : Nat) (Option.some Jvm.ClassFile.FieldType.int)) ∈ lw_all := lw_g (lw_at lw_m10 102 rfl) rfl
theorem q2357 : (Jvm.Cond.instanceMethod ({ cls := "ClockworkTailorModel", name := "wouldMakeByCounting", desc := "(CI)I" } : Jvm.MethodName)) ∈ lw_all := lw_g (lw_at lw_m10 104 rfl) rfl
theorem q2358 : (Jvm.Cond.selects "ClockworkTailorModel" ({ cls := "ClockworkTailorModel", name := "wouldMakeByCounting", desc := "(CI)I" } : Jvm.MethodName) ({ cls := "ClockworkTailorModel", name := "wouldMakeByCounting", desc := "(CI)I" } : Jvm.MethodName)) ∈ lw_all := lw_g (lw_at lw_m10 105 rfl) rfl
theorem q2359 : (Jvm.Cond.code ({ cls := "ClockworkTailorModel", name := "wouldMakeByCounting", desc := "(CI)I" } : Jvm.MethodName) prog_12_method_68_code (3 : Nat) (Option.some Jvm.ClassFile.FieldType.int)) ∈ lw_all := lw_g (lw_at lw_m10 106 rfl) rfl
theorem q2361 : (Jvm.Cond.instanceMethod ({ cls := "ClockworkTailorModel", name := "objectCount", desc := "()I" } : Jvm.MethodName)) ∈ lw_all := lw_g (lw_at lw_m10 108 rfl) rfl
theorem q2362 : (Jvm.Cond.selects "ClockworkTailorModel" ({ cls := "ClockworkTailorModel", name := "objectCount", desc := "()I" } : Jvm.MethodName) ({ cls := "ClockworkTailorModel", name := "objectCount", desc := "()I" } : Jvm.MethodName)) ∈ lw_all := lw_g (lw_at lw_m10 109 rfl) rfl
theorem q2363 : (Jvm.Cond.code ({ cls := "ClockworkTailorModel", name := "objectCount", desc := "()I" } : Jvm.MethodName) prog_12_method_69_code (1 : Nat) (Option.some Jvm.ClassFile.FieldType.int)) ∈ lw_all := lw_g (lw_at lw_m10 110 rfl) rfl
theorem q2365 : (Jvm.Cond.instanceMethod ({ cls := "ClockworkTailorModel", name := "isThere", desc := "(I)Z" } : Jvm.MethodName)) ∈ lw_all := lw_g (lw_at lw_m10 112 rfl) rfl
theorem q2366 : (Jvm.Cond.selects "ClockworkTailorModel" ({ cls := "ClockworkTailorModel", name := "isThere", desc := "(I)Z" } : Jvm.MethodName) ({ cls := "ClockworkTailorModel", name := "isThere", desc := "(I)Z" } : Jvm.MethodName)) ∈ lw_all := lw_g (lw_at lw_m10 113 rfl) rfl
theorem q2367 : (Jvm.Cond.code ({ cls := "ClockworkTailorModel", name := "isThere", desc := "(I)Z" } : Jvm.MethodName) prog_12_method_70_code (2 : Nat) (Option.some Jvm.ClassFile.FieldType.boolean)) ∈ lw_all := lw_g (lw_at lw_m10 114 rfl) rfl
theorem q2369 : (Jvm.Cond.instanceMethod ({ cls := "ClockworkTailorModel", name := "toolOf", desc := "(I)C" } : Jvm.MethodName)) ∈ lw_all := lw_g (lw_at lw_m10 116 rfl) rfl
theorem q2370 : (Jvm.Cond.selects "ClockworkTailorModel" ({ cls := "ClockworkTailorModel", name := "toolOf", desc := "(I)C" } : Jvm.MethodName) ({ cls := "ClockworkTailorModel", name := "toolOf", desc := "(I)C" } : Jvm.MethodName)) ∈ lw_all := lw_g (lw_at lw_m10 117 rfl) rfl
theorem q2371 : (Jvm.Cond.code ({ cls := "ClockworkTailorModel", name := "toolOf", desc := "(I)C" } : Jvm.MethodName) prog_12_method_71_code (2 : Nat) (Option.some Jvm.ClassFile.FieldType.char)) ∈ lw_all := lw_g (lw_at lw_m10 118 rfl) rfl
theorem q2373 : (Jvm.Cond.instanceMethod ({ cls := "ClockworkTailorModel", name := "threadOf", desc := "(I)I" } : Jvm.MethodName)) ∈ lw_all := lw_g (lw_at lw_m10 120 rfl) rfl
theorem q2374 : (Jvm.Cond.selects "ClockworkTailorModel" ({ cls := "ClockworkTailorModel", name := "threadOf", desc := "(I)I" } : Jvm.MethodName) ({ cls := "ClockworkTailorModel", name := "threadOf", desc := "(I)I" } : Jvm.MethodName)) ∈ lw_all := lw_g (lw_at lw_m10 121 rfl) rfl
theorem q2375 : (Jvm.Cond.code ({ cls := "ClockworkTailorModel", name := "threadOf", desc := "(I)I" } : Jvm.MethodName) prog_12_method_72_code (2 : Nat) (Option.some Jvm.ClassFile.FieldType.int)) ∈ lw_all := lw_g (lw_at lw_m10 122 rfl) rfl
theorem q2377 : (Jvm.Cond.instanceMethod ({ cls := "ClockworkTailorModel", name := "filledBy", desc := "(II)I" } : Jvm.MethodName)) ∈ lw_all := lw_g (lw_at lw_m10 124 rfl) rfl
theorem q2378 : (Jvm.Cond.selects "ClockworkTailorModel" ({ cls := "ClockworkTailorModel", name := "filledBy", desc := "(II)I" } : Jvm.MethodName) ({ cls := "ClockworkTailorModel", name := "filledBy", desc := "(II)I" } : Jvm.MethodName)) ∈ lw_all := lw_g (lw_at lw_m10 125 rfl) rfl
theorem q2379 : (Jvm.Cond.code ({ cls := "ClockworkTailorModel", name := "filledBy", desc := "(II)I" } : Jvm.MethodName) prog_12_method_73_code (3 : Nat) (Option.some Jvm.ClassFile.FieldType.int)) ∈ lw_all := lw_g (lw_at lw_m10 126 rfl) rfl
theorem q2381 : (Jvm.Cond.instanceMethod ({ cls := "ClockworkTailorModel", name := "danglers", desc := "()I" } : Jvm.MethodName)) ∈ lw_all := lw_g (lw_at lw_m10 128 rfl) rfl
theorem q2382 : (Jvm.Cond.selects "ClockworkTailorModel" ({ cls := "ClockworkTailorModel", name := "danglers", desc := "()I" } : Jvm.MethodName) ({ cls := "ClockworkTailorModel", name := "danglers", desc := "()I" } : Jvm.MethodName)) ∈ lw_all := lw_g (lw_at lw_m10 129 rfl) rfl
theorem q2383 : (Jvm.Cond.code ({ cls := "ClockworkTailorModel", name := "danglers", desc := "()I" } : Jvm.MethodName) prog_12_method_74_code (5 : Nat) (Option.some Jvm.ClassFile.FieldType.int)) ∈ lw_all := lw_g (lw_at lw_m10 130 rfl) rfl
theorem q2385 : (Jvm.Cond.instanceMethod ({ cls := "ClockworkTailorModel", name := "gotCount", desc := "()I" } : Jvm.MethodName)) ∈ lw_all := lw_g (lw_at lw_m10 132 rfl) rfl
theorem q2386 : (Jvm.Cond.selects "ClockworkTailorModel" ({ cls := "ClockworkTailorModel", name := "gotCount", desc := "()I" } : Jvm.MethodName) ({ cls := "ClockworkTailorModel", name := "gotCount", desc := "()I" } : Jvm.MethodName)) ∈ lw_all := lw_g (lw_at lw_m10 133 rfl) rfl
theorem q2387 : (Jvm.Cond.code ({ cls := "ClockworkTailorModel", name := "gotCount", desc := "()I" } : Jvm.MethodName) prog_12_method_75_code (1 : Nat) (Option.some Jvm.ClassFile.FieldType.int)) ∈ lw_all := lw_g (lw_at lw_m10 134 rfl) rfl
theorem q2389 : (Jvm.Cond.instanceMethod ({ cls := "ClockworkTailorModel", name := "reusedCount", desc := "()I" } : Jvm.MethodName)) ∈ lw_all := lw_g (lw_at lw_m10 136 rfl) rfl
theorem q2390 : (Jvm.Cond.selects "ClockworkTailorModel" ({ cls := "ClockworkTailorModel", name := "reusedCount", desc := "()I" } : Jvm.MethodName) ({ cls := "ClockworkTailorModel", name := "reusedCount", desc := "()I" } : Jvm.MethodName)) ∈ lw_all := lw_g (lw_at lw_m10 137 rfl) rfl
theorem q2391 : (Jvm.Cond.code ({ cls := "ClockworkTailorModel", name := "reusedCount", desc := "()I" } : Jvm.MethodName) prog_12_method_76_code (1 : Nat) (Option.some Jvm.ClassFile.FieldType.int)) ∈ lw_all := lw_g (lw_at lw_m10 138 rfl) rfl
theorem q2393 : (Jvm.Cond.instanceMethod ({ cls := "ClockworkTailorModel", name := "minutesSpent", desc := "()J" } : Jvm.MethodName)) ∈ lw_all := lw_g (lw_at lw_m10 140 rfl) rfl
theorem q2394 : (Jvm.Cond.selects "ClockworkTailorModel" ({ cls := "ClockworkTailorModel", name := "minutesSpent", desc := "()J" } : Jvm.MethodName) ({ cls := "ClockworkTailorModel", name := "minutesSpent", desc := "()J" } : Jvm.MethodName)) ∈ lw_all := lw_g (lw_at lw_m10 141 rfl) rfl
theorem q2395 : (Jvm.Cond.code ({ cls := "ClockworkTailorModel", name := "minutesSpent", desc := "()J" } : Jvm.MethodName) prog_12_method_77_code (1 : Nat) (Option.some Jvm.ClassFile.FieldType.long)) ∈ lw_all := lw_g (lw_at lw_m10 142 rfl) rfl
theorem q2397 : (Jvm.Cond.instanceMethod ({ cls := "ClockworkTailorModel", name := "meanMinutes", desc := "()D" } : Jvm.MethodName)) ∈ lw_all := lw_g (lw_at lw_m10 144 rfl) rfl
theorem q2398 : (Jvm.Cond.selects "ClockworkTailorModel" ({ cls := "ClockworkTailorModel", name := "meanMinutes", desc := "()D" } : Jvm.MethodName) ({ cls := "ClockworkTailorModel", name := "meanMinutes", desc := "()D" } : Jvm.MethodName)) ∈ lw_all := lw_g (lw_at lw_m10 145 rfl) rfl
theorem q2399 : (Jvm.Cond.code ({ cls := "ClockworkTailorModel", name := "meanMinutes", desc := "()D" } : Jvm.MethodName) prog_12_method_78_code (3 : Nat) (Option.some Jvm.ClassFile.FieldType.double)) ∈ lw_all := lw_g (lw_at lw_m10 146 rfl) rfl
theorem q2401 : (Jvm.Cond.instanceMethod ({ cls := "ClockworkTailorModel", name := "reuseShare", desc := "()F" } : Jvm.MethodName)) ∈ lw_all := lw_g (lw_at lw_m10 148 rfl) rfl
theorem q2402 : (Jvm.Cond.selects "ClockworkTailorModel" ({ cls := "ClockworkTailorModel", name := "reuseShare", desc := "()F" } : Jvm.MethodName) ({ cls := "ClockworkTailorModel", name := "reuseShare", desc := "()F" } : Jvm.MethodName)) ∈ lw_all := lw_g (lw_at lw_m10 149 rfl) rfl
theorem q2403 : (Jvm.Cond.code ({ cls := "ClockworkTailorModel", name := "reuseShare", desc := "()F" } : Jvm.MethodName) prog_12_method_79_code (1 : Nat) (Option.some Jvm.ClassFile.FieldType.float)) ∈ lw_all := lw_g (lw_at lw_m10 150 rfl) rfl
theorem q2405 : (Jvm.Cond.instanceMethod ({ cls := "ClockworkTailorModel", name := "refusalReason", desc := "()I" } : Jvm.MethodName)) ∈ lw_all := lw_g (lw_at lw_m10 152 rfl) rfl
theorem q2406 : (Jvm.Cond.selects "ClockworkTailorModel" ({ cls := "ClockworkTailorModel", name := "refusalReason", desc := "()I" } : Jvm.MethodName) ({ cls := "ClockworkTailorModel", name := "refusalReason", desc := "()I" } : Jvm.MethodName)) ∈ lw_all := lw_g (lw_at lw_m10 153 rfl) rfl
theorem q2407 : (Jvm.Cond.code ({ cls := "ClockworkTailorModel", name := "refusalReason", desc := "()I" } : Jvm.MethodName) prog_12_method_80_code (1 : Nat) (Option.some Jvm.ClassFile.FieldType.int)) ∈ lw_all := lw_g (lw_at lw_m10 154 rfl) rfl
theorem q2409 : (Jvm.Cond.instanceMethod ({ cls := "ClockworkTailorModel", name := "refusalDetail", desc := "()I" } : Jvm.MethodName)) ∈ lw_all := lw_g (lw_at lw_m10 156 rfl) rfl
theorem q2410 : (Jvm.Cond.selects "ClockworkTailorModel" ({ cls := "ClockworkTailorModel", name := "refusalDetail", desc := "()I" } : Jvm.MethodName) ({ cls := "ClockworkTailorModel", name := "refusalDetail", desc := "()I" } : Jvm.MethodName)) ∈ lw_all := lw_g (lw_at lw_m10 157 rfl) rfl
theorem q2411 : (Jvm.Cond.code ({ cls := "ClockworkTailorModel", name := "refusalDetail", desc := "()I" } : Jvm.MethodName) prog_12_method_81_code (1 : Nat) (Option.some Jvm.ClassFile.FieldType.int)) ∈ lw_all := lw_g (lw_at lw_m10 158 rfl) rfl
theorem q2413 : (Jvm.Cond.instanceMethod ({ cls := "ClockworkTailorModel", name := "refusalCause", desc := "()I" } : Jvm.MethodName)) ∈ lw_all := lw_g (lw_at lw_m10 160 rfl) rfl
theorem q2414 : (Jvm.Cond.selects "ClockworkTailorModel" ({ cls := "ClockworkTailorModel", name := "refusalCause", desc := "()I" } : Jvm.MethodName) ({ cls := "ClockworkTailorModel", name := "refusalCause", desc := "()I" } : Jvm.MethodName)) ∈ lw_all := lw_g (lw_at lw_m10 161 rfl) rfl
theorem q2415 : (Jvm.Cond.code ({ cls := "ClockworkTailorModel", name := "refusalCause", desc := "()I" } : Jvm.MethodName) prog_12_method_82_code (1 : Nat) (Option.some Jvm.ClassFile.FieldType.int)) ∈ lw_all := lw_g (lw_at lw_m10 162 rfl) rfl
theorem q2417 : (Jvm.Cond.instanceMethod ({ cls := "ClockworkTailorModel", name := "writeRecipe", desc := "(C)I" } : Jvm.MethodName)) ∈ lw_all := lw_g (lw_at lw_m10 164 rfl) rfl
theorem q2418 : (Jvm.Cond.selects "ClockworkTailorModel" ({ cls := "ClockworkTailorModel", name := "writeRecipe", desc := "(C)I" } : Jvm.MethodName) ({ cls := "ClockworkTailorModel", name := "writeRecipe", desc := "(C)I" } : Jvm.MethodName)) ∈ lw_all := lw_g (lw_at lw_m10 165 rfl) rfl
theorem q2419 : (Jvm.Cond.code ({ cls := "ClockworkTailorModel", name := "writeRecipe", desc := "(C)I" } : Jvm.MethodName) prog_12_method_85_code (4 : Nat) (Option.some Jvm.ClassFile.FieldType.int)) ∈ lw_all := lw_g (lw_at lw_m10 166 rfl) rfl
theorem q2420 : (Jvm.Cond.methodLink "ClockworkTailorModel" (203 : Nat) ({ cls := "ClockworkTailorModel", name := "writes", desc := "(I)V" } : Jvm.MethodName)) ∈ lw_all := lw_g (lw_at lw_m10 167 rfl) rfl
theorem q2421 : (Jvm.Cond.privateMethod ({ cls := "ClockworkTailorModel", name := "writes", desc := "(I)V" } : Jvm.MethodName)) ∈ lw_tbl := lw_at lw_m10 168 rfl
theorem q2422 : (Jvm.Cond.instanceMethod ({ cls := "ClockworkTailorModel", name := "writes", desc := "(I)V" } : Jvm.MethodName)) ∈ lw_all := lw_g (lw_at lw_m10 169 rfl) rfl
theorem q2423 : (Jvm.Cond.code ({ cls := "ClockworkTailorModel", name := "writes", desc := "(I)V" } : Jvm.MethodName) prog_12_method_83_code (2 : Nat) (Option.none : Option Jvm.ClassFile.FieldType)) ∈ lw_all := lw_g (lw_at lw_m10 170 rfl) rfl
theorem q2424 : (Jvm.Cond.methodLink "ClockworkTailorModel" (199 : Nat) ({ cls := "ClockworkTailorModel", name := "writesNumber", desc := "(I)V" } : Jvm.MethodName)) ∈ lw_all := lw_g (lw_at lw_m10 171 rfl) rfl
theorem q2425 : (Jvm.Cond.privateMethod ({ cls := "ClockworkTailorModel", name := "writesNumber", desc := "(I)V" } : Jvm.MethodName)) ∈ lw_tbl := lw_at lw_m10 172 rfl
theorem q2426 : (Jvm.Cond.instanceMethod ({ cls := "ClockworkTailorModel", name := "writesNumber", desc := "(I)V" } : Jvm.MethodName)) ∈ lw_all := lw_g (lw_at lw_m10 173 rfl) rfl
theorem q2427 : (Jvm.Cond.code ({ cls := "ClockworkTailorModel", name := "writesNumber", desc := "(I)V" } : Jvm.MethodName) prog_12_method_84_code (2 : Nat) (Option.none : Option Jvm.ClassFile.FieldType)) ∈ lw_all := lw_g (lw_at lw_m10 174 rfl) rfl
theorem q2429 : (Jvm.Cond.instanceMethod ({ cls := "ClockworkTailorModel", name := "writeObject", desc := "(I)I" } : Jvm.MethodName)) ∈ lw_all := lw_g (lw_at lw_m10 176 rfl) rfl
theorem q2430 : (Jvm.Cond.selects "ClockworkTailorModel" ({ cls := "ClockworkTailorModel", name := "writeObject", desc := "(I)I" } : Jvm.MethodName) ({ cls := "ClockworkTailorModel", name := "writeObject", desc := "(I)I" } : Jvm.MethodName)) ∈ lw_all := lw_g (lw_at lw_m10 177 rfl) rfl
theorem q2431 : (Jvm.Cond.code ({ cls := "ClockworkTailorModel", name := "writeObject", desc := "(I)I" } : Jvm.MethodName) prog_12_method_86_code (3 : Nat) (Option.some Jvm.ClassFile.FieldType.int)) ∈ lw_all := lw_g (lw_at lw_m10 178 rfl) rfl
theorem q2433 : (Jvm.Cond.instanceMethod ({ cls := "ClockworkTailorModel", name := "lineAt", desc := "(I)C" } : Jvm.MethodName)) ∈ lw_all := lw_g (lw_at lw_m10 180 rfl) rfl
theorem q2434 : (Jvm.Cond.selects "ClockworkTailorModel" ({ cls := "ClockworkTailorModel", name := "lineAt", desc := "(I)C" } : Jvm.MethodName) ({ cls := "ClockworkTailorModel", name := "lineAt", desc := "(I)C" } : Jvm.MethodName)) ∈ lw_all := lw_g (lw_at lw_m10 181 rfl) rfl
theorem q2435 : (Jvm.Cond.code ({ cls := "ClockworkTailorModel", name := "lineAt", desc := "(I)C" } : Jvm.MethodName) prog_12_method_87_code (2 : Nat) (Option.some Jvm.ClassFile.FieldType.char)) ∈ lw_all := lw_g (lw_at lw_m10 182 rfl) rfl
theorem q2437 : (Jvm.Cond.instanceMethod ({ cls := "ClockworkTailorModel", name := "isConsistent", desc := "()Z" } : Jvm.MethodName)) ∈ lw_all := lw_g (lw_at lw_m10 184 rfl) rfl
theorem q2438 : (Jvm.Cond.selects "ClockworkTailorModel" ({ cls := "ClockworkTailorModel", name := "isConsistent", desc := "()Z" } : Jvm.MethodName) ({ cls := "ClockworkTailorModel", name := "isConsistent", desc := "()Z" } : Jvm.MethodName)) ∈ lw_all := lw_g (lw_at lw_m10 185 rfl) rfl
theorem q2439 : (Jvm.Cond.code ({ cls := "ClockworkTailorModel", name := "isConsistent", desc := "()Z" } : Jvm.MethodName) prog_12_method_88_code (1 : Nat) (Option.some Jvm.ClassFile.FieldType.boolean)) ∈ lw_all := lw_g (lw_at lw_m10 186 rfl) rfl
theorem q2441 : (Jvm.Cond.instanceMethod ({ cls := "ClockworkTailorModel", name := "type", desc := "(C)I" } : Jvm.MethodName)) ∈ lw_all := lw_g (lw_at lw_m10 188 rfl) rfl
theorem q2442 : (Jvm.Cond.selects "ClockworkTailorModel" ({ cls := "ClockworkTailorModel", name := "type", desc := "(C)I" } : Jvm.MethodName) ({ cls := "ClockworkTailorModel", name := "type", desc := "(C)I" } : Jvm.MethodName)) ∈ lw_all := lw_g (lw_at lw_m10 189 rfl) rfl
theorem q2443 : (Jvm.Cond.code ({ cls := "ClockworkTailorModel", name := "type", desc := "(C)I" } : Jvm.MethodName) prog_12_method_89_code (2 : Nat) (Option.some Jvm.ClassFile.FieldType.int)) ∈ lw_all := lw_g (lw_at lw_m10 190 rfl) rfl
theorem q2445 : (Jvm.Cond.instanceMethod ({ cls := "ClockworkTailorModel", name := "execute", desc := "()I" } : Jvm.MethodName)) ∈ lw_all := lw_g (lw_at lw_m10 192 rfl) rfl
theorem q2446 : (Jvm.Cond.selects "ClockworkTailorModel" ({ cls := "ClockworkTailorModel", name := "execute", desc := "()I" } : Jvm.MethodName) ({ cls := "ClockworkTailorModel", name := "execute", desc := "()I" } : Jvm.MethodName)) ∈ lw_all := lw_g (lw_at lw_m10 193 rfl) rfl
theorem q2447 : (Jvm.Cond.code ({ cls := "ClockworkTailorModel", name := "execute", desc := "()I" } : Jvm.MethodName) prog_12_method_101_code (4 : Nat) (Option.some Jvm.ClassFile.FieldType.int)) ∈ lw_all := lw_g (lw_at lw_m10 194 rfl) rfl
theorem q2448 : (Jvm.Cond.methodLink "ClockworkTailorModel" (306 : Nat) ({ cls := "ClockworkTailorModel", name := "isText", desc := "()Z" } : Jvm.MethodName)) ∈ lw_all := lw_g (lw_at lw_m10 195 rfl) rfl
theorem q2449 : (Jvm.Cond.privateMethod ({ cls := "ClockworkTailorModel", name := "isText", desc := "()Z" } : Jvm.MethodName)) ∈ lw_tbl := lw_at lw_m10 196 rfl
theorem q2450 : (Jvm.Cond.instanceMethod ({ cls := "ClockworkTailorModel", name := "isText", desc := "()Z" } : Jvm.MethodName)) ∈ lw_all := lw_g (lw_at lw_m10 197 rfl) rfl
theorem q2451 : (Jvm.Cond.code ({ cls := "ClockworkTailorModel", name := "isText", desc := "()Z" } : Jvm.MethodName) prog_12_method_98_code (1 : Nat) (Option.some Jvm.ClassFile.FieldType.boolean)) ∈ lw_all := lw_g (lw_at lw_m10 198 rfl) rfl
theorem q2452 : (Jvm.Cond.methodLink "ClockworkTailorModel" (266 : Nat) ({ cls := "ClockworkTailorModel", name := "commandHere", desc := "()Z" } : Jvm.MethodName)) ∈ lw_all := lw_g (lw_at lw_m10 199 rfl) rfl
theorem q2453 : (Jvm.Cond.privateMethod ({ cls := "ClockworkTailorModel", name := "commandHere", desc := "()Z" } : Jvm.MethodName)) ∈ lw_tbl := lw_at lw_m10 200 rfl
theorem q2454 : (Jvm.Cond.instanceMethod ({ cls := "ClockworkTailorModel", name := "commandHere", desc := "()Z" } : Jvm.MethodName)) ∈ lw_all := lw_g (lw_at lw_m10 201 rfl) rfl
theorem q2455 : (Jvm.Cond.code ({ cls := "ClockworkTailorModel", name := "commandHere", desc := "()Z" } : Jvm.MethodName) prog_12_method_97_code (2 : Nat) (Option.some Jvm.ClassFile.FieldType.boolean)) ∈ lw_all := lw_g (lw_at lw_m10 202 rfl) rfl
theorem q2456 : (Jvm.Cond.methodLink "ClockworkTailorModel" (225 : Nat) ({ cls := "ClockworkTailorModel", name := "skips", desc := "(I)Z" } : Jvm.MethodName)) ∈ lw_all := lw_g (lw_at lw_m10 203 rfl) rfl
theorem q2457 : (Jvm.Cond.privateMethod ({ cls := "ClockworkTailorModel", name := "skips", desc := "(I)Z" } : Jvm.MethodName)) ∈ lw_tbl := lw_at lw_m10 204 rfl
theorem q2458 : (Jvm.Cond.instanceMethod ({ cls := "ClockworkTailorModel", name := "skips", desc := "(I)Z" } : Jvm.MethodName)) ∈ lw_all := lw_g (lw_at lw_m10 205 rfl) rfl
theorem q2459 : (Jvm.Cond.code ({ cls := "ClockworkTailorModel", name := "skips", desc := "(I)Z" } : Jvm.MethodName) prog_12_method_91_code (2 : Nat) (Option.some Jvm.ClassFile.FieldType.boolean)) ∈ lw_all := lw_g (lw_at lw_m10 206 rfl) rfl
theorem q2460 : (Jvm.Cond.methodLink "ClockworkTailorModel" (212 : Nat) ({ cls := "ClockworkTailorModel", name := "here", desc := "()I" } : Jvm.MethodName)) ∈ lw_all := lw_g (lw_at lw_m10 207 rfl) rfl
theorem q2461 : (Jvm.Cond.privateMethod ({ cls := "ClockworkTailorModel", name := "here", desc := "()I" } : Jvm.MethodName)) ∈ lw_tbl := lw_at lw_m10 208 rfl
theorem q2462 : (Jvm.Cond.instanceMethod ({ cls := "ClockworkTailorModel", name := "here", desc := "()I" } : Jvm.MethodName)) ∈ lw_all := lw_g (lw_at lw_m10 209 rfl) rfl
theorem q2463 : (Jvm.Cond.code ({ cls := "ClockworkTailorModel", name := "here", desc := "()I" } : Jvm.MethodName) prog_12_method_90_code (1 : Nat) (Option.some Jvm.ClassFile.FieldType.int)) ∈ lw_all := lw_g (lw_at lw_m10 210 rfl) rfl
theorem q2464 : (Jvm.Cond.stringRef "ClockworkTailorModel" (231 : Nat) "ecipe") ∈ lw_tbl := lw_at lw_m10 211 rfl
theorem q2465 : (Jvm.Cond.methodLink "ClockworkTailorModel" (233 : Nat) ({ cls := "ClockworkTailorModel", name := "isWord", desc := "(ILjava/lang/String;)Z" } : Jvm.MethodName)) ∈ lw_all := lw_g (lw_at lw_m10 212 rfl) rfl
theorem q2466 : (Jvm.Cond.privateMethod ({ cls := "ClockworkTailorModel", name := "isWord", desc := "(ILjava/lang/String;)Z" } : Jvm.MethodName)) ∈ lw_tbl := lw_at lw_m10 213 rfl
theorem q2467 : (Jvm.Cond.instanceMethod ({ cls := "ClockworkTailorModel", name := "isWord", desc := "(ILjava/lang/String;)Z" } : Jvm.MethodName)) ∈ lw_all := lw_g (lw_at lw_m10 214 rfl) rfl
theorem q2468 : (Jvm.Cond.code ({ cls := "ClockworkTailorModel", name := "isWord", desc := "(ILjava/lang/String;)Z" } : Jvm.MethodName) prog_12_method_92_code (4 : Nat) (Option.some Jvm.ClassFile.FieldType.boolean)) ∈ lw_all := lw_g (lw_at lw_m10 215 rfl) rfl
theorem q2469 : (Jvm.Cond.methodLink "ClockworkTailorModel" (218 : Nat) ({ cls := "java/lang/String", name := "length", desc := "()I" } : Jvm.MethodName)) ∈ lw_all := lw_g (lw_at lw_m10 216 rfl) rfl
theorem q2470 : (Jvm.Cond.methodLink "ClockworkTailorModel" (222 : Nat) ({ cls := "java/lang/String", name := "charAt", desc := "(I)C" } : Jvm.MethodName)) ∈ lw_all := lw_g (lw_at lw_m10 217 rfl) rfl
theorem q2471 : (Jvm.Cond.methodLink "ClockworkTailorModel" (228 : Nat) ({ cls := "ClockworkTailorModel", name := "toolHere", desc := "(I)Z" } : Jvm.MethodName)) ∈ lw_all := lw_g (lw_at lw_m10 218 rfl) rfl
theorem q2472 : (Jvm.Cond.privateMethod ({ cls := "ClockworkTailorModel", name := "toolHere", desc := "(I)Z" } : Jvm.MethodName)) ∈ lw_tbl := lw_at lw_m10 219 rfl
theorem q2473 : (Jvm.Cond.instanceMethod ({ cls := "ClockworkTailorModel", name := "toolHere", desc := "(I)Z" } : Jvm.MethodName)) ∈ lw_all := lw_g (lw_at lw_m10 220 rfl) rfl
theorem q2474 : (Jvm.Cond.code ({ cls := "ClockworkTailorModel", name := "toolHere", desc := "(I)Z" } : Jvm.MethodName) prog_12_method_93_code (2 : Nat) (Option.some Jvm.ClassFile.FieldType.boolean)) ∈ lw_all := lw_g (lw_at lw_m10 221 rfl) rfl
theorem q2475 : (Jvm.Cond.methodLink "ClockworkTailorModel" (237 : Nat) ({ cls := "ClockworkTailorModel", name := "scopeHere", desc := "(I)Z" } : Jvm.MethodName)) ∈ lw_all := lw_g (lw_at lw_m10 222 rfl) rfl
theorem q2476 : (Jvm.Cond.privateMethod ({ cls := "ClockworkTailorModel", name := "scopeHere", desc := "(I)Z" } : Jvm.MethodName)) ∈ lw_tbl := lw_at lw_m10 223 rfl
theorem q2477 : (Jvm.Cond.instanceMethod ({ cls := "ClockworkTailorModel", name := "scopeHere", desc := "(I)Z" } : Jvm.MethodName)) ∈ lw_all := lw_g (lw_at lw_m10 224 rfl) rfl
theorem q2478 : (Jvm.Cond.code ({ cls := "ClockworkTailorModel", name := "scopeHere", desc := "(I)Z" } : Jvm.MethodName) prog_12_method_94_code (2 : Nat) (Option.some Jvm.ClassFile.FieldType.boolean)) ∈ lw_all := lw_g (lw_at lw_m10 225 rfl) rfl
theorem q2479 : (Jvm.Cond.methodLink "ClockworkTailorModel" (240 : Nat) ({ cls := "ClockworkTailorModel", name := "figures", desc := "(II)Z" } : Jvm.MethodName)) ∈ lw_all := lw_g (lw_at lw_m10 226 rfl) rfl
theorem q2480 : (Jvm.Cond.privateMethod ({ cls := "ClockworkTailorModel", name := "figures", desc := "(II)Z" } : Jvm.MethodName)) ∈ lw_tbl := lw_at lw_m10 227 rfl
theorem q2481 : (Jvm.Cond.instanceMethod ({ cls := "ClockworkTailorModel", name := "figures", desc := "(II)Z" } : Jvm.MethodName)) ∈ lw_all := lw_g (lw_at lw_m10 228 rfl) rfl
theorem q2482 : (Jvm.Cond.code ({ cls := "ClockworkTailorModel", name := "figures", desc := "(II)Z" } : Jvm.MethodName) prog_12_method_95_code (4 : Nat) (Option.some Jvm.ClassFile.FieldType.boolean)) ∈ lw_all := lw_g (lw_at lw_m10 229 rfl) rfl
theorem q2483 : (Jvm.Cond.stringRef "ClockworkTailorModel" (243 : Nat) "rop") ∈ lw_tbl := lw_at lw_m10 230 rfl
theorem q2484 : (Jvm.Cond.stringRef "ClockworkTailorModel" (245 : Nat) "eed") ∈ lw_tbl := lw_at lw_m10 231 rfl
theorem q2485 : (Jvm.Cond.methodLink "ClockworkTailorModel" (247 : Nat) ({ cls := "ClockworkTailorModel", name := "toolsHere", desc := "(I)Z" } : Jvm.MethodName)) ∈ lw_all := lw_g (lw_at lw_m10 232 rfl) rfl
theorem q2486 : (Jvm.Cond.privateMethod ({ cls := "ClockworkTailorModel", name := "toolsHere", desc := "(I)Z" } : Jvm.MethodName)) ∈ lw_tbl := lw_at lw_m10 233 rfl
theorem q2487 : (Jvm.Cond.instanceMethod ({ cls := "ClockworkTailorModel", name := "toolsHere", desc := "(I)Z" } : Jvm.MethodName)) ∈ lw_all := lw_g (lw_at lw_m10 234 rfl) rfl
theorem q2488 : (Jvm.Cond.code ({ cls := "ClockworkTailorModel", name := "toolsHere", desc := "(I)Z" } : Jvm.MethodName) prog_12_method_96_code (2 : Nat) (Option.some Jvm.ClassFile.FieldType.boolean)) ∈ lw_all := lw_g (lw_at lw_m10 235 rfl) rfl
theorem q2489 : (Jvm.Cond.stringRef "ClockworkTailorModel" (250 : Nat) "azy") ∈ lw_tbl := lw_at lw_m10 236 rfl
theorem q2490 : (Jvm.Cond.stringRef "ClockworkTailorModel" (252 : Nat) "t") ∈ lw_tbl := lw_at lw_m10 237 rfl
theorem q2491 : (Jvm.Cond.stringRef "ClockworkTailorModel" (254 : Nat) "lose") ∈ lw_tbl := lw_at lw_m10 238 rfl
theorem q2492 : (Jvm.Cond.stringRef "ClockworkTailorModel" (256 : Nat) "wap") ∈ lw_tbl := lw_at lw_m10 239 rfl
theorem q2493 : (Jvm.Cond.stringRef "ClockworkTailorModel" (258 : Nat) "ack") ∈ lw_tbl := lw_at lw_m11 0 rfl
theorem q2494 : (Jvm.Cond.stringRef "ClockworkTailorModel" (260 : Nat) "pen") ∈ lw_tbl := lw_at lw_m11 1 rfl
theorem q2495 : (Jvm.Cond.stringRef "ClockworkTailorModel" (262 : Nat) "ake") ∈ lw_tbl := lw_at lw_m11 2 rfl
theorem q2496 : (Jvm.Cond.stringRef "ClockworkTailorModel" (264 : Nat) "ouch") ∈ lw_tbl := lw_at lw_m11 3 rfl
theorem q2497 : (Jvm.Cond.methodLink "ClockworkTailorModel" (309 : Nat) ({ cls := "ClockworkTailorModel", name := "does", desc := "(I)I" } : Jvm.MethodName)) ∈ lw_all := lw_g (lw_at lw_m11 4 rfl) rfl
theorem q2498 : (Jvm.Cond.privateMethod ({ cls := "ClockworkTailorModel", name := "does", desc := "(I)I" } : Jvm.MethodName)) ∈ lw_tbl := lw_at lw_m11 5 rfl
theorem q2499 : (Jvm.Cond.instanceMethod ({ cls := "ClockworkTailorModel", name := "does", desc := "(I)I" } : Jvm.MethodName)) ∈ lw_all := lw_g (lw_at lw_m11 6 rfl) rfl
theorem q2500 : (Jvm.Cond.code ({ cls := "ClockworkTailorModel", name := "does", desc := "(I)I" } : Jvm.MethodName) prog_12_method_99_code (4 : Nat) (Option.some Jvm.ClassFile.FieldType.int)) ∈ lw_all := lw_g (lw_at lw_m11 7 rfl) rfl
theorem q2501 : (Jvm.Cond.methodLink "ClockworkTailorModel" (270 : Nat) ({ cls := "ClockworkTailorModel", name := "define", desc := "(CCI)I" } : Jvm.MethodName)) ∈ lw_all := lw_g (lw_at lw_m11 8 rfl) rfl
theorem q2502 : (Jvm.Cond.methodLink "ClockworkTailorModel" (274 : Nat) ({ cls := "ClockworkTailorModel", name := "dropRecipe", desc := "(C)I" } : Jvm.MethodName)) ∈ lw_all := lw_g (lw_at lw_m11 9 rfl) rfl
theorem q2503 : (Jvm.Cond.methodLink "ClockworkTailorModel" (278 : Nat) ({ cls := "ClockworkTailorModel", name := "addNeed", desc := "(CCZ)I" } : Jvm.MethodName)) ∈ lw_all := lw_g (lw_at lw_m11 10 rfl) rfl
theorem q2504 : (Jvm.Cond.methodLink "ClockworkTailorModel" (282 : Nat) ({ cls := "ClockworkTailorModel", name := "removeNeed", desc := "(CC)I" } : Jvm.MethodName)) ∈ lw_all := lw_g (lw_at lw_m11 11 rfl) rfl
theorem q2505 : (Jvm.Cond.methodLink "ClockworkTailorModel" (286 : Nat) ({ cls := "ClockworkTailorModel", name := "replace", desc := "(CC)I" } : Jvm.MethodName)) ∈ lw_all := lw_g (lw_at lw_m11 12 rfl) rfl
theorem q2506 : (Jvm.Cond.methodLink "ClockworkTailorModel" (289 : Nat) ({ cls := "ClockworkTailorModel", name := "putBack", desc := "(C)C" } : Jvm.MethodName)) ∈ lw_all := lw_g (lw_at lw_m11 13 rfl) rfl
theorem q2507 : (Jvm.Cond.methodLink "ClockworkTailorModel" (293 : Nat) ({ cls := "ClockworkTailorModel", name := "openThread", desc := "()I" } : Jvm.MethodName)) ∈ lw_all := lw_g (lw_at lw_m11 14 rfl) rfl
theorem q2508 : (Jvm.Cond.methodLink "ClockworkTailorModel" (296 : Nat) ({ cls := "ClockworkTailorModel", name := "closeThread", desc := "(I)I" } : Jvm.MethodName)) ∈ lw_all := lw_g (lw_at lw_m11 15 rfl) rfl
theorem q2509 : (Jvm.Cond.methodLink "ClockworkTailorModel" (299 : Nat) ({ cls := "ClockworkTailorModel", name := "make", desc := "(CI)I" } : Jvm.MethodName)) ∈ lw_all := lw_g (lw_at lw_m11 16 rfl) rfl
theorem q2510 : (Jvm.Cond.methodLink "ClockworkTailorModel" (303 : Nat) ({ cls := "ClockworkTailorModel", name := "touch", desc := "(III)I" } : Jvm.MethodName)) ∈ lw_all := lw_g (lw_at lw_m11 17 rfl) rfl
theorem q2511 : (Jvm.Cond.methodLink "ClockworkTailorModel" (312 : Nat) ({ cls := "ClockworkTailorModel", name := "refusesText", desc := "(I)I" } : Jvm.MethodName)) ∈ lw_all := lw_g (lw_at lw_m11 18 rfl) rfl
theorem q2512 : (Jvm.Cond.privateMethod ({ cls := "ClockworkTailorModel", name := "refusesText", desc := "(I)I" } : Jvm.MethodName)) ∈ lw_tbl := lw_at lw_m11 19 rfl
theorem q2513 : (Jvm.Cond.instanceMethod ({ cls := "ClockworkTailorModel", name := "refusesText", desc := "(I)I" } : Jvm.MethodName)) ∈ lw_all := lw_g (lw_at lw_m11 20 rfl) rfl
theorem q2514 : (Jvm.Cond.code ({ cls := "ClockworkTailorModel", name := "refusesText", desc := "(I)I" } : Jvm.MethodName) prog_12_method_100_code (3 : Nat) (Option.some Jvm.ClassFile.FieldType.int)) ∈ lw_all := lw_g (lw_at lw_m11 21 rfl) rfl
theorem q2516 : (Jvm.Cond.instanceMethod ({ cls := "ClockworkTailorModel", name := "errorPosition", desc := "()I" } : Jvm.MethodName)) ∈ lw_all := lw_g (lw_at lw_m11 23 rfl) rfl
theorem q2517 : (Jvm.Cond.selects "ClockworkTailorModel" ({ cls := "ClockworkTailorModel", name := "errorPosition", desc := "()I" } : Jvm.MethodName) ({ cls := "ClockworkTailorModel", name := "errorPosition", desc := "()I" } : Jvm.MethodName)) ∈ lw_all := lw_g (lw_at lw_m11 24 rfl) rfl
theorem q2518 : (Jvm.Cond.code ({ cls := "ClockworkTailorModel", name := "errorPosition", desc := "()I" } : Jvm.MethodName) prog_12_method_102_code (1 : Nat) (Option.some Jvm.ClassFile.FieldType.int)) ∈ lw_all := lw_g (lw_at lw_m11 25 rfl) rfl
theorem q2520 : (Jvm.Cond.instanceMethod ({ cls := "ClockworkTailorModel", name := "undo", desc := "()I" } : Jvm.MethodName)) ∈ lw_all := lw_g (lw_at lw_m11 27 rfl) rfl
theorem q2521 : (Jvm.Cond.selects "ClockworkTailorModel" ({ cls := "ClockworkTailorModel", name := "undo", desc := "()I" } : Jvm.MethodName) ({ cls := "ClockworkTailorModel", name := "undo", desc := "()I" } : Jvm.MethodName)) ∈ lw_all := lw_g (lw_at lw_m11 28 rfl) rfl
theorem q2522 : (Jvm.Cond.code ({ cls := "ClockworkTailorModel", name := "undo", desc := "()I" } : Jvm.MethodName) prog_12_method_103_code (1 : Nat) (Option.some Jvm.ClassFile.FieldType.int)) ∈ lw_all := lw_g (lw_at lw_m11 29 rfl) rfl
theorem q2524 : (Jvm.Cond.instanceMethod ({ cls := "ClockworkTailorModel", name := "save", desc := "()I" } : Jvm.MethodName)) ∈ lw_all := lw_g (lw_at lw_m11 31 rfl) rfl
theorem q2525 : (Jvm.Cond.selects "ClockworkTailorModel" ({ cls := "ClockworkTailorModel", name := "save", desc := "()I" } : Jvm.MethodName) ({ cls := "ClockworkTailorModel", name := "save", desc := "()I" } : Jvm.MethodName)) ∈ lw_all := lw_g (lw_at lw_m11 32 rfl) rfl
theorem q2526 : (Jvm.Cond.code ({ cls := "ClockworkTailorModel", name := "save", desc := "()I" } : Jvm.MethodName) prog_12_method_104_code (1 : Nat) (Option.some Jvm.ClassFile.FieldType.int)) ∈ lw_all := lw_g (lw_at lw_m11 33 rfl) rfl
theorem q2528 : (Jvm.Cond.instanceMethod ({ cls := "ClockworkTailorModel", name := "restore", desc := "()I" } : Jvm.MethodName)) ∈ lw_all := lw_g (lw_at lw_m11 35 rfl) rfl
theorem q2529 : (Jvm.Cond.selects "ClockworkTailorModel" ({ cls := "ClockworkTailorModel", name := "restore", desc := "()I" } : Jvm.MethodName) ({ cls := "ClockworkTailorModel", name := "restore", desc := "()I" } : Jvm.MethodName)) ∈ lw_all := lw_g (lw_at lw_m11 36 rfl) rfl
theorem q2530 : (Jvm.Cond.code ({ cls := "ClockworkTailorModel", name := "restore", desc := "()I" } : Jvm.MethodName) prog_12_method_105_code (1 : Nat) (Option.some Jvm.ClassFile.FieldType.int)) ∈ lw_all := lw_g (lw_at lw_m11 37 rfl) rfl
theorem q2557 : (Jvm.Cond.castable "ClockworkTailorModel" "java/lang/Object") ∈ lw_tbl := lw_at lw_m11 64 rfl
theorem in_X5 : ∀ w ∈ wsX50, w ∈ lw_all := lw_in wsX50 [2052, 2054, 2056, 2058, 2060, 2062, 2064, 2066, 2068, 2070, 2072, 2074, 2076, 2078, 2080, 2082, 2084, 2086, 2088, 2090, 2092, 2094, 2096] (by decide +kernel) (by decide +kernel)

