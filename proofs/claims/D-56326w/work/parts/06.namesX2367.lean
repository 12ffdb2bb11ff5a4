/-! ClockworkTailor$State -/
set_option maxRecDepth 100000
def RX2 : String := "ClockworkTailor$State"
def TX2 : u_T := fun k => match k with
  | 0 => ("ClockworkTailor$State", "book", "LClockworkTailor$Book;", true)
  | 1 => ("ClockworkTailor$State", "isOpen", "[Z", true)
  | 2 => ("ClockworkTailor$State", "objects", "I", false)
  | 3 => ("ClockworkTailor$State", "tools", "[I", true)
  | 4 => ("ClockworkTailor$State", "threads", "[I", true)
  | 5 => ("ClockworkTailor$State", "isThere", "[Z", true)
  | 6 => ("ClockworkTailor$State", "needCounts", "[I", true)
  | 7 => ("ClockworkTailor$State", "needs", "[I", true)
  | 8 => ("ClockworkTailor$State", "fillings", "[I", true)
  | 9 => ("ClockworkTailor$State", "got", "I", false)
  | 10 => ("ClockworkTailor$State", "reused", "I", false)
  | 11 => ("ClockworkTailor$State", "spent", "J", false)
  | 12 => ("ClockworkTailor$State", "pending", "[I", true)
  | _ => ("ClockworkTailor$State", "depth", "I", false)
def tyX2 : Nat → FieldType := fun k => match k with
  | 0 => .object "ClockworkTailor$Book"
  | 1 => .array .boolean
  | 2 => .int
  | 3 => .array .int
  | 4 => .array .int
  | 5 => .array .boolean
  | 6 => .array .int
  | 7 => .array .int
  | 8 => .array .int
  | 9 => .int
  | 10 => .int
  | 11 => .long
  | 12 => .array .int
  | _ => .int
abbrev wsX20 : List Cond := u_ws RX2 TX2 14
set_option maxRecDepth 100000 in
theorem nmX2 : ∀ a, a < 14 → ∀ b, b < 14 → a ≠ b → (TX2 a).2.1 ≠ (TX2 b).2.1 := by decide +kernel
set_option maxRecDepth 100000 in
theorem tyX2_ok : ∀ k, k < 14 → parseFieldDescriptor (TX2 k).2.2.1 = some (tyX2 k) := by decide +kernel
abbrev cX2_init : ByteArray := prog_8_method_1_code
def yX2_init : MethodName := ⟨RX2, "<init>", "()V"⟩
def dkwX2_init_3 : List UInt8 := [17, 1, 224, 188, 10, 181, 0, 38, 42, 16, 27, 188, 10, 181, 0, 41, 177]
abbrev dktX2_init_3 : List UInt8 := dkwX2_init_3 ++ []
def dkwX2_init_2 : List UInt8 := [181, 0, 29, 42, 17, 0, 160, 188, 10, 181, 0, 32, 42, 17, 1, 224, 188, 10, 181, 0, 35, 42]
abbrev dktX2_init_2 : List UInt8 := dkwX2_init_2 ++ dktX2_init_3
def dkwX2_init_1 : List UInt8 := [17, 0, 160, 188, 10, 181, 0, 22, 42, 17, 0, 160, 188, 10, 181, 0, 26, 42, 17, 0, 160, 188, 4]
abbrev dktX2_init_1 : List UInt8 := dkwX2_init_1 ++ dktX2_init_2
def dkwX2_init_0 : List UInt8 := [42, 183, 0, 3, 42, 187, 0, 9, 89, 183, 0, 11, 181, 0, 12, 42, 7, 188, 4, 181, 0, 18, 42]
abbrev dktX2_init_0 : List UInt8 := dkwX2_init_0 ++ dktX2_init_1
theorem dksX2_init_0 : cX2_init.data.toList.drop 0 = dktX2_init_0 := by decide +kernel
theorem dksX2_init_1 : cX2_init.data.toList.drop 23 = dktX2_init_1 := dk_seg dksX2_init_0 23 rfl rfl
theorem dksX2_init_2 : cX2_init.data.toList.drop 46 = dktX2_init_2 := dk_seg dksX2_init_1 23 rfl rfl
theorem dksX2_init_3 : cX2_init.data.toList.drop 68 = dktX2_init_3 := dk_seg dksX2_init_2 22 rfl rfl
theorem dX2_init_0 : decode cX2_init 0 = .ok (.aload_n 0, 1) := dk_42 (dk_at dksX2_init_0 0 rfl rfl)
theorem dX2_init_1 : decode cX2_init 1 = .ok (.invokespecial 3, 3) := dk_183 0 3 (dk_at dksX2_init_0 1 rfl rfl)
theorem dX2_init_4 : decode cX2_init 4 = .ok (.aload_n 0, 1) := dk_42 (dk_at dksX2_init_0 4 rfl rfl)
theorem dX2_init_5 : decode cX2_init 5 = .ok (.new 9, 3) := dk_187 0 9 (dk_at dksX2_init_0 5 rfl rfl)
theorem dX2_init_8 : decode cX2_init 8 = .ok (.dup, 1) := dk_89 (dk_at dksX2_init_0 8 rfl rfl)
theorem dX2_init_9 : decode cX2_init 9 = .ok (.invokespecial 11, 3) := dk_183 0 11 (dk_at dksX2_init_0 9 rfl rfl)
theorem dX2_init_12 : decode cX2_init 12 = .ok (.putfield 12, 3) := dk_181 0 12 (dk_at dksX2_init_0 12 rfl rfl)
theorem dX2_init_15 : decode cX2_init 15 = .ok (.aload_n 0, 1) := dk_42 (dk_at dksX2_init_0 15 rfl rfl)
theorem dX2_init_16 : decode cX2_init 16 = .ok (.iconst 4, 1) := dk_7 (dk_at dksX2_init_0 16 rfl rfl)
theorem dX2_init_17 : decode cX2_init 17 = .ok (.newarray .boolean, 2) := dk_188_4 (dk_at dksX2_init_0 17 rfl rfl)
theorem dX2_init_19 : decode cX2_init 19 = .ok (.putfield 18, 3) := dk_181 0 18 (dk_at dksX2_init_0 19 rfl rfl)
theorem dX2_init_22 : decode cX2_init 22 = .ok (.aload_n 0, 1) := dk_42 (dk_at dksX2_init_0 22 rfl rfl)
theorem dX2_init_23 : decode cX2_init 23 = .ok (.sipush 160, 3) := dk_17 0 160 (dk_at dksX2_init_1 0 rfl rfl)
theorem dX2_init_26 : decode cX2_init 26 = .ok (.newarray .int, 2) := dk_188_10 (dk_at dksX2_init_1 3 rfl rfl)
theorem dX2_init_28 : decode cX2_init 28 = .ok (.putfield 22, 3) := dk_181 0 22 (dk_at dksX2_init_1 5 rfl rfl)
theorem dX2_init_31 : decode cX2_init 31 = .ok (.aload_n 0, 1) := dk_42 (dk_at dksX2_init_1 8 rfl rfl)
theorem dX2_init_32 : decode cX2_init 32 = .ok (.sipush 160, 3) := dk_17 0 160 (dk_at dksX2_init_1 9 rfl rfl)
theorem dX2_init_35 : decode cX2_init 35 = .ok (.newarray .int, 2) := dk_188_10 (dk_at dksX2_init_1 12 rfl rfl)
theorem dX2_init_37 : decode cX2_init 37 = .ok (.putfield 26, 3) := dk_181 0 26 (dk_at dksX2_init_1 14 rfl rfl)
theorem dX2_init_40 : decode cX2_init 40 = .ok (.aload_n 0, 1) := dk_42 (dk_at dksX2_init_1 17 rfl rfl)
theorem dX2_init_41 : decode cX2_init 41 = .ok (.sipush 160, 3) := dk_17 0 160 (dk_at dksX2_init_1 18 rfl rfl)
theorem dX2_init_44 : decode cX2_init 44 = .ok (.newarray .boolean, 2) := dk_188_4 (dk_at dksX2_init_1 21 rfl rfl)
theorem dX2_init_46 : decode cX2_init 46 = .ok (.putfield 29, 3) := dk_181 0 29 (dk_at dksX2_init_2 0 rfl rfl)
theorem dX2_init_49 : decode cX2_init 49 = .ok (.aload_n 0, 1) := dk_42 (dk_at dksX2_init_2 3 rfl rfl)
theorem dX2_init_50 : decode cX2_init 50 = .ok (.sipush 160, 3) := dk_17 0 160 (dk_at dksX2_init_2 4 rfl rfl)
theorem dX2_init_53 : decode cX2_init 53 = .ok (.newarray .int, 2) := dk_188_10 (dk_at dksX2_init_2 7 rfl rfl)
theorem dX2_init_55 : decode cX2_init 55 = .ok (.putfield 32, 3) := dk_181 0 32 (dk_at dksX2_init_2 9 rfl rfl)
theorem dX2_init_58 : decode cX2_init 58 = .ok (.aload_n 0, 1) := dk_42 (dk_at dksX2_init_2 12 rfl rfl)
theorem dX2_init_59 : decode cX2_init 59 = .ok (.sipush 480, 3) := dk_17 1 224 (dk_at dksX2_init_2 13 rfl rfl)
theorem dX2_init_62 : decode cX2_init 62 = .ok (.newarray .int, 2) := dk_188_10 (dk_at dksX2_init_2 16 rfl rfl)
theorem dX2_init_64 : decode cX2_init 64 = .ok (.putfield 35, 3) := dk_181 0 35 (dk_at dksX2_init_2 18 rfl rfl)
theorem dX2_init_67 : decode cX2_init 67 = .ok (.aload_n 0, 1) := dk_42 (dk_at dksX2_init_2 21 rfl rfl)
theorem dX2_init_68 : decode cX2_init 68 = .ok (.sipush 480, 3) := dk_17 1 224 (dk_at dksX2_init_3 0 rfl rfl)
theorem dX2_init_71 : decode cX2_init 71 = .ok (.newarray .int, 2) := dk_188_10 (dk_at dksX2_init_3 3 rfl rfl)
theorem dX2_init_73 : decode cX2_init 73 = .ok (.putfield 38, 3) := dk_181 0 38 (dk_at dksX2_init_3 5 rfl rfl)
theorem dX2_init_76 : decode cX2_init 76 = .ok (.aload_n 0, 1) := dk_42 (dk_at dksX2_init_3 8 rfl rfl)
theorem dX2_init_77 : decode cX2_init 77 = .ok (.bipush 27, 2) := dk_16 27 (dk_at dksX2_init_3 9 rfl rfl)
theorem dX2_init_79 : decode cX2_init 79 = .ok (.newarray .int, 2) := dk_188_10 (dk_at dksX2_init_3 11 rfl rfl)
theorem dX2_init_81 : decode cX2_init 81 = .ok (.putfield 41, 3) := dk_181 0 41 (dk_at dksX2_init_3 13 rfl rfl)
theorem dX2_init_84 : decode cX2_init 84 = .ok (.return_, 1) := dk_177 (dk_at dksX2_init_3 16 rfl rfl)
abbrev cX2_danglers : ByteArray := prog_8_method_23_code
def yX2_danglers : MethodName := ⟨RX2, "danglers", "()I"⟩
def dkwX2_danglers_4 : List UInt8 := [167, 255, 165, 27, 172]
abbrev dktX2_danglers_4 : List UInt8 := dkwX2_danglers_4 ++ []
def dkwX2_danglers_3 : List UInt8 := [128, 62, 132, 4, 1, 167, 255, 196, 27, 29, 153, 0, 7, 4, 167, 0, 4, 3, 96, 60, 132, 2, 1]
abbrev dktX2_danglers_3 : List UInt8 := dkwX2_danglers_3 ++ dktX2_danglers_4
def dkwX2_danglers_2 : List UInt8 := [153, 0, 23, 21, 5, 2, 159, 0, 17, 42, 180, 0, 29, 21, 5, 51, 154, 0, 7, 4, 167, 0, 4, 3]
abbrev dktX2_danglers_2 : List UInt8 := dkwX2_danglers_2 ++ dktX2_danglers_3
def dkwX2_danglers_1 : List UInt8 := [46, 162, 0, 55, 42, 180, 0, 38, 6, 28, 104, 21, 4, 96, 46, 54, 5, 29, 42, 180, 0, 29, 28, 51]
abbrev dktX2_danglers_1 : List UInt8 := dkwX2_danglers_1 ++ dktX2_danglers_2
def dkwX2_danglers_0 : List UInt8 := [3, 60, 3, 61, 28, 42, 180, 0, 58, 162, 0, 89, 3, 62, 3, 54, 4, 21, 4, 42, 180, 0, 32, 28]
abbrev dktX2_danglers_0 : List UInt8 := dkwX2_danglers_0 ++ dktX2_danglers_1
theorem dksX2_danglers_0 : cX2_danglers.data.toList.drop 0 = dktX2_danglers_0 := by decide +kernel
theorem dksX2_danglers_1 : cX2_danglers.data.toList.drop 24 = dktX2_danglers_1 := dk_seg dksX2_danglers_0 24 rfl rfl
theorem dksX2_danglers_2 : cX2_danglers.data.toList.drop 48 = dktX2_danglers_2 := dk_seg dksX2_danglers_1 24 rfl rfl
theorem dksX2_danglers_3 : cX2_danglers.data.toList.drop 72 = dktX2_danglers_3 := dk_seg dksX2_danglers_2 24 rfl rfl
theorem dksX2_danglers_4 : cX2_danglers.data.toList.drop 95 = dktX2_danglers_4 := dk_seg dksX2_danglers_3 23 rfl rfl
theorem dX2_danglers_0 : decode cX2_danglers 0 = .ok (.iconst 0, 1) := dk_3 (dk_at dksX2_danglers_0 0 rfl rfl)
theorem dX2_danglers_1 : decode cX2_danglers 1 = .ok (.istore_n 1, 1) := dk_60 (dk_at dksX2_danglers_0 1 rfl rfl)
theorem dX2_danglers_2 : decode cX2_danglers 2 = .ok (.iconst 0, 1) := dk_3 (dk_at dksX2_danglers_0 2 rfl rfl)
theorem dX2_danglers_3 : decode cX2_danglers 3 = .ok (.istore_n 2, 1) := dk_61 (dk_at dksX2_danglers_0 3 rfl rfl)
theorem dX2_danglers_4 : decode cX2_danglers 4 = .ok (.iload_n 2, 1) := dk_28 (dk_at dksX2_danglers_0 4 rfl rfl)
theorem dX2_danglers_5 : decode cX2_danglers 5 = .ok (.aload_n 0, 1) := dk_42 (dk_at dksX2_danglers_0 5 rfl rfl)
theorem dX2_danglers_6 : decode cX2_danglers 6 = .ok (.getfield 58, 3) := dk_180 0 58 (dk_at dksX2_danglers_0 6 rfl rfl)
theorem dX2_danglers_9 : decode cX2_danglers 9 = .ok (.if_icmp .ge 89, 3) := dk_162 0 89 (dk_at dksX2_danglers_0 9 rfl rfl)
theorem dX2_danglers_12 : decode cX2_danglers 12 = .ok (.iconst 0, 1) := dk_3 (dk_at dksX2_danglers_0 12 rfl rfl)
theorem dX2_danglers_13 : decode cX2_danglers 13 = .ok (.istore_n 3, 1) := dk_62 (dk_at dksX2_danglers_0 13 rfl rfl)
theorem dX2_danglers_14 : decode cX2_danglers 14 = .ok (.iconst 0, 1) := dk_3 (dk_at dksX2_danglers_0 14 rfl rfl)
theorem dX2_danglers_15 : decode cX2_danglers 15 = .ok (.istore 4, 2) := dk_54 4 (dk_at dksX2_danglers_0 15 rfl rfl)
theorem dX2_danglers_17 : decode cX2_danglers 17 = .ok (.iload 4, 2) := dk_21 4 (dk_at dksX2_danglers_0 17 rfl rfl)
theorem dX2_danglers_19 : decode cX2_danglers 19 = .ok (.aload_n 0, 1) := dk_42 (dk_at dksX2_danglers_0 19 rfl rfl)
theorem dX2_danglers_20 : decode cX2_danglers 20 = .ok (.getfield 32, 3) := dk_180 0 32 (dk_at dksX2_danglers_0 20 rfl rfl)
theorem dX2_danglers_23 : decode cX2_danglers 23 = .ok (.iload_n 2, 1) := dk_28 (dk_at dksX2_danglers_0 23 rfl rfl)
theorem dX2_danglers_24 : decode cX2_danglers 24 = .ok (.iaload, 1) := dk_46 (dk_at dksX2_danglers_1 0 rfl rfl)
theorem dX2_danglers_25 : decode cX2_danglers 25 = .ok (.if_icmp .ge 55, 3) := dk_162 0 55 (dk_at dksX2_danglers_1 1 rfl rfl)
theorem dX2_danglers_28 : decode cX2_danglers 28 = .ok (.aload_n 0, 1) := dk_42 (dk_at dksX2_danglers_1 4 rfl rfl)
theorem dX2_danglers_29 : decode cX2_danglers 29 = .ok (.getfield 38, 3) := dk_180 0 38 (dk_at dksX2_danglers_1 5 rfl rfl)
theorem dX2_danglers_32 : decode cX2_danglers 32 = .ok (.iconst 3, 1) := dk_6 (dk_at dksX2_danglers_1 8 rfl rfl)
theorem dX2_danglers_33 : decode cX2_danglers 33 = .ok (.iload_n 2, 1) := dk_28 (dk_at dksX2_danglers_1 9 rfl rfl)
theorem dX2_danglers_34 : decode cX2_danglers 34 = .ok (.imul, 1) := dk_104 (dk_at dksX2_danglers_1 10 rfl rfl)
theorem dX2_danglers_35 : decode cX2_danglers 35 = .ok (.iload 4, 2) := dk_21 4 (dk_at dksX2_danglers_1 11 rfl rfl)
theorem dX2_danglers_37 : decode cX2_danglers 37 = .ok (.iadd, 1) := dk_96 (dk_at dksX2_danglers_1 13 rfl rfl)
theorem dX2_danglers_38 : decode cX2_danglers 38 = .ok (.iaload, 1) := dk_46 (dk_at dksX2_danglers_1 14 rfl rfl)
theorem dX2_danglers_39 : decode cX2_danglers 39 = .ok (.istore 5, 2) := dk_54 5 (dk_at dksX2_danglers_1 15 rfl rfl)
theorem dX2_danglers_41 : decode cX2_danglers 41 = .ok (.iload_n 3, 1) := dk_29 (dk_at dksX2_danglers_1 17 rfl rfl)
theorem dX2_danglers_42 : decode cX2_danglers 42 = .ok (.aload_n 0, 1) := dk_42 (dk_at dksX2_danglers_1 18 rfl rfl)
theorem dX2_danglers_43 : decode cX2_danglers 43 = .ok (.getfield 29, 3) := dk_180 0 29 (dk_at dksX2_danglers_1 19 rfl rfl)
theorem dX2_danglers_46 : decode cX2_danglers 46 = .ok (.iload_n 2, 1) := dk_28 (dk_at dksX2_danglers_1 22 rfl rfl)
theorem dX2_danglers_47 : decode cX2_danglers 47 = .ok (.baload, 1) := dk_51 (dk_at dksX2_danglers_1 23 rfl rfl)
theorem dX2_danglers_48 : decode cX2_danglers 48 = .ok (.ifCond .eq 23, 3) := dk_153 0 23 (dk_at dksX2_danglers_2 0 rfl rfl)
theorem dX2_danglers_51 : decode cX2_danglers 51 = .ok (.iload 5, 2) := dk_21 5 (dk_at dksX2_danglers_2 3 rfl rfl)
theorem dX2_danglers_53 : decode cX2_danglers 53 = .ok (.iconst (-1), 1) := dk_2 (dk_at dksX2_danglers_2 5 rfl rfl)
theorem dX2_danglers_54 : decode cX2_danglers 54 = .ok (.if_icmp .eq 17, 3) := dk_159 0 17 (dk_at dksX2_danglers_2 6 rfl rfl)
theorem dX2_danglers_57 : decode cX2_danglers 57 = .ok (.aload_n 0, 1) := dk_42 (dk_at dksX2_danglers_2 9 rfl rfl)
theorem dX2_danglers_58 : decode cX2_danglers 58 = .ok (.getfield 29, 3) := dk_180 0 29 (dk_at dksX2_danglers_2 10 rfl rfl)
theorem dX2_danglers_61 : decode cX2_danglers 61 = .ok (.iload 5, 2) := dk_21 5 (dk_at dksX2_danglers_2 13 rfl rfl)
theorem dX2_danglers_63 : decode cX2_danglers 63 = .ok (.baload, 1) := dk_51 (dk_at dksX2_danglers_2 15 rfl rfl)
theorem dX2_danglers_64 : decode cX2_danglers 64 = .ok (.ifCond .ne 7, 3) := dk_154 0 7 (dk_at dksX2_danglers_2 16 rfl rfl)
theorem dX2_danglers_67 : decode cX2_danglers 67 = .ok (.iconst 1, 1) := dk_4 (dk_at dksX2_danglers_2 19 rfl rfl)
theorem dX2_danglers_68 : decode cX2_danglers 68 = .ok (.goto 4, 3) := dk_167 0 4 (dk_at dksX2_danglers_2 20 rfl rfl)
theorem dX2_danglers_71 : decode cX2_danglers 71 = .ok (.iconst 0, 1) := dk_3 (dk_at dksX2_danglers_2 23 rfl rfl)
theorem dX2_danglers_72 : decode cX2_danglers 72 = .ok (.ior, 1) := dk_128 (dk_at dksX2_danglers_3 0 rfl rfl)
theorem dX2_danglers_73 : decode cX2_danglers 73 = .ok (.istore_n 3, 1) := dk_62 (dk_at dksX2_danglers_3 1 rfl rfl)
theorem dX2_danglers_74 : decode cX2_danglers 74 = .ok (.iinc 4 1, 3) := dk_132 4 1 (dk_at dksX2_danglers_3 2 rfl rfl)
theorem dX2_danglers_77 : decode cX2_danglers 77 = .ok (.goto (-60), 3) := dk_167 255 196 (dk_at dksX2_danglers_3 5 rfl rfl)
theorem dX2_danglers_80 : decode cX2_danglers 80 = .ok (.iload_n 1, 1) := dk_27 (dk_at dksX2_danglers_3 8 rfl rfl)
theorem dX2_danglers_81 : decode cX2_danglers 81 = .ok (.iload_n 3, 1) := dk_29 (dk_at dksX2_danglers_3 9 rfl rfl)
theorem dX2_danglers_82 : decode cX2_danglers 82 = .ok (.ifCond .eq 7, 3) := dk_153 0 7 (dk_at dksX2_danglers_3 10 rfl rfl)
theorem dX2_danglers_85 : decode cX2_danglers 85 = .ok (.iconst 1, 1) := dk_4 (dk_at dksX2_danglers_3 13 rfl rfl)
theorem dX2_danglers_86 : decode cX2_danglers 86 = .ok (.goto 4, 3) := dk_167 0 4 (dk_at dksX2_danglers_3 14 rfl rfl)
theorem dX2_danglers_89 : decode cX2_danglers 89 = .ok (.iconst 0, 1) := dk_3 (dk_at dksX2_danglers_3 17 rfl rfl)
theorem dX2_danglers_90 : decode cX2_danglers 90 = .ok (.iadd, 1) := dk_96 (dk_at dksX2_danglers_3 18 rfl rfl)
theorem dX2_danglers_91 : decode cX2_danglers 91 = .ok (.istore_n 1, 1) := dk_60 (dk_at dksX2_danglers_3 19 rfl rfl)
theorem dX2_danglers_92 : decode cX2_danglers 92 = .ok (.iinc 2 1, 3) := dk_132 2 1 (dk_at dksX2_danglers_3 20 rfl rfl)
theorem dX2_danglers_95 : decode cX2_danglers 95 = .ok (.goto (-91), 3) := dk_167 255 165 (dk_at dksX2_danglers_4 0 rfl rfl)
theorem dX2_danglers_98 : decode cX2_danglers 98 = .ok (.iload_n 1, 1) := dk_27 (dk_at dksX2_danglers_4 3 rfl rfl)
theorem dX2_danglers_99 : decode cX2_danglers 99 = .ok (.ireturn, 1) := dk_172 (dk_at dksX2_danglers_4 4 rfl rfl)
abbrev cX2_areWaysConsistent : ByteArray := prog_8_method_25_code
def yX2_areWaysConsistent : MethodName := ⟨RX2, "areWaysConsistent", "()Z"⟩
def dkwX2_areWaysConsistent_4 : List UInt8 := [180, 0, 61, 42, 180, 0, 58, 42, 180, 0, 64, 96, 160, 0, 7, 4, 167, 0, 4, 3, 172]
abbrev dktX2_areWaysConsistent_4 : List UInt8 := dkwX2_areWaysConsistent_4 ++ []
def dkwX2_areWaysConsistent_3 : List UInt8 := [167, 0, 4, 3, 126, 60, 132, 2, 1, 167, 255, 201, 27, 153, 0, 30, 42, 182, 0, 224, 153, 0, 23, 42]
abbrev dktX2_areWaysConsistent_3 : List UInt8 := dkwX2_areWaysConsistent_3 ++ dktX2_areWaysConsistent_4
def dkwX2_areWaysConsistent_2 : List UInt8 := [160, 0, 26, 42, 180, 0, 12, 28, 182, 0, 218, 42, 180, 0, 12, 28, 182, 0, 221, 160, 0, 7, 4]
abbrev dktX2_areWaysConsistent_2 : List UInt8 := dkwX2_areWaysConsistent_2 ++ dktX2_areWaysConsistent_3
def dkwX2_areWaysConsistent_1 : List UInt8 := [61, 28, 16, 8, 162, 0, 55, 27, 42, 180, 0, 12, 28, 182, 0, 212, 42, 180, 0, 12, 28, 182, 0, 215]
abbrev dktX2_areWaysConsistent_1 : List UInt8 := dkwX2_areWaysConsistent_1 ++ dktX2_areWaysConsistent_2
def dkwX2_areWaysConsistent_0 : List UInt8 := [42, 180, 0, 12, 182, 0, 206, 42, 180, 0, 12, 182, 0, 209, 160, 0, 7, 4, 167, 0, 4, 3, 60, 3]
abbrev dktX2_areWaysConsistent_0 : List UInt8 := dkwX2_areWaysConsistent_0 ++ dktX2_areWaysConsistent_1
theorem dksX2_areWaysConsistent_0 : cX2_areWaysConsistent.data.toList.drop 0 = dktX2_areWaysConsistent_0 := by decide +kernel
theorem dksX2_areWaysConsistent_1 : cX2_areWaysConsistent.data.toList.drop 24 = dktX2_areWaysConsistent_1 := dk_seg dksX2_areWaysConsistent_0 24 rfl rfl
theorem dksX2_areWaysConsistent_2 : cX2_areWaysConsistent.data.toList.drop 48 = dktX2_areWaysConsistent_2 := dk_seg dksX2_areWaysConsistent_1 24 rfl rfl
theorem dksX2_areWaysConsistent_3 : cX2_areWaysConsistent.data.toList.drop 71 = dktX2_areWaysConsistent_3 := dk_seg dksX2_areWaysConsistent_2 23 rfl rfl
theorem dksX2_areWaysConsistent_4 : cX2_areWaysConsistent.data.toList.drop 95 = dktX2_areWaysConsistent_4 := dk_seg dksX2_areWaysConsistent_3 24 rfl rfl
theorem dX2_areWaysConsistent_0 : decode cX2_areWaysConsistent 0 = .ok (.aload_n 0, 1) := dk_42 (dk_at dksX2_areWaysConsistent_0 0 rfl rfl)
theorem dX2_areWaysConsistent_1 : decode cX2_areWaysConsistent 1 = .ok (.getfield 12, 3) := dk_180 0 12 (dk_at dksX2_areWaysConsistent_0 1 rfl rfl)
theorem dX2_areWaysConsistent_4 : decode cX2_areWaysConsistent 4 = .ok (.invokevirtual 206, 3) := dk_182 0 206 (dk_at dksX2_areWaysConsistent_0 4 rfl rfl)
theorem dX2_areWaysConsistent_7 : decode cX2_areWaysConsistent 7 = .ok (.aload_n 0, 1) := dk_42 (dk_at dksX2_areWaysConsistent_0 7 rfl rfl)
theorem dX2_areWaysConsistent_8 : decode cX2_areWaysConsistent 8 = .ok (.getfield 12, 3) := dk_180 0 12 (dk_at dksX2_areWaysConsistent_0 8 rfl rfl)
theorem dX2_areWaysConsistent_11 : decode cX2_areWaysConsistent 11 = .ok (.invokevirtual 209, 3) := dk_182 0 209 (dk_at dksX2_areWaysConsistent_0 11 rfl rfl)
theorem dX2_areWaysConsistent_14 : decode cX2_areWaysConsistent 14 = .ok (.if_icmp .ne 7, 3) := dk_160 0 7 (dk_at dksX2_areWaysConsistent_0 14 rfl rfl)
theorem dX2_areWaysConsistent_17 : decode cX2_areWaysConsistent 17 = .ok (.iconst 1, 1) := dk_4 (dk_at dksX2_areWaysConsistent_0 17 rfl rfl)
theorem dX2_areWaysConsistent_18 : decode cX2_areWaysConsistent 18 = .ok (.goto 4, 3) := dk_167 0 4 (dk_at dksX2_areWaysConsistent_0 18 rfl rfl)
theorem dX2_areWaysConsistent_21 : decode cX2_areWaysConsistent 21 = .ok (.iconst 0, 1) := dk_3 (dk_at dksX2_areWaysConsistent_0 21 rfl rfl)
theorem dX2_areWaysConsistent_22 : decode cX2_areWaysConsistent 22 = .ok (.istore_n 1, 1) := dk_60 (dk_at dksX2_areWaysConsistent_0 22 rfl rfl)
theorem dX2_areWaysConsistent_23 : decode cX2_areWaysConsistent 23 = .ok (.iconst 0, 1) := dk_3 (dk_at dksX2_areWaysConsistent_0 23 rfl rfl)
theorem dX2_areWaysConsistent_24 : decode cX2_areWaysConsistent 24 = .ok (.istore_n 2, 1) := dk_61 (dk_at dksX2_areWaysConsistent_1 0 rfl rfl)
theorem dX2_areWaysConsistent_25 : decode cX2_areWaysConsistent 25 = .ok (.iload_n 2, 1) := dk_28 (dk_at dksX2_areWaysConsistent_1 1 rfl rfl)
theorem dX2_areWaysConsistent_26 : decode cX2_areWaysConsistent 26 = .ok (.bipush 8, 2) := dk_16 8 (dk_at dksX2_areWaysConsistent_1 2 rfl rfl)
theorem dX2_areWaysConsistent_28 : decode cX2_areWaysConsistent 28 = .ok (.if_icmp .ge 55, 3) := dk_162 0 55 (dk_at dksX2_areWaysConsistent_1 4 rfl rfl)
theorem dX2_areWaysConsistent_31 : decode cX2_areWaysConsistent 31 = .ok (.iload_n 1, 1) := dk_27 (dk_at dksX2_areWaysConsistent_1 7 rfl rfl)
theorem dX2_areWaysConsistent_32 : decode cX2_areWaysConsistent 32 = .ok (.aload_n 0, 1) := dk_42 (dk_at dksX2_areWaysConsistent_1 8 rfl rfl)
theorem dX2_areWaysConsistent_33 : decode cX2_areWaysConsistent 33 = .ok (.getfield 12, 3) := dk_180 0 12 (dk_at dksX2_areWaysConsistent_1 9 rfl rfl)
theorem dX2_areWaysConsistent_36 : decode cX2_areWaysConsistent 36 = .ok (.iload_n 2, 1) := dk_28 (dk_at dksX2_areWaysConsistent_1 12 rfl rfl)
theorem dX2_areWaysConsistent_37 : decode cX2_areWaysConsistent 37 = .ok (.invokevirtual 212, 3) := dk_182 0 212 (dk_at dksX2_areWaysConsistent_1 13 rfl rfl)
theorem dX2_areWaysConsistent_40 : decode cX2_areWaysConsistent 40 = .ok (.aload_n 0, 1) := dk_42 (dk_at dksX2_areWaysConsistent_1 16 rfl rfl)
theorem dX2_areWaysConsistent_41 : decode cX2_areWaysConsistent 41 = .ok (.getfield 12, 3) := dk_180 0 12 (dk_at dksX2_areWaysConsistent_1 17 rfl rfl)
theorem dX2_areWaysConsistent_44 : decode cX2_areWaysConsistent 44 = .ok (.iload_n 2, 1) := dk_28 (dk_at dksX2_areWaysConsistent_1 20 rfl rfl)
theorem dX2_areWaysConsistent_45 : decode cX2_areWaysConsistent 45 = .ok (.invokevirtual 215, 3) := dk_182 0 215 (dk_at dksX2_areWaysConsistent_1 21 rfl rfl)
theorem dX2_areWaysConsistent_48 : decode cX2_areWaysConsistent 48 = .ok (.if_icmp .ne 26, 3) := dk_160 0 26 (dk_at dksX2_areWaysConsistent_2 0 rfl rfl)
theorem dX2_areWaysConsistent_51 : decode cX2_areWaysConsistent 51 = .ok (.aload_n 0, 1) := dk_42 (dk_at dksX2_areWaysConsistent_2 3 rfl rfl)
theorem dX2_areWaysConsistent_52 : decode cX2_areWaysConsistent 52 = .ok (.getfield 12, 3) := dk_180 0 12 (dk_at dksX2_areWaysConsistent_2 4 rfl rfl)
theorem dX2_areWaysConsistent_55 : decode cX2_areWaysConsistent 55 = .ok (.iload_n 2, 1) := dk_28 (dk_at dksX2_areWaysConsistent_2 7 rfl rfl)
theorem dX2_areWaysConsistent_56 : decode cX2_areWaysConsistent 56 = .ok (.invokevirtual 218, 3) := dk_182 0 218 (dk_at dksX2_areWaysConsistent_2 8 rfl rfl)
theorem dX2_areWaysConsistent_59 : decode cX2_areWaysConsistent 59 = .ok (.aload_n 0, 1) := dk_42 (dk_at dksX2_areWaysConsistent_2 11 rfl rfl)
theorem dX2_areWaysConsistent_60 : decode cX2_areWaysConsistent 60 = .ok (.getfield 12, 3) := dk_180 0 12 (dk_at dksX2_areWaysConsistent_2 12 rfl rfl)
theorem dX2_areWaysConsistent_63 : decode cX2_areWaysConsistent 63 = .ok (.iload_n 2, 1) := dk_28 (dk_at dksX2_areWaysConsistent_2 15 rfl rfl)
theorem dX2_areWaysConsistent_64 : decode cX2_areWaysConsistent 64 = .ok (.invokevirtual 221, 3) := dk_182 0 221 (dk_at dksX2_areWaysConsistent_2 16 rfl rfl)
theorem dX2_areWaysConsistent_67 : decode cX2_areWaysConsistent 67 = .ok (.if_icmp .ne 7, 3) := dk_160 0 7 (dk_at dksX2_areWaysConsistent_2 19 rfl rfl)
theorem dX2_areWaysConsistent_70 : decode cX2_areWaysConsistent 70 = .ok (.iconst 1, 1) := dk_4 (dk_at dksX2_areWaysConsistent_2 22 rfl rfl)
theorem dX2_areWaysConsistent_71 : decode cX2_areWaysConsistent 71 = .ok (.goto 4, 3) := dk_167 0 4 (dk_at dksX2_areWaysConsistent_3 0 rfl rfl)
theorem dX2_areWaysConsistent_74 : decode cX2_areWaysConsistent 74 = .ok (.iconst 0, 1) := dk_3 (dk_at dksX2_areWaysConsistent_3 3 rfl rfl)
theorem dX2_areWaysConsistent_75 : decode cX2_areWaysConsistent 75 = .ok (.iand, 1) := dk_126 (dk_at dksX2_areWaysConsistent_3 4 rfl rfl)
theorem dX2_areWaysConsistent_76 : decode cX2_areWaysConsistent 76 = .ok (.istore_n 1, 1) := dk_60 (dk_at dksX2_areWaysConsistent_3 5 rfl rfl)
theorem dX2_areWaysConsistent_77 : decode cX2_areWaysConsistent 77 = .ok (.iinc 2 1, 3) := dk_132 2 1 (dk_at dksX2_areWaysConsistent_3 6 rfl rfl)
theorem dX2_areWaysConsistent_80 : decode cX2_areWaysConsistent 80 = .ok (.goto (-55), 3) := dk_167 255 201 (dk_at dksX2_areWaysConsistent_3 9 rfl rfl)
theorem dX2_areWaysConsistent_83 : decode cX2_areWaysConsistent 83 = .ok (.iload_n 1, 1) := dk_27 (dk_at dksX2_areWaysConsistent_3 12 rfl rfl)
theorem dX2_areWaysConsistent_84 : decode cX2_areWaysConsistent 84 = .ok (.ifCond .eq 30, 3) := dk_153 0 30 (dk_at dksX2_areWaysConsistent_3 13 rfl rfl)
theorem dX2_areWaysConsistent_87 : decode cX2_areWaysConsistent 87 = .ok (.aload_n 0, 1) := dk_42 (dk_at dksX2_areWaysConsistent_3 16 rfl rfl)
theorem dX2_areWaysConsistent_88 : decode cX2_areWaysConsistent 88 = .ok (.invokevirtual 224, 3) := dk_182 0 224 (dk_at dksX2_areWaysConsistent_3 17 rfl rfl)
theorem dX2_areWaysConsistent_91 : decode cX2_areWaysConsistent 91 = .ok (.ifCond .eq 23, 3) := dk_153 0 23 (dk_at dksX2_areWaysConsistent_3 20 rfl rfl)
theorem dX2_areWaysConsistent_94 : decode cX2_areWaysConsistent 94 = .ok (.aload_n 0, 1) := dk_42 (dk_at dksX2_areWaysConsistent_3 23 rfl rfl)
theorem dX2_areWaysConsistent_95 : decode cX2_areWaysConsistent 95 = .ok (.getfield 61, 3) := dk_180 0 61 (dk_at dksX2_areWaysConsistent_4 0 rfl rfl)
theorem dX2_areWaysConsistent_98 : decode cX2_areWaysConsistent 98 = .ok (.aload_n 0, 1) := dk_42 (dk_at dksX2_areWaysConsistent_4 3 rfl rfl)
theorem dX2_areWaysConsistent_99 : decode cX2_areWaysConsistent 99 = .ok (.getfield 58, 3) := dk_180 0 58 (dk_at dksX2_areWaysConsistent_4 4 rfl rfl)
theorem dX2_areWaysConsistent_102 : decode cX2_areWaysConsistent 102 = .ok (.aload_n 0, 1) := dk_42 (dk_at dksX2_areWaysConsistent_4 7 rfl rfl)
theorem dX2_areWaysConsistent_103 : decode cX2_areWaysConsistent 103 = .ok (.getfield 64, 3) := dk_180 0 64 (dk_at dksX2_areWaysConsistent_4 8 rfl rfl)
theorem dX2_areWaysConsistent_106 : decode cX2_areWaysConsistent 106 = .ok (.iadd, 1) := dk_96 (dk_at dksX2_areWaysConsistent_4 11 rfl rfl)
theorem dX2_areWaysConsistent_107 : decode cX2_areWaysConsistent 107 = .ok (.if_icmp .ne 7, 3) := dk_160 0 7 (dk_at dksX2_areWaysConsistent_4 12 rfl rfl)
theorem dX2_areWaysConsistent_110 : decode cX2_areWaysConsistent 110 = .ok (.iconst 1, 1) := dk_4 (dk_at dksX2_areWaysConsistent_4 15 rfl rfl)
theorem dX2_areWaysConsistent_111 : decode cX2_areWaysConsistent 111 = .ok (.goto 4, 3) := dk_167 0 4 (dk_at dksX2_areWaysConsistent_4 16 rfl rfl)
theorem dX2_areWaysConsistent_114 : decode cX2_areWaysConsistent 114 = .ok (.iconst 0, 1) := dk_3 (dk_at dksX2_areWaysConsistent_4 19 rfl rfl)
theorem dX2_areWaysConsistent_115 : decode cX2_areWaysConsistent 115 = .ok (.ireturn, 1) := dk_172 (dk_at dksX2_areWaysConsistent_4 20 rfl rfl)
abbrev cX2_areSinglesSingle : ByteArray := prog_8_method_24_code
def yX2_areSinglesSingle : MethodName := ⟨RX2, "areSinglesSingle", "()Z"⟩
def dkwX2_areSinglesSingle_3 : List UInt8 := [128, 60, 132, 3, 1, 167, 255, 185, 28, 172]
abbrev dktX2_areSinglesSingle_3 : List UInt8 := dkwX2_areSinglesSingle_3 ++ []
def dkwX2_areSinglesSingle_2 : List UInt8 := [29, 46, 184, 0, 203, 154, 0, 7, 4, 167, 0, 4, 3, 126, 61, 27, 4, 42, 180, 0, 22, 29, 46, 120]
abbrev dktX2_areSinglesSingle_2 : List UInt8 := dkwX2_areSinglesSingle_2 ++ dktX2_areSinglesSingle_3
def dkwX2_areSinglesSingle_1 : List UInt8 := [180, 0, 12, 180, 0, 105, 42, 180, 0, 22, 29, 46, 52, 16, 115, 160, 0, 35, 28, 27, 42, 180, 0, 22]
abbrev dktX2_areSinglesSingle_1 : List UInt8 := dkwX2_areSinglesSingle_1 ++ dktX2_areSinglesSingle_2
def dkwX2_areSinglesSingle_0 : List UInt8 := [3, 60, 4, 61, 3, 62, 29, 42, 180, 0, 58, 162, 0, 69, 42, 180, 0, 29, 29, 51, 153, 0, 54, 42]
abbrev dktX2_areSinglesSingle_0 : List UInt8 := dkwX2_areSinglesSingle_0 ++ dktX2_areSinglesSingle_1
theorem dksX2_areSinglesSingle_0 : cX2_areSinglesSingle.data.toList.drop 0 = dktX2_areSinglesSingle_0 := by decide +kernel
theorem dksX2_areSinglesSingle_1 : cX2_areSinglesSingle.data.toList.drop 24 = dktX2_areSinglesSingle_1 := dk_seg dksX2_areSinglesSingle_0 24 rfl rfl
theorem dksX2_areSinglesSingle_2 : cX2_areSinglesSingle.data.toList.drop 48 = dktX2_areSinglesSingle_2 := dk_seg dksX2_areSinglesSingle_1 24 rfl rfl
theorem dksX2_areSinglesSingle_3 : cX2_areSinglesSingle.data.toList.drop 72 = dktX2_areSinglesSingle_3 := dk_seg dksX2_areSinglesSingle_2 24 rfl rfl
theorem dX2_areSinglesSingle_0 : decode cX2_areSinglesSingle 0 = .ok (.iconst 0, 1) := dk_3 (dk_at dksX2_areSinglesSingle_0 0 rfl rfl)
theorem dX2_areSinglesSingle_1 : decode cX2_areSinglesSingle 1 = .ok (.istore_n 1, 1) := dk_60 (dk_at dksX2_areSinglesSingle_0 1 rfl rfl)
theorem dX2_areSinglesSingle_2 : decode cX2_areSinglesSingle 2 = .ok (.iconst 1, 1) := dk_4 (dk_at dksX2_areSinglesSingle_0 2 rfl rfl)
theorem dX2_areSinglesSingle_3 : decode cX2_areSinglesSingle 3 = .ok (.istore_n 2, 1) := dk_61 (dk_at dksX2_areSinglesSingle_0 3 rfl rfl)
theorem dX2_areSinglesSingle_4 : decode cX2_areSinglesSingle 4 = .ok (.iconst 0, 1) := dk_3 (dk_at dksX2_areSinglesSingle_0 4 rfl rfl)
theorem dX2_areSinglesSingle_5 : decode cX2_areSinglesSingle 5 = .ok (.istore_n 3, 1) := dk_62 (dk_at dksX2_areSinglesSingle_0 5 rfl rfl)
theorem dX2_areSinglesSingle_6 : decode cX2_areSinglesSingle 6 = .ok (.iload_n 3, 1) := dk_29 (dk_at dksX2_areSinglesSingle_0 6 rfl rfl)
theorem dX2_areSinglesSingle_7 : decode cX2_areSinglesSingle 7 = .ok (.aload_n 0, 1) := dk_42 (dk_at dksX2_areSinglesSingle_0 7 rfl rfl)
theorem dX2_areSinglesSingle_8 : decode cX2_areSinglesSingle 8 = .ok (.getfield 58, 3) := dk_180 0 58 (dk_at dksX2_areSinglesSingle_0 8 rfl rfl)
theorem dX2_areSinglesSingle_11 : decode cX2_areSinglesSingle 11 = .ok (.if_icmp .ge 69, 3) := dk_162 0 69 (dk_at dksX2_areSinglesSingle_0 11 rfl rfl)
theorem dX2_areSinglesSingle_14 : decode cX2_areSinglesSingle 14 = .ok (.aload_n 0, 1) := dk_42 (dk_at dksX2_areSinglesSingle_0 14 rfl rfl)
theorem dX2_areSinglesSingle_15 : decode cX2_areSinglesSingle 15 = .ok (.getfield 29, 3) := dk_180 0 29 (dk_at dksX2_areSinglesSingle_0 15 rfl rfl)
theorem dX2_areSinglesSingle_18 : decode cX2_areSinglesSingle 18 = .ok (.iload_n 3, 1) := dk_29 (dk_at dksX2_areSinglesSingle_0 18 rfl rfl)
theorem dX2_areSinglesSingle_19 : decode cX2_areSinglesSingle 19 = .ok (.baload, 1) := dk_51 (dk_at dksX2_areSinglesSingle_0 19 rfl rfl)
theorem dX2_areSinglesSingle_20 : decode cX2_areSinglesSingle 20 = .ok (.ifCond .eq 54, 3) := dk_153 0 54 (dk_at dksX2_areSinglesSingle_0 20 rfl rfl)
theorem dX2_areSinglesSingle_23 : decode cX2_areSinglesSingle 23 = .ok (.aload_n 0, 1) := dk_42 (dk_at dksX2_areSinglesSingle_0 23 rfl rfl)
theorem dX2_areSinglesSingle_24 : decode cX2_areSinglesSingle 24 = .ok (.getfield 12, 3) := dk_180 0 12 (dk_at dksX2_areSinglesSingle_1 0 rfl rfl)
theorem dX2_areSinglesSingle_27 : decode cX2_areSinglesSingle 27 = .ok (.getfield 105, 3) := dk_180 0 105 (dk_at dksX2_areSinglesSingle_1 3 rfl rfl)
theorem dX2_areSinglesSingle_30 : decode cX2_areSinglesSingle 30 = .ok (.aload_n 0, 1) := dk_42 (dk_at dksX2_areSinglesSingle_1 6 rfl rfl)
theorem dX2_areSinglesSingle_31 : decode cX2_areSinglesSingle 31 = .ok (.getfield 22, 3) := dk_180 0 22 (dk_at dksX2_areSinglesSingle_1 7 rfl rfl)
theorem dX2_areSinglesSingle_34 : decode cX2_areSinglesSingle 34 = .ok (.iload_n 3, 1) := dk_29 (dk_at dksX2_areSinglesSingle_1 10 rfl rfl)
theorem dX2_areSinglesSingle_35 : decode cX2_areSinglesSingle 35 = .ok (.iaload, 1) := dk_46 (dk_at dksX2_areSinglesSingle_1 11 rfl rfl)
theorem dX2_areSinglesSingle_36 : decode cX2_areSinglesSingle 36 = .ok (.caload, 1) := dk_52 (dk_at dksX2_areSinglesSingle_1 12 rfl rfl)
theorem dX2_areSinglesSingle_37 : decode cX2_areSinglesSingle 37 = .ok (.bipush 115, 2) := dk_16 115 (dk_at dksX2_areSinglesSingle_1 13 rfl rfl)
theorem dX2_areSinglesSingle_39 : decode cX2_areSinglesSingle 39 = .ok (.if_icmp .ne 35, 3) := dk_160 0 35 (dk_at dksX2_areSinglesSingle_1 15 rfl rfl)
theorem dX2_areSinglesSingle_42 : decode cX2_areSinglesSingle 42 = .ok (.iload_n 2, 1) := dk_28 (dk_at dksX2_areSinglesSingle_1 18 rfl rfl)
theorem dX2_areSinglesSingle_43 : decode cX2_areSinglesSingle 43 = .ok (.iload_n 1, 1) := dk_27 (dk_at dksX2_areSinglesSingle_1 19 rfl rfl)
theorem dX2_areSinglesSingle_44 : decode cX2_areSinglesSingle 44 = .ok (.aload_n 0, 1) := dk_42 (dk_at dksX2_areSinglesSingle_1 20 rfl rfl)
theorem dX2_areSinglesSingle_45 : decode cX2_areSinglesSingle 45 = .ok (.getfield 22, 3) := dk_180 0 22 (dk_at dksX2_areSinglesSingle_1 21 rfl rfl)
theorem dX2_areSinglesSingle_48 : decode cX2_areSinglesSingle 48 = .ok (.iload_n 3, 1) := dk_29 (dk_at dksX2_areSinglesSingle_2 0 rfl rfl)
theorem dX2_areSinglesSingle_49 : decode cX2_areSinglesSingle 49 = .ok (.iaload, 1) := dk_46 (dk_at dksX2_areSinglesSingle_2 1 rfl rfl)
theorem dX2_areSinglesSingle_50 : decode cX2_areSinglesSingle 50 = .ok (.invokestatic 203, 3) := dk_184 0 203 (dk_at dksX2_areSinglesSingle_2 2 rfl rfl)
theorem dX2_areSinglesSingle_53 : decode cX2_areSinglesSingle 53 = .ok (.ifCond .ne 7, 3) := dk_154 0 7 (dk_at dksX2_areSinglesSingle_2 5 rfl rfl)
theorem dX2_areSinglesSingle_56 : decode cX2_areSinglesSingle 56 = .ok (.iconst 1, 1) := dk_4 (dk_at dksX2_areSinglesSingle_2 8 rfl rfl)
theorem dX2_areSinglesSingle_57 : decode cX2_areSinglesSingle 57 = .ok (.goto 4, 3) := dk_167 0 4 (dk_at dksX2_areSinglesSingle_2 9 rfl rfl)
theorem dX2_areSinglesSingle_60 : decode cX2_areSinglesSingle 60 = .ok (.iconst 0, 1) := dk_3 (dk_at dksX2_areSinglesSingle_2 12 rfl rfl)
theorem dX2_areSinglesSingle_61 : decode cX2_areSinglesSingle 61 = .ok (.iand, 1) := dk_126 (dk_at dksX2_areSinglesSingle_2 13 rfl rfl)
theorem dX2_areSinglesSingle_62 : decode cX2_areSinglesSingle 62 = .ok (.istore_n 2, 1) := dk_61 (dk_at dksX2_areSinglesSingle_2 14 rfl rfl)
theorem dX2_areSinglesSingle_63 : decode cX2_areSinglesSingle 63 = .ok (.iload_n 1, 1) := dk_27 (dk_at dksX2_areSinglesSingle_2 15 rfl rfl)
theorem dX2_areSinglesSingle_64 : decode cX2_areSinglesSingle 64 = .ok (.iconst 1, 1) := dk_4 (dk_at dksX2_areSinglesSingle_2 16 rfl rfl)
theorem dX2_areSinglesSingle_65 : decode cX2_areSinglesSingle 65 = .ok (.aload_n 0, 1) := dk_42 (dk_at dksX2_areSinglesSingle_2 17 rfl rfl)
theorem dX2_areSinglesSingle_66 : decode cX2_areSinglesSingle 66 = .ok (.getfield 22, 3) := dk_180 0 22 (dk_at dksX2_areSinglesSingle_2 18 rfl rfl)
theorem dX2_areSinglesSingle_69 : decode cX2_areSinglesSingle 69 = .ok (.iload_n 3, 1) := dk_29 (dk_at dksX2_areSinglesSingle_2 21 rfl rfl)
theorem dX2_areSinglesSingle_70 : decode cX2_areSinglesSingle 70 = .ok (.iaload, 1) := dk_46 (dk_at dksX2_areSinglesSingle_2 22 rfl rfl)
theorem dX2_areSinglesSingle_71 : decode cX2_areSinglesSingle 71 = .ok (.ishl, 1) := dk_120 (dk_at dksX2_areSinglesSingle_2 23 rfl rfl)
theorem dX2_areSinglesSingle_72 : decode cX2_areSinglesSingle 72 = .ok (.ior, 1) := dk_128 (dk_at dksX2_areSinglesSingle_3 0 rfl rfl)
theorem dX2_areSinglesSingle_73 : decode cX2_areSinglesSingle 73 = .ok (.istore_n 1, 1) := dk_60 (dk_at dksX2_areSinglesSingle_3 1 rfl rfl)
theorem dX2_areSinglesSingle_74 : decode cX2_areSinglesSingle 74 = .ok (.iinc 3 1, 3) := dk_132 3 1 (dk_at dksX2_areSinglesSingle_3 2 rfl rfl)
theorem dX2_areSinglesSingle_77 : decode cX2_areSinglesSingle 77 = .ok (.goto (-71), 3) := dk_167 255 185 (dk_at dksX2_areSinglesSingle_3 5 rfl rfl)
theorem dX2_areSinglesSingle_80 : decode cX2_areSinglesSingle 80 = .ok (.iload_n 2, 1) := dk_28 (dk_at dksX2_areSinglesSingle_3 8 rfl rfl)
theorem dX2_areSinglesSingle_81 : decode cX2_areSinglesSingle 81 = .ok (.ireturn, 1) := dk_172 (dk_at dksX2_areSinglesSingle_3 9 rfl rfl)
abbrev cX2_copyFrom : ByteArray := prog_8_method_2_code
def yX2_copyFrom : MethodName := ⟨RX2, "copyFrom", "(LClockworkTailor$State;)V"⟩
def dkwX2_copyFrom_7 : List UInt8 := [42, 43, 180, 0, 67, 181, 0, 67, 177]
abbrev dktX2_copyFrom_7 : List UInt8 := dkwX2_copyFrom_7 ++ []
def dkwX2_copyFrom_6 : List UInt8 := [180, 0, 58, 6, 104, 184, 0, 52, 42, 43, 180, 0, 61, 181, 0, 61, 42, 43, 180, 0, 64, 181, 0, 64]
abbrev dktX2_copyFrom_6 : List UInt8 := dkwX2_copyFrom_6 ++ dktX2_copyFrom_7
def dkwX2_copyFrom_5 : List UInt8 := [180, 0, 35, 3, 42, 180, 0, 58, 6, 104, 184, 0, 52, 43, 180, 0, 38, 3, 42, 180, 0, 38, 3, 42]
abbrev dktX2_copyFrom_5 : List UInt8 := dkwX2_copyFrom_5 ++ dktX2_copyFrom_6
def dkwX2_copyFrom_4 : List UInt8 := [180, 0, 32, 3, 42, 180, 0, 32, 3, 42, 180, 0, 58, 184, 0, 52, 43, 180, 0, 35, 3, 42]
abbrev dktX2_copyFrom_4 : List UInt8 := dkwX2_copyFrom_4 ++ dktX2_copyFrom_5
def dkwX2_copyFrom_3 : List UInt8 := [180, 0, 58, 184, 0, 52, 43, 180, 0, 29, 3, 42, 180, 0, 29, 3, 42, 180, 0, 58, 184, 0, 52, 43]
abbrev dktX2_copyFrom_3 : List UInt8 := dkwX2_copyFrom_3 ++ dktX2_copyFrom_4
def dkwX2_copyFrom_2 : List UInt8 := [180, 0, 22, 3, 42, 180, 0, 58, 184, 0, 52, 43, 180, 0, 26, 3, 42, 180, 0, 26, 3, 42]
abbrev dktX2_copyFrom_2 : List UInt8 := dkwX2_copyFrom_2 ++ dktX2_copyFrom_3
def dkwX2_copyFrom_1 : List UInt8 := [180, 0, 18, 3, 7, 184, 0, 52, 42, 43, 180, 0, 58, 181, 0, 58, 43, 180, 0, 22, 3, 42]
abbrev dktX2_copyFrom_1 : List UInt8 := dkwX2_copyFrom_1 ++ dktX2_copyFrom_2
def dkwX2_copyFrom_0 : List UInt8 := [42, 3, 181, 0, 44, 42, 180, 0, 12, 43, 180, 0, 12, 182, 0, 48, 43, 180, 0, 18, 3, 42]
abbrev dktX2_copyFrom_0 : List UInt8 := dkwX2_copyFrom_0 ++ dktX2_copyFrom_1
theorem dksX2_copyFrom_0 : cX2_copyFrom.data.toList.drop 0 = dktX2_copyFrom_0 := by decide +kernel
theorem dksX2_copyFrom_1 : cX2_copyFrom.data.toList.drop 22 = dktX2_copyFrom_1 := dk_seg dksX2_copyFrom_0 22 rfl rfl
theorem dksX2_copyFrom_2 : cX2_copyFrom.data.toList.drop 44 = dktX2_copyFrom_2 := dk_seg dksX2_copyFrom_1 22 rfl rfl
theorem dksX2_copyFrom_3 : cX2_copyFrom.data.toList.drop 66 = dktX2_copyFrom_3 := dk_seg dksX2_copyFrom_2 22 rfl rfl
theorem dksX2_copyFrom_4 : cX2_copyFrom.data.toList.drop 90 = dktX2_copyFrom_4 := dk_seg dksX2_copyFrom_3 24 rfl rfl
theorem dksX2_copyFrom_5 : cX2_copyFrom.data.toList.drop 112 = dktX2_copyFrom_5 := dk_seg dksX2_copyFrom_4 22 rfl rfl
theorem dksX2_copyFrom_6 : cX2_copyFrom.data.toList.drop 136 = dktX2_copyFrom_6 := dk_seg dksX2_copyFrom_5 24 rfl rfl
theorem dksX2_copyFrom_7 : cX2_copyFrom.data.toList.drop 160 = dktX2_copyFrom_7 := dk_seg dksX2_copyFrom_6 24 rfl rfl
theorem dX2_copyFrom_0 : decode cX2_copyFrom 0 = .ok (.aload_n 0, 1) := dk_42 (dk_at dksX2_copyFrom_0 0 rfl rfl)
theorem dX2_copyFrom_1 : decode cX2_copyFrom 1 = .ok (.iconst 0, 1) := dk_3 (dk_at dksX2_copyFrom_0 1 rfl rfl)
theorem dX2_copyFrom_2 : decode cX2_copyFrom 2 = .ok (.putfield 44, 3) := dk_181 0 44 (dk_at dksX2_copyFrom_0 2 rfl rfl)
theorem dX2_copyFrom_5 : decode cX2_copyFrom 5 = .ok (.aload_n 0, 1) := dk_42 (dk_at dksX2_copyFrom_0 5 rfl rfl)
theorem dX2_copyFrom_6 : decode cX2_copyFrom 6 = .ok (.getfield 12, 3) := dk_180 0 12 (dk_at dksX2_copyFrom_0 6 rfl rfl)
theorem dX2_copyFrom_9 : decode cX2_copyFrom 9 = .ok (.aload_n 1, 1) := dk_43 (dk_at dksX2_copyFrom_0 9 rfl rfl)
theorem dX2_copyFrom_10 : decode cX2_copyFrom 10 = .ok (.getfield 12, 3) := dk_180 0 12 (dk_at dksX2_copyFrom_0 10 rfl rfl)
theorem dX2_copyFrom_13 : decode cX2_copyFrom 13 = .ok (.invokevirtual 48, 3) := dk_182 0 48 (dk_at dksX2_copyFrom_0 13 rfl rfl)
theorem dX2_copyFrom_16 : decode cX2_copyFrom 16 = .ok (.aload_n 1, 1) := dk_43 (dk_at dksX2_copyFrom_0 16 rfl rfl)
theorem dX2_copyFrom_17 : decode cX2_copyFrom 17 = .ok (.getfield 18, 3) := dk_180 0 18 (dk_at dksX2_copyFrom_0 17 rfl rfl)
theorem dX2_copyFrom_20 : decode cX2_copyFrom 20 = .ok (.iconst 0, 1) := dk_3 (dk_at dksX2_copyFrom_0 20 rfl rfl)
theorem dX2_copyFrom_21 : decode cX2_copyFrom 21 = .ok (.aload_n 0, 1) := dk_42 (dk_at dksX2_copyFrom_0 21 rfl rfl)
theorem dX2_copyFrom_22 : decode cX2_copyFrom 22 = .ok (.getfield 18, 3) := dk_180 0 18 (dk_at dksX2_copyFrom_1 0 rfl rfl)
theorem dX2_copyFrom_25 : decode cX2_copyFrom 25 = .ok (.iconst 0, 1) := dk_3 (dk_at dksX2_copyFrom_1 3 rfl rfl)
theorem dX2_copyFrom_26 : decode cX2_copyFrom 26 = .ok (.iconst 4, 1) := dk_7 (dk_at dksX2_copyFrom_1 4 rfl rfl)
theorem dX2_copyFrom_27 : decode cX2_copyFrom 27 = .ok (.invokestatic 52, 3) := dk_184 0 52 (dk_at dksX2_copyFrom_1 5 rfl rfl)
theorem dX2_copyFrom_30 : decode cX2_copyFrom 30 = .ok (.aload_n 0, 1) := dk_42 (dk_at dksX2_copyFrom_1 8 rfl rfl)
theorem dX2_copyFrom_31 : decode cX2_copyFrom 31 = .ok (.aload_n 1, 1) := dk_43 (dk_at dksX2_copyFrom_1 9 rfl rfl)
theorem dX2_copyFrom_32 : decode cX2_copyFrom 32 = .ok (.getfield 58, 3) := dk_180 0 58 (dk_at dksX2_copyFrom_1 10 rfl rfl)
theorem dX2_copyFrom_35 : decode cX2_copyFrom 35 = .ok (.putfield 58, 3) := dk_181 0 58 (dk_at dksX2_copyFrom_1 13 rfl rfl)
theorem dX2_copyFrom_38 : decode cX2_copyFrom 38 = .ok (.aload_n 1, 1) := dk_43 (dk_at dksX2_copyFrom_1 16 rfl rfl)
theorem dX2_copyFrom_39 : decode cX2_copyFrom 39 = .ok (.getfield 22, 3) := dk_180 0 22 (dk_at dksX2_copyFrom_1 17 rfl rfl)
theorem dX2_copyFrom_42 : decode cX2_copyFrom 42 = .ok (.iconst 0, 1) := dk_3 (dk_at dksX2_copyFrom_1 20 rfl rfl)
theorem dX2_copyFrom_43 : decode cX2_copyFrom 43 = .ok (.aload_n 0, 1) := dk_42 (dk_at dksX2_copyFrom_1 21 rfl rfl)
theorem dX2_copyFrom_44 : decode cX2_copyFrom 44 = .ok (.getfield 22, 3) := dk_180 0 22 (dk_at dksX2_copyFrom_2 0 rfl rfl)
theorem dX2_copyFrom_47 : decode cX2_copyFrom 47 = .ok (.iconst 0, 1) := dk_3 (dk_at dksX2_copyFrom_2 3 rfl rfl)
theorem dX2_copyFrom_48 : decode cX2_copyFrom 48 = .ok (.aload_n 0, 1) := dk_42 (dk_at dksX2_copyFrom_2 4 rfl rfl)
theorem dX2_copyFrom_49 : decode cX2_copyFrom 49 = .ok (.getfield 58, 3) := dk_180 0 58 (dk_at dksX2_copyFrom_2 5 rfl rfl)
theorem dX2_copyFrom_52 : decode cX2_copyFrom 52 = .ok (.invokestatic 52, 3) := dk_184 0 52 (dk_at dksX2_copyFrom_2 8 rfl rfl)
theorem dX2_copyFrom_55 : decode cX2_copyFrom 55 = .ok (.aload_n 1, 1) := dk_43 (dk_at dksX2_copyFrom_2 11 rfl rfl)
theorem dX2_copyFrom_56 : decode cX2_copyFrom 56 = .ok (.getfield 26, 3) := dk_180 0 26 (dk_at dksX2_copyFrom_2 12 rfl rfl)
theorem dX2_copyFrom_59 : decode cX2_copyFrom 59 = .ok (.iconst 0, 1) := dk_3 (dk_at dksX2_copyFrom_2 15 rfl rfl)
theorem dX2_copyFrom_60 : decode cX2_copyFrom 60 = .ok (.aload_n 0, 1) := dk_42 (dk_at dksX2_copyFrom_2 16 rfl rfl)
theorem dX2_copyFrom_61 : decode cX2_copyFrom 61 = .ok (.getfield 26, 3) := dk_180 0 26 (dk_at dksX2_copyFrom_2 17 rfl rfl)
theorem dX2_copyFrom_64 : decode cX2_copyFrom 64 = .ok (.iconst 0, 1) := dk_3 (dk_at dksX2_copyFrom_2 20 rfl rfl)
theorem dX2_copyFrom_65 : decode cX2_copyFrom 65 = .ok (.aload_n 0, 1) := dk_42 (dk_at dksX2_copyFrom_2 21 rfl rfl)
theorem dX2_copyFrom_66 : decode cX2_copyFrom 66 = .ok (.getfield 58, 3) := dk_180 0 58 (dk_at dksX2_copyFrom_3 0 rfl rfl)
theorem dX2_copyFrom_69 : decode cX2_copyFrom 69 = .ok (.invokestatic 52, 3) := dk_184 0 52 (dk_at dksX2_copyFrom_3 3 rfl rfl)
theorem dX2_copyFrom_72 : decode cX2_copyFrom 72 = .ok (.aload_n 1, 1) := dk_43 (dk_at dksX2_copyFrom_3 6 rfl rfl)
theorem dX2_copyFrom_73 : decode cX2_copyFrom 73 = .ok (.getfield 29, 3) := dk_180 0 29 (dk_at dksX2_copyFrom_3 7 rfl rfl)
theorem dX2_copyFrom_76 : decode cX2_copyFrom 76 = .ok (.iconst 0, 1) := dk_3 (dk_at dksX2_copyFrom_3 10 rfl rfl)
theorem dX2_copyFrom_77 : decode cX2_copyFrom 77 = .ok (.aload_n 0, 1) := dk_42 (dk_at dksX2_copyFrom_3 11 rfl rfl)
theorem dX2_copyFrom_78 : decode cX2_copyFrom 78 = .ok (.getfield 29, 3) := dk_180 0 29 (dk_at dksX2_copyFrom_3 12 rfl rfl)
theorem dX2_copyFrom_81 : decode cX2_copyFrom 81 = .ok (.iconst 0, 1) := dk_3 (dk_at dksX2_copyFrom_3 15 rfl rfl)
theorem dX2_copyFrom_82 : decode cX2_copyFrom 82 = .ok (.aload_n 0, 1) := dk_42 (dk_at dksX2_copyFrom_3 16 rfl rfl)
theorem dX2_copyFrom_83 : decode cX2_copyFrom 83 = .ok (.getfield 58, 3) := dk_180 0 58 (dk_at dksX2_copyFrom_3 17 rfl rfl)
theorem dX2_copyFrom_86 : decode cX2_copyFrom 86 = .ok (.invokestatic 52, 3) := dk_184 0 52 (dk_at dksX2_copyFrom_3 20 rfl rfl)
theorem dX2_copyFrom_89 : decode cX2_copyFrom 89 = .ok (.aload_n 1, 1) := dk_43 (dk_at dksX2_copyFrom_3 23 rfl rfl)
theorem dX2_copyFrom_90 : decode cX2_copyFrom 90 = .ok (.getfield 32, 3) := dk_180 0 32 (dk_at dksX2_copyFrom_4 0 rfl rfl)
theorem dX2_copyFrom_93 : decode cX2_copyFrom 93 = .ok (.iconst 0, 1) := dk_3 (dk_at dksX2_copyFrom_4 3 rfl rfl)
theorem dX2_copyFrom_94 : decode cX2_copyFrom 94 = .ok (.aload_n 0, 1) := dk_42 (dk_at dksX2_copyFrom_4 4 rfl rfl)
theorem dX2_copyFrom_95 : decode cX2_copyFrom 95 = .ok (.getfield 32, 3) := dk_180 0 32 (dk_at dksX2_copyFrom_4 5 rfl rfl)
theorem dX2_copyFrom_98 : decode cX2_copyFrom 98 = .ok (.iconst 0, 1) := dk_3 (dk_at dksX2_copyFrom_4 8 rfl rfl)
theorem dX2_copyFrom_99 : decode cX2_copyFrom 99 = .ok (.aload_n 0, 1) := dk_42 (dk_at dksX2_copyFrom_4 9 rfl rfl)
theorem dX2_copyFrom_100 : decode cX2_copyFrom 100 = .ok (.getfield 58, 3) := dk_180 0 58 (dk_at dksX2_copyFrom_4 10 rfl rfl)
theorem dX2_copyFrom_103 : decode cX2_copyFrom 103 = .ok (.invokestatic 52, 3) := dk_184 0 52 (dk_at dksX2_copyFrom_4 13 rfl rfl)
theorem dX2_copyFrom_106 : decode cX2_copyFrom 106 = .ok (.aload_n 1, 1) := dk_43 (dk_at dksX2_copyFrom_4 16 rfl rfl)
theorem dX2_copyFrom_107 : decode cX2_copyFrom 107 = .ok (.getfield 35, 3) := dk_180 0 35 (dk_at dksX2_copyFrom_4 17 rfl rfl)
theorem dX2_copyFrom_110 : decode cX2_copyFrom 110 = .ok (.iconst 0, 1) := dk_3 (dk_at dksX2_copyFrom_4 20 rfl rfl)
theorem dX2_copyFrom_111 : decode cX2_copyFrom 111 = .ok (.aload_n 0, 1) := dk_42 (dk_at dksX2_copyFrom_4 21 rfl rfl)
theorem dX2_copyFrom_112 : decode cX2_copyFrom 112 = .ok (.getfield 35, 3) := dk_180 0 35 (dk_at dksX2_copyFrom_5 0 rfl rfl)
theorem dX2_copyFrom_115 : decode cX2_copyFrom 115 = .ok (.iconst 0, 1) := dk_3 (dk_at dksX2_copyFrom_5 3 rfl rfl)
theorem dX2_copyFrom_116 : decode cX2_copyFrom 116 = .ok (.aload_n 0, 1) := dk_42 (dk_at dksX2_copyFrom_5 4 rfl rfl)
theorem dX2_copyFrom_117 : decode cX2_copyFrom 117 = .ok (.getfield 58, 3) := dk_180 0 58 (dk_at dksX2_copyFrom_5 5 rfl rfl)
theorem dX2_copyFrom_120 : decode cX2_copyFrom 120 = .ok (.iconst 3, 1) := dk_6 (dk_at dksX2_copyFrom_5 8 rfl rfl)
theorem dX2_copyFrom_121 : decode cX2_copyFrom 121 = .ok (.imul, 1) := dk_104 (dk_at dksX2_copyFrom_5 9 rfl rfl)
theorem dX2_copyFrom_122 : decode cX2_copyFrom 122 = .ok (.invokestatic 52, 3) := dk_184 0 52 (dk_at dksX2_copyFrom_5 10 rfl rfl)
theorem dX2_copyFrom_125 : decode cX2_copyFrom 125 = .ok (.aload_n 1, 1) := dk_43 (dk_at dksX2_copyFrom_5 13 rfl rfl)
theorem dX2_copyFrom_126 : decode cX2_copyFrom 126 = .ok (.getfield 38, 3) := dk_180 0 38 (dk_at dksX2_copyFrom_5 14 rfl rfl)
theorem dX2_copyFrom_129 : decode cX2_copyFrom 129 = .ok (.iconst 0, 1) := dk_3 (dk_at dksX2_copyFrom_5 17 rfl rfl)
theorem dX2_copyFrom_130 : decode cX2_copyFrom 130 = .ok (.aload_n 0, 1) := dk_42 (dk_at dksX2_copyFrom_5 18 rfl rfl)
theorem dX2_copyFrom_131 : decode cX2_copyFrom 131 = .ok (.getfield 38, 3) := dk_180 0 38 (dk_at dksX2_copyFrom_5 19 rfl rfl)
theorem dX2_copyFrom_134 : decode cX2_copyFrom 134 = .ok (.iconst 0, 1) := dk_3 (dk_at dksX2_copyFrom_5 22 rfl rfl)
theorem dX2_copyFrom_135 : decode cX2_copyFrom 135 = .ok (.aload_n 0, 1) := dk_42 (dk_at dksX2_copyFrom_5 23 rfl rfl)
theorem dX2_copyFrom_136 : decode cX2_copyFrom 136 = .ok (.getfield 58, 3) := dk_180 0 58 (dk_at dksX2_copyFrom_6 0 rfl rfl)
theorem dX2_copyFrom_139 : decode cX2_copyFrom 139 = .ok (.iconst 3, 1) := dk_6 (dk_at dksX2_copyFrom_6 3 rfl rfl)
theorem dX2_copyFrom_140 : decode cX2_copyFrom 140 = .ok (.imul, 1) := dk_104 (dk_at dksX2_copyFrom_6 4 rfl rfl)
theorem dX2_copyFrom_141 : decode cX2_copyFrom 141 = .ok (.invokestatic 52, 3) := dk_184 0 52 (dk_at dksX2_copyFrom_6 5 rfl rfl)
theorem dX2_copyFrom_144 : decode cX2_copyFrom 144 = .ok (.aload_n 0, 1) := dk_42 (dk_at dksX2_copyFrom_6 8 rfl rfl)
theorem dX2_copyFrom_145 : decode cX2_copyFrom 145 = .ok (.aload_n 1, 1) := dk_43 (dk_at dksX2_copyFrom_6 9 rfl rfl)
theorem dX2_copyFrom_146 : decode cX2_copyFrom 146 = .ok (.getfield 61, 3) := dk_180 0 61 (dk_at dksX2_copyFrom_6 10 rfl rfl)
theorem dX2_copyFrom_149 : decode cX2_copyFrom 149 = .ok (.putfield 61, 3) := dk_181 0 61 (dk_at dksX2_copyFrom_6 13 rfl rfl)
theorem dX2_copyFrom_152 : decode cX2_copyFrom 152 = .ok (.aload_n 0, 1) := dk_42 (dk_at dksX2_copyFrom_6 16 rfl rfl)
theorem dX2_copyFrom_153 : decode cX2_copyFrom 153 = .ok (.aload_n 1, 1) := dk_43 (dk_at dksX2_copyFrom_6 17 rfl rfl)
theorem dX2_copyFrom_154 : decode cX2_copyFrom 154 = .ok (.getfield 64, 3) := dk_180 0 64 (dk_at dksX2_copyFrom_6 18 rfl rfl)
theorem dX2_copyFrom_157 : decode cX2_copyFrom 157 = .ok (.putfield 64, 3) := dk_181 0 64 (dk_at dksX2_copyFrom_6 21 rfl rfl)
theorem dX2_copyFrom_160 : decode cX2_copyFrom 160 = .ok (.aload_n 0, 1) := dk_42 (dk_at dksX2_copyFrom_7 0 rfl rfl)
theorem dX2_copyFrom_161 : decode cX2_copyFrom 161 = .ok (.aload_n 1, 1) := dk_43 (dk_at dksX2_copyFrom_7 1 rfl rfl)
theorem dX2_copyFrom_162 : decode cX2_copyFrom 162 = .ok (.getfield 67, 3) := dk_180 0 67 (dk_at dksX2_copyFrom_7 2 rfl rfl)
theorem dX2_copyFrom_165 : decode cX2_copyFrom 165 = .ok (.putfield 67, 3) := dk_181 0 67 (dk_at dksX2_copyFrom_7 5 rfl rfl)
theorem dX2_copyFrom_168 : decode cX2_copyFrom 168 = .ok (.return_, 1) := dk_177 (dk_at dksX2_copyFrom_7 8 rfl rfl)
abbrev cX2_tried : ByteArray := prog_8_method_22_code
def yX2_tried : MethodName := ⟨RX2, "tried", "(II)I"⟩
def dkwX2_tried_1 : List UInt8 := [42, 27, 28, 182, 0, 184, 54, 4, 167, 0, 7, 58, 4, 2, 172, 42, 180, 0, 58, 29, 100, 172]
abbrev dktX2_tried_1 : List UInt8 := dkwX2_tried_1 ++ []
def dkwX2_tried_0 : List UInt8 := [187, 0, 187, 89, 42, 28, 183, 0, 189, 27, 182, 0, 192, 2, 159, 0, 5, 2, 172, 42, 180, 0, 58, 62]
abbrev dktX2_tried_0 : List UInt8 := dkwX2_tried_0 ++ dktX2_tried_1
theorem dksX2_tried_0 : cX2_tried.data.toList.drop 0 = dktX2_tried_0 := by decide +kernel
theorem dksX2_tried_1 : cX2_tried.data.toList.drop 24 = dktX2_tried_1 := dk_seg dksX2_tried_0 24 rfl rfl
theorem dX2_tried_0 : decode cX2_tried 0 = .ok (.new 187, 3) := dk_187 0 187 (dk_at dksX2_tried_0 0 rfl rfl)
theorem dX2_tried_3 : decode cX2_tried 3 = .ok (.dup, 1) := dk_89 (dk_at dksX2_tried_0 3 rfl rfl)
theorem dX2_tried_4 : decode cX2_tried 4 = .ok (.aload_n 0, 1) := dk_42 (dk_at dksX2_tried_0 4 rfl rfl)
theorem dX2_tried_5 : decode cX2_tried 5 = .ok (.iload_n 2, 1) := dk_28 (dk_at dksX2_tried_0 5 rfl rfl)
theorem dX2_tried_6 : decode cX2_tried 6 = .ok (.invokespecial 189, 3) := dk_183 0 189 (dk_at dksX2_tried_0 6 rfl rfl)
theorem dX2_tried_9 : decode cX2_tried 9 = .ok (.iload_n 1, 1) := dk_27 (dk_at dksX2_tried_0 9 rfl rfl)
theorem dX2_tried_10 : decode cX2_tried 10 = .ok (.invokevirtual 192, 3) := dk_182 0 192 (dk_at dksX2_tried_0 10 rfl rfl)
theorem dX2_tried_13 : decode cX2_tried 13 = .ok (.iconst (-1), 1) := dk_2 (dk_at dksX2_tried_0 13 rfl rfl)
theorem dX2_tried_14 : decode cX2_tried 14 = .ok (.if_icmp .eq 5, 3) := dk_159 0 5 (dk_at dksX2_tried_0 14 rfl rfl)
theorem dX2_tried_17 : decode cX2_tried 17 = .ok (.iconst (-1), 1) := dk_2 (dk_at dksX2_tried_0 17 rfl rfl)
theorem dX2_tried_18 : decode cX2_tried 18 = .ok (.ireturn, 1) := dk_172 (dk_at dksX2_tried_0 18 rfl rfl)
theorem dX2_tried_19 : decode cX2_tried 19 = .ok (.aload_n 0, 1) := dk_42 (dk_at dksX2_tried_0 19 rfl rfl)
theorem dX2_tried_20 : decode cX2_tried 20 = .ok (.getfield 58, 3) := dk_180 0 58 (dk_at dksX2_tried_0 20 rfl rfl)
theorem dX2_tried_23 : decode cX2_tried 23 = .ok (.istore_n 3, 1) := dk_62 (dk_at dksX2_tried_0 23 rfl rfl)
theorem dX2_tried_24 : decode cX2_tried 24 = .ok (.aload_n 0, 1) := dk_42 (dk_at dksX2_tried_1 0 rfl rfl)
theorem dX2_tried_25 : decode cX2_tried 25 = .ok (.iload_n 1, 1) := dk_27 (dk_at dksX2_tried_1 1 rfl rfl)
theorem dX2_tried_26 : decode cX2_tried 26 = .ok (.iload_n 2, 1) := dk_28 (dk_at dksX2_tried_1 2 rfl rfl)
theorem dX2_tried_27 : decode cX2_tried 27 = .ok (.invokevirtual 184, 3) := dk_182 0 184 (dk_at dksX2_tried_1 3 rfl rfl)
theorem dX2_tried_30 : decode cX2_tried 30 = .ok (.istore 4, 2) := dk_54 4 (dk_at dksX2_tried_1 6 rfl rfl)
theorem dX2_tried_32 : decode cX2_tried 32 = .ok (.goto 7, 3) := dk_167 0 7 (dk_at dksX2_tried_1 8 rfl rfl)
theorem dX2_tried_35 : decode cX2_tried 35 = .ok (.astore 4, 2) := dk_58 4 (dk_at dksX2_tried_1 11 rfl rfl)
theorem dX2_tried_37 : decode cX2_tried 37 = .ok (.iconst (-1), 1) := dk_2 (dk_at dksX2_tried_1 13 rfl rfl)
theorem dX2_tried_38 : decode cX2_tried 38 = .ok (.ireturn, 1) := dk_172 (dk_at dksX2_tried_1 14 rfl rfl)
theorem dX2_tried_39 : decode cX2_tried 39 = .ok (.aload_n 0, 1) := dk_42 (dk_at dksX2_tried_1 15 rfl rfl)
theorem dX2_tried_40 : decode cX2_tried 40 = .ok (.getfield 58, 3) := dk_180 0 58 (dk_at dksX2_tried_1 16 rfl rfl)
theorem dX2_tried_43 : decode cX2_tried 43 = .ok (.iload_n 3, 1) := dk_29 (dk_at dksX2_tried_1 19 rfl rfl)
theorem dX2_tried_44 : decode cX2_tried 44 = .ok (.isub, 1) := dk_100 (dk_at dksX2_tried_1 20 rfl rfl)
theorem dX2_tried_45 : decode cX2_tried 45 = .ok (.ireturn, 1) := dk_172 (dk_at dksX2_tried_1 21 rfl rfl)
abbrev cX2_existing : ByteArray := prog_8_method_16_code
def yX2_existing : MethodName := ⟨RX2, "existing", "(II)I"⟩
def dkwX2_existing_3 : List UInt8 := [132, 4, 1, 167, 255, 197, 2, 172]
abbrev dktX2_existing_3 : List UInt8 := dkwX2_existing_3 ++ []
def dkwX2_existing_2 : List UInt8 := [160, 0, 23, 29, 16, 115, 159, 0, 14, 42, 180, 0, 26, 21, 4, 46, 28, 160, 0, 6, 21, 4, 172]
abbrev dktX2_existing_2 : List UInt8 := dkwX2_existing_2 ++ dktX2_existing_3
def dkwX2_existing_1 : List UInt8 := [16, 101, 159, 0, 50, 42, 180, 0, 29, 21, 4, 51, 153, 0, 34, 42, 180, 0, 22, 21, 4, 46, 27]
abbrev dktX2_existing_1 : List UInt8 := dkwX2_existing_1 ++ dktX2_existing_2
def dkwX2_existing_0 : List UInt8 := [42, 180, 0, 12, 180, 0, 105, 27, 52, 62, 3, 54, 4, 21, 4, 42, 180, 0, 58, 162, 0, 56, 29]
abbrev dktX2_existing_0 : List UInt8 := dkwX2_existing_0 ++ dktX2_existing_1
theorem dksX2_existing_0 : cX2_existing.data.toList.drop 0 = dktX2_existing_0 := by decide +kernel
theorem dksX2_existing_1 : cX2_existing.data.toList.drop 23 = dktX2_existing_1 := dk_seg dksX2_existing_0 23 rfl rfl
theorem dksX2_existing_2 : cX2_existing.data.toList.drop 46 = dktX2_existing_2 := dk_seg dksX2_existing_1 23 rfl rfl
theorem dksX2_existing_3 : cX2_existing.data.toList.drop 69 = dktX2_existing_3 := dk_seg dksX2_existing_2 23 rfl rfl
theorem dX2_existing_0 : decode cX2_existing 0 = .ok (.aload_n 0, 1) := dk_42 (dk_at dksX2_existing_0 0 rfl rfl)
theorem dX2_existing_1 : decode cX2_existing 1 = .ok (.getfield 12, 3) := dk_180 0 12 (dk_at dksX2_existing_0 1 rfl rfl)
theorem dX2_existing_4 : decode cX2_existing 4 = .ok (.getfield 105, 3) := dk_180 0 105 (dk_at dksX2_existing_0 4 rfl rfl)
theorem dX2_existing_7 : decode cX2_existing 7 = .ok (.iload_n 1, 1) := dk_27 (dk_at dksX2_existing_0 7 rfl rfl)
theorem dX2_existing_8 : decode cX2_existing 8 = .ok (.caload, 1) := dk_52 (dk_at dksX2_existing_0 8 rfl rfl)
theorem dX2_existing_9 : decode cX2_existing 9 = .ok (.istore_n 3, 1) := dk_62 (dk_at dksX2_existing_0 9 rfl rfl)
theorem dX2_existing_10 : decode cX2_existing 10 = .ok (.iconst 0, 1) := dk_3 (dk_at dksX2_existing_0 10 rfl rfl)
theorem dX2_existing_11 : decode cX2_existing 11 = .ok (.istore 4, 2) := dk_54 4 (dk_at dksX2_existing_0 11 rfl rfl)
theorem dX2_existing_13 : decode cX2_existing 13 = .ok (.iload 4, 2) := dk_21 4 (dk_at dksX2_existing_0 13 rfl rfl)
theorem dX2_existing_15 : decode cX2_existing 15 = .ok (.aload_n 0, 1) := dk_42 (dk_at dksX2_existing_0 15 rfl rfl)
theorem dX2_existing_16 : decode cX2_existing 16 = .ok (.getfield 58, 3) := dk_180 0 58 (dk_at dksX2_existing_0 16 rfl rfl)
theorem dX2_existing_19 : decode cX2_existing 19 = .ok (.if_icmp .ge 56, 3) := dk_162 0 56 (dk_at dksX2_existing_0 19 rfl rfl)
theorem dX2_existing_22 : decode cX2_existing 22 = .ok (.iload_n 3, 1) := dk_29 (dk_at dksX2_existing_0 22 rfl rfl)
theorem dX2_existing_23 : decode cX2_existing 23 = .ok (.bipush 101, 2) := dk_16 101 (dk_at dksX2_existing_1 0 rfl rfl)
theorem dX2_existing_25 : decode cX2_existing 25 = .ok (.if_icmp .eq 50, 3) := dk_159 0 50 (dk_at dksX2_existing_1 2 rfl rfl)
theorem dX2_existing_28 : decode cX2_existing 28 = .ok (.aload_n 0, 1) := dk_42 (dk_at dksX2_existing_1 5 rfl rfl)
theorem dX2_existing_29 : decode cX2_existing 29 = .ok (.getfield 29, 3) := dk_180 0 29 (dk_at dksX2_existing_1 6 rfl rfl)
theorem dX2_existing_32 : decode cX2_existing 32 = .ok (.iload 4, 2) := dk_21 4 (dk_at dksX2_existing_1 9 rfl rfl)
theorem dX2_existing_34 : decode cX2_existing 34 = .ok (.baload, 1) := dk_51 (dk_at dksX2_existing_1 11 rfl rfl)
theorem dX2_existing_35 : decode cX2_existing 35 = .ok (.ifCond .eq 34, 3) := dk_153 0 34 (dk_at dksX2_existing_1 12 rfl rfl)
theorem dX2_existing_38 : decode cX2_existing 38 = .ok (.aload_n 0, 1) := dk_42 (dk_at dksX2_existing_1 15 rfl rfl)
theorem dX2_existing_39 : decode cX2_existing 39 = .ok (.getfield 22, 3) := dk_180 0 22 (dk_at dksX2_existing_1 16 rfl rfl)
theorem dX2_existing_42 : decode cX2_existing 42 = .ok (.iload 4, 2) := dk_21 4 (dk_at dksX2_existing_1 19 rfl rfl)
theorem dX2_existing_44 : decode cX2_existing 44 = .ok (.iaload, 1) := dk_46 (dk_at dksX2_existing_1 21 rfl rfl)
theorem dX2_existing_45 : decode cX2_existing 45 = .ok (.iload_n 1, 1) := dk_27 (dk_at dksX2_existing_1 22 rfl rfl)
theorem dX2_existing_46 : decode cX2_existing 46 = .ok (.if_icmp .ne 23, 3) := dk_160 0 23 (dk_at dksX2_existing_2 0 rfl rfl)
theorem dX2_existing_49 : decode cX2_existing 49 = .ok (.iload_n 3, 1) := dk_29 (dk_at dksX2_existing_2 3 rfl rfl)
theorem dX2_existing_50 : decode cX2_existing 50 = .ok (.bipush 115, 2) := dk_16 115 (dk_at dksX2_existing_2 4 rfl rfl)
theorem dX2_existing_52 : decode cX2_existing 52 = .ok (.if_icmp .eq 14, 3) := dk_159 0 14 (dk_at dksX2_existing_2 6 rfl rfl)
theorem dX2_existing_55 : decode cX2_existing 55 = .ok (.aload_n 0, 1) := dk_42 (dk_at dksX2_existing_2 9 rfl rfl)
theorem dX2_existing_56 : decode cX2_existing 56 = .ok (.getfield 26, 3) := dk_180 0 26 (dk_at dksX2_existing_2 10 rfl rfl)
theorem dX2_existing_59 : decode cX2_existing 59 = .ok (.iload 4, 2) := dk_21 4 (dk_at dksX2_existing_2 13 rfl rfl)
theorem dX2_existing_61 : decode cX2_existing 61 = .ok (.iaload, 1) := dk_46 (dk_at dksX2_existing_2 15 rfl rfl)
theorem dX2_existing_62 : decode cX2_existing 62 = .ok (.iload_n 2, 1) := dk_28 (dk_at dksX2_existing_2 16 rfl rfl)
theorem dX2_existing_63 : decode cX2_existing 63 = .ok (.if_icmp .ne 6, 3) := dk_160 0 6 (dk_at dksX2_existing_2 17 rfl rfl)
theorem dX2_existing_66 : decode cX2_existing 66 = .ok (.iload 4, 2) := dk_21 4 (dk_at dksX2_existing_2 20 rfl rfl)
theorem dX2_existing_68 : decode cX2_existing 68 = .ok (.ireturn, 1) := dk_172 (dk_at dksX2_existing_2 22 rfl rfl)
theorem dX2_existing_69 : decode cX2_existing 69 = .ok (.iinc 4 1, 3) := dk_132 4 1 (dk_at dksX2_existing_3 0 rfl rfl)
theorem dX2_existing_72 : decode cX2_existing 72 = .ok (.goto (-59), 3) := dk_167 255 197 (dk_at dksX2_existing_3 3 rfl rfl)
theorem dX2_existing_75 : decode cX2_existing 75 = .ok (.iconst (-1), 1) := dk_2 (dk_at dksX2_existing_3 6 rfl rfl)
theorem dX2_existing_76 : decode cX2_existing 76 = .ok (.ireturn, 1) := dk_172 (dk_at dksX2_existing_3 7 rfl rfl)
abbrev cX2_get : ByteArray := prog_8_method_17_code
def yX2_get : MethodName := ⟨RX2, "get", "(II)I"⟩
def dkwX2_get_3 : List UInt8 := [42, 29, 28, 182, 0, 174, 172]
abbrev dktX2_get_3 : List UInt8 := dkwX2_get_3 ++ []
def dkwX2_get_2 : List UInt8 := [182, 0, 171, 54, 4, 21, 4, 2, 159, 0, 16, 42, 89, 180, 0, 64, 4, 96, 181, 0, 64, 21, 4, 172]
abbrev dktX2_get_2 : List UInt8 := dkwX2_get_2 ++ dktX2_get_3
def dkwX2_get_1 : List UInt8 := [167, 0, 4, 3, 8, 29, 184, 0, 133, 42, 89, 180, 0, 61, 4, 96, 181, 0, 61, 42, 29, 28]
abbrev dktX2_get_1 : List UInt8 := dkwX2_get_1 ++ dktX2_get_2
def dkwX2_get_0 : List UInt8 := [42, 180, 0, 12, 27, 182, 0, 168, 62, 42, 180, 0, 12, 180, 0, 71, 29, 51, 154, 0, 7, 4]
abbrev dktX2_get_0 : List UInt8 := dkwX2_get_0 ++ dktX2_get_1
theorem dksX2_get_0 : cX2_get.data.toList.drop 0 = dktX2_get_0 := by decide +kernel
theorem dksX2_get_1 : cX2_get.data.toList.drop 22 = dktX2_get_1 := dk_seg dksX2_get_0 22 rfl rfl
theorem dksX2_get_2 : cX2_get.data.toList.drop 44 = dktX2_get_2 := dk_seg dksX2_get_1 22 rfl rfl
theorem dksX2_get_3 : cX2_get.data.toList.drop 68 = dktX2_get_3 := dk_seg dksX2_get_2 24 rfl rfl
theorem dX2_get_0 : decode cX2_get 0 = .ok (.aload_n 0, 1) := dk_42 (dk_at dksX2_get_0 0 rfl rfl)
theorem dX2_get_1 : decode cX2_get 1 = .ok (.getfield 12, 3) := dk_180 0 12 (dk_at dksX2_get_0 1 rfl rfl)
theorem dX2_get_4 : decode cX2_get 4 = .ok (.iload_n 1, 1) := dk_27 (dk_at dksX2_get_0 4 rfl rfl)
theorem dX2_get_5 : decode cX2_get 5 = .ok (.invokevirtual 168, 3) := dk_182 0 168 (dk_at dksX2_get_0 5 rfl rfl)
theorem dX2_get_8 : decode cX2_get 8 = .ok (.istore_n 3, 1) := dk_62 (dk_at dksX2_get_0 8 rfl rfl)
theorem dX2_get_9 : decode cX2_get 9 = .ok (.aload_n 0, 1) := dk_42 (dk_at dksX2_get_0 9 rfl rfl)
theorem dX2_get_10 : decode cX2_get 10 = .ok (.getfield 12, 3) := dk_180 0 12 (dk_at dksX2_get_0 10 rfl rfl)
theorem dX2_get_13 : decode cX2_get 13 = .ok (.getfield 71, 3) := dk_180 0 71 (dk_at dksX2_get_0 13 rfl rfl)
theorem dX2_get_16 : decode cX2_get 16 = .ok (.iload_n 3, 1) := dk_29 (dk_at dksX2_get_0 16 rfl rfl)
theorem dX2_get_17 : decode cX2_get 17 = .ok (.baload, 1) := dk_51 (dk_at dksX2_get_0 17 rfl rfl)
theorem dX2_get_18 : decode cX2_get 18 = .ok (.ifCond .ne 7, 3) := dk_154 0 7 (dk_at dksX2_get_0 18 rfl rfl)
theorem dX2_get_21 : decode cX2_get 21 = .ok (.iconst 1, 1) := dk_4 (dk_at dksX2_get_0 21 rfl rfl)
theorem dX2_get_22 : decode cX2_get 22 = .ok (.goto 4, 3) := dk_167 0 4 (dk_at dksX2_get_1 0 rfl rfl)
theorem dX2_get_25 : decode cX2_get 25 = .ok (.iconst 0, 1) := dk_3 (dk_at dksX2_get_1 3 rfl rfl)
theorem dX2_get_26 : decode cX2_get 26 = .ok (.iconst 5, 1) := dk_8 (dk_at dksX2_get_1 4 rfl rfl)
theorem dX2_get_27 : decode cX2_get 27 = .ok (.iload_n 3, 1) := dk_29 (dk_at dksX2_get_1 5 rfl rfl)
theorem dX2_get_28 : decode cX2_get 28 = .ok (.invokestatic 133, 3) := dk_184 0 133 (dk_at dksX2_get_1 6 rfl rfl)
theorem dX2_get_31 : decode cX2_get 31 = .ok (.aload_n 0, 1) := dk_42 (dk_at dksX2_get_1 9 rfl rfl)
theorem dX2_get_32 : decode cX2_get 32 = .ok (.dup, 1) := dk_89 (dk_at dksX2_get_1 10 rfl rfl)
theorem dX2_get_33 : decode cX2_get 33 = .ok (.getfield 61, 3) := dk_180 0 61 (dk_at dksX2_get_1 11 rfl rfl)
theorem dX2_get_36 : decode cX2_get 36 = .ok (.iconst 1, 1) := dk_4 (dk_at dksX2_get_1 14 rfl rfl)
theorem dX2_get_37 : decode cX2_get 37 = .ok (.iadd, 1) := dk_96 (dk_at dksX2_get_1 15 rfl rfl)
theorem dX2_get_38 : decode cX2_get 38 = .ok (.putfield 61, 3) := dk_181 0 61 (dk_at dksX2_get_1 16 rfl rfl)
theorem dX2_get_41 : decode cX2_get 41 = .ok (.aload_n 0, 1) := dk_42 (dk_at dksX2_get_1 19 rfl rfl)
theorem dX2_get_42 : decode cX2_get 42 = .ok (.iload_n 3, 1) := dk_29 (dk_at dksX2_get_1 20 rfl rfl)
theorem dX2_get_43 : decode cX2_get 43 = .ok (.iload_n 2, 1) := dk_28 (dk_at dksX2_get_1 21 rfl rfl)
theorem dX2_get_44 : decode cX2_get 44 = .ok (.invokevirtual 171, 3) := dk_182 0 171 (dk_at dksX2_get_2 0 rfl rfl)
theorem dX2_get_47 : decode cX2_get 47 = .ok (.istore 4, 2) := dk_54 4 (dk_at dksX2_get_2 3 rfl rfl)
theorem dX2_get_49 : decode cX2_get 49 = .ok (.iload 4, 2) := dk_21 4 (dk_at dksX2_get_2 5 rfl rfl)
theorem dX2_get_51 : decode cX2_get 51 = .ok (.iconst (-1), 1) := dk_2 (dk_at dksX2_get_2 7 rfl rfl)
theorem dX2_get_52 : decode cX2_get 52 = .ok (.if_icmp .eq 16, 3) := dk_159 0 16 (dk_at dksX2_get_2 8 rfl rfl)
theorem dX2_get_55 : decode cX2_get 55 = .ok (.aload_n 0, 1) := dk_42 (dk_at dksX2_get_2 11 rfl rfl)
theorem dX2_get_56 : decode cX2_get 56 = .ok (.dup, 1) := dk_89 (dk_at dksX2_get_2 12 rfl rfl)
theorem dX2_get_57 : decode cX2_get 57 = .ok (.getfield 64, 3) := dk_180 0 64 (dk_at dksX2_get_2 13 rfl rfl)
theorem dX2_get_60 : decode cX2_get 60 = .ok (.iconst 1, 1) := dk_4 (dk_at dksX2_get_2 16 rfl rfl)
theorem dX2_get_61 : decode cX2_get 61 = .ok (.iadd, 1) := dk_96 (dk_at dksX2_get_2 17 rfl rfl)
theorem dX2_get_62 : decode cX2_get 62 = .ok (.putfield 64, 3) := dk_181 0 64 (dk_at dksX2_get_2 18 rfl rfl)
theorem dX2_get_65 : decode cX2_get 65 = .ok (.iload 4, 2) := dk_21 4 (dk_at dksX2_get_2 21 rfl rfl)
theorem dX2_get_67 : decode cX2_get 67 = .ok (.ireturn, 1) := dk_172 (dk_at dksX2_get_2 23 rfl rfl)
theorem dX2_get_68 : decode cX2_get 68 = .ok (.aload_n 0, 1) := dk_42 (dk_at dksX2_get_3 0 rfl rfl)
theorem dX2_get_69 : decode cX2_get 69 = .ok (.iload_n 3, 1) := dk_29 (dk_at dksX2_get_3 1 rfl rfl)
theorem dX2_get_70 : decode cX2_get 70 = .ok (.iload_n 2, 1) := dk_28 (dk_at dksX2_get_3 2 rfl rfl)
theorem dX2_get_71 : decode cX2_get 71 = .ok (.invokevirtual 174, 3) := dk_182 0 174 (dk_at dksX2_get_3 3 rfl rfl)
theorem dX2_get_74 : decode cX2_get 74 = .ok (.ireturn, 1) := dk_172 (dk_at dksX2_get_3 6 rfl rfl)
abbrev cX2_create : ByteArray := prog_8_method_18_code
def yX2_create : MethodName := ⟨RX2, "create", "(II)I"⟩
def dkwX2_create_10 : List UInt8 := [46, 133, 97, 181, 0, 67, 21, 5, 172]
abbrev dktX2_create_10 : List UInt8 := dkwX2_create_10 ++ []
def dkwX2_create_9 : List UInt8 := [21, 6, 96, 46, 79, 132, 6, 1, 167, 255, 203, 42, 89, 180, 0, 67, 42, 180, 0, 12, 180, 0, 109, 27]
abbrev dktX2_create_9 : List UInt8 := dkwX2_create_9 ++ dktX2_create_10
def dkwX2_create_8 : List UInt8 := [21, 6, 182, 0, 181, 79, 42, 180, 0, 38, 6, 21, 5, 104, 21, 6, 96, 42, 180, 0, 41, 21, 4]
abbrev dktX2_create_8 : List UInt8 := dkwX2_create_8 ++ dktX2_create_9
def dkwX2_create_7 : List UInt8 := [54, 6, 21, 6, 29, 162, 0, 53, 42, 180, 0, 35, 6, 21, 5, 104, 21, 6, 96, 42, 180, 0, 12, 27]
abbrev dktX2_create_7 : List UInt8 := dkwX2_create_7 ++ dktX2_create_8
def dkwX2_create_6 : List UInt8 := [180, 0, 26, 21, 5, 28, 79, 42, 180, 0, 29, 21, 5, 4, 84, 42, 180, 0, 32, 21, 5, 29, 79, 3]
abbrev dktX2_create_6 : List UInt8 := dkwX2_create_6 ++ dktX2_create_7
def dkwX2_create_5 : List UInt8 := [180, 0, 58, 54, 5, 42, 89, 180, 0, 58, 4, 96, 181, 0, 58, 42, 180, 0, 22, 21, 5, 27, 79, 42]
abbrev dktX2_create_5 : List UInt8 := dkwX2_create_5 ++ dktX2_create_6
def dkwX2_create_4 : List UInt8 := [42, 180, 0, 58, 17, 0, 160, 160, 0, 7, 4, 167, 0, 4, 3, 16, 6, 16, 60, 184, 0, 133, 42]
abbrev dktX2_create_4 : List UInt8 := dkwX2_create_4 ++ dktX2_create_5
def dkwX2_create_3 : List UInt8 := [182, 0, 181, 28, 182, 0, 184, 79, 132, 5, 1, 167, 255, 205, 42, 89, 180, 0, 44, 4, 100, 181, 0, 44]
abbrev dktX2_create_3 : List UInt8 := dkwX2_create_3 ++ dktX2_create_4
def dkwX2_create_2 : List UInt8 := [180, 0, 12, 27, 21, 5, 182, 0, 177, 153, 0, 7, 2, 167, 0, 18, 42, 42, 180, 0, 12, 27, 21, 5]
abbrev dktX2_create_2 : List UInt8 := dkwX2_create_2 ++ dktX2_create_3
def dkwX2_create_1 : List UInt8 := [96, 181, 0, 44, 3, 54, 5, 21, 5, 29, 162, 0, 51, 42, 180, 0, 41, 21, 4, 21, 5, 96, 42]
abbrev dktX2_create_1 : List UInt8 := dkwX2_create_1 ++ dktX2_create_2
def dkwX2_create_0 : List UInt8 := [42, 180, 0, 12, 180, 0, 112, 27, 46, 62, 6, 42, 180, 0, 44, 104, 54, 4, 42, 89, 180, 0, 44, 4]
abbrev dktX2_create_0 : List UInt8 := dkwX2_create_0 ++ dktX2_create_1
theorem dksX2_create_0 : cX2_create.data.toList.drop 0 = dktX2_create_0 := by decide +kernel
theorem dksX2_create_1 : cX2_create.data.toList.drop 24 = dktX2_create_1 := dk_seg dksX2_create_0 24 rfl rfl
theorem dksX2_create_2 : cX2_create.data.toList.drop 47 = dktX2_create_2 := dk_seg dksX2_create_1 23 rfl rfl
theorem dksX2_create_3 : cX2_create.data.toList.drop 71 = dktX2_create_3 := dk_seg dksX2_create_2 24 rfl rfl
theorem dksX2_create_4 : cX2_create.data.toList.drop 95 = dktX2_create_4 := dk_seg dksX2_create_3 24 rfl rfl
theorem dksX2_create_5 : cX2_create.data.toList.drop 118 = dktX2_create_5 := dk_seg dksX2_create_4 23 rfl rfl
theorem dksX2_create_6 : cX2_create.data.toList.drop 142 = dktX2_create_6 := dk_seg dksX2_create_5 24 rfl rfl
theorem dksX2_create_7 : cX2_create.data.toList.drop 166 = dktX2_create_7 := dk_seg dksX2_create_6 24 rfl rfl
theorem dksX2_create_8 : cX2_create.data.toList.drop 190 = dktX2_create_8 := dk_seg dksX2_create_7 24 rfl rfl
theorem dksX2_create_9 : cX2_create.data.toList.drop 213 = dktX2_create_9 := dk_seg dksX2_create_8 23 rfl rfl
theorem dksX2_create_10 : cX2_create.data.toList.drop 237 = dktX2_create_10 := dk_seg dksX2_create_9 24 rfl rfl
theorem dX2_create_0 : decode cX2_create 0 = .ok (.aload_n 0, 1) := dk_42 (dk_at dksX2_create_0 0 rfl rfl)
theorem dX2_create_1 : decode cX2_create 1 = .ok (.getfield 12, 3) := dk_180 0 12 (dk_at dksX2_create_0 1 rfl rfl)
theorem dX2_create_4 : decode cX2_create 4 = .ok (.getfield 112, 3) := dk_180 0 112 (dk_at dksX2_create_0 4 rfl rfl)
theorem dX2_create_7 : decode cX2_create 7 = .ok (.iload_n 1, 1) := dk_27 (dk_at dksX2_create_0 7 rfl rfl)
theorem dX2_create_8 : decode cX2_create 8 = .ok (.iaload, 1) := dk_46 (dk_at dksX2_create_0 8 rfl rfl)
theorem dX2_create_9 : decode cX2_create 9 = .ok (.istore_n 3, 1) := dk_62 (dk_at dksX2_create_0 9 rfl rfl)
theorem dX2_create_10 : decode cX2_create 10 = .ok (.iconst 3, 1) := dk_6 (dk_at dksX2_create_0 10 rfl rfl)
theorem dX2_create_11 : decode cX2_create 11 = .ok (.aload_n 0, 1) := dk_42 (dk_at dksX2_create_0 11 rfl rfl)
theorem dX2_create_12 : decode cX2_create 12 = .ok (.getfield 44, 3) := dk_180 0 44 (dk_at dksX2_create_0 12 rfl rfl)
theorem dX2_create_15 : decode cX2_create 15 = .ok (.imul, 1) := dk_104 (dk_at dksX2_create_0 15 rfl rfl)
theorem dX2_create_16 : decode cX2_create 16 = .ok (.istore 4, 2) := dk_54 4 (dk_at dksX2_create_0 16 rfl rfl)
theorem dX2_create_18 : decode cX2_create 18 = .ok (.aload_n 0, 1) := dk_42 (dk_at dksX2_create_0 18 rfl rfl)
theorem dX2_create_19 : decode cX2_create 19 = .ok (.dup, 1) := dk_89 (dk_at dksX2_create_0 19 rfl rfl)
theorem dX2_create_20 : decode cX2_create 20 = .ok (.getfield 44, 3) := dk_180 0 44 (dk_at dksX2_create_0 20 rfl rfl)
theorem dX2_create_23 : decode cX2_create 23 = .ok (.iconst 1, 1) := dk_4 (dk_at dksX2_create_0 23 rfl rfl)
theorem dX2_create_24 : decode cX2_create 24 = .ok (.iadd, 1) := dk_96 (dk_at dksX2_create_1 0 rfl rfl)
theorem dX2_create_25 : decode cX2_create 25 = .ok (.putfield 44, 3) := dk_181 0 44 (dk_at dksX2_create_1 1 rfl rfl)
theorem dX2_create_28 : decode cX2_create 28 = .ok (.iconst 0, 1) := dk_3 (dk_at dksX2_create_1 4 rfl rfl)
theorem dX2_create_29 : decode cX2_create 29 = .ok (.istore 5, 2) := dk_54 5 (dk_at dksX2_create_1 5 rfl rfl)
theorem dX2_create_31 : decode cX2_create 31 = .ok (.iload 5, 2) := dk_21 5 (dk_at dksX2_create_1 7 rfl rfl)
theorem dX2_create_33 : decode cX2_create 33 = .ok (.iload_n 3, 1) := dk_29 (dk_at dksX2_create_1 9 rfl rfl)
theorem dX2_create_34 : decode cX2_create 34 = .ok (.if_icmp .ge 51, 3) := dk_162 0 51 (dk_at dksX2_create_1 10 rfl rfl)
theorem dX2_create_37 : decode cX2_create 37 = .ok (.aload_n 0, 1) := dk_42 (dk_at dksX2_create_1 13 rfl rfl)
theorem dX2_create_38 : decode cX2_create 38 = .ok (.getfield 41, 3) := dk_180 0 41 (dk_at dksX2_create_1 14 rfl rfl)
theorem dX2_create_41 : decode cX2_create 41 = .ok (.iload 4, 2) := dk_21 4 (dk_at dksX2_create_1 17 rfl rfl)
theorem dX2_create_43 : decode cX2_create 43 = .ok (.iload 5, 2) := dk_21 5 (dk_at dksX2_create_1 19 rfl rfl)
theorem dX2_create_45 : decode cX2_create 45 = .ok (.iadd, 1) := dk_96 (dk_at dksX2_create_1 21 rfl rfl)
theorem dX2_create_46 : decode cX2_create 46 = .ok (.aload_n 0, 1) := dk_42 (dk_at dksX2_create_1 22 rfl rfl)
theorem dX2_create_47 : decode cX2_create 47 = .ok (.getfield 12, 3) := dk_180 0 12 (dk_at dksX2_create_2 0 rfl rfl)
theorem dX2_create_50 : decode cX2_create 50 = .ok (.iload_n 1, 1) := dk_27 (dk_at dksX2_create_2 3 rfl rfl)
theorem dX2_create_51 : decode cX2_create 51 = .ok (.iload 5, 2) := dk_21 5 (dk_at dksX2_create_2 4 rfl rfl)
theorem dX2_create_53 : decode cX2_create 53 = .ok (.invokevirtual 177, 3) := dk_182 0 177 (dk_at dksX2_create_2 6 rfl rfl)
theorem dX2_create_56 : decode cX2_create 56 = .ok (.ifCond .eq 7, 3) := dk_153 0 7 (dk_at dksX2_create_2 9 rfl rfl)
theorem dX2_create_59 : decode cX2_create 59 = .ok (.iconst (-1), 1) := dk_2 (dk_at dksX2_create_2 12 rfl rfl)
theorem dX2_create_60 : decode cX2_create 60 = .ok (.goto 18, 3) := dk_167 0 18 (dk_at dksX2_create_2 13 rfl rfl)
theorem dX2_create_63 : decode cX2_create 63 = .ok (.aload_n 0, 1) := dk_42 (dk_at dksX2_create_2 16 rfl rfl)
theorem dX2_create_64 : decode cX2_create 64 = .ok (.aload_n 0, 1) := dk_42 (dk_at dksX2_create_2 17 rfl rfl)
theorem dX2_create_65 : decode cX2_create 65 = .ok (.getfield 12, 3) := dk_180 0 12 (dk_at dksX2_create_2 18 rfl rfl)
theorem dX2_create_68 : decode cX2_create 68 = .ok (.iload_n 1, 1) := dk_27 (dk_at dksX2_create_2 21 rfl rfl)
theorem dX2_create_69 : decode cX2_create 69 = .ok (.iload 5, 2) := dk_21 5 (dk_at dksX2_create_2 22 rfl rfl)
theorem dX2_create_71 : decode cX2_create 71 = .ok (.invokevirtual 181, 3) := dk_182 0 181 (dk_at dksX2_create_3 0 rfl rfl)
theorem dX2_create_74 : decode cX2_create 74 = .ok (.iload_n 2, 1) := dk_28 (dk_at dksX2_create_3 3 rfl rfl)
theorem dX2_create_75 : decode cX2_create 75 = .ok (.invokevirtual 184, 3) := dk_182 0 184 (dk_at dksX2_create_3 4 rfl rfl)
theorem dX2_create_78 : decode cX2_create 78 = .ok (.iastore, 1) := dk_79 (dk_at dksX2_create_3 7 rfl rfl)
theorem dX2_create_79 : decode cX2_create 79 = .ok (.iinc 5 1, 3) := dk_132 5 1 (dk_at dksX2_create_3 8 rfl rfl)
theorem dX2_create_82 : decode cX2_create 82 = .ok (.goto (-51), 3) := dk_167 255 205 (dk_at dksX2_create_3 11 rfl rfl)
theorem dX2_create_85 : decode cX2_create 85 = .ok (.aload_n 0, 1) := dk_42 (dk_at dksX2_create_3 14 rfl rfl)
theorem dX2_create_86 : decode cX2_create 86 = .ok (.dup, 1) := dk_89 (dk_at dksX2_create_3 15 rfl rfl)
theorem dX2_create_87 : decode cX2_create 87 = .ok (.getfield 44, 3) := dk_180 0 44 (dk_at dksX2_create_3 16 rfl rfl)
theorem dX2_create_90 : decode cX2_create 90 = .ok (.iconst 1, 1) := dk_4 (dk_at dksX2_create_3 19 rfl rfl)
theorem dX2_create_91 : decode cX2_create 91 = .ok (.isub, 1) := dk_100 (dk_at dksX2_create_3 20 rfl rfl)
theorem dX2_create_92 : decode cX2_create 92 = .ok (.putfield 44, 3) := dk_181 0 44 (dk_at dksX2_create_3 21 rfl rfl)
theorem dX2_create_95 : decode cX2_create 95 = .ok (.aload_n 0, 1) := dk_42 (dk_at dksX2_create_4 0 rfl rfl)
theorem dX2_create_96 : decode cX2_create 96 = .ok (.getfield 58, 3) := dk_180 0 58 (dk_at dksX2_create_4 1 rfl rfl)
theorem dX2_create_99 : decode cX2_create 99 = .ok (.sipush 160, 3) := dk_17 0 160 (dk_at dksX2_create_4 4 rfl rfl)
theorem dX2_create_102 : decode cX2_create 102 = .ok (.if_icmp .ne 7, 3) := dk_160 0 7 (dk_at dksX2_create_4 7 rfl rfl)
theorem dX2_create_105 : decode cX2_create 105 = .ok (.iconst 1, 1) := dk_4 (dk_at dksX2_create_4 10 rfl rfl)
theorem dX2_create_106 : decode cX2_create 106 = .ok (.goto 4, 3) := dk_167 0 4 (dk_at dksX2_create_4 11 rfl rfl)
theorem dX2_create_109 : decode cX2_create 109 = .ok (.iconst 0, 1) := dk_3 (dk_at dksX2_create_4 14 rfl rfl)
theorem dX2_create_110 : decode cX2_create 110 = .ok (.bipush 6, 2) := dk_16 6 (dk_at dksX2_create_4 15 rfl rfl)
theorem dX2_create_112 : decode cX2_create 112 = .ok (.bipush 60, 2) := dk_16 60 (dk_at dksX2_create_4 17 rfl rfl)
theorem dX2_create_114 : decode cX2_create 114 = .ok (.invokestatic 133, 3) := dk_184 0 133 (dk_at dksX2_create_4 19 rfl rfl)
theorem dX2_create_117 : decode cX2_create 117 = .ok (.aload_n 0, 1) := dk_42 (dk_at dksX2_create_4 22 rfl rfl)
theorem dX2_create_118 : decode cX2_create 118 = .ok (.getfield 58, 3) := dk_180 0 58 (dk_at dksX2_create_5 0 rfl rfl)
theorem dX2_create_121 : decode cX2_create 121 = .ok (.istore 5, 2) := dk_54 5 (dk_at dksX2_create_5 3 rfl rfl)
theorem dX2_create_123 : decode cX2_create 123 = .ok (.aload_n 0, 1) := dk_42 (dk_at dksX2_create_5 5 rfl rfl)
theorem dX2_create_124 : decode cX2_create 124 = .ok (.dup, 1) := dk_89 (dk_at dksX2_create_5 6 rfl rfl)
theorem dX2_create_125 : decode cX2_create 125 = .ok (.getfield 58, 3) := dk_180 0 58 (dk_at dksX2_create_5 7 rfl rfl)
theorem dX2_create_128 : decode cX2_create 128 = .ok (.iconst 1, 1) := dk_4 (dk_at dksX2_create_5 10 rfl rfl)
theorem dX2_create_129 : decode cX2_create 129 = .ok (.iadd, 1) := dk_96 (dk_at dksX2_create_5 11 rfl rfl)
theorem dX2_create_130 : decode cX2_create 130 = .ok (.putfield 58, 3) := dk_181 0 58 (dk_at dksX2_create_5 12 rfl rfl)
theorem dX2_create_133 : decode cX2_create 133 = .ok (.aload_n 0, 1) := dk_42 (dk_at dksX2_create_5 15 rfl rfl)
theorem dX2_create_134 : decode cX2_create 134 = .ok (.getfield 22, 3) := dk_180 0 22 (dk_at dksX2_create_5 16 rfl rfl)
theorem dX2_create_137 : decode cX2_create 137 = .ok (.iload 5, 2) := dk_21 5 (dk_at dksX2_create_5 19 rfl rfl)
theorem dX2_create_139 : decode cX2_create 139 = .ok (.iload_n 1, 1) := dk_27 (dk_at dksX2_create_5 21 rfl rfl)
theorem dX2_create_140 : decode cX2_create 140 = .ok (.iastore, 1) := dk_79 (dk_at dksX2_create_5 22 rfl rfl)
theorem dX2_create_141 : decode cX2_create 141 = .ok (.aload_n 0, 1) := dk_42 (dk_at dksX2_create_5 23 rfl rfl)
theorem dX2_create_142 : decode cX2_create 142 = .ok (.getfield 26, 3) := dk_180 0 26 (dk_at dksX2_create_6 0 rfl rfl)
theorem dX2_create_145 : decode cX2_create 145 = .ok (.iload 5, 2) := dk_21 5 (dk_at dksX2_create_6 3 rfl rfl)
theorem dX2_create_147 : decode cX2_create 147 = .ok (.iload_n 2, 1) := dk_28 (dk_at dksX2_create_6 5 rfl rfl)
theorem dX2_create_148 : decode cX2_create 148 = .ok (.iastore, 1) := dk_79 (dk_at dksX2_create_6 6 rfl rfl)
theorem dX2_create_149 : decode cX2_create 149 = .ok (.aload_n 0, 1) := dk_42 (dk_at dksX2_create_6 7 rfl rfl)
theorem dX2_create_150 : decode cX2_create 150 = .ok (.getfield 29, 3) := dk_180 0 29 (dk_at dksX2_create_6 8 rfl rfl)
theorem dX2_create_153 : decode cX2_create 153 = .ok (.iload 5, 2) := dk_21 5 (dk_at dksX2_create_6 11 rfl rfl)
theorem dX2_create_155 : decode cX2_create 155 = .ok (.iconst 1, 1) := dk_4 (dk_at dksX2_create_6 13 rfl rfl)
theorem dX2_create_156 : decode cX2_create 156 = .ok (.bastore, 1) := dk_84 (dk_at dksX2_create_6 14 rfl rfl)
theorem dX2_create_157 : decode cX2_create 157 = .ok (.aload_n 0, 1) := dk_42 (dk_at dksX2_create_6 15 rfl rfl)
theorem dX2_create_158 : decode cX2_create 158 = .ok (.getfield 32, 3) := dk_180 0 32 (dk_at dksX2_create_6 16 rfl rfl)
theorem dX2_create_161 : decode cX2_create 161 = .ok (.iload 5, 2) := dk_21 5 (dk_at dksX2_create_6 19 rfl rfl)
theorem dX2_create_163 : decode cX2_create 163 = .ok (.iload_n 3, 1) := dk_29 (dk_at dksX2_create_6 21 rfl rfl)
theorem dX2_create_164 : decode cX2_create 164 = .ok (.iastore, 1) := dk_79 (dk_at dksX2_create_6 22 rfl rfl)
theorem dX2_create_165 : decode cX2_create 165 = .ok (.iconst 0, 1) := dk_3 (dk_at dksX2_create_6 23 rfl rfl)
theorem dX2_create_166 : decode cX2_create 166 = .ok (.istore 6, 2) := dk_54 6 (dk_at dksX2_create_7 0 rfl rfl)
theorem dX2_create_168 : decode cX2_create 168 = .ok (.iload 6, 2) := dk_21 6 (dk_at dksX2_create_7 2 rfl rfl)
theorem dX2_create_170 : decode cX2_create 170 = .ok (.iload_n 3, 1) := dk_29 (dk_at dksX2_create_7 4 rfl rfl)
theorem dX2_create_171 : decode cX2_create 171 = .ok (.if_icmp .ge 53, 3) := dk_162 0 53 (dk_at dksX2_create_7 5 rfl rfl)
theorem dX2_create_174 : decode cX2_create 174 = .ok (.aload_n 0, 1) := dk_42 (dk_at dksX2_create_7 8 rfl rfl)
theorem dX2_create_175 : decode cX2_create 175 = .ok (.getfield 35, 3) := dk_180 0 35 (dk_at dksX2_create_7 9 rfl rfl)
theorem dX2_create_178 : decode cX2_create 178 = .ok (.iconst 3, 1) := dk_6 (dk_at dksX2_create_7 12 rfl rfl)
theorem dX2_create_179 : decode cX2_create 179 = .ok (.iload 5, 2) := dk_21 5 (dk_at dksX2_create_7 13 rfl rfl)
theorem dX2_create_181 : decode cX2_create 181 = .ok (.imul, 1) := dk_104 (dk_at dksX2_create_7 15 rfl rfl)
theorem dX2_create_182 : decode cX2_create 182 = .ok (.iload 6, 2) := dk_21 6 (dk_at dksX2_create_7 16 rfl rfl)
theorem dX2_create_184 : decode cX2_create 184 = .ok (.iadd, 1) := dk_96 (dk_at dksX2_create_7 18 rfl rfl)
theorem dX2_create_185 : decode cX2_create 185 = .ok (.aload_n 0, 1) := dk_42 (dk_at dksX2_create_7 19 rfl rfl)
theorem dX2_create_186 : decode cX2_create 186 = .ok (.getfield 12, 3) := dk_180 0 12 (dk_at dksX2_create_7 20 rfl rfl)
theorem dX2_create_189 : decode cX2_create 189 = .ok (.iload_n 1, 1) := dk_27 (dk_at dksX2_create_7 23 rfl rfl)
theorem dX2_create_190 : decode cX2_create 190 = .ok (.iload 6, 2) := dk_21 6 (dk_at dksX2_create_8 0 rfl rfl)
theorem dX2_create_192 : decode cX2_create 192 = .ok (.invokevirtual 181, 3) := dk_182 0 181 (dk_at dksX2_create_8 2 rfl rfl)
theorem dX2_create_195 : decode cX2_create 195 = .ok (.iastore, 1) := dk_79 (dk_at dksX2_create_8 5 rfl rfl)
theorem dX2_create_196 : decode cX2_create 196 = .ok (.aload_n 0, 1) := dk_42 (dk_at dksX2_create_8 6 rfl rfl)
theorem dX2_create_197 : decode cX2_create 197 = .ok (.getfield 38, 3) := dk_180 0 38 (dk_at dksX2_create_8 7 rfl rfl)
theorem dX2_create_200 : decode cX2_create 200 = .ok (.iconst 3, 1) := dk_6 (dk_at dksX2_create_8 10 rfl rfl)
theorem dX2_create_201 : decode cX2_create 201 = .ok (.iload 5, 2) := dk_21 5 (dk_at dksX2_create_8 11 rfl rfl)
theorem dX2_create_203 : decode cX2_create 203 = .ok (.imul, 1) := dk_104 (dk_at dksX2_create_8 13 rfl rfl)
theorem dX2_create_204 : decode cX2_create 204 = .ok (.iload 6, 2) := dk_21 6 (dk_at dksX2_create_8 14 rfl rfl)
theorem dX2_create_206 : decode cX2_create 206 = .ok (.iadd, 1) := dk_96 (dk_at dksX2_create_8 16 rfl rfl)
theorem dX2_create_207 : decode cX2_create 207 = .ok (.aload_n 0, 1) := dk_42 (dk_at dksX2_create_8 17 rfl rfl)
theorem dX2_create_208 : decode cX2_create 208 = .ok (.getfield 41, 3) := dk_180 0 41 (dk_at dksX2_create_8 18 rfl rfl)
theorem dX2_create_211 : decode cX2_create 211 = .ok (.iload 4, 2) := dk_21 4 (dk_at dksX2_create_8 21 rfl rfl)
theorem dX2_create_213 : decode cX2_create 213 = .ok (.iload 6, 2) := dk_21 6 (dk_at dksX2_create_9 0 rfl rfl)
theorem dX2_create_215 : decode cX2_create 215 = .ok (.iadd, 1) := dk_96 (dk_at dksX2_create_9 2 rfl rfl)
theorem dX2_create_216 : decode cX2_create 216 = .ok (.iaload, 1) := dk_46 (dk_at dksX2_create_9 3 rfl rfl)
theorem dX2_create_217 : decode cX2_create 217 = .ok (.iastore, 1) := dk_79 (dk_at dksX2_create_9 4 rfl rfl)
theorem dX2_create_218 : decode cX2_create 218 = .ok (.iinc 6 1, 3) := dk_132 6 1 (dk_at dksX2_create_9 5 rfl rfl)
theorem dX2_create_221 : decode cX2_create 221 = .ok (.goto (-53), 3) := dk_167 255 203 (dk_at dksX2_create_9 8 rfl rfl)
theorem dX2_create_224 : decode cX2_create 224 = .ok (.aload_n 0, 1) := dk_42 (dk_at dksX2_create_9 11 rfl rfl)
theorem dX2_create_225 : decode cX2_create 225 = .ok (.dup, 1) := dk_89 (dk_at dksX2_create_9 12 rfl rfl)
theorem dX2_create_226 : decode cX2_create 226 = .ok (.getfield 67, 3) := dk_180 0 67 (dk_at dksX2_create_9 13 rfl rfl)
theorem dX2_create_229 : decode cX2_create 229 = .ok (.aload_n 0, 1) := dk_42 (dk_at dksX2_create_9 16 rfl rfl)
theorem dX2_create_230 : decode cX2_create 230 = .ok (.getfield 12, 3) := dk_180 0 12 (dk_at dksX2_create_9 17 rfl rfl)
theorem dX2_create_233 : decode cX2_create 233 = .ok (.getfield 109, 3) := dk_180 0 109 (dk_at dksX2_create_9 20 rfl rfl)
theorem dX2_create_236 : decode cX2_create 236 = .ok (.iload_n 1, 1) := dk_27 (dk_at dksX2_create_9 23 rfl rfl)
theorem dX2_create_237 : decode cX2_create 237 = .ok (.iaload, 1) := dk_46 (dk_at dksX2_create_10 0 rfl rfl)
theorem dX2_create_238 : decode cX2_create 238 = .ok (.i2l, 1) := dk_133 (dk_at dksX2_create_10 1 rfl rfl)
theorem dX2_create_239 : decode cX2_create 239 = .ok (.ladd, 1) := dk_97 (dk_at dksX2_create_10 2 rfl rfl)
theorem dX2_create_240 : decode cX2_create 240 = .ok (.putfield 67, 3) := dk_181 0 67 (dk_at dksX2_create_10 3 rfl rfl)
theorem dX2_create_243 : decode cX2_create 243 = .ok (.iload 5, 2) := dk_21 5 (dk_at dksX2_create_10 6 rfl rfl)
theorem dX2_create_245 : decode cX2_create 245 = .ok (.ireturn, 1) := dk_172 (dk_at dksX2_create_10 8 rfl rfl)
abbrev cX2_define : ByteArray := prog_8_method_7_code
def yX2_define : MethodName := ⟨RX2, "define", "(CCI)I"⟩
def dkwX2_define_4 : List UInt8 := [180, 0, 12, 180, 0, 112, 21, 4, 3, 79, 42, 180, 0, 12, 182, 0, 115, 172]
abbrev dktX2_define_4 : List UInt8 := dkwX2_define_4 ++ []
def dkwX2_define_3 : List UInt8 := [180, 0, 12, 180, 0, 105, 21, 4, 28, 85, 42, 180, 0, 12, 180, 0, 109, 21, 4, 29, 79, 42]
abbrev dktX2_define_3 : List UInt8 := dkwX2_define_3 ++ dktX2_define_4
def dkwX2_define_2 : List UInt8 := [154, 0, 7, 4, 167, 0, 4, 3, 184, 0, 102, 42, 180, 0, 12, 180, 0, 71, 21, 4, 4, 84, 42]
abbrev dktX2_define_2 : List UInt8 := dkwX2_define_2 ++ dktX2_define_3
def dkwX2_define_1 : List UInt8 := [4, 167, 0, 4, 3, 184, 0, 99, 27, 16, 97, 100, 54, 4, 42, 180, 0, 12, 180, 0, 71, 21, 4, 51]
abbrev dktX2_define_1 : List UInt8 := dkwX2_define_1 ++ dktX2_define_2
def dkwX2_define_0 : List UInt8 := [27, 184, 0, 93, 153, 0, 24, 28, 184, 0, 96, 153, 0, 17, 29, 4, 16, 20, 184, 0, 85, 153, 0, 7]
abbrev dktX2_define_0 : List UInt8 := dkwX2_define_0 ++ dktX2_define_1
theorem dksX2_define_0 : cX2_define.data.toList.drop 0 = dktX2_define_0 := by decide +kernel
theorem dksX2_define_1 : cX2_define.data.toList.drop 24 = dktX2_define_1 := dk_seg dksX2_define_0 24 rfl rfl
theorem dksX2_define_2 : cX2_define.data.toList.drop 48 = dktX2_define_2 := dk_seg dksX2_define_1 24 rfl rfl
theorem dksX2_define_3 : cX2_define.data.toList.drop 71 = dktX2_define_3 := dk_seg dksX2_define_2 23 rfl rfl
theorem dksX2_define_4 : cX2_define.data.toList.drop 93 = dktX2_define_4 := dk_seg dksX2_define_3 22 rfl rfl
theorem dX2_define_0 : decode cX2_define 0 = .ok (.iload_n 1, 1) := dk_27 (dk_at dksX2_define_0 0 rfl rfl)
theorem dX2_define_1 : decode cX2_define 1 = .ok (.invokestatic 93, 3) := dk_184 0 93 (dk_at dksX2_define_0 1 rfl rfl)
theorem dX2_define_4 : decode cX2_define 4 = .ok (.ifCond .eq 24, 3) := dk_153 0 24 (dk_at dksX2_define_0 4 rfl rfl)
theorem dX2_define_7 : decode cX2_define 7 = .ok (.iload_n 2, 1) := dk_28 (dk_at dksX2_define_0 7 rfl rfl)
theorem dX2_define_8 : decode cX2_define 8 = .ok (.invokestatic 96, 3) := dk_184 0 96 (dk_at dksX2_define_0 8 rfl rfl)
theorem dX2_define_11 : decode cX2_define 11 = .ok (.ifCond .eq 17, 3) := dk_153 0 17 (dk_at dksX2_define_0 11 rfl rfl)
theorem dX2_define_14 : decode cX2_define 14 = .ok (.iload_n 3, 1) := dk_29 (dk_at dksX2_define_0 14 rfl rfl)
theorem dX2_define_15 : decode cX2_define 15 = .ok (.iconst 1, 1) := dk_4 (dk_at dksX2_define_0 15 rfl rfl)
theorem dX2_define_16 : decode cX2_define 16 = .ok (.bipush 20, 2) := dk_16 20 (dk_at dksX2_define_0 16 rfl rfl)
theorem dX2_define_18 : decode cX2_define 18 = .ok (.invokestatic 85, 3) := dk_184 0 85 (dk_at dksX2_define_0 18 rfl rfl)
theorem dX2_define_21 : decode cX2_define 21 = .ok (.ifCond .eq 7, 3) := dk_153 0 7 (dk_at dksX2_define_0 21 rfl rfl)
theorem dX2_define_24 : decode cX2_define 24 = .ok (.iconst 1, 1) := dk_4 (dk_at dksX2_define_1 0 rfl rfl)
theorem dX2_define_25 : decode cX2_define 25 = .ok (.goto 4, 3) := dk_167 0 4 (dk_at dksX2_define_1 1 rfl rfl)
theorem dX2_define_28 : decode cX2_define 28 = .ok (.iconst 0, 1) := dk_3 (dk_at dksX2_define_1 4 rfl rfl)
theorem dX2_define_29 : decode cX2_define 29 = .ok (.invokestatic 99, 3) := dk_184 0 99 (dk_at dksX2_define_1 5 rfl rfl)
theorem dX2_define_32 : decode cX2_define 32 = .ok (.iload_n 1, 1) := dk_27 (dk_at dksX2_define_1 8 rfl rfl)
theorem dX2_define_33 : decode cX2_define 33 = .ok (.bipush 97, 2) := dk_16 97 (dk_at dksX2_define_1 9 rfl rfl)
theorem dX2_define_35 : decode cX2_define 35 = .ok (.isub, 1) := dk_100 (dk_at dksX2_define_1 11 rfl rfl)
theorem dX2_define_36 : decode cX2_define 36 = .ok (.istore 4, 2) := dk_54 4 (dk_at dksX2_define_1 12 rfl rfl)
theorem dX2_define_38 : decode cX2_define 38 = .ok (.aload_n 0, 1) := dk_42 (dk_at dksX2_define_1 14 rfl rfl)
theorem dX2_define_39 : decode cX2_define 39 = .ok (.getfield 12, 3) := dk_180 0 12 (dk_at dksX2_define_1 15 rfl rfl)
theorem dX2_define_42 : decode cX2_define 42 = .ok (.getfield 71, 3) := dk_180 0 71 (dk_at dksX2_define_1 18 rfl rfl)
theorem dX2_define_45 : decode cX2_define 45 = .ok (.iload 4, 2) := dk_21 4 (dk_at dksX2_define_1 21 rfl rfl)
theorem dX2_define_47 : decode cX2_define 47 = .ok (.baload, 1) := dk_51 (dk_at dksX2_define_1 23 rfl rfl)
theorem dX2_define_48 : decode cX2_define 48 = .ok (.ifCond .ne 7, 3) := dk_154 0 7 (dk_at dksX2_define_2 0 rfl rfl)
theorem dX2_define_51 : decode cX2_define 51 = .ok (.iconst 1, 1) := dk_4 (dk_at dksX2_define_2 3 rfl rfl)
theorem dX2_define_52 : decode cX2_define 52 = .ok (.goto 4, 3) := dk_167 0 4 (dk_at dksX2_define_2 4 rfl rfl)
theorem dX2_define_55 : decode cX2_define 55 = .ok (.iconst 0, 1) := dk_3 (dk_at dksX2_define_2 7 rfl rfl)
theorem dX2_define_56 : decode cX2_define 56 = .ok (.invokestatic 102, 3) := dk_184 0 102 (dk_at dksX2_define_2 8 rfl rfl)
theorem dX2_define_59 : decode cX2_define 59 = .ok (.aload_n 0, 1) := dk_42 (dk_at dksX2_define_2 11 rfl rfl)
theorem dX2_define_60 : decode cX2_define 60 = .ok (.getfield 12, 3) := dk_180 0 12 (dk_at dksX2_define_2 12 rfl rfl)
theorem dX2_define_63 : decode cX2_define 63 = .ok (.getfield 71, 3) := dk_180 0 71 (dk_at dksX2_define_2 15 rfl rfl)
theorem dX2_define_66 : decode cX2_define 66 = .ok (.iload 4, 2) := dk_21 4 (dk_at dksX2_define_2 18 rfl rfl)
theorem dX2_define_68 : decode cX2_define 68 = .ok (.iconst 1, 1) := dk_4 (dk_at dksX2_define_2 20 rfl rfl)
theorem dX2_define_69 : decode cX2_define 69 = .ok (.bastore, 1) := dk_84 (dk_at dksX2_define_2 21 rfl rfl)
theorem dX2_define_70 : decode cX2_define 70 = .ok (.aload_n 0, 1) := dk_42 (dk_at dksX2_define_2 22 rfl rfl)
theorem dX2_define_71 : decode cX2_define 71 = .ok (.getfield 12, 3) := dk_180 0 12 (dk_at dksX2_define_3 0 rfl rfl)
theorem dX2_define_74 : decode cX2_define 74 = .ok (.getfield 105, 3) := dk_180 0 105 (dk_at dksX2_define_3 3 rfl rfl)
theorem dX2_define_77 : decode cX2_define 77 = .ok (.iload 4, 2) := dk_21 4 (dk_at dksX2_define_3 6 rfl rfl)
theorem dX2_define_79 : decode cX2_define 79 = .ok (.iload_n 2, 1) := dk_28 (dk_at dksX2_define_3 8 rfl rfl)
theorem dX2_define_80 : decode cX2_define 80 = .ok (.castore, 1) := dk_85 (dk_at dksX2_define_3 9 rfl rfl)
theorem dX2_define_81 : decode cX2_define 81 = .ok (.aload_n 0, 1) := dk_42 (dk_at dksX2_define_3 10 rfl rfl)
theorem dX2_define_82 : decode cX2_define 82 = .ok (.getfield 12, 3) := dk_180 0 12 (dk_at dksX2_define_3 11 rfl rfl)
theorem dX2_define_85 : decode cX2_define 85 = .ok (.getfield 109, 3) := dk_180 0 109 (dk_at dksX2_define_3 14 rfl rfl)
theorem dX2_define_88 : decode cX2_define 88 = .ok (.iload 4, 2) := dk_21 4 (dk_at dksX2_define_3 17 rfl rfl)
theorem dX2_define_90 : decode cX2_define 90 = .ok (.iload_n 3, 1) := dk_29 (dk_at dksX2_define_3 19 rfl rfl)
theorem dX2_define_91 : decode cX2_define 91 = .ok (.iastore, 1) := dk_79 (dk_at dksX2_define_3 20 rfl rfl)
theorem dX2_define_92 : decode cX2_define 92 = .ok (.aload_n 0, 1) := dk_42 (dk_at dksX2_define_3 21 rfl rfl)
theorem dX2_define_93 : decode cX2_define 93 = .ok (.getfield 12, 3) := dk_180 0 12 (dk_at dksX2_define_4 0 rfl rfl)
theorem dX2_define_96 : decode cX2_define 96 = .ok (.getfield 112, 3) := dk_180 0 112 (dk_at dksX2_define_4 3 rfl rfl)
theorem dX2_define_99 : decode cX2_define 99 = .ok (.iload 4, 2) := dk_21 4 (dk_at dksX2_define_4 6 rfl rfl)
theorem dX2_define_101 : decode cX2_define 101 = .ok (.iconst 0, 1) := dk_3 (dk_at dksX2_define_4 8 rfl rfl)
theorem dX2_define_102 : decode cX2_define 102 = .ok (.iastore, 1) := dk_79 (dk_at dksX2_define_4 9 rfl rfl)
theorem dX2_define_103 : decode cX2_define 103 = .ok (.aload_n 0, 1) := dk_42 (dk_at dksX2_define_4 10 rfl rfl)
theorem dX2_define_104 : decode cX2_define 104 = .ok (.getfield 12, 3) := dk_180 0 12 (dk_at dksX2_define_4 11 rfl rfl)
theorem dX2_define_107 : decode cX2_define 107 = .ok (.invokevirtual 115, 3) := dk_182 0 115 (dk_at dksX2_define_4 14 rfl rfl)
theorem dX2_define_110 : decode cX2_define 110 = .ok (.ireturn, 1) := dk_172 (dk_at dksX2_define_4 17 rfl rfl)
abbrev cX2_dropRecipe : ByteArray := prog_8_method_9_code
def yX2_dropRecipe : MethodName := ⟨RX2, "dropRecipe", "(C)I"⟩
def dkwX2_dropRecipe_1 : List UInt8 := [184, 0, 102, 42, 180, 0, 12, 180, 0, 71, 28, 3, 84, 42, 180, 0, 12, 182, 0, 115, 172]
abbrev dktX2_dropRecipe_1 : List UInt8 := dkwX2_dropRecipe_1 ++ []
def dkwX2_dropRecipe_0 : List UInt8 := [27, 184, 0, 119, 61, 42, 28, 182, 0, 123, 42, 28, 182, 0, 126, 154, 0, 7, 4, 167, 0, 4, 3]
abbrev dktX2_dropRecipe_0 : List UInt8 := dkwX2_dropRecipe_0 ++ dktX2_dropRecipe_1
theorem dksX2_dropRecipe_0 : cX2_dropRecipe.data.toList.drop 0 = dktX2_dropRecipe_0 := by decide +kernel
theorem dksX2_dropRecipe_1 : cX2_dropRecipe.data.toList.drop 23 = dktX2_dropRecipe_1 := dk_seg dksX2_dropRecipe_0 23 rfl rfl
theorem dX2_dropRecipe_0 : decode cX2_dropRecipe 0 = .ok (.iload_n 1, 1) := dk_27 (dk_at dksX2_dropRecipe_0 0 rfl rfl)
theorem dX2_dropRecipe_1 : decode cX2_dropRecipe 1 = .ok (.invokestatic 119, 3) := dk_184 0 119 (dk_at dksX2_dropRecipe_0 1 rfl rfl)
theorem dX2_dropRecipe_4 : decode cX2_dropRecipe 4 = .ok (.istore_n 2, 1) := dk_61 (dk_at dksX2_dropRecipe_0 4 rfl rfl)
theorem dX2_dropRecipe_5 : decode cX2_dropRecipe 5 = .ok (.aload_n 0, 1) := dk_42 (dk_at dksX2_dropRecipe_0 5 rfl rfl)
theorem dX2_dropRecipe_6 : decode cX2_dropRecipe 6 = .ok (.iload_n 2, 1) := dk_28 (dk_at dksX2_dropRecipe_0 6 rfl rfl)
theorem dX2_dropRecipe_7 : decode cX2_dropRecipe 7 = .ok (.invokevirtual 123, 3) := dk_182 0 123 (dk_at dksX2_dropRecipe_0 7 rfl rfl)
theorem dX2_dropRecipe_10 : decode cX2_dropRecipe 10 = .ok (.aload_n 0, 1) := dk_42 (dk_at dksX2_dropRecipe_0 10 rfl rfl)
theorem dX2_dropRecipe_11 : decode cX2_dropRecipe 11 = .ok (.iload_n 2, 1) := dk_28 (dk_at dksX2_dropRecipe_0 11 rfl rfl)
theorem dX2_dropRecipe_12 : decode cX2_dropRecipe 12 = .ok (.invokevirtual 126, 3) := dk_182 0 126 (dk_at dksX2_dropRecipe_0 12 rfl rfl)
theorem dX2_dropRecipe_15 : decode cX2_dropRecipe 15 = .ok (.ifCond .ne 7, 3) := dk_154 0 7 (dk_at dksX2_dropRecipe_0 15 rfl rfl)
theorem dX2_dropRecipe_18 : decode cX2_dropRecipe 18 = .ok (.iconst 1, 1) := dk_4 (dk_at dksX2_dropRecipe_0 18 rfl rfl)
theorem dX2_dropRecipe_19 : decode cX2_dropRecipe 19 = .ok (.goto 4, 3) := dk_167 0 4 (dk_at dksX2_dropRecipe_0 19 rfl rfl)
theorem dX2_dropRecipe_22 : decode cX2_dropRecipe 22 = .ok (.iconst 0, 1) := dk_3 (dk_at dksX2_dropRecipe_0 22 rfl rfl)
theorem dX2_dropRecipe_23 : decode cX2_dropRecipe 23 = .ok (.invokestatic 102, 3) := dk_184 0 102 (dk_at dksX2_dropRecipe_1 0 rfl rfl)
theorem dX2_dropRecipe_26 : decode cX2_dropRecipe 26 = .ok (.aload_n 0, 1) := dk_42 (dk_at dksX2_dropRecipe_1 3 rfl rfl)
theorem dX2_dropRecipe_27 : decode cX2_dropRecipe 27 = .ok (.getfield 12, 3) := dk_180 0 12 (dk_at dksX2_dropRecipe_1 4 rfl rfl)
theorem dX2_dropRecipe_30 : decode cX2_dropRecipe 30 = .ok (.getfield 71, 3) := dk_180 0 71 (dk_at dksX2_dropRecipe_1 7 rfl rfl)
theorem dX2_dropRecipe_33 : decode cX2_dropRecipe 33 = .ok (.iload_n 2, 1) := dk_28 (dk_at dksX2_dropRecipe_1 10 rfl rfl)
theorem dX2_dropRecipe_34 : decode cX2_dropRecipe 34 = .ok (.iconst 0, 1) := dk_3 (dk_at dksX2_dropRecipe_1 11 rfl rfl)
theorem dX2_dropRecipe_35 : decode cX2_dropRecipe 35 = .ok (.bastore, 1) := dk_84 (dk_at dksX2_dropRecipe_1 12 rfl rfl)
theorem dX2_dropRecipe_36 : decode cX2_dropRecipe 36 = .ok (.aload_n 0, 1) := dk_42 (dk_at dksX2_dropRecipe_1 13 rfl rfl)
theorem dX2_dropRecipe_37 : decode cX2_dropRecipe 37 = .ok (.getfield 12, 3) := dk_180 0 12 (dk_at dksX2_dropRecipe_1 14 rfl rfl)
theorem dX2_dropRecipe_40 : decode cX2_dropRecipe 40 = .ok (.invokevirtual 115, 3) := dk_182 0 115 (dk_at dksX2_dropRecipe_1 17 rfl rfl)
theorem dX2_dropRecipe_43 : decode cX2_dropRecipe 43 = .ok (.ireturn, 1) := dk_172 (dk_at dksX2_dropRecipe_1 20 rfl rfl)
abbrev cX2_checkRecipe : ByteArray := prog_8_method_3_code
def yX2_checkRecipe : MethodName := ⟨RX2, "checkRecipe", "(I)V"⟩
def dkwX2_checkRecipe_0 : List UInt8 := [42, 180, 0, 12, 180, 0, 71, 27, 51, 184, 0, 74, 177]
abbrev dktX2_checkRecipe_0 : List UInt8 := dkwX2_checkRecipe_0 ++ []
theorem dksX2_checkRecipe_0 : cX2_checkRecipe.data.toList.drop 0 = dktX2_checkRecipe_0 := by decide +kernel
theorem dX2_checkRecipe_0 : decode cX2_checkRecipe 0 = .ok (.aload_n 0, 1) := dk_42 (dk_at dksX2_checkRecipe_0 0 rfl rfl)
theorem dX2_checkRecipe_1 : decode cX2_checkRecipe 1 = .ok (.getfield 12, 3) := dk_180 0 12 (dk_at dksX2_checkRecipe_0 1 rfl rfl)
theorem dX2_checkRecipe_4 : decode cX2_checkRecipe 4 = .ok (.getfield 71, 3) := dk_180 0 71 (dk_at dksX2_checkRecipe_0 4 rfl rfl)
theorem dX2_checkRecipe_7 : decode cX2_checkRecipe 7 = .ok (.iload_n 1, 1) := dk_27 (dk_at dksX2_checkRecipe_0 7 rfl rfl)
theorem dX2_checkRecipe_8 : decode cX2_checkRecipe 8 = .ok (.baload, 1) := dk_51 (dk_at dksX2_checkRecipe_0 8 rfl rfl)
theorem dX2_checkRecipe_9 : decode cX2_checkRecipe 9 = .ok (.invokestatic 74, 3) := dk_184 0 74 (dk_at dksX2_checkRecipe_0 9 rfl rfl)
theorem dX2_checkRecipe_12 : decode cX2_checkRecipe 12 = .ok (.return_, 1) := dk_177 (dk_at dksX2_checkRecipe_0 12 rfl rfl)
abbrev cX2_hasObjectOf : ByteArray := prog_8_method_8_code
def yX2_hasObjectOf : MethodName := ⟨RX2, "hasObjectOf", "(I)Z"⟩
def dkwX2_hasObjectOf_1 : List UInt8 := [180, 0, 22, 29, 46, 27, 160, 0, 7, 4, 167, 0, 4, 3, 128, 61, 132, 3, 1, 167, 255, 218, 28, 172]
abbrev dktX2_hasObjectOf_1 : List UInt8 := dkwX2_hasObjectOf_1 ++ []
def dkwX2_hasObjectOf_0 : List UInt8 := [3, 61, 3, 62, 29, 42, 180, 0, 58, 162, 0, 36, 28, 42, 180, 0, 29, 29, 51, 153, 0, 17, 42]
abbrev dktX2_hasObjectOf_0 : List UInt8 := dkwX2_hasObjectOf_0 ++ dktX2_hasObjectOf_1
theorem dksX2_hasObjectOf_0 : cX2_hasObjectOf.data.toList.drop 0 = dktX2_hasObjectOf_0 := by decide +kernel
theorem dksX2_hasObjectOf_1 : cX2_hasObjectOf.data.toList.drop 23 = dktX2_hasObjectOf_1 := dk_seg dksX2_hasObjectOf_0 23 rfl rfl
theorem dX2_hasObjectOf_0 : decode cX2_hasObjectOf 0 = .ok (.iconst 0, 1) := dk_3 (dk_at dksX2_hasObjectOf_0 0 rfl rfl)
theorem dX2_hasObjectOf_1 : decode cX2_hasObjectOf 1 = .ok (.istore_n 2, 1) := dk_61 (dk_at dksX2_hasObjectOf_0 1 rfl rfl)
theorem dX2_hasObjectOf_2 : decode cX2_hasObjectOf 2 = .ok (.iconst 0, 1) := dk_3 (dk_at dksX2_hasObjectOf_0 2 rfl rfl)
theorem dX2_hasObjectOf_3 : decode cX2_hasObjectOf 3 = .ok (.istore_n 3, 1) := dk_62 (dk_at dksX2_hasObjectOf_0 3 rfl rfl)
theorem dX2_hasObjectOf_4 : decode cX2_hasObjectOf 4 = .ok (.iload_n 3, 1) := dk_29 (dk_at dksX2_hasObjectOf_0 4 rfl rfl)
theorem dX2_hasObjectOf_5 : decode cX2_hasObjectOf 5 = .ok (.aload_n 0, 1) := dk_42 (dk_at dksX2_hasObjectOf_0 5 rfl rfl)
theorem dX2_hasObjectOf_6 : decode cX2_hasObjectOf 6 = .ok (.getfield 58, 3) := dk_180 0 58 (dk_at dksX2_hasObjectOf_0 6 rfl rfl)
theorem dX2_hasObjectOf_9 : decode cX2_hasObjectOf 9 = .ok (.if_icmp .ge 36, 3) := dk_162 0 36 (dk_at dksX2_hasObjectOf_0 9 rfl rfl)
theorem dX2_hasObjectOf_12 : decode cX2_hasObjectOf 12 = .ok (.iload_n 2, 1) := dk_28 (dk_at dksX2_hasObjectOf_0 12 rfl rfl)
theorem dX2_hasObjectOf_13 : decode cX2_hasObjectOf 13 = .ok (.aload_n 0, 1) := dk_42 (dk_at dksX2_hasObjectOf_0 13 rfl rfl)
theorem dX2_hasObjectOf_14 : decode cX2_hasObjectOf 14 = .ok (.getfield 29, 3) := dk_180 0 29 (dk_at dksX2_hasObjectOf_0 14 rfl rfl)
theorem dX2_hasObjectOf_17 : decode cX2_hasObjectOf 17 = .ok (.iload_n 3, 1) := dk_29 (dk_at dksX2_hasObjectOf_0 17 rfl rfl)
theorem dX2_hasObjectOf_18 : decode cX2_hasObjectOf 18 = .ok (.baload, 1) := dk_51 (dk_at dksX2_hasObjectOf_0 18 rfl rfl)
theorem dX2_hasObjectOf_19 : decode cX2_hasObjectOf 19 = .ok (.ifCond .eq 17, 3) := dk_153 0 17 (dk_at dksX2_hasObjectOf_0 19 rfl rfl)
theorem dX2_hasObjectOf_22 : decode cX2_hasObjectOf 22 = .ok (.aload_n 0, 1) := dk_42 (dk_at dksX2_hasObjectOf_0 22 rfl rfl)
theorem dX2_hasObjectOf_23 : decode cX2_hasObjectOf 23 = .ok (.getfield 22, 3) := dk_180 0 22 (dk_at dksX2_hasObjectOf_1 0 rfl rfl)
theorem dX2_hasObjectOf_26 : decode cX2_hasObjectOf 26 = .ok (.iload_n 3, 1) := dk_29 (dk_at dksX2_hasObjectOf_1 3 rfl rfl)
theorem dX2_hasObjectOf_27 : decode cX2_hasObjectOf 27 = .ok (.iaload, 1) := dk_46 (dk_at dksX2_hasObjectOf_1 4 rfl rfl)
theorem dX2_hasObjectOf_28 : decode cX2_hasObjectOf 28 = .ok (.iload_n 1, 1) := dk_27 (dk_at dksX2_hasObjectOf_1 5 rfl rfl)
theorem dX2_hasObjectOf_29 : decode cX2_hasObjectOf 29 = .ok (.if_icmp .ne 7, 3) := dk_160 0 7 (dk_at dksX2_hasObjectOf_1 6 rfl rfl)
theorem dX2_hasObjectOf_32 : decode cX2_hasObjectOf 32 = .ok (.iconst 1, 1) := dk_4 (dk_at dksX2_hasObjectOf_1 9 rfl rfl)
theorem dX2_hasObjectOf_33 : decode cX2_hasObjectOf 33 = .ok (.goto 4, 3) := dk_167 0 4 (dk_at dksX2_hasObjectOf_1 10 rfl rfl)
theorem dX2_hasObjectOf_36 : decode cX2_hasObjectOf 36 = .ok (.iconst 0, 1) := dk_3 (dk_at dksX2_hasObjectOf_1 13 rfl rfl)
theorem dX2_hasObjectOf_37 : decode cX2_hasObjectOf 37 = .ok (.ior, 1) := dk_128 (dk_at dksX2_hasObjectOf_1 14 rfl rfl)
theorem dX2_hasObjectOf_38 : decode cX2_hasObjectOf 38 = .ok (.istore_n 2, 1) := dk_61 (dk_at dksX2_hasObjectOf_1 15 rfl rfl)
theorem dX2_hasObjectOf_39 : decode cX2_hasObjectOf 39 = .ok (.iinc 3 1, 3) := dk_132 3 1 (dk_at dksX2_hasObjectOf_1 16 rfl rfl)
theorem dX2_hasObjectOf_42 : decode cX2_hasObjectOf 42 = .ok (.goto (-38), 3) := dk_167 255 218 (dk_at dksX2_hasObjectOf_1 19 rfl rfl)
theorem dX2_hasObjectOf_45 : decode cX2_hasObjectOf 45 = .ok (.iload_n 2, 1) := dk_28 (dk_at dksX2_hasObjectOf_1 22 rfl rfl)
theorem dX2_hasObjectOf_46 : decode cX2_hasObjectOf 46 = .ok (.ireturn, 1) := dk_172 (dk_at dksX2_hasObjectOf_1 23 rfl rfl)
abbrev cX2_addNeed : ByteArray := prog_8_method_10_code
def yX2_addNeed : MethodName := ⟨RX2, "addNeed", "(CCZ)I"⟩
def dkwX2_addNeed_4 : List UInt8 := [180, 0, 112, 21, 4, 46, 4, 100, 172]
abbrev dktX2_addNeed_4 : List UInt8 := dkwX2_addNeed_4 ++ []
def dkwX2_addNeed_3 : List UInt8 := [42, 180, 0, 12, 21, 4, 21, 5, 29, 182, 0, 137, 42, 180, 0, 12, 182, 0, 141, 42, 180, 0, 12]
abbrev dktX2_addNeed_3 : List UInt8 := dkwX2_addNeed_3 ++ dktX2_addNeed_4
def dkwX2_addNeed_2 : List UInt8 := [42, 180, 0, 12, 180, 0, 112, 21, 4, 46, 6, 160, 0, 7, 4, 167, 0, 4, 3, 5, 6, 184, 0, 133]
abbrev dktX2_addNeed_2 : List UInt8 := dkwX2_addNeed_2 ++ dktX2_addNeed_3
def dkwX2_addNeed_1 : List UInt8 := [21, 5, 182, 0, 129, 54, 6, 21, 6, 2, 159, 0, 7, 4, 167, 0, 4, 3, 4, 21, 6, 184, 0, 133]
abbrev dktX2_addNeed_1 : List UInt8 := dkwX2_addNeed_1 ++ dktX2_addNeed_2
def dkwX2_addNeed_0 : List UInt8 := [27, 184, 0, 119, 54, 4, 28, 184, 0, 119, 54, 5, 42, 21, 4, 182, 0, 123, 42, 180, 0, 12, 21, 4]
abbrev dktX2_addNeed_0 : List UInt8 := dkwX2_addNeed_0 ++ dktX2_addNeed_1
theorem dksX2_addNeed_0 : cX2_addNeed.data.toList.drop 0 = dktX2_addNeed_0 := by decide +kernel
theorem dksX2_addNeed_1 : cX2_addNeed.data.toList.drop 24 = dktX2_addNeed_1 := dk_seg dksX2_addNeed_0 24 rfl rfl
theorem dksX2_addNeed_2 : cX2_addNeed.data.toList.drop 48 = dktX2_addNeed_2 := dk_seg dksX2_addNeed_1 24 rfl rfl
theorem dksX2_addNeed_3 : cX2_addNeed.data.toList.drop 72 = dktX2_addNeed_3 := dk_seg dksX2_addNeed_2 24 rfl rfl
theorem dksX2_addNeed_4 : cX2_addNeed.data.toList.drop 95 = dktX2_addNeed_4 := dk_seg dksX2_addNeed_3 23 rfl rfl
theorem dX2_addNeed_0 : decode cX2_addNeed 0 = .ok (.iload_n 1, 1) := dk_27 (dk_at dksX2_addNeed_0 0 rfl rfl)
theorem dX2_addNeed_1 : decode cX2_addNeed 1 = .ok (.invokestatic 119, 3) := dk_184 0 119 (dk_at dksX2_addNeed_0 1 rfl rfl)
theorem dX2_addNeed_4 : decode cX2_addNeed 4 = .ok (.istore 4, 2) := dk_54 4 (dk_at dksX2_addNeed_0 4 rfl rfl)
theorem dX2_addNeed_6 : decode cX2_addNeed 6 = .ok (.iload_n 2, 1) := dk_28 (dk_at dksX2_addNeed_0 6 rfl rfl)
theorem dX2_addNeed_7 : decode cX2_addNeed 7 = .ok (.invokestatic 119, 3) := dk_184 0 119 (dk_at dksX2_addNeed_0 7 rfl rfl)
theorem dX2_addNeed_10 : decode cX2_addNeed 10 = .ok (.istore 5, 2) := dk_54 5 (dk_at dksX2_addNeed_0 10 rfl rfl)
theorem dX2_addNeed_12 : decode cX2_addNeed 12 = .ok (.aload_n 0, 1) := dk_42 (dk_at dksX2_addNeed_0 12 rfl rfl)
theorem dX2_addNeed_13 : decode cX2_addNeed 13 = .ok (.iload 4, 2) := dk_21 4 (dk_at dksX2_addNeed_0 13 rfl rfl)
theorem dX2_addNeed_15 : decode cX2_addNeed 15 = .ok (.invokevirtual 123, 3) := dk_182 0 123 (dk_at dksX2_addNeed_0 15 rfl rfl)
theorem dX2_addNeed_18 : decode cX2_addNeed 18 = .ok (.aload_n 0, 1) := dk_42 (dk_at dksX2_addNeed_0 18 rfl rfl)
theorem dX2_addNeed_19 : decode cX2_addNeed 19 = .ok (.getfield 12, 3) := dk_180 0 12 (dk_at dksX2_addNeed_0 19 rfl rfl)
theorem dX2_addNeed_22 : decode cX2_addNeed 22 = .ok (.iload 4, 2) := dk_21 4 (dk_at dksX2_addNeed_0 22 rfl rfl)
theorem dX2_addNeed_24 : decode cX2_addNeed 24 = .ok (.iload 5, 2) := dk_21 5 (dk_at dksX2_addNeed_1 0 rfl rfl)
theorem dX2_addNeed_26 : decode cX2_addNeed 26 = .ok (.invokevirtual 129, 3) := dk_182 0 129 (dk_at dksX2_addNeed_1 2 rfl rfl)
theorem dX2_addNeed_29 : decode cX2_addNeed 29 = .ok (.istore 6, 2) := dk_54 6 (dk_at dksX2_addNeed_1 5 rfl rfl)
theorem dX2_addNeed_31 : decode cX2_addNeed 31 = .ok (.iload 6, 2) := dk_21 6 (dk_at dksX2_addNeed_1 7 rfl rfl)
theorem dX2_addNeed_33 : decode cX2_addNeed 33 = .ok (.iconst (-1), 1) := dk_2 (dk_at dksX2_addNeed_1 9 rfl rfl)
theorem dX2_addNeed_34 : decode cX2_addNeed 34 = .ok (.if_icmp .eq 7, 3) := dk_159 0 7 (dk_at dksX2_addNeed_1 10 rfl rfl)
theorem dX2_addNeed_37 : decode cX2_addNeed 37 = .ok (.iconst 1, 1) := dk_4 (dk_at dksX2_addNeed_1 13 rfl rfl)
theorem dX2_addNeed_38 : decode cX2_addNeed 38 = .ok (.goto 4, 3) := dk_167 0 4 (dk_at dksX2_addNeed_1 14 rfl rfl)
theorem dX2_addNeed_41 : decode cX2_addNeed 41 = .ok (.iconst 0, 1) := dk_3 (dk_at dksX2_addNeed_1 17 rfl rfl)
theorem dX2_addNeed_42 : decode cX2_addNeed 42 = .ok (.iconst 1, 1) := dk_4 (dk_at dksX2_addNeed_1 18 rfl rfl)
theorem dX2_addNeed_43 : decode cX2_addNeed 43 = .ok (.iload 6, 2) := dk_21 6 (dk_at dksX2_addNeed_1 19 rfl rfl)
theorem dX2_addNeed_45 : decode cX2_addNeed 45 = .ok (.invokestatic 133, 3) := dk_184 0 133 (dk_at dksX2_addNeed_1 21 rfl rfl)
theorem dX2_addNeed_48 : decode cX2_addNeed 48 = .ok (.aload_n 0, 1) := dk_42 (dk_at dksX2_addNeed_2 0 rfl rfl)
theorem dX2_addNeed_49 : decode cX2_addNeed 49 = .ok (.getfield 12, 3) := dk_180 0 12 (dk_at dksX2_addNeed_2 1 rfl rfl)
theorem dX2_addNeed_52 : decode cX2_addNeed 52 = .ok (.getfield 112, 3) := dk_180 0 112 (dk_at dksX2_addNeed_2 4 rfl rfl)
theorem dX2_addNeed_55 : decode cX2_addNeed 55 = .ok (.iload 4, 2) := dk_21 4 (dk_at dksX2_addNeed_2 7 rfl rfl)
theorem dX2_addNeed_57 : decode cX2_addNeed 57 = .ok (.iaload, 1) := dk_46 (dk_at dksX2_addNeed_2 9 rfl rfl)
theorem dX2_addNeed_58 : decode cX2_addNeed 58 = .ok (.iconst 3, 1) := dk_6 (dk_at dksX2_addNeed_2 10 rfl rfl)
theorem dX2_addNeed_59 : decode cX2_addNeed 59 = .ok (.if_icmp .ne 7, 3) := dk_160 0 7 (dk_at dksX2_addNeed_2 11 rfl rfl)
theorem dX2_addNeed_62 : decode cX2_addNeed 62 = .ok (.iconst 1, 1) := dk_4 (dk_at dksX2_addNeed_2 14 rfl rfl)
theorem dX2_addNeed_63 : decode cX2_addNeed 63 = .ok (.goto 4, 3) := dk_167 0 4 (dk_at dksX2_addNeed_2 15 rfl rfl)
theorem dX2_addNeed_66 : decode cX2_addNeed 66 = .ok (.iconst 0, 1) := dk_3 (dk_at dksX2_addNeed_2 18 rfl rfl)
theorem dX2_addNeed_67 : decode cX2_addNeed 67 = .ok (.iconst 2, 1) := dk_5 (dk_at dksX2_addNeed_2 19 rfl rfl)
theorem dX2_addNeed_68 : decode cX2_addNeed 68 = .ok (.iconst 3, 1) := dk_6 (dk_at dksX2_addNeed_2 20 rfl rfl)
theorem dX2_addNeed_69 : decode cX2_addNeed 69 = .ok (.invokestatic 133, 3) := dk_184 0 133 (dk_at dksX2_addNeed_2 21 rfl rfl)
theorem dX2_addNeed_72 : decode cX2_addNeed 72 = .ok (.aload_n 0, 1) := dk_42 (dk_at dksX2_addNeed_3 0 rfl rfl)
theorem dX2_addNeed_73 : decode cX2_addNeed 73 = .ok (.getfield 12, 3) := dk_180 0 12 (dk_at dksX2_addNeed_3 1 rfl rfl)
theorem dX2_addNeed_76 : decode cX2_addNeed 76 = .ok (.iload 4, 2) := dk_21 4 (dk_at dksX2_addNeed_3 4 rfl rfl)
theorem dX2_addNeed_78 : decode cX2_addNeed 78 = .ok (.iload 5, 2) := dk_21 5 (dk_at dksX2_addNeed_3 6 rfl rfl)
theorem dX2_addNeed_80 : decode cX2_addNeed 80 = .ok (.iload_n 3, 1) := dk_29 (dk_at dksX2_addNeed_3 8 rfl rfl)
theorem dX2_addNeed_81 : decode cX2_addNeed 81 = .ok (.invokevirtual 137, 3) := dk_182 0 137 (dk_at dksX2_addNeed_3 9 rfl rfl)
theorem dX2_addNeed_84 : decode cX2_addNeed 84 = .ok (.aload_n 0, 1) := dk_42 (dk_at dksX2_addNeed_3 12 rfl rfl)
theorem dX2_addNeed_85 : decode cX2_addNeed 85 = .ok (.getfield 12, 3) := dk_180 0 12 (dk_at dksX2_addNeed_3 13 rfl rfl)
theorem dX2_addNeed_88 : decode cX2_addNeed 88 = .ok (.invokevirtual 141, 3) := dk_182 0 141 (dk_at dksX2_addNeed_3 16 rfl rfl)
theorem dX2_addNeed_91 : decode cX2_addNeed 91 = .ok (.aload_n 0, 1) := dk_42 (dk_at dksX2_addNeed_3 19 rfl rfl)
theorem dX2_addNeed_92 : decode cX2_addNeed 92 = .ok (.getfield 12, 3) := dk_180 0 12 (dk_at dksX2_addNeed_3 20 rfl rfl)
theorem dX2_addNeed_95 : decode cX2_addNeed 95 = .ok (.getfield 112, 3) := dk_180 0 112 (dk_at dksX2_addNeed_4 0 rfl rfl)
theorem dX2_addNeed_98 : decode cX2_addNeed 98 = .ok (.iload 4, 2) := dk_21 4 (dk_at dksX2_addNeed_4 3 rfl rfl)
theorem dX2_addNeed_100 : decode cX2_addNeed 100 = .ok (.iaload, 1) := dk_46 (dk_at dksX2_addNeed_4 5 rfl rfl)
theorem dX2_addNeed_101 : decode cX2_addNeed 101 = .ok (.iconst 1, 1) := dk_4 (dk_at dksX2_addNeed_4 6 rfl rfl)
theorem dX2_addNeed_102 : decode cX2_addNeed 102 = .ok (.isub, 1) := dk_100 (dk_at dksX2_addNeed_4 7 rfl rfl)
theorem dX2_addNeed_103 : decode cX2_addNeed 103 = .ok (.ireturn, 1) := dk_172 (dk_at dksX2_addNeed_4 8 rfl rfl)
abbrev cX2_removeNeed : ByteArray := prog_8_method_11_code
def yX2_removeNeed : MethodName := ⟨RX2, "removeNeed", "(CC)I"⟩
def dkwX2_removeNeed_1 : List UInt8 := [182, 0, 129, 184, 0, 144, 54, 5, 42, 180, 0, 12, 29, 21, 5, 182, 0, 148, 21, 5, 172]
abbrev dktX2_removeNeed_1 : List UInt8 := dkwX2_removeNeed_1 ++ []
def dkwX2_removeNeed_0 : List UInt8 := [27, 184, 0, 119, 62, 28, 184, 0, 119, 54, 4, 42, 29, 182, 0, 123, 42, 180, 0, 12, 29, 21, 4]
abbrev dktX2_removeNeed_0 : List UInt8 := dkwX2_removeNeed_0 ++ dktX2_removeNeed_1
theorem dksX2_removeNeed_0 : cX2_removeNeed.data.toList.drop 0 = dktX2_removeNeed_0 := by decide +kernel
theorem dksX2_removeNeed_1 : cX2_removeNeed.data.toList.drop 23 = dktX2_removeNeed_1 := dk_seg dksX2_removeNeed_0 23 rfl rfl
theorem dX2_removeNeed_0 : decode cX2_removeNeed 0 = .ok (.iload_n 1, 1) := dk_27 (dk_at dksX2_removeNeed_0 0 rfl rfl)
theorem dX2_removeNeed_1 : decode cX2_removeNeed 1 = .ok (.invokestatic 119, 3) := dk_184 0 119 (dk_at dksX2_removeNeed_0 1 rfl rfl)
theorem dX2_removeNeed_4 : decode cX2_removeNeed 4 = .ok (.istore_n 3, 1) := dk_62 (dk_at dksX2_removeNeed_0 4 rfl rfl)
theorem dX2_removeNeed_5 : decode cX2_removeNeed 5 = .ok (.iload_n 2, 1) := dk_28 (dk_at dksX2_removeNeed_0 5 rfl rfl)
theorem dX2_removeNeed_6 : decode cX2_removeNeed 6 = .ok (.invokestatic 119, 3) := dk_184 0 119 (dk_at dksX2_removeNeed_0 6 rfl rfl)
theorem dX2_removeNeed_9 : decode cX2_removeNeed 9 = .ok (.istore 4, 2) := dk_54 4 (dk_at dksX2_removeNeed_0 9 rfl rfl)
theorem dX2_removeNeed_11 : decode cX2_removeNeed 11 = .ok (.aload_n 0, 1) := dk_42 (dk_at dksX2_removeNeed_0 11 rfl rfl)
theorem dX2_removeNeed_12 : decode cX2_removeNeed 12 = .ok (.iload_n 3, 1) := dk_29 (dk_at dksX2_removeNeed_0 12 rfl rfl)
theorem dX2_removeNeed_13 : decode cX2_removeNeed 13 = .ok (.invokevirtual 123, 3) := dk_182 0 123 (dk_at dksX2_removeNeed_0 13 rfl rfl)
theorem dX2_removeNeed_16 : decode cX2_removeNeed 16 = .ok (.aload_n 0, 1) := dk_42 (dk_at dksX2_removeNeed_0 16 rfl rfl)
theorem dX2_removeNeed_17 : decode cX2_removeNeed 17 = .ok (.getfield 12, 3) := dk_180 0 12 (dk_at dksX2_removeNeed_0 17 rfl rfl)
theorem dX2_removeNeed_20 : decode cX2_removeNeed 20 = .ok (.iload_n 3, 1) := dk_29 (dk_at dksX2_removeNeed_0 20 rfl rfl)
theorem dX2_removeNeed_21 : decode cX2_removeNeed 21 = .ok (.iload 4, 2) := dk_21 4 (dk_at dksX2_removeNeed_0 21 rfl rfl)
theorem dX2_removeNeed_23 : decode cX2_removeNeed 23 = .ok (.invokevirtual 129, 3) := dk_182 0 129 (dk_at dksX2_removeNeed_1 0 rfl rfl)
theorem dX2_removeNeed_26 : decode cX2_removeNeed 26 = .ok (.invokestatic 144, 3) := dk_184 0 144 (dk_at dksX2_removeNeed_1 3 rfl rfl)
theorem dX2_removeNeed_29 : decode cX2_removeNeed 29 = .ok (.istore 5, 2) := dk_54 5 (dk_at dksX2_removeNeed_1 6 rfl rfl)
theorem dX2_removeNeed_31 : decode cX2_removeNeed 31 = .ok (.aload_n 0, 1) := dk_42 (dk_at dksX2_removeNeed_1 8 rfl rfl)
theorem dX2_removeNeed_32 : decode cX2_removeNeed 32 = .ok (.getfield 12, 3) := dk_180 0 12 (dk_at dksX2_removeNeed_1 9 rfl rfl)
theorem dX2_removeNeed_35 : decode cX2_removeNeed 35 = .ok (.iload_n 3, 1) := dk_29 (dk_at dksX2_removeNeed_1 12 rfl rfl)
theorem dX2_removeNeed_36 : decode cX2_removeNeed 36 = .ok (.iload 5, 2) := dk_21 5 (dk_at dksX2_removeNeed_1 13 rfl rfl)
theorem dX2_removeNeed_38 : decode cX2_removeNeed 38 = .ok (.invokevirtual 148, 3) := dk_182 0 148 (dk_at dksX2_removeNeed_1 15 rfl rfl)
theorem dX2_removeNeed_41 : decode cX2_removeNeed 41 = .ok (.iload 5, 2) := dk_21 5 (dk_at dksX2_removeNeed_1 18 rfl rfl)
theorem dX2_removeNeed_43 : decode cX2_removeNeed 43 = .ok (.ireturn, 1) := dk_172 (dk_at dksX2_removeNeed_1 20 rfl rfl)
abbrev cX2_replace : ByteArray := prog_8_method_12_code
def yX2_replace : MethodName := ⟨RX2, "replace", "(CC)I"⟩
def dkwX2_replace_3 : List UInt8 := [182, 0, 141, 42, 180, 0, 12, 182, 0, 158, 172]
abbrev dktX2_replace_3 : List UInt8 := dkwX2_replace_3 ++ []
def dkwX2_replace_2 : List UInt8 := [3, 7, 21, 5, 184, 0, 133, 42, 180, 0, 12, 180, 0, 155, 29, 21, 4, 79, 42, 180, 0, 12]
abbrev dktX2_replace_2 : List UInt8 := dkwX2_replace_2 ++ dktX2_replace_3
def dkwX2_replace_1 : List UInt8 := [184, 0, 99, 42, 180, 0, 12, 29, 21, 4, 182, 0, 152, 54, 5, 21, 5, 158, 0, 7, 4, 167, 0, 4]
abbrev dktX2_replace_1 : List UInt8 := dkwX2_replace_1 ++ dktX2_replace_2
def dkwX2_replace_0 : List UInt8 := [27, 184, 0, 119, 62, 28, 184, 0, 119, 54, 4, 29, 21, 4, 159, 0, 7, 4, 167, 0, 4, 3]
abbrev dktX2_replace_0 : List UInt8 := dkwX2_replace_0 ++ dktX2_replace_1
theorem dksX2_replace_0 : cX2_replace.data.toList.drop 0 = dktX2_replace_0 := by decide +kernel
theorem dksX2_replace_1 : cX2_replace.data.toList.drop 22 = dktX2_replace_1 := dk_seg dksX2_replace_0 22 rfl rfl
theorem dksX2_replace_2 : cX2_replace.data.toList.drop 46 = dktX2_replace_2 := dk_seg dksX2_replace_1 24 rfl rfl
theorem dksX2_replace_3 : cX2_replace.data.toList.drop 68 = dktX2_replace_3 := dk_seg dksX2_replace_2 22 rfl rfl
theorem dX2_replace_0 : decode cX2_replace 0 = .ok (.iload_n 1, 1) := dk_27 (dk_at dksX2_replace_0 0 rfl rfl)
theorem dX2_replace_1 : decode cX2_replace 1 = .ok (.invokestatic 119, 3) := dk_184 0 119 (dk_at dksX2_replace_0 1 rfl rfl)
theorem dX2_replace_4 : decode cX2_replace 4 = .ok (.istore_n 3, 1) := dk_62 (dk_at dksX2_replace_0 4 rfl rfl)
theorem dX2_replace_5 : decode cX2_replace 5 = .ok (.iload_n 2, 1) := dk_28 (dk_at dksX2_replace_0 5 rfl rfl)
theorem dX2_replace_6 : decode cX2_replace 6 = .ok (.invokestatic 119, 3) := dk_184 0 119 (dk_at dksX2_replace_0 6 rfl rfl)
theorem dX2_replace_9 : decode cX2_replace 9 = .ok (.istore 4, 2) := dk_54 4 (dk_at dksX2_replace_0 9 rfl rfl)
theorem dX2_replace_11 : decode cX2_replace 11 = .ok (.iload_n 3, 1) := dk_29 (dk_at dksX2_replace_0 11 rfl rfl)
theorem dX2_replace_12 : decode cX2_replace 12 = .ok (.iload 4, 2) := dk_21 4 (dk_at dksX2_replace_0 12 rfl rfl)
theorem dX2_replace_14 : decode cX2_replace 14 = .ok (.if_icmp .eq 7, 3) := dk_159 0 7 (dk_at dksX2_replace_0 14 rfl rfl)
theorem dX2_replace_17 : decode cX2_replace 17 = .ok (.iconst 1, 1) := dk_4 (dk_at dksX2_replace_0 17 rfl rfl)
theorem dX2_replace_18 : decode cX2_replace 18 = .ok (.goto 4, 3) := dk_167 0 4 (dk_at dksX2_replace_0 18 rfl rfl)
theorem dX2_replace_21 : decode cX2_replace 21 = .ok (.iconst 0, 1) := dk_3 (dk_at dksX2_replace_0 21 rfl rfl)
theorem dX2_replace_22 : decode cX2_replace 22 = .ok (.invokestatic 99, 3) := dk_184 0 99 (dk_at dksX2_replace_1 0 rfl rfl)
theorem dX2_replace_25 : decode cX2_replace 25 = .ok (.aload_n 0, 1) := dk_42 (dk_at dksX2_replace_1 3 rfl rfl)
theorem dX2_replace_26 : decode cX2_replace 26 = .ok (.getfield 12, 3) := dk_180 0 12 (dk_at dksX2_replace_1 4 rfl rfl)
theorem dX2_replace_29 : decode cX2_replace 29 = .ok (.iload_n 3, 1) := dk_29 (dk_at dksX2_replace_1 7 rfl rfl)
theorem dX2_replace_30 : decode cX2_replace 30 = .ok (.iload 4, 2) := dk_21 4 (dk_at dksX2_replace_1 8 rfl rfl)
theorem dX2_replace_32 : decode cX2_replace 32 = .ok (.invokevirtual 152, 3) := dk_182 0 152 (dk_at dksX2_replace_1 10 rfl rfl)
theorem dX2_replace_35 : decode cX2_replace 35 = .ok (.istore 5, 2) := dk_54 5 (dk_at dksX2_replace_1 13 rfl rfl)
theorem dX2_replace_37 : decode cX2_replace 37 = .ok (.iload 5, 2) := dk_21 5 (dk_at dksX2_replace_1 15 rfl rfl)
theorem dX2_replace_39 : decode cX2_replace 39 = .ok (.ifCond .le 7, 3) := dk_158 0 7 (dk_at dksX2_replace_1 17 rfl rfl)
theorem dX2_replace_42 : decode cX2_replace 42 = .ok (.iconst 1, 1) := dk_4 (dk_at dksX2_replace_1 20 rfl rfl)
theorem dX2_replace_43 : decode cX2_replace 43 = .ok (.goto 4, 3) := dk_167 0 4 (dk_at dksX2_replace_1 21 rfl rfl)
theorem dX2_replace_46 : decode cX2_replace 46 = .ok (.iconst 0, 1) := dk_3 (dk_at dksX2_replace_2 0 rfl rfl)
theorem dX2_replace_47 : decode cX2_replace 47 = .ok (.iconst 4, 1) := dk_7 (dk_at dksX2_replace_2 1 rfl rfl)
theorem dX2_replace_48 : decode cX2_replace 48 = .ok (.iload 5, 2) := dk_21 5 (dk_at dksX2_replace_2 2 rfl rfl)
theorem dX2_replace_50 : decode cX2_replace 50 = .ok (.invokestatic 133, 3) := dk_184 0 133 (dk_at dksX2_replace_2 4 rfl rfl)
theorem dX2_replace_53 : decode cX2_replace 53 = .ok (.aload_n 0, 1) := dk_42 (dk_at dksX2_replace_2 7 rfl rfl)
theorem dX2_replace_54 : decode cX2_replace 54 = .ok (.getfield 12, 3) := dk_180 0 12 (dk_at dksX2_replace_2 8 rfl rfl)
theorem dX2_replace_57 : decode cX2_replace 57 = .ok (.getfield 155, 3) := dk_180 0 155 (dk_at dksX2_replace_2 11 rfl rfl)
theorem dX2_replace_60 : decode cX2_replace 60 = .ok (.iload_n 3, 1) := dk_29 (dk_at dksX2_replace_2 14 rfl rfl)
theorem dX2_replace_61 : decode cX2_replace 61 = .ok (.iload 4, 2) := dk_21 4 (dk_at dksX2_replace_2 15 rfl rfl)
theorem dX2_replace_63 : decode cX2_replace 63 = .ok (.iastore, 1) := dk_79 (dk_at dksX2_replace_2 17 rfl rfl)
theorem dX2_replace_64 : decode cX2_replace 64 = .ok (.aload_n 0, 1) := dk_42 (dk_at dksX2_replace_2 18 rfl rfl)
theorem dX2_replace_65 : decode cX2_replace 65 = .ok (.getfield 12, 3) := dk_180 0 12 (dk_at dksX2_replace_2 19 rfl rfl)
theorem dX2_replace_68 : decode cX2_replace 68 = .ok (.invokevirtual 141, 3) := dk_182 0 141 (dk_at dksX2_replace_3 0 rfl rfl)
theorem dX2_replace_71 : decode cX2_replace 71 = .ok (.aload_n 0, 1) := dk_42 (dk_at dksX2_replace_3 3 rfl rfl)
theorem dX2_replace_72 : decode cX2_replace 72 = .ok (.getfield 12, 3) := dk_180 0 12 (dk_at dksX2_replace_3 4 rfl rfl)
theorem dX2_replace_75 : decode cX2_replace 75 = .ok (.invokevirtual 158, 3) := dk_182 0 158 (dk_at dksX2_replace_3 7 rfl rfl)
theorem dX2_replace_78 : decode cX2_replace 78 = .ok (.ireturn, 1) := dk_172 (dk_at dksX2_replace_3 10 rfl rfl)
abbrev cX2_putBack : ByteArray := prog_8_method_13_code
def yX2_putBack : MethodName := ⟨RX2, "putBack", "(C)C"⟩
def dkwX2_putBack_1 : List UInt8 := [180, 0, 155, 28, 2, 79, 42, 180, 0, 12, 182, 0, 141, 29, 184, 0, 161, 172]
abbrev dktX2_putBack_1 : List UInt8 := dkwX2_putBack_1 ++ []
def dkwX2_putBack_0 : List UInt8 := [27, 184, 0, 119, 61, 42, 180, 0, 12, 180, 0, 155, 28, 46, 184, 0, 144, 62, 42, 180, 0, 12]
abbrev dktX2_putBack_0 : List UInt8 := dkwX2_putBack_0 ++ dktX2_putBack_1
theorem dksX2_putBack_0 : cX2_putBack.data.toList.drop 0 = dktX2_putBack_0 := by decide +kernel
theorem dksX2_putBack_1 : cX2_putBack.data.toList.drop 22 = dktX2_putBack_1 := dk_seg dksX2_putBack_0 22 rfl rfl
theorem dX2_putBack_0 : decode cX2_putBack 0 = .ok (.iload_n 1, 1) := dk_27 (dk_at dksX2_putBack_0 0 rfl rfl)
theorem dX2_putBack_1 : decode cX2_putBack 1 = .ok (.invokestatic 119, 3) := dk_184 0 119 (dk_at dksX2_putBack_0 1 rfl rfl)
theorem dX2_putBack_4 : decode cX2_putBack 4 = .ok (.istore_n 2, 1) := dk_61 (dk_at dksX2_putBack_0 4 rfl rfl)
theorem dX2_putBack_5 : decode cX2_putBack 5 = .ok (.aload_n 0, 1) := dk_42 (dk_at dksX2_putBack_0 5 rfl rfl)
theorem dX2_putBack_6 : decode cX2_putBack 6 = .ok (.getfield 12, 3) := dk_180 0 12 (dk_at dksX2_putBack_0 6 rfl rfl)
theorem dX2_putBack_9 : decode cX2_putBack 9 = .ok (.getfield 155, 3) := dk_180 0 155 (dk_at dksX2_putBack_0 9 rfl rfl)
theorem dX2_putBack_12 : decode cX2_putBack 12 = .ok (.iload_n 2, 1) := dk_28 (dk_at dksX2_putBack_0 12 rfl rfl)
theorem dX2_putBack_13 : decode cX2_putBack 13 = .ok (.iaload, 1) := dk_46 (dk_at dksX2_putBack_0 13 rfl rfl)
theorem dX2_putBack_14 : decode cX2_putBack 14 = .ok (.invokestatic 144, 3) := dk_184 0 144 (dk_at dksX2_putBack_0 14 rfl rfl)
theorem dX2_putBack_17 : decode cX2_putBack 17 = .ok (.istore_n 3, 1) := dk_62 (dk_at dksX2_putBack_0 17 rfl rfl)
theorem dX2_putBack_18 : decode cX2_putBack 18 = .ok (.aload_n 0, 1) := dk_42 (dk_at dksX2_putBack_0 18 rfl rfl)
theorem dX2_putBack_19 : decode cX2_putBack 19 = .ok (.getfield 12, 3) := dk_180 0 12 (dk_at dksX2_putBack_0 19 rfl rfl)
theorem dX2_putBack_22 : decode cX2_putBack 22 = .ok (.getfield 155, 3) := dk_180 0 155 (dk_at dksX2_putBack_1 0 rfl rfl)
theorem dX2_putBack_25 : decode cX2_putBack 25 = .ok (.iload_n 2, 1) := dk_28 (dk_at dksX2_putBack_1 3 rfl rfl)
theorem dX2_putBack_26 : decode cX2_putBack 26 = .ok (.iconst (-1), 1) := dk_2 (dk_at dksX2_putBack_1 4 rfl rfl)
theorem dX2_putBack_27 : decode cX2_putBack 27 = .ok (.iastore, 1) := dk_79 (dk_at dksX2_putBack_1 5 rfl rfl)
theorem dX2_putBack_28 : decode cX2_putBack 28 = .ok (.aload_n 0, 1) := dk_42 (dk_at dksX2_putBack_1 6 rfl rfl)
theorem dX2_putBack_29 : decode cX2_putBack 29 = .ok (.getfield 12, 3) := dk_180 0 12 (dk_at dksX2_putBack_1 7 rfl rfl)
theorem dX2_putBack_32 : decode cX2_putBack 32 = .ok (.invokevirtual 141, 3) := dk_182 0 141 (dk_at dksX2_putBack_1 10 rfl rfl)
theorem dX2_putBack_35 : decode cX2_putBack 35 = .ok (.iload_n 3, 1) := dk_29 (dk_at dksX2_putBack_1 13 rfl rfl)
theorem dX2_putBack_36 : decode cX2_putBack 36 = .ok (.invokestatic 161, 3) := dk_184 0 161 (dk_at dksX2_putBack_1 14 rfl rfl)
theorem dX2_putBack_39 : decode cX2_putBack 39 = .ok (.ireturn, 1) := dk_172 (dk_at dksX2_putBack_1 17 rfl rfl)
abbrev cX2_openThread : ByteArray := prog_8_method_14_code
def yX2_openThread : MethodName := ⟨RX2, "openThread", "()I"⟩
def dkwX2_openThread_1 : List UInt8 := [162, 0, 7, 4, 167, 0, 4, 3, 184, 0, 102, 42, 180, 0, 18, 27, 4, 84, 27, 172]
abbrev dktX2_openThread_1 : List UInt8 := dkwX2_openThread_1 ++ []
def dkwX2_openThread_0 : List UInt8 := [3, 60, 27, 7, 162, 0, 18, 42, 180, 0, 18, 27, 51, 153, 0, 9, 132, 1, 1, 167, 255, 239, 27, 7]
abbrev dktX2_openThread_0 : List UInt8 := dkwX2_openThread_0 ++ dktX2_openThread_1
theorem dksX2_openThread_0 : cX2_openThread.data.toList.drop 0 = dktX2_openThread_0 := by decide +kernel
theorem dksX2_openThread_1 : cX2_openThread.data.toList.drop 24 = dktX2_openThread_1 := dk_seg dksX2_openThread_0 24 rfl rfl
theorem dX2_openThread_0 : decode cX2_openThread 0 = .ok (.iconst 0, 1) := dk_3 (dk_at dksX2_openThread_0 0 rfl rfl)
theorem dX2_openThread_1 : decode cX2_openThread 1 = .ok (.istore_n 1, 1) := dk_60 (dk_at dksX2_openThread_0 1 rfl rfl)
theorem dX2_openThread_2 : decode cX2_openThread 2 = .ok (.iload_n 1, 1) := dk_27 (dk_at dksX2_openThread_0 2 rfl rfl)
theorem dX2_openThread_3 : decode cX2_openThread 3 = .ok (.iconst 4, 1) := dk_7 (dk_at dksX2_openThread_0 3 rfl rfl)
theorem dX2_openThread_4 : decode cX2_openThread 4 = .ok (.if_icmp .ge 18, 3) := dk_162 0 18 (dk_at dksX2_openThread_0 4 rfl rfl)
theorem dX2_openThread_7 : decode cX2_openThread 7 = .ok (.aload_n 0, 1) := dk_42 (dk_at dksX2_openThread_0 7 rfl rfl)
theorem dX2_openThread_8 : decode cX2_openThread 8 = .ok (.getfield 18, 3) := dk_180 0 18 (dk_at dksX2_openThread_0 8 rfl rfl)
theorem dX2_openThread_11 : decode cX2_openThread 11 = .ok (.iload_n 1, 1) := dk_27 (dk_at dksX2_openThread_0 11 rfl rfl)
theorem dX2_openThread_12 : decode cX2_openThread 12 = .ok (.baload, 1) := dk_51 (dk_at dksX2_openThread_0 12 rfl rfl)
theorem dX2_openThread_13 : decode cX2_openThread 13 = .ok (.ifCond .eq 9, 3) := dk_153 0 9 (dk_at dksX2_openThread_0 13 rfl rfl)
theorem dX2_openThread_16 : decode cX2_openThread 16 = .ok (.iinc 1 1, 3) := dk_132 1 1 (dk_at dksX2_openThread_0 16 rfl rfl)
theorem dX2_openThread_19 : decode cX2_openThread 19 = .ok (.goto (-17), 3) := dk_167 255 239 (dk_at dksX2_openThread_0 19 rfl rfl)
theorem dX2_openThread_22 : decode cX2_openThread 22 = .ok (.iload_n 1, 1) := dk_27 (dk_at dksX2_openThread_0 22 rfl rfl)
theorem dX2_openThread_23 : decode cX2_openThread 23 = .ok (.iconst 4, 1) := dk_7 (dk_at dksX2_openThread_0 23 rfl rfl)
theorem dX2_openThread_24 : decode cX2_openThread 24 = .ok (.if_icmp .ge 7, 3) := dk_162 0 7 (dk_at dksX2_openThread_1 0 rfl rfl)
theorem dX2_openThread_27 : decode cX2_openThread 27 = .ok (.iconst 1, 1) := dk_4 (dk_at dksX2_openThread_1 3 rfl rfl)
theorem dX2_openThread_28 : decode cX2_openThread 28 = .ok (.goto 4, 3) := dk_167 0 4 (dk_at dksX2_openThread_1 4 rfl rfl)
theorem dX2_openThread_31 : decode cX2_openThread 31 = .ok (.iconst 0, 1) := dk_3 (dk_at dksX2_openThread_1 7 rfl rfl)
theorem dX2_openThread_32 : decode cX2_openThread 32 = .ok (.invokestatic 102, 3) := dk_184 0 102 (dk_at dksX2_openThread_1 8 rfl rfl)
theorem dX2_openThread_35 : decode cX2_openThread 35 = .ok (.aload_n 0, 1) := dk_42 (dk_at dksX2_openThread_1 11 rfl rfl)
theorem dX2_openThread_36 : decode cX2_openThread 36 = .ok (.getfield 18, 3) := dk_180 0 18 (dk_at dksX2_openThread_1 12 rfl rfl)
theorem dX2_openThread_39 : decode cX2_openThread 39 = .ok (.iload_n 1, 1) := dk_27 (dk_at dksX2_openThread_1 15 rfl rfl)
theorem dX2_openThread_40 : decode cX2_openThread 40 = .ok (.iconst 1, 1) := dk_4 (dk_at dksX2_openThread_1 16 rfl rfl)
theorem dX2_openThread_41 : decode cX2_openThread 41 = .ok (.bastore, 1) := dk_84 (dk_at dksX2_openThread_1 17 rfl rfl)
theorem dX2_openThread_42 : decode cX2_openThread 42 = .ok (.iload_n 1, 1) := dk_27 (dk_at dksX2_openThread_1 18 rfl rfl)
theorem dX2_openThread_43 : decode cX2_openThread 43 = .ok (.ireturn, 1) := dk_172 (dk_at dksX2_openThread_1 19 rfl rfl)
abbrev cX2_closeThread : ByteArray := prog_8_method_15_code
def yX2_closeThread : MethodName := ⟨RX2, "closeThread", "(I)I"⟩
def dkwX2_closeThread_3 : List UInt8 := [132, 2, 1, 132, 3, 1, 167, 255, 197, 28, 172]
abbrev dktX2_closeThread_3 : List UInt8 := dkwX2_closeThread_3 ++ []
def dkwX2_closeThread_2 : List UInt8 := [180, 0, 105, 42, 180, 0, 22, 29, 46, 52, 16, 115, 159, 0, 13, 42, 180, 0, 29, 29, 3, 84]
abbrev dktX2_closeThread_2 : List UInt8 := dkwX2_closeThread_2 ++ dktX2_closeThread_3
def dkwX2_closeThread_1 : List UInt8 := [42, 180, 0, 29, 29, 51, 153, 0, 42, 42, 180, 0, 26, 29, 46, 27, 160, 0, 32, 42, 180, 0, 12]
abbrev dktX2_closeThread_1 : List UInt8 := dkwX2_closeThread_1 ++ dktX2_closeThread_2
def dkwX2_closeThread_0 : List UInt8 := [42, 27, 182, 0, 165, 42, 180, 0, 18, 27, 3, 84, 3, 61, 3, 62, 29, 42, 180, 0, 58, 162, 0, 57]
abbrev dktX2_closeThread_0 : List UInt8 := dkwX2_closeThread_0 ++ dktX2_closeThread_1
theorem dksX2_closeThread_0 : cX2_closeThread.data.toList.drop 0 = dktX2_closeThread_0 := by decide +kernel
theorem dksX2_closeThread_1 : cX2_closeThread.data.toList.drop 24 = dktX2_closeThread_1 := dk_seg dksX2_closeThread_0 24 rfl rfl
theorem dksX2_closeThread_2 : cX2_closeThread.data.toList.drop 47 = dktX2_closeThread_2 := dk_seg dksX2_closeThread_1 23 rfl rfl
theorem dksX2_closeThread_3 : cX2_closeThread.data.toList.drop 69 = dktX2_closeThread_3 := dk_seg dksX2_closeThread_2 22 rfl rfl
theorem dX2_closeThread_0 : decode cX2_closeThread 0 = .ok (.aload_n 0, 1) := dk_42 (dk_at dksX2_closeThread_0 0 rfl rfl)
theorem dX2_closeThread_1 : decode cX2_closeThread 1 = .ok (.iload_n 1, 1) := dk_27 (dk_at dksX2_closeThread_0 1 rfl rfl)
theorem dX2_closeThread_2 : decode cX2_closeThread 2 = .ok (.invokevirtual 165, 3) := dk_182 0 165 (dk_at dksX2_closeThread_0 2 rfl rfl)
theorem dX2_closeThread_5 : decode cX2_closeThread 5 = .ok (.aload_n 0, 1) := dk_42 (dk_at dksX2_closeThread_0 5 rfl rfl)
theorem dX2_closeThread_6 : decode cX2_closeThread 6 = .ok (.getfield 18, 3) := dk_180 0 18 (dk_at dksX2_closeThread_0 6 rfl rfl)
theorem dX2_closeThread_9 : decode cX2_closeThread 9 = .ok (.iload_n 1, 1) := dk_27 (dk_at dksX2_closeThread_0 9 rfl rfl)
theorem dX2_closeThread_10 : decode cX2_closeThread 10 = .ok (.iconst 0, 1) := dk_3 (dk_at dksX2_closeThread_0 10 rfl rfl)
theorem dX2_closeThread_11 : decode cX2_closeThread 11 = .ok (.bastore, 1) := dk_84 (dk_at dksX2_closeThread_0 11 rfl rfl)
theorem dX2_closeThread_12 : decode cX2_closeThread 12 = .ok (.iconst 0, 1) := dk_3 (dk_at dksX2_closeThread_0 12 rfl rfl)
theorem dX2_closeThread_13 : decode cX2_closeThread 13 = .ok (.istore_n 2, 1) := dk_61 (dk_at dksX2_closeThread_0 13 rfl rfl)
theorem dX2_closeThread_14 : decode cX2_closeThread 14 = .ok (.iconst 0, 1) := dk_3 (dk_at dksX2_closeThread_0 14 rfl rfl)
theorem dX2_closeThread_15 : decode cX2_closeThread 15 = .ok (.istore_n 3, 1) := dk_62 (dk_at dksX2_closeThread_0 15 rfl rfl)
theorem dX2_closeThread_16 : decode cX2_closeThread 16 = .ok (.iload_n 3, 1) := dk_29 (dk_at dksX2_closeThread_0 16 rfl rfl)
theorem dX2_closeThread_17 : decode cX2_closeThread 17 = .ok (.aload_n 0, 1) := dk_42 (dk_at dksX2_closeThread_0 17 rfl rfl)
theorem dX2_closeThread_18 : decode cX2_closeThread 18 = .ok (.getfield 58, 3) := dk_180 0 58 (dk_at dksX2_closeThread_0 18 rfl rfl)
theorem dX2_closeThread_21 : decode cX2_closeThread 21 = .ok (.if_icmp .ge 57, 3) := dk_162 0 57 (dk_at dksX2_closeThread_0 21 rfl rfl)
theorem dX2_closeThread_24 : decode cX2_closeThread 24 = .ok (.aload_n 0, 1) := dk_42 (dk_at dksX2_closeThread_1 0 rfl rfl)
theorem dX2_closeThread_25 : decode cX2_closeThread 25 = .ok (.getfield 29, 3) := dk_180 0 29 (dk_at dksX2_closeThread_1 1 rfl rfl)
theorem dX2_closeThread_28 : decode cX2_closeThread 28 = .ok (.iload_n 3, 1) := dk_29 (dk_at dksX2_closeThread_1 4 rfl rfl)
theorem dX2_closeThread_29 : decode cX2_closeThread 29 = .ok (.baload, 1) := dk_51 (dk_at dksX2_closeThread_1 5 rfl rfl)
theorem dX2_closeThread_30 : decode cX2_closeThread 30 = .ok (.ifCond .eq 42, 3) := dk_153 0 42 (dk_at dksX2_closeThread_1 6 rfl rfl)
theorem dX2_closeThread_33 : decode cX2_closeThread 33 = .ok (.aload_n 0, 1) := dk_42 (dk_at dksX2_closeThread_1 9 rfl rfl)
theorem dX2_closeThread_34 : decode cX2_closeThread 34 = .ok (.getfield 26, 3) := dk_180 0 26 (dk_at dksX2_closeThread_1 10 rfl rfl)
theorem dX2_closeThread_37 : decode cX2_closeThread 37 = .ok (.iload_n 3, 1) := dk_29 (dk_at dksX2_closeThread_1 13 rfl rfl)
theorem dX2_closeThread_38 : decode cX2_closeThread 38 = .ok (.iaload, 1) := dk_46 (dk_at dksX2_closeThread_1 14 rfl rfl)
theorem dX2_closeThread_39 : decode cX2_closeThread 39 = .ok (.iload_n 1, 1) := dk_27 (dk_at dksX2_closeThread_1 15 rfl rfl)
theorem dX2_closeThread_40 : decode cX2_closeThread 40 = .ok (.if_icmp .ne 32, 3) := dk_160 0 32 (dk_at dksX2_closeThread_1 16 rfl rfl)
theorem dX2_closeThread_43 : decode cX2_closeThread 43 = .ok (.aload_n 0, 1) := dk_42 (dk_at dksX2_closeThread_1 19 rfl rfl)
theorem dX2_closeThread_44 : decode cX2_closeThread 44 = .ok (.getfield 12, 3) := dk_180 0 12 (dk_at dksX2_closeThread_1 20 rfl rfl)
theorem dX2_closeThread_47 : decode cX2_closeThread 47 = .ok (.getfield 105, 3) := dk_180 0 105 (dk_at dksX2_closeThread_2 0 rfl rfl)
theorem dX2_closeThread_50 : decode cX2_closeThread 50 = .ok (.aload_n 0, 1) := dk_42 (dk_at dksX2_closeThread_2 3 rfl rfl)
theorem dX2_closeThread_51 : decode cX2_closeThread 51 = .ok (.getfield 22, 3) := dk_180 0 22 (dk_at dksX2_closeThread_2 4 rfl rfl)
theorem dX2_closeThread_54 : decode cX2_closeThread 54 = .ok (.iload_n 3, 1) := dk_29 (dk_at dksX2_closeThread_2 7 rfl rfl)
theorem dX2_closeThread_55 : decode cX2_closeThread 55 = .ok (.iaload, 1) := dk_46 (dk_at dksX2_closeThread_2 8 rfl rfl)
theorem dX2_closeThread_56 : decode cX2_closeThread 56 = .ok (.caload, 1) := dk_52 (dk_at dksX2_closeThread_2 9 rfl rfl)
theorem dX2_closeThread_57 : decode cX2_closeThread 57 = .ok (.bipush 115, 2) := dk_16 115 (dk_at dksX2_closeThread_2 10 rfl rfl)
theorem dX2_closeThread_59 : decode cX2_closeThread 59 = .ok (.if_icmp .eq 13, 3) := dk_159 0 13 (dk_at dksX2_closeThread_2 12 rfl rfl)
theorem dX2_closeThread_62 : decode cX2_closeThread 62 = .ok (.aload_n 0, 1) := dk_42 (dk_at dksX2_closeThread_2 15 rfl rfl)
theorem dX2_closeThread_63 : decode cX2_closeThread 63 = .ok (.getfield 29, 3) := dk_180 0 29 (dk_at dksX2_closeThread_2 16 rfl rfl)
theorem dX2_closeThread_66 : decode cX2_closeThread 66 = .ok (.iload_n 3, 1) := dk_29 (dk_at dksX2_closeThread_2 19 rfl rfl)
theorem dX2_closeThread_67 : decode cX2_closeThread 67 = .ok (.iconst 0, 1) := dk_3 (dk_at dksX2_closeThread_2 20 rfl rfl)
theorem dX2_closeThread_68 : decode cX2_closeThread 68 = .ok (.bastore, 1) := dk_84 (dk_at dksX2_closeThread_2 21 rfl rfl)
theorem dX2_closeThread_69 : decode cX2_closeThread 69 = .ok (.iinc 2 1, 3) := dk_132 2 1 (dk_at dksX2_closeThread_3 0 rfl rfl)
theorem dX2_closeThread_72 : decode cX2_closeThread 72 = .ok (.iinc 3 1, 3) := dk_132 3 1 (dk_at dksX2_closeThread_3 3 rfl rfl)
theorem dX2_closeThread_75 : decode cX2_closeThread 75 = .ok (.goto (-59), 3) := dk_167 255 197 (dk_at dksX2_closeThread_3 6 rfl rfl)
theorem dX2_closeThread_78 : decode cX2_closeThread 78 = .ok (.iload_n 2, 1) := dk_28 (dk_at dksX2_closeThread_3 9 rfl rfl)
theorem dX2_closeThread_79 : decode cX2_closeThread 79 = .ok (.ireturn, 1) := dk_172 (dk_at dksX2_closeThread_3 10 rfl rfl)
abbrev cX2_checkThread : ByteArray := prog_8_method_4_code
def yX2_checkThread : MethodName := ⟨RX2, "checkThread", "(I)V"⟩
def dkwX2_checkThread_1 : List UInt8 := [177]
abbrev dktX2_checkThread_1 : List UInt8 := dkwX2_checkThread_1 ++ []
def dkwX2_checkThread_0 : List UInt8 := [27, 184, 0, 78, 153, 0, 16, 42, 180, 0, 18, 27, 51, 153, 0, 7, 4, 167, 0, 4, 3, 184, 0, 82]
abbrev dktX2_checkThread_0 : List UInt8 := dkwX2_checkThread_0 ++ dktX2_checkThread_1
theorem dksX2_checkThread_0 : cX2_checkThread.data.toList.drop 0 = dktX2_checkThread_0 := by decide +kernel
theorem dksX2_checkThread_1 : cX2_checkThread.data.toList.drop 24 = dktX2_checkThread_1 := dk_seg dksX2_checkThread_0 24 rfl rfl
theorem dX2_checkThread_0 : decode cX2_checkThread 0 = .ok (.iload_n 1, 1) := dk_27 (dk_at dksX2_checkThread_0 0 rfl rfl)
theorem dX2_checkThread_1 : decode cX2_checkThread 1 = .ok (.invokestatic 78, 3) := dk_184 0 78 (dk_at dksX2_checkThread_0 1 rfl rfl)
theorem dX2_checkThread_4 : decode cX2_checkThread 4 = .ok (.ifCond .eq 16, 3) := dk_153 0 16 (dk_at dksX2_checkThread_0 4 rfl rfl)
theorem dX2_checkThread_7 : decode cX2_checkThread 7 = .ok (.aload_n 0, 1) := dk_42 (dk_at dksX2_checkThread_0 7 rfl rfl)
theorem dX2_checkThread_8 : decode cX2_checkThread 8 = .ok (.getfield 18, 3) := dk_180 0 18 (dk_at dksX2_checkThread_0 8 rfl rfl)
theorem dX2_checkThread_11 : decode cX2_checkThread 11 = .ok (.iload_n 1, 1) := dk_27 (dk_at dksX2_checkThread_0 11 rfl rfl)
theorem dX2_checkThread_12 : decode cX2_checkThread 12 = .ok (.baload, 1) := dk_51 (dk_at dksX2_checkThread_0 12 rfl rfl)
theorem dX2_checkThread_13 : decode cX2_checkThread 13 = .ok (.ifCond .eq 7, 3) := dk_153 0 7 (dk_at dksX2_checkThread_0 13 rfl rfl)
theorem dX2_checkThread_16 : decode cX2_checkThread 16 = .ok (.iconst 1, 1) := dk_4 (dk_at dksX2_checkThread_0 16 rfl rfl)
theorem dX2_checkThread_17 : decode cX2_checkThread 17 = .ok (.goto 4, 3) := dk_167 0 4 (dk_at dksX2_checkThread_0 17 rfl rfl)
theorem dX2_checkThread_20 : decode cX2_checkThread 20 = .ok (.iconst 0, 1) := dk_3 (dk_at dksX2_checkThread_0 20 rfl rfl)
theorem dX2_checkThread_21 : decode cX2_checkThread 21 = .ok (.invokestatic 82, 3) := dk_184 0 82 (dk_at dksX2_checkThread_0 21 rfl rfl)
theorem dX2_checkThread_24 : decode cX2_checkThread 24 = .ok (.return_, 1) := dk_177 (dk_at dksX2_checkThread_1 0 rfl rfl)
abbrev cX2_make : ByteArray := prog_8_method_20_code
def yX2_make : MethodName := ⟨RX2, "make", "(CI)I"⟩
def dkwX2_make_0 : List UInt8 := [27, 184, 0, 119, 62, 42, 28, 182, 0, 165, 42, 29, 28, 182, 0, 195, 172]
abbrev dktX2_make_0 : List UInt8 := dkwX2_make_0 ++ []
theorem dksX2_make_0 : cX2_make.data.toList.drop 0 = dktX2_make_0 := by decide +kernel
theorem dX2_make_0 : decode cX2_make 0 = .ok (.iload_n 1, 1) := dk_27 (dk_at dksX2_make_0 0 rfl rfl)
theorem dX2_make_1 : decode cX2_make 1 = .ok (.invokestatic 119, 3) := dk_184 0 119 (dk_at dksX2_make_0 1 rfl rfl)
theorem dX2_make_4 : decode cX2_make 4 = .ok (.istore_n 3, 1) := dk_62 (dk_at dksX2_make_0 4 rfl rfl)
theorem dX2_make_5 : decode cX2_make 5 = .ok (.aload_n 0, 1) := dk_42 (dk_at dksX2_make_0 5 rfl rfl)
theorem dX2_make_6 : decode cX2_make 6 = .ok (.iload_n 2, 1) := dk_28 (dk_at dksX2_make_0 6 rfl rfl)
theorem dX2_make_7 : decode cX2_make 7 = .ok (.invokevirtual 165, 3) := dk_182 0 165 (dk_at dksX2_make_0 7 rfl rfl)
theorem dX2_make_10 : decode cX2_make 10 = .ok (.aload_n 0, 1) := dk_42 (dk_at dksX2_make_0 10 rfl rfl)
theorem dX2_make_11 : decode cX2_make 11 = .ok (.iload_n 3, 1) := dk_29 (dk_at dksX2_make_0 11 rfl rfl)
theorem dX2_make_12 : decode cX2_make 12 = .ok (.iload_n 2, 1) := dk_28 (dk_at dksX2_make_0 12 rfl rfl)
theorem dX2_make_13 : decode cX2_make 13 = .ok (.invokevirtual 195, 3) := dk_182 0 195 (dk_at dksX2_make_0 13 rfl rfl)
theorem dX2_make_16 : decode cX2_make 16 = .ok (.ireturn, 1) := dk_172 (dk_at dksX2_make_0 16 rfl rfl)
abbrev cX2_getOrRefuse : ByteArray := prog_8_method_19_code
def yX2_getOrRefuse : MethodName := ⟨RX2, "getOrRefuse", "(II)I"⟩
def dkwX2_getOrRefuse_2 : List UInt8 := [167, 0, 4, 3, 16, 6, 16, 60, 184, 0, 133, 21, 4, 172]
abbrev dktX2_getOrRefuse_2 : List UInt8 := dkwX2_getOrRefuse_2 ++ []
def dkwX2_getOrRefuse_1 : List UInt8 := [8, 29, 184, 0, 133, 42, 27, 28, 182, 0, 184, 54, 4, 42, 180, 0, 58, 16, 60, 164, 0, 7, 4]
abbrev dktX2_getOrRefuse_1 : List UInt8 := dkwX2_getOrRefuse_1 ++ dktX2_getOrRefuse_2
def dkwX2_getOrRefuse_0 : List UInt8 := [187, 0, 187, 89, 42, 28, 183, 0, 189, 27, 182, 0, 192, 62, 29, 2, 159, 0, 7, 4, 167, 0, 4, 3]
abbrev dktX2_getOrRefuse_0 : List UInt8 := dkwX2_getOrRefuse_0 ++ dktX2_getOrRefuse_1
theorem dksX2_getOrRefuse_0 : cX2_getOrRefuse.data.toList.drop 0 = dktX2_getOrRefuse_0 := by decide +kernel
theorem dksX2_getOrRefuse_1 : cX2_getOrRefuse.data.toList.drop 24 = dktX2_getOrRefuse_1 := dk_seg dksX2_getOrRefuse_0 24 rfl rfl
theorem dksX2_getOrRefuse_2 : cX2_getOrRefuse.data.toList.drop 47 = dktX2_getOrRefuse_2 := dk_seg dksX2_getOrRefuse_1 23 rfl rfl
theorem dX2_getOrRefuse_0 : decode cX2_getOrRefuse 0 = .ok (.new 187, 3) := dk_187 0 187 (dk_at dksX2_getOrRefuse_0 0 rfl rfl)
theorem dX2_getOrRefuse_3 : decode cX2_getOrRefuse 3 = .ok (.dup, 1) := dk_89 (dk_at dksX2_getOrRefuse_0 3 rfl rfl)
theorem dX2_getOrRefuse_4 : decode cX2_getOrRefuse 4 = .ok (.aload_n 0, 1) := dk_42 (dk_at dksX2_getOrRefuse_0 4 rfl rfl)
theorem dX2_getOrRefuse_5 : decode cX2_getOrRefuse 5 = .ok (.iload_n 2, 1) := dk_28 (dk_at dksX2_getOrRefuse_0 5 rfl rfl)
theorem dX2_getOrRefuse_6 : decode cX2_getOrRefuse 6 = .ok (.invokespecial 189, 3) := dk_183 0 189 (dk_at dksX2_getOrRefuse_0 6 rfl rfl)
theorem dX2_getOrRefuse_9 : decode cX2_getOrRefuse 9 = .ok (.iload_n 1, 1) := dk_27 (dk_at dksX2_getOrRefuse_0 9 rfl rfl)
theorem dX2_getOrRefuse_10 : decode cX2_getOrRefuse 10 = .ok (.invokevirtual 192, 3) := dk_182 0 192 (dk_at dksX2_getOrRefuse_0 10 rfl rfl)
theorem dX2_getOrRefuse_13 : decode cX2_getOrRefuse 13 = .ok (.istore_n 3, 1) := dk_62 (dk_at dksX2_getOrRefuse_0 13 rfl rfl)
theorem dX2_getOrRefuse_14 : decode cX2_getOrRefuse 14 = .ok (.iload_n 3, 1) := dk_29 (dk_at dksX2_getOrRefuse_0 14 rfl rfl)
theorem dX2_getOrRefuse_15 : decode cX2_getOrRefuse 15 = .ok (.iconst (-1), 1) := dk_2 (dk_at dksX2_getOrRefuse_0 15 rfl rfl)
theorem dX2_getOrRefuse_16 : decode cX2_getOrRefuse 16 = .ok (.if_icmp .eq 7, 3) := dk_159 0 7 (dk_at dksX2_getOrRefuse_0 16 rfl rfl)
theorem dX2_getOrRefuse_19 : decode cX2_getOrRefuse 19 = .ok (.iconst 1, 1) := dk_4 (dk_at dksX2_getOrRefuse_0 19 rfl rfl)
theorem dX2_getOrRefuse_20 : decode cX2_getOrRefuse 20 = .ok (.goto 4, 3) := dk_167 0 4 (dk_at dksX2_getOrRefuse_0 20 rfl rfl)
theorem dX2_getOrRefuse_23 : decode cX2_getOrRefuse 23 = .ok (.iconst 0, 1) := dk_3 (dk_at dksX2_getOrRefuse_0 23 rfl rfl)
theorem dX2_getOrRefuse_24 : decode cX2_getOrRefuse 24 = .ok (.iconst 5, 1) := dk_8 (dk_at dksX2_getOrRefuse_1 0 rfl rfl)
theorem dX2_getOrRefuse_25 : decode cX2_getOrRefuse 25 = .ok (.iload_n 3, 1) := dk_29 (dk_at dksX2_getOrRefuse_1 1 rfl rfl)
theorem dX2_getOrRefuse_26 : decode cX2_getOrRefuse 26 = .ok (.invokestatic 133, 3) := dk_184 0 133 (dk_at dksX2_getOrRefuse_1 2 rfl rfl)
theorem dX2_getOrRefuse_29 : decode cX2_getOrRefuse 29 = .ok (.aload_n 0, 1) := dk_42 (dk_at dksX2_getOrRefuse_1 5 rfl rfl)
theorem dX2_getOrRefuse_30 : decode cX2_getOrRefuse 30 = .ok (.iload_n 1, 1) := dk_27 (dk_at dksX2_getOrRefuse_1 6 rfl rfl)
theorem dX2_getOrRefuse_31 : decode cX2_getOrRefuse 31 = .ok (.iload_n 2, 1) := dk_28 (dk_at dksX2_getOrRefuse_1 7 rfl rfl)
theorem dX2_getOrRefuse_32 : decode cX2_getOrRefuse 32 = .ok (.invokevirtual 184, 3) := dk_182 0 184 (dk_at dksX2_getOrRefuse_1 8 rfl rfl)
theorem dX2_getOrRefuse_35 : decode cX2_getOrRefuse 35 = .ok (.istore 4, 2) := dk_54 4 (dk_at dksX2_getOrRefuse_1 11 rfl rfl)
theorem dX2_getOrRefuse_37 : decode cX2_getOrRefuse 37 = .ok (.aload_n 0, 1) := dk_42 (dk_at dksX2_getOrRefuse_1 13 rfl rfl)
theorem dX2_getOrRefuse_38 : decode cX2_getOrRefuse 38 = .ok (.getfield 58, 3) := dk_180 0 58 (dk_at dksX2_getOrRefuse_1 14 rfl rfl)
theorem dX2_getOrRefuse_41 : decode cX2_getOrRefuse 41 = .ok (.bipush 60, 2) := dk_16 60 (dk_at dksX2_getOrRefuse_1 17 rfl rfl)
theorem dX2_getOrRefuse_43 : decode cX2_getOrRefuse 43 = .ok (.if_icmp .le 7, 3) := dk_164 0 7 (dk_at dksX2_getOrRefuse_1 19 rfl rfl)
theorem dX2_getOrRefuse_46 : decode cX2_getOrRefuse 46 = .ok (.iconst 1, 1) := dk_4 (dk_at dksX2_getOrRefuse_1 22 rfl rfl)
theorem dX2_getOrRefuse_47 : decode cX2_getOrRefuse 47 = .ok (.goto 4, 3) := dk_167 0 4 (dk_at dksX2_getOrRefuse_2 0 rfl rfl)
theorem dX2_getOrRefuse_50 : decode cX2_getOrRefuse 50 = .ok (.iconst 0, 1) := dk_3 (dk_at dksX2_getOrRefuse_2 3 rfl rfl)
theorem dX2_getOrRefuse_51 : decode cX2_getOrRefuse 51 = .ok (.bipush 6, 2) := dk_16 6 (dk_at dksX2_getOrRefuse_2 4 rfl rfl)
theorem dX2_getOrRefuse_53 : decode cX2_getOrRefuse 53 = .ok (.bipush 60, 2) := dk_16 60 (dk_at dksX2_getOrRefuse_2 6 rfl rfl)
theorem dX2_getOrRefuse_55 : decode cX2_getOrRefuse 55 = .ok (.invokestatic 133, 3) := dk_184 0 133 (dk_at dksX2_getOrRefuse_2 8 rfl rfl)
theorem dX2_getOrRefuse_58 : decode cX2_getOrRefuse 58 = .ok (.iload 4, 2) := dk_21 4 (dk_at dksX2_getOrRefuse_2 11 rfl rfl)
theorem dX2_getOrRefuse_60 : decode cX2_getOrRefuse 60 = .ok (.ireturn, 1) := dk_172 (dk_at dksX2_getOrRefuse_2 13 rfl rfl)
abbrev cX2_touch : ByteArray := prog_8_method_21_code
def yX2_touch : MethodName := ⟨RX2, "touch", "(III)I"⟩
def dkwX2_touch_3 : List UInt8 := [21, 5, 172]
abbrev dktX2_touch_3 : List UInt8 := dkwX2_touch_3 ++ []
def dkwX2_touch_2 : List UInt8 := [27, 104, 28, 96, 46, 29, 182, 0, 195, 54, 5, 42, 180, 0, 38, 6, 27, 104, 28, 96, 21, 5, 79]
abbrev dktX2_touch_2 : List UInt8 := dkwX2_touch_2 ++ dktX2_touch_3
def dkwX2_touch_1 : List UInt8 := [21, 4, 2, 159, 0, 7, 4, 167, 0, 4, 3, 16, 7, 21, 4, 184, 0, 133, 42, 42, 180, 0, 35, 6]
abbrev dktX2_touch_1 : List UInt8 := dkwX2_touch_1 ++ dktX2_touch_2
def dkwX2_touch_0 : List UInt8 := [42, 27, 28, 182, 0, 198, 42, 29, 182, 0, 165, 42, 180, 0, 38, 6, 27, 104, 28, 96, 46, 54, 4]
abbrev dktX2_touch_0 : List UInt8 := dkwX2_touch_0 ++ dktX2_touch_1
theorem dksX2_touch_0 : cX2_touch.data.toList.drop 0 = dktX2_touch_0 := by decide +kernel
theorem dksX2_touch_1 : cX2_touch.data.toList.drop 23 = dktX2_touch_1 := dk_seg dksX2_touch_0 23 rfl rfl
theorem dksX2_touch_2 : cX2_touch.data.toList.drop 47 = dktX2_touch_2 := dk_seg dksX2_touch_1 24 rfl rfl
theorem dksX2_touch_3 : cX2_touch.data.toList.drop 70 = dktX2_touch_3 := dk_seg dksX2_touch_2 23 rfl rfl
theorem dX2_touch_0 : decode cX2_touch 0 = .ok (.aload_n 0, 1) := dk_42 (dk_at dksX2_touch_0 0 rfl rfl)
theorem dX2_touch_1 : decode cX2_touch 1 = .ok (.iload_n 1, 1) := dk_27 (dk_at dksX2_touch_0 1 rfl rfl)
theorem dX2_touch_2 : decode cX2_touch 2 = .ok (.iload_n 2, 1) := dk_28 (dk_at dksX2_touch_0 2 rfl rfl)
theorem dX2_touch_3 : decode cX2_touch 3 = .ok (.invokevirtual 198, 3) := dk_182 0 198 (dk_at dksX2_touch_0 3 rfl rfl)
theorem dX2_touch_6 : decode cX2_touch 6 = .ok (.aload_n 0, 1) := dk_42 (dk_at dksX2_touch_0 6 rfl rfl)
theorem dX2_touch_7 : decode cX2_touch 7 = .ok (.iload_n 3, 1) := dk_29 (dk_at dksX2_touch_0 7 rfl rfl)
theorem dX2_touch_8 : decode cX2_touch 8 = .ok (.invokevirtual 165, 3) := dk_182 0 165 (dk_at dksX2_touch_0 8 rfl rfl)
theorem dX2_touch_11 : decode cX2_touch 11 = .ok (.aload_n 0, 1) := dk_42 (dk_at dksX2_touch_0 11 rfl rfl)
theorem dX2_touch_12 : decode cX2_touch 12 = .ok (.getfield 38, 3) := dk_180 0 38 (dk_at dksX2_touch_0 12 rfl rfl)
theorem dX2_touch_15 : decode cX2_touch 15 = .ok (.iconst 3, 1) := dk_6 (dk_at dksX2_touch_0 15 rfl rfl)
theorem dX2_touch_16 : decode cX2_touch 16 = .ok (.iload_n 1, 1) := dk_27 (dk_at dksX2_touch_0 16 rfl rfl)
theorem dX2_touch_17 : decode cX2_touch 17 = .ok (.imul, 1) := dk_104 (dk_at dksX2_touch_0 17 rfl rfl)
theorem dX2_touch_18 : decode cX2_touch 18 = .ok (.iload_n 2, 1) := dk_28 (dk_at dksX2_touch_0 18 rfl rfl)
theorem dX2_touch_19 : decode cX2_touch 19 = .ok (.iadd, 1) := dk_96 (dk_at dksX2_touch_0 19 rfl rfl)
theorem dX2_touch_20 : decode cX2_touch 20 = .ok (.iaload, 1) := dk_46 (dk_at dksX2_touch_0 20 rfl rfl)
theorem dX2_touch_21 : decode cX2_touch 21 = .ok (.istore 4, 2) := dk_54 4 (dk_at dksX2_touch_0 21 rfl rfl)
theorem dX2_touch_23 : decode cX2_touch 23 = .ok (.iload 4, 2) := dk_21 4 (dk_at dksX2_touch_1 0 rfl rfl)
theorem dX2_touch_25 : decode cX2_touch 25 = .ok (.iconst (-1), 1) := dk_2 (dk_at dksX2_touch_1 2 rfl rfl)
theorem dX2_touch_26 : decode cX2_touch 26 = .ok (.if_icmp .eq 7, 3) := dk_159 0 7 (dk_at dksX2_touch_1 3 rfl rfl)
theorem dX2_touch_29 : decode cX2_touch 29 = .ok (.iconst 1, 1) := dk_4 (dk_at dksX2_touch_1 6 rfl rfl)
theorem dX2_touch_30 : decode cX2_touch 30 = .ok (.goto 4, 3) := dk_167 0 4 (dk_at dksX2_touch_1 7 rfl rfl)
theorem dX2_touch_33 : decode cX2_touch 33 = .ok (.iconst 0, 1) := dk_3 (dk_at dksX2_touch_1 10 rfl rfl)
theorem dX2_touch_34 : decode cX2_touch 34 = .ok (.bipush 7, 2) := dk_16 7 (dk_at dksX2_touch_1 11 rfl rfl)
theorem dX2_touch_36 : decode cX2_touch 36 = .ok (.iload 4, 2) := dk_21 4 (dk_at dksX2_touch_1 13 rfl rfl)
theorem dX2_touch_38 : decode cX2_touch 38 = .ok (.invokestatic 133, 3) := dk_184 0 133 (dk_at dksX2_touch_1 15 rfl rfl)
theorem dX2_touch_41 : decode cX2_touch 41 = .ok (.aload_n 0, 1) := dk_42 (dk_at dksX2_touch_1 18 rfl rfl)
theorem dX2_touch_42 : decode cX2_touch 42 = .ok (.aload_n 0, 1) := dk_42 (dk_at dksX2_touch_1 19 rfl rfl)
theorem dX2_touch_43 : decode cX2_touch 43 = .ok (.getfield 35, 3) := dk_180 0 35 (dk_at dksX2_touch_1 20 rfl rfl)
theorem dX2_touch_46 : decode cX2_touch 46 = .ok (.iconst 3, 1) := dk_6 (dk_at dksX2_touch_1 23 rfl rfl)
theorem dX2_touch_47 : decode cX2_touch 47 = .ok (.iload_n 1, 1) := dk_27 (dk_at dksX2_touch_2 0 rfl rfl)
theorem dX2_touch_48 : decode cX2_touch 48 = .ok (.imul, 1) := dk_104 (dk_at dksX2_touch_2 1 rfl rfl)
theorem dX2_touch_49 : decode cX2_touch 49 = .ok (.iload_n 2, 1) := dk_28 (dk_at dksX2_touch_2 2 rfl rfl)
theorem dX2_touch_50 : decode cX2_touch 50 = .ok (.iadd, 1) := dk_96 (dk_at dksX2_touch_2 3 rfl rfl)
theorem dX2_touch_51 : decode cX2_touch 51 = .ok (.iaload, 1) := dk_46 (dk_at dksX2_touch_2 4 rfl rfl)
theorem dX2_touch_52 : decode cX2_touch 52 = .ok (.iload_n 3, 1) := dk_29 (dk_at dksX2_touch_2 5 rfl rfl)
theorem dX2_touch_53 : decode cX2_touch 53 = .ok (.invokevirtual 195, 3) := dk_182 0 195 (dk_at dksX2_touch_2 6 rfl rfl)
theorem dX2_touch_56 : decode cX2_touch 56 = .ok (.istore 5, 2) := dk_54 5 (dk_at dksX2_touch_2 9 rfl rfl)
theorem dX2_touch_58 : decode cX2_touch 58 = .ok (.aload_n 0, 1) := dk_42 (dk_at dksX2_touch_2 11 rfl rfl)
theorem dX2_touch_59 : decode cX2_touch 59 = .ok (.getfield 38, 3) := dk_180 0 38 (dk_at dksX2_touch_2 12 rfl rfl)
theorem dX2_touch_62 : decode cX2_touch 62 = .ok (.iconst 3, 1) := dk_6 (dk_at dksX2_touch_2 15 rfl rfl)
theorem dX2_touch_63 : decode cX2_touch 63 = .ok (.iload_n 1, 1) := dk_27 (dk_at dksX2_touch_2 16 rfl rfl)
theorem dX2_touch_64 : decode cX2_touch 64 = .ok (.imul, 1) := dk_104 (dk_at dksX2_touch_2 17 rfl rfl)
theorem dX2_touch_65 : decode cX2_touch 65 = .ok (.iload_n 2, 1) := dk_28 (dk_at dksX2_touch_2 18 rfl rfl)
theorem dX2_touch_66 : decode cX2_touch 66 = .ok (.iadd, 1) := dk_96 (dk_at dksX2_touch_2 19 rfl rfl)
theorem dX2_touch_67 : decode cX2_touch 67 = .ok (.iload 5, 2) := dk_21 5 (dk_at dksX2_touch_2 20 rfl rfl)
theorem dX2_touch_69 : decode cX2_touch 69 = .ok (.iastore, 1) := dk_79 (dk_at dksX2_touch_2 22 rfl rfl)
theorem dX2_touch_70 : decode cX2_touch 70 = .ok (.iload 5, 2) := dk_21 5 (dk_at dksX2_touch_3 0 rfl rfl)
theorem dX2_touch_72 : decode cX2_touch 72 = .ok (.ireturn, 1) := dk_172 (dk_at dksX2_touch_3 2 rfl rfl)
abbrev cX2_checkNeed : ByteArray := prog_8_method_6_code
def yX2_checkNeed : MethodName := ⟨RX2, "checkNeed", "(II)V"⟩
def dkwX2_checkNeed_0 : List UInt8 := [42, 27, 182, 0, 89, 28, 3, 42, 180, 0, 32, 27, 46, 4, 100, 184, 0, 85, 184, 0, 82, 177]
abbrev dktX2_checkNeed_0 : List UInt8 := dkwX2_checkNeed_0 ++ []
theorem dksX2_checkNeed_0 : cX2_checkNeed.data.toList.drop 0 = dktX2_checkNeed_0 := by decide +kernel
theorem dX2_checkNeed_0 : decode cX2_checkNeed 0 = .ok (.aload_n 0, 1) := dk_42 (dk_at dksX2_checkNeed_0 0 rfl rfl)
theorem dX2_checkNeed_1 : decode cX2_checkNeed 1 = .ok (.iload_n 1, 1) := dk_27 (dk_at dksX2_checkNeed_0 1 rfl rfl)
theorem dX2_checkNeed_2 : decode cX2_checkNeed 2 = .ok (.invokevirtual 89, 3) := dk_182 0 89 (dk_at dksX2_checkNeed_0 2 rfl rfl)
theorem dX2_checkNeed_5 : decode cX2_checkNeed 5 = .ok (.iload_n 2, 1) := dk_28 (dk_at dksX2_checkNeed_0 5 rfl rfl)
theorem dX2_checkNeed_6 : decode cX2_checkNeed 6 = .ok (.iconst 0, 1) := dk_3 (dk_at dksX2_checkNeed_0 6 rfl rfl)
theorem dX2_checkNeed_7 : decode cX2_checkNeed 7 = .ok (.aload_n 0, 1) := dk_42 (dk_at dksX2_checkNeed_0 7 rfl rfl)
theorem dX2_checkNeed_8 : decode cX2_checkNeed 8 = .ok (.getfield 32, 3) := dk_180 0 32 (dk_at dksX2_checkNeed_0 8 rfl rfl)
theorem dX2_checkNeed_11 : decode cX2_checkNeed 11 = .ok (.iload_n 1, 1) := dk_27 (dk_at dksX2_checkNeed_0 11 rfl rfl)
theorem dX2_checkNeed_12 : decode cX2_checkNeed 12 = .ok (.iaload, 1) := dk_46 (dk_at dksX2_checkNeed_0 12 rfl rfl)
theorem dX2_checkNeed_13 : decode cX2_checkNeed 13 = .ok (.iconst 1, 1) := dk_4 (dk_at dksX2_checkNeed_0 13 rfl rfl)
theorem dX2_checkNeed_14 : decode cX2_checkNeed 14 = .ok (.isub, 1) := dk_100 (dk_at dksX2_checkNeed_0 14 rfl rfl)
theorem dX2_checkNeed_15 : decode cX2_checkNeed 15 = .ok (.invokestatic 85, 3) := dk_184 0 85 (dk_at dksX2_checkNeed_0 15 rfl rfl)
theorem dX2_checkNeed_18 : decode cX2_checkNeed 18 = .ok (.invokestatic 82, 3) := dk_184 0 82 (dk_at dksX2_checkNeed_0 18 rfl rfl)
theorem dX2_checkNeed_21 : decode cX2_checkNeed 21 = .ok (.return_, 1) := dk_177 (dk_at dksX2_checkNeed_0 21 rfl rfl)
abbrev cX2_checkObject : ByteArray := prog_8_method_5_code
def yX2_checkObject : MethodName := ⟨RX2, "checkObject", "(I)V"⟩
def dkwX2_checkObject_1 : List UInt8 := [167, 0, 4, 3, 184, 0, 82, 177]
abbrev dktX2_checkObject_1 : List UInt8 := dkwX2_checkObject_1 ++ []
def dkwX2_checkObject_0 : List UInt8 := [27, 3, 42, 180, 0, 58, 4, 100, 184, 0, 85, 153, 0, 16, 42, 180, 0, 29, 27, 51, 153, 0, 7, 4]
abbrev dktX2_checkObject_0 : List UInt8 := dkwX2_checkObject_0 ++ dktX2_checkObject_1
theorem dksX2_checkObject_0 : cX2_checkObject.data.toList.drop 0 = dktX2_checkObject_0 := by decide +kernel
theorem dksX2_checkObject_1 : cX2_checkObject.data.toList.drop 24 = dktX2_checkObject_1 := dk_seg dksX2_checkObject_0 24 rfl rfl
theorem dX2_checkObject_0 : decode cX2_checkObject 0 = .ok (.iload_n 1, 1) := dk_27 (dk_at dksX2_checkObject_0 0 rfl rfl)
theorem dX2_checkObject_1 : decode cX2_checkObject 1 = .ok (.iconst 0, 1) := dk_3 (dk_at dksX2_checkObject_0 1 rfl rfl)
theorem dX2_checkObject_2 : decode cX2_checkObject 2 = .ok (.aload_n 0, 1) := dk_42 (dk_at dksX2_checkObject_0 2 rfl rfl)
theorem dX2_checkObject_3 : decode cX2_checkObject 3 = .ok (.getfield 58, 3) := dk_180 0 58 (dk_at dksX2_checkObject_0 3 rfl rfl)
theorem dX2_checkObject_6 : decode cX2_checkObject 6 = .ok (.iconst 1, 1) := dk_4 (dk_at dksX2_checkObject_0 6 rfl rfl)
theorem dX2_checkObject_7 : decode cX2_checkObject 7 = .ok (.isub, 1) := dk_100 (dk_at dksX2_checkObject_0 7 rfl rfl)
theorem dX2_checkObject_8 : decode cX2_checkObject 8 = .ok (.invokestatic 85, 3) := dk_184 0 85 (dk_at dksX2_checkObject_0 8 rfl rfl)
theorem dX2_checkObject_11 : decode cX2_checkObject 11 = .ok (.ifCond .eq 16, 3) := dk_153 0 16 (dk_at dksX2_checkObject_0 11 rfl rfl)
theorem dX2_checkObject_14 : decode cX2_checkObject 14 = .ok (.aload_n 0, 1) := dk_42 (dk_at dksX2_checkObject_0 14 rfl rfl)
theorem dX2_checkObject_15 : decode cX2_checkObject 15 = .ok (.getfield 29, 3) := dk_180 0 29 (dk_at dksX2_checkObject_0 15 rfl rfl)
theorem dX2_checkObject_18 : decode cX2_checkObject 18 = .ok (.iload_n 1, 1) := dk_27 (dk_at dksX2_checkObject_0 18 rfl rfl)
theorem dX2_checkObject_19 : decode cX2_checkObject 19 = .ok (.baload, 1) := dk_51 (dk_at dksX2_checkObject_0 19 rfl rfl)
theorem dX2_checkObject_20 : decode cX2_checkObject 20 = .ok (.ifCond .eq 7, 3) := dk_153 0 7 (dk_at dksX2_checkObject_0 20 rfl rfl)
theorem dX2_checkObject_23 : decode cX2_checkObject 23 = .ok (.iconst 1, 1) := dk_4 (dk_at dksX2_checkObject_0 23 rfl rfl)
theorem dX2_checkObject_24 : decode cX2_checkObject 24 = .ok (.goto 4, 3) := dk_167 0 4 (dk_at dksX2_checkObject_1 0 rfl rfl)
theorem dX2_checkObject_27 : decode cX2_checkObject 27 = .ok (.iconst 0, 1) := dk_3 (dk_at dksX2_checkObject_1 3 rfl rfl)
theorem dX2_checkObject_28 : decode cX2_checkObject 28 = .ok (.invokestatic 82, 3) := dk_184 0 82 (dk_at dksX2_checkObject_1 4 rfl rfl)
theorem dX2_checkObject_31 : decode cX2_checkObject 31 = .ok (.return_, 1) := dk_177 (dk_at dksX2_checkObject_1 7 rfl rfl)
abbrev cX2_writeObject : ByteArray := prog_8_method_26_code
def yX2_writeObject : MethodName := ⟨RX2, "writeObject", "(Ljava/lang/StringBuilder;I)V"⟩
def dkwX2_writeObject_3 : List UInt8 := [87, 132, 3, 1, 167, 255, 203, 177]
abbrev dktX2_writeObject_3 : List UInt8 := dkwX2_writeObject_3 ++ []
def dkwX2_writeObject_2 : List UInt8 := [160, 0, 13, 43, 18, 237, 182, 0, 239, 87, 167, 0, 15, 43, 16, 32, 182, 0, 234, 21, 4, 182, 0, 228]
abbrev dktX2_writeObject_2 : List UInt8 := dkwX2_writeObject_2 ++ dktX2_writeObject_3
def dkwX2_writeObject_1 : List UInt8 := [180, 0, 32, 28, 46, 162, 0, 49, 42, 180, 0, 38, 6, 28, 104, 29, 96, 46, 54, 4, 21, 4, 2]
abbrev dktX2_writeObject_1 : List UInt8 := dkwX2_writeObject_1 ++ dktX2_writeObject_2
def dkwX2_writeObject_0 : List UInt8 := [43, 28, 182, 0, 228, 42, 180, 0, 22, 28, 46, 184, 0, 161, 182, 0, 234, 87, 3, 62, 29, 42]
abbrev dktX2_writeObject_0 : List UInt8 := dkwX2_writeObject_0 ++ dktX2_writeObject_1
theorem dksX2_writeObject_0 : cX2_writeObject.data.toList.drop 0 = dktX2_writeObject_0 := by decide +kernel
theorem dksX2_writeObject_1 : cX2_writeObject.data.toList.drop 22 = dktX2_writeObject_1 := dk_seg dksX2_writeObject_0 22 rfl rfl
theorem dksX2_writeObject_2 : cX2_writeObject.data.toList.drop 45 = dktX2_writeObject_2 := dk_seg dksX2_writeObject_1 23 rfl rfl
theorem dksX2_writeObject_3 : cX2_writeObject.data.toList.drop 69 = dktX2_writeObject_3 := dk_seg dksX2_writeObject_2 24 rfl rfl
theorem dX2_writeObject_0 : decode cX2_writeObject 0 = .ok (.aload_n 1, 1) := dk_43 (dk_at dksX2_writeObject_0 0 rfl rfl)
theorem dX2_writeObject_1 : decode cX2_writeObject 1 = .ok (.iload_n 2, 1) := dk_28 (dk_at dksX2_writeObject_0 1 rfl rfl)
theorem dX2_writeObject_2 : decode cX2_writeObject 2 = .ok (.invokevirtual 228, 3) := dk_182 0 228 (dk_at dksX2_writeObject_0 2 rfl rfl)
theorem dX2_writeObject_5 : decode cX2_writeObject 5 = .ok (.aload_n 0, 1) := dk_42 (dk_at dksX2_writeObject_0 5 rfl rfl)
theorem dX2_writeObject_6 : decode cX2_writeObject 6 = .ok (.getfield 22, 3) := dk_180 0 22 (dk_at dksX2_writeObject_0 6 rfl rfl)
theorem dX2_writeObject_9 : decode cX2_writeObject 9 = .ok (.iload_n 2, 1) := dk_28 (dk_at dksX2_writeObject_0 9 rfl rfl)
theorem dX2_writeObject_10 : decode cX2_writeObject 10 = .ok (.iaload, 1) := dk_46 (dk_at dksX2_writeObject_0 10 rfl rfl)
theorem dX2_writeObject_11 : decode cX2_writeObject 11 = .ok (.invokestatic 161, 3) := dk_184 0 161 (dk_at dksX2_writeObject_0 11 rfl rfl)
theorem dX2_writeObject_14 : decode cX2_writeObject 14 = .ok (.invokevirtual 234, 3) := dk_182 0 234 (dk_at dksX2_writeObject_0 14 rfl rfl)
theorem dX2_writeObject_17 : decode cX2_writeObject 17 = .ok (.pop, 1) := dk_87 (dk_at dksX2_writeObject_0 17 rfl rfl)
theorem dX2_writeObject_18 : decode cX2_writeObject 18 = .ok (.iconst 0, 1) := dk_3 (dk_at dksX2_writeObject_0 18 rfl rfl)
theorem dX2_writeObject_19 : decode cX2_writeObject 19 = .ok (.istore_n 3, 1) := dk_62 (dk_at dksX2_writeObject_0 19 rfl rfl)
theorem dX2_writeObject_20 : decode cX2_writeObject 20 = .ok (.iload_n 3, 1) := dk_29 (dk_at dksX2_writeObject_0 20 rfl rfl)
theorem dX2_writeObject_21 : decode cX2_writeObject 21 = .ok (.aload_n 0, 1) := dk_42 (dk_at dksX2_writeObject_0 21 rfl rfl)
theorem dX2_writeObject_22 : decode cX2_writeObject 22 = .ok (.getfield 32, 3) := dk_180 0 32 (dk_at dksX2_writeObject_1 0 rfl rfl)
theorem dX2_writeObject_25 : decode cX2_writeObject 25 = .ok (.iload_n 2, 1) := dk_28 (dk_at dksX2_writeObject_1 3 rfl rfl)
theorem dX2_writeObject_26 : decode cX2_writeObject 26 = .ok (.iaload, 1) := dk_46 (dk_at dksX2_writeObject_1 4 rfl rfl)
theorem dX2_writeObject_27 : decode cX2_writeObject 27 = .ok (.if_icmp .ge 49, 3) := dk_162 0 49 (dk_at dksX2_writeObject_1 5 rfl rfl)
theorem dX2_writeObject_30 : decode cX2_writeObject 30 = .ok (.aload_n 0, 1) := dk_42 (dk_at dksX2_writeObject_1 8 rfl rfl)
theorem dX2_writeObject_31 : decode cX2_writeObject 31 = .ok (.getfield 38, 3) := dk_180 0 38 (dk_at dksX2_writeObject_1 9 rfl rfl)
theorem dX2_writeObject_34 : decode cX2_writeObject 34 = .ok (.iconst 3, 1) := dk_6 (dk_at dksX2_writeObject_1 12 rfl rfl)
theorem dX2_writeObject_35 : decode cX2_writeObject 35 = .ok (.iload_n 2, 1) := dk_28 (dk_at dksX2_writeObject_1 13 rfl rfl)
theorem dX2_writeObject_36 : decode cX2_writeObject 36 = .ok (.imul, 1) := dk_104 (dk_at dksX2_writeObject_1 14 rfl rfl)
theorem dX2_writeObject_37 : decode cX2_writeObject 37 = .ok (.iload_n 3, 1) := dk_29 (dk_at dksX2_writeObject_1 15 rfl rfl)
theorem dX2_writeObject_38 : decode cX2_writeObject 38 = .ok (.iadd, 1) := dk_96 (dk_at dksX2_writeObject_1 16 rfl rfl)
theorem dX2_writeObject_39 : decode cX2_writeObject 39 = .ok (.iaload, 1) := dk_46 (dk_at dksX2_writeObject_1 17 rfl rfl)
theorem dX2_writeObject_40 : decode cX2_writeObject 40 = .ok (.istore 4, 2) := dk_54 4 (dk_at dksX2_writeObject_1 18 rfl rfl)
theorem dX2_writeObject_42 : decode cX2_writeObject 42 = .ok (.iload 4, 2) := dk_21 4 (dk_at dksX2_writeObject_1 20 rfl rfl)
theorem dX2_writeObject_44 : decode cX2_writeObject 44 = .ok (.iconst (-1), 1) := dk_2 (dk_at dksX2_writeObject_1 22 rfl rfl)
theorem dX2_writeObject_45 : decode cX2_writeObject 45 = .ok (.if_icmp .ne 13, 3) := dk_160 0 13 (dk_at dksX2_writeObject_2 0 rfl rfl)
theorem dX2_writeObject_48 : decode cX2_writeObject 48 = .ok (.aload_n 1, 1) := dk_43 (dk_at dksX2_writeObject_2 3 rfl rfl)
theorem dX2_writeObject_49 : decode cX2_writeObject 49 = .ok (.ldc 237, 2) := dk_18 237 (dk_at dksX2_writeObject_2 4 rfl rfl)
theorem dX2_writeObject_51 : decode cX2_writeObject 51 = .ok (.invokevirtual 239, 3) := dk_182 0 239 (dk_at dksX2_writeObject_2 6 rfl rfl)
theorem dX2_writeObject_54 : decode cX2_writeObject 54 = .ok (.pop, 1) := dk_87 (dk_at dksX2_writeObject_2 9 rfl rfl)
theorem dX2_writeObject_55 : decode cX2_writeObject 55 = .ok (.goto 15, 3) := dk_167 0 15 (dk_at dksX2_writeObject_2 10 rfl rfl)
theorem dX2_writeObject_58 : decode cX2_writeObject 58 = .ok (.aload_n 1, 1) := dk_43 (dk_at dksX2_writeObject_2 13 rfl rfl)
theorem dX2_writeObject_59 : decode cX2_writeObject 59 = .ok (.bipush 32, 2) := dk_16 32 (dk_at dksX2_writeObject_2 14 rfl rfl)
theorem dX2_writeObject_61 : decode cX2_writeObject 61 = .ok (.invokevirtual 234, 3) := dk_182 0 234 (dk_at dksX2_writeObject_2 16 rfl rfl)
theorem dX2_writeObject_64 : decode cX2_writeObject 64 = .ok (.iload 4, 2) := dk_21 4 (dk_at dksX2_writeObject_2 19 rfl rfl)
theorem dX2_writeObject_66 : decode cX2_writeObject 66 = .ok (.invokevirtual 228, 3) := dk_182 0 228 (dk_at dksX2_writeObject_2 21 rfl rfl)
theorem dX2_writeObject_69 : decode cX2_writeObject 69 = .ok (.pop, 1) := dk_87 (dk_at dksX2_writeObject_3 0 rfl rfl)
theorem dX2_writeObject_70 : decode cX2_writeObject 70 = .ok (.iinc 3 1, 3) := dk_132 3 1 (dk_at dksX2_writeObject_3 1 rfl rfl)
theorem dX2_writeObject_73 : decode cX2_writeObject 73 = .ok (.goto (-53), 3) := dk_167 255 203 (dk_at dksX2_writeObject_3 4 rfl rfl)
theorem dX2_writeObject_76 : decode cX2_writeObject 76 = .ok (.return_, 1) := dk_177 (dk_at dksX2_writeObject_3 7 rfl rfl)
theorem q95 : (Jvm.Cond.initialized "ClockworkTailor$State") ∈ lw_all := lw_g (lw_at lw_m1 2 rfl) rfl
theorem q141 : (Jvm.Cond.instantiable "ClockworkTailor$State" (14 : Nat)) ∈ lw_all := lw_g (lw_at lw_m1 48 rfl) rfl
theorem q143 : (Jvm.Cond.instanceMethod ({ cls := "ClockworkTailor$State", name := "<init>", desc := "()V" } : Jvm.MethodName)) ∈ lw_all := lw_g (lw_at lw_m1 50 rfl) rfl
theorem q144 : (Jvm.Cond.code ({ cls := "ClockworkTailor$State", name := "<init>", desc := "()V" } : Jvm.MethodName) prog_8_method_1_code (1 : Nat) (Option.none : Option Jvm.ClassFile.FieldType)) ∈ lw_all := lw_g (lw_at lw_m1 51 rfl) rfl
theorem q145 : (Jvm.Cond.methodLink "ClockworkTailor$State" (3 : Nat) ({ cls := "java/lang/Object", name := "<init>", desc := "()V" } : Jvm.MethodName)) ∈ lw_all := lw_g (lw_at lw_m1 52 rfl) rfl
theorem q146 : (Jvm.Cond.classLink "ClockworkTailor$State" (9 : Nat) "ClockworkTailor$Book") ∈ lw_all := lw_g (lw_at lw_m1 53 rfl) rfl
theorem q148 : (Jvm.Cond.methodLink "ClockworkTailor$State" (11 : Nat) ({ cls := "ClockworkTailor$Book", name := "<init>", desc := "()V" } : Jvm.MethodName)) ∈ lw_all := lw_g (lw_at lw_m1 55 rfl) rfl
theorem q154 : (Jvm.Cond.fieldLinkNest "ClockworkTailor$State" (71 : Nat) "ClockworkTailor$Book" "has" "[Z" "ClockworkTailor") ∈ lw_tbl := lw_at lw_m1 61 rfl
theorem q158 : (Jvm.Cond.fieldLinkNest "ClockworkTailor$State" (105 : Nat) "ClockworkTailor$Book" "scopes" "[C" "ClockworkTailor") ∈ lw_tbl := lw_at lw_m1 65 rfl
theorem q161 : (Jvm.Cond.fieldLinkNest "ClockworkTailor$State" (109 : Nat) "ClockworkTailor$Book" "minutes" "[I" "ClockworkTailor") ∈ lw_tbl := lw_at lw_m1 68 rfl
theorem q164 : (Jvm.Cond.fieldLinkNest "ClockworkTailor$State" (112 : Nat) "ClockworkTailor$Book" "counts" "[I" "ClockworkTailor") ∈ lw_tbl := lw_at lw_m1 71 rfl
theorem q169 : (Jvm.Cond.fieldLinkNest "ClockworkTailor$State" (155 : Nat) "ClockworkTailor$Book" "replacing" "[I" "ClockworkTailor") ∈ lw_tbl := lw_at lw_m1 76 rfl
theorem q188 : (Jvm.Cond.fieldLink "ClockworkTailor$State" (12 : Nat) "ClockworkTailor$State" "book" "LClockworkTailor$Book;") ∈ lw_all := lw_g (lw_at lw_m1 95 rfl) rfl
theorem q191 : (Jvm.Cond.fieldLink "ClockworkTailor$State" (18 : Nat) "ClockworkTailor$State" "isOpen" "[Z") ∈ lw_all := lw_g (lw_at lw_m1 98 rfl) rfl
theorem q193 : (Jvm.Cond.fieldLink "ClockworkTailor$State" (58 : Nat) "ClockworkTailor$State" "objects" "I") ∈ lw_all := lw_g (lw_at lw_m1 100 rfl) rfl
theorem q195 : (Jvm.Cond.fieldLink "ClockworkTailor$State" (22 : Nat) "ClockworkTailor$State" "tools" "[I") ∈ lw_all := lw_g (lw_at lw_m1 102 rfl) rfl
theorem q197 : (Jvm.Cond.fieldLink "ClockworkTailor$State" (26 : Nat) "ClockworkTailor$State" "threads" "[I") ∈ lw_all := lw_g (lw_at lw_m1 104 rfl) rfl
theorem q199 : (Jvm.Cond.fieldLink "ClockworkTailor$State" (29 : Nat) "ClockworkTailor$State" "isThere" "[Z") ∈ lw_all := lw_g (lw_at lw_m1 106 rfl) rfl
theorem q201 : (Jvm.Cond.fieldLink "ClockworkTailor$State" (32 : Nat) "ClockworkTailor$State" "needCounts" "[I") ∈ lw_all := lw_g (lw_at lw_m1 108 rfl) rfl
theorem q202 : (Jvm.Cond.fieldLink "ClockworkTailor$State" (35 : Nat) "ClockworkTailor$State" "needs" "[I") ∈ lw_all := lw_g (lw_at lw_m1 109 rfl) rfl
theorem q203 : (Jvm.Cond.fieldLink "ClockworkTailor$State" (38 : Nat) "ClockworkTailor$State" "fillings" "[I") ∈ lw_all := lw_g (lw_at lw_m1 110 rfl) rfl
theorem q205 : (Jvm.Cond.fieldLink "ClockworkTailor$State" (61 : Nat) "ClockworkTailor$State" "got" "I") ∈ lw_all := lw_g (lw_at lw_m1 112 rfl) rfl
theorem q207 : (Jvm.Cond.fieldLink "ClockworkTailor$State" (64 : Nat) "ClockworkTailor$State" "reused" "I") ∈ lw_all := lw_g (lw_at lw_m1 114 rfl) rfl
theorem q209 : (Jvm.Cond.fieldLink "ClockworkTailor$State" (67 : Nat) "ClockworkTailor$State" "spent" "J") ∈ lw_all := lw_g (lw_at lw_m1 116 rfl) rfl
theorem q211 : (Jvm.Cond.fieldLink "ClockworkTailor$State" (41 : Nat) "ClockworkTailor$State" "pending" "[I") ∈ lw_all := lw_g (lw_at lw_m1 118 rfl) rfl
theorem q212 : (Jvm.Cond.fieldLink "ClockworkTailor$State" (44 : Nat) "ClockworkTailor$State" "depth" "I") ∈ lw_all := lw_g (lw_at lw_m1 119 rfl) rfl
theorem q213 : (Jvm.Cond.laysFinal "ClockworkTailor$State" "ClockworkTailor$State" "book" "LClockworkTailor$Book;") ∈ lw_all := lw_g (lw_at lw_m1 120 rfl) rfl
theorem q214 : (Jvm.Cond.soleField "ClockworkTailor$State" "book") ∈ lw_all := lw_g (lw_at lw_m1 121 rfl) rfl
theorem q215 : (Jvm.Cond.laysFinal "ClockworkTailor$State" "ClockworkTailor$State" "isOpen" "[Z") ∈ lw_all := lw_g (lw_at lw_m1 122 rfl) rfl
theorem q216 : (Jvm.Cond.soleField "ClockworkTailor$State" "isOpen") ∈ lw_all := lw_g (lw_at lw_m1 123 rfl) rfl
theorem q217 : (Jvm.Cond.lays "ClockworkTailor$State" "ClockworkTailor$State" "objects" "I") ∈ lw_all := lw_g (lw_at lw_m1 124 rfl) rfl
theorem q218 : (Jvm.Cond.soleField "ClockworkTailor$State" "objects") ∈ lw_all := lw_g (lw_at lw_m1 125 rfl) rfl
theorem q219 : (Jvm.Cond.laysFinal "ClockworkTailor$State" "ClockworkTailor$State" "tools" "[I") ∈ lw_all := lw_g (lw_at lw_m1 126 rfl) rfl
theorem q220 : (Jvm.Cond.soleField "ClockworkTailor$State" "tools") ∈ lw_all := lw_g (lw_at lw_m1 127 rfl) rfl
theorem q221 : (Jvm.Cond.laysFinal "ClockworkTailor$State" "ClockworkTailor$State" "threads" "[I") ∈ lw_all := lw_g (lw_at lw_m1 128 rfl) rfl
theorem q222 : (Jvm.Cond.soleField "ClockworkTailor$State" "threads") ∈ lw_all := lw_g (lw_at lw_m1 129 rfl) rfl
theorem q223 : (Jvm.Cond.laysFinal "ClockworkTailor$State" "ClockworkTailor$State" "isThere" "[Z") ∈ lw_all := lw_g (lw_at lw_m1 130 rfl) rfl
theorem q224 : (Jvm.Cond.soleField "ClockworkTailor$State" "isThere") ∈ lw_all := lw_g (lw_at lw_m1 131 rfl) rfl
theorem q225 : (Jvm.Cond.laysFinal "ClockworkTailor$State" "ClockworkTailor$State" "needCounts" "[I") ∈ lw_all := lw_g (lw_at lw_m1 132 rfl) rfl
theorem q226 : (Jvm.Cond.soleField "ClockworkTailor$State" "needCounts") ∈ lw_all := lw_g (lw_at lw_m1 133 rfl) rfl
theorem q227 : (Jvm.Cond.laysFinal "ClockworkTailor$State" "ClockworkTailor$State" "needs" "[I") ∈ lw_all := lw_g (lw_at lw_m1 134 rfl) rfl
theorem q228 : (Jvm.Cond.soleField "ClockworkTailor$State" "needs") ∈ lw_all := lw_g (lw_at lw_m1 135 rfl) rfl
theorem q229 : (Jvm.Cond.laysFinal "ClockworkTailor$State" "ClockworkTailor$State" "fillings" "[I") ∈ lw_all := lw_g (lw_at lw_m1 136 rfl) rfl
theorem q230 : (Jvm.Cond.soleField "ClockworkTailor$State" "fillings") ∈ lw_all := lw_g (lw_at lw_m1 137 rfl) rfl
theorem q231 : (Jvm.Cond.lays "ClockworkTailor$State" "ClockworkTailor$State" "got" "I") ∈ lw_all := lw_g (lw_at lw_m1 138 rfl) rfl
theorem q232 : (Jvm.Cond.soleField "ClockworkTailor$State" "got") ∈ lw_all := lw_g (lw_at lw_m1 139 rfl) rfl
theorem q233 : (Jvm.Cond.lays "ClockworkTailor$State" "ClockworkTailor$State" "reused" "I") ∈ lw_all := lw_g (lw_at lw_m1 140 rfl) rfl
theorem q234 : (Jvm.Cond.soleField "ClockworkTailor$State" "reused") ∈ lw_all := lw_g (lw_at lw_m1 141 rfl) rfl
theorem q235 : (Jvm.Cond.lays "ClockworkTailor$State" "ClockworkTailor$State" "spent" "J") ∈ lw_all := lw_g (lw_at lw_m1 142 rfl) rfl
theorem q236 : (Jvm.Cond.soleField "ClockworkTailor$State" "spent") ∈ lw_all := lw_g (lw_at lw_m1 143 rfl) rfl
theorem q237 : (Jvm.Cond.laysFinal "ClockworkTailor$State" "ClockworkTailor$State" "pending" "[I") ∈ lw_all := lw_g (lw_at lw_m1 144 rfl) rfl
theorem q238 : (Jvm.Cond.soleField "ClockworkTailor$State" "pending") ∈ lw_all := lw_g (lw_at lw_m1 145 rfl) rfl
theorem q239 : (Jvm.Cond.lays "ClockworkTailor$State" "ClockworkTailor$State" "depth" "I") ∈ lw_all := lw_g (lw_at lw_m1 146 rfl) rfl
theorem q240 : (Jvm.Cond.soleField "ClockworkTailor$State" "depth") ∈ lw_all := lw_g (lw_at lw_m1 147 rfl) rfl
theorem q241 : (Jvm.Cond.superclass "ClockworkTailor$State" "java/lang/Object") ∈ lw_all := lw_g (lw_at lw_m1 148 rfl) rfl
theorem q442 : (Jvm.Cond.selects "ClockworkTailor$State" ({ cls := "java/lang/Object", name := "getClass", desc := "()Ljava/lang/Class;" } : Jvm.MethodName) ({ cls := "java/lang/Object", name := "getClass", desc := "()Ljava/lang/Class;" } : Jvm.MethodName)) ∈ lw_all := lw_g (lw_at lw_m2 109 rfl) rfl
theorem q684 : (Jvm.Cond.instanceMethod ({ cls := "ClockworkTailor$State", name := "danglers", desc := "()I" } : Jvm.MethodName)) ∈ lw_all := lw_g (lw_at lw_m3 111 rfl) rfl
theorem q685 : (Jvm.Cond.selects "ClockworkTailor$State" ({ cls := "ClockworkTailor$State", name := "danglers", desc := "()I" } : Jvm.MethodName) ({ cls := "ClockworkTailor$State", name := "danglers", desc := "()I" } : Jvm.MethodName)) ∈ lw_all := lw_g (lw_at lw_m3 112 rfl) rfl
theorem q686 : (Jvm.Cond.code ({ cls := "ClockworkTailor$State", name := "danglers", desc := "()I" } : Jvm.MethodName) prog_8_method_23_code (6 : Nat) (Option.some Jvm.ClassFile.FieldType.int)) ∈ lw_all := lw_g (lw_at lw_m3 113 rfl) rfl
theorem q704 : (Jvm.Cond.instanceMethod ({ cls := "ClockworkTailor$State", name := "areWaysConsistent", desc := "()Z" } : Jvm.MethodName)) ∈ lw_all := lw_g (lw_at lw_m3 131 rfl) rfl
theorem q705 : (Jvm.Cond.selects "ClockworkTailor$State" ({ cls := "ClockworkTailor$State", name := "areWaysConsistent", desc := "()Z" } : Jvm.MethodName) ({ cls := "ClockworkTailor$State", name := "areWaysConsistent", desc := "()Z" } : Jvm.MethodName)) ∈ lw_all := lw_g (lw_at lw_m3 132 rfl) rfl
theorem q706 : (Jvm.Cond.code ({ cls := "ClockworkTailor$State", name := "areWaysConsistent", desc := "()Z" } : Jvm.MethodName) prog_8_method_25_code (3 : Nat) (Option.some Jvm.ClassFile.FieldType.boolean)) ∈ lw_all := lw_g (lw_at lw_m3 133 rfl) rfl
theorem q707 : (Jvm.Cond.methodLink "ClockworkTailor$State" (206 : Nat) ({ cls := "ClockworkTailor$Book", name := "inCircles", desc := "()I" } : Jvm.MethodName)) ∈ lw_all := lw_g (lw_at lw_m3 134 rfl) rfl
theorem q708 : (Jvm.Cond.methodLink "ClockworkTailor$State" (209 : Nat) ({ cls := "ClockworkTailor$Book", name := "inCirclesBySets", desc := "()I" } : Jvm.MethodName)) ∈ lw_all := lw_g (lw_at lw_m3 135 rfl) rfl
theorem q709 : (Jvm.Cond.methodLink "ClockworkTailor$State" (212 : Nat) ({ cls := "ClockworkTailor$Book", name := "leadsToCount", desc := "(I)I" } : Jvm.MethodName)) ∈ lw_all := lw_g (lw_at lw_m3 136 rfl) rfl
theorem q713 : (Jvm.Cond.methodLink "ClockworkTailor$State" (215 : Nat) ({ cls := "ClockworkTailor$Book", name := "leadsToByTable", desc := "(I)I" } : Jvm.MethodName)) ∈ lw_all := lw_g (lw_at lw_m3 140 rfl) rfl
theorem q719 : (Jvm.Cond.methodLink "ClockworkTailor$State" (218 : Nat) ({ cls := "ClockworkTailor$Book", name := "longest", desc := "(I)I" } : Jvm.MethodName)) ∈ lw_all := lw_g (lw_at lw_m3 146 rfl) rfl
theorem q727 : (Jvm.Cond.methodLink "ClockworkTailor$State" (221 : Nat) ({ cls := "ClockworkTailor$Book", name := "longestByRounds", desc := "(I)I" } : Jvm.MethodName)) ∈ lw_all := lw_g (lw_at lw_m3 154 rfl) rfl
theorem q745 : (Jvm.Cond.methodLink "ClockworkTailor$State" (224 : Nat) ({ cls := "ClockworkTailor$State", name := "areSinglesSingle", desc := "()Z" } : Jvm.MethodName)) ∈ lw_all := lw_g (lw_at lw_m3 172 rfl) rfl
theorem q746 : (Jvm.Cond.privateMethod ({ cls := "ClockworkTailor$State", name := "areSinglesSingle", desc := "()Z" } : Jvm.MethodName)) ∈ lw_tbl := lw_at lw_m3 173 rfl
theorem q747 : (Jvm.Cond.instanceMethod ({ cls := "ClockworkTailor$State", name := "areSinglesSingle", desc := "()Z" } : Jvm.MethodName)) ∈ lw_all := lw_g (lw_at lw_m3 174 rfl) rfl
theorem q748 : (Jvm.Cond.code ({ cls := "ClockworkTailor$State", name := "areSinglesSingle", desc := "()Z" } : Jvm.MethodName) prog_8_method_24_code (4 : Nat) (Option.some Jvm.ClassFile.FieldType.boolean)) ∈ lw_all := lw_g (lw_at lw_m3 175 rfl) rfl
theorem q749 : (Jvm.Cond.methodLinkNest "ClockworkTailor$State" (203 : Nat) ({ cls := "ClockworkTailor", name := "isIn", desc := "(II)Z" } : Jvm.MethodName) "ClockworkTailor") ∈ lw_tbl := lw_at lw_m3 176 rfl
theorem q761 : (Jvm.Cond.instanceMethod ({ cls := "ClockworkTailor$State", name := "copyFrom", desc := "(LClockworkTailor$State;)V" } : Jvm.MethodName)) ∈ lw_all := lw_g (lw_at lw_m3 188 rfl) rfl
theorem q762 : (Jvm.Cond.selects "ClockworkTailor$State" ({ cls := "ClockworkTailor$State", name := "copyFrom", desc := "(LClockworkTailor$State;)V" } : Jvm.MethodName) ({ cls := "ClockworkTailor$State", name := "copyFrom", desc := "(LClockworkTailor$State;)V" } : Jvm.MethodName)) ∈ lw_all := lw_g (lw_at lw_m3 189 rfl) rfl
theorem q763 : (Jvm.Cond.code ({ cls := "ClockworkTailor$State", name := "copyFrom", desc := "(LClockworkTailor$State;)V" } : Jvm.MethodName) prog_8_method_2_code (2 : Nat) (Option.none : Option Jvm.ClassFile.FieldType)) ∈ lw_all := lw_g (lw_at lw_m3 190 rfl) rfl
theorem q764 : (Jvm.Cond.methodLink "ClockworkTailor$State" (48 : Nat) ({ cls := "ClockworkTailor$Book", name := "copyFrom", desc := "(LClockworkTailor$Book;)V" } : Jvm.MethodName)) ∈ lw_all := lw_g (lw_at lw_m3 191 rfl) rfl
theorem q769 : (Jvm.Cond.methodLink "ClockworkTailor$State" (52 : Nat) ({ cls := "java/lang/System", name := "arraycopy", desc := "(Ljava/lang/Object;ILjava/lang/Object;II)V" } : Jvm.MethodName)) ∈ lw_all := lw_g (lw_at lw_m3 196 rfl) rfl
theorem q771 : (Jvm.Cond.instanceMethod ({ cls := "ClockworkTailor$State", name := "tried", desc := "(II)I" } : Jvm.MethodName)) ∈ lw_all := lw_g (lw_at lw_m3 198 rfl) rfl
theorem q772 : (Jvm.Cond.selects "ClockworkTailor$State" ({ cls := "ClockworkTailor$State", name := "tried", desc := "(II)I" } : Jvm.MethodName) ({ cls := "ClockworkTailor$State", name := "tried", desc := "(II)I" } : Jvm.MethodName)) ∈ lw_all := lw_g (lw_at lw_m3 199 rfl) rfl
theorem q773 : (Jvm.Cond.codeWith ({ cls := "ClockworkTailor$State", name := "tried", desc := "(II)I" } : Jvm.MethodName) prog_8_method_22_code (5 : Nat) (Option.some Jvm.ClassFile.FieldType.int) [((24 : Nat), (32 : Nat), (35 : Nat), (201 : Nat))]) ∈ lw_all := lw_g (lw_at lw_m3 200 rfl) rfl
theorem q774 : (Jvm.Cond.classLink "ClockworkTailor$State" (201 : Nat) "ClockworkTailor$Refusal") ∈ lw_all := lw_g (lw_at lw_m3 201 rfl) rfl
theorem q775 : (Jvm.Cond.classLink "ClockworkTailor$State" (187 : Nat) "ClockworkTailor$Count") ∈ lw_all := lw_g (lw_at lw_m3 202 rfl) rfl
theorem q777 : (Jvm.Cond.methodLink "ClockworkTailor$State" (189 : Nat) ({ cls := "ClockworkTailor$Count", name := "<init>", desc := "(LClockworkTailor$State;I)V" } : Jvm.MethodName)) ∈ lw_all := lw_g (lw_at lw_m3 204 rfl) rfl
theorem q782 : (Jvm.Cond.privateMethod ({ cls := "ClockworkTailor$State", name := "existing", desc := "(II)I" } : Jvm.MethodName)) ∈ lw_tbl := lw_at lw_m3 209 rfl
theorem q783 : (Jvm.Cond.instanceMethod ({ cls := "ClockworkTailor$State", name := "existing", desc := "(II)I" } : Jvm.MethodName)) ∈ lw_all := lw_g (lw_at lw_m3 210 rfl) rfl
theorem q784 : (Jvm.Cond.code ({ cls := "ClockworkTailor$State", name := "existing", desc := "(II)I" } : Jvm.MethodName) prog_8_method_16_code (5 : Nat) (Option.some Jvm.ClassFile.FieldType.int)) ∈ lw_all := lw_g (lw_at lw_m3 211 rfl) rfl
theorem q798 : (Jvm.Cond.methodLink "ClockworkTailor$State" (192 : Nat) ({ cls := "ClockworkTailor$Count", name := "missing", desc := "(I)I" } : Jvm.MethodName)) ∈ lw_all := lw_g (lw_at lw_m3 225 rfl) rfl
theorem q807 : (Jvm.Cond.methodLink "ClockworkTailor$State" (184 : Nat) ({ cls := "ClockworkTailor$State", name := "get", desc := "(II)I" } : Jvm.MethodName)) ∈ lw_all := lw_g (lw_at lw_m3 234 rfl) rfl
theorem q808 : (Jvm.Cond.privateMethod ({ cls := "ClockworkTailor$State", name := "get", desc := "(II)I" } : Jvm.MethodName)) ∈ lw_tbl := lw_at lw_m3 235 rfl
theorem q809 : (Jvm.Cond.instanceMethod ({ cls := "ClockworkTailor$State", name := "get", desc := "(II)I" } : Jvm.MethodName)) ∈ lw_all := lw_g (lw_at lw_m3 236 rfl) rfl
theorem q810 : (Jvm.Cond.code ({ cls := "ClockworkTailor$State", name := "get", desc := "(II)I" } : Jvm.MethodName) prog_8_method_17_code (5 : Nat) (Option.some Jvm.ClassFile.FieldType.int)) ∈ lw_all := lw_g (lw_at lw_m3 237 rfl) rfl
theorem q811 : (Jvm.Cond.methodLink "ClockworkTailor$State" (168 : Nat) ({ cls := "ClockworkTailor$Book", name := "standIn", desc := "(I)I" } : Jvm.MethodName)) ∈ lw_all := lw_g (lw_at lw_m3 238 rfl) rfl
theorem q812 : (Jvm.Cond.methodLinkNest "ClockworkTailor$State" (133 : Nat) ({ cls := "ClockworkTailor", name := "refuseIf", desc := "(ZII)V" } : Jvm.MethodName) "ClockworkTailor") ∈ lw_tbl := lw_at lw_m3 239 rfl
theorem q847 : (Jvm.Cond.methodLink "ClockworkTailor$State" (171 : Nat) ({ cls := "ClockworkTailor$State", name := "existing", desc := "(II)I" } : Jvm.MethodName)) ∈ lw_all := lw_g (lw_at lw_m4 34 rfl) rfl
theorem q848 : (Jvm.Cond.methodLink "ClockworkTailor$State" (174 : Nat) ({ cls := "ClockworkTailor$State", name := "create", desc := "(II)I" } : Jvm.MethodName)) ∈ lw_all := lw_g (lw_at lw_m4 35 rfl) rfl
theorem q849 : (Jvm.Cond.privateMethod ({ cls := "ClockworkTailor$State", name := "create", desc := "(II)I" } : Jvm.MethodName)) ∈ lw_tbl := lw_at lw_m4 36 rfl
theorem q850 : (Jvm.Cond.instanceMethod ({ cls := "ClockworkTailor$State", name := "create", desc := "(II)I" } : Jvm.MethodName)) ∈ lw_all := lw_g (lw_at lw_m4 37 rfl) rfl
theorem q851 : (Jvm.Cond.code ({ cls := "ClockworkTailor$State", name := "create", desc := "(II)I" } : Jvm.MethodName) prog_8_method_18_code (7 : Nat) (Option.some Jvm.ClassFile.FieldType.int)) ∈ lw_all := lw_g (lw_at lw_m4 38 rfl) rfl
theorem q852 : (Jvm.Cond.methodLink "ClockworkTailor$State" (177 : Nat) ({ cls := "ClockworkTailor$Book", name := "isLazy", desc := "(II)Z" } : Jvm.MethodName)) ∈ lw_all := lw_g (lw_at lw_m4 39 rfl) rfl
theorem q853 : (Jvm.Cond.methodLink "ClockworkTailor$State" (181 : Nat) ({ cls := "ClockworkTailor$Book", name := "need", desc := "(II)I" } : Jvm.MethodName)) ∈ lw_all := lw_g (lw_at lw_m4 40 rfl) rfl
theorem q876 : (Jvm.Cond.instanceMethod ({ cls := "ClockworkTailor$State", name := "define", desc := "(CCI)I" } : Jvm.MethodName)) ∈ lw_all := lw_g (lw_at lw_m4 63 rfl) rfl
theorem q877 : (Jvm.Cond.selects "ClockworkTailor$State" ({ cls := "ClockworkTailor$State", name := "define", desc := "(CCI)I" } : Jvm.MethodName) ({ cls := "ClockworkTailor$State", name := "define", desc := "(CCI)I" } : Jvm.MethodName)) ∈ lw_all := lw_g (lw_at lw_m4 64 rfl) rfl
theorem q878 : (Jvm.Cond.code ({ cls := "ClockworkTailor$State", name := "define", desc := "(CCI)I" } : Jvm.MethodName) prog_8_method_7_code (5 : Nat) (Option.some Jvm.ClassFile.FieldType.int)) ∈ lw_all := lw_g (lw_at lw_m4 65 rfl) rfl
theorem q879 : (Jvm.Cond.methodLinkNest "ClockworkTailor$State" (93 : Nat) ({ cls := "ClockworkTailor", name := "isTool", desc := "(I)Z" } : Jvm.MethodName) "ClockworkTailor") ∈ lw_tbl := lw_at lw_m4 66 rfl
theorem q885 : (Jvm.Cond.methodLinkNest "ClockworkTailor$State" (96 : Nat) ({ cls := "ClockworkTailor", name := "isScope", desc := "(I)Z" } : Jvm.MethodName) "ClockworkTailor") ∈ lw_tbl := lw_at lw_m4 72 rfl
theorem q888 : (Jvm.Cond.methodLinkNest "ClockworkTailor$State" (85 : Nat) ({ cls := "ClockworkTailor", name := "inRange", desc := "(III)Z" } : Jvm.MethodName) "ClockworkTailor") ∈ lw_tbl := lw_at lw_m4 75 rfl
theorem q889 : (Jvm.Cond.methodLinkNest "ClockworkTailor$State" (99 : Nat) ({ cls := "ClockworkTailor", name := "checkArgument", desc := "(Z)V" } : Jvm.MethodName) "ClockworkTailor") ∈ lw_tbl := lw_at lw_m4 76 rfl
theorem q910 : (Jvm.Cond.methodLinkNest "ClockworkTailor$State" (102 : Nat) ({ cls := "ClockworkTailor", name := "checkState", desc := "(Z)V" } : Jvm.MethodName) "ClockworkTailor") ∈ lw_tbl := lw_at lw_m4 97 rfl
theorem q918 : (Jvm.Cond.methodLink "ClockworkTailor$State" (115 : Nat) ({ cls := "ClockworkTailor$Book", name := "count", desc := "()I" } : Jvm.MethodName)) ∈ lw_all := lw_g (lw_at lw_m4 105 rfl) rfl
theorem q959 : (Jvm.Cond.instanceMethod ({ cls := "ClockworkTailor$State", name := "dropRecipe", desc := "(C)I" } : Jvm.MethodName)) ∈ lw_all := lw_g (lw_at lw_m4 146 rfl) rfl
theorem q960 : (Jvm.Cond.selects "ClockworkTailor$State" ({ cls := "ClockworkTailor$State", name := "dropRecipe", desc := "(C)I" } : Jvm.MethodName) ({ cls := "ClockworkTailor$State", name := "dropRecipe", desc := "(C)I" } : Jvm.MethodName)) ∈ lw_all := lw_g (lw_at lw_m4 147 rfl) rfl
theorem q961 : (Jvm.Cond.code ({ cls := "ClockworkTailor$State", name := "dropRecipe", desc := "(C)I" } : Jvm.MethodName) prog_8_method_9_code (3 : Nat) (Option.some Jvm.ClassFile.FieldType.int)) ∈ lw_all := lw_g (lw_at lw_m4 148 rfl) rfl
theorem q962 : (Jvm.Cond.methodLinkNest "ClockworkTailor$State" (119 : Nat) ({ cls := "ClockworkTailor", name := "indexOf", desc := "(C)I" } : Jvm.MethodName) "ClockworkTailor") ∈ lw_tbl := lw_at lw_m4 149 rfl
theorem q967 : (Jvm.Cond.methodLink "ClockworkTailor$State" (123 : Nat) ({ cls := "ClockworkTailor$State", name := "checkRecipe", desc := "(I)V" } : Jvm.MethodName)) ∈ lw_all := lw_g (lw_at lw_m4 154 rfl) rfl
theorem q968 : (Jvm.Cond.instanceMethod ({ cls := "ClockworkTailor$State", name := "checkRecipe", desc := "(I)V" } : Jvm.MethodName)) ∈ lw_all := lw_g (lw_at lw_m4 155 rfl) rfl
theorem q969 : (Jvm.Cond.selects "ClockworkTailor$State" ({ cls := "ClockworkTailor$State", name := "checkRecipe", desc := "(I)V" } : Jvm.MethodName) ({ cls := "ClockworkTailor$State", name := "checkRecipe", desc := "(I)V" } : Jvm.MethodName)) ∈ lw_all := lw_g (lw_at lw_m4 156 rfl) rfl
theorem q970 : (Jvm.Cond.code ({ cls := "ClockworkTailor$State", name := "checkRecipe", desc := "(I)V" } : Jvm.MethodName) prog_8_method_3_code (2 : Nat) (Option.none : Option Jvm.ClassFile.FieldType)) ∈ lw_all := lw_g (lw_at lw_m4 157 rfl) rfl
theorem q971 : (Jvm.Cond.methodLinkNest "ClockworkTailor$State" (74 : Nat) ({ cls := "ClockworkTailor", name := "checkElement", desc := "(Z)V" } : Jvm.MethodName) "ClockworkTailor") ∈ lw_tbl := lw_at lw_m4 158 rfl
theorem q989 : (Jvm.Cond.methodLink "ClockworkTailor$State" (126 : Nat) ({ cls := "ClockworkTailor$State", name := "hasObjectOf", desc := "(I)Z" } : Jvm.MethodName)) ∈ lw_all := lw_g (lw_at lw_m4 176 rfl) rfl
theorem q990 : (Jvm.Cond.privateMethod ({ cls := "ClockworkTailor$State", name := "hasObjectOf", desc := "(I)Z" } : Jvm.MethodName)) ∈ lw_tbl := lw_at lw_m4 177 rfl
theorem q991 : (Jvm.Cond.instanceMethod ({ cls := "ClockworkTailor$State", name := "hasObjectOf", desc := "(I)Z" } : Jvm.MethodName)) ∈ lw_all := lw_g (lw_at lw_m4 178 rfl) rfl
theorem q992 : (Jvm.Cond.code ({ cls := "ClockworkTailor$State", name := "hasObjectOf", desc := "(I)Z" } : Jvm.MethodName) prog_8_method_8_code (4 : Nat) (Option.some Jvm.ClassFile.FieldType.boolean)) ∈ lw_all := lw_g (lw_at lw_m4 179 rfl) rfl
theorem q1004 : (Jvm.Cond.instanceMethod ({ cls := "ClockworkTailor$State", name := "addNeed", desc := "(CCZ)I" } : Jvm.MethodName)) ∈ lw_all := lw_g (lw_at lw_m4 191 rfl) rfl
theorem q1005 : (Jvm.Cond.selects "ClockworkTailor$State" ({ cls := "ClockworkTailor$State", name := "addNeed", desc := "(CCZ)I" } : Jvm.MethodName) ({ cls := "ClockworkTailor$State", name := "addNeed", desc := "(CCZ)I" } : Jvm.MethodName)) ∈ lw_all := lw_g (lw_at lw_m4 192 rfl) rfl
theorem q1006 : (Jvm.Cond.code ({ cls := "ClockworkTailor$State", name := "addNeed", desc := "(CCZ)I" } : Jvm.MethodName) prog_8_method_10_code (7 : Nat) (Option.some Jvm.ClassFile.FieldType.int)) ∈ lw_all := lw_g (lw_at lw_m4 193 rfl) rfl
theorem q1007 : (Jvm.Cond.methodLink "ClockworkTailor$State" (129 : Nat) ({ cls := "ClockworkTailor$Book", name := "positionOf", desc := "(II)I" } : Jvm.MethodName)) ∈ lw_all := lw_g (lw_at lw_m4 194 rfl) rfl
theorem q1011 : (Jvm.Cond.methodLink "ClockworkTailor$State" (137 : Nat) ({ cls := "ClockworkTailor$Book", name := "add", desc := "(IIZ)V" } : Jvm.MethodName)) ∈ lw_all := lw_g (lw_at lw_m4 198 rfl) rfl
theorem q1015 : (Jvm.Cond.methodLink "ClockworkTailor$State" (141 : Nat) ({ cls := "ClockworkTailor$Book", name := "refuseCircle", desc := "()V" } : Jvm.MethodName)) ∈ lw_all := lw_g (lw_at lw_m4 202 rfl) rfl
theorem q1034 : (Jvm.Cond.instanceMethod ({ cls := "ClockworkTailor$State", name := "removeNeed", desc := "(CC)I" } : Jvm.MethodName)) ∈ lw_all := lw_g (lw_at lw_m4 221 rfl) rfl
theorem q1035 : (Jvm.Cond.selects "ClockworkTailor$State" ({ cls := "ClockworkTailor$State", name := "removeNeed", desc := "(CC)I" } : Jvm.MethodName) ({ cls := "ClockworkTailor$State", name := "removeNeed", desc := "(CC)I" } : Jvm.MethodName)) ∈ lw_all := lw_g (lw_at lw_m4 222 rfl) rfl
theorem q1036 : (Jvm.Cond.code ({ cls := "ClockworkTailor$State", name := "removeNeed", desc := "(CC)I" } : Jvm.MethodName) prog_8_method_11_code (6 : Nat) (Option.some Jvm.ClassFile.FieldType.int)) ∈ lw_all := lw_g (lw_at lw_m4 223 rfl) rfl
theorem q1037 : (Jvm.Cond.methodLinkNest "ClockworkTailor$State" (144 : Nat) ({ cls := "ClockworkTailor", name := "found", desc := "(I)I" } : Jvm.MethodName) "ClockworkTailor") ∈ lw_tbl := lw_at lw_m4 224 rfl
theorem q1041 : (Jvm.Cond.methodLink "ClockworkTailor$State" (148 : Nat) ({ cls := "ClockworkTailor$Book", name := "remove", desc := "(II)V" } : Jvm.MethodName)) ∈ lw_all := lw_g (lw_at lw_m4 228 rfl) rfl
theorem q1147 : (Jvm.Cond.instanceMethod ({ cls := "ClockworkTailor$State", name := "replace", desc := "(CC)I" } : Jvm.MethodName)) ∈ lw_all := lw_g (lw_at lw_m5 94 rfl) rfl
theorem q1148 : (Jvm.Cond.selects "ClockworkTailor$State" ({ cls := "ClockworkTailor$State", name := "replace", desc := "(CC)I" } : Jvm.MethodName) ({ cls := "ClockworkTailor$State", name := "replace", desc := "(CC)I" } : Jvm.MethodName)) ∈ lw_all := lw_g (lw_at lw_m5 95 rfl) rfl
theorem q1149 : (Jvm.Cond.code ({ cls := "ClockworkTailor$State", name := "replace", desc := "(CC)I" } : Jvm.MethodName) prog_8_method_12_code (6 : Nat) (Option.some Jvm.ClassFile.FieldType.int)) ∈ lw_all := lw_g (lw_at lw_m5 96 rfl) rfl
theorem q1150 : (Jvm.Cond.methodLink "ClockworkTailor$State" (152 : Nat) ({ cls := "ClockworkTailor$Book", name := "swapCircle", desc := "(II)I" } : Jvm.MethodName)) ∈ lw_all := lw_g (lw_at lw_m5 97 rfl) rfl
theorem q1154 : (Jvm.Cond.methodLink "ClockworkTailor$State" (158 : Nat) ({ cls := "ClockworkTailor$Book", name := "countReplaced", desc := "()I" } : Jvm.MethodName)) ∈ lw_all := lw_g (lw_at lw_m5 101 rfl) rfl
theorem q1168 : (Jvm.Cond.instanceMethod ({ cls := "ClockworkTailor$State", name := "putBack", desc := "(C)C" } : Jvm.MethodName)) ∈ lw_all := lw_g (lw_at lw_m5 115 rfl) rfl
theorem q1169 : (Jvm.Cond.selects "ClockworkTailor$State" ({ cls := "ClockworkTailor$State", name := "putBack", desc := "(C)C" } : Jvm.MethodName) ({ cls := "ClockworkTailor$State", name := "putBack", desc := "(C)C" } : Jvm.MethodName)) ∈ lw_all := lw_g (lw_at lw_m5 116 rfl) rfl
theorem q1170 : (Jvm.Cond.code ({ cls := "ClockworkTailor$State", name := "putBack", desc := "(C)C" } : Jvm.MethodName) prog_8_method_13_code (4 : Nat) (Option.some Jvm.ClassFile.FieldType.char)) ∈ lw_all := lw_g (lw_at lw_m5 117 rfl) rfl
theorem q1171 : (Jvm.Cond.methodLinkNest "ClockworkTailor$State" (161 : Nat) ({ cls := "ClockworkTailor", name := "letterOf", desc := "(I)C" } : Jvm.MethodName) "ClockworkTailor") ∈ lw_tbl := lw_at lw_m5 118 rfl
theorem q1223 : (Jvm.Cond.instanceMethod ({ cls := "ClockworkTailor$State", name := "openThread", desc := "()I" } : Jvm.MethodName)) ∈ lw_all := lw_g (lw_at lw_m5 170 rfl) rfl
theorem q1224 : (Jvm.Cond.selects "ClockworkTailor$State" ({ cls := "ClockworkTailor$State", name := "openThread", desc := "()I" } : Jvm.MethodName) ({ cls := "ClockworkTailor$State", name := "openThread", desc := "()I" } : Jvm.MethodName)) ∈ lw_all := lw_g (lw_at lw_m5 171 rfl) rfl
theorem q1225 : (Jvm.Cond.code ({ cls := "ClockworkTailor$State", name := "openThread", desc := "()I" } : Jvm.MethodName) prog_8_method_14_code (2 : Nat) (Option.some Jvm.ClassFile.FieldType.int)) ∈ lw_all := lw_g (lw_at lw_m5 172 rfl) rfl
theorem q1236 : (Jvm.Cond.instanceMethod ({ cls := "ClockworkTailor$State", name := "closeThread", desc := "(I)I" } : Jvm.MethodName)) ∈ lw_all := lw_g (lw_at lw_m5 183 rfl) rfl
theorem q1237 : (Jvm.Cond.selects "ClockworkTailor$State" ({ cls := "ClockworkTailor$State", name := "closeThread", desc := "(I)I" } : Jvm.MethodName) ({ cls := "ClockworkTailor$State", name := "closeThread", desc := "(I)I" } : Jvm.MethodName)) ∈ lw_all := lw_g (lw_at lw_m5 184 rfl) rfl
theorem q1238 : (Jvm.Cond.code ({ cls := "ClockworkTailor$State", name := "closeThread", desc := "(I)I" } : Jvm.MethodName) prog_8_method_15_code (4 : Nat) (Option.some Jvm.ClassFile.FieldType.int)) ∈ lw_all := lw_g (lw_at lw_m5 185 rfl) rfl
theorem q1239 : (Jvm.Cond.methodLink "ClockworkTailor$State" (165 : Nat) ({ cls := "ClockworkTailor$State", name := "checkThread", desc := "(I)V" } : Jvm.MethodName)) ∈ lw_all := lw_g (lw_at lw_m5 186 rfl) rfl
theorem q1240 : (Jvm.Cond.instanceMethod ({ cls := "ClockworkTailor$State", name := "checkThread", desc := "(I)V" } : Jvm.MethodName)) ∈ lw_all := lw_g (lw_at lw_m5 187 rfl) rfl
theorem q1241 : (Jvm.Cond.selects "ClockworkTailor$State" ({ cls := "ClockworkTailor$State", name := "checkThread", desc := "(I)V" } : Jvm.MethodName) ({ cls := "ClockworkTailor$State", name := "checkThread", desc := "(I)V" } : Jvm.MethodName)) ∈ lw_all := lw_g (lw_at lw_m5 188 rfl) rfl
theorem q1242 : (Jvm.Cond.code ({ cls := "ClockworkTailor$State", name := "checkThread", desc := "(I)V" } : Jvm.MethodName) prog_8_method_4_code (2 : Nat) (Option.none : Option Jvm.ClassFile.FieldType)) ∈ lw_all := lw_g (lw_at lw_m5 189 rfl) rfl
theorem q1243 : (Jvm.Cond.methodLinkNest "ClockworkTailor$State" (78 : Nat) ({ cls := "ClockworkTailor", name := "isThread", desc := "(I)Z" } : Jvm.MethodName) "ClockworkTailor") ∈ lw_tbl := lw_at lw_m5 190 rfl
theorem q1246 : (Jvm.Cond.methodLinkNest "ClockworkTailor$State" (82 : Nat) ({ cls := "ClockworkTailor", name := "checkIndex", desc := "(Z)V" } : Jvm.MethodName) "ClockworkTailor") ∈ lw_tbl := lw_at lw_m5 193 rfl
theorem q1265 : (Jvm.Cond.instanceMethod ({ cls := "ClockworkTailor$State", name := "make", desc := "(CI)I" } : Jvm.MethodName)) ∈ lw_all := lw_g (lw_at lw_m5 212 rfl) rfl
theorem q1266 : (Jvm.Cond.selects "ClockworkTailor$State" ({ cls := "ClockworkTailor$State", name := "make", desc := "(CI)I" } : Jvm.MethodName) ({ cls := "ClockworkTailor$State", name := "make", desc := "(CI)I" } : Jvm.MethodName)) ∈ lw_all := lw_g (lw_at lw_m5 213 rfl) rfl
theorem q1267 : (Jvm.Cond.code ({ cls := "ClockworkTailor$State", name := "make", desc := "(CI)I" } : Jvm.MethodName) prog_8_method_20_code (4 : Nat) (Option.some Jvm.ClassFile.FieldType.int)) ∈ lw_all := lw_g (lw_at lw_m5 214 rfl) rfl
theorem q1268 : (Jvm.Cond.methodLink "ClockworkTailor$State" (195 : Nat) ({ cls := "ClockworkTailor$State", name := "getOrRefuse", desc := "(II)I" } : Jvm.MethodName)) ∈ lw_all := lw_g (lw_at lw_m5 215 rfl) rfl
theorem q1269 : (Jvm.Cond.privateMethod ({ cls := "ClockworkTailor$State", name := "getOrRefuse", desc := "(II)I" } : Jvm.MethodName)) ∈ lw_tbl := lw_at lw_m5 216 rfl
theorem q1270 : (Jvm.Cond.instanceMethod ({ cls := "ClockworkTailor$State", name := "getOrRefuse", desc := "(II)I" } : Jvm.MethodName)) ∈ lw_all := lw_g (lw_at lw_m5 217 rfl) rfl
theorem q1271 : (Jvm.Cond.code ({ cls := "ClockworkTailor$State", name := "getOrRefuse", desc := "(II)I" } : Jvm.MethodName) prog_8_method_19_code (5 : Nat) (Option.some Jvm.ClassFile.FieldType.int)) ∈ lw_all := lw_g (lw_at lw_m5 218 rfl) rfl
theorem q1282 : (Jvm.Cond.instanceMethod ({ cls := "ClockworkTailor$State", name := "touch", desc := "(III)I" } : Jvm.MethodName)) ∈ lw_all := lw_g (lw_at lw_m5 229 rfl) rfl
theorem q1283 : (Jvm.Cond.selects "ClockworkTailor$State" ({ cls := "ClockworkTailor$State", name := "touch", desc := "(III)I" } : Jvm.MethodName) ({ cls := "ClockworkTailor$State", name := "touch", desc := "(III)I" } : Jvm.MethodName)) ∈ lw_all := lw_g (lw_at lw_m5 230 rfl) rfl
theorem q1284 : (Jvm.Cond.code ({ cls := "ClockworkTailor$State", name := "touch", desc := "(III)I" } : Jvm.MethodName) prog_8_method_21_code (6 : Nat) (Option.some Jvm.ClassFile.FieldType.int)) ∈ lw_all := lw_g (lw_at lw_m5 231 rfl) rfl
theorem q1285 : (Jvm.Cond.methodLink "ClockworkTailor$State" (198 : Nat) ({ cls := "ClockworkTailor$State", name := "checkNeed", desc := "(II)V" } : Jvm.MethodName)) ∈ lw_all := lw_g (lw_at lw_m5 232 rfl) rfl
theorem q1286 : (Jvm.Cond.instanceMethod ({ cls := "ClockworkTailor$State", name := "checkNeed", desc := "(II)V" } : Jvm.MethodName)) ∈ lw_all := lw_g (lw_at lw_m5 233 rfl) rfl
theorem q1287 : (Jvm.Cond.selects "ClockworkTailor$State" ({ cls := "ClockworkTailor$State", name := "checkNeed", desc := "(II)V" } : Jvm.MethodName) ({ cls := "ClockworkTailor$State", name := "checkNeed", desc := "(II)V" } : Jvm.MethodName)) ∈ lw_all := lw_g (lw_at lw_m5 234 rfl) rfl
theorem q1288 : (Jvm.Cond.code ({ cls := "ClockworkTailor$State", name := "checkNeed", desc := "(II)V" } : Jvm.MethodName) prog_8_method_6_code (3 : Nat) (Option.none : Option Jvm.ClassFile.FieldType)) ∈ lw_all := lw_g (lw_at lw_m5 235 rfl) rfl
theorem q1289 : (Jvm.Cond.methodLink "ClockworkTailor$State" (89 : Nat) ({ cls := "ClockworkTailor$State", name := "checkObject", desc := "(I)V" } : Jvm.MethodName)) ∈ lw_all := lw_g (lw_at lw_m5 236 rfl) rfl
theorem q1290 : (Jvm.Cond.instanceMethod ({ cls := "ClockworkTailor$State", name := "checkObject", desc := "(I)V" } : Jvm.MethodName)) ∈ lw_all := lw_g (lw_at lw_m5 237 rfl) rfl
theorem q1291 : (Jvm.Cond.selects "ClockworkTailor$State" ({ cls := "ClockworkTailor$State", name := "checkObject", desc := "(I)V" } : Jvm.MethodName) ({ cls := "ClockworkTailor$State", name := "checkObject", desc := "(I)V" } : Jvm.MethodName)) ∈ lw_all := lw_g (lw_at lw_m5 238 rfl) rfl
theorem q1292 : (Jvm.Cond.code ({ cls := "ClockworkTailor$State", name := "checkObject", desc := "(I)V" } : Jvm.MethodName) prog_8_method_5_code (2 : Nat) (Option.none : Option Jvm.ClassFile.FieldType)) ∈ lw_all := lw_g (lw_at lw_m5 239 rfl) rfl
theorem q1704 : (Jvm.Cond.instanceMethod ({ cls := "ClockworkTailor$State", name := "writeObject", desc := "(Ljava/lang/StringBuilder;I)V" } : Jvm.MethodName)) ∈ lw_all := lw_g (lw_at lw_m7 171 rfl) rfl
theorem q1705 : (Jvm.Cond.selects "ClockworkTailor$State" ({ cls := "ClockworkTailor$State", name := "writeObject", desc := "(Ljava/lang/StringBuilder;I)V" } : Jvm.MethodName) ({ cls := "ClockworkTailor$State", name := "writeObject", desc := "(Ljava/lang/StringBuilder;I)V" } : Jvm.MethodName)) ∈ lw_all := lw_g (lw_at lw_m7 172 rfl) rfl
theorem q1706 : (Jvm.Cond.code ({ cls := "ClockworkTailor$State", name := "writeObject", desc := "(Ljava/lang/StringBuilder;I)V" } : Jvm.MethodName) prog_8_method_26_code (5 : Nat) (Option.none : Option Jvm.ClassFile.FieldType)) ∈ lw_all := lw_g (lw_at lw_m7 173 rfl) rfl
theorem q1707 : (Jvm.Cond.methodLink "ClockworkTailor$State" (228 : Nat) ({ cls := "java/lang/StringBuilder", name := "append", desc := "(I)Ljava/lang/StringBuilder;" } : Jvm.MethodName)) ∈ lw_all := lw_g (lw_at lw_m7 174 rfl) rfl
theorem q1708 : (Jvm.Cond.methodLink "ClockworkTailor$State" (234 : Nat) ({ cls := "java/lang/StringBuilder", name := "append", desc := "(C)Ljava/lang/StringBuilder;" } : Jvm.MethodName)) ∈ lw_all := lw_g (lw_at lw_m7 175 rfl) rfl
theorem q1709 : (Jvm.Cond.stringRef "ClockworkTailor$State" (237 : Nat) " ?") ∈ lw_tbl := lw_at lw_m7 176 rfl
theorem q1710 : (Jvm.Cond.methodLink "ClockworkTailor$State" (239 : Nat) ({ cls := "java/lang/StringBuilder", name := "append", desc := "(Ljava/lang/String;)Ljava/lang/StringBuilder;" } : Jvm.MethodName)) ∈ lw_all := lw_g (lw_at lw_m7 177 rfl) rfl
theorem q2550 : (Jvm.Cond.castable "ClockworkTailor$State" "java/lang/Object") ∈ lw_tbl := lw_at lw_m11 57 rfl
theorem in_X2 : ∀ w ∈ wsX20, w ∈ lw_all := lw_in wsX20 [213, 215, 217, 219, 221, 223, 225, 227, 229, 231, 233, 235, 237, 239] (by decide +kernel) (by decide +kernel)

/-! ClockworkTailor$Book -/
set_option maxRecDepth 100000
def RX3 : String := "ClockworkTailor$Book"
def TX3 : u_T := fun k => match k with
  | 0 => ("ClockworkTailor$Book", "has", "[Z", true)
  | 1 => ("ClockworkTailor$Book", "scopes", "[C", true)
  | 2 => ("ClockworkTailor$Book", "minutes", "[I", true)
  | 3 => ("ClockworkTailor$Book", "counts", "[I", true)
  | 4 => ("ClockworkTailor$Book", "needs", "[I", true)
  | 5 => ("ClockworkTailor$Book", "areLazy", "[Z", true)
  | _ => ("ClockworkTailor$Book", "replacing", "[I", true)
def tyX3 : Nat → FieldType := fun k => match k with
  | 0 => .array .boolean
  | 1 => .array .char
  | 2 => .array .int
  | 3 => .array .int
  | 4 => .array .int
  | 5 => .array .boolean
  | _ => .array .int
abbrev wsX30 : List Cond := u_ws RX3 TX3 7
theorem nmX3 : ∀ a, a < 7 → ∀ b, b < 7 → a ≠ b → (TX3 a).2.1 ≠ (TX3 b).2.1 := by decide +kernel
theorem tyX3_ok : ∀ k, k < 7 → parseFieldDescriptor (TX3 k).2.2.1 = some (tyX3 k) := by decide +kernel
abbrev cX3_init : ByteArray := prog_2_method_1_code
def yX3_init : MethodName := ⟨RX3, "<init>", "()V"⟩
def dkwX3_init_3 : List UInt8 := [180, 0, 32, 27, 2, 79, 132, 1, 1, 167, 255, 240, 177]
abbrev dktX3_init_3 : List UInt8 := dkwX3_init_3 ++ []
def dkwX3_init_2 : List UInt8 := [188, 4, 181, 0, 29, 42, 16, 8, 188, 10, 181, 0, 32, 3, 60, 27, 16, 8, 162, 0, 16, 42]
abbrev dktX3_init_2 : List UInt8 := dkwX3_init_2 ++ dktX3_init_3
def dkwX3_init_1 : List UInt8 := [188, 10, 181, 0, 19, 42, 16, 8, 188, 10, 181, 0, 23, 42, 16, 24, 188, 10, 181, 0, 26, 42, 16, 24]
abbrev dktX3_init_1 : List UInt8 := dkwX3_init_1 ++ dktX3_init_2
def dkwX3_init_0 : List UInt8 := [42, 183, 0, 3, 42, 16, 8, 188, 4, 181, 0, 9, 42, 16, 8, 188, 5, 181, 0, 15, 42, 16, 8]
abbrev dktX3_init_0 : List UInt8 := dkwX3_init_0 ++ dktX3_init_1
theorem dksX3_init_0 : cX3_init.data.toList.drop 0 = dktX3_init_0 := by decide +kernel
theorem dksX3_init_1 : cX3_init.data.toList.drop 23 = dktX3_init_1 := dk_seg dksX3_init_0 23 rfl rfl
theorem dksX3_init_2 : cX3_init.data.toList.drop 47 = dktX3_init_2 := dk_seg dksX3_init_1 24 rfl rfl
theorem dksX3_init_3 : cX3_init.data.toList.drop 69 = dktX3_init_3 := dk_seg dksX3_init_2 22 rfl rfl
theorem dX3_init_0 : decode cX3_init 0 = .ok (.aload_n 0, 1) := dk_42 (dk_at dksX3_init_0 0 rfl rfl)
theorem dX3_init_1 : decode cX3_init 1 = .ok (.invokespecial 3, 3) := dk_183 0 3 (dk_at dksX3_init_0 1 rfl rfl)
theorem dX3_init_4 : decode cX3_init 4 = .ok (.aload_n 0, 1) := dk_42 (dk_at dksX3_init_0 4 rfl rfl)
theorem dX3_init_5 : decode cX3_init 5 = .ok (.bipush 8, 2) := dk_16 8 (dk_at dksX3_init_0 5 rfl rfl)
theorem dX3_init_7 : decode cX3_init 7 = .ok (.newarray .boolean, 2) := dk_188_4 (dk_at dksX3_init_0 7 rfl rfl)
theorem dX3_init_9 : decode cX3_init 9 = .ok (.putfield 9, 3) := dk_181 0 9 (dk_at dksX3_init_0 9 rfl rfl)
theorem dX3_init_12 : decode cX3_init 12 = .ok (.aload_n 0, 1) := dk_42 (dk_at dksX3_init_0 12 rfl rfl)
theorem dX3_init_13 : decode cX3_init 13 = .ok (.bipush 8, 2) := dk_16 8 (dk_at dksX3_init_0 13 rfl rfl)
theorem dX3_init_15 : decode cX3_init 15 = .ok (.newarray .char, 2) := dk_188_5 (dk_at dksX3_init_0 15 rfl rfl)
theorem dX3_init_17 : decode cX3_init 17 = .ok (.putfield 15, 3) := dk_181 0 15 (dk_at dksX3_init_0 17 rfl rfl)
theorem dX3_init_20 : decode cX3_init 20 = .ok (.aload_n 0, 1) := dk_42 (dk_at dksX3_init_0 20 rfl rfl)
theorem dX3_init_21 : decode cX3_init 21 = .ok (.bipush 8, 2) := dk_16 8 (dk_at dksX3_init_0 21 rfl rfl)
theorem dX3_init_23 : decode cX3_init 23 = .ok (.newarray .int, 2) := dk_188_10 (dk_at dksX3_init_1 0 rfl rfl)
theorem dX3_init_25 : decode cX3_init 25 = .ok (.putfield 19, 3) := dk_181 0 19 (dk_at dksX3_init_1 2 rfl rfl)
theorem dX3_init_28 : decode cX3_init 28 = .ok (.aload_n 0, 1) := dk_42 (dk_at dksX3_init_1 5 rfl rfl)
theorem dX3_init_29 : decode cX3_init 29 = .ok (.bipush 8, 2) := dk_16 8 (dk_at dksX3_init_1 6 rfl rfl)
theorem dX3_init_31 : decode cX3_init 31 = .ok (.newarray .int, 2) := dk_188_10 (dk_at dksX3_init_1 8 rfl rfl)
theorem dX3_init_33 : decode cX3_init 33 = .ok (.putfield 23, 3) := dk_181 0 23 (dk_at dksX3_init_1 10 rfl rfl)
theorem dX3_init_36 : decode cX3_init 36 = .ok (.aload_n 0, 1) := dk_42 (dk_at dksX3_init_1 13 rfl rfl)
theorem dX3_init_37 : decode cX3_init 37 = .ok (.bipush 24, 2) := dk_16 24 (dk_at dksX3_init_1 14 rfl rfl)
theorem dX3_init_39 : decode cX3_init 39 = .ok (.newarray .int, 2) := dk_188_10 (dk_at dksX3_init_1 16 rfl rfl)
theorem dX3_init_41 : decode cX3_init 41 = .ok (.putfield 26, 3) := dk_181 0 26 (dk_at dksX3_init_1 18 rfl rfl)
theorem dX3_init_44 : decode cX3_init 44 = .ok (.aload_n 0, 1) := dk_42 (dk_at dksX3_init_1 21 rfl rfl)
theorem dX3_init_45 : decode cX3_init 45 = .ok (.bipush 24, 2) := dk_16 24 (dk_at dksX3_init_1 22 rfl rfl)
theorem dX3_init_47 : decode cX3_init 47 = .ok (.newarray .boolean, 2) := dk_188_4 (dk_at dksX3_init_2 0 rfl rfl)
theorem dX3_init_49 : decode cX3_init 49 = .ok (.putfield 29, 3) := dk_181 0 29 (dk_at dksX3_init_2 2 rfl rfl)
theorem dX3_init_52 : decode cX3_init 52 = .ok (.aload_n 0, 1) := dk_42 (dk_at dksX3_init_2 5 rfl rfl)
theorem dX3_init_53 : decode cX3_init 53 = .ok (.bipush 8, 2) := dk_16 8 (dk_at dksX3_init_2 6 rfl rfl)
theorem dX3_init_55 : decode cX3_init 55 = .ok (.newarray .int, 2) := dk_188_10 (dk_at dksX3_init_2 8 rfl rfl)
theorem dX3_init_57 : decode cX3_init 57 = .ok (.putfield 32, 3) := dk_181 0 32 (dk_at dksX3_init_2 10 rfl rfl)
theorem dX3_init_60 : decode cX3_init 60 = .ok (.iconst 0, 1) := dk_3 (dk_at dksX3_init_2 13 rfl rfl)
theorem dX3_init_61 : decode cX3_init 61 = .ok (.istore_n 1, 1) := dk_60 (dk_at dksX3_init_2 14 rfl rfl)
theorem dX3_init_62 : decode cX3_init 62 = .ok (.iload_n 1, 1) := dk_27 (dk_at dksX3_init_2 15 rfl rfl)
theorem dX3_init_63 : decode cX3_init 63 = .ok (.bipush 8, 2) := dk_16 8 (dk_at dksX3_init_2 16 rfl rfl)
theorem dX3_init_65 : decode cX3_init 65 = .ok (.if_icmp .ge 16, 3) := dk_162 0 16 (dk_at dksX3_init_2 18 rfl rfl)
theorem dX3_init_68 : decode cX3_init 68 = .ok (.aload_n 0, 1) := dk_42 (dk_at dksX3_init_2 21 rfl rfl)
theorem dX3_init_69 : decode cX3_init 69 = .ok (.getfield 32, 3) := dk_180 0 32 (dk_at dksX3_init_3 0 rfl rfl)
theorem dX3_init_72 : decode cX3_init 72 = .ok (.iload_n 1, 1) := dk_27 (dk_at dksX3_init_3 3 rfl rfl)
theorem dX3_init_73 : decode cX3_init 73 = .ok (.iconst (-1), 1) := dk_2 (dk_at dksX3_init_3 4 rfl rfl)
theorem dX3_init_74 : decode cX3_init 74 = .ok (.iastore, 1) := dk_79 (dk_at dksX3_init_3 5 rfl rfl)
theorem dX3_init_75 : decode cX3_init 75 = .ok (.iinc 1 1, 3) := dk_132 1 1 (dk_at dksX3_init_3 6 rfl rfl)
theorem dX3_init_78 : decode cX3_init 78 = .ok (.goto (-16), 3) := dk_167 255 240 (dk_at dksX3_init_3 9 rfl rfl)
theorem dX3_init_81 : decode cX3_init 81 = .ok (.return_, 1) := dk_177 (dk_at dksX3_init_3 12 rfl rfl)
abbrev cX3_count : ByteArray := prog_2_method_3_code
def yX3_count : MethodName := ⟨RX3, "count", "()I"⟩
def dkwX3_count_1 : List UInt8 := [54, 5, 27, 21, 5, 153, 0, 7, 4, 167, 0, 4, 3, 96, 60, 132, 4, 1, 167, 255, 228, 27, 172]
abbrev dktX3_count_1 : List UInt8 := dkwX3_count_1 ++ []
def dkwX3_count_0 : List UInt8 := [3, 60, 42, 180, 0, 9, 77, 44, 190, 62, 3, 54, 4, 21, 4, 29, 162, 0, 28, 44, 21, 4, 51]
abbrev dktX3_count_0 : List UInt8 := dkwX3_count_0 ++ dktX3_count_1
theorem dksX3_count_0 : cX3_count.data.toList.drop 0 = dktX3_count_0 := by decide +kernel
theorem dksX3_count_1 : cX3_count.data.toList.drop 23 = dktX3_count_1 := dk_seg dksX3_count_0 23 rfl rfl
theorem dX3_count_0 : decode cX3_count 0 = .ok (.iconst 0, 1) := dk_3 (dk_at dksX3_count_0 0 rfl rfl)
theorem dX3_count_1 : decode cX3_count 1 = .ok (.istore_n 1, 1) := dk_60 (dk_at dksX3_count_0 1 rfl rfl)
theorem dX3_count_2 : decode cX3_count 2 = .ok (.aload_n 0, 1) := dk_42 (dk_at dksX3_count_0 2 rfl rfl)
theorem dX3_count_3 : decode cX3_count 3 = .ok (.getfield 9, 3) := dk_180 0 9 (dk_at dksX3_count_0 3 rfl rfl)
theorem dX3_count_6 : decode cX3_count 6 = .ok (.astore_n 2, 1) := dk_77 (dk_at dksX3_count_0 6 rfl rfl)
theorem dX3_count_7 : decode cX3_count 7 = .ok (.aload_n 2, 1) := dk_44 (dk_at dksX3_count_0 7 rfl rfl)
theorem dX3_count_8 : decode cX3_count 8 = .ok (.arraylength, 1) := dk_190 (dk_at dksX3_count_0 8 rfl rfl)
theorem dX3_count_9 : decode cX3_count 9 = .ok (.istore_n 3, 1) := dk_62 (dk_at dksX3_count_0 9 rfl rfl)
theorem dX3_count_10 : decode cX3_count 10 = .ok (.iconst 0, 1) := dk_3 (dk_at dksX3_count_0 10 rfl rfl)
theorem dX3_count_11 : decode cX3_count 11 = .ok (.istore 4, 2) := dk_54 4 (dk_at dksX3_count_0 11 rfl rfl)
theorem dX3_count_13 : decode cX3_count 13 = .ok (.iload 4, 2) := dk_21 4 (dk_at dksX3_count_0 13 rfl rfl)
theorem dX3_count_15 : decode cX3_count 15 = .ok (.iload_n 3, 1) := dk_29 (dk_at dksX3_count_0 15 rfl rfl)
theorem dX3_count_16 : decode cX3_count 16 = .ok (.if_icmp .ge 28, 3) := dk_162 0 28 (dk_at dksX3_count_0 16 rfl rfl)
theorem dX3_count_19 : decode cX3_count 19 = .ok (.aload_n 2, 1) := dk_44 (dk_at dksX3_count_0 19 rfl rfl)
theorem dX3_count_20 : decode cX3_count 20 = .ok (.iload 4, 2) := dk_21 4 (dk_at dksX3_count_0 20 rfl rfl)
theorem dX3_count_22 : decode cX3_count 22 = .ok (.baload, 1) := dk_51 (dk_at dksX3_count_0 22 rfl rfl)
theorem dX3_count_23 : decode cX3_count 23 = .ok (.istore 5, 2) := dk_54 5 (dk_at dksX3_count_1 0 rfl rfl)
theorem dX3_count_25 : decode cX3_count 25 = .ok (.iload_n 1, 1) := dk_27 (dk_at dksX3_count_1 2 rfl rfl)
theorem dX3_count_26 : decode cX3_count 26 = .ok (.iload 5, 2) := dk_21 5 (dk_at dksX3_count_1 3 rfl rfl)
theorem dX3_count_28 : decode cX3_count 28 = .ok (.ifCond .eq 7, 3) := dk_153 0 7 (dk_at dksX3_count_1 5 rfl rfl)
theorem dX3_count_31 : decode cX3_count 31 = .ok (.iconst 1, 1) := dk_4 (dk_at dksX3_count_1 8 rfl rfl)
theorem dX3_count_32 : decode cX3_count 32 = .ok (.goto 4, 3) := dk_167 0 4 (dk_at dksX3_count_1 9 rfl rfl)
theorem dX3_count_35 : decode cX3_count 35 = .ok (.iconst 0, 1) := dk_3 (dk_at dksX3_count_1 12 rfl rfl)
theorem dX3_count_36 : decode cX3_count 36 = .ok (.iadd, 1) := dk_96 (dk_at dksX3_count_1 13 rfl rfl)
theorem dX3_count_37 : decode cX3_count 37 = .ok (.istore_n 1, 1) := dk_60 (dk_at dksX3_count_1 14 rfl rfl)
theorem dX3_count_38 : decode cX3_count 38 = .ok (.iinc 4 1, 3) := dk_132 4 1 (dk_at dksX3_count_1 15 rfl rfl)
theorem dX3_count_41 : decode cX3_count 41 = .ok (.goto (-28), 3) := dk_167 255 228 (dk_at dksX3_count_1 18 rfl rfl)
theorem dX3_count_44 : decode cX3_count 44 = .ok (.iload_n 1, 1) := dk_27 (dk_at dksX3_count_1 21 rfl rfl)
theorem dX3_count_45 : decode cX3_count 45 = .ok (.ireturn, 1) := dk_172 (dk_at dksX3_count_1 22 rfl rfl)
abbrev cX3_inCircles : ByteArray := prog_2_method_22_code
def yX3_inCircles : MethodName := ⟨RX3, "inCircles", "()I"⟩
def dkwX3_inCircles_1 : List UInt8 := [4, 167, 0, 4, 3, 96, 60, 132, 2, 1, 167, 255, 226, 27, 172]
abbrev dktX3_inCircles_1 : List UInt8 := dkwX3_inCircles_1 ++ []
def dkwX3_inCircles_0 : List UInt8 := [3, 60, 3, 61, 28, 16, 8, 162, 0, 30, 27, 28, 42, 182, 0, 105, 184, 0, 94, 28, 46, 158, 0, 7]
abbrev dktX3_inCircles_0 : List UInt8 := dkwX3_inCircles_0 ++ dktX3_inCircles_1
theorem dksX3_inCircles_0 : cX3_inCircles.data.toList.drop 0 = dktX3_inCircles_0 := by decide +kernel
theorem dksX3_inCircles_1 : cX3_inCircles.data.toList.drop 24 = dktX3_inCircles_1 := dk_seg dksX3_inCircles_0 24 rfl rfl
theorem dX3_inCircles_0 : decode cX3_inCircles 0 = .ok (.iconst 0, 1) := dk_3 (dk_at dksX3_inCircles_0 0 rfl rfl)
theorem dX3_inCircles_1 : decode cX3_inCircles 1 = .ok (.istore_n 1, 1) := dk_60 (dk_at dksX3_inCircles_0 1 rfl rfl)
theorem dX3_inCircles_2 : decode cX3_inCircles 2 = .ok (.iconst 0, 1) := dk_3 (dk_at dksX3_inCircles_0 2 rfl rfl)
theorem dX3_inCircles_3 : decode cX3_inCircles 3 = .ok (.istore_n 2, 1) := dk_61 (dk_at dksX3_inCircles_0 3 rfl rfl)
theorem dX3_inCircles_4 : decode cX3_inCircles 4 = .ok (.iload_n 2, 1) := dk_28 (dk_at dksX3_inCircles_0 4 rfl rfl)
theorem dX3_inCircles_5 : decode cX3_inCircles 5 = .ok (.bipush 8, 2) := dk_16 8 (dk_at dksX3_inCircles_0 5 rfl rfl)
theorem dX3_inCircles_7 : decode cX3_inCircles 7 = .ok (.if_icmp .ge 30, 3) := dk_162 0 30 (dk_at dksX3_inCircles_0 7 rfl rfl)
theorem dX3_inCircles_10 : decode cX3_inCircles 10 = .ok (.iload_n 1, 1) := dk_27 (dk_at dksX3_inCircles_0 10 rfl rfl)
theorem dX3_inCircles_11 : decode cX3_inCircles 11 = .ok (.iload_n 2, 1) := dk_28 (dk_at dksX3_inCircles_0 11 rfl rfl)
theorem dX3_inCircles_12 : decode cX3_inCircles 12 = .ok (.aload_n 0, 1) := dk_42 (dk_at dksX3_inCircles_0 12 rfl rfl)
theorem dX3_inCircles_13 : decode cX3_inCircles 13 = .ok (.invokevirtual 105, 3) := dk_182 0 105 (dk_at dksX3_inCircles_0 13 rfl rfl)
theorem dX3_inCircles_16 : decode cX3_inCircles 16 = .ok (.invokestatic 94, 3) := dk_184 0 94 (dk_at dksX3_inCircles_0 16 rfl rfl)
theorem dX3_inCircles_19 : decode cX3_inCircles 19 = .ok (.iload_n 2, 1) := dk_28 (dk_at dksX3_inCircles_0 19 rfl rfl)
theorem dX3_inCircles_20 : decode cX3_inCircles 20 = .ok (.iaload, 1) := dk_46 (dk_at dksX3_inCircles_0 20 rfl rfl)
theorem dX3_inCircles_21 : decode cX3_inCircles 21 = .ok (.ifCond .le 7, 3) := dk_158 0 7 (dk_at dksX3_inCircles_0 21 rfl rfl)
theorem dX3_inCircles_24 : decode cX3_inCircles 24 = .ok (.iconst 1, 1) := dk_4 (dk_at dksX3_inCircles_1 0 rfl rfl)
theorem dX3_inCircles_25 : decode cX3_inCircles 25 = .ok (.goto 4, 3) := dk_167 0 4 (dk_at dksX3_inCircles_1 1 rfl rfl)
theorem dX3_inCircles_28 : decode cX3_inCircles 28 = .ok (.iconst 0, 1) := dk_3 (dk_at dksX3_inCircles_1 4 rfl rfl)
theorem dX3_inCircles_29 : decode cX3_inCircles 29 = .ok (.iadd, 1) := dk_96 (dk_at dksX3_inCircles_1 5 rfl rfl)
theorem dX3_inCircles_30 : decode cX3_inCircles 30 = .ok (.istore_n 1, 1) := dk_60 (dk_at dksX3_inCircles_1 6 rfl rfl)
theorem dX3_inCircles_31 : decode cX3_inCircles 31 = .ok (.iinc 2 1, 3) := dk_132 2 1 (dk_at dksX3_inCircles_1 7 rfl rfl)
theorem dX3_inCircles_34 : decode cX3_inCircles 34 = .ok (.goto (-30), 3) := dk_167 255 226 (dk_at dksX3_inCircles_1 10 rfl rfl)
theorem dX3_inCircles_37 : decode cX3_inCircles 37 = .ok (.iload_n 1, 1) := dk_27 (dk_at dksX3_inCircles_1 13 rfl rfl)
theorem dX3_inCircles_38 : decode cX3_inCircles 38 = .ok (.ireturn, 1) := dk_172 (dk_at dksX3_inCircles_1 14 rfl rfl)
abbrev cX3_anyWay : ByteArray := prog_2_method_16_code
def yX3_anyWay : MethodName := ⟨RX3, "anyWay", "()LClockworkTailor$Way;"⟩
theorem dX3_anyWay_0 : decode cX3_anyWay 0 = .ok (.aload_n 0, 1) := by decide +kernel
theorem dX3_anyWay_1 : decode cX3_anyWay 1 = .ok (.invokedynamic 60, 5) := by decide +kernel
theorem dX3_anyWay_6 : decode cX3_anyWay 6 = .ok (.areturn, 1) := by decide +kernel
abbrev cX3_lambda_anyWay_1 : ByteArray := prog_2_method_28_code
def yX3_lambda_anyWay_1 : MethodName := ⟨RX3, "lambda$anyWay$1", "(II)Z"⟩
def dkwX3_lambda_anyWay_1_0 : List UInt8 := [42, 27, 28, 3, 182, 0, 150, 172]
abbrev dktX3_lambda_anyWay_1_0 : List UInt8 := dkwX3_lambda_anyWay_1_0 ++ []
theorem dksX3_lambda_anyWay_1_0 : cX3_lambda_anyWay_1.data.toList.drop 0 = dktX3_lambda_anyWay_1_0 := by decide +kernel
theorem dX3_lambda_anyWay_1_0 : decode cX3_lambda_anyWay_1 0 = .ok (.aload_n 0, 1) := dk_42 (dk_at dksX3_lambda_anyWay_1_0 0 rfl rfl)
theorem dX3_lambda_anyWay_1_1 : decode cX3_lambda_anyWay_1 1 = .ok (.iload_n 1, 1) := dk_27 (dk_at dksX3_lambda_anyWay_1_0 1 rfl rfl)
theorem dX3_lambda_anyWay_1_2 : decode cX3_lambda_anyWay_1 2 = .ok (.iload_n 2, 1) := dk_28 (dk_at dksX3_lambda_anyWay_1_0 2 rfl rfl)
theorem dX3_lambda_anyWay_1_3 : decode cX3_lambda_anyWay_1 3 = .ok (.iconst 0, 1) := dk_3 (dk_at dksX3_lambda_anyWay_1_0 3 rfl rfl)
theorem dX3_lambda_anyWay_1_4 : decode cX3_lambda_anyWay_1 4 = .ok (.invokevirtual 150, 3) := dk_182 0 150 (dk_at dksX3_lambda_anyWay_1_0 4 rfl rfl)
theorem dX3_lambda_anyWay_1_7 : decode cX3_lambda_anyWay_1 7 = .ok (.ireturn, 1) := dk_172 (dk_at dksX3_lambda_anyWay_1_0 7 rfl rfl)
abbrev cX3_leads : ByteArray := prog_2_method_14_code
def yX3_leads : MethodName := ⟨RX3, "leads", "(IIZ)Z"⟩
def dkwX3_leads_2 : List UInt8 := [167, 255, 212, 3, 172]
abbrev dktX3_leads_2 : List UInt8 := dkwX3_leads_2 ++ []
def dkwX3_leads_1 : List UInt8 := [28, 160, 0, 19, 29, 153, 0, 13, 42, 27, 21, 4, 182, 0, 52, 154, 0, 5, 4, 172, 132, 4, 1]
abbrev dktX3_leads_1 : List UInt8 := dkwX3_leads_1 ++ dktX3_leads_2
def dkwX3_leads_0 : List UInt8 := [3, 54, 4, 21, 4, 42, 27, 182, 0, 41, 162, 0, 40, 42, 42, 27, 21, 4, 182, 0, 45, 182, 0, 49]
abbrev dktX3_leads_0 : List UInt8 := dkwX3_leads_0 ++ dktX3_leads_1
theorem dksX3_leads_0 : cX3_leads.data.toList.drop 0 = dktX3_leads_0 := by decide +kernel
theorem dksX3_leads_1 : cX3_leads.data.toList.drop 24 = dktX3_leads_1 := dk_seg dksX3_leads_0 24 rfl rfl
theorem dksX3_leads_2 : cX3_leads.data.toList.drop 47 = dktX3_leads_2 := dk_seg dksX3_leads_1 23 rfl rfl
theorem dX3_leads_0 : decode cX3_leads 0 = .ok (.iconst 0, 1) := dk_3 (dk_at dksX3_leads_0 0 rfl rfl)
theorem dX3_leads_1 : decode cX3_leads 1 = .ok (.istore 4, 2) := dk_54 4 (dk_at dksX3_leads_0 1 rfl rfl)
theorem dX3_leads_3 : decode cX3_leads 3 = .ok (.iload 4, 2) := dk_21 4 (dk_at dksX3_leads_0 3 rfl rfl)
theorem dX3_leads_5 : decode cX3_leads 5 = .ok (.aload_n 0, 1) := dk_42 (dk_at dksX3_leads_0 5 rfl rfl)
theorem dX3_leads_6 : decode cX3_leads 6 = .ok (.iload_n 1, 1) := dk_27 (dk_at dksX3_leads_0 6 rfl rfl)
theorem dX3_leads_7 : decode cX3_leads 7 = .ok (.invokevirtual 41, 3) := dk_182 0 41 (dk_at dksX3_leads_0 7 rfl rfl)
theorem dX3_leads_10 : decode cX3_leads 10 = .ok (.if_icmp .ge 40, 3) := dk_162 0 40 (dk_at dksX3_leads_0 10 rfl rfl)
theorem dX3_leads_13 : decode cX3_leads 13 = .ok (.aload_n 0, 1) := dk_42 (dk_at dksX3_leads_0 13 rfl rfl)
theorem dX3_leads_14 : decode cX3_leads 14 = .ok (.aload_n 0, 1) := dk_42 (dk_at dksX3_leads_0 14 rfl rfl)
theorem dX3_leads_15 : decode cX3_leads 15 = .ok (.iload_n 1, 1) := dk_27 (dk_at dksX3_leads_0 15 rfl rfl)
theorem dX3_leads_16 : decode cX3_leads 16 = .ok (.iload 4, 2) := dk_21 4 (dk_at dksX3_leads_0 16 rfl rfl)
theorem dX3_leads_18 : decode cX3_leads 18 = .ok (.invokevirtual 45, 3) := dk_182 0 45 (dk_at dksX3_leads_0 18 rfl rfl)
theorem dX3_leads_21 : decode cX3_leads 21 = .ok (.invokevirtual 49, 3) := dk_182 0 49 (dk_at dksX3_leads_0 21 rfl rfl)
theorem dX3_leads_24 : decode cX3_leads 24 = .ok (.iload_n 2, 1) := dk_28 (dk_at dksX3_leads_1 0 rfl rfl)
theorem dX3_leads_25 : decode cX3_leads 25 = .ok (.if_icmp .ne 19, 3) := dk_160 0 19 (dk_at dksX3_leads_1 1 rfl rfl)
theorem dX3_leads_28 : decode cX3_leads 28 = .ok (.iload_n 3, 1) := dk_29 (dk_at dksX3_leads_1 4 rfl rfl)
theorem dX3_leads_29 : decode cX3_leads 29 = .ok (.ifCond .eq 13, 3) := dk_153 0 13 (dk_at dksX3_leads_1 5 rfl rfl)
theorem dX3_leads_32 : decode cX3_leads 32 = .ok (.aload_n 0, 1) := dk_42 (dk_at dksX3_leads_1 8 rfl rfl)
theorem dX3_leads_33 : decode cX3_leads 33 = .ok (.iload_n 1, 1) := dk_27 (dk_at dksX3_leads_1 9 rfl rfl)
theorem dX3_leads_34 : decode cX3_leads 34 = .ok (.iload 4, 2) := dk_21 4 (dk_at dksX3_leads_1 10 rfl rfl)
theorem dX3_leads_36 : decode cX3_leads 36 = .ok (.invokevirtual 52, 3) := dk_182 0 52 (dk_at dksX3_leads_1 12 rfl rfl)
theorem dX3_leads_39 : decode cX3_leads 39 = .ok (.ifCond .ne 5, 3) := dk_154 0 5 (dk_at dksX3_leads_1 15 rfl rfl)
theorem dX3_leads_42 : decode cX3_leads 42 = .ok (.iconst 1, 1) := dk_4 (dk_at dksX3_leads_1 18 rfl rfl)
theorem dX3_leads_43 : decode cX3_leads 43 = .ok (.ireturn, 1) := dk_172 (dk_at dksX3_leads_1 19 rfl rfl)
theorem dX3_leads_44 : decode cX3_leads 44 = .ok (.iinc 4 1, 3) := dk_132 4 1 (dk_at dksX3_leads_1 20 rfl rfl)
theorem dX3_leads_47 : decode cX3_leads 47 = .ok (.goto (-44), 3) := dk_167 255 212 (dk_at dksX3_leads_2 0 rfl rfl)
theorem dX3_leads_50 : decode cX3_leads 50 = .ok (.iconst 0, 1) := dk_3 (dk_at dksX3_leads_2 3 rfl rfl)
theorem dX3_leads_51 : decode cX3_leads 51 = .ok (.ireturn, 1) := dk_172 (dk_at dksX3_leads_2 4 rfl rfl)
abbrev cX3_needCount : ByteArray := prog_2_method_8_code
def yX3_needCount : MethodName := ⟨RX3, "needCount", "(I)I"⟩
def dkwX3_needCount_0 : List UInt8 := [42, 180, 0, 9, 27, 51, 153, 0, 12, 42, 180, 0, 23, 27, 46, 167, 0, 4, 3, 172]
abbrev dktX3_needCount_0 : List UInt8 := dkwX3_needCount_0 ++ []
theorem dksX3_needCount_0 : cX3_needCount.data.toList.drop 0 = dktX3_needCount_0 := by decide +kernel
theorem dX3_needCount_0 : decode cX3_needCount 0 = .ok (.aload_n 0, 1) := dk_42 (dk_at dksX3_needCount_0 0 rfl rfl)
theorem dX3_needCount_1 : decode cX3_needCount 1 = .ok (.getfield 9, 3) := dk_180 0 9 (dk_at dksX3_needCount_0 1 rfl rfl)
theorem dX3_needCount_4 : decode cX3_needCount 4 = .ok (.iload_n 1, 1) := dk_27 (dk_at dksX3_needCount_0 4 rfl rfl)
theorem dX3_needCount_5 : decode cX3_needCount 5 = .ok (.baload, 1) := dk_51 (dk_at dksX3_needCount_0 5 rfl rfl)
theorem dX3_needCount_6 : decode cX3_needCount 6 = .ok (.ifCond .eq 12, 3) := dk_153 0 12 (dk_at dksX3_needCount_0 6 rfl rfl)
theorem dX3_needCount_9 : decode cX3_needCount 9 = .ok (.aload_n 0, 1) := dk_42 (dk_at dksX3_needCount_0 9 rfl rfl)
theorem dX3_needCount_10 : decode cX3_needCount 10 = .ok (.getfield 23, 3) := dk_180 0 23 (dk_at dksX3_needCount_0 10 rfl rfl)
theorem dX3_needCount_13 : decode cX3_needCount 13 = .ok (.iload_n 1, 1) := dk_27 (dk_at dksX3_needCount_0 13 rfl rfl)
theorem dX3_needCount_14 : decode cX3_needCount 14 = .ok (.iaload, 1) := dk_46 (dk_at dksX3_needCount_0 14 rfl rfl)
theorem dX3_needCount_15 : decode cX3_needCount 15 = .ok (.goto 4, 3) := dk_167 0 4 (dk_at dksX3_needCount_0 15 rfl rfl)
theorem dX3_needCount_18 : decode cX3_needCount 18 = .ok (.iconst 0, 1) := dk_3 (dk_at dksX3_needCount_0 18 rfl rfl)
theorem dX3_needCount_19 : decode cX3_needCount 19 = .ok (.ireturn, 1) := dk_172 (dk_at dksX3_needCount_0 19 rfl rfl)
abbrev cX3_need : ByteArray := prog_2_method_6_code
def yX3_need : MethodName := ⟨RX3, "need", "(II)I"⟩
def dkwX3_need_0 : List UInt8 := [42, 180, 0, 26, 6, 27, 104, 28, 96, 46, 172]
abbrev dktX3_need_0 : List UInt8 := dkwX3_need_0 ++ []
theorem dksX3_need_0 : cX3_need.data.toList.drop 0 = dktX3_need_0 := by decide +kernel
theorem dX3_need_0 : decode cX3_need 0 = .ok (.aload_n 0, 1) := dk_42 (dk_at dksX3_need_0 0 rfl rfl)
theorem dX3_need_1 : decode cX3_need 1 = .ok (.getfield 26, 3) := dk_180 0 26 (dk_at dksX3_need_0 1 rfl rfl)
theorem dX3_need_4 : decode cX3_need 4 = .ok (.iconst 3, 1) := dk_6 (dk_at dksX3_need_0 4 rfl rfl)
theorem dX3_need_5 : decode cX3_need 5 = .ok (.iload_n 1, 1) := dk_27 (dk_at dksX3_need_0 5 rfl rfl)
theorem dX3_need_6 : decode cX3_need 6 = .ok (.imul, 1) := dk_104 (dk_at dksX3_need_0 6 rfl rfl)
theorem dX3_need_7 : decode cX3_need 7 = .ok (.iload_n 2, 1) := dk_28 (dk_at dksX3_need_0 7 rfl rfl)
theorem dX3_need_8 : decode cX3_need 8 = .ok (.iadd, 1) := dk_96 (dk_at dksX3_need_0 8 rfl rfl)
theorem dX3_need_9 : decode cX3_need 9 = .ok (.iaload, 1) := dk_46 (dk_at dksX3_need_0 9 rfl rfl)
theorem dX3_need_10 : decode cX3_need 10 = .ok (.ireturn, 1) := dk_172 (dk_at dksX3_need_0 10 rfl rfl)
abbrev cX3_standIn : ByteArray := prog_2_method_12_code
def yX3_standIn : MethodName := ⟨RX3, "standIn", "(I)I"⟩
def dkwX3_standIn_0 : List UInt8 := [27, 61, 42, 180, 0, 32, 28, 46, 2, 159, 0, 13, 42, 180, 0, 32, 28, 46, 61, 167, 255, 239, 28, 172]
abbrev dktX3_standIn_0 : List UInt8 := dkwX3_standIn_0 ++ []
theorem dksX3_standIn_0 : cX3_standIn.data.toList.drop 0 = dktX3_standIn_0 := by decide +kernel
theorem dX3_standIn_0 : decode cX3_standIn 0 = .ok (.iload_n 1, 1) := dk_27 (dk_at dksX3_standIn_0 0 rfl rfl)
theorem dX3_standIn_1 : decode cX3_standIn 1 = .ok (.istore_n 2, 1) := dk_61 (dk_at dksX3_standIn_0 1 rfl rfl)
theorem dX3_standIn_2 : decode cX3_standIn 2 = .ok (.aload_n 0, 1) := dk_42 (dk_at dksX3_standIn_0 2 rfl rfl)
theorem dX3_standIn_3 : decode cX3_standIn 3 = .ok (.getfield 32, 3) := dk_180 0 32 (dk_at dksX3_standIn_0 3 rfl rfl)
theorem dX3_standIn_6 : decode cX3_standIn 6 = .ok (.iload_n 2, 1) := dk_28 (dk_at dksX3_standIn_0 6 rfl rfl)
theorem dX3_standIn_7 : decode cX3_standIn 7 = .ok (.iaload, 1) := dk_46 (dk_at dksX3_standIn_0 7 rfl rfl)
theorem dX3_standIn_8 : decode cX3_standIn 8 = .ok (.iconst (-1), 1) := dk_2 (dk_at dksX3_standIn_0 8 rfl rfl)
theorem dX3_standIn_9 : decode cX3_standIn 9 = .ok (.if_icmp .eq 13, 3) := dk_159 0 13 (dk_at dksX3_standIn_0 9 rfl rfl)
theorem dX3_standIn_12 : decode cX3_standIn 12 = .ok (.aload_n 0, 1) := dk_42 (dk_at dksX3_standIn_0 12 rfl rfl)
theorem dX3_standIn_13 : decode cX3_standIn 13 = .ok (.getfield 32, 3) := dk_180 0 32 (dk_at dksX3_standIn_0 13 rfl rfl)
theorem dX3_standIn_16 : decode cX3_standIn 16 = .ok (.iload_n 2, 1) := dk_28 (dk_at dksX3_standIn_0 16 rfl rfl)
theorem dX3_standIn_17 : decode cX3_standIn 17 = .ok (.iaload, 1) := dk_46 (dk_at dksX3_standIn_0 17 rfl rfl)
theorem dX3_standIn_18 : decode cX3_standIn 18 = .ok (.istore_n 2, 1) := dk_61 (dk_at dksX3_standIn_0 18 rfl rfl)
theorem dX3_standIn_19 : decode cX3_standIn 19 = .ok (.goto (-17), 3) := dk_167 255 239 (dk_at dksX3_standIn_0 19 rfl rfl)
theorem dX3_standIn_22 : decode cX3_standIn 22 = .ok (.iload_n 2, 1) := dk_28 (dk_at dksX3_standIn_0 22 rfl rfl)
theorem dX3_standIn_23 : decode cX3_standIn 23 = .ok (.ireturn, 1) := dk_172 (dk_at dksX3_standIn_0 23 rfl rfl)
abbrev cX3_isLazy : ByteArray := prog_2_method_7_code
def yX3_isLazy : MethodName := ⟨RX3, "isLazy", "(II)Z"⟩
def dkwX3_isLazy_0 : List UInt8 := [42, 180, 0, 29, 6, 27, 104, 28, 96, 51, 172]
abbrev dktX3_isLazy_0 : List UInt8 := dkwX3_isLazy_0 ++ []
theorem dksX3_isLazy_0 : cX3_isLazy.data.toList.drop 0 = dktX3_isLazy_0 := by decide +kernel
theorem dX3_isLazy_0 : decode cX3_isLazy 0 = .ok (.aload_n 0, 1) := dk_42 (dk_at dksX3_isLazy_0 0 rfl rfl)
theorem dX3_isLazy_1 : decode cX3_isLazy 1 = .ok (.getfield 29, 3) := dk_180 0 29 (dk_at dksX3_isLazy_0 1 rfl rfl)
theorem dX3_isLazy_4 : decode cX3_isLazy 4 = .ok (.iconst 3, 1) := dk_6 (dk_at dksX3_isLazy_0 4 rfl rfl)
theorem dX3_isLazy_5 : decode cX3_isLazy 5 = .ok (.iload_n 1, 1) := dk_27 (dk_at dksX3_isLazy_0 5 rfl rfl)
theorem dX3_isLazy_6 : decode cX3_isLazy 6 = .ok (.imul, 1) := dk_104 (dk_at dksX3_isLazy_0 6 rfl rfl)
theorem dX3_isLazy_7 : decode cX3_isLazy 7 = .ok (.iload_n 2, 1) := dk_28 (dk_at dksX3_isLazy_0 7 rfl rfl)
theorem dX3_isLazy_8 : decode cX3_isLazy 8 = .ok (.iadd, 1) := dk_96 (dk_at dksX3_isLazy_0 8 rfl rfl)
theorem dX3_isLazy_9 : decode cX3_isLazy 9 = .ok (.baload, 1) := dk_51 (dk_at dksX3_isLazy_0 9 rfl rfl)
theorem dX3_isLazy_10 : decode cX3_isLazy 10 = .ok (.ireturn, 1) := dk_172 (dk_at dksX3_isLazy_0 10 rfl rfl)
abbrev cX3_steps : ByteArray := prog_2_method_17_code
def yX3_steps : MethodName := ⟨RX3, "steps", "(ILClockworkTailor$Way;)[I"⟩
def dkwX3_steps_4 : List UInt8 := [21, 6, 46, 79, 45, 21, 6, 184, 0, 64, 182, 0, 70, 132, 6, 1, 167, 255, 197, 167, 255, 172, 44, 176]
abbrev dktX3_steps_4 : List UInt8 := dkwX3_steps_4 ++ []
def dkwX3_steps_3 : List UInt8 := [185, 0, 86, 3, 0, 153, 0, 32, 44, 21, 6, 25, 4, 21, 5, 46, 4, 96, 79, 25, 4, 21, 6, 44]
abbrev dktX3_steps_3 : List UInt8 := dkwX3_steps_3 ++ dktX3_steps_4
def dkwX3_steps_2 : List UInt8 := [54, 6, 21, 6, 16, 8, 162, 0, 58, 44, 21, 6, 46, 154, 0, 45, 43, 21, 5, 21, 6]
abbrev dktX3_steps_2 : List UInt8 := dkwX3_steps_2 ++ dktX3_steps_3
def dkwX3_steps_1 : List UInt8 := [188, 10, 58, 4, 45, 182, 0, 74, 154, 0, 83, 45, 182, 0, 78, 192, 0, 65, 182, 0, 82, 54, 5, 3]
abbrev dktX3_steps_1 : List UInt8 := dkwX3_steps_1 ++ dktX3_steps_2
def dkwX3_steps_0 : List UInt8 := [16, 8, 188, 10, 77, 187, 0, 61, 89, 183, 0, 63, 78, 45, 26, 184, 0, 64, 182, 0, 70, 16, 8]
abbrev dktX3_steps_0 : List UInt8 := dkwX3_steps_0 ++ dktX3_steps_1
theorem dksX3_steps_0 : cX3_steps.data.toList.drop 0 = dktX3_steps_0 := by decide +kernel
theorem dksX3_steps_1 : cX3_steps.data.toList.drop 23 = dktX3_steps_1 := dk_seg dksX3_steps_0 23 rfl rfl
theorem dksX3_steps_2 : cX3_steps.data.toList.drop 47 = dktX3_steps_2 := dk_seg dksX3_steps_1 24 rfl rfl
theorem dksX3_steps_3 : cX3_steps.data.toList.drop 68 = dktX3_steps_3 := dk_seg dksX3_steps_2 21 rfl rfl
theorem dksX3_steps_4 : cX3_steps.data.toList.drop 92 = dktX3_steps_4 := dk_seg dksX3_steps_3 24 rfl rfl
theorem dX3_steps_0 : decode cX3_steps 0 = .ok (.bipush 8, 2) := dk_16 8 (dk_at dksX3_steps_0 0 rfl rfl)
theorem dX3_steps_2 : decode cX3_steps 2 = .ok (.newarray .int, 2) := dk_188_10 (dk_at dksX3_steps_0 2 rfl rfl)
theorem dX3_steps_4 : decode cX3_steps 4 = .ok (.astore_n 2, 1) := dk_77 (dk_at dksX3_steps_0 4 rfl rfl)
theorem dX3_steps_5 : decode cX3_steps 5 = .ok (.new 61, 3) := dk_187 0 61 (dk_at dksX3_steps_0 5 rfl rfl)
theorem dX3_steps_8 : decode cX3_steps 8 = .ok (.dup, 1) := dk_89 (dk_at dksX3_steps_0 8 rfl rfl)
theorem dX3_steps_9 : decode cX3_steps 9 = .ok (.invokespecial 63, 3) := dk_183 0 63 (dk_at dksX3_steps_0 9 rfl rfl)
theorem dX3_steps_12 : decode cX3_steps 12 = .ok (.astore_n 3, 1) := dk_78 (dk_at dksX3_steps_0 12 rfl rfl)
theorem dX3_steps_13 : decode cX3_steps 13 = .ok (.aload_n 3, 1) := dk_45 (dk_at dksX3_steps_0 13 rfl rfl)
theorem dX3_steps_14 : decode cX3_steps 14 = .ok (.iload_n 0, 1) := dk_26 (dk_at dksX3_steps_0 14 rfl rfl)
theorem dX3_steps_15 : decode cX3_steps 15 = .ok (.invokestatic 64, 3) := dk_184 0 64 (dk_at dksX3_steps_0 15 rfl rfl)
theorem dX3_steps_18 : decode cX3_steps 18 = .ok (.invokevirtual 70, 3) := dk_182 0 70 (dk_at dksX3_steps_0 18 rfl rfl)
theorem dX3_steps_21 : decode cX3_steps 21 = .ok (.bipush 8, 2) := dk_16 8 (dk_at dksX3_steps_0 21 rfl rfl)
theorem dX3_steps_23 : decode cX3_steps 23 = .ok (.newarray .int, 2) := dk_188_10 (dk_at dksX3_steps_1 0 rfl rfl)
theorem dX3_steps_25 : decode cX3_steps 25 = .ok (.astore 4, 2) := dk_58 4 (dk_at dksX3_steps_1 2 rfl rfl)
theorem dX3_steps_27 : decode cX3_steps 27 = .ok (.aload_n 3, 1) := dk_45 (dk_at dksX3_steps_1 4 rfl rfl)
theorem dX3_steps_28 : decode cX3_steps 28 = .ok (.invokevirtual 74, 3) := dk_182 0 74 (dk_at dksX3_steps_1 5 rfl rfl)
theorem dX3_steps_31 : decode cX3_steps 31 = .ok (.ifCond .ne 83, 3) := dk_154 0 83 (dk_at dksX3_steps_1 8 rfl rfl)
theorem dX3_steps_34 : decode cX3_steps 34 = .ok (.aload_n 3, 1) := dk_45 (dk_at dksX3_steps_1 11 rfl rfl)
theorem dX3_steps_35 : decode cX3_steps 35 = .ok (.invokevirtual 78, 3) := dk_182 0 78 (dk_at dksX3_steps_1 12 rfl rfl)
theorem dX3_steps_38 : decode cX3_steps 38 = .ok (.checkcast 65, 3) := dk_192 0 65 (dk_at dksX3_steps_1 15 rfl rfl)
theorem dX3_steps_41 : decode cX3_steps 41 = .ok (.invokevirtual 82, 3) := dk_182 0 82 (dk_at dksX3_steps_1 18 rfl rfl)
theorem dX3_steps_44 : decode cX3_steps 44 = .ok (.istore 5, 2) := dk_54 5 (dk_at dksX3_steps_1 21 rfl rfl)
theorem dX3_steps_46 : decode cX3_steps 46 = .ok (.iconst 0, 1) := dk_3 (dk_at dksX3_steps_1 23 rfl rfl)
theorem dX3_steps_47 : decode cX3_steps 47 = .ok (.istore 6, 2) := dk_54 6 (dk_at dksX3_steps_2 0 rfl rfl)
theorem dX3_steps_49 : decode cX3_steps 49 = .ok (.iload 6, 2) := dk_21 6 (dk_at dksX3_steps_2 2 rfl rfl)
theorem dX3_steps_51 : decode cX3_steps 51 = .ok (.bipush 8, 2) := dk_16 8 (dk_at dksX3_steps_2 4 rfl rfl)
theorem dX3_steps_53 : decode cX3_steps 53 = .ok (.if_icmp .ge 58, 3) := dk_162 0 58 (dk_at dksX3_steps_2 6 rfl rfl)
theorem dX3_steps_56 : decode cX3_steps 56 = .ok (.aload_n 2, 1) := dk_44 (dk_at dksX3_steps_2 9 rfl rfl)
theorem dX3_steps_57 : decode cX3_steps 57 = .ok (.iload 6, 2) := dk_21 6 (dk_at dksX3_steps_2 10 rfl rfl)
theorem dX3_steps_59 : decode cX3_steps 59 = .ok (.iaload, 1) := dk_46 (dk_at dksX3_steps_2 12 rfl rfl)
theorem dX3_steps_60 : decode cX3_steps 60 = .ok (.ifCond .ne 45, 3) := dk_154 0 45 (dk_at dksX3_steps_2 13 rfl rfl)
theorem dX3_steps_63 : decode cX3_steps 63 = .ok (.aload_n 1, 1) := dk_43 (dk_at dksX3_steps_2 16 rfl rfl)
theorem dX3_steps_64 : decode cX3_steps 64 = .ok (.iload 5, 2) := dk_21 5 (dk_at dksX3_steps_2 17 rfl rfl)
theorem dX3_steps_66 : decode cX3_steps 66 = .ok (.iload 6, 2) := dk_21 6 (dk_at dksX3_steps_2 19 rfl rfl)
theorem dX3_steps_68 : decode cX3_steps 68 = .ok (.invokeinterface 86 3, 5) := by decide +kernel
theorem dX3_steps_73 : decode cX3_steps 73 = .ok (.ifCond .eq 32, 3) := dk_153 0 32 (dk_at dksX3_steps_3 5 rfl rfl)
theorem dX3_steps_76 : decode cX3_steps 76 = .ok (.aload_n 2, 1) := dk_44 (dk_at dksX3_steps_3 8 rfl rfl)
theorem dX3_steps_77 : decode cX3_steps 77 = .ok (.iload 6, 2) := dk_21 6 (dk_at dksX3_steps_3 9 rfl rfl)
theorem dX3_steps_79 : decode cX3_steps 79 = .ok (.aload 4, 2) := dk_25 4 (dk_at dksX3_steps_3 11 rfl rfl)
theorem dX3_steps_81 : decode cX3_steps 81 = .ok (.iload 5, 2) := dk_21 5 (dk_at dksX3_steps_3 13 rfl rfl)
theorem dX3_steps_83 : decode cX3_steps 83 = .ok (.iaload, 1) := dk_46 (dk_at dksX3_steps_3 15 rfl rfl)
theorem dX3_steps_84 : decode cX3_steps 84 = .ok (.iconst 1, 1) := dk_4 (dk_at dksX3_steps_3 16 rfl rfl)
theorem dX3_steps_85 : decode cX3_steps 85 = .ok (.iadd, 1) := dk_96 (dk_at dksX3_steps_3 17 rfl rfl)
theorem dX3_steps_86 : decode cX3_steps 86 = .ok (.iastore, 1) := dk_79 (dk_at dksX3_steps_3 18 rfl rfl)
theorem dX3_steps_87 : decode cX3_steps 87 = .ok (.aload 4, 2) := dk_25 4 (dk_at dksX3_steps_3 19 rfl rfl)
theorem dX3_steps_89 : decode cX3_steps 89 = .ok (.iload 6, 2) := dk_21 6 (dk_at dksX3_steps_3 21 rfl rfl)
theorem dX3_steps_91 : decode cX3_steps 91 = .ok (.aload_n 2, 1) := dk_44 (dk_at dksX3_steps_3 23 rfl rfl)
theorem dX3_steps_92 : decode cX3_steps 92 = .ok (.iload 6, 2) := dk_21 6 (dk_at dksX3_steps_4 0 rfl rfl)
theorem dX3_steps_94 : decode cX3_steps 94 = .ok (.iaload, 1) := dk_46 (dk_at dksX3_steps_4 2 rfl rfl)
theorem dX3_steps_95 : decode cX3_steps 95 = .ok (.iastore, 1) := dk_79 (dk_at dksX3_steps_4 3 rfl rfl)
theorem dX3_steps_96 : decode cX3_steps 96 = .ok (.aload_n 3, 1) := dk_45 (dk_at dksX3_steps_4 4 rfl rfl)
theorem dX3_steps_97 : decode cX3_steps 97 = .ok (.iload 6, 2) := dk_21 6 (dk_at dksX3_steps_4 5 rfl rfl)
theorem dX3_steps_99 : decode cX3_steps 99 = .ok (.invokestatic 64, 3) := dk_184 0 64 (dk_at dksX3_steps_4 7 rfl rfl)
theorem dX3_steps_102 : decode cX3_steps 102 = .ok (.invokevirtual 70, 3) := dk_182 0 70 (dk_at dksX3_steps_4 10 rfl rfl)
theorem dX3_steps_105 : decode cX3_steps 105 = .ok (.iinc 6 1, 3) := dk_132 6 1 (dk_at dksX3_steps_4 13 rfl rfl)
theorem dX3_steps_108 : decode cX3_steps 108 = .ok (.goto (-59), 3) := dk_167 255 197 (dk_at dksX3_steps_4 16 rfl rfl)
theorem dX3_steps_111 : decode cX3_steps 111 = .ok (.goto (-84), 3) := dk_167 255 172 (dk_at dksX3_steps_4 19 rfl rfl)
theorem dX3_steps_114 : decode cX3_steps 114 = .ok (.aload_n 2, 1) := dk_44 (dk_at dksX3_steps_4 22 rfl rfl)
theorem dX3_steps_115 : decode cX3_steps 115 = .ok (.areturn, 1) := dk_176 (dk_at dksX3_steps_4 23 rfl rfl)
abbrev cX3_inCirclesBySets : ByteArray := prog_2_method_23_code
def yX3_inCirclesBySets : MethodName := ⟨RX3, "inCirclesBySets", "()I"⟩
def dkwX3_inCirclesBySets_0 : List UInt8 := [187, 0, 110, 89, 42, 182, 0, 105, 183, 0, 112, 182, 0, 115, 172]
abbrev dktX3_inCirclesBySets_0 : List UInt8 := dkwX3_inCirclesBySets_0 ++ []
theorem dksX3_inCirclesBySets_0 : cX3_inCirclesBySets.data.toList.drop 0 = dktX3_inCirclesBySets_0 := by decide +kernel
theorem dX3_inCirclesBySets_0 : decode cX3_inCirclesBySets 0 = .ok (.new 110, 3) := dk_187 0 110 (dk_at dksX3_inCirclesBySets_0 0 rfl rfl)
theorem dX3_inCirclesBySets_3 : decode cX3_inCirclesBySets 3 = .ok (.dup, 1) := dk_89 (dk_at dksX3_inCirclesBySets_0 3 rfl rfl)
theorem dX3_inCirclesBySets_4 : decode cX3_inCirclesBySets 4 = .ok (.aload_n 0, 1) := dk_42 (dk_at dksX3_inCirclesBySets_0 4 rfl rfl)
theorem dX3_inCirclesBySets_5 : decode cX3_inCirclesBySets 5 = .ok (.invokevirtual 105, 3) := dk_182 0 105 (dk_at dksX3_inCirclesBySets_0 5 rfl rfl)
theorem dX3_inCirclesBySets_8 : decode cX3_inCirclesBySets 8 = .ok (.invokespecial 112, 3) := dk_183 0 112 (dk_at dksX3_inCirclesBySets_0 8 rfl rfl)
theorem dX3_inCirclesBySets_11 : decode cX3_inCirclesBySets 11 = .ok (.invokevirtual 115, 3) := dk_182 0 115 (dk_at dksX3_inCirclesBySets_0 11 rfl rfl)
theorem dX3_inCirclesBySets_14 : decode cX3_inCirclesBySets 14 = .ok (.ireturn, 1) := dk_172 (dk_at dksX3_inCirclesBySets_0 14 rfl rfl)
abbrev cX3_captives : ByteArray := prog_2_method_26_code
def yX3_captives : MethodName := ⟨RX3, "captives", "()I"⟩
def dkwX3_captives_4 : List UInt8 := [27, 172]
abbrev dktX3_captives_4 : List UInt8 := dkwX3_captives_4 ++ []
def dkwX3_captives_3 : List UInt8 := [16, 116, 160, 0, 7, 4, 167, 0, 4, 3, 96, 60, 132, 3, 1, 167, 255, 182, 132, 2, 1, 167, 255, 168]
abbrev dktX3_captives_3 : List UInt8 := dkwX3_captives_3 ++ dktX3_captives_4
def dkwX3_captives_2 : List UInt8 := [182, 0, 52, 154, 0, 29, 42, 180, 0, 9, 21, 4, 51, 153, 0, 19, 42, 180, 0, 15, 21, 4, 52]
abbrev dktX3_captives_2 : List UInt8 := dkwX3_captives_2 ++ dktX3_captives_3
def dkwX3_captives_1 : List UInt8 := [29, 182, 0, 45, 182, 0, 49, 54, 4, 27, 42, 180, 0, 15, 28, 52, 16, 115, 160, 0, 38, 42, 28, 29]
abbrev dktX3_captives_1 : List UInt8 := dkwX3_captives_1 ++ dktX3_captives_2
def dkwX3_captives_0 : List UInt8 := [3, 60, 3, 61, 28, 16, 8, 162, 0, 88, 3, 62, 29, 42, 28, 182, 0, 41, 162, 0, 71, 42, 42, 28]
abbrev dktX3_captives_0 : List UInt8 := dkwX3_captives_0 ++ dktX3_captives_1
theorem dksX3_captives_0 : cX3_captives.data.toList.drop 0 = dktX3_captives_0 := by decide +kernel
theorem dksX3_captives_1 : cX3_captives.data.toList.drop 24 = dktX3_captives_1 := dk_seg dksX3_captives_0 24 rfl rfl
theorem dksX3_captives_2 : cX3_captives.data.toList.drop 48 = dktX3_captives_2 := dk_seg dksX3_captives_1 24 rfl rfl
theorem dksX3_captives_3 : cX3_captives.data.toList.drop 71 = dktX3_captives_3 := dk_seg dksX3_captives_2 23 rfl rfl
theorem dksX3_captives_4 : cX3_captives.data.toList.drop 95 = dktX3_captives_4 := dk_seg dksX3_captives_3 24 rfl rfl
theorem dX3_captives_0 : decode cX3_captives 0 = .ok (.iconst 0, 1) := dk_3 (dk_at dksX3_captives_0 0 rfl rfl)
theorem dX3_captives_1 : decode cX3_captives 1 = .ok (.istore_n 1, 1) := dk_60 (dk_at dksX3_captives_0 1 rfl rfl)
theorem dX3_captives_2 : decode cX3_captives 2 = .ok (.iconst 0, 1) := dk_3 (dk_at dksX3_captives_0 2 rfl rfl)
theorem dX3_captives_3 : decode cX3_captives 3 = .ok (.istore_n 2, 1) := dk_61 (dk_at dksX3_captives_0 3 rfl rfl)
theorem dX3_captives_4 : decode cX3_captives 4 = .ok (.iload_n 2, 1) := dk_28 (dk_at dksX3_captives_0 4 rfl rfl)
theorem dX3_captives_5 : decode cX3_captives 5 = .ok (.bipush 8, 2) := dk_16 8 (dk_at dksX3_captives_0 5 rfl rfl)
theorem dX3_captives_7 : decode cX3_captives 7 = .ok (.if_icmp .ge 88, 3) := dk_162 0 88 (dk_at dksX3_captives_0 7 rfl rfl)
theorem dX3_captives_10 : decode cX3_captives 10 = .ok (.iconst 0, 1) := dk_3 (dk_at dksX3_captives_0 10 rfl rfl)
theorem dX3_captives_11 : decode cX3_captives 11 = .ok (.istore_n 3, 1) := dk_62 (dk_at dksX3_captives_0 11 rfl rfl)
theorem dX3_captives_12 : decode cX3_captives 12 = .ok (.iload_n 3, 1) := dk_29 (dk_at dksX3_captives_0 12 rfl rfl)
theorem dX3_captives_13 : decode cX3_captives 13 = .ok (.aload_n 0, 1) := dk_42 (dk_at dksX3_captives_0 13 rfl rfl)
theorem dX3_captives_14 : decode cX3_captives 14 = .ok (.iload_n 2, 1) := dk_28 (dk_at dksX3_captives_0 14 rfl rfl)
theorem dX3_captives_15 : decode cX3_captives 15 = .ok (.invokevirtual 41, 3) := dk_182 0 41 (dk_at dksX3_captives_0 15 rfl rfl)
theorem dX3_captives_18 : decode cX3_captives 18 = .ok (.if_icmp .ge 71, 3) := dk_162 0 71 (dk_at dksX3_captives_0 18 rfl rfl)
theorem dX3_captives_21 : decode cX3_captives 21 = .ok (.aload_n 0, 1) := dk_42 (dk_at dksX3_captives_0 21 rfl rfl)
theorem dX3_captives_22 : decode cX3_captives 22 = .ok (.aload_n 0, 1) := dk_42 (dk_at dksX3_captives_0 22 rfl rfl)
theorem dX3_captives_23 : decode cX3_captives 23 = .ok (.iload_n 2, 1) := dk_28 (dk_at dksX3_captives_0 23 rfl rfl)
theorem dX3_captives_24 : decode cX3_captives 24 = .ok (.iload_n 3, 1) := dk_29 (dk_at dksX3_captives_1 0 rfl rfl)
theorem dX3_captives_25 : decode cX3_captives 25 = .ok (.invokevirtual 45, 3) := dk_182 0 45 (dk_at dksX3_captives_1 1 rfl rfl)
theorem dX3_captives_28 : decode cX3_captives 28 = .ok (.invokevirtual 49, 3) := dk_182 0 49 (dk_at dksX3_captives_1 4 rfl rfl)
theorem dX3_captives_31 : decode cX3_captives 31 = .ok (.istore 4, 2) := dk_54 4 (dk_at dksX3_captives_1 7 rfl rfl)
theorem dX3_captives_33 : decode cX3_captives 33 = .ok (.iload_n 1, 1) := dk_27 (dk_at dksX3_captives_1 9 rfl rfl)
theorem dX3_captives_34 : decode cX3_captives 34 = .ok (.aload_n 0, 1) := dk_42 (dk_at dksX3_captives_1 10 rfl rfl)
theorem dX3_captives_35 : decode cX3_captives 35 = .ok (.getfield 15, 3) := dk_180 0 15 (dk_at dksX3_captives_1 11 rfl rfl)
theorem dX3_captives_38 : decode cX3_captives 38 = .ok (.iload_n 2, 1) := dk_28 (dk_at dksX3_captives_1 14 rfl rfl)
theorem dX3_captives_39 : decode cX3_captives 39 = .ok (.caload, 1) := dk_52 (dk_at dksX3_captives_1 15 rfl rfl)
theorem dX3_captives_40 : decode cX3_captives 40 = .ok (.bipush 115, 2) := dk_16 115 (dk_at dksX3_captives_1 16 rfl rfl)
theorem dX3_captives_42 : decode cX3_captives 42 = .ok (.if_icmp .ne 38, 3) := dk_160 0 38 (dk_at dksX3_captives_1 18 rfl rfl)
theorem dX3_captives_45 : decode cX3_captives 45 = .ok (.aload_n 0, 1) := dk_42 (dk_at dksX3_captives_1 21 rfl rfl)
theorem dX3_captives_46 : decode cX3_captives 46 = .ok (.iload_n 2, 1) := dk_28 (dk_at dksX3_captives_1 22 rfl rfl)
theorem dX3_captives_47 : decode cX3_captives 47 = .ok (.iload_n 3, 1) := dk_29 (dk_at dksX3_captives_1 23 rfl rfl)
theorem dX3_captives_48 : decode cX3_captives 48 = .ok (.invokevirtual 52, 3) := dk_182 0 52 (dk_at dksX3_captives_2 0 rfl rfl)
theorem dX3_captives_51 : decode cX3_captives 51 = .ok (.ifCond .ne 29, 3) := dk_154 0 29 (dk_at dksX3_captives_2 3 rfl rfl)
theorem dX3_captives_54 : decode cX3_captives 54 = .ok (.aload_n 0, 1) := dk_42 (dk_at dksX3_captives_2 6 rfl rfl)
theorem dX3_captives_55 : decode cX3_captives 55 = .ok (.getfield 9, 3) := dk_180 0 9 (dk_at dksX3_captives_2 7 rfl rfl)
theorem dX3_captives_58 : decode cX3_captives 58 = .ok (.iload 4, 2) := dk_21 4 (dk_at dksX3_captives_2 10 rfl rfl)
theorem dX3_captives_60 : decode cX3_captives 60 = .ok (.baload, 1) := dk_51 (dk_at dksX3_captives_2 12 rfl rfl)
theorem dX3_captives_61 : decode cX3_captives 61 = .ok (.ifCond .eq 19, 3) := dk_153 0 19 (dk_at dksX3_captives_2 13 rfl rfl)
theorem dX3_captives_64 : decode cX3_captives 64 = .ok (.aload_n 0, 1) := dk_42 (dk_at dksX3_captives_2 16 rfl rfl)
theorem dX3_captives_65 : decode cX3_captives 65 = .ok (.getfield 15, 3) := dk_180 0 15 (dk_at dksX3_captives_2 17 rfl rfl)
theorem dX3_captives_68 : decode cX3_captives 68 = .ok (.iload 4, 2) := dk_21 4 (dk_at dksX3_captives_2 20 rfl rfl)
theorem dX3_captives_70 : decode cX3_captives 70 = .ok (.caload, 1) := dk_52 (dk_at dksX3_captives_2 22 rfl rfl)
theorem dX3_captives_71 : decode cX3_captives 71 = .ok (.bipush 116, 2) := dk_16 116 (dk_at dksX3_captives_3 0 rfl rfl)
theorem dX3_captives_73 : decode cX3_captives 73 = .ok (.if_icmp .ne 7, 3) := dk_160 0 7 (dk_at dksX3_captives_3 2 rfl rfl)
theorem dX3_captives_76 : decode cX3_captives 76 = .ok (.iconst 1, 1) := dk_4 (dk_at dksX3_captives_3 5 rfl rfl)
theorem dX3_captives_77 : decode cX3_captives 77 = .ok (.goto 4, 3) := dk_167 0 4 (dk_at dksX3_captives_3 6 rfl rfl)
theorem dX3_captives_80 : decode cX3_captives 80 = .ok (.iconst 0, 1) := dk_3 (dk_at dksX3_captives_3 9 rfl rfl)
theorem dX3_captives_81 : decode cX3_captives 81 = .ok (.iadd, 1) := dk_96 (dk_at dksX3_captives_3 10 rfl rfl)
theorem dX3_captives_82 : decode cX3_captives 82 = .ok (.istore_n 1, 1) := dk_60 (dk_at dksX3_captives_3 11 rfl rfl)
theorem dX3_captives_83 : decode cX3_captives 83 = .ok (.iinc 3 1, 3) := dk_132 3 1 (dk_at dksX3_captives_3 12 rfl rfl)
theorem dX3_captives_86 : decode cX3_captives 86 = .ok (.goto (-74), 3) := dk_167 255 182 (dk_at dksX3_captives_3 15 rfl rfl)
theorem dX3_captives_89 : decode cX3_captives 89 = .ok (.iinc 2 1, 3) := dk_132 2 1 (dk_at dksX3_captives_3 18 rfl rfl)
theorem dX3_captives_92 : decode cX3_captives 92 = .ok (.goto (-88), 3) := dk_167 255 168 (dk_at dksX3_captives_3 21 rfl rfl)
theorem dX3_captives_95 : decode cX3_captives 95 = .ok (.iload_n 1, 1) := dk_27 (dk_at dksX3_captives_4 0 rfl rfl)
theorem dX3_captives_96 : decode cX3_captives 96 = .ok (.ireturn, 1) := dk_172 (dk_at dksX3_captives_4 1 rfl rfl)
abbrev cX3_leadsToCount : ByteArray := prog_2_method_20_code
def yX3_leadsToCount : MethodName := ⟨RX3, "leadsToCount", "(I)I"⟩
def dkwX3_leadsToCount_2 : List UInt8 := [132, 5, 1, 167, 255, 227, 28, 172]
abbrev dktX3_leadsToCount_2 : List UInt8 := dkwX3_leadsToCount_2 ++ []
def dkwX3_leadsToCount_1 : List UInt8 := [162, 0, 28, 45, 21, 5, 46, 54, 6, 28, 21, 6, 158, 0, 7, 4, 167, 0, 4, 3, 96, 61]
abbrev dktX3_leadsToCount_1 : List UInt8 := dkwX3_leadsToCount_1 ++ dktX3_leadsToCount_2
def dkwX3_leadsToCount_0 : List UInt8 := [3, 61, 27, 42, 182, 0, 105, 184, 0, 94, 78, 45, 190, 54, 4, 3, 54, 5, 21, 5, 21, 4]
abbrev dktX3_leadsToCount_0 : List UInt8 := dkwX3_leadsToCount_0 ++ dktX3_leadsToCount_1
theorem dksX3_leadsToCount_0 : cX3_leadsToCount.data.toList.drop 0 = dktX3_leadsToCount_0 := by decide +kernel
theorem dksX3_leadsToCount_1 : cX3_leadsToCount.data.toList.drop 22 = dktX3_leadsToCount_1 := dk_seg dksX3_leadsToCount_0 22 rfl rfl
theorem dksX3_leadsToCount_2 : cX3_leadsToCount.data.toList.drop 44 = dktX3_leadsToCount_2 := dk_seg dksX3_leadsToCount_1 22 rfl rfl
theorem dX3_leadsToCount_0 : decode cX3_leadsToCount 0 = .ok (.iconst 0, 1) := dk_3 (dk_at dksX3_leadsToCount_0 0 rfl rfl)
theorem dX3_leadsToCount_1 : decode cX3_leadsToCount 1 = .ok (.istore_n 2, 1) := dk_61 (dk_at dksX3_leadsToCount_0 1 rfl rfl)
theorem dX3_leadsToCount_2 : decode cX3_leadsToCount 2 = .ok (.iload_n 1, 1) := dk_27 (dk_at dksX3_leadsToCount_0 2 rfl rfl)
theorem dX3_leadsToCount_3 : decode cX3_leadsToCount 3 = .ok (.aload_n 0, 1) := dk_42 (dk_at dksX3_leadsToCount_0 3 rfl rfl)
theorem dX3_leadsToCount_4 : decode cX3_leadsToCount 4 = .ok (.invokevirtual 105, 3) := dk_182 0 105 (dk_at dksX3_leadsToCount_0 4 rfl rfl)
theorem dX3_leadsToCount_7 : decode cX3_leadsToCount 7 = .ok (.invokestatic 94, 3) := dk_184 0 94 (dk_at dksX3_leadsToCount_0 7 rfl rfl)
theorem dX3_leadsToCount_10 : decode cX3_leadsToCount 10 = .ok (.astore_n 3, 1) := dk_78 (dk_at dksX3_leadsToCount_0 10 rfl rfl)
theorem dX3_leadsToCount_11 : decode cX3_leadsToCount 11 = .ok (.aload_n 3, 1) := dk_45 (dk_at dksX3_leadsToCount_0 11 rfl rfl)
theorem dX3_leadsToCount_12 : decode cX3_leadsToCount 12 = .ok (.arraylength, 1) := dk_190 (dk_at dksX3_leadsToCount_0 12 rfl rfl)
theorem dX3_leadsToCount_13 : decode cX3_leadsToCount 13 = .ok (.istore 4, 2) := dk_54 4 (dk_at dksX3_leadsToCount_0 13 rfl rfl)
theorem dX3_leadsToCount_15 : decode cX3_leadsToCount 15 = .ok (.iconst 0, 1) := dk_3 (dk_at dksX3_leadsToCount_0 15 rfl rfl)
theorem dX3_leadsToCount_16 : decode cX3_leadsToCount 16 = .ok (.istore 5, 2) := dk_54 5 (dk_at dksX3_leadsToCount_0 16 rfl rfl)
theorem dX3_leadsToCount_18 : decode cX3_leadsToCount 18 = .ok (.iload 5, 2) := dk_21 5 (dk_at dksX3_leadsToCount_0 18 rfl rfl)
theorem dX3_leadsToCount_20 : decode cX3_leadsToCount 20 = .ok (.iload 4, 2) := dk_21 4 (dk_at dksX3_leadsToCount_0 20 rfl rfl)
theorem dX3_leadsToCount_22 : decode cX3_leadsToCount 22 = .ok (.if_icmp .ge 28, 3) := dk_162 0 28 (dk_at dksX3_leadsToCount_1 0 rfl rfl)
theorem dX3_leadsToCount_25 : decode cX3_leadsToCount 25 = .ok (.aload_n 3, 1) := dk_45 (dk_at dksX3_leadsToCount_1 3 rfl rfl)
theorem dX3_leadsToCount_26 : decode cX3_leadsToCount 26 = .ok (.iload 5, 2) := dk_21 5 (dk_at dksX3_leadsToCount_1 4 rfl rfl)
theorem dX3_leadsToCount_28 : decode cX3_leadsToCount 28 = .ok (.iaload, 1) := dk_46 (dk_at dksX3_leadsToCount_1 6 rfl rfl)
theorem dX3_leadsToCount_29 : decode cX3_leadsToCount 29 = .ok (.istore 6, 2) := dk_54 6 (dk_at dksX3_leadsToCount_1 7 rfl rfl)
theorem dX3_leadsToCount_31 : decode cX3_leadsToCount 31 = .ok (.iload_n 2, 1) := dk_28 (dk_at dksX3_leadsToCount_1 9 rfl rfl)
theorem dX3_leadsToCount_32 : decode cX3_leadsToCount 32 = .ok (.iload 6, 2) := dk_21 6 (dk_at dksX3_leadsToCount_1 10 rfl rfl)
theorem dX3_leadsToCount_34 : decode cX3_leadsToCount 34 = .ok (.ifCond .le 7, 3) := dk_158 0 7 (dk_at dksX3_leadsToCount_1 12 rfl rfl)
theorem dX3_leadsToCount_37 : decode cX3_leadsToCount 37 = .ok (.iconst 1, 1) := dk_4 (dk_at dksX3_leadsToCount_1 15 rfl rfl)
theorem dX3_leadsToCount_38 : decode cX3_leadsToCount 38 = .ok (.goto 4, 3) := dk_167 0 4 (dk_at dksX3_leadsToCount_1 16 rfl rfl)
theorem dX3_leadsToCount_41 : decode cX3_leadsToCount 41 = .ok (.iconst 0, 1) := dk_3 (dk_at dksX3_leadsToCount_1 19 rfl rfl)
theorem dX3_leadsToCount_42 : decode cX3_leadsToCount 42 = .ok (.iadd, 1) := dk_96 (dk_at dksX3_leadsToCount_1 20 rfl rfl)
theorem dX3_leadsToCount_43 : decode cX3_leadsToCount 43 = .ok (.istore_n 2, 1) := dk_61 (dk_at dksX3_leadsToCount_1 21 rfl rfl)
theorem dX3_leadsToCount_44 : decode cX3_leadsToCount 44 = .ok (.iinc 5 1, 3) := dk_132 5 1 (dk_at dksX3_leadsToCount_2 0 rfl rfl)
theorem dX3_leadsToCount_47 : decode cX3_leadsToCount 47 = .ok (.goto (-29), 3) := dk_167 255 227 (dk_at dksX3_leadsToCount_2 3 rfl rfl)
theorem dX3_leadsToCount_50 : decode cX3_leadsToCount 50 = .ok (.iload_n 2, 1) := dk_28 (dk_at dksX3_leadsToCount_2 6 rfl rfl)
theorem dX3_leadsToCount_51 : decode cX3_leadsToCount 51 = .ok (.ireturn, 1) := dk_172 (dk_at dksX3_leadsToCount_2 7 rfl rfl)
abbrev cX3_leadsToByTable : ByteArray := prog_2_method_21_code
def yX3_leadsToByTable : MethodName := ⟨RX3, "leadsToByTable", "(I)I"⟩
def dkwX3_leadsToByTable_8 : List UInt8 := [167, 0, 4, 3, 96, 54, 4, 132, 7, 1, 167, 255, 224, 21, 4, 172]
abbrev dktX3_leadsToByTable_8 : List UInt8 := dkwX3_leadsToByTable_8 ++ []
def dkwX3_leadsToByTable_7 : List UInt8 := [54, 7, 21, 7, 21, 6, 162, 0, 31, 25, 5, 21, 7, 51, 54, 8, 21, 4, 21, 8, 153, 0, 7, 4]
abbrev dktX3_leadsToByTable_7 : List UInt8 := dkwX3_leadsToByTable_7 ++ dktX3_leadsToByTable_8
def dkwX3_leadsToByTable_6 : List UInt8 := [167, 255, 195, 132, 4, 1, 167, 255, 179, 3, 54, 4, 45, 27, 50, 58, 5, 25, 5, 190, 54, 6, 3]
abbrev dktX3_leadsToByTable_6 : List UInt8 := dkwX3_leadsToByTable_6 ++ dktX3_leadsToByTable_7
def dkwX3_leadsToByTable_5 : List UInt8 := [50, 21, 6, 51, 153, 0, 7, 4, 167, 0, 4, 3, 128, 84, 132, 6, 1, 167, 255, 211, 132, 5, 1]
abbrev dktX3_leadsToByTable_5 : List UInt8 := dkwX3_leadsToByTable_5 ++ dktX3_leadsToByTable_6
def dkwX3_leadsToByTable_4 : List UInt8 := [162, 0, 44, 45, 21, 5, 50, 21, 6, 92, 51, 45, 21, 5, 50, 21, 4, 51, 153, 0, 17, 45, 21, 4]
abbrev dktX3_leadsToByTable_4 : List UInt8 := dkwX3_leadsToByTable_4 ++ dktX3_leadsToByTable_5
def dkwX3_leadsToByTable_3 : List UInt8 := [16, 8, 162, 0, 76, 3, 54, 5, 21, 5, 16, 8, 162, 0, 60, 3, 54, 6, 21, 6, 16, 8]
abbrev dktX3_leadsToByTable_3 : List UInt8 := dkwX3_leadsToByTable_3 ++ dktX3_leadsToByTable_4
def dkwX3_leadsToByTable_2 : List UInt8 := [185, 0, 86, 3, 0, 84, 132, 5, 1, 167, 255, 229, 132, 4, 1, 167, 255, 213, 3, 54, 4, 21, 4]
abbrev dktX3_leadsToByTable_2 : List UInt8 := dkwX3_leadsToByTable_2 ++ dktX3_leadsToByTable_3
def dkwX3_leadsToByTable_1 : List UInt8 := [3, 54, 5, 21, 5, 16, 8, 162, 0, 26, 45, 21, 4, 50, 21, 5, 44, 21, 4, 21, 5]
abbrev dktX3_leadsToByTable_1 : List UInt8 := dkwX3_leadsToByTable_1 ++ dktX3_leadsToByTable_2
def dkwX3_leadsToByTable_0 : List UInt8 := [42, 182, 0, 105, 77, 16, 8, 16, 8, 197, 0, 108, 2, 78, 3, 54, 4, 21, 4, 16, 8, 162, 0, 42]
abbrev dktX3_leadsToByTable_0 : List UInt8 := dkwX3_leadsToByTable_0 ++ dktX3_leadsToByTable_1
theorem dksX3_leadsToByTable_0 : cX3_leadsToByTable.data.toList.drop 0 = dktX3_leadsToByTable_0 := by decide +kernel
theorem dksX3_leadsToByTable_1 : cX3_leadsToByTable.data.toList.drop 24 = dktX3_leadsToByTable_1 := dk_seg dksX3_leadsToByTable_0 24 rfl rfl
theorem dksX3_leadsToByTable_2 : cX3_leadsToByTable.data.toList.drop 45 = dktX3_leadsToByTable_2 := dk_seg dksX3_leadsToByTable_1 21 rfl rfl
theorem dksX3_leadsToByTable_3 : cX3_leadsToByTable.data.toList.drop 68 = dktX3_leadsToByTable_3 := dk_seg dksX3_leadsToByTable_2 23 rfl rfl
theorem dksX3_leadsToByTable_4 : cX3_leadsToByTable.data.toList.drop 90 = dktX3_leadsToByTable_4 := dk_seg dksX3_leadsToByTable_3 22 rfl rfl
theorem dksX3_leadsToByTable_5 : cX3_leadsToByTable.data.toList.drop 114 = dktX3_leadsToByTable_5 := dk_seg dksX3_leadsToByTable_4 24 rfl rfl
theorem dksX3_leadsToByTable_6 : cX3_leadsToByTable.data.toList.drop 137 = dktX3_leadsToByTable_6 := dk_seg dksX3_leadsToByTable_5 23 rfl rfl
theorem dksX3_leadsToByTable_7 : cX3_leadsToByTable.data.toList.drop 160 = dktX3_leadsToByTable_7 := dk_seg dksX3_leadsToByTable_6 23 rfl rfl
theorem dksX3_leadsToByTable_8 : cX3_leadsToByTable.data.toList.drop 184 = dktX3_leadsToByTable_8 := dk_seg dksX3_leadsToByTable_7 24 rfl rfl
theorem dX3_leadsToByTable_0 : decode cX3_leadsToByTable 0 = .ok (.aload_n 0, 1) := dk_42 (dk_at dksX3_leadsToByTable_0 0 rfl rfl)
theorem dX3_leadsToByTable_1 : decode cX3_leadsToByTable 1 = .ok (.invokevirtual 105, 3) := dk_182 0 105 (dk_at dksX3_leadsToByTable_0 1 rfl rfl)
theorem dX3_leadsToByTable_4 : decode cX3_leadsToByTable 4 = .ok (.astore_n 2, 1) := dk_77 (dk_at dksX3_leadsToByTable_0 4 rfl rfl)
theorem dX3_leadsToByTable_5 : decode cX3_leadsToByTable 5 = .ok (.bipush 8, 2) := dk_16 8 (dk_at dksX3_leadsToByTable_0 5 rfl rfl)
theorem dX3_leadsToByTable_7 : decode cX3_leadsToByTable 7 = .ok (.bipush 8, 2) := dk_16 8 (dk_at dksX3_leadsToByTable_0 7 rfl rfl)
theorem dX3_leadsToByTable_9 : decode cX3_leadsToByTable 9 = .ok (.multianewarray 108 2, 4) := by decide +kernel
theorem dX3_leadsToByTable_13 : decode cX3_leadsToByTable 13 = .ok (.astore_n 3, 1) := dk_78 (dk_at dksX3_leadsToByTable_0 13 rfl rfl)
theorem dX3_leadsToByTable_14 : decode cX3_leadsToByTable 14 = .ok (.iconst 0, 1) := dk_3 (dk_at dksX3_leadsToByTable_0 14 rfl rfl)
theorem dX3_leadsToByTable_15 : decode cX3_leadsToByTable 15 = .ok (.istore 4, 2) := dk_54 4 (dk_at dksX3_leadsToByTable_0 15 rfl rfl)
theorem dX3_leadsToByTable_17 : decode cX3_leadsToByTable 17 = .ok (.iload 4, 2) := dk_21 4 (dk_at dksX3_leadsToByTable_0 17 rfl rfl)
theorem dX3_leadsToByTable_19 : decode cX3_leadsToByTable 19 = .ok (.bipush 8, 2) := dk_16 8 (dk_at dksX3_leadsToByTable_0 19 rfl rfl)
theorem dX3_leadsToByTable_21 : decode cX3_leadsToByTable 21 = .ok (.if_icmp .ge 42, 3) := dk_162 0 42 (dk_at dksX3_leadsToByTable_0 21 rfl rfl)
theorem dX3_leadsToByTable_24 : decode cX3_leadsToByTable 24 = .ok (.iconst 0, 1) := dk_3 (dk_at dksX3_leadsToByTable_1 0 rfl rfl)
theorem dX3_leadsToByTable_25 : decode cX3_leadsToByTable 25 = .ok (.istore 5, 2) := dk_54 5 (dk_at dksX3_leadsToByTable_1 1 rfl rfl)
theorem dX3_leadsToByTable_27 : decode cX3_leadsToByTable 27 = .ok (.iload 5, 2) := dk_21 5 (dk_at dksX3_leadsToByTable_1 3 rfl rfl)
theorem dX3_leadsToByTable_29 : decode cX3_leadsToByTable 29 = .ok (.bipush 8, 2) := dk_16 8 (dk_at dksX3_leadsToByTable_1 5 rfl rfl)
theorem dX3_leadsToByTable_31 : decode cX3_leadsToByTable 31 = .ok (.if_icmp .ge 26, 3) := dk_162 0 26 (dk_at dksX3_leadsToByTable_1 7 rfl rfl)
theorem dX3_leadsToByTable_34 : decode cX3_leadsToByTable 34 = .ok (.aload_n 3, 1) := dk_45 (dk_at dksX3_leadsToByTable_1 10 rfl rfl)
theorem dX3_leadsToByTable_35 : decode cX3_leadsToByTable 35 = .ok (.iload 4, 2) := dk_21 4 (dk_at dksX3_leadsToByTable_1 11 rfl rfl)
theorem dX3_leadsToByTable_37 : decode cX3_leadsToByTable 37 = .ok (.aaload, 1) := dk_50 (dk_at dksX3_leadsToByTable_1 13 rfl rfl)
theorem dX3_leadsToByTable_38 : decode cX3_leadsToByTable 38 = .ok (.iload 5, 2) := dk_21 5 (dk_at dksX3_leadsToByTable_1 14 rfl rfl)
theorem dX3_leadsToByTable_40 : decode cX3_leadsToByTable 40 = .ok (.aload_n 2, 1) := dk_44 (dk_at dksX3_leadsToByTable_1 16 rfl rfl)
theorem dX3_leadsToByTable_41 : decode cX3_leadsToByTable 41 = .ok (.iload 4, 2) := dk_21 4 (dk_at dksX3_leadsToByTable_1 17 rfl rfl)
theorem dX3_leadsToByTable_43 : decode cX3_leadsToByTable 43 = .ok (.iload 5, 2) := dk_21 5 (dk_at dksX3_leadsToByTable_1 19 rfl rfl)
theorem dX3_leadsToByTable_45 : decode cX3_leadsToByTable 45 = .ok (.invokeinterface 86 3, 5) := by decide +kernel
theorem dX3_leadsToByTable_50 : decode cX3_leadsToByTable 50 = .ok (.bastore, 1) := dk_84 (dk_at dksX3_leadsToByTable_2 5 rfl rfl)
theorem dX3_leadsToByTable_51 : decode cX3_leadsToByTable 51 = .ok (.iinc 5 1, 3) := dk_132 5 1 (dk_at dksX3_leadsToByTable_2 6 rfl rfl)
theorem dX3_leadsToByTable_54 : decode cX3_leadsToByTable 54 = .ok (.goto (-27), 3) := dk_167 255 229 (dk_at dksX3_leadsToByTable_2 9 rfl rfl)
theorem dX3_leadsToByTable_57 : decode cX3_leadsToByTable 57 = .ok (.iinc 4 1, 3) := dk_132 4 1 (dk_at dksX3_leadsToByTable_2 12 rfl rfl)
theorem dX3_leadsToByTable_60 : decode cX3_leadsToByTable 60 = .ok (.goto (-43), 3) := dk_167 255 213 (dk_at dksX3_leadsToByTable_2 15 rfl rfl)
theorem dX3_leadsToByTable_63 : decode cX3_leadsToByTable 63 = .ok (.iconst 0, 1) := dk_3 (dk_at dksX3_leadsToByTable_2 18 rfl rfl)
theorem dX3_leadsToByTable_64 : decode cX3_leadsToByTable 64 = .ok (.istore 4, 2) := dk_54 4 (dk_at dksX3_leadsToByTable_2 19 rfl rfl)
theorem dX3_leadsToByTable_66 : decode cX3_leadsToByTable 66 = .ok (.iload 4, 2) := dk_21 4 (dk_at dksX3_leadsToByTable_2 21 rfl rfl)
theorem dX3_leadsToByTable_68 : decode cX3_leadsToByTable 68 = .ok (.bipush 8, 2) := dk_16 8 (dk_at dksX3_leadsToByTable_3 0 rfl rfl)
theorem dX3_leadsToByTable_70 : decode cX3_leadsToByTable 70 = .ok (.if_icmp .ge 76, 3) := dk_162 0 76 (dk_at dksX3_leadsToByTable_3 2 rfl rfl)
theorem dX3_leadsToByTable_73 : decode cX3_leadsToByTable 73 = .ok (.iconst 0, 1) := dk_3 (dk_at dksX3_leadsToByTable_3 5 rfl rfl)
theorem dX3_leadsToByTable_74 : decode cX3_leadsToByTable 74 = .ok (.istore 5, 2) := dk_54 5 (dk_at dksX3_leadsToByTable_3 6 rfl rfl)
theorem dX3_leadsToByTable_76 : decode cX3_leadsToByTable 76 = .ok (.iload 5, 2) := dk_21 5 (dk_at dksX3_leadsToByTable_3 8 rfl rfl)
theorem dX3_leadsToByTable_78 : decode cX3_leadsToByTable 78 = .ok (.bipush 8, 2) := dk_16 8 (dk_at dksX3_leadsToByTable_3 10 rfl rfl)
theorem dX3_leadsToByTable_80 : decode cX3_leadsToByTable 80 = .ok (.if_icmp .ge 60, 3) := dk_162 0 60 (dk_at dksX3_leadsToByTable_3 12 rfl rfl)
theorem dX3_leadsToByTable_83 : decode cX3_leadsToByTable 83 = .ok (.iconst 0, 1) := dk_3 (dk_at dksX3_leadsToByTable_3 15 rfl rfl)
theorem dX3_leadsToByTable_84 : decode cX3_leadsToByTable 84 = .ok (.istore 6, 2) := dk_54 6 (dk_at dksX3_leadsToByTable_3 16 rfl rfl)
theorem dX3_leadsToByTable_86 : decode cX3_leadsToByTable 86 = .ok (.iload 6, 2) := dk_21 6 (dk_at dksX3_leadsToByTable_3 18 rfl rfl)
theorem dX3_leadsToByTable_88 : decode cX3_leadsToByTable 88 = .ok (.bipush 8, 2) := dk_16 8 (dk_at dksX3_leadsToByTable_3 20 rfl rfl)
theorem dX3_leadsToByTable_90 : decode cX3_leadsToByTable 90 = .ok (.if_icmp .ge 44, 3) := dk_162 0 44 (dk_at dksX3_leadsToByTable_4 0 rfl rfl)
theorem dX3_leadsToByTable_93 : decode cX3_leadsToByTable 93 = .ok (.aload_n 3, 1) := dk_45 (dk_at dksX3_leadsToByTable_4 3 rfl rfl)
theorem dX3_leadsToByTable_94 : decode cX3_leadsToByTable 94 = .ok (.iload 5, 2) := dk_21 5 (dk_at dksX3_leadsToByTable_4 4 rfl rfl)
theorem dX3_leadsToByTable_96 : decode cX3_leadsToByTable 96 = .ok (.aaload, 1) := dk_50 (dk_at dksX3_leadsToByTable_4 6 rfl rfl)
theorem dX3_leadsToByTable_97 : decode cX3_leadsToByTable 97 = .ok (.iload 6, 2) := dk_21 6 (dk_at dksX3_leadsToByTable_4 7 rfl rfl)
theorem dX3_leadsToByTable_99 : decode cX3_leadsToByTable 99 = .ok (.dup2, 1) := dk_92 (dk_at dksX3_leadsToByTable_4 9 rfl rfl)
theorem dX3_leadsToByTable_100 : decode cX3_leadsToByTable 100 = .ok (.baload, 1) := dk_51 (dk_at dksX3_leadsToByTable_4 10 rfl rfl)
theorem dX3_leadsToByTable_101 : decode cX3_leadsToByTable 101 = .ok (.aload_n 3, 1) := dk_45 (dk_at dksX3_leadsToByTable_4 11 rfl rfl)
theorem dX3_leadsToByTable_102 : decode cX3_leadsToByTable 102 = .ok (.iload 5, 2) := dk_21 5 (dk_at dksX3_leadsToByTable_4 12 rfl rfl)
theorem dX3_leadsToByTable_104 : decode cX3_leadsToByTable 104 = .ok (.aaload, 1) := dk_50 (dk_at dksX3_leadsToByTable_4 14 rfl rfl)
theorem dX3_leadsToByTable_105 : decode cX3_leadsToByTable 105 = .ok (.iload 4, 2) := dk_21 4 (dk_at dksX3_leadsToByTable_4 15 rfl rfl)
theorem dX3_leadsToByTable_107 : decode cX3_leadsToByTable 107 = .ok (.baload, 1) := dk_51 (dk_at dksX3_leadsToByTable_4 17 rfl rfl)
theorem dX3_leadsToByTable_108 : decode cX3_leadsToByTable 108 = .ok (.ifCond .eq 17, 3) := dk_153 0 17 (dk_at dksX3_leadsToByTable_4 18 rfl rfl)
theorem dX3_leadsToByTable_111 : decode cX3_leadsToByTable 111 = .ok (.aload_n 3, 1) := dk_45 (dk_at dksX3_leadsToByTable_4 21 rfl rfl)
theorem dX3_leadsToByTable_112 : decode cX3_leadsToByTable 112 = .ok (.iload 4, 2) := dk_21 4 (dk_at dksX3_leadsToByTable_4 22 rfl rfl)
theorem dX3_leadsToByTable_114 : decode cX3_leadsToByTable 114 = .ok (.aaload, 1) := dk_50 (dk_at dksX3_leadsToByTable_5 0 rfl rfl)
theorem dX3_leadsToByTable_115 : decode cX3_leadsToByTable 115 = .ok (.iload 6, 2) := dk_21 6 (dk_at dksX3_leadsToByTable_5 1 rfl rfl)
theorem dX3_leadsToByTable_117 : decode cX3_leadsToByTable 117 = .ok (.baload, 1) := dk_51 (dk_at dksX3_leadsToByTable_5 3 rfl rfl)
theorem dX3_leadsToByTable_118 : decode cX3_leadsToByTable 118 = .ok (.ifCond .eq 7, 3) := dk_153 0 7 (dk_at dksX3_leadsToByTable_5 4 rfl rfl)
theorem dX3_leadsToByTable_121 : decode cX3_leadsToByTable 121 = .ok (.iconst 1, 1) := dk_4 (dk_at dksX3_leadsToByTable_5 7 rfl rfl)
theorem dX3_leadsToByTable_122 : decode cX3_leadsToByTable 122 = .ok (.goto 4, 3) := dk_167 0 4 (dk_at dksX3_leadsToByTable_5 8 rfl rfl)
theorem dX3_leadsToByTable_125 : decode cX3_leadsToByTable 125 = .ok (.iconst 0, 1) := dk_3 (dk_at dksX3_leadsToByTable_5 11 rfl rfl)
theorem dX3_leadsToByTable_126 : decode cX3_leadsToByTable 126 = .ok (.ior, 1) := dk_128 (dk_at dksX3_leadsToByTable_5 12 rfl rfl)
theorem dX3_leadsToByTable_127 : decode cX3_leadsToByTable 127 = .ok (.bastore, 1) := dk_84 (dk_at dksX3_leadsToByTable_5 13 rfl rfl)
theorem dX3_leadsToByTable_128 : decode cX3_leadsToByTable 128 = .ok (.iinc 6 1, 3) := dk_132 6 1 (dk_at dksX3_leadsToByTable_5 14 rfl rfl)
theorem dX3_leadsToByTable_131 : decode cX3_leadsToByTable 131 = .ok (.goto (-45), 3) := dk_167 255 211 (dk_at dksX3_leadsToByTable_5 17 rfl rfl)
theorem dX3_leadsToByTable_134 : decode cX3_leadsToByTable 134 = .ok (.iinc 5 1, 3) := dk_132 5 1 (dk_at dksX3_leadsToByTable_5 20 rfl rfl)
theorem dX3_leadsToByTable_137 : decode cX3_leadsToByTable 137 = .ok (.goto (-61), 3) := dk_167 255 195 (dk_at dksX3_leadsToByTable_6 0 rfl rfl)
theorem dX3_leadsToByTable_140 : decode cX3_leadsToByTable 140 = .ok (.iinc 4 1, 3) := dk_132 4 1 (dk_at dksX3_leadsToByTable_6 3 rfl rfl)
theorem dX3_leadsToByTable_143 : decode cX3_leadsToByTable 143 = .ok (.goto (-77), 3) := dk_167 255 179 (dk_at dksX3_leadsToByTable_6 6 rfl rfl)
theorem dX3_leadsToByTable_146 : decode cX3_leadsToByTable 146 = .ok (.iconst 0, 1) := dk_3 (dk_at dksX3_leadsToByTable_6 9 rfl rfl)
theorem dX3_leadsToByTable_147 : decode cX3_leadsToByTable 147 = .ok (.istore 4, 2) := dk_54 4 (dk_at dksX3_leadsToByTable_6 10 rfl rfl)
theorem dX3_leadsToByTable_149 : decode cX3_leadsToByTable 149 = .ok (.aload_n 3, 1) := dk_45 (dk_at dksX3_leadsToByTable_6 12 rfl rfl)
theorem dX3_leadsToByTable_150 : decode cX3_leadsToByTable 150 = .ok (.iload_n 1, 1) := dk_27 (dk_at dksX3_leadsToByTable_6 13 rfl rfl)
theorem dX3_leadsToByTable_151 : decode cX3_leadsToByTable 151 = .ok (.aaload, 1) := dk_50 (dk_at dksX3_leadsToByTable_6 14 rfl rfl)
theorem dX3_leadsToByTable_152 : decode cX3_leadsToByTable 152 = .ok (.astore 5, 2) := dk_58 5 (dk_at dksX3_leadsToByTable_6 15 rfl rfl)
theorem dX3_leadsToByTable_154 : decode cX3_leadsToByTable 154 = .ok (.aload 5, 2) := dk_25 5 (dk_at dksX3_leadsToByTable_6 17 rfl rfl)
theorem dX3_leadsToByTable_156 : decode cX3_leadsToByTable 156 = .ok (.arraylength, 1) := dk_190 (dk_at dksX3_leadsToByTable_6 19 rfl rfl)
theorem dX3_leadsToByTable_157 : decode cX3_leadsToByTable 157 = .ok (.istore 6, 2) := dk_54 6 (dk_at dksX3_leadsToByTable_6 20 rfl rfl)
theorem dX3_leadsToByTable_159 : decode cX3_leadsToByTable 159 = .ok (.iconst 0, 1) := dk_3 (dk_at dksX3_leadsToByTable_6 22 rfl rfl)
theorem dX3_leadsToByTable_160 : decode cX3_leadsToByTable 160 = .ok (.istore 7, 2) := dk_54 7 (dk_at dksX3_leadsToByTable_7 0 rfl rfl)
theorem dX3_leadsToByTable_162 : decode cX3_leadsToByTable 162 = .ok (.iload 7, 2) := dk_21 7 (dk_at dksX3_leadsToByTable_7 2 rfl rfl)
theorem dX3_leadsToByTable_164 : decode cX3_leadsToByTable 164 = .ok (.iload 6, 2) := dk_21 6 (dk_at dksX3_leadsToByTable_7 4 rfl rfl)
theorem dX3_leadsToByTable_166 : decode cX3_leadsToByTable 166 = .ok (.if_icmp .ge 31, 3) := dk_162 0 31 (dk_at dksX3_leadsToByTable_7 6 rfl rfl)
theorem dX3_leadsToByTable_169 : decode cX3_leadsToByTable 169 = .ok (.aload 5, 2) := dk_25 5 (dk_at dksX3_leadsToByTable_7 9 rfl rfl)
theorem dX3_leadsToByTable_171 : decode cX3_leadsToByTable 171 = .ok (.iload 7, 2) := dk_21 7 (dk_at dksX3_leadsToByTable_7 11 rfl rfl)
theorem dX3_leadsToByTable_173 : decode cX3_leadsToByTable 173 = .ok (.baload, 1) := dk_51 (dk_at dksX3_leadsToByTable_7 13 rfl rfl)
theorem dX3_leadsToByTable_174 : decode cX3_leadsToByTable 174 = .ok (.istore 8, 2) := dk_54 8 (dk_at dksX3_leadsToByTable_7 14 rfl rfl)
theorem dX3_leadsToByTable_176 : decode cX3_leadsToByTable 176 = .ok (.iload 4, 2) := dk_21 4 (dk_at dksX3_leadsToByTable_7 16 rfl rfl)
theorem dX3_leadsToByTable_178 : decode cX3_leadsToByTable 178 = .ok (.iload 8, 2) := dk_21 8 (dk_at dksX3_leadsToByTable_7 18 rfl rfl)
theorem dX3_leadsToByTable_180 : decode cX3_leadsToByTable 180 = .ok (.ifCond .eq 7, 3) := dk_153 0 7 (dk_at dksX3_leadsToByTable_7 20 rfl rfl)
theorem dX3_leadsToByTable_183 : decode cX3_leadsToByTable 183 = .ok (.iconst 1, 1) := dk_4 (dk_at dksX3_leadsToByTable_7 23 rfl rfl)
theorem dX3_leadsToByTable_184 : decode cX3_leadsToByTable 184 = .ok (.goto 4, 3) := dk_167 0 4 (dk_at dksX3_leadsToByTable_8 0 rfl rfl)
theorem dX3_leadsToByTable_187 : decode cX3_leadsToByTable 187 = .ok (.iconst 0, 1) := dk_3 (dk_at dksX3_leadsToByTable_8 3 rfl rfl)
theorem dX3_leadsToByTable_188 : decode cX3_leadsToByTable 188 = .ok (.iadd, 1) := dk_96 (dk_at dksX3_leadsToByTable_8 4 rfl rfl)
theorem dX3_leadsToByTable_189 : decode cX3_leadsToByTable 189 = .ok (.istore 4, 2) := dk_54 4 (dk_at dksX3_leadsToByTable_8 5 rfl rfl)
theorem dX3_leadsToByTable_191 : decode cX3_leadsToByTable 191 = .ok (.iinc 7 1, 3) := dk_132 7 1 (dk_at dksX3_leadsToByTable_8 7 rfl rfl)
theorem dX3_leadsToByTable_194 : decode cX3_leadsToByTable 194 = .ok (.goto (-32), 3) := dk_167 255 224 (dk_at dksX3_leadsToByTable_8 10 rfl rfl)
theorem dX3_leadsToByTable_197 : decode cX3_leadsToByTable 197 = .ok (.iload 4, 2) := dk_21 4 (dk_at dksX3_leadsToByTable_8 13 rfl rfl)
theorem dX3_leadsToByTable_199 : decode cX3_leadsToByTable 199 = .ok (.ireturn, 1) := dk_172 (dk_at dksX3_leadsToByTable_8 15 rfl rfl)
abbrev cX3_longest : ByteArray := prog_2_method_24_code
def yX3_longest : MethodName := ⟨RX3, "longest", "(I)I"⟩
def dkwX3_longest_3 : List UInt8 := [167, 255, 203, 42, 180, 0, 19, 27, 46, 28, 96, 172]
abbrev dktX3_longest_3 : List UInt8 := dkwX3_longest_3 ++ []
def dkwX3_longest_2 : List UInt8 := [182, 0, 118, 54, 4, 21, 4, 2, 160, 0, 5, 2, 172, 28, 21, 4, 184, 0, 121, 61, 132, 3, 1]
abbrev dktX3_longest_2 : List UInt8 := dkwX3_longest_2 ++ dktX3_longest_3
def dkwX3_longest_1 : List UInt8 := [162, 0, 49, 42, 27, 29, 182, 0, 52, 154, 0, 34, 42, 42, 42, 27, 29, 182, 0, 45, 182, 0, 49]
abbrev dktX3_longest_1 : List UInt8 := dkwX3_longest_1 ++ dktX3_longest_2
def dkwX3_longest_0 : List UInt8 := [42, 180, 0, 9, 27, 51, 154, 0, 5, 2, 172, 3, 61, 3, 62, 29, 42, 180, 0, 23, 27, 46]
abbrev dktX3_longest_0 : List UInt8 := dkwX3_longest_0 ++ dktX3_longest_1
theorem dksX3_longest_0 : cX3_longest.data.toList.drop 0 = dktX3_longest_0 := by decide +kernel
theorem dksX3_longest_1 : cX3_longest.data.toList.drop 22 = dktX3_longest_1 := dk_seg dksX3_longest_0 22 rfl rfl
theorem dksX3_longest_2 : cX3_longest.data.toList.drop 45 = dktX3_longest_2 := dk_seg dksX3_longest_1 23 rfl rfl
theorem dksX3_longest_3 : cX3_longest.data.toList.drop 68 = dktX3_longest_3 := dk_seg dksX3_longest_2 23 rfl rfl
theorem dX3_longest_0 : decode cX3_longest 0 = .ok (.aload_n 0, 1) := dk_42 (dk_at dksX3_longest_0 0 rfl rfl)
theorem dX3_longest_1 : decode cX3_longest 1 = .ok (.getfield 9, 3) := dk_180 0 9 (dk_at dksX3_longest_0 1 rfl rfl)
theorem dX3_longest_4 : decode cX3_longest 4 = .ok (.iload_n 1, 1) := dk_27 (dk_at dksX3_longest_0 4 rfl rfl)
theorem dX3_longest_5 : decode cX3_longest 5 = .ok (.baload, 1) := dk_51 (dk_at dksX3_longest_0 5 rfl rfl)
theorem dX3_longest_6 : decode cX3_longest 6 = .ok (.ifCond .ne 5, 3) := dk_154 0 5 (dk_at dksX3_longest_0 6 rfl rfl)
theorem dX3_longest_9 : decode cX3_longest 9 = .ok (.iconst (-1), 1) := dk_2 (dk_at dksX3_longest_0 9 rfl rfl)
theorem dX3_longest_10 : decode cX3_longest 10 = .ok (.ireturn, 1) := dk_172 (dk_at dksX3_longest_0 10 rfl rfl)
theorem dX3_longest_11 : decode cX3_longest 11 = .ok (.iconst 0, 1) := dk_3 (dk_at dksX3_longest_0 11 rfl rfl)
theorem dX3_longest_12 : decode cX3_longest 12 = .ok (.istore_n 2, 1) := dk_61 (dk_at dksX3_longest_0 12 rfl rfl)
theorem dX3_longest_13 : decode cX3_longest 13 = .ok (.iconst 0, 1) := dk_3 (dk_at dksX3_longest_0 13 rfl rfl)
theorem dX3_longest_14 : decode cX3_longest 14 = .ok (.istore_n 3, 1) := dk_62 (dk_at dksX3_longest_0 14 rfl rfl)
theorem dX3_longest_15 : decode cX3_longest 15 = .ok (.iload_n 3, 1) := dk_29 (dk_at dksX3_longest_0 15 rfl rfl)
theorem dX3_longest_16 : decode cX3_longest 16 = .ok (.aload_n 0, 1) := dk_42 (dk_at dksX3_longest_0 16 rfl rfl)
theorem dX3_longest_17 : decode cX3_longest 17 = .ok (.getfield 23, 3) := dk_180 0 23 (dk_at dksX3_longest_0 17 rfl rfl)
theorem dX3_longest_20 : decode cX3_longest 20 = .ok (.iload_n 1, 1) := dk_27 (dk_at dksX3_longest_0 20 rfl rfl)
theorem dX3_longest_21 : decode cX3_longest 21 = .ok (.iaload, 1) := dk_46 (dk_at dksX3_longest_0 21 rfl rfl)
theorem dX3_longest_22 : decode cX3_longest 22 = .ok (.if_icmp .ge 49, 3) := dk_162 0 49 (dk_at dksX3_longest_1 0 rfl rfl)
theorem dX3_longest_25 : decode cX3_longest 25 = .ok (.aload_n 0, 1) := dk_42 (dk_at dksX3_longest_1 3 rfl rfl)
theorem dX3_longest_26 : decode cX3_longest 26 = .ok (.iload_n 1, 1) := dk_27 (dk_at dksX3_longest_1 4 rfl rfl)
theorem dX3_longest_27 : decode cX3_longest 27 = .ok (.iload_n 3, 1) := dk_29 (dk_at dksX3_longest_1 5 rfl rfl)
theorem dX3_longest_28 : decode cX3_longest 28 = .ok (.invokevirtual 52, 3) := dk_182 0 52 (dk_at dksX3_longest_1 6 rfl rfl)
theorem dX3_longest_31 : decode cX3_longest 31 = .ok (.ifCond .ne 34, 3) := dk_154 0 34 (dk_at dksX3_longest_1 9 rfl rfl)
theorem dX3_longest_34 : decode cX3_longest 34 = .ok (.aload_n 0, 1) := dk_42 (dk_at dksX3_longest_1 12 rfl rfl)
theorem dX3_longest_35 : decode cX3_longest 35 = .ok (.aload_n 0, 1) := dk_42 (dk_at dksX3_longest_1 13 rfl rfl)
theorem dX3_longest_36 : decode cX3_longest 36 = .ok (.aload_n 0, 1) := dk_42 (dk_at dksX3_longest_1 14 rfl rfl)
theorem dX3_longest_37 : decode cX3_longest 37 = .ok (.iload_n 1, 1) := dk_27 (dk_at dksX3_longest_1 15 rfl rfl)
theorem dX3_longest_38 : decode cX3_longest 38 = .ok (.iload_n 3, 1) := dk_29 (dk_at dksX3_longest_1 16 rfl rfl)
theorem dX3_longest_39 : decode cX3_longest 39 = .ok (.invokevirtual 45, 3) := dk_182 0 45 (dk_at dksX3_longest_1 17 rfl rfl)
theorem dX3_longest_42 : decode cX3_longest 42 = .ok (.invokevirtual 49, 3) := dk_182 0 49 (dk_at dksX3_longest_1 20 rfl rfl)
theorem dX3_longest_45 : decode cX3_longest 45 = .ok (.invokevirtual 118, 3) := dk_182 0 118 (dk_at dksX3_longest_2 0 rfl rfl)
theorem dX3_longest_48 : decode cX3_longest 48 = .ok (.istore 4, 2) := dk_54 4 (dk_at dksX3_longest_2 3 rfl rfl)
theorem dX3_longest_50 : decode cX3_longest 50 = .ok (.iload 4, 2) := dk_21 4 (dk_at dksX3_longest_2 5 rfl rfl)
theorem dX3_longest_52 : decode cX3_longest 52 = .ok (.iconst (-1), 1) := dk_2 (dk_at dksX3_longest_2 7 rfl rfl)
theorem dX3_longest_53 : decode cX3_longest 53 = .ok (.if_icmp .ne 5, 3) := dk_160 0 5 (dk_at dksX3_longest_2 8 rfl rfl)
theorem dX3_longest_56 : decode cX3_longest 56 = .ok (.iconst (-1), 1) := dk_2 (dk_at dksX3_longest_2 11 rfl rfl)
theorem dX3_longest_57 : decode cX3_longest 57 = .ok (.ireturn, 1) := dk_172 (dk_at dksX3_longest_2 12 rfl rfl)
theorem dX3_longest_58 : decode cX3_longest 58 = .ok (.iload_n 2, 1) := dk_28 (dk_at dksX3_longest_2 13 rfl rfl)
theorem dX3_longest_59 : decode cX3_longest 59 = .ok (.iload 4, 2) := dk_21 4 (dk_at dksX3_longest_2 14 rfl rfl)
theorem dX3_longest_61 : decode cX3_longest 61 = .ok (.invokestatic 121, 3) := dk_184 0 121 (dk_at dksX3_longest_2 16 rfl rfl)
theorem dX3_longest_64 : decode cX3_longest 64 = .ok (.istore_n 2, 1) := dk_61 (dk_at dksX3_longest_2 19 rfl rfl)
theorem dX3_longest_65 : decode cX3_longest 65 = .ok (.iinc 3 1, 3) := dk_132 3 1 (dk_at dksX3_longest_2 20 rfl rfl)
theorem dX3_longest_68 : decode cX3_longest 68 = .ok (.goto (-53), 3) := dk_167 255 203 (dk_at dksX3_longest_3 0 rfl rfl)
theorem dX3_longest_71 : decode cX3_longest 71 = .ok (.aload_n 0, 1) := dk_42 (dk_at dksX3_longest_3 3 rfl rfl)
theorem dX3_longest_72 : decode cX3_longest 72 = .ok (.getfield 19, 3) := dk_180 0 19 (dk_at dksX3_longest_3 4 rfl rfl)
theorem dX3_longest_75 : decode cX3_longest 75 = .ok (.iload_n 1, 1) := dk_27 (dk_at dksX3_longest_3 7 rfl rfl)
theorem dX3_longest_76 : decode cX3_longest 76 = .ok (.iaload, 1) := dk_46 (dk_at dksX3_longest_3 8 rfl rfl)
theorem dX3_longest_77 : decode cX3_longest 77 = .ok (.iload_n 2, 1) := dk_28 (dk_at dksX3_longest_3 9 rfl rfl)
theorem dX3_longest_78 : decode cX3_longest 78 = .ok (.iadd, 1) := dk_96 (dk_at dksX3_longest_3 10 rfl rfl)
theorem dX3_longest_79 : decode cX3_longest 79 = .ok (.ireturn, 1) := dk_172 (dk_at dksX3_longest_3 11 rfl rfl)
abbrev cX3_longestByRounds : ByteArray := prog_2_method_25_code
def yX3_longestByRounds : MethodName := ⟨RX3, "longestByRounds", "(I)I"⟩
def dkwX3_longestByRounds_7 : List UInt8 := [167, 255, 104, 45, 27, 46, 172]
abbrev dktX3_longestByRounds_7 : List UInt8 := dkwX3_longestByRounds_7 ++ []
def dkwX3_longestByRounds_6 : List UInt8 := [167, 0, 13, 42, 180, 0, 19, 21, 6, 46, 21, 7, 96, 79, 132, 6, 1, 167, 255, 129, 132, 4, 1]
abbrev dktX3_longestByRounds_6 : List UInt8 := dkwX3_longestByRounds_6 ++ dktX3_longestByRounds_7
def dkwX3_longestByRounds_5 : List UInt8 := [167, 0, 4, 3, 128, 54, 8, 132, 9, 1, 167, 255, 188, 45, 21, 6, 21, 8, 153, 0, 7, 2]
abbrev dktX3_longestByRounds_5 : List UInt8 := dkwX3_longestByRounds_5 ++ dktX3_longestByRounds_6
def dkwX3_longestByRounds_4 : List UInt8 := [167, 0, 5, 21, 7, 54, 7, 21, 8, 21, 10, 153, 0, 16, 25, 5, 21, 9, 46, 2, 160, 0, 7, 4]
abbrev dktX3_longestByRounds_4 : List UInt8 := dkwX3_longestByRounds_4 ++ dktX3_longestByRounds_5
def dkwX3_longestByRounds_3 : List UInt8 := [21, 9, 185, 0, 86, 3, 0, 54, 10, 21, 10, 153, 0, 16, 21, 7, 25, 5, 21, 9, 46, 184, 0, 121]
abbrev dktX3_longestByRounds_3 : List UInt8 := dkwX3_longestByRounds_3 ++ dktX3_longestByRounds_4
def dkwX3_longestByRounds_2 : List UInt8 := [51, 154, 0, 7, 4, 167, 0, 4, 3, 54, 8, 3, 54, 9, 21, 9, 16, 8, 162, 0, 67, 44, 21, 6]
abbrev dktX3_longestByRounds_2 : List UInt8 := dkwX3_longestByRounds_2 ++ dktX3_longestByRounds_3
def dkwX3_longestByRounds_1 : List UInt8 := [192, 0, 127, 58, 5, 3, 54, 6, 21, 6, 16, 8, 162, 0, 126, 3, 54, 7, 42, 180, 0, 9, 21, 6]
abbrev dktX3_longestByRounds_1 : List UInt8 := dkwX3_longestByRounds_1 ++ dktX3_longestByRounds_2
def dkwX3_longestByRounds_0 : List UInt8 := [42, 182, 0, 90, 77, 16, 8, 188, 10, 78, 3, 54, 4, 21, 4, 16, 8, 162, 0, 151, 45, 182, 0, 126]
abbrev dktX3_longestByRounds_0 : List UInt8 := dkwX3_longestByRounds_0 ++ dktX3_longestByRounds_1
theorem dksX3_longestByRounds_0 : cX3_longestByRounds.data.toList.drop 0 = dktX3_longestByRounds_0 := by decide +kernel
theorem dksX3_longestByRounds_1 : cX3_longestByRounds.data.toList.drop 24 = dktX3_longestByRounds_1 := dk_seg dksX3_longestByRounds_0 24 rfl rfl
theorem dksX3_longestByRounds_2 : cX3_longestByRounds.data.toList.drop 48 = dktX3_longestByRounds_2 := dk_seg dksX3_longestByRounds_1 24 rfl rfl
theorem dksX3_longestByRounds_3 : cX3_longestByRounds.data.toList.drop 72 = dktX3_longestByRounds_3 := dk_seg dksX3_longestByRounds_2 24 rfl rfl
theorem dksX3_longestByRounds_4 : cX3_longestByRounds.data.toList.drop 96 = dktX3_longestByRounds_4 := dk_seg dksX3_longestByRounds_3 24 rfl rfl
theorem dksX3_longestByRounds_5 : cX3_longestByRounds.data.toList.drop 120 = dktX3_longestByRounds_5 := dk_seg dksX3_longestByRounds_4 24 rfl rfl
theorem dksX3_longestByRounds_6 : cX3_longestByRounds.data.toList.drop 142 = dktX3_longestByRounds_6 := dk_seg dksX3_longestByRounds_5 22 rfl rfl
theorem dksX3_longestByRounds_7 : cX3_longestByRounds.data.toList.drop 165 = dktX3_longestByRounds_7 := dk_seg dksX3_longestByRounds_6 23 rfl rfl
theorem dX3_longestByRounds_0 : decode cX3_longestByRounds 0 = .ok (.aload_n 0, 1) := dk_42 (dk_at dksX3_longestByRounds_0 0 rfl rfl)
theorem dX3_longestByRounds_1 : decode cX3_longestByRounds 1 = .ok (.invokevirtual 90, 3) := dk_182 0 90 (dk_at dksX3_longestByRounds_0 1 rfl rfl)
theorem dX3_longestByRounds_4 : decode cX3_longestByRounds 4 = .ok (.astore_n 2, 1) := dk_77 (dk_at dksX3_longestByRounds_0 4 rfl rfl)
theorem dX3_longestByRounds_5 : decode cX3_longestByRounds 5 = .ok (.bipush 8, 2) := dk_16 8 (dk_at dksX3_longestByRounds_0 5 rfl rfl)
theorem dX3_longestByRounds_7 : decode cX3_longestByRounds 7 = .ok (.newarray .int, 2) := dk_188_10 (dk_at dksX3_longestByRounds_0 7 rfl rfl)
theorem dX3_longestByRounds_9 : decode cX3_longestByRounds 9 = .ok (.astore_n 3, 1) := dk_78 (dk_at dksX3_longestByRounds_0 9 rfl rfl)
theorem dX3_longestByRounds_10 : decode cX3_longestByRounds 10 = .ok (.iconst 0, 1) := dk_3 (dk_at dksX3_longestByRounds_0 10 rfl rfl)
theorem dX3_longestByRounds_11 : decode cX3_longestByRounds 11 = .ok (.istore 4, 2) := dk_54 4 (dk_at dksX3_longestByRounds_0 11 rfl rfl)
theorem dX3_longestByRounds_13 : decode cX3_longestByRounds 13 = .ok (.iload 4, 2) := dk_21 4 (dk_at dksX3_longestByRounds_0 13 rfl rfl)
theorem dX3_longestByRounds_15 : decode cX3_longestByRounds 15 = .ok (.bipush 8, 2) := dk_16 8 (dk_at dksX3_longestByRounds_0 15 rfl rfl)
theorem dX3_longestByRounds_17 : decode cX3_longestByRounds 17 = .ok (.if_icmp .ge 151, 3) := dk_162 0 151 (dk_at dksX3_longestByRounds_0 17 rfl rfl)
theorem dX3_longestByRounds_20 : decode cX3_longestByRounds 20 = .ok (.aload_n 3, 1) := dk_45 (dk_at dksX3_longestByRounds_0 20 rfl rfl)
theorem dX3_longestByRounds_21 : decode cX3_longestByRounds 21 = .ok (.invokevirtual 126, 3) := dk_182 0 126 (dk_at dksX3_longestByRounds_0 21 rfl rfl)
theorem dX3_longestByRounds_24 : decode cX3_longestByRounds 24 = .ok (.checkcast 127, 3) := dk_192 0 127 (dk_at dksX3_longestByRounds_1 0 rfl rfl)
theorem dX3_longestByRounds_27 : decode cX3_longestByRounds 27 = .ok (.astore 5, 2) := dk_58 5 (dk_at dksX3_longestByRounds_1 3 rfl rfl)
theorem dX3_longestByRounds_29 : decode cX3_longestByRounds 29 = .ok (.iconst 0, 1) := dk_3 (dk_at dksX3_longestByRounds_1 5 rfl rfl)
theorem dX3_longestByRounds_30 : decode cX3_longestByRounds 30 = .ok (.istore 6, 2) := dk_54 6 (dk_at dksX3_longestByRounds_1 6 rfl rfl)
theorem dX3_longestByRounds_32 : decode cX3_longestByRounds 32 = .ok (.iload 6, 2) := dk_21 6 (dk_at dksX3_longestByRounds_1 8 rfl rfl)
theorem dX3_longestByRounds_34 : decode cX3_longestByRounds 34 = .ok (.bipush 8, 2) := dk_16 8 (dk_at dksX3_longestByRounds_1 10 rfl rfl)
theorem dX3_longestByRounds_36 : decode cX3_longestByRounds 36 = .ok (.if_icmp .ge 126, 3) := dk_162 0 126 (dk_at dksX3_longestByRounds_1 12 rfl rfl)
theorem dX3_longestByRounds_39 : decode cX3_longestByRounds 39 = .ok (.iconst 0, 1) := dk_3 (dk_at dksX3_longestByRounds_1 15 rfl rfl)
theorem dX3_longestByRounds_40 : decode cX3_longestByRounds 40 = .ok (.istore 7, 2) := dk_54 7 (dk_at dksX3_longestByRounds_1 16 rfl rfl)
theorem dX3_longestByRounds_42 : decode cX3_longestByRounds 42 = .ok (.aload_n 0, 1) := dk_42 (dk_at dksX3_longestByRounds_1 18 rfl rfl)
theorem dX3_longestByRounds_43 : decode cX3_longestByRounds 43 = .ok (.getfield 9, 3) := dk_180 0 9 (dk_at dksX3_longestByRounds_1 19 rfl rfl)
theorem dX3_longestByRounds_46 : decode cX3_longestByRounds 46 = .ok (.iload 6, 2) := dk_21 6 (dk_at dksX3_longestByRounds_1 22 rfl rfl)
theorem dX3_longestByRounds_48 : decode cX3_longestByRounds 48 = .ok (.baload, 1) := dk_51 (dk_at dksX3_longestByRounds_2 0 rfl rfl)
theorem dX3_longestByRounds_49 : decode cX3_longestByRounds 49 = .ok (.ifCond .ne 7, 3) := dk_154 0 7 (dk_at dksX3_longestByRounds_2 1 rfl rfl)
theorem dX3_longestByRounds_52 : decode cX3_longestByRounds 52 = .ok (.iconst 1, 1) := dk_4 (dk_at dksX3_longestByRounds_2 4 rfl rfl)
theorem dX3_longestByRounds_53 : decode cX3_longestByRounds 53 = .ok (.goto 4, 3) := dk_167 0 4 (dk_at dksX3_longestByRounds_2 5 rfl rfl)
theorem dX3_longestByRounds_56 : decode cX3_longestByRounds 56 = .ok (.iconst 0, 1) := dk_3 (dk_at dksX3_longestByRounds_2 8 rfl rfl)
theorem dX3_longestByRounds_57 : decode cX3_longestByRounds 57 = .ok (.istore 8, 2) := dk_54 8 (dk_at dksX3_longestByRounds_2 9 rfl rfl)
theorem dX3_longestByRounds_59 : decode cX3_longestByRounds 59 = .ok (.iconst 0, 1) := dk_3 (dk_at dksX3_longestByRounds_2 11 rfl rfl)
theorem dX3_longestByRounds_60 : decode cX3_longestByRounds 60 = .ok (.istore 9, 2) := dk_54 9 (dk_at dksX3_longestByRounds_2 12 rfl rfl)
theorem dX3_longestByRounds_62 : decode cX3_longestByRounds 62 = .ok (.iload 9, 2) := dk_21 9 (dk_at dksX3_longestByRounds_2 14 rfl rfl)
theorem dX3_longestByRounds_64 : decode cX3_longestByRounds 64 = .ok (.bipush 8, 2) := dk_16 8 (dk_at dksX3_longestByRounds_2 16 rfl rfl)
theorem dX3_longestByRounds_66 : decode cX3_longestByRounds 66 = .ok (.if_icmp .ge 67, 3) := dk_162 0 67 (dk_at dksX3_longestByRounds_2 18 rfl rfl)
theorem dX3_longestByRounds_69 : decode cX3_longestByRounds 69 = .ok (.aload_n 2, 1) := dk_44 (dk_at dksX3_longestByRounds_2 21 rfl rfl)
theorem dX3_longestByRounds_70 : decode cX3_longestByRounds 70 = .ok (.iload 6, 2) := dk_21 6 (dk_at dksX3_longestByRounds_2 22 rfl rfl)
theorem dX3_longestByRounds_72 : decode cX3_longestByRounds 72 = .ok (.iload 9, 2) := dk_21 9 (dk_at dksX3_longestByRounds_3 0 rfl rfl)
theorem dX3_longestByRounds_74 : decode cX3_longestByRounds 74 = .ok (.invokeinterface 86 3, 5) := by decide +kernel
theorem dX3_longestByRounds_79 : decode cX3_longestByRounds 79 = .ok (.istore 10, 2) := dk_54 10 (dk_at dksX3_longestByRounds_3 7 rfl rfl)
theorem dX3_longestByRounds_81 : decode cX3_longestByRounds 81 = .ok (.iload 10, 2) := dk_21 10 (dk_at dksX3_longestByRounds_3 9 rfl rfl)
theorem dX3_longestByRounds_83 : decode cX3_longestByRounds 83 = .ok (.ifCond .eq 16, 3) := dk_153 0 16 (dk_at dksX3_longestByRounds_3 11 rfl rfl)
theorem dX3_longestByRounds_86 : decode cX3_longestByRounds 86 = .ok (.iload 7, 2) := dk_21 7 (dk_at dksX3_longestByRounds_3 14 rfl rfl)
theorem dX3_longestByRounds_88 : decode cX3_longestByRounds 88 = .ok (.aload 5, 2) := dk_25 5 (dk_at dksX3_longestByRounds_3 16 rfl rfl)
theorem dX3_longestByRounds_90 : decode cX3_longestByRounds 90 = .ok (.iload 9, 2) := dk_21 9 (dk_at dksX3_longestByRounds_3 18 rfl rfl)
theorem dX3_longestByRounds_92 : decode cX3_longestByRounds 92 = .ok (.iaload, 1) := dk_46 (dk_at dksX3_longestByRounds_3 20 rfl rfl)
theorem dX3_longestByRounds_93 : decode cX3_longestByRounds 93 = .ok (.invokestatic 121, 3) := dk_184 0 121 (dk_at dksX3_longestByRounds_3 21 rfl rfl)
theorem dX3_longestByRounds_96 : decode cX3_longestByRounds 96 = .ok (.goto 5, 3) := dk_167 0 5 (dk_at dksX3_longestByRounds_4 0 rfl rfl)
theorem dX3_longestByRounds_99 : decode cX3_longestByRounds 99 = .ok (.iload 7, 2) := dk_21 7 (dk_at dksX3_longestByRounds_4 3 rfl rfl)
theorem dX3_longestByRounds_101 : decode cX3_longestByRounds 101 = .ok (.istore 7, 2) := dk_54 7 (dk_at dksX3_longestByRounds_4 5 rfl rfl)
theorem dX3_longestByRounds_103 : decode cX3_longestByRounds 103 = .ok (.iload 8, 2) := dk_21 8 (dk_at dksX3_longestByRounds_4 7 rfl rfl)
theorem dX3_longestByRounds_105 : decode cX3_longestByRounds 105 = .ok (.iload 10, 2) := dk_21 10 (dk_at dksX3_longestByRounds_4 9 rfl rfl)
theorem dX3_longestByRounds_107 : decode cX3_longestByRounds 107 = .ok (.ifCond .eq 16, 3) := dk_153 0 16 (dk_at dksX3_longestByRounds_4 11 rfl rfl)
theorem dX3_longestByRounds_110 : decode cX3_longestByRounds 110 = .ok (.aload 5, 2) := dk_25 5 (dk_at dksX3_longestByRounds_4 14 rfl rfl)
theorem dX3_longestByRounds_112 : decode cX3_longestByRounds 112 = .ok (.iload 9, 2) := dk_21 9 (dk_at dksX3_longestByRounds_4 16 rfl rfl)
theorem dX3_longestByRounds_114 : decode cX3_longestByRounds 114 = .ok (.iaload, 1) := dk_46 (dk_at dksX3_longestByRounds_4 18 rfl rfl)
theorem dX3_longestByRounds_115 : decode cX3_longestByRounds 115 = .ok (.iconst (-1), 1) := dk_2 (dk_at dksX3_longestByRounds_4 19 rfl rfl)
theorem dX3_longestByRounds_116 : decode cX3_longestByRounds 116 = .ok (.if_icmp .ne 7, 3) := dk_160 0 7 (dk_at dksX3_longestByRounds_4 20 rfl rfl)
theorem dX3_longestByRounds_119 : decode cX3_longestByRounds 119 = .ok (.iconst 1, 1) := dk_4 (dk_at dksX3_longestByRounds_4 23 rfl rfl)
theorem dX3_longestByRounds_120 : decode cX3_longestByRounds 120 = .ok (.goto 4, 3) := dk_167 0 4 (dk_at dksX3_longestByRounds_5 0 rfl rfl)
theorem dX3_longestByRounds_123 : decode cX3_longestByRounds 123 = .ok (.iconst 0, 1) := dk_3 (dk_at dksX3_longestByRounds_5 3 rfl rfl)
theorem dX3_longestByRounds_124 : decode cX3_longestByRounds 124 = .ok (.ior, 1) := dk_128 (dk_at dksX3_longestByRounds_5 4 rfl rfl)
theorem dX3_longestByRounds_125 : decode cX3_longestByRounds 125 = .ok (.istore 8, 2) := dk_54 8 (dk_at dksX3_longestByRounds_5 5 rfl rfl)
theorem dX3_longestByRounds_127 : decode cX3_longestByRounds 127 = .ok (.iinc 9 1, 3) := dk_132 9 1 (dk_at dksX3_longestByRounds_5 7 rfl rfl)
theorem dX3_longestByRounds_130 : decode cX3_longestByRounds 130 = .ok (.goto (-68), 3) := dk_167 255 188 (dk_at dksX3_longestByRounds_5 10 rfl rfl)
theorem dX3_longestByRounds_133 : decode cX3_longestByRounds 133 = .ok (.aload_n 3, 1) := dk_45 (dk_at dksX3_longestByRounds_5 13 rfl rfl)
theorem dX3_longestByRounds_134 : decode cX3_longestByRounds 134 = .ok (.iload 6, 2) := dk_21 6 (dk_at dksX3_longestByRounds_5 14 rfl rfl)
theorem dX3_longestByRounds_136 : decode cX3_longestByRounds 136 = .ok (.iload 8, 2) := dk_21 8 (dk_at dksX3_longestByRounds_5 16 rfl rfl)
theorem dX3_longestByRounds_138 : decode cX3_longestByRounds 138 = .ok (.ifCond .eq 7, 3) := dk_153 0 7 (dk_at dksX3_longestByRounds_5 18 rfl rfl)
theorem dX3_longestByRounds_141 : decode cX3_longestByRounds 141 = .ok (.iconst (-1), 1) := dk_2 (dk_at dksX3_longestByRounds_5 21 rfl rfl)
theorem dX3_longestByRounds_142 : decode cX3_longestByRounds 142 = .ok (.goto 13, 3) := dk_167 0 13 (dk_at dksX3_longestByRounds_6 0 rfl rfl)
theorem dX3_longestByRounds_145 : decode cX3_longestByRounds 145 = .ok (.aload_n 0, 1) := dk_42 (dk_at dksX3_longestByRounds_6 3 rfl rfl)
theorem dX3_longestByRounds_146 : decode cX3_longestByRounds 146 = .ok (.getfield 19, 3) := dk_180 0 19 (dk_at dksX3_longestByRounds_6 4 rfl rfl)
theorem dX3_longestByRounds_149 : decode cX3_longestByRounds 149 = .ok (.iload 6, 2) := dk_21 6 (dk_at dksX3_longestByRounds_6 7 rfl rfl)
theorem dX3_longestByRounds_151 : decode cX3_longestByRounds 151 = .ok (.iaload, 1) := dk_46 (dk_at dksX3_longestByRounds_6 9 rfl rfl)
theorem dX3_longestByRounds_152 : decode cX3_longestByRounds 152 = .ok (.iload 7, 2) := dk_21 7 (dk_at dksX3_longestByRounds_6 10 rfl rfl)
theorem dX3_longestByRounds_154 : decode cX3_longestByRounds 154 = .ok (.iadd, 1) := dk_96 (dk_at dksX3_longestByRounds_6 12 rfl rfl)
theorem dX3_longestByRounds_155 : decode cX3_longestByRounds 155 = .ok (.iastore, 1) := dk_79 (dk_at dksX3_longestByRounds_6 13 rfl rfl)
theorem dX3_longestByRounds_156 : decode cX3_longestByRounds 156 = .ok (.iinc 6 1, 3) := dk_132 6 1 (dk_at dksX3_longestByRounds_6 14 rfl rfl)
theorem dX3_longestByRounds_159 : decode cX3_longestByRounds 159 = .ok (.goto (-127), 3) := dk_167 255 129 (dk_at dksX3_longestByRounds_6 17 rfl rfl)
theorem dX3_longestByRounds_162 : decode cX3_longestByRounds 162 = .ok (.iinc 4 1, 3) := dk_132 4 1 (dk_at dksX3_longestByRounds_6 20 rfl rfl)
theorem dX3_longestByRounds_165 : decode cX3_longestByRounds 165 = .ok (.goto (-152), 3) := dk_167 255 104 (dk_at dksX3_longestByRounds_7 0 rfl rfl)
theorem dX3_longestByRounds_168 : decode cX3_longestByRounds 168 = .ok (.aload_n 3, 1) := dk_45 (dk_at dksX3_longestByRounds_7 3 rfl rfl)
theorem dX3_longestByRounds_169 : decode cX3_longestByRounds 169 = .ok (.iload_n 1, 1) := dk_27 (dk_at dksX3_longestByRounds_7 4 rfl rfl)
theorem dX3_longestByRounds_170 : decode cX3_longestByRounds 170 = .ok (.iaload, 1) := dk_46 (dk_at dksX3_longestByRounds_7 5 rfl rfl)
theorem dX3_longestByRounds_171 : decode cX3_longestByRounds 171 = .ok (.ireturn, 1) := dk_172 (dk_at dksX3_longestByRounds_7 6 rfl rfl)
abbrev cX3_directWay : ByteArray := prog_2_method_15_code
def yX3_directWay : MethodName := ⟨RX3, "directWay", "()LClockworkTailor$Way;"⟩
theorem dX3_directWay_0 : decode cX3_directWay 0 = .ok (.aload_n 0, 1) := by decide +kernel
theorem dX3_directWay_1 : decode cX3_directWay 1 = .ok (.invokedynamic 56, 5) := by decide +kernel
theorem dX3_directWay_6 : decode cX3_directWay 6 = .ok (.areturn, 1) := by decide +kernel
abbrev cX3_lambda_directWay_0 : ByteArray := prog_2_method_29_code
def yX3_lambda_directWay_0 : MethodName := ⟨RX3, "lambda$directWay$0", "(II)Z"⟩
def dkwX3_lambda_directWay_0_0 : List UInt8 := [42, 27, 28, 4, 182, 0, 150, 172]
abbrev dktX3_lambda_directWay_0_0 : List UInt8 := dkwX3_lambda_directWay_0_0 ++ []
theorem dksX3_lambda_directWay_0_0 : cX3_lambda_directWay_0.data.toList.drop 0 = dktX3_lambda_directWay_0_0 := by decide +kernel
theorem dX3_lambda_directWay_0_0 : decode cX3_lambda_directWay_0 0 = .ok (.aload_n 0, 1) := dk_42 (dk_at dksX3_lambda_directWay_0_0 0 rfl rfl)
theorem dX3_lambda_directWay_0_1 : decode cX3_lambda_directWay_0 1 = .ok (.iload_n 1, 1) := dk_27 (dk_at dksX3_lambda_directWay_0_0 1 rfl rfl)
theorem dX3_lambda_directWay_0_2 : decode cX3_lambda_directWay_0 2 = .ok (.iload_n 2, 1) := dk_28 (dk_at dksX3_lambda_directWay_0_0 2 rfl rfl)
theorem dX3_lambda_directWay_0_3 : decode cX3_lambda_directWay_0 3 = .ok (.iconst 1, 1) := dk_4 (dk_at dksX3_lambda_directWay_0_0 3 rfl rfl)
theorem dX3_lambda_directWay_0_4 : decode cX3_lambda_directWay_0 4 = .ok (.invokevirtual 150, 3) := dk_182 0 150 (dk_at dksX3_lambda_directWay_0_0 4 rfl rfl)
theorem dX3_lambda_directWay_0_7 : decode cX3_lambda_directWay_0 7 = .ok (.ireturn, 1) := dk_172 (dk_at dksX3_lambda_directWay_0_0 7 rfl rfl)
abbrev cX3_copyFrom : ByteArray := prog_2_method_2_code
def yX3_copyFrom : MethodName := ⟨RX3, "copyFrom", "(LClockworkTailor$Book;)V"⟩
def dkwX3_copyFrom_4 : List UInt8 := [3, 42, 180, 0, 32, 3, 16, 8, 184, 0, 35, 177]
abbrev dktX3_copyFrom_4 : List UInt8 := dkwX3_copyFrom_4 ++ []
def dkwX3_copyFrom_3 : List UInt8 := [16, 24, 184, 0, 35, 43, 180, 0, 29, 3, 42, 180, 0, 29, 3, 16, 24, 184, 0, 35, 43, 180, 0, 32]
abbrev dktX3_copyFrom_3 : List UInt8 := dkwX3_copyFrom_3 ++ dktX3_copyFrom_4
def dkwX3_copyFrom_2 : List UInt8 := [180, 0, 23, 3, 42, 180, 0, 23, 3, 16, 8, 184, 0, 35, 43, 180, 0, 26, 3, 42, 180, 0, 26, 3]
abbrev dktX3_copyFrom_2 : List UInt8 := dkwX3_copyFrom_2 ++ dktX3_copyFrom_3
def dkwX3_copyFrom_1 : List UInt8 := [3, 16, 8, 184, 0, 35, 43, 180, 0, 19, 3, 42, 180, 0, 19, 3, 16, 8, 184, 0, 35, 43]
abbrev dktX3_copyFrom_1 : List UInt8 := dkwX3_copyFrom_1 ++ dktX3_copyFrom_2
def dkwX3_copyFrom_0 : List UInt8 := [43, 180, 0, 9, 3, 42, 180, 0, 9, 3, 16, 8, 184, 0, 35, 43, 180, 0, 15, 3, 42, 180, 0, 15]
abbrev dktX3_copyFrom_0 : List UInt8 := dkwX3_copyFrom_0 ++ dktX3_copyFrom_1
theorem dksX3_copyFrom_0 : cX3_copyFrom.data.toList.drop 0 = dktX3_copyFrom_0 := by decide +kernel
theorem dksX3_copyFrom_1 : cX3_copyFrom.data.toList.drop 24 = dktX3_copyFrom_1 := dk_seg dksX3_copyFrom_0 24 rfl rfl
theorem dksX3_copyFrom_2 : cX3_copyFrom.data.toList.drop 46 = dktX3_copyFrom_2 := dk_seg dksX3_copyFrom_1 22 rfl rfl
theorem dksX3_copyFrom_3 : cX3_copyFrom.data.toList.drop 70 = dktX3_copyFrom_3 := dk_seg dksX3_copyFrom_2 24 rfl rfl
theorem dksX3_copyFrom_4 : cX3_copyFrom.data.toList.drop 94 = dktX3_copyFrom_4 := dk_seg dksX3_copyFrom_3 24 rfl rfl
theorem dX3_copyFrom_0 : decode cX3_copyFrom 0 = .ok (.aload_n 1, 1) := dk_43 (dk_at dksX3_copyFrom_0 0 rfl rfl)
theorem dX3_copyFrom_1 : decode cX3_copyFrom 1 = .ok (.getfield 9, 3) := dk_180 0 9 (dk_at dksX3_copyFrom_0 1 rfl rfl)
theorem dX3_copyFrom_4 : decode cX3_copyFrom 4 = .ok (.iconst 0, 1) := dk_3 (dk_at dksX3_copyFrom_0 4 rfl rfl)
theorem dX3_copyFrom_5 : decode cX3_copyFrom 5 = .ok (.aload_n 0, 1) := dk_42 (dk_at dksX3_copyFrom_0 5 rfl rfl)
theorem dX3_copyFrom_6 : decode cX3_copyFrom 6 = .ok (.getfield 9, 3) := dk_180 0 9 (dk_at dksX3_copyFrom_0 6 rfl rfl)
theorem dX3_copyFrom_9 : decode cX3_copyFrom 9 = .ok (.iconst 0, 1) := dk_3 (dk_at dksX3_copyFrom_0 9 rfl rfl)
theorem dX3_copyFrom_10 : decode cX3_copyFrom 10 = .ok (.bipush 8, 2) := dk_16 8 (dk_at dksX3_copyFrom_0 10 rfl rfl)
theorem dX3_copyFrom_12 : decode cX3_copyFrom 12 = .ok (.invokestatic 35, 3) := dk_184 0 35 (dk_at dksX3_copyFrom_0 12 rfl rfl)
theorem dX3_copyFrom_15 : decode cX3_copyFrom 15 = .ok (.aload_n 1, 1) := dk_43 (dk_at dksX3_copyFrom_0 15 rfl rfl)
theorem dX3_copyFrom_16 : decode cX3_copyFrom 16 = .ok (.getfield 15, 3) := dk_180 0 15 (dk_at dksX3_copyFrom_0 16 rfl rfl)
theorem dX3_copyFrom_19 : decode cX3_copyFrom 19 = .ok (.iconst 0, 1) := dk_3 (dk_at dksX3_copyFrom_0 19 rfl rfl)
theorem dX3_copyFrom_20 : decode cX3_copyFrom 20 = .ok (.aload_n 0, 1) := dk_42 (dk_at dksX3_copyFrom_0 20 rfl rfl)
theorem dX3_copyFrom_21 : decode cX3_copyFrom 21 = .ok (.getfield 15, 3) := dk_180 0 15 (dk_at dksX3_copyFrom_0 21 rfl rfl)
theorem dX3_copyFrom_24 : decode cX3_copyFrom 24 = .ok (.iconst 0, 1) := dk_3 (dk_at dksX3_copyFrom_1 0 rfl rfl)
theorem dX3_copyFrom_25 : decode cX3_copyFrom 25 = .ok (.bipush 8, 2) := dk_16 8 (dk_at dksX3_copyFrom_1 1 rfl rfl)
theorem dX3_copyFrom_27 : decode cX3_copyFrom 27 = .ok (.invokestatic 35, 3) := dk_184 0 35 (dk_at dksX3_copyFrom_1 3 rfl rfl)
theorem dX3_copyFrom_30 : decode cX3_copyFrom 30 = .ok (.aload_n 1, 1) := dk_43 (dk_at dksX3_copyFrom_1 6 rfl rfl)
theorem dX3_copyFrom_31 : decode cX3_copyFrom 31 = .ok (.getfield 19, 3) := dk_180 0 19 (dk_at dksX3_copyFrom_1 7 rfl rfl)
theorem dX3_copyFrom_34 : decode cX3_copyFrom 34 = .ok (.iconst 0, 1) := dk_3 (dk_at dksX3_copyFrom_1 10 rfl rfl)
theorem dX3_copyFrom_35 : decode cX3_copyFrom 35 = .ok (.aload_n 0, 1) := dk_42 (dk_at dksX3_copyFrom_1 11 rfl rfl)
theorem dX3_copyFrom_36 : decode cX3_copyFrom 36 = .ok (.getfield 19, 3) := dk_180 0 19 (dk_at dksX3_copyFrom_1 12 rfl rfl)
theorem dX3_copyFrom_39 : decode cX3_copyFrom 39 = .ok (.iconst 0, 1) := dk_3 (dk_at dksX3_copyFrom_1 15 rfl rfl)
theorem dX3_copyFrom_40 : decode cX3_copyFrom 40 = .ok (.bipush 8, 2) := dk_16 8 (dk_at dksX3_copyFrom_1 16 rfl rfl)
theorem dX3_copyFrom_42 : decode cX3_copyFrom 42 = .ok (.invokestatic 35, 3) := dk_184 0 35 (dk_at dksX3_copyFrom_1 18 rfl rfl)
theorem dX3_copyFrom_45 : decode cX3_copyFrom 45 = .ok (.aload_n 1, 1) := dk_43 (dk_at dksX3_copyFrom_1 21 rfl rfl)
theorem dX3_copyFrom_46 : decode cX3_copyFrom 46 = .ok (.getfield 23, 3) := dk_180 0 23 (dk_at dksX3_copyFrom_2 0 rfl rfl)
theorem dX3_copyFrom_49 : decode cX3_copyFrom 49 = .ok (.iconst 0, 1) := dk_3 (dk_at dksX3_copyFrom_2 3 rfl rfl)
theorem dX3_copyFrom_50 : decode cX3_copyFrom 50 = .ok (.aload_n 0, 1) := dk_42 (dk_at dksX3_copyFrom_2 4 rfl rfl)
theorem dX3_copyFrom_51 : decode cX3_copyFrom 51 = .ok (.getfield 23, 3) := dk_180 0 23 (dk_at dksX3_copyFrom_2 5 rfl rfl)
theorem dX3_copyFrom_54 : decode cX3_copyFrom 54 = .ok (.iconst 0, 1) := dk_3 (dk_at dksX3_copyFrom_2 8 rfl rfl)
theorem dX3_copyFrom_55 : decode cX3_copyFrom 55 = .ok (.bipush 8, 2) := dk_16 8 (dk_at dksX3_copyFrom_2 9 rfl rfl)
theorem dX3_copyFrom_57 : decode cX3_copyFrom 57 = .ok (.invokestatic 35, 3) := dk_184 0 35 (dk_at dksX3_copyFrom_2 11 rfl rfl)
theorem dX3_copyFrom_60 : decode cX3_copyFrom 60 = .ok (.aload_n 1, 1) := dk_43 (dk_at dksX3_copyFrom_2 14 rfl rfl)
theorem dX3_copyFrom_61 : decode cX3_copyFrom 61 = .ok (.getfield 26, 3) := dk_180 0 26 (dk_at dksX3_copyFrom_2 15 rfl rfl)
theorem dX3_copyFrom_64 : decode cX3_copyFrom 64 = .ok (.iconst 0, 1) := dk_3 (dk_at dksX3_copyFrom_2 18 rfl rfl)
theorem dX3_copyFrom_65 : decode cX3_copyFrom 65 = .ok (.aload_n 0, 1) := dk_42 (dk_at dksX3_copyFrom_2 19 rfl rfl)
theorem dX3_copyFrom_66 : decode cX3_copyFrom 66 = .ok (.getfield 26, 3) := dk_180 0 26 (dk_at dksX3_copyFrom_2 20 rfl rfl)
theorem dX3_copyFrom_69 : decode cX3_copyFrom 69 = .ok (.iconst 0, 1) := dk_3 (dk_at dksX3_copyFrom_2 23 rfl rfl)
theorem dX3_copyFrom_70 : decode cX3_copyFrom 70 = .ok (.bipush 24, 2) := dk_16 24 (dk_at dksX3_copyFrom_3 0 rfl rfl)
theorem dX3_copyFrom_72 : decode cX3_copyFrom 72 = .ok (.invokestatic 35, 3) := dk_184 0 35 (dk_at dksX3_copyFrom_3 2 rfl rfl)
theorem dX3_copyFrom_75 : decode cX3_copyFrom 75 = .ok (.aload_n 1, 1) := dk_43 (dk_at dksX3_copyFrom_3 5 rfl rfl)
theorem dX3_copyFrom_76 : decode cX3_copyFrom 76 = .ok (.getfield 29, 3) := dk_180 0 29 (dk_at dksX3_copyFrom_3 6 rfl rfl)
theorem dX3_copyFrom_79 : decode cX3_copyFrom 79 = .ok (.iconst 0, 1) := dk_3 (dk_at dksX3_copyFrom_3 9 rfl rfl)
theorem dX3_copyFrom_80 : decode cX3_copyFrom 80 = .ok (.aload_n 0, 1) := dk_42 (dk_at dksX3_copyFrom_3 10 rfl rfl)
theorem dX3_copyFrom_81 : decode cX3_copyFrom 81 = .ok (.getfield 29, 3) := dk_180 0 29 (dk_at dksX3_copyFrom_3 11 rfl rfl)
theorem dX3_copyFrom_84 : decode cX3_copyFrom 84 = .ok (.iconst 0, 1) := dk_3 (dk_at dksX3_copyFrom_3 14 rfl rfl)
theorem dX3_copyFrom_85 : decode cX3_copyFrom 85 = .ok (.bipush 24, 2) := dk_16 24 (dk_at dksX3_copyFrom_3 15 rfl rfl)
theorem dX3_copyFrom_87 : decode cX3_copyFrom 87 = .ok (.invokestatic 35, 3) := dk_184 0 35 (dk_at dksX3_copyFrom_3 17 rfl rfl)
theorem dX3_copyFrom_90 : decode cX3_copyFrom 90 = .ok (.aload_n 1, 1) := dk_43 (dk_at dksX3_copyFrom_3 20 rfl rfl)
theorem dX3_copyFrom_91 : decode cX3_copyFrom 91 = .ok (.getfield 32, 3) := dk_180 0 32 (dk_at dksX3_copyFrom_3 21 rfl rfl)
theorem dX3_copyFrom_94 : decode cX3_copyFrom 94 = .ok (.iconst 0, 1) := dk_3 (dk_at dksX3_copyFrom_4 0 rfl rfl)
theorem dX3_copyFrom_95 : decode cX3_copyFrom 95 = .ok (.aload_n 0, 1) := dk_42 (dk_at dksX3_copyFrom_4 1 rfl rfl)
theorem dX3_copyFrom_96 : decode cX3_copyFrom 96 = .ok (.getfield 32, 3) := dk_180 0 32 (dk_at dksX3_copyFrom_4 2 rfl rfl)
theorem dX3_copyFrom_99 : decode cX3_copyFrom 99 = .ok (.iconst 0, 1) := dk_3 (dk_at dksX3_copyFrom_4 5 rfl rfl)
theorem dX3_copyFrom_100 : decode cX3_copyFrom 100 = .ok (.bipush 8, 2) := dk_16 8 (dk_at dksX3_copyFrom_4 6 rfl rfl)
theorem dX3_copyFrom_102 : decode cX3_copyFrom 102 = .ok (.invokestatic 35, 3) := dk_184 0 35 (dk_at dksX3_copyFrom_4 8 rfl rfl)
theorem dX3_copyFrom_105 : decode cX3_copyFrom 105 = .ok (.return_, 1) := dk_177 (dk_at dksX3_copyFrom_4 11 rfl rfl)
abbrev cX3_positionOf : ByteArray := prog_2_method_9_code
def yX3_positionOf : MethodName := ⟨RX3, "positionOf", "(II)I"⟩
def dkwX3_positionOf_1 : List UInt8 := [132, 3, 1, 167, 255, 232, 2, 172]
abbrev dktX3_positionOf_1 : List UInt8 := dkwX3_positionOf_1 ++ []
def dkwX3_positionOf_0 : List UInt8 := [3, 62, 29, 42, 27, 182, 0, 41, 162, 0, 21, 42, 27, 29, 182, 0, 45, 28, 160, 0, 5, 29, 172]
abbrev dktX3_positionOf_0 : List UInt8 := dkwX3_positionOf_0 ++ dktX3_positionOf_1
theorem dksX3_positionOf_0 : cX3_positionOf.data.toList.drop 0 = dktX3_positionOf_0 := by decide +kernel
theorem dksX3_positionOf_1 : cX3_positionOf.data.toList.drop 23 = dktX3_positionOf_1 := dk_seg dksX3_positionOf_0 23 rfl rfl
theorem dX3_positionOf_0 : decode cX3_positionOf 0 = .ok (.iconst 0, 1) := dk_3 (dk_at dksX3_positionOf_0 0 rfl rfl)
theorem dX3_positionOf_1 : decode cX3_positionOf 1 = .ok (.istore_n 3, 1) := dk_62 (dk_at dksX3_positionOf_0 1 rfl rfl)
theorem dX3_positionOf_2 : decode cX3_positionOf 2 = .ok (.iload_n 3, 1) := dk_29 (dk_at dksX3_positionOf_0 2 rfl rfl)
theorem dX3_positionOf_3 : decode cX3_positionOf 3 = .ok (.aload_n 0, 1) := dk_42 (dk_at dksX3_positionOf_0 3 rfl rfl)
theorem dX3_positionOf_4 : decode cX3_positionOf 4 = .ok (.iload_n 1, 1) := dk_27 (dk_at dksX3_positionOf_0 4 rfl rfl)
theorem dX3_positionOf_5 : decode cX3_positionOf 5 = .ok (.invokevirtual 41, 3) := dk_182 0 41 (dk_at dksX3_positionOf_0 5 rfl rfl)
theorem dX3_positionOf_8 : decode cX3_positionOf 8 = .ok (.if_icmp .ge 21, 3) := dk_162 0 21 (dk_at dksX3_positionOf_0 8 rfl rfl)
theorem dX3_positionOf_11 : decode cX3_positionOf 11 = .ok (.aload_n 0, 1) := dk_42 (dk_at dksX3_positionOf_0 11 rfl rfl)
theorem dX3_positionOf_12 : decode cX3_positionOf 12 = .ok (.iload_n 1, 1) := dk_27 (dk_at dksX3_positionOf_0 12 rfl rfl)
theorem dX3_positionOf_13 : decode cX3_positionOf 13 = .ok (.iload_n 3, 1) := dk_29 (dk_at dksX3_positionOf_0 13 rfl rfl)
theorem dX3_positionOf_14 : decode cX3_positionOf 14 = .ok (.invokevirtual 45, 3) := dk_182 0 45 (dk_at dksX3_positionOf_0 14 rfl rfl)
theorem dX3_positionOf_17 : decode cX3_positionOf 17 = .ok (.iload_n 2, 1) := dk_28 (dk_at dksX3_positionOf_0 17 rfl rfl)
theorem dX3_positionOf_18 : decode cX3_positionOf 18 = .ok (.if_icmp .ne 5, 3) := dk_160 0 5 (dk_at dksX3_positionOf_0 18 rfl rfl)
theorem dX3_positionOf_21 : decode cX3_positionOf 21 = .ok (.iload_n 3, 1) := dk_29 (dk_at dksX3_positionOf_0 21 rfl rfl)
theorem dX3_positionOf_22 : decode cX3_positionOf 22 = .ok (.ireturn, 1) := dk_172 (dk_at dksX3_positionOf_0 22 rfl rfl)
theorem dX3_positionOf_23 : decode cX3_positionOf 23 = .ok (.iinc 3 1, 3) := dk_132 3 1 (dk_at dksX3_positionOf_1 0 rfl rfl)
theorem dX3_positionOf_26 : decode cX3_positionOf 26 = .ok (.goto (-24), 3) := dk_167 255 232 (dk_at dksX3_positionOf_1 3 rfl rfl)
theorem dX3_positionOf_29 : decode cX3_positionOf 29 = .ok (.iconst (-1), 1) := dk_2 (dk_at dksX3_positionOf_1 6 rfl rfl)
theorem dX3_positionOf_30 : decode cX3_positionOf 30 = .ok (.ireturn, 1) := dk_172 (dk_at dksX3_positionOf_1 7 rfl rfl)
abbrev cX3_add : ByteArray := prog_2_method_10_code
def yX3_add : MethodName := ⟨RX3, "add", "(IIZ)V"⟩
def dkwX3_add_1 : List UInt8 := [180, 0, 23, 27, 46, 96, 29, 84, 42, 180, 0, 23, 27, 92, 46, 4, 96, 79, 177]
abbrev dktX3_add_1 : List UInt8 := dkwX3_add_1 ++ []
def dkwX3_add_0 : List UInt8 := [42, 180, 0, 26, 6, 27, 104, 42, 180, 0, 23, 27, 46, 96, 28, 79, 42, 180, 0, 29, 6, 27, 104, 42]
abbrev dktX3_add_0 : List UInt8 := dkwX3_add_0 ++ dktX3_add_1
theorem dksX3_add_0 : cX3_add.data.toList.drop 0 = dktX3_add_0 := by decide +kernel
theorem dksX3_add_1 : cX3_add.data.toList.drop 24 = dktX3_add_1 := dk_seg dksX3_add_0 24 rfl rfl
theorem dX3_add_0 : decode cX3_add 0 = .ok (.aload_n 0, 1) := dk_42 (dk_at dksX3_add_0 0 rfl rfl)
theorem dX3_add_1 : decode cX3_add 1 = .ok (.getfield 26, 3) := dk_180 0 26 (dk_at dksX3_add_0 1 rfl rfl)
theorem dX3_add_4 : decode cX3_add 4 = .ok (.iconst 3, 1) := dk_6 (dk_at dksX3_add_0 4 rfl rfl)
theorem dX3_add_5 : decode cX3_add 5 = .ok (.iload_n 1, 1) := dk_27 (dk_at dksX3_add_0 5 rfl rfl)
theorem dX3_add_6 : decode cX3_add 6 = .ok (.imul, 1) := dk_104 (dk_at dksX3_add_0 6 rfl rfl)
theorem dX3_add_7 : decode cX3_add 7 = .ok (.aload_n 0, 1) := dk_42 (dk_at dksX3_add_0 7 rfl rfl)
theorem dX3_add_8 : decode cX3_add 8 = .ok (.getfield 23, 3) := dk_180 0 23 (dk_at dksX3_add_0 8 rfl rfl)
theorem dX3_add_11 : decode cX3_add 11 = .ok (.iload_n 1, 1) := dk_27 (dk_at dksX3_add_0 11 rfl rfl)
theorem dX3_add_12 : decode cX3_add 12 = .ok (.iaload, 1) := dk_46 (dk_at dksX3_add_0 12 rfl rfl)
theorem dX3_add_13 : decode cX3_add 13 = .ok (.iadd, 1) := dk_96 (dk_at dksX3_add_0 13 rfl rfl)
theorem dX3_add_14 : decode cX3_add 14 = .ok (.iload_n 2, 1) := dk_28 (dk_at dksX3_add_0 14 rfl rfl)
theorem dX3_add_15 : decode cX3_add 15 = .ok (.iastore, 1) := dk_79 (dk_at dksX3_add_0 15 rfl rfl)
theorem dX3_add_16 : decode cX3_add 16 = .ok (.aload_n 0, 1) := dk_42 (dk_at dksX3_add_0 16 rfl rfl)
theorem dX3_add_17 : decode cX3_add 17 = .ok (.getfield 29, 3) := dk_180 0 29 (dk_at dksX3_add_0 17 rfl rfl)
theorem dX3_add_20 : decode cX3_add 20 = .ok (.iconst 3, 1) := dk_6 (dk_at dksX3_add_0 20 rfl rfl)
theorem dX3_add_21 : decode cX3_add 21 = .ok (.iload_n 1, 1) := dk_27 (dk_at dksX3_add_0 21 rfl rfl)
theorem dX3_add_22 : decode cX3_add 22 = .ok (.imul, 1) := dk_104 (dk_at dksX3_add_0 22 rfl rfl)
theorem dX3_add_23 : decode cX3_add 23 = .ok (.aload_n 0, 1) := dk_42 (dk_at dksX3_add_0 23 rfl rfl)
theorem dX3_add_24 : decode cX3_add 24 = .ok (.getfield 23, 3) := dk_180 0 23 (dk_at dksX3_add_1 0 rfl rfl)
theorem dX3_add_27 : decode cX3_add 27 = .ok (.iload_n 1, 1) := dk_27 (dk_at dksX3_add_1 3 rfl rfl)
theorem dX3_add_28 : decode cX3_add 28 = .ok (.iaload, 1) := dk_46 (dk_at dksX3_add_1 4 rfl rfl)
theorem dX3_add_29 : decode cX3_add 29 = .ok (.iadd, 1) := dk_96 (dk_at dksX3_add_1 5 rfl rfl)
theorem dX3_add_30 : decode cX3_add 30 = .ok (.iload_n 3, 1) := dk_29 (dk_at dksX3_add_1 6 rfl rfl)
theorem dX3_add_31 : decode cX3_add 31 = .ok (.bastore, 1) := dk_84 (dk_at dksX3_add_1 7 rfl rfl)
theorem dX3_add_32 : decode cX3_add 32 = .ok (.aload_n 0, 1) := dk_42 (dk_at dksX3_add_1 8 rfl rfl)
theorem dX3_add_33 : decode cX3_add 33 = .ok (.getfield 23, 3) := dk_180 0 23 (dk_at dksX3_add_1 9 rfl rfl)
theorem dX3_add_36 : decode cX3_add 36 = .ok (.iload_n 1, 1) := dk_27 (dk_at dksX3_add_1 12 rfl rfl)
theorem dX3_add_37 : decode cX3_add 37 = .ok (.dup2, 1) := dk_92 (dk_at dksX3_add_1 13 rfl rfl)
theorem dX3_add_38 : decode cX3_add 38 = .ok (.iaload, 1) := dk_46 (dk_at dksX3_add_1 14 rfl rfl)
theorem dX3_add_39 : decode cX3_add 39 = .ok (.iconst 1, 1) := dk_4 (dk_at dksX3_add_1 15 rfl rfl)
theorem dX3_add_40 : decode cX3_add 40 = .ok (.iadd, 1) := dk_96 (dk_at dksX3_add_1 16 rfl rfl)
theorem dX3_add_41 : decode cX3_add 41 = .ok (.iastore, 1) := dk_79 (dk_at dksX3_add_1 17 rfl rfl)
theorem dX3_add_42 : decode cX3_add 42 = .ok (.return_, 1) := dk_177 (dk_at dksX3_add_1 18 rfl rfl)
abbrev cX3_refuseCircle : ByteArray := prog_2_method_19_code
def yX3_refuseCircle : MethodName := ⟨RX3, "refuseCircle", "()V"⟩
def dkwX3_refuseCircle_0 : List UInt8 := [42, 182, 0, 98, 60, 27, 158, 0, 7, 4, 167, 0, 4, 3, 6, 27, 184, 0, 101, 177]
abbrev dktX3_refuseCircle_0 : List UInt8 := dkwX3_refuseCircle_0 ++ []
theorem dksX3_refuseCircle_0 : cX3_refuseCircle.data.toList.drop 0 = dktX3_refuseCircle_0 := by decide +kernel
theorem dX3_refuseCircle_0 : decode cX3_refuseCircle 0 = .ok (.aload_n 0, 1) := dk_42 (dk_at dksX3_refuseCircle_0 0 rfl rfl)
theorem dX3_refuseCircle_1 : decode cX3_refuseCircle 1 = .ok (.invokevirtual 98, 3) := dk_182 0 98 (dk_at dksX3_refuseCircle_0 1 rfl rfl)
theorem dX3_refuseCircle_4 : decode cX3_refuseCircle 4 = .ok (.istore_n 1, 1) := dk_60 (dk_at dksX3_refuseCircle_0 4 rfl rfl)
theorem dX3_refuseCircle_5 : decode cX3_refuseCircle 5 = .ok (.iload_n 1, 1) := dk_27 (dk_at dksX3_refuseCircle_0 5 rfl rfl)
theorem dX3_refuseCircle_6 : decode cX3_refuseCircle 6 = .ok (.ifCond .le 7, 3) := dk_158 0 7 (dk_at dksX3_refuseCircle_0 6 rfl rfl)
theorem dX3_refuseCircle_9 : decode cX3_refuseCircle 9 = .ok (.iconst 1, 1) := dk_4 (dk_at dksX3_refuseCircle_0 9 rfl rfl)
theorem dX3_refuseCircle_10 : decode cX3_refuseCircle 10 = .ok (.goto 4, 3) := dk_167 0 4 (dk_at dksX3_refuseCircle_0 10 rfl rfl)
theorem dX3_refuseCircle_13 : decode cX3_refuseCircle 13 = .ok (.iconst 0, 1) := dk_3 (dk_at dksX3_refuseCircle_0 13 rfl rfl)
theorem dX3_refuseCircle_14 : decode cX3_refuseCircle 14 = .ok (.iconst 3, 1) := dk_6 (dk_at dksX3_refuseCircle_0 14 rfl rfl)
theorem dX3_refuseCircle_15 : decode cX3_refuseCircle 15 = .ok (.iload_n 1, 1) := dk_27 (dk_at dksX3_refuseCircle_0 15 rfl rfl)
theorem dX3_refuseCircle_16 : decode cX3_refuseCircle 16 = .ok (.invokestatic 101, 3) := dk_184 0 101 (dk_at dksX3_refuseCircle_0 16 rfl rfl)
theorem dX3_refuseCircle_19 : decode cX3_refuseCircle 19 = .ok (.return_, 1) := dk_177 (dk_at dksX3_refuseCircle_0 19 rfl rfl)
abbrev cX3_directCircle : ByteArray := prog_2_method_18_code
def yX3_directCircle : MethodName := ⟨RX3, "directCircle", "()I"⟩
def dkwX3_directCircle_2 : List UInt8 := [27, 172]
abbrev dktX3_directCircle_2 : List UInt8 := dkwX3_directCircle_2 ++ []
def dkwX3_directCircle_1 : List UInt8 := [158, 0, 16, 27, 153, 0, 8, 29, 27, 162, 0, 7, 29, 167, 0, 4, 27, 60, 132, 2, 1, 167, 255, 217]
abbrev dktX3_directCircle_1 : List UInt8 := dkwX3_directCircle_1 ++ dktX3_directCircle_2
def dkwX3_directCircle_0 : List UInt8 := [3, 60, 3, 61, 28, 16, 8, 162, 0, 39, 28, 42, 182, 0, 90, 184, 0, 94, 28, 46, 62, 29]
abbrev dktX3_directCircle_0 : List UInt8 := dkwX3_directCircle_0 ++ dktX3_directCircle_1
theorem dksX3_directCircle_0 : cX3_directCircle.data.toList.drop 0 = dktX3_directCircle_0 := by decide +kernel
theorem dksX3_directCircle_1 : cX3_directCircle.data.toList.drop 22 = dktX3_directCircle_1 := dk_seg dksX3_directCircle_0 22 rfl rfl
theorem dksX3_directCircle_2 : cX3_directCircle.data.toList.drop 46 = dktX3_directCircle_2 := dk_seg dksX3_directCircle_1 24 rfl rfl
theorem dX3_directCircle_0 : decode cX3_directCircle 0 = .ok (.iconst 0, 1) := dk_3 (dk_at dksX3_directCircle_0 0 rfl rfl)
theorem dX3_directCircle_1 : decode cX3_directCircle 1 = .ok (.istore_n 1, 1) := dk_60 (dk_at dksX3_directCircle_0 1 rfl rfl)
theorem dX3_directCircle_2 : decode cX3_directCircle 2 = .ok (.iconst 0, 1) := dk_3 (dk_at dksX3_directCircle_0 2 rfl rfl)
theorem dX3_directCircle_3 : decode cX3_directCircle 3 = .ok (.istore_n 2, 1) := dk_61 (dk_at dksX3_directCircle_0 3 rfl rfl)
theorem dX3_directCircle_4 : decode cX3_directCircle 4 = .ok (.iload_n 2, 1) := dk_28 (dk_at dksX3_directCircle_0 4 rfl rfl)
theorem dX3_directCircle_5 : decode cX3_directCircle 5 = .ok (.bipush 8, 2) := dk_16 8 (dk_at dksX3_directCircle_0 5 rfl rfl)
theorem dX3_directCircle_7 : decode cX3_directCircle 7 = .ok (.if_icmp .ge 39, 3) := dk_162 0 39 (dk_at dksX3_directCircle_0 7 rfl rfl)
theorem dX3_directCircle_10 : decode cX3_directCircle 10 = .ok (.iload_n 2, 1) := dk_28 (dk_at dksX3_directCircle_0 10 rfl rfl)
theorem dX3_directCircle_11 : decode cX3_directCircle 11 = .ok (.aload_n 0, 1) := dk_42 (dk_at dksX3_directCircle_0 11 rfl rfl)
theorem dX3_directCircle_12 : decode cX3_directCircle 12 = .ok (.invokevirtual 90, 3) := dk_182 0 90 (dk_at dksX3_directCircle_0 12 rfl rfl)
theorem dX3_directCircle_15 : decode cX3_directCircle 15 = .ok (.invokestatic 94, 3) := dk_184 0 94 (dk_at dksX3_directCircle_0 15 rfl rfl)
theorem dX3_directCircle_18 : decode cX3_directCircle 18 = .ok (.iload_n 2, 1) := dk_28 (dk_at dksX3_directCircle_0 18 rfl rfl)
theorem dX3_directCircle_19 : decode cX3_directCircle 19 = .ok (.iaload, 1) := dk_46 (dk_at dksX3_directCircle_0 19 rfl rfl)
theorem dX3_directCircle_20 : decode cX3_directCircle 20 = .ok (.istore_n 3, 1) := dk_62 (dk_at dksX3_directCircle_0 20 rfl rfl)
theorem dX3_directCircle_21 : decode cX3_directCircle 21 = .ok (.iload_n 3, 1) := dk_29 (dk_at dksX3_directCircle_0 21 rfl rfl)
theorem dX3_directCircle_22 : decode cX3_directCircle 22 = .ok (.ifCond .le 16, 3) := dk_158 0 16 (dk_at dksX3_directCircle_1 0 rfl rfl)
theorem dX3_directCircle_25 : decode cX3_directCircle 25 = .ok (.iload_n 1, 1) := dk_27 (dk_at dksX3_directCircle_1 3 rfl rfl)
theorem dX3_directCircle_26 : decode cX3_directCircle 26 = .ok (.ifCond .eq 8, 3) := dk_153 0 8 (dk_at dksX3_directCircle_1 4 rfl rfl)
theorem dX3_directCircle_29 : decode cX3_directCircle 29 = .ok (.iload_n 3, 1) := dk_29 (dk_at dksX3_directCircle_1 7 rfl rfl)
theorem dX3_directCircle_30 : decode cX3_directCircle 30 = .ok (.iload_n 1, 1) := dk_27 (dk_at dksX3_directCircle_1 8 rfl rfl)
theorem dX3_directCircle_31 : decode cX3_directCircle 31 = .ok (.if_icmp .ge 7, 3) := dk_162 0 7 (dk_at dksX3_directCircle_1 9 rfl rfl)
theorem dX3_directCircle_34 : decode cX3_directCircle 34 = .ok (.iload_n 3, 1) := dk_29 (dk_at dksX3_directCircle_1 12 rfl rfl)
theorem dX3_directCircle_35 : decode cX3_directCircle 35 = .ok (.goto 4, 3) := dk_167 0 4 (dk_at dksX3_directCircle_1 13 rfl rfl)
theorem dX3_directCircle_38 : decode cX3_directCircle 38 = .ok (.iload_n 1, 1) := dk_27 (dk_at dksX3_directCircle_1 16 rfl rfl)
theorem dX3_directCircle_39 : decode cX3_directCircle 39 = .ok (.istore_n 1, 1) := dk_60 (dk_at dksX3_directCircle_1 17 rfl rfl)
theorem dX3_directCircle_40 : decode cX3_directCircle 40 = .ok (.iinc 2 1, 3) := dk_132 2 1 (dk_at dksX3_directCircle_1 18 rfl rfl)
theorem dX3_directCircle_43 : decode cX3_directCircle 43 = .ok (.goto (-39), 3) := dk_167 255 217 (dk_at dksX3_directCircle_1 21 rfl rfl)
theorem dX3_directCircle_46 : decode cX3_directCircle 46 = .ok (.iload_n 1, 1) := dk_27 (dk_at dksX3_directCircle_2 0 rfl rfl)
theorem dX3_directCircle_47 : decode cX3_directCircle 47 = .ok (.ireturn, 1) := dk_172 (dk_at dksX3_directCircle_2 1 rfl rfl)
abbrev cX3_remove : ByteArray := prog_2_method_11_code
def yX3_remove : MethodName := ⟨RX3, "remove", "(II)V"⟩
def dkwX3_remove_3 : List UInt8 := [167, 255, 199, 177]
abbrev dktX3_remove_3 : List UInt8 := dkwX3_remove_3 ++ []
def dkwX3_remove_2 : List UInt8 := [180, 0, 29, 6, 27, 104, 29, 96, 42, 180, 0, 29, 6, 27, 104, 29, 96, 4, 96, 51, 84, 132, 3, 1]
abbrev dktX3_remove_2 : List UInt8 := dkwX3_remove_2 ++ dktX3_remove_3
def dkwX3_remove_1 : List UInt8 := [180, 0, 26, 6, 27, 104, 29, 96, 42, 180, 0, 26, 6, 27, 104, 29, 96, 4, 96, 46, 79, 42]
abbrev dktX3_remove_1 : List UInt8 := dkwX3_remove_1 ++ dktX3_remove_2
def dkwX3_remove_0 : List UInt8 := [42, 180, 0, 23, 27, 92, 46, 4, 100, 79, 28, 62, 29, 42, 180, 0, 23, 27, 46, 162, 0, 53, 42]
abbrev dktX3_remove_0 : List UInt8 := dkwX3_remove_0 ++ dktX3_remove_1
theorem dksX3_remove_0 : cX3_remove.data.toList.drop 0 = dktX3_remove_0 := by decide +kernel
theorem dksX3_remove_1 : cX3_remove.data.toList.drop 23 = dktX3_remove_1 := dk_seg dksX3_remove_0 23 rfl rfl
theorem dksX3_remove_2 : cX3_remove.data.toList.drop 45 = dktX3_remove_2 := dk_seg dksX3_remove_1 22 rfl rfl
theorem dksX3_remove_3 : cX3_remove.data.toList.drop 69 = dktX3_remove_3 := dk_seg dksX3_remove_2 24 rfl rfl
theorem dX3_remove_0 : decode cX3_remove 0 = .ok (.aload_n 0, 1) := dk_42 (dk_at dksX3_remove_0 0 rfl rfl)
theorem dX3_remove_1 : decode cX3_remove 1 = .ok (.getfield 23, 3) := dk_180 0 23 (dk_at dksX3_remove_0 1 rfl rfl)
theorem dX3_remove_4 : decode cX3_remove 4 = .ok (.iload_n 1, 1) := dk_27 (dk_at dksX3_remove_0 4 rfl rfl)
theorem dX3_remove_5 : decode cX3_remove 5 = .ok (.dup2, 1) := dk_92 (dk_at dksX3_remove_0 5 rfl rfl)
theorem dX3_remove_6 : decode cX3_remove 6 = .ok (.iaload, 1) := dk_46 (dk_at dksX3_remove_0 6 rfl rfl)
theorem dX3_remove_7 : decode cX3_remove 7 = .ok (.iconst 1, 1) := dk_4 (dk_at dksX3_remove_0 7 rfl rfl)
theorem dX3_remove_8 : decode cX3_remove 8 = .ok (.isub, 1) := dk_100 (dk_at dksX3_remove_0 8 rfl rfl)
theorem dX3_remove_9 : decode cX3_remove 9 = .ok (.iastore, 1) := dk_79 (dk_at dksX3_remove_0 9 rfl rfl)
theorem dX3_remove_10 : decode cX3_remove 10 = .ok (.iload_n 2, 1) := dk_28 (dk_at dksX3_remove_0 10 rfl rfl)
theorem dX3_remove_11 : decode cX3_remove 11 = .ok (.istore_n 3, 1) := dk_62 (dk_at dksX3_remove_0 11 rfl rfl)
theorem dX3_remove_12 : decode cX3_remove 12 = .ok (.iload_n 3, 1) := dk_29 (dk_at dksX3_remove_0 12 rfl rfl)
theorem dX3_remove_13 : decode cX3_remove 13 = .ok (.aload_n 0, 1) := dk_42 (dk_at dksX3_remove_0 13 rfl rfl)
theorem dX3_remove_14 : decode cX3_remove 14 = .ok (.getfield 23, 3) := dk_180 0 23 (dk_at dksX3_remove_0 14 rfl rfl)
theorem dX3_remove_17 : decode cX3_remove 17 = .ok (.iload_n 1, 1) := dk_27 (dk_at dksX3_remove_0 17 rfl rfl)
theorem dX3_remove_18 : decode cX3_remove 18 = .ok (.iaload, 1) := dk_46 (dk_at dksX3_remove_0 18 rfl rfl)
theorem dX3_remove_19 : decode cX3_remove 19 = .ok (.if_icmp .ge 53, 3) := dk_162 0 53 (dk_at dksX3_remove_0 19 rfl rfl)
theorem dX3_remove_22 : decode cX3_remove 22 = .ok (.aload_n 0, 1) := dk_42 (dk_at dksX3_remove_0 22 rfl rfl)
theorem dX3_remove_23 : decode cX3_remove 23 = .ok (.getfield 26, 3) := dk_180 0 26 (dk_at dksX3_remove_1 0 rfl rfl)
theorem dX3_remove_26 : decode cX3_remove 26 = .ok (.iconst 3, 1) := dk_6 (dk_at dksX3_remove_1 3 rfl rfl)
theorem dX3_remove_27 : decode cX3_remove 27 = .ok (.iload_n 1, 1) := dk_27 (dk_at dksX3_remove_1 4 rfl rfl)
theorem dX3_remove_28 : decode cX3_remove 28 = .ok (.imul, 1) := dk_104 (dk_at dksX3_remove_1 5 rfl rfl)
theorem dX3_remove_29 : decode cX3_remove 29 = .ok (.iload_n 3, 1) := dk_29 (dk_at dksX3_remove_1 6 rfl rfl)
theorem dX3_remove_30 : decode cX3_remove 30 = .ok (.iadd, 1) := dk_96 (dk_at dksX3_remove_1 7 rfl rfl)
theorem dX3_remove_31 : decode cX3_remove 31 = .ok (.aload_n 0, 1) := dk_42 (dk_at dksX3_remove_1 8 rfl rfl)
theorem dX3_remove_32 : decode cX3_remove 32 = .ok (.getfield 26, 3) := dk_180 0 26 (dk_at dksX3_remove_1 9 rfl rfl)
theorem dX3_remove_35 : decode cX3_remove 35 = .ok (.iconst 3, 1) := dk_6 (dk_at dksX3_remove_1 12 rfl rfl)
theorem dX3_remove_36 : decode cX3_remove 36 = .ok (.iload_n 1, 1) := dk_27 (dk_at dksX3_remove_1 13 rfl rfl)
theorem dX3_remove_37 : decode cX3_remove 37 = .ok (.imul, 1) := dk_104 (dk_at dksX3_remove_1 14 rfl rfl)
theorem dX3_remove_38 : decode cX3_remove 38 = .ok (.iload_n 3, 1) := dk_29 (dk_at dksX3_remove_1 15 rfl rfl)
theorem dX3_remove_39 : decode cX3_remove 39 = .ok (.iadd, 1) := dk_96 (dk_at dksX3_remove_1 16 rfl rfl)
theorem dX3_remove_40 : decode cX3_remove 40 = .ok (.iconst 1, 1) := dk_4 (dk_at dksX3_remove_1 17 rfl rfl)
theorem dX3_remove_41 : decode cX3_remove 41 = .ok (.iadd, 1) := dk_96 (dk_at dksX3_remove_1 18 rfl rfl)
theorem dX3_remove_42 : decode cX3_remove 42 = .ok (.iaload, 1) := dk_46 (dk_at dksX3_remove_1 19 rfl rfl)
theorem dX3_remove_43 : decode cX3_remove 43 = .ok (.iastore, 1) := dk_79 (dk_at dksX3_remove_1 20 rfl rfl)
theorem dX3_remove_44 : decode cX3_remove 44 = .ok (.aload_n 0, 1) := dk_42 (dk_at dksX3_remove_1 21 rfl rfl)
theorem dX3_remove_45 : decode cX3_remove 45 = .ok (.getfield 29, 3) := dk_180 0 29 (dk_at dksX3_remove_2 0 rfl rfl)
theorem dX3_remove_48 : decode cX3_remove 48 = .ok (.iconst 3, 1) := dk_6 (dk_at dksX3_remove_2 3 rfl rfl)
theorem dX3_remove_49 : decode cX3_remove 49 = .ok (.iload_n 1, 1) := dk_27 (dk_at dksX3_remove_2 4 rfl rfl)
theorem dX3_remove_50 : decode cX3_remove 50 = .ok (.imul, 1) := dk_104 (dk_at dksX3_remove_2 5 rfl rfl)
theorem dX3_remove_51 : decode cX3_remove 51 = .ok (.iload_n 3, 1) := dk_29 (dk_at dksX3_remove_2 6 rfl rfl)
theorem dX3_remove_52 : decode cX3_remove 52 = .ok (.iadd, 1) := dk_96 (dk_at dksX3_remove_2 7 rfl rfl)
theorem dX3_remove_53 : decode cX3_remove 53 = .ok (.aload_n 0, 1) := dk_42 (dk_at dksX3_remove_2 8 rfl rfl)
theorem dX3_remove_54 : decode cX3_remove 54 = .ok (.getfield 29, 3) := dk_180 0 29 (dk_at dksX3_remove_2 9 rfl rfl)
theorem dX3_remove_57 : decode cX3_remove 57 = .ok (.iconst 3, 1) := dk_6 (dk_at dksX3_remove_2 12 rfl rfl)
theorem dX3_remove_58 : decode cX3_remove 58 = .ok (.iload_n 1, 1) := dk_27 (dk_at dksX3_remove_2 13 rfl rfl)
theorem dX3_remove_59 : decode cX3_remove 59 = .ok (.imul, 1) := dk_104 (dk_at dksX3_remove_2 14 rfl rfl)
theorem dX3_remove_60 : decode cX3_remove 60 = .ok (.iload_n 3, 1) := dk_29 (dk_at dksX3_remove_2 15 rfl rfl)
theorem dX3_remove_61 : decode cX3_remove 61 = .ok (.iadd, 1) := dk_96 (dk_at dksX3_remove_2 16 rfl rfl)
theorem dX3_remove_62 : decode cX3_remove 62 = .ok (.iconst 1, 1) := dk_4 (dk_at dksX3_remove_2 17 rfl rfl)
theorem dX3_remove_63 : decode cX3_remove 63 = .ok (.iadd, 1) := dk_96 (dk_at dksX3_remove_2 18 rfl rfl)
theorem dX3_remove_64 : decode cX3_remove 64 = .ok (.baload, 1) := dk_51 (dk_at dksX3_remove_2 19 rfl rfl)
theorem dX3_remove_65 : decode cX3_remove 65 = .ok (.bastore, 1) := dk_84 (dk_at dksX3_remove_2 20 rfl rfl)
theorem dX3_remove_66 : decode cX3_remove 66 = .ok (.iinc 3 1, 3) := dk_132 3 1 (dk_at dksX3_remove_2 21 rfl rfl)
theorem dX3_remove_69 : decode cX3_remove 69 = .ok (.goto (-57), 3) := dk_167 255 199 (dk_at dksX3_remove_3 0 rfl rfl)
theorem dX3_remove_72 : decode cX3_remove 72 = .ok (.return_, 1) := dk_177 (dk_at dksX3_remove_3 3 rfl rfl)
abbrev cX3_swapCircle : ByteArray := prog_2_method_13_code
def yX3_swapCircle : MethodName := ⟨RX3, "swapCircle", "(II)I"⟩
def dkwX3_swapCircle_1 : List UInt8 := [54, 4, 132, 3, 1, 167, 255, 232, 21, 4, 27, 160, 0, 7, 29, 167, 0, 4, 3, 172]
abbrev dktX3_swapCircle_1 : List UInt8 := dkwX3_swapCircle_1 ++ []
def dkwX3_swapCircle_0 : List UInt8 := [4, 62, 28, 54, 4, 21, 4, 2, 159, 0, 24, 21, 4, 27, 159, 0, 18, 42, 180, 0, 32, 21, 4, 46]
abbrev dktX3_swapCircle_0 : List UInt8 := dkwX3_swapCircle_0 ++ dktX3_swapCircle_1
theorem dksX3_swapCircle_0 : cX3_swapCircle.data.toList.drop 0 = dktX3_swapCircle_0 := by decide +kernel
theorem dksX3_swapCircle_1 : cX3_swapCircle.data.toList.drop 24 = dktX3_swapCircle_1 := dk_seg dksX3_swapCircle_0 24 rfl rfl
theorem dX3_swapCircle_0 : decode cX3_swapCircle 0 = .ok (.iconst 1, 1) := dk_4 (dk_at dksX3_swapCircle_0 0 rfl rfl)
theorem dX3_swapCircle_1 : decode cX3_swapCircle 1 = .ok (.istore_n 3, 1) := dk_62 (dk_at dksX3_swapCircle_0 1 rfl rfl)
theorem dX3_swapCircle_2 : decode cX3_swapCircle 2 = .ok (.iload_n 2, 1) := dk_28 (dk_at dksX3_swapCircle_0 2 rfl rfl)
theorem dX3_swapCircle_3 : decode cX3_swapCircle 3 = .ok (.istore 4, 2) := dk_54 4 (dk_at dksX3_swapCircle_0 3 rfl rfl)
theorem dX3_swapCircle_5 : decode cX3_swapCircle 5 = .ok (.iload 4, 2) := dk_21 4 (dk_at dksX3_swapCircle_0 5 rfl rfl)
theorem dX3_swapCircle_7 : decode cX3_swapCircle 7 = .ok (.iconst (-1), 1) := dk_2 (dk_at dksX3_swapCircle_0 7 rfl rfl)
theorem dX3_swapCircle_8 : decode cX3_swapCircle 8 = .ok (.if_icmp .eq 24, 3) := dk_159 0 24 (dk_at dksX3_swapCircle_0 8 rfl rfl)
theorem dX3_swapCircle_11 : decode cX3_swapCircle 11 = .ok (.iload 4, 2) := dk_21 4 (dk_at dksX3_swapCircle_0 11 rfl rfl)
theorem dX3_swapCircle_13 : decode cX3_swapCircle 13 = .ok (.iload_n 1, 1) := dk_27 (dk_at dksX3_swapCircle_0 13 rfl rfl)
theorem dX3_swapCircle_14 : decode cX3_swapCircle 14 = .ok (.if_icmp .eq 18, 3) := dk_159 0 18 (dk_at dksX3_swapCircle_0 14 rfl rfl)
theorem dX3_swapCircle_17 : decode cX3_swapCircle 17 = .ok (.aload_n 0, 1) := dk_42 (dk_at dksX3_swapCircle_0 17 rfl rfl)
theorem dX3_swapCircle_18 : decode cX3_swapCircle 18 = .ok (.getfield 32, 3) := dk_180 0 32 (dk_at dksX3_swapCircle_0 18 rfl rfl)
theorem dX3_swapCircle_21 : decode cX3_swapCircle 21 = .ok (.iload 4, 2) := dk_21 4 (dk_at dksX3_swapCircle_0 21 rfl rfl)
theorem dX3_swapCircle_23 : decode cX3_swapCircle 23 = .ok (.iaload, 1) := dk_46 (dk_at dksX3_swapCircle_0 23 rfl rfl)
theorem dX3_swapCircle_24 : decode cX3_swapCircle 24 = .ok (.istore 4, 2) := dk_54 4 (dk_at dksX3_swapCircle_1 0 rfl rfl)
theorem dX3_swapCircle_26 : decode cX3_swapCircle 26 = .ok (.iinc 3 1, 3) := dk_132 3 1 (dk_at dksX3_swapCircle_1 2 rfl rfl)
theorem dX3_swapCircle_29 : decode cX3_swapCircle 29 = .ok (.goto (-24), 3) := dk_167 255 232 (dk_at dksX3_swapCircle_1 5 rfl rfl)
theorem dX3_swapCircle_32 : decode cX3_swapCircle 32 = .ok (.iload 4, 2) := dk_21 4 (dk_at dksX3_swapCircle_1 8 rfl rfl)
theorem dX3_swapCircle_34 : decode cX3_swapCircle 34 = .ok (.iload_n 1, 1) := dk_27 (dk_at dksX3_swapCircle_1 10 rfl rfl)
theorem dX3_swapCircle_35 : decode cX3_swapCircle 35 = .ok (.if_icmp .ne 7, 3) := dk_160 0 7 (dk_at dksX3_swapCircle_1 11 rfl rfl)
theorem dX3_swapCircle_38 : decode cX3_swapCircle 38 = .ok (.iload_n 3, 1) := dk_29 (dk_at dksX3_swapCircle_1 14 rfl rfl)
theorem dX3_swapCircle_39 : decode cX3_swapCircle 39 = .ok (.goto 4, 3) := dk_167 0 4 (dk_at dksX3_swapCircle_1 15 rfl rfl)
theorem dX3_swapCircle_42 : decode cX3_swapCircle 42 = .ok (.iconst 0, 1) := dk_3 (dk_at dksX3_swapCircle_1 18 rfl rfl)
theorem dX3_swapCircle_43 : decode cX3_swapCircle 43 = .ok (.ireturn, 1) := dk_172 (dk_at dksX3_swapCircle_1 19 rfl rfl)
abbrev cX3_countReplaced : ByteArray := prog_2_method_4_code
def yX3_countReplaced : MethodName := ⟨RX3, "countReplaced", "()I"⟩
def dkwX3_countReplaced_1 : List UInt8 := [54, 5, 27, 21, 5, 2, 160, 0, 7, 3, 167, 0, 4, 4, 96, 60, 132, 4, 1, 167, 255, 227, 27, 172]
abbrev dktX3_countReplaced_1 : List UInt8 := dkwX3_countReplaced_1 ++ []
def dkwX3_countReplaced_0 : List UInt8 := [3, 60, 42, 180, 0, 32, 77, 44, 190, 62, 3, 54, 4, 21, 4, 29, 162, 0, 29, 44, 21, 4, 46]
abbrev dktX3_countReplaced_0 : List UInt8 := dkwX3_countReplaced_0 ++ dktX3_countReplaced_1
theorem dksX3_countReplaced_0 : cX3_countReplaced.data.toList.drop 0 = dktX3_countReplaced_0 := by decide +kernel
theorem dksX3_countReplaced_1 : cX3_countReplaced.data.toList.drop 23 = dktX3_countReplaced_1 := dk_seg dksX3_countReplaced_0 23 rfl rfl
theorem dX3_countReplaced_0 : decode cX3_countReplaced 0 = .ok (.iconst 0, 1) := dk_3 (dk_at dksX3_countReplaced_0 0 rfl rfl)
theorem dX3_countReplaced_1 : decode cX3_countReplaced 1 = .ok (.istore_n 1, 1) := dk_60 (dk_at dksX3_countReplaced_0 1 rfl rfl)
theorem dX3_countReplaced_2 : decode cX3_countReplaced 2 = .ok (.aload_n 0, 1) := dk_42 (dk_at dksX3_countReplaced_0 2 rfl rfl)
theorem dX3_countReplaced_3 : decode cX3_countReplaced 3 = .ok (.getfield 32, 3) := dk_180 0 32 (dk_at dksX3_countReplaced_0 3 rfl rfl)
theorem dX3_countReplaced_6 : decode cX3_countReplaced 6 = .ok (.astore_n 2, 1) := dk_77 (dk_at dksX3_countReplaced_0 6 rfl rfl)
theorem dX3_countReplaced_7 : decode cX3_countReplaced 7 = .ok (.aload_n 2, 1) := dk_44 (dk_at dksX3_countReplaced_0 7 rfl rfl)
theorem dX3_countReplaced_8 : decode cX3_countReplaced 8 = .ok (.arraylength, 1) := dk_190 (dk_at dksX3_countReplaced_0 8 rfl rfl)
theorem dX3_countReplaced_9 : decode cX3_countReplaced 9 = .ok (.istore_n 3, 1) := dk_62 (dk_at dksX3_countReplaced_0 9 rfl rfl)
theorem dX3_countReplaced_10 : decode cX3_countReplaced 10 = .ok (.iconst 0, 1) := dk_3 (dk_at dksX3_countReplaced_0 10 rfl rfl)
theorem dX3_countReplaced_11 : decode cX3_countReplaced 11 = .ok (.istore 4, 2) := dk_54 4 (dk_at dksX3_countReplaced_0 11 rfl rfl)
theorem dX3_countReplaced_13 : decode cX3_countReplaced 13 = .ok (.iload 4, 2) := dk_21 4 (dk_at dksX3_countReplaced_0 13 rfl rfl)
theorem dX3_countReplaced_15 : decode cX3_countReplaced 15 = .ok (.iload_n 3, 1) := dk_29 (dk_at dksX3_countReplaced_0 15 rfl rfl)
theorem dX3_countReplaced_16 : decode cX3_countReplaced 16 = .ok (.if_icmp .ge 29, 3) := dk_162 0 29 (dk_at dksX3_countReplaced_0 16 rfl rfl)
theorem dX3_countReplaced_19 : decode cX3_countReplaced 19 = .ok (.aload_n 2, 1) := dk_44 (dk_at dksX3_countReplaced_0 19 rfl rfl)
theorem dX3_countReplaced_20 : decode cX3_countReplaced 20 = .ok (.iload 4, 2) := dk_21 4 (dk_at dksX3_countReplaced_0 20 rfl rfl)
theorem dX3_countReplaced_22 : decode cX3_countReplaced 22 = .ok (.iaload, 1) := dk_46 (dk_at dksX3_countReplaced_0 22 rfl rfl)
theorem dX3_countReplaced_23 : decode cX3_countReplaced 23 = .ok (.istore 5, 2) := dk_54 5 (dk_at dksX3_countReplaced_1 0 rfl rfl)
theorem dX3_countReplaced_25 : decode cX3_countReplaced 25 = .ok (.iload_n 1, 1) := dk_27 (dk_at dksX3_countReplaced_1 2 rfl rfl)
theorem dX3_countReplaced_26 : decode cX3_countReplaced 26 = .ok (.iload 5, 2) := dk_21 5 (dk_at dksX3_countReplaced_1 3 rfl rfl)
theorem dX3_countReplaced_28 : decode cX3_countReplaced 28 = .ok (.iconst (-1), 1) := dk_2 (dk_at dksX3_countReplaced_1 5 rfl rfl)
theorem dX3_countReplaced_29 : decode cX3_countReplaced 29 = .ok (.if_icmp .ne 7, 3) := dk_160 0 7 (dk_at dksX3_countReplaced_1 6 rfl rfl)
theorem dX3_countReplaced_32 : decode cX3_countReplaced 32 = .ok (.iconst 0, 1) := dk_3 (dk_at dksX3_countReplaced_1 9 rfl rfl)
theorem dX3_countReplaced_33 : decode cX3_countReplaced 33 = .ok (.goto 4, 3) := dk_167 0 4 (dk_at dksX3_countReplaced_1 10 rfl rfl)
theorem dX3_countReplaced_36 : decode cX3_countReplaced 36 = .ok (.iconst 1, 1) := dk_4 (dk_at dksX3_countReplaced_1 13 rfl rfl)
theorem dX3_countReplaced_37 : decode cX3_countReplaced 37 = .ok (.iadd, 1) := dk_96 (dk_at dksX3_countReplaced_1 14 rfl rfl)
theorem dX3_countReplaced_38 : decode cX3_countReplaced 38 = .ok (.istore_n 1, 1) := dk_60 (dk_at dksX3_countReplaced_1 15 rfl rfl)
theorem dX3_countReplaced_39 : decode cX3_countReplaced 39 = .ok (.iinc 4 1, 3) := dk_132 4 1 (dk_at dksX3_countReplaced_1 16 rfl rfl)
theorem dX3_countReplaced_42 : decode cX3_countReplaced 42 = .ok (.goto (-29), 3) := dk_167 255 227 (dk_at dksX3_countReplaced_1 19 rfl rfl)
theorem dX3_countReplaced_45 : decode cX3_countReplaced 45 = .ok (.iload_n 1, 1) := dk_27 (dk_at dksX3_countReplaced_1 22 rfl rfl)
theorem dX3_countReplaced_46 : decode cX3_countReplaced 46 = .ok (.ireturn, 1) := dk_172 (dk_at dksX3_countReplaced_1 23 rfl rfl)
abbrev cX3_sumOfMinutes : ByteArray := prog_2_method_5_code
def yX3_sumOfMinutes : MethodName := ⟨RX3, "sumOfMinutes", "()I"⟩
def dkwX3_sumOfMinutes_1 : List UInt8 := [28, 46, 167, 0, 4, 3, 96, 60, 132, 2, 1, 167, 255, 225, 27, 172]
abbrev dktX3_sumOfMinutes_1 : List UInt8 := dkwX3_sumOfMinutes_1 ++ []
def dkwX3_sumOfMinutes_0 : List UInt8 := [3, 60, 3, 61, 28, 16, 8, 162, 0, 31, 27, 42, 180, 0, 9, 28, 51, 153, 0, 12, 42, 180, 0, 19]
abbrev dktX3_sumOfMinutes_0 : List UInt8 := dkwX3_sumOfMinutes_0 ++ dktX3_sumOfMinutes_1
theorem dksX3_sumOfMinutes_0 : cX3_sumOfMinutes.data.toList.drop 0 = dktX3_sumOfMinutes_0 := by decide +kernel
theorem dksX3_sumOfMinutes_1 : cX3_sumOfMinutes.data.toList.drop 24 = dktX3_sumOfMinutes_1 := dk_seg dksX3_sumOfMinutes_0 24 rfl rfl
theorem dX3_sumOfMinutes_0 : decode cX3_sumOfMinutes 0 = .ok (.iconst 0, 1) := dk_3 (dk_at dksX3_sumOfMinutes_0 0 rfl rfl)
theorem dX3_sumOfMinutes_1 : decode cX3_sumOfMinutes 1 = .ok (.istore_n 1, 1) := dk_60 (dk_at dksX3_sumOfMinutes_0 1 rfl rfl)
theorem dX3_sumOfMinutes_2 : decode cX3_sumOfMinutes 2 = .ok (.iconst 0, 1) := dk_3 (dk_at dksX3_sumOfMinutes_0 2 rfl rfl)
theorem dX3_sumOfMinutes_3 : decode cX3_sumOfMinutes 3 = .ok (.istore_n 2, 1) := dk_61 (dk_at dksX3_sumOfMinutes_0 3 rfl rfl)
theorem dX3_sumOfMinutes_4 : decode cX3_sumOfMinutes 4 = .ok (.iload_n 2, 1) := dk_28 (dk_at dksX3_sumOfMinutes_0 4 rfl rfl)
theorem dX3_sumOfMinutes_5 : decode cX3_sumOfMinutes 5 = .ok (.bipush 8, 2) := dk_16 8 (dk_at dksX3_sumOfMinutes_0 5 rfl rfl)
theorem dX3_sumOfMinutes_7 : decode cX3_sumOfMinutes 7 = .ok (.if_icmp .ge 31, 3) := dk_162 0 31 (dk_at dksX3_sumOfMinutes_0 7 rfl rfl)
theorem dX3_sumOfMinutes_10 : decode cX3_sumOfMinutes 10 = .ok (.iload_n 1, 1) := dk_27 (dk_at dksX3_sumOfMinutes_0 10 rfl rfl)
theorem dX3_sumOfMinutes_11 : decode cX3_sumOfMinutes 11 = .ok (.aload_n 0, 1) := dk_42 (dk_at dksX3_sumOfMinutes_0 11 rfl rfl)
theorem dX3_sumOfMinutes_12 : decode cX3_sumOfMinutes 12 = .ok (.getfield 9, 3) := dk_180 0 9 (dk_at dksX3_sumOfMinutes_0 12 rfl rfl)
theorem dX3_sumOfMinutes_15 : decode cX3_sumOfMinutes 15 = .ok (.iload_n 2, 1) := dk_28 (dk_at dksX3_sumOfMinutes_0 15 rfl rfl)
theorem dX3_sumOfMinutes_16 : decode cX3_sumOfMinutes 16 = .ok (.baload, 1) := dk_51 (dk_at dksX3_sumOfMinutes_0 16 rfl rfl)
theorem dX3_sumOfMinutes_17 : decode cX3_sumOfMinutes 17 = .ok (.ifCond .eq 12, 3) := dk_153 0 12 (dk_at dksX3_sumOfMinutes_0 17 rfl rfl)
theorem dX3_sumOfMinutes_20 : decode cX3_sumOfMinutes 20 = .ok (.aload_n 0, 1) := dk_42 (dk_at dksX3_sumOfMinutes_0 20 rfl rfl)
theorem dX3_sumOfMinutes_21 : decode cX3_sumOfMinutes 21 = .ok (.getfield 19, 3) := dk_180 0 19 (dk_at dksX3_sumOfMinutes_0 21 rfl rfl)
theorem dX3_sumOfMinutes_24 : decode cX3_sumOfMinutes 24 = .ok (.iload_n 2, 1) := dk_28 (dk_at dksX3_sumOfMinutes_1 0 rfl rfl)
theorem dX3_sumOfMinutes_25 : decode cX3_sumOfMinutes 25 = .ok (.iaload, 1) := dk_46 (dk_at dksX3_sumOfMinutes_1 1 rfl rfl)
theorem dX3_sumOfMinutes_26 : decode cX3_sumOfMinutes 26 = .ok (.goto 4, 3) := dk_167 0 4 (dk_at dksX3_sumOfMinutes_1 2 rfl rfl)
theorem dX3_sumOfMinutes_29 : decode cX3_sumOfMinutes 29 = .ok (.iconst 0, 1) := dk_3 (dk_at dksX3_sumOfMinutes_1 5 rfl rfl)
theorem dX3_sumOfMinutes_30 : decode cX3_sumOfMinutes 30 = .ok (.iadd, 1) := dk_96 (dk_at dksX3_sumOfMinutes_1 6 rfl rfl)
theorem dX3_sumOfMinutes_31 : decode cX3_sumOfMinutes 31 = .ok (.istore_n 1, 1) := dk_60 (dk_at dksX3_sumOfMinutes_1 7 rfl rfl)
theorem dX3_sumOfMinutes_32 : decode cX3_sumOfMinutes 32 = .ok (.iinc 2 1, 3) := dk_132 2 1 (dk_at dksX3_sumOfMinutes_1 8 rfl rfl)
theorem dX3_sumOfMinutes_35 : decode cX3_sumOfMinutes 35 = .ok (.goto (-31), 3) := dk_167 255 225 (dk_at dksX3_sumOfMinutes_1 11 rfl rfl)
theorem dX3_sumOfMinutes_38 : decode cX3_sumOfMinutes 38 = .ok (.iload_n 1, 1) := dk_27 (dk_at dksX3_sumOfMinutes_1 14 rfl rfl)
theorem dX3_sumOfMinutes_39 : decode cX3_sumOfMinutes 39 = .ok (.ireturn, 1) := dk_172 (dk_at dksX3_sumOfMinutes_1 15 rfl rfl)
abbrev cX3_write : ByteArray := prog_2_method_27_code
def yX3_write : MethodName := ⟨RX3, "write", "(Ljava/lang/StringBuilder;I)V"⟩
def dkwX3_write_4 : List UInt8 := [182, 0, 134, 42, 180, 0, 32, 28, 46, 184, 0, 130, 182, 0, 134, 87, 177]
abbrev dktX3_write_4 : List UInt8 := dkwX3_write_4 ++ []
def dkwX3_write_3 : List UInt8 := [182, 0, 134, 87, 132, 3, 1, 167, 255, 210, 42, 180, 0, 32, 28, 46, 2, 159, 0, 22, 43, 16, 62]
abbrev dktX3_write_3 : List UInt8 := dkwX3_write_3 ++ dktX3_write_4
def dkwX3_write_2 : List UInt8 := [153, 0, 8, 18, 143, 167, 0, 5, 18, 145, 182, 0, 147, 42, 28, 29, 182, 0, 45, 184, 0, 130]
abbrev dktX3_write_2 : List UInt8 := dkwX3_write_2 ++ dktX3_write_3
def dkwX3_write_1 : List UInt8 := [182, 0, 140, 87, 3, 62, 29, 42, 180, 0, 23, 28, 46, 162, 0, 42, 43, 42, 28, 29, 182, 0, 52]
abbrev dktX3_write_1 : List UInt8 := dkwX3_write_1 ++ dktX3_write_2
def dkwX3_write_0 : List UInt8 := [43, 28, 184, 0, 130, 182, 0, 134, 42, 180, 0, 15, 28, 52, 182, 0, 134, 42, 180, 0, 19, 28, 46]
abbrev dktX3_write_0 : List UInt8 := dkwX3_write_0 ++ dktX3_write_1
theorem dksX3_write_0 : cX3_write.data.toList.drop 0 = dktX3_write_0 := by decide +kernel
theorem dksX3_write_1 : cX3_write.data.toList.drop 23 = dktX3_write_1 := dk_seg dksX3_write_0 23 rfl rfl
theorem dksX3_write_2 : cX3_write.data.toList.drop 46 = dktX3_write_2 := dk_seg dksX3_write_1 23 rfl rfl
theorem dksX3_write_3 : cX3_write.data.toList.drop 68 = dktX3_write_3 := dk_seg dksX3_write_2 22 rfl rfl
theorem dksX3_write_4 : cX3_write.data.toList.drop 91 = dktX3_write_4 := dk_seg dksX3_write_3 23 rfl rfl
theorem dX3_write_0 : decode cX3_write 0 = .ok (.aload_n 1, 1) := dk_43 (dk_at dksX3_write_0 0 rfl rfl)
theorem dX3_write_1 : decode cX3_write 1 = .ok (.iload_n 2, 1) := dk_28 (dk_at dksX3_write_0 1 rfl rfl)
theorem dX3_write_2 : decode cX3_write 2 = .ok (.invokestatic 130, 3) := dk_184 0 130 (dk_at dksX3_write_0 2 rfl rfl)
theorem dX3_write_5 : decode cX3_write 5 = .ok (.invokevirtual 134, 3) := dk_182 0 134 (dk_at dksX3_write_0 5 rfl rfl)
theorem dX3_write_8 : decode cX3_write 8 = .ok (.aload_n 0, 1) := dk_42 (dk_at dksX3_write_0 8 rfl rfl)
theorem dX3_write_9 : decode cX3_write 9 = .ok (.getfield 15, 3) := dk_180 0 15 (dk_at dksX3_write_0 9 rfl rfl)
theorem dX3_write_12 : decode cX3_write 12 = .ok (.iload_n 2, 1) := dk_28 (dk_at dksX3_write_0 12 rfl rfl)
theorem dX3_write_13 : decode cX3_write 13 = .ok (.caload, 1) := dk_52 (dk_at dksX3_write_0 13 rfl rfl)
theorem dX3_write_14 : decode cX3_write 14 = .ok (.invokevirtual 134, 3) := dk_182 0 134 (dk_at dksX3_write_0 14 rfl rfl)
theorem dX3_write_17 : decode cX3_write 17 = .ok (.aload_n 0, 1) := dk_42 (dk_at dksX3_write_0 17 rfl rfl)
theorem dX3_write_18 : decode cX3_write 18 = .ok (.getfield 19, 3) := dk_180 0 19 (dk_at dksX3_write_0 18 rfl rfl)
theorem dX3_write_21 : decode cX3_write 21 = .ok (.iload_n 2, 1) := dk_28 (dk_at dksX3_write_0 21 rfl rfl)
theorem dX3_write_22 : decode cX3_write 22 = .ok (.iaload, 1) := dk_46 (dk_at dksX3_write_0 22 rfl rfl)
theorem dX3_write_23 : decode cX3_write 23 = .ok (.invokevirtual 140, 3) := dk_182 0 140 (dk_at dksX3_write_1 0 rfl rfl)
theorem dX3_write_26 : decode cX3_write 26 = .ok (.pop, 1) := dk_87 (dk_at dksX3_write_1 3 rfl rfl)
theorem dX3_write_27 : decode cX3_write 27 = .ok (.iconst 0, 1) := dk_3 (dk_at dksX3_write_1 4 rfl rfl)
theorem dX3_write_28 : decode cX3_write 28 = .ok (.istore_n 3, 1) := dk_62 (dk_at dksX3_write_1 5 rfl rfl)
theorem dX3_write_29 : decode cX3_write 29 = .ok (.iload_n 3, 1) := dk_29 (dk_at dksX3_write_1 6 rfl rfl)
theorem dX3_write_30 : decode cX3_write 30 = .ok (.aload_n 0, 1) := dk_42 (dk_at dksX3_write_1 7 rfl rfl)
theorem dX3_write_31 : decode cX3_write 31 = .ok (.getfield 23, 3) := dk_180 0 23 (dk_at dksX3_write_1 8 rfl rfl)
theorem dX3_write_34 : decode cX3_write 34 = .ok (.iload_n 2, 1) := dk_28 (dk_at dksX3_write_1 11 rfl rfl)
theorem dX3_write_35 : decode cX3_write 35 = .ok (.iaload, 1) := dk_46 (dk_at dksX3_write_1 12 rfl rfl)
theorem dX3_write_36 : decode cX3_write 36 = .ok (.if_icmp .ge 42, 3) := dk_162 0 42 (dk_at dksX3_write_1 13 rfl rfl)
theorem dX3_write_39 : decode cX3_write 39 = .ok (.aload_n 1, 1) := dk_43 (dk_at dksX3_write_1 16 rfl rfl)
theorem dX3_write_40 : decode cX3_write 40 = .ok (.aload_n 0, 1) := dk_42 (dk_at dksX3_write_1 17 rfl rfl)
theorem dX3_write_41 : decode cX3_write 41 = .ok (.iload_n 2, 1) := dk_28 (dk_at dksX3_write_1 18 rfl rfl)
theorem dX3_write_42 : decode cX3_write 42 = .ok (.iload_n 3, 1) := dk_29 (dk_at dksX3_write_1 19 rfl rfl)
theorem dX3_write_43 : decode cX3_write 43 = .ok (.invokevirtual 52, 3) := dk_182 0 52 (dk_at dksX3_write_1 20 rfl rfl)
theorem dX3_write_46 : decode cX3_write 46 = .ok (.ifCond .eq 8, 3) := dk_153 0 8 (dk_at dksX3_write_2 0 rfl rfl)
theorem dX3_write_49 : decode cX3_write 49 = .ok (.ldc 143, 2) := dk_18 143 (dk_at dksX3_write_2 3 rfl rfl)
theorem dX3_write_51 : decode cX3_write 51 = .ok (.goto 5, 3) := dk_167 0 5 (dk_at dksX3_write_2 5 rfl rfl)
theorem dX3_write_54 : decode cX3_write 54 = .ok (.ldc 145, 2) := dk_18 145 (dk_at dksX3_write_2 8 rfl rfl)
theorem dX3_write_56 : decode cX3_write 56 = .ok (.invokevirtual 147, 3) := dk_182 0 147 (dk_at dksX3_write_2 10 rfl rfl)
theorem dX3_write_59 : decode cX3_write 59 = .ok (.aload_n 0, 1) := dk_42 (dk_at dksX3_write_2 13 rfl rfl)
theorem dX3_write_60 : decode cX3_write 60 = .ok (.iload_n 2, 1) := dk_28 (dk_at dksX3_write_2 14 rfl rfl)
theorem dX3_write_61 : decode cX3_write 61 = .ok (.iload_n 3, 1) := dk_29 (dk_at dksX3_write_2 15 rfl rfl)
theorem dX3_write_62 : decode cX3_write 62 = .ok (.invokevirtual 45, 3) := dk_182 0 45 (dk_at dksX3_write_2 16 rfl rfl)
theorem dX3_write_65 : decode cX3_write 65 = .ok (.invokestatic 130, 3) := dk_184 0 130 (dk_at dksX3_write_2 19 rfl rfl)
theorem dX3_write_68 : decode cX3_write 68 = .ok (.invokevirtual 134, 3) := dk_182 0 134 (dk_at dksX3_write_3 0 rfl rfl)
theorem dX3_write_71 : decode cX3_write 71 = .ok (.pop, 1) := dk_87 (dk_at dksX3_write_3 3 rfl rfl)
theorem dX3_write_72 : decode cX3_write 72 = .ok (.iinc 3 1, 3) := dk_132 3 1 (dk_at dksX3_write_3 4 rfl rfl)
theorem dX3_write_75 : decode cX3_write 75 = .ok (.goto (-46), 3) := dk_167 255 210 (dk_at dksX3_write_3 7 rfl rfl)
theorem dX3_write_78 : decode cX3_write 78 = .ok (.aload_n 0, 1) := dk_42 (dk_at dksX3_write_3 10 rfl rfl)
theorem dX3_write_79 : decode cX3_write 79 = .ok (.getfield 32, 3) := dk_180 0 32 (dk_at dksX3_write_3 11 rfl rfl)
theorem dX3_write_82 : decode cX3_write 82 = .ok (.iload_n 2, 1) := dk_28 (dk_at dksX3_write_3 14 rfl rfl)
theorem dX3_write_83 : decode cX3_write 83 = .ok (.iaload, 1) := dk_46 (dk_at dksX3_write_3 15 rfl rfl)
theorem dX3_write_84 : decode cX3_write 84 = .ok (.iconst (-1), 1) := dk_2 (dk_at dksX3_write_3 16 rfl rfl)
theorem dX3_write_85 : decode cX3_write 85 = .ok (.if_icmp .eq 22, 3) := dk_159 0 22 (dk_at dksX3_write_3 17 rfl rfl)
theorem dX3_write_88 : decode cX3_write 88 = .ok (.aload_n 1, 1) := dk_43 (dk_at dksX3_write_3 20 rfl rfl)
theorem dX3_write_89 : decode cX3_write 89 = .ok (.bipush 62, 2) := dk_16 62 (dk_at dksX3_write_3 21 rfl rfl)
theorem dX3_write_91 : decode cX3_write 91 = .ok (.invokevirtual 134, 3) := dk_182 0 134 (dk_at dksX3_write_4 0 rfl rfl)
theorem dX3_write_94 : decode cX3_write 94 = .ok (.aload_n 0, 1) := dk_42 (dk_at dksX3_write_4 3 rfl rfl)
theorem dX3_write_95 : decode cX3_write 95 = .ok (.getfield 32, 3) := dk_180 0 32 (dk_at dksX3_write_4 4 rfl rfl)
theorem dX3_write_98 : decode cX3_write 98 = .ok (.iload_n 2, 1) := dk_28 (dk_at dksX3_write_4 7 rfl rfl)
theorem dX3_write_99 : decode cX3_write 99 = .ok (.iaload, 1) := dk_46 (dk_at dksX3_write_4 8 rfl rfl)
theorem dX3_write_100 : decode cX3_write 100 = .ok (.invokestatic 130, 3) := dk_184 0 130 (dk_at dksX3_write_4 9 rfl rfl)
theorem dX3_write_103 : decode cX3_write 103 = .ok (.invokevirtual 134, 3) := dk_182 0 134 (dk_at dksX3_write_4 12 rfl rfl)
theorem dX3_write_106 : decode cX3_write 106 = .ok (.pop, 1) := dk_87 (dk_at dksX3_write_4 15 rfl rfl)
theorem dX3_write_107 : decode cX3_write 107 = .ok (.return_, 1) := dk_177 (dk_at dksX3_write_4 16 rfl rfl)
theorem q96 : (Jvm.Cond.initialized "ClockworkTailor$Book") ∈ lw_all := lw_g (lw_at lw_m1 3 rfl) rfl
theorem q147 : (Jvm.Cond.instantiable "ClockworkTailor$Book" (7 : Nat)) ∈ lw_all := lw_g (lw_at lw_m1 54 rfl) rfl
theorem q149 : (Jvm.Cond.instanceMethod ({ cls := "ClockworkTailor$Book", name := "<init>", desc := "()V" } : Jvm.MethodName)) ∈ lw_all := lw_g (lw_at lw_m1 56 rfl) rfl
theorem q150 : (Jvm.Cond.code ({ cls := "ClockworkTailor$Book", name := "<init>", desc := "()V" } : Jvm.MethodName) prog_2_method_1_code (2 : Nat) (Option.none : Option Jvm.ClassFile.FieldType)) ∈ lw_all := lw_g (lw_at lw_m1 57 rfl) rfl
theorem q151 : (Jvm.Cond.methodLink "ClockworkTailor$Book" (3 : Nat) ({ cls := "java/lang/Object", name := "<init>", desc := "()V" } : Jvm.MethodName)) ∈ lw_all := lw_g (lw_at lw_m1 58 rfl) rfl
theorem q152 : (Jvm.Cond.fieldLink "ClockworkTailor$Book" (9 : Nat) "ClockworkTailor$Book" "has" "[Z") ∈ lw_all := lw_g (lw_at lw_m1 59 rfl) rfl
theorem q156 : (Jvm.Cond.fieldLink "ClockworkTailor$Book" (15 : Nat) "ClockworkTailor$Book" "scopes" "[C") ∈ lw_all := lw_g (lw_at lw_m1 63 rfl) rfl
theorem q160 : (Jvm.Cond.fieldLink "ClockworkTailor$Book" (19 : Nat) "ClockworkTailor$Book" "minutes" "[I") ∈ lw_all := lw_g (lw_at lw_m1 67 rfl) rfl
theorem q162 : (Jvm.Cond.fieldLink "ClockworkTailor$Book" (23 : Nat) "ClockworkTailor$Book" "counts" "[I") ∈ lw_all := lw_g (lw_at lw_m1 69 rfl) rfl
theorem q166 : (Jvm.Cond.fieldLink "ClockworkTailor$Book" (26 : Nat) "ClockworkTailor$Book" "needs" "[I") ∈ lw_all := lw_g (lw_at lw_m1 73 rfl) rfl
theorem q167 : (Jvm.Cond.fieldLink "ClockworkTailor$Book" (29 : Nat) "ClockworkTailor$Book" "areLazy" "[Z") ∈ lw_all := lw_g (lw_at lw_m1 74 rfl) rfl
theorem q168 : (Jvm.Cond.fieldLink "ClockworkTailor$Book" (32 : Nat) "ClockworkTailor$Book" "replacing" "[I") ∈ lw_all := lw_g (lw_at lw_m1 75 rfl) rfl
theorem q170 : (Jvm.Cond.laysFinal "ClockworkTailor$Book" "ClockworkTailor$Book" "has" "[Z") ∈ lw_all := lw_g (lw_at lw_m1 77 rfl) rfl
theorem q171 : (Jvm.Cond.soleField "ClockworkTailor$Book" "has") ∈ lw_all := lw_g (lw_at lw_m1 78 rfl) rfl
theorem q172 : (Jvm.Cond.laysFinal "ClockworkTailor$Book" "ClockworkTailor$Book" "scopes" "[C") ∈ lw_all := lw_g (lw_at lw_m1 79 rfl) rfl
theorem q173 : (Jvm.Cond.soleField "ClockworkTailor$Book" "scopes") ∈ lw_all := lw_g (lw_at lw_m1 80 rfl) rfl
theorem q174 : (Jvm.Cond.laysFinal "ClockworkTailor$Book" "ClockworkTailor$Book" "minutes" "[I") ∈ lw_all := lw_g (lw_at lw_m1 81 rfl) rfl
theorem q175 : (Jvm.Cond.soleField "ClockworkTailor$Book" "minutes") ∈ lw_all := lw_g (lw_at lw_m1 82 rfl) rfl
theorem q176 : (Jvm.Cond.laysFinal "ClockworkTailor$Book" "ClockworkTailor$Book" "counts" "[I") ∈ lw_all := lw_g (lw_at lw_m1 83 rfl) rfl
theorem q177 : (Jvm.Cond.soleField "ClockworkTailor$Book" "counts") ∈ lw_all := lw_g (lw_at lw_m1 84 rfl) rfl
theorem q178 : (Jvm.Cond.laysFinal "ClockworkTailor$Book" "ClockworkTailor$Book" "needs" "[I") ∈ lw_all := lw_g (lw_at lw_m1 85 rfl) rfl
theorem q179 : (Jvm.Cond.soleField "ClockworkTailor$Book" "needs") ∈ lw_all := lw_g (lw_at lw_m1 86 rfl) rfl
theorem q180 : (Jvm.Cond.laysFinal "ClockworkTailor$Book" "ClockworkTailor$Book" "areLazy" "[Z") ∈ lw_all := lw_g (lw_at lw_m1 87 rfl) rfl
theorem q181 : (Jvm.Cond.soleField "ClockworkTailor$Book" "areLazy") ∈ lw_all := lw_g (lw_at lw_m1 88 rfl) rfl
theorem q182 : (Jvm.Cond.laysFinal "ClockworkTailor$Book" "ClockworkTailor$Book" "replacing" "[I") ∈ lw_all := lw_g (lw_at lw_m1 89 rfl) rfl
theorem q183 : (Jvm.Cond.soleField "ClockworkTailor$Book" "replacing") ∈ lw_all := lw_g (lw_at lw_m1 90 rfl) rfl
theorem q184 : (Jvm.Cond.superclass "ClockworkTailor$Book" "java/lang/Object") ∈ lw_all := lw_g (lw_at lw_m1 91 rfl) rfl
theorem q437 : (Jvm.Cond.selects "ClockworkTailor$Book" ({ cls := "java/lang/Object", name := "getClass", desc := "()Ljava/lang/Class;" } : Jvm.MethodName) ({ cls := "java/lang/Object", name := "getClass", desc := "()Ljava/lang/Class;" } : Jvm.MethodName)) ∈ lw_all := lw_g (lw_at lw_m2 104 rfl) rfl
theorem q515 : (Jvm.Cond.instanceMethod ({ cls := "ClockworkTailor$Book", name := "count", desc := "()I" } : Jvm.MethodName)) ∈ lw_all := lw_g (lw_at lw_m2 182 rfl) rfl
theorem q516 : (Jvm.Cond.selects "ClockworkTailor$Book" ({ cls := "ClockworkTailor$Book", name := "count", desc := "()I" } : Jvm.MethodName) ({ cls := "ClockworkTailor$Book", name := "count", desc := "()I" } : Jvm.MethodName)) ∈ lw_all := lw_g (lw_at lw_m2 183 rfl) rfl
theorem q517 : (Jvm.Cond.code ({ cls := "ClockworkTailor$Book", name := "count", desc := "()I" } : Jvm.MethodName) prog_2_method_3_code (6 : Nat) (Option.some Jvm.ClassFile.FieldType.int)) ∈ lw_all := lw_g (lw_at lw_m2 184 rfl) rfl
theorem q523 : (Jvm.Cond.instanceMethod ({ cls := "ClockworkTailor$Book", name := "inCircles", desc := "()I" } : Jvm.MethodName)) ∈ lw_all := lw_g (lw_at lw_m2 190 rfl) rfl
theorem q524 : (Jvm.Cond.selects "ClockworkTailor$Book" ({ cls := "ClockworkTailor$Book", name := "inCircles", desc := "()I" } : Jvm.MethodName) ({ cls := "ClockworkTailor$Book", name := "inCircles", desc := "()I" } : Jvm.MethodName)) ∈ lw_all := lw_g (lw_at lw_m2 191 rfl) rfl
theorem q525 : (Jvm.Cond.code ({ cls := "ClockworkTailor$Book", name := "inCircles", desc := "()I" } : Jvm.MethodName) prog_2_method_22_code (3 : Nat) (Option.some Jvm.ClassFile.FieldType.int)) ∈ lw_all := lw_g (lw_at lw_m2 192 rfl) rfl
theorem q526 : (Jvm.Cond.methodLink "ClockworkTailor$Book" (105 : Nat) ({ cls := "ClockworkTailor$Book", name := "anyWay", desc := "()LClockworkTailor$Way;" } : Jvm.MethodName)) ∈ lw_all := lw_g (lw_at lw_m2 193 rfl) rfl
theorem q527 : (Jvm.Cond.instanceMethod ({ cls := "ClockworkTailor$Book", name := "anyWay", desc := "()LClockworkTailor$Way;" } : Jvm.MethodName)) ∈ lw_all := lw_g (lw_at lw_m2 194 rfl) rfl
theorem q528 : (Jvm.Cond.selects "ClockworkTailor$Book" ({ cls := "ClockworkTailor$Book", name := "anyWay", desc := "()LClockworkTailor$Way;" } : Jvm.MethodName) ({ cls := "ClockworkTailor$Book", name := "anyWay", desc := "()LClockworkTailor$Way;" } : Jvm.MethodName)) ∈ lw_all := lw_g (lw_at lw_m2 195 rfl) rfl
theorem q529 : (Jvm.Cond.code ({ cls := "ClockworkTailor$Book", name := "anyWay", desc := "()LClockworkTailor$Way;" } : Jvm.MethodName) prog_2_method_16_code (1 : Nat) (Option.some (Jvm.ClassFile.FieldType.object "ClockworkTailor$Way"))) ∈ lw_all := lw_g (lw_at lw_m2 196 rfl) rfl
theorem q530 : (Jvm.Cond.privateMethod ({ cls := "ClockworkTailor$Book", name := "lambda$anyWay$1", desc := "(II)Z" } : Jvm.MethodName)) ∈ lw_tbl := lw_at lw_m2 197 rfl
theorem q531 : (Jvm.Cond.instanceMethod ({ cls := "ClockworkTailor$Book", name := "lambda$anyWay$1", desc := "(II)Z" } : Jvm.MethodName)) ∈ lw_all := lw_g (lw_at lw_m2 198 rfl) rfl
theorem q532 : (Jvm.Cond.code ({ cls := "ClockworkTailor$Book", name := "lambda$anyWay$1", desc := "(II)Z" } : Jvm.MethodName) prog_2_method_28_code (3 : Nat) (Option.some Jvm.ClassFile.FieldType.boolean)) ∈ lw_all := lw_g (lw_at lw_m2 199 rfl) rfl
theorem q533 : (Jvm.Cond.methodLink "ClockworkTailor$Book" (150 : Nat) ({ cls := "ClockworkTailor$Book", name := "leads", desc := "(IIZ)Z" } : Jvm.MethodName)) ∈ lw_all := lw_g (lw_at lw_m2 200 rfl) rfl
theorem q534 : (Jvm.Cond.privateMethod ({ cls := "ClockworkTailor$Book", name := "leads", desc := "(IIZ)Z" } : Jvm.MethodName)) ∈ lw_tbl := lw_at lw_m2 201 rfl
theorem q535 : (Jvm.Cond.instanceMethod ({ cls := "ClockworkTailor$Book", name := "leads", desc := "(IIZ)Z" } : Jvm.MethodName)) ∈ lw_all := lw_g (lw_at lw_m2 202 rfl) rfl
theorem q536 : (Jvm.Cond.code ({ cls := "ClockworkTailor$Book", name := "leads", desc := "(IIZ)Z" } : Jvm.MethodName) prog_2_method_14_code (5 : Nat) (Option.some Jvm.ClassFile.FieldType.boolean)) ∈ lw_all := lw_g (lw_at lw_m2 203 rfl) rfl
theorem q537 : (Jvm.Cond.methodLink "ClockworkTailor$Book" (41 : Nat) ({ cls := "ClockworkTailor$Book", name := "needCount", desc := "(I)I" } : Jvm.MethodName)) ∈ lw_all := lw_g (lw_at lw_m2 204 rfl) rfl
theorem q538 : (Jvm.Cond.instanceMethod ({ cls := "ClockworkTailor$Book", name := "needCount", desc := "(I)I" } : Jvm.MethodName)) ∈ lw_all := lw_g (lw_at lw_m2 205 rfl) rfl
theorem q539 : (Jvm.Cond.selects "ClockworkTailor$Book" ({ cls := "ClockworkTailor$Book", name := "needCount", desc := "(I)I" } : Jvm.MethodName) ({ cls := "ClockworkTailor$Book", name := "needCount", desc := "(I)I" } : Jvm.MethodName)) ∈ lw_all := lw_g (lw_at lw_m2 206 rfl) rfl
theorem q540 : (Jvm.Cond.code ({ cls := "ClockworkTailor$Book", name := "needCount", desc := "(I)I" } : Jvm.MethodName) prog_2_method_8_code (2 : Nat) (Option.some Jvm.ClassFile.FieldType.int)) ∈ lw_all := lw_g (lw_at lw_m2 207 rfl) rfl
theorem q541 : (Jvm.Cond.methodLink "ClockworkTailor$Book" (45 : Nat) ({ cls := "ClockworkTailor$Book", name := "need", desc := "(II)I" } : Jvm.MethodName)) ∈ lw_all := lw_g (lw_at lw_m2 208 rfl) rfl
theorem q542 : (Jvm.Cond.instanceMethod ({ cls := "ClockworkTailor$Book", name := "need", desc := "(II)I" } : Jvm.MethodName)) ∈ lw_all := lw_g (lw_at lw_m2 209 rfl) rfl
theorem q543 : (Jvm.Cond.selects "ClockworkTailor$Book" ({ cls := "ClockworkTailor$Book", name := "need", desc := "(II)I" } : Jvm.MethodName) ({ cls := "ClockworkTailor$Book", name := "need", desc := "(II)I" } : Jvm.MethodName)) ∈ lw_all := lw_g (lw_at lw_m2 210 rfl) rfl
theorem q544 : (Jvm.Cond.code ({ cls := "ClockworkTailor$Book", name := "need", desc := "(II)I" } : Jvm.MethodName) prog_2_method_6_code (3 : Nat) (Option.some Jvm.ClassFile.FieldType.int)) ∈ lw_all := lw_g (lw_at lw_m2 211 rfl) rfl
theorem q545 : (Jvm.Cond.methodLink "ClockworkTailor$Book" (49 : Nat) ({ cls := "ClockworkTailor$Book", name := "standIn", desc := "(I)I" } : Jvm.MethodName)) ∈ lw_all := lw_g (lw_at lw_m2 212 rfl) rfl
theorem q546 : (Jvm.Cond.instanceMethod ({ cls := "ClockworkTailor$Book", name := "standIn", desc := "(I)I" } : Jvm.MethodName)) ∈ lw_all := lw_g (lw_at lw_m2 213 rfl) rfl
theorem q547 : (Jvm.Cond.selects "ClockworkTailor$Book" ({ cls := "ClockworkTailor$Book", name := "standIn", desc := "(I)I" } : Jvm.MethodName) ({ cls := "ClockworkTailor$Book", name := "standIn", desc := "(I)I" } : Jvm.MethodName)) ∈ lw_all := lw_g (lw_at lw_m2 214 rfl) rfl
theorem q548 : (Jvm.Cond.code ({ cls := "ClockworkTailor$Book", name := "standIn", desc := "(I)I" } : Jvm.MethodName) prog_2_method_12_code (3 : Nat) (Option.some Jvm.ClassFile.FieldType.int)) ∈ lw_all := lw_g (lw_at lw_m2 215 rfl) rfl
theorem q549 : (Jvm.Cond.methodLink "ClockworkTailor$Book" (52 : Nat) ({ cls := "ClockworkTailor$Book", name := "isLazy", desc := "(II)Z" } : Jvm.MethodName)) ∈ lw_all := lw_g (lw_at lw_m2 216 rfl) rfl
theorem q550 : (Jvm.Cond.instanceMethod ({ cls := "ClockworkTailor$Book", name := "isLazy", desc := "(II)Z" } : Jvm.MethodName)) ∈ lw_all := lw_g (lw_at lw_m2 217 rfl) rfl
theorem q551 : (Jvm.Cond.selects "ClockworkTailor$Book" ({ cls := "ClockworkTailor$Book", name := "isLazy", desc := "(II)Z" } : Jvm.MethodName) ({ cls := "ClockworkTailor$Book", name := "isLazy", desc := "(II)Z" } : Jvm.MethodName)) ∈ lw_all := lw_g (lw_at lw_m2 218 rfl) rfl
theorem q552 : (Jvm.Cond.code ({ cls := "ClockworkTailor$Book", name := "isLazy", desc := "(II)Z" } : Jvm.MethodName) prog_2_method_7_code (3 : Nat) (Option.some Jvm.ClassFile.FieldType.boolean)) ∈ lw_all := lw_g (lw_at lw_m2 219 rfl) rfl
theorem q553 : (Jvm.Cond.methodLink "ClockworkTailor$Book" (94 : Nat) ({ cls := "ClockworkTailor$Book", name := "steps", desc := "(ILClockworkTailor$Way;)[I" } : Jvm.MethodName)) ∈ lw_all := lw_g (lw_at lw_m2 220 rfl) rfl
theorem q554 : (Jvm.Cond.static ({ cls := "ClockworkTailor$Book", name := "steps", desc := "(ILClockworkTailor$Way;)[I" } : Jvm.MethodName)) ∈ lw_all := lw_g (lw_at lw_m2 221 rfl) rfl
theorem q555 : (Jvm.Cond.code ({ cls := "ClockworkTailor$Book", name := "steps", desc := "(ILClockworkTailor$Way;)[I" } : Jvm.MethodName) prog_2_method_17_code (7 : Nat) (Option.some (Jvm.ClassFile.FieldType.array Jvm.ClassFile.FieldType.int))) ∈ lw_all := lw_g (lw_at lw_m2 222 rfl) rfl
theorem q556 : (Jvm.Cond.classLink "ClockworkTailor$Book" (61 : Nat) "java/util/ArrayDeque") ∈ lw_all := lw_g (lw_at lw_m2 223 rfl) rfl
theorem q557 : (Jvm.Cond.methodLink "ClockworkTailor$Book" (63 : Nat) ({ cls := "java/util/ArrayDeque", name := "<init>", desc := "()V" } : Jvm.MethodName)) ∈ lw_all := lw_g (lw_at lw_m2 224 rfl) rfl
theorem q558 : (Jvm.Cond.methodLink "ClockworkTailor$Book" (64 : Nat) ({ cls := "java/lang/Integer", name := "valueOf", desc := "(I)Ljava/lang/Integer;" } : Jvm.MethodName)) ∈ lw_all := lw_g (lw_at lw_m2 225 rfl) rfl
theorem q578 : (Jvm.Cond.methodLink "ClockworkTailor$Book" (70 : Nat) ({ cls := "java/util/ArrayDeque", name := "addLast", desc := "(Ljava/lang/Object;)V" } : Jvm.MethodName)) ∈ lw_all := lw_g (lw_at lw_m3 5 rfl) rfl
theorem q579 : (Jvm.Cond.methodLink "ClockworkTailor$Book" (74 : Nat) ({ cls := "java/util/ArrayDeque", name := "isEmpty", desc := "()Z" } : Jvm.MethodName)) ∈ lw_all := lw_g (lw_at lw_m3 6 rfl) rfl
theorem q583 : (Jvm.Cond.methodLink "ClockworkTailor$Book" (78 : Nat) ({ cls := "java/util/ArrayDeque", name := "pollFirst", desc := "()Ljava/lang/Object;" } : Jvm.MethodName)) ∈ lw_all := lw_g (lw_at lw_m3 10 rfl) rfl
theorem q590 : (Jvm.Cond.classLink "ClockworkTailor$Book" (65 : Nat) "java/lang/Integer") ∈ lw_all := lw_g (lw_at lw_m3 17 rfl) rfl
theorem q591 : (Jvm.Cond.methodLink "ClockworkTailor$Book" (82 : Nat) ({ cls := "java/lang/Integer", name := "intValue", desc := "()I" } : Jvm.MethodName)) ∈ lw_all := lw_g (lw_at lw_m3 18 rfl) rfl
theorem q595 : (Jvm.Cond.interfaceEntry "ClockworkTailor$Book" (86 : Nat)) ∈ lw_tbl := lw_at lw_m3 22 rfl
theorem q596 : (Jvm.Cond.methodLink "ClockworkTailor$Book" (86 : Nat) ({ cls := "ClockworkTailor$Way", name := "leads", desc := "(II)Z" } : Jvm.MethodName)) ∈ lw_all := lw_g (lw_at lw_m3 23 rfl) rfl
theorem q604 : (Jvm.Cond.instanceMethod ({ cls := "ClockworkTailor$Book", name := "inCirclesBySets", desc := "()I" } : Jvm.MethodName)) ∈ lw_all := lw_g (lw_at lw_m3 31 rfl) rfl
theorem q605 : (Jvm.Cond.selects "ClockworkTailor$Book" ({ cls := "ClockworkTailor$Book", name := "inCirclesBySets", desc := "()I" } : Jvm.MethodName) ({ cls := "ClockworkTailor$Book", name := "inCirclesBySets", desc := "()I" } : Jvm.MethodName)) ∈ lw_all := lw_g (lw_at lw_m3 32 rfl) rfl
theorem q606 : (Jvm.Cond.code ({ cls := "ClockworkTailor$Book", name := "inCirclesBySets", desc := "()I" } : Jvm.MethodName) prog_2_method_23_code (1 : Nat) (Option.some Jvm.ClassFile.FieldType.int)) ∈ lw_all := lw_g (lw_at lw_m3 33 rfl) rfl
theorem q607 : (Jvm.Cond.classLink "ClockworkTailor$Book" (110 : Nat) "ClockworkTailor$Sets") ∈ lw_all := lw_g (lw_at lw_m3 34 rfl) rfl
theorem q609 : (Jvm.Cond.methodLink "ClockworkTailor$Book" (112 : Nat) ({ cls := "ClockworkTailor$Sets", name := "<init>", desc := "(LClockworkTailor$Way;)V" } : Jvm.MethodName)) ∈ lw_all := lw_g (lw_at lw_m3 36 rfl) rfl
theorem q637 : (Jvm.Cond.methodLink "ClockworkTailor$Book" (115 : Nat) ({ cls := "ClockworkTailor$Sets", name := "inCircles", desc := "()I" } : Jvm.MethodName)) ∈ lw_all := lw_g (lw_at lw_m3 64 rfl) rfl
theorem q672 : (Jvm.Cond.instanceMethod ({ cls := "ClockworkTailor$Book", name := "captives", desc := "()I" } : Jvm.MethodName)) ∈ lw_all := lw_g (lw_at lw_m3 99 rfl) rfl
theorem q673 : (Jvm.Cond.selects "ClockworkTailor$Book" ({ cls := "ClockworkTailor$Book", name := "captives", desc := "()I" } : Jvm.MethodName) ({ cls := "ClockworkTailor$Book", name := "captives", desc := "()I" } : Jvm.MethodName)) ∈ lw_all := lw_g (lw_at lw_m3 100 rfl) rfl
theorem q674 : (Jvm.Cond.code ({ cls := "ClockworkTailor$Book", name := "captives", desc := "()I" } : Jvm.MethodName) prog_2_method_26_code (5 : Nat) (Option.some Jvm.ClassFile.FieldType.int)) ∈ lw_all := lw_g (lw_at lw_m3 101 rfl) rfl
theorem q710 : (Jvm.Cond.instanceMethod ({ cls := "ClockworkTailor$Book", name := "leadsToCount", desc := "(I)I" } : Jvm.MethodName)) ∈ lw_all := lw_g (lw_at lw_m3 137 rfl) rfl
theorem q711 : (Jvm.Cond.selects "ClockworkTailor$Book" ({ cls := "ClockworkTailor$Book", name := "leadsToCount", desc := "(I)I" } : Jvm.MethodName) ({ cls := "ClockworkTailor$Book", name := "leadsToCount", desc := "(I)I" } : Jvm.MethodName)) ∈ lw_all := lw_g (lw_at lw_m3 138 rfl) rfl
theorem q712 : (Jvm.Cond.code ({ cls := "ClockworkTailor$Book", name := "leadsToCount", desc := "(I)I" } : Jvm.MethodName) prog_2_method_20_code (7 : Nat) (Option.some Jvm.ClassFile.FieldType.int)) ∈ lw_all := lw_g (lw_at lw_m3 139 rfl) rfl
theorem q714 : (Jvm.Cond.instanceMethod ({ cls := "ClockworkTailor$Book", name := "leadsToByTable", desc := "(I)I" } : Jvm.MethodName)) ∈ lw_all := lw_g (lw_at lw_m3 141 rfl) rfl
theorem q715 : (Jvm.Cond.selects "ClockworkTailor$Book" ({ cls := "ClockworkTailor$Book", name := "leadsToByTable", desc := "(I)I" } : Jvm.MethodName) ({ cls := "ClockworkTailor$Book", name := "leadsToByTable", desc := "(I)I" } : Jvm.MethodName)) ∈ lw_all := lw_g (lw_at lw_m3 142 rfl) rfl
theorem q716 : (Jvm.Cond.code ({ cls := "ClockworkTailor$Book", name := "leadsToByTable", desc := "(I)I" } : Jvm.MethodName) prog_2_method_21_code (9 : Nat) (Option.some Jvm.ClassFile.FieldType.int)) ∈ lw_all := lw_g (lw_at lw_m3 143 rfl) rfl
theorem q717 : (Jvm.Cond.classLink "ClockworkTailor$Book" (108 : Nat) "[[Z") ∈ lw_all := lw_g (lw_at lw_m3 144 rfl) rfl
theorem q720 : (Jvm.Cond.instanceMethod ({ cls := "ClockworkTailor$Book", name := "longest", desc := "(I)I" } : Jvm.MethodName)) ∈ lw_all := lw_g (lw_at lw_m3 147 rfl) rfl
theorem q721 : (Jvm.Cond.selects "ClockworkTailor$Book" ({ cls := "ClockworkTailor$Book", name := "longest", desc := "(I)I" } : Jvm.MethodName) ({ cls := "ClockworkTailor$Book", name := "longest", desc := "(I)I" } : Jvm.MethodName)) ∈ lw_all := lw_g (lw_at lw_m3 148 rfl) rfl
theorem q722 : (Jvm.Cond.code ({ cls := "ClockworkTailor$Book", name := "longest", desc := "(I)I" } : Jvm.MethodName) prog_2_method_24_code (5 : Nat) (Option.some Jvm.ClassFile.FieldType.int)) ∈ lw_all := lw_g (lw_at lw_m3 149 rfl) rfl
theorem q723 : (Jvm.Cond.methodLink "ClockworkTailor$Book" (118 : Nat) ({ cls := "ClockworkTailor$Book", name := "longest", desc := "(I)I" } : Jvm.MethodName)) ∈ lw_all := lw_g (lw_at lw_m3 150 rfl) rfl
theorem q724 : (Jvm.Cond.methodLink "ClockworkTailor$Book" (121 : Nat) ({ cls := "java/lang/Math", name := "max", desc := "(II)I" } : Jvm.MethodName)) ∈ lw_all := lw_g (lw_at lw_m3 151 rfl) rfl
theorem q728 : (Jvm.Cond.instanceMethod ({ cls := "ClockworkTailor$Book", name := "longestByRounds", desc := "(I)I" } : Jvm.MethodName)) ∈ lw_all := lw_g (lw_at lw_m3 155 rfl) rfl
theorem q729 : (Jvm.Cond.selects "ClockworkTailor$Book" ({ cls := "ClockworkTailor$Book", name := "longestByRounds", desc := "(I)I" } : Jvm.MethodName) ({ cls := "ClockworkTailor$Book", name := "longestByRounds", desc := "(I)I" } : Jvm.MethodName)) ∈ lw_all := lw_g (lw_at lw_m3 156 rfl) rfl
theorem q730 : (Jvm.Cond.code ({ cls := "ClockworkTailor$Book", name := "longestByRounds", desc := "(I)I" } : Jvm.MethodName) prog_2_method_25_code (11 : Nat) (Option.some Jvm.ClassFile.FieldType.int)) ∈ lw_all := lw_g (lw_at lw_m3 157 rfl) rfl
theorem q731 : (Jvm.Cond.methodLink "ClockworkTailor$Book" (90 : Nat) ({ cls := "ClockworkTailor$Book", name := "directWay", desc := "()LClockworkTailor$Way;" } : Jvm.MethodName)) ∈ lw_all := lw_g (lw_at lw_m3 158 rfl) rfl
theorem q732 : (Jvm.Cond.instanceMethod ({ cls := "ClockworkTailor$Book", name := "directWay", desc := "()LClockworkTailor$Way;" } : Jvm.MethodName)) ∈ lw_all := lw_g (lw_at lw_m3 159 rfl) rfl
theorem q733 : (Jvm.Cond.selects "ClockworkTailor$Book" ({ cls := "ClockworkTailor$Book", name := "directWay", desc := "()LClockworkTailor$Way;" } : Jvm.MethodName) ({ cls := "ClockworkTailor$Book", name := "directWay", desc := "()LClockworkTailor$Way;" } : Jvm.MethodName)) ∈ lw_all := lw_g (lw_at lw_m3 160 rfl) rfl
theorem q734 : (Jvm.Cond.code ({ cls := "ClockworkTailor$Book", name := "directWay", desc := "()LClockworkTailor$Way;" } : Jvm.MethodName) prog_2_method_15_code (1 : Nat) (Option.some (Jvm.ClassFile.FieldType.object "ClockworkTailor$Way"))) ∈ lw_all := lw_g (lw_at lw_m3 161 rfl) rfl
theorem q735 : (Jvm.Cond.privateMethod ({ cls := "ClockworkTailor$Book", name := "lambda$directWay$0", desc := "(II)Z" } : Jvm.MethodName)) ∈ lw_tbl := lw_at lw_m3 162 rfl
theorem q736 : (Jvm.Cond.instanceMethod ({ cls := "ClockworkTailor$Book", name := "lambda$directWay$0", desc := "(II)Z" } : Jvm.MethodName)) ∈ lw_all := lw_g (lw_at lw_m3 163 rfl) rfl
theorem q737 : (Jvm.Cond.code ({ cls := "ClockworkTailor$Book", name := "lambda$directWay$0", desc := "(II)Z" } : Jvm.MethodName) prog_2_method_29_code (3 : Nat) (Option.some Jvm.ClassFile.FieldType.boolean)) ∈ lw_all := lw_g (lw_at lw_m3 164 rfl) rfl
theorem q738 : (Jvm.Cond.methodLink "ClockworkTailor$Book" (126 : Nat) ({ cls := "[I", name := "clone", desc := "()Ljava/lang/Object;" } : Jvm.MethodName)) ∈ lw_all := lw_g (lw_at lw_m3 165 rfl) rfl
theorem q744 : (Jvm.Cond.classLink "ClockworkTailor$Book" (127 : Nat) "[I") ∈ lw_all := lw_g (lw_at lw_m3 171 rfl) rfl
theorem q765 : (Jvm.Cond.instanceMethod ({ cls := "ClockworkTailor$Book", name := "copyFrom", desc := "(LClockworkTailor$Book;)V" } : Jvm.MethodName)) ∈ lw_all := lw_g (lw_at lw_m3 192 rfl) rfl
theorem q766 : (Jvm.Cond.selects "ClockworkTailor$Book" ({ cls := "ClockworkTailor$Book", name := "copyFrom", desc := "(LClockworkTailor$Book;)V" } : Jvm.MethodName) ({ cls := "ClockworkTailor$Book", name := "copyFrom", desc := "(LClockworkTailor$Book;)V" } : Jvm.MethodName)) ∈ lw_all := lw_g (lw_at lw_m3 193 rfl) rfl
theorem q767 : (Jvm.Cond.code ({ cls := "ClockworkTailor$Book", name := "copyFrom", desc := "(LClockworkTailor$Book;)V" } : Jvm.MethodName) prog_2_method_2_code (2 : Nat) (Option.none : Option Jvm.ClassFile.FieldType)) ∈ lw_all := lw_g (lw_at lw_m3 194 rfl) rfl
theorem q768 : (Jvm.Cond.methodLink "ClockworkTailor$Book" (35 : Nat) ({ cls := "java/lang/System", name := "arraycopy", desc := "(Ljava/lang/Object;ILjava/lang/Object;II)V" } : Jvm.MethodName)) ∈ lw_all := lw_g (lw_at lw_m3 195 rfl) rfl
theorem q1008 : (Jvm.Cond.instanceMethod ({ cls := "ClockworkTailor$Book", name := "positionOf", desc := "(II)I" } : Jvm.MethodName)) ∈ lw_all := lw_g (lw_at lw_m4 195 rfl) rfl
theorem q1009 : (Jvm.Cond.selects "ClockworkTailor$Book" ({ cls := "ClockworkTailor$Book", name := "positionOf", desc := "(II)I" } : Jvm.MethodName) ({ cls := "ClockworkTailor$Book", name := "positionOf", desc := "(II)I" } : Jvm.MethodName)) ∈ lw_all := lw_g (lw_at lw_m4 196 rfl) rfl
theorem q1010 : (Jvm.Cond.code ({ cls := "ClockworkTailor$Book", name := "positionOf", desc := "(II)I" } : Jvm.MethodName) prog_2_method_9_code (4 : Nat) (Option.some Jvm.ClassFile.FieldType.int)) ∈ lw_all := lw_g (lw_at lw_m4 197 rfl) rfl
theorem q1012 : (Jvm.Cond.instanceMethod ({ cls := "ClockworkTailor$Book", name := "add", desc := "(IIZ)V" } : Jvm.MethodName)) ∈ lw_all := lw_g (lw_at lw_m4 199 rfl) rfl
theorem q1013 : (Jvm.Cond.selects "ClockworkTailor$Book" ({ cls := "ClockworkTailor$Book", name := "add", desc := "(IIZ)V" } : Jvm.MethodName) ({ cls := "ClockworkTailor$Book", name := "add", desc := "(IIZ)V" } : Jvm.MethodName)) ∈ lw_all := lw_g (lw_at lw_m4 200 rfl) rfl
theorem q1014 : (Jvm.Cond.code ({ cls := "ClockworkTailor$Book", name := "add", desc := "(IIZ)V" } : Jvm.MethodName) prog_2_method_10_code (4 : Nat) (Option.none : Option Jvm.ClassFile.FieldType)) ∈ lw_all := lw_g (lw_at lw_m4 201 rfl) rfl
theorem q1016 : (Jvm.Cond.instanceMethod ({ cls := "ClockworkTailor$Book", name := "refuseCircle", desc := "()V" } : Jvm.MethodName)) ∈ lw_all := lw_g (lw_at lw_m4 203 rfl) rfl
theorem q1017 : (Jvm.Cond.selects "ClockworkTailor$Book" ({ cls := "ClockworkTailor$Book", name := "refuseCircle", desc := "()V" } : Jvm.MethodName) ({ cls := "ClockworkTailor$Book", name := "refuseCircle", desc := "()V" } : Jvm.MethodName)) ∈ lw_all := lw_g (lw_at lw_m4 204 rfl) rfl
theorem q1018 : (Jvm.Cond.code ({ cls := "ClockworkTailor$Book", name := "refuseCircle", desc := "()V" } : Jvm.MethodName) prog_2_method_19_code (2 : Nat) (Option.none : Option Jvm.ClassFile.FieldType)) ∈ lw_all := lw_g (lw_at lw_m4 205 rfl) rfl
theorem q1019 : (Jvm.Cond.methodLink "ClockworkTailor$Book" (98 : Nat) ({ cls := "ClockworkTailor$Book", name := "directCircle", desc := "()I" } : Jvm.MethodName)) ∈ lw_all := lw_g (lw_at lw_m4 206 rfl) rfl
theorem q1020 : (Jvm.Cond.instanceMethod ({ cls := "ClockworkTailor$Book", name := "directCircle", desc := "()I" } : Jvm.MethodName)) ∈ lw_all := lw_g (lw_at lw_m4 207 rfl) rfl
theorem q1021 : (Jvm.Cond.selects "ClockworkTailor$Book" ({ cls := "ClockworkTailor$Book", name := "directCircle", desc := "()I" } : Jvm.MethodName) ({ cls := "ClockworkTailor$Book", name := "directCircle", desc := "()I" } : Jvm.MethodName)) ∈ lw_all := lw_g (lw_at lw_m4 208 rfl) rfl
theorem q1022 : (Jvm.Cond.code ({ cls := "ClockworkTailor$Book", name := "directCircle", desc := "()I" } : Jvm.MethodName) prog_2_method_18_code (4 : Nat) (Option.some Jvm.ClassFile.FieldType.int)) ∈ lw_all := lw_g (lw_at lw_m4 209 rfl) rfl
theorem q1023 : (Jvm.Cond.methodLinkNest "ClockworkTailor$Book" (101 : Nat) ({ cls := "ClockworkTailor", name := "refuseIf", desc := "(ZII)V" } : Jvm.MethodName) "ClockworkTailor") ∈ lw_tbl := lw_at lw_m4 210 rfl
theorem q1042 : (Jvm.Cond.instanceMethod ({ cls := "ClockworkTailor$Book", name := "remove", desc := "(II)V" } : Jvm.MethodName)) ∈ lw_all := lw_g (lw_at lw_m4 229 rfl) rfl
theorem q1043 : (Jvm.Cond.selects "ClockworkTailor$Book" ({ cls := "ClockworkTailor$Book", name := "remove", desc := "(II)V" } : Jvm.MethodName) ({ cls := "ClockworkTailor$Book", name := "remove", desc := "(II)V" } : Jvm.MethodName)) ∈ lw_all := lw_g (lw_at lw_m4 230 rfl) rfl
theorem q1044 : (Jvm.Cond.code ({ cls := "ClockworkTailor$Book", name := "remove", desc := "(II)V" } : Jvm.MethodName) prog_2_method_11_code (4 : Nat) (Option.none : Option Jvm.ClassFile.FieldType)) ∈ lw_all := lw_g (lw_at lw_m4 231 rfl) rfl
theorem q1151 : (Jvm.Cond.instanceMethod ({ cls := "ClockworkTailor$Book", name := "swapCircle", desc := "(II)I" } : Jvm.MethodName)) ∈ lw_all := lw_g (lw_at lw_m5 98 rfl) rfl
theorem q1152 : (Jvm.Cond.selects "ClockworkTailor$Book" ({ cls := "ClockworkTailor$Book", name := "swapCircle", desc := "(II)I" } : Jvm.MethodName) ({ cls := "ClockworkTailor$Book", name := "swapCircle", desc := "(II)I" } : Jvm.MethodName)) ∈ lw_all := lw_g (lw_at lw_m5 99 rfl) rfl
theorem q1153 : (Jvm.Cond.code ({ cls := "ClockworkTailor$Book", name := "swapCircle", desc := "(II)I" } : Jvm.MethodName) prog_2_method_13_code (5 : Nat) (Option.some Jvm.ClassFile.FieldType.int)) ∈ lw_all := lw_g (lw_at lw_m5 100 rfl) rfl
theorem q1155 : (Jvm.Cond.instanceMethod ({ cls := "ClockworkTailor$Book", name := "countReplaced", desc := "()I" } : Jvm.MethodName)) ∈ lw_all := lw_g (lw_at lw_m5 102 rfl) rfl
theorem q1156 : (Jvm.Cond.selects "ClockworkTailor$Book" ({ cls := "ClockworkTailor$Book", name := "countReplaced", desc := "()I" } : Jvm.MethodName) ({ cls := "ClockworkTailor$Book", name := "countReplaced", desc := "()I" } : Jvm.MethodName)) ∈ lw_all := lw_g (lw_at lw_m5 103 rfl) rfl
theorem q1157 : (Jvm.Cond.code ({ cls := "ClockworkTailor$Book", name := "countReplaced", desc := "()I" } : Jvm.MethodName) prog_2_method_4_code (6 : Nat) (Option.some Jvm.ClassFile.FieldType.int)) ∈ lw_all := lw_g (lw_at lw_m5 104 rfl) rfl
theorem q1368 : (Jvm.Cond.instanceMethod ({ cls := "ClockworkTailor$Book", name := "sumOfMinutes", desc := "()I" } : Jvm.MethodName)) ∈ lw_all := lw_g (lw_at lw_m6 75 rfl) rfl
theorem q1369 : (Jvm.Cond.selects "ClockworkTailor$Book" ({ cls := "ClockworkTailor$Book", name := "sumOfMinutes", desc := "()I" } : Jvm.MethodName) ({ cls := "ClockworkTailor$Book", name := "sumOfMinutes", desc := "()I" } : Jvm.MethodName)) ∈ lw_all := lw_g (lw_at lw_m6 76 rfl) rfl
theorem q1370 : (Jvm.Cond.code ({ cls := "ClockworkTailor$Book", name := "sumOfMinutes", desc := "()I" } : Jvm.MethodName) prog_2_method_5_code (3 : Nat) (Option.some Jvm.ClassFile.FieldType.int)) ∈ lw_all := lw_g (lw_at lw_m6 77 rfl) rfl
theorem q1665 : (Jvm.Cond.instanceMethod ({ cls := "ClockworkTailor$Book", name := "write", desc := "(Ljava/lang/StringBuilder;I)V" } : Jvm.MethodName)) ∈ lw_all := lw_g (lw_at lw_m7 132 rfl) rfl
theorem q1666 : (Jvm.Cond.selects "ClockworkTailor$Book" ({ cls := "ClockworkTailor$Book", name := "write", desc := "(Ljava/lang/StringBuilder;I)V" } : Jvm.MethodName) ({ cls := "ClockworkTailor$Book", name := "write", desc := "(Ljava/lang/StringBuilder;I)V" } : Jvm.MethodName)) ∈ lw_all := lw_g (lw_at lw_m7 133 rfl) rfl
theorem q1667 : (Jvm.Cond.code ({ cls := "ClockworkTailor$Book", name := "write", desc := "(Ljava/lang/StringBuilder;I)V" } : Jvm.MethodName) prog_2_method_27_code (4 : Nat) (Option.none : Option Jvm.ClassFile.FieldType)) ∈ lw_all := lw_g (lw_at lw_m7 134 rfl) rfl
theorem q1668 : (Jvm.Cond.methodLinkNest "ClockworkTailor$Book" (130 : Nat) ({ cls := "ClockworkTailor", name := "letterOf", desc := "(I)C" } : Jvm.MethodName) "ClockworkTailor") ∈ lw_tbl := lw_at lw_m7 135 rfl
theorem q1669 : (Jvm.Cond.methodLink "ClockworkTailor$Book" (134 : Nat) ({ cls := "java/lang/StringBuilder", name := "append", desc := "(C)Ljava/lang/StringBuilder;" } : Jvm.MethodName)) ∈ lw_all := lw_g (lw_at lw_m7 136 rfl) rfl
theorem q1691 : (Jvm.Cond.methodLink "ClockworkTailor$Book" (140 : Nat) ({ cls := "java/lang/StringBuilder", name := "append", desc := "(I)Ljava/lang/StringBuilder;" } : Jvm.MethodName)) ∈ lw_all := lw_g (lw_at lw_m7 158 rfl) rfl
theorem q1692 : (Jvm.Cond.stringRef "ClockworkTailor$Book" (143 : Nat) " ?") ∈ lw_tbl := lw_at lw_m7 159 rfl
theorem q1693 : (Jvm.Cond.stringRef "ClockworkTailor$Book" (145 : Nat) " ") ∈ lw_tbl := lw_at lw_m7 160 rfl
theorem q1694 : (Jvm.Cond.methodLink "ClockworkTailor$Book" (147 : Nat) ({ cls := "java/lang/StringBuilder", name := "append", desc := "(Ljava/lang/String;)Ljava/lang/StringBuilder;" } : Jvm.MethodName)) ∈ lw_all := lw_g (lw_at lw_m7 161 rfl) rfl
theorem q2551 : (Jvm.Cond.castable "ClockworkTailor$Book" "java/lang/Object") ∈ lw_tbl := lw_at lw_m11 58 rfl
theorem in_X3 : ∀ w ∈ wsX30, w ∈ lw_all := lw_in wsX30 [170, 172, 174, 176, 178, 180, 182] (by decide +kernel) (by decide +kernel)

/-! ClockworkTailor$Refusal -/
set_option maxRecDepth 100000
def RX6 : String := "ClockworkTailor$Refusal"
def TX6 : u_T := fun k => match k with
  | 0 => ("java/lang/Throwable", "cause", "Ljava/lang/Throwable;", false)
  | 1 => ("java/lang/Throwable", "stackTrace", "[Ljava/lang/StackTraceElement;", false)
  | 2 => ("java/lang/Throwable", "suppressedExceptions", "Ljava/util/List;", false)
  | 3 => ("java/lang/Throwable", "detailMessage", "Ljava/lang/String;", false)
  | 4 => ("java/lang/Throwable", "backtrace", "Ljava/lang/Object;", false)
  | 5 => ("java/lang/Throwable", "depth", "I", false)
  | 6 => ("ClockworkTailor$Refusal", "reason", "I", true)
  | 7 => ("ClockworkTailor$Refusal", "detail", "I", true)
  | _ => ("ClockworkTailor$Refusal", "origin", "LClockworkTailor$Refusal;", true)
def tyX6 : Nat → FieldType := fun k => match k with
  | 0 => .object "java/lang/Throwable"
  | 1 => .array (.object "java/lang/StackTraceElement")
  | 2 => .object "java/util/List"
  | 3 => .object "java/lang/String"
  | 4 => .object "java/lang/Object"
  | 5 => .int
  | 6 => .int
  | 7 => .int
  | _ => .object "ClockworkTailor$Refusal"
abbrev wsX60 : List Cond := u_ws RX6 TX6 9
theorem nmX6 : ∀ a, a < 9 → ∀ b, b < 9 → a ≠ b → (TX6 a).2.1 ≠ (TX6 b).2.1 := by decide +kernel
theorem tyX6_ok : ∀ k, k < 9 → parseFieldDescriptor (TX6 k).2.2.1 = some (tyX6 k) := by decide +kernel
abbrev cX6_init : ByteArray := prog_6_method_1_code
def yX6_init : MethodName := ⟨RX6, "<init>", "(II)V"⟩
def dkwX6_init_0 : List UInt8 := [42, 27, 28, 1, 183, 0, 3, 177]
abbrev dktX6_init_0 : List UInt8 := dkwX6_init_0 ++ []
theorem dksX6_init_0 : cX6_init.data.toList.drop 0 = dktX6_init_0 := by decide +kernel
theorem dX6_init_0 : decode cX6_init 0 = .ok (.aload_n 0, 1) := dk_42 (dk_at dksX6_init_0 0 rfl rfl)
theorem dX6_init_1 : decode cX6_init 1 = .ok (.iload_n 1, 1) := dk_27 (dk_at dksX6_init_0 1 rfl rfl)
theorem dX6_init_2 : decode cX6_init 2 = .ok (.iload_n 2, 1) := dk_28 (dk_at dksX6_init_0 2 rfl rfl)
theorem dX6_init_3 : decode cX6_init 3 = .ok (.aconst_null, 1) := dk_1 (dk_at dksX6_init_0 3 rfl rfl)
theorem dX6_init_4 : decode cX6_init 4 = .ok (.invokespecial 3, 3) := dk_183 0 3 (dk_at dksX6_init_0 4 rfl rfl)
theorem dX6_init_7 : decode cX6_init 7 = .ok (.return_, 1) := dk_177 (dk_at dksX6_init_0 7 rfl rfl)
abbrev cX6_init_2 : ByteArray := prog_6_method_2_code
def yX6_init_2 : MethodName := ⟨RX6, "<init>", "(IILClockworkTailor$Refusal;)V"⟩
def dkwX6_init_2_0 : List UInt8 := [42, 183, 0, 9, 42, 27, 181, 0, 14, 42, 28, 181, 0, 18, 42, 45, 181, 0, 21, 177]
abbrev dktX6_init_2_0 : List UInt8 := dkwX6_init_2_0 ++ []
theorem dksX6_init_2_0 : cX6_init_2.data.toList.drop 0 = dktX6_init_2_0 := by decide +kernel
theorem dX6_init_2_0 : decode cX6_init_2 0 = .ok (.aload_n 0, 1) := dk_42 (dk_at dksX6_init_2_0 0 rfl rfl)
theorem dX6_init_2_1 : decode cX6_init_2 1 = .ok (.invokespecial 9, 3) := dk_183 0 9 (dk_at dksX6_init_2_0 1 rfl rfl)
theorem dX6_init_2_4 : decode cX6_init_2 4 = .ok (.aload_n 0, 1) := dk_42 (dk_at dksX6_init_2_0 4 rfl rfl)
theorem dX6_init_2_5 : decode cX6_init_2 5 = .ok (.iload_n 1, 1) := dk_27 (dk_at dksX6_init_2_0 5 rfl rfl)
theorem dX6_init_2_6 : decode cX6_init_2 6 = .ok (.putfield 14, 3) := dk_181 0 14 (dk_at dksX6_init_2_0 6 rfl rfl)
theorem dX6_init_2_9 : decode cX6_init_2 9 = .ok (.aload_n 0, 1) := dk_42 (dk_at dksX6_init_2_0 9 rfl rfl)
theorem dX6_init_2_10 : decode cX6_init_2 10 = .ok (.iload_n 2, 1) := dk_28 (dk_at dksX6_init_2_0 10 rfl rfl)
theorem dX6_init_2_11 : decode cX6_init_2 11 = .ok (.putfield 18, 3) := dk_181 0 18 (dk_at dksX6_init_2_0 11 rfl rfl)
theorem dX6_init_2_14 : decode cX6_init_2 14 = .ok (.aload_n 0, 1) := dk_42 (dk_at dksX6_init_2_0 14 rfl rfl)
theorem dX6_init_2_15 : decode cX6_init_2 15 = .ok (.aload_n 3, 1) := dk_45 (dk_at dksX6_init_2_0 15 rfl rfl)
theorem dX6_init_2_16 : decode cX6_init_2 16 = .ok (.putfield 21, 3) := dk_181 0 21 (dk_at dksX6_init_2_0 16 rfl rfl)
theorem dX6_init_2_19 : decode cX6_init_2 19 = .ok (.return_, 1) := dk_177 (dk_at dksX6_init_2_0 19 rfl rfl)
abbrev cX6_originReason : ByteArray := prog_6_method_3_code
def yX6_originReason : MethodName := ⟨RX6, "originReason", "()I"⟩
def dkwX6_originReason_0 : List UInt8 := [42, 180, 0, 21, 199, 0, 7, 2, 167, 0, 10, 42, 180, 0, 21, 180, 0, 14, 172]
abbrev dktX6_originReason_0 : List UInt8 := dkwX6_originReason_0 ++ []
theorem dksX6_originReason_0 : cX6_originReason.data.toList.drop 0 = dktX6_originReason_0 := by decide +kernel
theorem dX6_originReason_0 : decode cX6_originReason 0 = .ok (.aload_n 0, 1) := dk_42 (dk_at dksX6_originReason_0 0 rfl rfl)
theorem dX6_originReason_1 : decode cX6_originReason 1 = .ok (.getfield 21, 3) := dk_180 0 21 (dk_at dksX6_originReason_0 1 rfl rfl)
theorem dX6_originReason_4 : decode cX6_originReason 4 = .ok (.ifnonnull 7, 3) := dk_199 0 7 (dk_at dksX6_originReason_0 4 rfl rfl)
theorem dX6_originReason_7 : decode cX6_originReason 7 = .ok (.iconst (-1), 1) := dk_2 (dk_at dksX6_originReason_0 7 rfl rfl)
theorem dX6_originReason_8 : decode cX6_originReason 8 = .ok (.goto 10, 3) := dk_167 0 10 (dk_at dksX6_originReason_0 8 rfl rfl)
theorem dX6_originReason_11 : decode cX6_originReason 11 = .ok (.aload_n 0, 1) := dk_42 (dk_at dksX6_originReason_0 11 rfl rfl)
theorem dX6_originReason_12 : decode cX6_originReason 12 = .ok (.getfield 21, 3) := dk_180 0 21 (dk_at dksX6_originReason_0 12 rfl rfl)
theorem dX6_originReason_15 : decode cX6_originReason 15 = .ok (.getfield 14, 3) := dk_180 0 14 (dk_at dksX6_originReason_0 15 rfl rfl)
theorem dX6_originReason_18 : decode cX6_originReason 18 = .ok (.ireturn, 1) := dk_172 (dk_at dksX6_originReason_0 18 rfl rfl)
theorem q117 : (Jvm.Cond.initialized "ClockworkTailor$Refusal") ∈ lw_all := lw_g (lw_at lw_m1 24 rfl) rfl
theorem q388 : (Jvm.Cond.selects "ClockworkTailor$Refusal" ({ cls := "java/lang/Throwable", name := "fillInStackTrace", desc := "()Ljava/lang/Throwable;" } : Jvm.MethodName) ({ cls := "java/lang/Throwable", name := "fillInStackTrace", desc := "()Ljava/lang/Throwable;" } : Jvm.MethodName)) ∈ lw_all := lw_g (lw_at lw_m2 55 rfl) rfl
theorem q440 : (Jvm.Cond.selects "ClockworkTailor$Refusal" ({ cls := "java/lang/Object", name := "getClass", desc := "()Ljava/lang/Class;" } : Jvm.MethodName) ({ cls := "java/lang/Object", name := "getClass", desc := "()Ljava/lang/Class;" } : Jvm.MethodName)) ∈ lw_all := lw_g (lw_at lw_m2 107 rfl) rfl
theorem q816 : (Jvm.Cond.instantiable "ClockworkTailor$Refusal" (9 : Nat)) ∈ lw_all := lw_g (lw_at lw_m4 3 rfl) rfl
theorem q817 : (Jvm.Cond.castable "ClockworkTailor$Refusal" "ClockworkTailor$Refusal") ∈ lw_tbl := lw_at lw_m4 4 rfl
theorem q818 : (Jvm.Cond.selects "ClockworkTailor$Refusal" ({ cls := "java/lang/Throwable", name := "fillInStackTrace", desc := "(I)Ljava/lang/Throwable;" } : Jvm.MethodName) ({ cls := "java/lang/Throwable", name := "fillInStackTrace", desc := "(I)Ljava/lang/Throwable;" } : Jvm.MethodName)) ∈ lw_all := lw_g (lw_at lw_m4 5 rfl) rfl
theorem q819 : (Jvm.Cond.lays "ClockworkTailor$Refusal" "java/lang/Throwable" "cause" "Ljava/lang/Throwable;") ∈ lw_all := lw_g (lw_at lw_m4 6 rfl) rfl
theorem q820 : (Jvm.Cond.lays "ClockworkTailor$Refusal" "java/lang/Throwable" "stackTrace" "[Ljava/lang/StackTraceElement;") ∈ lw_all := lw_g (lw_at lw_m4 7 rfl) rfl
theorem q821 : (Jvm.Cond.lays "ClockworkTailor$Refusal" "java/lang/Throwable" "suppressedExceptions" "Ljava/util/List;") ∈ lw_all := lw_g (lw_at lw_m4 8 rfl) rfl
theorem q822 : (Jvm.Cond.lays "ClockworkTailor$Refusal" "java/lang/Throwable" "detailMessage" "Ljava/lang/String;") ∈ lw_all := lw_g (lw_at lw_m4 9 rfl) rfl
theorem q823 : (Jvm.Cond.lays "ClockworkTailor$Refusal" "java/lang/Throwable" "backtrace" "Ljava/lang/Object;") ∈ lw_all := lw_g (lw_at lw_m4 10 rfl) rfl
theorem q825 : (Jvm.Cond.instanceMethod ({ cls := "ClockworkTailor$Refusal", name := "<init>", desc := "(II)V" } : Jvm.MethodName)) ∈ lw_all := lw_g (lw_at lw_m4 12 rfl) rfl
theorem q826 : (Jvm.Cond.code ({ cls := "ClockworkTailor$Refusal", name := "<init>", desc := "(II)V" } : Jvm.MethodName) prog_6_method_1_code (3 : Nat) (Option.none : Option Jvm.ClassFile.FieldType)) ∈ lw_all := lw_g (lw_at lw_m4 13 rfl) rfl
theorem q827 : (Jvm.Cond.methodLink "ClockworkTailor$Refusal" (3 : Nat) ({ cls := "ClockworkTailor$Refusal", name := "<init>", desc := "(IILClockworkTailor$Refusal;)V" } : Jvm.MethodName)) ∈ lw_all := lw_g (lw_at lw_m4 14 rfl) rfl
theorem q828 : (Jvm.Cond.instanceMethod ({ cls := "ClockworkTailor$Refusal", name := "<init>", desc := "(IILClockworkTailor$Refusal;)V" } : Jvm.MethodName)) ∈ lw_all := lw_g (lw_at lw_m4 15 rfl) rfl
theorem q829 : (Jvm.Cond.code ({ cls := "ClockworkTailor$Refusal", name := "<init>", desc := "(IILClockworkTailor$Refusal;)V" } : Jvm.MethodName) prog_6_method_2_code (4 : Nat) (Option.none : Option Jvm.ClassFile.FieldType)) ∈ lw_all := lw_g (lw_at lw_m4 16 rfl) rfl
theorem q830 : (Jvm.Cond.methodLink "ClockworkTailor$Refusal" (9 : Nat) ({ cls := "java/lang/Exception", name := "<init>", desc := "()V" } : Jvm.MethodName)) ∈ lw_all := lw_g (lw_at lw_m4 17 rfl) rfl
theorem q834 : (Jvm.Cond.fieldLink "ClockworkTailor$Refusal" (14 : Nat) "ClockworkTailor$Refusal" "reason" "I") ∈ lw_all := lw_g (lw_at lw_m4 21 rfl) rfl
theorem q836 : (Jvm.Cond.fieldLink "ClockworkTailor$Refusal" (18 : Nat) "ClockworkTailor$Refusal" "detail" "I") ∈ lw_all := lw_g (lw_at lw_m4 23 rfl) rfl
theorem q838 : (Jvm.Cond.fieldLink "ClockworkTailor$Refusal" (21 : Nat) "ClockworkTailor$Refusal" "origin" "LClockworkTailor$Refusal;") ∈ lw_all := lw_g (lw_at lw_m4 25 rfl) rfl
theorem q839 : (Jvm.Cond.laysFinal "ClockworkTailor$Refusal" "ClockworkTailor$Refusal" "reason" "I") ∈ lw_all := lw_g (lw_at lw_m4 26 rfl) rfl
theorem q840 : (Jvm.Cond.soleField "ClockworkTailor$Refusal" "reason") ∈ lw_all := lw_g (lw_at lw_m4 27 rfl) rfl
theorem q841 : (Jvm.Cond.laysFinal "ClockworkTailor$Refusal" "ClockworkTailor$Refusal" "detail" "I") ∈ lw_all := lw_g (lw_at lw_m4 28 rfl) rfl
theorem q842 : (Jvm.Cond.soleField "ClockworkTailor$Refusal" "detail") ∈ lw_all := lw_g (lw_at lw_m4 29 rfl) rfl
theorem q843 : (Jvm.Cond.laysFinal "ClockworkTailor$Refusal" "ClockworkTailor$Refusal" "origin" "LClockworkTailor$Refusal;") ∈ lw_all := lw_g (lw_at lw_m4 30 rfl) rfl
theorem q844 : (Jvm.Cond.soleField "ClockworkTailor$Refusal" "origin") ∈ lw_all := lw_g (lw_at lw_m4 31 rfl) rfl
theorem q845 : (Jvm.Cond.lays "ClockworkTailor$Refusal" "java/lang/Throwable" "depth" "I") ∈ lw_all := lw_g (lw_at lw_m4 32 rfl) rfl
theorem q846 : (Jvm.Cond.superclass "ClockworkTailor$Refusal" "java/lang/Exception") ∈ lw_all := lw_g (lw_at lw_m4 33 rfl) rfl
theorem q1404 : (Jvm.Cond.instanceMethod ({ cls := "ClockworkTailor$Refusal", name := "originReason", desc := "()I" } : Jvm.MethodName)) ∈ lw_all := lw_g (lw_at lw_m6 111 rfl) rfl
theorem q1405 : (Jvm.Cond.selects "ClockworkTailor$Refusal" ({ cls := "ClockworkTailor$Refusal", name := "originReason", desc := "()I" } : Jvm.MethodName) ({ cls := "ClockworkTailor$Refusal", name := "originReason", desc := "()I" } : Jvm.MethodName)) ∈ lw_all := lw_g (lw_at lw_m6 112 rfl) rfl
theorem q1406 : (Jvm.Cond.code ({ cls := "ClockworkTailor$Refusal", name := "originReason", desc := "()I" } : Jvm.MethodName) prog_6_method_3_code (1 : Nat) (Option.some Jvm.ClassFile.FieldType.int)) ∈ lw_all := lw_g (lw_at lw_m6 113 rfl) rfl
theorem q2561 : (Jvm.Cond.castable "ClockworkTailor$Refusal" "java/lang/Object") ∈ lw_tbl := lw_at lw_m11 68 rfl
theorem in_X6 : ∀ w ∈ wsX60, w ∈ lw_all := lw_in wsX60 [819, 820, 821, 822, 823, 845, 839, 841, 843] (by decide +kernel) (by decide +kernel)

/-! ClockworkTailor$Sets -/
set_option maxRecDepth 100000
def RX7 : String := "ClockworkTailor$Sets"
def TX7 : u_T := fun k => match k with
  | 0 => ("ClockworkTailor$Sets", "way", "LClockworkTailor$Way;", true)
  | 1 => ("ClockworkTailor$Sets", "order", "[I", true)
  | 2 => ("ClockworkTailor$Sets", "lowest", "[I", true)
  | 3 => ("ClockworkTailor$Sets", "isOpen", "[Z", true)
  | 4 => ("ClockworkTailor$Sets", "open", "Ljava/util/ArrayDeque;", true)
  | 5 => ("ClockworkTailor$Sets", "found", "I", false)
  | _ => ("ClockworkTailor$Sets", "inCircles", "I", false)
def tyX7 : Nat → FieldType := fun k => match k with
  | 0 => .object "ClockworkTailor$Way"
  | 1 => .array .int
  | 2 => .array .int
  | 3 => .array .boolean
  | 4 => .object "java/util/ArrayDeque"
  | 5 => .int
  | _ => .int
abbrev wsX70 : List Cond := u_ws RX7 TX7 7
theorem nmX7 : ∀ a, a < 7 → ∀ b, b < 7 → a ≠ b → (TX7 a).2.1 ≠ (TX7 b).2.1 := by decide +kernel
theorem tyX7_ok : ∀ k, k < 7 → parseFieldDescriptor (TX7 k).2.2.1 = some (tyX7 k) := by decide +kernel
abbrev cX7_init : ByteArray := prog_7_method_1_code
def yX7_init : MethodName := ⟨RX7, "<init>", "(LClockworkTailor$Way;)V"⟩
def dkwX7_init_1 : List UInt8 := [188, 4, 181, 0, 18, 42, 187, 0, 22, 89, 183, 0, 24, 181, 0, 25, 42, 43, 181, 0, 29, 177]
abbrev dktX7_init_1 : List UInt8 := dkwX7_init_1 ++ []
def dkwX7_init_0 : List UInt8 := [42, 183, 0, 3, 42, 16, 8, 188, 10, 181, 0, 9, 42, 16, 8, 188, 10, 181, 0, 15, 42, 16, 8]
abbrev dktX7_init_0 : List UInt8 := dkwX7_init_0 ++ dktX7_init_1
theorem dksX7_init_0 : cX7_init.data.toList.drop 0 = dktX7_init_0 := by decide +kernel
theorem dksX7_init_1 : cX7_init.data.toList.drop 23 = dktX7_init_1 := dk_seg dksX7_init_0 23 rfl rfl
theorem dX7_init_0 : decode cX7_init 0 = .ok (.aload_n 0, 1) := dk_42 (dk_at dksX7_init_0 0 rfl rfl)
theorem dX7_init_1 : decode cX7_init 1 = .ok (.invokespecial 3, 3) := dk_183 0 3 (dk_at dksX7_init_0 1 rfl rfl)
theorem dX7_init_4 : decode cX7_init 4 = .ok (.aload_n 0, 1) := dk_42 (dk_at dksX7_init_0 4 rfl rfl)
theorem dX7_init_5 : decode cX7_init 5 = .ok (.bipush 8, 2) := dk_16 8 (dk_at dksX7_init_0 5 rfl rfl)
theorem dX7_init_7 : decode cX7_init 7 = .ok (.newarray .int, 2) := dk_188_10 (dk_at dksX7_init_0 7 rfl rfl)
theorem dX7_init_9 : decode cX7_init 9 = .ok (.putfield 9, 3) := dk_181 0 9 (dk_at dksX7_init_0 9 rfl rfl)
theorem dX7_init_12 : decode cX7_init 12 = .ok (.aload_n 0, 1) := dk_42 (dk_at dksX7_init_0 12 rfl rfl)
theorem dX7_init_13 : decode cX7_init 13 = .ok (.bipush 8, 2) := dk_16 8 (dk_at dksX7_init_0 13 rfl rfl)
theorem dX7_init_15 : decode cX7_init 15 = .ok (.newarray .int, 2) := dk_188_10 (dk_at dksX7_init_0 15 rfl rfl)
theorem dX7_init_17 : decode cX7_init 17 = .ok (.putfield 15, 3) := dk_181 0 15 (dk_at dksX7_init_0 17 rfl rfl)
theorem dX7_init_20 : decode cX7_init 20 = .ok (.aload_n 0, 1) := dk_42 (dk_at dksX7_init_0 20 rfl rfl)
theorem dX7_init_21 : decode cX7_init 21 = .ok (.bipush 8, 2) := dk_16 8 (dk_at dksX7_init_0 21 rfl rfl)
theorem dX7_init_23 : decode cX7_init 23 = .ok (.newarray .boolean, 2) := dk_188_4 (dk_at dksX7_init_1 0 rfl rfl)
theorem dX7_init_25 : decode cX7_init 25 = .ok (.putfield 18, 3) := dk_181 0 18 (dk_at dksX7_init_1 2 rfl rfl)
theorem dX7_init_28 : decode cX7_init 28 = .ok (.aload_n 0, 1) := dk_42 (dk_at dksX7_init_1 5 rfl rfl)
theorem dX7_init_29 : decode cX7_init 29 = .ok (.new 22, 3) := dk_187 0 22 (dk_at dksX7_init_1 6 rfl rfl)
theorem dX7_init_32 : decode cX7_init 32 = .ok (.dup, 1) := dk_89 (dk_at dksX7_init_1 9 rfl rfl)
theorem dX7_init_33 : decode cX7_init 33 = .ok (.invokespecial 24, 3) := dk_183 0 24 (dk_at dksX7_init_1 10 rfl rfl)
theorem dX7_init_36 : decode cX7_init 36 = .ok (.putfield 25, 3) := dk_181 0 25 (dk_at dksX7_init_1 13 rfl rfl)
theorem dX7_init_39 : decode cX7_init 39 = .ok (.aload_n 0, 1) := dk_42 (dk_at dksX7_init_1 16 rfl rfl)
theorem dX7_init_40 : decode cX7_init 40 = .ok (.aload_n 1, 1) := dk_43 (dk_at dksX7_init_1 17 rfl rfl)
theorem dX7_init_41 : decode cX7_init 41 = .ok (.putfield 29, 3) := dk_181 0 29 (dk_at dksX7_init_1 18 rfl rfl)
theorem dX7_init_44 : decode cX7_init 44 = .ok (.return_, 1) := dk_177 (dk_at dksX7_init_1 21 rfl rfl)
abbrev cX7_inCircles : ByteArray := prog_7_method_2_code
def yX7_inCircles : MethodName := ⟨RX7, "inCircles", "()I"⟩
def dkwX7_inCircles_1 : List UInt8 := [132, 1, 1, 167, 255, 233, 42, 180, 0, 37, 172]
abbrev dktX7_inCircles_1 : List UInt8 := dkwX7_inCircles_1 ++ []
def dkwX7_inCircles_0 : List UInt8 := [3, 60, 27, 16, 8, 162, 0, 23, 42, 180, 0, 9, 27, 46, 154, 0, 8, 42, 27, 182, 0, 33]
abbrev dktX7_inCircles_0 : List UInt8 := dkwX7_inCircles_0 ++ dktX7_inCircles_1
theorem dksX7_inCircles_0 : cX7_inCircles.data.toList.drop 0 = dktX7_inCircles_0 := by decide +kernel
theorem dksX7_inCircles_1 : cX7_inCircles.data.toList.drop 22 = dktX7_inCircles_1 := dk_seg dksX7_inCircles_0 22 rfl rfl
theorem dX7_inCircles_0 : decode cX7_inCircles 0 = .ok (.iconst 0, 1) := dk_3 (dk_at dksX7_inCircles_0 0 rfl rfl)
theorem dX7_inCircles_1 : decode cX7_inCircles 1 = .ok (.istore_n 1, 1) := dk_60 (dk_at dksX7_inCircles_0 1 rfl rfl)
theorem dX7_inCircles_2 : decode cX7_inCircles 2 = .ok (.iload_n 1, 1) := dk_27 (dk_at dksX7_inCircles_0 2 rfl rfl)
theorem dX7_inCircles_3 : decode cX7_inCircles 3 = .ok (.bipush 8, 2) := dk_16 8 (dk_at dksX7_inCircles_0 3 rfl rfl)
theorem dX7_inCircles_5 : decode cX7_inCircles 5 = .ok (.if_icmp .ge 23, 3) := dk_162 0 23 (dk_at dksX7_inCircles_0 5 rfl rfl)
theorem dX7_inCircles_8 : decode cX7_inCircles 8 = .ok (.aload_n 0, 1) := dk_42 (dk_at dksX7_inCircles_0 8 rfl rfl)
theorem dX7_inCircles_9 : decode cX7_inCircles 9 = .ok (.getfield 9, 3) := dk_180 0 9 (dk_at dksX7_inCircles_0 9 rfl rfl)
theorem dX7_inCircles_12 : decode cX7_inCircles 12 = .ok (.iload_n 1, 1) := dk_27 (dk_at dksX7_inCircles_0 12 rfl rfl)
theorem dX7_inCircles_13 : decode cX7_inCircles 13 = .ok (.iaload, 1) := dk_46 (dk_at dksX7_inCircles_0 13 rfl rfl)
theorem dX7_inCircles_14 : decode cX7_inCircles 14 = .ok (.ifCond .ne 8, 3) := dk_154 0 8 (dk_at dksX7_inCircles_0 14 rfl rfl)
theorem dX7_inCircles_17 : decode cX7_inCircles 17 = .ok (.aload_n 0, 1) := dk_42 (dk_at dksX7_inCircles_0 17 rfl rfl)
theorem dX7_inCircles_18 : decode cX7_inCircles 18 = .ok (.iload_n 1, 1) := dk_27 (dk_at dksX7_inCircles_0 18 rfl rfl)
theorem dX7_inCircles_19 : decode cX7_inCircles 19 = .ok (.invokevirtual 33, 3) := dk_182 0 33 (dk_at dksX7_inCircles_0 19 rfl rfl)
theorem dX7_inCircles_22 : decode cX7_inCircles 22 = .ok (.iinc 1 1, 3) := dk_132 1 1 (dk_at dksX7_inCircles_1 0 rfl rfl)
theorem dX7_inCircles_25 : decode cX7_inCircles 25 = .ok (.goto (-23), 3) := dk_167 255 233 (dk_at dksX7_inCircles_1 3 rfl rfl)
theorem dX7_inCircles_28 : decode cX7_inCircles 28 = .ok (.aload_n 0, 1) := dk_42 (dk_at dksX7_inCircles_1 6 rfl rfl)
theorem dX7_inCircles_29 : decode cX7_inCircles 29 = .ok (.getfield 37, 3) := dk_180 0 37 (dk_at dksX7_inCircles_1 7 rfl rfl)
theorem dX7_inCircles_32 : decode cX7_inCircles 32 = .ok (.ireturn, 1) := dk_172 (dk_at dksX7_inCircles_1 10 rfl rfl)
abbrev cX7_visit : ByteArray := prog_7_method_3_code
def yX7_visit : MethodName := ⟨RX7, "visit", "(I)V"⟩
def dkwX7_visit_4 : List UInt8 := [160, 0, 8, 42, 27, 182, 0, 64, 177]
abbrev dktX7_visit_4 : List UInt8 := dkwX7_visit_4 ++ []
def dkwX7_visit_3 : List UInt8 := [28, 182, 0, 60, 132, 2, 1, 167, 255, 227, 42, 180, 0, 15, 27, 46, 42, 180, 0, 9, 27, 46]
abbrev dktX7_visit_3 : List UInt8 := dkwX7_visit_3 ++ dktX7_visit_4
def dkwX7_visit_2 : List UInt8 := [3, 61, 28, 16, 8, 162, 0, 29, 42, 180, 0, 29, 27, 28, 185, 0, 54, 3, 0, 153, 0, 9, 42, 27]
abbrev dktX7_visit_2 : List UInt8 := dkwX7_visit_2 ++ dktX7_visit_3
def dkwX7_visit_1 : List UInt8 := [27, 42, 180, 0, 41, 79, 42, 180, 0, 18, 27, 4, 84, 42, 180, 0, 25, 27, 184, 0, 44, 182, 0, 50]
abbrev dktX7_visit_1 : List UInt8 := dkwX7_visit_1 ++ dktX7_visit_2
def dkwX7_visit_0 : List UInt8 := [42, 89, 180, 0, 41, 4, 96, 181, 0, 41, 42, 180, 0, 9, 27, 42, 180, 0, 41, 79, 42, 180, 0, 15]
abbrev dktX7_visit_0 : List UInt8 := dkwX7_visit_0 ++ dktX7_visit_1
theorem dksX7_visit_0 : cX7_visit.data.toList.drop 0 = dktX7_visit_0 := by decide +kernel
theorem dksX7_visit_1 : cX7_visit.data.toList.drop 24 = dktX7_visit_1 := dk_seg dksX7_visit_0 24 rfl rfl
theorem dksX7_visit_2 : cX7_visit.data.toList.drop 48 = dktX7_visit_2 := dk_seg dksX7_visit_1 24 rfl rfl
theorem dksX7_visit_3 : cX7_visit.data.toList.drop 72 = dktX7_visit_3 := dk_seg dksX7_visit_2 24 rfl rfl
theorem dksX7_visit_4 : cX7_visit.data.toList.drop 94 = dktX7_visit_4 := dk_seg dksX7_visit_3 22 rfl rfl
theorem dX7_visit_0 : decode cX7_visit 0 = .ok (.aload_n 0, 1) := dk_42 (dk_at dksX7_visit_0 0 rfl rfl)
theorem dX7_visit_1 : decode cX7_visit 1 = .ok (.dup, 1) := dk_89 (dk_at dksX7_visit_0 1 rfl rfl)
theorem dX7_visit_2 : decode cX7_visit 2 = .ok (.getfield 41, 3) := dk_180 0 41 (dk_at dksX7_visit_0 2 rfl rfl)
theorem dX7_visit_5 : decode cX7_visit 5 = .ok (.iconst 1, 1) := dk_4 (dk_at dksX7_visit_0 5 rfl rfl)
theorem dX7_visit_6 : decode cX7_visit 6 = .ok (.iadd, 1) := dk_96 (dk_at dksX7_visit_0 6 rfl rfl)
theorem dX7_visit_7 : decode cX7_visit 7 = .ok (.putfield 41, 3) := dk_181 0 41 (dk_at dksX7_visit_0 7 rfl rfl)
theorem dX7_visit_10 : decode cX7_visit 10 = .ok (.aload_n 0, 1) := dk_42 (dk_at dksX7_visit_0 10 rfl rfl)
theorem dX7_visit_11 : decode cX7_visit 11 = .ok (.getfield 9, 3) := dk_180 0 9 (dk_at dksX7_visit_0 11 rfl rfl)
theorem dX7_visit_14 : decode cX7_visit 14 = .ok (.iload_n 1, 1) := dk_27 (dk_at dksX7_visit_0 14 rfl rfl)
theorem dX7_visit_15 : decode cX7_visit 15 = .ok (.aload_n 0, 1) := dk_42 (dk_at dksX7_visit_0 15 rfl rfl)
theorem dX7_visit_16 : decode cX7_visit 16 = .ok (.getfield 41, 3) := dk_180 0 41 (dk_at dksX7_visit_0 16 rfl rfl)
theorem dX7_visit_19 : decode cX7_visit 19 = .ok (.iastore, 1) := dk_79 (dk_at dksX7_visit_0 19 rfl rfl)
theorem dX7_visit_20 : decode cX7_visit 20 = .ok (.aload_n 0, 1) := dk_42 (dk_at dksX7_visit_0 20 rfl rfl)
theorem dX7_visit_21 : decode cX7_visit 21 = .ok (.getfield 15, 3) := dk_180 0 15 (dk_at dksX7_visit_0 21 rfl rfl)
theorem dX7_visit_24 : decode cX7_visit 24 = .ok (.iload_n 1, 1) := dk_27 (dk_at dksX7_visit_1 0 rfl rfl)
theorem dX7_visit_25 : decode cX7_visit 25 = .ok (.aload_n 0, 1) := dk_42 (dk_at dksX7_visit_1 1 rfl rfl)
theorem dX7_visit_26 : decode cX7_visit 26 = .ok (.getfield 41, 3) := dk_180 0 41 (dk_at dksX7_visit_1 2 rfl rfl)
theorem dX7_visit_29 : decode cX7_visit 29 = .ok (.iastore, 1) := dk_79 (dk_at dksX7_visit_1 5 rfl rfl)
theorem dX7_visit_30 : decode cX7_visit 30 = .ok (.aload_n 0, 1) := dk_42 (dk_at dksX7_visit_1 6 rfl rfl)
theorem dX7_visit_31 : decode cX7_visit 31 = .ok (.getfield 18, 3) := dk_180 0 18 (dk_at dksX7_visit_1 7 rfl rfl)
theorem dX7_visit_34 : decode cX7_visit 34 = .ok (.iload_n 1, 1) := dk_27 (dk_at dksX7_visit_1 10 rfl rfl)
theorem dX7_visit_35 : decode cX7_visit 35 = .ok (.iconst 1, 1) := dk_4 (dk_at dksX7_visit_1 11 rfl rfl)
theorem dX7_visit_36 : decode cX7_visit 36 = .ok (.bastore, 1) := dk_84 (dk_at dksX7_visit_1 12 rfl rfl)
theorem dX7_visit_37 : decode cX7_visit 37 = .ok (.aload_n 0, 1) := dk_42 (dk_at dksX7_visit_1 13 rfl rfl)
theorem dX7_visit_38 : decode cX7_visit 38 = .ok (.getfield 25, 3) := dk_180 0 25 (dk_at dksX7_visit_1 14 rfl rfl)
theorem dX7_visit_41 : decode cX7_visit 41 = .ok (.iload_n 1, 1) := dk_27 (dk_at dksX7_visit_1 17 rfl rfl)
theorem dX7_visit_42 : decode cX7_visit 42 = .ok (.invokestatic 44, 3) := dk_184 0 44 (dk_at dksX7_visit_1 18 rfl rfl)
theorem dX7_visit_45 : decode cX7_visit 45 = .ok (.invokevirtual 50, 3) := dk_182 0 50 (dk_at dksX7_visit_1 21 rfl rfl)
theorem dX7_visit_48 : decode cX7_visit 48 = .ok (.iconst 0, 1) := dk_3 (dk_at dksX7_visit_2 0 rfl rfl)
theorem dX7_visit_49 : decode cX7_visit 49 = .ok (.istore_n 2, 1) := dk_61 (dk_at dksX7_visit_2 1 rfl rfl)
theorem dX7_visit_50 : decode cX7_visit 50 = .ok (.iload_n 2, 1) := dk_28 (dk_at dksX7_visit_2 2 rfl rfl)
theorem dX7_visit_51 : decode cX7_visit 51 = .ok (.bipush 8, 2) := dk_16 8 (dk_at dksX7_visit_2 3 rfl rfl)
theorem dX7_visit_53 : decode cX7_visit 53 = .ok (.if_icmp .ge 29, 3) := dk_162 0 29 (dk_at dksX7_visit_2 5 rfl rfl)
theorem dX7_visit_56 : decode cX7_visit 56 = .ok (.aload_n 0, 1) := dk_42 (dk_at dksX7_visit_2 8 rfl rfl)
theorem dX7_visit_57 : decode cX7_visit 57 = .ok (.getfield 29, 3) := dk_180 0 29 (dk_at dksX7_visit_2 9 rfl rfl)
theorem dX7_visit_60 : decode cX7_visit 60 = .ok (.iload_n 1, 1) := dk_27 (dk_at dksX7_visit_2 12 rfl rfl)
theorem dX7_visit_61 : decode cX7_visit 61 = .ok (.iload_n 2, 1) := dk_28 (dk_at dksX7_visit_2 13 rfl rfl)
theorem dX7_visit_62 : decode cX7_visit 62 = .ok (.invokeinterface 54 3, 5) := by decide +kernel
theorem dX7_visit_67 : decode cX7_visit 67 = .ok (.ifCond .eq 9, 3) := dk_153 0 9 (dk_at dksX7_visit_2 19 rfl rfl)
theorem dX7_visit_70 : decode cX7_visit 70 = .ok (.aload_n 0, 1) := dk_42 (dk_at dksX7_visit_2 22 rfl rfl)
theorem dX7_visit_71 : decode cX7_visit 71 = .ok (.iload_n 1, 1) := dk_27 (dk_at dksX7_visit_2 23 rfl rfl)
theorem dX7_visit_72 : decode cX7_visit 72 = .ok (.iload_n 2, 1) := dk_28 (dk_at dksX7_visit_3 0 rfl rfl)
theorem dX7_visit_73 : decode cX7_visit 73 = .ok (.invokevirtual 60, 3) := dk_182 0 60 (dk_at dksX7_visit_3 1 rfl rfl)
theorem dX7_visit_76 : decode cX7_visit 76 = .ok (.iinc 2 1, 3) := dk_132 2 1 (dk_at dksX7_visit_3 4 rfl rfl)
theorem dX7_visit_79 : decode cX7_visit 79 = .ok (.goto (-29), 3) := dk_167 255 227 (dk_at dksX7_visit_3 7 rfl rfl)
theorem dX7_visit_82 : decode cX7_visit 82 = .ok (.aload_n 0, 1) := dk_42 (dk_at dksX7_visit_3 10 rfl rfl)
theorem dX7_visit_83 : decode cX7_visit 83 = .ok (.getfield 15, 3) := dk_180 0 15 (dk_at dksX7_visit_3 11 rfl rfl)
theorem dX7_visit_86 : decode cX7_visit 86 = .ok (.iload_n 1, 1) := dk_27 (dk_at dksX7_visit_3 14 rfl rfl)
theorem dX7_visit_87 : decode cX7_visit 87 = .ok (.iaload, 1) := dk_46 (dk_at dksX7_visit_3 15 rfl rfl)
theorem dX7_visit_88 : decode cX7_visit 88 = .ok (.aload_n 0, 1) := dk_42 (dk_at dksX7_visit_3 16 rfl rfl)
theorem dX7_visit_89 : decode cX7_visit 89 = .ok (.getfield 9, 3) := dk_180 0 9 (dk_at dksX7_visit_3 17 rfl rfl)
theorem dX7_visit_92 : decode cX7_visit 92 = .ok (.iload_n 1, 1) := dk_27 (dk_at dksX7_visit_3 20 rfl rfl)
theorem dX7_visit_93 : decode cX7_visit 93 = .ok (.iaload, 1) := dk_46 (dk_at dksX7_visit_3 21 rfl rfl)
theorem dX7_visit_94 : decode cX7_visit 94 = .ok (.if_icmp .ne 8, 3) := dk_160 0 8 (dk_at dksX7_visit_4 0 rfl rfl)
theorem dX7_visit_97 : decode cX7_visit 97 = .ok (.aload_n 0, 1) := dk_42 (dk_at dksX7_visit_4 3 rfl rfl)
theorem dX7_visit_98 : decode cX7_visit 98 = .ok (.iload_n 1, 1) := dk_27 (dk_at dksX7_visit_4 4 rfl rfl)
theorem dX7_visit_99 : decode cX7_visit 99 = .ok (.invokevirtual 64, 3) := dk_182 0 64 (dk_at dksX7_visit_4 5 rfl rfl)
theorem dX7_visit_102 : decode cX7_visit 102 = .ok (.return_, 1) := dk_177 (dk_at dksX7_visit_4 8 rfl rfl)
abbrev cX7_follow : ByteArray := prog_7_method_4_code
def yX7_follow : MethodName := ⟨RX7, "follow", "(II)V"⟩
def dkwX7_follow_2 : List UInt8 := [180, 0, 15, 27, 42, 180, 0, 15, 27, 46, 42, 180, 0, 9, 28, 46, 184, 0, 67, 79, 177]
abbrev dktX7_follow_2 : List UInt8 := dkwX7_follow_2 ++ []
def dkwX7_follow_1 : List UInt8 := [46, 42, 180, 0, 15, 28, 46, 184, 0, 67, 79, 167, 0, 33, 42, 180, 0, 18, 28, 51, 153, 0, 24, 42]
abbrev dktX7_follow_1 : List UInt8 := dkwX7_follow_1 ++ dktX7_follow_2
def dkwX7_follow_0 : List UInt8 := [42, 180, 0, 9, 28, 46, 154, 0, 32, 42, 28, 182, 0, 33, 42, 180, 0, 15, 27, 42, 180, 0, 15, 27]
abbrev dktX7_follow_0 : List UInt8 := dkwX7_follow_0 ++ dktX7_follow_1
theorem dksX7_follow_0 : cX7_follow.data.toList.drop 0 = dktX7_follow_0 := by decide +kernel
theorem dksX7_follow_1 : cX7_follow.data.toList.drop 24 = dktX7_follow_1 := dk_seg dksX7_follow_0 24 rfl rfl
theorem dksX7_follow_2 : cX7_follow.data.toList.drop 48 = dktX7_follow_2 := dk_seg dksX7_follow_1 24 rfl rfl
theorem dX7_follow_0 : decode cX7_follow 0 = .ok (.aload_n 0, 1) := dk_42 (dk_at dksX7_follow_0 0 rfl rfl)
theorem dX7_follow_1 : decode cX7_follow 1 = .ok (.getfield 9, 3) := dk_180 0 9 (dk_at dksX7_follow_0 1 rfl rfl)
theorem dX7_follow_4 : decode cX7_follow 4 = .ok (.iload_n 2, 1) := dk_28 (dk_at dksX7_follow_0 4 rfl rfl)
theorem dX7_follow_5 : decode cX7_follow 5 = .ok (.iaload, 1) := dk_46 (dk_at dksX7_follow_0 5 rfl rfl)
theorem dX7_follow_6 : decode cX7_follow 6 = .ok (.ifCond .ne 32, 3) := dk_154 0 32 (dk_at dksX7_follow_0 6 rfl rfl)
theorem dX7_follow_9 : decode cX7_follow 9 = .ok (.aload_n 0, 1) := dk_42 (dk_at dksX7_follow_0 9 rfl rfl)
theorem dX7_follow_10 : decode cX7_follow 10 = .ok (.iload_n 2, 1) := dk_28 (dk_at dksX7_follow_0 10 rfl rfl)
theorem dX7_follow_11 : decode cX7_follow 11 = .ok (.invokevirtual 33, 3) := dk_182 0 33 (dk_at dksX7_follow_0 11 rfl rfl)
theorem dX7_follow_14 : decode cX7_follow 14 = .ok (.aload_n 0, 1) := dk_42 (dk_at dksX7_follow_0 14 rfl rfl)
theorem dX7_follow_15 : decode cX7_follow 15 = .ok (.getfield 15, 3) := dk_180 0 15 (dk_at dksX7_follow_0 15 rfl rfl)
theorem dX7_follow_18 : decode cX7_follow 18 = .ok (.iload_n 1, 1) := dk_27 (dk_at dksX7_follow_0 18 rfl rfl)
theorem dX7_follow_19 : decode cX7_follow 19 = .ok (.aload_n 0, 1) := dk_42 (dk_at dksX7_follow_0 19 rfl rfl)
theorem dX7_follow_20 : decode cX7_follow 20 = .ok (.getfield 15, 3) := dk_180 0 15 (dk_at dksX7_follow_0 20 rfl rfl)
theorem dX7_follow_23 : decode cX7_follow 23 = .ok (.iload_n 1, 1) := dk_27 (dk_at dksX7_follow_0 23 rfl rfl)
theorem dX7_follow_24 : decode cX7_follow 24 = .ok (.iaload, 1) := dk_46 (dk_at dksX7_follow_1 0 rfl rfl)
theorem dX7_follow_25 : decode cX7_follow 25 = .ok (.aload_n 0, 1) := dk_42 (dk_at dksX7_follow_1 1 rfl rfl)
theorem dX7_follow_26 : decode cX7_follow 26 = .ok (.getfield 15, 3) := dk_180 0 15 (dk_at dksX7_follow_1 2 rfl rfl)
theorem dX7_follow_29 : decode cX7_follow 29 = .ok (.iload_n 2, 1) := dk_28 (dk_at dksX7_follow_1 5 rfl rfl)
theorem dX7_follow_30 : decode cX7_follow 30 = .ok (.iaload, 1) := dk_46 (dk_at dksX7_follow_1 6 rfl rfl)
theorem dX7_follow_31 : decode cX7_follow 31 = .ok (.invokestatic 67, 3) := dk_184 0 67 (dk_at dksX7_follow_1 7 rfl rfl)
theorem dX7_follow_34 : decode cX7_follow 34 = .ok (.iastore, 1) := dk_79 (dk_at dksX7_follow_1 10 rfl rfl)
theorem dX7_follow_35 : decode cX7_follow 35 = .ok (.goto 33, 3) := dk_167 0 33 (dk_at dksX7_follow_1 11 rfl rfl)
theorem dX7_follow_38 : decode cX7_follow 38 = .ok (.aload_n 0, 1) := dk_42 (dk_at dksX7_follow_1 14 rfl rfl)
theorem dX7_follow_39 : decode cX7_follow 39 = .ok (.getfield 18, 3) := dk_180 0 18 (dk_at dksX7_follow_1 15 rfl rfl)
theorem dX7_follow_42 : decode cX7_follow 42 = .ok (.iload_n 2, 1) := dk_28 (dk_at dksX7_follow_1 18 rfl rfl)
theorem dX7_follow_43 : decode cX7_follow 43 = .ok (.baload, 1) := dk_51 (dk_at dksX7_follow_1 19 rfl rfl)
theorem dX7_follow_44 : decode cX7_follow 44 = .ok (.ifCond .eq 24, 3) := dk_153 0 24 (dk_at dksX7_follow_1 20 rfl rfl)
theorem dX7_follow_47 : decode cX7_follow 47 = .ok (.aload_n 0, 1) := dk_42 (dk_at dksX7_follow_1 23 rfl rfl)
theorem dX7_follow_48 : decode cX7_follow 48 = .ok (.getfield 15, 3) := dk_180 0 15 (dk_at dksX7_follow_2 0 rfl rfl)
theorem dX7_follow_51 : decode cX7_follow 51 = .ok (.iload_n 1, 1) := dk_27 (dk_at dksX7_follow_2 3 rfl rfl)
theorem dX7_follow_52 : decode cX7_follow 52 = .ok (.aload_n 0, 1) := dk_42 (dk_at dksX7_follow_2 4 rfl rfl)
theorem dX7_follow_53 : decode cX7_follow 53 = .ok (.getfield 15, 3) := dk_180 0 15 (dk_at dksX7_follow_2 5 rfl rfl)
theorem dX7_follow_56 : decode cX7_follow 56 = .ok (.iload_n 1, 1) := dk_27 (dk_at dksX7_follow_2 8 rfl rfl)
theorem dX7_follow_57 : decode cX7_follow 57 = .ok (.iaload, 1) := dk_46 (dk_at dksX7_follow_2 9 rfl rfl)
theorem dX7_follow_58 : decode cX7_follow 58 = .ok (.aload_n 0, 1) := dk_42 (dk_at dksX7_follow_2 10 rfl rfl)
theorem dX7_follow_59 : decode cX7_follow 59 = .ok (.getfield 9, 3) := dk_180 0 9 (dk_at dksX7_follow_2 11 rfl rfl)
theorem dX7_follow_62 : decode cX7_follow 62 = .ok (.iload_n 2, 1) := dk_28 (dk_at dksX7_follow_2 14 rfl rfl)
theorem dX7_follow_63 : decode cX7_follow 63 = .ok (.iaload, 1) := dk_46 (dk_at dksX7_follow_2 15 rfl rfl)
theorem dX7_follow_64 : decode cX7_follow 64 = .ok (.invokestatic 67, 3) := dk_184 0 67 (dk_at dksX7_follow_2 16 rfl rfl)
theorem dX7_follow_67 : decode cX7_follow 67 = .ok (.iastore, 1) := dk_79 (dk_at dksX7_follow_2 19 rfl rfl)
theorem dX7_follow_68 : decode cX7_follow 68 = .ok (.return_, 1) := dk_177 (dk_at dksX7_follow_2 20 rfl rfl)
abbrev cX7_close : ByteArray := prog_7_method_5_code
def yX7_close : MethodName := ⟨RX7, "close", "(I)V"⟩
def dkwX7_close_2 : List UInt8 := [185, 0, 54, 3, 0, 153, 0, 7, 28, 167, 0, 4, 3, 96, 181, 0, 37, 177]
abbrev dktX7_close_2 : List UInt8 := dkwX7_close_2 ++ []
def dkwX7_close_1 : List UInt8 := [132, 2, 1, 29, 27, 160, 255, 230, 42, 89, 180, 0, 37, 28, 4, 163, 0, 17, 42, 180, 0, 29, 27, 27]
abbrev dktX7_close_1 : List UInt8 := dkwX7_close_1 ++ dktX7_close_2
def dkwX7_close_0 : List UInt8 := [3, 61, 42, 180, 0, 25, 182, 0, 73, 192, 0, 45, 182, 0, 77, 62, 42, 180, 0, 18, 29, 3, 84]
abbrev dktX7_close_0 : List UInt8 := dkwX7_close_0 ++ dktX7_close_1
theorem dksX7_close_0 : cX7_close.data.toList.drop 0 = dktX7_close_0 := by decide +kernel
theorem dksX7_close_1 : cX7_close.data.toList.drop 23 = dktX7_close_1 := dk_seg dksX7_close_0 23 rfl rfl
theorem dksX7_close_2 : cX7_close.data.toList.drop 47 = dktX7_close_2 := dk_seg dksX7_close_1 24 rfl rfl
theorem dX7_close_0 : decode cX7_close 0 = .ok (.iconst 0, 1) := dk_3 (dk_at dksX7_close_0 0 rfl rfl)
theorem dX7_close_1 : decode cX7_close 1 = .ok (.istore_n 2, 1) := dk_61 (dk_at dksX7_close_0 1 rfl rfl)
theorem dX7_close_2 : decode cX7_close 2 = .ok (.aload_n 0, 1) := dk_42 (dk_at dksX7_close_0 2 rfl rfl)
theorem dX7_close_3 : decode cX7_close 3 = .ok (.getfield 25, 3) := dk_180 0 25 (dk_at dksX7_close_0 3 rfl rfl)
theorem dX7_close_6 : decode cX7_close 6 = .ok (.invokevirtual 73, 3) := dk_182 0 73 (dk_at dksX7_close_0 6 rfl rfl)
theorem dX7_close_9 : decode cX7_close 9 = .ok (.checkcast 45, 3) := dk_192 0 45 (dk_at dksX7_close_0 9 rfl rfl)
theorem dX7_close_12 : decode cX7_close 12 = .ok (.invokevirtual 77, 3) := dk_182 0 77 (dk_at dksX7_close_0 12 rfl rfl)
theorem dX7_close_15 : decode cX7_close 15 = .ok (.istore_n 3, 1) := dk_62 (dk_at dksX7_close_0 15 rfl rfl)
theorem dX7_close_16 : decode cX7_close 16 = .ok (.aload_n 0, 1) := dk_42 (dk_at dksX7_close_0 16 rfl rfl)
theorem dX7_close_17 : decode cX7_close 17 = .ok (.getfield 18, 3) := dk_180 0 18 (dk_at dksX7_close_0 17 rfl rfl)
theorem dX7_close_20 : decode cX7_close 20 = .ok (.iload_n 3, 1) := dk_29 (dk_at dksX7_close_0 20 rfl rfl)
theorem dX7_close_21 : decode cX7_close 21 = .ok (.iconst 0, 1) := dk_3 (dk_at dksX7_close_0 21 rfl rfl)
theorem dX7_close_22 : decode cX7_close 22 = .ok (.bastore, 1) := dk_84 (dk_at dksX7_close_0 22 rfl rfl)
theorem dX7_close_23 : decode cX7_close 23 = .ok (.iinc 2 1, 3) := dk_132 2 1 (dk_at dksX7_close_1 0 rfl rfl)
theorem dX7_close_26 : decode cX7_close 26 = .ok (.iload_n 3, 1) := dk_29 (dk_at dksX7_close_1 3 rfl rfl)
theorem dX7_close_27 : decode cX7_close 27 = .ok (.iload_n 1, 1) := dk_27 (dk_at dksX7_close_1 4 rfl rfl)
theorem dX7_close_28 : decode cX7_close 28 = .ok (.if_icmp .ne (-26), 3) := dk_160 255 230 (dk_at dksX7_close_1 5 rfl rfl)
theorem dX7_close_31 : decode cX7_close 31 = .ok (.aload_n 0, 1) := dk_42 (dk_at dksX7_close_1 8 rfl rfl)
theorem dX7_close_32 : decode cX7_close 32 = .ok (.dup, 1) := dk_89 (dk_at dksX7_close_1 9 rfl rfl)
theorem dX7_close_33 : decode cX7_close 33 = .ok (.getfield 37, 3) := dk_180 0 37 (dk_at dksX7_close_1 10 rfl rfl)
theorem dX7_close_36 : decode cX7_close 36 = .ok (.iload_n 2, 1) := dk_28 (dk_at dksX7_close_1 13 rfl rfl)
theorem dX7_close_37 : decode cX7_close 37 = .ok (.iconst 1, 1) := dk_4 (dk_at dksX7_close_1 14 rfl rfl)
theorem dX7_close_38 : decode cX7_close 38 = .ok (.if_icmp .gt 17, 3) := dk_163 0 17 (dk_at dksX7_close_1 15 rfl rfl)
theorem dX7_close_41 : decode cX7_close 41 = .ok (.aload_n 0, 1) := dk_42 (dk_at dksX7_close_1 18 rfl rfl)
theorem dX7_close_42 : decode cX7_close 42 = .ok (.getfield 29, 3) := dk_180 0 29 (dk_at dksX7_close_1 19 rfl rfl)
theorem dX7_close_45 : decode cX7_close 45 = .ok (.iload_n 1, 1) := dk_27 (dk_at dksX7_close_1 22 rfl rfl)
theorem dX7_close_46 : decode cX7_close 46 = .ok (.iload_n 1, 1) := dk_27 (dk_at dksX7_close_1 23 rfl rfl)
theorem dX7_close_47 : decode cX7_close 47 = .ok (.invokeinterface 54 3, 5) := by decide +kernel
theorem dX7_close_52 : decode cX7_close 52 = .ok (.ifCond .eq 7, 3) := dk_153 0 7 (dk_at dksX7_close_2 5 rfl rfl)
theorem dX7_close_55 : decode cX7_close 55 = .ok (.iload_n 2, 1) := dk_28 (dk_at dksX7_close_2 8 rfl rfl)
theorem dX7_close_56 : decode cX7_close 56 = .ok (.goto 4, 3) := dk_167 0 4 (dk_at dksX7_close_2 9 rfl rfl)
theorem dX7_close_59 : decode cX7_close 59 = .ok (.iconst 0, 1) := dk_3 (dk_at dksX7_close_2 12 rfl rfl)
theorem dX7_close_60 : decode cX7_close 60 = .ok (.iadd, 1) := dk_96 (dk_at dksX7_close_2 13 rfl rfl)
theorem dX7_close_61 : decode cX7_close 61 = .ok (.putfield 37, 3) := dk_181 0 37 (dk_at dksX7_close_2 14 rfl rfl)
theorem dX7_close_64 : decode cX7_close 64 = .ok (.return_, 1) := dk_177 (dk_at dksX7_close_2 17 rfl rfl)
theorem q123 : (Jvm.Cond.initialized "ClockworkTailor$Sets") ∈ lw_all := lw_g (lw_at lw_m1 30 rfl) rfl
theorem q441 : (Jvm.Cond.selects "ClockworkTailor$Sets" ({ cls := "java/lang/Object", name := "getClass", desc := "()Ljava/lang/Class;" } : Jvm.MethodName) ({ cls := "java/lang/Object", name := "getClass", desc := "()Ljava/lang/Class;" } : Jvm.MethodName)) ∈ lw_all := lw_g (lw_at lw_m2 108 rfl) rfl
theorem q608 : (Jvm.Cond.instantiable "ClockworkTailor$Sets" (7 : Nat)) ∈ lw_all := lw_g (lw_at lw_m3 35 rfl) rfl
theorem q610 : (Jvm.Cond.instanceMethod ({ cls := "ClockworkTailor$Sets", name := "<init>", desc := "(LClockworkTailor$Way;)V" } : Jvm.MethodName)) ∈ lw_all := lw_g (lw_at lw_m3 37 rfl) rfl
theorem q611 : (Jvm.Cond.code ({ cls := "ClockworkTailor$Sets", name := "<init>", desc := "(LClockworkTailor$Way;)V" } : Jvm.MethodName) prog_7_method_1_code (2 : Nat) (Option.none : Option Jvm.ClassFile.FieldType)) ∈ lw_all := lw_g (lw_at lw_m3 38 rfl) rfl
theorem q612 : (Jvm.Cond.methodLink "ClockworkTailor$Sets" (3 : Nat) ({ cls := "java/lang/Object", name := "<init>", desc := "()V" } : Jvm.MethodName)) ∈ lw_all := lw_g (lw_at lw_m3 39 rfl) rfl
theorem q613 : (Jvm.Cond.classLink "ClockworkTailor$Sets" (22 : Nat) "java/util/ArrayDeque") ∈ lw_all := lw_g (lw_at lw_m3 40 rfl) rfl
theorem q614 : (Jvm.Cond.methodLink "ClockworkTailor$Sets" (24 : Nat) ({ cls := "java/util/ArrayDeque", name := "<init>", desc := "()V" } : Jvm.MethodName)) ∈ lw_all := lw_g (lw_at lw_m3 41 rfl) rfl
theorem q615 : (Jvm.Cond.fieldLink "ClockworkTailor$Sets" (29 : Nat) "ClockworkTailor$Sets" "way" "LClockworkTailor$Way;") ∈ lw_all := lw_g (lw_at lw_m3 42 rfl) rfl
theorem q616 : (Jvm.Cond.fieldLink "ClockworkTailor$Sets" (9 : Nat) "ClockworkTailor$Sets" "order" "[I") ∈ lw_all := lw_g (lw_at lw_m3 43 rfl) rfl
theorem q617 : (Jvm.Cond.fieldLink "ClockworkTailor$Sets" (15 : Nat) "ClockworkTailor$Sets" "lowest" "[I") ∈ lw_all := lw_g (lw_at lw_m3 44 rfl) rfl
theorem q618 : (Jvm.Cond.fieldLink "ClockworkTailor$Sets" (18 : Nat) "ClockworkTailor$Sets" "isOpen" "[Z") ∈ lw_all := lw_g (lw_at lw_m3 45 rfl) rfl
theorem q619 : (Jvm.Cond.fieldLink "ClockworkTailor$Sets" (25 : Nat) "ClockworkTailor$Sets" "open" "Ljava/util/ArrayDeque;") ∈ lw_all := lw_g (lw_at lw_m3 46 rfl) rfl
theorem q620 : (Jvm.Cond.fieldLink "ClockworkTailor$Sets" (41 : Nat) "ClockworkTailor$Sets" "found" "I") ∈ lw_all := lw_g (lw_at lw_m3 47 rfl) rfl
theorem q621 : (Jvm.Cond.fieldLink "ClockworkTailor$Sets" (37 : Nat) "ClockworkTailor$Sets" "inCircles" "I") ∈ lw_all := lw_g (lw_at lw_m3 48 rfl) rfl
theorem q622 : (Jvm.Cond.laysFinal "ClockworkTailor$Sets" "ClockworkTailor$Sets" "way" "LClockworkTailor$Way;") ∈ lw_all := lw_g (lw_at lw_m3 49 rfl) rfl
theorem q623 : (Jvm.Cond.soleField "ClockworkTailor$Sets" "way") ∈ lw_all := lw_g (lw_at lw_m3 50 rfl) rfl
theorem q624 : (Jvm.Cond.laysFinal "ClockworkTailor$Sets" "ClockworkTailor$Sets" "order" "[I") ∈ lw_all := lw_g (lw_at lw_m3 51 rfl) rfl
theorem q625 : (Jvm.Cond.soleField "ClockworkTailor$Sets" "order") ∈ lw_all := lw_g (lw_at lw_m3 52 rfl) rfl
theorem q626 : (Jvm.Cond.laysFinal "ClockworkTailor$Sets" "ClockworkTailor$Sets" "lowest" "[I") ∈ lw_all := lw_g (lw_at lw_m3 53 rfl) rfl
theorem q627 : (Jvm.Cond.soleField "ClockworkTailor$Sets" "lowest") ∈ lw_all := lw_g (lw_at lw_m3 54 rfl) rfl
theorem q628 : (Jvm.Cond.laysFinal "ClockworkTailor$Sets" "ClockworkTailor$Sets" "isOpen" "[Z") ∈ lw_all := lw_g (lw_at lw_m3 55 rfl) rfl
theorem q629 : (Jvm.Cond.soleField "ClockworkTailor$Sets" "isOpen") ∈ lw_all := lw_g (lw_at lw_m3 56 rfl) rfl
theorem q630 : (Jvm.Cond.laysFinal "ClockworkTailor$Sets" "ClockworkTailor$Sets" "open" "Ljava/util/ArrayDeque;") ∈ lw_all := lw_g (lw_at lw_m3 57 rfl) rfl
theorem q631 : (Jvm.Cond.soleField "ClockworkTailor$Sets" "open") ∈ lw_all := lw_g (lw_at lw_m3 58 rfl) rfl
theorem q632 : (Jvm.Cond.lays "ClockworkTailor$Sets" "ClockworkTailor$Sets" "found" "I") ∈ lw_all := lw_g (lw_at lw_m3 59 rfl) rfl
theorem q633 : (Jvm.Cond.soleField "ClockworkTailor$Sets" "found") ∈ lw_all := lw_g (lw_at lw_m3 60 rfl) rfl
theorem q634 : (Jvm.Cond.lays "ClockworkTailor$Sets" "ClockworkTailor$Sets" "inCircles" "I") ∈ lw_all := lw_g (lw_at lw_m3 61 rfl) rfl
theorem q635 : (Jvm.Cond.soleField "ClockworkTailor$Sets" "inCircles") ∈ lw_all := lw_g (lw_at lw_m3 62 rfl) rfl
theorem q636 : (Jvm.Cond.superclass "ClockworkTailor$Sets" "java/lang/Object") ∈ lw_all := lw_g (lw_at lw_m3 63 rfl) rfl
theorem q638 : (Jvm.Cond.instanceMethod ({ cls := "ClockworkTailor$Sets", name := "inCircles", desc := "()I" } : Jvm.MethodName)) ∈ lw_all := lw_g (lw_at lw_m3 65 rfl) rfl
theorem q639 : (Jvm.Cond.selects "ClockworkTailor$Sets" ({ cls := "ClockworkTailor$Sets", name := "inCircles", desc := "()I" } : Jvm.MethodName) ({ cls := "ClockworkTailor$Sets", name := "inCircles", desc := "()I" } : Jvm.MethodName)) ∈ lw_all := lw_g (lw_at lw_m3 66 rfl) rfl
theorem q640 : (Jvm.Cond.code ({ cls := "ClockworkTailor$Sets", name := "inCircles", desc := "()I" } : Jvm.MethodName) prog_7_method_2_code (2 : Nat) (Option.some Jvm.ClassFile.FieldType.int)) ∈ lw_all := lw_g (lw_at lw_m3 67 rfl) rfl
theorem q641 : (Jvm.Cond.methodLink "ClockworkTailor$Sets" (33 : Nat) ({ cls := "ClockworkTailor$Sets", name := "visit", desc := "(I)V" } : Jvm.MethodName)) ∈ lw_all := lw_g (lw_at lw_m3 68 rfl) rfl
theorem q642 : (Jvm.Cond.privateMethod ({ cls := "ClockworkTailor$Sets", name := "visit", desc := "(I)V" } : Jvm.MethodName)) ∈ lw_tbl := lw_at lw_m3 69 rfl
theorem q643 : (Jvm.Cond.instanceMethod ({ cls := "ClockworkTailor$Sets", name := "visit", desc := "(I)V" } : Jvm.MethodName)) ∈ lw_all := lw_g (lw_at lw_m3 70 rfl) rfl
theorem q644 : (Jvm.Cond.code ({ cls := "ClockworkTailor$Sets", name := "visit", desc := "(I)V" } : Jvm.MethodName) prog_7_method_3_code (3 : Nat) (Option.none : Option Jvm.ClassFile.FieldType)) ∈ lw_all := lw_g (lw_at lw_m3 71 rfl) rfl
theorem q645 : (Jvm.Cond.methodLink "ClockworkTailor$Sets" (44 : Nat) ({ cls := "java/lang/Integer", name := "valueOf", desc := "(I)Ljava/lang/Integer;" } : Jvm.MethodName)) ∈ lw_all := lw_g (lw_at lw_m3 72 rfl) rfl
theorem q646 : (Jvm.Cond.methodLink "ClockworkTailor$Sets" (50 : Nat) ({ cls := "java/util/ArrayDeque", name := "addLast", desc := "(Ljava/lang/Object;)V" } : Jvm.MethodName)) ∈ lw_all := lw_g (lw_at lw_m3 73 rfl) rfl
theorem q647 : (Jvm.Cond.interfaceEntry "ClockworkTailor$Sets" (54 : Nat)) ∈ lw_tbl := lw_at lw_m3 74 rfl
theorem q648 : (Jvm.Cond.methodLink "ClockworkTailor$Sets" (54 : Nat) ({ cls := "ClockworkTailor$Way", name := "leads", desc := "(II)Z" } : Jvm.MethodName)) ∈ lw_all := lw_g (lw_at lw_m3 75 rfl) rfl
theorem q649 : (Jvm.Cond.methodLink "ClockworkTailor$Sets" (60 : Nat) ({ cls := "ClockworkTailor$Sets", name := "follow", desc := "(II)V" } : Jvm.MethodName)) ∈ lw_all := lw_g (lw_at lw_m3 76 rfl) rfl
theorem q650 : (Jvm.Cond.privateMethod ({ cls := "ClockworkTailor$Sets", name := "follow", desc := "(II)V" } : Jvm.MethodName)) ∈ lw_tbl := lw_at lw_m3 77 rfl
theorem q651 : (Jvm.Cond.instanceMethod ({ cls := "ClockworkTailor$Sets", name := "follow", desc := "(II)V" } : Jvm.MethodName)) ∈ lw_all := lw_g (lw_at lw_m3 78 rfl) rfl
theorem q652 : (Jvm.Cond.code ({ cls := "ClockworkTailor$Sets", name := "follow", desc := "(II)V" } : Jvm.MethodName) prog_7_method_4_code (3 : Nat) (Option.none : Option Jvm.ClassFile.FieldType)) ∈ lw_all := lw_g (lw_at lw_m3 79 rfl) rfl
theorem q653 : (Jvm.Cond.methodLink "ClockworkTailor$Sets" (67 : Nat) ({ cls := "java/lang/Math", name := "min", desc := "(II)I" } : Jvm.MethodName)) ∈ lw_all := lw_g (lw_at lw_m3 80 rfl) rfl
theorem q654 : (Jvm.Cond.methodLink "ClockworkTailor$Sets" (64 : Nat) ({ cls := "ClockworkTailor$Sets", name := "close", desc := "(I)V" } : Jvm.MethodName)) ∈ lw_all := lw_g (lw_at lw_m3 81 rfl) rfl
theorem q655 : (Jvm.Cond.privateMethod ({ cls := "ClockworkTailor$Sets", name := "close", desc := "(I)V" } : Jvm.MethodName)) ∈ lw_tbl := lw_at lw_m3 82 rfl
theorem q656 : (Jvm.Cond.instanceMethod ({ cls := "ClockworkTailor$Sets", name := "close", desc := "(I)V" } : Jvm.MethodName)) ∈ lw_all := lw_g (lw_at lw_m3 83 rfl) rfl
theorem q657 : (Jvm.Cond.code ({ cls := "ClockworkTailor$Sets", name := "close", desc := "(I)V" } : Jvm.MethodName) prog_7_method_5_code (4 : Nat) (Option.none : Option Jvm.ClassFile.FieldType)) ∈ lw_all := lw_g (lw_at lw_m3 84 rfl) rfl
theorem q658 : (Jvm.Cond.methodLink "ClockworkTailor$Sets" (73 : Nat) ({ cls := "java/util/ArrayDeque", name := "pollLast", desc := "()Ljava/lang/Object;" } : Jvm.MethodName)) ∈ lw_all := lw_g (lw_at lw_m3 85 rfl) rfl
theorem q665 : (Jvm.Cond.classLink "ClockworkTailor$Sets" (45 : Nat) "java/lang/Integer") ∈ lw_all := lw_g (lw_at lw_m3 92 rfl) rfl
theorem q666 : (Jvm.Cond.methodLink "ClockworkTailor$Sets" (77 : Nat) ({ cls := "java/lang/Integer", name := "intValue", desc := "()I" } : Jvm.MethodName)) ∈ lw_all := lw_g (lw_at lw_m3 93 rfl) rfl
theorem q2565 : (Jvm.Cond.castable "ClockworkTailor$Sets" "java/lang/Object") ∈ lw_tbl := lw_at lw_m11 72 rfl
theorem in_X7 : ∀ w ∈ wsX70, w ∈ lw_all := lw_in wsX70 [622, 624, 626, 628, 630, 632, 634] (by decide +kernel) (by decide +kernel)

/-! ClockworkTailor$Count -/
set_option maxRecDepth 100000
def RX8 : String := "ClockworkTailor$Count"
def TX8 : u_T := fun k => match k with
  | 0 => ("ClockworkTailor$Count", "state", "LClockworkTailor$State;", true)
  | 1 => ("ClockworkTailor$Count", "thread", "I", true)
  | 2 => ("ClockworkTailor$Count", "there", "I", false)
  | _ => ("ClockworkTailor$Count", "count", "I", false)
def tyX8 : Nat → FieldType := fun k => match k with
  | 0 => .object "ClockworkTailor$State"
  | 1 => .int
  | 2 => .int
  | _ => .int
abbrev wsX80 : List Cond := u_ws RX8 TX8 4
theorem nmX8 : ∀ a, a < 4 → ∀ b, b < 4 → a ≠ b → (TX8 a).2.1 ≠ (TX8 b).2.1 := by decide +kernel
theorem tyX8_ok : ∀ k, k < 4 → parseFieldDescriptor (TX8 k).2.2.1 = some (tyX8 k) := by decide +kernel
abbrev cX8_init : ByteArray := prog_4_method_1_code
def yX8_init : MethodName := ⟨RX8, "<init>", "(LClockworkTailor$State;I)V"⟩
def dkwX8_init_2 : List UInt8 := [159, 0, 9, 4, 29, 120, 167, 0, 4, 3, 128, 181, 0, 19, 132, 3, 1, 167, 255, 209, 177]
abbrev dktX8_init_2 : List UInt8 := dkwX8_init_2 ++ []
def dkwX8_init_1 : List UInt8 := [180, 0, 19, 43, 180, 0, 22, 180, 0, 28, 29, 51, 153, 0, 19, 43, 29, 28, 182, 0, 34, 2]
abbrev dktX8_init_1 : List UInt8 := dkwX8_init_1 ++ dktX8_init_2
def dkwX8_init_0 : List UInt8 := [42, 183, 0, 3, 42, 43, 181, 0, 9, 42, 28, 181, 0, 15, 3, 62, 29, 16, 8, 162, 0, 47, 42, 89]
abbrev dktX8_init_0 : List UInt8 := dkwX8_init_0 ++ dktX8_init_1
theorem dksX8_init_0 : cX8_init.data.toList.drop 0 = dktX8_init_0 := by decide +kernel
theorem dksX8_init_1 : cX8_init.data.toList.drop 24 = dktX8_init_1 := dk_seg dksX8_init_0 24 rfl rfl
theorem dksX8_init_2 : cX8_init.data.toList.drop 46 = dktX8_init_2 := dk_seg dksX8_init_1 22 rfl rfl
theorem dX8_init_0 : decode cX8_init 0 = .ok (.aload_n 0, 1) := dk_42 (dk_at dksX8_init_0 0 rfl rfl)
theorem dX8_init_1 : decode cX8_init 1 = .ok (.invokespecial 3, 3) := dk_183 0 3 (dk_at dksX8_init_0 1 rfl rfl)
theorem dX8_init_4 : decode cX8_init 4 = .ok (.aload_n 0, 1) := dk_42 (dk_at dksX8_init_0 4 rfl rfl)
theorem dX8_init_5 : decode cX8_init 5 = .ok (.aload_n 1, 1) := dk_43 (dk_at dksX8_init_0 5 rfl rfl)
theorem dX8_init_6 : decode cX8_init 6 = .ok (.putfield 9, 3) := dk_181 0 9 (dk_at dksX8_init_0 6 rfl rfl)
theorem dX8_init_9 : decode cX8_init 9 = .ok (.aload_n 0, 1) := dk_42 (dk_at dksX8_init_0 9 rfl rfl)
theorem dX8_init_10 : decode cX8_init 10 = .ok (.iload_n 2, 1) := dk_28 (dk_at dksX8_init_0 10 rfl rfl)
theorem dX8_init_11 : decode cX8_init 11 = .ok (.putfield 15, 3) := dk_181 0 15 (dk_at dksX8_init_0 11 rfl rfl)
theorem dX8_init_14 : decode cX8_init 14 = .ok (.iconst 0, 1) := dk_3 (dk_at dksX8_init_0 14 rfl rfl)
theorem dX8_init_15 : decode cX8_init 15 = .ok (.istore_n 3, 1) := dk_62 (dk_at dksX8_init_0 15 rfl rfl)
theorem dX8_init_16 : decode cX8_init 16 = .ok (.iload_n 3, 1) := dk_29 (dk_at dksX8_init_0 16 rfl rfl)
theorem dX8_init_17 : decode cX8_init 17 = .ok (.bipush 8, 2) := dk_16 8 (dk_at dksX8_init_0 17 rfl rfl)
theorem dX8_init_19 : decode cX8_init 19 = .ok (.if_icmp .ge 47, 3) := dk_162 0 47 (dk_at dksX8_init_0 19 rfl rfl)
theorem dX8_init_22 : decode cX8_init 22 = .ok (.aload_n 0, 1) := dk_42 (dk_at dksX8_init_0 22 rfl rfl)
theorem dX8_init_23 : decode cX8_init 23 = .ok (.dup, 1) := dk_89 (dk_at dksX8_init_0 23 rfl rfl)
theorem dX8_init_24 : decode cX8_init 24 = .ok (.getfield 19, 3) := dk_180 0 19 (dk_at dksX8_init_1 0 rfl rfl)
theorem dX8_init_27 : decode cX8_init 27 = .ok (.aload_n 1, 1) := dk_43 (dk_at dksX8_init_1 3 rfl rfl)
theorem dX8_init_28 : decode cX8_init 28 = .ok (.getfield 22, 3) := dk_180 0 22 (dk_at dksX8_init_1 4 rfl rfl)
theorem dX8_init_31 : decode cX8_init 31 = .ok (.getfield 28, 3) := dk_180 0 28 (dk_at dksX8_init_1 7 rfl rfl)
theorem dX8_init_34 : decode cX8_init 34 = .ok (.iload_n 3, 1) := dk_29 (dk_at dksX8_init_1 10 rfl rfl)
theorem dX8_init_35 : decode cX8_init 35 = .ok (.baload, 1) := dk_51 (dk_at dksX8_init_1 11 rfl rfl)
theorem dX8_init_36 : decode cX8_init 36 = .ok (.ifCond .eq 19, 3) := dk_153 0 19 (dk_at dksX8_init_1 12 rfl rfl)
theorem dX8_init_39 : decode cX8_init 39 = .ok (.aload_n 1, 1) := dk_43 (dk_at dksX8_init_1 15 rfl rfl)
theorem dX8_init_40 : decode cX8_init 40 = .ok (.iload_n 3, 1) := dk_29 (dk_at dksX8_init_1 16 rfl rfl)
theorem dX8_init_41 : decode cX8_init 41 = .ok (.iload_n 2, 1) := dk_28 (dk_at dksX8_init_1 17 rfl rfl)
theorem dX8_init_42 : decode cX8_init 42 = .ok (.invokevirtual 34, 3) := dk_182 0 34 (dk_at dksX8_init_1 18 rfl rfl)
theorem dX8_init_45 : decode cX8_init 45 = .ok (.iconst (-1), 1) := dk_2 (dk_at dksX8_init_1 21 rfl rfl)
theorem dX8_init_46 : decode cX8_init 46 = .ok (.if_icmp .eq 9, 3) := dk_159 0 9 (dk_at dksX8_init_2 0 rfl rfl)
theorem dX8_init_49 : decode cX8_init 49 = .ok (.iconst 1, 1) := dk_4 (dk_at dksX8_init_2 3 rfl rfl)
theorem dX8_init_50 : decode cX8_init 50 = .ok (.iload_n 3, 1) := dk_29 (dk_at dksX8_init_2 4 rfl rfl)
theorem dX8_init_51 : decode cX8_init 51 = .ok (.ishl, 1) := dk_120 (dk_at dksX8_init_2 5 rfl rfl)
theorem dX8_init_52 : decode cX8_init 52 = .ok (.goto 4, 3) := dk_167 0 4 (dk_at dksX8_init_2 6 rfl rfl)
theorem dX8_init_55 : decode cX8_init 55 = .ok (.iconst 0, 1) := dk_3 (dk_at dksX8_init_2 9 rfl rfl)
theorem dX8_init_56 : decode cX8_init 56 = .ok (.ior, 1) := dk_128 (dk_at dksX8_init_2 10 rfl rfl)
theorem dX8_init_57 : decode cX8_init 57 = .ok (.putfield 19, 3) := dk_181 0 19 (dk_at dksX8_init_2 11 rfl rfl)
theorem dX8_init_60 : decode cX8_init 60 = .ok (.iinc 3 1, 3) := dk_132 3 1 (dk_at dksX8_init_2 14 rfl rfl)
theorem dX8_init_63 : decode cX8_init 63 = .ok (.goto (-47), 3) := dk_167 255 209 (dk_at dksX8_init_2 17 rfl rfl)
theorem dX8_init_66 : decode cX8_init 66 = .ok (.return_, 1) := dk_177 (dk_at dksX8_init_2 20 rfl rfl)
abbrev cX8_missing : ByteArray := prog_4_method_2_code
def yX8_missing : MethodName := ⟨RX8, "missing", "(I)I"⟩
def dkwX8_missing_5 : List UInt8 := [160, 0, 7, 3, 167, 0, 6, 4, 29, 120, 128, 181, 0, 19, 2, 172]
abbrev dktX8_missing_5 : List UInt8 := dkwX8_missing_5 ++ []
def dkwX8_missing_4 : List UInt8 := [89, 180, 0, 59, 4, 96, 181, 0, 59, 42, 89, 180, 0, 19, 44, 180, 0, 62, 29, 52, 16, 101]
abbrev dktX8_missing_4 : List UInt8 := dkwX8_missing_4 ++ dktX8_missing_5
def dkwX8_missing_3 : List UInt8 := [182, 0, 53, 182, 0, 56, 54, 5, 21, 5, 2, 159, 0, 6, 21, 5, 172, 132, 4, 1, 167, 255, 206, 42]
abbrev dktX8_missing_3 : List UInt8 := dkwX8_missing_3 ++ dktX8_missing_4
def dkwX8_missing_2 : List UInt8 := [46, 162, 0, 45, 44, 29, 21, 4, 182, 0, 50, 153, 0, 7, 2, 167, 0, 14, 42, 44, 29, 21, 4]
abbrev dktX8_missing_2 : List UInt8 := dkwX8_missing_2 ++ dktX8_missing_3
def dkwX8_missing_1 : List UInt8 := [172, 42, 180, 0, 19, 29, 184, 0, 42, 153, 0, 5, 2, 172, 3, 54, 4, 21, 4, 44, 180, 0, 46, 29]
abbrev dktX8_missing_1 : List UInt8 := dkwX8_missing_1 ++ dktX8_missing_2
def dkwX8_missing_0 : List UInt8 := [42, 180, 0, 9, 180, 0, 22, 77, 44, 27, 182, 0, 38, 62, 44, 180, 0, 28, 29, 51, 154, 0, 5, 29]
abbrev dktX8_missing_0 : List UInt8 := dkwX8_missing_0 ++ dktX8_missing_1
theorem dksX8_missing_0 : cX8_missing.data.toList.drop 0 = dktX8_missing_0 := by decide +kernel
theorem dksX8_missing_1 : cX8_missing.data.toList.drop 24 = dktX8_missing_1 := dk_seg dksX8_missing_0 24 rfl rfl
theorem dksX8_missing_2 : cX8_missing.data.toList.drop 48 = dktX8_missing_2 := dk_seg dksX8_missing_1 24 rfl rfl
theorem dksX8_missing_3 : cX8_missing.data.toList.drop 71 = dktX8_missing_3 := dk_seg dksX8_missing_2 23 rfl rfl
theorem dksX8_missing_4 : cX8_missing.data.toList.drop 95 = dktX8_missing_4 := dk_seg dksX8_missing_3 24 rfl rfl
theorem dksX8_missing_5 : cX8_missing.data.toList.drop 117 = dktX8_missing_5 := dk_seg dksX8_missing_4 22 rfl rfl
theorem dX8_missing_0 : decode cX8_missing 0 = .ok (.aload_n 0, 1) := dk_42 (dk_at dksX8_missing_0 0 rfl rfl)
theorem dX8_missing_1 : decode cX8_missing 1 = .ok (.getfield 9, 3) := dk_180 0 9 (dk_at dksX8_missing_0 1 rfl rfl)
theorem dX8_missing_4 : decode cX8_missing 4 = .ok (.getfield 22, 3) := dk_180 0 22 (dk_at dksX8_missing_0 4 rfl rfl)
theorem dX8_missing_7 : decode cX8_missing 7 = .ok (.astore_n 2, 1) := dk_77 (dk_at dksX8_missing_0 7 rfl rfl)
theorem dX8_missing_8 : decode cX8_missing 8 = .ok (.aload_n 2, 1) := dk_44 (dk_at dksX8_missing_0 8 rfl rfl)
theorem dX8_missing_9 : decode cX8_missing 9 = .ok (.iload_n 1, 1) := dk_27 (dk_at dksX8_missing_0 9 rfl rfl)
theorem dX8_missing_10 : decode cX8_missing 10 = .ok (.invokevirtual 38, 3) := dk_182 0 38 (dk_at dksX8_missing_0 10 rfl rfl)
theorem dX8_missing_13 : decode cX8_missing 13 = .ok (.istore_n 3, 1) := dk_62 (dk_at dksX8_missing_0 13 rfl rfl)
theorem dX8_missing_14 : decode cX8_missing 14 = .ok (.aload_n 2, 1) := dk_44 (dk_at dksX8_missing_0 14 rfl rfl)
theorem dX8_missing_15 : decode cX8_missing 15 = .ok (.getfield 28, 3) := dk_180 0 28 (dk_at dksX8_missing_0 15 rfl rfl)
theorem dX8_missing_18 : decode cX8_missing 18 = .ok (.iload_n 3, 1) := dk_29 (dk_at dksX8_missing_0 18 rfl rfl)
theorem dX8_missing_19 : decode cX8_missing 19 = .ok (.baload, 1) := dk_51 (dk_at dksX8_missing_0 19 rfl rfl)
theorem dX8_missing_20 : decode cX8_missing 20 = .ok (.ifCond .ne 5, 3) := dk_154 0 5 (dk_at dksX8_missing_0 20 rfl rfl)
theorem dX8_missing_23 : decode cX8_missing 23 = .ok (.iload_n 3, 1) := dk_29 (dk_at dksX8_missing_0 23 rfl rfl)
theorem dX8_missing_24 : decode cX8_missing 24 = .ok (.ireturn, 1) := dk_172 (dk_at dksX8_missing_1 0 rfl rfl)
theorem dX8_missing_25 : decode cX8_missing 25 = .ok (.aload_n 0, 1) := dk_42 (dk_at dksX8_missing_1 1 rfl rfl)
theorem dX8_missing_26 : decode cX8_missing 26 = .ok (.getfield 19, 3) := dk_180 0 19 (dk_at dksX8_missing_1 2 rfl rfl)
theorem dX8_missing_29 : decode cX8_missing 29 = .ok (.iload_n 3, 1) := dk_29 (dk_at dksX8_missing_1 5 rfl rfl)
theorem dX8_missing_30 : decode cX8_missing 30 = .ok (.invokestatic 42, 3) := dk_184 0 42 (dk_at dksX8_missing_1 6 rfl rfl)
theorem dX8_missing_33 : decode cX8_missing 33 = .ok (.ifCond .eq 5, 3) := dk_153 0 5 (dk_at dksX8_missing_1 9 rfl rfl)
theorem dX8_missing_36 : decode cX8_missing 36 = .ok (.iconst (-1), 1) := dk_2 (dk_at dksX8_missing_1 12 rfl rfl)
theorem dX8_missing_37 : decode cX8_missing 37 = .ok (.ireturn, 1) := dk_172 (dk_at dksX8_missing_1 13 rfl rfl)
theorem dX8_missing_38 : decode cX8_missing 38 = .ok (.iconst 0, 1) := dk_3 (dk_at dksX8_missing_1 14 rfl rfl)
theorem dX8_missing_39 : decode cX8_missing 39 = .ok (.istore 4, 2) := dk_54 4 (dk_at dksX8_missing_1 15 rfl rfl)
theorem dX8_missing_41 : decode cX8_missing 41 = .ok (.iload 4, 2) := dk_21 4 (dk_at dksX8_missing_1 17 rfl rfl)
theorem dX8_missing_43 : decode cX8_missing 43 = .ok (.aload_n 2, 1) := dk_44 (dk_at dksX8_missing_1 19 rfl rfl)
theorem dX8_missing_44 : decode cX8_missing 44 = .ok (.getfield 46, 3) := dk_180 0 46 (dk_at dksX8_missing_1 20 rfl rfl)
theorem dX8_missing_47 : decode cX8_missing 47 = .ok (.iload_n 3, 1) := dk_29 (dk_at dksX8_missing_1 23 rfl rfl)
theorem dX8_missing_48 : decode cX8_missing 48 = .ok (.iaload, 1) := dk_46 (dk_at dksX8_missing_2 0 rfl rfl)
theorem dX8_missing_49 : decode cX8_missing 49 = .ok (.if_icmp .ge 45, 3) := dk_162 0 45 (dk_at dksX8_missing_2 1 rfl rfl)
theorem dX8_missing_52 : decode cX8_missing 52 = .ok (.aload_n 2, 1) := dk_44 (dk_at dksX8_missing_2 4 rfl rfl)
theorem dX8_missing_53 : decode cX8_missing 53 = .ok (.iload_n 3, 1) := dk_29 (dk_at dksX8_missing_2 5 rfl rfl)
theorem dX8_missing_54 : decode cX8_missing 54 = .ok (.iload 4, 2) := dk_21 4 (dk_at dksX8_missing_2 6 rfl rfl)
theorem dX8_missing_56 : decode cX8_missing 56 = .ok (.invokevirtual 50, 3) := dk_182 0 50 (dk_at dksX8_missing_2 8 rfl rfl)
theorem dX8_missing_59 : decode cX8_missing 59 = .ok (.ifCond .eq 7, 3) := dk_153 0 7 (dk_at dksX8_missing_2 11 rfl rfl)
theorem dX8_missing_62 : decode cX8_missing 62 = .ok (.iconst (-1), 1) := dk_2 (dk_at dksX8_missing_2 14 rfl rfl)
theorem dX8_missing_63 : decode cX8_missing 63 = .ok (.goto 14, 3) := dk_167 0 14 (dk_at dksX8_missing_2 15 rfl rfl)
theorem dX8_missing_66 : decode cX8_missing 66 = .ok (.aload_n 0, 1) := dk_42 (dk_at dksX8_missing_2 18 rfl rfl)
theorem dX8_missing_67 : decode cX8_missing 67 = .ok (.aload_n 2, 1) := dk_44 (dk_at dksX8_missing_2 19 rfl rfl)
theorem dX8_missing_68 : decode cX8_missing 68 = .ok (.iload_n 3, 1) := dk_29 (dk_at dksX8_missing_2 20 rfl rfl)
theorem dX8_missing_69 : decode cX8_missing 69 = .ok (.iload 4, 2) := dk_21 4 (dk_at dksX8_missing_2 21 rfl rfl)
theorem dX8_missing_71 : decode cX8_missing 71 = .ok (.invokevirtual 53, 3) := dk_182 0 53 (dk_at dksX8_missing_3 0 rfl rfl)
theorem dX8_missing_74 : decode cX8_missing 74 = .ok (.invokevirtual 56, 3) := dk_182 0 56 (dk_at dksX8_missing_3 3 rfl rfl)
theorem dX8_missing_77 : decode cX8_missing 77 = .ok (.istore 5, 2) := dk_54 5 (dk_at dksX8_missing_3 6 rfl rfl)
theorem dX8_missing_79 : decode cX8_missing 79 = .ok (.iload 5, 2) := dk_21 5 (dk_at dksX8_missing_3 8 rfl rfl)
theorem dX8_missing_81 : decode cX8_missing 81 = .ok (.iconst (-1), 1) := dk_2 (dk_at dksX8_missing_3 10 rfl rfl)
theorem dX8_missing_82 : decode cX8_missing 82 = .ok (.if_icmp .eq 6, 3) := dk_159 0 6 (dk_at dksX8_missing_3 11 rfl rfl)
theorem dX8_missing_85 : decode cX8_missing 85 = .ok (.iload 5, 2) := dk_21 5 (dk_at dksX8_missing_3 14 rfl rfl)
theorem dX8_missing_87 : decode cX8_missing 87 = .ok (.ireturn, 1) := dk_172 (dk_at dksX8_missing_3 16 rfl rfl)
theorem dX8_missing_88 : decode cX8_missing 88 = .ok (.iinc 4 1, 3) := dk_132 4 1 (dk_at dksX8_missing_3 17 rfl rfl)
theorem dX8_missing_91 : decode cX8_missing 91 = .ok (.goto (-50), 3) := dk_167 255 206 (dk_at dksX8_missing_3 20 rfl rfl)
theorem dX8_missing_94 : decode cX8_missing 94 = .ok (.aload_n 0, 1) := dk_42 (dk_at dksX8_missing_3 23 rfl rfl)
theorem dX8_missing_95 : decode cX8_missing 95 = .ok (.dup, 1) := dk_89 (dk_at dksX8_missing_4 0 rfl rfl)
theorem dX8_missing_96 : decode cX8_missing 96 = .ok (.getfield 59, 3) := dk_180 0 59 (dk_at dksX8_missing_4 1 rfl rfl)
theorem dX8_missing_99 : decode cX8_missing 99 = .ok (.iconst 1, 1) := dk_4 (dk_at dksX8_missing_4 4 rfl rfl)
theorem dX8_missing_100 : decode cX8_missing 100 = .ok (.iadd, 1) := dk_96 (dk_at dksX8_missing_4 5 rfl rfl)
theorem dX8_missing_101 : decode cX8_missing 101 = .ok (.putfield 59, 3) := dk_181 0 59 (dk_at dksX8_missing_4 6 rfl rfl)
theorem dX8_missing_104 : decode cX8_missing 104 = .ok (.aload_n 0, 1) := dk_42 (dk_at dksX8_missing_4 9 rfl rfl)
theorem dX8_missing_105 : decode cX8_missing 105 = .ok (.dup, 1) := dk_89 (dk_at dksX8_missing_4 10 rfl rfl)
theorem dX8_missing_106 : decode cX8_missing 106 = .ok (.getfield 19, 3) := dk_180 0 19 (dk_at dksX8_missing_4 11 rfl rfl)
theorem dX8_missing_109 : decode cX8_missing 109 = .ok (.aload_n 2, 1) := dk_44 (dk_at dksX8_missing_4 14 rfl rfl)
theorem dX8_missing_110 : decode cX8_missing 110 = .ok (.getfield 62, 3) := dk_180 0 62 (dk_at dksX8_missing_4 15 rfl rfl)
theorem dX8_missing_113 : decode cX8_missing 113 = .ok (.iload_n 3, 1) := dk_29 (dk_at dksX8_missing_4 18 rfl rfl)
theorem dX8_missing_114 : decode cX8_missing 114 = .ok (.caload, 1) := dk_52 (dk_at dksX8_missing_4 19 rfl rfl)
theorem dX8_missing_115 : decode cX8_missing 115 = .ok (.bipush 101, 2) := dk_16 101 (dk_at dksX8_missing_4 20 rfl rfl)
theorem dX8_missing_117 : decode cX8_missing 117 = .ok (.if_icmp .ne 7, 3) := dk_160 0 7 (dk_at dksX8_missing_5 0 rfl rfl)
theorem dX8_missing_120 : decode cX8_missing 120 = .ok (.iconst 0, 1) := dk_3 (dk_at dksX8_missing_5 3 rfl rfl)
theorem dX8_missing_121 : decode cX8_missing 121 = .ok (.goto 6, 3) := dk_167 0 6 (dk_at dksX8_missing_5 4 rfl rfl)
theorem dX8_missing_124 : decode cX8_missing 124 = .ok (.iconst 1, 1) := dk_4 (dk_at dksX8_missing_5 7 rfl rfl)
theorem dX8_missing_125 : decode cX8_missing 125 = .ok (.iload_n 3, 1) := dk_29 (dk_at dksX8_missing_5 8 rfl rfl)
theorem dX8_missing_126 : decode cX8_missing 126 = .ok (.ishl, 1) := dk_120 (dk_at dksX8_missing_5 9 rfl rfl)
theorem dX8_missing_127 : decode cX8_missing 127 = .ok (.ior, 1) := dk_128 (dk_at dksX8_missing_5 10 rfl rfl)
theorem dX8_missing_128 : decode cX8_missing 128 = .ok (.putfield 19, 3) := dk_181 0 19 (dk_at dksX8_missing_5 11 rfl rfl)
theorem dX8_missing_131 : decode cX8_missing 131 = .ok (.iconst (-1), 1) := dk_2 (dk_at dksX8_missing_5 14 rfl rfl)
theorem dX8_missing_132 : decode cX8_missing 132 = .ok (.ireturn, 1) := dk_172 (dk_at dksX8_missing_5 15 rfl rfl)
abbrev cX8_wouldMake : ByteArray := prog_4_method_3_code
def yX8_wouldMake : MethodName := ⟨RX8, "wouldMake", "(I)I"⟩
def dkwX8_wouldMake_0 : List UInt8 := [42, 27, 182, 0, 56, 2, 160, 0, 10, 42, 180, 0, 59, 167, 0, 4, 2, 172]
abbrev dktX8_wouldMake_0 : List UInt8 := dkwX8_wouldMake_0 ++ []
theorem dksX8_wouldMake_0 : cX8_wouldMake.data.toList.drop 0 = dktX8_wouldMake_0 := by decide +kernel
theorem dX8_wouldMake_0 : decode cX8_wouldMake 0 = .ok (.aload_n 0, 1) := dk_42 (dk_at dksX8_wouldMake_0 0 rfl rfl)
theorem dX8_wouldMake_1 : decode cX8_wouldMake 1 = .ok (.iload_n 1, 1) := dk_27 (dk_at dksX8_wouldMake_0 1 rfl rfl)
theorem dX8_wouldMake_2 : decode cX8_wouldMake 2 = .ok (.invokevirtual 56, 3) := dk_182 0 56 (dk_at dksX8_wouldMake_0 2 rfl rfl)
theorem dX8_wouldMake_5 : decode cX8_wouldMake 5 = .ok (.iconst (-1), 1) := dk_2 (dk_at dksX8_wouldMake_0 5 rfl rfl)
theorem dX8_wouldMake_6 : decode cX8_wouldMake 6 = .ok (.if_icmp .ne 10, 3) := dk_160 0 10 (dk_at dksX8_wouldMake_0 6 rfl rfl)
theorem dX8_wouldMake_9 : decode cX8_wouldMake 9 = .ok (.aload_n 0, 1) := dk_42 (dk_at dksX8_wouldMake_0 9 rfl rfl)
theorem dX8_wouldMake_10 : decode cX8_wouldMake 10 = .ok (.getfield 59, 3) := dk_180 0 59 (dk_at dksX8_wouldMake_0 10 rfl rfl)
theorem dX8_wouldMake_13 : decode cX8_wouldMake 13 = .ok (.goto 4, 3) := dk_167 0 4 (dk_at dksX8_wouldMake_0 13 rfl rfl)
theorem dX8_wouldMake_16 : decode cX8_wouldMake 16 = .ok (.iconst (-1), 1) := dk_2 (dk_at dksX8_wouldMake_0 16 rfl rfl)
theorem dX8_wouldMake_17 : decode cX8_wouldMake 17 = .ok (.ireturn, 1) := dk_172 (dk_at dksX8_wouldMake_0 17 rfl rfl)
theorem q124 : (Jvm.Cond.initialized "ClockworkTailor$Count") ∈ lw_all := lw_g (lw_at lw_m1 31 rfl) rfl
theorem q153 : (Jvm.Cond.fieldLinkNest "ClockworkTailor$Count" (28 : Nat) "ClockworkTailor$Book" "has" "[Z" "ClockworkTailor") ∈ lw_tbl := lw_at lw_m1 60 rfl
theorem q157 : (Jvm.Cond.fieldLinkNest "ClockworkTailor$Count" (62 : Nat) "ClockworkTailor$Book" "scopes" "[C" "ClockworkTailor") ∈ lw_tbl := lw_at lw_m1 64 rfl
theorem q163 : (Jvm.Cond.fieldLinkNest "ClockworkTailor$Count" (46 : Nat) "ClockworkTailor$Book" "counts" "[I" "ClockworkTailor") ∈ lw_tbl := lw_at lw_m1 70 rfl
theorem q189 : (Jvm.Cond.fieldLinkNest "ClockworkTailor$Count" (22 : Nat) "ClockworkTailor$State" "book" "LClockworkTailor$Book;" "ClockworkTailor") ∈ lw_tbl := lw_at lw_m1 96 rfl
theorem q438 : (Jvm.Cond.selects "ClockworkTailor$Count" ({ cls := "java/lang/Object", name := "getClass", desc := "()Ljava/lang/Class;" } : Jvm.MethodName) ({ cls := "java/lang/Object", name := "getClass", desc := "()Ljava/lang/Class;" } : Jvm.MethodName)) ∈ lw_all := lw_g (lw_at lw_m2 105 rfl) rfl
theorem q776 : (Jvm.Cond.instantiable "ClockworkTailor$Count" (4 : Nat)) ∈ lw_all := lw_g (lw_at lw_m3 203 rfl) rfl
theorem q778 : (Jvm.Cond.instanceMethod ({ cls := "ClockworkTailor$Count", name := "<init>", desc := "(LClockworkTailor$State;I)V" } : Jvm.MethodName)) ∈ lw_all := lw_g (lw_at lw_m3 205 rfl) rfl
theorem q779 : (Jvm.Cond.code ({ cls := "ClockworkTailor$Count", name := "<init>", desc := "(LClockworkTailor$State;I)V" } : Jvm.MethodName) prog_4_method_1_code (4 : Nat) (Option.none : Option Jvm.ClassFile.FieldType)) ∈ lw_all := lw_g (lw_at lw_m3 206 rfl) rfl
theorem q780 : (Jvm.Cond.methodLink "ClockworkTailor$Count" (3 : Nat) ({ cls := "java/lang/Object", name := "<init>", desc := "()V" } : Jvm.MethodName)) ∈ lw_all := lw_g (lw_at lw_m3 207 rfl) rfl
theorem q781 : (Jvm.Cond.methodLinkNest "ClockworkTailor$Count" (34 : Nat) ({ cls := "ClockworkTailor$State", name := "existing", desc := "(II)I" } : Jvm.MethodName) "ClockworkTailor") ∈ lw_tbl := lw_at lw_m3 208 rfl
theorem q785 : (Jvm.Cond.fieldLink "ClockworkTailor$Count" (9 : Nat) "ClockworkTailor$Count" "state" "LClockworkTailor$State;") ∈ lw_all := lw_g (lw_at lw_m3 212 rfl) rfl
theorem q786 : (Jvm.Cond.fieldLink "ClockworkTailor$Count" (15 : Nat) "ClockworkTailor$Count" "thread" "I") ∈ lw_all := lw_g (lw_at lw_m3 213 rfl) rfl
theorem q787 : (Jvm.Cond.fieldLink "ClockworkTailor$Count" (19 : Nat) "ClockworkTailor$Count" "there" "I") ∈ lw_all := lw_g (lw_at lw_m3 214 rfl) rfl
theorem q788 : (Jvm.Cond.fieldLink "ClockworkTailor$Count" (59 : Nat) "ClockworkTailor$Count" "count" "I") ∈ lw_all := lw_g (lw_at lw_m3 215 rfl) rfl
theorem q789 : (Jvm.Cond.laysFinal "ClockworkTailor$Count" "ClockworkTailor$Count" "state" "LClockworkTailor$State;") ∈ lw_all := lw_g (lw_at lw_m3 216 rfl) rfl
theorem q790 : (Jvm.Cond.soleField "ClockworkTailor$Count" "state") ∈ lw_all := lw_g (lw_at lw_m3 217 rfl) rfl
theorem q791 : (Jvm.Cond.laysFinal "ClockworkTailor$Count" "ClockworkTailor$Count" "thread" "I") ∈ lw_all := lw_g (lw_at lw_m3 218 rfl) rfl
theorem q792 : (Jvm.Cond.soleField "ClockworkTailor$Count" "thread") ∈ lw_all := lw_g (lw_at lw_m3 219 rfl) rfl
theorem q793 : (Jvm.Cond.lays "ClockworkTailor$Count" "ClockworkTailor$Count" "there" "I") ∈ lw_all := lw_g (lw_at lw_m3 220 rfl) rfl
theorem q794 : (Jvm.Cond.soleField "ClockworkTailor$Count" "there") ∈ lw_all := lw_g (lw_at lw_m3 221 rfl) rfl
theorem q795 : (Jvm.Cond.lays "ClockworkTailor$Count" "ClockworkTailor$Count" "count" "I") ∈ lw_all := lw_g (lw_at lw_m3 222 rfl) rfl
theorem q796 : (Jvm.Cond.soleField "ClockworkTailor$Count" "count") ∈ lw_all := lw_g (lw_at lw_m3 223 rfl) rfl
theorem q797 : (Jvm.Cond.superclass "ClockworkTailor$Count" "java/lang/Object") ∈ lw_all := lw_g (lw_at lw_m3 224 rfl) rfl
theorem q799 : (Jvm.Cond.instanceMethod ({ cls := "ClockworkTailor$Count", name := "missing", desc := "(I)I" } : Jvm.MethodName)) ∈ lw_all := lw_g (lw_at lw_m3 226 rfl) rfl
theorem q800 : (Jvm.Cond.selects "ClockworkTailor$Count" ({ cls := "ClockworkTailor$Count", name := "missing", desc := "(I)I" } : Jvm.MethodName) ({ cls := "ClockworkTailor$Count", name := "missing", desc := "(I)I" } : Jvm.MethodName)) ∈ lw_all := lw_g (lw_at lw_m3 227 rfl) rfl
theorem q801 : (Jvm.Cond.code ({ cls := "ClockworkTailor$Count", name := "missing", desc := "(I)I" } : Jvm.MethodName) prog_4_method_2_code (6 : Nat) (Option.some Jvm.ClassFile.FieldType.int)) ∈ lw_all := lw_g (lw_at lw_m3 228 rfl) rfl
theorem q802 : (Jvm.Cond.methodLink "ClockworkTailor$Count" (38 : Nat) ({ cls := "ClockworkTailor$Book", name := "standIn", desc := "(I)I" } : Jvm.MethodName)) ∈ lw_all := lw_g (lw_at lw_m3 229 rfl) rfl
theorem q803 : (Jvm.Cond.methodLinkNest "ClockworkTailor$Count" (42 : Nat) ({ cls := "ClockworkTailor", name := "isIn", desc := "(II)Z" } : Jvm.MethodName) "ClockworkTailor") ∈ lw_tbl := lw_at lw_m3 230 rfl
theorem q804 : (Jvm.Cond.methodLink "ClockworkTailor$Count" (50 : Nat) ({ cls := "ClockworkTailor$Book", name := "isLazy", desc := "(II)Z" } : Jvm.MethodName)) ∈ lw_all := lw_g (lw_at lw_m3 231 rfl) rfl
theorem q805 : (Jvm.Cond.methodLink "ClockworkTailor$Count" (53 : Nat) ({ cls := "ClockworkTailor$Book", name := "need", desc := "(II)I" } : Jvm.MethodName)) ∈ lw_all := lw_g (lw_at lw_m3 232 rfl) rfl
theorem q806 : (Jvm.Cond.methodLink "ClockworkTailor$Count" (56 : Nat) ({ cls := "ClockworkTailor$Count", name := "missing", desc := "(I)I" } : Jvm.MethodName)) ∈ lw_all := lw_g (lw_at lw_m3 233 rfl) rfl
theorem q857 : (Jvm.Cond.instanceMethod ({ cls := "ClockworkTailor$Count", name := "wouldMake", desc := "(I)I" } : Jvm.MethodName)) ∈ lw_all := lw_g (lw_at lw_m4 44 rfl) rfl
theorem q858 : (Jvm.Cond.selects "ClockworkTailor$Count" ({ cls := "ClockworkTailor$Count", name := "wouldMake", desc := "(I)I" } : Jvm.MethodName) ({ cls := "ClockworkTailor$Count", name := "wouldMake", desc := "(I)I" } : Jvm.MethodName)) ∈ lw_all := lw_g (lw_at lw_m4 45 rfl) rfl
theorem q859 : (Jvm.Cond.code ({ cls := "ClockworkTailor$Count", name := "wouldMake", desc := "(I)I" } : Jvm.MethodName) prog_4_method_3_code (2 : Nat) (Option.some Jvm.ClassFile.FieldType.int)) ∈ lw_all := lw_g (lw_at lw_m4 46 rfl) rfl
theorem q2566 : (Jvm.Cond.castable "ClockworkTailor$Count" "java/lang/Object") ∈ lw_tbl := lw_at lw_m11 73 rfl
theorem in_X8 : ∀ w ∈ wsX80, w ∈ lw_all := lw_in wsX80 [789, 791, 793, 795] (by decide +kernel) (by decide +kernel)

/-! ClockworkTailor$SyntaxError -/
set_option maxRecDepth 100000
def RX9 : String := "ClockworkTailor$SyntaxError"
def TX9 : u_T := fun k => match k with
  | 0 => ("java/lang/Throwable", "cause", "Ljava/lang/Throwable;", false)
  | 1 => ("java/lang/Throwable", "stackTrace", "[Ljava/lang/StackTraceElement;", false)
  | 2 => ("java/lang/Throwable", "suppressedExceptions", "Ljava/util/List;", false)
  | 3 => ("java/lang/Throwable", "detailMessage", "Ljava/lang/String;", false)
  | 4 => ("java/lang/Throwable", "backtrace", "Ljava/lang/Object;", false)
  | 5 => ("java/lang/Throwable", "depth", "I", false)
  | _ => ("ClockworkTailor$SyntaxError", "position", "I", true)
def tyX9 : Nat → FieldType := fun k => match k with
  | 0 => .object "java/lang/Throwable"
  | 1 => .array (.object "java/lang/StackTraceElement")
  | 2 => .object "java/util/List"
  | 3 => .object "java/lang/String"
  | 4 => .object "java/lang/Object"
  | 5 => .int
  | _ => .int
abbrev wsX90 : List Cond := u_ws RX9 TX9 7
theorem nmX9 : ∀ a, a < 7 → ∀ b, b < 7 → a ≠ b → (TX9 a).2.1 ≠ (TX9 b).2.1 := by decide +kernel
theorem tyX9_ok : ∀ k, k < 7 → parseFieldDescriptor (TX9 k).2.2.1 = some (tyX9 k) := by decide +kernel
abbrev cX9_init : ByteArray := prog_9_method_1_code
def yX9_init : MethodName := ⟨RX9, "<init>", "(I)V"⟩
def dkwX9_init_0 : List UInt8 := [42, 183, 0, 1, 42, 27, 181, 0, 7, 177]
abbrev dktX9_init_0 : List UInt8 := dkwX9_init_0 ++ []
theorem dksX9_init_0 : cX9_init.data.toList.drop 0 = dktX9_init_0 := by decide +kernel
theorem dX9_init_0 : decode cX9_init 0 = .ok (.aload_n 0, 1) := dk_42 (dk_at dksX9_init_0 0 rfl rfl)
theorem dX9_init_1 : decode cX9_init 1 = .ok (.invokespecial 1, 3) := dk_183 0 1 (dk_at dksX9_init_0 1 rfl rfl)
theorem dX9_init_4 : decode cX9_init 4 = .ok (.aload_n 0, 1) := dk_42 (dk_at dksX9_init_0 4 rfl rfl)
theorem dX9_init_5 : decode cX9_init 5 = .ok (.iload_n 1, 1) := dk_27 (dk_at dksX9_init_0 5 rfl rfl)
theorem dX9_init_6 : decode cX9_init 6 = .ok (.putfield 7, 3) := dk_181 0 7 (dk_at dksX9_init_0 6 rfl rfl)
theorem dX9_init_9 : decode cX9_init 9 = .ok (.return_, 1) := dk_177 (dk_at dksX9_init_0 9 rfl rfl)
theorem q130 : (Jvm.Cond.initialized "ClockworkTailor$SyntaxError") ∈ lw_all := lw_g (lw_at lw_m1 37 rfl) rfl
theorem q389 : (Jvm.Cond.selects "ClockworkTailor$SyntaxError" ({ cls := "java/lang/Throwable", name := "fillInStackTrace", desc := "()Ljava/lang/Throwable;" } : Jvm.MethodName) ({ cls := "java/lang/Throwable", name := "fillInStackTrace", desc := "()Ljava/lang/Throwable;" } : Jvm.MethodName)) ∈ lw_all := lw_g (lw_at lw_m2 56 rfl) rfl
theorem q443 : (Jvm.Cond.selects "ClockworkTailor$SyntaxError" ({ cls := "java/lang/Object", name := "getClass", desc := "()Ljava/lang/Class;" } : Jvm.MethodName) ({ cls := "java/lang/Object", name := "getClass", desc := "()Ljava/lang/Class;" } : Jvm.MethodName)) ∈ lw_all := lw_g (lw_at lw_m2 110 rfl) rfl
theorem q1805 : (Jvm.Cond.instantiable "ClockworkTailor$SyntaxError" (7 : Nat)) ∈ lw_all := lw_g (lw_at lw_m8 32 rfl) rfl
theorem q1806 : (Jvm.Cond.castable "ClockworkTailor$SyntaxError" "ClockworkTailor$SyntaxError") ∈ lw_tbl := lw_at lw_m8 33 rfl
theorem q1807 : (Jvm.Cond.selects "ClockworkTailor$SyntaxError" ({ cls := "java/lang/Throwable", name := "fillInStackTrace", desc := "(I)Ljava/lang/Throwable;" } : Jvm.MethodName) ({ cls := "java/lang/Throwable", name := "fillInStackTrace", desc := "(I)Ljava/lang/Throwable;" } : Jvm.MethodName)) ∈ lw_all := lw_g (lw_at lw_m8 34 rfl) rfl
theorem q1808 : (Jvm.Cond.lays "ClockworkTailor$SyntaxError" "java/lang/Throwable" "cause" "Ljava/lang/Throwable;") ∈ lw_all := lw_g (lw_at lw_m8 35 rfl) rfl
theorem q1809 : (Jvm.Cond.lays "ClockworkTailor$SyntaxError" "java/lang/Throwable" "stackTrace" "[Ljava/lang/StackTraceElement;") ∈ lw_all := lw_g (lw_at lw_m8 36 rfl) rfl
theorem q1810 : (Jvm.Cond.lays "ClockworkTailor$SyntaxError" "java/lang/Throwable" "suppressedExceptions" "Ljava/util/List;") ∈ lw_all := lw_g (lw_at lw_m8 37 rfl) rfl
theorem q1811 : (Jvm.Cond.lays "ClockworkTailor$SyntaxError" "java/lang/Throwable" "detailMessage" "Ljava/lang/String;") ∈ lw_all := lw_g (lw_at lw_m8 38 rfl) rfl
theorem q1812 : (Jvm.Cond.lays "ClockworkTailor$SyntaxError" "java/lang/Throwable" "backtrace" "Ljava/lang/Object;") ∈ lw_all := lw_g (lw_at lw_m8 39 rfl) rfl
theorem q1814 : (Jvm.Cond.instanceMethod ({ cls := "ClockworkTailor$SyntaxError", name := "<init>", desc := "(I)V" } : Jvm.MethodName)) ∈ lw_all := lw_g (lw_at lw_m8 41 rfl) rfl
theorem q1815 : (Jvm.Cond.code ({ cls := "ClockworkTailor$SyntaxError", name := "<init>", desc := "(I)V" } : Jvm.MethodName) prog_9_method_1_code (2 : Nat) (Option.none : Option Jvm.ClassFile.FieldType)) ∈ lw_all := lw_g (lw_at lw_m8 42 rfl) rfl
theorem q1816 : (Jvm.Cond.methodLink "ClockworkTailor$SyntaxError" (1 : Nat) ({ cls := "java/lang/Exception", name := "<init>", desc := "()V" } : Jvm.MethodName)) ∈ lw_all := lw_g (lw_at lw_m8 43 rfl) rfl
theorem q1817 : (Jvm.Cond.fieldLink "ClockworkTailor$SyntaxError" (7 : Nat) "ClockworkTailor$SyntaxError" "position" "I") ∈ lw_all := lw_g (lw_at lw_m8 44 rfl) rfl
theorem q1819 : (Jvm.Cond.laysFinal "ClockworkTailor$SyntaxError" "ClockworkTailor$SyntaxError" "position" "I") ∈ lw_all := lw_g (lw_at lw_m8 46 rfl) rfl
theorem q1820 : (Jvm.Cond.soleField "ClockworkTailor$SyntaxError" "position") ∈ lw_all := lw_g (lw_at lw_m8 47 rfl) rfl
theorem q1821 : (Jvm.Cond.lays "ClockworkTailor$SyntaxError" "java/lang/Throwable" "depth" "I") ∈ lw_all := lw_g (lw_at lw_m8 48 rfl) rfl
theorem q1822 : (Jvm.Cond.superclass "ClockworkTailor$SyntaxError" "java/lang/Exception") ∈ lw_all := lw_g (lw_at lw_m8 49 rfl) rfl
theorem q2570 : (Jvm.Cond.castable "ClockworkTailor$SyntaxError" "java/lang/Object") ∈ lw_tbl := lw_at lw_m11 77 rfl
theorem in_X9 : ∀ w ∈ wsX90, w ∈ lw_all := lw_in wsX90 [1808, 1809, 1810, 1811, 1812, 1821, 1819] (by decide +kernel) (by decide +kernel)

