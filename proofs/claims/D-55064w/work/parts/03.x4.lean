/-! HorsehairTradeModel -/
set_option maxRecDepth 100000
def RX4 : String := "HorsehairTradeModel"
def TX4 : u_T := fun k => match k with
  | 0 => ("HorsehairTradeModel", "s", "[I", true)
  | 1 => ("HorsehairTradeModel", "was", "[I", true)
  | 2 => ("HorsehairTradeModel", "saved", "[I", true)
  | 3 => ("HorsehairTradeModel", "past", "[I", true)
  | 4 => ("HorsehairTradeModel", "changes", "I", false)
  | 5 => ("HorsehairTradeModel", "thrown", "I", false)
  | 6 => ("HorsehairTradeModel", "reason", "I", false)
  | 7 => ("HorsehairTradeModel", "detail", "I", false)
  | 8 => ("HorsehairTradeModel", "place", "I", false)
  | 9 => ("HorsehairTradeModel", "order", "I", false)
  | 10 => ("HorsehairTradeModel", "isSaved", "Z", false)
  | 11 => ("HorsehairTradeModel", "words", "[Ljava/lang/String;", true)
  | 12 => ("HorsehairTradeModel", "tape", "[I", true)
  | 13 => ("HorsehairTradeModel", "orders", "[I", true)
  | 14 => ("HorsehairTradeModel", "taped", "I", false)
  | 15 => ("HorsehairTradeModel", "here", "I", false)
  | 16 => ("HorsehairTradeModel", "orderMany", "I", false)
  | 17 => ("HorsehairTradeModel", "told", "I", false)
  | 18 => ("HorsehairTradeModel", "faultAt", "I", false)
  | 19 => ("HorsehairTradeModel", "line", "[I", true)
  | _ => ("HorsehairTradeModel", "lined", "I", false)
def tyX4 : Nat → FieldType := fun k => match k with
  | 0 => .array .int
  | 1 => .array .int
  | 2 => .array .int
  | 3 => .array .int
  | 4 => .int
  | 5 => .int
  | 6 => .int
  | 7 => .int
  | 8 => .int
  | 9 => .int
  | 10 => .boolean
  | 11 => .array (.object "java/lang/String")
  | 12 => .array .int
  | 13 => .array .int
  | 14 => .int
  | 15 => .int
  | 16 => .int
  | 17 => .int
  | 18 => .int
  | 19 => .array .int
  | _ => .int
abbrev wsX40 : List Cond := u_ws RX4 TX4 21
set_option maxRecDepth 100000 in
theorem nmX4 : ∀ a, a < 21 → ∀ b, b < 21 → a ≠ b → (TX4 a).2.1 ≠ (TX4 b).2.1 := by decide +kernel
set_option maxRecDepth 100000 in
theorem tyX4_ok : ∀ k, k < 21 → parseFieldDescriptor (TX4 k).2.2.1 = some (tyX4 k) := by decide +kernel
abbrev cX4_init : ByteArray := prog_17_method_1_code
def yX4_init : MethodName := ⟨RX4, "<init>", "()V"⟩
def dkwX4_init_6 : List UInt8 := [16, 12, 27, 96, 4, 79, 132, 1, 1, 167, 255, 237, 177]
abbrev dktX4_init_6 : List UInt8 := dkwX4_init_6 ++ []
def dkwX4_init_5 : List UInt8 := [181, 0, 54, 42, 180, 0, 9, 3, 16, 40, 79, 3, 60, 27, 16, 6, 162, 0, 19, 42, 180, 0, 9]
abbrev dktX4_init_5 : List UInt8 := dkwX4_init_5 ++ dktX4_init_6
def dkwX4_init_4 : List UInt8 := [188, 10, 181, 0, 44, 42, 16, 36, 188, 10, 181, 0, 47, 42, 2, 181, 0, 50, 42, 17, 1, 4, 188, 10]
abbrev dktX4_init_4 : List UInt8 := dkwX4_init_4 ++ dktX4_init_5
def dkwX4_init_3 : List UInt8 := [89, 8, 18, 34, 83, 89, 16, 6, 18, 36, 83, 89, 16, 7, 18, 38, 83, 181, 0, 40, 42, 16, 60]
abbrev dktX4_init_3 : List UInt8 := dkwX4_init_3 ++ dktX4_init_4
def dkwX4_init_2 : List UInt8 := [3, 18, 24, 83, 89, 4, 18, 26, 83, 89, 5, 18, 28, 83, 89, 6, 18, 30, 83, 89, 7, 18, 32, 83]
abbrev dktX4_init_2 : List UInt8 := dkwX4_init_2 ++ dktX4_init_3
def dkwX4_init_1 : List UInt8 := [17, 0, 195, 188, 10, 181, 0, 16, 42, 17, 6, 24, 188, 10, 181, 0, 19, 42, 16, 8, 189, 0, 22, 89]
abbrev dktX4_init_1 : List UInt8 := dkwX4_init_1 ++ dktX4_init_2
def dkwX4_init_0 : List UInt8 := [42, 183, 0, 3, 42, 17, 0, 195, 188, 10, 181, 0, 9, 42, 17, 0, 195, 188, 10, 181, 0, 13, 42]
abbrev dktX4_init_0 : List UInt8 := dkwX4_init_0 ++ dktX4_init_1
theorem dksX4_init_0 : cX4_init.data.toList.drop 0 = dktX4_init_0 := by decide +kernel
theorem dksX4_init_1 : cX4_init.data.toList.drop 23 = dktX4_init_1 := dk_seg dksX4_init_0 23 rfl rfl
theorem dksX4_init_2 : cX4_init.data.toList.drop 47 = dktX4_init_2 := dk_seg dksX4_init_1 24 rfl rfl
theorem dksX4_init_3 : cX4_init.data.toList.drop 71 = dktX4_init_3 := dk_seg dksX4_init_2 24 rfl rfl
theorem dksX4_init_4 : cX4_init.data.toList.drop 94 = dktX4_init_4 := dk_seg dksX4_init_3 23 rfl rfl
theorem dksX4_init_5 : cX4_init.data.toList.drop 118 = dktX4_init_5 := dk_seg dksX4_init_4 24 rfl rfl
theorem dksX4_init_6 : cX4_init.data.toList.drop 141 = dktX4_init_6 := dk_seg dksX4_init_5 23 rfl rfl
theorem dX4_init_0 : decode cX4_init 0 = .ok (.aload_n 0, 1) := dk_42 (dk_at dksX4_init_0 0 rfl rfl)
theorem dX4_init_1 : decode cX4_init 1 = .ok (.invokespecial 3, 3) := dk_183 0 3 (dk_at dksX4_init_0 1 rfl rfl)
theorem dX4_init_4 : decode cX4_init 4 = .ok (.aload_n 0, 1) := dk_42 (dk_at dksX4_init_0 4 rfl rfl)
theorem dX4_init_5 : decode cX4_init 5 = .ok (.sipush 195, 3) := dk_17 0 195 (dk_at dksX4_init_0 5 rfl rfl)
theorem dX4_init_8 : decode cX4_init 8 = .ok (.newarray .int, 2) := dk_188_10 (dk_at dksX4_init_0 8 rfl rfl)
theorem dX4_init_10 : decode cX4_init 10 = .ok (.putfield 9, 3) := dk_181 0 9 (dk_at dksX4_init_0 10 rfl rfl)
theorem dX4_init_13 : decode cX4_init 13 = .ok (.aload_n 0, 1) := dk_42 (dk_at dksX4_init_0 13 rfl rfl)
theorem dX4_init_14 : decode cX4_init 14 = .ok (.sipush 195, 3) := dk_17 0 195 (dk_at dksX4_init_0 14 rfl rfl)
theorem dX4_init_17 : decode cX4_init 17 = .ok (.newarray .int, 2) := dk_188_10 (dk_at dksX4_init_0 17 rfl rfl)
theorem dX4_init_19 : decode cX4_init 19 = .ok (.putfield 13, 3) := dk_181 0 13 (dk_at dksX4_init_0 19 rfl rfl)
theorem dX4_init_22 : decode cX4_init 22 = .ok (.aload_n 0, 1) := dk_42 (dk_at dksX4_init_0 22 rfl rfl)
theorem dX4_init_23 : decode cX4_init 23 = .ok (.sipush 195, 3) := dk_17 0 195 (dk_at dksX4_init_1 0 rfl rfl)
theorem dX4_init_26 : decode cX4_init 26 = .ok (.newarray .int, 2) := dk_188_10 (dk_at dksX4_init_1 3 rfl rfl)
theorem dX4_init_28 : decode cX4_init 28 = .ok (.putfield 16, 3) := dk_181 0 16 (dk_at dksX4_init_1 5 rfl rfl)
theorem dX4_init_31 : decode cX4_init 31 = .ok (.aload_n 0, 1) := dk_42 (dk_at dksX4_init_1 8 rfl rfl)
theorem dX4_init_32 : decode cX4_init 32 = .ok (.sipush 1560, 3) := dk_17 6 24 (dk_at dksX4_init_1 9 rfl rfl)
theorem dX4_init_35 : decode cX4_init 35 = .ok (.newarray .int, 2) := dk_188_10 (dk_at dksX4_init_1 12 rfl rfl)
theorem dX4_init_37 : decode cX4_init 37 = .ok (.putfield 19, 3) := dk_181 0 19 (dk_at dksX4_init_1 14 rfl rfl)
theorem dX4_init_40 : decode cX4_init 40 = .ok (.aload_n 0, 1) := dk_42 (dk_at dksX4_init_1 17 rfl rfl)
theorem dX4_init_41 : decode cX4_init 41 = .ok (.bipush 8, 2) := dk_16 8 (dk_at dksX4_init_1 18 rfl rfl)
theorem dX4_init_43 : decode cX4_init 43 = .ok (.anewarray 22, 3) := dk_189 0 22 (dk_at dksX4_init_1 20 rfl rfl)
theorem dX4_init_46 : decode cX4_init 46 = .ok (.dup, 1) := dk_89 (dk_at dksX4_init_1 23 rfl rfl)
theorem dX4_init_47 : decode cX4_init 47 = .ok (.iconst 0, 1) := dk_3 (dk_at dksX4_init_2 0 rfl rfl)
theorem dX4_init_48 : decode cX4_init 48 = .ok (.ldc 24, 2) := dk_18 24 (dk_at dksX4_init_2 1 rfl rfl)
theorem dX4_init_50 : decode cX4_init 50 = .ok (.aastore, 1) := dk_83 (dk_at dksX4_init_2 3 rfl rfl)
theorem dX4_init_51 : decode cX4_init 51 = .ok (.dup, 1) := dk_89 (dk_at dksX4_init_2 4 rfl rfl)
theorem dX4_init_52 : decode cX4_init 52 = .ok (.iconst 1, 1) := dk_4 (dk_at dksX4_init_2 5 rfl rfl)
theorem dX4_init_53 : decode cX4_init 53 = .ok (.ldc 26, 2) := dk_18 26 (dk_at dksX4_init_2 6 rfl rfl)
theorem dX4_init_55 : decode cX4_init 55 = .ok (.aastore, 1) := dk_83 (dk_at dksX4_init_2 8 rfl rfl)
theorem dX4_init_56 : decode cX4_init 56 = .ok (.dup, 1) := dk_89 (dk_at dksX4_init_2 9 rfl rfl)
theorem dX4_init_57 : decode cX4_init 57 = .ok (.iconst 2, 1) := dk_5 (dk_at dksX4_init_2 10 rfl rfl)
theorem dX4_init_58 : decode cX4_init 58 = .ok (.ldc 28, 2) := dk_18 28 (dk_at dksX4_init_2 11 rfl rfl)
theorem dX4_init_60 : decode cX4_init 60 = .ok (.aastore, 1) := dk_83 (dk_at dksX4_init_2 13 rfl rfl)
theorem dX4_init_61 : decode cX4_init 61 = .ok (.dup, 1) := dk_89 (dk_at dksX4_init_2 14 rfl rfl)
theorem dX4_init_62 : decode cX4_init 62 = .ok (.iconst 3, 1) := dk_6 (dk_at dksX4_init_2 15 rfl rfl)
theorem dX4_init_63 : decode cX4_init 63 = .ok (.ldc 30, 2) := dk_18 30 (dk_at dksX4_init_2 16 rfl rfl)
theorem dX4_init_65 : decode cX4_init 65 = .ok (.aastore, 1) := dk_83 (dk_at dksX4_init_2 18 rfl rfl)
theorem dX4_init_66 : decode cX4_init 66 = .ok (.dup, 1) := dk_89 (dk_at dksX4_init_2 19 rfl rfl)
theorem dX4_init_67 : decode cX4_init 67 = .ok (.iconst 4, 1) := dk_7 (dk_at dksX4_init_2 20 rfl rfl)
theorem dX4_init_68 : decode cX4_init 68 = .ok (.ldc 32, 2) := dk_18 32 (dk_at dksX4_init_2 21 rfl rfl)
theorem dX4_init_70 : decode cX4_init 70 = .ok (.aastore, 1) := dk_83 (dk_at dksX4_init_2 23 rfl rfl)
theorem dX4_init_71 : decode cX4_init 71 = .ok (.dup, 1) := dk_89 (dk_at dksX4_init_3 0 rfl rfl)
theorem dX4_init_72 : decode cX4_init 72 = .ok (.iconst 5, 1) := dk_8 (dk_at dksX4_init_3 1 rfl rfl)
theorem dX4_init_73 : decode cX4_init 73 = .ok (.ldc 34, 2) := dk_18 34 (dk_at dksX4_init_3 2 rfl rfl)
theorem dX4_init_75 : decode cX4_init 75 = .ok (.aastore, 1) := dk_83 (dk_at dksX4_init_3 4 rfl rfl)
theorem dX4_init_76 : decode cX4_init 76 = .ok (.dup, 1) := dk_89 (dk_at dksX4_init_3 5 rfl rfl)
theorem dX4_init_77 : decode cX4_init 77 = .ok (.bipush 6, 2) := dk_16 6 (dk_at dksX4_init_3 6 rfl rfl)
theorem dX4_init_79 : decode cX4_init 79 = .ok (.ldc 36, 2) := dk_18 36 (dk_at dksX4_init_3 8 rfl rfl)
theorem dX4_init_81 : decode cX4_init 81 = .ok (.aastore, 1) := dk_83 (dk_at dksX4_init_3 10 rfl rfl)
theorem dX4_init_82 : decode cX4_init 82 = .ok (.dup, 1) := dk_89 (dk_at dksX4_init_3 11 rfl rfl)
theorem dX4_init_83 : decode cX4_init 83 = .ok (.bipush 7, 2) := dk_16 7 (dk_at dksX4_init_3 12 rfl rfl)
theorem dX4_init_85 : decode cX4_init 85 = .ok (.ldc 38, 2) := dk_18 38 (dk_at dksX4_init_3 14 rfl rfl)
theorem dX4_init_87 : decode cX4_init 87 = .ok (.aastore, 1) := dk_83 (dk_at dksX4_init_3 16 rfl rfl)
theorem dX4_init_88 : decode cX4_init 88 = .ok (.putfield 40, 3) := dk_181 0 40 (dk_at dksX4_init_3 17 rfl rfl)
theorem dX4_init_91 : decode cX4_init 91 = .ok (.aload_n 0, 1) := dk_42 (dk_at dksX4_init_3 20 rfl rfl)
theorem dX4_init_92 : decode cX4_init 92 = .ok (.bipush 60, 2) := dk_16 60 (dk_at dksX4_init_3 21 rfl rfl)
theorem dX4_init_94 : decode cX4_init 94 = .ok (.newarray .int, 2) := dk_188_10 (dk_at dksX4_init_4 0 rfl rfl)
theorem dX4_init_96 : decode cX4_init 96 = .ok (.putfield 44, 3) := dk_181 0 44 (dk_at dksX4_init_4 2 rfl rfl)
theorem dX4_init_99 : decode cX4_init 99 = .ok (.aload_n 0, 1) := dk_42 (dk_at dksX4_init_4 5 rfl rfl)
theorem dX4_init_100 : decode cX4_init 100 = .ok (.bipush 36, 2) := dk_16 36 (dk_at dksX4_init_4 6 rfl rfl)
theorem dX4_init_102 : decode cX4_init 102 = .ok (.newarray .int, 2) := dk_188_10 (dk_at dksX4_init_4 8 rfl rfl)
theorem dX4_init_104 : decode cX4_init 104 = .ok (.putfield 47, 3) := dk_181 0 47 (dk_at dksX4_init_4 10 rfl rfl)
theorem dX4_init_107 : decode cX4_init 107 = .ok (.aload_n 0, 1) := dk_42 (dk_at dksX4_init_4 13 rfl rfl)
theorem dX4_init_108 : decode cX4_init 108 = .ok (.iconst (-1), 1) := dk_2 (dk_at dksX4_init_4 14 rfl rfl)
theorem dX4_init_109 : decode cX4_init 109 = .ok (.putfield 50, 3) := dk_181 0 50 (dk_at dksX4_init_4 15 rfl rfl)
theorem dX4_init_112 : decode cX4_init 112 = .ok (.aload_n 0, 1) := dk_42 (dk_at dksX4_init_4 18 rfl rfl)
theorem dX4_init_113 : decode cX4_init 113 = .ok (.sipush 260, 3) := dk_17 1 4 (dk_at dksX4_init_4 19 rfl rfl)
theorem dX4_init_116 : decode cX4_init 116 = .ok (.newarray .int, 2) := dk_188_10 (dk_at dksX4_init_4 22 rfl rfl)
theorem dX4_init_118 : decode cX4_init 118 = .ok (.putfield 54, 3) := dk_181 0 54 (dk_at dksX4_init_5 0 rfl rfl)
theorem dX4_init_121 : decode cX4_init 121 = .ok (.aload_n 0, 1) := dk_42 (dk_at dksX4_init_5 3 rfl rfl)
theorem dX4_init_122 : decode cX4_init 122 = .ok (.getfield 9, 3) := dk_180 0 9 (dk_at dksX4_init_5 4 rfl rfl)
theorem dX4_init_125 : decode cX4_init 125 = .ok (.iconst 0, 1) := dk_3 (dk_at dksX4_init_5 7 rfl rfl)
theorem dX4_init_126 : decode cX4_init 126 = .ok (.bipush 40, 2) := dk_16 40 (dk_at dksX4_init_5 8 rfl rfl)
theorem dX4_init_128 : decode cX4_init 128 = .ok (.iastore, 1) := dk_79 (dk_at dksX4_init_5 10 rfl rfl)
theorem dX4_init_129 : decode cX4_init 129 = .ok (.iconst 0, 1) := dk_3 (dk_at dksX4_init_5 11 rfl rfl)
theorem dX4_init_130 : decode cX4_init 130 = .ok (.istore_n 1, 1) := dk_60 (dk_at dksX4_init_5 12 rfl rfl)
theorem dX4_init_131 : decode cX4_init 131 = .ok (.iload_n 1, 1) := dk_27 (dk_at dksX4_init_5 13 rfl rfl)
theorem dX4_init_132 : decode cX4_init 132 = .ok (.bipush 6, 2) := dk_16 6 (dk_at dksX4_init_5 14 rfl rfl)
theorem dX4_init_134 : decode cX4_init 134 = .ok (.if_icmp .ge 19, 3) := dk_162 0 19 (dk_at dksX4_init_5 16 rfl rfl)
theorem dX4_init_137 : decode cX4_init 137 = .ok (.aload_n 0, 1) := dk_42 (dk_at dksX4_init_5 19 rfl rfl)
theorem dX4_init_138 : decode cX4_init 138 = .ok (.getfield 9, 3) := dk_180 0 9 (dk_at dksX4_init_5 20 rfl rfl)
theorem dX4_init_141 : decode cX4_init 141 = .ok (.bipush 12, 2) := dk_16 12 (dk_at dksX4_init_6 0 rfl rfl)
theorem dX4_init_143 : decode cX4_init 143 = .ok (.iload_n 1, 1) := dk_27 (dk_at dksX4_init_6 2 rfl rfl)
theorem dX4_init_144 : decode cX4_init 144 = .ok (.iadd, 1) := dk_96 (dk_at dksX4_init_6 3 rfl rfl)
theorem dX4_init_145 : decode cX4_init 145 = .ok (.iconst 1, 1) := dk_4 (dk_at dksX4_init_6 4 rfl rfl)
theorem dX4_init_146 : decode cX4_init 146 = .ok (.iastore, 1) := dk_79 (dk_at dksX4_init_6 5 rfl rfl)
theorem dX4_init_147 : decode cX4_init 147 = .ok (.iinc 1 1, 3) := dk_132 1 1 (dk_at dksX4_init_6 6 rfl rfl)
theorem dX4_init_150 : decode cX4_init 150 = .ok (.goto (-19), 3) := dk_167 255 237 (dk_at dksX4_init_6 9 rfl rfl)
theorem dX4_init_153 : decode cX4_init 153 = .ok (.return_, 1) := dk_177 (dk_at dksX4_init_6 12 rfl rfl)
abbrev cX4_thrown : ByteArray := prog_17_method_2_code
def yX4_thrown : MethodName := ⟨RX4, "thrown", "()I"⟩
theorem dX4_thrown_0 : decode cX4_thrown 0 = .ok (.aload_n 0, 1) := by decide +kernel
theorem dX4_thrown_1 : decode cX4_thrown 1 = .ok (.getfield 57, 3) := by decide +kernel
theorem dX4_thrown_4 : decode cX4_thrown 4 = .ok (.ireturn, 1) := by decide +kernel
abbrev cX4_tail : ByteArray := prog_17_method_25_code
def yX4_tail : MethodName := ⟨RX4, "tail", "(III)I"⟩
def dkwX4_tail_9 : List UInt8 := [182, 0, 110, 172]
abbrev dktX4_tail_9 : List UInt8 := dkwX4_tail_9 ++ []
def dkwX4_tail_8 : List UInt8 := [180, 0, 9, 6, 92, 46, 4, 96, 79, 42, 180, 0, 9, 16, 8, 92, 46, 29, 96, 79, 42, 21, 4]
abbrev dktX4_tail_8 : List UInt8 := dkwX4_tail_8 ++ dktX4_tail_9
def dkwX4_tail_7 : List UInt8 := [180, 0, 9, 21, 4, 5, 184, 0, 107, 29, 79, 42, 180, 0, 9, 21, 4, 6, 184, 0, 107, 3, 79, 42]
abbrev dktX4_tail_7 : List UInt8 := dkwX4_tail_7 ++ dktX4_tail_8
def dkwX4_tail_6 : List UInt8 := [180, 0, 9, 21, 4, 3, 184, 0, 107, 27, 79, 42, 180, 0, 9, 21, 4, 4, 184, 0, 107, 28, 79, 42]
abbrev dktX4_tail_6 : List UInt8 := dkwX4_tail_6 ++ dktX4_tail_7
def dkwX4_tail_5 : List UInt8 := [167, 0, 4, 3, 96, 182, 0, 103, 153, 0, 5, 3, 172, 42, 180, 0, 9, 6, 46, 54, 4, 42]
abbrev dktX4_tail_5 : List UInt8 := dkwX4_tail_5 ++ dktX4_tail_6
def dkwX4_tail_4 : List UInt8 := [3, 4, 16, 10, 182, 0, 96, 154, 0, 27, 42, 29, 16, 99, 96, 16, 100, 108, 27, 154, 0, 7, 4]
abbrev dktX4_tail_4 : List UInt8 := dkwX4_tail_4 ++ dktX4_tail_5
def dkwX4_tail_3 : List UInt8 := [6, 29, 182, 0, 96, 154, 0, 53, 42, 42, 180, 0, 9, 6, 46, 16, 10, 160, 0, 7, 4, 167, 0, 4]
abbrev dktX4_tail_3 : List UInt8 := dkwX4_tail_3 ++ dktX4_tail_4
def dkwX4_tail_2 : List UInt8 := [182, 0, 96, 154, 0, 79, 42, 29, 16, 50, 17, 3, 132, 184, 0, 92, 154, 0, 7, 4, 167, 0, 4, 3]
abbrev dktX4_tail_2 : List UInt8 := dkwX4_tail_2 ++ dktX4_tail_3
def dkwX4_tail_1 : List UInt8 := [154, 0, 104, 42, 28, 16, 40, 16, 100, 184, 0, 92, 154, 0, 7, 4, 167, 0, 4, 3, 6, 28]
abbrev dktX4_tail_1 : List UInt8 := dkwX4_tail_1 ++ dktX4_tail_2
def dkwX4_tail_0 : List UInt8 := [42, 182, 0, 100, 42, 27, 3, 5, 184, 0, 92, 154, 0, 7, 4, 167, 0, 4, 3, 6, 27, 182, 0, 96]
abbrev dktX4_tail_0 : List UInt8 := dkwX4_tail_0 ++ dktX4_tail_1
theorem dksX4_tail_0 : cX4_tail.data.toList.drop 0 = dktX4_tail_0 := by decide +kernel
theorem dksX4_tail_1 : cX4_tail.data.toList.drop 24 = dktX4_tail_1 := dk_seg dksX4_tail_0 24 rfl rfl
theorem dksX4_tail_2 : cX4_tail.data.toList.drop 46 = dktX4_tail_2 := dk_seg dksX4_tail_1 22 rfl rfl
theorem dksX4_tail_3 : cX4_tail.data.toList.drop 70 = dktX4_tail_3 := dk_seg dksX4_tail_2 24 rfl rfl
theorem dksX4_tail_4 : cX4_tail.data.toList.drop 94 = dktX4_tail_4 := dk_seg dksX4_tail_3 24 rfl rfl
theorem dksX4_tail_5 : cX4_tail.data.toList.drop 117 = dktX4_tail_5 := dk_seg dksX4_tail_4 23 rfl rfl
theorem dksX4_tail_6 : cX4_tail.data.toList.drop 139 = dktX4_tail_6 := dk_seg dksX4_tail_5 22 rfl rfl
theorem dksX4_tail_7 : cX4_tail.data.toList.drop 163 = dktX4_tail_7 := dk_seg dksX4_tail_6 24 rfl rfl
theorem dksX4_tail_8 : cX4_tail.data.toList.drop 187 = dktX4_tail_8 := dk_seg dksX4_tail_7 24 rfl rfl
theorem dksX4_tail_9 : cX4_tail.data.toList.drop 210 = dktX4_tail_9 := dk_seg dksX4_tail_8 23 rfl rfl
theorem dX4_tail_0 : decode cX4_tail 0 = .ok (.aload_n 0, 1) := dk_42 (dk_at dksX4_tail_0 0 rfl rfl)
theorem dX4_tail_1 : decode cX4_tail 1 = .ok (.invokevirtual 100, 3) := dk_182 0 100 (dk_at dksX4_tail_0 1 rfl rfl)
theorem dX4_tail_4 : decode cX4_tail 4 = .ok (.aload_n 0, 1) := dk_42 (dk_at dksX4_tail_0 4 rfl rfl)
theorem dX4_tail_5 : decode cX4_tail 5 = .ok (.iload_n 1, 1) := dk_27 (dk_at dksX4_tail_0 5 rfl rfl)
theorem dX4_tail_6 : decode cX4_tail 6 = .ok (.iconst 0, 1) := dk_3 (dk_at dksX4_tail_0 6 rfl rfl)
theorem dX4_tail_7 : decode cX4_tail 7 = .ok (.iconst 2, 1) := dk_5 (dk_at dksX4_tail_0 7 rfl rfl)
theorem dX4_tail_8 : decode cX4_tail 8 = .ok (.invokestatic 92, 3) := dk_184 0 92 (dk_at dksX4_tail_0 8 rfl rfl)
theorem dX4_tail_11 : decode cX4_tail 11 = .ok (.ifCond .ne 7, 3) := dk_154 0 7 (dk_at dksX4_tail_0 11 rfl rfl)
theorem dX4_tail_14 : decode cX4_tail 14 = .ok (.iconst 1, 1) := dk_4 (dk_at dksX4_tail_0 14 rfl rfl)
theorem dX4_tail_15 : decode cX4_tail 15 = .ok (.goto 4, 3) := dk_167 0 4 (dk_at dksX4_tail_0 15 rfl rfl)
theorem dX4_tail_18 : decode cX4_tail 18 = .ok (.iconst 0, 1) := dk_3 (dk_at dksX4_tail_0 18 rfl rfl)
theorem dX4_tail_19 : decode cX4_tail 19 = .ok (.iconst 3, 1) := dk_6 (dk_at dksX4_tail_0 19 rfl rfl)
theorem dX4_tail_20 : decode cX4_tail 20 = .ok (.iload_n 1, 1) := dk_27 (dk_at dksX4_tail_0 20 rfl rfl)
theorem dX4_tail_21 : decode cX4_tail 21 = .ok (.invokevirtual 96, 3) := dk_182 0 96 (dk_at dksX4_tail_0 21 rfl rfl)
theorem dX4_tail_24 : decode cX4_tail 24 = .ok (.ifCond .ne 104, 3) := dk_154 0 104 (dk_at dksX4_tail_1 0 rfl rfl)
theorem dX4_tail_27 : decode cX4_tail 27 = .ok (.aload_n 0, 1) := dk_42 (dk_at dksX4_tail_1 3 rfl rfl)
theorem dX4_tail_28 : decode cX4_tail 28 = .ok (.iload_n 2, 1) := dk_28 (dk_at dksX4_tail_1 4 rfl rfl)
theorem dX4_tail_29 : decode cX4_tail 29 = .ok (.bipush 40, 2) := dk_16 40 (dk_at dksX4_tail_1 5 rfl rfl)
theorem dX4_tail_31 : decode cX4_tail 31 = .ok (.bipush 100, 2) := dk_16 100 (dk_at dksX4_tail_1 7 rfl rfl)
theorem dX4_tail_33 : decode cX4_tail 33 = .ok (.invokestatic 92, 3) := dk_184 0 92 (dk_at dksX4_tail_1 9 rfl rfl)
theorem dX4_tail_36 : decode cX4_tail 36 = .ok (.ifCond .ne 7, 3) := dk_154 0 7 (dk_at dksX4_tail_1 12 rfl rfl)
theorem dX4_tail_39 : decode cX4_tail 39 = .ok (.iconst 1, 1) := dk_4 (dk_at dksX4_tail_1 15 rfl rfl)
theorem dX4_tail_40 : decode cX4_tail 40 = .ok (.goto 4, 3) := dk_167 0 4 (dk_at dksX4_tail_1 16 rfl rfl)
theorem dX4_tail_43 : decode cX4_tail 43 = .ok (.iconst 0, 1) := dk_3 (dk_at dksX4_tail_1 19 rfl rfl)
theorem dX4_tail_44 : decode cX4_tail 44 = .ok (.iconst 3, 1) := dk_6 (dk_at dksX4_tail_1 20 rfl rfl)
theorem dX4_tail_45 : decode cX4_tail 45 = .ok (.iload_n 2, 1) := dk_28 (dk_at dksX4_tail_1 21 rfl rfl)
theorem dX4_tail_46 : decode cX4_tail 46 = .ok (.invokevirtual 96, 3) := dk_182 0 96 (dk_at dksX4_tail_2 0 rfl rfl)
theorem dX4_tail_49 : decode cX4_tail 49 = .ok (.ifCond .ne 79, 3) := dk_154 0 79 (dk_at dksX4_tail_2 3 rfl rfl)
theorem dX4_tail_52 : decode cX4_tail 52 = .ok (.aload_n 0, 1) := dk_42 (dk_at dksX4_tail_2 6 rfl rfl)
theorem dX4_tail_53 : decode cX4_tail 53 = .ok (.iload_n 3, 1) := dk_29 (dk_at dksX4_tail_2 7 rfl rfl)
theorem dX4_tail_54 : decode cX4_tail 54 = .ok (.bipush 50, 2) := dk_16 50 (dk_at dksX4_tail_2 8 rfl rfl)
theorem dX4_tail_56 : decode cX4_tail 56 = .ok (.sipush 900, 3) := dk_17 3 132 (dk_at dksX4_tail_2 10 rfl rfl)
theorem dX4_tail_59 : decode cX4_tail 59 = .ok (.invokestatic 92, 3) := dk_184 0 92 (dk_at dksX4_tail_2 13 rfl rfl)
theorem dX4_tail_62 : decode cX4_tail 62 = .ok (.ifCond .ne 7, 3) := dk_154 0 7 (dk_at dksX4_tail_2 16 rfl rfl)
theorem dX4_tail_65 : decode cX4_tail 65 = .ok (.iconst 1, 1) := dk_4 (dk_at dksX4_tail_2 19 rfl rfl)
theorem dX4_tail_66 : decode cX4_tail 66 = .ok (.goto 4, 3) := dk_167 0 4 (dk_at dksX4_tail_2 20 rfl rfl)
theorem dX4_tail_69 : decode cX4_tail 69 = .ok (.iconst 0, 1) := dk_3 (dk_at dksX4_tail_2 23 rfl rfl)
theorem dX4_tail_70 : decode cX4_tail 70 = .ok (.iconst 3, 1) := dk_6 (dk_at dksX4_tail_3 0 rfl rfl)
theorem dX4_tail_71 : decode cX4_tail 71 = .ok (.iload_n 3, 1) := dk_29 (dk_at dksX4_tail_3 1 rfl rfl)
theorem dX4_tail_72 : decode cX4_tail 72 = .ok (.invokevirtual 96, 3) := dk_182 0 96 (dk_at dksX4_tail_3 2 rfl rfl)
theorem dX4_tail_75 : decode cX4_tail 75 = .ok (.ifCond .ne 53, 3) := dk_154 0 53 (dk_at dksX4_tail_3 5 rfl rfl)
theorem dX4_tail_78 : decode cX4_tail 78 = .ok (.aload_n 0, 1) := dk_42 (dk_at dksX4_tail_3 8 rfl rfl)
theorem dX4_tail_79 : decode cX4_tail 79 = .ok (.aload_n 0, 1) := dk_42 (dk_at dksX4_tail_3 9 rfl rfl)
theorem dX4_tail_80 : decode cX4_tail 80 = .ok (.getfield 9, 3) := dk_180 0 9 (dk_at dksX4_tail_3 10 rfl rfl)
theorem dX4_tail_83 : decode cX4_tail 83 = .ok (.iconst 3, 1) := dk_6 (dk_at dksX4_tail_3 13 rfl rfl)
theorem dX4_tail_84 : decode cX4_tail 84 = .ok (.iaload, 1) := dk_46 (dk_at dksX4_tail_3 14 rfl rfl)
theorem dX4_tail_85 : decode cX4_tail 85 = .ok (.bipush 10, 2) := dk_16 10 (dk_at dksX4_tail_3 15 rfl rfl)
theorem dX4_tail_87 : decode cX4_tail 87 = .ok (.if_icmp .ne 7, 3) := dk_160 0 7 (dk_at dksX4_tail_3 17 rfl rfl)
theorem dX4_tail_90 : decode cX4_tail 90 = .ok (.iconst 1, 1) := dk_4 (dk_at dksX4_tail_3 20 rfl rfl)
theorem dX4_tail_91 : decode cX4_tail 91 = .ok (.goto 4, 3) := dk_167 0 4 (dk_at dksX4_tail_3 21 rfl rfl)
theorem dX4_tail_94 : decode cX4_tail 94 = .ok (.iconst 0, 1) := dk_3 (dk_at dksX4_tail_4 0 rfl rfl)
theorem dX4_tail_95 : decode cX4_tail 95 = .ok (.iconst 1, 1) := dk_4 (dk_at dksX4_tail_4 1 rfl rfl)
theorem dX4_tail_96 : decode cX4_tail 96 = .ok (.bipush 10, 2) := dk_16 10 (dk_at dksX4_tail_4 2 rfl rfl)
theorem dX4_tail_98 : decode cX4_tail 98 = .ok (.invokevirtual 96, 3) := dk_182 0 96 (dk_at dksX4_tail_4 4 rfl rfl)
theorem dX4_tail_101 : decode cX4_tail 101 = .ok (.ifCond .ne 27, 3) := dk_154 0 27 (dk_at dksX4_tail_4 7 rfl rfl)
theorem dX4_tail_104 : decode cX4_tail 104 = .ok (.aload_n 0, 1) := dk_42 (dk_at dksX4_tail_4 10 rfl rfl)
theorem dX4_tail_105 : decode cX4_tail 105 = .ok (.iload_n 3, 1) := dk_29 (dk_at dksX4_tail_4 11 rfl rfl)
theorem dX4_tail_106 : decode cX4_tail 106 = .ok (.bipush 99, 2) := dk_16 99 (dk_at dksX4_tail_4 12 rfl rfl)
theorem dX4_tail_108 : decode cX4_tail 108 = .ok (.iadd, 1) := dk_96 (dk_at dksX4_tail_4 14 rfl rfl)
theorem dX4_tail_109 : decode cX4_tail 109 = .ok (.bipush 100, 2) := dk_16 100 (dk_at dksX4_tail_4 15 rfl rfl)
theorem dX4_tail_111 : decode cX4_tail 111 = .ok (.idiv, 1) := dk_108 (dk_at dksX4_tail_4 17 rfl rfl)
theorem dX4_tail_112 : decode cX4_tail 112 = .ok (.iload_n 1, 1) := dk_27 (dk_at dksX4_tail_4 18 rfl rfl)
theorem dX4_tail_113 : decode cX4_tail 113 = .ok (.ifCond .ne 7, 3) := dk_154 0 7 (dk_at dksX4_tail_4 19 rfl rfl)
theorem dX4_tail_116 : decode cX4_tail 116 = .ok (.iconst 1, 1) := dk_4 (dk_at dksX4_tail_4 22 rfl rfl)
theorem dX4_tail_117 : decode cX4_tail 117 = .ok (.goto 4, 3) := dk_167 0 4 (dk_at dksX4_tail_5 0 rfl rfl)
theorem dX4_tail_120 : decode cX4_tail 120 = .ok (.iconst 0, 1) := dk_3 (dk_at dksX4_tail_5 3 rfl rfl)
theorem dX4_tail_121 : decode cX4_tail 121 = .ok (.iadd, 1) := dk_96 (dk_at dksX4_tail_5 4 rfl rfl)
theorem dX4_tail_122 : decode cX4_tail 122 = .ok (.invokevirtual 103, 3) := dk_182 0 103 (dk_at dksX4_tail_5 5 rfl rfl)
theorem dX4_tail_125 : decode cX4_tail 125 = .ok (.ifCond .eq 5, 3) := dk_153 0 5 (dk_at dksX4_tail_5 8 rfl rfl)
theorem dX4_tail_128 : decode cX4_tail 128 = .ok (.iconst 0, 1) := dk_3 (dk_at dksX4_tail_5 11 rfl rfl)
theorem dX4_tail_129 : decode cX4_tail 129 = .ok (.ireturn, 1) := dk_172 (dk_at dksX4_tail_5 12 rfl rfl)
theorem dX4_tail_130 : decode cX4_tail 130 = .ok (.aload_n 0, 1) := dk_42 (dk_at dksX4_tail_5 13 rfl rfl)
theorem dX4_tail_131 : decode cX4_tail 131 = .ok (.getfield 9, 3) := dk_180 0 9 (dk_at dksX4_tail_5 14 rfl rfl)
theorem dX4_tail_134 : decode cX4_tail 134 = .ok (.iconst 3, 1) := dk_6 (dk_at dksX4_tail_5 17 rfl rfl)
theorem dX4_tail_135 : decode cX4_tail 135 = .ok (.iaload, 1) := dk_46 (dk_at dksX4_tail_5 18 rfl rfl)
theorem dX4_tail_136 : decode cX4_tail 136 = .ok (.istore 4, 2) := dk_54 4 (dk_at dksX4_tail_5 19 rfl rfl)
theorem dX4_tail_138 : decode cX4_tail 138 = .ok (.aload_n 0, 1) := dk_42 (dk_at dksX4_tail_5 21 rfl rfl)
theorem dX4_tail_139 : decode cX4_tail 139 = .ok (.getfield 9, 3) := dk_180 0 9 (dk_at dksX4_tail_6 0 rfl rfl)
theorem dX4_tail_142 : decode cX4_tail 142 = .ok (.iload 4, 2) := dk_21 4 (dk_at dksX4_tail_6 3 rfl rfl)
theorem dX4_tail_144 : decode cX4_tail 144 = .ok (.iconst 0, 1) := dk_3 (dk_at dksX4_tail_6 5 rfl rfl)
theorem dX4_tail_145 : decode cX4_tail 145 = .ok (.invokestatic 107, 3) := dk_184 0 107 (dk_at dksX4_tail_6 6 rfl rfl)
theorem dX4_tail_148 : decode cX4_tail 148 = .ok (.iload_n 1, 1) := dk_27 (dk_at dksX4_tail_6 9 rfl rfl)
theorem dX4_tail_149 : decode cX4_tail 149 = .ok (.iastore, 1) := dk_79 (dk_at dksX4_tail_6 10 rfl rfl)
theorem dX4_tail_150 : decode cX4_tail 150 = .ok (.aload_n 0, 1) := dk_42 (dk_at dksX4_tail_6 11 rfl rfl)
theorem dX4_tail_151 : decode cX4_tail 151 = .ok (.getfield 9, 3) := dk_180 0 9 (dk_at dksX4_tail_6 12 rfl rfl)
theorem dX4_tail_154 : decode cX4_tail 154 = .ok (.iload 4, 2) := dk_21 4 (dk_at dksX4_tail_6 15 rfl rfl)
theorem dX4_tail_156 : decode cX4_tail 156 = .ok (.iconst 1, 1) := dk_4 (dk_at dksX4_tail_6 17 rfl rfl)
theorem dX4_tail_157 : decode cX4_tail 157 = .ok (.invokestatic 107, 3) := dk_184 0 107 (dk_at dksX4_tail_6 18 rfl rfl)
theorem dX4_tail_160 : decode cX4_tail 160 = .ok (.iload_n 2, 1) := dk_28 (dk_at dksX4_tail_6 21 rfl rfl)
theorem dX4_tail_161 : decode cX4_tail 161 = .ok (.iastore, 1) := dk_79 (dk_at dksX4_tail_6 22 rfl rfl)
theorem dX4_tail_162 : decode cX4_tail 162 = .ok (.aload_n 0, 1) := dk_42 (dk_at dksX4_tail_6 23 rfl rfl)
theorem dX4_tail_163 : decode cX4_tail 163 = .ok (.getfield 9, 3) := dk_180 0 9 (dk_at dksX4_tail_7 0 rfl rfl)
theorem dX4_tail_166 : decode cX4_tail 166 = .ok (.iload 4, 2) := dk_21 4 (dk_at dksX4_tail_7 3 rfl rfl)
theorem dX4_tail_168 : decode cX4_tail 168 = .ok (.iconst 2, 1) := dk_5 (dk_at dksX4_tail_7 5 rfl rfl)
theorem dX4_tail_169 : decode cX4_tail 169 = .ok (.invokestatic 107, 3) := dk_184 0 107 (dk_at dksX4_tail_7 6 rfl rfl)
theorem dX4_tail_172 : decode cX4_tail 172 = .ok (.iload_n 3, 1) := dk_29 (dk_at dksX4_tail_7 9 rfl rfl)
theorem dX4_tail_173 : decode cX4_tail 173 = .ok (.iastore, 1) := dk_79 (dk_at dksX4_tail_7 10 rfl rfl)
theorem dX4_tail_174 : decode cX4_tail 174 = .ok (.aload_n 0, 1) := dk_42 (dk_at dksX4_tail_7 11 rfl rfl)
theorem dX4_tail_175 : decode cX4_tail 175 = .ok (.getfield 9, 3) := dk_180 0 9 (dk_at dksX4_tail_7 12 rfl rfl)
theorem dX4_tail_178 : decode cX4_tail 178 = .ok (.iload 4, 2) := dk_21 4 (dk_at dksX4_tail_7 15 rfl rfl)
theorem dX4_tail_180 : decode cX4_tail 180 = .ok (.iconst 3, 1) := dk_6 (dk_at dksX4_tail_7 17 rfl rfl)
theorem dX4_tail_181 : decode cX4_tail 181 = .ok (.invokestatic 107, 3) := dk_184 0 107 (dk_at dksX4_tail_7 18 rfl rfl)
theorem dX4_tail_184 : decode cX4_tail 184 = .ok (.iconst 0, 1) := dk_3 (dk_at dksX4_tail_7 21 rfl rfl)
theorem dX4_tail_185 : decode cX4_tail 185 = .ok (.iastore, 1) := dk_79 (dk_at dksX4_tail_7 22 rfl rfl)
theorem dX4_tail_186 : decode cX4_tail 186 = .ok (.aload_n 0, 1) := dk_42 (dk_at dksX4_tail_7 23 rfl rfl)
theorem dX4_tail_187 : decode cX4_tail 187 = .ok (.getfield 9, 3) := dk_180 0 9 (dk_at dksX4_tail_8 0 rfl rfl)
theorem dX4_tail_190 : decode cX4_tail 190 = .ok (.iconst 3, 1) := dk_6 (dk_at dksX4_tail_8 3 rfl rfl)
theorem dX4_tail_191 : decode cX4_tail 191 = .ok (.dup2, 1) := dk_92 (dk_at dksX4_tail_8 4 rfl rfl)
theorem dX4_tail_192 : decode cX4_tail 192 = .ok (.iaload, 1) := dk_46 (dk_at dksX4_tail_8 5 rfl rfl)
theorem dX4_tail_193 : decode cX4_tail 193 = .ok (.iconst 1, 1) := dk_4 (dk_at dksX4_tail_8 6 rfl rfl)
theorem dX4_tail_194 : decode cX4_tail 194 = .ok (.iadd, 1) := dk_96 (dk_at dksX4_tail_8 7 rfl rfl)
theorem dX4_tail_195 : decode cX4_tail 195 = .ok (.iastore, 1) := dk_79 (dk_at dksX4_tail_8 8 rfl rfl)
theorem dX4_tail_196 : decode cX4_tail 196 = .ok (.aload_n 0, 1) := dk_42 (dk_at dksX4_tail_8 9 rfl rfl)
theorem dX4_tail_197 : decode cX4_tail 197 = .ok (.getfield 9, 3) := dk_180 0 9 (dk_at dksX4_tail_8 10 rfl rfl)
theorem dX4_tail_200 : decode cX4_tail 200 = .ok (.bipush 8, 2) := dk_16 8 (dk_at dksX4_tail_8 13 rfl rfl)
theorem dX4_tail_202 : decode cX4_tail 202 = .ok (.dup2, 1) := dk_92 (dk_at dksX4_tail_8 15 rfl rfl)
theorem dX4_tail_203 : decode cX4_tail 203 = .ok (.iaload, 1) := dk_46 (dk_at dksX4_tail_8 16 rfl rfl)
theorem dX4_tail_204 : decode cX4_tail 204 = .ok (.iload_n 3, 1) := dk_29 (dk_at dksX4_tail_8 17 rfl rfl)
theorem dX4_tail_205 : decode cX4_tail 205 = .ok (.iadd, 1) := dk_96 (dk_at dksX4_tail_8 18 rfl rfl)
theorem dX4_tail_206 : decode cX4_tail 206 = .ok (.iastore, 1) := dk_79 (dk_at dksX4_tail_8 19 rfl rfl)
theorem dX4_tail_207 : decode cX4_tail 207 = .ok (.aload_n 0, 1) := dk_42 (dk_at dksX4_tail_8 20 rfl rfl)
theorem dX4_tail_208 : decode cX4_tail 208 = .ok (.iload 4, 2) := dk_21 4 (dk_at dksX4_tail_8 21 rfl rfl)
theorem dX4_tail_210 : decode cX4_tail 210 = .ok (.invokevirtual 110, 3) := dk_182 0 110 (dk_at dksX4_tail_9 0 rfl rfl)
theorem dX4_tail_213 : decode cX4_tail 213 = .ok (.ireturn, 1) := dk_172 (dk_at dksX4_tail_9 3 rfl rfl)
abbrev cX4_begins : ByteArray := prog_17_method_8_code
def yX4_begins : MethodName := ⟨RX4, "begins", "()V"⟩
def dkwX4_begins_0 : List UInt8 := [42, 3, 181, 0, 64, 42, 182, 0, 67, 177]
abbrev dktX4_begins_0 : List UInt8 := dkwX4_begins_0 ++ []
theorem dksX4_begins_0 : cX4_begins.data.toList.drop 0 = dktX4_begins_0 := by decide +kernel
theorem dX4_begins_0 : decode cX4_begins 0 = .ok (.aload_n 0, 1) := dk_42 (dk_at dksX4_begins_0 0 rfl rfl)
theorem dX4_begins_1 : decode cX4_begins 1 = .ok (.iconst 0, 1) := dk_3 (dk_at dksX4_begins_0 1 rfl rfl)
theorem dX4_begins_2 : decode cX4_begins 2 = .ok (.putfield 64, 3) := dk_181 0 64 (dk_at dksX4_begins_0 2 rfl rfl)
theorem dX4_begins_5 : decode cX4_begins 5 = .ok (.aload_n 0, 1) := dk_42 (dk_at dksX4_begins_0 5 rfl rfl)
theorem dX4_begins_6 : decode cX4_begins 6 = .ok (.invokevirtual 67, 3) := dk_182 0 67 (dk_at dksX4_begins_0 6 rfl rfl)
theorem dX4_begins_9 : decode cX4_begins 9 = .ok (.return_, 1) := dk_177 (dk_at dksX4_begins_0 9 rfl rfl)
abbrev cX4_keeps : ByteArray := prog_17_method_7_code
def yX4_keeps : MethodName := ⟨RX4, "keeps", "()V"⟩
def dkwX4_keeps_0 : List UInt8 := [42, 180, 0, 9, 3, 42, 180, 0, 13, 3, 184, 0, 60, 42, 3, 181, 0, 57, 177]
abbrev dktX4_keeps_0 : List UInt8 := dkwX4_keeps_0 ++ []
theorem dksX4_keeps_0 : cX4_keeps.data.toList.drop 0 = dktX4_keeps_0 := by decide +kernel
theorem dX4_keeps_0 : decode cX4_keeps 0 = .ok (.aload_n 0, 1) := dk_42 (dk_at dksX4_keeps_0 0 rfl rfl)
theorem dX4_keeps_1 : decode cX4_keeps 1 = .ok (.getfield 9, 3) := dk_180 0 9 (dk_at dksX4_keeps_0 1 rfl rfl)
theorem dX4_keeps_4 : decode cX4_keeps 4 = .ok (.iconst 0, 1) := dk_3 (dk_at dksX4_keeps_0 4 rfl rfl)
theorem dX4_keeps_5 : decode cX4_keeps 5 = .ok (.aload_n 0, 1) := dk_42 (dk_at dksX4_keeps_0 5 rfl rfl)
theorem dX4_keeps_6 : decode cX4_keeps 6 = .ok (.getfield 13, 3) := dk_180 0 13 (dk_at dksX4_keeps_0 6 rfl rfl)
theorem dX4_keeps_9 : decode cX4_keeps 9 = .ok (.iconst 0, 1) := dk_3 (dk_at dksX4_keeps_0 9 rfl rfl)
theorem dX4_keeps_10 : decode cX4_keeps 10 = .ok (.invokestatic 60, 3) := dk_184 0 60 (dk_at dksX4_keeps_0 10 rfl rfl)
theorem dX4_keeps_13 : decode cX4_keeps 13 = .ok (.aload_n 0, 1) := dk_42 (dk_at dksX4_keeps_0 13 rfl rfl)
theorem dX4_keeps_14 : decode cX4_keeps 14 = .ok (.iconst 0, 1) := dk_3 (dk_at dksX4_keeps_0 14 rfl rfl)
theorem dX4_keeps_15 : decode cX4_keeps 15 = .ok (.putfield 57, 3) := dk_181 0 57 (dk_at dksX4_keeps_0 15 rfl rfl)
theorem dX4_keeps_18 : decode cX4_keeps 18 = .ok (.return_, 1) := dk_177 (dk_at dksX4_keeps_0 18 rfl rfl)
abbrev cX4_copies : ByteArray := prog_17_method_6_code
def yX4_copies : MethodName := ⟨RX4, "copies", "([II[II)V"⟩
def dkwX4_copies_1 : List UInt8 := [132, 4, 1, 167, 255, 233, 177]
abbrev dktX4_copies_1 : List UInt8 := dkwX4_copies_1 ++ []
def dkwX4_copies_0 : List UInt8 := [3, 54, 4, 21, 4, 17, 0, 195, 162, 0, 21, 44, 29, 21, 4, 96, 42, 27, 21, 4, 96, 46, 79]
abbrev dktX4_copies_0 : List UInt8 := dkwX4_copies_0 ++ dktX4_copies_1
theorem dksX4_copies_0 : cX4_copies.data.toList.drop 0 = dktX4_copies_0 := by decide +kernel
theorem dksX4_copies_1 : cX4_copies.data.toList.drop 23 = dktX4_copies_1 := dk_seg dksX4_copies_0 23 rfl rfl
theorem dX4_copies_0 : decode cX4_copies 0 = .ok (.iconst 0, 1) := dk_3 (dk_at dksX4_copies_0 0 rfl rfl)
theorem dX4_copies_1 : decode cX4_copies 1 = .ok (.istore 4, 2) := dk_54 4 (dk_at dksX4_copies_0 1 rfl rfl)
theorem dX4_copies_3 : decode cX4_copies 3 = .ok (.iload 4, 2) := dk_21 4 (dk_at dksX4_copies_0 3 rfl rfl)
theorem dX4_copies_5 : decode cX4_copies 5 = .ok (.sipush 195, 3) := dk_17 0 195 (dk_at dksX4_copies_0 5 rfl rfl)
theorem dX4_copies_8 : decode cX4_copies 8 = .ok (.if_icmp .ge 21, 3) := dk_162 0 21 (dk_at dksX4_copies_0 8 rfl rfl)
theorem dX4_copies_11 : decode cX4_copies 11 = .ok (.aload_n 2, 1) := dk_44 (dk_at dksX4_copies_0 11 rfl rfl)
theorem dX4_copies_12 : decode cX4_copies 12 = .ok (.iload_n 3, 1) := dk_29 (dk_at dksX4_copies_0 12 rfl rfl)
theorem dX4_copies_13 : decode cX4_copies 13 = .ok (.iload 4, 2) := dk_21 4 (dk_at dksX4_copies_0 13 rfl rfl)
theorem dX4_copies_15 : decode cX4_copies 15 = .ok (.iadd, 1) := dk_96 (dk_at dksX4_copies_0 15 rfl rfl)
theorem dX4_copies_16 : decode cX4_copies 16 = .ok (.aload_n 0, 1) := dk_42 (dk_at dksX4_copies_0 16 rfl rfl)
theorem dX4_copies_17 : decode cX4_copies 17 = .ok (.iload_n 1, 1) := dk_27 (dk_at dksX4_copies_0 17 rfl rfl)
theorem dX4_copies_18 : decode cX4_copies 18 = .ok (.iload 4, 2) := dk_21 4 (dk_at dksX4_copies_0 18 rfl rfl)
theorem dX4_copies_20 : decode cX4_copies 20 = .ok (.iadd, 1) := dk_96 (dk_at dksX4_copies_0 20 rfl rfl)
theorem dX4_copies_21 : decode cX4_copies 21 = .ok (.iaload, 1) := dk_46 (dk_at dksX4_copies_0 21 rfl rfl)
theorem dX4_copies_22 : decode cX4_copies 22 = .ok (.iastore, 1) := dk_79 (dk_at dksX4_copies_0 22 rfl rfl)
theorem dX4_copies_23 : decode cX4_copies 23 = .ok (.iinc 4 1, 3) := dk_132 4 1 (dk_at dksX4_copies_1 0 rfl rfl)
theorem dX4_copies_26 : decode cX4_copies 26 = .ok (.goto (-23), 3) := dk_167 255 233 (dk_at dksX4_copies_1 3 rfl rfl)
theorem dX4_copies_29 : decode cX4_copies 29 = .ok (.return_, 1) := dk_177 (dk_at dksX4_copies_1 6 rfl rfl)
abbrev cX4_isIn : ByteArray := prog_17_method_3_code
def yX4_isIn : MethodName := ⟨RX4, "isIn", "(III)Z"⟩
def dkwX4_isIn_0 : List UInt8 := [26, 27, 161, 0, 12, 26, 28, 163, 0, 7, 4, 167, 0, 4, 3, 172]
abbrev dktX4_isIn_0 : List UInt8 := dkwX4_isIn_0 ++ []
theorem dksX4_isIn_0 : cX4_isIn.data.toList.drop 0 = dktX4_isIn_0 := by decide +kernel
theorem dX4_isIn_0 : decode cX4_isIn 0 = .ok (.iload_n 0, 1) := dk_26 (dk_at dksX4_isIn_0 0 rfl rfl)
theorem dX4_isIn_1 : decode cX4_isIn 1 = .ok (.iload_n 1, 1) := dk_27 (dk_at dksX4_isIn_0 1 rfl rfl)
theorem dX4_isIn_2 : decode cX4_isIn 2 = .ok (.if_icmp .lt 12, 3) := dk_161 0 12 (dk_at dksX4_isIn_0 2 rfl rfl)
theorem dX4_isIn_5 : decode cX4_isIn 5 = .ok (.iload_n 0, 1) := dk_26 (dk_at dksX4_isIn_0 5 rfl rfl)
theorem dX4_isIn_6 : decode cX4_isIn 6 = .ok (.iload_n 2, 1) := dk_28 (dk_at dksX4_isIn_0 6 rfl rfl)
theorem dX4_isIn_7 : decode cX4_isIn 7 = .ok (.if_icmp .gt 7, 3) := dk_163 0 7 (dk_at dksX4_isIn_0 7 rfl rfl)
theorem dX4_isIn_10 : decode cX4_isIn 10 = .ok (.iconst 1, 1) := dk_4 (dk_at dksX4_isIn_0 10 rfl rfl)
theorem dX4_isIn_11 : decode cX4_isIn 11 = .ok (.goto 4, 3) := dk_167 0 4 (dk_at dksX4_isIn_0 11 rfl rfl)
theorem dX4_isIn_14 : decode cX4_isIn 14 = .ok (.iconst 0, 1) := dk_3 (dk_at dksX4_isIn_0 14 rfl rfl)
theorem dX4_isIn_15 : decode cX4_isIn 15 = .ok (.ireturn, 1) := dk_172 (dk_at dksX4_isIn_0 15 rfl rfl)
abbrev cX4_isRefused : ByteArray := prog_17_method_12_code
def yX4_isRefused : MethodName := ⟨RX4, "isRefused", "(ZII)Z"⟩
def dkwX4_isRefused_1 : List UInt8 := [181, 0, 57, 27, 172]
abbrev dktX4_isRefused_1 : List UInt8 := dkwX4_isRefused_1 ++ []
def dkwX4_isRefused_0 : List UInt8 := [27, 153, 0, 26, 42, 28, 181, 0, 76, 42, 29, 181, 0, 79, 42, 42, 180, 0, 64, 181, 0, 82, 42, 4]
abbrev dktX4_isRefused_0 : List UInt8 := dkwX4_isRefused_0 ++ dktX4_isRefused_1
theorem dksX4_isRefused_0 : cX4_isRefused.data.toList.drop 0 = dktX4_isRefused_0 := by decide +kernel
theorem dksX4_isRefused_1 : cX4_isRefused.data.toList.drop 24 = dktX4_isRefused_1 := dk_seg dksX4_isRefused_0 24 rfl rfl
theorem dX4_isRefused_0 : decode cX4_isRefused 0 = .ok (.iload_n 1, 1) := dk_27 (dk_at dksX4_isRefused_0 0 rfl rfl)
theorem dX4_isRefused_1 : decode cX4_isRefused 1 = .ok (.ifCond .eq 26, 3) := dk_153 0 26 (dk_at dksX4_isRefused_0 1 rfl rfl)
theorem dX4_isRefused_4 : decode cX4_isRefused 4 = .ok (.aload_n 0, 1) := dk_42 (dk_at dksX4_isRefused_0 4 rfl rfl)
theorem dX4_isRefused_5 : decode cX4_isRefused 5 = .ok (.iload_n 2, 1) := dk_28 (dk_at dksX4_isRefused_0 5 rfl rfl)
theorem dX4_isRefused_6 : decode cX4_isRefused 6 = .ok (.putfield 76, 3) := dk_181 0 76 (dk_at dksX4_isRefused_0 6 rfl rfl)
theorem dX4_isRefused_9 : decode cX4_isRefused 9 = .ok (.aload_n 0, 1) := dk_42 (dk_at dksX4_isRefused_0 9 rfl rfl)
theorem dX4_isRefused_10 : decode cX4_isRefused 10 = .ok (.iload_n 3, 1) := dk_29 (dk_at dksX4_isRefused_0 10 rfl rfl)
theorem dX4_isRefused_11 : decode cX4_isRefused 11 = .ok (.putfield 79, 3) := dk_181 0 79 (dk_at dksX4_isRefused_0 11 rfl rfl)
theorem dX4_isRefused_14 : decode cX4_isRefused 14 = .ok (.aload_n 0, 1) := dk_42 (dk_at dksX4_isRefused_0 14 rfl rfl)
theorem dX4_isRefused_15 : decode cX4_isRefused 15 = .ok (.aload_n 0, 1) := dk_42 (dk_at dksX4_isRefused_0 15 rfl rfl)
theorem dX4_isRefused_16 : decode cX4_isRefused 16 = .ok (.getfield 64, 3) := dk_180 0 64 (dk_at dksX4_isRefused_0 16 rfl rfl)
theorem dX4_isRefused_19 : decode cX4_isRefused 19 = .ok (.putfield 82, 3) := dk_181 0 82 (dk_at dksX4_isRefused_0 19 rfl rfl)
theorem dX4_isRefused_22 : decode cX4_isRefused 22 = .ok (.aload_n 0, 1) := dk_42 (dk_at dksX4_isRefused_0 22 rfl rfl)
theorem dX4_isRefused_23 : decode cX4_isRefused 23 = .ok (.iconst 1, 1) := dk_4 (dk_at dksX4_isRefused_0 23 rfl rfl)
theorem dX4_isRefused_24 : decode cX4_isRefused 24 = .ok (.putfield 57, 3) := dk_181 0 57 (dk_at dksX4_isRefused_1 0 rfl rfl)
theorem dX4_isRefused_27 : decode cX4_isRefused 27 = .ok (.iload_n 1, 1) := dk_27 (dk_at dksX4_isRefused_1 3 rfl rfl)
theorem dX4_isRefused_28 : decode cX4_isRefused 28 = .ok (.ireturn, 1) := dk_172 (dk_at dksX4_isRefused_1 4 rfl rfl)
abbrev cX4_cannotPay : ByteArray := prog_17_method_24_code
def yX4_cannotPay : MethodName := ⟨RX4, "cannotPay", "(I)Z"⟩
def dkwX4_cannotPay_1 : List UInt8 := [100, 182, 0, 96, 153, 0, 5, 4, 172, 42, 180, 0, 9, 3, 92, 46, 27, 100, 79, 3, 172]
abbrev dktX4_cannotPay_1 : List UInt8 := dkwX4_cannotPay_1 ++ []
def dkwX4_cannotPay_0 : List UInt8 := [42, 42, 180, 0, 9, 3, 46, 27, 162, 0, 7, 4, 167, 0, 4, 3, 7, 27, 42, 180, 0, 9, 3, 46]
abbrev dktX4_cannotPay_0 : List UInt8 := dkwX4_cannotPay_0 ++ dktX4_cannotPay_1
theorem dksX4_cannotPay_0 : cX4_cannotPay.data.toList.drop 0 = dktX4_cannotPay_0 := by decide +kernel
theorem dksX4_cannotPay_1 : cX4_cannotPay.data.toList.drop 24 = dktX4_cannotPay_1 := dk_seg dksX4_cannotPay_0 24 rfl rfl
theorem dX4_cannotPay_0 : decode cX4_cannotPay 0 = .ok (.aload_n 0, 1) := dk_42 (dk_at dksX4_cannotPay_0 0 rfl rfl)
theorem dX4_cannotPay_1 : decode cX4_cannotPay 1 = .ok (.aload_n 0, 1) := dk_42 (dk_at dksX4_cannotPay_0 1 rfl rfl)
theorem dX4_cannotPay_2 : decode cX4_cannotPay 2 = .ok (.getfield 9, 3) := dk_180 0 9 (dk_at dksX4_cannotPay_0 2 rfl rfl)
theorem dX4_cannotPay_5 : decode cX4_cannotPay 5 = .ok (.iconst 0, 1) := dk_3 (dk_at dksX4_cannotPay_0 5 rfl rfl)
theorem dX4_cannotPay_6 : decode cX4_cannotPay 6 = .ok (.iaload, 1) := dk_46 (dk_at dksX4_cannotPay_0 6 rfl rfl)
theorem dX4_cannotPay_7 : decode cX4_cannotPay 7 = .ok (.iload_n 1, 1) := dk_27 (dk_at dksX4_cannotPay_0 7 rfl rfl)
theorem dX4_cannotPay_8 : decode cX4_cannotPay 8 = .ok (.if_icmp .ge 7, 3) := dk_162 0 7 (dk_at dksX4_cannotPay_0 8 rfl rfl)
theorem dX4_cannotPay_11 : decode cX4_cannotPay 11 = .ok (.iconst 1, 1) := dk_4 (dk_at dksX4_cannotPay_0 11 rfl rfl)
theorem dX4_cannotPay_12 : decode cX4_cannotPay 12 = .ok (.goto 4, 3) := dk_167 0 4 (dk_at dksX4_cannotPay_0 12 rfl rfl)
theorem dX4_cannotPay_15 : decode cX4_cannotPay 15 = .ok (.iconst 0, 1) := dk_3 (dk_at dksX4_cannotPay_0 15 rfl rfl)
theorem dX4_cannotPay_16 : decode cX4_cannotPay 16 = .ok (.iconst 4, 1) := dk_7 (dk_at dksX4_cannotPay_0 16 rfl rfl)
theorem dX4_cannotPay_17 : decode cX4_cannotPay 17 = .ok (.iload_n 1, 1) := dk_27 (dk_at dksX4_cannotPay_0 17 rfl rfl)
theorem dX4_cannotPay_18 : decode cX4_cannotPay 18 = .ok (.aload_n 0, 1) := dk_42 (dk_at dksX4_cannotPay_0 18 rfl rfl)
theorem dX4_cannotPay_19 : decode cX4_cannotPay 19 = .ok (.getfield 9, 3) := dk_180 0 9 (dk_at dksX4_cannotPay_0 19 rfl rfl)
theorem dX4_cannotPay_22 : decode cX4_cannotPay 22 = .ok (.iconst 0, 1) := dk_3 (dk_at dksX4_cannotPay_0 22 rfl rfl)
theorem dX4_cannotPay_23 : decode cX4_cannotPay 23 = .ok (.iaload, 1) := dk_46 (dk_at dksX4_cannotPay_0 23 rfl rfl)
theorem dX4_cannotPay_24 : decode cX4_cannotPay 24 = .ok (.isub, 1) := dk_100 (dk_at dksX4_cannotPay_1 0 rfl rfl)
theorem dX4_cannotPay_25 : decode cX4_cannotPay 25 = .ok (.invokevirtual 96, 3) := dk_182 0 96 (dk_at dksX4_cannotPay_1 1 rfl rfl)
theorem dX4_cannotPay_28 : decode cX4_cannotPay 28 = .ok (.ifCond .eq 5, 3) := dk_153 0 5 (dk_at dksX4_cannotPay_1 4 rfl rfl)
theorem dX4_cannotPay_31 : decode cX4_cannotPay 31 = .ok (.iconst 1, 1) := dk_4 (dk_at dksX4_cannotPay_1 7 rfl rfl)
theorem dX4_cannotPay_32 : decode cX4_cannotPay 32 = .ok (.ireturn, 1) := dk_172 (dk_at dksX4_cannotPay_1 8 rfl rfl)
theorem dX4_cannotPay_33 : decode cX4_cannotPay 33 = .ok (.aload_n 0, 1) := dk_42 (dk_at dksX4_cannotPay_1 9 rfl rfl)
theorem dX4_cannotPay_34 : decode cX4_cannotPay 34 = .ok (.getfield 9, 3) := dk_180 0 9 (dk_at dksX4_cannotPay_1 10 rfl rfl)
theorem dX4_cannotPay_37 : decode cX4_cannotPay 37 = .ok (.iconst 0, 1) := dk_3 (dk_at dksX4_cannotPay_1 13 rfl rfl)
theorem dX4_cannotPay_38 : decode cX4_cannotPay 38 = .ok (.dup2, 1) := dk_92 (dk_at dksX4_cannotPay_1 14 rfl rfl)
theorem dX4_cannotPay_39 : decode cX4_cannotPay 39 = .ok (.iaload, 1) := dk_46 (dk_at dksX4_cannotPay_1 15 rfl rfl)
theorem dX4_cannotPay_40 : decode cX4_cannotPay 40 = .ok (.iload_n 1, 1) := dk_27 (dk_at dksX4_cannotPay_1 16 rfl rfl)
theorem dX4_cannotPay_41 : decode cX4_cannotPay 41 = .ok (.isub, 1) := dk_100 (dk_at dksX4_cannotPay_1 17 rfl rfl)
theorem dX4_cannotPay_42 : decode cX4_cannotPay 42 = .ok (.iastore, 1) := dk_79 (dk_at dksX4_cannotPay_1 18 rfl rfl)
theorem dX4_cannotPay_43 : decode cX4_cannotPay 43 = .ok (.iconst 0, 1) := dk_3 (dk_at dksX4_cannotPay_1 19 rfl rfl)
theorem dX4_cannotPay_44 : decode cX4_cannotPay 44 = .ok (.ireturn, 1) := dk_172 (dk_at dksX4_cannotPay_1 20 rfl rfl)
abbrev cX4_tailAt : ByteArray := prog_17_method_13_code
def yX4_tailAt : MethodName := ⟨RX4, "tailAt", "(II)I"⟩
def dkwX4_tailAt_0 : List UInt8 := [16, 33, 7, 26, 104, 96, 27, 96, 172]
abbrev dktX4_tailAt_0 : List UInt8 := dkwX4_tailAt_0 ++ []
theorem dksX4_tailAt_0 : cX4_tailAt.data.toList.drop 0 = dktX4_tailAt_0 := by decide +kernel
theorem dX4_tailAt_0 : decode cX4_tailAt 0 = .ok (.bipush 33, 2) := dk_16 33 (dk_at dksX4_tailAt_0 0 rfl rfl)
theorem dX4_tailAt_2 : decode cX4_tailAt 2 = .ok (.iconst 4, 1) := dk_7 (dk_at dksX4_tailAt_0 2 rfl rfl)
theorem dX4_tailAt_3 : decode cX4_tailAt 3 = .ok (.iload_n 0, 1) := dk_26 (dk_at dksX4_tailAt_0 3 rfl rfl)
theorem dX4_tailAt_4 : decode cX4_tailAt 4 = .ok (.imul, 1) := dk_104 (dk_at dksX4_tailAt_0 4 rfl rfl)
theorem dX4_tailAt_5 : decode cX4_tailAt 5 = .ok (.iadd, 1) := dk_96 (dk_at dksX4_tailAt_0 5 rfl rfl)
theorem dX4_tailAt_6 : decode cX4_tailAt 6 = .ok (.iload_n 1, 1) := dk_27 (dk_at dksX4_tailAt_0 6 rfl rfl)
theorem dX4_tailAt_7 : decode cX4_tailAt 7 = .ok (.iadd, 1) := dk_96 (dk_at dksX4_tailAt_0 7 rfl rfl)
theorem dX4_tailAt_8 : decode cX4_tailAt 8 = .ok (.ireturn, 1) := dk_172 (dk_at dksX4_tailAt_0 8 rfl rfl)
abbrev cX4_ends : ByteArray := prog_17_method_10_code
def yX4_ends : MethodName := ⟨RX4, "ends", "(I)I"⟩
def dkwX4_ends_0 : List UInt8 := [42, 180, 0, 57, 153, 0, 5, 3, 172, 42, 182, 0, 73, 27, 172]
abbrev dktX4_ends_0 : List UInt8 := dkwX4_ends_0 ++ []
theorem dksX4_ends_0 : cX4_ends.data.toList.drop 0 = dktX4_ends_0 := by decide +kernel
theorem dX4_ends_0 : decode cX4_ends 0 = .ok (.aload_n 0, 1) := dk_42 (dk_at dksX4_ends_0 0 rfl rfl)
theorem dX4_ends_1 : decode cX4_ends 1 = .ok (.getfield 57, 3) := dk_180 0 57 (dk_at dksX4_ends_0 1 rfl rfl)
theorem dX4_ends_4 : decode cX4_ends 4 = .ok (.ifCond .eq 5, 3) := dk_153 0 5 (dk_at dksX4_ends_0 4 rfl rfl)
theorem dX4_ends_7 : decode cX4_ends 7 = .ok (.iconst 0, 1) := dk_3 (dk_at dksX4_ends_0 7 rfl rfl)
theorem dX4_ends_8 : decode cX4_ends 8 = .ok (.ireturn, 1) := dk_172 (dk_at dksX4_ends_0 8 rfl rfl)
theorem dX4_ends_9 : decode cX4_ends 9 = .ok (.aload_n 0, 1) := dk_42 (dk_at dksX4_ends_0 9 rfl rfl)
theorem dX4_ends_10 : decode cX4_ends 10 = .ok (.invokevirtual 73, 3) := dk_182 0 73 (dk_at dksX4_ends_0 10 rfl rfl)
theorem dX4_ends_13 : decode cX4_ends 13 = .ok (.iload_n 1, 1) := dk_27 (dk_at dksX4_ends_0 13 rfl rfl)
theorem dX4_ends_14 : decode cX4_ends 14 = .ok (.ireturn, 1) := dk_172 (dk_at dksX4_ends_0 14 rfl rfl)
abbrev cX4_changed : ByteArray := prog_17_method_9_code
def yX4_changed : MethodName := ⟨RX4, "changed", "()V"⟩
def dkwX4_changed_3 : List UInt8 := [104, 184, 0, 60, 42, 89, 180, 0, 70, 4, 96, 181, 0, 70, 177]
abbrev dktX4_changed_3 : List UInt8 := dkwX4_changed_3 ++ []
def dkwX4_changed_2 : List UInt8 := [180, 0, 70, 4, 100, 181, 0, 70, 42, 180, 0, 13, 3, 42, 180, 0, 19, 17, 0, 195, 42, 180, 0, 70]
abbrev dktX4_changed_2 : List UInt8 := dkwX4_changed_2 ++ dktX4_changed_3
def dkwX4_changed_1 : List UInt8 := [27, 104, 42, 180, 0, 19, 17, 0, 195, 27, 4, 100, 104, 184, 0, 60, 132, 1, 1, 167, 255, 224, 42, 89]
abbrev dktX4_changed_1 : List UInt8 := dkwX4_changed_1 ++ dktX4_changed_2
def dkwX4_changed_0 : List UInt8 := [42, 180, 0, 70, 16, 8, 160, 0, 50, 4, 60, 27, 16, 8, 162, 0, 32, 42, 180, 0, 19, 17, 0, 195]
abbrev dktX4_changed_0 : List UInt8 := dkwX4_changed_0 ++ dktX4_changed_1
theorem dksX4_changed_0 : cX4_changed.data.toList.drop 0 = dktX4_changed_0 := by decide +kernel
theorem dksX4_changed_1 : cX4_changed.data.toList.drop 24 = dktX4_changed_1 := dk_seg dksX4_changed_0 24 rfl rfl
theorem dksX4_changed_2 : cX4_changed.data.toList.drop 48 = dktX4_changed_2 := dk_seg dksX4_changed_1 24 rfl rfl
theorem dksX4_changed_3 : cX4_changed.data.toList.drop 72 = dktX4_changed_3 := dk_seg dksX4_changed_2 24 rfl rfl
theorem dX4_changed_0 : decode cX4_changed 0 = .ok (.aload_n 0, 1) := dk_42 (dk_at dksX4_changed_0 0 rfl rfl)
theorem dX4_changed_1 : decode cX4_changed 1 = .ok (.getfield 70, 3) := dk_180 0 70 (dk_at dksX4_changed_0 1 rfl rfl)
theorem dX4_changed_4 : decode cX4_changed 4 = .ok (.bipush 8, 2) := dk_16 8 (dk_at dksX4_changed_0 4 rfl rfl)
theorem dX4_changed_6 : decode cX4_changed 6 = .ok (.if_icmp .ne 50, 3) := dk_160 0 50 (dk_at dksX4_changed_0 6 rfl rfl)
theorem dX4_changed_9 : decode cX4_changed 9 = .ok (.iconst 1, 1) := dk_4 (dk_at dksX4_changed_0 9 rfl rfl)
theorem dX4_changed_10 : decode cX4_changed 10 = .ok (.istore_n 1, 1) := dk_60 (dk_at dksX4_changed_0 10 rfl rfl)
theorem dX4_changed_11 : decode cX4_changed 11 = .ok (.iload_n 1, 1) := dk_27 (dk_at dksX4_changed_0 11 rfl rfl)
theorem dX4_changed_12 : decode cX4_changed 12 = .ok (.bipush 8, 2) := dk_16 8 (dk_at dksX4_changed_0 12 rfl rfl)
theorem dX4_changed_14 : decode cX4_changed 14 = .ok (.if_icmp .ge 32, 3) := dk_162 0 32 (dk_at dksX4_changed_0 14 rfl rfl)
theorem dX4_changed_17 : decode cX4_changed 17 = .ok (.aload_n 0, 1) := dk_42 (dk_at dksX4_changed_0 17 rfl rfl)
theorem dX4_changed_18 : decode cX4_changed 18 = .ok (.getfield 19, 3) := dk_180 0 19 (dk_at dksX4_changed_0 18 rfl rfl)
theorem dX4_changed_21 : decode cX4_changed 21 = .ok (.sipush 195, 3) := dk_17 0 195 (dk_at dksX4_changed_0 21 rfl rfl)
theorem dX4_changed_24 : decode cX4_changed 24 = .ok (.iload_n 1, 1) := dk_27 (dk_at dksX4_changed_1 0 rfl rfl)
theorem dX4_changed_25 : decode cX4_changed 25 = .ok (.imul, 1) := dk_104 (dk_at dksX4_changed_1 1 rfl rfl)
theorem dX4_changed_26 : decode cX4_changed 26 = .ok (.aload_n 0, 1) := dk_42 (dk_at dksX4_changed_1 2 rfl rfl)
theorem dX4_changed_27 : decode cX4_changed 27 = .ok (.getfield 19, 3) := dk_180 0 19 (dk_at dksX4_changed_1 3 rfl rfl)
theorem dX4_changed_30 : decode cX4_changed 30 = .ok (.sipush 195, 3) := dk_17 0 195 (dk_at dksX4_changed_1 6 rfl rfl)
theorem dX4_changed_33 : decode cX4_changed 33 = .ok (.iload_n 1, 1) := dk_27 (dk_at dksX4_changed_1 9 rfl rfl)
theorem dX4_changed_34 : decode cX4_changed 34 = .ok (.iconst 1, 1) := dk_4 (dk_at dksX4_changed_1 10 rfl rfl)
theorem dX4_changed_35 : decode cX4_changed 35 = .ok (.isub, 1) := dk_100 (dk_at dksX4_changed_1 11 rfl rfl)
theorem dX4_changed_36 : decode cX4_changed 36 = .ok (.imul, 1) := dk_104 (dk_at dksX4_changed_1 12 rfl rfl)
theorem dX4_changed_37 : decode cX4_changed 37 = .ok (.invokestatic 60, 3) := dk_184 0 60 (dk_at dksX4_changed_1 13 rfl rfl)
theorem dX4_changed_40 : decode cX4_changed 40 = .ok (.iinc 1 1, 3) := dk_132 1 1 (dk_at dksX4_changed_1 16 rfl rfl)
theorem dX4_changed_43 : decode cX4_changed 43 = .ok (.goto (-32), 3) := dk_167 255 224 (dk_at dksX4_changed_1 19 rfl rfl)
theorem dX4_changed_46 : decode cX4_changed 46 = .ok (.aload_n 0, 1) := dk_42 (dk_at dksX4_changed_1 22 rfl rfl)
theorem dX4_changed_47 : decode cX4_changed 47 = .ok (.dup, 1) := dk_89 (dk_at dksX4_changed_1 23 rfl rfl)
theorem dX4_changed_48 : decode cX4_changed 48 = .ok (.getfield 70, 3) := dk_180 0 70 (dk_at dksX4_changed_2 0 rfl rfl)
theorem dX4_changed_51 : decode cX4_changed 51 = .ok (.iconst 1, 1) := dk_4 (dk_at dksX4_changed_2 3 rfl rfl)
theorem dX4_changed_52 : decode cX4_changed 52 = .ok (.isub, 1) := dk_100 (dk_at dksX4_changed_2 4 rfl rfl)
theorem dX4_changed_53 : decode cX4_changed 53 = .ok (.putfield 70, 3) := dk_181 0 70 (dk_at dksX4_changed_2 5 rfl rfl)
theorem dX4_changed_56 : decode cX4_changed 56 = .ok (.aload_n 0, 1) := dk_42 (dk_at dksX4_changed_2 8 rfl rfl)
theorem dX4_changed_57 : decode cX4_changed 57 = .ok (.getfield 13, 3) := dk_180 0 13 (dk_at dksX4_changed_2 9 rfl rfl)
theorem dX4_changed_60 : decode cX4_changed 60 = .ok (.iconst 0, 1) := dk_3 (dk_at dksX4_changed_2 12 rfl rfl)
theorem dX4_changed_61 : decode cX4_changed 61 = .ok (.aload_n 0, 1) := dk_42 (dk_at dksX4_changed_2 13 rfl rfl)
theorem dX4_changed_62 : decode cX4_changed 62 = .ok (.getfield 19, 3) := dk_180 0 19 (dk_at dksX4_changed_2 14 rfl rfl)
theorem dX4_changed_65 : decode cX4_changed 65 = .ok (.sipush 195, 3) := dk_17 0 195 (dk_at dksX4_changed_2 17 rfl rfl)
theorem dX4_changed_68 : decode cX4_changed 68 = .ok (.aload_n 0, 1) := dk_42 (dk_at dksX4_changed_2 20 rfl rfl)
theorem dX4_changed_69 : decode cX4_changed 69 = .ok (.getfield 70, 3) := dk_180 0 70 (dk_at dksX4_changed_2 21 rfl rfl)
theorem dX4_changed_72 : decode cX4_changed 72 = .ok (.imul, 1) := dk_104 (dk_at dksX4_changed_3 0 rfl rfl)
theorem dX4_changed_73 : decode cX4_changed 73 = .ok (.invokestatic 60, 3) := dk_184 0 60 (dk_at dksX4_changed_3 1 rfl rfl)
theorem dX4_changed_76 : decode cX4_changed 76 = .ok (.aload_n 0, 1) := dk_42 (dk_at dksX4_changed_3 4 rfl rfl)
theorem dX4_changed_77 : decode cX4_changed 77 = .ok (.dup, 1) := dk_89 (dk_at dksX4_changed_3 5 rfl rfl)
theorem dX4_changed_78 : decode cX4_changed 78 = .ok (.getfield 70, 3) := dk_180 0 70 (dk_at dksX4_changed_3 6 rfl rfl)
theorem dX4_changed_81 : decode cX4_changed 81 = .ok (.iconst 1, 1) := dk_4 (dk_at dksX4_changed_3 9 rfl rfl)
theorem dX4_changed_82 : decode cX4_changed 82 = .ok (.iadd, 1) := dk_96 (dk_at dksX4_changed_3 10 rfl rfl)
theorem dX4_changed_83 : decode cX4_changed 83 = .ok (.putfield 70, 3) := dk_181 0 70 (dk_at dksX4_changed_3 11 rfl rfl)
theorem dX4_changed_86 : decode cX4_changed 86 = .ok (.return_, 1) := dk_177 (dk_at dksX4_changed_3 14 rfl rfl)
abbrev cX4_comb : ByteArray := prog_17_method_28_code
def yX4_comb : MethodName := ⟨RX4, "comb", "(II)I"⟩
def dkwX4_comb_0 : List UInt8 := [42, 182, 0, 100, 42, 42, 27, 28, 182, 0, 123, 182, 0, 110, 172]
abbrev dktX4_comb_0 : List UInt8 := dkwX4_comb_0 ++ []
theorem dksX4_comb_0 : cX4_comb.data.toList.drop 0 = dktX4_comb_0 := by decide +kernel
theorem dX4_comb_0 : decode cX4_comb 0 = .ok (.aload_n 0, 1) := dk_42 (dk_at dksX4_comb_0 0 rfl rfl)
theorem dX4_comb_1 : decode cX4_comb 1 = .ok (.invokevirtual 100, 3) := dk_182 0 100 (dk_at dksX4_comb_0 1 rfl rfl)
theorem dX4_comb_4 : decode cX4_comb 4 = .ok (.aload_n 0, 1) := dk_42 (dk_at dksX4_comb_0 4 rfl rfl)
theorem dX4_comb_5 : decode cX4_comb 5 = .ok (.aload_n 0, 1) := dk_42 (dk_at dksX4_comb_0 5 rfl rfl)
theorem dX4_comb_6 : decode cX4_comb 6 = .ok (.iload_n 1, 1) := dk_27 (dk_at dksX4_comb_0 6 rfl rfl)
theorem dX4_comb_7 : decode cX4_comb 7 = .ok (.iload_n 2, 1) := dk_28 (dk_at dksX4_comb_0 7 rfl rfl)
theorem dX4_comb_8 : decode cX4_comb 8 = .ok (.invokevirtual 123, 3) := dk_182 0 123 (dk_at dksX4_comb_0 8 rfl rfl)
theorem dX4_comb_11 : decode cX4_comb 11 = .ok (.invokevirtual 110, 3) := dk_182 0 110 (dk_at dksX4_comb_0 11 rfl rfl)
theorem dX4_comb_14 : decode cX4_comb 14 = .ok (.ireturn, 1) := dk_172 (dk_at dksX4_comb_0 14 rfl rfl)
abbrev cX4_combs : ByteArray := prog_17_method_27_code
def yX4_combs : MethodName := ⟨RX4, "combs", "(II)I"⟩
def dkwX4_combs_9 : List UInt8 := [100, 79, 42, 180, 0, 9, 27, 6, 184, 0, 107, 92, 46, 4, 96, 79, 29, 172]
abbrev dktX4_combs_9 : List UInt8 := dkwX4_combs_9 ++ []
def dkwX4_combs_8 : List UInt8 := [27, 79, 42, 180, 0, 9, 7, 92, 46, 4, 96, 79, 42, 180, 0, 9, 27, 5, 184, 0, 107, 92, 46, 28]
abbrev dktX4_combs_8 : List UInt8 := dkwX4_combs_8 ++ dktX4_combs_9
def dkwX4_combs_7 : List UInt8 := [182, 0, 120, 79, 42, 180, 0, 9, 29, 5, 184, 0, 85, 28, 79, 42, 180, 0, 9, 29, 6, 184, 0, 85]
abbrev dktX4_combs_7 : List UInt8 := dkwX4_combs_7 ++ dktX4_combs_8
def dkwX4_combs_6 : List UInt8 := [42, 180, 0, 9, 27, 3, 184, 0, 107, 46, 79, 42, 180, 0, 9, 29, 4, 184, 0, 85, 42, 27]
abbrev dktX4_combs_6 : List UInt8 := dkwX4_combs_6 ++ dktX4_combs_7
def dkwX4_combs_5 : List UInt8 := [182, 0, 96, 153, 0, 5, 3, 172, 42, 180, 0, 9, 7, 46, 62, 42, 180, 0, 9, 29, 3, 184, 0, 85]
abbrev dktX4_combs_5 : List UInt8 := dkwX4_combs_5 ++ dktX4_combs_6
def dkwX4_combs_4 : List UInt8 := [154, 0, 29, 42, 42, 180, 0, 9, 7, 46, 16, 20, 160, 0, 7, 4, 167, 0, 4, 3, 4, 16, 20]
abbrev dktX4_combs_4 : List UInt8 := dkwX4_combs_4 ++ dktX4_combs_5
def dkwX4_combs_3 : List UInt8 := [182, 0, 117, 153, 0, 16, 42, 180, 0, 9, 27, 5, 184, 0, 107, 46, 167, 0, 4, 3, 182, 0, 96]
abbrev dktX4_combs_3 : List UInt8 := dkwX4_combs_3 ++ dktX4_combs_4
def dkwX4_combs_2 : List UInt8 := [42, 180, 0, 9, 27, 5, 184, 0, 107, 46, 28, 162, 0, 7, 4, 167, 0, 4, 3, 8, 42, 27]
abbrev dktX4_combs_2 : List UInt8 := dkwX4_combs_2 ++ dktX4_combs_3
def dkwX4_combs_1 : List UInt8 := [4, 17, 2, 88, 184, 0, 92, 154, 0, 7, 4, 167, 0, 4, 3, 6, 28, 182, 0, 96, 154, 0, 78, 42]
abbrev dktX4_combs_1 : List UInt8 := dkwX4_combs_1 ++ dktX4_combs_2
def dkwX4_combs_0 : List UInt8 := [42, 42, 27, 182, 0, 117, 154, 0, 7, 4, 167, 0, 4, 3, 5, 27, 182, 0, 96, 154, 0, 103, 42, 28]
abbrev dktX4_combs_0 : List UInt8 := dkwX4_combs_0 ++ dktX4_combs_1
theorem dksX4_combs_0 : cX4_combs.data.toList.drop 0 = dktX4_combs_0 := by decide +kernel
theorem dksX4_combs_1 : cX4_combs.data.toList.drop 24 = dktX4_combs_1 := dk_seg dksX4_combs_0 24 rfl rfl
theorem dksX4_combs_2 : cX4_combs.data.toList.drop 48 = dktX4_combs_2 := dk_seg dksX4_combs_1 24 rfl rfl
theorem dksX4_combs_3 : cX4_combs.data.toList.drop 70 = dktX4_combs_3 := dk_seg dksX4_combs_2 22 rfl rfl
theorem dksX4_combs_4 : cX4_combs.data.toList.drop 93 = dktX4_combs_4 := dk_seg dksX4_combs_3 23 rfl rfl
theorem dksX4_combs_5 : cX4_combs.data.toList.drop 116 = dktX4_combs_5 := dk_seg dksX4_combs_4 23 rfl rfl
theorem dksX4_combs_6 : cX4_combs.data.toList.drop 140 = dktX4_combs_6 := dk_seg dksX4_combs_5 24 rfl rfl
theorem dksX4_combs_7 : cX4_combs.data.toList.drop 162 = dktX4_combs_7 := dk_seg dksX4_combs_6 22 rfl rfl
theorem dksX4_combs_8 : cX4_combs.data.toList.drop 186 = dktX4_combs_8 := dk_seg dksX4_combs_7 24 rfl rfl
theorem dksX4_combs_9 : cX4_combs.data.toList.drop 210 = dktX4_combs_9 := dk_seg dksX4_combs_8 24 rfl rfl
theorem dX4_combs_0 : decode cX4_combs 0 = .ok (.aload_n 0, 1) := dk_42 (dk_at dksX4_combs_0 0 rfl rfl)
theorem dX4_combs_1 : decode cX4_combs 1 = .ok (.aload_n 0, 1) := dk_42 (dk_at dksX4_combs_0 1 rfl rfl)
theorem dX4_combs_2 : decode cX4_combs 2 = .ok (.iload_n 1, 1) := dk_27 (dk_at dksX4_combs_0 2 rfl rfl)
theorem dX4_combs_3 : decode cX4_combs 3 = .ok (.invokevirtual 117, 3) := dk_182 0 117 (dk_at dksX4_combs_0 3 rfl rfl)
theorem dX4_combs_6 : decode cX4_combs 6 = .ok (.ifCond .ne 7, 3) := dk_154 0 7 (dk_at dksX4_combs_0 6 rfl rfl)
theorem dX4_combs_9 : decode cX4_combs 9 = .ok (.iconst 1, 1) := dk_4 (dk_at dksX4_combs_0 9 rfl rfl)
theorem dX4_combs_10 : decode cX4_combs 10 = .ok (.goto 4, 3) := dk_167 0 4 (dk_at dksX4_combs_0 10 rfl rfl)
theorem dX4_combs_13 : decode cX4_combs 13 = .ok (.iconst 0, 1) := dk_3 (dk_at dksX4_combs_0 13 rfl rfl)
theorem dX4_combs_14 : decode cX4_combs 14 = .ok (.iconst 2, 1) := dk_5 (dk_at dksX4_combs_0 14 rfl rfl)
theorem dX4_combs_15 : decode cX4_combs 15 = .ok (.iload_n 1, 1) := dk_27 (dk_at dksX4_combs_0 15 rfl rfl)
theorem dX4_combs_16 : decode cX4_combs 16 = .ok (.invokevirtual 96, 3) := dk_182 0 96 (dk_at dksX4_combs_0 16 rfl rfl)
theorem dX4_combs_19 : decode cX4_combs 19 = .ok (.ifCond .ne 103, 3) := dk_154 0 103 (dk_at dksX4_combs_0 19 rfl rfl)
theorem dX4_combs_22 : decode cX4_combs 22 = .ok (.aload_n 0, 1) := dk_42 (dk_at dksX4_combs_0 22 rfl rfl)
theorem dX4_combs_23 : decode cX4_combs 23 = .ok (.iload_n 2, 1) := dk_28 (dk_at dksX4_combs_0 23 rfl rfl)
theorem dX4_combs_24 : decode cX4_combs 24 = .ok (.iconst 1, 1) := dk_4 (dk_at dksX4_combs_1 0 rfl rfl)
theorem dX4_combs_25 : decode cX4_combs 25 = .ok (.sipush 600, 3) := dk_17 2 88 (dk_at dksX4_combs_1 1 rfl rfl)
theorem dX4_combs_28 : decode cX4_combs 28 = .ok (.invokestatic 92, 3) := dk_184 0 92 (dk_at dksX4_combs_1 4 rfl rfl)
theorem dX4_combs_31 : decode cX4_combs 31 = .ok (.ifCond .ne 7, 3) := dk_154 0 7 (dk_at dksX4_combs_1 7 rfl rfl)
theorem dX4_combs_34 : decode cX4_combs 34 = .ok (.iconst 1, 1) := dk_4 (dk_at dksX4_combs_1 10 rfl rfl)
theorem dX4_combs_35 : decode cX4_combs 35 = .ok (.goto 4, 3) := dk_167 0 4 (dk_at dksX4_combs_1 11 rfl rfl)
theorem dX4_combs_38 : decode cX4_combs 38 = .ok (.iconst 0, 1) := dk_3 (dk_at dksX4_combs_1 14 rfl rfl)
theorem dX4_combs_39 : decode cX4_combs 39 = .ok (.iconst 3, 1) := dk_6 (dk_at dksX4_combs_1 15 rfl rfl)
theorem dX4_combs_40 : decode cX4_combs 40 = .ok (.iload_n 2, 1) := dk_28 (dk_at dksX4_combs_1 16 rfl rfl)
theorem dX4_combs_41 : decode cX4_combs 41 = .ok (.invokevirtual 96, 3) := dk_182 0 96 (dk_at dksX4_combs_1 17 rfl rfl)
theorem dX4_combs_44 : decode cX4_combs 44 = .ok (.ifCond .ne 78, 3) := dk_154 0 78 (dk_at dksX4_combs_1 20 rfl rfl)
theorem dX4_combs_47 : decode cX4_combs 47 = .ok (.aload_n 0, 1) := dk_42 (dk_at dksX4_combs_1 23 rfl rfl)
theorem dX4_combs_48 : decode cX4_combs 48 = .ok (.aload_n 0, 1) := dk_42 (dk_at dksX4_combs_2 0 rfl rfl)
theorem dX4_combs_49 : decode cX4_combs 49 = .ok (.getfield 9, 3) := dk_180 0 9 (dk_at dksX4_combs_2 1 rfl rfl)
theorem dX4_combs_52 : decode cX4_combs 52 = .ok (.iload_n 1, 1) := dk_27 (dk_at dksX4_combs_2 4 rfl rfl)
theorem dX4_combs_53 : decode cX4_combs 53 = .ok (.iconst 2, 1) := dk_5 (dk_at dksX4_combs_2 5 rfl rfl)
theorem dX4_combs_54 : decode cX4_combs 54 = .ok (.invokestatic 107, 3) := dk_184 0 107 (dk_at dksX4_combs_2 6 rfl rfl)
theorem dX4_combs_57 : decode cX4_combs 57 = .ok (.iaload, 1) := dk_46 (dk_at dksX4_combs_2 9 rfl rfl)
theorem dX4_combs_58 : decode cX4_combs 58 = .ok (.iload_n 2, 1) := dk_28 (dk_at dksX4_combs_2 10 rfl rfl)
theorem dX4_combs_59 : decode cX4_combs 59 = .ok (.if_icmp .ge 7, 3) := dk_162 0 7 (dk_at dksX4_combs_2 11 rfl rfl)
theorem dX4_combs_62 : decode cX4_combs 62 = .ok (.iconst 1, 1) := dk_4 (dk_at dksX4_combs_2 14 rfl rfl)
theorem dX4_combs_63 : decode cX4_combs 63 = .ok (.goto 4, 3) := dk_167 0 4 (dk_at dksX4_combs_2 15 rfl rfl)
theorem dX4_combs_66 : decode cX4_combs 66 = .ok (.iconst 0, 1) := dk_3 (dk_at dksX4_combs_2 18 rfl rfl)
theorem dX4_combs_67 : decode cX4_combs 67 = .ok (.iconst 5, 1) := dk_8 (dk_at dksX4_combs_2 19 rfl rfl)
theorem dX4_combs_68 : decode cX4_combs 68 = .ok (.aload_n 0, 1) := dk_42 (dk_at dksX4_combs_2 20 rfl rfl)
theorem dX4_combs_69 : decode cX4_combs 69 = .ok (.iload_n 1, 1) := dk_27 (dk_at dksX4_combs_2 21 rfl rfl)
theorem dX4_combs_70 : decode cX4_combs 70 = .ok (.invokevirtual 117, 3) := dk_182 0 117 (dk_at dksX4_combs_3 0 rfl rfl)
theorem dX4_combs_73 : decode cX4_combs 73 = .ok (.ifCond .eq 16, 3) := dk_153 0 16 (dk_at dksX4_combs_3 3 rfl rfl)
theorem dX4_combs_76 : decode cX4_combs 76 = .ok (.aload_n 0, 1) := dk_42 (dk_at dksX4_combs_3 6 rfl rfl)
theorem dX4_combs_77 : decode cX4_combs 77 = .ok (.getfield 9, 3) := dk_180 0 9 (dk_at dksX4_combs_3 7 rfl rfl)
theorem dX4_combs_80 : decode cX4_combs 80 = .ok (.iload_n 1, 1) := dk_27 (dk_at dksX4_combs_3 10 rfl rfl)
theorem dX4_combs_81 : decode cX4_combs 81 = .ok (.iconst 2, 1) := dk_5 (dk_at dksX4_combs_3 11 rfl rfl)
theorem dX4_combs_82 : decode cX4_combs 82 = .ok (.invokestatic 107, 3) := dk_184 0 107 (dk_at dksX4_combs_3 12 rfl rfl)
theorem dX4_combs_85 : decode cX4_combs 85 = .ok (.iaload, 1) := dk_46 (dk_at dksX4_combs_3 15 rfl rfl)
theorem dX4_combs_86 : decode cX4_combs 86 = .ok (.goto 4, 3) := dk_167 0 4 (dk_at dksX4_combs_3 16 rfl rfl)
theorem dX4_combs_89 : decode cX4_combs 89 = .ok (.iconst 0, 1) := dk_3 (dk_at dksX4_combs_3 19 rfl rfl)
theorem dX4_combs_90 : decode cX4_combs 90 = .ok (.invokevirtual 96, 3) := dk_182 0 96 (dk_at dksX4_combs_3 20 rfl rfl)
theorem dX4_combs_93 : decode cX4_combs 93 = .ok (.ifCond .ne 29, 3) := dk_154 0 29 (dk_at dksX4_combs_4 0 rfl rfl)
theorem dX4_combs_96 : decode cX4_combs 96 = .ok (.aload_n 0, 1) := dk_42 (dk_at dksX4_combs_4 3 rfl rfl)
theorem dX4_combs_97 : decode cX4_combs 97 = .ok (.aload_n 0, 1) := dk_42 (dk_at dksX4_combs_4 4 rfl rfl)
theorem dX4_combs_98 : decode cX4_combs 98 = .ok (.getfield 9, 3) := dk_180 0 9 (dk_at dksX4_combs_4 5 rfl rfl)
theorem dX4_combs_101 : decode cX4_combs 101 = .ok (.iconst 4, 1) := dk_7 (dk_at dksX4_combs_4 8 rfl rfl)
theorem dX4_combs_102 : decode cX4_combs 102 = .ok (.iaload, 1) := dk_46 (dk_at dksX4_combs_4 9 rfl rfl)
theorem dX4_combs_103 : decode cX4_combs 103 = .ok (.bipush 20, 2) := dk_16 20 (dk_at dksX4_combs_4 10 rfl rfl)
theorem dX4_combs_105 : decode cX4_combs 105 = .ok (.if_icmp .ne 7, 3) := dk_160 0 7 (dk_at dksX4_combs_4 12 rfl rfl)
theorem dX4_combs_108 : decode cX4_combs 108 = .ok (.iconst 1, 1) := dk_4 (dk_at dksX4_combs_4 15 rfl rfl)
theorem dX4_combs_109 : decode cX4_combs 109 = .ok (.goto 4, 3) := dk_167 0 4 (dk_at dksX4_combs_4 16 rfl rfl)
theorem dX4_combs_112 : decode cX4_combs 112 = .ok (.iconst 0, 1) := dk_3 (dk_at dksX4_combs_4 19 rfl rfl)
theorem dX4_combs_113 : decode cX4_combs 113 = .ok (.iconst 1, 1) := dk_4 (dk_at dksX4_combs_4 20 rfl rfl)
theorem dX4_combs_114 : decode cX4_combs 114 = .ok (.bipush 20, 2) := dk_16 20 (dk_at dksX4_combs_4 21 rfl rfl)
theorem dX4_combs_116 : decode cX4_combs 116 = .ok (.invokevirtual 96, 3) := dk_182 0 96 (dk_at dksX4_combs_5 0 rfl rfl)
theorem dX4_combs_119 : decode cX4_combs 119 = .ok (.ifCond .eq 5, 3) := dk_153 0 5 (dk_at dksX4_combs_5 3 rfl rfl)
theorem dX4_combs_122 : decode cX4_combs 122 = .ok (.iconst 0, 1) := dk_3 (dk_at dksX4_combs_5 6 rfl rfl)
theorem dX4_combs_123 : decode cX4_combs 123 = .ok (.ireturn, 1) := dk_172 (dk_at dksX4_combs_5 7 rfl rfl)
theorem dX4_combs_124 : decode cX4_combs 124 = .ok (.aload_n 0, 1) := dk_42 (dk_at dksX4_combs_5 8 rfl rfl)
theorem dX4_combs_125 : decode cX4_combs 125 = .ok (.getfield 9, 3) := dk_180 0 9 (dk_at dksX4_combs_5 9 rfl rfl)
theorem dX4_combs_128 : decode cX4_combs 128 = .ok (.iconst 4, 1) := dk_7 (dk_at dksX4_combs_5 12 rfl rfl)
theorem dX4_combs_129 : decode cX4_combs 129 = .ok (.iaload, 1) := dk_46 (dk_at dksX4_combs_5 13 rfl rfl)
theorem dX4_combs_130 : decode cX4_combs 130 = .ok (.istore_n 3, 1) := dk_62 (dk_at dksX4_combs_5 14 rfl rfl)
theorem dX4_combs_131 : decode cX4_combs 131 = .ok (.aload_n 0, 1) := dk_42 (dk_at dksX4_combs_5 15 rfl rfl)
theorem dX4_combs_132 : decode cX4_combs 132 = .ok (.getfield 9, 3) := dk_180 0 9 (dk_at dksX4_combs_5 16 rfl rfl)
theorem dX4_combs_135 : decode cX4_combs 135 = .ok (.iload_n 3, 1) := dk_29 (dk_at dksX4_combs_5 19 rfl rfl)
theorem dX4_combs_136 : decode cX4_combs 136 = .ok (.iconst 0, 1) := dk_3 (dk_at dksX4_combs_5 20 rfl rfl)
theorem dX4_combs_137 : decode cX4_combs 137 = .ok (.invokestatic 85, 3) := dk_184 0 85 (dk_at dksX4_combs_5 21 rfl rfl)
theorem dX4_combs_140 : decode cX4_combs 140 = .ok (.aload_n 0, 1) := dk_42 (dk_at dksX4_combs_6 0 rfl rfl)
theorem dX4_combs_141 : decode cX4_combs 141 = .ok (.getfield 9, 3) := dk_180 0 9 (dk_at dksX4_combs_6 1 rfl rfl)
theorem dX4_combs_144 : decode cX4_combs 144 = .ok (.iload_n 1, 1) := dk_27 (dk_at dksX4_combs_6 4 rfl rfl)
theorem dX4_combs_145 : decode cX4_combs 145 = .ok (.iconst 0, 1) := dk_3 (dk_at dksX4_combs_6 5 rfl rfl)
theorem dX4_combs_146 : decode cX4_combs 146 = .ok (.invokestatic 107, 3) := dk_184 0 107 (dk_at dksX4_combs_6 6 rfl rfl)
theorem dX4_combs_149 : decode cX4_combs 149 = .ok (.iaload, 1) := dk_46 (dk_at dksX4_combs_6 9 rfl rfl)
theorem dX4_combs_150 : decode cX4_combs 150 = .ok (.iastore, 1) := dk_79 (dk_at dksX4_combs_6 10 rfl rfl)
theorem dX4_combs_151 : decode cX4_combs 151 = .ok (.aload_n 0, 1) := dk_42 (dk_at dksX4_combs_6 11 rfl rfl)
theorem dX4_combs_152 : decode cX4_combs 152 = .ok (.getfield 9, 3) := dk_180 0 9 (dk_at dksX4_combs_6 12 rfl rfl)
theorem dX4_combs_155 : decode cX4_combs 155 = .ok (.iload_n 3, 1) := dk_29 (dk_at dksX4_combs_6 15 rfl rfl)
theorem dX4_combs_156 : decode cX4_combs 156 = .ok (.iconst 1, 1) := dk_4 (dk_at dksX4_combs_6 16 rfl rfl)
theorem dX4_combs_157 : decode cX4_combs 157 = .ok (.invokestatic 85, 3) := dk_184 0 85 (dk_at dksX4_combs_6 17 rfl rfl)
theorem dX4_combs_160 : decode cX4_combs 160 = .ok (.aload_n 0, 1) := dk_42 (dk_at dksX4_combs_6 20 rfl rfl)
theorem dX4_combs_161 : decode cX4_combs 161 = .ok (.iload_n 1, 1) := dk_27 (dk_at dksX4_combs_6 21 rfl rfl)
theorem dX4_combs_162 : decode cX4_combs 162 = .ok (.invokevirtual 120, 3) := dk_182 0 120 (dk_at dksX4_combs_7 0 rfl rfl)
theorem dX4_combs_165 : decode cX4_combs 165 = .ok (.iastore, 1) := dk_79 (dk_at dksX4_combs_7 3 rfl rfl)
theorem dX4_combs_166 : decode cX4_combs 166 = .ok (.aload_n 0, 1) := dk_42 (dk_at dksX4_combs_7 4 rfl rfl)
theorem dX4_combs_167 : decode cX4_combs 167 = .ok (.getfield 9, 3) := dk_180 0 9 (dk_at dksX4_combs_7 5 rfl rfl)
theorem dX4_combs_170 : decode cX4_combs 170 = .ok (.iload_n 3, 1) := dk_29 (dk_at dksX4_combs_7 8 rfl rfl)
theorem dX4_combs_171 : decode cX4_combs 171 = .ok (.iconst 2, 1) := dk_5 (dk_at dksX4_combs_7 9 rfl rfl)
theorem dX4_combs_172 : decode cX4_combs 172 = .ok (.invokestatic 85, 3) := dk_184 0 85 (dk_at dksX4_combs_7 10 rfl rfl)
theorem dX4_combs_175 : decode cX4_combs 175 = .ok (.iload_n 2, 1) := dk_28 (dk_at dksX4_combs_7 13 rfl rfl)
theorem dX4_combs_176 : decode cX4_combs 176 = .ok (.iastore, 1) := dk_79 (dk_at dksX4_combs_7 14 rfl rfl)
theorem dX4_combs_177 : decode cX4_combs 177 = .ok (.aload_n 0, 1) := dk_42 (dk_at dksX4_combs_7 15 rfl rfl)
theorem dX4_combs_178 : decode cX4_combs 178 = .ok (.getfield 9, 3) := dk_180 0 9 (dk_at dksX4_combs_7 16 rfl rfl)
theorem dX4_combs_181 : decode cX4_combs 181 = .ok (.iload_n 3, 1) := dk_29 (dk_at dksX4_combs_7 19 rfl rfl)
theorem dX4_combs_182 : decode cX4_combs 182 = .ok (.iconst 3, 1) := dk_6 (dk_at dksX4_combs_7 20 rfl rfl)
theorem dX4_combs_183 : decode cX4_combs 183 = .ok (.invokestatic 85, 3) := dk_184 0 85 (dk_at dksX4_combs_7 21 rfl rfl)
theorem dX4_combs_186 : decode cX4_combs 186 = .ok (.iload_n 1, 1) := dk_27 (dk_at dksX4_combs_8 0 rfl rfl)
theorem dX4_combs_187 : decode cX4_combs 187 = .ok (.iastore, 1) := dk_79 (dk_at dksX4_combs_8 1 rfl rfl)
theorem dX4_combs_188 : decode cX4_combs 188 = .ok (.aload_n 0, 1) := dk_42 (dk_at dksX4_combs_8 2 rfl rfl)
theorem dX4_combs_189 : decode cX4_combs 189 = .ok (.getfield 9, 3) := dk_180 0 9 (dk_at dksX4_combs_8 3 rfl rfl)
theorem dX4_combs_192 : decode cX4_combs 192 = .ok (.iconst 4, 1) := dk_7 (dk_at dksX4_combs_8 6 rfl rfl)
theorem dX4_combs_193 : decode cX4_combs 193 = .ok (.dup2, 1) := dk_92 (dk_at dksX4_combs_8 7 rfl rfl)
theorem dX4_combs_194 : decode cX4_combs 194 = .ok (.iaload, 1) := dk_46 (dk_at dksX4_combs_8 8 rfl rfl)
theorem dX4_combs_195 : decode cX4_combs 195 = .ok (.iconst 1, 1) := dk_4 (dk_at dksX4_combs_8 9 rfl rfl)
theorem dX4_combs_196 : decode cX4_combs 196 = .ok (.iadd, 1) := dk_96 (dk_at dksX4_combs_8 10 rfl rfl)
theorem dX4_combs_197 : decode cX4_combs 197 = .ok (.iastore, 1) := dk_79 (dk_at dksX4_combs_8 11 rfl rfl)
theorem dX4_combs_198 : decode cX4_combs 198 = .ok (.aload_n 0, 1) := dk_42 (dk_at dksX4_combs_8 12 rfl rfl)
theorem dX4_combs_199 : decode cX4_combs 199 = .ok (.getfield 9, 3) := dk_180 0 9 (dk_at dksX4_combs_8 13 rfl rfl)
theorem dX4_combs_202 : decode cX4_combs 202 = .ok (.iload_n 1, 1) := dk_27 (dk_at dksX4_combs_8 16 rfl rfl)
theorem dX4_combs_203 : decode cX4_combs 203 = .ok (.iconst 2, 1) := dk_5 (dk_at dksX4_combs_8 17 rfl rfl)
theorem dX4_combs_204 : decode cX4_combs 204 = .ok (.invokestatic 107, 3) := dk_184 0 107 (dk_at dksX4_combs_8 18 rfl rfl)
theorem dX4_combs_207 : decode cX4_combs 207 = .ok (.dup2, 1) := dk_92 (dk_at dksX4_combs_8 21 rfl rfl)
theorem dX4_combs_208 : decode cX4_combs 208 = .ok (.iaload, 1) := dk_46 (dk_at dksX4_combs_8 22 rfl rfl)
theorem dX4_combs_209 : decode cX4_combs 209 = .ok (.iload_n 2, 1) := dk_28 (dk_at dksX4_combs_8 23 rfl rfl)
theorem dX4_combs_210 : decode cX4_combs 210 = .ok (.isub, 1) := dk_100 (dk_at dksX4_combs_9 0 rfl rfl)
theorem dX4_combs_211 : decode cX4_combs 211 = .ok (.iastore, 1) := dk_79 (dk_at dksX4_combs_9 1 rfl rfl)
theorem dX4_combs_212 : decode cX4_combs 212 = .ok (.aload_n 0, 1) := dk_42 (dk_at dksX4_combs_9 2 rfl rfl)
theorem dX4_combs_213 : decode cX4_combs 213 = .ok (.getfield 9, 3) := dk_180 0 9 (dk_at dksX4_combs_9 3 rfl rfl)
theorem dX4_combs_216 : decode cX4_combs 216 = .ok (.iload_n 1, 1) := dk_27 (dk_at dksX4_combs_9 6 rfl rfl)
theorem dX4_combs_217 : decode cX4_combs 217 = .ok (.iconst 3, 1) := dk_6 (dk_at dksX4_combs_9 7 rfl rfl)
theorem dX4_combs_218 : decode cX4_combs 218 = .ok (.invokestatic 107, 3) := dk_184 0 107 (dk_at dksX4_combs_9 8 rfl rfl)
theorem dX4_combs_221 : decode cX4_combs 221 = .ok (.dup2, 1) := dk_92 (dk_at dksX4_combs_9 11 rfl rfl)
theorem dX4_combs_222 : decode cX4_combs 222 = .ok (.iaload, 1) := dk_46 (dk_at dksX4_combs_9 12 rfl rfl)
theorem dX4_combs_223 : decode cX4_combs 223 = .ok (.iconst 1, 1) := dk_4 (dk_at dksX4_combs_9 13 rfl rfl)
theorem dX4_combs_224 : decode cX4_combs 224 = .ok (.iadd, 1) := dk_96 (dk_at dksX4_combs_9 14 rfl rfl)
theorem dX4_combs_225 : decode cX4_combs 225 = .ok (.iastore, 1) := dk_79 (dk_at dksX4_combs_9 15 rfl rfl)
theorem dX4_combs_226 : decode cX4_combs 226 = .ok (.iload_n 3, 1) := dk_29 (dk_at dksX4_combs_9 16 rfl rfl)
theorem dX4_combs_227 : decode cX4_combs 227 = .ok (.ireturn, 1) := dk_172 (dk_at dksX4_combs_9 17 rfl rfl)
abbrev cX4_isTail : ByteArray := prog_17_method_18_code
def yX4_isTail : MethodName := ⟨RX4, "isTail", "(I)Z"⟩
def dkwX4_isTail_0 : List UInt8 := [27, 3, 42, 180, 0, 9, 6, 46, 4, 100, 184, 0, 92, 172]
abbrev dktX4_isTail_0 : List UInt8 := dkwX4_isTail_0 ++ []
theorem dksX4_isTail_0 : cX4_isTail.data.toList.drop 0 = dktX4_isTail_0 := by decide +kernel
theorem dX4_isTail_0 : decode cX4_isTail 0 = .ok (.iload_n 1, 1) := dk_27 (dk_at dksX4_isTail_0 0 rfl rfl)
theorem dX4_isTail_1 : decode cX4_isTail 1 = .ok (.iconst 0, 1) := dk_3 (dk_at dksX4_isTail_0 1 rfl rfl)
theorem dX4_isTail_2 : decode cX4_isTail 2 = .ok (.aload_n 0, 1) := dk_42 (dk_at dksX4_isTail_0 2 rfl rfl)
theorem dX4_isTail_3 : decode cX4_isTail 3 = .ok (.getfield 9, 3) := dk_180 0 9 (dk_at dksX4_isTail_0 3 rfl rfl)
theorem dX4_isTail_6 : decode cX4_isTail 6 = .ok (.iconst 3, 1) := dk_6 (dk_at dksX4_isTail_0 6 rfl rfl)
theorem dX4_isTail_7 : decode cX4_isTail 7 = .ok (.iaload, 1) := dk_46 (dk_at dksX4_isTail_0 7 rfl rfl)
theorem dX4_isTail_8 : decode cX4_isTail 8 = .ok (.iconst 1, 1) := dk_4 (dk_at dksX4_isTail_0 8 rfl rfl)
theorem dX4_isTail_9 : decode cX4_isTail 9 = .ok (.isub, 1) := dk_100 (dk_at dksX4_isTail_0 9 rfl rfl)
theorem dX4_isTail_10 : decode cX4_isTail 10 = .ok (.invokestatic 92, 3) := dk_184 0 92 (dk_at dksX4_isTail_0 10 rfl rfl)
theorem dX4_isTail_13 : decode cX4_isTail 13 = .ok (.ireturn, 1) := dk_172 (dk_at dksX4_isTail_0 13 rfl rfl)
abbrev cX4_hankAt : ByteArray := prog_17_method_14_code
def yX4_hankAt : MethodName := ⟨RX4, "hankAt", "(II)I"⟩
def dkwX4_hankAt_0 : List UInt8 := [16, 73, 7, 26, 104, 96, 27, 96, 172]
abbrev dktX4_hankAt_0 : List UInt8 := dkwX4_hankAt_0 ++ []
theorem dksX4_hankAt_0 : cX4_hankAt.data.toList.drop 0 = dktX4_hankAt_0 := by decide +kernel
theorem dX4_hankAt_0 : decode cX4_hankAt 0 = .ok (.bipush 73, 2) := dk_16 73 (dk_at dksX4_hankAt_0 0 rfl rfl)
theorem dX4_hankAt_2 : decode cX4_hankAt 2 = .ok (.iconst 4, 1) := dk_7 (dk_at dksX4_hankAt_0 2 rfl rfl)
theorem dX4_hankAt_3 : decode cX4_hankAt 3 = .ok (.iload_n 0, 1) := dk_26 (dk_at dksX4_hankAt_0 3 rfl rfl)
theorem dX4_hankAt_4 : decode cX4_hankAt 4 = .ok (.imul, 1) := dk_104 (dk_at dksX4_hankAt_0 4 rfl rfl)
theorem dX4_hankAt_5 : decode cX4_hankAt 5 = .ok (.iadd, 1) := dk_96 (dk_at dksX4_hankAt_0 5 rfl rfl)
theorem dX4_hankAt_6 : decode cX4_hankAt 6 = .ok (.iload_n 1, 1) := dk_27 (dk_at dksX4_hankAt_0 6 rfl rfl)
theorem dX4_hankAt_7 : decode cX4_hankAt 7 = .ok (.iadd, 1) := dk_96 (dk_at dksX4_hankAt_0 7 rfl rfl)
theorem dX4_hankAt_8 : decode cX4_hankAt 8 = .ok (.ireturn, 1) := dk_172 (dk_at dksX4_hankAt_0 8 rfl rfl)
abbrev cX4_nextLength : ByteArray := prog_17_method_26_code
def yX4_nextLength : MethodName := ⟨RX4, "nextLength", "(I)I"⟩
def dkwX4_nextLength_1 : List UInt8 := [184, 0, 114, 172]
abbrev dktX4_nextLength_1 : List UInt8 := dkwX4_nextLength_1 ++ []
def dkwX4_nextLength_0 : List UInt8 := [4, 42, 180, 0, 9, 27, 4, 184, 0, 107, 46, 5, 42, 180, 0, 9, 27, 6, 184, 0, 107, 46, 104, 100]
abbrev dktX4_nextLength_0 : List UInt8 := dkwX4_nextLength_0 ++ dktX4_nextLength_1
theorem dksX4_nextLength_0 : cX4_nextLength.data.toList.drop 0 = dktX4_nextLength_0 := by decide +kernel
theorem dksX4_nextLength_1 : cX4_nextLength.data.toList.drop 24 = dktX4_nextLength_1 := dk_seg dksX4_nextLength_0 24 rfl rfl
theorem dX4_nextLength_0 : decode cX4_nextLength 0 = .ok (.iconst 1, 1) := dk_4 (dk_at dksX4_nextLength_0 0 rfl rfl)
theorem dX4_nextLength_1 : decode cX4_nextLength 1 = .ok (.aload_n 0, 1) := dk_42 (dk_at dksX4_nextLength_0 1 rfl rfl)
theorem dX4_nextLength_2 : decode cX4_nextLength 2 = .ok (.getfield 9, 3) := dk_180 0 9 (dk_at dksX4_nextLength_0 2 rfl rfl)
theorem dX4_nextLength_5 : decode cX4_nextLength 5 = .ok (.iload_n 1, 1) := dk_27 (dk_at dksX4_nextLength_0 5 rfl rfl)
theorem dX4_nextLength_6 : decode cX4_nextLength 6 = .ok (.iconst 1, 1) := dk_4 (dk_at dksX4_nextLength_0 6 rfl rfl)
theorem dX4_nextLength_7 : decode cX4_nextLength 7 = .ok (.invokestatic 107, 3) := dk_184 0 107 (dk_at dksX4_nextLength_0 7 rfl rfl)
theorem dX4_nextLength_10 : decode cX4_nextLength 10 = .ok (.iaload, 1) := dk_46 (dk_at dksX4_nextLength_0 10 rfl rfl)
theorem dX4_nextLength_11 : decode cX4_nextLength 11 = .ok (.iconst 2, 1) := dk_5 (dk_at dksX4_nextLength_0 11 rfl rfl)
theorem dX4_nextLength_12 : decode cX4_nextLength 12 = .ok (.aload_n 0, 1) := dk_42 (dk_at dksX4_nextLength_0 12 rfl rfl)
theorem dX4_nextLength_13 : decode cX4_nextLength 13 = .ok (.getfield 9, 3) := dk_180 0 9 (dk_at dksX4_nextLength_0 13 rfl rfl)
theorem dX4_nextLength_16 : decode cX4_nextLength 16 = .ok (.iload_n 1, 1) := dk_27 (dk_at dksX4_nextLength_0 16 rfl rfl)
theorem dX4_nextLength_17 : decode cX4_nextLength 17 = .ok (.iconst 3, 1) := dk_6 (dk_at dksX4_nextLength_0 17 rfl rfl)
theorem dX4_nextLength_18 : decode cX4_nextLength 18 = .ok (.invokestatic 107, 3) := dk_184 0 107 (dk_at dksX4_nextLength_0 18 rfl rfl)
theorem dX4_nextLength_21 : decode cX4_nextLength 21 = .ok (.iaload, 1) := dk_46 (dk_at dksX4_nextLength_0 21 rfl rfl)
theorem dX4_nextLength_22 : decode cX4_nextLength 22 = .ok (.imul, 1) := dk_104 (dk_at dksX4_nextLength_0 22 rfl rfl)
theorem dX4_nextLength_23 : decode cX4_nextLength 23 = .ok (.isub, 1) := dk_100 (dk_at dksX4_nextLength_0 23 rfl rfl)
theorem dX4_nextLength_24 : decode cX4_nextLength 24 = .ok (.invokestatic 114, 3) := dk_184 0 114 (dk_at dksX4_nextLength_1 0 rfl rfl)
theorem dX4_nextLength_27 : decode cX4_nextLength 27 = .ok (.ireturn, 1) := dk_172 (dk_at dksX4_nextLength_1 3 rfl rfl)
abbrev cX4_greater : ByteArray := prog_17_method_5_code
def yX4_greater : MethodName := ⟨RX4, "greater", "(II)I"⟩
def dkwX4_greater_0 : List UInt8 := [26, 27, 164, 0, 7, 26, 167, 0, 4, 27, 172]
abbrev dktX4_greater_0 : List UInt8 := dkwX4_greater_0 ++ []
theorem dksX4_greater_0 : cX4_greater.data.toList.drop 0 = dktX4_greater_0 := by decide +kernel
theorem dX4_greater_0 : decode cX4_greater 0 = .ok (.iload_n 0, 1) := dk_26 (dk_at dksX4_greater_0 0 rfl rfl)
theorem dX4_greater_1 : decode cX4_greater 1 = .ok (.iload_n 1, 1) := dk_27 (dk_at dksX4_greater_0 1 rfl rfl)
theorem dX4_greater_2 : decode cX4_greater 2 = .ok (.if_icmp .le 7, 3) := dk_164 0 7 (dk_at dksX4_greater_0 2 rfl rfl)
theorem dX4_greater_5 : decode cX4_greater 5 = .ok (.iload_n 0, 1) := dk_26 (dk_at dksX4_greater_0 5 rfl rfl)
theorem dX4_greater_6 : decode cX4_greater 6 = .ok (.goto 4, 3) := dk_167 0 4 (dk_at dksX4_greater_0 6 rfl rfl)
theorem dX4_greater_9 : decode cX4_greater 9 = .ok (.iload_n 1, 1) := dk_27 (dk_at dksX4_greater_0 9 rfl rfl)
theorem dX4_greater_10 : decode cX4_greater 10 = .ok (.ireturn, 1) := dk_172 (dk_at dksX4_greater_0 10 rfl rfl)
abbrev cX4_tie : ByteArray := prog_17_method_32_code
def yX4_tie : MethodName := ⟨RX4, "tie", "(II)I"⟩
def dkwX4_tie_0 : List UInt8 := [42, 182, 0, 100, 42, 42, 27, 28, 182, 0, 139, 182, 0, 110, 172]
abbrev dktX4_tie_0 : List UInt8 := dkwX4_tie_0 ++ []
theorem dksX4_tie_0 : cX4_tie.data.toList.drop 0 = dktX4_tie_0 := by decide +kernel
theorem dX4_tie_0 : decode cX4_tie 0 = .ok (.aload_n 0, 1) := dk_42 (dk_at dksX4_tie_0 0 rfl rfl)
theorem dX4_tie_1 : decode cX4_tie 1 = .ok (.invokevirtual 100, 3) := dk_182 0 100 (dk_at dksX4_tie_0 1 rfl rfl)
theorem dX4_tie_4 : decode cX4_tie 4 = .ok (.aload_n 0, 1) := dk_42 (dk_at dksX4_tie_0 4 rfl rfl)
theorem dX4_tie_5 : decode cX4_tie 5 = .ok (.aload_n 0, 1) := dk_42 (dk_at dksX4_tie_0 5 rfl rfl)
theorem dX4_tie_6 : decode cX4_tie 6 = .ok (.iload_n 1, 1) := dk_27 (dk_at dksX4_tie_0 6 rfl rfl)
theorem dX4_tie_7 : decode cX4_tie 7 = .ok (.iload_n 2, 1) := dk_28 (dk_at dksX4_tie_0 7 rfl rfl)
theorem dX4_tie_8 : decode cX4_tie 8 = .ok (.invokevirtual 139, 3) := dk_182 0 139 (dk_at dksX4_tie_0 8 rfl rfl)
theorem dX4_tie_11 : decode cX4_tie 11 = .ok (.invokevirtual 110, 3) := dk_182 0 110 (dk_at dksX4_tie_0 11 rfl rfl)
theorem dX4_tie_14 : decode cX4_tie 14 = .ok (.ireturn, 1) := dk_172 (dk_at dksX4_tie_0 14 rfl rfl)
abbrev cX4_ties : ByteArray := prog_17_method_31_code
def yX4_ties : MethodName := ⟨RX4, "ties", "(II)I"⟩
def dkwX4_ties_10 : List UInt8 := [182, 0, 126, 167, 0, 4, 2, 79, 42, 21, 5, 182, 0, 129, 21, 4, 172]
abbrev dktX4_ties_10 : List UInt8 := dkwX4_ties_10 ++ []
def dkwX4_ties_9 : List UInt8 := [184, 0, 85, 42, 21, 4, 6, 182, 0, 126, 42, 21, 5, 6, 182, 0, 126, 160, 0, 13, 42, 21, 4, 6]
abbrev dktX4_ties_9 : List UInt8 := dkwX4_ties_9 ++ dktX4_ties_10
def dkwX4_ties_8 : List UInt8 := [160, 0, 13, 42, 21, 4, 3, 182, 0, 126, 167, 0, 4, 6, 79, 42, 180, 0, 9, 21, 4, 6]
abbrev dktX4_ties_8 : List UInt8 := dkwX4_ties_8 ++ dktX4_ties_9
def dkwX4_ties_7 : List UInt8 := [180, 0, 9, 21, 4, 3, 184, 0, 85, 42, 21, 4, 3, 182, 0, 126, 42, 21, 5, 3, 182, 0, 126]
abbrev dktX4_ties_7 : List UInt8 := dkwX4_ties_7 ++ dktX4_ties_8
def dkwX4_ties_6 : List UInt8 := [184, 0, 85, 42, 21, 4, 4, 182, 0, 126, 42, 21, 5, 4, 182, 0, 126, 184, 0, 136, 79, 42]
abbrev dktX4_ties_6 : List UInt8 := dkwX4_ties_6 ++ dktX4_ties_7
def dkwX4_ties_5 : List UInt8 := [184, 0, 114, 54, 5, 42, 180, 0, 9, 21, 4, 5, 184, 0, 85, 29, 79, 42, 180, 0, 9, 21, 4, 4]
abbrev dktX4_ties_5 : List UInt8 := dkwX4_ties_5 ++ dktX4_ties_6
def dkwX4_ties_4 : List UInt8 := [16, 7, 29, 17, 2, 88, 100, 182, 0, 96, 153, 0, 5, 3, 172, 27, 28, 184, 0, 136, 54, 4, 27, 28]
abbrev dktX4_ties_4 : List UInt8 := dkwX4_ties_4 ++ dktX4_ties_5
def dkwX4_ties_3 : List UInt8 := [182, 0, 126, 42, 28, 5, 182, 0, 126, 96, 62, 42, 29, 17, 2, 88, 164, 0, 7, 4, 167, 0, 4, 3]
abbrev dktX4_ties_3 : List UInt8 := dkwX4_ties_3 ++ dktX4_ties_4
def dkwX4_ties_2 : List UInt8 := [160, 0, 7, 4, 167, 0, 4, 3, 16, 8, 27, 182, 0, 96, 153, 0, 5, 3, 172, 42, 27, 5]
abbrev dktX4_ties_2 : List UInt8 := dkwX4_ties_2 ++ dktX4_ties_3
def dkwX4_ties_1 : List UInt8 := [28, 182, 0, 133, 154, 0, 7, 4, 167, 0, 4, 3, 5, 28, 182, 0, 96, 154, 0, 23, 42, 27, 28]
abbrev dktX4_ties_1 : List UInt8 := dkwX4_ties_1 ++ dktX4_ties_2
def dkwX4_ties_0 : List UInt8 := [42, 42, 27, 182, 0, 133, 154, 0, 7, 4, 167, 0, 4, 3, 5, 27, 182, 0, 96, 154, 0, 45, 42, 42]
abbrev dktX4_ties_0 : List UInt8 := dkwX4_ties_0 ++ dktX4_ties_1
theorem dksX4_ties_0 : cX4_ties.data.toList.drop 0 = dktX4_ties_0 := by decide +kernel
theorem dksX4_ties_1 : cX4_ties.data.toList.drop 24 = dktX4_ties_1 := dk_seg dksX4_ties_0 24 rfl rfl
theorem dksX4_ties_2 : cX4_ties.data.toList.drop 47 = dktX4_ties_2 := dk_seg dksX4_ties_1 23 rfl rfl
theorem dksX4_ties_3 : cX4_ties.data.toList.drop 69 = dktX4_ties_3 := dk_seg dksX4_ties_2 22 rfl rfl
theorem dksX4_ties_4 : cX4_ties.data.toList.drop 93 = dktX4_ties_4 := dk_seg dksX4_ties_3 24 rfl rfl
theorem dksX4_ties_5 : cX4_ties.data.toList.drop 117 = dktX4_ties_5 := dk_seg dksX4_ties_4 24 rfl rfl
theorem dksX4_ties_6 : cX4_ties.data.toList.drop 141 = dktX4_ties_6 := dk_seg dksX4_ties_5 24 rfl rfl
theorem dksX4_ties_7 : cX4_ties.data.toList.drop 163 = dktX4_ties_7 := dk_seg dksX4_ties_6 22 rfl rfl
theorem dksX4_ties_8 : cX4_ties.data.toList.drop 186 = dktX4_ties_8 := dk_seg dksX4_ties_7 23 rfl rfl
theorem dksX4_ties_9 : cX4_ties.data.toList.drop 208 = dktX4_ties_9 := dk_seg dksX4_ties_8 22 rfl rfl
theorem dksX4_ties_10 : cX4_ties.data.toList.drop 232 = dktX4_ties_10 := dk_seg dksX4_ties_9 24 rfl rfl
theorem dX4_ties_0 : decode cX4_ties 0 = .ok (.aload_n 0, 1) := dk_42 (dk_at dksX4_ties_0 0 rfl rfl)
theorem dX4_ties_1 : decode cX4_ties 1 = .ok (.aload_n 0, 1) := dk_42 (dk_at dksX4_ties_0 1 rfl rfl)
theorem dX4_ties_2 : decode cX4_ties 2 = .ok (.iload_n 1, 1) := dk_27 (dk_at dksX4_ties_0 2 rfl rfl)
theorem dX4_ties_3 : decode cX4_ties 3 = .ok (.invokevirtual 133, 3) := dk_182 0 133 (dk_at dksX4_ties_0 3 rfl rfl)
theorem dX4_ties_6 : decode cX4_ties 6 = .ok (.ifCond .ne 7, 3) := dk_154 0 7 (dk_at dksX4_ties_0 6 rfl rfl)
theorem dX4_ties_9 : decode cX4_ties 9 = .ok (.iconst 1, 1) := dk_4 (dk_at dksX4_ties_0 9 rfl rfl)
theorem dX4_ties_10 : decode cX4_ties 10 = .ok (.goto 4, 3) := dk_167 0 4 (dk_at dksX4_ties_0 10 rfl rfl)
theorem dX4_ties_13 : decode cX4_ties 13 = .ok (.iconst 0, 1) := dk_3 (dk_at dksX4_ties_0 13 rfl rfl)
theorem dX4_ties_14 : decode cX4_ties 14 = .ok (.iconst 2, 1) := dk_5 (dk_at dksX4_ties_0 14 rfl rfl)
theorem dX4_ties_15 : decode cX4_ties 15 = .ok (.iload_n 1, 1) := dk_27 (dk_at dksX4_ties_0 15 rfl rfl)
theorem dX4_ties_16 : decode cX4_ties 16 = .ok (.invokevirtual 96, 3) := dk_182 0 96 (dk_at dksX4_ties_0 16 rfl rfl)
theorem dX4_ties_19 : decode cX4_ties 19 = .ok (.ifCond .ne 45, 3) := dk_154 0 45 (dk_at dksX4_ties_0 19 rfl rfl)
theorem dX4_ties_22 : decode cX4_ties 22 = .ok (.aload_n 0, 1) := dk_42 (dk_at dksX4_ties_0 22 rfl rfl)
theorem dX4_ties_23 : decode cX4_ties 23 = .ok (.aload_n 0, 1) := dk_42 (dk_at dksX4_ties_0 23 rfl rfl)
theorem dX4_ties_24 : decode cX4_ties 24 = .ok (.iload_n 2, 1) := dk_28 (dk_at dksX4_ties_1 0 rfl rfl)
theorem dX4_ties_25 : decode cX4_ties 25 = .ok (.invokevirtual 133, 3) := dk_182 0 133 (dk_at dksX4_ties_1 1 rfl rfl)
theorem dX4_ties_28 : decode cX4_ties 28 = .ok (.ifCond .ne 7, 3) := dk_154 0 7 (dk_at dksX4_ties_1 4 rfl rfl)
theorem dX4_ties_31 : decode cX4_ties 31 = .ok (.iconst 1, 1) := dk_4 (dk_at dksX4_ties_1 7 rfl rfl)
theorem dX4_ties_32 : decode cX4_ties 32 = .ok (.goto 4, 3) := dk_167 0 4 (dk_at dksX4_ties_1 8 rfl rfl)
theorem dX4_ties_35 : decode cX4_ties 35 = .ok (.iconst 0, 1) := dk_3 (dk_at dksX4_ties_1 11 rfl rfl)
theorem dX4_ties_36 : decode cX4_ties 36 = .ok (.iconst 2, 1) := dk_5 (dk_at dksX4_ties_1 12 rfl rfl)
theorem dX4_ties_37 : decode cX4_ties 37 = .ok (.iload_n 2, 1) := dk_28 (dk_at dksX4_ties_1 13 rfl rfl)
theorem dX4_ties_38 : decode cX4_ties 38 = .ok (.invokevirtual 96, 3) := dk_182 0 96 (dk_at dksX4_ties_1 14 rfl rfl)
theorem dX4_ties_41 : decode cX4_ties 41 = .ok (.ifCond .ne 23, 3) := dk_154 0 23 (dk_at dksX4_ties_1 17 rfl rfl)
theorem dX4_ties_44 : decode cX4_ties 44 = .ok (.aload_n 0, 1) := dk_42 (dk_at dksX4_ties_1 20 rfl rfl)
theorem dX4_ties_45 : decode cX4_ties 45 = .ok (.iload_n 1, 1) := dk_27 (dk_at dksX4_ties_1 21 rfl rfl)
theorem dX4_ties_46 : decode cX4_ties 46 = .ok (.iload_n 2, 1) := dk_28 (dk_at dksX4_ties_1 22 rfl rfl)
theorem dX4_ties_47 : decode cX4_ties 47 = .ok (.if_icmp .ne 7, 3) := dk_160 0 7 (dk_at dksX4_ties_2 0 rfl rfl)
theorem dX4_ties_50 : decode cX4_ties 50 = .ok (.iconst 1, 1) := dk_4 (dk_at dksX4_ties_2 3 rfl rfl)
theorem dX4_ties_51 : decode cX4_ties 51 = .ok (.goto 4, 3) := dk_167 0 4 (dk_at dksX4_ties_2 4 rfl rfl)
theorem dX4_ties_54 : decode cX4_ties 54 = .ok (.iconst 0, 1) := dk_3 (dk_at dksX4_ties_2 7 rfl rfl)
theorem dX4_ties_55 : decode cX4_ties 55 = .ok (.bipush 8, 2) := dk_16 8 (dk_at dksX4_ties_2 8 rfl rfl)
theorem dX4_ties_57 : decode cX4_ties 57 = .ok (.iload_n 1, 1) := dk_27 (dk_at dksX4_ties_2 10 rfl rfl)
theorem dX4_ties_58 : decode cX4_ties 58 = .ok (.invokevirtual 96, 3) := dk_182 0 96 (dk_at dksX4_ties_2 11 rfl rfl)
theorem dX4_ties_61 : decode cX4_ties 61 = .ok (.ifCond .eq 5, 3) := dk_153 0 5 (dk_at dksX4_ties_2 14 rfl rfl)
theorem dX4_ties_64 : decode cX4_ties 64 = .ok (.iconst 0, 1) := dk_3 (dk_at dksX4_ties_2 17 rfl rfl)
theorem dX4_ties_65 : decode cX4_ties 65 = .ok (.ireturn, 1) := dk_172 (dk_at dksX4_ties_2 18 rfl rfl)
theorem dX4_ties_66 : decode cX4_ties 66 = .ok (.aload_n 0, 1) := dk_42 (dk_at dksX4_ties_2 19 rfl rfl)
theorem dX4_ties_67 : decode cX4_ties 67 = .ok (.iload_n 1, 1) := dk_27 (dk_at dksX4_ties_2 20 rfl rfl)
theorem dX4_ties_68 : decode cX4_ties 68 = .ok (.iconst 2, 1) := dk_5 (dk_at dksX4_ties_2 21 rfl rfl)
theorem dX4_ties_69 : decode cX4_ties 69 = .ok (.invokevirtual 126, 3) := dk_182 0 126 (dk_at dksX4_ties_3 0 rfl rfl)
theorem dX4_ties_72 : decode cX4_ties 72 = .ok (.aload_n 0, 1) := dk_42 (dk_at dksX4_ties_3 3 rfl rfl)
theorem dX4_ties_73 : decode cX4_ties 73 = .ok (.iload_n 2, 1) := dk_28 (dk_at dksX4_ties_3 4 rfl rfl)
theorem dX4_ties_74 : decode cX4_ties 74 = .ok (.iconst 2, 1) := dk_5 (dk_at dksX4_ties_3 5 rfl rfl)
theorem dX4_ties_75 : decode cX4_ties 75 = .ok (.invokevirtual 126, 3) := dk_182 0 126 (dk_at dksX4_ties_3 6 rfl rfl)
theorem dX4_ties_78 : decode cX4_ties 78 = .ok (.iadd, 1) := dk_96 (dk_at dksX4_ties_3 9 rfl rfl)
theorem dX4_ties_79 : decode cX4_ties 79 = .ok (.istore_n 3, 1) := dk_62 (dk_at dksX4_ties_3 10 rfl rfl)
theorem dX4_ties_80 : decode cX4_ties 80 = .ok (.aload_n 0, 1) := dk_42 (dk_at dksX4_ties_3 11 rfl rfl)
theorem dX4_ties_81 : decode cX4_ties 81 = .ok (.iload_n 3, 1) := dk_29 (dk_at dksX4_ties_3 12 rfl rfl)
theorem dX4_ties_82 : decode cX4_ties 82 = .ok (.sipush 600, 3) := dk_17 2 88 (dk_at dksX4_ties_3 13 rfl rfl)
theorem dX4_ties_85 : decode cX4_ties 85 = .ok (.if_icmp .le 7, 3) := dk_164 0 7 (dk_at dksX4_ties_3 16 rfl rfl)
theorem dX4_ties_88 : decode cX4_ties 88 = .ok (.iconst 1, 1) := dk_4 (dk_at dksX4_ties_3 19 rfl rfl)
theorem dX4_ties_89 : decode cX4_ties 89 = .ok (.goto 4, 3) := dk_167 0 4 (dk_at dksX4_ties_3 20 rfl rfl)
theorem dX4_ties_92 : decode cX4_ties 92 = .ok (.iconst 0, 1) := dk_3 (dk_at dksX4_ties_3 23 rfl rfl)
theorem dX4_ties_93 : decode cX4_ties 93 = .ok (.bipush 7, 2) := dk_16 7 (dk_at dksX4_ties_4 0 rfl rfl)
theorem dX4_ties_95 : decode cX4_ties 95 = .ok (.iload_n 3, 1) := dk_29 (dk_at dksX4_ties_4 2 rfl rfl)
theorem dX4_ties_96 : decode cX4_ties 96 = .ok (.sipush 600, 3) := dk_17 2 88 (dk_at dksX4_ties_4 3 rfl rfl)
theorem dX4_ties_99 : decode cX4_ties 99 = .ok (.isub, 1) := dk_100 (dk_at dksX4_ties_4 6 rfl rfl)
theorem dX4_ties_100 : decode cX4_ties 100 = .ok (.invokevirtual 96, 3) := dk_182 0 96 (dk_at dksX4_ties_4 7 rfl rfl)
theorem dX4_ties_103 : decode cX4_ties 103 = .ok (.ifCond .eq 5, 3) := dk_153 0 5 (dk_at dksX4_ties_4 10 rfl rfl)
theorem dX4_ties_106 : decode cX4_ties 106 = .ok (.iconst 0, 1) := dk_3 (dk_at dksX4_ties_4 13 rfl rfl)
theorem dX4_ties_107 : decode cX4_ties 107 = .ok (.ireturn, 1) := dk_172 (dk_at dksX4_ties_4 14 rfl rfl)
theorem dX4_ties_108 : decode cX4_ties 108 = .ok (.iload_n 1, 1) := dk_27 (dk_at dksX4_ties_4 15 rfl rfl)
theorem dX4_ties_109 : decode cX4_ties 109 = .ok (.iload_n 2, 1) := dk_28 (dk_at dksX4_ties_4 16 rfl rfl)
theorem dX4_ties_110 : decode cX4_ties 110 = .ok (.invokestatic 136, 3) := dk_184 0 136 (dk_at dksX4_ties_4 17 rfl rfl)
theorem dX4_ties_113 : decode cX4_ties 113 = .ok (.istore 4, 2) := dk_54 4 (dk_at dksX4_ties_4 20 rfl rfl)
theorem dX4_ties_115 : decode cX4_ties 115 = .ok (.iload_n 1, 1) := dk_27 (dk_at dksX4_ties_4 22 rfl rfl)
theorem dX4_ties_116 : decode cX4_ties 116 = .ok (.iload_n 2, 1) := dk_28 (dk_at dksX4_ties_4 23 rfl rfl)
theorem dX4_ties_117 : decode cX4_ties 117 = .ok (.invokestatic 114, 3) := dk_184 0 114 (dk_at dksX4_ties_5 0 rfl rfl)
theorem dX4_ties_120 : decode cX4_ties 120 = .ok (.istore 5, 2) := dk_54 5 (dk_at dksX4_ties_5 3 rfl rfl)
theorem dX4_ties_122 : decode cX4_ties 122 = .ok (.aload_n 0, 1) := dk_42 (dk_at dksX4_ties_5 5 rfl rfl)
theorem dX4_ties_123 : decode cX4_ties 123 = .ok (.getfield 9, 3) := dk_180 0 9 (dk_at dksX4_ties_5 6 rfl rfl)
theorem dX4_ties_126 : decode cX4_ties 126 = .ok (.iload 4, 2) := dk_21 4 (dk_at dksX4_ties_5 9 rfl rfl)
theorem dX4_ties_128 : decode cX4_ties 128 = .ok (.iconst 2, 1) := dk_5 (dk_at dksX4_ties_5 11 rfl rfl)
theorem dX4_ties_129 : decode cX4_ties 129 = .ok (.invokestatic 85, 3) := dk_184 0 85 (dk_at dksX4_ties_5 12 rfl rfl)
theorem dX4_ties_132 : decode cX4_ties 132 = .ok (.iload_n 3, 1) := dk_29 (dk_at dksX4_ties_5 15 rfl rfl)
theorem dX4_ties_133 : decode cX4_ties 133 = .ok (.iastore, 1) := dk_79 (dk_at dksX4_ties_5 16 rfl rfl)
theorem dX4_ties_134 : decode cX4_ties 134 = .ok (.aload_n 0, 1) := dk_42 (dk_at dksX4_ties_5 17 rfl rfl)
theorem dX4_ties_135 : decode cX4_ties 135 = .ok (.getfield 9, 3) := dk_180 0 9 (dk_at dksX4_ties_5 18 rfl rfl)
theorem dX4_ties_138 : decode cX4_ties 138 = .ok (.iload 4, 2) := dk_21 4 (dk_at dksX4_ties_5 21 rfl rfl)
theorem dX4_ties_140 : decode cX4_ties 140 = .ok (.iconst 1, 1) := dk_4 (dk_at dksX4_ties_5 23 rfl rfl)
theorem dX4_ties_141 : decode cX4_ties 141 = .ok (.invokestatic 85, 3) := dk_184 0 85 (dk_at dksX4_ties_6 0 rfl rfl)
theorem dX4_ties_144 : decode cX4_ties 144 = .ok (.aload_n 0, 1) := dk_42 (dk_at dksX4_ties_6 3 rfl rfl)
theorem dX4_ties_145 : decode cX4_ties 145 = .ok (.iload 4, 2) := dk_21 4 (dk_at dksX4_ties_6 4 rfl rfl)
theorem dX4_ties_147 : decode cX4_ties 147 = .ok (.iconst 1, 1) := dk_4 (dk_at dksX4_ties_6 6 rfl rfl)
theorem dX4_ties_148 : decode cX4_ties 148 = .ok (.invokevirtual 126, 3) := dk_182 0 126 (dk_at dksX4_ties_6 7 rfl rfl)
theorem dX4_ties_151 : decode cX4_ties 151 = .ok (.aload_n 0, 1) := dk_42 (dk_at dksX4_ties_6 10 rfl rfl)
theorem dX4_ties_152 : decode cX4_ties 152 = .ok (.iload 5, 2) := dk_21 5 (dk_at dksX4_ties_6 11 rfl rfl)
theorem dX4_ties_154 : decode cX4_ties 154 = .ok (.iconst 1, 1) := dk_4 (dk_at dksX4_ties_6 13 rfl rfl)
theorem dX4_ties_155 : decode cX4_ties 155 = .ok (.invokevirtual 126, 3) := dk_182 0 126 (dk_at dksX4_ties_6 14 rfl rfl)
theorem dX4_ties_158 : decode cX4_ties 158 = .ok (.invokestatic 136, 3) := dk_184 0 136 (dk_at dksX4_ties_6 17 rfl rfl)
theorem dX4_ties_161 : decode cX4_ties 161 = .ok (.iastore, 1) := dk_79 (dk_at dksX4_ties_6 20 rfl rfl)
theorem dX4_ties_162 : decode cX4_ties 162 = .ok (.aload_n 0, 1) := dk_42 (dk_at dksX4_ties_6 21 rfl rfl)
theorem dX4_ties_163 : decode cX4_ties 163 = .ok (.getfield 9, 3) := dk_180 0 9 (dk_at dksX4_ties_7 0 rfl rfl)
theorem dX4_ties_166 : decode cX4_ties 166 = .ok (.iload 4, 2) := dk_21 4 (dk_at dksX4_ties_7 3 rfl rfl)
theorem dX4_ties_168 : decode cX4_ties 168 = .ok (.iconst 0, 1) := dk_3 (dk_at dksX4_ties_7 5 rfl rfl)
theorem dX4_ties_169 : decode cX4_ties 169 = .ok (.invokestatic 85, 3) := dk_184 0 85 (dk_at dksX4_ties_7 6 rfl rfl)
theorem dX4_ties_172 : decode cX4_ties 172 = .ok (.aload_n 0, 1) := dk_42 (dk_at dksX4_ties_7 9 rfl rfl)
theorem dX4_ties_173 : decode cX4_ties 173 = .ok (.iload 4, 2) := dk_21 4 (dk_at dksX4_ties_7 10 rfl rfl)
theorem dX4_ties_175 : decode cX4_ties 175 = .ok (.iconst 0, 1) := dk_3 (dk_at dksX4_ties_7 12 rfl rfl)
theorem dX4_ties_176 : decode cX4_ties 176 = .ok (.invokevirtual 126, 3) := dk_182 0 126 (dk_at dksX4_ties_7 13 rfl rfl)
theorem dX4_ties_179 : decode cX4_ties 179 = .ok (.aload_n 0, 1) := dk_42 (dk_at dksX4_ties_7 16 rfl rfl)
theorem dX4_ties_180 : decode cX4_ties 180 = .ok (.iload 5, 2) := dk_21 5 (dk_at dksX4_ties_7 17 rfl rfl)
theorem dX4_ties_182 : decode cX4_ties 182 = .ok (.iconst 0, 1) := dk_3 (dk_at dksX4_ties_7 19 rfl rfl)
theorem dX4_ties_183 : decode cX4_ties 183 = .ok (.invokevirtual 126, 3) := dk_182 0 126 (dk_at dksX4_ties_7 20 rfl rfl)
theorem dX4_ties_186 : decode cX4_ties 186 = .ok (.if_icmp .ne 13, 3) := dk_160 0 13 (dk_at dksX4_ties_8 0 rfl rfl)
theorem dX4_ties_189 : decode cX4_ties 189 = .ok (.aload_n 0, 1) := dk_42 (dk_at dksX4_ties_8 3 rfl rfl)
theorem dX4_ties_190 : decode cX4_ties 190 = .ok (.iload 4, 2) := dk_21 4 (dk_at dksX4_ties_8 4 rfl rfl)
theorem dX4_ties_192 : decode cX4_ties 192 = .ok (.iconst 0, 1) := dk_3 (dk_at dksX4_ties_8 6 rfl rfl)
theorem dX4_ties_193 : decode cX4_ties 193 = .ok (.invokevirtual 126, 3) := dk_182 0 126 (dk_at dksX4_ties_8 7 rfl rfl)
theorem dX4_ties_196 : decode cX4_ties 196 = .ok (.goto 4, 3) := dk_167 0 4 (dk_at dksX4_ties_8 10 rfl rfl)
theorem dX4_ties_199 : decode cX4_ties 199 = .ok (.iconst 3, 1) := dk_6 (dk_at dksX4_ties_8 13 rfl rfl)
theorem dX4_ties_200 : decode cX4_ties 200 = .ok (.iastore, 1) := dk_79 (dk_at dksX4_ties_8 14 rfl rfl)
theorem dX4_ties_201 : decode cX4_ties 201 = .ok (.aload_n 0, 1) := dk_42 (dk_at dksX4_ties_8 15 rfl rfl)
theorem dX4_ties_202 : decode cX4_ties 202 = .ok (.getfield 9, 3) := dk_180 0 9 (dk_at dksX4_ties_8 16 rfl rfl)
theorem dX4_ties_205 : decode cX4_ties 205 = .ok (.iload 4, 2) := dk_21 4 (dk_at dksX4_ties_8 19 rfl rfl)
theorem dX4_ties_207 : decode cX4_ties 207 = .ok (.iconst 3, 1) := dk_6 (dk_at dksX4_ties_8 21 rfl rfl)
theorem dX4_ties_208 : decode cX4_ties 208 = .ok (.invokestatic 85, 3) := dk_184 0 85 (dk_at dksX4_ties_9 0 rfl rfl)
theorem dX4_ties_211 : decode cX4_ties 211 = .ok (.aload_n 0, 1) := dk_42 (dk_at dksX4_ties_9 3 rfl rfl)
theorem dX4_ties_212 : decode cX4_ties 212 = .ok (.iload 4, 2) := dk_21 4 (dk_at dksX4_ties_9 4 rfl rfl)
theorem dX4_ties_214 : decode cX4_ties 214 = .ok (.iconst 3, 1) := dk_6 (dk_at dksX4_ties_9 6 rfl rfl)
theorem dX4_ties_215 : decode cX4_ties 215 = .ok (.invokevirtual 126, 3) := dk_182 0 126 (dk_at dksX4_ties_9 7 rfl rfl)
theorem dX4_ties_218 : decode cX4_ties 218 = .ok (.aload_n 0, 1) := dk_42 (dk_at dksX4_ties_9 10 rfl rfl)
theorem dX4_ties_219 : decode cX4_ties 219 = .ok (.iload 5, 2) := dk_21 5 (dk_at dksX4_ties_9 11 rfl rfl)
theorem dX4_ties_221 : decode cX4_ties 221 = .ok (.iconst 3, 1) := dk_6 (dk_at dksX4_ties_9 13 rfl rfl)
theorem dX4_ties_222 : decode cX4_ties 222 = .ok (.invokevirtual 126, 3) := dk_182 0 126 (dk_at dksX4_ties_9 14 rfl rfl)
theorem dX4_ties_225 : decode cX4_ties 225 = .ok (.if_icmp .ne 13, 3) := dk_160 0 13 (dk_at dksX4_ties_9 17 rfl rfl)
theorem dX4_ties_228 : decode cX4_ties 228 = .ok (.aload_n 0, 1) := dk_42 (dk_at dksX4_ties_9 20 rfl rfl)
theorem dX4_ties_229 : decode cX4_ties 229 = .ok (.iload 4, 2) := dk_21 4 (dk_at dksX4_ties_9 21 rfl rfl)
theorem dX4_ties_231 : decode cX4_ties 231 = .ok (.iconst 3, 1) := dk_6 (dk_at dksX4_ties_9 23 rfl rfl)
theorem dX4_ties_232 : decode cX4_ties 232 = .ok (.invokevirtual 126, 3) := dk_182 0 126 (dk_at dksX4_ties_10 0 rfl rfl)
theorem dX4_ties_235 : decode cX4_ties 235 = .ok (.goto 4, 3) := dk_167 0 4 (dk_at dksX4_ties_10 3 rfl rfl)
theorem dX4_ties_238 : decode cX4_ties 238 = .ok (.iconst (-1), 1) := dk_2 (dk_at dksX4_ties_10 6 rfl rfl)
theorem dX4_ties_239 : decode cX4_ties 239 = .ok (.iastore, 1) := dk_79 (dk_at dksX4_ties_10 7 rfl rfl)
theorem dX4_ties_240 : decode cX4_ties 240 = .ok (.aload_n 0, 1) := dk_42 (dk_at dksX4_ties_10 8 rfl rfl)
theorem dX4_ties_241 : decode cX4_ties 241 = .ok (.iload 5, 2) := dk_21 5 (dk_at dksX4_ties_10 9 rfl rfl)
theorem dX4_ties_243 : decode cX4_ties 243 = .ok (.invokevirtual 129, 3) := dk_182 0 129 (dk_at dksX4_ties_10 11 rfl rfl)
theorem dX4_ties_246 : decode cX4_ties 246 = .ok (.iload 4, 2) := dk_21 4 (dk_at dksX4_ties_10 14 rfl rfl)
theorem dX4_ties_248 : decode cX4_ties 248 = .ok (.ireturn, 1) := dk_172 (dk_at dksX4_ties_10 16 rfl rfl)
abbrev cX4_isHank : ByteArray := prog_17_method_19_code
def yX4_isHank : MethodName := ⟨RX4, "isHank", "(I)Z"⟩
def dkwX4_isHank_0 : List UInt8 := [27, 3, 42, 180, 0, 9, 7, 46, 4, 100, 184, 0, 92, 172]
abbrev dktX4_isHank_0 : List UInt8 := dkwX4_isHank_0 ++ []
theorem dksX4_isHank_0 : cX4_isHank.data.toList.drop 0 = dktX4_isHank_0 := by decide +kernel
theorem dX4_isHank_0 : decode cX4_isHank 0 = .ok (.iload_n 1, 1) := dk_27 (dk_at dksX4_isHank_0 0 rfl rfl)
theorem dX4_isHank_1 : decode cX4_isHank 1 = .ok (.iconst 0, 1) := dk_3 (dk_at dksX4_isHank_0 1 rfl rfl)
theorem dX4_isHank_2 : decode cX4_isHank 2 = .ok (.aload_n 0, 1) := dk_42 (dk_at dksX4_isHank_0 2 rfl rfl)
theorem dX4_isHank_3 : decode cX4_isHank 3 = .ok (.getfield 9, 3) := dk_180 0 9 (dk_at dksX4_isHank_0 3 rfl rfl)
theorem dX4_isHank_6 : decode cX4_isHank 6 = .ok (.iconst 4, 1) := dk_7 (dk_at dksX4_isHank_0 6 rfl rfl)
theorem dX4_isHank_7 : decode cX4_isHank 7 = .ok (.iaload, 1) := dk_46 (dk_at dksX4_isHank_0 7 rfl rfl)
theorem dX4_isHank_8 : decode cX4_isHank 8 = .ok (.iconst 1, 1) := dk_4 (dk_at dksX4_isHank_0 8 rfl rfl)
theorem dX4_isHank_9 : decode cX4_isHank 9 = .ok (.isub, 1) := dk_100 (dk_at dksX4_isHank_0 9 rfl rfl)
theorem dX4_isHank_10 : decode cX4_isHank 10 = .ok (.invokestatic 92, 3) := dk_184 0 92 (dk_at dksX4_isHank_0 10 rfl rfl)
theorem dX4_isHank_13 : decode cX4_isHank 13 = .ok (.ireturn, 1) := dk_172 (dk_at dksX4_isHank_0 13 rfl rfl)
abbrev cX4_ofHank : ByteArray := prog_17_method_16_code
def yX4_ofHank : MethodName := ⟨RX4, "ofHank", "(II)I"⟩
def dkwX4_ofHank_0 : List UInt8 := [42, 180, 0, 9, 27, 28, 184, 0, 85, 46, 172]
abbrev dktX4_ofHank_0 : List UInt8 := dkwX4_ofHank_0 ++ []
theorem dksX4_ofHank_0 : cX4_ofHank.data.toList.drop 0 = dktX4_ofHank_0 := by decide +kernel
theorem dX4_ofHank_0 : decode cX4_ofHank 0 = .ok (.aload_n 0, 1) := dk_42 (dk_at dksX4_ofHank_0 0 rfl rfl)
theorem dX4_ofHank_1 : decode cX4_ofHank 1 = .ok (.getfield 9, 3) := dk_180 0 9 (dk_at dksX4_ofHank_0 1 rfl rfl)
theorem dX4_ofHank_4 : decode cX4_ofHank 4 = .ok (.iload_n 1, 1) := dk_27 (dk_at dksX4_ofHank_0 4 rfl rfl)
theorem dX4_ofHank_5 : decode cX4_ofHank 5 = .ok (.iload_n 2, 1) := dk_28 (dk_at dksX4_ofHank_0 5 rfl rfl)
theorem dX4_ofHank_6 : decode cX4_ofHank 6 = .ok (.invokestatic 85, 3) := dk_184 0 85 (dk_at dksX4_ofHank_0 6 rfl rfl)
theorem dX4_ofHank_9 : decode cX4_ofHank 9 = .ok (.iaload, 1) := dk_46 (dk_at dksX4_ofHank_0 9 rfl rfl)
theorem dX4_ofHank_10 : decode cX4_ofHank 10 = .ok (.ireturn, 1) := dk_172 (dk_at dksX4_ofHank_0 10 rfl rfl)
abbrev cX4_lesser : ByteArray := prog_17_method_4_code
def yX4_lesser : MethodName := ⟨RX4, "lesser", "(II)I"⟩
def dkwX4_lesser_0 : List UInt8 := [26, 27, 162, 0, 7, 26, 167, 0, 4, 27, 172]
abbrev dktX4_lesser_0 : List UInt8 := dkwX4_lesser_0 ++ []
theorem dksX4_lesser_0 : cX4_lesser.data.toList.drop 0 = dktX4_lesser_0 := by decide +kernel
theorem dX4_lesser_0 : decode cX4_lesser 0 = .ok (.iload_n 0, 1) := dk_26 (dk_at dksX4_lesser_0 0 rfl rfl)
theorem dX4_lesser_1 : decode cX4_lesser 1 = .ok (.iload_n 1, 1) := dk_27 (dk_at dksX4_lesser_0 1 rfl rfl)
theorem dX4_lesser_2 : decode cX4_lesser 2 = .ok (.if_icmp .ge 7, 3) := dk_162 0 7 (dk_at dksX4_lesser_0 2 rfl rfl)
theorem dX4_lesser_5 : decode cX4_lesser 5 = .ok (.iload_n 0, 1) := dk_26 (dk_at dksX4_lesser_0 5 rfl rfl)
theorem dX4_lesser_6 : decode cX4_lesser 6 = .ok (.goto 4, 3) := dk_167 0 4 (dk_at dksX4_lesser_0 6 rfl rfl)
theorem dX4_lesser_9 : decode cX4_lesser 9 = .ok (.iload_n 1, 1) := dk_27 (dk_at dksX4_lesser_0 9 rfl rfl)
theorem dX4_lesser_10 : decode cX4_lesser 10 = .ok (.ireturn, 1) := dk_172 (dk_at dksX4_lesser_0 10 rfl rfl)
abbrev cX4_goes : ByteArray := prog_17_method_29_code
def yX4_goes : MethodName := ⟨RX4, "goes", "(I)V"⟩
def dkwX4_goes_2 : List UInt8 := [92, 46, 4, 100, 79, 177]
abbrev dktX4_goes_2 : List UInt8 := dkwX4_goes_2 ++ []
def dkwX4_goes_1 : List UInt8 := [180, 0, 9, 28, 42, 180, 0, 9, 28, 7, 96, 46, 79, 132, 2, 1, 167, 255, 223, 42, 180, 0, 9, 7]
abbrev dktX4_goes_1 : List UInt8 := dkwX4_goes_1 ++ dktX4_goes_2
def dkwX4_goes_0 : List UInt8 := [27, 3, 184, 0, 85, 61, 28, 42, 180, 0, 9, 7, 46, 4, 100, 3, 184, 0, 85, 162, 0, 23, 42]
abbrev dktX4_goes_0 : List UInt8 := dkwX4_goes_0 ++ dktX4_goes_1
theorem dksX4_goes_0 : cX4_goes.data.toList.drop 0 = dktX4_goes_0 := by decide +kernel
theorem dksX4_goes_1 : cX4_goes.data.toList.drop 23 = dktX4_goes_1 := dk_seg dksX4_goes_0 23 rfl rfl
theorem dksX4_goes_2 : cX4_goes.data.toList.drop 47 = dktX4_goes_2 := dk_seg dksX4_goes_1 24 rfl rfl
theorem dX4_goes_0 : decode cX4_goes 0 = .ok (.iload_n 1, 1) := dk_27 (dk_at dksX4_goes_0 0 rfl rfl)
theorem dX4_goes_1 : decode cX4_goes 1 = .ok (.iconst 0, 1) := dk_3 (dk_at dksX4_goes_0 1 rfl rfl)
theorem dX4_goes_2 : decode cX4_goes 2 = .ok (.invokestatic 85, 3) := dk_184 0 85 (dk_at dksX4_goes_0 2 rfl rfl)
theorem dX4_goes_5 : decode cX4_goes 5 = .ok (.istore_n 2, 1) := dk_61 (dk_at dksX4_goes_0 5 rfl rfl)
theorem dX4_goes_6 : decode cX4_goes 6 = .ok (.iload_n 2, 1) := dk_28 (dk_at dksX4_goes_0 6 rfl rfl)
theorem dX4_goes_7 : decode cX4_goes 7 = .ok (.aload_n 0, 1) := dk_42 (dk_at dksX4_goes_0 7 rfl rfl)
theorem dX4_goes_8 : decode cX4_goes 8 = .ok (.getfield 9, 3) := dk_180 0 9 (dk_at dksX4_goes_0 8 rfl rfl)
theorem dX4_goes_11 : decode cX4_goes 11 = .ok (.iconst 4, 1) := dk_7 (dk_at dksX4_goes_0 11 rfl rfl)
theorem dX4_goes_12 : decode cX4_goes 12 = .ok (.iaload, 1) := dk_46 (dk_at dksX4_goes_0 12 rfl rfl)
theorem dX4_goes_13 : decode cX4_goes 13 = .ok (.iconst 1, 1) := dk_4 (dk_at dksX4_goes_0 13 rfl rfl)
theorem dX4_goes_14 : decode cX4_goes 14 = .ok (.isub, 1) := dk_100 (dk_at dksX4_goes_0 14 rfl rfl)
theorem dX4_goes_15 : decode cX4_goes 15 = .ok (.iconst 0, 1) := dk_3 (dk_at dksX4_goes_0 15 rfl rfl)
theorem dX4_goes_16 : decode cX4_goes 16 = .ok (.invokestatic 85, 3) := dk_184 0 85 (dk_at dksX4_goes_0 16 rfl rfl)
theorem dX4_goes_19 : decode cX4_goes 19 = .ok (.if_icmp .ge 23, 3) := dk_162 0 23 (dk_at dksX4_goes_0 19 rfl rfl)
theorem dX4_goes_22 : decode cX4_goes 22 = .ok (.aload_n 0, 1) := dk_42 (dk_at dksX4_goes_0 22 rfl rfl)
theorem dX4_goes_23 : decode cX4_goes 23 = .ok (.getfield 9, 3) := dk_180 0 9 (dk_at dksX4_goes_1 0 rfl rfl)
theorem dX4_goes_26 : decode cX4_goes 26 = .ok (.iload_n 2, 1) := dk_28 (dk_at dksX4_goes_1 3 rfl rfl)
theorem dX4_goes_27 : decode cX4_goes 27 = .ok (.aload_n 0, 1) := dk_42 (dk_at dksX4_goes_1 4 rfl rfl)
theorem dX4_goes_28 : decode cX4_goes 28 = .ok (.getfield 9, 3) := dk_180 0 9 (dk_at dksX4_goes_1 5 rfl rfl)
theorem dX4_goes_31 : decode cX4_goes 31 = .ok (.iload_n 2, 1) := dk_28 (dk_at dksX4_goes_1 8 rfl rfl)
theorem dX4_goes_32 : decode cX4_goes 32 = .ok (.iconst 4, 1) := dk_7 (dk_at dksX4_goes_1 9 rfl rfl)
theorem dX4_goes_33 : decode cX4_goes 33 = .ok (.iadd, 1) := dk_96 (dk_at dksX4_goes_1 10 rfl rfl)
theorem dX4_goes_34 : decode cX4_goes 34 = .ok (.iaload, 1) := dk_46 (dk_at dksX4_goes_1 11 rfl rfl)
theorem dX4_goes_35 : decode cX4_goes 35 = .ok (.iastore, 1) := dk_79 (dk_at dksX4_goes_1 12 rfl rfl)
theorem dX4_goes_36 : decode cX4_goes 36 = .ok (.iinc 2 1, 3) := dk_132 2 1 (dk_at dksX4_goes_1 13 rfl rfl)
theorem dX4_goes_39 : decode cX4_goes 39 = .ok (.goto (-33), 3) := dk_167 255 223 (dk_at dksX4_goes_1 16 rfl rfl)
theorem dX4_goes_42 : decode cX4_goes 42 = .ok (.aload_n 0, 1) := dk_42 (dk_at dksX4_goes_1 19 rfl rfl)
theorem dX4_goes_43 : decode cX4_goes 43 = .ok (.getfield 9, 3) := dk_180 0 9 (dk_at dksX4_goes_1 20 rfl rfl)
theorem dX4_goes_46 : decode cX4_goes 46 = .ok (.iconst 4, 1) := dk_7 (dk_at dksX4_goes_1 23 rfl rfl)
theorem dX4_goes_47 : decode cX4_goes 47 = .ok (.dup2, 1) := dk_92 (dk_at dksX4_goes_2 0 rfl rfl)
theorem dX4_goes_48 : decode cX4_goes 48 = .ok (.iaload, 1) := dk_46 (dk_at dksX4_goes_2 1 rfl rfl)
theorem dX4_goes_49 : decode cX4_goes 49 = .ok (.iconst 1, 1) := dk_4 (dk_at dksX4_goes_2 2 rfl rfl)
theorem dX4_goes_50 : decode cX4_goes 50 = .ok (.isub, 1) := dk_100 (dk_at dksX4_goes_2 3 rfl rfl)
theorem dX4_goes_51 : decode cX4_goes 51 = .ok (.iastore, 1) := dk_79 (dk_at dksX4_goes_2 4 rfl rfl)
theorem dX4_goes_52 : decode cX4_goes 52 = .ok (.return_, 1) := dk_177 (dk_at dksX4_goes_2 5 rfl rfl)
abbrev cX4_weave : ByteArray := prog_17_method_34_code
def yX4_weave : MethodName := ⟨RX4, "weave", "(II)I"⟩
def dkwX4_weave_0 : List UInt8 := [42, 182, 0, 100, 42, 42, 27, 28, 182, 0, 149, 182, 0, 110, 172]
abbrev dktX4_weave_0 : List UInt8 := dkwX4_weave_0 ++ []
theorem dksX4_weave_0 : cX4_weave.data.toList.drop 0 = dktX4_weave_0 := by decide +kernel
theorem dX4_weave_0 : decode cX4_weave 0 = .ok (.aload_n 0, 1) := dk_42 (dk_at dksX4_weave_0 0 rfl rfl)
theorem dX4_weave_1 : decode cX4_weave 1 = .ok (.invokevirtual 100, 3) := dk_182 0 100 (dk_at dksX4_weave_0 1 rfl rfl)
theorem dX4_weave_4 : decode cX4_weave 4 = .ok (.aload_n 0, 1) := dk_42 (dk_at dksX4_weave_0 4 rfl rfl)
theorem dX4_weave_5 : decode cX4_weave 5 = .ok (.aload_n 0, 1) := dk_42 (dk_at dksX4_weave_0 5 rfl rfl)
theorem dX4_weave_6 : decode cX4_weave 6 = .ok (.iload_n 1, 1) := dk_27 (dk_at dksX4_weave_0 6 rfl rfl)
theorem dX4_weave_7 : decode cX4_weave 7 = .ok (.iload_n 2, 1) := dk_28 (dk_at dksX4_weave_0 7 rfl rfl)
theorem dX4_weave_8 : decode cX4_weave 8 = .ok (.invokevirtual 149, 3) := dk_182 0 149 (dk_at dksX4_weave_0 8 rfl rfl)
theorem dX4_weave_11 : decode cX4_weave 11 = .ok (.invokevirtual 110, 3) := dk_182 0 110 (dk_at dksX4_weave_0 11 rfl rfl)
theorem dX4_weave_14 : decode cX4_weave 14 = .ok (.ireturn, 1) := dk_172 (dk_at dksX4_weave_0 14 rfl rfl)
abbrev cX4_weaves : ByteArray := prog_17_method_33_code
def yX4_weaves : MethodName := ⟨RX4, "weaves", "(II)I"⟩
def dkwX4_weaves_7 : List UInt8 := [96, 92, 46, 4, 96, 79, 42, 180, 0, 9, 16, 18, 28, 96, 46, 172]
abbrev dktX4_weaves_7 : List UInt8 := dkwX4_weaves_7 ++ []
def dkwX4_weaves_6 : List UInt8 := [42, 27, 29, 182, 0, 145, 42, 180, 0, 9, 16, 9, 92, 46, 29, 96, 79, 42, 180, 0, 9, 16, 18, 28]
abbrev dktX4_weaves_6 : List UInt8 := dkwX4_weaves_6 ++ dktX4_weaves_7
def dkwX4_weaves_5 : List UInt8 := [28, 96, 46, 16, 20, 160, 0, 7, 4, 167, 0, 4, 3, 4, 16, 20, 182, 0, 96, 153, 0, 5, 3, 172]
abbrev dktX4_weaves_5 : List UInt8 := dkwX4_weaves_5 ++ dktX4_weaves_6
def dkwX4_weaves_4 : List UInt8 := [167, 0, 4, 3, 8, 42, 27, 5, 182, 0, 126, 182, 0, 96, 154, 0, 32, 42, 42, 180, 0, 9, 16, 18]
abbrev dktX4_weaves_4 : List UInt8 := dkwX4_weaves_4 ++ dktX4_weaves_5
def dkwX4_weaves_3 : List UInt8 := [27, 4, 182, 0, 126, 100, 182, 0, 96, 154, 0, 61, 42, 42, 27, 5, 182, 0, 126, 29, 162, 0, 7, 4]
abbrev dktX4_weaves_3 : List UInt8 := dkwX4_weaves_3 ++ dktX4_weaves_4
def dkwX4_weaves_2 : List UInt8 := [104, 62, 42, 42, 27, 4, 182, 0, 126, 16, 50, 162, 0, 7, 4, 167, 0, 4, 3, 16, 6, 16, 50, 42]
abbrev dktX4_weaves_2 : List UInt8 := dkwX4_weaves_2 ++ dktX4_weaves_3
def dkwX4_weaves_1 : List UInt8 := [184, 0, 142, 154, 0, 7, 4, 167, 0, 4, 3, 6, 28, 182, 0, 96, 153, 0, 5, 3, 172, 16, 40, 28]
abbrev dktX4_weaves_1 : List UInt8 := dkwX4_weaves_1 ++ dktX4_weaves_2
def dkwX4_weaves_0 : List UInt8 := [42, 42, 27, 182, 0, 133, 154, 0, 7, 4, 167, 0, 4, 3, 5, 27, 182, 0, 96, 154, 0, 24, 42, 28]
abbrev dktX4_weaves_0 : List UInt8 := dkwX4_weaves_0 ++ dktX4_weaves_1
theorem dksX4_weaves_0 : cX4_weaves.data.toList.drop 0 = dktX4_weaves_0 := by decide +kernel
theorem dksX4_weaves_1 : cX4_weaves.data.toList.drop 24 = dktX4_weaves_1 := dk_seg dksX4_weaves_0 24 rfl rfl
theorem dksX4_weaves_2 : cX4_weaves.data.toList.drop 48 = dktX4_weaves_2 := dk_seg dksX4_weaves_1 24 rfl rfl
theorem dksX4_weaves_3 : cX4_weaves.data.toList.drop 72 = dktX4_weaves_3 := dk_seg dksX4_weaves_2 24 rfl rfl
theorem dksX4_weaves_4 : cX4_weaves.data.toList.drop 96 = dktX4_weaves_4 := dk_seg dksX4_weaves_3 24 rfl rfl
theorem dksX4_weaves_5 : cX4_weaves.data.toList.drop 120 = dktX4_weaves_5 := dk_seg dksX4_weaves_4 24 rfl rfl
theorem dksX4_weaves_6 : cX4_weaves.data.toList.drop 144 = dktX4_weaves_6 := dk_seg dksX4_weaves_5 24 rfl rfl
theorem dksX4_weaves_7 : cX4_weaves.data.toList.drop 168 = dktX4_weaves_7 := dk_seg dksX4_weaves_6 24 rfl rfl
theorem dX4_weaves_0 : decode cX4_weaves 0 = .ok (.aload_n 0, 1) := dk_42 (dk_at dksX4_weaves_0 0 rfl rfl)
theorem dX4_weaves_1 : decode cX4_weaves 1 = .ok (.aload_n 0, 1) := dk_42 (dk_at dksX4_weaves_0 1 rfl rfl)
theorem dX4_weaves_2 : decode cX4_weaves 2 = .ok (.iload_n 1, 1) := dk_27 (dk_at dksX4_weaves_0 2 rfl rfl)
theorem dX4_weaves_3 : decode cX4_weaves 3 = .ok (.invokevirtual 133, 3) := dk_182 0 133 (dk_at dksX4_weaves_0 3 rfl rfl)
theorem dX4_weaves_6 : decode cX4_weaves 6 = .ok (.ifCond .ne 7, 3) := dk_154 0 7 (dk_at dksX4_weaves_0 6 rfl rfl)
theorem dX4_weaves_9 : decode cX4_weaves 9 = .ok (.iconst 1, 1) := dk_4 (dk_at dksX4_weaves_0 9 rfl rfl)
theorem dX4_weaves_10 : decode cX4_weaves 10 = .ok (.goto 4, 3) := dk_167 0 4 (dk_at dksX4_weaves_0 10 rfl rfl)
theorem dX4_weaves_13 : decode cX4_weaves 13 = .ok (.iconst 0, 1) := dk_3 (dk_at dksX4_weaves_0 13 rfl rfl)
theorem dX4_weaves_14 : decode cX4_weaves 14 = .ok (.iconst 2, 1) := dk_5 (dk_at dksX4_weaves_0 14 rfl rfl)
theorem dX4_weaves_15 : decode cX4_weaves 15 = .ok (.iload_n 1, 1) := dk_27 (dk_at dksX4_weaves_0 15 rfl rfl)
theorem dX4_weaves_16 : decode cX4_weaves 16 = .ok (.invokevirtual 96, 3) := dk_182 0 96 (dk_at dksX4_weaves_0 16 rfl rfl)
theorem dX4_weaves_19 : decode cX4_weaves 19 = .ok (.ifCond .ne 24, 3) := dk_154 0 24 (dk_at dksX4_weaves_0 19 rfl rfl)
theorem dX4_weaves_22 : decode cX4_weaves 22 = .ok (.aload_n 0, 1) := dk_42 (dk_at dksX4_weaves_0 22 rfl rfl)
theorem dX4_weaves_23 : decode cX4_weaves 23 = .ok (.iload_n 2, 1) := dk_28 (dk_at dksX4_weaves_0 23 rfl rfl)
theorem dX4_weaves_24 : decode cX4_weaves 24 = .ok (.invokestatic 142, 3) := dk_184 0 142 (dk_at dksX4_weaves_1 0 rfl rfl)
theorem dX4_weaves_27 : decode cX4_weaves 27 = .ok (.ifCond .ne 7, 3) := dk_154 0 7 (dk_at dksX4_weaves_1 3 rfl rfl)
theorem dX4_weaves_30 : decode cX4_weaves 30 = .ok (.iconst 1, 1) := dk_4 (dk_at dksX4_weaves_1 6 rfl rfl)
theorem dX4_weaves_31 : decode cX4_weaves 31 = .ok (.goto 4, 3) := dk_167 0 4 (dk_at dksX4_weaves_1 7 rfl rfl)
theorem dX4_weaves_34 : decode cX4_weaves 34 = .ok (.iconst 0, 1) := dk_3 (dk_at dksX4_weaves_1 10 rfl rfl)
theorem dX4_weaves_35 : decode cX4_weaves 35 = .ok (.iconst 3, 1) := dk_6 (dk_at dksX4_weaves_1 11 rfl rfl)
theorem dX4_weaves_36 : decode cX4_weaves 36 = .ok (.iload_n 2, 1) := dk_28 (dk_at dksX4_weaves_1 12 rfl rfl)
theorem dX4_weaves_37 : decode cX4_weaves 37 = .ok (.invokevirtual 96, 3) := dk_182 0 96 (dk_at dksX4_weaves_1 13 rfl rfl)
theorem dX4_weaves_40 : decode cX4_weaves 40 = .ok (.ifCond .eq 5, 3) := dk_153 0 5 (dk_at dksX4_weaves_1 16 rfl rfl)
theorem dX4_weaves_43 : decode cX4_weaves 43 = .ok (.iconst 0, 1) := dk_3 (dk_at dksX4_weaves_1 19 rfl rfl)
theorem dX4_weaves_44 : decode cX4_weaves 44 = .ok (.ireturn, 1) := dk_172 (dk_at dksX4_weaves_1 20 rfl rfl)
theorem dX4_weaves_45 : decode cX4_weaves 45 = .ok (.bipush 40, 2) := dk_16 40 (dk_at dksX4_weaves_1 21 rfl rfl)
theorem dX4_weaves_47 : decode cX4_weaves 47 = .ok (.iload_n 2, 1) := dk_28 (dk_at dksX4_weaves_1 23 rfl rfl)
theorem dX4_weaves_48 : decode cX4_weaves 48 = .ok (.imul, 1) := dk_104 (dk_at dksX4_weaves_2 0 rfl rfl)
theorem dX4_weaves_49 : decode cX4_weaves 49 = .ok (.istore_n 3, 1) := dk_62 (dk_at dksX4_weaves_2 1 rfl rfl)
theorem dX4_weaves_50 : decode cX4_weaves 50 = .ok (.aload_n 0, 1) := dk_42 (dk_at dksX4_weaves_2 2 rfl rfl)
theorem dX4_weaves_51 : decode cX4_weaves 51 = .ok (.aload_n 0, 1) := dk_42 (dk_at dksX4_weaves_2 3 rfl rfl)
theorem dX4_weaves_52 : decode cX4_weaves 52 = .ok (.iload_n 1, 1) := dk_27 (dk_at dksX4_weaves_2 4 rfl rfl)
theorem dX4_weaves_53 : decode cX4_weaves 53 = .ok (.iconst 1, 1) := dk_4 (dk_at dksX4_weaves_2 5 rfl rfl)
theorem dX4_weaves_54 : decode cX4_weaves 54 = .ok (.invokevirtual 126, 3) := dk_182 0 126 (dk_at dksX4_weaves_2 6 rfl rfl)
theorem dX4_weaves_57 : decode cX4_weaves 57 = .ok (.bipush 50, 2) := dk_16 50 (dk_at dksX4_weaves_2 9 rfl rfl)
theorem dX4_weaves_59 : decode cX4_weaves 59 = .ok (.if_icmp .ge 7, 3) := dk_162 0 7 (dk_at dksX4_weaves_2 11 rfl rfl)
theorem dX4_weaves_62 : decode cX4_weaves 62 = .ok (.iconst 1, 1) := dk_4 (dk_at dksX4_weaves_2 14 rfl rfl)
theorem dX4_weaves_63 : decode cX4_weaves 63 = .ok (.goto 4, 3) := dk_167 0 4 (dk_at dksX4_weaves_2 15 rfl rfl)
theorem dX4_weaves_66 : decode cX4_weaves 66 = .ok (.iconst 0, 1) := dk_3 (dk_at dksX4_weaves_2 18 rfl rfl)
theorem dX4_weaves_67 : decode cX4_weaves 67 = .ok (.bipush 6, 2) := dk_16 6 (dk_at dksX4_weaves_2 19 rfl rfl)
theorem dX4_weaves_69 : decode cX4_weaves 69 = .ok (.bipush 50, 2) := dk_16 50 (dk_at dksX4_weaves_2 21 rfl rfl)
theorem dX4_weaves_71 : decode cX4_weaves 71 = .ok (.aload_n 0, 1) := dk_42 (dk_at dksX4_weaves_2 23 rfl rfl)
theorem dX4_weaves_72 : decode cX4_weaves 72 = .ok (.iload_n 1, 1) := dk_27 (dk_at dksX4_weaves_3 0 rfl rfl)
theorem dX4_weaves_73 : decode cX4_weaves 73 = .ok (.iconst 1, 1) := dk_4 (dk_at dksX4_weaves_3 1 rfl rfl)
theorem dX4_weaves_74 : decode cX4_weaves 74 = .ok (.invokevirtual 126, 3) := dk_182 0 126 (dk_at dksX4_weaves_3 2 rfl rfl)
theorem dX4_weaves_77 : decode cX4_weaves 77 = .ok (.isub, 1) := dk_100 (dk_at dksX4_weaves_3 5 rfl rfl)
theorem dX4_weaves_78 : decode cX4_weaves 78 = .ok (.invokevirtual 96, 3) := dk_182 0 96 (dk_at dksX4_weaves_3 6 rfl rfl)
theorem dX4_weaves_81 : decode cX4_weaves 81 = .ok (.ifCond .ne 61, 3) := dk_154 0 61 (dk_at dksX4_weaves_3 9 rfl rfl)
theorem dX4_weaves_84 : decode cX4_weaves 84 = .ok (.aload_n 0, 1) := dk_42 (dk_at dksX4_weaves_3 12 rfl rfl)
theorem dX4_weaves_85 : decode cX4_weaves 85 = .ok (.aload_n 0, 1) := dk_42 (dk_at dksX4_weaves_3 13 rfl rfl)
theorem dX4_weaves_86 : decode cX4_weaves 86 = .ok (.iload_n 1, 1) := dk_27 (dk_at dksX4_weaves_3 14 rfl rfl)
theorem dX4_weaves_87 : decode cX4_weaves 87 = .ok (.iconst 2, 1) := dk_5 (dk_at dksX4_weaves_3 15 rfl rfl)
theorem dX4_weaves_88 : decode cX4_weaves 88 = .ok (.invokevirtual 126, 3) := dk_182 0 126 (dk_at dksX4_weaves_3 16 rfl rfl)
theorem dX4_weaves_91 : decode cX4_weaves 91 = .ok (.iload_n 3, 1) := dk_29 (dk_at dksX4_weaves_3 19 rfl rfl)
theorem dX4_weaves_92 : decode cX4_weaves 92 = .ok (.if_icmp .ge 7, 3) := dk_162 0 7 (dk_at dksX4_weaves_3 20 rfl rfl)
theorem dX4_weaves_95 : decode cX4_weaves 95 = .ok (.iconst 1, 1) := dk_4 (dk_at dksX4_weaves_3 23 rfl rfl)
theorem dX4_weaves_96 : decode cX4_weaves 96 = .ok (.goto 4, 3) := dk_167 0 4 (dk_at dksX4_weaves_4 0 rfl rfl)
theorem dX4_weaves_99 : decode cX4_weaves 99 = .ok (.iconst 0, 1) := dk_3 (dk_at dksX4_weaves_4 3 rfl rfl)
theorem dX4_weaves_100 : decode cX4_weaves 100 = .ok (.iconst 5, 1) := dk_8 (dk_at dksX4_weaves_4 4 rfl rfl)
theorem dX4_weaves_101 : decode cX4_weaves 101 = .ok (.aload_n 0, 1) := dk_42 (dk_at dksX4_weaves_4 5 rfl rfl)
theorem dX4_weaves_102 : decode cX4_weaves 102 = .ok (.iload_n 1, 1) := dk_27 (dk_at dksX4_weaves_4 6 rfl rfl)
theorem dX4_weaves_103 : decode cX4_weaves 103 = .ok (.iconst 2, 1) := dk_5 (dk_at dksX4_weaves_4 7 rfl rfl)
theorem dX4_weaves_104 : decode cX4_weaves 104 = .ok (.invokevirtual 126, 3) := dk_182 0 126 (dk_at dksX4_weaves_4 8 rfl rfl)
theorem dX4_weaves_107 : decode cX4_weaves 107 = .ok (.invokevirtual 96, 3) := dk_182 0 96 (dk_at dksX4_weaves_4 11 rfl rfl)
theorem dX4_weaves_110 : decode cX4_weaves 110 = .ok (.ifCond .ne 32, 3) := dk_154 0 32 (dk_at dksX4_weaves_4 14 rfl rfl)
theorem dX4_weaves_113 : decode cX4_weaves 113 = .ok (.aload_n 0, 1) := dk_42 (dk_at dksX4_weaves_4 17 rfl rfl)
theorem dX4_weaves_114 : decode cX4_weaves 114 = .ok (.aload_n 0, 1) := dk_42 (dk_at dksX4_weaves_4 18 rfl rfl)
theorem dX4_weaves_115 : decode cX4_weaves 115 = .ok (.getfield 9, 3) := dk_180 0 9 (dk_at dksX4_weaves_4 19 rfl rfl)
theorem dX4_weaves_118 : decode cX4_weaves 118 = .ok (.bipush 18, 2) := dk_16 18 (dk_at dksX4_weaves_4 22 rfl rfl)
theorem dX4_weaves_120 : decode cX4_weaves 120 = .ok (.iload_n 2, 1) := dk_28 (dk_at dksX4_weaves_5 0 rfl rfl)
theorem dX4_weaves_121 : decode cX4_weaves 121 = .ok (.iadd, 1) := dk_96 (dk_at dksX4_weaves_5 1 rfl rfl)
theorem dX4_weaves_122 : decode cX4_weaves 122 = .ok (.iaload, 1) := dk_46 (dk_at dksX4_weaves_5 2 rfl rfl)
theorem dX4_weaves_123 : decode cX4_weaves 123 = .ok (.bipush 20, 2) := dk_16 20 (dk_at dksX4_weaves_5 3 rfl rfl)
theorem dX4_weaves_125 : decode cX4_weaves 125 = .ok (.if_icmp .ne 7, 3) := dk_160 0 7 (dk_at dksX4_weaves_5 5 rfl rfl)
theorem dX4_weaves_128 : decode cX4_weaves 128 = .ok (.iconst 1, 1) := dk_4 (dk_at dksX4_weaves_5 8 rfl rfl)
theorem dX4_weaves_129 : decode cX4_weaves 129 = .ok (.goto 4, 3) := dk_167 0 4 (dk_at dksX4_weaves_5 9 rfl rfl)
theorem dX4_weaves_132 : decode cX4_weaves 132 = .ok (.iconst 0, 1) := dk_3 (dk_at dksX4_weaves_5 12 rfl rfl)
theorem dX4_weaves_133 : decode cX4_weaves 133 = .ok (.iconst 1, 1) := dk_4 (dk_at dksX4_weaves_5 13 rfl rfl)
theorem dX4_weaves_134 : decode cX4_weaves 134 = .ok (.bipush 20, 2) := dk_16 20 (dk_at dksX4_weaves_5 14 rfl rfl)
theorem dX4_weaves_136 : decode cX4_weaves 136 = .ok (.invokevirtual 96, 3) := dk_182 0 96 (dk_at dksX4_weaves_5 16 rfl rfl)
theorem dX4_weaves_139 : decode cX4_weaves 139 = .ok (.ifCond .eq 5, 3) := dk_153 0 5 (dk_at dksX4_weaves_5 19 rfl rfl)
theorem dX4_weaves_142 : decode cX4_weaves 142 = .ok (.iconst 0, 1) := dk_3 (dk_at dksX4_weaves_5 22 rfl rfl)
theorem dX4_weaves_143 : decode cX4_weaves 143 = .ok (.ireturn, 1) := dk_172 (dk_at dksX4_weaves_5 23 rfl rfl)
theorem dX4_weaves_144 : decode cX4_weaves 144 = .ok (.aload_n 0, 1) := dk_42 (dk_at dksX4_weaves_6 0 rfl rfl)
theorem dX4_weaves_145 : decode cX4_weaves 145 = .ok (.iload_n 1, 1) := dk_27 (dk_at dksX4_weaves_6 1 rfl rfl)
theorem dX4_weaves_146 : decode cX4_weaves 146 = .ok (.iload_n 3, 1) := dk_29 (dk_at dksX4_weaves_6 2 rfl rfl)
theorem dX4_weaves_147 : decode cX4_weaves 147 = .ok (.invokevirtual 145, 3) := dk_182 0 145 (dk_at dksX4_weaves_6 3 rfl rfl)
theorem dX4_weaves_150 : decode cX4_weaves 150 = .ok (.aload_n 0, 1) := dk_42 (dk_at dksX4_weaves_6 6 rfl rfl)
theorem dX4_weaves_151 : decode cX4_weaves 151 = .ok (.getfield 9, 3) := dk_180 0 9 (dk_at dksX4_weaves_6 7 rfl rfl)
theorem dX4_weaves_154 : decode cX4_weaves 154 = .ok (.bipush 9, 2) := dk_16 9 (dk_at dksX4_weaves_6 10 rfl rfl)
theorem dX4_weaves_156 : decode cX4_weaves 156 = .ok (.dup2, 1) := dk_92 (dk_at dksX4_weaves_6 12 rfl rfl)
theorem dX4_weaves_157 : decode cX4_weaves 157 = .ok (.iaload, 1) := dk_46 (dk_at dksX4_weaves_6 13 rfl rfl)
theorem dX4_weaves_158 : decode cX4_weaves 158 = .ok (.iload_n 3, 1) := dk_29 (dk_at dksX4_weaves_6 14 rfl rfl)
theorem dX4_weaves_159 : decode cX4_weaves 159 = .ok (.iadd, 1) := dk_96 (dk_at dksX4_weaves_6 15 rfl rfl)
theorem dX4_weaves_160 : decode cX4_weaves 160 = .ok (.iastore, 1) := dk_79 (dk_at dksX4_weaves_6 16 rfl rfl)
theorem dX4_weaves_161 : decode cX4_weaves 161 = .ok (.aload_n 0, 1) := dk_42 (dk_at dksX4_weaves_6 17 rfl rfl)
theorem dX4_weaves_162 : decode cX4_weaves 162 = .ok (.getfield 9, 3) := dk_180 0 9 (dk_at dksX4_weaves_6 18 rfl rfl)
theorem dX4_weaves_165 : decode cX4_weaves 165 = .ok (.bipush 18, 2) := dk_16 18 (dk_at dksX4_weaves_6 21 rfl rfl)
theorem dX4_weaves_167 : decode cX4_weaves 167 = .ok (.iload_n 2, 1) := dk_28 (dk_at dksX4_weaves_6 23 rfl rfl)
theorem dX4_weaves_168 : decode cX4_weaves 168 = .ok (.iadd, 1) := dk_96 (dk_at dksX4_weaves_7 0 rfl rfl)
theorem dX4_weaves_169 : decode cX4_weaves 169 = .ok (.dup2, 1) := dk_92 (dk_at dksX4_weaves_7 1 rfl rfl)
theorem dX4_weaves_170 : decode cX4_weaves 170 = .ok (.iaload, 1) := dk_46 (dk_at dksX4_weaves_7 2 rfl rfl)
theorem dX4_weaves_171 : decode cX4_weaves 171 = .ok (.iconst 1, 1) := dk_4 (dk_at dksX4_weaves_7 3 rfl rfl)
theorem dX4_weaves_172 : decode cX4_weaves 172 = .ok (.iadd, 1) := dk_96 (dk_at dksX4_weaves_7 4 rfl rfl)
theorem dX4_weaves_173 : decode cX4_weaves 173 = .ok (.iastore, 1) := dk_79 (dk_at dksX4_weaves_7 5 rfl rfl)
theorem dX4_weaves_174 : decode cX4_weaves 174 = .ok (.aload_n 0, 1) := dk_42 (dk_at dksX4_weaves_7 6 rfl rfl)
theorem dX4_weaves_175 : decode cX4_weaves 175 = .ok (.getfield 9, 3) := dk_180 0 9 (dk_at dksX4_weaves_7 7 rfl rfl)
theorem dX4_weaves_178 : decode cX4_weaves 178 = .ok (.bipush 18, 2) := dk_16 18 (dk_at dksX4_weaves_7 10 rfl rfl)
theorem dX4_weaves_180 : decode cX4_weaves 180 = .ok (.iload_n 2, 1) := dk_28 (dk_at dksX4_weaves_7 12 rfl rfl)
theorem dX4_weaves_181 : decode cX4_weaves 181 = .ok (.iadd, 1) := dk_96 (dk_at dksX4_weaves_7 13 rfl rfl)
theorem dX4_weaves_182 : decode cX4_weaves 182 = .ok (.iaload, 1) := dk_46 (dk_at dksX4_weaves_7 14 rfl rfl)
theorem dX4_weaves_183 : decode cX4_weaves 183 = .ok (.ireturn, 1) := dk_172 (dk_at dksX4_weaves_7 15 rfl rfl)
abbrev cX4_isMesh : ByteArray := prog_17_method_23_code
def yX4_isMesh : MethodName := ⟨RX4, "isMesh", "(I)Z"⟩
def dkwX4_isMesh_0 : List UInt8 := [26, 4, 16, 9, 184, 0, 92, 172]
abbrev dktX4_isMesh_0 : List UInt8 := dkwX4_isMesh_0 ++ []
theorem dksX4_isMesh_0 : cX4_isMesh.data.toList.drop 0 = dktX4_isMesh_0 := by decide +kernel
theorem dX4_isMesh_0 : decode cX4_isMesh 0 = .ok (.iload_n 0, 1) := dk_26 (dk_at dksX4_isMesh_0 0 rfl rfl)
theorem dX4_isMesh_1 : decode cX4_isMesh 1 = .ok (.iconst 1, 1) := dk_4 (dk_at dksX4_isMesh_0 1 rfl rfl)
theorem dX4_isMesh_2 : decode cX4_isMesh 2 = .ok (.bipush 9, 2) := dk_16 9 (dk_at dksX4_isMesh_0 2 rfl rfl)
theorem dX4_isMesh_4 : decode cX4_isMesh 4 = .ok (.invokestatic 92, 3) := dk_184 0 92 (dk_at dksX4_isMesh_0 4 rfl rfl)
theorem dX4_isMesh_7 : decode cX4_isMesh 7 = .ok (.ireturn, 1) := dk_172 (dk_at dksX4_isMesh_0 7 rfl rfl)
abbrev cX4_loses : ByteArray := prog_17_method_30_code
def yX4_loses : MethodName := ⟨RX4, "loses", "(II)V"⟩
def dkwX4_loses_1 : List UInt8 := [27, 182, 0, 129, 177]
abbrev dktX4_loses_1 : List UInt8 := dkwX4_loses_1 ++ []
def dkwX4_loses_0 : List UInt8 := [42, 180, 0, 9, 27, 5, 184, 0, 85, 92, 46, 28, 100, 79, 42, 27, 5, 182, 0, 126, 154, 0, 8, 42]
abbrev dktX4_loses_0 : List UInt8 := dkwX4_loses_0 ++ dktX4_loses_1
theorem dksX4_loses_0 : cX4_loses.data.toList.drop 0 = dktX4_loses_0 := by decide +kernel
theorem dksX4_loses_1 : cX4_loses.data.toList.drop 24 = dktX4_loses_1 := dk_seg dksX4_loses_0 24 rfl rfl
theorem dX4_loses_0 : decode cX4_loses 0 = .ok (.aload_n 0, 1) := dk_42 (dk_at dksX4_loses_0 0 rfl rfl)
theorem dX4_loses_1 : decode cX4_loses 1 = .ok (.getfield 9, 3) := dk_180 0 9 (dk_at dksX4_loses_0 1 rfl rfl)
theorem dX4_loses_4 : decode cX4_loses 4 = .ok (.iload_n 1, 1) := dk_27 (dk_at dksX4_loses_0 4 rfl rfl)
theorem dX4_loses_5 : decode cX4_loses 5 = .ok (.iconst 2, 1) := dk_5 (dk_at dksX4_loses_0 5 rfl rfl)
theorem dX4_loses_6 : decode cX4_loses 6 = .ok (.invokestatic 85, 3) := dk_184 0 85 (dk_at dksX4_loses_0 6 rfl rfl)
theorem dX4_loses_9 : decode cX4_loses 9 = .ok (.dup2, 1) := dk_92 (dk_at dksX4_loses_0 9 rfl rfl)
theorem dX4_loses_10 : decode cX4_loses 10 = .ok (.iaload, 1) := dk_46 (dk_at dksX4_loses_0 10 rfl rfl)
theorem dX4_loses_11 : decode cX4_loses 11 = .ok (.iload_n 2, 1) := dk_28 (dk_at dksX4_loses_0 11 rfl rfl)
theorem dX4_loses_12 : decode cX4_loses 12 = .ok (.isub, 1) := dk_100 (dk_at dksX4_loses_0 12 rfl rfl)
theorem dX4_loses_13 : decode cX4_loses 13 = .ok (.iastore, 1) := dk_79 (dk_at dksX4_loses_0 13 rfl rfl)
theorem dX4_loses_14 : decode cX4_loses 14 = .ok (.aload_n 0, 1) := dk_42 (dk_at dksX4_loses_0 14 rfl rfl)
theorem dX4_loses_15 : decode cX4_loses 15 = .ok (.iload_n 1, 1) := dk_27 (dk_at dksX4_loses_0 15 rfl rfl)
theorem dX4_loses_16 : decode cX4_loses 16 = .ok (.iconst 2, 1) := dk_5 (dk_at dksX4_loses_0 16 rfl rfl)
theorem dX4_loses_17 : decode cX4_loses 17 = .ok (.invokevirtual 126, 3) := dk_182 0 126 (dk_at dksX4_loses_0 17 rfl rfl)
theorem dX4_loses_20 : decode cX4_loses 20 = .ok (.ifCond .ne 8, 3) := dk_154 0 8 (dk_at dksX4_loses_0 20 rfl rfl)
theorem dX4_loses_23 : decode cX4_loses 23 = .ok (.aload_n 0, 1) := dk_42 (dk_at dksX4_loses_0 23 rfl rfl)
theorem dX4_loses_24 : decode cX4_loses 24 = .ok (.iload_n 1, 1) := dk_27 (dk_at dksX4_loses_1 0 rfl rfl)
theorem dX4_loses_25 : decode cX4_loses 25 = .ok (.invokevirtual 129, 3) := dk_182 0 129 (dk_at dksX4_loses_1 1 rfl rfl)
theorem dX4_loses_28 : decode cX4_loses 28 = .ok (.return_, 1) := dk_177 (dk_at dksX4_loses_1 4 rfl rfl)
abbrev cX4_bow : ByteArray := prog_17_method_37_code
def yX4_bow : MethodName := ⟨RX4, "bow", "(I)I"⟩
def dkwX4_bow_5 : List UInt8 := [79, 42, 28, 182, 0, 110, 172]
abbrev dktX4_bow_5 : List UInt8 := dkwX4_bow_5 ++ []
def dkwX4_bow_4 : List UInt8 := [160, 0, 7, 2, 167, 0, 4, 3, 79, 132, 3, 1, 167, 255, 213, 42, 180, 0, 9, 8, 92, 46, 4, 96]
abbrev dktX4_bow_4 : List UInt8 := dkwX4_bow_4 ++ dktX4_bow_5
def dkwX4_bow_3 : List UInt8 := [180, 0, 9, 28, 29, 184, 0, 89, 29, 154, 0, 7, 27, 167, 0, 19, 29, 6, 159, 0, 9, 29, 16, 6]
abbrev dktX4_bow_3 : List UInt8 := dkwX4_bow_3 ++ dktX4_bow_4
def dkwX4_bow_2 : List UInt8 := [182, 0, 96, 153, 0, 5, 3, 172, 42, 180, 0, 9, 8, 46, 61, 3, 62, 29, 16, 7, 162, 0, 43, 42]
abbrev dktX4_bow_2 : List UInt8 := dkwX4_bow_2 ++ dktX4_bow_3
def dkwX4_bow_1 : List UInt8 := [154, 0, 29, 42, 42, 180, 0, 9, 8, 46, 16, 6, 160, 0, 7, 4, 167, 0, 4, 3, 4, 16, 6]
abbrev dktX4_bow_1 : List UInt8 := dkwX4_bow_1 ++ dktX4_bow_2
def dkwX4_bow_0 : List UInt8 := [42, 182, 0, 100, 42, 27, 3, 6, 184, 0, 92, 154, 0, 7, 4, 167, 0, 4, 3, 6, 27, 182, 0, 96]
abbrev dktX4_bow_0 : List UInt8 := dkwX4_bow_0 ++ dktX4_bow_1
theorem dksX4_bow_0 : cX4_bow.data.toList.drop 0 = dktX4_bow_0 := by decide +kernel
theorem dksX4_bow_1 : cX4_bow.data.toList.drop 24 = dktX4_bow_1 := dk_seg dksX4_bow_0 24 rfl rfl
theorem dksX4_bow_2 : cX4_bow.data.toList.drop 47 = dktX4_bow_2 := dk_seg dksX4_bow_1 23 rfl rfl
theorem dksX4_bow_3 : cX4_bow.data.toList.drop 71 = dktX4_bow_3 := dk_seg dksX4_bow_2 24 rfl rfl
theorem dksX4_bow_4 : cX4_bow.data.toList.drop 95 = dktX4_bow_4 := dk_seg dksX4_bow_3 24 rfl rfl
theorem dksX4_bow_5 : cX4_bow.data.toList.drop 119 = dktX4_bow_5 := dk_seg dksX4_bow_4 24 rfl rfl
theorem dX4_bow_0 : decode cX4_bow 0 = .ok (.aload_n 0, 1) := dk_42 (dk_at dksX4_bow_0 0 rfl rfl)
theorem dX4_bow_1 : decode cX4_bow 1 = .ok (.invokevirtual 100, 3) := dk_182 0 100 (dk_at dksX4_bow_0 1 rfl rfl)
theorem dX4_bow_4 : decode cX4_bow 4 = .ok (.aload_n 0, 1) := dk_42 (dk_at dksX4_bow_0 4 rfl rfl)
theorem dX4_bow_5 : decode cX4_bow 5 = .ok (.iload_n 1, 1) := dk_27 (dk_at dksX4_bow_0 5 rfl rfl)
theorem dX4_bow_6 : decode cX4_bow 6 = .ok (.iconst 0, 1) := dk_3 (dk_at dksX4_bow_0 6 rfl rfl)
theorem dX4_bow_7 : decode cX4_bow 7 = .ok (.iconst 3, 1) := dk_6 (dk_at dksX4_bow_0 7 rfl rfl)
theorem dX4_bow_8 : decode cX4_bow 8 = .ok (.invokestatic 92, 3) := dk_184 0 92 (dk_at dksX4_bow_0 8 rfl rfl)
theorem dX4_bow_11 : decode cX4_bow 11 = .ok (.ifCond .ne 7, 3) := dk_154 0 7 (dk_at dksX4_bow_0 11 rfl rfl)
theorem dX4_bow_14 : decode cX4_bow 14 = .ok (.iconst 1, 1) := dk_4 (dk_at dksX4_bow_0 14 rfl rfl)
theorem dX4_bow_15 : decode cX4_bow 15 = .ok (.goto 4, 3) := dk_167 0 4 (dk_at dksX4_bow_0 15 rfl rfl)
theorem dX4_bow_18 : decode cX4_bow 18 = .ok (.iconst 0, 1) := dk_3 (dk_at dksX4_bow_0 18 rfl rfl)
theorem dX4_bow_19 : decode cX4_bow 19 = .ok (.iconst 3, 1) := dk_6 (dk_at dksX4_bow_0 19 rfl rfl)
theorem dX4_bow_20 : decode cX4_bow 20 = .ok (.iload_n 1, 1) := dk_27 (dk_at dksX4_bow_0 20 rfl rfl)
theorem dX4_bow_21 : decode cX4_bow 21 = .ok (.invokevirtual 96, 3) := dk_182 0 96 (dk_at dksX4_bow_0 21 rfl rfl)
theorem dX4_bow_24 : decode cX4_bow 24 = .ok (.ifCond .ne 29, 3) := dk_154 0 29 (dk_at dksX4_bow_1 0 rfl rfl)
theorem dX4_bow_27 : decode cX4_bow 27 = .ok (.aload_n 0, 1) := dk_42 (dk_at dksX4_bow_1 3 rfl rfl)
theorem dX4_bow_28 : decode cX4_bow 28 = .ok (.aload_n 0, 1) := dk_42 (dk_at dksX4_bow_1 4 rfl rfl)
theorem dX4_bow_29 : decode cX4_bow 29 = .ok (.getfield 9, 3) := dk_180 0 9 (dk_at dksX4_bow_1 5 rfl rfl)
theorem dX4_bow_32 : decode cX4_bow 32 = .ok (.iconst 5, 1) := dk_8 (dk_at dksX4_bow_1 8 rfl rfl)
theorem dX4_bow_33 : decode cX4_bow 33 = .ok (.iaload, 1) := dk_46 (dk_at dksX4_bow_1 9 rfl rfl)
theorem dX4_bow_34 : decode cX4_bow 34 = .ok (.bipush 6, 2) := dk_16 6 (dk_at dksX4_bow_1 10 rfl rfl)
theorem dX4_bow_36 : decode cX4_bow 36 = .ok (.if_icmp .ne 7, 3) := dk_160 0 7 (dk_at dksX4_bow_1 12 rfl rfl)
theorem dX4_bow_39 : decode cX4_bow 39 = .ok (.iconst 1, 1) := dk_4 (dk_at dksX4_bow_1 15 rfl rfl)
theorem dX4_bow_40 : decode cX4_bow 40 = .ok (.goto 4, 3) := dk_167 0 4 (dk_at dksX4_bow_1 16 rfl rfl)
theorem dX4_bow_43 : decode cX4_bow 43 = .ok (.iconst 0, 1) := dk_3 (dk_at dksX4_bow_1 19 rfl rfl)
theorem dX4_bow_44 : decode cX4_bow 44 = .ok (.iconst 1, 1) := dk_4 (dk_at dksX4_bow_1 20 rfl rfl)
theorem dX4_bow_45 : decode cX4_bow 45 = .ok (.bipush 6, 2) := dk_16 6 (dk_at dksX4_bow_1 21 rfl rfl)
theorem dX4_bow_47 : decode cX4_bow 47 = .ok (.invokevirtual 96, 3) := dk_182 0 96 (dk_at dksX4_bow_2 0 rfl rfl)
theorem dX4_bow_50 : decode cX4_bow 50 = .ok (.ifCond .eq 5, 3) := dk_153 0 5 (dk_at dksX4_bow_2 3 rfl rfl)
theorem dX4_bow_53 : decode cX4_bow 53 = .ok (.iconst 0, 1) := dk_3 (dk_at dksX4_bow_2 6 rfl rfl)
theorem dX4_bow_54 : decode cX4_bow 54 = .ok (.ireturn, 1) := dk_172 (dk_at dksX4_bow_2 7 rfl rfl)
theorem dX4_bow_55 : decode cX4_bow 55 = .ok (.aload_n 0, 1) := dk_42 (dk_at dksX4_bow_2 8 rfl rfl)
theorem dX4_bow_56 : decode cX4_bow 56 = .ok (.getfield 9, 3) := dk_180 0 9 (dk_at dksX4_bow_2 9 rfl rfl)
theorem dX4_bow_59 : decode cX4_bow 59 = .ok (.iconst 5, 1) := dk_8 (dk_at dksX4_bow_2 12 rfl rfl)
theorem dX4_bow_60 : decode cX4_bow 60 = .ok (.iaload, 1) := dk_46 (dk_at dksX4_bow_2 13 rfl rfl)
theorem dX4_bow_61 : decode cX4_bow 61 = .ok (.istore_n 2, 1) := dk_61 (dk_at dksX4_bow_2 14 rfl rfl)
theorem dX4_bow_62 : decode cX4_bow 62 = .ok (.iconst 0, 1) := dk_3 (dk_at dksX4_bow_2 15 rfl rfl)
theorem dX4_bow_63 : decode cX4_bow 63 = .ok (.istore_n 3, 1) := dk_62 (dk_at dksX4_bow_2 16 rfl rfl)
theorem dX4_bow_64 : decode cX4_bow 64 = .ok (.iload_n 3, 1) := dk_29 (dk_at dksX4_bow_2 17 rfl rfl)
theorem dX4_bow_65 : decode cX4_bow 65 = .ok (.bipush 7, 2) := dk_16 7 (dk_at dksX4_bow_2 18 rfl rfl)
theorem dX4_bow_67 : decode cX4_bow 67 = .ok (.if_icmp .ge 43, 3) := dk_162 0 43 (dk_at dksX4_bow_2 20 rfl rfl)
theorem dX4_bow_70 : decode cX4_bow 70 = .ok (.aload_n 0, 1) := dk_42 (dk_at dksX4_bow_2 23 rfl rfl)
theorem dX4_bow_71 : decode cX4_bow 71 = .ok (.getfield 9, 3) := dk_180 0 9 (dk_at dksX4_bow_3 0 rfl rfl)
theorem dX4_bow_74 : decode cX4_bow 74 = .ok (.iload_n 2, 1) := dk_28 (dk_at dksX4_bow_3 3 rfl rfl)
theorem dX4_bow_75 : decode cX4_bow 75 = .ok (.iload_n 3, 1) := dk_29 (dk_at dksX4_bow_3 4 rfl rfl)
theorem dX4_bow_76 : decode cX4_bow 76 = .ok (.invokestatic 89, 3) := dk_184 0 89 (dk_at dksX4_bow_3 5 rfl rfl)
theorem dX4_bow_79 : decode cX4_bow 79 = .ok (.iload_n 3, 1) := dk_29 (dk_at dksX4_bow_3 8 rfl rfl)
theorem dX4_bow_80 : decode cX4_bow 80 = .ok (.ifCond .ne 7, 3) := dk_154 0 7 (dk_at dksX4_bow_3 9 rfl rfl)
theorem dX4_bow_83 : decode cX4_bow 83 = .ok (.iload_n 1, 1) := dk_27 (dk_at dksX4_bow_3 12 rfl rfl)
theorem dX4_bow_84 : decode cX4_bow 84 = .ok (.goto 19, 3) := dk_167 0 19 (dk_at dksX4_bow_3 13 rfl rfl)
theorem dX4_bow_87 : decode cX4_bow 87 = .ok (.iload_n 3, 1) := dk_29 (dk_at dksX4_bow_3 16 rfl rfl)
theorem dX4_bow_88 : decode cX4_bow 88 = .ok (.iconst 3, 1) := dk_6 (dk_at dksX4_bow_3 17 rfl rfl)
theorem dX4_bow_89 : decode cX4_bow 89 = .ok (.if_icmp .eq 9, 3) := dk_159 0 9 (dk_at dksX4_bow_3 18 rfl rfl)
theorem dX4_bow_92 : decode cX4_bow 92 = .ok (.iload_n 3, 1) := dk_29 (dk_at dksX4_bow_3 21 rfl rfl)
theorem dX4_bow_93 : decode cX4_bow 93 = .ok (.bipush 6, 2) := dk_16 6 (dk_at dksX4_bow_3 22 rfl rfl)
theorem dX4_bow_95 : decode cX4_bow 95 = .ok (.if_icmp .ne 7, 3) := dk_160 0 7 (dk_at dksX4_bow_4 0 rfl rfl)
theorem dX4_bow_98 : decode cX4_bow 98 = .ok (.iconst (-1), 1) := dk_2 (dk_at dksX4_bow_4 3 rfl rfl)
theorem dX4_bow_99 : decode cX4_bow 99 = .ok (.goto 4, 3) := dk_167 0 4 (dk_at dksX4_bow_4 4 rfl rfl)
theorem dX4_bow_102 : decode cX4_bow 102 = .ok (.iconst 0, 1) := dk_3 (dk_at dksX4_bow_4 7 rfl rfl)
theorem dX4_bow_103 : decode cX4_bow 103 = .ok (.iastore, 1) := dk_79 (dk_at dksX4_bow_4 8 rfl rfl)
theorem dX4_bow_104 : decode cX4_bow 104 = .ok (.iinc 3 1, 3) := dk_132 3 1 (dk_at dksX4_bow_4 9 rfl rfl)
theorem dX4_bow_107 : decode cX4_bow 107 = .ok (.goto (-43), 3) := dk_167 255 213 (dk_at dksX4_bow_4 12 rfl rfl)
theorem dX4_bow_110 : decode cX4_bow 110 = .ok (.aload_n 0, 1) := dk_42 (dk_at dksX4_bow_4 15 rfl rfl)
theorem dX4_bow_111 : decode cX4_bow 111 = .ok (.getfield 9, 3) := dk_180 0 9 (dk_at dksX4_bow_4 16 rfl rfl)
theorem dX4_bow_114 : decode cX4_bow 114 = .ok (.iconst 5, 1) := dk_8 (dk_at dksX4_bow_4 19 rfl rfl)
theorem dX4_bow_115 : decode cX4_bow 115 = .ok (.dup2, 1) := dk_92 (dk_at dksX4_bow_4 20 rfl rfl)
theorem dX4_bow_116 : decode cX4_bow 116 = .ok (.iaload, 1) := dk_46 (dk_at dksX4_bow_4 21 rfl rfl)
theorem dX4_bow_117 : decode cX4_bow 117 = .ok (.iconst 1, 1) := dk_4 (dk_at dksX4_bow_4 22 rfl rfl)
theorem dX4_bow_118 : decode cX4_bow 118 = .ok (.iadd, 1) := dk_96 (dk_at dksX4_bow_4 23 rfl rfl)
theorem dX4_bow_119 : decode cX4_bow 119 = .ok (.iastore, 1) := dk_79 (dk_at dksX4_bow_5 0 rfl rfl)
theorem dX4_bow_120 : decode cX4_bow 120 = .ok (.aload_n 0, 1) := dk_42 (dk_at dksX4_bow_5 1 rfl rfl)
theorem dX4_bow_121 : decode cX4_bow 121 = .ok (.iload_n 2, 1) := dk_28 (dk_at dksX4_bow_5 2 rfl rfl)
theorem dX4_bow_122 : decode cX4_bow 122 = .ok (.invokevirtual 110, 3) := dk_182 0 110 (dk_at dksX4_bow_5 3 rfl rfl)
theorem dX4_bow_125 : decode cX4_bow 125 = .ok (.ireturn, 1) := dk_172 (dk_at dksX4_bow_5 6 rfl rfl)
abbrev cX4_bowAt : ByteArray := prog_17_method_15_code
def yX4_bowAt : MethodName := ⟨RX4, "bowAt", "(II)I"⟩
def dkwX4_bowAt_0 : List UInt8 := [17, 0, 153, 16, 7, 26, 104, 96, 27, 96, 172]
abbrev dktX4_bowAt_0 : List UInt8 := dkwX4_bowAt_0 ++ []
theorem dksX4_bowAt_0 : cX4_bowAt.data.toList.drop 0 = dktX4_bowAt_0 := by decide +kernel
theorem dX4_bowAt_0 : decode cX4_bowAt 0 = .ok (.sipush 153, 3) := dk_17 0 153 (dk_at dksX4_bowAt_0 0 rfl rfl)
theorem dX4_bowAt_3 : decode cX4_bowAt 3 = .ok (.bipush 7, 2) := dk_16 7 (dk_at dksX4_bowAt_0 3 rfl rfl)
theorem dX4_bowAt_5 : decode cX4_bowAt 5 = .ok (.iload_n 0, 1) := dk_26 (dk_at dksX4_bowAt_0 5 rfl rfl)
theorem dX4_bowAt_6 : decode cX4_bowAt 6 = .ok (.imul, 1) := dk_104 (dk_at dksX4_bowAt_0 6 rfl rfl)
theorem dX4_bowAt_7 : decode cX4_bowAt 7 = .ok (.iadd, 1) := dk_96 (dk_at dksX4_bowAt_0 7 rfl rfl)
theorem dX4_bowAt_8 : decode cX4_bowAt 8 = .ok (.iload_n 1, 1) := dk_27 (dk_at dksX4_bowAt_0 8 rfl rfl)
theorem dX4_bowAt_9 : decode cX4_bowAt 9 = .ok (.iadd, 1) := dk_96 (dk_at dksX4_bowAt_0 9 rfl rfl)
theorem dX4_bowAt_10 : decode cX4_bowAt 10 = .ok (.ireturn, 1) := dk_172 (dk_at dksX4_bowAt_0 10 rfl rfl)
abbrev cX4_hair : ByteArray := prog_17_method_40_code
def yX4_hair : MethodName := ⟨RX4, "hair", "(II)I"⟩
def dkwX4_hair_0 : List UInt8 := [42, 182, 0, 100, 42, 42, 27, 28, 182, 0, 167, 182, 0, 110, 172]
abbrev dktX4_hair_0 : List UInt8 := dkwX4_hair_0 ++ []
theorem dksX4_hair_0 : cX4_hair.data.toList.drop 0 = dktX4_hair_0 := by decide +kernel
theorem dX4_hair_0 : decode cX4_hair 0 = .ok (.aload_n 0, 1) := dk_42 (dk_at dksX4_hair_0 0 rfl rfl)
theorem dX4_hair_1 : decode cX4_hair 1 = .ok (.invokevirtual 100, 3) := dk_182 0 100 (dk_at dksX4_hair_0 1 rfl rfl)
theorem dX4_hair_4 : decode cX4_hair 4 = .ok (.aload_n 0, 1) := dk_42 (dk_at dksX4_hair_0 4 rfl rfl)
theorem dX4_hair_5 : decode cX4_hair 5 = .ok (.aload_n 0, 1) := dk_42 (dk_at dksX4_hair_0 5 rfl rfl)
theorem dX4_hair_6 : decode cX4_hair 6 = .ok (.iload_n 1, 1) := dk_27 (dk_at dksX4_hair_0 6 rfl rfl)
theorem dX4_hair_7 : decode cX4_hair 7 = .ok (.iload_n 2, 1) := dk_28 (dk_at dksX4_hair_0 7 rfl rfl)
theorem dX4_hair_8 : decode cX4_hair 8 = .ok (.invokevirtual 167, 3) := dk_182 0 167 (dk_at dksX4_hair_0 8 rfl rfl)
theorem dX4_hair_11 : decode cX4_hair 11 = .ok (.invokevirtual 110, 3) := dk_182 0 110 (dk_at dksX4_hair_0 11 rfl rfl)
theorem dX4_hair_14 : decode cX4_hair 14 = .ok (.ireturn, 1) := dk_172 (dk_at dksX4_hair_0 14 rfl rfl)
abbrev cX4_hairsBow : ByteArray := prog_17_method_39_code
def yX4_hairsBow : MethodName := ⟨RX4, "hairsBow", "(II)I"⟩
def dkwX4_hairsBow_8 : List UInt8 := [182, 0, 126, 79, 42, 28, 29, 184, 0, 161, 182, 0, 145, 42, 27, 6, 182, 0, 155, 172]
abbrev dktX4_hairsBow_8 : List UInt8 := dkwX4_hairsBow_8 ++ []
def dkwX4_hairsBow_7 : List UInt8 := [6, 184, 0, 89, 42, 28, 182, 0, 164, 79, 42, 180, 0, 9, 27, 16, 6, 184, 0, 89, 42, 28, 6]
abbrev dktX4_hairsBow_7 : List UInt8 := dkwX4_hairsBow_7 ++ dktX4_hairsBow_8
def dkwX4_hairsBow_6 : List UInt8 := [184, 0, 89, 29, 184, 0, 161, 79, 42, 180, 0, 9, 27, 4, 184, 0, 89, 3, 79, 42, 180, 0, 9, 27]
abbrev dktX4_hairsBow_6 : List UInt8 := dkwX4_hairsBow_6 ++ dktX4_hairsBow_7
def dkwX4_hairsBow_5 : List UInt8 := [3, 172, 42, 180, 0, 9, 16, 11, 92, 46, 42, 27, 5, 182, 0, 155, 96, 79, 42, 180, 0, 9, 27, 5]
abbrev dktX4_hairsBow_5 : List UInt8 := dkwX4_hairsBow_5 ++ dktX4_hairsBow_6
def dkwX4_hairsBow_4 : List UInt8 := [184, 0, 161, 162, 0, 7, 4, 167, 0, 4, 3, 8, 42, 28, 5, 182, 0, 126, 182, 0, 96, 153, 0, 5]
abbrev dktX4_hairsBow_4 : List UInt8 := dkwX4_hairsBow_4 ++ dktX4_hairsBow_5
def dkwX4_hairsBow_3 : List UInt8 := [4, 167, 0, 4, 3, 16, 6, 21, 4, 182, 0, 96, 154, 0, 35, 42, 42, 28, 5, 182, 0, 126, 29]
abbrev dktX4_hairsBow_3 : List UInt8 := dkwX4_hairsBow_3 ++ dktX4_hairsBow_4
def dkwX4_hairsBow_2 : List UInt8 := [3, 182, 0, 155, 62, 29, 184, 0, 158, 42, 28, 4, 182, 0, 126, 100, 54, 4, 42, 21, 4, 158, 0, 7]
abbrev dktX4_hairsBow_2 : List UInt8 := dkwX4_hairsBow_2 ++ dktX4_hairsBow_3
def dkwX4_hairsBow_1 : List UInt8 := [28, 182, 0, 133, 154, 0, 7, 4, 167, 0, 4, 3, 5, 28, 182, 0, 96, 153, 0, 5, 3, 172, 42, 27]
abbrev dktX4_hairsBow_1 : List UInt8 := dkwX4_hairsBow_1 ++ dktX4_hairsBow_2
def dkwX4_hairsBow_0 : List UInt8 := [42, 42, 27, 182, 0, 152, 154, 0, 7, 4, 167, 0, 4, 3, 5, 27, 182, 0, 96, 154, 0, 25, 42, 42]
abbrev dktX4_hairsBow_0 : List UInt8 := dkwX4_hairsBow_0 ++ dktX4_hairsBow_1
theorem dksX4_hairsBow_0 : cX4_hairsBow.data.toList.drop 0 = dktX4_hairsBow_0 := by decide +kernel
theorem dksX4_hairsBow_1 : cX4_hairsBow.data.toList.drop 24 = dktX4_hairsBow_1 := dk_seg dksX4_hairsBow_0 24 rfl rfl
theorem dksX4_hairsBow_2 : cX4_hairsBow.data.toList.drop 48 = dktX4_hairsBow_2 := dk_seg dksX4_hairsBow_1 24 rfl rfl
theorem dksX4_hairsBow_3 : cX4_hairsBow.data.toList.drop 72 = dktX4_hairsBow_3 := dk_seg dksX4_hairsBow_2 24 rfl rfl
theorem dksX4_hairsBow_4 : cX4_hairsBow.data.toList.drop 95 = dktX4_hairsBow_4 := dk_seg dksX4_hairsBow_3 23 rfl rfl
theorem dksX4_hairsBow_5 : cX4_hairsBow.data.toList.drop 119 = dktX4_hairsBow_5 := dk_seg dksX4_hairsBow_4 24 rfl rfl
theorem dksX4_hairsBow_6 : cX4_hairsBow.data.toList.drop 143 = dktX4_hairsBow_6 := dk_seg dksX4_hairsBow_5 24 rfl rfl
theorem dksX4_hairsBow_7 : cX4_hairsBow.data.toList.drop 167 = dktX4_hairsBow_7 := dk_seg dksX4_hairsBow_6 24 rfl rfl
theorem dksX4_hairsBow_8 : cX4_hairsBow.data.toList.drop 190 = dktX4_hairsBow_8 := dk_seg dksX4_hairsBow_7 23 rfl rfl
theorem dX4_hairsBow_0 : decode cX4_hairsBow 0 = .ok (.aload_n 0, 1) := dk_42 (dk_at dksX4_hairsBow_0 0 rfl rfl)
theorem dX4_hairsBow_1 : decode cX4_hairsBow 1 = .ok (.aload_n 0, 1) := dk_42 (dk_at dksX4_hairsBow_0 1 rfl rfl)
theorem dX4_hairsBow_2 : decode cX4_hairsBow 2 = .ok (.iload_n 1, 1) := dk_27 (dk_at dksX4_hairsBow_0 2 rfl rfl)
theorem dX4_hairsBow_3 : decode cX4_hairsBow 3 = .ok (.invokevirtual 152, 3) := dk_182 0 152 (dk_at dksX4_hairsBow_0 3 rfl rfl)
theorem dX4_hairsBow_6 : decode cX4_hairsBow 6 = .ok (.ifCond .ne 7, 3) := dk_154 0 7 (dk_at dksX4_hairsBow_0 6 rfl rfl)
theorem dX4_hairsBow_9 : decode cX4_hairsBow 9 = .ok (.iconst 1, 1) := dk_4 (dk_at dksX4_hairsBow_0 9 rfl rfl)
theorem dX4_hairsBow_10 : decode cX4_hairsBow 10 = .ok (.goto 4, 3) := dk_167 0 4 (dk_at dksX4_hairsBow_0 10 rfl rfl)
theorem dX4_hairsBow_13 : decode cX4_hairsBow 13 = .ok (.iconst 0, 1) := dk_3 (dk_at dksX4_hairsBow_0 13 rfl rfl)
theorem dX4_hairsBow_14 : decode cX4_hairsBow 14 = .ok (.iconst 2, 1) := dk_5 (dk_at dksX4_hairsBow_0 14 rfl rfl)
theorem dX4_hairsBow_15 : decode cX4_hairsBow 15 = .ok (.iload_n 1, 1) := dk_27 (dk_at dksX4_hairsBow_0 15 rfl rfl)
theorem dX4_hairsBow_16 : decode cX4_hairsBow 16 = .ok (.invokevirtual 96, 3) := dk_182 0 96 (dk_at dksX4_hairsBow_0 16 rfl rfl)
theorem dX4_hairsBow_19 : decode cX4_hairsBow 19 = .ok (.ifCond .ne 25, 3) := dk_154 0 25 (dk_at dksX4_hairsBow_0 19 rfl rfl)
theorem dX4_hairsBow_22 : decode cX4_hairsBow 22 = .ok (.aload_n 0, 1) := dk_42 (dk_at dksX4_hairsBow_0 22 rfl rfl)
theorem dX4_hairsBow_23 : decode cX4_hairsBow 23 = .ok (.aload_n 0, 1) := dk_42 (dk_at dksX4_hairsBow_0 23 rfl rfl)
theorem dX4_hairsBow_24 : decode cX4_hairsBow 24 = .ok (.iload_n 2, 1) := dk_28 (dk_at dksX4_hairsBow_1 0 rfl rfl)
theorem dX4_hairsBow_25 : decode cX4_hairsBow 25 = .ok (.invokevirtual 133, 3) := dk_182 0 133 (dk_at dksX4_hairsBow_1 1 rfl rfl)
theorem dX4_hairsBow_28 : decode cX4_hairsBow 28 = .ok (.ifCond .ne 7, 3) := dk_154 0 7 (dk_at dksX4_hairsBow_1 4 rfl rfl)
theorem dX4_hairsBow_31 : decode cX4_hairsBow 31 = .ok (.iconst 1, 1) := dk_4 (dk_at dksX4_hairsBow_1 7 rfl rfl)
theorem dX4_hairsBow_32 : decode cX4_hairsBow 32 = .ok (.goto 4, 3) := dk_167 0 4 (dk_at dksX4_hairsBow_1 8 rfl rfl)
theorem dX4_hairsBow_35 : decode cX4_hairsBow 35 = .ok (.iconst 0, 1) := dk_3 (dk_at dksX4_hairsBow_1 11 rfl rfl)
theorem dX4_hairsBow_36 : decode cX4_hairsBow 36 = .ok (.iconst 2, 1) := dk_5 (dk_at dksX4_hairsBow_1 12 rfl rfl)
theorem dX4_hairsBow_37 : decode cX4_hairsBow 37 = .ok (.iload_n 2, 1) := dk_28 (dk_at dksX4_hairsBow_1 13 rfl rfl)
theorem dX4_hairsBow_38 : decode cX4_hairsBow 38 = .ok (.invokevirtual 96, 3) := dk_182 0 96 (dk_at dksX4_hairsBow_1 14 rfl rfl)
theorem dX4_hairsBow_41 : decode cX4_hairsBow 41 = .ok (.ifCond .eq 5, 3) := dk_153 0 5 (dk_at dksX4_hairsBow_1 17 rfl rfl)
theorem dX4_hairsBow_44 : decode cX4_hairsBow 44 = .ok (.iconst 0, 1) := dk_3 (dk_at dksX4_hairsBow_1 20 rfl rfl)
theorem dX4_hairsBow_45 : decode cX4_hairsBow 45 = .ok (.ireturn, 1) := dk_172 (dk_at dksX4_hairsBow_1 21 rfl rfl)
theorem dX4_hairsBow_46 : decode cX4_hairsBow 46 = .ok (.aload_n 0, 1) := dk_42 (dk_at dksX4_hairsBow_1 22 rfl rfl)
theorem dX4_hairsBow_47 : decode cX4_hairsBow 47 = .ok (.iload_n 1, 1) := dk_27 (dk_at dksX4_hairsBow_1 23 rfl rfl)
theorem dX4_hairsBow_48 : decode cX4_hairsBow 48 = .ok (.iconst 0, 1) := dk_3 (dk_at dksX4_hairsBow_2 0 rfl rfl)
theorem dX4_hairsBow_49 : decode cX4_hairsBow 49 = .ok (.invokevirtual 155, 3) := dk_182 0 155 (dk_at dksX4_hairsBow_2 1 rfl rfl)
theorem dX4_hairsBow_52 : decode cX4_hairsBow 52 = .ok (.istore_n 3, 1) := dk_62 (dk_at dksX4_hairsBow_2 4 rfl rfl)
theorem dX4_hairsBow_53 : decode cX4_hairsBow 53 = .ok (.iload_n 3, 1) := dk_29 (dk_at dksX4_hairsBow_2 5 rfl rfl)
theorem dX4_hairsBow_54 : decode cX4_hairsBow 54 = .ok (.invokestatic 158, 3) := dk_184 0 158 (dk_at dksX4_hairsBow_2 6 rfl rfl)
theorem dX4_hairsBow_57 : decode cX4_hairsBow 57 = .ok (.aload_n 0, 1) := dk_42 (dk_at dksX4_hairsBow_2 9 rfl rfl)
theorem dX4_hairsBow_58 : decode cX4_hairsBow 58 = .ok (.iload_n 2, 1) := dk_28 (dk_at dksX4_hairsBow_2 10 rfl rfl)
theorem dX4_hairsBow_59 : decode cX4_hairsBow 59 = .ok (.iconst 1, 1) := dk_4 (dk_at dksX4_hairsBow_2 11 rfl rfl)
theorem dX4_hairsBow_60 : decode cX4_hairsBow 60 = .ok (.invokevirtual 126, 3) := dk_182 0 126 (dk_at dksX4_hairsBow_2 12 rfl rfl)
theorem dX4_hairsBow_63 : decode cX4_hairsBow 63 = .ok (.isub, 1) := dk_100 (dk_at dksX4_hairsBow_2 15 rfl rfl)
theorem dX4_hairsBow_64 : decode cX4_hairsBow 64 = .ok (.istore 4, 2) := dk_54 4 (dk_at dksX4_hairsBow_2 16 rfl rfl)
theorem dX4_hairsBow_66 : decode cX4_hairsBow 66 = .ok (.aload_n 0, 1) := dk_42 (dk_at dksX4_hairsBow_2 18 rfl rfl)
theorem dX4_hairsBow_67 : decode cX4_hairsBow 67 = .ok (.iload 4, 2) := dk_21 4 (dk_at dksX4_hairsBow_2 19 rfl rfl)
theorem dX4_hairsBow_69 : decode cX4_hairsBow 69 = .ok (.ifCond .le 7, 3) := dk_158 0 7 (dk_at dksX4_hairsBow_2 21 rfl rfl)
theorem dX4_hairsBow_72 : decode cX4_hairsBow 72 = .ok (.iconst 1, 1) := dk_4 (dk_at dksX4_hairsBow_3 0 rfl rfl)
theorem dX4_hairsBow_73 : decode cX4_hairsBow 73 = .ok (.goto 4, 3) := dk_167 0 4 (dk_at dksX4_hairsBow_3 1 rfl rfl)
theorem dX4_hairsBow_76 : decode cX4_hairsBow 76 = .ok (.iconst 0, 1) := dk_3 (dk_at dksX4_hairsBow_3 4 rfl rfl)
theorem dX4_hairsBow_77 : decode cX4_hairsBow 77 = .ok (.bipush 6, 2) := dk_16 6 (dk_at dksX4_hairsBow_3 5 rfl rfl)
theorem dX4_hairsBow_79 : decode cX4_hairsBow 79 = .ok (.iload 4, 2) := dk_21 4 (dk_at dksX4_hairsBow_3 7 rfl rfl)
theorem dX4_hairsBow_81 : decode cX4_hairsBow 81 = .ok (.invokevirtual 96, 3) := dk_182 0 96 (dk_at dksX4_hairsBow_3 9 rfl rfl)
theorem dX4_hairsBow_84 : decode cX4_hairsBow 84 = .ok (.ifCond .ne 35, 3) := dk_154 0 35 (dk_at dksX4_hairsBow_3 12 rfl rfl)
theorem dX4_hairsBow_87 : decode cX4_hairsBow 87 = .ok (.aload_n 0, 1) := dk_42 (dk_at dksX4_hairsBow_3 15 rfl rfl)
theorem dX4_hairsBow_88 : decode cX4_hairsBow 88 = .ok (.aload_n 0, 1) := dk_42 (dk_at dksX4_hairsBow_3 16 rfl rfl)
theorem dX4_hairsBow_89 : decode cX4_hairsBow 89 = .ok (.iload_n 2, 1) := dk_28 (dk_at dksX4_hairsBow_3 17 rfl rfl)
theorem dX4_hairsBow_90 : decode cX4_hairsBow 90 = .ok (.iconst 2, 1) := dk_5 (dk_at dksX4_hairsBow_3 18 rfl rfl)
theorem dX4_hairsBow_91 : decode cX4_hairsBow 91 = .ok (.invokevirtual 126, 3) := dk_182 0 126 (dk_at dksX4_hairsBow_3 19 rfl rfl)
theorem dX4_hairsBow_94 : decode cX4_hairsBow 94 = .ok (.iload_n 3, 1) := dk_29 (dk_at dksX4_hairsBow_3 22 rfl rfl)
theorem dX4_hairsBow_95 : decode cX4_hairsBow 95 = .ok (.invokestatic 161, 3) := dk_184 0 161 (dk_at dksX4_hairsBow_4 0 rfl rfl)
theorem dX4_hairsBow_98 : decode cX4_hairsBow 98 = .ok (.if_icmp .ge 7, 3) := dk_162 0 7 (dk_at dksX4_hairsBow_4 3 rfl rfl)
theorem dX4_hairsBow_101 : decode cX4_hairsBow 101 = .ok (.iconst 1, 1) := dk_4 (dk_at dksX4_hairsBow_4 6 rfl rfl)
theorem dX4_hairsBow_102 : decode cX4_hairsBow 102 = .ok (.goto 4, 3) := dk_167 0 4 (dk_at dksX4_hairsBow_4 7 rfl rfl)
theorem dX4_hairsBow_105 : decode cX4_hairsBow 105 = .ok (.iconst 0, 1) := dk_3 (dk_at dksX4_hairsBow_4 10 rfl rfl)
theorem dX4_hairsBow_106 : decode cX4_hairsBow 106 = .ok (.iconst 5, 1) := dk_8 (dk_at dksX4_hairsBow_4 11 rfl rfl)
theorem dX4_hairsBow_107 : decode cX4_hairsBow 107 = .ok (.aload_n 0, 1) := dk_42 (dk_at dksX4_hairsBow_4 12 rfl rfl)
theorem dX4_hairsBow_108 : decode cX4_hairsBow 108 = .ok (.iload_n 2, 1) := dk_28 (dk_at dksX4_hairsBow_4 13 rfl rfl)
theorem dX4_hairsBow_109 : decode cX4_hairsBow 109 = .ok (.iconst 2, 1) := dk_5 (dk_at dksX4_hairsBow_4 14 rfl rfl)
theorem dX4_hairsBow_110 : decode cX4_hairsBow 110 = .ok (.invokevirtual 126, 3) := dk_182 0 126 (dk_at dksX4_hairsBow_4 15 rfl rfl)
theorem dX4_hairsBow_113 : decode cX4_hairsBow 113 = .ok (.invokevirtual 96, 3) := dk_182 0 96 (dk_at dksX4_hairsBow_4 18 rfl rfl)
theorem dX4_hairsBow_116 : decode cX4_hairsBow 116 = .ok (.ifCond .eq 5, 3) := dk_153 0 5 (dk_at dksX4_hairsBow_4 21 rfl rfl)
theorem dX4_hairsBow_119 : decode cX4_hairsBow 119 = .ok (.iconst 0, 1) := dk_3 (dk_at dksX4_hairsBow_5 0 rfl rfl)
theorem dX4_hairsBow_120 : decode cX4_hairsBow 120 = .ok (.ireturn, 1) := dk_172 (dk_at dksX4_hairsBow_5 1 rfl rfl)
theorem dX4_hairsBow_121 : decode cX4_hairsBow 121 = .ok (.aload_n 0, 1) := dk_42 (dk_at dksX4_hairsBow_5 2 rfl rfl)
theorem dX4_hairsBow_122 : decode cX4_hairsBow 122 = .ok (.getfield 9, 3) := dk_180 0 9 (dk_at dksX4_hairsBow_5 3 rfl rfl)
theorem dX4_hairsBow_125 : decode cX4_hairsBow 125 = .ok (.bipush 11, 2) := dk_16 11 (dk_at dksX4_hairsBow_5 6 rfl rfl)
theorem dX4_hairsBow_127 : decode cX4_hairsBow 127 = .ok (.dup2, 1) := dk_92 (dk_at dksX4_hairsBow_5 8 rfl rfl)
theorem dX4_hairsBow_128 : decode cX4_hairsBow 128 = .ok (.iaload, 1) := dk_46 (dk_at dksX4_hairsBow_5 9 rfl rfl)
theorem dX4_hairsBow_129 : decode cX4_hairsBow 129 = .ok (.aload_n 0, 1) := dk_42 (dk_at dksX4_hairsBow_5 10 rfl rfl)
theorem dX4_hairsBow_130 : decode cX4_hairsBow 130 = .ok (.iload_n 1, 1) := dk_27 (dk_at dksX4_hairsBow_5 11 rfl rfl)
theorem dX4_hairsBow_131 : decode cX4_hairsBow 131 = .ok (.iconst 2, 1) := dk_5 (dk_at dksX4_hairsBow_5 12 rfl rfl)
theorem dX4_hairsBow_132 : decode cX4_hairsBow 132 = .ok (.invokevirtual 155, 3) := dk_182 0 155 (dk_at dksX4_hairsBow_5 13 rfl rfl)
theorem dX4_hairsBow_135 : decode cX4_hairsBow 135 = .ok (.iadd, 1) := dk_96 (dk_at dksX4_hairsBow_5 16 rfl rfl)
theorem dX4_hairsBow_136 : decode cX4_hairsBow 136 = .ok (.iastore, 1) := dk_79 (dk_at dksX4_hairsBow_5 17 rfl rfl)
theorem dX4_hairsBow_137 : decode cX4_hairsBow 137 = .ok (.aload_n 0, 1) := dk_42 (dk_at dksX4_hairsBow_5 18 rfl rfl)
theorem dX4_hairsBow_138 : decode cX4_hairsBow 138 = .ok (.getfield 9, 3) := dk_180 0 9 (dk_at dksX4_hairsBow_5 19 rfl rfl)
theorem dX4_hairsBow_141 : decode cX4_hairsBow 141 = .ok (.iload_n 1, 1) := dk_27 (dk_at dksX4_hairsBow_5 22 rfl rfl)
theorem dX4_hairsBow_142 : decode cX4_hairsBow 142 = .ok (.iconst 2, 1) := dk_5 (dk_at dksX4_hairsBow_5 23 rfl rfl)
theorem dX4_hairsBow_143 : decode cX4_hairsBow 143 = .ok (.invokestatic 89, 3) := dk_184 0 89 (dk_at dksX4_hairsBow_6 0 rfl rfl)
theorem dX4_hairsBow_146 : decode cX4_hairsBow 146 = .ok (.iload_n 3, 1) := dk_29 (dk_at dksX4_hairsBow_6 3 rfl rfl)
theorem dX4_hairsBow_147 : decode cX4_hairsBow 147 = .ok (.invokestatic 161, 3) := dk_184 0 161 (dk_at dksX4_hairsBow_6 4 rfl rfl)
theorem dX4_hairsBow_150 : decode cX4_hairsBow 150 = .ok (.iastore, 1) := dk_79 (dk_at dksX4_hairsBow_6 7 rfl rfl)
theorem dX4_hairsBow_151 : decode cX4_hairsBow 151 = .ok (.aload_n 0, 1) := dk_42 (dk_at dksX4_hairsBow_6 8 rfl rfl)
theorem dX4_hairsBow_152 : decode cX4_hairsBow 152 = .ok (.getfield 9, 3) := dk_180 0 9 (dk_at dksX4_hairsBow_6 9 rfl rfl)
theorem dX4_hairsBow_155 : decode cX4_hairsBow 155 = .ok (.iload_n 1, 1) := dk_27 (dk_at dksX4_hairsBow_6 12 rfl rfl)
theorem dX4_hairsBow_156 : decode cX4_hairsBow 156 = .ok (.iconst 1, 1) := dk_4 (dk_at dksX4_hairsBow_6 13 rfl rfl)
theorem dX4_hairsBow_157 : decode cX4_hairsBow 157 = .ok (.invokestatic 89, 3) := dk_184 0 89 (dk_at dksX4_hairsBow_6 14 rfl rfl)
theorem dX4_hairsBow_160 : decode cX4_hairsBow 160 = .ok (.iconst 0, 1) := dk_3 (dk_at dksX4_hairsBow_6 17 rfl rfl)
theorem dX4_hairsBow_161 : decode cX4_hairsBow 161 = .ok (.iastore, 1) := dk_79 (dk_at dksX4_hairsBow_6 18 rfl rfl)
theorem dX4_hairsBow_162 : decode cX4_hairsBow 162 = .ok (.aload_n 0, 1) := dk_42 (dk_at dksX4_hairsBow_6 19 rfl rfl)
theorem dX4_hairsBow_163 : decode cX4_hairsBow 163 = .ok (.getfield 9, 3) := dk_180 0 9 (dk_at dksX4_hairsBow_6 20 rfl rfl)
theorem dX4_hairsBow_166 : decode cX4_hairsBow 166 = .ok (.iload_n 1, 1) := dk_27 (dk_at dksX4_hairsBow_6 23 rfl rfl)
theorem dX4_hairsBow_167 : decode cX4_hairsBow 167 = .ok (.iconst 3, 1) := dk_6 (dk_at dksX4_hairsBow_7 0 rfl rfl)
theorem dX4_hairsBow_168 : decode cX4_hairsBow 168 = .ok (.invokestatic 89, 3) := dk_184 0 89 (dk_at dksX4_hairsBow_7 1 rfl rfl)
theorem dX4_hairsBow_171 : decode cX4_hairsBow 171 = .ok (.aload_n 0, 1) := dk_42 (dk_at dksX4_hairsBow_7 4 rfl rfl)
theorem dX4_hairsBow_172 : decode cX4_hairsBow 172 = .ok (.iload_n 2, 1) := dk_28 (dk_at dksX4_hairsBow_7 5 rfl rfl)
theorem dX4_hairsBow_173 : decode cX4_hairsBow 173 = .ok (.invokevirtual 164, 3) := dk_182 0 164 (dk_at dksX4_hairsBow_7 6 rfl rfl)
theorem dX4_hairsBow_176 : decode cX4_hairsBow 176 = .ok (.iastore, 1) := dk_79 (dk_at dksX4_hairsBow_7 9 rfl rfl)
theorem dX4_hairsBow_177 : decode cX4_hairsBow 177 = .ok (.aload_n 0, 1) := dk_42 (dk_at dksX4_hairsBow_7 10 rfl rfl)
theorem dX4_hairsBow_178 : decode cX4_hairsBow 178 = .ok (.getfield 9, 3) := dk_180 0 9 (dk_at dksX4_hairsBow_7 11 rfl rfl)
theorem dX4_hairsBow_181 : decode cX4_hairsBow 181 = .ok (.iload_n 1, 1) := dk_27 (dk_at dksX4_hairsBow_7 14 rfl rfl)
theorem dX4_hairsBow_182 : decode cX4_hairsBow 182 = .ok (.bipush 6, 2) := dk_16 6 (dk_at dksX4_hairsBow_7 15 rfl rfl)
theorem dX4_hairsBow_184 : decode cX4_hairsBow 184 = .ok (.invokestatic 89, 3) := dk_184 0 89 (dk_at dksX4_hairsBow_7 17 rfl rfl)
theorem dX4_hairsBow_187 : decode cX4_hairsBow 187 = .ok (.aload_n 0, 1) := dk_42 (dk_at dksX4_hairsBow_7 20 rfl rfl)
theorem dX4_hairsBow_188 : decode cX4_hairsBow 188 = .ok (.iload_n 2, 1) := dk_28 (dk_at dksX4_hairsBow_7 21 rfl rfl)
theorem dX4_hairsBow_189 : decode cX4_hairsBow 189 = .ok (.iconst 3, 1) := dk_6 (dk_at dksX4_hairsBow_7 22 rfl rfl)
theorem dX4_hairsBow_190 : decode cX4_hairsBow 190 = .ok (.invokevirtual 126, 3) := dk_182 0 126 (dk_at dksX4_hairsBow_8 0 rfl rfl)
theorem dX4_hairsBow_193 : decode cX4_hairsBow 193 = .ok (.iastore, 1) := dk_79 (dk_at dksX4_hairsBow_8 3 rfl rfl)
theorem dX4_hairsBow_194 : decode cX4_hairsBow 194 = .ok (.aload_n 0, 1) := dk_42 (dk_at dksX4_hairsBow_8 4 rfl rfl)
theorem dX4_hairsBow_195 : decode cX4_hairsBow 195 = .ok (.iload_n 2, 1) := dk_28 (dk_at dksX4_hairsBow_8 5 rfl rfl)
theorem dX4_hairsBow_196 : decode cX4_hairsBow 196 = .ok (.iload_n 3, 1) := dk_29 (dk_at dksX4_hairsBow_8 6 rfl rfl)
theorem dX4_hairsBow_197 : decode cX4_hairsBow 197 = .ok (.invokestatic 161, 3) := dk_184 0 161 (dk_at dksX4_hairsBow_8 7 rfl rfl)
theorem dX4_hairsBow_200 : decode cX4_hairsBow 200 = .ok (.invokevirtual 145, 3) := dk_182 0 145 (dk_at dksX4_hairsBow_8 10 rfl rfl)
theorem dX4_hairsBow_203 : decode cX4_hairsBow 203 = .ok (.aload_n 0, 1) := dk_42 (dk_at dksX4_hairsBow_8 13 rfl rfl)
theorem dX4_hairsBow_204 : decode cX4_hairsBow 204 = .ok (.iload_n 1, 1) := dk_27 (dk_at dksX4_hairsBow_8 14 rfl rfl)
theorem dX4_hairsBow_205 : decode cX4_hairsBow 205 = .ok (.iconst 3, 1) := dk_6 (dk_at dksX4_hairsBow_8 15 rfl rfl)
theorem dX4_hairsBow_206 : decode cX4_hairsBow 206 = .ok (.invokevirtual 155, 3) := dk_182 0 155 (dk_at dksX4_hairsBow_8 16 rfl rfl)
theorem dX4_hairsBow_209 : decode cX4_hairsBow 209 = .ok (.ireturn, 1) := dk_172 (dk_at dksX4_hairsBow_8 19 rfl rfl)
abbrev cX4_isBow : ByteArray := prog_17_method_20_code
def yX4_isBow : MethodName := ⟨RX4, "isBow", "(I)Z"⟩
def dkwX4_isBow_0 : List UInt8 := [27, 3, 42, 180, 0, 9, 8, 46, 4, 100, 184, 0, 92, 172]
abbrev dktX4_isBow_0 : List UInt8 := dkwX4_isBow_0 ++ []
theorem dksX4_isBow_0 : cX4_isBow.data.toList.drop 0 = dktX4_isBow_0 := by decide +kernel
theorem dX4_isBow_0 : decode cX4_isBow 0 = .ok (.iload_n 1, 1) := dk_27 (dk_at dksX4_isBow_0 0 rfl rfl)
theorem dX4_isBow_1 : decode cX4_isBow 1 = .ok (.iconst 0, 1) := dk_3 (dk_at dksX4_isBow_0 1 rfl rfl)
theorem dX4_isBow_2 : decode cX4_isBow 2 = .ok (.aload_n 0, 1) := dk_42 (dk_at dksX4_isBow_0 2 rfl rfl)
theorem dX4_isBow_3 : decode cX4_isBow 3 = .ok (.getfield 9, 3) := dk_180 0 9 (dk_at dksX4_isBow_0 3 rfl rfl)
theorem dX4_isBow_6 : decode cX4_isBow 6 = .ok (.iconst 5, 1) := dk_8 (dk_at dksX4_isBow_0 6 rfl rfl)
theorem dX4_isBow_7 : decode cX4_isBow 7 = .ok (.iaload, 1) := dk_46 (dk_at dksX4_isBow_0 7 rfl rfl)
theorem dX4_isBow_8 : decode cX4_isBow 8 = .ok (.iconst 1, 1) := dk_4 (dk_at dksX4_isBow_0 8 rfl rfl)
theorem dX4_isBow_9 : decode cX4_isBow 9 = .ok (.isub, 1) := dk_100 (dk_at dksX4_isBow_0 9 rfl rfl)
theorem dX4_isBow_10 : decode cX4_isBow 10 = .ok (.invokestatic 92, 3) := dk_184 0 92 (dk_at dksX4_isBow_0 10 rfl rfl)
theorem dX4_isBow_13 : decode cX4_isBow 13 = .ok (.ireturn, 1) := dk_172 (dk_at dksX4_isBow_0 13 rfl rfl)
abbrev cX4_ofBow : ByteArray := prog_17_method_17_code
def yX4_ofBow : MethodName := ⟨RX4, "ofBow", "(II)I"⟩
def dkwX4_ofBow_0 : List UInt8 := [42, 180, 0, 9, 27, 28, 184, 0, 89, 46, 172]
abbrev dktX4_ofBow_0 : List UInt8 := dkwX4_ofBow_0 ++ []
theorem dksX4_ofBow_0 : cX4_ofBow.data.toList.drop 0 = dktX4_ofBow_0 := by decide +kernel
theorem dX4_ofBow_0 : decode cX4_ofBow 0 = .ok (.aload_n 0, 1) := dk_42 (dk_at dksX4_ofBow_0 0 rfl rfl)
theorem dX4_ofBow_1 : decode cX4_ofBow 1 = .ok (.getfield 9, 3) := dk_180 0 9 (dk_at dksX4_ofBow_0 1 rfl rfl)
theorem dX4_ofBow_4 : decode cX4_ofBow 4 = .ok (.iload_n 1, 1) := dk_27 (dk_at dksX4_ofBow_0 4 rfl rfl)
theorem dX4_ofBow_5 : decode cX4_ofBow 5 = .ok (.iload_n 2, 1) := dk_28 (dk_at dksX4_ofBow_0 5 rfl rfl)
theorem dX4_ofBow_6 : decode cX4_ofBow 6 = .ok (.invokestatic 89, 3) := dk_184 0 89 (dk_at dksX4_ofBow_0 6 rfl rfl)
theorem dX4_ofBow_9 : decode cX4_ofBow 9 = .ok (.iaload, 1) := dk_46 (dk_at dksX4_ofBow_0 9 rfl rfl)
theorem dX4_ofBow_10 : decode cX4_ofBow 10 = .ok (.ireturn, 1) := dk_172 (dk_at dksX4_ofBow_0 10 rfl rfl)
abbrev cX4_longEnough : ByteArray := prog_17_method_36_code
def yX4_longEnough : MethodName := ⟨RX4, "longEnough", "(I)I"⟩
def dkwX4_longEnough_2 : List UInt8 := [16, 72, 172, 16, 74, 172, 16, 70, 172, 16, 66, 172]
abbrev dktX4_longEnough_2 : List UInt8 := dkwX4_longEnough_2 ++ []
def dkwX4_longEnough_1 : List UInt8 := [170, 0, 0, 0, 0, 0, 36, 0, 0, 0, 0, 0, 0, 0, 2, 0, 0, 0, 27, 0, 0, 0, 30, 0, 0, 0, 33]
abbrev dktX4_longEnough_1 : List UInt8 := dkwX4_longEnough_1 ++ dktX4_longEnough_2
def dkwX4_longEnough_0 : List UInt8 := [26]
abbrev dktX4_longEnough_0 : List UInt8 := dkwX4_longEnough_0 ++ dktX4_longEnough_1
theorem dksX4_longEnough_0 : cX4_longEnough.data.toList.drop 0 = dktX4_longEnough_0 := by decide +kernel
theorem dksX4_longEnough_1 : cX4_longEnough.data.toList.drop 1 = dktX4_longEnough_1 := dk_seg dksX4_longEnough_0 1 rfl rfl
theorem dksX4_longEnough_2 : cX4_longEnough.data.toList.drop 28 = dktX4_longEnough_2 := dk_seg dksX4_longEnough_1 27 rfl rfl
theorem dX4_longEnough_0 : decode cX4_longEnough 0 = .ok (.iload_n 0, 1) := dk_26 (dk_at dksX4_longEnough_0 0 rfl rfl)
theorem dX4_longEnough_1 : decode cX4_longEnough 1 = .ok (.tableswitch 36 0 2 #[27, 30, 33], 27) := by decide +kernel
theorem dX4_longEnough_28 : decode cX4_longEnough 28 = .ok (.bipush 72, 2) := dk_16 72 (dk_at dksX4_longEnough_2 0 rfl rfl)
theorem dX4_longEnough_30 : decode cX4_longEnough 30 = .ok (.ireturn, 1) := dk_172 (dk_at dksX4_longEnough_2 2 rfl rfl)
theorem dX4_longEnough_31 : decode cX4_longEnough 31 = .ok (.bipush 74, 2) := dk_16 74 (dk_at dksX4_longEnough_2 3 rfl rfl)
theorem dX4_longEnough_33 : decode cX4_longEnough 33 = .ok (.ireturn, 1) := dk_172 (dk_at dksX4_longEnough_2 5 rfl rfl)
theorem dX4_longEnough_34 : decode cX4_longEnough 34 = .ok (.bipush 70, 2) := dk_16 70 (dk_at dksX4_longEnough_2 6 rfl rfl)
theorem dX4_longEnough_36 : decode cX4_longEnough 36 = .ok (.ireturn, 1) := dk_172 (dk_at dksX4_longEnough_2 8 rfl rfl)
theorem dX4_longEnough_37 : decode cX4_longEnough 37 = .ok (.bipush 66, 2) := dk_16 66 (dk_at dksX4_longEnough_2 9 rfl rfl)
theorem dX4_longEnough_39 : decode cX4_longEnough 39 = .ok (.ireturn, 1) := dk_172 (dk_at dksX4_longEnough_2 11 rfl rfl)
abbrev cX4_needs : ByteArray := prog_17_method_35_code
def yX4_needs : MethodName := ⟨RX4, "needs", "(I)I"⟩
def dkwX4_needs_2 : List UInt8 := [17, 0, 150, 172, 17, 0, 160, 172, 17, 0, 180, 172, 17, 0, 220, 172]
abbrev dktX4_needs_2 : List UInt8 := dkwX4_needs_2 ++ []
def dkwX4_needs_1 : List UInt8 := [170, 0, 0, 0, 0, 0, 39, 0, 0, 0, 0, 0, 0, 0, 2, 0, 0, 0, 27, 0, 0, 0, 31, 0, 0, 0, 35]
abbrev dktX4_needs_1 : List UInt8 := dkwX4_needs_1 ++ dktX4_needs_2
def dkwX4_needs_0 : List UInt8 := [26]
abbrev dktX4_needs_0 : List UInt8 := dkwX4_needs_0 ++ dktX4_needs_1
theorem dksX4_needs_0 : cX4_needs.data.toList.drop 0 = dktX4_needs_0 := by decide +kernel
theorem dksX4_needs_1 : cX4_needs.data.toList.drop 1 = dktX4_needs_1 := dk_seg dksX4_needs_0 1 rfl rfl
theorem dksX4_needs_2 : cX4_needs.data.toList.drop 28 = dktX4_needs_2 := dk_seg dksX4_needs_1 27 rfl rfl
theorem dX4_needs_0 : decode cX4_needs 0 = .ok (.iload_n 0, 1) := dk_26 (dk_at dksX4_needs_0 0 rfl rfl)
theorem dX4_needs_1 : decode cX4_needs 1 = .ok (.tableswitch 39 0 2 #[27, 31, 35], 27) := by decide +kernel
theorem dX4_needs_28 : decode cX4_needs 28 = .ok (.sipush 150, 3) := dk_17 0 150 (dk_at dksX4_needs_2 0 rfl rfl)
theorem dX4_needs_31 : decode cX4_needs 31 = .ok (.ireturn, 1) := dk_172 (dk_at dksX4_needs_2 3 rfl rfl)
theorem dX4_needs_32 : decode cX4_needs 32 = .ok (.sipush 160, 3) := dk_17 0 160 (dk_at dksX4_needs_2 4 rfl rfl)
theorem dX4_needs_35 : decode cX4_needs 35 = .ok (.ireturn, 1) := dk_172 (dk_at dksX4_needs_2 7 rfl rfl)
theorem dX4_needs_36 : decode cX4_needs 36 = .ok (.sipush 180, 3) := dk_17 0 180 (dk_at dksX4_needs_2 8 rfl rfl)
theorem dX4_needs_39 : decode cX4_needs 39 = .ok (.ireturn, 1) := dk_172 (dk_at dksX4_needs_2 11 rfl rfl)
theorem dX4_needs_40 : decode cX4_needs 40 = .ok (.sipush 220, 3) := dk_17 0 220 (dk_at dksX4_needs_2 12 rfl rfl)
theorem dX4_needs_43 : decode cX4_needs 43 = .ok (.ireturn, 1) := dk_172 (dk_at dksX4_needs_2 15 rfl rfl)
abbrev cX4_gradeBy : ByteArray := prog_17_method_38_code
def yX4_gradeBy : MethodName := ⟨RX4, "gradeBy", "(I)I"⟩
def dkwX4_gradeBy_2 : List UInt8 := [3, 172]
abbrev dktX4_gradeBy_2 : List UInt8 := dkwX4_gradeBy_2 ++ []
def dkwX4_gradeBy_1 : List UInt8 := [154, 0, 11, 28, 153, 0, 7, 5, 167, 0, 17, 29, 6, 160, 0, 7, 28, 153, 0, 7, 4, 167, 0, 4]
abbrev dktX4_gradeBy_1 : List UInt8 := dkwX4_gradeBy_1 ++ dktX4_gradeBy_2
def dkwX4_gradeBy_0 : List UInt8 := [42, 27, 6, 182, 0, 126, 155, 0, 7, 4, 167, 0, 4, 3, 61, 42, 27, 3, 182, 0, 126, 62, 29]
abbrev dktX4_gradeBy_0 : List UInt8 := dkwX4_gradeBy_0 ++ dktX4_gradeBy_1
theorem dksX4_gradeBy_0 : cX4_gradeBy.data.toList.drop 0 = dktX4_gradeBy_0 := by decide +kernel
theorem dksX4_gradeBy_1 : cX4_gradeBy.data.toList.drop 23 = dktX4_gradeBy_1 := dk_seg dksX4_gradeBy_0 23 rfl rfl
theorem dksX4_gradeBy_2 : cX4_gradeBy.data.toList.drop 47 = dktX4_gradeBy_2 := dk_seg dksX4_gradeBy_1 24 rfl rfl
theorem dX4_gradeBy_0 : decode cX4_gradeBy 0 = .ok (.aload_n 0, 1) := dk_42 (dk_at dksX4_gradeBy_0 0 rfl rfl)
theorem dX4_gradeBy_1 : decode cX4_gradeBy 1 = .ok (.iload_n 1, 1) := dk_27 (dk_at dksX4_gradeBy_0 1 rfl rfl)
theorem dX4_gradeBy_2 : decode cX4_gradeBy 2 = .ok (.iconst 3, 1) := dk_6 (dk_at dksX4_gradeBy_0 2 rfl rfl)
theorem dX4_gradeBy_3 : decode cX4_gradeBy 3 = .ok (.invokevirtual 126, 3) := dk_182 0 126 (dk_at dksX4_gradeBy_0 3 rfl rfl)
theorem dX4_gradeBy_6 : decode cX4_gradeBy 6 = .ok (.ifCond .lt 7, 3) := dk_155 0 7 (dk_at dksX4_gradeBy_0 6 rfl rfl)
theorem dX4_gradeBy_9 : decode cX4_gradeBy 9 = .ok (.iconst 1, 1) := dk_4 (dk_at dksX4_gradeBy_0 9 rfl rfl)
theorem dX4_gradeBy_10 : decode cX4_gradeBy 10 = .ok (.goto 4, 3) := dk_167 0 4 (dk_at dksX4_gradeBy_0 10 rfl rfl)
theorem dX4_gradeBy_13 : decode cX4_gradeBy 13 = .ok (.iconst 0, 1) := dk_3 (dk_at dksX4_gradeBy_0 13 rfl rfl)
theorem dX4_gradeBy_14 : decode cX4_gradeBy 14 = .ok (.istore_n 2, 1) := dk_61 (dk_at dksX4_gradeBy_0 14 rfl rfl)
theorem dX4_gradeBy_15 : decode cX4_gradeBy 15 = .ok (.aload_n 0, 1) := dk_42 (dk_at dksX4_gradeBy_0 15 rfl rfl)
theorem dX4_gradeBy_16 : decode cX4_gradeBy 16 = .ok (.iload_n 1, 1) := dk_27 (dk_at dksX4_gradeBy_0 16 rfl rfl)
theorem dX4_gradeBy_17 : decode cX4_gradeBy 17 = .ok (.iconst 0, 1) := dk_3 (dk_at dksX4_gradeBy_0 17 rfl rfl)
theorem dX4_gradeBy_18 : decode cX4_gradeBy 18 = .ok (.invokevirtual 126, 3) := dk_182 0 126 (dk_at dksX4_gradeBy_0 18 rfl rfl)
theorem dX4_gradeBy_21 : decode cX4_gradeBy 21 = .ok (.istore_n 3, 1) := dk_62 (dk_at dksX4_gradeBy_0 21 rfl rfl)
theorem dX4_gradeBy_22 : decode cX4_gradeBy 22 = .ok (.iload_n 3, 1) := dk_29 (dk_at dksX4_gradeBy_0 22 rfl rfl)
theorem dX4_gradeBy_23 : decode cX4_gradeBy 23 = .ok (.ifCond .ne 11, 3) := dk_154 0 11 (dk_at dksX4_gradeBy_1 0 rfl rfl)
theorem dX4_gradeBy_26 : decode cX4_gradeBy 26 = .ok (.iload_n 2, 1) := dk_28 (dk_at dksX4_gradeBy_1 3 rfl rfl)
theorem dX4_gradeBy_27 : decode cX4_gradeBy 27 = .ok (.ifCond .eq 7, 3) := dk_153 0 7 (dk_at dksX4_gradeBy_1 4 rfl rfl)
theorem dX4_gradeBy_30 : decode cX4_gradeBy 30 = .ok (.iconst 2, 1) := dk_5 (dk_at dksX4_gradeBy_1 7 rfl rfl)
theorem dX4_gradeBy_31 : decode cX4_gradeBy 31 = .ok (.goto 17, 3) := dk_167 0 17 (dk_at dksX4_gradeBy_1 8 rfl rfl)
theorem dX4_gradeBy_34 : decode cX4_gradeBy 34 = .ok (.iload_n 3, 1) := dk_29 (dk_at dksX4_gradeBy_1 11 rfl rfl)
theorem dX4_gradeBy_35 : decode cX4_gradeBy 35 = .ok (.iconst 3, 1) := dk_6 (dk_at dksX4_gradeBy_1 12 rfl rfl)
theorem dX4_gradeBy_36 : decode cX4_gradeBy 36 = .ok (.if_icmp .ne 7, 3) := dk_160 0 7 (dk_at dksX4_gradeBy_1 13 rfl rfl)
theorem dX4_gradeBy_39 : decode cX4_gradeBy 39 = .ok (.iload_n 2, 1) := dk_28 (dk_at dksX4_gradeBy_1 16 rfl rfl)
theorem dX4_gradeBy_40 : decode cX4_gradeBy 40 = .ok (.ifCond .eq 7, 3) := dk_153 0 7 (dk_at dksX4_gradeBy_1 17 rfl rfl)
theorem dX4_gradeBy_43 : decode cX4_gradeBy 43 = .ok (.iconst 1, 1) := dk_4 (dk_at dksX4_gradeBy_1 20 rfl rfl)
theorem dX4_gradeBy_44 : decode cX4_gradeBy 44 = .ok (.goto 4, 3) := dk_167 0 4 (dk_at dksX4_gradeBy_1 21 rfl rfl)
theorem dX4_gradeBy_47 : decode cX4_gradeBy 47 = .ok (.iconst 0, 1) := dk_3 (dk_at dksX4_gradeBy_2 0 rfl rfl)
theorem dX4_gradeBy_48 : decode cX4_gradeBy 48 = .ok (.ireturn, 1) := dk_172 (dk_at dksX4_gradeBy_2 1 rfl rfl)
abbrev cX4_cake : ByteArray := prog_17_method_41_code
def yX4_cake : MethodName := ⟨RX4, "cake", "(I)I"⟩
def dkwX4_cake_4 : List UInt8 := [96, 79, 42, 42, 180, 0, 9, 16, 6, 46, 4, 100, 182, 0, 110, 172]
abbrev dktX4_cake_4 : List UInt8 := dkwX4_cake_4 ++ []
def dkwX4_cake_3 : List UInt8 := [180, 0, 9, 16, 28, 42, 180, 0, 9, 16, 6, 46, 96, 27, 79, 42, 180, 0, 9, 16, 6, 92, 46, 4]
abbrev dktX4_cake_3 : List UInt8 := dkwX4_cake_3 ++ dktX4_cake_4
def dkwX4_cake_2 : List UInt8 := [8, 182, 0, 96, 154, 0, 16, 42, 27, 16, 10, 108, 4, 96, 182, 0, 103, 153, 0, 5, 3, 172, 42]
abbrev dktX4_cake_2 : List UInt8 := dkwX4_cake_2 ++ dktX4_cake_3
def dkwX4_cake_1 : List UInt8 := [182, 0, 96, 154, 0, 41, 42, 42, 180, 0, 9, 16, 6, 46, 8, 160, 0, 7, 4, 167, 0, 4, 3, 4]
abbrev dktX4_cake_1 : List UInt8 := dkwX4_cake_1 ++ dktX4_cake_2
def dkwX4_cake_0 : List UInt8 := [42, 182, 0, 100, 42, 27, 4, 16, 40, 184, 0, 92, 154, 0, 7, 4, 167, 0, 4, 3, 6, 27]
abbrev dktX4_cake_0 : List UInt8 := dkwX4_cake_0 ++ dktX4_cake_1
theorem dksX4_cake_0 : cX4_cake.data.toList.drop 0 = dktX4_cake_0 := by decide +kernel
theorem dksX4_cake_1 : cX4_cake.data.toList.drop 22 = dktX4_cake_1 := dk_seg dksX4_cake_0 22 rfl rfl
theorem dksX4_cake_2 : cX4_cake.data.toList.drop 46 = dktX4_cake_2 := dk_seg dksX4_cake_1 24 rfl rfl
theorem dksX4_cake_3 : cX4_cake.data.toList.drop 69 = dktX4_cake_3 := dk_seg dksX4_cake_2 23 rfl rfl
theorem dksX4_cake_4 : cX4_cake.data.toList.drop 93 = dktX4_cake_4 := dk_seg dksX4_cake_3 24 rfl rfl
theorem dX4_cake_0 : decode cX4_cake 0 = .ok (.aload_n 0, 1) := dk_42 (dk_at dksX4_cake_0 0 rfl rfl)
theorem dX4_cake_1 : decode cX4_cake 1 = .ok (.invokevirtual 100, 3) := dk_182 0 100 (dk_at dksX4_cake_0 1 rfl rfl)
theorem dX4_cake_4 : decode cX4_cake 4 = .ok (.aload_n 0, 1) := dk_42 (dk_at dksX4_cake_0 4 rfl rfl)
theorem dX4_cake_5 : decode cX4_cake 5 = .ok (.iload_n 1, 1) := dk_27 (dk_at dksX4_cake_0 5 rfl rfl)
theorem dX4_cake_6 : decode cX4_cake 6 = .ok (.iconst 1, 1) := dk_4 (dk_at dksX4_cake_0 6 rfl rfl)
theorem dX4_cake_7 : decode cX4_cake 7 = .ok (.bipush 40, 2) := dk_16 40 (dk_at dksX4_cake_0 7 rfl rfl)
theorem dX4_cake_9 : decode cX4_cake 9 = .ok (.invokestatic 92, 3) := dk_184 0 92 (dk_at dksX4_cake_0 9 rfl rfl)
theorem dX4_cake_12 : decode cX4_cake 12 = .ok (.ifCond .ne 7, 3) := dk_154 0 7 (dk_at dksX4_cake_0 12 rfl rfl)
theorem dX4_cake_15 : decode cX4_cake 15 = .ok (.iconst 1, 1) := dk_4 (dk_at dksX4_cake_0 15 rfl rfl)
theorem dX4_cake_16 : decode cX4_cake 16 = .ok (.goto 4, 3) := dk_167 0 4 (dk_at dksX4_cake_0 16 rfl rfl)
theorem dX4_cake_19 : decode cX4_cake 19 = .ok (.iconst 0, 1) := dk_3 (dk_at dksX4_cake_0 19 rfl rfl)
theorem dX4_cake_20 : decode cX4_cake 20 = .ok (.iconst 3, 1) := dk_6 (dk_at dksX4_cake_0 20 rfl rfl)
theorem dX4_cake_21 : decode cX4_cake 21 = .ok (.iload_n 1, 1) := dk_27 (dk_at dksX4_cake_0 21 rfl rfl)
theorem dX4_cake_22 : decode cX4_cake 22 = .ok (.invokevirtual 96, 3) := dk_182 0 96 (dk_at dksX4_cake_1 0 rfl rfl)
theorem dX4_cake_25 : decode cX4_cake 25 = .ok (.ifCond .ne 41, 3) := dk_154 0 41 (dk_at dksX4_cake_1 3 rfl rfl)
theorem dX4_cake_28 : decode cX4_cake 28 = .ok (.aload_n 0, 1) := dk_42 (dk_at dksX4_cake_1 6 rfl rfl)
theorem dX4_cake_29 : decode cX4_cake 29 = .ok (.aload_n 0, 1) := dk_42 (dk_at dksX4_cake_1 7 rfl rfl)
theorem dX4_cake_30 : decode cX4_cake 30 = .ok (.getfield 9, 3) := dk_180 0 9 (dk_at dksX4_cake_1 8 rfl rfl)
theorem dX4_cake_33 : decode cX4_cake 33 = .ok (.bipush 6, 2) := dk_16 6 (dk_at dksX4_cake_1 11 rfl rfl)
theorem dX4_cake_35 : decode cX4_cake 35 = .ok (.iaload, 1) := dk_46 (dk_at dksX4_cake_1 13 rfl rfl)
theorem dX4_cake_36 : decode cX4_cake 36 = .ok (.iconst 5, 1) := dk_8 (dk_at dksX4_cake_1 14 rfl rfl)
theorem dX4_cake_37 : decode cX4_cake 37 = .ok (.if_icmp .ne 7, 3) := dk_160 0 7 (dk_at dksX4_cake_1 15 rfl rfl)
theorem dX4_cake_40 : decode cX4_cake 40 = .ok (.iconst 1, 1) := dk_4 (dk_at dksX4_cake_1 18 rfl rfl)
theorem dX4_cake_41 : decode cX4_cake 41 = .ok (.goto 4, 3) := dk_167 0 4 (dk_at dksX4_cake_1 19 rfl rfl)
theorem dX4_cake_44 : decode cX4_cake 44 = .ok (.iconst 0, 1) := dk_3 (dk_at dksX4_cake_1 22 rfl rfl)
theorem dX4_cake_45 : decode cX4_cake 45 = .ok (.iconst 1, 1) := dk_4 (dk_at dksX4_cake_1 23 rfl rfl)
theorem dX4_cake_46 : decode cX4_cake 46 = .ok (.iconst 5, 1) := dk_8 (dk_at dksX4_cake_2 0 rfl rfl)
theorem dX4_cake_47 : decode cX4_cake 47 = .ok (.invokevirtual 96, 3) := dk_182 0 96 (dk_at dksX4_cake_2 1 rfl rfl)
theorem dX4_cake_50 : decode cX4_cake 50 = .ok (.ifCond .ne 16, 3) := dk_154 0 16 (dk_at dksX4_cake_2 4 rfl rfl)
theorem dX4_cake_53 : decode cX4_cake 53 = .ok (.aload_n 0, 1) := dk_42 (dk_at dksX4_cake_2 7 rfl rfl)
theorem dX4_cake_54 : decode cX4_cake 54 = .ok (.iload_n 1, 1) := dk_27 (dk_at dksX4_cake_2 8 rfl rfl)
theorem dX4_cake_55 : decode cX4_cake 55 = .ok (.bipush 10, 2) := dk_16 10 (dk_at dksX4_cake_2 9 rfl rfl)
theorem dX4_cake_57 : decode cX4_cake 57 = .ok (.idiv, 1) := dk_108 (dk_at dksX4_cake_2 11 rfl rfl)
theorem dX4_cake_58 : decode cX4_cake 58 = .ok (.iconst 1, 1) := dk_4 (dk_at dksX4_cake_2 12 rfl rfl)
theorem dX4_cake_59 : decode cX4_cake 59 = .ok (.iadd, 1) := dk_96 (dk_at dksX4_cake_2 13 rfl rfl)
theorem dX4_cake_60 : decode cX4_cake 60 = .ok (.invokevirtual 103, 3) := dk_182 0 103 (dk_at dksX4_cake_2 14 rfl rfl)
theorem dX4_cake_63 : decode cX4_cake 63 = .ok (.ifCond .eq 5, 3) := dk_153 0 5 (dk_at dksX4_cake_2 17 rfl rfl)
theorem dX4_cake_66 : decode cX4_cake 66 = .ok (.iconst 0, 1) := dk_3 (dk_at dksX4_cake_2 20 rfl rfl)
theorem dX4_cake_67 : decode cX4_cake 67 = .ok (.ireturn, 1) := dk_172 (dk_at dksX4_cake_2 21 rfl rfl)
theorem dX4_cake_68 : decode cX4_cake 68 = .ok (.aload_n 0, 1) := dk_42 (dk_at dksX4_cake_2 22 rfl rfl)
theorem dX4_cake_69 : decode cX4_cake 69 = .ok (.getfield 9, 3) := dk_180 0 9 (dk_at dksX4_cake_3 0 rfl rfl)
theorem dX4_cake_72 : decode cX4_cake 72 = .ok (.bipush 28, 2) := dk_16 28 (dk_at dksX4_cake_3 3 rfl rfl)
theorem dX4_cake_74 : decode cX4_cake 74 = .ok (.aload_n 0, 1) := dk_42 (dk_at dksX4_cake_3 5 rfl rfl)
theorem dX4_cake_75 : decode cX4_cake 75 = .ok (.getfield 9, 3) := dk_180 0 9 (dk_at dksX4_cake_3 6 rfl rfl)
theorem dX4_cake_78 : decode cX4_cake 78 = .ok (.bipush 6, 2) := dk_16 6 (dk_at dksX4_cake_3 9 rfl rfl)
theorem dX4_cake_80 : decode cX4_cake 80 = .ok (.iaload, 1) := dk_46 (dk_at dksX4_cake_3 11 rfl rfl)
theorem dX4_cake_81 : decode cX4_cake 81 = .ok (.iadd, 1) := dk_96 (dk_at dksX4_cake_3 12 rfl rfl)
theorem dX4_cake_82 : decode cX4_cake 82 = .ok (.iload_n 1, 1) := dk_27 (dk_at dksX4_cake_3 13 rfl rfl)
theorem dX4_cake_83 : decode cX4_cake 83 = .ok (.iastore, 1) := dk_79 (dk_at dksX4_cake_3 14 rfl rfl)
theorem dX4_cake_84 : decode cX4_cake 84 = .ok (.aload_n 0, 1) := dk_42 (dk_at dksX4_cake_3 15 rfl rfl)
theorem dX4_cake_85 : decode cX4_cake 85 = .ok (.getfield 9, 3) := dk_180 0 9 (dk_at dksX4_cake_3 16 rfl rfl)
theorem dX4_cake_88 : decode cX4_cake 88 = .ok (.bipush 6, 2) := dk_16 6 (dk_at dksX4_cake_3 19 rfl rfl)
theorem dX4_cake_90 : decode cX4_cake 90 = .ok (.dup2, 1) := dk_92 (dk_at dksX4_cake_3 21 rfl rfl)
theorem dX4_cake_91 : decode cX4_cake 91 = .ok (.iaload, 1) := dk_46 (dk_at dksX4_cake_3 22 rfl rfl)
theorem dX4_cake_92 : decode cX4_cake 92 = .ok (.iconst 1, 1) := dk_4 (dk_at dksX4_cake_3 23 rfl rfl)
theorem dX4_cake_93 : decode cX4_cake 93 = .ok (.iadd, 1) := dk_96 (dk_at dksX4_cake_4 0 rfl rfl)
theorem dX4_cake_94 : decode cX4_cake 94 = .ok (.iastore, 1) := dk_79 (dk_at dksX4_cake_4 1 rfl rfl)
theorem dX4_cake_95 : decode cX4_cake 95 = .ok (.aload_n 0, 1) := dk_42 (dk_at dksX4_cake_4 2 rfl rfl)
theorem dX4_cake_96 : decode cX4_cake 96 = .ok (.aload_n 0, 1) := dk_42 (dk_at dksX4_cake_4 3 rfl rfl)
theorem dX4_cake_97 : decode cX4_cake 97 = .ok (.getfield 9, 3) := dk_180 0 9 (dk_at dksX4_cake_4 4 rfl rfl)
theorem dX4_cake_100 : decode cX4_cake 100 = .ok (.bipush 6, 2) := dk_16 6 (dk_at dksX4_cake_4 7 rfl rfl)
theorem dX4_cake_102 : decode cX4_cake 102 = .ok (.iaload, 1) := dk_46 (dk_at dksX4_cake_4 9 rfl rfl)
theorem dX4_cake_103 : decode cX4_cake 103 = .ok (.iconst 1, 1) := dk_4 (dk_at dksX4_cake_4 10 rfl rfl)
theorem dX4_cake_104 : decode cX4_cake 104 = .ok (.isub, 1) := dk_100 (dk_at dksX4_cake_4 11 rfl rfl)
theorem dX4_cake_105 : decode cX4_cake 105 = .ok (.invokevirtual 110, 3) := dk_182 0 110 (dk_at dksX4_cake_4 12 rfl rfl)
theorem dX4_cake_108 : decode cX4_cake 108 = .ok (.ireturn, 1) := dk_172 (dk_at dksX4_cake_4 15 rfl rfl)
abbrev cX4_rosin : ByteArray := prog_17_method_43_code
def yX4_rosin : MethodName := ⟨RX4, "rosin", "(II)I"⟩
def dkwX4_rosin_0 : List UInt8 := [42, 182, 0, 100, 42, 42, 27, 28, 182, 0, 173, 182, 0, 110, 172]
abbrev dktX4_rosin_0 : List UInt8 := dkwX4_rosin_0 ++ []
theorem dksX4_rosin_0 : cX4_rosin.data.toList.drop 0 = dktX4_rosin_0 := by decide +kernel
theorem dX4_rosin_0 : decode cX4_rosin 0 = .ok (.aload_n 0, 1) := dk_42 (dk_at dksX4_rosin_0 0 rfl rfl)
theorem dX4_rosin_1 : decode cX4_rosin 1 = .ok (.invokevirtual 100, 3) := dk_182 0 100 (dk_at dksX4_rosin_0 1 rfl rfl)
theorem dX4_rosin_4 : decode cX4_rosin 4 = .ok (.aload_n 0, 1) := dk_42 (dk_at dksX4_rosin_0 4 rfl rfl)
theorem dX4_rosin_5 : decode cX4_rosin 5 = .ok (.aload_n 0, 1) := dk_42 (dk_at dksX4_rosin_0 5 rfl rfl)
theorem dX4_rosin_6 : decode cX4_rosin 6 = .ok (.iload_n 1, 1) := dk_27 (dk_at dksX4_rosin_0 6 rfl rfl)
theorem dX4_rosin_7 : decode cX4_rosin 7 = .ok (.iload_n 2, 1) := dk_28 (dk_at dksX4_rosin_0 7 rfl rfl)
theorem dX4_rosin_8 : decode cX4_rosin 8 = .ok (.invokevirtual 173, 3) := dk_182 0 173 (dk_at dksX4_rosin_0 8 rfl rfl)
theorem dX4_rosin_11 : decode cX4_rosin 11 = .ok (.invokevirtual 110, 3) := dk_182 0 110 (dk_at dksX4_rosin_0 11 rfl rfl)
theorem dX4_rosin_14 : decode cX4_rosin 14 = .ok (.ireturn, 1) := dk_172 (dk_at dksX4_rosin_0 14 rfl rfl)
abbrev cX4_rosins : ByteArray := prog_17_method_42_code
def yX4_rosins : MethodName := ⟨RX4, "rosins", "(II)I"⟩
def dkwX4_rosins_7 : List UInt8 := [4, 184, 0, 89, 92, 46, 29, 96, 79, 42, 27, 4, 182, 0, 155, 172]
abbrev dktX4_rosins_7 : List UInt8 := dkwX4_rosins_7 ++ []
def dkwX4_rosins_6 : List UInt8 := [96, 46, 184, 0, 136, 62, 42, 180, 0, 9, 16, 28, 28, 96, 92, 46, 29, 100, 79, 42, 180, 0, 9, 27]
abbrev dktX4_rosins_6 : List UInt8 := dkwX4_rosins_6 ++ dktX4_rosins_7
def dkwX4_rosins_5 : List UInt8 := [182, 0, 96, 153, 0, 5, 3, 172, 16, 9, 42, 27, 4, 182, 0, 155, 100, 42, 180, 0, 9, 16, 28, 28]
abbrev dktX4_rosins_5 : List UInt8 := dkwX4_rosins_5 ++ dktX4_rosins_6
def dkwX4_rosins_4 : List UInt8 := [154, 0, 29, 42, 42, 27, 4, 182, 0, 155, 16, 9, 160, 0, 7, 4, 167, 0, 4, 3, 16, 12, 27]
abbrev dktX4_rosins_4 : List UInt8 := dkwX4_rosins_4 ++ dktX4_rosins_5
def dkwX4_rosins_3 : List UInt8 := [180, 0, 9, 16, 28, 28, 96, 46, 154, 0, 7, 4, 167, 0, 4, 3, 16, 11, 28, 182, 0, 96]
abbrev dktX4_rosins_3 : List UInt8 := dkwX4_rosins_3 ++ dktX4_rosins_4
def dkwX4_rosins_2 : List UInt8 := [182, 0, 155, 154, 0, 7, 4, 167, 0, 4, 3, 16, 10, 3, 182, 0, 96, 154, 0, 56, 42, 42]
abbrev dktX4_rosins_2 : List UInt8 := dkwX4_rosins_2 ++ dktX4_rosins_3
def dkwX4_rosins_1 : List UInt8 := [28, 182, 0, 170, 154, 0, 7, 4, 167, 0, 4, 3, 5, 28, 182, 0, 96, 154, 0, 80, 42, 42, 27, 5]
abbrev dktX4_rosins_1 : List UInt8 := dkwX4_rosins_1 ++ dktX4_rosins_2
def dkwX4_rosins_0 : List UInt8 := [42, 42, 27, 182, 0, 152, 154, 0, 7, 4, 167, 0, 4, 3, 5, 27, 182, 0, 96, 154, 0, 102, 42, 42]
abbrev dktX4_rosins_0 : List UInt8 := dkwX4_rosins_0 ++ dktX4_rosins_1
theorem dksX4_rosins_0 : cX4_rosins.data.toList.drop 0 = dktX4_rosins_0 := by decide +kernel
theorem dksX4_rosins_1 : cX4_rosins.data.toList.drop 24 = dktX4_rosins_1 := dk_seg dksX4_rosins_0 24 rfl rfl
theorem dksX4_rosins_2 : cX4_rosins.data.toList.drop 48 = dktX4_rosins_2 := dk_seg dksX4_rosins_1 24 rfl rfl
theorem dksX4_rosins_3 : cX4_rosins.data.toList.drop 70 = dktX4_rosins_3 := dk_seg dksX4_rosins_2 22 rfl rfl
theorem dksX4_rosins_4 : cX4_rosins.data.toList.drop 92 = dktX4_rosins_4 := dk_seg dksX4_rosins_3 22 rfl rfl
theorem dksX4_rosins_5 : cX4_rosins.data.toList.drop 115 = dktX4_rosins_5 := dk_seg dksX4_rosins_4 23 rfl rfl
theorem dksX4_rosins_6 : cX4_rosins.data.toList.drop 139 = dktX4_rosins_6 := dk_seg dksX4_rosins_5 24 rfl rfl
theorem dksX4_rosins_7 : cX4_rosins.data.toList.drop 163 = dktX4_rosins_7 := dk_seg dksX4_rosins_6 24 rfl rfl
theorem dX4_rosins_0 : decode cX4_rosins 0 = .ok (.aload_n 0, 1) := dk_42 (dk_at dksX4_rosins_0 0 rfl rfl)
theorem dX4_rosins_1 : decode cX4_rosins 1 = .ok (.aload_n 0, 1) := dk_42 (dk_at dksX4_rosins_0 1 rfl rfl)
theorem dX4_rosins_2 : decode cX4_rosins 2 = .ok (.iload_n 1, 1) := dk_27 (dk_at dksX4_rosins_0 2 rfl rfl)
theorem dX4_rosins_3 : decode cX4_rosins 3 = .ok (.invokevirtual 152, 3) := dk_182 0 152 (dk_at dksX4_rosins_0 3 rfl rfl)
theorem dX4_rosins_6 : decode cX4_rosins 6 = .ok (.ifCond .ne 7, 3) := dk_154 0 7 (dk_at dksX4_rosins_0 6 rfl rfl)
theorem dX4_rosins_9 : decode cX4_rosins 9 = .ok (.iconst 1, 1) := dk_4 (dk_at dksX4_rosins_0 9 rfl rfl)
theorem dX4_rosins_10 : decode cX4_rosins 10 = .ok (.goto 4, 3) := dk_167 0 4 (dk_at dksX4_rosins_0 10 rfl rfl)
theorem dX4_rosins_13 : decode cX4_rosins 13 = .ok (.iconst 0, 1) := dk_3 (dk_at dksX4_rosins_0 13 rfl rfl)
theorem dX4_rosins_14 : decode cX4_rosins 14 = .ok (.iconst 2, 1) := dk_5 (dk_at dksX4_rosins_0 14 rfl rfl)
theorem dX4_rosins_15 : decode cX4_rosins 15 = .ok (.iload_n 1, 1) := dk_27 (dk_at dksX4_rosins_0 15 rfl rfl)
theorem dX4_rosins_16 : decode cX4_rosins 16 = .ok (.invokevirtual 96, 3) := dk_182 0 96 (dk_at dksX4_rosins_0 16 rfl rfl)
theorem dX4_rosins_19 : decode cX4_rosins 19 = .ok (.ifCond .ne 102, 3) := dk_154 0 102 (dk_at dksX4_rosins_0 19 rfl rfl)
theorem dX4_rosins_22 : decode cX4_rosins 22 = .ok (.aload_n 0, 1) := dk_42 (dk_at dksX4_rosins_0 22 rfl rfl)
theorem dX4_rosins_23 : decode cX4_rosins 23 = .ok (.aload_n 0, 1) := dk_42 (dk_at dksX4_rosins_0 23 rfl rfl)
theorem dX4_rosins_24 : decode cX4_rosins 24 = .ok (.iload_n 2, 1) := dk_28 (dk_at dksX4_rosins_1 0 rfl rfl)
theorem dX4_rosins_25 : decode cX4_rosins 25 = .ok (.invokevirtual 170, 3) := dk_182 0 170 (dk_at dksX4_rosins_1 1 rfl rfl)
theorem dX4_rosins_28 : decode cX4_rosins 28 = .ok (.ifCond .ne 7, 3) := dk_154 0 7 (dk_at dksX4_rosins_1 4 rfl rfl)
theorem dX4_rosins_31 : decode cX4_rosins 31 = .ok (.iconst 1, 1) := dk_4 (dk_at dksX4_rosins_1 7 rfl rfl)
theorem dX4_rosins_32 : decode cX4_rosins 32 = .ok (.goto 4, 3) := dk_167 0 4 (dk_at dksX4_rosins_1 8 rfl rfl)
theorem dX4_rosins_35 : decode cX4_rosins 35 = .ok (.iconst 0, 1) := dk_3 (dk_at dksX4_rosins_1 11 rfl rfl)
theorem dX4_rosins_36 : decode cX4_rosins 36 = .ok (.iconst 2, 1) := dk_5 (dk_at dksX4_rosins_1 12 rfl rfl)
theorem dX4_rosins_37 : decode cX4_rosins 37 = .ok (.iload_n 2, 1) := dk_28 (dk_at dksX4_rosins_1 13 rfl rfl)
theorem dX4_rosins_38 : decode cX4_rosins 38 = .ok (.invokevirtual 96, 3) := dk_182 0 96 (dk_at dksX4_rosins_1 14 rfl rfl)
theorem dX4_rosins_41 : decode cX4_rosins 41 = .ok (.ifCond .ne 80, 3) := dk_154 0 80 (dk_at dksX4_rosins_1 17 rfl rfl)
theorem dX4_rosins_44 : decode cX4_rosins 44 = .ok (.aload_n 0, 1) := dk_42 (dk_at dksX4_rosins_1 20 rfl rfl)
theorem dX4_rosins_45 : decode cX4_rosins 45 = .ok (.aload_n 0, 1) := dk_42 (dk_at dksX4_rosins_1 21 rfl rfl)
theorem dX4_rosins_46 : decode cX4_rosins 46 = .ok (.iload_n 1, 1) := dk_27 (dk_at dksX4_rosins_1 22 rfl rfl)
theorem dX4_rosins_47 : decode cX4_rosins 47 = .ok (.iconst 2, 1) := dk_5 (dk_at dksX4_rosins_1 23 rfl rfl)
theorem dX4_rosins_48 : decode cX4_rosins 48 = .ok (.invokevirtual 155, 3) := dk_182 0 155 (dk_at dksX4_rosins_2 0 rfl rfl)
theorem dX4_rosins_51 : decode cX4_rosins 51 = .ok (.ifCond .ne 7, 3) := dk_154 0 7 (dk_at dksX4_rosins_2 3 rfl rfl)
theorem dX4_rosins_54 : decode cX4_rosins 54 = .ok (.iconst 1, 1) := dk_4 (dk_at dksX4_rosins_2 6 rfl rfl)
theorem dX4_rosins_55 : decode cX4_rosins 55 = .ok (.goto 4, 3) := dk_167 0 4 (dk_at dksX4_rosins_2 7 rfl rfl)
theorem dX4_rosins_58 : decode cX4_rosins 58 = .ok (.iconst 0, 1) := dk_3 (dk_at dksX4_rosins_2 10 rfl rfl)
theorem dX4_rosins_59 : decode cX4_rosins 59 = .ok (.bipush 10, 2) := dk_16 10 (dk_at dksX4_rosins_2 11 rfl rfl)
theorem dX4_rosins_61 : decode cX4_rosins 61 = .ok (.iconst 0, 1) := dk_3 (dk_at dksX4_rosins_2 13 rfl rfl)
theorem dX4_rosins_62 : decode cX4_rosins 62 = .ok (.invokevirtual 96, 3) := dk_182 0 96 (dk_at dksX4_rosins_2 14 rfl rfl)
theorem dX4_rosins_65 : decode cX4_rosins 65 = .ok (.ifCond .ne 56, 3) := dk_154 0 56 (dk_at dksX4_rosins_2 17 rfl rfl)
theorem dX4_rosins_68 : decode cX4_rosins 68 = .ok (.aload_n 0, 1) := dk_42 (dk_at dksX4_rosins_2 20 rfl rfl)
theorem dX4_rosins_69 : decode cX4_rosins 69 = .ok (.aload_n 0, 1) := dk_42 (dk_at dksX4_rosins_2 21 rfl rfl)
theorem dX4_rosins_70 : decode cX4_rosins 70 = .ok (.getfield 9, 3) := dk_180 0 9 (dk_at dksX4_rosins_3 0 rfl rfl)
theorem dX4_rosins_73 : decode cX4_rosins 73 = .ok (.bipush 28, 2) := dk_16 28 (dk_at dksX4_rosins_3 3 rfl rfl)
theorem dX4_rosins_75 : decode cX4_rosins 75 = .ok (.iload_n 2, 1) := dk_28 (dk_at dksX4_rosins_3 5 rfl rfl)
theorem dX4_rosins_76 : decode cX4_rosins 76 = .ok (.iadd, 1) := dk_96 (dk_at dksX4_rosins_3 6 rfl rfl)
theorem dX4_rosins_77 : decode cX4_rosins 77 = .ok (.iaload, 1) := dk_46 (dk_at dksX4_rosins_3 7 rfl rfl)
theorem dX4_rosins_78 : decode cX4_rosins 78 = .ok (.ifCond .ne 7, 3) := dk_154 0 7 (dk_at dksX4_rosins_3 8 rfl rfl)
theorem dX4_rosins_81 : decode cX4_rosins 81 = .ok (.iconst 1, 1) := dk_4 (dk_at dksX4_rosins_3 11 rfl rfl)
theorem dX4_rosins_82 : decode cX4_rosins 82 = .ok (.goto 4, 3) := dk_167 0 4 (dk_at dksX4_rosins_3 12 rfl rfl)
theorem dX4_rosins_85 : decode cX4_rosins 85 = .ok (.iconst 0, 1) := dk_3 (dk_at dksX4_rosins_3 15 rfl rfl)
theorem dX4_rosins_86 : decode cX4_rosins 86 = .ok (.bipush 11, 2) := dk_16 11 (dk_at dksX4_rosins_3 16 rfl rfl)
theorem dX4_rosins_88 : decode cX4_rosins 88 = .ok (.iload_n 2, 1) := dk_28 (dk_at dksX4_rosins_3 18 rfl rfl)
theorem dX4_rosins_89 : decode cX4_rosins 89 = .ok (.invokevirtual 96, 3) := dk_182 0 96 (dk_at dksX4_rosins_3 19 rfl rfl)
theorem dX4_rosins_92 : decode cX4_rosins 92 = .ok (.ifCond .ne 29, 3) := dk_154 0 29 (dk_at dksX4_rosins_4 0 rfl rfl)
theorem dX4_rosins_95 : decode cX4_rosins 95 = .ok (.aload_n 0, 1) := dk_42 (dk_at dksX4_rosins_4 3 rfl rfl)
theorem dX4_rosins_96 : decode cX4_rosins 96 = .ok (.aload_n 0, 1) := dk_42 (dk_at dksX4_rosins_4 4 rfl rfl)
theorem dX4_rosins_97 : decode cX4_rosins 97 = .ok (.iload_n 1, 1) := dk_27 (dk_at dksX4_rosins_4 5 rfl rfl)
theorem dX4_rosins_98 : decode cX4_rosins 98 = .ok (.iconst 1, 1) := dk_4 (dk_at dksX4_rosins_4 6 rfl rfl)
theorem dX4_rosins_99 : decode cX4_rosins 99 = .ok (.invokevirtual 155, 3) := dk_182 0 155 (dk_at dksX4_rosins_4 7 rfl rfl)
theorem dX4_rosins_102 : decode cX4_rosins 102 = .ok (.bipush 9, 2) := dk_16 9 (dk_at dksX4_rosins_4 10 rfl rfl)
theorem dX4_rosins_104 : decode cX4_rosins 104 = .ok (.if_icmp .ne 7, 3) := dk_160 0 7 (dk_at dksX4_rosins_4 12 rfl rfl)
theorem dX4_rosins_107 : decode cX4_rosins 107 = .ok (.iconst 1, 1) := dk_4 (dk_at dksX4_rosins_4 15 rfl rfl)
theorem dX4_rosins_108 : decode cX4_rosins 108 = .ok (.goto 4, 3) := dk_167 0 4 (dk_at dksX4_rosins_4 16 rfl rfl)
theorem dX4_rosins_111 : decode cX4_rosins 111 = .ok (.iconst 0, 1) := dk_3 (dk_at dksX4_rosins_4 19 rfl rfl)
theorem dX4_rosins_112 : decode cX4_rosins 112 = .ok (.bipush 12, 2) := dk_16 12 (dk_at dksX4_rosins_4 20 rfl rfl)
theorem dX4_rosins_114 : decode cX4_rosins 114 = .ok (.iload_n 1, 1) := dk_27 (dk_at dksX4_rosins_4 22 rfl rfl)
theorem dX4_rosins_115 : decode cX4_rosins 115 = .ok (.invokevirtual 96, 3) := dk_182 0 96 (dk_at dksX4_rosins_5 0 rfl rfl)
theorem dX4_rosins_118 : decode cX4_rosins 118 = .ok (.ifCond .eq 5, 3) := dk_153 0 5 (dk_at dksX4_rosins_5 3 rfl rfl)
theorem dX4_rosins_121 : decode cX4_rosins 121 = .ok (.iconst 0, 1) := dk_3 (dk_at dksX4_rosins_5 6 rfl rfl)
theorem dX4_rosins_122 : decode cX4_rosins 122 = .ok (.ireturn, 1) := dk_172 (dk_at dksX4_rosins_5 7 rfl rfl)
theorem dX4_rosins_123 : decode cX4_rosins 123 = .ok (.bipush 9, 2) := dk_16 9 (dk_at dksX4_rosins_5 8 rfl rfl)
theorem dX4_rosins_125 : decode cX4_rosins 125 = .ok (.aload_n 0, 1) := dk_42 (dk_at dksX4_rosins_5 10 rfl rfl)
theorem dX4_rosins_126 : decode cX4_rosins 126 = .ok (.iload_n 1, 1) := dk_27 (dk_at dksX4_rosins_5 11 rfl rfl)
theorem dX4_rosins_127 : decode cX4_rosins 127 = .ok (.iconst 1, 1) := dk_4 (dk_at dksX4_rosins_5 12 rfl rfl)
theorem dX4_rosins_128 : decode cX4_rosins 128 = .ok (.invokevirtual 155, 3) := dk_182 0 155 (dk_at dksX4_rosins_5 13 rfl rfl)
theorem dX4_rosins_131 : decode cX4_rosins 131 = .ok (.isub, 1) := dk_100 (dk_at dksX4_rosins_5 16 rfl rfl)
theorem dX4_rosins_132 : decode cX4_rosins 132 = .ok (.aload_n 0, 1) := dk_42 (dk_at dksX4_rosins_5 17 rfl rfl)
theorem dX4_rosins_133 : decode cX4_rosins 133 = .ok (.getfield 9, 3) := dk_180 0 9 (dk_at dksX4_rosins_5 18 rfl rfl)
theorem dX4_rosins_136 : decode cX4_rosins 136 = .ok (.bipush 28, 2) := dk_16 28 (dk_at dksX4_rosins_5 21 rfl rfl)
theorem dX4_rosins_138 : decode cX4_rosins 138 = .ok (.iload_n 2, 1) := dk_28 (dk_at dksX4_rosins_5 23 rfl rfl)
theorem dX4_rosins_139 : decode cX4_rosins 139 = .ok (.iadd, 1) := dk_96 (dk_at dksX4_rosins_6 0 rfl rfl)
theorem dX4_rosins_140 : decode cX4_rosins 140 = .ok (.iaload, 1) := dk_46 (dk_at dksX4_rosins_6 1 rfl rfl)
theorem dX4_rosins_141 : decode cX4_rosins 141 = .ok (.invokestatic 136, 3) := dk_184 0 136 (dk_at dksX4_rosins_6 2 rfl rfl)
theorem dX4_rosins_144 : decode cX4_rosins 144 = .ok (.istore_n 3, 1) := dk_62 (dk_at dksX4_rosins_6 5 rfl rfl)
theorem dX4_rosins_145 : decode cX4_rosins 145 = .ok (.aload_n 0, 1) := dk_42 (dk_at dksX4_rosins_6 6 rfl rfl)
theorem dX4_rosins_146 : decode cX4_rosins 146 = .ok (.getfield 9, 3) := dk_180 0 9 (dk_at dksX4_rosins_6 7 rfl rfl)
theorem dX4_rosins_149 : decode cX4_rosins 149 = .ok (.bipush 28, 2) := dk_16 28 (dk_at dksX4_rosins_6 10 rfl rfl)
theorem dX4_rosins_151 : decode cX4_rosins 151 = .ok (.iload_n 2, 1) := dk_28 (dk_at dksX4_rosins_6 12 rfl rfl)
theorem dX4_rosins_152 : decode cX4_rosins 152 = .ok (.iadd, 1) := dk_96 (dk_at dksX4_rosins_6 13 rfl rfl)
theorem dX4_rosins_153 : decode cX4_rosins 153 = .ok (.dup2, 1) := dk_92 (dk_at dksX4_rosins_6 14 rfl rfl)
theorem dX4_rosins_154 : decode cX4_rosins 154 = .ok (.iaload, 1) := dk_46 (dk_at dksX4_rosins_6 15 rfl rfl)
theorem dX4_rosins_155 : decode cX4_rosins 155 = .ok (.iload_n 3, 1) := dk_29 (dk_at dksX4_rosins_6 16 rfl rfl)
theorem dX4_rosins_156 : decode cX4_rosins 156 = .ok (.isub, 1) := dk_100 (dk_at dksX4_rosins_6 17 rfl rfl)
theorem dX4_rosins_157 : decode cX4_rosins 157 = .ok (.iastore, 1) := dk_79 (dk_at dksX4_rosins_6 18 rfl rfl)
theorem dX4_rosins_158 : decode cX4_rosins 158 = .ok (.aload_n 0, 1) := dk_42 (dk_at dksX4_rosins_6 19 rfl rfl)
theorem dX4_rosins_159 : decode cX4_rosins 159 = .ok (.getfield 9, 3) := dk_180 0 9 (dk_at dksX4_rosins_6 20 rfl rfl)
theorem dX4_rosins_162 : decode cX4_rosins 162 = .ok (.iload_n 1, 1) := dk_27 (dk_at dksX4_rosins_6 23 rfl rfl)
theorem dX4_rosins_163 : decode cX4_rosins 163 = .ok (.iconst 1, 1) := dk_4 (dk_at dksX4_rosins_7 0 rfl rfl)
theorem dX4_rosins_164 : decode cX4_rosins 164 = .ok (.invokestatic 89, 3) := dk_184 0 89 (dk_at dksX4_rosins_7 1 rfl rfl)
theorem dX4_rosins_167 : decode cX4_rosins 167 = .ok (.dup2, 1) := dk_92 (dk_at dksX4_rosins_7 4 rfl rfl)
theorem dX4_rosins_168 : decode cX4_rosins 168 = .ok (.iaload, 1) := dk_46 (dk_at dksX4_rosins_7 5 rfl rfl)
theorem dX4_rosins_169 : decode cX4_rosins 169 = .ok (.iload_n 3, 1) := dk_29 (dk_at dksX4_rosins_7 6 rfl rfl)
theorem dX4_rosins_170 : decode cX4_rosins 170 = .ok (.iadd, 1) := dk_96 (dk_at dksX4_rosins_7 7 rfl rfl)
theorem dX4_rosins_171 : decode cX4_rosins 171 = .ok (.iastore, 1) := dk_79 (dk_at dksX4_rosins_7 8 rfl rfl)
theorem dX4_rosins_172 : decode cX4_rosins 172 = .ok (.aload_n 0, 1) := dk_42 (dk_at dksX4_rosins_7 9 rfl rfl)
theorem dX4_rosins_173 : decode cX4_rosins 173 = .ok (.iload_n 1, 1) := dk_27 (dk_at dksX4_rosins_7 10 rfl rfl)
theorem dX4_rosins_174 : decode cX4_rosins 174 = .ok (.iconst 1, 1) := dk_4 (dk_at dksX4_rosins_7 11 rfl rfl)
theorem dX4_rosins_175 : decode cX4_rosins 175 = .ok (.invokevirtual 155, 3) := dk_182 0 155 (dk_at dksX4_rosins_7 12 rfl rfl)
theorem dX4_rosins_178 : decode cX4_rosins 178 = .ok (.ireturn, 1) := dk_172 (dk_at dksX4_rosins_7 15 rfl rfl)
abbrev cX4_isCake : ByteArray := prog_17_method_21_code
def yX4_isCake : MethodName := ⟨RX4, "isCake", "(I)Z"⟩
def dkwX4_isCake_0 : List UInt8 := [27, 3, 42, 180, 0, 9, 16, 6, 46, 4, 100, 184, 0, 92, 172]
abbrev dktX4_isCake_0 : List UInt8 := dkwX4_isCake_0 ++ []
theorem dksX4_isCake_0 : cX4_isCake.data.toList.drop 0 = dktX4_isCake_0 := by decide +kernel
theorem dX4_isCake_0 : decode cX4_isCake 0 = .ok (.iload_n 1, 1) := dk_27 (dk_at dksX4_isCake_0 0 rfl rfl)
theorem dX4_isCake_1 : decode cX4_isCake 1 = .ok (.iconst 0, 1) := dk_3 (dk_at dksX4_isCake_0 1 rfl rfl)
theorem dX4_isCake_2 : decode cX4_isCake 2 = .ok (.aload_n 0, 1) := dk_42 (dk_at dksX4_isCake_0 2 rfl rfl)
theorem dX4_isCake_3 : decode cX4_isCake 3 = .ok (.getfield 9, 3) := dk_180 0 9 (dk_at dksX4_isCake_0 3 rfl rfl)
theorem dX4_isCake_6 : decode cX4_isCake 6 = .ok (.bipush 6, 2) := dk_16 6 (dk_at dksX4_isCake_0 6 rfl rfl)
theorem dX4_isCake_8 : decode cX4_isCake 8 = .ok (.iaload, 1) := dk_46 (dk_at dksX4_isCake_0 8 rfl rfl)
theorem dX4_isCake_9 : decode cX4_isCake 9 = .ok (.iconst 1, 1) := dk_4 (dk_at dksX4_isCake_0 9 rfl rfl)
theorem dX4_isCake_10 : decode cX4_isCake 10 = .ok (.isub, 1) := dk_100 (dk_at dksX4_isCake_0 10 rfl rfl)
theorem dX4_isCake_11 : decode cX4_isCake 11 = .ok (.invokestatic 92, 3) := dk_184 0 92 (dk_at dksX4_isCake_0 11 rfl rfl)
theorem dX4_isCake_14 : decode cX4_isCake 14 = .ok (.ireturn, 1) := dk_172 (dk_at dksX4_isCake_0 14 rfl rfl)
abbrev cX4_play : ByteArray := prog_17_method_46_code
def yX4_play : MethodName := ⟨RX4, "play", "(II)I"⟩
def dkwX4_play_0 : List UInt8 := [42, 182, 0, 100, 42, 42, 27, 28, 182, 0, 180, 182, 0, 110, 172]
abbrev dktX4_play_0 : List UInt8 := dkwX4_play_0 ++ []
theorem dksX4_play_0 : cX4_play.data.toList.drop 0 = dktX4_play_0 := by decide +kernel
theorem dX4_play_0 : decode cX4_play 0 = .ok (.aload_n 0, 1) := dk_42 (dk_at dksX4_play_0 0 rfl rfl)
theorem dX4_play_1 : decode cX4_play 1 = .ok (.invokevirtual 100, 3) := dk_182 0 100 (dk_at dksX4_play_0 1 rfl rfl)
theorem dX4_play_4 : decode cX4_play 4 = .ok (.aload_n 0, 1) := dk_42 (dk_at dksX4_play_0 4 rfl rfl)
theorem dX4_play_5 : decode cX4_play 5 = .ok (.aload_n 0, 1) := dk_42 (dk_at dksX4_play_0 5 rfl rfl)
theorem dX4_play_6 : decode cX4_play 6 = .ok (.iload_n 1, 1) := dk_27 (dk_at dksX4_play_0 6 rfl rfl)
theorem dX4_play_7 : decode cX4_play 7 = .ok (.iload_n 2, 1) := dk_28 (dk_at dksX4_play_0 7 rfl rfl)
theorem dX4_play_8 : decode cX4_play 8 = .ok (.invokevirtual 180, 3) := dk_182 0 180 (dk_at dksX4_play_0 8 rfl rfl)
theorem dX4_play_11 : decode cX4_play 11 = .ok (.invokevirtual 110, 3) := dk_182 0 110 (dk_at dksX4_play_0 11 rfl rfl)
theorem dX4_play_14 : decode cX4_play 14 = .ok (.ireturn, 1) := dk_172 (dk_at dksX4_play_0 14 rfl rfl)
abbrev cX4_plays : ByteArray := prog_17_method_45_code
def yX4_plays : MethodName := ⟨RX4, "plays", "(II)I"⟩
def dkwX4_plays_8 : List UInt8 := [167, 255, 155, 42, 180, 0, 9, 27, 8, 184, 0, 89, 92, 46, 29, 96, 79, 29, 172]
abbrev dktX4_plays_8 : List UInt8 := dkwX4_plays_8 ++ []
def dkwX4_plays_7 : List UInt8 := [180, 0, 9, 27, 4, 184, 0, 89, 3, 42, 27, 4, 182, 0, 155, 4, 100, 184, 0, 114, 79, 132, 3, 1]
abbrev dktX4_plays_7 : List UInt8 := dkwX4_plays_7 ++ dktX4_plays_8
def dkwX4_plays_6 : List UInt8 := [5, 184, 0, 89, 92, 46, 21, 4, 100, 79, 42, 180, 0, 9, 16, 10, 92, 46, 21, 4, 96, 79, 42]
abbrev dktX4_plays_6 : List UInt8 := dkwX4_plays_6 ++ dktX4_plays_7
def dkwX4_plays_5 : List UInt8 := [27, 4, 182, 0, 155, 158, 0, 7, 5, 167, 0, 5, 16, 7, 184, 0, 136, 54, 4, 42, 180, 0, 9, 27]
abbrev dktX4_plays_5 : List UInt8 := dkwX4_plays_5 ++ dktX4_plays_6
def dkwX4_plays_4 : List UInt8 := [27, 5, 182, 0, 155, 42, 27, 3, 182, 0, 155, 184, 0, 176, 153, 0, 84, 42, 27, 5, 182, 0, 155, 42]
abbrev dktX4_plays_4 : List UInt8 := dkwX4_plays_4 ++ dktX4_plays_5
def dkwX4_plays_3 : List UInt8 := [16, 10, 42, 27, 5, 182, 0, 155, 182, 0, 96, 153, 0, 5, 3, 172, 3, 62, 29, 28, 162, 0, 102, 42]
abbrev dktX4_plays_3 : List UInt8 := dkwX4_plays_3 ++ dktX4_plays_4
def dkwX4_plays_2 : List UInt8 := [42, 27, 5, 182, 0, 155, 42, 27, 3, 182, 0, 155, 184, 0, 176, 154, 0, 7, 4, 167, 0, 4, 3]
abbrev dktX4_plays_2 : List UInt8 := dkwX4_plays_2 ++ dktX4_plays_3
def dkwX4_plays_1 : List UInt8 := [4, 17, 0, 200, 184, 0, 92, 154, 0, 7, 4, 167, 0, 4, 3, 6, 28, 182, 0, 96, 154, 0, 41, 42]
abbrev dktX4_plays_1 : List UInt8 := dkwX4_plays_1 ++ dktX4_plays_2
def dkwX4_plays_0 : List UInt8 := [42, 42, 27, 182, 0, 152, 154, 0, 7, 4, 167, 0, 4, 3, 5, 27, 182, 0, 96, 154, 0, 66, 42, 28]
abbrev dktX4_plays_0 : List UInt8 := dkwX4_plays_0 ++ dktX4_plays_1
theorem dksX4_plays_0 : cX4_plays.data.toList.drop 0 = dktX4_plays_0 := by decide +kernel
theorem dksX4_plays_1 : cX4_plays.data.toList.drop 24 = dktX4_plays_1 := dk_seg dksX4_plays_0 24 rfl rfl
theorem dksX4_plays_2 : cX4_plays.data.toList.drop 48 = dktX4_plays_2 := dk_seg dksX4_plays_1 24 rfl rfl
theorem dksX4_plays_3 : cX4_plays.data.toList.drop 71 = dktX4_plays_3 := dk_seg dksX4_plays_2 23 rfl rfl
theorem dksX4_plays_4 : cX4_plays.data.toList.drop 95 = dktX4_plays_4 := dk_seg dksX4_plays_3 24 rfl rfl
theorem dksX4_plays_5 : cX4_plays.data.toList.drop 119 = dktX4_plays_5 := dk_seg dksX4_plays_4 24 rfl rfl
theorem dksX4_plays_6 : cX4_plays.data.toList.drop 143 = dktX4_plays_6 := dk_seg dksX4_plays_5 24 rfl rfl
theorem dksX4_plays_7 : cX4_plays.data.toList.drop 166 = dktX4_plays_7 := dk_seg dksX4_plays_6 23 rfl rfl
theorem dksX4_plays_8 : cX4_plays.data.toList.drop 190 = dktX4_plays_8 := dk_seg dksX4_plays_7 24 rfl rfl
theorem dX4_plays_0 : decode cX4_plays 0 = .ok (.aload_n 0, 1) := dk_42 (dk_at dksX4_plays_0 0 rfl rfl)
theorem dX4_plays_1 : decode cX4_plays 1 = .ok (.aload_n 0, 1) := dk_42 (dk_at dksX4_plays_0 1 rfl rfl)
theorem dX4_plays_2 : decode cX4_plays 2 = .ok (.iload_n 1, 1) := dk_27 (dk_at dksX4_plays_0 2 rfl rfl)
theorem dX4_plays_3 : decode cX4_plays 3 = .ok (.invokevirtual 152, 3) := dk_182 0 152 (dk_at dksX4_plays_0 3 rfl rfl)
theorem dX4_plays_6 : decode cX4_plays 6 = .ok (.ifCond .ne 7, 3) := dk_154 0 7 (dk_at dksX4_plays_0 6 rfl rfl)
theorem dX4_plays_9 : decode cX4_plays 9 = .ok (.iconst 1, 1) := dk_4 (dk_at dksX4_plays_0 9 rfl rfl)
theorem dX4_plays_10 : decode cX4_plays 10 = .ok (.goto 4, 3) := dk_167 0 4 (dk_at dksX4_plays_0 10 rfl rfl)
theorem dX4_plays_13 : decode cX4_plays 13 = .ok (.iconst 0, 1) := dk_3 (dk_at dksX4_plays_0 13 rfl rfl)
theorem dX4_plays_14 : decode cX4_plays 14 = .ok (.iconst 2, 1) := dk_5 (dk_at dksX4_plays_0 14 rfl rfl)
theorem dX4_plays_15 : decode cX4_plays 15 = .ok (.iload_n 1, 1) := dk_27 (dk_at dksX4_plays_0 15 rfl rfl)
theorem dX4_plays_16 : decode cX4_plays 16 = .ok (.invokevirtual 96, 3) := dk_182 0 96 (dk_at dksX4_plays_0 16 rfl rfl)
theorem dX4_plays_19 : decode cX4_plays 19 = .ok (.ifCond .ne 66, 3) := dk_154 0 66 (dk_at dksX4_plays_0 19 rfl rfl)
theorem dX4_plays_22 : decode cX4_plays 22 = .ok (.aload_n 0, 1) := dk_42 (dk_at dksX4_plays_0 22 rfl rfl)
theorem dX4_plays_23 : decode cX4_plays 23 = .ok (.iload_n 2, 1) := dk_28 (dk_at dksX4_plays_0 23 rfl rfl)
theorem dX4_plays_24 : decode cX4_plays 24 = .ok (.iconst 1, 1) := dk_4 (dk_at dksX4_plays_1 0 rfl rfl)
theorem dX4_plays_25 : decode cX4_plays 25 = .ok (.sipush 200, 3) := dk_17 0 200 (dk_at dksX4_plays_1 1 rfl rfl)
theorem dX4_plays_28 : decode cX4_plays 28 = .ok (.invokestatic 92, 3) := dk_184 0 92 (dk_at dksX4_plays_1 4 rfl rfl)
theorem dX4_plays_31 : decode cX4_plays 31 = .ok (.ifCond .ne 7, 3) := dk_154 0 7 (dk_at dksX4_plays_1 7 rfl rfl)
theorem dX4_plays_34 : decode cX4_plays 34 = .ok (.iconst 1, 1) := dk_4 (dk_at dksX4_plays_1 10 rfl rfl)
theorem dX4_plays_35 : decode cX4_plays 35 = .ok (.goto 4, 3) := dk_167 0 4 (dk_at dksX4_plays_1 11 rfl rfl)
theorem dX4_plays_38 : decode cX4_plays 38 = .ok (.iconst 0, 1) := dk_3 (dk_at dksX4_plays_1 14 rfl rfl)
theorem dX4_plays_39 : decode cX4_plays 39 = .ok (.iconst 3, 1) := dk_6 (dk_at dksX4_plays_1 15 rfl rfl)
theorem dX4_plays_40 : decode cX4_plays 40 = .ok (.iload_n 2, 1) := dk_28 (dk_at dksX4_plays_1 16 rfl rfl)
theorem dX4_plays_41 : decode cX4_plays 41 = .ok (.invokevirtual 96, 3) := dk_182 0 96 (dk_at dksX4_plays_1 17 rfl rfl)
theorem dX4_plays_44 : decode cX4_plays 44 = .ok (.ifCond .ne 41, 3) := dk_154 0 41 (dk_at dksX4_plays_1 20 rfl rfl)
theorem dX4_plays_47 : decode cX4_plays 47 = .ok (.aload_n 0, 1) := dk_42 (dk_at dksX4_plays_1 23 rfl rfl)
theorem dX4_plays_48 : decode cX4_plays 48 = .ok (.aload_n 0, 1) := dk_42 (dk_at dksX4_plays_2 0 rfl rfl)
theorem dX4_plays_49 : decode cX4_plays 49 = .ok (.iload_n 1, 1) := dk_27 (dk_at dksX4_plays_2 1 rfl rfl)
theorem dX4_plays_50 : decode cX4_plays 50 = .ok (.iconst 2, 1) := dk_5 (dk_at dksX4_plays_2 2 rfl rfl)
theorem dX4_plays_51 : decode cX4_plays 51 = .ok (.invokevirtual 155, 3) := dk_182 0 155 (dk_at dksX4_plays_2 3 rfl rfl)
theorem dX4_plays_54 : decode cX4_plays 54 = .ok (.aload_n 0, 1) := dk_42 (dk_at dksX4_plays_2 6 rfl rfl)
theorem dX4_plays_55 : decode cX4_plays 55 = .ok (.iload_n 1, 1) := dk_27 (dk_at dksX4_plays_2 7 rfl rfl)
theorem dX4_plays_56 : decode cX4_plays 56 = .ok (.iconst 0, 1) := dk_3 (dk_at dksX4_plays_2 8 rfl rfl)
theorem dX4_plays_57 : decode cX4_plays 57 = .ok (.invokevirtual 155, 3) := dk_182 0 155 (dk_at dksX4_plays_2 9 rfl rfl)
theorem dX4_plays_60 : decode cX4_plays 60 = .ok (.invokestatic 176, 3) := dk_184 0 176 (dk_at dksX4_plays_2 12 rfl rfl)
theorem dX4_plays_63 : decode cX4_plays 63 = .ok (.ifCond .ne 7, 3) := dk_154 0 7 (dk_at dksX4_plays_2 15 rfl rfl)
theorem dX4_plays_66 : decode cX4_plays 66 = .ok (.iconst 1, 1) := dk_4 (dk_at dksX4_plays_2 18 rfl rfl)
theorem dX4_plays_67 : decode cX4_plays 67 = .ok (.goto 4, 3) := dk_167 0 4 (dk_at dksX4_plays_2 19 rfl rfl)
theorem dX4_plays_70 : decode cX4_plays 70 = .ok (.iconst 0, 1) := dk_3 (dk_at dksX4_plays_2 22 rfl rfl)
theorem dX4_plays_71 : decode cX4_plays 71 = .ok (.bipush 10, 2) := dk_16 10 (dk_at dksX4_plays_3 0 rfl rfl)
theorem dX4_plays_73 : decode cX4_plays 73 = .ok (.aload_n 0, 1) := dk_42 (dk_at dksX4_plays_3 2 rfl rfl)
theorem dX4_plays_74 : decode cX4_plays 74 = .ok (.iload_n 1, 1) := dk_27 (dk_at dksX4_plays_3 3 rfl rfl)
theorem dX4_plays_75 : decode cX4_plays 75 = .ok (.iconst 2, 1) := dk_5 (dk_at dksX4_plays_3 4 rfl rfl)
theorem dX4_plays_76 : decode cX4_plays 76 = .ok (.invokevirtual 155, 3) := dk_182 0 155 (dk_at dksX4_plays_3 5 rfl rfl)
theorem dX4_plays_79 : decode cX4_plays 79 = .ok (.invokevirtual 96, 3) := dk_182 0 96 (dk_at dksX4_plays_3 8 rfl rfl)
theorem dX4_plays_82 : decode cX4_plays 82 = .ok (.ifCond .eq 5, 3) := dk_153 0 5 (dk_at dksX4_plays_3 11 rfl rfl)
theorem dX4_plays_85 : decode cX4_plays 85 = .ok (.iconst 0, 1) := dk_3 (dk_at dksX4_plays_3 14 rfl rfl)
theorem dX4_plays_86 : decode cX4_plays 86 = .ok (.ireturn, 1) := dk_172 (dk_at dksX4_plays_3 15 rfl rfl)
theorem dX4_plays_87 : decode cX4_plays 87 = .ok (.iconst 0, 1) := dk_3 (dk_at dksX4_plays_3 16 rfl rfl)
theorem dX4_plays_88 : decode cX4_plays 88 = .ok (.istore_n 3, 1) := dk_62 (dk_at dksX4_plays_3 17 rfl rfl)
theorem dX4_plays_89 : decode cX4_plays 89 = .ok (.iload_n 3, 1) := dk_29 (dk_at dksX4_plays_3 18 rfl rfl)
theorem dX4_plays_90 : decode cX4_plays 90 = .ok (.iload_n 2, 1) := dk_28 (dk_at dksX4_plays_3 19 rfl rfl)
theorem dX4_plays_91 : decode cX4_plays 91 = .ok (.if_icmp .ge 102, 3) := dk_162 0 102 (dk_at dksX4_plays_3 20 rfl rfl)
theorem dX4_plays_94 : decode cX4_plays 94 = .ok (.aload_n 0, 1) := dk_42 (dk_at dksX4_plays_3 23 rfl rfl)
theorem dX4_plays_95 : decode cX4_plays 95 = .ok (.iload_n 1, 1) := dk_27 (dk_at dksX4_plays_4 0 rfl rfl)
theorem dX4_plays_96 : decode cX4_plays 96 = .ok (.iconst 2, 1) := dk_5 (dk_at dksX4_plays_4 1 rfl rfl)
theorem dX4_plays_97 : decode cX4_plays 97 = .ok (.invokevirtual 155, 3) := dk_182 0 155 (dk_at dksX4_plays_4 2 rfl rfl)
theorem dX4_plays_100 : decode cX4_plays 100 = .ok (.aload_n 0, 1) := dk_42 (dk_at dksX4_plays_4 5 rfl rfl)
theorem dX4_plays_101 : decode cX4_plays 101 = .ok (.iload_n 1, 1) := dk_27 (dk_at dksX4_plays_4 6 rfl rfl)
theorem dX4_plays_102 : decode cX4_plays 102 = .ok (.iconst 0, 1) := dk_3 (dk_at dksX4_plays_4 7 rfl rfl)
theorem dX4_plays_103 : decode cX4_plays 103 = .ok (.invokevirtual 155, 3) := dk_182 0 155 (dk_at dksX4_plays_4 8 rfl rfl)
theorem dX4_plays_106 : decode cX4_plays 106 = .ok (.invokestatic 176, 3) := dk_184 0 176 (dk_at dksX4_plays_4 11 rfl rfl)
theorem dX4_plays_109 : decode cX4_plays 109 = .ok (.ifCond .eq 84, 3) := dk_153 0 84 (dk_at dksX4_plays_4 14 rfl rfl)
theorem dX4_plays_112 : decode cX4_plays 112 = .ok (.aload_n 0, 1) := dk_42 (dk_at dksX4_plays_4 17 rfl rfl)
theorem dX4_plays_113 : decode cX4_plays 113 = .ok (.iload_n 1, 1) := dk_27 (dk_at dksX4_plays_4 18 rfl rfl)
theorem dX4_plays_114 : decode cX4_plays 114 = .ok (.iconst 2, 1) := dk_5 (dk_at dksX4_plays_4 19 rfl rfl)
theorem dX4_plays_115 : decode cX4_plays 115 = .ok (.invokevirtual 155, 3) := dk_182 0 155 (dk_at dksX4_plays_4 20 rfl rfl)
theorem dX4_plays_118 : decode cX4_plays 118 = .ok (.aload_n 0, 1) := dk_42 (dk_at dksX4_plays_4 23 rfl rfl)
theorem dX4_plays_119 : decode cX4_plays 119 = .ok (.iload_n 1, 1) := dk_27 (dk_at dksX4_plays_5 0 rfl rfl)
theorem dX4_plays_120 : decode cX4_plays 120 = .ok (.iconst 1, 1) := dk_4 (dk_at dksX4_plays_5 1 rfl rfl)
theorem dX4_plays_121 : decode cX4_plays 121 = .ok (.invokevirtual 155, 3) := dk_182 0 155 (dk_at dksX4_plays_5 2 rfl rfl)
theorem dX4_plays_124 : decode cX4_plays 124 = .ok (.ifCond .le 7, 3) := dk_158 0 7 (dk_at dksX4_plays_5 5 rfl rfl)
theorem dX4_plays_127 : decode cX4_plays 127 = .ok (.iconst 2, 1) := dk_5 (dk_at dksX4_plays_5 8 rfl rfl)
theorem dX4_plays_128 : decode cX4_plays 128 = .ok (.goto 5, 3) := dk_167 0 5 (dk_at dksX4_plays_5 9 rfl rfl)
theorem dX4_plays_131 : decode cX4_plays 131 = .ok (.bipush 7, 2) := dk_16 7 (dk_at dksX4_plays_5 12 rfl rfl)
theorem dX4_plays_133 : decode cX4_plays 133 = .ok (.invokestatic 136, 3) := dk_184 0 136 (dk_at dksX4_plays_5 14 rfl rfl)
theorem dX4_plays_136 : decode cX4_plays 136 = .ok (.istore 4, 2) := dk_54 4 (dk_at dksX4_plays_5 17 rfl rfl)
theorem dX4_plays_138 : decode cX4_plays 138 = .ok (.aload_n 0, 1) := dk_42 (dk_at dksX4_plays_5 19 rfl rfl)
theorem dX4_plays_139 : decode cX4_plays 139 = .ok (.getfield 9, 3) := dk_180 0 9 (dk_at dksX4_plays_5 20 rfl rfl)
theorem dX4_plays_142 : decode cX4_plays 142 = .ok (.iload_n 1, 1) := dk_27 (dk_at dksX4_plays_5 23 rfl rfl)
theorem dX4_plays_143 : decode cX4_plays 143 = .ok (.iconst 2, 1) := dk_5 (dk_at dksX4_plays_6 0 rfl rfl)
theorem dX4_plays_144 : decode cX4_plays 144 = .ok (.invokestatic 89, 3) := dk_184 0 89 (dk_at dksX4_plays_6 1 rfl rfl)
theorem dX4_plays_147 : decode cX4_plays 147 = .ok (.dup2, 1) := dk_92 (dk_at dksX4_plays_6 4 rfl rfl)
theorem dX4_plays_148 : decode cX4_plays 148 = .ok (.iaload, 1) := dk_46 (dk_at dksX4_plays_6 5 rfl rfl)
theorem dX4_plays_149 : decode cX4_plays 149 = .ok (.iload 4, 2) := dk_21 4 (dk_at dksX4_plays_6 6 rfl rfl)
theorem dX4_plays_151 : decode cX4_plays 151 = .ok (.isub, 1) := dk_100 (dk_at dksX4_plays_6 8 rfl rfl)
theorem dX4_plays_152 : decode cX4_plays 152 = .ok (.iastore, 1) := dk_79 (dk_at dksX4_plays_6 9 rfl rfl)
theorem dX4_plays_153 : decode cX4_plays 153 = .ok (.aload_n 0, 1) := dk_42 (dk_at dksX4_plays_6 10 rfl rfl)
theorem dX4_plays_154 : decode cX4_plays 154 = .ok (.getfield 9, 3) := dk_180 0 9 (dk_at dksX4_plays_6 11 rfl rfl)
theorem dX4_plays_157 : decode cX4_plays 157 = .ok (.bipush 10, 2) := dk_16 10 (dk_at dksX4_plays_6 14 rfl rfl)
theorem dX4_plays_159 : decode cX4_plays 159 = .ok (.dup2, 1) := dk_92 (dk_at dksX4_plays_6 16 rfl rfl)
theorem dX4_plays_160 : decode cX4_plays 160 = .ok (.iaload, 1) := dk_46 (dk_at dksX4_plays_6 17 rfl rfl)
theorem dX4_plays_161 : decode cX4_plays 161 = .ok (.iload 4, 2) := dk_21 4 (dk_at dksX4_plays_6 18 rfl rfl)
theorem dX4_plays_163 : decode cX4_plays 163 = .ok (.iadd, 1) := dk_96 (dk_at dksX4_plays_6 20 rfl rfl)
theorem dX4_plays_164 : decode cX4_plays 164 = .ok (.iastore, 1) := dk_79 (dk_at dksX4_plays_6 21 rfl rfl)
theorem dX4_plays_165 : decode cX4_plays 165 = .ok (.aload_n 0, 1) := dk_42 (dk_at dksX4_plays_6 22 rfl rfl)
theorem dX4_plays_166 : decode cX4_plays 166 = .ok (.getfield 9, 3) := dk_180 0 9 (dk_at dksX4_plays_7 0 rfl rfl)
theorem dX4_plays_169 : decode cX4_plays 169 = .ok (.iload_n 1, 1) := dk_27 (dk_at dksX4_plays_7 3 rfl rfl)
theorem dX4_plays_170 : decode cX4_plays 170 = .ok (.iconst 1, 1) := dk_4 (dk_at dksX4_plays_7 4 rfl rfl)
theorem dX4_plays_171 : decode cX4_plays 171 = .ok (.invokestatic 89, 3) := dk_184 0 89 (dk_at dksX4_plays_7 5 rfl rfl)
theorem dX4_plays_174 : decode cX4_plays 174 = .ok (.iconst 0, 1) := dk_3 (dk_at dksX4_plays_7 8 rfl rfl)
theorem dX4_plays_175 : decode cX4_plays 175 = .ok (.aload_n 0, 1) := dk_42 (dk_at dksX4_plays_7 9 rfl rfl)
theorem dX4_plays_176 : decode cX4_plays 176 = .ok (.iload_n 1, 1) := dk_27 (dk_at dksX4_plays_7 10 rfl rfl)
theorem dX4_plays_177 : decode cX4_plays 177 = .ok (.iconst 1, 1) := dk_4 (dk_at dksX4_plays_7 11 rfl rfl)
theorem dX4_plays_178 : decode cX4_plays 178 = .ok (.invokevirtual 155, 3) := dk_182 0 155 (dk_at dksX4_plays_7 12 rfl rfl)
theorem dX4_plays_181 : decode cX4_plays 181 = .ok (.iconst 1, 1) := dk_4 (dk_at dksX4_plays_7 15 rfl rfl)
theorem dX4_plays_182 : decode cX4_plays 182 = .ok (.isub, 1) := dk_100 (dk_at dksX4_plays_7 16 rfl rfl)
theorem dX4_plays_183 : decode cX4_plays 183 = .ok (.invokestatic 114, 3) := dk_184 0 114 (dk_at dksX4_plays_7 17 rfl rfl)
theorem dX4_plays_186 : decode cX4_plays 186 = .ok (.iastore, 1) := dk_79 (dk_at dksX4_plays_7 20 rfl rfl)
theorem dX4_plays_187 : decode cX4_plays 187 = .ok (.iinc 3 1, 3) := dk_132 3 1 (dk_at dksX4_plays_7 21 rfl rfl)
theorem dX4_plays_190 : decode cX4_plays 190 = .ok (.goto (-101), 3) := dk_167 255 155 (dk_at dksX4_plays_8 0 rfl rfl)
theorem dX4_plays_193 : decode cX4_plays 193 = .ok (.aload_n 0, 1) := dk_42 (dk_at dksX4_plays_8 3 rfl rfl)
theorem dX4_plays_194 : decode cX4_plays 194 = .ok (.getfield 9, 3) := dk_180 0 9 (dk_at dksX4_plays_8 4 rfl rfl)
theorem dX4_plays_197 : decode cX4_plays 197 = .ok (.iload_n 1, 1) := dk_27 (dk_at dksX4_plays_8 7 rfl rfl)
theorem dX4_plays_198 : decode cX4_plays 198 = .ok (.iconst 5, 1) := dk_8 (dk_at dksX4_plays_8 8 rfl rfl)
theorem dX4_plays_199 : decode cX4_plays 199 = .ok (.invokestatic 89, 3) := dk_184 0 89 (dk_at dksX4_plays_8 9 rfl rfl)
theorem dX4_plays_202 : decode cX4_plays 202 = .ok (.dup2, 1) := dk_92 (dk_at dksX4_plays_8 12 rfl rfl)
theorem dX4_plays_203 : decode cX4_plays 203 = .ok (.iaload, 1) := dk_46 (dk_at dksX4_plays_8 13 rfl rfl)
theorem dX4_plays_204 : decode cX4_plays 204 = .ok (.iload_n 3, 1) := dk_29 (dk_at dksX4_plays_8 14 rfl rfl)
theorem dX4_plays_205 : decode cX4_plays 205 = .ok (.iadd, 1) := dk_96 (dk_at dksX4_plays_8 15 rfl rfl)
theorem dX4_plays_206 : decode cX4_plays 206 = .ok (.iastore, 1) := dk_79 (dk_at dksX4_plays_8 16 rfl rfl)
theorem dX4_plays_207 : decode cX4_plays 207 = .ok (.iload_n 3, 1) := dk_29 (dk_at dksX4_plays_8 17 rfl rfl)
theorem dX4_plays_208 : decode cX4_plays 208 = .ok (.ireturn, 1) := dk_172 (dk_at dksX4_plays_8 18 rfl rfl)
abbrev cX4_canBePlayed : ByteArray := prog_17_method_44_code
def yX4_canBePlayed : MethodName := ⟨RX4, "canBePlayed", "(II)Z"⟩
def dkwX4_canBePlayed_0 : List UInt8 := [5, 26, 104, 27, 184, 0, 161, 161, 0, 7, 4, 167, 0, 4, 3, 172]
abbrev dktX4_canBePlayed_0 : List UInt8 := dkwX4_canBePlayed_0 ++ []
theorem dksX4_canBePlayed_0 : cX4_canBePlayed.data.toList.drop 0 = dktX4_canBePlayed_0 := by decide +kernel
theorem dX4_canBePlayed_0 : decode cX4_canBePlayed 0 = .ok (.iconst 2, 1) := dk_5 (dk_at dksX4_canBePlayed_0 0 rfl rfl)
theorem dX4_canBePlayed_1 : decode cX4_canBePlayed 1 = .ok (.iload_n 0, 1) := dk_26 (dk_at dksX4_canBePlayed_0 1 rfl rfl)
theorem dX4_canBePlayed_2 : decode cX4_canBePlayed 2 = .ok (.imul, 1) := dk_104 (dk_at dksX4_canBePlayed_0 2 rfl rfl)
theorem dX4_canBePlayed_3 : decode cX4_canBePlayed 3 = .ok (.iload_n 1, 1) := dk_27 (dk_at dksX4_canBePlayed_0 3 rfl rfl)
theorem dX4_canBePlayed_4 : decode cX4_canBePlayed 4 = .ok (.invokestatic 161, 3) := dk_184 0 161 (dk_at dksX4_canBePlayed_0 4 rfl rfl)
theorem dX4_canBePlayed_7 : decode cX4_canBePlayed 7 = .ok (.if_icmp .lt 7, 3) := dk_161 0 7 (dk_at dksX4_canBePlayed_0 7 rfl rfl)
theorem dX4_canBePlayed_10 : decode cX4_canBePlayed 10 = .ok (.iconst 1, 1) := dk_4 (dk_at dksX4_canBePlayed_0 10 rfl rfl)
theorem dX4_canBePlayed_11 : decode cX4_canBePlayed 11 = .ok (.goto 4, 3) := dk_167 0 4 (dk_at dksX4_canBePlayed_0 11 rfl rfl)
theorem dX4_canBePlayed_14 : decode cX4_canBePlayed 14 = .ok (.iconst 0, 1) := dk_3 (dk_at dksX4_canBePlayed_0 14 rfl rfl)
theorem dX4_canBePlayed_15 : decode cX4_canBePlayed 15 = .ok (.ireturn, 1) := dk_172 (dk_at dksX4_canBePlayed_0 15 rfl rfl)
abbrev cX4_road : ByteArray := prog_17_method_47_code
def yX4_road : MethodName := ⟨RX4, "road", "(II)I"⟩
def dkwX4_road_3 : List UInt8 := [79, 42, 29, 182, 0, 110, 172]
abbrev dktX4_road_3 : List UInt8 := dkwX4_road_3 ++ []
def dkwX4_road_2 : List UInt8 := [153, 0, 5, 3, 172, 42, 180, 0, 9, 16, 12, 27, 96, 46, 62, 42, 180, 0, 9, 16, 12, 27, 96, 28]
abbrev dktX4_road_2 : List UInt8 := dkwX4_road_2 ++ dktX4_road_3
def dkwX4_road_1 : List UInt8 := [154, 0, 26, 42, 28, 4, 8, 184, 0, 92, 154, 0, 7, 4, 167, 0, 4, 3, 6, 28, 182, 0, 96]
abbrev dktX4_road_1 : List UInt8 := dkwX4_road_1 ++ dktX4_road_2
def dkwX4_road_0 : List UInt8 := [42, 182, 0, 100, 42, 27, 184, 0, 183, 154, 0, 7, 4, 167, 0, 4, 3, 5, 27, 182, 0, 96]
abbrev dktX4_road_0 : List UInt8 := dkwX4_road_0 ++ dktX4_road_1
theorem dksX4_road_0 : cX4_road.data.toList.drop 0 = dktX4_road_0 := by decide +kernel
theorem dksX4_road_1 : cX4_road.data.toList.drop 22 = dktX4_road_1 := dk_seg dksX4_road_0 22 rfl rfl
theorem dksX4_road_2 : cX4_road.data.toList.drop 45 = dktX4_road_2 := dk_seg dksX4_road_1 23 rfl rfl
theorem dksX4_road_3 : cX4_road.data.toList.drop 69 = dktX4_road_3 := dk_seg dksX4_road_2 24 rfl rfl
theorem dX4_road_0 : decode cX4_road 0 = .ok (.aload_n 0, 1) := dk_42 (dk_at dksX4_road_0 0 rfl rfl)
theorem dX4_road_1 : decode cX4_road 1 = .ok (.invokevirtual 100, 3) := dk_182 0 100 (dk_at dksX4_road_0 1 rfl rfl)
theorem dX4_road_4 : decode cX4_road 4 = .ok (.aload_n 0, 1) := dk_42 (dk_at dksX4_road_0 4 rfl rfl)
theorem dX4_road_5 : decode cX4_road 5 = .ok (.iload_n 1, 1) := dk_27 (dk_at dksX4_road_0 5 rfl rfl)
theorem dX4_road_6 : decode cX4_road 6 = .ok (.invokestatic 183, 3) := dk_184 0 183 (dk_at dksX4_road_0 6 rfl rfl)
theorem dX4_road_9 : decode cX4_road 9 = .ok (.ifCond .ne 7, 3) := dk_154 0 7 (dk_at dksX4_road_0 9 rfl rfl)
theorem dX4_road_12 : decode cX4_road 12 = .ok (.iconst 1, 1) := dk_4 (dk_at dksX4_road_0 12 rfl rfl)
theorem dX4_road_13 : decode cX4_road 13 = .ok (.goto 4, 3) := dk_167 0 4 (dk_at dksX4_road_0 13 rfl rfl)
theorem dX4_road_16 : decode cX4_road 16 = .ok (.iconst 0, 1) := dk_3 (dk_at dksX4_road_0 16 rfl rfl)
theorem dX4_road_17 : decode cX4_road 17 = .ok (.iconst 2, 1) := dk_5 (dk_at dksX4_road_0 17 rfl rfl)
theorem dX4_road_18 : decode cX4_road 18 = .ok (.iload_n 1, 1) := dk_27 (dk_at dksX4_road_0 18 rfl rfl)
theorem dX4_road_19 : decode cX4_road 19 = .ok (.invokevirtual 96, 3) := dk_182 0 96 (dk_at dksX4_road_0 19 rfl rfl)
theorem dX4_road_22 : decode cX4_road 22 = .ok (.ifCond .ne 26, 3) := dk_154 0 26 (dk_at dksX4_road_1 0 rfl rfl)
theorem dX4_road_25 : decode cX4_road 25 = .ok (.aload_n 0, 1) := dk_42 (dk_at dksX4_road_1 3 rfl rfl)
theorem dX4_road_26 : decode cX4_road 26 = .ok (.iload_n 2, 1) := dk_28 (dk_at dksX4_road_1 4 rfl rfl)
theorem dX4_road_27 : decode cX4_road 27 = .ok (.iconst 1, 1) := dk_4 (dk_at dksX4_road_1 5 rfl rfl)
theorem dX4_road_28 : decode cX4_road 28 = .ok (.iconst 5, 1) := dk_8 (dk_at dksX4_road_1 6 rfl rfl)
theorem dX4_road_29 : decode cX4_road 29 = .ok (.invokestatic 92, 3) := dk_184 0 92 (dk_at dksX4_road_1 7 rfl rfl)
theorem dX4_road_32 : decode cX4_road 32 = .ok (.ifCond .ne 7, 3) := dk_154 0 7 (dk_at dksX4_road_1 10 rfl rfl)
theorem dX4_road_35 : decode cX4_road 35 = .ok (.iconst 1, 1) := dk_4 (dk_at dksX4_road_1 13 rfl rfl)
theorem dX4_road_36 : decode cX4_road 36 = .ok (.goto 4, 3) := dk_167 0 4 (dk_at dksX4_road_1 14 rfl rfl)
theorem dX4_road_39 : decode cX4_road 39 = .ok (.iconst 0, 1) := dk_3 (dk_at dksX4_road_1 17 rfl rfl)
theorem dX4_road_40 : decode cX4_road 40 = .ok (.iconst 3, 1) := dk_6 (dk_at dksX4_road_1 18 rfl rfl)
theorem dX4_road_41 : decode cX4_road 41 = .ok (.iload_n 2, 1) := dk_28 (dk_at dksX4_road_1 19 rfl rfl)
theorem dX4_road_42 : decode cX4_road 42 = .ok (.invokevirtual 96, 3) := dk_182 0 96 (dk_at dksX4_road_1 20 rfl rfl)
theorem dX4_road_45 : decode cX4_road 45 = .ok (.ifCond .eq 5, 3) := dk_153 0 5 (dk_at dksX4_road_2 0 rfl rfl)
theorem dX4_road_48 : decode cX4_road 48 = .ok (.iconst 0, 1) := dk_3 (dk_at dksX4_road_2 3 rfl rfl)
theorem dX4_road_49 : decode cX4_road 49 = .ok (.ireturn, 1) := dk_172 (dk_at dksX4_road_2 4 rfl rfl)
theorem dX4_road_50 : decode cX4_road 50 = .ok (.aload_n 0, 1) := dk_42 (dk_at dksX4_road_2 5 rfl rfl)
theorem dX4_road_51 : decode cX4_road 51 = .ok (.getfield 9, 3) := dk_180 0 9 (dk_at dksX4_road_2 6 rfl rfl)
theorem dX4_road_54 : decode cX4_road 54 = .ok (.bipush 12, 2) := dk_16 12 (dk_at dksX4_road_2 9 rfl rfl)
theorem dX4_road_56 : decode cX4_road 56 = .ok (.iload_n 1, 1) := dk_27 (dk_at dksX4_road_2 11 rfl rfl)
theorem dX4_road_57 : decode cX4_road 57 = .ok (.iadd, 1) := dk_96 (dk_at dksX4_road_2 12 rfl rfl)
theorem dX4_road_58 : decode cX4_road 58 = .ok (.iaload, 1) := dk_46 (dk_at dksX4_road_2 13 rfl rfl)
theorem dX4_road_59 : decode cX4_road 59 = .ok (.istore_n 3, 1) := dk_62 (dk_at dksX4_road_2 14 rfl rfl)
theorem dX4_road_60 : decode cX4_road 60 = .ok (.aload_n 0, 1) := dk_42 (dk_at dksX4_road_2 15 rfl rfl)
theorem dX4_road_61 : decode cX4_road 61 = .ok (.getfield 9, 3) := dk_180 0 9 (dk_at dksX4_road_2 16 rfl rfl)
theorem dX4_road_64 : decode cX4_road 64 = .ok (.bipush 12, 2) := dk_16 12 (dk_at dksX4_road_2 19 rfl rfl)
theorem dX4_road_66 : decode cX4_road 66 = .ok (.iload_n 1, 1) := dk_27 (dk_at dksX4_road_2 21 rfl rfl)
theorem dX4_road_67 : decode cX4_road 67 = .ok (.iadd, 1) := dk_96 (dk_at dksX4_road_2 22 rfl rfl)
theorem dX4_road_68 : decode cX4_road 68 = .ok (.iload_n 2, 1) := dk_28 (dk_at dksX4_road_2 23 rfl rfl)
theorem dX4_road_69 : decode cX4_road 69 = .ok (.iastore, 1) := dk_79 (dk_at dksX4_road_3 0 rfl rfl)
theorem dX4_road_70 : decode cX4_road 70 = .ok (.aload_n 0, 1) := dk_42 (dk_at dksX4_road_3 1 rfl rfl)
theorem dX4_road_71 : decode cX4_road 71 = .ok (.iload_n 3, 1) := dk_29 (dk_at dksX4_road_3 2 rfl rfl)
theorem dX4_road_72 : decode cX4_road 72 = .ok (.invokevirtual 110, 3) := dk_182 0 110 (dk_at dksX4_road_3 3 rfl rfl)
theorem dX4_road_75 : decode cX4_road 75 = .ok (.ireturn, 1) := dk_172 (dk_at dksX4_road_3 6 rfl rfl)
abbrev cX4_isTown : ByteArray := prog_17_method_22_code
def yX4_isTown : MethodName := ⟨RX4, "isTown", "(I)Z"⟩
def dkwX4_isTown_0 : List UInt8 := [26, 3, 8, 184, 0, 92, 172]
abbrev dktX4_isTown_0 : List UInt8 := dkwX4_isTown_0 ++ []
theorem dksX4_isTown_0 : cX4_isTown.data.toList.drop 0 = dktX4_isTown_0 := by decide +kernel
theorem dX4_isTown_0 : decode cX4_isTown 0 = .ok (.iload_n 0, 1) := dk_26 (dk_at dksX4_isTown_0 0 rfl rfl)
theorem dX4_isTown_1 : decode cX4_isTown 1 = .ok (.iconst 0, 1) := dk_3 (dk_at dksX4_isTown_0 1 rfl rfl)
theorem dX4_isTown_2 : decode cX4_isTown 2 = .ok (.iconst 5, 1) := dk_8 (dk_at dksX4_isTown_0 2 rfl rfl)
theorem dX4_isTown_3 : decode cX4_isTown 3 = .ok (.invokestatic 92, 3) := dk_184 0 92 (dk_at dksX4_isTown_0 3 rfl rfl)
theorem dX4_isTown_6 : decode cX4_isTown 6 = .ok (.ireturn, 1) := dk_172 (dk_at dksX4_isTown_0 6 rfl rfl)
abbrev cX4_walk : ByteArray := prog_17_method_49_code
def yX4_walk : MethodName := ⟨RX4, "walk", "(I)I"⟩
def dkwX4_walk_0 : List UInt8 := [42, 182, 0, 100, 42, 42, 27, 182, 0, 186, 182, 0, 110, 172]
abbrev dktX4_walk_0 : List UInt8 := dkwX4_walk_0 ++ []
theorem dksX4_walk_0 : cX4_walk.data.toList.drop 0 = dktX4_walk_0 := by decide +kernel
theorem dX4_walk_0 : decode cX4_walk 0 = .ok (.aload_n 0, 1) := dk_42 (dk_at dksX4_walk_0 0 rfl rfl)
theorem dX4_walk_1 : decode cX4_walk 1 = .ok (.invokevirtual 100, 3) := dk_182 0 100 (dk_at dksX4_walk_0 1 rfl rfl)
theorem dX4_walk_4 : decode cX4_walk 4 = .ok (.aload_n 0, 1) := dk_42 (dk_at dksX4_walk_0 4 rfl rfl)
theorem dX4_walk_5 : decode cX4_walk 5 = .ok (.aload_n 0, 1) := dk_42 (dk_at dksX4_walk_0 5 rfl rfl)
theorem dX4_walk_6 : decode cX4_walk 6 = .ok (.iload_n 1, 1) := dk_27 (dk_at dksX4_walk_0 6 rfl rfl)
theorem dX4_walk_7 : decode cX4_walk 7 = .ok (.invokevirtual 186, 3) := dk_182 0 186 (dk_at dksX4_walk_0 7 rfl rfl)
theorem dX4_walk_10 : decode cX4_walk 10 = .ok (.invokevirtual 110, 3) := dk_182 0 110 (dk_at dksX4_walk_0 10 rfl rfl)
theorem dX4_walk_13 : decode cX4_walk 13 = .ok (.ireturn, 1) := dk_172 (dk_at dksX4_walk_0 13 rfl rfl)
abbrev cX4_walks : ByteArray := prog_17_method_48_code
def yX4_walks : MethodName := ⟨RX4, "walks", "(I)I"⟩
def dkwX4_walks_3 : List UInt8 := [112, 79, 132, 2, 1, 167, 255, 208, 42, 180, 0, 9, 5, 46, 172]
abbrev dktX4_walks_3 : List UInt8 := dkwX4_walks_3 ++ []
def dkwX4_walks_2 : List UInt8 := [180, 0, 9, 5, 46, 96, 46, 96, 79, 42, 180, 0, 9, 5, 42, 180, 0, 9, 5, 46, 4, 96, 16, 6]
abbrev dktX4_walks_2 : List UInt8 := dkwX4_walks_2 ++ dktX4_walks_3
def dkwX4_walks_1 : List UInt8 := [3, 172, 3, 61, 28, 27, 162, 0, 49, 42, 180, 0, 9, 4, 92, 46, 42, 180, 0, 9, 16, 12, 42]
abbrev dktX4_walks_1 : List UInt8 := dkwX4_walks_1 ++ dktX4_walks_2
def dkwX4_walks_0 : List UInt8 := [42, 27, 4, 16, 9, 184, 0, 92, 154, 0, 7, 4, 167, 0, 4, 3, 6, 27, 182, 0, 96, 153, 0, 5]
abbrev dktX4_walks_0 : List UInt8 := dkwX4_walks_0 ++ dktX4_walks_1
theorem dksX4_walks_0 : cX4_walks.data.toList.drop 0 = dktX4_walks_0 := by decide +kernel
theorem dksX4_walks_1 : cX4_walks.data.toList.drop 24 = dktX4_walks_1 := dk_seg dksX4_walks_0 24 rfl rfl
theorem dksX4_walks_2 : cX4_walks.data.toList.drop 47 = dktX4_walks_2 := dk_seg dksX4_walks_1 23 rfl rfl
theorem dksX4_walks_3 : cX4_walks.data.toList.drop 71 = dktX4_walks_3 := dk_seg dksX4_walks_2 24 rfl rfl
theorem dX4_walks_0 : decode cX4_walks 0 = .ok (.aload_n 0, 1) := dk_42 (dk_at dksX4_walks_0 0 rfl rfl)
theorem dX4_walks_1 : decode cX4_walks 1 = .ok (.iload_n 1, 1) := dk_27 (dk_at dksX4_walks_0 1 rfl rfl)
theorem dX4_walks_2 : decode cX4_walks 2 = .ok (.iconst 1, 1) := dk_4 (dk_at dksX4_walks_0 2 rfl rfl)
theorem dX4_walks_3 : decode cX4_walks 3 = .ok (.bipush 9, 2) := dk_16 9 (dk_at dksX4_walks_0 3 rfl rfl)
theorem dX4_walks_5 : decode cX4_walks 5 = .ok (.invokestatic 92, 3) := dk_184 0 92 (dk_at dksX4_walks_0 5 rfl rfl)
theorem dX4_walks_8 : decode cX4_walks 8 = .ok (.ifCond .ne 7, 3) := dk_154 0 7 (dk_at dksX4_walks_0 8 rfl rfl)
theorem dX4_walks_11 : decode cX4_walks 11 = .ok (.iconst 1, 1) := dk_4 (dk_at dksX4_walks_0 11 rfl rfl)
theorem dX4_walks_12 : decode cX4_walks 12 = .ok (.goto 4, 3) := dk_167 0 4 (dk_at dksX4_walks_0 12 rfl rfl)
theorem dX4_walks_15 : decode cX4_walks 15 = .ok (.iconst 0, 1) := dk_3 (dk_at dksX4_walks_0 15 rfl rfl)
theorem dX4_walks_16 : decode cX4_walks 16 = .ok (.iconst 3, 1) := dk_6 (dk_at dksX4_walks_0 16 rfl rfl)
theorem dX4_walks_17 : decode cX4_walks 17 = .ok (.iload_n 1, 1) := dk_27 (dk_at dksX4_walks_0 17 rfl rfl)
theorem dX4_walks_18 : decode cX4_walks 18 = .ok (.invokevirtual 96, 3) := dk_182 0 96 (dk_at dksX4_walks_0 18 rfl rfl)
theorem dX4_walks_21 : decode cX4_walks 21 = .ok (.ifCond .eq 5, 3) := dk_153 0 5 (dk_at dksX4_walks_0 21 rfl rfl)
theorem dX4_walks_24 : decode cX4_walks 24 = .ok (.iconst 0, 1) := dk_3 (dk_at dksX4_walks_1 0 rfl rfl)
theorem dX4_walks_25 : decode cX4_walks 25 = .ok (.ireturn, 1) := dk_172 (dk_at dksX4_walks_1 1 rfl rfl)
theorem dX4_walks_26 : decode cX4_walks 26 = .ok (.iconst 0, 1) := dk_3 (dk_at dksX4_walks_1 2 rfl rfl)
theorem dX4_walks_27 : decode cX4_walks 27 = .ok (.istore_n 2, 1) := dk_61 (dk_at dksX4_walks_1 3 rfl rfl)
theorem dX4_walks_28 : decode cX4_walks 28 = .ok (.iload_n 2, 1) := dk_28 (dk_at dksX4_walks_1 4 rfl rfl)
theorem dX4_walks_29 : decode cX4_walks 29 = .ok (.iload_n 1, 1) := dk_27 (dk_at dksX4_walks_1 5 rfl rfl)
theorem dX4_walks_30 : decode cX4_walks 30 = .ok (.if_icmp .ge 49, 3) := dk_162 0 49 (dk_at dksX4_walks_1 6 rfl rfl)
theorem dX4_walks_33 : decode cX4_walks 33 = .ok (.aload_n 0, 1) := dk_42 (dk_at dksX4_walks_1 9 rfl rfl)
theorem dX4_walks_34 : decode cX4_walks 34 = .ok (.getfield 9, 3) := dk_180 0 9 (dk_at dksX4_walks_1 10 rfl rfl)
theorem dX4_walks_37 : decode cX4_walks 37 = .ok (.iconst 1, 1) := dk_4 (dk_at dksX4_walks_1 13 rfl rfl)
theorem dX4_walks_38 : decode cX4_walks 38 = .ok (.dup2, 1) := dk_92 (dk_at dksX4_walks_1 14 rfl rfl)
theorem dX4_walks_39 : decode cX4_walks 39 = .ok (.iaload, 1) := dk_46 (dk_at dksX4_walks_1 15 rfl rfl)
theorem dX4_walks_40 : decode cX4_walks 40 = .ok (.aload_n 0, 1) := dk_42 (dk_at dksX4_walks_1 16 rfl rfl)
theorem dX4_walks_41 : decode cX4_walks 41 = .ok (.getfield 9, 3) := dk_180 0 9 (dk_at dksX4_walks_1 17 rfl rfl)
theorem dX4_walks_44 : decode cX4_walks 44 = .ok (.bipush 12, 2) := dk_16 12 (dk_at dksX4_walks_1 20 rfl rfl)
theorem dX4_walks_46 : decode cX4_walks 46 = .ok (.aload_n 0, 1) := dk_42 (dk_at dksX4_walks_1 22 rfl rfl)
theorem dX4_walks_47 : decode cX4_walks 47 = .ok (.getfield 9, 3) := dk_180 0 9 (dk_at dksX4_walks_2 0 rfl rfl)
theorem dX4_walks_50 : decode cX4_walks 50 = .ok (.iconst 2, 1) := dk_5 (dk_at dksX4_walks_2 3 rfl rfl)
theorem dX4_walks_51 : decode cX4_walks 51 = .ok (.iaload, 1) := dk_46 (dk_at dksX4_walks_2 4 rfl rfl)
theorem dX4_walks_52 : decode cX4_walks 52 = .ok (.iadd, 1) := dk_96 (dk_at dksX4_walks_2 5 rfl rfl)
theorem dX4_walks_53 : decode cX4_walks 53 = .ok (.iaload, 1) := dk_46 (dk_at dksX4_walks_2 6 rfl rfl)
theorem dX4_walks_54 : decode cX4_walks 54 = .ok (.iadd, 1) := dk_96 (dk_at dksX4_walks_2 7 rfl rfl)
theorem dX4_walks_55 : decode cX4_walks 55 = .ok (.iastore, 1) := dk_79 (dk_at dksX4_walks_2 8 rfl rfl)
theorem dX4_walks_56 : decode cX4_walks 56 = .ok (.aload_n 0, 1) := dk_42 (dk_at dksX4_walks_2 9 rfl rfl)
theorem dX4_walks_57 : decode cX4_walks 57 = .ok (.getfield 9, 3) := dk_180 0 9 (dk_at dksX4_walks_2 10 rfl rfl)
theorem dX4_walks_60 : decode cX4_walks 60 = .ok (.iconst 2, 1) := dk_5 (dk_at dksX4_walks_2 13 rfl rfl)
theorem dX4_walks_61 : decode cX4_walks 61 = .ok (.aload_n 0, 1) := dk_42 (dk_at dksX4_walks_2 14 rfl rfl)
theorem dX4_walks_62 : decode cX4_walks 62 = .ok (.getfield 9, 3) := dk_180 0 9 (dk_at dksX4_walks_2 15 rfl rfl)
theorem dX4_walks_65 : decode cX4_walks 65 = .ok (.iconst 2, 1) := dk_5 (dk_at dksX4_walks_2 18 rfl rfl)
theorem dX4_walks_66 : decode cX4_walks 66 = .ok (.iaload, 1) := dk_46 (dk_at dksX4_walks_2 19 rfl rfl)
theorem dX4_walks_67 : decode cX4_walks 67 = .ok (.iconst 1, 1) := dk_4 (dk_at dksX4_walks_2 20 rfl rfl)
theorem dX4_walks_68 : decode cX4_walks 68 = .ok (.iadd, 1) := dk_96 (dk_at dksX4_walks_2 21 rfl rfl)
theorem dX4_walks_69 : decode cX4_walks 69 = .ok (.bipush 6, 2) := dk_16 6 (dk_at dksX4_walks_2 22 rfl rfl)
theorem dX4_walks_71 : decode cX4_walks 71 = .ok (.irem, 1) := dk_112 (dk_at dksX4_walks_3 0 rfl rfl)
theorem dX4_walks_72 : decode cX4_walks 72 = .ok (.iastore, 1) := dk_79 (dk_at dksX4_walks_3 1 rfl rfl)
theorem dX4_walks_73 : decode cX4_walks 73 = .ok (.iinc 2 1, 3) := dk_132 2 1 (dk_at dksX4_walks_3 2 rfl rfl)
theorem dX4_walks_76 : decode cX4_walks 76 = .ok (.goto (-48), 3) := dk_167 255 208 (dk_at dksX4_walks_3 5 rfl rfl)
theorem dX4_walks_79 : decode cX4_walks 79 = .ok (.aload_n 0, 1) := dk_42 (dk_at dksX4_walks_3 8 rfl rfl)
theorem dX4_walks_80 : decode cX4_walks 80 = .ok (.getfield 9, 3) := dk_180 0 9 (dk_at dksX4_walks_3 9 rfl rfl)
theorem dX4_walks_83 : decode cX4_walks 83 = .ok (.iconst 2, 1) := dk_5 (dk_at dksX4_walks_3 12 rfl rfl)
theorem dX4_walks_84 : decode cX4_walks 84 = .ok (.iaload, 1) := dk_46 (dk_at dksX4_walks_3 13 rfl rfl)
theorem dX4_walks_85 : decode cX4_walks 85 = .ok (.ireturn, 1) := dk_172 (dk_at dksX4_walks_3 14 rfl rfl)
abbrev cX4_sell : ByteArray := prog_17_method_52_code
def yX4_sell : MethodName := ⟨RX4, "sell", "(I)I"⟩
def dkwX4_sell_0 : List UInt8 := [42, 182, 0, 100, 42, 42, 27, 182, 0, 193, 182, 0, 110, 172]
abbrev dktX4_sell_0 : List UInt8 := dkwX4_sell_0 ++ []
theorem dksX4_sell_0 : cX4_sell.data.toList.drop 0 = dktX4_sell_0 := by decide +kernel
theorem dX4_sell_0 : decode cX4_sell 0 = .ok (.aload_n 0, 1) := dk_42 (dk_at dksX4_sell_0 0 rfl rfl)
theorem dX4_sell_1 : decode cX4_sell 1 = .ok (.invokevirtual 100, 3) := dk_182 0 100 (dk_at dksX4_sell_0 1 rfl rfl)
theorem dX4_sell_4 : decode cX4_sell 4 = .ok (.aload_n 0, 1) := dk_42 (dk_at dksX4_sell_0 4 rfl rfl)
theorem dX4_sell_5 : decode cX4_sell 5 = .ok (.aload_n 0, 1) := dk_42 (dk_at dksX4_sell_0 5 rfl rfl)
theorem dX4_sell_6 : decode cX4_sell 6 = .ok (.iload_n 1, 1) := dk_27 (dk_at dksX4_sell_0 6 rfl rfl)
theorem dX4_sell_7 : decode cX4_sell 7 = .ok (.invokevirtual 193, 3) := dk_182 0 193 (dk_at dksX4_sell_0 7 rfl rfl)
theorem dX4_sell_10 : decode cX4_sell 10 = .ok (.invokevirtual 110, 3) := dk_182 0 110 (dk_at dksX4_sell_0 10 rfl rfl)
theorem dX4_sell_13 : decode cX4_sell 13 = .ok (.ireturn, 1) := dk_172 (dk_at dksX4_sell_0 13 rfl rfl)
abbrev cX4_sells : ByteArray := prog_17_method_51_code
def yX4_sells : MethodName := ⟨RX4, "sells", "(I)I"⟩
def dkwX4_sells_4 : List UInt8 := [180, 0, 9, 3, 92, 46, 28, 96, 79, 28, 172]
abbrev dktX4_sells_4 : List UInt8 := dkwX4_sells_4 ++ []
def dkwX4_sells_3 : List UInt8 := [180, 0, 9, 16, 18, 27, 96, 92, 46, 4, 100, 79, 42, 180, 0, 9, 16, 7, 92, 46, 4, 96, 79, 42]
abbrev dktX4_sells_3 : List UInt8 := dkwX4_sells_3 ++ dktX4_sells_4
def dkwX4_sells_2 : List UInt8 := [153, 0, 5, 3, 172, 6, 27, 96, 42, 182, 0, 189, 153, 0, 7, 5, 167, 0, 4, 4, 104, 61, 42]
abbrev dktX4_sells_2 : List UInt8 := dkwX4_sells_2 ++ dktX4_sells_3
def dkwX4_sells_1 : List UInt8 := [180, 0, 9, 16, 18, 27, 96, 46, 154, 0, 7, 4, 167, 0, 4, 3, 16, 9, 27, 182, 0, 96]
abbrev dktX4_sells_1 : List UInt8 := dkwX4_sells_1 ++ dktX4_sells_2
def dkwX4_sells_0 : List UInt8 := [42, 27, 184, 0, 142, 154, 0, 7, 4, 167, 0, 4, 3, 6, 27, 182, 0, 96, 154, 0, 30, 42, 42]
abbrev dktX4_sells_0 : List UInt8 := dkwX4_sells_0 ++ dktX4_sells_1
theorem dksX4_sells_0 : cX4_sells.data.toList.drop 0 = dktX4_sells_0 := by decide +kernel
theorem dksX4_sells_1 : cX4_sells.data.toList.drop 23 = dktX4_sells_1 := dk_seg dksX4_sells_0 23 rfl rfl
theorem dksX4_sells_2 : cX4_sells.data.toList.drop 45 = dktX4_sells_2 := dk_seg dksX4_sells_1 22 rfl rfl
theorem dksX4_sells_3 : cX4_sells.data.toList.drop 68 = dktX4_sells_3 := dk_seg dksX4_sells_2 23 rfl rfl
theorem dksX4_sells_4 : cX4_sells.data.toList.drop 92 = dktX4_sells_4 := dk_seg dksX4_sells_3 24 rfl rfl
theorem dX4_sells_0 : decode cX4_sells 0 = .ok (.aload_n 0, 1) := dk_42 (dk_at dksX4_sells_0 0 rfl rfl)
theorem dX4_sells_1 : decode cX4_sells 1 = .ok (.iload_n 1, 1) := dk_27 (dk_at dksX4_sells_0 1 rfl rfl)
theorem dX4_sells_2 : decode cX4_sells 2 = .ok (.invokestatic 142, 3) := dk_184 0 142 (dk_at dksX4_sells_0 2 rfl rfl)
theorem dX4_sells_5 : decode cX4_sells 5 = .ok (.ifCond .ne 7, 3) := dk_154 0 7 (dk_at dksX4_sells_0 5 rfl rfl)
theorem dX4_sells_8 : decode cX4_sells 8 = .ok (.iconst 1, 1) := dk_4 (dk_at dksX4_sells_0 8 rfl rfl)
theorem dX4_sells_9 : decode cX4_sells 9 = .ok (.goto 4, 3) := dk_167 0 4 (dk_at dksX4_sells_0 9 rfl rfl)
theorem dX4_sells_12 : decode cX4_sells 12 = .ok (.iconst 0, 1) := dk_3 (dk_at dksX4_sells_0 12 rfl rfl)
theorem dX4_sells_13 : decode cX4_sells 13 = .ok (.iconst 3, 1) := dk_6 (dk_at dksX4_sells_0 13 rfl rfl)
theorem dX4_sells_14 : decode cX4_sells 14 = .ok (.iload_n 1, 1) := dk_27 (dk_at dksX4_sells_0 14 rfl rfl)
theorem dX4_sells_15 : decode cX4_sells 15 = .ok (.invokevirtual 96, 3) := dk_182 0 96 (dk_at dksX4_sells_0 15 rfl rfl)
theorem dX4_sells_18 : decode cX4_sells 18 = .ok (.ifCond .ne 30, 3) := dk_154 0 30 (dk_at dksX4_sells_0 18 rfl rfl)
theorem dX4_sells_21 : decode cX4_sells 21 = .ok (.aload_n 0, 1) := dk_42 (dk_at dksX4_sells_0 21 rfl rfl)
theorem dX4_sells_22 : decode cX4_sells 22 = .ok (.aload_n 0, 1) := dk_42 (dk_at dksX4_sells_0 22 rfl rfl)
theorem dX4_sells_23 : decode cX4_sells 23 = .ok (.getfield 9, 3) := dk_180 0 9 (dk_at dksX4_sells_1 0 rfl rfl)
theorem dX4_sells_26 : decode cX4_sells 26 = .ok (.bipush 18, 2) := dk_16 18 (dk_at dksX4_sells_1 3 rfl rfl)
theorem dX4_sells_28 : decode cX4_sells 28 = .ok (.iload_n 1, 1) := dk_27 (dk_at dksX4_sells_1 5 rfl rfl)
theorem dX4_sells_29 : decode cX4_sells 29 = .ok (.iadd, 1) := dk_96 (dk_at dksX4_sells_1 6 rfl rfl)
theorem dX4_sells_30 : decode cX4_sells 30 = .ok (.iaload, 1) := dk_46 (dk_at dksX4_sells_1 7 rfl rfl)
theorem dX4_sells_31 : decode cX4_sells 31 = .ok (.ifCond .ne 7, 3) := dk_154 0 7 (dk_at dksX4_sells_1 8 rfl rfl)
theorem dX4_sells_34 : decode cX4_sells 34 = .ok (.iconst 1, 1) := dk_4 (dk_at dksX4_sells_1 11 rfl rfl)
theorem dX4_sells_35 : decode cX4_sells 35 = .ok (.goto 4, 3) := dk_167 0 4 (dk_at dksX4_sells_1 12 rfl rfl)
theorem dX4_sells_38 : decode cX4_sells 38 = .ok (.iconst 0, 1) := dk_3 (dk_at dksX4_sells_1 15 rfl rfl)
theorem dX4_sells_39 : decode cX4_sells 39 = .ok (.bipush 9, 2) := dk_16 9 (dk_at dksX4_sells_1 16 rfl rfl)
theorem dX4_sells_41 : decode cX4_sells 41 = .ok (.iload_n 1, 1) := dk_27 (dk_at dksX4_sells_1 18 rfl rfl)
theorem dX4_sells_42 : decode cX4_sells 42 = .ok (.invokevirtual 96, 3) := dk_182 0 96 (dk_at dksX4_sells_1 19 rfl rfl)
theorem dX4_sells_45 : decode cX4_sells 45 = .ok (.ifCond .eq 5, 3) := dk_153 0 5 (dk_at dksX4_sells_2 0 rfl rfl)
theorem dX4_sells_48 : decode cX4_sells 48 = .ok (.iconst 0, 1) := dk_3 (dk_at dksX4_sells_2 3 rfl rfl)
theorem dX4_sells_49 : decode cX4_sells 49 = .ok (.ireturn, 1) := dk_172 (dk_at dksX4_sells_2 4 rfl rfl)
theorem dX4_sells_50 : decode cX4_sells 50 = .ok (.iconst 3, 1) := dk_6 (dk_at dksX4_sells_2 5 rfl rfl)
theorem dX4_sells_51 : decode cX4_sells 51 = .ok (.iload_n 1, 1) := dk_27 (dk_at dksX4_sells_2 6 rfl rfl)
theorem dX4_sells_52 : decode cX4_sells 52 = .ok (.iadd, 1) := dk_96 (dk_at dksX4_sells_2 7 rfl rfl)
theorem dX4_sells_53 : decode cX4_sells 53 = .ok (.aload_n 0, 1) := dk_42 (dk_at dksX4_sells_2 8 rfl rfl)
theorem dX4_sells_54 : decode cX4_sells 54 = .ok (.invokevirtual 189, 3) := dk_182 0 189 (dk_at dksX4_sells_2 9 rfl rfl)
theorem dX4_sells_57 : decode cX4_sells 57 = .ok (.ifCond .eq 7, 3) := dk_153 0 7 (dk_at dksX4_sells_2 12 rfl rfl)
theorem dX4_sells_60 : decode cX4_sells 60 = .ok (.iconst 2, 1) := dk_5 (dk_at dksX4_sells_2 15 rfl rfl)
theorem dX4_sells_61 : decode cX4_sells 61 = .ok (.goto 4, 3) := dk_167 0 4 (dk_at dksX4_sells_2 16 rfl rfl)
theorem dX4_sells_64 : decode cX4_sells 64 = .ok (.iconst 1, 1) := dk_4 (dk_at dksX4_sells_2 19 rfl rfl)
theorem dX4_sells_65 : decode cX4_sells 65 = .ok (.imul, 1) := dk_104 (dk_at dksX4_sells_2 20 rfl rfl)
theorem dX4_sells_66 : decode cX4_sells 66 = .ok (.istore_n 2, 1) := dk_61 (dk_at dksX4_sells_2 21 rfl rfl)
theorem dX4_sells_67 : decode cX4_sells 67 = .ok (.aload_n 0, 1) := dk_42 (dk_at dksX4_sells_2 22 rfl rfl)
theorem dX4_sells_68 : decode cX4_sells 68 = .ok (.getfield 9, 3) := dk_180 0 9 (dk_at dksX4_sells_3 0 rfl rfl)
theorem dX4_sells_71 : decode cX4_sells 71 = .ok (.bipush 18, 2) := dk_16 18 (dk_at dksX4_sells_3 3 rfl rfl)
theorem dX4_sells_73 : decode cX4_sells 73 = .ok (.iload_n 1, 1) := dk_27 (dk_at dksX4_sells_3 5 rfl rfl)
theorem dX4_sells_74 : decode cX4_sells 74 = .ok (.iadd, 1) := dk_96 (dk_at dksX4_sells_3 6 rfl rfl)
theorem dX4_sells_75 : decode cX4_sells 75 = .ok (.dup2, 1) := dk_92 (dk_at dksX4_sells_3 7 rfl rfl)
theorem dX4_sells_76 : decode cX4_sells 76 = .ok (.iaload, 1) := dk_46 (dk_at dksX4_sells_3 8 rfl rfl)
theorem dX4_sells_77 : decode cX4_sells 77 = .ok (.iconst 1, 1) := dk_4 (dk_at dksX4_sells_3 9 rfl rfl)
theorem dX4_sells_78 : decode cX4_sells 78 = .ok (.isub, 1) := dk_100 (dk_at dksX4_sells_3 10 rfl rfl)
theorem dX4_sells_79 : decode cX4_sells 79 = .ok (.iastore, 1) := dk_79 (dk_at dksX4_sells_3 11 rfl rfl)
theorem dX4_sells_80 : decode cX4_sells 80 = .ok (.aload_n 0, 1) := dk_42 (dk_at dksX4_sells_3 12 rfl rfl)
theorem dX4_sells_81 : decode cX4_sells 81 = .ok (.getfield 9, 3) := dk_180 0 9 (dk_at dksX4_sells_3 13 rfl rfl)
theorem dX4_sells_84 : decode cX4_sells 84 = .ok (.bipush 7, 2) := dk_16 7 (dk_at dksX4_sells_3 16 rfl rfl)
theorem dX4_sells_86 : decode cX4_sells 86 = .ok (.dup2, 1) := dk_92 (dk_at dksX4_sells_3 18 rfl rfl)
theorem dX4_sells_87 : decode cX4_sells 87 = .ok (.iaload, 1) := dk_46 (dk_at dksX4_sells_3 19 rfl rfl)
theorem dX4_sells_88 : decode cX4_sells 88 = .ok (.iconst 1, 1) := dk_4 (dk_at dksX4_sells_3 20 rfl rfl)
theorem dX4_sells_89 : decode cX4_sells 89 = .ok (.iadd, 1) := dk_96 (dk_at dksX4_sells_3 21 rfl rfl)
theorem dX4_sells_90 : decode cX4_sells 90 = .ok (.iastore, 1) := dk_79 (dk_at dksX4_sells_3 22 rfl rfl)
theorem dX4_sells_91 : decode cX4_sells 91 = .ok (.aload_n 0, 1) := dk_42 (dk_at dksX4_sells_3 23 rfl rfl)
theorem dX4_sells_92 : decode cX4_sells 92 = .ok (.getfield 9, 3) := dk_180 0 9 (dk_at dksX4_sells_4 0 rfl rfl)
theorem dX4_sells_95 : decode cX4_sells 95 = .ok (.iconst 0, 1) := dk_3 (dk_at dksX4_sells_4 3 rfl rfl)
theorem dX4_sells_96 : decode cX4_sells 96 = .ok (.dup2, 1) := dk_92 (dk_at dksX4_sells_4 4 rfl rfl)
theorem dX4_sells_97 : decode cX4_sells 97 = .ok (.iaload, 1) := dk_46 (dk_at dksX4_sells_4 5 rfl rfl)
theorem dX4_sells_98 : decode cX4_sells 98 = .ok (.iload_n 2, 1) := dk_28 (dk_at dksX4_sells_4 6 rfl rfl)
theorem dX4_sells_99 : decode cX4_sells 99 = .ok (.iadd, 1) := dk_96 (dk_at dksX4_sells_4 7 rfl rfl)
theorem dX4_sells_100 : decode cX4_sells 100 = .ok (.iastore, 1) := dk_79 (dk_at dksX4_sells_4 8 rfl rfl)
theorem dX4_sells_101 : decode cX4_sells 101 = .ok (.iload_n 2, 1) := dk_28 (dk_at dksX4_sells_4 9 rfl rfl)
theorem dX4_sells_102 : decode cX4_sells 102 = .ok (.ireturn, 1) := dk_172 (dk_at dksX4_sells_4 10 rfl rfl)
abbrev cX4_isFair : ByteArray := prog_17_method_50_code
def yX4_isFair : MethodName := ⟨RX4, "isFair", "()Z"⟩
def dkwX4_isFair_0 : List UInt8 := [42, 180, 0, 9, 4, 46, 16, 7, 112, 42, 180, 0, 9, 5, 46, 160, 0, 7, 4, 167, 0, 4, 3, 172]
abbrev dktX4_isFair_0 : List UInt8 := dkwX4_isFair_0 ++ []
theorem dksX4_isFair_0 : cX4_isFair.data.toList.drop 0 = dktX4_isFair_0 := by decide +kernel
theorem dX4_isFair_0 : decode cX4_isFair 0 = .ok (.aload_n 0, 1) := dk_42 (dk_at dksX4_isFair_0 0 rfl rfl)
theorem dX4_isFair_1 : decode cX4_isFair 1 = .ok (.getfield 9, 3) := dk_180 0 9 (dk_at dksX4_isFair_0 1 rfl rfl)
theorem dX4_isFair_4 : decode cX4_isFair 4 = .ok (.iconst 1, 1) := dk_4 (dk_at dksX4_isFair_0 4 rfl rfl)
theorem dX4_isFair_5 : decode cX4_isFair 5 = .ok (.iaload, 1) := dk_46 (dk_at dksX4_isFair_0 5 rfl rfl)
theorem dX4_isFair_6 : decode cX4_isFair 6 = .ok (.bipush 7, 2) := dk_16 7 (dk_at dksX4_isFair_0 6 rfl rfl)
theorem dX4_isFair_8 : decode cX4_isFair 8 = .ok (.irem, 1) := dk_112 (dk_at dksX4_isFair_0 8 rfl rfl)
theorem dX4_isFair_9 : decode cX4_isFair 9 = .ok (.aload_n 0, 1) := dk_42 (dk_at dksX4_isFair_0 9 rfl rfl)
theorem dX4_isFair_10 : decode cX4_isFair 10 = .ok (.getfield 9, 3) := dk_180 0 9 (dk_at dksX4_isFair_0 10 rfl rfl)
theorem dX4_isFair_13 : decode cX4_isFair 13 = .ok (.iconst 2, 1) := dk_5 (dk_at dksX4_isFair_0 13 rfl rfl)
theorem dX4_isFair_14 : decode cX4_isFair 14 = .ok (.iaload, 1) := dk_46 (dk_at dksX4_isFair_0 14 rfl rfl)
theorem dX4_isFair_15 : decode cX4_isFair 15 = .ok (.if_icmp .ne 7, 3) := dk_160 0 7 (dk_at dksX4_isFair_0 15 rfl rfl)
theorem dX4_isFair_18 : decode cX4_isFair 18 = .ok (.iconst 1, 1) := dk_4 (dk_at dksX4_isFair_0 18 rfl rfl)
theorem dX4_isFair_19 : decode cX4_isFair 19 = .ok (.goto 4, 3) := dk_167 0 4 (dk_at dksX4_isFair_0 19 rfl rfl)
theorem dX4_isFair_22 : decode cX4_isFair 22 = .ok (.iconst 0, 1) := dk_3 (dk_at dksX4_isFair_0 22 rfl rfl)
theorem dX4_isFair_23 : decode cX4_isFair 23 = .ok (.ireturn, 1) := dk_172 (dk_at dksX4_isFair_0 23 rfl rfl)
abbrev cX4_paid : ByteArray := prog_17_method_53_code
def yX4_paid : MethodName := ⟨RX4, "paid", "(I)I"⟩
def dkwX4_paid_5 : List UInt8 := [180, 0, 9, 3, 92, 46, 28, 96, 79, 42, 28, 182, 0, 110, 172]
abbrev dktX4_paid_5 : List UInt8 := dkwX4_paid_5 ++ []
def dkwX4_paid_4 : List UInt8 := [172, 7, 4, 42, 27, 6, 182, 0, 155, 96, 104, 61, 42, 180, 0, 9, 27, 7, 184, 0, 89, 4, 79, 42]
abbrev dktX4_paid_4 : List UInt8 := dkwX4_paid_4 ++ dktX4_paid_5
def dkwX4_paid_3 : List UInt8 := [100, 162, 0, 7, 4, 167, 0, 4, 3, 16, 10, 42, 27, 5, 182, 0, 155, 182, 0, 96, 153, 0, 5, 3]
abbrev dktX4_paid_3 : List UInt8 := dkwX4_paid_3 ++ dktX4_paid_4
def dkwX4_paid_2 : List UInt8 := [182, 0, 96, 154, 0, 44, 42, 42, 27, 5, 182, 0, 155, 42, 27, 3, 182, 0, 155, 184, 0, 161, 16, 20]
abbrev dktX4_paid_2 : List UInt8 := dkwX4_paid_2 ++ dktX4_paid_3
def dkwX4_paid_1 : List UInt8 := [154, 0, 69, 42, 42, 27, 7, 182, 0, 155, 4, 160, 0, 7, 4, 167, 0, 4, 3, 16, 13, 27]
abbrev dktX4_paid_1 : List UInt8 := dkwX4_paid_1 ++ dktX4_paid_2
def dkwX4_paid_0 : List UInt8 := [42, 182, 0, 100, 42, 42, 27, 182, 0, 152, 154, 0, 7, 4, 167, 0, 4, 3, 5, 27, 182, 0, 96]
abbrev dktX4_paid_0 : List UInt8 := dkwX4_paid_0 ++ dktX4_paid_1
theorem dksX4_paid_0 : cX4_paid.data.toList.drop 0 = dktX4_paid_0 := by decide +kernel
theorem dksX4_paid_1 : cX4_paid.data.toList.drop 23 = dktX4_paid_1 := dk_seg dksX4_paid_0 23 rfl rfl
theorem dksX4_paid_2 : cX4_paid.data.toList.drop 45 = dktX4_paid_2 := dk_seg dksX4_paid_1 22 rfl rfl
theorem dksX4_paid_3 : cX4_paid.data.toList.drop 69 = dktX4_paid_3 := dk_seg dksX4_paid_2 24 rfl rfl
theorem dksX4_paid_4 : cX4_paid.data.toList.drop 93 = dktX4_paid_4 := dk_seg dksX4_paid_3 24 rfl rfl
theorem dksX4_paid_5 : cX4_paid.data.toList.drop 117 = dktX4_paid_5 := dk_seg dksX4_paid_4 24 rfl rfl
theorem dX4_paid_0 : decode cX4_paid 0 = .ok (.aload_n 0, 1) := dk_42 (dk_at dksX4_paid_0 0 rfl rfl)
theorem dX4_paid_1 : decode cX4_paid 1 = .ok (.invokevirtual 100, 3) := dk_182 0 100 (dk_at dksX4_paid_0 1 rfl rfl)
theorem dX4_paid_4 : decode cX4_paid 4 = .ok (.aload_n 0, 1) := dk_42 (dk_at dksX4_paid_0 4 rfl rfl)
theorem dX4_paid_5 : decode cX4_paid 5 = .ok (.aload_n 0, 1) := dk_42 (dk_at dksX4_paid_0 5 rfl rfl)
theorem dX4_paid_6 : decode cX4_paid 6 = .ok (.iload_n 1, 1) := dk_27 (dk_at dksX4_paid_0 6 rfl rfl)
theorem dX4_paid_7 : decode cX4_paid 7 = .ok (.invokevirtual 152, 3) := dk_182 0 152 (dk_at dksX4_paid_0 7 rfl rfl)
theorem dX4_paid_10 : decode cX4_paid 10 = .ok (.ifCond .ne 7, 3) := dk_154 0 7 (dk_at dksX4_paid_0 10 rfl rfl)
theorem dX4_paid_13 : decode cX4_paid 13 = .ok (.iconst 1, 1) := dk_4 (dk_at dksX4_paid_0 13 rfl rfl)
theorem dX4_paid_14 : decode cX4_paid 14 = .ok (.goto 4, 3) := dk_167 0 4 (dk_at dksX4_paid_0 14 rfl rfl)
theorem dX4_paid_17 : decode cX4_paid 17 = .ok (.iconst 0, 1) := dk_3 (dk_at dksX4_paid_0 17 rfl rfl)
theorem dX4_paid_18 : decode cX4_paid 18 = .ok (.iconst 2, 1) := dk_5 (dk_at dksX4_paid_0 18 rfl rfl)
theorem dX4_paid_19 : decode cX4_paid 19 = .ok (.iload_n 1, 1) := dk_27 (dk_at dksX4_paid_0 19 rfl rfl)
theorem dX4_paid_20 : decode cX4_paid 20 = .ok (.invokevirtual 96, 3) := dk_182 0 96 (dk_at dksX4_paid_0 20 rfl rfl)
theorem dX4_paid_23 : decode cX4_paid 23 = .ok (.ifCond .ne 69, 3) := dk_154 0 69 (dk_at dksX4_paid_1 0 rfl rfl)
theorem dX4_paid_26 : decode cX4_paid 26 = .ok (.aload_n 0, 1) := dk_42 (dk_at dksX4_paid_1 3 rfl rfl)
theorem dX4_paid_27 : decode cX4_paid 27 = .ok (.aload_n 0, 1) := dk_42 (dk_at dksX4_paid_1 4 rfl rfl)
theorem dX4_paid_28 : decode cX4_paid 28 = .ok (.iload_n 1, 1) := dk_27 (dk_at dksX4_paid_1 5 rfl rfl)
theorem dX4_paid_29 : decode cX4_paid 29 = .ok (.iconst 4, 1) := dk_7 (dk_at dksX4_paid_1 6 rfl rfl)
theorem dX4_paid_30 : decode cX4_paid 30 = .ok (.invokevirtual 155, 3) := dk_182 0 155 (dk_at dksX4_paid_1 7 rfl rfl)
theorem dX4_paid_33 : decode cX4_paid 33 = .ok (.iconst 1, 1) := dk_4 (dk_at dksX4_paid_1 10 rfl rfl)
theorem dX4_paid_34 : decode cX4_paid 34 = .ok (.if_icmp .ne 7, 3) := dk_160 0 7 (dk_at dksX4_paid_1 11 rfl rfl)
theorem dX4_paid_37 : decode cX4_paid 37 = .ok (.iconst 1, 1) := dk_4 (dk_at dksX4_paid_1 14 rfl rfl)
theorem dX4_paid_38 : decode cX4_paid 38 = .ok (.goto 4, 3) := dk_167 0 4 (dk_at dksX4_paid_1 15 rfl rfl)
theorem dX4_paid_41 : decode cX4_paid 41 = .ok (.iconst 0, 1) := dk_3 (dk_at dksX4_paid_1 18 rfl rfl)
theorem dX4_paid_42 : decode cX4_paid 42 = .ok (.bipush 13, 2) := dk_16 13 (dk_at dksX4_paid_1 19 rfl rfl)
theorem dX4_paid_44 : decode cX4_paid 44 = .ok (.iload_n 1, 1) := dk_27 (dk_at dksX4_paid_1 21 rfl rfl)
theorem dX4_paid_45 : decode cX4_paid 45 = .ok (.invokevirtual 96, 3) := dk_182 0 96 (dk_at dksX4_paid_2 0 rfl rfl)
theorem dX4_paid_48 : decode cX4_paid 48 = .ok (.ifCond .ne 44, 3) := dk_154 0 44 (dk_at dksX4_paid_2 3 rfl rfl)
theorem dX4_paid_51 : decode cX4_paid 51 = .ok (.aload_n 0, 1) := dk_42 (dk_at dksX4_paid_2 6 rfl rfl)
theorem dX4_paid_52 : decode cX4_paid 52 = .ok (.aload_n 0, 1) := dk_42 (dk_at dksX4_paid_2 7 rfl rfl)
theorem dX4_paid_53 : decode cX4_paid 53 = .ok (.iload_n 1, 1) := dk_27 (dk_at dksX4_paid_2 8 rfl rfl)
theorem dX4_paid_54 : decode cX4_paid 54 = .ok (.iconst 2, 1) := dk_5 (dk_at dksX4_paid_2 9 rfl rfl)
theorem dX4_paid_55 : decode cX4_paid 55 = .ok (.invokevirtual 155, 3) := dk_182 0 155 (dk_at dksX4_paid_2 10 rfl rfl)
theorem dX4_paid_58 : decode cX4_paid 58 = .ok (.aload_n 0, 1) := dk_42 (dk_at dksX4_paid_2 13 rfl rfl)
theorem dX4_paid_59 : decode cX4_paid 59 = .ok (.iload_n 1, 1) := dk_27 (dk_at dksX4_paid_2 14 rfl rfl)
theorem dX4_paid_60 : decode cX4_paid 60 = .ok (.iconst 0, 1) := dk_3 (dk_at dksX4_paid_2 15 rfl rfl)
theorem dX4_paid_61 : decode cX4_paid 61 = .ok (.invokevirtual 155, 3) := dk_182 0 155 (dk_at dksX4_paid_2 16 rfl rfl)
theorem dX4_paid_64 : decode cX4_paid 64 = .ok (.invokestatic 161, 3) := dk_184 0 161 (dk_at dksX4_paid_2 19 rfl rfl)
theorem dX4_paid_67 : decode cX4_paid 67 = .ok (.bipush 20, 2) := dk_16 20 (dk_at dksX4_paid_2 22 rfl rfl)
theorem dX4_paid_69 : decode cX4_paid 69 = .ok (.isub, 1) := dk_100 (dk_at dksX4_paid_3 0 rfl rfl)
theorem dX4_paid_70 : decode cX4_paid 70 = .ok (.if_icmp .ge 7, 3) := dk_162 0 7 (dk_at dksX4_paid_3 1 rfl rfl)
theorem dX4_paid_73 : decode cX4_paid 73 = .ok (.iconst 1, 1) := dk_4 (dk_at dksX4_paid_3 4 rfl rfl)
theorem dX4_paid_74 : decode cX4_paid 74 = .ok (.goto 4, 3) := dk_167 0 4 (dk_at dksX4_paid_3 5 rfl rfl)
theorem dX4_paid_77 : decode cX4_paid 77 = .ok (.iconst 0, 1) := dk_3 (dk_at dksX4_paid_3 8 rfl rfl)
theorem dX4_paid_78 : decode cX4_paid 78 = .ok (.bipush 10, 2) := dk_16 10 (dk_at dksX4_paid_3 9 rfl rfl)
theorem dX4_paid_80 : decode cX4_paid 80 = .ok (.aload_n 0, 1) := dk_42 (dk_at dksX4_paid_3 11 rfl rfl)
theorem dX4_paid_81 : decode cX4_paid 81 = .ok (.iload_n 1, 1) := dk_27 (dk_at dksX4_paid_3 12 rfl rfl)
theorem dX4_paid_82 : decode cX4_paid 82 = .ok (.iconst 2, 1) := dk_5 (dk_at dksX4_paid_3 13 rfl rfl)
theorem dX4_paid_83 : decode cX4_paid 83 = .ok (.invokevirtual 155, 3) := dk_182 0 155 (dk_at dksX4_paid_3 14 rfl rfl)
theorem dX4_paid_86 : decode cX4_paid 86 = .ok (.invokevirtual 96, 3) := dk_182 0 96 (dk_at dksX4_paid_3 17 rfl rfl)
theorem dX4_paid_89 : decode cX4_paid 89 = .ok (.ifCond .eq 5, 3) := dk_153 0 5 (dk_at dksX4_paid_3 20 rfl rfl)
theorem dX4_paid_92 : decode cX4_paid 92 = .ok (.iconst 0, 1) := dk_3 (dk_at dksX4_paid_3 23 rfl rfl)
theorem dX4_paid_93 : decode cX4_paid 93 = .ok (.ireturn, 1) := dk_172 (dk_at dksX4_paid_4 0 rfl rfl)
theorem dX4_paid_94 : decode cX4_paid 94 = .ok (.iconst 4, 1) := dk_7 (dk_at dksX4_paid_4 1 rfl rfl)
theorem dX4_paid_95 : decode cX4_paid 95 = .ok (.iconst 1, 1) := dk_4 (dk_at dksX4_paid_4 2 rfl rfl)
theorem dX4_paid_96 : decode cX4_paid 96 = .ok (.aload_n 0, 1) := dk_42 (dk_at dksX4_paid_4 3 rfl rfl)
theorem dX4_paid_97 : decode cX4_paid 97 = .ok (.iload_n 1, 1) := dk_27 (dk_at dksX4_paid_4 4 rfl rfl)
theorem dX4_paid_98 : decode cX4_paid 98 = .ok (.iconst 3, 1) := dk_6 (dk_at dksX4_paid_4 5 rfl rfl)
theorem dX4_paid_99 : decode cX4_paid 99 = .ok (.invokevirtual 155, 3) := dk_182 0 155 (dk_at dksX4_paid_4 6 rfl rfl)
theorem dX4_paid_102 : decode cX4_paid 102 = .ok (.iadd, 1) := dk_96 (dk_at dksX4_paid_4 9 rfl rfl)
theorem dX4_paid_103 : decode cX4_paid 103 = .ok (.imul, 1) := dk_104 (dk_at dksX4_paid_4 10 rfl rfl)
theorem dX4_paid_104 : decode cX4_paid 104 = .ok (.istore_n 2, 1) := dk_61 (dk_at dksX4_paid_4 11 rfl rfl)
theorem dX4_paid_105 : decode cX4_paid 105 = .ok (.aload_n 0, 1) := dk_42 (dk_at dksX4_paid_4 12 rfl rfl)
theorem dX4_paid_106 : decode cX4_paid 106 = .ok (.getfield 9, 3) := dk_180 0 9 (dk_at dksX4_paid_4 13 rfl rfl)
theorem dX4_paid_109 : decode cX4_paid 109 = .ok (.iload_n 1, 1) := dk_27 (dk_at dksX4_paid_4 16 rfl rfl)
theorem dX4_paid_110 : decode cX4_paid 110 = .ok (.iconst 4, 1) := dk_7 (dk_at dksX4_paid_4 17 rfl rfl)
theorem dX4_paid_111 : decode cX4_paid 111 = .ok (.invokestatic 89, 3) := dk_184 0 89 (dk_at dksX4_paid_4 18 rfl rfl)
theorem dX4_paid_114 : decode cX4_paid 114 = .ok (.iconst 1, 1) := dk_4 (dk_at dksX4_paid_4 21 rfl rfl)
theorem dX4_paid_115 : decode cX4_paid 115 = .ok (.iastore, 1) := dk_79 (dk_at dksX4_paid_4 22 rfl rfl)
theorem dX4_paid_116 : decode cX4_paid 116 = .ok (.aload_n 0, 1) := dk_42 (dk_at dksX4_paid_4 23 rfl rfl)
theorem dX4_paid_117 : decode cX4_paid 117 = .ok (.getfield 9, 3) := dk_180 0 9 (dk_at dksX4_paid_5 0 rfl rfl)
theorem dX4_paid_120 : decode cX4_paid 120 = .ok (.iconst 0, 1) := dk_3 (dk_at dksX4_paid_5 3 rfl rfl)
theorem dX4_paid_121 : decode cX4_paid 121 = .ok (.dup2, 1) := dk_92 (dk_at dksX4_paid_5 4 rfl rfl)
theorem dX4_paid_122 : decode cX4_paid 122 = .ok (.iaload, 1) := dk_46 (dk_at dksX4_paid_5 5 rfl rfl)
theorem dX4_paid_123 : decode cX4_paid 123 = .ok (.iload_n 2, 1) := dk_28 (dk_at dksX4_paid_5 6 rfl rfl)
theorem dX4_paid_124 : decode cX4_paid 124 = .ok (.iadd, 1) := dk_96 (dk_at dksX4_paid_5 7 rfl rfl)
theorem dX4_paid_125 : decode cX4_paid 125 = .ok (.iastore, 1) := dk_79 (dk_at dksX4_paid_5 8 rfl rfl)
theorem dX4_paid_126 : decode cX4_paid 126 = .ok (.aload_n 0, 1) := dk_42 (dk_at dksX4_paid_5 9 rfl rfl)
theorem dX4_paid_127 : decode cX4_paid 127 = .ok (.iload_n 2, 1) := dk_28 (dk_at dksX4_paid_5 10 rfl rfl)
theorem dX4_paid_128 : decode cX4_paid 128 = .ok (.invokevirtual 110, 3) := dk_182 0 110 (dk_at dksX4_paid_5 11 rfl rfl)
theorem dX4_paid_131 : decode cX4_paid 131 = .ok (.ireturn, 1) := dk_172 (dk_at dksX4_paid_5 14 rfl rfl)
abbrev cX4_tailOf : ByteArray := prog_17_method_54_code
def yX4_tailOf : MethodName := ⟨RX4, "tailOf", "(II)I"⟩
def dkwX4_tailOf_2 : List UInt8 := [160, 0, 11, 42, 27, 182, 0, 120, 167, 0, 13, 42, 180, 0, 9, 27, 28, 184, 0, 107, 46, 172]
abbrev dktX4_tailOf_2 : List UInt8 := dkwX4_tailOf_2 ++ []
def dkwX4_tailOf_1 : List UInt8 := [7, 184, 0, 92, 154, 0, 7, 4, 167, 0, 4, 3, 5, 182, 0, 196, 153, 0, 5, 3, 172, 28, 7]
abbrev dktX4_tailOf_1 : List UInt8 := dkwX4_tailOf_1 ++ dktX4_tailOf_2
def dkwX4_tailOf_0 : List UInt8 := [42, 42, 27, 182, 0, 117, 154, 0, 7, 4, 167, 0, 4, 3, 4, 182, 0, 196, 154, 0, 25, 42, 28, 3]
abbrev dktX4_tailOf_0 : List UInt8 := dkwX4_tailOf_0 ++ dktX4_tailOf_1
theorem dksX4_tailOf_0 : cX4_tailOf.data.toList.drop 0 = dktX4_tailOf_0 := by decide +kernel
theorem dksX4_tailOf_1 : cX4_tailOf.data.toList.drop 24 = dktX4_tailOf_1 := dk_seg dksX4_tailOf_0 24 rfl rfl
theorem dksX4_tailOf_2 : cX4_tailOf.data.toList.drop 47 = dktX4_tailOf_2 := dk_seg dksX4_tailOf_1 23 rfl rfl
theorem dX4_tailOf_0 : decode cX4_tailOf 0 = .ok (.aload_n 0, 1) := dk_42 (dk_at dksX4_tailOf_0 0 rfl rfl)
theorem dX4_tailOf_1 : decode cX4_tailOf 1 = .ok (.aload_n 0, 1) := dk_42 (dk_at dksX4_tailOf_0 1 rfl rfl)
theorem dX4_tailOf_2 : decode cX4_tailOf 2 = .ok (.iload_n 1, 1) := dk_27 (dk_at dksX4_tailOf_0 2 rfl rfl)
theorem dX4_tailOf_3 : decode cX4_tailOf 3 = .ok (.invokevirtual 117, 3) := dk_182 0 117 (dk_at dksX4_tailOf_0 3 rfl rfl)
theorem dX4_tailOf_6 : decode cX4_tailOf 6 = .ok (.ifCond .ne 7, 3) := dk_154 0 7 (dk_at dksX4_tailOf_0 6 rfl rfl)
theorem dX4_tailOf_9 : decode cX4_tailOf 9 = .ok (.iconst 1, 1) := dk_4 (dk_at dksX4_tailOf_0 9 rfl rfl)
theorem dX4_tailOf_10 : decode cX4_tailOf 10 = .ok (.goto 4, 3) := dk_167 0 4 (dk_at dksX4_tailOf_0 10 rfl rfl)
theorem dX4_tailOf_13 : decode cX4_tailOf 13 = .ok (.iconst 0, 1) := dk_3 (dk_at dksX4_tailOf_0 13 rfl rfl)
theorem dX4_tailOf_14 : decode cX4_tailOf 14 = .ok (.iconst 1, 1) := dk_4 (dk_at dksX4_tailOf_0 14 rfl rfl)
theorem dX4_tailOf_15 : decode cX4_tailOf 15 = .ok (.invokevirtual 196, 3) := dk_182 0 196 (dk_at dksX4_tailOf_0 15 rfl rfl)
theorem dX4_tailOf_18 : decode cX4_tailOf 18 = .ok (.ifCond .ne 25, 3) := dk_154 0 25 (dk_at dksX4_tailOf_0 18 rfl rfl)
theorem dX4_tailOf_21 : decode cX4_tailOf 21 = .ok (.aload_n 0, 1) := dk_42 (dk_at dksX4_tailOf_0 21 rfl rfl)
theorem dX4_tailOf_22 : decode cX4_tailOf 22 = .ok (.iload_n 2, 1) := dk_28 (dk_at dksX4_tailOf_0 22 rfl rfl)
theorem dX4_tailOf_23 : decode cX4_tailOf 23 = .ok (.iconst 0, 1) := dk_3 (dk_at dksX4_tailOf_0 23 rfl rfl)
theorem dX4_tailOf_24 : decode cX4_tailOf 24 = .ok (.iconst 4, 1) := dk_7 (dk_at dksX4_tailOf_1 0 rfl rfl)
theorem dX4_tailOf_25 : decode cX4_tailOf 25 = .ok (.invokestatic 92, 3) := dk_184 0 92 (dk_at dksX4_tailOf_1 1 rfl rfl)
theorem dX4_tailOf_28 : decode cX4_tailOf 28 = .ok (.ifCond .ne 7, 3) := dk_154 0 7 (dk_at dksX4_tailOf_1 4 rfl rfl)
theorem dX4_tailOf_31 : decode cX4_tailOf 31 = .ok (.iconst 1, 1) := dk_4 (dk_at dksX4_tailOf_1 7 rfl rfl)
theorem dX4_tailOf_32 : decode cX4_tailOf 32 = .ok (.goto 4, 3) := dk_167 0 4 (dk_at dksX4_tailOf_1 8 rfl rfl)
theorem dX4_tailOf_35 : decode cX4_tailOf 35 = .ok (.iconst 0, 1) := dk_3 (dk_at dksX4_tailOf_1 11 rfl rfl)
theorem dX4_tailOf_36 : decode cX4_tailOf 36 = .ok (.iconst 2, 1) := dk_5 (dk_at dksX4_tailOf_1 12 rfl rfl)
theorem dX4_tailOf_37 : decode cX4_tailOf 37 = .ok (.invokevirtual 196, 3) := dk_182 0 196 (dk_at dksX4_tailOf_1 13 rfl rfl)
theorem dX4_tailOf_40 : decode cX4_tailOf 40 = .ok (.ifCond .eq 5, 3) := dk_153 0 5 (dk_at dksX4_tailOf_1 16 rfl rfl)
theorem dX4_tailOf_43 : decode cX4_tailOf 43 = .ok (.iconst 0, 1) := dk_3 (dk_at dksX4_tailOf_1 19 rfl rfl)
theorem dX4_tailOf_44 : decode cX4_tailOf 44 = .ok (.ireturn, 1) := dk_172 (dk_at dksX4_tailOf_1 20 rfl rfl)
theorem dX4_tailOf_45 : decode cX4_tailOf 45 = .ok (.iload_n 2, 1) := dk_28 (dk_at dksX4_tailOf_1 21 rfl rfl)
theorem dX4_tailOf_46 : decode cX4_tailOf 46 = .ok (.iconst 4, 1) := dk_7 (dk_at dksX4_tailOf_1 22 rfl rfl)
theorem dX4_tailOf_47 : decode cX4_tailOf 47 = .ok (.if_icmp .ne 11, 3) := dk_160 0 11 (dk_at dksX4_tailOf_2 0 rfl rfl)
theorem dX4_tailOf_50 : decode cX4_tailOf 50 = .ok (.aload_n 0, 1) := dk_42 (dk_at dksX4_tailOf_2 3 rfl rfl)
theorem dX4_tailOf_51 : decode cX4_tailOf 51 = .ok (.iload_n 1, 1) := dk_27 (dk_at dksX4_tailOf_2 4 rfl rfl)
theorem dX4_tailOf_52 : decode cX4_tailOf 52 = .ok (.invokevirtual 120, 3) := dk_182 0 120 (dk_at dksX4_tailOf_2 5 rfl rfl)
theorem dX4_tailOf_55 : decode cX4_tailOf 55 = .ok (.goto 13, 3) := dk_167 0 13 (dk_at dksX4_tailOf_2 8 rfl rfl)
theorem dX4_tailOf_58 : decode cX4_tailOf 58 = .ok (.aload_n 0, 1) := dk_42 (dk_at dksX4_tailOf_2 11 rfl rfl)
theorem dX4_tailOf_59 : decode cX4_tailOf 59 = .ok (.getfield 9, 3) := dk_180 0 9 (dk_at dksX4_tailOf_2 12 rfl rfl)
theorem dX4_tailOf_62 : decode cX4_tailOf 62 = .ok (.iload_n 1, 1) := dk_27 (dk_at dksX4_tailOf_2 15 rfl rfl)
theorem dX4_tailOf_63 : decode cX4_tailOf 63 = .ok (.iload_n 2, 1) := dk_28 (dk_at dksX4_tailOf_2 16 rfl rfl)
theorem dX4_tailOf_64 : decode cX4_tailOf 64 = .ok (.invokestatic 107, 3) := dk_184 0 107 (dk_at dksX4_tailOf_2 17 rfl rfl)
theorem dX4_tailOf_67 : decode cX4_tailOf 67 = .ok (.iaload, 1) := dk_46 (dk_at dksX4_tailOf_2 20 rfl rfl)
theorem dX4_tailOf_68 : decode cX4_tailOf 68 = .ok (.ireturn, 1) := dk_172 (dk_at dksX4_tailOf_2 21 rfl rfl)
abbrev cX4_isThrown : ByteArray := prog_17_method_11_code
def yX4_isThrown : MethodName := ⟨RX4, "isThrown", "(ZI)Z"⟩
def dkwX4_isThrown_0 : List UInt8 := [42, 27, 153, 0, 7, 28, 167, 0, 4, 3, 181, 0, 57, 27, 172]
abbrev dktX4_isThrown_0 : List UInt8 := dkwX4_isThrown_0 ++ []
theorem dksX4_isThrown_0 : cX4_isThrown.data.toList.drop 0 = dktX4_isThrown_0 := by decide +kernel
theorem dX4_isThrown_0 : decode cX4_isThrown 0 = .ok (.aload_n 0, 1) := dk_42 (dk_at dksX4_isThrown_0 0 rfl rfl)
theorem dX4_isThrown_1 : decode cX4_isThrown 1 = .ok (.iload_n 1, 1) := dk_27 (dk_at dksX4_isThrown_0 1 rfl rfl)
theorem dX4_isThrown_2 : decode cX4_isThrown 2 = .ok (.ifCond .eq 7, 3) := dk_153 0 7 (dk_at dksX4_isThrown_0 2 rfl rfl)
theorem dX4_isThrown_5 : decode cX4_isThrown 5 = .ok (.iload_n 2, 1) := dk_28 (dk_at dksX4_isThrown_0 5 rfl rfl)
theorem dX4_isThrown_6 : decode cX4_isThrown 6 = .ok (.goto 4, 3) := dk_167 0 4 (dk_at dksX4_isThrown_0 6 rfl rfl)
theorem dX4_isThrown_9 : decode cX4_isThrown 9 = .ok (.iconst 0, 1) := dk_3 (dk_at dksX4_isThrown_0 9 rfl rfl)
theorem dX4_isThrown_10 : decode cX4_isThrown 10 = .ok (.putfield 57, 3) := dk_181 0 57 (dk_at dksX4_isThrown_0 10 rfl rfl)
theorem dX4_isThrown_13 : decode cX4_isThrown 13 = .ok (.iload_n 1, 1) := dk_27 (dk_at dksX4_isThrown_0 13 rfl rfl)
theorem dX4_isThrown_14 : decode cX4_isThrown 14 = .ok (.ireturn, 1) := dk_172 (dk_at dksX4_isThrown_0 14 rfl rfl)
abbrev cX4_hankOf : ByteArray := prog_17_method_55_code
def yX4_hankOf : MethodName := ⟨RX4, "hankOf", "(II)I"⟩
def dkwX4_hankOf_4 : List UInt8 := [182, 0, 126, 172]
abbrev dktX4_hankOf_4 : List UInt8 := dkwX4_hankOf_4 ++ []
def dkwX4_hankOf_3 : List UInt8 := [42, 27, 5, 182, 0, 126, 172, 42, 27, 4, 182, 0, 126, 172, 42, 27, 3, 182, 0, 126, 172, 42, 27, 6]
abbrev dktX4_hankOf_3 : List UInt8 := dkwX4_hankOf_3 ++ dktX4_hankOf_4
def dkwX4_hankOf_2 : List UInt8 := [170, 0, 0, 0, 0, 47, 0, 0, 0, 0, 0, 0, 0, 2, 0, 0, 0, 26, 0, 0, 0, 33, 0, 0, 0, 40]
abbrev dktX4_hankOf_2 : List UInt8 := dkwX4_hankOf_2 ++ dktX4_hankOf_3
def dkwX4_hankOf_1 : List UInt8 := [6, 184, 0, 92, 154, 0, 7, 4, 167, 0, 4, 3, 5, 182, 0, 196, 153, 0, 5, 3, 172, 28]
abbrev dktX4_hankOf_1 : List UInt8 := dkwX4_hankOf_1 ++ dktX4_hankOf_2
def dkwX4_hankOf_0 : List UInt8 := [42, 42, 27, 182, 0, 133, 154, 0, 7, 4, 167, 0, 4, 3, 4, 182, 0, 196, 154, 0, 25, 42, 28, 3]
abbrev dktX4_hankOf_0 : List UInt8 := dkwX4_hankOf_0 ++ dktX4_hankOf_1
theorem dksX4_hankOf_0 : cX4_hankOf.data.toList.drop 0 = dktX4_hankOf_0 := by decide +kernel
theorem dksX4_hankOf_1 : cX4_hankOf.data.toList.drop 24 = dktX4_hankOf_1 := dk_seg dksX4_hankOf_0 24 rfl rfl
theorem dksX4_hankOf_2 : cX4_hankOf.data.toList.drop 46 = dktX4_hankOf_2 := dk_seg dksX4_hankOf_1 22 rfl rfl
theorem dksX4_hankOf_3 : cX4_hankOf.data.toList.drop 72 = dktX4_hankOf_3 := dk_seg dksX4_hankOf_2 26 rfl rfl
theorem dksX4_hankOf_4 : cX4_hankOf.data.toList.drop 96 = dktX4_hankOf_4 := dk_seg dksX4_hankOf_3 24 rfl rfl
theorem dX4_hankOf_0 : decode cX4_hankOf 0 = .ok (.aload_n 0, 1) := dk_42 (dk_at dksX4_hankOf_0 0 rfl rfl)
theorem dX4_hankOf_1 : decode cX4_hankOf 1 = .ok (.aload_n 0, 1) := dk_42 (dk_at dksX4_hankOf_0 1 rfl rfl)
theorem dX4_hankOf_2 : decode cX4_hankOf 2 = .ok (.iload_n 1, 1) := dk_27 (dk_at dksX4_hankOf_0 2 rfl rfl)
theorem dX4_hankOf_3 : decode cX4_hankOf 3 = .ok (.invokevirtual 133, 3) := dk_182 0 133 (dk_at dksX4_hankOf_0 3 rfl rfl)
theorem dX4_hankOf_6 : decode cX4_hankOf 6 = .ok (.ifCond .ne 7, 3) := dk_154 0 7 (dk_at dksX4_hankOf_0 6 rfl rfl)
theorem dX4_hankOf_9 : decode cX4_hankOf 9 = .ok (.iconst 1, 1) := dk_4 (dk_at dksX4_hankOf_0 9 rfl rfl)
theorem dX4_hankOf_10 : decode cX4_hankOf 10 = .ok (.goto 4, 3) := dk_167 0 4 (dk_at dksX4_hankOf_0 10 rfl rfl)
theorem dX4_hankOf_13 : decode cX4_hankOf 13 = .ok (.iconst 0, 1) := dk_3 (dk_at dksX4_hankOf_0 13 rfl rfl)
theorem dX4_hankOf_14 : decode cX4_hankOf 14 = .ok (.iconst 1, 1) := dk_4 (dk_at dksX4_hankOf_0 14 rfl rfl)
theorem dX4_hankOf_15 : decode cX4_hankOf 15 = .ok (.invokevirtual 196, 3) := dk_182 0 196 (dk_at dksX4_hankOf_0 15 rfl rfl)
theorem dX4_hankOf_18 : decode cX4_hankOf 18 = .ok (.ifCond .ne 25, 3) := dk_154 0 25 (dk_at dksX4_hankOf_0 18 rfl rfl)
theorem dX4_hankOf_21 : decode cX4_hankOf 21 = .ok (.aload_n 0, 1) := dk_42 (dk_at dksX4_hankOf_0 21 rfl rfl)
theorem dX4_hankOf_22 : decode cX4_hankOf 22 = .ok (.iload_n 2, 1) := dk_28 (dk_at dksX4_hankOf_0 22 rfl rfl)
theorem dX4_hankOf_23 : decode cX4_hankOf 23 = .ok (.iconst 0, 1) := dk_3 (dk_at dksX4_hankOf_0 23 rfl rfl)
theorem dX4_hankOf_24 : decode cX4_hankOf 24 = .ok (.iconst 3, 1) := dk_6 (dk_at dksX4_hankOf_1 0 rfl rfl)
theorem dX4_hankOf_25 : decode cX4_hankOf 25 = .ok (.invokestatic 92, 3) := dk_184 0 92 (dk_at dksX4_hankOf_1 1 rfl rfl)
theorem dX4_hankOf_28 : decode cX4_hankOf 28 = .ok (.ifCond .ne 7, 3) := dk_154 0 7 (dk_at dksX4_hankOf_1 4 rfl rfl)
theorem dX4_hankOf_31 : decode cX4_hankOf 31 = .ok (.iconst 1, 1) := dk_4 (dk_at dksX4_hankOf_1 7 rfl rfl)
theorem dX4_hankOf_32 : decode cX4_hankOf 32 = .ok (.goto 4, 3) := dk_167 0 4 (dk_at dksX4_hankOf_1 8 rfl rfl)
theorem dX4_hankOf_35 : decode cX4_hankOf 35 = .ok (.iconst 0, 1) := dk_3 (dk_at dksX4_hankOf_1 11 rfl rfl)
theorem dX4_hankOf_36 : decode cX4_hankOf 36 = .ok (.iconst 2, 1) := dk_5 (dk_at dksX4_hankOf_1 12 rfl rfl)
theorem dX4_hankOf_37 : decode cX4_hankOf 37 = .ok (.invokevirtual 196, 3) := dk_182 0 196 (dk_at dksX4_hankOf_1 13 rfl rfl)
theorem dX4_hankOf_40 : decode cX4_hankOf 40 = .ok (.ifCond .eq 5, 3) := dk_153 0 5 (dk_at dksX4_hankOf_1 16 rfl rfl)
theorem dX4_hankOf_43 : decode cX4_hankOf 43 = .ok (.iconst 0, 1) := dk_3 (dk_at dksX4_hankOf_1 19 rfl rfl)
theorem dX4_hankOf_44 : decode cX4_hankOf 44 = .ok (.ireturn, 1) := dk_172 (dk_at dksX4_hankOf_1 20 rfl rfl)
theorem dX4_hankOf_45 : decode cX4_hankOf 45 = .ok (.iload_n 2, 1) := dk_28 (dk_at dksX4_hankOf_1 21 rfl rfl)
theorem dX4_hankOf_46 : decode cX4_hankOf 46 = .ok (.tableswitch 47 0 2 #[26, 33, 40], 26) := by decide +kernel
theorem dX4_hankOf_72 : decode cX4_hankOf 72 = .ok (.aload_n 0, 1) := dk_42 (dk_at dksX4_hankOf_3 0 rfl rfl)
theorem dX4_hankOf_73 : decode cX4_hankOf 73 = .ok (.iload_n 1, 1) := dk_27 (dk_at dksX4_hankOf_3 1 rfl rfl)
theorem dX4_hankOf_74 : decode cX4_hankOf 74 = .ok (.iconst 2, 1) := dk_5 (dk_at dksX4_hankOf_3 2 rfl rfl)
theorem dX4_hankOf_75 : decode cX4_hankOf 75 = .ok (.invokevirtual 126, 3) := dk_182 0 126 (dk_at dksX4_hankOf_3 3 rfl rfl)
theorem dX4_hankOf_78 : decode cX4_hankOf 78 = .ok (.ireturn, 1) := dk_172 (dk_at dksX4_hankOf_3 6 rfl rfl)
theorem dX4_hankOf_79 : decode cX4_hankOf 79 = .ok (.aload_n 0, 1) := dk_42 (dk_at dksX4_hankOf_3 7 rfl rfl)
theorem dX4_hankOf_80 : decode cX4_hankOf 80 = .ok (.iload_n 1, 1) := dk_27 (dk_at dksX4_hankOf_3 8 rfl rfl)
theorem dX4_hankOf_81 : decode cX4_hankOf 81 = .ok (.iconst 1, 1) := dk_4 (dk_at dksX4_hankOf_3 9 rfl rfl)
theorem dX4_hankOf_82 : decode cX4_hankOf 82 = .ok (.invokevirtual 126, 3) := dk_182 0 126 (dk_at dksX4_hankOf_3 10 rfl rfl)
theorem dX4_hankOf_85 : decode cX4_hankOf 85 = .ok (.ireturn, 1) := dk_172 (dk_at dksX4_hankOf_3 13 rfl rfl)
theorem dX4_hankOf_86 : decode cX4_hankOf 86 = .ok (.aload_n 0, 1) := dk_42 (dk_at dksX4_hankOf_3 14 rfl rfl)
theorem dX4_hankOf_87 : decode cX4_hankOf 87 = .ok (.iload_n 1, 1) := dk_27 (dk_at dksX4_hankOf_3 15 rfl rfl)
theorem dX4_hankOf_88 : decode cX4_hankOf 88 = .ok (.iconst 0, 1) := dk_3 (dk_at dksX4_hankOf_3 16 rfl rfl)
theorem dX4_hankOf_89 : decode cX4_hankOf 89 = .ok (.invokevirtual 126, 3) := dk_182 0 126 (dk_at dksX4_hankOf_3 17 rfl rfl)
theorem dX4_hankOf_92 : decode cX4_hankOf 92 = .ok (.ireturn, 1) := dk_172 (dk_at dksX4_hankOf_3 20 rfl rfl)
theorem dX4_hankOf_93 : decode cX4_hankOf 93 = .ok (.aload_n 0, 1) := dk_42 (dk_at dksX4_hankOf_3 21 rfl rfl)
theorem dX4_hankOf_94 : decode cX4_hankOf 94 = .ok (.iload_n 1, 1) := dk_27 (dk_at dksX4_hankOf_3 22 rfl rfl)
theorem dX4_hankOf_95 : decode cX4_hankOf 95 = .ok (.iconst 3, 1) := dk_6 (dk_at dksX4_hankOf_3 23 rfl rfl)
theorem dX4_hankOf_96 : decode cX4_hankOf 96 = .ok (.invokevirtual 126, 3) := dk_182 0 126 (dk_at dksX4_hankOf_4 0 rfl rfl)
theorem dX4_hankOf_99 : decode cX4_hankOf 99 = .ok (.ireturn, 1) := dk_172 (dk_at dksX4_hankOf_4 3 rfl rfl)
abbrev cX4_bowOf : ByteArray := prog_17_method_56_code
def yX4_bowOf : MethodName := ⟨RX4, "bowOf", "(II)I"⟩
def dkwX4_bowOf_3 : List UInt8 := [42, 27, 5, 182, 0, 155, 172, 42, 27, 4, 182, 0, 155, 172, 42, 27, 28, 182, 0, 155, 172]
abbrev dktX4_bowOf_3 : List UInt8 := dkwX4_bowOf_3 ++ []
def dkwX4_bowOf_2 : List UInt8 := [171, 0, 0, 0, 39, 0, 0, 0, 2, 0, 0, 0, 1, 0, 0, 0, 25, 0, 0, 0, 2, 0, 0, 0, 32]
abbrev dktX4_bowOf_2 : List UInt8 := dkwX4_bowOf_2 ++ dktX4_bowOf_3
def dkwX4_bowOf_1 : List UInt8 := [16, 6, 184, 0, 92, 154, 0, 7, 4, 167, 0, 4, 3, 5, 182, 0, 196, 153, 0, 5, 3, 172, 28]
abbrev dktX4_bowOf_1 : List UInt8 := dkwX4_bowOf_1 ++ dktX4_bowOf_2
def dkwX4_bowOf_0 : List UInt8 := [42, 42, 27, 182, 0, 152, 154, 0, 7, 4, 167, 0, 4, 3, 4, 182, 0, 196, 154, 0, 26, 42, 28, 3]
abbrev dktX4_bowOf_0 : List UInt8 := dkwX4_bowOf_0 ++ dktX4_bowOf_1
theorem dksX4_bowOf_0 : cX4_bowOf.data.toList.drop 0 = dktX4_bowOf_0 := by decide +kernel
theorem dksX4_bowOf_1 : cX4_bowOf.data.toList.drop 24 = dktX4_bowOf_1 := dk_seg dksX4_bowOf_0 24 rfl rfl
theorem dksX4_bowOf_2 : cX4_bowOf.data.toList.drop 47 = dktX4_bowOf_2 := dk_seg dksX4_bowOf_1 23 rfl rfl
theorem dksX4_bowOf_3 : cX4_bowOf.data.toList.drop 72 = dktX4_bowOf_3 := dk_seg dksX4_bowOf_2 25 rfl rfl
theorem dX4_bowOf_0 : decode cX4_bowOf 0 = .ok (.aload_n 0, 1) := dk_42 (dk_at dksX4_bowOf_0 0 rfl rfl)
theorem dX4_bowOf_1 : decode cX4_bowOf 1 = .ok (.aload_n 0, 1) := dk_42 (dk_at dksX4_bowOf_0 1 rfl rfl)
theorem dX4_bowOf_2 : decode cX4_bowOf 2 = .ok (.iload_n 1, 1) := dk_27 (dk_at dksX4_bowOf_0 2 rfl rfl)
theorem dX4_bowOf_3 : decode cX4_bowOf 3 = .ok (.invokevirtual 152, 3) := dk_182 0 152 (dk_at dksX4_bowOf_0 3 rfl rfl)
theorem dX4_bowOf_6 : decode cX4_bowOf 6 = .ok (.ifCond .ne 7, 3) := dk_154 0 7 (dk_at dksX4_bowOf_0 6 rfl rfl)
theorem dX4_bowOf_9 : decode cX4_bowOf 9 = .ok (.iconst 1, 1) := dk_4 (dk_at dksX4_bowOf_0 9 rfl rfl)
theorem dX4_bowOf_10 : decode cX4_bowOf 10 = .ok (.goto 4, 3) := dk_167 0 4 (dk_at dksX4_bowOf_0 10 rfl rfl)
theorem dX4_bowOf_13 : decode cX4_bowOf 13 = .ok (.iconst 0, 1) := dk_3 (dk_at dksX4_bowOf_0 13 rfl rfl)
theorem dX4_bowOf_14 : decode cX4_bowOf 14 = .ok (.iconst 1, 1) := dk_4 (dk_at dksX4_bowOf_0 14 rfl rfl)
theorem dX4_bowOf_15 : decode cX4_bowOf 15 = .ok (.invokevirtual 196, 3) := dk_182 0 196 (dk_at dksX4_bowOf_0 15 rfl rfl)
theorem dX4_bowOf_18 : decode cX4_bowOf 18 = .ok (.ifCond .ne 26, 3) := dk_154 0 26 (dk_at dksX4_bowOf_0 18 rfl rfl)
theorem dX4_bowOf_21 : decode cX4_bowOf 21 = .ok (.aload_n 0, 1) := dk_42 (dk_at dksX4_bowOf_0 21 rfl rfl)
theorem dX4_bowOf_22 : decode cX4_bowOf 22 = .ok (.iload_n 2, 1) := dk_28 (dk_at dksX4_bowOf_0 22 rfl rfl)
theorem dX4_bowOf_23 : decode cX4_bowOf 23 = .ok (.iconst 0, 1) := dk_3 (dk_at dksX4_bowOf_0 23 rfl rfl)
theorem dX4_bowOf_24 : decode cX4_bowOf 24 = .ok (.bipush 6, 2) := dk_16 6 (dk_at dksX4_bowOf_1 0 rfl rfl)
theorem dX4_bowOf_26 : decode cX4_bowOf 26 = .ok (.invokestatic 92, 3) := dk_184 0 92 (dk_at dksX4_bowOf_1 2 rfl rfl)
theorem dX4_bowOf_29 : decode cX4_bowOf 29 = .ok (.ifCond .ne 7, 3) := dk_154 0 7 (dk_at dksX4_bowOf_1 5 rfl rfl)
theorem dX4_bowOf_32 : decode cX4_bowOf 32 = .ok (.iconst 1, 1) := dk_4 (dk_at dksX4_bowOf_1 8 rfl rfl)
theorem dX4_bowOf_33 : decode cX4_bowOf 33 = .ok (.goto 4, 3) := dk_167 0 4 (dk_at dksX4_bowOf_1 9 rfl rfl)
theorem dX4_bowOf_36 : decode cX4_bowOf 36 = .ok (.iconst 0, 1) := dk_3 (dk_at dksX4_bowOf_1 12 rfl rfl)
theorem dX4_bowOf_37 : decode cX4_bowOf 37 = .ok (.iconst 2, 1) := dk_5 (dk_at dksX4_bowOf_1 13 rfl rfl)
theorem dX4_bowOf_38 : decode cX4_bowOf 38 = .ok (.invokevirtual 196, 3) := dk_182 0 196 (dk_at dksX4_bowOf_1 14 rfl rfl)
theorem dX4_bowOf_41 : decode cX4_bowOf 41 = .ok (.ifCond .eq 5, 3) := dk_153 0 5 (dk_at dksX4_bowOf_1 17 rfl rfl)
theorem dX4_bowOf_44 : decode cX4_bowOf 44 = .ok (.iconst 0, 1) := dk_3 (dk_at dksX4_bowOf_1 20 rfl rfl)
theorem dX4_bowOf_45 : decode cX4_bowOf 45 = .ok (.ireturn, 1) := dk_172 (dk_at dksX4_bowOf_1 21 rfl rfl)
theorem dX4_bowOf_46 : decode cX4_bowOf 46 = .ok (.iload_n 2, 1) := dk_28 (dk_at dksX4_bowOf_1 22 rfl rfl)
theorem dX4_bowOf_47 : decode cX4_bowOf 47 = .ok (.lookupswitch 39 #[(1, 25), (2, 32)], 25) := by decide +kernel
theorem dX4_bowOf_72 : decode cX4_bowOf 72 = .ok (.aload_n 0, 1) := dk_42 (dk_at dksX4_bowOf_3 0 rfl rfl)
theorem dX4_bowOf_73 : decode cX4_bowOf 73 = .ok (.iload_n 1, 1) := dk_27 (dk_at dksX4_bowOf_3 1 rfl rfl)
theorem dX4_bowOf_74 : decode cX4_bowOf 74 = .ok (.iconst 2, 1) := dk_5 (dk_at dksX4_bowOf_3 2 rfl rfl)
theorem dX4_bowOf_75 : decode cX4_bowOf 75 = .ok (.invokevirtual 155, 3) := dk_182 0 155 (dk_at dksX4_bowOf_3 3 rfl rfl)
theorem dX4_bowOf_78 : decode cX4_bowOf 78 = .ok (.ireturn, 1) := dk_172 (dk_at dksX4_bowOf_3 6 rfl rfl)
theorem dX4_bowOf_79 : decode cX4_bowOf 79 = .ok (.aload_n 0, 1) := dk_42 (dk_at dksX4_bowOf_3 7 rfl rfl)
theorem dX4_bowOf_80 : decode cX4_bowOf 80 = .ok (.iload_n 1, 1) := dk_27 (dk_at dksX4_bowOf_3 8 rfl rfl)
theorem dX4_bowOf_81 : decode cX4_bowOf 81 = .ok (.iconst 1, 1) := dk_4 (dk_at dksX4_bowOf_3 9 rfl rfl)
theorem dX4_bowOf_82 : decode cX4_bowOf 82 = .ok (.invokevirtual 155, 3) := dk_182 0 155 (dk_at dksX4_bowOf_3 10 rfl rfl)
theorem dX4_bowOf_85 : decode cX4_bowOf 85 = .ok (.ireturn, 1) := dk_172 (dk_at dksX4_bowOf_3 13 rfl rfl)
theorem dX4_bowOf_86 : decode cX4_bowOf 86 = .ok (.aload_n 0, 1) := dk_42 (dk_at dksX4_bowOf_3 14 rfl rfl)
theorem dX4_bowOf_87 : decode cX4_bowOf 87 = .ok (.iload_n 1, 1) := dk_27 (dk_at dksX4_bowOf_3 15 rfl rfl)
theorem dX4_bowOf_88 : decode cX4_bowOf 88 = .ok (.iload_n 2, 1) := dk_28 (dk_at dksX4_bowOf_3 16 rfl rfl)
theorem dX4_bowOf_89 : decode cX4_bowOf 89 = .ok (.invokevirtual 155, 3) := dk_182 0 155 (dk_at dksX4_bowOf_3 17 rfl rfl)
theorem dX4_bowOf_92 : decode cX4_bowOf 92 = .ok (.ireturn, 1) := dk_172 (dk_at dksX4_bowOf_3 20 rfl rfl)
abbrev cX4_cakeOf : ByteArray := prog_17_method_57_code
def yX4_cakeOf : MethodName := ⟨RX4, "cakeOf", "(I)I"⟩
def dkwX4_cakeOf_1 : List UInt8 := [167, 0, 12, 42, 180, 0, 9, 16, 28, 27, 96, 46, 172]
abbrev dktX4_cakeOf_1 : List UInt8 := dkwX4_cakeOf_1 ++ []
def dkwX4_cakeOf_0 : List UInt8 := [42, 42, 27, 182, 0, 170, 154, 0, 7, 4, 167, 0, 4, 3, 4, 182, 0, 196, 153, 0, 7, 3]
abbrev dktX4_cakeOf_0 : List UInt8 := dkwX4_cakeOf_0 ++ dktX4_cakeOf_1
theorem dksX4_cakeOf_0 : cX4_cakeOf.data.toList.drop 0 = dktX4_cakeOf_0 := by decide +kernel
theorem dksX4_cakeOf_1 : cX4_cakeOf.data.toList.drop 22 = dktX4_cakeOf_1 := dk_seg dksX4_cakeOf_0 22 rfl rfl
theorem dX4_cakeOf_0 : decode cX4_cakeOf 0 = .ok (.aload_n 0, 1) := dk_42 (dk_at dksX4_cakeOf_0 0 rfl rfl)
theorem dX4_cakeOf_1 : decode cX4_cakeOf 1 = .ok (.aload_n 0, 1) := dk_42 (dk_at dksX4_cakeOf_0 1 rfl rfl)
theorem dX4_cakeOf_2 : decode cX4_cakeOf 2 = .ok (.iload_n 1, 1) := dk_27 (dk_at dksX4_cakeOf_0 2 rfl rfl)
theorem dX4_cakeOf_3 : decode cX4_cakeOf 3 = .ok (.invokevirtual 170, 3) := dk_182 0 170 (dk_at dksX4_cakeOf_0 3 rfl rfl)
theorem dX4_cakeOf_6 : decode cX4_cakeOf 6 = .ok (.ifCond .ne 7, 3) := dk_154 0 7 (dk_at dksX4_cakeOf_0 6 rfl rfl)
theorem dX4_cakeOf_9 : decode cX4_cakeOf 9 = .ok (.iconst 1, 1) := dk_4 (dk_at dksX4_cakeOf_0 9 rfl rfl)
theorem dX4_cakeOf_10 : decode cX4_cakeOf 10 = .ok (.goto 4, 3) := dk_167 0 4 (dk_at dksX4_cakeOf_0 10 rfl rfl)
theorem dX4_cakeOf_13 : decode cX4_cakeOf 13 = .ok (.iconst 0, 1) := dk_3 (dk_at dksX4_cakeOf_0 13 rfl rfl)
theorem dX4_cakeOf_14 : decode cX4_cakeOf 14 = .ok (.iconst 1, 1) := dk_4 (dk_at dksX4_cakeOf_0 14 rfl rfl)
theorem dX4_cakeOf_15 : decode cX4_cakeOf 15 = .ok (.invokevirtual 196, 3) := dk_182 0 196 (dk_at dksX4_cakeOf_0 15 rfl rfl)
theorem dX4_cakeOf_18 : decode cX4_cakeOf 18 = .ok (.ifCond .eq 7, 3) := dk_153 0 7 (dk_at dksX4_cakeOf_0 18 rfl rfl)
theorem dX4_cakeOf_21 : decode cX4_cakeOf 21 = .ok (.iconst 0, 1) := dk_3 (dk_at dksX4_cakeOf_0 21 rfl rfl)
theorem dX4_cakeOf_22 : decode cX4_cakeOf 22 = .ok (.goto 12, 3) := dk_167 0 12 (dk_at dksX4_cakeOf_1 0 rfl rfl)
theorem dX4_cakeOf_25 : decode cX4_cakeOf 25 = .ok (.aload_n 0, 1) := dk_42 (dk_at dksX4_cakeOf_1 3 rfl rfl)
theorem dX4_cakeOf_26 : decode cX4_cakeOf 26 = .ok (.getfield 9, 3) := dk_180 0 9 (dk_at dksX4_cakeOf_1 4 rfl rfl)
theorem dX4_cakeOf_29 : decode cX4_cakeOf 29 = .ok (.bipush 28, 2) := dk_16 28 (dk_at dksX4_cakeOf_1 7 rfl rfl)
theorem dX4_cakeOf_31 : decode cX4_cakeOf 31 = .ok (.iload_n 1, 1) := dk_27 (dk_at dksX4_cakeOf_1 9 rfl rfl)
theorem dX4_cakeOf_32 : decode cX4_cakeOf 32 = .ok (.iadd, 1) := dk_96 (dk_at dksX4_cakeOf_1 10 rfl rfl)
theorem dX4_cakeOf_33 : decode cX4_cakeOf 33 = .ok (.iaload, 1) := dk_46 (dk_at dksX4_cakeOf_1 11 rfl rfl)
theorem dX4_cakeOf_34 : decode cX4_cakeOf 34 = .ok (.ireturn, 1) := dk_172 (dk_at dksX4_cakeOf_1 12 rfl rfl)
abbrev cX4_sieves : ByteArray := prog_17_method_58_code
def yX4_sieves : MethodName := ⟨RX4, "sieves", "(I)I"⟩
def dkwX4_sieves_1 : List UInt8 := [42, 180, 0, 9, 16, 18, 27, 96, 46, 172]
abbrev dktX4_sieves_1 : List UInt8 := dkwX4_sieves_1 ++ []
def dkwX4_sieves_0 : List UInt8 := [42, 27, 184, 0, 142, 154, 0, 7, 4, 167, 0, 4, 3, 4, 182, 0, 196, 153, 0, 7, 3, 167, 0, 12]
abbrev dktX4_sieves_0 : List UInt8 := dkwX4_sieves_0 ++ dktX4_sieves_1
theorem dksX4_sieves_0 : cX4_sieves.data.toList.drop 0 = dktX4_sieves_0 := by decide +kernel
theorem dksX4_sieves_1 : cX4_sieves.data.toList.drop 24 = dktX4_sieves_1 := dk_seg dksX4_sieves_0 24 rfl rfl
theorem dX4_sieves_0 : decode cX4_sieves 0 = .ok (.aload_n 0, 1) := dk_42 (dk_at dksX4_sieves_0 0 rfl rfl)
theorem dX4_sieves_1 : decode cX4_sieves 1 = .ok (.iload_n 1, 1) := dk_27 (dk_at dksX4_sieves_0 1 rfl rfl)
theorem dX4_sieves_2 : decode cX4_sieves 2 = .ok (.invokestatic 142, 3) := dk_184 0 142 (dk_at dksX4_sieves_0 2 rfl rfl)
theorem dX4_sieves_5 : decode cX4_sieves 5 = .ok (.ifCond .ne 7, 3) := dk_154 0 7 (dk_at dksX4_sieves_0 5 rfl rfl)
theorem dX4_sieves_8 : decode cX4_sieves 8 = .ok (.iconst 1, 1) := dk_4 (dk_at dksX4_sieves_0 8 rfl rfl)
theorem dX4_sieves_9 : decode cX4_sieves 9 = .ok (.goto 4, 3) := dk_167 0 4 (dk_at dksX4_sieves_0 9 rfl rfl)
theorem dX4_sieves_12 : decode cX4_sieves 12 = .ok (.iconst 0, 1) := dk_3 (dk_at dksX4_sieves_0 12 rfl rfl)
theorem dX4_sieves_13 : decode cX4_sieves 13 = .ok (.iconst 1, 1) := dk_4 (dk_at dksX4_sieves_0 13 rfl rfl)
theorem dX4_sieves_14 : decode cX4_sieves 14 = .ok (.invokevirtual 196, 3) := dk_182 0 196 (dk_at dksX4_sieves_0 14 rfl rfl)
theorem dX4_sieves_17 : decode cX4_sieves 17 = .ok (.ifCond .eq 7, 3) := dk_153 0 7 (dk_at dksX4_sieves_0 17 rfl rfl)
theorem dX4_sieves_20 : decode cX4_sieves 20 = .ok (.iconst 0, 1) := dk_3 (dk_at dksX4_sieves_0 20 rfl rfl)
theorem dX4_sieves_21 : decode cX4_sieves 21 = .ok (.goto 12, 3) := dk_167 0 12 (dk_at dksX4_sieves_0 21 rfl rfl)
theorem dX4_sieves_24 : decode cX4_sieves 24 = .ok (.aload_n 0, 1) := dk_42 (dk_at dksX4_sieves_1 0 rfl rfl)
theorem dX4_sieves_25 : decode cX4_sieves 25 = .ok (.getfield 9, 3) := dk_180 0 9 (dk_at dksX4_sieves_1 1 rfl rfl)
theorem dX4_sieves_28 : decode cX4_sieves 28 = .ok (.bipush 18, 2) := dk_16 18 (dk_at dksX4_sieves_1 4 rfl rfl)
theorem dX4_sieves_30 : decode cX4_sieves 30 = .ok (.iload_n 1, 1) := dk_27 (dk_at dksX4_sieves_1 6 rfl rfl)
theorem dX4_sieves_31 : decode cX4_sieves 31 = .ok (.iadd, 1) := dk_96 (dk_at dksX4_sieves_1 7 rfl rfl)
theorem dX4_sieves_32 : decode cX4_sieves 32 = .ok (.iaload, 1) := dk_46 (dk_at dksX4_sieves_1 8 rfl rfl)
theorem dX4_sieves_33 : decode cX4_sieves 33 = .ok (.ireturn, 1) := dk_172 (dk_at dksX4_sieves_1 9 rfl rfl)
abbrev cX4_bestHank : ByteArray := prog_17_method_61_code
def yX4_bestHank : MethodName := ⟨RX4, "bestHank", "(I)I"⟩
def dkwX4_bestHank_5 : List UInt8 := [29, 172, 132, 2, 255, 167, 255, 157, 42, 5, 181, 0, 57, 3, 172]
abbrev dktX4_bestHank_5 : List UInt8 := dkwX4_bestHank_5 ++ []
def dkwX4_bestHank_4 : List UInt8 := [5, 182, 0, 126, 162, 0, 8, 21, 4, 167, 0, 4, 29, 62, 132, 4, 1, 167, 255, 178, 29, 155, 0, 5]
abbrev dktX4_bestHank_4 : List UInt8 := dkwX4_bestHank_4 ++ dktX4_bestHank_5
def dkwX4_bestHank_3 : List UInt8 := [167, 0, 4, 3, 54, 5, 21, 5, 153, 0, 28, 29, 155, 0, 19, 42, 21, 4, 5, 182, 0, 126, 42, 29]
abbrev dktX4_bestHank_3 : List UInt8 := dkwX4_bestHank_3 ++ dktX4_bestHank_4
def dkwX4_bestHank_2 : List UInt8 := [42, 27, 3, 182, 0, 155, 182, 0, 200, 153, 0, 17, 42, 21, 4, 182, 0, 164, 28, 160, 0, 7, 4]
abbrev dktX4_bestHank_2 : List UInt8 := dkwX4_bestHank_2 ++ dktX4_bestHank_3
def dkwX4_bestHank_1 : List UInt8 := [61, 28, 155, 0, 101, 2, 62, 3, 54, 4, 21, 4, 42, 180, 0, 9, 7, 46, 162, 0, 73, 42, 21, 4]
abbrev dktX4_bestHank_1 : List UInt8 := dkwX4_bestHank_1 ++ dktX4_bestHank_2
def dkwX4_bestHank_0 : List UInt8 := [42, 42, 27, 182, 0, 152, 154, 0, 7, 4, 167, 0, 4, 3, 4, 182, 0, 196, 153, 0, 5, 3, 172, 5]
abbrev dktX4_bestHank_0 : List UInt8 := dkwX4_bestHank_0 ++ dktX4_bestHank_1
theorem dksX4_bestHank_0 : cX4_bestHank.data.toList.drop 0 = dktX4_bestHank_0 := by decide +kernel
theorem dksX4_bestHank_1 : cX4_bestHank.data.toList.drop 24 = dktX4_bestHank_1 := dk_seg dksX4_bestHank_0 24 rfl rfl
theorem dksX4_bestHank_2 : cX4_bestHank.data.toList.drop 48 = dktX4_bestHank_2 := dk_seg dksX4_bestHank_1 24 rfl rfl
theorem dksX4_bestHank_3 : cX4_bestHank.data.toList.drop 71 = dktX4_bestHank_3 := dk_seg dksX4_bestHank_2 23 rfl rfl
theorem dksX4_bestHank_4 : cX4_bestHank.data.toList.drop 95 = dktX4_bestHank_4 := dk_seg dksX4_bestHank_3 24 rfl rfl
theorem dksX4_bestHank_5 : cX4_bestHank.data.toList.drop 119 = dktX4_bestHank_5 := dk_seg dksX4_bestHank_4 24 rfl rfl
theorem dX4_bestHank_0 : decode cX4_bestHank 0 = .ok (.aload_n 0, 1) := dk_42 (dk_at dksX4_bestHank_0 0 rfl rfl)
theorem dX4_bestHank_1 : decode cX4_bestHank 1 = .ok (.aload_n 0, 1) := dk_42 (dk_at dksX4_bestHank_0 1 rfl rfl)
theorem dX4_bestHank_2 : decode cX4_bestHank 2 = .ok (.iload_n 1, 1) := dk_27 (dk_at dksX4_bestHank_0 2 rfl rfl)
theorem dX4_bestHank_3 : decode cX4_bestHank 3 = .ok (.invokevirtual 152, 3) := dk_182 0 152 (dk_at dksX4_bestHank_0 3 rfl rfl)
theorem dX4_bestHank_6 : decode cX4_bestHank 6 = .ok (.ifCond .ne 7, 3) := dk_154 0 7 (dk_at dksX4_bestHank_0 6 rfl rfl)
theorem dX4_bestHank_9 : decode cX4_bestHank 9 = .ok (.iconst 1, 1) := dk_4 (dk_at dksX4_bestHank_0 9 rfl rfl)
theorem dX4_bestHank_10 : decode cX4_bestHank 10 = .ok (.goto 4, 3) := dk_167 0 4 (dk_at dksX4_bestHank_0 10 rfl rfl)
theorem dX4_bestHank_13 : decode cX4_bestHank 13 = .ok (.iconst 0, 1) := dk_3 (dk_at dksX4_bestHank_0 13 rfl rfl)
theorem dX4_bestHank_14 : decode cX4_bestHank 14 = .ok (.iconst 1, 1) := dk_4 (dk_at dksX4_bestHank_0 14 rfl rfl)
theorem dX4_bestHank_15 : decode cX4_bestHank 15 = .ok (.invokevirtual 196, 3) := dk_182 0 196 (dk_at dksX4_bestHank_0 15 rfl rfl)
theorem dX4_bestHank_18 : decode cX4_bestHank 18 = .ok (.ifCond .eq 5, 3) := dk_153 0 5 (dk_at dksX4_bestHank_0 18 rfl rfl)
theorem dX4_bestHank_21 : decode cX4_bestHank 21 = .ok (.iconst 0, 1) := dk_3 (dk_at dksX4_bestHank_0 21 rfl rfl)
theorem dX4_bestHank_22 : decode cX4_bestHank 22 = .ok (.ireturn, 1) := dk_172 (dk_at dksX4_bestHank_0 22 rfl rfl)
theorem dX4_bestHank_23 : decode cX4_bestHank 23 = .ok (.iconst 2, 1) := dk_5 (dk_at dksX4_bestHank_0 23 rfl rfl)
theorem dX4_bestHank_24 : decode cX4_bestHank 24 = .ok (.istore_n 2, 1) := dk_61 (dk_at dksX4_bestHank_1 0 rfl rfl)
theorem dX4_bestHank_25 : decode cX4_bestHank 25 = .ok (.iload_n 2, 1) := dk_28 (dk_at dksX4_bestHank_1 1 rfl rfl)
theorem dX4_bestHank_26 : decode cX4_bestHank 26 = .ok (.ifCond .lt 101, 3) := dk_155 0 101 (dk_at dksX4_bestHank_1 2 rfl rfl)
theorem dX4_bestHank_29 : decode cX4_bestHank 29 = .ok (.iconst (-1), 1) := dk_2 (dk_at dksX4_bestHank_1 5 rfl rfl)
theorem dX4_bestHank_30 : decode cX4_bestHank 30 = .ok (.istore_n 3, 1) := dk_62 (dk_at dksX4_bestHank_1 6 rfl rfl)
theorem dX4_bestHank_31 : decode cX4_bestHank 31 = .ok (.iconst 0, 1) := dk_3 (dk_at dksX4_bestHank_1 7 rfl rfl)
theorem dX4_bestHank_32 : decode cX4_bestHank 32 = .ok (.istore 4, 2) := dk_54 4 (dk_at dksX4_bestHank_1 8 rfl rfl)
theorem dX4_bestHank_34 : decode cX4_bestHank 34 = .ok (.iload 4, 2) := dk_21 4 (dk_at dksX4_bestHank_1 10 rfl rfl)
theorem dX4_bestHank_36 : decode cX4_bestHank 36 = .ok (.aload_n 0, 1) := dk_42 (dk_at dksX4_bestHank_1 12 rfl rfl)
theorem dX4_bestHank_37 : decode cX4_bestHank 37 = .ok (.getfield 9, 3) := dk_180 0 9 (dk_at dksX4_bestHank_1 13 rfl rfl)
theorem dX4_bestHank_40 : decode cX4_bestHank 40 = .ok (.iconst 4, 1) := dk_7 (dk_at dksX4_bestHank_1 16 rfl rfl)
theorem dX4_bestHank_41 : decode cX4_bestHank 41 = .ok (.iaload, 1) := dk_46 (dk_at dksX4_bestHank_1 17 rfl rfl)
theorem dX4_bestHank_42 : decode cX4_bestHank 42 = .ok (.if_icmp .ge 73, 3) := dk_162 0 73 (dk_at dksX4_bestHank_1 18 rfl rfl)
theorem dX4_bestHank_45 : decode cX4_bestHank 45 = .ok (.aload_n 0, 1) := dk_42 (dk_at dksX4_bestHank_1 21 rfl rfl)
theorem dX4_bestHank_46 : decode cX4_bestHank 46 = .ok (.iload 4, 2) := dk_21 4 (dk_at dksX4_bestHank_1 22 rfl rfl)
theorem dX4_bestHank_48 : decode cX4_bestHank 48 = .ok (.aload_n 0, 1) := dk_42 (dk_at dksX4_bestHank_2 0 rfl rfl)
theorem dX4_bestHank_49 : decode cX4_bestHank 49 = .ok (.iload_n 1, 1) := dk_27 (dk_at dksX4_bestHank_2 1 rfl rfl)
theorem dX4_bestHank_50 : decode cX4_bestHank 50 = .ok (.iconst 0, 1) := dk_3 (dk_at dksX4_bestHank_2 2 rfl rfl)
theorem dX4_bestHank_51 : decode cX4_bestHank 51 = .ok (.invokevirtual 155, 3) := dk_182 0 155 (dk_at dksX4_bestHank_2 3 rfl rfl)
theorem dX4_bestHank_54 : decode cX4_bestHank 54 = .ok (.invokevirtual 200, 3) := dk_182 0 200 (dk_at dksX4_bestHank_2 6 rfl rfl)
theorem dX4_bestHank_57 : decode cX4_bestHank 57 = .ok (.ifCond .eq 17, 3) := dk_153 0 17 (dk_at dksX4_bestHank_2 9 rfl rfl)
theorem dX4_bestHank_60 : decode cX4_bestHank 60 = .ok (.aload_n 0, 1) := dk_42 (dk_at dksX4_bestHank_2 12 rfl rfl)
theorem dX4_bestHank_61 : decode cX4_bestHank 61 = .ok (.iload 4, 2) := dk_21 4 (dk_at dksX4_bestHank_2 13 rfl rfl)
theorem dX4_bestHank_63 : decode cX4_bestHank 63 = .ok (.invokevirtual 164, 3) := dk_182 0 164 (dk_at dksX4_bestHank_2 15 rfl rfl)
theorem dX4_bestHank_66 : decode cX4_bestHank 66 = .ok (.iload_n 2, 1) := dk_28 (dk_at dksX4_bestHank_2 18 rfl rfl)
theorem dX4_bestHank_67 : decode cX4_bestHank 67 = .ok (.if_icmp .ne 7, 3) := dk_160 0 7 (dk_at dksX4_bestHank_2 19 rfl rfl)
theorem dX4_bestHank_70 : decode cX4_bestHank 70 = .ok (.iconst 1, 1) := dk_4 (dk_at dksX4_bestHank_2 22 rfl rfl)
theorem dX4_bestHank_71 : decode cX4_bestHank 71 = .ok (.goto 4, 3) := dk_167 0 4 (dk_at dksX4_bestHank_3 0 rfl rfl)
theorem dX4_bestHank_74 : decode cX4_bestHank 74 = .ok (.iconst 0, 1) := dk_3 (dk_at dksX4_bestHank_3 3 rfl rfl)
theorem dX4_bestHank_75 : decode cX4_bestHank 75 = .ok (.istore 5, 2) := dk_54 5 (dk_at dksX4_bestHank_3 4 rfl rfl)
theorem dX4_bestHank_77 : decode cX4_bestHank 77 = .ok (.iload 5, 2) := dk_21 5 (dk_at dksX4_bestHank_3 6 rfl rfl)
theorem dX4_bestHank_79 : decode cX4_bestHank 79 = .ok (.ifCond .eq 28, 3) := dk_153 0 28 (dk_at dksX4_bestHank_3 8 rfl rfl)
theorem dX4_bestHank_82 : decode cX4_bestHank 82 = .ok (.iload_n 3, 1) := dk_29 (dk_at dksX4_bestHank_3 11 rfl rfl)
theorem dX4_bestHank_83 : decode cX4_bestHank 83 = .ok (.ifCond .lt 19, 3) := dk_155 0 19 (dk_at dksX4_bestHank_3 12 rfl rfl)
theorem dX4_bestHank_86 : decode cX4_bestHank 86 = .ok (.aload_n 0, 1) := dk_42 (dk_at dksX4_bestHank_3 15 rfl rfl)
theorem dX4_bestHank_87 : decode cX4_bestHank 87 = .ok (.iload 4, 2) := dk_21 4 (dk_at dksX4_bestHank_3 16 rfl rfl)
theorem dX4_bestHank_89 : decode cX4_bestHank 89 = .ok (.iconst 2, 1) := dk_5 (dk_at dksX4_bestHank_3 18 rfl rfl)
theorem dX4_bestHank_90 : decode cX4_bestHank 90 = .ok (.invokevirtual 126, 3) := dk_182 0 126 (dk_at dksX4_bestHank_3 19 rfl rfl)
theorem dX4_bestHank_93 : decode cX4_bestHank 93 = .ok (.aload_n 0, 1) := dk_42 (dk_at dksX4_bestHank_3 22 rfl rfl)
theorem dX4_bestHank_94 : decode cX4_bestHank 94 = .ok (.iload_n 3, 1) := dk_29 (dk_at dksX4_bestHank_3 23 rfl rfl)
theorem dX4_bestHank_95 : decode cX4_bestHank 95 = .ok (.iconst 2, 1) := dk_5 (dk_at dksX4_bestHank_4 0 rfl rfl)
theorem dX4_bestHank_96 : decode cX4_bestHank 96 = .ok (.invokevirtual 126, 3) := dk_182 0 126 (dk_at dksX4_bestHank_4 1 rfl rfl)
theorem dX4_bestHank_99 : decode cX4_bestHank 99 = .ok (.if_icmp .ge 8, 3) := dk_162 0 8 (dk_at dksX4_bestHank_4 4 rfl rfl)
theorem dX4_bestHank_102 : decode cX4_bestHank 102 = .ok (.iload 4, 2) := dk_21 4 (dk_at dksX4_bestHank_4 7 rfl rfl)
theorem dX4_bestHank_104 : decode cX4_bestHank 104 = .ok (.goto 4, 3) := dk_167 0 4 (dk_at dksX4_bestHank_4 9 rfl rfl)
theorem dX4_bestHank_107 : decode cX4_bestHank 107 = .ok (.iload_n 3, 1) := dk_29 (dk_at dksX4_bestHank_4 12 rfl rfl)
theorem dX4_bestHank_108 : decode cX4_bestHank 108 = .ok (.istore_n 3, 1) := dk_62 (dk_at dksX4_bestHank_4 13 rfl rfl)
theorem dX4_bestHank_109 : decode cX4_bestHank 109 = .ok (.iinc 4 1, 3) := dk_132 4 1 (dk_at dksX4_bestHank_4 14 rfl rfl)
theorem dX4_bestHank_112 : decode cX4_bestHank 112 = .ok (.goto (-78), 3) := dk_167 255 178 (dk_at dksX4_bestHank_4 17 rfl rfl)
theorem dX4_bestHank_115 : decode cX4_bestHank 115 = .ok (.iload_n 3, 1) := dk_29 (dk_at dksX4_bestHank_4 20 rfl rfl)
theorem dX4_bestHank_116 : decode cX4_bestHank 116 = .ok (.ifCond .lt 5, 3) := dk_155 0 5 (dk_at dksX4_bestHank_4 21 rfl rfl)
theorem dX4_bestHank_119 : decode cX4_bestHank 119 = .ok (.iload_n 3, 1) := dk_29 (dk_at dksX4_bestHank_5 0 rfl rfl)
theorem dX4_bestHank_120 : decode cX4_bestHank 120 = .ok (.ireturn, 1) := dk_172 (dk_at dksX4_bestHank_5 1 rfl rfl)
theorem dX4_bestHank_121 : decode cX4_bestHank 121 = .ok (.iinc 2 (-1), 3) := dk_132 2 255 (dk_at dksX4_bestHank_5 2 rfl rfl)
theorem dX4_bestHank_124 : decode cX4_bestHank 124 = .ok (.goto (-99), 3) := dk_167 255 157 (dk_at dksX4_bestHank_5 5 rfl rfl)
theorem dX4_bestHank_127 : decode cX4_bestHank 127 = .ok (.aload_n 0, 1) := dk_42 (dk_at dksX4_bestHank_5 8 rfl rfl)
theorem dX4_bestHank_128 : decode cX4_bestHank 128 = .ok (.iconst 2, 1) := dk_5 (dk_at dksX4_bestHank_5 9 rfl rfl)
theorem dX4_bestHank_129 : decode cX4_bestHank 129 = .ok (.putfield 57, 3) := dk_181 0 57 (dk_at dksX4_bestHank_5 10 rfl rfl)
theorem dX4_bestHank_132 : decode cX4_bestHank 132 = .ok (.iconst 0, 1) := dk_3 (dk_at dksX4_bestHank_5 13 rfl rfl)
theorem dX4_bestHank_133 : decode cX4_bestHank 133 = .ok (.ireturn, 1) := dk_172 (dk_at dksX4_bestHank_5 14 rfl rfl)
abbrev cX4_canBeTaken : ByteArray := prog_17_method_59_code
def yX4_canBeTaken : MethodName := ⟨RX4, "canBeTaken", "(II)Z"⟩
def dkwX4_canBeTaken_1 : List UInt8 := [161, 0, 7, 4, 167, 0, 4, 3, 172]
abbrev dktX4_canBeTaken_1 : List UInt8 := dkwX4_canBeTaken_1 ++ []
def dkwX4_canBeTaken_0 : List UInt8 := [42, 27, 4, 182, 0, 126, 28, 184, 0, 158, 161, 0, 20, 42, 27, 5, 182, 0, 126, 28, 184, 0, 161]
abbrev dktX4_canBeTaken_0 : List UInt8 := dkwX4_canBeTaken_0 ++ dktX4_canBeTaken_1
theorem dksX4_canBeTaken_0 : cX4_canBeTaken.data.toList.drop 0 = dktX4_canBeTaken_0 := by decide +kernel
theorem dksX4_canBeTaken_1 : cX4_canBeTaken.data.toList.drop 23 = dktX4_canBeTaken_1 := dk_seg dksX4_canBeTaken_0 23 rfl rfl
theorem dX4_canBeTaken_0 : decode cX4_canBeTaken 0 = .ok (.aload_n 0, 1) := dk_42 (dk_at dksX4_canBeTaken_0 0 rfl rfl)
theorem dX4_canBeTaken_1 : decode cX4_canBeTaken 1 = .ok (.iload_n 1, 1) := dk_27 (dk_at dksX4_canBeTaken_0 1 rfl rfl)
theorem dX4_canBeTaken_2 : decode cX4_canBeTaken 2 = .ok (.iconst 1, 1) := dk_4 (dk_at dksX4_canBeTaken_0 2 rfl rfl)
theorem dX4_canBeTaken_3 : decode cX4_canBeTaken 3 = .ok (.invokevirtual 126, 3) := dk_182 0 126 (dk_at dksX4_canBeTaken_0 3 rfl rfl)
theorem dX4_canBeTaken_6 : decode cX4_canBeTaken 6 = .ok (.iload_n 2, 1) := dk_28 (dk_at dksX4_canBeTaken_0 6 rfl rfl)
theorem dX4_canBeTaken_7 : decode cX4_canBeTaken 7 = .ok (.invokestatic 158, 3) := dk_184 0 158 (dk_at dksX4_canBeTaken_0 7 rfl rfl)
theorem dX4_canBeTaken_10 : decode cX4_canBeTaken 10 = .ok (.if_icmp .lt 20, 3) := dk_161 0 20 (dk_at dksX4_canBeTaken_0 10 rfl rfl)
theorem dX4_canBeTaken_13 : decode cX4_canBeTaken 13 = .ok (.aload_n 0, 1) := dk_42 (dk_at dksX4_canBeTaken_0 13 rfl rfl)
theorem dX4_canBeTaken_14 : decode cX4_canBeTaken 14 = .ok (.iload_n 1, 1) := dk_27 (dk_at dksX4_canBeTaken_0 14 rfl rfl)
theorem dX4_canBeTaken_15 : decode cX4_canBeTaken 15 = .ok (.iconst 2, 1) := dk_5 (dk_at dksX4_canBeTaken_0 15 rfl rfl)
theorem dX4_canBeTaken_16 : decode cX4_canBeTaken 16 = .ok (.invokevirtual 126, 3) := dk_182 0 126 (dk_at dksX4_canBeTaken_0 16 rfl rfl)
theorem dX4_canBeTaken_19 : decode cX4_canBeTaken 19 = .ok (.iload_n 2, 1) := dk_28 (dk_at dksX4_canBeTaken_0 19 rfl rfl)
theorem dX4_canBeTaken_20 : decode cX4_canBeTaken 20 = .ok (.invokestatic 161, 3) := dk_184 0 161 (dk_at dksX4_canBeTaken_0 20 rfl rfl)
theorem dX4_canBeTaken_23 : decode cX4_canBeTaken 23 = .ok (.if_icmp .lt 7, 3) := dk_161 0 7 (dk_at dksX4_canBeTaken_1 0 rfl rfl)
theorem dX4_canBeTaken_26 : decode cX4_canBeTaken 26 = .ok (.iconst 1, 1) := dk_4 (dk_at dksX4_canBeTaken_1 3 rfl rfl)
theorem dX4_canBeTaken_27 : decode cX4_canBeTaken 27 = .ok (.goto 4, 3) := dk_167 0 4 (dk_at dksX4_canBeTaken_1 4 rfl rfl)
theorem dX4_canBeTaken_30 : decode cX4_canBeTaken 30 = .ok (.iconst 0, 1) := dk_3 (dk_at dksX4_canBeTaken_1 7 rfl rfl)
theorem dX4_canBeTaken_31 : decode cX4_canBeTaken 31 = .ok (.ireturn, 1) := dk_172 (dk_at dksX4_canBeTaken_1 8 rfl rfl)
abbrev cX4_bestAgain : ByteArray := prog_17_method_62_code
def yX4_bestAgain : MethodName := ⟨RX4, "bestAgain", "(I)I"⟩
def dkwX4_bestAgain_5 : List UInt8 := [132, 2, 1, 167, 255, 162, 42, 5, 181, 0, 57, 3, 172]
abbrev dktX4_bestAgain_5 : List UInt8 := dkwX4_bestAgain_5 ++ []
def dkwX4_bestAgain_4 : List UInt8 := [167, 255, 203, 42, 28, 42, 27, 3, 182, 0, 155, 182, 0, 200, 153, 0, 9, 29, 154, 0, 5, 28, 172]
abbrev dktX4_bestAgain_4 : List UInt8 := dkwX4_bestAgain_4 ++ dktX4_bestAgain_5
def dkwX4_bestAgain_3 : List UInt8 := [153, 0, 17, 42, 21, 4, 28, 182, 0, 203, 153, 0, 7, 4, 167, 0, 4, 3, 96, 62, 132, 4, 1]
abbrev dktX4_bestAgain_3 : List UInt8 := dkwX4_bestAgain_3 ++ dktX4_bestAgain_4
def dkwX4_bestAgain_2 : List UInt8 := [162, 0, 48, 29, 21, 4, 28, 159, 0, 32, 42, 21, 4, 42, 27, 3, 182, 0, 155, 182, 0, 200]
abbrev dktX4_bestAgain_2 : List UInt8 := dkwX4_bestAgain_2 ++ dktX4_bestAgain_3
def dkwX4_bestAgain_1 : List UInt8 := [61, 28, 42, 180, 0, 9, 7, 46, 162, 0, 90, 3, 62, 3, 54, 4, 21, 4, 42, 180, 0, 9, 7, 46]
abbrev dktX4_bestAgain_1 : List UInt8 := dkwX4_bestAgain_1 ++ dktX4_bestAgain_2
def dkwX4_bestAgain_0 : List UInt8 := [42, 42, 27, 182, 0, 152, 154, 0, 7, 4, 167, 0, 4, 3, 4, 182, 0, 196, 153, 0, 5, 3, 172, 3]
abbrev dktX4_bestAgain_0 : List UInt8 := dkwX4_bestAgain_0 ++ dktX4_bestAgain_1
theorem dksX4_bestAgain_0 : cX4_bestAgain.data.toList.drop 0 = dktX4_bestAgain_0 := by decide +kernel
theorem dksX4_bestAgain_1 : cX4_bestAgain.data.toList.drop 24 = dktX4_bestAgain_1 := dk_seg dksX4_bestAgain_0 24 rfl rfl
theorem dksX4_bestAgain_2 : cX4_bestAgain.data.toList.drop 48 = dktX4_bestAgain_2 := dk_seg dksX4_bestAgain_1 24 rfl rfl
theorem dksX4_bestAgain_3 : cX4_bestAgain.data.toList.drop 70 = dktX4_bestAgain_3 := dk_seg dksX4_bestAgain_2 22 rfl rfl
theorem dksX4_bestAgain_4 : cX4_bestAgain.data.toList.drop 93 = dktX4_bestAgain_4 := dk_seg dksX4_bestAgain_3 23 rfl rfl
theorem dksX4_bestAgain_5 : cX4_bestAgain.data.toList.drop 116 = dktX4_bestAgain_5 := dk_seg dksX4_bestAgain_4 23 rfl rfl
theorem dX4_bestAgain_0 : decode cX4_bestAgain 0 = .ok (.aload_n 0, 1) := dk_42 (dk_at dksX4_bestAgain_0 0 rfl rfl)
theorem dX4_bestAgain_1 : decode cX4_bestAgain 1 = .ok (.aload_n 0, 1) := dk_42 (dk_at dksX4_bestAgain_0 1 rfl rfl)
theorem dX4_bestAgain_2 : decode cX4_bestAgain 2 = .ok (.iload_n 1, 1) := dk_27 (dk_at dksX4_bestAgain_0 2 rfl rfl)
theorem dX4_bestAgain_3 : decode cX4_bestAgain 3 = .ok (.invokevirtual 152, 3) := dk_182 0 152 (dk_at dksX4_bestAgain_0 3 rfl rfl)
theorem dX4_bestAgain_6 : decode cX4_bestAgain 6 = .ok (.ifCond .ne 7, 3) := dk_154 0 7 (dk_at dksX4_bestAgain_0 6 rfl rfl)
theorem dX4_bestAgain_9 : decode cX4_bestAgain 9 = .ok (.iconst 1, 1) := dk_4 (dk_at dksX4_bestAgain_0 9 rfl rfl)
theorem dX4_bestAgain_10 : decode cX4_bestAgain 10 = .ok (.goto 4, 3) := dk_167 0 4 (dk_at dksX4_bestAgain_0 10 rfl rfl)
theorem dX4_bestAgain_13 : decode cX4_bestAgain 13 = .ok (.iconst 0, 1) := dk_3 (dk_at dksX4_bestAgain_0 13 rfl rfl)
theorem dX4_bestAgain_14 : decode cX4_bestAgain 14 = .ok (.iconst 1, 1) := dk_4 (dk_at dksX4_bestAgain_0 14 rfl rfl)
theorem dX4_bestAgain_15 : decode cX4_bestAgain 15 = .ok (.invokevirtual 196, 3) := dk_182 0 196 (dk_at dksX4_bestAgain_0 15 rfl rfl)
theorem dX4_bestAgain_18 : decode cX4_bestAgain 18 = .ok (.ifCond .eq 5, 3) := dk_153 0 5 (dk_at dksX4_bestAgain_0 18 rfl rfl)
theorem dX4_bestAgain_21 : decode cX4_bestAgain 21 = .ok (.iconst 0, 1) := dk_3 (dk_at dksX4_bestAgain_0 21 rfl rfl)
theorem dX4_bestAgain_22 : decode cX4_bestAgain 22 = .ok (.ireturn, 1) := dk_172 (dk_at dksX4_bestAgain_0 22 rfl rfl)
theorem dX4_bestAgain_23 : decode cX4_bestAgain 23 = .ok (.iconst 0, 1) := dk_3 (dk_at dksX4_bestAgain_0 23 rfl rfl)
theorem dX4_bestAgain_24 : decode cX4_bestAgain 24 = .ok (.istore_n 2, 1) := dk_61 (dk_at dksX4_bestAgain_1 0 rfl rfl)
theorem dX4_bestAgain_25 : decode cX4_bestAgain 25 = .ok (.iload_n 2, 1) := dk_28 (dk_at dksX4_bestAgain_1 1 rfl rfl)
theorem dX4_bestAgain_26 : decode cX4_bestAgain 26 = .ok (.aload_n 0, 1) := dk_42 (dk_at dksX4_bestAgain_1 2 rfl rfl)
theorem dX4_bestAgain_27 : decode cX4_bestAgain 27 = .ok (.getfield 9, 3) := dk_180 0 9 (dk_at dksX4_bestAgain_1 3 rfl rfl)
theorem dX4_bestAgain_30 : decode cX4_bestAgain 30 = .ok (.iconst 4, 1) := dk_7 (dk_at dksX4_bestAgain_1 6 rfl rfl)
theorem dX4_bestAgain_31 : decode cX4_bestAgain 31 = .ok (.iaload, 1) := dk_46 (dk_at dksX4_bestAgain_1 7 rfl rfl)
theorem dX4_bestAgain_32 : decode cX4_bestAgain 32 = .ok (.if_icmp .ge 90, 3) := dk_162 0 90 (dk_at dksX4_bestAgain_1 8 rfl rfl)
theorem dX4_bestAgain_35 : decode cX4_bestAgain 35 = .ok (.iconst 0, 1) := dk_3 (dk_at dksX4_bestAgain_1 11 rfl rfl)
theorem dX4_bestAgain_36 : decode cX4_bestAgain 36 = .ok (.istore_n 3, 1) := dk_62 (dk_at dksX4_bestAgain_1 12 rfl rfl)
theorem dX4_bestAgain_37 : decode cX4_bestAgain 37 = .ok (.iconst 0, 1) := dk_3 (dk_at dksX4_bestAgain_1 13 rfl rfl)
theorem dX4_bestAgain_38 : decode cX4_bestAgain 38 = .ok (.istore 4, 2) := dk_54 4 (dk_at dksX4_bestAgain_1 14 rfl rfl)
theorem dX4_bestAgain_40 : decode cX4_bestAgain 40 = .ok (.iload 4, 2) := dk_21 4 (dk_at dksX4_bestAgain_1 16 rfl rfl)
theorem dX4_bestAgain_42 : decode cX4_bestAgain 42 = .ok (.aload_n 0, 1) := dk_42 (dk_at dksX4_bestAgain_1 18 rfl rfl)
theorem dX4_bestAgain_43 : decode cX4_bestAgain 43 = .ok (.getfield 9, 3) := dk_180 0 9 (dk_at dksX4_bestAgain_1 19 rfl rfl)
theorem dX4_bestAgain_46 : decode cX4_bestAgain 46 = .ok (.iconst 4, 1) := dk_7 (dk_at dksX4_bestAgain_1 22 rfl rfl)
theorem dX4_bestAgain_47 : decode cX4_bestAgain 47 = .ok (.iaload, 1) := dk_46 (dk_at dksX4_bestAgain_1 23 rfl rfl)
theorem dX4_bestAgain_48 : decode cX4_bestAgain 48 = .ok (.if_icmp .ge 48, 3) := dk_162 0 48 (dk_at dksX4_bestAgain_2 0 rfl rfl)
theorem dX4_bestAgain_51 : decode cX4_bestAgain 51 = .ok (.iload_n 3, 1) := dk_29 (dk_at dksX4_bestAgain_2 3 rfl rfl)
theorem dX4_bestAgain_52 : decode cX4_bestAgain 52 = .ok (.iload 4, 2) := dk_21 4 (dk_at dksX4_bestAgain_2 4 rfl rfl)
theorem dX4_bestAgain_54 : decode cX4_bestAgain 54 = .ok (.iload_n 2, 1) := dk_28 (dk_at dksX4_bestAgain_2 6 rfl rfl)
theorem dX4_bestAgain_55 : decode cX4_bestAgain 55 = .ok (.if_icmp .eq 32, 3) := dk_159 0 32 (dk_at dksX4_bestAgain_2 7 rfl rfl)
theorem dX4_bestAgain_58 : decode cX4_bestAgain 58 = .ok (.aload_n 0, 1) := dk_42 (dk_at dksX4_bestAgain_2 10 rfl rfl)
theorem dX4_bestAgain_59 : decode cX4_bestAgain 59 = .ok (.iload 4, 2) := dk_21 4 (dk_at dksX4_bestAgain_2 11 rfl rfl)
theorem dX4_bestAgain_61 : decode cX4_bestAgain 61 = .ok (.aload_n 0, 1) := dk_42 (dk_at dksX4_bestAgain_2 13 rfl rfl)
theorem dX4_bestAgain_62 : decode cX4_bestAgain 62 = .ok (.iload_n 1, 1) := dk_27 (dk_at dksX4_bestAgain_2 14 rfl rfl)
theorem dX4_bestAgain_63 : decode cX4_bestAgain 63 = .ok (.iconst 0, 1) := dk_3 (dk_at dksX4_bestAgain_2 15 rfl rfl)
theorem dX4_bestAgain_64 : decode cX4_bestAgain 64 = .ok (.invokevirtual 155, 3) := dk_182 0 155 (dk_at dksX4_bestAgain_2 16 rfl rfl)
theorem dX4_bestAgain_67 : decode cX4_bestAgain 67 = .ok (.invokevirtual 200, 3) := dk_182 0 200 (dk_at dksX4_bestAgain_2 19 rfl rfl)
theorem dX4_bestAgain_70 : decode cX4_bestAgain 70 = .ok (.ifCond .eq 17, 3) := dk_153 0 17 (dk_at dksX4_bestAgain_3 0 rfl rfl)
theorem dX4_bestAgain_73 : decode cX4_bestAgain 73 = .ok (.aload_n 0, 1) := dk_42 (dk_at dksX4_bestAgain_3 3 rfl rfl)
theorem dX4_bestAgain_74 : decode cX4_bestAgain 74 = .ok (.iload 4, 2) := dk_21 4 (dk_at dksX4_bestAgain_3 4 rfl rfl)
theorem dX4_bestAgain_76 : decode cX4_bestAgain 76 = .ok (.iload_n 2, 1) := dk_28 (dk_at dksX4_bestAgain_3 6 rfl rfl)
theorem dX4_bestAgain_77 : decode cX4_bestAgain 77 = .ok (.invokevirtual 203, 3) := dk_182 0 203 (dk_at dksX4_bestAgain_3 7 rfl rfl)
theorem dX4_bestAgain_80 : decode cX4_bestAgain 80 = .ok (.ifCond .eq 7, 3) := dk_153 0 7 (dk_at dksX4_bestAgain_3 10 rfl rfl)
theorem dX4_bestAgain_83 : decode cX4_bestAgain 83 = .ok (.iconst 1, 1) := dk_4 (dk_at dksX4_bestAgain_3 13 rfl rfl)
theorem dX4_bestAgain_84 : decode cX4_bestAgain 84 = .ok (.goto 4, 3) := dk_167 0 4 (dk_at dksX4_bestAgain_3 14 rfl rfl)
theorem dX4_bestAgain_87 : decode cX4_bestAgain 87 = .ok (.iconst 0, 1) := dk_3 (dk_at dksX4_bestAgain_3 17 rfl rfl)
theorem dX4_bestAgain_88 : decode cX4_bestAgain 88 = .ok (.iadd, 1) := dk_96 (dk_at dksX4_bestAgain_3 18 rfl rfl)
theorem dX4_bestAgain_89 : decode cX4_bestAgain 89 = .ok (.istore_n 3, 1) := dk_62 (dk_at dksX4_bestAgain_3 19 rfl rfl)
theorem dX4_bestAgain_90 : decode cX4_bestAgain 90 = .ok (.iinc 4 1, 3) := dk_132 4 1 (dk_at dksX4_bestAgain_3 20 rfl rfl)
theorem dX4_bestAgain_93 : decode cX4_bestAgain 93 = .ok (.goto (-53), 3) := dk_167 255 203 (dk_at dksX4_bestAgain_4 0 rfl rfl)
theorem dX4_bestAgain_96 : decode cX4_bestAgain 96 = .ok (.aload_n 0, 1) := dk_42 (dk_at dksX4_bestAgain_4 3 rfl rfl)
theorem dX4_bestAgain_97 : decode cX4_bestAgain 97 = .ok (.iload_n 2, 1) := dk_28 (dk_at dksX4_bestAgain_4 4 rfl rfl)
theorem dX4_bestAgain_98 : decode cX4_bestAgain 98 = .ok (.aload_n 0, 1) := dk_42 (dk_at dksX4_bestAgain_4 5 rfl rfl)
theorem dX4_bestAgain_99 : decode cX4_bestAgain 99 = .ok (.iload_n 1, 1) := dk_27 (dk_at dksX4_bestAgain_4 6 rfl rfl)
theorem dX4_bestAgain_100 : decode cX4_bestAgain 100 = .ok (.iconst 0, 1) := dk_3 (dk_at dksX4_bestAgain_4 7 rfl rfl)
theorem dX4_bestAgain_101 : decode cX4_bestAgain 101 = .ok (.invokevirtual 155, 3) := dk_182 0 155 (dk_at dksX4_bestAgain_4 8 rfl rfl)
theorem dX4_bestAgain_104 : decode cX4_bestAgain 104 = .ok (.invokevirtual 200, 3) := dk_182 0 200 (dk_at dksX4_bestAgain_4 11 rfl rfl)
theorem dX4_bestAgain_107 : decode cX4_bestAgain 107 = .ok (.ifCond .eq 9, 3) := dk_153 0 9 (dk_at dksX4_bestAgain_4 14 rfl rfl)
theorem dX4_bestAgain_110 : decode cX4_bestAgain 110 = .ok (.iload_n 3, 1) := dk_29 (dk_at dksX4_bestAgain_4 17 rfl rfl)
theorem dX4_bestAgain_111 : decode cX4_bestAgain 111 = .ok (.ifCond .ne 5, 3) := dk_154 0 5 (dk_at dksX4_bestAgain_4 18 rfl rfl)
theorem dX4_bestAgain_114 : decode cX4_bestAgain 114 = .ok (.iload_n 2, 1) := dk_28 (dk_at dksX4_bestAgain_4 21 rfl rfl)
theorem dX4_bestAgain_115 : decode cX4_bestAgain 115 = .ok (.ireturn, 1) := dk_172 (dk_at dksX4_bestAgain_4 22 rfl rfl)
theorem dX4_bestAgain_116 : decode cX4_bestAgain 116 = .ok (.iinc 2 1, 3) := dk_132 2 1 (dk_at dksX4_bestAgain_5 0 rfl rfl)
theorem dX4_bestAgain_119 : decode cX4_bestAgain 119 = .ok (.goto (-94), 3) := dk_167 255 162 (dk_at dksX4_bestAgain_5 3 rfl rfl)
theorem dX4_bestAgain_122 : decode cX4_bestAgain 122 = .ok (.aload_n 0, 1) := dk_42 (dk_at dksX4_bestAgain_5 6 rfl rfl)
theorem dX4_bestAgain_123 : decode cX4_bestAgain 123 = .ok (.iconst 2, 1) := dk_5 (dk_at dksX4_bestAgain_5 7 rfl rfl)
theorem dX4_bestAgain_124 : decode cX4_bestAgain 124 = .ok (.putfield 57, 3) := dk_181 0 57 (dk_at dksX4_bestAgain_5 8 rfl rfl)
theorem dX4_bestAgain_127 : decode cX4_bestAgain 127 = .ok (.iconst 0, 1) := dk_3 (dk_at dksX4_bestAgain_5 11 rfl rfl)
theorem dX4_bestAgain_128 : decode cX4_bestAgain 128 = .ok (.ireturn, 1) := dk_172 (dk_at dksX4_bestAgain_5 12 rfl rfl)
abbrev cX4_isAhead : ByteArray := prog_17_method_60_code
def yX4_isAhead : MethodName := ⟨RX4, "isAhead", "(II)Z"⟩
def dkwX4_isAhead_2 : List UInt8 := [156, 0, 7, 4, 167, 0, 17, 3, 167, 0, 13, 27, 28, 162, 0, 7, 4, 167, 0, 4, 3, 172]
abbrev dktX4_isAhead_2 : List UInt8 := dkwX4_isAhead_2 ++ []
def dkwX4_isAhead_1 : List UInt8 := [3, 172, 42, 27, 5, 182, 0, 126, 42, 28, 5, 182, 0, 126, 100, 54, 4, 21, 4, 153, 0, 16, 21, 4]
abbrev dktX4_isAhead_1 : List UInt8 := dkwX4_isAhead_1 ++ dktX4_isAhead_2
def dkwX4_isAhead_0 : List UInt8 := [42, 27, 182, 0, 164, 42, 28, 182, 0, 164, 100, 62, 29, 153, 0, 13, 29, 158, 0, 7, 4, 167, 0, 4]
abbrev dktX4_isAhead_0 : List UInt8 := dkwX4_isAhead_0 ++ dktX4_isAhead_1
theorem dksX4_isAhead_0 : cX4_isAhead.data.toList.drop 0 = dktX4_isAhead_0 := by decide +kernel
theorem dksX4_isAhead_1 : cX4_isAhead.data.toList.drop 24 = dktX4_isAhead_1 := dk_seg dksX4_isAhead_0 24 rfl rfl
theorem dksX4_isAhead_2 : cX4_isAhead.data.toList.drop 48 = dktX4_isAhead_2 := dk_seg dksX4_isAhead_1 24 rfl rfl
theorem dX4_isAhead_0 : decode cX4_isAhead 0 = .ok (.aload_n 0, 1) := dk_42 (dk_at dksX4_isAhead_0 0 rfl rfl)
theorem dX4_isAhead_1 : decode cX4_isAhead 1 = .ok (.iload_n 1, 1) := dk_27 (dk_at dksX4_isAhead_0 1 rfl rfl)
theorem dX4_isAhead_2 : decode cX4_isAhead 2 = .ok (.invokevirtual 164, 3) := dk_182 0 164 (dk_at dksX4_isAhead_0 2 rfl rfl)
theorem dX4_isAhead_5 : decode cX4_isAhead 5 = .ok (.aload_n 0, 1) := dk_42 (dk_at dksX4_isAhead_0 5 rfl rfl)
theorem dX4_isAhead_6 : decode cX4_isAhead 6 = .ok (.iload_n 2, 1) := dk_28 (dk_at dksX4_isAhead_0 6 rfl rfl)
theorem dX4_isAhead_7 : decode cX4_isAhead 7 = .ok (.invokevirtual 164, 3) := dk_182 0 164 (dk_at dksX4_isAhead_0 7 rfl rfl)
theorem dX4_isAhead_10 : decode cX4_isAhead 10 = .ok (.isub, 1) := dk_100 (dk_at dksX4_isAhead_0 10 rfl rfl)
theorem dX4_isAhead_11 : decode cX4_isAhead 11 = .ok (.istore_n 3, 1) := dk_62 (dk_at dksX4_isAhead_0 11 rfl rfl)
theorem dX4_isAhead_12 : decode cX4_isAhead 12 = .ok (.iload_n 3, 1) := dk_29 (dk_at dksX4_isAhead_0 12 rfl rfl)
theorem dX4_isAhead_13 : decode cX4_isAhead 13 = .ok (.ifCond .eq 13, 3) := dk_153 0 13 (dk_at dksX4_isAhead_0 13 rfl rfl)
theorem dX4_isAhead_16 : decode cX4_isAhead 16 = .ok (.iload_n 3, 1) := dk_29 (dk_at dksX4_isAhead_0 16 rfl rfl)
theorem dX4_isAhead_17 : decode cX4_isAhead 17 = .ok (.ifCond .le 7, 3) := dk_158 0 7 (dk_at dksX4_isAhead_0 17 rfl rfl)
theorem dX4_isAhead_20 : decode cX4_isAhead 20 = .ok (.iconst 1, 1) := dk_4 (dk_at dksX4_isAhead_0 20 rfl rfl)
theorem dX4_isAhead_21 : decode cX4_isAhead 21 = .ok (.goto 4, 3) := dk_167 0 4 (dk_at dksX4_isAhead_0 21 rfl rfl)
theorem dX4_isAhead_24 : decode cX4_isAhead 24 = .ok (.iconst 0, 1) := dk_3 (dk_at dksX4_isAhead_1 0 rfl rfl)
theorem dX4_isAhead_25 : decode cX4_isAhead 25 = .ok (.ireturn, 1) := dk_172 (dk_at dksX4_isAhead_1 1 rfl rfl)
theorem dX4_isAhead_26 : decode cX4_isAhead 26 = .ok (.aload_n 0, 1) := dk_42 (dk_at dksX4_isAhead_1 2 rfl rfl)
theorem dX4_isAhead_27 : decode cX4_isAhead 27 = .ok (.iload_n 1, 1) := dk_27 (dk_at dksX4_isAhead_1 3 rfl rfl)
theorem dX4_isAhead_28 : decode cX4_isAhead 28 = .ok (.iconst 2, 1) := dk_5 (dk_at dksX4_isAhead_1 4 rfl rfl)
theorem dX4_isAhead_29 : decode cX4_isAhead 29 = .ok (.invokevirtual 126, 3) := dk_182 0 126 (dk_at dksX4_isAhead_1 5 rfl rfl)
theorem dX4_isAhead_32 : decode cX4_isAhead 32 = .ok (.aload_n 0, 1) := dk_42 (dk_at dksX4_isAhead_1 8 rfl rfl)
theorem dX4_isAhead_33 : decode cX4_isAhead 33 = .ok (.iload_n 2, 1) := dk_28 (dk_at dksX4_isAhead_1 9 rfl rfl)
theorem dX4_isAhead_34 : decode cX4_isAhead 34 = .ok (.iconst 2, 1) := dk_5 (dk_at dksX4_isAhead_1 10 rfl rfl)
theorem dX4_isAhead_35 : decode cX4_isAhead 35 = .ok (.invokevirtual 126, 3) := dk_182 0 126 (dk_at dksX4_isAhead_1 11 rfl rfl)
theorem dX4_isAhead_38 : decode cX4_isAhead 38 = .ok (.isub, 1) := dk_100 (dk_at dksX4_isAhead_1 14 rfl rfl)
theorem dX4_isAhead_39 : decode cX4_isAhead 39 = .ok (.istore 4, 2) := dk_54 4 (dk_at dksX4_isAhead_1 15 rfl rfl)
theorem dX4_isAhead_41 : decode cX4_isAhead 41 = .ok (.iload 4, 2) := dk_21 4 (dk_at dksX4_isAhead_1 17 rfl rfl)
theorem dX4_isAhead_43 : decode cX4_isAhead 43 = .ok (.ifCond .eq 16, 3) := dk_153 0 16 (dk_at dksX4_isAhead_1 19 rfl rfl)
theorem dX4_isAhead_46 : decode cX4_isAhead 46 = .ok (.iload 4, 2) := dk_21 4 (dk_at dksX4_isAhead_1 22 rfl rfl)
theorem dX4_isAhead_48 : decode cX4_isAhead 48 = .ok (.ifCond .ge 7, 3) := dk_156 0 7 (dk_at dksX4_isAhead_2 0 rfl rfl)
theorem dX4_isAhead_51 : decode cX4_isAhead 51 = .ok (.iconst 1, 1) := dk_4 (dk_at dksX4_isAhead_2 3 rfl rfl)
theorem dX4_isAhead_52 : decode cX4_isAhead 52 = .ok (.goto 17, 3) := dk_167 0 17 (dk_at dksX4_isAhead_2 4 rfl rfl)
theorem dX4_isAhead_55 : decode cX4_isAhead 55 = .ok (.iconst 0, 1) := dk_3 (dk_at dksX4_isAhead_2 7 rfl rfl)
theorem dX4_isAhead_56 : decode cX4_isAhead 56 = .ok (.goto 13, 3) := dk_167 0 13 (dk_at dksX4_isAhead_2 8 rfl rfl)
theorem dX4_isAhead_59 : decode cX4_isAhead 59 = .ok (.iload_n 1, 1) := dk_27 (dk_at dksX4_isAhead_2 11 rfl rfl)
theorem dX4_isAhead_60 : decode cX4_isAhead 60 = .ok (.iload_n 2, 1) := dk_28 (dk_at dksX4_isAhead_2 12 rfl rfl)
theorem dX4_isAhead_61 : decode cX4_isAhead 61 = .ok (.if_icmp .ge 7, 3) := dk_162 0 7 (dk_at dksX4_isAhead_2 13 rfl rfl)
theorem dX4_isAhead_64 : decode cX4_isAhead 64 = .ok (.iconst 1, 1) := dk_4 (dk_at dksX4_isAhead_2 16 rfl rfl)
theorem dX4_isAhead_65 : decode cX4_isAhead 65 = .ok (.goto 4, 3) := dk_167 0 4 (dk_at dksX4_isAhead_2 17 rfl rfl)
theorem dX4_isAhead_68 : decode cX4_isAhead 68 = .ok (.iconst 0, 1) := dk_3 (dk_at dksX4_isAhead_2 20 rfl rfl)
theorem dX4_isAhead_69 : decode cX4_isAhead 69 = .ok (.ireturn, 1) := dk_172 (dk_at dksX4_isAhead_2 21 rfl rfl)
abbrev cX4_goodFor : ByteArray := prog_17_method_63_code
def yX4_goodFor : MethodName := ⟨RX4, "goodFor", "(I)I"⟩
def dkwX4_goodFor_3 : List UInt8 := [120, 167, 0, 4, 3, 128, 61, 132, 3, 1, 167, 255, 229, 28, 172]
abbrev dktX4_goodFor_3 : List UInt8 := dkwX4_goodFor_3 ++ []
def dkwX4_goodFor_2 : List UInt8 := [167, 0, 4, 3, 61, 3, 62, 29, 7, 162, 0, 28, 28, 42, 27, 29, 182, 0, 200, 153, 0, 9, 4, 29]
abbrev dktX4_goodFor_2 : List UInt8 := dkwX4_goodFor_2 ++ dktX4_goodFor_3
def dkwX4_goodFor_1 : List UInt8 := [27, 4, 182, 0, 126, 16, 50, 161, 0, 19, 42, 27, 5, 182, 0, 126, 16, 40, 161, 0, 8, 16, 16]
abbrev dktX4_goodFor_1 : List UInt8 := dkwX4_goodFor_1 ++ dktX4_goodFor_2
def dkwX4_goodFor_0 : List UInt8 := [42, 42, 27, 182, 0, 133, 154, 0, 7, 4, 167, 0, 4, 3, 4, 182, 0, 196, 153, 0, 5, 3, 172, 42]
abbrev dktX4_goodFor_0 : List UInt8 := dkwX4_goodFor_0 ++ dktX4_goodFor_1
theorem dksX4_goodFor_0 : cX4_goodFor.data.toList.drop 0 = dktX4_goodFor_0 := by decide +kernel
theorem dksX4_goodFor_1 : cX4_goodFor.data.toList.drop 24 = dktX4_goodFor_1 := dk_seg dksX4_goodFor_0 24 rfl rfl
theorem dksX4_goodFor_2 : cX4_goodFor.data.toList.drop 47 = dktX4_goodFor_2 := dk_seg dksX4_goodFor_1 23 rfl rfl
theorem dksX4_goodFor_3 : cX4_goodFor.data.toList.drop 71 = dktX4_goodFor_3 := dk_seg dksX4_goodFor_2 24 rfl rfl
theorem dX4_goodFor_0 : decode cX4_goodFor 0 = .ok (.aload_n 0, 1) := dk_42 (dk_at dksX4_goodFor_0 0 rfl rfl)
theorem dX4_goodFor_1 : decode cX4_goodFor 1 = .ok (.aload_n 0, 1) := dk_42 (dk_at dksX4_goodFor_0 1 rfl rfl)
theorem dX4_goodFor_2 : decode cX4_goodFor 2 = .ok (.iload_n 1, 1) := dk_27 (dk_at dksX4_goodFor_0 2 rfl rfl)
theorem dX4_goodFor_3 : decode cX4_goodFor 3 = .ok (.invokevirtual 133, 3) := dk_182 0 133 (dk_at dksX4_goodFor_0 3 rfl rfl)
theorem dX4_goodFor_6 : decode cX4_goodFor 6 = .ok (.ifCond .ne 7, 3) := dk_154 0 7 (dk_at dksX4_goodFor_0 6 rfl rfl)
theorem dX4_goodFor_9 : decode cX4_goodFor 9 = .ok (.iconst 1, 1) := dk_4 (dk_at dksX4_goodFor_0 9 rfl rfl)
theorem dX4_goodFor_10 : decode cX4_goodFor 10 = .ok (.goto 4, 3) := dk_167 0 4 (dk_at dksX4_goodFor_0 10 rfl rfl)
theorem dX4_goodFor_13 : decode cX4_goodFor 13 = .ok (.iconst 0, 1) := dk_3 (dk_at dksX4_goodFor_0 13 rfl rfl)
theorem dX4_goodFor_14 : decode cX4_goodFor 14 = .ok (.iconst 1, 1) := dk_4 (dk_at dksX4_goodFor_0 14 rfl rfl)
theorem dX4_goodFor_15 : decode cX4_goodFor 15 = .ok (.invokevirtual 196, 3) := dk_182 0 196 (dk_at dksX4_goodFor_0 15 rfl rfl)
theorem dX4_goodFor_18 : decode cX4_goodFor 18 = .ok (.ifCond .eq 5, 3) := dk_153 0 5 (dk_at dksX4_goodFor_0 18 rfl rfl)
theorem dX4_goodFor_21 : decode cX4_goodFor 21 = .ok (.iconst 0, 1) := dk_3 (dk_at dksX4_goodFor_0 21 rfl rfl)
theorem dX4_goodFor_22 : decode cX4_goodFor 22 = .ok (.ireturn, 1) := dk_172 (dk_at dksX4_goodFor_0 22 rfl rfl)
theorem dX4_goodFor_23 : decode cX4_goodFor 23 = .ok (.aload_n 0, 1) := dk_42 (dk_at dksX4_goodFor_0 23 rfl rfl)
theorem dX4_goodFor_24 : decode cX4_goodFor 24 = .ok (.iload_n 1, 1) := dk_27 (dk_at dksX4_goodFor_1 0 rfl rfl)
theorem dX4_goodFor_25 : decode cX4_goodFor 25 = .ok (.iconst 1, 1) := dk_4 (dk_at dksX4_goodFor_1 1 rfl rfl)
theorem dX4_goodFor_26 : decode cX4_goodFor 26 = .ok (.invokevirtual 126, 3) := dk_182 0 126 (dk_at dksX4_goodFor_1 2 rfl rfl)
theorem dX4_goodFor_29 : decode cX4_goodFor 29 = .ok (.bipush 50, 2) := dk_16 50 (dk_at dksX4_goodFor_1 5 rfl rfl)
theorem dX4_goodFor_31 : decode cX4_goodFor 31 = .ok (.if_icmp .lt 19, 3) := dk_161 0 19 (dk_at dksX4_goodFor_1 7 rfl rfl)
theorem dX4_goodFor_34 : decode cX4_goodFor 34 = .ok (.aload_n 0, 1) := dk_42 (dk_at dksX4_goodFor_1 10 rfl rfl)
theorem dX4_goodFor_35 : decode cX4_goodFor 35 = .ok (.iload_n 1, 1) := dk_27 (dk_at dksX4_goodFor_1 11 rfl rfl)
theorem dX4_goodFor_36 : decode cX4_goodFor 36 = .ok (.iconst 2, 1) := dk_5 (dk_at dksX4_goodFor_1 12 rfl rfl)
theorem dX4_goodFor_37 : decode cX4_goodFor 37 = .ok (.invokevirtual 126, 3) := dk_182 0 126 (dk_at dksX4_goodFor_1 13 rfl rfl)
theorem dX4_goodFor_40 : decode cX4_goodFor 40 = .ok (.bipush 40, 2) := dk_16 40 (dk_at dksX4_goodFor_1 16 rfl rfl)
theorem dX4_goodFor_42 : decode cX4_goodFor 42 = .ok (.if_icmp .lt 8, 3) := dk_161 0 8 (dk_at dksX4_goodFor_1 18 rfl rfl)
theorem dX4_goodFor_45 : decode cX4_goodFor 45 = .ok (.bipush 16, 2) := dk_16 16 (dk_at dksX4_goodFor_1 21 rfl rfl)
theorem dX4_goodFor_47 : decode cX4_goodFor 47 = .ok (.goto 4, 3) := dk_167 0 4 (dk_at dksX4_goodFor_2 0 rfl rfl)
theorem dX4_goodFor_50 : decode cX4_goodFor 50 = .ok (.iconst 0, 1) := dk_3 (dk_at dksX4_goodFor_2 3 rfl rfl)
theorem dX4_goodFor_51 : decode cX4_goodFor 51 = .ok (.istore_n 2, 1) := dk_61 (dk_at dksX4_goodFor_2 4 rfl rfl)
theorem dX4_goodFor_52 : decode cX4_goodFor 52 = .ok (.iconst 0, 1) := dk_3 (dk_at dksX4_goodFor_2 5 rfl rfl)
theorem dX4_goodFor_53 : decode cX4_goodFor 53 = .ok (.istore_n 3, 1) := dk_62 (dk_at dksX4_goodFor_2 6 rfl rfl)
theorem dX4_goodFor_54 : decode cX4_goodFor 54 = .ok (.iload_n 3, 1) := dk_29 (dk_at dksX4_goodFor_2 7 rfl rfl)
theorem dX4_goodFor_55 : decode cX4_goodFor 55 = .ok (.iconst 4, 1) := dk_7 (dk_at dksX4_goodFor_2 8 rfl rfl)
theorem dX4_goodFor_56 : decode cX4_goodFor 56 = .ok (.if_icmp .ge 28, 3) := dk_162 0 28 (dk_at dksX4_goodFor_2 9 rfl rfl)
theorem dX4_goodFor_59 : decode cX4_goodFor 59 = .ok (.iload_n 2, 1) := dk_28 (dk_at dksX4_goodFor_2 12 rfl rfl)
theorem dX4_goodFor_60 : decode cX4_goodFor 60 = .ok (.aload_n 0, 1) := dk_42 (dk_at dksX4_goodFor_2 13 rfl rfl)
theorem dX4_goodFor_61 : decode cX4_goodFor 61 = .ok (.iload_n 1, 1) := dk_27 (dk_at dksX4_goodFor_2 14 rfl rfl)
theorem dX4_goodFor_62 : decode cX4_goodFor 62 = .ok (.iload_n 3, 1) := dk_29 (dk_at dksX4_goodFor_2 15 rfl rfl)
theorem dX4_goodFor_63 : decode cX4_goodFor 63 = .ok (.invokevirtual 200, 3) := dk_182 0 200 (dk_at dksX4_goodFor_2 16 rfl rfl)
theorem dX4_goodFor_66 : decode cX4_goodFor 66 = .ok (.ifCond .eq 9, 3) := dk_153 0 9 (dk_at dksX4_goodFor_2 19 rfl rfl)
theorem dX4_goodFor_69 : decode cX4_goodFor 69 = .ok (.iconst 1, 1) := dk_4 (dk_at dksX4_goodFor_2 22 rfl rfl)
theorem dX4_goodFor_70 : decode cX4_goodFor 70 = .ok (.iload_n 3, 1) := dk_29 (dk_at dksX4_goodFor_2 23 rfl rfl)
theorem dX4_goodFor_71 : decode cX4_goodFor 71 = .ok (.ishl, 1) := dk_120 (dk_at dksX4_goodFor_3 0 rfl rfl)
theorem dX4_goodFor_72 : decode cX4_goodFor 72 = .ok (.goto 4, 3) := dk_167 0 4 (dk_at dksX4_goodFor_3 1 rfl rfl)
theorem dX4_goodFor_75 : decode cX4_goodFor 75 = .ok (.iconst 0, 1) := dk_3 (dk_at dksX4_goodFor_3 4 rfl rfl)
theorem dX4_goodFor_76 : decode cX4_goodFor 76 = .ok (.ior, 1) := dk_128 (dk_at dksX4_goodFor_3 5 rfl rfl)
theorem dX4_goodFor_77 : decode cX4_goodFor 77 = .ok (.istore_n 2, 1) := dk_61 (dk_at dksX4_goodFor_3 6 rfl rfl)
theorem dX4_goodFor_78 : decode cX4_goodFor 78 = .ok (.iinc 3 1, 3) := dk_132 3 1 (dk_at dksX4_goodFor_3 7 rfl rfl)
theorem dX4_goodFor_81 : decode cX4_goodFor 81 = .ok (.goto (-27), 3) := dk_167 255 229 (dk_at dksX4_goodFor_3 10 rfl rfl)
theorem dX4_goodFor_84 : decode cX4_goodFor 84 = .ok (.iload_n 2, 1) := dk_28 (dk_at dksX4_goodFor_3 13 rfl rfl)
theorem dX4_goodFor_85 : decode cX4_goodFor 85 = .ok (.ireturn, 1) := dk_172 (dk_at dksX4_goodFor_3 14 rfl rfl)
abbrev cX4_hoursLeft : ByteArray := prog_17_method_64_code
def yX4_hoursLeft : MethodName := ⟨RX4, "hoursLeft", "(I)I"⟩
def dkwX4_hoursLeft_3 : List UInt8 := [29, 4, 100, 184, 0, 114, 62, 132, 4, 1, 167, 255, 215, 21, 4, 172]
abbrev dktX4_hoursLeft_3 : List UInt8 := dkwX4_hoursLeft_3 ++ []
def dkwX4_hoursLeft_2 : List UInt8 := [184, 0, 176, 153, 0, 34, 28, 28, 29, 158, 0, 7, 5, 167, 0, 5, 16, 7, 184, 0, 136, 100, 61, 3]
abbrev dktX4_hoursLeft_2 : List UInt8 := dkwX4_hoursLeft_2 ++ dktX4_hoursLeft_3
def dkwX4_hoursLeft_1 : List UInt8 := [27, 5, 182, 0, 155, 61, 42, 27, 4, 182, 0, 155, 62, 3, 54, 4, 28, 42, 27, 3, 182, 0, 155]
abbrev dktX4_hoursLeft_1 : List UInt8 := dkwX4_hoursLeft_1 ++ dktX4_hoursLeft_2
def dkwX4_hoursLeft_0 : List UInt8 := [42, 42, 27, 182, 0, 152, 154, 0, 7, 4, 167, 0, 4, 3, 4, 182, 0, 196, 153, 0, 5, 3, 172, 42]
abbrev dktX4_hoursLeft_0 : List UInt8 := dkwX4_hoursLeft_0 ++ dktX4_hoursLeft_1
theorem dksX4_hoursLeft_0 : cX4_hoursLeft.data.toList.drop 0 = dktX4_hoursLeft_0 := by decide +kernel
theorem dksX4_hoursLeft_1 : cX4_hoursLeft.data.toList.drop 24 = dktX4_hoursLeft_1 := dk_seg dksX4_hoursLeft_0 24 rfl rfl
theorem dksX4_hoursLeft_2 : cX4_hoursLeft.data.toList.drop 47 = dktX4_hoursLeft_2 := dk_seg dksX4_hoursLeft_1 23 rfl rfl
theorem dksX4_hoursLeft_3 : cX4_hoursLeft.data.toList.drop 71 = dktX4_hoursLeft_3 := dk_seg dksX4_hoursLeft_2 24 rfl rfl
theorem dX4_hoursLeft_0 : decode cX4_hoursLeft 0 = .ok (.aload_n 0, 1) := dk_42 (dk_at dksX4_hoursLeft_0 0 rfl rfl)
theorem dX4_hoursLeft_1 : decode cX4_hoursLeft 1 = .ok (.aload_n 0, 1) := dk_42 (dk_at dksX4_hoursLeft_0 1 rfl rfl)
theorem dX4_hoursLeft_2 : decode cX4_hoursLeft 2 = .ok (.iload_n 1, 1) := dk_27 (dk_at dksX4_hoursLeft_0 2 rfl rfl)
theorem dX4_hoursLeft_3 : decode cX4_hoursLeft 3 = .ok (.invokevirtual 152, 3) := dk_182 0 152 (dk_at dksX4_hoursLeft_0 3 rfl rfl)
theorem dX4_hoursLeft_6 : decode cX4_hoursLeft 6 = .ok (.ifCond .ne 7, 3) := dk_154 0 7 (dk_at dksX4_hoursLeft_0 6 rfl rfl)
theorem dX4_hoursLeft_9 : decode cX4_hoursLeft 9 = .ok (.iconst 1, 1) := dk_4 (dk_at dksX4_hoursLeft_0 9 rfl rfl)
theorem dX4_hoursLeft_10 : decode cX4_hoursLeft 10 = .ok (.goto 4, 3) := dk_167 0 4 (dk_at dksX4_hoursLeft_0 10 rfl rfl)
theorem dX4_hoursLeft_13 : decode cX4_hoursLeft 13 = .ok (.iconst 0, 1) := dk_3 (dk_at dksX4_hoursLeft_0 13 rfl rfl)
theorem dX4_hoursLeft_14 : decode cX4_hoursLeft 14 = .ok (.iconst 1, 1) := dk_4 (dk_at dksX4_hoursLeft_0 14 rfl rfl)
theorem dX4_hoursLeft_15 : decode cX4_hoursLeft 15 = .ok (.invokevirtual 196, 3) := dk_182 0 196 (dk_at dksX4_hoursLeft_0 15 rfl rfl)
theorem dX4_hoursLeft_18 : decode cX4_hoursLeft 18 = .ok (.ifCond .eq 5, 3) := dk_153 0 5 (dk_at dksX4_hoursLeft_0 18 rfl rfl)
theorem dX4_hoursLeft_21 : decode cX4_hoursLeft 21 = .ok (.iconst 0, 1) := dk_3 (dk_at dksX4_hoursLeft_0 21 rfl rfl)
theorem dX4_hoursLeft_22 : decode cX4_hoursLeft 22 = .ok (.ireturn, 1) := dk_172 (dk_at dksX4_hoursLeft_0 22 rfl rfl)
theorem dX4_hoursLeft_23 : decode cX4_hoursLeft 23 = .ok (.aload_n 0, 1) := dk_42 (dk_at dksX4_hoursLeft_0 23 rfl rfl)
theorem dX4_hoursLeft_24 : decode cX4_hoursLeft 24 = .ok (.iload_n 1, 1) := dk_27 (dk_at dksX4_hoursLeft_1 0 rfl rfl)
theorem dX4_hoursLeft_25 : decode cX4_hoursLeft 25 = .ok (.iconst 2, 1) := dk_5 (dk_at dksX4_hoursLeft_1 1 rfl rfl)
theorem dX4_hoursLeft_26 : decode cX4_hoursLeft 26 = .ok (.invokevirtual 155, 3) := dk_182 0 155 (dk_at dksX4_hoursLeft_1 2 rfl rfl)
theorem dX4_hoursLeft_29 : decode cX4_hoursLeft 29 = .ok (.istore_n 2, 1) := dk_61 (dk_at dksX4_hoursLeft_1 5 rfl rfl)
theorem dX4_hoursLeft_30 : decode cX4_hoursLeft 30 = .ok (.aload_n 0, 1) := dk_42 (dk_at dksX4_hoursLeft_1 6 rfl rfl)
theorem dX4_hoursLeft_31 : decode cX4_hoursLeft 31 = .ok (.iload_n 1, 1) := dk_27 (dk_at dksX4_hoursLeft_1 7 rfl rfl)
theorem dX4_hoursLeft_32 : decode cX4_hoursLeft 32 = .ok (.iconst 1, 1) := dk_4 (dk_at dksX4_hoursLeft_1 8 rfl rfl)
theorem dX4_hoursLeft_33 : decode cX4_hoursLeft 33 = .ok (.invokevirtual 155, 3) := dk_182 0 155 (dk_at dksX4_hoursLeft_1 9 rfl rfl)
theorem dX4_hoursLeft_36 : decode cX4_hoursLeft 36 = .ok (.istore_n 3, 1) := dk_62 (dk_at dksX4_hoursLeft_1 12 rfl rfl)
theorem dX4_hoursLeft_37 : decode cX4_hoursLeft 37 = .ok (.iconst 0, 1) := dk_3 (dk_at dksX4_hoursLeft_1 13 rfl rfl)
theorem dX4_hoursLeft_38 : decode cX4_hoursLeft 38 = .ok (.istore 4, 2) := dk_54 4 (dk_at dksX4_hoursLeft_1 14 rfl rfl)
theorem dX4_hoursLeft_40 : decode cX4_hoursLeft 40 = .ok (.iload_n 2, 1) := dk_28 (dk_at dksX4_hoursLeft_1 16 rfl rfl)
theorem dX4_hoursLeft_41 : decode cX4_hoursLeft 41 = .ok (.aload_n 0, 1) := dk_42 (dk_at dksX4_hoursLeft_1 17 rfl rfl)
theorem dX4_hoursLeft_42 : decode cX4_hoursLeft 42 = .ok (.iload_n 1, 1) := dk_27 (dk_at dksX4_hoursLeft_1 18 rfl rfl)
theorem dX4_hoursLeft_43 : decode cX4_hoursLeft 43 = .ok (.iconst 0, 1) := dk_3 (dk_at dksX4_hoursLeft_1 19 rfl rfl)
theorem dX4_hoursLeft_44 : decode cX4_hoursLeft 44 = .ok (.invokevirtual 155, 3) := dk_182 0 155 (dk_at dksX4_hoursLeft_1 20 rfl rfl)
theorem dX4_hoursLeft_47 : decode cX4_hoursLeft 47 = .ok (.invokestatic 176, 3) := dk_184 0 176 (dk_at dksX4_hoursLeft_2 0 rfl rfl)
theorem dX4_hoursLeft_50 : decode cX4_hoursLeft 50 = .ok (.ifCond .eq 34, 3) := dk_153 0 34 (dk_at dksX4_hoursLeft_2 3 rfl rfl)
theorem dX4_hoursLeft_53 : decode cX4_hoursLeft 53 = .ok (.iload_n 2, 1) := dk_28 (dk_at dksX4_hoursLeft_2 6 rfl rfl)
theorem dX4_hoursLeft_54 : decode cX4_hoursLeft 54 = .ok (.iload_n 2, 1) := dk_28 (dk_at dksX4_hoursLeft_2 7 rfl rfl)
theorem dX4_hoursLeft_55 : decode cX4_hoursLeft 55 = .ok (.iload_n 3, 1) := dk_29 (dk_at dksX4_hoursLeft_2 8 rfl rfl)
theorem dX4_hoursLeft_56 : decode cX4_hoursLeft 56 = .ok (.ifCond .le 7, 3) := dk_158 0 7 (dk_at dksX4_hoursLeft_2 9 rfl rfl)
theorem dX4_hoursLeft_59 : decode cX4_hoursLeft 59 = .ok (.iconst 2, 1) := dk_5 (dk_at dksX4_hoursLeft_2 12 rfl rfl)
theorem dX4_hoursLeft_60 : decode cX4_hoursLeft 60 = .ok (.goto 5, 3) := dk_167 0 5 (dk_at dksX4_hoursLeft_2 13 rfl rfl)
theorem dX4_hoursLeft_63 : decode cX4_hoursLeft 63 = .ok (.bipush 7, 2) := dk_16 7 (dk_at dksX4_hoursLeft_2 16 rfl rfl)
theorem dX4_hoursLeft_65 : decode cX4_hoursLeft 65 = .ok (.invokestatic 136, 3) := dk_184 0 136 (dk_at dksX4_hoursLeft_2 18 rfl rfl)
theorem dX4_hoursLeft_68 : decode cX4_hoursLeft 68 = .ok (.isub, 1) := dk_100 (dk_at dksX4_hoursLeft_2 21 rfl rfl)
theorem dX4_hoursLeft_69 : decode cX4_hoursLeft 69 = .ok (.istore_n 2, 1) := dk_61 (dk_at dksX4_hoursLeft_2 22 rfl rfl)
theorem dX4_hoursLeft_70 : decode cX4_hoursLeft 70 = .ok (.iconst 0, 1) := dk_3 (dk_at dksX4_hoursLeft_2 23 rfl rfl)
theorem dX4_hoursLeft_71 : decode cX4_hoursLeft 71 = .ok (.iload_n 3, 1) := dk_29 (dk_at dksX4_hoursLeft_3 0 rfl rfl)
theorem dX4_hoursLeft_72 : decode cX4_hoursLeft 72 = .ok (.iconst 1, 1) := dk_4 (dk_at dksX4_hoursLeft_3 1 rfl rfl)
theorem dX4_hoursLeft_73 : decode cX4_hoursLeft 73 = .ok (.isub, 1) := dk_100 (dk_at dksX4_hoursLeft_3 2 rfl rfl)
theorem dX4_hoursLeft_74 : decode cX4_hoursLeft 74 = .ok (.invokestatic 114, 3) := dk_184 0 114 (dk_at dksX4_hoursLeft_3 3 rfl rfl)
theorem dX4_hoursLeft_77 : decode cX4_hoursLeft 77 = .ok (.istore_n 3, 1) := dk_62 (dk_at dksX4_hoursLeft_3 6 rfl rfl)
theorem dX4_hoursLeft_78 : decode cX4_hoursLeft 78 = .ok (.iinc 4 1, 3) := dk_132 4 1 (dk_at dksX4_hoursLeft_3 7 rfl rfl)
theorem dX4_hoursLeft_81 : decode cX4_hoursLeft 81 = .ok (.goto (-41), 3) := dk_167 255 215 (dk_at dksX4_hoursLeft_3 10 rfl rfl)
theorem dX4_hoursLeft_84 : decode cX4_hoursLeft 84 = .ok (.iload 4, 2) := dk_21 4 (dk_at dksX4_hoursLeft_3 13 rfl rfl)
theorem dX4_hoursLeft_86 : decode cX4_hoursLeft 86 = .ok (.ireturn, 1) := dk_172 (dk_at dksX4_hoursLeft_3 15 rfl rfl)
abbrev cX4_daysTo : ByteArray := prog_17_method_65_code
def yX4_daysTo : MethodName := ⟨RX4, "daysTo", "(I)I"⟩
def dkwX4_daysTo_2 : List UInt8 := [29, 4, 96, 16, 6, 112, 62, 167, 255, 232, 28, 172]
abbrev dktX4_daysTo_2 : List UInt8 := dkwX4_daysTo_2 ++ []
def dkwX4_daysTo_1 : List UInt8 := [42, 180, 0, 9, 5, 46, 62, 29, 27, 159, 0, 25, 28, 42, 180, 0, 9, 16, 12, 29, 96, 46, 96, 61]
abbrev dktX4_daysTo_1 : List UInt8 := dkwX4_daysTo_1 ++ dktX4_daysTo_2
def dkwX4_daysTo_0 : List UInt8 := [42, 27, 184, 0, 183, 154, 0, 7, 4, 167, 0, 4, 3, 4, 182, 0, 196, 153, 0, 5, 3, 172, 3, 61]
abbrev dktX4_daysTo_0 : List UInt8 := dkwX4_daysTo_0 ++ dktX4_daysTo_1
theorem dksX4_daysTo_0 : cX4_daysTo.data.toList.drop 0 = dktX4_daysTo_0 := by decide +kernel
theorem dksX4_daysTo_1 : cX4_daysTo.data.toList.drop 24 = dktX4_daysTo_1 := dk_seg dksX4_daysTo_0 24 rfl rfl
theorem dksX4_daysTo_2 : cX4_daysTo.data.toList.drop 48 = dktX4_daysTo_2 := dk_seg dksX4_daysTo_1 24 rfl rfl
theorem dX4_daysTo_0 : decode cX4_daysTo 0 = .ok (.aload_n 0, 1) := dk_42 (dk_at dksX4_daysTo_0 0 rfl rfl)
theorem dX4_daysTo_1 : decode cX4_daysTo 1 = .ok (.iload_n 1, 1) := dk_27 (dk_at dksX4_daysTo_0 1 rfl rfl)
theorem dX4_daysTo_2 : decode cX4_daysTo 2 = .ok (.invokestatic 183, 3) := dk_184 0 183 (dk_at dksX4_daysTo_0 2 rfl rfl)
theorem dX4_daysTo_5 : decode cX4_daysTo 5 = .ok (.ifCond .ne 7, 3) := dk_154 0 7 (dk_at dksX4_daysTo_0 5 rfl rfl)
theorem dX4_daysTo_8 : decode cX4_daysTo 8 = .ok (.iconst 1, 1) := dk_4 (dk_at dksX4_daysTo_0 8 rfl rfl)
theorem dX4_daysTo_9 : decode cX4_daysTo 9 = .ok (.goto 4, 3) := dk_167 0 4 (dk_at dksX4_daysTo_0 9 rfl rfl)
theorem dX4_daysTo_12 : decode cX4_daysTo 12 = .ok (.iconst 0, 1) := dk_3 (dk_at dksX4_daysTo_0 12 rfl rfl)
theorem dX4_daysTo_13 : decode cX4_daysTo 13 = .ok (.iconst 1, 1) := dk_4 (dk_at dksX4_daysTo_0 13 rfl rfl)
theorem dX4_daysTo_14 : decode cX4_daysTo 14 = .ok (.invokevirtual 196, 3) := dk_182 0 196 (dk_at dksX4_daysTo_0 14 rfl rfl)
theorem dX4_daysTo_17 : decode cX4_daysTo 17 = .ok (.ifCond .eq 5, 3) := dk_153 0 5 (dk_at dksX4_daysTo_0 17 rfl rfl)
theorem dX4_daysTo_20 : decode cX4_daysTo 20 = .ok (.iconst 0, 1) := dk_3 (dk_at dksX4_daysTo_0 20 rfl rfl)
theorem dX4_daysTo_21 : decode cX4_daysTo 21 = .ok (.ireturn, 1) := dk_172 (dk_at dksX4_daysTo_0 21 rfl rfl)
theorem dX4_daysTo_22 : decode cX4_daysTo 22 = .ok (.iconst 0, 1) := dk_3 (dk_at dksX4_daysTo_0 22 rfl rfl)
theorem dX4_daysTo_23 : decode cX4_daysTo 23 = .ok (.istore_n 2, 1) := dk_61 (dk_at dksX4_daysTo_0 23 rfl rfl)
theorem dX4_daysTo_24 : decode cX4_daysTo 24 = .ok (.aload_n 0, 1) := dk_42 (dk_at dksX4_daysTo_1 0 rfl rfl)
theorem dX4_daysTo_25 : decode cX4_daysTo 25 = .ok (.getfield 9, 3) := dk_180 0 9 (dk_at dksX4_daysTo_1 1 rfl rfl)
theorem dX4_daysTo_28 : decode cX4_daysTo 28 = .ok (.iconst 2, 1) := dk_5 (dk_at dksX4_daysTo_1 4 rfl rfl)
theorem dX4_daysTo_29 : decode cX4_daysTo 29 = .ok (.iaload, 1) := dk_46 (dk_at dksX4_daysTo_1 5 rfl rfl)
theorem dX4_daysTo_30 : decode cX4_daysTo 30 = .ok (.istore_n 3, 1) := dk_62 (dk_at dksX4_daysTo_1 6 rfl rfl)
theorem dX4_daysTo_31 : decode cX4_daysTo 31 = .ok (.iload_n 3, 1) := dk_29 (dk_at dksX4_daysTo_1 7 rfl rfl)
theorem dX4_daysTo_32 : decode cX4_daysTo 32 = .ok (.iload_n 1, 1) := dk_27 (dk_at dksX4_daysTo_1 8 rfl rfl)
theorem dX4_daysTo_33 : decode cX4_daysTo 33 = .ok (.if_icmp .eq 25, 3) := dk_159 0 25 (dk_at dksX4_daysTo_1 9 rfl rfl)
theorem dX4_daysTo_36 : decode cX4_daysTo 36 = .ok (.iload_n 2, 1) := dk_28 (dk_at dksX4_daysTo_1 12 rfl rfl)
theorem dX4_daysTo_37 : decode cX4_daysTo 37 = .ok (.aload_n 0, 1) := dk_42 (dk_at dksX4_daysTo_1 13 rfl rfl)
theorem dX4_daysTo_38 : decode cX4_daysTo 38 = .ok (.getfield 9, 3) := dk_180 0 9 (dk_at dksX4_daysTo_1 14 rfl rfl)
theorem dX4_daysTo_41 : decode cX4_daysTo 41 = .ok (.bipush 12, 2) := dk_16 12 (dk_at dksX4_daysTo_1 17 rfl rfl)
theorem dX4_daysTo_43 : decode cX4_daysTo 43 = .ok (.iload_n 3, 1) := dk_29 (dk_at dksX4_daysTo_1 19 rfl rfl)
theorem dX4_daysTo_44 : decode cX4_daysTo 44 = .ok (.iadd, 1) := dk_96 (dk_at dksX4_daysTo_1 20 rfl rfl)
theorem dX4_daysTo_45 : decode cX4_daysTo 45 = .ok (.iaload, 1) := dk_46 (dk_at dksX4_daysTo_1 21 rfl rfl)
theorem dX4_daysTo_46 : decode cX4_daysTo 46 = .ok (.iadd, 1) := dk_96 (dk_at dksX4_daysTo_1 22 rfl rfl)
theorem dX4_daysTo_47 : decode cX4_daysTo 47 = .ok (.istore_n 2, 1) := dk_61 (dk_at dksX4_daysTo_1 23 rfl rfl)
theorem dX4_daysTo_48 : decode cX4_daysTo 48 = .ok (.iload_n 3, 1) := dk_29 (dk_at dksX4_daysTo_2 0 rfl rfl)
theorem dX4_daysTo_49 : decode cX4_daysTo 49 = .ok (.iconst 1, 1) := dk_4 (dk_at dksX4_daysTo_2 1 rfl rfl)
theorem dX4_daysTo_50 : decode cX4_daysTo 50 = .ok (.iadd, 1) := dk_96 (dk_at dksX4_daysTo_2 2 rfl rfl)
theorem dX4_daysTo_51 : decode cX4_daysTo 51 = .ok (.bipush 6, 2) := dk_16 6 (dk_at dksX4_daysTo_2 3 rfl rfl)
theorem dX4_daysTo_53 : decode cX4_daysTo 53 = .ok (.irem, 1) := dk_112 (dk_at dksX4_daysTo_2 5 rfl rfl)
theorem dX4_daysTo_54 : decode cX4_daysTo 54 = .ok (.istore_n 3, 1) := dk_62 (dk_at dksX4_daysTo_2 6 rfl rfl)
theorem dX4_daysTo_55 : decode cX4_daysTo 55 = .ok (.goto (-24), 3) := dk_167 255 232 (dk_at dksX4_daysTo_2 7 rfl rfl)
theorem dX4_daysTo_58 : decode cX4_daysTo 58 = .ok (.iload_n 2, 1) := dk_28 (dk_at dksX4_daysTo_2 10 rfl rfl)
theorem dX4_daysTo_59 : decode cX4_daysTo 59 = .ok (.ireturn, 1) := dk_172 (dk_at dksX4_daysTo_2 11 rfl rfl)
abbrev cX4_fairs : ByteArray := prog_17_method_66_code
def yX4_fairs : MethodName := ⟨RX4, "fairs", "()I"⟩
def dkwX4_fairs_3 : List UInt8 := [167, 255, 209, 27, 172]
abbrev dktX4_fairs_3 : List UInt8 := dkwX4_fairs_3 ++ []
def dkwX4_fairs_2 : List UInt8 := [112, 62, 27, 28, 16, 7, 112, 29, 160, 0, 9, 4, 29, 120, 167, 0, 4, 3, 128, 60, 132, 4, 1]
abbrev dktX4_fairs_2 : List UInt8 := dkwX4_fairs_2 ++ dktX4_fairs_3
def dkwX4_fairs_1 : List UInt8 := [21, 4, 16, 6, 162, 0, 46, 28, 42, 180, 0, 9, 16, 12, 29, 96, 46, 96, 61, 29, 4, 96, 16, 6]
abbrev dktX4_fairs_1 : List UInt8 := dkwX4_fairs_1 ++ dktX4_fairs_2
def dkwX4_fairs_0 : List UInt8 := [42, 3, 181, 0, 57, 3, 60, 42, 180, 0, 9, 4, 46, 61, 42, 180, 0, 9, 5, 46, 62, 3, 54, 4]
abbrev dktX4_fairs_0 : List UInt8 := dkwX4_fairs_0 ++ dktX4_fairs_1
theorem dksX4_fairs_0 : cX4_fairs.data.toList.drop 0 = dktX4_fairs_0 := by decide +kernel
theorem dksX4_fairs_1 : cX4_fairs.data.toList.drop 24 = dktX4_fairs_1 := dk_seg dksX4_fairs_0 24 rfl rfl
theorem dksX4_fairs_2 : cX4_fairs.data.toList.drop 48 = dktX4_fairs_2 := dk_seg dksX4_fairs_1 24 rfl rfl
theorem dksX4_fairs_3 : cX4_fairs.data.toList.drop 71 = dktX4_fairs_3 := dk_seg dksX4_fairs_2 23 rfl rfl
theorem dX4_fairs_0 : decode cX4_fairs 0 = .ok (.aload_n 0, 1) := dk_42 (dk_at dksX4_fairs_0 0 rfl rfl)
theorem dX4_fairs_1 : decode cX4_fairs 1 = .ok (.iconst 0, 1) := dk_3 (dk_at dksX4_fairs_0 1 rfl rfl)
theorem dX4_fairs_2 : decode cX4_fairs 2 = .ok (.putfield 57, 3) := dk_181 0 57 (dk_at dksX4_fairs_0 2 rfl rfl)
theorem dX4_fairs_5 : decode cX4_fairs 5 = .ok (.iconst 0, 1) := dk_3 (dk_at dksX4_fairs_0 5 rfl rfl)
theorem dX4_fairs_6 : decode cX4_fairs 6 = .ok (.istore_n 1, 1) := dk_60 (dk_at dksX4_fairs_0 6 rfl rfl)
theorem dX4_fairs_7 : decode cX4_fairs 7 = .ok (.aload_n 0, 1) := dk_42 (dk_at dksX4_fairs_0 7 rfl rfl)
theorem dX4_fairs_8 : decode cX4_fairs 8 = .ok (.getfield 9, 3) := dk_180 0 9 (dk_at dksX4_fairs_0 8 rfl rfl)
theorem dX4_fairs_11 : decode cX4_fairs 11 = .ok (.iconst 1, 1) := dk_4 (dk_at dksX4_fairs_0 11 rfl rfl)
theorem dX4_fairs_12 : decode cX4_fairs 12 = .ok (.iaload, 1) := dk_46 (dk_at dksX4_fairs_0 12 rfl rfl)
theorem dX4_fairs_13 : decode cX4_fairs 13 = .ok (.istore_n 2, 1) := dk_61 (dk_at dksX4_fairs_0 13 rfl rfl)
theorem dX4_fairs_14 : decode cX4_fairs 14 = .ok (.aload_n 0, 1) := dk_42 (dk_at dksX4_fairs_0 14 rfl rfl)
theorem dX4_fairs_15 : decode cX4_fairs 15 = .ok (.getfield 9, 3) := dk_180 0 9 (dk_at dksX4_fairs_0 15 rfl rfl)
theorem dX4_fairs_18 : decode cX4_fairs 18 = .ok (.iconst 2, 1) := dk_5 (dk_at dksX4_fairs_0 18 rfl rfl)
theorem dX4_fairs_19 : decode cX4_fairs 19 = .ok (.iaload, 1) := dk_46 (dk_at dksX4_fairs_0 19 rfl rfl)
theorem dX4_fairs_20 : decode cX4_fairs 20 = .ok (.istore_n 3, 1) := dk_62 (dk_at dksX4_fairs_0 20 rfl rfl)
theorem dX4_fairs_21 : decode cX4_fairs 21 = .ok (.iconst 0, 1) := dk_3 (dk_at dksX4_fairs_0 21 rfl rfl)
theorem dX4_fairs_22 : decode cX4_fairs 22 = .ok (.istore 4, 2) := dk_54 4 (dk_at dksX4_fairs_0 22 rfl rfl)
theorem dX4_fairs_24 : decode cX4_fairs 24 = .ok (.iload 4, 2) := dk_21 4 (dk_at dksX4_fairs_1 0 rfl rfl)
theorem dX4_fairs_26 : decode cX4_fairs 26 = .ok (.bipush 6, 2) := dk_16 6 (dk_at dksX4_fairs_1 2 rfl rfl)
theorem dX4_fairs_28 : decode cX4_fairs 28 = .ok (.if_icmp .ge 46, 3) := dk_162 0 46 (dk_at dksX4_fairs_1 4 rfl rfl)
theorem dX4_fairs_31 : decode cX4_fairs 31 = .ok (.iload_n 2, 1) := dk_28 (dk_at dksX4_fairs_1 7 rfl rfl)
theorem dX4_fairs_32 : decode cX4_fairs 32 = .ok (.aload_n 0, 1) := dk_42 (dk_at dksX4_fairs_1 8 rfl rfl)
theorem dX4_fairs_33 : decode cX4_fairs 33 = .ok (.getfield 9, 3) := dk_180 0 9 (dk_at dksX4_fairs_1 9 rfl rfl)
theorem dX4_fairs_36 : decode cX4_fairs 36 = .ok (.bipush 12, 2) := dk_16 12 (dk_at dksX4_fairs_1 12 rfl rfl)
theorem dX4_fairs_38 : decode cX4_fairs 38 = .ok (.iload_n 3, 1) := dk_29 (dk_at dksX4_fairs_1 14 rfl rfl)
theorem dX4_fairs_39 : decode cX4_fairs 39 = .ok (.iadd, 1) := dk_96 (dk_at dksX4_fairs_1 15 rfl rfl)
theorem dX4_fairs_40 : decode cX4_fairs 40 = .ok (.iaload, 1) := dk_46 (dk_at dksX4_fairs_1 16 rfl rfl)
theorem dX4_fairs_41 : decode cX4_fairs 41 = .ok (.iadd, 1) := dk_96 (dk_at dksX4_fairs_1 17 rfl rfl)
theorem dX4_fairs_42 : decode cX4_fairs 42 = .ok (.istore_n 2, 1) := dk_61 (dk_at dksX4_fairs_1 18 rfl rfl)
theorem dX4_fairs_43 : decode cX4_fairs 43 = .ok (.iload_n 3, 1) := dk_29 (dk_at dksX4_fairs_1 19 rfl rfl)
theorem dX4_fairs_44 : decode cX4_fairs 44 = .ok (.iconst 1, 1) := dk_4 (dk_at dksX4_fairs_1 20 rfl rfl)
theorem dX4_fairs_45 : decode cX4_fairs 45 = .ok (.iadd, 1) := dk_96 (dk_at dksX4_fairs_1 21 rfl rfl)
theorem dX4_fairs_46 : decode cX4_fairs 46 = .ok (.bipush 6, 2) := dk_16 6 (dk_at dksX4_fairs_1 22 rfl rfl)
theorem dX4_fairs_48 : decode cX4_fairs 48 = .ok (.irem, 1) := dk_112 (dk_at dksX4_fairs_2 0 rfl rfl)
theorem dX4_fairs_49 : decode cX4_fairs 49 = .ok (.istore_n 3, 1) := dk_62 (dk_at dksX4_fairs_2 1 rfl rfl)
theorem dX4_fairs_50 : decode cX4_fairs 50 = .ok (.iload_n 1, 1) := dk_27 (dk_at dksX4_fairs_2 2 rfl rfl)
theorem dX4_fairs_51 : decode cX4_fairs 51 = .ok (.iload_n 2, 1) := dk_28 (dk_at dksX4_fairs_2 3 rfl rfl)
theorem dX4_fairs_52 : decode cX4_fairs 52 = .ok (.bipush 7, 2) := dk_16 7 (dk_at dksX4_fairs_2 4 rfl rfl)
theorem dX4_fairs_54 : decode cX4_fairs 54 = .ok (.irem, 1) := dk_112 (dk_at dksX4_fairs_2 6 rfl rfl)
theorem dX4_fairs_55 : decode cX4_fairs 55 = .ok (.iload_n 3, 1) := dk_29 (dk_at dksX4_fairs_2 7 rfl rfl)
theorem dX4_fairs_56 : decode cX4_fairs 56 = .ok (.if_icmp .ne 9, 3) := dk_160 0 9 (dk_at dksX4_fairs_2 8 rfl rfl)
theorem dX4_fairs_59 : decode cX4_fairs 59 = .ok (.iconst 1, 1) := dk_4 (dk_at dksX4_fairs_2 11 rfl rfl)
theorem dX4_fairs_60 : decode cX4_fairs 60 = .ok (.iload_n 3, 1) := dk_29 (dk_at dksX4_fairs_2 12 rfl rfl)
theorem dX4_fairs_61 : decode cX4_fairs 61 = .ok (.ishl, 1) := dk_120 (dk_at dksX4_fairs_2 13 rfl rfl)
theorem dX4_fairs_62 : decode cX4_fairs 62 = .ok (.goto 4, 3) := dk_167 0 4 (dk_at dksX4_fairs_2 14 rfl rfl)
theorem dX4_fairs_65 : decode cX4_fairs 65 = .ok (.iconst 0, 1) := dk_3 (dk_at dksX4_fairs_2 17 rfl rfl)
theorem dX4_fairs_66 : decode cX4_fairs 66 = .ok (.ior, 1) := dk_128 (dk_at dksX4_fairs_2 18 rfl rfl)
theorem dX4_fairs_67 : decode cX4_fairs 67 = .ok (.istore_n 1, 1) := dk_60 (dk_at dksX4_fairs_2 19 rfl rfl)
theorem dX4_fairs_68 : decode cX4_fairs 68 = .ok (.iinc 4 1, 3) := dk_132 4 1 (dk_at dksX4_fairs_2 20 rfl rfl)
theorem dX4_fairs_71 : decode cX4_fairs 71 = .ok (.goto (-47), 3) := dk_167 255 209 (dk_at dksX4_fairs_3 0 rfl rfl)
theorem dX4_fairs_74 : decode cX4_fairs 74 = .ok (.iload_n 1, 1) := dk_27 (dk_at dksX4_fairs_3 3 rfl rfl)
theorem dX4_fairs_75 : decode cX4_fairs 75 = .ok (.ireturn, 1) := dk_172 (dk_at dksX4_fairs_3 4 rfl rfl)
abbrev cX4_worth : ByteArray := prog_17_method_67_code
def yX4_worth : MethodName := ⟨RX4, "worth", "(Z)I"⟩
def dkwX4_worth_2 : List UInt8 := [172]
abbrev dktX4_worth_2 : List UInt8 := dkwX4_worth_2 ++ []
def dkwX4_worth_1 : List UInt8 := [46, 6, 29, 96, 104, 96, 61, 132, 3, 1, 167, 255, 231, 27, 153, 0, 9, 5, 28, 104, 167, 0, 4, 28]
abbrev dktX4_worth_1 : List UInt8 := dkwX4_worth_1 ++ dktX4_worth_2
def dkwX4_worth_0 : List UInt8 := [42, 3, 181, 0, 57, 3, 61, 4, 62, 29, 16, 9, 163, 0, 25, 28, 42, 180, 0, 9, 16, 18, 29, 96]
abbrev dktX4_worth_0 : List UInt8 := dkwX4_worth_0 ++ dktX4_worth_1
theorem dksX4_worth_0 : cX4_worth.data.toList.drop 0 = dktX4_worth_0 := by decide +kernel
theorem dksX4_worth_1 : cX4_worth.data.toList.drop 24 = dktX4_worth_1 := dk_seg dksX4_worth_0 24 rfl rfl
theorem dksX4_worth_2 : cX4_worth.data.toList.drop 48 = dktX4_worth_2 := dk_seg dksX4_worth_1 24 rfl rfl
theorem dX4_worth_0 : decode cX4_worth 0 = .ok (.aload_n 0, 1) := dk_42 (dk_at dksX4_worth_0 0 rfl rfl)
theorem dX4_worth_1 : decode cX4_worth 1 = .ok (.iconst 0, 1) := dk_3 (dk_at dksX4_worth_0 1 rfl rfl)
theorem dX4_worth_2 : decode cX4_worth 2 = .ok (.putfield 57, 3) := dk_181 0 57 (dk_at dksX4_worth_0 2 rfl rfl)
theorem dX4_worth_5 : decode cX4_worth 5 = .ok (.iconst 0, 1) := dk_3 (dk_at dksX4_worth_0 5 rfl rfl)
theorem dX4_worth_6 : decode cX4_worth 6 = .ok (.istore_n 2, 1) := dk_61 (dk_at dksX4_worth_0 6 rfl rfl)
theorem dX4_worth_7 : decode cX4_worth 7 = .ok (.iconst 1, 1) := dk_4 (dk_at dksX4_worth_0 7 rfl rfl)
theorem dX4_worth_8 : decode cX4_worth 8 = .ok (.istore_n 3, 1) := dk_62 (dk_at dksX4_worth_0 8 rfl rfl)
theorem dX4_worth_9 : decode cX4_worth 9 = .ok (.iload_n 3, 1) := dk_29 (dk_at dksX4_worth_0 9 rfl rfl)
theorem dX4_worth_10 : decode cX4_worth 10 = .ok (.bipush 9, 2) := dk_16 9 (dk_at dksX4_worth_0 10 rfl rfl)
theorem dX4_worth_12 : decode cX4_worth 12 = .ok (.if_icmp .gt 25, 3) := dk_163 0 25 (dk_at dksX4_worth_0 12 rfl rfl)
theorem dX4_worth_15 : decode cX4_worth 15 = .ok (.iload_n 2, 1) := dk_28 (dk_at dksX4_worth_0 15 rfl rfl)
theorem dX4_worth_16 : decode cX4_worth 16 = .ok (.aload_n 0, 1) := dk_42 (dk_at dksX4_worth_0 16 rfl rfl)
theorem dX4_worth_17 : decode cX4_worth 17 = .ok (.getfield 9, 3) := dk_180 0 9 (dk_at dksX4_worth_0 17 rfl rfl)
theorem dX4_worth_20 : decode cX4_worth 20 = .ok (.bipush 18, 2) := dk_16 18 (dk_at dksX4_worth_0 20 rfl rfl)
theorem dX4_worth_22 : decode cX4_worth 22 = .ok (.iload_n 3, 1) := dk_29 (dk_at dksX4_worth_0 22 rfl rfl)
theorem dX4_worth_23 : decode cX4_worth 23 = .ok (.iadd, 1) := dk_96 (dk_at dksX4_worth_0 23 rfl rfl)
theorem dX4_worth_24 : decode cX4_worth 24 = .ok (.iaload, 1) := dk_46 (dk_at dksX4_worth_1 0 rfl rfl)
theorem dX4_worth_25 : decode cX4_worth 25 = .ok (.iconst 3, 1) := dk_6 (dk_at dksX4_worth_1 1 rfl rfl)
theorem dX4_worth_26 : decode cX4_worth 26 = .ok (.iload_n 3, 1) := dk_29 (dk_at dksX4_worth_1 2 rfl rfl)
theorem dX4_worth_27 : decode cX4_worth 27 = .ok (.iadd, 1) := dk_96 (dk_at dksX4_worth_1 3 rfl rfl)
theorem dX4_worth_28 : decode cX4_worth 28 = .ok (.imul, 1) := dk_104 (dk_at dksX4_worth_1 4 rfl rfl)
theorem dX4_worth_29 : decode cX4_worth 29 = .ok (.iadd, 1) := dk_96 (dk_at dksX4_worth_1 5 rfl rfl)
theorem dX4_worth_30 : decode cX4_worth 30 = .ok (.istore_n 2, 1) := dk_61 (dk_at dksX4_worth_1 6 rfl rfl)
theorem dX4_worth_31 : decode cX4_worth 31 = .ok (.iinc 3 1, 3) := dk_132 3 1 (dk_at dksX4_worth_1 7 rfl rfl)
theorem dX4_worth_34 : decode cX4_worth 34 = .ok (.goto (-25), 3) := dk_167 255 231 (dk_at dksX4_worth_1 10 rfl rfl)
theorem dX4_worth_37 : decode cX4_worth 37 = .ok (.iload_n 1, 1) := dk_27 (dk_at dksX4_worth_1 13 rfl rfl)
theorem dX4_worth_38 : decode cX4_worth 38 = .ok (.ifCond .eq 9, 3) := dk_153 0 9 (dk_at dksX4_worth_1 14 rfl rfl)
theorem dX4_worth_41 : decode cX4_worth 41 = .ok (.iconst 2, 1) := dk_5 (dk_at dksX4_worth_1 17 rfl rfl)
theorem dX4_worth_42 : decode cX4_worth 42 = .ok (.iload_n 2, 1) := dk_28 (dk_at dksX4_worth_1 18 rfl rfl)
theorem dX4_worth_43 : decode cX4_worth 43 = .ok (.imul, 1) := dk_104 (dk_at dksX4_worth_1 19 rfl rfl)
theorem dX4_worth_44 : decode cX4_worth 44 = .ok (.goto 4, 3) := dk_167 0 4 (dk_at dksX4_worth_1 20 rfl rfl)
theorem dX4_worth_47 : decode cX4_worth 47 = .ok (.iload_n 2, 1) := dk_28 (dk_at dksX4_worth_1 23 rfl rfl)
theorem dX4_worth_48 : decode cX4_worth 48 = .ok (.ireturn, 1) := dk_172 (dk_at dksX4_worth_2 0 rfl rfl)
abbrev cX4_feed : ByteArray := prog_17_method_68_code
def yX4_feed : MethodName := ⟨RX4, "feed", "(C)I"⟩
def dkwX4_feed_2 : List UInt8 := [172]
abbrev dktX4_feed_2 : List UInt8 := dkwX4_feed_2 ++ []
def dkwX4_feed_1 : List UInt8 := [42, 180, 0, 44, 42, 180, 0, 206, 27, 79, 42, 89, 180, 0, 206, 4, 96, 181, 0, 206, 42, 180, 0, 206]
abbrev dktX4_feed_1 : List UInt8 := dkwX4_feed_1 ++ dktX4_feed_2
def dkwX4_feed_0 : List UInt8 := [42, 42, 180, 0, 206, 16, 60, 160, 0, 7, 4, 167, 0, 4, 3, 4, 182, 0, 196, 153, 0, 5, 3, 172]
abbrev dktX4_feed_0 : List UInt8 := dkwX4_feed_0 ++ dktX4_feed_1
theorem dksX4_feed_0 : cX4_feed.data.toList.drop 0 = dktX4_feed_0 := by decide +kernel
theorem dksX4_feed_1 : cX4_feed.data.toList.drop 24 = dktX4_feed_1 := dk_seg dksX4_feed_0 24 rfl rfl
theorem dksX4_feed_2 : cX4_feed.data.toList.drop 48 = dktX4_feed_2 := dk_seg dksX4_feed_1 24 rfl rfl
theorem dX4_feed_0 : decode cX4_feed 0 = .ok (.aload_n 0, 1) := dk_42 (dk_at dksX4_feed_0 0 rfl rfl)
theorem dX4_feed_1 : decode cX4_feed 1 = .ok (.aload_n 0, 1) := dk_42 (dk_at dksX4_feed_0 1 rfl rfl)
theorem dX4_feed_2 : decode cX4_feed 2 = .ok (.getfield 206, 3) := dk_180 0 206 (dk_at dksX4_feed_0 2 rfl rfl)
theorem dX4_feed_5 : decode cX4_feed 5 = .ok (.bipush 60, 2) := dk_16 60 (dk_at dksX4_feed_0 5 rfl rfl)
theorem dX4_feed_7 : decode cX4_feed 7 = .ok (.if_icmp .ne 7, 3) := dk_160 0 7 (dk_at dksX4_feed_0 7 rfl rfl)
theorem dX4_feed_10 : decode cX4_feed 10 = .ok (.iconst 1, 1) := dk_4 (dk_at dksX4_feed_0 10 rfl rfl)
theorem dX4_feed_11 : decode cX4_feed 11 = .ok (.goto 4, 3) := dk_167 0 4 (dk_at dksX4_feed_0 11 rfl rfl)
theorem dX4_feed_14 : decode cX4_feed 14 = .ok (.iconst 0, 1) := dk_3 (dk_at dksX4_feed_0 14 rfl rfl)
theorem dX4_feed_15 : decode cX4_feed 15 = .ok (.iconst 1, 1) := dk_4 (dk_at dksX4_feed_0 15 rfl rfl)
theorem dX4_feed_16 : decode cX4_feed 16 = .ok (.invokevirtual 196, 3) := dk_182 0 196 (dk_at dksX4_feed_0 16 rfl rfl)
theorem dX4_feed_19 : decode cX4_feed 19 = .ok (.ifCond .eq 5, 3) := dk_153 0 5 (dk_at dksX4_feed_0 19 rfl rfl)
theorem dX4_feed_22 : decode cX4_feed 22 = .ok (.iconst 0, 1) := dk_3 (dk_at dksX4_feed_0 22 rfl rfl)
theorem dX4_feed_23 : decode cX4_feed 23 = .ok (.ireturn, 1) := dk_172 (dk_at dksX4_feed_0 23 rfl rfl)
theorem dX4_feed_24 : decode cX4_feed 24 = .ok (.aload_n 0, 1) := dk_42 (dk_at dksX4_feed_1 0 rfl rfl)
theorem dX4_feed_25 : decode cX4_feed 25 = .ok (.getfield 44, 3) := dk_180 0 44 (dk_at dksX4_feed_1 1 rfl rfl)
theorem dX4_feed_28 : decode cX4_feed 28 = .ok (.aload_n 0, 1) := dk_42 (dk_at dksX4_feed_1 4 rfl rfl)
theorem dX4_feed_29 : decode cX4_feed 29 = .ok (.getfield 206, 3) := dk_180 0 206 (dk_at dksX4_feed_1 5 rfl rfl)
theorem dX4_feed_32 : decode cX4_feed 32 = .ok (.iload_n 1, 1) := dk_27 (dk_at dksX4_feed_1 8 rfl rfl)
theorem dX4_feed_33 : decode cX4_feed 33 = .ok (.iastore, 1) := dk_79 (dk_at dksX4_feed_1 9 rfl rfl)
theorem dX4_feed_34 : decode cX4_feed 34 = .ok (.aload_n 0, 1) := dk_42 (dk_at dksX4_feed_1 10 rfl rfl)
theorem dX4_feed_35 : decode cX4_feed 35 = .ok (.dup, 1) := dk_89 (dk_at dksX4_feed_1 11 rfl rfl)
theorem dX4_feed_36 : decode cX4_feed 36 = .ok (.getfield 206, 3) := dk_180 0 206 (dk_at dksX4_feed_1 12 rfl rfl)
theorem dX4_feed_39 : decode cX4_feed 39 = .ok (.iconst 1, 1) := dk_4 (dk_at dksX4_feed_1 15 rfl rfl)
theorem dX4_feed_40 : decode cX4_feed 40 = .ok (.iadd, 1) := dk_96 (dk_at dksX4_feed_1 16 rfl rfl)
theorem dX4_feed_41 : decode cX4_feed 41 = .ok (.putfield 206, 3) := dk_181 0 206 (dk_at dksX4_feed_1 17 rfl rfl)
theorem dX4_feed_44 : decode cX4_feed 44 = .ok (.aload_n 0, 1) := dk_42 (dk_at dksX4_feed_1 20 rfl rfl)
theorem dX4_feed_45 : decode cX4_feed 45 = .ok (.getfield 206, 3) := dk_180 0 206 (dk_at dksX4_feed_1 21 rfl rfl)
theorem dX4_feed_48 : decode cX4_feed 48 = .ok (.ireturn, 1) := dk_172 (dk_at dksX4_feed_2 0 rfl rfl)
abbrev cX4_run : ByteArray := prog_17_method_78_code
def yX4_run : MethodName := ⟨RX4, "run", "()I"⟩
def dkwX4_run_4 : List UInt8 := [167, 255, 205, 42, 42, 180, 0, 236, 182, 0, 110, 172]
abbrev dktX4_run_4 : List UInt8 := dkwX4_run_4 ++ []
def dkwX4_run_3 : List UInt8 := [180, 0, 13, 3, 42, 180, 0, 9, 3, 184, 0, 60, 42, 5, 181, 0, 57, 3, 172, 132, 2, 1]
abbrev dktX4_run_3 : List UInt8 := dkwX4_run_3 ++ dktX4_run_4
def dkwX4_run_2 : List UInt8 := [162, 0, 49, 42, 28, 181, 0, 64, 42, 6, 28, 104, 182, 0, 251, 62, 42, 180, 0, 57, 153, 0, 23, 42]
abbrev dktX4_run_2 : List UInt8 := dkwX4_run_2 ++ dktX4_run_3
def dkwX4_run_1 : List UInt8 := [153, 0, 13, 42, 42, 180, 0, 209, 181, 0, 50, 3, 172, 42, 182, 0, 67, 3, 61, 28, 42, 180, 0, 236]
abbrev dktX4_run_1 : List UInt8 := dkwX4_run_1 ++ dktX4_run_2
def dkwX4_run_0 : List UInt8 := [42, 182, 0, 248, 60, 42, 3, 181, 0, 206, 42, 27, 154, 0, 7, 4, 167, 0, 4, 3, 4, 182, 0, 196]
abbrev dktX4_run_0 : List UInt8 := dkwX4_run_0 ++ dktX4_run_1
theorem dksX4_run_0 : cX4_run.data.toList.drop 0 = dktX4_run_0 := by decide +kernel
theorem dksX4_run_1 : cX4_run.data.toList.drop 24 = dktX4_run_1 := dk_seg dksX4_run_0 24 rfl rfl
theorem dksX4_run_2 : cX4_run.data.toList.drop 48 = dktX4_run_2 := dk_seg dksX4_run_1 24 rfl rfl
theorem dksX4_run_3 : cX4_run.data.toList.drop 72 = dktX4_run_3 := dk_seg dksX4_run_2 24 rfl rfl
theorem dksX4_run_4 : cX4_run.data.toList.drop 94 = dktX4_run_4 := dk_seg dksX4_run_3 22 rfl rfl
theorem dX4_run_0 : decode cX4_run 0 = .ok (.aload_n 0, 1) := dk_42 (dk_at dksX4_run_0 0 rfl rfl)
theorem dX4_run_1 : decode cX4_run 1 = .ok (.invokevirtual 248, 3) := dk_182 0 248 (dk_at dksX4_run_0 1 rfl rfl)
theorem dX4_run_4 : decode cX4_run 4 = .ok (.istore_n 1, 1) := dk_60 (dk_at dksX4_run_0 4 rfl rfl)
theorem dX4_run_5 : decode cX4_run 5 = .ok (.aload_n 0, 1) := dk_42 (dk_at dksX4_run_0 5 rfl rfl)
theorem dX4_run_6 : decode cX4_run 6 = .ok (.iconst 0, 1) := dk_3 (dk_at dksX4_run_0 6 rfl rfl)
theorem dX4_run_7 : decode cX4_run 7 = .ok (.putfield 206, 3) := dk_181 0 206 (dk_at dksX4_run_0 7 rfl rfl)
theorem dX4_run_10 : decode cX4_run 10 = .ok (.aload_n 0, 1) := dk_42 (dk_at dksX4_run_0 10 rfl rfl)
theorem dX4_run_11 : decode cX4_run 11 = .ok (.iload_n 1, 1) := dk_27 (dk_at dksX4_run_0 11 rfl rfl)
theorem dX4_run_12 : decode cX4_run 12 = .ok (.ifCond .ne 7, 3) := dk_154 0 7 (dk_at dksX4_run_0 12 rfl rfl)
theorem dX4_run_15 : decode cX4_run 15 = .ok (.iconst 1, 1) := dk_4 (dk_at dksX4_run_0 15 rfl rfl)
theorem dX4_run_16 : decode cX4_run 16 = .ok (.goto 4, 3) := dk_167 0 4 (dk_at dksX4_run_0 16 rfl rfl)
theorem dX4_run_19 : decode cX4_run 19 = .ok (.iconst 0, 1) := dk_3 (dk_at dksX4_run_0 19 rfl rfl)
theorem dX4_run_20 : decode cX4_run 20 = .ok (.iconst 1, 1) := dk_4 (dk_at dksX4_run_0 20 rfl rfl)
theorem dX4_run_21 : decode cX4_run 21 = .ok (.invokevirtual 196, 3) := dk_182 0 196 (dk_at dksX4_run_0 21 rfl rfl)
theorem dX4_run_24 : decode cX4_run 24 = .ok (.ifCond .eq 13, 3) := dk_153 0 13 (dk_at dksX4_run_1 0 rfl rfl)
theorem dX4_run_27 : decode cX4_run 27 = .ok (.aload_n 0, 1) := dk_42 (dk_at dksX4_run_1 3 rfl rfl)
theorem dX4_run_28 : decode cX4_run 28 = .ok (.aload_n 0, 1) := dk_42 (dk_at dksX4_run_1 4 rfl rfl)
theorem dX4_run_29 : decode cX4_run 29 = .ok (.getfield 209, 3) := dk_180 0 209 (dk_at dksX4_run_1 5 rfl rfl)
theorem dX4_run_32 : decode cX4_run 32 = .ok (.putfield 50, 3) := dk_181 0 50 (dk_at dksX4_run_1 8 rfl rfl)
theorem dX4_run_35 : decode cX4_run 35 = .ok (.iconst 0, 1) := dk_3 (dk_at dksX4_run_1 11 rfl rfl)
theorem dX4_run_36 : decode cX4_run 36 = .ok (.ireturn, 1) := dk_172 (dk_at dksX4_run_1 12 rfl rfl)
theorem dX4_run_37 : decode cX4_run 37 = .ok (.aload_n 0, 1) := dk_42 (dk_at dksX4_run_1 13 rfl rfl)
theorem dX4_run_38 : decode cX4_run 38 = .ok (.invokevirtual 67, 3) := dk_182 0 67 (dk_at dksX4_run_1 14 rfl rfl)
theorem dX4_run_41 : decode cX4_run 41 = .ok (.iconst 0, 1) := dk_3 (dk_at dksX4_run_1 17 rfl rfl)
theorem dX4_run_42 : decode cX4_run 42 = .ok (.istore_n 2, 1) := dk_61 (dk_at dksX4_run_1 18 rfl rfl)
theorem dX4_run_43 : decode cX4_run 43 = .ok (.iload_n 2, 1) := dk_28 (dk_at dksX4_run_1 19 rfl rfl)
theorem dX4_run_44 : decode cX4_run 44 = .ok (.aload_n 0, 1) := dk_42 (dk_at dksX4_run_1 20 rfl rfl)
theorem dX4_run_45 : decode cX4_run 45 = .ok (.getfield 236, 3) := dk_180 0 236 (dk_at dksX4_run_1 21 rfl rfl)
theorem dX4_run_48 : decode cX4_run 48 = .ok (.if_icmp .ge 49, 3) := dk_162 0 49 (dk_at dksX4_run_2 0 rfl rfl)
theorem dX4_run_51 : decode cX4_run 51 = .ok (.aload_n 0, 1) := dk_42 (dk_at dksX4_run_2 3 rfl rfl)
theorem dX4_run_52 : decode cX4_run 52 = .ok (.iload_n 2, 1) := dk_28 (dk_at dksX4_run_2 4 rfl rfl)
theorem dX4_run_53 : decode cX4_run 53 = .ok (.putfield 64, 3) := dk_181 0 64 (dk_at dksX4_run_2 5 rfl rfl)
theorem dX4_run_56 : decode cX4_run 56 = .ok (.aload_n 0, 1) := dk_42 (dk_at dksX4_run_2 8 rfl rfl)
theorem dX4_run_57 : decode cX4_run 57 = .ok (.iconst 3, 1) := dk_6 (dk_at dksX4_run_2 9 rfl rfl)
theorem dX4_run_58 : decode cX4_run 58 = .ok (.iload_n 2, 1) := dk_28 (dk_at dksX4_run_2 10 rfl rfl)
theorem dX4_run_59 : decode cX4_run 59 = .ok (.imul, 1) := dk_104 (dk_at dksX4_run_2 11 rfl rfl)
theorem dX4_run_60 : decode cX4_run 60 = .ok (.invokevirtual 251, 3) := dk_182 0 251 (dk_at dksX4_run_2 12 rfl rfl)
theorem dX4_run_63 : decode cX4_run 63 = .ok (.istore_n 3, 1) := dk_62 (dk_at dksX4_run_2 15 rfl rfl)
theorem dX4_run_64 : decode cX4_run 64 = .ok (.aload_n 0, 1) := dk_42 (dk_at dksX4_run_2 16 rfl rfl)
theorem dX4_run_65 : decode cX4_run 65 = .ok (.getfield 57, 3) := dk_180 0 57 (dk_at dksX4_run_2 17 rfl rfl)
theorem dX4_run_68 : decode cX4_run 68 = .ok (.ifCond .eq 23, 3) := dk_153 0 23 (dk_at dksX4_run_2 20 rfl rfl)
theorem dX4_run_71 : decode cX4_run 71 = .ok (.aload_n 0, 1) := dk_42 (dk_at dksX4_run_2 23 rfl rfl)
theorem dX4_run_72 : decode cX4_run 72 = .ok (.getfield 13, 3) := dk_180 0 13 (dk_at dksX4_run_3 0 rfl rfl)
theorem dX4_run_75 : decode cX4_run 75 = .ok (.iconst 0, 1) := dk_3 (dk_at dksX4_run_3 3 rfl rfl)
theorem dX4_run_76 : decode cX4_run 76 = .ok (.aload_n 0, 1) := dk_42 (dk_at dksX4_run_3 4 rfl rfl)
theorem dX4_run_77 : decode cX4_run 77 = .ok (.getfield 9, 3) := dk_180 0 9 (dk_at dksX4_run_3 5 rfl rfl)
theorem dX4_run_80 : decode cX4_run 80 = .ok (.iconst 0, 1) := dk_3 (dk_at dksX4_run_3 8 rfl rfl)
theorem dX4_run_81 : decode cX4_run 81 = .ok (.invokestatic 60, 3) := dk_184 0 60 (dk_at dksX4_run_3 9 rfl rfl)
theorem dX4_run_84 : decode cX4_run 84 = .ok (.aload_n 0, 1) := dk_42 (dk_at dksX4_run_3 12 rfl rfl)
theorem dX4_run_85 : decode cX4_run 85 = .ok (.iconst 2, 1) := dk_5 (dk_at dksX4_run_3 13 rfl rfl)
theorem dX4_run_86 : decode cX4_run 86 = .ok (.putfield 57, 3) := dk_181 0 57 (dk_at dksX4_run_3 14 rfl rfl)
theorem dX4_run_89 : decode cX4_run 89 = .ok (.iconst 0, 1) := dk_3 (dk_at dksX4_run_3 17 rfl rfl)
theorem dX4_run_90 : decode cX4_run 90 = .ok (.ireturn, 1) := dk_172 (dk_at dksX4_run_3 18 rfl rfl)
theorem dX4_run_91 : decode cX4_run 91 = .ok (.iinc 2 1, 3) := dk_132 2 1 (dk_at dksX4_run_3 19 rfl rfl)
theorem dX4_run_94 : decode cX4_run 94 = .ok (.goto (-51), 3) := dk_167 255 205 (dk_at dksX4_run_4 0 rfl rfl)
theorem dX4_run_97 : decode cX4_run 97 = .ok (.aload_n 0, 1) := dk_42 (dk_at dksX4_run_4 3 rfl rfl)
theorem dX4_run_98 : decode cX4_run 98 = .ok (.aload_n 0, 1) := dk_42 (dk_at dksX4_run_4 4 rfl rfl)
theorem dX4_run_99 : decode cX4_run 99 = .ok (.getfield 236, 3) := dk_180 0 236 (dk_at dksX4_run_4 5 rfl rfl)
theorem dX4_run_102 : decode cX4_run 102 = .ok (.invokevirtual 110, 3) := dk_182 0 110 (dk_at dksX4_run_4 8 rfl rfl)
theorem dX4_run_105 : decode cX4_run 105 = .ok (.ireturn, 1) := dk_172 (dk_at dksX4_run_4 11 rfl rfl)
abbrev cX4_isText : ByteArray := prog_17_method_76_code
def yX4_isText : MethodName := ⟨RX4, "isText", "()Z"⟩
def dkwX4_isText_2 : List UInt8 := [180, 0, 206, 160, 0, 7, 4, 167, 0, 4, 3, 172]
abbrev dktX4_isText_2 : List UInt8 := dkwX4_isText_2 ++ []
def dkwX4_isText_1 : List UInt8 := [182, 0, 242, 153, 0, 11, 42, 182, 0, 245, 60, 167, 255, 238, 27, 153, 0, 18, 42, 180, 0, 209, 42]
abbrev dktX4_isText_1 : List UInt8 := dkwX4_isText_1 ++ dktX4_isText_2
def dkwX4_isText_0 : List UInt8 := [42, 3, 181, 0, 209, 42, 3, 181, 0, 236, 42, 182, 0, 245, 60, 27, 153, 0, 20, 42, 16, 59]
abbrev dktX4_isText_0 : List UInt8 := dkwX4_isText_0 ++ dktX4_isText_1
theorem dksX4_isText_0 : cX4_isText.data.toList.drop 0 = dktX4_isText_0 := by decide +kernel
theorem dksX4_isText_1 : cX4_isText.data.toList.drop 22 = dktX4_isText_1 := dk_seg dksX4_isText_0 22 rfl rfl
theorem dksX4_isText_2 : cX4_isText.data.toList.drop 45 = dktX4_isText_2 := dk_seg dksX4_isText_1 23 rfl rfl
theorem dX4_isText_0 : decode cX4_isText 0 = .ok (.aload_n 0, 1) := dk_42 (dk_at dksX4_isText_0 0 rfl rfl)
theorem dX4_isText_1 : decode cX4_isText 1 = .ok (.iconst 0, 1) := dk_3 (dk_at dksX4_isText_0 1 rfl rfl)
theorem dX4_isText_2 : decode cX4_isText 2 = .ok (.putfield 209, 3) := dk_181 0 209 (dk_at dksX4_isText_0 2 rfl rfl)
theorem dX4_isText_5 : decode cX4_isText 5 = .ok (.aload_n 0, 1) := dk_42 (dk_at dksX4_isText_0 5 rfl rfl)
theorem dX4_isText_6 : decode cX4_isText 6 = .ok (.iconst 0, 1) := dk_3 (dk_at dksX4_isText_0 6 rfl rfl)
theorem dX4_isText_7 : decode cX4_isText 7 = .ok (.putfield 236, 3) := dk_181 0 236 (dk_at dksX4_isText_0 7 rfl rfl)
theorem dX4_isText_10 : decode cX4_isText 10 = .ok (.aload_n 0, 1) := dk_42 (dk_at dksX4_isText_0 10 rfl rfl)
theorem dX4_isText_11 : decode cX4_isText 11 = .ok (.invokevirtual 245, 3) := dk_182 0 245 (dk_at dksX4_isText_0 11 rfl rfl)
theorem dX4_isText_14 : decode cX4_isText 14 = .ok (.istore_n 1, 1) := dk_60 (dk_at dksX4_isText_0 14 rfl rfl)
theorem dX4_isText_15 : decode cX4_isText 15 = .ok (.iload_n 1, 1) := dk_27 (dk_at dksX4_isText_0 15 rfl rfl)
theorem dX4_isText_16 : decode cX4_isText 16 = .ok (.ifCond .eq 20, 3) := dk_153 0 20 (dk_at dksX4_isText_0 16 rfl rfl)
theorem dX4_isText_19 : decode cX4_isText 19 = .ok (.aload_n 0, 1) := dk_42 (dk_at dksX4_isText_0 19 rfl rfl)
theorem dX4_isText_20 : decode cX4_isText 20 = .ok (.bipush 59, 2) := dk_16 59 (dk_at dksX4_isText_0 20 rfl rfl)
theorem dX4_isText_22 : decode cX4_isText 22 = .ok (.invokevirtual 242, 3) := dk_182 0 242 (dk_at dksX4_isText_1 0 rfl rfl)
theorem dX4_isText_25 : decode cX4_isText 25 = .ok (.ifCond .eq 11, 3) := dk_153 0 11 (dk_at dksX4_isText_1 3 rfl rfl)
theorem dX4_isText_28 : decode cX4_isText 28 = .ok (.aload_n 0, 1) := dk_42 (dk_at dksX4_isText_1 6 rfl rfl)
theorem dX4_isText_29 : decode cX4_isText 29 = .ok (.invokevirtual 245, 3) := dk_182 0 245 (dk_at dksX4_isText_1 7 rfl rfl)
theorem dX4_isText_32 : decode cX4_isText 32 = .ok (.istore_n 1, 1) := dk_60 (dk_at dksX4_isText_1 10 rfl rfl)
theorem dX4_isText_33 : decode cX4_isText 33 = .ok (.goto (-18), 3) := dk_167 255 238 (dk_at dksX4_isText_1 11 rfl rfl)
theorem dX4_isText_36 : decode cX4_isText 36 = .ok (.iload_n 1, 1) := dk_27 (dk_at dksX4_isText_1 14 rfl rfl)
theorem dX4_isText_37 : decode cX4_isText 37 = .ok (.ifCond .eq 18, 3) := dk_153 0 18 (dk_at dksX4_isText_1 15 rfl rfl)
theorem dX4_isText_40 : decode cX4_isText 40 = .ok (.aload_n 0, 1) := dk_42 (dk_at dksX4_isText_1 18 rfl rfl)
theorem dX4_isText_41 : decode cX4_isText 41 = .ok (.getfield 209, 3) := dk_180 0 209 (dk_at dksX4_isText_1 19 rfl rfl)
theorem dX4_isText_44 : decode cX4_isText 44 = .ok (.aload_n 0, 1) := dk_42 (dk_at dksX4_isText_1 22 rfl rfl)
theorem dX4_isText_45 : decode cX4_isText 45 = .ok (.getfield 206, 3) := dk_180 0 206 (dk_at dksX4_isText_2 0 rfl rfl)
theorem dX4_isText_48 : decode cX4_isText 48 = .ok (.if_icmp .ne 7, 3) := dk_160 0 7 (dk_at dksX4_isText_2 3 rfl rfl)
theorem dX4_isText_51 : decode cX4_isText 51 = .ok (.iconst 1, 1) := dk_4 (dk_at dksX4_isText_2 6 rfl rfl)
theorem dX4_isText_52 : decode cX4_isText 52 = .ok (.goto 4, 3) := dk_167 0 4 (dk_at dksX4_isText_2 7 rfl rfl)
theorem dX4_isText_55 : decode cX4_isText 55 = .ok (.iconst 0, 1) := dk_3 (dk_at dksX4_isText_2 10 rfl rfl)
theorem dX4_isText_56 : decode cX4_isText 56 = .ok (.ireturn, 1) := dk_172 (dk_at dksX4_isText_2 11 rfl rfl)
abbrev cX4_isOrder : ByteArray := prog_17_method_75_code
def yX4_isOrder : MethodName := ⟨RX4, "isOrder", "()Z"⟩
def dkwX4_isOrder_5 : List UInt8 := [180, 0, 227, 79, 4, 172]
abbrev dktX4_isOrder_5 : List UInt8 := dkwX4_isOrder_5 ++ []
def dkwX4_isOrder_4 : List UInt8 := [160, 0, 7, 4, 167, 0, 4, 6, 182, 0, 233, 154, 0, 5, 3, 172, 42, 180, 0, 47, 28, 5, 96, 42]
abbrev dktX4_isOrder_4 : List UInt8 := dkwX4_isOrder_4 ++ dktX4_isOrder_5
def dkwX4_isOrder_3 : List UInt8 := [161, 0, 5, 4, 172, 42, 27, 184, 0, 239, 182, 0, 242, 153, 0, 25, 42, 27, 5, 159, 0, 8, 27, 7]
abbrev dktX4_isOrder_3 : List UInt8 := dkwX4_isOrder_3 ++ dktX4_isOrder_4
def dkwX4_isOrder_2 : List UInt8 := [180, 0, 47, 28, 4, 96, 42, 180, 0, 227, 79, 42, 89, 180, 0, 236, 4, 96, 181, 0, 236, 27, 16, 6]
abbrev dktX4_isOrder_2 : List UInt8 := dkwX4_isOrder_2 ++ dktX4_isOrder_3
def dkwX4_isOrder_1 : List UInt8 := [4, 182, 0, 233, 154, 0, 5, 3, 172, 6, 42, 180, 0, 236, 104, 61, 42, 180, 0, 47, 28, 27, 79, 42]
abbrev dktX4_isOrder_1 : List UInt8 := dkwX4_isOrder_1 ++ dktX4_isOrder_2
def dkwX4_isOrder_0 : List UInt8 := [42, 182, 0, 230, 60, 27, 155, 0, 25, 42, 27, 4, 159, 0, 8, 27, 5, 160, 0, 7, 6, 167, 0, 4]
abbrev dktX4_isOrder_0 : List UInt8 := dkwX4_isOrder_0 ++ dktX4_isOrder_1
theorem dksX4_isOrder_0 : cX4_isOrder.data.toList.drop 0 = dktX4_isOrder_0 := by decide +kernel
theorem dksX4_isOrder_1 : cX4_isOrder.data.toList.drop 24 = dktX4_isOrder_1 := dk_seg dksX4_isOrder_0 24 rfl rfl
theorem dksX4_isOrder_2 : cX4_isOrder.data.toList.drop 48 = dktX4_isOrder_2 := dk_seg dksX4_isOrder_1 24 rfl rfl
theorem dksX4_isOrder_3 : cX4_isOrder.data.toList.drop 72 = dktX4_isOrder_3 := dk_seg dksX4_isOrder_2 24 rfl rfl
theorem dksX4_isOrder_4 : cX4_isOrder.data.toList.drop 96 = dktX4_isOrder_4 := dk_seg dksX4_isOrder_3 24 rfl rfl
theorem dksX4_isOrder_5 : cX4_isOrder.data.toList.drop 120 = dktX4_isOrder_5 := dk_seg dksX4_isOrder_4 24 rfl rfl
theorem dX4_isOrder_0 : decode cX4_isOrder 0 = .ok (.aload_n 0, 1) := dk_42 (dk_at dksX4_isOrder_0 0 rfl rfl)
theorem dX4_isOrder_1 : decode cX4_isOrder 1 = .ok (.invokevirtual 230, 3) := dk_182 0 230 (dk_at dksX4_isOrder_0 1 rfl rfl)
theorem dX4_isOrder_4 : decode cX4_isOrder 4 = .ok (.istore_n 1, 1) := dk_60 (dk_at dksX4_isOrder_0 4 rfl rfl)
theorem dX4_isOrder_5 : decode cX4_isOrder 5 = .ok (.iload_n 1, 1) := dk_27 (dk_at dksX4_isOrder_0 5 rfl rfl)
theorem dX4_isOrder_6 : decode cX4_isOrder 6 = .ok (.ifCond .lt 25, 3) := dk_155 0 25 (dk_at dksX4_isOrder_0 6 rfl rfl)
theorem dX4_isOrder_9 : decode cX4_isOrder 9 = .ok (.aload_n 0, 1) := dk_42 (dk_at dksX4_isOrder_0 9 rfl rfl)
theorem dX4_isOrder_10 : decode cX4_isOrder 10 = .ok (.iload_n 1, 1) := dk_27 (dk_at dksX4_isOrder_0 10 rfl rfl)
theorem dX4_isOrder_11 : decode cX4_isOrder 11 = .ok (.iconst 1, 1) := dk_4 (dk_at dksX4_isOrder_0 11 rfl rfl)
theorem dX4_isOrder_12 : decode cX4_isOrder 12 = .ok (.if_icmp .eq 8, 3) := dk_159 0 8 (dk_at dksX4_isOrder_0 12 rfl rfl)
theorem dX4_isOrder_15 : decode cX4_isOrder 15 = .ok (.iload_n 1, 1) := dk_27 (dk_at dksX4_isOrder_0 15 rfl rfl)
theorem dX4_isOrder_16 : decode cX4_isOrder 16 = .ok (.iconst 2, 1) := dk_5 (dk_at dksX4_isOrder_0 16 rfl rfl)
theorem dX4_isOrder_17 : decode cX4_isOrder 17 = .ok (.if_icmp .ne 7, 3) := dk_160 0 7 (dk_at dksX4_isOrder_0 17 rfl rfl)
theorem dX4_isOrder_20 : decode cX4_isOrder 20 = .ok (.iconst 3, 1) := dk_6 (dk_at dksX4_isOrder_0 20 rfl rfl)
theorem dX4_isOrder_21 : decode cX4_isOrder 21 = .ok (.goto 4, 3) := dk_167 0 4 (dk_at dksX4_isOrder_0 21 rfl rfl)
theorem dX4_isOrder_24 : decode cX4_isOrder 24 = .ok (.iconst 1, 1) := dk_4 (dk_at dksX4_isOrder_1 0 rfl rfl)
theorem dX4_isOrder_25 : decode cX4_isOrder 25 = .ok (.invokevirtual 233, 3) := dk_182 0 233 (dk_at dksX4_isOrder_1 1 rfl rfl)
theorem dX4_isOrder_28 : decode cX4_isOrder 28 = .ok (.ifCond .ne 5, 3) := dk_154 0 5 (dk_at dksX4_isOrder_1 4 rfl rfl)
theorem dX4_isOrder_31 : decode cX4_isOrder 31 = .ok (.iconst 0, 1) := dk_3 (dk_at dksX4_isOrder_1 7 rfl rfl)
theorem dX4_isOrder_32 : decode cX4_isOrder 32 = .ok (.ireturn, 1) := dk_172 (dk_at dksX4_isOrder_1 8 rfl rfl)
theorem dX4_isOrder_33 : decode cX4_isOrder 33 = .ok (.iconst 3, 1) := dk_6 (dk_at dksX4_isOrder_1 9 rfl rfl)
theorem dX4_isOrder_34 : decode cX4_isOrder 34 = .ok (.aload_n 0, 1) := dk_42 (dk_at dksX4_isOrder_1 10 rfl rfl)
theorem dX4_isOrder_35 : decode cX4_isOrder 35 = .ok (.getfield 236, 3) := dk_180 0 236 (dk_at dksX4_isOrder_1 11 rfl rfl)
theorem dX4_isOrder_38 : decode cX4_isOrder 38 = .ok (.imul, 1) := dk_104 (dk_at dksX4_isOrder_1 14 rfl rfl)
theorem dX4_isOrder_39 : decode cX4_isOrder 39 = .ok (.istore_n 2, 1) := dk_61 (dk_at dksX4_isOrder_1 15 rfl rfl)
theorem dX4_isOrder_40 : decode cX4_isOrder 40 = .ok (.aload_n 0, 1) := dk_42 (dk_at dksX4_isOrder_1 16 rfl rfl)
theorem dX4_isOrder_41 : decode cX4_isOrder 41 = .ok (.getfield 47, 3) := dk_180 0 47 (dk_at dksX4_isOrder_1 17 rfl rfl)
theorem dX4_isOrder_44 : decode cX4_isOrder 44 = .ok (.iload_n 2, 1) := dk_28 (dk_at dksX4_isOrder_1 20 rfl rfl)
theorem dX4_isOrder_45 : decode cX4_isOrder 45 = .ok (.iload_n 1, 1) := dk_27 (dk_at dksX4_isOrder_1 21 rfl rfl)
theorem dX4_isOrder_46 : decode cX4_isOrder 46 = .ok (.iastore, 1) := dk_79 (dk_at dksX4_isOrder_1 22 rfl rfl)
theorem dX4_isOrder_47 : decode cX4_isOrder 47 = .ok (.aload_n 0, 1) := dk_42 (dk_at dksX4_isOrder_1 23 rfl rfl)
theorem dX4_isOrder_48 : decode cX4_isOrder 48 = .ok (.getfield 47, 3) := dk_180 0 47 (dk_at dksX4_isOrder_2 0 rfl rfl)
theorem dX4_isOrder_51 : decode cX4_isOrder 51 = .ok (.iload_n 2, 1) := dk_28 (dk_at dksX4_isOrder_2 3 rfl rfl)
theorem dX4_isOrder_52 : decode cX4_isOrder 52 = .ok (.iconst 1, 1) := dk_4 (dk_at dksX4_isOrder_2 4 rfl rfl)
theorem dX4_isOrder_53 : decode cX4_isOrder 53 = .ok (.iadd, 1) := dk_96 (dk_at dksX4_isOrder_2 5 rfl rfl)
theorem dX4_isOrder_54 : decode cX4_isOrder 54 = .ok (.aload_n 0, 1) := dk_42 (dk_at dksX4_isOrder_2 6 rfl rfl)
theorem dX4_isOrder_55 : decode cX4_isOrder 55 = .ok (.getfield 227, 3) := dk_180 0 227 (dk_at dksX4_isOrder_2 7 rfl rfl)
theorem dX4_isOrder_58 : decode cX4_isOrder 58 = .ok (.iastore, 1) := dk_79 (dk_at dksX4_isOrder_2 10 rfl rfl)
theorem dX4_isOrder_59 : decode cX4_isOrder 59 = .ok (.aload_n 0, 1) := dk_42 (dk_at dksX4_isOrder_2 11 rfl rfl)
theorem dX4_isOrder_60 : decode cX4_isOrder 60 = .ok (.dup, 1) := dk_89 (dk_at dksX4_isOrder_2 12 rfl rfl)
theorem dX4_isOrder_61 : decode cX4_isOrder 61 = .ok (.getfield 236, 3) := dk_180 0 236 (dk_at dksX4_isOrder_2 13 rfl rfl)
theorem dX4_isOrder_64 : decode cX4_isOrder 64 = .ok (.iconst 1, 1) := dk_4 (dk_at dksX4_isOrder_2 16 rfl rfl)
theorem dX4_isOrder_65 : decode cX4_isOrder 65 = .ok (.iadd, 1) := dk_96 (dk_at dksX4_isOrder_2 17 rfl rfl)
theorem dX4_isOrder_66 : decode cX4_isOrder 66 = .ok (.putfield 236, 3) := dk_181 0 236 (dk_at dksX4_isOrder_2 18 rfl rfl)
theorem dX4_isOrder_69 : decode cX4_isOrder 69 = .ok (.iload_n 1, 1) := dk_27 (dk_at dksX4_isOrder_2 21 rfl rfl)
theorem dX4_isOrder_70 : decode cX4_isOrder 70 = .ok (.bipush 6, 2) := dk_16 6 (dk_at dksX4_isOrder_2 22 rfl rfl)
theorem dX4_isOrder_72 : decode cX4_isOrder 72 = .ok (.if_icmp .lt 5, 3) := dk_161 0 5 (dk_at dksX4_isOrder_3 0 rfl rfl)
theorem dX4_isOrder_75 : decode cX4_isOrder 75 = .ok (.iconst 1, 1) := dk_4 (dk_at dksX4_isOrder_3 3 rfl rfl)
theorem dX4_isOrder_76 : decode cX4_isOrder 76 = .ok (.ireturn, 1) := dk_172 (dk_at dksX4_isOrder_3 4 rfl rfl)
theorem dX4_isOrder_77 : decode cX4_isOrder 77 = .ok (.aload_n 0, 1) := dk_42 (dk_at dksX4_isOrder_3 5 rfl rfl)
theorem dX4_isOrder_78 : decode cX4_isOrder 78 = .ok (.iload_n 1, 1) := dk_27 (dk_at dksX4_isOrder_3 6 rfl rfl)
theorem dX4_isOrder_79 : decode cX4_isOrder 79 = .ok (.invokestatic 239, 3) := dk_184 0 239 (dk_at dksX4_isOrder_3 7 rfl rfl)
theorem dX4_isOrder_82 : decode cX4_isOrder 82 = .ok (.invokevirtual 242, 3) := dk_182 0 242 (dk_at dksX4_isOrder_3 10 rfl rfl)
theorem dX4_isOrder_85 : decode cX4_isOrder 85 = .ok (.ifCond .eq 25, 3) := dk_153 0 25 (dk_at dksX4_isOrder_3 13 rfl rfl)
theorem dX4_isOrder_88 : decode cX4_isOrder 88 = .ok (.aload_n 0, 1) := dk_42 (dk_at dksX4_isOrder_3 16 rfl rfl)
theorem dX4_isOrder_89 : decode cX4_isOrder 89 = .ok (.iload_n 1, 1) := dk_27 (dk_at dksX4_isOrder_3 17 rfl rfl)
theorem dX4_isOrder_90 : decode cX4_isOrder 90 = .ok (.iconst 2, 1) := dk_5 (dk_at dksX4_isOrder_3 18 rfl rfl)
theorem dX4_isOrder_91 : decode cX4_isOrder 91 = .ok (.if_icmp .eq 8, 3) := dk_159 0 8 (dk_at dksX4_isOrder_3 19 rfl rfl)
theorem dX4_isOrder_94 : decode cX4_isOrder 94 = .ok (.iload_n 1, 1) := dk_27 (dk_at dksX4_isOrder_3 22 rfl rfl)
theorem dX4_isOrder_95 : decode cX4_isOrder 95 = .ok (.iconst 4, 1) := dk_7 (dk_at dksX4_isOrder_3 23 rfl rfl)
theorem dX4_isOrder_96 : decode cX4_isOrder 96 = .ok (.if_icmp .ne 7, 3) := dk_160 0 7 (dk_at dksX4_isOrder_4 0 rfl rfl)
theorem dX4_isOrder_99 : decode cX4_isOrder 99 = .ok (.iconst 1, 1) := dk_4 (dk_at dksX4_isOrder_4 3 rfl rfl)
theorem dX4_isOrder_100 : decode cX4_isOrder 100 = .ok (.goto 4, 3) := dk_167 0 4 (dk_at dksX4_isOrder_4 4 rfl rfl)
theorem dX4_isOrder_103 : decode cX4_isOrder 103 = .ok (.iconst 3, 1) := dk_6 (dk_at dksX4_isOrder_4 7 rfl rfl)
theorem dX4_isOrder_104 : decode cX4_isOrder 104 = .ok (.invokevirtual 233, 3) := dk_182 0 233 (dk_at dksX4_isOrder_4 8 rfl rfl)
theorem dX4_isOrder_107 : decode cX4_isOrder 107 = .ok (.ifCond .ne 5, 3) := dk_154 0 5 (dk_at dksX4_isOrder_4 11 rfl rfl)
theorem dX4_isOrder_110 : decode cX4_isOrder 110 = .ok (.iconst 0, 1) := dk_3 (dk_at dksX4_isOrder_4 14 rfl rfl)
theorem dX4_isOrder_111 : decode cX4_isOrder 111 = .ok (.ireturn, 1) := dk_172 (dk_at dksX4_isOrder_4 15 rfl rfl)
theorem dX4_isOrder_112 : decode cX4_isOrder 112 = .ok (.aload_n 0, 1) := dk_42 (dk_at dksX4_isOrder_4 16 rfl rfl)
theorem dX4_isOrder_113 : decode cX4_isOrder 113 = .ok (.getfield 47, 3) := dk_180 0 47 (dk_at dksX4_isOrder_4 17 rfl rfl)
theorem dX4_isOrder_116 : decode cX4_isOrder 116 = .ok (.iload_n 2, 1) := dk_28 (dk_at dksX4_isOrder_4 20 rfl rfl)
theorem dX4_isOrder_117 : decode cX4_isOrder 117 = .ok (.iconst 2, 1) := dk_5 (dk_at dksX4_isOrder_4 21 rfl rfl)
theorem dX4_isOrder_118 : decode cX4_isOrder 118 = .ok (.iadd, 1) := dk_96 (dk_at dksX4_isOrder_4 22 rfl rfl)
theorem dX4_isOrder_119 : decode cX4_isOrder 119 = .ok (.aload_n 0, 1) := dk_42 (dk_at dksX4_isOrder_4 23 rfl rfl)
theorem dX4_isOrder_120 : decode cX4_isOrder 120 = .ok (.getfield 227, 3) := dk_180 0 227 (dk_at dksX4_isOrder_5 0 rfl rfl)
theorem dX4_isOrder_123 : decode cX4_isOrder 123 = .ok (.iastore, 1) := dk_79 (dk_at dksX4_isOrder_5 3 rfl rfl)
theorem dX4_isOrder_124 : decode cX4_isOrder 124 = .ok (.iconst 1, 1) := dk_4 (dk_at dksX4_isOrder_5 4 rfl rfl)
theorem dX4_isOrder_125 : decode cX4_isOrder 125 = .ok (.ireturn, 1) := dk_172 (dk_at dksX4_isOrder_5 5 rfl rfl)
abbrev cX4_readsWord : ByteArray := prog_17_method_72_code
def yX4_readsWord : MethodName := ⟨RX4, "readsWord", "()I"⟩
def dkwX4_readsWord_5 : List UInt8 := [27, 42, 180, 0, 209, 182, 0, 223, 153, 0, 5, 29, 172, 132, 3, 1, 167, 255, 202, 167, 255, 125, 2, 172]
abbrev dktX4_readsWord_5 : List UInt8 := dkwX4_readsWord_5 ++ []
def dkwX4_readsWord_4 : List UInt8 := [180, 0, 209, 27, 100, 42, 180, 0, 40, 29, 50, 182, 0, 216, 160, 0, 23, 42, 42, 180, 0, 40, 29, 50]
abbrev dktX4_readsWord_4 : List UInt8 := dkwX4_readsWord_4 ++ dktX4_readsWord_5
def dkwX4_readsWord_3 : List UInt8 := [167, 0, 4, 3, 96, 181, 0, 209, 3, 62, 29, 42, 180, 0, 40, 190, 162, 0, 51, 28, 153, 0, 47, 42]
abbrev dktX4_readsWord_3 : List UInt8 := dkwX4_readsWord_3 ++ dktX4_readsWord_4
def dkwX4_readsWord_2 : List UInt8 := [4, 96, 182, 0, 223, 128, 61, 132, 3, 1, 167, 255, 213, 42, 89, 180, 0, 209, 28, 153, 0, 7, 4]
abbrev dktX4_readsWord_2 : List UInt8 := dkwX4_readsWord_2 ++ dktX4_readsWord_3
def dkwX4_readsWord_1 : List UInt8 := [42, 180, 0, 209, 42, 180, 0, 206, 162, 0, 29, 28, 42, 42, 180, 0, 40, 29, 50, 27, 42, 180, 0, 209]
abbrev dktX4_readsWord_1 : List UInt8 := dkwX4_readsWord_1 ++ dktX4_readsWord_2
def dkwX4_readsWord_0 : List UInt8 := [42, 180, 0, 209, 60, 4, 61, 28, 153, 0, 133, 3, 61, 3, 62, 29, 42, 180, 0, 40, 190, 162, 0, 40]
abbrev dktX4_readsWord_0 : List UInt8 := dkwX4_readsWord_0 ++ dktX4_readsWord_1
theorem dksX4_readsWord_0 : cX4_readsWord.data.toList.drop 0 = dktX4_readsWord_0 := by decide +kernel
theorem dksX4_readsWord_1 : cX4_readsWord.data.toList.drop 24 = dktX4_readsWord_1 := dk_seg dksX4_readsWord_0 24 rfl rfl
theorem dksX4_readsWord_2 : cX4_readsWord.data.toList.drop 48 = dktX4_readsWord_2 := dk_seg dksX4_readsWord_1 24 rfl rfl
theorem dksX4_readsWord_3 : cX4_readsWord.data.toList.drop 71 = dktX4_readsWord_3 := dk_seg dksX4_readsWord_2 23 rfl rfl
theorem dksX4_readsWord_4 : cX4_readsWord.data.toList.drop 95 = dktX4_readsWord_4 := dk_seg dksX4_readsWord_3 24 rfl rfl
theorem dksX4_readsWord_5 : cX4_readsWord.data.toList.drop 119 = dktX4_readsWord_5 := dk_seg dksX4_readsWord_4 24 rfl rfl
theorem dX4_readsWord_0 : decode cX4_readsWord 0 = .ok (.aload_n 0, 1) := dk_42 (dk_at dksX4_readsWord_0 0 rfl rfl)
theorem dX4_readsWord_1 : decode cX4_readsWord 1 = .ok (.getfield 209, 3) := dk_180 0 209 (dk_at dksX4_readsWord_0 1 rfl rfl)
theorem dX4_readsWord_4 : decode cX4_readsWord 4 = .ok (.istore_n 1, 1) := dk_60 (dk_at dksX4_readsWord_0 4 rfl rfl)
theorem dX4_readsWord_5 : decode cX4_readsWord 5 = .ok (.iconst 1, 1) := dk_4 (dk_at dksX4_readsWord_0 5 rfl rfl)
theorem dX4_readsWord_6 : decode cX4_readsWord 6 = .ok (.istore_n 2, 1) := dk_61 (dk_at dksX4_readsWord_0 6 rfl rfl)
theorem dX4_readsWord_7 : decode cX4_readsWord 7 = .ok (.iload_n 2, 1) := dk_28 (dk_at dksX4_readsWord_0 7 rfl rfl)
theorem dX4_readsWord_8 : decode cX4_readsWord 8 = .ok (.ifCond .eq 133, 3) := dk_153 0 133 (dk_at dksX4_readsWord_0 8 rfl rfl)
theorem dX4_readsWord_11 : decode cX4_readsWord 11 = .ok (.iconst 0, 1) := dk_3 (dk_at dksX4_readsWord_0 11 rfl rfl)
theorem dX4_readsWord_12 : decode cX4_readsWord 12 = .ok (.istore_n 2, 1) := dk_61 (dk_at dksX4_readsWord_0 12 rfl rfl)
theorem dX4_readsWord_13 : decode cX4_readsWord 13 = .ok (.iconst 0, 1) := dk_3 (dk_at dksX4_readsWord_0 13 rfl rfl)
theorem dX4_readsWord_14 : decode cX4_readsWord 14 = .ok (.istore_n 3, 1) := dk_62 (dk_at dksX4_readsWord_0 14 rfl rfl)
theorem dX4_readsWord_15 : decode cX4_readsWord 15 = .ok (.iload_n 3, 1) := dk_29 (dk_at dksX4_readsWord_0 15 rfl rfl)
theorem dX4_readsWord_16 : decode cX4_readsWord 16 = .ok (.aload_n 0, 1) := dk_42 (dk_at dksX4_readsWord_0 16 rfl rfl)
theorem dX4_readsWord_17 : decode cX4_readsWord 17 = .ok (.getfield 40, 3) := dk_180 0 40 (dk_at dksX4_readsWord_0 17 rfl rfl)
theorem dX4_readsWord_20 : decode cX4_readsWord 20 = .ok (.arraylength, 1) := dk_190 (dk_at dksX4_readsWord_0 20 rfl rfl)
theorem dX4_readsWord_21 : decode cX4_readsWord 21 = .ok (.if_icmp .ge 40, 3) := dk_162 0 40 (dk_at dksX4_readsWord_0 21 rfl rfl)
theorem dX4_readsWord_24 : decode cX4_readsWord 24 = .ok (.aload_n 0, 1) := dk_42 (dk_at dksX4_readsWord_1 0 rfl rfl)
theorem dX4_readsWord_25 : decode cX4_readsWord 25 = .ok (.getfield 209, 3) := dk_180 0 209 (dk_at dksX4_readsWord_1 1 rfl rfl)
theorem dX4_readsWord_28 : decode cX4_readsWord 28 = .ok (.aload_n 0, 1) := dk_42 (dk_at dksX4_readsWord_1 4 rfl rfl)
theorem dX4_readsWord_29 : decode cX4_readsWord 29 = .ok (.getfield 206, 3) := dk_180 0 206 (dk_at dksX4_readsWord_1 5 rfl rfl)
theorem dX4_readsWord_32 : decode cX4_readsWord 32 = .ok (.if_icmp .ge 29, 3) := dk_162 0 29 (dk_at dksX4_readsWord_1 8 rfl rfl)
theorem dX4_readsWord_35 : decode cX4_readsWord 35 = .ok (.iload_n 2, 1) := dk_28 (dk_at dksX4_readsWord_1 11 rfl rfl)
theorem dX4_readsWord_36 : decode cX4_readsWord 36 = .ok (.aload_n 0, 1) := dk_42 (dk_at dksX4_readsWord_1 12 rfl rfl)
theorem dX4_readsWord_37 : decode cX4_readsWord 37 = .ok (.aload_n 0, 1) := dk_42 (dk_at dksX4_readsWord_1 13 rfl rfl)
theorem dX4_readsWord_38 : decode cX4_readsWord 38 = .ok (.getfield 40, 3) := dk_180 0 40 (dk_at dksX4_readsWord_1 14 rfl rfl)
theorem dX4_readsWord_41 : decode cX4_readsWord 41 = .ok (.iload_n 3, 1) := dk_29 (dk_at dksX4_readsWord_1 17 rfl rfl)
theorem dX4_readsWord_42 : decode cX4_readsWord 42 = .ok (.aaload, 1) := dk_50 (dk_at dksX4_readsWord_1 18 rfl rfl)
theorem dX4_readsWord_43 : decode cX4_readsWord 43 = .ok (.iload_n 1, 1) := dk_27 (dk_at dksX4_readsWord_1 19 rfl rfl)
theorem dX4_readsWord_44 : decode cX4_readsWord 44 = .ok (.aload_n 0, 1) := dk_42 (dk_at dksX4_readsWord_1 20 rfl rfl)
theorem dX4_readsWord_45 : decode cX4_readsWord 45 = .ok (.getfield 209, 3) := dk_180 0 209 (dk_at dksX4_readsWord_1 21 rfl rfl)
theorem dX4_readsWord_48 : decode cX4_readsWord 48 = .ok (.iconst 1, 1) := dk_4 (dk_at dksX4_readsWord_2 0 rfl rfl)
theorem dX4_readsWord_49 : decode cX4_readsWord 49 = .ok (.iadd, 1) := dk_96 (dk_at dksX4_readsWord_2 1 rfl rfl)
theorem dX4_readsWord_50 : decode cX4_readsWord 50 = .ok (.invokevirtual 223, 3) := dk_182 0 223 (dk_at dksX4_readsWord_2 2 rfl rfl)
theorem dX4_readsWord_53 : decode cX4_readsWord 53 = .ok (.ior, 1) := dk_128 (dk_at dksX4_readsWord_2 5 rfl rfl)
theorem dX4_readsWord_54 : decode cX4_readsWord 54 = .ok (.istore_n 2, 1) := dk_61 (dk_at dksX4_readsWord_2 6 rfl rfl)
theorem dX4_readsWord_55 : decode cX4_readsWord 55 = .ok (.iinc 3 1, 3) := dk_132 3 1 (dk_at dksX4_readsWord_2 7 rfl rfl)
theorem dX4_readsWord_58 : decode cX4_readsWord 58 = .ok (.goto (-43), 3) := dk_167 255 213 (dk_at dksX4_readsWord_2 10 rfl rfl)
theorem dX4_readsWord_61 : decode cX4_readsWord 61 = .ok (.aload_n 0, 1) := dk_42 (dk_at dksX4_readsWord_2 13 rfl rfl)
theorem dX4_readsWord_62 : decode cX4_readsWord 62 = .ok (.dup, 1) := dk_89 (dk_at dksX4_readsWord_2 14 rfl rfl)
theorem dX4_readsWord_63 : decode cX4_readsWord 63 = .ok (.getfield 209, 3) := dk_180 0 209 (dk_at dksX4_readsWord_2 15 rfl rfl)
theorem dX4_readsWord_66 : decode cX4_readsWord 66 = .ok (.iload_n 2, 1) := dk_28 (dk_at dksX4_readsWord_2 18 rfl rfl)
theorem dX4_readsWord_67 : decode cX4_readsWord 67 = .ok (.ifCond .eq 7, 3) := dk_153 0 7 (dk_at dksX4_readsWord_2 19 rfl rfl)
theorem dX4_readsWord_70 : decode cX4_readsWord 70 = .ok (.iconst 1, 1) := dk_4 (dk_at dksX4_readsWord_2 22 rfl rfl)
theorem dX4_readsWord_71 : decode cX4_readsWord 71 = .ok (.goto 4, 3) := dk_167 0 4 (dk_at dksX4_readsWord_3 0 rfl rfl)
theorem dX4_readsWord_74 : decode cX4_readsWord 74 = .ok (.iconst 0, 1) := dk_3 (dk_at dksX4_readsWord_3 3 rfl rfl)
theorem dX4_readsWord_75 : decode cX4_readsWord 75 = .ok (.iadd, 1) := dk_96 (dk_at dksX4_readsWord_3 4 rfl rfl)
theorem dX4_readsWord_76 : decode cX4_readsWord 76 = .ok (.putfield 209, 3) := dk_181 0 209 (dk_at dksX4_readsWord_3 5 rfl rfl)
theorem dX4_readsWord_79 : decode cX4_readsWord 79 = .ok (.iconst 0, 1) := dk_3 (dk_at dksX4_readsWord_3 8 rfl rfl)
theorem dX4_readsWord_80 : decode cX4_readsWord 80 = .ok (.istore_n 3, 1) := dk_62 (dk_at dksX4_readsWord_3 9 rfl rfl)
theorem dX4_readsWord_81 : decode cX4_readsWord 81 = .ok (.iload_n 3, 1) := dk_29 (dk_at dksX4_readsWord_3 10 rfl rfl)
theorem dX4_readsWord_82 : decode cX4_readsWord 82 = .ok (.aload_n 0, 1) := dk_42 (dk_at dksX4_readsWord_3 11 rfl rfl)
theorem dX4_readsWord_83 : decode cX4_readsWord 83 = .ok (.getfield 40, 3) := dk_180 0 40 (dk_at dksX4_readsWord_3 12 rfl rfl)
theorem dX4_readsWord_86 : decode cX4_readsWord 86 = .ok (.arraylength, 1) := dk_190 (dk_at dksX4_readsWord_3 15 rfl rfl)
theorem dX4_readsWord_87 : decode cX4_readsWord 87 = .ok (.if_icmp .ge 51, 3) := dk_162 0 51 (dk_at dksX4_readsWord_3 16 rfl rfl)
theorem dX4_readsWord_90 : decode cX4_readsWord 90 = .ok (.iload_n 2, 1) := dk_28 (dk_at dksX4_readsWord_3 19 rfl rfl)
theorem dX4_readsWord_91 : decode cX4_readsWord 91 = .ok (.ifCond .eq 47, 3) := dk_153 0 47 (dk_at dksX4_readsWord_3 20 rfl rfl)
theorem dX4_readsWord_94 : decode cX4_readsWord 94 = .ok (.aload_n 0, 1) := dk_42 (dk_at dksX4_readsWord_3 23 rfl rfl)
theorem dX4_readsWord_95 : decode cX4_readsWord 95 = .ok (.getfield 209, 3) := dk_180 0 209 (dk_at dksX4_readsWord_4 0 rfl rfl)
theorem dX4_readsWord_98 : decode cX4_readsWord 98 = .ok (.iload_n 1, 1) := dk_27 (dk_at dksX4_readsWord_4 3 rfl rfl)
theorem dX4_readsWord_99 : decode cX4_readsWord 99 = .ok (.isub, 1) := dk_100 (dk_at dksX4_readsWord_4 4 rfl rfl)
theorem dX4_readsWord_100 : decode cX4_readsWord 100 = .ok (.aload_n 0, 1) := dk_42 (dk_at dksX4_readsWord_4 5 rfl rfl)
theorem dX4_readsWord_101 : decode cX4_readsWord 101 = .ok (.getfield 40, 3) := dk_180 0 40 (dk_at dksX4_readsWord_4 6 rfl rfl)
theorem dX4_readsWord_104 : decode cX4_readsWord 104 = .ok (.iload_n 3, 1) := dk_29 (dk_at dksX4_readsWord_4 9 rfl rfl)
theorem dX4_readsWord_105 : decode cX4_readsWord 105 = .ok (.aaload, 1) := dk_50 (dk_at dksX4_readsWord_4 10 rfl rfl)
theorem dX4_readsWord_106 : decode cX4_readsWord 106 = .ok (.invokevirtual 216, 3) := dk_182 0 216 (dk_at dksX4_readsWord_4 11 rfl rfl)
theorem dX4_readsWord_109 : decode cX4_readsWord 109 = .ok (.if_icmp .ne 23, 3) := dk_160 0 23 (dk_at dksX4_readsWord_4 14 rfl rfl)
theorem dX4_readsWord_112 : decode cX4_readsWord 112 = .ok (.aload_n 0, 1) := dk_42 (dk_at dksX4_readsWord_4 17 rfl rfl)
theorem dX4_readsWord_113 : decode cX4_readsWord 113 = .ok (.aload_n 0, 1) := dk_42 (dk_at dksX4_readsWord_4 18 rfl rfl)
theorem dX4_readsWord_114 : decode cX4_readsWord 114 = .ok (.getfield 40, 3) := dk_180 0 40 (dk_at dksX4_readsWord_4 19 rfl rfl)
theorem dX4_readsWord_117 : decode cX4_readsWord 117 = .ok (.iload_n 3, 1) := dk_29 (dk_at dksX4_readsWord_4 22 rfl rfl)
theorem dX4_readsWord_118 : decode cX4_readsWord 118 = .ok (.aaload, 1) := dk_50 (dk_at dksX4_readsWord_4 23 rfl rfl)
theorem dX4_readsWord_119 : decode cX4_readsWord 119 = .ok (.iload_n 1, 1) := dk_27 (dk_at dksX4_readsWord_5 0 rfl rfl)
theorem dX4_readsWord_120 : decode cX4_readsWord 120 = .ok (.aload_n 0, 1) := dk_42 (dk_at dksX4_readsWord_5 1 rfl rfl)
theorem dX4_readsWord_121 : decode cX4_readsWord 121 = .ok (.getfield 209, 3) := dk_180 0 209 (dk_at dksX4_readsWord_5 2 rfl rfl)
theorem dX4_readsWord_124 : decode cX4_readsWord 124 = .ok (.invokevirtual 223, 3) := dk_182 0 223 (dk_at dksX4_readsWord_5 5 rfl rfl)
theorem dX4_readsWord_127 : decode cX4_readsWord 127 = .ok (.ifCond .eq 5, 3) := dk_153 0 5 (dk_at dksX4_readsWord_5 8 rfl rfl)
theorem dX4_readsWord_130 : decode cX4_readsWord 130 = .ok (.iload_n 3, 1) := dk_29 (dk_at dksX4_readsWord_5 11 rfl rfl)
theorem dX4_readsWord_131 : decode cX4_readsWord 131 = .ok (.ireturn, 1) := dk_172 (dk_at dksX4_readsWord_5 12 rfl rfl)
theorem dX4_readsWord_132 : decode cX4_readsWord 132 = .ok (.iinc 3 1, 3) := dk_132 3 1 (dk_at dksX4_readsWord_5 13 rfl rfl)
theorem dX4_readsWord_135 : decode cX4_readsWord 135 = .ok (.goto (-54), 3) := dk_167 255 202 (dk_at dksX4_readsWord_5 16 rfl rfl)
theorem dX4_readsWord_138 : decode cX4_readsWord 138 = .ok (.goto (-131), 3) := dk_167 255 125 (dk_at dksX4_readsWord_5 19 rfl rfl)
theorem dX4_readsWord_141 : decode cX4_readsWord 141 = .ok (.iconst (-1), 1) := dk_2 (dk_at dksX4_readsWord_5 22 rfl rfl)
theorem dX4_readsWord_142 : decode cX4_readsWord 142 = .ok (.ireturn, 1) := dk_172 (dk_at dksX4_readsWord_5 23 rfl rfl)
abbrev cX4_isBegun : ByteArray := prog_17_method_71_code
def yX4_isBegun : MethodName := ⟨RX4, "isBegun", "(Ljava/lang/String;II)Z"⟩
def dkwX4_isBegun_2 : List UInt8 := [167, 255, 227, 4, 172]
abbrev dktX4_isBegun_2 : List UInt8 := dkwX4_isBegun_2 ++ []
def dkwX4_isBegun_1 : List UInt8 := [180, 0, 44, 21, 4, 46, 43, 21, 4, 28, 100, 182, 0, 219, 159, 0, 5, 3, 172, 132, 4, 1]
abbrev dktX4_isBegun_1 : List UInt8 := dkwX4_isBegun_1 ++ dktX4_isBegun_2
def dkwX4_isBegun_0 : List UInt8 := [29, 28, 100, 43, 182, 0, 216, 164, 0, 5, 3, 172, 28, 54, 4, 21, 4, 29, 162, 0, 29, 42]
abbrev dktX4_isBegun_0 : List UInt8 := dkwX4_isBegun_0 ++ dktX4_isBegun_1
theorem dksX4_isBegun_0 : cX4_isBegun.data.toList.drop 0 = dktX4_isBegun_0 := by decide +kernel
theorem dksX4_isBegun_1 : cX4_isBegun.data.toList.drop 22 = dktX4_isBegun_1 := dk_seg dksX4_isBegun_0 22 rfl rfl
theorem dksX4_isBegun_2 : cX4_isBegun.data.toList.drop 44 = dktX4_isBegun_2 := dk_seg dksX4_isBegun_1 22 rfl rfl
theorem dX4_isBegun_0 : decode cX4_isBegun 0 = .ok (.iload_n 3, 1) := dk_29 (dk_at dksX4_isBegun_0 0 rfl rfl)
theorem dX4_isBegun_1 : decode cX4_isBegun 1 = .ok (.iload_n 2, 1) := dk_28 (dk_at dksX4_isBegun_0 1 rfl rfl)
theorem dX4_isBegun_2 : decode cX4_isBegun 2 = .ok (.isub, 1) := dk_100 (dk_at dksX4_isBegun_0 2 rfl rfl)
theorem dX4_isBegun_3 : decode cX4_isBegun 3 = .ok (.aload_n 1, 1) := dk_43 (dk_at dksX4_isBegun_0 3 rfl rfl)
theorem dX4_isBegun_4 : decode cX4_isBegun 4 = .ok (.invokevirtual 216, 3) := dk_182 0 216 (dk_at dksX4_isBegun_0 4 rfl rfl)
theorem dX4_isBegun_7 : decode cX4_isBegun 7 = .ok (.if_icmp .le 5, 3) := dk_164 0 5 (dk_at dksX4_isBegun_0 7 rfl rfl)
theorem dX4_isBegun_10 : decode cX4_isBegun 10 = .ok (.iconst 0, 1) := dk_3 (dk_at dksX4_isBegun_0 10 rfl rfl)
theorem dX4_isBegun_11 : decode cX4_isBegun 11 = .ok (.ireturn, 1) := dk_172 (dk_at dksX4_isBegun_0 11 rfl rfl)
theorem dX4_isBegun_12 : decode cX4_isBegun 12 = .ok (.iload_n 2, 1) := dk_28 (dk_at dksX4_isBegun_0 12 rfl rfl)
theorem dX4_isBegun_13 : decode cX4_isBegun 13 = .ok (.istore 4, 2) := dk_54 4 (dk_at dksX4_isBegun_0 13 rfl rfl)
theorem dX4_isBegun_15 : decode cX4_isBegun 15 = .ok (.iload 4, 2) := dk_21 4 (dk_at dksX4_isBegun_0 15 rfl rfl)
theorem dX4_isBegun_17 : decode cX4_isBegun 17 = .ok (.iload_n 3, 1) := dk_29 (dk_at dksX4_isBegun_0 17 rfl rfl)
theorem dX4_isBegun_18 : decode cX4_isBegun 18 = .ok (.if_icmp .ge 29, 3) := dk_162 0 29 (dk_at dksX4_isBegun_0 18 rfl rfl)
theorem dX4_isBegun_21 : decode cX4_isBegun 21 = .ok (.aload_n 0, 1) := dk_42 (dk_at dksX4_isBegun_0 21 rfl rfl)
theorem dX4_isBegun_22 : decode cX4_isBegun 22 = .ok (.getfield 44, 3) := dk_180 0 44 (dk_at dksX4_isBegun_1 0 rfl rfl)
theorem dX4_isBegun_25 : decode cX4_isBegun 25 = .ok (.iload 4, 2) := dk_21 4 (dk_at dksX4_isBegun_1 3 rfl rfl)
theorem dX4_isBegun_27 : decode cX4_isBegun 27 = .ok (.iaload, 1) := dk_46 (dk_at dksX4_isBegun_1 5 rfl rfl)
theorem dX4_isBegun_28 : decode cX4_isBegun 28 = .ok (.aload_n 1, 1) := dk_43 (dk_at dksX4_isBegun_1 6 rfl rfl)
theorem dX4_isBegun_29 : decode cX4_isBegun 29 = .ok (.iload 4, 2) := dk_21 4 (dk_at dksX4_isBegun_1 7 rfl rfl)
theorem dX4_isBegun_31 : decode cX4_isBegun 31 = .ok (.iload_n 2, 1) := dk_28 (dk_at dksX4_isBegun_1 9 rfl rfl)
theorem dX4_isBegun_32 : decode cX4_isBegun 32 = .ok (.isub, 1) := dk_100 (dk_at dksX4_isBegun_1 10 rfl rfl)
theorem dX4_isBegun_33 : decode cX4_isBegun 33 = .ok (.invokevirtual 219, 3) := dk_182 0 219 (dk_at dksX4_isBegun_1 11 rfl rfl)
theorem dX4_isBegun_36 : decode cX4_isBegun 36 = .ok (.if_icmp .eq 5, 3) := dk_159 0 5 (dk_at dksX4_isBegun_1 14 rfl rfl)
theorem dX4_isBegun_39 : decode cX4_isBegun 39 = .ok (.iconst 0, 1) := dk_3 (dk_at dksX4_isBegun_1 17 rfl rfl)
theorem dX4_isBegun_40 : decode cX4_isBegun 40 = .ok (.ireturn, 1) := dk_172 (dk_at dksX4_isBegun_1 18 rfl rfl)
theorem dX4_isBegun_41 : decode cX4_isBegun 41 = .ok (.iinc 4 1, 3) := dk_132 4 1 (dk_at dksX4_isBegun_1 19 rfl rfl)
theorem dX4_isBegun_44 : decode cX4_isBegun 44 = .ok (.goto (-29), 3) := dk_167 255 227 (dk_at dksX4_isBegun_2 0 rfl rfl)
theorem dX4_isBegun_47 : decode cX4_isBegun 47 = .ok (.iconst 1, 1) := dk_4 (dk_at dksX4_isBegun_2 3 rfl rfl)
theorem dX4_isBegun_48 : decode cX4_isBegun 48 = .ok (.ireturn, 1) := dk_172 (dk_at dksX4_isBegun_2 4 rfl rfl)
abbrev cX4_isNumber : ByteArray := prog_17_method_73_code
def yX4_isNumber : MethodName := ⟨RX4, "isNumber", "(I)Z"⟩
def dkwX4_isNumber_2 : List UInt8 := [180, 0, 209, 4, 96, 181, 0, 209, 132, 2, 1, 167, 255, 205, 28, 158, 0, 7, 4, 167, 0, 4, 3, 172]
abbrev dktX4_isNumber_2 : List UInt8 := dkwX4_isNumber_2 ++ []
def dkwX4_isNumber_1 : List UInt8 := [153, 0, 38, 42, 16, 10, 42, 180, 0, 227, 104, 42, 182, 0, 212, 96, 16, 48, 100, 181, 0, 227, 42, 89]
abbrev dktX4_isNumber_1 : List UInt8 := dkwX4_isNumber_1 ++ dktX4_isNumber_2
def dkwX4_isNumber_0 : List UInt8 := [42, 3, 181, 0, 227, 3, 61, 28, 27, 162, 0, 52, 42, 182, 0, 212, 16, 48, 16, 57, 184, 0, 92]
abbrev dktX4_isNumber_0 : List UInt8 := dkwX4_isNumber_0 ++ dktX4_isNumber_1
theorem dksX4_isNumber_0 : cX4_isNumber.data.toList.drop 0 = dktX4_isNumber_0 := by decide +kernel
theorem dksX4_isNumber_1 : cX4_isNumber.data.toList.drop 23 = dktX4_isNumber_1 := dk_seg dksX4_isNumber_0 23 rfl rfl
theorem dksX4_isNumber_2 : cX4_isNumber.data.toList.drop 47 = dktX4_isNumber_2 := dk_seg dksX4_isNumber_1 24 rfl rfl
theorem dX4_isNumber_0 : decode cX4_isNumber 0 = .ok (.aload_n 0, 1) := dk_42 (dk_at dksX4_isNumber_0 0 rfl rfl)
theorem dX4_isNumber_1 : decode cX4_isNumber 1 = .ok (.iconst 0, 1) := dk_3 (dk_at dksX4_isNumber_0 1 rfl rfl)
theorem dX4_isNumber_2 : decode cX4_isNumber 2 = .ok (.putfield 227, 3) := dk_181 0 227 (dk_at dksX4_isNumber_0 2 rfl rfl)
theorem dX4_isNumber_5 : decode cX4_isNumber 5 = .ok (.iconst 0, 1) := dk_3 (dk_at dksX4_isNumber_0 5 rfl rfl)
theorem dX4_isNumber_6 : decode cX4_isNumber 6 = .ok (.istore_n 2, 1) := dk_61 (dk_at dksX4_isNumber_0 6 rfl rfl)
theorem dX4_isNumber_7 : decode cX4_isNumber 7 = .ok (.iload_n 2, 1) := dk_28 (dk_at dksX4_isNumber_0 7 rfl rfl)
theorem dX4_isNumber_8 : decode cX4_isNumber 8 = .ok (.iload_n 1, 1) := dk_27 (dk_at dksX4_isNumber_0 8 rfl rfl)
theorem dX4_isNumber_9 : decode cX4_isNumber 9 = .ok (.if_icmp .ge 52, 3) := dk_162 0 52 (dk_at dksX4_isNumber_0 9 rfl rfl)
theorem dX4_isNumber_12 : decode cX4_isNumber 12 = .ok (.aload_n 0, 1) := dk_42 (dk_at dksX4_isNumber_0 12 rfl rfl)
theorem dX4_isNumber_13 : decode cX4_isNumber 13 = .ok (.invokevirtual 212, 3) := dk_182 0 212 (dk_at dksX4_isNumber_0 13 rfl rfl)
theorem dX4_isNumber_16 : decode cX4_isNumber 16 = .ok (.bipush 48, 2) := dk_16 48 (dk_at dksX4_isNumber_0 16 rfl rfl)
theorem dX4_isNumber_18 : decode cX4_isNumber 18 = .ok (.bipush 57, 2) := dk_16 57 (dk_at dksX4_isNumber_0 18 rfl rfl)
theorem dX4_isNumber_20 : decode cX4_isNumber 20 = .ok (.invokestatic 92, 3) := dk_184 0 92 (dk_at dksX4_isNumber_0 20 rfl rfl)
theorem dX4_isNumber_23 : decode cX4_isNumber 23 = .ok (.ifCond .eq 38, 3) := dk_153 0 38 (dk_at dksX4_isNumber_1 0 rfl rfl)
theorem dX4_isNumber_26 : decode cX4_isNumber 26 = .ok (.aload_n 0, 1) := dk_42 (dk_at dksX4_isNumber_1 3 rfl rfl)
theorem dX4_isNumber_27 : decode cX4_isNumber 27 = .ok (.bipush 10, 2) := dk_16 10 (dk_at dksX4_isNumber_1 4 rfl rfl)
theorem dX4_isNumber_29 : decode cX4_isNumber 29 = .ok (.aload_n 0, 1) := dk_42 (dk_at dksX4_isNumber_1 6 rfl rfl)
theorem dX4_isNumber_30 : decode cX4_isNumber 30 = .ok (.getfield 227, 3) := dk_180 0 227 (dk_at dksX4_isNumber_1 7 rfl rfl)
theorem dX4_isNumber_33 : decode cX4_isNumber 33 = .ok (.imul, 1) := dk_104 (dk_at dksX4_isNumber_1 10 rfl rfl)
theorem dX4_isNumber_34 : decode cX4_isNumber 34 = .ok (.aload_n 0, 1) := dk_42 (dk_at dksX4_isNumber_1 11 rfl rfl)
theorem dX4_isNumber_35 : decode cX4_isNumber 35 = .ok (.invokevirtual 212, 3) := dk_182 0 212 (dk_at dksX4_isNumber_1 12 rfl rfl)
theorem dX4_isNumber_38 : decode cX4_isNumber 38 = .ok (.iadd, 1) := dk_96 (dk_at dksX4_isNumber_1 15 rfl rfl)
theorem dX4_isNumber_39 : decode cX4_isNumber 39 = .ok (.bipush 48, 2) := dk_16 48 (dk_at dksX4_isNumber_1 16 rfl rfl)
theorem dX4_isNumber_41 : decode cX4_isNumber 41 = .ok (.isub, 1) := dk_100 (dk_at dksX4_isNumber_1 18 rfl rfl)
theorem dX4_isNumber_42 : decode cX4_isNumber 42 = .ok (.putfield 227, 3) := dk_181 0 227 (dk_at dksX4_isNumber_1 19 rfl rfl)
theorem dX4_isNumber_45 : decode cX4_isNumber 45 = .ok (.aload_n 0, 1) := dk_42 (dk_at dksX4_isNumber_1 22 rfl rfl)
theorem dX4_isNumber_46 : decode cX4_isNumber 46 = .ok (.dup, 1) := dk_89 (dk_at dksX4_isNumber_1 23 rfl rfl)
theorem dX4_isNumber_47 : decode cX4_isNumber 47 = .ok (.getfield 209, 3) := dk_180 0 209 (dk_at dksX4_isNumber_2 0 rfl rfl)
theorem dX4_isNumber_50 : decode cX4_isNumber 50 = .ok (.iconst 1, 1) := dk_4 (dk_at dksX4_isNumber_2 3 rfl rfl)
theorem dX4_isNumber_51 : decode cX4_isNumber 51 = .ok (.iadd, 1) := dk_96 (dk_at dksX4_isNumber_2 4 rfl rfl)
theorem dX4_isNumber_52 : decode cX4_isNumber 52 = .ok (.putfield 209, 3) := dk_181 0 209 (dk_at dksX4_isNumber_2 5 rfl rfl)
theorem dX4_isNumber_55 : decode cX4_isNumber 55 = .ok (.iinc 2 1, 3) := dk_132 2 1 (dk_at dksX4_isNumber_2 8 rfl rfl)
theorem dX4_isNumber_58 : decode cX4_isNumber 58 = .ok (.goto (-51), 3) := dk_167 255 205 (dk_at dksX4_isNumber_2 11 rfl rfl)
theorem dX4_isNumber_61 : decode cX4_isNumber 61 = .ok (.iload_n 2, 1) := dk_28 (dk_at dksX4_isNumber_2 14 rfl rfl)
theorem dX4_isNumber_62 : decode cX4_isNumber 62 = .ok (.ifCond .le 7, 3) := dk_158 0 7 (dk_at dksX4_isNumber_2 15 rfl rfl)
theorem dX4_isNumber_65 : decode cX4_isNumber 65 = .ok (.iconst 1, 1) := dk_4 (dk_at dksX4_isNumber_2 18 rfl rfl)
theorem dX4_isNumber_66 : decode cX4_isNumber 66 = .ok (.goto 4, 3) := dk_167 0 4 (dk_at dksX4_isNumber_2 19 rfl rfl)
theorem dX4_isNumber_69 : decode cX4_isNumber 69 = .ok (.iconst 0, 1) := dk_3 (dk_at dksX4_isNumber_2 22 rfl rfl)
theorem dX4_isNumber_70 : decode cX4_isNumber 70 = .ok (.ireturn, 1) := dk_172 (dk_at dksX4_isNumber_2 23 rfl rfl)
abbrev cX4_sign : ByteArray := prog_17_method_69_code
def yX4_sign : MethodName := ⟨RX4, "sign", "()I"⟩
def dkwX4_sign_1 : List UInt8 := [172]
abbrev dktX4_sign_1 : List UInt8 := dkwX4_sign_1 ++ []
def dkwX4_sign_0 : List UInt8 := [42, 180, 0, 209, 42, 180, 0, 206, 162, 0, 15, 42, 180, 0, 44, 42, 180, 0, 209, 46, 167, 0, 4, 2]
abbrev dktX4_sign_0 : List UInt8 := dkwX4_sign_0 ++ dktX4_sign_1
theorem dksX4_sign_0 : cX4_sign.data.toList.drop 0 = dktX4_sign_0 := by decide +kernel
theorem dksX4_sign_1 : cX4_sign.data.toList.drop 24 = dktX4_sign_1 := dk_seg dksX4_sign_0 24 rfl rfl
theorem dX4_sign_0 : decode cX4_sign 0 = .ok (.aload_n 0, 1) := dk_42 (dk_at dksX4_sign_0 0 rfl rfl)
theorem dX4_sign_1 : decode cX4_sign 1 = .ok (.getfield 209, 3) := dk_180 0 209 (dk_at dksX4_sign_0 1 rfl rfl)
theorem dX4_sign_4 : decode cX4_sign 4 = .ok (.aload_n 0, 1) := dk_42 (dk_at dksX4_sign_0 4 rfl rfl)
theorem dX4_sign_5 : decode cX4_sign 5 = .ok (.getfield 206, 3) := dk_180 0 206 (dk_at dksX4_sign_0 5 rfl rfl)
theorem dX4_sign_8 : decode cX4_sign 8 = .ok (.if_icmp .ge 15, 3) := dk_162 0 15 (dk_at dksX4_sign_0 8 rfl rfl)
theorem dX4_sign_11 : decode cX4_sign 11 = .ok (.aload_n 0, 1) := dk_42 (dk_at dksX4_sign_0 11 rfl rfl)
theorem dX4_sign_12 : decode cX4_sign 12 = .ok (.getfield 44, 3) := dk_180 0 44 (dk_at dksX4_sign_0 12 rfl rfl)
theorem dX4_sign_15 : decode cX4_sign 15 = .ok (.aload_n 0, 1) := dk_42 (dk_at dksX4_sign_0 15 rfl rfl)
theorem dX4_sign_16 : decode cX4_sign 16 = .ok (.getfield 209, 3) := dk_180 0 209 (dk_at dksX4_sign_0 16 rfl rfl)
theorem dX4_sign_19 : decode cX4_sign 19 = .ok (.iaload, 1) := dk_46 (dk_at dksX4_sign_0 19 rfl rfl)
theorem dX4_sign_20 : decode cX4_sign 20 = .ok (.goto 4, 3) := dk_167 0 4 (dk_at dksX4_sign_0 20 rfl rfl)
theorem dX4_sign_23 : decode cX4_sign 23 = .ok (.iconst (-1), 1) := dk_2 (dk_at dksX4_sign_0 23 rfl rfl)
theorem dX4_sign_24 : decode cX4_sign 24 = .ok (.ireturn, 1) := dk_172 (dk_at dksX4_sign_1 0 rfl rfl)
abbrev cX4_signOf : ByteArray := prog_17_method_74_code
def yX4_signOf : MethodName := ⟨RX4, "signOf", "(I)I"⟩
def dkwX4_signOf_2 : List UInt8 := [16, 58, 172, 16, 43, 172, 16, 35, 172, 16, 60, 172, 16, 47, 172, 16, 32, 172]
abbrev dktX4_signOf_2 : List UInt8 := dkwX4_signOf_2 ++ []
def dkwX4_signOf_1 : List UInt8 := [170, 0, 0, 0, 0, 0, 50, 0, 0, 0, 0, 0, 0, 0, 4, 0, 0, 0, 35, 0, 0, 0, 38, 0, 0, 0, 41, 0, 0, 0, 44, 0, 0, 0, 47]
abbrev dktX4_signOf_1 : List UInt8 := dkwX4_signOf_1 ++ dktX4_signOf_2
def dkwX4_signOf_0 : List UInt8 := [26]
abbrev dktX4_signOf_0 : List UInt8 := dkwX4_signOf_0 ++ dktX4_signOf_1
theorem dksX4_signOf_0 : cX4_signOf.data.toList.drop 0 = dktX4_signOf_0 := by decide +kernel
theorem dksX4_signOf_1 : cX4_signOf.data.toList.drop 1 = dktX4_signOf_1 := dk_seg dksX4_signOf_0 1 rfl rfl
theorem dksX4_signOf_2 : cX4_signOf.data.toList.drop 36 = dktX4_signOf_2 := dk_seg dksX4_signOf_1 35 rfl rfl
theorem dX4_signOf_0 : decode cX4_signOf 0 = .ok (.iload_n 0, 1) := dk_26 (dk_at dksX4_signOf_0 0 rfl rfl)
theorem dX4_signOf_1 : decode cX4_signOf 1 = .ok (.tableswitch 50 0 4 #[35, 38, 41, 44, 47], 35) := by decide +kernel
theorem dX4_signOf_36 : decode cX4_signOf 36 = .ok (.bipush 58, 2) := dk_16 58 (dk_at dksX4_signOf_2 0 rfl rfl)
theorem dX4_signOf_38 : decode cX4_signOf 38 = .ok (.ireturn, 1) := dk_172 (dk_at dksX4_signOf_2 2 rfl rfl)
theorem dX4_signOf_39 : decode cX4_signOf 39 = .ok (.bipush 43, 2) := dk_16 43 (dk_at dksX4_signOf_2 3 rfl rfl)
theorem dX4_signOf_41 : decode cX4_signOf 41 = .ok (.ireturn, 1) := dk_172 (dk_at dksX4_signOf_2 5 rfl rfl)
theorem dX4_signOf_42 : decode cX4_signOf 42 = .ok (.bipush 35, 2) := dk_16 35 (dk_at dksX4_signOf_2 6 rfl rfl)
theorem dX4_signOf_44 : decode cX4_signOf 44 = .ok (.ireturn, 1) := dk_172 (dk_at dksX4_signOf_2 8 rfl rfl)
theorem dX4_signOf_45 : decode cX4_signOf 45 = .ok (.bipush 60, 2) := dk_16 60 (dk_at dksX4_signOf_2 9 rfl rfl)
theorem dX4_signOf_47 : decode cX4_signOf 47 = .ok (.ireturn, 1) := dk_172 (dk_at dksX4_signOf_2 11 rfl rfl)
theorem dX4_signOf_48 : decode cX4_signOf 48 = .ok (.bipush 47, 2) := dk_16 47 (dk_at dksX4_signOf_2 12 rfl rfl)
theorem dX4_signOf_50 : decode cX4_signOf 50 = .ok (.ireturn, 1) := dk_172 (dk_at dksX4_signOf_2 14 rfl rfl)
theorem dX4_signOf_51 : decode cX4_signOf 51 = .ok (.bipush 32, 2) := dk_16 32 (dk_at dksX4_signOf_2 15 rfl rfl)
theorem dX4_signOf_53 : decode cX4_signOf 53 = .ok (.ireturn, 1) := dk_172 (dk_at dksX4_signOf_2 17 rfl rfl)
abbrev cX4_isSign : ByteArray := prog_17_method_70_code
def yX4_isSign : MethodName := ⟨RX4, "isSign", "(I)Z"⟩
def dkwX4_isSign_1 : List UInt8 := [167, 0, 4, 3, 96, 181, 0, 209, 28, 172]
abbrev dktX4_isSign_1 : List UInt8 := dkwX4_isSign_1 ++ []
def dkwX4_isSign_0 : List UInt8 := [42, 182, 0, 212, 27, 160, 0, 7, 4, 167, 0, 4, 3, 61, 42, 89, 180, 0, 209, 28, 153, 0, 7, 4]
abbrev dktX4_isSign_0 : List UInt8 := dkwX4_isSign_0 ++ dktX4_isSign_1
theorem dksX4_isSign_0 : cX4_isSign.data.toList.drop 0 = dktX4_isSign_0 := by decide +kernel
theorem dksX4_isSign_1 : cX4_isSign.data.toList.drop 24 = dktX4_isSign_1 := dk_seg dksX4_isSign_0 24 rfl rfl
theorem dX4_isSign_0 : decode cX4_isSign 0 = .ok (.aload_n 0, 1) := dk_42 (dk_at dksX4_isSign_0 0 rfl rfl)
theorem dX4_isSign_1 : decode cX4_isSign 1 = .ok (.invokevirtual 212, 3) := dk_182 0 212 (dk_at dksX4_isSign_0 1 rfl rfl)
theorem dX4_isSign_4 : decode cX4_isSign 4 = .ok (.iload_n 1, 1) := dk_27 (dk_at dksX4_isSign_0 4 rfl rfl)
theorem dX4_isSign_5 : decode cX4_isSign 5 = .ok (.if_icmp .ne 7, 3) := dk_160 0 7 (dk_at dksX4_isSign_0 5 rfl rfl)
theorem dX4_isSign_8 : decode cX4_isSign 8 = .ok (.iconst 1, 1) := dk_4 (dk_at dksX4_isSign_0 8 rfl rfl)
theorem dX4_isSign_9 : decode cX4_isSign 9 = .ok (.goto 4, 3) := dk_167 0 4 (dk_at dksX4_isSign_0 9 rfl rfl)
theorem dX4_isSign_12 : decode cX4_isSign 12 = .ok (.iconst 0, 1) := dk_3 (dk_at dksX4_isSign_0 12 rfl rfl)
theorem dX4_isSign_13 : decode cX4_isSign 13 = .ok (.istore_n 2, 1) := dk_61 (dk_at dksX4_isSign_0 13 rfl rfl)
theorem dX4_isSign_14 : decode cX4_isSign 14 = .ok (.aload_n 0, 1) := dk_42 (dk_at dksX4_isSign_0 14 rfl rfl)
theorem dX4_isSign_15 : decode cX4_isSign 15 = .ok (.dup, 1) := dk_89 (dk_at dksX4_isSign_0 15 rfl rfl)
theorem dX4_isSign_16 : decode cX4_isSign 16 = .ok (.getfield 209, 3) := dk_180 0 209 (dk_at dksX4_isSign_0 16 rfl rfl)
theorem dX4_isSign_19 : decode cX4_isSign 19 = .ok (.iload_n 2, 1) := dk_28 (dk_at dksX4_isSign_0 19 rfl rfl)
theorem dX4_isSign_20 : decode cX4_isSign 20 = .ok (.ifCond .eq 7, 3) := dk_153 0 7 (dk_at dksX4_isSign_0 20 rfl rfl)
theorem dX4_isSign_23 : decode cX4_isSign 23 = .ok (.iconst 1, 1) := dk_4 (dk_at dksX4_isSign_0 23 rfl rfl)
theorem dX4_isSign_24 : decode cX4_isSign 24 = .ok (.goto 4, 3) := dk_167 0 4 (dk_at dksX4_isSign_1 0 rfl rfl)
theorem dX4_isSign_27 : decode cX4_isSign 27 = .ok (.iconst 0, 1) := dk_3 (dk_at dksX4_isSign_1 3 rfl rfl)
theorem dX4_isSign_28 : decode cX4_isSign 28 = .ok (.iadd, 1) := dk_96 (dk_at dksX4_isSign_1 4 rfl rfl)
theorem dX4_isSign_29 : decode cX4_isSign 29 = .ok (.putfield 209, 3) := dk_181 0 209 (dk_at dksX4_isSign_1 5 rfl rfl)
theorem dX4_isSign_32 : decode cX4_isSign 32 = .ok (.iload_n 2, 1) := dk_28 (dk_at dksX4_isSign_1 8 rfl rfl)
theorem dX4_isSign_33 : decode cX4_isSign 33 = .ok (.ireturn, 1) := dk_172 (dk_at dksX4_isSign_1 9 rfl rfl)
abbrev cX4_does : ByteArray := prog_17_method_77_code
def yX4_does : MethodName := ⟨RX4, "does", "(I)I"⟩
def dkwX4_does_4 : List UInt8 := [42, 28, 182, 0, 193, 172]
abbrev dktX4_does_4 : List UInt8 := dkwX4_does_4 ++ []
def dkwX4_does_3 : List UInt8 := [182, 0, 167, 172, 42, 28, 29, 182, 0, 173, 172, 42, 28, 29, 182, 0, 180, 172, 42, 28, 182, 0, 186, 172]
abbrev dktX4_does_3 : List UInt8 := dkwX4_does_3 ++ dktX4_does_4
def dkwX4_does_2 : List UInt8 := [42, 28, 29, 182, 0, 123, 172, 42, 28, 29, 182, 0, 139, 172, 42, 28, 29, 182, 0, 149, 172, 42, 28, 29]
abbrev dktX4_does_2 : List UInt8 := dkwX4_does_2 ++ dktX4_does_3
def dkwX4_does_1 : List UInt8 := [170, 0, 0, 0, 0, 0, 0, 92, 0, 0, 0, 0, 0, 0, 0, 6, 0, 0, 0, 44, 0, 0, 0, 51, 0, 0, 0, 58, 0, 0, 0, 65, 0, 0, 0, 72, 0, 0, 0, 79, 0, 0, 0, 86]
abbrev dktX4_does_1 : List UInt8 := dkwX4_does_1 ++ dktX4_does_2
def dkwX4_does_0 : List UInt8 := [42, 180, 0, 47, 27, 4, 96, 46, 61, 42, 180, 0, 47, 27, 5, 96, 46, 62, 42, 180, 0, 47, 27, 46]
abbrev dktX4_does_0 : List UInt8 := dkwX4_does_0 ++ dktX4_does_1
theorem dksX4_does_0 : cX4_does.data.toList.drop 0 = dktX4_does_0 := by decide +kernel
theorem dksX4_does_1 : cX4_does.data.toList.drop 24 = dktX4_does_1 := dk_seg dksX4_does_0 24 rfl rfl
theorem dksX4_does_2 : cX4_does.data.toList.drop 68 = dktX4_does_2 := dk_seg dksX4_does_1 44 rfl rfl
theorem dksX4_does_3 : cX4_does.data.toList.drop 92 = dktX4_does_3 := dk_seg dksX4_does_2 24 rfl rfl
theorem dksX4_does_4 : cX4_does.data.toList.drop 116 = dktX4_does_4 := dk_seg dksX4_does_3 24 rfl rfl
theorem dX4_does_0 : decode cX4_does 0 = .ok (.aload_n 0, 1) := dk_42 (dk_at dksX4_does_0 0 rfl rfl)
theorem dX4_does_1 : decode cX4_does 1 = .ok (.getfield 47, 3) := dk_180 0 47 (dk_at dksX4_does_0 1 rfl rfl)
theorem dX4_does_4 : decode cX4_does 4 = .ok (.iload_n 1, 1) := dk_27 (dk_at dksX4_does_0 4 rfl rfl)
theorem dX4_does_5 : decode cX4_does 5 = .ok (.iconst 1, 1) := dk_4 (dk_at dksX4_does_0 5 rfl rfl)
theorem dX4_does_6 : decode cX4_does 6 = .ok (.iadd, 1) := dk_96 (dk_at dksX4_does_0 6 rfl rfl)
theorem dX4_does_7 : decode cX4_does 7 = .ok (.iaload, 1) := dk_46 (dk_at dksX4_does_0 7 rfl rfl)
theorem dX4_does_8 : decode cX4_does 8 = .ok (.istore_n 2, 1) := dk_61 (dk_at dksX4_does_0 8 rfl rfl)
theorem dX4_does_9 : decode cX4_does 9 = .ok (.aload_n 0, 1) := dk_42 (dk_at dksX4_does_0 9 rfl rfl)
theorem dX4_does_10 : decode cX4_does 10 = .ok (.getfield 47, 3) := dk_180 0 47 (dk_at dksX4_does_0 10 rfl rfl)
theorem dX4_does_13 : decode cX4_does 13 = .ok (.iload_n 1, 1) := dk_27 (dk_at dksX4_does_0 13 rfl rfl)
theorem dX4_does_14 : decode cX4_does 14 = .ok (.iconst 2, 1) := dk_5 (dk_at dksX4_does_0 14 rfl rfl)
theorem dX4_does_15 : decode cX4_does 15 = .ok (.iadd, 1) := dk_96 (dk_at dksX4_does_0 15 rfl rfl)
theorem dX4_does_16 : decode cX4_does 16 = .ok (.iaload, 1) := dk_46 (dk_at dksX4_does_0 16 rfl rfl)
theorem dX4_does_17 : decode cX4_does 17 = .ok (.istore_n 3, 1) := dk_62 (dk_at dksX4_does_0 17 rfl rfl)
theorem dX4_does_18 : decode cX4_does 18 = .ok (.aload_n 0, 1) := dk_42 (dk_at dksX4_does_0 18 rfl rfl)
theorem dX4_does_19 : decode cX4_does 19 = .ok (.getfield 47, 3) := dk_180 0 47 (dk_at dksX4_does_0 19 rfl rfl)
theorem dX4_does_22 : decode cX4_does 22 = .ok (.iload_n 1, 1) := dk_27 (dk_at dksX4_does_0 22 rfl rfl)
theorem dX4_does_23 : decode cX4_does 23 = .ok (.iaload, 1) := dk_46 (dk_at dksX4_does_0 23 rfl rfl)
theorem dX4_does_24 : decode cX4_does 24 = .ok (.tableswitch 92 0 6 #[44, 51, 58, 65, 72, 79, 86], 44) := by decide +kernel
theorem dX4_does_68 : decode cX4_does 68 = .ok (.aload_n 0, 1) := dk_42 (dk_at dksX4_does_2 0 rfl rfl)
theorem dX4_does_69 : decode cX4_does 69 = .ok (.iload_n 2, 1) := dk_28 (dk_at dksX4_does_2 1 rfl rfl)
theorem dX4_does_70 : decode cX4_does 70 = .ok (.iload_n 3, 1) := dk_29 (dk_at dksX4_does_2 2 rfl rfl)
theorem dX4_does_71 : decode cX4_does 71 = .ok (.invokevirtual 123, 3) := dk_182 0 123 (dk_at dksX4_does_2 3 rfl rfl)
theorem dX4_does_74 : decode cX4_does 74 = .ok (.ireturn, 1) := dk_172 (dk_at dksX4_does_2 6 rfl rfl)
theorem dX4_does_75 : decode cX4_does 75 = .ok (.aload_n 0, 1) := dk_42 (dk_at dksX4_does_2 7 rfl rfl)
theorem dX4_does_76 : decode cX4_does 76 = .ok (.iload_n 2, 1) := dk_28 (dk_at dksX4_does_2 8 rfl rfl)
theorem dX4_does_77 : decode cX4_does 77 = .ok (.iload_n 3, 1) := dk_29 (dk_at dksX4_does_2 9 rfl rfl)
theorem dX4_does_78 : decode cX4_does 78 = .ok (.invokevirtual 139, 3) := dk_182 0 139 (dk_at dksX4_does_2 10 rfl rfl)
theorem dX4_does_81 : decode cX4_does 81 = .ok (.ireturn, 1) := dk_172 (dk_at dksX4_does_2 13 rfl rfl)
theorem dX4_does_82 : decode cX4_does 82 = .ok (.aload_n 0, 1) := dk_42 (dk_at dksX4_does_2 14 rfl rfl)
theorem dX4_does_83 : decode cX4_does 83 = .ok (.iload_n 2, 1) := dk_28 (dk_at dksX4_does_2 15 rfl rfl)
theorem dX4_does_84 : decode cX4_does 84 = .ok (.iload_n 3, 1) := dk_29 (dk_at dksX4_does_2 16 rfl rfl)
theorem dX4_does_85 : decode cX4_does 85 = .ok (.invokevirtual 149, 3) := dk_182 0 149 (dk_at dksX4_does_2 17 rfl rfl)
theorem dX4_does_88 : decode cX4_does 88 = .ok (.ireturn, 1) := dk_172 (dk_at dksX4_does_2 20 rfl rfl)
theorem dX4_does_89 : decode cX4_does 89 = .ok (.aload_n 0, 1) := dk_42 (dk_at dksX4_does_2 21 rfl rfl)
theorem dX4_does_90 : decode cX4_does 90 = .ok (.iload_n 2, 1) := dk_28 (dk_at dksX4_does_2 22 rfl rfl)
theorem dX4_does_91 : decode cX4_does 91 = .ok (.iload_n 3, 1) := dk_29 (dk_at dksX4_does_2 23 rfl rfl)
theorem dX4_does_92 : decode cX4_does 92 = .ok (.invokevirtual 167, 3) := dk_182 0 167 (dk_at dksX4_does_3 0 rfl rfl)
theorem dX4_does_95 : decode cX4_does 95 = .ok (.ireturn, 1) := dk_172 (dk_at dksX4_does_3 3 rfl rfl)
theorem dX4_does_96 : decode cX4_does 96 = .ok (.aload_n 0, 1) := dk_42 (dk_at dksX4_does_3 4 rfl rfl)
theorem dX4_does_97 : decode cX4_does 97 = .ok (.iload_n 2, 1) := dk_28 (dk_at dksX4_does_3 5 rfl rfl)
theorem dX4_does_98 : decode cX4_does 98 = .ok (.iload_n 3, 1) := dk_29 (dk_at dksX4_does_3 6 rfl rfl)
theorem dX4_does_99 : decode cX4_does 99 = .ok (.invokevirtual 173, 3) := dk_182 0 173 (dk_at dksX4_does_3 7 rfl rfl)
theorem dX4_does_102 : decode cX4_does 102 = .ok (.ireturn, 1) := dk_172 (dk_at dksX4_does_3 10 rfl rfl)
theorem dX4_does_103 : decode cX4_does 103 = .ok (.aload_n 0, 1) := dk_42 (dk_at dksX4_does_3 11 rfl rfl)
theorem dX4_does_104 : decode cX4_does 104 = .ok (.iload_n 2, 1) := dk_28 (dk_at dksX4_does_3 12 rfl rfl)
theorem dX4_does_105 : decode cX4_does 105 = .ok (.iload_n 3, 1) := dk_29 (dk_at dksX4_does_3 13 rfl rfl)
theorem dX4_does_106 : decode cX4_does 106 = .ok (.invokevirtual 180, 3) := dk_182 0 180 (dk_at dksX4_does_3 14 rfl rfl)
theorem dX4_does_109 : decode cX4_does 109 = .ok (.ireturn, 1) := dk_172 (dk_at dksX4_does_3 17 rfl rfl)
theorem dX4_does_110 : decode cX4_does 110 = .ok (.aload_n 0, 1) := dk_42 (dk_at dksX4_does_3 18 rfl rfl)
theorem dX4_does_111 : decode cX4_does 111 = .ok (.iload_n 2, 1) := dk_28 (dk_at dksX4_does_3 19 rfl rfl)
theorem dX4_does_112 : decode cX4_does 112 = .ok (.invokevirtual 186, 3) := dk_182 0 186 (dk_at dksX4_does_3 20 rfl rfl)
theorem dX4_does_115 : decode cX4_does 115 = .ok (.ireturn, 1) := dk_172 (dk_at dksX4_does_3 23 rfl rfl)
theorem dX4_does_116 : decode cX4_does 116 = .ok (.aload_n 0, 1) := dk_42 (dk_at dksX4_does_4 0 rfl rfl)
theorem dX4_does_117 : decode cX4_does 117 = .ok (.iload_n 2, 1) := dk_28 (dk_at dksX4_does_4 1 rfl rfl)
theorem dX4_does_118 : decode cX4_does 118 = .ok (.invokevirtual 193, 3) := dk_182 0 193 (dk_at dksX4_does_4 2 rfl rfl)
theorem dX4_does_121 : decode cX4_does 121 = .ok (.ireturn, 1) := dk_172 (dk_at dksX4_does_4 5 rfl rfl)
abbrev cX4_faultPosition : ByteArray := prog_17_method_79_code
def yX4_faultPosition : MethodName := ⟨RX4, "faultPosition", "()I"⟩
def dkwX4_faultPosition_1 : List UInt8 := [42, 180, 0, 50, 172]
abbrev dktX4_faultPosition_1 : List UInt8 := dkwX4_faultPosition_1 ++ []
def dkwX4_faultPosition_0 : List UInt8 := [42, 42, 180, 0, 50, 156, 0, 7, 4, 167, 0, 4, 3, 4, 182, 0, 196, 153, 0, 7, 3, 167, 0, 7]
abbrev dktX4_faultPosition_0 : List UInt8 := dkwX4_faultPosition_0 ++ dktX4_faultPosition_1
theorem dksX4_faultPosition_0 : cX4_faultPosition.data.toList.drop 0 = dktX4_faultPosition_0 := by decide +kernel
theorem dksX4_faultPosition_1 : cX4_faultPosition.data.toList.drop 24 = dktX4_faultPosition_1 := dk_seg dksX4_faultPosition_0 24 rfl rfl
theorem dX4_faultPosition_0 : decode cX4_faultPosition 0 = .ok (.aload_n 0, 1) := dk_42 (dk_at dksX4_faultPosition_0 0 rfl rfl)
theorem dX4_faultPosition_1 : decode cX4_faultPosition 1 = .ok (.aload_n 0, 1) := dk_42 (dk_at dksX4_faultPosition_0 1 rfl rfl)
theorem dX4_faultPosition_2 : decode cX4_faultPosition 2 = .ok (.getfield 50, 3) := dk_180 0 50 (dk_at dksX4_faultPosition_0 2 rfl rfl)
theorem dX4_faultPosition_5 : decode cX4_faultPosition 5 = .ok (.ifCond .ge 7, 3) := dk_156 0 7 (dk_at dksX4_faultPosition_0 5 rfl rfl)
theorem dX4_faultPosition_8 : decode cX4_faultPosition 8 = .ok (.iconst 1, 1) := dk_4 (dk_at dksX4_faultPosition_0 8 rfl rfl)
theorem dX4_faultPosition_9 : decode cX4_faultPosition 9 = .ok (.goto 4, 3) := dk_167 0 4 (dk_at dksX4_faultPosition_0 9 rfl rfl)
theorem dX4_faultPosition_12 : decode cX4_faultPosition 12 = .ok (.iconst 0, 1) := dk_3 (dk_at dksX4_faultPosition_0 12 rfl rfl)
theorem dX4_faultPosition_13 : decode cX4_faultPosition 13 = .ok (.iconst 1, 1) := dk_4 (dk_at dksX4_faultPosition_0 13 rfl rfl)
theorem dX4_faultPosition_14 : decode cX4_faultPosition 14 = .ok (.invokevirtual 196, 3) := dk_182 0 196 (dk_at dksX4_faultPosition_0 14 rfl rfl)
theorem dX4_faultPosition_17 : decode cX4_faultPosition 17 = .ok (.ifCond .eq 7, 3) := dk_153 0 7 (dk_at dksX4_faultPosition_0 17 rfl rfl)
theorem dX4_faultPosition_20 : decode cX4_faultPosition 20 = .ok (.iconst 0, 1) := dk_3 (dk_at dksX4_faultPosition_0 20 rfl rfl)
theorem dX4_faultPosition_21 : decode cX4_faultPosition 21 = .ok (.goto 7, 3) := dk_167 0 7 (dk_at dksX4_faultPosition_0 21 rfl rfl)
theorem dX4_faultPosition_24 : decode cX4_faultPosition 24 = .ok (.aload_n 0, 1) := dk_42 (dk_at dksX4_faultPosition_1 0 rfl rfl)
theorem dX4_faultPosition_25 : decode cX4_faultPosition 25 = .ok (.getfield 50, 3) := dk_180 0 50 (dk_at dksX4_faultPosition_1 1 rfl rfl)
theorem dX4_faultPosition_28 : decode cX4_faultPosition 28 = .ok (.ireturn, 1) := dk_172 (dk_at dksX4_faultPosition_1 4 rfl rfl)
abbrev cX4_reason : ByteArray := prog_17_method_80_code
def yX4_reason : MethodName := ⟨RX4, "reason", "(I)I"⟩
def dkwX4_reason_2 : List UInt8 := [42, 180, 0, 76, 167, 0, 19, 27, 4, 160, 0, 10, 42, 180, 0, 79, 167, 0, 7, 42, 180, 0, 82, 172]
abbrev dktX4_reason_2 : List UInt8 := dkwX4_reason_2 ++ []
def dkwX4_reason_1 : List UInt8 := [180, 0, 76, 154, 0, 7, 4, 167, 0, 4, 3, 5, 182, 0, 196, 153, 0, 5, 3, 172, 27, 154, 0, 10]
abbrev dktX4_reason_1 : List UInt8 := dkwX4_reason_1 ++ dktX4_reason_2
def dkwX4_reason_0 : List UInt8 := [42, 27, 3, 5, 184, 0, 92, 154, 0, 7, 4, 167, 0, 4, 3, 4, 182, 0, 196, 154, 0, 23, 42, 42]
abbrev dktX4_reason_0 : List UInt8 := dkwX4_reason_0 ++ dktX4_reason_1
theorem dksX4_reason_0 : cX4_reason.data.toList.drop 0 = dktX4_reason_0 := by decide +kernel
theorem dksX4_reason_1 : cX4_reason.data.toList.drop 24 = dktX4_reason_1 := dk_seg dksX4_reason_0 24 rfl rfl
theorem dksX4_reason_2 : cX4_reason.data.toList.drop 48 = dktX4_reason_2 := dk_seg dksX4_reason_1 24 rfl rfl
theorem dX4_reason_0 : decode cX4_reason 0 = .ok (.aload_n 0, 1) := dk_42 (dk_at dksX4_reason_0 0 rfl rfl)
theorem dX4_reason_1 : decode cX4_reason 1 = .ok (.iload_n 1, 1) := dk_27 (dk_at dksX4_reason_0 1 rfl rfl)
theorem dX4_reason_2 : decode cX4_reason 2 = .ok (.iconst 0, 1) := dk_3 (dk_at dksX4_reason_0 2 rfl rfl)
theorem dX4_reason_3 : decode cX4_reason 3 = .ok (.iconst 2, 1) := dk_5 (dk_at dksX4_reason_0 3 rfl rfl)
theorem dX4_reason_4 : decode cX4_reason 4 = .ok (.invokestatic 92, 3) := dk_184 0 92 (dk_at dksX4_reason_0 4 rfl rfl)
theorem dX4_reason_7 : decode cX4_reason 7 = .ok (.ifCond .ne 7, 3) := dk_154 0 7 (dk_at dksX4_reason_0 7 rfl rfl)
theorem dX4_reason_10 : decode cX4_reason 10 = .ok (.iconst 1, 1) := dk_4 (dk_at dksX4_reason_0 10 rfl rfl)
theorem dX4_reason_11 : decode cX4_reason 11 = .ok (.goto 4, 3) := dk_167 0 4 (dk_at dksX4_reason_0 11 rfl rfl)
theorem dX4_reason_14 : decode cX4_reason 14 = .ok (.iconst 0, 1) := dk_3 (dk_at dksX4_reason_0 14 rfl rfl)
theorem dX4_reason_15 : decode cX4_reason 15 = .ok (.iconst 1, 1) := dk_4 (dk_at dksX4_reason_0 15 rfl rfl)
theorem dX4_reason_16 : decode cX4_reason 16 = .ok (.invokevirtual 196, 3) := dk_182 0 196 (dk_at dksX4_reason_0 16 rfl rfl)
theorem dX4_reason_19 : decode cX4_reason 19 = .ok (.ifCond .ne 23, 3) := dk_154 0 23 (dk_at dksX4_reason_0 19 rfl rfl)
theorem dX4_reason_22 : decode cX4_reason 22 = .ok (.aload_n 0, 1) := dk_42 (dk_at dksX4_reason_0 22 rfl rfl)
theorem dX4_reason_23 : decode cX4_reason 23 = .ok (.aload_n 0, 1) := dk_42 (dk_at dksX4_reason_0 23 rfl rfl)
theorem dX4_reason_24 : decode cX4_reason 24 = .ok (.getfield 76, 3) := dk_180 0 76 (dk_at dksX4_reason_1 0 rfl rfl)
theorem dX4_reason_27 : decode cX4_reason 27 = .ok (.ifCond .ne 7, 3) := dk_154 0 7 (dk_at dksX4_reason_1 3 rfl rfl)
theorem dX4_reason_30 : decode cX4_reason 30 = .ok (.iconst 1, 1) := dk_4 (dk_at dksX4_reason_1 6 rfl rfl)
theorem dX4_reason_31 : decode cX4_reason 31 = .ok (.goto 4, 3) := dk_167 0 4 (dk_at dksX4_reason_1 7 rfl rfl)
theorem dX4_reason_34 : decode cX4_reason 34 = .ok (.iconst 0, 1) := dk_3 (dk_at dksX4_reason_1 10 rfl rfl)
theorem dX4_reason_35 : decode cX4_reason 35 = .ok (.iconst 2, 1) := dk_5 (dk_at dksX4_reason_1 11 rfl rfl)
theorem dX4_reason_36 : decode cX4_reason 36 = .ok (.invokevirtual 196, 3) := dk_182 0 196 (dk_at dksX4_reason_1 12 rfl rfl)
theorem dX4_reason_39 : decode cX4_reason 39 = .ok (.ifCond .eq 5, 3) := dk_153 0 5 (dk_at dksX4_reason_1 15 rfl rfl)
theorem dX4_reason_42 : decode cX4_reason 42 = .ok (.iconst 0, 1) := dk_3 (dk_at dksX4_reason_1 18 rfl rfl)
theorem dX4_reason_43 : decode cX4_reason 43 = .ok (.ireturn, 1) := dk_172 (dk_at dksX4_reason_1 19 rfl rfl)
theorem dX4_reason_44 : decode cX4_reason 44 = .ok (.iload_n 1, 1) := dk_27 (dk_at dksX4_reason_1 20 rfl rfl)
theorem dX4_reason_45 : decode cX4_reason 45 = .ok (.ifCond .ne 10, 3) := dk_154 0 10 (dk_at dksX4_reason_1 21 rfl rfl)
theorem dX4_reason_48 : decode cX4_reason 48 = .ok (.aload_n 0, 1) := dk_42 (dk_at dksX4_reason_2 0 rfl rfl)
theorem dX4_reason_49 : decode cX4_reason 49 = .ok (.getfield 76, 3) := dk_180 0 76 (dk_at dksX4_reason_2 1 rfl rfl)
theorem dX4_reason_52 : decode cX4_reason 52 = .ok (.goto 19, 3) := dk_167 0 19 (dk_at dksX4_reason_2 4 rfl rfl)
theorem dX4_reason_55 : decode cX4_reason 55 = .ok (.iload_n 1, 1) := dk_27 (dk_at dksX4_reason_2 7 rfl rfl)
theorem dX4_reason_56 : decode cX4_reason 56 = .ok (.iconst 1, 1) := dk_4 (dk_at dksX4_reason_2 8 rfl rfl)
theorem dX4_reason_57 : decode cX4_reason 57 = .ok (.if_icmp .ne 10, 3) := dk_160 0 10 (dk_at dksX4_reason_2 9 rfl rfl)
theorem dX4_reason_60 : decode cX4_reason 60 = .ok (.aload_n 0, 1) := dk_42 (dk_at dksX4_reason_2 12 rfl rfl)
theorem dX4_reason_61 : decode cX4_reason 61 = .ok (.getfield 79, 3) := dk_180 0 79 (dk_at dksX4_reason_2 13 rfl rfl)
theorem dX4_reason_64 : decode cX4_reason 64 = .ok (.goto 7, 3) := dk_167 0 7 (dk_at dksX4_reason_2 16 rfl rfl)
theorem dX4_reason_67 : decode cX4_reason 67 = .ok (.aload_n 0, 1) := dk_42 (dk_at dksX4_reason_2 19 rfl rfl)
theorem dX4_reason_68 : decode cX4_reason 68 = .ok (.getfield 82, 3) := dk_180 0 82 (dk_at dksX4_reason_2 20 rfl rfl)
theorem dX4_reason_71 : decode cX4_reason 71 = .ok (.ireturn, 1) := dk_172 (dk_at dksX4_reason_2 23 rfl rfl)
abbrev cX4_line : ByteArray := prog_17_method_83_code
def yX4_line : MethodName := ⟨RX4, "line", "()I"⟩
def dkwX4_line_5 : List UInt8 := [132, 1, 1, 167, 255, 150, 42, 180, 0, 254, 172]
abbrev dktX4_line_5 : List UInt8 := dkwX4_line_5 ++ []
def dkwX4_line_4 : List UInt8 := [4, 182, 0, 126, 182, 1, 1, 42, 27, 6, 182, 0, 126, 156, 0, 9, 42, 16, 42, 182, 1, 4]
abbrev dktX4_line_4 : List UInt8 := dkwX4_line_4 ++ dktX4_line_5
def dkwX4_line_3 : List UInt8 := [16, 109, 182, 1, 4, 42, 42, 27, 5, 182, 0, 126, 182, 1, 1, 42, 16, 47, 182, 1, 4, 42, 42, 27]
abbrev dktX4_line_3 : List UInt8 := dkwX4_line_3 ++ dktX4_line_4
def dkwX4_line_2 : List UInt8 := [167, 0, 25, 28, 4, 160, 0, 8, 16, 98, 167, 0, 15, 28, 5, 160, 0, 8, 16, 114, 167, 0, 5]
abbrev dktX4_line_2 : List UInt8 := dkwX4_line_2 ++ dktX4_line_3
def dkwX4_line_1 : List UInt8 := [3, 182, 0, 126, 61, 27, 158, 0, 9, 42, 16, 32, 182, 1, 4, 42, 28, 154, 0, 8, 16, 119]
abbrev dktX4_line_1 : List UInt8 := dkwX4_line_1 ++ dktX4_line_2
def dkwX4_line_0 : List UInt8 := [42, 3, 181, 0, 57, 42, 3, 181, 0, 254, 3, 60, 27, 42, 180, 0, 9, 7, 46, 162, 0, 102, 42, 27]
abbrev dktX4_line_0 : List UInt8 := dkwX4_line_0 ++ dktX4_line_1
theorem dksX4_line_0 : cX4_line.data.toList.drop 0 = dktX4_line_0 := by decide +kernel
theorem dksX4_line_1 : cX4_line.data.toList.drop 24 = dktX4_line_1 := dk_seg dksX4_line_0 24 rfl rfl
theorem dksX4_line_2 : cX4_line.data.toList.drop 46 = dktX4_line_2 := dk_seg dksX4_line_1 22 rfl rfl
theorem dksX4_line_3 : cX4_line.data.toList.drop 69 = dktX4_line_3 := dk_seg dksX4_line_2 23 rfl rfl
theorem dksX4_line_4 : cX4_line.data.toList.drop 93 = dktX4_line_4 := dk_seg dksX4_line_3 24 rfl rfl
theorem dksX4_line_5 : cX4_line.data.toList.drop 115 = dktX4_line_5 := dk_seg dksX4_line_4 22 rfl rfl
theorem dX4_line_0 : decode cX4_line 0 = .ok (.aload_n 0, 1) := dk_42 (dk_at dksX4_line_0 0 rfl rfl)
theorem dX4_line_1 : decode cX4_line 1 = .ok (.iconst 0, 1) := dk_3 (dk_at dksX4_line_0 1 rfl rfl)
theorem dX4_line_2 : decode cX4_line 2 = .ok (.putfield 57, 3) := dk_181 0 57 (dk_at dksX4_line_0 2 rfl rfl)
theorem dX4_line_5 : decode cX4_line 5 = .ok (.aload_n 0, 1) := dk_42 (dk_at dksX4_line_0 5 rfl rfl)
theorem dX4_line_6 : decode cX4_line 6 = .ok (.iconst 0, 1) := dk_3 (dk_at dksX4_line_0 6 rfl rfl)
theorem dX4_line_7 : decode cX4_line 7 = .ok (.putfield 254, 3) := dk_181 0 254 (dk_at dksX4_line_0 7 rfl rfl)
theorem dX4_line_10 : decode cX4_line 10 = .ok (.iconst 0, 1) := dk_3 (dk_at dksX4_line_0 10 rfl rfl)
theorem dX4_line_11 : decode cX4_line 11 = .ok (.istore_n 1, 1) := dk_60 (dk_at dksX4_line_0 11 rfl rfl)
theorem dX4_line_12 : decode cX4_line 12 = .ok (.iload_n 1, 1) := dk_27 (dk_at dksX4_line_0 12 rfl rfl)
theorem dX4_line_13 : decode cX4_line 13 = .ok (.aload_n 0, 1) := dk_42 (dk_at dksX4_line_0 13 rfl rfl)
theorem dX4_line_14 : decode cX4_line 14 = .ok (.getfield 9, 3) := dk_180 0 9 (dk_at dksX4_line_0 14 rfl rfl)
theorem dX4_line_17 : decode cX4_line 17 = .ok (.iconst 4, 1) := dk_7 (dk_at dksX4_line_0 17 rfl rfl)
theorem dX4_line_18 : decode cX4_line 18 = .ok (.iaload, 1) := dk_46 (dk_at dksX4_line_0 18 rfl rfl)
theorem dX4_line_19 : decode cX4_line 19 = .ok (.if_icmp .ge 102, 3) := dk_162 0 102 (dk_at dksX4_line_0 19 rfl rfl)
theorem dX4_line_22 : decode cX4_line 22 = .ok (.aload_n 0, 1) := dk_42 (dk_at dksX4_line_0 22 rfl rfl)
theorem dX4_line_23 : decode cX4_line 23 = .ok (.iload_n 1, 1) := dk_27 (dk_at dksX4_line_0 23 rfl rfl)
theorem dX4_line_24 : decode cX4_line 24 = .ok (.iconst 0, 1) := dk_3 (dk_at dksX4_line_1 0 rfl rfl)
theorem dX4_line_25 : decode cX4_line 25 = .ok (.invokevirtual 126, 3) := dk_182 0 126 (dk_at dksX4_line_1 1 rfl rfl)
theorem dX4_line_28 : decode cX4_line 28 = .ok (.istore_n 2, 1) := dk_61 (dk_at dksX4_line_1 4 rfl rfl)
theorem dX4_line_29 : decode cX4_line 29 = .ok (.iload_n 1, 1) := dk_27 (dk_at dksX4_line_1 5 rfl rfl)
theorem dX4_line_30 : decode cX4_line 30 = .ok (.ifCond .le 9, 3) := dk_158 0 9 (dk_at dksX4_line_1 6 rfl rfl)
theorem dX4_line_33 : decode cX4_line 33 = .ok (.aload_n 0, 1) := dk_42 (dk_at dksX4_line_1 9 rfl rfl)
theorem dX4_line_34 : decode cX4_line 34 = .ok (.bipush 32, 2) := dk_16 32 (dk_at dksX4_line_1 10 rfl rfl)
theorem dX4_line_36 : decode cX4_line 36 = .ok (.invokevirtual 260, 3) := dk_182 1 4 (dk_at dksX4_line_1 12 rfl rfl)
theorem dX4_line_39 : decode cX4_line 39 = .ok (.aload_n 0, 1) := dk_42 (dk_at dksX4_line_1 15 rfl rfl)
theorem dX4_line_40 : decode cX4_line 40 = .ok (.iload_n 2, 1) := dk_28 (dk_at dksX4_line_1 16 rfl rfl)
theorem dX4_line_41 : decode cX4_line 41 = .ok (.ifCond .ne 8, 3) := dk_154 0 8 (dk_at dksX4_line_1 17 rfl rfl)
theorem dX4_line_44 : decode cX4_line 44 = .ok (.bipush 119, 2) := dk_16 119 (dk_at dksX4_line_1 20 rfl rfl)
theorem dX4_line_46 : decode cX4_line 46 = .ok (.goto 25, 3) := dk_167 0 25 (dk_at dksX4_line_2 0 rfl rfl)
theorem dX4_line_49 : decode cX4_line 49 = .ok (.iload_n 2, 1) := dk_28 (dk_at dksX4_line_2 3 rfl rfl)
theorem dX4_line_50 : decode cX4_line 50 = .ok (.iconst 1, 1) := dk_4 (dk_at dksX4_line_2 4 rfl rfl)
theorem dX4_line_51 : decode cX4_line 51 = .ok (.if_icmp .ne 8, 3) := dk_160 0 8 (dk_at dksX4_line_2 5 rfl rfl)
theorem dX4_line_54 : decode cX4_line 54 = .ok (.bipush 98, 2) := dk_16 98 (dk_at dksX4_line_2 8 rfl rfl)
theorem dX4_line_56 : decode cX4_line 56 = .ok (.goto 15, 3) := dk_167 0 15 (dk_at dksX4_line_2 10 rfl rfl)
theorem dX4_line_59 : decode cX4_line 59 = .ok (.iload_n 2, 1) := dk_28 (dk_at dksX4_line_2 13 rfl rfl)
theorem dX4_line_60 : decode cX4_line 60 = .ok (.iconst 2, 1) := dk_5 (dk_at dksX4_line_2 14 rfl rfl)
theorem dX4_line_61 : decode cX4_line 61 = .ok (.if_icmp .ne 8, 3) := dk_160 0 8 (dk_at dksX4_line_2 15 rfl rfl)
theorem dX4_line_64 : decode cX4_line 64 = .ok (.bipush 114, 2) := dk_16 114 (dk_at dksX4_line_2 18 rfl rfl)
theorem dX4_line_66 : decode cX4_line 66 = .ok (.goto 5, 3) := dk_167 0 5 (dk_at dksX4_line_2 20 rfl rfl)
theorem dX4_line_69 : decode cX4_line 69 = .ok (.bipush 109, 2) := dk_16 109 (dk_at dksX4_line_3 0 rfl rfl)
theorem dX4_line_71 : decode cX4_line 71 = .ok (.invokevirtual 260, 3) := dk_182 1 4 (dk_at dksX4_line_3 2 rfl rfl)
theorem dX4_line_74 : decode cX4_line 74 = .ok (.aload_n 0, 1) := dk_42 (dk_at dksX4_line_3 5 rfl rfl)
theorem dX4_line_75 : decode cX4_line 75 = .ok (.aload_n 0, 1) := dk_42 (dk_at dksX4_line_3 6 rfl rfl)
theorem dX4_line_76 : decode cX4_line 76 = .ok (.iload_n 1, 1) := dk_27 (dk_at dksX4_line_3 7 rfl rfl)
theorem dX4_line_77 : decode cX4_line 77 = .ok (.iconst 2, 1) := dk_5 (dk_at dksX4_line_3 8 rfl rfl)
theorem dX4_line_78 : decode cX4_line 78 = .ok (.invokevirtual 126, 3) := dk_182 0 126 (dk_at dksX4_line_3 9 rfl rfl)
theorem dX4_line_81 : decode cX4_line 81 = .ok (.invokevirtual 257, 3) := dk_182 1 1 (dk_at dksX4_line_3 12 rfl rfl)
theorem dX4_line_84 : decode cX4_line 84 = .ok (.aload_n 0, 1) := dk_42 (dk_at dksX4_line_3 15 rfl rfl)
theorem dX4_line_85 : decode cX4_line 85 = .ok (.bipush 47, 2) := dk_16 47 (dk_at dksX4_line_3 16 rfl rfl)
theorem dX4_line_87 : decode cX4_line 87 = .ok (.invokevirtual 260, 3) := dk_182 1 4 (dk_at dksX4_line_3 18 rfl rfl)
theorem dX4_line_90 : decode cX4_line 90 = .ok (.aload_n 0, 1) := dk_42 (dk_at dksX4_line_3 21 rfl rfl)
theorem dX4_line_91 : decode cX4_line 91 = .ok (.aload_n 0, 1) := dk_42 (dk_at dksX4_line_3 22 rfl rfl)
theorem dX4_line_92 : decode cX4_line 92 = .ok (.iload_n 1, 1) := dk_27 (dk_at dksX4_line_3 23 rfl rfl)
theorem dX4_line_93 : decode cX4_line 93 = .ok (.iconst 1, 1) := dk_4 (dk_at dksX4_line_4 0 rfl rfl)
theorem dX4_line_94 : decode cX4_line 94 = .ok (.invokevirtual 126, 3) := dk_182 0 126 (dk_at dksX4_line_4 1 rfl rfl)
theorem dX4_line_97 : decode cX4_line 97 = .ok (.invokevirtual 257, 3) := dk_182 1 1 (dk_at dksX4_line_4 4 rfl rfl)
theorem dX4_line_100 : decode cX4_line 100 = .ok (.aload_n 0, 1) := dk_42 (dk_at dksX4_line_4 7 rfl rfl)
theorem dX4_line_101 : decode cX4_line 101 = .ok (.iload_n 1, 1) := dk_27 (dk_at dksX4_line_4 8 rfl rfl)
theorem dX4_line_102 : decode cX4_line 102 = .ok (.iconst 3, 1) := dk_6 (dk_at dksX4_line_4 9 rfl rfl)
theorem dX4_line_103 : decode cX4_line 103 = .ok (.invokevirtual 126, 3) := dk_182 0 126 (dk_at dksX4_line_4 10 rfl rfl)
theorem dX4_line_106 : decode cX4_line 106 = .ok (.ifCond .ge 9, 3) := dk_156 0 9 (dk_at dksX4_line_4 13 rfl rfl)
theorem dX4_line_109 : decode cX4_line 109 = .ok (.aload_n 0, 1) := dk_42 (dk_at dksX4_line_4 16 rfl rfl)
theorem dX4_line_110 : decode cX4_line 110 = .ok (.bipush 42, 2) := dk_16 42 (dk_at dksX4_line_4 17 rfl rfl)
theorem dX4_line_112 : decode cX4_line 112 = .ok (.invokevirtual 260, 3) := dk_182 1 4 (dk_at dksX4_line_4 19 rfl rfl)
theorem dX4_line_115 : decode cX4_line 115 = .ok (.iinc 1 1, 3) := dk_132 1 1 (dk_at dksX4_line_5 0 rfl rfl)
theorem dX4_line_118 : decode cX4_line 118 = .ok (.goto (-106), 3) := dk_167 255 150 (dk_at dksX4_line_5 3 rfl rfl)
theorem dX4_line_121 : decode cX4_line 121 = .ok (.aload_n 0, 1) := dk_42 (dk_at dksX4_line_5 6 rfl rfl)
theorem dX4_line_122 : decode cX4_line 122 = .ok (.getfield 254, 3) := dk_180 0 254 (dk_at dksX4_line_5 7 rfl rfl)
theorem dX4_line_125 : decode cX4_line 125 = .ok (.ireturn, 1) := dk_172 (dk_at dksX4_line_5 10 rfl rfl)
abbrev cX4_writes : ByteArray := prog_17_method_81_code
def yX4_writes : MethodName := ⟨RX4, "writes", "(I)V"⟩
def dkwX4_writes_0 : List UInt8 := [42, 180, 0, 54, 42, 180, 0, 254, 27, 79, 42, 89, 180, 0, 254, 4, 96, 181, 0, 254, 177]
abbrev dktX4_writes_0 : List UInt8 := dkwX4_writes_0 ++ []
theorem dksX4_writes_0 : cX4_writes.data.toList.drop 0 = dktX4_writes_0 := by decide +kernel
theorem dX4_writes_0 : decode cX4_writes 0 = .ok (.aload_n 0, 1) := dk_42 (dk_at dksX4_writes_0 0 rfl rfl)
theorem dX4_writes_1 : decode cX4_writes 1 = .ok (.getfield 54, 3) := dk_180 0 54 (dk_at dksX4_writes_0 1 rfl rfl)
theorem dX4_writes_4 : decode cX4_writes 4 = .ok (.aload_n 0, 1) := dk_42 (dk_at dksX4_writes_0 4 rfl rfl)
theorem dX4_writes_5 : decode cX4_writes 5 = .ok (.getfield 254, 3) := dk_180 0 254 (dk_at dksX4_writes_0 5 rfl rfl)
theorem dX4_writes_8 : decode cX4_writes 8 = .ok (.iload_n 1, 1) := dk_27 (dk_at dksX4_writes_0 8 rfl rfl)
theorem dX4_writes_9 : decode cX4_writes 9 = .ok (.iastore, 1) := dk_79 (dk_at dksX4_writes_0 9 rfl rfl)
theorem dX4_writes_10 : decode cX4_writes 10 = .ok (.aload_n 0, 1) := dk_42 (dk_at dksX4_writes_0 10 rfl rfl)
theorem dX4_writes_11 : decode cX4_writes 11 = .ok (.dup, 1) := dk_89 (dk_at dksX4_writes_0 11 rfl rfl)
theorem dX4_writes_12 : decode cX4_writes 12 = .ok (.getfield 254, 3) := dk_180 0 254 (dk_at dksX4_writes_0 12 rfl rfl)
theorem dX4_writes_15 : decode cX4_writes 15 = .ok (.iconst 1, 1) := dk_4 (dk_at dksX4_writes_0 15 rfl rfl)
theorem dX4_writes_16 : decode cX4_writes 16 = .ok (.iadd, 1) := dk_96 (dk_at dksX4_writes_0 16 rfl rfl)
theorem dX4_writes_17 : decode cX4_writes 17 = .ok (.putfield 254, 3) := dk_181 0 254 (dk_at dksX4_writes_0 17 rfl rfl)
theorem dX4_writes_20 : decode cX4_writes 20 = .ok (.return_, 1) := dk_177 (dk_at dksX4_writes_0 20 rfl rfl)
abbrev cX4_number : ByteArray := prog_17_method_82_code
def yX4_number : MethodName := ⟨RX4, "number", "(I)V"⟩
def dkwX4_number_1 : List UInt8 := [182, 1, 4, 177]
abbrev dktX4_number_1 : List UInt8 := dkwX4_number_1 ++ []
def dkwX4_number_0 : List UInt8 := [27, 16, 10, 161, 0, 11, 42, 27, 16, 10, 108, 182, 1, 1, 42, 16, 48, 27, 16, 10, 112, 96]
abbrev dktX4_number_0 : List UInt8 := dkwX4_number_0 ++ dktX4_number_1
theorem dksX4_number_0 : cX4_number.data.toList.drop 0 = dktX4_number_0 := by decide +kernel
theorem dksX4_number_1 : cX4_number.data.toList.drop 22 = dktX4_number_1 := dk_seg dksX4_number_0 22 rfl rfl
theorem dX4_number_0 : decode cX4_number 0 = .ok (.iload_n 1, 1) := dk_27 (dk_at dksX4_number_0 0 rfl rfl)
theorem dX4_number_1 : decode cX4_number 1 = .ok (.bipush 10, 2) := dk_16 10 (dk_at dksX4_number_0 1 rfl rfl)
theorem dX4_number_3 : decode cX4_number 3 = .ok (.if_icmp .lt 11, 3) := dk_161 0 11 (dk_at dksX4_number_0 3 rfl rfl)
theorem dX4_number_6 : decode cX4_number 6 = .ok (.aload_n 0, 1) := dk_42 (dk_at dksX4_number_0 6 rfl rfl)
theorem dX4_number_7 : decode cX4_number 7 = .ok (.iload_n 1, 1) := dk_27 (dk_at dksX4_number_0 7 rfl rfl)
theorem dX4_number_8 : decode cX4_number 8 = .ok (.bipush 10, 2) := dk_16 10 (dk_at dksX4_number_0 8 rfl rfl)
theorem dX4_number_10 : decode cX4_number 10 = .ok (.idiv, 1) := dk_108 (dk_at dksX4_number_0 10 rfl rfl)
theorem dX4_number_11 : decode cX4_number 11 = .ok (.invokevirtual 257, 3) := dk_182 1 1 (dk_at dksX4_number_0 11 rfl rfl)
theorem dX4_number_14 : decode cX4_number 14 = .ok (.aload_n 0, 1) := dk_42 (dk_at dksX4_number_0 14 rfl rfl)
theorem dX4_number_15 : decode cX4_number 15 = .ok (.bipush 48, 2) := dk_16 48 (dk_at dksX4_number_0 15 rfl rfl)
theorem dX4_number_17 : decode cX4_number 17 = .ok (.iload_n 1, 1) := dk_27 (dk_at dksX4_number_0 17 rfl rfl)
theorem dX4_number_18 : decode cX4_number 18 = .ok (.bipush 10, 2) := dk_16 10 (dk_at dksX4_number_0 18 rfl rfl)
theorem dX4_number_20 : decode cX4_number 20 = .ok (.irem, 1) := dk_112 (dk_at dksX4_number_0 20 rfl rfl)
theorem dX4_number_21 : decode cX4_number 21 = .ok (.iadd, 1) := dk_96 (dk_at dksX4_number_0 21 rfl rfl)
theorem dX4_number_22 : decode cX4_number 22 = .ok (.invokevirtual 260, 3) := dk_182 1 4 (dk_at dksX4_number_1 0 rfl rfl)
theorem dX4_number_25 : decode cX4_number 25 = .ok (.return_, 1) := dk_177 (dk_at dksX4_number_1 3 rfl rfl)
abbrev cX4_character : ByteArray := prog_17_method_84_code
def yX4_character : MethodName := ⟨RX4, "character", "(I)C"⟩
def dkwX4_character_1 : List UInt8 := [153, 0, 7, 3, 167, 0, 10, 42, 180, 0, 54, 27, 46, 146, 172]
abbrev dktX4_character_1 : List UInt8 := dkwX4_character_1 ++ []
def dkwX4_character_0 : List UInt8 := [42, 27, 3, 42, 180, 0, 254, 4, 100, 184, 0, 92, 154, 0, 7, 4, 167, 0, 4, 3, 4, 182, 0, 196]
abbrev dktX4_character_0 : List UInt8 := dkwX4_character_0 ++ dktX4_character_1
theorem dksX4_character_0 : cX4_character.data.toList.drop 0 = dktX4_character_0 := by decide +kernel
theorem dksX4_character_1 : cX4_character.data.toList.drop 24 = dktX4_character_1 := dk_seg dksX4_character_0 24 rfl rfl
theorem dX4_character_0 : decode cX4_character 0 = .ok (.aload_n 0, 1) := dk_42 (dk_at dksX4_character_0 0 rfl rfl)
theorem dX4_character_1 : decode cX4_character 1 = .ok (.iload_n 1, 1) := dk_27 (dk_at dksX4_character_0 1 rfl rfl)
theorem dX4_character_2 : decode cX4_character 2 = .ok (.iconst 0, 1) := dk_3 (dk_at dksX4_character_0 2 rfl rfl)
theorem dX4_character_3 : decode cX4_character 3 = .ok (.aload_n 0, 1) := dk_42 (dk_at dksX4_character_0 3 rfl rfl)
theorem dX4_character_4 : decode cX4_character 4 = .ok (.getfield 254, 3) := dk_180 0 254 (dk_at dksX4_character_0 4 rfl rfl)
theorem dX4_character_7 : decode cX4_character 7 = .ok (.iconst 1, 1) := dk_4 (dk_at dksX4_character_0 7 rfl rfl)
theorem dX4_character_8 : decode cX4_character 8 = .ok (.isub, 1) := dk_100 (dk_at dksX4_character_0 8 rfl rfl)
theorem dX4_character_9 : decode cX4_character 9 = .ok (.invokestatic 92, 3) := dk_184 0 92 (dk_at dksX4_character_0 9 rfl rfl)
theorem dX4_character_12 : decode cX4_character 12 = .ok (.ifCond .ne 7, 3) := dk_154 0 7 (dk_at dksX4_character_0 12 rfl rfl)
theorem dX4_character_15 : decode cX4_character 15 = .ok (.iconst 1, 1) := dk_4 (dk_at dksX4_character_0 15 rfl rfl)
theorem dX4_character_16 : decode cX4_character 16 = .ok (.goto 4, 3) := dk_167 0 4 (dk_at dksX4_character_0 16 rfl rfl)
theorem dX4_character_19 : decode cX4_character 19 = .ok (.iconst 0, 1) := dk_3 (dk_at dksX4_character_0 19 rfl rfl)
theorem dX4_character_20 : decode cX4_character 20 = .ok (.iconst 1, 1) := dk_4 (dk_at dksX4_character_0 20 rfl rfl)
theorem dX4_character_21 : decode cX4_character 21 = .ok (.invokevirtual 196, 3) := dk_182 0 196 (dk_at dksX4_character_0 21 rfl rfl)
theorem dX4_character_24 : decode cX4_character 24 = .ok (.ifCond .eq 7, 3) := dk_153 0 7 (dk_at dksX4_character_1 0 rfl rfl)
theorem dX4_character_27 : decode cX4_character 27 = .ok (.iconst 0, 1) := dk_3 (dk_at dksX4_character_1 3 rfl rfl)
theorem dX4_character_28 : decode cX4_character 28 = .ok (.goto 10, 3) := dk_167 0 10 (dk_at dksX4_character_1 4 rfl rfl)
theorem dX4_character_31 : decode cX4_character 31 = .ok (.aload_n 0, 1) := dk_42 (dk_at dksX4_character_1 7 rfl rfl)
theorem dX4_character_32 : decode cX4_character 32 = .ok (.getfield 54, 3) := dk_180 0 54 (dk_at dksX4_character_1 8 rfl rfl)
theorem dX4_character_35 : decode cX4_character 35 = .ok (.iload_n 1, 1) := dk_27 (dk_at dksX4_character_1 11 rfl rfl)
theorem dX4_character_36 : decode cX4_character 36 = .ok (.iaload, 1) := dk_46 (dk_at dksX4_character_1 12 rfl rfl)
theorem dX4_character_37 : decode cX4_character 37 = .ok (.i2c, 1) := dk_146 (dk_at dksX4_character_1 13 rfl rfl)
theorem dX4_character_38 : decode cX4_character 38 = .ok (.ireturn, 1) := dk_172 (dk_at dksX4_character_1 14 rfl rfl)
abbrev cX4_meanLength : ByteArray := prog_17_method_90_code
def yX4_meanLength : MethodName := ⟨RX4, "meanLength", "()D"⟩
def dkwX4_meanLength_1 : List UInt8 := [42, 42, 180, 0, 9, 7, 46, 16, 73, 7, 4, 182, 1, 7, 135, 42, 180, 0, 9, 7, 46, 135, 111, 175]
abbrev dktX4_meanLength_1 : List UInt8 := dkwX4_meanLength_1 ++ []
def dkwX4_meanLength_0 : List UInt8 := [42, 42, 180, 0, 9, 7, 46, 154, 0, 7, 4, 167, 0, 4, 3, 4, 182, 0, 196, 153, 0, 5, 14, 175]
abbrev dktX4_meanLength_0 : List UInt8 := dkwX4_meanLength_0 ++ dktX4_meanLength_1
theorem dksX4_meanLength_0 : cX4_meanLength.data.toList.drop 0 = dktX4_meanLength_0 := by decide +kernel
theorem dksX4_meanLength_1 : cX4_meanLength.data.toList.drop 24 = dktX4_meanLength_1 := dk_seg dksX4_meanLength_0 24 rfl rfl
theorem dX4_meanLength_0 : decode cX4_meanLength 0 = .ok (.aload_n 0, 1) := dk_42 (dk_at dksX4_meanLength_0 0 rfl rfl)
theorem dX4_meanLength_1 : decode cX4_meanLength 1 = .ok (.aload_n 0, 1) := dk_42 (dk_at dksX4_meanLength_0 1 rfl rfl)
theorem dX4_meanLength_2 : decode cX4_meanLength 2 = .ok (.getfield 9, 3) := dk_180 0 9 (dk_at dksX4_meanLength_0 2 rfl rfl)
theorem dX4_meanLength_5 : decode cX4_meanLength 5 = .ok (.iconst 4, 1) := dk_7 (dk_at dksX4_meanLength_0 5 rfl rfl)
theorem dX4_meanLength_6 : decode cX4_meanLength 6 = .ok (.iaload, 1) := dk_46 (dk_at dksX4_meanLength_0 6 rfl rfl)
theorem dX4_meanLength_7 : decode cX4_meanLength 7 = .ok (.ifCond .ne 7, 3) := dk_154 0 7 (dk_at dksX4_meanLength_0 7 rfl rfl)
theorem dX4_meanLength_10 : decode cX4_meanLength 10 = .ok (.iconst 1, 1) := dk_4 (dk_at dksX4_meanLength_0 10 rfl rfl)
theorem dX4_meanLength_11 : decode cX4_meanLength 11 = .ok (.goto 4, 3) := dk_167 0 4 (dk_at dksX4_meanLength_0 11 rfl rfl)
theorem dX4_meanLength_14 : decode cX4_meanLength 14 = .ok (.iconst 0, 1) := dk_3 (dk_at dksX4_meanLength_0 14 rfl rfl)
theorem dX4_meanLength_15 : decode cX4_meanLength 15 = .ok (.iconst 1, 1) := dk_4 (dk_at dksX4_meanLength_0 15 rfl rfl)
theorem dX4_meanLength_16 : decode cX4_meanLength 16 = .ok (.invokevirtual 196, 3) := dk_182 0 196 (dk_at dksX4_meanLength_0 16 rfl rfl)
theorem dX4_meanLength_19 : decode cX4_meanLength 19 = .ok (.ifCond .eq 5, 3) := dk_153 0 5 (dk_at dksX4_meanLength_0 19 rfl rfl)
theorem dX4_meanLength_22 : decode cX4_meanLength 22 = .ok (.dconst 0, 1) := dk_14 (dk_at dksX4_meanLength_0 22 rfl rfl)
theorem dX4_meanLength_23 : decode cX4_meanLength 23 = .ok (.dreturn, 1) := dk_175 (dk_at dksX4_meanLength_0 23 rfl rfl)
theorem dX4_meanLength_24 : decode cX4_meanLength 24 = .ok (.aload_n 0, 1) := dk_42 (dk_at dksX4_meanLength_1 0 rfl rfl)
theorem dX4_meanLength_25 : decode cX4_meanLength 25 = .ok (.aload_n 0, 1) := dk_42 (dk_at dksX4_meanLength_1 1 rfl rfl)
theorem dX4_meanLength_26 : decode cX4_meanLength 26 = .ok (.getfield 9, 3) := dk_180 0 9 (dk_at dksX4_meanLength_1 2 rfl rfl)
theorem dX4_meanLength_29 : decode cX4_meanLength 29 = .ok (.iconst 4, 1) := dk_7 (dk_at dksX4_meanLength_1 5 rfl rfl)
theorem dX4_meanLength_30 : decode cX4_meanLength 30 = .ok (.iaload, 1) := dk_46 (dk_at dksX4_meanLength_1 6 rfl rfl)
theorem dX4_meanLength_31 : decode cX4_meanLength 31 = .ok (.bipush 73, 2) := dk_16 73 (dk_at dksX4_meanLength_1 7 rfl rfl)
theorem dX4_meanLength_33 : decode cX4_meanLength 33 = .ok (.iconst 4, 1) := dk_7 (dk_at dksX4_meanLength_1 9 rfl rfl)
theorem dX4_meanLength_34 : decode cX4_meanLength 34 = .ok (.iconst 1, 1) := dk_4 (dk_at dksX4_meanLength_1 10 rfl rfl)
theorem dX4_meanLength_35 : decode cX4_meanLength 35 = .ok (.invokevirtual 263, 3) := dk_182 1 7 (dk_at dksX4_meanLength_1 11 rfl rfl)
theorem dX4_meanLength_38 : decode cX4_meanLength 38 = .ok (.i2d, 1) := dk_135 (dk_at dksX4_meanLength_1 14 rfl rfl)
theorem dX4_meanLength_39 : decode cX4_meanLength 39 = .ok (.aload_n 0, 1) := dk_42 (dk_at dksX4_meanLength_1 15 rfl rfl)
theorem dX4_meanLength_40 : decode cX4_meanLength 40 = .ok (.getfield 9, 3) := dk_180 0 9 (dk_at dksX4_meanLength_1 16 rfl rfl)
theorem dX4_meanLength_43 : decode cX4_meanLength 43 = .ok (.iconst 4, 1) := dk_7 (dk_at dksX4_meanLength_1 19 rfl rfl)
theorem dX4_meanLength_44 : decode cX4_meanLength 44 = .ok (.iaload, 1) := dk_46 (dk_at dksX4_meanLength_1 20 rfl rfl)
theorem dX4_meanLength_45 : decode cX4_meanLength 45 = .ok (.i2d, 1) := dk_135 (dk_at dksX4_meanLength_1 21 rfl rfl)
theorem dX4_meanLength_46 : decode cX4_meanLength 46 = .ok (.ddiv, 1) := dk_111 (dk_at dksX4_meanLength_1 22 rfl rfl)
theorem dX4_meanLength_47 : decode cX4_meanLength 47 = .ok (.dreturn, 1) := dk_175 (dk_at dksX4_meanLength_1 23 rfl rfl)
abbrev cX4_ofAll : ByteArray := prog_17_method_85_code
def yX4_ofAll : MethodName := ⟨RX4, "ofAll", "(IIII)I"⟩
def dkwX4_ofAll_1 : List UInt8 := [21, 4, 96, 46, 96, 54, 5, 132, 6, 1, 167, 255, 228, 21, 5, 172]
abbrev dktX4_ofAll_1 : List UInt8 := dkwX4_ofAll_1 ++ []
def dkwX4_ofAll_0 : List UInt8 := [3, 54, 5, 3, 54, 6, 21, 6, 27, 162, 0, 28, 21, 5, 42, 180, 0, 9, 28, 29, 21, 6, 104, 96]
abbrev dktX4_ofAll_0 : List UInt8 := dkwX4_ofAll_0 ++ dktX4_ofAll_1
theorem dksX4_ofAll_0 : cX4_ofAll.data.toList.drop 0 = dktX4_ofAll_0 := by decide +kernel
theorem dksX4_ofAll_1 : cX4_ofAll.data.toList.drop 24 = dktX4_ofAll_1 := dk_seg dksX4_ofAll_0 24 rfl rfl
theorem dX4_ofAll_0 : decode cX4_ofAll 0 = .ok (.iconst 0, 1) := dk_3 (dk_at dksX4_ofAll_0 0 rfl rfl)
theorem dX4_ofAll_1 : decode cX4_ofAll 1 = .ok (.istore 5, 2) := dk_54 5 (dk_at dksX4_ofAll_0 1 rfl rfl)
theorem dX4_ofAll_3 : decode cX4_ofAll 3 = .ok (.iconst 0, 1) := dk_3 (dk_at dksX4_ofAll_0 3 rfl rfl)
theorem dX4_ofAll_4 : decode cX4_ofAll 4 = .ok (.istore 6, 2) := dk_54 6 (dk_at dksX4_ofAll_0 4 rfl rfl)
theorem dX4_ofAll_6 : decode cX4_ofAll 6 = .ok (.iload 6, 2) := dk_21 6 (dk_at dksX4_ofAll_0 6 rfl rfl)
theorem dX4_ofAll_8 : decode cX4_ofAll 8 = .ok (.iload_n 1, 1) := dk_27 (dk_at dksX4_ofAll_0 8 rfl rfl)
theorem dX4_ofAll_9 : decode cX4_ofAll 9 = .ok (.if_icmp .ge 28, 3) := dk_162 0 28 (dk_at dksX4_ofAll_0 9 rfl rfl)
theorem dX4_ofAll_12 : decode cX4_ofAll 12 = .ok (.iload 5, 2) := dk_21 5 (dk_at dksX4_ofAll_0 12 rfl rfl)
theorem dX4_ofAll_14 : decode cX4_ofAll 14 = .ok (.aload_n 0, 1) := dk_42 (dk_at dksX4_ofAll_0 14 rfl rfl)
theorem dX4_ofAll_15 : decode cX4_ofAll 15 = .ok (.getfield 9, 3) := dk_180 0 9 (dk_at dksX4_ofAll_0 15 rfl rfl)
theorem dX4_ofAll_18 : decode cX4_ofAll 18 = .ok (.iload_n 2, 1) := dk_28 (dk_at dksX4_ofAll_0 18 rfl rfl)
theorem dX4_ofAll_19 : decode cX4_ofAll 19 = .ok (.iload_n 3, 1) := dk_29 (dk_at dksX4_ofAll_0 19 rfl rfl)
theorem dX4_ofAll_20 : decode cX4_ofAll 20 = .ok (.iload 6, 2) := dk_21 6 (dk_at dksX4_ofAll_0 20 rfl rfl)
theorem dX4_ofAll_22 : decode cX4_ofAll 22 = .ok (.imul, 1) := dk_104 (dk_at dksX4_ofAll_0 22 rfl rfl)
theorem dX4_ofAll_23 : decode cX4_ofAll 23 = .ok (.iadd, 1) := dk_96 (dk_at dksX4_ofAll_0 23 rfl rfl)
theorem dX4_ofAll_24 : decode cX4_ofAll 24 = .ok (.iload 4, 2) := dk_21 4 (dk_at dksX4_ofAll_1 0 rfl rfl)
theorem dX4_ofAll_26 : decode cX4_ofAll 26 = .ok (.iadd, 1) := dk_96 (dk_at dksX4_ofAll_1 2 rfl rfl)
theorem dX4_ofAll_27 : decode cX4_ofAll 27 = .ok (.iaload, 1) := dk_46 (dk_at dksX4_ofAll_1 3 rfl rfl)
theorem dX4_ofAll_28 : decode cX4_ofAll 28 = .ok (.iadd, 1) := dk_96 (dk_at dksX4_ofAll_1 4 rfl rfl)
theorem dX4_ofAll_29 : decode cX4_ofAll 29 = .ok (.istore 5, 2) := dk_54 5 (dk_at dksX4_ofAll_1 5 rfl rfl)
theorem dX4_ofAll_31 : decode cX4_ofAll 31 = .ok (.iinc 6 1, 3) := dk_132 6 1 (dk_at dksX4_ofAll_1 7 rfl rfl)
theorem dX4_ofAll_34 : decode cX4_ofAll 34 = .ok (.goto (-28), 3) := dk_167 255 228 (dk_at dksX4_ofAll_1 10 rfl rfl)
theorem dX4_ofAll_37 : decode cX4_ofAll 37 = .ok (.iload 5, 2) := dk_21 5 (dk_at dksX4_ofAll_1 13 rfl rfl)
theorem dX4_ofAll_39 : decode cX4_ofAll 39 = .ok (.ireturn, 1) := dk_172 (dk_at dksX4_ofAll_1 15 rfl rfl)
abbrev cX4_lostShare : ByteArray := prog_17_method_91_code
def yX4_lostShare : MethodName := ⟨RX4, "lostShare", "()F"⟩
def dkwX4_lostShare_2 : List UInt8 := [16, 8, 46, 134, 110, 174]
abbrev dktX4_lostShare_2 : List UInt8 := dkwX4_lostShare_2 ++ []
def dkwX4_lostShare_1 : List UInt8 := [167, 0, 28, 42, 180, 0, 9, 16, 10, 46, 42, 180, 0, 9, 16, 11, 46, 96, 134, 42, 180, 0, 9]
abbrev dktX4_lostShare_1 : List UInt8 := dkwX4_lostShare_1 ++ dktX4_lostShare_2
def dkwX4_lostShare_0 : List UInt8 := [42, 42, 180, 0, 9, 16, 8, 46, 154, 0, 7, 4, 167, 0, 4, 3, 4, 182, 0, 196, 153, 0, 7, 11]
abbrev dktX4_lostShare_0 : List UInt8 := dkwX4_lostShare_0 ++ dktX4_lostShare_1
theorem dksX4_lostShare_0 : cX4_lostShare.data.toList.drop 0 = dktX4_lostShare_0 := by decide +kernel
theorem dksX4_lostShare_1 : cX4_lostShare.data.toList.drop 24 = dktX4_lostShare_1 := dk_seg dksX4_lostShare_0 24 rfl rfl
theorem dksX4_lostShare_2 : cX4_lostShare.data.toList.drop 47 = dktX4_lostShare_2 := dk_seg dksX4_lostShare_1 23 rfl rfl
theorem dX4_lostShare_0 : decode cX4_lostShare 0 = .ok (.aload_n 0, 1) := dk_42 (dk_at dksX4_lostShare_0 0 rfl rfl)
theorem dX4_lostShare_1 : decode cX4_lostShare 1 = .ok (.aload_n 0, 1) := dk_42 (dk_at dksX4_lostShare_0 1 rfl rfl)
theorem dX4_lostShare_2 : decode cX4_lostShare 2 = .ok (.getfield 9, 3) := dk_180 0 9 (dk_at dksX4_lostShare_0 2 rfl rfl)
theorem dX4_lostShare_5 : decode cX4_lostShare 5 = .ok (.bipush 8, 2) := dk_16 8 (dk_at dksX4_lostShare_0 5 rfl rfl)
theorem dX4_lostShare_7 : decode cX4_lostShare 7 = .ok (.iaload, 1) := dk_46 (dk_at dksX4_lostShare_0 7 rfl rfl)
theorem dX4_lostShare_8 : decode cX4_lostShare 8 = .ok (.ifCond .ne 7, 3) := dk_154 0 7 (dk_at dksX4_lostShare_0 8 rfl rfl)
theorem dX4_lostShare_11 : decode cX4_lostShare 11 = .ok (.iconst 1, 1) := dk_4 (dk_at dksX4_lostShare_0 11 rfl rfl)
theorem dX4_lostShare_12 : decode cX4_lostShare 12 = .ok (.goto 4, 3) := dk_167 0 4 (dk_at dksX4_lostShare_0 12 rfl rfl)
theorem dX4_lostShare_15 : decode cX4_lostShare 15 = .ok (.iconst 0, 1) := dk_3 (dk_at dksX4_lostShare_0 15 rfl rfl)
theorem dX4_lostShare_16 : decode cX4_lostShare 16 = .ok (.iconst 1, 1) := dk_4 (dk_at dksX4_lostShare_0 16 rfl rfl)
theorem dX4_lostShare_17 : decode cX4_lostShare 17 = .ok (.invokevirtual 196, 3) := dk_182 0 196 (dk_at dksX4_lostShare_0 17 rfl rfl)
theorem dX4_lostShare_20 : decode cX4_lostShare 20 = .ok (.ifCond .eq 7, 3) := dk_153 0 7 (dk_at dksX4_lostShare_0 20 rfl rfl)
theorem dX4_lostShare_23 : decode cX4_lostShare 23 = .ok (.fconst 0, 1) := dk_11 (dk_at dksX4_lostShare_0 23 rfl rfl)
theorem dX4_lostShare_24 : decode cX4_lostShare 24 = .ok (.goto 28, 3) := dk_167 0 28 (dk_at dksX4_lostShare_1 0 rfl rfl)
theorem dX4_lostShare_27 : decode cX4_lostShare 27 = .ok (.aload_n 0, 1) := dk_42 (dk_at dksX4_lostShare_1 3 rfl rfl)
theorem dX4_lostShare_28 : decode cX4_lostShare 28 = .ok (.getfield 9, 3) := dk_180 0 9 (dk_at dksX4_lostShare_1 4 rfl rfl)
theorem dX4_lostShare_31 : decode cX4_lostShare 31 = .ok (.bipush 10, 2) := dk_16 10 (dk_at dksX4_lostShare_1 7 rfl rfl)
theorem dX4_lostShare_33 : decode cX4_lostShare 33 = .ok (.iaload, 1) := dk_46 (dk_at dksX4_lostShare_1 9 rfl rfl)
theorem dX4_lostShare_34 : decode cX4_lostShare 34 = .ok (.aload_n 0, 1) := dk_42 (dk_at dksX4_lostShare_1 10 rfl rfl)
theorem dX4_lostShare_35 : decode cX4_lostShare 35 = .ok (.getfield 9, 3) := dk_180 0 9 (dk_at dksX4_lostShare_1 11 rfl rfl)
theorem dX4_lostShare_38 : decode cX4_lostShare 38 = .ok (.bipush 11, 2) := dk_16 11 (dk_at dksX4_lostShare_1 14 rfl rfl)
theorem dX4_lostShare_40 : decode cX4_lostShare 40 = .ok (.iaload, 1) := dk_46 (dk_at dksX4_lostShare_1 16 rfl rfl)
theorem dX4_lostShare_41 : decode cX4_lostShare 41 = .ok (.iadd, 1) := dk_96 (dk_at dksX4_lostShare_1 17 rfl rfl)
theorem dX4_lostShare_42 : decode cX4_lostShare 42 = .ok (.i2f, 1) := dk_134 (dk_at dksX4_lostShare_1 18 rfl rfl)
theorem dX4_lostShare_43 : decode cX4_lostShare 43 = .ok (.aload_n 0, 1) := dk_42 (dk_at dksX4_lostShare_1 19 rfl rfl)
theorem dX4_lostShare_44 : decode cX4_lostShare 44 = .ok (.getfield 9, 3) := dk_180 0 9 (dk_at dksX4_lostShare_1 20 rfl rfl)
theorem dX4_lostShare_47 : decode cX4_lostShare 47 = .ok (.bipush 8, 2) := dk_16 8 (dk_at dksX4_lostShare_2 0 rfl rfl)
theorem dX4_lostShare_49 : decode cX4_lostShare 49 = .ok (.iaload, 1) := dk_46 (dk_at dksX4_lostShare_2 2 rfl rfl)
theorem dX4_lostShare_50 : decode cX4_lostShare 50 = .ok (.i2f, 1) := dk_134 (dk_at dksX4_lostShare_2 3 rfl rfl)
theorem dX4_lostShare_51 : decode cX4_lostShare 51 = .ok (.fdiv, 1) := dk_110 (dk_at dksX4_lostShare_2 4 rfl rfl)
theorem dX4_lostShare_52 : decode cX4_lostShare 52 = .ok (.freturn, 1) := dk_174 (dk_at dksX4_lostShare_2 5 rfl rfl)
abbrev cX4_account : ByteArray := prog_17_method_92_code
def yX4_account : MethodName := ⟨RX4, "account", "(I)I"⟩
def dkwX4_account_9 : List UInt8 := [42, 180, 0, 70, 172]
abbrev dktX4_account_9 : List UInt8 := dkwX4_account_9 ++ []
def dkwX4_account_8 : List UInt8 := [180, 0, 9, 5, 46, 172, 42, 182, 0, 189, 153, 0, 7, 4, 167, 0, 4, 3, 172, 42, 180, 0, 206, 172]
abbrev dktX4_account_8 : List UInt8 := dkwX4_account_8 ++ dktX4_account_9
def dkwX4_account_7 : List UInt8 := [180, 0, 9, 16, 11, 46, 172, 42, 180, 0, 9, 3, 46, 172, 42, 180, 0, 9, 4, 46, 172, 42]
abbrev dktX4_account_7 : List UInt8 := dkwX4_account_7 ++ dktX4_account_8
def dkwX4_account_6 : List UInt8 := [172, 42, 180, 0, 9, 16, 9, 46, 172, 42, 182, 1, 20, 172, 42, 180, 0, 9, 16, 10, 46, 172, 42]
abbrev dktX4_account_6 : List UInt8 := dkwX4_account_6 ++ dktX4_account_7
def dkwX4_account_5 : List UInt8 := [180, 0, 9, 16, 7, 46, 172, 42, 180, 0, 9, 16, 8, 46, 172, 42, 182, 1, 14, 172, 42, 182, 1, 17]
abbrev dktX4_account_5 : List UInt8 := dkwX4_account_5 ++ dktX4_account_6
def dkwX4_account_4 : List UInt8 := [46, 172, 42, 180, 0, 9, 16, 6, 46, 172, 42, 16, 9, 16, 19, 4, 3, 182, 1, 7, 172, 42]
abbrev dktX4_account_4 : List UInt8 := dkwX4_account_4 ++ dktX4_account_5
def dkwX4_account_3 : List UInt8 := [42, 180, 0, 9, 6, 46, 172, 42, 180, 0, 9, 7, 46, 172, 42, 182, 1, 11, 172, 42, 180, 0, 9, 8]
abbrev dktX4_account_3 : List UInt8 := dkwX4_account_3 ++ dktX4_account_4
def dkwX4_account_2 : List UInt8 := [170, 0, 0, 0, 0, 229, 0, 0, 0, 0, 0, 0, 0, 18, 0, 0, 0, 90, 0, 0, 0, 97, 0, 0, 0, 104, 0, 0, 0, 109, 0, 0, 0, 116, 0, 0, 0, 124, 0, 0, 0, 135, 0, 0, 0, 143, 0, 0, 0, 151, 0, 0, 0, 156, 0, 0, 0, 161, 0, 0, 0, 169, 0, 0, 0, 174, 0, 0, 0, 182, 0, 0, 0, 190, 0, 0, 0, 197, 0, 0, 0, 204, 0, 0, 0, 211, 0, 0, 0, 224]
abbrev dktX4_account_2 : List UInt8 := dkwX4_account_2 ++ dktX4_account_3
def dkwX4_account_1 : List UInt8 := [172, 27]
abbrev dktX4_account_1 : List UInt8 := dkwX4_account_1 ++ dktX4_account_2
def dkwX4_account_0 : List UInt8 := [42, 27, 3, 16, 19, 184, 0, 92, 154, 0, 7, 4, 167, 0, 4, 3, 4, 182, 0, 196, 153, 0, 5, 3]
abbrev dktX4_account_0 : List UInt8 := dkwX4_account_0 ++ dktX4_account_1
theorem dksX4_account_0 : cX4_account.data.toList.drop 0 = dktX4_account_0 := by decide +kernel
theorem dksX4_account_1 : cX4_account.data.toList.drop 24 = dktX4_account_1 := dk_seg dksX4_account_0 24 rfl rfl
theorem dksX4_account_2 : cX4_account.data.toList.drop 26 = dktX4_account_2 := dk_seg dksX4_account_1 2 rfl rfl
theorem dksX4_account_3 : cX4_account.data.toList.drop 116 = dktX4_account_3 := dk_seg dksX4_account_2 90 rfl rfl
theorem dksX4_account_4 : cX4_account.data.toList.drop 140 = dktX4_account_4 := dk_seg dksX4_account_3 24 rfl rfl
theorem dksX4_account_5 : cX4_account.data.toList.drop 162 = dktX4_account_5 := dk_seg dksX4_account_4 22 rfl rfl
theorem dksX4_account_6 : cX4_account.data.toList.drop 186 = dktX4_account_6 := dk_seg dksX4_account_5 24 rfl rfl
theorem dksX4_account_7 : cX4_account.data.toList.drop 209 = dktX4_account_7 := dk_seg dksX4_account_6 23 rfl rfl
theorem dksX4_account_8 : cX4_account.data.toList.drop 231 = dktX4_account_8 := dk_seg dksX4_account_7 22 rfl rfl
theorem dksX4_account_9 : cX4_account.data.toList.drop 255 = dktX4_account_9 := dk_seg dksX4_account_8 24 rfl rfl
theorem dX4_account_0 : decode cX4_account 0 = .ok (.aload_n 0, 1) := dk_42 (dk_at dksX4_account_0 0 rfl rfl)
theorem dX4_account_1 : decode cX4_account 1 = .ok (.iload_n 1, 1) := dk_27 (dk_at dksX4_account_0 1 rfl rfl)
theorem dX4_account_2 : decode cX4_account 2 = .ok (.iconst 0, 1) := dk_3 (dk_at dksX4_account_0 2 rfl rfl)
theorem dX4_account_3 : decode cX4_account 3 = .ok (.bipush 19, 2) := dk_16 19 (dk_at dksX4_account_0 3 rfl rfl)
theorem dX4_account_5 : decode cX4_account 5 = .ok (.invokestatic 92, 3) := dk_184 0 92 (dk_at dksX4_account_0 5 rfl rfl)
theorem dX4_account_8 : decode cX4_account 8 = .ok (.ifCond .ne 7, 3) := dk_154 0 7 (dk_at dksX4_account_0 8 rfl rfl)
theorem dX4_account_11 : decode cX4_account 11 = .ok (.iconst 1, 1) := dk_4 (dk_at dksX4_account_0 11 rfl rfl)
theorem dX4_account_12 : decode cX4_account 12 = .ok (.goto 4, 3) := dk_167 0 4 (dk_at dksX4_account_0 12 rfl rfl)
theorem dX4_account_15 : decode cX4_account 15 = .ok (.iconst 0, 1) := dk_3 (dk_at dksX4_account_0 15 rfl rfl)
theorem dX4_account_16 : decode cX4_account 16 = .ok (.iconst 1, 1) := dk_4 (dk_at dksX4_account_0 16 rfl rfl)
theorem dX4_account_17 : decode cX4_account 17 = .ok (.invokevirtual 196, 3) := dk_182 0 196 (dk_at dksX4_account_0 17 rfl rfl)
theorem dX4_account_20 : decode cX4_account 20 = .ok (.ifCond .eq 5, 3) := dk_153 0 5 (dk_at dksX4_account_0 20 rfl rfl)
theorem dX4_account_23 : decode cX4_account 23 = .ok (.iconst 0, 1) := dk_3 (dk_at dksX4_account_0 23 rfl rfl)
theorem dX4_account_24 : decode cX4_account 24 = .ok (.ireturn, 1) := dk_172 (dk_at dksX4_account_1 0 rfl rfl)
theorem dX4_account_25 : decode cX4_account 25 = .ok (.iload_n 1, 1) := dk_27 (dk_at dksX4_account_1 1 rfl rfl)
theorem dX4_account_26 : decode cX4_account 26 = .ok (.tableswitch 229 0 18 #[90, 97, 104, 109, 116, 124, 135, 143, 151, 156, 161, 169, 174, 182, 190, 197, 204, 211, 224], 90) := by decide +kernel
theorem dX4_account_116 : decode cX4_account 116 = .ok (.aload_n 0, 1) := dk_42 (dk_at dksX4_account_3 0 rfl rfl)
theorem dX4_account_117 : decode cX4_account 117 = .ok (.getfield 9, 3) := dk_180 0 9 (dk_at dksX4_account_3 1 rfl rfl)
theorem dX4_account_120 : decode cX4_account 120 = .ok (.iconst 3, 1) := dk_6 (dk_at dksX4_account_3 4 rfl rfl)
theorem dX4_account_121 : decode cX4_account 121 = .ok (.iaload, 1) := dk_46 (dk_at dksX4_account_3 5 rfl rfl)
theorem dX4_account_122 : decode cX4_account 122 = .ok (.ireturn, 1) := dk_172 (dk_at dksX4_account_3 6 rfl rfl)
theorem dX4_account_123 : decode cX4_account 123 = .ok (.aload_n 0, 1) := dk_42 (dk_at dksX4_account_3 7 rfl rfl)
theorem dX4_account_124 : decode cX4_account 124 = .ok (.getfield 9, 3) := dk_180 0 9 (dk_at dksX4_account_3 8 rfl rfl)
theorem dX4_account_127 : decode cX4_account 127 = .ok (.iconst 4, 1) := dk_7 (dk_at dksX4_account_3 11 rfl rfl)
theorem dX4_account_128 : decode cX4_account 128 = .ok (.iaload, 1) := dk_46 (dk_at dksX4_account_3 12 rfl rfl)
theorem dX4_account_129 : decode cX4_account 129 = .ok (.ireturn, 1) := dk_172 (dk_at dksX4_account_3 13 rfl rfl)
theorem dX4_account_130 : decode cX4_account 130 = .ok (.aload_n 0, 1) := dk_42 (dk_at dksX4_account_3 14 rfl rfl)
theorem dX4_account_131 : decode cX4_account 131 = .ok (.invokevirtual 267, 3) := dk_182 1 11 (dk_at dksX4_account_3 15 rfl rfl)
theorem dX4_account_134 : decode cX4_account 134 = .ok (.ireturn, 1) := dk_172 (dk_at dksX4_account_3 18 rfl rfl)
theorem dX4_account_135 : decode cX4_account 135 = .ok (.aload_n 0, 1) := dk_42 (dk_at dksX4_account_3 19 rfl rfl)
theorem dX4_account_136 : decode cX4_account 136 = .ok (.getfield 9, 3) := dk_180 0 9 (dk_at dksX4_account_3 20 rfl rfl)
theorem dX4_account_139 : decode cX4_account 139 = .ok (.iconst 5, 1) := dk_8 (dk_at dksX4_account_3 23 rfl rfl)
theorem dX4_account_140 : decode cX4_account 140 = .ok (.iaload, 1) := dk_46 (dk_at dksX4_account_4 0 rfl rfl)
theorem dX4_account_141 : decode cX4_account 141 = .ok (.ireturn, 1) := dk_172 (dk_at dksX4_account_4 1 rfl rfl)
theorem dX4_account_142 : decode cX4_account 142 = .ok (.aload_n 0, 1) := dk_42 (dk_at dksX4_account_4 2 rfl rfl)
theorem dX4_account_143 : decode cX4_account 143 = .ok (.getfield 9, 3) := dk_180 0 9 (dk_at dksX4_account_4 3 rfl rfl)
theorem dX4_account_146 : decode cX4_account 146 = .ok (.bipush 6, 2) := dk_16 6 (dk_at dksX4_account_4 6 rfl rfl)
theorem dX4_account_148 : decode cX4_account 148 = .ok (.iaload, 1) := dk_46 (dk_at dksX4_account_4 8 rfl rfl)
theorem dX4_account_149 : decode cX4_account 149 = .ok (.ireturn, 1) := dk_172 (dk_at dksX4_account_4 9 rfl rfl)
theorem dX4_account_150 : decode cX4_account 150 = .ok (.aload_n 0, 1) := dk_42 (dk_at dksX4_account_4 10 rfl rfl)
theorem dX4_account_151 : decode cX4_account 151 = .ok (.bipush 9, 2) := dk_16 9 (dk_at dksX4_account_4 11 rfl rfl)
theorem dX4_account_153 : decode cX4_account 153 = .ok (.bipush 19, 2) := dk_16 19 (dk_at dksX4_account_4 13 rfl rfl)
theorem dX4_account_155 : decode cX4_account 155 = .ok (.iconst 1, 1) := dk_4 (dk_at dksX4_account_4 15 rfl rfl)
theorem dX4_account_156 : decode cX4_account 156 = .ok (.iconst 0, 1) := dk_3 (dk_at dksX4_account_4 16 rfl rfl)
theorem dX4_account_157 : decode cX4_account 157 = .ok (.invokevirtual 263, 3) := dk_182 1 7 (dk_at dksX4_account_4 17 rfl rfl)
theorem dX4_account_160 : decode cX4_account 160 = .ok (.ireturn, 1) := dk_172 (dk_at dksX4_account_4 20 rfl rfl)
theorem dX4_account_161 : decode cX4_account 161 = .ok (.aload_n 0, 1) := dk_42 (dk_at dksX4_account_4 21 rfl rfl)
theorem dX4_account_162 : decode cX4_account 162 = .ok (.getfield 9, 3) := dk_180 0 9 (dk_at dksX4_account_5 0 rfl rfl)
theorem dX4_account_165 : decode cX4_account 165 = .ok (.bipush 7, 2) := dk_16 7 (dk_at dksX4_account_5 3 rfl rfl)
theorem dX4_account_167 : decode cX4_account 167 = .ok (.iaload, 1) := dk_46 (dk_at dksX4_account_5 5 rfl rfl)
theorem dX4_account_168 : decode cX4_account 168 = .ok (.ireturn, 1) := dk_172 (dk_at dksX4_account_5 6 rfl rfl)
theorem dX4_account_169 : decode cX4_account 169 = .ok (.aload_n 0, 1) := dk_42 (dk_at dksX4_account_5 7 rfl rfl)
theorem dX4_account_170 : decode cX4_account 170 = .ok (.getfield 9, 3) := dk_180 0 9 (dk_at dksX4_account_5 8 rfl rfl)
theorem dX4_account_173 : decode cX4_account 173 = .ok (.bipush 8, 2) := dk_16 8 (dk_at dksX4_account_5 11 rfl rfl)
theorem dX4_account_175 : decode cX4_account 175 = .ok (.iaload, 1) := dk_46 (dk_at dksX4_account_5 13 rfl rfl)
theorem dX4_account_176 : decode cX4_account 176 = .ok (.ireturn, 1) := dk_172 (dk_at dksX4_account_5 14 rfl rfl)
theorem dX4_account_177 : decode cX4_account 177 = .ok (.aload_n 0, 1) := dk_42 (dk_at dksX4_account_5 15 rfl rfl)
theorem dX4_account_178 : decode cX4_account 178 = .ok (.invokevirtual 270, 3) := dk_182 1 14 (dk_at dksX4_account_5 16 rfl rfl)
theorem dX4_account_181 : decode cX4_account 181 = .ok (.ireturn, 1) := dk_172 (dk_at dksX4_account_5 19 rfl rfl)
theorem dX4_account_182 : decode cX4_account 182 = .ok (.aload_n 0, 1) := dk_42 (dk_at dksX4_account_5 20 rfl rfl)
theorem dX4_account_183 : decode cX4_account 183 = .ok (.invokevirtual 273, 3) := dk_182 1 17 (dk_at dksX4_account_5 21 rfl rfl)
theorem dX4_account_186 : decode cX4_account 186 = .ok (.ireturn, 1) := dk_172 (dk_at dksX4_account_6 0 rfl rfl)
theorem dX4_account_187 : decode cX4_account 187 = .ok (.aload_n 0, 1) := dk_42 (dk_at dksX4_account_6 1 rfl rfl)
theorem dX4_account_188 : decode cX4_account 188 = .ok (.getfield 9, 3) := dk_180 0 9 (dk_at dksX4_account_6 2 rfl rfl)
theorem dX4_account_191 : decode cX4_account 191 = .ok (.bipush 9, 2) := dk_16 9 (dk_at dksX4_account_6 5 rfl rfl)
theorem dX4_account_193 : decode cX4_account 193 = .ok (.iaload, 1) := dk_46 (dk_at dksX4_account_6 7 rfl rfl)
theorem dX4_account_194 : decode cX4_account 194 = .ok (.ireturn, 1) := dk_172 (dk_at dksX4_account_6 8 rfl rfl)
theorem dX4_account_195 : decode cX4_account 195 = .ok (.aload_n 0, 1) := dk_42 (dk_at dksX4_account_6 9 rfl rfl)
theorem dX4_account_196 : decode cX4_account 196 = .ok (.invokevirtual 276, 3) := dk_182 1 20 (dk_at dksX4_account_6 10 rfl rfl)
theorem dX4_account_199 : decode cX4_account 199 = .ok (.ireturn, 1) := dk_172 (dk_at dksX4_account_6 13 rfl rfl)
theorem dX4_account_200 : decode cX4_account 200 = .ok (.aload_n 0, 1) := dk_42 (dk_at dksX4_account_6 14 rfl rfl)
theorem dX4_account_201 : decode cX4_account 201 = .ok (.getfield 9, 3) := dk_180 0 9 (dk_at dksX4_account_6 15 rfl rfl)
theorem dX4_account_204 : decode cX4_account 204 = .ok (.bipush 10, 2) := dk_16 10 (dk_at dksX4_account_6 18 rfl rfl)
theorem dX4_account_206 : decode cX4_account 206 = .ok (.iaload, 1) := dk_46 (dk_at dksX4_account_6 20 rfl rfl)
theorem dX4_account_207 : decode cX4_account 207 = .ok (.ireturn, 1) := dk_172 (dk_at dksX4_account_6 21 rfl rfl)
theorem dX4_account_208 : decode cX4_account 208 = .ok (.aload_n 0, 1) := dk_42 (dk_at dksX4_account_6 22 rfl rfl)
theorem dX4_account_209 : decode cX4_account 209 = .ok (.getfield 9, 3) := dk_180 0 9 (dk_at dksX4_account_7 0 rfl rfl)
theorem dX4_account_212 : decode cX4_account 212 = .ok (.bipush 11, 2) := dk_16 11 (dk_at dksX4_account_7 3 rfl rfl)
theorem dX4_account_214 : decode cX4_account 214 = .ok (.iaload, 1) := dk_46 (dk_at dksX4_account_7 5 rfl rfl)
theorem dX4_account_215 : decode cX4_account 215 = .ok (.ireturn, 1) := dk_172 (dk_at dksX4_account_7 6 rfl rfl)
theorem dX4_account_216 : decode cX4_account 216 = .ok (.aload_n 0, 1) := dk_42 (dk_at dksX4_account_7 7 rfl rfl)
theorem dX4_account_217 : decode cX4_account 217 = .ok (.getfield 9, 3) := dk_180 0 9 (dk_at dksX4_account_7 8 rfl rfl)
theorem dX4_account_220 : decode cX4_account 220 = .ok (.iconst 0, 1) := dk_3 (dk_at dksX4_account_7 11 rfl rfl)
theorem dX4_account_221 : decode cX4_account 221 = .ok (.iaload, 1) := dk_46 (dk_at dksX4_account_7 12 rfl rfl)
theorem dX4_account_222 : decode cX4_account 222 = .ok (.ireturn, 1) := dk_172 (dk_at dksX4_account_7 13 rfl rfl)
theorem dX4_account_223 : decode cX4_account 223 = .ok (.aload_n 0, 1) := dk_42 (dk_at dksX4_account_7 14 rfl rfl)
theorem dX4_account_224 : decode cX4_account 224 = .ok (.getfield 9, 3) := dk_180 0 9 (dk_at dksX4_account_7 15 rfl rfl)
theorem dX4_account_227 : decode cX4_account 227 = .ok (.iconst 1, 1) := dk_4 (dk_at dksX4_account_7 18 rfl rfl)
theorem dX4_account_228 : decode cX4_account 228 = .ok (.iaload, 1) := dk_46 (dk_at dksX4_account_7 19 rfl rfl)
theorem dX4_account_229 : decode cX4_account 229 = .ok (.ireturn, 1) := dk_172 (dk_at dksX4_account_7 20 rfl rfl)
theorem dX4_account_230 : decode cX4_account 230 = .ok (.aload_n 0, 1) := dk_42 (dk_at dksX4_account_7 21 rfl rfl)
theorem dX4_account_231 : decode cX4_account 231 = .ok (.getfield 9, 3) := dk_180 0 9 (dk_at dksX4_account_8 0 rfl rfl)
theorem dX4_account_234 : decode cX4_account 234 = .ok (.iconst 2, 1) := dk_5 (dk_at dksX4_account_8 3 rfl rfl)
theorem dX4_account_235 : decode cX4_account 235 = .ok (.iaload, 1) := dk_46 (dk_at dksX4_account_8 4 rfl rfl)
theorem dX4_account_236 : decode cX4_account 236 = .ok (.ireturn, 1) := dk_172 (dk_at dksX4_account_8 5 rfl rfl)
theorem dX4_account_237 : decode cX4_account 237 = .ok (.aload_n 0, 1) := dk_42 (dk_at dksX4_account_8 6 rfl rfl)
theorem dX4_account_238 : decode cX4_account 238 = .ok (.invokevirtual 189, 3) := dk_182 0 189 (dk_at dksX4_account_8 7 rfl rfl)
theorem dX4_account_241 : decode cX4_account 241 = .ok (.ifCond .eq 7, 3) := dk_153 0 7 (dk_at dksX4_account_8 10 rfl rfl)
theorem dX4_account_244 : decode cX4_account 244 = .ok (.iconst 1, 1) := dk_4 (dk_at dksX4_account_8 13 rfl rfl)
theorem dX4_account_245 : decode cX4_account 245 = .ok (.goto 4, 3) := dk_167 0 4 (dk_at dksX4_account_8 14 rfl rfl)
theorem dX4_account_248 : decode cX4_account 248 = .ok (.iconst 0, 1) := dk_3 (dk_at dksX4_account_8 17 rfl rfl)
theorem dX4_account_249 : decode cX4_account 249 = .ok (.ireturn, 1) := dk_172 (dk_at dksX4_account_8 18 rfl rfl)
theorem dX4_account_250 : decode cX4_account 250 = .ok (.aload_n 0, 1) := dk_42 (dk_at dksX4_account_8 19 rfl rfl)
theorem dX4_account_251 : decode cX4_account 251 = .ok (.getfield 206, 3) := dk_180 0 206 (dk_at dksX4_account_8 20 rfl rfl)
theorem dX4_account_254 : decode cX4_account 254 = .ok (.ireturn, 1) := dk_172 (dk_at dksX4_account_8 23 rfl rfl)
theorem dX4_account_255 : decode cX4_account 255 = .ok (.aload_n 0, 1) := dk_42 (dk_at dksX4_account_9 0 rfl rfl)
theorem dX4_account_256 : decode cX4_account 256 = .ok (.getfield 70, 3) := dk_180 0 70 (dk_at dksX4_account_9 1 rfl rfl)
theorem dX4_account_259 : decode cX4_account 259 = .ok (.ireturn, 1) := dk_172 (dk_at dksX4_account_9 4 rfl rfl)
abbrev cX4_mixed : ByteArray := prog_17_method_86_code
def yX4_mixed : MethodName := ⟨RX4, "mixed", "()I"⟩
def dkwX4_mixed_1 : List UInt8 := [4, 167, 0, 4, 3, 96, 60, 132, 2, 1, 167, 255, 226, 27, 172]
abbrev dktX4_mixed_1 : List UInt8 := dkwX4_mixed_1 ++ []
def dkwX4_mixed_0 : List UInt8 := [3, 60, 3, 61, 28, 42, 180, 0, 9, 7, 46, 162, 0, 26, 27, 42, 28, 6, 182, 0, 126, 156, 0, 7]
abbrev dktX4_mixed_0 : List UInt8 := dkwX4_mixed_0 ++ dktX4_mixed_1
theorem dksX4_mixed_0 : cX4_mixed.data.toList.drop 0 = dktX4_mixed_0 := by decide +kernel
theorem dksX4_mixed_1 : cX4_mixed.data.toList.drop 24 = dktX4_mixed_1 := dk_seg dksX4_mixed_0 24 rfl rfl
theorem dX4_mixed_0 : decode cX4_mixed 0 = .ok (.iconst 0, 1) := dk_3 (dk_at dksX4_mixed_0 0 rfl rfl)
theorem dX4_mixed_1 : decode cX4_mixed 1 = .ok (.istore_n 1, 1) := dk_60 (dk_at dksX4_mixed_0 1 rfl rfl)
theorem dX4_mixed_2 : decode cX4_mixed 2 = .ok (.iconst 0, 1) := dk_3 (dk_at dksX4_mixed_0 2 rfl rfl)
theorem dX4_mixed_3 : decode cX4_mixed 3 = .ok (.istore_n 2, 1) := dk_61 (dk_at dksX4_mixed_0 3 rfl rfl)
theorem dX4_mixed_4 : decode cX4_mixed 4 = .ok (.iload_n 2, 1) := dk_28 (dk_at dksX4_mixed_0 4 rfl rfl)
theorem dX4_mixed_5 : decode cX4_mixed 5 = .ok (.aload_n 0, 1) := dk_42 (dk_at dksX4_mixed_0 5 rfl rfl)
theorem dX4_mixed_6 : decode cX4_mixed 6 = .ok (.getfield 9, 3) := dk_180 0 9 (dk_at dksX4_mixed_0 6 rfl rfl)
theorem dX4_mixed_9 : decode cX4_mixed 9 = .ok (.iconst 4, 1) := dk_7 (dk_at dksX4_mixed_0 9 rfl rfl)
theorem dX4_mixed_10 : decode cX4_mixed 10 = .ok (.iaload, 1) := dk_46 (dk_at dksX4_mixed_0 10 rfl rfl)
theorem dX4_mixed_11 : decode cX4_mixed 11 = .ok (.if_icmp .ge 26, 3) := dk_162 0 26 (dk_at dksX4_mixed_0 11 rfl rfl)
theorem dX4_mixed_14 : decode cX4_mixed 14 = .ok (.iload_n 1, 1) := dk_27 (dk_at dksX4_mixed_0 14 rfl rfl)
theorem dX4_mixed_15 : decode cX4_mixed 15 = .ok (.aload_n 0, 1) := dk_42 (dk_at dksX4_mixed_0 15 rfl rfl)
theorem dX4_mixed_16 : decode cX4_mixed 16 = .ok (.iload_n 2, 1) := dk_28 (dk_at dksX4_mixed_0 16 rfl rfl)
theorem dX4_mixed_17 : decode cX4_mixed 17 = .ok (.iconst 3, 1) := dk_6 (dk_at dksX4_mixed_0 17 rfl rfl)
theorem dX4_mixed_18 : decode cX4_mixed 18 = .ok (.invokevirtual 126, 3) := dk_182 0 126 (dk_at dksX4_mixed_0 18 rfl rfl)
theorem dX4_mixed_21 : decode cX4_mixed 21 = .ok (.ifCond .ge 7, 3) := dk_156 0 7 (dk_at dksX4_mixed_0 21 rfl rfl)
theorem dX4_mixed_24 : decode cX4_mixed 24 = .ok (.iconst 1, 1) := dk_4 (dk_at dksX4_mixed_1 0 rfl rfl)
theorem dX4_mixed_25 : decode cX4_mixed 25 = .ok (.goto 4, 3) := dk_167 0 4 (dk_at dksX4_mixed_1 1 rfl rfl)
theorem dX4_mixed_28 : decode cX4_mixed 28 = .ok (.iconst 0, 1) := dk_3 (dk_at dksX4_mixed_1 4 rfl rfl)
theorem dX4_mixed_29 : decode cX4_mixed 29 = .ok (.iadd, 1) := dk_96 (dk_at dksX4_mixed_1 5 rfl rfl)
theorem dX4_mixed_30 : decode cX4_mixed 30 = .ok (.istore_n 1, 1) := dk_60 (dk_at dksX4_mixed_1 6 rfl rfl)
theorem dX4_mixed_31 : decode cX4_mixed 31 = .ok (.iinc 2 1, 3) := dk_132 2 1 (dk_at dksX4_mixed_1 7 rfl rfl)
theorem dX4_mixed_34 : decode cX4_mixed 34 = .ok (.goto (-30), 3) := dk_167 255 226 (dk_at dksX4_mixed_1 10 rfl rfl)
theorem dX4_mixed_37 : decode cX4_mixed 37 = .ok (.iload_n 1, 1) := dk_27 (dk_at dksX4_mixed_1 13 rfl rfl)
theorem dX4_mixed_38 : decode cX4_mixed 38 = .ok (.ireturn, 1) := dk_172 (dk_at dksX4_mixed_1 14 rfl rfl)
abbrev cX4_inTails : ByteArray := prog_17_method_87_code
def yX4_inTails : MethodName := ⟨RX4, "inTails", "()I"⟩
def dkwX4_inTails_0 : List UInt8 := [42, 42, 180, 0, 9, 6, 46, 16, 33, 7, 5, 182, 1, 7, 172]
abbrev dktX4_inTails_0 : List UInt8 := dkwX4_inTails_0 ++ []
theorem dksX4_inTails_0 : cX4_inTails.data.toList.drop 0 = dktX4_inTails_0 := by decide +kernel
theorem dX4_inTails_0 : decode cX4_inTails 0 = .ok (.aload_n 0, 1) := dk_42 (dk_at dksX4_inTails_0 0 rfl rfl)
theorem dX4_inTails_1 : decode cX4_inTails 1 = .ok (.aload_n 0, 1) := dk_42 (dk_at dksX4_inTails_0 1 rfl rfl)
theorem dX4_inTails_2 : decode cX4_inTails 2 = .ok (.getfield 9, 3) := dk_180 0 9 (dk_at dksX4_inTails_0 2 rfl rfl)
theorem dX4_inTails_5 : decode cX4_inTails 5 = .ok (.iconst 3, 1) := dk_6 (dk_at dksX4_inTails_0 5 rfl rfl)
theorem dX4_inTails_6 : decode cX4_inTails 6 = .ok (.iaload, 1) := dk_46 (dk_at dksX4_inTails_0 6 rfl rfl)
theorem dX4_inTails_7 : decode cX4_inTails 7 = .ok (.bipush 33, 2) := dk_16 33 (dk_at dksX4_inTails_0 7 rfl rfl)
theorem dX4_inTails_9 : decode cX4_inTails 9 = .ok (.iconst 4, 1) := dk_7 (dk_at dksX4_inTails_0 9 rfl rfl)
theorem dX4_inTails_10 : decode cX4_inTails 10 = .ok (.iconst 2, 1) := dk_5 (dk_at dksX4_inTails_0 10 rfl rfl)
theorem dX4_inTails_11 : decode cX4_inTails 11 = .ok (.invokevirtual 263, 3) := dk_182 1 7 (dk_at dksX4_inTails_0 11 rfl rfl)
theorem dX4_inTails_14 : decode cX4_inTails 14 = .ok (.ireturn, 1) := dk_172 (dk_at dksX4_inTails_0 14 rfl rfl)
abbrev cX4_inHanks : ByteArray := prog_17_method_88_code
def yX4_inHanks : MethodName := ⟨RX4, "inHanks", "()I"⟩
def dkwX4_inHanks_0 : List UInt8 := [42, 42, 180, 0, 9, 7, 46, 16, 73, 7, 5, 182, 1, 7, 172]
abbrev dktX4_inHanks_0 : List UInt8 := dkwX4_inHanks_0 ++ []
theorem dksX4_inHanks_0 : cX4_inHanks.data.toList.drop 0 = dktX4_inHanks_0 := by decide +kernel
theorem dX4_inHanks_0 : decode cX4_inHanks 0 = .ok (.aload_n 0, 1) := dk_42 (dk_at dksX4_inHanks_0 0 rfl rfl)
theorem dX4_inHanks_1 : decode cX4_inHanks 1 = .ok (.aload_n 0, 1) := dk_42 (dk_at dksX4_inHanks_0 1 rfl rfl)
theorem dX4_inHanks_2 : decode cX4_inHanks 2 = .ok (.getfield 9, 3) := dk_180 0 9 (dk_at dksX4_inHanks_0 2 rfl rfl)
theorem dX4_inHanks_5 : decode cX4_inHanks 5 = .ok (.iconst 4, 1) := dk_7 (dk_at dksX4_inHanks_0 5 rfl rfl)
theorem dX4_inHanks_6 : decode cX4_inHanks 6 = .ok (.iaload, 1) := dk_46 (dk_at dksX4_inHanks_0 6 rfl rfl)
theorem dX4_inHanks_7 : decode cX4_inHanks 7 = .ok (.bipush 73, 2) := dk_16 73 (dk_at dksX4_inHanks_0 7 rfl rfl)
theorem dX4_inHanks_9 : decode cX4_inHanks 9 = .ok (.iconst 4, 1) := dk_7 (dk_at dksX4_inHanks_0 9 rfl rfl)
theorem dX4_inHanks_10 : decode cX4_inHanks 10 = .ok (.iconst 2, 1) := dk_5 (dk_at dksX4_inHanks_0 10 rfl rfl)
theorem dX4_inHanks_11 : decode cX4_inHanks 11 = .ok (.invokevirtual 263, 3) := dk_182 1 7 (dk_at dksX4_inHanks_0 11 rfl rfl)
theorem dX4_inHanks_14 : decode cX4_inHanks 14 = .ok (.ireturn, 1) := dk_172 (dk_at dksX4_inHanks_0 14 rfl rfl)
abbrev cX4_inBows : ByteArray := prog_17_method_89_code
def yX4_inBows : MethodName := ⟨RX4, "inBows", "()I"⟩
def dkwX4_inBows_0 : List UInt8 := [42, 42, 180, 0, 9, 8, 46, 17, 0, 153, 16, 7, 5, 182, 1, 7, 172]
abbrev dktX4_inBows_0 : List UInt8 := dkwX4_inBows_0 ++ []
theorem dksX4_inBows_0 : cX4_inBows.data.toList.drop 0 = dktX4_inBows_0 := by decide +kernel
theorem dX4_inBows_0 : decode cX4_inBows 0 = .ok (.aload_n 0, 1) := dk_42 (dk_at dksX4_inBows_0 0 rfl rfl)
theorem dX4_inBows_1 : decode cX4_inBows 1 = .ok (.aload_n 0, 1) := dk_42 (dk_at dksX4_inBows_0 1 rfl rfl)
theorem dX4_inBows_2 : decode cX4_inBows 2 = .ok (.getfield 9, 3) := dk_180 0 9 (dk_at dksX4_inBows_0 2 rfl rfl)
theorem dX4_inBows_5 : decode cX4_inBows 5 = .ok (.iconst 5, 1) := dk_8 (dk_at dksX4_inBows_0 5 rfl rfl)
theorem dX4_inBows_6 : decode cX4_inBows 6 = .ok (.iaload, 1) := dk_46 (dk_at dksX4_inBows_0 6 rfl rfl)
theorem dX4_inBows_7 : decode cX4_inBows 7 = .ok (.sipush 153, 3) := dk_17 0 153 (dk_at dksX4_inBows_0 7 rfl rfl)
theorem dX4_inBows_10 : decode cX4_inBows 10 = .ok (.bipush 7, 2) := dk_16 7 (dk_at dksX4_inBows_0 10 rfl rfl)
theorem dX4_inBows_12 : decode cX4_inBows 12 = .ok (.iconst 2, 1) := dk_5 (dk_at dksX4_inBows_0 12 rfl rfl)
theorem dX4_inBows_13 : decode cX4_inBows 13 = .ok (.invokevirtual 263, 3) := dk_182 1 7 (dk_at dksX4_inBows_0 13 rfl rfl)
theorem dX4_inBows_16 : decode cX4_inBows 16 = .ok (.ireturn, 1) := dk_172 (dk_at dksX4_inBows_0 16 rfl rfl)
abbrev cX4_hairsAgain : ByteArray := prog_17_method_93_code
def yX4_hairsAgain : MethodName := ⟨RX4, "hairsAgain", "()I"⟩
def dkwX4_hairsAgain_1 : List UInt8 := [16, 9, 46, 96, 42, 180, 0, 9, 16, 10, 46, 96, 42, 180, 0, 9, 16, 11, 46, 96, 172]
abbrev dktX4_hairsAgain_1 : List UInt8 := dkwX4_hairsAgain_1 ++ []
def dkwX4_hairsAgain_0 : List UInt8 := [42, 3, 181, 0, 57, 42, 182, 1, 14, 42, 182, 1, 17, 96, 42, 182, 1, 20, 96, 42, 180, 0, 9]
abbrev dktX4_hairsAgain_0 : List UInt8 := dkwX4_hairsAgain_0 ++ dktX4_hairsAgain_1
theorem dksX4_hairsAgain_0 : cX4_hairsAgain.data.toList.drop 0 = dktX4_hairsAgain_0 := by decide +kernel
theorem dksX4_hairsAgain_1 : cX4_hairsAgain.data.toList.drop 23 = dktX4_hairsAgain_1 := dk_seg dksX4_hairsAgain_0 23 rfl rfl
theorem dX4_hairsAgain_0 : decode cX4_hairsAgain 0 = .ok (.aload_n 0, 1) := dk_42 (dk_at dksX4_hairsAgain_0 0 rfl rfl)
theorem dX4_hairsAgain_1 : decode cX4_hairsAgain 1 = .ok (.iconst 0, 1) := dk_3 (dk_at dksX4_hairsAgain_0 1 rfl rfl)
theorem dX4_hairsAgain_2 : decode cX4_hairsAgain 2 = .ok (.putfield 57, 3) := dk_181 0 57 (dk_at dksX4_hairsAgain_0 2 rfl rfl)
theorem dX4_hairsAgain_5 : decode cX4_hairsAgain 5 = .ok (.aload_n 0, 1) := dk_42 (dk_at dksX4_hairsAgain_0 5 rfl rfl)
theorem dX4_hairsAgain_6 : decode cX4_hairsAgain 6 = .ok (.invokevirtual 270, 3) := dk_182 1 14 (dk_at dksX4_hairsAgain_0 6 rfl rfl)
theorem dX4_hairsAgain_9 : decode cX4_hairsAgain 9 = .ok (.aload_n 0, 1) := dk_42 (dk_at dksX4_hairsAgain_0 9 rfl rfl)
theorem dX4_hairsAgain_10 : decode cX4_hairsAgain 10 = .ok (.invokevirtual 273, 3) := dk_182 1 17 (dk_at dksX4_hairsAgain_0 10 rfl rfl)
theorem dX4_hairsAgain_13 : decode cX4_hairsAgain 13 = .ok (.iadd, 1) := dk_96 (dk_at dksX4_hairsAgain_0 13 rfl rfl)
theorem dX4_hairsAgain_14 : decode cX4_hairsAgain 14 = .ok (.aload_n 0, 1) := dk_42 (dk_at dksX4_hairsAgain_0 14 rfl rfl)
theorem dX4_hairsAgain_15 : decode cX4_hairsAgain 15 = .ok (.invokevirtual 276, 3) := dk_182 1 20 (dk_at dksX4_hairsAgain_0 15 rfl rfl)
theorem dX4_hairsAgain_18 : decode cX4_hairsAgain 18 = .ok (.iadd, 1) := dk_96 (dk_at dksX4_hairsAgain_0 18 rfl rfl)
theorem dX4_hairsAgain_19 : decode cX4_hairsAgain 19 = .ok (.aload_n 0, 1) := dk_42 (dk_at dksX4_hairsAgain_0 19 rfl rfl)
theorem dX4_hairsAgain_20 : decode cX4_hairsAgain 20 = .ok (.getfield 9, 3) := dk_180 0 9 (dk_at dksX4_hairsAgain_0 20 rfl rfl)
theorem dX4_hairsAgain_23 : decode cX4_hairsAgain 23 = .ok (.bipush 9, 2) := dk_16 9 (dk_at dksX4_hairsAgain_1 0 rfl rfl)
theorem dX4_hairsAgain_25 : decode cX4_hairsAgain 25 = .ok (.iaload, 1) := dk_46 (dk_at dksX4_hairsAgain_1 2 rfl rfl)
theorem dX4_hairsAgain_26 : decode cX4_hairsAgain 26 = .ok (.iadd, 1) := dk_96 (dk_at dksX4_hairsAgain_1 3 rfl rfl)
theorem dX4_hairsAgain_27 : decode cX4_hairsAgain 27 = .ok (.aload_n 0, 1) := dk_42 (dk_at dksX4_hairsAgain_1 4 rfl rfl)
theorem dX4_hairsAgain_28 : decode cX4_hairsAgain 28 = .ok (.getfield 9, 3) := dk_180 0 9 (dk_at dksX4_hairsAgain_1 5 rfl rfl)
theorem dX4_hairsAgain_31 : decode cX4_hairsAgain 31 = .ok (.bipush 10, 2) := dk_16 10 (dk_at dksX4_hairsAgain_1 8 rfl rfl)
theorem dX4_hairsAgain_33 : decode cX4_hairsAgain 33 = .ok (.iaload, 1) := dk_46 (dk_at dksX4_hairsAgain_1 10 rfl rfl)
theorem dX4_hairsAgain_34 : decode cX4_hairsAgain 34 = .ok (.iadd, 1) := dk_96 (dk_at dksX4_hairsAgain_1 11 rfl rfl)
theorem dX4_hairsAgain_35 : decode cX4_hairsAgain 35 = .ok (.aload_n 0, 1) := dk_42 (dk_at dksX4_hairsAgain_1 12 rfl rfl)
theorem dX4_hairsAgain_36 : decode cX4_hairsAgain 36 = .ok (.getfield 9, 3) := dk_180 0 9 (dk_at dksX4_hairsAgain_1 13 rfl rfl)
theorem dX4_hairsAgain_39 : decode cX4_hairsAgain 39 = .ok (.bipush 11, 2) := dk_16 11 (dk_at dksX4_hairsAgain_1 16 rfl rfl)
theorem dX4_hairsAgain_41 : decode cX4_hairsAgain 41 = .ok (.iaload, 1) := dk_46 (dk_at dksX4_hairsAgain_1 18 rfl rfl)
theorem dX4_hairsAgain_42 : decode cX4_hairsAgain 42 = .ok (.iadd, 1) := dk_96 (dk_at dksX4_hairsAgain_1 19 rfl rfl)
theorem dX4_hairsAgain_43 : decode cX4_hairsAgain 43 = .ok (.ireturn, 1) := dk_172 (dk_at dksX4_hairsAgain_1 20 rfl rfl)
abbrev cX4_undo : ByteArray := prog_17_method_94_code
def yX4_undo : MethodName := ⟨RX4, "undo", "()I"⟩
def dkwX4_undo_2 : List UInt8 := [3, 184, 0, 60, 42, 180, 0, 70, 172]
abbrev dktX4_undo_2 : List UInt8 := dkwX4_undo_2 ++ []
def dkwX4_undo_1 : List UInt8 := [180, 0, 70, 4, 100, 181, 0, 70, 42, 180, 0, 19, 17, 0, 195, 42, 180, 0, 70, 104, 42, 180, 0, 9]
abbrev dktX4_undo_1 : List UInt8 := dkwX4_undo_1 ++ dktX4_undo_2
def dkwX4_undo_0 : List UInt8 := [42, 42, 180, 0, 70, 154, 0, 7, 4, 167, 0, 4, 3, 4, 182, 0, 196, 153, 0, 5, 3, 172, 42, 89]
abbrev dktX4_undo_0 : List UInt8 := dkwX4_undo_0 ++ dktX4_undo_1
theorem dksX4_undo_0 : cX4_undo.data.toList.drop 0 = dktX4_undo_0 := by decide +kernel
theorem dksX4_undo_1 : cX4_undo.data.toList.drop 24 = dktX4_undo_1 := dk_seg dksX4_undo_0 24 rfl rfl
theorem dksX4_undo_2 : cX4_undo.data.toList.drop 48 = dktX4_undo_2 := dk_seg dksX4_undo_1 24 rfl rfl
theorem dX4_undo_0 : decode cX4_undo 0 = .ok (.aload_n 0, 1) := dk_42 (dk_at dksX4_undo_0 0 rfl rfl)
theorem dX4_undo_1 : decode cX4_undo 1 = .ok (.aload_n 0, 1) := dk_42 (dk_at dksX4_undo_0 1 rfl rfl)
theorem dX4_undo_2 : decode cX4_undo 2 = .ok (.getfield 70, 3) := dk_180 0 70 (dk_at dksX4_undo_0 2 rfl rfl)
theorem dX4_undo_5 : decode cX4_undo 5 = .ok (.ifCond .ne 7, 3) := dk_154 0 7 (dk_at dksX4_undo_0 5 rfl rfl)
theorem dX4_undo_8 : decode cX4_undo 8 = .ok (.iconst 1, 1) := dk_4 (dk_at dksX4_undo_0 8 rfl rfl)
theorem dX4_undo_9 : decode cX4_undo 9 = .ok (.goto 4, 3) := dk_167 0 4 (dk_at dksX4_undo_0 9 rfl rfl)
theorem dX4_undo_12 : decode cX4_undo 12 = .ok (.iconst 0, 1) := dk_3 (dk_at dksX4_undo_0 12 rfl rfl)
theorem dX4_undo_13 : decode cX4_undo 13 = .ok (.iconst 1, 1) := dk_4 (dk_at dksX4_undo_0 13 rfl rfl)
theorem dX4_undo_14 : decode cX4_undo 14 = .ok (.invokevirtual 196, 3) := dk_182 0 196 (dk_at dksX4_undo_0 14 rfl rfl)
theorem dX4_undo_17 : decode cX4_undo 17 = .ok (.ifCond .eq 5, 3) := dk_153 0 5 (dk_at dksX4_undo_0 17 rfl rfl)
theorem dX4_undo_20 : decode cX4_undo 20 = .ok (.iconst 0, 1) := dk_3 (dk_at dksX4_undo_0 20 rfl rfl)
theorem dX4_undo_21 : decode cX4_undo 21 = .ok (.ireturn, 1) := dk_172 (dk_at dksX4_undo_0 21 rfl rfl)
theorem dX4_undo_22 : decode cX4_undo 22 = .ok (.aload_n 0, 1) := dk_42 (dk_at dksX4_undo_0 22 rfl rfl)
theorem dX4_undo_23 : decode cX4_undo 23 = .ok (.dup, 1) := dk_89 (dk_at dksX4_undo_0 23 rfl rfl)
theorem dX4_undo_24 : decode cX4_undo 24 = .ok (.getfield 70, 3) := dk_180 0 70 (dk_at dksX4_undo_1 0 rfl rfl)
theorem dX4_undo_27 : decode cX4_undo 27 = .ok (.iconst 1, 1) := dk_4 (dk_at dksX4_undo_1 3 rfl rfl)
theorem dX4_undo_28 : decode cX4_undo 28 = .ok (.isub, 1) := dk_100 (dk_at dksX4_undo_1 4 rfl rfl)
theorem dX4_undo_29 : decode cX4_undo 29 = .ok (.putfield 70, 3) := dk_181 0 70 (dk_at dksX4_undo_1 5 rfl rfl)
theorem dX4_undo_32 : decode cX4_undo 32 = .ok (.aload_n 0, 1) := dk_42 (dk_at dksX4_undo_1 8 rfl rfl)
theorem dX4_undo_33 : decode cX4_undo 33 = .ok (.getfield 19, 3) := dk_180 0 19 (dk_at dksX4_undo_1 9 rfl rfl)
theorem dX4_undo_36 : decode cX4_undo 36 = .ok (.sipush 195, 3) := dk_17 0 195 (dk_at dksX4_undo_1 12 rfl rfl)
theorem dX4_undo_39 : decode cX4_undo 39 = .ok (.aload_n 0, 1) := dk_42 (dk_at dksX4_undo_1 15 rfl rfl)
theorem dX4_undo_40 : decode cX4_undo 40 = .ok (.getfield 70, 3) := dk_180 0 70 (dk_at dksX4_undo_1 16 rfl rfl)
theorem dX4_undo_43 : decode cX4_undo 43 = .ok (.imul, 1) := dk_104 (dk_at dksX4_undo_1 19 rfl rfl)
theorem dX4_undo_44 : decode cX4_undo 44 = .ok (.aload_n 0, 1) := dk_42 (dk_at dksX4_undo_1 20 rfl rfl)
theorem dX4_undo_45 : decode cX4_undo 45 = .ok (.getfield 9, 3) := dk_180 0 9 (dk_at dksX4_undo_1 21 rfl rfl)
theorem dX4_undo_48 : decode cX4_undo 48 = .ok (.iconst 0, 1) := dk_3 (dk_at dksX4_undo_2 0 rfl rfl)
theorem dX4_undo_49 : decode cX4_undo 49 = .ok (.invokestatic 60, 3) := dk_184 0 60 (dk_at dksX4_undo_2 1 rfl rfl)
theorem dX4_undo_52 : decode cX4_undo 52 = .ok (.aload_n 0, 1) := dk_42 (dk_at dksX4_undo_2 4 rfl rfl)
theorem dX4_undo_53 : decode cX4_undo 53 = .ok (.getfield 70, 3) := dk_180 0 70 (dk_at dksX4_undo_2 5 rfl rfl)
theorem dX4_undo_56 : decode cX4_undo 56 = .ok (.ireturn, 1) := dk_172 (dk_at dksX4_undo_2 8 rfl rfl)
abbrev cX4_save : ByteArray := prog_17_method_95_code
def yX4_save : MethodName := ⟨RX4, "save", "()I"⟩
def dkwX4_save_1 : List UInt8 := [180, 0, 9, 4, 46, 172]
abbrev dktX4_save_1 : List UInt8 := dkwX4_save_1 ++ []
def dkwX4_save_0 : List UInt8 := [42, 3, 181, 0, 57, 42, 180, 0, 9, 3, 42, 180, 0, 16, 3, 184, 0, 60, 42, 4, 181, 1, 23, 42]
abbrev dktX4_save_0 : List UInt8 := dkwX4_save_0 ++ dktX4_save_1
theorem dksX4_save_0 : cX4_save.data.toList.drop 0 = dktX4_save_0 := by decide +kernel
theorem dksX4_save_1 : cX4_save.data.toList.drop 24 = dktX4_save_1 := dk_seg dksX4_save_0 24 rfl rfl
theorem dX4_save_0 : decode cX4_save 0 = .ok (.aload_n 0, 1) := dk_42 (dk_at dksX4_save_0 0 rfl rfl)
theorem dX4_save_1 : decode cX4_save 1 = .ok (.iconst 0, 1) := dk_3 (dk_at dksX4_save_0 1 rfl rfl)
theorem dX4_save_2 : decode cX4_save 2 = .ok (.putfield 57, 3) := dk_181 0 57 (dk_at dksX4_save_0 2 rfl rfl)
theorem dX4_save_5 : decode cX4_save 5 = .ok (.aload_n 0, 1) := dk_42 (dk_at dksX4_save_0 5 rfl rfl)
theorem dX4_save_6 : decode cX4_save 6 = .ok (.getfield 9, 3) := dk_180 0 9 (dk_at dksX4_save_0 6 rfl rfl)
theorem dX4_save_9 : decode cX4_save 9 = .ok (.iconst 0, 1) := dk_3 (dk_at dksX4_save_0 9 rfl rfl)
theorem dX4_save_10 : decode cX4_save 10 = .ok (.aload_n 0, 1) := dk_42 (dk_at dksX4_save_0 10 rfl rfl)
theorem dX4_save_11 : decode cX4_save 11 = .ok (.getfield 16, 3) := dk_180 0 16 (dk_at dksX4_save_0 11 rfl rfl)
theorem dX4_save_14 : decode cX4_save 14 = .ok (.iconst 0, 1) := dk_3 (dk_at dksX4_save_0 14 rfl rfl)
theorem dX4_save_15 : decode cX4_save 15 = .ok (.invokestatic 60, 3) := dk_184 0 60 (dk_at dksX4_save_0 15 rfl rfl)
theorem dX4_save_18 : decode cX4_save 18 = .ok (.aload_n 0, 1) := dk_42 (dk_at dksX4_save_0 18 rfl rfl)
theorem dX4_save_19 : decode cX4_save 19 = .ok (.iconst 1, 1) := dk_4 (dk_at dksX4_save_0 19 rfl rfl)
theorem dX4_save_20 : decode cX4_save 20 = .ok (.putfield 279, 3) := dk_181 1 23 (dk_at dksX4_save_0 20 rfl rfl)
theorem dX4_save_23 : decode cX4_save 23 = .ok (.aload_n 0, 1) := dk_42 (dk_at dksX4_save_0 23 rfl rfl)
theorem dX4_save_24 : decode cX4_save 24 = .ok (.getfield 9, 3) := dk_180 0 9 (dk_at dksX4_save_1 0 rfl rfl)
theorem dX4_save_27 : decode cX4_save 27 = .ok (.iconst 1, 1) := dk_4 (dk_at dksX4_save_1 3 rfl rfl)
theorem dX4_save_28 : decode cX4_save 28 = .ok (.iaload, 1) := dk_46 (dk_at dksX4_save_1 4 rfl rfl)
theorem dX4_save_29 : decode cX4_save 29 = .ok (.ireturn, 1) := dk_172 (dk_at dksX4_save_1 5 rfl rfl)
abbrev cX4_restore : ByteArray := prog_17_method_96_code
def yX4_restore : MethodName := ⟨RX4, "restore", "()I"⟩
def dkwX4_restore_1 : List UInt8 := [180, 0, 16, 3, 42, 180, 0, 9, 3, 184, 0, 60, 42, 3, 181, 0, 70, 42, 180, 0, 9, 4, 46, 172]
abbrev dktX4_restore_1 : List UInt8 := dkwX4_restore_1 ++ []
def dkwX4_restore_0 : List UInt8 := [42, 42, 180, 1, 23, 154, 0, 7, 4, 167, 0, 4, 3, 4, 182, 0, 196, 153, 0, 5, 3, 172, 42]
abbrev dktX4_restore_0 : List UInt8 := dkwX4_restore_0 ++ dktX4_restore_1
theorem dksX4_restore_0 : cX4_restore.data.toList.drop 0 = dktX4_restore_0 := by decide +kernel
theorem dksX4_restore_1 : cX4_restore.data.toList.drop 23 = dktX4_restore_1 := dk_seg dksX4_restore_0 23 rfl rfl
theorem dX4_restore_0 : decode cX4_restore 0 = .ok (.aload_n 0, 1) := dk_42 (dk_at dksX4_restore_0 0 rfl rfl)
theorem dX4_restore_1 : decode cX4_restore 1 = .ok (.aload_n 0, 1) := dk_42 (dk_at dksX4_restore_0 1 rfl rfl)
theorem dX4_restore_2 : decode cX4_restore 2 = .ok (.getfield 279, 3) := dk_180 1 23 (dk_at dksX4_restore_0 2 rfl rfl)
theorem dX4_restore_5 : decode cX4_restore 5 = .ok (.ifCond .ne 7, 3) := dk_154 0 7 (dk_at dksX4_restore_0 5 rfl rfl)
theorem dX4_restore_8 : decode cX4_restore 8 = .ok (.iconst 1, 1) := dk_4 (dk_at dksX4_restore_0 8 rfl rfl)
theorem dX4_restore_9 : decode cX4_restore 9 = .ok (.goto 4, 3) := dk_167 0 4 (dk_at dksX4_restore_0 9 rfl rfl)
theorem dX4_restore_12 : decode cX4_restore 12 = .ok (.iconst 0, 1) := dk_3 (dk_at dksX4_restore_0 12 rfl rfl)
theorem dX4_restore_13 : decode cX4_restore 13 = .ok (.iconst 1, 1) := dk_4 (dk_at dksX4_restore_0 13 rfl rfl)
theorem dX4_restore_14 : decode cX4_restore 14 = .ok (.invokevirtual 196, 3) := dk_182 0 196 (dk_at dksX4_restore_0 14 rfl rfl)
theorem dX4_restore_17 : decode cX4_restore 17 = .ok (.ifCond .eq 5, 3) := dk_153 0 5 (dk_at dksX4_restore_0 17 rfl rfl)
theorem dX4_restore_20 : decode cX4_restore 20 = .ok (.iconst 0, 1) := dk_3 (dk_at dksX4_restore_0 20 rfl rfl)
theorem dX4_restore_21 : decode cX4_restore 21 = .ok (.ireturn, 1) := dk_172 (dk_at dksX4_restore_0 21 rfl rfl)
theorem dX4_restore_22 : decode cX4_restore 22 = .ok (.aload_n 0, 1) := dk_42 (dk_at dksX4_restore_0 22 rfl rfl)
theorem dX4_restore_23 : decode cX4_restore 23 = .ok (.getfield 16, 3) := dk_180 0 16 (dk_at dksX4_restore_1 0 rfl rfl)
theorem dX4_restore_26 : decode cX4_restore 26 = .ok (.iconst 0, 1) := dk_3 (dk_at dksX4_restore_1 3 rfl rfl)
theorem dX4_restore_27 : decode cX4_restore 27 = .ok (.aload_n 0, 1) := dk_42 (dk_at dksX4_restore_1 4 rfl rfl)
theorem dX4_restore_28 : decode cX4_restore 28 = .ok (.getfield 9, 3) := dk_180 0 9 (dk_at dksX4_restore_1 5 rfl rfl)
theorem dX4_restore_31 : decode cX4_restore 31 = .ok (.iconst 0, 1) := dk_3 (dk_at dksX4_restore_1 8 rfl rfl)
theorem dX4_restore_32 : decode cX4_restore 32 = .ok (.invokestatic 60, 3) := dk_184 0 60 (dk_at dksX4_restore_1 9 rfl rfl)
theorem dX4_restore_35 : decode cX4_restore 35 = .ok (.aload_n 0, 1) := dk_42 (dk_at dksX4_restore_1 12 rfl rfl)
theorem dX4_restore_36 : decode cX4_restore 36 = .ok (.iconst 0, 1) := dk_3 (dk_at dksX4_restore_1 13 rfl rfl)
theorem dX4_restore_37 : decode cX4_restore 37 = .ok (.putfield 70, 3) := dk_181 0 70 (dk_at dksX4_restore_1 14 rfl rfl)
theorem dX4_restore_40 : decode cX4_restore 40 = .ok (.aload_n 0, 1) := dk_42 (dk_at dksX4_restore_1 17 rfl rfl)
theorem dX4_restore_41 : decode cX4_restore 41 = .ok (.getfield 9, 3) := dk_180 0 9 (dk_at dksX4_restore_1 18 rfl rfl)
theorem dX4_restore_44 : decode cX4_restore 44 = .ok (.iconst 1, 1) := dk_4 (dk_at dksX4_restore_1 21 rfl rfl)
theorem dX4_restore_45 : decode cX4_restore 45 = .ok (.iaload, 1) := dk_46 (dk_at dksX4_restore_1 22 rfl rfl)
theorem dX4_restore_46 : decode cX4_restore 46 = .ok (.ireturn, 1) := dk_172 (dk_at dksX4_restore_1 23 rfl rfl)
theorem q78 : (Jvm.Cond.initialized "HorsehairTradeModel") ∈ lw_all := lw_g (lw_at lw_m1 12 rfl) rfl
theorem q964 : (Jvm.Cond.selects "HorsehairTradeModel" ({ cls := "java/lang/Object", name := "getClass", desc := "()Ljava/lang/Class;" } : Jvm.MethodName) ({ cls := "java/lang/Object", name := "getClass", desc := "()Ljava/lang/Class;" } : Jvm.MethodName)) ∈ lw_all := lw_g (lw_at lw_m4 178 rfl) rfl
theorem q2299 : (Jvm.Cond.instantiable "HorsehairTradeModel" (21 : Nat)) ∈ lw_all := lw_g (lw_at lw_m10 73 rfl) rfl
theorem q2301 : (Jvm.Cond.instanceMethod ({ cls := "HorsehairTradeModel", name := "<init>", desc := "()V" } : Jvm.MethodName)) ∈ lw_all := lw_g (lw_at lw_m10 75 rfl) rfl
theorem q2302 : (Jvm.Cond.code ({ cls := "HorsehairTradeModel", name := "<init>", desc := "()V" } : Jvm.MethodName) prog_17_method_1_code (2 : Nat) (Option.none : Option Jvm.ClassFile.FieldType)) ∈ lw_all := lw_g (lw_at lw_m10 76 rfl) rfl
theorem q2303 : (Jvm.Cond.methodLink "HorsehairTradeModel" (3 : Nat) ({ cls := "java/lang/Object", name := "<init>", desc := "()V" } : Jvm.MethodName)) ∈ lw_all := lw_g (lw_at lw_m10 77 rfl) rfl
theorem q2304 : (Jvm.Cond.classLink "HorsehairTradeModel" (22 : Nat) "java/lang/String") ∈ lw_all := lw_g (lw_at lw_m10 78 rfl) rfl
theorem q2306 : (Jvm.Cond.stringRef "HorsehairTradeModel" (24 : Nat) "comb ") ∈ lw_tbl := lw_at lw_m10 80 rfl
theorem q2307 : (Jvm.Cond.stringRef "HorsehairTradeModel" (26 : Nat) "tie ") ∈ lw_tbl := lw_at lw_m10 81 rfl
theorem q2308 : (Jvm.Cond.stringRef "HorsehairTradeModel" (28 : Nat) "weave ") ∈ lw_tbl := lw_at lw_m10 82 rfl
theorem q2309 : (Jvm.Cond.stringRef "HorsehairTradeModel" (30 : Nat) "hair ") ∈ lw_tbl := lw_at lw_m10 83 rfl
theorem q2310 : (Jvm.Cond.stringRef "HorsehairTradeModel" (32 : Nat) "rosin ") ∈ lw_tbl := lw_at lw_m10 84 rfl
theorem q2311 : (Jvm.Cond.stringRef "HorsehairTradeModel" (34 : Nat) "play ") ∈ lw_tbl := lw_at lw_m10 85 rfl
theorem q2312 : (Jvm.Cond.stringRef "HorsehairTradeModel" (36 : Nat) "walk ") ∈ lw_tbl := lw_at lw_m10 86 rfl
theorem q2313 : (Jvm.Cond.stringRef "HorsehairTradeModel" (38 : Nat) "sell ") ∈ lw_tbl := lw_at lw_m10 87 rfl
theorem q2314 : (Jvm.Cond.fieldLink "HorsehairTradeModel" (9 : Nat) "HorsehairTradeModel" "s" "[I") ∈ lw_all := lw_g (lw_at lw_m10 88 rfl) rfl
theorem q2315 : (Jvm.Cond.fieldLink "HorsehairTradeModel" (13 : Nat) "HorsehairTradeModel" "was" "[I") ∈ lw_all := lw_g (lw_at lw_m10 89 rfl) rfl
theorem q2316 : (Jvm.Cond.fieldLink "HorsehairTradeModel" (16 : Nat) "HorsehairTradeModel" "saved" "[I") ∈ lw_all := lw_g (lw_at lw_m10 90 rfl) rfl
theorem q2317 : (Jvm.Cond.fieldLink "HorsehairTradeModel" (19 : Nat) "HorsehairTradeModel" "past" "[I") ∈ lw_all := lw_g (lw_at lw_m10 91 rfl) rfl
theorem q2318 : (Jvm.Cond.fieldLink "HorsehairTradeModel" (70 : Nat) "HorsehairTradeModel" "changes" "I") ∈ lw_all := lw_g (lw_at lw_m10 92 rfl) rfl
theorem q2319 : (Jvm.Cond.fieldLink "HorsehairTradeModel" (57 : Nat) "HorsehairTradeModel" "thrown" "I") ∈ lw_all := lw_g (lw_at lw_m10 93 rfl) rfl
theorem q2320 : (Jvm.Cond.fieldLink "HorsehairTradeModel" (76 : Nat) "HorsehairTradeModel" "reason" "I") ∈ lw_all := lw_g (lw_at lw_m10 94 rfl) rfl
theorem q2321 : (Jvm.Cond.fieldLink "HorsehairTradeModel" (79 : Nat) "HorsehairTradeModel" "detail" "I") ∈ lw_all := lw_g (lw_at lw_m10 95 rfl) rfl
theorem q2322 : (Jvm.Cond.fieldLink "HorsehairTradeModel" (82 : Nat) "HorsehairTradeModel" "place" "I") ∈ lw_all := lw_g (lw_at lw_m10 96 rfl) rfl
theorem q2323 : (Jvm.Cond.fieldLink "HorsehairTradeModel" (64 : Nat) "HorsehairTradeModel" "order" "I") ∈ lw_all := lw_g (lw_at lw_m10 97 rfl) rfl
theorem q2324 : (Jvm.Cond.fieldLink "HorsehairTradeModel" (279 : Nat) "HorsehairTradeModel" "isSaved" "Z") ∈ lw_all := lw_g (lw_at lw_m10 98 rfl) rfl
theorem q2325 : (Jvm.Cond.fieldLink "HorsehairTradeModel" (40 : Nat) "HorsehairTradeModel" "words" "[Ljava/lang/String;") ∈ lw_all := lw_g (lw_at lw_m10 99 rfl) rfl
theorem q2326 : (Jvm.Cond.fieldLink "HorsehairTradeModel" (44 : Nat) "HorsehairTradeModel" "tape" "[I") ∈ lw_all := lw_g (lw_at lw_m10 100 rfl) rfl
theorem q2327 : (Jvm.Cond.fieldLink "HorsehairTradeModel" (47 : Nat) "HorsehairTradeModel" "orders" "[I") ∈ lw_all := lw_g (lw_at lw_m10 101 rfl) rfl
theorem q2328 : (Jvm.Cond.fieldLink "HorsehairTradeModel" (206 : Nat) "HorsehairTradeModel" "taped" "I") ∈ lw_all := lw_g (lw_at lw_m10 102 rfl) rfl
theorem q2329 : (Jvm.Cond.fieldLink "HorsehairTradeModel" (209 : Nat) "HorsehairTradeModel" "here" "I") ∈ lw_all := lw_g (lw_at lw_m10 103 rfl) rfl
theorem q2330 : (Jvm.Cond.fieldLink "HorsehairTradeModel" (236 : Nat) "HorsehairTradeModel" "orderMany" "I") ∈ lw_all := lw_g (lw_at lw_m10 104 rfl) rfl
theorem q2331 : (Jvm.Cond.fieldLink "HorsehairTradeModel" (227 : Nat) "HorsehairTradeModel" "told" "I") ∈ lw_all := lw_g (lw_at lw_m10 105 rfl) rfl
theorem q2332 : (Jvm.Cond.fieldLink "HorsehairTradeModel" (50 : Nat) "HorsehairTradeModel" "faultAt" "I") ∈ lw_all := lw_g (lw_at lw_m10 106 rfl) rfl
theorem q2333 : (Jvm.Cond.fieldLink "HorsehairTradeModel" (54 : Nat) "HorsehairTradeModel" "line" "[I") ∈ lw_all := lw_g (lw_at lw_m10 107 rfl) rfl
theorem q2334 : (Jvm.Cond.fieldLink "HorsehairTradeModel" (254 : Nat) "HorsehairTradeModel" "lined" "I") ∈ lw_all := lw_g (lw_at lw_m10 108 rfl) rfl
theorem q2335 : (Jvm.Cond.laysFinal "HorsehairTradeModel" "HorsehairTradeModel" "s" "[I") ∈ lw_all := lw_g (lw_at lw_m10 109 rfl) rfl
theorem q2336 : (Jvm.Cond.soleField "HorsehairTradeModel" "s") ∈ lw_all := lw_g (lw_at lw_m10 110 rfl) rfl
theorem q2337 : (Jvm.Cond.laysFinal "HorsehairTradeModel" "HorsehairTradeModel" "was" "[I") ∈ lw_all := lw_g (lw_at lw_m10 111 rfl) rfl
theorem q2338 : (Jvm.Cond.soleField "HorsehairTradeModel" "was") ∈ lw_all := lw_g (lw_at lw_m10 112 rfl) rfl
theorem q2339 : (Jvm.Cond.laysFinal "HorsehairTradeModel" "HorsehairTradeModel" "saved" "[I") ∈ lw_all := lw_g (lw_at lw_m10 113 rfl) rfl
theorem q2340 : (Jvm.Cond.soleField "HorsehairTradeModel" "saved") ∈ lw_all := lw_g (lw_at lw_m10 114 rfl) rfl
theorem q2341 : (Jvm.Cond.laysFinal "HorsehairTradeModel" "HorsehairTradeModel" "past" "[I") ∈ lw_all := lw_g (lw_at lw_m10 115 rfl) rfl
theorem q2342 : (Jvm.Cond.soleField "HorsehairTradeModel" "past") ∈ lw_all := lw_g (lw_at lw_m10 116 rfl) rfl
theorem q2343 : (Jvm.Cond.lays "HorsehairTradeModel" "HorsehairTradeModel" "changes" "I") ∈ lw_all := lw_g (lw_at lw_m10 117 rfl) rfl
theorem q2344 : (Jvm.Cond.soleField "HorsehairTradeModel" "changes") ∈ lw_all := lw_g (lw_at lw_m10 118 rfl) rfl
theorem q2345 : (Jvm.Cond.lays "HorsehairTradeModel" "HorsehairTradeModel" "thrown" "I") ∈ lw_all := lw_g (lw_at lw_m10 119 rfl) rfl
theorem q2346 : (Jvm.Cond.soleField "HorsehairTradeModel" "thrown") ∈ lw_all := lw_g (lw_at lw_m10 120 rfl) rfl
theorem q2347 : (Jvm.Cond.lays "HorsehairTradeModel" "HorsehairTradeModel" "reason" "I") ∈ lw_all := lw_g (lw_at lw_m10 121 rfl) rfl
theorem q2348 : (Jvm.Cond.soleField "HorsehairTradeModel" "reason") ∈ lw_all := lw_g (lw_at lw_m10 122 rfl) rfl
theorem q2349 : (Jvm.Cond.lays "HorsehairTradeModel" "HorsehairTradeModel" "detail" "I") ∈ lw_all := lw_g (lw_at lw_m10 123 rfl) rfl
theorem q2350 : (Jvm.Cond.soleField "HorsehairTradeModel" "detail") ∈ lw_all := lw_g (lw_at lw_m10 124 rfl) rfl
theorem q2351 : (Jvm.Cond.lays "HorsehairTradeModel" "HorsehairTradeModel" "place" "I") ∈ lw_all := lw_g (lw_at lw_m10 125 rfl) rfl
theorem q2352 : (Jvm.Cond.soleField "HorsehairTradeModel" "place") ∈ lw_all := lw_g (lw_at lw_m10 126 rfl) rfl
theorem q2353 : (Jvm.Cond.lays "HorsehairTradeModel" "HorsehairTradeModel" "order" "I") ∈ lw_all := lw_g (lw_at lw_m10 127 rfl) rfl
theorem q2354 : (Jvm.Cond.soleField "HorsehairTradeModel" "order") ∈ lw_all := lw_g (lw_at lw_m10 128 rfl) rfl
theorem q2355 : (Jvm.Cond.lays "HorsehairTradeModel" "HorsehairTradeModel" "isSaved" "Z") ∈ lw_all := lw_g (lw_at lw_m10 129 rfl) rfl
theorem q2356 : (Jvm.Cond.soleField "HorsehairTradeModel" "isSaved") ∈ lw_all := lw_g (lw_at lw_m10 130 rfl) rfl
theorem q2357 : (Jvm.Cond.laysFinal "HorsehairTradeModel" "HorsehairTradeModel" "words" "[Ljava/lang/String;") ∈ lw_all := lw_g (lw_at lw_m10 131 rfl) rfl
theorem q2358 : (Jvm.Cond.soleField "HorsehairTradeModel" "words") ∈ lw_all := lw_g (lw_at lw_m10 132 rfl) rfl
theorem q2359 : (Jvm.Cond.laysFinal "HorsehairTradeModel" "HorsehairTradeModel" "tape" "[I") ∈ lw_all := lw_g (lw_at lw_m10 133 rfl) rfl
theorem q2360 : (Jvm.Cond.soleField "HorsehairTradeModel" "tape") ∈ lw_all := lw_g (lw_at lw_m10 134 rfl) rfl
theorem q2361 : (Jvm.Cond.laysFinal "HorsehairTradeModel" "HorsehairTradeModel" "orders" "[I") ∈ lw_all := lw_g (lw_at lw_m10 135 rfl) rfl
theorem q2362 : (Jvm.Cond.soleField "HorsehairTradeModel" "orders") ∈ lw_all := lw_g (lw_at lw_m10 136 rfl) rfl
theorem q2363 : (Jvm.Cond.lays "HorsehairTradeModel" "HorsehairTradeModel" "taped" "I") ∈ lw_all := lw_g (lw_at lw_m10 137 rfl) rfl
theorem q2364 : (Jvm.Cond.soleField "HorsehairTradeModel" "taped") ∈ lw_all := lw_g (lw_at lw_m10 138 rfl) rfl
theorem q2365 : (Jvm.Cond.lays "HorsehairTradeModel" "HorsehairTradeModel" "here" "I") ∈ lw_all := lw_g (lw_at lw_m10 139 rfl) rfl
theorem q2366 : (Jvm.Cond.soleField "HorsehairTradeModel" "here") ∈ lw_all := lw_g (lw_at lw_m10 140 rfl) rfl
theorem q2367 : (Jvm.Cond.lays "HorsehairTradeModel" "HorsehairTradeModel" "orderMany" "I") ∈ lw_all := lw_g (lw_at lw_m10 141 rfl) rfl
theorem q2368 : (Jvm.Cond.soleField "HorsehairTradeModel" "orderMany") ∈ lw_all := lw_g (lw_at lw_m10 142 rfl) rfl
theorem q2369 : (Jvm.Cond.lays "HorsehairTradeModel" "HorsehairTradeModel" "told" "I") ∈ lw_all := lw_g (lw_at lw_m10 143 rfl) rfl
theorem q2370 : (Jvm.Cond.soleField "HorsehairTradeModel" "told") ∈ lw_all := lw_g (lw_at lw_m10 144 rfl) rfl
theorem q2371 : (Jvm.Cond.lays "HorsehairTradeModel" "HorsehairTradeModel" "faultAt" "I") ∈ lw_all := lw_g (lw_at lw_m10 145 rfl) rfl
theorem q2372 : (Jvm.Cond.soleField "HorsehairTradeModel" "faultAt") ∈ lw_all := lw_g (lw_at lw_m10 146 rfl) rfl
theorem q2373 : (Jvm.Cond.laysFinal "HorsehairTradeModel" "HorsehairTradeModel" "line" "[I") ∈ lw_all := lw_g (lw_at lw_m10 147 rfl) rfl
theorem q2374 : (Jvm.Cond.soleField "HorsehairTradeModel" "line") ∈ lw_all := lw_g (lw_at lw_m10 148 rfl) rfl
theorem q2375 : (Jvm.Cond.lays "HorsehairTradeModel" "HorsehairTradeModel" "lined" "I") ∈ lw_all := lw_g (lw_at lw_m10 149 rfl) rfl
theorem q2376 : (Jvm.Cond.soleField "HorsehairTradeModel" "lined") ∈ lw_all := lw_g (lw_at lw_m10 150 rfl) rfl
theorem q2377 : (Jvm.Cond.superclass "HorsehairTradeModel" "java/lang/Object") ∈ lw_all := lw_g (lw_at lw_m10 151 rfl) rfl
theorem q2379 : (Jvm.Cond.instanceMethod ({ cls := "HorsehairTradeModel", name := "thrown", desc := "()I" } : Jvm.MethodName)) ∈ lw_all := lw_g (lw_at lw_m10 153 rfl) rfl
theorem q2380 : (Jvm.Cond.selects "HorsehairTradeModel" ({ cls := "HorsehairTradeModel", name := "thrown", desc := "()I" } : Jvm.MethodName) ({ cls := "HorsehairTradeModel", name := "thrown", desc := "()I" } : Jvm.MethodName)) ∈ lw_all := lw_g (lw_at lw_m10 154 rfl) rfl
theorem q2381 : (Jvm.Cond.code ({ cls := "HorsehairTradeModel", name := "thrown", desc := "()I" } : Jvm.MethodName) prog_17_method_2_code (1 : Nat) (Option.some Jvm.ClassFile.FieldType.int)) ∈ lw_all := lw_g (lw_at lw_m10 155 rfl) rfl
theorem q2383 : (Jvm.Cond.instanceMethod ({ cls := "HorsehairTradeModel", name := "tail", desc := "(III)I" } : Jvm.MethodName)) ∈ lw_all := lw_g (lw_at lw_m10 157 rfl) rfl
theorem q2384 : (Jvm.Cond.selects "HorsehairTradeModel" ({ cls := "HorsehairTradeModel", name := "tail", desc := "(III)I" } : Jvm.MethodName) ({ cls := "HorsehairTradeModel", name := "tail", desc := "(III)I" } : Jvm.MethodName)) ∈ lw_all := lw_g (lw_at lw_m10 158 rfl) rfl
theorem q2385 : (Jvm.Cond.code ({ cls := "HorsehairTradeModel", name := "tail", desc := "(III)I" } : Jvm.MethodName) prog_17_method_25_code (5 : Nat) (Option.some Jvm.ClassFile.FieldType.int)) ∈ lw_all := lw_g (lw_at lw_m10 159 rfl) rfl
theorem q2386 : (Jvm.Cond.methodLink "HorsehairTradeModel" (100 : Nat) ({ cls := "HorsehairTradeModel", name := "begins", desc := "()V" } : Jvm.MethodName)) ∈ lw_all := lw_g (lw_at lw_m10 160 rfl) rfl
theorem q2387 : (Jvm.Cond.privateMethod ({ cls := "HorsehairTradeModel", name := "begins", desc := "()V" } : Jvm.MethodName)) ∈ lw_tbl := lw_at lw_m10 161 rfl
theorem q2388 : (Jvm.Cond.instanceMethod ({ cls := "HorsehairTradeModel", name := "begins", desc := "()V" } : Jvm.MethodName)) ∈ lw_all := lw_g (lw_at lw_m10 162 rfl) rfl
theorem q2389 : (Jvm.Cond.code ({ cls := "HorsehairTradeModel", name := "begins", desc := "()V" } : Jvm.MethodName) prog_17_method_8_code (1 : Nat) (Option.none : Option Jvm.ClassFile.FieldType)) ∈ lw_all := lw_g (lw_at lw_m10 163 rfl) rfl
theorem q2390 : (Jvm.Cond.methodLink "HorsehairTradeModel" (67 : Nat) ({ cls := "HorsehairTradeModel", name := "keeps", desc := "()V" } : Jvm.MethodName)) ∈ lw_all := lw_g (lw_at lw_m10 164 rfl) rfl
theorem q2391 : (Jvm.Cond.privateMethod ({ cls := "HorsehairTradeModel", name := "keeps", desc := "()V" } : Jvm.MethodName)) ∈ lw_tbl := lw_at lw_m10 165 rfl
theorem q2392 : (Jvm.Cond.instanceMethod ({ cls := "HorsehairTradeModel", name := "keeps", desc := "()V" } : Jvm.MethodName)) ∈ lw_all := lw_g (lw_at lw_m10 166 rfl) rfl
theorem q2393 : (Jvm.Cond.code ({ cls := "HorsehairTradeModel", name := "keeps", desc := "()V" } : Jvm.MethodName) prog_17_method_7_code (1 : Nat) (Option.none : Option Jvm.ClassFile.FieldType)) ∈ lw_all := lw_g (lw_at lw_m10 167 rfl) rfl
theorem q2394 : (Jvm.Cond.methodLink "HorsehairTradeModel" (60 : Nat) ({ cls := "HorsehairTradeModel", name := "copies", desc := "([II[II)V" } : Jvm.MethodName)) ∈ lw_all := lw_g (lw_at lw_m10 168 rfl) rfl
theorem q2395 : (Jvm.Cond.static ({ cls := "HorsehairTradeModel", name := "copies", desc := "([II[II)V" } : Jvm.MethodName)) ∈ lw_all := lw_g (lw_at lw_m10 169 rfl) rfl
theorem q2396 : (Jvm.Cond.code ({ cls := "HorsehairTradeModel", name := "copies", desc := "([II[II)V" } : Jvm.MethodName) prog_17_method_6_code (5 : Nat) (Option.none : Option Jvm.ClassFile.FieldType)) ∈ lw_all := lw_g (lw_at lw_m10 170 rfl) rfl
theorem q2397 : (Jvm.Cond.methodLink "HorsehairTradeModel" (92 : Nat) ({ cls := "HorsehairTradeModel", name := "isIn", desc := "(III)Z" } : Jvm.MethodName)) ∈ lw_all := lw_g (lw_at lw_m10 171 rfl) rfl
theorem q2398 : (Jvm.Cond.static ({ cls := "HorsehairTradeModel", name := "isIn", desc := "(III)Z" } : Jvm.MethodName)) ∈ lw_all := lw_g (lw_at lw_m10 172 rfl) rfl
theorem q2399 : (Jvm.Cond.code ({ cls := "HorsehairTradeModel", name := "isIn", desc := "(III)Z" } : Jvm.MethodName) prog_17_method_3_code (3 : Nat) (Option.some Jvm.ClassFile.FieldType.boolean)) ∈ lw_all := lw_g (lw_at lw_m10 173 rfl) rfl
theorem q2400 : (Jvm.Cond.methodLink "HorsehairTradeModel" (96 : Nat) ({ cls := "HorsehairTradeModel", name := "isRefused", desc := "(ZII)Z" } : Jvm.MethodName)) ∈ lw_all := lw_g (lw_at lw_m10 174 rfl) rfl
theorem q2401 : (Jvm.Cond.privateMethod ({ cls := "HorsehairTradeModel", name := "isRefused", desc := "(ZII)Z" } : Jvm.MethodName)) ∈ lw_tbl := lw_at lw_m10 175 rfl
theorem q2402 : (Jvm.Cond.instanceMethod ({ cls := "HorsehairTradeModel", name := "isRefused", desc := "(ZII)Z" } : Jvm.MethodName)) ∈ lw_all := lw_g (lw_at lw_m10 176 rfl) rfl
theorem q2403 : (Jvm.Cond.code ({ cls := "HorsehairTradeModel", name := "isRefused", desc := "(ZII)Z" } : Jvm.MethodName) prog_17_method_12_code (4 : Nat) (Option.some Jvm.ClassFile.FieldType.boolean)) ∈ lw_all := lw_g (lw_at lw_m10 177 rfl) rfl
theorem q2404 : (Jvm.Cond.methodLink "HorsehairTradeModel" (103 : Nat) ({ cls := "HorsehairTradeModel", name := "cannotPay", desc := "(I)Z" } : Jvm.MethodName)) ∈ lw_all := lw_g (lw_at lw_m10 178 rfl) rfl
theorem q2405 : (Jvm.Cond.privateMethod ({ cls := "HorsehairTradeModel", name := "cannotPay", desc := "(I)Z" } : Jvm.MethodName)) ∈ lw_tbl := lw_at lw_m10 179 rfl
theorem q2406 : (Jvm.Cond.instanceMethod ({ cls := "HorsehairTradeModel", name := "cannotPay", desc := "(I)Z" } : Jvm.MethodName)) ∈ lw_all := lw_g (lw_at lw_m10 180 rfl) rfl
theorem q2407 : (Jvm.Cond.code ({ cls := "HorsehairTradeModel", name := "cannotPay", desc := "(I)Z" } : Jvm.MethodName) prog_17_method_24_code (2 : Nat) (Option.some Jvm.ClassFile.FieldType.boolean)) ∈ lw_all := lw_g (lw_at lw_m10 181 rfl) rfl
theorem q2408 : (Jvm.Cond.methodLink "HorsehairTradeModel" (107 : Nat) ({ cls := "HorsehairTradeModel", name := "tailAt", desc := "(II)I" } : Jvm.MethodName)) ∈ lw_all := lw_g (lw_at lw_m10 182 rfl) rfl
theorem q2409 : (Jvm.Cond.static ({ cls := "HorsehairTradeModel", name := "tailAt", desc := "(II)I" } : Jvm.MethodName)) ∈ lw_all := lw_g (lw_at lw_m10 183 rfl) rfl
theorem q2410 : (Jvm.Cond.code ({ cls := "HorsehairTradeModel", name := "tailAt", desc := "(II)I" } : Jvm.MethodName) prog_17_method_13_code (2 : Nat) (Option.some Jvm.ClassFile.FieldType.int)) ∈ lw_all := lw_g (lw_at lw_m10 184 rfl) rfl
theorem q2411 : (Jvm.Cond.methodLink "HorsehairTradeModel" (110 : Nat) ({ cls := "HorsehairTradeModel", name := "ends", desc := "(I)I" } : Jvm.MethodName)) ∈ lw_all := lw_g (lw_at lw_m10 185 rfl) rfl
theorem q2412 : (Jvm.Cond.privateMethod ({ cls := "HorsehairTradeModel", name := "ends", desc := "(I)I" } : Jvm.MethodName)) ∈ lw_tbl := lw_at lw_m10 186 rfl
theorem q2413 : (Jvm.Cond.instanceMethod ({ cls := "HorsehairTradeModel", name := "ends", desc := "(I)I" } : Jvm.MethodName)) ∈ lw_all := lw_g (lw_at lw_m10 187 rfl) rfl
theorem q2414 : (Jvm.Cond.code ({ cls := "HorsehairTradeModel", name := "ends", desc := "(I)I" } : Jvm.MethodName) prog_17_method_10_code (2 : Nat) (Option.some Jvm.ClassFile.FieldType.int)) ∈ lw_all := lw_g (lw_at lw_m10 188 rfl) rfl
theorem q2415 : (Jvm.Cond.methodLink "HorsehairTradeModel" (73 : Nat) ({ cls := "HorsehairTradeModel", name := "changed", desc := "()V" } : Jvm.MethodName)) ∈ lw_all := lw_g (lw_at lw_m10 189 rfl) rfl
theorem q2416 : (Jvm.Cond.privateMethod ({ cls := "HorsehairTradeModel", name := "changed", desc := "()V" } : Jvm.MethodName)) ∈ lw_tbl := lw_at lw_m10 190 rfl
theorem q2417 : (Jvm.Cond.instanceMethod ({ cls := "HorsehairTradeModel", name := "changed", desc := "()V" } : Jvm.MethodName)) ∈ lw_all := lw_g (lw_at lw_m10 191 rfl) rfl
theorem q2418 : (Jvm.Cond.code ({ cls := "HorsehairTradeModel", name := "changed", desc := "()V" } : Jvm.MethodName) prog_17_method_9_code (2 : Nat) (Option.none : Option Jvm.ClassFile.FieldType)) ∈ lw_all := lw_g (lw_at lw_m10 192 rfl) rfl
theorem q2420 : (Jvm.Cond.instanceMethod ({ cls := "HorsehairTradeModel", name := "comb", desc := "(II)I" } : Jvm.MethodName)) ∈ lw_all := lw_g (lw_at lw_m10 194 rfl) rfl
theorem q2421 : (Jvm.Cond.selects "HorsehairTradeModel" ({ cls := "HorsehairTradeModel", name := "comb", desc := "(II)I" } : Jvm.MethodName) ({ cls := "HorsehairTradeModel", name := "comb", desc := "(II)I" } : Jvm.MethodName)) ∈ lw_all := lw_g (lw_at lw_m10 195 rfl) rfl
theorem q2422 : (Jvm.Cond.code ({ cls := "HorsehairTradeModel", name := "comb", desc := "(II)I" } : Jvm.MethodName) prog_17_method_28_code (3 : Nat) (Option.some Jvm.ClassFile.FieldType.int)) ∈ lw_all := lw_g (lw_at lw_m10 196 rfl) rfl
theorem q2423 : (Jvm.Cond.methodLink "HorsehairTradeModel" (123 : Nat) ({ cls := "HorsehairTradeModel", name := "combs", desc := "(II)I" } : Jvm.MethodName)) ∈ lw_all := lw_g (lw_at lw_m10 197 rfl) rfl
theorem q2424 : (Jvm.Cond.privateMethod ({ cls := "HorsehairTradeModel", name := "combs", desc := "(II)I" } : Jvm.MethodName)) ∈ lw_tbl := lw_at lw_m10 198 rfl
theorem q2425 : (Jvm.Cond.instanceMethod ({ cls := "HorsehairTradeModel", name := "combs", desc := "(II)I" } : Jvm.MethodName)) ∈ lw_all := lw_g (lw_at lw_m10 199 rfl) rfl
theorem q2426 : (Jvm.Cond.code ({ cls := "HorsehairTradeModel", name := "combs", desc := "(II)I" } : Jvm.MethodName) prog_17_method_27_code (4 : Nat) (Option.some Jvm.ClassFile.FieldType.int)) ∈ lw_all := lw_g (lw_at lw_m10 200 rfl) rfl
theorem q2427 : (Jvm.Cond.methodLink "HorsehairTradeModel" (117 : Nat) ({ cls := "HorsehairTradeModel", name := "isTail", desc := "(I)Z" } : Jvm.MethodName)) ∈ lw_all := lw_g (lw_at lw_m10 201 rfl) rfl
theorem q2428 : (Jvm.Cond.privateMethod ({ cls := "HorsehairTradeModel", name := "isTail", desc := "(I)Z" } : Jvm.MethodName)) ∈ lw_tbl := lw_at lw_m10 202 rfl
theorem q2429 : (Jvm.Cond.instanceMethod ({ cls := "HorsehairTradeModel", name := "isTail", desc := "(I)Z" } : Jvm.MethodName)) ∈ lw_all := lw_g (lw_at lw_m10 203 rfl) rfl
theorem q2430 : (Jvm.Cond.code ({ cls := "HorsehairTradeModel", name := "isTail", desc := "(I)Z" } : Jvm.MethodName) prog_17_method_18_code (2 : Nat) (Option.some Jvm.ClassFile.FieldType.boolean)) ∈ lw_all := lw_g (lw_at lw_m10 204 rfl) rfl
theorem q2431 : (Jvm.Cond.methodLink "HorsehairTradeModel" (85 : Nat) ({ cls := "HorsehairTradeModel", name := "hankAt", desc := "(II)I" } : Jvm.MethodName)) ∈ lw_all := lw_g (lw_at lw_m10 205 rfl) rfl
theorem q2432 : (Jvm.Cond.static ({ cls := "HorsehairTradeModel", name := "hankAt", desc := "(II)I" } : Jvm.MethodName)) ∈ lw_all := lw_g (lw_at lw_m10 206 rfl) rfl
theorem q2433 : (Jvm.Cond.code ({ cls := "HorsehairTradeModel", name := "hankAt", desc := "(II)I" } : Jvm.MethodName) prog_17_method_14_code (2 : Nat) (Option.some Jvm.ClassFile.FieldType.int)) ∈ lw_all := lw_g (lw_at lw_m10 207 rfl) rfl
theorem q2434 : (Jvm.Cond.methodLink "HorsehairTradeModel" (120 : Nat) ({ cls := "HorsehairTradeModel", name := "nextLength", desc := "(I)I" } : Jvm.MethodName)) ∈ lw_all := lw_g (lw_at lw_m10 208 rfl) rfl
theorem q2435 : (Jvm.Cond.privateMethod ({ cls := "HorsehairTradeModel", name := "nextLength", desc := "(I)I" } : Jvm.MethodName)) ∈ lw_tbl := lw_at lw_m10 209 rfl
theorem q2436 : (Jvm.Cond.instanceMethod ({ cls := "HorsehairTradeModel", name := "nextLength", desc := "(I)I" } : Jvm.MethodName)) ∈ lw_all := lw_g (lw_at lw_m10 210 rfl) rfl
theorem q2437 : (Jvm.Cond.code ({ cls := "HorsehairTradeModel", name := "nextLength", desc := "(I)I" } : Jvm.MethodName) prog_17_method_26_code (2 : Nat) (Option.some Jvm.ClassFile.FieldType.int)) ∈ lw_all := lw_g (lw_at lw_m10 211 rfl) rfl
theorem q2438 : (Jvm.Cond.methodLink "HorsehairTradeModel" (114 : Nat) ({ cls := "HorsehairTradeModel", name := "greater", desc := "(II)I" } : Jvm.MethodName)) ∈ lw_all := lw_g (lw_at lw_m10 212 rfl) rfl
theorem q2439 : (Jvm.Cond.static ({ cls := "HorsehairTradeModel", name := "greater", desc := "(II)I" } : Jvm.MethodName)) ∈ lw_all := lw_g (lw_at lw_m10 213 rfl) rfl
theorem q2440 : (Jvm.Cond.code ({ cls := "HorsehairTradeModel", name := "greater", desc := "(II)I" } : Jvm.MethodName) prog_17_method_5_code (2 : Nat) (Option.some Jvm.ClassFile.FieldType.int)) ∈ lw_all := lw_g (lw_at lw_m10 214 rfl) rfl
theorem q2442 : (Jvm.Cond.instanceMethod ({ cls := "HorsehairTradeModel", name := "tie", desc := "(II)I" } : Jvm.MethodName)) ∈ lw_all := lw_g (lw_at lw_m10 216 rfl) rfl
theorem q2443 : (Jvm.Cond.selects "HorsehairTradeModel" ({ cls := "HorsehairTradeModel", name := "tie", desc := "(II)I" } : Jvm.MethodName) ({ cls := "HorsehairTradeModel", name := "tie", desc := "(II)I" } : Jvm.MethodName)) ∈ lw_all := lw_g (lw_at lw_m10 217 rfl) rfl
theorem q2444 : (Jvm.Cond.code ({ cls := "HorsehairTradeModel", name := "tie", desc := "(II)I" } : Jvm.MethodName) prog_17_method_32_code (3 : Nat) (Option.some Jvm.ClassFile.FieldType.int)) ∈ lw_all := lw_g (lw_at lw_m10 218 rfl) rfl
theorem q2445 : (Jvm.Cond.methodLink "HorsehairTradeModel" (139 : Nat) ({ cls := "HorsehairTradeModel", name := "ties", desc := "(II)I" } : Jvm.MethodName)) ∈ lw_all := lw_g (lw_at lw_m10 219 rfl) rfl
theorem q2446 : (Jvm.Cond.privateMethod ({ cls := "HorsehairTradeModel", name := "ties", desc := "(II)I" } : Jvm.MethodName)) ∈ lw_tbl := lw_at lw_m10 220 rfl
theorem q2447 : (Jvm.Cond.instanceMethod ({ cls := "HorsehairTradeModel", name := "ties", desc := "(II)I" } : Jvm.MethodName)) ∈ lw_all := lw_g (lw_at lw_m10 221 rfl) rfl
theorem q2448 : (Jvm.Cond.code ({ cls := "HorsehairTradeModel", name := "ties", desc := "(II)I" } : Jvm.MethodName) prog_17_method_31_code (6 : Nat) (Option.some Jvm.ClassFile.FieldType.int)) ∈ lw_all := lw_g (lw_at lw_m10 222 rfl) rfl
theorem q2449 : (Jvm.Cond.methodLink "HorsehairTradeModel" (133 : Nat) ({ cls := "HorsehairTradeModel", name := "isHank", desc := "(I)Z" } : Jvm.MethodName)) ∈ lw_all := lw_g (lw_at lw_m10 223 rfl) rfl
theorem q2450 : (Jvm.Cond.privateMethod ({ cls := "HorsehairTradeModel", name := "isHank", desc := "(I)Z" } : Jvm.MethodName)) ∈ lw_tbl := lw_at lw_m10 224 rfl
theorem q2451 : (Jvm.Cond.instanceMethod ({ cls := "HorsehairTradeModel", name := "isHank", desc := "(I)Z" } : Jvm.MethodName)) ∈ lw_all := lw_g (lw_at lw_m10 225 rfl) rfl
theorem q2452 : (Jvm.Cond.code ({ cls := "HorsehairTradeModel", name := "isHank", desc := "(I)Z" } : Jvm.MethodName) prog_17_method_19_code (2 : Nat) (Option.some Jvm.ClassFile.FieldType.boolean)) ∈ lw_all := lw_g (lw_at lw_m10 226 rfl) rfl
theorem q2453 : (Jvm.Cond.methodLink "HorsehairTradeModel" (126 : Nat) ({ cls := "HorsehairTradeModel", name := "ofHank", desc := "(II)I" } : Jvm.MethodName)) ∈ lw_all := lw_g (lw_at lw_m10 227 rfl) rfl
theorem q2454 : (Jvm.Cond.privateMethod ({ cls := "HorsehairTradeModel", name := "ofHank", desc := "(II)I" } : Jvm.MethodName)) ∈ lw_tbl := lw_at lw_m10 228 rfl
theorem q2455 : (Jvm.Cond.instanceMethod ({ cls := "HorsehairTradeModel", name := "ofHank", desc := "(II)I" } : Jvm.MethodName)) ∈ lw_all := lw_g (lw_at lw_m10 229 rfl) rfl
theorem q2456 : (Jvm.Cond.code ({ cls := "HorsehairTradeModel", name := "ofHank", desc := "(II)I" } : Jvm.MethodName) prog_17_method_16_code (3 : Nat) (Option.some Jvm.ClassFile.FieldType.int)) ∈ lw_all := lw_g (lw_at lw_m10 230 rfl) rfl
theorem q2457 : (Jvm.Cond.methodLink "HorsehairTradeModel" (136 : Nat) ({ cls := "HorsehairTradeModel", name := "lesser", desc := "(II)I" } : Jvm.MethodName)) ∈ lw_all := lw_g (lw_at lw_m10 231 rfl) rfl
theorem q2458 : (Jvm.Cond.static ({ cls := "HorsehairTradeModel", name := "lesser", desc := "(II)I" } : Jvm.MethodName)) ∈ lw_all := lw_g (lw_at lw_m10 232 rfl) rfl
theorem q2459 : (Jvm.Cond.code ({ cls := "HorsehairTradeModel", name := "lesser", desc := "(II)I" } : Jvm.MethodName) prog_17_method_4_code (2 : Nat) (Option.some Jvm.ClassFile.FieldType.int)) ∈ lw_all := lw_g (lw_at lw_m10 233 rfl) rfl
theorem q2460 : (Jvm.Cond.methodLink "HorsehairTradeModel" (129 : Nat) ({ cls := "HorsehairTradeModel", name := "goes", desc := "(I)V" } : Jvm.MethodName)) ∈ lw_all := lw_g (lw_at lw_m10 234 rfl) rfl
theorem q2461 : (Jvm.Cond.privateMethod ({ cls := "HorsehairTradeModel", name := "goes", desc := "(I)V" } : Jvm.MethodName)) ∈ lw_tbl := lw_at lw_m10 235 rfl
theorem q2462 : (Jvm.Cond.instanceMethod ({ cls := "HorsehairTradeModel", name := "goes", desc := "(I)V" } : Jvm.MethodName)) ∈ lw_all := lw_g (lw_at lw_m10 236 rfl) rfl
theorem q2463 : (Jvm.Cond.code ({ cls := "HorsehairTradeModel", name := "goes", desc := "(I)V" } : Jvm.MethodName) prog_17_method_29_code (3 : Nat) (Option.none : Option Jvm.ClassFile.FieldType)) ∈ lw_all := lw_g (lw_at lw_m10 237 rfl) rfl
theorem q2465 : (Jvm.Cond.instanceMethod ({ cls := "HorsehairTradeModel", name := "weave", desc := "(II)I" } : Jvm.MethodName)) ∈ lw_all := lw_g (lw_at lw_m10 239 rfl) rfl
theorem q2466 : (Jvm.Cond.selects "HorsehairTradeModel" ({ cls := "HorsehairTradeModel", name := "weave", desc := "(II)I" } : Jvm.MethodName) ({ cls := "HorsehairTradeModel", name := "weave", desc := "(II)I" } : Jvm.MethodName)) ∈ lw_all := lw_g (lw_at lw_m11 0 rfl) rfl
theorem q2467 : (Jvm.Cond.code ({ cls := "HorsehairTradeModel", name := "weave", desc := "(II)I" } : Jvm.MethodName) prog_17_method_34_code (3 : Nat) (Option.some Jvm.ClassFile.FieldType.int)) ∈ lw_all := lw_g (lw_at lw_m11 1 rfl) rfl
theorem q2468 : (Jvm.Cond.methodLink "HorsehairTradeModel" (149 : Nat) ({ cls := "HorsehairTradeModel", name := "weaves", desc := "(II)I" } : Jvm.MethodName)) ∈ lw_all := lw_g (lw_at lw_m11 2 rfl) rfl
theorem q2469 : (Jvm.Cond.privateMethod ({ cls := "HorsehairTradeModel", name := "weaves", desc := "(II)I" } : Jvm.MethodName)) ∈ lw_tbl := lw_at lw_m11 3 rfl
theorem q2470 : (Jvm.Cond.instanceMethod ({ cls := "HorsehairTradeModel", name := "weaves", desc := "(II)I" } : Jvm.MethodName)) ∈ lw_all := lw_g (lw_at lw_m11 4 rfl) rfl
theorem q2471 : (Jvm.Cond.code ({ cls := "HorsehairTradeModel", name := "weaves", desc := "(II)I" } : Jvm.MethodName) prog_17_method_33_code (4 : Nat) (Option.some Jvm.ClassFile.FieldType.int)) ∈ lw_all := lw_g (lw_at lw_m11 5 rfl) rfl
theorem q2472 : (Jvm.Cond.methodLink "HorsehairTradeModel" (142 : Nat) ({ cls := "HorsehairTradeModel", name := "isMesh", desc := "(I)Z" } : Jvm.MethodName)) ∈ lw_all := lw_g (lw_at lw_m11 6 rfl) rfl
theorem q2473 : (Jvm.Cond.static ({ cls := "HorsehairTradeModel", name := "isMesh", desc := "(I)Z" } : Jvm.MethodName)) ∈ lw_all := lw_g (lw_at lw_m11 7 rfl) rfl
theorem q2474 : (Jvm.Cond.code ({ cls := "HorsehairTradeModel", name := "isMesh", desc := "(I)Z" } : Jvm.MethodName) prog_17_method_23_code (1 : Nat) (Option.some Jvm.ClassFile.FieldType.boolean)) ∈ lw_all := lw_g (lw_at lw_m11 8 rfl) rfl
theorem q2475 : (Jvm.Cond.methodLink "HorsehairTradeModel" (145 : Nat) ({ cls := "HorsehairTradeModel", name := "loses", desc := "(II)V" } : Jvm.MethodName)) ∈ lw_all := lw_g (lw_at lw_m11 9 rfl) rfl
theorem q2476 : (Jvm.Cond.privateMethod ({ cls := "HorsehairTradeModel", name := "loses", desc := "(II)V" } : Jvm.MethodName)) ∈ lw_tbl := lw_at lw_m11 10 rfl
theorem q2477 : (Jvm.Cond.instanceMethod ({ cls := "HorsehairTradeModel", name := "loses", desc := "(II)V" } : Jvm.MethodName)) ∈ lw_all := lw_g (lw_at lw_m11 11 rfl) rfl
theorem q2478 : (Jvm.Cond.code ({ cls := "HorsehairTradeModel", name := "loses", desc := "(II)V" } : Jvm.MethodName) prog_17_method_30_code (3 : Nat) (Option.none : Option Jvm.ClassFile.FieldType)) ∈ lw_all := lw_g (lw_at lw_m11 12 rfl) rfl
theorem q2480 : (Jvm.Cond.instanceMethod ({ cls := "HorsehairTradeModel", name := "bow", desc := "(I)I" } : Jvm.MethodName)) ∈ lw_all := lw_g (lw_at lw_m11 14 rfl) rfl
theorem q2481 : (Jvm.Cond.selects "HorsehairTradeModel" ({ cls := "HorsehairTradeModel", name := "bow", desc := "(I)I" } : Jvm.MethodName) ({ cls := "HorsehairTradeModel", name := "bow", desc := "(I)I" } : Jvm.MethodName)) ∈ lw_all := lw_g (lw_at lw_m11 15 rfl) rfl
theorem q2482 : (Jvm.Cond.code ({ cls := "HorsehairTradeModel", name := "bow", desc := "(I)I" } : Jvm.MethodName) prog_17_method_37_code (4 : Nat) (Option.some Jvm.ClassFile.FieldType.int)) ∈ lw_all := lw_g (lw_at lw_m11 16 rfl) rfl
theorem q2483 : (Jvm.Cond.methodLink "HorsehairTradeModel" (89 : Nat) ({ cls := "HorsehairTradeModel", name := "bowAt", desc := "(II)I" } : Jvm.MethodName)) ∈ lw_all := lw_g (lw_at lw_m11 17 rfl) rfl
theorem q2484 : (Jvm.Cond.static ({ cls := "HorsehairTradeModel", name := "bowAt", desc := "(II)I" } : Jvm.MethodName)) ∈ lw_all := lw_g (lw_at lw_m11 18 rfl) rfl
theorem q2485 : (Jvm.Cond.code ({ cls := "HorsehairTradeModel", name := "bowAt", desc := "(II)I" } : Jvm.MethodName) prog_17_method_15_code (2 : Nat) (Option.some Jvm.ClassFile.FieldType.int)) ∈ lw_all := lw_g (lw_at lw_m11 19 rfl) rfl
theorem q2487 : (Jvm.Cond.instanceMethod ({ cls := "HorsehairTradeModel", name := "hair", desc := "(II)I" } : Jvm.MethodName)) ∈ lw_all := lw_g (lw_at lw_m11 21 rfl) rfl
theorem q2488 : (Jvm.Cond.selects "HorsehairTradeModel" ({ cls := "HorsehairTradeModel", name := "hair", desc := "(II)I" } : Jvm.MethodName) ({ cls := "HorsehairTradeModel", name := "hair", desc := "(II)I" } : Jvm.MethodName)) ∈ lw_all := lw_g (lw_at lw_m11 22 rfl) rfl
theorem q2489 : (Jvm.Cond.code ({ cls := "HorsehairTradeModel", name := "hair", desc := "(II)I" } : Jvm.MethodName) prog_17_method_40_code (3 : Nat) (Option.some Jvm.ClassFile.FieldType.int)) ∈ lw_all := lw_g (lw_at lw_m11 23 rfl) rfl
theorem q2490 : (Jvm.Cond.methodLink "HorsehairTradeModel" (167 : Nat) ({ cls := "HorsehairTradeModel", name := "hairsBow", desc := "(II)I" } : Jvm.MethodName)) ∈ lw_all := lw_g (lw_at lw_m11 24 rfl) rfl
theorem q2491 : (Jvm.Cond.privateMethod ({ cls := "HorsehairTradeModel", name := "hairsBow", desc := "(II)I" } : Jvm.MethodName)) ∈ lw_tbl := lw_at lw_m11 25 rfl
theorem q2492 : (Jvm.Cond.instanceMethod ({ cls := "HorsehairTradeModel", name := "hairsBow", desc := "(II)I" } : Jvm.MethodName)) ∈ lw_all := lw_g (lw_at lw_m11 26 rfl) rfl
theorem q2493 : (Jvm.Cond.code ({ cls := "HorsehairTradeModel", name := "hairsBow", desc := "(II)I" } : Jvm.MethodName) prog_17_method_39_code (5 : Nat) (Option.some Jvm.ClassFile.FieldType.int)) ∈ lw_all := lw_g (lw_at lw_m11 27 rfl) rfl
theorem q2494 : (Jvm.Cond.methodLink "HorsehairTradeModel" (152 : Nat) ({ cls := "HorsehairTradeModel", name := "isBow", desc := "(I)Z" } : Jvm.MethodName)) ∈ lw_all := lw_g (lw_at lw_m11 28 rfl) rfl
theorem q2495 : (Jvm.Cond.privateMethod ({ cls := "HorsehairTradeModel", name := "isBow", desc := "(I)Z" } : Jvm.MethodName)) ∈ lw_tbl := lw_at lw_m11 29 rfl
theorem q2496 : (Jvm.Cond.instanceMethod ({ cls := "HorsehairTradeModel", name := "isBow", desc := "(I)Z" } : Jvm.MethodName)) ∈ lw_all := lw_g (lw_at lw_m11 30 rfl) rfl
theorem q2497 : (Jvm.Cond.code ({ cls := "HorsehairTradeModel", name := "isBow", desc := "(I)Z" } : Jvm.MethodName) prog_17_method_20_code (2 : Nat) (Option.some Jvm.ClassFile.FieldType.boolean)) ∈ lw_all := lw_g (lw_at lw_m11 31 rfl) rfl
theorem q2498 : (Jvm.Cond.methodLink "HorsehairTradeModel" (155 : Nat) ({ cls := "HorsehairTradeModel", name := "ofBow", desc := "(II)I" } : Jvm.MethodName)) ∈ lw_all := lw_g (lw_at lw_m11 32 rfl) rfl
theorem q2499 : (Jvm.Cond.privateMethod ({ cls := "HorsehairTradeModel", name := "ofBow", desc := "(II)I" } : Jvm.MethodName)) ∈ lw_tbl := lw_at lw_m11 33 rfl
theorem q2500 : (Jvm.Cond.instanceMethod ({ cls := "HorsehairTradeModel", name := "ofBow", desc := "(II)I" } : Jvm.MethodName)) ∈ lw_all := lw_g (lw_at lw_m11 34 rfl) rfl
theorem q2501 : (Jvm.Cond.code ({ cls := "HorsehairTradeModel", name := "ofBow", desc := "(II)I" } : Jvm.MethodName) prog_17_method_17_code (3 : Nat) (Option.some Jvm.ClassFile.FieldType.int)) ∈ lw_all := lw_g (lw_at lw_m11 35 rfl) rfl
theorem q2502 : (Jvm.Cond.methodLink "HorsehairTradeModel" (158 : Nat) ({ cls := "HorsehairTradeModel", name := "longEnough", desc := "(I)I" } : Jvm.MethodName)) ∈ lw_all := lw_g (lw_at lw_m11 36 rfl) rfl
theorem q2503 : (Jvm.Cond.static ({ cls := "HorsehairTradeModel", name := "longEnough", desc := "(I)I" } : Jvm.MethodName)) ∈ lw_all := lw_g (lw_at lw_m11 37 rfl) rfl
theorem q2504 : (Jvm.Cond.code ({ cls := "HorsehairTradeModel", name := "longEnough", desc := "(I)I" } : Jvm.MethodName) prog_17_method_36_code (1 : Nat) (Option.some Jvm.ClassFile.FieldType.int)) ∈ lw_all := lw_g (lw_at lw_m11 38 rfl) rfl
theorem q2505 : (Jvm.Cond.methodLink "HorsehairTradeModel" (161 : Nat) ({ cls := "HorsehairTradeModel", name := "needs", desc := "(I)I" } : Jvm.MethodName)) ∈ lw_all := lw_g (lw_at lw_m11 39 rfl) rfl
theorem q2506 : (Jvm.Cond.static ({ cls := "HorsehairTradeModel", name := "needs", desc := "(I)I" } : Jvm.MethodName)) ∈ lw_all := lw_g (lw_at lw_m11 40 rfl) rfl
theorem q2507 : (Jvm.Cond.code ({ cls := "HorsehairTradeModel", name := "needs", desc := "(I)I" } : Jvm.MethodName) prog_17_method_35_code (1 : Nat) (Option.some Jvm.ClassFile.FieldType.int)) ∈ lw_all := lw_g (lw_at lw_m11 41 rfl) rfl
theorem q2508 : (Jvm.Cond.methodLink "HorsehairTradeModel" (164 : Nat) ({ cls := "HorsehairTradeModel", name := "gradeBy", desc := "(I)I" } : Jvm.MethodName)) ∈ lw_all := lw_g (lw_at lw_m11 42 rfl) rfl
theorem q2509 : (Jvm.Cond.privateMethod ({ cls := "HorsehairTradeModel", name := "gradeBy", desc := "(I)I" } : Jvm.MethodName)) ∈ lw_tbl := lw_at lw_m11 43 rfl
theorem q2510 : (Jvm.Cond.instanceMethod ({ cls := "HorsehairTradeModel", name := "gradeBy", desc := "(I)I" } : Jvm.MethodName)) ∈ lw_all := lw_g (lw_at lw_m11 44 rfl) rfl
theorem q2511 : (Jvm.Cond.code ({ cls := "HorsehairTradeModel", name := "gradeBy", desc := "(I)I" } : Jvm.MethodName) prog_17_method_38_code (4 : Nat) (Option.some Jvm.ClassFile.FieldType.int)) ∈ lw_all := lw_g (lw_at lw_m11 45 rfl) rfl
theorem q2513 : (Jvm.Cond.instanceMethod ({ cls := "HorsehairTradeModel", name := "cake", desc := "(I)I" } : Jvm.MethodName)) ∈ lw_all := lw_g (lw_at lw_m11 47 rfl) rfl
theorem q2514 : (Jvm.Cond.selects "HorsehairTradeModel" ({ cls := "HorsehairTradeModel", name := "cake", desc := "(I)I" } : Jvm.MethodName) ({ cls := "HorsehairTradeModel", name := "cake", desc := "(I)I" } : Jvm.MethodName)) ∈ lw_all := lw_g (lw_at lw_m11 48 rfl) rfl
theorem q2515 : (Jvm.Cond.code ({ cls := "HorsehairTradeModel", name := "cake", desc := "(I)I" } : Jvm.MethodName) prog_17_method_41_code (2 : Nat) (Option.some Jvm.ClassFile.FieldType.int)) ∈ lw_all := lw_g (lw_at lw_m11 49 rfl) rfl
theorem q2517 : (Jvm.Cond.instanceMethod ({ cls := "HorsehairTradeModel", name := "rosin", desc := "(II)I" } : Jvm.MethodName)) ∈ lw_all := lw_g (lw_at lw_m11 51 rfl) rfl
theorem q2518 : (Jvm.Cond.selects "HorsehairTradeModel" ({ cls := "HorsehairTradeModel", name := "rosin", desc := "(II)I" } : Jvm.MethodName) ({ cls := "HorsehairTradeModel", name := "rosin", desc := "(II)I" } : Jvm.MethodName)) ∈ lw_all := lw_g (lw_at lw_m11 52 rfl) rfl
theorem q2519 : (Jvm.Cond.code ({ cls := "HorsehairTradeModel", name := "rosin", desc := "(II)I" } : Jvm.MethodName) prog_17_method_43_code (3 : Nat) (Option.some Jvm.ClassFile.FieldType.int)) ∈ lw_all := lw_g (lw_at lw_m11 53 rfl) rfl
theorem q2520 : (Jvm.Cond.methodLink "HorsehairTradeModel" (173 : Nat) ({ cls := "HorsehairTradeModel", name := "rosins", desc := "(II)I" } : Jvm.MethodName)) ∈ lw_all := lw_g (lw_at lw_m11 54 rfl) rfl
theorem q2521 : (Jvm.Cond.privateMethod ({ cls := "HorsehairTradeModel", name := "rosins", desc := "(II)I" } : Jvm.MethodName)) ∈ lw_tbl := lw_at lw_m11 55 rfl
theorem q2522 : (Jvm.Cond.instanceMethod ({ cls := "HorsehairTradeModel", name := "rosins", desc := "(II)I" } : Jvm.MethodName)) ∈ lw_all := lw_g (lw_at lw_m11 56 rfl) rfl
theorem q2523 : (Jvm.Cond.code ({ cls := "HorsehairTradeModel", name := "rosins", desc := "(II)I" } : Jvm.MethodName) prog_17_method_42_code (4 : Nat) (Option.some Jvm.ClassFile.FieldType.int)) ∈ lw_all := lw_g (lw_at lw_m11 57 rfl) rfl
theorem q2524 : (Jvm.Cond.methodLink "HorsehairTradeModel" (170 : Nat) ({ cls := "HorsehairTradeModel", name := "isCake", desc := "(I)Z" } : Jvm.MethodName)) ∈ lw_all := lw_g (lw_at lw_m11 58 rfl) rfl
theorem q2525 : (Jvm.Cond.privateMethod ({ cls := "HorsehairTradeModel", name := "isCake", desc := "(I)Z" } : Jvm.MethodName)) ∈ lw_tbl := lw_at lw_m11 59 rfl
theorem q2526 : (Jvm.Cond.instanceMethod ({ cls := "HorsehairTradeModel", name := "isCake", desc := "(I)Z" } : Jvm.MethodName)) ∈ lw_all := lw_g (lw_at lw_m11 60 rfl) rfl
theorem q2527 : (Jvm.Cond.code ({ cls := "HorsehairTradeModel", name := "isCake", desc := "(I)Z" } : Jvm.MethodName) prog_17_method_21_code (2 : Nat) (Option.some Jvm.ClassFile.FieldType.boolean)) ∈ lw_all := lw_g (lw_at lw_m11 61 rfl) rfl
theorem q2529 : (Jvm.Cond.instanceMethod ({ cls := "HorsehairTradeModel", name := "play", desc := "(II)I" } : Jvm.MethodName)) ∈ lw_all := lw_g (lw_at lw_m11 63 rfl) rfl
theorem q2530 : (Jvm.Cond.selects "HorsehairTradeModel" ({ cls := "HorsehairTradeModel", name := "play", desc := "(II)I" } : Jvm.MethodName) ({ cls := "HorsehairTradeModel", name := "play", desc := "(II)I" } : Jvm.MethodName)) ∈ lw_all := lw_g (lw_at lw_m11 64 rfl) rfl
theorem q2531 : (Jvm.Cond.code ({ cls := "HorsehairTradeModel", name := "play", desc := "(II)I" } : Jvm.MethodName) prog_17_method_46_code (3 : Nat) (Option.some Jvm.ClassFile.FieldType.int)) ∈ lw_all := lw_g (lw_at lw_m11 65 rfl) rfl
theorem q2532 : (Jvm.Cond.methodLink "HorsehairTradeModel" (180 : Nat) ({ cls := "HorsehairTradeModel", name := "plays", desc := "(II)I" } : Jvm.MethodName)) ∈ lw_all := lw_g (lw_at lw_m11 66 rfl) rfl
theorem q2533 : (Jvm.Cond.privateMethod ({ cls := "HorsehairTradeModel", name := "plays", desc := "(II)I" } : Jvm.MethodName)) ∈ lw_tbl := lw_at lw_m11 67 rfl
theorem q2534 : (Jvm.Cond.instanceMethod ({ cls := "HorsehairTradeModel", name := "plays", desc := "(II)I" } : Jvm.MethodName)) ∈ lw_all := lw_g (lw_at lw_m11 68 rfl) rfl
theorem q2535 : (Jvm.Cond.code ({ cls := "HorsehairTradeModel", name := "plays", desc := "(II)I" } : Jvm.MethodName) prog_17_method_45_code (5 : Nat) (Option.some Jvm.ClassFile.FieldType.int)) ∈ lw_all := lw_g (lw_at lw_m11 69 rfl) rfl
theorem q2536 : (Jvm.Cond.methodLink "HorsehairTradeModel" (176 : Nat) ({ cls := "HorsehairTradeModel", name := "canBePlayed", desc := "(II)Z" } : Jvm.MethodName)) ∈ lw_all := lw_g (lw_at lw_m11 70 rfl) rfl
theorem q2537 : (Jvm.Cond.static ({ cls := "HorsehairTradeModel", name := "canBePlayed", desc := "(II)Z" } : Jvm.MethodName)) ∈ lw_all := lw_g (lw_at lw_m11 71 rfl) rfl
theorem q2538 : (Jvm.Cond.code ({ cls := "HorsehairTradeModel", name := "canBePlayed", desc := "(II)Z" } : Jvm.MethodName) prog_17_method_44_code (2 : Nat) (Option.some Jvm.ClassFile.FieldType.boolean)) ∈ lw_all := lw_g (lw_at lw_m11 72 rfl) rfl
theorem q2540 : (Jvm.Cond.instanceMethod ({ cls := "HorsehairTradeModel", name := "road", desc := "(II)I" } : Jvm.MethodName)) ∈ lw_all := lw_g (lw_at lw_m11 74 rfl) rfl
theorem q2541 : (Jvm.Cond.selects "HorsehairTradeModel" ({ cls := "HorsehairTradeModel", name := "road", desc := "(II)I" } : Jvm.MethodName) ({ cls := "HorsehairTradeModel", name := "road", desc := "(II)I" } : Jvm.MethodName)) ∈ lw_all := lw_g (lw_at lw_m11 75 rfl) rfl
theorem q2542 : (Jvm.Cond.code ({ cls := "HorsehairTradeModel", name := "road", desc := "(II)I" } : Jvm.MethodName) prog_17_method_47_code (4 : Nat) (Option.some Jvm.ClassFile.FieldType.int)) ∈ lw_all := lw_g (lw_at lw_m11 76 rfl) rfl
theorem q2543 : (Jvm.Cond.methodLink "HorsehairTradeModel" (183 : Nat) ({ cls := "HorsehairTradeModel", name := "isTown", desc := "(I)Z" } : Jvm.MethodName)) ∈ lw_all := lw_g (lw_at lw_m11 77 rfl) rfl
theorem q2544 : (Jvm.Cond.static ({ cls := "HorsehairTradeModel", name := "isTown", desc := "(I)Z" } : Jvm.MethodName)) ∈ lw_all := lw_g (lw_at lw_m11 78 rfl) rfl
theorem q2545 : (Jvm.Cond.code ({ cls := "HorsehairTradeModel", name := "isTown", desc := "(I)Z" } : Jvm.MethodName) prog_17_method_22_code (1 : Nat) (Option.some Jvm.ClassFile.FieldType.boolean)) ∈ lw_all := lw_g (lw_at lw_m11 79 rfl) rfl
theorem q2547 : (Jvm.Cond.instanceMethod ({ cls := "HorsehairTradeModel", name := "walk", desc := "(I)I" } : Jvm.MethodName)) ∈ lw_all := lw_g (lw_at lw_m11 81 rfl) rfl
theorem q2548 : (Jvm.Cond.selects "HorsehairTradeModel" ({ cls := "HorsehairTradeModel", name := "walk", desc := "(I)I" } : Jvm.MethodName) ({ cls := "HorsehairTradeModel", name := "walk", desc := "(I)I" } : Jvm.MethodName)) ∈ lw_all := lw_g (lw_at lw_m11 82 rfl) rfl
theorem q2549 : (Jvm.Cond.code ({ cls := "HorsehairTradeModel", name := "walk", desc := "(I)I" } : Jvm.MethodName) prog_17_method_49_code (2 : Nat) (Option.some Jvm.ClassFile.FieldType.int)) ∈ lw_all := lw_g (lw_at lw_m11 83 rfl) rfl
theorem q2550 : (Jvm.Cond.methodLink "HorsehairTradeModel" (186 : Nat) ({ cls := "HorsehairTradeModel", name := "walks", desc := "(I)I" } : Jvm.MethodName)) ∈ lw_all := lw_g (lw_at lw_m11 84 rfl) rfl
theorem q2551 : (Jvm.Cond.privateMethod ({ cls := "HorsehairTradeModel", name := "walks", desc := "(I)I" } : Jvm.MethodName)) ∈ lw_tbl := lw_at lw_m11 85 rfl
theorem q2552 : (Jvm.Cond.instanceMethod ({ cls := "HorsehairTradeModel", name := "walks", desc := "(I)I" } : Jvm.MethodName)) ∈ lw_all := lw_g (lw_at lw_m11 86 rfl) rfl
theorem q2553 : (Jvm.Cond.code ({ cls := "HorsehairTradeModel", name := "walks", desc := "(I)I" } : Jvm.MethodName) prog_17_method_48_code (3 : Nat) (Option.some Jvm.ClassFile.FieldType.int)) ∈ lw_all := lw_g (lw_at lw_m11 87 rfl) rfl
theorem q2555 : (Jvm.Cond.instanceMethod ({ cls := "HorsehairTradeModel", name := "sell", desc := "(I)I" } : Jvm.MethodName)) ∈ lw_all := lw_g (lw_at lw_m11 89 rfl) rfl
theorem q2556 : (Jvm.Cond.selects "HorsehairTradeModel" ({ cls := "HorsehairTradeModel", name := "sell", desc := "(I)I" } : Jvm.MethodName) ({ cls := "HorsehairTradeModel", name := "sell", desc := "(I)I" } : Jvm.MethodName)) ∈ lw_all := lw_g (lw_at lw_m11 90 rfl) rfl
theorem q2557 : (Jvm.Cond.code ({ cls := "HorsehairTradeModel", name := "sell", desc := "(I)I" } : Jvm.MethodName) prog_17_method_52_code (2 : Nat) (Option.some Jvm.ClassFile.FieldType.int)) ∈ lw_all := lw_g (lw_at lw_m11 91 rfl) rfl
theorem q2558 : (Jvm.Cond.methodLink "HorsehairTradeModel" (193 : Nat) ({ cls := "HorsehairTradeModel", name := "sells", desc := "(I)I" } : Jvm.MethodName)) ∈ lw_all := lw_g (lw_at lw_m11 92 rfl) rfl
theorem q2559 : (Jvm.Cond.privateMethod ({ cls := "HorsehairTradeModel", name := "sells", desc := "(I)I" } : Jvm.MethodName)) ∈ lw_tbl := lw_at lw_m11 93 rfl
theorem q2560 : (Jvm.Cond.instanceMethod ({ cls := "HorsehairTradeModel", name := "sells", desc := "(I)I" } : Jvm.MethodName)) ∈ lw_all := lw_g (lw_at lw_m11 94 rfl) rfl
theorem q2561 : (Jvm.Cond.code ({ cls := "HorsehairTradeModel", name := "sells", desc := "(I)I" } : Jvm.MethodName) prog_17_method_51_code (3 : Nat) (Option.some Jvm.ClassFile.FieldType.int)) ∈ lw_all := lw_g (lw_at lw_m11 95 rfl) rfl
theorem q2562 : (Jvm.Cond.methodLink "HorsehairTradeModel" (189 : Nat) ({ cls := "HorsehairTradeModel", name := "isFair", desc := "()Z" } : Jvm.MethodName)) ∈ lw_all := lw_g (lw_at lw_m11 96 rfl) rfl
theorem q2563 : (Jvm.Cond.privateMethod ({ cls := "HorsehairTradeModel", name := "isFair", desc := "()Z" } : Jvm.MethodName)) ∈ lw_tbl := lw_at lw_m11 97 rfl
theorem q2564 : (Jvm.Cond.instanceMethod ({ cls := "HorsehairTradeModel", name := "isFair", desc := "()Z" } : Jvm.MethodName)) ∈ lw_all := lw_g (lw_at lw_m11 98 rfl) rfl
theorem q2565 : (Jvm.Cond.code ({ cls := "HorsehairTradeModel", name := "isFair", desc := "()Z" } : Jvm.MethodName) prog_17_method_50_code (1 : Nat) (Option.some Jvm.ClassFile.FieldType.boolean)) ∈ lw_all := lw_g (lw_at lw_m11 99 rfl) rfl
theorem q2567 : (Jvm.Cond.instanceMethod ({ cls := "HorsehairTradeModel", name := "paid", desc := "(I)I" } : Jvm.MethodName)) ∈ lw_all := lw_g (lw_at lw_m11 101 rfl) rfl
theorem q2568 : (Jvm.Cond.selects "HorsehairTradeModel" ({ cls := "HorsehairTradeModel", name := "paid", desc := "(I)I" } : Jvm.MethodName) ({ cls := "HorsehairTradeModel", name := "paid", desc := "(I)I" } : Jvm.MethodName)) ∈ lw_all := lw_g (lw_at lw_m11 102 rfl) rfl
theorem q2569 : (Jvm.Cond.code ({ cls := "HorsehairTradeModel", name := "paid", desc := "(I)I" } : Jvm.MethodName) prog_17_method_53_code (3 : Nat) (Option.some Jvm.ClassFile.FieldType.int)) ∈ lw_all := lw_g (lw_at lw_m11 103 rfl) rfl
theorem q2571 : (Jvm.Cond.instanceMethod ({ cls := "HorsehairTradeModel", name := "tailOf", desc := "(II)I" } : Jvm.MethodName)) ∈ lw_all := lw_g (lw_at lw_m11 105 rfl) rfl
theorem q2572 : (Jvm.Cond.selects "HorsehairTradeModel" ({ cls := "HorsehairTradeModel", name := "tailOf", desc := "(II)I" } : Jvm.MethodName) ({ cls := "HorsehairTradeModel", name := "tailOf", desc := "(II)I" } : Jvm.MethodName)) ∈ lw_all := lw_g (lw_at lw_m11 106 rfl) rfl
theorem q2573 : (Jvm.Cond.code ({ cls := "HorsehairTradeModel", name := "tailOf", desc := "(II)I" } : Jvm.MethodName) prog_17_method_54_code (3 : Nat) (Option.some Jvm.ClassFile.FieldType.int)) ∈ lw_all := lw_g (lw_at lw_m11 107 rfl) rfl
theorem q2574 : (Jvm.Cond.methodLink "HorsehairTradeModel" (196 : Nat) ({ cls := "HorsehairTradeModel", name := "isThrown", desc := "(ZI)Z" } : Jvm.MethodName)) ∈ lw_all := lw_g (lw_at lw_m11 108 rfl) rfl
theorem q2575 : (Jvm.Cond.privateMethod ({ cls := "HorsehairTradeModel", name := "isThrown", desc := "(ZI)Z" } : Jvm.MethodName)) ∈ lw_tbl := lw_at lw_m11 109 rfl
theorem q2576 : (Jvm.Cond.instanceMethod ({ cls := "HorsehairTradeModel", name := "isThrown", desc := "(ZI)Z" } : Jvm.MethodName)) ∈ lw_all := lw_g (lw_at lw_m11 110 rfl) rfl
theorem q2577 : (Jvm.Cond.code ({ cls := "HorsehairTradeModel", name := "isThrown", desc := "(ZI)Z" } : Jvm.MethodName) prog_17_method_11_code (3 : Nat) (Option.some Jvm.ClassFile.FieldType.boolean)) ∈ lw_all := lw_g (lw_at lw_m11 111 rfl) rfl
theorem q2579 : (Jvm.Cond.instanceMethod ({ cls := "HorsehairTradeModel", name := "hankOf", desc := "(II)I" } : Jvm.MethodName)) ∈ lw_all := lw_g (lw_at lw_m11 113 rfl) rfl
theorem q2580 : (Jvm.Cond.selects "HorsehairTradeModel" ({ cls := "HorsehairTradeModel", name := "hankOf", desc := "(II)I" } : Jvm.MethodName) ({ cls := "HorsehairTradeModel", name := "hankOf", desc := "(II)I" } : Jvm.MethodName)) ∈ lw_all := lw_g (lw_at lw_m11 114 rfl) rfl
theorem q2581 : (Jvm.Cond.code ({ cls := "HorsehairTradeModel", name := "hankOf", desc := "(II)I" } : Jvm.MethodName) prog_17_method_55_code (3 : Nat) (Option.some Jvm.ClassFile.FieldType.int)) ∈ lw_all := lw_g (lw_at lw_m11 115 rfl) rfl
theorem q2583 : (Jvm.Cond.instanceMethod ({ cls := "HorsehairTradeModel", name := "bowOf", desc := "(II)I" } : Jvm.MethodName)) ∈ lw_all := lw_g (lw_at lw_m11 117 rfl) rfl
theorem q2584 : (Jvm.Cond.selects "HorsehairTradeModel" ({ cls := "HorsehairTradeModel", name := "bowOf", desc := "(II)I" } : Jvm.MethodName) ({ cls := "HorsehairTradeModel", name := "bowOf", desc := "(II)I" } : Jvm.MethodName)) ∈ lw_all := lw_g (lw_at lw_m11 118 rfl) rfl
theorem q2585 : (Jvm.Cond.code ({ cls := "HorsehairTradeModel", name := "bowOf", desc := "(II)I" } : Jvm.MethodName) prog_17_method_56_code (3 : Nat) (Option.some Jvm.ClassFile.FieldType.int)) ∈ lw_all := lw_g (lw_at lw_m11 119 rfl) rfl
theorem q2587 : (Jvm.Cond.instanceMethod ({ cls := "HorsehairTradeModel", name := "cakeOf", desc := "(I)I" } : Jvm.MethodName)) ∈ lw_all := lw_g (lw_at lw_m11 121 rfl) rfl
theorem q2588 : (Jvm.Cond.selects "HorsehairTradeModel" ({ cls := "HorsehairTradeModel", name := "cakeOf", desc := "(I)I" } : Jvm.MethodName) ({ cls := "HorsehairTradeModel", name := "cakeOf", desc := "(I)I" } : Jvm.MethodName)) ∈ lw_all := lw_g (lw_at lw_m11 122 rfl) rfl
theorem q2589 : (Jvm.Cond.code ({ cls := "HorsehairTradeModel", name := "cakeOf", desc := "(I)I" } : Jvm.MethodName) prog_17_method_57_code (2 : Nat) (Option.some Jvm.ClassFile.FieldType.int)) ∈ lw_all := lw_g (lw_at lw_m11 123 rfl) rfl
theorem q2591 : (Jvm.Cond.instanceMethod ({ cls := "HorsehairTradeModel", name := "sieves", desc := "(I)I" } : Jvm.MethodName)) ∈ lw_all := lw_g (lw_at lw_m11 125 rfl) rfl
theorem q2592 : (Jvm.Cond.selects "HorsehairTradeModel" ({ cls := "HorsehairTradeModel", name := "sieves", desc := "(I)I" } : Jvm.MethodName) ({ cls := "HorsehairTradeModel", name := "sieves", desc := "(I)I" } : Jvm.MethodName)) ∈ lw_all := lw_g (lw_at lw_m11 126 rfl) rfl
theorem q2593 : (Jvm.Cond.code ({ cls := "HorsehairTradeModel", name := "sieves", desc := "(I)I" } : Jvm.MethodName) prog_17_method_58_code (2 : Nat) (Option.some Jvm.ClassFile.FieldType.int)) ∈ lw_all := lw_g (lw_at lw_m11 127 rfl) rfl
theorem q2595 : (Jvm.Cond.instanceMethod ({ cls := "HorsehairTradeModel", name := "bestHank", desc := "(I)I" } : Jvm.MethodName)) ∈ lw_all := lw_g (lw_at lw_m11 129 rfl) rfl
theorem q2596 : (Jvm.Cond.selects "HorsehairTradeModel" ({ cls := "HorsehairTradeModel", name := "bestHank", desc := "(I)I" } : Jvm.MethodName) ({ cls := "HorsehairTradeModel", name := "bestHank", desc := "(I)I" } : Jvm.MethodName)) ∈ lw_all := lw_g (lw_at lw_m11 130 rfl) rfl
theorem q2597 : (Jvm.Cond.code ({ cls := "HorsehairTradeModel", name := "bestHank", desc := "(I)I" } : Jvm.MethodName) prog_17_method_61_code (6 : Nat) (Option.some Jvm.ClassFile.FieldType.int)) ∈ lw_all := lw_g (lw_at lw_m11 131 rfl) rfl
theorem q2598 : (Jvm.Cond.methodLink "HorsehairTradeModel" (200 : Nat) ({ cls := "HorsehairTradeModel", name := "canBeTaken", desc := "(II)Z" } : Jvm.MethodName)) ∈ lw_all := lw_g (lw_at lw_m11 132 rfl) rfl
theorem q2599 : (Jvm.Cond.privateMethod ({ cls := "HorsehairTradeModel", name := "canBeTaken", desc := "(II)Z" } : Jvm.MethodName)) ∈ lw_tbl := lw_at lw_m11 133 rfl
theorem q2600 : (Jvm.Cond.instanceMethod ({ cls := "HorsehairTradeModel", name := "canBeTaken", desc := "(II)Z" } : Jvm.MethodName)) ∈ lw_all := lw_g (lw_at lw_m11 134 rfl) rfl
theorem q2601 : (Jvm.Cond.code ({ cls := "HorsehairTradeModel", name := "canBeTaken", desc := "(II)Z" } : Jvm.MethodName) prog_17_method_59_code (3 : Nat) (Option.some Jvm.ClassFile.FieldType.boolean)) ∈ lw_all := lw_g (lw_at lw_m11 135 rfl) rfl
theorem q2603 : (Jvm.Cond.instanceMethod ({ cls := "HorsehairTradeModel", name := "bestAgain", desc := "(I)I" } : Jvm.MethodName)) ∈ lw_all := lw_g (lw_at lw_m11 137 rfl) rfl
theorem q2604 : (Jvm.Cond.selects "HorsehairTradeModel" ({ cls := "HorsehairTradeModel", name := "bestAgain", desc := "(I)I" } : Jvm.MethodName) ({ cls := "HorsehairTradeModel", name := "bestAgain", desc := "(I)I" } : Jvm.MethodName)) ∈ lw_all := lw_g (lw_at lw_m11 138 rfl) rfl
theorem q2605 : (Jvm.Cond.code ({ cls := "HorsehairTradeModel", name := "bestAgain", desc := "(I)I" } : Jvm.MethodName) prog_17_method_62_code (5 : Nat) (Option.some Jvm.ClassFile.FieldType.int)) ∈ lw_all := lw_g (lw_at lw_m11 139 rfl) rfl
theorem q2606 : (Jvm.Cond.methodLink "HorsehairTradeModel" (203 : Nat) ({ cls := "HorsehairTradeModel", name := "isAhead", desc := "(II)Z" } : Jvm.MethodName)) ∈ lw_all := lw_g (lw_at lw_m11 140 rfl) rfl
theorem q2607 : (Jvm.Cond.privateMethod ({ cls := "HorsehairTradeModel", name := "isAhead", desc := "(II)Z" } : Jvm.MethodName)) ∈ lw_tbl := lw_at lw_m11 141 rfl
theorem q2608 : (Jvm.Cond.instanceMethod ({ cls := "HorsehairTradeModel", name := "isAhead", desc := "(II)Z" } : Jvm.MethodName)) ∈ lw_all := lw_g (lw_at lw_m11 142 rfl) rfl
theorem q2609 : (Jvm.Cond.code ({ cls := "HorsehairTradeModel", name := "isAhead", desc := "(II)Z" } : Jvm.MethodName) prog_17_method_60_code (5 : Nat) (Option.some Jvm.ClassFile.FieldType.boolean)) ∈ lw_all := lw_g (lw_at lw_m11 143 rfl) rfl
theorem q2611 : (Jvm.Cond.instanceMethod ({ cls := "HorsehairTradeModel", name := "goodFor", desc := "(I)I" } : Jvm.MethodName)) ∈ lw_all := lw_g (lw_at lw_m11 145 rfl) rfl
theorem q2612 : (Jvm.Cond.selects "HorsehairTradeModel" ({ cls := "HorsehairTradeModel", name := "goodFor", desc := "(I)I" } : Jvm.MethodName) ({ cls := "HorsehairTradeModel", name := "goodFor", desc := "(I)I" } : Jvm.MethodName)) ∈ lw_all := lw_g (lw_at lw_m11 146 rfl) rfl
theorem q2613 : (Jvm.Cond.code ({ cls := "HorsehairTradeModel", name := "goodFor", desc := "(I)I" } : Jvm.MethodName) prog_17_method_63_code (4 : Nat) (Option.some Jvm.ClassFile.FieldType.int)) ∈ lw_all := lw_g (lw_at lw_m11 147 rfl) rfl
theorem q2615 : (Jvm.Cond.instanceMethod ({ cls := "HorsehairTradeModel", name := "hoursLeft", desc := "(I)I" } : Jvm.MethodName)) ∈ lw_all := lw_g (lw_at lw_m11 149 rfl) rfl
theorem q2616 : (Jvm.Cond.selects "HorsehairTradeModel" ({ cls := "HorsehairTradeModel", name := "hoursLeft", desc := "(I)I" } : Jvm.MethodName) ({ cls := "HorsehairTradeModel", name := "hoursLeft", desc := "(I)I" } : Jvm.MethodName)) ∈ lw_all := lw_g (lw_at lw_m11 150 rfl) rfl
theorem q2617 : (Jvm.Cond.code ({ cls := "HorsehairTradeModel", name := "hoursLeft", desc := "(I)I" } : Jvm.MethodName) prog_17_method_64_code (5 : Nat) (Option.some Jvm.ClassFile.FieldType.int)) ∈ lw_all := lw_g (lw_at lw_m11 151 rfl) rfl
theorem q2619 : (Jvm.Cond.instanceMethod ({ cls := "HorsehairTradeModel", name := "daysTo", desc := "(I)I" } : Jvm.MethodName)) ∈ lw_all := lw_g (lw_at lw_m11 153 rfl) rfl
theorem q2620 : (Jvm.Cond.selects "HorsehairTradeModel" ({ cls := "HorsehairTradeModel", name := "daysTo", desc := "(I)I" } : Jvm.MethodName) ({ cls := "HorsehairTradeModel", name := "daysTo", desc := "(I)I" } : Jvm.MethodName)) ∈ lw_all := lw_g (lw_at lw_m11 154 rfl) rfl
theorem q2621 : (Jvm.Cond.code ({ cls := "HorsehairTradeModel", name := "daysTo", desc := "(I)I" } : Jvm.MethodName) prog_17_method_65_code (4 : Nat) (Option.some Jvm.ClassFile.FieldType.int)) ∈ lw_all := lw_g (lw_at lw_m11 155 rfl) rfl
theorem q2623 : (Jvm.Cond.instanceMethod ({ cls := "HorsehairTradeModel", name := "fairs", desc := "()I" } : Jvm.MethodName)) ∈ lw_all := lw_g (lw_at lw_m11 157 rfl) rfl
theorem q2624 : (Jvm.Cond.selects "HorsehairTradeModel" ({ cls := "HorsehairTradeModel", name := "fairs", desc := "()I" } : Jvm.MethodName) ({ cls := "HorsehairTradeModel", name := "fairs", desc := "()I" } : Jvm.MethodName)) ∈ lw_all := lw_g (lw_at lw_m11 158 rfl) rfl
theorem q2625 : (Jvm.Cond.code ({ cls := "HorsehairTradeModel", name := "fairs", desc := "()I" } : Jvm.MethodName) prog_17_method_66_code (5 : Nat) (Option.some Jvm.ClassFile.FieldType.int)) ∈ lw_all := lw_g (lw_at lw_m11 159 rfl) rfl
theorem q2627 : (Jvm.Cond.instanceMethod ({ cls := "HorsehairTradeModel", name := "worth", desc := "(Z)I" } : Jvm.MethodName)) ∈ lw_all := lw_g (lw_at lw_m11 161 rfl) rfl
theorem q2628 : (Jvm.Cond.selects "HorsehairTradeModel" ({ cls := "HorsehairTradeModel", name := "worth", desc := "(Z)I" } : Jvm.MethodName) ({ cls := "HorsehairTradeModel", name := "worth", desc := "(Z)I" } : Jvm.MethodName)) ∈ lw_all := lw_g (lw_at lw_m11 162 rfl) rfl
theorem q2629 : (Jvm.Cond.code ({ cls := "HorsehairTradeModel", name := "worth", desc := "(Z)I" } : Jvm.MethodName) prog_17_method_67_code (4 : Nat) (Option.some Jvm.ClassFile.FieldType.int)) ∈ lw_all := lw_g (lw_at lw_m11 163 rfl) rfl
theorem q2631 : (Jvm.Cond.instanceMethod ({ cls := "HorsehairTradeModel", name := "feed", desc := "(C)I" } : Jvm.MethodName)) ∈ lw_all := lw_g (lw_at lw_m11 165 rfl) rfl
theorem q2632 : (Jvm.Cond.selects "HorsehairTradeModel" ({ cls := "HorsehairTradeModel", name := "feed", desc := "(C)I" } : Jvm.MethodName) ({ cls := "HorsehairTradeModel", name := "feed", desc := "(C)I" } : Jvm.MethodName)) ∈ lw_all := lw_g (lw_at lw_m11 166 rfl) rfl
theorem q2633 : (Jvm.Cond.code ({ cls := "HorsehairTradeModel", name := "feed", desc := "(C)I" } : Jvm.MethodName) prog_17_method_68_code (2 : Nat) (Option.some Jvm.ClassFile.FieldType.int)) ∈ lw_all := lw_g (lw_at lw_m11 167 rfl) rfl
theorem q2635 : (Jvm.Cond.instanceMethod ({ cls := "HorsehairTradeModel", name := "run", desc := "()I" } : Jvm.MethodName)) ∈ lw_all := lw_g (lw_at lw_m11 169 rfl) rfl
theorem q2636 : (Jvm.Cond.selects "HorsehairTradeModel" ({ cls := "HorsehairTradeModel", name := "run", desc := "()I" } : Jvm.MethodName) ({ cls := "HorsehairTradeModel", name := "run", desc := "()I" } : Jvm.MethodName)) ∈ lw_all := lw_g (lw_at lw_m11 170 rfl) rfl
theorem q2637 : (Jvm.Cond.code ({ cls := "HorsehairTradeModel", name := "run", desc := "()I" } : Jvm.MethodName) prog_17_method_78_code (4 : Nat) (Option.some Jvm.ClassFile.FieldType.int)) ∈ lw_all := lw_g (lw_at lw_m11 171 rfl) rfl
theorem q2638 : (Jvm.Cond.methodLink "HorsehairTradeModel" (248 : Nat) ({ cls := "HorsehairTradeModel", name := "isText", desc := "()Z" } : Jvm.MethodName)) ∈ lw_all := lw_g (lw_at lw_m11 172 rfl) rfl
theorem q2639 : (Jvm.Cond.privateMethod ({ cls := "HorsehairTradeModel", name := "isText", desc := "()Z" } : Jvm.MethodName)) ∈ lw_tbl := lw_at lw_m11 173 rfl
theorem q2640 : (Jvm.Cond.instanceMethod ({ cls := "HorsehairTradeModel", name := "isText", desc := "()Z" } : Jvm.MethodName)) ∈ lw_all := lw_g (lw_at lw_m11 174 rfl) rfl
theorem q2641 : (Jvm.Cond.code ({ cls := "HorsehairTradeModel", name := "isText", desc := "()Z" } : Jvm.MethodName) prog_17_method_76_code (2 : Nat) (Option.some Jvm.ClassFile.FieldType.boolean)) ∈ lw_all := lw_g (lw_at lw_m11 175 rfl) rfl
theorem q2642 : (Jvm.Cond.methodLink "HorsehairTradeModel" (245 : Nat) ({ cls := "HorsehairTradeModel", name := "isOrder", desc := "()Z" } : Jvm.MethodName)) ∈ lw_all := lw_g (lw_at lw_m11 176 rfl) rfl
theorem q2643 : (Jvm.Cond.privateMethod ({ cls := "HorsehairTradeModel", name := "isOrder", desc := "()Z" } : Jvm.MethodName)) ∈ lw_tbl := lw_at lw_m11 177 rfl
theorem q2644 : (Jvm.Cond.instanceMethod ({ cls := "HorsehairTradeModel", name := "isOrder", desc := "()Z" } : Jvm.MethodName)) ∈ lw_all := lw_g (lw_at lw_m11 178 rfl) rfl
theorem q2645 : (Jvm.Cond.code ({ cls := "HorsehairTradeModel", name := "isOrder", desc := "()Z" } : Jvm.MethodName) prog_17_method_75_code (3 : Nat) (Option.some Jvm.ClassFile.FieldType.boolean)) ∈ lw_all := lw_g (lw_at lw_m11 179 rfl) rfl
theorem q2646 : (Jvm.Cond.methodLink "HorsehairTradeModel" (230 : Nat) ({ cls := "HorsehairTradeModel", name := "readsWord", desc := "()I" } : Jvm.MethodName)) ∈ lw_all := lw_g (lw_at lw_m11 180 rfl) rfl
theorem q2647 : (Jvm.Cond.privateMethod ({ cls := "HorsehairTradeModel", name := "readsWord", desc := "()I" } : Jvm.MethodName)) ∈ lw_tbl := lw_at lw_m11 181 rfl
theorem q2648 : (Jvm.Cond.instanceMethod ({ cls := "HorsehairTradeModel", name := "readsWord", desc := "()I" } : Jvm.MethodName)) ∈ lw_all := lw_g (lw_at lw_m11 182 rfl) rfl
theorem q2649 : (Jvm.Cond.code ({ cls := "HorsehairTradeModel", name := "readsWord", desc := "()I" } : Jvm.MethodName) prog_17_method_72_code (4 : Nat) (Option.some Jvm.ClassFile.FieldType.int)) ∈ lw_all := lw_g (lw_at lw_m11 183 rfl) rfl
theorem q2650 : (Jvm.Cond.methodLink "HorsehairTradeModel" (223 : Nat) ({ cls := "HorsehairTradeModel", name := "isBegun", desc := "(Ljava/lang/String;II)Z" } : Jvm.MethodName)) ∈ lw_all := lw_g (lw_at lw_m11 184 rfl) rfl
theorem q2651 : (Jvm.Cond.privateMethod ({ cls := "HorsehairTradeModel", name := "isBegun", desc := "(Ljava/lang/String;II)Z" } : Jvm.MethodName)) ∈ lw_tbl := lw_at lw_m11 185 rfl
theorem q2652 : (Jvm.Cond.instanceMethod ({ cls := "HorsehairTradeModel", name := "isBegun", desc := "(Ljava/lang/String;II)Z" } : Jvm.MethodName)) ∈ lw_all := lw_g (lw_at lw_m11 186 rfl) rfl
theorem q2653 : (Jvm.Cond.code ({ cls := "HorsehairTradeModel", name := "isBegun", desc := "(Ljava/lang/String;II)Z" } : Jvm.MethodName) prog_17_method_71_code (5 : Nat) (Option.some Jvm.ClassFile.FieldType.boolean)) ∈ lw_all := lw_g (lw_at lw_m11 187 rfl) rfl
theorem q2654 : (Jvm.Cond.methodLink "HorsehairTradeModel" (216 : Nat) ({ cls := "java/lang/String", name := "length", desc := "()I" } : Jvm.MethodName)) ∈ lw_all := lw_g (lw_at lw_m11 188 rfl) rfl
theorem q2655 : (Jvm.Cond.methodLink "HorsehairTradeModel" (219 : Nat) ({ cls := "java/lang/String", name := "charAt", desc := "(I)C" } : Jvm.MethodName)) ∈ lw_all := lw_g (lw_at lw_m11 189 rfl) rfl
theorem q2656 : (Jvm.Cond.methodLink "HorsehairTradeModel" (233 : Nat) ({ cls := "HorsehairTradeModel", name := "isNumber", desc := "(I)Z" } : Jvm.MethodName)) ∈ lw_all := lw_g (lw_at lw_m11 190 rfl) rfl
theorem q2657 : (Jvm.Cond.privateMethod ({ cls := "HorsehairTradeModel", name := "isNumber", desc := "(I)Z" } : Jvm.MethodName)) ∈ lw_tbl := lw_at lw_m11 191 rfl
theorem q2658 : (Jvm.Cond.instanceMethod ({ cls := "HorsehairTradeModel", name := "isNumber", desc := "(I)Z" } : Jvm.MethodName)) ∈ lw_all := lw_g (lw_at lw_m11 192 rfl) rfl
theorem q2659 : (Jvm.Cond.code ({ cls := "HorsehairTradeModel", name := "isNumber", desc := "(I)Z" } : Jvm.MethodName) prog_17_method_73_code (3 : Nat) (Option.some Jvm.ClassFile.FieldType.boolean)) ∈ lw_all := lw_g (lw_at lw_m11 193 rfl) rfl
theorem q2660 : (Jvm.Cond.methodLink "HorsehairTradeModel" (212 : Nat) ({ cls := "HorsehairTradeModel", name := "sign", desc := "()I" } : Jvm.MethodName)) ∈ lw_all := lw_g (lw_at lw_m11 194 rfl) rfl
theorem q2661 : (Jvm.Cond.privateMethod ({ cls := "HorsehairTradeModel", name := "sign", desc := "()I" } : Jvm.MethodName)) ∈ lw_tbl := lw_at lw_m11 195 rfl
theorem q2662 : (Jvm.Cond.instanceMethod ({ cls := "HorsehairTradeModel", name := "sign", desc := "()I" } : Jvm.MethodName)) ∈ lw_all := lw_g (lw_at lw_m11 196 rfl) rfl
theorem q2663 : (Jvm.Cond.code ({ cls := "HorsehairTradeModel", name := "sign", desc := "()I" } : Jvm.MethodName) prog_17_method_69_code (1 : Nat) (Option.some Jvm.ClassFile.FieldType.int)) ∈ lw_all := lw_g (lw_at lw_m11 197 rfl) rfl
theorem q2664 : (Jvm.Cond.methodLink "HorsehairTradeModel" (239 : Nat) ({ cls := "HorsehairTradeModel", name := "signOf", desc := "(I)I" } : Jvm.MethodName)) ∈ lw_all := lw_g (lw_at lw_m11 198 rfl) rfl
theorem q2665 : (Jvm.Cond.static ({ cls := "HorsehairTradeModel", name := "signOf", desc := "(I)I" } : Jvm.MethodName)) ∈ lw_all := lw_g (lw_at lw_m11 199 rfl) rfl
theorem q2666 : (Jvm.Cond.code ({ cls := "HorsehairTradeModel", name := "signOf", desc := "(I)I" } : Jvm.MethodName) prog_17_method_74_code (1 : Nat) (Option.some Jvm.ClassFile.FieldType.int)) ∈ lw_all := lw_g (lw_at lw_m11 200 rfl) rfl
theorem q2667 : (Jvm.Cond.methodLink "HorsehairTradeModel" (242 : Nat) ({ cls := "HorsehairTradeModel", name := "isSign", desc := "(I)Z" } : Jvm.MethodName)) ∈ lw_all := lw_g (lw_at lw_m11 201 rfl) rfl
theorem q2668 : (Jvm.Cond.privateMethod ({ cls := "HorsehairTradeModel", name := "isSign", desc := "(I)Z" } : Jvm.MethodName)) ∈ lw_tbl := lw_at lw_m11 202 rfl
theorem q2669 : (Jvm.Cond.instanceMethod ({ cls := "HorsehairTradeModel", name := "isSign", desc := "(I)Z" } : Jvm.MethodName)) ∈ lw_all := lw_g (lw_at lw_m11 203 rfl) rfl
theorem q2670 : (Jvm.Cond.code ({ cls := "HorsehairTradeModel", name := "isSign", desc := "(I)Z" } : Jvm.MethodName) prog_17_method_70_code (3 : Nat) (Option.some Jvm.ClassFile.FieldType.boolean)) ∈ lw_all := lw_g (lw_at lw_m11 204 rfl) rfl
theorem q2671 : (Jvm.Cond.methodLink "HorsehairTradeModel" (251 : Nat) ({ cls := "HorsehairTradeModel", name := "does", desc := "(I)I" } : Jvm.MethodName)) ∈ lw_all := lw_g (lw_at lw_m11 205 rfl) rfl
theorem q2672 : (Jvm.Cond.privateMethod ({ cls := "HorsehairTradeModel", name := "does", desc := "(I)I" } : Jvm.MethodName)) ∈ lw_tbl := lw_at lw_m11 206 rfl
theorem q2673 : (Jvm.Cond.instanceMethod ({ cls := "HorsehairTradeModel", name := "does", desc := "(I)I" } : Jvm.MethodName)) ∈ lw_all := lw_g (lw_at lw_m11 207 rfl) rfl
theorem q2674 : (Jvm.Cond.code ({ cls := "HorsehairTradeModel", name := "does", desc := "(I)I" } : Jvm.MethodName) prog_17_method_77_code (4 : Nat) (Option.some Jvm.ClassFile.FieldType.int)) ∈ lw_all := lw_g (lw_at lw_m11 208 rfl) rfl
theorem q2676 : (Jvm.Cond.instanceMethod ({ cls := "HorsehairTradeModel", name := "faultPosition", desc := "()I" } : Jvm.MethodName)) ∈ lw_all := lw_g (lw_at lw_m11 210 rfl) rfl
theorem q2677 : (Jvm.Cond.selects "HorsehairTradeModel" ({ cls := "HorsehairTradeModel", name := "faultPosition", desc := "()I" } : Jvm.MethodName) ({ cls := "HorsehairTradeModel", name := "faultPosition", desc := "()I" } : Jvm.MethodName)) ∈ lw_all := lw_g (lw_at lw_m11 211 rfl) rfl
theorem q2678 : (Jvm.Cond.code ({ cls := "HorsehairTradeModel", name := "faultPosition", desc := "()I" } : Jvm.MethodName) prog_17_method_79_code (1 : Nat) (Option.some Jvm.ClassFile.FieldType.int)) ∈ lw_all := lw_g (lw_at lw_m11 212 rfl) rfl
theorem q2680 : (Jvm.Cond.instanceMethod ({ cls := "HorsehairTradeModel", name := "reason", desc := "(I)I" } : Jvm.MethodName)) ∈ lw_all := lw_g (lw_at lw_m11 214 rfl) rfl
theorem q2681 : (Jvm.Cond.selects "HorsehairTradeModel" ({ cls := "HorsehairTradeModel", name := "reason", desc := "(I)I" } : Jvm.MethodName) ({ cls := "HorsehairTradeModel", name := "reason", desc := "(I)I" } : Jvm.MethodName)) ∈ lw_all := lw_g (lw_at lw_m11 215 rfl) rfl
theorem q2682 : (Jvm.Cond.code ({ cls := "HorsehairTradeModel", name := "reason", desc := "(I)I" } : Jvm.MethodName) prog_17_method_80_code (2 : Nat) (Option.some Jvm.ClassFile.FieldType.int)) ∈ lw_all := lw_g (lw_at lw_m11 216 rfl) rfl
theorem q2684 : (Jvm.Cond.instanceMethod ({ cls := "HorsehairTradeModel", name := "line", desc := "()I" } : Jvm.MethodName)) ∈ lw_all := lw_g (lw_at lw_m11 218 rfl) rfl
theorem q2685 : (Jvm.Cond.selects "HorsehairTradeModel" ({ cls := "HorsehairTradeModel", name := "line", desc := "()I" } : Jvm.MethodName) ({ cls := "HorsehairTradeModel", name := "line", desc := "()I" } : Jvm.MethodName)) ∈ lw_all := lw_g (lw_at lw_m11 219 rfl) rfl
theorem q2686 : (Jvm.Cond.code ({ cls := "HorsehairTradeModel", name := "line", desc := "()I" } : Jvm.MethodName) prog_17_method_83_code (3 : Nat) (Option.some Jvm.ClassFile.FieldType.int)) ∈ lw_all := lw_g (lw_at lw_m11 220 rfl) rfl
theorem q2687 : (Jvm.Cond.methodLink "HorsehairTradeModel" (260 : Nat) ({ cls := "HorsehairTradeModel", name := "writes", desc := "(I)V" } : Jvm.MethodName)) ∈ lw_all := lw_g (lw_at lw_m11 221 rfl) rfl
theorem q2688 : (Jvm.Cond.privateMethod ({ cls := "HorsehairTradeModel", name := "writes", desc := "(I)V" } : Jvm.MethodName)) ∈ lw_tbl := lw_at lw_m11 222 rfl
theorem q2689 : (Jvm.Cond.instanceMethod ({ cls := "HorsehairTradeModel", name := "writes", desc := "(I)V" } : Jvm.MethodName)) ∈ lw_all := lw_g (lw_at lw_m11 223 rfl) rfl
theorem q2690 : (Jvm.Cond.code ({ cls := "HorsehairTradeModel", name := "writes", desc := "(I)V" } : Jvm.MethodName) prog_17_method_81_code (2 : Nat) (Option.none : Option Jvm.ClassFile.FieldType)) ∈ lw_all := lw_g (lw_at lw_m11 224 rfl) rfl
theorem q2691 : (Jvm.Cond.methodLink "HorsehairTradeModel" (257 : Nat) ({ cls := "HorsehairTradeModel", name := "number", desc := "(I)V" } : Jvm.MethodName)) ∈ lw_all := lw_g (lw_at lw_m11 225 rfl) rfl
theorem q2692 : (Jvm.Cond.privateMethod ({ cls := "HorsehairTradeModel", name := "number", desc := "(I)V" } : Jvm.MethodName)) ∈ lw_tbl := lw_at lw_m11 226 rfl
theorem q2693 : (Jvm.Cond.instanceMethod ({ cls := "HorsehairTradeModel", name := "number", desc := "(I)V" } : Jvm.MethodName)) ∈ lw_all := lw_g (lw_at lw_m11 227 rfl) rfl
theorem q2694 : (Jvm.Cond.code ({ cls := "HorsehairTradeModel", name := "number", desc := "(I)V" } : Jvm.MethodName) prog_17_method_82_code (2 : Nat) (Option.none : Option Jvm.ClassFile.FieldType)) ∈ lw_all := lw_g (lw_at lw_m11 228 rfl) rfl
theorem q2696 : (Jvm.Cond.instanceMethod ({ cls := "HorsehairTradeModel", name := "character", desc := "(I)C" } : Jvm.MethodName)) ∈ lw_all := lw_g (lw_at lw_m11 230 rfl) rfl
theorem q2697 : (Jvm.Cond.selects "HorsehairTradeModel" ({ cls := "HorsehairTradeModel", name := "character", desc := "(I)C" } : Jvm.MethodName) ({ cls := "HorsehairTradeModel", name := "character", desc := "(I)C" } : Jvm.MethodName)) ∈ lw_all := lw_g (lw_at lw_m11 231 rfl) rfl
theorem q2698 : (Jvm.Cond.code ({ cls := "HorsehairTradeModel", name := "character", desc := "(I)C" } : Jvm.MethodName) prog_17_method_84_code (2 : Nat) (Option.some Jvm.ClassFile.FieldType.char)) ∈ lw_all := lw_g (lw_at lw_m11 232 rfl) rfl
theorem q2700 : (Jvm.Cond.instanceMethod ({ cls := "HorsehairTradeModel", name := "meanLength", desc := "()D" } : Jvm.MethodName)) ∈ lw_all := lw_g (lw_at lw_m11 234 rfl) rfl
theorem q2701 : (Jvm.Cond.selects "HorsehairTradeModel" ({ cls := "HorsehairTradeModel", name := "meanLength", desc := "()D" } : Jvm.MethodName) ({ cls := "HorsehairTradeModel", name := "meanLength", desc := "()D" } : Jvm.MethodName)) ∈ lw_all := lw_g (lw_at lw_m11 235 rfl) rfl
theorem q2702 : (Jvm.Cond.code ({ cls := "HorsehairTradeModel", name := "meanLength", desc := "()D" } : Jvm.MethodName) prog_17_method_90_code (1 : Nat) (Option.some Jvm.ClassFile.FieldType.double)) ∈ lw_all := lw_g (lw_at lw_m11 236 rfl) rfl
theorem q2703 : (Jvm.Cond.methodLink "HorsehairTradeModel" (263 : Nat) ({ cls := "HorsehairTradeModel", name := "ofAll", desc := "(IIII)I" } : Jvm.MethodName)) ∈ lw_all := lw_g (lw_at lw_m11 237 rfl) rfl
theorem q2704 : (Jvm.Cond.privateMethod ({ cls := "HorsehairTradeModel", name := "ofAll", desc := "(IIII)I" } : Jvm.MethodName)) ∈ lw_tbl := lw_at lw_m11 238 rfl
theorem q2705 : (Jvm.Cond.instanceMethod ({ cls := "HorsehairTradeModel", name := "ofAll", desc := "(IIII)I" } : Jvm.MethodName)) ∈ lw_all := lw_g (lw_at lw_m11 239 rfl) rfl
theorem q2706 : (Jvm.Cond.code ({ cls := "HorsehairTradeModel", name := "ofAll", desc := "(IIII)I" } : Jvm.MethodName) prog_17_method_85_code (7 : Nat) (Option.some Jvm.ClassFile.FieldType.int)) ∈ lw_all := lw_g (lw_at lw_m12 0 rfl) rfl
theorem q2708 : (Jvm.Cond.instanceMethod ({ cls := "HorsehairTradeModel", name := "lostShare", desc := "()F" } : Jvm.MethodName)) ∈ lw_all := lw_g (lw_at lw_m12 2 rfl) rfl
theorem q2709 : (Jvm.Cond.selects "HorsehairTradeModel" ({ cls := "HorsehairTradeModel", name := "lostShare", desc := "()F" } : Jvm.MethodName) ({ cls := "HorsehairTradeModel", name := "lostShare", desc := "()F" } : Jvm.MethodName)) ∈ lw_all := lw_g (lw_at lw_m12 3 rfl) rfl
theorem q2710 : (Jvm.Cond.code ({ cls := "HorsehairTradeModel", name := "lostShare", desc := "()F" } : Jvm.MethodName) prog_17_method_91_code (1 : Nat) (Option.some Jvm.ClassFile.FieldType.float)) ∈ lw_all := lw_g (lw_at lw_m12 4 rfl) rfl
theorem q2712 : (Jvm.Cond.instanceMethod ({ cls := "HorsehairTradeModel", name := "account", desc := "(I)I" } : Jvm.MethodName)) ∈ lw_all := lw_g (lw_at lw_m12 6 rfl) rfl
theorem q2713 : (Jvm.Cond.selects "HorsehairTradeModel" ({ cls := "HorsehairTradeModel", name := "account", desc := "(I)I" } : Jvm.MethodName) ({ cls := "HorsehairTradeModel", name := "account", desc := "(I)I" } : Jvm.MethodName)) ∈ lw_all := lw_g (lw_at lw_m12 7 rfl) rfl
theorem q2714 : (Jvm.Cond.code ({ cls := "HorsehairTradeModel", name := "account", desc := "(I)I" } : Jvm.MethodName) prog_17_method_92_code (2 : Nat) (Option.some Jvm.ClassFile.FieldType.int)) ∈ lw_all := lw_g (lw_at lw_m12 8 rfl) rfl
theorem q2715 : (Jvm.Cond.methodLink "HorsehairTradeModel" (267 : Nat) ({ cls := "HorsehairTradeModel", name := "mixed", desc := "()I" } : Jvm.MethodName)) ∈ lw_all := lw_g (lw_at lw_m12 9 rfl) rfl
theorem q2716 : (Jvm.Cond.privateMethod ({ cls := "HorsehairTradeModel", name := "mixed", desc := "()I" } : Jvm.MethodName)) ∈ lw_tbl := lw_at lw_m12 10 rfl
theorem q2717 : (Jvm.Cond.instanceMethod ({ cls := "HorsehairTradeModel", name := "mixed", desc := "()I" } : Jvm.MethodName)) ∈ lw_all := lw_g (lw_at lw_m12 11 rfl) rfl
theorem q2718 : (Jvm.Cond.code ({ cls := "HorsehairTradeModel", name := "mixed", desc := "()I" } : Jvm.MethodName) prog_17_method_86_code (3 : Nat) (Option.some Jvm.ClassFile.FieldType.int)) ∈ lw_all := lw_g (lw_at lw_m12 12 rfl) rfl
theorem q2719 : (Jvm.Cond.methodLink "HorsehairTradeModel" (270 : Nat) ({ cls := "HorsehairTradeModel", name := "inTails", desc := "()I" } : Jvm.MethodName)) ∈ lw_all := lw_g (lw_at lw_m12 13 rfl) rfl
theorem q2720 : (Jvm.Cond.privateMethod ({ cls := "HorsehairTradeModel", name := "inTails", desc := "()I" } : Jvm.MethodName)) ∈ lw_tbl := lw_at lw_m12 14 rfl
theorem q2721 : (Jvm.Cond.instanceMethod ({ cls := "HorsehairTradeModel", name := "inTails", desc := "()I" } : Jvm.MethodName)) ∈ lw_all := lw_g (lw_at lw_m12 15 rfl) rfl
theorem q2722 : (Jvm.Cond.code ({ cls := "HorsehairTradeModel", name := "inTails", desc := "()I" } : Jvm.MethodName) prog_17_method_87_code (1 : Nat) (Option.some Jvm.ClassFile.FieldType.int)) ∈ lw_all := lw_g (lw_at lw_m12 16 rfl) rfl
theorem q2723 : (Jvm.Cond.methodLink "HorsehairTradeModel" (273 : Nat) ({ cls := "HorsehairTradeModel", name := "inHanks", desc := "()I" } : Jvm.MethodName)) ∈ lw_all := lw_g (lw_at lw_m12 17 rfl) rfl
theorem q2724 : (Jvm.Cond.privateMethod ({ cls := "HorsehairTradeModel", name := "inHanks", desc := "()I" } : Jvm.MethodName)) ∈ lw_tbl := lw_at lw_m12 18 rfl
theorem q2725 : (Jvm.Cond.instanceMethod ({ cls := "HorsehairTradeModel", name := "inHanks", desc := "()I" } : Jvm.MethodName)) ∈ lw_all := lw_g (lw_at lw_m12 19 rfl) rfl
theorem q2726 : (Jvm.Cond.code ({ cls := "HorsehairTradeModel", name := "inHanks", desc := "()I" } : Jvm.MethodName) prog_17_method_88_code (1 : Nat) (Option.some Jvm.ClassFile.FieldType.int)) ∈ lw_all := lw_g (lw_at lw_m12 20 rfl) rfl
theorem q2727 : (Jvm.Cond.methodLink "HorsehairTradeModel" (276 : Nat) ({ cls := "HorsehairTradeModel", name := "inBows", desc := "()I" } : Jvm.MethodName)) ∈ lw_all := lw_g (lw_at lw_m12 21 rfl) rfl
theorem q2728 : (Jvm.Cond.privateMethod ({ cls := "HorsehairTradeModel", name := "inBows", desc := "()I" } : Jvm.MethodName)) ∈ lw_tbl := lw_at lw_m12 22 rfl
theorem q2729 : (Jvm.Cond.instanceMethod ({ cls := "HorsehairTradeModel", name := "inBows", desc := "()I" } : Jvm.MethodName)) ∈ lw_all := lw_g (lw_at lw_m12 23 rfl) rfl
theorem q2730 : (Jvm.Cond.code ({ cls := "HorsehairTradeModel", name := "inBows", desc := "()I" } : Jvm.MethodName) prog_17_method_89_code (1 : Nat) (Option.some Jvm.ClassFile.FieldType.int)) ∈ lw_all := lw_g (lw_at lw_m12 24 rfl) rfl
theorem q2732 : (Jvm.Cond.instanceMethod ({ cls := "HorsehairTradeModel", name := "hairsAgain", desc := "()I" } : Jvm.MethodName)) ∈ lw_all := lw_g (lw_at lw_m12 26 rfl) rfl
theorem q2733 : (Jvm.Cond.selects "HorsehairTradeModel" ({ cls := "HorsehairTradeModel", name := "hairsAgain", desc := "()I" } : Jvm.MethodName) ({ cls := "HorsehairTradeModel", name := "hairsAgain", desc := "()I" } : Jvm.MethodName)) ∈ lw_all := lw_g (lw_at lw_m12 27 rfl) rfl
theorem q2734 : (Jvm.Cond.code ({ cls := "HorsehairTradeModel", name := "hairsAgain", desc := "()I" } : Jvm.MethodName) prog_17_method_93_code (1 : Nat) (Option.some Jvm.ClassFile.FieldType.int)) ∈ lw_all := lw_g (lw_at lw_m12 28 rfl) rfl
theorem q2736 : (Jvm.Cond.instanceMethod ({ cls := "HorsehairTradeModel", name := "undo", desc := "()I" } : Jvm.MethodName)) ∈ lw_all := lw_g (lw_at lw_m12 30 rfl) rfl
theorem q2737 : (Jvm.Cond.selects "HorsehairTradeModel" ({ cls := "HorsehairTradeModel", name := "undo", desc := "()I" } : Jvm.MethodName) ({ cls := "HorsehairTradeModel", name := "undo", desc := "()I" } : Jvm.MethodName)) ∈ lw_all := lw_g (lw_at lw_m12 31 rfl) rfl
theorem q2738 : (Jvm.Cond.code ({ cls := "HorsehairTradeModel", name := "undo", desc := "()I" } : Jvm.MethodName) prog_17_method_94_code (1 : Nat) (Option.some Jvm.ClassFile.FieldType.int)) ∈ lw_all := lw_g (lw_at lw_m12 32 rfl) rfl
theorem q2740 : (Jvm.Cond.instanceMethod ({ cls := "HorsehairTradeModel", name := "save", desc := "()I" } : Jvm.MethodName)) ∈ lw_all := lw_g (lw_at lw_m12 34 rfl) rfl
theorem q2741 : (Jvm.Cond.selects "HorsehairTradeModel" ({ cls := "HorsehairTradeModel", name := "save", desc := "()I" } : Jvm.MethodName) ({ cls := "HorsehairTradeModel", name := "save", desc := "()I" } : Jvm.MethodName)) ∈ lw_all := lw_g (lw_at lw_m12 35 rfl) rfl
theorem q2742 : (Jvm.Cond.code ({ cls := "HorsehairTradeModel", name := "save", desc := "()I" } : Jvm.MethodName) prog_17_method_95_code (1 : Nat) (Option.some Jvm.ClassFile.FieldType.int)) ∈ lw_all := lw_g (lw_at lw_m12 36 rfl) rfl
theorem q2744 : (Jvm.Cond.instanceMethod ({ cls := "HorsehairTradeModel", name := "restore", desc := "()I" } : Jvm.MethodName)) ∈ lw_all := lw_g (lw_at lw_m12 38 rfl) rfl
theorem q2745 : (Jvm.Cond.selects "HorsehairTradeModel" ({ cls := "HorsehairTradeModel", name := "restore", desc := "()I" } : Jvm.MethodName) ({ cls := "HorsehairTradeModel", name := "restore", desc := "()I" } : Jvm.MethodName)) ∈ lw_all := lw_g (lw_at lw_m12 39 rfl) rfl
theorem q2746 : (Jvm.Cond.code ({ cls := "HorsehairTradeModel", name := "restore", desc := "()I" } : Jvm.MethodName) prog_17_method_96_code (1 : Nat) (Option.some Jvm.ClassFile.FieldType.int)) ∈ lw_all := lw_g (lw_at lw_m12 40 rfl) rfl
theorem q2773 : (Jvm.Cond.castable "HorsehairTradeModel" "java/lang/Object") ∈ lw_tbl := lw_at lw_m12 67 rfl
theorem in_X4 : ∀ w ∈ wsX40, w ∈ lw_all := lw_in wsX40 [2335, 2337, 2339, 2341, 2343, 2345, 2347, 2349, 2351, 2353, 2355, 2357, 2359, 2361, 2363, 2365, 2367, 2369, 2371, 2373, 2375] (by decide +kernel) (by decide +kernel)
