/-! PaperMillModel -/
set_option maxRecDepth 100000
def RX8 : String := "PaperMillModel"
def TX8 : u_T := fun k => match k with
  | 0 => ("PaperMillModel", "now", "[I", true)
  | 1 => ("PaperMillModel", "past", "[I", true)
  | 2 => ("PaperMillModel", "states", "I", false)
  | 3 => ("PaperMillModel", "kept", "[I", true)
  | 4 => ("PaperMillModel", "isKept", "I", false)
  | 5 => ("PaperMillModel", "aside", "[I", true)
  | 6 => ("PaperMillModel", "pounds", "[I", true)
  | 7 => ("PaperMillModel", "mouldy", "[I", true)
  | 8 => ("PaperMillModel", "text", "[I", true)
  | 9 => ("PaperMillModel", "length", "I", false)
  | 10 => ("PaperMillModel", "thrown", "I", false)
  | 11 => ("PaperMillModel", "fresh", "I", false)
  | 12 => ("PaperMillModel", "spot", "I", false)
  | 13 => ("PaperMillModel", "told", "[I", true)
  | 14 => ("PaperMillModel", "toldMany", "I", false)
  | _ => ("PaperMillModel", "mix", "[I", true)
def tyX8 : Nat → FieldType := fun k => match k with
  | 0 => .array .int
  | 1 => .array .int
  | 2 => .int
  | 3 => .array .int
  | 4 => .int
  | 5 => .array .int
  | 6 => .array .int
  | 7 => .array .int
  | 8 => .array .int
  | 9 => .int
  | 10 => .int
  | 11 => .int
  | 12 => .int
  | 13 => .array .int
  | 14 => .int
  | _ => .array .int
abbrev wsX80 : List Cond := u_ws RX8 TX8 16
set_option maxRecDepth 100000 in
theorem nmX8 : ∀ a, a < 16 → ∀ b, b < 16 → a ≠ b → (TX8 a).2.1 ≠ (TX8 b).2.1 := by decide +kernel
set_option maxRecDepth 100000 in
theorem tyX8_ok : ∀ k, k < 16 → parseFieldDescriptor (TX8 k).2.2.1 = some (tyX8 k) := by decide +kernel
abbrev cX8_init : ByteArray := prog_26_method_1_code
def yX8_init : MethodName := ⟨RX8, "<init>", "()V"⟩
def dkwX8_init_6 : List UInt8 := [180, 0, 7, 16, 126, 6, 27, 104, 96, 27, 79, 132, 1, 1, 167, 255, 236, 177]
abbrev dktX8_init_6 : List UInt8 := dkwX8_init_6 ++ []
def dkwX8_init_5 : List UInt8 := [16, 13, 5, 27, 104, 96, 4, 96, 2, 79, 132, 1, 1, 167, 255, 234, 3, 60, 27, 8, 162, 0, 21, 42]
abbrev dktX8_init_5 : List UInt8 := dkwX8_init_5 ++ dktX8_init_6
def dkwX8_init_4 : List UInt8 := [6, 16, 60, 79, 42, 180, 0, 7, 16, 8, 4, 79, 3, 60, 27, 7, 162, 0, 23, 42, 180, 0, 7]
abbrev dktX8_init_4 : List UInt8 := dkwX8_init_4 ++ dktX8_init_5
def dkwX8_init_3 : List UInt8 := [181, 0, 31, 42, 16, 20, 188, 10, 181, 0, 34, 42, 180, 0, 7, 4, 17, 1, 244, 79, 42, 180, 0, 7]
abbrev dktX8_init_3 : List UInt8 := dkwX8_init_3 ++ dktX8_init_4
def dkwX8_init_2 : List UInt8 := [42, 16, 26, 188, 10, 181, 0, 25, 42, 16, 60, 188, 10, 181, 0, 28, 42, 17, 0, 186, 188, 10]
abbrev dktX8_init_2 : List UInt8 := dkwX8_init_2 ++ dktX8_init_3
def dkwX8_init_1 : List UInt8 := [17, 1, 65, 188, 10, 181, 0, 16, 42, 17, 1, 65, 188, 10, 181, 0, 19, 42, 7, 188, 10, 181, 0, 22]
abbrev dktX8_init_1 : List UInt8 := dkwX8_init_1 ++ dktX8_init_2
def dkwX8_init_0 : List UInt8 := [42, 183, 0, 1, 42, 17, 1, 65, 188, 10, 181, 0, 7, 42, 17, 6, 69, 188, 10, 181, 0, 13, 42]
abbrev dktX8_init_0 : List UInt8 := dkwX8_init_0 ++ dktX8_init_1
theorem dksX8_init_0 : cX8_init.data.toList.drop 0 = dktX8_init_0 := by decide +kernel
theorem dksX8_init_1 : cX8_init.data.toList.drop 23 = dktX8_init_1 := dk_seg dksX8_init_0 23 rfl rfl
theorem dksX8_init_2 : cX8_init.data.toList.drop 47 = dktX8_init_2 := dk_seg dksX8_init_1 24 rfl rfl
theorem dksX8_init_3 : cX8_init.data.toList.drop 69 = dktX8_init_3 := dk_seg dksX8_init_2 22 rfl rfl
theorem dksX8_init_4 : cX8_init.data.toList.drop 93 = dktX8_init_4 := dk_seg dksX8_init_3 24 rfl rfl
theorem dksX8_init_5 : cX8_init.data.toList.drop 116 = dktX8_init_5 := dk_seg dksX8_init_4 23 rfl rfl
theorem dksX8_init_6 : cX8_init.data.toList.drop 140 = dktX8_init_6 := dk_seg dksX8_init_5 24 rfl rfl
theorem dX8_init_0 : decode cX8_init 0 = .ok (.aload_n 0, 1) := dk_42 (dk_at dksX8_init_0 0 rfl rfl)
theorem dX8_init_1 : decode cX8_init 1 = .ok (.invokespecial 1, 3) := dk_183 0 1 (dk_at dksX8_init_0 1 rfl rfl)
theorem dX8_init_4 : decode cX8_init 4 = .ok (.aload_n 0, 1) := dk_42 (dk_at dksX8_init_0 4 rfl rfl)
theorem dX8_init_5 : decode cX8_init 5 = .ok (.sipush 321, 3) := dk_17 1 65 (dk_at dksX8_init_0 5 rfl rfl)
theorem dX8_init_8 : decode cX8_init 8 = .ok (.newarray .int, 2) := dk_188_10 (dk_at dksX8_init_0 8 rfl rfl)
theorem dX8_init_10 : decode cX8_init 10 = .ok (.putfield 7, 3) := dk_181 0 7 (dk_at dksX8_init_0 10 rfl rfl)
theorem dX8_init_13 : decode cX8_init 13 = .ok (.aload_n 0, 1) := dk_42 (dk_at dksX8_init_0 13 rfl rfl)
theorem dX8_init_14 : decode cX8_init 14 = .ok (.sipush 1605, 3) := dk_17 6 69 (dk_at dksX8_init_0 14 rfl rfl)
theorem dX8_init_17 : decode cX8_init 17 = .ok (.newarray .int, 2) := dk_188_10 (dk_at dksX8_init_0 17 rfl rfl)
theorem dX8_init_19 : decode cX8_init 19 = .ok (.putfield 13, 3) := dk_181 0 13 (dk_at dksX8_init_0 19 rfl rfl)
theorem dX8_init_22 : decode cX8_init 22 = .ok (.aload_n 0, 1) := dk_42 (dk_at dksX8_init_0 22 rfl rfl)
theorem dX8_init_23 : decode cX8_init 23 = .ok (.sipush 321, 3) := dk_17 1 65 (dk_at dksX8_init_1 0 rfl rfl)
theorem dX8_init_26 : decode cX8_init 26 = .ok (.newarray .int, 2) := dk_188_10 (dk_at dksX8_init_1 3 rfl rfl)
theorem dX8_init_28 : decode cX8_init 28 = .ok (.putfield 16, 3) := dk_181 0 16 (dk_at dksX8_init_1 5 rfl rfl)
theorem dX8_init_31 : decode cX8_init 31 = .ok (.aload_n 0, 1) := dk_42 (dk_at dksX8_init_1 8 rfl rfl)
theorem dX8_init_32 : decode cX8_init 32 = .ok (.sipush 321, 3) := dk_17 1 65 (dk_at dksX8_init_1 9 rfl rfl)
theorem dX8_init_35 : decode cX8_init 35 = .ok (.newarray .int, 2) := dk_188_10 (dk_at dksX8_init_1 12 rfl rfl)
theorem dX8_init_37 : decode cX8_init 37 = .ok (.putfield 19, 3) := dk_181 0 19 (dk_at dksX8_init_1 14 rfl rfl)
theorem dX8_init_40 : decode cX8_init 40 = .ok (.aload_n 0, 1) := dk_42 (dk_at dksX8_init_1 17 rfl rfl)
theorem dX8_init_41 : decode cX8_init 41 = .ok (.iconst 4, 1) := dk_7 (dk_at dksX8_init_1 18 rfl rfl)
theorem dX8_init_42 : decode cX8_init 42 = .ok (.newarray .int, 2) := dk_188_10 (dk_at dksX8_init_1 19 rfl rfl)
theorem dX8_init_44 : decode cX8_init 44 = .ok (.putfield 22, 3) := dk_181 0 22 (dk_at dksX8_init_1 21 rfl rfl)
theorem dX8_init_47 : decode cX8_init 47 = .ok (.aload_n 0, 1) := dk_42 (dk_at dksX8_init_2 0 rfl rfl)
theorem dX8_init_48 : decode cX8_init 48 = .ok (.bipush 26, 2) := dk_16 26 (dk_at dksX8_init_2 1 rfl rfl)
theorem dX8_init_50 : decode cX8_init 50 = .ok (.newarray .int, 2) := dk_188_10 (dk_at dksX8_init_2 3 rfl rfl)
theorem dX8_init_52 : decode cX8_init 52 = .ok (.putfield 25, 3) := dk_181 0 25 (dk_at dksX8_init_2 5 rfl rfl)
theorem dX8_init_55 : decode cX8_init 55 = .ok (.aload_n 0, 1) := dk_42 (dk_at dksX8_init_2 8 rfl rfl)
theorem dX8_init_56 : decode cX8_init 56 = .ok (.bipush 60, 2) := dk_16 60 (dk_at dksX8_init_2 9 rfl rfl)
theorem dX8_init_58 : decode cX8_init 58 = .ok (.newarray .int, 2) := dk_188_10 (dk_at dksX8_init_2 11 rfl rfl)
theorem dX8_init_60 : decode cX8_init 60 = .ok (.putfield 28, 3) := dk_181 0 28 (dk_at dksX8_init_2 13 rfl rfl)
theorem dX8_init_63 : decode cX8_init 63 = .ok (.aload_n 0, 1) := dk_42 (dk_at dksX8_init_2 16 rfl rfl)
theorem dX8_init_64 : decode cX8_init 64 = .ok (.sipush 186, 3) := dk_17 0 186 (dk_at dksX8_init_2 17 rfl rfl)
theorem dX8_init_67 : decode cX8_init 67 = .ok (.newarray .int, 2) := dk_188_10 (dk_at dksX8_init_2 20 rfl rfl)
theorem dX8_init_69 : decode cX8_init 69 = .ok (.putfield 31, 3) := dk_181 0 31 (dk_at dksX8_init_3 0 rfl rfl)
theorem dX8_init_72 : decode cX8_init 72 = .ok (.aload_n 0, 1) := dk_42 (dk_at dksX8_init_3 3 rfl rfl)
theorem dX8_init_73 : decode cX8_init 73 = .ok (.bipush 20, 2) := dk_16 20 (dk_at dksX8_init_3 4 rfl rfl)
theorem dX8_init_75 : decode cX8_init 75 = .ok (.newarray .int, 2) := dk_188_10 (dk_at dksX8_init_3 6 rfl rfl)
theorem dX8_init_77 : decode cX8_init 77 = .ok (.putfield 34, 3) := dk_181 0 34 (dk_at dksX8_init_3 8 rfl rfl)
theorem dX8_init_80 : decode cX8_init 80 = .ok (.aload_n 0, 1) := dk_42 (dk_at dksX8_init_3 11 rfl rfl)
theorem dX8_init_81 : decode cX8_init 81 = .ok (.getfield 7, 3) := dk_180 0 7 (dk_at dksX8_init_3 12 rfl rfl)
theorem dX8_init_84 : decode cX8_init 84 = .ok (.iconst 1, 1) := dk_4 (dk_at dksX8_init_3 15 rfl rfl)
theorem dX8_init_85 : decode cX8_init 85 = .ok (.sipush 500, 3) := dk_17 1 244 (dk_at dksX8_init_3 16 rfl rfl)
theorem dX8_init_88 : decode cX8_init 88 = .ok (.iastore, 1) := dk_79 (dk_at dksX8_init_3 19 rfl rfl)
theorem dX8_init_89 : decode cX8_init 89 = .ok (.aload_n 0, 1) := dk_42 (dk_at dksX8_init_3 20 rfl rfl)
theorem dX8_init_90 : decode cX8_init 90 = .ok (.getfield 7, 3) := dk_180 0 7 (dk_at dksX8_init_3 21 rfl rfl)
theorem dX8_init_93 : decode cX8_init 93 = .ok (.iconst 3, 1) := dk_6 (dk_at dksX8_init_4 0 rfl rfl)
theorem dX8_init_94 : decode cX8_init 94 = .ok (.bipush 60, 2) := dk_16 60 (dk_at dksX8_init_4 1 rfl rfl)
theorem dX8_init_96 : decode cX8_init 96 = .ok (.iastore, 1) := dk_79 (dk_at dksX8_init_4 3 rfl rfl)
theorem dX8_init_97 : decode cX8_init 97 = .ok (.aload_n 0, 1) := dk_42 (dk_at dksX8_init_4 4 rfl rfl)
theorem dX8_init_98 : decode cX8_init 98 = .ok (.getfield 7, 3) := dk_180 0 7 (dk_at dksX8_init_4 5 rfl rfl)
theorem dX8_init_101 : decode cX8_init 101 = .ok (.bipush 8, 2) := dk_16 8 (dk_at dksX8_init_4 8 rfl rfl)
theorem dX8_init_103 : decode cX8_init 103 = .ok (.iconst 1, 1) := dk_4 (dk_at dksX8_init_4 10 rfl rfl)
theorem dX8_init_104 : decode cX8_init 104 = .ok (.iastore, 1) := dk_79 (dk_at dksX8_init_4 11 rfl rfl)
theorem dX8_init_105 : decode cX8_init 105 = .ok (.iconst 0, 1) := dk_3 (dk_at dksX8_init_4 12 rfl rfl)
theorem dX8_init_106 : decode cX8_init 106 = .ok (.istore_n 1, 1) := dk_60 (dk_at dksX8_init_4 13 rfl rfl)
theorem dX8_init_107 : decode cX8_init 107 = .ok (.iload_n 1, 1) := dk_27 (dk_at dksX8_init_4 14 rfl rfl)
theorem dX8_init_108 : decode cX8_init 108 = .ok (.iconst 4, 1) := dk_7 (dk_at dksX8_init_4 15 rfl rfl)
theorem dX8_init_109 : decode cX8_init 109 = .ok (.if_icmp .ge 23, 3) := dk_162 0 23 (dk_at dksX8_init_4 16 rfl rfl)
theorem dX8_init_112 : decode cX8_init 112 = .ok (.aload_n 0, 1) := dk_42 (dk_at dksX8_init_4 19 rfl rfl)
theorem dX8_init_113 : decode cX8_init 113 = .ok (.getfield 7, 3) := dk_180 0 7 (dk_at dksX8_init_4 20 rfl rfl)
theorem dX8_init_116 : decode cX8_init 116 = .ok (.bipush 13, 2) := dk_16 13 (dk_at dksX8_init_5 0 rfl rfl)
theorem dX8_init_118 : decode cX8_init 118 = .ok (.iconst 2, 1) := dk_5 (dk_at dksX8_init_5 2 rfl rfl)
theorem dX8_init_119 : decode cX8_init 119 = .ok (.iload_n 1, 1) := dk_27 (dk_at dksX8_init_5 3 rfl rfl)
theorem dX8_init_120 : decode cX8_init 120 = .ok (.imul, 1) := dk_104 (dk_at dksX8_init_5 4 rfl rfl)
theorem dX8_init_121 : decode cX8_init 121 = .ok (.iadd, 1) := dk_96 (dk_at dksX8_init_5 5 rfl rfl)
theorem dX8_init_122 : decode cX8_init 122 = .ok (.iconst 1, 1) := dk_4 (dk_at dksX8_init_5 6 rfl rfl)
theorem dX8_init_123 : decode cX8_init 123 = .ok (.iadd, 1) := dk_96 (dk_at dksX8_init_5 7 rfl rfl)
theorem dX8_init_124 : decode cX8_init 124 = .ok (.iconst (-1), 1) := dk_2 (dk_at dksX8_init_5 8 rfl rfl)
theorem dX8_init_125 : decode cX8_init 125 = .ok (.iastore, 1) := dk_79 (dk_at dksX8_init_5 9 rfl rfl)
theorem dX8_init_126 : decode cX8_init 126 = .ok (.iinc 1 1, 3) := dk_132 1 1 (dk_at dksX8_init_5 10 rfl rfl)
theorem dX8_init_129 : decode cX8_init 129 = .ok (.goto (-22), 3) := dk_167 255 234 (dk_at dksX8_init_5 13 rfl rfl)
theorem dX8_init_132 : decode cX8_init 132 = .ok (.iconst 0, 1) := dk_3 (dk_at dksX8_init_5 16 rfl rfl)
theorem dX8_init_133 : decode cX8_init 133 = .ok (.istore_n 1, 1) := dk_60 (dk_at dksX8_init_5 17 rfl rfl)
theorem dX8_init_134 : decode cX8_init 134 = .ok (.iload_n 1, 1) := dk_27 (dk_at dksX8_init_5 18 rfl rfl)
theorem dX8_init_135 : decode cX8_init 135 = .ok (.iconst 5, 1) := dk_8 (dk_at dksX8_init_5 19 rfl rfl)
theorem dX8_init_136 : decode cX8_init 136 = .ok (.if_icmp .ge 21, 3) := dk_162 0 21 (dk_at dksX8_init_5 20 rfl rfl)
theorem dX8_init_139 : decode cX8_init 139 = .ok (.aload_n 0, 1) := dk_42 (dk_at dksX8_init_5 23 rfl rfl)
theorem dX8_init_140 : decode cX8_init 140 = .ok (.getfield 7, 3) := dk_180 0 7 (dk_at dksX8_init_6 0 rfl rfl)
theorem dX8_init_143 : decode cX8_init 143 = .ok (.bipush 126, 2) := dk_16 126 (dk_at dksX8_init_6 3 rfl rfl)
theorem dX8_init_145 : decode cX8_init 145 = .ok (.iconst 3, 1) := dk_6 (dk_at dksX8_init_6 5 rfl rfl)
theorem dX8_init_146 : decode cX8_init 146 = .ok (.iload_n 1, 1) := dk_27 (dk_at dksX8_init_6 6 rfl rfl)
theorem dX8_init_147 : decode cX8_init 147 = .ok (.imul, 1) := dk_104 (dk_at dksX8_init_6 7 rfl rfl)
theorem dX8_init_148 : decode cX8_init 148 = .ok (.iadd, 1) := dk_96 (dk_at dksX8_init_6 8 rfl rfl)
theorem dX8_init_149 : decode cX8_init 149 = .ok (.iload_n 1, 1) := dk_27 (dk_at dksX8_init_6 9 rfl rfl)
theorem dX8_init_150 : decode cX8_init 150 = .ok (.iastore, 1) := dk_79 (dk_at dksX8_init_6 10 rfl rfl)
theorem dX8_init_151 : decode cX8_init 151 = .ok (.iinc 1 1, 3) := dk_132 1 1 (dk_at dksX8_init_6 11 rfl rfl)
theorem dX8_init_154 : decode cX8_init 154 = .ok (.goto (-20), 3) := dk_167 255 236 (dk_at dksX8_init_6 14 rfl rfl)
theorem dX8_init_157 : decode cX8_init 157 = .ok (.return_, 1) := dk_177 (dk_at dksX8_init_6 17 rfl rfl)
abbrev cX8_thrown : ByteArray := prog_26_method_2_code
def yX8_thrown : MethodName := ⟨RX8, "thrown", "()I"⟩
theorem dX8_thrown_0 : decode cX8_thrown 0 = .ok (.aload_n 0, 1) := by decide +kernel
theorem dX8_thrown_1 : decode cX8_thrown 1 = .ok (.getfield 37, 3) := by decide +kernel
theorem dX8_thrown_4 : decode cX8_thrown 4 = .ok (.ireturn, 1) := by decide +kernel
abbrev cX8_deliver : ByteArray := prog_26_method_54_code
def yX8_deliver : MethodName := ⟨RX8, "deliver", "(IIII)I"⟩
def dkwX8_deliver_3 : List UInt8 := [42, 27, 28, 29, 21, 4, 182, 0, 154, 172]
abbrev dktX8_deliver_3 : List UInt8 := dkwX8_deliver_3 ++ []
def dkwX8_deliver_2 : List UInt8 := [154, 0, 7, 3, 167, 0, 4, 6, 181, 0, 37, 42, 180, 0, 37, 158, 0, 5, 3, 172, 42, 182, 0, 151]
abbrev dktX8_deliver_2 : List UInt8 := dkwX8_deliver_2 ++ dktX8_deliver_3
def dkwX8_deliver_1 : List UInt8 := [153, 0, 11, 21, 4, 184, 0, 144, 154, 0, 7, 5, 167, 0, 19, 42, 27, 29, 21, 4, 182, 0, 147]
abbrev dktX8_deliver_1 : List UInt8 := dkwX8_deliver_1 ++ dktX8_deliver_2
def dkwX8_deliver_0 : List UInt8 := [42, 27, 184, 0, 135, 154, 0, 7, 4, 167, 0, 45, 28, 184, 0, 138, 153, 0, 18, 29, 184, 0, 141]
abbrev dktX8_deliver_0 : List UInt8 := dkwX8_deliver_0 ++ dktX8_deliver_1
theorem dksX8_deliver_0 : cX8_deliver.data.toList.drop 0 = dktX8_deliver_0 := by decide +kernel
theorem dksX8_deliver_1 : cX8_deliver.data.toList.drop 23 = dktX8_deliver_1 := dk_seg dksX8_deliver_0 23 rfl rfl
theorem dksX8_deliver_2 : cX8_deliver.data.toList.drop 46 = dktX8_deliver_2 := dk_seg dksX8_deliver_1 23 rfl rfl
theorem dksX8_deliver_3 : cX8_deliver.data.toList.drop 70 = dktX8_deliver_3 := dk_seg dksX8_deliver_2 24 rfl rfl
theorem dX8_deliver_0 : decode cX8_deliver 0 = .ok (.aload_n 0, 1) := dk_42 (dk_at dksX8_deliver_0 0 rfl rfl)
theorem dX8_deliver_1 : decode cX8_deliver 1 = .ok (.iload_n 1, 1) := dk_27 (dk_at dksX8_deliver_0 1 rfl rfl)
theorem dX8_deliver_2 : decode cX8_deliver 2 = .ok (.invokestatic 135, 3) := dk_184 0 135 (dk_at dksX8_deliver_0 2 rfl rfl)
theorem dX8_deliver_5 : decode cX8_deliver 5 = .ok (.ifCond .ne 7, 3) := dk_154 0 7 (dk_at dksX8_deliver_0 5 rfl rfl)
theorem dX8_deliver_8 : decode cX8_deliver 8 = .ok (.iconst 1, 1) := dk_4 (dk_at dksX8_deliver_0 8 rfl rfl)
theorem dX8_deliver_9 : decode cX8_deliver 9 = .ok (.goto 45, 3) := dk_167 0 45 (dk_at dksX8_deliver_0 9 rfl rfl)
theorem dX8_deliver_12 : decode cX8_deliver 12 = .ok (.iload_n 2, 1) := dk_28 (dk_at dksX8_deliver_0 12 rfl rfl)
theorem dX8_deliver_13 : decode cX8_deliver 13 = .ok (.invokestatic 138, 3) := dk_184 0 138 (dk_at dksX8_deliver_0 13 rfl rfl)
theorem dX8_deliver_16 : decode cX8_deliver 16 = .ok (.ifCond .eq 18, 3) := dk_153 0 18 (dk_at dksX8_deliver_0 16 rfl rfl)
theorem dX8_deliver_19 : decode cX8_deliver 19 = .ok (.iload_n 3, 1) := dk_29 (dk_at dksX8_deliver_0 19 rfl rfl)
theorem dX8_deliver_20 : decode cX8_deliver 20 = .ok (.invokestatic 141, 3) := dk_184 0 141 (dk_at dksX8_deliver_0 20 rfl rfl)
theorem dX8_deliver_23 : decode cX8_deliver 23 = .ok (.ifCond .eq 11, 3) := dk_153 0 11 (dk_at dksX8_deliver_1 0 rfl rfl)
theorem dX8_deliver_26 : decode cX8_deliver 26 = .ok (.iload 4, 2) := dk_21 4 (dk_at dksX8_deliver_1 3 rfl rfl)
theorem dX8_deliver_28 : decode cX8_deliver 28 = .ok (.invokestatic 144, 3) := dk_184 0 144 (dk_at dksX8_deliver_1 5 rfl rfl)
theorem dX8_deliver_31 : decode cX8_deliver 31 = .ok (.ifCond .ne 7, 3) := dk_154 0 7 (dk_at dksX8_deliver_1 8 rfl rfl)
theorem dX8_deliver_34 : decode cX8_deliver 34 = .ok (.iconst 2, 1) := dk_5 (dk_at dksX8_deliver_1 11 rfl rfl)
theorem dX8_deliver_35 : decode cX8_deliver 35 = .ok (.goto 19, 3) := dk_167 0 19 (dk_at dksX8_deliver_1 12 rfl rfl)
theorem dX8_deliver_38 : decode cX8_deliver 38 = .ok (.aload_n 0, 1) := dk_42 (dk_at dksX8_deliver_1 15 rfl rfl)
theorem dX8_deliver_39 : decode cX8_deliver 39 = .ok (.iload_n 1, 1) := dk_27 (dk_at dksX8_deliver_1 16 rfl rfl)
theorem dX8_deliver_40 : decode cX8_deliver 40 = .ok (.iload_n 3, 1) := dk_29 (dk_at dksX8_deliver_1 17 rfl rfl)
theorem dX8_deliver_41 : decode cX8_deliver 41 = .ok (.iload 4, 2) := dk_21 4 (dk_at dksX8_deliver_1 18 rfl rfl)
theorem dX8_deliver_43 : decode cX8_deliver 43 = .ok (.invokevirtual 147, 3) := dk_182 0 147 (dk_at dksX8_deliver_1 20 rfl rfl)
theorem dX8_deliver_46 : decode cX8_deliver 46 = .ok (.ifCond .ne 7, 3) := dk_154 0 7 (dk_at dksX8_deliver_2 0 rfl rfl)
theorem dX8_deliver_49 : decode cX8_deliver 49 = .ok (.iconst 0, 1) := dk_3 (dk_at dksX8_deliver_2 3 rfl rfl)
theorem dX8_deliver_50 : decode cX8_deliver 50 = .ok (.goto 4, 3) := dk_167 0 4 (dk_at dksX8_deliver_2 4 rfl rfl)
theorem dX8_deliver_53 : decode cX8_deliver 53 = .ok (.iconst 3, 1) := dk_6 (dk_at dksX8_deliver_2 7 rfl rfl)
theorem dX8_deliver_54 : decode cX8_deliver 54 = .ok (.putfield 37, 3) := dk_181 0 37 (dk_at dksX8_deliver_2 8 rfl rfl)
theorem dX8_deliver_57 : decode cX8_deliver 57 = .ok (.aload_n 0, 1) := dk_42 (dk_at dksX8_deliver_2 11 rfl rfl)
theorem dX8_deliver_58 : decode cX8_deliver 58 = .ok (.getfield 37, 3) := dk_180 0 37 (dk_at dksX8_deliver_2 12 rfl rfl)
theorem dX8_deliver_61 : decode cX8_deliver 61 = .ok (.ifCond .le 5, 3) := dk_158 0 5 (dk_at dksX8_deliver_2 15 rfl rfl)
theorem dX8_deliver_64 : decode cX8_deliver 64 = .ok (.iconst 0, 1) := dk_3 (dk_at dksX8_deliver_2 18 rfl rfl)
theorem dX8_deliver_65 : decode cX8_deliver 65 = .ok (.ireturn, 1) := dk_172 (dk_at dksX8_deliver_2 19 rfl rfl)
theorem dX8_deliver_66 : decode cX8_deliver 66 = .ok (.aload_n 0, 1) := dk_42 (dk_at dksX8_deliver_2 20 rfl rfl)
theorem dX8_deliver_67 : decode cX8_deliver 67 = .ok (.invokevirtual 151, 3) := dk_182 0 151 (dk_at dksX8_deliver_2 21 rfl rfl)
theorem dX8_deliver_70 : decode cX8_deliver 70 = .ok (.aload_n 0, 1) := dk_42 (dk_at dksX8_deliver_3 0 rfl rfl)
theorem dX8_deliver_71 : decode cX8_deliver 71 = .ok (.iload_n 1, 1) := dk_27 (dk_at dksX8_deliver_3 1 rfl rfl)
theorem dX8_deliver_72 : decode cX8_deliver 72 = .ok (.iload_n 2, 1) := dk_28 (dk_at dksX8_deliver_3 2 rfl rfl)
theorem dX8_deliver_73 : decode cX8_deliver 73 = .ok (.iload_n 3, 1) := dk_29 (dk_at dksX8_deliver_3 3 rfl rfl)
theorem dX8_deliver_74 : decode cX8_deliver 74 = .ok (.iload 4, 2) := dk_21 4 (dk_at dksX8_deliver_3 4 rfl rfl)
theorem dX8_deliver_76 : decode cX8_deliver 76 = .ok (.invokevirtual 154, 3) := dk_182 0 154 (dk_at dksX8_deliver_3 6 rfl rfl)
theorem dX8_deliver_79 : decode cX8_deliver 79 = .ok (.ireturn, 1) := dk_172 (dk_at dksX8_deliver_3 9 rfl rfl)
abbrev cX8_isCarter : ByteArray := prog_26_method_9_code
def yX8_isCarter : MethodName := ⟨RX8, "isCarter", "(I)Z"⟩
def dkwX8_isCarter_0 : List UInt8 := [26, 3, 6, 184, 0, 48, 172]
abbrev dktX8_isCarter_0 : List UInt8 := dkwX8_isCarter_0 ++ []
theorem dksX8_isCarter_0 : cX8_isCarter.data.toList.drop 0 = dktX8_isCarter_0 := by decide +kernel
theorem dX8_isCarter_0 : decode cX8_isCarter 0 = .ok (.iload_n 0, 1) := dk_26 (dk_at dksX8_isCarter_0 0 rfl rfl)
theorem dX8_isCarter_1 : decode cX8_isCarter 1 = .ok (.iconst 0, 1) := dk_3 (dk_at dksX8_isCarter_0 1 rfl rfl)
theorem dX8_isCarter_2 : decode cX8_isCarter 2 = .ok (.iconst 3, 1) := dk_6 (dk_at dksX8_isCarter_0 2 rfl rfl)
theorem dX8_isCarter_3 : decode cX8_isCarter 3 = .ok (.invokestatic 48, 3) := dk_184 0 48 (dk_at dksX8_isCarter_0 3 rfl rfl)
theorem dX8_isCarter_6 : decode cX8_isCarter 6 = .ok (.ireturn, 1) := dk_172 (dk_at dksX8_isCarter_0 6 rfl rfl)
abbrev cX8_in : ByteArray := prog_26_method_4_code
def yX8_in : MethodName := ⟨RX8, "in", "(III)Z"⟩
def dkwX8_in_0 : List UInt8 := [26, 27, 161, 0, 12, 26, 28, 163, 0, 7, 4, 167, 0, 4, 3, 172]
abbrev dktX8_in_0 : List UInt8 := dkwX8_in_0 ++ []
theorem dksX8_in_0 : cX8_in.data.toList.drop 0 = dktX8_in_0 := by decide +kernel
theorem dX8_in_0 : decode cX8_in 0 = .ok (.iload_n 0, 1) := dk_26 (dk_at dksX8_in_0 0 rfl rfl)
theorem dX8_in_1 : decode cX8_in 1 = .ok (.iload_n 1, 1) := dk_27 (dk_at dksX8_in_0 1 rfl rfl)
theorem dX8_in_2 : decode cX8_in 2 = .ok (.if_icmp .lt 12, 3) := dk_161 0 12 (dk_at dksX8_in_0 2 rfl rfl)
theorem dX8_in_5 : decode cX8_in 5 = .ok (.iload_n 0, 1) := dk_26 (dk_at dksX8_in_0 5 rfl rfl)
theorem dX8_in_6 : decode cX8_in 6 = .ok (.iload_n 2, 1) := dk_28 (dk_at dksX8_in_0 6 rfl rfl)
theorem dX8_in_7 : decode cX8_in 7 = .ok (.if_icmp .gt 7, 3) := dk_163 0 7 (dk_at dksX8_in_0 7 rfl rfl)
theorem dX8_in_10 : decode cX8_in 10 = .ok (.iconst 1, 1) := dk_4 (dk_at dksX8_in_0 10 rfl rfl)
theorem dX8_in_11 : decode cX8_in 11 = .ok (.goto 4, 3) := dk_167 0 4 (dk_at dksX8_in_0 11 rfl rfl)
theorem dX8_in_14 : decode cX8_in 14 = .ok (.iconst 0, 1) := dk_3 (dk_at dksX8_in_0 14 rfl rfl)
theorem dX8_in_15 : decode cX8_in 15 = .ok (.ireturn, 1) := dk_172 (dk_at dksX8_in_0 15 rfl rfl)
abbrev cX8_isSort : ByteArray := prog_26_method_10_code
def yX8_isSort : MethodName := ⟨RX8, "isSort", "(I)Z"⟩
def dkwX8_isSort_0 : List UInt8 := [26, 3, 6, 184, 0, 48, 172]
abbrev dktX8_isSort_0 : List UInt8 := dkwX8_isSort_0 ++ []
theorem dksX8_isSort_0 : cX8_isSort.data.toList.drop 0 = dktX8_isSort_0 := by decide +kernel
theorem dX8_isSort_0 : decode cX8_isSort 0 = .ok (.iload_n 0, 1) := dk_26 (dk_at dksX8_isSort_0 0 rfl rfl)
theorem dX8_isSort_1 : decode cX8_isSort 1 = .ok (.iconst 0, 1) := dk_3 (dk_at dksX8_isSort_0 1 rfl rfl)
theorem dX8_isSort_2 : decode cX8_isSort 2 = .ok (.iconst 3, 1) := dk_6 (dk_at dksX8_isSort_0 2 rfl rfl)
theorem dX8_isSort_3 : decode cX8_isSort 3 = .ok (.invokestatic 48, 3) := dk_184 0 48 (dk_at dksX8_isSort_0 3 rfl rfl)
theorem dX8_isSort_6 : decode cX8_isSort 6 = .ok (.ireturn, 1) := dk_172 (dk_at dksX8_isSort_0 6 rfl rfl)
abbrev cX8_isWeight : ByteArray := prog_26_method_52_code
def yX8_isWeight : MethodName := ⟨RX8, "isWeight", "(I)Z"⟩
def dkwX8_isWeight_0 : List UInt8 := [26, 16, 10, 17, 1, 44, 184, 0, 48, 172]
abbrev dktX8_isWeight_0 : List UInt8 := dkwX8_isWeight_0 ++ []
theorem dksX8_isWeight_0 : cX8_isWeight.data.toList.drop 0 = dktX8_isWeight_0 := by decide +kernel
theorem dX8_isWeight_0 : decode cX8_isWeight 0 = .ok (.iload_n 0, 1) := dk_26 (dk_at dksX8_isWeight_0 0 rfl rfl)
theorem dX8_isWeight_1 : decode cX8_isWeight 1 = .ok (.bipush 10, 2) := dk_16 10 (dk_at dksX8_isWeight_0 1 rfl rfl)
theorem dX8_isWeight_3 : decode cX8_isWeight 3 = .ok (.sipush 300, 3) := dk_17 1 44 (dk_at dksX8_isWeight_0 3 rfl rfl)
theorem dX8_isWeight_6 : decode cX8_isWeight 6 = .ok (.invokestatic 48, 3) := dk_184 0 48 (dk_at dksX8_isWeight_0 6 rfl rfl)
theorem dX8_isWeight_9 : decode cX8_isWeight 9 = .ok (.ireturn, 1) := dk_172 (dk_at dksX8_isWeight_0 9 rfl rfl)
abbrev cX8_isDamp : ByteArray := prog_26_method_53_code
def yX8_isDamp : MethodName := ⟨RX8, "isDamp", "(I)Z"⟩
def dkwX8_isDamp_0 : List UInt8 := [26, 3, 16, 99, 184, 0, 48, 172]
abbrev dktX8_isDamp_0 : List UInt8 := dkwX8_isDamp_0 ++ []
theorem dksX8_isDamp_0 : cX8_isDamp.data.toList.drop 0 = dktX8_isDamp_0 := by decide +kernel
theorem dX8_isDamp_0 : decode cX8_isDamp 0 = .ok (.iload_n 0, 1) := dk_26 (dk_at dksX8_isDamp_0 0 rfl rfl)
theorem dX8_isDamp_1 : decode cX8_isDamp 1 = .ok (.iconst 0, 1) := dk_3 (dk_at dksX8_isDamp_0 1 rfl rfl)
theorem dX8_isDamp_2 : decode cX8_isDamp 2 = .ok (.bipush 99, 2) := dk_16 99 (dk_at dksX8_isDamp_0 2 rfl rfl)
theorem dX8_isDamp_4 : decode cX8_isDamp 4 = .ok (.invokestatic 48, 3) := dk_184 0 48 (dk_at dksX8_isDamp_0 4 rfl rfl)
theorem dX8_isDamp_7 : decode cX8_isDamp 7 = .ok (.ireturn, 1) := dk_172 (dk_at dksX8_isDamp_0 7 rfl rfl)
abbrev cX8_whyNot : ByteArray := prog_26_method_20_code
def yX8_whyNot : MethodName := ⟨RX8, "whyNot", "(III)I"⟩
def dkwX8_whyNot_2 : List UInt8 := [167, 0, 4, 3, 172]
abbrev dktX8_whyNot_2 : List UInt8 := dkwX8_whyNot_2 ++ []
def dkwX8_whyNot_1 : List UInt8 := [167, 0, 26, 42, 27, 182, 0, 60, 42, 27, 28, 182, 0, 64, 96, 17, 1, 44, 164, 0, 7, 6]
abbrev dktX8_whyNot_1 : List UInt8 := dkwX8_whyNot_1 ++ dktX8_whyNot_2
def dkwX8_whyNot_0 : List UInt8 := [42, 180, 0, 7, 7, 46, 16, 24, 160, 0, 5, 4, 172, 29, 42, 180, 0, 7, 6, 46, 164, 0, 7, 5]
abbrev dktX8_whyNot_0 : List UInt8 := dkwX8_whyNot_0 ++ dktX8_whyNot_1
theorem dksX8_whyNot_0 : cX8_whyNot.data.toList.drop 0 = dktX8_whyNot_0 := by decide +kernel
theorem dksX8_whyNot_1 : cX8_whyNot.data.toList.drop 24 = dktX8_whyNot_1 := dk_seg dksX8_whyNot_0 24 rfl rfl
theorem dksX8_whyNot_2 : cX8_whyNot.data.toList.drop 46 = dktX8_whyNot_2 := dk_seg dksX8_whyNot_1 22 rfl rfl
theorem dX8_whyNot_0 : decode cX8_whyNot 0 = .ok (.aload_n 0, 1) := dk_42 (dk_at dksX8_whyNot_0 0 rfl rfl)
theorem dX8_whyNot_1 : decode cX8_whyNot 1 = .ok (.getfield 7, 3) := dk_180 0 7 (dk_at dksX8_whyNot_0 1 rfl rfl)
theorem dX8_whyNot_4 : decode cX8_whyNot 4 = .ok (.iconst 4, 1) := dk_7 (dk_at dksX8_whyNot_0 4 rfl rfl)
theorem dX8_whyNot_5 : decode cX8_whyNot 5 = .ok (.iaload, 1) := dk_46 (dk_at dksX8_whyNot_0 5 rfl rfl)
theorem dX8_whyNot_6 : decode cX8_whyNot 6 = .ok (.bipush 24, 2) := dk_16 24 (dk_at dksX8_whyNot_0 6 rfl rfl)
theorem dX8_whyNot_8 : decode cX8_whyNot 8 = .ok (.if_icmp .ne 5, 3) := dk_160 0 5 (dk_at dksX8_whyNot_0 8 rfl rfl)
theorem dX8_whyNot_11 : decode cX8_whyNot 11 = .ok (.iconst 1, 1) := dk_4 (dk_at dksX8_whyNot_0 11 rfl rfl)
theorem dX8_whyNot_12 : decode cX8_whyNot 12 = .ok (.ireturn, 1) := dk_172 (dk_at dksX8_whyNot_0 12 rfl rfl)
theorem dX8_whyNot_13 : decode cX8_whyNot 13 = .ok (.iload_n 3, 1) := dk_29 (dk_at dksX8_whyNot_0 13 rfl rfl)
theorem dX8_whyNot_14 : decode cX8_whyNot 14 = .ok (.aload_n 0, 1) := dk_42 (dk_at dksX8_whyNot_0 14 rfl rfl)
theorem dX8_whyNot_15 : decode cX8_whyNot 15 = .ok (.getfield 7, 3) := dk_180 0 7 (dk_at dksX8_whyNot_0 15 rfl rfl)
theorem dX8_whyNot_18 : decode cX8_whyNot 18 = .ok (.iconst 3, 1) := dk_6 (dk_at dksX8_whyNot_0 18 rfl rfl)
theorem dX8_whyNot_19 : decode cX8_whyNot 19 = .ok (.iaload, 1) := dk_46 (dk_at dksX8_whyNot_0 19 rfl rfl)
theorem dX8_whyNot_20 : decode cX8_whyNot 20 = .ok (.if_icmp .le 7, 3) := dk_164 0 7 (dk_at dksX8_whyNot_0 20 rfl rfl)
theorem dX8_whyNot_23 : decode cX8_whyNot 23 = .ok (.iconst 2, 1) := dk_5 (dk_at dksX8_whyNot_0 23 rfl rfl)
theorem dX8_whyNot_24 : decode cX8_whyNot 24 = .ok (.goto 26, 3) := dk_167 0 26 (dk_at dksX8_whyNot_1 0 rfl rfl)
theorem dX8_whyNot_27 : decode cX8_whyNot 27 = .ok (.aload_n 0, 1) := dk_42 (dk_at dksX8_whyNot_1 3 rfl rfl)
theorem dX8_whyNot_28 : decode cX8_whyNot 28 = .ok (.iload_n 1, 1) := dk_27 (dk_at dksX8_whyNot_1 4 rfl rfl)
theorem dX8_whyNot_29 : decode cX8_whyNot 29 = .ok (.invokevirtual 60, 3) := dk_182 0 60 (dk_at dksX8_whyNot_1 5 rfl rfl)
theorem dX8_whyNot_32 : decode cX8_whyNot 32 = .ok (.aload_n 0, 1) := dk_42 (dk_at dksX8_whyNot_1 8 rfl rfl)
theorem dX8_whyNot_33 : decode cX8_whyNot 33 = .ok (.iload_n 1, 1) := dk_27 (dk_at dksX8_whyNot_1 9 rfl rfl)
theorem dX8_whyNot_34 : decode cX8_whyNot 34 = .ok (.iload_n 2, 1) := dk_28 (dk_at dksX8_whyNot_1 10 rfl rfl)
theorem dX8_whyNot_35 : decode cX8_whyNot 35 = .ok (.invokevirtual 64, 3) := dk_182 0 64 (dk_at dksX8_whyNot_1 11 rfl rfl)
theorem dX8_whyNot_38 : decode cX8_whyNot 38 = .ok (.iadd, 1) := dk_96 (dk_at dksX8_whyNot_1 14 rfl rfl)
theorem dX8_whyNot_39 : decode cX8_whyNot 39 = .ok (.sipush 300, 3) := dk_17 1 44 (dk_at dksX8_whyNot_1 15 rfl rfl)
theorem dX8_whyNot_42 : decode cX8_whyNot 42 = .ok (.if_icmp .le 7, 3) := dk_164 0 7 (dk_at dksX8_whyNot_1 18 rfl rfl)
theorem dX8_whyNot_45 : decode cX8_whyNot 45 = .ok (.iconst 3, 1) := dk_6 (dk_at dksX8_whyNot_1 21 rfl rfl)
theorem dX8_whyNot_46 : decode cX8_whyNot 46 = .ok (.goto 4, 3) := dk_167 0 4 (dk_at dksX8_whyNot_2 0 rfl rfl)
theorem dX8_whyNot_49 : decode cX8_whyNot 49 = .ok (.iconst 0, 1) := dk_3 (dk_at dksX8_whyNot_2 3 rfl rfl)
theorem dX8_whyNot_50 : decode cX8_whyNot 50 = .ok (.ireturn, 1) := dk_172 (dk_at dksX8_whyNot_2 4 rfl rfl)
abbrev cX8_debt : ByteArray := prog_26_method_17_code
def yX8_debt : MethodName := ⟨RX8, "debt", "(I)I"⟩
def dkwX8_debt_0 : List UInt8 := [42, 180, 0, 7, 16, 13, 5, 27, 104, 96, 46, 172]
abbrev dktX8_debt_0 : List UInt8 := dkwX8_debt_0 ++ []
theorem dksX8_debt_0 : cX8_debt.data.toList.drop 0 = dktX8_debt_0 := by decide +kernel
theorem dX8_debt_0 : decode cX8_debt 0 = .ok (.aload_n 0, 1) := dk_42 (dk_at dksX8_debt_0 0 rfl rfl)
theorem dX8_debt_1 : decode cX8_debt 1 = .ok (.getfield 7, 3) := dk_180 0 7 (dk_at dksX8_debt_0 1 rfl rfl)
theorem dX8_debt_4 : decode cX8_debt 4 = .ok (.bipush 13, 2) := dk_16 13 (dk_at dksX8_debt_0 4 rfl rfl)
theorem dX8_debt_6 : decode cX8_debt 6 = .ok (.iconst 2, 1) := dk_5 (dk_at dksX8_debt_0 6 rfl rfl)
theorem dX8_debt_7 : decode cX8_debt 7 = .ok (.iload_n 1, 1) := dk_27 (dk_at dksX8_debt_0 7 rfl rfl)
theorem dX8_debt_8 : decode cX8_debt 8 = .ok (.imul, 1) := dk_104 (dk_at dksX8_debt_0 8 rfl rfl)
theorem dX8_debt_9 : decode cX8_debt 9 = .ok (.iadd, 1) := dk_96 (dk_at dksX8_debt_0 9 rfl rfl)
theorem dX8_debt_10 : decode cX8_debt 10 = .ok (.iaload, 1) := dk_46 (dk_at dksX8_debt_0 10 rfl rfl)
theorem dX8_debt_11 : decode cX8_debt 11 = .ok (.ireturn, 1) := dk_172 (dk_at dksX8_debt_0 11 rfl rfl)
abbrev cX8_toll : ByteArray := prog_26_method_19_code
def yX8_toll : MethodName := ⟨RX8, "toll", "(II)I"⟩
def dkwX8_toll_0 : List UInt8 := [28, 16, 9, 96, 16, 10, 108, 62, 42, 27, 182, 0, 56, 153, 0, 7, 29, 167, 0, 6, 5, 29, 104, 172]
abbrev dktX8_toll_0 : List UInt8 := dkwX8_toll_0 ++ []
theorem dksX8_toll_0 : cX8_toll.data.toList.drop 0 = dktX8_toll_0 := by decide +kernel
theorem dX8_toll_0 : decode cX8_toll 0 = .ok (.iload_n 2, 1) := dk_28 (dk_at dksX8_toll_0 0 rfl rfl)
theorem dX8_toll_1 : decode cX8_toll 1 = .ok (.bipush 9, 2) := dk_16 9 (dk_at dksX8_toll_0 1 rfl rfl)
theorem dX8_toll_3 : decode cX8_toll 3 = .ok (.iadd, 1) := dk_96 (dk_at dksX8_toll_0 3 rfl rfl)
theorem dX8_toll_4 : decode cX8_toll 4 = .ok (.bipush 10, 2) := dk_16 10 (dk_at dksX8_toll_0 4 rfl rfl)
theorem dX8_toll_6 : decode cX8_toll 6 = .ok (.idiv, 1) := dk_108 (dk_at dksX8_toll_0 6 rfl rfl)
theorem dX8_toll_7 : decode cX8_toll 7 = .ok (.istore_n 3, 1) := dk_62 (dk_at dksX8_toll_0 7 rfl rfl)
theorem dX8_toll_8 : decode cX8_toll 8 = .ok (.aload_n 0, 1) := dk_42 (dk_at dksX8_toll_0 8 rfl rfl)
theorem dX8_toll_9 : decode cX8_toll 9 = .ok (.iload_n 1, 1) := dk_27 (dk_at dksX8_toll_0 9 rfl rfl)
theorem dX8_toll_10 : decode cX8_toll 10 = .ok (.invokevirtual 56, 3) := dk_182 0 56 (dk_at dksX8_toll_0 10 rfl rfl)
theorem dX8_toll_13 : decode cX8_toll 13 = .ok (.ifCond .eq 7, 3) := dk_153 0 7 (dk_at dksX8_toll_0 13 rfl rfl)
theorem dX8_toll_16 : decode cX8_toll 16 = .ok (.iload_n 3, 1) := dk_29 (dk_at dksX8_toll_0 16 rfl rfl)
theorem dX8_toll_17 : decode cX8_toll 17 = .ok (.goto 6, 3) := dk_167 0 6 (dk_at dksX8_toll_0 17 rfl rfl)
theorem dX8_toll_20 : decode cX8_toll 20 = .ok (.iconst 2, 1) := dk_5 (dk_at dksX8_toll_0 20 rfl rfl)
theorem dX8_toll_21 : decode cX8_toll 21 = .ok (.iload_n 3, 1) := dk_29 (dk_at dksX8_toll_0 21 rfl rfl)
theorem dX8_toll_22 : decode cX8_toll 22 = .ok (.imul, 1) := dk_104 (dk_at dksX8_toll_0 22 rfl rfl)
theorem dX8_toll_23 : decode cX8_toll 23 = .ok (.ireturn, 1) := dk_172 (dk_at dksX8_toll_0 23 rfl rfl)
abbrev cX8_hasPass : ByteArray := prog_26_method_18_code
def yX8_hasPass : MethodName := ⟨RX8, "hasPass", "(I)Z"⟩
def dkwX8_hasPass_1 : List UInt8 := [167, 0, 4, 3, 172]
abbrev dktX8_hasPass_1 : List UInt8 := dkwX8_hasPass_1 ++ []
def dkwX8_hasPass_0 : List UInt8 := [42, 180, 0, 7, 16, 13, 5, 27, 104, 96, 4, 96, 46, 42, 180, 0, 7, 3, 46, 161, 0, 7, 4]
abbrev dktX8_hasPass_0 : List UInt8 := dkwX8_hasPass_0 ++ dktX8_hasPass_1
theorem dksX8_hasPass_0 : cX8_hasPass.data.toList.drop 0 = dktX8_hasPass_0 := by decide +kernel
theorem dksX8_hasPass_1 : cX8_hasPass.data.toList.drop 23 = dktX8_hasPass_1 := dk_seg dksX8_hasPass_0 23 rfl rfl
theorem dX8_hasPass_0 : decode cX8_hasPass 0 = .ok (.aload_n 0, 1) := dk_42 (dk_at dksX8_hasPass_0 0 rfl rfl)
theorem dX8_hasPass_1 : decode cX8_hasPass 1 = .ok (.getfield 7, 3) := dk_180 0 7 (dk_at dksX8_hasPass_0 1 rfl rfl)
theorem dX8_hasPass_4 : decode cX8_hasPass 4 = .ok (.bipush 13, 2) := dk_16 13 (dk_at dksX8_hasPass_0 4 rfl rfl)
theorem dX8_hasPass_6 : decode cX8_hasPass 6 = .ok (.iconst 2, 1) := dk_5 (dk_at dksX8_hasPass_0 6 rfl rfl)
theorem dX8_hasPass_7 : decode cX8_hasPass 7 = .ok (.iload_n 1, 1) := dk_27 (dk_at dksX8_hasPass_0 7 rfl rfl)
theorem dX8_hasPass_8 : decode cX8_hasPass 8 = .ok (.imul, 1) := dk_104 (dk_at dksX8_hasPass_0 8 rfl rfl)
theorem dX8_hasPass_9 : decode cX8_hasPass 9 = .ok (.iadd, 1) := dk_96 (dk_at dksX8_hasPass_0 9 rfl rfl)
theorem dX8_hasPass_10 : decode cX8_hasPass 10 = .ok (.iconst 1, 1) := dk_4 (dk_at dksX8_hasPass_0 10 rfl rfl)
theorem dX8_hasPass_11 : decode cX8_hasPass 11 = .ok (.iadd, 1) := dk_96 (dk_at dksX8_hasPass_0 11 rfl rfl)
theorem dX8_hasPass_12 : decode cX8_hasPass 12 = .ok (.iaload, 1) := dk_46 (dk_at dksX8_hasPass_0 12 rfl rfl)
theorem dX8_hasPass_13 : decode cX8_hasPass 13 = .ok (.aload_n 0, 1) := dk_42 (dk_at dksX8_hasPass_0 13 rfl rfl)
theorem dX8_hasPass_14 : decode cX8_hasPass 14 = .ok (.getfield 7, 3) := dk_180 0 7 (dk_at dksX8_hasPass_0 14 rfl rfl)
theorem dX8_hasPass_17 : decode cX8_hasPass 17 = .ok (.iconst 0, 1) := dk_3 (dk_at dksX8_hasPass_0 17 rfl rfl)
theorem dX8_hasPass_18 : decode cX8_hasPass 18 = .ok (.iaload, 1) := dk_46 (dk_at dksX8_hasPass_0 18 rfl rfl)
theorem dX8_hasPass_19 : decode cX8_hasPass 19 = .ok (.if_icmp .lt 7, 3) := dk_161 0 7 (dk_at dksX8_hasPass_0 19 rfl rfl)
theorem dX8_hasPass_22 : decode cX8_hasPass 22 = .ok (.iconst 1, 1) := dk_4 (dk_at dksX8_hasPass_0 22 rfl rfl)
theorem dX8_hasPass_23 : decode cX8_hasPass 23 = .ok (.goto 4, 3) := dk_167 0 4 (dk_at dksX8_hasPass_1 0 rfl rfl)
theorem dX8_hasPass_26 : decode cX8_hasPass 26 = .ok (.iconst 0, 1) := dk_3 (dk_at dksX8_hasPass_1 3 rfl rfl)
theorem dX8_hasPass_27 : decode cX8_hasPass 27 = .ok (.ireturn, 1) := dk_172 (dk_at dksX8_hasPass_1 4 rfl rfl)
abbrev cX8_saves : ByteArray := prog_26_method_7_code
def yX8_saves : MethodName := ⟨RX8, "saves", "()V"⟩
def dkwX8_saves_3 : List UInt8 := [89, 180, 0, 41, 4, 96, 181, 0, 41, 177]
abbrev dktX8_saves_3 : List UInt8 := dkwX8_saves_3 ++ []
def dkwX8_saves_2 : List UInt8 := [181, 0, 41, 42, 180, 0, 7, 3, 42, 180, 0, 13, 17, 1, 65, 42, 180, 0, 41, 104, 184, 0, 44, 42]
abbrev dktX8_saves_2 : List UInt8 := dkwX8_saves_2 ++ dktX8_saves_3
def dkwX8_saves_1 : List UInt8 := [180, 0, 13, 27, 17, 1, 65, 96, 46, 79, 132, 1, 1, 167, 255, 230, 42, 89, 180, 0, 41, 4, 100]
abbrev dktX8_saves_1 : List UInt8 := dkwX8_saves_1 ++ dktX8_saves_2
def dkwX8_saves_0 : List UInt8 := [42, 180, 0, 41, 8, 160, 0, 44, 3, 60, 27, 17, 5, 4, 162, 0, 25, 42, 180, 0, 13, 27, 42]
abbrev dktX8_saves_0 : List UInt8 := dkwX8_saves_0 ++ dktX8_saves_1
theorem dksX8_saves_0 : cX8_saves.data.toList.drop 0 = dktX8_saves_0 := by decide +kernel
theorem dksX8_saves_1 : cX8_saves.data.toList.drop 23 = dktX8_saves_1 := dk_seg dksX8_saves_0 23 rfl rfl
theorem dksX8_saves_2 : cX8_saves.data.toList.drop 46 = dktX8_saves_2 := dk_seg dksX8_saves_1 23 rfl rfl
theorem dksX8_saves_3 : cX8_saves.data.toList.drop 70 = dktX8_saves_3 := dk_seg dksX8_saves_2 24 rfl rfl
theorem dX8_saves_0 : decode cX8_saves 0 = .ok (.aload_n 0, 1) := dk_42 (dk_at dksX8_saves_0 0 rfl rfl)
theorem dX8_saves_1 : decode cX8_saves 1 = .ok (.getfield 41, 3) := dk_180 0 41 (dk_at dksX8_saves_0 1 rfl rfl)
theorem dX8_saves_4 : decode cX8_saves 4 = .ok (.iconst 5, 1) := dk_8 (dk_at dksX8_saves_0 4 rfl rfl)
theorem dX8_saves_5 : decode cX8_saves 5 = .ok (.if_icmp .ne 44, 3) := dk_160 0 44 (dk_at dksX8_saves_0 5 rfl rfl)
theorem dX8_saves_8 : decode cX8_saves 8 = .ok (.iconst 0, 1) := dk_3 (dk_at dksX8_saves_0 8 rfl rfl)
theorem dX8_saves_9 : decode cX8_saves 9 = .ok (.istore_n 1, 1) := dk_60 (dk_at dksX8_saves_0 9 rfl rfl)
theorem dX8_saves_10 : decode cX8_saves 10 = .ok (.iload_n 1, 1) := dk_27 (dk_at dksX8_saves_0 10 rfl rfl)
theorem dX8_saves_11 : decode cX8_saves 11 = .ok (.sipush 1284, 3) := dk_17 5 4 (dk_at dksX8_saves_0 11 rfl rfl)
theorem dX8_saves_14 : decode cX8_saves 14 = .ok (.if_icmp .ge 25, 3) := dk_162 0 25 (dk_at dksX8_saves_0 14 rfl rfl)
theorem dX8_saves_17 : decode cX8_saves 17 = .ok (.aload_n 0, 1) := dk_42 (dk_at dksX8_saves_0 17 rfl rfl)
theorem dX8_saves_18 : decode cX8_saves 18 = .ok (.getfield 13, 3) := dk_180 0 13 (dk_at dksX8_saves_0 18 rfl rfl)
theorem dX8_saves_21 : decode cX8_saves 21 = .ok (.iload_n 1, 1) := dk_27 (dk_at dksX8_saves_0 21 rfl rfl)
theorem dX8_saves_22 : decode cX8_saves 22 = .ok (.aload_n 0, 1) := dk_42 (dk_at dksX8_saves_0 22 rfl rfl)
theorem dX8_saves_23 : decode cX8_saves 23 = .ok (.getfield 13, 3) := dk_180 0 13 (dk_at dksX8_saves_1 0 rfl rfl)
theorem dX8_saves_26 : decode cX8_saves 26 = .ok (.iload_n 1, 1) := dk_27 (dk_at dksX8_saves_1 3 rfl rfl)
theorem dX8_saves_27 : decode cX8_saves 27 = .ok (.sipush 321, 3) := dk_17 1 65 (dk_at dksX8_saves_1 4 rfl rfl)
theorem dX8_saves_30 : decode cX8_saves 30 = .ok (.iadd, 1) := dk_96 (dk_at dksX8_saves_1 7 rfl rfl)
theorem dX8_saves_31 : decode cX8_saves 31 = .ok (.iaload, 1) := dk_46 (dk_at dksX8_saves_1 8 rfl rfl)
theorem dX8_saves_32 : decode cX8_saves 32 = .ok (.iastore, 1) := dk_79 (dk_at dksX8_saves_1 9 rfl rfl)
theorem dX8_saves_33 : decode cX8_saves 33 = .ok (.iinc 1 1, 3) := dk_132 1 1 (dk_at dksX8_saves_1 10 rfl rfl)
theorem dX8_saves_36 : decode cX8_saves 36 = .ok (.goto (-26), 3) := dk_167 255 230 (dk_at dksX8_saves_1 13 rfl rfl)
theorem dX8_saves_39 : decode cX8_saves 39 = .ok (.aload_n 0, 1) := dk_42 (dk_at dksX8_saves_1 16 rfl rfl)
theorem dX8_saves_40 : decode cX8_saves 40 = .ok (.dup, 1) := dk_89 (dk_at dksX8_saves_1 17 rfl rfl)
theorem dX8_saves_41 : decode cX8_saves 41 = .ok (.getfield 41, 3) := dk_180 0 41 (dk_at dksX8_saves_1 18 rfl rfl)
theorem dX8_saves_44 : decode cX8_saves 44 = .ok (.iconst 1, 1) := dk_4 (dk_at dksX8_saves_1 21 rfl rfl)
theorem dX8_saves_45 : decode cX8_saves 45 = .ok (.isub, 1) := dk_100 (dk_at dksX8_saves_1 22 rfl rfl)
theorem dX8_saves_46 : decode cX8_saves 46 = .ok (.putfield 41, 3) := dk_181 0 41 (dk_at dksX8_saves_2 0 rfl rfl)
theorem dX8_saves_49 : decode cX8_saves 49 = .ok (.aload_n 0, 1) := dk_42 (dk_at dksX8_saves_2 3 rfl rfl)
theorem dX8_saves_50 : decode cX8_saves 50 = .ok (.getfield 7, 3) := dk_180 0 7 (dk_at dksX8_saves_2 4 rfl rfl)
theorem dX8_saves_53 : decode cX8_saves 53 = .ok (.iconst 0, 1) := dk_3 (dk_at dksX8_saves_2 7 rfl rfl)
theorem dX8_saves_54 : decode cX8_saves 54 = .ok (.aload_n 0, 1) := dk_42 (dk_at dksX8_saves_2 8 rfl rfl)
theorem dX8_saves_55 : decode cX8_saves 55 = .ok (.getfield 13, 3) := dk_180 0 13 (dk_at dksX8_saves_2 9 rfl rfl)
theorem dX8_saves_58 : decode cX8_saves 58 = .ok (.sipush 321, 3) := dk_17 1 65 (dk_at dksX8_saves_2 12 rfl rfl)
theorem dX8_saves_61 : decode cX8_saves 61 = .ok (.aload_n 0, 1) := dk_42 (dk_at dksX8_saves_2 15 rfl rfl)
theorem dX8_saves_62 : decode cX8_saves 62 = .ok (.getfield 41, 3) := dk_180 0 41 (dk_at dksX8_saves_2 16 rfl rfl)
theorem dX8_saves_65 : decode cX8_saves 65 = .ok (.imul, 1) := dk_104 (dk_at dksX8_saves_2 19 rfl rfl)
theorem dX8_saves_66 : decode cX8_saves 66 = .ok (.invokestatic 44, 3) := dk_184 0 44 (dk_at dksX8_saves_2 20 rfl rfl)
theorem dX8_saves_69 : decode cX8_saves 69 = .ok (.aload_n 0, 1) := dk_42 (dk_at dksX8_saves_2 23 rfl rfl)
theorem dX8_saves_70 : decode cX8_saves 70 = .ok (.dup, 1) := dk_89 (dk_at dksX8_saves_3 0 rfl rfl)
theorem dX8_saves_71 : decode cX8_saves 71 = .ok (.getfield 41, 3) := dk_180 0 41 (dk_at dksX8_saves_3 1 rfl rfl)
theorem dX8_saves_74 : decode cX8_saves 74 = .ok (.iconst 1, 1) := dk_4 (dk_at dksX8_saves_3 4 rfl rfl)
theorem dX8_saves_75 : decode cX8_saves 75 = .ok (.iadd, 1) := dk_96 (dk_at dksX8_saves_3 5 rfl rfl)
theorem dX8_saves_76 : decode cX8_saves 76 = .ok (.putfield 41, 3) := dk_181 0 41 (dk_at dksX8_saves_3 6 rfl rfl)
theorem dX8_saves_79 : decode cX8_saves 79 = .ok (.return_, 1) := dk_177 (dk_at dksX8_saves_3 9 rfl rfl)
abbrev cX8_lays : ByteArray := prog_26_method_6_code
def yX8_lays : MethodName := ⟨RX8, "lays", "([II[II)V"⟩
def dkwX8_lays_1 : List UInt8 := [132, 4, 1, 167, 255, 233, 177]
abbrev dktX8_lays_1 : List UInt8 := dkwX8_lays_1 ++ []
def dkwX8_lays_0 : List UInt8 := [3, 54, 4, 21, 4, 17, 1, 65, 162, 0, 21, 44, 29, 21, 4, 96, 42, 27, 21, 4, 96, 46, 79]
abbrev dktX8_lays_0 : List UInt8 := dkwX8_lays_0 ++ dktX8_lays_1
theorem dksX8_lays_0 : cX8_lays.data.toList.drop 0 = dktX8_lays_0 := by decide +kernel
theorem dksX8_lays_1 : cX8_lays.data.toList.drop 23 = dktX8_lays_1 := dk_seg dksX8_lays_0 23 rfl rfl
theorem dX8_lays_0 : decode cX8_lays 0 = .ok (.iconst 0, 1) := dk_3 (dk_at dksX8_lays_0 0 rfl rfl)
theorem dX8_lays_1 : decode cX8_lays 1 = .ok (.istore 4, 2) := dk_54 4 (dk_at dksX8_lays_0 1 rfl rfl)
theorem dX8_lays_3 : decode cX8_lays 3 = .ok (.iload 4, 2) := dk_21 4 (dk_at dksX8_lays_0 3 rfl rfl)
theorem dX8_lays_5 : decode cX8_lays 5 = .ok (.sipush 321, 3) := dk_17 1 65 (dk_at dksX8_lays_0 5 rfl rfl)
theorem dX8_lays_8 : decode cX8_lays 8 = .ok (.if_icmp .ge 21, 3) := dk_162 0 21 (dk_at dksX8_lays_0 8 rfl rfl)
theorem dX8_lays_11 : decode cX8_lays 11 = .ok (.aload_n 2, 1) := dk_44 (dk_at dksX8_lays_0 11 rfl rfl)
theorem dX8_lays_12 : decode cX8_lays 12 = .ok (.iload_n 3, 1) := dk_29 (dk_at dksX8_lays_0 12 rfl rfl)
theorem dX8_lays_13 : decode cX8_lays 13 = .ok (.iload 4, 2) := dk_21 4 (dk_at dksX8_lays_0 13 rfl rfl)
theorem dX8_lays_15 : decode cX8_lays 15 = .ok (.iadd, 1) := dk_96 (dk_at dksX8_lays_0 15 rfl rfl)
theorem dX8_lays_16 : decode cX8_lays 16 = .ok (.aload_n 0, 1) := dk_42 (dk_at dksX8_lays_0 16 rfl rfl)
theorem dX8_lays_17 : decode cX8_lays 17 = .ok (.iload_n 1, 1) := dk_27 (dk_at dksX8_lays_0 17 rfl rfl)
theorem dX8_lays_18 : decode cX8_lays 18 = .ok (.iload 4, 2) := dk_21 4 (dk_at dksX8_lays_0 18 rfl rfl)
theorem dX8_lays_20 : decode cX8_lays 20 = .ok (.iadd, 1) := dk_96 (dk_at dksX8_lays_0 20 rfl rfl)
theorem dX8_lays_21 : decode cX8_lays 21 = .ok (.iaload, 1) := dk_46 (dk_at dksX8_lays_0 21 rfl rfl)
theorem dX8_lays_22 : decode cX8_lays 22 = .ok (.iastore, 1) := dk_79 (dk_at dksX8_lays_0 22 rfl rfl)
theorem dX8_lays_23 : decode cX8_lays 23 = .ok (.iinc 4 1, 3) := dk_132 4 1 (dk_at dksX8_lays_1 0 rfl rfl)
theorem dX8_lays_26 : decode cX8_lays 26 = .ok (.goto (-23), 3) := dk_167 255 233 (dk_at dksX8_lays_1 3 rfl rfl)
theorem dX8_lays_29 : decode cX8_lays 29 = .ok (.return_, 1) := dk_177 (dk_at dksX8_lays_1 6 rfl rfl)
abbrev cX8_comes : ByteArray := prog_26_method_21_code
def yX8_comes : MethodName := ⟨RX8, "comes", "(IIII)I"⟩
def dkwX8_comes_3 : List UInt8 := [182, 0, 67, 42, 21, 6, 6, 3, 182, 0, 67, 42, 180, 0, 7, 7, 92, 46, 4, 96, 79, 21, 6, 172]
abbrev dktX8_comes_3 : List UInt8 := dkwX8_comes_3 ++ []
def dkwX8_comes_2 : List UInt8 := [42, 21, 6, 3, 28, 182, 0, 67, 42, 21, 6, 4, 21, 5, 182, 0, 67, 42, 21, 6, 5, 21, 4]
abbrev dktX8_comes_2 : List UInt8 := dkwX8_comes_2 ++ dktX8_comes_3
def dkwX8_comes_1 : List UInt8 := [21, 4, 100, 104, 16, 100, 108, 54, 5, 21, 5, 154, 0, 5, 2, 172, 42, 180, 0, 7, 7, 46, 54, 6]
abbrev dktX8_comes_1 : List UInt8 := dkwX8_comes_1 ++ dktX8_comes_2
def dkwX8_comes_0 : List UInt8 := [42, 180, 0, 7, 16, 13, 5, 27, 104, 96, 92, 46, 42, 27, 29, 182, 0, 64, 96, 79, 29, 16, 100]
abbrev dktX8_comes_0 : List UInt8 := dkwX8_comes_0 ++ dktX8_comes_1
theorem dksX8_comes_0 : cX8_comes.data.toList.drop 0 = dktX8_comes_0 := by decide +kernel
theorem dksX8_comes_1 : cX8_comes.data.toList.drop 23 = dktX8_comes_1 := dk_seg dksX8_comes_0 23 rfl rfl
theorem dksX8_comes_2 : cX8_comes.data.toList.drop 47 = dktX8_comes_2 := dk_seg dksX8_comes_1 24 rfl rfl
theorem dksX8_comes_3 : cX8_comes.data.toList.drop 70 = dktX8_comes_3 := dk_seg dksX8_comes_2 23 rfl rfl
theorem dX8_comes_0 : decode cX8_comes 0 = .ok (.aload_n 0, 1) := dk_42 (dk_at dksX8_comes_0 0 rfl rfl)
theorem dX8_comes_1 : decode cX8_comes 1 = .ok (.getfield 7, 3) := dk_180 0 7 (dk_at dksX8_comes_0 1 rfl rfl)
theorem dX8_comes_4 : decode cX8_comes 4 = .ok (.bipush 13, 2) := dk_16 13 (dk_at dksX8_comes_0 4 rfl rfl)
theorem dX8_comes_6 : decode cX8_comes 6 = .ok (.iconst 2, 1) := dk_5 (dk_at dksX8_comes_0 6 rfl rfl)
theorem dX8_comes_7 : decode cX8_comes 7 = .ok (.iload_n 1, 1) := dk_27 (dk_at dksX8_comes_0 7 rfl rfl)
theorem dX8_comes_8 : decode cX8_comes 8 = .ok (.imul, 1) := dk_104 (dk_at dksX8_comes_0 8 rfl rfl)
theorem dX8_comes_9 : decode cX8_comes 9 = .ok (.iadd, 1) := dk_96 (dk_at dksX8_comes_0 9 rfl rfl)
theorem dX8_comes_10 : decode cX8_comes 10 = .ok (.dup2, 1) := dk_92 (dk_at dksX8_comes_0 10 rfl rfl)
theorem dX8_comes_11 : decode cX8_comes 11 = .ok (.iaload, 1) := dk_46 (dk_at dksX8_comes_0 11 rfl rfl)
theorem dX8_comes_12 : decode cX8_comes 12 = .ok (.aload_n 0, 1) := dk_42 (dk_at dksX8_comes_0 12 rfl rfl)
theorem dX8_comes_13 : decode cX8_comes 13 = .ok (.iload_n 1, 1) := dk_27 (dk_at dksX8_comes_0 13 rfl rfl)
theorem dX8_comes_14 : decode cX8_comes 14 = .ok (.iload_n 3, 1) := dk_29 (dk_at dksX8_comes_0 14 rfl rfl)
theorem dX8_comes_15 : decode cX8_comes 15 = .ok (.invokevirtual 64, 3) := dk_182 0 64 (dk_at dksX8_comes_0 15 rfl rfl)
theorem dX8_comes_18 : decode cX8_comes 18 = .ok (.iadd, 1) := dk_96 (dk_at dksX8_comes_0 18 rfl rfl)
theorem dX8_comes_19 : decode cX8_comes 19 = .ok (.iastore, 1) := dk_79 (dk_at dksX8_comes_0 19 rfl rfl)
theorem dX8_comes_20 : decode cX8_comes 20 = .ok (.iload_n 3, 1) := dk_29 (dk_at dksX8_comes_0 20 rfl rfl)
theorem dX8_comes_21 : decode cX8_comes 21 = .ok (.bipush 100, 2) := dk_16 100 (dk_at dksX8_comes_0 21 rfl rfl)
theorem dX8_comes_23 : decode cX8_comes 23 = .ok (.iload 4, 2) := dk_21 4 (dk_at dksX8_comes_1 0 rfl rfl)
theorem dX8_comes_25 : decode cX8_comes 25 = .ok (.isub, 1) := dk_100 (dk_at dksX8_comes_1 2 rfl rfl)
theorem dX8_comes_26 : decode cX8_comes 26 = .ok (.imul, 1) := dk_104 (dk_at dksX8_comes_1 3 rfl rfl)
theorem dX8_comes_27 : decode cX8_comes 27 = .ok (.bipush 100, 2) := dk_16 100 (dk_at dksX8_comes_1 4 rfl rfl)
theorem dX8_comes_29 : decode cX8_comes 29 = .ok (.idiv, 1) := dk_108 (dk_at dksX8_comes_1 6 rfl rfl)
theorem dX8_comes_30 : decode cX8_comes 30 = .ok (.istore 5, 2) := dk_54 5 (dk_at dksX8_comes_1 7 rfl rfl)
theorem dX8_comes_32 : decode cX8_comes 32 = .ok (.iload 5, 2) := dk_21 5 (dk_at dksX8_comes_1 9 rfl rfl)
theorem dX8_comes_34 : decode cX8_comes 34 = .ok (.ifCond .ne 5, 3) := dk_154 0 5 (dk_at dksX8_comes_1 11 rfl rfl)
theorem dX8_comes_37 : decode cX8_comes 37 = .ok (.iconst (-1), 1) := dk_2 (dk_at dksX8_comes_1 14 rfl rfl)
theorem dX8_comes_38 : decode cX8_comes 38 = .ok (.ireturn, 1) := dk_172 (dk_at dksX8_comes_1 15 rfl rfl)
theorem dX8_comes_39 : decode cX8_comes 39 = .ok (.aload_n 0, 1) := dk_42 (dk_at dksX8_comes_1 16 rfl rfl)
theorem dX8_comes_40 : decode cX8_comes 40 = .ok (.getfield 7, 3) := dk_180 0 7 (dk_at dksX8_comes_1 17 rfl rfl)
theorem dX8_comes_43 : decode cX8_comes 43 = .ok (.iconst 4, 1) := dk_7 (dk_at dksX8_comes_1 20 rfl rfl)
theorem dX8_comes_44 : decode cX8_comes 44 = .ok (.iaload, 1) := dk_46 (dk_at dksX8_comes_1 21 rfl rfl)
theorem dX8_comes_45 : decode cX8_comes 45 = .ok (.istore 6, 2) := dk_54 6 (dk_at dksX8_comes_1 22 rfl rfl)
theorem dX8_comes_47 : decode cX8_comes 47 = .ok (.aload_n 0, 1) := dk_42 (dk_at dksX8_comes_2 0 rfl rfl)
theorem dX8_comes_48 : decode cX8_comes 48 = .ok (.iload 6, 2) := dk_21 6 (dk_at dksX8_comes_2 1 rfl rfl)
theorem dX8_comes_50 : decode cX8_comes 50 = .ok (.iconst 0, 1) := dk_3 (dk_at dksX8_comes_2 3 rfl rfl)
theorem dX8_comes_51 : decode cX8_comes 51 = .ok (.iload_n 2, 1) := dk_28 (dk_at dksX8_comes_2 4 rfl rfl)
theorem dX8_comes_52 : decode cX8_comes 52 = .ok (.invokevirtual 67, 3) := dk_182 0 67 (dk_at dksX8_comes_2 5 rfl rfl)
theorem dX8_comes_55 : decode cX8_comes 55 = .ok (.aload_n 0, 1) := dk_42 (dk_at dksX8_comes_2 8 rfl rfl)
theorem dX8_comes_56 : decode cX8_comes 56 = .ok (.iload 6, 2) := dk_21 6 (dk_at dksX8_comes_2 9 rfl rfl)
theorem dX8_comes_58 : decode cX8_comes 58 = .ok (.iconst 1, 1) := dk_4 (dk_at dksX8_comes_2 11 rfl rfl)
theorem dX8_comes_59 : decode cX8_comes 59 = .ok (.iload 5, 2) := dk_21 5 (dk_at dksX8_comes_2 12 rfl rfl)
theorem dX8_comes_61 : decode cX8_comes 61 = .ok (.invokevirtual 67, 3) := dk_182 0 67 (dk_at dksX8_comes_2 14 rfl rfl)
theorem dX8_comes_64 : decode cX8_comes 64 = .ok (.aload_n 0, 1) := dk_42 (dk_at dksX8_comes_2 17 rfl rfl)
theorem dX8_comes_65 : decode cX8_comes 65 = .ok (.iload 6, 2) := dk_21 6 (dk_at dksX8_comes_2 18 rfl rfl)
theorem dX8_comes_67 : decode cX8_comes 67 = .ok (.iconst 2, 1) := dk_5 (dk_at dksX8_comes_2 20 rfl rfl)
theorem dX8_comes_68 : decode cX8_comes 68 = .ok (.iload 4, 2) := dk_21 4 (dk_at dksX8_comes_2 21 rfl rfl)
theorem dX8_comes_70 : decode cX8_comes 70 = .ok (.invokevirtual 67, 3) := dk_182 0 67 (dk_at dksX8_comes_3 0 rfl rfl)
theorem dX8_comes_73 : decode cX8_comes 73 = .ok (.aload_n 0, 1) := dk_42 (dk_at dksX8_comes_3 3 rfl rfl)
theorem dX8_comes_74 : decode cX8_comes 74 = .ok (.iload 6, 2) := dk_21 6 (dk_at dksX8_comes_3 4 rfl rfl)
theorem dX8_comes_76 : decode cX8_comes 76 = .ok (.iconst 3, 1) := dk_6 (dk_at dksX8_comes_3 6 rfl rfl)
theorem dX8_comes_77 : decode cX8_comes 77 = .ok (.iconst 0, 1) := dk_3 (dk_at dksX8_comes_3 7 rfl rfl)
theorem dX8_comes_78 : decode cX8_comes 78 = .ok (.invokevirtual 67, 3) := dk_182 0 67 (dk_at dksX8_comes_3 8 rfl rfl)
theorem dX8_comes_81 : decode cX8_comes 81 = .ok (.aload_n 0, 1) := dk_42 (dk_at dksX8_comes_3 11 rfl rfl)
theorem dX8_comes_82 : decode cX8_comes 82 = .ok (.getfield 7, 3) := dk_180 0 7 (dk_at dksX8_comes_3 12 rfl rfl)
theorem dX8_comes_85 : decode cX8_comes 85 = .ok (.iconst 4, 1) := dk_7 (dk_at dksX8_comes_3 15 rfl rfl)
theorem dX8_comes_86 : decode cX8_comes 86 = .ok (.dup2, 1) := dk_92 (dk_at dksX8_comes_3 16 rfl rfl)
theorem dX8_comes_87 : decode cX8_comes 87 = .ok (.iaload, 1) := dk_46 (dk_at dksX8_comes_3 17 rfl rfl)
theorem dX8_comes_88 : decode cX8_comes 88 = .ok (.iconst 1, 1) := dk_4 (dk_at dksX8_comes_3 18 rfl rfl)
theorem dX8_comes_89 : decode cX8_comes 89 = .ok (.iadd, 1) := dk_96 (dk_at dksX8_comes_3 19 rfl rfl)
theorem dX8_comes_90 : decode cX8_comes 90 = .ok (.iastore, 1) := dk_79 (dk_at dksX8_comes_3 20 rfl rfl)
theorem dX8_comes_91 : decode cX8_comes 91 = .ok (.iload 6, 2) := dk_21 6 (dk_at dksX8_comes_3 21 rfl rfl)
theorem dX8_comes_93 : decode cX8_comes 93 = .ok (.ireturn, 1) := dk_172 (dk_at dksX8_comes_3 23 rfl rfl)
abbrev cX8_lay : ByteArray := prog_26_method_15_code
def yX8_lay : MethodName := ⟨RX8, "lay", "(III)V"⟩
def dkwX8_lay_0 : List UInt8 := [42, 180, 0, 7, 16, 21, 7, 27, 104, 96, 28, 96, 29, 79, 177]
abbrev dktX8_lay_0 : List UInt8 := dkwX8_lay_0 ++ []
theorem dksX8_lay_0 : cX8_lay.data.toList.drop 0 = dktX8_lay_0 := by decide +kernel
theorem dX8_lay_0 : decode cX8_lay 0 = .ok (.aload_n 0, 1) := dk_42 (dk_at dksX8_lay_0 0 rfl rfl)
theorem dX8_lay_1 : decode cX8_lay 1 = .ok (.getfield 7, 3) := dk_180 0 7 (dk_at dksX8_lay_0 1 rfl rfl)
theorem dX8_lay_4 : decode cX8_lay 4 = .ok (.bipush 21, 2) := dk_16 21 (dk_at dksX8_lay_0 4 rfl rfl)
theorem dX8_lay_6 : decode cX8_lay 6 = .ok (.iconst 4, 1) := dk_7 (dk_at dksX8_lay_0 6 rfl rfl)
theorem dX8_lay_7 : decode cX8_lay 7 = .ok (.iload_n 1, 1) := dk_27 (dk_at dksX8_lay_0 7 rfl rfl)
theorem dX8_lay_8 : decode cX8_lay 8 = .ok (.imul, 1) := dk_104 (dk_at dksX8_lay_0 8 rfl rfl)
theorem dX8_lay_9 : decode cX8_lay 9 = .ok (.iadd, 1) := dk_96 (dk_at dksX8_lay_0 9 rfl rfl)
theorem dX8_lay_10 : decode cX8_lay 10 = .ok (.iload_n 2, 1) := dk_28 (dk_at dksX8_lay_0 10 rfl rfl)
theorem dX8_lay_11 : decode cX8_lay 11 = .ok (.iadd, 1) := dk_96 (dk_at dksX8_lay_0 11 rfl rfl)
theorem dX8_lay_12 : decode cX8_lay 12 = .ok (.iload_n 3, 1) := dk_29 (dk_at dksX8_lay_0 12 rfl rfl)
theorem dX8_lay_13 : decode cX8_lay 13 = .ok (.iastore, 1) := dk_79 (dk_at dksX8_lay_0 13 rfl rfl)
theorem dX8_lay_14 : decode cX8_lay 14 = .ok (.return_, 1) := dk_177 (dk_at dksX8_lay_0 14 rfl rfl)
abbrev cX8_payToll : ByteArray := prog_26_method_55_code
def yX8_payToll : MethodName := ⟨RX8, "payToll", "(II)I"⟩
def dkwX8_payToll_3 : List UInt8 := [42, 180, 0, 7, 4, 92, 46, 28, 96, 79, 42, 27, 182, 0, 60, 172]
abbrev dktX8_payToll_3 : List UInt8 := dkwX8_payToll_3 ++ []
def dkwX8_payToll_2 : List UInt8 := [158, 0, 5, 3, 172, 42, 182, 0, 151, 42, 180, 0, 7, 16, 13, 5, 27, 104, 96, 92, 46, 28, 100, 79]
abbrev dktX8_payToll_2 : List UInt8 := dkwX8_payToll_2 ++ dktX8_payToll_3
def dkwX8_payToll_1 : List UInt8 := [167, 0, 17, 42, 27, 182, 0, 60, 28, 162, 0, 7, 6, 167, 0, 4, 3, 181, 0, 37, 42, 180, 0, 37]
abbrev dktX8_payToll_1 : List UInt8 := dkwX8_payToll_1 ++ dktX8_payToll_2
def dkwX8_payToll_0 : List UInt8 := [42, 27, 184, 0, 135, 154, 0, 7, 4, 167, 0, 32, 28, 4, 17, 1, 44, 184, 0, 48, 154, 0, 7, 5]
abbrev dktX8_payToll_0 : List UInt8 := dkwX8_payToll_0 ++ dktX8_payToll_1
theorem dksX8_payToll_0 : cX8_payToll.data.toList.drop 0 = dktX8_payToll_0 := by decide +kernel
theorem dksX8_payToll_1 : cX8_payToll.data.toList.drop 24 = dktX8_payToll_1 := dk_seg dksX8_payToll_0 24 rfl rfl
theorem dksX8_payToll_2 : cX8_payToll.data.toList.drop 48 = dktX8_payToll_2 := dk_seg dksX8_payToll_1 24 rfl rfl
theorem dksX8_payToll_3 : cX8_payToll.data.toList.drop 72 = dktX8_payToll_3 := dk_seg dksX8_payToll_2 24 rfl rfl
theorem dX8_payToll_0 : decode cX8_payToll 0 = .ok (.aload_n 0, 1) := dk_42 (dk_at dksX8_payToll_0 0 rfl rfl)
theorem dX8_payToll_1 : decode cX8_payToll 1 = .ok (.iload_n 1, 1) := dk_27 (dk_at dksX8_payToll_0 1 rfl rfl)
theorem dX8_payToll_2 : decode cX8_payToll 2 = .ok (.invokestatic 135, 3) := dk_184 0 135 (dk_at dksX8_payToll_0 2 rfl rfl)
theorem dX8_payToll_5 : decode cX8_payToll 5 = .ok (.ifCond .ne 7, 3) := dk_154 0 7 (dk_at dksX8_payToll_0 5 rfl rfl)
theorem dX8_payToll_8 : decode cX8_payToll 8 = .ok (.iconst 1, 1) := dk_4 (dk_at dksX8_payToll_0 8 rfl rfl)
theorem dX8_payToll_9 : decode cX8_payToll 9 = .ok (.goto 32, 3) := dk_167 0 32 (dk_at dksX8_payToll_0 9 rfl rfl)
theorem dX8_payToll_12 : decode cX8_payToll 12 = .ok (.iload_n 2, 1) := dk_28 (dk_at dksX8_payToll_0 12 rfl rfl)
theorem dX8_payToll_13 : decode cX8_payToll 13 = .ok (.iconst 1, 1) := dk_4 (dk_at dksX8_payToll_0 13 rfl rfl)
theorem dX8_payToll_14 : decode cX8_payToll 14 = .ok (.sipush 300, 3) := dk_17 1 44 (dk_at dksX8_payToll_0 14 rfl rfl)
theorem dX8_payToll_17 : decode cX8_payToll 17 = .ok (.invokestatic 48, 3) := dk_184 0 48 (dk_at dksX8_payToll_0 17 rfl rfl)
theorem dX8_payToll_20 : decode cX8_payToll 20 = .ok (.ifCond .ne 7, 3) := dk_154 0 7 (dk_at dksX8_payToll_0 20 rfl rfl)
theorem dX8_payToll_23 : decode cX8_payToll 23 = .ok (.iconst 2, 1) := dk_5 (dk_at dksX8_payToll_0 23 rfl rfl)
theorem dX8_payToll_24 : decode cX8_payToll 24 = .ok (.goto 17, 3) := dk_167 0 17 (dk_at dksX8_payToll_1 0 rfl rfl)
theorem dX8_payToll_27 : decode cX8_payToll 27 = .ok (.aload_n 0, 1) := dk_42 (dk_at dksX8_payToll_1 3 rfl rfl)
theorem dX8_payToll_28 : decode cX8_payToll 28 = .ok (.iload_n 1, 1) := dk_27 (dk_at dksX8_payToll_1 4 rfl rfl)
theorem dX8_payToll_29 : decode cX8_payToll 29 = .ok (.invokevirtual 60, 3) := dk_182 0 60 (dk_at dksX8_payToll_1 5 rfl rfl)
theorem dX8_payToll_32 : decode cX8_payToll 32 = .ok (.iload_n 2, 1) := dk_28 (dk_at dksX8_payToll_1 8 rfl rfl)
theorem dX8_payToll_33 : decode cX8_payToll 33 = .ok (.if_icmp .ge 7, 3) := dk_162 0 7 (dk_at dksX8_payToll_1 9 rfl rfl)
theorem dX8_payToll_36 : decode cX8_payToll 36 = .ok (.iconst 3, 1) := dk_6 (dk_at dksX8_payToll_1 12 rfl rfl)
theorem dX8_payToll_37 : decode cX8_payToll 37 = .ok (.goto 4, 3) := dk_167 0 4 (dk_at dksX8_payToll_1 13 rfl rfl)
theorem dX8_payToll_40 : decode cX8_payToll 40 = .ok (.iconst 0, 1) := dk_3 (dk_at dksX8_payToll_1 16 rfl rfl)
theorem dX8_payToll_41 : decode cX8_payToll 41 = .ok (.putfield 37, 3) := dk_181 0 37 (dk_at dksX8_payToll_1 17 rfl rfl)
theorem dX8_payToll_44 : decode cX8_payToll 44 = .ok (.aload_n 0, 1) := dk_42 (dk_at dksX8_payToll_1 20 rfl rfl)
theorem dX8_payToll_45 : decode cX8_payToll 45 = .ok (.getfield 37, 3) := dk_180 0 37 (dk_at dksX8_payToll_1 21 rfl rfl)
theorem dX8_payToll_48 : decode cX8_payToll 48 = .ok (.ifCond .le 5, 3) := dk_158 0 5 (dk_at dksX8_payToll_2 0 rfl rfl)
theorem dX8_payToll_51 : decode cX8_payToll 51 = .ok (.iconst 0, 1) := dk_3 (dk_at dksX8_payToll_2 3 rfl rfl)
theorem dX8_payToll_52 : decode cX8_payToll 52 = .ok (.ireturn, 1) := dk_172 (dk_at dksX8_payToll_2 4 rfl rfl)
theorem dX8_payToll_53 : decode cX8_payToll 53 = .ok (.aload_n 0, 1) := dk_42 (dk_at dksX8_payToll_2 5 rfl rfl)
theorem dX8_payToll_54 : decode cX8_payToll 54 = .ok (.invokevirtual 151, 3) := dk_182 0 151 (dk_at dksX8_payToll_2 6 rfl rfl)
theorem dX8_payToll_57 : decode cX8_payToll 57 = .ok (.aload_n 0, 1) := dk_42 (dk_at dksX8_payToll_2 9 rfl rfl)
theorem dX8_payToll_58 : decode cX8_payToll 58 = .ok (.getfield 7, 3) := dk_180 0 7 (dk_at dksX8_payToll_2 10 rfl rfl)
theorem dX8_payToll_61 : decode cX8_payToll 61 = .ok (.bipush 13, 2) := dk_16 13 (dk_at dksX8_payToll_2 13 rfl rfl)
theorem dX8_payToll_63 : decode cX8_payToll 63 = .ok (.iconst 2, 1) := dk_5 (dk_at dksX8_payToll_2 15 rfl rfl)
theorem dX8_payToll_64 : decode cX8_payToll 64 = .ok (.iload_n 1, 1) := dk_27 (dk_at dksX8_payToll_2 16 rfl rfl)
theorem dX8_payToll_65 : decode cX8_payToll 65 = .ok (.imul, 1) := dk_104 (dk_at dksX8_payToll_2 17 rfl rfl)
theorem dX8_payToll_66 : decode cX8_payToll 66 = .ok (.iadd, 1) := dk_96 (dk_at dksX8_payToll_2 18 rfl rfl)
theorem dX8_payToll_67 : decode cX8_payToll 67 = .ok (.dup2, 1) := dk_92 (dk_at dksX8_payToll_2 19 rfl rfl)
theorem dX8_payToll_68 : decode cX8_payToll 68 = .ok (.iaload, 1) := dk_46 (dk_at dksX8_payToll_2 20 rfl rfl)
theorem dX8_payToll_69 : decode cX8_payToll 69 = .ok (.iload_n 2, 1) := dk_28 (dk_at dksX8_payToll_2 21 rfl rfl)
theorem dX8_payToll_70 : decode cX8_payToll 70 = .ok (.isub, 1) := dk_100 (dk_at dksX8_payToll_2 22 rfl rfl)
theorem dX8_payToll_71 : decode cX8_payToll 71 = .ok (.iastore, 1) := dk_79 (dk_at dksX8_payToll_2 23 rfl rfl)
theorem dX8_payToll_72 : decode cX8_payToll 72 = .ok (.aload_n 0, 1) := dk_42 (dk_at dksX8_payToll_3 0 rfl rfl)
theorem dX8_payToll_73 : decode cX8_payToll 73 = .ok (.getfield 7, 3) := dk_180 0 7 (dk_at dksX8_payToll_3 1 rfl rfl)
theorem dX8_payToll_76 : decode cX8_payToll 76 = .ok (.iconst 1, 1) := dk_4 (dk_at dksX8_payToll_3 4 rfl rfl)
theorem dX8_payToll_77 : decode cX8_payToll 77 = .ok (.dup2, 1) := dk_92 (dk_at dksX8_payToll_3 5 rfl rfl)
theorem dX8_payToll_78 : decode cX8_payToll 78 = .ok (.iaload, 1) := dk_46 (dk_at dksX8_payToll_3 6 rfl rfl)
theorem dX8_payToll_79 : decode cX8_payToll 79 = .ok (.iload_n 2, 1) := dk_28 (dk_at dksX8_payToll_3 7 rfl rfl)
theorem dX8_payToll_80 : decode cX8_payToll 80 = .ok (.iadd, 1) := dk_96 (dk_at dksX8_payToll_3 8 rfl rfl)
theorem dX8_payToll_81 : decode cX8_payToll 81 = .ok (.iastore, 1) := dk_79 (dk_at dksX8_payToll_3 9 rfl rfl)
theorem dX8_payToll_82 : decode cX8_payToll 82 = .ok (.aload_n 0, 1) := dk_42 (dk_at dksX8_payToll_3 10 rfl rfl)
theorem dX8_payToll_83 : decode cX8_payToll 83 = .ok (.iload_n 1, 1) := dk_27 (dk_at dksX8_payToll_3 11 rfl rfl)
theorem dX8_payToll_84 : decode cX8_payToll 84 = .ok (.invokevirtual 60, 3) := dk_182 0 60 (dk_at dksX8_payToll_3 12 rfl rfl)
theorem dX8_payToll_87 : decode cX8_payToll 87 = .ok (.ireturn, 1) := dk_172 (dk_at dksX8_payToll_3 15 rfl rfl)
abbrev cX8_givePass : ByteArray := prog_26_method_56_code
def yX8_givePass : MethodName := ⟨RX8, "givePass", "(II)I"⟩
def dkwX8_givePass_4 : List UInt8 := [180, 0, 7, 3, 46, 28, 96, 4, 100, 79, 42, 27, 182, 0, 60, 172]
abbrev dktX8_givePass_4 : List UInt8 := dkwX8_givePass_4 ++ []
def dkwX8_givePass_3 : List UInt8 := [104, 96, 92, 46, 6, 28, 104, 96, 79, 42, 180, 0, 7, 16, 13, 5, 27, 104, 96, 4, 96, 42]
abbrev dktX8_givePass_3 : List UInt8 := dkwX8_givePass_3 ++ dktX8_givePass_4
def dkwX8_givePass_2 : List UInt8 := [181, 0, 37, 42, 180, 0, 37, 158, 0, 5, 3, 172, 42, 182, 0, 151, 42, 180, 0, 7, 16, 13, 5, 27]
abbrev dktX8_givePass_2 : List UInt8 := dkwX8_givePass_2 ++ dktX8_givePass_3
def dkwX8_givePass_1 : List UInt8 := [167, 0, 23, 42, 27, 182, 0, 60, 6, 28, 104, 96, 17, 1, 44, 164, 0, 7, 6, 167, 0, 4, 3]
abbrev dktX8_givePass_1 : List UInt8 := dkwX8_givePass_1 ++ dktX8_givePass_2
def dkwX8_givePass_0 : List UInt8 := [42, 27, 184, 0, 135, 154, 0, 7, 4, 167, 0, 37, 28, 4, 16, 30, 184, 0, 48, 154, 0, 7, 5]
abbrev dktX8_givePass_0 : List UInt8 := dkwX8_givePass_0 ++ dktX8_givePass_1
theorem dksX8_givePass_0 : cX8_givePass.data.toList.drop 0 = dktX8_givePass_0 := by decide +kernel
theorem dksX8_givePass_1 : cX8_givePass.data.toList.drop 23 = dktX8_givePass_1 := dk_seg dksX8_givePass_0 23 rfl rfl
theorem dksX8_givePass_2 : cX8_givePass.data.toList.drop 46 = dktX8_givePass_2 := dk_seg dksX8_givePass_1 23 rfl rfl
theorem dksX8_givePass_3 : cX8_givePass.data.toList.drop 70 = dktX8_givePass_3 := dk_seg dksX8_givePass_2 24 rfl rfl
theorem dksX8_givePass_4 : cX8_givePass.data.toList.drop 92 = dktX8_givePass_4 := dk_seg dksX8_givePass_3 22 rfl rfl
theorem dX8_givePass_0 : decode cX8_givePass 0 = .ok (.aload_n 0, 1) := dk_42 (dk_at dksX8_givePass_0 0 rfl rfl)
theorem dX8_givePass_1 : decode cX8_givePass 1 = .ok (.iload_n 1, 1) := dk_27 (dk_at dksX8_givePass_0 1 rfl rfl)
theorem dX8_givePass_2 : decode cX8_givePass 2 = .ok (.invokestatic 135, 3) := dk_184 0 135 (dk_at dksX8_givePass_0 2 rfl rfl)
theorem dX8_givePass_5 : decode cX8_givePass 5 = .ok (.ifCond .ne 7, 3) := dk_154 0 7 (dk_at dksX8_givePass_0 5 rfl rfl)
theorem dX8_givePass_8 : decode cX8_givePass 8 = .ok (.iconst 1, 1) := dk_4 (dk_at dksX8_givePass_0 8 rfl rfl)
theorem dX8_givePass_9 : decode cX8_givePass 9 = .ok (.goto 37, 3) := dk_167 0 37 (dk_at dksX8_givePass_0 9 rfl rfl)
theorem dX8_givePass_12 : decode cX8_givePass 12 = .ok (.iload_n 2, 1) := dk_28 (dk_at dksX8_givePass_0 12 rfl rfl)
theorem dX8_givePass_13 : decode cX8_givePass 13 = .ok (.iconst 1, 1) := dk_4 (dk_at dksX8_givePass_0 13 rfl rfl)
theorem dX8_givePass_14 : decode cX8_givePass 14 = .ok (.bipush 30, 2) := dk_16 30 (dk_at dksX8_givePass_0 14 rfl rfl)
theorem dX8_givePass_16 : decode cX8_givePass 16 = .ok (.invokestatic 48, 3) := dk_184 0 48 (dk_at dksX8_givePass_0 16 rfl rfl)
theorem dX8_givePass_19 : decode cX8_givePass 19 = .ok (.ifCond .ne 7, 3) := dk_154 0 7 (dk_at dksX8_givePass_0 19 rfl rfl)
theorem dX8_givePass_22 : decode cX8_givePass 22 = .ok (.iconst 2, 1) := dk_5 (dk_at dksX8_givePass_0 22 rfl rfl)
theorem dX8_givePass_23 : decode cX8_givePass 23 = .ok (.goto 23, 3) := dk_167 0 23 (dk_at dksX8_givePass_1 0 rfl rfl)
theorem dX8_givePass_26 : decode cX8_givePass 26 = .ok (.aload_n 0, 1) := dk_42 (dk_at dksX8_givePass_1 3 rfl rfl)
theorem dX8_givePass_27 : decode cX8_givePass 27 = .ok (.iload_n 1, 1) := dk_27 (dk_at dksX8_givePass_1 4 rfl rfl)
theorem dX8_givePass_28 : decode cX8_givePass 28 = .ok (.invokevirtual 60, 3) := dk_182 0 60 (dk_at dksX8_givePass_1 5 rfl rfl)
theorem dX8_givePass_31 : decode cX8_givePass 31 = .ok (.iconst 3, 1) := dk_6 (dk_at dksX8_givePass_1 8 rfl rfl)
theorem dX8_givePass_32 : decode cX8_givePass 32 = .ok (.iload_n 2, 1) := dk_28 (dk_at dksX8_givePass_1 9 rfl rfl)
theorem dX8_givePass_33 : decode cX8_givePass 33 = .ok (.imul, 1) := dk_104 (dk_at dksX8_givePass_1 10 rfl rfl)
theorem dX8_givePass_34 : decode cX8_givePass 34 = .ok (.iadd, 1) := dk_96 (dk_at dksX8_givePass_1 11 rfl rfl)
theorem dX8_givePass_35 : decode cX8_givePass 35 = .ok (.sipush 300, 3) := dk_17 1 44 (dk_at dksX8_givePass_1 12 rfl rfl)
theorem dX8_givePass_38 : decode cX8_givePass 38 = .ok (.if_icmp .le 7, 3) := dk_164 0 7 (dk_at dksX8_givePass_1 15 rfl rfl)
theorem dX8_givePass_41 : decode cX8_givePass 41 = .ok (.iconst 3, 1) := dk_6 (dk_at dksX8_givePass_1 18 rfl rfl)
theorem dX8_givePass_42 : decode cX8_givePass 42 = .ok (.goto 4, 3) := dk_167 0 4 (dk_at dksX8_givePass_1 19 rfl rfl)
theorem dX8_givePass_45 : decode cX8_givePass 45 = .ok (.iconst 0, 1) := dk_3 (dk_at dksX8_givePass_1 22 rfl rfl)
theorem dX8_givePass_46 : decode cX8_givePass 46 = .ok (.putfield 37, 3) := dk_181 0 37 (dk_at dksX8_givePass_2 0 rfl rfl)
theorem dX8_givePass_49 : decode cX8_givePass 49 = .ok (.aload_n 0, 1) := dk_42 (dk_at dksX8_givePass_2 3 rfl rfl)
theorem dX8_givePass_50 : decode cX8_givePass 50 = .ok (.getfield 37, 3) := dk_180 0 37 (dk_at dksX8_givePass_2 4 rfl rfl)
theorem dX8_givePass_53 : decode cX8_givePass 53 = .ok (.ifCond .le 5, 3) := dk_158 0 5 (dk_at dksX8_givePass_2 7 rfl rfl)
theorem dX8_givePass_56 : decode cX8_givePass 56 = .ok (.iconst 0, 1) := dk_3 (dk_at dksX8_givePass_2 10 rfl rfl)
theorem dX8_givePass_57 : decode cX8_givePass 57 = .ok (.ireturn, 1) := dk_172 (dk_at dksX8_givePass_2 11 rfl rfl)
theorem dX8_givePass_58 : decode cX8_givePass 58 = .ok (.aload_n 0, 1) := dk_42 (dk_at dksX8_givePass_2 12 rfl rfl)
theorem dX8_givePass_59 : decode cX8_givePass 59 = .ok (.invokevirtual 151, 3) := dk_182 0 151 (dk_at dksX8_givePass_2 13 rfl rfl)
theorem dX8_givePass_62 : decode cX8_givePass 62 = .ok (.aload_n 0, 1) := dk_42 (dk_at dksX8_givePass_2 16 rfl rfl)
theorem dX8_givePass_63 : decode cX8_givePass 63 = .ok (.getfield 7, 3) := dk_180 0 7 (dk_at dksX8_givePass_2 17 rfl rfl)
theorem dX8_givePass_66 : decode cX8_givePass 66 = .ok (.bipush 13, 2) := dk_16 13 (dk_at dksX8_givePass_2 20 rfl rfl)
theorem dX8_givePass_68 : decode cX8_givePass 68 = .ok (.iconst 2, 1) := dk_5 (dk_at dksX8_givePass_2 22 rfl rfl)
theorem dX8_givePass_69 : decode cX8_givePass 69 = .ok (.iload_n 1, 1) := dk_27 (dk_at dksX8_givePass_2 23 rfl rfl)
theorem dX8_givePass_70 : decode cX8_givePass 70 = .ok (.imul, 1) := dk_104 (dk_at dksX8_givePass_3 0 rfl rfl)
theorem dX8_givePass_71 : decode cX8_givePass 71 = .ok (.iadd, 1) := dk_96 (dk_at dksX8_givePass_3 1 rfl rfl)
theorem dX8_givePass_72 : decode cX8_givePass 72 = .ok (.dup2, 1) := dk_92 (dk_at dksX8_givePass_3 2 rfl rfl)
theorem dX8_givePass_73 : decode cX8_givePass 73 = .ok (.iaload, 1) := dk_46 (dk_at dksX8_givePass_3 3 rfl rfl)
theorem dX8_givePass_74 : decode cX8_givePass 74 = .ok (.iconst 3, 1) := dk_6 (dk_at dksX8_givePass_3 4 rfl rfl)
theorem dX8_givePass_75 : decode cX8_givePass 75 = .ok (.iload_n 2, 1) := dk_28 (dk_at dksX8_givePass_3 5 rfl rfl)
theorem dX8_givePass_76 : decode cX8_givePass 76 = .ok (.imul, 1) := dk_104 (dk_at dksX8_givePass_3 6 rfl rfl)
theorem dX8_givePass_77 : decode cX8_givePass 77 = .ok (.iadd, 1) := dk_96 (dk_at dksX8_givePass_3 7 rfl rfl)
theorem dX8_givePass_78 : decode cX8_givePass 78 = .ok (.iastore, 1) := dk_79 (dk_at dksX8_givePass_3 8 rfl rfl)
theorem dX8_givePass_79 : decode cX8_givePass 79 = .ok (.aload_n 0, 1) := dk_42 (dk_at dksX8_givePass_3 9 rfl rfl)
theorem dX8_givePass_80 : decode cX8_givePass 80 = .ok (.getfield 7, 3) := dk_180 0 7 (dk_at dksX8_givePass_3 10 rfl rfl)
theorem dX8_givePass_83 : decode cX8_givePass 83 = .ok (.bipush 13, 2) := dk_16 13 (dk_at dksX8_givePass_3 13 rfl rfl)
theorem dX8_givePass_85 : decode cX8_givePass 85 = .ok (.iconst 2, 1) := dk_5 (dk_at dksX8_givePass_3 15 rfl rfl)
theorem dX8_givePass_86 : decode cX8_givePass 86 = .ok (.iload_n 1, 1) := dk_27 (dk_at dksX8_givePass_3 16 rfl rfl)
theorem dX8_givePass_87 : decode cX8_givePass 87 = .ok (.imul, 1) := dk_104 (dk_at dksX8_givePass_3 17 rfl rfl)
theorem dX8_givePass_88 : decode cX8_givePass 88 = .ok (.iadd, 1) := dk_96 (dk_at dksX8_givePass_3 18 rfl rfl)
theorem dX8_givePass_89 : decode cX8_givePass 89 = .ok (.iconst 1, 1) := dk_4 (dk_at dksX8_givePass_3 19 rfl rfl)
theorem dX8_givePass_90 : decode cX8_givePass 90 = .ok (.iadd, 1) := dk_96 (dk_at dksX8_givePass_3 20 rfl rfl)
theorem dX8_givePass_91 : decode cX8_givePass 91 = .ok (.aload_n 0, 1) := dk_42 (dk_at dksX8_givePass_3 21 rfl rfl)
theorem dX8_givePass_92 : decode cX8_givePass 92 = .ok (.getfield 7, 3) := dk_180 0 7 (dk_at dksX8_givePass_4 0 rfl rfl)
theorem dX8_givePass_95 : decode cX8_givePass 95 = .ok (.iconst 0, 1) := dk_3 (dk_at dksX8_givePass_4 3 rfl rfl)
theorem dX8_givePass_96 : decode cX8_givePass 96 = .ok (.iaload, 1) := dk_46 (dk_at dksX8_givePass_4 4 rfl rfl)
theorem dX8_givePass_97 : decode cX8_givePass 97 = .ok (.iload_n 2, 1) := dk_28 (dk_at dksX8_givePass_4 5 rfl rfl)
theorem dX8_givePass_98 : decode cX8_givePass 98 = .ok (.iadd, 1) := dk_96 (dk_at dksX8_givePass_4 6 rfl rfl)
theorem dX8_givePass_99 : decode cX8_givePass 99 = .ok (.iconst 1, 1) := dk_4 (dk_at dksX8_givePass_4 7 rfl rfl)
theorem dX8_givePass_100 : decode cX8_givePass 100 = .ok (.isub, 1) := dk_100 (dk_at dksX8_givePass_4 8 rfl rfl)
theorem dX8_givePass_101 : decode cX8_givePass 101 = .ok (.iastore, 1) := dk_79 (dk_at dksX8_givePass_4 9 rfl rfl)
theorem dX8_givePass_102 : decode cX8_givePass 102 = .ok (.aload_n 0, 1) := dk_42 (dk_at dksX8_givePass_4 10 rfl rfl)
theorem dX8_givePass_103 : decode cX8_givePass 103 = .ok (.iload_n 1, 1) := dk_27 (dk_at dksX8_givePass_4 11 rfl rfl)
theorem dX8_givePass_104 : decode cX8_givePass 104 = .ok (.invokevirtual 60, 3) := dk_182 0 60 (dk_at dksX8_givePass_4 12 rfl rfl)
theorem dX8_givePass_107 : decode cX8_givePass 107 = .ok (.ireturn, 1) := dk_172 (dk_at dksX8_givePass_4 15 rfl rfl)
abbrev cX8_setLimit : ByteArray := prog_26_method_58_code
def yX8_setLimit : MethodName := ⟨RX8, "setLimit", "(I)I"⟩
def dkwX8_setLimit_0 : List UInt8 := [42, 6, 27, 16, 99, 182, 0, 158, 172]
abbrev dktX8_setLimit_0 : List UInt8 := dkwX8_setLimit_0 ++ []
theorem dksX8_setLimit_0 : cX8_setLimit.data.toList.drop 0 = dktX8_setLimit_0 := by decide +kernel
theorem dX8_setLimit_0 : decode cX8_setLimit 0 = .ok (.aload_n 0, 1) := dk_42 (dk_at dksX8_setLimit_0 0 rfl rfl)
theorem dX8_setLimit_1 : decode cX8_setLimit 1 = .ok (.iconst 3, 1) := dk_6 (dk_at dksX8_setLimit_0 1 rfl rfl)
theorem dX8_setLimit_2 : decode cX8_setLimit 2 = .ok (.iload_n 1, 1) := dk_27 (dk_at dksX8_setLimit_0 2 rfl rfl)
theorem dX8_setLimit_3 : decode cX8_setLimit 3 = .ok (.bipush 99, 2) := dk_16 99 (dk_at dksX8_setLimit_0 3 rfl rfl)
theorem dX8_setLimit_5 : decode cX8_setLimit 5 = .ok (.invokevirtual 158, 3) := dk_182 0 158 (dk_at dksX8_setLimit_0 5 rfl rfl)
theorem dX8_setLimit_8 : decode cX8_setLimit 8 = .ok (.ireturn, 1) := dk_172 (dk_at dksX8_setLimit_0 8 rfl rfl)
abbrev cX8_becomes : ByteArray := prog_26_method_57_code
def yX8_becomes : MethodName := ⟨RX8, "becomes", "(III)I"⟩
def dkwX8_becomes_2 : List UInt8 := [21, 4, 172]
abbrev dktX8_becomes_2 : List UInt8 := dkwX8_becomes_2 ++ []
def dkwX8_becomes_1 : List UInt8 := [158, 0, 5, 3, 172, 42, 182, 0, 151, 42, 180, 0, 7, 27, 46, 54, 4, 42, 180, 0, 7, 27, 28, 79]
abbrev dktX8_becomes_1 : List UInt8 := dkwX8_becomes_1 ++ dktX8_becomes_2
def dkwX8_becomes_0 : List UInt8 := [42, 28, 3, 29, 184, 0, 48, 153, 0, 7, 3, 167, 0, 4, 4, 181, 0, 37, 42, 180, 0, 37]
abbrev dktX8_becomes_0 : List UInt8 := dkwX8_becomes_0 ++ dktX8_becomes_1
theorem dksX8_becomes_0 : cX8_becomes.data.toList.drop 0 = dktX8_becomes_0 := by decide +kernel
theorem dksX8_becomes_1 : cX8_becomes.data.toList.drop 22 = dktX8_becomes_1 := dk_seg dksX8_becomes_0 22 rfl rfl
theorem dksX8_becomes_2 : cX8_becomes.data.toList.drop 46 = dktX8_becomes_2 := dk_seg dksX8_becomes_1 24 rfl rfl
theorem dX8_becomes_0 : decode cX8_becomes 0 = .ok (.aload_n 0, 1) := dk_42 (dk_at dksX8_becomes_0 0 rfl rfl)
theorem dX8_becomes_1 : decode cX8_becomes 1 = .ok (.iload_n 2, 1) := dk_28 (dk_at dksX8_becomes_0 1 rfl rfl)
theorem dX8_becomes_2 : decode cX8_becomes 2 = .ok (.iconst 0, 1) := dk_3 (dk_at dksX8_becomes_0 2 rfl rfl)
theorem dX8_becomes_3 : decode cX8_becomes 3 = .ok (.iload_n 3, 1) := dk_29 (dk_at dksX8_becomes_0 3 rfl rfl)
theorem dX8_becomes_4 : decode cX8_becomes 4 = .ok (.invokestatic 48, 3) := dk_184 0 48 (dk_at dksX8_becomes_0 4 rfl rfl)
theorem dX8_becomes_7 : decode cX8_becomes 7 = .ok (.ifCond .eq 7, 3) := dk_153 0 7 (dk_at dksX8_becomes_0 7 rfl rfl)
theorem dX8_becomes_10 : decode cX8_becomes 10 = .ok (.iconst 0, 1) := dk_3 (dk_at dksX8_becomes_0 10 rfl rfl)
theorem dX8_becomes_11 : decode cX8_becomes 11 = .ok (.goto 4, 3) := dk_167 0 4 (dk_at dksX8_becomes_0 11 rfl rfl)
theorem dX8_becomes_14 : decode cX8_becomes 14 = .ok (.iconst 1, 1) := dk_4 (dk_at dksX8_becomes_0 14 rfl rfl)
theorem dX8_becomes_15 : decode cX8_becomes 15 = .ok (.putfield 37, 3) := dk_181 0 37 (dk_at dksX8_becomes_0 15 rfl rfl)
theorem dX8_becomes_18 : decode cX8_becomes 18 = .ok (.aload_n 0, 1) := dk_42 (dk_at dksX8_becomes_0 18 rfl rfl)
theorem dX8_becomes_19 : decode cX8_becomes 19 = .ok (.getfield 37, 3) := dk_180 0 37 (dk_at dksX8_becomes_0 19 rfl rfl)
theorem dX8_becomes_22 : decode cX8_becomes 22 = .ok (.ifCond .le 5, 3) := dk_158 0 5 (dk_at dksX8_becomes_1 0 rfl rfl)
theorem dX8_becomes_25 : decode cX8_becomes 25 = .ok (.iconst 0, 1) := dk_3 (dk_at dksX8_becomes_1 3 rfl rfl)
theorem dX8_becomes_26 : decode cX8_becomes 26 = .ok (.ireturn, 1) := dk_172 (dk_at dksX8_becomes_1 4 rfl rfl)
theorem dX8_becomes_27 : decode cX8_becomes 27 = .ok (.aload_n 0, 1) := dk_42 (dk_at dksX8_becomes_1 5 rfl rfl)
theorem dX8_becomes_28 : decode cX8_becomes 28 = .ok (.invokevirtual 151, 3) := dk_182 0 151 (dk_at dksX8_becomes_1 6 rfl rfl)
theorem dX8_becomes_31 : decode cX8_becomes 31 = .ok (.aload_n 0, 1) := dk_42 (dk_at dksX8_becomes_1 9 rfl rfl)
theorem dX8_becomes_32 : decode cX8_becomes 32 = .ok (.getfield 7, 3) := dk_180 0 7 (dk_at dksX8_becomes_1 10 rfl rfl)
theorem dX8_becomes_35 : decode cX8_becomes 35 = .ok (.iload_n 1, 1) := dk_27 (dk_at dksX8_becomes_1 13 rfl rfl)
theorem dX8_becomes_36 : decode cX8_becomes 36 = .ok (.iaload, 1) := dk_46 (dk_at dksX8_becomes_1 14 rfl rfl)
theorem dX8_becomes_37 : decode cX8_becomes 37 = .ok (.istore 4, 2) := dk_54 4 (dk_at dksX8_becomes_1 15 rfl rfl)
theorem dX8_becomes_39 : decode cX8_becomes 39 = .ok (.aload_n 0, 1) := dk_42 (dk_at dksX8_becomes_1 17 rfl rfl)
theorem dX8_becomes_40 : decode cX8_becomes 40 = .ok (.getfield 7, 3) := dk_180 0 7 (dk_at dksX8_becomes_1 18 rfl rfl)
theorem dX8_becomes_43 : decode cX8_becomes 43 = .ok (.iload_n 1, 1) := dk_27 (dk_at dksX8_becomes_1 21 rfl rfl)
theorem dX8_becomes_44 : decode cX8_becomes 44 = .ok (.iload_n 2, 1) := dk_28 (dk_at dksX8_becomes_1 22 rfl rfl)
theorem dX8_becomes_45 : decode cX8_becomes 45 = .ok (.iastore, 1) := dk_79 (dk_at dksX8_becomes_1 23 rfl rfl)
theorem dX8_becomes_46 : decode cX8_becomes 46 = .ok (.iload 4, 2) := dk_21 4 (dk_at dksX8_becomes_2 0 rfl rfl)
theorem dX8_becomes_48 : decode cX8_becomes 48 = .ok (.ireturn, 1) := dk_172 (dk_at dksX8_becomes_2 2 rfl rfl)
abbrev cX8_setStove : ByteArray := prog_26_method_59_code
def yX8_setStove : MethodName := ⟨RX8, "setStove", "(I)I"⟩
def dkwX8_setStove_0 : List UInt8 := [42, 5, 27, 6, 182, 0, 158, 172]
abbrev dktX8_setStove_0 : List UInt8 := dkwX8_setStove_0 ++ []
theorem dksX8_setStove_0 : cX8_setStove.data.toList.drop 0 = dktX8_setStove_0 := by decide +kernel
theorem dX8_setStove_0 : decode cX8_setStove 0 = .ok (.aload_n 0, 1) := dk_42 (dk_at dksX8_setStove_0 0 rfl rfl)
theorem dX8_setStove_1 : decode cX8_setStove 1 = .ok (.iconst 2, 1) := dk_5 (dk_at dksX8_setStove_0 1 rfl rfl)
theorem dX8_setStove_2 : decode cX8_setStove 2 = .ok (.iload_n 1, 1) := dk_27 (dk_at dksX8_setStove_0 2 rfl rfl)
theorem dX8_setStove_3 : decode cX8_setStove 3 = .ok (.iconst 3, 1) := dk_6 (dk_at dksX8_setStove_0 3 rfl rfl)
theorem dX8_setStove_4 : decode cX8_setStove 4 = .ok (.invokevirtual 158, 3) := dk_182 0 158 (dk_at dksX8_setStove_0 4 rfl rfl)
theorem dX8_setStove_7 : decode cX8_setStove 7 = .ok (.ireturn, 1) := dk_172 (dk_at dksX8_setStove_0 7 rfl rfl)
abbrev cX8_moveBale : ByteArray := prog_26_method_60_code
def yX8_moveBale : MethodName := ⟨RX8, "moveBale", "(II)I"⟩
def dkwX8_moveBale_6 : List UInt8 := [96, 172]
abbrev dktX8_moveBale_6 : List UInt8 := dkwX8_moveBale_6 ++ []
def dkwX8_moveBale_5 : List UInt8 := [96, 54, 4, 167, 255, 189, 28, 42, 180, 0, 7, 7, 46, 4, 100, 160, 0, 7, 2, 167, 0, 6, 28, 4]
abbrev dktX8_moveBale_5 : List UInt8 := dkwX8_moveBale_5 ++ dktX8_moveBale_6
def dkwX8_moveBale_4 : List UInt8 := [182, 0, 67, 42, 21, 4, 29, 96, 21, 5, 21, 6, 182, 0, 67, 132, 5, 1, 167, 255, 207, 21, 4, 29]
abbrev dktX8_moveBale_4 : List UInt8 := dkwX8_moveBale_4 ++ dktX8_moveBale_5
def dkwX8_moveBale_3 : List UInt8 := [21, 4, 21, 5, 182, 0, 52, 54, 6, 42, 21, 4, 21, 5, 42, 21, 4, 29, 96, 21, 5, 182, 0, 52]
abbrev dktX8_moveBale_3 : List UInt8 := dkwX8_moveBale_3 ++ dktX8_moveBale_4
def dkwX8_moveBale_2 : List UInt8 := [167, 0, 4, 2, 62, 27, 54, 4, 21, 4, 28, 159, 0, 67, 3, 54, 5, 21, 5, 7, 162, 0, 49, 42]
abbrev dktX8_moveBale_2 : List UInt8 := dkwX8_moveBale_2 ++ dktX8_moveBale_3
def dkwX8_moveBale_1 : List UInt8 := [181, 0, 37, 42, 180, 0, 37, 158, 0, 5, 3, 172, 42, 182, 0, 151, 28, 27, 164, 0, 7, 4]
abbrev dktX8_moveBale_1 : List UInt8 := dkwX8_moveBale_1 ++ dktX8_moveBale_2
def dkwX8_moveBale_0 : List UInt8 := [42, 42, 27, 182, 0, 161, 153, 0, 15, 42, 28, 182, 0, 161, 153, 0, 7, 3, 167, 0, 4, 4]
abbrev dktX8_moveBale_0 : List UInt8 := dkwX8_moveBale_0 ++ dktX8_moveBale_1
theorem dksX8_moveBale_0 : cX8_moveBale.data.toList.drop 0 = dktX8_moveBale_0 := by decide +kernel
theorem dksX8_moveBale_1 : cX8_moveBale.data.toList.drop 22 = dktX8_moveBale_1 := dk_seg dksX8_moveBale_0 22 rfl rfl
theorem dksX8_moveBale_2 : cX8_moveBale.data.toList.drop 44 = dktX8_moveBale_2 := dk_seg dksX8_moveBale_1 22 rfl rfl
theorem dksX8_moveBale_3 : cX8_moveBale.data.toList.drop 68 = dktX8_moveBale_3 := dk_seg dksX8_moveBale_2 24 rfl rfl
theorem dksX8_moveBale_4 : cX8_moveBale.data.toList.drop 92 = dktX8_moveBale_4 := dk_seg dksX8_moveBale_3 24 rfl rfl
theorem dksX8_moveBale_5 : cX8_moveBale.data.toList.drop 116 = dktX8_moveBale_5 := dk_seg dksX8_moveBale_4 24 rfl rfl
theorem dksX8_moveBale_6 : cX8_moveBale.data.toList.drop 140 = dktX8_moveBale_6 := dk_seg dksX8_moveBale_5 24 rfl rfl
theorem dX8_moveBale_0 : decode cX8_moveBale 0 = .ok (.aload_n 0, 1) := dk_42 (dk_at dksX8_moveBale_0 0 rfl rfl)
theorem dX8_moveBale_1 : decode cX8_moveBale 1 = .ok (.aload_n 0, 1) := dk_42 (dk_at dksX8_moveBale_0 1 rfl rfl)
theorem dX8_moveBale_2 : decode cX8_moveBale 2 = .ok (.iload_n 1, 1) := dk_27 (dk_at dksX8_moveBale_0 2 rfl rfl)
theorem dX8_moveBale_3 : decode cX8_moveBale 3 = .ok (.invokevirtual 161, 3) := dk_182 0 161 (dk_at dksX8_moveBale_0 3 rfl rfl)
theorem dX8_moveBale_6 : decode cX8_moveBale 6 = .ok (.ifCond .eq 15, 3) := dk_153 0 15 (dk_at dksX8_moveBale_0 6 rfl rfl)
theorem dX8_moveBale_9 : decode cX8_moveBale 9 = .ok (.aload_n 0, 1) := dk_42 (dk_at dksX8_moveBale_0 9 rfl rfl)
theorem dX8_moveBale_10 : decode cX8_moveBale 10 = .ok (.iload_n 2, 1) := dk_28 (dk_at dksX8_moveBale_0 10 rfl rfl)
theorem dX8_moveBale_11 : decode cX8_moveBale 11 = .ok (.invokevirtual 161, 3) := dk_182 0 161 (dk_at dksX8_moveBale_0 11 rfl rfl)
theorem dX8_moveBale_14 : decode cX8_moveBale 14 = .ok (.ifCond .eq 7, 3) := dk_153 0 7 (dk_at dksX8_moveBale_0 14 rfl rfl)
theorem dX8_moveBale_17 : decode cX8_moveBale 17 = .ok (.iconst 0, 1) := dk_3 (dk_at dksX8_moveBale_0 17 rfl rfl)
theorem dX8_moveBale_18 : decode cX8_moveBale 18 = .ok (.goto 4, 3) := dk_167 0 4 (dk_at dksX8_moveBale_0 18 rfl rfl)
theorem dX8_moveBale_21 : decode cX8_moveBale 21 = .ok (.iconst 1, 1) := dk_4 (dk_at dksX8_moveBale_0 21 rfl rfl)
theorem dX8_moveBale_22 : decode cX8_moveBale 22 = .ok (.putfield 37, 3) := dk_181 0 37 (dk_at dksX8_moveBale_1 0 rfl rfl)
theorem dX8_moveBale_25 : decode cX8_moveBale 25 = .ok (.aload_n 0, 1) := dk_42 (dk_at dksX8_moveBale_1 3 rfl rfl)
theorem dX8_moveBale_26 : decode cX8_moveBale 26 = .ok (.getfield 37, 3) := dk_180 0 37 (dk_at dksX8_moveBale_1 4 rfl rfl)
theorem dX8_moveBale_29 : decode cX8_moveBale 29 = .ok (.ifCond .le 5, 3) := dk_158 0 5 (dk_at dksX8_moveBale_1 7 rfl rfl)
theorem dX8_moveBale_32 : decode cX8_moveBale 32 = .ok (.iconst 0, 1) := dk_3 (dk_at dksX8_moveBale_1 10 rfl rfl)
theorem dX8_moveBale_33 : decode cX8_moveBale 33 = .ok (.ireturn, 1) := dk_172 (dk_at dksX8_moveBale_1 11 rfl rfl)
theorem dX8_moveBale_34 : decode cX8_moveBale 34 = .ok (.aload_n 0, 1) := dk_42 (dk_at dksX8_moveBale_1 12 rfl rfl)
theorem dX8_moveBale_35 : decode cX8_moveBale 35 = .ok (.invokevirtual 151, 3) := dk_182 0 151 (dk_at dksX8_moveBale_1 13 rfl rfl)
theorem dX8_moveBale_38 : decode cX8_moveBale 38 = .ok (.iload_n 2, 1) := dk_28 (dk_at dksX8_moveBale_1 16 rfl rfl)
theorem dX8_moveBale_39 : decode cX8_moveBale 39 = .ok (.iload_n 1, 1) := dk_27 (dk_at dksX8_moveBale_1 17 rfl rfl)
theorem dX8_moveBale_40 : decode cX8_moveBale 40 = .ok (.if_icmp .le 7, 3) := dk_164 0 7 (dk_at dksX8_moveBale_1 18 rfl rfl)
theorem dX8_moveBale_43 : decode cX8_moveBale 43 = .ok (.iconst 1, 1) := dk_4 (dk_at dksX8_moveBale_1 21 rfl rfl)
theorem dX8_moveBale_44 : decode cX8_moveBale 44 = .ok (.goto 4, 3) := dk_167 0 4 (dk_at dksX8_moveBale_2 0 rfl rfl)
theorem dX8_moveBale_47 : decode cX8_moveBale 47 = .ok (.iconst (-1), 1) := dk_2 (dk_at dksX8_moveBale_2 3 rfl rfl)
theorem dX8_moveBale_48 : decode cX8_moveBale 48 = .ok (.istore_n 3, 1) := dk_62 (dk_at dksX8_moveBale_2 4 rfl rfl)
theorem dX8_moveBale_49 : decode cX8_moveBale 49 = .ok (.iload_n 1, 1) := dk_27 (dk_at dksX8_moveBale_2 5 rfl rfl)
theorem dX8_moveBale_50 : decode cX8_moveBale 50 = .ok (.istore 4, 2) := dk_54 4 (dk_at dksX8_moveBale_2 6 rfl rfl)
theorem dX8_moveBale_52 : decode cX8_moveBale 52 = .ok (.iload 4, 2) := dk_21 4 (dk_at dksX8_moveBale_2 8 rfl rfl)
theorem dX8_moveBale_54 : decode cX8_moveBale 54 = .ok (.iload_n 2, 1) := dk_28 (dk_at dksX8_moveBale_2 10 rfl rfl)
theorem dX8_moveBale_55 : decode cX8_moveBale 55 = .ok (.if_icmp .eq 67, 3) := dk_159 0 67 (dk_at dksX8_moveBale_2 11 rfl rfl)
theorem dX8_moveBale_58 : decode cX8_moveBale 58 = .ok (.iconst 0, 1) := dk_3 (dk_at dksX8_moveBale_2 14 rfl rfl)
theorem dX8_moveBale_59 : decode cX8_moveBale 59 = .ok (.istore 5, 2) := dk_54 5 (dk_at dksX8_moveBale_2 15 rfl rfl)
theorem dX8_moveBale_61 : decode cX8_moveBale 61 = .ok (.iload 5, 2) := dk_21 5 (dk_at dksX8_moveBale_2 17 rfl rfl)
theorem dX8_moveBale_63 : decode cX8_moveBale 63 = .ok (.iconst 4, 1) := dk_7 (dk_at dksX8_moveBale_2 19 rfl rfl)
theorem dX8_moveBale_64 : decode cX8_moveBale 64 = .ok (.if_icmp .ge 49, 3) := dk_162 0 49 (dk_at dksX8_moveBale_2 20 rfl rfl)
theorem dX8_moveBale_67 : decode cX8_moveBale 67 = .ok (.aload_n 0, 1) := dk_42 (dk_at dksX8_moveBale_2 23 rfl rfl)
theorem dX8_moveBale_68 : decode cX8_moveBale 68 = .ok (.iload 4, 2) := dk_21 4 (dk_at dksX8_moveBale_3 0 rfl rfl)
theorem dX8_moveBale_70 : decode cX8_moveBale 70 = .ok (.iload 5, 2) := dk_21 5 (dk_at dksX8_moveBale_3 2 rfl rfl)
theorem dX8_moveBale_72 : decode cX8_moveBale 72 = .ok (.invokevirtual 52, 3) := dk_182 0 52 (dk_at dksX8_moveBale_3 4 rfl rfl)
theorem dX8_moveBale_75 : decode cX8_moveBale 75 = .ok (.istore 6, 2) := dk_54 6 (dk_at dksX8_moveBale_3 7 rfl rfl)
theorem dX8_moveBale_77 : decode cX8_moveBale 77 = .ok (.aload_n 0, 1) := dk_42 (dk_at dksX8_moveBale_3 9 rfl rfl)
theorem dX8_moveBale_78 : decode cX8_moveBale 78 = .ok (.iload 4, 2) := dk_21 4 (dk_at dksX8_moveBale_3 10 rfl rfl)
theorem dX8_moveBale_80 : decode cX8_moveBale 80 = .ok (.iload 5, 2) := dk_21 5 (dk_at dksX8_moveBale_3 12 rfl rfl)
theorem dX8_moveBale_82 : decode cX8_moveBale 82 = .ok (.aload_n 0, 1) := dk_42 (dk_at dksX8_moveBale_3 14 rfl rfl)
theorem dX8_moveBale_83 : decode cX8_moveBale 83 = .ok (.iload 4, 2) := dk_21 4 (dk_at dksX8_moveBale_3 15 rfl rfl)
theorem dX8_moveBale_85 : decode cX8_moveBale 85 = .ok (.iload_n 3, 1) := dk_29 (dk_at dksX8_moveBale_3 17 rfl rfl)
theorem dX8_moveBale_86 : decode cX8_moveBale 86 = .ok (.iadd, 1) := dk_96 (dk_at dksX8_moveBale_3 18 rfl rfl)
theorem dX8_moveBale_87 : decode cX8_moveBale 87 = .ok (.iload 5, 2) := dk_21 5 (dk_at dksX8_moveBale_3 19 rfl rfl)
theorem dX8_moveBale_89 : decode cX8_moveBale 89 = .ok (.invokevirtual 52, 3) := dk_182 0 52 (dk_at dksX8_moveBale_3 21 rfl rfl)
theorem dX8_moveBale_92 : decode cX8_moveBale 92 = .ok (.invokevirtual 67, 3) := dk_182 0 67 (dk_at dksX8_moveBale_4 0 rfl rfl)
theorem dX8_moveBale_95 : decode cX8_moveBale 95 = .ok (.aload_n 0, 1) := dk_42 (dk_at dksX8_moveBale_4 3 rfl rfl)
theorem dX8_moveBale_96 : decode cX8_moveBale 96 = .ok (.iload 4, 2) := dk_21 4 (dk_at dksX8_moveBale_4 4 rfl rfl)
theorem dX8_moveBale_98 : decode cX8_moveBale 98 = .ok (.iload_n 3, 1) := dk_29 (dk_at dksX8_moveBale_4 6 rfl rfl)
theorem dX8_moveBale_99 : decode cX8_moveBale 99 = .ok (.iadd, 1) := dk_96 (dk_at dksX8_moveBale_4 7 rfl rfl)
theorem dX8_moveBale_100 : decode cX8_moveBale 100 = .ok (.iload 5, 2) := dk_21 5 (dk_at dksX8_moveBale_4 8 rfl rfl)
theorem dX8_moveBale_102 : decode cX8_moveBale 102 = .ok (.iload 6, 2) := dk_21 6 (dk_at dksX8_moveBale_4 10 rfl rfl)
theorem dX8_moveBale_104 : decode cX8_moveBale 104 = .ok (.invokevirtual 67, 3) := dk_182 0 67 (dk_at dksX8_moveBale_4 12 rfl rfl)
theorem dX8_moveBale_107 : decode cX8_moveBale 107 = .ok (.iinc 5 1, 3) := dk_132 5 1 (dk_at dksX8_moveBale_4 15 rfl rfl)
theorem dX8_moveBale_110 : decode cX8_moveBale 110 = .ok (.goto (-49), 3) := dk_167 255 207 (dk_at dksX8_moveBale_4 18 rfl rfl)
theorem dX8_moveBale_113 : decode cX8_moveBale 113 = .ok (.iload 4, 2) := dk_21 4 (dk_at dksX8_moveBale_4 21 rfl rfl)
theorem dX8_moveBale_115 : decode cX8_moveBale 115 = .ok (.iload_n 3, 1) := dk_29 (dk_at dksX8_moveBale_4 23 rfl rfl)
theorem dX8_moveBale_116 : decode cX8_moveBale 116 = .ok (.iadd, 1) := dk_96 (dk_at dksX8_moveBale_5 0 rfl rfl)
theorem dX8_moveBale_117 : decode cX8_moveBale 117 = .ok (.istore 4, 2) := dk_54 4 (dk_at dksX8_moveBale_5 1 rfl rfl)
theorem dX8_moveBale_119 : decode cX8_moveBale 119 = .ok (.goto (-67), 3) := dk_167 255 189 (dk_at dksX8_moveBale_5 3 rfl rfl)
theorem dX8_moveBale_122 : decode cX8_moveBale 122 = .ok (.iload_n 2, 1) := dk_28 (dk_at dksX8_moveBale_5 6 rfl rfl)
theorem dX8_moveBale_123 : decode cX8_moveBale 123 = .ok (.aload_n 0, 1) := dk_42 (dk_at dksX8_moveBale_5 7 rfl rfl)
theorem dX8_moveBale_124 : decode cX8_moveBale 124 = .ok (.getfield 7, 3) := dk_180 0 7 (dk_at dksX8_moveBale_5 8 rfl rfl)
theorem dX8_moveBale_127 : decode cX8_moveBale 127 = .ok (.iconst 4, 1) := dk_7 (dk_at dksX8_moveBale_5 11 rfl rfl)
theorem dX8_moveBale_128 : decode cX8_moveBale 128 = .ok (.iaload, 1) := dk_46 (dk_at dksX8_moveBale_5 12 rfl rfl)
theorem dX8_moveBale_129 : decode cX8_moveBale 129 = .ok (.iconst 1, 1) := dk_4 (dk_at dksX8_moveBale_5 13 rfl rfl)
theorem dX8_moveBale_130 : decode cX8_moveBale 130 = .ok (.isub, 1) := dk_100 (dk_at dksX8_moveBale_5 14 rfl rfl)
theorem dX8_moveBale_131 : decode cX8_moveBale 131 = .ok (.if_icmp .ne 7, 3) := dk_160 0 7 (dk_at dksX8_moveBale_5 15 rfl rfl)
theorem dX8_moveBale_134 : decode cX8_moveBale 134 = .ok (.iconst (-1), 1) := dk_2 (dk_at dksX8_moveBale_5 18 rfl rfl)
theorem dX8_moveBale_135 : decode cX8_moveBale 135 = .ok (.goto 6, 3) := dk_167 0 6 (dk_at dksX8_moveBale_5 19 rfl rfl)
theorem dX8_moveBale_138 : decode cX8_moveBale 138 = .ok (.iload_n 2, 1) := dk_28 (dk_at dksX8_moveBale_5 22 rfl rfl)
theorem dX8_moveBale_139 : decode cX8_moveBale 139 = .ok (.iconst 1, 1) := dk_4 (dk_at dksX8_moveBale_5 23 rfl rfl)
theorem dX8_moveBale_140 : decode cX8_moveBale 140 = .ok (.iadd, 1) := dk_96 (dk_at dksX8_moveBale_6 0 rfl rfl)
theorem dX8_moveBale_141 : decode cX8_moveBale 141 = .ok (.ireturn, 1) := dk_172 (dk_at dksX8_moveBale_6 1 rfl rfl)
abbrev cX8_isBale : ByteArray := prog_26_method_13_code
def yX8_isBale : MethodName := ⟨RX8, "isBale", "(I)Z"⟩
def dkwX8_isBale_0 : List UInt8 := [27, 3, 42, 180, 0, 7, 7, 46, 4, 100, 184, 0, 48, 172]
abbrev dktX8_isBale_0 : List UInt8 := dkwX8_isBale_0 ++ []
theorem dksX8_isBale_0 : cX8_isBale.data.toList.drop 0 = dktX8_isBale_0 := by decide +kernel
theorem dX8_isBale_0 : decode cX8_isBale 0 = .ok (.iload_n 1, 1) := dk_27 (dk_at dksX8_isBale_0 0 rfl rfl)
theorem dX8_isBale_1 : decode cX8_isBale 1 = .ok (.iconst 0, 1) := dk_3 (dk_at dksX8_isBale_0 1 rfl rfl)
theorem dX8_isBale_2 : decode cX8_isBale 2 = .ok (.aload_n 0, 1) := dk_42 (dk_at dksX8_isBale_0 2 rfl rfl)
theorem dX8_isBale_3 : decode cX8_isBale 3 = .ok (.getfield 7, 3) := dk_180 0 7 (dk_at dksX8_isBale_0 3 rfl rfl)
theorem dX8_isBale_6 : decode cX8_isBale 6 = .ok (.iconst 4, 1) := dk_7 (dk_at dksX8_isBale_0 6 rfl rfl)
theorem dX8_isBale_7 : decode cX8_isBale 7 = .ok (.iaload, 1) := dk_46 (dk_at dksX8_isBale_0 7 rfl rfl)
theorem dX8_isBale_8 : decode cX8_isBale 8 = .ok (.iconst 1, 1) := dk_4 (dk_at dksX8_isBale_0 8 rfl rfl)
theorem dX8_isBale_9 : decode cX8_isBale 9 = .ok (.isub, 1) := dk_100 (dk_at dksX8_isBale_0 9 rfl rfl)
theorem dX8_isBale_10 : decode cX8_isBale 10 = .ok (.invokestatic 48, 3) := dk_184 0 48 (dk_at dksX8_isBale_0 10 rfl rfl)
theorem dX8_isBale_13 : decode cX8_isBale 13 = .ok (.ireturn, 1) := dk_172 (dk_at dksX8_isBale_0 13 rfl rfl)
abbrev cX8_bale : ByteArray := prog_26_method_14_code
def yX8_bale : MethodName := ⟨RX8, "bale", "(II)I"⟩
def dkwX8_bale_0 : List UInt8 := [42, 180, 0, 7, 16, 21, 7, 27, 104, 96, 28, 96, 46, 172]
abbrev dktX8_bale_0 : List UInt8 := dkwX8_bale_0 ++ []
theorem dksX8_bale_0 : cX8_bale.data.toList.drop 0 = dktX8_bale_0 := by decide +kernel
theorem dX8_bale_0 : decode cX8_bale 0 = .ok (.aload_n 0, 1) := dk_42 (dk_at dksX8_bale_0 0 rfl rfl)
theorem dX8_bale_1 : decode cX8_bale 1 = .ok (.getfield 7, 3) := dk_180 0 7 (dk_at dksX8_bale_0 1 rfl rfl)
theorem dX8_bale_4 : decode cX8_bale 4 = .ok (.bipush 21, 2) := dk_16 21 (dk_at dksX8_bale_0 4 rfl rfl)
theorem dX8_bale_6 : decode cX8_bale 6 = .ok (.iconst 4, 1) := dk_7 (dk_at dksX8_bale_0 6 rfl rfl)
theorem dX8_bale_7 : decode cX8_bale 7 = .ok (.iload_n 1, 1) := dk_27 (dk_at dksX8_bale_0 7 rfl rfl)
theorem dX8_bale_8 : decode cX8_bale 8 = .ok (.imul, 1) := dk_104 (dk_at dksX8_bale_0 8 rfl rfl)
theorem dX8_bale_9 : decode cX8_bale 9 = .ok (.iadd, 1) := dk_96 (dk_at dksX8_bale_0 9 rfl rfl)
theorem dX8_bale_10 : decode cX8_bale 10 = .ok (.iload_n 2, 1) := dk_28 (dk_at dksX8_bale_0 10 rfl rfl)
theorem dX8_bale_11 : decode cX8_bale 11 = .ok (.iadd, 1) := dk_96 (dk_at dksX8_bale_0 11 rfl rfl)
theorem dX8_bale_12 : decode cX8_bale 12 = .ok (.iaload, 1) := dk_46 (dk_at dksX8_bale_0 12 rfl rfl)
theorem dX8_bale_13 : decode cX8_bale 13 = .ok (.ireturn, 1) := dk_172 (dk_at dksX8_bale_0 13 rfl rfl)
abbrev cX8_burn : ByteArray := prog_26_method_61_code
def yX8_burn : MethodName := ⟨RX8, "burn", "(I)I"⟩
def dkwX8_burn_1 : List UInt8 := [3, 172, 42, 182, 0, 151, 42, 27, 4, 182, 0, 52, 61, 42, 16, 21, 7, 27, 7, 182, 0, 90, 28, 172]
abbrev dktX8_burn_1 : List UInt8 := dkwX8_burn_1 ++ []
def dkwX8_burn_0 : List UInt8 := [42, 42, 27, 182, 0, 161, 153, 0, 7, 3, 167, 0, 4, 4, 181, 0, 37, 42, 180, 0, 37, 158, 0, 5]
abbrev dktX8_burn_0 : List UInt8 := dkwX8_burn_0 ++ dktX8_burn_1
theorem dksX8_burn_0 : cX8_burn.data.toList.drop 0 = dktX8_burn_0 := by decide +kernel
theorem dksX8_burn_1 : cX8_burn.data.toList.drop 24 = dktX8_burn_1 := dk_seg dksX8_burn_0 24 rfl rfl
theorem dX8_burn_0 : decode cX8_burn 0 = .ok (.aload_n 0, 1) := dk_42 (dk_at dksX8_burn_0 0 rfl rfl)
theorem dX8_burn_1 : decode cX8_burn 1 = .ok (.aload_n 0, 1) := dk_42 (dk_at dksX8_burn_0 1 rfl rfl)
theorem dX8_burn_2 : decode cX8_burn 2 = .ok (.iload_n 1, 1) := dk_27 (dk_at dksX8_burn_0 2 rfl rfl)
theorem dX8_burn_3 : decode cX8_burn 3 = .ok (.invokevirtual 161, 3) := dk_182 0 161 (dk_at dksX8_burn_0 3 rfl rfl)
theorem dX8_burn_6 : decode cX8_burn 6 = .ok (.ifCond .eq 7, 3) := dk_153 0 7 (dk_at dksX8_burn_0 6 rfl rfl)
theorem dX8_burn_9 : decode cX8_burn 9 = .ok (.iconst 0, 1) := dk_3 (dk_at dksX8_burn_0 9 rfl rfl)
theorem dX8_burn_10 : decode cX8_burn 10 = .ok (.goto 4, 3) := dk_167 0 4 (dk_at dksX8_burn_0 10 rfl rfl)
theorem dX8_burn_13 : decode cX8_burn 13 = .ok (.iconst 1, 1) := dk_4 (dk_at dksX8_burn_0 13 rfl rfl)
theorem dX8_burn_14 : decode cX8_burn 14 = .ok (.putfield 37, 3) := dk_181 0 37 (dk_at dksX8_burn_0 14 rfl rfl)
theorem dX8_burn_17 : decode cX8_burn 17 = .ok (.aload_n 0, 1) := dk_42 (dk_at dksX8_burn_0 17 rfl rfl)
theorem dX8_burn_18 : decode cX8_burn 18 = .ok (.getfield 37, 3) := dk_180 0 37 (dk_at dksX8_burn_0 18 rfl rfl)
theorem dX8_burn_21 : decode cX8_burn 21 = .ok (.ifCond .le 5, 3) := dk_158 0 5 (dk_at dksX8_burn_0 21 rfl rfl)
theorem dX8_burn_24 : decode cX8_burn 24 = .ok (.iconst 0, 1) := dk_3 (dk_at dksX8_burn_1 0 rfl rfl)
theorem dX8_burn_25 : decode cX8_burn 25 = .ok (.ireturn, 1) := dk_172 (dk_at dksX8_burn_1 1 rfl rfl)
theorem dX8_burn_26 : decode cX8_burn 26 = .ok (.aload_n 0, 1) := dk_42 (dk_at dksX8_burn_1 2 rfl rfl)
theorem dX8_burn_27 : decode cX8_burn 27 = .ok (.invokevirtual 151, 3) := dk_182 0 151 (dk_at dksX8_burn_1 3 rfl rfl)
theorem dX8_burn_30 : decode cX8_burn 30 = .ok (.aload_n 0, 1) := dk_42 (dk_at dksX8_burn_1 6 rfl rfl)
theorem dX8_burn_31 : decode cX8_burn 31 = .ok (.iload_n 1, 1) := dk_27 (dk_at dksX8_burn_1 7 rfl rfl)
theorem dX8_burn_32 : decode cX8_burn 32 = .ok (.iconst 1, 1) := dk_4 (dk_at dksX8_burn_1 8 rfl rfl)
theorem dX8_burn_33 : decode cX8_burn 33 = .ok (.invokevirtual 52, 3) := dk_182 0 52 (dk_at dksX8_burn_1 9 rfl rfl)
theorem dX8_burn_36 : decode cX8_burn 36 = .ok (.istore_n 2, 1) := dk_61 (dk_at dksX8_burn_1 12 rfl rfl)
theorem dX8_burn_37 : decode cX8_burn 37 = .ok (.aload_n 0, 1) := dk_42 (dk_at dksX8_burn_1 13 rfl rfl)
theorem dX8_burn_38 : decode cX8_burn 38 = .ok (.bipush 21, 2) := dk_16 21 (dk_at dksX8_burn_1 14 rfl rfl)
theorem dX8_burn_40 : decode cX8_burn 40 = .ok (.iconst 4, 1) := dk_7 (dk_at dksX8_burn_1 16 rfl rfl)
theorem dX8_burn_41 : decode cX8_burn 41 = .ok (.iload_n 1, 1) := dk_27 (dk_at dksX8_burn_1 17 rfl rfl)
theorem dX8_burn_42 : decode cX8_burn 42 = .ok (.iconst 4, 1) := dk_7 (dk_at dksX8_burn_1 18 rfl rfl)
theorem dX8_burn_43 : decode cX8_burn 43 = .ok (.invokevirtual 90, 3) := dk_182 0 90 (dk_at dksX8_burn_1 19 rfl rfl)
theorem dX8_burn_46 : decode cX8_burn 46 = .ok (.iload_n 2, 1) := dk_28 (dk_at dksX8_burn_1 22 rfl rfl)
theorem dX8_burn_47 : decode cX8_burn 47 = .ok (.ireturn, 1) := dk_172 (dk_at dksX8_burn_1 23 rfl rfl)
abbrev cX8_takesOut : ByteArray := prog_26_method_8_code
def yX8_takesOut : MethodName := ⟨RX8, "takesOut", "(IIII)V"⟩
def dkwX8_takesOut_2 : List UInt8 := [96, 46, 79, 132, 5, 1, 167, 255, 221, 177]
abbrev dktX8_takesOut_2 : List UInt8 := dkwX8_takesOut_2 ++ []
def dkwX8_takesOut_1 : List UInt8 := [180, 0, 7, 21, 4, 46, 104, 96, 162, 0, 25, 42, 180, 0, 7, 21, 5, 42, 180, 0, 7, 21, 5, 28]
abbrev dktX8_takesOut_1 : List UInt8 := dkwX8_takesOut_1 ++ dktX8_takesOut_2
def dkwX8_takesOut_0 : List UInt8 := [42, 180, 0, 7, 21, 4, 92, 46, 4, 100, 79, 27, 28, 29, 104, 96, 54, 5, 21, 5, 27, 28, 42]
abbrev dktX8_takesOut_0 : List UInt8 := dkwX8_takesOut_0 ++ dktX8_takesOut_1
theorem dksX8_takesOut_0 : cX8_takesOut.data.toList.drop 0 = dktX8_takesOut_0 := by decide +kernel
theorem dksX8_takesOut_1 : cX8_takesOut.data.toList.drop 23 = dktX8_takesOut_1 := dk_seg dksX8_takesOut_0 23 rfl rfl
theorem dksX8_takesOut_2 : cX8_takesOut.data.toList.drop 47 = dktX8_takesOut_2 := dk_seg dksX8_takesOut_1 24 rfl rfl
theorem dX8_takesOut_0 : decode cX8_takesOut 0 = .ok (.aload_n 0, 1) := dk_42 (dk_at dksX8_takesOut_0 0 rfl rfl)
theorem dX8_takesOut_1 : decode cX8_takesOut 1 = .ok (.getfield 7, 3) := dk_180 0 7 (dk_at dksX8_takesOut_0 1 rfl rfl)
theorem dX8_takesOut_4 : decode cX8_takesOut 4 = .ok (.iload 4, 2) := dk_21 4 (dk_at dksX8_takesOut_0 4 rfl rfl)
theorem dX8_takesOut_6 : decode cX8_takesOut 6 = .ok (.dup2, 1) := dk_92 (dk_at dksX8_takesOut_0 6 rfl rfl)
theorem dX8_takesOut_7 : decode cX8_takesOut 7 = .ok (.iaload, 1) := dk_46 (dk_at dksX8_takesOut_0 7 rfl rfl)
theorem dX8_takesOut_8 : decode cX8_takesOut 8 = .ok (.iconst 1, 1) := dk_4 (dk_at dksX8_takesOut_0 8 rfl rfl)
theorem dX8_takesOut_9 : decode cX8_takesOut 9 = .ok (.isub, 1) := dk_100 (dk_at dksX8_takesOut_0 9 rfl rfl)
theorem dX8_takesOut_10 : decode cX8_takesOut 10 = .ok (.iastore, 1) := dk_79 (dk_at dksX8_takesOut_0 10 rfl rfl)
theorem dX8_takesOut_11 : decode cX8_takesOut 11 = .ok (.iload_n 1, 1) := dk_27 (dk_at dksX8_takesOut_0 11 rfl rfl)
theorem dX8_takesOut_12 : decode cX8_takesOut 12 = .ok (.iload_n 2, 1) := dk_28 (dk_at dksX8_takesOut_0 12 rfl rfl)
theorem dX8_takesOut_13 : decode cX8_takesOut 13 = .ok (.iload_n 3, 1) := dk_29 (dk_at dksX8_takesOut_0 13 rfl rfl)
theorem dX8_takesOut_14 : decode cX8_takesOut 14 = .ok (.imul, 1) := dk_104 (dk_at dksX8_takesOut_0 14 rfl rfl)
theorem dX8_takesOut_15 : decode cX8_takesOut 15 = .ok (.iadd, 1) := dk_96 (dk_at dksX8_takesOut_0 15 rfl rfl)
theorem dX8_takesOut_16 : decode cX8_takesOut 16 = .ok (.istore 5, 2) := dk_54 5 (dk_at dksX8_takesOut_0 16 rfl rfl)
theorem dX8_takesOut_18 : decode cX8_takesOut 18 = .ok (.iload 5, 2) := dk_21 5 (dk_at dksX8_takesOut_0 18 rfl rfl)
theorem dX8_takesOut_20 : decode cX8_takesOut 20 = .ok (.iload_n 1, 1) := dk_27 (dk_at dksX8_takesOut_0 20 rfl rfl)
theorem dX8_takesOut_21 : decode cX8_takesOut 21 = .ok (.iload_n 2, 1) := dk_28 (dk_at dksX8_takesOut_0 21 rfl rfl)
theorem dX8_takesOut_22 : decode cX8_takesOut 22 = .ok (.aload_n 0, 1) := dk_42 (dk_at dksX8_takesOut_0 22 rfl rfl)
theorem dX8_takesOut_23 : decode cX8_takesOut 23 = .ok (.getfield 7, 3) := dk_180 0 7 (dk_at dksX8_takesOut_1 0 rfl rfl)
theorem dX8_takesOut_26 : decode cX8_takesOut 26 = .ok (.iload 4, 2) := dk_21 4 (dk_at dksX8_takesOut_1 3 rfl rfl)
theorem dX8_takesOut_28 : decode cX8_takesOut 28 = .ok (.iaload, 1) := dk_46 (dk_at dksX8_takesOut_1 5 rfl rfl)
theorem dX8_takesOut_29 : decode cX8_takesOut 29 = .ok (.imul, 1) := dk_104 (dk_at dksX8_takesOut_1 6 rfl rfl)
theorem dX8_takesOut_30 : decode cX8_takesOut 30 = .ok (.iadd, 1) := dk_96 (dk_at dksX8_takesOut_1 7 rfl rfl)
theorem dX8_takesOut_31 : decode cX8_takesOut 31 = .ok (.if_icmp .ge 25, 3) := dk_162 0 25 (dk_at dksX8_takesOut_1 8 rfl rfl)
theorem dX8_takesOut_34 : decode cX8_takesOut 34 = .ok (.aload_n 0, 1) := dk_42 (dk_at dksX8_takesOut_1 11 rfl rfl)
theorem dX8_takesOut_35 : decode cX8_takesOut 35 = .ok (.getfield 7, 3) := dk_180 0 7 (dk_at dksX8_takesOut_1 12 rfl rfl)
theorem dX8_takesOut_38 : decode cX8_takesOut 38 = .ok (.iload 5, 2) := dk_21 5 (dk_at dksX8_takesOut_1 15 rfl rfl)
theorem dX8_takesOut_40 : decode cX8_takesOut 40 = .ok (.aload_n 0, 1) := dk_42 (dk_at dksX8_takesOut_1 17 rfl rfl)
theorem dX8_takesOut_41 : decode cX8_takesOut 41 = .ok (.getfield 7, 3) := dk_180 0 7 (dk_at dksX8_takesOut_1 18 rfl rfl)
theorem dX8_takesOut_44 : decode cX8_takesOut 44 = .ok (.iload 5, 2) := dk_21 5 (dk_at dksX8_takesOut_1 21 rfl rfl)
theorem dX8_takesOut_46 : decode cX8_takesOut 46 = .ok (.iload_n 2, 1) := dk_28 (dk_at dksX8_takesOut_1 23 rfl rfl)
theorem dX8_takesOut_47 : decode cX8_takesOut 47 = .ok (.iadd, 1) := dk_96 (dk_at dksX8_takesOut_2 0 rfl rfl)
theorem dX8_takesOut_48 : decode cX8_takesOut 48 = .ok (.iaload, 1) := dk_46 (dk_at dksX8_takesOut_2 1 rfl rfl)
theorem dX8_takesOut_49 : decode cX8_takesOut 49 = .ok (.iastore, 1) := dk_79 (dk_at dksX8_takesOut_2 2 rfl rfl)
theorem dX8_takesOut_50 : decode cX8_takesOut 50 = .ok (.iinc 5 1, 3) := dk_132 5 1 (dk_at dksX8_takesOut_2 3 rfl rfl)
theorem dX8_takesOut_53 : decode cX8_takesOut 53 = .ok (.goto (-35), 3) := dk_167 255 221 (dk_at dksX8_takesOut_2 6 rfl rfl)
theorem dX8_takesOut_56 : decode cX8_takesOut 56 = .ok (.return_, 1) := dk_177 (dk_at dksX8_takesOut_2 9 rfl rfl)
abbrev cX8_beat : ByteArray := prog_26_method_63_code
def yX8_beat : MethodName := ⟨RX8, "beat", "(II)I"⟩
def dkwX8_beat_2 : List UInt8 := [172, 42, 182, 0, 151, 42, 27, 28, 182, 0, 173, 172]
abbrev dktX8_beat_2 : List UInt8 := dkwX8_beat_2 ++ []
def dkwX8_beat_1 : List UInt8 := [27, 28, 182, 0, 170, 154, 0, 7, 3, 167, 0, 4, 6, 181, 0, 37, 42, 180, 0, 37, 158, 0, 5, 3]
abbrev dktX8_beat_1 : List UInt8 := dkwX8_beat_1 ++ dktX8_beat_2
def dkwX8_beat_0 : List UInt8 := [42, 27, 184, 0, 164, 154, 0, 7, 4, 167, 0, 28, 28, 184, 0, 167, 154, 0, 7, 5, 167, 0, 17, 42]
abbrev dktX8_beat_0 : List UInt8 := dkwX8_beat_0 ++ dktX8_beat_1
theorem dksX8_beat_0 : cX8_beat.data.toList.drop 0 = dktX8_beat_0 := by decide +kernel
theorem dksX8_beat_1 : cX8_beat.data.toList.drop 24 = dktX8_beat_1 := dk_seg dksX8_beat_0 24 rfl rfl
theorem dksX8_beat_2 : cX8_beat.data.toList.drop 48 = dktX8_beat_2 := dk_seg dksX8_beat_1 24 rfl rfl
theorem dX8_beat_0 : decode cX8_beat 0 = .ok (.aload_n 0, 1) := dk_42 (dk_at dksX8_beat_0 0 rfl rfl)
theorem dX8_beat_1 : decode cX8_beat 1 = .ok (.iload_n 1, 1) := dk_27 (dk_at dksX8_beat_0 1 rfl rfl)
theorem dX8_beat_2 : decode cX8_beat 2 = .ok (.invokestatic 164, 3) := dk_184 0 164 (dk_at dksX8_beat_0 2 rfl rfl)
theorem dX8_beat_5 : decode cX8_beat 5 = .ok (.ifCond .ne 7, 3) := dk_154 0 7 (dk_at dksX8_beat_0 5 rfl rfl)
theorem dX8_beat_8 : decode cX8_beat 8 = .ok (.iconst 1, 1) := dk_4 (dk_at dksX8_beat_0 8 rfl rfl)
theorem dX8_beat_9 : decode cX8_beat 9 = .ok (.goto 28, 3) := dk_167 0 28 (dk_at dksX8_beat_0 9 rfl rfl)
theorem dX8_beat_12 : decode cX8_beat 12 = .ok (.iload_n 2, 1) := dk_28 (dk_at dksX8_beat_0 12 rfl rfl)
theorem dX8_beat_13 : decode cX8_beat 13 = .ok (.invokestatic 167, 3) := dk_184 0 167 (dk_at dksX8_beat_0 13 rfl rfl)
theorem dX8_beat_16 : decode cX8_beat 16 = .ok (.ifCond .ne 7, 3) := dk_154 0 7 (dk_at dksX8_beat_0 16 rfl rfl)
theorem dX8_beat_19 : decode cX8_beat 19 = .ok (.iconst 2, 1) := dk_5 (dk_at dksX8_beat_0 19 rfl rfl)
theorem dX8_beat_20 : decode cX8_beat 20 = .ok (.goto 17, 3) := dk_167 0 17 (dk_at dksX8_beat_0 20 rfl rfl)
theorem dX8_beat_23 : decode cX8_beat 23 = .ok (.aload_n 0, 1) := dk_42 (dk_at dksX8_beat_0 23 rfl rfl)
theorem dX8_beat_24 : decode cX8_beat 24 = .ok (.iload_n 1, 1) := dk_27 (dk_at dksX8_beat_1 0 rfl rfl)
theorem dX8_beat_25 : decode cX8_beat 25 = .ok (.iload_n 2, 1) := dk_28 (dk_at dksX8_beat_1 1 rfl rfl)
theorem dX8_beat_26 : decode cX8_beat 26 = .ok (.invokevirtual 170, 3) := dk_182 0 170 (dk_at dksX8_beat_1 2 rfl rfl)
theorem dX8_beat_29 : decode cX8_beat 29 = .ok (.ifCond .ne 7, 3) := dk_154 0 7 (dk_at dksX8_beat_1 5 rfl rfl)
theorem dX8_beat_32 : decode cX8_beat 32 = .ok (.iconst 0, 1) := dk_3 (dk_at dksX8_beat_1 8 rfl rfl)
theorem dX8_beat_33 : decode cX8_beat 33 = .ok (.goto 4, 3) := dk_167 0 4 (dk_at dksX8_beat_1 9 rfl rfl)
theorem dX8_beat_36 : decode cX8_beat 36 = .ok (.iconst 3, 1) := dk_6 (dk_at dksX8_beat_1 12 rfl rfl)
theorem dX8_beat_37 : decode cX8_beat 37 = .ok (.putfield 37, 3) := dk_181 0 37 (dk_at dksX8_beat_1 13 rfl rfl)
theorem dX8_beat_40 : decode cX8_beat 40 = .ok (.aload_n 0, 1) := dk_42 (dk_at dksX8_beat_1 16 rfl rfl)
theorem dX8_beat_41 : decode cX8_beat 41 = .ok (.getfield 37, 3) := dk_180 0 37 (dk_at dksX8_beat_1 17 rfl rfl)
theorem dX8_beat_44 : decode cX8_beat 44 = .ok (.ifCond .le 5, 3) := dk_158 0 5 (dk_at dksX8_beat_1 20 rfl rfl)
theorem dX8_beat_47 : decode cX8_beat 47 = .ok (.iconst 0, 1) := dk_3 (dk_at dksX8_beat_1 23 rfl rfl)
theorem dX8_beat_48 : decode cX8_beat 48 = .ok (.ireturn, 1) := dk_172 (dk_at dksX8_beat_2 0 rfl rfl)
theorem dX8_beat_49 : decode cX8_beat 49 = .ok (.aload_n 0, 1) := dk_42 (dk_at dksX8_beat_2 1 rfl rfl)
theorem dX8_beat_50 : decode cX8_beat 50 = .ok (.invokevirtual 151, 3) := dk_182 0 151 (dk_at dksX8_beat_2 2 rfl rfl)
theorem dX8_beat_53 : decode cX8_beat 53 = .ok (.aload_n 0, 1) := dk_42 (dk_at dksX8_beat_2 5 rfl rfl)
theorem dX8_beat_54 : decode cX8_beat 54 = .ok (.iload_n 1, 1) := dk_27 (dk_at dksX8_beat_2 6 rfl rfl)
theorem dX8_beat_55 : decode cX8_beat 55 = .ok (.iload_n 2, 1) := dk_28 (dk_at dksX8_beat_2 7 rfl rfl)
theorem dX8_beat_56 : decode cX8_beat 56 = .ok (.invokevirtual 173, 3) := dk_182 0 173 (dk_at dksX8_beat_2 8 rfl rfl)
theorem dX8_beat_59 : decode cX8_beat 59 = .ok (.ireturn, 1) := dk_172 (dk_at dksX8_beat_2 11 rfl rfl)
abbrev cX8_isVat : ByteArray := prog_26_method_11_code
def yX8_isVat : MethodName := ⟨RX8, "isVat", "(I)Z"⟩
def dkwX8_isVat_0 : List UInt8 := [26, 3, 5, 184, 0, 48, 172]
abbrev dktX8_isVat_0 : List UInt8 := dkwX8_isVat_0 ++ []
theorem dksX8_isVat_0 : cX8_isVat.data.toList.drop 0 = dktX8_isVat_0 := by decide +kernel
theorem dX8_isVat_0 : decode cX8_isVat 0 = .ok (.iload_n 0, 1) := dk_26 (dk_at dksX8_isVat_0 0 rfl rfl)
theorem dX8_isVat_1 : decode cX8_isVat 1 = .ok (.iconst 0, 1) := dk_3 (dk_at dksX8_isVat_0 1 rfl rfl)
theorem dX8_isVat_2 : decode cX8_isVat 2 = .ok (.iconst 2, 1) := dk_5 (dk_at dksX8_isVat_0 2 rfl rfl)
theorem dX8_isVat_3 : decode cX8_isVat 3 = .ok (.invokestatic 48, 3) := dk_184 0 48 (dk_at dksX8_isVat_0 3 rfl rfl)
theorem dX8_isVat_6 : decode cX8_isVat 6 = .ok (.ireturn, 1) := dk_172 (dk_at dksX8_isVat_0 6 rfl rfl)
abbrev cX8_isPounds : ByteArray := prog_26_method_62_code
def yX8_isPounds : MethodName := ⟨RX8, "isPounds", "(I)Z"⟩
def dkwX8_isPounds_0 : List UInt8 := [26, 4, 17, 0, 200, 184, 0, 48, 172]
abbrev dktX8_isPounds_0 : List UInt8 := dkwX8_isPounds_0 ++ []
theorem dksX8_isPounds_0 : cX8_isPounds.data.toList.drop 0 = dktX8_isPounds_0 := by decide +kernel
theorem dX8_isPounds_0 : decode cX8_isPounds 0 = .ok (.iload_n 0, 1) := dk_26 (dk_at dksX8_isPounds_0 0 rfl rfl)
theorem dX8_isPounds_1 : decode cX8_isPounds 1 = .ok (.iconst 1, 1) := dk_4 (dk_at dksX8_isPounds_0 1 rfl rfl)
theorem dX8_isPounds_2 : decode cX8_isPounds 2 = .ok (.sipush 200, 3) := dk_17 0 200 (dk_at dksX8_isPounds_0 2 rfl rfl)
theorem dX8_isPounds_5 : decode cX8_isPounds 5 = .ok (.invokestatic 48, 3) := dk_184 0 48 (dk_at dksX8_isPounds_0 5 rfl rfl)
theorem dX8_isPounds_8 : decode cX8_isPounds 8 = .ok (.ireturn, 1) := dk_172 (dk_at dksX8_isPounds_0 8 rfl rfl)
abbrev cX8_whyNoBeating : ByteArray := prog_26_method_26_code
def yX8_whyNoBeating : MethodName := ⟨RX8, "whyNoBeating", "(II)I"⟩
def dkwX8_whyNoBeating_1 : List UInt8 := [182, 0, 81, 42, 180, 0, 22, 29, 46, 162, 0, 7, 5, 29, 96, 172, 132, 3, 1, 167, 255, 230, 3, 172]
abbrev dktX8_whyNoBeating_1 : List UInt8 := dkwX8_whyNoBeating_1 ++ []
def dkwX8_whyNoBeating_0 : List UInt8 := [42, 27, 182, 0, 74, 158, 0, 5, 4, 172, 42, 28, 182, 0, 77, 3, 62, 29, 7, 162, 0, 27, 42, 29]
abbrev dktX8_whyNoBeating_0 : List UInt8 := dkwX8_whyNoBeating_0 ++ dktX8_whyNoBeating_1
theorem dksX8_whyNoBeating_0 : cX8_whyNoBeating.data.toList.drop 0 = dktX8_whyNoBeating_0 := by decide +kernel
theorem dksX8_whyNoBeating_1 : cX8_whyNoBeating.data.toList.drop 24 = dktX8_whyNoBeating_1 := dk_seg dksX8_whyNoBeating_0 24 rfl rfl
theorem dX8_whyNoBeating_0 : decode cX8_whyNoBeating 0 = .ok (.aload_n 0, 1) := dk_42 (dk_at dksX8_whyNoBeating_0 0 rfl rfl)
theorem dX8_whyNoBeating_1 : decode cX8_whyNoBeating 1 = .ok (.iload_n 1, 1) := dk_27 (dk_at dksX8_whyNoBeating_0 1 rfl rfl)
theorem dX8_whyNoBeating_2 : decode cX8_whyNoBeating 2 = .ok (.invokevirtual 74, 3) := dk_182 0 74 (dk_at dksX8_whyNoBeating_0 2 rfl rfl)
theorem dX8_whyNoBeating_5 : decode cX8_whyNoBeating 5 = .ok (.ifCond .le 5, 3) := dk_158 0 5 (dk_at dksX8_whyNoBeating_0 5 rfl rfl)
theorem dX8_whyNoBeating_8 : decode cX8_whyNoBeating 8 = .ok (.iconst 1, 1) := dk_4 (dk_at dksX8_whyNoBeating_0 8 rfl rfl)
theorem dX8_whyNoBeating_9 : decode cX8_whyNoBeating 9 = .ok (.ireturn, 1) := dk_172 (dk_at dksX8_whyNoBeating_0 9 rfl rfl)
theorem dX8_whyNoBeating_10 : decode cX8_whyNoBeating 10 = .ok (.aload_n 0, 1) := dk_42 (dk_at dksX8_whyNoBeating_0 10 rfl rfl)
theorem dX8_whyNoBeating_11 : decode cX8_whyNoBeating 11 = .ok (.iload_n 2, 1) := dk_28 (dk_at dksX8_whyNoBeating_0 11 rfl rfl)
theorem dX8_whyNoBeating_12 : decode cX8_whyNoBeating 12 = .ok (.invokevirtual 77, 3) := dk_182 0 77 (dk_at dksX8_whyNoBeating_0 12 rfl rfl)
theorem dX8_whyNoBeating_15 : decode cX8_whyNoBeating 15 = .ok (.iconst 0, 1) := dk_3 (dk_at dksX8_whyNoBeating_0 15 rfl rfl)
theorem dX8_whyNoBeating_16 : decode cX8_whyNoBeating 16 = .ok (.istore_n 3, 1) := dk_62 (dk_at dksX8_whyNoBeating_0 16 rfl rfl)
theorem dX8_whyNoBeating_17 : decode cX8_whyNoBeating 17 = .ok (.iload_n 3, 1) := dk_29 (dk_at dksX8_whyNoBeating_0 17 rfl rfl)
theorem dX8_whyNoBeating_18 : decode cX8_whyNoBeating 18 = .ok (.iconst 4, 1) := dk_7 (dk_at dksX8_whyNoBeating_0 18 rfl rfl)
theorem dX8_whyNoBeating_19 : decode cX8_whyNoBeating 19 = .ok (.if_icmp .ge 27, 3) := dk_162 0 27 (dk_at dksX8_whyNoBeating_0 19 rfl rfl)
theorem dX8_whyNoBeating_22 : decode cX8_whyNoBeating 22 = .ok (.aload_n 0, 1) := dk_42 (dk_at dksX8_whyNoBeating_0 22 rfl rfl)
theorem dX8_whyNoBeating_23 : decode cX8_whyNoBeating 23 = .ok (.iload_n 3, 1) := dk_29 (dk_at dksX8_whyNoBeating_0 23 rfl rfl)
theorem dX8_whyNoBeating_24 : decode cX8_whyNoBeating 24 = .ok (.invokevirtual 81, 3) := dk_182 0 81 (dk_at dksX8_whyNoBeating_1 0 rfl rfl)
theorem dX8_whyNoBeating_27 : decode cX8_whyNoBeating 27 = .ok (.aload_n 0, 1) := dk_42 (dk_at dksX8_whyNoBeating_1 3 rfl rfl)
theorem dX8_whyNoBeating_28 : decode cX8_whyNoBeating 28 = .ok (.getfield 22, 3) := dk_180 0 22 (dk_at dksX8_whyNoBeating_1 4 rfl rfl)
theorem dX8_whyNoBeating_31 : decode cX8_whyNoBeating 31 = .ok (.iload_n 3, 1) := dk_29 (dk_at dksX8_whyNoBeating_1 7 rfl rfl)
theorem dX8_whyNoBeating_32 : decode cX8_whyNoBeating 32 = .ok (.iaload, 1) := dk_46 (dk_at dksX8_whyNoBeating_1 8 rfl rfl)
theorem dX8_whyNoBeating_33 : decode cX8_whyNoBeating 33 = .ok (.if_icmp .ge 7, 3) := dk_162 0 7 (dk_at dksX8_whyNoBeating_1 9 rfl rfl)
theorem dX8_whyNoBeating_36 : decode cX8_whyNoBeating 36 = .ok (.iconst 2, 1) := dk_5 (dk_at dksX8_whyNoBeating_1 12 rfl rfl)
theorem dX8_whyNoBeating_37 : decode cX8_whyNoBeating 37 = .ok (.iload_n 3, 1) := dk_29 (dk_at dksX8_whyNoBeating_1 13 rfl rfl)
theorem dX8_whyNoBeating_38 : decode cX8_whyNoBeating 38 = .ok (.iadd, 1) := dk_96 (dk_at dksX8_whyNoBeating_1 14 rfl rfl)
theorem dX8_whyNoBeating_39 : decode cX8_whyNoBeating 39 = .ok (.ireturn, 1) := dk_172 (dk_at dksX8_whyNoBeating_1 15 rfl rfl)
theorem dX8_whyNoBeating_40 : decode cX8_whyNoBeating 40 = .ok (.iinc 3 1, 3) := dk_132 3 1 (dk_at dksX8_whyNoBeating_1 16 rfl rfl)
theorem dX8_whyNoBeating_43 : decode cX8_whyNoBeating 43 = .ok (.goto (-26), 3) := dk_167 255 230 (dk_at dksX8_whyNoBeating_1 19 rfl rfl)
theorem dX8_whyNoBeating_46 : decode cX8_whyNoBeating 46 = .ok (.iconst 0, 1) := dk_3 (dk_at dksX8_whyNoBeating_1 22 rfl rfl)
theorem dX8_whyNoBeating_47 : decode cX8_whyNoBeating 47 = .ok (.ireturn, 1) := dk_172 (dk_at dksX8_whyNoBeating_1 23 rfl rfl)
abbrev cX8_units : ByteArray := prog_26_method_25_code
def yX8_units : MethodName := ⟨RX8, "units", "(I)I"⟩
def dkwX8_units_0 : List UInt8 := [42, 180, 0, 7, 16, 117, 6, 27, 104, 96, 46, 172]
abbrev dktX8_units_0 : List UInt8 := dkwX8_units_0 ++ []
theorem dksX8_units_0 : cX8_units.data.toList.drop 0 = dktX8_units_0 := by decide +kernel
theorem dX8_units_0 : decode cX8_units 0 = .ok (.aload_n 0, 1) := dk_42 (dk_at dksX8_units_0 0 rfl rfl)
theorem dX8_units_1 : decode cX8_units 1 = .ok (.getfield 7, 3) := dk_180 0 7 (dk_at dksX8_units_0 1 rfl rfl)
theorem dX8_units_4 : decode cX8_units 4 = .ok (.bipush 117, 2) := dk_16 117 (dk_at dksX8_units_0 4 rfl rfl)
theorem dX8_units_6 : decode cX8_units 6 = .ok (.iconst 3, 1) := dk_6 (dk_at dksX8_units_0 6 rfl rfl)
theorem dX8_units_7 : decode cX8_units 7 = .ok (.iload_n 1, 1) := dk_27 (dk_at dksX8_units_0 7 rfl rfl)
theorem dX8_units_8 : decode cX8_units 8 = .ok (.imul, 1) := dk_104 (dk_at dksX8_units_0 8 rfl rfl)
theorem dX8_units_9 : decode cX8_units 9 = .ok (.iadd, 1) := dk_96 (dk_at dksX8_units_0 9 rfl rfl)
theorem dX8_units_10 : decode cX8_units 10 = .ok (.iaload, 1) := dk_46 (dk_at dksX8_units_0 10 rfl rfl)
theorem dX8_units_11 : decode cX8_units 11 = .ok (.ireturn, 1) := dk_172 (dk_at dksX8_units_0 11 rfl rfl)
abbrev cX8_shares : ByteArray := prog_26_method_24_code
def yX8_shares : MethodName := ⟨RX8, "shares", "(I)V"⟩
def dkwX8_shares_8 : List UInt8 := [3, 96, 79, 132, 4, 1, 167, 255, 145, 177]
abbrev dktX8_shares_8 : List UInt8 := dkwX8_shares_8 ++ []
def dkwX8_shares_7 : List UInt8 := [132, 7, 1, 167, 255, 200, 42, 180, 0, 22, 21, 4, 92, 46, 21, 6, 29, 162, 0, 7, 4, 167, 0, 4]
abbrev dktX8_shares_7 : List UInt8 := dkwX8_shares_7 ++ dktX8_shares_8
def dkwX8_shares_6 : List UInt8 := [21, 8, 21, 5, 160, 0, 14, 21, 7, 21, 4, 162, 0, 7, 4, 167, 0, 4, 3, 96, 54, 6]
abbrev dktX8_shares_6 : List UInt8 := dkwX8_shares_6 ++ dktX8_shares_7
def dkwX8_shares_5 : List UInt8 := [42, 180, 0, 7, 16, 8, 21, 7, 96, 46, 104, 28, 112, 54, 8, 21, 6, 21, 8, 21, 5, 163, 0, 17]
abbrev dktX8_shares_5 : List UInt8 := dkwX8_shares_5 ++ dktX8_shares_6
def dkwX8_shares_4 : List UInt8 := [16, 8, 21, 4, 96, 46, 104, 28, 112, 54, 5, 3, 54, 6, 3, 54, 7, 21, 7, 7, 162, 0, 56, 27]
abbrev dktX8_shares_4 : List UInt8 := dkwX8_shares_4 ++ dktX8_shares_5
def dkwX8_shares_3 : List UInt8 := [46, 100, 62, 132, 4, 1, 167, 255, 216, 3, 54, 4, 21, 4, 7, 162, 0, 111, 27, 42, 180, 0, 7]
abbrev dktX8_shares_3 : List UInt8 := dkwX8_shares_3 ++ dktX8_shares_4
def dkwX8_shares_2 : List UInt8 := [21, 4, 27, 42, 180, 0, 7, 16, 8, 21, 4, 96, 46, 104, 28, 108, 79, 29, 42, 180, 0, 22, 21, 4]
abbrev dktX8_shares_2 : List UInt8 := dkwX8_shares_2 ++ dktX8_shares_3
def dkwX8_shares_1 : List UInt8 := [180, 0, 7, 16, 11, 46, 96, 61, 27, 62, 3, 54, 4, 21, 4, 7, 162, 0, 40, 42, 180, 0, 22]
abbrev dktX8_shares_1 : List UInt8 := dkwX8_shares_1 ++ dktX8_shares_2
def dkwX8_shares_0 : List UInt8 := [42, 180, 0, 7, 16, 8, 46, 42, 180, 0, 7, 16, 9, 46, 96, 42, 180, 0, 7, 16, 10, 46, 96, 42]
abbrev dktX8_shares_0 : List UInt8 := dkwX8_shares_0 ++ dktX8_shares_1
theorem dksX8_shares_0 : cX8_shares.data.toList.drop 0 = dktX8_shares_0 := by decide +kernel
theorem dksX8_shares_1 : cX8_shares.data.toList.drop 24 = dktX8_shares_1 := dk_seg dksX8_shares_0 24 rfl rfl
theorem dksX8_shares_2 : cX8_shares.data.toList.drop 47 = dktX8_shares_2 := dk_seg dksX8_shares_1 23 rfl rfl
theorem dksX8_shares_3 : cX8_shares.data.toList.drop 71 = dktX8_shares_3 := dk_seg dksX8_shares_2 24 rfl rfl
theorem dksX8_shares_4 : cX8_shares.data.toList.drop 94 = dktX8_shares_4 := dk_seg dksX8_shares_3 23 rfl rfl
theorem dksX8_shares_5 : cX8_shares.data.toList.drop 118 = dktX8_shares_5 := dk_seg dksX8_shares_4 24 rfl rfl
theorem dksX8_shares_6 : cX8_shares.data.toList.drop 142 = dktX8_shares_6 := dk_seg dksX8_shares_5 24 rfl rfl
theorem dksX8_shares_7 : cX8_shares.data.toList.drop 164 = dktX8_shares_7 := dk_seg dksX8_shares_6 22 rfl rfl
theorem dksX8_shares_8 : cX8_shares.data.toList.drop 188 = dktX8_shares_8 := dk_seg dksX8_shares_7 24 rfl rfl
theorem dX8_shares_0 : decode cX8_shares 0 = .ok (.aload_n 0, 1) := dk_42 (dk_at dksX8_shares_0 0 rfl rfl)
theorem dX8_shares_1 : decode cX8_shares 1 = .ok (.getfield 7, 3) := dk_180 0 7 (dk_at dksX8_shares_0 1 rfl rfl)
theorem dX8_shares_4 : decode cX8_shares 4 = .ok (.bipush 8, 2) := dk_16 8 (dk_at dksX8_shares_0 4 rfl rfl)
theorem dX8_shares_6 : decode cX8_shares 6 = .ok (.iaload, 1) := dk_46 (dk_at dksX8_shares_0 6 rfl rfl)
theorem dX8_shares_7 : decode cX8_shares 7 = .ok (.aload_n 0, 1) := dk_42 (dk_at dksX8_shares_0 7 rfl rfl)
theorem dX8_shares_8 : decode cX8_shares 8 = .ok (.getfield 7, 3) := dk_180 0 7 (dk_at dksX8_shares_0 8 rfl rfl)
theorem dX8_shares_11 : decode cX8_shares 11 = .ok (.bipush 9, 2) := dk_16 9 (dk_at dksX8_shares_0 11 rfl rfl)
theorem dX8_shares_13 : decode cX8_shares 13 = .ok (.iaload, 1) := dk_46 (dk_at dksX8_shares_0 13 rfl rfl)
theorem dX8_shares_14 : decode cX8_shares 14 = .ok (.iadd, 1) := dk_96 (dk_at dksX8_shares_0 14 rfl rfl)
theorem dX8_shares_15 : decode cX8_shares 15 = .ok (.aload_n 0, 1) := dk_42 (dk_at dksX8_shares_0 15 rfl rfl)
theorem dX8_shares_16 : decode cX8_shares 16 = .ok (.getfield 7, 3) := dk_180 0 7 (dk_at dksX8_shares_0 16 rfl rfl)
theorem dX8_shares_19 : decode cX8_shares 19 = .ok (.bipush 10, 2) := dk_16 10 (dk_at dksX8_shares_0 19 rfl rfl)
theorem dX8_shares_21 : decode cX8_shares 21 = .ok (.iaload, 1) := dk_46 (dk_at dksX8_shares_0 21 rfl rfl)
theorem dX8_shares_22 : decode cX8_shares 22 = .ok (.iadd, 1) := dk_96 (dk_at dksX8_shares_0 22 rfl rfl)
theorem dX8_shares_23 : decode cX8_shares 23 = .ok (.aload_n 0, 1) := dk_42 (dk_at dksX8_shares_0 23 rfl rfl)
theorem dX8_shares_24 : decode cX8_shares 24 = .ok (.getfield 7, 3) := dk_180 0 7 (dk_at dksX8_shares_1 0 rfl rfl)
theorem dX8_shares_27 : decode cX8_shares 27 = .ok (.bipush 11, 2) := dk_16 11 (dk_at dksX8_shares_1 3 rfl rfl)
theorem dX8_shares_29 : decode cX8_shares 29 = .ok (.iaload, 1) := dk_46 (dk_at dksX8_shares_1 5 rfl rfl)
theorem dX8_shares_30 : decode cX8_shares 30 = .ok (.iadd, 1) := dk_96 (dk_at dksX8_shares_1 6 rfl rfl)
theorem dX8_shares_31 : decode cX8_shares 31 = .ok (.istore_n 2, 1) := dk_61 (dk_at dksX8_shares_1 7 rfl rfl)
theorem dX8_shares_32 : decode cX8_shares 32 = .ok (.iload_n 1, 1) := dk_27 (dk_at dksX8_shares_1 8 rfl rfl)
theorem dX8_shares_33 : decode cX8_shares 33 = .ok (.istore_n 3, 1) := dk_62 (dk_at dksX8_shares_1 9 rfl rfl)
theorem dX8_shares_34 : decode cX8_shares 34 = .ok (.iconst 0, 1) := dk_3 (dk_at dksX8_shares_1 10 rfl rfl)
theorem dX8_shares_35 : decode cX8_shares 35 = .ok (.istore 4, 2) := dk_54 4 (dk_at dksX8_shares_1 11 rfl rfl)
theorem dX8_shares_37 : decode cX8_shares 37 = .ok (.iload 4, 2) := dk_21 4 (dk_at dksX8_shares_1 13 rfl rfl)
theorem dX8_shares_39 : decode cX8_shares 39 = .ok (.iconst 4, 1) := dk_7 (dk_at dksX8_shares_1 15 rfl rfl)
theorem dX8_shares_40 : decode cX8_shares 40 = .ok (.if_icmp .ge 40, 3) := dk_162 0 40 (dk_at dksX8_shares_1 16 rfl rfl)
theorem dX8_shares_43 : decode cX8_shares 43 = .ok (.aload_n 0, 1) := dk_42 (dk_at dksX8_shares_1 19 rfl rfl)
theorem dX8_shares_44 : decode cX8_shares 44 = .ok (.getfield 22, 3) := dk_180 0 22 (dk_at dksX8_shares_1 20 rfl rfl)
theorem dX8_shares_47 : decode cX8_shares 47 = .ok (.iload 4, 2) := dk_21 4 (dk_at dksX8_shares_2 0 rfl rfl)
theorem dX8_shares_49 : decode cX8_shares 49 = .ok (.iload_n 1, 1) := dk_27 (dk_at dksX8_shares_2 2 rfl rfl)
theorem dX8_shares_50 : decode cX8_shares 50 = .ok (.aload_n 0, 1) := dk_42 (dk_at dksX8_shares_2 3 rfl rfl)
theorem dX8_shares_51 : decode cX8_shares 51 = .ok (.getfield 7, 3) := dk_180 0 7 (dk_at dksX8_shares_2 4 rfl rfl)
theorem dX8_shares_54 : decode cX8_shares 54 = .ok (.bipush 8, 2) := dk_16 8 (dk_at dksX8_shares_2 7 rfl rfl)
theorem dX8_shares_56 : decode cX8_shares 56 = .ok (.iload 4, 2) := dk_21 4 (dk_at dksX8_shares_2 9 rfl rfl)
theorem dX8_shares_58 : decode cX8_shares 58 = .ok (.iadd, 1) := dk_96 (dk_at dksX8_shares_2 11 rfl rfl)
theorem dX8_shares_59 : decode cX8_shares 59 = .ok (.iaload, 1) := dk_46 (dk_at dksX8_shares_2 12 rfl rfl)
theorem dX8_shares_60 : decode cX8_shares 60 = .ok (.imul, 1) := dk_104 (dk_at dksX8_shares_2 13 rfl rfl)
theorem dX8_shares_61 : decode cX8_shares 61 = .ok (.iload_n 2, 1) := dk_28 (dk_at dksX8_shares_2 14 rfl rfl)
theorem dX8_shares_62 : decode cX8_shares 62 = .ok (.idiv, 1) := dk_108 (dk_at dksX8_shares_2 15 rfl rfl)
theorem dX8_shares_63 : decode cX8_shares 63 = .ok (.iastore, 1) := dk_79 (dk_at dksX8_shares_2 16 rfl rfl)
theorem dX8_shares_64 : decode cX8_shares 64 = .ok (.iload_n 3, 1) := dk_29 (dk_at dksX8_shares_2 17 rfl rfl)
theorem dX8_shares_65 : decode cX8_shares 65 = .ok (.aload_n 0, 1) := dk_42 (dk_at dksX8_shares_2 18 rfl rfl)
theorem dX8_shares_66 : decode cX8_shares 66 = .ok (.getfield 22, 3) := dk_180 0 22 (dk_at dksX8_shares_2 19 rfl rfl)
theorem dX8_shares_69 : decode cX8_shares 69 = .ok (.iload 4, 2) := dk_21 4 (dk_at dksX8_shares_2 22 rfl rfl)
theorem dX8_shares_71 : decode cX8_shares 71 = .ok (.iaload, 1) := dk_46 (dk_at dksX8_shares_3 0 rfl rfl)
theorem dX8_shares_72 : decode cX8_shares 72 = .ok (.isub, 1) := dk_100 (dk_at dksX8_shares_3 1 rfl rfl)
theorem dX8_shares_73 : decode cX8_shares 73 = .ok (.istore_n 3, 1) := dk_62 (dk_at dksX8_shares_3 2 rfl rfl)
theorem dX8_shares_74 : decode cX8_shares 74 = .ok (.iinc 4 1, 3) := dk_132 4 1 (dk_at dksX8_shares_3 3 rfl rfl)
theorem dX8_shares_77 : decode cX8_shares 77 = .ok (.goto (-40), 3) := dk_167 255 216 (dk_at dksX8_shares_3 6 rfl rfl)
theorem dX8_shares_80 : decode cX8_shares 80 = .ok (.iconst 0, 1) := dk_3 (dk_at dksX8_shares_3 9 rfl rfl)
theorem dX8_shares_81 : decode cX8_shares 81 = .ok (.istore 4, 2) := dk_54 4 (dk_at dksX8_shares_3 10 rfl rfl)
theorem dX8_shares_83 : decode cX8_shares 83 = .ok (.iload 4, 2) := dk_21 4 (dk_at dksX8_shares_3 12 rfl rfl)
theorem dX8_shares_85 : decode cX8_shares 85 = .ok (.iconst 4, 1) := dk_7 (dk_at dksX8_shares_3 14 rfl rfl)
theorem dX8_shares_86 : decode cX8_shares 86 = .ok (.if_icmp .ge 111, 3) := dk_162 0 111 (dk_at dksX8_shares_3 15 rfl rfl)
theorem dX8_shares_89 : decode cX8_shares 89 = .ok (.iload_n 1, 1) := dk_27 (dk_at dksX8_shares_3 18 rfl rfl)
theorem dX8_shares_90 : decode cX8_shares 90 = .ok (.aload_n 0, 1) := dk_42 (dk_at dksX8_shares_3 19 rfl rfl)
theorem dX8_shares_91 : decode cX8_shares 91 = .ok (.getfield 7, 3) := dk_180 0 7 (dk_at dksX8_shares_3 20 rfl rfl)
theorem dX8_shares_94 : decode cX8_shares 94 = .ok (.bipush 8, 2) := dk_16 8 (dk_at dksX8_shares_4 0 rfl rfl)
theorem dX8_shares_96 : decode cX8_shares 96 = .ok (.iload 4, 2) := dk_21 4 (dk_at dksX8_shares_4 2 rfl rfl)
theorem dX8_shares_98 : decode cX8_shares 98 = .ok (.iadd, 1) := dk_96 (dk_at dksX8_shares_4 4 rfl rfl)
theorem dX8_shares_99 : decode cX8_shares 99 = .ok (.iaload, 1) := dk_46 (dk_at dksX8_shares_4 5 rfl rfl)
theorem dX8_shares_100 : decode cX8_shares 100 = .ok (.imul, 1) := dk_104 (dk_at dksX8_shares_4 6 rfl rfl)
theorem dX8_shares_101 : decode cX8_shares 101 = .ok (.iload_n 2, 1) := dk_28 (dk_at dksX8_shares_4 7 rfl rfl)
theorem dX8_shares_102 : decode cX8_shares 102 = .ok (.irem, 1) := dk_112 (dk_at dksX8_shares_4 8 rfl rfl)
theorem dX8_shares_103 : decode cX8_shares 103 = .ok (.istore 5, 2) := dk_54 5 (dk_at dksX8_shares_4 9 rfl rfl)
theorem dX8_shares_105 : decode cX8_shares 105 = .ok (.iconst 0, 1) := dk_3 (dk_at dksX8_shares_4 11 rfl rfl)
theorem dX8_shares_106 : decode cX8_shares 106 = .ok (.istore 6, 2) := dk_54 6 (dk_at dksX8_shares_4 12 rfl rfl)
theorem dX8_shares_108 : decode cX8_shares 108 = .ok (.iconst 0, 1) := dk_3 (dk_at dksX8_shares_4 14 rfl rfl)
theorem dX8_shares_109 : decode cX8_shares 109 = .ok (.istore 7, 2) := dk_54 7 (dk_at dksX8_shares_4 15 rfl rfl)
theorem dX8_shares_111 : decode cX8_shares 111 = .ok (.iload 7, 2) := dk_21 7 (dk_at dksX8_shares_4 17 rfl rfl)
theorem dX8_shares_113 : decode cX8_shares 113 = .ok (.iconst 4, 1) := dk_7 (dk_at dksX8_shares_4 19 rfl rfl)
theorem dX8_shares_114 : decode cX8_shares 114 = .ok (.if_icmp .ge 56, 3) := dk_162 0 56 (dk_at dksX8_shares_4 20 rfl rfl)
theorem dX8_shares_117 : decode cX8_shares 117 = .ok (.iload_n 1, 1) := dk_27 (dk_at dksX8_shares_4 23 rfl rfl)
theorem dX8_shares_118 : decode cX8_shares 118 = .ok (.aload_n 0, 1) := dk_42 (dk_at dksX8_shares_5 0 rfl rfl)
theorem dX8_shares_119 : decode cX8_shares 119 = .ok (.getfield 7, 3) := dk_180 0 7 (dk_at dksX8_shares_5 1 rfl rfl)
theorem dX8_shares_122 : decode cX8_shares 122 = .ok (.bipush 8, 2) := dk_16 8 (dk_at dksX8_shares_5 4 rfl rfl)
theorem dX8_shares_124 : decode cX8_shares 124 = .ok (.iload 7, 2) := dk_21 7 (dk_at dksX8_shares_5 6 rfl rfl)
theorem dX8_shares_126 : decode cX8_shares 126 = .ok (.iadd, 1) := dk_96 (dk_at dksX8_shares_5 8 rfl rfl)
theorem dX8_shares_127 : decode cX8_shares 127 = .ok (.iaload, 1) := dk_46 (dk_at dksX8_shares_5 9 rfl rfl)
theorem dX8_shares_128 : decode cX8_shares 128 = .ok (.imul, 1) := dk_104 (dk_at dksX8_shares_5 10 rfl rfl)
theorem dX8_shares_129 : decode cX8_shares 129 = .ok (.iload_n 2, 1) := dk_28 (dk_at dksX8_shares_5 11 rfl rfl)
theorem dX8_shares_130 : decode cX8_shares 130 = .ok (.irem, 1) := dk_112 (dk_at dksX8_shares_5 12 rfl rfl)
theorem dX8_shares_131 : decode cX8_shares 131 = .ok (.istore 8, 2) := dk_54 8 (dk_at dksX8_shares_5 13 rfl rfl)
theorem dX8_shares_133 : decode cX8_shares 133 = .ok (.iload 6, 2) := dk_21 6 (dk_at dksX8_shares_5 15 rfl rfl)
theorem dX8_shares_135 : decode cX8_shares 135 = .ok (.iload 8, 2) := dk_21 8 (dk_at dksX8_shares_5 17 rfl rfl)
theorem dX8_shares_137 : decode cX8_shares 137 = .ok (.iload 5, 2) := dk_21 5 (dk_at dksX8_shares_5 19 rfl rfl)
theorem dX8_shares_139 : decode cX8_shares 139 = .ok (.if_icmp .gt 17, 3) := dk_163 0 17 (dk_at dksX8_shares_5 21 rfl rfl)
theorem dX8_shares_142 : decode cX8_shares 142 = .ok (.iload 8, 2) := dk_21 8 (dk_at dksX8_shares_6 0 rfl rfl)
theorem dX8_shares_144 : decode cX8_shares 144 = .ok (.iload 5, 2) := dk_21 5 (dk_at dksX8_shares_6 2 rfl rfl)
theorem dX8_shares_146 : decode cX8_shares 146 = .ok (.if_icmp .ne 14, 3) := dk_160 0 14 (dk_at dksX8_shares_6 4 rfl rfl)
theorem dX8_shares_149 : decode cX8_shares 149 = .ok (.iload 7, 2) := dk_21 7 (dk_at dksX8_shares_6 7 rfl rfl)
theorem dX8_shares_151 : decode cX8_shares 151 = .ok (.iload 4, 2) := dk_21 4 (dk_at dksX8_shares_6 9 rfl rfl)
theorem dX8_shares_153 : decode cX8_shares 153 = .ok (.if_icmp .ge 7, 3) := dk_162 0 7 (dk_at dksX8_shares_6 11 rfl rfl)
theorem dX8_shares_156 : decode cX8_shares 156 = .ok (.iconst 1, 1) := dk_4 (dk_at dksX8_shares_6 14 rfl rfl)
theorem dX8_shares_157 : decode cX8_shares 157 = .ok (.goto 4, 3) := dk_167 0 4 (dk_at dksX8_shares_6 15 rfl rfl)
theorem dX8_shares_160 : decode cX8_shares 160 = .ok (.iconst 0, 1) := dk_3 (dk_at dksX8_shares_6 18 rfl rfl)
theorem dX8_shares_161 : decode cX8_shares 161 = .ok (.iadd, 1) := dk_96 (dk_at dksX8_shares_6 19 rfl rfl)
theorem dX8_shares_162 : decode cX8_shares 162 = .ok (.istore 6, 2) := dk_54 6 (dk_at dksX8_shares_6 20 rfl rfl)
theorem dX8_shares_164 : decode cX8_shares 164 = .ok (.iinc 7 1, 3) := dk_132 7 1 (dk_at dksX8_shares_7 0 rfl rfl)
theorem dX8_shares_167 : decode cX8_shares 167 = .ok (.goto (-56), 3) := dk_167 255 200 (dk_at dksX8_shares_7 3 rfl rfl)
theorem dX8_shares_170 : decode cX8_shares 170 = .ok (.aload_n 0, 1) := dk_42 (dk_at dksX8_shares_7 6 rfl rfl)
theorem dX8_shares_171 : decode cX8_shares 171 = .ok (.getfield 22, 3) := dk_180 0 22 (dk_at dksX8_shares_7 7 rfl rfl)
theorem dX8_shares_174 : decode cX8_shares 174 = .ok (.iload 4, 2) := dk_21 4 (dk_at dksX8_shares_7 10 rfl rfl)
theorem dX8_shares_176 : decode cX8_shares 176 = .ok (.dup2, 1) := dk_92 (dk_at dksX8_shares_7 12 rfl rfl)
theorem dX8_shares_177 : decode cX8_shares 177 = .ok (.iaload, 1) := dk_46 (dk_at dksX8_shares_7 13 rfl rfl)
theorem dX8_shares_178 : decode cX8_shares 178 = .ok (.iload 6, 2) := dk_21 6 (dk_at dksX8_shares_7 14 rfl rfl)
theorem dX8_shares_180 : decode cX8_shares 180 = .ok (.iload_n 3, 1) := dk_29 (dk_at dksX8_shares_7 16 rfl rfl)
theorem dX8_shares_181 : decode cX8_shares 181 = .ok (.if_icmp .ge 7, 3) := dk_162 0 7 (dk_at dksX8_shares_7 17 rfl rfl)
theorem dX8_shares_184 : decode cX8_shares 184 = .ok (.iconst 1, 1) := dk_4 (dk_at dksX8_shares_7 20 rfl rfl)
theorem dX8_shares_185 : decode cX8_shares 185 = .ok (.goto 4, 3) := dk_167 0 4 (dk_at dksX8_shares_7 21 rfl rfl)
theorem dX8_shares_188 : decode cX8_shares 188 = .ok (.iconst 0, 1) := dk_3 (dk_at dksX8_shares_8 0 rfl rfl)
theorem dX8_shares_189 : decode cX8_shares 189 = .ok (.iadd, 1) := dk_96 (dk_at dksX8_shares_8 1 rfl rfl)
theorem dX8_shares_190 : decode cX8_shares 190 = .ok (.iastore, 1) := dk_79 (dk_at dksX8_shares_8 2 rfl rfl)
theorem dX8_shares_191 : decode cX8_shares 191 = .ok (.iinc 4 1, 3) := dk_132 4 1 (dk_at dksX8_shares_8 3 rfl rfl)
theorem dX8_shares_194 : decode cX8_shares 194 = .ok (.goto (-111), 3) := dk_167 255 145 (dk_at dksX8_shares_8 6 rfl rfl)
theorem dX8_shares_197 : decode cX8_shares 197 = .ok (.return_, 1) := dk_177 (dk_at dksX8_shares_8 9 rfl rfl)
abbrev cX8_good : ByteArray := prog_26_method_23_code
def yX8_good : MethodName := ⟨RX8, "good", "(I)I"⟩
def dkwX8_good_2 : List UInt8 := [132, 3, 1, 167, 255, 212, 28, 172]
abbrev dktX8_good_2 : List UInt8 := dkwX8_good_2 ++ []
def dkwX8_good_1 : List UInt8 := [160, 0, 20, 42, 29, 182, 0, 71, 154, 0, 12, 42, 29, 4, 182, 0, 52, 167, 0, 4, 3, 96, 61]
abbrev dktX8_good_1 : List UInt8 := dkwX8_good_1 ++ dktX8_good_2
def dkwX8_good_0 : List UInt8 := [3, 61, 3, 62, 29, 42, 180, 0, 7, 7, 46, 162, 0, 40, 28, 42, 29, 3, 182, 0, 52, 27]
abbrev dktX8_good_0 : List UInt8 := dkwX8_good_0 ++ dktX8_good_1
theorem dksX8_good_0 : cX8_good.data.toList.drop 0 = dktX8_good_0 := by decide +kernel
theorem dksX8_good_1 : cX8_good.data.toList.drop 22 = dktX8_good_1 := dk_seg dksX8_good_0 22 rfl rfl
theorem dksX8_good_2 : cX8_good.data.toList.drop 45 = dktX8_good_2 := dk_seg dksX8_good_1 23 rfl rfl
theorem dX8_good_0 : decode cX8_good 0 = .ok (.iconst 0, 1) := dk_3 (dk_at dksX8_good_0 0 rfl rfl)
theorem dX8_good_1 : decode cX8_good 1 = .ok (.istore_n 2, 1) := dk_61 (dk_at dksX8_good_0 1 rfl rfl)
theorem dX8_good_2 : decode cX8_good 2 = .ok (.iconst 0, 1) := dk_3 (dk_at dksX8_good_0 2 rfl rfl)
theorem dX8_good_3 : decode cX8_good 3 = .ok (.istore_n 3, 1) := dk_62 (dk_at dksX8_good_0 3 rfl rfl)
theorem dX8_good_4 : decode cX8_good 4 = .ok (.iload_n 3, 1) := dk_29 (dk_at dksX8_good_0 4 rfl rfl)
theorem dX8_good_5 : decode cX8_good 5 = .ok (.aload_n 0, 1) := dk_42 (dk_at dksX8_good_0 5 rfl rfl)
theorem dX8_good_6 : decode cX8_good 6 = .ok (.getfield 7, 3) := dk_180 0 7 (dk_at dksX8_good_0 6 rfl rfl)
theorem dX8_good_9 : decode cX8_good 9 = .ok (.iconst 4, 1) := dk_7 (dk_at dksX8_good_0 9 rfl rfl)
theorem dX8_good_10 : decode cX8_good 10 = .ok (.iaload, 1) := dk_46 (dk_at dksX8_good_0 10 rfl rfl)
theorem dX8_good_11 : decode cX8_good 11 = .ok (.if_icmp .ge 40, 3) := dk_162 0 40 (dk_at dksX8_good_0 11 rfl rfl)
theorem dX8_good_14 : decode cX8_good 14 = .ok (.iload_n 2, 1) := dk_28 (dk_at dksX8_good_0 14 rfl rfl)
theorem dX8_good_15 : decode cX8_good 15 = .ok (.aload_n 0, 1) := dk_42 (dk_at dksX8_good_0 15 rfl rfl)
theorem dX8_good_16 : decode cX8_good 16 = .ok (.iload_n 3, 1) := dk_29 (dk_at dksX8_good_0 16 rfl rfl)
theorem dX8_good_17 : decode cX8_good 17 = .ok (.iconst 0, 1) := dk_3 (dk_at dksX8_good_0 17 rfl rfl)
theorem dX8_good_18 : decode cX8_good 18 = .ok (.invokevirtual 52, 3) := dk_182 0 52 (dk_at dksX8_good_0 18 rfl rfl)
theorem dX8_good_21 : decode cX8_good 21 = .ok (.iload_n 1, 1) := dk_27 (dk_at dksX8_good_0 21 rfl rfl)
theorem dX8_good_22 : decode cX8_good 22 = .ok (.if_icmp .ne 20, 3) := dk_160 0 20 (dk_at dksX8_good_1 0 rfl rfl)
theorem dX8_good_25 : decode cX8_good 25 = .ok (.aload_n 0, 1) := dk_42 (dk_at dksX8_good_1 3 rfl rfl)
theorem dX8_good_26 : decode cX8_good 26 = .ok (.iload_n 3, 1) := dk_29 (dk_at dksX8_good_1 4 rfl rfl)
theorem dX8_good_27 : decode cX8_good 27 = .ok (.invokevirtual 71, 3) := dk_182 0 71 (dk_at dksX8_good_1 5 rfl rfl)
theorem dX8_good_30 : decode cX8_good 30 = .ok (.ifCond .ne 12, 3) := dk_154 0 12 (dk_at dksX8_good_1 8 rfl rfl)
theorem dX8_good_33 : decode cX8_good 33 = .ok (.aload_n 0, 1) := dk_42 (dk_at dksX8_good_1 11 rfl rfl)
theorem dX8_good_34 : decode cX8_good 34 = .ok (.iload_n 3, 1) := dk_29 (dk_at dksX8_good_1 12 rfl rfl)
theorem dX8_good_35 : decode cX8_good 35 = .ok (.iconst 1, 1) := dk_4 (dk_at dksX8_good_1 13 rfl rfl)
theorem dX8_good_36 : decode cX8_good 36 = .ok (.invokevirtual 52, 3) := dk_182 0 52 (dk_at dksX8_good_1 14 rfl rfl)
theorem dX8_good_39 : decode cX8_good 39 = .ok (.goto 4, 3) := dk_167 0 4 (dk_at dksX8_good_1 17 rfl rfl)
theorem dX8_good_42 : decode cX8_good 42 = .ok (.iconst 0, 1) := dk_3 (dk_at dksX8_good_1 20 rfl rfl)
theorem dX8_good_43 : decode cX8_good 43 = .ok (.iadd, 1) := dk_96 (dk_at dksX8_good_1 21 rfl rfl)
theorem dX8_good_44 : decode cX8_good 44 = .ok (.istore_n 2, 1) := dk_61 (dk_at dksX8_good_1 22 rfl rfl)
theorem dX8_good_45 : decode cX8_good 45 = .ok (.iinc 3 1, 3) := dk_132 3 1 (dk_at dksX8_good_2 0 rfl rfl)
theorem dX8_good_48 : decode cX8_good 48 = .ok (.goto (-44), 3) := dk_167 255 212 (dk_at dksX8_good_2 3 rfl rfl)
theorem dX8_good_51 : decode cX8_good 51 = .ok (.iload_n 2, 1) := dk_28 (dk_at dksX8_good_2 6 rfl rfl)
theorem dX8_good_52 : decode cX8_good 52 = .ok (.ireturn, 1) := dk_172 (dk_at dksX8_good_2 7 rfl rfl)
abbrev cX8_isMouldy : ByteArray := prog_26_method_16_code
def yX8_isMouldy : MethodName := ⟨RX8, "isMouldy", "(I)Z"⟩
def dkwX8_isMouldy_0 : List UInt8 := [42, 27, 6, 182, 0, 52, 2, 160, 0, 7, 4, 167, 0, 4, 3, 172]
abbrev dktX8_isMouldy_0 : List UInt8 := dkwX8_isMouldy_0 ++ []
theorem dksX8_isMouldy_0 : cX8_isMouldy.data.toList.drop 0 = dktX8_isMouldy_0 := by decide +kernel
theorem dX8_isMouldy_0 : decode cX8_isMouldy 0 = .ok (.aload_n 0, 1) := dk_42 (dk_at dksX8_isMouldy_0 0 rfl rfl)
theorem dX8_isMouldy_1 : decode cX8_isMouldy 1 = .ok (.iload_n 1, 1) := dk_27 (dk_at dksX8_isMouldy_0 1 rfl rfl)
theorem dX8_isMouldy_2 : decode cX8_isMouldy 2 = .ok (.iconst 3, 1) := dk_6 (dk_at dksX8_isMouldy_0 2 rfl rfl)
theorem dX8_isMouldy_3 : decode cX8_isMouldy 3 = .ok (.invokevirtual 52, 3) := dk_182 0 52 (dk_at dksX8_isMouldy_0 3 rfl rfl)
theorem dX8_isMouldy_6 : decode cX8_isMouldy 6 = .ok (.iconst (-1), 1) := dk_2 (dk_at dksX8_isMouldy_0 6 rfl rfl)
theorem dX8_isMouldy_7 : decode cX8_isMouldy 7 = .ok (.if_icmp .ne 7, 3) := dk_160 0 7 (dk_at dksX8_isMouldy_0 7 rfl rfl)
theorem dX8_isMouldy_10 : decode cX8_isMouldy 10 = .ok (.iconst 1, 1) := dk_4 (dk_at dksX8_isMouldy_0 10 rfl rfl)
theorem dX8_isMouldy_11 : decode cX8_isMouldy 11 = .ok (.goto 4, 3) := dk_167 0 4 (dk_at dksX8_isMouldy_0 11 rfl rfl)
theorem dX8_isMouldy_14 : decode cX8_isMouldy 14 = .ok (.iconst 0, 1) := dk_3 (dk_at dksX8_isMouldy_0 14 rfl rfl)
theorem dX8_isMouldy_15 : decode cX8_isMouldy 15 = .ok (.ireturn, 1) := dk_172 (dk_at dksX8_isMouldy_0 15 rfl rfl)
abbrev cX8_beats : ByteArray := prog_26_method_27_code
def yX8_beats : MethodName := ⟨RX8, "beats", "(II)I"⟩
def dkwX8_beats_8 : List UInt8 := [5, 96, 29, 28, 108, 79, 16, 40, 28, 104, 172]
abbrev dktX8_beats_8 : List UInt8 := dkwX8_beats_8 ++ []
def dkwX8_beats_7 : List UInt8 := [42, 180, 0, 7, 16, 117, 6, 27, 104, 96, 4, 96, 3, 79, 42, 180, 0, 7, 16, 117, 6, 27, 104, 96]
abbrev dktX8_beats_7 : List UInt8 := dkwX8_beats_7 ++ dktX8_beats_8
def dkwX8_beats_6 : List UInt8 := [167, 0, 6, 132, 4, 1, 167, 255, 149, 42, 180, 0, 7, 16, 117, 6, 27, 104, 96, 16, 40, 28, 104, 79]
abbrev dktX8_beats_6 : List UInt8 := dkwX8_beats_6 ++ dktX8_beats_7
def dkwX8_beats_5 : List UInt8 := [100, 182, 0, 67, 42, 21, 4, 4, 182, 0, 52, 154, 0, 16, 42, 16, 21, 7, 21, 4, 7, 182, 0, 90]
abbrev dktX8_beats_5 : List UInt8 := dkwX8_beats_5 ++ dktX8_beats_6
def dkwX8_beats_4 : List UInt8 := [180, 0, 22, 21, 5, 92, 46, 21, 6, 100, 79, 42, 21, 4, 4, 42, 21, 4, 4, 182, 0, 52, 21, 6]
abbrev dktX8_beats_4 : List UInt8 := dkwX8_beats_4 ++ dktX8_beats_5
def dkwX8_beats_3 : List UInt8 := [167, 0, 20, 42, 180, 0, 22, 21, 5, 46, 42, 21, 4, 4, 182, 0, 52, 184, 0, 87, 54, 6, 42]
abbrev dktX8_beats_3 : List UInt8 := dkwX8_beats_3 ++ dktX8_beats_4
def dkwX8_beats_2 : List UInt8 := [46, 162, 0, 102, 42, 21, 4, 3, 182, 0, 52, 54, 5, 42, 21, 4, 182, 0, 71, 153, 0, 7, 3]
abbrev dktX8_beats_2 : List UInt8 := dkwX8_beats_2 ++ dktX8_beats_3
def dkwX8_beats_1 : List UInt8 := [21, 4, 184, 0, 84, 104, 96, 62, 132, 4, 1, 167, 255, 231, 3, 54, 4, 21, 4, 42, 180, 0, 7, 7]
abbrev dktX8_beats_1 : List UInt8 := dkwX8_beats_1 ++ dktX8_beats_2
def dkwX8_beats_0 : List UInt8 := [42, 28, 182, 0, 77, 3, 62, 3, 54, 4, 21, 4, 7, 162, 0, 25, 29, 42, 180, 0, 22, 21, 4, 46]
abbrev dktX8_beats_0 : List UInt8 := dkwX8_beats_0 ++ dktX8_beats_1
theorem dksX8_beats_0 : cX8_beats.data.toList.drop 0 = dktX8_beats_0 := by decide +kernel
theorem dksX8_beats_1 : cX8_beats.data.toList.drop 24 = dktX8_beats_1 := dk_seg dksX8_beats_0 24 rfl rfl
theorem dksX8_beats_2 : cX8_beats.data.toList.drop 48 = dktX8_beats_2 := dk_seg dksX8_beats_1 24 rfl rfl
theorem dksX8_beats_3 : cX8_beats.data.toList.drop 71 = dktX8_beats_3 := dk_seg dksX8_beats_2 23 rfl rfl
theorem dksX8_beats_4 : cX8_beats.data.toList.drop 94 = dktX8_beats_4 := dk_seg dksX8_beats_3 23 rfl rfl
theorem dksX8_beats_5 : cX8_beats.data.toList.drop 118 = dktX8_beats_5 := dk_seg dksX8_beats_4 24 rfl rfl
theorem dksX8_beats_6 : cX8_beats.data.toList.drop 142 = dktX8_beats_6 := dk_seg dksX8_beats_5 24 rfl rfl
theorem dksX8_beats_7 : cX8_beats.data.toList.drop 166 = dktX8_beats_7 := dk_seg dksX8_beats_6 24 rfl rfl
theorem dksX8_beats_8 : cX8_beats.data.toList.drop 190 = dktX8_beats_8 := dk_seg dksX8_beats_7 24 rfl rfl
theorem dX8_beats_0 : decode cX8_beats 0 = .ok (.aload_n 0, 1) := dk_42 (dk_at dksX8_beats_0 0 rfl rfl)
theorem dX8_beats_1 : decode cX8_beats 1 = .ok (.iload_n 2, 1) := dk_28 (dk_at dksX8_beats_0 1 rfl rfl)
theorem dX8_beats_2 : decode cX8_beats 2 = .ok (.invokevirtual 77, 3) := dk_182 0 77 (dk_at dksX8_beats_0 2 rfl rfl)
theorem dX8_beats_5 : decode cX8_beats 5 = .ok (.iconst 0, 1) := dk_3 (dk_at dksX8_beats_0 5 rfl rfl)
theorem dX8_beats_6 : decode cX8_beats 6 = .ok (.istore_n 3, 1) := dk_62 (dk_at dksX8_beats_0 6 rfl rfl)
theorem dX8_beats_7 : decode cX8_beats 7 = .ok (.iconst 0, 1) := dk_3 (dk_at dksX8_beats_0 7 rfl rfl)
theorem dX8_beats_8 : decode cX8_beats 8 = .ok (.istore 4, 2) := dk_54 4 (dk_at dksX8_beats_0 8 rfl rfl)
theorem dX8_beats_10 : decode cX8_beats 10 = .ok (.iload 4, 2) := dk_21 4 (dk_at dksX8_beats_0 10 rfl rfl)
theorem dX8_beats_12 : decode cX8_beats 12 = .ok (.iconst 4, 1) := dk_7 (dk_at dksX8_beats_0 12 rfl rfl)
theorem dX8_beats_13 : decode cX8_beats 13 = .ok (.if_icmp .ge 25, 3) := dk_162 0 25 (dk_at dksX8_beats_0 13 rfl rfl)
theorem dX8_beats_16 : decode cX8_beats 16 = .ok (.iload_n 3, 1) := dk_29 (dk_at dksX8_beats_0 16 rfl rfl)
theorem dX8_beats_17 : decode cX8_beats 17 = .ok (.aload_n 0, 1) := dk_42 (dk_at dksX8_beats_0 17 rfl rfl)
theorem dX8_beats_18 : decode cX8_beats 18 = .ok (.getfield 22, 3) := dk_180 0 22 (dk_at dksX8_beats_0 18 rfl rfl)
theorem dX8_beats_21 : decode cX8_beats 21 = .ok (.iload 4, 2) := dk_21 4 (dk_at dksX8_beats_0 21 rfl rfl)
theorem dX8_beats_23 : decode cX8_beats 23 = .ok (.iaload, 1) := dk_46 (dk_at dksX8_beats_0 23 rfl rfl)
theorem dX8_beats_24 : decode cX8_beats 24 = .ok (.iload 4, 2) := dk_21 4 (dk_at dksX8_beats_1 0 rfl rfl)
theorem dX8_beats_26 : decode cX8_beats 26 = .ok (.invokestatic 84, 3) := dk_184 0 84 (dk_at dksX8_beats_1 2 rfl rfl)
theorem dX8_beats_29 : decode cX8_beats 29 = .ok (.imul, 1) := dk_104 (dk_at dksX8_beats_1 5 rfl rfl)
theorem dX8_beats_30 : decode cX8_beats 30 = .ok (.iadd, 1) := dk_96 (dk_at dksX8_beats_1 6 rfl rfl)
theorem dX8_beats_31 : decode cX8_beats 31 = .ok (.istore_n 3, 1) := dk_62 (dk_at dksX8_beats_1 7 rfl rfl)
theorem dX8_beats_32 : decode cX8_beats 32 = .ok (.iinc 4 1, 3) := dk_132 4 1 (dk_at dksX8_beats_1 8 rfl rfl)
theorem dX8_beats_35 : decode cX8_beats 35 = .ok (.goto (-25), 3) := dk_167 255 231 (dk_at dksX8_beats_1 11 rfl rfl)
theorem dX8_beats_38 : decode cX8_beats 38 = .ok (.iconst 0, 1) := dk_3 (dk_at dksX8_beats_1 14 rfl rfl)
theorem dX8_beats_39 : decode cX8_beats 39 = .ok (.istore 4, 2) := dk_54 4 (dk_at dksX8_beats_1 15 rfl rfl)
theorem dX8_beats_41 : decode cX8_beats 41 = .ok (.iload 4, 2) := dk_21 4 (dk_at dksX8_beats_1 17 rfl rfl)
theorem dX8_beats_43 : decode cX8_beats 43 = .ok (.aload_n 0, 1) := dk_42 (dk_at dksX8_beats_1 19 rfl rfl)
theorem dX8_beats_44 : decode cX8_beats 44 = .ok (.getfield 7, 3) := dk_180 0 7 (dk_at dksX8_beats_1 20 rfl rfl)
theorem dX8_beats_47 : decode cX8_beats 47 = .ok (.iconst 4, 1) := dk_7 (dk_at dksX8_beats_1 23 rfl rfl)
theorem dX8_beats_48 : decode cX8_beats 48 = .ok (.iaload, 1) := dk_46 (dk_at dksX8_beats_2 0 rfl rfl)
theorem dX8_beats_49 : decode cX8_beats 49 = .ok (.if_icmp .ge 102, 3) := dk_162 0 102 (dk_at dksX8_beats_2 1 rfl rfl)
theorem dX8_beats_52 : decode cX8_beats 52 = .ok (.aload_n 0, 1) := dk_42 (dk_at dksX8_beats_2 4 rfl rfl)
theorem dX8_beats_53 : decode cX8_beats 53 = .ok (.iload 4, 2) := dk_21 4 (dk_at dksX8_beats_2 5 rfl rfl)
theorem dX8_beats_55 : decode cX8_beats 55 = .ok (.iconst 0, 1) := dk_3 (dk_at dksX8_beats_2 7 rfl rfl)
theorem dX8_beats_56 : decode cX8_beats 56 = .ok (.invokevirtual 52, 3) := dk_182 0 52 (dk_at dksX8_beats_2 8 rfl rfl)
theorem dX8_beats_59 : decode cX8_beats 59 = .ok (.istore 5, 2) := dk_54 5 (dk_at dksX8_beats_2 11 rfl rfl)
theorem dX8_beats_61 : decode cX8_beats 61 = .ok (.aload_n 0, 1) := dk_42 (dk_at dksX8_beats_2 13 rfl rfl)
theorem dX8_beats_62 : decode cX8_beats 62 = .ok (.iload 4, 2) := dk_21 4 (dk_at dksX8_beats_2 14 rfl rfl)
theorem dX8_beats_64 : decode cX8_beats 64 = .ok (.invokevirtual 71, 3) := dk_182 0 71 (dk_at dksX8_beats_2 16 rfl rfl)
theorem dX8_beats_67 : decode cX8_beats 67 = .ok (.ifCond .eq 7, 3) := dk_153 0 7 (dk_at dksX8_beats_2 19 rfl rfl)
theorem dX8_beats_70 : decode cX8_beats 70 = .ok (.iconst 0, 1) := dk_3 (dk_at dksX8_beats_2 22 rfl rfl)
theorem dX8_beats_71 : decode cX8_beats 71 = .ok (.goto 20, 3) := dk_167 0 20 (dk_at dksX8_beats_3 0 rfl rfl)
theorem dX8_beats_74 : decode cX8_beats 74 = .ok (.aload_n 0, 1) := dk_42 (dk_at dksX8_beats_3 3 rfl rfl)
theorem dX8_beats_75 : decode cX8_beats 75 = .ok (.getfield 22, 3) := dk_180 0 22 (dk_at dksX8_beats_3 4 rfl rfl)
theorem dX8_beats_78 : decode cX8_beats 78 = .ok (.iload 5, 2) := dk_21 5 (dk_at dksX8_beats_3 7 rfl rfl)
theorem dX8_beats_80 : decode cX8_beats 80 = .ok (.iaload, 1) := dk_46 (dk_at dksX8_beats_3 9 rfl rfl)
theorem dX8_beats_81 : decode cX8_beats 81 = .ok (.aload_n 0, 1) := dk_42 (dk_at dksX8_beats_3 10 rfl rfl)
theorem dX8_beats_82 : decode cX8_beats 82 = .ok (.iload 4, 2) := dk_21 4 (dk_at dksX8_beats_3 11 rfl rfl)
theorem dX8_beats_84 : decode cX8_beats 84 = .ok (.iconst 1, 1) := dk_4 (dk_at dksX8_beats_3 13 rfl rfl)
theorem dX8_beats_85 : decode cX8_beats 85 = .ok (.invokevirtual 52, 3) := dk_182 0 52 (dk_at dksX8_beats_3 14 rfl rfl)
theorem dX8_beats_88 : decode cX8_beats 88 = .ok (.invokestatic 87, 3) := dk_184 0 87 (dk_at dksX8_beats_3 17 rfl rfl)
theorem dX8_beats_91 : decode cX8_beats 91 = .ok (.istore 6, 2) := dk_54 6 (dk_at dksX8_beats_3 20 rfl rfl)
theorem dX8_beats_93 : decode cX8_beats 93 = .ok (.aload_n 0, 1) := dk_42 (dk_at dksX8_beats_3 22 rfl rfl)
theorem dX8_beats_94 : decode cX8_beats 94 = .ok (.getfield 22, 3) := dk_180 0 22 (dk_at dksX8_beats_4 0 rfl rfl)
theorem dX8_beats_97 : decode cX8_beats 97 = .ok (.iload 5, 2) := dk_21 5 (dk_at dksX8_beats_4 3 rfl rfl)
theorem dX8_beats_99 : decode cX8_beats 99 = .ok (.dup2, 1) := dk_92 (dk_at dksX8_beats_4 5 rfl rfl)
theorem dX8_beats_100 : decode cX8_beats 100 = .ok (.iaload, 1) := dk_46 (dk_at dksX8_beats_4 6 rfl rfl)
theorem dX8_beats_101 : decode cX8_beats 101 = .ok (.iload 6, 2) := dk_21 6 (dk_at dksX8_beats_4 7 rfl rfl)
theorem dX8_beats_103 : decode cX8_beats 103 = .ok (.isub, 1) := dk_100 (dk_at dksX8_beats_4 9 rfl rfl)
theorem dX8_beats_104 : decode cX8_beats 104 = .ok (.iastore, 1) := dk_79 (dk_at dksX8_beats_4 10 rfl rfl)
theorem dX8_beats_105 : decode cX8_beats 105 = .ok (.aload_n 0, 1) := dk_42 (dk_at dksX8_beats_4 11 rfl rfl)
theorem dX8_beats_106 : decode cX8_beats 106 = .ok (.iload 4, 2) := dk_21 4 (dk_at dksX8_beats_4 12 rfl rfl)
theorem dX8_beats_108 : decode cX8_beats 108 = .ok (.iconst 1, 1) := dk_4 (dk_at dksX8_beats_4 14 rfl rfl)
theorem dX8_beats_109 : decode cX8_beats 109 = .ok (.aload_n 0, 1) := dk_42 (dk_at dksX8_beats_4 15 rfl rfl)
theorem dX8_beats_110 : decode cX8_beats 110 = .ok (.iload 4, 2) := dk_21 4 (dk_at dksX8_beats_4 16 rfl rfl)
theorem dX8_beats_112 : decode cX8_beats 112 = .ok (.iconst 1, 1) := dk_4 (dk_at dksX8_beats_4 18 rfl rfl)
theorem dX8_beats_113 : decode cX8_beats 113 = .ok (.invokevirtual 52, 3) := dk_182 0 52 (dk_at dksX8_beats_4 19 rfl rfl)
theorem dX8_beats_116 : decode cX8_beats 116 = .ok (.iload 6, 2) := dk_21 6 (dk_at dksX8_beats_4 22 rfl rfl)
theorem dX8_beats_118 : decode cX8_beats 118 = .ok (.isub, 1) := dk_100 (dk_at dksX8_beats_5 0 rfl rfl)
theorem dX8_beats_119 : decode cX8_beats 119 = .ok (.invokevirtual 67, 3) := dk_182 0 67 (dk_at dksX8_beats_5 1 rfl rfl)
theorem dX8_beats_122 : decode cX8_beats 122 = .ok (.aload_n 0, 1) := dk_42 (dk_at dksX8_beats_5 4 rfl rfl)
theorem dX8_beats_123 : decode cX8_beats 123 = .ok (.iload 4, 2) := dk_21 4 (dk_at dksX8_beats_5 5 rfl rfl)
theorem dX8_beats_125 : decode cX8_beats 125 = .ok (.iconst 1, 1) := dk_4 (dk_at dksX8_beats_5 7 rfl rfl)
theorem dX8_beats_126 : decode cX8_beats 126 = .ok (.invokevirtual 52, 3) := dk_182 0 52 (dk_at dksX8_beats_5 8 rfl rfl)
theorem dX8_beats_129 : decode cX8_beats 129 = .ok (.ifCond .ne 16, 3) := dk_154 0 16 (dk_at dksX8_beats_5 11 rfl rfl)
theorem dX8_beats_132 : decode cX8_beats 132 = .ok (.aload_n 0, 1) := dk_42 (dk_at dksX8_beats_5 14 rfl rfl)
theorem dX8_beats_133 : decode cX8_beats 133 = .ok (.bipush 21, 2) := dk_16 21 (dk_at dksX8_beats_5 15 rfl rfl)
theorem dX8_beats_135 : decode cX8_beats 135 = .ok (.iconst 4, 1) := dk_7 (dk_at dksX8_beats_5 17 rfl rfl)
theorem dX8_beats_136 : decode cX8_beats 136 = .ok (.iload 4, 2) := dk_21 4 (dk_at dksX8_beats_5 18 rfl rfl)
theorem dX8_beats_138 : decode cX8_beats 138 = .ok (.iconst 4, 1) := dk_7 (dk_at dksX8_beats_5 20 rfl rfl)
theorem dX8_beats_139 : decode cX8_beats 139 = .ok (.invokevirtual 90, 3) := dk_182 0 90 (dk_at dksX8_beats_5 21 rfl rfl)
theorem dX8_beats_142 : decode cX8_beats 142 = .ok (.goto 6, 3) := dk_167 0 6 (dk_at dksX8_beats_6 0 rfl rfl)
theorem dX8_beats_145 : decode cX8_beats 145 = .ok (.iinc 4 1, 3) := dk_132 4 1 (dk_at dksX8_beats_6 3 rfl rfl)
theorem dX8_beats_148 : decode cX8_beats 148 = .ok (.goto (-107), 3) := dk_167 255 149 (dk_at dksX8_beats_6 6 rfl rfl)
theorem dX8_beats_151 : decode cX8_beats 151 = .ok (.aload_n 0, 1) := dk_42 (dk_at dksX8_beats_6 9 rfl rfl)
theorem dX8_beats_152 : decode cX8_beats 152 = .ok (.getfield 7, 3) := dk_180 0 7 (dk_at dksX8_beats_6 10 rfl rfl)
theorem dX8_beats_155 : decode cX8_beats 155 = .ok (.bipush 117, 2) := dk_16 117 (dk_at dksX8_beats_6 13 rfl rfl)
theorem dX8_beats_157 : decode cX8_beats 157 = .ok (.iconst 3, 1) := dk_6 (dk_at dksX8_beats_6 15 rfl rfl)
theorem dX8_beats_158 : decode cX8_beats 158 = .ok (.iload_n 1, 1) := dk_27 (dk_at dksX8_beats_6 16 rfl rfl)
theorem dX8_beats_159 : decode cX8_beats 159 = .ok (.imul, 1) := dk_104 (dk_at dksX8_beats_6 17 rfl rfl)
theorem dX8_beats_160 : decode cX8_beats 160 = .ok (.iadd, 1) := dk_96 (dk_at dksX8_beats_6 18 rfl rfl)
theorem dX8_beats_161 : decode cX8_beats 161 = .ok (.bipush 40, 2) := dk_16 40 (dk_at dksX8_beats_6 19 rfl rfl)
theorem dX8_beats_163 : decode cX8_beats 163 = .ok (.iload_n 2, 1) := dk_28 (dk_at dksX8_beats_6 21 rfl rfl)
theorem dX8_beats_164 : decode cX8_beats 164 = .ok (.imul, 1) := dk_104 (dk_at dksX8_beats_6 22 rfl rfl)
theorem dX8_beats_165 : decode cX8_beats 165 = .ok (.iastore, 1) := dk_79 (dk_at dksX8_beats_6 23 rfl rfl)
theorem dX8_beats_166 : decode cX8_beats 166 = .ok (.aload_n 0, 1) := dk_42 (dk_at dksX8_beats_7 0 rfl rfl)
theorem dX8_beats_167 : decode cX8_beats 167 = .ok (.getfield 7, 3) := dk_180 0 7 (dk_at dksX8_beats_7 1 rfl rfl)
theorem dX8_beats_170 : decode cX8_beats 170 = .ok (.bipush 117, 2) := dk_16 117 (dk_at dksX8_beats_7 4 rfl rfl)
theorem dX8_beats_172 : decode cX8_beats 172 = .ok (.iconst 3, 1) := dk_6 (dk_at dksX8_beats_7 6 rfl rfl)
theorem dX8_beats_173 : decode cX8_beats 173 = .ok (.iload_n 1, 1) := dk_27 (dk_at dksX8_beats_7 7 rfl rfl)
theorem dX8_beats_174 : decode cX8_beats 174 = .ok (.imul, 1) := dk_104 (dk_at dksX8_beats_7 8 rfl rfl)
theorem dX8_beats_175 : decode cX8_beats 175 = .ok (.iadd, 1) := dk_96 (dk_at dksX8_beats_7 9 rfl rfl)
theorem dX8_beats_176 : decode cX8_beats 176 = .ok (.iconst 1, 1) := dk_4 (dk_at dksX8_beats_7 10 rfl rfl)
theorem dX8_beats_177 : decode cX8_beats 177 = .ok (.iadd, 1) := dk_96 (dk_at dksX8_beats_7 11 rfl rfl)
theorem dX8_beats_178 : decode cX8_beats 178 = .ok (.iconst 0, 1) := dk_3 (dk_at dksX8_beats_7 12 rfl rfl)
theorem dX8_beats_179 : decode cX8_beats 179 = .ok (.iastore, 1) := dk_79 (dk_at dksX8_beats_7 13 rfl rfl)
theorem dX8_beats_180 : decode cX8_beats 180 = .ok (.aload_n 0, 1) := dk_42 (dk_at dksX8_beats_7 14 rfl rfl)
theorem dX8_beats_181 : decode cX8_beats 181 = .ok (.getfield 7, 3) := dk_180 0 7 (dk_at dksX8_beats_7 15 rfl rfl)
theorem dX8_beats_184 : decode cX8_beats 184 = .ok (.bipush 117, 2) := dk_16 117 (dk_at dksX8_beats_7 18 rfl rfl)
theorem dX8_beats_186 : decode cX8_beats 186 = .ok (.iconst 3, 1) := dk_6 (dk_at dksX8_beats_7 20 rfl rfl)
theorem dX8_beats_187 : decode cX8_beats 187 = .ok (.iload_n 1, 1) := dk_27 (dk_at dksX8_beats_7 21 rfl rfl)
theorem dX8_beats_188 : decode cX8_beats 188 = .ok (.imul, 1) := dk_104 (dk_at dksX8_beats_7 22 rfl rfl)
theorem dX8_beats_189 : decode cX8_beats 189 = .ok (.iadd, 1) := dk_96 (dk_at dksX8_beats_7 23 rfl rfl)
theorem dX8_beats_190 : decode cX8_beats 190 = .ok (.iconst 2, 1) := dk_5 (dk_at dksX8_beats_8 0 rfl rfl)
theorem dX8_beats_191 : decode cX8_beats 191 = .ok (.iadd, 1) := dk_96 (dk_at dksX8_beats_8 1 rfl rfl)
theorem dX8_beats_192 : decode cX8_beats 192 = .ok (.iload_n 3, 1) := dk_29 (dk_at dksX8_beats_8 2 rfl rfl)
theorem dX8_beats_193 : decode cX8_beats 193 = .ok (.iload_n 2, 1) := dk_28 (dk_at dksX8_beats_8 3 rfl rfl)
theorem dX8_beats_194 : decode cX8_beats 194 = .ok (.idiv, 1) := dk_108 (dk_at dksX8_beats_8 4 rfl rfl)
theorem dX8_beats_195 : decode cX8_beats 195 = .ok (.iastore, 1) := dk_79 (dk_at dksX8_beats_8 5 rfl rfl)
theorem dX8_beats_196 : decode cX8_beats 196 = .ok (.bipush 40, 2) := dk_16 40 (dk_at dksX8_beats_8 6 rfl rfl)
theorem dX8_beats_198 : decode cX8_beats 198 = .ok (.iload_n 2, 1) := dk_28 (dk_at dksX8_beats_8 8 rfl rfl)
theorem dX8_beats_199 : decode cX8_beats 199 = .ok (.imul, 1) := dk_104 (dk_at dksX8_beats_8 9 rfl rfl)
theorem dX8_beats_200 : decode cX8_beats 200 = .ok (.ireturn, 1) := dk_172 (dk_at dksX8_beats_8 10 rfl rfl)
abbrev cX8_strength : ByteArray := prog_26_method_22_code
def yX8_strength : MethodName := ⟨RX8, "strength", "(I)I"⟩
def dkwX8_strength_1 : List UInt8 := [16, 60, 167, 0, 5, 16, 10, 172]
abbrev dktX8_strength_1 : List UInt8 := dkwX8_strength_1 ++ []
def dkwX8_strength_0 : List UInt8 := [26, 154, 0, 8, 16, 50, 167, 0, 25, 26, 4, 160, 0, 8, 16, 30, 167, 0, 15, 26, 5, 160, 0, 8]
abbrev dktX8_strength_0 : List UInt8 := dkwX8_strength_0 ++ dktX8_strength_1
theorem dksX8_strength_0 : cX8_strength.data.toList.drop 0 = dktX8_strength_0 := by decide +kernel
theorem dksX8_strength_1 : cX8_strength.data.toList.drop 24 = dktX8_strength_1 := dk_seg dksX8_strength_0 24 rfl rfl
theorem dX8_strength_0 : decode cX8_strength 0 = .ok (.iload_n 0, 1) := dk_26 (dk_at dksX8_strength_0 0 rfl rfl)
theorem dX8_strength_1 : decode cX8_strength 1 = .ok (.ifCond .ne 8, 3) := dk_154 0 8 (dk_at dksX8_strength_0 1 rfl rfl)
theorem dX8_strength_4 : decode cX8_strength 4 = .ok (.bipush 50, 2) := dk_16 50 (dk_at dksX8_strength_0 4 rfl rfl)
theorem dX8_strength_6 : decode cX8_strength 6 = .ok (.goto 25, 3) := dk_167 0 25 (dk_at dksX8_strength_0 6 rfl rfl)
theorem dX8_strength_9 : decode cX8_strength 9 = .ok (.iload_n 0, 1) := dk_26 (dk_at dksX8_strength_0 9 rfl rfl)
theorem dX8_strength_10 : decode cX8_strength 10 = .ok (.iconst 1, 1) := dk_4 (dk_at dksX8_strength_0 10 rfl rfl)
theorem dX8_strength_11 : decode cX8_strength 11 = .ok (.if_icmp .ne 8, 3) := dk_160 0 8 (dk_at dksX8_strength_0 11 rfl rfl)
theorem dX8_strength_14 : decode cX8_strength 14 = .ok (.bipush 30, 2) := dk_16 30 (dk_at dksX8_strength_0 14 rfl rfl)
theorem dX8_strength_16 : decode cX8_strength 16 = .ok (.goto 15, 3) := dk_167 0 15 (dk_at dksX8_strength_0 16 rfl rfl)
theorem dX8_strength_19 : decode cX8_strength 19 = .ok (.iload_n 0, 1) := dk_26 (dk_at dksX8_strength_0 19 rfl rfl)
theorem dX8_strength_20 : decode cX8_strength 20 = .ok (.iconst 2, 1) := dk_5 (dk_at dksX8_strength_0 20 rfl rfl)
theorem dX8_strength_21 : decode cX8_strength 21 = .ok (.if_icmp .ne 8, 3) := dk_160 0 8 (dk_at dksX8_strength_0 21 rfl rfl)
theorem dX8_strength_24 : decode cX8_strength 24 = .ok (.bipush 60, 2) := dk_16 60 (dk_at dksX8_strength_1 0 rfl rfl)
theorem dX8_strength_26 : decode cX8_strength 26 = .ok (.goto 5, 3) := dk_167 0 5 (dk_at dksX8_strength_1 2 rfl rfl)
theorem dX8_strength_29 : decode cX8_strength 29 = .ok (.bipush 10, 2) := dk_16 10 (dk_at dksX8_strength_1 5 rfl rfl)
theorem dX8_strength_31 : decode cX8_strength 31 = .ok (.ireturn, 1) := dk_172 (dk_at dksX8_strength_1 7 rfl rfl)
abbrev cX8_least : ByteArray := prog_26_method_5_code
def yX8_least : MethodName := ⟨RX8, "least", "(II)I"⟩
def dkwX8_least_0 : List UInt8 := [26, 27, 162, 0, 7, 26, 167, 0, 4, 27, 172]
abbrev dktX8_least_0 : List UInt8 := dkwX8_least_0 ++ []
theorem dksX8_least_0 : cX8_least.data.toList.drop 0 = dktX8_least_0 := by decide +kernel
theorem dX8_least_0 : decode cX8_least 0 = .ok (.iload_n 0, 1) := dk_26 (dk_at dksX8_least_0 0 rfl rfl)
theorem dX8_least_1 : decode cX8_least 1 = .ok (.iload_n 1, 1) := dk_27 (dk_at dksX8_least_0 1 rfl rfl)
theorem dX8_least_2 : decode cX8_least 2 = .ok (.if_icmp .ge 7, 3) := dk_162 0 7 (dk_at dksX8_least_0 2 rfl rfl)
theorem dX8_least_5 : decode cX8_least 5 = .ok (.iload_n 0, 1) := dk_26 (dk_at dksX8_least_0 5 rfl rfl)
theorem dX8_least_6 : decode cX8_least 6 = .ok (.goto 4, 3) := dk_167 0 4 (dk_at dksX8_least_0 6 rfl rfl)
theorem dX8_least_9 : decode cX8_least 9 = .ok (.iload_n 1, 1) := dk_27 (dk_at dksX8_least_0 9 rfl rfl)
theorem dX8_least_10 : decode cX8_least 10 = .ok (.ireturn, 1) := dk_172 (dk_at dksX8_least_0 10 rfl rfl)
abbrev cX8_stamp : ByteArray := prog_26_method_64_code
def yX8_stamp : MethodName := ⟨RX8, "stamp", "(II)I"⟩
def dkwX8_stamp_2 : List UInt8 := [158, 0, 5, 3, 172, 42, 182, 0, 151, 42, 27, 28, 182, 0, 180, 172]
abbrev dktX8_stamp_2 : List UInt8 := dkwX8_stamp_2 ++ []
def dkwX8_stamp_1 : List UInt8 := [167, 0, 17, 42, 27, 28, 182, 0, 176, 153, 0, 7, 3, 167, 0, 4, 6, 181, 0, 37, 42, 180, 0, 37]
abbrev dktX8_stamp_1 : List UInt8 := dkwX8_stamp_1 ++ dktX8_stamp_2
def dkwX8_stamp_0 : List UInt8 := [42, 27, 184, 0, 164, 154, 0, 7, 4, 167, 0, 31, 28, 4, 16, 24, 184, 0, 48, 154, 0, 7, 5]
abbrev dktX8_stamp_0 : List UInt8 := dkwX8_stamp_0 ++ dktX8_stamp_1
theorem dksX8_stamp_0 : cX8_stamp.data.toList.drop 0 = dktX8_stamp_0 := by decide +kernel
theorem dksX8_stamp_1 : cX8_stamp.data.toList.drop 23 = dktX8_stamp_1 := dk_seg dksX8_stamp_0 23 rfl rfl
theorem dksX8_stamp_2 : cX8_stamp.data.toList.drop 47 = dktX8_stamp_2 := dk_seg dksX8_stamp_1 24 rfl rfl
theorem dX8_stamp_0 : decode cX8_stamp 0 = .ok (.aload_n 0, 1) := dk_42 (dk_at dksX8_stamp_0 0 rfl rfl)
theorem dX8_stamp_1 : decode cX8_stamp 1 = .ok (.iload_n 1, 1) := dk_27 (dk_at dksX8_stamp_0 1 rfl rfl)
theorem dX8_stamp_2 : decode cX8_stamp 2 = .ok (.invokestatic 164, 3) := dk_184 0 164 (dk_at dksX8_stamp_0 2 rfl rfl)
theorem dX8_stamp_5 : decode cX8_stamp 5 = .ok (.ifCond .ne 7, 3) := dk_154 0 7 (dk_at dksX8_stamp_0 5 rfl rfl)
theorem dX8_stamp_8 : decode cX8_stamp 8 = .ok (.iconst 1, 1) := dk_4 (dk_at dksX8_stamp_0 8 rfl rfl)
theorem dX8_stamp_9 : decode cX8_stamp 9 = .ok (.goto 31, 3) := dk_167 0 31 (dk_at dksX8_stamp_0 9 rfl rfl)
theorem dX8_stamp_12 : decode cX8_stamp 12 = .ok (.iload_n 2, 1) := dk_28 (dk_at dksX8_stamp_0 12 rfl rfl)
theorem dX8_stamp_13 : decode cX8_stamp 13 = .ok (.iconst 1, 1) := dk_4 (dk_at dksX8_stamp_0 13 rfl rfl)
theorem dX8_stamp_14 : decode cX8_stamp 14 = .ok (.bipush 24, 2) := dk_16 24 (dk_at dksX8_stamp_0 14 rfl rfl)
theorem dX8_stamp_16 : decode cX8_stamp 16 = .ok (.invokestatic 48, 3) := dk_184 0 48 (dk_at dksX8_stamp_0 16 rfl rfl)
theorem dX8_stamp_19 : decode cX8_stamp 19 = .ok (.ifCond .ne 7, 3) := dk_154 0 7 (dk_at dksX8_stamp_0 19 rfl rfl)
theorem dX8_stamp_22 : decode cX8_stamp 22 = .ok (.iconst 2, 1) := dk_5 (dk_at dksX8_stamp_0 22 rfl rfl)
theorem dX8_stamp_23 : decode cX8_stamp 23 = .ok (.goto 17, 3) := dk_167 0 17 (dk_at dksX8_stamp_1 0 rfl rfl)
theorem dX8_stamp_26 : decode cX8_stamp 26 = .ok (.aload_n 0, 1) := dk_42 (dk_at dksX8_stamp_1 3 rfl rfl)
theorem dX8_stamp_27 : decode cX8_stamp 27 = .ok (.iload_n 1, 1) := dk_27 (dk_at dksX8_stamp_1 4 rfl rfl)
theorem dX8_stamp_28 : decode cX8_stamp 28 = .ok (.iload_n 2, 1) := dk_28 (dk_at dksX8_stamp_1 5 rfl rfl)
theorem dX8_stamp_29 : decode cX8_stamp 29 = .ok (.invokevirtual 176, 3) := dk_182 0 176 (dk_at dksX8_stamp_1 6 rfl rfl)
theorem dX8_stamp_32 : decode cX8_stamp 32 = .ok (.ifCond .eq 7, 3) := dk_153 0 7 (dk_at dksX8_stamp_1 9 rfl rfl)
theorem dX8_stamp_35 : decode cX8_stamp 35 = .ok (.iconst 0, 1) := dk_3 (dk_at dksX8_stamp_1 12 rfl rfl)
theorem dX8_stamp_36 : decode cX8_stamp 36 = .ok (.goto 4, 3) := dk_167 0 4 (dk_at dksX8_stamp_1 13 rfl rfl)
theorem dX8_stamp_39 : decode cX8_stamp 39 = .ok (.iconst 3, 1) := dk_6 (dk_at dksX8_stamp_1 16 rfl rfl)
theorem dX8_stamp_40 : decode cX8_stamp 40 = .ok (.putfield 37, 3) := dk_181 0 37 (dk_at dksX8_stamp_1 17 rfl rfl)
theorem dX8_stamp_43 : decode cX8_stamp 43 = .ok (.aload_n 0, 1) := dk_42 (dk_at dksX8_stamp_1 20 rfl rfl)
theorem dX8_stamp_44 : decode cX8_stamp 44 = .ok (.getfield 37, 3) := dk_180 0 37 (dk_at dksX8_stamp_1 21 rfl rfl)
theorem dX8_stamp_47 : decode cX8_stamp 47 = .ok (.ifCond .le 5, 3) := dk_158 0 5 (dk_at dksX8_stamp_2 0 rfl rfl)
theorem dX8_stamp_50 : decode cX8_stamp 50 = .ok (.iconst 0, 1) := dk_3 (dk_at dksX8_stamp_2 3 rfl rfl)
theorem dX8_stamp_51 : decode cX8_stamp 51 = .ok (.ireturn, 1) := dk_172 (dk_at dksX8_stamp_2 4 rfl rfl)
theorem dX8_stamp_52 : decode cX8_stamp 52 = .ok (.aload_n 0, 1) := dk_42 (dk_at dksX8_stamp_2 5 rfl rfl)
theorem dX8_stamp_53 : decode cX8_stamp 53 = .ok (.invokevirtual 151, 3) := dk_182 0 151 (dk_at dksX8_stamp_2 6 rfl rfl)
theorem dX8_stamp_56 : decode cX8_stamp 56 = .ok (.aload_n 0, 1) := dk_42 (dk_at dksX8_stamp_2 9 rfl rfl)
theorem dX8_stamp_57 : decode cX8_stamp 57 = .ok (.iload_n 1, 1) := dk_27 (dk_at dksX8_stamp_2 10 rfl rfl)
theorem dX8_stamp_58 : decode cX8_stamp 58 = .ok (.iload_n 2, 1) := dk_28 (dk_at dksX8_stamp_2 11 rfl rfl)
theorem dX8_stamp_59 : decode cX8_stamp 59 = .ok (.invokevirtual 180, 3) := dk_182 0 180 (dk_at dksX8_stamp_2 12 rfl rfl)
theorem dX8_stamp_62 : decode cX8_stamp 62 = .ok (.ireturn, 1) := dk_172 (dk_at dksX8_stamp_2 15 rfl rfl)
abbrev cX8_canStamp : ByteArray := prog_26_method_28_code
def yX8_canStamp : MethodName := ⟨RX8, "canStamp", "(II)Z"⟩
def dkwX8_canStamp_1 : List UInt8 := [16, 48, 163, 0, 7, 4, 167, 0, 4, 3, 172]
abbrev dktX8_canStamp_1 : List UInt8 := dkwX8_canStamp_1 ++ []
def dkwX8_canStamp_0 : List UInt8 := [42, 27, 182, 0, 74, 158, 0, 27, 42, 180, 0, 7, 16, 117, 6, 27, 104, 96, 4, 96, 46, 28, 96]
abbrev dktX8_canStamp_0 : List UInt8 := dkwX8_canStamp_0 ++ dktX8_canStamp_1
theorem dksX8_canStamp_0 : cX8_canStamp.data.toList.drop 0 = dktX8_canStamp_0 := by decide +kernel
theorem dksX8_canStamp_1 : cX8_canStamp.data.toList.drop 23 = dktX8_canStamp_1 := dk_seg dksX8_canStamp_0 23 rfl rfl
theorem dX8_canStamp_0 : decode cX8_canStamp 0 = .ok (.aload_n 0, 1) := dk_42 (dk_at dksX8_canStamp_0 0 rfl rfl)
theorem dX8_canStamp_1 : decode cX8_canStamp 1 = .ok (.iload_n 1, 1) := dk_27 (dk_at dksX8_canStamp_0 1 rfl rfl)
theorem dX8_canStamp_2 : decode cX8_canStamp 2 = .ok (.invokevirtual 74, 3) := dk_182 0 74 (dk_at dksX8_canStamp_0 2 rfl rfl)
theorem dX8_canStamp_5 : decode cX8_canStamp 5 = .ok (.ifCond .le 27, 3) := dk_158 0 27 (dk_at dksX8_canStamp_0 5 rfl rfl)
theorem dX8_canStamp_8 : decode cX8_canStamp 8 = .ok (.aload_n 0, 1) := dk_42 (dk_at dksX8_canStamp_0 8 rfl rfl)
theorem dX8_canStamp_9 : decode cX8_canStamp 9 = .ok (.getfield 7, 3) := dk_180 0 7 (dk_at dksX8_canStamp_0 9 rfl rfl)
theorem dX8_canStamp_12 : decode cX8_canStamp 12 = .ok (.bipush 117, 2) := dk_16 117 (dk_at dksX8_canStamp_0 12 rfl rfl)
theorem dX8_canStamp_14 : decode cX8_canStamp 14 = .ok (.iconst 3, 1) := dk_6 (dk_at dksX8_canStamp_0 14 rfl rfl)
theorem dX8_canStamp_15 : decode cX8_canStamp 15 = .ok (.iload_n 1, 1) := dk_27 (dk_at dksX8_canStamp_0 15 rfl rfl)
theorem dX8_canStamp_16 : decode cX8_canStamp 16 = .ok (.imul, 1) := dk_104 (dk_at dksX8_canStamp_0 16 rfl rfl)
theorem dX8_canStamp_17 : decode cX8_canStamp 17 = .ok (.iadd, 1) := dk_96 (dk_at dksX8_canStamp_0 17 rfl rfl)
theorem dX8_canStamp_18 : decode cX8_canStamp 18 = .ok (.iconst 1, 1) := dk_4 (dk_at dksX8_canStamp_0 18 rfl rfl)
theorem dX8_canStamp_19 : decode cX8_canStamp 19 = .ok (.iadd, 1) := dk_96 (dk_at dksX8_canStamp_0 19 rfl rfl)
theorem dX8_canStamp_20 : decode cX8_canStamp 20 = .ok (.iaload, 1) := dk_46 (dk_at dksX8_canStamp_0 20 rfl rfl)
theorem dX8_canStamp_21 : decode cX8_canStamp 21 = .ok (.iload_n 2, 1) := dk_28 (dk_at dksX8_canStamp_0 21 rfl rfl)
theorem dX8_canStamp_22 : decode cX8_canStamp 22 = .ok (.iadd, 1) := dk_96 (dk_at dksX8_canStamp_0 22 rfl rfl)
theorem dX8_canStamp_23 : decode cX8_canStamp 23 = .ok (.bipush 48, 2) := dk_16 48 (dk_at dksX8_canStamp_1 0 rfl rfl)
theorem dX8_canStamp_25 : decode cX8_canStamp 25 = .ok (.if_icmp .gt 7, 3) := dk_163 0 7 (dk_at dksX8_canStamp_1 2 rfl rfl)
theorem dX8_canStamp_28 : decode cX8_canStamp 28 = .ok (.iconst 1, 1) := dk_4 (dk_at dksX8_canStamp_1 5 rfl rfl)
theorem dX8_canStamp_29 : decode cX8_canStamp 29 = .ok (.goto 4, 3) := dk_167 0 4 (dk_at dksX8_canStamp_1 6 rfl rfl)
theorem dX8_canStamp_32 : decode cX8_canStamp 32 = .ok (.iconst 0, 1) := dk_3 (dk_at dksX8_canStamp_1 9 rfl rfl)
theorem dX8_canStamp_33 : decode cX8_canStamp 33 = .ok (.ireturn, 1) := dk_172 (dk_at dksX8_canStamp_1 10 rfl rfl)
abbrev cX8_stamps : ByteArray := prog_26_method_29_code
def yX8_stamps : MethodName := ⟨RX8, "stamps", "(II)I"⟩
def dkwX8_stamps_1 : List UInt8 := [27, 104, 96, 4, 96, 46, 172]
abbrev dktX8_stamps_1 : List UInt8 := dkwX8_stamps_1 ++ []
def dkwX8_stamps_0 : List UInt8 := [42, 180, 0, 7, 16, 117, 6, 27, 104, 96, 4, 96, 92, 46, 28, 96, 79, 42, 180, 0, 7, 16, 117, 6]
abbrev dktX8_stamps_0 : List UInt8 := dkwX8_stamps_0 ++ dktX8_stamps_1
theorem dksX8_stamps_0 : cX8_stamps.data.toList.drop 0 = dktX8_stamps_0 := by decide +kernel
theorem dksX8_stamps_1 : cX8_stamps.data.toList.drop 24 = dktX8_stamps_1 := dk_seg dksX8_stamps_0 24 rfl rfl
theorem dX8_stamps_0 : decode cX8_stamps 0 = .ok (.aload_n 0, 1) := dk_42 (dk_at dksX8_stamps_0 0 rfl rfl)
theorem dX8_stamps_1 : decode cX8_stamps 1 = .ok (.getfield 7, 3) := dk_180 0 7 (dk_at dksX8_stamps_0 1 rfl rfl)
theorem dX8_stamps_4 : decode cX8_stamps 4 = .ok (.bipush 117, 2) := dk_16 117 (dk_at dksX8_stamps_0 4 rfl rfl)
theorem dX8_stamps_6 : decode cX8_stamps 6 = .ok (.iconst 3, 1) := dk_6 (dk_at dksX8_stamps_0 6 rfl rfl)
theorem dX8_stamps_7 : decode cX8_stamps 7 = .ok (.iload_n 1, 1) := dk_27 (dk_at dksX8_stamps_0 7 rfl rfl)
theorem dX8_stamps_8 : decode cX8_stamps 8 = .ok (.imul, 1) := dk_104 (dk_at dksX8_stamps_0 8 rfl rfl)
theorem dX8_stamps_9 : decode cX8_stamps 9 = .ok (.iadd, 1) := dk_96 (dk_at dksX8_stamps_0 9 rfl rfl)
theorem dX8_stamps_10 : decode cX8_stamps 10 = .ok (.iconst 1, 1) := dk_4 (dk_at dksX8_stamps_0 10 rfl rfl)
theorem dX8_stamps_11 : decode cX8_stamps 11 = .ok (.iadd, 1) := dk_96 (dk_at dksX8_stamps_0 11 rfl rfl)
theorem dX8_stamps_12 : decode cX8_stamps 12 = .ok (.dup2, 1) := dk_92 (dk_at dksX8_stamps_0 12 rfl rfl)
theorem dX8_stamps_13 : decode cX8_stamps 13 = .ok (.iaload, 1) := dk_46 (dk_at dksX8_stamps_0 13 rfl rfl)
theorem dX8_stamps_14 : decode cX8_stamps 14 = .ok (.iload_n 2, 1) := dk_28 (dk_at dksX8_stamps_0 14 rfl rfl)
theorem dX8_stamps_15 : decode cX8_stamps 15 = .ok (.iadd, 1) := dk_96 (dk_at dksX8_stamps_0 15 rfl rfl)
theorem dX8_stamps_16 : decode cX8_stamps 16 = .ok (.iastore, 1) := dk_79 (dk_at dksX8_stamps_0 16 rfl rfl)
theorem dX8_stamps_17 : decode cX8_stamps 17 = .ok (.aload_n 0, 1) := dk_42 (dk_at dksX8_stamps_0 17 rfl rfl)
theorem dX8_stamps_18 : decode cX8_stamps 18 = .ok (.getfield 7, 3) := dk_180 0 7 (dk_at dksX8_stamps_0 18 rfl rfl)
theorem dX8_stamps_21 : decode cX8_stamps 21 = .ok (.bipush 117, 2) := dk_16 117 (dk_at dksX8_stamps_0 21 rfl rfl)
theorem dX8_stamps_23 : decode cX8_stamps 23 = .ok (.iconst 3, 1) := dk_6 (dk_at dksX8_stamps_0 23 rfl rfl)
theorem dX8_stamps_24 : decode cX8_stamps 24 = .ok (.iload_n 1, 1) := dk_27 (dk_at dksX8_stamps_1 0 rfl rfl)
theorem dX8_stamps_25 : decode cX8_stamps 25 = .ok (.imul, 1) := dk_104 (dk_at dksX8_stamps_1 1 rfl rfl)
theorem dX8_stamps_26 : decode cX8_stamps 26 = .ok (.iadd, 1) := dk_96 (dk_at dksX8_stamps_1 2 rfl rfl)
theorem dX8_stamps_27 : decode cX8_stamps 27 = .ok (.iconst 1, 1) := dk_4 (dk_at dksX8_stamps_1 3 rfl rfl)
theorem dX8_stamps_28 : decode cX8_stamps 28 = .ok (.iadd, 1) := dk_96 (dk_at dksX8_stamps_1 4 rfl rfl)
theorem dX8_stamps_29 : decode cX8_stamps 29 = .ok (.iaload, 1) := dk_46 (dk_at dksX8_stamps_1 5 rfl rfl)
theorem dX8_stamps_30 : decode cX8_stamps 30 = .ok (.ireturn, 1) := dk_172 (dk_at dksX8_stamps_1 6 rfl rfl)
abbrev cX8_drain : ByteArray := prog_26_method_65_code
def yX8_drain : MethodName := ⟨RX8, "drain", "(I)I"⟩
def dkwX8_drain_2 : List UInt8 := [27, 182, 0, 103, 28, 172]
abbrev dktX8_drain_2 : List UInt8 := dkwX8_drain_2 ++ []
def dkwX8_drain_1 : List UInt8 := [3, 181, 0, 37, 42, 180, 0, 37, 158, 0, 5, 3, 172, 42, 182, 0, 151, 42, 27, 182, 0, 74, 61, 42]
abbrev dktX8_drain_1 : List UInt8 := dkwX8_drain_1 ++ dktX8_drain_2
def dkwX8_drain_0 : List UInt8 := [42, 27, 184, 0, 164, 154, 0, 7, 4, 167, 0, 16, 42, 27, 182, 0, 74, 154, 0, 7, 5, 167, 0, 4]
abbrev dktX8_drain_0 : List UInt8 := dkwX8_drain_0 ++ dktX8_drain_1
theorem dksX8_drain_0 : cX8_drain.data.toList.drop 0 = dktX8_drain_0 := by decide +kernel
theorem dksX8_drain_1 : cX8_drain.data.toList.drop 24 = dktX8_drain_1 := dk_seg dksX8_drain_0 24 rfl rfl
theorem dksX8_drain_2 : cX8_drain.data.toList.drop 48 = dktX8_drain_2 := dk_seg dksX8_drain_1 24 rfl rfl
theorem dX8_drain_0 : decode cX8_drain 0 = .ok (.aload_n 0, 1) := dk_42 (dk_at dksX8_drain_0 0 rfl rfl)
theorem dX8_drain_1 : decode cX8_drain 1 = .ok (.iload_n 1, 1) := dk_27 (dk_at dksX8_drain_0 1 rfl rfl)
theorem dX8_drain_2 : decode cX8_drain 2 = .ok (.invokestatic 164, 3) := dk_184 0 164 (dk_at dksX8_drain_0 2 rfl rfl)
theorem dX8_drain_5 : decode cX8_drain 5 = .ok (.ifCond .ne 7, 3) := dk_154 0 7 (dk_at dksX8_drain_0 5 rfl rfl)
theorem dX8_drain_8 : decode cX8_drain 8 = .ok (.iconst 1, 1) := dk_4 (dk_at dksX8_drain_0 8 rfl rfl)
theorem dX8_drain_9 : decode cX8_drain 9 = .ok (.goto 16, 3) := dk_167 0 16 (dk_at dksX8_drain_0 9 rfl rfl)
theorem dX8_drain_12 : decode cX8_drain 12 = .ok (.aload_n 0, 1) := dk_42 (dk_at dksX8_drain_0 12 rfl rfl)
theorem dX8_drain_13 : decode cX8_drain 13 = .ok (.iload_n 1, 1) := dk_27 (dk_at dksX8_drain_0 13 rfl rfl)
theorem dX8_drain_14 : decode cX8_drain 14 = .ok (.invokevirtual 74, 3) := dk_182 0 74 (dk_at dksX8_drain_0 14 rfl rfl)
theorem dX8_drain_17 : decode cX8_drain 17 = .ok (.ifCond .ne 7, 3) := dk_154 0 7 (dk_at dksX8_drain_0 17 rfl rfl)
theorem dX8_drain_20 : decode cX8_drain 20 = .ok (.iconst 2, 1) := dk_5 (dk_at dksX8_drain_0 20 rfl rfl)
theorem dX8_drain_21 : decode cX8_drain 21 = .ok (.goto 4, 3) := dk_167 0 4 (dk_at dksX8_drain_0 21 rfl rfl)
theorem dX8_drain_24 : decode cX8_drain 24 = .ok (.iconst 0, 1) := dk_3 (dk_at dksX8_drain_1 0 rfl rfl)
theorem dX8_drain_25 : decode cX8_drain 25 = .ok (.putfield 37, 3) := dk_181 0 37 (dk_at dksX8_drain_1 1 rfl rfl)
theorem dX8_drain_28 : decode cX8_drain 28 = .ok (.aload_n 0, 1) := dk_42 (dk_at dksX8_drain_1 4 rfl rfl)
theorem dX8_drain_29 : decode cX8_drain 29 = .ok (.getfield 37, 3) := dk_180 0 37 (dk_at dksX8_drain_1 5 rfl rfl)
theorem dX8_drain_32 : decode cX8_drain 32 = .ok (.ifCond .le 5, 3) := dk_158 0 5 (dk_at dksX8_drain_1 8 rfl rfl)
theorem dX8_drain_35 : decode cX8_drain 35 = .ok (.iconst 0, 1) := dk_3 (dk_at dksX8_drain_1 11 rfl rfl)
theorem dX8_drain_36 : decode cX8_drain 36 = .ok (.ireturn, 1) := dk_172 (dk_at dksX8_drain_1 12 rfl rfl)
theorem dX8_drain_37 : decode cX8_drain 37 = .ok (.aload_n 0, 1) := dk_42 (dk_at dksX8_drain_1 13 rfl rfl)
theorem dX8_drain_38 : decode cX8_drain 38 = .ok (.invokevirtual 151, 3) := dk_182 0 151 (dk_at dksX8_drain_1 14 rfl rfl)
theorem dX8_drain_41 : decode cX8_drain 41 = .ok (.aload_n 0, 1) := dk_42 (dk_at dksX8_drain_1 17 rfl rfl)
theorem dX8_drain_42 : decode cX8_drain 42 = .ok (.iload_n 1, 1) := dk_27 (dk_at dksX8_drain_1 18 rfl rfl)
theorem dX8_drain_43 : decode cX8_drain 43 = .ok (.invokevirtual 74, 3) := dk_182 0 74 (dk_at dksX8_drain_1 19 rfl rfl)
theorem dX8_drain_46 : decode cX8_drain 46 = .ok (.istore_n 2, 1) := dk_61 (dk_at dksX8_drain_1 22 rfl rfl)
theorem dX8_drain_47 : decode cX8_drain 47 = .ok (.aload_n 0, 1) := dk_42 (dk_at dksX8_drain_1 23 rfl rfl)
theorem dX8_drain_48 : decode cX8_drain 48 = .ok (.iload_n 1, 1) := dk_27 (dk_at dksX8_drain_2 0 rfl rfl)
theorem dX8_drain_49 : decode cX8_drain 49 = .ok (.invokevirtual 103, 3) := dk_182 0 103 (dk_at dksX8_drain_2 1 rfl rfl)
theorem dX8_drain_52 : decode cX8_drain 52 = .ok (.iload_n 2, 1) := dk_28 (dk_at dksX8_drain_2 4 rfl rfl)
theorem dX8_drain_53 : decode cX8_drain 53 = .ok (.ireturn, 1) := dk_172 (dk_at dksX8_drain_2 5 rfl rfl)
abbrev cX8_isEmptied : ByteArray := prog_26_method_30_code
def yX8_isEmptied : MethodName := ⟨RX8, "isEmptied", "(I)V"⟩
def dkwX8_isEmptied_1 : List UInt8 := [167, 255, 234, 177]
abbrev dktX8_isEmptied_1 : List UInt8 := dkwX8_isEmptied_1 ++ []
def dkwX8_isEmptied_0 : List UInt8 := [3, 61, 28, 6, 162, 0, 23, 42, 180, 0, 7, 16, 117, 6, 27, 104, 96, 28, 96, 3, 79, 132, 2, 1]
abbrev dktX8_isEmptied_0 : List UInt8 := dkwX8_isEmptied_0 ++ dktX8_isEmptied_1
theorem dksX8_isEmptied_0 : cX8_isEmptied.data.toList.drop 0 = dktX8_isEmptied_0 := by decide +kernel
theorem dksX8_isEmptied_1 : cX8_isEmptied.data.toList.drop 24 = dktX8_isEmptied_1 := dk_seg dksX8_isEmptied_0 24 rfl rfl
theorem dX8_isEmptied_0 : decode cX8_isEmptied 0 = .ok (.iconst 0, 1) := dk_3 (dk_at dksX8_isEmptied_0 0 rfl rfl)
theorem dX8_isEmptied_1 : decode cX8_isEmptied 1 = .ok (.istore_n 2, 1) := dk_61 (dk_at dksX8_isEmptied_0 1 rfl rfl)
theorem dX8_isEmptied_2 : decode cX8_isEmptied 2 = .ok (.iload_n 2, 1) := dk_28 (dk_at dksX8_isEmptied_0 2 rfl rfl)
theorem dX8_isEmptied_3 : decode cX8_isEmptied 3 = .ok (.iconst 3, 1) := dk_6 (dk_at dksX8_isEmptied_0 3 rfl rfl)
theorem dX8_isEmptied_4 : decode cX8_isEmptied 4 = .ok (.if_icmp .ge 23, 3) := dk_162 0 23 (dk_at dksX8_isEmptied_0 4 rfl rfl)
theorem dX8_isEmptied_7 : decode cX8_isEmptied 7 = .ok (.aload_n 0, 1) := dk_42 (dk_at dksX8_isEmptied_0 7 rfl rfl)
theorem dX8_isEmptied_8 : decode cX8_isEmptied 8 = .ok (.getfield 7, 3) := dk_180 0 7 (dk_at dksX8_isEmptied_0 8 rfl rfl)
theorem dX8_isEmptied_11 : decode cX8_isEmptied 11 = .ok (.bipush 117, 2) := dk_16 117 (dk_at dksX8_isEmptied_0 11 rfl rfl)
theorem dX8_isEmptied_13 : decode cX8_isEmptied 13 = .ok (.iconst 3, 1) := dk_6 (dk_at dksX8_isEmptied_0 13 rfl rfl)
theorem dX8_isEmptied_14 : decode cX8_isEmptied 14 = .ok (.iload_n 1, 1) := dk_27 (dk_at dksX8_isEmptied_0 14 rfl rfl)
theorem dX8_isEmptied_15 : decode cX8_isEmptied 15 = .ok (.imul, 1) := dk_104 (dk_at dksX8_isEmptied_0 15 rfl rfl)
theorem dX8_isEmptied_16 : decode cX8_isEmptied 16 = .ok (.iadd, 1) := dk_96 (dk_at dksX8_isEmptied_0 16 rfl rfl)
theorem dX8_isEmptied_17 : decode cX8_isEmptied 17 = .ok (.iload_n 2, 1) := dk_28 (dk_at dksX8_isEmptied_0 17 rfl rfl)
theorem dX8_isEmptied_18 : decode cX8_isEmptied 18 = .ok (.iadd, 1) := dk_96 (dk_at dksX8_isEmptied_0 18 rfl rfl)
theorem dX8_isEmptied_19 : decode cX8_isEmptied 19 = .ok (.iconst 0, 1) := dk_3 (dk_at dksX8_isEmptied_0 19 rfl rfl)
theorem dX8_isEmptied_20 : decode cX8_isEmptied 20 = .ok (.iastore, 1) := dk_79 (dk_at dksX8_isEmptied_0 20 rfl rfl)
theorem dX8_isEmptied_21 : decode cX8_isEmptied 21 = .ok (.iinc 2 1, 3) := dk_132 2 1 (dk_at dksX8_isEmptied_0 21 rfl rfl)
theorem dX8_isEmptied_24 : decode cX8_isEmptied 24 = .ok (.goto (-22), 3) := dk_167 255 234 (dk_at dksX8_isEmptied_1 0 rfl rfl)
theorem dX8_isEmptied_27 : decode cX8_isEmptied 27 = .ok (.return_, 1) := dk_177 (dk_at dksX8_isEmptied_1 3 rfl rfl)
abbrev cX8_setMark : ByteArray := prog_26_method_67_code
def yX8_setMark : MethodName := ⟨RX8, "setMark", "(II)I"⟩
def dkwX8_setMark_3 : List UInt8 := [180, 0, 7, 16, 126, 6, 27, 104, 96, 28, 79, 29, 172]
abbrev dktX8_setMark_3 : List UInt8 := dkwX8_setMark_3 ++ []
def dkwX8_setMark_2 : List UInt8 := [158, 0, 5, 3, 172, 42, 182, 0, 151, 42, 180, 0, 7, 16, 126, 6, 27, 104, 96, 46, 62, 42]
abbrev dktX8_setMark_2 : List UInt8 := dkwX8_setMark_2 ++ dktX8_setMark_3
def dkwX8_setMark_1 : List UInt8 := [167, 0, 17, 42, 27, 28, 182, 0, 186, 153, 0, 7, 6, 167, 0, 4, 3, 181, 0, 37, 42, 180, 0, 37]
abbrev dktX8_setMark_1 : List UInt8 := dkwX8_setMark_1 ++ dktX8_setMark_2
def dkwX8_setMark_0 : List UInt8 := [42, 27, 184, 0, 183, 154, 0, 7, 4, 167, 0, 31, 28, 3, 16, 9, 184, 0, 48, 154, 0, 7, 5]
abbrev dktX8_setMark_0 : List UInt8 := dkwX8_setMark_0 ++ dktX8_setMark_1
theorem dksX8_setMark_0 : cX8_setMark.data.toList.drop 0 = dktX8_setMark_0 := by decide +kernel
theorem dksX8_setMark_1 : cX8_setMark.data.toList.drop 23 = dktX8_setMark_1 := dk_seg dksX8_setMark_0 23 rfl rfl
theorem dksX8_setMark_2 : cX8_setMark.data.toList.drop 47 = dktX8_setMark_2 := dk_seg dksX8_setMark_1 24 rfl rfl
theorem dksX8_setMark_3 : cX8_setMark.data.toList.drop 69 = dktX8_setMark_3 := dk_seg dksX8_setMark_2 22 rfl rfl
theorem dX8_setMark_0 : decode cX8_setMark 0 = .ok (.aload_n 0, 1) := dk_42 (dk_at dksX8_setMark_0 0 rfl rfl)
theorem dX8_setMark_1 : decode cX8_setMark 1 = .ok (.iload_n 1, 1) := dk_27 (dk_at dksX8_setMark_0 1 rfl rfl)
theorem dX8_setMark_2 : decode cX8_setMark 2 = .ok (.invokestatic 183, 3) := dk_184 0 183 (dk_at dksX8_setMark_0 2 rfl rfl)
theorem dX8_setMark_5 : decode cX8_setMark 5 = .ok (.ifCond .ne 7, 3) := dk_154 0 7 (dk_at dksX8_setMark_0 5 rfl rfl)
theorem dX8_setMark_8 : decode cX8_setMark 8 = .ok (.iconst 1, 1) := dk_4 (dk_at dksX8_setMark_0 8 rfl rfl)
theorem dX8_setMark_9 : decode cX8_setMark 9 = .ok (.goto 31, 3) := dk_167 0 31 (dk_at dksX8_setMark_0 9 rfl rfl)
theorem dX8_setMark_12 : decode cX8_setMark 12 = .ok (.iload_n 2, 1) := dk_28 (dk_at dksX8_setMark_0 12 rfl rfl)
theorem dX8_setMark_13 : decode cX8_setMark 13 = .ok (.iconst 0, 1) := dk_3 (dk_at dksX8_setMark_0 13 rfl rfl)
theorem dX8_setMark_14 : decode cX8_setMark 14 = .ok (.bipush 9, 2) := dk_16 9 (dk_at dksX8_setMark_0 14 rfl rfl)
theorem dX8_setMark_16 : decode cX8_setMark 16 = .ok (.invokestatic 48, 3) := dk_184 0 48 (dk_at dksX8_setMark_0 16 rfl rfl)
theorem dX8_setMark_19 : decode cX8_setMark 19 = .ok (.ifCond .ne 7, 3) := dk_154 0 7 (dk_at dksX8_setMark_0 19 rfl rfl)
theorem dX8_setMark_22 : decode cX8_setMark 22 = .ok (.iconst 2, 1) := dk_5 (dk_at dksX8_setMark_0 22 rfl rfl)
theorem dX8_setMark_23 : decode cX8_setMark 23 = .ok (.goto 17, 3) := dk_167 0 17 (dk_at dksX8_setMark_1 0 rfl rfl)
theorem dX8_setMark_26 : decode cX8_setMark 26 = .ok (.aload_n 0, 1) := dk_42 (dk_at dksX8_setMark_1 3 rfl rfl)
theorem dX8_setMark_27 : decode cX8_setMark 27 = .ok (.iload_n 1, 1) := dk_27 (dk_at dksX8_setMark_1 4 rfl rfl)
theorem dX8_setMark_28 : decode cX8_setMark 28 = .ok (.iload_n 2, 1) := dk_28 (dk_at dksX8_setMark_1 5 rfl rfl)
theorem dX8_setMark_29 : decode cX8_setMark 29 = .ok (.invokevirtual 186, 3) := dk_182 0 186 (dk_at dksX8_setMark_1 6 rfl rfl)
theorem dX8_setMark_32 : decode cX8_setMark 32 = .ok (.ifCond .eq 7, 3) := dk_153 0 7 (dk_at dksX8_setMark_1 9 rfl rfl)
theorem dX8_setMark_35 : decode cX8_setMark 35 = .ok (.iconst 3, 1) := dk_6 (dk_at dksX8_setMark_1 12 rfl rfl)
theorem dX8_setMark_36 : decode cX8_setMark 36 = .ok (.goto 4, 3) := dk_167 0 4 (dk_at dksX8_setMark_1 13 rfl rfl)
theorem dX8_setMark_39 : decode cX8_setMark 39 = .ok (.iconst 0, 1) := dk_3 (dk_at dksX8_setMark_1 16 rfl rfl)
theorem dX8_setMark_40 : decode cX8_setMark 40 = .ok (.putfield 37, 3) := dk_181 0 37 (dk_at dksX8_setMark_1 17 rfl rfl)
theorem dX8_setMark_43 : decode cX8_setMark 43 = .ok (.aload_n 0, 1) := dk_42 (dk_at dksX8_setMark_1 20 rfl rfl)
theorem dX8_setMark_44 : decode cX8_setMark 44 = .ok (.getfield 37, 3) := dk_180 0 37 (dk_at dksX8_setMark_1 21 rfl rfl)
theorem dX8_setMark_47 : decode cX8_setMark 47 = .ok (.ifCond .le 5, 3) := dk_158 0 5 (dk_at dksX8_setMark_2 0 rfl rfl)
theorem dX8_setMark_50 : decode cX8_setMark 50 = .ok (.iconst 0, 1) := dk_3 (dk_at dksX8_setMark_2 3 rfl rfl)
theorem dX8_setMark_51 : decode cX8_setMark 51 = .ok (.ireturn, 1) := dk_172 (dk_at dksX8_setMark_2 4 rfl rfl)
theorem dX8_setMark_52 : decode cX8_setMark 52 = .ok (.aload_n 0, 1) := dk_42 (dk_at dksX8_setMark_2 5 rfl rfl)
theorem dX8_setMark_53 : decode cX8_setMark 53 = .ok (.invokevirtual 151, 3) := dk_182 0 151 (dk_at dksX8_setMark_2 6 rfl rfl)
theorem dX8_setMark_56 : decode cX8_setMark 56 = .ok (.aload_n 0, 1) := dk_42 (dk_at dksX8_setMark_2 9 rfl rfl)
theorem dX8_setMark_57 : decode cX8_setMark 57 = .ok (.getfield 7, 3) := dk_180 0 7 (dk_at dksX8_setMark_2 10 rfl rfl)
theorem dX8_setMark_60 : decode cX8_setMark 60 = .ok (.bipush 126, 2) := dk_16 126 (dk_at dksX8_setMark_2 13 rfl rfl)
theorem dX8_setMark_62 : decode cX8_setMark 62 = .ok (.iconst 3, 1) := dk_6 (dk_at dksX8_setMark_2 15 rfl rfl)
theorem dX8_setMark_63 : decode cX8_setMark 63 = .ok (.iload_n 1, 1) := dk_27 (dk_at dksX8_setMark_2 16 rfl rfl)
theorem dX8_setMark_64 : decode cX8_setMark 64 = .ok (.imul, 1) := dk_104 (dk_at dksX8_setMark_2 17 rfl rfl)
theorem dX8_setMark_65 : decode cX8_setMark 65 = .ok (.iadd, 1) := dk_96 (dk_at dksX8_setMark_2 18 rfl rfl)
theorem dX8_setMark_66 : decode cX8_setMark 66 = .ok (.iaload, 1) := dk_46 (dk_at dksX8_setMark_2 19 rfl rfl)
theorem dX8_setMark_67 : decode cX8_setMark 67 = .ok (.istore_n 3, 1) := dk_62 (dk_at dksX8_setMark_2 20 rfl rfl)
theorem dX8_setMark_68 : decode cX8_setMark 68 = .ok (.aload_n 0, 1) := dk_42 (dk_at dksX8_setMark_2 21 rfl rfl)
theorem dX8_setMark_69 : decode cX8_setMark 69 = .ok (.getfield 7, 3) := dk_180 0 7 (dk_at dksX8_setMark_3 0 rfl rfl)
theorem dX8_setMark_72 : decode cX8_setMark 72 = .ok (.bipush 126, 2) := dk_16 126 (dk_at dksX8_setMark_3 3 rfl rfl)
theorem dX8_setMark_74 : decode cX8_setMark 74 = .ok (.iconst 3, 1) := dk_6 (dk_at dksX8_setMark_3 5 rfl rfl)
theorem dX8_setMark_75 : decode cX8_setMark 75 = .ok (.iload_n 1, 1) := dk_27 (dk_at dksX8_setMark_3 6 rfl rfl)
theorem dX8_setMark_76 : decode cX8_setMark 76 = .ok (.imul, 1) := dk_104 (dk_at dksX8_setMark_3 7 rfl rfl)
theorem dX8_setMark_77 : decode cX8_setMark 77 = .ok (.iadd, 1) := dk_96 (dk_at dksX8_setMark_3 8 rfl rfl)
theorem dX8_setMark_78 : decode cX8_setMark 78 = .ok (.iload_n 2, 1) := dk_28 (dk_at dksX8_setMark_3 9 rfl rfl)
theorem dX8_setMark_79 : decode cX8_setMark 79 = .ok (.iastore, 1) := dk_79 (dk_at dksX8_setMark_3 10 rfl rfl)
theorem dX8_setMark_80 : decode cX8_setMark 80 = .ok (.iload_n 3, 1) := dk_29 (dk_at dksX8_setMark_3 11 rfl rfl)
theorem dX8_setMark_81 : decode cX8_setMark 81 = .ok (.ireturn, 1) := dk_172 (dk_at dksX8_setMark_3 12 rfl rfl)
abbrev cX8_isMould : ByteArray := prog_26_method_12_code
def yX8_isMould : MethodName := ⟨RX8, "isMould", "(I)Z"⟩
def dkwX8_isMould_0 : List UInt8 := [26, 3, 7, 184, 0, 48, 172]
abbrev dktX8_isMould_0 : List UInt8 := dkwX8_isMould_0 ++ []
theorem dksX8_isMould_0 : cX8_isMould.data.toList.drop 0 = dktX8_isMould_0 := by decide +kernel
theorem dX8_isMould_0 : decode cX8_isMould 0 = .ok (.iload_n 0, 1) := dk_26 (dk_at dksX8_isMould_0 0 rfl rfl)
theorem dX8_isMould_1 : decode cX8_isMould 1 = .ok (.iconst 0, 1) := dk_3 (dk_at dksX8_isMould_0 1 rfl rfl)
theorem dX8_isMould_2 : decode cX8_isMould 2 = .ok (.iconst 4, 1) := dk_7 (dk_at dksX8_isMould_0 2 rfl rfl)
theorem dX8_isMould_3 : decode cX8_isMould 3 = .ok (.invokestatic 48, 3) := dk_184 0 48 (dk_at dksX8_isMould_0 3 rfl rfl)
theorem dX8_isMould_6 : decode cX8_isMould 6 = .ok (.ireturn, 1) := dk_172 (dk_at dksX8_isMould_0 6 rfl rfl)
abbrev cX8_isTaken : ByteArray := prog_26_method_66_code
def yX8_isTaken : MethodName := ⟨RX8, "isTaken", "(II)Z"⟩
def dkwX8_isTaken_2 : List UInt8 := [167, 255, 215, 29, 172]
abbrev dktX8_isTaken_2 : List UInt8 := dkwX8_isTaken_2 ++ []
def dkwX8_isTaken_1 : List UInt8 := [180, 0, 7, 16, 126, 6, 21, 4, 104, 96, 46, 28, 160, 0, 7, 4, 167, 0, 4, 3, 62, 132, 4, 1]
abbrev dktX8_isTaken_1 : List UInt8 := dkwX8_isTaken_1 ++ dktX8_isTaken_2
def dkwX8_isTaken_0 : List UInt8 := [3, 62, 3, 54, 4, 21, 4, 8, 162, 0, 41, 29, 154, 0, 25, 21, 4, 27, 159, 0, 23, 42]
abbrev dktX8_isTaken_0 : List UInt8 := dkwX8_isTaken_0 ++ dktX8_isTaken_1
theorem dksX8_isTaken_0 : cX8_isTaken.data.toList.drop 0 = dktX8_isTaken_0 := by decide +kernel
theorem dksX8_isTaken_1 : cX8_isTaken.data.toList.drop 22 = dktX8_isTaken_1 := dk_seg dksX8_isTaken_0 22 rfl rfl
theorem dksX8_isTaken_2 : cX8_isTaken.data.toList.drop 46 = dktX8_isTaken_2 := dk_seg dksX8_isTaken_1 24 rfl rfl
theorem dX8_isTaken_0 : decode cX8_isTaken 0 = .ok (.iconst 0, 1) := dk_3 (dk_at dksX8_isTaken_0 0 rfl rfl)
theorem dX8_isTaken_1 : decode cX8_isTaken 1 = .ok (.istore_n 3, 1) := dk_62 (dk_at dksX8_isTaken_0 1 rfl rfl)
theorem dX8_isTaken_2 : decode cX8_isTaken 2 = .ok (.iconst 0, 1) := dk_3 (dk_at dksX8_isTaken_0 2 rfl rfl)
theorem dX8_isTaken_3 : decode cX8_isTaken 3 = .ok (.istore 4, 2) := dk_54 4 (dk_at dksX8_isTaken_0 3 rfl rfl)
theorem dX8_isTaken_5 : decode cX8_isTaken 5 = .ok (.iload 4, 2) := dk_21 4 (dk_at dksX8_isTaken_0 5 rfl rfl)
theorem dX8_isTaken_7 : decode cX8_isTaken 7 = .ok (.iconst 5, 1) := dk_8 (dk_at dksX8_isTaken_0 7 rfl rfl)
theorem dX8_isTaken_8 : decode cX8_isTaken 8 = .ok (.if_icmp .ge 41, 3) := dk_162 0 41 (dk_at dksX8_isTaken_0 8 rfl rfl)
theorem dX8_isTaken_11 : decode cX8_isTaken 11 = .ok (.iload_n 3, 1) := dk_29 (dk_at dksX8_isTaken_0 11 rfl rfl)
theorem dX8_isTaken_12 : decode cX8_isTaken 12 = .ok (.ifCond .ne 25, 3) := dk_154 0 25 (dk_at dksX8_isTaken_0 12 rfl rfl)
theorem dX8_isTaken_15 : decode cX8_isTaken 15 = .ok (.iload 4, 2) := dk_21 4 (dk_at dksX8_isTaken_0 15 rfl rfl)
theorem dX8_isTaken_17 : decode cX8_isTaken 17 = .ok (.iload_n 1, 1) := dk_27 (dk_at dksX8_isTaken_0 17 rfl rfl)
theorem dX8_isTaken_18 : decode cX8_isTaken 18 = .ok (.if_icmp .eq 23, 3) := dk_159 0 23 (dk_at dksX8_isTaken_0 18 rfl rfl)
theorem dX8_isTaken_21 : decode cX8_isTaken 21 = .ok (.aload_n 0, 1) := dk_42 (dk_at dksX8_isTaken_0 21 rfl rfl)
theorem dX8_isTaken_22 : decode cX8_isTaken 22 = .ok (.getfield 7, 3) := dk_180 0 7 (dk_at dksX8_isTaken_1 0 rfl rfl)
theorem dX8_isTaken_25 : decode cX8_isTaken 25 = .ok (.bipush 126, 2) := dk_16 126 (dk_at dksX8_isTaken_1 3 rfl rfl)
theorem dX8_isTaken_27 : decode cX8_isTaken 27 = .ok (.iconst 3, 1) := dk_6 (dk_at dksX8_isTaken_1 5 rfl rfl)
theorem dX8_isTaken_28 : decode cX8_isTaken 28 = .ok (.iload 4, 2) := dk_21 4 (dk_at dksX8_isTaken_1 6 rfl rfl)
theorem dX8_isTaken_30 : decode cX8_isTaken 30 = .ok (.imul, 1) := dk_104 (dk_at dksX8_isTaken_1 8 rfl rfl)
theorem dX8_isTaken_31 : decode cX8_isTaken 31 = .ok (.iadd, 1) := dk_96 (dk_at dksX8_isTaken_1 9 rfl rfl)
theorem dX8_isTaken_32 : decode cX8_isTaken 32 = .ok (.iaload, 1) := dk_46 (dk_at dksX8_isTaken_1 10 rfl rfl)
theorem dX8_isTaken_33 : decode cX8_isTaken 33 = .ok (.iload_n 2, 1) := dk_28 (dk_at dksX8_isTaken_1 11 rfl rfl)
theorem dX8_isTaken_34 : decode cX8_isTaken 34 = .ok (.if_icmp .ne 7, 3) := dk_160 0 7 (dk_at dksX8_isTaken_1 12 rfl rfl)
theorem dX8_isTaken_37 : decode cX8_isTaken 37 = .ok (.iconst 1, 1) := dk_4 (dk_at dksX8_isTaken_1 15 rfl rfl)
theorem dX8_isTaken_38 : decode cX8_isTaken 38 = .ok (.goto 4, 3) := dk_167 0 4 (dk_at dksX8_isTaken_1 16 rfl rfl)
theorem dX8_isTaken_41 : decode cX8_isTaken 41 = .ok (.iconst 0, 1) := dk_3 (dk_at dksX8_isTaken_1 19 rfl rfl)
theorem dX8_isTaken_42 : decode cX8_isTaken 42 = .ok (.istore_n 3, 1) := dk_62 (dk_at dksX8_isTaken_1 20 rfl rfl)
theorem dX8_isTaken_43 : decode cX8_isTaken 43 = .ok (.iinc 4 1, 3) := dk_132 4 1 (dk_at dksX8_isTaken_1 21 rfl rfl)
theorem dX8_isTaken_46 : decode cX8_isTaken 46 = .ok (.goto (-41), 3) := dk_167 255 215 (dk_at dksX8_isTaken_2 0 rfl rfl)
theorem dX8_isTaken_49 : decode cX8_isTaken 49 = .ok (.iload_n 3, 1) := dk_29 (dk_at dksX8_isTaken_2 3 rfl rfl)
theorem dX8_isTaken_50 : decode cX8_isTaken 50 = .ok (.ireturn, 1) := dk_172 (dk_at dksX8_isTaken_2 4 rfl rfl)
abbrev cX8_mend : ByteArray := prog_26_method_68_code
def yX8_mend : MethodName := ⟨RX8, "mend", "(I)I"⟩
def dkwX8_mend_3 : List UInt8 := [96, 4, 96, 3, 79, 28, 172]
abbrev dktX8_mend_3 : List UInt8 := dkwX8_mend_3 ++ []
def dkwX8_mend_2 : List UInt8 := [182, 0, 94, 61, 42, 180, 0, 7, 4, 92, 46, 16, 30, 100, 79, 42, 180, 0, 7, 16, 126, 6, 27, 104]
abbrev dktX8_mend_2 : List UInt8 := dkwX8_mend_2 ++ dktX8_mend_3
def dkwX8_mend_1 : List UInt8 := [167, 0, 4, 3, 181, 0, 37, 42, 180, 0, 37, 158, 0, 5, 3, 172, 42, 182, 0, 151, 42, 27]
abbrev dktX8_mend_1 : List UInt8 := dkwX8_mend_1 ++ dktX8_mend_2
def dkwX8_mend_0 : List UInt8 := [42, 27, 184, 0, 183, 154, 0, 7, 4, 167, 0, 19, 42, 180, 0, 7, 4, 46, 16, 30, 162, 0, 7, 5]
abbrev dktX8_mend_0 : List UInt8 := dkwX8_mend_0 ++ dktX8_mend_1
theorem dksX8_mend_0 : cX8_mend.data.toList.drop 0 = dktX8_mend_0 := by decide +kernel
theorem dksX8_mend_1 : cX8_mend.data.toList.drop 24 = dktX8_mend_1 := dk_seg dksX8_mend_0 24 rfl rfl
theorem dksX8_mend_2 : cX8_mend.data.toList.drop 46 = dktX8_mend_2 := dk_seg dksX8_mend_1 22 rfl rfl
theorem dksX8_mend_3 : cX8_mend.data.toList.drop 70 = dktX8_mend_3 := dk_seg dksX8_mend_2 24 rfl rfl
theorem dX8_mend_0 : decode cX8_mend 0 = .ok (.aload_n 0, 1) := dk_42 (dk_at dksX8_mend_0 0 rfl rfl)
theorem dX8_mend_1 : decode cX8_mend 1 = .ok (.iload_n 1, 1) := dk_27 (dk_at dksX8_mend_0 1 rfl rfl)
theorem dX8_mend_2 : decode cX8_mend 2 = .ok (.invokestatic 183, 3) := dk_184 0 183 (dk_at dksX8_mend_0 2 rfl rfl)
theorem dX8_mend_5 : decode cX8_mend 5 = .ok (.ifCond .ne 7, 3) := dk_154 0 7 (dk_at dksX8_mend_0 5 rfl rfl)
theorem dX8_mend_8 : decode cX8_mend 8 = .ok (.iconst 1, 1) := dk_4 (dk_at dksX8_mend_0 8 rfl rfl)
theorem dX8_mend_9 : decode cX8_mend 9 = .ok (.goto 19, 3) := dk_167 0 19 (dk_at dksX8_mend_0 9 rfl rfl)
theorem dX8_mend_12 : decode cX8_mend 12 = .ok (.aload_n 0, 1) := dk_42 (dk_at dksX8_mend_0 12 rfl rfl)
theorem dX8_mend_13 : decode cX8_mend 13 = .ok (.getfield 7, 3) := dk_180 0 7 (dk_at dksX8_mend_0 13 rfl rfl)
theorem dX8_mend_16 : decode cX8_mend 16 = .ok (.iconst 1, 1) := dk_4 (dk_at dksX8_mend_0 16 rfl rfl)
theorem dX8_mend_17 : decode cX8_mend 17 = .ok (.iaload, 1) := dk_46 (dk_at dksX8_mend_0 17 rfl rfl)
theorem dX8_mend_18 : decode cX8_mend 18 = .ok (.bipush 30, 2) := dk_16 30 (dk_at dksX8_mend_0 18 rfl rfl)
theorem dX8_mend_20 : decode cX8_mend 20 = .ok (.if_icmp .ge 7, 3) := dk_162 0 7 (dk_at dksX8_mend_0 20 rfl rfl)
theorem dX8_mend_23 : decode cX8_mend 23 = .ok (.iconst 2, 1) := dk_5 (dk_at dksX8_mend_0 23 rfl rfl)
theorem dX8_mend_24 : decode cX8_mend 24 = .ok (.goto 4, 3) := dk_167 0 4 (dk_at dksX8_mend_1 0 rfl rfl)
theorem dX8_mend_27 : decode cX8_mend 27 = .ok (.iconst 0, 1) := dk_3 (dk_at dksX8_mend_1 3 rfl rfl)
theorem dX8_mend_28 : decode cX8_mend 28 = .ok (.putfield 37, 3) := dk_181 0 37 (dk_at dksX8_mend_1 4 rfl rfl)
theorem dX8_mend_31 : decode cX8_mend 31 = .ok (.aload_n 0, 1) := dk_42 (dk_at dksX8_mend_1 7 rfl rfl)
theorem dX8_mend_32 : decode cX8_mend 32 = .ok (.getfield 37, 3) := dk_180 0 37 (dk_at dksX8_mend_1 8 rfl rfl)
theorem dX8_mend_35 : decode cX8_mend 35 = .ok (.ifCond .le 5, 3) := dk_158 0 5 (dk_at dksX8_mend_1 11 rfl rfl)
theorem dX8_mend_38 : decode cX8_mend 38 = .ok (.iconst 0, 1) := dk_3 (dk_at dksX8_mend_1 14 rfl rfl)
theorem dX8_mend_39 : decode cX8_mend 39 = .ok (.ireturn, 1) := dk_172 (dk_at dksX8_mend_1 15 rfl rfl)
theorem dX8_mend_40 : decode cX8_mend 40 = .ok (.aload_n 0, 1) := dk_42 (dk_at dksX8_mend_1 16 rfl rfl)
theorem dX8_mend_41 : decode cX8_mend 41 = .ok (.invokevirtual 151, 3) := dk_182 0 151 (dk_at dksX8_mend_1 17 rfl rfl)
theorem dX8_mend_44 : decode cX8_mend 44 = .ok (.aload_n 0, 1) := dk_42 (dk_at dksX8_mend_1 20 rfl rfl)
theorem dX8_mend_45 : decode cX8_mend 45 = .ok (.iload_n 1, 1) := dk_27 (dk_at dksX8_mend_1 21 rfl rfl)
theorem dX8_mend_46 : decode cX8_mend 46 = .ok (.invokevirtual 94, 3) := dk_182 0 94 (dk_at dksX8_mend_2 0 rfl rfl)
theorem dX8_mend_49 : decode cX8_mend 49 = .ok (.istore_n 2, 1) := dk_61 (dk_at dksX8_mend_2 3 rfl rfl)
theorem dX8_mend_50 : decode cX8_mend 50 = .ok (.aload_n 0, 1) := dk_42 (dk_at dksX8_mend_2 4 rfl rfl)
theorem dX8_mend_51 : decode cX8_mend 51 = .ok (.getfield 7, 3) := dk_180 0 7 (dk_at dksX8_mend_2 5 rfl rfl)
theorem dX8_mend_54 : decode cX8_mend 54 = .ok (.iconst 1, 1) := dk_4 (dk_at dksX8_mend_2 8 rfl rfl)
theorem dX8_mend_55 : decode cX8_mend 55 = .ok (.dup2, 1) := dk_92 (dk_at dksX8_mend_2 9 rfl rfl)
theorem dX8_mend_56 : decode cX8_mend 56 = .ok (.iaload, 1) := dk_46 (dk_at dksX8_mend_2 10 rfl rfl)
theorem dX8_mend_57 : decode cX8_mend 57 = .ok (.bipush 30, 2) := dk_16 30 (dk_at dksX8_mend_2 11 rfl rfl)
theorem dX8_mend_59 : decode cX8_mend 59 = .ok (.isub, 1) := dk_100 (dk_at dksX8_mend_2 13 rfl rfl)
theorem dX8_mend_60 : decode cX8_mend 60 = .ok (.iastore, 1) := dk_79 (dk_at dksX8_mend_2 14 rfl rfl)
theorem dX8_mend_61 : decode cX8_mend 61 = .ok (.aload_n 0, 1) := dk_42 (dk_at dksX8_mend_2 15 rfl rfl)
theorem dX8_mend_62 : decode cX8_mend 62 = .ok (.getfield 7, 3) := dk_180 0 7 (dk_at dksX8_mend_2 16 rfl rfl)
theorem dX8_mend_65 : decode cX8_mend 65 = .ok (.bipush 126, 2) := dk_16 126 (dk_at dksX8_mend_2 19 rfl rfl)
theorem dX8_mend_67 : decode cX8_mend 67 = .ok (.iconst 3, 1) := dk_6 (dk_at dksX8_mend_2 21 rfl rfl)
theorem dX8_mend_68 : decode cX8_mend 68 = .ok (.iload_n 1, 1) := dk_27 (dk_at dksX8_mend_2 22 rfl rfl)
theorem dX8_mend_69 : decode cX8_mend 69 = .ok (.imul, 1) := dk_104 (dk_at dksX8_mend_2 23 rfl rfl)
theorem dX8_mend_70 : decode cX8_mend 70 = .ok (.iadd, 1) := dk_96 (dk_at dksX8_mend_3 0 rfl rfl)
theorem dX8_mend_71 : decode cX8_mend 71 = .ok (.iconst 1, 1) := dk_4 (dk_at dksX8_mend_3 1 rfl rfl)
theorem dX8_mend_72 : decode cX8_mend 72 = .ok (.iadd, 1) := dk_96 (dk_at dksX8_mend_3 2 rfl rfl)
theorem dX8_mend_73 : decode cX8_mend 73 = .ok (.iconst 0, 1) := dk_3 (dk_at dksX8_mend_3 3 rfl rfl)
theorem dX8_mend_74 : decode cX8_mend 74 = .ok (.iastore, 1) := dk_79 (dk_at dksX8_mend_3 4 rfl rfl)
theorem dX8_mend_75 : decode cX8_mend 75 = .ok (.iload_n 2, 1) := dk_28 (dk_at dksX8_mend_3 5 rfl rfl)
theorem dX8_mend_76 : decode cX8_mend 76 = .ok (.ireturn, 1) := dk_172 (dk_at dksX8_mend_3 6 rfl rfl)
abbrev cX8_wear : ByteArray := prog_26_method_32_code
def yX8_wear : MethodName := ⟨RX8, "wear", "(I)I"⟩
def dkwX8_wear_0 : List UInt8 := [42, 180, 0, 7, 16, 126, 6, 27, 104, 96, 4, 96, 46, 172]
abbrev dktX8_wear_0 : List UInt8 := dkwX8_wear_0 ++ []
theorem dksX8_wear_0 : cX8_wear.data.toList.drop 0 = dktX8_wear_0 := by decide +kernel
theorem dX8_wear_0 : decode cX8_wear 0 = .ok (.aload_n 0, 1) := dk_42 (dk_at dksX8_wear_0 0 rfl rfl)
theorem dX8_wear_1 : decode cX8_wear 1 = .ok (.getfield 7, 3) := dk_180 0 7 (dk_at dksX8_wear_0 1 rfl rfl)
theorem dX8_wear_4 : decode cX8_wear 4 = .ok (.bipush 126, 2) := dk_16 126 (dk_at dksX8_wear_0 4 rfl rfl)
theorem dX8_wear_6 : decode cX8_wear 6 = .ok (.iconst 3, 1) := dk_6 (dk_at dksX8_wear_0 6 rfl rfl)
theorem dX8_wear_7 : decode cX8_wear 7 = .ok (.iload_n 1, 1) := dk_27 (dk_at dksX8_wear_0 7 rfl rfl)
theorem dX8_wear_8 : decode cX8_wear 8 = .ok (.imul, 1) := dk_104 (dk_at dksX8_wear_0 8 rfl rfl)
theorem dX8_wear_9 : decode cX8_wear 9 = .ok (.iadd, 1) := dk_96 (dk_at dksX8_wear_0 9 rfl rfl)
theorem dX8_wear_10 : decode cX8_wear 10 = .ok (.iconst 1, 1) := dk_4 (dk_at dksX8_wear_0 10 rfl rfl)
theorem dX8_wear_11 : decode cX8_wear 11 = .ok (.iadd, 1) := dk_96 (dk_at dksX8_wear_0 11 rfl rfl)
theorem dX8_wear_12 : decode cX8_wear 12 = .ok (.iaload, 1) := dk_46 (dk_at dksX8_wear_0 12 rfl rfl)
theorem dX8_wear_13 : decode cX8_wear 13 = .ok (.ireturn, 1) := dk_172 (dk_at dksX8_wear_0 13 rfl rfl)
abbrev cX8_make : ByteArray := prog_26_method_70_code
def yX8_make : MethodName := ⟨RX8, "make", "(III)I"⟩
def dkwX8_make_2 : List UInt8 := [181, 0, 37, 42, 180, 0, 37, 158, 0, 5, 3, 172, 42, 182, 0, 151, 42, 27, 28, 29, 182, 0, 195, 172]
abbrev dktX8_make_2 : List UInt8 := dkwX8_make_2 ++ []
def dkwX8_make_1 : List UInt8 := [154, 0, 7, 5, 167, 0, 18, 42, 27, 28, 29, 182, 0, 192, 154, 0, 7, 3, 167, 0, 4, 6]
abbrev dktX8_make_1 : List UInt8 := dkwX8_make_1 ++ dktX8_make_2
def dkwX8_make_0 : List UInt8 := [42, 27, 184, 0, 164, 153, 0, 10, 28, 184, 0, 183, 154, 0, 7, 4, 167, 0, 29, 29, 184, 0, 189]
abbrev dktX8_make_0 : List UInt8 := dkwX8_make_0 ++ dktX8_make_1
theorem dksX8_make_0 : cX8_make.data.toList.drop 0 = dktX8_make_0 := by decide +kernel
theorem dksX8_make_1 : cX8_make.data.toList.drop 23 = dktX8_make_1 := dk_seg dksX8_make_0 23 rfl rfl
theorem dksX8_make_2 : cX8_make.data.toList.drop 45 = dktX8_make_2 := dk_seg dksX8_make_1 22 rfl rfl
theorem dX8_make_0 : decode cX8_make 0 = .ok (.aload_n 0, 1) := dk_42 (dk_at dksX8_make_0 0 rfl rfl)
theorem dX8_make_1 : decode cX8_make 1 = .ok (.iload_n 1, 1) := dk_27 (dk_at dksX8_make_0 1 rfl rfl)
theorem dX8_make_2 : decode cX8_make 2 = .ok (.invokestatic 164, 3) := dk_184 0 164 (dk_at dksX8_make_0 2 rfl rfl)
theorem dX8_make_5 : decode cX8_make 5 = .ok (.ifCond .eq 10, 3) := dk_153 0 10 (dk_at dksX8_make_0 5 rfl rfl)
theorem dX8_make_8 : decode cX8_make 8 = .ok (.iload_n 2, 1) := dk_28 (dk_at dksX8_make_0 8 rfl rfl)
theorem dX8_make_9 : decode cX8_make 9 = .ok (.invokestatic 183, 3) := dk_184 0 183 (dk_at dksX8_make_0 9 rfl rfl)
theorem dX8_make_12 : decode cX8_make 12 = .ok (.ifCond .ne 7, 3) := dk_154 0 7 (dk_at dksX8_make_0 12 rfl rfl)
theorem dX8_make_15 : decode cX8_make 15 = .ok (.iconst 1, 1) := dk_4 (dk_at dksX8_make_0 15 rfl rfl)
theorem dX8_make_16 : decode cX8_make 16 = .ok (.goto 29, 3) := dk_167 0 29 (dk_at dksX8_make_0 16 rfl rfl)
theorem dX8_make_19 : decode cX8_make 19 = .ok (.iload_n 3, 1) := dk_29 (dk_at dksX8_make_0 19 rfl rfl)
theorem dX8_make_20 : decode cX8_make 20 = .ok (.invokestatic 189, 3) := dk_184 0 189 (dk_at dksX8_make_0 20 rfl rfl)
theorem dX8_make_23 : decode cX8_make 23 = .ok (.ifCond .ne 7, 3) := dk_154 0 7 (dk_at dksX8_make_1 0 rfl rfl)
theorem dX8_make_26 : decode cX8_make 26 = .ok (.iconst 2, 1) := dk_5 (dk_at dksX8_make_1 3 rfl rfl)
theorem dX8_make_27 : decode cX8_make 27 = .ok (.goto 18, 3) := dk_167 0 18 (dk_at dksX8_make_1 4 rfl rfl)
theorem dX8_make_30 : decode cX8_make 30 = .ok (.aload_n 0, 1) := dk_42 (dk_at dksX8_make_1 7 rfl rfl)
theorem dX8_make_31 : decode cX8_make 31 = .ok (.iload_n 1, 1) := dk_27 (dk_at dksX8_make_1 8 rfl rfl)
theorem dX8_make_32 : decode cX8_make 32 = .ok (.iload_n 2, 1) := dk_28 (dk_at dksX8_make_1 9 rfl rfl)
theorem dX8_make_33 : decode cX8_make 33 = .ok (.iload_n 3, 1) := dk_29 (dk_at dksX8_make_1 10 rfl rfl)
theorem dX8_make_34 : decode cX8_make 34 = .ok (.invokevirtual 192, 3) := dk_182 0 192 (dk_at dksX8_make_1 11 rfl rfl)
theorem dX8_make_37 : decode cX8_make 37 = .ok (.ifCond .ne 7, 3) := dk_154 0 7 (dk_at dksX8_make_1 14 rfl rfl)
theorem dX8_make_40 : decode cX8_make 40 = .ok (.iconst 0, 1) := dk_3 (dk_at dksX8_make_1 17 rfl rfl)
theorem dX8_make_41 : decode cX8_make 41 = .ok (.goto 4, 3) := dk_167 0 4 (dk_at dksX8_make_1 18 rfl rfl)
theorem dX8_make_44 : decode cX8_make 44 = .ok (.iconst 3, 1) := dk_6 (dk_at dksX8_make_1 21 rfl rfl)
theorem dX8_make_45 : decode cX8_make 45 = .ok (.putfield 37, 3) := dk_181 0 37 (dk_at dksX8_make_2 0 rfl rfl)
theorem dX8_make_48 : decode cX8_make 48 = .ok (.aload_n 0, 1) := dk_42 (dk_at dksX8_make_2 3 rfl rfl)
theorem dX8_make_49 : decode cX8_make 49 = .ok (.getfield 37, 3) := dk_180 0 37 (dk_at dksX8_make_2 4 rfl rfl)
theorem dX8_make_52 : decode cX8_make 52 = .ok (.ifCond .le 5, 3) := dk_158 0 5 (dk_at dksX8_make_2 7 rfl rfl)
theorem dX8_make_55 : decode cX8_make 55 = .ok (.iconst 0, 1) := dk_3 (dk_at dksX8_make_2 10 rfl rfl)
theorem dX8_make_56 : decode cX8_make 56 = .ok (.ireturn, 1) := dk_172 (dk_at dksX8_make_2 11 rfl rfl)
theorem dX8_make_57 : decode cX8_make 57 = .ok (.aload_n 0, 1) := dk_42 (dk_at dksX8_make_2 12 rfl rfl)
theorem dX8_make_58 : decode cX8_make 58 = .ok (.invokevirtual 151, 3) := dk_182 0 151 (dk_at dksX8_make_2 13 rfl rfl)
theorem dX8_make_61 : decode cX8_make 61 = .ok (.aload_n 0, 1) := dk_42 (dk_at dksX8_make_2 16 rfl rfl)
theorem dX8_make_62 : decode cX8_make 62 = .ok (.iload_n 1, 1) := dk_27 (dk_at dksX8_make_2 17 rfl rfl)
theorem dX8_make_63 : decode cX8_make 63 = .ok (.iload_n 2, 1) := dk_28 (dk_at dksX8_make_2 18 rfl rfl)
theorem dX8_make_64 : decode cX8_make 64 = .ok (.iload_n 3, 1) := dk_29 (dk_at dksX8_make_2 19 rfl rfl)
theorem dX8_make_65 : decode cX8_make 65 = .ok (.invokevirtual 195, 3) := dk_182 0 195 (dk_at dksX8_make_2 20 rfl rfl)
theorem dX8_make_68 : decode cX8_make 68 = .ok (.ireturn, 1) := dk_172 (dk_at dksX8_make_2 23 rfl rfl)
abbrev cX8_isSheets : ByteArray := prog_26_method_69_code
def yX8_isSheets : MethodName := ⟨RX8, "isSheets", "(I)Z"⟩
def dkwX8_isSheets_0 : List UInt8 := [26, 4, 17, 1, 224, 184, 0, 48, 172]
abbrev dktX8_isSheets_0 : List UInt8 := dkwX8_isSheets_0 ++ []
theorem dksX8_isSheets_0 : cX8_isSheets.data.toList.drop 0 = dktX8_isSheets_0 := by decide +kernel
theorem dX8_isSheets_0 : decode cX8_isSheets 0 = .ok (.iload_n 0, 1) := dk_26 (dk_at dksX8_isSheets_0 0 rfl rfl)
theorem dX8_isSheets_1 : decode cX8_isSheets 1 = .ok (.iconst 1, 1) := dk_4 (dk_at dksX8_isSheets_0 1 rfl rfl)
theorem dX8_isSheets_2 : decode cX8_isSheets 2 = .ok (.sipush 480, 3) := dk_17 1 224 (dk_at dksX8_isSheets_0 2 rfl rfl)
theorem dX8_isSheets_5 : decode cX8_isSheets 5 = .ok (.invokestatic 48, 3) := dk_184 0 48 (dk_at dksX8_isSheets_0 5 rfl rfl)
theorem dX8_isSheets_8 : decode cX8_isSheets 8 = .ok (.ireturn, 1) := dk_172 (dk_at dksX8_isSheets_0 8 rfl rfl)
abbrev cX8_whyNoSheets : ByteArray := prog_26_method_34_code
def yX8_whyNoSheets : MethodName := ⟨RX8, "whyNoSheets", "(III)I"⟩
def dkwX8_whyNoSheets_3 : List UInt8 := [162, 0, 7, 8, 167, 0, 4, 3, 172]
abbrev dktX8_whyNoSheets_3 : List UInt8 := dkwX8_whyNoSheets_3 ++ []
def dkwX8_whyNoSheets_2 : List UInt8 := [180, 0, 7, 8, 46, 16, 12, 160, 0, 7, 7, 167, 0, 19, 42, 27, 28, 182, 0, 100, 16, 30]
abbrev dktX8_whyNoSheets_2 : List UInt8 := dkwX8_whyNoSheets_2 ++ dktX8_whyNoSheets_3
def dkwX8_whyNoSheets_1 : List UInt8 := [162, 0, 5, 5, 172, 42, 28, 182, 0, 94, 29, 96, 17, 7, 208, 164, 0, 7, 6, 167, 0, 34, 42]
abbrev dktX8_whyNoSheets_1 : List UInt8 := dkwX8_whyNoSheets_1 ++ dktX8_whyNoSheets_2
def dkwX8_whyNoSheets_0 : List UInt8 := [42, 27, 182, 0, 74, 154, 0, 5, 4, 172, 42, 27, 182, 0, 74, 29, 28, 6, 112, 184, 0, 97, 104]
abbrev dktX8_whyNoSheets_0 : List UInt8 := dkwX8_whyNoSheets_0 ++ dktX8_whyNoSheets_1
theorem dksX8_whyNoSheets_0 : cX8_whyNoSheets.data.toList.drop 0 = dktX8_whyNoSheets_0 := by decide +kernel
theorem dksX8_whyNoSheets_1 : cX8_whyNoSheets.data.toList.drop 23 = dktX8_whyNoSheets_1 := dk_seg dksX8_whyNoSheets_0 23 rfl rfl
theorem dksX8_whyNoSheets_2 : cX8_whyNoSheets.data.toList.drop 46 = dktX8_whyNoSheets_2 := dk_seg dksX8_whyNoSheets_1 23 rfl rfl
theorem dksX8_whyNoSheets_3 : cX8_whyNoSheets.data.toList.drop 68 = dktX8_whyNoSheets_3 := dk_seg dksX8_whyNoSheets_2 22 rfl rfl
theorem dX8_whyNoSheets_0 : decode cX8_whyNoSheets 0 = .ok (.aload_n 0, 1) := dk_42 (dk_at dksX8_whyNoSheets_0 0 rfl rfl)
theorem dX8_whyNoSheets_1 : decode cX8_whyNoSheets 1 = .ok (.iload_n 1, 1) := dk_27 (dk_at dksX8_whyNoSheets_0 1 rfl rfl)
theorem dX8_whyNoSheets_2 : decode cX8_whyNoSheets 2 = .ok (.invokevirtual 74, 3) := dk_182 0 74 (dk_at dksX8_whyNoSheets_0 2 rfl rfl)
theorem dX8_whyNoSheets_5 : decode cX8_whyNoSheets 5 = .ok (.ifCond .ne 5, 3) := dk_154 0 5 (dk_at dksX8_whyNoSheets_0 5 rfl rfl)
theorem dX8_whyNoSheets_8 : decode cX8_whyNoSheets 8 = .ok (.iconst 1, 1) := dk_4 (dk_at dksX8_whyNoSheets_0 8 rfl rfl)
theorem dX8_whyNoSheets_9 : decode cX8_whyNoSheets 9 = .ok (.ireturn, 1) := dk_172 (dk_at dksX8_whyNoSheets_0 9 rfl rfl)
theorem dX8_whyNoSheets_10 : decode cX8_whyNoSheets 10 = .ok (.aload_n 0, 1) := dk_42 (dk_at dksX8_whyNoSheets_0 10 rfl rfl)
theorem dX8_whyNoSheets_11 : decode cX8_whyNoSheets 11 = .ok (.iload_n 1, 1) := dk_27 (dk_at dksX8_whyNoSheets_0 11 rfl rfl)
theorem dX8_whyNoSheets_12 : decode cX8_whyNoSheets 12 = .ok (.invokevirtual 74, 3) := dk_182 0 74 (dk_at dksX8_whyNoSheets_0 12 rfl rfl)
theorem dX8_whyNoSheets_15 : decode cX8_whyNoSheets 15 = .ok (.iload_n 3, 1) := dk_29 (dk_at dksX8_whyNoSheets_0 15 rfl rfl)
theorem dX8_whyNoSheets_16 : decode cX8_whyNoSheets 16 = .ok (.iload_n 2, 1) := dk_28 (dk_at dksX8_whyNoSheets_0 16 rfl rfl)
theorem dX8_whyNoSheets_17 : decode cX8_whyNoSheets 17 = .ok (.iconst 3, 1) := dk_6 (dk_at dksX8_whyNoSheets_0 17 rfl rfl)
theorem dX8_whyNoSheets_18 : decode cX8_whyNoSheets 18 = .ok (.irem, 1) := dk_112 (dk_at dksX8_whyNoSheets_0 18 rfl rfl)
theorem dX8_whyNoSheets_19 : decode cX8_whyNoSheets 19 = .ok (.invokestatic 97, 3) := dk_184 0 97 (dk_at dksX8_whyNoSheets_0 19 rfl rfl)
theorem dX8_whyNoSheets_22 : decode cX8_whyNoSheets 22 = .ok (.imul, 1) := dk_104 (dk_at dksX8_whyNoSheets_0 22 rfl rfl)
theorem dX8_whyNoSheets_23 : decode cX8_whyNoSheets 23 = .ok (.if_icmp .ge 5, 3) := dk_162 0 5 (dk_at dksX8_whyNoSheets_1 0 rfl rfl)
theorem dX8_whyNoSheets_26 : decode cX8_whyNoSheets 26 = .ok (.iconst 2, 1) := dk_5 (dk_at dksX8_whyNoSheets_1 3 rfl rfl)
theorem dX8_whyNoSheets_27 : decode cX8_whyNoSheets 27 = .ok (.ireturn, 1) := dk_172 (dk_at dksX8_whyNoSheets_1 4 rfl rfl)
theorem dX8_whyNoSheets_28 : decode cX8_whyNoSheets 28 = .ok (.aload_n 0, 1) := dk_42 (dk_at dksX8_whyNoSheets_1 5 rfl rfl)
theorem dX8_whyNoSheets_29 : decode cX8_whyNoSheets 29 = .ok (.iload_n 2, 1) := dk_28 (dk_at dksX8_whyNoSheets_1 6 rfl rfl)
theorem dX8_whyNoSheets_30 : decode cX8_whyNoSheets 30 = .ok (.invokevirtual 94, 3) := dk_182 0 94 (dk_at dksX8_whyNoSheets_1 7 rfl rfl)
theorem dX8_whyNoSheets_33 : decode cX8_whyNoSheets 33 = .ok (.iload_n 3, 1) := dk_29 (dk_at dksX8_whyNoSheets_1 10 rfl rfl)
theorem dX8_whyNoSheets_34 : decode cX8_whyNoSheets 34 = .ok (.iadd, 1) := dk_96 (dk_at dksX8_whyNoSheets_1 11 rfl rfl)
theorem dX8_whyNoSheets_35 : decode cX8_whyNoSheets 35 = .ok (.sipush 2000, 3) := dk_17 7 208 (dk_at dksX8_whyNoSheets_1 12 rfl rfl)
theorem dX8_whyNoSheets_38 : decode cX8_whyNoSheets 38 = .ok (.if_icmp .le 7, 3) := dk_164 0 7 (dk_at dksX8_whyNoSheets_1 15 rfl rfl)
theorem dX8_whyNoSheets_41 : decode cX8_whyNoSheets 41 = .ok (.iconst 3, 1) := dk_6 (dk_at dksX8_whyNoSheets_1 18 rfl rfl)
theorem dX8_whyNoSheets_42 : decode cX8_whyNoSheets 42 = .ok (.goto 34, 3) := dk_167 0 34 (dk_at dksX8_whyNoSheets_1 19 rfl rfl)
theorem dX8_whyNoSheets_45 : decode cX8_whyNoSheets 45 = .ok (.aload_n 0, 1) := dk_42 (dk_at dksX8_whyNoSheets_1 22 rfl rfl)
theorem dX8_whyNoSheets_46 : decode cX8_whyNoSheets 46 = .ok (.getfield 7, 3) := dk_180 0 7 (dk_at dksX8_whyNoSheets_2 0 rfl rfl)
theorem dX8_whyNoSheets_49 : decode cX8_whyNoSheets 49 = .ok (.iconst 5, 1) := dk_8 (dk_at dksX8_whyNoSheets_2 3 rfl rfl)
theorem dX8_whyNoSheets_50 : decode cX8_whyNoSheets 50 = .ok (.iaload, 1) := dk_46 (dk_at dksX8_whyNoSheets_2 4 rfl rfl)
theorem dX8_whyNoSheets_51 : decode cX8_whyNoSheets 51 = .ok (.bipush 12, 2) := dk_16 12 (dk_at dksX8_whyNoSheets_2 5 rfl rfl)
theorem dX8_whyNoSheets_53 : decode cX8_whyNoSheets 53 = .ok (.if_icmp .ne 7, 3) := dk_160 0 7 (dk_at dksX8_whyNoSheets_2 7 rfl rfl)
theorem dX8_whyNoSheets_56 : decode cX8_whyNoSheets 56 = .ok (.iconst 4, 1) := dk_7 (dk_at dksX8_whyNoSheets_2 10 rfl rfl)
theorem dX8_whyNoSheets_57 : decode cX8_whyNoSheets 57 = .ok (.goto 19, 3) := dk_167 0 19 (dk_at dksX8_whyNoSheets_2 11 rfl rfl)
theorem dX8_whyNoSheets_60 : decode cX8_whyNoSheets 60 = .ok (.aload_n 0, 1) := dk_42 (dk_at dksX8_whyNoSheets_2 14 rfl rfl)
theorem dX8_whyNoSheets_61 : decode cX8_whyNoSheets 61 = .ok (.iload_n 1, 1) := dk_27 (dk_at dksX8_whyNoSheets_2 15 rfl rfl)
theorem dX8_whyNoSheets_62 : decode cX8_whyNoSheets 62 = .ok (.iload_n 2, 1) := dk_28 (dk_at dksX8_whyNoSheets_2 16 rfl rfl)
theorem dX8_whyNoSheets_63 : decode cX8_whyNoSheets 63 = .ok (.invokevirtual 100, 3) := dk_182 0 100 (dk_at dksX8_whyNoSheets_2 17 rfl rfl)
theorem dX8_whyNoSheets_66 : decode cX8_whyNoSheets 66 = .ok (.bipush 30, 2) := dk_16 30 (dk_at dksX8_whyNoSheets_2 20 rfl rfl)
theorem dX8_whyNoSheets_68 : decode cX8_whyNoSheets 68 = .ok (.if_icmp .ge 7, 3) := dk_162 0 7 (dk_at dksX8_whyNoSheets_3 0 rfl rfl)
theorem dX8_whyNoSheets_71 : decode cX8_whyNoSheets 71 = .ok (.iconst 5, 1) := dk_8 (dk_at dksX8_whyNoSheets_3 3 rfl rfl)
theorem dX8_whyNoSheets_72 : decode cX8_whyNoSheets 72 = .ok (.goto 4, 3) := dk_167 0 4 (dk_at dksX8_whyNoSheets_3 4 rfl rfl)
theorem dX8_whyNoSheets_75 : decode cX8_whyNoSheets 75 = .ok (.iconst 0, 1) := dk_3 (dk_at dksX8_whyNoSheets_3 7 rfl rfl)
theorem dX8_whyNoSheets_76 : decode cX8_whyNoSheets 76 = .ok (.ireturn, 1) := dk_172 (dk_at dksX8_whyNoSheets_3 8 rfl rfl)
abbrev cX8_unitsBy : ByteArray := prog_26_method_31_code
def yX8_unitsBy : MethodName := ⟨RX8, "unitsBy", "(I)I"⟩
def dkwX8_unitsBy_0 : List UInt8 := [4, 26, 120, 172]
abbrev dktX8_unitsBy_0 : List UInt8 := dkwX8_unitsBy_0 ++ []
theorem dksX8_unitsBy_0 : cX8_unitsBy.data.toList.drop 0 = dktX8_unitsBy_0 := by decide +kernel
theorem dX8_unitsBy_0 : decode cX8_unitsBy 0 = .ok (.iconst 1, 1) := dk_4 (dk_at dksX8_unitsBy_0 0 rfl rfl)
theorem dX8_unitsBy_1 : decode cX8_unitsBy 1 = .ok (.iload_n 0, 1) := dk_26 (dk_at dksX8_unitsBy_0 1 rfl rfl)
theorem dX8_unitsBy_2 : decode cX8_unitsBy 2 = .ok (.ishl, 1) := dk_120 (dk_at dksX8_unitsBy_0 2 rfl rfl)
theorem dX8_unitsBy_3 : decode cX8_unitsBy 3 = .ok (.ireturn, 1) := dk_172 (dk_at dksX8_unitsBy_0 3 rfl rfl)
abbrev cX8_points : ByteArray := prog_26_method_33_code
def yX8_points : MethodName := ⟨RX8, "points", "(II)I"⟩
def dkwX8_points_2 : List UInt8 := [16, 100, 108, 100, 172]
abbrev dktX8_points_2 : List UInt8 := dkwX8_points_2 ++ []
def dkwX8_points_1 : List UInt8 := [5, 96, 46, 29, 16, 24, 163, 0, 7, 29, 167, 0, 7, 16, 48, 29, 100, 96, 42, 28, 182, 0, 94]
abbrev dktX8_points_1 : List UInt8 := dkwX8_points_1 ++ dktX8_points_2
def dkwX8_points_0 : List UInt8 := [42, 180, 0, 7, 16, 117, 6, 27, 104, 96, 4, 96, 46, 62, 42, 180, 0, 7, 16, 117, 6, 27, 104, 96]
abbrev dktX8_points_0 : List UInt8 := dkwX8_points_0 ++ dktX8_points_1
theorem dksX8_points_0 : cX8_points.data.toList.drop 0 = dktX8_points_0 := by decide +kernel
theorem dksX8_points_1 : cX8_points.data.toList.drop 24 = dktX8_points_1 := dk_seg dksX8_points_0 24 rfl rfl
theorem dksX8_points_2 : cX8_points.data.toList.drop 47 = dktX8_points_2 := dk_seg dksX8_points_1 23 rfl rfl
theorem dX8_points_0 : decode cX8_points 0 = .ok (.aload_n 0, 1) := dk_42 (dk_at dksX8_points_0 0 rfl rfl)
theorem dX8_points_1 : decode cX8_points 1 = .ok (.getfield 7, 3) := dk_180 0 7 (dk_at dksX8_points_0 1 rfl rfl)
theorem dX8_points_4 : decode cX8_points 4 = .ok (.bipush 117, 2) := dk_16 117 (dk_at dksX8_points_0 4 rfl rfl)
theorem dX8_points_6 : decode cX8_points 6 = .ok (.iconst 3, 1) := dk_6 (dk_at dksX8_points_0 6 rfl rfl)
theorem dX8_points_7 : decode cX8_points 7 = .ok (.iload_n 1, 1) := dk_27 (dk_at dksX8_points_0 7 rfl rfl)
theorem dX8_points_8 : decode cX8_points 8 = .ok (.imul, 1) := dk_104 (dk_at dksX8_points_0 8 rfl rfl)
theorem dX8_points_9 : decode cX8_points 9 = .ok (.iadd, 1) := dk_96 (dk_at dksX8_points_0 9 rfl rfl)
theorem dX8_points_10 : decode cX8_points 10 = .ok (.iconst 1, 1) := dk_4 (dk_at dksX8_points_0 10 rfl rfl)
theorem dX8_points_11 : decode cX8_points 11 = .ok (.iadd, 1) := dk_96 (dk_at dksX8_points_0 11 rfl rfl)
theorem dX8_points_12 : decode cX8_points 12 = .ok (.iaload, 1) := dk_46 (dk_at dksX8_points_0 12 rfl rfl)
theorem dX8_points_13 : decode cX8_points 13 = .ok (.istore_n 3, 1) := dk_62 (dk_at dksX8_points_0 13 rfl rfl)
theorem dX8_points_14 : decode cX8_points 14 = .ok (.aload_n 0, 1) := dk_42 (dk_at dksX8_points_0 14 rfl rfl)
theorem dX8_points_15 : decode cX8_points 15 = .ok (.getfield 7, 3) := dk_180 0 7 (dk_at dksX8_points_0 15 rfl rfl)
theorem dX8_points_18 : decode cX8_points 18 = .ok (.bipush 117, 2) := dk_16 117 (dk_at dksX8_points_0 18 rfl rfl)
theorem dX8_points_20 : decode cX8_points 20 = .ok (.iconst 3, 1) := dk_6 (dk_at dksX8_points_0 20 rfl rfl)
theorem dX8_points_21 : decode cX8_points 21 = .ok (.iload_n 1, 1) := dk_27 (dk_at dksX8_points_0 21 rfl rfl)
theorem dX8_points_22 : decode cX8_points 22 = .ok (.imul, 1) := dk_104 (dk_at dksX8_points_0 22 rfl rfl)
theorem dX8_points_23 : decode cX8_points 23 = .ok (.iadd, 1) := dk_96 (dk_at dksX8_points_0 23 rfl rfl)
theorem dX8_points_24 : decode cX8_points 24 = .ok (.iconst 2, 1) := dk_5 (dk_at dksX8_points_1 0 rfl rfl)
theorem dX8_points_25 : decode cX8_points 25 = .ok (.iadd, 1) := dk_96 (dk_at dksX8_points_1 1 rfl rfl)
theorem dX8_points_26 : decode cX8_points 26 = .ok (.iaload, 1) := dk_46 (dk_at dksX8_points_1 2 rfl rfl)
theorem dX8_points_27 : decode cX8_points 27 = .ok (.iload_n 3, 1) := dk_29 (dk_at dksX8_points_1 3 rfl rfl)
theorem dX8_points_28 : decode cX8_points 28 = .ok (.bipush 24, 2) := dk_16 24 (dk_at dksX8_points_1 4 rfl rfl)
theorem dX8_points_30 : decode cX8_points 30 = .ok (.if_icmp .gt 7, 3) := dk_163 0 7 (dk_at dksX8_points_1 6 rfl rfl)
theorem dX8_points_33 : decode cX8_points 33 = .ok (.iload_n 3, 1) := dk_29 (dk_at dksX8_points_1 9 rfl rfl)
theorem dX8_points_34 : decode cX8_points 34 = .ok (.goto 7, 3) := dk_167 0 7 (dk_at dksX8_points_1 10 rfl rfl)
theorem dX8_points_37 : decode cX8_points 37 = .ok (.bipush 48, 2) := dk_16 48 (dk_at dksX8_points_1 13 rfl rfl)
theorem dX8_points_39 : decode cX8_points 39 = .ok (.iload_n 3, 1) := dk_29 (dk_at dksX8_points_1 15 rfl rfl)
theorem dX8_points_40 : decode cX8_points 40 = .ok (.isub, 1) := dk_100 (dk_at dksX8_points_1 16 rfl rfl)
theorem dX8_points_41 : decode cX8_points 41 = .ok (.iadd, 1) := dk_96 (dk_at dksX8_points_1 17 rfl rfl)
theorem dX8_points_42 : decode cX8_points 42 = .ok (.aload_n 0, 1) := dk_42 (dk_at dksX8_points_1 18 rfl rfl)
theorem dX8_points_43 : decode cX8_points 43 = .ok (.iload_n 2, 1) := dk_28 (dk_at dksX8_points_1 19 rfl rfl)
theorem dX8_points_44 : decode cX8_points 44 = .ok (.invokevirtual 94, 3) := dk_182 0 94 (dk_at dksX8_points_1 20 rfl rfl)
theorem dX8_points_47 : decode cX8_points 47 = .ok (.bipush 100, 2) := dk_16 100 (dk_at dksX8_points_2 0 rfl rfl)
theorem dX8_points_49 : decode cX8_points 49 = .ok (.idiv, 1) := dk_108 (dk_at dksX8_points_2 2 rfl rfl)
theorem dX8_points_50 : decode cX8_points 50 = .ok (.isub, 1) := dk_100 (dk_at dksX8_points_2 3 rfl rfl)
theorem dX8_points_51 : decode cX8_points 51 = .ok (.ireturn, 1) := dk_172 (dk_at dksX8_points_2 4 rfl rfl)
abbrev cX8_makes : ByteArray := prog_26_method_35_code
def yX8_makes : MethodName := ⟨RX8, "makes", "(III)I"⟩
def dkwX8_makes_9 : List UInt8 := [27, 182, 0, 74, 154, 0, 8, 42, 27, 182, 0, 103, 21, 6, 172]
abbrev dktX8_makes_9 : List UInt8 := dkwX8_makes_9 ++ []
def dkwX8_makes_8 : List UInt8 := [21, 6, 79, 42, 180, 0, 7, 21, 7, 7, 96, 3, 79, 42, 180, 0, 7, 8, 92, 46, 4, 96, 79, 42]
abbrev dktX8_makes_8 : List UInt8 := dkwX8_makes_8 ++ dktX8_makes_9
def dkwX8_makes_7 : List UInt8 := [167, 0, 15, 21, 4, 16, 45, 161, 0, 7, 4, 167, 0, 4, 5, 79, 42, 180, 0, 7, 21, 7, 6, 96]
abbrev dktX8_makes_7 : List UInt8 := dkwX8_makes_7 ++ dktX8_makes_8
def dkwX8_makes_6 : List UInt8 := [21, 7, 4, 96, 28, 6, 112, 79, 42, 180, 0, 7, 21, 7, 5, 96, 21, 4, 16, 60, 161, 0, 7, 3]
abbrev dktX8_makes_6 : List UInt8 := dkwX8_makes_6 ++ dktX8_makes_7
def dkwX8_makes_5 : List UInt8 := [54, 7, 42, 180, 0, 7, 21, 7, 42, 180, 0, 7, 16, 126, 6, 28, 104, 96, 46, 79, 42, 180, 0, 7]
abbrev dktX8_makes_5 : List UInt8 := dkwX8_makes_5 ++ dktX8_makes_6
def dkwX8_makes_4 : List UInt8 := [184, 0, 97, 104, 100, 79, 21, 6, 158, 0, 110, 17, 0, 141, 8, 42, 180, 0, 7, 8, 46, 104, 96]
abbrev dktX8_makes_4 : List UInt8 := dkwX8_makes_4 ++ dktX8_makes_5
def dkwX8_makes_3 : List UInt8 := [92, 46, 29, 96, 79, 42, 180, 0, 7, 16, 117, 6, 27, 104, 96, 92, 46, 21, 6, 28, 6, 112]
abbrev dktX8_makes_3 : List UInt8 := dkwX8_makes_3 ++ dktX8_makes_4
def dkwX8_makes_2 : List UInt8 := [6, 28, 104, 96, 5, 96, 21, 5, 16, 100, 112, 79, 42, 180, 0, 7, 16, 126, 6, 28, 104, 96, 4, 96]
abbrev dktX8_makes_2 : List UInt8 := dkwX8_makes_2 ++ dktX8_makes_3
def dkwX8_makes_1 : List UInt8 := [28, 104, 96, 5, 96, 46, 96, 54, 5, 29, 21, 5, 16, 100, 108, 100, 54, 6, 42, 180, 0, 7, 16, 126]
abbrev dktX8_makes_1 : List UInt8 := dkwX8_makes_1 ++ dktX8_makes_2
def dkwX8_makes_0 : List UInt8 := [42, 27, 28, 182, 0, 100, 54, 4, 29, 16, 100, 21, 4, 100, 7, 108, 104, 42, 180, 0, 7, 16, 126, 6]
abbrev dktX8_makes_0 : List UInt8 := dkwX8_makes_0 ++ dktX8_makes_1
theorem dksX8_makes_0 : cX8_makes.data.toList.drop 0 = dktX8_makes_0 := by decide +kernel
theorem dksX8_makes_1 : cX8_makes.data.toList.drop 24 = dktX8_makes_1 := dk_seg dksX8_makes_0 24 rfl rfl
theorem dksX8_makes_2 : cX8_makes.data.toList.drop 48 = dktX8_makes_2 := dk_seg dksX8_makes_1 24 rfl rfl
theorem dksX8_makes_3 : cX8_makes.data.toList.drop 72 = dktX8_makes_3 := dk_seg dksX8_makes_2 24 rfl rfl
theorem dksX8_makes_4 : cX8_makes.data.toList.drop 94 = dktX8_makes_4 := dk_seg dksX8_makes_3 22 rfl rfl
theorem dksX8_makes_5 : cX8_makes.data.toList.drop 117 = dktX8_makes_5 := dk_seg dksX8_makes_4 23 rfl rfl
theorem dksX8_makes_6 : cX8_makes.data.toList.drop 141 = dktX8_makes_6 := dk_seg dksX8_makes_5 24 rfl rfl
theorem dksX8_makes_7 : cX8_makes.data.toList.drop 165 = dktX8_makes_7 := dk_seg dksX8_makes_6 24 rfl rfl
theorem dksX8_makes_8 : cX8_makes.data.toList.drop 189 = dktX8_makes_8 := dk_seg dksX8_makes_7 24 rfl rfl
theorem dksX8_makes_9 : cX8_makes.data.toList.drop 213 = dktX8_makes_9 := dk_seg dksX8_makes_8 24 rfl rfl
theorem dX8_makes_0 : decode cX8_makes 0 = .ok (.aload_n 0, 1) := dk_42 (dk_at dksX8_makes_0 0 rfl rfl)
theorem dX8_makes_1 : decode cX8_makes 1 = .ok (.iload_n 1, 1) := dk_27 (dk_at dksX8_makes_0 1 rfl rfl)
theorem dX8_makes_2 : decode cX8_makes 2 = .ok (.iload_n 2, 1) := dk_28 (dk_at dksX8_makes_0 2 rfl rfl)
theorem dX8_makes_3 : decode cX8_makes 3 = .ok (.invokevirtual 100, 3) := dk_182 0 100 (dk_at dksX8_makes_0 3 rfl rfl)
theorem dX8_makes_6 : decode cX8_makes 6 = .ok (.istore 4, 2) := dk_54 4 (dk_at dksX8_makes_0 6 rfl rfl)
theorem dX8_makes_8 : decode cX8_makes 8 = .ok (.iload_n 3, 1) := dk_29 (dk_at dksX8_makes_0 8 rfl rfl)
theorem dX8_makes_9 : decode cX8_makes 9 = .ok (.bipush 100, 2) := dk_16 100 (dk_at dksX8_makes_0 9 rfl rfl)
theorem dX8_makes_11 : decode cX8_makes 11 = .ok (.iload 4, 2) := dk_21 4 (dk_at dksX8_makes_0 11 rfl rfl)
theorem dX8_makes_13 : decode cX8_makes 13 = .ok (.isub, 1) := dk_100 (dk_at dksX8_makes_0 13 rfl rfl)
theorem dX8_makes_14 : decode cX8_makes 14 = .ok (.iconst 4, 1) := dk_7 (dk_at dksX8_makes_0 14 rfl rfl)
theorem dX8_makes_15 : decode cX8_makes 15 = .ok (.idiv, 1) := dk_108 (dk_at dksX8_makes_0 15 rfl rfl)
theorem dX8_makes_16 : decode cX8_makes 16 = .ok (.imul, 1) := dk_104 (dk_at dksX8_makes_0 16 rfl rfl)
theorem dX8_makes_17 : decode cX8_makes 17 = .ok (.aload_n 0, 1) := dk_42 (dk_at dksX8_makes_0 17 rfl rfl)
theorem dX8_makes_18 : decode cX8_makes 18 = .ok (.getfield 7, 3) := dk_180 0 7 (dk_at dksX8_makes_0 18 rfl rfl)
theorem dX8_makes_21 : decode cX8_makes 21 = .ok (.bipush 126, 2) := dk_16 126 (dk_at dksX8_makes_0 21 rfl rfl)
theorem dX8_makes_23 : decode cX8_makes 23 = .ok (.iconst 3, 1) := dk_6 (dk_at dksX8_makes_0 23 rfl rfl)
theorem dX8_makes_24 : decode cX8_makes 24 = .ok (.iload_n 2, 1) := dk_28 (dk_at dksX8_makes_1 0 rfl rfl)
theorem dX8_makes_25 : decode cX8_makes 25 = .ok (.imul, 1) := dk_104 (dk_at dksX8_makes_1 1 rfl rfl)
theorem dX8_makes_26 : decode cX8_makes 26 = .ok (.iadd, 1) := dk_96 (dk_at dksX8_makes_1 2 rfl rfl)
theorem dX8_makes_27 : decode cX8_makes 27 = .ok (.iconst 2, 1) := dk_5 (dk_at dksX8_makes_1 3 rfl rfl)
theorem dX8_makes_28 : decode cX8_makes 28 = .ok (.iadd, 1) := dk_96 (dk_at dksX8_makes_1 4 rfl rfl)
theorem dX8_makes_29 : decode cX8_makes 29 = .ok (.iaload, 1) := dk_46 (dk_at dksX8_makes_1 5 rfl rfl)
theorem dX8_makes_30 : decode cX8_makes 30 = .ok (.iadd, 1) := dk_96 (dk_at dksX8_makes_1 6 rfl rfl)
theorem dX8_makes_31 : decode cX8_makes 31 = .ok (.istore 5, 2) := dk_54 5 (dk_at dksX8_makes_1 7 rfl rfl)
theorem dX8_makes_33 : decode cX8_makes 33 = .ok (.iload_n 3, 1) := dk_29 (dk_at dksX8_makes_1 9 rfl rfl)
theorem dX8_makes_34 : decode cX8_makes 34 = .ok (.iload 5, 2) := dk_21 5 (dk_at dksX8_makes_1 10 rfl rfl)
theorem dX8_makes_36 : decode cX8_makes 36 = .ok (.bipush 100, 2) := dk_16 100 (dk_at dksX8_makes_1 12 rfl rfl)
theorem dX8_makes_38 : decode cX8_makes 38 = .ok (.idiv, 1) := dk_108 (dk_at dksX8_makes_1 14 rfl rfl)
theorem dX8_makes_39 : decode cX8_makes 39 = .ok (.isub, 1) := dk_100 (dk_at dksX8_makes_1 15 rfl rfl)
theorem dX8_makes_40 : decode cX8_makes 40 = .ok (.istore 6, 2) := dk_54 6 (dk_at dksX8_makes_1 16 rfl rfl)
theorem dX8_makes_42 : decode cX8_makes 42 = .ok (.aload_n 0, 1) := dk_42 (dk_at dksX8_makes_1 18 rfl rfl)
theorem dX8_makes_43 : decode cX8_makes 43 = .ok (.getfield 7, 3) := dk_180 0 7 (dk_at dksX8_makes_1 19 rfl rfl)
theorem dX8_makes_46 : decode cX8_makes 46 = .ok (.bipush 126, 2) := dk_16 126 (dk_at dksX8_makes_1 22 rfl rfl)
theorem dX8_makes_48 : decode cX8_makes 48 = .ok (.iconst 3, 1) := dk_6 (dk_at dksX8_makes_2 0 rfl rfl)
theorem dX8_makes_49 : decode cX8_makes 49 = .ok (.iload_n 2, 1) := dk_28 (dk_at dksX8_makes_2 1 rfl rfl)
theorem dX8_makes_50 : decode cX8_makes 50 = .ok (.imul, 1) := dk_104 (dk_at dksX8_makes_2 2 rfl rfl)
theorem dX8_makes_51 : decode cX8_makes 51 = .ok (.iadd, 1) := dk_96 (dk_at dksX8_makes_2 3 rfl rfl)
theorem dX8_makes_52 : decode cX8_makes 52 = .ok (.iconst 2, 1) := dk_5 (dk_at dksX8_makes_2 4 rfl rfl)
theorem dX8_makes_53 : decode cX8_makes 53 = .ok (.iadd, 1) := dk_96 (dk_at dksX8_makes_2 5 rfl rfl)
theorem dX8_makes_54 : decode cX8_makes 54 = .ok (.iload 5, 2) := dk_21 5 (dk_at dksX8_makes_2 6 rfl rfl)
theorem dX8_makes_56 : decode cX8_makes 56 = .ok (.bipush 100, 2) := dk_16 100 (dk_at dksX8_makes_2 8 rfl rfl)
theorem dX8_makes_58 : decode cX8_makes 58 = .ok (.irem, 1) := dk_112 (dk_at dksX8_makes_2 10 rfl rfl)
theorem dX8_makes_59 : decode cX8_makes 59 = .ok (.iastore, 1) := dk_79 (dk_at dksX8_makes_2 11 rfl rfl)
theorem dX8_makes_60 : decode cX8_makes 60 = .ok (.aload_n 0, 1) := dk_42 (dk_at dksX8_makes_2 12 rfl rfl)
theorem dX8_makes_61 : decode cX8_makes 61 = .ok (.getfield 7, 3) := dk_180 0 7 (dk_at dksX8_makes_2 13 rfl rfl)
theorem dX8_makes_64 : decode cX8_makes 64 = .ok (.bipush 126, 2) := dk_16 126 (dk_at dksX8_makes_2 16 rfl rfl)
theorem dX8_makes_66 : decode cX8_makes 66 = .ok (.iconst 3, 1) := dk_6 (dk_at dksX8_makes_2 18 rfl rfl)
theorem dX8_makes_67 : decode cX8_makes 67 = .ok (.iload_n 2, 1) := dk_28 (dk_at dksX8_makes_2 19 rfl rfl)
theorem dX8_makes_68 : decode cX8_makes 68 = .ok (.imul, 1) := dk_104 (dk_at dksX8_makes_2 20 rfl rfl)
theorem dX8_makes_69 : decode cX8_makes 69 = .ok (.iadd, 1) := dk_96 (dk_at dksX8_makes_2 21 rfl rfl)
theorem dX8_makes_70 : decode cX8_makes 70 = .ok (.iconst 1, 1) := dk_4 (dk_at dksX8_makes_2 22 rfl rfl)
theorem dX8_makes_71 : decode cX8_makes 71 = .ok (.iadd, 1) := dk_96 (dk_at dksX8_makes_2 23 rfl rfl)
theorem dX8_makes_72 : decode cX8_makes 72 = .ok (.dup2, 1) := dk_92 (dk_at dksX8_makes_3 0 rfl rfl)
theorem dX8_makes_73 : decode cX8_makes 73 = .ok (.iaload, 1) := dk_46 (dk_at dksX8_makes_3 1 rfl rfl)
theorem dX8_makes_74 : decode cX8_makes 74 = .ok (.iload_n 3, 1) := dk_29 (dk_at dksX8_makes_3 2 rfl rfl)
theorem dX8_makes_75 : decode cX8_makes 75 = .ok (.iadd, 1) := dk_96 (dk_at dksX8_makes_3 3 rfl rfl)
theorem dX8_makes_76 : decode cX8_makes 76 = .ok (.iastore, 1) := dk_79 (dk_at dksX8_makes_3 4 rfl rfl)
theorem dX8_makes_77 : decode cX8_makes 77 = .ok (.aload_n 0, 1) := dk_42 (dk_at dksX8_makes_3 5 rfl rfl)
theorem dX8_makes_78 : decode cX8_makes 78 = .ok (.getfield 7, 3) := dk_180 0 7 (dk_at dksX8_makes_3 6 rfl rfl)
theorem dX8_makes_81 : decode cX8_makes 81 = .ok (.bipush 117, 2) := dk_16 117 (dk_at dksX8_makes_3 9 rfl rfl)
theorem dX8_makes_83 : decode cX8_makes 83 = .ok (.iconst 3, 1) := dk_6 (dk_at dksX8_makes_3 11 rfl rfl)
theorem dX8_makes_84 : decode cX8_makes 84 = .ok (.iload_n 1, 1) := dk_27 (dk_at dksX8_makes_3 12 rfl rfl)
theorem dX8_makes_85 : decode cX8_makes 85 = .ok (.imul, 1) := dk_104 (dk_at dksX8_makes_3 13 rfl rfl)
theorem dX8_makes_86 : decode cX8_makes 86 = .ok (.iadd, 1) := dk_96 (dk_at dksX8_makes_3 14 rfl rfl)
theorem dX8_makes_87 : decode cX8_makes 87 = .ok (.dup2, 1) := dk_92 (dk_at dksX8_makes_3 15 rfl rfl)
theorem dX8_makes_88 : decode cX8_makes 88 = .ok (.iaload, 1) := dk_46 (dk_at dksX8_makes_3 16 rfl rfl)
theorem dX8_makes_89 : decode cX8_makes 89 = .ok (.iload 6, 2) := dk_21 6 (dk_at dksX8_makes_3 17 rfl rfl)
theorem dX8_makes_91 : decode cX8_makes 91 = .ok (.iload_n 2, 1) := dk_28 (dk_at dksX8_makes_3 19 rfl rfl)
theorem dX8_makes_92 : decode cX8_makes 92 = .ok (.iconst 3, 1) := dk_6 (dk_at dksX8_makes_3 20 rfl rfl)
theorem dX8_makes_93 : decode cX8_makes 93 = .ok (.irem, 1) := dk_112 (dk_at dksX8_makes_3 21 rfl rfl)
theorem dX8_makes_94 : decode cX8_makes 94 = .ok (.invokestatic 97, 3) := dk_184 0 97 (dk_at dksX8_makes_4 0 rfl rfl)
theorem dX8_makes_97 : decode cX8_makes 97 = .ok (.imul, 1) := dk_104 (dk_at dksX8_makes_4 3 rfl rfl)
theorem dX8_makes_98 : decode cX8_makes 98 = .ok (.isub, 1) := dk_100 (dk_at dksX8_makes_4 4 rfl rfl)
theorem dX8_makes_99 : decode cX8_makes 99 = .ok (.iastore, 1) := dk_79 (dk_at dksX8_makes_4 5 rfl rfl)
theorem dX8_makes_100 : decode cX8_makes 100 = .ok (.iload 6, 2) := dk_21 6 (dk_at dksX8_makes_4 6 rfl rfl)
theorem dX8_makes_102 : decode cX8_makes 102 = .ok (.ifCond .le 110, 3) := dk_158 0 110 (dk_at dksX8_makes_4 8 rfl rfl)
theorem dX8_makes_105 : decode cX8_makes 105 = .ok (.sipush 141, 3) := dk_17 0 141 (dk_at dksX8_makes_4 11 rfl rfl)
theorem dX8_makes_108 : decode cX8_makes 108 = .ok (.iconst 5, 1) := dk_8 (dk_at dksX8_makes_4 14 rfl rfl)
theorem dX8_makes_109 : decode cX8_makes 109 = .ok (.aload_n 0, 1) := dk_42 (dk_at dksX8_makes_4 15 rfl rfl)
theorem dX8_makes_110 : decode cX8_makes 110 = .ok (.getfield 7, 3) := dk_180 0 7 (dk_at dksX8_makes_4 16 rfl rfl)
theorem dX8_makes_113 : decode cX8_makes 113 = .ok (.iconst 5, 1) := dk_8 (dk_at dksX8_makes_4 19 rfl rfl)
theorem dX8_makes_114 : decode cX8_makes 114 = .ok (.iaload, 1) := dk_46 (dk_at dksX8_makes_4 20 rfl rfl)
theorem dX8_makes_115 : decode cX8_makes 115 = .ok (.imul, 1) := dk_104 (dk_at dksX8_makes_4 21 rfl rfl)
theorem dX8_makes_116 : decode cX8_makes 116 = .ok (.iadd, 1) := dk_96 (dk_at dksX8_makes_4 22 rfl rfl)
theorem dX8_makes_117 : decode cX8_makes 117 = .ok (.istore 7, 2) := dk_54 7 (dk_at dksX8_makes_5 0 rfl rfl)
theorem dX8_makes_119 : decode cX8_makes 119 = .ok (.aload_n 0, 1) := dk_42 (dk_at dksX8_makes_5 2 rfl rfl)
theorem dX8_makes_120 : decode cX8_makes 120 = .ok (.getfield 7, 3) := dk_180 0 7 (dk_at dksX8_makes_5 3 rfl rfl)
theorem dX8_makes_123 : decode cX8_makes 123 = .ok (.iload 7, 2) := dk_21 7 (dk_at dksX8_makes_5 6 rfl rfl)
theorem dX8_makes_125 : decode cX8_makes 125 = .ok (.aload_n 0, 1) := dk_42 (dk_at dksX8_makes_5 8 rfl rfl)
theorem dX8_makes_126 : decode cX8_makes 126 = .ok (.getfield 7, 3) := dk_180 0 7 (dk_at dksX8_makes_5 9 rfl rfl)
theorem dX8_makes_129 : decode cX8_makes 129 = .ok (.bipush 126, 2) := dk_16 126 (dk_at dksX8_makes_5 12 rfl rfl)
theorem dX8_makes_131 : decode cX8_makes 131 = .ok (.iconst 3, 1) := dk_6 (dk_at dksX8_makes_5 14 rfl rfl)
theorem dX8_makes_132 : decode cX8_makes 132 = .ok (.iload_n 2, 1) := dk_28 (dk_at dksX8_makes_5 15 rfl rfl)
theorem dX8_makes_133 : decode cX8_makes 133 = .ok (.imul, 1) := dk_104 (dk_at dksX8_makes_5 16 rfl rfl)
theorem dX8_makes_134 : decode cX8_makes 134 = .ok (.iadd, 1) := dk_96 (dk_at dksX8_makes_5 17 rfl rfl)
theorem dX8_makes_135 : decode cX8_makes 135 = .ok (.iaload, 1) := dk_46 (dk_at dksX8_makes_5 18 rfl rfl)
theorem dX8_makes_136 : decode cX8_makes 136 = .ok (.iastore, 1) := dk_79 (dk_at dksX8_makes_5 19 rfl rfl)
theorem dX8_makes_137 : decode cX8_makes 137 = .ok (.aload_n 0, 1) := dk_42 (dk_at dksX8_makes_5 20 rfl rfl)
theorem dX8_makes_138 : decode cX8_makes 138 = .ok (.getfield 7, 3) := dk_180 0 7 (dk_at dksX8_makes_5 21 rfl rfl)
theorem dX8_makes_141 : decode cX8_makes 141 = .ok (.iload 7, 2) := dk_21 7 (dk_at dksX8_makes_6 0 rfl rfl)
theorem dX8_makes_143 : decode cX8_makes 143 = .ok (.iconst 1, 1) := dk_4 (dk_at dksX8_makes_6 2 rfl rfl)
theorem dX8_makes_144 : decode cX8_makes 144 = .ok (.iadd, 1) := dk_96 (dk_at dksX8_makes_6 3 rfl rfl)
theorem dX8_makes_145 : decode cX8_makes 145 = .ok (.iload_n 2, 1) := dk_28 (dk_at dksX8_makes_6 4 rfl rfl)
theorem dX8_makes_146 : decode cX8_makes 146 = .ok (.iconst 3, 1) := dk_6 (dk_at dksX8_makes_6 5 rfl rfl)
theorem dX8_makes_147 : decode cX8_makes 147 = .ok (.irem, 1) := dk_112 (dk_at dksX8_makes_6 6 rfl rfl)
theorem dX8_makes_148 : decode cX8_makes 148 = .ok (.iastore, 1) := dk_79 (dk_at dksX8_makes_6 7 rfl rfl)
theorem dX8_makes_149 : decode cX8_makes 149 = .ok (.aload_n 0, 1) := dk_42 (dk_at dksX8_makes_6 8 rfl rfl)
theorem dX8_makes_150 : decode cX8_makes 150 = .ok (.getfield 7, 3) := dk_180 0 7 (dk_at dksX8_makes_6 9 rfl rfl)
theorem dX8_makes_153 : decode cX8_makes 153 = .ok (.iload 7, 2) := dk_21 7 (dk_at dksX8_makes_6 12 rfl rfl)
theorem dX8_makes_155 : decode cX8_makes 155 = .ok (.iconst 2, 1) := dk_5 (dk_at dksX8_makes_6 14 rfl rfl)
theorem dX8_makes_156 : decode cX8_makes 156 = .ok (.iadd, 1) := dk_96 (dk_at dksX8_makes_6 15 rfl rfl)
theorem dX8_makes_157 : decode cX8_makes 157 = .ok (.iload 4, 2) := dk_21 4 (dk_at dksX8_makes_6 16 rfl rfl)
theorem dX8_makes_159 : decode cX8_makes 159 = .ok (.bipush 60, 2) := dk_16 60 (dk_at dksX8_makes_6 18 rfl rfl)
theorem dX8_makes_161 : decode cX8_makes 161 = .ok (.if_icmp .lt 7, 3) := dk_161 0 7 (dk_at dksX8_makes_6 20 rfl rfl)
theorem dX8_makes_164 : decode cX8_makes 164 = .ok (.iconst 0, 1) := dk_3 (dk_at dksX8_makes_6 23 rfl rfl)
theorem dX8_makes_165 : decode cX8_makes 165 = .ok (.goto 15, 3) := dk_167 0 15 (dk_at dksX8_makes_7 0 rfl rfl)
theorem dX8_makes_168 : decode cX8_makes 168 = .ok (.iload 4, 2) := dk_21 4 (dk_at dksX8_makes_7 3 rfl rfl)
theorem dX8_makes_170 : decode cX8_makes 170 = .ok (.bipush 45, 2) := dk_16 45 (dk_at dksX8_makes_7 5 rfl rfl)
theorem dX8_makes_172 : decode cX8_makes 172 = .ok (.if_icmp .lt 7, 3) := dk_161 0 7 (dk_at dksX8_makes_7 7 rfl rfl)
theorem dX8_makes_175 : decode cX8_makes 175 = .ok (.iconst 1, 1) := dk_4 (dk_at dksX8_makes_7 10 rfl rfl)
theorem dX8_makes_176 : decode cX8_makes 176 = .ok (.goto 4, 3) := dk_167 0 4 (dk_at dksX8_makes_7 11 rfl rfl)
theorem dX8_makes_179 : decode cX8_makes 179 = .ok (.iconst 2, 1) := dk_5 (dk_at dksX8_makes_7 14 rfl rfl)
theorem dX8_makes_180 : decode cX8_makes 180 = .ok (.iastore, 1) := dk_79 (dk_at dksX8_makes_7 15 rfl rfl)
theorem dX8_makes_181 : decode cX8_makes 181 = .ok (.aload_n 0, 1) := dk_42 (dk_at dksX8_makes_7 16 rfl rfl)
theorem dX8_makes_182 : decode cX8_makes 182 = .ok (.getfield 7, 3) := dk_180 0 7 (dk_at dksX8_makes_7 17 rfl rfl)
theorem dX8_makes_185 : decode cX8_makes 185 = .ok (.iload 7, 2) := dk_21 7 (dk_at dksX8_makes_7 20 rfl rfl)
theorem dX8_makes_187 : decode cX8_makes 187 = .ok (.iconst 3, 1) := dk_6 (dk_at dksX8_makes_7 22 rfl rfl)
theorem dX8_makes_188 : decode cX8_makes 188 = .ok (.iadd, 1) := dk_96 (dk_at dksX8_makes_7 23 rfl rfl)
theorem dX8_makes_189 : decode cX8_makes 189 = .ok (.iload 6, 2) := dk_21 6 (dk_at dksX8_makes_8 0 rfl rfl)
theorem dX8_makes_191 : decode cX8_makes 191 = .ok (.iastore, 1) := dk_79 (dk_at dksX8_makes_8 2 rfl rfl)
theorem dX8_makes_192 : decode cX8_makes 192 = .ok (.aload_n 0, 1) := dk_42 (dk_at dksX8_makes_8 3 rfl rfl)
theorem dX8_makes_193 : decode cX8_makes 193 = .ok (.getfield 7, 3) := dk_180 0 7 (dk_at dksX8_makes_8 4 rfl rfl)
theorem dX8_makes_196 : decode cX8_makes 196 = .ok (.iload 7, 2) := dk_21 7 (dk_at dksX8_makes_8 7 rfl rfl)
theorem dX8_makes_198 : decode cX8_makes 198 = .ok (.iconst 4, 1) := dk_7 (dk_at dksX8_makes_8 9 rfl rfl)
theorem dX8_makes_199 : decode cX8_makes 199 = .ok (.iadd, 1) := dk_96 (dk_at dksX8_makes_8 10 rfl rfl)
theorem dX8_makes_200 : decode cX8_makes 200 = .ok (.iconst 0, 1) := dk_3 (dk_at dksX8_makes_8 11 rfl rfl)
theorem dX8_makes_201 : decode cX8_makes 201 = .ok (.iastore, 1) := dk_79 (dk_at dksX8_makes_8 12 rfl rfl)
theorem dX8_makes_202 : decode cX8_makes 202 = .ok (.aload_n 0, 1) := dk_42 (dk_at dksX8_makes_8 13 rfl rfl)
theorem dX8_makes_203 : decode cX8_makes 203 = .ok (.getfield 7, 3) := dk_180 0 7 (dk_at dksX8_makes_8 14 rfl rfl)
theorem dX8_makes_206 : decode cX8_makes 206 = .ok (.iconst 5, 1) := dk_8 (dk_at dksX8_makes_8 17 rfl rfl)
theorem dX8_makes_207 : decode cX8_makes 207 = .ok (.dup2, 1) := dk_92 (dk_at dksX8_makes_8 18 rfl rfl)
theorem dX8_makes_208 : decode cX8_makes 208 = .ok (.iaload, 1) := dk_46 (dk_at dksX8_makes_8 19 rfl rfl)
theorem dX8_makes_209 : decode cX8_makes 209 = .ok (.iconst 1, 1) := dk_4 (dk_at dksX8_makes_8 20 rfl rfl)
theorem dX8_makes_210 : decode cX8_makes 210 = .ok (.iadd, 1) := dk_96 (dk_at dksX8_makes_8 21 rfl rfl)
theorem dX8_makes_211 : decode cX8_makes 211 = .ok (.iastore, 1) := dk_79 (dk_at dksX8_makes_8 22 rfl rfl)
theorem dX8_makes_212 : decode cX8_makes 212 = .ok (.aload_n 0, 1) := dk_42 (dk_at dksX8_makes_8 23 rfl rfl)
theorem dX8_makes_213 : decode cX8_makes 213 = .ok (.iload_n 1, 1) := dk_27 (dk_at dksX8_makes_9 0 rfl rfl)
theorem dX8_makes_214 : decode cX8_makes 214 = .ok (.invokevirtual 74, 3) := dk_182 0 74 (dk_at dksX8_makes_9 1 rfl rfl)
theorem dX8_makes_217 : decode cX8_makes 217 = .ok (.ifCond .ne 8, 3) := dk_154 0 8 (dk_at dksX8_makes_9 4 rfl rfl)
theorem dX8_makes_220 : decode cX8_makes 220 = .ok (.aload_n 0, 1) := dk_42 (dk_at dksX8_makes_9 7 rfl rfl)
theorem dX8_makes_221 : decode cX8_makes 221 = .ok (.iload_n 1, 1) := dk_27 (dk_at dksX8_makes_9 8 rfl rfl)
theorem dX8_makes_222 : decode cX8_makes 222 = .ok (.invokevirtual 103, 3) := dk_182 0 103 (dk_at dksX8_makes_9 9 rfl rfl)
theorem dX8_makes_225 : decode cX8_makes 225 = .ok (.iload 6, 2) := dk_21 6 (dk_at dksX8_makes_9 12 rfl rfl)
theorem dX8_makes_227 : decode cX8_makes 227 = .ok (.ireturn, 1) := dk_172 (dk_at dksX8_makes_9 14 rfl rfl)
abbrev cX8_pack : ByteArray := prog_26_method_72_code
def yX8_pack : MethodName := ⟨RX8, "pack", "(III)I"⟩
def dkwX8_pack_2 : List UInt8 := [29, 16, 20, 182, 0, 207, 172]
abbrev dktX8_pack_2 : List UInt8 := dkwX8_pack_2 ++ []
def dkwX8_pack_1 : List UInt8 := [3, 167, 0, 4, 5, 181, 0, 37, 42, 180, 0, 37, 158, 0, 5, 3, 172, 42, 182, 0, 151, 42, 27, 28]
abbrev dktX8_pack_1 : List UInt8 := dkwX8_pack_1 ++ dktX8_pack_2
def dkwX8_pack_0 : List UInt8 := [42, 27, 28, 29, 184, 0, 201, 154, 0, 7, 4, 167, 0, 18, 42, 27, 28, 29, 182, 0, 204, 154, 0, 7]
abbrev dktX8_pack_0 : List UInt8 := dkwX8_pack_0 ++ dktX8_pack_1
theorem dksX8_pack_0 : cX8_pack.data.toList.drop 0 = dktX8_pack_0 := by decide +kernel
theorem dksX8_pack_1 : cX8_pack.data.toList.drop 24 = dktX8_pack_1 := dk_seg dksX8_pack_0 24 rfl rfl
theorem dksX8_pack_2 : cX8_pack.data.toList.drop 48 = dktX8_pack_2 := dk_seg dksX8_pack_1 24 rfl rfl
theorem dX8_pack_0 : decode cX8_pack 0 = .ok (.aload_n 0, 1) := dk_42 (dk_at dksX8_pack_0 0 rfl rfl)
theorem dX8_pack_1 : decode cX8_pack 1 = .ok (.iload_n 1, 1) := dk_27 (dk_at dksX8_pack_0 1 rfl rfl)
theorem dX8_pack_2 : decode cX8_pack 2 = .ok (.iload_n 2, 1) := dk_28 (dk_at dksX8_pack_0 2 rfl rfl)
theorem dX8_pack_3 : decode cX8_pack 3 = .ok (.iload_n 3, 1) := dk_29 (dk_at dksX8_pack_0 3 rfl rfl)
theorem dX8_pack_4 : decode cX8_pack 4 = .ok (.invokestatic 201, 3) := dk_184 0 201 (dk_at dksX8_pack_0 4 rfl rfl)
theorem dX8_pack_7 : decode cX8_pack 7 = .ok (.ifCond .ne 7, 3) := dk_154 0 7 (dk_at dksX8_pack_0 7 rfl rfl)
theorem dX8_pack_10 : decode cX8_pack 10 = .ok (.iconst 1, 1) := dk_4 (dk_at dksX8_pack_0 10 rfl rfl)
theorem dX8_pack_11 : decode cX8_pack 11 = .ok (.goto 18, 3) := dk_167 0 18 (dk_at dksX8_pack_0 11 rfl rfl)
theorem dX8_pack_14 : decode cX8_pack 14 = .ok (.aload_n 0, 1) := dk_42 (dk_at dksX8_pack_0 14 rfl rfl)
theorem dX8_pack_15 : decode cX8_pack 15 = .ok (.iload_n 1, 1) := dk_27 (dk_at dksX8_pack_0 15 rfl rfl)
theorem dX8_pack_16 : decode cX8_pack 16 = .ok (.iload_n 2, 1) := dk_28 (dk_at dksX8_pack_0 16 rfl rfl)
theorem dX8_pack_17 : decode cX8_pack 17 = .ok (.iload_n 3, 1) := dk_29 (dk_at dksX8_pack_0 17 rfl rfl)
theorem dX8_pack_18 : decode cX8_pack 18 = .ok (.invokevirtual 204, 3) := dk_182 0 204 (dk_at dksX8_pack_0 18 rfl rfl)
theorem dX8_pack_21 : decode cX8_pack 21 = .ok (.ifCond .ne 7, 3) := dk_154 0 7 (dk_at dksX8_pack_0 21 rfl rfl)
theorem dX8_pack_24 : decode cX8_pack 24 = .ok (.iconst 0, 1) := dk_3 (dk_at dksX8_pack_1 0 rfl rfl)
theorem dX8_pack_25 : decode cX8_pack 25 = .ok (.goto 4, 3) := dk_167 0 4 (dk_at dksX8_pack_1 1 rfl rfl)
theorem dX8_pack_28 : decode cX8_pack 28 = .ok (.iconst 2, 1) := dk_5 (dk_at dksX8_pack_1 4 rfl rfl)
theorem dX8_pack_29 : decode cX8_pack 29 = .ok (.putfield 37, 3) := dk_181 0 37 (dk_at dksX8_pack_1 5 rfl rfl)
theorem dX8_pack_32 : decode cX8_pack 32 = .ok (.aload_n 0, 1) := dk_42 (dk_at dksX8_pack_1 8 rfl rfl)
theorem dX8_pack_33 : decode cX8_pack 33 = .ok (.getfield 37, 3) := dk_180 0 37 (dk_at dksX8_pack_1 9 rfl rfl)
theorem dX8_pack_36 : decode cX8_pack 36 = .ok (.ifCond .le 5, 3) := dk_158 0 5 (dk_at dksX8_pack_1 12 rfl rfl)
theorem dX8_pack_39 : decode cX8_pack 39 = .ok (.iconst 0, 1) := dk_3 (dk_at dksX8_pack_1 15 rfl rfl)
theorem dX8_pack_40 : decode cX8_pack 40 = .ok (.ireturn, 1) := dk_172 (dk_at dksX8_pack_1 16 rfl rfl)
theorem dX8_pack_41 : decode cX8_pack 41 = .ok (.aload_n 0, 1) := dk_42 (dk_at dksX8_pack_1 17 rfl rfl)
theorem dX8_pack_42 : decode cX8_pack 42 = .ok (.invokevirtual 151, 3) := dk_182 0 151 (dk_at dksX8_pack_1 18 rfl rfl)
theorem dX8_pack_45 : decode cX8_pack 45 = .ok (.aload_n 0, 1) := dk_42 (dk_at dksX8_pack_1 21 rfl rfl)
theorem dX8_pack_46 : decode cX8_pack 46 = .ok (.iload_n 1, 1) := dk_27 (dk_at dksX8_pack_1 22 rfl rfl)
theorem dX8_pack_47 : decode cX8_pack 47 = .ok (.iload_n 2, 1) := dk_28 (dk_at dksX8_pack_1 23 rfl rfl)
theorem dX8_pack_48 : decode cX8_pack 48 = .ok (.iload_n 3, 1) := dk_29 (dk_at dksX8_pack_2 0 rfl rfl)
theorem dX8_pack_49 : decode cX8_pack 49 = .ok (.bipush 20, 2) := dk_16 20 (dk_at dksX8_pack_2 1 rfl rfl)
theorem dX8_pack_51 : decode cX8_pack 51 = .ok (.invokevirtual 207, 3) := dk_182 0 207 (dk_at dksX8_pack_2 3 rfl rfl)
theorem dX8_pack_54 : decode cX8_pack 54 = .ok (.ireturn, 1) := dk_172 (dk_at dksX8_pack_2 6 rfl rfl)
abbrev cX8_isPaper : ByteArray := prog_26_method_39_code
def yX8_isPaper : MethodName := ⟨RX8, "isPaper", "(III)Z"⟩
def dkwX8_isPaper_1 : List UInt8 := [184, 0, 48, 153, 0, 7, 4, 167, 0, 4, 3, 172]
abbrev dktX8_isPaper_1 : List UInt8 := dkwX8_isPaper_1 ++ []
def dkwX8_isPaper_0 : List UInt8 := [26, 3, 16, 9, 184, 0, 48, 153, 0, 25, 27, 3, 5, 184, 0, 48, 153, 0, 16, 28, 3, 5]
abbrev dktX8_isPaper_0 : List UInt8 := dkwX8_isPaper_0 ++ dktX8_isPaper_1
theorem dksX8_isPaper_0 : cX8_isPaper.data.toList.drop 0 = dktX8_isPaper_0 := by decide +kernel
theorem dksX8_isPaper_1 : cX8_isPaper.data.toList.drop 22 = dktX8_isPaper_1 := dk_seg dksX8_isPaper_0 22 rfl rfl
theorem dX8_isPaper_0 : decode cX8_isPaper 0 = .ok (.iload_n 0, 1) := dk_26 (dk_at dksX8_isPaper_0 0 rfl rfl)
theorem dX8_isPaper_1 : decode cX8_isPaper 1 = .ok (.iconst 0, 1) := dk_3 (dk_at dksX8_isPaper_0 1 rfl rfl)
theorem dX8_isPaper_2 : decode cX8_isPaper 2 = .ok (.bipush 9, 2) := dk_16 9 (dk_at dksX8_isPaper_0 2 rfl rfl)
theorem dX8_isPaper_4 : decode cX8_isPaper 4 = .ok (.invokestatic 48, 3) := dk_184 0 48 (dk_at dksX8_isPaper_0 4 rfl rfl)
theorem dX8_isPaper_7 : decode cX8_isPaper 7 = .ok (.ifCond .eq 25, 3) := dk_153 0 25 (dk_at dksX8_isPaper_0 7 rfl rfl)
theorem dX8_isPaper_10 : decode cX8_isPaper 10 = .ok (.iload_n 1, 1) := dk_27 (dk_at dksX8_isPaper_0 10 rfl rfl)
theorem dX8_isPaper_11 : decode cX8_isPaper 11 = .ok (.iconst 0, 1) := dk_3 (dk_at dksX8_isPaper_0 11 rfl rfl)
theorem dX8_isPaper_12 : decode cX8_isPaper 12 = .ok (.iconst 2, 1) := dk_5 (dk_at dksX8_isPaper_0 12 rfl rfl)
theorem dX8_isPaper_13 : decode cX8_isPaper 13 = .ok (.invokestatic 48, 3) := dk_184 0 48 (dk_at dksX8_isPaper_0 13 rfl rfl)
theorem dX8_isPaper_16 : decode cX8_isPaper 16 = .ok (.ifCond .eq 16, 3) := dk_153 0 16 (dk_at dksX8_isPaper_0 16 rfl rfl)
theorem dX8_isPaper_19 : decode cX8_isPaper 19 = .ok (.iload_n 2, 1) := dk_28 (dk_at dksX8_isPaper_0 19 rfl rfl)
theorem dX8_isPaper_20 : decode cX8_isPaper 20 = .ok (.iconst 0, 1) := dk_3 (dk_at dksX8_isPaper_0 20 rfl rfl)
theorem dX8_isPaper_21 : decode cX8_isPaper 21 = .ok (.iconst 2, 1) := dk_5 (dk_at dksX8_isPaper_0 21 rfl rfl)
theorem dX8_isPaper_22 : decode cX8_isPaper 22 = .ok (.invokestatic 48, 3) := dk_184 0 48 (dk_at dksX8_isPaper_1 0 rfl rfl)
theorem dX8_isPaper_25 : decode cX8_isPaper 25 = .ok (.ifCond .eq 7, 3) := dk_153 0 7 (dk_at dksX8_isPaper_1 3 rfl rfl)
theorem dX8_isPaper_28 : decode cX8_isPaper 28 = .ok (.iconst 1, 1) := dk_4 (dk_at dksX8_isPaper_1 6 rfl rfl)
theorem dX8_isPaper_29 : decode cX8_isPaper 29 = .ok (.goto 4, 3) := dk_167 0 4 (dk_at dksX8_isPaper_1 7 rfl rfl)
theorem dX8_isPaper_32 : decode cX8_isPaper 32 = .ok (.iconst 0, 1) := dk_3 (dk_at dksX8_isPaper_1 10 rfl rfl)
theorem dX8_isPaper_33 : decode cX8_isPaper 33 = .ok (.ireturn, 1) := dk_172 (dk_at dksX8_isPaper_1 11 rfl rfl)
abbrev cX8_whyNoReam : ByteArray := prog_26_method_71_code
def yX8_whyNoReam : MethodName := ⟨RX8, "whyNoReam", "(III)I"⟩
def dkwX8_whyNoReam_1 : List UInt8 := [16, 30, 160, 0, 7, 5, 167, 0, 4, 3, 172]
abbrev dktX8_whyNoReam_1 : List UInt8 := dkwX8_whyNoReam_1 ++ []
def dkwX8_whyNoReam_0 : List UInt8 := [42, 27, 28, 29, 182, 0, 198, 17, 1, 224, 162, 0, 7, 4, 167, 0, 20, 42, 180, 0, 7, 16, 6, 46]
abbrev dktX8_whyNoReam_0 : List UInt8 := dkwX8_whyNoReam_0 ++ dktX8_whyNoReam_1
theorem dksX8_whyNoReam_0 : cX8_whyNoReam.data.toList.drop 0 = dktX8_whyNoReam_0 := by decide +kernel
theorem dksX8_whyNoReam_1 : cX8_whyNoReam.data.toList.drop 24 = dktX8_whyNoReam_1 := dk_seg dksX8_whyNoReam_0 24 rfl rfl
theorem dX8_whyNoReam_0 : decode cX8_whyNoReam 0 = .ok (.aload_n 0, 1) := dk_42 (dk_at dksX8_whyNoReam_0 0 rfl rfl)
theorem dX8_whyNoReam_1 : decode cX8_whyNoReam 1 = .ok (.iload_n 1, 1) := dk_27 (dk_at dksX8_whyNoReam_0 1 rfl rfl)
theorem dX8_whyNoReam_2 : decode cX8_whyNoReam 2 = .ok (.iload_n 2, 1) := dk_28 (dk_at dksX8_whyNoReam_0 2 rfl rfl)
theorem dX8_whyNoReam_3 : decode cX8_whyNoReam 3 = .ok (.iload_n 3, 1) := dk_29 (dk_at dksX8_whyNoReam_0 3 rfl rfl)
theorem dX8_whyNoReam_4 : decode cX8_whyNoReam 4 = .ok (.invokevirtual 198, 3) := dk_182 0 198 (dk_at dksX8_whyNoReam_0 4 rfl rfl)
theorem dX8_whyNoReam_7 : decode cX8_whyNoReam 7 = .ok (.sipush 480, 3) := dk_17 1 224 (dk_at dksX8_whyNoReam_0 7 rfl rfl)
theorem dX8_whyNoReam_10 : decode cX8_whyNoReam 10 = .ok (.if_icmp .ge 7, 3) := dk_162 0 7 (dk_at dksX8_whyNoReam_0 10 rfl rfl)
theorem dX8_whyNoReam_13 : decode cX8_whyNoReam 13 = .ok (.iconst 1, 1) := dk_4 (dk_at dksX8_whyNoReam_0 13 rfl rfl)
theorem dX8_whyNoReam_14 : decode cX8_whyNoReam 14 = .ok (.goto 20, 3) := dk_167 0 20 (dk_at dksX8_whyNoReam_0 14 rfl rfl)
theorem dX8_whyNoReam_17 : decode cX8_whyNoReam 17 = .ok (.aload_n 0, 1) := dk_42 (dk_at dksX8_whyNoReam_0 17 rfl rfl)
theorem dX8_whyNoReam_18 : decode cX8_whyNoReam 18 = .ok (.getfield 7, 3) := dk_180 0 7 (dk_at dksX8_whyNoReam_0 18 rfl rfl)
theorem dX8_whyNoReam_21 : decode cX8_whyNoReam 21 = .ok (.bipush 6, 2) := dk_16 6 (dk_at dksX8_whyNoReam_0 21 rfl rfl)
theorem dX8_whyNoReam_23 : decode cX8_whyNoReam 23 = .ok (.iaload, 1) := dk_46 (dk_at dksX8_whyNoReam_0 23 rfl rfl)
theorem dX8_whyNoReam_24 : decode cX8_whyNoReam 24 = .ok (.bipush 30, 2) := dk_16 30 (dk_at dksX8_whyNoReam_1 0 rfl rfl)
theorem dX8_whyNoReam_26 : decode cX8_whyNoReam 26 = .ok (.if_icmp .ne 7, 3) := dk_160 0 7 (dk_at dksX8_whyNoReam_1 2 rfl rfl)
theorem dX8_whyNoReam_29 : decode cX8_whyNoReam 29 = .ok (.iconst 2, 1) := dk_5 (dk_at dksX8_whyNoReam_1 5 rfl rfl)
theorem dX8_whyNoReam_30 : decode cX8_whyNoReam 30 = .ok (.goto 4, 3) := dk_167 0 4 (dk_at dksX8_whyNoReam_1 6 rfl rfl)
theorem dX8_whyNoReam_33 : decode cX8_whyNoReam 33 = .ok (.iconst 0, 1) := dk_3 (dk_at dksX8_whyNoReam_1 9 rfl rfl)
theorem dX8_whyNoReam_34 : decode cX8_whyNoReam 34 = .ok (.ireturn, 1) := dk_172 (dk_at dksX8_whyNoReam_1 10 rfl rfl)
abbrev cX8_dry : ByteArray := prog_26_method_38_code
def yX8_dry : MethodName := ⟨RX8, "dry", "(III)I"⟩
def dkwX8_dry_2 : List UInt8 := [167, 255, 214, 21, 4, 172]
abbrev dktX8_dry_2 : List UInt8 := dkwX8_dry_2 ++ []
def dkwX8_dry_1 : List UInt8 := [29, 182, 0, 109, 153, 0, 13, 42, 21, 5, 6, 182, 0, 106, 167, 0, 4, 3, 96, 54, 4, 132, 5, 1]
abbrev dktX8_dry_1 : List UInt8 := dkwX8_dry_1 ++ dktX8_dry_2
def dkwX8_dry_0 : List UInt8 := [3, 54, 4, 3, 54, 5, 21, 5, 42, 180, 0, 7, 8, 46, 162, 0, 37, 21, 4, 42, 21, 5, 27, 28]
abbrev dktX8_dry_0 : List UInt8 := dkwX8_dry_0 ++ dktX8_dry_1
theorem dksX8_dry_0 : cX8_dry.data.toList.drop 0 = dktX8_dry_0 := by decide +kernel
theorem dksX8_dry_1 : cX8_dry.data.toList.drop 24 = dktX8_dry_1 := dk_seg dksX8_dry_0 24 rfl rfl
theorem dksX8_dry_2 : cX8_dry.data.toList.drop 48 = dktX8_dry_2 := dk_seg dksX8_dry_1 24 rfl rfl
theorem dX8_dry_0 : decode cX8_dry 0 = .ok (.iconst 0, 1) := dk_3 (dk_at dksX8_dry_0 0 rfl rfl)
theorem dX8_dry_1 : decode cX8_dry 1 = .ok (.istore 4, 2) := dk_54 4 (dk_at dksX8_dry_0 1 rfl rfl)
theorem dX8_dry_3 : decode cX8_dry 3 = .ok (.iconst 0, 1) := dk_3 (dk_at dksX8_dry_0 3 rfl rfl)
theorem dX8_dry_4 : decode cX8_dry 4 = .ok (.istore 5, 2) := dk_54 5 (dk_at dksX8_dry_0 4 rfl rfl)
theorem dX8_dry_6 : decode cX8_dry 6 = .ok (.iload 5, 2) := dk_21 5 (dk_at dksX8_dry_0 6 rfl rfl)
theorem dX8_dry_8 : decode cX8_dry 8 = .ok (.aload_n 0, 1) := dk_42 (dk_at dksX8_dry_0 8 rfl rfl)
theorem dX8_dry_9 : decode cX8_dry 9 = .ok (.getfield 7, 3) := dk_180 0 7 (dk_at dksX8_dry_0 9 rfl rfl)
theorem dX8_dry_12 : decode cX8_dry 12 = .ok (.iconst 5, 1) := dk_8 (dk_at dksX8_dry_0 12 rfl rfl)
theorem dX8_dry_13 : decode cX8_dry 13 = .ok (.iaload, 1) := dk_46 (dk_at dksX8_dry_0 13 rfl rfl)
theorem dX8_dry_14 : decode cX8_dry 14 = .ok (.if_icmp .ge 37, 3) := dk_162 0 37 (dk_at dksX8_dry_0 14 rfl rfl)
theorem dX8_dry_17 : decode cX8_dry 17 = .ok (.iload 4, 2) := dk_21 4 (dk_at dksX8_dry_0 17 rfl rfl)
theorem dX8_dry_19 : decode cX8_dry 19 = .ok (.aload_n 0, 1) := dk_42 (dk_at dksX8_dry_0 19 rfl rfl)
theorem dX8_dry_20 : decode cX8_dry 20 = .ok (.iload 5, 2) := dk_21 5 (dk_at dksX8_dry_0 20 rfl rfl)
theorem dX8_dry_22 : decode cX8_dry 22 = .ok (.iload_n 1, 1) := dk_27 (dk_at dksX8_dry_0 22 rfl rfl)
theorem dX8_dry_23 : decode cX8_dry 23 = .ok (.iload_n 2, 1) := dk_28 (dk_at dksX8_dry_0 23 rfl rfl)
theorem dX8_dry_24 : decode cX8_dry 24 = .ok (.iload_n 3, 1) := dk_29 (dk_at dksX8_dry_1 0 rfl rfl)
theorem dX8_dry_25 : decode cX8_dry 25 = .ok (.invokevirtual 109, 3) := dk_182 0 109 (dk_at dksX8_dry_1 1 rfl rfl)
theorem dX8_dry_28 : decode cX8_dry 28 = .ok (.ifCond .eq 13, 3) := dk_153 0 13 (dk_at dksX8_dry_1 4 rfl rfl)
theorem dX8_dry_31 : decode cX8_dry 31 = .ok (.aload_n 0, 1) := dk_42 (dk_at dksX8_dry_1 7 rfl rfl)
theorem dX8_dry_32 : decode cX8_dry 32 = .ok (.iload 5, 2) := dk_21 5 (dk_at dksX8_dry_1 8 rfl rfl)
theorem dX8_dry_34 : decode cX8_dry 34 = .ok (.iconst 3, 1) := dk_6 (dk_at dksX8_dry_1 10 rfl rfl)
theorem dX8_dry_35 : decode cX8_dry 35 = .ok (.invokevirtual 106, 3) := dk_182 0 106 (dk_at dksX8_dry_1 11 rfl rfl)
theorem dX8_dry_38 : decode cX8_dry 38 = .ok (.goto 4, 3) := dk_167 0 4 (dk_at dksX8_dry_1 14 rfl rfl)
theorem dX8_dry_41 : decode cX8_dry 41 = .ok (.iconst 0, 1) := dk_3 (dk_at dksX8_dry_1 17 rfl rfl)
theorem dX8_dry_42 : decode cX8_dry 42 = .ok (.iadd, 1) := dk_96 (dk_at dksX8_dry_1 18 rfl rfl)
theorem dX8_dry_43 : decode cX8_dry 43 = .ok (.istore 4, 2) := dk_54 4 (dk_at dksX8_dry_1 19 rfl rfl)
theorem dX8_dry_45 : decode cX8_dry 45 = .ok (.iinc 5 1, 3) := dk_132 5 1 (dk_at dksX8_dry_1 21 rfl rfl)
theorem dX8_dry_48 : decode cX8_dry 48 = .ok (.goto (-42), 3) := dk_167 255 214 (dk_at dksX8_dry_2 0 rfl rfl)
theorem dX8_dry_51 : decode cX8_dry 51 = .ok (.iload 4, 2) := dk_21 4 (dk_at dksX8_dry_2 3 rfl rfl)
theorem dX8_dry_53 : decode cX8_dry 53 = .ok (.ireturn, 1) := dk_172 (dk_at dksX8_dry_2 5 rfl rfl)
abbrev cX8_isSuch : ByteArray := prog_26_method_37_code
def yX8_isSuch : MethodName := ⟨RX8, "isSuch", "(IIII)Z"⟩
def dkwX8_isSuch_1 : List UInt8 := [182, 0, 106, 21, 4, 160, 0, 17, 42, 27, 7, 182, 0, 106, 6, 161, 0, 7, 4, 167, 0, 4, 3, 172]
abbrev dktX8_isSuch_1 : List UInt8 := dkwX8_isSuch_1 ++ []
def dkwX8_isSuch_0 : List UInt8 := [42, 27, 3, 182, 0, 106, 28, 160, 0, 38, 42, 27, 4, 182, 0, 106, 29, 160, 0, 28, 42, 27, 5]
abbrev dktX8_isSuch_0 : List UInt8 := dkwX8_isSuch_0 ++ dktX8_isSuch_1
theorem dksX8_isSuch_0 : cX8_isSuch.data.toList.drop 0 = dktX8_isSuch_0 := by decide +kernel
theorem dksX8_isSuch_1 : cX8_isSuch.data.toList.drop 23 = dktX8_isSuch_1 := dk_seg dksX8_isSuch_0 23 rfl rfl
theorem dX8_isSuch_0 : decode cX8_isSuch 0 = .ok (.aload_n 0, 1) := dk_42 (dk_at dksX8_isSuch_0 0 rfl rfl)
theorem dX8_isSuch_1 : decode cX8_isSuch 1 = .ok (.iload_n 1, 1) := dk_27 (dk_at dksX8_isSuch_0 1 rfl rfl)
theorem dX8_isSuch_2 : decode cX8_isSuch 2 = .ok (.iconst 0, 1) := dk_3 (dk_at dksX8_isSuch_0 2 rfl rfl)
theorem dX8_isSuch_3 : decode cX8_isSuch 3 = .ok (.invokevirtual 106, 3) := dk_182 0 106 (dk_at dksX8_isSuch_0 3 rfl rfl)
theorem dX8_isSuch_6 : decode cX8_isSuch 6 = .ok (.iload_n 2, 1) := dk_28 (dk_at dksX8_isSuch_0 6 rfl rfl)
theorem dX8_isSuch_7 : decode cX8_isSuch 7 = .ok (.if_icmp .ne 38, 3) := dk_160 0 38 (dk_at dksX8_isSuch_0 7 rfl rfl)
theorem dX8_isSuch_10 : decode cX8_isSuch 10 = .ok (.aload_n 0, 1) := dk_42 (dk_at dksX8_isSuch_0 10 rfl rfl)
theorem dX8_isSuch_11 : decode cX8_isSuch 11 = .ok (.iload_n 1, 1) := dk_27 (dk_at dksX8_isSuch_0 11 rfl rfl)
theorem dX8_isSuch_12 : decode cX8_isSuch 12 = .ok (.iconst 1, 1) := dk_4 (dk_at dksX8_isSuch_0 12 rfl rfl)
theorem dX8_isSuch_13 : decode cX8_isSuch 13 = .ok (.invokevirtual 106, 3) := dk_182 0 106 (dk_at dksX8_isSuch_0 13 rfl rfl)
theorem dX8_isSuch_16 : decode cX8_isSuch 16 = .ok (.iload_n 3, 1) := dk_29 (dk_at dksX8_isSuch_0 16 rfl rfl)
theorem dX8_isSuch_17 : decode cX8_isSuch 17 = .ok (.if_icmp .ne 28, 3) := dk_160 0 28 (dk_at dksX8_isSuch_0 17 rfl rfl)
theorem dX8_isSuch_20 : decode cX8_isSuch 20 = .ok (.aload_n 0, 1) := dk_42 (dk_at dksX8_isSuch_0 20 rfl rfl)
theorem dX8_isSuch_21 : decode cX8_isSuch 21 = .ok (.iload_n 1, 1) := dk_27 (dk_at dksX8_isSuch_0 21 rfl rfl)
theorem dX8_isSuch_22 : decode cX8_isSuch 22 = .ok (.iconst 2, 1) := dk_5 (dk_at dksX8_isSuch_0 22 rfl rfl)
theorem dX8_isSuch_23 : decode cX8_isSuch 23 = .ok (.invokevirtual 106, 3) := dk_182 0 106 (dk_at dksX8_isSuch_1 0 rfl rfl)
theorem dX8_isSuch_26 : decode cX8_isSuch 26 = .ok (.iload 4, 2) := dk_21 4 (dk_at dksX8_isSuch_1 3 rfl rfl)
theorem dX8_isSuch_28 : decode cX8_isSuch 28 = .ok (.if_icmp .ne 17, 3) := dk_160 0 17 (dk_at dksX8_isSuch_1 5 rfl rfl)
theorem dX8_isSuch_31 : decode cX8_isSuch 31 = .ok (.aload_n 0, 1) := dk_42 (dk_at dksX8_isSuch_1 8 rfl rfl)
theorem dX8_isSuch_32 : decode cX8_isSuch 32 = .ok (.iload_n 1, 1) := dk_27 (dk_at dksX8_isSuch_1 9 rfl rfl)
theorem dX8_isSuch_33 : decode cX8_isSuch 33 = .ok (.iconst 4, 1) := dk_7 (dk_at dksX8_isSuch_1 10 rfl rfl)
theorem dX8_isSuch_34 : decode cX8_isSuch 34 = .ok (.invokevirtual 106, 3) := dk_182 0 106 (dk_at dksX8_isSuch_1 11 rfl rfl)
theorem dX8_isSuch_37 : decode cX8_isSuch 37 = .ok (.iconst 3, 1) := dk_6 (dk_at dksX8_isSuch_1 14 rfl rfl)
theorem dX8_isSuch_38 : decode cX8_isSuch 38 = .ok (.if_icmp .lt 7, 3) := dk_161 0 7 (dk_at dksX8_isSuch_1 15 rfl rfl)
theorem dX8_isSuch_41 : decode cX8_isSuch 41 = .ok (.iconst 1, 1) := dk_4 (dk_at dksX8_isSuch_1 18 rfl rfl)
theorem dX8_isSuch_42 : decode cX8_isSuch 42 = .ok (.goto 4, 3) := dk_167 0 4 (dk_at dksX8_isSuch_1 19 rfl rfl)
theorem dX8_isSuch_45 : decode cX8_isSuch 45 = .ok (.iconst 0, 1) := dk_3 (dk_at dksX8_isSuch_1 22 rfl rfl)
theorem dX8_isSuch_46 : decode cX8_isSuch 46 = .ok (.ireturn, 1) := dk_172 (dk_at dksX8_isSuch_1 23 rfl rfl)
abbrev cX8_pile : ByteArray := prog_26_method_36_code
def yX8_pile : MethodName := ⟨RX8, "pile", "(II)I"⟩
def dkwX8_pile_0 : List UInt8 := [42, 180, 0, 7, 17, 0, 141, 8, 27, 104, 96, 28, 96, 46, 172]
abbrev dktX8_pile_0 : List UInt8 := dkwX8_pile_0 ++ []
theorem dksX8_pile_0 : cX8_pile.data.toList.drop 0 = dktX8_pile_0 := by decide +kernel
theorem dX8_pile_0 : decode cX8_pile 0 = .ok (.aload_n 0, 1) := dk_42 (dk_at dksX8_pile_0 0 rfl rfl)
theorem dX8_pile_1 : decode cX8_pile 1 = .ok (.getfield 7, 3) := dk_180 0 7 (dk_at dksX8_pile_0 1 rfl rfl)
theorem dX8_pile_4 : decode cX8_pile 4 = .ok (.sipush 141, 3) := dk_17 0 141 (dk_at dksX8_pile_0 4 rfl rfl)
theorem dX8_pile_7 : decode cX8_pile 7 = .ok (.iconst 5, 1) := dk_8 (dk_at dksX8_pile_0 7 rfl rfl)
theorem dX8_pile_8 : decode cX8_pile 8 = .ok (.iload_n 1, 1) := dk_27 (dk_at dksX8_pile_0 8 rfl rfl)
theorem dX8_pile_9 : decode cX8_pile 9 = .ok (.imul, 1) := dk_104 (dk_at dksX8_pile_0 9 rfl rfl)
theorem dX8_pile_10 : decode cX8_pile 10 = .ok (.iadd, 1) := dk_96 (dk_at dksX8_pile_0 10 rfl rfl)
theorem dX8_pile_11 : decode cX8_pile 11 = .ok (.iload_n 2, 1) := dk_28 (dk_at dksX8_pile_0 11 rfl rfl)
theorem dX8_pile_12 : decode cX8_pile 12 = .ok (.iadd, 1) := dk_96 (dk_at dksX8_pile_0 12 rfl rfl)
theorem dX8_pile_13 : decode cX8_pile 13 = .ok (.iaload, 1) := dk_46 (dk_at dksX8_pile_0 13 rfl rfl)
theorem dX8_pile_14 : decode cX8_pile 14 = .ok (.ireturn, 1) := dk_172 (dk_at dksX8_pile_0 14 rfl rfl)
abbrev cX8_packs : ByteArray := prog_26_method_40_code
def yX8_packs : MethodName := ⟨RX8, "packs", "(IIII)I"⟩
def dkwX8_packs_7 : List UInt8 := [96, 79, 42, 180, 0, 7, 16, 6, 46, 4, 100, 172]
abbrev dktX8_packs_7 : List UInt8 := dkwX8_packs_7 ++ []
def dkwX8_packs_6 : List UInt8 := [5, 96, 29, 79, 42, 180, 0, 7, 21, 7, 6, 96, 21, 4, 79, 42, 180, 0, 7, 16, 6, 92, 46, 4]
abbrev dktX8_packs_6 : List UInt8 := dkwX8_packs_6 ++ dktX8_packs_7
def dkwX8_packs_5 : List UInt8 := [42, 180, 0, 7, 21, 7, 27, 79, 42, 180, 0, 7, 21, 7, 4, 96, 28, 79, 42, 180, 0, 7, 21, 7]
abbrev dktX8_packs_5 : List UInt8 := dkwX8_packs_5 ++ dktX8_packs_6
def dkwX8_packs_4 : List UInt8 := [167, 0, 6, 132, 6, 1, 167, 255, 167, 17, 0, 201, 7, 42, 180, 0, 7, 16, 6, 46, 104, 96, 54, 7]
abbrev dktX8_packs_4 : List UInt8 := dkwX8_packs_4 ++ dktX8_packs_5
def dkwX8_packs_3 : List UInt8 := [79, 42, 21, 6, 6, 182, 0, 106, 154, 0, 17, 42, 17, 0, 141, 8, 21, 6, 8, 182, 0, 90]
abbrev dktX8_packs_3 : List UInt8 := dkwX8_packs_3 ++ dktX8_packs_4
def dkwX8_packs_2 : List UInt8 := [21, 7, 100, 54, 5, 42, 180, 0, 7, 17, 0, 141, 8, 21, 6, 104, 96, 6, 96, 92, 46, 21, 7, 100]
abbrev dktX8_packs_2 : List UInt8 := dkwX8_packs_2 ++ dktX8_packs_3
def dkwX8_packs_1 : List UInt8 := [153, 0, 18, 21, 5, 42, 21, 6, 6, 182, 0, 106, 184, 0, 87, 167, 0, 4, 3, 54, 7, 21, 5]
abbrev dktX8_packs_1 : List UInt8 := dkwX8_packs_1 ++ dktX8_packs_2
def dkwX8_packs_0 : List UInt8 := [21, 4, 16, 24, 104, 54, 5, 3, 54, 6, 21, 5, 158, 0, 90, 42, 21, 6, 27, 28, 29, 182, 0, 109]
abbrev dktX8_packs_0 : List UInt8 := dkwX8_packs_0 ++ dktX8_packs_1
theorem dksX8_packs_0 : cX8_packs.data.toList.drop 0 = dktX8_packs_0 := by decide +kernel
theorem dksX8_packs_1 : cX8_packs.data.toList.drop 24 = dktX8_packs_1 := dk_seg dksX8_packs_0 24 rfl rfl
theorem dksX8_packs_2 : cX8_packs.data.toList.drop 47 = dktX8_packs_2 := dk_seg dksX8_packs_1 23 rfl rfl
theorem dksX8_packs_3 : cX8_packs.data.toList.drop 71 = dktX8_packs_3 := dk_seg dksX8_packs_2 24 rfl rfl
theorem dksX8_packs_4 : cX8_packs.data.toList.drop 93 = dktX8_packs_4 := dk_seg dksX8_packs_3 22 rfl rfl
theorem dksX8_packs_5 : cX8_packs.data.toList.drop 117 = dktX8_packs_5 := dk_seg dksX8_packs_4 24 rfl rfl
theorem dksX8_packs_6 : cX8_packs.data.toList.drop 141 = dktX8_packs_6 := dk_seg dksX8_packs_5 24 rfl rfl
theorem dksX8_packs_7 : cX8_packs.data.toList.drop 165 = dktX8_packs_7 := dk_seg dksX8_packs_6 24 rfl rfl
theorem dX8_packs_0 : decode cX8_packs 0 = .ok (.iload 4, 2) := dk_21 4 (dk_at dksX8_packs_0 0 rfl rfl)
theorem dX8_packs_2 : decode cX8_packs 2 = .ok (.bipush 24, 2) := dk_16 24 (dk_at dksX8_packs_0 2 rfl rfl)
theorem dX8_packs_4 : decode cX8_packs 4 = .ok (.imul, 1) := dk_104 (dk_at dksX8_packs_0 4 rfl rfl)
theorem dX8_packs_5 : decode cX8_packs 5 = .ok (.istore 5, 2) := dk_54 5 (dk_at dksX8_packs_0 5 rfl rfl)
theorem dX8_packs_7 : decode cX8_packs 7 = .ok (.iconst 0, 1) := dk_3 (dk_at dksX8_packs_0 7 rfl rfl)
theorem dX8_packs_8 : decode cX8_packs 8 = .ok (.istore 6, 2) := dk_54 6 (dk_at dksX8_packs_0 8 rfl rfl)
theorem dX8_packs_10 : decode cX8_packs 10 = .ok (.iload 5, 2) := dk_21 5 (dk_at dksX8_packs_0 10 rfl rfl)
theorem dX8_packs_12 : decode cX8_packs 12 = .ok (.ifCond .le 90, 3) := dk_158 0 90 (dk_at dksX8_packs_0 12 rfl rfl)
theorem dX8_packs_15 : decode cX8_packs 15 = .ok (.aload_n 0, 1) := dk_42 (dk_at dksX8_packs_0 15 rfl rfl)
theorem dX8_packs_16 : decode cX8_packs 16 = .ok (.iload 6, 2) := dk_21 6 (dk_at dksX8_packs_0 16 rfl rfl)
theorem dX8_packs_18 : decode cX8_packs 18 = .ok (.iload_n 1, 1) := dk_27 (dk_at dksX8_packs_0 18 rfl rfl)
theorem dX8_packs_19 : decode cX8_packs 19 = .ok (.iload_n 2, 1) := dk_28 (dk_at dksX8_packs_0 19 rfl rfl)
theorem dX8_packs_20 : decode cX8_packs 20 = .ok (.iload_n 3, 1) := dk_29 (dk_at dksX8_packs_0 20 rfl rfl)
theorem dX8_packs_21 : decode cX8_packs 21 = .ok (.invokevirtual 109, 3) := dk_182 0 109 (dk_at dksX8_packs_0 21 rfl rfl)
theorem dX8_packs_24 : decode cX8_packs 24 = .ok (.ifCond .eq 18, 3) := dk_153 0 18 (dk_at dksX8_packs_1 0 rfl rfl)
theorem dX8_packs_27 : decode cX8_packs 27 = .ok (.iload 5, 2) := dk_21 5 (dk_at dksX8_packs_1 3 rfl rfl)
theorem dX8_packs_29 : decode cX8_packs 29 = .ok (.aload_n 0, 1) := dk_42 (dk_at dksX8_packs_1 5 rfl rfl)
theorem dX8_packs_30 : decode cX8_packs 30 = .ok (.iload 6, 2) := dk_21 6 (dk_at dksX8_packs_1 6 rfl rfl)
theorem dX8_packs_32 : decode cX8_packs 32 = .ok (.iconst 3, 1) := dk_6 (dk_at dksX8_packs_1 8 rfl rfl)
theorem dX8_packs_33 : decode cX8_packs 33 = .ok (.invokevirtual 106, 3) := dk_182 0 106 (dk_at dksX8_packs_1 9 rfl rfl)
theorem dX8_packs_36 : decode cX8_packs 36 = .ok (.invokestatic 87, 3) := dk_184 0 87 (dk_at dksX8_packs_1 12 rfl rfl)
theorem dX8_packs_39 : decode cX8_packs 39 = .ok (.goto 4, 3) := dk_167 0 4 (dk_at dksX8_packs_1 15 rfl rfl)
theorem dX8_packs_42 : decode cX8_packs 42 = .ok (.iconst 0, 1) := dk_3 (dk_at dksX8_packs_1 18 rfl rfl)
theorem dX8_packs_43 : decode cX8_packs 43 = .ok (.istore 7, 2) := dk_54 7 (dk_at dksX8_packs_1 19 rfl rfl)
theorem dX8_packs_45 : decode cX8_packs 45 = .ok (.iload 5, 2) := dk_21 5 (dk_at dksX8_packs_1 21 rfl rfl)
theorem dX8_packs_47 : decode cX8_packs 47 = .ok (.iload 7, 2) := dk_21 7 (dk_at dksX8_packs_2 0 rfl rfl)
theorem dX8_packs_49 : decode cX8_packs 49 = .ok (.isub, 1) := dk_100 (dk_at dksX8_packs_2 2 rfl rfl)
theorem dX8_packs_50 : decode cX8_packs 50 = .ok (.istore 5, 2) := dk_54 5 (dk_at dksX8_packs_2 3 rfl rfl)
theorem dX8_packs_52 : decode cX8_packs 52 = .ok (.aload_n 0, 1) := dk_42 (dk_at dksX8_packs_2 5 rfl rfl)
theorem dX8_packs_53 : decode cX8_packs 53 = .ok (.getfield 7, 3) := dk_180 0 7 (dk_at dksX8_packs_2 6 rfl rfl)
theorem dX8_packs_56 : decode cX8_packs 56 = .ok (.sipush 141, 3) := dk_17 0 141 (dk_at dksX8_packs_2 9 rfl rfl)
theorem dX8_packs_59 : decode cX8_packs 59 = .ok (.iconst 5, 1) := dk_8 (dk_at dksX8_packs_2 12 rfl rfl)
theorem dX8_packs_60 : decode cX8_packs 60 = .ok (.iload 6, 2) := dk_21 6 (dk_at dksX8_packs_2 13 rfl rfl)
theorem dX8_packs_62 : decode cX8_packs 62 = .ok (.imul, 1) := dk_104 (dk_at dksX8_packs_2 15 rfl rfl)
theorem dX8_packs_63 : decode cX8_packs 63 = .ok (.iadd, 1) := dk_96 (dk_at dksX8_packs_2 16 rfl rfl)
theorem dX8_packs_64 : decode cX8_packs 64 = .ok (.iconst 3, 1) := dk_6 (dk_at dksX8_packs_2 17 rfl rfl)
theorem dX8_packs_65 : decode cX8_packs 65 = .ok (.iadd, 1) := dk_96 (dk_at dksX8_packs_2 18 rfl rfl)
theorem dX8_packs_66 : decode cX8_packs 66 = .ok (.dup2, 1) := dk_92 (dk_at dksX8_packs_2 19 rfl rfl)
theorem dX8_packs_67 : decode cX8_packs 67 = .ok (.iaload, 1) := dk_46 (dk_at dksX8_packs_2 20 rfl rfl)
theorem dX8_packs_68 : decode cX8_packs 68 = .ok (.iload 7, 2) := dk_21 7 (dk_at dksX8_packs_2 21 rfl rfl)
theorem dX8_packs_70 : decode cX8_packs 70 = .ok (.isub, 1) := dk_100 (dk_at dksX8_packs_2 23 rfl rfl)
theorem dX8_packs_71 : decode cX8_packs 71 = .ok (.iastore, 1) := dk_79 (dk_at dksX8_packs_3 0 rfl rfl)
theorem dX8_packs_72 : decode cX8_packs 72 = .ok (.aload_n 0, 1) := dk_42 (dk_at dksX8_packs_3 1 rfl rfl)
theorem dX8_packs_73 : decode cX8_packs 73 = .ok (.iload 6, 2) := dk_21 6 (dk_at dksX8_packs_3 2 rfl rfl)
theorem dX8_packs_75 : decode cX8_packs 75 = .ok (.iconst 3, 1) := dk_6 (dk_at dksX8_packs_3 4 rfl rfl)
theorem dX8_packs_76 : decode cX8_packs 76 = .ok (.invokevirtual 106, 3) := dk_182 0 106 (dk_at dksX8_packs_3 5 rfl rfl)
theorem dX8_packs_79 : decode cX8_packs 79 = .ok (.ifCond .ne 17, 3) := dk_154 0 17 (dk_at dksX8_packs_3 8 rfl rfl)
theorem dX8_packs_82 : decode cX8_packs 82 = .ok (.aload_n 0, 1) := dk_42 (dk_at dksX8_packs_3 11 rfl rfl)
theorem dX8_packs_83 : decode cX8_packs 83 = .ok (.sipush 141, 3) := dk_17 0 141 (dk_at dksX8_packs_3 12 rfl rfl)
theorem dX8_packs_86 : decode cX8_packs 86 = .ok (.iconst 5, 1) := dk_8 (dk_at dksX8_packs_3 15 rfl rfl)
theorem dX8_packs_87 : decode cX8_packs 87 = .ok (.iload 6, 2) := dk_21 6 (dk_at dksX8_packs_3 16 rfl rfl)
theorem dX8_packs_89 : decode cX8_packs 89 = .ok (.iconst 5, 1) := dk_8 (dk_at dksX8_packs_3 18 rfl rfl)
theorem dX8_packs_90 : decode cX8_packs 90 = .ok (.invokevirtual 90, 3) := dk_182 0 90 (dk_at dksX8_packs_3 19 rfl rfl)
theorem dX8_packs_93 : decode cX8_packs 93 = .ok (.goto 6, 3) := dk_167 0 6 (dk_at dksX8_packs_4 0 rfl rfl)
theorem dX8_packs_96 : decode cX8_packs 96 = .ok (.iinc 6 1, 3) := dk_132 6 1 (dk_at dksX8_packs_4 3 rfl rfl)
theorem dX8_packs_99 : decode cX8_packs 99 = .ok (.goto (-89), 3) := dk_167 255 167 (dk_at dksX8_packs_4 6 rfl rfl)
theorem dX8_packs_102 : decode cX8_packs 102 = .ok (.sipush 201, 3) := dk_17 0 201 (dk_at dksX8_packs_4 9 rfl rfl)
theorem dX8_packs_105 : decode cX8_packs 105 = .ok (.iconst 4, 1) := dk_7 (dk_at dksX8_packs_4 12 rfl rfl)
theorem dX8_packs_106 : decode cX8_packs 106 = .ok (.aload_n 0, 1) := dk_42 (dk_at dksX8_packs_4 13 rfl rfl)
theorem dX8_packs_107 : decode cX8_packs 107 = .ok (.getfield 7, 3) := dk_180 0 7 (dk_at dksX8_packs_4 14 rfl rfl)
theorem dX8_packs_110 : decode cX8_packs 110 = .ok (.bipush 6, 2) := dk_16 6 (dk_at dksX8_packs_4 17 rfl rfl)
theorem dX8_packs_112 : decode cX8_packs 112 = .ok (.iaload, 1) := dk_46 (dk_at dksX8_packs_4 19 rfl rfl)
theorem dX8_packs_113 : decode cX8_packs 113 = .ok (.imul, 1) := dk_104 (dk_at dksX8_packs_4 20 rfl rfl)
theorem dX8_packs_114 : decode cX8_packs 114 = .ok (.iadd, 1) := dk_96 (dk_at dksX8_packs_4 21 rfl rfl)
theorem dX8_packs_115 : decode cX8_packs 115 = .ok (.istore 7, 2) := dk_54 7 (dk_at dksX8_packs_4 22 rfl rfl)
theorem dX8_packs_117 : decode cX8_packs 117 = .ok (.aload_n 0, 1) := dk_42 (dk_at dksX8_packs_5 0 rfl rfl)
theorem dX8_packs_118 : decode cX8_packs 118 = .ok (.getfield 7, 3) := dk_180 0 7 (dk_at dksX8_packs_5 1 rfl rfl)
theorem dX8_packs_121 : decode cX8_packs 121 = .ok (.iload 7, 2) := dk_21 7 (dk_at dksX8_packs_5 4 rfl rfl)
theorem dX8_packs_123 : decode cX8_packs 123 = .ok (.iload_n 1, 1) := dk_27 (dk_at dksX8_packs_5 6 rfl rfl)
theorem dX8_packs_124 : decode cX8_packs 124 = .ok (.iastore, 1) := dk_79 (dk_at dksX8_packs_5 7 rfl rfl)
theorem dX8_packs_125 : decode cX8_packs 125 = .ok (.aload_n 0, 1) := dk_42 (dk_at dksX8_packs_5 8 rfl rfl)
theorem dX8_packs_126 : decode cX8_packs 126 = .ok (.getfield 7, 3) := dk_180 0 7 (dk_at dksX8_packs_5 9 rfl rfl)
theorem dX8_packs_129 : decode cX8_packs 129 = .ok (.iload 7, 2) := dk_21 7 (dk_at dksX8_packs_5 12 rfl rfl)
theorem dX8_packs_131 : decode cX8_packs 131 = .ok (.iconst 1, 1) := dk_4 (dk_at dksX8_packs_5 14 rfl rfl)
theorem dX8_packs_132 : decode cX8_packs 132 = .ok (.iadd, 1) := dk_96 (dk_at dksX8_packs_5 15 rfl rfl)
theorem dX8_packs_133 : decode cX8_packs 133 = .ok (.iload_n 2, 1) := dk_28 (dk_at dksX8_packs_5 16 rfl rfl)
theorem dX8_packs_134 : decode cX8_packs 134 = .ok (.iastore, 1) := dk_79 (dk_at dksX8_packs_5 17 rfl rfl)
theorem dX8_packs_135 : decode cX8_packs 135 = .ok (.aload_n 0, 1) := dk_42 (dk_at dksX8_packs_5 18 rfl rfl)
theorem dX8_packs_136 : decode cX8_packs 136 = .ok (.getfield 7, 3) := dk_180 0 7 (dk_at dksX8_packs_5 19 rfl rfl)
theorem dX8_packs_139 : decode cX8_packs 139 = .ok (.iload 7, 2) := dk_21 7 (dk_at dksX8_packs_5 22 rfl rfl)
theorem dX8_packs_141 : decode cX8_packs 141 = .ok (.iconst 2, 1) := dk_5 (dk_at dksX8_packs_6 0 rfl rfl)
theorem dX8_packs_142 : decode cX8_packs 142 = .ok (.iadd, 1) := dk_96 (dk_at dksX8_packs_6 1 rfl rfl)
theorem dX8_packs_143 : decode cX8_packs 143 = .ok (.iload_n 3, 1) := dk_29 (dk_at dksX8_packs_6 2 rfl rfl)
theorem dX8_packs_144 : decode cX8_packs 144 = .ok (.iastore, 1) := dk_79 (dk_at dksX8_packs_6 3 rfl rfl)
theorem dX8_packs_145 : decode cX8_packs 145 = .ok (.aload_n 0, 1) := dk_42 (dk_at dksX8_packs_6 4 rfl rfl)
theorem dX8_packs_146 : decode cX8_packs 146 = .ok (.getfield 7, 3) := dk_180 0 7 (dk_at dksX8_packs_6 5 rfl rfl)
theorem dX8_packs_149 : decode cX8_packs 149 = .ok (.iload 7, 2) := dk_21 7 (dk_at dksX8_packs_6 8 rfl rfl)
theorem dX8_packs_151 : decode cX8_packs 151 = .ok (.iconst 3, 1) := dk_6 (dk_at dksX8_packs_6 10 rfl rfl)
theorem dX8_packs_152 : decode cX8_packs 152 = .ok (.iadd, 1) := dk_96 (dk_at dksX8_packs_6 11 rfl rfl)
theorem dX8_packs_153 : decode cX8_packs 153 = .ok (.iload 4, 2) := dk_21 4 (dk_at dksX8_packs_6 12 rfl rfl)
theorem dX8_packs_155 : decode cX8_packs 155 = .ok (.iastore, 1) := dk_79 (dk_at dksX8_packs_6 14 rfl rfl)
theorem dX8_packs_156 : decode cX8_packs 156 = .ok (.aload_n 0, 1) := dk_42 (dk_at dksX8_packs_6 15 rfl rfl)
theorem dX8_packs_157 : decode cX8_packs 157 = .ok (.getfield 7, 3) := dk_180 0 7 (dk_at dksX8_packs_6 16 rfl rfl)
theorem dX8_packs_160 : decode cX8_packs 160 = .ok (.bipush 6, 2) := dk_16 6 (dk_at dksX8_packs_6 19 rfl rfl)
theorem dX8_packs_162 : decode cX8_packs 162 = .ok (.dup2, 1) := dk_92 (dk_at dksX8_packs_6 21 rfl rfl)
theorem dX8_packs_163 : decode cX8_packs 163 = .ok (.iaload, 1) := dk_46 (dk_at dksX8_packs_6 22 rfl rfl)
theorem dX8_packs_164 : decode cX8_packs 164 = .ok (.iconst 1, 1) := dk_4 (dk_at dksX8_packs_6 23 rfl rfl)
theorem dX8_packs_165 : decode cX8_packs 165 = .ok (.iadd, 1) := dk_96 (dk_at dksX8_packs_7 0 rfl rfl)
theorem dX8_packs_166 : decode cX8_packs 166 = .ok (.iastore, 1) := dk_79 (dk_at dksX8_packs_7 1 rfl rfl)
theorem dX8_packs_167 : decode cX8_packs 167 = .ok (.aload_n 0, 1) := dk_42 (dk_at dksX8_packs_7 2 rfl rfl)
theorem dX8_packs_168 : decode cX8_packs 168 = .ok (.getfield 7, 3) := dk_180 0 7 (dk_at dksX8_packs_7 3 rfl rfl)
theorem dX8_packs_171 : decode cX8_packs 171 = .ok (.bipush 6, 2) := dk_16 6 (dk_at dksX8_packs_7 6 rfl rfl)
theorem dX8_packs_173 : decode cX8_packs 173 = .ok (.iaload, 1) := dk_46 (dk_at dksX8_packs_7 8 rfl rfl)
theorem dX8_packs_174 : decode cX8_packs 174 = .ok (.iconst 1, 1) := dk_4 (dk_at dksX8_packs_7 9 rfl rfl)
theorem dX8_packs_175 : decode cX8_packs 175 = .ok (.isub, 1) := dk_100 (dk_at dksX8_packs_7 10 rfl rfl)
theorem dX8_packs_176 : decode cX8_packs 176 = .ok (.ireturn, 1) := dk_172 (dk_at dksX8_packs_7 11 rfl rfl)
abbrev cX8_packShort : ByteArray := prog_26_method_73_code
def yX8_packShort : MethodName := ⟨RX8, "packShort", "(III)I"⟩
def dkwX8_packShort_3 : List UInt8 := [182, 0, 151, 42, 27, 28, 29, 21, 4, 182, 0, 207, 156, 0, 7, 2, 167, 0, 5, 21, 4, 172]
abbrev dktX8_packShort_3 : List UInt8 := dkwX8_packShort_3 ++ []
def dkwX8_packShort_2 : List UInt8 := [16, 30, 159, 0, 14, 21, 4, 4, 16, 19, 184, 0, 48, 154, 0, 9, 42, 5, 182, 0, 210, 172, 42]
abbrev dktX8_packShort_2 : List UInt8 := dkwX8_packShort_2 ++ dktX8_packShort_3
def dkwX8_packShort_1 : List UInt8 := [158, 0, 5, 3, 172, 42, 27, 28, 29, 182, 0, 198, 16, 24, 108, 54, 4, 42, 180, 0, 7, 16, 6, 46]
abbrev dktX8_packShort_1 : List UInt8 := dkwX8_packShort_1 ++ dktX8_packShort_2
def dkwX8_packShort_0 : List UInt8 := [42, 27, 28, 29, 184, 0, 201, 153, 0, 7, 3, 167, 0, 4, 4, 181, 0, 37, 42, 180, 0, 37]
abbrev dktX8_packShort_0 : List UInt8 := dkwX8_packShort_0 ++ dktX8_packShort_1
theorem dksX8_packShort_0 : cX8_packShort.data.toList.drop 0 = dktX8_packShort_0 := by decide +kernel
theorem dksX8_packShort_1 : cX8_packShort.data.toList.drop 22 = dktX8_packShort_1 := dk_seg dksX8_packShort_0 22 rfl rfl
theorem dksX8_packShort_2 : cX8_packShort.data.toList.drop 46 = dktX8_packShort_2 := dk_seg dksX8_packShort_1 24 rfl rfl
theorem dksX8_packShort_3 : cX8_packShort.data.toList.drop 69 = dktX8_packShort_3 := dk_seg dksX8_packShort_2 23 rfl rfl
theorem dX8_packShort_0 : decode cX8_packShort 0 = .ok (.aload_n 0, 1) := dk_42 (dk_at dksX8_packShort_0 0 rfl rfl)
theorem dX8_packShort_1 : decode cX8_packShort 1 = .ok (.iload_n 1, 1) := dk_27 (dk_at dksX8_packShort_0 1 rfl rfl)
theorem dX8_packShort_2 : decode cX8_packShort 2 = .ok (.iload_n 2, 1) := dk_28 (dk_at dksX8_packShort_0 2 rfl rfl)
theorem dX8_packShort_3 : decode cX8_packShort 3 = .ok (.iload_n 3, 1) := dk_29 (dk_at dksX8_packShort_0 3 rfl rfl)
theorem dX8_packShort_4 : decode cX8_packShort 4 = .ok (.invokestatic 201, 3) := dk_184 0 201 (dk_at dksX8_packShort_0 4 rfl rfl)
theorem dX8_packShort_7 : decode cX8_packShort 7 = .ok (.ifCond .eq 7, 3) := dk_153 0 7 (dk_at dksX8_packShort_0 7 rfl rfl)
theorem dX8_packShort_10 : decode cX8_packShort 10 = .ok (.iconst 0, 1) := dk_3 (dk_at dksX8_packShort_0 10 rfl rfl)
theorem dX8_packShort_11 : decode cX8_packShort 11 = .ok (.goto 4, 3) := dk_167 0 4 (dk_at dksX8_packShort_0 11 rfl rfl)
theorem dX8_packShort_14 : decode cX8_packShort 14 = .ok (.iconst 1, 1) := dk_4 (dk_at dksX8_packShort_0 14 rfl rfl)
theorem dX8_packShort_15 : decode cX8_packShort 15 = .ok (.putfield 37, 3) := dk_181 0 37 (dk_at dksX8_packShort_0 15 rfl rfl)
theorem dX8_packShort_18 : decode cX8_packShort 18 = .ok (.aload_n 0, 1) := dk_42 (dk_at dksX8_packShort_0 18 rfl rfl)
theorem dX8_packShort_19 : decode cX8_packShort 19 = .ok (.getfield 37, 3) := dk_180 0 37 (dk_at dksX8_packShort_0 19 rfl rfl)
theorem dX8_packShort_22 : decode cX8_packShort 22 = .ok (.ifCond .le 5, 3) := dk_158 0 5 (dk_at dksX8_packShort_1 0 rfl rfl)
theorem dX8_packShort_25 : decode cX8_packShort 25 = .ok (.iconst 0, 1) := dk_3 (dk_at dksX8_packShort_1 3 rfl rfl)
theorem dX8_packShort_26 : decode cX8_packShort 26 = .ok (.ireturn, 1) := dk_172 (dk_at dksX8_packShort_1 4 rfl rfl)
theorem dX8_packShort_27 : decode cX8_packShort 27 = .ok (.aload_n 0, 1) := dk_42 (dk_at dksX8_packShort_1 5 rfl rfl)
theorem dX8_packShort_28 : decode cX8_packShort 28 = .ok (.iload_n 1, 1) := dk_27 (dk_at dksX8_packShort_1 6 rfl rfl)
theorem dX8_packShort_29 : decode cX8_packShort 29 = .ok (.iload_n 2, 1) := dk_28 (dk_at dksX8_packShort_1 7 rfl rfl)
theorem dX8_packShort_30 : decode cX8_packShort 30 = .ok (.iload_n 3, 1) := dk_29 (dk_at dksX8_packShort_1 8 rfl rfl)
theorem dX8_packShort_31 : decode cX8_packShort 31 = .ok (.invokevirtual 198, 3) := dk_182 0 198 (dk_at dksX8_packShort_1 9 rfl rfl)
theorem dX8_packShort_34 : decode cX8_packShort 34 = .ok (.bipush 24, 2) := dk_16 24 (dk_at dksX8_packShort_1 12 rfl rfl)
theorem dX8_packShort_36 : decode cX8_packShort 36 = .ok (.idiv, 1) := dk_108 (dk_at dksX8_packShort_1 14 rfl rfl)
theorem dX8_packShort_37 : decode cX8_packShort 37 = .ok (.istore 4, 2) := dk_54 4 (dk_at dksX8_packShort_1 15 rfl rfl)
theorem dX8_packShort_39 : decode cX8_packShort 39 = .ok (.aload_n 0, 1) := dk_42 (dk_at dksX8_packShort_1 17 rfl rfl)
theorem dX8_packShort_40 : decode cX8_packShort 40 = .ok (.getfield 7, 3) := dk_180 0 7 (dk_at dksX8_packShort_1 18 rfl rfl)
theorem dX8_packShort_43 : decode cX8_packShort 43 = .ok (.bipush 6, 2) := dk_16 6 (dk_at dksX8_packShort_1 21 rfl rfl)
theorem dX8_packShort_45 : decode cX8_packShort 45 = .ok (.iaload, 1) := dk_46 (dk_at dksX8_packShort_1 23 rfl rfl)
theorem dX8_packShort_46 : decode cX8_packShort 46 = .ok (.bipush 30, 2) := dk_16 30 (dk_at dksX8_packShort_2 0 rfl rfl)
theorem dX8_packShort_48 : decode cX8_packShort 48 = .ok (.if_icmp .eq 14, 3) := dk_159 0 14 (dk_at dksX8_packShort_2 2 rfl rfl)
theorem dX8_packShort_51 : decode cX8_packShort 51 = .ok (.iload 4, 2) := dk_21 4 (dk_at dksX8_packShort_2 5 rfl rfl)
theorem dX8_packShort_53 : decode cX8_packShort 53 = .ok (.iconst 1, 1) := dk_4 (dk_at dksX8_packShort_2 7 rfl rfl)
theorem dX8_packShort_54 : decode cX8_packShort 54 = .ok (.bipush 19, 2) := dk_16 19 (dk_at dksX8_packShort_2 8 rfl rfl)
theorem dX8_packShort_56 : decode cX8_packShort 56 = .ok (.invokestatic 48, 3) := dk_184 0 48 (dk_at dksX8_packShort_2 10 rfl rfl)
theorem dX8_packShort_59 : decode cX8_packShort 59 = .ok (.ifCond .ne 9, 3) := dk_154 0 9 (dk_at dksX8_packShort_2 13 rfl rfl)
theorem dX8_packShort_62 : decode cX8_packShort 62 = .ok (.aload_n 0, 1) := dk_42 (dk_at dksX8_packShort_2 16 rfl rfl)
theorem dX8_packShort_63 : decode cX8_packShort 63 = .ok (.iconst 2, 1) := dk_5 (dk_at dksX8_packShort_2 17 rfl rfl)
theorem dX8_packShort_64 : decode cX8_packShort 64 = .ok (.invokevirtual 210, 3) := dk_182 0 210 (dk_at dksX8_packShort_2 18 rfl rfl)
theorem dX8_packShort_67 : decode cX8_packShort 67 = .ok (.ireturn, 1) := dk_172 (dk_at dksX8_packShort_2 21 rfl rfl)
theorem dX8_packShort_68 : decode cX8_packShort 68 = .ok (.aload_n 0, 1) := dk_42 (dk_at dksX8_packShort_2 22 rfl rfl)
theorem dX8_packShort_69 : decode cX8_packShort 69 = .ok (.invokevirtual 151, 3) := dk_182 0 151 (dk_at dksX8_packShort_3 0 rfl rfl)
theorem dX8_packShort_72 : decode cX8_packShort 72 = .ok (.aload_n 0, 1) := dk_42 (dk_at dksX8_packShort_3 3 rfl rfl)
theorem dX8_packShort_73 : decode cX8_packShort 73 = .ok (.iload_n 1, 1) := dk_27 (dk_at dksX8_packShort_3 4 rfl rfl)
theorem dX8_packShort_74 : decode cX8_packShort 74 = .ok (.iload_n 2, 1) := dk_28 (dk_at dksX8_packShort_3 5 rfl rfl)
theorem dX8_packShort_75 : decode cX8_packShort 75 = .ok (.iload_n 3, 1) := dk_29 (dk_at dksX8_packShort_3 6 rfl rfl)
theorem dX8_packShort_76 : decode cX8_packShort 76 = .ok (.iload 4, 2) := dk_21 4 (dk_at dksX8_packShort_3 7 rfl rfl)
theorem dX8_packShort_78 : decode cX8_packShort 78 = .ok (.invokevirtual 207, 3) := dk_182 0 207 (dk_at dksX8_packShort_3 9 rfl rfl)
theorem dX8_packShort_81 : decode cX8_packShort 81 = .ok (.ifCond .ge 7, 3) := dk_156 0 7 (dk_at dksX8_packShort_3 12 rfl rfl)
theorem dX8_packShort_84 : decode cX8_packShort 84 = .ok (.iconst (-1), 1) := dk_2 (dk_at dksX8_packShort_3 15 rfl rfl)
theorem dX8_packShort_85 : decode cX8_packShort 85 = .ok (.goto 5, 3) := dk_167 0 5 (dk_at dksX8_packShort_3 16 rfl rfl)
theorem dX8_packShort_88 : decode cX8_packShort 88 = .ok (.iload 4, 2) := dk_21 4 (dk_at dksX8_packShort_3 19 rfl rfl)
theorem dX8_packShort_90 : decode cX8_packShort 90 = .ok (.ireturn, 1) := dk_172 (dk_at dksX8_packShort_3 21 rfl rfl)
abbrev cX8_refuses : ByteArray := prog_26_method_3_code
def yX8_refuses : MethodName := ⟨RX8, "refuses", "(I)I"⟩
def dkwX8_refuses_0 : List UInt8 := [42, 27, 181, 0, 37, 3, 172]
abbrev dktX8_refuses_0 : List UInt8 := dkwX8_refuses_0 ++ []
theorem dksX8_refuses_0 : cX8_refuses.data.toList.drop 0 = dktX8_refuses_0 := by decide +kernel
theorem dX8_refuses_0 : decode cX8_refuses 0 = .ok (.aload_n 0, 1) := dk_42 (dk_at dksX8_refuses_0 0 rfl rfl)
theorem dX8_refuses_1 : decode cX8_refuses 1 = .ok (.iload_n 1, 1) := dk_27 (dk_at dksX8_refuses_0 1 rfl rfl)
theorem dX8_refuses_2 : decode cX8_refuses 2 = .ok (.putfield 37, 3) := dk_181 0 37 (dk_at dksX8_refuses_0 2 rfl rfl)
theorem dX8_refuses_5 : decode cX8_refuses 5 = .ok (.iconst 0, 1) := dk_3 (dk_at dksX8_refuses_0 5 rfl rfl)
theorem dX8_refuses_6 : decode cX8_refuses 6 = .ok (.ireturn, 1) := dk_172 (dk_at dksX8_refuses_0 6 rfl rfl)
abbrev cX8_send : ByteArray := prog_26_method_75_code
def yX8_send : MethodName := ⟨RX8, "send", "(II)I"⟩
def dkwX8_send_5 : List UInt8 := [182, 0, 90, 29, 172]
abbrev dktX8_send_5 : List UInt8 := dkwX8_send_5 ++ []
def dkwX8_send_4 : List UInt8 := [180, 0, 7, 16, 7, 92, 46, 42, 28, 182, 0, 222, 96, 79, 42, 17, 0, 201, 7, 28, 16, 6]
abbrev dktX8_send_4 : List UInt8 := dkwX8_send_4 ++ dktX8_send_5
def dkwX8_send_3 : List UInt8 := [5, 27, 104, 96, 92, 46, 42, 28, 182, 0, 216, 96, 79, 42, 180, 0, 7, 4, 92, 46, 29, 96, 79, 42]
abbrev dktX8_send_3 : List UInt8 := dkwX8_send_3 ++ dktX8_send_4
def dkwX8_send_2 : List UInt8 := [180, 0, 37, 158, 0, 5, 3, 172, 42, 182, 0, 151, 42, 28, 182, 0, 219, 62, 42, 180, 0, 7, 16, 13]
abbrev dktX8_send_2 : List UInt8 := dkwX8_send_2 ++ dktX8_send_3
def dkwX8_send_1 : List UInt8 := [182, 0, 60, 42, 28, 182, 0, 216, 96, 17, 1, 44, 164, 0, 7, 5, 167, 0, 4, 3, 181, 0, 37, 42]
abbrev dktX8_send_1 : List UInt8 := dkwX8_send_1 ++ dktX8_send_2
def dkwX8_send_0 : List UInt8 := [42, 27, 184, 0, 135, 153, 0, 11, 42, 28, 182, 0, 213, 154, 0, 7, 4, 167, 0, 25, 42, 27]
abbrev dktX8_send_0 : List UInt8 := dkwX8_send_0 ++ dktX8_send_1
theorem dksX8_send_0 : cX8_send.data.toList.drop 0 = dktX8_send_0 := by decide +kernel
theorem dksX8_send_1 : cX8_send.data.toList.drop 22 = dktX8_send_1 := dk_seg dksX8_send_0 22 rfl rfl
theorem dksX8_send_2 : cX8_send.data.toList.drop 46 = dktX8_send_2 := dk_seg dksX8_send_1 24 rfl rfl
theorem dksX8_send_3 : cX8_send.data.toList.drop 70 = dktX8_send_3 := dk_seg dksX8_send_2 24 rfl rfl
theorem dksX8_send_4 : cX8_send.data.toList.drop 94 = dktX8_send_4 := dk_seg dksX8_send_3 24 rfl rfl
theorem dksX8_send_5 : cX8_send.data.toList.drop 116 = dktX8_send_5 := dk_seg dksX8_send_4 22 rfl rfl
theorem dX8_send_0 : decode cX8_send 0 = .ok (.aload_n 0, 1) := dk_42 (dk_at dksX8_send_0 0 rfl rfl)
theorem dX8_send_1 : decode cX8_send 1 = .ok (.iload_n 1, 1) := dk_27 (dk_at dksX8_send_0 1 rfl rfl)
theorem dX8_send_2 : decode cX8_send 2 = .ok (.invokestatic 135, 3) := dk_184 0 135 (dk_at dksX8_send_0 2 rfl rfl)
theorem dX8_send_5 : decode cX8_send 5 = .ok (.ifCond .eq 11, 3) := dk_153 0 11 (dk_at dksX8_send_0 5 rfl rfl)
theorem dX8_send_8 : decode cX8_send 8 = .ok (.aload_n 0, 1) := dk_42 (dk_at dksX8_send_0 8 rfl rfl)
theorem dX8_send_9 : decode cX8_send 9 = .ok (.iload_n 2, 1) := dk_28 (dk_at dksX8_send_0 9 rfl rfl)
theorem dX8_send_10 : decode cX8_send 10 = .ok (.invokevirtual 213, 3) := dk_182 0 213 (dk_at dksX8_send_0 10 rfl rfl)
theorem dX8_send_13 : decode cX8_send 13 = .ok (.ifCond .ne 7, 3) := dk_154 0 7 (dk_at dksX8_send_0 13 rfl rfl)
theorem dX8_send_16 : decode cX8_send 16 = .ok (.iconst 1, 1) := dk_4 (dk_at dksX8_send_0 16 rfl rfl)
theorem dX8_send_17 : decode cX8_send 17 = .ok (.goto 25, 3) := dk_167 0 25 (dk_at dksX8_send_0 17 rfl rfl)
theorem dX8_send_20 : decode cX8_send 20 = .ok (.aload_n 0, 1) := dk_42 (dk_at dksX8_send_0 20 rfl rfl)
theorem dX8_send_21 : decode cX8_send 21 = .ok (.iload_n 1, 1) := dk_27 (dk_at dksX8_send_0 21 rfl rfl)
theorem dX8_send_22 : decode cX8_send 22 = .ok (.invokevirtual 60, 3) := dk_182 0 60 (dk_at dksX8_send_1 0 rfl rfl)
theorem dX8_send_25 : decode cX8_send 25 = .ok (.aload_n 0, 1) := dk_42 (dk_at dksX8_send_1 3 rfl rfl)
theorem dX8_send_26 : decode cX8_send 26 = .ok (.iload_n 2, 1) := dk_28 (dk_at dksX8_send_1 4 rfl rfl)
theorem dX8_send_27 : decode cX8_send 27 = .ok (.invokevirtual 216, 3) := dk_182 0 216 (dk_at dksX8_send_1 5 rfl rfl)
theorem dX8_send_30 : decode cX8_send 30 = .ok (.iadd, 1) := dk_96 (dk_at dksX8_send_1 8 rfl rfl)
theorem dX8_send_31 : decode cX8_send 31 = .ok (.sipush 300, 3) := dk_17 1 44 (dk_at dksX8_send_1 9 rfl rfl)
theorem dX8_send_34 : decode cX8_send 34 = .ok (.if_icmp .le 7, 3) := dk_164 0 7 (dk_at dksX8_send_1 12 rfl rfl)
theorem dX8_send_37 : decode cX8_send 37 = .ok (.iconst 2, 1) := dk_5 (dk_at dksX8_send_1 15 rfl rfl)
theorem dX8_send_38 : decode cX8_send 38 = .ok (.goto 4, 3) := dk_167 0 4 (dk_at dksX8_send_1 16 rfl rfl)
theorem dX8_send_41 : decode cX8_send 41 = .ok (.iconst 0, 1) := dk_3 (dk_at dksX8_send_1 19 rfl rfl)
theorem dX8_send_42 : decode cX8_send 42 = .ok (.putfield 37, 3) := dk_181 0 37 (dk_at dksX8_send_1 20 rfl rfl)
theorem dX8_send_45 : decode cX8_send 45 = .ok (.aload_n 0, 1) := dk_42 (dk_at dksX8_send_1 23 rfl rfl)
theorem dX8_send_46 : decode cX8_send 46 = .ok (.getfield 37, 3) := dk_180 0 37 (dk_at dksX8_send_2 0 rfl rfl)
theorem dX8_send_49 : decode cX8_send 49 = .ok (.ifCond .le 5, 3) := dk_158 0 5 (dk_at dksX8_send_2 3 rfl rfl)
theorem dX8_send_52 : decode cX8_send 52 = .ok (.iconst 0, 1) := dk_3 (dk_at dksX8_send_2 6 rfl rfl)
theorem dX8_send_53 : decode cX8_send 53 = .ok (.ireturn, 1) := dk_172 (dk_at dksX8_send_2 7 rfl rfl)
theorem dX8_send_54 : decode cX8_send 54 = .ok (.aload_n 0, 1) := dk_42 (dk_at dksX8_send_2 8 rfl rfl)
theorem dX8_send_55 : decode cX8_send 55 = .ok (.invokevirtual 151, 3) := dk_182 0 151 (dk_at dksX8_send_2 9 rfl rfl)
theorem dX8_send_58 : decode cX8_send 58 = .ok (.aload_n 0, 1) := dk_42 (dk_at dksX8_send_2 12 rfl rfl)
theorem dX8_send_59 : decode cX8_send 59 = .ok (.iload_n 2, 1) := dk_28 (dk_at dksX8_send_2 13 rfl rfl)
theorem dX8_send_60 : decode cX8_send 60 = .ok (.invokevirtual 219, 3) := dk_182 0 219 (dk_at dksX8_send_2 14 rfl rfl)
theorem dX8_send_63 : decode cX8_send 63 = .ok (.istore_n 3, 1) := dk_62 (dk_at dksX8_send_2 17 rfl rfl)
theorem dX8_send_64 : decode cX8_send 64 = .ok (.aload_n 0, 1) := dk_42 (dk_at dksX8_send_2 18 rfl rfl)
theorem dX8_send_65 : decode cX8_send 65 = .ok (.getfield 7, 3) := dk_180 0 7 (dk_at dksX8_send_2 19 rfl rfl)
theorem dX8_send_68 : decode cX8_send 68 = .ok (.bipush 13, 2) := dk_16 13 (dk_at dksX8_send_2 22 rfl rfl)
theorem dX8_send_70 : decode cX8_send 70 = .ok (.iconst 2, 1) := dk_5 (dk_at dksX8_send_3 0 rfl rfl)
theorem dX8_send_71 : decode cX8_send 71 = .ok (.iload_n 1, 1) := dk_27 (dk_at dksX8_send_3 1 rfl rfl)
theorem dX8_send_72 : decode cX8_send 72 = .ok (.imul, 1) := dk_104 (dk_at dksX8_send_3 2 rfl rfl)
theorem dX8_send_73 : decode cX8_send 73 = .ok (.iadd, 1) := dk_96 (dk_at dksX8_send_3 3 rfl rfl)
theorem dX8_send_74 : decode cX8_send 74 = .ok (.dup2, 1) := dk_92 (dk_at dksX8_send_3 4 rfl rfl)
theorem dX8_send_75 : decode cX8_send 75 = .ok (.iaload, 1) := dk_46 (dk_at dksX8_send_3 5 rfl rfl)
theorem dX8_send_76 : decode cX8_send 76 = .ok (.aload_n 0, 1) := dk_42 (dk_at dksX8_send_3 6 rfl rfl)
theorem dX8_send_77 : decode cX8_send 77 = .ok (.iload_n 2, 1) := dk_28 (dk_at dksX8_send_3 7 rfl rfl)
theorem dX8_send_78 : decode cX8_send 78 = .ok (.invokevirtual 216, 3) := dk_182 0 216 (dk_at dksX8_send_3 8 rfl rfl)
theorem dX8_send_81 : decode cX8_send 81 = .ok (.iadd, 1) := dk_96 (dk_at dksX8_send_3 11 rfl rfl)
theorem dX8_send_82 : decode cX8_send 82 = .ok (.iastore, 1) := dk_79 (dk_at dksX8_send_3 12 rfl rfl)
theorem dX8_send_83 : decode cX8_send 83 = .ok (.aload_n 0, 1) := dk_42 (dk_at dksX8_send_3 13 rfl rfl)
theorem dX8_send_84 : decode cX8_send 84 = .ok (.getfield 7, 3) := dk_180 0 7 (dk_at dksX8_send_3 14 rfl rfl)
theorem dX8_send_87 : decode cX8_send 87 = .ok (.iconst 1, 1) := dk_4 (dk_at dksX8_send_3 17 rfl rfl)
theorem dX8_send_88 : decode cX8_send 88 = .ok (.dup2, 1) := dk_92 (dk_at dksX8_send_3 18 rfl rfl)
theorem dX8_send_89 : decode cX8_send 89 = .ok (.iaload, 1) := dk_46 (dk_at dksX8_send_3 19 rfl rfl)
theorem dX8_send_90 : decode cX8_send 90 = .ok (.iload_n 3, 1) := dk_29 (dk_at dksX8_send_3 20 rfl rfl)
theorem dX8_send_91 : decode cX8_send 91 = .ok (.iadd, 1) := dk_96 (dk_at dksX8_send_3 21 rfl rfl)
theorem dX8_send_92 : decode cX8_send 92 = .ok (.iastore, 1) := dk_79 (dk_at dksX8_send_3 22 rfl rfl)
theorem dX8_send_93 : decode cX8_send 93 = .ok (.aload_n 0, 1) := dk_42 (dk_at dksX8_send_3 23 rfl rfl)
theorem dX8_send_94 : decode cX8_send 94 = .ok (.getfield 7, 3) := dk_180 0 7 (dk_at dksX8_send_4 0 rfl rfl)
theorem dX8_send_97 : decode cX8_send 97 = .ok (.bipush 7, 2) := dk_16 7 (dk_at dksX8_send_4 3 rfl rfl)
theorem dX8_send_99 : decode cX8_send 99 = .ok (.dup2, 1) := dk_92 (dk_at dksX8_send_4 5 rfl rfl)
theorem dX8_send_100 : decode cX8_send 100 = .ok (.iaload, 1) := dk_46 (dk_at dksX8_send_4 6 rfl rfl)
theorem dX8_send_101 : decode cX8_send 101 = .ok (.aload_n 0, 1) := dk_42 (dk_at dksX8_send_4 7 rfl rfl)
theorem dX8_send_102 : decode cX8_send 102 = .ok (.iload_n 2, 1) := dk_28 (dk_at dksX8_send_4 8 rfl rfl)
theorem dX8_send_103 : decode cX8_send 103 = .ok (.invokevirtual 222, 3) := dk_182 0 222 (dk_at dksX8_send_4 9 rfl rfl)
theorem dX8_send_106 : decode cX8_send 106 = .ok (.iadd, 1) := dk_96 (dk_at dksX8_send_4 12 rfl rfl)
theorem dX8_send_107 : decode cX8_send 107 = .ok (.iastore, 1) := dk_79 (dk_at dksX8_send_4 13 rfl rfl)
theorem dX8_send_108 : decode cX8_send 108 = .ok (.aload_n 0, 1) := dk_42 (dk_at dksX8_send_4 14 rfl rfl)
theorem dX8_send_109 : decode cX8_send 109 = .ok (.sipush 201, 3) := dk_17 0 201 (dk_at dksX8_send_4 15 rfl rfl)
theorem dX8_send_112 : decode cX8_send 112 = .ok (.iconst 4, 1) := dk_7 (dk_at dksX8_send_4 18 rfl rfl)
theorem dX8_send_113 : decode cX8_send 113 = .ok (.iload_n 2, 1) := dk_28 (dk_at dksX8_send_4 19 rfl rfl)
theorem dX8_send_114 : decode cX8_send 114 = .ok (.bipush 6, 2) := dk_16 6 (dk_at dksX8_send_4 20 rfl rfl)
theorem dX8_send_116 : decode cX8_send 116 = .ok (.invokevirtual 90, 3) := dk_182 0 90 (dk_at dksX8_send_5 0 rfl rfl)
theorem dX8_send_119 : decode cX8_send 119 = .ok (.iload_n 3, 1) := dk_29 (dk_at dksX8_send_5 3 rfl rfl)
theorem dX8_send_120 : decode cX8_send 120 = .ok (.ireturn, 1) := dk_172 (dk_at dksX8_send_5 4 rfl rfl)
abbrev cX8_isReam : ByteArray := prog_26_method_41_code
def yX8_isReam : MethodName := ⟨RX8, "isReam", "(I)Z"⟩
def dkwX8_isReam_0 : List UInt8 := [27, 3, 42, 180, 0, 7, 16, 6, 46, 4, 100, 184, 0, 48, 172]
abbrev dktX8_isReam_0 : List UInt8 := dkwX8_isReam_0 ++ []
theorem dksX8_isReam_0 : cX8_isReam.data.toList.drop 0 = dktX8_isReam_0 := by decide +kernel
theorem dX8_isReam_0 : decode cX8_isReam 0 = .ok (.iload_n 1, 1) := dk_27 (dk_at dksX8_isReam_0 0 rfl rfl)
theorem dX8_isReam_1 : decode cX8_isReam 1 = .ok (.iconst 0, 1) := dk_3 (dk_at dksX8_isReam_0 1 rfl rfl)
theorem dX8_isReam_2 : decode cX8_isReam 2 = .ok (.aload_n 0, 1) := dk_42 (dk_at dksX8_isReam_0 2 rfl rfl)
theorem dX8_isReam_3 : decode cX8_isReam 3 = .ok (.getfield 7, 3) := dk_180 0 7 (dk_at dksX8_isReam_0 3 rfl rfl)
theorem dX8_isReam_6 : decode cX8_isReam 6 = .ok (.bipush 6, 2) := dk_16 6 (dk_at dksX8_isReam_0 6 rfl rfl)
theorem dX8_isReam_8 : decode cX8_isReam 8 = .ok (.iaload, 1) := dk_46 (dk_at dksX8_isReam_0 8 rfl rfl)
theorem dX8_isReam_9 : decode cX8_isReam 9 = .ok (.iconst 1, 1) := dk_4 (dk_at dksX8_isReam_0 9 rfl rfl)
theorem dX8_isReam_10 : decode cX8_isReam 10 = .ok (.isub, 1) := dk_100 (dk_at dksX8_isReam_0 10 rfl rfl)
theorem dX8_isReam_11 : decode cX8_isReam 11 = .ok (.invokestatic 48, 3) := dk_184 0 48 (dk_at dksX8_isReam_0 11 rfl rfl)
theorem dX8_isReam_14 : decode cX8_isReam 14 = .ok (.ireturn, 1) := dk_172 (dk_at dksX8_isReam_0 14 rfl rfl)
abbrev cX8_tollOf : ByteArray := prog_26_method_74_code
def yX8_tollOf : MethodName := ⟨RX8, "tollOf", "(I)I"⟩
def dkwX8_tollOf_0 : List UInt8 := [42, 27, 6, 182, 0, 113, 16, 20, 162, 0, 7, 5, 167, 0, 4, 7, 172]
abbrev dktX8_tollOf_0 : List UInt8 := dkwX8_tollOf_0 ++ []
theorem dksX8_tollOf_0 : cX8_tollOf.data.toList.drop 0 = dktX8_tollOf_0 := by decide +kernel
theorem dX8_tollOf_0 : decode cX8_tollOf 0 = .ok (.aload_n 0, 1) := dk_42 (dk_at dksX8_tollOf_0 0 rfl rfl)
theorem dX8_tollOf_1 : decode cX8_tollOf 1 = .ok (.iload_n 1, 1) := dk_27 (dk_at dksX8_tollOf_0 1 rfl rfl)
theorem dX8_tollOf_2 : decode cX8_tollOf 2 = .ok (.iconst 3, 1) := dk_6 (dk_at dksX8_tollOf_0 2 rfl rfl)
theorem dX8_tollOf_3 : decode cX8_tollOf 3 = .ok (.invokevirtual 113, 3) := dk_182 0 113 (dk_at dksX8_tollOf_0 3 rfl rfl)
theorem dX8_tollOf_6 : decode cX8_tollOf 6 = .ok (.bipush 20, 2) := dk_16 20 (dk_at dksX8_tollOf_0 6 rfl rfl)
theorem dX8_tollOf_8 : decode cX8_tollOf 8 = .ok (.if_icmp .ge 7, 3) := dk_162 0 7 (dk_at dksX8_tollOf_0 8 rfl rfl)
theorem dX8_tollOf_11 : decode cX8_tollOf 11 = .ok (.iconst 2, 1) := dk_5 (dk_at dksX8_tollOf_0 11 rfl rfl)
theorem dX8_tollOf_12 : decode cX8_tollOf 12 = .ok (.goto 4, 3) := dk_167 0 4 (dk_at dksX8_tollOf_0 12 rfl rfl)
theorem dX8_tollOf_15 : decode cX8_tollOf 15 = .ok (.iconst 4, 1) := dk_7 (dk_at dksX8_tollOf_0 15 rfl rfl)
theorem dX8_tollOf_16 : decode cX8_tollOf 16 = .ok (.ireturn, 1) := dk_172 (dk_at dksX8_tollOf_0 16 rfl rfl)
abbrev cX8_ream : ByteArray := prog_26_method_42_code
def yX8_ream : MethodName := ⟨RX8, "ream", "(II)I"⟩
def dkwX8_ream_0 : List UInt8 := [42, 180, 0, 7, 17, 0, 201, 7, 27, 104, 96, 28, 96, 46, 172]
abbrev dktX8_ream_0 : List UInt8 := dkwX8_ream_0 ++ []
theorem dksX8_ream_0 : cX8_ream.data.toList.drop 0 = dktX8_ream_0 := by decide +kernel
theorem dX8_ream_0 : decode cX8_ream 0 = .ok (.aload_n 0, 1) := dk_42 (dk_at dksX8_ream_0 0 rfl rfl)
theorem dX8_ream_1 : decode cX8_ream 1 = .ok (.getfield 7, 3) := dk_180 0 7 (dk_at dksX8_ream_0 1 rfl rfl)
theorem dX8_ream_4 : decode cX8_ream 4 = .ok (.sipush 201, 3) := dk_17 0 201 (dk_at dksX8_ream_0 4 rfl rfl)
theorem dX8_ream_7 : decode cX8_ream 7 = .ok (.iconst 4, 1) := dk_7 (dk_at dksX8_ream_0 7 rfl rfl)
theorem dX8_ream_8 : decode cX8_ream 8 = .ok (.iload_n 1, 1) := dk_27 (dk_at dksX8_ream_0 8 rfl rfl)
theorem dX8_ream_9 : decode cX8_ream 9 = .ok (.imul, 1) := dk_104 (dk_at dksX8_ream_0 9 rfl rfl)
theorem dX8_ream_10 : decode cX8_ream 10 = .ok (.iadd, 1) := dk_96 (dk_at dksX8_ream_0 10 rfl rfl)
theorem dX8_ream_11 : decode cX8_ream 11 = .ok (.iload_n 2, 1) := dk_28 (dk_at dksX8_ream_0 11 rfl rfl)
theorem dX8_ream_12 : decode cX8_ream 12 = .ok (.iadd, 1) := dk_96 (dk_at dksX8_ream_0 12 rfl rfl)
theorem dX8_ream_13 : decode cX8_ream 13 = .ok (.iaload, 1) := dk_46 (dk_at dksX8_ream_0 13 rfl rfl)
theorem dX8_ream_14 : decode cX8_ream 14 = .ok (.ireturn, 1) := dk_172 (dk_at dksX8_ream_0 14 rfl rfl)
abbrev cX8_price : ByteArray := prog_26_method_43_code
def yX8_price : MethodName := ⟨RX8, "price", "(I)I"⟩
def dkwX8_price_3 : List UInt8 := [6, 182, 0, 113, 104, 16, 20, 108, 172]
abbrev dktX8_price_3 : List UInt8 := dkwX8_price_3 ++ []
def dkwX8_price_2 : List UInt8 := [108, 167, 0, 17, 29, 4, 160, 0, 8, 21, 4, 167, 0, 7, 21, 4, 5, 108, 54, 5, 21, 5, 42, 27]
abbrev dktX8_price_2 : List UInt8 := dkwX8_price_2 ++ dktX8_price_3
def dkwX8_price_1 : List UInt8 := [4, 160, 0, 9, 17, 0, 150, 167, 0, 6, 17, 1, 4, 54, 4, 29, 154, 0, 12, 21, 4, 6, 104, 5]
abbrev dktX8_price_1 : List UInt8 := dkwX8_price_1 ++ dktX8_price_2
def dkwX8_price_0 : List UInt8 := [42, 27, 4, 182, 0, 113, 61, 42, 27, 5, 182, 0, 113, 62, 28, 154, 0, 8, 16, 90, 167, 0, 17, 28]
abbrev dktX8_price_0 : List UInt8 := dkwX8_price_0 ++ dktX8_price_1
theorem dksX8_price_0 : cX8_price.data.toList.drop 0 = dktX8_price_0 := by decide +kernel
theorem dksX8_price_1 : cX8_price.data.toList.drop 24 = dktX8_price_1 := dk_seg dksX8_price_0 24 rfl rfl
theorem dksX8_price_2 : cX8_price.data.toList.drop 48 = dktX8_price_2 := dk_seg dksX8_price_1 24 rfl rfl
theorem dksX8_price_3 : cX8_price.data.toList.drop 72 = dktX8_price_3 := dk_seg dksX8_price_2 24 rfl rfl
theorem dX8_price_0 : decode cX8_price 0 = .ok (.aload_n 0, 1) := dk_42 (dk_at dksX8_price_0 0 rfl rfl)
theorem dX8_price_1 : decode cX8_price 1 = .ok (.iload_n 1, 1) := dk_27 (dk_at dksX8_price_0 1 rfl rfl)
theorem dX8_price_2 : decode cX8_price 2 = .ok (.iconst 1, 1) := dk_4 (dk_at dksX8_price_0 2 rfl rfl)
theorem dX8_price_3 : decode cX8_price 3 = .ok (.invokevirtual 113, 3) := dk_182 0 113 (dk_at dksX8_price_0 3 rfl rfl)
theorem dX8_price_6 : decode cX8_price 6 = .ok (.istore_n 2, 1) := dk_61 (dk_at dksX8_price_0 6 rfl rfl)
theorem dX8_price_7 : decode cX8_price 7 = .ok (.aload_n 0, 1) := dk_42 (dk_at dksX8_price_0 7 rfl rfl)
theorem dX8_price_8 : decode cX8_price 8 = .ok (.iload_n 1, 1) := dk_27 (dk_at dksX8_price_0 8 rfl rfl)
theorem dX8_price_9 : decode cX8_price 9 = .ok (.iconst 2, 1) := dk_5 (dk_at dksX8_price_0 9 rfl rfl)
theorem dX8_price_10 : decode cX8_price 10 = .ok (.invokevirtual 113, 3) := dk_182 0 113 (dk_at dksX8_price_0 10 rfl rfl)
theorem dX8_price_13 : decode cX8_price 13 = .ok (.istore_n 3, 1) := dk_62 (dk_at dksX8_price_0 13 rfl rfl)
theorem dX8_price_14 : decode cX8_price 14 = .ok (.iload_n 2, 1) := dk_28 (dk_at dksX8_price_0 14 rfl rfl)
theorem dX8_price_15 : decode cX8_price 15 = .ok (.ifCond .ne 8, 3) := dk_154 0 8 (dk_at dksX8_price_0 15 rfl rfl)
theorem dX8_price_18 : decode cX8_price 18 = .ok (.bipush 90, 2) := dk_16 90 (dk_at dksX8_price_0 18 rfl rfl)
theorem dX8_price_20 : decode cX8_price 20 = .ok (.goto 17, 3) := dk_167 0 17 (dk_at dksX8_price_0 20 rfl rfl)
theorem dX8_price_23 : decode cX8_price 23 = .ok (.iload_n 2, 1) := dk_28 (dk_at dksX8_price_0 23 rfl rfl)
theorem dX8_price_24 : decode cX8_price 24 = .ok (.iconst 1, 1) := dk_4 (dk_at dksX8_price_1 0 rfl rfl)
theorem dX8_price_25 : decode cX8_price 25 = .ok (.if_icmp .ne 9, 3) := dk_160 0 9 (dk_at dksX8_price_1 1 rfl rfl)
theorem dX8_price_28 : decode cX8_price 28 = .ok (.sipush 150, 3) := dk_17 0 150 (dk_at dksX8_price_1 4 rfl rfl)
theorem dX8_price_31 : decode cX8_price 31 = .ok (.goto 6, 3) := dk_167 0 6 (dk_at dksX8_price_1 7 rfl rfl)
theorem dX8_price_34 : decode cX8_price 34 = .ok (.sipush 260, 3) := dk_17 1 4 (dk_at dksX8_price_1 10 rfl rfl)
theorem dX8_price_37 : decode cX8_price 37 = .ok (.istore 4, 2) := dk_54 4 (dk_at dksX8_price_1 13 rfl rfl)
theorem dX8_price_39 : decode cX8_price 39 = .ok (.iload_n 3, 1) := dk_29 (dk_at dksX8_price_1 15 rfl rfl)
theorem dX8_price_40 : decode cX8_price 40 = .ok (.ifCond .ne 12, 3) := dk_154 0 12 (dk_at dksX8_price_1 16 rfl rfl)
theorem dX8_price_43 : decode cX8_price 43 = .ok (.iload 4, 2) := dk_21 4 (dk_at dksX8_price_1 19 rfl rfl)
theorem dX8_price_45 : decode cX8_price 45 = .ok (.iconst 3, 1) := dk_6 (dk_at dksX8_price_1 21 rfl rfl)
theorem dX8_price_46 : decode cX8_price 46 = .ok (.imul, 1) := dk_104 (dk_at dksX8_price_1 22 rfl rfl)
theorem dX8_price_47 : decode cX8_price 47 = .ok (.iconst 2, 1) := dk_5 (dk_at dksX8_price_1 23 rfl rfl)
theorem dX8_price_48 : decode cX8_price 48 = .ok (.idiv, 1) := dk_108 (dk_at dksX8_price_2 0 rfl rfl)
theorem dX8_price_49 : decode cX8_price 49 = .ok (.goto 17, 3) := dk_167 0 17 (dk_at dksX8_price_2 1 rfl rfl)
theorem dX8_price_52 : decode cX8_price 52 = .ok (.iload_n 3, 1) := dk_29 (dk_at dksX8_price_2 4 rfl rfl)
theorem dX8_price_53 : decode cX8_price 53 = .ok (.iconst 1, 1) := dk_4 (dk_at dksX8_price_2 5 rfl rfl)
theorem dX8_price_54 : decode cX8_price 54 = .ok (.if_icmp .ne 8, 3) := dk_160 0 8 (dk_at dksX8_price_2 6 rfl rfl)
theorem dX8_price_57 : decode cX8_price 57 = .ok (.iload 4, 2) := dk_21 4 (dk_at dksX8_price_2 9 rfl rfl)
theorem dX8_price_59 : decode cX8_price 59 = .ok (.goto 7, 3) := dk_167 0 7 (dk_at dksX8_price_2 11 rfl rfl)
theorem dX8_price_62 : decode cX8_price 62 = .ok (.iload 4, 2) := dk_21 4 (dk_at dksX8_price_2 14 rfl rfl)
theorem dX8_price_64 : decode cX8_price 64 = .ok (.iconst 2, 1) := dk_5 (dk_at dksX8_price_2 16 rfl rfl)
theorem dX8_price_65 : decode cX8_price 65 = .ok (.idiv, 1) := dk_108 (dk_at dksX8_price_2 17 rfl rfl)
theorem dX8_price_66 : decode cX8_price 66 = .ok (.istore 5, 2) := dk_54 5 (dk_at dksX8_price_2 18 rfl rfl)
theorem dX8_price_68 : decode cX8_price 68 = .ok (.iload 5, 2) := dk_21 5 (dk_at dksX8_price_2 20 rfl rfl)
theorem dX8_price_70 : decode cX8_price 70 = .ok (.aload_n 0, 1) := dk_42 (dk_at dksX8_price_2 22 rfl rfl)
theorem dX8_price_71 : decode cX8_price 71 = .ok (.iload_n 1, 1) := dk_27 (dk_at dksX8_price_2 23 rfl rfl)
theorem dX8_price_72 : decode cX8_price 72 = .ok (.iconst 3, 1) := dk_6 (dk_at dksX8_price_3 0 rfl rfl)
theorem dX8_price_73 : decode cX8_price 73 = .ok (.invokevirtual 113, 3) := dk_182 0 113 (dk_at dksX8_price_3 1 rfl rfl)
theorem dX8_price_76 : decode cX8_price 76 = .ok (.imul, 1) := dk_104 (dk_at dksX8_price_3 4 rfl rfl)
theorem dX8_price_77 : decode cX8_price 77 = .ok (.bipush 20, 2) := dk_16 20 (dk_at dksX8_price_3 5 rfl rfl)
theorem dX8_price_79 : decode cX8_price 79 = .ok (.idiv, 1) := dk_108 (dk_at dksX8_price_3 7 rfl rfl)
theorem dX8_price_80 : decode cX8_price 80 = .ok (.ireturn, 1) := dk_172 (dk_at dksX8_price_3 8 rfl rfl)
abbrev cX8_unitsOf : ByteArray := prog_26_method_44_code
def yX8_unitsOf : MethodName := ⟨RX8, "unitsOf", "(I)I"⟩
def dkwX8_unitsOf_0 : List UInt8 := [42, 27, 6, 182, 0, 113, 16, 24, 104, 42, 27, 4, 182, 0, 113, 184, 0, 97, 104, 172]
abbrev dktX8_unitsOf_0 : List UInt8 := dkwX8_unitsOf_0 ++ []
theorem dksX8_unitsOf_0 : cX8_unitsOf.data.toList.drop 0 = dktX8_unitsOf_0 := by decide +kernel
theorem dX8_unitsOf_0 : decode cX8_unitsOf 0 = .ok (.aload_n 0, 1) := dk_42 (dk_at dksX8_unitsOf_0 0 rfl rfl)
theorem dX8_unitsOf_1 : decode cX8_unitsOf 1 = .ok (.iload_n 1, 1) := dk_27 (dk_at dksX8_unitsOf_0 1 rfl rfl)
theorem dX8_unitsOf_2 : decode cX8_unitsOf 2 = .ok (.iconst 3, 1) := dk_6 (dk_at dksX8_unitsOf_0 2 rfl rfl)
theorem dX8_unitsOf_3 : decode cX8_unitsOf 3 = .ok (.invokevirtual 113, 3) := dk_182 0 113 (dk_at dksX8_unitsOf_0 3 rfl rfl)
theorem dX8_unitsOf_6 : decode cX8_unitsOf 6 = .ok (.bipush 24, 2) := dk_16 24 (dk_at dksX8_unitsOf_0 6 rfl rfl)
theorem dX8_unitsOf_8 : decode cX8_unitsOf 8 = .ok (.imul, 1) := dk_104 (dk_at dksX8_unitsOf_0 8 rfl rfl)
theorem dX8_unitsOf_9 : decode cX8_unitsOf 9 = .ok (.aload_n 0, 1) := dk_42 (dk_at dksX8_unitsOf_0 9 rfl rfl)
theorem dX8_unitsOf_10 : decode cX8_unitsOf 10 = .ok (.iload_n 1, 1) := dk_27 (dk_at dksX8_unitsOf_0 10 rfl rfl)
theorem dX8_unitsOf_11 : decode cX8_unitsOf 11 = .ok (.iconst 1, 1) := dk_4 (dk_at dksX8_unitsOf_0 11 rfl rfl)
theorem dX8_unitsOf_12 : decode cX8_unitsOf 12 = .ok (.invokevirtual 113, 3) := dk_182 0 113 (dk_at dksX8_unitsOf_0 12 rfl rfl)
theorem dX8_unitsOf_15 : decode cX8_unitsOf 15 = .ok (.invokestatic 97, 3) := dk_184 0 97 (dk_at dksX8_unitsOf_0 15 rfl rfl)
theorem dX8_unitsOf_18 : decode cX8_unitsOf 18 = .ok (.imul, 1) := dk_104 (dk_at dksX8_unitsOf_0 18 rfl rfl)
theorem dX8_unitsOf_19 : decode cX8_unitsOf 19 = .ok (.ireturn, 1) := dk_172 (dk_at dksX8_unitsOf_0 19 rfl rfl)
abbrev cX8_pass : ByteArray := prog_26_method_76_code
def yX8_pass : MethodName := ⟨RX8, "pass", "(I)I"⟩
def dkwX8_pass_2 : List UInt8 := [182, 0, 228, 172]
abbrev dktX8_pass_2 : List UInt8 := dkwX8_pass_2 ++ []
def dkwX8_pass_1 : List UInt8 := [167, 0, 4, 5, 181, 0, 37, 42, 180, 0, 37, 158, 0, 5, 3, 172, 42, 182, 0, 151, 42, 27]
abbrev dktX8_pass_1 : List UInt8 := dkwX8_pass_1 ++ dktX8_pass_2
def dkwX8_pass_0 : List UInt8 := [42, 27, 4, 16, 20, 184, 0, 48, 154, 0, 7, 4, 167, 0, 16, 42, 27, 182, 0, 225, 153, 0, 7, 3]
abbrev dktX8_pass_0 : List UInt8 := dkwX8_pass_0 ++ dktX8_pass_1
theorem dksX8_pass_0 : cX8_pass.data.toList.drop 0 = dktX8_pass_0 := by decide +kernel
theorem dksX8_pass_1 : cX8_pass.data.toList.drop 24 = dktX8_pass_1 := dk_seg dksX8_pass_0 24 rfl rfl
theorem dksX8_pass_2 : cX8_pass.data.toList.drop 46 = dktX8_pass_2 := dk_seg dksX8_pass_1 22 rfl rfl
theorem dX8_pass_0 : decode cX8_pass 0 = .ok (.aload_n 0, 1) := dk_42 (dk_at dksX8_pass_0 0 rfl rfl)
theorem dX8_pass_1 : decode cX8_pass 1 = .ok (.iload_n 1, 1) := dk_27 (dk_at dksX8_pass_0 1 rfl rfl)
theorem dX8_pass_2 : decode cX8_pass 2 = .ok (.iconst 1, 1) := dk_4 (dk_at dksX8_pass_0 2 rfl rfl)
theorem dX8_pass_3 : decode cX8_pass 3 = .ok (.bipush 20, 2) := dk_16 20 (dk_at dksX8_pass_0 3 rfl rfl)
theorem dX8_pass_5 : decode cX8_pass 5 = .ok (.invokestatic 48, 3) := dk_184 0 48 (dk_at dksX8_pass_0 5 rfl rfl)
theorem dX8_pass_8 : decode cX8_pass 8 = .ok (.ifCond .ne 7, 3) := dk_154 0 7 (dk_at dksX8_pass_0 8 rfl rfl)
theorem dX8_pass_11 : decode cX8_pass 11 = .ok (.iconst 1, 1) := dk_4 (dk_at dksX8_pass_0 11 rfl rfl)
theorem dX8_pass_12 : decode cX8_pass 12 = .ok (.goto 16, 3) := dk_167 0 16 (dk_at dksX8_pass_0 12 rfl rfl)
theorem dX8_pass_15 : decode cX8_pass 15 = .ok (.aload_n 0, 1) := dk_42 (dk_at dksX8_pass_0 15 rfl rfl)
theorem dX8_pass_16 : decode cX8_pass 16 = .ok (.iload_n 1, 1) := dk_27 (dk_at dksX8_pass_0 16 rfl rfl)
theorem dX8_pass_17 : decode cX8_pass 17 = .ok (.invokevirtual 225, 3) := dk_182 0 225 (dk_at dksX8_pass_0 17 rfl rfl)
theorem dX8_pass_20 : decode cX8_pass 20 = .ok (.ifCond .eq 7, 3) := dk_153 0 7 (dk_at dksX8_pass_0 20 rfl rfl)
theorem dX8_pass_23 : decode cX8_pass 23 = .ok (.iconst 0, 1) := dk_3 (dk_at dksX8_pass_0 23 rfl rfl)
theorem dX8_pass_24 : decode cX8_pass 24 = .ok (.goto 4, 3) := dk_167 0 4 (dk_at dksX8_pass_1 0 rfl rfl)
theorem dX8_pass_27 : decode cX8_pass 27 = .ok (.iconst 2, 1) := dk_5 (dk_at dksX8_pass_1 3 rfl rfl)
theorem dX8_pass_28 : decode cX8_pass 28 = .ok (.putfield 37, 3) := dk_181 0 37 (dk_at dksX8_pass_1 4 rfl rfl)
theorem dX8_pass_31 : decode cX8_pass 31 = .ok (.aload_n 0, 1) := dk_42 (dk_at dksX8_pass_1 7 rfl rfl)
theorem dX8_pass_32 : decode cX8_pass 32 = .ok (.getfield 37, 3) := dk_180 0 37 (dk_at dksX8_pass_1 8 rfl rfl)
theorem dX8_pass_35 : decode cX8_pass 35 = .ok (.ifCond .le 5, 3) := dk_158 0 5 (dk_at dksX8_pass_1 11 rfl rfl)
theorem dX8_pass_38 : decode cX8_pass 38 = .ok (.iconst 0, 1) := dk_3 (dk_at dksX8_pass_1 14 rfl rfl)
theorem dX8_pass_39 : decode cX8_pass 39 = .ok (.ireturn, 1) := dk_172 (dk_at dksX8_pass_1 15 rfl rfl)
theorem dX8_pass_40 : decode cX8_pass 40 = .ok (.aload_n 0, 1) := dk_42 (dk_at dksX8_pass_1 16 rfl rfl)
theorem dX8_pass_41 : decode cX8_pass 41 = .ok (.invokevirtual 151, 3) := dk_182 0 151 (dk_at dksX8_pass_1 17 rfl rfl)
theorem dX8_pass_44 : decode cX8_pass 44 = .ok (.aload_n 0, 1) := dk_42 (dk_at dksX8_pass_1 20 rfl rfl)
theorem dX8_pass_45 : decode cX8_pass 45 = .ok (.iload_n 1, 1) := dk_27 (dk_at dksX8_pass_1 21 rfl rfl)
theorem dX8_pass_46 : decode cX8_pass 46 = .ok (.invokevirtual 228, 3) := dk_182 0 228 (dk_at dksX8_pass_2 0 rfl rfl)
theorem dX8_pass_49 : decode cX8_pass 49 = .ok (.ireturn, 1) := dk_172 (dk_at dksX8_pass_2 3 rfl rfl)
abbrev cX8_canPass : ByteArray := prog_26_method_50_code
def yX8_canPass : MethodName := ⟨RX8, "canPass", "(I)Z"⟩
def dkwX8_canPass_0 : List UInt8 := [42, 180, 0, 7, 3, 46, 27, 96, 17, 3, 231, 163, 0, 7, 4, 167, 0, 4, 3, 172]
abbrev dktX8_canPass_0 : List UInt8 := dkwX8_canPass_0 ++ []
theorem dksX8_canPass_0 : cX8_canPass.data.toList.drop 0 = dktX8_canPass_0 := by decide +kernel
theorem dX8_canPass_0 : decode cX8_canPass 0 = .ok (.aload_n 0, 1) := dk_42 (dk_at dksX8_canPass_0 0 rfl rfl)
theorem dX8_canPass_1 : decode cX8_canPass 1 = .ok (.getfield 7, 3) := dk_180 0 7 (dk_at dksX8_canPass_0 1 rfl rfl)
theorem dX8_canPass_4 : decode cX8_canPass 4 = .ok (.iconst 0, 1) := dk_3 (dk_at dksX8_canPass_0 4 rfl rfl)
theorem dX8_canPass_5 : decode cX8_canPass 5 = .ok (.iaload, 1) := dk_46 (dk_at dksX8_canPass_0 5 rfl rfl)
theorem dX8_canPass_6 : decode cX8_canPass 6 = .ok (.iload_n 1, 1) := dk_27 (dk_at dksX8_canPass_0 6 rfl rfl)
theorem dX8_canPass_7 : decode cX8_canPass 7 = .ok (.iadd, 1) := dk_96 (dk_at dksX8_canPass_0 7 rfl rfl)
theorem dX8_canPass_8 : decode cX8_canPass 8 = .ok (.sipush 999, 3) := dk_17 3 231 (dk_at dksX8_canPass_0 8 rfl rfl)
theorem dX8_canPass_11 : decode cX8_canPass 11 = .ok (.if_icmp .gt 7, 3) := dk_163 0 7 (dk_at dksX8_canPass_0 11 rfl rfl)
theorem dX8_canPass_14 : decode cX8_canPass 14 = .ok (.iconst 1, 1) := dk_4 (dk_at dksX8_canPass_0 14 rfl rfl)
theorem dX8_canPass_15 : decode cX8_canPass 15 = .ok (.goto 4, 3) := dk_167 0 4 (dk_at dksX8_canPass_0 15 rfl rfl)
theorem dX8_canPass_18 : decode cX8_canPass 18 = .ok (.iconst 0, 1) := dk_3 (dk_at dksX8_canPass_0 18 rfl rfl)
theorem dX8_canPass_19 : decode cX8_canPass 19 = .ok (.ireturn, 1) := dk_172 (dk_at dksX8_canPass_0 19 rfl rfl)
abbrev cX8_passes : ByteArray := prog_26_method_51_code
def yX8_passes : MethodName := ⟨RX8, "passes", "(I)I"⟩
def dkwX8_passes_0 : List UInt8 := [3, 61, 3, 62, 29, 27, 162, 0, 16, 28, 42, 182, 0, 132, 96, 61, 132, 3, 1, 167, 255, 241, 28, 172]
abbrev dktX8_passes_0 : List UInt8 := dkwX8_passes_0 ++ []
theorem dksX8_passes_0 : cX8_passes.data.toList.drop 0 = dktX8_passes_0 := by decide +kernel
theorem dX8_passes_0 : decode cX8_passes 0 = .ok (.iconst 0, 1) := dk_3 (dk_at dksX8_passes_0 0 rfl rfl)
theorem dX8_passes_1 : decode cX8_passes 1 = .ok (.istore_n 2, 1) := dk_61 (dk_at dksX8_passes_0 1 rfl rfl)
theorem dX8_passes_2 : decode cX8_passes 2 = .ok (.iconst 0, 1) := dk_3 (dk_at dksX8_passes_0 2 rfl rfl)
theorem dX8_passes_3 : decode cX8_passes 3 = .ok (.istore_n 3, 1) := dk_62 (dk_at dksX8_passes_0 3 rfl rfl)
theorem dX8_passes_4 : decode cX8_passes 4 = .ok (.iload_n 3, 1) := dk_29 (dk_at dksX8_passes_0 4 rfl rfl)
theorem dX8_passes_5 : decode cX8_passes 5 = .ok (.iload_n 1, 1) := dk_27 (dk_at dksX8_passes_0 5 rfl rfl)
theorem dX8_passes_6 : decode cX8_passes 6 = .ok (.if_icmp .ge 16, 3) := dk_162 0 16 (dk_at dksX8_passes_0 6 rfl rfl)
theorem dX8_passes_9 : decode cX8_passes 9 = .ok (.iload_n 2, 1) := dk_28 (dk_at dksX8_passes_0 9 rfl rfl)
theorem dX8_passes_10 : decode cX8_passes 10 = .ok (.aload_n 0, 1) := dk_42 (dk_at dksX8_passes_0 10 rfl rfl)
theorem dX8_passes_11 : decode cX8_passes 11 = .ok (.invokevirtual 132, 3) := dk_182 0 132 (dk_at dksX8_passes_0 11 rfl rfl)
theorem dX8_passes_14 : decode cX8_passes 14 = .ok (.iadd, 1) := dk_96 (dk_at dksX8_passes_0 14 rfl rfl)
theorem dX8_passes_15 : decode cX8_passes 15 = .ok (.istore_n 2, 1) := dk_61 (dk_at dksX8_passes_0 15 rfl rfl)
theorem dX8_passes_16 : decode cX8_passes 16 = .ok (.iinc 3 1, 3) := dk_132 3 1 (dk_at dksX8_passes_0 16 rfl rfl)
theorem dX8_passes_19 : decode cX8_passes 19 = .ok (.goto (-15), 3) := dk_167 255 241 (dk_at dksX8_passes_0 19 rfl rfl)
theorem dX8_passes_22 : decode cX8_passes 22 = .ok (.iload_n 2, 1) := dk_28 (dk_at dksX8_passes_0 22 rfl rfl)
theorem dX8_passes_23 : decode cX8_passes 23 = .ok (.ireturn, 1) := dk_172 (dk_at dksX8_passes_0 23 rfl rfl)
abbrev cX8_passesDay : ByteArray := prog_26_method_49_code
def yX8_passesDay : MethodName := ⟨RX8, "passesDay", "()I"⟩
def dkwX8_passesDay_2 : List UInt8 := [28, 104, 96, 7, 96, 92, 46, 4, 96, 79, 132, 2, 1, 167, 255, 225, 27, 172]
abbrev dktX8_passesDay_2 : List UInt8 := dkwX8_passesDay_2 ++ []
def dkwX8_passesDay_1 : List UInt8 := [182, 0, 129, 60, 3, 61, 28, 42, 180, 0, 7, 8, 46, 162, 0, 27, 42, 180, 0, 7, 17, 0, 141, 8]
abbrev dktX8_passesDay_1 : List UInt8 := dkwX8_passesDay_1 ++ dktX8_passesDay_2
def dkwX8_passesDay_0 : List UInt8 := [42, 180, 0, 7, 3, 92, 46, 4, 96, 79, 42, 182, 0, 119, 42, 42, 182, 0, 122, 181, 0, 126, 42]
abbrev dktX8_passesDay_0 : List UInt8 := dkwX8_passesDay_0 ++ dktX8_passesDay_1
theorem dksX8_passesDay_0 : cX8_passesDay.data.toList.drop 0 = dktX8_passesDay_0 := by decide +kernel
theorem dksX8_passesDay_1 : cX8_passesDay.data.toList.drop 23 = dktX8_passesDay_1 := dk_seg dksX8_passesDay_0 23 rfl rfl
theorem dksX8_passesDay_2 : cX8_passesDay.data.toList.drop 47 = dktX8_passesDay_2 := dk_seg dksX8_passesDay_1 24 rfl rfl
theorem dX8_passesDay_0 : decode cX8_passesDay 0 = .ok (.aload_n 0, 1) := dk_42 (dk_at dksX8_passesDay_0 0 rfl rfl)
theorem dX8_passesDay_1 : decode cX8_passesDay 1 = .ok (.getfield 7, 3) := dk_180 0 7 (dk_at dksX8_passesDay_0 1 rfl rfl)
theorem dX8_passesDay_4 : decode cX8_passesDay 4 = .ok (.iconst 0, 1) := dk_3 (dk_at dksX8_passesDay_0 4 rfl rfl)
theorem dX8_passesDay_5 : decode cX8_passesDay 5 = .ok (.dup2, 1) := dk_92 (dk_at dksX8_passesDay_0 5 rfl rfl)
theorem dX8_passesDay_6 : decode cX8_passesDay 6 = .ok (.iaload, 1) := dk_46 (dk_at dksX8_passesDay_0 6 rfl rfl)
theorem dX8_passesDay_7 : decode cX8_passesDay 7 = .ok (.iconst 1, 1) := dk_4 (dk_at dksX8_passesDay_0 7 rfl rfl)
theorem dX8_passesDay_8 : decode cX8_passesDay 8 = .ok (.iadd, 1) := dk_96 (dk_at dksX8_passesDay_0 8 rfl rfl)
theorem dX8_passesDay_9 : decode cX8_passesDay 9 = .ok (.iastore, 1) := dk_79 (dk_at dksX8_passesDay_0 9 rfl rfl)
theorem dX8_passesDay_10 : decode cX8_passesDay 10 = .ok (.aload_n 0, 1) := dk_42 (dk_at dksX8_passesDay_0 10 rfl rfl)
theorem dX8_passesDay_11 : decode cX8_passesDay 11 = .ok (.invokevirtual 119, 3) := dk_182 0 119 (dk_at dksX8_passesDay_0 11 rfl rfl)
theorem dX8_passesDay_14 : decode cX8_passesDay 14 = .ok (.aload_n 0, 1) := dk_42 (dk_at dksX8_passesDay_0 14 rfl rfl)
theorem dX8_passesDay_15 : decode cX8_passesDay 15 = .ok (.aload_n 0, 1) := dk_42 (dk_at dksX8_passesDay_0 15 rfl rfl)
theorem dX8_passesDay_16 : decode cX8_passesDay 16 = .ok (.invokevirtual 122, 3) := dk_182 0 122 (dk_at dksX8_passesDay_0 16 rfl rfl)
theorem dX8_passesDay_19 : decode cX8_passesDay 19 = .ok (.putfield 126, 3) := dk_181 0 126 (dk_at dksX8_passesDay_0 19 rfl rfl)
theorem dX8_passesDay_22 : decode cX8_passesDay 22 = .ok (.aload_n 0, 1) := dk_42 (dk_at dksX8_passesDay_0 22 rfl rfl)
theorem dX8_passesDay_23 : decode cX8_passesDay 23 = .ok (.invokevirtual 129, 3) := dk_182 0 129 (dk_at dksX8_passesDay_1 0 rfl rfl)
theorem dX8_passesDay_26 : decode cX8_passesDay 26 = .ok (.istore_n 1, 1) := dk_60 (dk_at dksX8_passesDay_1 3 rfl rfl)
theorem dX8_passesDay_27 : decode cX8_passesDay 27 = .ok (.iconst 0, 1) := dk_3 (dk_at dksX8_passesDay_1 4 rfl rfl)
theorem dX8_passesDay_28 : decode cX8_passesDay 28 = .ok (.istore_n 2, 1) := dk_61 (dk_at dksX8_passesDay_1 5 rfl rfl)
theorem dX8_passesDay_29 : decode cX8_passesDay 29 = .ok (.iload_n 2, 1) := dk_28 (dk_at dksX8_passesDay_1 6 rfl rfl)
theorem dX8_passesDay_30 : decode cX8_passesDay 30 = .ok (.aload_n 0, 1) := dk_42 (dk_at dksX8_passesDay_1 7 rfl rfl)
theorem dX8_passesDay_31 : decode cX8_passesDay 31 = .ok (.getfield 7, 3) := dk_180 0 7 (dk_at dksX8_passesDay_1 8 rfl rfl)
theorem dX8_passesDay_34 : decode cX8_passesDay 34 = .ok (.iconst 5, 1) := dk_8 (dk_at dksX8_passesDay_1 11 rfl rfl)
theorem dX8_passesDay_35 : decode cX8_passesDay 35 = .ok (.iaload, 1) := dk_46 (dk_at dksX8_passesDay_1 12 rfl rfl)
theorem dX8_passesDay_36 : decode cX8_passesDay 36 = .ok (.if_icmp .ge 27, 3) := dk_162 0 27 (dk_at dksX8_passesDay_1 13 rfl rfl)
theorem dX8_passesDay_39 : decode cX8_passesDay 39 = .ok (.aload_n 0, 1) := dk_42 (dk_at dksX8_passesDay_1 16 rfl rfl)
theorem dX8_passesDay_40 : decode cX8_passesDay 40 = .ok (.getfield 7, 3) := dk_180 0 7 (dk_at dksX8_passesDay_1 17 rfl rfl)
theorem dX8_passesDay_43 : decode cX8_passesDay 43 = .ok (.sipush 141, 3) := dk_17 0 141 (dk_at dksX8_passesDay_1 20 rfl rfl)
theorem dX8_passesDay_46 : decode cX8_passesDay 46 = .ok (.iconst 5, 1) := dk_8 (dk_at dksX8_passesDay_1 23 rfl rfl)
theorem dX8_passesDay_47 : decode cX8_passesDay 47 = .ok (.iload_n 2, 1) := dk_28 (dk_at dksX8_passesDay_2 0 rfl rfl)
theorem dX8_passesDay_48 : decode cX8_passesDay 48 = .ok (.imul, 1) := dk_104 (dk_at dksX8_passesDay_2 1 rfl rfl)
theorem dX8_passesDay_49 : decode cX8_passesDay 49 = .ok (.iadd, 1) := dk_96 (dk_at dksX8_passesDay_2 2 rfl rfl)
theorem dX8_passesDay_50 : decode cX8_passesDay 50 = .ok (.iconst 4, 1) := dk_7 (dk_at dksX8_passesDay_2 3 rfl rfl)
theorem dX8_passesDay_51 : decode cX8_passesDay 51 = .ok (.iadd, 1) := dk_96 (dk_at dksX8_passesDay_2 4 rfl rfl)
theorem dX8_passesDay_52 : decode cX8_passesDay 52 = .ok (.dup2, 1) := dk_92 (dk_at dksX8_passesDay_2 5 rfl rfl)
theorem dX8_passesDay_53 : decode cX8_passesDay 53 = .ok (.iaload, 1) := dk_46 (dk_at dksX8_passesDay_2 6 rfl rfl)
theorem dX8_passesDay_54 : decode cX8_passesDay 54 = .ok (.iconst 1, 1) := dk_4 (dk_at dksX8_passesDay_2 7 rfl rfl)
theorem dX8_passesDay_55 : decode cX8_passesDay 55 = .ok (.iadd, 1) := dk_96 (dk_at dksX8_passesDay_2 8 rfl rfl)
theorem dX8_passesDay_56 : decode cX8_passesDay 56 = .ok (.iastore, 1) := dk_79 (dk_at dksX8_passesDay_2 9 rfl rfl)
theorem dX8_passesDay_57 : decode cX8_passesDay 57 = .ok (.iinc 2 1, 3) := dk_132 2 1 (dk_at dksX8_passesDay_2 10 rfl rfl)
theorem dX8_passesDay_60 : decode cX8_passesDay 60 = .ok (.goto (-31), 3) := dk_167 255 225 (dk_at dksX8_passesDay_2 13 rfl rfl)
theorem dX8_passesDay_63 : decode cX8_passesDay 63 = .ok (.iload_n 1, 1) := dk_27 (dk_at dksX8_passesDay_2 16 rfl rfl)
theorem dX8_passesDay_64 : decode cX8_passesDay 64 = .ok (.ireturn, 1) := dk_172 (dk_at dksX8_passesDay_2 17 rfl rfl)
abbrev cX8_heats : ByteArray := prog_26_method_46_code
def yX8_heats : MethodName := ⟨RX8, "heats", "()V"⟩
def dkwX8_heats_3 : List UInt8 := [28, 156, 0, 7, 3, 167, 0, 4, 28, 182, 0, 67, 132, 1, 1, 167, 255, 212, 177]
abbrev dktX8_heats_3 : List UInt8 := dkwX8_heats_3 ++ []
def dkwX8_heats_2 : List UInt8 := [7, 46, 162, 0, 40, 42, 27, 5, 182, 0, 52, 4, 100, 42, 180, 0, 7, 5, 46, 100, 61, 42, 27, 5]
abbrev dktX8_heats_2 : List UInt8 := dkwX8_heats_2 ++ dktX8_heats_3
def dkwX8_heats_1 : List UInt8 := [42, 180, 0, 7, 4, 92, 46, 7, 42, 180, 0, 7, 5, 46, 104, 100, 79, 3, 60, 27, 42, 180, 0, 7]
abbrev dktX8_heats_1 : List UInt8 := dkwX8_heats_1 ++ dktX8_heats_2
def dkwX8_heats_0 : List UInt8 := [42, 180, 0, 7, 4, 46, 7, 42, 180, 0, 7, 5, 46, 104, 162, 0, 10, 42, 180, 0, 7, 5, 3, 79]
abbrev dktX8_heats_0 : List UInt8 := dkwX8_heats_0 ++ dktX8_heats_1
theorem dksX8_heats_0 : cX8_heats.data.toList.drop 0 = dktX8_heats_0 := by decide +kernel
theorem dksX8_heats_1 : cX8_heats.data.toList.drop 24 = dktX8_heats_1 := dk_seg dksX8_heats_0 24 rfl rfl
theorem dksX8_heats_2 : cX8_heats.data.toList.drop 48 = dktX8_heats_2 := dk_seg dksX8_heats_1 24 rfl rfl
theorem dksX8_heats_3 : cX8_heats.data.toList.drop 72 = dktX8_heats_3 := dk_seg dksX8_heats_2 24 rfl rfl
theorem dX8_heats_0 : decode cX8_heats 0 = .ok (.aload_n 0, 1) := dk_42 (dk_at dksX8_heats_0 0 rfl rfl)
theorem dX8_heats_1 : decode cX8_heats 1 = .ok (.getfield 7, 3) := dk_180 0 7 (dk_at dksX8_heats_0 1 rfl rfl)
theorem dX8_heats_4 : decode cX8_heats 4 = .ok (.iconst 1, 1) := dk_4 (dk_at dksX8_heats_0 4 rfl rfl)
theorem dX8_heats_5 : decode cX8_heats 5 = .ok (.iaload, 1) := dk_46 (dk_at dksX8_heats_0 5 rfl rfl)
theorem dX8_heats_6 : decode cX8_heats 6 = .ok (.iconst 4, 1) := dk_7 (dk_at dksX8_heats_0 6 rfl rfl)
theorem dX8_heats_7 : decode cX8_heats 7 = .ok (.aload_n 0, 1) := dk_42 (dk_at dksX8_heats_0 7 rfl rfl)
theorem dX8_heats_8 : decode cX8_heats 8 = .ok (.getfield 7, 3) := dk_180 0 7 (dk_at dksX8_heats_0 8 rfl rfl)
theorem dX8_heats_11 : decode cX8_heats 11 = .ok (.iconst 2, 1) := dk_5 (dk_at dksX8_heats_0 11 rfl rfl)
theorem dX8_heats_12 : decode cX8_heats 12 = .ok (.iaload, 1) := dk_46 (dk_at dksX8_heats_0 12 rfl rfl)
theorem dX8_heats_13 : decode cX8_heats 13 = .ok (.imul, 1) := dk_104 (dk_at dksX8_heats_0 13 rfl rfl)
theorem dX8_heats_14 : decode cX8_heats 14 = .ok (.if_icmp .ge 10, 3) := dk_162 0 10 (dk_at dksX8_heats_0 14 rfl rfl)
theorem dX8_heats_17 : decode cX8_heats 17 = .ok (.aload_n 0, 1) := dk_42 (dk_at dksX8_heats_0 17 rfl rfl)
theorem dX8_heats_18 : decode cX8_heats 18 = .ok (.getfield 7, 3) := dk_180 0 7 (dk_at dksX8_heats_0 18 rfl rfl)
theorem dX8_heats_21 : decode cX8_heats 21 = .ok (.iconst 2, 1) := dk_5 (dk_at dksX8_heats_0 21 rfl rfl)
theorem dX8_heats_22 : decode cX8_heats 22 = .ok (.iconst 0, 1) := dk_3 (dk_at dksX8_heats_0 22 rfl rfl)
theorem dX8_heats_23 : decode cX8_heats 23 = .ok (.iastore, 1) := dk_79 (dk_at dksX8_heats_0 23 rfl rfl)
theorem dX8_heats_24 : decode cX8_heats 24 = .ok (.aload_n 0, 1) := dk_42 (dk_at dksX8_heats_1 0 rfl rfl)
theorem dX8_heats_25 : decode cX8_heats 25 = .ok (.getfield 7, 3) := dk_180 0 7 (dk_at dksX8_heats_1 1 rfl rfl)
theorem dX8_heats_28 : decode cX8_heats 28 = .ok (.iconst 1, 1) := dk_4 (dk_at dksX8_heats_1 4 rfl rfl)
theorem dX8_heats_29 : decode cX8_heats 29 = .ok (.dup2, 1) := dk_92 (dk_at dksX8_heats_1 5 rfl rfl)
theorem dX8_heats_30 : decode cX8_heats 30 = .ok (.iaload, 1) := dk_46 (dk_at dksX8_heats_1 6 rfl rfl)
theorem dX8_heats_31 : decode cX8_heats 31 = .ok (.iconst 4, 1) := dk_7 (dk_at dksX8_heats_1 7 rfl rfl)
theorem dX8_heats_32 : decode cX8_heats 32 = .ok (.aload_n 0, 1) := dk_42 (dk_at dksX8_heats_1 8 rfl rfl)
theorem dX8_heats_33 : decode cX8_heats 33 = .ok (.getfield 7, 3) := dk_180 0 7 (dk_at dksX8_heats_1 9 rfl rfl)
theorem dX8_heats_36 : decode cX8_heats 36 = .ok (.iconst 2, 1) := dk_5 (dk_at dksX8_heats_1 12 rfl rfl)
theorem dX8_heats_37 : decode cX8_heats 37 = .ok (.iaload, 1) := dk_46 (dk_at dksX8_heats_1 13 rfl rfl)
theorem dX8_heats_38 : decode cX8_heats 38 = .ok (.imul, 1) := dk_104 (dk_at dksX8_heats_1 14 rfl rfl)
theorem dX8_heats_39 : decode cX8_heats 39 = .ok (.isub, 1) := dk_100 (dk_at dksX8_heats_1 15 rfl rfl)
theorem dX8_heats_40 : decode cX8_heats 40 = .ok (.iastore, 1) := dk_79 (dk_at dksX8_heats_1 16 rfl rfl)
theorem dX8_heats_41 : decode cX8_heats 41 = .ok (.iconst 0, 1) := dk_3 (dk_at dksX8_heats_1 17 rfl rfl)
theorem dX8_heats_42 : decode cX8_heats 42 = .ok (.istore_n 1, 1) := dk_60 (dk_at dksX8_heats_1 18 rfl rfl)
theorem dX8_heats_43 : decode cX8_heats 43 = .ok (.iload_n 1, 1) := dk_27 (dk_at dksX8_heats_1 19 rfl rfl)
theorem dX8_heats_44 : decode cX8_heats 44 = .ok (.aload_n 0, 1) := dk_42 (dk_at dksX8_heats_1 20 rfl rfl)
theorem dX8_heats_45 : decode cX8_heats 45 = .ok (.getfield 7, 3) := dk_180 0 7 (dk_at dksX8_heats_1 21 rfl rfl)
theorem dX8_heats_48 : decode cX8_heats 48 = .ok (.iconst 4, 1) := dk_7 (dk_at dksX8_heats_2 0 rfl rfl)
theorem dX8_heats_49 : decode cX8_heats 49 = .ok (.iaload, 1) := dk_46 (dk_at dksX8_heats_2 1 rfl rfl)
theorem dX8_heats_50 : decode cX8_heats 50 = .ok (.if_icmp .ge 40, 3) := dk_162 0 40 (dk_at dksX8_heats_2 2 rfl rfl)
theorem dX8_heats_53 : decode cX8_heats 53 = .ok (.aload_n 0, 1) := dk_42 (dk_at dksX8_heats_2 5 rfl rfl)
theorem dX8_heats_54 : decode cX8_heats 54 = .ok (.iload_n 1, 1) := dk_27 (dk_at dksX8_heats_2 6 rfl rfl)
theorem dX8_heats_55 : decode cX8_heats 55 = .ok (.iconst 2, 1) := dk_5 (dk_at dksX8_heats_2 7 rfl rfl)
theorem dX8_heats_56 : decode cX8_heats 56 = .ok (.invokevirtual 52, 3) := dk_182 0 52 (dk_at dksX8_heats_2 8 rfl rfl)
theorem dX8_heats_59 : decode cX8_heats 59 = .ok (.iconst 1, 1) := dk_4 (dk_at dksX8_heats_2 11 rfl rfl)
theorem dX8_heats_60 : decode cX8_heats 60 = .ok (.isub, 1) := dk_100 (dk_at dksX8_heats_2 12 rfl rfl)
theorem dX8_heats_61 : decode cX8_heats 61 = .ok (.aload_n 0, 1) := dk_42 (dk_at dksX8_heats_2 13 rfl rfl)
theorem dX8_heats_62 : decode cX8_heats 62 = .ok (.getfield 7, 3) := dk_180 0 7 (dk_at dksX8_heats_2 14 rfl rfl)
theorem dX8_heats_65 : decode cX8_heats 65 = .ok (.iconst 2, 1) := dk_5 (dk_at dksX8_heats_2 17 rfl rfl)
theorem dX8_heats_66 : decode cX8_heats 66 = .ok (.iaload, 1) := dk_46 (dk_at dksX8_heats_2 18 rfl rfl)
theorem dX8_heats_67 : decode cX8_heats 67 = .ok (.isub, 1) := dk_100 (dk_at dksX8_heats_2 19 rfl rfl)
theorem dX8_heats_68 : decode cX8_heats 68 = .ok (.istore_n 2, 1) := dk_61 (dk_at dksX8_heats_2 20 rfl rfl)
theorem dX8_heats_69 : decode cX8_heats 69 = .ok (.aload_n 0, 1) := dk_42 (dk_at dksX8_heats_2 21 rfl rfl)
theorem dX8_heats_70 : decode cX8_heats 70 = .ok (.iload_n 1, 1) := dk_27 (dk_at dksX8_heats_2 22 rfl rfl)
theorem dX8_heats_71 : decode cX8_heats 71 = .ok (.iconst 2, 1) := dk_5 (dk_at dksX8_heats_2 23 rfl rfl)
theorem dX8_heats_72 : decode cX8_heats 72 = .ok (.iload_n 2, 1) := dk_28 (dk_at dksX8_heats_3 0 rfl rfl)
theorem dX8_heats_73 : decode cX8_heats 73 = .ok (.ifCond .ge 7, 3) := dk_156 0 7 (dk_at dksX8_heats_3 1 rfl rfl)
theorem dX8_heats_76 : decode cX8_heats 76 = .ok (.iconst 0, 1) := dk_3 (dk_at dksX8_heats_3 4 rfl rfl)
theorem dX8_heats_77 : decode cX8_heats 77 = .ok (.goto 4, 3) := dk_167 0 4 (dk_at dksX8_heats_3 5 rfl rfl)
theorem dX8_heats_80 : decode cX8_heats 80 = .ok (.iload_n 2, 1) := dk_28 (dk_at dksX8_heats_3 8 rfl rfl)
theorem dX8_heats_81 : decode cX8_heats 81 = .ok (.invokevirtual 67, 3) := dk_182 0 67 (dk_at dksX8_heats_3 9 rfl rfl)
theorem dX8_heats_84 : decode cX8_heats 84 = .ok (.iinc 1 1, 3) := dk_132 1 1 (dk_at dksX8_heats_3 12 rfl rfl)
theorem dX8_heats_87 : decode cX8_heats 87 = .ok (.goto (-44), 3) := dk_167 255 212 (dk_at dksX8_heats_3 15 rfl rfl)
theorem dX8_heats_90 : decode cX8_heats 90 = .ok (.return_, 1) := dk_177 (dk_at dksX8_heats_3 18 rfl rfl)
abbrev cX8_spreads : ByteArray := prog_26_method_47_code
def yX8_spreads : MethodName := ⟨RX8, "spreads", "()I"⟩
def dkwX8_spreads_8 : List UInt8 := [182, 0, 116, 153, 0, 13, 42, 28, 6, 2, 182, 0, 67, 132, 1, 1, 132, 2, 1, 167, 255, 206, 27, 172]
abbrev dktX8_spreads_8 : List UInt8 := dkwX8_spreads_8 ++ []
def dkwX8_spreads_7 : List UInt8 := [162, 0, 46, 42, 28, 182, 0, 71, 154, 0, 32, 42, 28, 5, 182, 0, 52, 16, 20, 161, 0, 21, 42, 28]
abbrev dktX8_spreads_7 : List UInt8 := dkwX8_spreads_7 ++ dktX8_spreads_8
def dkwX8_spreads_6 : List UInt8 := [153, 0, 7, 4, 167, 0, 4, 3, 79, 132, 2, 1, 167, 255, 212, 3, 61, 28, 42, 180, 0, 7, 7, 46]
abbrev dktX8_spreads_6 : List UInt8 := dkwX8_spreads_6 ++ dktX8_spreads_7
def dkwX8_spreads_5 : List UInt8 := [28, 28, 4, 42, 180, 0, 7, 7, 46, 184, 0, 48, 153, 0, 17, 42, 28, 4, 100, 182, 0, 71]
abbrev dktX8_spreads_5 : List UInt8 := dkwX8_spreads_5 ++ dktX8_spreads_6
def dkwX8_spreads_4 : List UInt8 := [167, 0, 4, 3, 96, 60, 132, 2, 1, 167, 255, 158, 3, 61, 28, 16, 26, 162, 0, 44, 42, 180, 0, 25]
abbrev dktX8_spreads_4 : List UInt8 := dkwX8_spreads_4 ++ dktX8_spreads_5
def dkwX8_spreads_3 : List UInt8 := [153, 0, 7, 2, 167, 0, 9, 42, 28, 6, 182, 0, 52, 182, 0, 67, 27, 29, 153, 0, 7, 4]
abbrev dktX8_spreads_3 : List UInt8 := dkwX8_spreads_3 ++ dktX8_spreads_4
def dkwX8_spreads_2 : List UInt8 := [182, 0, 67, 42, 28, 6, 182, 0, 52, 8, 160, 0, 7, 4, 167, 0, 4, 3, 62, 42, 28, 6, 29]
abbrev dktX8_spreads_2 : List UInt8 := dkwX8_spreads_2 ++ dktX8_spreads_3
def dkwX8_spreads_1 : List UInt8 := [6, 42, 28, 5, 182, 0, 52, 16, 30, 161, 0, 14, 42, 28, 6, 182, 0, 52, 4, 96, 167, 0, 4, 3]
abbrev dktX8_spreads_1 : List UInt8 := dkwX8_spreads_1 ++ dktX8_spreads_2
def dkwX8_spreads_0 : List UInt8 := [3, 60, 3, 61, 28, 42, 180, 0, 7, 7, 46, 162, 0, 94, 42, 28, 182, 0, 71, 154, 0, 80, 42, 28]
abbrev dktX8_spreads_0 : List UInt8 := dkwX8_spreads_0 ++ dktX8_spreads_1
theorem dksX8_spreads_0 : cX8_spreads.data.toList.drop 0 = dktX8_spreads_0 := by decide +kernel
theorem dksX8_spreads_1 : cX8_spreads.data.toList.drop 24 = dktX8_spreads_1 := dk_seg dksX8_spreads_0 24 rfl rfl
theorem dksX8_spreads_2 : cX8_spreads.data.toList.drop 48 = dktX8_spreads_2 := dk_seg dksX8_spreads_1 24 rfl rfl
theorem dksX8_spreads_3 : cX8_spreads.data.toList.drop 71 = dktX8_spreads_3 := dk_seg dksX8_spreads_2 23 rfl rfl
theorem dksX8_spreads_4 : cX8_spreads.data.toList.drop 93 = dktX8_spreads_4 := dk_seg dksX8_spreads_3 22 rfl rfl
theorem dksX8_spreads_5 : cX8_spreads.data.toList.drop 117 = dktX8_spreads_5 := dk_seg dksX8_spreads_4 24 rfl rfl
theorem dksX8_spreads_6 : cX8_spreads.data.toList.drop 139 = dktX8_spreads_6 := dk_seg dksX8_spreads_5 22 rfl rfl
theorem dksX8_spreads_7 : cX8_spreads.data.toList.drop 163 = dktX8_spreads_7 := dk_seg dksX8_spreads_6 24 rfl rfl
theorem dksX8_spreads_8 : cX8_spreads.data.toList.drop 187 = dktX8_spreads_8 := dk_seg dksX8_spreads_7 24 rfl rfl
theorem dX8_spreads_0 : decode cX8_spreads 0 = .ok (.iconst 0, 1) := dk_3 (dk_at dksX8_spreads_0 0 rfl rfl)
theorem dX8_spreads_1 : decode cX8_spreads 1 = .ok (.istore_n 1, 1) := dk_60 (dk_at dksX8_spreads_0 1 rfl rfl)
theorem dX8_spreads_2 : decode cX8_spreads 2 = .ok (.iconst 0, 1) := dk_3 (dk_at dksX8_spreads_0 2 rfl rfl)
theorem dX8_spreads_3 : decode cX8_spreads 3 = .ok (.istore_n 2, 1) := dk_61 (dk_at dksX8_spreads_0 3 rfl rfl)
theorem dX8_spreads_4 : decode cX8_spreads 4 = .ok (.iload_n 2, 1) := dk_28 (dk_at dksX8_spreads_0 4 rfl rfl)
theorem dX8_spreads_5 : decode cX8_spreads 5 = .ok (.aload_n 0, 1) := dk_42 (dk_at dksX8_spreads_0 5 rfl rfl)
theorem dX8_spreads_6 : decode cX8_spreads 6 = .ok (.getfield 7, 3) := dk_180 0 7 (dk_at dksX8_spreads_0 6 rfl rfl)
theorem dX8_spreads_9 : decode cX8_spreads 9 = .ok (.iconst 4, 1) := dk_7 (dk_at dksX8_spreads_0 9 rfl rfl)
theorem dX8_spreads_10 : decode cX8_spreads 10 = .ok (.iaload, 1) := dk_46 (dk_at dksX8_spreads_0 10 rfl rfl)
theorem dX8_spreads_11 : decode cX8_spreads 11 = .ok (.if_icmp .ge 94, 3) := dk_162 0 94 (dk_at dksX8_spreads_0 11 rfl rfl)
theorem dX8_spreads_14 : decode cX8_spreads 14 = .ok (.aload_n 0, 1) := dk_42 (dk_at dksX8_spreads_0 14 rfl rfl)
theorem dX8_spreads_15 : decode cX8_spreads 15 = .ok (.iload_n 2, 1) := dk_28 (dk_at dksX8_spreads_0 15 rfl rfl)
theorem dX8_spreads_16 : decode cX8_spreads 16 = .ok (.invokevirtual 71, 3) := dk_182 0 71 (dk_at dksX8_spreads_0 16 rfl rfl)
theorem dX8_spreads_19 : decode cX8_spreads 19 = .ok (.ifCond .ne 80, 3) := dk_154 0 80 (dk_at dksX8_spreads_0 19 rfl rfl)
theorem dX8_spreads_22 : decode cX8_spreads 22 = .ok (.aload_n 0, 1) := dk_42 (dk_at dksX8_spreads_0 22 rfl rfl)
theorem dX8_spreads_23 : decode cX8_spreads 23 = .ok (.iload_n 2, 1) := dk_28 (dk_at dksX8_spreads_0 23 rfl rfl)
theorem dX8_spreads_24 : decode cX8_spreads 24 = .ok (.iconst 3, 1) := dk_6 (dk_at dksX8_spreads_1 0 rfl rfl)
theorem dX8_spreads_25 : decode cX8_spreads 25 = .ok (.aload_n 0, 1) := dk_42 (dk_at dksX8_spreads_1 1 rfl rfl)
theorem dX8_spreads_26 : decode cX8_spreads 26 = .ok (.iload_n 2, 1) := dk_28 (dk_at dksX8_spreads_1 2 rfl rfl)
theorem dX8_spreads_27 : decode cX8_spreads 27 = .ok (.iconst 2, 1) := dk_5 (dk_at dksX8_spreads_1 3 rfl rfl)
theorem dX8_spreads_28 : decode cX8_spreads 28 = .ok (.invokevirtual 52, 3) := dk_182 0 52 (dk_at dksX8_spreads_1 4 rfl rfl)
theorem dX8_spreads_31 : decode cX8_spreads 31 = .ok (.bipush 30, 2) := dk_16 30 (dk_at dksX8_spreads_1 7 rfl rfl)
theorem dX8_spreads_33 : decode cX8_spreads 33 = .ok (.if_icmp .lt 14, 3) := dk_161 0 14 (dk_at dksX8_spreads_1 9 rfl rfl)
theorem dX8_spreads_36 : decode cX8_spreads 36 = .ok (.aload_n 0, 1) := dk_42 (dk_at dksX8_spreads_1 12 rfl rfl)
theorem dX8_spreads_37 : decode cX8_spreads 37 = .ok (.iload_n 2, 1) := dk_28 (dk_at dksX8_spreads_1 13 rfl rfl)
theorem dX8_spreads_38 : decode cX8_spreads 38 = .ok (.iconst 3, 1) := dk_6 (dk_at dksX8_spreads_1 14 rfl rfl)
theorem dX8_spreads_39 : decode cX8_spreads 39 = .ok (.invokevirtual 52, 3) := dk_182 0 52 (dk_at dksX8_spreads_1 15 rfl rfl)
theorem dX8_spreads_42 : decode cX8_spreads 42 = .ok (.iconst 1, 1) := dk_4 (dk_at dksX8_spreads_1 18 rfl rfl)
theorem dX8_spreads_43 : decode cX8_spreads 43 = .ok (.iadd, 1) := dk_96 (dk_at dksX8_spreads_1 19 rfl rfl)
theorem dX8_spreads_44 : decode cX8_spreads 44 = .ok (.goto 4, 3) := dk_167 0 4 (dk_at dksX8_spreads_1 20 rfl rfl)
theorem dX8_spreads_47 : decode cX8_spreads 47 = .ok (.iconst 0, 1) := dk_3 (dk_at dksX8_spreads_1 23 rfl rfl)
theorem dX8_spreads_48 : decode cX8_spreads 48 = .ok (.invokevirtual 67, 3) := dk_182 0 67 (dk_at dksX8_spreads_2 0 rfl rfl)
theorem dX8_spreads_51 : decode cX8_spreads 51 = .ok (.aload_n 0, 1) := dk_42 (dk_at dksX8_spreads_2 3 rfl rfl)
theorem dX8_spreads_52 : decode cX8_spreads 52 = .ok (.iload_n 2, 1) := dk_28 (dk_at dksX8_spreads_2 4 rfl rfl)
theorem dX8_spreads_53 : decode cX8_spreads 53 = .ok (.iconst 3, 1) := dk_6 (dk_at dksX8_spreads_2 5 rfl rfl)
theorem dX8_spreads_54 : decode cX8_spreads 54 = .ok (.invokevirtual 52, 3) := dk_182 0 52 (dk_at dksX8_spreads_2 6 rfl rfl)
theorem dX8_spreads_57 : decode cX8_spreads 57 = .ok (.iconst 5, 1) := dk_8 (dk_at dksX8_spreads_2 9 rfl rfl)
theorem dX8_spreads_58 : decode cX8_spreads 58 = .ok (.if_icmp .ne 7, 3) := dk_160 0 7 (dk_at dksX8_spreads_2 10 rfl rfl)
theorem dX8_spreads_61 : decode cX8_spreads 61 = .ok (.iconst 1, 1) := dk_4 (dk_at dksX8_spreads_2 13 rfl rfl)
theorem dX8_spreads_62 : decode cX8_spreads 62 = .ok (.goto 4, 3) := dk_167 0 4 (dk_at dksX8_spreads_2 14 rfl rfl)
theorem dX8_spreads_65 : decode cX8_spreads 65 = .ok (.iconst 0, 1) := dk_3 (dk_at dksX8_spreads_2 17 rfl rfl)
theorem dX8_spreads_66 : decode cX8_spreads 66 = .ok (.istore_n 3, 1) := dk_62 (dk_at dksX8_spreads_2 18 rfl rfl)
theorem dX8_spreads_67 : decode cX8_spreads 67 = .ok (.aload_n 0, 1) := dk_42 (dk_at dksX8_spreads_2 19 rfl rfl)
theorem dX8_spreads_68 : decode cX8_spreads 68 = .ok (.iload_n 2, 1) := dk_28 (dk_at dksX8_spreads_2 20 rfl rfl)
theorem dX8_spreads_69 : decode cX8_spreads 69 = .ok (.iconst 3, 1) := dk_6 (dk_at dksX8_spreads_2 21 rfl rfl)
theorem dX8_spreads_70 : decode cX8_spreads 70 = .ok (.iload_n 3, 1) := dk_29 (dk_at dksX8_spreads_2 22 rfl rfl)
theorem dX8_spreads_71 : decode cX8_spreads 71 = .ok (.ifCond .eq 7, 3) := dk_153 0 7 (dk_at dksX8_spreads_3 0 rfl rfl)
theorem dX8_spreads_74 : decode cX8_spreads 74 = .ok (.iconst (-1), 1) := dk_2 (dk_at dksX8_spreads_3 3 rfl rfl)
theorem dX8_spreads_75 : decode cX8_spreads 75 = .ok (.goto 9, 3) := dk_167 0 9 (dk_at dksX8_spreads_3 4 rfl rfl)
theorem dX8_spreads_78 : decode cX8_spreads 78 = .ok (.aload_n 0, 1) := dk_42 (dk_at dksX8_spreads_3 7 rfl rfl)
theorem dX8_spreads_79 : decode cX8_spreads 79 = .ok (.iload_n 2, 1) := dk_28 (dk_at dksX8_spreads_3 8 rfl rfl)
theorem dX8_spreads_80 : decode cX8_spreads 80 = .ok (.iconst 3, 1) := dk_6 (dk_at dksX8_spreads_3 9 rfl rfl)
theorem dX8_spreads_81 : decode cX8_spreads 81 = .ok (.invokevirtual 52, 3) := dk_182 0 52 (dk_at dksX8_spreads_3 10 rfl rfl)
theorem dX8_spreads_84 : decode cX8_spreads 84 = .ok (.invokevirtual 67, 3) := dk_182 0 67 (dk_at dksX8_spreads_3 13 rfl rfl)
theorem dX8_spreads_87 : decode cX8_spreads 87 = .ok (.iload_n 1, 1) := dk_27 (dk_at dksX8_spreads_3 16 rfl rfl)
theorem dX8_spreads_88 : decode cX8_spreads 88 = .ok (.iload_n 3, 1) := dk_29 (dk_at dksX8_spreads_3 17 rfl rfl)
theorem dX8_spreads_89 : decode cX8_spreads 89 = .ok (.ifCond .eq 7, 3) := dk_153 0 7 (dk_at dksX8_spreads_3 18 rfl rfl)
theorem dX8_spreads_92 : decode cX8_spreads 92 = .ok (.iconst 1, 1) := dk_4 (dk_at dksX8_spreads_3 21 rfl rfl)
theorem dX8_spreads_93 : decode cX8_spreads 93 = .ok (.goto 4, 3) := dk_167 0 4 (dk_at dksX8_spreads_4 0 rfl rfl)
theorem dX8_spreads_96 : decode cX8_spreads 96 = .ok (.iconst 0, 1) := dk_3 (dk_at dksX8_spreads_4 3 rfl rfl)
theorem dX8_spreads_97 : decode cX8_spreads 97 = .ok (.iadd, 1) := dk_96 (dk_at dksX8_spreads_4 4 rfl rfl)
theorem dX8_spreads_98 : decode cX8_spreads 98 = .ok (.istore_n 1, 1) := dk_60 (dk_at dksX8_spreads_4 5 rfl rfl)
theorem dX8_spreads_99 : decode cX8_spreads 99 = .ok (.iinc 2 1, 3) := dk_132 2 1 (dk_at dksX8_spreads_4 6 rfl rfl)
theorem dX8_spreads_102 : decode cX8_spreads 102 = .ok (.goto (-98), 3) := dk_167 255 158 (dk_at dksX8_spreads_4 9 rfl rfl)
theorem dX8_spreads_105 : decode cX8_spreads 105 = .ok (.iconst 0, 1) := dk_3 (dk_at dksX8_spreads_4 12 rfl rfl)
theorem dX8_spreads_106 : decode cX8_spreads 106 = .ok (.istore_n 2, 1) := dk_61 (dk_at dksX8_spreads_4 13 rfl rfl)
theorem dX8_spreads_107 : decode cX8_spreads 107 = .ok (.iload_n 2, 1) := dk_28 (dk_at dksX8_spreads_4 14 rfl rfl)
theorem dX8_spreads_108 : decode cX8_spreads 108 = .ok (.bipush 26, 2) := dk_16 26 (dk_at dksX8_spreads_4 15 rfl rfl)
theorem dX8_spreads_110 : decode cX8_spreads 110 = .ok (.if_icmp .ge 44, 3) := dk_162 0 44 (dk_at dksX8_spreads_4 17 rfl rfl)
theorem dX8_spreads_113 : decode cX8_spreads 113 = .ok (.aload_n 0, 1) := dk_42 (dk_at dksX8_spreads_4 20 rfl rfl)
theorem dX8_spreads_114 : decode cX8_spreads 114 = .ok (.getfield 25, 3) := dk_180 0 25 (dk_at dksX8_spreads_4 21 rfl rfl)
theorem dX8_spreads_117 : decode cX8_spreads 117 = .ok (.iload_n 2, 1) := dk_28 (dk_at dksX8_spreads_5 0 rfl rfl)
theorem dX8_spreads_118 : decode cX8_spreads 118 = .ok (.iload_n 2, 1) := dk_28 (dk_at dksX8_spreads_5 1 rfl rfl)
theorem dX8_spreads_119 : decode cX8_spreads 119 = .ok (.iconst 1, 1) := dk_4 (dk_at dksX8_spreads_5 2 rfl rfl)
theorem dX8_spreads_120 : decode cX8_spreads 120 = .ok (.aload_n 0, 1) := dk_42 (dk_at dksX8_spreads_5 3 rfl rfl)
theorem dX8_spreads_121 : decode cX8_spreads 121 = .ok (.getfield 7, 3) := dk_180 0 7 (dk_at dksX8_spreads_5 4 rfl rfl)
theorem dX8_spreads_124 : decode cX8_spreads 124 = .ok (.iconst 4, 1) := dk_7 (dk_at dksX8_spreads_5 7 rfl rfl)
theorem dX8_spreads_125 : decode cX8_spreads 125 = .ok (.iaload, 1) := dk_46 (dk_at dksX8_spreads_5 8 rfl rfl)
theorem dX8_spreads_126 : decode cX8_spreads 126 = .ok (.invokestatic 48, 3) := dk_184 0 48 (dk_at dksX8_spreads_5 9 rfl rfl)
theorem dX8_spreads_129 : decode cX8_spreads 129 = .ok (.ifCond .eq 17, 3) := dk_153 0 17 (dk_at dksX8_spreads_5 12 rfl rfl)
theorem dX8_spreads_132 : decode cX8_spreads 132 = .ok (.aload_n 0, 1) := dk_42 (dk_at dksX8_spreads_5 15 rfl rfl)
theorem dX8_spreads_133 : decode cX8_spreads 133 = .ok (.iload_n 2, 1) := dk_28 (dk_at dksX8_spreads_5 16 rfl rfl)
theorem dX8_spreads_134 : decode cX8_spreads 134 = .ok (.iconst 1, 1) := dk_4 (dk_at dksX8_spreads_5 17 rfl rfl)
theorem dX8_spreads_135 : decode cX8_spreads 135 = .ok (.isub, 1) := dk_100 (dk_at dksX8_spreads_5 18 rfl rfl)
theorem dX8_spreads_136 : decode cX8_spreads 136 = .ok (.invokevirtual 71, 3) := dk_182 0 71 (dk_at dksX8_spreads_5 19 rfl rfl)
theorem dX8_spreads_139 : decode cX8_spreads 139 = .ok (.ifCond .eq 7, 3) := dk_153 0 7 (dk_at dksX8_spreads_6 0 rfl rfl)
theorem dX8_spreads_142 : decode cX8_spreads 142 = .ok (.iconst 1, 1) := dk_4 (dk_at dksX8_spreads_6 3 rfl rfl)
theorem dX8_spreads_143 : decode cX8_spreads 143 = .ok (.goto 4, 3) := dk_167 0 4 (dk_at dksX8_spreads_6 4 rfl rfl)
theorem dX8_spreads_146 : decode cX8_spreads 146 = .ok (.iconst 0, 1) := dk_3 (dk_at dksX8_spreads_6 7 rfl rfl)
theorem dX8_spreads_147 : decode cX8_spreads 147 = .ok (.iastore, 1) := dk_79 (dk_at dksX8_spreads_6 8 rfl rfl)
theorem dX8_spreads_148 : decode cX8_spreads 148 = .ok (.iinc 2 1, 3) := dk_132 2 1 (dk_at dksX8_spreads_6 9 rfl rfl)
theorem dX8_spreads_151 : decode cX8_spreads 151 = .ok (.goto (-44), 3) := dk_167 255 212 (dk_at dksX8_spreads_6 12 rfl rfl)
theorem dX8_spreads_154 : decode cX8_spreads 154 = .ok (.iconst 0, 1) := dk_3 (dk_at dksX8_spreads_6 15 rfl rfl)
theorem dX8_spreads_155 : decode cX8_spreads 155 = .ok (.istore_n 2, 1) := dk_61 (dk_at dksX8_spreads_6 16 rfl rfl)
theorem dX8_spreads_156 : decode cX8_spreads 156 = .ok (.iload_n 2, 1) := dk_28 (dk_at dksX8_spreads_6 17 rfl rfl)
theorem dX8_spreads_157 : decode cX8_spreads 157 = .ok (.aload_n 0, 1) := dk_42 (dk_at dksX8_spreads_6 18 rfl rfl)
theorem dX8_spreads_158 : decode cX8_spreads 158 = .ok (.getfield 7, 3) := dk_180 0 7 (dk_at dksX8_spreads_6 19 rfl rfl)
theorem dX8_spreads_161 : decode cX8_spreads 161 = .ok (.iconst 4, 1) := dk_7 (dk_at dksX8_spreads_6 22 rfl rfl)
theorem dX8_spreads_162 : decode cX8_spreads 162 = .ok (.iaload, 1) := dk_46 (dk_at dksX8_spreads_6 23 rfl rfl)
theorem dX8_spreads_163 : decode cX8_spreads 163 = .ok (.if_icmp .ge 46, 3) := dk_162 0 46 (dk_at dksX8_spreads_7 0 rfl rfl)
theorem dX8_spreads_166 : decode cX8_spreads 166 = .ok (.aload_n 0, 1) := dk_42 (dk_at dksX8_spreads_7 3 rfl rfl)
theorem dX8_spreads_167 : decode cX8_spreads 167 = .ok (.iload_n 2, 1) := dk_28 (dk_at dksX8_spreads_7 4 rfl rfl)
theorem dX8_spreads_168 : decode cX8_spreads 168 = .ok (.invokevirtual 71, 3) := dk_182 0 71 (dk_at dksX8_spreads_7 5 rfl rfl)
theorem dX8_spreads_171 : decode cX8_spreads 171 = .ok (.ifCond .ne 32, 3) := dk_154 0 32 (dk_at dksX8_spreads_7 8 rfl rfl)
theorem dX8_spreads_174 : decode cX8_spreads 174 = .ok (.aload_n 0, 1) := dk_42 (dk_at dksX8_spreads_7 11 rfl rfl)
theorem dX8_spreads_175 : decode cX8_spreads 175 = .ok (.iload_n 2, 1) := dk_28 (dk_at dksX8_spreads_7 12 rfl rfl)
theorem dX8_spreads_176 : decode cX8_spreads 176 = .ok (.iconst 2, 1) := dk_5 (dk_at dksX8_spreads_7 13 rfl rfl)
theorem dX8_spreads_177 : decode cX8_spreads 177 = .ok (.invokevirtual 52, 3) := dk_182 0 52 (dk_at dksX8_spreads_7 14 rfl rfl)
theorem dX8_spreads_180 : decode cX8_spreads 180 = .ok (.bipush 20, 2) := dk_16 20 (dk_at dksX8_spreads_7 17 rfl rfl)
theorem dX8_spreads_182 : decode cX8_spreads 182 = .ok (.if_icmp .lt 21, 3) := dk_161 0 21 (dk_at dksX8_spreads_7 19 rfl rfl)
theorem dX8_spreads_185 : decode cX8_spreads 185 = .ok (.aload_n 0, 1) := dk_42 (dk_at dksX8_spreads_7 22 rfl rfl)
theorem dX8_spreads_186 : decode cX8_spreads 186 = .ok (.iload_n 2, 1) := dk_28 (dk_at dksX8_spreads_7 23 rfl rfl)
theorem dX8_spreads_187 : decode cX8_spreads 187 = .ok (.invokevirtual 116, 3) := dk_182 0 116 (dk_at dksX8_spreads_8 0 rfl rfl)
theorem dX8_spreads_190 : decode cX8_spreads 190 = .ok (.ifCond .eq 13, 3) := dk_153 0 13 (dk_at dksX8_spreads_8 3 rfl rfl)
theorem dX8_spreads_193 : decode cX8_spreads 193 = .ok (.aload_n 0, 1) := dk_42 (dk_at dksX8_spreads_8 6 rfl rfl)
theorem dX8_spreads_194 : decode cX8_spreads 194 = .ok (.iload_n 2, 1) := dk_28 (dk_at dksX8_spreads_8 7 rfl rfl)
theorem dX8_spreads_195 : decode cX8_spreads 195 = .ok (.iconst 3, 1) := dk_6 (dk_at dksX8_spreads_8 8 rfl rfl)
theorem dX8_spreads_196 : decode cX8_spreads 196 = .ok (.iconst (-1), 1) := dk_2 (dk_at dksX8_spreads_8 9 rfl rfl)
theorem dX8_spreads_197 : decode cX8_spreads 197 = .ok (.invokevirtual 67, 3) := dk_182 0 67 (dk_at dksX8_spreads_8 10 rfl rfl)
theorem dX8_spreads_200 : decode cX8_spreads 200 = .ok (.iinc 1 1, 3) := dk_132 1 1 (dk_at dksX8_spreads_8 13 rfl rfl)
theorem dX8_spreads_203 : decode cX8_spreads 203 = .ok (.iinc 2 1, 3) := dk_132 2 1 (dk_at dksX8_spreads_8 16 rfl rfl)
theorem dX8_spreads_206 : decode cX8_spreads 206 = .ok (.goto (-50), 3) := dk_167 255 206 (dk_at dksX8_spreads_8 19 rfl rfl)
theorem dX8_spreads_209 : decode cX8_spreads 209 = .ok (.iload_n 1, 1) := dk_27 (dk_at dksX8_spreads_8 22 rfl rfl)
theorem dX8_spreads_210 : decode cX8_spreads 210 = .ok (.ireturn, 1) := dk_172 (dk_at dksX8_spreads_8 23 rfl rfl)
abbrev cX8_isNextToMouldy : ByteArray := prog_26_method_45_code
def yX8_isNextToMouldy : MethodName := ⟨RX8, "isNextToMouldy", "(I)Z"⟩
def dkwX8_isNextToMouldy_1 : List UInt8 := [167, 0, 4, 3, 172]
abbrev dktX8_isNextToMouldy_1 : List UInt8 := dkwX8_isNextToMouldy_1 ++ []
def dkwX8_isNextToMouldy_0 : List UInt8 := [42, 180, 0, 25, 27, 46, 4, 159, 0, 15, 42, 180, 0, 25, 27, 5, 96, 46, 4, 160, 0, 7, 4]
abbrev dktX8_isNextToMouldy_0 : List UInt8 := dkwX8_isNextToMouldy_0 ++ dktX8_isNextToMouldy_1
theorem dksX8_isNextToMouldy_0 : cX8_isNextToMouldy.data.toList.drop 0 = dktX8_isNextToMouldy_0 := by decide +kernel
theorem dksX8_isNextToMouldy_1 : cX8_isNextToMouldy.data.toList.drop 23 = dktX8_isNextToMouldy_1 := dk_seg dksX8_isNextToMouldy_0 23 rfl rfl
theorem dX8_isNextToMouldy_0 : decode cX8_isNextToMouldy 0 = .ok (.aload_n 0, 1) := dk_42 (dk_at dksX8_isNextToMouldy_0 0 rfl rfl)
theorem dX8_isNextToMouldy_1 : decode cX8_isNextToMouldy 1 = .ok (.getfield 25, 3) := dk_180 0 25 (dk_at dksX8_isNextToMouldy_0 1 rfl rfl)
theorem dX8_isNextToMouldy_4 : decode cX8_isNextToMouldy 4 = .ok (.iload_n 1, 1) := dk_27 (dk_at dksX8_isNextToMouldy_0 4 rfl rfl)
theorem dX8_isNextToMouldy_5 : decode cX8_isNextToMouldy 5 = .ok (.iaload, 1) := dk_46 (dk_at dksX8_isNextToMouldy_0 5 rfl rfl)
theorem dX8_isNextToMouldy_6 : decode cX8_isNextToMouldy 6 = .ok (.iconst 1, 1) := dk_4 (dk_at dksX8_isNextToMouldy_0 6 rfl rfl)
theorem dX8_isNextToMouldy_7 : decode cX8_isNextToMouldy 7 = .ok (.if_icmp .eq 15, 3) := dk_159 0 15 (dk_at dksX8_isNextToMouldy_0 7 rfl rfl)
theorem dX8_isNextToMouldy_10 : decode cX8_isNextToMouldy 10 = .ok (.aload_n 0, 1) := dk_42 (dk_at dksX8_isNextToMouldy_0 10 rfl rfl)
theorem dX8_isNextToMouldy_11 : decode cX8_isNextToMouldy 11 = .ok (.getfield 25, 3) := dk_180 0 25 (dk_at dksX8_isNextToMouldy_0 11 rfl rfl)
theorem dX8_isNextToMouldy_14 : decode cX8_isNextToMouldy 14 = .ok (.iload_n 1, 1) := dk_27 (dk_at dksX8_isNextToMouldy_0 14 rfl rfl)
theorem dX8_isNextToMouldy_15 : decode cX8_isNextToMouldy 15 = .ok (.iconst 2, 1) := dk_5 (dk_at dksX8_isNextToMouldy_0 15 rfl rfl)
theorem dX8_isNextToMouldy_16 : decode cX8_isNextToMouldy 16 = .ok (.iadd, 1) := dk_96 (dk_at dksX8_isNextToMouldy_0 16 rfl rfl)
theorem dX8_isNextToMouldy_17 : decode cX8_isNextToMouldy 17 = .ok (.iaload, 1) := dk_46 (dk_at dksX8_isNextToMouldy_0 17 rfl rfl)
theorem dX8_isNextToMouldy_18 : decode cX8_isNextToMouldy 18 = .ok (.iconst 1, 1) := dk_4 (dk_at dksX8_isNextToMouldy_0 18 rfl rfl)
theorem dX8_isNextToMouldy_19 : decode cX8_isNextToMouldy 19 = .ok (.if_icmp .ne 7, 3) := dk_160 0 7 (dk_at dksX8_isNextToMouldy_0 19 rfl rfl)
theorem dX8_isNextToMouldy_22 : decode cX8_isNextToMouldy 22 = .ok (.iconst 1, 1) := dk_4 (dk_at dksX8_isNextToMouldy_0 22 rfl rfl)
theorem dX8_isNextToMouldy_23 : decode cX8_isNextToMouldy 23 = .ok (.goto 4, 3) := dk_167 0 4 (dk_at dksX8_isNextToMouldy_1 0 rfl rfl)
theorem dX8_isNextToMouldy_26 : decode cX8_isNextToMouldy 26 = .ok (.iconst 0, 1) := dk_3 (dk_at dksX8_isNextToMouldy_1 3 rfl rfl)
theorem dX8_isNextToMouldy_27 : decode cX8_isNextToMouldy 27 = .ok (.ireturn, 1) := dk_172 (dk_at dksX8_isNextToMouldy_1 4 rfl rfl)
abbrev cX8_rots : ByteArray := prog_26_method_48_code
def yX8_rots : MethodName := ⟨RX8, "rots", "()I"⟩
def dkwX8_rots_3 : List UInt8 := [182, 0, 90, 167, 0, 6, 132, 2, 1, 167, 255, 179, 27, 172]
abbrev dktX8_rots_3 : List UInt8 := dkwX8_rots_3 ++ []
def dkwX8_rots_2 : List UInt8 := [4, 182, 0, 52, 29, 100, 182, 0, 67, 42, 28, 4, 182, 0, 52, 154, 0, 15, 42, 16, 21, 7, 28, 7]
abbrev dktX8_rots_2 : List UInt8 := dkwX8_rots_2 ++ dktX8_rots_3
def dkwX8_rots_1 : List UInt8 := [4, 182, 0, 52, 16, 9, 96, 16, 10, 108, 167, 0, 4, 3, 62, 27, 29, 96, 60, 42, 28, 4, 42, 28]
abbrev dktX8_rots_1 : List UInt8 := dkwX8_rots_1 ++ dktX8_rots_2
def dkwX8_rots_0 : List UInt8 := [3, 60, 3, 61, 28, 42, 180, 0, 7, 7, 46, 162, 0, 73, 42, 28, 182, 0, 71, 153, 0, 18, 42, 28]
abbrev dktX8_rots_0 : List UInt8 := dkwX8_rots_0 ++ dktX8_rots_1
theorem dksX8_rots_0 : cX8_rots.data.toList.drop 0 = dktX8_rots_0 := by decide +kernel
theorem dksX8_rots_1 : cX8_rots.data.toList.drop 24 = dktX8_rots_1 := dk_seg dksX8_rots_0 24 rfl rfl
theorem dksX8_rots_2 : cX8_rots.data.toList.drop 48 = dktX8_rots_2 := dk_seg dksX8_rots_1 24 rfl rfl
theorem dksX8_rots_3 : cX8_rots.data.toList.drop 72 = dktX8_rots_3 := dk_seg dksX8_rots_2 24 rfl rfl
theorem dX8_rots_0 : decode cX8_rots 0 = .ok (.iconst 0, 1) := dk_3 (dk_at dksX8_rots_0 0 rfl rfl)
theorem dX8_rots_1 : decode cX8_rots 1 = .ok (.istore_n 1, 1) := dk_60 (dk_at dksX8_rots_0 1 rfl rfl)
theorem dX8_rots_2 : decode cX8_rots 2 = .ok (.iconst 0, 1) := dk_3 (dk_at dksX8_rots_0 2 rfl rfl)
theorem dX8_rots_3 : decode cX8_rots 3 = .ok (.istore_n 2, 1) := dk_61 (dk_at dksX8_rots_0 3 rfl rfl)
theorem dX8_rots_4 : decode cX8_rots 4 = .ok (.iload_n 2, 1) := dk_28 (dk_at dksX8_rots_0 4 rfl rfl)
theorem dX8_rots_5 : decode cX8_rots 5 = .ok (.aload_n 0, 1) := dk_42 (dk_at dksX8_rots_0 5 rfl rfl)
theorem dX8_rots_6 : decode cX8_rots 6 = .ok (.getfield 7, 3) := dk_180 0 7 (dk_at dksX8_rots_0 6 rfl rfl)
theorem dX8_rots_9 : decode cX8_rots 9 = .ok (.iconst 4, 1) := dk_7 (dk_at dksX8_rots_0 9 rfl rfl)
theorem dX8_rots_10 : decode cX8_rots 10 = .ok (.iaload, 1) := dk_46 (dk_at dksX8_rots_0 10 rfl rfl)
theorem dX8_rots_11 : decode cX8_rots 11 = .ok (.if_icmp .ge 73, 3) := dk_162 0 73 (dk_at dksX8_rots_0 11 rfl rfl)
theorem dX8_rots_14 : decode cX8_rots 14 = .ok (.aload_n 0, 1) := dk_42 (dk_at dksX8_rots_0 14 rfl rfl)
theorem dX8_rots_15 : decode cX8_rots 15 = .ok (.iload_n 2, 1) := dk_28 (dk_at dksX8_rots_0 15 rfl rfl)
theorem dX8_rots_16 : decode cX8_rots 16 = .ok (.invokevirtual 71, 3) := dk_182 0 71 (dk_at dksX8_rots_0 16 rfl rfl)
theorem dX8_rots_19 : decode cX8_rots 19 = .ok (.ifCond .eq 18, 3) := dk_153 0 18 (dk_at dksX8_rots_0 19 rfl rfl)
theorem dX8_rots_22 : decode cX8_rots 22 = .ok (.aload_n 0, 1) := dk_42 (dk_at dksX8_rots_0 22 rfl rfl)
theorem dX8_rots_23 : decode cX8_rots 23 = .ok (.iload_n 2, 1) := dk_28 (dk_at dksX8_rots_0 23 rfl rfl)
theorem dX8_rots_24 : decode cX8_rots 24 = .ok (.iconst 1, 1) := dk_4 (dk_at dksX8_rots_1 0 rfl rfl)
theorem dX8_rots_25 : decode cX8_rots 25 = .ok (.invokevirtual 52, 3) := dk_182 0 52 (dk_at dksX8_rots_1 1 rfl rfl)
theorem dX8_rots_28 : decode cX8_rots 28 = .ok (.bipush 9, 2) := dk_16 9 (dk_at dksX8_rots_1 4 rfl rfl)
theorem dX8_rots_30 : decode cX8_rots 30 = .ok (.iadd, 1) := dk_96 (dk_at dksX8_rots_1 6 rfl rfl)
theorem dX8_rots_31 : decode cX8_rots 31 = .ok (.bipush 10, 2) := dk_16 10 (dk_at dksX8_rots_1 7 rfl rfl)
theorem dX8_rots_33 : decode cX8_rots 33 = .ok (.idiv, 1) := dk_108 (dk_at dksX8_rots_1 9 rfl rfl)
theorem dX8_rots_34 : decode cX8_rots 34 = .ok (.goto 4, 3) := dk_167 0 4 (dk_at dksX8_rots_1 10 rfl rfl)
theorem dX8_rots_37 : decode cX8_rots 37 = .ok (.iconst 0, 1) := dk_3 (dk_at dksX8_rots_1 13 rfl rfl)
theorem dX8_rots_38 : decode cX8_rots 38 = .ok (.istore_n 3, 1) := dk_62 (dk_at dksX8_rots_1 14 rfl rfl)
theorem dX8_rots_39 : decode cX8_rots 39 = .ok (.iload_n 1, 1) := dk_27 (dk_at dksX8_rots_1 15 rfl rfl)
theorem dX8_rots_40 : decode cX8_rots 40 = .ok (.iload_n 3, 1) := dk_29 (dk_at dksX8_rots_1 16 rfl rfl)
theorem dX8_rots_41 : decode cX8_rots 41 = .ok (.iadd, 1) := dk_96 (dk_at dksX8_rots_1 17 rfl rfl)
theorem dX8_rots_42 : decode cX8_rots 42 = .ok (.istore_n 1, 1) := dk_60 (dk_at dksX8_rots_1 18 rfl rfl)
theorem dX8_rots_43 : decode cX8_rots 43 = .ok (.aload_n 0, 1) := dk_42 (dk_at dksX8_rots_1 19 rfl rfl)
theorem dX8_rots_44 : decode cX8_rots 44 = .ok (.iload_n 2, 1) := dk_28 (dk_at dksX8_rots_1 20 rfl rfl)
theorem dX8_rots_45 : decode cX8_rots 45 = .ok (.iconst 1, 1) := dk_4 (dk_at dksX8_rots_1 21 rfl rfl)
theorem dX8_rots_46 : decode cX8_rots 46 = .ok (.aload_n 0, 1) := dk_42 (dk_at dksX8_rots_1 22 rfl rfl)
theorem dX8_rots_47 : decode cX8_rots 47 = .ok (.iload_n 2, 1) := dk_28 (dk_at dksX8_rots_1 23 rfl rfl)
theorem dX8_rots_48 : decode cX8_rots 48 = .ok (.iconst 1, 1) := dk_4 (dk_at dksX8_rots_2 0 rfl rfl)
theorem dX8_rots_49 : decode cX8_rots 49 = .ok (.invokevirtual 52, 3) := dk_182 0 52 (dk_at dksX8_rots_2 1 rfl rfl)
theorem dX8_rots_52 : decode cX8_rots 52 = .ok (.iload_n 3, 1) := dk_29 (dk_at dksX8_rots_2 4 rfl rfl)
theorem dX8_rots_53 : decode cX8_rots 53 = .ok (.isub, 1) := dk_100 (dk_at dksX8_rots_2 5 rfl rfl)
theorem dX8_rots_54 : decode cX8_rots 54 = .ok (.invokevirtual 67, 3) := dk_182 0 67 (dk_at dksX8_rots_2 6 rfl rfl)
theorem dX8_rots_57 : decode cX8_rots 57 = .ok (.aload_n 0, 1) := dk_42 (dk_at dksX8_rots_2 9 rfl rfl)
theorem dX8_rots_58 : decode cX8_rots 58 = .ok (.iload_n 2, 1) := dk_28 (dk_at dksX8_rots_2 10 rfl rfl)
theorem dX8_rots_59 : decode cX8_rots 59 = .ok (.iconst 1, 1) := dk_4 (dk_at dksX8_rots_2 11 rfl rfl)
theorem dX8_rots_60 : decode cX8_rots 60 = .ok (.invokevirtual 52, 3) := dk_182 0 52 (dk_at dksX8_rots_2 12 rfl rfl)
theorem dX8_rots_63 : decode cX8_rots 63 = .ok (.ifCond .ne 15, 3) := dk_154 0 15 (dk_at dksX8_rots_2 15 rfl rfl)
theorem dX8_rots_66 : decode cX8_rots 66 = .ok (.aload_n 0, 1) := dk_42 (dk_at dksX8_rots_2 18 rfl rfl)
theorem dX8_rots_67 : decode cX8_rots 67 = .ok (.bipush 21, 2) := dk_16 21 (dk_at dksX8_rots_2 19 rfl rfl)
theorem dX8_rots_69 : decode cX8_rots 69 = .ok (.iconst 4, 1) := dk_7 (dk_at dksX8_rots_2 21 rfl rfl)
theorem dX8_rots_70 : decode cX8_rots 70 = .ok (.iload_n 2, 1) := dk_28 (dk_at dksX8_rots_2 22 rfl rfl)
theorem dX8_rots_71 : decode cX8_rots 71 = .ok (.iconst 4, 1) := dk_7 (dk_at dksX8_rots_2 23 rfl rfl)
theorem dX8_rots_72 : decode cX8_rots 72 = .ok (.invokevirtual 90, 3) := dk_182 0 90 (dk_at dksX8_rots_3 0 rfl rfl)
theorem dX8_rots_75 : decode cX8_rots 75 = .ok (.goto 6, 3) := dk_167 0 6 (dk_at dksX8_rots_3 3 rfl rfl)
theorem dX8_rots_78 : decode cX8_rots 78 = .ok (.iinc 2 1, 3) := dk_132 2 1 (dk_at dksX8_rots_3 6 rfl rfl)
theorem dX8_rots_81 : decode cX8_rots 81 = .ok (.goto (-77), 3) := dk_167 255 179 (dk_at dksX8_rots_3 9 rfl rfl)
theorem dX8_rots_84 : decode cX8_rots 84 = .ok (.iload_n 1, 1) := dk_27 (dk_at dksX8_rots_3 12 rfl rfl)
theorem dX8_rots_85 : decode cX8_rots 85 = .ok (.ireturn, 1) := dk_172 (dk_at dksX8_rots_3 13 rfl rfl)
abbrev cX8_debtOf : ByteArray := prog_26_method_77_code
def yX8_debtOf : MethodName := ⟨RX8, "debtOf", "(I)I"⟩
def dkwX8_debtOf_1 : List UInt8 := [167, 0, 8, 42, 27, 182, 0, 60, 172]
abbrev dktX8_debtOf_1 : List UInt8 := dkwX8_debtOf_1 ++ []
def dkwX8_debtOf_0 : List UInt8 := [42, 27, 184, 0, 135, 153, 0, 7, 3, 167, 0, 4, 4, 181, 0, 37, 42, 180, 0, 37, 158, 0, 7, 3]
abbrev dktX8_debtOf_0 : List UInt8 := dkwX8_debtOf_0 ++ dktX8_debtOf_1
theorem dksX8_debtOf_0 : cX8_debtOf.data.toList.drop 0 = dktX8_debtOf_0 := by decide +kernel
theorem dksX8_debtOf_1 : cX8_debtOf.data.toList.drop 24 = dktX8_debtOf_1 := dk_seg dksX8_debtOf_0 24 rfl rfl
theorem dX8_debtOf_0 : decode cX8_debtOf 0 = .ok (.aload_n 0, 1) := dk_42 (dk_at dksX8_debtOf_0 0 rfl rfl)
theorem dX8_debtOf_1 : decode cX8_debtOf 1 = .ok (.iload_n 1, 1) := dk_27 (dk_at dksX8_debtOf_0 1 rfl rfl)
theorem dX8_debtOf_2 : decode cX8_debtOf 2 = .ok (.invokestatic 135, 3) := dk_184 0 135 (dk_at dksX8_debtOf_0 2 rfl rfl)
theorem dX8_debtOf_5 : decode cX8_debtOf 5 = .ok (.ifCond .eq 7, 3) := dk_153 0 7 (dk_at dksX8_debtOf_0 5 rfl rfl)
theorem dX8_debtOf_8 : decode cX8_debtOf 8 = .ok (.iconst 0, 1) := dk_3 (dk_at dksX8_debtOf_0 8 rfl rfl)
theorem dX8_debtOf_9 : decode cX8_debtOf 9 = .ok (.goto 4, 3) := dk_167 0 4 (dk_at dksX8_debtOf_0 9 rfl rfl)
theorem dX8_debtOf_12 : decode cX8_debtOf 12 = .ok (.iconst 1, 1) := dk_4 (dk_at dksX8_debtOf_0 12 rfl rfl)
theorem dX8_debtOf_13 : decode cX8_debtOf 13 = .ok (.putfield 37, 3) := dk_181 0 37 (dk_at dksX8_debtOf_0 13 rfl rfl)
theorem dX8_debtOf_16 : decode cX8_debtOf 16 = .ok (.aload_n 0, 1) := dk_42 (dk_at dksX8_debtOf_0 16 rfl rfl)
theorem dX8_debtOf_17 : decode cX8_debtOf 17 = .ok (.getfield 37, 3) := dk_180 0 37 (dk_at dksX8_debtOf_0 17 rfl rfl)
theorem dX8_debtOf_20 : decode cX8_debtOf 20 = .ok (.ifCond .le 7, 3) := dk_158 0 7 (dk_at dksX8_debtOf_0 20 rfl rfl)
theorem dX8_debtOf_23 : decode cX8_debtOf 23 = .ok (.iconst 0, 1) := dk_3 (dk_at dksX8_debtOf_0 23 rfl rfl)
theorem dX8_debtOf_24 : decode cX8_debtOf 24 = .ok (.goto 8, 3) := dk_167 0 8 (dk_at dksX8_debtOf_1 0 rfl rfl)
theorem dX8_debtOf_27 : decode cX8_debtOf 27 = .ok (.aload_n 0, 1) := dk_42 (dk_at dksX8_debtOf_1 3 rfl rfl)
theorem dX8_debtOf_28 : decode cX8_debtOf 28 = .ok (.iload_n 1, 1) := dk_27 (dk_at dksX8_debtOf_1 4 rfl rfl)
theorem dX8_debtOf_29 : decode cX8_debtOf 29 = .ok (.invokevirtual 60, 3) := dk_182 0 60 (dk_at dksX8_debtOf_1 5 rfl rfl)
theorem dX8_debtOf_32 : decode cX8_debtOf 32 = .ok (.ireturn, 1) := dk_172 (dk_at dksX8_debtOf_1 8 rfl rfl)
abbrev cX8_passLeft : ByteArray := prog_26_method_78_code
def yX8_passLeft : MethodName := ⟨RX8, "passLeft", "(I)I"⟩
def dkwX8_passLeft_2 : List UInt8 := [42, 180, 0, 7, 3, 46, 100, 4, 96, 172]
abbrev dktX8_passLeft_2 : List UInt8 := dkwX8_passLeft_2 ++ []
def dkwX8_passLeft_1 : List UInt8 := [27, 182, 0, 56, 154, 0, 7, 3, 167, 0, 25, 42, 180, 0, 7, 16, 13, 5, 27, 104, 96, 4, 96, 46]
abbrev dktX8_passLeft_1 : List UInt8 := dkwX8_passLeft_1 ++ dktX8_passLeft_2
def dkwX8_passLeft_0 : List UInt8 := [42, 27, 184, 0, 135, 153, 0, 7, 3, 167, 0, 4, 4, 181, 0, 37, 42, 180, 0, 37, 157, 0, 11, 42]
abbrev dktX8_passLeft_0 : List UInt8 := dkwX8_passLeft_0 ++ dktX8_passLeft_1
theorem dksX8_passLeft_0 : cX8_passLeft.data.toList.drop 0 = dktX8_passLeft_0 := by decide +kernel
theorem dksX8_passLeft_1 : cX8_passLeft.data.toList.drop 24 = dktX8_passLeft_1 := dk_seg dksX8_passLeft_0 24 rfl rfl
theorem dksX8_passLeft_2 : cX8_passLeft.data.toList.drop 48 = dktX8_passLeft_2 := dk_seg dksX8_passLeft_1 24 rfl rfl
theorem dX8_passLeft_0 : decode cX8_passLeft 0 = .ok (.aload_n 0, 1) := dk_42 (dk_at dksX8_passLeft_0 0 rfl rfl)
theorem dX8_passLeft_1 : decode cX8_passLeft 1 = .ok (.iload_n 1, 1) := dk_27 (dk_at dksX8_passLeft_0 1 rfl rfl)
theorem dX8_passLeft_2 : decode cX8_passLeft 2 = .ok (.invokestatic 135, 3) := dk_184 0 135 (dk_at dksX8_passLeft_0 2 rfl rfl)
theorem dX8_passLeft_5 : decode cX8_passLeft 5 = .ok (.ifCond .eq 7, 3) := dk_153 0 7 (dk_at dksX8_passLeft_0 5 rfl rfl)
theorem dX8_passLeft_8 : decode cX8_passLeft 8 = .ok (.iconst 0, 1) := dk_3 (dk_at dksX8_passLeft_0 8 rfl rfl)
theorem dX8_passLeft_9 : decode cX8_passLeft 9 = .ok (.goto 4, 3) := dk_167 0 4 (dk_at dksX8_passLeft_0 9 rfl rfl)
theorem dX8_passLeft_12 : decode cX8_passLeft 12 = .ok (.iconst 1, 1) := dk_4 (dk_at dksX8_passLeft_0 12 rfl rfl)
theorem dX8_passLeft_13 : decode cX8_passLeft 13 = .ok (.putfield 37, 3) := dk_181 0 37 (dk_at dksX8_passLeft_0 13 rfl rfl)
theorem dX8_passLeft_16 : decode cX8_passLeft 16 = .ok (.aload_n 0, 1) := dk_42 (dk_at dksX8_passLeft_0 16 rfl rfl)
theorem dX8_passLeft_17 : decode cX8_passLeft 17 = .ok (.getfield 37, 3) := dk_180 0 37 (dk_at dksX8_passLeft_0 17 rfl rfl)
theorem dX8_passLeft_20 : decode cX8_passLeft 20 = .ok (.ifCond .gt 11, 3) := dk_157 0 11 (dk_at dksX8_passLeft_0 20 rfl rfl)
theorem dX8_passLeft_23 : decode cX8_passLeft 23 = .ok (.aload_n 0, 1) := dk_42 (dk_at dksX8_passLeft_0 23 rfl rfl)
theorem dX8_passLeft_24 : decode cX8_passLeft 24 = .ok (.iload_n 1, 1) := dk_27 (dk_at dksX8_passLeft_1 0 rfl rfl)
theorem dX8_passLeft_25 : decode cX8_passLeft 25 = .ok (.invokevirtual 56, 3) := dk_182 0 56 (dk_at dksX8_passLeft_1 1 rfl rfl)
theorem dX8_passLeft_28 : decode cX8_passLeft 28 = .ok (.ifCond .ne 7, 3) := dk_154 0 7 (dk_at dksX8_passLeft_1 4 rfl rfl)
theorem dX8_passLeft_31 : decode cX8_passLeft 31 = .ok (.iconst 0, 1) := dk_3 (dk_at dksX8_passLeft_1 7 rfl rfl)
theorem dX8_passLeft_32 : decode cX8_passLeft 32 = .ok (.goto 25, 3) := dk_167 0 25 (dk_at dksX8_passLeft_1 8 rfl rfl)
theorem dX8_passLeft_35 : decode cX8_passLeft 35 = .ok (.aload_n 0, 1) := dk_42 (dk_at dksX8_passLeft_1 11 rfl rfl)
theorem dX8_passLeft_36 : decode cX8_passLeft 36 = .ok (.getfield 7, 3) := dk_180 0 7 (dk_at dksX8_passLeft_1 12 rfl rfl)
theorem dX8_passLeft_39 : decode cX8_passLeft 39 = .ok (.bipush 13, 2) := dk_16 13 (dk_at dksX8_passLeft_1 15 rfl rfl)
theorem dX8_passLeft_41 : decode cX8_passLeft 41 = .ok (.iconst 2, 1) := dk_5 (dk_at dksX8_passLeft_1 17 rfl rfl)
theorem dX8_passLeft_42 : decode cX8_passLeft 42 = .ok (.iload_n 1, 1) := dk_27 (dk_at dksX8_passLeft_1 18 rfl rfl)
theorem dX8_passLeft_43 : decode cX8_passLeft 43 = .ok (.imul, 1) := dk_104 (dk_at dksX8_passLeft_1 19 rfl rfl)
theorem dX8_passLeft_44 : decode cX8_passLeft 44 = .ok (.iadd, 1) := dk_96 (dk_at dksX8_passLeft_1 20 rfl rfl)
theorem dX8_passLeft_45 : decode cX8_passLeft 45 = .ok (.iconst 1, 1) := dk_4 (dk_at dksX8_passLeft_1 21 rfl rfl)
theorem dX8_passLeft_46 : decode cX8_passLeft 46 = .ok (.iadd, 1) := dk_96 (dk_at dksX8_passLeft_1 22 rfl rfl)
theorem dX8_passLeft_47 : decode cX8_passLeft 47 = .ok (.iaload, 1) := dk_46 (dk_at dksX8_passLeft_1 23 rfl rfl)
theorem dX8_passLeft_48 : decode cX8_passLeft 48 = .ok (.aload_n 0, 1) := dk_42 (dk_at dksX8_passLeft_2 0 rfl rfl)
theorem dX8_passLeft_49 : decode cX8_passLeft 49 = .ok (.getfield 7, 3) := dk_180 0 7 (dk_at dksX8_passLeft_2 1 rfl rfl)
theorem dX8_passLeft_52 : decode cX8_passLeft 52 = .ok (.iconst 0, 1) := dk_3 (dk_at dksX8_passLeft_2 4 rfl rfl)
theorem dX8_passLeft_53 : decode cX8_passLeft 53 = .ok (.iaload, 1) := dk_46 (dk_at dksX8_passLeft_2 5 rfl rfl)
theorem dX8_passLeft_54 : decode cX8_passLeft 54 = .ok (.isub, 1) := dk_100 (dk_at dksX8_passLeft_2 6 rfl rfl)
theorem dX8_passLeft_55 : decode cX8_passLeft 55 = .ok (.iconst 1, 1) := dk_4 (dk_at dksX8_passLeft_2 7 rfl rfl)
theorem dX8_passLeft_56 : decode cX8_passLeft 56 = .ok (.iadd, 1) := dk_96 (dk_at dksX8_passLeft_2 8 rfl rfl)
theorem dX8_passLeft_57 : decode cX8_passLeft 57 = .ok (.ireturn, 1) := dk_172 (dk_at dksX8_passLeft_2 9 rfl rfl)
abbrev cX8_tollFor : ByteArray := prog_26_method_79_code
def yX8_tollFor : MethodName := ⟨RX8, "tollFor", "(II)I"⟩
def dkwX8_tollFor_1 : List UInt8 := [181, 0, 37, 42, 180, 0, 37, 158, 0, 7, 3, 167, 0, 9, 42, 27, 28, 182, 0, 64, 172]
abbrev dktX8_tollFor_1 : List UInt8 := dkwX8_tollFor_1 ++ []
def dkwX8_tollFor_0 : List UInt8 := [42, 27, 184, 0, 135, 154, 0, 7, 4, 167, 0, 15, 28, 184, 0, 141, 153, 0, 7, 3, 167, 0, 4, 5]
abbrev dktX8_tollFor_0 : List UInt8 := dkwX8_tollFor_0 ++ dktX8_tollFor_1
theorem dksX8_tollFor_0 : cX8_tollFor.data.toList.drop 0 = dktX8_tollFor_0 := by decide +kernel
theorem dksX8_tollFor_1 : cX8_tollFor.data.toList.drop 24 = dktX8_tollFor_1 := dk_seg dksX8_tollFor_0 24 rfl rfl
theorem dX8_tollFor_0 : decode cX8_tollFor 0 = .ok (.aload_n 0, 1) := dk_42 (dk_at dksX8_tollFor_0 0 rfl rfl)
theorem dX8_tollFor_1 : decode cX8_tollFor 1 = .ok (.iload_n 1, 1) := dk_27 (dk_at dksX8_tollFor_0 1 rfl rfl)
theorem dX8_tollFor_2 : decode cX8_tollFor 2 = .ok (.invokestatic 135, 3) := dk_184 0 135 (dk_at dksX8_tollFor_0 2 rfl rfl)
theorem dX8_tollFor_5 : decode cX8_tollFor 5 = .ok (.ifCond .ne 7, 3) := dk_154 0 7 (dk_at dksX8_tollFor_0 5 rfl rfl)
theorem dX8_tollFor_8 : decode cX8_tollFor 8 = .ok (.iconst 1, 1) := dk_4 (dk_at dksX8_tollFor_0 8 rfl rfl)
theorem dX8_tollFor_9 : decode cX8_tollFor 9 = .ok (.goto 15, 3) := dk_167 0 15 (dk_at dksX8_tollFor_0 9 rfl rfl)
theorem dX8_tollFor_12 : decode cX8_tollFor 12 = .ok (.iload_n 2, 1) := dk_28 (dk_at dksX8_tollFor_0 12 rfl rfl)
theorem dX8_tollFor_13 : decode cX8_tollFor 13 = .ok (.invokestatic 141, 3) := dk_184 0 141 (dk_at dksX8_tollFor_0 13 rfl rfl)
theorem dX8_tollFor_16 : decode cX8_tollFor 16 = .ok (.ifCond .eq 7, 3) := dk_153 0 7 (dk_at dksX8_tollFor_0 16 rfl rfl)
theorem dX8_tollFor_19 : decode cX8_tollFor 19 = .ok (.iconst 0, 1) := dk_3 (dk_at dksX8_tollFor_0 19 rfl rfl)
theorem dX8_tollFor_20 : decode cX8_tollFor 20 = .ok (.goto 4, 3) := dk_167 0 4 (dk_at dksX8_tollFor_0 20 rfl rfl)
theorem dX8_tollFor_23 : decode cX8_tollFor 23 = .ok (.iconst 2, 1) := dk_5 (dk_at dksX8_tollFor_0 23 rfl rfl)
theorem dX8_tollFor_24 : decode cX8_tollFor 24 = .ok (.putfield 37, 3) := dk_181 0 37 (dk_at dksX8_tollFor_1 0 rfl rfl)
theorem dX8_tollFor_27 : decode cX8_tollFor 27 = .ok (.aload_n 0, 1) := dk_42 (dk_at dksX8_tollFor_1 3 rfl rfl)
theorem dX8_tollFor_28 : decode cX8_tollFor 28 = .ok (.getfield 37, 3) := dk_180 0 37 (dk_at dksX8_tollFor_1 4 rfl rfl)
theorem dX8_tollFor_31 : decode cX8_tollFor 31 = .ok (.ifCond .le 7, 3) := dk_158 0 7 (dk_at dksX8_tollFor_1 7 rfl rfl)
theorem dX8_tollFor_34 : decode cX8_tollFor 34 = .ok (.iconst 0, 1) := dk_3 (dk_at dksX8_tollFor_1 10 rfl rfl)
theorem dX8_tollFor_35 : decode cX8_tollFor 35 = .ok (.goto 9, 3) := dk_167 0 9 (dk_at dksX8_tollFor_1 11 rfl rfl)
theorem dX8_tollFor_38 : decode cX8_tollFor 38 = .ok (.aload_n 0, 1) := dk_42 (dk_at dksX8_tollFor_1 14 rfl rfl)
theorem dX8_tollFor_39 : decode cX8_tollFor 39 = .ok (.iload_n 1, 1) := dk_27 (dk_at dksX8_tollFor_1 15 rfl rfl)
theorem dX8_tollFor_40 : decode cX8_tollFor 40 = .ok (.iload_n 2, 1) := dk_28 (dk_at dksX8_tollFor_1 16 rfl rfl)
theorem dX8_tollFor_41 : decode cX8_tollFor 41 = .ok (.invokevirtual 64, 3) := dk_182 0 64 (dk_at dksX8_tollFor_1 17 rfl rfl)
theorem dX8_tollFor_44 : decode cX8_tollFor 44 = .ok (.ireturn, 1) := dk_172 (dk_at dksX8_tollFor_1 20 rfl rfl)
abbrev cX8_whyNotIn : ByteArray := prog_26_method_80_code
def yX8_whyNotIn : MethodName := ⟨RX8, "whyNotIn", "(III)I"⟩
def dkwX8_whyNotIn_2 : List UInt8 := [28, 29, 182, 0, 147, 172]
abbrev dktX8_whyNotIn_2 : List UInt8 := dkwX8_whyNotIn_2 ++ []
def dkwX8_whyNotIn_1 : List UInt8 := [153, 0, 7, 3, 167, 0, 4, 5, 181, 0, 37, 42, 180, 0, 37, 158, 0, 7, 3, 167, 0, 10, 42, 27]
abbrev dktX8_whyNotIn_1 : List UInt8 := dkwX8_whyNotIn_1 ++ dktX8_whyNotIn_2
def dkwX8_whyNotIn_0 : List UInt8 := [42, 27, 184, 0, 135, 154, 0, 7, 4, 167, 0, 22, 28, 184, 0, 141, 153, 0, 14, 29, 184, 0, 144]
abbrev dktX8_whyNotIn_0 : List UInt8 := dkwX8_whyNotIn_0 ++ dktX8_whyNotIn_1
theorem dksX8_whyNotIn_0 : cX8_whyNotIn.data.toList.drop 0 = dktX8_whyNotIn_0 := by decide +kernel
theorem dksX8_whyNotIn_1 : cX8_whyNotIn.data.toList.drop 23 = dktX8_whyNotIn_1 := dk_seg dksX8_whyNotIn_0 23 rfl rfl
theorem dksX8_whyNotIn_2 : cX8_whyNotIn.data.toList.drop 47 = dktX8_whyNotIn_2 := dk_seg dksX8_whyNotIn_1 24 rfl rfl
theorem dX8_whyNotIn_0 : decode cX8_whyNotIn 0 = .ok (.aload_n 0, 1) := dk_42 (dk_at dksX8_whyNotIn_0 0 rfl rfl)
theorem dX8_whyNotIn_1 : decode cX8_whyNotIn 1 = .ok (.iload_n 1, 1) := dk_27 (dk_at dksX8_whyNotIn_0 1 rfl rfl)
theorem dX8_whyNotIn_2 : decode cX8_whyNotIn 2 = .ok (.invokestatic 135, 3) := dk_184 0 135 (dk_at dksX8_whyNotIn_0 2 rfl rfl)
theorem dX8_whyNotIn_5 : decode cX8_whyNotIn 5 = .ok (.ifCond .ne 7, 3) := dk_154 0 7 (dk_at dksX8_whyNotIn_0 5 rfl rfl)
theorem dX8_whyNotIn_8 : decode cX8_whyNotIn 8 = .ok (.iconst 1, 1) := dk_4 (dk_at dksX8_whyNotIn_0 8 rfl rfl)
theorem dX8_whyNotIn_9 : decode cX8_whyNotIn 9 = .ok (.goto 22, 3) := dk_167 0 22 (dk_at dksX8_whyNotIn_0 9 rfl rfl)
theorem dX8_whyNotIn_12 : decode cX8_whyNotIn 12 = .ok (.iload_n 2, 1) := dk_28 (dk_at dksX8_whyNotIn_0 12 rfl rfl)
theorem dX8_whyNotIn_13 : decode cX8_whyNotIn 13 = .ok (.invokestatic 141, 3) := dk_184 0 141 (dk_at dksX8_whyNotIn_0 13 rfl rfl)
theorem dX8_whyNotIn_16 : decode cX8_whyNotIn 16 = .ok (.ifCond .eq 14, 3) := dk_153 0 14 (dk_at dksX8_whyNotIn_0 16 rfl rfl)
theorem dX8_whyNotIn_19 : decode cX8_whyNotIn 19 = .ok (.iload_n 3, 1) := dk_29 (dk_at dksX8_whyNotIn_0 19 rfl rfl)
theorem dX8_whyNotIn_20 : decode cX8_whyNotIn 20 = .ok (.invokestatic 144, 3) := dk_184 0 144 (dk_at dksX8_whyNotIn_0 20 rfl rfl)
theorem dX8_whyNotIn_23 : decode cX8_whyNotIn 23 = .ok (.ifCond .eq 7, 3) := dk_153 0 7 (dk_at dksX8_whyNotIn_1 0 rfl rfl)
theorem dX8_whyNotIn_26 : decode cX8_whyNotIn 26 = .ok (.iconst 0, 1) := dk_3 (dk_at dksX8_whyNotIn_1 3 rfl rfl)
theorem dX8_whyNotIn_27 : decode cX8_whyNotIn 27 = .ok (.goto 4, 3) := dk_167 0 4 (dk_at dksX8_whyNotIn_1 4 rfl rfl)
theorem dX8_whyNotIn_30 : decode cX8_whyNotIn 30 = .ok (.iconst 2, 1) := dk_5 (dk_at dksX8_whyNotIn_1 7 rfl rfl)
theorem dX8_whyNotIn_31 : decode cX8_whyNotIn 31 = .ok (.putfield 37, 3) := dk_181 0 37 (dk_at dksX8_whyNotIn_1 8 rfl rfl)
theorem dX8_whyNotIn_34 : decode cX8_whyNotIn 34 = .ok (.aload_n 0, 1) := dk_42 (dk_at dksX8_whyNotIn_1 11 rfl rfl)
theorem dX8_whyNotIn_35 : decode cX8_whyNotIn 35 = .ok (.getfield 37, 3) := dk_180 0 37 (dk_at dksX8_whyNotIn_1 12 rfl rfl)
theorem dX8_whyNotIn_38 : decode cX8_whyNotIn 38 = .ok (.ifCond .le 7, 3) := dk_158 0 7 (dk_at dksX8_whyNotIn_1 15 rfl rfl)
theorem dX8_whyNotIn_41 : decode cX8_whyNotIn 41 = .ok (.iconst 0, 1) := dk_3 (dk_at dksX8_whyNotIn_1 18 rfl rfl)
theorem dX8_whyNotIn_42 : decode cX8_whyNotIn 42 = .ok (.goto 10, 3) := dk_167 0 10 (dk_at dksX8_whyNotIn_1 19 rfl rfl)
theorem dX8_whyNotIn_45 : decode cX8_whyNotIn 45 = .ok (.aload_n 0, 1) := dk_42 (dk_at dksX8_whyNotIn_1 22 rfl rfl)
theorem dX8_whyNotIn_46 : decode cX8_whyNotIn 46 = .ok (.iload_n 1, 1) := dk_27 (dk_at dksX8_whyNotIn_1 23 rfl rfl)
theorem dX8_whyNotIn_47 : decode cX8_whyNotIn 47 = .ok (.iload_n 2, 1) := dk_28 (dk_at dksX8_whyNotIn_2 0 rfl rfl)
theorem dX8_whyNotIn_48 : decode cX8_whyNotIn 48 = .ok (.iload_n 3, 1) := dk_29 (dk_at dksX8_whyNotIn_2 1 rfl rfl)
theorem dX8_whyNotIn_49 : decode cX8_whyNotIn 49 = .ok (.invokevirtual 147, 3) := dk_182 0 147 (dk_at dksX8_whyNotIn_2 2 rfl rfl)
theorem dX8_whyNotIn_52 : decode cX8_whyNotIn 52 = .ok (.ireturn, 1) := dk_172 (dk_at dksX8_whyNotIn_2 5 rfl rfl)
abbrev cX8_bales : ByteArray := prog_26_method_82_code
def yX8_bales : MethodName := ⟨RX8, "bales", "()I"⟩
def dkwX8_bales_0 : List UInt8 := [42, 7, 182, 0, 231, 172]
abbrev dktX8_bales_0 : List UInt8 := dkwX8_bales_0 ++ []
theorem dksX8_bales_0 : cX8_bales.data.toList.drop 0 = dktX8_bales_0 := by decide +kernel
theorem dX8_bales_0 : decode cX8_bales 0 = .ok (.aload_n 0, 1) := dk_42 (dk_at dksX8_bales_0 0 rfl rfl)
theorem dX8_bales_1 : decode cX8_bales 1 = .ok (.iconst 4, 1) := dk_7 (dk_at dksX8_bales_0 1 rfl rfl)
theorem dX8_bales_2 : decode cX8_bales 2 = .ok (.invokevirtual 231, 3) := dk_182 0 231 (dk_at dksX8_bales_0 2 rfl rfl)
theorem dX8_bales_5 : decode cX8_bales 5 = .ok (.ireturn, 1) := dk_172 (dk_at dksX8_bales_0 5 rfl rfl)
abbrev cX8_count : ByteArray := prog_26_method_81_code
def yX8_count : MethodName := ⟨RX8, "count", "(I)I"⟩
def dkwX8_count_0 : List UInt8 := [42, 3, 181, 0, 37, 42, 180, 0, 7, 27, 46, 172]
abbrev dktX8_count_0 : List UInt8 := dkwX8_count_0 ++ []
theorem dksX8_count_0 : cX8_count.data.toList.drop 0 = dktX8_count_0 := by decide +kernel
theorem dX8_count_0 : decode cX8_count 0 = .ok (.aload_n 0, 1) := dk_42 (dk_at dksX8_count_0 0 rfl rfl)
theorem dX8_count_1 : decode cX8_count 1 = .ok (.iconst 0, 1) := dk_3 (dk_at dksX8_count_0 1 rfl rfl)
theorem dX8_count_2 : decode cX8_count 2 = .ok (.putfield 37, 3) := dk_181 0 37 (dk_at dksX8_count_0 2 rfl rfl)
theorem dX8_count_5 : decode cX8_count 5 = .ok (.aload_n 0, 1) := dk_42 (dk_at dksX8_count_0 5 rfl rfl)
theorem dX8_count_6 : decode cX8_count 6 = .ok (.getfield 7, 3) := dk_180 0 7 (dk_at dksX8_count_0 6 rfl rfl)
theorem dX8_count_9 : decode cX8_count 9 = .ok (.iload_n 1, 1) := dk_27 (dk_at dksX8_count_0 9 rfl rfl)
theorem dX8_count_10 : decode cX8_count 10 = .ok (.iaload, 1) := dk_46 (dk_at dksX8_count_0 10 rfl rfl)
theorem dX8_count_11 : decode cX8_count 11 = .ok (.ireturn, 1) := dk_172 (dk_at dksX8_count_0 11 rfl rfl)
abbrev cX8_sortOf : ByteArray := prog_26_method_84_code
def yX8_sortOf : MethodName := ⟨RX8, "sortOf", "(I)I"⟩
def dkwX8_sortOf_0 : List UInt8 := [42, 27, 3, 182, 0, 234, 172]
abbrev dktX8_sortOf_0 : List UInt8 := dkwX8_sortOf_0 ++ []
theorem dksX8_sortOf_0 : cX8_sortOf.data.toList.drop 0 = dktX8_sortOf_0 := by decide +kernel
theorem dX8_sortOf_0 : decode cX8_sortOf 0 = .ok (.aload_n 0, 1) := dk_42 (dk_at dksX8_sortOf_0 0 rfl rfl)
theorem dX8_sortOf_1 : decode cX8_sortOf 1 = .ok (.iload_n 1, 1) := dk_27 (dk_at dksX8_sortOf_0 1 rfl rfl)
theorem dX8_sortOf_2 : decode cX8_sortOf 2 = .ok (.iconst 0, 1) := dk_3 (dk_at dksX8_sortOf_0 2 rfl rfl)
theorem dX8_sortOf_3 : decode cX8_sortOf 3 = .ok (.invokevirtual 234, 3) := dk_182 0 234 (dk_at dksX8_sortOf_0 3 rfl rfl)
theorem dX8_sortOf_6 : decode cX8_sortOf 6 = .ok (.ireturn, 1) := dk_172 (dk_at dksX8_sortOf_0 6 rfl rfl)
abbrev cX8_tells : ByteArray := prog_26_method_83_code
def yX8_tells : MethodName := ⟨RX8, "tells", "(II)I"⟩
def dkwX8_tells_1 : List UInt8 := [3, 167, 0, 9, 42, 27, 28, 182, 0, 52, 172]
abbrev dktX8_tells_1 : List UInt8 := dkwX8_tells_1 ++ []
def dkwX8_tells_0 : List UInt8 := [42, 42, 27, 182, 0, 161, 153, 0, 7, 3, 167, 0, 4, 4, 181, 0, 37, 42, 180, 0, 37, 158, 0, 7]
abbrev dktX8_tells_0 : List UInt8 := dkwX8_tells_0 ++ dktX8_tells_1
theorem dksX8_tells_0 : cX8_tells.data.toList.drop 0 = dktX8_tells_0 := by decide +kernel
theorem dksX8_tells_1 : cX8_tells.data.toList.drop 24 = dktX8_tells_1 := dk_seg dksX8_tells_0 24 rfl rfl
theorem dX8_tells_0 : decode cX8_tells 0 = .ok (.aload_n 0, 1) := dk_42 (dk_at dksX8_tells_0 0 rfl rfl)
theorem dX8_tells_1 : decode cX8_tells 1 = .ok (.aload_n 0, 1) := dk_42 (dk_at dksX8_tells_0 1 rfl rfl)
theorem dX8_tells_2 : decode cX8_tells 2 = .ok (.iload_n 1, 1) := dk_27 (dk_at dksX8_tells_0 2 rfl rfl)
theorem dX8_tells_3 : decode cX8_tells 3 = .ok (.invokevirtual 161, 3) := dk_182 0 161 (dk_at dksX8_tells_0 3 rfl rfl)
theorem dX8_tells_6 : decode cX8_tells 6 = .ok (.ifCond .eq 7, 3) := dk_153 0 7 (dk_at dksX8_tells_0 6 rfl rfl)
theorem dX8_tells_9 : decode cX8_tells 9 = .ok (.iconst 0, 1) := dk_3 (dk_at dksX8_tells_0 9 rfl rfl)
theorem dX8_tells_10 : decode cX8_tells 10 = .ok (.goto 4, 3) := dk_167 0 4 (dk_at dksX8_tells_0 10 rfl rfl)
theorem dX8_tells_13 : decode cX8_tells 13 = .ok (.iconst 1, 1) := dk_4 (dk_at dksX8_tells_0 13 rfl rfl)
theorem dX8_tells_14 : decode cX8_tells 14 = .ok (.putfield 37, 3) := dk_181 0 37 (dk_at dksX8_tells_0 14 rfl rfl)
theorem dX8_tells_17 : decode cX8_tells 17 = .ok (.aload_n 0, 1) := dk_42 (dk_at dksX8_tells_0 17 rfl rfl)
theorem dX8_tells_18 : decode cX8_tells 18 = .ok (.getfield 37, 3) := dk_180 0 37 (dk_at dksX8_tells_0 18 rfl rfl)
theorem dX8_tells_21 : decode cX8_tells 21 = .ok (.ifCond .le 7, 3) := dk_158 0 7 (dk_at dksX8_tells_0 21 rfl rfl)
theorem dX8_tells_24 : decode cX8_tells 24 = .ok (.iconst 0, 1) := dk_3 (dk_at dksX8_tells_1 0 rfl rfl)
theorem dX8_tells_25 : decode cX8_tells 25 = .ok (.goto 9, 3) := dk_167 0 9 (dk_at dksX8_tells_1 1 rfl rfl)
theorem dX8_tells_28 : decode cX8_tells 28 = .ok (.aload_n 0, 1) := dk_42 (dk_at dksX8_tells_1 4 rfl rfl)
theorem dX8_tells_29 : decode cX8_tells 29 = .ok (.iload_n 1, 1) := dk_27 (dk_at dksX8_tells_1 5 rfl rfl)
theorem dX8_tells_30 : decode cX8_tells 30 = .ok (.iload_n 2, 1) := dk_28 (dk_at dksX8_tells_1 6 rfl rfl)
theorem dX8_tells_31 : decode cX8_tells 31 = .ok (.invokevirtual 52, 3) := dk_182 0 52 (dk_at dksX8_tells_1 7 rfl rfl)
theorem dX8_tells_34 : decode cX8_tells 34 = .ok (.ireturn, 1) := dk_172 (dk_at dksX8_tells_1 10 rfl rfl)
abbrev cX8_ragsOf : ByteArray := prog_26_method_85_code
def yX8_ragsOf : MethodName := ⟨RX8, "ragsOf", "(I)I"⟩
def dkwX8_ragsOf_0 : List UInt8 := [42, 27, 4, 182, 0, 234, 172]
abbrev dktX8_ragsOf_0 : List UInt8 := dkwX8_ragsOf_0 ++ []
theorem dksX8_ragsOf_0 : cX8_ragsOf.data.toList.drop 0 = dktX8_ragsOf_0 := by decide +kernel
theorem dX8_ragsOf_0 : decode cX8_ragsOf 0 = .ok (.aload_n 0, 1) := dk_42 (dk_at dksX8_ragsOf_0 0 rfl rfl)
theorem dX8_ragsOf_1 : decode cX8_ragsOf 1 = .ok (.iload_n 1, 1) := dk_27 (dk_at dksX8_ragsOf_0 1 rfl rfl)
theorem dX8_ragsOf_2 : decode cX8_ragsOf 2 = .ok (.iconst 1, 1) := dk_4 (dk_at dksX8_ragsOf_0 2 rfl rfl)
theorem dX8_ragsOf_3 : decode cX8_ragsOf 3 = .ok (.invokevirtual 234, 3) := dk_182 0 234 (dk_at dksX8_ragsOf_0 3 rfl rfl)
theorem dX8_ragsOf_6 : decode cX8_ragsOf 6 = .ok (.ireturn, 1) := dk_172 (dk_at dksX8_ragsOf_0 6 rfl rfl)
abbrev cX8_dampOf : ByteArray := prog_26_method_86_code
def yX8_dampOf : MethodName := ⟨RX8, "dampOf", "(I)I"⟩
def dkwX8_dampOf_0 : List UInt8 := [42, 27, 5, 182, 0, 234, 172]
abbrev dktX8_dampOf_0 : List UInt8 := dkwX8_dampOf_0 ++ []
theorem dksX8_dampOf_0 : cX8_dampOf.data.toList.drop 0 = dktX8_dampOf_0 := by decide +kernel
theorem dX8_dampOf_0 : decode cX8_dampOf 0 = .ok (.aload_n 0, 1) := dk_42 (dk_at dksX8_dampOf_0 0 rfl rfl)
theorem dX8_dampOf_1 : decode cX8_dampOf 1 = .ok (.iload_n 1, 1) := dk_27 (dk_at dksX8_dampOf_0 1 rfl rfl)
theorem dX8_dampOf_2 : decode cX8_dampOf 2 = .ok (.iconst 2, 1) := dk_5 (dk_at dksX8_dampOf_0 2 rfl rfl)
theorem dX8_dampOf_3 : decode cX8_dampOf 3 = .ok (.invokevirtual 234, 3) := dk_182 0 234 (dk_at dksX8_dampOf_0 3 rfl rfl)
theorem dX8_dampOf_6 : decode cX8_dampOf 6 = .ok (.ireturn, 1) := dk_172 (dk_at dksX8_dampOf_0 6 rfl rfl)
abbrev cX8_wetDaysOf : ByteArray := prog_26_method_87_code
def yX8_wetDaysOf : MethodName := ⟨RX8, "wetDaysOf", "(I)I"⟩
def dkwX8_wetDaysOf_0 : List UInt8 := [42, 27, 6, 182, 0, 234, 172]
abbrev dktX8_wetDaysOf_0 : List UInt8 := dkwX8_wetDaysOf_0 ++ []
theorem dksX8_wetDaysOf_0 : cX8_wetDaysOf.data.toList.drop 0 = dktX8_wetDaysOf_0 := by decide +kernel
theorem dX8_wetDaysOf_0 : decode cX8_wetDaysOf 0 = .ok (.aload_n 0, 1) := dk_42 (dk_at dksX8_wetDaysOf_0 0 rfl rfl)
theorem dX8_wetDaysOf_1 : decode cX8_wetDaysOf 1 = .ok (.iload_n 1, 1) := dk_27 (dk_at dksX8_wetDaysOf_0 1 rfl rfl)
theorem dX8_wetDaysOf_2 : decode cX8_wetDaysOf 2 = .ok (.iconst 3, 1) := dk_6 (dk_at dksX8_wetDaysOf_0 2 rfl rfl)
theorem dX8_wetDaysOf_3 : decode cX8_wetDaysOf 3 = .ok (.invokevirtual 234, 3) := dk_182 0 234 (dk_at dksX8_wetDaysOf_0 3 rfl rfl)
theorem dX8_wetDaysOf_6 : decode cX8_wetDaysOf 6 = .ok (.ireturn, 1) := dk_172 (dk_at dksX8_wetDaysOf_0 6 rfl rfl)
abbrev cX8_goodRags : ByteArray := prog_26_method_88_code
def yX8_goodRags : MethodName := ⟨RX8, "goodRags", "(I)I"⟩
def dkwX8_goodRags_1 : List UInt8 := [167, 0, 8, 42, 27, 182, 0, 81, 172]
abbrev dktX8_goodRags_1 : List UInt8 := dkwX8_goodRags_1 ++ []
def dkwX8_goodRags_0 : List UInt8 := [42, 27, 184, 0, 138, 153, 0, 7, 3, 167, 0, 4, 4, 181, 0, 37, 42, 180, 0, 37, 158, 0, 7, 3]
abbrev dktX8_goodRags_0 : List UInt8 := dkwX8_goodRags_0 ++ dktX8_goodRags_1
theorem dksX8_goodRags_0 : cX8_goodRags.data.toList.drop 0 = dktX8_goodRags_0 := by decide +kernel
theorem dksX8_goodRags_1 : cX8_goodRags.data.toList.drop 24 = dktX8_goodRags_1 := dk_seg dksX8_goodRags_0 24 rfl rfl
theorem dX8_goodRags_0 : decode cX8_goodRags 0 = .ok (.aload_n 0, 1) := dk_42 (dk_at dksX8_goodRags_0 0 rfl rfl)
theorem dX8_goodRags_1 : decode cX8_goodRags 1 = .ok (.iload_n 1, 1) := dk_27 (dk_at dksX8_goodRags_0 1 rfl rfl)
theorem dX8_goodRags_2 : decode cX8_goodRags 2 = .ok (.invokestatic 138, 3) := dk_184 0 138 (dk_at dksX8_goodRags_0 2 rfl rfl)
theorem dX8_goodRags_5 : decode cX8_goodRags 5 = .ok (.ifCond .eq 7, 3) := dk_153 0 7 (dk_at dksX8_goodRags_0 5 rfl rfl)
theorem dX8_goodRags_8 : decode cX8_goodRags 8 = .ok (.iconst 0, 1) := dk_3 (dk_at dksX8_goodRags_0 8 rfl rfl)
theorem dX8_goodRags_9 : decode cX8_goodRags 9 = .ok (.goto 4, 3) := dk_167 0 4 (dk_at dksX8_goodRags_0 9 rfl rfl)
theorem dX8_goodRags_12 : decode cX8_goodRags 12 = .ok (.iconst 1, 1) := dk_4 (dk_at dksX8_goodRags_0 12 rfl rfl)
theorem dX8_goodRags_13 : decode cX8_goodRags 13 = .ok (.putfield 37, 3) := dk_181 0 37 (dk_at dksX8_goodRags_0 13 rfl rfl)
theorem dX8_goodRags_16 : decode cX8_goodRags 16 = .ok (.aload_n 0, 1) := dk_42 (dk_at dksX8_goodRags_0 16 rfl rfl)
theorem dX8_goodRags_17 : decode cX8_goodRags 17 = .ok (.getfield 37, 3) := dk_180 0 37 (dk_at dksX8_goodRags_0 17 rfl rfl)
theorem dX8_goodRags_20 : decode cX8_goodRags 20 = .ok (.ifCond .le 7, 3) := dk_158 0 7 (dk_at dksX8_goodRags_0 20 rfl rfl)
theorem dX8_goodRags_23 : decode cX8_goodRags 23 = .ok (.iconst 0, 1) := dk_3 (dk_at dksX8_goodRags_0 23 rfl rfl)
theorem dX8_goodRags_24 : decode cX8_goodRags 24 = .ok (.goto 8, 3) := dk_167 0 8 (dk_at dksX8_goodRags_1 0 rfl rfl)
theorem dX8_goodRags_27 : decode cX8_goodRags 27 = .ok (.aload_n 0, 1) := dk_42 (dk_at dksX8_goodRags_1 3 rfl rfl)
theorem dX8_goodRags_28 : decode cX8_goodRags 28 = .ok (.iload_n 1, 1) := dk_27 (dk_at dksX8_goodRags_1 4 rfl rfl)
theorem dX8_goodRags_29 : decode cX8_goodRags 29 = .ok (.invokevirtual 81, 3) := dk_182 0 81 (dk_at dksX8_goodRags_1 5 rfl rfl)
theorem dX8_goodRags_32 : decode cX8_goodRags 32 = .ok (.ireturn, 1) := dk_172 (dk_at dksX8_goodRags_1 8 rfl rfl)
abbrev cX8_mouldReach : ByteArray := prog_26_method_90_code
def yX8_mouldReach : MethodName := ⟨RX8, "mouldReach", "(I)I"⟩
def dkwX8_mouldReach_1 : List UInt8 := [3, 167, 0, 16, 42, 27, 4, 182, 0, 237, 42, 27, 2, 182, 0, 237, 96, 172]
abbrev dktX8_mouldReach_1 : List UInt8 := dkwX8_mouldReach_1 ++ []
def dkwX8_mouldReach_0 : List UInt8 := [42, 42, 27, 182, 0, 161, 153, 0, 7, 3, 167, 0, 4, 4, 181, 0, 37, 42, 180, 0, 37, 158, 0, 7]
abbrev dktX8_mouldReach_0 : List UInt8 := dkwX8_mouldReach_0 ++ dktX8_mouldReach_1
theorem dksX8_mouldReach_0 : cX8_mouldReach.data.toList.drop 0 = dktX8_mouldReach_0 := by decide +kernel
theorem dksX8_mouldReach_1 : cX8_mouldReach.data.toList.drop 24 = dktX8_mouldReach_1 := dk_seg dksX8_mouldReach_0 24 rfl rfl
theorem dX8_mouldReach_0 : decode cX8_mouldReach 0 = .ok (.aload_n 0, 1) := dk_42 (dk_at dksX8_mouldReach_0 0 rfl rfl)
theorem dX8_mouldReach_1 : decode cX8_mouldReach 1 = .ok (.aload_n 0, 1) := dk_42 (dk_at dksX8_mouldReach_0 1 rfl rfl)
theorem dX8_mouldReach_2 : decode cX8_mouldReach 2 = .ok (.iload_n 1, 1) := dk_27 (dk_at dksX8_mouldReach_0 2 rfl rfl)
theorem dX8_mouldReach_3 : decode cX8_mouldReach 3 = .ok (.invokevirtual 161, 3) := dk_182 0 161 (dk_at dksX8_mouldReach_0 3 rfl rfl)
theorem dX8_mouldReach_6 : decode cX8_mouldReach 6 = .ok (.ifCond .eq 7, 3) := dk_153 0 7 (dk_at dksX8_mouldReach_0 6 rfl rfl)
theorem dX8_mouldReach_9 : decode cX8_mouldReach 9 = .ok (.iconst 0, 1) := dk_3 (dk_at dksX8_mouldReach_0 9 rfl rfl)
theorem dX8_mouldReach_10 : decode cX8_mouldReach 10 = .ok (.goto 4, 3) := dk_167 0 4 (dk_at dksX8_mouldReach_0 10 rfl rfl)
theorem dX8_mouldReach_13 : decode cX8_mouldReach 13 = .ok (.iconst 1, 1) := dk_4 (dk_at dksX8_mouldReach_0 13 rfl rfl)
theorem dX8_mouldReach_14 : decode cX8_mouldReach 14 = .ok (.putfield 37, 3) := dk_181 0 37 (dk_at dksX8_mouldReach_0 14 rfl rfl)
theorem dX8_mouldReach_17 : decode cX8_mouldReach 17 = .ok (.aload_n 0, 1) := dk_42 (dk_at dksX8_mouldReach_0 17 rfl rfl)
theorem dX8_mouldReach_18 : decode cX8_mouldReach 18 = .ok (.getfield 37, 3) := dk_180 0 37 (dk_at dksX8_mouldReach_0 18 rfl rfl)
theorem dX8_mouldReach_21 : decode cX8_mouldReach 21 = .ok (.ifCond .le 7, 3) := dk_158 0 7 (dk_at dksX8_mouldReach_0 21 rfl rfl)
theorem dX8_mouldReach_24 : decode cX8_mouldReach 24 = .ok (.iconst 0, 1) := dk_3 (dk_at dksX8_mouldReach_1 0 rfl rfl)
theorem dX8_mouldReach_25 : decode cX8_mouldReach 25 = .ok (.goto 16, 3) := dk_167 0 16 (dk_at dksX8_mouldReach_1 1 rfl rfl)
theorem dX8_mouldReach_28 : decode cX8_mouldReach 28 = .ok (.aload_n 0, 1) := dk_42 (dk_at dksX8_mouldReach_1 4 rfl rfl)
theorem dX8_mouldReach_29 : decode cX8_mouldReach 29 = .ok (.iload_n 1, 1) := dk_27 (dk_at dksX8_mouldReach_1 5 rfl rfl)
theorem dX8_mouldReach_30 : decode cX8_mouldReach 30 = .ok (.iconst 1, 1) := dk_4 (dk_at dksX8_mouldReach_1 6 rfl rfl)
theorem dX8_mouldReach_31 : decode cX8_mouldReach 31 = .ok (.invokevirtual 237, 3) := dk_182 0 237 (dk_at dksX8_mouldReach_1 7 rfl rfl)
theorem dX8_mouldReach_34 : decode cX8_mouldReach 34 = .ok (.aload_n 0, 1) := dk_42 (dk_at dksX8_mouldReach_1 10 rfl rfl)
theorem dX8_mouldReach_35 : decode cX8_mouldReach 35 = .ok (.iload_n 1, 1) := dk_27 (dk_at dksX8_mouldReach_1 11 rfl rfl)
theorem dX8_mouldReach_36 : decode cX8_mouldReach 36 = .ok (.iconst (-1), 1) := dk_2 (dk_at dksX8_mouldReach_1 12 rfl rfl)
theorem dX8_mouldReach_37 : decode cX8_mouldReach 37 = .ok (.invokevirtual 237, 3) := dk_182 0 237 (dk_at dksX8_mouldReach_1 13 rfl rfl)
theorem dX8_mouldReach_40 : decode cX8_mouldReach 40 = .ok (.iadd, 1) := dk_96 (dk_at dksX8_mouldReach_1 16 rfl rfl)
theorem dX8_mouldReach_41 : decode cX8_mouldReach 41 = .ok (.ireturn, 1) := dk_172 (dk_at dksX8_mouldReach_1 17 rfl rfl)
abbrev cX8_reach : ByteArray := prog_26_method_89_code
def yX8_reach : MethodName := ⟨RX8, "reach", "(II)I"⟩
def dkwX8_reach_2 : List UInt8 := [167, 255, 217, 29, 172]
abbrev dktX8_reach_2 : List UInt8 := dkwX8_reach_2 ++ []
def dkwX8_reach_1 : List UInt8 := [154, 0, 27, 42, 21, 4, 5, 182, 0, 52, 16, 20, 161, 0, 15, 132, 3, 1, 21, 4, 28, 96, 54, 4]
abbrev dktX8_reach_1 : List UInt8 := dkwX8_reach_1 ++ dktX8_reach_2
def dkwX8_reach_0 : List UInt8 := [3, 62, 27, 28, 96, 54, 4, 42, 21, 4, 182, 0, 161, 153, 0, 36, 42, 21, 4, 182, 0, 71]
abbrev dktX8_reach_0 : List UInt8 := dkwX8_reach_0 ++ dktX8_reach_1
theorem dksX8_reach_0 : cX8_reach.data.toList.drop 0 = dktX8_reach_0 := by decide +kernel
theorem dksX8_reach_1 : cX8_reach.data.toList.drop 22 = dktX8_reach_1 := dk_seg dksX8_reach_0 22 rfl rfl
theorem dksX8_reach_2 : cX8_reach.data.toList.drop 46 = dktX8_reach_2 := dk_seg dksX8_reach_1 24 rfl rfl
theorem dX8_reach_0 : decode cX8_reach 0 = .ok (.iconst 0, 1) := dk_3 (dk_at dksX8_reach_0 0 rfl rfl)
theorem dX8_reach_1 : decode cX8_reach 1 = .ok (.istore_n 3, 1) := dk_62 (dk_at dksX8_reach_0 1 rfl rfl)
theorem dX8_reach_2 : decode cX8_reach 2 = .ok (.iload_n 1, 1) := dk_27 (dk_at dksX8_reach_0 2 rfl rfl)
theorem dX8_reach_3 : decode cX8_reach 3 = .ok (.iload_n 2, 1) := dk_28 (dk_at dksX8_reach_0 3 rfl rfl)
theorem dX8_reach_4 : decode cX8_reach 4 = .ok (.iadd, 1) := dk_96 (dk_at dksX8_reach_0 4 rfl rfl)
theorem dX8_reach_5 : decode cX8_reach 5 = .ok (.istore 4, 2) := dk_54 4 (dk_at dksX8_reach_0 5 rfl rfl)
theorem dX8_reach_7 : decode cX8_reach 7 = .ok (.aload_n 0, 1) := dk_42 (dk_at dksX8_reach_0 7 rfl rfl)
theorem dX8_reach_8 : decode cX8_reach 8 = .ok (.iload 4, 2) := dk_21 4 (dk_at dksX8_reach_0 8 rfl rfl)
theorem dX8_reach_10 : decode cX8_reach 10 = .ok (.invokevirtual 161, 3) := dk_182 0 161 (dk_at dksX8_reach_0 10 rfl rfl)
theorem dX8_reach_13 : decode cX8_reach 13 = .ok (.ifCond .eq 36, 3) := dk_153 0 36 (dk_at dksX8_reach_0 13 rfl rfl)
theorem dX8_reach_16 : decode cX8_reach 16 = .ok (.aload_n 0, 1) := dk_42 (dk_at dksX8_reach_0 16 rfl rfl)
theorem dX8_reach_17 : decode cX8_reach 17 = .ok (.iload 4, 2) := dk_21 4 (dk_at dksX8_reach_0 17 rfl rfl)
theorem dX8_reach_19 : decode cX8_reach 19 = .ok (.invokevirtual 71, 3) := dk_182 0 71 (dk_at dksX8_reach_0 19 rfl rfl)
theorem dX8_reach_22 : decode cX8_reach 22 = .ok (.ifCond .ne 27, 3) := dk_154 0 27 (dk_at dksX8_reach_1 0 rfl rfl)
theorem dX8_reach_25 : decode cX8_reach 25 = .ok (.aload_n 0, 1) := dk_42 (dk_at dksX8_reach_1 3 rfl rfl)
theorem dX8_reach_26 : decode cX8_reach 26 = .ok (.iload 4, 2) := dk_21 4 (dk_at dksX8_reach_1 4 rfl rfl)
theorem dX8_reach_28 : decode cX8_reach 28 = .ok (.iconst 2, 1) := dk_5 (dk_at dksX8_reach_1 6 rfl rfl)
theorem dX8_reach_29 : decode cX8_reach 29 = .ok (.invokevirtual 52, 3) := dk_182 0 52 (dk_at dksX8_reach_1 7 rfl rfl)
theorem dX8_reach_32 : decode cX8_reach 32 = .ok (.bipush 20, 2) := dk_16 20 (dk_at dksX8_reach_1 10 rfl rfl)
theorem dX8_reach_34 : decode cX8_reach 34 = .ok (.if_icmp .lt 15, 3) := dk_161 0 15 (dk_at dksX8_reach_1 12 rfl rfl)
theorem dX8_reach_37 : decode cX8_reach 37 = .ok (.iinc 3 1, 3) := dk_132 3 1 (dk_at dksX8_reach_1 15 rfl rfl)
theorem dX8_reach_40 : decode cX8_reach 40 = .ok (.iload 4, 2) := dk_21 4 (dk_at dksX8_reach_1 18 rfl rfl)
theorem dX8_reach_42 : decode cX8_reach 42 = .ok (.iload_n 2, 1) := dk_28 (dk_at dksX8_reach_1 20 rfl rfl)
theorem dX8_reach_43 : decode cX8_reach 43 = .ok (.iadd, 1) := dk_96 (dk_at dksX8_reach_1 21 rfl rfl)
theorem dX8_reach_44 : decode cX8_reach 44 = .ok (.istore 4, 2) := dk_54 4 (dk_at dksX8_reach_1 22 rfl rfl)
theorem dX8_reach_46 : decode cX8_reach 46 = .ok (.goto (-39), 3) := dk_167 255 217 (dk_at dksX8_reach_2 0 rfl rfl)
theorem dX8_reach_49 : decode cX8_reach 49 = .ok (.iload_n 3, 1) := dk_29 (dk_at dksX8_reach_2 3 rfl rfl)
theorem dX8_reach_50 : decode cX8_reach 50 = .ok (.ireturn, 1) := dk_172 (dk_at dksX8_reach_2 4 rfl rfl)
abbrev cX8_partsOf : ByteArray := prog_26_method_91_code
def yX8_partsOf : MethodName := ⟨RX8, "partsOf", "(I)I"⟩
def dkwX8_partsOf_1 : List UInt8 := [167, 0, 12, 42, 180, 0, 7, 16, 8, 27, 96, 46, 172]
abbrev dktX8_partsOf_1 : List UInt8 := dkwX8_partsOf_1 ++ []
def dkwX8_partsOf_0 : List UInt8 := [42, 27, 184, 0, 138, 153, 0, 7, 3, 167, 0, 4, 4, 181, 0, 37, 42, 180, 0, 37, 158, 0, 7, 3]
abbrev dktX8_partsOf_0 : List UInt8 := dkwX8_partsOf_0 ++ dktX8_partsOf_1
theorem dksX8_partsOf_0 : cX8_partsOf.data.toList.drop 0 = dktX8_partsOf_0 := by decide +kernel
theorem dksX8_partsOf_1 : cX8_partsOf.data.toList.drop 24 = dktX8_partsOf_1 := dk_seg dksX8_partsOf_0 24 rfl rfl
theorem dX8_partsOf_0 : decode cX8_partsOf 0 = .ok (.aload_n 0, 1) := dk_42 (dk_at dksX8_partsOf_0 0 rfl rfl)
theorem dX8_partsOf_1 : decode cX8_partsOf 1 = .ok (.iload_n 1, 1) := dk_27 (dk_at dksX8_partsOf_0 1 rfl rfl)
theorem dX8_partsOf_2 : decode cX8_partsOf 2 = .ok (.invokestatic 138, 3) := dk_184 0 138 (dk_at dksX8_partsOf_0 2 rfl rfl)
theorem dX8_partsOf_5 : decode cX8_partsOf 5 = .ok (.ifCond .eq 7, 3) := dk_153 0 7 (dk_at dksX8_partsOf_0 5 rfl rfl)
theorem dX8_partsOf_8 : decode cX8_partsOf 8 = .ok (.iconst 0, 1) := dk_3 (dk_at dksX8_partsOf_0 8 rfl rfl)
theorem dX8_partsOf_9 : decode cX8_partsOf 9 = .ok (.goto 4, 3) := dk_167 0 4 (dk_at dksX8_partsOf_0 9 rfl rfl)
theorem dX8_partsOf_12 : decode cX8_partsOf 12 = .ok (.iconst 1, 1) := dk_4 (dk_at dksX8_partsOf_0 12 rfl rfl)
theorem dX8_partsOf_13 : decode cX8_partsOf 13 = .ok (.putfield 37, 3) := dk_181 0 37 (dk_at dksX8_partsOf_0 13 rfl rfl)
theorem dX8_partsOf_16 : decode cX8_partsOf 16 = .ok (.aload_n 0, 1) := dk_42 (dk_at dksX8_partsOf_0 16 rfl rfl)
theorem dX8_partsOf_17 : decode cX8_partsOf 17 = .ok (.getfield 37, 3) := dk_180 0 37 (dk_at dksX8_partsOf_0 17 rfl rfl)
theorem dX8_partsOf_20 : decode cX8_partsOf 20 = .ok (.ifCond .le 7, 3) := dk_158 0 7 (dk_at dksX8_partsOf_0 20 rfl rfl)
theorem dX8_partsOf_23 : decode cX8_partsOf 23 = .ok (.iconst 0, 1) := dk_3 (dk_at dksX8_partsOf_0 23 rfl rfl)
theorem dX8_partsOf_24 : decode cX8_partsOf 24 = .ok (.goto 12, 3) := dk_167 0 12 (dk_at dksX8_partsOf_1 0 rfl rfl)
theorem dX8_partsOf_27 : decode cX8_partsOf 27 = .ok (.aload_n 0, 1) := dk_42 (dk_at dksX8_partsOf_1 3 rfl rfl)
theorem dX8_partsOf_28 : decode cX8_partsOf 28 = .ok (.getfield 7, 3) := dk_180 0 7 (dk_at dksX8_partsOf_1 4 rfl rfl)
theorem dX8_partsOf_31 : decode cX8_partsOf 31 = .ok (.bipush 8, 2) := dk_16 8 (dk_at dksX8_partsOf_1 7 rfl rfl)
theorem dX8_partsOf_33 : decode cX8_partsOf 33 = .ok (.iload_n 1, 1) := dk_27 (dk_at dksX8_partsOf_1 9 rfl rfl)
theorem dX8_partsOf_34 : decode cX8_partsOf 34 = .ok (.iadd, 1) := dk_96 (dk_at dksX8_partsOf_1 10 rfl rfl)
theorem dX8_partsOf_35 : decode cX8_partsOf 35 = .ok (.iaload, 1) := dk_46 (dk_at dksX8_partsOf_1 11 rfl rfl)
theorem dX8_partsOf_36 : decode cX8_partsOf 36 = .ok (.ireturn, 1) := dk_172 (dk_at dksX8_partsOf_1 12 rfl rfl)
abbrev cX8_recipeDepth : ByteArray := prog_26_method_92_code
def yX8_recipeDepth : MethodName := ⟨RX8, "recipeDepth", "()I"⟩
def dkwX8_recipeDepth_0 : List UInt8 := [42, 16, 12, 182, 0, 231, 172]
abbrev dktX8_recipeDepth_0 : List UInt8 := dkwX8_recipeDepth_0 ++ []
theorem dksX8_recipeDepth_0 : cX8_recipeDepth.data.toList.drop 0 = dktX8_recipeDepth_0 := by decide +kernel
theorem dX8_recipeDepth_0 : decode cX8_recipeDepth 0 = .ok (.aload_n 0, 1) := dk_42 (dk_at dksX8_recipeDepth_0 0 rfl rfl)
theorem dX8_recipeDepth_1 : decode cX8_recipeDepth 1 = .ok (.bipush 12, 2) := dk_16 12 (dk_at dksX8_recipeDepth_0 1 rfl rfl)
theorem dX8_recipeDepth_3 : decode cX8_recipeDepth 3 = .ok (.invokevirtual 231, 3) := dk_182 0 231 (dk_at dksX8_recipeDepth_0 3 rfl rfl)
theorem dX8_recipeDepth_6 : decode cX8_recipeDepth 6 = .ok (.ireturn, 1) := dk_172 (dk_at dksX8_recipeDepth_0 6 rfl rfl)
abbrev cX8_shareOf : ByteArray := prog_26_method_93_code
def yX8_shareOf : MethodName := ⟨RX8, "shareOf", "(II)I"⟩
def dkwX8_shareOf_1 : List UInt8 := [180, 0, 37, 158, 0, 7, 3, 167, 0, 9, 42, 27, 28, 182, 0, 240, 172]
abbrev dktX8_shareOf_1 : List UInt8 := dkwX8_shareOf_1 ++ []
def dkwX8_shareOf_0 : List UInt8 := [42, 27, 184, 0, 167, 153, 0, 14, 28, 184, 0, 138, 153, 0, 7, 3, 167, 0, 4, 4, 181, 0, 37, 42]
abbrev dktX8_shareOf_0 : List UInt8 := dkwX8_shareOf_0 ++ dktX8_shareOf_1
theorem dksX8_shareOf_0 : cX8_shareOf.data.toList.drop 0 = dktX8_shareOf_0 := by decide +kernel
theorem dksX8_shareOf_1 : cX8_shareOf.data.toList.drop 24 = dktX8_shareOf_1 := dk_seg dksX8_shareOf_0 24 rfl rfl
theorem dX8_shareOf_0 : decode cX8_shareOf 0 = .ok (.aload_n 0, 1) := dk_42 (dk_at dksX8_shareOf_0 0 rfl rfl)
theorem dX8_shareOf_1 : decode cX8_shareOf 1 = .ok (.iload_n 1, 1) := dk_27 (dk_at dksX8_shareOf_0 1 rfl rfl)
theorem dX8_shareOf_2 : decode cX8_shareOf 2 = .ok (.invokestatic 167, 3) := dk_184 0 167 (dk_at dksX8_shareOf_0 2 rfl rfl)
theorem dX8_shareOf_5 : decode cX8_shareOf 5 = .ok (.ifCond .eq 14, 3) := dk_153 0 14 (dk_at dksX8_shareOf_0 5 rfl rfl)
theorem dX8_shareOf_8 : decode cX8_shareOf 8 = .ok (.iload_n 2, 1) := dk_28 (dk_at dksX8_shareOf_0 8 rfl rfl)
theorem dX8_shareOf_9 : decode cX8_shareOf 9 = .ok (.invokestatic 138, 3) := dk_184 0 138 (dk_at dksX8_shareOf_0 9 rfl rfl)
theorem dX8_shareOf_12 : decode cX8_shareOf 12 = .ok (.ifCond .eq 7, 3) := dk_153 0 7 (dk_at dksX8_shareOf_0 12 rfl rfl)
theorem dX8_shareOf_15 : decode cX8_shareOf 15 = .ok (.iconst 0, 1) := dk_3 (dk_at dksX8_shareOf_0 15 rfl rfl)
theorem dX8_shareOf_16 : decode cX8_shareOf 16 = .ok (.goto 4, 3) := dk_167 0 4 (dk_at dksX8_shareOf_0 16 rfl rfl)
theorem dX8_shareOf_19 : decode cX8_shareOf 19 = .ok (.iconst 1, 1) := dk_4 (dk_at dksX8_shareOf_0 19 rfl rfl)
theorem dX8_shareOf_20 : decode cX8_shareOf 20 = .ok (.putfield 37, 3) := dk_181 0 37 (dk_at dksX8_shareOf_0 20 rfl rfl)
theorem dX8_shareOf_23 : decode cX8_shareOf 23 = .ok (.aload_n 0, 1) := dk_42 (dk_at dksX8_shareOf_0 23 rfl rfl)
theorem dX8_shareOf_24 : decode cX8_shareOf 24 = .ok (.getfield 37, 3) := dk_180 0 37 (dk_at dksX8_shareOf_1 0 rfl rfl)
theorem dX8_shareOf_27 : decode cX8_shareOf 27 = .ok (.ifCond .le 7, 3) := dk_158 0 7 (dk_at dksX8_shareOf_1 3 rfl rfl)
theorem dX8_shareOf_30 : decode cX8_shareOf 30 = .ok (.iconst 0, 1) := dk_3 (dk_at dksX8_shareOf_1 6 rfl rfl)
theorem dX8_shareOf_31 : decode cX8_shareOf 31 = .ok (.goto 9, 3) := dk_167 0 9 (dk_at dksX8_shareOf_1 7 rfl rfl)
theorem dX8_shareOf_34 : decode cX8_shareOf 34 = .ok (.aload_n 0, 1) := dk_42 (dk_at dksX8_shareOf_1 10 rfl rfl)
theorem dX8_shareOf_35 : decode cX8_shareOf 35 = .ok (.iload_n 1, 1) := dk_27 (dk_at dksX8_shareOf_1 11 rfl rfl)
theorem dX8_shareOf_36 : decode cX8_shareOf 36 = .ok (.iload_n 2, 1) := dk_28 (dk_at dksX8_shareOf_1 12 rfl rfl)
theorem dX8_shareOf_37 : decode cX8_shareOf 37 = .ok (.invokevirtual 240, 3) := dk_182 0 240 (dk_at dksX8_shareOf_1 13 rfl rfl)
theorem dX8_shareOf_40 : decode cX8_shareOf 40 = .ok (.ireturn, 1) := dk_172 (dk_at dksX8_shareOf_1 16 rfl rfl)
abbrev cX8_share : ByteArray := prog_26_method_94_code
def yX8_share : MethodName := ⟨RX8, "share", "(II)I"⟩
def dkwX8_share_0 : List UInt8 := [42, 27, 182, 0, 77, 42, 180, 0, 22, 28, 46, 172]
abbrev dktX8_share_0 : List UInt8 := dkwX8_share_0 ++ []
theorem dksX8_share_0 : cX8_share.data.toList.drop 0 = dktX8_share_0 := by decide +kernel
theorem dX8_share_0 : decode cX8_share 0 = .ok (.aload_n 0, 1) := dk_42 (dk_at dksX8_share_0 0 rfl rfl)
theorem dX8_share_1 : decode cX8_share 1 = .ok (.iload_n 1, 1) := dk_27 (dk_at dksX8_share_0 1 rfl rfl)
theorem dX8_share_2 : decode cX8_share 2 = .ok (.invokevirtual 77, 3) := dk_182 0 77 (dk_at dksX8_share_0 2 rfl rfl)
theorem dX8_share_5 : decode cX8_share 5 = .ok (.aload_n 0, 1) := dk_42 (dk_at dksX8_share_0 5 rfl rfl)
theorem dX8_share_6 : decode cX8_share 6 = .ok (.getfield 22, 3) := dk_180 0 22 (dk_at dksX8_share_0 6 rfl rfl)
theorem dX8_share_9 : decode cX8_share 9 = .ok (.iload_n 2, 1) := dk_28 (dk_at dksX8_share_0 9 rfl rfl)
theorem dX8_share_10 : decode cX8_share 10 = .ok (.iaload, 1) := dk_46 (dk_at dksX8_share_0 10 rfl rfl)
theorem dX8_share_11 : decode cX8_share 11 = .ok (.ireturn, 1) := dk_172 (dk_at dksX8_share_0 11 rfl rfl)
abbrev cX8_unitsIn : ByteArray := prog_26_method_96_code
def yX8_unitsIn : MethodName := ⟨RX8, "unitsIn", "(I)I"⟩
def dkwX8_unitsIn_0 : List UInt8 := [42, 27, 3, 182, 0, 243, 172]
abbrev dktX8_unitsIn_0 : List UInt8 := dkwX8_unitsIn_0 ++ []
theorem dksX8_unitsIn_0 : cX8_unitsIn.data.toList.drop 0 = dktX8_unitsIn_0 := by decide +kernel
theorem dX8_unitsIn_0 : decode cX8_unitsIn 0 = .ok (.aload_n 0, 1) := dk_42 (dk_at dksX8_unitsIn_0 0 rfl rfl)
theorem dX8_unitsIn_1 : decode cX8_unitsIn 1 = .ok (.iload_n 1, 1) := dk_27 (dk_at dksX8_unitsIn_0 1 rfl rfl)
theorem dX8_unitsIn_2 : decode cX8_unitsIn 2 = .ok (.iconst 0, 1) := dk_3 (dk_at dksX8_unitsIn_0 2 rfl rfl)
theorem dX8_unitsIn_3 : decode cX8_unitsIn 3 = .ok (.invokevirtual 243, 3) := dk_182 0 243 (dk_at dksX8_unitsIn_0 3 rfl rfl)
theorem dX8_unitsIn_6 : decode cX8_unitsIn 6 = .ok (.ireturn, 1) := dk_172 (dk_at dksX8_unitsIn_0 6 rfl rfl)
abbrev cX8_ofVat : ByteArray := prog_26_method_95_code
def yX8_ofVat : MethodName := ⟨RX8, "ofVat", "(II)I"⟩
def dkwX8_ofVat_1 : List UInt8 := [167, 0, 16, 42, 180, 0, 7, 16, 117, 6, 27, 104, 96, 28, 96, 46, 172]
abbrev dktX8_ofVat_1 : List UInt8 := dkwX8_ofVat_1 ++ []
def dkwX8_ofVat_0 : List UInt8 := [42, 27, 184, 0, 164, 153, 0, 7, 3, 167, 0, 4, 4, 181, 0, 37, 42, 180, 0, 37, 158, 0, 7, 3]
abbrev dktX8_ofVat_0 : List UInt8 := dkwX8_ofVat_0 ++ dktX8_ofVat_1
theorem dksX8_ofVat_0 : cX8_ofVat.data.toList.drop 0 = dktX8_ofVat_0 := by decide +kernel
theorem dksX8_ofVat_1 : cX8_ofVat.data.toList.drop 24 = dktX8_ofVat_1 := dk_seg dksX8_ofVat_0 24 rfl rfl
theorem dX8_ofVat_0 : decode cX8_ofVat 0 = .ok (.aload_n 0, 1) := dk_42 (dk_at dksX8_ofVat_0 0 rfl rfl)
theorem dX8_ofVat_1 : decode cX8_ofVat 1 = .ok (.iload_n 1, 1) := dk_27 (dk_at dksX8_ofVat_0 1 rfl rfl)
theorem dX8_ofVat_2 : decode cX8_ofVat 2 = .ok (.invokestatic 164, 3) := dk_184 0 164 (dk_at dksX8_ofVat_0 2 rfl rfl)
theorem dX8_ofVat_5 : decode cX8_ofVat 5 = .ok (.ifCond .eq 7, 3) := dk_153 0 7 (dk_at dksX8_ofVat_0 5 rfl rfl)
theorem dX8_ofVat_8 : decode cX8_ofVat 8 = .ok (.iconst 0, 1) := dk_3 (dk_at dksX8_ofVat_0 8 rfl rfl)
theorem dX8_ofVat_9 : decode cX8_ofVat 9 = .ok (.goto 4, 3) := dk_167 0 4 (dk_at dksX8_ofVat_0 9 rfl rfl)
theorem dX8_ofVat_12 : decode cX8_ofVat 12 = .ok (.iconst 1, 1) := dk_4 (dk_at dksX8_ofVat_0 12 rfl rfl)
theorem dX8_ofVat_13 : decode cX8_ofVat 13 = .ok (.putfield 37, 3) := dk_181 0 37 (dk_at dksX8_ofVat_0 13 rfl rfl)
theorem dX8_ofVat_16 : decode cX8_ofVat 16 = .ok (.aload_n 0, 1) := dk_42 (dk_at dksX8_ofVat_0 16 rfl rfl)
theorem dX8_ofVat_17 : decode cX8_ofVat 17 = .ok (.getfield 37, 3) := dk_180 0 37 (dk_at dksX8_ofVat_0 17 rfl rfl)
theorem dX8_ofVat_20 : decode cX8_ofVat 20 = .ok (.ifCond .le 7, 3) := dk_158 0 7 (dk_at dksX8_ofVat_0 20 rfl rfl)
theorem dX8_ofVat_23 : decode cX8_ofVat 23 = .ok (.iconst 0, 1) := dk_3 (dk_at dksX8_ofVat_0 23 rfl rfl)
theorem dX8_ofVat_24 : decode cX8_ofVat 24 = .ok (.goto 16, 3) := dk_167 0 16 (dk_at dksX8_ofVat_1 0 rfl rfl)
theorem dX8_ofVat_27 : decode cX8_ofVat 27 = .ok (.aload_n 0, 1) := dk_42 (dk_at dksX8_ofVat_1 3 rfl rfl)
theorem dX8_ofVat_28 : decode cX8_ofVat 28 = .ok (.getfield 7, 3) := dk_180 0 7 (dk_at dksX8_ofVat_1 4 rfl rfl)
theorem dX8_ofVat_31 : decode cX8_ofVat 31 = .ok (.bipush 117, 2) := dk_16 117 (dk_at dksX8_ofVat_1 7 rfl rfl)
theorem dX8_ofVat_33 : decode cX8_ofVat 33 = .ok (.iconst 3, 1) := dk_6 (dk_at dksX8_ofVat_1 9 rfl rfl)
theorem dX8_ofVat_34 : decode cX8_ofVat 34 = .ok (.iload_n 1, 1) := dk_27 (dk_at dksX8_ofVat_1 10 rfl rfl)
theorem dX8_ofVat_35 : decode cX8_ofVat 35 = .ok (.imul, 1) := dk_104 (dk_at dksX8_ofVat_1 11 rfl rfl)
theorem dX8_ofVat_36 : decode cX8_ofVat 36 = .ok (.iadd, 1) := dk_96 (dk_at dksX8_ofVat_1 12 rfl rfl)
theorem dX8_ofVat_37 : decode cX8_ofVat 37 = .ok (.iload_n 2, 1) := dk_28 (dk_at dksX8_ofVat_1 13 rfl rfl)
theorem dX8_ofVat_38 : decode cX8_ofVat 38 = .ok (.iadd, 1) := dk_96 (dk_at dksX8_ofVat_1 14 rfl rfl)
theorem dX8_ofVat_39 : decode cX8_ofVat 39 = .ok (.iaload, 1) := dk_46 (dk_at dksX8_ofVat_1 15 rfl rfl)
theorem dX8_ofVat_40 : decode cX8_ofVat 40 = .ok (.ireturn, 1) := dk_172 (dk_at dksX8_ofVat_1 16 rfl rfl)
abbrev cX8_hoursOf : ByteArray := prog_26_method_97_code
def yX8_hoursOf : MethodName := ⟨RX8, "hoursOf", "(I)I"⟩
def dkwX8_hoursOf_0 : List UInt8 := [42, 27, 4, 182, 0, 243, 172]
abbrev dktX8_hoursOf_0 : List UInt8 := dkwX8_hoursOf_0 ++ []
theorem dksX8_hoursOf_0 : cX8_hoursOf.data.toList.drop 0 = dktX8_hoursOf_0 := by decide +kernel
theorem dX8_hoursOf_0 : decode cX8_hoursOf 0 = .ok (.aload_n 0, 1) := dk_42 (dk_at dksX8_hoursOf_0 0 rfl rfl)
theorem dX8_hoursOf_1 : decode cX8_hoursOf 1 = .ok (.iload_n 1, 1) := dk_27 (dk_at dksX8_hoursOf_0 1 rfl rfl)
theorem dX8_hoursOf_2 : decode cX8_hoursOf 2 = .ok (.iconst 1, 1) := dk_4 (dk_at dksX8_hoursOf_0 2 rfl rfl)
theorem dX8_hoursOf_3 : decode cX8_hoursOf 3 = .ok (.invokevirtual 243, 3) := dk_182 0 243 (dk_at dksX8_hoursOf_0 3 rfl rfl)
theorem dX8_hoursOf_6 : decode cX8_hoursOf 6 = .ok (.ireturn, 1) := dk_172 (dk_at dksX8_hoursOf_0 6 rfl rfl)
abbrev cX8_strengthOf : ByteArray := prog_26_method_98_code
def yX8_strengthOf : MethodName := ⟨RX8, "strengthOf", "(I)I"⟩
def dkwX8_strengthOf_0 : List UInt8 := [42, 27, 5, 182, 0, 243, 172]
abbrev dktX8_strengthOf_0 : List UInt8 := dkwX8_strengthOf_0 ++ []
theorem dksX8_strengthOf_0 : cX8_strengthOf.data.toList.drop 0 = dktX8_strengthOf_0 := by decide +kernel
theorem dX8_strengthOf_0 : decode cX8_strengthOf 0 = .ok (.aload_n 0, 1) := dk_42 (dk_at dksX8_strengthOf_0 0 rfl rfl)
theorem dX8_strengthOf_1 : decode cX8_strengthOf 1 = .ok (.iload_n 1, 1) := dk_27 (dk_at dksX8_strengthOf_0 1 rfl rfl)
theorem dX8_strengthOf_2 : decode cX8_strengthOf 2 = .ok (.iconst 2, 1) := dk_5 (dk_at dksX8_strengthOf_0 2 rfl rfl)
theorem dX8_strengthOf_3 : decode cX8_strengthOf 3 = .ok (.invokevirtual 243, 3) := dk_182 0 243 (dk_at dksX8_strengthOf_0 3 rfl rfl)
theorem dX8_strengthOf_6 : decode cX8_strengthOf 6 = .ok (.ireturn, 1) := dk_172 (dk_at dksX8_strengthOf_0 6 rfl rfl)
abbrev cX8_whyNotBeaten : ByteArray := prog_26_method_99_code
def yX8_whyNotBeaten : MethodName := ⟨RX8, "whyNotBeaten", "(II)I"⟩
def dkwX8_whyNotBeaten_1 : List UInt8 := [181, 0, 37, 42, 180, 0, 37, 158, 0, 7, 3, 167, 0, 9, 42, 27, 28, 182, 0, 170, 172]
abbrev dktX8_whyNotBeaten_1 : List UInt8 := dkwX8_whyNotBeaten_1 ++ []
def dkwX8_whyNotBeaten_0 : List UInt8 := [42, 27, 184, 0, 164, 154, 0, 7, 4, 167, 0, 15, 28, 184, 0, 167, 153, 0, 7, 3, 167, 0, 4, 5]
abbrev dktX8_whyNotBeaten_0 : List UInt8 := dkwX8_whyNotBeaten_0 ++ dktX8_whyNotBeaten_1
theorem dksX8_whyNotBeaten_0 : cX8_whyNotBeaten.data.toList.drop 0 = dktX8_whyNotBeaten_0 := by decide +kernel
theorem dksX8_whyNotBeaten_1 : cX8_whyNotBeaten.data.toList.drop 24 = dktX8_whyNotBeaten_1 := dk_seg dksX8_whyNotBeaten_0 24 rfl rfl
theorem dX8_whyNotBeaten_0 : decode cX8_whyNotBeaten 0 = .ok (.aload_n 0, 1) := dk_42 (dk_at dksX8_whyNotBeaten_0 0 rfl rfl)
theorem dX8_whyNotBeaten_1 : decode cX8_whyNotBeaten 1 = .ok (.iload_n 1, 1) := dk_27 (dk_at dksX8_whyNotBeaten_0 1 rfl rfl)
theorem dX8_whyNotBeaten_2 : decode cX8_whyNotBeaten 2 = .ok (.invokestatic 164, 3) := dk_184 0 164 (dk_at dksX8_whyNotBeaten_0 2 rfl rfl)
theorem dX8_whyNotBeaten_5 : decode cX8_whyNotBeaten 5 = .ok (.ifCond .ne 7, 3) := dk_154 0 7 (dk_at dksX8_whyNotBeaten_0 5 rfl rfl)
theorem dX8_whyNotBeaten_8 : decode cX8_whyNotBeaten 8 = .ok (.iconst 1, 1) := dk_4 (dk_at dksX8_whyNotBeaten_0 8 rfl rfl)
theorem dX8_whyNotBeaten_9 : decode cX8_whyNotBeaten 9 = .ok (.goto 15, 3) := dk_167 0 15 (dk_at dksX8_whyNotBeaten_0 9 rfl rfl)
theorem dX8_whyNotBeaten_12 : decode cX8_whyNotBeaten 12 = .ok (.iload_n 2, 1) := dk_28 (dk_at dksX8_whyNotBeaten_0 12 rfl rfl)
theorem dX8_whyNotBeaten_13 : decode cX8_whyNotBeaten 13 = .ok (.invokestatic 167, 3) := dk_184 0 167 (dk_at dksX8_whyNotBeaten_0 13 rfl rfl)
theorem dX8_whyNotBeaten_16 : decode cX8_whyNotBeaten 16 = .ok (.ifCond .eq 7, 3) := dk_153 0 7 (dk_at dksX8_whyNotBeaten_0 16 rfl rfl)
theorem dX8_whyNotBeaten_19 : decode cX8_whyNotBeaten 19 = .ok (.iconst 0, 1) := dk_3 (dk_at dksX8_whyNotBeaten_0 19 rfl rfl)
theorem dX8_whyNotBeaten_20 : decode cX8_whyNotBeaten 20 = .ok (.goto 4, 3) := dk_167 0 4 (dk_at dksX8_whyNotBeaten_0 20 rfl rfl)
theorem dX8_whyNotBeaten_23 : decode cX8_whyNotBeaten 23 = .ok (.iconst 2, 1) := dk_5 (dk_at dksX8_whyNotBeaten_0 23 rfl rfl)
theorem dX8_whyNotBeaten_24 : decode cX8_whyNotBeaten 24 = .ok (.putfield 37, 3) := dk_181 0 37 (dk_at dksX8_whyNotBeaten_1 0 rfl rfl)
theorem dX8_whyNotBeaten_27 : decode cX8_whyNotBeaten 27 = .ok (.aload_n 0, 1) := dk_42 (dk_at dksX8_whyNotBeaten_1 3 rfl rfl)
theorem dX8_whyNotBeaten_28 : decode cX8_whyNotBeaten 28 = .ok (.getfield 37, 3) := dk_180 0 37 (dk_at dksX8_whyNotBeaten_1 4 rfl rfl)
theorem dX8_whyNotBeaten_31 : decode cX8_whyNotBeaten 31 = .ok (.ifCond .le 7, 3) := dk_158 0 7 (dk_at dksX8_whyNotBeaten_1 7 rfl rfl)
theorem dX8_whyNotBeaten_34 : decode cX8_whyNotBeaten 34 = .ok (.iconst 0, 1) := dk_3 (dk_at dksX8_whyNotBeaten_1 10 rfl rfl)
theorem dX8_whyNotBeaten_35 : decode cX8_whyNotBeaten 35 = .ok (.goto 9, 3) := dk_167 0 9 (dk_at dksX8_whyNotBeaten_1 11 rfl rfl)
theorem dX8_whyNotBeaten_38 : decode cX8_whyNotBeaten 38 = .ok (.aload_n 0, 1) := dk_42 (dk_at dksX8_whyNotBeaten_1 14 rfl rfl)
theorem dX8_whyNotBeaten_39 : decode cX8_whyNotBeaten 39 = .ok (.iload_n 1, 1) := dk_27 (dk_at dksX8_whyNotBeaten_1 15 rfl rfl)
theorem dX8_whyNotBeaten_40 : decode cX8_whyNotBeaten 40 = .ok (.iload_n 2, 1) := dk_28 (dk_at dksX8_whyNotBeaten_1 16 rfl rfl)
theorem dX8_whyNotBeaten_41 : decode cX8_whyNotBeaten 41 = .ok (.invokevirtual 170, 3) := dk_182 0 170 (dk_at dksX8_whyNotBeaten_1 17 rfl rfl)
theorem dX8_whyNotBeaten_44 : decode cX8_whyNotBeaten 44 = .ok (.ireturn, 1) := dk_172 (dk_at dksX8_whyNotBeaten_1 20 rfl rfl)
abbrev cX8_markOf : ByteArray := prog_26_method_101_code
def yX8_markOf : MethodName := ⟨RX8, "markOf", "(I)I"⟩
def dkwX8_markOf_0 : List UInt8 := [42, 27, 3, 182, 0, 246, 172]
abbrev dktX8_markOf_0 : List UInt8 := dkwX8_markOf_0 ++ []
theorem dksX8_markOf_0 : cX8_markOf.data.toList.drop 0 = dktX8_markOf_0 := by decide +kernel
theorem dX8_markOf_0 : decode cX8_markOf 0 = .ok (.aload_n 0, 1) := dk_42 (dk_at dksX8_markOf_0 0 rfl rfl)
theorem dX8_markOf_1 : decode cX8_markOf 1 = .ok (.iload_n 1, 1) := dk_27 (dk_at dksX8_markOf_0 1 rfl rfl)
theorem dX8_markOf_2 : decode cX8_markOf 2 = .ok (.iconst 0, 1) := dk_3 (dk_at dksX8_markOf_0 2 rfl rfl)
theorem dX8_markOf_3 : decode cX8_markOf 3 = .ok (.invokevirtual 246, 3) := dk_182 0 246 (dk_at dksX8_markOf_0 3 rfl rfl)
theorem dX8_markOf_6 : decode cX8_markOf 6 = .ok (.ireturn, 1) := dk_172 (dk_at dksX8_markOf_0 6 rfl rfl)
abbrev cX8_ofMould : ByteArray := prog_26_method_100_code
def yX8_ofMould : MethodName := ⟨RX8, "ofMould", "(II)I"⟩
def dkwX8_ofMould_1 : List UInt8 := [167, 0, 16, 42, 180, 0, 7, 16, 126, 6, 27, 104, 96, 28, 96, 46, 172]
abbrev dktX8_ofMould_1 : List UInt8 := dkwX8_ofMould_1 ++ []
def dkwX8_ofMould_0 : List UInt8 := [42, 27, 184, 0, 183, 153, 0, 7, 3, 167, 0, 4, 4, 181, 0, 37, 42, 180, 0, 37, 158, 0, 7, 3]
abbrev dktX8_ofMould_0 : List UInt8 := dkwX8_ofMould_0 ++ dktX8_ofMould_1
theorem dksX8_ofMould_0 : cX8_ofMould.data.toList.drop 0 = dktX8_ofMould_0 := by decide +kernel
theorem dksX8_ofMould_1 : cX8_ofMould.data.toList.drop 24 = dktX8_ofMould_1 := dk_seg dksX8_ofMould_0 24 rfl rfl
theorem dX8_ofMould_0 : decode cX8_ofMould 0 = .ok (.aload_n 0, 1) := dk_42 (dk_at dksX8_ofMould_0 0 rfl rfl)
theorem dX8_ofMould_1 : decode cX8_ofMould 1 = .ok (.iload_n 1, 1) := dk_27 (dk_at dksX8_ofMould_0 1 rfl rfl)
theorem dX8_ofMould_2 : decode cX8_ofMould 2 = .ok (.invokestatic 183, 3) := dk_184 0 183 (dk_at dksX8_ofMould_0 2 rfl rfl)
theorem dX8_ofMould_5 : decode cX8_ofMould 5 = .ok (.ifCond .eq 7, 3) := dk_153 0 7 (dk_at dksX8_ofMould_0 5 rfl rfl)
theorem dX8_ofMould_8 : decode cX8_ofMould 8 = .ok (.iconst 0, 1) := dk_3 (dk_at dksX8_ofMould_0 8 rfl rfl)
theorem dX8_ofMould_9 : decode cX8_ofMould 9 = .ok (.goto 4, 3) := dk_167 0 4 (dk_at dksX8_ofMould_0 9 rfl rfl)
theorem dX8_ofMould_12 : decode cX8_ofMould 12 = .ok (.iconst 1, 1) := dk_4 (dk_at dksX8_ofMould_0 12 rfl rfl)
theorem dX8_ofMould_13 : decode cX8_ofMould 13 = .ok (.putfield 37, 3) := dk_181 0 37 (dk_at dksX8_ofMould_0 13 rfl rfl)
theorem dX8_ofMould_16 : decode cX8_ofMould 16 = .ok (.aload_n 0, 1) := dk_42 (dk_at dksX8_ofMould_0 16 rfl rfl)
theorem dX8_ofMould_17 : decode cX8_ofMould 17 = .ok (.getfield 37, 3) := dk_180 0 37 (dk_at dksX8_ofMould_0 17 rfl rfl)
theorem dX8_ofMould_20 : decode cX8_ofMould 20 = .ok (.ifCond .le 7, 3) := dk_158 0 7 (dk_at dksX8_ofMould_0 20 rfl rfl)
theorem dX8_ofMould_23 : decode cX8_ofMould 23 = .ok (.iconst 0, 1) := dk_3 (dk_at dksX8_ofMould_0 23 rfl rfl)
theorem dX8_ofMould_24 : decode cX8_ofMould 24 = .ok (.goto 16, 3) := dk_167 0 16 (dk_at dksX8_ofMould_1 0 rfl rfl)
theorem dX8_ofMould_27 : decode cX8_ofMould 27 = .ok (.aload_n 0, 1) := dk_42 (dk_at dksX8_ofMould_1 3 rfl rfl)
theorem dX8_ofMould_28 : decode cX8_ofMould 28 = .ok (.getfield 7, 3) := dk_180 0 7 (dk_at dksX8_ofMould_1 4 rfl rfl)
theorem dX8_ofMould_31 : decode cX8_ofMould 31 = .ok (.bipush 126, 2) := dk_16 126 (dk_at dksX8_ofMould_1 7 rfl rfl)
theorem dX8_ofMould_33 : decode cX8_ofMould 33 = .ok (.iconst 3, 1) := dk_6 (dk_at dksX8_ofMould_1 9 rfl rfl)
theorem dX8_ofMould_34 : decode cX8_ofMould 34 = .ok (.iload_n 1, 1) := dk_27 (dk_at dksX8_ofMould_1 10 rfl rfl)
theorem dX8_ofMould_35 : decode cX8_ofMould 35 = .ok (.imul, 1) := dk_104 (dk_at dksX8_ofMould_1 11 rfl rfl)
theorem dX8_ofMould_36 : decode cX8_ofMould 36 = .ok (.iadd, 1) := dk_96 (dk_at dksX8_ofMould_1 12 rfl rfl)
theorem dX8_ofMould_37 : decode cX8_ofMould 37 = .ok (.iload_n 2, 1) := dk_28 (dk_at dksX8_ofMould_1 13 rfl rfl)
theorem dX8_ofMould_38 : decode cX8_ofMould 38 = .ok (.iadd, 1) := dk_96 (dk_at dksX8_ofMould_1 14 rfl rfl)
theorem dX8_ofMould_39 : decode cX8_ofMould 39 = .ok (.iaload, 1) := dk_46 (dk_at dksX8_ofMould_1 15 rfl rfl)
theorem dX8_ofMould_40 : decode cX8_ofMould 40 = .ok (.ireturn, 1) := dk_172 (dk_at dksX8_ofMould_1 16 rfl rfl)
abbrev cX8_wearOf : ByteArray := prog_26_method_102_code
def yX8_wearOf : MethodName := ⟨RX8, "wearOf", "(I)I"⟩
def dkwX8_wearOf_0 : List UInt8 := [42, 27, 4, 182, 0, 246, 172]
abbrev dktX8_wearOf_0 : List UInt8 := dkwX8_wearOf_0 ++ []
theorem dksX8_wearOf_0 : cX8_wearOf.data.toList.drop 0 = dktX8_wearOf_0 := by decide +kernel
theorem dX8_wearOf_0 : decode cX8_wearOf 0 = .ok (.aload_n 0, 1) := dk_42 (dk_at dksX8_wearOf_0 0 rfl rfl)
theorem dX8_wearOf_1 : decode cX8_wearOf 1 = .ok (.iload_n 1, 1) := dk_27 (dk_at dksX8_wearOf_0 1 rfl rfl)
theorem dX8_wearOf_2 : decode cX8_wearOf 2 = .ok (.iconst 1, 1) := dk_4 (dk_at dksX8_wearOf_0 2 rfl rfl)
theorem dX8_wearOf_3 : decode cX8_wearOf 3 = .ok (.invokevirtual 246, 3) := dk_182 0 246 (dk_at dksX8_wearOf_0 3 rfl rfl)
theorem dX8_wearOf_6 : decode cX8_wearOf 6 = .ok (.ireturn, 1) := dk_172 (dk_at dksX8_wearOf_0 6 rfl rfl)
abbrev cX8_pointsOf : ByteArray := prog_26_method_103_code
def yX8_pointsOf : MethodName := ⟨RX8, "pointsOf", "(II)I"⟩
def dkwX8_pointsOf_2 : List UInt8 := [28, 182, 0, 100, 172]
abbrev dktX8_pointsOf_2 : List UInt8 := dkwX8_pointsOf_2 ++ []
def dkwX8_pointsOf_1 : List UInt8 := [154, 0, 7, 5, 167, 0, 4, 3, 181, 0, 37, 42, 180, 0, 37, 158, 0, 7, 3, 167, 0, 9, 42, 27]
abbrev dktX8_pointsOf_1 : List UInt8 := dkwX8_pointsOf_1 ++ dktX8_pointsOf_2
def dkwX8_pointsOf_0 : List UInt8 := [42, 27, 184, 0, 164, 153, 0, 10, 28, 184, 0, 183, 154, 0, 7, 4, 167, 0, 16, 42, 27, 182, 0, 74]
abbrev dktX8_pointsOf_0 : List UInt8 := dkwX8_pointsOf_0 ++ dktX8_pointsOf_1
theorem dksX8_pointsOf_0 : cX8_pointsOf.data.toList.drop 0 = dktX8_pointsOf_0 := by decide +kernel
theorem dksX8_pointsOf_1 : cX8_pointsOf.data.toList.drop 24 = dktX8_pointsOf_1 := dk_seg dksX8_pointsOf_0 24 rfl rfl
theorem dksX8_pointsOf_2 : cX8_pointsOf.data.toList.drop 48 = dktX8_pointsOf_2 := dk_seg dksX8_pointsOf_1 24 rfl rfl
theorem dX8_pointsOf_0 : decode cX8_pointsOf 0 = .ok (.aload_n 0, 1) := dk_42 (dk_at dksX8_pointsOf_0 0 rfl rfl)
theorem dX8_pointsOf_1 : decode cX8_pointsOf 1 = .ok (.iload_n 1, 1) := dk_27 (dk_at dksX8_pointsOf_0 1 rfl rfl)
theorem dX8_pointsOf_2 : decode cX8_pointsOf 2 = .ok (.invokestatic 164, 3) := dk_184 0 164 (dk_at dksX8_pointsOf_0 2 rfl rfl)
theorem dX8_pointsOf_5 : decode cX8_pointsOf 5 = .ok (.ifCond .eq 10, 3) := dk_153 0 10 (dk_at dksX8_pointsOf_0 5 rfl rfl)
theorem dX8_pointsOf_8 : decode cX8_pointsOf 8 = .ok (.iload_n 2, 1) := dk_28 (dk_at dksX8_pointsOf_0 8 rfl rfl)
theorem dX8_pointsOf_9 : decode cX8_pointsOf 9 = .ok (.invokestatic 183, 3) := dk_184 0 183 (dk_at dksX8_pointsOf_0 9 rfl rfl)
theorem dX8_pointsOf_12 : decode cX8_pointsOf 12 = .ok (.ifCond .ne 7, 3) := dk_154 0 7 (dk_at dksX8_pointsOf_0 12 rfl rfl)
theorem dX8_pointsOf_15 : decode cX8_pointsOf 15 = .ok (.iconst 1, 1) := dk_4 (dk_at dksX8_pointsOf_0 15 rfl rfl)
theorem dX8_pointsOf_16 : decode cX8_pointsOf 16 = .ok (.goto 16, 3) := dk_167 0 16 (dk_at dksX8_pointsOf_0 16 rfl rfl)
theorem dX8_pointsOf_19 : decode cX8_pointsOf 19 = .ok (.aload_n 0, 1) := dk_42 (dk_at dksX8_pointsOf_0 19 rfl rfl)
theorem dX8_pointsOf_20 : decode cX8_pointsOf 20 = .ok (.iload_n 1, 1) := dk_27 (dk_at dksX8_pointsOf_0 20 rfl rfl)
theorem dX8_pointsOf_21 : decode cX8_pointsOf 21 = .ok (.invokevirtual 74, 3) := dk_182 0 74 (dk_at dksX8_pointsOf_0 21 rfl rfl)
theorem dX8_pointsOf_24 : decode cX8_pointsOf 24 = .ok (.ifCond .ne 7, 3) := dk_154 0 7 (dk_at dksX8_pointsOf_1 0 rfl rfl)
theorem dX8_pointsOf_27 : decode cX8_pointsOf 27 = .ok (.iconst 2, 1) := dk_5 (dk_at dksX8_pointsOf_1 3 rfl rfl)
theorem dX8_pointsOf_28 : decode cX8_pointsOf 28 = .ok (.goto 4, 3) := dk_167 0 4 (dk_at dksX8_pointsOf_1 4 rfl rfl)
theorem dX8_pointsOf_31 : decode cX8_pointsOf 31 = .ok (.iconst 0, 1) := dk_3 (dk_at dksX8_pointsOf_1 7 rfl rfl)
theorem dX8_pointsOf_32 : decode cX8_pointsOf 32 = .ok (.putfield 37, 3) := dk_181 0 37 (dk_at dksX8_pointsOf_1 8 rfl rfl)
theorem dX8_pointsOf_35 : decode cX8_pointsOf 35 = .ok (.aload_n 0, 1) := dk_42 (dk_at dksX8_pointsOf_1 11 rfl rfl)
theorem dX8_pointsOf_36 : decode cX8_pointsOf 36 = .ok (.getfield 37, 3) := dk_180 0 37 (dk_at dksX8_pointsOf_1 12 rfl rfl)
theorem dX8_pointsOf_39 : decode cX8_pointsOf 39 = .ok (.ifCond .le 7, 3) := dk_158 0 7 (dk_at dksX8_pointsOf_1 15 rfl rfl)
theorem dX8_pointsOf_42 : decode cX8_pointsOf 42 = .ok (.iconst 0, 1) := dk_3 (dk_at dksX8_pointsOf_1 18 rfl rfl)
theorem dX8_pointsOf_43 : decode cX8_pointsOf 43 = .ok (.goto 9, 3) := dk_167 0 9 (dk_at dksX8_pointsOf_1 19 rfl rfl)
theorem dX8_pointsOf_46 : decode cX8_pointsOf 46 = .ok (.aload_n 0, 1) := dk_42 (dk_at dksX8_pointsOf_1 22 rfl rfl)
theorem dX8_pointsOf_47 : decode cX8_pointsOf 47 = .ok (.iload_n 1, 1) := dk_27 (dk_at dksX8_pointsOf_1 23 rfl rfl)
theorem dX8_pointsOf_48 : decode cX8_pointsOf 48 = .ok (.iload_n 2, 1) := dk_28 (dk_at dksX8_pointsOf_2 0 rfl rfl)
theorem dX8_pointsOf_49 : decode cX8_pointsOf 49 = .ok (.invokevirtual 100, 3) := dk_182 0 100 (dk_at dksX8_pointsOf_2 1 rfl rfl)
theorem dX8_pointsOf_52 : decode cX8_pointsOf 52 = .ok (.ireturn, 1) := dk_172 (dk_at dksX8_pointsOf_2 4 rfl rfl)
abbrev cX8_whyNotMade : ByteArray := prog_26_method_104_code
def yX8_whyNotMade : MethodName := ⟨RX8, "whyNotMade", "(III)I"⟩
def dkwX8_whyNotMade_2 : List UInt8 := [28, 29, 182, 0, 192, 172]
abbrev dktX8_whyNotMade_2 : List UInt8 := dkwX8_whyNotMade_2 ++ []
def dkwX8_whyNotMade_1 : List UInt8 := [153, 0, 7, 3, 167, 0, 4, 5, 181, 0, 37, 42, 180, 0, 37, 158, 0, 7, 3, 167, 0, 10, 42, 27]
abbrev dktX8_whyNotMade_1 : List UInt8 := dkwX8_whyNotMade_1 ++ dktX8_whyNotMade_2
def dkwX8_whyNotMade_0 : List UInt8 := [42, 27, 184, 0, 164, 153, 0, 10, 28, 184, 0, 183, 154, 0, 7, 4, 167, 0, 15, 29, 184, 0, 189]
abbrev dktX8_whyNotMade_0 : List UInt8 := dkwX8_whyNotMade_0 ++ dktX8_whyNotMade_1
theorem dksX8_whyNotMade_0 : cX8_whyNotMade.data.toList.drop 0 = dktX8_whyNotMade_0 := by decide +kernel
theorem dksX8_whyNotMade_1 : cX8_whyNotMade.data.toList.drop 23 = dktX8_whyNotMade_1 := dk_seg dksX8_whyNotMade_0 23 rfl rfl
theorem dksX8_whyNotMade_2 : cX8_whyNotMade.data.toList.drop 47 = dktX8_whyNotMade_2 := dk_seg dksX8_whyNotMade_1 24 rfl rfl
theorem dX8_whyNotMade_0 : decode cX8_whyNotMade 0 = .ok (.aload_n 0, 1) := dk_42 (dk_at dksX8_whyNotMade_0 0 rfl rfl)
theorem dX8_whyNotMade_1 : decode cX8_whyNotMade 1 = .ok (.iload_n 1, 1) := dk_27 (dk_at dksX8_whyNotMade_0 1 rfl rfl)
theorem dX8_whyNotMade_2 : decode cX8_whyNotMade 2 = .ok (.invokestatic 164, 3) := dk_184 0 164 (dk_at dksX8_whyNotMade_0 2 rfl rfl)
theorem dX8_whyNotMade_5 : decode cX8_whyNotMade 5 = .ok (.ifCond .eq 10, 3) := dk_153 0 10 (dk_at dksX8_whyNotMade_0 5 rfl rfl)
theorem dX8_whyNotMade_8 : decode cX8_whyNotMade 8 = .ok (.iload_n 2, 1) := dk_28 (dk_at dksX8_whyNotMade_0 8 rfl rfl)
theorem dX8_whyNotMade_9 : decode cX8_whyNotMade 9 = .ok (.invokestatic 183, 3) := dk_184 0 183 (dk_at dksX8_whyNotMade_0 9 rfl rfl)
theorem dX8_whyNotMade_12 : decode cX8_whyNotMade 12 = .ok (.ifCond .ne 7, 3) := dk_154 0 7 (dk_at dksX8_whyNotMade_0 12 rfl rfl)
theorem dX8_whyNotMade_15 : decode cX8_whyNotMade 15 = .ok (.iconst 1, 1) := dk_4 (dk_at dksX8_whyNotMade_0 15 rfl rfl)
theorem dX8_whyNotMade_16 : decode cX8_whyNotMade 16 = .ok (.goto 15, 3) := dk_167 0 15 (dk_at dksX8_whyNotMade_0 16 rfl rfl)
theorem dX8_whyNotMade_19 : decode cX8_whyNotMade 19 = .ok (.iload_n 3, 1) := dk_29 (dk_at dksX8_whyNotMade_0 19 rfl rfl)
theorem dX8_whyNotMade_20 : decode cX8_whyNotMade 20 = .ok (.invokestatic 189, 3) := dk_184 0 189 (dk_at dksX8_whyNotMade_0 20 rfl rfl)
theorem dX8_whyNotMade_23 : decode cX8_whyNotMade 23 = .ok (.ifCond .eq 7, 3) := dk_153 0 7 (dk_at dksX8_whyNotMade_1 0 rfl rfl)
theorem dX8_whyNotMade_26 : decode cX8_whyNotMade 26 = .ok (.iconst 0, 1) := dk_3 (dk_at dksX8_whyNotMade_1 3 rfl rfl)
theorem dX8_whyNotMade_27 : decode cX8_whyNotMade 27 = .ok (.goto 4, 3) := dk_167 0 4 (dk_at dksX8_whyNotMade_1 4 rfl rfl)
theorem dX8_whyNotMade_30 : decode cX8_whyNotMade 30 = .ok (.iconst 2, 1) := dk_5 (dk_at dksX8_whyNotMade_1 7 rfl rfl)
theorem dX8_whyNotMade_31 : decode cX8_whyNotMade 31 = .ok (.putfield 37, 3) := dk_181 0 37 (dk_at dksX8_whyNotMade_1 8 rfl rfl)
theorem dX8_whyNotMade_34 : decode cX8_whyNotMade 34 = .ok (.aload_n 0, 1) := dk_42 (dk_at dksX8_whyNotMade_1 11 rfl rfl)
theorem dX8_whyNotMade_35 : decode cX8_whyNotMade 35 = .ok (.getfield 37, 3) := dk_180 0 37 (dk_at dksX8_whyNotMade_1 12 rfl rfl)
theorem dX8_whyNotMade_38 : decode cX8_whyNotMade 38 = .ok (.ifCond .le 7, 3) := dk_158 0 7 (dk_at dksX8_whyNotMade_1 15 rfl rfl)
theorem dX8_whyNotMade_41 : decode cX8_whyNotMade 41 = .ok (.iconst 0, 1) := dk_3 (dk_at dksX8_whyNotMade_1 18 rfl rfl)
theorem dX8_whyNotMade_42 : decode cX8_whyNotMade 42 = .ok (.goto 10, 3) := dk_167 0 10 (dk_at dksX8_whyNotMade_1 19 rfl rfl)
theorem dX8_whyNotMade_45 : decode cX8_whyNotMade 45 = .ok (.aload_n 0, 1) := dk_42 (dk_at dksX8_whyNotMade_1 22 rfl rfl)
theorem dX8_whyNotMade_46 : decode cX8_whyNotMade 46 = .ok (.iload_n 1, 1) := dk_27 (dk_at dksX8_whyNotMade_1 23 rfl rfl)
theorem dX8_whyNotMade_47 : decode cX8_whyNotMade 47 = .ok (.iload_n 2, 1) := dk_28 (dk_at dksX8_whyNotMade_2 0 rfl rfl)
theorem dX8_whyNotMade_48 : decode cX8_whyNotMade 48 = .ok (.iload_n 3, 1) := dk_29 (dk_at dksX8_whyNotMade_2 1 rfl rfl)
theorem dX8_whyNotMade_49 : decode cX8_whyNotMade 49 = .ok (.invokevirtual 192, 3) := dk_182 0 192 (dk_at dksX8_whyNotMade_2 2 rfl rfl)
theorem dX8_whyNotMade_52 : decode cX8_whyNotMade 52 = .ok (.ireturn, 1) := dk_172 (dk_at dksX8_whyNotMade_2 5 rfl rfl)
abbrev cX8_sheetsFrom : ByteArray := prog_26_method_106_code
def yX8_sheetsFrom : MethodName := ⟨RX8, "sheetsFrom", "(II)I"⟩
def dkwX8_sheetsFrom_1 : List UInt8 := [180, 0, 37, 158, 0, 7, 3, 167, 0, 9, 42, 27, 28, 182, 0, 249, 172]
abbrev dktX8_sheetsFrom_1 : List UInt8 := dkwX8_sheetsFrom_1 ++ []
def dkwX8_sheetsFrom_0 : List UInt8 := [42, 27, 184, 0, 164, 153, 0, 14, 28, 184, 0, 183, 153, 0, 7, 3, 167, 0, 4, 4, 181, 0, 37, 42]
abbrev dktX8_sheetsFrom_0 : List UInt8 := dkwX8_sheetsFrom_0 ++ dktX8_sheetsFrom_1
theorem dksX8_sheetsFrom_0 : cX8_sheetsFrom.data.toList.drop 0 = dktX8_sheetsFrom_0 := by decide +kernel
theorem dksX8_sheetsFrom_1 : cX8_sheetsFrom.data.toList.drop 24 = dktX8_sheetsFrom_1 := dk_seg dksX8_sheetsFrom_0 24 rfl rfl
theorem dX8_sheetsFrom_0 : decode cX8_sheetsFrom 0 = .ok (.aload_n 0, 1) := dk_42 (dk_at dksX8_sheetsFrom_0 0 rfl rfl)
theorem dX8_sheetsFrom_1 : decode cX8_sheetsFrom 1 = .ok (.iload_n 1, 1) := dk_27 (dk_at dksX8_sheetsFrom_0 1 rfl rfl)
theorem dX8_sheetsFrom_2 : decode cX8_sheetsFrom 2 = .ok (.invokestatic 164, 3) := dk_184 0 164 (dk_at dksX8_sheetsFrom_0 2 rfl rfl)
theorem dX8_sheetsFrom_5 : decode cX8_sheetsFrom 5 = .ok (.ifCond .eq 14, 3) := dk_153 0 14 (dk_at dksX8_sheetsFrom_0 5 rfl rfl)
theorem dX8_sheetsFrom_8 : decode cX8_sheetsFrom 8 = .ok (.iload_n 2, 1) := dk_28 (dk_at dksX8_sheetsFrom_0 8 rfl rfl)
theorem dX8_sheetsFrom_9 : decode cX8_sheetsFrom 9 = .ok (.invokestatic 183, 3) := dk_184 0 183 (dk_at dksX8_sheetsFrom_0 9 rfl rfl)
theorem dX8_sheetsFrom_12 : decode cX8_sheetsFrom 12 = .ok (.ifCond .eq 7, 3) := dk_153 0 7 (dk_at dksX8_sheetsFrom_0 12 rfl rfl)
theorem dX8_sheetsFrom_15 : decode cX8_sheetsFrom 15 = .ok (.iconst 0, 1) := dk_3 (dk_at dksX8_sheetsFrom_0 15 rfl rfl)
theorem dX8_sheetsFrom_16 : decode cX8_sheetsFrom 16 = .ok (.goto 4, 3) := dk_167 0 4 (dk_at dksX8_sheetsFrom_0 16 rfl rfl)
theorem dX8_sheetsFrom_19 : decode cX8_sheetsFrom 19 = .ok (.iconst 1, 1) := dk_4 (dk_at dksX8_sheetsFrom_0 19 rfl rfl)
theorem dX8_sheetsFrom_20 : decode cX8_sheetsFrom 20 = .ok (.putfield 37, 3) := dk_181 0 37 (dk_at dksX8_sheetsFrom_0 20 rfl rfl)
theorem dX8_sheetsFrom_23 : decode cX8_sheetsFrom 23 = .ok (.aload_n 0, 1) := dk_42 (dk_at dksX8_sheetsFrom_0 23 rfl rfl)
theorem dX8_sheetsFrom_24 : decode cX8_sheetsFrom 24 = .ok (.getfield 37, 3) := dk_180 0 37 (dk_at dksX8_sheetsFrom_1 0 rfl rfl)
theorem dX8_sheetsFrom_27 : decode cX8_sheetsFrom 27 = .ok (.ifCond .le 7, 3) := dk_158 0 7 (dk_at dksX8_sheetsFrom_1 3 rfl rfl)
theorem dX8_sheetsFrom_30 : decode cX8_sheetsFrom 30 = .ok (.iconst 0, 1) := dk_3 (dk_at dksX8_sheetsFrom_1 6 rfl rfl)
theorem dX8_sheetsFrom_31 : decode cX8_sheetsFrom 31 = .ok (.goto 9, 3) := dk_167 0 9 (dk_at dksX8_sheetsFrom_1 7 rfl rfl)
theorem dX8_sheetsFrom_34 : decode cX8_sheetsFrom 34 = .ok (.aload_n 0, 1) := dk_42 (dk_at dksX8_sheetsFrom_1 10 rfl rfl)
theorem dX8_sheetsFrom_35 : decode cX8_sheetsFrom 35 = .ok (.iload_n 1, 1) := dk_27 (dk_at dksX8_sheetsFrom_1 11 rfl rfl)
theorem dX8_sheetsFrom_36 : decode cX8_sheetsFrom 36 = .ok (.iload_n 2, 1) := dk_28 (dk_at dksX8_sheetsFrom_1 12 rfl rfl)
theorem dX8_sheetsFrom_37 : decode cX8_sheetsFrom 37 = .ok (.invokevirtual 249, 3) := dk_182 0 249 (dk_at dksX8_sheetsFrom_1 13 rfl rfl)
theorem dX8_sheetsFrom_40 : decode cX8_sheetsFrom 40 = .ok (.ireturn, 1) := dk_172 (dk_at dksX8_sheetsFrom_1 16 rfl rfl)
abbrev cX8_most : ByteArray := prog_26_method_105_code
def yX8_most : MethodName := ⟨RX8, "most", "(II)I"⟩
def dkwX8_most_1 : List UInt8 := [29, 172]
abbrev dktX8_most_1 : List UInt8 := dkwX8_most_1 ++ []
def dkwX8_most_0 : List UInt8 := [17, 1, 224, 62, 29, 158, 0, 19, 42, 27, 28, 29, 182, 0, 192, 158, 0, 9, 132, 3, 255, 167, 255, 239]
abbrev dktX8_most_0 : List UInt8 := dkwX8_most_0 ++ dktX8_most_1
theorem dksX8_most_0 : cX8_most.data.toList.drop 0 = dktX8_most_0 := by decide +kernel
theorem dksX8_most_1 : cX8_most.data.toList.drop 24 = dktX8_most_1 := dk_seg dksX8_most_0 24 rfl rfl
theorem dX8_most_0 : decode cX8_most 0 = .ok (.sipush 480, 3) := dk_17 1 224 (dk_at dksX8_most_0 0 rfl rfl)
theorem dX8_most_3 : decode cX8_most 3 = .ok (.istore_n 3, 1) := dk_62 (dk_at dksX8_most_0 3 rfl rfl)
theorem dX8_most_4 : decode cX8_most 4 = .ok (.iload_n 3, 1) := dk_29 (dk_at dksX8_most_0 4 rfl rfl)
theorem dX8_most_5 : decode cX8_most 5 = .ok (.ifCond .le 19, 3) := dk_158 0 19 (dk_at dksX8_most_0 5 rfl rfl)
theorem dX8_most_8 : decode cX8_most 8 = .ok (.aload_n 0, 1) := dk_42 (dk_at dksX8_most_0 8 rfl rfl)
theorem dX8_most_9 : decode cX8_most 9 = .ok (.iload_n 1, 1) := dk_27 (dk_at dksX8_most_0 9 rfl rfl)
theorem dX8_most_10 : decode cX8_most 10 = .ok (.iload_n 2, 1) := dk_28 (dk_at dksX8_most_0 10 rfl rfl)
theorem dX8_most_11 : decode cX8_most 11 = .ok (.iload_n 3, 1) := dk_29 (dk_at dksX8_most_0 11 rfl rfl)
theorem dX8_most_12 : decode cX8_most 12 = .ok (.invokevirtual 192, 3) := dk_182 0 192 (dk_at dksX8_most_0 12 rfl rfl)
theorem dX8_most_15 : decode cX8_most 15 = .ok (.ifCond .le 9, 3) := dk_158 0 9 (dk_at dksX8_most_0 15 rfl rfl)
theorem dX8_most_18 : decode cX8_most 18 = .ok (.iinc 3 (-1), 3) := dk_132 3 255 (dk_at dksX8_most_0 18 rfl rfl)
theorem dX8_most_21 : decode cX8_most 21 = .ok (.goto (-17), 3) := dk_167 255 239 (dk_at dksX8_most_0 21 rfl rfl)
theorem dX8_most_24 : decode cX8_most 24 = .ok (.iload_n 3, 1) := dk_29 (dk_at dksX8_most_1 0 rfl rfl)
theorem dX8_most_25 : decode cX8_most 25 = .ok (.ireturn, 1) := dk_172 (dk_at dksX8_most_1 1 rfl rfl)
abbrev cX8_sheetsByTrying : ByteArray := prog_26_method_107_code
def yX8_sheetsByTrying : MethodName := ⟨RX8, "sheetsByTrying", "(II)I"⟩
def dkwX8_sheetsByTrying_1 : List UInt8 := [180, 0, 37, 158, 0, 7, 3, 167, 0, 9, 42, 27, 28, 182, 0, 249, 172]
abbrev dktX8_sheetsByTrying_1 : List UInt8 := dkwX8_sheetsByTrying_1 ++ []
def dkwX8_sheetsByTrying_0 : List UInt8 := [42, 27, 184, 0, 164, 153, 0, 14, 28, 184, 0, 183, 153, 0, 7, 3, 167, 0, 4, 4, 181, 0, 37, 42]
abbrev dktX8_sheetsByTrying_0 : List UInt8 := dkwX8_sheetsByTrying_0 ++ dktX8_sheetsByTrying_1
theorem dksX8_sheetsByTrying_0 : cX8_sheetsByTrying.data.toList.drop 0 = dktX8_sheetsByTrying_0 := by decide +kernel
theorem dksX8_sheetsByTrying_1 : cX8_sheetsByTrying.data.toList.drop 24 = dktX8_sheetsByTrying_1 := dk_seg dksX8_sheetsByTrying_0 24 rfl rfl
theorem dX8_sheetsByTrying_0 : decode cX8_sheetsByTrying 0 = .ok (.aload_n 0, 1) := dk_42 (dk_at dksX8_sheetsByTrying_0 0 rfl rfl)
theorem dX8_sheetsByTrying_1 : decode cX8_sheetsByTrying 1 = .ok (.iload_n 1, 1) := dk_27 (dk_at dksX8_sheetsByTrying_0 1 rfl rfl)
theorem dX8_sheetsByTrying_2 : decode cX8_sheetsByTrying 2 = .ok (.invokestatic 164, 3) := dk_184 0 164 (dk_at dksX8_sheetsByTrying_0 2 rfl rfl)
theorem dX8_sheetsByTrying_5 : decode cX8_sheetsByTrying 5 = .ok (.ifCond .eq 14, 3) := dk_153 0 14 (dk_at dksX8_sheetsByTrying_0 5 rfl rfl)
theorem dX8_sheetsByTrying_8 : decode cX8_sheetsByTrying 8 = .ok (.iload_n 2, 1) := dk_28 (dk_at dksX8_sheetsByTrying_0 8 rfl rfl)
theorem dX8_sheetsByTrying_9 : decode cX8_sheetsByTrying 9 = .ok (.invokestatic 183, 3) := dk_184 0 183 (dk_at dksX8_sheetsByTrying_0 9 rfl rfl)
theorem dX8_sheetsByTrying_12 : decode cX8_sheetsByTrying 12 = .ok (.ifCond .eq 7, 3) := dk_153 0 7 (dk_at dksX8_sheetsByTrying_0 12 rfl rfl)
theorem dX8_sheetsByTrying_15 : decode cX8_sheetsByTrying 15 = .ok (.iconst 0, 1) := dk_3 (dk_at dksX8_sheetsByTrying_0 15 rfl rfl)
theorem dX8_sheetsByTrying_16 : decode cX8_sheetsByTrying 16 = .ok (.goto 4, 3) := dk_167 0 4 (dk_at dksX8_sheetsByTrying_0 16 rfl rfl)
theorem dX8_sheetsByTrying_19 : decode cX8_sheetsByTrying 19 = .ok (.iconst 1, 1) := dk_4 (dk_at dksX8_sheetsByTrying_0 19 rfl rfl)
theorem dX8_sheetsByTrying_20 : decode cX8_sheetsByTrying 20 = .ok (.putfield 37, 3) := dk_181 0 37 (dk_at dksX8_sheetsByTrying_0 20 rfl rfl)
theorem dX8_sheetsByTrying_23 : decode cX8_sheetsByTrying 23 = .ok (.aload_n 0, 1) := dk_42 (dk_at dksX8_sheetsByTrying_0 23 rfl rfl)
theorem dX8_sheetsByTrying_24 : decode cX8_sheetsByTrying 24 = .ok (.getfield 37, 3) := dk_180 0 37 (dk_at dksX8_sheetsByTrying_1 0 rfl rfl)
theorem dX8_sheetsByTrying_27 : decode cX8_sheetsByTrying 27 = .ok (.ifCond .le 7, 3) := dk_158 0 7 (dk_at dksX8_sheetsByTrying_1 3 rfl rfl)
theorem dX8_sheetsByTrying_30 : decode cX8_sheetsByTrying 30 = .ok (.iconst 0, 1) := dk_3 (dk_at dksX8_sheetsByTrying_1 6 rfl rfl)
theorem dX8_sheetsByTrying_31 : decode cX8_sheetsByTrying 31 = .ok (.goto 9, 3) := dk_167 0 9 (dk_at dksX8_sheetsByTrying_1 7 rfl rfl)
theorem dX8_sheetsByTrying_34 : decode cX8_sheetsByTrying 34 = .ok (.aload_n 0, 1) := dk_42 (dk_at dksX8_sheetsByTrying_1 10 rfl rfl)
theorem dX8_sheetsByTrying_35 : decode cX8_sheetsByTrying 35 = .ok (.iload_n 1, 1) := dk_27 (dk_at dksX8_sheetsByTrying_1 11 rfl rfl)
theorem dX8_sheetsByTrying_36 : decode cX8_sheetsByTrying 36 = .ok (.iload_n 2, 1) := dk_28 (dk_at dksX8_sheetsByTrying_1 12 rfl rfl)
theorem dX8_sheetsByTrying_37 : decode cX8_sheetsByTrying 37 = .ok (.invokevirtual 249, 3) := dk_182 0 249 (dk_at dksX8_sheetsByTrying_1 13 rfl rfl)
theorem dX8_sheetsByTrying_40 : decode cX8_sheetsByTrying 40 = .ok (.ireturn, 1) := dk_172 (dk_at dksX8_sheetsByTrying_1 16 rfl rfl)
abbrev cX8_piles : ByteArray := prog_26_method_108_code
def yX8_piles : MethodName := ⟨RX8, "piles", "()I"⟩
def dkwX8_piles_0 : List UInt8 := [42, 8, 182, 0, 231, 172]
abbrev dktX8_piles_0 : List UInt8 := dkwX8_piles_0 ++ []
theorem dksX8_piles_0 : cX8_piles.data.toList.drop 0 = dktX8_piles_0 := by decide +kernel
theorem dX8_piles_0 : decode cX8_piles 0 = .ok (.aload_n 0, 1) := dk_42 (dk_at dksX8_piles_0 0 rfl rfl)
theorem dX8_piles_1 : decode cX8_piles 1 = .ok (.iconst 5, 1) := dk_8 (dk_at dksX8_piles_0 1 rfl rfl)
theorem dX8_piles_2 : decode cX8_piles 2 = .ok (.invokevirtual 231, 3) := dk_182 0 231 (dk_at dksX8_piles_0 2 rfl rfl)
theorem dX8_piles_5 : decode cX8_piles 5 = .ok (.ireturn, 1) := dk_172 (dk_at dksX8_piles_0 5 rfl rfl)
abbrev cX8_sheetsOn : ByteArray := prog_26_method_110_code
def yX8_sheetsOn : MethodName := ⟨RX8, "sheetsOn", "(I)I"⟩
def dkwX8_sheetsOn_0 : List UInt8 := [42, 27, 6, 182, 0, 252, 172]
abbrev dktX8_sheetsOn_0 : List UInt8 := dkwX8_sheetsOn_0 ++ []
theorem dksX8_sheetsOn_0 : cX8_sheetsOn.data.toList.drop 0 = dktX8_sheetsOn_0 := by decide +kernel
theorem dX8_sheetsOn_0 : decode cX8_sheetsOn 0 = .ok (.aload_n 0, 1) := dk_42 (dk_at dksX8_sheetsOn_0 0 rfl rfl)
theorem dX8_sheetsOn_1 : decode cX8_sheetsOn 1 = .ok (.iload_n 1, 1) := dk_27 (dk_at dksX8_sheetsOn_0 1 rfl rfl)
theorem dX8_sheetsOn_2 : decode cX8_sheetsOn 2 = .ok (.iconst 3, 1) := dk_6 (dk_at dksX8_sheetsOn_0 2 rfl rfl)
theorem dX8_sheetsOn_3 : decode cX8_sheetsOn 3 = .ok (.invokevirtual 252, 3) := dk_182 0 252 (dk_at dksX8_sheetsOn_0 3 rfl rfl)
theorem dX8_sheetsOn_6 : decode cX8_sheetsOn 6 = .ok (.ireturn, 1) := dk_172 (dk_at dksX8_sheetsOn_0 6 rfl rfl)
abbrev cX8_ofPile : ByteArray := prog_26_method_109_code
def yX8_ofPile : MethodName := ⟨RX8, "ofPile", "(II)I"⟩
def dkwX8_ofPile_1 : List UInt8 := [181, 0, 37, 42, 180, 0, 37, 158, 0, 7, 3, 167, 0, 9, 42, 27, 28, 182, 0, 106, 172]
abbrev dktX8_ofPile_1 : List UInt8 := dkwX8_ofPile_1 ++ []
def dkwX8_ofPile_0 : List UInt8 := [42, 27, 3, 42, 180, 0, 7, 8, 46, 4, 100, 184, 0, 48, 153, 0, 7, 3, 167, 0, 4, 4]
abbrev dktX8_ofPile_0 : List UInt8 := dkwX8_ofPile_0 ++ dktX8_ofPile_1
theorem dksX8_ofPile_0 : cX8_ofPile.data.toList.drop 0 = dktX8_ofPile_0 := by decide +kernel
theorem dksX8_ofPile_1 : cX8_ofPile.data.toList.drop 22 = dktX8_ofPile_1 := dk_seg dksX8_ofPile_0 22 rfl rfl
theorem dX8_ofPile_0 : decode cX8_ofPile 0 = .ok (.aload_n 0, 1) := dk_42 (dk_at dksX8_ofPile_0 0 rfl rfl)
theorem dX8_ofPile_1 : decode cX8_ofPile 1 = .ok (.iload_n 1, 1) := dk_27 (dk_at dksX8_ofPile_0 1 rfl rfl)
theorem dX8_ofPile_2 : decode cX8_ofPile 2 = .ok (.iconst 0, 1) := dk_3 (dk_at dksX8_ofPile_0 2 rfl rfl)
theorem dX8_ofPile_3 : decode cX8_ofPile 3 = .ok (.aload_n 0, 1) := dk_42 (dk_at dksX8_ofPile_0 3 rfl rfl)
theorem dX8_ofPile_4 : decode cX8_ofPile 4 = .ok (.getfield 7, 3) := dk_180 0 7 (dk_at dksX8_ofPile_0 4 rfl rfl)
theorem dX8_ofPile_7 : decode cX8_ofPile 7 = .ok (.iconst 5, 1) := dk_8 (dk_at dksX8_ofPile_0 7 rfl rfl)
theorem dX8_ofPile_8 : decode cX8_ofPile 8 = .ok (.iaload, 1) := dk_46 (dk_at dksX8_ofPile_0 8 rfl rfl)
theorem dX8_ofPile_9 : decode cX8_ofPile 9 = .ok (.iconst 1, 1) := dk_4 (dk_at dksX8_ofPile_0 9 rfl rfl)
theorem dX8_ofPile_10 : decode cX8_ofPile 10 = .ok (.isub, 1) := dk_100 (dk_at dksX8_ofPile_0 10 rfl rfl)
theorem dX8_ofPile_11 : decode cX8_ofPile 11 = .ok (.invokestatic 48, 3) := dk_184 0 48 (dk_at dksX8_ofPile_0 11 rfl rfl)
theorem dX8_ofPile_14 : decode cX8_ofPile 14 = .ok (.ifCond .eq 7, 3) := dk_153 0 7 (dk_at dksX8_ofPile_0 14 rfl rfl)
theorem dX8_ofPile_17 : decode cX8_ofPile 17 = .ok (.iconst 0, 1) := dk_3 (dk_at dksX8_ofPile_0 17 rfl rfl)
theorem dX8_ofPile_18 : decode cX8_ofPile 18 = .ok (.goto 4, 3) := dk_167 0 4 (dk_at dksX8_ofPile_0 18 rfl rfl)
theorem dX8_ofPile_21 : decode cX8_ofPile 21 = .ok (.iconst 1, 1) := dk_4 (dk_at dksX8_ofPile_0 21 rfl rfl)
theorem dX8_ofPile_22 : decode cX8_ofPile 22 = .ok (.putfield 37, 3) := dk_181 0 37 (dk_at dksX8_ofPile_1 0 rfl rfl)
theorem dX8_ofPile_25 : decode cX8_ofPile 25 = .ok (.aload_n 0, 1) := dk_42 (dk_at dksX8_ofPile_1 3 rfl rfl)
theorem dX8_ofPile_26 : decode cX8_ofPile 26 = .ok (.getfield 37, 3) := dk_180 0 37 (dk_at dksX8_ofPile_1 4 rfl rfl)
theorem dX8_ofPile_29 : decode cX8_ofPile 29 = .ok (.ifCond .le 7, 3) := dk_158 0 7 (dk_at dksX8_ofPile_1 7 rfl rfl)
theorem dX8_ofPile_32 : decode cX8_ofPile 32 = .ok (.iconst 0, 1) := dk_3 (dk_at dksX8_ofPile_1 10 rfl rfl)
theorem dX8_ofPile_33 : decode cX8_ofPile 33 = .ok (.goto 9, 3) := dk_167 0 9 (dk_at dksX8_ofPile_1 11 rfl rfl)
theorem dX8_ofPile_36 : decode cX8_ofPile 36 = .ok (.aload_n 0, 1) := dk_42 (dk_at dksX8_ofPile_1 14 rfl rfl)
theorem dX8_ofPile_37 : decode cX8_ofPile 37 = .ok (.iload_n 1, 1) := dk_27 (dk_at dksX8_ofPile_1 15 rfl rfl)
theorem dX8_ofPile_38 : decode cX8_ofPile 38 = .ok (.iload_n 2, 1) := dk_28 (dk_at dksX8_ofPile_1 16 rfl rfl)
theorem dX8_ofPile_39 : decode cX8_ofPile 39 = .ok (.invokevirtual 106, 3) := dk_182 0 106 (dk_at dksX8_ofPile_1 17 rfl rfl)
theorem dX8_ofPile_42 : decode cX8_ofPile 42 = .ok (.ireturn, 1) := dk_172 (dk_at dksX8_ofPile_1 20 rfl rfl)
abbrev cX8_gradeOf : ByteArray := prog_26_method_111_code
def yX8_gradeOf : MethodName := ⟨RX8, "gradeOf", "(I)I"⟩
def dkwX8_gradeOf_0 : List UInt8 := [42, 27, 5, 182, 0, 252, 172]
abbrev dktX8_gradeOf_0 : List UInt8 := dkwX8_gradeOf_0 ++ []
theorem dksX8_gradeOf_0 : cX8_gradeOf.data.toList.drop 0 = dktX8_gradeOf_0 := by decide +kernel
theorem dX8_gradeOf_0 : decode cX8_gradeOf 0 = .ok (.aload_n 0, 1) := dk_42 (dk_at dksX8_gradeOf_0 0 rfl rfl)
theorem dX8_gradeOf_1 : decode cX8_gradeOf 1 = .ok (.iload_n 1, 1) := dk_27 (dk_at dksX8_gradeOf_0 1 rfl rfl)
theorem dX8_gradeOf_2 : decode cX8_gradeOf 2 = .ok (.iconst 2, 1) := dk_5 (dk_at dksX8_gradeOf_0 2 rfl rfl)
theorem dX8_gradeOf_3 : decode cX8_gradeOf 3 = .ok (.invokevirtual 252, 3) := dk_182 0 252 (dk_at dksX8_gradeOf_0 3 rfl rfl)
theorem dX8_gradeOf_6 : decode cX8_gradeOf 6 = .ok (.ireturn, 1) := dk_172 (dk_at dksX8_gradeOf_0 6 rfl rfl)
abbrev cX8_drySheets : ByteArray := prog_26_method_112_code
def yX8_drySheets : MethodName := ⟨RX8, "drySheets", "(III)I"⟩
def dkwX8_drySheets_1 : List UInt8 := [158, 0, 7, 3, 167, 0, 10, 42, 27, 28, 29, 182, 0, 198, 172]
abbrev dktX8_drySheets_1 : List UInt8 := dkwX8_drySheets_1 ++ []
def dkwX8_drySheets_0 : List UInt8 := [42, 27, 28, 29, 184, 0, 201, 153, 0, 7, 3, 167, 0, 4, 4, 181, 0, 37, 42, 180, 0, 37]
abbrev dktX8_drySheets_0 : List UInt8 := dkwX8_drySheets_0 ++ dktX8_drySheets_1
theorem dksX8_drySheets_0 : cX8_drySheets.data.toList.drop 0 = dktX8_drySheets_0 := by decide +kernel
theorem dksX8_drySheets_1 : cX8_drySheets.data.toList.drop 22 = dktX8_drySheets_1 := dk_seg dksX8_drySheets_0 22 rfl rfl
theorem dX8_drySheets_0 : decode cX8_drySheets 0 = .ok (.aload_n 0, 1) := dk_42 (dk_at dksX8_drySheets_0 0 rfl rfl)
theorem dX8_drySheets_1 : decode cX8_drySheets 1 = .ok (.iload_n 1, 1) := dk_27 (dk_at dksX8_drySheets_0 1 rfl rfl)
theorem dX8_drySheets_2 : decode cX8_drySheets 2 = .ok (.iload_n 2, 1) := dk_28 (dk_at dksX8_drySheets_0 2 rfl rfl)
theorem dX8_drySheets_3 : decode cX8_drySheets 3 = .ok (.iload_n 3, 1) := dk_29 (dk_at dksX8_drySheets_0 3 rfl rfl)
theorem dX8_drySheets_4 : decode cX8_drySheets 4 = .ok (.invokestatic 201, 3) := dk_184 0 201 (dk_at dksX8_drySheets_0 4 rfl rfl)
theorem dX8_drySheets_7 : decode cX8_drySheets 7 = .ok (.ifCond .eq 7, 3) := dk_153 0 7 (dk_at dksX8_drySheets_0 7 rfl rfl)
theorem dX8_drySheets_10 : decode cX8_drySheets 10 = .ok (.iconst 0, 1) := dk_3 (dk_at dksX8_drySheets_0 10 rfl rfl)
theorem dX8_drySheets_11 : decode cX8_drySheets 11 = .ok (.goto 4, 3) := dk_167 0 4 (dk_at dksX8_drySheets_0 11 rfl rfl)
theorem dX8_drySheets_14 : decode cX8_drySheets 14 = .ok (.iconst 1, 1) := dk_4 (dk_at dksX8_drySheets_0 14 rfl rfl)
theorem dX8_drySheets_15 : decode cX8_drySheets 15 = .ok (.putfield 37, 3) := dk_181 0 37 (dk_at dksX8_drySheets_0 15 rfl rfl)
theorem dX8_drySheets_18 : decode cX8_drySheets 18 = .ok (.aload_n 0, 1) := dk_42 (dk_at dksX8_drySheets_0 18 rfl rfl)
theorem dX8_drySheets_19 : decode cX8_drySheets 19 = .ok (.getfield 37, 3) := dk_180 0 37 (dk_at dksX8_drySheets_0 19 rfl rfl)
theorem dX8_drySheets_22 : decode cX8_drySheets 22 = .ok (.ifCond .le 7, 3) := dk_158 0 7 (dk_at dksX8_drySheets_1 0 rfl rfl)
theorem dX8_drySheets_25 : decode cX8_drySheets 25 = .ok (.iconst 0, 1) := dk_3 (dk_at dksX8_drySheets_1 3 rfl rfl)
theorem dX8_drySheets_26 : decode cX8_drySheets 26 = .ok (.goto 10, 3) := dk_167 0 10 (dk_at dksX8_drySheets_1 4 rfl rfl)
theorem dX8_drySheets_29 : decode cX8_drySheets 29 = .ok (.aload_n 0, 1) := dk_42 (dk_at dksX8_drySheets_1 7 rfl rfl)
theorem dX8_drySheets_30 : decode cX8_drySheets 30 = .ok (.iload_n 1, 1) := dk_27 (dk_at dksX8_drySheets_1 8 rfl rfl)
theorem dX8_drySheets_31 : decode cX8_drySheets 31 = .ok (.iload_n 2, 1) := dk_28 (dk_at dksX8_drySheets_1 9 rfl rfl)
theorem dX8_drySheets_32 : decode cX8_drySheets 32 = .ok (.iload_n 3, 1) := dk_29 (dk_at dksX8_drySheets_1 10 rfl rfl)
theorem dX8_drySheets_33 : decode cX8_drySheets 33 = .ok (.invokevirtual 198, 3) := dk_182 0 198 (dk_at dksX8_drySheets_1 11 rfl rfl)
theorem dX8_drySheets_36 : decode cX8_drySheets 36 = .ok (.ireturn, 1) := dk_172 (dk_at dksX8_drySheets_1 14 rfl rfl)
abbrev cX8_whyNotPacked : ByteArray := prog_26_method_113_code
def yX8_whyNotPacked : MethodName := ⟨RX8, "whyNotPacked", "(III)I"⟩
def dkwX8_whyNotPacked_1 : List UInt8 := [158, 0, 7, 3, 167, 0, 10, 42, 27, 28, 29, 182, 0, 204, 172]
abbrev dktX8_whyNotPacked_1 : List UInt8 := dkwX8_whyNotPacked_1 ++ []
def dkwX8_whyNotPacked_0 : List UInt8 := [42, 27, 28, 29, 184, 0, 201, 153, 0, 7, 3, 167, 0, 4, 4, 181, 0, 37, 42, 180, 0, 37]
abbrev dktX8_whyNotPacked_0 : List UInt8 := dkwX8_whyNotPacked_0 ++ dktX8_whyNotPacked_1
theorem dksX8_whyNotPacked_0 : cX8_whyNotPacked.data.toList.drop 0 = dktX8_whyNotPacked_0 := by decide +kernel
theorem dksX8_whyNotPacked_1 : cX8_whyNotPacked.data.toList.drop 22 = dktX8_whyNotPacked_1 := dk_seg dksX8_whyNotPacked_0 22 rfl rfl
theorem dX8_whyNotPacked_0 : decode cX8_whyNotPacked 0 = .ok (.aload_n 0, 1) := dk_42 (dk_at dksX8_whyNotPacked_0 0 rfl rfl)
theorem dX8_whyNotPacked_1 : decode cX8_whyNotPacked 1 = .ok (.iload_n 1, 1) := dk_27 (dk_at dksX8_whyNotPacked_0 1 rfl rfl)
theorem dX8_whyNotPacked_2 : decode cX8_whyNotPacked 2 = .ok (.iload_n 2, 1) := dk_28 (dk_at dksX8_whyNotPacked_0 2 rfl rfl)
theorem dX8_whyNotPacked_3 : decode cX8_whyNotPacked 3 = .ok (.iload_n 3, 1) := dk_29 (dk_at dksX8_whyNotPacked_0 3 rfl rfl)
theorem dX8_whyNotPacked_4 : decode cX8_whyNotPacked 4 = .ok (.invokestatic 201, 3) := dk_184 0 201 (dk_at dksX8_whyNotPacked_0 4 rfl rfl)
theorem dX8_whyNotPacked_7 : decode cX8_whyNotPacked 7 = .ok (.ifCond .eq 7, 3) := dk_153 0 7 (dk_at dksX8_whyNotPacked_0 7 rfl rfl)
theorem dX8_whyNotPacked_10 : decode cX8_whyNotPacked 10 = .ok (.iconst 0, 1) := dk_3 (dk_at dksX8_whyNotPacked_0 10 rfl rfl)
theorem dX8_whyNotPacked_11 : decode cX8_whyNotPacked 11 = .ok (.goto 4, 3) := dk_167 0 4 (dk_at dksX8_whyNotPacked_0 11 rfl rfl)
theorem dX8_whyNotPacked_14 : decode cX8_whyNotPacked 14 = .ok (.iconst 1, 1) := dk_4 (dk_at dksX8_whyNotPacked_0 14 rfl rfl)
theorem dX8_whyNotPacked_15 : decode cX8_whyNotPacked 15 = .ok (.putfield 37, 3) := dk_181 0 37 (dk_at dksX8_whyNotPacked_0 15 rfl rfl)
theorem dX8_whyNotPacked_18 : decode cX8_whyNotPacked 18 = .ok (.aload_n 0, 1) := dk_42 (dk_at dksX8_whyNotPacked_0 18 rfl rfl)
theorem dX8_whyNotPacked_19 : decode cX8_whyNotPacked 19 = .ok (.getfield 37, 3) := dk_180 0 37 (dk_at dksX8_whyNotPacked_0 19 rfl rfl)
theorem dX8_whyNotPacked_22 : decode cX8_whyNotPacked 22 = .ok (.ifCond .le 7, 3) := dk_158 0 7 (dk_at dksX8_whyNotPacked_1 0 rfl rfl)
theorem dX8_whyNotPacked_25 : decode cX8_whyNotPacked 25 = .ok (.iconst 0, 1) := dk_3 (dk_at dksX8_whyNotPacked_1 3 rfl rfl)
theorem dX8_whyNotPacked_26 : decode cX8_whyNotPacked 26 = .ok (.goto 10, 3) := dk_167 0 10 (dk_at dksX8_whyNotPacked_1 4 rfl rfl)
theorem dX8_whyNotPacked_29 : decode cX8_whyNotPacked 29 = .ok (.aload_n 0, 1) := dk_42 (dk_at dksX8_whyNotPacked_1 7 rfl rfl)
theorem dX8_whyNotPacked_30 : decode cX8_whyNotPacked 30 = .ok (.iload_n 1, 1) := dk_27 (dk_at dksX8_whyNotPacked_1 8 rfl rfl)
theorem dX8_whyNotPacked_31 : decode cX8_whyNotPacked 31 = .ok (.iload_n 2, 1) := dk_28 (dk_at dksX8_whyNotPacked_1 9 rfl rfl)
theorem dX8_whyNotPacked_32 : decode cX8_whyNotPacked 32 = .ok (.iload_n 3, 1) := dk_29 (dk_at dksX8_whyNotPacked_1 10 rfl rfl)
theorem dX8_whyNotPacked_33 : decode cX8_whyNotPacked 33 = .ok (.invokevirtual 204, 3) := dk_182 0 204 (dk_at dksX8_whyNotPacked_1 11 rfl rfl)
theorem dX8_whyNotPacked_36 : decode cX8_whyNotPacked 36 = .ok (.ireturn, 1) := dk_172 (dk_at dksX8_whyNotPacked_1 14 rfl rfl)
abbrev cX8_reams : ByteArray := prog_26_method_114_code
def yX8_reams : MethodName := ⟨RX8, "reams", "()I"⟩
def dkwX8_reams_0 : List UInt8 := [42, 16, 6, 182, 0, 231, 172]
abbrev dktX8_reams_0 : List UInt8 := dkwX8_reams_0 ++ []
theorem dksX8_reams_0 : cX8_reams.data.toList.drop 0 = dktX8_reams_0 := by decide +kernel
theorem dX8_reams_0 : decode cX8_reams 0 = .ok (.aload_n 0, 1) := dk_42 (dk_at dksX8_reams_0 0 rfl rfl)
theorem dX8_reams_1 : decode cX8_reams 1 = .ok (.bipush 6, 2) := dk_16 6 (dk_at dksX8_reams_0 1 rfl rfl)
theorem dX8_reams_3 : decode cX8_reams 3 = .ok (.invokevirtual 231, 3) := dk_182 0 231 (dk_at dksX8_reams_0 3 rfl rfl)
theorem dX8_reams_6 : decode cX8_reams 6 = .ok (.ireturn, 1) := dk_172 (dk_at dksX8_reams_0 6 rfl rfl)
abbrev cX8_quiresOf : ByteArray := prog_26_method_115_code
def yX8_quiresOf : MethodName := ⟨RX8, "quiresOf", "(I)I"⟩
def dkwX8_quiresOf_1 : List UInt8 := [3, 167, 0, 9, 42, 27, 6, 182, 0, 113, 172]
abbrev dktX8_quiresOf_1 : List UInt8 := dkwX8_quiresOf_1 ++ []
def dkwX8_quiresOf_0 : List UInt8 := [42, 42, 27, 182, 0, 213, 153, 0, 7, 3, 167, 0, 4, 4, 181, 0, 37, 42, 180, 0, 37, 158, 0, 7]
abbrev dktX8_quiresOf_0 : List UInt8 := dkwX8_quiresOf_0 ++ dktX8_quiresOf_1
theorem dksX8_quiresOf_0 : cX8_quiresOf.data.toList.drop 0 = dktX8_quiresOf_0 := by decide +kernel
theorem dksX8_quiresOf_1 : cX8_quiresOf.data.toList.drop 24 = dktX8_quiresOf_1 := dk_seg dksX8_quiresOf_0 24 rfl rfl
theorem dX8_quiresOf_0 : decode cX8_quiresOf 0 = .ok (.aload_n 0, 1) := dk_42 (dk_at dksX8_quiresOf_0 0 rfl rfl)
theorem dX8_quiresOf_1 : decode cX8_quiresOf 1 = .ok (.aload_n 0, 1) := dk_42 (dk_at dksX8_quiresOf_0 1 rfl rfl)
theorem dX8_quiresOf_2 : decode cX8_quiresOf 2 = .ok (.iload_n 1, 1) := dk_27 (dk_at dksX8_quiresOf_0 2 rfl rfl)
theorem dX8_quiresOf_3 : decode cX8_quiresOf 3 = .ok (.invokevirtual 213, 3) := dk_182 0 213 (dk_at dksX8_quiresOf_0 3 rfl rfl)
theorem dX8_quiresOf_6 : decode cX8_quiresOf 6 = .ok (.ifCond .eq 7, 3) := dk_153 0 7 (dk_at dksX8_quiresOf_0 6 rfl rfl)
theorem dX8_quiresOf_9 : decode cX8_quiresOf 9 = .ok (.iconst 0, 1) := dk_3 (dk_at dksX8_quiresOf_0 9 rfl rfl)
theorem dX8_quiresOf_10 : decode cX8_quiresOf 10 = .ok (.goto 4, 3) := dk_167 0 4 (dk_at dksX8_quiresOf_0 10 rfl rfl)
theorem dX8_quiresOf_13 : decode cX8_quiresOf 13 = .ok (.iconst 1, 1) := dk_4 (dk_at dksX8_quiresOf_0 13 rfl rfl)
theorem dX8_quiresOf_14 : decode cX8_quiresOf 14 = .ok (.putfield 37, 3) := dk_181 0 37 (dk_at dksX8_quiresOf_0 14 rfl rfl)
theorem dX8_quiresOf_17 : decode cX8_quiresOf 17 = .ok (.aload_n 0, 1) := dk_42 (dk_at dksX8_quiresOf_0 17 rfl rfl)
theorem dX8_quiresOf_18 : decode cX8_quiresOf 18 = .ok (.getfield 37, 3) := dk_180 0 37 (dk_at dksX8_quiresOf_0 18 rfl rfl)
theorem dX8_quiresOf_21 : decode cX8_quiresOf 21 = .ok (.ifCond .le 7, 3) := dk_158 0 7 (dk_at dksX8_quiresOf_0 21 rfl rfl)
theorem dX8_quiresOf_24 : decode cX8_quiresOf 24 = .ok (.iconst 0, 1) := dk_3 (dk_at dksX8_quiresOf_1 0 rfl rfl)
theorem dX8_quiresOf_25 : decode cX8_quiresOf 25 = .ok (.goto 9, 3) := dk_167 0 9 (dk_at dksX8_quiresOf_1 1 rfl rfl)
theorem dX8_quiresOf_28 : decode cX8_quiresOf 28 = .ok (.aload_n 0, 1) := dk_42 (dk_at dksX8_quiresOf_1 4 rfl rfl)
theorem dX8_quiresOf_29 : decode cX8_quiresOf 29 = .ok (.iload_n 1, 1) := dk_27 (dk_at dksX8_quiresOf_1 5 rfl rfl)
theorem dX8_quiresOf_30 : decode cX8_quiresOf 30 = .ok (.iconst 3, 1) := dk_6 (dk_at dksX8_quiresOf_1 6 rfl rfl)
theorem dX8_quiresOf_31 : decode cX8_quiresOf 31 = .ok (.invokevirtual 113, 3) := dk_182 0 113 (dk_at dksX8_quiresOf_1 7 rfl rfl)
theorem dX8_quiresOf_34 : decode cX8_quiresOf 34 = .ok (.ireturn, 1) := dk_172 (dk_at dksX8_quiresOf_1 10 rfl rfl)
abbrev cX8_priceOf : ByteArray := prog_26_method_116_code
def yX8_priceOf : MethodName := ⟨RX8, "priceOf", "(I)I"⟩
def dkwX8_priceOf_1 : List UInt8 := [3, 167, 0, 8, 42, 27, 182, 0, 219, 172]
abbrev dktX8_priceOf_1 : List UInt8 := dkwX8_priceOf_1 ++ []
def dkwX8_priceOf_0 : List UInt8 := [42, 42, 27, 182, 0, 213, 153, 0, 7, 3, 167, 0, 4, 4, 181, 0, 37, 42, 180, 0, 37, 158, 0, 7]
abbrev dktX8_priceOf_0 : List UInt8 := dkwX8_priceOf_0 ++ dktX8_priceOf_1
theorem dksX8_priceOf_0 : cX8_priceOf.data.toList.drop 0 = dktX8_priceOf_0 := by decide +kernel
theorem dksX8_priceOf_1 : cX8_priceOf.data.toList.drop 24 = dktX8_priceOf_1 := dk_seg dksX8_priceOf_0 24 rfl rfl
theorem dX8_priceOf_0 : decode cX8_priceOf 0 = .ok (.aload_n 0, 1) := dk_42 (dk_at dksX8_priceOf_0 0 rfl rfl)
theorem dX8_priceOf_1 : decode cX8_priceOf 1 = .ok (.aload_n 0, 1) := dk_42 (dk_at dksX8_priceOf_0 1 rfl rfl)
theorem dX8_priceOf_2 : decode cX8_priceOf 2 = .ok (.iload_n 1, 1) := dk_27 (dk_at dksX8_priceOf_0 2 rfl rfl)
theorem dX8_priceOf_3 : decode cX8_priceOf 3 = .ok (.invokevirtual 213, 3) := dk_182 0 213 (dk_at dksX8_priceOf_0 3 rfl rfl)
theorem dX8_priceOf_6 : decode cX8_priceOf 6 = .ok (.ifCond .eq 7, 3) := dk_153 0 7 (dk_at dksX8_priceOf_0 6 rfl rfl)
theorem dX8_priceOf_9 : decode cX8_priceOf 9 = .ok (.iconst 0, 1) := dk_3 (dk_at dksX8_priceOf_0 9 rfl rfl)
theorem dX8_priceOf_10 : decode cX8_priceOf 10 = .ok (.goto 4, 3) := dk_167 0 4 (dk_at dksX8_priceOf_0 10 rfl rfl)
theorem dX8_priceOf_13 : decode cX8_priceOf 13 = .ok (.iconst 1, 1) := dk_4 (dk_at dksX8_priceOf_0 13 rfl rfl)
theorem dX8_priceOf_14 : decode cX8_priceOf 14 = .ok (.putfield 37, 3) := dk_181 0 37 (dk_at dksX8_priceOf_0 14 rfl rfl)
theorem dX8_priceOf_17 : decode cX8_priceOf 17 = .ok (.aload_n 0, 1) := dk_42 (dk_at dksX8_priceOf_0 17 rfl rfl)
theorem dX8_priceOf_18 : decode cX8_priceOf 18 = .ok (.getfield 37, 3) := dk_180 0 37 (dk_at dksX8_priceOf_0 18 rfl rfl)
theorem dX8_priceOf_21 : decode cX8_priceOf 21 = .ok (.ifCond .le 7, 3) := dk_158 0 7 (dk_at dksX8_priceOf_0 21 rfl rfl)
theorem dX8_priceOf_24 : decode cX8_priceOf 24 = .ok (.iconst 0, 1) := dk_3 (dk_at dksX8_priceOf_1 0 rfl rfl)
theorem dX8_priceOf_25 : decode cX8_priceOf 25 = .ok (.goto 8, 3) := dk_167 0 8 (dk_at dksX8_priceOf_1 1 rfl rfl)
theorem dX8_priceOf_28 : decode cX8_priceOf 28 = .ok (.aload_n 0, 1) := dk_42 (dk_at dksX8_priceOf_1 4 rfl rfl)
theorem dX8_priceOf_29 : decode cX8_priceOf 29 = .ok (.iload_n 1, 1) := dk_27 (dk_at dksX8_priceOf_1 5 rfl rfl)
theorem dX8_priceOf_30 : decode cX8_priceOf 30 = .ok (.invokevirtual 219, 3) := dk_182 0 219 (dk_at dksX8_priceOf_1 6 rfl rfl)
theorem dX8_priceOf_33 : decode cX8_priceOf 33 = .ok (.ireturn, 1) := dk_172 (dk_at dksX8_priceOf_1 9 rfl rfl)
abbrev cX8_day : ByteArray := prog_26_method_117_code
def yX8_day : MethodName := ⟨RX8, "day", "()I"⟩
def dkwX8_day_0 : List UInt8 := [42, 3, 182, 0, 231, 172]
abbrev dktX8_day_0 : List UInt8 := dkwX8_day_0 ++ []
theorem dksX8_day_0 : cX8_day.data.toList.drop 0 = dktX8_day_0 := by decide +kernel
theorem dX8_day_0 : decode cX8_day 0 = .ok (.aload_n 0, 1) := dk_42 (dk_at dksX8_day_0 0 rfl rfl)
theorem dX8_day_1 : decode cX8_day 1 = .ok (.iconst 0, 1) := dk_3 (dk_at dksX8_day_0 1 rfl rfl)
theorem dX8_day_2 : decode cX8_day 2 = .ok (.invokevirtual 231, 3) := dk_182 0 231 (dk_at dksX8_day_0 2 rfl rfl)
theorem dX8_day_5 : decode cX8_day 5 = .ok (.ireturn, 1) := dk_172 (dk_at dksX8_day_0 5 rfl rfl)
abbrev cX8_purse : ByteArray := prog_26_method_118_code
def yX8_purse : MethodName := ⟨RX8, "purse", "()I"⟩
def dkwX8_purse_0 : List UInt8 := [42, 4, 182, 0, 231, 172]
abbrev dktX8_purse_0 : List UInt8 := dkwX8_purse_0 ++ []
theorem dksX8_purse_0 : cX8_purse.data.toList.drop 0 = dktX8_purse_0 := by decide +kernel
theorem dX8_purse_0 : decode cX8_purse 0 = .ok (.aload_n 0, 1) := dk_42 (dk_at dksX8_purse_0 0 rfl rfl)
theorem dX8_purse_1 : decode cX8_purse 1 = .ok (.iconst 1, 1) := dk_4 (dk_at dksX8_purse_0 1 rfl rfl)
theorem dX8_purse_2 : decode cX8_purse 2 = .ok (.invokevirtual 231, 3) := dk_182 0 231 (dk_at dksX8_purse_0 2 rfl rfl)
theorem dX8_purse_5 : decode cX8_purse 5 = .ok (.ireturn, 1) := dk_172 (dk_at dksX8_purse_0 5 rfl rfl)
abbrev cX8_unitsByPlaces : ByteArray := prog_26_method_120_code
def yX8_unitsByPlaces : MethodName := ⟨RX8, "unitsByPlaces", "()I"⟩
theorem dX8_unitsByPlaces_0 : decode cX8_unitsByPlaces 0 = .ok (.aload_n 0, 1) := by decide +kernel
theorem dX8_unitsByPlaces_1 : decode cX8_unitsByPlaces 1 = .ok (.invokevirtual 255, 3) := by decide +kernel
theorem dX8_unitsByPlaces_4 : decode cX8_unitsByPlaces 4 = .ok (.ireturn, 1) := by decide +kernel
abbrev cX8_allUnits : ByteArray := prog_26_method_119_code
def yX8_allUnits : MethodName := ⟨RX8, "allUnits", "()I"⟩
def dkwX8_allUnits_5 : List UInt8 := [28, 182, 0, 222, 96, 60, 132, 2, 1, 167, 255, 234, 27, 172]
abbrev dktX8_allUnits_5 : List UInt8 := dkwX8_allUnits_5 ++ []
def dkwX8_allUnits_4 : List UInt8 := [104, 96, 60, 132, 2, 1, 167, 255, 224, 3, 61, 28, 42, 180, 0, 7, 16, 6, 46, 162, 0, 17, 27, 42]
abbrev dktX8_allUnits_4 : List UInt8 := dkwX8_allUnits_4 ++ dktX8_allUnits_5
def dkwX8_allUnits_3 : List UInt8 := [180, 0, 7, 8, 46, 162, 0, 28, 27, 42, 28, 6, 182, 0, 106, 42, 28, 4, 182, 0, 106, 184, 0, 97]
abbrev dktX8_allUnits_3 : List UInt8 := dkwX8_allUnits_3 ++ dktX8_allUnits_4
def dkwX8_allUnits_2 : List UInt8 := [6, 162, 0, 17, 27, 42, 28, 182, 0, 74, 96, 60, 132, 2, 1, 167, 255, 240, 3, 61, 28, 42]
abbrev dktX8_allUnits_2 : List UInt8 := dkwX8_allUnits_2 ++ dktX8_allUnits_3
def dkwX8_allUnits_1 : List UInt8 := [162, 0, 21, 27, 16, 40, 42, 28, 4, 182, 0, 52, 104, 96, 60, 132, 2, 1, 167, 255, 231, 3, 61, 28]
abbrev dktX8_allUnits_1 : List UInt8 := dkwX8_allUnits_1 ++ dktX8_allUnits_2
def dkwX8_allUnits_0 : List UInt8 := [42, 3, 181, 0, 37, 42, 180, 0, 7, 16, 7, 46, 60, 3, 61, 28, 42, 180, 0, 7, 7, 46]
abbrev dktX8_allUnits_0 : List UInt8 := dkwX8_allUnits_0 ++ dktX8_allUnits_1
theorem dksX8_allUnits_0 : cX8_allUnits.data.toList.drop 0 = dktX8_allUnits_0 := by decide +kernel
theorem dksX8_allUnits_1 : cX8_allUnits.data.toList.drop 22 = dktX8_allUnits_1 := dk_seg dksX8_allUnits_0 22 rfl rfl
theorem dksX8_allUnits_2 : cX8_allUnits.data.toList.drop 46 = dktX8_allUnits_2 := dk_seg dksX8_allUnits_1 24 rfl rfl
theorem dksX8_allUnits_3 : cX8_allUnits.data.toList.drop 68 = dktX8_allUnits_3 := dk_seg dksX8_allUnits_2 22 rfl rfl
theorem dksX8_allUnits_4 : cX8_allUnits.data.toList.drop 92 = dktX8_allUnits_4 := dk_seg dksX8_allUnits_3 24 rfl rfl
theorem dksX8_allUnits_5 : cX8_allUnits.data.toList.drop 116 = dktX8_allUnits_5 := dk_seg dksX8_allUnits_4 24 rfl rfl
theorem dX8_allUnits_0 : decode cX8_allUnits 0 = .ok (.aload_n 0, 1) := dk_42 (dk_at dksX8_allUnits_0 0 rfl rfl)
theorem dX8_allUnits_1 : decode cX8_allUnits 1 = .ok (.iconst 0, 1) := dk_3 (dk_at dksX8_allUnits_0 1 rfl rfl)
theorem dX8_allUnits_2 : decode cX8_allUnits 2 = .ok (.putfield 37, 3) := dk_181 0 37 (dk_at dksX8_allUnits_0 2 rfl rfl)
theorem dX8_allUnits_5 : decode cX8_allUnits 5 = .ok (.aload_n 0, 1) := dk_42 (dk_at dksX8_allUnits_0 5 rfl rfl)
theorem dX8_allUnits_6 : decode cX8_allUnits 6 = .ok (.getfield 7, 3) := dk_180 0 7 (dk_at dksX8_allUnits_0 6 rfl rfl)
theorem dX8_allUnits_9 : decode cX8_allUnits 9 = .ok (.bipush 7, 2) := dk_16 7 (dk_at dksX8_allUnits_0 9 rfl rfl)
theorem dX8_allUnits_11 : decode cX8_allUnits 11 = .ok (.iaload, 1) := dk_46 (dk_at dksX8_allUnits_0 11 rfl rfl)
theorem dX8_allUnits_12 : decode cX8_allUnits 12 = .ok (.istore_n 1, 1) := dk_60 (dk_at dksX8_allUnits_0 12 rfl rfl)
theorem dX8_allUnits_13 : decode cX8_allUnits 13 = .ok (.iconst 0, 1) := dk_3 (dk_at dksX8_allUnits_0 13 rfl rfl)
theorem dX8_allUnits_14 : decode cX8_allUnits 14 = .ok (.istore_n 2, 1) := dk_61 (dk_at dksX8_allUnits_0 14 rfl rfl)
theorem dX8_allUnits_15 : decode cX8_allUnits 15 = .ok (.iload_n 2, 1) := dk_28 (dk_at dksX8_allUnits_0 15 rfl rfl)
theorem dX8_allUnits_16 : decode cX8_allUnits 16 = .ok (.aload_n 0, 1) := dk_42 (dk_at dksX8_allUnits_0 16 rfl rfl)
theorem dX8_allUnits_17 : decode cX8_allUnits 17 = .ok (.getfield 7, 3) := dk_180 0 7 (dk_at dksX8_allUnits_0 17 rfl rfl)
theorem dX8_allUnits_20 : decode cX8_allUnits 20 = .ok (.iconst 4, 1) := dk_7 (dk_at dksX8_allUnits_0 20 rfl rfl)
theorem dX8_allUnits_21 : decode cX8_allUnits 21 = .ok (.iaload, 1) := dk_46 (dk_at dksX8_allUnits_0 21 rfl rfl)
theorem dX8_allUnits_22 : decode cX8_allUnits 22 = .ok (.if_icmp .ge 21, 3) := dk_162 0 21 (dk_at dksX8_allUnits_1 0 rfl rfl)
theorem dX8_allUnits_25 : decode cX8_allUnits 25 = .ok (.iload_n 1, 1) := dk_27 (dk_at dksX8_allUnits_1 3 rfl rfl)
theorem dX8_allUnits_26 : decode cX8_allUnits 26 = .ok (.bipush 40, 2) := dk_16 40 (dk_at dksX8_allUnits_1 4 rfl rfl)
theorem dX8_allUnits_28 : decode cX8_allUnits 28 = .ok (.aload_n 0, 1) := dk_42 (dk_at dksX8_allUnits_1 6 rfl rfl)
theorem dX8_allUnits_29 : decode cX8_allUnits 29 = .ok (.iload_n 2, 1) := dk_28 (dk_at dksX8_allUnits_1 7 rfl rfl)
theorem dX8_allUnits_30 : decode cX8_allUnits 30 = .ok (.iconst 1, 1) := dk_4 (dk_at dksX8_allUnits_1 8 rfl rfl)
theorem dX8_allUnits_31 : decode cX8_allUnits 31 = .ok (.invokevirtual 52, 3) := dk_182 0 52 (dk_at dksX8_allUnits_1 9 rfl rfl)
theorem dX8_allUnits_34 : decode cX8_allUnits 34 = .ok (.imul, 1) := dk_104 (dk_at dksX8_allUnits_1 12 rfl rfl)
theorem dX8_allUnits_35 : decode cX8_allUnits 35 = .ok (.iadd, 1) := dk_96 (dk_at dksX8_allUnits_1 13 rfl rfl)
theorem dX8_allUnits_36 : decode cX8_allUnits 36 = .ok (.istore_n 1, 1) := dk_60 (dk_at dksX8_allUnits_1 14 rfl rfl)
theorem dX8_allUnits_37 : decode cX8_allUnits 37 = .ok (.iinc 2 1, 3) := dk_132 2 1 (dk_at dksX8_allUnits_1 15 rfl rfl)
theorem dX8_allUnits_40 : decode cX8_allUnits 40 = .ok (.goto (-25), 3) := dk_167 255 231 (dk_at dksX8_allUnits_1 18 rfl rfl)
theorem dX8_allUnits_43 : decode cX8_allUnits 43 = .ok (.iconst 0, 1) := dk_3 (dk_at dksX8_allUnits_1 21 rfl rfl)
theorem dX8_allUnits_44 : decode cX8_allUnits 44 = .ok (.istore_n 2, 1) := dk_61 (dk_at dksX8_allUnits_1 22 rfl rfl)
theorem dX8_allUnits_45 : decode cX8_allUnits 45 = .ok (.iload_n 2, 1) := dk_28 (dk_at dksX8_allUnits_1 23 rfl rfl)
theorem dX8_allUnits_46 : decode cX8_allUnits 46 = .ok (.iconst 3, 1) := dk_6 (dk_at dksX8_allUnits_2 0 rfl rfl)
theorem dX8_allUnits_47 : decode cX8_allUnits 47 = .ok (.if_icmp .ge 17, 3) := dk_162 0 17 (dk_at dksX8_allUnits_2 1 rfl rfl)
theorem dX8_allUnits_50 : decode cX8_allUnits 50 = .ok (.iload_n 1, 1) := dk_27 (dk_at dksX8_allUnits_2 4 rfl rfl)
theorem dX8_allUnits_51 : decode cX8_allUnits 51 = .ok (.aload_n 0, 1) := dk_42 (dk_at dksX8_allUnits_2 5 rfl rfl)
theorem dX8_allUnits_52 : decode cX8_allUnits 52 = .ok (.iload_n 2, 1) := dk_28 (dk_at dksX8_allUnits_2 6 rfl rfl)
theorem dX8_allUnits_53 : decode cX8_allUnits 53 = .ok (.invokevirtual 74, 3) := dk_182 0 74 (dk_at dksX8_allUnits_2 7 rfl rfl)
theorem dX8_allUnits_56 : decode cX8_allUnits 56 = .ok (.iadd, 1) := dk_96 (dk_at dksX8_allUnits_2 10 rfl rfl)
theorem dX8_allUnits_57 : decode cX8_allUnits 57 = .ok (.istore_n 1, 1) := dk_60 (dk_at dksX8_allUnits_2 11 rfl rfl)
theorem dX8_allUnits_58 : decode cX8_allUnits 58 = .ok (.iinc 2 1, 3) := dk_132 2 1 (dk_at dksX8_allUnits_2 12 rfl rfl)
theorem dX8_allUnits_61 : decode cX8_allUnits 61 = .ok (.goto (-16), 3) := dk_167 255 240 (dk_at dksX8_allUnits_2 15 rfl rfl)
theorem dX8_allUnits_64 : decode cX8_allUnits 64 = .ok (.iconst 0, 1) := dk_3 (dk_at dksX8_allUnits_2 18 rfl rfl)
theorem dX8_allUnits_65 : decode cX8_allUnits 65 = .ok (.istore_n 2, 1) := dk_61 (dk_at dksX8_allUnits_2 19 rfl rfl)
theorem dX8_allUnits_66 : decode cX8_allUnits 66 = .ok (.iload_n 2, 1) := dk_28 (dk_at dksX8_allUnits_2 20 rfl rfl)
theorem dX8_allUnits_67 : decode cX8_allUnits 67 = .ok (.aload_n 0, 1) := dk_42 (dk_at dksX8_allUnits_2 21 rfl rfl)
theorem dX8_allUnits_68 : decode cX8_allUnits 68 = .ok (.getfield 7, 3) := dk_180 0 7 (dk_at dksX8_allUnits_3 0 rfl rfl)
theorem dX8_allUnits_71 : decode cX8_allUnits 71 = .ok (.iconst 5, 1) := dk_8 (dk_at dksX8_allUnits_3 3 rfl rfl)
theorem dX8_allUnits_72 : decode cX8_allUnits 72 = .ok (.iaload, 1) := dk_46 (dk_at dksX8_allUnits_3 4 rfl rfl)
theorem dX8_allUnits_73 : decode cX8_allUnits 73 = .ok (.if_icmp .ge 28, 3) := dk_162 0 28 (dk_at dksX8_allUnits_3 5 rfl rfl)
theorem dX8_allUnits_76 : decode cX8_allUnits 76 = .ok (.iload_n 1, 1) := dk_27 (dk_at dksX8_allUnits_3 8 rfl rfl)
theorem dX8_allUnits_77 : decode cX8_allUnits 77 = .ok (.aload_n 0, 1) := dk_42 (dk_at dksX8_allUnits_3 9 rfl rfl)
theorem dX8_allUnits_78 : decode cX8_allUnits 78 = .ok (.iload_n 2, 1) := dk_28 (dk_at dksX8_allUnits_3 10 rfl rfl)
theorem dX8_allUnits_79 : decode cX8_allUnits 79 = .ok (.iconst 3, 1) := dk_6 (dk_at dksX8_allUnits_3 11 rfl rfl)
theorem dX8_allUnits_80 : decode cX8_allUnits 80 = .ok (.invokevirtual 106, 3) := dk_182 0 106 (dk_at dksX8_allUnits_3 12 rfl rfl)
theorem dX8_allUnits_83 : decode cX8_allUnits 83 = .ok (.aload_n 0, 1) := dk_42 (dk_at dksX8_allUnits_3 15 rfl rfl)
theorem dX8_allUnits_84 : decode cX8_allUnits 84 = .ok (.iload_n 2, 1) := dk_28 (dk_at dksX8_allUnits_3 16 rfl rfl)
theorem dX8_allUnits_85 : decode cX8_allUnits 85 = .ok (.iconst 1, 1) := dk_4 (dk_at dksX8_allUnits_3 17 rfl rfl)
theorem dX8_allUnits_86 : decode cX8_allUnits 86 = .ok (.invokevirtual 106, 3) := dk_182 0 106 (dk_at dksX8_allUnits_3 18 rfl rfl)
theorem dX8_allUnits_89 : decode cX8_allUnits 89 = .ok (.invokestatic 97, 3) := dk_184 0 97 (dk_at dksX8_allUnits_3 21 rfl rfl)
theorem dX8_allUnits_92 : decode cX8_allUnits 92 = .ok (.imul, 1) := dk_104 (dk_at dksX8_allUnits_4 0 rfl rfl)
theorem dX8_allUnits_93 : decode cX8_allUnits 93 = .ok (.iadd, 1) := dk_96 (dk_at dksX8_allUnits_4 1 rfl rfl)
theorem dX8_allUnits_94 : decode cX8_allUnits 94 = .ok (.istore_n 1, 1) := dk_60 (dk_at dksX8_allUnits_4 2 rfl rfl)
theorem dX8_allUnits_95 : decode cX8_allUnits 95 = .ok (.iinc 2 1, 3) := dk_132 2 1 (dk_at dksX8_allUnits_4 3 rfl rfl)
theorem dX8_allUnits_98 : decode cX8_allUnits 98 = .ok (.goto (-32), 3) := dk_167 255 224 (dk_at dksX8_allUnits_4 6 rfl rfl)
theorem dX8_allUnits_101 : decode cX8_allUnits 101 = .ok (.iconst 0, 1) := dk_3 (dk_at dksX8_allUnits_4 9 rfl rfl)
theorem dX8_allUnits_102 : decode cX8_allUnits 102 = .ok (.istore_n 2, 1) := dk_61 (dk_at dksX8_allUnits_4 10 rfl rfl)
theorem dX8_allUnits_103 : decode cX8_allUnits 103 = .ok (.iload_n 2, 1) := dk_28 (dk_at dksX8_allUnits_4 11 rfl rfl)
theorem dX8_allUnits_104 : decode cX8_allUnits 104 = .ok (.aload_n 0, 1) := dk_42 (dk_at dksX8_allUnits_4 12 rfl rfl)
theorem dX8_allUnits_105 : decode cX8_allUnits 105 = .ok (.getfield 7, 3) := dk_180 0 7 (dk_at dksX8_allUnits_4 13 rfl rfl)
theorem dX8_allUnits_108 : decode cX8_allUnits 108 = .ok (.bipush 6, 2) := dk_16 6 (dk_at dksX8_allUnits_4 16 rfl rfl)
theorem dX8_allUnits_110 : decode cX8_allUnits 110 = .ok (.iaload, 1) := dk_46 (dk_at dksX8_allUnits_4 18 rfl rfl)
theorem dX8_allUnits_111 : decode cX8_allUnits 111 = .ok (.if_icmp .ge 17, 3) := dk_162 0 17 (dk_at dksX8_allUnits_4 19 rfl rfl)
theorem dX8_allUnits_114 : decode cX8_allUnits 114 = .ok (.iload_n 1, 1) := dk_27 (dk_at dksX8_allUnits_4 22 rfl rfl)
theorem dX8_allUnits_115 : decode cX8_allUnits 115 = .ok (.aload_n 0, 1) := dk_42 (dk_at dksX8_allUnits_4 23 rfl rfl)
theorem dX8_allUnits_116 : decode cX8_allUnits 116 = .ok (.iload_n 2, 1) := dk_28 (dk_at dksX8_allUnits_5 0 rfl rfl)
theorem dX8_allUnits_117 : decode cX8_allUnits 117 = .ok (.invokevirtual 222, 3) := dk_182 0 222 (dk_at dksX8_allUnits_5 1 rfl rfl)
theorem dX8_allUnits_120 : decode cX8_allUnits 120 = .ok (.iadd, 1) := dk_96 (dk_at dksX8_allUnits_5 4 rfl rfl)
theorem dX8_allUnits_121 : decode cX8_allUnits 121 = .ok (.istore_n 1, 1) := dk_60 (dk_at dksX8_allUnits_5 5 rfl rfl)
theorem dX8_allUnits_122 : decode cX8_allUnits 122 = .ok (.iinc 2 1, 3) := dk_132 2 1 (dk_at dksX8_allUnits_5 6 rfl rfl)
theorem dX8_allUnits_125 : decode cX8_allUnits 125 = .ok (.goto (-22), 3) := dk_167 255 234 (dk_at dksX8_allUnits_5 9 rfl rfl)
theorem dX8_allUnits_128 : decode cX8_allUnits 128 = .ok (.iload_n 1, 1) := dk_27 (dk_at dksX8_allUnits_5 12 rfl rfl)
theorem dX8_allUnits_129 : decode cX8_allUnits 129 = .ok (.ireturn, 1) := dk_172 (dk_at dksX8_allUnits_5 13 rfl rfl)
abbrev cX8_unitsByAccount : ByteArray := prog_26_method_121_code
def yX8_unitsByAccount : MethodName := ⟨RX8, "unitsByAccount", "()I"⟩
theorem dX8_unitsByAccount_0 : decode cX8_unitsByAccount 0 = .ok (.aload_n 0, 1) := by decide +kernel
theorem dX8_unitsByAccount_1 : decode cX8_unitsByAccount 1 = .ok (.invokevirtual 255, 3) := by decide +kernel
theorem dX8_unitsByAccount_4 : decode cX8_unitsByAccount 4 = .ok (.ireturn, 1) := by decide +kernel
abbrev cX8_meanDamp : ByteArray := prog_26_method_122_code
def yX8_meanDamp : MethodName := ⟨RX8, "meanDamp", "()D"⟩
def dkwX8_meanDamp_2 : List UInt8 := [167, 0, 12, 39, 42, 180, 0, 7, 7, 46, 135, 111, 175]
abbrev dktX8_meanDamp_2 : List UInt8 := dkwX8_meanDamp_2 ++ []
def dkwX8_meanDamp_1 : List UInt8 := [182, 0, 52, 135, 99, 72, 132, 3, 1, 167, 255, 233, 42, 180, 0, 7, 7, 46, 154, 0, 7, 14]
abbrev dktX8_meanDamp_1 : List UInt8 := dkwX8_meanDamp_1 ++ dktX8_meanDamp_2
def dkwX8_meanDamp_0 : List UInt8 := [42, 3, 181, 0, 37, 14, 72, 3, 62, 29, 42, 180, 0, 7, 7, 46, 162, 0, 19, 39, 42, 29, 5]
abbrev dktX8_meanDamp_0 : List UInt8 := dkwX8_meanDamp_0 ++ dktX8_meanDamp_1
theorem dksX8_meanDamp_0 : cX8_meanDamp.data.toList.drop 0 = dktX8_meanDamp_0 := by decide +kernel
theorem dksX8_meanDamp_1 : cX8_meanDamp.data.toList.drop 23 = dktX8_meanDamp_1 := dk_seg dksX8_meanDamp_0 23 rfl rfl
theorem dksX8_meanDamp_2 : cX8_meanDamp.data.toList.drop 45 = dktX8_meanDamp_2 := dk_seg dksX8_meanDamp_1 22 rfl rfl
theorem dX8_meanDamp_0 : decode cX8_meanDamp 0 = .ok (.aload_n 0, 1) := dk_42 (dk_at dksX8_meanDamp_0 0 rfl rfl)
theorem dX8_meanDamp_1 : decode cX8_meanDamp 1 = .ok (.iconst 0, 1) := dk_3 (dk_at dksX8_meanDamp_0 1 rfl rfl)
theorem dX8_meanDamp_2 : decode cX8_meanDamp 2 = .ok (.putfield 37, 3) := dk_181 0 37 (dk_at dksX8_meanDamp_0 2 rfl rfl)
theorem dX8_meanDamp_5 : decode cX8_meanDamp 5 = .ok (.dconst 0, 1) := dk_14 (dk_at dksX8_meanDamp_0 5 rfl rfl)
theorem dX8_meanDamp_6 : decode cX8_meanDamp 6 = .ok (.dstore_n 1, 1) := dk_72 (dk_at dksX8_meanDamp_0 6 rfl rfl)
theorem dX8_meanDamp_7 : decode cX8_meanDamp 7 = .ok (.iconst 0, 1) := dk_3 (dk_at dksX8_meanDamp_0 7 rfl rfl)
theorem dX8_meanDamp_8 : decode cX8_meanDamp 8 = .ok (.istore_n 3, 1) := dk_62 (dk_at dksX8_meanDamp_0 8 rfl rfl)
theorem dX8_meanDamp_9 : decode cX8_meanDamp 9 = .ok (.iload_n 3, 1) := dk_29 (dk_at dksX8_meanDamp_0 9 rfl rfl)
theorem dX8_meanDamp_10 : decode cX8_meanDamp 10 = .ok (.aload_n 0, 1) := dk_42 (dk_at dksX8_meanDamp_0 10 rfl rfl)
theorem dX8_meanDamp_11 : decode cX8_meanDamp 11 = .ok (.getfield 7, 3) := dk_180 0 7 (dk_at dksX8_meanDamp_0 11 rfl rfl)
theorem dX8_meanDamp_14 : decode cX8_meanDamp 14 = .ok (.iconst 4, 1) := dk_7 (dk_at dksX8_meanDamp_0 14 rfl rfl)
theorem dX8_meanDamp_15 : decode cX8_meanDamp 15 = .ok (.iaload, 1) := dk_46 (dk_at dksX8_meanDamp_0 15 rfl rfl)
theorem dX8_meanDamp_16 : decode cX8_meanDamp 16 = .ok (.if_icmp .ge 19, 3) := dk_162 0 19 (dk_at dksX8_meanDamp_0 16 rfl rfl)
theorem dX8_meanDamp_19 : decode cX8_meanDamp 19 = .ok (.dload_n 1, 1) := dk_39 (dk_at dksX8_meanDamp_0 19 rfl rfl)
theorem dX8_meanDamp_20 : decode cX8_meanDamp 20 = .ok (.aload_n 0, 1) := dk_42 (dk_at dksX8_meanDamp_0 20 rfl rfl)
theorem dX8_meanDamp_21 : decode cX8_meanDamp 21 = .ok (.iload_n 3, 1) := dk_29 (dk_at dksX8_meanDamp_0 21 rfl rfl)
theorem dX8_meanDamp_22 : decode cX8_meanDamp 22 = .ok (.iconst 2, 1) := dk_5 (dk_at dksX8_meanDamp_0 22 rfl rfl)
theorem dX8_meanDamp_23 : decode cX8_meanDamp 23 = .ok (.invokevirtual 52, 3) := dk_182 0 52 (dk_at dksX8_meanDamp_1 0 rfl rfl)
theorem dX8_meanDamp_26 : decode cX8_meanDamp 26 = .ok (.i2d, 1) := dk_135 (dk_at dksX8_meanDamp_1 3 rfl rfl)
theorem dX8_meanDamp_27 : decode cX8_meanDamp 27 = .ok (.dadd, 1) := dk_99 (dk_at dksX8_meanDamp_1 4 rfl rfl)
theorem dX8_meanDamp_28 : decode cX8_meanDamp 28 = .ok (.dstore_n 1, 1) := dk_72 (dk_at dksX8_meanDamp_1 5 rfl rfl)
theorem dX8_meanDamp_29 : decode cX8_meanDamp 29 = .ok (.iinc 3 1, 3) := dk_132 3 1 (dk_at dksX8_meanDamp_1 6 rfl rfl)
theorem dX8_meanDamp_32 : decode cX8_meanDamp 32 = .ok (.goto (-23), 3) := dk_167 255 233 (dk_at dksX8_meanDamp_1 9 rfl rfl)
theorem dX8_meanDamp_35 : decode cX8_meanDamp 35 = .ok (.aload_n 0, 1) := dk_42 (dk_at dksX8_meanDamp_1 12 rfl rfl)
theorem dX8_meanDamp_36 : decode cX8_meanDamp 36 = .ok (.getfield 7, 3) := dk_180 0 7 (dk_at dksX8_meanDamp_1 13 rfl rfl)
theorem dX8_meanDamp_39 : decode cX8_meanDamp 39 = .ok (.iconst 4, 1) := dk_7 (dk_at dksX8_meanDamp_1 16 rfl rfl)
theorem dX8_meanDamp_40 : decode cX8_meanDamp 40 = .ok (.iaload, 1) := dk_46 (dk_at dksX8_meanDamp_1 17 rfl rfl)
theorem dX8_meanDamp_41 : decode cX8_meanDamp 41 = .ok (.ifCond .ne 7, 3) := dk_154 0 7 (dk_at dksX8_meanDamp_1 18 rfl rfl)
theorem dX8_meanDamp_44 : decode cX8_meanDamp 44 = .ok (.dconst 0, 1) := dk_14 (dk_at dksX8_meanDamp_1 21 rfl rfl)
theorem dX8_meanDamp_45 : decode cX8_meanDamp 45 = .ok (.goto 12, 3) := dk_167 0 12 (dk_at dksX8_meanDamp_2 0 rfl rfl)
theorem dX8_meanDamp_48 : decode cX8_meanDamp 48 = .ok (.dload_n 1, 1) := dk_39 (dk_at dksX8_meanDamp_2 3 rfl rfl)
theorem dX8_meanDamp_49 : decode cX8_meanDamp 49 = .ok (.aload_n 0, 1) := dk_42 (dk_at dksX8_meanDamp_2 4 rfl rfl)
theorem dX8_meanDamp_50 : decode cX8_meanDamp 50 = .ok (.getfield 7, 3) := dk_180 0 7 (dk_at dksX8_meanDamp_2 5 rfl rfl)
theorem dX8_meanDamp_53 : decode cX8_meanDamp 53 = .ok (.iconst 4, 1) := dk_7 (dk_at dksX8_meanDamp_2 8 rfl rfl)
theorem dX8_meanDamp_54 : decode cX8_meanDamp 54 = .ok (.iaload, 1) := dk_46 (dk_at dksX8_meanDamp_2 9 rfl rfl)
theorem dX8_meanDamp_55 : decode cX8_meanDamp 55 = .ok (.i2d, 1) := dk_135 (dk_at dksX8_meanDamp_2 10 rfl rfl)
theorem dX8_meanDamp_56 : decode cX8_meanDamp 56 = .ok (.ddiv, 1) := dk_111 (dk_at dksX8_meanDamp_2 11 rfl rfl)
theorem dX8_meanDamp_57 : decode cX8_meanDamp 57 = .ok (.dreturn, 1) := dk_175 (dk_at dksX8_meanDamp_2 12 rfl rfl)
abbrev cX8_daysUntilMould : ByteArray := prog_26_method_123_code
def yX8_daysUntilMould : MethodName := ⟨RX8, "daysUntilMould", "()I"⟩
def dkwX8_daysUntilMould_3 : List UInt8 := [180, 0, 126, 154, 0, 7, 2, 167, 0, 4, 27, 172]
abbrev dktX8_daysUntilMould_3 : List UInt8 := dkwX8_daysUntilMould_3 ++ []
def dkwX8_daysUntilMould_2 : List UInt8 := [3, 167, 0, 4, 4, 96, 60, 167, 255, 228, 42, 180, 0, 19, 3, 42, 180, 0, 7, 3, 184, 0, 44, 42]
abbrev dktX8_daysUntilMould_2 : List UInt8 := dkwX8_daysUntilMould_2 ++ dktX8_daysUntilMould_3
def dkwX8_daysUntilMould_1 : List UInt8 := [181, 0, 126, 27, 16, 60, 162, 0, 28, 42, 180, 0, 126, 154, 0, 21, 27, 42, 182, 0, 132, 156, 0, 7]
abbrev dktX8_daysUntilMould_1 : List UInt8 := dkwX8_daysUntilMould_1 ++ dktX8_daysUntilMould_2
def dkwX8_daysUntilMould_0 : List UInt8 := [42, 3, 181, 0, 37, 42, 180, 0, 7, 3, 42, 180, 0, 19, 3, 184, 0, 44, 3, 60, 42, 3]
abbrev dktX8_daysUntilMould_0 : List UInt8 := dkwX8_daysUntilMould_0 ++ dktX8_daysUntilMould_1
theorem dksX8_daysUntilMould_0 : cX8_daysUntilMould.data.toList.drop 0 = dktX8_daysUntilMould_0 := by decide +kernel
theorem dksX8_daysUntilMould_1 : cX8_daysUntilMould.data.toList.drop 22 = dktX8_daysUntilMould_1 := dk_seg dksX8_daysUntilMould_0 22 rfl rfl
theorem dksX8_daysUntilMould_2 : cX8_daysUntilMould.data.toList.drop 46 = dktX8_daysUntilMould_2 := dk_seg dksX8_daysUntilMould_1 24 rfl rfl
theorem dksX8_daysUntilMould_3 : cX8_daysUntilMould.data.toList.drop 70 = dktX8_daysUntilMould_3 := dk_seg dksX8_daysUntilMould_2 24 rfl rfl
theorem dX8_daysUntilMould_0 : decode cX8_daysUntilMould 0 = .ok (.aload_n 0, 1) := dk_42 (dk_at dksX8_daysUntilMould_0 0 rfl rfl)
theorem dX8_daysUntilMould_1 : decode cX8_daysUntilMould 1 = .ok (.iconst 0, 1) := dk_3 (dk_at dksX8_daysUntilMould_0 1 rfl rfl)
theorem dX8_daysUntilMould_2 : decode cX8_daysUntilMould 2 = .ok (.putfield 37, 3) := dk_181 0 37 (dk_at dksX8_daysUntilMould_0 2 rfl rfl)
theorem dX8_daysUntilMould_5 : decode cX8_daysUntilMould 5 = .ok (.aload_n 0, 1) := dk_42 (dk_at dksX8_daysUntilMould_0 5 rfl rfl)
theorem dX8_daysUntilMould_6 : decode cX8_daysUntilMould 6 = .ok (.getfield 7, 3) := dk_180 0 7 (dk_at dksX8_daysUntilMould_0 6 rfl rfl)
theorem dX8_daysUntilMould_9 : decode cX8_daysUntilMould 9 = .ok (.iconst 0, 1) := dk_3 (dk_at dksX8_daysUntilMould_0 9 rfl rfl)
theorem dX8_daysUntilMould_10 : decode cX8_daysUntilMould 10 = .ok (.aload_n 0, 1) := dk_42 (dk_at dksX8_daysUntilMould_0 10 rfl rfl)
theorem dX8_daysUntilMould_11 : decode cX8_daysUntilMould 11 = .ok (.getfield 19, 3) := dk_180 0 19 (dk_at dksX8_daysUntilMould_0 11 rfl rfl)
theorem dX8_daysUntilMould_14 : decode cX8_daysUntilMould 14 = .ok (.iconst 0, 1) := dk_3 (dk_at dksX8_daysUntilMould_0 14 rfl rfl)
theorem dX8_daysUntilMould_15 : decode cX8_daysUntilMould 15 = .ok (.invokestatic 44, 3) := dk_184 0 44 (dk_at dksX8_daysUntilMould_0 15 rfl rfl)
theorem dX8_daysUntilMould_18 : decode cX8_daysUntilMould 18 = .ok (.iconst 0, 1) := dk_3 (dk_at dksX8_daysUntilMould_0 18 rfl rfl)
theorem dX8_daysUntilMould_19 : decode cX8_daysUntilMould 19 = .ok (.istore_n 1, 1) := dk_60 (dk_at dksX8_daysUntilMould_0 19 rfl rfl)
theorem dX8_daysUntilMould_20 : decode cX8_daysUntilMould 20 = .ok (.aload_n 0, 1) := dk_42 (dk_at dksX8_daysUntilMould_0 20 rfl rfl)
theorem dX8_daysUntilMould_21 : decode cX8_daysUntilMould 21 = .ok (.iconst 0, 1) := dk_3 (dk_at dksX8_daysUntilMould_0 21 rfl rfl)
theorem dX8_daysUntilMould_22 : decode cX8_daysUntilMould 22 = .ok (.putfield 126, 3) := dk_181 0 126 (dk_at dksX8_daysUntilMould_1 0 rfl rfl)
theorem dX8_daysUntilMould_25 : decode cX8_daysUntilMould 25 = .ok (.iload_n 1, 1) := dk_27 (dk_at dksX8_daysUntilMould_1 3 rfl rfl)
theorem dX8_daysUntilMould_26 : decode cX8_daysUntilMould 26 = .ok (.bipush 60, 2) := dk_16 60 (dk_at dksX8_daysUntilMould_1 4 rfl rfl)
theorem dX8_daysUntilMould_28 : decode cX8_daysUntilMould 28 = .ok (.if_icmp .ge 28, 3) := dk_162 0 28 (dk_at dksX8_daysUntilMould_1 6 rfl rfl)
theorem dX8_daysUntilMould_31 : decode cX8_daysUntilMould 31 = .ok (.aload_n 0, 1) := dk_42 (dk_at dksX8_daysUntilMould_1 9 rfl rfl)
theorem dX8_daysUntilMould_32 : decode cX8_daysUntilMould 32 = .ok (.getfield 126, 3) := dk_180 0 126 (dk_at dksX8_daysUntilMould_1 10 rfl rfl)
theorem dX8_daysUntilMould_35 : decode cX8_daysUntilMould 35 = .ok (.ifCond .ne 21, 3) := dk_154 0 21 (dk_at dksX8_daysUntilMould_1 13 rfl rfl)
theorem dX8_daysUntilMould_38 : decode cX8_daysUntilMould 38 = .ok (.iload_n 1, 1) := dk_27 (dk_at dksX8_daysUntilMould_1 16 rfl rfl)
theorem dX8_daysUntilMould_39 : decode cX8_daysUntilMould 39 = .ok (.aload_n 0, 1) := dk_42 (dk_at dksX8_daysUntilMould_1 17 rfl rfl)
theorem dX8_daysUntilMould_40 : decode cX8_daysUntilMould 40 = .ok (.invokevirtual 132, 3) := dk_182 0 132 (dk_at dksX8_daysUntilMould_1 18 rfl rfl)
theorem dX8_daysUntilMould_43 : decode cX8_daysUntilMould 43 = .ok (.ifCond .ge 7, 3) := dk_156 0 7 (dk_at dksX8_daysUntilMould_1 21 rfl rfl)
theorem dX8_daysUntilMould_46 : decode cX8_daysUntilMould 46 = .ok (.iconst 0, 1) := dk_3 (dk_at dksX8_daysUntilMould_2 0 rfl rfl)
theorem dX8_daysUntilMould_47 : decode cX8_daysUntilMould 47 = .ok (.goto 4, 3) := dk_167 0 4 (dk_at dksX8_daysUntilMould_2 1 rfl rfl)
theorem dX8_daysUntilMould_50 : decode cX8_daysUntilMould 50 = .ok (.iconst 1, 1) := dk_4 (dk_at dksX8_daysUntilMould_2 4 rfl rfl)
theorem dX8_daysUntilMould_51 : decode cX8_daysUntilMould 51 = .ok (.iadd, 1) := dk_96 (dk_at dksX8_daysUntilMould_2 5 rfl rfl)
theorem dX8_daysUntilMould_52 : decode cX8_daysUntilMould 52 = .ok (.istore_n 1, 1) := dk_60 (dk_at dksX8_daysUntilMould_2 6 rfl rfl)
theorem dX8_daysUntilMould_53 : decode cX8_daysUntilMould 53 = .ok (.goto (-28), 3) := dk_167 255 228 (dk_at dksX8_daysUntilMould_2 7 rfl rfl)
theorem dX8_daysUntilMould_56 : decode cX8_daysUntilMould 56 = .ok (.aload_n 0, 1) := dk_42 (dk_at dksX8_daysUntilMould_2 10 rfl rfl)
theorem dX8_daysUntilMould_57 : decode cX8_daysUntilMould 57 = .ok (.getfield 19, 3) := dk_180 0 19 (dk_at dksX8_daysUntilMould_2 11 rfl rfl)
theorem dX8_daysUntilMould_60 : decode cX8_daysUntilMould 60 = .ok (.iconst 0, 1) := dk_3 (dk_at dksX8_daysUntilMould_2 14 rfl rfl)
theorem dX8_daysUntilMould_61 : decode cX8_daysUntilMould 61 = .ok (.aload_n 0, 1) := dk_42 (dk_at dksX8_daysUntilMould_2 15 rfl rfl)
theorem dX8_daysUntilMould_62 : decode cX8_daysUntilMould 62 = .ok (.getfield 7, 3) := dk_180 0 7 (dk_at dksX8_daysUntilMould_2 16 rfl rfl)
theorem dX8_daysUntilMould_65 : decode cX8_daysUntilMould 65 = .ok (.iconst 0, 1) := dk_3 (dk_at dksX8_daysUntilMould_2 19 rfl rfl)
theorem dX8_daysUntilMould_66 : decode cX8_daysUntilMould 66 = .ok (.invokestatic 44, 3) := dk_184 0 44 (dk_at dksX8_daysUntilMould_2 20 rfl rfl)
theorem dX8_daysUntilMould_69 : decode cX8_daysUntilMould 69 = .ok (.aload_n 0, 1) := dk_42 (dk_at dksX8_daysUntilMould_2 23 rfl rfl)
theorem dX8_daysUntilMould_70 : decode cX8_daysUntilMould 70 = .ok (.getfield 126, 3) := dk_180 0 126 (dk_at dksX8_daysUntilMould_3 0 rfl rfl)
theorem dX8_daysUntilMould_73 : decode cX8_daysUntilMould 73 = .ok (.ifCond .ne 7, 3) := dk_154 0 7 (dk_at dksX8_daysUntilMould_3 3 rfl rfl)
theorem dX8_daysUntilMould_76 : decode cX8_daysUntilMould 76 = .ok (.iconst (-1), 1) := dk_2 (dk_at dksX8_daysUntilMould_3 6 rfl rfl)
theorem dX8_daysUntilMould_77 : decode cX8_daysUntilMould 77 = .ok (.goto 4, 3) := dk_167 0 4 (dk_at dksX8_daysUntilMould_3 7 rfl rfl)
theorem dX8_daysUntilMould_80 : decode cX8_daysUntilMould 80 = .ok (.iload_n 1, 1) := dk_27 (dk_at dksX8_daysUntilMould_3 10 rfl rfl)
theorem dX8_daysUntilMould_81 : decode cX8_daysUntilMould 81 = .ok (.ireturn, 1) := dk_172 (dk_at dksX8_daysUntilMould_3 11 rfl rfl)
abbrev cX8_lostIn : ByteArray := prog_26_method_124_code
def yX8_lostIn : MethodName := ⟨RX8, "lostIn", "(I)I"⟩
def dkwX8_lostIn_2 : List UInt8 := [42, 180, 0, 19, 3, 42, 180, 0, 7, 3, 184, 0, 44, 28, 172]
abbrev dktX8_lostIn_2 : List UInt8 := dkwX8_lostIn_2 ++ []
def dkwX8_lostIn_1 : List UInt8 := [158, 0, 5, 3, 172, 42, 180, 0, 7, 3, 42, 180, 0, 19, 3, 184, 0, 44, 42, 27, 182, 0, 228, 61]
abbrev dktX8_lostIn_1 : List UInt8 := dkwX8_lostIn_1 ++ dktX8_lostIn_2
def dkwX8_lostIn_0 : List UInt8 := [42, 27, 4, 16, 60, 184, 0, 48, 153, 0, 7, 3, 167, 0, 4, 4, 181, 0, 37, 42, 180, 0, 37]
abbrev dktX8_lostIn_0 : List UInt8 := dkwX8_lostIn_0 ++ dktX8_lostIn_1
theorem dksX8_lostIn_0 : cX8_lostIn.data.toList.drop 0 = dktX8_lostIn_0 := by decide +kernel
theorem dksX8_lostIn_1 : cX8_lostIn.data.toList.drop 23 = dktX8_lostIn_1 := dk_seg dksX8_lostIn_0 23 rfl rfl
theorem dksX8_lostIn_2 : cX8_lostIn.data.toList.drop 47 = dktX8_lostIn_2 := dk_seg dksX8_lostIn_1 24 rfl rfl
theorem dX8_lostIn_0 : decode cX8_lostIn 0 = .ok (.aload_n 0, 1) := dk_42 (dk_at dksX8_lostIn_0 0 rfl rfl)
theorem dX8_lostIn_1 : decode cX8_lostIn 1 = .ok (.iload_n 1, 1) := dk_27 (dk_at dksX8_lostIn_0 1 rfl rfl)
theorem dX8_lostIn_2 : decode cX8_lostIn 2 = .ok (.iconst 1, 1) := dk_4 (dk_at dksX8_lostIn_0 2 rfl rfl)
theorem dX8_lostIn_3 : decode cX8_lostIn 3 = .ok (.bipush 60, 2) := dk_16 60 (dk_at dksX8_lostIn_0 3 rfl rfl)
theorem dX8_lostIn_5 : decode cX8_lostIn 5 = .ok (.invokestatic 48, 3) := dk_184 0 48 (dk_at dksX8_lostIn_0 5 rfl rfl)
theorem dX8_lostIn_8 : decode cX8_lostIn 8 = .ok (.ifCond .eq 7, 3) := dk_153 0 7 (dk_at dksX8_lostIn_0 8 rfl rfl)
theorem dX8_lostIn_11 : decode cX8_lostIn 11 = .ok (.iconst 0, 1) := dk_3 (dk_at dksX8_lostIn_0 11 rfl rfl)
theorem dX8_lostIn_12 : decode cX8_lostIn 12 = .ok (.goto 4, 3) := dk_167 0 4 (dk_at dksX8_lostIn_0 12 rfl rfl)
theorem dX8_lostIn_15 : decode cX8_lostIn 15 = .ok (.iconst 1, 1) := dk_4 (dk_at dksX8_lostIn_0 15 rfl rfl)
theorem dX8_lostIn_16 : decode cX8_lostIn 16 = .ok (.putfield 37, 3) := dk_181 0 37 (dk_at dksX8_lostIn_0 16 rfl rfl)
theorem dX8_lostIn_19 : decode cX8_lostIn 19 = .ok (.aload_n 0, 1) := dk_42 (dk_at dksX8_lostIn_0 19 rfl rfl)
theorem dX8_lostIn_20 : decode cX8_lostIn 20 = .ok (.getfield 37, 3) := dk_180 0 37 (dk_at dksX8_lostIn_0 20 rfl rfl)
theorem dX8_lostIn_23 : decode cX8_lostIn 23 = .ok (.ifCond .le 5, 3) := dk_158 0 5 (dk_at dksX8_lostIn_1 0 rfl rfl)
theorem dX8_lostIn_26 : decode cX8_lostIn 26 = .ok (.iconst 0, 1) := dk_3 (dk_at dksX8_lostIn_1 3 rfl rfl)
theorem dX8_lostIn_27 : decode cX8_lostIn 27 = .ok (.ireturn, 1) := dk_172 (dk_at dksX8_lostIn_1 4 rfl rfl)
theorem dX8_lostIn_28 : decode cX8_lostIn 28 = .ok (.aload_n 0, 1) := dk_42 (dk_at dksX8_lostIn_1 5 rfl rfl)
theorem dX8_lostIn_29 : decode cX8_lostIn 29 = .ok (.getfield 7, 3) := dk_180 0 7 (dk_at dksX8_lostIn_1 6 rfl rfl)
theorem dX8_lostIn_32 : decode cX8_lostIn 32 = .ok (.iconst 0, 1) := dk_3 (dk_at dksX8_lostIn_1 9 rfl rfl)
theorem dX8_lostIn_33 : decode cX8_lostIn 33 = .ok (.aload_n 0, 1) := dk_42 (dk_at dksX8_lostIn_1 10 rfl rfl)
theorem dX8_lostIn_34 : decode cX8_lostIn 34 = .ok (.getfield 19, 3) := dk_180 0 19 (dk_at dksX8_lostIn_1 11 rfl rfl)
theorem dX8_lostIn_37 : decode cX8_lostIn 37 = .ok (.iconst 0, 1) := dk_3 (dk_at dksX8_lostIn_1 14 rfl rfl)
theorem dX8_lostIn_38 : decode cX8_lostIn 38 = .ok (.invokestatic 44, 3) := dk_184 0 44 (dk_at dksX8_lostIn_1 15 rfl rfl)
theorem dX8_lostIn_41 : decode cX8_lostIn 41 = .ok (.aload_n 0, 1) := dk_42 (dk_at dksX8_lostIn_1 18 rfl rfl)
theorem dX8_lostIn_42 : decode cX8_lostIn 42 = .ok (.iload_n 1, 1) := dk_27 (dk_at dksX8_lostIn_1 19 rfl rfl)
theorem dX8_lostIn_43 : decode cX8_lostIn 43 = .ok (.invokevirtual 228, 3) := dk_182 0 228 (dk_at dksX8_lostIn_1 20 rfl rfl)
theorem dX8_lostIn_46 : decode cX8_lostIn 46 = .ok (.istore_n 2, 1) := dk_61 (dk_at dksX8_lostIn_1 23 rfl rfl)
theorem dX8_lostIn_47 : decode cX8_lostIn 47 = .ok (.aload_n 0, 1) := dk_42 (dk_at dksX8_lostIn_2 0 rfl rfl)
theorem dX8_lostIn_48 : decode cX8_lostIn 48 = .ok (.getfield 19, 3) := dk_180 0 19 (dk_at dksX8_lostIn_2 1 rfl rfl)
theorem dX8_lostIn_51 : decode cX8_lostIn 51 = .ok (.iconst 0, 1) := dk_3 (dk_at dksX8_lostIn_2 4 rfl rfl)
theorem dX8_lostIn_52 : decode cX8_lostIn 52 = .ok (.aload_n 0, 1) := dk_42 (dk_at dksX8_lostIn_2 5 rfl rfl)
theorem dX8_lostIn_53 : decode cX8_lostIn 53 = .ok (.getfield 7, 3) := dk_180 0 7 (dk_at dksX8_lostIn_2 6 rfl rfl)
theorem dX8_lostIn_56 : decode cX8_lostIn 56 = .ok (.iconst 0, 1) := dk_3 (dk_at dksX8_lostIn_2 9 rfl rfl)
theorem dX8_lostIn_57 : decode cX8_lostIn 57 = .ok (.invokestatic 44, 3) := dk_184 0 44 (dk_at dksX8_lostIn_2 10 rfl rfl)
theorem dX8_lostIn_60 : decode cX8_lostIn 60 = .ok (.iload_n 2, 1) := dk_28 (dk_at dksX8_lostIn_2 13 rfl rfl)
theorem dX8_lostIn_61 : decode cX8_lostIn 61 = .ok (.ireturn, 1) := dk_172 (dk_at dksX8_lostIn_2 14 rfl rfl)
abbrev cX8_append : ByteArray := prog_26_method_125_code
def yX8_append : MethodName := ⟨RX8, "append", "(I)I"⟩
def dkwX8_append_2 : List UInt8 := [42, 180, 1, 2, 27, 79, 42, 89, 180, 1, 2, 4, 96, 181, 1, 2, 42, 180, 1, 2, 172]
abbrev dktX8_append_2 : List UInt8 := dkwX8_append_2 ++ []
def dkwX8_append_1 : List UInt8 := [160, 0, 7, 5, 167, 0, 4, 3, 181, 0, 37, 42, 180, 0, 37, 158, 0, 5, 3, 172, 42, 180, 0, 28]
abbrev dktX8_append_1 : List UInt8 := dkwX8_append_1 ++ dktX8_append_2
def dkwX8_append_0 : List UInt8 := [42, 27, 16, 32, 16, 126, 184, 0, 48, 154, 0, 7, 4, 167, 0, 17, 42, 180, 1, 2, 16, 60]
abbrev dktX8_append_0 : List UInt8 := dkwX8_append_0 ++ dktX8_append_1
theorem dksX8_append_0 : cX8_append.data.toList.drop 0 = dktX8_append_0 := by decide +kernel
theorem dksX8_append_1 : cX8_append.data.toList.drop 22 = dktX8_append_1 := dk_seg dksX8_append_0 22 rfl rfl
theorem dksX8_append_2 : cX8_append.data.toList.drop 46 = dktX8_append_2 := dk_seg dksX8_append_1 24 rfl rfl
theorem dX8_append_0 : decode cX8_append 0 = .ok (.aload_n 0, 1) := dk_42 (dk_at dksX8_append_0 0 rfl rfl)
theorem dX8_append_1 : decode cX8_append 1 = .ok (.iload_n 1, 1) := dk_27 (dk_at dksX8_append_0 1 rfl rfl)
theorem dX8_append_2 : decode cX8_append 2 = .ok (.bipush 32, 2) := dk_16 32 (dk_at dksX8_append_0 2 rfl rfl)
theorem dX8_append_4 : decode cX8_append 4 = .ok (.bipush 126, 2) := dk_16 126 (dk_at dksX8_append_0 4 rfl rfl)
theorem dX8_append_6 : decode cX8_append 6 = .ok (.invokestatic 48, 3) := dk_184 0 48 (dk_at dksX8_append_0 6 rfl rfl)
theorem dX8_append_9 : decode cX8_append 9 = .ok (.ifCond .ne 7, 3) := dk_154 0 7 (dk_at dksX8_append_0 9 rfl rfl)
theorem dX8_append_12 : decode cX8_append 12 = .ok (.iconst 1, 1) := dk_4 (dk_at dksX8_append_0 12 rfl rfl)
theorem dX8_append_13 : decode cX8_append 13 = .ok (.goto 17, 3) := dk_167 0 17 (dk_at dksX8_append_0 13 rfl rfl)
theorem dX8_append_16 : decode cX8_append 16 = .ok (.aload_n 0, 1) := dk_42 (dk_at dksX8_append_0 16 rfl rfl)
theorem dX8_append_17 : decode cX8_append 17 = .ok (.getfield 258, 3) := dk_180 1 2 (dk_at dksX8_append_0 17 rfl rfl)
theorem dX8_append_20 : decode cX8_append 20 = .ok (.bipush 60, 2) := dk_16 60 (dk_at dksX8_append_0 20 rfl rfl)
theorem dX8_append_22 : decode cX8_append 22 = .ok (.if_icmp .ne 7, 3) := dk_160 0 7 (dk_at dksX8_append_1 0 rfl rfl)
theorem dX8_append_25 : decode cX8_append 25 = .ok (.iconst 2, 1) := dk_5 (dk_at dksX8_append_1 3 rfl rfl)
theorem dX8_append_26 : decode cX8_append 26 = .ok (.goto 4, 3) := dk_167 0 4 (dk_at dksX8_append_1 4 rfl rfl)
theorem dX8_append_29 : decode cX8_append 29 = .ok (.iconst 0, 1) := dk_3 (dk_at dksX8_append_1 7 rfl rfl)
theorem dX8_append_30 : decode cX8_append 30 = .ok (.putfield 37, 3) := dk_181 0 37 (dk_at dksX8_append_1 8 rfl rfl)
theorem dX8_append_33 : decode cX8_append 33 = .ok (.aload_n 0, 1) := dk_42 (dk_at dksX8_append_1 11 rfl rfl)
theorem dX8_append_34 : decode cX8_append 34 = .ok (.getfield 37, 3) := dk_180 0 37 (dk_at dksX8_append_1 12 rfl rfl)
theorem dX8_append_37 : decode cX8_append 37 = .ok (.ifCond .le 5, 3) := dk_158 0 5 (dk_at dksX8_append_1 15 rfl rfl)
theorem dX8_append_40 : decode cX8_append 40 = .ok (.iconst 0, 1) := dk_3 (dk_at dksX8_append_1 18 rfl rfl)
theorem dX8_append_41 : decode cX8_append 41 = .ok (.ireturn, 1) := dk_172 (dk_at dksX8_append_1 19 rfl rfl)
theorem dX8_append_42 : decode cX8_append 42 = .ok (.aload_n 0, 1) := dk_42 (dk_at dksX8_append_1 20 rfl rfl)
theorem dX8_append_43 : decode cX8_append 43 = .ok (.getfield 28, 3) := dk_180 0 28 (dk_at dksX8_append_1 21 rfl rfl)
theorem dX8_append_46 : decode cX8_append 46 = .ok (.aload_n 0, 1) := dk_42 (dk_at dksX8_append_2 0 rfl rfl)
theorem dX8_append_47 : decode cX8_append 47 = .ok (.getfield 258, 3) := dk_180 1 2 (dk_at dksX8_append_2 1 rfl rfl)
theorem dX8_append_50 : decode cX8_append 50 = .ok (.iload_n 1, 1) := dk_27 (dk_at dksX8_append_2 4 rfl rfl)
theorem dX8_append_51 : decode cX8_append 51 = .ok (.iastore, 1) := dk_79 (dk_at dksX8_append_2 5 rfl rfl)
theorem dX8_append_52 : decode cX8_append 52 = .ok (.aload_n 0, 1) := dk_42 (dk_at dksX8_append_2 6 rfl rfl)
theorem dX8_append_53 : decode cX8_append 53 = .ok (.dup, 1) := dk_89 (dk_at dksX8_append_2 7 rfl rfl)
theorem dX8_append_54 : decode cX8_append 54 = .ok (.getfield 258, 3) := dk_180 1 2 (dk_at dksX8_append_2 8 rfl rfl)
theorem dX8_append_57 : decode cX8_append 57 = .ok (.iconst 1, 1) := dk_4 (dk_at dksX8_append_2 11 rfl rfl)
theorem dX8_append_58 : decode cX8_append 58 = .ok (.iadd, 1) := dk_96 (dk_at dksX8_append_2 12 rfl rfl)
theorem dX8_append_59 : decode cX8_append 59 = .ok (.putfield 258, 3) := dk_181 1 2 (dk_at dksX8_append_2 13 rfl rfl)
theorem dX8_append_62 : decode cX8_append 62 = .ok (.aload_n 0, 1) := dk_42 (dk_at dksX8_append_2 16 rfl rfl)
theorem dX8_append_63 : decode cX8_append 63 = .ok (.getfield 258, 3) := dk_180 1 2 (dk_at dksX8_append_2 17 rfl rfl)
theorem dX8_append_66 : decode cX8_append 66 = .ok (.ireturn, 1) := dk_172 (dk_at dksX8_append_2 20 rfl rfl)
abbrev cX8_clearText : ByteArray := prog_26_method_126_code
def yX8_clearText : MethodName := ⟨RX8, "clearText", "()I"⟩
def dkwX8_clearText_0 : List UInt8 := [42, 3, 181, 0, 37, 42, 180, 1, 2, 60, 42, 3, 181, 1, 2, 27, 172]
abbrev dktX8_clearText_0 : List UInt8 := dkwX8_clearText_0 ++ []
theorem dksX8_clearText_0 : cX8_clearText.data.toList.drop 0 = dktX8_clearText_0 := by decide +kernel
theorem dX8_clearText_0 : decode cX8_clearText 0 = .ok (.aload_n 0, 1) := dk_42 (dk_at dksX8_clearText_0 0 rfl rfl)
theorem dX8_clearText_1 : decode cX8_clearText 1 = .ok (.iconst 0, 1) := dk_3 (dk_at dksX8_clearText_0 1 rfl rfl)
theorem dX8_clearText_2 : decode cX8_clearText 2 = .ok (.putfield 37, 3) := dk_181 0 37 (dk_at dksX8_clearText_0 2 rfl rfl)
theorem dX8_clearText_5 : decode cX8_clearText 5 = .ok (.aload_n 0, 1) := dk_42 (dk_at dksX8_clearText_0 5 rfl rfl)
theorem dX8_clearText_6 : decode cX8_clearText 6 = .ok (.getfield 258, 3) := dk_180 1 2 (dk_at dksX8_clearText_0 6 rfl rfl)
theorem dX8_clearText_9 : decode cX8_clearText 9 = .ok (.istore_n 1, 1) := dk_60 (dk_at dksX8_clearText_0 9 rfl rfl)
theorem dX8_clearText_10 : decode cX8_clearText 10 = .ok (.aload_n 0, 1) := dk_42 (dk_at dksX8_clearText_0 10 rfl rfl)
theorem dX8_clearText_11 : decode cX8_clearText 11 = .ok (.iconst 0, 1) := dk_3 (dk_at dksX8_clearText_0 11 rfl rfl)
theorem dX8_clearText_12 : decode cX8_clearText 12 = .ok (.putfield 258, 3) := dk_181 1 2 (dk_at dksX8_clearText_0 12 rfl rfl)
theorem dX8_clearText_15 : decode cX8_clearText 15 = .ok (.iload_n 1, 1) := dk_27 (dk_at dksX8_clearText_0 15 rfl rfl)
theorem dX8_clearText_16 : decode cX8_clearText 16 = .ok (.ireturn, 1) := dk_172 (dk_at dksX8_clearText_0 16 rfl rfl)
abbrev cX8_errorPosition : ByteArray := prog_26_method_141_code
def yX8_errorPosition : MethodName := ⟨RX8, "errorPosition", "()I"⟩
def dkwX8_errorPosition_0 : List UInt8 := [42, 3, 181, 0, 37, 42, 182, 1, 52, 153, 0, 10, 42, 180, 1, 2, 167, 0, 7, 42, 180, 1, 5, 172]
abbrev dktX8_errorPosition_0 : List UInt8 := dkwX8_errorPosition_0 ++ []
theorem dksX8_errorPosition_0 : cX8_errorPosition.data.toList.drop 0 = dktX8_errorPosition_0 := by decide +kernel
theorem dX8_errorPosition_0 : decode cX8_errorPosition 0 = .ok (.aload_n 0, 1) := dk_42 (dk_at dksX8_errorPosition_0 0 rfl rfl)
theorem dX8_errorPosition_1 : decode cX8_errorPosition 1 = .ok (.iconst 0, 1) := dk_3 (dk_at dksX8_errorPosition_0 1 rfl rfl)
theorem dX8_errorPosition_2 : decode cX8_errorPosition 2 = .ok (.putfield 37, 3) := dk_181 0 37 (dk_at dksX8_errorPosition_0 2 rfl rfl)
theorem dX8_errorPosition_5 : decode cX8_errorPosition 5 = .ok (.aload_n 0, 1) := dk_42 (dk_at dksX8_errorPosition_0 5 rfl rfl)
theorem dX8_errorPosition_6 : decode cX8_errorPosition 6 = .ok (.invokevirtual 308, 3) := dk_182 1 52 (dk_at dksX8_errorPosition_0 6 rfl rfl)
theorem dX8_errorPosition_9 : decode cX8_errorPosition 9 = .ok (.ifCond .eq 10, 3) := dk_153 0 10 (dk_at dksX8_errorPosition_0 9 rfl rfl)
theorem dX8_errorPosition_12 : decode cX8_errorPosition 12 = .ok (.aload_n 0, 1) := dk_42 (dk_at dksX8_errorPosition_0 12 rfl rfl)
theorem dX8_errorPosition_13 : decode cX8_errorPosition 13 = .ok (.getfield 258, 3) := dk_180 1 2 (dk_at dksX8_errorPosition_0 13 rfl rfl)
theorem dX8_errorPosition_16 : decode cX8_errorPosition 16 = .ok (.goto 7, 3) := dk_167 0 7 (dk_at dksX8_errorPosition_0 16 rfl rfl)
theorem dX8_errorPosition_19 : decode cX8_errorPosition 19 = .ok (.aload_n 0, 1) := dk_42 (dk_at dksX8_errorPosition_0 19 rfl rfl)
theorem dX8_errorPosition_20 : decode cX8_errorPosition 20 = .ok (.getfield 261, 3) := dk_180 1 5 (dk_at dksX8_errorPosition_0 20 rfl rfl)
theorem dX8_errorPosition_23 : decode cX8_errorPosition 23 = .ok (.ireturn, 1) := dk_172 (dk_at dksX8_errorPosition_0 23 rfl rfl)
abbrev cX8_isWhole : ByteArray := prog_26_method_140_code
def yX8_isWhole : MethodName := ⟨RX8, "isWhole", "()Z"⟩
def dkwX8_isWhole_2 : List UInt8 := [180, 1, 5, 42, 180, 1, 2, 160, 0, 7, 4, 167, 0, 4, 3, 172]
abbrev dktX8_isWhole_2 : List UInt8 := dkwX8_isWhole_2 ++ []
def dkwX8_isWhole_1 : List UInt8 := [172, 42, 89, 180, 1, 11, 4, 96, 181, 1, 11, 42, 16, 59, 182, 1, 27, 60, 167, 255, 226, 42]
abbrev dktX8_isWhole_1 : List UInt8 := dkwX8_isWhole_1 ++ dktX8_isWhole_2
def dkwX8_isWhole_0 : List UInt8 := [42, 3, 181, 1, 5, 42, 3, 181, 1, 11, 4, 60, 27, 153, 0, 32, 42, 182, 1, 49, 154, 0, 5, 3]
abbrev dktX8_isWhole_0 : List UInt8 := dkwX8_isWhole_0 ++ dktX8_isWhole_1
theorem dksX8_isWhole_0 : cX8_isWhole.data.toList.drop 0 = dktX8_isWhole_0 := by decide +kernel
theorem dksX8_isWhole_1 : cX8_isWhole.data.toList.drop 24 = dktX8_isWhole_1 := dk_seg dksX8_isWhole_0 24 rfl rfl
theorem dksX8_isWhole_2 : cX8_isWhole.data.toList.drop 46 = dktX8_isWhole_2 := dk_seg dksX8_isWhole_1 22 rfl rfl
theorem dX8_isWhole_0 : decode cX8_isWhole 0 = .ok (.aload_n 0, 1) := dk_42 (dk_at dksX8_isWhole_0 0 rfl rfl)
theorem dX8_isWhole_1 : decode cX8_isWhole 1 = .ok (.iconst 0, 1) := dk_3 (dk_at dksX8_isWhole_0 1 rfl rfl)
theorem dX8_isWhole_2 : decode cX8_isWhole 2 = .ok (.putfield 261, 3) := dk_181 1 5 (dk_at dksX8_isWhole_0 2 rfl rfl)
theorem dX8_isWhole_5 : decode cX8_isWhole 5 = .ok (.aload_n 0, 1) := dk_42 (dk_at dksX8_isWhole_0 5 rfl rfl)
theorem dX8_isWhole_6 : decode cX8_isWhole 6 = .ok (.iconst 0, 1) := dk_3 (dk_at dksX8_isWhole_0 6 rfl rfl)
theorem dX8_isWhole_7 : decode cX8_isWhole 7 = .ok (.putfield 267, 3) := dk_181 1 11 (dk_at dksX8_isWhole_0 7 rfl rfl)
theorem dX8_isWhole_10 : decode cX8_isWhole 10 = .ok (.iconst 1, 1) := dk_4 (dk_at dksX8_isWhole_0 10 rfl rfl)
theorem dX8_isWhole_11 : decode cX8_isWhole 11 = .ok (.istore_n 1, 1) := dk_60 (dk_at dksX8_isWhole_0 11 rfl rfl)
theorem dX8_isWhole_12 : decode cX8_isWhole 12 = .ok (.iload_n 1, 1) := dk_27 (dk_at dksX8_isWhole_0 12 rfl rfl)
theorem dX8_isWhole_13 : decode cX8_isWhole 13 = .ok (.ifCond .eq 32, 3) := dk_153 0 32 (dk_at dksX8_isWhole_0 13 rfl rfl)
theorem dX8_isWhole_16 : decode cX8_isWhole 16 = .ok (.aload_n 0, 1) := dk_42 (dk_at dksX8_isWhole_0 16 rfl rfl)
theorem dX8_isWhole_17 : decode cX8_isWhole 17 = .ok (.invokevirtual 305, 3) := dk_182 1 49 (dk_at dksX8_isWhole_0 17 rfl rfl)
theorem dX8_isWhole_20 : decode cX8_isWhole 20 = .ok (.ifCond .ne 5, 3) := dk_154 0 5 (dk_at dksX8_isWhole_0 20 rfl rfl)
theorem dX8_isWhole_23 : decode cX8_isWhole 23 = .ok (.iconst 0, 1) := dk_3 (dk_at dksX8_isWhole_0 23 rfl rfl)
theorem dX8_isWhole_24 : decode cX8_isWhole 24 = .ok (.ireturn, 1) := dk_172 (dk_at dksX8_isWhole_1 0 rfl rfl)
theorem dX8_isWhole_25 : decode cX8_isWhole 25 = .ok (.aload_n 0, 1) := dk_42 (dk_at dksX8_isWhole_1 1 rfl rfl)
theorem dX8_isWhole_26 : decode cX8_isWhole 26 = .ok (.dup, 1) := dk_89 (dk_at dksX8_isWhole_1 2 rfl rfl)
theorem dX8_isWhole_27 : decode cX8_isWhole 27 = .ok (.getfield 267, 3) := dk_180 1 11 (dk_at dksX8_isWhole_1 3 rfl rfl)
theorem dX8_isWhole_30 : decode cX8_isWhole 30 = .ok (.iconst 1, 1) := dk_4 (dk_at dksX8_isWhole_1 6 rfl rfl)
theorem dX8_isWhole_31 : decode cX8_isWhole 31 = .ok (.iadd, 1) := dk_96 (dk_at dksX8_isWhole_1 7 rfl rfl)
theorem dX8_isWhole_32 : decode cX8_isWhole 32 = .ok (.putfield 267, 3) := dk_181 1 11 (dk_at dksX8_isWhole_1 8 rfl rfl)
theorem dX8_isWhole_35 : decode cX8_isWhole 35 = .ok (.aload_n 0, 1) := dk_42 (dk_at dksX8_isWhole_1 11 rfl rfl)
theorem dX8_isWhole_36 : decode cX8_isWhole 36 = .ok (.bipush 59, 2) := dk_16 59 (dk_at dksX8_isWhole_1 12 rfl rfl)
theorem dX8_isWhole_38 : decode cX8_isWhole 38 = .ok (.invokevirtual 283, 3) := dk_182 1 27 (dk_at dksX8_isWhole_1 14 rfl rfl)
theorem dX8_isWhole_41 : decode cX8_isWhole 41 = .ok (.istore_n 1, 1) := dk_60 (dk_at dksX8_isWhole_1 17 rfl rfl)
theorem dX8_isWhole_42 : decode cX8_isWhole 42 = .ok (.goto (-30), 3) := dk_167 255 226 (dk_at dksX8_isWhole_1 18 rfl rfl)
theorem dX8_isWhole_45 : decode cX8_isWhole 45 = .ok (.aload_n 0, 1) := dk_42 (dk_at dksX8_isWhole_1 21 rfl rfl)
theorem dX8_isWhole_46 : decode cX8_isWhole 46 = .ok (.getfield 261, 3) := dk_180 1 5 (dk_at dksX8_isWhole_2 0 rfl rfl)
theorem dX8_isWhole_49 : decode cX8_isWhole 49 = .ok (.aload_n 0, 1) := dk_42 (dk_at dksX8_isWhole_2 3 rfl rfl)
theorem dX8_isWhole_50 : decode cX8_isWhole 50 = .ok (.getfield 258, 3) := dk_180 1 2 (dk_at dksX8_isWhole_2 4 rfl rfl)
theorem dX8_isWhole_53 : decode cX8_isWhole 53 = .ok (.if_icmp .ne 7, 3) := dk_160 0 7 (dk_at dksX8_isWhole_2 7 rfl rfl)
theorem dX8_isWhole_56 : decode cX8_isWhole 56 = .ok (.iconst 1, 1) := dk_4 (dk_at dksX8_isWhole_2 10 rfl rfl)
theorem dX8_isWhole_57 : decode cX8_isWhole 57 = .ok (.goto 4, 3) := dk_167 0 4 (dk_at dksX8_isWhole_2 11 rfl rfl)
theorem dX8_isWhole_60 : decode cX8_isWhole 60 = .ok (.iconst 0, 1) := dk_3 (dk_at dksX8_isWhole_2 14 rfl rfl)
theorem dX8_isWhole_61 : decode cX8_isWhole 61 = .ok (.ireturn, 1) := dk_172 (dk_at dksX8_isWhole_2 15 rfl rfl)
abbrev cX8_isPart : ByteArray := prog_26_method_139_code
def yX8_isPart : MethodName := ⟨RX8, "isPart", "()Z"⟩
def dkwX8_isPart_11 : List UInt8 := [180, 1, 5, 4, 100, 181, 1, 5, 3, 172]
abbrev dktX8_isPart_11 : List UInt8 := dkwX8_isPart_11 ++ []
def dkwX8_isPart_10 : List UInt8 := [182, 1, 46, 153, 0, 7, 4, 167, 0, 4, 3, 172, 42, 4, 4, 16, 20, 182, 1, 46, 172, 42, 89]
abbrev dktX8_isPart_10 : List UInt8 := dkwX8_isPart_10 ++ dktX8_isPart_11
def dkwX8_isPart_9 : List UInt8 := [5, 7, 182, 1, 40, 153, 0, 28, 42, 16, 42, 182, 1, 27, 153, 0, 19, 42, 6, 4, 17, 1, 224]
abbrev dktX8_isPart_9 : List UInt8 := dkwX8_isPart_9 ++ dktX8_isPart_10
def dkwX8_isPart_8 : List UInt8 := [16, 24, 182, 1, 46, 153, 0, 7, 4, 167, 0, 4, 3, 172, 42, 4, 5, 182, 1, 40, 153, 0, 37, 42]
abbrev dktX8_isPart_8 : List UInt8 := dkwX8_isPart_8 ++ dktX8_isPart_9
def dkwX8_isPart_7 : List UInt8 := [3, 172, 42, 4, 5, 182, 1, 40, 153, 0, 27, 42, 16, 58, 182, 1, 27, 153, 0, 18, 42, 5, 4]
abbrev dktX8_isPart_7 : List UInt8 := dkwX8_isPart_7 ++ dktX8_isPart_8
def dkwX8_isPart_6 : List UInt8 := [16, 42, 182, 1, 27, 153, 0, 19, 42, 5, 4, 17, 0, 200, 182, 1, 46, 153, 0, 7, 4, 167, 0, 4]
abbrev dktX8_isPart_6 : List UInt8 := dkwX8_isPart_6 ++ dktX8_isPart_7
def dkwX8_isPart_5 : List UInt8 := [16, 99, 182, 1, 46, 153, 0, 7, 4, 167, 0, 4, 3, 172, 42, 4, 5, 182, 1, 40, 153, 0, 28, 42]
abbrev dktX8_isPart_5 : List UInt8 := dkwX8_isPart_5 ++ dktX8_isPart_6
def dkwX8_isPart_4 : List UInt8 := [16, 10, 17, 1, 44, 182, 1, 46, 153, 0, 27, 42, 16, 47, 182, 1, 27, 153, 0, 18, 42, 7, 3]
abbrev dktX8_isPart_4 : List UInt8 := dkwX8_isPart_4 ++ dktX8_isPart_5
def dkwX8_isPart_3 : List UInt8 := [42, 182, 1, 36, 172, 42, 4, 6, 182, 1, 40, 153, 0, 48, 42, 5, 182, 1, 43, 153, 0, 40, 42, 6]
abbrev dktX8_isPart_3 : List UInt8 := dkwX8_isPart_3 ++ dktX8_isPart_4
def dkwX8_isPart_2 : List UInt8 := [171, 0, 0, 0, 0, 0, 0, 246, 0, 0, 0, 6, 0, 0, 0, 61, 0, 0, 0, 60, 0, 0, 0, 98, 0, 0, 0, 121, 0, 0, 0, 100, 0, 0, 0, 65, 0, 0, 0, 109, 0, 0, 0, 192, 0, 0, 0, 110, 0, 0, 0, 237, 0, 0, 0, 115, 0, 0, 0, 157]
abbrev dktX8_isPart_2 : List UInt8 := dkwX8_isPart_2 ++ dktX8_isPart_3
def dkwX8_isPart_1 : List UInt8 := [3, 27, 182, 1, 14, 42, 89, 180, 1, 5, 4, 96, 181, 1, 5, 27]
abbrev dktX8_isPart_1 : List UInt8 := dkwX8_isPart_1 ++ dktX8_isPart_2
def dkwX8_isPart_0 : List UInt8 := [42, 180, 1, 5, 42, 180, 1, 2, 160, 0, 5, 3, 172, 42, 180, 0, 28, 42, 180, 1, 5, 46, 60, 42]
abbrev dktX8_isPart_0 : List UInt8 := dkwX8_isPart_0 ++ dktX8_isPart_1
theorem dksX8_isPart_0 : cX8_isPart.data.toList.drop 0 = dktX8_isPart_0 := by decide +kernel
theorem dksX8_isPart_1 : cX8_isPart.data.toList.drop 24 = dktX8_isPart_1 := dk_seg dksX8_isPart_0 24 rfl rfl
theorem dksX8_isPart_2 : cX8_isPart.data.toList.drop 40 = dktX8_isPart_2 := dk_seg dksX8_isPart_1 16 rfl rfl
theorem dksX8_isPart_3 : cX8_isPart.data.toList.drop 100 = dktX8_isPart_3 := dk_seg dksX8_isPart_2 60 rfl rfl
theorem dksX8_isPart_4 : cX8_isPart.data.toList.drop 124 = dktX8_isPart_4 := dk_seg dksX8_isPart_3 24 rfl rfl
theorem dksX8_isPart_5 : cX8_isPart.data.toList.drop 147 = dktX8_isPart_5 := dk_seg dksX8_isPart_4 23 rfl rfl
theorem dksX8_isPart_6 : cX8_isPart.data.toList.drop 171 = dktX8_isPart_6 := dk_seg dksX8_isPart_5 24 rfl rfl
theorem dksX8_isPart_7 : cX8_isPart.data.toList.drop 195 = dktX8_isPart_7 := dk_seg dksX8_isPart_6 24 rfl rfl
theorem dksX8_isPart_8 : cX8_isPart.data.toList.drop 218 = dktX8_isPart_8 := dk_seg dksX8_isPart_7 23 rfl rfl
theorem dksX8_isPart_9 : cX8_isPart.data.toList.drop 242 = dktX8_isPart_9 := dk_seg dksX8_isPart_8 24 rfl rfl
theorem dksX8_isPart_10 : cX8_isPart.data.toList.drop 265 = dktX8_isPart_10 := dk_seg dksX8_isPart_9 23 rfl rfl
theorem dksX8_isPart_11 : cX8_isPart.data.toList.drop 288 = dktX8_isPart_11 := dk_seg dksX8_isPart_10 23 rfl rfl
theorem dX8_isPart_0 : decode cX8_isPart 0 = .ok (.aload_n 0, 1) := dk_42 (dk_at dksX8_isPart_0 0 rfl rfl)
theorem dX8_isPart_1 : decode cX8_isPart 1 = .ok (.getfield 261, 3) := dk_180 1 5 (dk_at dksX8_isPart_0 1 rfl rfl)
theorem dX8_isPart_4 : decode cX8_isPart 4 = .ok (.aload_n 0, 1) := dk_42 (dk_at dksX8_isPart_0 4 rfl rfl)
theorem dX8_isPart_5 : decode cX8_isPart 5 = .ok (.getfield 258, 3) := dk_180 1 2 (dk_at dksX8_isPart_0 5 rfl rfl)
theorem dX8_isPart_8 : decode cX8_isPart 8 = .ok (.if_icmp .ne 5, 3) := dk_160 0 5 (dk_at dksX8_isPart_0 8 rfl rfl)
theorem dX8_isPart_11 : decode cX8_isPart 11 = .ok (.iconst 0, 1) := dk_3 (dk_at dksX8_isPart_0 11 rfl rfl)
theorem dX8_isPart_12 : decode cX8_isPart 12 = .ok (.ireturn, 1) := dk_172 (dk_at dksX8_isPart_0 12 rfl rfl)
theorem dX8_isPart_13 : decode cX8_isPart 13 = .ok (.aload_n 0, 1) := dk_42 (dk_at dksX8_isPart_0 13 rfl rfl)
theorem dX8_isPart_14 : decode cX8_isPart 14 = .ok (.getfield 28, 3) := dk_180 0 28 (dk_at dksX8_isPart_0 14 rfl rfl)
theorem dX8_isPart_17 : decode cX8_isPart 17 = .ok (.aload_n 0, 1) := dk_42 (dk_at dksX8_isPart_0 17 rfl rfl)
theorem dX8_isPart_18 : decode cX8_isPart 18 = .ok (.getfield 261, 3) := dk_180 1 5 (dk_at dksX8_isPart_0 18 rfl rfl)
theorem dX8_isPart_21 : decode cX8_isPart 21 = .ok (.iaload, 1) := dk_46 (dk_at dksX8_isPart_0 21 rfl rfl)
theorem dX8_isPart_22 : decode cX8_isPart 22 = .ok (.istore_n 1, 1) := dk_60 (dk_at dksX8_isPart_0 22 rfl rfl)
theorem dX8_isPart_23 : decode cX8_isPart 23 = .ok (.aload_n 0, 1) := dk_42 (dk_at dksX8_isPart_0 23 rfl rfl)
theorem dX8_isPart_24 : decode cX8_isPart 24 = .ok (.iconst 0, 1) := dk_3 (dk_at dksX8_isPart_1 0 rfl rfl)
theorem dX8_isPart_25 : decode cX8_isPart 25 = .ok (.iload_n 1, 1) := dk_27 (dk_at dksX8_isPart_1 1 rfl rfl)
theorem dX8_isPart_26 : decode cX8_isPart 26 = .ok (.invokevirtual 270, 3) := dk_182 1 14 (dk_at dksX8_isPart_1 2 rfl rfl)
theorem dX8_isPart_29 : decode cX8_isPart 29 = .ok (.aload_n 0, 1) := dk_42 (dk_at dksX8_isPart_1 5 rfl rfl)
theorem dX8_isPart_30 : decode cX8_isPart 30 = .ok (.dup, 1) := dk_89 (dk_at dksX8_isPart_1 6 rfl rfl)
theorem dX8_isPart_31 : decode cX8_isPart 31 = .ok (.getfield 261, 3) := dk_180 1 5 (dk_at dksX8_isPart_1 7 rfl rfl)
theorem dX8_isPart_34 : decode cX8_isPart 34 = .ok (.iconst 1, 1) := dk_4 (dk_at dksX8_isPart_1 10 rfl rfl)
theorem dX8_isPart_35 : decode cX8_isPart 35 = .ok (.iadd, 1) := dk_96 (dk_at dksX8_isPart_1 11 rfl rfl)
theorem dX8_isPart_36 : decode cX8_isPart 36 = .ok (.putfield 261, 3) := dk_181 1 5 (dk_at dksX8_isPart_1 12 rfl rfl)
theorem dX8_isPart_39 : decode cX8_isPart 39 = .ok (.iload_n 1, 1) := dk_27 (dk_at dksX8_isPart_1 15 rfl rfl)
theorem dX8_isPart_40 : decode cX8_isPart 40 = .ok (.lookupswitch 246 #[(61, 60), (98, 121), (100, 65), (109, 192), (110, 237), (115, 157)], 60) := by decide +kernel
theorem dX8_isPart_100 : decode cX8_isPart 100 = .ok (.aload_n 0, 1) := dk_42 (dk_at dksX8_isPart_3 0 rfl rfl)
theorem dX8_isPart_101 : decode cX8_isPart 101 = .ok (.invokevirtual 292, 3) := dk_182 1 36 (dk_at dksX8_isPart_3 1 rfl rfl)
theorem dX8_isPart_104 : decode cX8_isPart 104 = .ok (.ireturn, 1) := dk_172 (dk_at dksX8_isPart_3 4 rfl rfl)
theorem dX8_isPart_105 : decode cX8_isPart 105 = .ok (.aload_n 0, 1) := dk_42 (dk_at dksX8_isPart_3 5 rfl rfl)
theorem dX8_isPart_106 : decode cX8_isPart 106 = .ok (.iconst 1, 1) := dk_4 (dk_at dksX8_isPart_3 6 rfl rfl)
theorem dX8_isPart_107 : decode cX8_isPart 107 = .ok (.iconst 3, 1) := dk_6 (dk_at dksX8_isPart_3 7 rfl rfl)
theorem dX8_isPart_108 : decode cX8_isPart 108 = .ok (.invokevirtual 296, 3) := dk_182 1 40 (dk_at dksX8_isPart_3 8 rfl rfl)
theorem dX8_isPart_111 : decode cX8_isPart 111 = .ok (.ifCond .eq 48, 3) := dk_153 0 48 (dk_at dksX8_isPart_3 11 rfl rfl)
theorem dX8_isPart_114 : decode cX8_isPart 114 = .ok (.aload_n 0, 1) := dk_42 (dk_at dksX8_isPart_3 14 rfl rfl)
theorem dX8_isPart_115 : decode cX8_isPart 115 = .ok (.iconst 2, 1) := dk_5 (dk_at dksX8_isPart_3 15 rfl rfl)
theorem dX8_isPart_116 : decode cX8_isPart 116 = .ok (.invokevirtual 299, 3) := dk_182 1 43 (dk_at dksX8_isPart_3 16 rfl rfl)
theorem dX8_isPart_119 : decode cX8_isPart 119 = .ok (.ifCond .eq 40, 3) := dk_153 0 40 (dk_at dksX8_isPart_3 19 rfl rfl)
theorem dX8_isPart_122 : decode cX8_isPart 122 = .ok (.aload_n 0, 1) := dk_42 (dk_at dksX8_isPart_3 22 rfl rfl)
theorem dX8_isPart_123 : decode cX8_isPart 123 = .ok (.iconst 3, 1) := dk_6 (dk_at dksX8_isPart_3 23 rfl rfl)
theorem dX8_isPart_124 : decode cX8_isPart 124 = .ok (.bipush 10, 2) := dk_16 10 (dk_at dksX8_isPart_4 0 rfl rfl)
theorem dX8_isPart_126 : decode cX8_isPart 126 = .ok (.sipush 300, 3) := dk_17 1 44 (dk_at dksX8_isPart_4 2 rfl rfl)
theorem dX8_isPart_129 : decode cX8_isPart 129 = .ok (.invokevirtual 302, 3) := dk_182 1 46 (dk_at dksX8_isPart_4 5 rfl rfl)
theorem dX8_isPart_132 : decode cX8_isPart 132 = .ok (.ifCond .eq 27, 3) := dk_153 0 27 (dk_at dksX8_isPart_4 8 rfl rfl)
theorem dX8_isPart_135 : decode cX8_isPart 135 = .ok (.aload_n 0, 1) := dk_42 (dk_at dksX8_isPart_4 11 rfl rfl)
theorem dX8_isPart_136 : decode cX8_isPart 136 = .ok (.bipush 47, 2) := dk_16 47 (dk_at dksX8_isPart_4 12 rfl rfl)
theorem dX8_isPart_138 : decode cX8_isPart 138 = .ok (.invokevirtual 283, 3) := dk_182 1 27 (dk_at dksX8_isPart_4 14 rfl rfl)
theorem dX8_isPart_141 : decode cX8_isPart 141 = .ok (.ifCond .eq 18, 3) := dk_153 0 18 (dk_at dksX8_isPart_4 17 rfl rfl)
theorem dX8_isPart_144 : decode cX8_isPart 144 = .ok (.aload_n 0, 1) := dk_42 (dk_at dksX8_isPart_4 20 rfl rfl)
theorem dX8_isPart_145 : decode cX8_isPart 145 = .ok (.iconst 4, 1) := dk_7 (dk_at dksX8_isPart_4 21 rfl rfl)
theorem dX8_isPart_146 : decode cX8_isPart 146 = .ok (.iconst 0, 1) := dk_3 (dk_at dksX8_isPart_4 22 rfl rfl)
theorem dX8_isPart_147 : decode cX8_isPart 147 = .ok (.bipush 99, 2) := dk_16 99 (dk_at dksX8_isPart_5 0 rfl rfl)
theorem dX8_isPart_149 : decode cX8_isPart 149 = .ok (.invokevirtual 302, 3) := dk_182 1 46 (dk_at dksX8_isPart_5 2 rfl rfl)
theorem dX8_isPart_152 : decode cX8_isPart 152 = .ok (.ifCond .eq 7, 3) := dk_153 0 7 (dk_at dksX8_isPart_5 5 rfl rfl)
theorem dX8_isPart_155 : decode cX8_isPart 155 = .ok (.iconst 1, 1) := dk_4 (dk_at dksX8_isPart_5 8 rfl rfl)
theorem dX8_isPart_156 : decode cX8_isPart 156 = .ok (.goto 4, 3) := dk_167 0 4 (dk_at dksX8_isPart_5 9 rfl rfl)
theorem dX8_isPart_159 : decode cX8_isPart 159 = .ok (.iconst 0, 1) := dk_3 (dk_at dksX8_isPart_5 12 rfl rfl)
theorem dX8_isPart_160 : decode cX8_isPart 160 = .ok (.ireturn, 1) := dk_172 (dk_at dksX8_isPart_5 13 rfl rfl)
theorem dX8_isPart_161 : decode cX8_isPart 161 = .ok (.aload_n 0, 1) := dk_42 (dk_at dksX8_isPart_5 14 rfl rfl)
theorem dX8_isPart_162 : decode cX8_isPart 162 = .ok (.iconst 1, 1) := dk_4 (dk_at dksX8_isPart_5 15 rfl rfl)
theorem dX8_isPart_163 : decode cX8_isPart 163 = .ok (.iconst 2, 1) := dk_5 (dk_at dksX8_isPart_5 16 rfl rfl)
theorem dX8_isPart_164 : decode cX8_isPart 164 = .ok (.invokevirtual 296, 3) := dk_182 1 40 (dk_at dksX8_isPart_5 17 rfl rfl)
theorem dX8_isPart_167 : decode cX8_isPart 167 = .ok (.ifCond .eq 28, 3) := dk_153 0 28 (dk_at dksX8_isPart_5 20 rfl rfl)
theorem dX8_isPart_170 : decode cX8_isPart 170 = .ok (.aload_n 0, 1) := dk_42 (dk_at dksX8_isPart_5 23 rfl rfl)
theorem dX8_isPart_171 : decode cX8_isPart 171 = .ok (.bipush 42, 2) := dk_16 42 (dk_at dksX8_isPart_6 0 rfl rfl)
theorem dX8_isPart_173 : decode cX8_isPart 173 = .ok (.invokevirtual 283, 3) := dk_182 1 27 (dk_at dksX8_isPart_6 2 rfl rfl)
theorem dX8_isPart_176 : decode cX8_isPart 176 = .ok (.ifCond .eq 19, 3) := dk_153 0 19 (dk_at dksX8_isPart_6 5 rfl rfl)
theorem dX8_isPart_179 : decode cX8_isPart 179 = .ok (.aload_n 0, 1) := dk_42 (dk_at dksX8_isPart_6 8 rfl rfl)
theorem dX8_isPart_180 : decode cX8_isPart 180 = .ok (.iconst 2, 1) := dk_5 (dk_at dksX8_isPart_6 9 rfl rfl)
theorem dX8_isPart_181 : decode cX8_isPart 181 = .ok (.iconst 1, 1) := dk_4 (dk_at dksX8_isPart_6 10 rfl rfl)
theorem dX8_isPart_182 : decode cX8_isPart 182 = .ok (.sipush 200, 3) := dk_17 0 200 (dk_at dksX8_isPart_6 11 rfl rfl)
theorem dX8_isPart_185 : decode cX8_isPart 185 = .ok (.invokevirtual 302, 3) := dk_182 1 46 (dk_at dksX8_isPart_6 14 rfl rfl)
theorem dX8_isPart_188 : decode cX8_isPart 188 = .ok (.ifCond .eq 7, 3) := dk_153 0 7 (dk_at dksX8_isPart_6 17 rfl rfl)
theorem dX8_isPart_191 : decode cX8_isPart 191 = .ok (.iconst 1, 1) := dk_4 (dk_at dksX8_isPart_6 20 rfl rfl)
theorem dX8_isPart_192 : decode cX8_isPart 192 = .ok (.goto 4, 3) := dk_167 0 4 (dk_at dksX8_isPart_6 21 rfl rfl)
theorem dX8_isPart_195 : decode cX8_isPart 195 = .ok (.iconst 0, 1) := dk_3 (dk_at dksX8_isPart_7 0 rfl rfl)
theorem dX8_isPart_196 : decode cX8_isPart 196 = .ok (.ireturn, 1) := dk_172 (dk_at dksX8_isPart_7 1 rfl rfl)
theorem dX8_isPart_197 : decode cX8_isPart 197 = .ok (.aload_n 0, 1) := dk_42 (dk_at dksX8_isPart_7 2 rfl rfl)
theorem dX8_isPart_198 : decode cX8_isPart 198 = .ok (.iconst 1, 1) := dk_4 (dk_at dksX8_isPart_7 3 rfl rfl)
theorem dX8_isPart_199 : decode cX8_isPart 199 = .ok (.iconst 2, 1) := dk_5 (dk_at dksX8_isPart_7 4 rfl rfl)
theorem dX8_isPart_200 : decode cX8_isPart 200 = .ok (.invokevirtual 296, 3) := dk_182 1 40 (dk_at dksX8_isPart_7 5 rfl rfl)
theorem dX8_isPart_203 : decode cX8_isPart 203 = .ok (.ifCond .eq 27, 3) := dk_153 0 27 (dk_at dksX8_isPart_7 8 rfl rfl)
theorem dX8_isPart_206 : decode cX8_isPart 206 = .ok (.aload_n 0, 1) := dk_42 (dk_at dksX8_isPart_7 11 rfl rfl)
theorem dX8_isPart_207 : decode cX8_isPart 207 = .ok (.bipush 58, 2) := dk_16 58 (dk_at dksX8_isPart_7 12 rfl rfl)
theorem dX8_isPart_209 : decode cX8_isPart 209 = .ok (.invokevirtual 283, 3) := dk_182 1 27 (dk_at dksX8_isPart_7 14 rfl rfl)
theorem dX8_isPart_212 : decode cX8_isPart 212 = .ok (.ifCond .eq 18, 3) := dk_153 0 18 (dk_at dksX8_isPart_7 17 rfl rfl)
theorem dX8_isPart_215 : decode cX8_isPart 215 = .ok (.aload_n 0, 1) := dk_42 (dk_at dksX8_isPart_7 20 rfl rfl)
theorem dX8_isPart_216 : decode cX8_isPart 216 = .ok (.iconst 2, 1) := dk_5 (dk_at dksX8_isPart_7 21 rfl rfl)
theorem dX8_isPart_217 : decode cX8_isPart 217 = .ok (.iconst 1, 1) := dk_4 (dk_at dksX8_isPart_7 22 rfl rfl)
theorem dX8_isPart_218 : decode cX8_isPart 218 = .ok (.bipush 24, 2) := dk_16 24 (dk_at dksX8_isPart_8 0 rfl rfl)
theorem dX8_isPart_220 : decode cX8_isPart 220 = .ok (.invokevirtual 302, 3) := dk_182 1 46 (dk_at dksX8_isPart_8 2 rfl rfl)
theorem dX8_isPart_223 : decode cX8_isPart 223 = .ok (.ifCond .eq 7, 3) := dk_153 0 7 (dk_at dksX8_isPart_8 5 rfl rfl)
theorem dX8_isPart_226 : decode cX8_isPart 226 = .ok (.iconst 1, 1) := dk_4 (dk_at dksX8_isPart_8 8 rfl rfl)
theorem dX8_isPart_227 : decode cX8_isPart 227 = .ok (.goto 4, 3) := dk_167 0 4 (dk_at dksX8_isPart_8 9 rfl rfl)
theorem dX8_isPart_230 : decode cX8_isPart 230 = .ok (.iconst 0, 1) := dk_3 (dk_at dksX8_isPart_8 12 rfl rfl)
theorem dX8_isPart_231 : decode cX8_isPart 231 = .ok (.ireturn, 1) := dk_172 (dk_at dksX8_isPart_8 13 rfl rfl)
theorem dX8_isPart_232 : decode cX8_isPart 232 = .ok (.aload_n 0, 1) := dk_42 (dk_at dksX8_isPart_8 14 rfl rfl)
theorem dX8_isPart_233 : decode cX8_isPart 233 = .ok (.iconst 1, 1) := dk_4 (dk_at dksX8_isPart_8 15 rfl rfl)
theorem dX8_isPart_234 : decode cX8_isPart 234 = .ok (.iconst 2, 1) := dk_5 (dk_at dksX8_isPart_8 16 rfl rfl)
theorem dX8_isPart_235 : decode cX8_isPart 235 = .ok (.invokevirtual 296, 3) := dk_182 1 40 (dk_at dksX8_isPart_8 17 rfl rfl)
theorem dX8_isPart_238 : decode cX8_isPart 238 = .ok (.ifCond .eq 37, 3) := dk_153 0 37 (dk_at dksX8_isPart_8 20 rfl rfl)
theorem dX8_isPart_241 : decode cX8_isPart 241 = .ok (.aload_n 0, 1) := dk_42 (dk_at dksX8_isPart_8 23 rfl rfl)
theorem dX8_isPart_242 : decode cX8_isPart 242 = .ok (.iconst 2, 1) := dk_5 (dk_at dksX8_isPart_9 0 rfl rfl)
theorem dX8_isPart_243 : decode cX8_isPart 243 = .ok (.iconst 4, 1) := dk_7 (dk_at dksX8_isPart_9 1 rfl rfl)
theorem dX8_isPart_244 : decode cX8_isPart 244 = .ok (.invokevirtual 296, 3) := dk_182 1 40 (dk_at dksX8_isPart_9 2 rfl rfl)
theorem dX8_isPart_247 : decode cX8_isPart 247 = .ok (.ifCond .eq 28, 3) := dk_153 0 28 (dk_at dksX8_isPart_9 5 rfl rfl)
theorem dX8_isPart_250 : decode cX8_isPart 250 = .ok (.aload_n 0, 1) := dk_42 (dk_at dksX8_isPart_9 8 rfl rfl)
theorem dX8_isPart_251 : decode cX8_isPart 251 = .ok (.bipush 42, 2) := dk_16 42 (dk_at dksX8_isPart_9 9 rfl rfl)
theorem dX8_isPart_253 : decode cX8_isPart 253 = .ok (.invokevirtual 283, 3) := dk_182 1 27 (dk_at dksX8_isPart_9 11 rfl rfl)
theorem dX8_isPart_256 : decode cX8_isPart 256 = .ok (.ifCond .eq 19, 3) := dk_153 0 19 (dk_at dksX8_isPart_9 14 rfl rfl)
theorem dX8_isPart_259 : decode cX8_isPart 259 = .ok (.aload_n 0, 1) := dk_42 (dk_at dksX8_isPart_9 17 rfl rfl)
theorem dX8_isPart_260 : decode cX8_isPart 260 = .ok (.iconst 3, 1) := dk_6 (dk_at dksX8_isPart_9 18 rfl rfl)
theorem dX8_isPart_261 : decode cX8_isPart 261 = .ok (.iconst 1, 1) := dk_4 (dk_at dksX8_isPart_9 19 rfl rfl)
theorem dX8_isPart_262 : decode cX8_isPart 262 = .ok (.sipush 480, 3) := dk_17 1 224 (dk_at dksX8_isPart_9 20 rfl rfl)
theorem dX8_isPart_265 : decode cX8_isPart 265 = .ok (.invokevirtual 302, 3) := dk_182 1 46 (dk_at dksX8_isPart_10 0 rfl rfl)
theorem dX8_isPart_268 : decode cX8_isPart 268 = .ok (.ifCond .eq 7, 3) := dk_153 0 7 (dk_at dksX8_isPart_10 3 rfl rfl)
theorem dX8_isPart_271 : decode cX8_isPart 271 = .ok (.iconst 1, 1) := dk_4 (dk_at dksX8_isPart_10 6 rfl rfl)
theorem dX8_isPart_272 : decode cX8_isPart 272 = .ok (.goto 4, 3) := dk_167 0 4 (dk_at dksX8_isPart_10 7 rfl rfl)
theorem dX8_isPart_275 : decode cX8_isPart 275 = .ok (.iconst 0, 1) := dk_3 (dk_at dksX8_isPart_10 10 rfl rfl)
theorem dX8_isPart_276 : decode cX8_isPart 276 = .ok (.ireturn, 1) := dk_172 (dk_at dksX8_isPart_10 11 rfl rfl)
theorem dX8_isPart_277 : decode cX8_isPart 277 = .ok (.aload_n 0, 1) := dk_42 (dk_at dksX8_isPart_10 12 rfl rfl)
theorem dX8_isPart_278 : decode cX8_isPart 278 = .ok (.iconst 1, 1) := dk_4 (dk_at dksX8_isPart_10 13 rfl rfl)
theorem dX8_isPart_279 : decode cX8_isPart 279 = .ok (.iconst 1, 1) := dk_4 (dk_at dksX8_isPart_10 14 rfl rfl)
theorem dX8_isPart_280 : decode cX8_isPart 280 = .ok (.bipush 20, 2) := dk_16 20 (dk_at dksX8_isPart_10 15 rfl rfl)
theorem dX8_isPart_282 : decode cX8_isPart 282 = .ok (.invokevirtual 302, 3) := dk_182 1 46 (dk_at dksX8_isPart_10 17 rfl rfl)
theorem dX8_isPart_285 : decode cX8_isPart 285 = .ok (.ireturn, 1) := dk_172 (dk_at dksX8_isPart_10 20 rfl rfl)
theorem dX8_isPart_286 : decode cX8_isPart 286 = .ok (.aload_n 0, 1) := dk_42 (dk_at dksX8_isPart_10 21 rfl rfl)
theorem dX8_isPart_287 : decode cX8_isPart 287 = .ok (.dup, 1) := dk_89 (dk_at dksX8_isPart_10 22 rfl rfl)
theorem dX8_isPart_288 : decode cX8_isPart 288 = .ok (.getfield 261, 3) := dk_180 1 5 (dk_at dksX8_isPart_11 0 rfl rfl)
theorem dX8_isPart_291 : decode cX8_isPart 291 = .ok (.iconst 1, 1) := dk_4 (dk_at dksX8_isPart_11 3 rfl rfl)
theorem dX8_isPart_292 : decode cX8_isPart 292 = .ok (.isub, 1) := dk_100 (dk_at dksX8_isPart_11 4 rfl rfl)
theorem dX8_isPart_293 : decode cX8_isPart 293 = .ok (.putfield 261, 3) := dk_181 1 5 (dk_at dksX8_isPart_11 5 rfl rfl)
theorem dX8_isPart_296 : decode cX8_isPart 296 = .ok (.iconst 0, 1) := dk_3 (dk_at dksX8_isPart_11 8 rfl rfl)
theorem dX8_isPart_297 : decode cX8_isPart 297 = .ok (.ireturn, 1) := dk_172 (dk_at dksX8_isPart_11 9 rfl rfl)
abbrev cX8_isTold : ByteArray := prog_26_method_129_code
def yX8_isTold : MethodName := ⟨RX8, "isTold", "(II)V"⟩
def dkwX8_isTold_0 : List UInt8 := [42, 180, 0, 31, 16, 6, 42, 180, 1, 11, 104, 27, 96, 28, 79, 177]
abbrev dktX8_isTold_0 : List UInt8 := dkwX8_isTold_0 ++ []
theorem dksX8_isTold_0 : cX8_isTold.data.toList.drop 0 = dktX8_isTold_0 := by decide +kernel
theorem dX8_isTold_0 : decode cX8_isTold 0 = .ok (.aload_n 0, 1) := dk_42 (dk_at dksX8_isTold_0 0 rfl rfl)
theorem dX8_isTold_1 : decode cX8_isTold 1 = .ok (.getfield 31, 3) := dk_180 0 31 (dk_at dksX8_isTold_0 1 rfl rfl)
theorem dX8_isTold_4 : decode cX8_isTold 4 = .ok (.bipush 6, 2) := dk_16 6 (dk_at dksX8_isTold_0 4 rfl rfl)
theorem dX8_isTold_6 : decode cX8_isTold 6 = .ok (.aload_n 0, 1) := dk_42 (dk_at dksX8_isTold_0 6 rfl rfl)
theorem dX8_isTold_7 : decode cX8_isTold 7 = .ok (.getfield 267, 3) := dk_180 1 11 (dk_at dksX8_isTold_0 7 rfl rfl)
theorem dX8_isTold_10 : decode cX8_isTold 10 = .ok (.imul, 1) := dk_104 (dk_at dksX8_isTold_0 10 rfl rfl)
theorem dX8_isTold_11 : decode cX8_isTold 11 = .ok (.iload_n 1, 1) := dk_27 (dk_at dksX8_isTold_0 11 rfl rfl)
theorem dX8_isTold_12 : decode cX8_isTold 12 = .ok (.iadd, 1) := dk_96 (dk_at dksX8_isTold_0 12 rfl rfl)
theorem dX8_isTold_13 : decode cX8_isTold 13 = .ok (.iload_n 2, 1) := dk_28 (dk_at dksX8_isTold_0 13 rfl rfl)
theorem dX8_isTold_14 : decode cX8_isTold 14 = .ok (.iastore, 1) := dk_79 (dk_at dksX8_isTold_0 14 rfl rfl)
theorem dX8_isTold_15 : decode cX8_isTold 15 = .ok (.return_, 1) := dk_177 (dk_at dksX8_isTold_0 15 rfl rfl)
abbrev cX8_isMix : ByteArray := prog_26_method_138_code
def yX8_isMix : MethodName := ⟨RX8, "isMix", "()Z"⟩
def dkwX8_isMix_7 : List UInt8 := [167, 255, 232, 42, 8, 28, 182, 1, 14, 21, 4, 172]
abbrev dktX8_isMix_7 : List UInt8 := dkwX8_isMix_7 ++ []
def dkwX8_isMix_6 : List UInt8 := [7, 162, 0, 24, 42, 4, 21, 6, 96, 42, 180, 0, 34, 21, 6, 46, 182, 1, 14, 132, 6, 1]
abbrev dktX8_isMix_6 : List UInt8 := dkwX8_isMix_6 ++ dktX8_isMix_7
def dkwX8_isMix_5 : List UInt8 := [4, 167, 0, 4, 3, 54, 4, 132, 1, 255, 167, 255, 145, 3, 54, 5, 167, 255, 139, 3, 54, 6, 21, 6]
abbrev dktX8_isMix_5 : List UInt8 := dkwX8_isMix_5 ++ dktX8_isMix_6
def dkwX8_isMix_4 : List UInt8 := [167, 255, 179, 27, 158, 0, 33, 42, 16, 41, 182, 1, 27, 153, 0, 15, 42, 27, 182, 1, 33, 153, 0, 7]
abbrev dktX8_isMix_4 : List UInt8 := dkwX8_isMix_4 ++ dktX8_isMix_5
def dkwX8_isMix_3 : List UInt8 := [27, 167, 0, 4, 28, 61, 3, 62, 167, 255, 193, 42, 16, 43, 182, 1, 27, 153, 0, 8, 4, 62]
abbrev dktX8_isMix_3 : List UInt8 := dkwX8_isMix_3 ++ dktX8_isMix_4
def dkwX8_isMix_2 : List UInt8 := [42, 27, 182, 1, 24, 167, 255, 220, 29, 153, 0, 26, 42, 27, 182, 1, 30, 54, 4, 27, 28, 164, 0, 7]
abbrev dktX8_isMix_2 : List UInt8 := dkwX8_isMix_2 ++ dktX8_isMix_3
def dkwX8_isMix_1 : List UInt8 := [153, 0, 113, 29, 153, 0, 28, 27, 7, 162, 0, 23, 42, 16, 40, 182, 1, 27, 153, 0, 14, 132, 1, 1]
abbrev dktX8_isMix_1 : List UInt8 := dkwX8_isMix_1 ++ dktX8_isMix_2
def dkwX8_isMix_0 : List UInt8 := [3, 60, 3, 61, 4, 62, 4, 54, 4, 4, 54, 5, 42, 3, 182, 1, 24, 21, 4, 153, 0, 118, 21, 5]
abbrev dktX8_isMix_0 : List UInt8 := dkwX8_isMix_0 ++ dktX8_isMix_1
theorem dksX8_isMix_0 : cX8_isMix.data.toList.drop 0 = dktX8_isMix_0 := by decide +kernel
theorem dksX8_isMix_1 : cX8_isMix.data.toList.drop 24 = dktX8_isMix_1 := dk_seg dksX8_isMix_0 24 rfl rfl
theorem dksX8_isMix_2 : cX8_isMix.data.toList.drop 48 = dktX8_isMix_2 := dk_seg dksX8_isMix_1 24 rfl rfl
theorem dksX8_isMix_3 : cX8_isMix.data.toList.drop 72 = dktX8_isMix_3 := dk_seg dksX8_isMix_2 24 rfl rfl
theorem dksX8_isMix_4 : cX8_isMix.data.toList.drop 94 = dktX8_isMix_4 := dk_seg dksX8_isMix_3 22 rfl rfl
theorem dksX8_isMix_5 : cX8_isMix.data.toList.drop 118 = dktX8_isMix_5 := dk_seg dksX8_isMix_4 24 rfl rfl
theorem dksX8_isMix_6 : cX8_isMix.data.toList.drop 142 = dktX8_isMix_6 := dk_seg dksX8_isMix_5 24 rfl rfl
theorem dksX8_isMix_7 : cX8_isMix.data.toList.drop 164 = dktX8_isMix_7 := dk_seg dksX8_isMix_6 22 rfl rfl
theorem dX8_isMix_0 : decode cX8_isMix 0 = .ok (.iconst 0, 1) := dk_3 (dk_at dksX8_isMix_0 0 rfl rfl)
theorem dX8_isMix_1 : decode cX8_isMix 1 = .ok (.istore_n 1, 1) := dk_60 (dk_at dksX8_isMix_0 1 rfl rfl)
theorem dX8_isMix_2 : decode cX8_isMix 2 = .ok (.iconst 0, 1) := dk_3 (dk_at dksX8_isMix_0 2 rfl rfl)
theorem dX8_isMix_3 : decode cX8_isMix 3 = .ok (.istore_n 2, 1) := dk_61 (dk_at dksX8_isMix_0 3 rfl rfl)
theorem dX8_isMix_4 : decode cX8_isMix 4 = .ok (.iconst 1, 1) := dk_4 (dk_at dksX8_isMix_0 4 rfl rfl)
theorem dX8_isMix_5 : decode cX8_isMix 5 = .ok (.istore_n 3, 1) := dk_62 (dk_at dksX8_isMix_0 5 rfl rfl)
theorem dX8_isMix_6 : decode cX8_isMix 6 = .ok (.iconst 1, 1) := dk_4 (dk_at dksX8_isMix_0 6 rfl rfl)
theorem dX8_isMix_7 : decode cX8_isMix 7 = .ok (.istore 4, 2) := dk_54 4 (dk_at dksX8_isMix_0 7 rfl rfl)
theorem dX8_isMix_9 : decode cX8_isMix 9 = .ok (.iconst 1, 1) := dk_4 (dk_at dksX8_isMix_0 9 rfl rfl)
theorem dX8_isMix_10 : decode cX8_isMix 10 = .ok (.istore 5, 2) := dk_54 5 (dk_at dksX8_isMix_0 10 rfl rfl)
theorem dX8_isMix_12 : decode cX8_isMix 12 = .ok (.aload_n 0, 1) := dk_42 (dk_at dksX8_isMix_0 12 rfl rfl)
theorem dX8_isMix_13 : decode cX8_isMix 13 = .ok (.iconst 0, 1) := dk_3 (dk_at dksX8_isMix_0 13 rfl rfl)
theorem dX8_isMix_14 : decode cX8_isMix 14 = .ok (.invokevirtual 280, 3) := dk_182 1 24 (dk_at dksX8_isMix_0 14 rfl rfl)
theorem dX8_isMix_17 : decode cX8_isMix 17 = .ok (.iload 4, 2) := dk_21 4 (dk_at dksX8_isMix_0 17 rfl rfl)
theorem dX8_isMix_19 : decode cX8_isMix 19 = .ok (.ifCond .eq 118, 3) := dk_153 0 118 (dk_at dksX8_isMix_0 19 rfl rfl)
theorem dX8_isMix_22 : decode cX8_isMix 22 = .ok (.iload 5, 2) := dk_21 5 (dk_at dksX8_isMix_0 22 rfl rfl)
theorem dX8_isMix_24 : decode cX8_isMix 24 = .ok (.ifCond .eq 113, 3) := dk_153 0 113 (dk_at dksX8_isMix_1 0 rfl rfl)
theorem dX8_isMix_27 : decode cX8_isMix 27 = .ok (.iload_n 3, 1) := dk_29 (dk_at dksX8_isMix_1 3 rfl rfl)
theorem dX8_isMix_28 : decode cX8_isMix 28 = .ok (.ifCond .eq 28, 3) := dk_153 0 28 (dk_at dksX8_isMix_1 4 rfl rfl)
theorem dX8_isMix_31 : decode cX8_isMix 31 = .ok (.iload_n 1, 1) := dk_27 (dk_at dksX8_isMix_1 7 rfl rfl)
theorem dX8_isMix_32 : decode cX8_isMix 32 = .ok (.iconst 4, 1) := dk_7 (dk_at dksX8_isMix_1 8 rfl rfl)
theorem dX8_isMix_33 : decode cX8_isMix 33 = .ok (.if_icmp .ge 23, 3) := dk_162 0 23 (dk_at dksX8_isMix_1 9 rfl rfl)
theorem dX8_isMix_36 : decode cX8_isMix 36 = .ok (.aload_n 0, 1) := dk_42 (dk_at dksX8_isMix_1 12 rfl rfl)
theorem dX8_isMix_37 : decode cX8_isMix 37 = .ok (.bipush 40, 2) := dk_16 40 (dk_at dksX8_isMix_1 13 rfl rfl)
theorem dX8_isMix_39 : decode cX8_isMix 39 = .ok (.invokevirtual 283, 3) := dk_182 1 27 (dk_at dksX8_isMix_1 15 rfl rfl)
theorem dX8_isMix_42 : decode cX8_isMix 42 = .ok (.ifCond .eq 14, 3) := dk_153 0 14 (dk_at dksX8_isMix_1 18 rfl rfl)
theorem dX8_isMix_45 : decode cX8_isMix 45 = .ok (.iinc 1 1, 3) := dk_132 1 1 (dk_at dksX8_isMix_1 21 rfl rfl)
theorem dX8_isMix_48 : decode cX8_isMix 48 = .ok (.aload_n 0, 1) := dk_42 (dk_at dksX8_isMix_2 0 rfl rfl)
theorem dX8_isMix_49 : decode cX8_isMix 49 = .ok (.iload_n 1, 1) := dk_27 (dk_at dksX8_isMix_2 1 rfl rfl)
theorem dX8_isMix_50 : decode cX8_isMix 50 = .ok (.invokevirtual 280, 3) := dk_182 1 24 (dk_at dksX8_isMix_2 2 rfl rfl)
theorem dX8_isMix_53 : decode cX8_isMix 53 = .ok (.goto (-36), 3) := dk_167 255 220 (dk_at dksX8_isMix_2 5 rfl rfl)
theorem dX8_isMix_56 : decode cX8_isMix 56 = .ok (.iload_n 3, 1) := dk_29 (dk_at dksX8_isMix_2 8 rfl rfl)
theorem dX8_isMix_57 : decode cX8_isMix 57 = .ok (.ifCond .eq 26, 3) := dk_153 0 26 (dk_at dksX8_isMix_2 9 rfl rfl)
theorem dX8_isMix_60 : decode cX8_isMix 60 = .ok (.aload_n 0, 1) := dk_42 (dk_at dksX8_isMix_2 12 rfl rfl)
theorem dX8_isMix_61 : decode cX8_isMix 61 = .ok (.iload_n 1, 1) := dk_27 (dk_at dksX8_isMix_2 13 rfl rfl)
theorem dX8_isMix_62 : decode cX8_isMix 62 = .ok (.invokevirtual 286, 3) := dk_182 1 30 (dk_at dksX8_isMix_2 14 rfl rfl)
theorem dX8_isMix_65 : decode cX8_isMix 65 = .ok (.istore 4, 2) := dk_54 4 (dk_at dksX8_isMix_2 17 rfl rfl)
theorem dX8_isMix_67 : decode cX8_isMix 67 = .ok (.iload_n 1, 1) := dk_27 (dk_at dksX8_isMix_2 19 rfl rfl)
theorem dX8_isMix_68 : decode cX8_isMix 68 = .ok (.iload_n 2, 1) := dk_28 (dk_at dksX8_isMix_2 20 rfl rfl)
theorem dX8_isMix_69 : decode cX8_isMix 69 = .ok (.if_icmp .le 7, 3) := dk_164 0 7 (dk_at dksX8_isMix_2 21 rfl rfl)
theorem dX8_isMix_72 : decode cX8_isMix 72 = .ok (.iload_n 1, 1) := dk_27 (dk_at dksX8_isMix_3 0 rfl rfl)
theorem dX8_isMix_73 : decode cX8_isMix 73 = .ok (.goto 4, 3) := dk_167 0 4 (dk_at dksX8_isMix_3 1 rfl rfl)
theorem dX8_isMix_76 : decode cX8_isMix 76 = .ok (.iload_n 2, 1) := dk_28 (dk_at dksX8_isMix_3 4 rfl rfl)
theorem dX8_isMix_77 : decode cX8_isMix 77 = .ok (.istore_n 2, 1) := dk_61 (dk_at dksX8_isMix_3 5 rfl rfl)
theorem dX8_isMix_78 : decode cX8_isMix 78 = .ok (.iconst 0, 1) := dk_3 (dk_at dksX8_isMix_3 6 rfl rfl)
theorem dX8_isMix_79 : decode cX8_isMix 79 = .ok (.istore_n 3, 1) := dk_62 (dk_at dksX8_isMix_3 7 rfl rfl)
theorem dX8_isMix_80 : decode cX8_isMix 80 = .ok (.goto (-63), 3) := dk_167 255 193 (dk_at dksX8_isMix_3 8 rfl rfl)
theorem dX8_isMix_83 : decode cX8_isMix 83 = .ok (.aload_n 0, 1) := dk_42 (dk_at dksX8_isMix_3 11 rfl rfl)
theorem dX8_isMix_84 : decode cX8_isMix 84 = .ok (.bipush 43, 2) := dk_16 43 (dk_at dksX8_isMix_3 12 rfl rfl)
theorem dX8_isMix_86 : decode cX8_isMix 86 = .ok (.invokevirtual 283, 3) := dk_182 1 27 (dk_at dksX8_isMix_3 14 rfl rfl)
theorem dX8_isMix_89 : decode cX8_isMix 89 = .ok (.ifCond .eq 8, 3) := dk_153 0 8 (dk_at dksX8_isMix_3 17 rfl rfl)
theorem dX8_isMix_92 : decode cX8_isMix 92 = .ok (.iconst 1, 1) := dk_4 (dk_at dksX8_isMix_3 20 rfl rfl)
theorem dX8_isMix_93 : decode cX8_isMix 93 = .ok (.istore_n 3, 1) := dk_62 (dk_at dksX8_isMix_3 21 rfl rfl)
theorem dX8_isMix_94 : decode cX8_isMix 94 = .ok (.goto (-77), 3) := dk_167 255 179 (dk_at dksX8_isMix_4 0 rfl rfl)
theorem dX8_isMix_97 : decode cX8_isMix 97 = .ok (.iload_n 1, 1) := dk_27 (dk_at dksX8_isMix_4 3 rfl rfl)
theorem dX8_isMix_98 : decode cX8_isMix 98 = .ok (.ifCond .le 33, 3) := dk_158 0 33 (dk_at dksX8_isMix_4 4 rfl rfl)
theorem dX8_isMix_101 : decode cX8_isMix 101 = .ok (.aload_n 0, 1) := dk_42 (dk_at dksX8_isMix_4 7 rfl rfl)
theorem dX8_isMix_102 : decode cX8_isMix 102 = .ok (.bipush 41, 2) := dk_16 41 (dk_at dksX8_isMix_4 8 rfl rfl)
theorem dX8_isMix_104 : decode cX8_isMix 104 = .ok (.invokevirtual 283, 3) := dk_182 1 27 (dk_at dksX8_isMix_4 10 rfl rfl)
theorem dX8_isMix_107 : decode cX8_isMix 107 = .ok (.ifCond .eq 15, 3) := dk_153 0 15 (dk_at dksX8_isMix_4 13 rfl rfl)
theorem dX8_isMix_110 : decode cX8_isMix 110 = .ok (.aload_n 0, 1) := dk_42 (dk_at dksX8_isMix_4 16 rfl rfl)
theorem dX8_isMix_111 : decode cX8_isMix 111 = .ok (.iload_n 1, 1) := dk_27 (dk_at dksX8_isMix_4 17 rfl rfl)
theorem dX8_isMix_112 : decode cX8_isMix 112 = .ok (.invokevirtual 289, 3) := dk_182 1 33 (dk_at dksX8_isMix_4 18 rfl rfl)
theorem dX8_isMix_115 : decode cX8_isMix 115 = .ok (.ifCond .eq 7, 3) := dk_153 0 7 (dk_at dksX8_isMix_4 21 rfl rfl)
theorem dX8_isMix_118 : decode cX8_isMix 118 = .ok (.iconst 1, 1) := dk_4 (dk_at dksX8_isMix_5 0 rfl rfl)
theorem dX8_isMix_119 : decode cX8_isMix 119 = .ok (.goto 4, 3) := dk_167 0 4 (dk_at dksX8_isMix_5 1 rfl rfl)
theorem dX8_isMix_122 : decode cX8_isMix 122 = .ok (.iconst 0, 1) := dk_3 (dk_at dksX8_isMix_5 4 rfl rfl)
theorem dX8_isMix_123 : decode cX8_isMix 123 = .ok (.istore 4, 2) := dk_54 4 (dk_at dksX8_isMix_5 5 rfl rfl)
theorem dX8_isMix_125 : decode cX8_isMix 125 = .ok (.iinc 1 (-1), 3) := dk_132 1 255 (dk_at dksX8_isMix_5 7 rfl rfl)
theorem dX8_isMix_128 : decode cX8_isMix 128 = .ok (.goto (-111), 3) := dk_167 255 145 (dk_at dksX8_isMix_5 10 rfl rfl)
theorem dX8_isMix_131 : decode cX8_isMix 131 = .ok (.iconst 0, 1) := dk_3 (dk_at dksX8_isMix_5 13 rfl rfl)
theorem dX8_isMix_132 : decode cX8_isMix 132 = .ok (.istore 5, 2) := dk_54 5 (dk_at dksX8_isMix_5 14 rfl rfl)
theorem dX8_isMix_134 : decode cX8_isMix 134 = .ok (.goto (-117), 3) := dk_167 255 139 (dk_at dksX8_isMix_5 16 rfl rfl)
theorem dX8_isMix_137 : decode cX8_isMix 137 = .ok (.iconst 0, 1) := dk_3 (dk_at dksX8_isMix_5 19 rfl rfl)
theorem dX8_isMix_138 : decode cX8_isMix 138 = .ok (.istore 6, 2) := dk_54 6 (dk_at dksX8_isMix_5 20 rfl rfl)
theorem dX8_isMix_140 : decode cX8_isMix 140 = .ok (.iload 6, 2) := dk_21 6 (dk_at dksX8_isMix_5 22 rfl rfl)
theorem dX8_isMix_142 : decode cX8_isMix 142 = .ok (.iconst 4, 1) := dk_7 (dk_at dksX8_isMix_6 0 rfl rfl)
theorem dX8_isMix_143 : decode cX8_isMix 143 = .ok (.if_icmp .ge 24, 3) := dk_162 0 24 (dk_at dksX8_isMix_6 1 rfl rfl)
theorem dX8_isMix_146 : decode cX8_isMix 146 = .ok (.aload_n 0, 1) := dk_42 (dk_at dksX8_isMix_6 4 rfl rfl)
theorem dX8_isMix_147 : decode cX8_isMix 147 = .ok (.iconst 1, 1) := dk_4 (dk_at dksX8_isMix_6 5 rfl rfl)
theorem dX8_isMix_148 : decode cX8_isMix 148 = .ok (.iload 6, 2) := dk_21 6 (dk_at dksX8_isMix_6 6 rfl rfl)
theorem dX8_isMix_150 : decode cX8_isMix 150 = .ok (.iadd, 1) := dk_96 (dk_at dksX8_isMix_6 8 rfl rfl)
theorem dX8_isMix_151 : decode cX8_isMix 151 = .ok (.aload_n 0, 1) := dk_42 (dk_at dksX8_isMix_6 9 rfl rfl)
theorem dX8_isMix_152 : decode cX8_isMix 152 = .ok (.getfield 34, 3) := dk_180 0 34 (dk_at dksX8_isMix_6 10 rfl rfl)
theorem dX8_isMix_155 : decode cX8_isMix 155 = .ok (.iload 6, 2) := dk_21 6 (dk_at dksX8_isMix_6 13 rfl rfl)
theorem dX8_isMix_157 : decode cX8_isMix 157 = .ok (.iaload, 1) := dk_46 (dk_at dksX8_isMix_6 15 rfl rfl)
theorem dX8_isMix_158 : decode cX8_isMix 158 = .ok (.invokevirtual 270, 3) := dk_182 1 14 (dk_at dksX8_isMix_6 16 rfl rfl)
theorem dX8_isMix_161 : decode cX8_isMix 161 = .ok (.iinc 6 1, 3) := dk_132 6 1 (dk_at dksX8_isMix_6 19 rfl rfl)
theorem dX8_isMix_164 : decode cX8_isMix 164 = .ok (.goto (-24), 3) := dk_167 255 232 (dk_at dksX8_isMix_7 0 rfl rfl)
theorem dX8_isMix_167 : decode cX8_isMix 167 = .ok (.aload_n 0, 1) := dk_42 (dk_at dksX8_isMix_7 3 rfl rfl)
theorem dX8_isMix_168 : decode cX8_isMix 168 = .ok (.iconst 5, 1) := dk_8 (dk_at dksX8_isMix_7 4 rfl rfl)
theorem dX8_isMix_169 : decode cX8_isMix 169 = .ok (.iload_n 2, 1) := dk_28 (dk_at dksX8_isMix_7 5 rfl rfl)
theorem dX8_isMix_170 : decode cX8_isMix 170 = .ok (.invokevirtual 270, 3) := dk_182 1 14 (dk_at dksX8_isMix_7 6 rfl rfl)
theorem dX8_isMix_173 : decode cX8_isMix 173 = .ok (.iload 4, 2) := dk_21 4 (dk_at dksX8_isMix_7 9 rfl rfl)
theorem dX8_isMix_175 : decode cX8_isMix 175 = .ok (.ireturn, 1) := dk_172 (dk_at dksX8_isMix_7 11 rfl rfl)
abbrev cX8_clearsMix : ByteArray := prog_26_method_135_code
def yX8_clearsMix : MethodName := ⟨RX8, "clearsMix", "(I)V"⟩
def dkwX8_clearsMix_1 : List UInt8 := [177]
abbrev dktX8_clearsMix_1 : List UInt8 := dkwX8_clearsMix_1 ++ []
def dkwX8_clearsMix_0 : List UInt8 := [3, 61, 28, 7, 162, 0, 20, 42, 180, 0, 34, 7, 27, 104, 28, 96, 3, 79, 132, 2, 1, 167, 255, 237]
abbrev dktX8_clearsMix_0 : List UInt8 := dkwX8_clearsMix_0 ++ dktX8_clearsMix_1
theorem dksX8_clearsMix_0 : cX8_clearsMix.data.toList.drop 0 = dktX8_clearsMix_0 := by decide +kernel
theorem dksX8_clearsMix_1 : cX8_clearsMix.data.toList.drop 24 = dktX8_clearsMix_1 := dk_seg dksX8_clearsMix_0 24 rfl rfl
theorem dX8_clearsMix_0 : decode cX8_clearsMix 0 = .ok (.iconst 0, 1) := dk_3 (dk_at dksX8_clearsMix_0 0 rfl rfl)
theorem dX8_clearsMix_1 : decode cX8_clearsMix 1 = .ok (.istore_n 2, 1) := dk_61 (dk_at dksX8_clearsMix_0 1 rfl rfl)
theorem dX8_clearsMix_2 : decode cX8_clearsMix 2 = .ok (.iload_n 2, 1) := dk_28 (dk_at dksX8_clearsMix_0 2 rfl rfl)
theorem dX8_clearsMix_3 : decode cX8_clearsMix 3 = .ok (.iconst 4, 1) := dk_7 (dk_at dksX8_clearsMix_0 3 rfl rfl)
theorem dX8_clearsMix_4 : decode cX8_clearsMix 4 = .ok (.if_icmp .ge 20, 3) := dk_162 0 20 (dk_at dksX8_clearsMix_0 4 rfl rfl)
theorem dX8_clearsMix_7 : decode cX8_clearsMix 7 = .ok (.aload_n 0, 1) := dk_42 (dk_at dksX8_clearsMix_0 7 rfl rfl)
theorem dX8_clearsMix_8 : decode cX8_clearsMix 8 = .ok (.getfield 34, 3) := dk_180 0 34 (dk_at dksX8_clearsMix_0 8 rfl rfl)
theorem dX8_clearsMix_11 : decode cX8_clearsMix 11 = .ok (.iconst 4, 1) := dk_7 (dk_at dksX8_clearsMix_0 11 rfl rfl)
theorem dX8_clearsMix_12 : decode cX8_clearsMix 12 = .ok (.iload_n 1, 1) := dk_27 (dk_at dksX8_clearsMix_0 12 rfl rfl)
theorem dX8_clearsMix_13 : decode cX8_clearsMix 13 = .ok (.imul, 1) := dk_104 (dk_at dksX8_clearsMix_0 13 rfl rfl)
theorem dX8_clearsMix_14 : decode cX8_clearsMix 14 = .ok (.iload_n 2, 1) := dk_28 (dk_at dksX8_clearsMix_0 14 rfl rfl)
theorem dX8_clearsMix_15 : decode cX8_clearsMix 15 = .ok (.iadd, 1) := dk_96 (dk_at dksX8_clearsMix_0 15 rfl rfl)
theorem dX8_clearsMix_16 : decode cX8_clearsMix 16 = .ok (.iconst 0, 1) := dk_3 (dk_at dksX8_clearsMix_0 16 rfl rfl)
theorem dX8_clearsMix_17 : decode cX8_clearsMix 17 = .ok (.iastore, 1) := dk_79 (dk_at dksX8_clearsMix_0 17 rfl rfl)
theorem dX8_clearsMix_18 : decode cX8_clearsMix 18 = .ok (.iinc 2 1, 3) := dk_132 2 1 (dk_at dksX8_clearsMix_0 18 rfl rfl)
theorem dX8_clearsMix_21 : decode cX8_clearsMix 21 = .ok (.goto (-19), 3) := dk_167 255 237 (dk_at dksX8_clearsMix_0 21 rfl rfl)
theorem dX8_clearsMix_24 : decode cX8_clearsMix 24 = .ok (.return_, 1) := dk_177 (dk_at dksX8_clearsMix_1 0 rfl rfl)
abbrev cX8_takes : ByteArray := prog_26_method_128_code
def yX8_takes : MethodName := ⟨RX8, "takes", "(I)Z"⟩
def dkwX8_takes_1 : List UInt8 := [167, 0, 4, 3, 96, 181, 1, 5, 28, 172]
abbrev dktX8_takes_1 : List UInt8 := dkwX8_takes_1 ++ []
def dkwX8_takes_0 : List UInt8 := [42, 182, 1, 8, 27, 160, 0, 7, 4, 167, 0, 4, 3, 61, 42, 89, 180, 1, 5, 28, 153, 0, 7, 4]
abbrev dktX8_takes_0 : List UInt8 := dkwX8_takes_0 ++ dktX8_takes_1
theorem dksX8_takes_0 : cX8_takes.data.toList.drop 0 = dktX8_takes_0 := by decide +kernel
theorem dksX8_takes_1 : cX8_takes.data.toList.drop 24 = dktX8_takes_1 := dk_seg dksX8_takes_0 24 rfl rfl
theorem dX8_takes_0 : decode cX8_takes 0 = .ok (.aload_n 0, 1) := dk_42 (dk_at dksX8_takes_0 0 rfl rfl)
theorem dX8_takes_1 : decode cX8_takes 1 = .ok (.invokevirtual 264, 3) := dk_182 1 8 (dk_at dksX8_takes_0 1 rfl rfl)
theorem dX8_takes_4 : decode cX8_takes 4 = .ok (.iload_n 1, 1) := dk_27 (dk_at dksX8_takes_0 4 rfl rfl)
theorem dX8_takes_5 : decode cX8_takes 5 = .ok (.if_icmp .ne 7, 3) := dk_160 0 7 (dk_at dksX8_takes_0 5 rfl rfl)
theorem dX8_takes_8 : decode cX8_takes 8 = .ok (.iconst 1, 1) := dk_4 (dk_at dksX8_takes_0 8 rfl rfl)
theorem dX8_takes_9 : decode cX8_takes 9 = .ok (.goto 4, 3) := dk_167 0 4 (dk_at dksX8_takes_0 9 rfl rfl)
theorem dX8_takes_12 : decode cX8_takes 12 = .ok (.iconst 0, 1) := dk_3 (dk_at dksX8_takes_0 12 rfl rfl)
theorem dX8_takes_13 : decode cX8_takes 13 = .ok (.istore_n 2, 1) := dk_61 (dk_at dksX8_takes_0 13 rfl rfl)
theorem dX8_takes_14 : decode cX8_takes 14 = .ok (.aload_n 0, 1) := dk_42 (dk_at dksX8_takes_0 14 rfl rfl)
theorem dX8_takes_15 : decode cX8_takes 15 = .ok (.dup, 1) := dk_89 (dk_at dksX8_takes_0 15 rfl rfl)
theorem dX8_takes_16 : decode cX8_takes 16 = .ok (.getfield 261, 3) := dk_180 1 5 (dk_at dksX8_takes_0 16 rfl rfl)
theorem dX8_takes_19 : decode cX8_takes 19 = .ok (.iload_n 2, 1) := dk_28 (dk_at dksX8_takes_0 19 rfl rfl)
theorem dX8_takes_20 : decode cX8_takes 20 = .ok (.ifCond .eq 7, 3) := dk_153 0 7 (dk_at dksX8_takes_0 20 rfl rfl)
theorem dX8_takes_23 : decode cX8_takes 23 = .ok (.iconst 1, 1) := dk_4 (dk_at dksX8_takes_0 23 rfl rfl)
theorem dX8_takes_24 : decode cX8_takes 24 = .ok (.goto 4, 3) := dk_167 0 4 (dk_at dksX8_takes_1 0 rfl rfl)
theorem dX8_takes_27 : decode cX8_takes 27 = .ok (.iconst 0, 1) := dk_3 (dk_at dksX8_takes_1 3 rfl rfl)
theorem dX8_takes_28 : decode cX8_takes 28 = .ok (.iadd, 1) := dk_96 (dk_at dksX8_takes_1 4 rfl rfl)
theorem dX8_takes_29 : decode cX8_takes 29 = .ok (.putfield 261, 3) := dk_181 1 5 (dk_at dksX8_takes_1 5 rfl rfl)
theorem dX8_takes_32 : decode cX8_takes 32 = .ok (.iload_n 2, 1) := dk_28 (dk_at dksX8_takes_1 8 rfl rfl)
theorem dX8_takes_33 : decode cX8_takes 33 = .ok (.ireturn, 1) := dk_172 (dk_at dksX8_takes_1 9 rfl rfl)
abbrev cX8_sign : ByteArray := prog_26_method_127_code
def yX8_sign : MethodName := ⟨RX8, "sign", "()I"⟩
def dkwX8_sign_1 : List UInt8 := [172]
abbrev dktX8_sign_1 : List UInt8 := dkwX8_sign_1 ++ []
def dkwX8_sign_0 : List UInt8 := [42, 180, 1, 5, 42, 180, 1, 2, 162, 0, 15, 42, 180, 0, 28, 42, 180, 1, 5, 46, 167, 0, 4, 2]
abbrev dktX8_sign_0 : List UInt8 := dkwX8_sign_0 ++ dktX8_sign_1
theorem dksX8_sign_0 : cX8_sign.data.toList.drop 0 = dktX8_sign_0 := by decide +kernel
theorem dksX8_sign_1 : cX8_sign.data.toList.drop 24 = dktX8_sign_1 := dk_seg dksX8_sign_0 24 rfl rfl
theorem dX8_sign_0 : decode cX8_sign 0 = .ok (.aload_n 0, 1) := dk_42 (dk_at dksX8_sign_0 0 rfl rfl)
theorem dX8_sign_1 : decode cX8_sign 1 = .ok (.getfield 261, 3) := dk_180 1 5 (dk_at dksX8_sign_0 1 rfl rfl)
theorem dX8_sign_4 : decode cX8_sign 4 = .ok (.aload_n 0, 1) := dk_42 (dk_at dksX8_sign_0 4 rfl rfl)
theorem dX8_sign_5 : decode cX8_sign 5 = .ok (.getfield 258, 3) := dk_180 1 2 (dk_at dksX8_sign_0 5 rfl rfl)
theorem dX8_sign_8 : decode cX8_sign 8 = .ok (.if_icmp .ge 15, 3) := dk_162 0 15 (dk_at dksX8_sign_0 8 rfl rfl)
theorem dX8_sign_11 : decode cX8_sign 11 = .ok (.aload_n 0, 1) := dk_42 (dk_at dksX8_sign_0 11 rfl rfl)
theorem dX8_sign_12 : decode cX8_sign 12 = .ok (.getfield 28, 3) := dk_180 0 28 (dk_at dksX8_sign_0 12 rfl rfl)
theorem dX8_sign_15 : decode cX8_sign 15 = .ok (.aload_n 0, 1) := dk_42 (dk_at dksX8_sign_0 15 rfl rfl)
theorem dX8_sign_16 : decode cX8_sign 16 = .ok (.getfield 261, 3) := dk_180 1 5 (dk_at dksX8_sign_0 16 rfl rfl)
theorem dX8_sign_19 : decode cX8_sign 19 = .ok (.iaload, 1) := dk_46 (dk_at dksX8_sign_0 19 rfl rfl)
theorem dX8_sign_20 : decode cX8_sign 20 = .ok (.goto 4, 3) := dk_167 0 4 (dk_at dksX8_sign_0 20 rfl rfl)
theorem dX8_sign_23 : decode cX8_sign 23 = .ok (.iconst (-1), 1) := dk_2 (dk_at dksX8_sign_0 23 rfl rfl)
theorem dX8_sign_24 : decode cX8_sign 24 = .ok (.ireturn, 1) := dk_172 (dk_at dksX8_sign_1 0 rfl rfl)
abbrev cX8_isTerm : ByteArray := prog_26_method_137_code
def yX8_isTerm : MethodName := ⟨RX8, "isTerm", "(I)Z"⟩
def dkwX8_isTerm_3 : List UInt8 := [3, 172]
abbrev dktX8_isTerm_3 : List UInt8 := dkwX8_isTerm_3 ++ []
def dkwX8_isTerm_2 : List UInt8 := [28, 2, 160, 0, 7, 3, 167, 0, 4, 28, 96, 92, 46, 29, 96, 79, 29, 158, 0, 7, 4, 167, 0, 4]
abbrev dktX8_isTerm_2 : List UInt8 := dkwX8_isTerm_2 ++ dktX8_isTerm_3
def dkwX8_isTerm_1 : List UInt8 := [181, 1, 5, 28, 2, 160, 0, 7, 3, 167, 0, 7, 42, 182, 1, 21, 62, 42, 180, 0, 34, 7, 27, 104]
abbrev dktX8_isTerm_1 : List UInt8 := dkwX8_isTerm_1 ++ dktX8_isTerm_2
def dkwX8_isTerm_0 : List UInt8 := [42, 182, 1, 8, 184, 1, 18, 61, 42, 89, 180, 1, 5, 28, 2, 160, 0, 7, 3, 167, 0, 4, 4, 96]
abbrev dktX8_isTerm_0 : List UInt8 := dkwX8_isTerm_0 ++ dktX8_isTerm_1
theorem dksX8_isTerm_0 : cX8_isTerm.data.toList.drop 0 = dktX8_isTerm_0 := by decide +kernel
theorem dksX8_isTerm_1 : cX8_isTerm.data.toList.drop 24 = dktX8_isTerm_1 := dk_seg dksX8_isTerm_0 24 rfl rfl
theorem dksX8_isTerm_2 : cX8_isTerm.data.toList.drop 48 = dktX8_isTerm_2 := dk_seg dksX8_isTerm_1 24 rfl rfl
theorem dksX8_isTerm_3 : cX8_isTerm.data.toList.drop 72 = dktX8_isTerm_3 := dk_seg dksX8_isTerm_2 24 rfl rfl
theorem dX8_isTerm_0 : decode cX8_isTerm 0 = .ok (.aload_n 0, 1) := dk_42 (dk_at dksX8_isTerm_0 0 rfl rfl)
theorem dX8_isTerm_1 : decode cX8_isTerm 1 = .ok (.invokevirtual 264, 3) := dk_182 1 8 (dk_at dksX8_isTerm_0 1 rfl rfl)
theorem dX8_isTerm_4 : decode cX8_isTerm 4 = .ok (.invokestatic 274, 3) := dk_184 1 18 (dk_at dksX8_isTerm_0 4 rfl rfl)
theorem dX8_isTerm_7 : decode cX8_isTerm 7 = .ok (.istore_n 2, 1) := dk_61 (dk_at dksX8_isTerm_0 7 rfl rfl)
theorem dX8_isTerm_8 : decode cX8_isTerm 8 = .ok (.aload_n 0, 1) := dk_42 (dk_at dksX8_isTerm_0 8 rfl rfl)
theorem dX8_isTerm_9 : decode cX8_isTerm 9 = .ok (.dup, 1) := dk_89 (dk_at dksX8_isTerm_0 9 rfl rfl)
theorem dX8_isTerm_10 : decode cX8_isTerm 10 = .ok (.getfield 261, 3) := dk_180 1 5 (dk_at dksX8_isTerm_0 10 rfl rfl)
theorem dX8_isTerm_13 : decode cX8_isTerm 13 = .ok (.iload_n 2, 1) := dk_28 (dk_at dksX8_isTerm_0 13 rfl rfl)
theorem dX8_isTerm_14 : decode cX8_isTerm 14 = .ok (.iconst (-1), 1) := dk_2 (dk_at dksX8_isTerm_0 14 rfl rfl)
theorem dX8_isTerm_15 : decode cX8_isTerm 15 = .ok (.if_icmp .ne 7, 3) := dk_160 0 7 (dk_at dksX8_isTerm_0 15 rfl rfl)
theorem dX8_isTerm_18 : decode cX8_isTerm 18 = .ok (.iconst 0, 1) := dk_3 (dk_at dksX8_isTerm_0 18 rfl rfl)
theorem dX8_isTerm_19 : decode cX8_isTerm 19 = .ok (.goto 4, 3) := dk_167 0 4 (dk_at dksX8_isTerm_0 19 rfl rfl)
theorem dX8_isTerm_22 : decode cX8_isTerm 22 = .ok (.iconst 1, 1) := dk_4 (dk_at dksX8_isTerm_0 22 rfl rfl)
theorem dX8_isTerm_23 : decode cX8_isTerm 23 = .ok (.iadd, 1) := dk_96 (dk_at dksX8_isTerm_0 23 rfl rfl)
theorem dX8_isTerm_24 : decode cX8_isTerm 24 = .ok (.putfield 261, 3) := dk_181 1 5 (dk_at dksX8_isTerm_1 0 rfl rfl)
theorem dX8_isTerm_27 : decode cX8_isTerm 27 = .ok (.iload_n 2, 1) := dk_28 (dk_at dksX8_isTerm_1 3 rfl rfl)
theorem dX8_isTerm_28 : decode cX8_isTerm 28 = .ok (.iconst (-1), 1) := dk_2 (dk_at dksX8_isTerm_1 4 rfl rfl)
theorem dX8_isTerm_29 : decode cX8_isTerm 29 = .ok (.if_icmp .ne 7, 3) := dk_160 0 7 (dk_at dksX8_isTerm_1 5 rfl rfl)
theorem dX8_isTerm_32 : decode cX8_isTerm 32 = .ok (.iconst 0, 1) := dk_3 (dk_at dksX8_isTerm_1 8 rfl rfl)
theorem dX8_isTerm_33 : decode cX8_isTerm 33 = .ok (.goto 7, 3) := dk_167 0 7 (dk_at dksX8_isTerm_1 9 rfl rfl)
theorem dX8_isTerm_36 : decode cX8_isTerm 36 = .ok (.aload_n 0, 1) := dk_42 (dk_at dksX8_isTerm_1 12 rfl rfl)
theorem dX8_isTerm_37 : decode cX8_isTerm 37 = .ok (.invokevirtual 277, 3) := dk_182 1 21 (dk_at dksX8_isTerm_1 13 rfl rfl)
theorem dX8_isTerm_40 : decode cX8_isTerm 40 = .ok (.istore_n 3, 1) := dk_62 (dk_at dksX8_isTerm_1 16 rfl rfl)
theorem dX8_isTerm_41 : decode cX8_isTerm 41 = .ok (.aload_n 0, 1) := dk_42 (dk_at dksX8_isTerm_1 17 rfl rfl)
theorem dX8_isTerm_42 : decode cX8_isTerm 42 = .ok (.getfield 34, 3) := dk_180 0 34 (dk_at dksX8_isTerm_1 18 rfl rfl)
theorem dX8_isTerm_45 : decode cX8_isTerm 45 = .ok (.iconst 4, 1) := dk_7 (dk_at dksX8_isTerm_1 21 rfl rfl)
theorem dX8_isTerm_46 : decode cX8_isTerm 46 = .ok (.iload_n 1, 1) := dk_27 (dk_at dksX8_isTerm_1 22 rfl rfl)
theorem dX8_isTerm_47 : decode cX8_isTerm 47 = .ok (.imul, 1) := dk_104 (dk_at dksX8_isTerm_1 23 rfl rfl)
theorem dX8_isTerm_48 : decode cX8_isTerm 48 = .ok (.iload_n 2, 1) := dk_28 (dk_at dksX8_isTerm_2 0 rfl rfl)
theorem dX8_isTerm_49 : decode cX8_isTerm 49 = .ok (.iconst (-1), 1) := dk_2 (dk_at dksX8_isTerm_2 1 rfl rfl)
theorem dX8_isTerm_50 : decode cX8_isTerm 50 = .ok (.if_icmp .ne 7, 3) := dk_160 0 7 (dk_at dksX8_isTerm_2 2 rfl rfl)
theorem dX8_isTerm_53 : decode cX8_isTerm 53 = .ok (.iconst 0, 1) := dk_3 (dk_at dksX8_isTerm_2 5 rfl rfl)
theorem dX8_isTerm_54 : decode cX8_isTerm 54 = .ok (.goto 4, 3) := dk_167 0 4 (dk_at dksX8_isTerm_2 6 rfl rfl)
theorem dX8_isTerm_57 : decode cX8_isTerm 57 = .ok (.iload_n 2, 1) := dk_28 (dk_at dksX8_isTerm_2 9 rfl rfl)
theorem dX8_isTerm_58 : decode cX8_isTerm 58 = .ok (.iadd, 1) := dk_96 (dk_at dksX8_isTerm_2 10 rfl rfl)
theorem dX8_isTerm_59 : decode cX8_isTerm 59 = .ok (.dup2, 1) := dk_92 (dk_at dksX8_isTerm_2 11 rfl rfl)
theorem dX8_isTerm_60 : decode cX8_isTerm 60 = .ok (.iaload, 1) := dk_46 (dk_at dksX8_isTerm_2 12 rfl rfl)
theorem dX8_isTerm_61 : decode cX8_isTerm 61 = .ok (.iload_n 3, 1) := dk_29 (dk_at dksX8_isTerm_2 13 rfl rfl)
theorem dX8_isTerm_62 : decode cX8_isTerm 62 = .ok (.iadd, 1) := dk_96 (dk_at dksX8_isTerm_2 14 rfl rfl)
theorem dX8_isTerm_63 : decode cX8_isTerm 63 = .ok (.iastore, 1) := dk_79 (dk_at dksX8_isTerm_2 15 rfl rfl)
theorem dX8_isTerm_64 : decode cX8_isTerm 64 = .ok (.iload_n 3, 1) := dk_29 (dk_at dksX8_isTerm_2 16 rfl rfl)
theorem dX8_isTerm_65 : decode cX8_isTerm 65 = .ok (.ifCond .le 7, 3) := dk_158 0 7 (dk_at dksX8_isTerm_2 17 rfl rfl)
theorem dX8_isTerm_68 : decode cX8_isTerm 68 = .ok (.iconst 1, 1) := dk_4 (dk_at dksX8_isTerm_2 20 rfl rfl)
theorem dX8_isTerm_69 : decode cX8_isTerm 69 = .ok (.goto 4, 3) := dk_167 0 4 (dk_at dksX8_isTerm_2 21 rfl rfl)
theorem dX8_isTerm_72 : decode cX8_isTerm 72 = .ok (.iconst 0, 1) := dk_3 (dk_at dksX8_isTerm_3 0 rfl rfl)
theorem dX8_isTerm_73 : decode cX8_isTerm 73 = .ok (.ireturn, 1) := dk_172 (dk_at dksX8_isTerm_3 1 rfl rfl)
abbrev cX8_sortBy : ByteArray := prog_26_method_132_code
def yX8_sortBy : MethodName := ⟨RX8, "sortBy", "(I)I"⟩
def dkwX8_sortBy_1 : List UInt8 := [160, 0, 7, 5, 167, 0, 14, 26, 16, 119, 160, 0, 7, 6, 167, 0, 4, 2, 172]
abbrev dktX8_sortBy_1 : List UInt8 := dkwX8_sortBy_1 ++ []
def dkwX8_sortBy_0 : List UInt8 := [26, 16, 108, 160, 0, 7, 3, 167, 0, 34, 26, 16, 99, 160, 0, 7, 4, 167, 0, 24, 26, 16, 104]
abbrev dktX8_sortBy_0 : List UInt8 := dkwX8_sortBy_0 ++ dktX8_sortBy_1
theorem dksX8_sortBy_0 : cX8_sortBy.data.toList.drop 0 = dktX8_sortBy_0 := by decide +kernel
theorem dksX8_sortBy_1 : cX8_sortBy.data.toList.drop 23 = dktX8_sortBy_1 := dk_seg dksX8_sortBy_0 23 rfl rfl
theorem dX8_sortBy_0 : decode cX8_sortBy 0 = .ok (.iload_n 0, 1) := dk_26 (dk_at dksX8_sortBy_0 0 rfl rfl)
theorem dX8_sortBy_1 : decode cX8_sortBy 1 = .ok (.bipush 108, 2) := dk_16 108 (dk_at dksX8_sortBy_0 1 rfl rfl)
theorem dX8_sortBy_3 : decode cX8_sortBy 3 = .ok (.if_icmp .ne 7, 3) := dk_160 0 7 (dk_at dksX8_sortBy_0 3 rfl rfl)
theorem dX8_sortBy_6 : decode cX8_sortBy 6 = .ok (.iconst 0, 1) := dk_3 (dk_at dksX8_sortBy_0 6 rfl rfl)
theorem dX8_sortBy_7 : decode cX8_sortBy 7 = .ok (.goto 34, 3) := dk_167 0 34 (dk_at dksX8_sortBy_0 7 rfl rfl)
theorem dX8_sortBy_10 : decode cX8_sortBy 10 = .ok (.iload_n 0, 1) := dk_26 (dk_at dksX8_sortBy_0 10 rfl rfl)
theorem dX8_sortBy_11 : decode cX8_sortBy 11 = .ok (.bipush 99, 2) := dk_16 99 (dk_at dksX8_sortBy_0 11 rfl rfl)
theorem dX8_sortBy_13 : decode cX8_sortBy 13 = .ok (.if_icmp .ne 7, 3) := dk_160 0 7 (dk_at dksX8_sortBy_0 13 rfl rfl)
theorem dX8_sortBy_16 : decode cX8_sortBy 16 = .ok (.iconst 1, 1) := dk_4 (dk_at dksX8_sortBy_0 16 rfl rfl)
theorem dX8_sortBy_17 : decode cX8_sortBy 17 = .ok (.goto 24, 3) := dk_167 0 24 (dk_at dksX8_sortBy_0 17 rfl rfl)
theorem dX8_sortBy_20 : decode cX8_sortBy 20 = .ok (.iload_n 0, 1) := dk_26 (dk_at dksX8_sortBy_0 20 rfl rfl)
theorem dX8_sortBy_21 : decode cX8_sortBy 21 = .ok (.bipush 104, 2) := dk_16 104 (dk_at dksX8_sortBy_0 21 rfl rfl)
theorem dX8_sortBy_23 : decode cX8_sortBy 23 = .ok (.if_icmp .ne 7, 3) := dk_160 0 7 (dk_at dksX8_sortBy_1 0 rfl rfl)
theorem dX8_sortBy_26 : decode cX8_sortBy 26 = .ok (.iconst 2, 1) := dk_5 (dk_at dksX8_sortBy_1 3 rfl rfl)
theorem dX8_sortBy_27 : decode cX8_sortBy 27 = .ok (.goto 14, 3) := dk_167 0 14 (dk_at dksX8_sortBy_1 4 rfl rfl)
theorem dX8_sortBy_30 : decode cX8_sortBy 30 = .ok (.iload_n 0, 1) := dk_26 (dk_at dksX8_sortBy_1 7 rfl rfl)
theorem dX8_sortBy_31 : decode cX8_sortBy 31 = .ok (.bipush 119, 2) := dk_16 119 (dk_at dksX8_sortBy_1 8 rfl rfl)
theorem dX8_sortBy_33 : decode cX8_sortBy 33 = .ok (.if_icmp .ne 7, 3) := dk_160 0 7 (dk_at dksX8_sortBy_1 10 rfl rfl)
theorem dX8_sortBy_36 : decode cX8_sortBy 36 = .ok (.iconst 3, 1) := dk_6 (dk_at dksX8_sortBy_1 13 rfl rfl)
theorem dX8_sortBy_37 : decode cX8_sortBy 37 = .ok (.goto 4, 3) := dk_167 0 4 (dk_at dksX8_sortBy_1 14 rfl rfl)
theorem dX8_sortBy_40 : decode cX8_sortBy 40 = .ok (.iconst (-1), 1) := dk_2 (dk_at dksX8_sortBy_1 17 rfl rfl)
theorem dX8_sortBy_41 : decode cX8_sortBy 41 = .ok (.ireturn, 1) := dk_172 (dk_at dksX8_sortBy_1 18 rfl rfl)
abbrev cX8_times : ByteArray := prog_26_method_134_code
def yX8_times : MethodName := ⟨RX8, "times", "()I"⟩
def dkwX8_times_1 : List UInt8 := [3, 60, 42, 89, 180, 1, 5, 27, 158, 0, 7, 4, 167, 0, 4, 3, 96, 181, 1, 5, 27, 172]
abbrev dktX8_times_1 : List UInt8 := dkwX8_times_1 ++ []
def dkwX8_times_0 : List UInt8 := [42, 182, 1, 8, 16, 49, 16, 57, 184, 0, 48, 153, 0, 13, 42, 182, 1, 8, 16, 48, 100, 167, 0, 4]
abbrev dktX8_times_0 : List UInt8 := dkwX8_times_0 ++ dktX8_times_1
theorem dksX8_times_0 : cX8_times.data.toList.drop 0 = dktX8_times_0 := by decide +kernel
theorem dksX8_times_1 : cX8_times.data.toList.drop 24 = dktX8_times_1 := dk_seg dksX8_times_0 24 rfl rfl
theorem dX8_times_0 : decode cX8_times 0 = .ok (.aload_n 0, 1) := dk_42 (dk_at dksX8_times_0 0 rfl rfl)
theorem dX8_times_1 : decode cX8_times 1 = .ok (.invokevirtual 264, 3) := dk_182 1 8 (dk_at dksX8_times_0 1 rfl rfl)
theorem dX8_times_4 : decode cX8_times 4 = .ok (.bipush 49, 2) := dk_16 49 (dk_at dksX8_times_0 4 rfl rfl)
theorem dX8_times_6 : decode cX8_times 6 = .ok (.bipush 57, 2) := dk_16 57 (dk_at dksX8_times_0 6 rfl rfl)
theorem dX8_times_8 : decode cX8_times 8 = .ok (.invokestatic 48, 3) := dk_184 0 48 (dk_at dksX8_times_0 8 rfl rfl)
theorem dX8_times_11 : decode cX8_times 11 = .ok (.ifCond .eq 13, 3) := dk_153 0 13 (dk_at dksX8_times_0 11 rfl rfl)
theorem dX8_times_14 : decode cX8_times 14 = .ok (.aload_n 0, 1) := dk_42 (dk_at dksX8_times_0 14 rfl rfl)
theorem dX8_times_15 : decode cX8_times 15 = .ok (.invokevirtual 264, 3) := dk_182 1 8 (dk_at dksX8_times_0 15 rfl rfl)
theorem dX8_times_18 : decode cX8_times 18 = .ok (.bipush 48, 2) := dk_16 48 (dk_at dksX8_times_0 18 rfl rfl)
theorem dX8_times_20 : decode cX8_times 20 = .ok (.isub, 1) := dk_100 (dk_at dksX8_times_0 20 rfl rfl)
theorem dX8_times_21 : decode cX8_times 21 = .ok (.goto 4, 3) := dk_167 0 4 (dk_at dksX8_times_0 21 rfl rfl)
theorem dX8_times_24 : decode cX8_times 24 = .ok (.iconst 0, 1) := dk_3 (dk_at dksX8_times_1 0 rfl rfl)
theorem dX8_times_25 : decode cX8_times 25 = .ok (.istore_n 1, 1) := dk_60 (dk_at dksX8_times_1 1 rfl rfl)
theorem dX8_times_26 : decode cX8_times 26 = .ok (.aload_n 0, 1) := dk_42 (dk_at dksX8_times_1 2 rfl rfl)
theorem dX8_times_27 : decode cX8_times 27 = .ok (.dup, 1) := dk_89 (dk_at dksX8_times_1 3 rfl rfl)
theorem dX8_times_28 : decode cX8_times 28 = .ok (.getfield 261, 3) := dk_180 1 5 (dk_at dksX8_times_1 4 rfl rfl)
theorem dX8_times_31 : decode cX8_times 31 = .ok (.iload_n 1, 1) := dk_27 (dk_at dksX8_times_1 7 rfl rfl)
theorem dX8_times_32 : decode cX8_times 32 = .ok (.ifCond .le 7, 3) := dk_158 0 7 (dk_at dksX8_times_1 8 rfl rfl)
theorem dX8_times_35 : decode cX8_times 35 = .ok (.iconst 1, 1) := dk_4 (dk_at dksX8_times_1 11 rfl rfl)
theorem dX8_times_36 : decode cX8_times 36 = .ok (.goto 4, 3) := dk_167 0 4 (dk_at dksX8_times_1 12 rfl rfl)
theorem dX8_times_39 : decode cX8_times 39 = .ok (.iconst 0, 1) := dk_3 (dk_at dksX8_times_1 15 rfl rfl)
theorem dX8_times_40 : decode cX8_times 40 = .ok (.iadd, 1) := dk_96 (dk_at dksX8_times_1 16 rfl rfl)
theorem dX8_times_41 : decode cX8_times 41 = .ok (.putfield 261, 3) := dk_181 1 5 (dk_at dksX8_times_1 17 rfl rfl)
theorem dX8_times_44 : decode cX8_times 44 = .ok (.iload_n 1, 1) := dk_27 (dk_at dksX8_times_1 20 rfl rfl)
theorem dX8_times_45 : decode cX8_times 45 = .ok (.ireturn, 1) := dk_172 (dk_at dksX8_times_1 21 rfl rfl)
abbrev cX8_closes : ByteArray := prog_26_method_136_code
def yX8_closes : MethodName := ⟨RX8, "closes", "(I)Z"⟩
def dkwX8_closes_2 : List UInt8 := [158, 0, 7, 4, 167, 0, 4, 3, 172]
abbrev dktX8_closes_2 : List UInt8 := dkwX8_closes_2 ++ []
def dkwX8_closes_1 : List UInt8 := [46, 28, 42, 180, 0, 34, 7, 27, 104, 29, 96, 46, 104, 96, 79, 132, 3, 1, 167, 255, 221, 28]
abbrev dktX8_closes_1 : List UInt8 := dkwX8_closes_1 ++ dktX8_closes_2
def dkwX8_closes_0 : List UInt8 := [42, 182, 1, 21, 61, 3, 62, 29, 7, 162, 0, 36, 42, 180, 0, 34, 7, 27, 4, 100, 104, 29, 96, 92]
abbrev dktX8_closes_0 : List UInt8 := dkwX8_closes_0 ++ dktX8_closes_1
theorem dksX8_closes_0 : cX8_closes.data.toList.drop 0 = dktX8_closes_0 := by decide +kernel
theorem dksX8_closes_1 : cX8_closes.data.toList.drop 24 = dktX8_closes_1 := dk_seg dksX8_closes_0 24 rfl rfl
theorem dksX8_closes_2 : cX8_closes.data.toList.drop 46 = dktX8_closes_2 := dk_seg dksX8_closes_1 22 rfl rfl
theorem dX8_closes_0 : decode cX8_closes 0 = .ok (.aload_n 0, 1) := dk_42 (dk_at dksX8_closes_0 0 rfl rfl)
theorem dX8_closes_1 : decode cX8_closes 1 = .ok (.invokevirtual 277, 3) := dk_182 1 21 (dk_at dksX8_closes_0 1 rfl rfl)
theorem dX8_closes_4 : decode cX8_closes 4 = .ok (.istore_n 2, 1) := dk_61 (dk_at dksX8_closes_0 4 rfl rfl)
theorem dX8_closes_5 : decode cX8_closes 5 = .ok (.iconst 0, 1) := dk_3 (dk_at dksX8_closes_0 5 rfl rfl)
theorem dX8_closes_6 : decode cX8_closes 6 = .ok (.istore_n 3, 1) := dk_62 (dk_at dksX8_closes_0 6 rfl rfl)
theorem dX8_closes_7 : decode cX8_closes 7 = .ok (.iload_n 3, 1) := dk_29 (dk_at dksX8_closes_0 7 rfl rfl)
theorem dX8_closes_8 : decode cX8_closes 8 = .ok (.iconst 4, 1) := dk_7 (dk_at dksX8_closes_0 8 rfl rfl)
theorem dX8_closes_9 : decode cX8_closes 9 = .ok (.if_icmp .ge 36, 3) := dk_162 0 36 (dk_at dksX8_closes_0 9 rfl rfl)
theorem dX8_closes_12 : decode cX8_closes 12 = .ok (.aload_n 0, 1) := dk_42 (dk_at dksX8_closes_0 12 rfl rfl)
theorem dX8_closes_13 : decode cX8_closes 13 = .ok (.getfield 34, 3) := dk_180 0 34 (dk_at dksX8_closes_0 13 rfl rfl)
theorem dX8_closes_16 : decode cX8_closes 16 = .ok (.iconst 4, 1) := dk_7 (dk_at dksX8_closes_0 16 rfl rfl)
theorem dX8_closes_17 : decode cX8_closes 17 = .ok (.iload_n 1, 1) := dk_27 (dk_at dksX8_closes_0 17 rfl rfl)
theorem dX8_closes_18 : decode cX8_closes 18 = .ok (.iconst 1, 1) := dk_4 (dk_at dksX8_closes_0 18 rfl rfl)
theorem dX8_closes_19 : decode cX8_closes 19 = .ok (.isub, 1) := dk_100 (dk_at dksX8_closes_0 19 rfl rfl)
theorem dX8_closes_20 : decode cX8_closes 20 = .ok (.imul, 1) := dk_104 (dk_at dksX8_closes_0 20 rfl rfl)
theorem dX8_closes_21 : decode cX8_closes 21 = .ok (.iload_n 3, 1) := dk_29 (dk_at dksX8_closes_0 21 rfl rfl)
theorem dX8_closes_22 : decode cX8_closes 22 = .ok (.iadd, 1) := dk_96 (dk_at dksX8_closes_0 22 rfl rfl)
theorem dX8_closes_23 : decode cX8_closes 23 = .ok (.dup2, 1) := dk_92 (dk_at dksX8_closes_0 23 rfl rfl)
theorem dX8_closes_24 : decode cX8_closes 24 = .ok (.iaload, 1) := dk_46 (dk_at dksX8_closes_1 0 rfl rfl)
theorem dX8_closes_25 : decode cX8_closes 25 = .ok (.iload_n 2, 1) := dk_28 (dk_at dksX8_closes_1 1 rfl rfl)
theorem dX8_closes_26 : decode cX8_closes 26 = .ok (.aload_n 0, 1) := dk_42 (dk_at dksX8_closes_1 2 rfl rfl)
theorem dX8_closes_27 : decode cX8_closes 27 = .ok (.getfield 34, 3) := dk_180 0 34 (dk_at dksX8_closes_1 3 rfl rfl)
theorem dX8_closes_30 : decode cX8_closes 30 = .ok (.iconst 4, 1) := dk_7 (dk_at dksX8_closes_1 6 rfl rfl)
theorem dX8_closes_31 : decode cX8_closes 31 = .ok (.iload_n 1, 1) := dk_27 (dk_at dksX8_closes_1 7 rfl rfl)
theorem dX8_closes_32 : decode cX8_closes 32 = .ok (.imul, 1) := dk_104 (dk_at dksX8_closes_1 8 rfl rfl)
theorem dX8_closes_33 : decode cX8_closes 33 = .ok (.iload_n 3, 1) := dk_29 (dk_at dksX8_closes_1 9 rfl rfl)
theorem dX8_closes_34 : decode cX8_closes 34 = .ok (.iadd, 1) := dk_96 (dk_at dksX8_closes_1 10 rfl rfl)
theorem dX8_closes_35 : decode cX8_closes 35 = .ok (.iaload, 1) := dk_46 (dk_at dksX8_closes_1 11 rfl rfl)
theorem dX8_closes_36 : decode cX8_closes 36 = .ok (.imul, 1) := dk_104 (dk_at dksX8_closes_1 12 rfl rfl)
theorem dX8_closes_37 : decode cX8_closes 37 = .ok (.iadd, 1) := dk_96 (dk_at dksX8_closes_1 13 rfl rfl)
theorem dX8_closes_38 : decode cX8_closes 38 = .ok (.iastore, 1) := dk_79 (dk_at dksX8_closes_1 14 rfl rfl)
theorem dX8_closes_39 : decode cX8_closes 39 = .ok (.iinc 3 1, 3) := dk_132 3 1 (dk_at dksX8_closes_1 15 rfl rfl)
theorem dX8_closes_42 : decode cX8_closes 42 = .ok (.goto (-35), 3) := dk_167 255 221 (dk_at dksX8_closes_1 18 rfl rfl)
theorem dX8_closes_45 : decode cX8_closes 45 = .ok (.iload_n 2, 1) := dk_28 (dk_at dksX8_closes_1 21 rfl rfl)
theorem dX8_closes_46 : decode cX8_closes 46 = .ok (.ifCond .le 7, 3) := dk_158 0 7 (dk_at dksX8_closes_2 0 rfl rfl)
theorem dX8_closes_49 : decode cX8_closes 49 = .ok (.iconst 1, 1) := dk_4 (dk_at dksX8_closes_2 3 rfl rfl)
theorem dX8_closes_50 : decode cX8_closes 50 = .ok (.goto 4, 3) := dk_167 0 4 (dk_at dksX8_closes_2 4 rfl rfl)
theorem dX8_closes_53 : decode cX8_closes 53 = .ok (.iconst 0, 1) := dk_3 (dk_at dksX8_closes_2 7 rfl rfl)
theorem dX8_closes_54 : decode cX8_closes 54 = .ok (.ireturn, 1) := dk_172 (dk_at dksX8_closes_2 8 rfl rfl)
abbrev cX8_isFigure : ByteArray := prog_26_method_131_code
def yX8_isFigure : MethodName := ⟨RX8, "isFigure", "(II)Z"⟩
def dkwX8_isFigure_1 : List UInt8 := [153, 0, 7, 4, 167, 0, 4, 3, 96, 181, 1, 5, 42, 27, 29, 182, 1, 14, 21, 4, 172]
abbrev dktX8_isFigure_1 : List UInt8 := dkwX8_isFigure_1 ++ []
def dkwX8_isFigure_0 : List UInt8 := [42, 182, 1, 8, 16, 48, 100, 62, 29, 3, 28, 184, 0, 48, 54, 4, 42, 89, 180, 1, 5, 21, 4]
abbrev dktX8_isFigure_0 : List UInt8 := dkwX8_isFigure_0 ++ dktX8_isFigure_1
theorem dksX8_isFigure_0 : cX8_isFigure.data.toList.drop 0 = dktX8_isFigure_0 := by decide +kernel
theorem dksX8_isFigure_1 : cX8_isFigure.data.toList.drop 23 = dktX8_isFigure_1 := dk_seg dksX8_isFigure_0 23 rfl rfl
theorem dX8_isFigure_0 : decode cX8_isFigure 0 = .ok (.aload_n 0, 1) := dk_42 (dk_at dksX8_isFigure_0 0 rfl rfl)
theorem dX8_isFigure_1 : decode cX8_isFigure 1 = .ok (.invokevirtual 264, 3) := dk_182 1 8 (dk_at dksX8_isFigure_0 1 rfl rfl)
theorem dX8_isFigure_4 : decode cX8_isFigure 4 = .ok (.bipush 48, 2) := dk_16 48 (dk_at dksX8_isFigure_0 4 rfl rfl)
theorem dX8_isFigure_6 : decode cX8_isFigure 6 = .ok (.isub, 1) := dk_100 (dk_at dksX8_isFigure_0 6 rfl rfl)
theorem dX8_isFigure_7 : decode cX8_isFigure 7 = .ok (.istore_n 3, 1) := dk_62 (dk_at dksX8_isFigure_0 7 rfl rfl)
theorem dX8_isFigure_8 : decode cX8_isFigure 8 = .ok (.iload_n 3, 1) := dk_29 (dk_at dksX8_isFigure_0 8 rfl rfl)
theorem dX8_isFigure_9 : decode cX8_isFigure 9 = .ok (.iconst 0, 1) := dk_3 (dk_at dksX8_isFigure_0 9 rfl rfl)
theorem dX8_isFigure_10 : decode cX8_isFigure 10 = .ok (.iload_n 2, 1) := dk_28 (dk_at dksX8_isFigure_0 10 rfl rfl)
theorem dX8_isFigure_11 : decode cX8_isFigure 11 = .ok (.invokestatic 48, 3) := dk_184 0 48 (dk_at dksX8_isFigure_0 11 rfl rfl)
theorem dX8_isFigure_14 : decode cX8_isFigure 14 = .ok (.istore 4, 2) := dk_54 4 (dk_at dksX8_isFigure_0 14 rfl rfl)
theorem dX8_isFigure_16 : decode cX8_isFigure 16 = .ok (.aload_n 0, 1) := dk_42 (dk_at dksX8_isFigure_0 16 rfl rfl)
theorem dX8_isFigure_17 : decode cX8_isFigure 17 = .ok (.dup, 1) := dk_89 (dk_at dksX8_isFigure_0 17 rfl rfl)
theorem dX8_isFigure_18 : decode cX8_isFigure 18 = .ok (.getfield 261, 3) := dk_180 1 5 (dk_at dksX8_isFigure_0 18 rfl rfl)
theorem dX8_isFigure_21 : decode cX8_isFigure 21 = .ok (.iload 4, 2) := dk_21 4 (dk_at dksX8_isFigure_0 21 rfl rfl)
theorem dX8_isFigure_23 : decode cX8_isFigure 23 = .ok (.ifCond .eq 7, 3) := dk_153 0 7 (dk_at dksX8_isFigure_1 0 rfl rfl)
theorem dX8_isFigure_26 : decode cX8_isFigure 26 = .ok (.iconst 1, 1) := dk_4 (dk_at dksX8_isFigure_1 3 rfl rfl)
theorem dX8_isFigure_27 : decode cX8_isFigure 27 = .ok (.goto 4, 3) := dk_167 0 4 (dk_at dksX8_isFigure_1 4 rfl rfl)
theorem dX8_isFigure_30 : decode cX8_isFigure 30 = .ok (.iconst 0, 1) := dk_3 (dk_at dksX8_isFigure_1 7 rfl rfl)
theorem dX8_isFigure_31 : decode cX8_isFigure 31 = .ok (.iadd, 1) := dk_96 (dk_at dksX8_isFigure_1 8 rfl rfl)
theorem dX8_isFigure_32 : decode cX8_isFigure 32 = .ok (.putfield 261, 3) := dk_181 1 5 (dk_at dksX8_isFigure_1 9 rfl rfl)
theorem dX8_isFigure_35 : decode cX8_isFigure 35 = .ok (.aload_n 0, 1) := dk_42 (dk_at dksX8_isFigure_1 12 rfl rfl)
theorem dX8_isFigure_36 : decode cX8_isFigure 36 = .ok (.iload_n 1, 1) := dk_27 (dk_at dksX8_isFigure_1 13 rfl rfl)
theorem dX8_isFigure_37 : decode cX8_isFigure 37 = .ok (.iload_n 3, 1) := dk_29 (dk_at dksX8_isFigure_1 14 rfl rfl)
theorem dX8_isFigure_38 : decode cX8_isFigure 38 = .ok (.invokevirtual 270, 3) := dk_182 1 14 (dk_at dksX8_isFigure_1 15 rfl rfl)
theorem dX8_isFigure_41 : decode cX8_isFigure 41 = .ok (.iload 4, 2) := dk_21 4 (dk_at dksX8_isFigure_1 18 rfl rfl)
theorem dX8_isFigure_43 : decode cX8_isFigure 43 = .ok (.ireturn, 1) := dk_172 (dk_at dksX8_isFigure_1 20 rfl rfl)
abbrev cX8_isSorted : ByteArray := prog_26_method_133_code
def yX8_isSorted : MethodName := ⟨RX8, "isSorted", "(I)Z"⟩
def dkwX8_isSorted_1 : List UInt8 := [181, 1, 5, 42, 27, 28, 182, 1, 14, 28, 2, 159, 0, 7, 4, 167, 0, 4, 3, 172]
abbrev dktX8_isSorted_1 : List UInt8 := dkwX8_isSorted_1 ++ []
def dkwX8_isSorted_0 : List UInt8 := [42, 182, 1, 8, 184, 1, 18, 61, 42, 89, 180, 1, 5, 28, 2, 160, 0, 7, 3, 167, 0, 4, 4, 96]
abbrev dktX8_isSorted_0 : List UInt8 := dkwX8_isSorted_0 ++ dktX8_isSorted_1
theorem dksX8_isSorted_0 : cX8_isSorted.data.toList.drop 0 = dktX8_isSorted_0 := by decide +kernel
theorem dksX8_isSorted_1 : cX8_isSorted.data.toList.drop 24 = dktX8_isSorted_1 := dk_seg dksX8_isSorted_0 24 rfl rfl
theorem dX8_isSorted_0 : decode cX8_isSorted 0 = .ok (.aload_n 0, 1) := dk_42 (dk_at dksX8_isSorted_0 0 rfl rfl)
theorem dX8_isSorted_1 : decode cX8_isSorted 1 = .ok (.invokevirtual 264, 3) := dk_182 1 8 (dk_at dksX8_isSorted_0 1 rfl rfl)
theorem dX8_isSorted_4 : decode cX8_isSorted 4 = .ok (.invokestatic 274, 3) := dk_184 1 18 (dk_at dksX8_isSorted_0 4 rfl rfl)
theorem dX8_isSorted_7 : decode cX8_isSorted 7 = .ok (.istore_n 2, 1) := dk_61 (dk_at dksX8_isSorted_0 7 rfl rfl)
theorem dX8_isSorted_8 : decode cX8_isSorted 8 = .ok (.aload_n 0, 1) := dk_42 (dk_at dksX8_isSorted_0 8 rfl rfl)
theorem dX8_isSorted_9 : decode cX8_isSorted 9 = .ok (.dup, 1) := dk_89 (dk_at dksX8_isSorted_0 9 rfl rfl)
theorem dX8_isSorted_10 : decode cX8_isSorted 10 = .ok (.getfield 261, 3) := dk_180 1 5 (dk_at dksX8_isSorted_0 10 rfl rfl)
theorem dX8_isSorted_13 : decode cX8_isSorted 13 = .ok (.iload_n 2, 1) := dk_28 (dk_at dksX8_isSorted_0 13 rfl rfl)
theorem dX8_isSorted_14 : decode cX8_isSorted 14 = .ok (.iconst (-1), 1) := dk_2 (dk_at dksX8_isSorted_0 14 rfl rfl)
theorem dX8_isSorted_15 : decode cX8_isSorted 15 = .ok (.if_icmp .ne 7, 3) := dk_160 0 7 (dk_at dksX8_isSorted_0 15 rfl rfl)
theorem dX8_isSorted_18 : decode cX8_isSorted 18 = .ok (.iconst 0, 1) := dk_3 (dk_at dksX8_isSorted_0 18 rfl rfl)
theorem dX8_isSorted_19 : decode cX8_isSorted 19 = .ok (.goto 4, 3) := dk_167 0 4 (dk_at dksX8_isSorted_0 19 rfl rfl)
theorem dX8_isSorted_22 : decode cX8_isSorted 22 = .ok (.iconst 1, 1) := dk_4 (dk_at dksX8_isSorted_0 22 rfl rfl)
theorem dX8_isSorted_23 : decode cX8_isSorted 23 = .ok (.iadd, 1) := dk_96 (dk_at dksX8_isSorted_0 23 rfl rfl)
theorem dX8_isSorted_24 : decode cX8_isSorted 24 = .ok (.putfield 261, 3) := dk_181 1 5 (dk_at dksX8_isSorted_1 0 rfl rfl)
theorem dX8_isSorted_27 : decode cX8_isSorted 27 = .ok (.aload_n 0, 1) := dk_42 (dk_at dksX8_isSorted_1 3 rfl rfl)
theorem dX8_isSorted_28 : decode cX8_isSorted 28 = .ok (.iload_n 1, 1) := dk_27 (dk_at dksX8_isSorted_1 4 rfl rfl)
theorem dX8_isSorted_29 : decode cX8_isSorted 29 = .ok (.iload_n 2, 1) := dk_28 (dk_at dksX8_isSorted_1 5 rfl rfl)
theorem dX8_isSorted_30 : decode cX8_isSorted 30 = .ok (.invokevirtual 270, 3) := dk_182 1 14 (dk_at dksX8_isSorted_1 6 rfl rfl)
theorem dX8_isSorted_33 : decode cX8_isSorted 33 = .ok (.iload_n 2, 1) := dk_28 (dk_at dksX8_isSorted_1 9 rfl rfl)
theorem dX8_isSorted_34 : decode cX8_isSorted 34 = .ok (.iconst (-1), 1) := dk_2 (dk_at dksX8_isSorted_1 10 rfl rfl)
theorem dX8_isSorted_35 : decode cX8_isSorted 35 = .ok (.if_icmp .eq 7, 3) := dk_159 0 7 (dk_at dksX8_isSorted_1 11 rfl rfl)
theorem dX8_isSorted_38 : decode cX8_isSorted 38 = .ok (.iconst 1, 1) := dk_4 (dk_at dksX8_isSorted_1 14 rfl rfl)
theorem dX8_isSorted_39 : decode cX8_isSorted 39 = .ok (.goto 4, 3) := dk_167 0 4 (dk_at dksX8_isSorted_1 15 rfl rfl)
theorem dX8_isSorted_42 : decode cX8_isSorted 42 = .ok (.iconst 0, 1) := dk_3 (dk_at dksX8_isSorted_1 18 rfl rfl)
theorem dX8_isSorted_43 : decode cX8_isSorted 43 = .ok (.ireturn, 1) := dk_172 (dk_at dksX8_isSorted_1 19 rfl rfl)
abbrev cX8_isNumber : ByteArray := prog_26_method_130_code
def yX8_isNumber : MethodName := ⟨RX8, "isNumber", "(III)Z"⟩
def dkwX8_isNumber_5 : List UInt8 := [21, 5, 182, 1, 14, 21, 5, 28, 161, 0, 7, 4, 167, 0, 4, 3, 172]
abbrev dktX8_isNumber_5 : List UInt8 := dkwX8_isNumber_5 ++ []
def dkwX8_isNumber_4 : List UInt8 := [182, 1, 8, 96, 16, 48, 100, 54, 5, 42, 89, 180, 1, 5, 4, 96, 181, 1, 5, 167, 255, 195, 42, 27]
abbrev dktX8_isNumber_4 : List UInt8 := dkwX8_isNumber_4 ++ dktX8_isNumber_5
def dkwX8_isNumber_3 : List UInt8 := [16, 10, 21, 5, 104, 42, 182, 1, 8, 96, 16, 48, 100, 29, 163, 0, 31, 16, 10, 21, 5, 104, 42]
abbrev dktX8_isNumber_3 : List UInt8 := dkwX8_isNumber_3 ++ dktX8_isNumber_4
def dkwX8_isNumber_2 : List UInt8 := [96, 181, 1, 5, 21, 5, 158, 0, 62, 42, 182, 1, 8, 16, 48, 16, 57, 184, 0, 48, 153, 0, 48]
abbrev dktX8_isNumber_2 : List UInt8 := dkwX8_isNumber_2 ++ dktX8_isNumber_3
def dkwX8_isNumber_1 : List UInt8 := [184, 0, 48, 153, 0, 9, 21, 4, 29, 164, 0, 5, 3, 172, 21, 4, 54, 5, 42, 89, 180, 1, 5, 4]
abbrev dktX8_isNumber_1 : List UInt8 := dkwX8_isNumber_1 ++ dktX8_isNumber_2
def dkwX8_isNumber_0 : List UInt8 := [42, 182, 1, 8, 16, 48, 100, 54, 4, 21, 4, 28, 158, 0, 7, 4, 167, 0, 4, 3, 16, 9]
abbrev dktX8_isNumber_0 : List UInt8 := dkwX8_isNumber_0 ++ dktX8_isNumber_1
theorem dksX8_isNumber_0 : cX8_isNumber.data.toList.drop 0 = dktX8_isNumber_0 := by decide +kernel
theorem dksX8_isNumber_1 : cX8_isNumber.data.toList.drop 22 = dktX8_isNumber_1 := dk_seg dksX8_isNumber_0 22 rfl rfl
theorem dksX8_isNumber_2 : cX8_isNumber.data.toList.drop 46 = dktX8_isNumber_2 := dk_seg dksX8_isNumber_1 24 rfl rfl
theorem dksX8_isNumber_3 : cX8_isNumber.data.toList.drop 69 = dktX8_isNumber_3 := dk_seg dksX8_isNumber_2 23 rfl rfl
theorem dksX8_isNumber_4 : cX8_isNumber.data.toList.drop 92 = dktX8_isNumber_4 := dk_seg dksX8_isNumber_3 23 rfl rfl
theorem dksX8_isNumber_5 : cX8_isNumber.data.toList.drop 116 = dktX8_isNumber_5 := dk_seg dksX8_isNumber_4 24 rfl rfl
theorem dX8_isNumber_0 : decode cX8_isNumber 0 = .ok (.aload_n 0, 1) := dk_42 (dk_at dksX8_isNumber_0 0 rfl rfl)
theorem dX8_isNumber_1 : decode cX8_isNumber 1 = .ok (.invokevirtual 264, 3) := dk_182 1 8 (dk_at dksX8_isNumber_0 1 rfl rfl)
theorem dX8_isNumber_4 : decode cX8_isNumber 4 = .ok (.bipush 48, 2) := dk_16 48 (dk_at dksX8_isNumber_0 4 rfl rfl)
theorem dX8_isNumber_6 : decode cX8_isNumber 6 = .ok (.isub, 1) := dk_100 (dk_at dksX8_isNumber_0 6 rfl rfl)
theorem dX8_isNumber_7 : decode cX8_isNumber 7 = .ok (.istore 4, 2) := dk_54 4 (dk_at dksX8_isNumber_0 7 rfl rfl)
theorem dX8_isNumber_9 : decode cX8_isNumber 9 = .ok (.iload 4, 2) := dk_21 4 (dk_at dksX8_isNumber_0 9 rfl rfl)
theorem dX8_isNumber_11 : decode cX8_isNumber 11 = .ok (.iload_n 2, 1) := dk_28 (dk_at dksX8_isNumber_0 11 rfl rfl)
theorem dX8_isNumber_12 : decode cX8_isNumber 12 = .ok (.ifCond .le 7, 3) := dk_158 0 7 (dk_at dksX8_isNumber_0 12 rfl rfl)
theorem dX8_isNumber_15 : decode cX8_isNumber 15 = .ok (.iconst 1, 1) := dk_4 (dk_at dksX8_isNumber_0 15 rfl rfl)
theorem dX8_isNumber_16 : decode cX8_isNumber 16 = .ok (.goto 4, 3) := dk_167 0 4 (dk_at dksX8_isNumber_0 16 rfl rfl)
theorem dX8_isNumber_19 : decode cX8_isNumber 19 = .ok (.iconst 0, 1) := dk_3 (dk_at dksX8_isNumber_0 19 rfl rfl)
theorem dX8_isNumber_20 : decode cX8_isNumber 20 = .ok (.bipush 9, 2) := dk_16 9 (dk_at dksX8_isNumber_0 20 rfl rfl)
theorem dX8_isNumber_22 : decode cX8_isNumber 22 = .ok (.invokestatic 48, 3) := dk_184 0 48 (dk_at dksX8_isNumber_1 0 rfl rfl)
theorem dX8_isNumber_25 : decode cX8_isNumber 25 = .ok (.ifCond .eq 9, 3) := dk_153 0 9 (dk_at dksX8_isNumber_1 3 rfl rfl)
theorem dX8_isNumber_28 : decode cX8_isNumber 28 = .ok (.iload 4, 2) := dk_21 4 (dk_at dksX8_isNumber_1 6 rfl rfl)
theorem dX8_isNumber_30 : decode cX8_isNumber 30 = .ok (.iload_n 3, 1) := dk_29 (dk_at dksX8_isNumber_1 8 rfl rfl)
theorem dX8_isNumber_31 : decode cX8_isNumber 31 = .ok (.if_icmp .le 5, 3) := dk_164 0 5 (dk_at dksX8_isNumber_1 9 rfl rfl)
theorem dX8_isNumber_34 : decode cX8_isNumber 34 = .ok (.iconst 0, 1) := dk_3 (dk_at dksX8_isNumber_1 12 rfl rfl)
theorem dX8_isNumber_35 : decode cX8_isNumber 35 = .ok (.ireturn, 1) := dk_172 (dk_at dksX8_isNumber_1 13 rfl rfl)
theorem dX8_isNumber_36 : decode cX8_isNumber 36 = .ok (.iload 4, 2) := dk_21 4 (dk_at dksX8_isNumber_1 14 rfl rfl)
theorem dX8_isNumber_38 : decode cX8_isNumber 38 = .ok (.istore 5, 2) := dk_54 5 (dk_at dksX8_isNumber_1 16 rfl rfl)
theorem dX8_isNumber_40 : decode cX8_isNumber 40 = .ok (.aload_n 0, 1) := dk_42 (dk_at dksX8_isNumber_1 18 rfl rfl)
theorem dX8_isNumber_41 : decode cX8_isNumber 41 = .ok (.dup, 1) := dk_89 (dk_at dksX8_isNumber_1 19 rfl rfl)
theorem dX8_isNumber_42 : decode cX8_isNumber 42 = .ok (.getfield 261, 3) := dk_180 1 5 (dk_at dksX8_isNumber_1 20 rfl rfl)
theorem dX8_isNumber_45 : decode cX8_isNumber 45 = .ok (.iconst 1, 1) := dk_4 (dk_at dksX8_isNumber_1 23 rfl rfl)
theorem dX8_isNumber_46 : decode cX8_isNumber 46 = .ok (.iadd, 1) := dk_96 (dk_at dksX8_isNumber_2 0 rfl rfl)
theorem dX8_isNumber_47 : decode cX8_isNumber 47 = .ok (.putfield 261, 3) := dk_181 1 5 (dk_at dksX8_isNumber_2 1 rfl rfl)
theorem dX8_isNumber_50 : decode cX8_isNumber 50 = .ok (.iload 5, 2) := dk_21 5 (dk_at dksX8_isNumber_2 4 rfl rfl)
theorem dX8_isNumber_52 : decode cX8_isNumber 52 = .ok (.ifCond .le 62, 3) := dk_158 0 62 (dk_at dksX8_isNumber_2 6 rfl rfl)
theorem dX8_isNumber_55 : decode cX8_isNumber 55 = .ok (.aload_n 0, 1) := dk_42 (dk_at dksX8_isNumber_2 9 rfl rfl)
theorem dX8_isNumber_56 : decode cX8_isNumber 56 = .ok (.invokevirtual 264, 3) := dk_182 1 8 (dk_at dksX8_isNumber_2 10 rfl rfl)
theorem dX8_isNumber_59 : decode cX8_isNumber 59 = .ok (.bipush 48, 2) := dk_16 48 (dk_at dksX8_isNumber_2 13 rfl rfl)
theorem dX8_isNumber_61 : decode cX8_isNumber 61 = .ok (.bipush 57, 2) := dk_16 57 (dk_at dksX8_isNumber_2 15 rfl rfl)
theorem dX8_isNumber_63 : decode cX8_isNumber 63 = .ok (.invokestatic 48, 3) := dk_184 0 48 (dk_at dksX8_isNumber_2 17 rfl rfl)
theorem dX8_isNumber_66 : decode cX8_isNumber 66 = .ok (.ifCond .eq 48, 3) := dk_153 0 48 (dk_at dksX8_isNumber_2 20 rfl rfl)
theorem dX8_isNumber_69 : decode cX8_isNumber 69 = .ok (.bipush 10, 2) := dk_16 10 (dk_at dksX8_isNumber_3 0 rfl rfl)
theorem dX8_isNumber_71 : decode cX8_isNumber 71 = .ok (.iload 5, 2) := dk_21 5 (dk_at dksX8_isNumber_3 2 rfl rfl)
theorem dX8_isNumber_73 : decode cX8_isNumber 73 = .ok (.imul, 1) := dk_104 (dk_at dksX8_isNumber_3 4 rfl rfl)
theorem dX8_isNumber_74 : decode cX8_isNumber 74 = .ok (.aload_n 0, 1) := dk_42 (dk_at dksX8_isNumber_3 5 rfl rfl)
theorem dX8_isNumber_75 : decode cX8_isNumber 75 = .ok (.invokevirtual 264, 3) := dk_182 1 8 (dk_at dksX8_isNumber_3 6 rfl rfl)
theorem dX8_isNumber_78 : decode cX8_isNumber 78 = .ok (.iadd, 1) := dk_96 (dk_at dksX8_isNumber_3 9 rfl rfl)
theorem dX8_isNumber_79 : decode cX8_isNumber 79 = .ok (.bipush 48, 2) := dk_16 48 (dk_at dksX8_isNumber_3 10 rfl rfl)
theorem dX8_isNumber_81 : decode cX8_isNumber 81 = .ok (.isub, 1) := dk_100 (dk_at dksX8_isNumber_3 12 rfl rfl)
theorem dX8_isNumber_82 : decode cX8_isNumber 82 = .ok (.iload_n 3, 1) := dk_29 (dk_at dksX8_isNumber_3 13 rfl rfl)
theorem dX8_isNumber_83 : decode cX8_isNumber 83 = .ok (.if_icmp .gt 31, 3) := dk_163 0 31 (dk_at dksX8_isNumber_3 14 rfl rfl)
theorem dX8_isNumber_86 : decode cX8_isNumber 86 = .ok (.bipush 10, 2) := dk_16 10 (dk_at dksX8_isNumber_3 17 rfl rfl)
theorem dX8_isNumber_88 : decode cX8_isNumber 88 = .ok (.iload 5, 2) := dk_21 5 (dk_at dksX8_isNumber_3 19 rfl rfl)
theorem dX8_isNumber_90 : decode cX8_isNumber 90 = .ok (.imul, 1) := dk_104 (dk_at dksX8_isNumber_3 21 rfl rfl)
theorem dX8_isNumber_91 : decode cX8_isNumber 91 = .ok (.aload_n 0, 1) := dk_42 (dk_at dksX8_isNumber_3 22 rfl rfl)
theorem dX8_isNumber_92 : decode cX8_isNumber 92 = .ok (.invokevirtual 264, 3) := dk_182 1 8 (dk_at dksX8_isNumber_4 0 rfl rfl)
theorem dX8_isNumber_95 : decode cX8_isNumber 95 = .ok (.iadd, 1) := dk_96 (dk_at dksX8_isNumber_4 3 rfl rfl)
theorem dX8_isNumber_96 : decode cX8_isNumber 96 = .ok (.bipush 48, 2) := dk_16 48 (dk_at dksX8_isNumber_4 4 rfl rfl)
theorem dX8_isNumber_98 : decode cX8_isNumber 98 = .ok (.isub, 1) := dk_100 (dk_at dksX8_isNumber_4 6 rfl rfl)
theorem dX8_isNumber_99 : decode cX8_isNumber 99 = .ok (.istore 5, 2) := dk_54 5 (dk_at dksX8_isNumber_4 7 rfl rfl)
theorem dX8_isNumber_101 : decode cX8_isNumber 101 = .ok (.aload_n 0, 1) := dk_42 (dk_at dksX8_isNumber_4 9 rfl rfl)
theorem dX8_isNumber_102 : decode cX8_isNumber 102 = .ok (.dup, 1) := dk_89 (dk_at dksX8_isNumber_4 10 rfl rfl)
theorem dX8_isNumber_103 : decode cX8_isNumber 103 = .ok (.getfield 261, 3) := dk_180 1 5 (dk_at dksX8_isNumber_4 11 rfl rfl)
theorem dX8_isNumber_106 : decode cX8_isNumber 106 = .ok (.iconst 1, 1) := dk_4 (dk_at dksX8_isNumber_4 14 rfl rfl)
theorem dX8_isNumber_107 : decode cX8_isNumber 107 = .ok (.iadd, 1) := dk_96 (dk_at dksX8_isNumber_4 15 rfl rfl)
theorem dX8_isNumber_108 : decode cX8_isNumber 108 = .ok (.putfield 261, 3) := dk_181 1 5 (dk_at dksX8_isNumber_4 16 rfl rfl)
theorem dX8_isNumber_111 : decode cX8_isNumber 111 = .ok (.goto (-61), 3) := dk_167 255 195 (dk_at dksX8_isNumber_4 19 rfl rfl)
theorem dX8_isNumber_114 : decode cX8_isNumber 114 = .ok (.aload_n 0, 1) := dk_42 (dk_at dksX8_isNumber_4 22 rfl rfl)
theorem dX8_isNumber_115 : decode cX8_isNumber 115 = .ok (.iload_n 1, 1) := dk_27 (dk_at dksX8_isNumber_4 23 rfl rfl)
theorem dX8_isNumber_116 : decode cX8_isNumber 116 = .ok (.iload 5, 2) := dk_21 5 (dk_at dksX8_isNumber_5 0 rfl rfl)
theorem dX8_isNumber_118 : decode cX8_isNumber 118 = .ok (.invokevirtual 270, 3) := dk_182 1 14 (dk_at dksX8_isNumber_5 2 rfl rfl)
theorem dX8_isNumber_121 : decode cX8_isNumber 121 = .ok (.iload 5, 2) := dk_21 5 (dk_at dksX8_isNumber_5 5 rfl rfl)
theorem dX8_isNumber_123 : decode cX8_isNumber 123 = .ok (.iload_n 2, 1) := dk_28 (dk_at dksX8_isNumber_5 7 rfl rfl)
theorem dX8_isNumber_124 : decode cX8_isNumber 124 = .ok (.if_icmp .lt 7, 3) := dk_161 0 7 (dk_at dksX8_isNumber_5 8 rfl rfl)
theorem dX8_isNumber_127 : decode cX8_isNumber 127 = .ok (.iconst 1, 1) := dk_4 (dk_at dksX8_isNumber_5 11 rfl rfl)
theorem dX8_isNumber_128 : decode cX8_isNumber 128 = .ok (.goto 4, 3) := dk_167 0 4 (dk_at dksX8_isNumber_5 12 rfl rfl)
theorem dX8_isNumber_131 : decode cX8_isNumber 131 = .ok (.iconst 0, 1) := dk_3 (dk_at dksX8_isNumber_5 15 rfl rfl)
theorem dX8_isNumber_132 : decode cX8_isNumber 132 = .ok (.ireturn, 1) := dk_172 (dk_at dksX8_isNumber_5 16 rfl rfl)
abbrev cX8_runText : ByteArray := prog_26_method_143_code
def yX8_runText : MethodName := ⟨RX8, "runText", "()I"⟩
def dkwX8_runText_2 : List UInt8 := [132, 1, 1, 167, 255, 237, 27, 172]
abbrev dktX8_runText_2 : List UInt8 := dkwX8_runText_2 ++ []
def dkwX8_runText_1 : List UInt8 := [172, 42, 182, 0, 151, 3, 60, 27, 42, 180, 1, 11, 162, 0, 17, 42, 27, 182, 1, 55, 153, 0, 9]
abbrev dktX8_runText_1 : List UInt8 := dkwX8_runText_1 ++ dktX8_runText_2
def dkwX8_runText_0 : List UInt8 := [42, 42, 182, 1, 52, 153, 0, 7, 3, 167, 0, 4, 4, 181, 0, 37, 42, 180, 0, 37, 158, 0, 5, 3]
abbrev dktX8_runText_0 : List UInt8 := dkwX8_runText_0 ++ dktX8_runText_1
theorem dksX8_runText_0 : cX8_runText.data.toList.drop 0 = dktX8_runText_0 := by decide +kernel
theorem dksX8_runText_1 : cX8_runText.data.toList.drop 24 = dktX8_runText_1 := dk_seg dksX8_runText_0 24 rfl rfl
theorem dksX8_runText_2 : cX8_runText.data.toList.drop 47 = dktX8_runText_2 := dk_seg dksX8_runText_1 23 rfl rfl
theorem dX8_runText_0 : decode cX8_runText 0 = .ok (.aload_n 0, 1) := dk_42 (dk_at dksX8_runText_0 0 rfl rfl)
theorem dX8_runText_1 : decode cX8_runText 1 = .ok (.aload_n 0, 1) := dk_42 (dk_at dksX8_runText_0 1 rfl rfl)
theorem dX8_runText_2 : decode cX8_runText 2 = .ok (.invokevirtual 308, 3) := dk_182 1 52 (dk_at dksX8_runText_0 2 rfl rfl)
theorem dX8_runText_5 : decode cX8_runText 5 = .ok (.ifCond .eq 7, 3) := dk_153 0 7 (dk_at dksX8_runText_0 5 rfl rfl)
theorem dX8_runText_8 : decode cX8_runText 8 = .ok (.iconst 0, 1) := dk_3 (dk_at dksX8_runText_0 8 rfl rfl)
theorem dX8_runText_9 : decode cX8_runText 9 = .ok (.goto 4, 3) := dk_167 0 4 (dk_at dksX8_runText_0 9 rfl rfl)
theorem dX8_runText_12 : decode cX8_runText 12 = .ok (.iconst 1, 1) := dk_4 (dk_at dksX8_runText_0 12 rfl rfl)
theorem dX8_runText_13 : decode cX8_runText 13 = .ok (.putfield 37, 3) := dk_181 0 37 (dk_at dksX8_runText_0 13 rfl rfl)
theorem dX8_runText_16 : decode cX8_runText 16 = .ok (.aload_n 0, 1) := dk_42 (dk_at dksX8_runText_0 16 rfl rfl)
theorem dX8_runText_17 : decode cX8_runText 17 = .ok (.getfield 37, 3) := dk_180 0 37 (dk_at dksX8_runText_0 17 rfl rfl)
theorem dX8_runText_20 : decode cX8_runText 20 = .ok (.ifCond .le 5, 3) := dk_158 0 5 (dk_at dksX8_runText_0 20 rfl rfl)
theorem dX8_runText_23 : decode cX8_runText 23 = .ok (.iconst 0, 1) := dk_3 (dk_at dksX8_runText_0 23 rfl rfl)
theorem dX8_runText_24 : decode cX8_runText 24 = .ok (.ireturn, 1) := dk_172 (dk_at dksX8_runText_1 0 rfl rfl)
theorem dX8_runText_25 : decode cX8_runText 25 = .ok (.aload_n 0, 1) := dk_42 (dk_at dksX8_runText_1 1 rfl rfl)
theorem dX8_runText_26 : decode cX8_runText 26 = .ok (.invokevirtual 151, 3) := dk_182 0 151 (dk_at dksX8_runText_1 2 rfl rfl)
theorem dX8_runText_29 : decode cX8_runText 29 = .ok (.iconst 0, 1) := dk_3 (dk_at dksX8_runText_1 5 rfl rfl)
theorem dX8_runText_30 : decode cX8_runText 30 = .ok (.istore_n 1, 1) := dk_60 (dk_at dksX8_runText_1 6 rfl rfl)
theorem dX8_runText_31 : decode cX8_runText 31 = .ok (.iload_n 1, 1) := dk_27 (dk_at dksX8_runText_1 7 rfl rfl)
theorem dX8_runText_32 : decode cX8_runText 32 = .ok (.aload_n 0, 1) := dk_42 (dk_at dksX8_runText_1 8 rfl rfl)
theorem dX8_runText_33 : decode cX8_runText 33 = .ok (.getfield 267, 3) := dk_180 1 11 (dk_at dksX8_runText_1 9 rfl rfl)
theorem dX8_runText_36 : decode cX8_runText 36 = .ok (.if_icmp .ge 17, 3) := dk_162 0 17 (dk_at dksX8_runText_1 12 rfl rfl)
theorem dX8_runText_39 : decode cX8_runText 39 = .ok (.aload_n 0, 1) := dk_42 (dk_at dksX8_runText_1 15 rfl rfl)
theorem dX8_runText_40 : decode cX8_runText 40 = .ok (.iload_n 1, 1) := dk_27 (dk_at dksX8_runText_1 16 rfl rfl)
theorem dX8_runText_41 : decode cX8_runText 41 = .ok (.invokevirtual 311, 3) := dk_182 1 55 (dk_at dksX8_runText_1 17 rfl rfl)
theorem dX8_runText_44 : decode cX8_runText 44 = .ok (.ifCond .eq 9, 3) := dk_153 0 9 (dk_at dksX8_runText_1 20 rfl rfl)
theorem dX8_runText_47 : decode cX8_runText 47 = .ok (.iinc 1 1, 3) := dk_132 1 1 (dk_at dksX8_runText_2 0 rfl rfl)
theorem dX8_runText_50 : decode cX8_runText 50 = .ok (.goto (-19), 3) := dk_167 255 237 (dk_at dksX8_runText_2 3 rfl rfl)
theorem dX8_runText_53 : decode cX8_runText 53 = .ok (.iload_n 1, 1) := dk_27 (dk_at dksX8_runText_2 6 rfl rfl)
theorem dX8_runText_54 : decode cX8_runText 54 = .ok (.ireturn, 1) := dk_172 (dk_at dksX8_runText_2 7 rfl rfl)
abbrev cX8_isDone : ByteArray := prog_26_method_142_code
def yX8_isDone : MethodName := ⟨RX8, "isDone", "(I)Z"⟩
def dkwX8_isDone_11 : List UInt8 := [167, 0, 4, 3, 172]
abbrev dktX8_isDone_11 : List UInt8 := dkwX8_isDone_11 ++ []
def dkwX8_isDone_10 : List UInt8 := [4, 167, 0, 4, 3, 172, 42, 28, 182, 0, 225, 153, 0, 15, 42, 28, 182, 0, 228, 155, 0, 7, 4]
abbrev dktX8_isDone_10 : List UInt8 := dkwX8_isDone_10 ++ dktX8_isDone_11
def dkwX8_isDone_9 : List UInt8 := [3, 172, 42, 28, 29, 21, 4, 182, 0, 192, 154, 0, 18, 42, 28, 29, 21, 4, 182, 0, 195, 155, 0, 7]
abbrev dktX8_isDone_9 : List UInt8 := dkwX8_isDone_9 ++ dktX8_isDone_10
def dkwX8_isDone_8 : List UInt8 := [3, 172, 42, 28, 29, 182, 0, 176, 153, 0, 16, 42, 28, 29, 182, 0, 180, 158, 0, 7, 4, 167, 0, 4]
abbrev dktX8_isDone_8 : List UInt8 := dkwX8_isDone_8 ++ dktX8_isDone_9
def dkwX8_isDone_7 : List UInt8 := [3, 172, 42, 28, 29, 182, 0, 170, 154, 0, 16, 42, 28, 29, 182, 0, 173, 158, 0, 7, 4, 167, 0, 4]
abbrev dktX8_isDone_7 : List UInt8 := dkwX8_isDone_7 ++ dktX8_isDone_8
def dkwX8_isDone_6 : List UInt8 := [182, 0, 147, 154, 0, 21, 42, 28, 29, 21, 4, 21, 5, 182, 0, 154, 2, 161, 0, 7, 4, 167, 0, 4]
abbrev dktX8_isDone_6 : List UInt8 := dkwX8_isDone_6 ++ dktX8_isDone_7
def dkwX8_isDone_5 : List UInt8 := [27, 104, 4, 96, 21, 6, 96, 46, 79, 132, 6, 1, 167, 255, 223, 4, 172, 42, 28, 21, 4, 21, 5]
abbrev dktX8_isDone_5 : List UInt8 := dkwX8_isDone_5 ++ dktX8_isDone_6
def dkwX8_isDone_4 : List UInt8 := [3, 54, 6, 21, 6, 8, 162, 0, 33, 42, 180, 0, 7, 16, 8, 21, 6, 96, 42, 180, 0, 31, 16, 6]
abbrev dktX8_isDone_4 : List UInt8 := dkwX8_isDone_4 ++ dktX8_isDone_5
def dkwX8_isDone_3 : List UInt8 := [171, 0, 0, 0, 198, 0, 0, 0, 5, 0, 0, 0, 61, 0, 0, 0, 49, 0, 0, 0, 98, 0, 0, 0, 122, 0, 0, 0, 100, 0, 0, 0, 90, 0, 0, 0, 109, 0, 0, 0, 170, 0, 0, 0, 115, 0, 0, 0, 146]
abbrev dktX8_isDone_3 : List UInt8 := dkwX8_isDone_3 ++ dktX8_isDone_4
def dkwX8_isDone_2 : List UInt8 := [54, 5, 42, 180, 0, 31, 16, 6, 27, 104, 46]
abbrev dktX8_isDone_2 : List UInt8 := dkwX8_isDone_2 ++ dktX8_isDone_3
def dkwX8_isDone_1 : List UInt8 := [42, 180, 0, 31, 16, 6, 27, 104, 6, 96, 46, 54, 4, 42, 180, 0, 31, 16, 6, 27, 104, 7, 96, 46]
abbrev dktX8_isDone_1 : List UInt8 := dkwX8_isDone_1 ++ dktX8_isDone_2
def dkwX8_isDone_0 : List UInt8 := [42, 180, 0, 31, 16, 6, 27, 104, 4, 96, 46, 61, 42, 180, 0, 31, 16, 6, 27, 104, 5, 96, 46, 62]
abbrev dktX8_isDone_0 : List UInt8 := dkwX8_isDone_0 ++ dktX8_isDone_1
theorem dksX8_isDone_0 : cX8_isDone.data.toList.drop 0 = dktX8_isDone_0 := by decide +kernel
theorem dksX8_isDone_1 : cX8_isDone.data.toList.drop 24 = dktX8_isDone_1 := dk_seg dksX8_isDone_0 24 rfl rfl
theorem dksX8_isDone_2 : cX8_isDone.data.toList.drop 48 = dktX8_isDone_2 := dk_seg dksX8_isDone_1 24 rfl rfl
theorem dksX8_isDone_3 : cX8_isDone.data.toList.drop 59 = dktX8_isDone_3 := dk_seg dksX8_isDone_2 11 rfl rfl
theorem dksX8_isDone_4 : cX8_isDone.data.toList.drop 108 = dktX8_isDone_4 := dk_seg dksX8_isDone_3 49 rfl rfl
theorem dksX8_isDone_5 : cX8_isDone.data.toList.drop 132 = dktX8_isDone_5 := dk_seg dksX8_isDone_4 24 rfl rfl
theorem dksX8_isDone_6 : cX8_isDone.data.toList.drop 155 = dktX8_isDone_6 := dk_seg dksX8_isDone_5 23 rfl rfl
theorem dksX8_isDone_7 : cX8_isDone.data.toList.drop 179 = dktX8_isDone_7 := dk_seg dksX8_isDone_6 24 rfl rfl
theorem dksX8_isDone_8 : cX8_isDone.data.toList.drop 203 = dktX8_isDone_8 := dk_seg dksX8_isDone_7 24 rfl rfl
theorem dksX8_isDone_9 : cX8_isDone.data.toList.drop 227 = dktX8_isDone_9 := dk_seg dksX8_isDone_8 24 rfl rfl
theorem dksX8_isDone_10 : cX8_isDone.data.toList.drop 251 = dktX8_isDone_10 := dk_seg dksX8_isDone_9 24 rfl rfl
theorem dksX8_isDone_11 : cX8_isDone.data.toList.drop 274 = dktX8_isDone_11 := dk_seg dksX8_isDone_10 23 rfl rfl
theorem dX8_isDone_0 : decode cX8_isDone 0 = .ok (.aload_n 0, 1) := dk_42 (dk_at dksX8_isDone_0 0 rfl rfl)
theorem dX8_isDone_1 : decode cX8_isDone 1 = .ok (.getfield 31, 3) := dk_180 0 31 (dk_at dksX8_isDone_0 1 rfl rfl)
theorem dX8_isDone_4 : decode cX8_isDone 4 = .ok (.bipush 6, 2) := dk_16 6 (dk_at dksX8_isDone_0 4 rfl rfl)
theorem dX8_isDone_6 : decode cX8_isDone 6 = .ok (.iload_n 1, 1) := dk_27 (dk_at dksX8_isDone_0 6 rfl rfl)
theorem dX8_isDone_7 : decode cX8_isDone 7 = .ok (.imul, 1) := dk_104 (dk_at dksX8_isDone_0 7 rfl rfl)
theorem dX8_isDone_8 : decode cX8_isDone 8 = .ok (.iconst 1, 1) := dk_4 (dk_at dksX8_isDone_0 8 rfl rfl)
theorem dX8_isDone_9 : decode cX8_isDone 9 = .ok (.iadd, 1) := dk_96 (dk_at dksX8_isDone_0 9 rfl rfl)
theorem dX8_isDone_10 : decode cX8_isDone 10 = .ok (.iaload, 1) := dk_46 (dk_at dksX8_isDone_0 10 rfl rfl)
theorem dX8_isDone_11 : decode cX8_isDone 11 = .ok (.istore_n 2, 1) := dk_61 (dk_at dksX8_isDone_0 11 rfl rfl)
theorem dX8_isDone_12 : decode cX8_isDone 12 = .ok (.aload_n 0, 1) := dk_42 (dk_at dksX8_isDone_0 12 rfl rfl)
theorem dX8_isDone_13 : decode cX8_isDone 13 = .ok (.getfield 31, 3) := dk_180 0 31 (dk_at dksX8_isDone_0 13 rfl rfl)
theorem dX8_isDone_16 : decode cX8_isDone 16 = .ok (.bipush 6, 2) := dk_16 6 (dk_at dksX8_isDone_0 16 rfl rfl)
theorem dX8_isDone_18 : decode cX8_isDone 18 = .ok (.iload_n 1, 1) := dk_27 (dk_at dksX8_isDone_0 18 rfl rfl)
theorem dX8_isDone_19 : decode cX8_isDone 19 = .ok (.imul, 1) := dk_104 (dk_at dksX8_isDone_0 19 rfl rfl)
theorem dX8_isDone_20 : decode cX8_isDone 20 = .ok (.iconst 2, 1) := dk_5 (dk_at dksX8_isDone_0 20 rfl rfl)
theorem dX8_isDone_21 : decode cX8_isDone 21 = .ok (.iadd, 1) := dk_96 (dk_at dksX8_isDone_0 21 rfl rfl)
theorem dX8_isDone_22 : decode cX8_isDone 22 = .ok (.iaload, 1) := dk_46 (dk_at dksX8_isDone_0 22 rfl rfl)
theorem dX8_isDone_23 : decode cX8_isDone 23 = .ok (.istore_n 3, 1) := dk_62 (dk_at dksX8_isDone_0 23 rfl rfl)
theorem dX8_isDone_24 : decode cX8_isDone 24 = .ok (.aload_n 0, 1) := dk_42 (dk_at dksX8_isDone_1 0 rfl rfl)
theorem dX8_isDone_25 : decode cX8_isDone 25 = .ok (.getfield 31, 3) := dk_180 0 31 (dk_at dksX8_isDone_1 1 rfl rfl)
theorem dX8_isDone_28 : decode cX8_isDone 28 = .ok (.bipush 6, 2) := dk_16 6 (dk_at dksX8_isDone_1 4 rfl rfl)
theorem dX8_isDone_30 : decode cX8_isDone 30 = .ok (.iload_n 1, 1) := dk_27 (dk_at dksX8_isDone_1 6 rfl rfl)
theorem dX8_isDone_31 : decode cX8_isDone 31 = .ok (.imul, 1) := dk_104 (dk_at dksX8_isDone_1 7 rfl rfl)
theorem dX8_isDone_32 : decode cX8_isDone 32 = .ok (.iconst 3, 1) := dk_6 (dk_at dksX8_isDone_1 8 rfl rfl)
theorem dX8_isDone_33 : decode cX8_isDone 33 = .ok (.iadd, 1) := dk_96 (dk_at dksX8_isDone_1 9 rfl rfl)
theorem dX8_isDone_34 : decode cX8_isDone 34 = .ok (.iaload, 1) := dk_46 (dk_at dksX8_isDone_1 10 rfl rfl)
theorem dX8_isDone_35 : decode cX8_isDone 35 = .ok (.istore 4, 2) := dk_54 4 (dk_at dksX8_isDone_1 11 rfl rfl)
theorem dX8_isDone_37 : decode cX8_isDone 37 = .ok (.aload_n 0, 1) := dk_42 (dk_at dksX8_isDone_1 13 rfl rfl)
theorem dX8_isDone_38 : decode cX8_isDone 38 = .ok (.getfield 31, 3) := dk_180 0 31 (dk_at dksX8_isDone_1 14 rfl rfl)
theorem dX8_isDone_41 : decode cX8_isDone 41 = .ok (.bipush 6, 2) := dk_16 6 (dk_at dksX8_isDone_1 17 rfl rfl)
theorem dX8_isDone_43 : decode cX8_isDone 43 = .ok (.iload_n 1, 1) := dk_27 (dk_at dksX8_isDone_1 19 rfl rfl)
theorem dX8_isDone_44 : decode cX8_isDone 44 = .ok (.imul, 1) := dk_104 (dk_at dksX8_isDone_1 20 rfl rfl)
theorem dX8_isDone_45 : decode cX8_isDone 45 = .ok (.iconst 4, 1) := dk_7 (dk_at dksX8_isDone_1 21 rfl rfl)
theorem dX8_isDone_46 : decode cX8_isDone 46 = .ok (.iadd, 1) := dk_96 (dk_at dksX8_isDone_1 22 rfl rfl)
theorem dX8_isDone_47 : decode cX8_isDone 47 = .ok (.iaload, 1) := dk_46 (dk_at dksX8_isDone_1 23 rfl rfl)
theorem dX8_isDone_48 : decode cX8_isDone 48 = .ok (.istore 5, 2) := dk_54 5 (dk_at dksX8_isDone_2 0 rfl rfl)
theorem dX8_isDone_50 : decode cX8_isDone 50 = .ok (.aload_n 0, 1) := dk_42 (dk_at dksX8_isDone_2 2 rfl rfl)
theorem dX8_isDone_51 : decode cX8_isDone 51 = .ok (.getfield 31, 3) := dk_180 0 31 (dk_at dksX8_isDone_2 3 rfl rfl)
theorem dX8_isDone_54 : decode cX8_isDone 54 = .ok (.bipush 6, 2) := dk_16 6 (dk_at dksX8_isDone_2 6 rfl rfl)
theorem dX8_isDone_56 : decode cX8_isDone 56 = .ok (.iload_n 1, 1) := dk_27 (dk_at dksX8_isDone_2 8 rfl rfl)
theorem dX8_isDone_57 : decode cX8_isDone 57 = .ok (.imul, 1) := dk_104 (dk_at dksX8_isDone_2 9 rfl rfl)
theorem dX8_isDone_58 : decode cX8_isDone 58 = .ok (.iaload, 1) := dk_46 (dk_at dksX8_isDone_2 10 rfl rfl)
theorem dX8_isDone_59 : decode cX8_isDone 59 = .ok (.lookupswitch 198 #[(61, 49), (98, 122), (100, 90), (109, 170), (115, 146)], 49) := by decide +kernel
theorem dX8_isDone_108 : decode cX8_isDone 108 = .ok (.iconst 0, 1) := dk_3 (dk_at dksX8_isDone_4 0 rfl rfl)
theorem dX8_isDone_109 : decode cX8_isDone 109 = .ok (.istore 6, 2) := dk_54 6 (dk_at dksX8_isDone_4 1 rfl rfl)
theorem dX8_isDone_111 : decode cX8_isDone 111 = .ok (.iload 6, 2) := dk_21 6 (dk_at dksX8_isDone_4 3 rfl rfl)
theorem dX8_isDone_113 : decode cX8_isDone 113 = .ok (.iconst 5, 1) := dk_8 (dk_at dksX8_isDone_4 5 rfl rfl)
theorem dX8_isDone_114 : decode cX8_isDone 114 = .ok (.if_icmp .ge 33, 3) := dk_162 0 33 (dk_at dksX8_isDone_4 6 rfl rfl)
theorem dX8_isDone_117 : decode cX8_isDone 117 = .ok (.aload_n 0, 1) := dk_42 (dk_at dksX8_isDone_4 9 rfl rfl)
theorem dX8_isDone_118 : decode cX8_isDone 118 = .ok (.getfield 7, 3) := dk_180 0 7 (dk_at dksX8_isDone_4 10 rfl rfl)
theorem dX8_isDone_121 : decode cX8_isDone 121 = .ok (.bipush 8, 2) := dk_16 8 (dk_at dksX8_isDone_4 13 rfl rfl)
theorem dX8_isDone_123 : decode cX8_isDone 123 = .ok (.iload 6, 2) := dk_21 6 (dk_at dksX8_isDone_4 15 rfl rfl)
theorem dX8_isDone_125 : decode cX8_isDone 125 = .ok (.iadd, 1) := dk_96 (dk_at dksX8_isDone_4 17 rfl rfl)
theorem dX8_isDone_126 : decode cX8_isDone 126 = .ok (.aload_n 0, 1) := dk_42 (dk_at dksX8_isDone_4 18 rfl rfl)
theorem dX8_isDone_127 : decode cX8_isDone 127 = .ok (.getfield 31, 3) := dk_180 0 31 (dk_at dksX8_isDone_4 19 rfl rfl)
theorem dX8_isDone_130 : decode cX8_isDone 130 = .ok (.bipush 6, 2) := dk_16 6 (dk_at dksX8_isDone_4 22 rfl rfl)
theorem dX8_isDone_132 : decode cX8_isDone 132 = .ok (.iload_n 1, 1) := dk_27 (dk_at dksX8_isDone_5 0 rfl rfl)
theorem dX8_isDone_133 : decode cX8_isDone 133 = .ok (.imul, 1) := dk_104 (dk_at dksX8_isDone_5 1 rfl rfl)
theorem dX8_isDone_134 : decode cX8_isDone 134 = .ok (.iconst 1, 1) := dk_4 (dk_at dksX8_isDone_5 2 rfl rfl)
theorem dX8_isDone_135 : decode cX8_isDone 135 = .ok (.iadd, 1) := dk_96 (dk_at dksX8_isDone_5 3 rfl rfl)
theorem dX8_isDone_136 : decode cX8_isDone 136 = .ok (.iload 6, 2) := dk_21 6 (dk_at dksX8_isDone_5 4 rfl rfl)
theorem dX8_isDone_138 : decode cX8_isDone 138 = .ok (.iadd, 1) := dk_96 (dk_at dksX8_isDone_5 6 rfl rfl)
theorem dX8_isDone_139 : decode cX8_isDone 139 = .ok (.iaload, 1) := dk_46 (dk_at dksX8_isDone_5 7 rfl rfl)
theorem dX8_isDone_140 : decode cX8_isDone 140 = .ok (.iastore, 1) := dk_79 (dk_at dksX8_isDone_5 8 rfl rfl)
theorem dX8_isDone_141 : decode cX8_isDone 141 = .ok (.iinc 6 1, 3) := dk_132 6 1 (dk_at dksX8_isDone_5 9 rfl rfl)
theorem dX8_isDone_144 : decode cX8_isDone 144 = .ok (.goto (-33), 3) := dk_167 255 223 (dk_at dksX8_isDone_5 12 rfl rfl)
theorem dX8_isDone_147 : decode cX8_isDone 147 = .ok (.iconst 1, 1) := dk_4 (dk_at dksX8_isDone_5 15 rfl rfl)
theorem dX8_isDone_148 : decode cX8_isDone 148 = .ok (.ireturn, 1) := dk_172 (dk_at dksX8_isDone_5 16 rfl rfl)
theorem dX8_isDone_149 : decode cX8_isDone 149 = .ok (.aload_n 0, 1) := dk_42 (dk_at dksX8_isDone_5 17 rfl rfl)
theorem dX8_isDone_150 : decode cX8_isDone 150 = .ok (.iload_n 2, 1) := dk_28 (dk_at dksX8_isDone_5 18 rfl rfl)
theorem dX8_isDone_151 : decode cX8_isDone 151 = .ok (.iload 4, 2) := dk_21 4 (dk_at dksX8_isDone_5 19 rfl rfl)
theorem dX8_isDone_153 : decode cX8_isDone 153 = .ok (.iload 5, 2) := dk_21 5 (dk_at dksX8_isDone_5 21 rfl rfl)
theorem dX8_isDone_155 : decode cX8_isDone 155 = .ok (.invokevirtual 147, 3) := dk_182 0 147 (dk_at dksX8_isDone_6 0 rfl rfl)
theorem dX8_isDone_158 : decode cX8_isDone 158 = .ok (.ifCond .ne 21, 3) := dk_154 0 21 (dk_at dksX8_isDone_6 3 rfl rfl)
theorem dX8_isDone_161 : decode cX8_isDone 161 = .ok (.aload_n 0, 1) := dk_42 (dk_at dksX8_isDone_6 6 rfl rfl)
theorem dX8_isDone_162 : decode cX8_isDone 162 = .ok (.iload_n 2, 1) := dk_28 (dk_at dksX8_isDone_6 7 rfl rfl)
theorem dX8_isDone_163 : decode cX8_isDone 163 = .ok (.iload_n 3, 1) := dk_29 (dk_at dksX8_isDone_6 8 rfl rfl)
theorem dX8_isDone_164 : decode cX8_isDone 164 = .ok (.iload 4, 2) := dk_21 4 (dk_at dksX8_isDone_6 9 rfl rfl)
theorem dX8_isDone_166 : decode cX8_isDone 166 = .ok (.iload 5, 2) := dk_21 5 (dk_at dksX8_isDone_6 11 rfl rfl)
theorem dX8_isDone_168 : decode cX8_isDone 168 = .ok (.invokevirtual 154, 3) := dk_182 0 154 (dk_at dksX8_isDone_6 13 rfl rfl)
theorem dX8_isDone_171 : decode cX8_isDone 171 = .ok (.iconst (-1), 1) := dk_2 (dk_at dksX8_isDone_6 16 rfl rfl)
theorem dX8_isDone_172 : decode cX8_isDone 172 = .ok (.if_icmp .lt 7, 3) := dk_161 0 7 (dk_at dksX8_isDone_6 17 rfl rfl)
theorem dX8_isDone_175 : decode cX8_isDone 175 = .ok (.iconst 1, 1) := dk_4 (dk_at dksX8_isDone_6 20 rfl rfl)
theorem dX8_isDone_176 : decode cX8_isDone 176 = .ok (.goto 4, 3) := dk_167 0 4 (dk_at dksX8_isDone_6 21 rfl rfl)
theorem dX8_isDone_179 : decode cX8_isDone 179 = .ok (.iconst 0, 1) := dk_3 (dk_at dksX8_isDone_7 0 rfl rfl)
theorem dX8_isDone_180 : decode cX8_isDone 180 = .ok (.ireturn, 1) := dk_172 (dk_at dksX8_isDone_7 1 rfl rfl)
theorem dX8_isDone_181 : decode cX8_isDone 181 = .ok (.aload_n 0, 1) := dk_42 (dk_at dksX8_isDone_7 2 rfl rfl)
theorem dX8_isDone_182 : decode cX8_isDone 182 = .ok (.iload_n 2, 1) := dk_28 (dk_at dksX8_isDone_7 3 rfl rfl)
theorem dX8_isDone_183 : decode cX8_isDone 183 = .ok (.iload_n 3, 1) := dk_29 (dk_at dksX8_isDone_7 4 rfl rfl)
theorem dX8_isDone_184 : decode cX8_isDone 184 = .ok (.invokevirtual 170, 3) := dk_182 0 170 (dk_at dksX8_isDone_7 5 rfl rfl)
theorem dX8_isDone_187 : decode cX8_isDone 187 = .ok (.ifCond .ne 16, 3) := dk_154 0 16 (dk_at dksX8_isDone_7 8 rfl rfl)
theorem dX8_isDone_190 : decode cX8_isDone 190 = .ok (.aload_n 0, 1) := dk_42 (dk_at dksX8_isDone_7 11 rfl rfl)
theorem dX8_isDone_191 : decode cX8_isDone 191 = .ok (.iload_n 2, 1) := dk_28 (dk_at dksX8_isDone_7 12 rfl rfl)
theorem dX8_isDone_192 : decode cX8_isDone 192 = .ok (.iload_n 3, 1) := dk_29 (dk_at dksX8_isDone_7 13 rfl rfl)
theorem dX8_isDone_193 : decode cX8_isDone 193 = .ok (.invokevirtual 173, 3) := dk_182 0 173 (dk_at dksX8_isDone_7 14 rfl rfl)
theorem dX8_isDone_196 : decode cX8_isDone 196 = .ok (.ifCond .le 7, 3) := dk_158 0 7 (dk_at dksX8_isDone_7 17 rfl rfl)
theorem dX8_isDone_199 : decode cX8_isDone 199 = .ok (.iconst 1, 1) := dk_4 (dk_at dksX8_isDone_7 20 rfl rfl)
theorem dX8_isDone_200 : decode cX8_isDone 200 = .ok (.goto 4, 3) := dk_167 0 4 (dk_at dksX8_isDone_7 21 rfl rfl)
theorem dX8_isDone_203 : decode cX8_isDone 203 = .ok (.iconst 0, 1) := dk_3 (dk_at dksX8_isDone_8 0 rfl rfl)
theorem dX8_isDone_204 : decode cX8_isDone 204 = .ok (.ireturn, 1) := dk_172 (dk_at dksX8_isDone_8 1 rfl rfl)
theorem dX8_isDone_205 : decode cX8_isDone 205 = .ok (.aload_n 0, 1) := dk_42 (dk_at dksX8_isDone_8 2 rfl rfl)
theorem dX8_isDone_206 : decode cX8_isDone 206 = .ok (.iload_n 2, 1) := dk_28 (dk_at dksX8_isDone_8 3 rfl rfl)
theorem dX8_isDone_207 : decode cX8_isDone 207 = .ok (.iload_n 3, 1) := dk_29 (dk_at dksX8_isDone_8 4 rfl rfl)
theorem dX8_isDone_208 : decode cX8_isDone 208 = .ok (.invokevirtual 176, 3) := dk_182 0 176 (dk_at dksX8_isDone_8 5 rfl rfl)
theorem dX8_isDone_211 : decode cX8_isDone 211 = .ok (.ifCond .eq 16, 3) := dk_153 0 16 (dk_at dksX8_isDone_8 8 rfl rfl)
theorem dX8_isDone_214 : decode cX8_isDone 214 = .ok (.aload_n 0, 1) := dk_42 (dk_at dksX8_isDone_8 11 rfl rfl)
theorem dX8_isDone_215 : decode cX8_isDone 215 = .ok (.iload_n 2, 1) := dk_28 (dk_at dksX8_isDone_8 12 rfl rfl)
theorem dX8_isDone_216 : decode cX8_isDone 216 = .ok (.iload_n 3, 1) := dk_29 (dk_at dksX8_isDone_8 13 rfl rfl)
theorem dX8_isDone_217 : decode cX8_isDone 217 = .ok (.invokevirtual 180, 3) := dk_182 0 180 (dk_at dksX8_isDone_8 14 rfl rfl)
theorem dX8_isDone_220 : decode cX8_isDone 220 = .ok (.ifCond .le 7, 3) := dk_158 0 7 (dk_at dksX8_isDone_8 17 rfl rfl)
theorem dX8_isDone_223 : decode cX8_isDone 223 = .ok (.iconst 1, 1) := dk_4 (dk_at dksX8_isDone_8 20 rfl rfl)
theorem dX8_isDone_224 : decode cX8_isDone 224 = .ok (.goto 4, 3) := dk_167 0 4 (dk_at dksX8_isDone_8 21 rfl rfl)
theorem dX8_isDone_227 : decode cX8_isDone 227 = .ok (.iconst 0, 1) := dk_3 (dk_at dksX8_isDone_9 0 rfl rfl)
theorem dX8_isDone_228 : decode cX8_isDone 228 = .ok (.ireturn, 1) := dk_172 (dk_at dksX8_isDone_9 1 rfl rfl)
theorem dX8_isDone_229 : decode cX8_isDone 229 = .ok (.aload_n 0, 1) := dk_42 (dk_at dksX8_isDone_9 2 rfl rfl)
theorem dX8_isDone_230 : decode cX8_isDone 230 = .ok (.iload_n 2, 1) := dk_28 (dk_at dksX8_isDone_9 3 rfl rfl)
theorem dX8_isDone_231 : decode cX8_isDone 231 = .ok (.iload_n 3, 1) := dk_29 (dk_at dksX8_isDone_9 4 rfl rfl)
theorem dX8_isDone_232 : decode cX8_isDone 232 = .ok (.iload 4, 2) := dk_21 4 (dk_at dksX8_isDone_9 5 rfl rfl)
theorem dX8_isDone_234 : decode cX8_isDone 234 = .ok (.invokevirtual 192, 3) := dk_182 0 192 (dk_at dksX8_isDone_9 7 rfl rfl)
theorem dX8_isDone_237 : decode cX8_isDone 237 = .ok (.ifCond .ne 18, 3) := dk_154 0 18 (dk_at dksX8_isDone_9 10 rfl rfl)
theorem dX8_isDone_240 : decode cX8_isDone 240 = .ok (.aload_n 0, 1) := dk_42 (dk_at dksX8_isDone_9 13 rfl rfl)
theorem dX8_isDone_241 : decode cX8_isDone 241 = .ok (.iload_n 2, 1) := dk_28 (dk_at dksX8_isDone_9 14 rfl rfl)
theorem dX8_isDone_242 : decode cX8_isDone 242 = .ok (.iload_n 3, 1) := dk_29 (dk_at dksX8_isDone_9 15 rfl rfl)
theorem dX8_isDone_243 : decode cX8_isDone 243 = .ok (.iload 4, 2) := dk_21 4 (dk_at dksX8_isDone_9 16 rfl rfl)
theorem dX8_isDone_245 : decode cX8_isDone 245 = .ok (.invokevirtual 195, 3) := dk_182 0 195 (dk_at dksX8_isDone_9 18 rfl rfl)
theorem dX8_isDone_248 : decode cX8_isDone 248 = .ok (.ifCond .lt 7, 3) := dk_155 0 7 (dk_at dksX8_isDone_9 21 rfl rfl)
theorem dX8_isDone_251 : decode cX8_isDone 251 = .ok (.iconst 1, 1) := dk_4 (dk_at dksX8_isDone_10 0 rfl rfl)
theorem dX8_isDone_252 : decode cX8_isDone 252 = .ok (.goto 4, 3) := dk_167 0 4 (dk_at dksX8_isDone_10 1 rfl rfl)
theorem dX8_isDone_255 : decode cX8_isDone 255 = .ok (.iconst 0, 1) := dk_3 (dk_at dksX8_isDone_10 4 rfl rfl)
theorem dX8_isDone_256 : decode cX8_isDone 256 = .ok (.ireturn, 1) := dk_172 (dk_at dksX8_isDone_10 5 rfl rfl)
theorem dX8_isDone_257 : decode cX8_isDone 257 = .ok (.aload_n 0, 1) := dk_42 (dk_at dksX8_isDone_10 6 rfl rfl)
theorem dX8_isDone_258 : decode cX8_isDone 258 = .ok (.iload_n 2, 1) := dk_28 (dk_at dksX8_isDone_10 7 rfl rfl)
theorem dX8_isDone_259 : decode cX8_isDone 259 = .ok (.invokevirtual 225, 3) := dk_182 0 225 (dk_at dksX8_isDone_10 8 rfl rfl)
theorem dX8_isDone_262 : decode cX8_isDone 262 = .ok (.ifCond .eq 15, 3) := dk_153 0 15 (dk_at dksX8_isDone_10 11 rfl rfl)
theorem dX8_isDone_265 : decode cX8_isDone 265 = .ok (.aload_n 0, 1) := dk_42 (dk_at dksX8_isDone_10 14 rfl rfl)
theorem dX8_isDone_266 : decode cX8_isDone 266 = .ok (.iload_n 2, 1) := dk_28 (dk_at dksX8_isDone_10 15 rfl rfl)
theorem dX8_isDone_267 : decode cX8_isDone 267 = .ok (.invokevirtual 228, 3) := dk_182 0 228 (dk_at dksX8_isDone_10 16 rfl rfl)
theorem dX8_isDone_270 : decode cX8_isDone 270 = .ok (.ifCond .lt 7, 3) := dk_155 0 7 (dk_at dksX8_isDone_10 19 rfl rfl)
theorem dX8_isDone_273 : decode cX8_isDone 273 = .ok (.iconst 1, 1) := dk_4 (dk_at dksX8_isDone_10 22 rfl rfl)
theorem dX8_isDone_274 : decode cX8_isDone 274 = .ok (.goto 4, 3) := dk_167 0 4 (dk_at dksX8_isDone_11 0 rfl rfl)
theorem dX8_isDone_277 : decode cX8_isDone 277 = .ok (.iconst 0, 1) := dk_3 (dk_at dksX8_isDone_11 3 rfl rfl)
theorem dX8_isDone_278 : decode cX8_isDone 278 = .ok (.ireturn, 1) := dk_172 (dk_at dksX8_isDone_11 4 rfl rfl)
abbrev cX8_undo : ByteArray := prog_26_method_144_code
def yX8_undo : MethodName := ⟨RX8, "undo", "()I"⟩
def dkwX8_undo_2 : List UInt8 := [180, 0, 7, 3, 184, 0, 44, 42, 180, 0, 41, 172]
abbrev dktX8_undo_2 : List UInt8 := dkwX8_undo_2 ++ []
def dkwX8_undo_1 : List UInt8 := [172, 42, 89, 180, 0, 41, 4, 100, 181, 0, 41, 42, 180, 0, 13, 17, 1, 65, 42, 180, 0, 41, 104, 42]
abbrev dktX8_undo_1 : List UInt8 := dkwX8_undo_1 ++ dktX8_undo_2
def dkwX8_undo_0 : List UInt8 := [42, 42, 180, 0, 41, 154, 0, 7, 4, 167, 0, 4, 3, 181, 0, 37, 42, 180, 0, 37, 158, 0, 5, 3]
abbrev dktX8_undo_0 : List UInt8 := dkwX8_undo_0 ++ dktX8_undo_1
theorem dksX8_undo_0 : cX8_undo.data.toList.drop 0 = dktX8_undo_0 := by decide +kernel
theorem dksX8_undo_1 : cX8_undo.data.toList.drop 24 = dktX8_undo_1 := dk_seg dksX8_undo_0 24 rfl rfl
theorem dksX8_undo_2 : cX8_undo.data.toList.drop 48 = dktX8_undo_2 := dk_seg dksX8_undo_1 24 rfl rfl
theorem dX8_undo_0 : decode cX8_undo 0 = .ok (.aload_n 0, 1) := dk_42 (dk_at dksX8_undo_0 0 rfl rfl)
theorem dX8_undo_1 : decode cX8_undo 1 = .ok (.aload_n 0, 1) := dk_42 (dk_at dksX8_undo_0 1 rfl rfl)
theorem dX8_undo_2 : decode cX8_undo 2 = .ok (.getfield 41, 3) := dk_180 0 41 (dk_at dksX8_undo_0 2 rfl rfl)
theorem dX8_undo_5 : decode cX8_undo 5 = .ok (.ifCond .ne 7, 3) := dk_154 0 7 (dk_at dksX8_undo_0 5 rfl rfl)
theorem dX8_undo_8 : decode cX8_undo 8 = .ok (.iconst 1, 1) := dk_4 (dk_at dksX8_undo_0 8 rfl rfl)
theorem dX8_undo_9 : decode cX8_undo 9 = .ok (.goto 4, 3) := dk_167 0 4 (dk_at dksX8_undo_0 9 rfl rfl)
theorem dX8_undo_12 : decode cX8_undo 12 = .ok (.iconst 0, 1) := dk_3 (dk_at dksX8_undo_0 12 rfl rfl)
theorem dX8_undo_13 : decode cX8_undo 13 = .ok (.putfield 37, 3) := dk_181 0 37 (dk_at dksX8_undo_0 13 rfl rfl)
theorem dX8_undo_16 : decode cX8_undo 16 = .ok (.aload_n 0, 1) := dk_42 (dk_at dksX8_undo_0 16 rfl rfl)
theorem dX8_undo_17 : decode cX8_undo 17 = .ok (.getfield 37, 3) := dk_180 0 37 (dk_at dksX8_undo_0 17 rfl rfl)
theorem dX8_undo_20 : decode cX8_undo 20 = .ok (.ifCond .le 5, 3) := dk_158 0 5 (dk_at dksX8_undo_0 20 rfl rfl)
theorem dX8_undo_23 : decode cX8_undo 23 = .ok (.iconst 0, 1) := dk_3 (dk_at dksX8_undo_0 23 rfl rfl)
theorem dX8_undo_24 : decode cX8_undo 24 = .ok (.ireturn, 1) := dk_172 (dk_at dksX8_undo_1 0 rfl rfl)
theorem dX8_undo_25 : decode cX8_undo 25 = .ok (.aload_n 0, 1) := dk_42 (dk_at dksX8_undo_1 1 rfl rfl)
theorem dX8_undo_26 : decode cX8_undo 26 = .ok (.dup, 1) := dk_89 (dk_at dksX8_undo_1 2 rfl rfl)
theorem dX8_undo_27 : decode cX8_undo 27 = .ok (.getfield 41, 3) := dk_180 0 41 (dk_at dksX8_undo_1 3 rfl rfl)
theorem dX8_undo_30 : decode cX8_undo 30 = .ok (.iconst 1, 1) := dk_4 (dk_at dksX8_undo_1 6 rfl rfl)
theorem dX8_undo_31 : decode cX8_undo 31 = .ok (.isub, 1) := dk_100 (dk_at dksX8_undo_1 7 rfl rfl)
theorem dX8_undo_32 : decode cX8_undo 32 = .ok (.putfield 41, 3) := dk_181 0 41 (dk_at dksX8_undo_1 8 rfl rfl)
theorem dX8_undo_35 : decode cX8_undo 35 = .ok (.aload_n 0, 1) := dk_42 (dk_at dksX8_undo_1 11 rfl rfl)
theorem dX8_undo_36 : decode cX8_undo 36 = .ok (.getfield 13, 3) := dk_180 0 13 (dk_at dksX8_undo_1 12 rfl rfl)
theorem dX8_undo_39 : decode cX8_undo 39 = .ok (.sipush 321, 3) := dk_17 1 65 (dk_at dksX8_undo_1 15 rfl rfl)
theorem dX8_undo_42 : decode cX8_undo 42 = .ok (.aload_n 0, 1) := dk_42 (dk_at dksX8_undo_1 18 rfl rfl)
theorem dX8_undo_43 : decode cX8_undo 43 = .ok (.getfield 41, 3) := dk_180 0 41 (dk_at dksX8_undo_1 19 rfl rfl)
theorem dX8_undo_46 : decode cX8_undo 46 = .ok (.imul, 1) := dk_104 (dk_at dksX8_undo_1 22 rfl rfl)
theorem dX8_undo_47 : decode cX8_undo 47 = .ok (.aload_n 0, 1) := dk_42 (dk_at dksX8_undo_1 23 rfl rfl)
theorem dX8_undo_48 : decode cX8_undo 48 = .ok (.getfield 7, 3) := dk_180 0 7 (dk_at dksX8_undo_2 0 rfl rfl)
theorem dX8_undo_51 : decode cX8_undo 51 = .ok (.iconst 0, 1) := dk_3 (dk_at dksX8_undo_2 3 rfl rfl)
theorem dX8_undo_52 : decode cX8_undo 52 = .ok (.invokestatic 44, 3) := dk_184 0 44 (dk_at dksX8_undo_2 4 rfl rfl)
theorem dX8_undo_55 : decode cX8_undo 55 = .ok (.aload_n 0, 1) := dk_42 (dk_at dksX8_undo_2 7 rfl rfl)
theorem dX8_undo_56 : decode cX8_undo 56 = .ok (.getfield 41, 3) := dk_180 0 41 (dk_at dksX8_undo_2 8 rfl rfl)
theorem dX8_undo_59 : decode cX8_undo 59 = .ok (.ireturn, 1) := dk_172 (dk_at dksX8_undo_2 11 rfl rfl)
abbrev cX8_takeSnapshot : ByteArray := prog_26_method_145_code
def yX8_takeSnapshot : MethodName := ⟨RX8, "takeSnapshot", "()I"⟩
def dkwX8_takeSnapshot_1 : List UInt8 := [180, 0, 7, 3, 46, 172]
abbrev dktX8_takeSnapshot_1 : List UInt8 := dkwX8_takeSnapshot_1 ++ []
def dkwX8_takeSnapshot_0 : List UInt8 := [42, 3, 181, 0, 37, 42, 180, 0, 7, 3, 42, 180, 0, 16, 3, 184, 0, 44, 42, 4, 181, 1, 58, 42]
abbrev dktX8_takeSnapshot_0 : List UInt8 := dkwX8_takeSnapshot_0 ++ dktX8_takeSnapshot_1
theorem dksX8_takeSnapshot_0 : cX8_takeSnapshot.data.toList.drop 0 = dktX8_takeSnapshot_0 := by decide +kernel
theorem dksX8_takeSnapshot_1 : cX8_takeSnapshot.data.toList.drop 24 = dktX8_takeSnapshot_1 := dk_seg dksX8_takeSnapshot_0 24 rfl rfl
theorem dX8_takeSnapshot_0 : decode cX8_takeSnapshot 0 = .ok (.aload_n 0, 1) := dk_42 (dk_at dksX8_takeSnapshot_0 0 rfl rfl)
theorem dX8_takeSnapshot_1 : decode cX8_takeSnapshot 1 = .ok (.iconst 0, 1) := dk_3 (dk_at dksX8_takeSnapshot_0 1 rfl rfl)
theorem dX8_takeSnapshot_2 : decode cX8_takeSnapshot 2 = .ok (.putfield 37, 3) := dk_181 0 37 (dk_at dksX8_takeSnapshot_0 2 rfl rfl)
theorem dX8_takeSnapshot_5 : decode cX8_takeSnapshot 5 = .ok (.aload_n 0, 1) := dk_42 (dk_at dksX8_takeSnapshot_0 5 rfl rfl)
theorem dX8_takeSnapshot_6 : decode cX8_takeSnapshot 6 = .ok (.getfield 7, 3) := dk_180 0 7 (dk_at dksX8_takeSnapshot_0 6 rfl rfl)
theorem dX8_takeSnapshot_9 : decode cX8_takeSnapshot 9 = .ok (.iconst 0, 1) := dk_3 (dk_at dksX8_takeSnapshot_0 9 rfl rfl)
theorem dX8_takeSnapshot_10 : decode cX8_takeSnapshot 10 = .ok (.aload_n 0, 1) := dk_42 (dk_at dksX8_takeSnapshot_0 10 rfl rfl)
theorem dX8_takeSnapshot_11 : decode cX8_takeSnapshot 11 = .ok (.getfield 16, 3) := dk_180 0 16 (dk_at dksX8_takeSnapshot_0 11 rfl rfl)
theorem dX8_takeSnapshot_14 : decode cX8_takeSnapshot 14 = .ok (.iconst 0, 1) := dk_3 (dk_at dksX8_takeSnapshot_0 14 rfl rfl)
theorem dX8_takeSnapshot_15 : decode cX8_takeSnapshot 15 = .ok (.invokestatic 44, 3) := dk_184 0 44 (dk_at dksX8_takeSnapshot_0 15 rfl rfl)
theorem dX8_takeSnapshot_18 : decode cX8_takeSnapshot 18 = .ok (.aload_n 0, 1) := dk_42 (dk_at dksX8_takeSnapshot_0 18 rfl rfl)
theorem dX8_takeSnapshot_19 : decode cX8_takeSnapshot 19 = .ok (.iconst 1, 1) := dk_4 (dk_at dksX8_takeSnapshot_0 19 rfl rfl)
theorem dX8_takeSnapshot_20 : decode cX8_takeSnapshot 20 = .ok (.putfield 314, 3) := dk_181 1 58 (dk_at dksX8_takeSnapshot_0 20 rfl rfl)
theorem dX8_takeSnapshot_23 : decode cX8_takeSnapshot 23 = .ok (.aload_n 0, 1) := dk_42 (dk_at dksX8_takeSnapshot_0 23 rfl rfl)
theorem dX8_takeSnapshot_24 : decode cX8_takeSnapshot 24 = .ok (.getfield 7, 3) := dk_180 0 7 (dk_at dksX8_takeSnapshot_1 0 rfl rfl)
theorem dX8_takeSnapshot_27 : decode cX8_takeSnapshot 27 = .ok (.iconst 0, 1) := dk_3 (dk_at dksX8_takeSnapshot_1 3 rfl rfl)
theorem dX8_takeSnapshot_28 : decode cX8_takeSnapshot 28 = .ok (.iaload, 1) := dk_46 (dk_at dksX8_takeSnapshot_1 4 rfl rfl)
theorem dX8_takeSnapshot_29 : decode cX8_takeSnapshot 29 = .ok (.ireturn, 1) := dk_172 (dk_at dksX8_takeSnapshot_1 5 rfl rfl)
abbrev cX8_restoreSnapshot : ByteArray := prog_26_method_146_code
def yX8_restoreSnapshot : MethodName := ⟨RX8, "restoreSnapshot", "()I"⟩
def dkwX8_restoreSnapshot_2 : List UInt8 := [172]
abbrev dktX8_restoreSnapshot_2 : List UInt8 := dkwX8_restoreSnapshot_2 ++ []
def dkwX8_restoreSnapshot_1 : List UInt8 := [172, 42, 182, 0, 151, 42, 180, 0, 16, 3, 42, 180, 0, 7, 3, 184, 0, 44, 42, 180, 0, 7, 3, 46]
abbrev dktX8_restoreSnapshot_1 : List UInt8 := dkwX8_restoreSnapshot_1 ++ dktX8_restoreSnapshot_2
def dkwX8_restoreSnapshot_0 : List UInt8 := [42, 42, 180, 1, 58, 154, 0, 7, 4, 167, 0, 4, 3, 181, 0, 37, 42, 180, 0, 37, 158, 0, 5, 3]
abbrev dktX8_restoreSnapshot_0 : List UInt8 := dkwX8_restoreSnapshot_0 ++ dktX8_restoreSnapshot_1
theorem dksX8_restoreSnapshot_0 : cX8_restoreSnapshot.data.toList.drop 0 = dktX8_restoreSnapshot_0 := by decide +kernel
theorem dksX8_restoreSnapshot_1 : cX8_restoreSnapshot.data.toList.drop 24 = dktX8_restoreSnapshot_1 := dk_seg dksX8_restoreSnapshot_0 24 rfl rfl
theorem dksX8_restoreSnapshot_2 : cX8_restoreSnapshot.data.toList.drop 48 = dktX8_restoreSnapshot_2 := dk_seg dksX8_restoreSnapshot_1 24 rfl rfl
theorem dX8_restoreSnapshot_0 : decode cX8_restoreSnapshot 0 = .ok (.aload_n 0, 1) := dk_42 (dk_at dksX8_restoreSnapshot_0 0 rfl rfl)
theorem dX8_restoreSnapshot_1 : decode cX8_restoreSnapshot 1 = .ok (.aload_n 0, 1) := dk_42 (dk_at dksX8_restoreSnapshot_0 1 rfl rfl)
theorem dX8_restoreSnapshot_2 : decode cX8_restoreSnapshot 2 = .ok (.getfield 314, 3) := dk_180 1 58 (dk_at dksX8_restoreSnapshot_0 2 rfl rfl)
theorem dX8_restoreSnapshot_5 : decode cX8_restoreSnapshot 5 = .ok (.ifCond .ne 7, 3) := dk_154 0 7 (dk_at dksX8_restoreSnapshot_0 5 rfl rfl)
theorem dX8_restoreSnapshot_8 : decode cX8_restoreSnapshot 8 = .ok (.iconst 1, 1) := dk_4 (dk_at dksX8_restoreSnapshot_0 8 rfl rfl)
theorem dX8_restoreSnapshot_9 : decode cX8_restoreSnapshot 9 = .ok (.goto 4, 3) := dk_167 0 4 (dk_at dksX8_restoreSnapshot_0 9 rfl rfl)
theorem dX8_restoreSnapshot_12 : decode cX8_restoreSnapshot 12 = .ok (.iconst 0, 1) := dk_3 (dk_at dksX8_restoreSnapshot_0 12 rfl rfl)
theorem dX8_restoreSnapshot_13 : decode cX8_restoreSnapshot 13 = .ok (.putfield 37, 3) := dk_181 0 37 (dk_at dksX8_restoreSnapshot_0 13 rfl rfl)
theorem dX8_restoreSnapshot_16 : decode cX8_restoreSnapshot 16 = .ok (.aload_n 0, 1) := dk_42 (dk_at dksX8_restoreSnapshot_0 16 rfl rfl)
theorem dX8_restoreSnapshot_17 : decode cX8_restoreSnapshot 17 = .ok (.getfield 37, 3) := dk_180 0 37 (dk_at dksX8_restoreSnapshot_0 17 rfl rfl)
theorem dX8_restoreSnapshot_20 : decode cX8_restoreSnapshot 20 = .ok (.ifCond .le 5, 3) := dk_158 0 5 (dk_at dksX8_restoreSnapshot_0 20 rfl rfl)
theorem dX8_restoreSnapshot_23 : decode cX8_restoreSnapshot 23 = .ok (.iconst 0, 1) := dk_3 (dk_at dksX8_restoreSnapshot_0 23 rfl rfl)
theorem dX8_restoreSnapshot_24 : decode cX8_restoreSnapshot 24 = .ok (.ireturn, 1) := dk_172 (dk_at dksX8_restoreSnapshot_1 0 rfl rfl)
theorem dX8_restoreSnapshot_25 : decode cX8_restoreSnapshot 25 = .ok (.aload_n 0, 1) := dk_42 (dk_at dksX8_restoreSnapshot_1 1 rfl rfl)
theorem dX8_restoreSnapshot_26 : decode cX8_restoreSnapshot 26 = .ok (.invokevirtual 151, 3) := dk_182 0 151 (dk_at dksX8_restoreSnapshot_1 2 rfl rfl)
theorem dX8_restoreSnapshot_29 : decode cX8_restoreSnapshot 29 = .ok (.aload_n 0, 1) := dk_42 (dk_at dksX8_restoreSnapshot_1 5 rfl rfl)
theorem dX8_restoreSnapshot_30 : decode cX8_restoreSnapshot 30 = .ok (.getfield 16, 3) := dk_180 0 16 (dk_at dksX8_restoreSnapshot_1 6 rfl rfl)
theorem dX8_restoreSnapshot_33 : decode cX8_restoreSnapshot 33 = .ok (.iconst 0, 1) := dk_3 (dk_at dksX8_restoreSnapshot_1 9 rfl rfl)
theorem dX8_restoreSnapshot_34 : decode cX8_restoreSnapshot 34 = .ok (.aload_n 0, 1) := dk_42 (dk_at dksX8_restoreSnapshot_1 10 rfl rfl)
theorem dX8_restoreSnapshot_35 : decode cX8_restoreSnapshot 35 = .ok (.getfield 7, 3) := dk_180 0 7 (dk_at dksX8_restoreSnapshot_1 11 rfl rfl)
theorem dX8_restoreSnapshot_38 : decode cX8_restoreSnapshot 38 = .ok (.iconst 0, 1) := dk_3 (dk_at dksX8_restoreSnapshot_1 14 rfl rfl)
theorem dX8_restoreSnapshot_39 : decode cX8_restoreSnapshot 39 = .ok (.invokestatic 44, 3) := dk_184 0 44 (dk_at dksX8_restoreSnapshot_1 15 rfl rfl)
theorem dX8_restoreSnapshot_42 : decode cX8_restoreSnapshot 42 = .ok (.aload_n 0, 1) := dk_42 (dk_at dksX8_restoreSnapshot_1 18 rfl rfl)
theorem dX8_restoreSnapshot_43 : decode cX8_restoreSnapshot 43 = .ok (.getfield 7, 3) := dk_180 0 7 (dk_at dksX8_restoreSnapshot_1 19 rfl rfl)
theorem dX8_restoreSnapshot_46 : decode cX8_restoreSnapshot 46 = .ok (.iconst 0, 1) := dk_3 (dk_at dksX8_restoreSnapshot_1 22 rfl rfl)
theorem dX8_restoreSnapshot_47 : decode cX8_restoreSnapshot 47 = .ok (.iaload, 1) := dk_46 (dk_at dksX8_restoreSnapshot_1 23 rfl rfl)
theorem dX8_restoreSnapshot_48 : decode cX8_restoreSnapshot 48 = .ok (.ireturn, 1) := dk_172 (dk_at dksX8_restoreSnapshot_2 0 rfl rfl)
theorem q132 : (Jvm.Cond.initialized "PaperMillModel") ∈ lw_all := lw_g (lw_at lw_m1 21 rfl) rfl
theorem q355 : (Jvm.Cond.selects "PaperMillModel" ({ cls := "java/lang/Object", name := "getClass", desc := "()Ljava/lang/Class;" } : Jvm.MethodName) ({ cls := "java/lang/Object", name := "getClass", desc := "()Ljava/lang/Class;" } : Jvm.MethodName)) ∈ lw_all := lw_g (lw_at lw_m2 4 rfl) rfl
theorem q2058 : (Jvm.Cond.instantiable "PaperMillModel" (16 : Nat)) ∈ lw_all := lw_g (lw_at lw_m9 27 rfl) rfl
theorem q2060 : (Jvm.Cond.instanceMethod ({ cls := "PaperMillModel", name := "<init>", desc := "()V" } : Jvm.MethodName)) ∈ lw_all := lw_g (lw_at lw_m9 29 rfl) rfl
theorem q2061 : (Jvm.Cond.code ({ cls := "PaperMillModel", name := "<init>", desc := "()V" } : Jvm.MethodName) prog_26_method_1_code (2 : Nat) (Option.none : Option Jvm.ClassFile.FieldType)) ∈ lw_all := lw_g (lw_at lw_m9 30 rfl) rfl
theorem q2062 : (Jvm.Cond.methodLink "PaperMillModel" (1 : Nat) ({ cls := "java/lang/Object", name := "<init>", desc := "()V" } : Jvm.MethodName)) ∈ lw_all := lw_g (lw_at lw_m9 31 rfl) rfl
theorem q2063 : (Jvm.Cond.fieldLink "PaperMillModel" (7 : Nat) "PaperMillModel" "now" "[I") ∈ lw_all := lw_g (lw_at lw_m9 32 rfl) rfl
theorem q2064 : (Jvm.Cond.fieldLink "PaperMillModel" (13 : Nat) "PaperMillModel" "past" "[I") ∈ lw_all := lw_g (lw_at lw_m9 33 rfl) rfl
theorem q2065 : (Jvm.Cond.fieldLink "PaperMillModel" (41 : Nat) "PaperMillModel" "states" "I") ∈ lw_all := lw_g (lw_at lw_m9 34 rfl) rfl
theorem q2066 : (Jvm.Cond.fieldLink "PaperMillModel" (16 : Nat) "PaperMillModel" "kept" "[I") ∈ lw_all := lw_g (lw_at lw_m9 35 rfl) rfl
theorem q2067 : (Jvm.Cond.fieldLink "PaperMillModel" (314 : Nat) "PaperMillModel" "isKept" "I") ∈ lw_all := lw_g (lw_at lw_m9 36 rfl) rfl
theorem q2068 : (Jvm.Cond.fieldLink "PaperMillModel" (19 : Nat) "PaperMillModel" "aside" "[I") ∈ lw_all := lw_g (lw_at lw_m9 37 rfl) rfl
theorem q2069 : (Jvm.Cond.fieldLink "PaperMillModel" (22 : Nat) "PaperMillModel" "pounds" "[I") ∈ lw_all := lw_g (lw_at lw_m9 38 rfl) rfl
theorem q2070 : (Jvm.Cond.fieldLink "PaperMillModel" (25 : Nat) "PaperMillModel" "mouldy" "[I") ∈ lw_all := lw_g (lw_at lw_m9 39 rfl) rfl
theorem q2071 : (Jvm.Cond.fieldLink "PaperMillModel" (28 : Nat) "PaperMillModel" "text" "[I") ∈ lw_all := lw_g (lw_at lw_m9 40 rfl) rfl
theorem q2072 : (Jvm.Cond.fieldLink "PaperMillModel" (258 : Nat) "PaperMillModel" "length" "I") ∈ lw_all := lw_g (lw_at lw_m9 41 rfl) rfl
theorem q2073 : (Jvm.Cond.fieldLink "PaperMillModel" (37 : Nat) "PaperMillModel" "thrown" "I") ∈ lw_all := lw_g (lw_at lw_m9 42 rfl) rfl
theorem q2074 : (Jvm.Cond.fieldLink "PaperMillModel" (126 : Nat) "PaperMillModel" "fresh" "I") ∈ lw_all := lw_g (lw_at lw_m9 43 rfl) rfl
theorem q2075 : (Jvm.Cond.fieldLink "PaperMillModel" (261 : Nat) "PaperMillModel" "spot" "I") ∈ lw_all := lw_g (lw_at lw_m9 44 rfl) rfl
theorem q2076 : (Jvm.Cond.fieldLink "PaperMillModel" (31 : Nat) "PaperMillModel" "told" "[I") ∈ lw_all := lw_g (lw_at lw_m9 45 rfl) rfl
theorem q2077 : (Jvm.Cond.fieldLink "PaperMillModel" (267 : Nat) "PaperMillModel" "toldMany" "I") ∈ lw_all := lw_g (lw_at lw_m9 46 rfl) rfl
theorem q2078 : (Jvm.Cond.fieldLink "PaperMillModel" (34 : Nat) "PaperMillModel" "mix" "[I") ∈ lw_all := lw_g (lw_at lw_m9 47 rfl) rfl
theorem q2079 : (Jvm.Cond.laysFinal "PaperMillModel" "PaperMillModel" "now" "[I") ∈ lw_all := lw_g (lw_at lw_m9 48 rfl) rfl
theorem q2080 : (Jvm.Cond.soleField "PaperMillModel" "now") ∈ lw_all := lw_g (lw_at lw_m9 49 rfl) rfl
theorem q2081 : (Jvm.Cond.laysFinal "PaperMillModel" "PaperMillModel" "past" "[I") ∈ lw_all := lw_g (lw_at lw_m9 50 rfl) rfl
theorem q2082 : (Jvm.Cond.soleField "PaperMillModel" "past") ∈ lw_all := lw_g (lw_at lw_m9 51 rfl) rfl
theorem q2083 : (Jvm.Cond.lays "PaperMillModel" "PaperMillModel" "states" "I") ∈ lw_all := lw_g (lw_at lw_m9 52 rfl) rfl
theorem q2084 : (Jvm.Cond.soleField "PaperMillModel" "states") ∈ lw_all := lw_g (lw_at lw_m9 53 rfl) rfl
theorem q2085 : (Jvm.Cond.laysFinal "PaperMillModel" "PaperMillModel" "kept" "[I") ∈ lw_all := lw_g (lw_at lw_m9 54 rfl) rfl
theorem q2086 : (Jvm.Cond.soleField "PaperMillModel" "kept") ∈ lw_all := lw_g (lw_at lw_m9 55 rfl) rfl
theorem q2087 : (Jvm.Cond.lays "PaperMillModel" "PaperMillModel" "isKept" "I") ∈ lw_all := lw_g (lw_at lw_m9 56 rfl) rfl
theorem q2088 : (Jvm.Cond.soleField "PaperMillModel" "isKept") ∈ lw_all := lw_g (lw_at lw_m9 57 rfl) rfl
theorem q2089 : (Jvm.Cond.laysFinal "PaperMillModel" "PaperMillModel" "aside" "[I") ∈ lw_all := lw_g (lw_at lw_m9 58 rfl) rfl
theorem q2090 : (Jvm.Cond.soleField "PaperMillModel" "aside") ∈ lw_all := lw_g (lw_at lw_m9 59 rfl) rfl
theorem q2091 : (Jvm.Cond.laysFinal "PaperMillModel" "PaperMillModel" "pounds" "[I") ∈ lw_all := lw_g (lw_at lw_m9 60 rfl) rfl
theorem q2092 : (Jvm.Cond.soleField "PaperMillModel" "pounds") ∈ lw_all := lw_g (lw_at lw_m9 61 rfl) rfl
theorem q2093 : (Jvm.Cond.laysFinal "PaperMillModel" "PaperMillModel" "mouldy" "[I") ∈ lw_all := lw_g (lw_at lw_m9 62 rfl) rfl
theorem q2094 : (Jvm.Cond.soleField "PaperMillModel" "mouldy") ∈ lw_all := lw_g (lw_at lw_m9 63 rfl) rfl
theorem q2095 : (Jvm.Cond.laysFinal "PaperMillModel" "PaperMillModel" "text" "[I") ∈ lw_all := lw_g (lw_at lw_m9 64 rfl) rfl
theorem q2096 : (Jvm.Cond.soleField "PaperMillModel" "text") ∈ lw_all := lw_g (lw_at lw_m9 65 rfl) rfl
theorem q2097 : (Jvm.Cond.lays "PaperMillModel" "PaperMillModel" "length" "I") ∈ lw_all := lw_g (lw_at lw_m9 66 rfl) rfl
theorem q2098 : (Jvm.Cond.soleField "PaperMillModel" "length") ∈ lw_all := lw_g (lw_at lw_m9 67 rfl) rfl
theorem q2099 : (Jvm.Cond.lays "PaperMillModel" "PaperMillModel" "thrown" "I") ∈ lw_all := lw_g (lw_at lw_m9 68 rfl) rfl
theorem q2100 : (Jvm.Cond.soleField "PaperMillModel" "thrown") ∈ lw_all := lw_g (lw_at lw_m9 69 rfl) rfl
theorem q2101 : (Jvm.Cond.lays "PaperMillModel" "PaperMillModel" "fresh" "I") ∈ lw_all := lw_g (lw_at lw_m9 70 rfl) rfl
theorem q2102 : (Jvm.Cond.soleField "PaperMillModel" "fresh") ∈ lw_all := lw_g (lw_at lw_m9 71 rfl) rfl
theorem q2103 : (Jvm.Cond.lays "PaperMillModel" "PaperMillModel" "spot" "I") ∈ lw_all := lw_g (lw_at lw_m9 72 rfl) rfl
theorem q2104 : (Jvm.Cond.soleField "PaperMillModel" "spot") ∈ lw_all := lw_g (lw_at lw_m9 73 rfl) rfl
theorem q2105 : (Jvm.Cond.laysFinal "PaperMillModel" "PaperMillModel" "told" "[I") ∈ lw_all := lw_g (lw_at lw_m9 74 rfl) rfl
theorem q2106 : (Jvm.Cond.soleField "PaperMillModel" "told") ∈ lw_all := lw_g (lw_at lw_m9 75 rfl) rfl
theorem q2107 : (Jvm.Cond.lays "PaperMillModel" "PaperMillModel" "toldMany" "I") ∈ lw_all := lw_g (lw_at lw_m9 76 rfl) rfl
theorem q2108 : (Jvm.Cond.soleField "PaperMillModel" "toldMany") ∈ lw_all := lw_g (lw_at lw_m9 77 rfl) rfl
theorem q2109 : (Jvm.Cond.laysFinal "PaperMillModel" "PaperMillModel" "mix" "[I") ∈ lw_all := lw_g (lw_at lw_m9 78 rfl) rfl
theorem q2110 : (Jvm.Cond.soleField "PaperMillModel" "mix") ∈ lw_all := lw_g (lw_at lw_m9 79 rfl) rfl
theorem q2111 : (Jvm.Cond.superclass "PaperMillModel" "java/lang/Object") ∈ lw_all := lw_g (lw_at lw_m9 80 rfl) rfl
theorem q2113 : (Jvm.Cond.instanceMethod ({ cls := "PaperMillModel", name := "thrown", desc := "()I" } : Jvm.MethodName)) ∈ lw_all := lw_g (lw_at lw_m9 82 rfl) rfl
theorem q2114 : (Jvm.Cond.selects "PaperMillModel" ({ cls := "PaperMillModel", name := "thrown", desc := "()I" } : Jvm.MethodName) ({ cls := "PaperMillModel", name := "thrown", desc := "()I" } : Jvm.MethodName)) ∈ lw_all := lw_g (lw_at lw_m9 83 rfl) rfl
theorem q2115 : (Jvm.Cond.code ({ cls := "PaperMillModel", name := "thrown", desc := "()I" } : Jvm.MethodName) prog_26_method_2_code (1 : Nat) (Option.some Jvm.ClassFile.FieldType.int)) ∈ lw_all := lw_g (lw_at lw_m9 84 rfl) rfl
theorem q2117 : (Jvm.Cond.instanceMethod ({ cls := "PaperMillModel", name := "deliver", desc := "(IIII)I" } : Jvm.MethodName)) ∈ lw_all := lw_g (lw_at lw_m9 86 rfl) rfl
theorem q2118 : (Jvm.Cond.selects "PaperMillModel" ({ cls := "PaperMillModel", name := "deliver", desc := "(IIII)I" } : Jvm.MethodName) ({ cls := "PaperMillModel", name := "deliver", desc := "(IIII)I" } : Jvm.MethodName)) ∈ lw_all := lw_g (lw_at lw_m9 87 rfl) rfl
theorem q2119 : (Jvm.Cond.code ({ cls := "PaperMillModel", name := "deliver", desc := "(IIII)I" } : Jvm.MethodName) prog_26_method_54_code (5 : Nat) (Option.some Jvm.ClassFile.FieldType.int)) ∈ lw_all := lw_g (lw_at lw_m9 88 rfl) rfl
theorem q2120 : (Jvm.Cond.methodLink "PaperMillModel" (135 : Nat) ({ cls := "PaperMillModel", name := "isCarter", desc := "(I)Z" } : Jvm.MethodName)) ∈ lw_all := lw_g (lw_at lw_m9 89 rfl) rfl
theorem q2121 : (Jvm.Cond.static ({ cls := "PaperMillModel", name := "isCarter", desc := "(I)Z" } : Jvm.MethodName)) ∈ lw_all := lw_g (lw_at lw_m9 90 rfl) rfl
theorem q2122 : (Jvm.Cond.code ({ cls := "PaperMillModel", name := "isCarter", desc := "(I)Z" } : Jvm.MethodName) prog_26_method_9_code (1 : Nat) (Option.some Jvm.ClassFile.FieldType.boolean)) ∈ lw_all := lw_g (lw_at lw_m9 91 rfl) rfl
theorem q2123 : (Jvm.Cond.methodLink "PaperMillModel" (48 : Nat) ({ cls := "PaperMillModel", name := "in", desc := "(III)Z" } : Jvm.MethodName)) ∈ lw_all := lw_g (lw_at lw_m9 92 rfl) rfl
theorem q2124 : (Jvm.Cond.static ({ cls := "PaperMillModel", name := "in", desc := "(III)Z" } : Jvm.MethodName)) ∈ lw_all := lw_g (lw_at lw_m9 93 rfl) rfl
theorem q2125 : (Jvm.Cond.code ({ cls := "PaperMillModel", name := "in", desc := "(III)Z" } : Jvm.MethodName) prog_26_method_4_code (3 : Nat) (Option.some Jvm.ClassFile.FieldType.boolean)) ∈ lw_all := lw_g (lw_at lw_m9 94 rfl) rfl
theorem q2126 : (Jvm.Cond.methodLink "PaperMillModel" (138 : Nat) ({ cls := "PaperMillModel", name := "isSort", desc := "(I)Z" } : Jvm.MethodName)) ∈ lw_all := lw_g (lw_at lw_m9 95 rfl) rfl
theorem q2127 : (Jvm.Cond.static ({ cls := "PaperMillModel", name := "isSort", desc := "(I)Z" } : Jvm.MethodName)) ∈ lw_all := lw_g (lw_at lw_m9 96 rfl) rfl
theorem q2128 : (Jvm.Cond.code ({ cls := "PaperMillModel", name := "isSort", desc := "(I)Z" } : Jvm.MethodName) prog_26_method_10_code (1 : Nat) (Option.some Jvm.ClassFile.FieldType.boolean)) ∈ lw_all := lw_g (lw_at lw_m9 97 rfl) rfl
theorem q2129 : (Jvm.Cond.methodLink "PaperMillModel" (141 : Nat) ({ cls := "PaperMillModel", name := "isWeight", desc := "(I)Z" } : Jvm.MethodName)) ∈ lw_all := lw_g (lw_at lw_m9 98 rfl) rfl
theorem q2130 : (Jvm.Cond.static ({ cls := "PaperMillModel", name := "isWeight", desc := "(I)Z" } : Jvm.MethodName)) ∈ lw_all := lw_g (lw_at lw_m9 99 rfl) rfl
theorem q2131 : (Jvm.Cond.code ({ cls := "PaperMillModel", name := "isWeight", desc := "(I)Z" } : Jvm.MethodName) prog_26_method_52_code (1 : Nat) (Option.some Jvm.ClassFile.FieldType.boolean)) ∈ lw_all := lw_g (lw_at lw_m9 100 rfl) rfl
theorem q2132 : (Jvm.Cond.methodLink "PaperMillModel" (144 : Nat) ({ cls := "PaperMillModel", name := "isDamp", desc := "(I)Z" } : Jvm.MethodName)) ∈ lw_all := lw_g (lw_at lw_m9 101 rfl) rfl
theorem q2133 : (Jvm.Cond.static ({ cls := "PaperMillModel", name := "isDamp", desc := "(I)Z" } : Jvm.MethodName)) ∈ lw_all := lw_g (lw_at lw_m9 102 rfl) rfl
theorem q2134 : (Jvm.Cond.code ({ cls := "PaperMillModel", name := "isDamp", desc := "(I)Z" } : Jvm.MethodName) prog_26_method_53_code (1 : Nat) (Option.some Jvm.ClassFile.FieldType.boolean)) ∈ lw_all := lw_g (lw_at lw_m9 103 rfl) rfl
theorem q2135 : (Jvm.Cond.methodLink "PaperMillModel" (147 : Nat) ({ cls := "PaperMillModel", name := "whyNot", desc := "(III)I" } : Jvm.MethodName)) ∈ lw_all := lw_g (lw_at lw_m9 104 rfl) rfl
theorem q2136 : (Jvm.Cond.privateMethod ({ cls := "PaperMillModel", name := "whyNot", desc := "(III)I" } : Jvm.MethodName)) ∈ lw_tbl := lw_at lw_m9 105 rfl
theorem q2137 : (Jvm.Cond.instanceMethod ({ cls := "PaperMillModel", name := "whyNot", desc := "(III)I" } : Jvm.MethodName)) ∈ lw_all := lw_g (lw_at lw_m9 106 rfl) rfl
theorem q2138 : (Jvm.Cond.code ({ cls := "PaperMillModel", name := "whyNot", desc := "(III)I" } : Jvm.MethodName) prog_26_method_20_code (4 : Nat) (Option.some Jvm.ClassFile.FieldType.int)) ∈ lw_all := lw_g (lw_at lw_m9 107 rfl) rfl
theorem q2139 : (Jvm.Cond.methodLink "PaperMillModel" (60 : Nat) ({ cls := "PaperMillModel", name := "debt", desc := "(I)I" } : Jvm.MethodName)) ∈ lw_all := lw_g (lw_at lw_m9 108 rfl) rfl
theorem q2140 : (Jvm.Cond.privateMethod ({ cls := "PaperMillModel", name := "debt", desc := "(I)I" } : Jvm.MethodName)) ∈ lw_tbl := lw_at lw_m9 109 rfl
theorem q2141 : (Jvm.Cond.instanceMethod ({ cls := "PaperMillModel", name := "debt", desc := "(I)I" } : Jvm.MethodName)) ∈ lw_all := lw_g (lw_at lw_m9 110 rfl) rfl
theorem q2142 : (Jvm.Cond.code ({ cls := "PaperMillModel", name := "debt", desc := "(I)I" } : Jvm.MethodName) prog_26_method_17_code (2 : Nat) (Option.some Jvm.ClassFile.FieldType.int)) ∈ lw_all := lw_g (lw_at lw_m9 111 rfl) rfl
theorem q2143 : (Jvm.Cond.methodLink "PaperMillModel" (64 : Nat) ({ cls := "PaperMillModel", name := "toll", desc := "(II)I" } : Jvm.MethodName)) ∈ lw_all := lw_g (lw_at lw_m9 112 rfl) rfl
theorem q2144 : (Jvm.Cond.privateMethod ({ cls := "PaperMillModel", name := "toll", desc := "(II)I" } : Jvm.MethodName)) ∈ lw_tbl := lw_at lw_m9 113 rfl
theorem q2145 : (Jvm.Cond.instanceMethod ({ cls := "PaperMillModel", name := "toll", desc := "(II)I" } : Jvm.MethodName)) ∈ lw_all := lw_g (lw_at lw_m9 114 rfl) rfl
theorem q2146 : (Jvm.Cond.code ({ cls := "PaperMillModel", name := "toll", desc := "(II)I" } : Jvm.MethodName) prog_26_method_19_code (4 : Nat) (Option.some Jvm.ClassFile.FieldType.int)) ∈ lw_all := lw_g (lw_at lw_m9 115 rfl) rfl
theorem q2147 : (Jvm.Cond.methodLink "PaperMillModel" (56 : Nat) ({ cls := "PaperMillModel", name := "hasPass", desc := "(I)Z" } : Jvm.MethodName)) ∈ lw_all := lw_g (lw_at lw_m9 116 rfl) rfl
theorem q2148 : (Jvm.Cond.privateMethod ({ cls := "PaperMillModel", name := "hasPass", desc := "(I)Z" } : Jvm.MethodName)) ∈ lw_tbl := lw_at lw_m9 117 rfl
theorem q2149 : (Jvm.Cond.instanceMethod ({ cls := "PaperMillModel", name := "hasPass", desc := "(I)Z" } : Jvm.MethodName)) ∈ lw_all := lw_g (lw_at lw_m9 118 rfl) rfl
theorem q2150 : (Jvm.Cond.code ({ cls := "PaperMillModel", name := "hasPass", desc := "(I)Z" } : Jvm.MethodName) prog_26_method_18_code (2 : Nat) (Option.some Jvm.ClassFile.FieldType.boolean)) ∈ lw_all := lw_g (lw_at lw_m9 119 rfl) rfl
theorem q2151 : (Jvm.Cond.methodLink "PaperMillModel" (151 : Nat) ({ cls := "PaperMillModel", name := "saves", desc := "()V" } : Jvm.MethodName)) ∈ lw_all := lw_g (lw_at lw_m9 120 rfl) rfl
theorem q2152 : (Jvm.Cond.privateMethod ({ cls := "PaperMillModel", name := "saves", desc := "()V" } : Jvm.MethodName)) ∈ lw_tbl := lw_at lw_m9 121 rfl
theorem q2153 : (Jvm.Cond.instanceMethod ({ cls := "PaperMillModel", name := "saves", desc := "()V" } : Jvm.MethodName)) ∈ lw_all := lw_g (lw_at lw_m9 122 rfl) rfl
theorem q2154 : (Jvm.Cond.code ({ cls := "PaperMillModel", name := "saves", desc := "()V" } : Jvm.MethodName) prog_26_method_7_code (2 : Nat) (Option.none : Option Jvm.ClassFile.FieldType)) ∈ lw_all := lw_g (lw_at lw_m9 123 rfl) rfl
theorem q2155 : (Jvm.Cond.methodLink "PaperMillModel" (44 : Nat) ({ cls := "PaperMillModel", name := "lays", desc := "([II[II)V" } : Jvm.MethodName)) ∈ lw_all := lw_g (lw_at lw_m9 124 rfl) rfl
theorem q2156 : (Jvm.Cond.static ({ cls := "PaperMillModel", name := "lays", desc := "([II[II)V" } : Jvm.MethodName)) ∈ lw_all := lw_g (lw_at lw_m9 125 rfl) rfl
theorem q2157 : (Jvm.Cond.code ({ cls := "PaperMillModel", name := "lays", desc := "([II[II)V" } : Jvm.MethodName) prog_26_method_6_code (5 : Nat) (Option.none : Option Jvm.ClassFile.FieldType)) ∈ lw_all := lw_g (lw_at lw_m9 126 rfl) rfl
theorem q2158 : (Jvm.Cond.methodLink "PaperMillModel" (154 : Nat) ({ cls := "PaperMillModel", name := "comes", desc := "(IIII)I" } : Jvm.MethodName)) ∈ lw_all := lw_g (lw_at lw_m9 127 rfl) rfl
theorem q2159 : (Jvm.Cond.privateMethod ({ cls := "PaperMillModel", name := "comes", desc := "(IIII)I" } : Jvm.MethodName)) ∈ lw_tbl := lw_at lw_m9 128 rfl
theorem q2160 : (Jvm.Cond.instanceMethod ({ cls := "PaperMillModel", name := "comes", desc := "(IIII)I" } : Jvm.MethodName)) ∈ lw_all := lw_g (lw_at lw_m9 129 rfl) rfl
theorem q2161 : (Jvm.Cond.code ({ cls := "PaperMillModel", name := "comes", desc := "(IIII)I" } : Jvm.MethodName) prog_26_method_21_code (7 : Nat) (Option.some Jvm.ClassFile.FieldType.int)) ∈ lw_all := lw_g (lw_at lw_m9 130 rfl) rfl
theorem q2162 : (Jvm.Cond.methodLink "PaperMillModel" (67 : Nat) ({ cls := "PaperMillModel", name := "lay", desc := "(III)V" } : Jvm.MethodName)) ∈ lw_all := lw_g (lw_at lw_m9 131 rfl) rfl
theorem q2163 : (Jvm.Cond.privateMethod ({ cls := "PaperMillModel", name := "lay", desc := "(III)V" } : Jvm.MethodName)) ∈ lw_tbl := lw_at lw_m9 132 rfl
theorem q2164 : (Jvm.Cond.instanceMethod ({ cls := "PaperMillModel", name := "lay", desc := "(III)V" } : Jvm.MethodName)) ∈ lw_all := lw_g (lw_at lw_m9 133 rfl) rfl
theorem q2165 : (Jvm.Cond.code ({ cls := "PaperMillModel", name := "lay", desc := "(III)V" } : Jvm.MethodName) prog_26_method_15_code (4 : Nat) (Option.none : Option Jvm.ClassFile.FieldType)) ∈ lw_all := lw_g (lw_at lw_m9 134 rfl) rfl
theorem q2167 : (Jvm.Cond.instanceMethod ({ cls := "PaperMillModel", name := "payToll", desc := "(II)I" } : Jvm.MethodName)) ∈ lw_all := lw_g (lw_at lw_m9 136 rfl) rfl
theorem q2168 : (Jvm.Cond.selects "PaperMillModel" ({ cls := "PaperMillModel", name := "payToll", desc := "(II)I" } : Jvm.MethodName) ({ cls := "PaperMillModel", name := "payToll", desc := "(II)I" } : Jvm.MethodName)) ∈ lw_all := lw_g (lw_at lw_m9 137 rfl) rfl
theorem q2169 : (Jvm.Cond.code ({ cls := "PaperMillModel", name := "payToll", desc := "(II)I" } : Jvm.MethodName) prog_26_method_55_code (3 : Nat) (Option.some Jvm.ClassFile.FieldType.int)) ∈ lw_all := lw_g (lw_at lw_m9 138 rfl) rfl
theorem q2171 : (Jvm.Cond.instanceMethod ({ cls := "PaperMillModel", name := "givePass", desc := "(II)I" } : Jvm.MethodName)) ∈ lw_all := lw_g (lw_at lw_m9 140 rfl) rfl
theorem q2172 : (Jvm.Cond.selects "PaperMillModel" ({ cls := "PaperMillModel", name := "givePass", desc := "(II)I" } : Jvm.MethodName) ({ cls := "PaperMillModel", name := "givePass", desc := "(II)I" } : Jvm.MethodName)) ∈ lw_all := lw_g (lw_at lw_m9 141 rfl) rfl
theorem q2173 : (Jvm.Cond.code ({ cls := "PaperMillModel", name := "givePass", desc := "(II)I" } : Jvm.MethodName) prog_26_method_56_code (3 : Nat) (Option.some Jvm.ClassFile.FieldType.int)) ∈ lw_all := lw_g (lw_at lw_m9 142 rfl) rfl
theorem q2175 : (Jvm.Cond.instanceMethod ({ cls := "PaperMillModel", name := "setLimit", desc := "(I)I" } : Jvm.MethodName)) ∈ lw_all := lw_g (lw_at lw_m9 144 rfl) rfl
theorem q2176 : (Jvm.Cond.selects "PaperMillModel" ({ cls := "PaperMillModel", name := "setLimit", desc := "(I)I" } : Jvm.MethodName) ({ cls := "PaperMillModel", name := "setLimit", desc := "(I)I" } : Jvm.MethodName)) ∈ lw_all := lw_g (lw_at lw_m9 145 rfl) rfl
theorem q2177 : (Jvm.Cond.code ({ cls := "PaperMillModel", name := "setLimit", desc := "(I)I" } : Jvm.MethodName) prog_26_method_58_code (2 : Nat) (Option.some Jvm.ClassFile.FieldType.int)) ∈ lw_all := lw_g (lw_at lw_m9 146 rfl) rfl
theorem q2178 : (Jvm.Cond.methodLink "PaperMillModel" (158 : Nat) ({ cls := "PaperMillModel", name := "becomes", desc := "(III)I" } : Jvm.MethodName)) ∈ lw_all := lw_g (lw_at lw_m9 147 rfl) rfl
theorem q2179 : (Jvm.Cond.privateMethod ({ cls := "PaperMillModel", name := "becomes", desc := "(III)I" } : Jvm.MethodName)) ∈ lw_tbl := lw_at lw_m9 148 rfl
theorem q2180 : (Jvm.Cond.instanceMethod ({ cls := "PaperMillModel", name := "becomes", desc := "(III)I" } : Jvm.MethodName)) ∈ lw_all := lw_g (lw_at lw_m9 149 rfl) rfl
theorem q2181 : (Jvm.Cond.code ({ cls := "PaperMillModel", name := "becomes", desc := "(III)I" } : Jvm.MethodName) prog_26_method_57_code (5 : Nat) (Option.some Jvm.ClassFile.FieldType.int)) ∈ lw_all := lw_g (lw_at lw_m9 150 rfl) rfl
theorem q2183 : (Jvm.Cond.instanceMethod ({ cls := "PaperMillModel", name := "setStove", desc := "(I)I" } : Jvm.MethodName)) ∈ lw_all := lw_g (lw_at lw_m9 152 rfl) rfl
theorem q2184 : (Jvm.Cond.selects "PaperMillModel" ({ cls := "PaperMillModel", name := "setStove", desc := "(I)I" } : Jvm.MethodName) ({ cls := "PaperMillModel", name := "setStove", desc := "(I)I" } : Jvm.MethodName)) ∈ lw_all := lw_g (lw_at lw_m9 153 rfl) rfl
theorem q2185 : (Jvm.Cond.code ({ cls := "PaperMillModel", name := "setStove", desc := "(I)I" } : Jvm.MethodName) prog_26_method_59_code (2 : Nat) (Option.some Jvm.ClassFile.FieldType.int)) ∈ lw_all := lw_g (lw_at lw_m9 154 rfl) rfl
theorem q2187 : (Jvm.Cond.instanceMethod ({ cls := "PaperMillModel", name := "moveBale", desc := "(II)I" } : Jvm.MethodName)) ∈ lw_all := lw_g (lw_at lw_m9 156 rfl) rfl
theorem q2188 : (Jvm.Cond.selects "PaperMillModel" ({ cls := "PaperMillModel", name := "moveBale", desc := "(II)I" } : Jvm.MethodName) ({ cls := "PaperMillModel", name := "moveBale", desc := "(II)I" } : Jvm.MethodName)) ∈ lw_all := lw_g (lw_at lw_m9 157 rfl) rfl
theorem q2189 : (Jvm.Cond.code ({ cls := "PaperMillModel", name := "moveBale", desc := "(II)I" } : Jvm.MethodName) prog_26_method_60_code (7 : Nat) (Option.some Jvm.ClassFile.FieldType.int)) ∈ lw_all := lw_g (lw_at lw_m9 158 rfl) rfl
theorem q2190 : (Jvm.Cond.methodLink "PaperMillModel" (161 : Nat) ({ cls := "PaperMillModel", name := "isBale", desc := "(I)Z" } : Jvm.MethodName)) ∈ lw_all := lw_g (lw_at lw_m9 159 rfl) rfl
theorem q2191 : (Jvm.Cond.privateMethod ({ cls := "PaperMillModel", name := "isBale", desc := "(I)Z" } : Jvm.MethodName)) ∈ lw_tbl := lw_at lw_m9 160 rfl
theorem q2192 : (Jvm.Cond.instanceMethod ({ cls := "PaperMillModel", name := "isBale", desc := "(I)Z" } : Jvm.MethodName)) ∈ lw_all := lw_g (lw_at lw_m9 161 rfl) rfl
theorem q2193 : (Jvm.Cond.code ({ cls := "PaperMillModel", name := "isBale", desc := "(I)Z" } : Jvm.MethodName) prog_26_method_13_code (2 : Nat) (Option.some Jvm.ClassFile.FieldType.boolean)) ∈ lw_all := lw_g (lw_at lw_m9 162 rfl) rfl
theorem q2194 : (Jvm.Cond.methodLink "PaperMillModel" (52 : Nat) ({ cls := "PaperMillModel", name := "bale", desc := "(II)I" } : Jvm.MethodName)) ∈ lw_all := lw_g (lw_at lw_m9 163 rfl) rfl
theorem q2195 : (Jvm.Cond.privateMethod ({ cls := "PaperMillModel", name := "bale", desc := "(II)I" } : Jvm.MethodName)) ∈ lw_tbl := lw_at lw_m9 164 rfl
theorem q2196 : (Jvm.Cond.instanceMethod ({ cls := "PaperMillModel", name := "bale", desc := "(II)I" } : Jvm.MethodName)) ∈ lw_all := lw_g (lw_at lw_m9 165 rfl) rfl
theorem q2197 : (Jvm.Cond.code ({ cls := "PaperMillModel", name := "bale", desc := "(II)I" } : Jvm.MethodName) prog_26_method_14_code (3 : Nat) (Option.some Jvm.ClassFile.FieldType.int)) ∈ lw_all := lw_g (lw_at lw_m9 166 rfl) rfl
theorem q2199 : (Jvm.Cond.instanceMethod ({ cls := "PaperMillModel", name := "burn", desc := "(I)I" } : Jvm.MethodName)) ∈ lw_all := lw_g (lw_at lw_m9 168 rfl) rfl
theorem q2200 : (Jvm.Cond.selects "PaperMillModel" ({ cls := "PaperMillModel", name := "burn", desc := "(I)I" } : Jvm.MethodName) ({ cls := "PaperMillModel", name := "burn", desc := "(I)I" } : Jvm.MethodName)) ∈ lw_all := lw_g (lw_at lw_m9 169 rfl) rfl
theorem q2201 : (Jvm.Cond.code ({ cls := "PaperMillModel", name := "burn", desc := "(I)I" } : Jvm.MethodName) prog_26_method_61_code (3 : Nat) (Option.some Jvm.ClassFile.FieldType.int)) ∈ lw_all := lw_g (lw_at lw_m9 170 rfl) rfl
theorem q2202 : (Jvm.Cond.methodLink "PaperMillModel" (90 : Nat) ({ cls := "PaperMillModel", name := "takesOut", desc := "(IIII)V" } : Jvm.MethodName)) ∈ lw_all := lw_g (lw_at lw_m9 171 rfl) rfl
theorem q2203 : (Jvm.Cond.privateMethod ({ cls := "PaperMillModel", name := "takesOut", desc := "(IIII)V" } : Jvm.MethodName)) ∈ lw_tbl := lw_at lw_m9 172 rfl
theorem q2204 : (Jvm.Cond.instanceMethod ({ cls := "PaperMillModel", name := "takesOut", desc := "(IIII)V" } : Jvm.MethodName)) ∈ lw_all := lw_g (lw_at lw_m9 173 rfl) rfl
theorem q2205 : (Jvm.Cond.code ({ cls := "PaperMillModel", name := "takesOut", desc := "(IIII)V" } : Jvm.MethodName) prog_26_method_8_code (6 : Nat) (Option.none : Option Jvm.ClassFile.FieldType)) ∈ lw_all := lw_g (lw_at lw_m9 174 rfl) rfl
theorem q2207 : (Jvm.Cond.instanceMethod ({ cls := "PaperMillModel", name := "beat", desc := "(II)I" } : Jvm.MethodName)) ∈ lw_all := lw_g (lw_at lw_m9 176 rfl) rfl
theorem q2208 : (Jvm.Cond.selects "PaperMillModel" ({ cls := "PaperMillModel", name := "beat", desc := "(II)I" } : Jvm.MethodName) ({ cls := "PaperMillModel", name := "beat", desc := "(II)I" } : Jvm.MethodName)) ∈ lw_all := lw_g (lw_at lw_m9 177 rfl) rfl
theorem q2209 : (Jvm.Cond.code ({ cls := "PaperMillModel", name := "beat", desc := "(II)I" } : Jvm.MethodName) prog_26_method_63_code (3 : Nat) (Option.some Jvm.ClassFile.FieldType.int)) ∈ lw_all := lw_g (lw_at lw_m9 178 rfl) rfl
theorem q2210 : (Jvm.Cond.methodLink "PaperMillModel" (164 : Nat) ({ cls := "PaperMillModel", name := "isVat", desc := "(I)Z" } : Jvm.MethodName)) ∈ lw_all := lw_g (lw_at lw_m9 179 rfl) rfl
theorem q2211 : (Jvm.Cond.static ({ cls := "PaperMillModel", name := "isVat", desc := "(I)Z" } : Jvm.MethodName)) ∈ lw_all := lw_g (lw_at lw_m9 180 rfl) rfl
theorem q2212 : (Jvm.Cond.code ({ cls := "PaperMillModel", name := "isVat", desc := "(I)Z" } : Jvm.MethodName) prog_26_method_11_code (1 : Nat) (Option.some Jvm.ClassFile.FieldType.boolean)) ∈ lw_all := lw_g (lw_at lw_m9 181 rfl) rfl
theorem q2213 : (Jvm.Cond.methodLink "PaperMillModel" (167 : Nat) ({ cls := "PaperMillModel", name := "isPounds", desc := "(I)Z" } : Jvm.MethodName)) ∈ lw_all := lw_g (lw_at lw_m9 182 rfl) rfl
theorem q2214 : (Jvm.Cond.static ({ cls := "PaperMillModel", name := "isPounds", desc := "(I)Z" } : Jvm.MethodName)) ∈ lw_all := lw_g (lw_at lw_m9 183 rfl) rfl
theorem q2215 : (Jvm.Cond.code ({ cls := "PaperMillModel", name := "isPounds", desc := "(I)Z" } : Jvm.MethodName) prog_26_method_62_code (1 : Nat) (Option.some Jvm.ClassFile.FieldType.boolean)) ∈ lw_all := lw_g (lw_at lw_m9 184 rfl) rfl
theorem q2216 : (Jvm.Cond.methodLink "PaperMillModel" (170 : Nat) ({ cls := "PaperMillModel", name := "whyNoBeating", desc := "(II)I" } : Jvm.MethodName)) ∈ lw_all := lw_g (lw_at lw_m9 185 rfl) rfl
theorem q2217 : (Jvm.Cond.privateMethod ({ cls := "PaperMillModel", name := "whyNoBeating", desc := "(II)I" } : Jvm.MethodName)) ∈ lw_tbl := lw_at lw_m9 186 rfl
theorem q2218 : (Jvm.Cond.instanceMethod ({ cls := "PaperMillModel", name := "whyNoBeating", desc := "(II)I" } : Jvm.MethodName)) ∈ lw_all := lw_g (lw_at lw_m9 187 rfl) rfl
theorem q2219 : (Jvm.Cond.code ({ cls := "PaperMillModel", name := "whyNoBeating", desc := "(II)I" } : Jvm.MethodName) prog_26_method_26_code (4 : Nat) (Option.some Jvm.ClassFile.FieldType.int)) ∈ lw_all := lw_g (lw_at lw_m9 188 rfl) rfl
theorem q2220 : (Jvm.Cond.methodLink "PaperMillModel" (74 : Nat) ({ cls := "PaperMillModel", name := "units", desc := "(I)I" } : Jvm.MethodName)) ∈ lw_all := lw_g (lw_at lw_m9 189 rfl) rfl
theorem q2221 : (Jvm.Cond.privateMethod ({ cls := "PaperMillModel", name := "units", desc := "(I)I" } : Jvm.MethodName)) ∈ lw_tbl := lw_at lw_m9 190 rfl
theorem q2222 : (Jvm.Cond.instanceMethod ({ cls := "PaperMillModel", name := "units", desc := "(I)I" } : Jvm.MethodName)) ∈ lw_all := lw_g (lw_at lw_m9 191 rfl) rfl
theorem q2223 : (Jvm.Cond.code ({ cls := "PaperMillModel", name := "units", desc := "(I)I" } : Jvm.MethodName) prog_26_method_25_code (2 : Nat) (Option.some Jvm.ClassFile.FieldType.int)) ∈ lw_all := lw_g (lw_at lw_m9 192 rfl) rfl
theorem q2224 : (Jvm.Cond.methodLink "PaperMillModel" (77 : Nat) ({ cls := "PaperMillModel", name := "shares", desc := "(I)V" } : Jvm.MethodName)) ∈ lw_all := lw_g (lw_at lw_m9 193 rfl) rfl
theorem q2225 : (Jvm.Cond.privateMethod ({ cls := "PaperMillModel", name := "shares", desc := "(I)V" } : Jvm.MethodName)) ∈ lw_tbl := lw_at lw_m9 194 rfl
theorem q2226 : (Jvm.Cond.instanceMethod ({ cls := "PaperMillModel", name := "shares", desc := "(I)V" } : Jvm.MethodName)) ∈ lw_all := lw_g (lw_at lw_m9 195 rfl) rfl
theorem q2227 : (Jvm.Cond.code ({ cls := "PaperMillModel", name := "shares", desc := "(I)V" } : Jvm.MethodName) prog_26_method_24_code (9 : Nat) (Option.none : Option Jvm.ClassFile.FieldType)) ∈ lw_all := lw_g (lw_at lw_m9 196 rfl) rfl
theorem q2228 : (Jvm.Cond.methodLink "PaperMillModel" (81 : Nat) ({ cls := "PaperMillModel", name := "good", desc := "(I)I" } : Jvm.MethodName)) ∈ lw_all := lw_g (lw_at lw_m9 197 rfl) rfl
theorem q2229 : (Jvm.Cond.privateMethod ({ cls := "PaperMillModel", name := "good", desc := "(I)I" } : Jvm.MethodName)) ∈ lw_tbl := lw_at lw_m9 198 rfl
theorem q2230 : (Jvm.Cond.instanceMethod ({ cls := "PaperMillModel", name := "good", desc := "(I)I" } : Jvm.MethodName)) ∈ lw_all := lw_g (lw_at lw_m9 199 rfl) rfl
theorem q2231 : (Jvm.Cond.code ({ cls := "PaperMillModel", name := "good", desc := "(I)I" } : Jvm.MethodName) prog_26_method_23_code (4 : Nat) (Option.some Jvm.ClassFile.FieldType.int)) ∈ lw_all := lw_g (lw_at lw_m9 200 rfl) rfl
theorem q2232 : (Jvm.Cond.methodLink "PaperMillModel" (71 : Nat) ({ cls := "PaperMillModel", name := "isMouldy", desc := "(I)Z" } : Jvm.MethodName)) ∈ lw_all := lw_g (lw_at lw_m9 201 rfl) rfl
theorem q2233 : (Jvm.Cond.privateMethod ({ cls := "PaperMillModel", name := "isMouldy", desc := "(I)Z" } : Jvm.MethodName)) ∈ lw_tbl := lw_at lw_m9 202 rfl
theorem q2234 : (Jvm.Cond.instanceMethod ({ cls := "PaperMillModel", name := "isMouldy", desc := "(I)Z" } : Jvm.MethodName)) ∈ lw_all := lw_g (lw_at lw_m9 203 rfl) rfl
theorem q2235 : (Jvm.Cond.code ({ cls := "PaperMillModel", name := "isMouldy", desc := "(I)Z" } : Jvm.MethodName) prog_26_method_16_code (2 : Nat) (Option.some Jvm.ClassFile.FieldType.boolean)) ∈ lw_all := lw_g (lw_at lw_m9 204 rfl) rfl
theorem q2236 : (Jvm.Cond.methodLink "PaperMillModel" (173 : Nat) ({ cls := "PaperMillModel", name := "beats", desc := "(II)I" } : Jvm.MethodName)) ∈ lw_all := lw_g (lw_at lw_m9 205 rfl) rfl
theorem q2237 : (Jvm.Cond.privateMethod ({ cls := "PaperMillModel", name := "beats", desc := "(II)I" } : Jvm.MethodName)) ∈ lw_tbl := lw_at lw_m9 206 rfl
theorem q2238 : (Jvm.Cond.instanceMethod ({ cls := "PaperMillModel", name := "beats", desc := "(II)I" } : Jvm.MethodName)) ∈ lw_all := lw_g (lw_at lw_m9 207 rfl) rfl
theorem q2239 : (Jvm.Cond.code ({ cls := "PaperMillModel", name := "beats", desc := "(II)I" } : Jvm.MethodName) prog_26_method_27_code (7 : Nat) (Option.some Jvm.ClassFile.FieldType.int)) ∈ lw_all := lw_g (lw_at lw_m9 208 rfl) rfl
theorem q2240 : (Jvm.Cond.methodLink "PaperMillModel" (84 : Nat) ({ cls := "PaperMillModel", name := "strength", desc := "(I)I" } : Jvm.MethodName)) ∈ lw_all := lw_g (lw_at lw_m9 209 rfl) rfl
theorem q2241 : (Jvm.Cond.static ({ cls := "PaperMillModel", name := "strength", desc := "(I)I" } : Jvm.MethodName)) ∈ lw_all := lw_g (lw_at lw_m9 210 rfl) rfl
theorem q2242 : (Jvm.Cond.code ({ cls := "PaperMillModel", name := "strength", desc := "(I)I" } : Jvm.MethodName) prog_26_method_22_code (1 : Nat) (Option.some Jvm.ClassFile.FieldType.int)) ∈ lw_all := lw_g (lw_at lw_m9 211 rfl) rfl
theorem q2243 : (Jvm.Cond.methodLink "PaperMillModel" (87 : Nat) ({ cls := "PaperMillModel", name := "least", desc := "(II)I" } : Jvm.MethodName)) ∈ lw_all := lw_g (lw_at lw_m9 212 rfl) rfl
theorem q2244 : (Jvm.Cond.static ({ cls := "PaperMillModel", name := "least", desc := "(II)I" } : Jvm.MethodName)) ∈ lw_all := lw_g (lw_at lw_m9 213 rfl) rfl
theorem q2245 : (Jvm.Cond.code ({ cls := "PaperMillModel", name := "least", desc := "(II)I" } : Jvm.MethodName) prog_26_method_5_code (2 : Nat) (Option.some Jvm.ClassFile.FieldType.int)) ∈ lw_all := lw_g (lw_at lw_m9 214 rfl) rfl
theorem q2247 : (Jvm.Cond.instanceMethod ({ cls := "PaperMillModel", name := "stamp", desc := "(II)I" } : Jvm.MethodName)) ∈ lw_all := lw_g (lw_at lw_m9 216 rfl) rfl
theorem q2248 : (Jvm.Cond.selects "PaperMillModel" ({ cls := "PaperMillModel", name := "stamp", desc := "(II)I" } : Jvm.MethodName) ({ cls := "PaperMillModel", name := "stamp", desc := "(II)I" } : Jvm.MethodName)) ∈ lw_all := lw_g (lw_at lw_m9 217 rfl) rfl
theorem q2249 : (Jvm.Cond.code ({ cls := "PaperMillModel", name := "stamp", desc := "(II)I" } : Jvm.MethodName) prog_26_method_64_code (3 : Nat) (Option.some Jvm.ClassFile.FieldType.int)) ∈ lw_all := lw_g (lw_at lw_m9 218 rfl) rfl
theorem q2250 : (Jvm.Cond.methodLink "PaperMillModel" (176 : Nat) ({ cls := "PaperMillModel", name := "canStamp", desc := "(II)Z" } : Jvm.MethodName)) ∈ lw_all := lw_g (lw_at lw_m9 219 rfl) rfl
theorem q2251 : (Jvm.Cond.privateMethod ({ cls := "PaperMillModel", name := "canStamp", desc := "(II)Z" } : Jvm.MethodName)) ∈ lw_tbl := lw_at lw_m9 220 rfl
theorem q2252 : (Jvm.Cond.instanceMethod ({ cls := "PaperMillModel", name := "canStamp", desc := "(II)Z" } : Jvm.MethodName)) ∈ lw_all := lw_g (lw_at lw_m9 221 rfl) rfl
theorem q2253 : (Jvm.Cond.code ({ cls := "PaperMillModel", name := "canStamp", desc := "(II)Z" } : Jvm.MethodName) prog_26_method_28_code (3 : Nat) (Option.some Jvm.ClassFile.FieldType.boolean)) ∈ lw_all := lw_g (lw_at lw_m9 222 rfl) rfl
theorem q2254 : (Jvm.Cond.methodLink "PaperMillModel" (180 : Nat) ({ cls := "PaperMillModel", name := "stamps", desc := "(II)I" } : Jvm.MethodName)) ∈ lw_all := lw_g (lw_at lw_m9 223 rfl) rfl
theorem q2255 : (Jvm.Cond.privateMethod ({ cls := "PaperMillModel", name := "stamps", desc := "(II)I" } : Jvm.MethodName)) ∈ lw_tbl := lw_at lw_m9 224 rfl
theorem q2256 : (Jvm.Cond.instanceMethod ({ cls := "PaperMillModel", name := "stamps", desc := "(II)I" } : Jvm.MethodName)) ∈ lw_all := lw_g (lw_at lw_m9 225 rfl) rfl
theorem q2257 : (Jvm.Cond.code ({ cls := "PaperMillModel", name := "stamps", desc := "(II)I" } : Jvm.MethodName) prog_26_method_29_code (3 : Nat) (Option.some Jvm.ClassFile.FieldType.int)) ∈ lw_all := lw_g (lw_at lw_m9 226 rfl) rfl
theorem q2259 : (Jvm.Cond.instanceMethod ({ cls := "PaperMillModel", name := "drain", desc := "(I)I" } : Jvm.MethodName)) ∈ lw_all := lw_g (lw_at lw_m9 228 rfl) rfl
theorem q2260 : (Jvm.Cond.selects "PaperMillModel" ({ cls := "PaperMillModel", name := "drain", desc := "(I)I" } : Jvm.MethodName) ({ cls := "PaperMillModel", name := "drain", desc := "(I)I" } : Jvm.MethodName)) ∈ lw_all := lw_g (lw_at lw_m9 229 rfl) rfl
theorem q2261 : (Jvm.Cond.code ({ cls := "PaperMillModel", name := "drain", desc := "(I)I" } : Jvm.MethodName) prog_26_method_65_code (3 : Nat) (Option.some Jvm.ClassFile.FieldType.int)) ∈ lw_all := lw_g (lw_at lw_m9 230 rfl) rfl
theorem q2262 : (Jvm.Cond.methodLink "PaperMillModel" (103 : Nat) ({ cls := "PaperMillModel", name := "isEmptied", desc := "(I)V" } : Jvm.MethodName)) ∈ lw_all := lw_g (lw_at lw_m9 231 rfl) rfl
theorem q2263 : (Jvm.Cond.privateMethod ({ cls := "PaperMillModel", name := "isEmptied", desc := "(I)V" } : Jvm.MethodName)) ∈ lw_tbl := lw_at lw_m9 232 rfl
theorem q2264 : (Jvm.Cond.instanceMethod ({ cls := "PaperMillModel", name := "isEmptied", desc := "(I)V" } : Jvm.MethodName)) ∈ lw_all := lw_g (lw_at lw_m9 233 rfl) rfl
theorem q2265 : (Jvm.Cond.code ({ cls := "PaperMillModel", name := "isEmptied", desc := "(I)V" } : Jvm.MethodName) prog_26_method_30_code (3 : Nat) (Option.none : Option Jvm.ClassFile.FieldType)) ∈ lw_all := lw_g (lw_at lw_m9 234 rfl) rfl
theorem q2267 : (Jvm.Cond.instanceMethod ({ cls := "PaperMillModel", name := "setMark", desc := "(II)I" } : Jvm.MethodName)) ∈ lw_all := lw_g (lw_at lw_m9 236 rfl) rfl
theorem q2268 : (Jvm.Cond.selects "PaperMillModel" ({ cls := "PaperMillModel", name := "setMark", desc := "(II)I" } : Jvm.MethodName) ({ cls := "PaperMillModel", name := "setMark", desc := "(II)I" } : Jvm.MethodName)) ∈ lw_all := lw_g (lw_at lw_m9 237 rfl) rfl
theorem q2269 : (Jvm.Cond.code ({ cls := "PaperMillModel", name := "setMark", desc := "(II)I" } : Jvm.MethodName) prog_26_method_67_code (4 : Nat) (Option.some Jvm.ClassFile.FieldType.int)) ∈ lw_all := lw_g (lw_at lw_m9 238 rfl) rfl
theorem q2270 : (Jvm.Cond.methodLink "PaperMillModel" (183 : Nat) ({ cls := "PaperMillModel", name := "isMould", desc := "(I)Z" } : Jvm.MethodName)) ∈ lw_all := lw_g (lw_at lw_m9 239 rfl) rfl
theorem q2271 : (Jvm.Cond.static ({ cls := "PaperMillModel", name := "isMould", desc := "(I)Z" } : Jvm.MethodName)) ∈ lw_all := lw_g (lw_at lw_m10 0 rfl) rfl
theorem q2272 : (Jvm.Cond.code ({ cls := "PaperMillModel", name := "isMould", desc := "(I)Z" } : Jvm.MethodName) prog_26_method_12_code (1 : Nat) (Option.some Jvm.ClassFile.FieldType.boolean)) ∈ lw_all := lw_g (lw_at lw_m10 1 rfl) rfl
theorem q2273 : (Jvm.Cond.methodLink "PaperMillModel" (186 : Nat) ({ cls := "PaperMillModel", name := "isTaken", desc := "(II)Z" } : Jvm.MethodName)) ∈ lw_all := lw_g (lw_at lw_m10 2 rfl) rfl
theorem q2274 : (Jvm.Cond.privateMethod ({ cls := "PaperMillModel", name := "isTaken", desc := "(II)Z" } : Jvm.MethodName)) ∈ lw_tbl := lw_at lw_m10 3 rfl
theorem q2275 : (Jvm.Cond.instanceMethod ({ cls := "PaperMillModel", name := "isTaken", desc := "(II)Z" } : Jvm.MethodName)) ∈ lw_all := lw_g (lw_at lw_m10 4 rfl) rfl
theorem q2276 : (Jvm.Cond.code ({ cls := "PaperMillModel", name := "isTaken", desc := "(II)Z" } : Jvm.MethodName) prog_26_method_66_code (5 : Nat) (Option.some Jvm.ClassFile.FieldType.boolean)) ∈ lw_all := lw_g (lw_at lw_m10 5 rfl) rfl
theorem q2278 : (Jvm.Cond.instanceMethod ({ cls := "PaperMillModel", name := "mend", desc := "(I)I" } : Jvm.MethodName)) ∈ lw_all := lw_g (lw_at lw_m10 7 rfl) rfl
theorem q2279 : (Jvm.Cond.selects "PaperMillModel" ({ cls := "PaperMillModel", name := "mend", desc := "(I)I" } : Jvm.MethodName) ({ cls := "PaperMillModel", name := "mend", desc := "(I)I" } : Jvm.MethodName)) ∈ lw_all := lw_g (lw_at lw_m10 8 rfl) rfl
theorem q2280 : (Jvm.Cond.code ({ cls := "PaperMillModel", name := "mend", desc := "(I)I" } : Jvm.MethodName) prog_26_method_68_code (3 : Nat) (Option.some Jvm.ClassFile.FieldType.int)) ∈ lw_all := lw_g (lw_at lw_m10 9 rfl) rfl
theorem q2281 : (Jvm.Cond.methodLink "PaperMillModel" (94 : Nat) ({ cls := "PaperMillModel", name := "wear", desc := "(I)I" } : Jvm.MethodName)) ∈ lw_all := lw_g (lw_at lw_m10 10 rfl) rfl
theorem q2282 : (Jvm.Cond.privateMethod ({ cls := "PaperMillModel", name := "wear", desc := "(I)I" } : Jvm.MethodName)) ∈ lw_tbl := lw_at lw_m10 11 rfl
theorem q2283 : (Jvm.Cond.instanceMethod ({ cls := "PaperMillModel", name := "wear", desc := "(I)I" } : Jvm.MethodName)) ∈ lw_all := lw_g (lw_at lw_m10 12 rfl) rfl
theorem q2284 : (Jvm.Cond.code ({ cls := "PaperMillModel", name := "wear", desc := "(I)I" } : Jvm.MethodName) prog_26_method_32_code (2 : Nat) (Option.some Jvm.ClassFile.FieldType.int)) ∈ lw_all := lw_g (lw_at lw_m10 13 rfl) rfl
theorem q2286 : (Jvm.Cond.instanceMethod ({ cls := "PaperMillModel", name := "make", desc := "(III)I" } : Jvm.MethodName)) ∈ lw_all := lw_g (lw_at lw_m10 15 rfl) rfl
theorem q2287 : (Jvm.Cond.selects "PaperMillModel" ({ cls := "PaperMillModel", name := "make", desc := "(III)I" } : Jvm.MethodName) ({ cls := "PaperMillModel", name := "make", desc := "(III)I" } : Jvm.MethodName)) ∈ lw_all := lw_g (lw_at lw_m10 16 rfl) rfl
theorem q2288 : (Jvm.Cond.code ({ cls := "PaperMillModel", name := "make", desc := "(III)I" } : Jvm.MethodName) prog_26_method_70_code (4 : Nat) (Option.some Jvm.ClassFile.FieldType.int)) ∈ lw_all := lw_g (lw_at lw_m10 17 rfl) rfl
theorem q2289 : (Jvm.Cond.methodLink "PaperMillModel" (189 : Nat) ({ cls := "PaperMillModel", name := "isSheets", desc := "(I)Z" } : Jvm.MethodName)) ∈ lw_all := lw_g (lw_at lw_m10 18 rfl) rfl
theorem q2290 : (Jvm.Cond.static ({ cls := "PaperMillModel", name := "isSheets", desc := "(I)Z" } : Jvm.MethodName)) ∈ lw_all := lw_g (lw_at lw_m10 19 rfl) rfl
theorem q2291 : (Jvm.Cond.code ({ cls := "PaperMillModel", name := "isSheets", desc := "(I)Z" } : Jvm.MethodName) prog_26_method_69_code (1 : Nat) (Option.some Jvm.ClassFile.FieldType.boolean)) ∈ lw_all := lw_g (lw_at lw_m10 20 rfl) rfl
theorem q2292 : (Jvm.Cond.methodLink "PaperMillModel" (192 : Nat) ({ cls := "PaperMillModel", name := "whyNoSheets", desc := "(III)I" } : Jvm.MethodName)) ∈ lw_all := lw_g (lw_at lw_m10 21 rfl) rfl
theorem q2293 : (Jvm.Cond.privateMethod ({ cls := "PaperMillModel", name := "whyNoSheets", desc := "(III)I" } : Jvm.MethodName)) ∈ lw_tbl := lw_at lw_m10 22 rfl
theorem q2294 : (Jvm.Cond.instanceMethod ({ cls := "PaperMillModel", name := "whyNoSheets", desc := "(III)I" } : Jvm.MethodName)) ∈ lw_all := lw_g (lw_at lw_m10 23 rfl) rfl
theorem q2295 : (Jvm.Cond.code ({ cls := "PaperMillModel", name := "whyNoSheets", desc := "(III)I" } : Jvm.MethodName) prog_26_method_34_code (4 : Nat) (Option.some Jvm.ClassFile.FieldType.int)) ∈ lw_all := lw_g (lw_at lw_m10 24 rfl) rfl
theorem q2296 : (Jvm.Cond.methodLink "PaperMillModel" (97 : Nat) ({ cls := "PaperMillModel", name := "unitsBy", desc := "(I)I" } : Jvm.MethodName)) ∈ lw_all := lw_g (lw_at lw_m10 25 rfl) rfl
theorem q2297 : (Jvm.Cond.static ({ cls := "PaperMillModel", name := "unitsBy", desc := "(I)I" } : Jvm.MethodName)) ∈ lw_all := lw_g (lw_at lw_m10 26 rfl) rfl
theorem q2298 : (Jvm.Cond.code ({ cls := "PaperMillModel", name := "unitsBy", desc := "(I)I" } : Jvm.MethodName) prog_26_method_31_code (1 : Nat) (Option.some Jvm.ClassFile.FieldType.int)) ∈ lw_all := lw_g (lw_at lw_m10 27 rfl) rfl
theorem q2299 : (Jvm.Cond.methodLink "PaperMillModel" (100 : Nat) ({ cls := "PaperMillModel", name := "points", desc := "(II)I" } : Jvm.MethodName)) ∈ lw_all := lw_g (lw_at lw_m10 28 rfl) rfl
theorem q2300 : (Jvm.Cond.privateMethod ({ cls := "PaperMillModel", name := "points", desc := "(II)I" } : Jvm.MethodName)) ∈ lw_tbl := lw_at lw_m10 29 rfl
theorem q2301 : (Jvm.Cond.instanceMethod ({ cls := "PaperMillModel", name := "points", desc := "(II)I" } : Jvm.MethodName)) ∈ lw_all := lw_g (lw_at lw_m10 30 rfl) rfl
theorem q2302 : (Jvm.Cond.code ({ cls := "PaperMillModel", name := "points", desc := "(II)I" } : Jvm.MethodName) prog_26_method_33_code (4 : Nat) (Option.some Jvm.ClassFile.FieldType.int)) ∈ lw_all := lw_g (lw_at lw_m10 31 rfl) rfl
theorem q2303 : (Jvm.Cond.methodLink "PaperMillModel" (195 : Nat) ({ cls := "PaperMillModel", name := "makes", desc := "(III)I" } : Jvm.MethodName)) ∈ lw_all := lw_g (lw_at lw_m10 32 rfl) rfl
theorem q2304 : (Jvm.Cond.privateMethod ({ cls := "PaperMillModel", name := "makes", desc := "(III)I" } : Jvm.MethodName)) ∈ lw_tbl := lw_at lw_m10 33 rfl
theorem q2305 : (Jvm.Cond.instanceMethod ({ cls := "PaperMillModel", name := "makes", desc := "(III)I" } : Jvm.MethodName)) ∈ lw_all := lw_g (lw_at lw_m10 34 rfl) rfl
theorem q2306 : (Jvm.Cond.code ({ cls := "PaperMillModel", name := "makes", desc := "(III)I" } : Jvm.MethodName) prog_26_method_35_code (8 : Nat) (Option.some Jvm.ClassFile.FieldType.int)) ∈ lw_all := lw_g (lw_at lw_m10 35 rfl) rfl
theorem q2308 : (Jvm.Cond.instanceMethod ({ cls := "PaperMillModel", name := "pack", desc := "(III)I" } : Jvm.MethodName)) ∈ lw_all := lw_g (lw_at lw_m10 37 rfl) rfl
theorem q2309 : (Jvm.Cond.selects "PaperMillModel" ({ cls := "PaperMillModel", name := "pack", desc := "(III)I" } : Jvm.MethodName) ({ cls := "PaperMillModel", name := "pack", desc := "(III)I" } : Jvm.MethodName)) ∈ lw_all := lw_g (lw_at lw_m10 38 rfl) rfl
theorem q2310 : (Jvm.Cond.code ({ cls := "PaperMillModel", name := "pack", desc := "(III)I" } : Jvm.MethodName) prog_26_method_72_code (4 : Nat) (Option.some Jvm.ClassFile.FieldType.int)) ∈ lw_all := lw_g (lw_at lw_m10 39 rfl) rfl
theorem q2311 : (Jvm.Cond.methodLink "PaperMillModel" (201 : Nat) ({ cls := "PaperMillModel", name := "isPaper", desc := "(III)Z" } : Jvm.MethodName)) ∈ lw_all := lw_g (lw_at lw_m10 40 rfl) rfl
theorem q2312 : (Jvm.Cond.static ({ cls := "PaperMillModel", name := "isPaper", desc := "(III)Z" } : Jvm.MethodName)) ∈ lw_all := lw_g (lw_at lw_m10 41 rfl) rfl
theorem q2313 : (Jvm.Cond.code ({ cls := "PaperMillModel", name := "isPaper", desc := "(III)Z" } : Jvm.MethodName) prog_26_method_39_code (3 : Nat) (Option.some Jvm.ClassFile.FieldType.boolean)) ∈ lw_all := lw_g (lw_at lw_m10 42 rfl) rfl
theorem q2314 : (Jvm.Cond.methodLink "PaperMillModel" (204 : Nat) ({ cls := "PaperMillModel", name := "whyNoReam", desc := "(III)I" } : Jvm.MethodName)) ∈ lw_all := lw_g (lw_at lw_m10 43 rfl) rfl
theorem q2315 : (Jvm.Cond.privateMethod ({ cls := "PaperMillModel", name := "whyNoReam", desc := "(III)I" } : Jvm.MethodName)) ∈ lw_tbl := lw_at lw_m10 44 rfl
theorem q2316 : (Jvm.Cond.instanceMethod ({ cls := "PaperMillModel", name := "whyNoReam", desc := "(III)I" } : Jvm.MethodName)) ∈ lw_all := lw_g (lw_at lw_m10 45 rfl) rfl
theorem q2317 : (Jvm.Cond.code ({ cls := "PaperMillModel", name := "whyNoReam", desc := "(III)I" } : Jvm.MethodName) prog_26_method_71_code (4 : Nat) (Option.some Jvm.ClassFile.FieldType.int)) ∈ lw_all := lw_g (lw_at lw_m10 46 rfl) rfl
theorem q2318 : (Jvm.Cond.methodLink "PaperMillModel" (198 : Nat) ({ cls := "PaperMillModel", name := "dry", desc := "(III)I" } : Jvm.MethodName)) ∈ lw_all := lw_g (lw_at lw_m10 47 rfl) rfl
theorem q2319 : (Jvm.Cond.privateMethod ({ cls := "PaperMillModel", name := "dry", desc := "(III)I" } : Jvm.MethodName)) ∈ lw_tbl := lw_at lw_m10 48 rfl
theorem q2320 : (Jvm.Cond.instanceMethod ({ cls := "PaperMillModel", name := "dry", desc := "(III)I" } : Jvm.MethodName)) ∈ lw_all := lw_g (lw_at lw_m10 49 rfl) rfl
theorem q2321 : (Jvm.Cond.code ({ cls := "PaperMillModel", name := "dry", desc := "(III)I" } : Jvm.MethodName) prog_26_method_38_code (6 : Nat) (Option.some Jvm.ClassFile.FieldType.int)) ∈ lw_all := lw_g (lw_at lw_m10 50 rfl) rfl
theorem q2322 : (Jvm.Cond.methodLink "PaperMillModel" (109 : Nat) ({ cls := "PaperMillModel", name := "isSuch", desc := "(IIII)Z" } : Jvm.MethodName)) ∈ lw_all := lw_g (lw_at lw_m10 51 rfl) rfl
theorem q2323 : (Jvm.Cond.privateMethod ({ cls := "PaperMillModel", name := "isSuch", desc := "(IIII)Z" } : Jvm.MethodName)) ∈ lw_tbl := lw_at lw_m10 52 rfl
theorem q2324 : (Jvm.Cond.instanceMethod ({ cls := "PaperMillModel", name := "isSuch", desc := "(IIII)Z" } : Jvm.MethodName)) ∈ lw_all := lw_g (lw_at lw_m10 53 rfl) rfl
theorem q2325 : (Jvm.Cond.code ({ cls := "PaperMillModel", name := "isSuch", desc := "(IIII)Z" } : Jvm.MethodName) prog_26_method_37_code (5 : Nat) (Option.some Jvm.ClassFile.FieldType.boolean)) ∈ lw_all := lw_g (lw_at lw_m10 54 rfl) rfl
theorem q2326 : (Jvm.Cond.methodLink "PaperMillModel" (106 : Nat) ({ cls := "PaperMillModel", name := "pile", desc := "(II)I" } : Jvm.MethodName)) ∈ lw_all := lw_g (lw_at lw_m10 55 rfl) rfl
theorem q2327 : (Jvm.Cond.privateMethod ({ cls := "PaperMillModel", name := "pile", desc := "(II)I" } : Jvm.MethodName)) ∈ lw_tbl := lw_at lw_m10 56 rfl
theorem q2328 : (Jvm.Cond.instanceMethod ({ cls := "PaperMillModel", name := "pile", desc := "(II)I" } : Jvm.MethodName)) ∈ lw_all := lw_g (lw_at lw_m10 57 rfl) rfl
theorem q2329 : (Jvm.Cond.code ({ cls := "PaperMillModel", name := "pile", desc := "(II)I" } : Jvm.MethodName) prog_26_method_36_code (3 : Nat) (Option.some Jvm.ClassFile.FieldType.int)) ∈ lw_all := lw_g (lw_at lw_m10 58 rfl) rfl
theorem q2330 : (Jvm.Cond.methodLink "PaperMillModel" (207 : Nat) ({ cls := "PaperMillModel", name := "packs", desc := "(IIII)I" } : Jvm.MethodName)) ∈ lw_all := lw_g (lw_at lw_m10 59 rfl) rfl
theorem q2331 : (Jvm.Cond.privateMethod ({ cls := "PaperMillModel", name := "packs", desc := "(IIII)I" } : Jvm.MethodName)) ∈ lw_tbl := lw_at lw_m10 60 rfl
theorem q2332 : (Jvm.Cond.instanceMethod ({ cls := "PaperMillModel", name := "packs", desc := "(IIII)I" } : Jvm.MethodName)) ∈ lw_all := lw_g (lw_at lw_m10 61 rfl) rfl
theorem q2333 : (Jvm.Cond.code ({ cls := "PaperMillModel", name := "packs", desc := "(IIII)I" } : Jvm.MethodName) prog_26_method_40_code (8 : Nat) (Option.some Jvm.ClassFile.FieldType.int)) ∈ lw_all := lw_g (lw_at lw_m10 62 rfl) rfl
theorem q2335 : (Jvm.Cond.instanceMethod ({ cls := "PaperMillModel", name := "packShort", desc := "(III)I" } : Jvm.MethodName)) ∈ lw_all := lw_g (lw_at lw_m10 64 rfl) rfl
theorem q2336 : (Jvm.Cond.selects "PaperMillModel" ({ cls := "PaperMillModel", name := "packShort", desc := "(III)I" } : Jvm.MethodName) ({ cls := "PaperMillModel", name := "packShort", desc := "(III)I" } : Jvm.MethodName)) ∈ lw_all := lw_g (lw_at lw_m10 65 rfl) rfl
theorem q2337 : (Jvm.Cond.code ({ cls := "PaperMillModel", name := "packShort", desc := "(III)I" } : Jvm.MethodName) prog_26_method_73_code (5 : Nat) (Option.some Jvm.ClassFile.FieldType.int)) ∈ lw_all := lw_g (lw_at lw_m10 66 rfl) rfl
theorem q2338 : (Jvm.Cond.methodLink "PaperMillModel" (210 : Nat) ({ cls := "PaperMillModel", name := "refuses", desc := "(I)I" } : Jvm.MethodName)) ∈ lw_all := lw_g (lw_at lw_m10 67 rfl) rfl
theorem q2339 : (Jvm.Cond.privateMethod ({ cls := "PaperMillModel", name := "refuses", desc := "(I)I" } : Jvm.MethodName)) ∈ lw_tbl := lw_at lw_m10 68 rfl
theorem q2340 : (Jvm.Cond.instanceMethod ({ cls := "PaperMillModel", name := "refuses", desc := "(I)I" } : Jvm.MethodName)) ∈ lw_all := lw_g (lw_at lw_m10 69 rfl) rfl
theorem q2341 : (Jvm.Cond.code ({ cls := "PaperMillModel", name := "refuses", desc := "(I)I" } : Jvm.MethodName) prog_26_method_3_code (2 : Nat) (Option.some Jvm.ClassFile.FieldType.int)) ∈ lw_all := lw_g (lw_at lw_m10 70 rfl) rfl
theorem q2343 : (Jvm.Cond.instanceMethod ({ cls := "PaperMillModel", name := "send", desc := "(II)I" } : Jvm.MethodName)) ∈ lw_all := lw_g (lw_at lw_m10 72 rfl) rfl
theorem q2344 : (Jvm.Cond.selects "PaperMillModel" ({ cls := "PaperMillModel", name := "send", desc := "(II)I" } : Jvm.MethodName) ({ cls := "PaperMillModel", name := "send", desc := "(II)I" } : Jvm.MethodName)) ∈ lw_all := lw_g (lw_at lw_m10 73 rfl) rfl
theorem q2345 : (Jvm.Cond.code ({ cls := "PaperMillModel", name := "send", desc := "(II)I" } : Jvm.MethodName) prog_26_method_75_code (4 : Nat) (Option.some Jvm.ClassFile.FieldType.int)) ∈ lw_all := lw_g (lw_at lw_m10 74 rfl) rfl
theorem q2346 : (Jvm.Cond.methodLink "PaperMillModel" (213 : Nat) ({ cls := "PaperMillModel", name := "isReam", desc := "(I)Z" } : Jvm.MethodName)) ∈ lw_all := lw_g (lw_at lw_m10 75 rfl) rfl
theorem q2347 : (Jvm.Cond.privateMethod ({ cls := "PaperMillModel", name := "isReam", desc := "(I)Z" } : Jvm.MethodName)) ∈ lw_tbl := lw_at lw_m10 76 rfl
theorem q2348 : (Jvm.Cond.instanceMethod ({ cls := "PaperMillModel", name := "isReam", desc := "(I)Z" } : Jvm.MethodName)) ∈ lw_all := lw_g (lw_at lw_m10 77 rfl) rfl
theorem q2349 : (Jvm.Cond.code ({ cls := "PaperMillModel", name := "isReam", desc := "(I)Z" } : Jvm.MethodName) prog_26_method_41_code (2 : Nat) (Option.some Jvm.ClassFile.FieldType.boolean)) ∈ lw_all := lw_g (lw_at lw_m10 78 rfl) rfl
theorem q2350 : (Jvm.Cond.methodLink "PaperMillModel" (216 : Nat) ({ cls := "PaperMillModel", name := "tollOf", desc := "(I)I" } : Jvm.MethodName)) ∈ lw_all := lw_g (lw_at lw_m10 79 rfl) rfl
theorem q2351 : (Jvm.Cond.privateMethod ({ cls := "PaperMillModel", name := "tollOf", desc := "(I)I" } : Jvm.MethodName)) ∈ lw_tbl := lw_at lw_m10 80 rfl
theorem q2352 : (Jvm.Cond.instanceMethod ({ cls := "PaperMillModel", name := "tollOf", desc := "(I)I" } : Jvm.MethodName)) ∈ lw_all := lw_g (lw_at lw_m10 81 rfl) rfl
theorem q2353 : (Jvm.Cond.code ({ cls := "PaperMillModel", name := "tollOf", desc := "(I)I" } : Jvm.MethodName) prog_26_method_74_code (2 : Nat) (Option.some Jvm.ClassFile.FieldType.int)) ∈ lw_all := lw_g (lw_at lw_m10 82 rfl) rfl
theorem q2354 : (Jvm.Cond.methodLink "PaperMillModel" (113 : Nat) ({ cls := "PaperMillModel", name := "ream", desc := "(II)I" } : Jvm.MethodName)) ∈ lw_all := lw_g (lw_at lw_m10 83 rfl) rfl
theorem q2355 : (Jvm.Cond.privateMethod ({ cls := "PaperMillModel", name := "ream", desc := "(II)I" } : Jvm.MethodName)) ∈ lw_tbl := lw_at lw_m10 84 rfl
theorem q2356 : (Jvm.Cond.instanceMethod ({ cls := "PaperMillModel", name := "ream", desc := "(II)I" } : Jvm.MethodName)) ∈ lw_all := lw_g (lw_at lw_m10 85 rfl) rfl
theorem q2357 : (Jvm.Cond.code ({ cls := "PaperMillModel", name := "ream", desc := "(II)I" } : Jvm.MethodName) prog_26_method_42_code (3 : Nat) (Option.some Jvm.ClassFile.FieldType.int)) ∈ lw_all := lw_g (lw_at lw_m10 86 rfl) rfl
theorem q2358 : (Jvm.Cond.methodLink "PaperMillModel" (219 : Nat) ({ cls := "PaperMillModel", name := "price", desc := "(I)I" } : Jvm.MethodName)) ∈ lw_all := lw_g (lw_at lw_m10 87 rfl) rfl
theorem q2359 : (Jvm.Cond.privateMethod ({ cls := "PaperMillModel", name := "price", desc := "(I)I" } : Jvm.MethodName)) ∈ lw_tbl := lw_at lw_m10 88 rfl
theorem q2360 : (Jvm.Cond.instanceMethod ({ cls := "PaperMillModel", name := "price", desc := "(I)I" } : Jvm.MethodName)) ∈ lw_all := lw_g (lw_at lw_m10 89 rfl) rfl
theorem q2361 : (Jvm.Cond.code ({ cls := "PaperMillModel", name := "price", desc := "(I)I" } : Jvm.MethodName) prog_26_method_43_code (6 : Nat) (Option.some Jvm.ClassFile.FieldType.int)) ∈ lw_all := lw_g (lw_at lw_m10 90 rfl) rfl
theorem q2362 : (Jvm.Cond.methodLink "PaperMillModel" (222 : Nat) ({ cls := "PaperMillModel", name := "unitsOf", desc := "(I)I" } : Jvm.MethodName)) ∈ lw_all := lw_g (lw_at lw_m10 91 rfl) rfl
theorem q2363 : (Jvm.Cond.privateMethod ({ cls := "PaperMillModel", name := "unitsOf", desc := "(I)I" } : Jvm.MethodName)) ∈ lw_tbl := lw_at lw_m10 92 rfl
theorem q2364 : (Jvm.Cond.instanceMethod ({ cls := "PaperMillModel", name := "unitsOf", desc := "(I)I" } : Jvm.MethodName)) ∈ lw_all := lw_g (lw_at lw_m10 93 rfl) rfl
theorem q2365 : (Jvm.Cond.code ({ cls := "PaperMillModel", name := "unitsOf", desc := "(I)I" } : Jvm.MethodName) prog_26_method_44_code (2 : Nat) (Option.some Jvm.ClassFile.FieldType.int)) ∈ lw_all := lw_g (lw_at lw_m10 94 rfl) rfl
theorem q2367 : (Jvm.Cond.instanceMethod ({ cls := "PaperMillModel", name := "pass", desc := "(I)I" } : Jvm.MethodName)) ∈ lw_all := lw_g (lw_at lw_m10 96 rfl) rfl
theorem q2368 : (Jvm.Cond.selects "PaperMillModel" ({ cls := "PaperMillModel", name := "pass", desc := "(I)I" } : Jvm.MethodName) ({ cls := "PaperMillModel", name := "pass", desc := "(I)I" } : Jvm.MethodName)) ∈ lw_all := lw_g (lw_at lw_m10 97 rfl) rfl
theorem q2369 : (Jvm.Cond.code ({ cls := "PaperMillModel", name := "pass", desc := "(I)I" } : Jvm.MethodName) prog_26_method_76_code (2 : Nat) (Option.some Jvm.ClassFile.FieldType.int)) ∈ lw_all := lw_g (lw_at lw_m10 98 rfl) rfl
theorem q2370 : (Jvm.Cond.methodLink "PaperMillModel" (225 : Nat) ({ cls := "PaperMillModel", name := "canPass", desc := "(I)Z" } : Jvm.MethodName)) ∈ lw_all := lw_g (lw_at lw_m10 99 rfl) rfl
theorem q2371 : (Jvm.Cond.privateMethod ({ cls := "PaperMillModel", name := "canPass", desc := "(I)Z" } : Jvm.MethodName)) ∈ lw_tbl := lw_at lw_m10 100 rfl
theorem q2372 : (Jvm.Cond.instanceMethod ({ cls := "PaperMillModel", name := "canPass", desc := "(I)Z" } : Jvm.MethodName)) ∈ lw_all := lw_g (lw_at lw_m10 101 rfl) rfl
theorem q2373 : (Jvm.Cond.code ({ cls := "PaperMillModel", name := "canPass", desc := "(I)Z" } : Jvm.MethodName) prog_26_method_50_code (2 : Nat) (Option.some Jvm.ClassFile.FieldType.boolean)) ∈ lw_all := lw_g (lw_at lw_m10 102 rfl) rfl
theorem q2374 : (Jvm.Cond.methodLink "PaperMillModel" (228 : Nat) ({ cls := "PaperMillModel", name := "passes", desc := "(I)I" } : Jvm.MethodName)) ∈ lw_all := lw_g (lw_at lw_m10 103 rfl) rfl
theorem q2375 : (Jvm.Cond.privateMethod ({ cls := "PaperMillModel", name := "passes", desc := "(I)I" } : Jvm.MethodName)) ∈ lw_tbl := lw_at lw_m10 104 rfl
theorem q2376 : (Jvm.Cond.instanceMethod ({ cls := "PaperMillModel", name := "passes", desc := "(I)I" } : Jvm.MethodName)) ∈ lw_all := lw_g (lw_at lw_m10 105 rfl) rfl
theorem q2377 : (Jvm.Cond.code ({ cls := "PaperMillModel", name := "passes", desc := "(I)I" } : Jvm.MethodName) prog_26_method_51_code (4 : Nat) (Option.some Jvm.ClassFile.FieldType.int)) ∈ lw_all := lw_g (lw_at lw_m10 106 rfl) rfl
theorem q2378 : (Jvm.Cond.methodLink "PaperMillModel" (132 : Nat) ({ cls := "PaperMillModel", name := "passesDay", desc := "()I" } : Jvm.MethodName)) ∈ lw_all := lw_g (lw_at lw_m10 107 rfl) rfl
theorem q2379 : (Jvm.Cond.privateMethod ({ cls := "PaperMillModel", name := "passesDay", desc := "()I" } : Jvm.MethodName)) ∈ lw_tbl := lw_at lw_m10 108 rfl
theorem q2380 : (Jvm.Cond.instanceMethod ({ cls := "PaperMillModel", name := "passesDay", desc := "()I" } : Jvm.MethodName)) ∈ lw_all := lw_g (lw_at lw_m10 109 rfl) rfl
theorem q2381 : (Jvm.Cond.code ({ cls := "PaperMillModel", name := "passesDay", desc := "()I" } : Jvm.MethodName) prog_26_method_49_code (3 : Nat) (Option.some Jvm.ClassFile.FieldType.int)) ∈ lw_all := lw_g (lw_at lw_m10 110 rfl) rfl
theorem q2382 : (Jvm.Cond.methodLink "PaperMillModel" (119 : Nat) ({ cls := "PaperMillModel", name := "heats", desc := "()V" } : Jvm.MethodName)) ∈ lw_all := lw_g (lw_at lw_m10 111 rfl) rfl
theorem q2383 : (Jvm.Cond.privateMethod ({ cls := "PaperMillModel", name := "heats", desc := "()V" } : Jvm.MethodName)) ∈ lw_tbl := lw_at lw_m10 112 rfl
theorem q2384 : (Jvm.Cond.instanceMethod ({ cls := "PaperMillModel", name := "heats", desc := "()V" } : Jvm.MethodName)) ∈ lw_all := lw_g (lw_at lw_m10 113 rfl) rfl
theorem q2385 : (Jvm.Cond.code ({ cls := "PaperMillModel", name := "heats", desc := "()V" } : Jvm.MethodName) prog_26_method_46_code (3 : Nat) (Option.none : Option Jvm.ClassFile.FieldType)) ∈ lw_all := lw_g (lw_at lw_m10 114 rfl) rfl
theorem q2386 : (Jvm.Cond.methodLink "PaperMillModel" (122 : Nat) ({ cls := "PaperMillModel", name := "spreads", desc := "()I" } : Jvm.MethodName)) ∈ lw_all := lw_g (lw_at lw_m10 115 rfl) rfl
theorem q2387 : (Jvm.Cond.privateMethod ({ cls := "PaperMillModel", name := "spreads", desc := "()I" } : Jvm.MethodName)) ∈ lw_tbl := lw_at lw_m10 116 rfl
theorem q2388 : (Jvm.Cond.instanceMethod ({ cls := "PaperMillModel", name := "spreads", desc := "()I" } : Jvm.MethodName)) ∈ lw_all := lw_g (lw_at lw_m10 117 rfl) rfl
theorem q2389 : (Jvm.Cond.code ({ cls := "PaperMillModel", name := "spreads", desc := "()I" } : Jvm.MethodName) prog_26_method_47_code (4 : Nat) (Option.some Jvm.ClassFile.FieldType.int)) ∈ lw_all := lw_g (lw_at lw_m10 118 rfl) rfl
theorem q2390 : (Jvm.Cond.methodLink "PaperMillModel" (116 : Nat) ({ cls := "PaperMillModel", name := "isNextToMouldy", desc := "(I)Z" } : Jvm.MethodName)) ∈ lw_all := lw_g (lw_at lw_m10 119 rfl) rfl
theorem q2391 : (Jvm.Cond.privateMethod ({ cls := "PaperMillModel", name := "isNextToMouldy", desc := "(I)Z" } : Jvm.MethodName)) ∈ lw_tbl := lw_at lw_m10 120 rfl
theorem q2392 : (Jvm.Cond.instanceMethod ({ cls := "PaperMillModel", name := "isNextToMouldy", desc := "(I)Z" } : Jvm.MethodName)) ∈ lw_all := lw_g (lw_at lw_m10 121 rfl) rfl
theorem q2393 : (Jvm.Cond.code ({ cls := "PaperMillModel", name := "isNextToMouldy", desc := "(I)Z" } : Jvm.MethodName) prog_26_method_45_code (2 : Nat) (Option.some Jvm.ClassFile.FieldType.boolean)) ∈ lw_all := lw_g (lw_at lw_m10 122 rfl) rfl
theorem q2394 : (Jvm.Cond.methodLink "PaperMillModel" (129 : Nat) ({ cls := "PaperMillModel", name := "rots", desc := "()I" } : Jvm.MethodName)) ∈ lw_all := lw_g (lw_at lw_m10 123 rfl) rfl
theorem q2395 : (Jvm.Cond.privateMethod ({ cls := "PaperMillModel", name := "rots", desc := "()I" } : Jvm.MethodName)) ∈ lw_tbl := lw_at lw_m10 124 rfl
theorem q2396 : (Jvm.Cond.instanceMethod ({ cls := "PaperMillModel", name := "rots", desc := "()I" } : Jvm.MethodName)) ∈ lw_all := lw_g (lw_at lw_m10 125 rfl) rfl
theorem q2397 : (Jvm.Cond.code ({ cls := "PaperMillModel", name := "rots", desc := "()I" } : Jvm.MethodName) prog_26_method_48_code (4 : Nat) (Option.some Jvm.ClassFile.FieldType.int)) ∈ lw_all := lw_g (lw_at lw_m10 126 rfl) rfl
theorem q2399 : (Jvm.Cond.instanceMethod ({ cls := "PaperMillModel", name := "debtOf", desc := "(I)I" } : Jvm.MethodName)) ∈ lw_all := lw_g (lw_at lw_m10 128 rfl) rfl
theorem q2400 : (Jvm.Cond.selects "PaperMillModel" ({ cls := "PaperMillModel", name := "debtOf", desc := "(I)I" } : Jvm.MethodName) ({ cls := "PaperMillModel", name := "debtOf", desc := "(I)I" } : Jvm.MethodName)) ∈ lw_all := lw_g (lw_at lw_m10 129 rfl) rfl
theorem q2401 : (Jvm.Cond.code ({ cls := "PaperMillModel", name := "debtOf", desc := "(I)I" } : Jvm.MethodName) prog_26_method_77_code (2 : Nat) (Option.some Jvm.ClassFile.FieldType.int)) ∈ lw_all := lw_g (lw_at lw_m10 130 rfl) rfl
theorem q2403 : (Jvm.Cond.instanceMethod ({ cls := "PaperMillModel", name := "passLeft", desc := "(I)I" } : Jvm.MethodName)) ∈ lw_all := lw_g (lw_at lw_m10 132 rfl) rfl
theorem q2404 : (Jvm.Cond.selects "PaperMillModel" ({ cls := "PaperMillModel", name := "passLeft", desc := "(I)I" } : Jvm.MethodName) ({ cls := "PaperMillModel", name := "passLeft", desc := "(I)I" } : Jvm.MethodName)) ∈ lw_all := lw_g (lw_at lw_m10 133 rfl) rfl
theorem q2405 : (Jvm.Cond.code ({ cls := "PaperMillModel", name := "passLeft", desc := "(I)I" } : Jvm.MethodName) prog_26_method_78_code (2 : Nat) (Option.some Jvm.ClassFile.FieldType.int)) ∈ lw_all := lw_g (lw_at lw_m10 134 rfl) rfl
theorem q2407 : (Jvm.Cond.instanceMethod ({ cls := "PaperMillModel", name := "tollFor", desc := "(II)I" } : Jvm.MethodName)) ∈ lw_all := lw_g (lw_at lw_m10 136 rfl) rfl
theorem q2408 : (Jvm.Cond.selects "PaperMillModel" ({ cls := "PaperMillModel", name := "tollFor", desc := "(II)I" } : Jvm.MethodName) ({ cls := "PaperMillModel", name := "tollFor", desc := "(II)I" } : Jvm.MethodName)) ∈ lw_all := lw_g (lw_at lw_m10 137 rfl) rfl
theorem q2409 : (Jvm.Cond.code ({ cls := "PaperMillModel", name := "tollFor", desc := "(II)I" } : Jvm.MethodName) prog_26_method_79_code (3 : Nat) (Option.some Jvm.ClassFile.FieldType.int)) ∈ lw_all := lw_g (lw_at lw_m10 138 rfl) rfl
theorem q2411 : (Jvm.Cond.instanceMethod ({ cls := "PaperMillModel", name := "whyNotIn", desc := "(III)I" } : Jvm.MethodName)) ∈ lw_all := lw_g (lw_at lw_m10 140 rfl) rfl
theorem q2412 : (Jvm.Cond.selects "PaperMillModel" ({ cls := "PaperMillModel", name := "whyNotIn", desc := "(III)I" } : Jvm.MethodName) ({ cls := "PaperMillModel", name := "whyNotIn", desc := "(III)I" } : Jvm.MethodName)) ∈ lw_all := lw_g (lw_at lw_m10 141 rfl) rfl
theorem q2413 : (Jvm.Cond.code ({ cls := "PaperMillModel", name := "whyNotIn", desc := "(III)I" } : Jvm.MethodName) prog_26_method_80_code (4 : Nat) (Option.some Jvm.ClassFile.FieldType.int)) ∈ lw_all := lw_g (lw_at lw_m10 142 rfl) rfl
theorem q2415 : (Jvm.Cond.instanceMethod ({ cls := "PaperMillModel", name := "bales", desc := "()I" } : Jvm.MethodName)) ∈ lw_all := lw_g (lw_at lw_m10 144 rfl) rfl
theorem q2416 : (Jvm.Cond.selects "PaperMillModel" ({ cls := "PaperMillModel", name := "bales", desc := "()I" } : Jvm.MethodName) ({ cls := "PaperMillModel", name := "bales", desc := "()I" } : Jvm.MethodName)) ∈ lw_all := lw_g (lw_at lw_m10 145 rfl) rfl
theorem q2417 : (Jvm.Cond.code ({ cls := "PaperMillModel", name := "bales", desc := "()I" } : Jvm.MethodName) prog_26_method_82_code (1 : Nat) (Option.some Jvm.ClassFile.FieldType.int)) ∈ lw_all := lw_g (lw_at lw_m10 146 rfl) rfl
theorem q2418 : (Jvm.Cond.methodLink "PaperMillModel" (231 : Nat) ({ cls := "PaperMillModel", name := "count", desc := "(I)I" } : Jvm.MethodName)) ∈ lw_all := lw_g (lw_at lw_m10 147 rfl) rfl
theorem q2419 : (Jvm.Cond.privateMethod ({ cls := "PaperMillModel", name := "count", desc := "(I)I" } : Jvm.MethodName)) ∈ lw_tbl := lw_at lw_m10 148 rfl
theorem q2420 : (Jvm.Cond.instanceMethod ({ cls := "PaperMillModel", name := "count", desc := "(I)I" } : Jvm.MethodName)) ∈ lw_all := lw_g (lw_at lw_m10 149 rfl) rfl
theorem q2421 : (Jvm.Cond.code ({ cls := "PaperMillModel", name := "count", desc := "(I)I" } : Jvm.MethodName) prog_26_method_81_code (2 : Nat) (Option.some Jvm.ClassFile.FieldType.int)) ∈ lw_all := lw_g (lw_at lw_m10 150 rfl) rfl
theorem q2423 : (Jvm.Cond.instanceMethod ({ cls := "PaperMillModel", name := "sortOf", desc := "(I)I" } : Jvm.MethodName)) ∈ lw_all := lw_g (lw_at lw_m10 152 rfl) rfl
theorem q2424 : (Jvm.Cond.selects "PaperMillModel" ({ cls := "PaperMillModel", name := "sortOf", desc := "(I)I" } : Jvm.MethodName) ({ cls := "PaperMillModel", name := "sortOf", desc := "(I)I" } : Jvm.MethodName)) ∈ lw_all := lw_g (lw_at lw_m10 153 rfl) rfl
theorem q2425 : (Jvm.Cond.code ({ cls := "PaperMillModel", name := "sortOf", desc := "(I)I" } : Jvm.MethodName) prog_26_method_84_code (2 : Nat) (Option.some Jvm.ClassFile.FieldType.int)) ∈ lw_all := lw_g (lw_at lw_m10 154 rfl) rfl
theorem q2426 : (Jvm.Cond.methodLink "PaperMillModel" (234 : Nat) ({ cls := "PaperMillModel", name := "tells", desc := "(II)I" } : Jvm.MethodName)) ∈ lw_all := lw_g (lw_at lw_m10 155 rfl) rfl
theorem q2427 : (Jvm.Cond.privateMethod ({ cls := "PaperMillModel", name := "tells", desc := "(II)I" } : Jvm.MethodName)) ∈ lw_tbl := lw_at lw_m10 156 rfl
theorem q2428 : (Jvm.Cond.instanceMethod ({ cls := "PaperMillModel", name := "tells", desc := "(II)I" } : Jvm.MethodName)) ∈ lw_all := lw_g (lw_at lw_m10 157 rfl) rfl
theorem q2429 : (Jvm.Cond.code ({ cls := "PaperMillModel", name := "tells", desc := "(II)I" } : Jvm.MethodName) prog_26_method_83_code (3 : Nat) (Option.some Jvm.ClassFile.FieldType.int)) ∈ lw_all := lw_g (lw_at lw_m10 158 rfl) rfl
theorem q2431 : (Jvm.Cond.instanceMethod ({ cls := "PaperMillModel", name := "ragsOf", desc := "(I)I" } : Jvm.MethodName)) ∈ lw_all := lw_g (lw_at lw_m10 160 rfl) rfl
theorem q2432 : (Jvm.Cond.selects "PaperMillModel" ({ cls := "PaperMillModel", name := "ragsOf", desc := "(I)I" } : Jvm.MethodName) ({ cls := "PaperMillModel", name := "ragsOf", desc := "(I)I" } : Jvm.MethodName)) ∈ lw_all := lw_g (lw_at lw_m10 161 rfl) rfl
theorem q2433 : (Jvm.Cond.code ({ cls := "PaperMillModel", name := "ragsOf", desc := "(I)I" } : Jvm.MethodName) prog_26_method_85_code (2 : Nat) (Option.some Jvm.ClassFile.FieldType.int)) ∈ lw_all := lw_g (lw_at lw_m10 162 rfl) rfl
theorem q2435 : (Jvm.Cond.instanceMethod ({ cls := "PaperMillModel", name := "dampOf", desc := "(I)I" } : Jvm.MethodName)) ∈ lw_all := lw_g (lw_at lw_m10 164 rfl) rfl
theorem q2436 : (Jvm.Cond.selects "PaperMillModel" ({ cls := "PaperMillModel", name := "dampOf", desc := "(I)I" } : Jvm.MethodName) ({ cls := "PaperMillModel", name := "dampOf", desc := "(I)I" } : Jvm.MethodName)) ∈ lw_all := lw_g (lw_at lw_m10 165 rfl) rfl
theorem q2437 : (Jvm.Cond.code ({ cls := "PaperMillModel", name := "dampOf", desc := "(I)I" } : Jvm.MethodName) prog_26_method_86_code (2 : Nat) (Option.some Jvm.ClassFile.FieldType.int)) ∈ lw_all := lw_g (lw_at lw_m10 166 rfl) rfl
theorem q2439 : (Jvm.Cond.instanceMethod ({ cls := "PaperMillModel", name := "wetDaysOf", desc := "(I)I" } : Jvm.MethodName)) ∈ lw_all := lw_g (lw_at lw_m10 168 rfl) rfl
theorem q2440 : (Jvm.Cond.selects "PaperMillModel" ({ cls := "PaperMillModel", name := "wetDaysOf", desc := "(I)I" } : Jvm.MethodName) ({ cls := "PaperMillModel", name := "wetDaysOf", desc := "(I)I" } : Jvm.MethodName)) ∈ lw_all := lw_g (lw_at lw_m10 169 rfl) rfl
theorem q2441 : (Jvm.Cond.code ({ cls := "PaperMillModel", name := "wetDaysOf", desc := "(I)I" } : Jvm.MethodName) prog_26_method_87_code (2 : Nat) (Option.some Jvm.ClassFile.FieldType.int)) ∈ lw_all := lw_g (lw_at lw_m10 170 rfl) rfl
theorem q2443 : (Jvm.Cond.instanceMethod ({ cls := "PaperMillModel", name := "goodRags", desc := "(I)I" } : Jvm.MethodName)) ∈ lw_all := lw_g (lw_at lw_m10 172 rfl) rfl
theorem q2444 : (Jvm.Cond.selects "PaperMillModel" ({ cls := "PaperMillModel", name := "goodRags", desc := "(I)I" } : Jvm.MethodName) ({ cls := "PaperMillModel", name := "goodRags", desc := "(I)I" } : Jvm.MethodName)) ∈ lw_all := lw_g (lw_at lw_m10 173 rfl) rfl
theorem q2445 : (Jvm.Cond.code ({ cls := "PaperMillModel", name := "goodRags", desc := "(I)I" } : Jvm.MethodName) prog_26_method_88_code (2 : Nat) (Option.some Jvm.ClassFile.FieldType.int)) ∈ lw_all := lw_g (lw_at lw_m10 174 rfl) rfl
theorem q2447 : (Jvm.Cond.instanceMethod ({ cls := "PaperMillModel", name := "mouldReach", desc := "(I)I" } : Jvm.MethodName)) ∈ lw_all := lw_g (lw_at lw_m10 176 rfl) rfl
theorem q2448 : (Jvm.Cond.selects "PaperMillModel" ({ cls := "PaperMillModel", name := "mouldReach", desc := "(I)I" } : Jvm.MethodName) ({ cls := "PaperMillModel", name := "mouldReach", desc := "(I)I" } : Jvm.MethodName)) ∈ lw_all := lw_g (lw_at lw_m10 177 rfl) rfl
theorem q2449 : (Jvm.Cond.code ({ cls := "PaperMillModel", name := "mouldReach", desc := "(I)I" } : Jvm.MethodName) prog_26_method_90_code (2 : Nat) (Option.some Jvm.ClassFile.FieldType.int)) ∈ lw_all := lw_g (lw_at lw_m10 178 rfl) rfl
theorem q2450 : (Jvm.Cond.methodLink "PaperMillModel" (237 : Nat) ({ cls := "PaperMillModel", name := "reach", desc := "(II)I" } : Jvm.MethodName)) ∈ lw_all := lw_g (lw_at lw_m10 179 rfl) rfl
theorem q2451 : (Jvm.Cond.privateMethod ({ cls := "PaperMillModel", name := "reach", desc := "(II)I" } : Jvm.MethodName)) ∈ lw_tbl := lw_at lw_m10 180 rfl
theorem q2452 : (Jvm.Cond.instanceMethod ({ cls := "PaperMillModel", name := "reach", desc := "(II)I" } : Jvm.MethodName)) ∈ lw_all := lw_g (lw_at lw_m10 181 rfl) rfl
theorem q2453 : (Jvm.Cond.code ({ cls := "PaperMillModel", name := "reach", desc := "(II)I" } : Jvm.MethodName) prog_26_method_89_code (5 : Nat) (Option.some Jvm.ClassFile.FieldType.int)) ∈ lw_all := lw_g (lw_at lw_m10 182 rfl) rfl
theorem q2455 : (Jvm.Cond.instanceMethod ({ cls := "PaperMillModel", name := "partsOf", desc := "(I)I" } : Jvm.MethodName)) ∈ lw_all := lw_g (lw_at lw_m10 184 rfl) rfl
theorem q2456 : (Jvm.Cond.selects "PaperMillModel" ({ cls := "PaperMillModel", name := "partsOf", desc := "(I)I" } : Jvm.MethodName) ({ cls := "PaperMillModel", name := "partsOf", desc := "(I)I" } : Jvm.MethodName)) ∈ lw_all := lw_g (lw_at lw_m10 185 rfl) rfl
theorem q2457 : (Jvm.Cond.code ({ cls := "PaperMillModel", name := "partsOf", desc := "(I)I" } : Jvm.MethodName) prog_26_method_91_code (2 : Nat) (Option.some Jvm.ClassFile.FieldType.int)) ∈ lw_all := lw_g (lw_at lw_m10 186 rfl) rfl
theorem q2459 : (Jvm.Cond.instanceMethod ({ cls := "PaperMillModel", name := "recipeDepth", desc := "()I" } : Jvm.MethodName)) ∈ lw_all := lw_g (lw_at lw_m10 188 rfl) rfl
theorem q2460 : (Jvm.Cond.selects "PaperMillModel" ({ cls := "PaperMillModel", name := "recipeDepth", desc := "()I" } : Jvm.MethodName) ({ cls := "PaperMillModel", name := "recipeDepth", desc := "()I" } : Jvm.MethodName)) ∈ lw_all := lw_g (lw_at lw_m10 189 rfl) rfl
theorem q2461 : (Jvm.Cond.code ({ cls := "PaperMillModel", name := "recipeDepth", desc := "()I" } : Jvm.MethodName) prog_26_method_92_code (1 : Nat) (Option.some Jvm.ClassFile.FieldType.int)) ∈ lw_all := lw_g (lw_at lw_m10 190 rfl) rfl
theorem q2463 : (Jvm.Cond.instanceMethod ({ cls := "PaperMillModel", name := "shareOf", desc := "(II)I" } : Jvm.MethodName)) ∈ lw_all := lw_g (lw_at lw_m10 192 rfl) rfl
theorem q2464 : (Jvm.Cond.selects "PaperMillModel" ({ cls := "PaperMillModel", name := "shareOf", desc := "(II)I" } : Jvm.MethodName) ({ cls := "PaperMillModel", name := "shareOf", desc := "(II)I" } : Jvm.MethodName)) ∈ lw_all := lw_g (lw_at lw_m10 193 rfl) rfl
theorem q2465 : (Jvm.Cond.code ({ cls := "PaperMillModel", name := "shareOf", desc := "(II)I" } : Jvm.MethodName) prog_26_method_93_code (3 : Nat) (Option.some Jvm.ClassFile.FieldType.int)) ∈ lw_all := lw_g (lw_at lw_m10 194 rfl) rfl
theorem q2466 : (Jvm.Cond.methodLink "PaperMillModel" (240 : Nat) ({ cls := "PaperMillModel", name := "share", desc := "(II)I" } : Jvm.MethodName)) ∈ lw_all := lw_g (lw_at lw_m10 195 rfl) rfl
theorem q2467 : (Jvm.Cond.privateMethod ({ cls := "PaperMillModel", name := "share", desc := "(II)I" } : Jvm.MethodName)) ∈ lw_tbl := lw_at lw_m10 196 rfl
theorem q2468 : (Jvm.Cond.instanceMethod ({ cls := "PaperMillModel", name := "share", desc := "(II)I" } : Jvm.MethodName)) ∈ lw_all := lw_g (lw_at lw_m10 197 rfl) rfl
theorem q2469 : (Jvm.Cond.code ({ cls := "PaperMillModel", name := "share", desc := "(II)I" } : Jvm.MethodName) prog_26_method_94_code (3 : Nat) (Option.some Jvm.ClassFile.FieldType.int)) ∈ lw_all := lw_g (lw_at lw_m10 198 rfl) rfl
theorem q2471 : (Jvm.Cond.instanceMethod ({ cls := "PaperMillModel", name := "unitsIn", desc := "(I)I" } : Jvm.MethodName)) ∈ lw_all := lw_g (lw_at lw_m10 200 rfl) rfl
theorem q2472 : (Jvm.Cond.selects "PaperMillModel" ({ cls := "PaperMillModel", name := "unitsIn", desc := "(I)I" } : Jvm.MethodName) ({ cls := "PaperMillModel", name := "unitsIn", desc := "(I)I" } : Jvm.MethodName)) ∈ lw_all := lw_g (lw_at lw_m10 201 rfl) rfl
theorem q2473 : (Jvm.Cond.code ({ cls := "PaperMillModel", name := "unitsIn", desc := "(I)I" } : Jvm.MethodName) prog_26_method_96_code (2 : Nat) (Option.some Jvm.ClassFile.FieldType.int)) ∈ lw_all := lw_g (lw_at lw_m10 202 rfl) rfl
theorem q2474 : (Jvm.Cond.methodLink "PaperMillModel" (243 : Nat) ({ cls := "PaperMillModel", name := "ofVat", desc := "(II)I" } : Jvm.MethodName)) ∈ lw_all := lw_g (lw_at lw_m10 203 rfl) rfl
theorem q2475 : (Jvm.Cond.privateMethod ({ cls := "PaperMillModel", name := "ofVat", desc := "(II)I" } : Jvm.MethodName)) ∈ lw_tbl := lw_at lw_m10 204 rfl
theorem q2476 : (Jvm.Cond.instanceMethod ({ cls := "PaperMillModel", name := "ofVat", desc := "(II)I" } : Jvm.MethodName)) ∈ lw_all := lw_g (lw_at lw_m10 205 rfl) rfl
theorem q2477 : (Jvm.Cond.code ({ cls := "PaperMillModel", name := "ofVat", desc := "(II)I" } : Jvm.MethodName) prog_26_method_95_code (3 : Nat) (Option.some Jvm.ClassFile.FieldType.int)) ∈ lw_all := lw_g (lw_at lw_m10 206 rfl) rfl
theorem q2479 : (Jvm.Cond.instanceMethod ({ cls := "PaperMillModel", name := "hoursOf", desc := "(I)I" } : Jvm.MethodName)) ∈ lw_all := lw_g (lw_at lw_m10 208 rfl) rfl
theorem q2480 : (Jvm.Cond.selects "PaperMillModel" ({ cls := "PaperMillModel", name := "hoursOf", desc := "(I)I" } : Jvm.MethodName) ({ cls := "PaperMillModel", name := "hoursOf", desc := "(I)I" } : Jvm.MethodName)) ∈ lw_all := lw_g (lw_at lw_m10 209 rfl) rfl
theorem q2481 : (Jvm.Cond.code ({ cls := "PaperMillModel", name := "hoursOf", desc := "(I)I" } : Jvm.MethodName) prog_26_method_97_code (2 : Nat) (Option.some Jvm.ClassFile.FieldType.int)) ∈ lw_all := lw_g (lw_at lw_m10 210 rfl) rfl
theorem q2483 : (Jvm.Cond.instanceMethod ({ cls := "PaperMillModel", name := "strengthOf", desc := "(I)I" } : Jvm.MethodName)) ∈ lw_all := lw_g (lw_at lw_m10 212 rfl) rfl
theorem q2484 : (Jvm.Cond.selects "PaperMillModel" ({ cls := "PaperMillModel", name := "strengthOf", desc := "(I)I" } : Jvm.MethodName) ({ cls := "PaperMillModel", name := "strengthOf", desc := "(I)I" } : Jvm.MethodName)) ∈ lw_all := lw_g (lw_at lw_m10 213 rfl) rfl
theorem q2485 : (Jvm.Cond.code ({ cls := "PaperMillModel", name := "strengthOf", desc := "(I)I" } : Jvm.MethodName) prog_26_method_98_code (2 : Nat) (Option.some Jvm.ClassFile.FieldType.int)) ∈ lw_all := lw_g (lw_at lw_m10 214 rfl) rfl
theorem q2487 : (Jvm.Cond.instanceMethod ({ cls := "PaperMillModel", name := "whyNotBeaten", desc := "(II)I" } : Jvm.MethodName)) ∈ lw_all := lw_g (lw_at lw_m10 216 rfl) rfl
theorem q2488 : (Jvm.Cond.selects "PaperMillModel" ({ cls := "PaperMillModel", name := "whyNotBeaten", desc := "(II)I" } : Jvm.MethodName) ({ cls := "PaperMillModel", name := "whyNotBeaten", desc := "(II)I" } : Jvm.MethodName)) ∈ lw_all := lw_g (lw_at lw_m10 217 rfl) rfl
theorem q2489 : (Jvm.Cond.code ({ cls := "PaperMillModel", name := "whyNotBeaten", desc := "(II)I" } : Jvm.MethodName) prog_26_method_99_code (3 : Nat) (Option.some Jvm.ClassFile.FieldType.int)) ∈ lw_all := lw_g (lw_at lw_m10 218 rfl) rfl
theorem q2491 : (Jvm.Cond.instanceMethod ({ cls := "PaperMillModel", name := "markOf", desc := "(I)I" } : Jvm.MethodName)) ∈ lw_all := lw_g (lw_at lw_m10 220 rfl) rfl
theorem q2492 : (Jvm.Cond.selects "PaperMillModel" ({ cls := "PaperMillModel", name := "markOf", desc := "(I)I" } : Jvm.MethodName) ({ cls := "PaperMillModel", name := "markOf", desc := "(I)I" } : Jvm.MethodName)) ∈ lw_all := lw_g (lw_at lw_m10 221 rfl) rfl
theorem q2493 : (Jvm.Cond.code ({ cls := "PaperMillModel", name := "markOf", desc := "(I)I" } : Jvm.MethodName) prog_26_method_101_code (2 : Nat) (Option.some Jvm.ClassFile.FieldType.int)) ∈ lw_all := lw_g (lw_at lw_m10 222 rfl) rfl
theorem q2494 : (Jvm.Cond.methodLink "PaperMillModel" (246 : Nat) ({ cls := "PaperMillModel", name := "ofMould", desc := "(II)I" } : Jvm.MethodName)) ∈ lw_all := lw_g (lw_at lw_m10 223 rfl) rfl
theorem q2495 : (Jvm.Cond.privateMethod ({ cls := "PaperMillModel", name := "ofMould", desc := "(II)I" } : Jvm.MethodName)) ∈ lw_tbl := lw_at lw_m10 224 rfl
theorem q2496 : (Jvm.Cond.instanceMethod ({ cls := "PaperMillModel", name := "ofMould", desc := "(II)I" } : Jvm.MethodName)) ∈ lw_all := lw_g (lw_at lw_m10 225 rfl) rfl
theorem q2497 : (Jvm.Cond.code ({ cls := "PaperMillModel", name := "ofMould", desc := "(II)I" } : Jvm.MethodName) prog_26_method_100_code (3 : Nat) (Option.some Jvm.ClassFile.FieldType.int)) ∈ lw_all := lw_g (lw_at lw_m10 226 rfl) rfl
theorem q2499 : (Jvm.Cond.instanceMethod ({ cls := "PaperMillModel", name := "wearOf", desc := "(I)I" } : Jvm.MethodName)) ∈ lw_all := lw_g (lw_at lw_m10 228 rfl) rfl
theorem q2500 : (Jvm.Cond.selects "PaperMillModel" ({ cls := "PaperMillModel", name := "wearOf", desc := "(I)I" } : Jvm.MethodName) ({ cls := "PaperMillModel", name := "wearOf", desc := "(I)I" } : Jvm.MethodName)) ∈ lw_all := lw_g (lw_at lw_m10 229 rfl) rfl
theorem q2501 : (Jvm.Cond.code ({ cls := "PaperMillModel", name := "wearOf", desc := "(I)I" } : Jvm.MethodName) prog_26_method_102_code (2 : Nat) (Option.some Jvm.ClassFile.FieldType.int)) ∈ lw_all := lw_g (lw_at lw_m10 230 rfl) rfl
theorem q2503 : (Jvm.Cond.instanceMethod ({ cls := "PaperMillModel", name := "pointsOf", desc := "(II)I" } : Jvm.MethodName)) ∈ lw_all := lw_g (lw_at lw_m10 232 rfl) rfl
theorem q2504 : (Jvm.Cond.selects "PaperMillModel" ({ cls := "PaperMillModel", name := "pointsOf", desc := "(II)I" } : Jvm.MethodName) ({ cls := "PaperMillModel", name := "pointsOf", desc := "(II)I" } : Jvm.MethodName)) ∈ lw_all := lw_g (lw_at lw_m10 233 rfl) rfl
theorem q2505 : (Jvm.Cond.code ({ cls := "PaperMillModel", name := "pointsOf", desc := "(II)I" } : Jvm.MethodName) prog_26_method_103_code (3 : Nat) (Option.some Jvm.ClassFile.FieldType.int)) ∈ lw_all := lw_g (lw_at lw_m10 234 rfl) rfl
theorem q2507 : (Jvm.Cond.instanceMethod ({ cls := "PaperMillModel", name := "whyNotMade", desc := "(III)I" } : Jvm.MethodName)) ∈ lw_all := lw_g (lw_at lw_m10 236 rfl) rfl
theorem q2508 : (Jvm.Cond.selects "PaperMillModel" ({ cls := "PaperMillModel", name := "whyNotMade", desc := "(III)I" } : Jvm.MethodName) ({ cls := "PaperMillModel", name := "whyNotMade", desc := "(III)I" } : Jvm.MethodName)) ∈ lw_all := lw_g (lw_at lw_m10 237 rfl) rfl
theorem q2509 : (Jvm.Cond.code ({ cls := "PaperMillModel", name := "whyNotMade", desc := "(III)I" } : Jvm.MethodName) prog_26_method_104_code (4 : Nat) (Option.some Jvm.ClassFile.FieldType.int)) ∈ lw_all := lw_g (lw_at lw_m10 238 rfl) rfl
theorem q2511 : (Jvm.Cond.instanceMethod ({ cls := "PaperMillModel", name := "sheetsFrom", desc := "(II)I" } : Jvm.MethodName)) ∈ lw_all := lw_g (lw_at lw_m11 0 rfl) rfl
theorem q2512 : (Jvm.Cond.selects "PaperMillModel" ({ cls := "PaperMillModel", name := "sheetsFrom", desc := "(II)I" } : Jvm.MethodName) ({ cls := "PaperMillModel", name := "sheetsFrom", desc := "(II)I" } : Jvm.MethodName)) ∈ lw_all := lw_g (lw_at lw_m11 1 rfl) rfl
theorem q2513 : (Jvm.Cond.code ({ cls := "PaperMillModel", name := "sheetsFrom", desc := "(II)I" } : Jvm.MethodName) prog_26_method_106_code (3 : Nat) (Option.some Jvm.ClassFile.FieldType.int)) ∈ lw_all := lw_g (lw_at lw_m11 2 rfl) rfl
theorem q2514 : (Jvm.Cond.methodLink "PaperMillModel" (249 : Nat) ({ cls := "PaperMillModel", name := "most", desc := "(II)I" } : Jvm.MethodName)) ∈ lw_all := lw_g (lw_at lw_m11 3 rfl) rfl
theorem q2515 : (Jvm.Cond.privateMethod ({ cls := "PaperMillModel", name := "most", desc := "(II)I" } : Jvm.MethodName)) ∈ lw_tbl := lw_at lw_m11 4 rfl
theorem q2516 : (Jvm.Cond.instanceMethod ({ cls := "PaperMillModel", name := "most", desc := "(II)I" } : Jvm.MethodName)) ∈ lw_all := lw_g (lw_at lw_m11 5 rfl) rfl
theorem q2517 : (Jvm.Cond.code ({ cls := "PaperMillModel", name := "most", desc := "(II)I" } : Jvm.MethodName) prog_26_method_105_code (4 : Nat) (Option.some Jvm.ClassFile.FieldType.int)) ∈ lw_all := lw_g (lw_at lw_m11 6 rfl) rfl
theorem q2519 : (Jvm.Cond.instanceMethod ({ cls := "PaperMillModel", name := "sheetsByTrying", desc := "(II)I" } : Jvm.MethodName)) ∈ lw_all := lw_g (lw_at lw_m11 8 rfl) rfl
theorem q2520 : (Jvm.Cond.selects "PaperMillModel" ({ cls := "PaperMillModel", name := "sheetsByTrying", desc := "(II)I" } : Jvm.MethodName) ({ cls := "PaperMillModel", name := "sheetsByTrying", desc := "(II)I" } : Jvm.MethodName)) ∈ lw_all := lw_g (lw_at lw_m11 9 rfl) rfl
theorem q2521 : (Jvm.Cond.code ({ cls := "PaperMillModel", name := "sheetsByTrying", desc := "(II)I" } : Jvm.MethodName) prog_26_method_107_code (3 : Nat) (Option.some Jvm.ClassFile.FieldType.int)) ∈ lw_all := lw_g (lw_at lw_m11 10 rfl) rfl
theorem q2523 : (Jvm.Cond.instanceMethod ({ cls := "PaperMillModel", name := "piles", desc := "()I" } : Jvm.MethodName)) ∈ lw_all := lw_g (lw_at lw_m11 12 rfl) rfl
theorem q2524 : (Jvm.Cond.selects "PaperMillModel" ({ cls := "PaperMillModel", name := "piles", desc := "()I" } : Jvm.MethodName) ({ cls := "PaperMillModel", name := "piles", desc := "()I" } : Jvm.MethodName)) ∈ lw_all := lw_g (lw_at lw_m11 13 rfl) rfl
theorem q2525 : (Jvm.Cond.code ({ cls := "PaperMillModel", name := "piles", desc := "()I" } : Jvm.MethodName) prog_26_method_108_code (1 : Nat) (Option.some Jvm.ClassFile.FieldType.int)) ∈ lw_all := lw_g (lw_at lw_m11 14 rfl) rfl
theorem q2527 : (Jvm.Cond.instanceMethod ({ cls := "PaperMillModel", name := "sheetsOn", desc := "(I)I" } : Jvm.MethodName)) ∈ lw_all := lw_g (lw_at lw_m11 16 rfl) rfl
theorem q2528 : (Jvm.Cond.selects "PaperMillModel" ({ cls := "PaperMillModel", name := "sheetsOn", desc := "(I)I" } : Jvm.MethodName) ({ cls := "PaperMillModel", name := "sheetsOn", desc := "(I)I" } : Jvm.MethodName)) ∈ lw_all := lw_g (lw_at lw_m11 17 rfl) rfl
theorem q2529 : (Jvm.Cond.code ({ cls := "PaperMillModel", name := "sheetsOn", desc := "(I)I" } : Jvm.MethodName) prog_26_method_110_code (2 : Nat) (Option.some Jvm.ClassFile.FieldType.int)) ∈ lw_all := lw_g (lw_at lw_m11 18 rfl) rfl
theorem q2530 : (Jvm.Cond.methodLink "PaperMillModel" (252 : Nat) ({ cls := "PaperMillModel", name := "ofPile", desc := "(II)I" } : Jvm.MethodName)) ∈ lw_all := lw_g (lw_at lw_m11 19 rfl) rfl
theorem q2531 : (Jvm.Cond.privateMethod ({ cls := "PaperMillModel", name := "ofPile", desc := "(II)I" } : Jvm.MethodName)) ∈ lw_tbl := lw_at lw_m11 20 rfl
theorem q2532 : (Jvm.Cond.instanceMethod ({ cls := "PaperMillModel", name := "ofPile", desc := "(II)I" } : Jvm.MethodName)) ∈ lw_all := lw_g (lw_at lw_m11 21 rfl) rfl
theorem q2533 : (Jvm.Cond.code ({ cls := "PaperMillModel", name := "ofPile", desc := "(II)I" } : Jvm.MethodName) prog_26_method_109_code (3 : Nat) (Option.some Jvm.ClassFile.FieldType.int)) ∈ lw_all := lw_g (lw_at lw_m11 22 rfl) rfl
theorem q2535 : (Jvm.Cond.instanceMethod ({ cls := "PaperMillModel", name := "gradeOf", desc := "(I)I" } : Jvm.MethodName)) ∈ lw_all := lw_g (lw_at lw_m11 24 rfl) rfl
theorem q2536 : (Jvm.Cond.selects "PaperMillModel" ({ cls := "PaperMillModel", name := "gradeOf", desc := "(I)I" } : Jvm.MethodName) ({ cls := "PaperMillModel", name := "gradeOf", desc := "(I)I" } : Jvm.MethodName)) ∈ lw_all := lw_g (lw_at lw_m11 25 rfl) rfl
theorem q2537 : (Jvm.Cond.code ({ cls := "PaperMillModel", name := "gradeOf", desc := "(I)I" } : Jvm.MethodName) prog_26_method_111_code (2 : Nat) (Option.some Jvm.ClassFile.FieldType.int)) ∈ lw_all := lw_g (lw_at lw_m11 26 rfl) rfl
theorem q2539 : (Jvm.Cond.instanceMethod ({ cls := "PaperMillModel", name := "drySheets", desc := "(III)I" } : Jvm.MethodName)) ∈ lw_all := lw_g (lw_at lw_m11 28 rfl) rfl
theorem q2540 : (Jvm.Cond.selects "PaperMillModel" ({ cls := "PaperMillModel", name := "drySheets", desc := "(III)I" } : Jvm.MethodName) ({ cls := "PaperMillModel", name := "drySheets", desc := "(III)I" } : Jvm.MethodName)) ∈ lw_all := lw_g (lw_at lw_m11 29 rfl) rfl
theorem q2541 : (Jvm.Cond.code ({ cls := "PaperMillModel", name := "drySheets", desc := "(III)I" } : Jvm.MethodName) prog_26_method_112_code (4 : Nat) (Option.some Jvm.ClassFile.FieldType.int)) ∈ lw_all := lw_g (lw_at lw_m11 30 rfl) rfl
theorem q2543 : (Jvm.Cond.instanceMethod ({ cls := "PaperMillModel", name := "whyNotPacked", desc := "(III)I" } : Jvm.MethodName)) ∈ lw_all := lw_g (lw_at lw_m11 32 rfl) rfl
theorem q2544 : (Jvm.Cond.selects "PaperMillModel" ({ cls := "PaperMillModel", name := "whyNotPacked", desc := "(III)I" } : Jvm.MethodName) ({ cls := "PaperMillModel", name := "whyNotPacked", desc := "(III)I" } : Jvm.MethodName)) ∈ lw_all := lw_g (lw_at lw_m11 33 rfl) rfl
theorem q2545 : (Jvm.Cond.code ({ cls := "PaperMillModel", name := "whyNotPacked", desc := "(III)I" } : Jvm.MethodName) prog_26_method_113_code (4 : Nat) (Option.some Jvm.ClassFile.FieldType.int)) ∈ lw_all := lw_g (lw_at lw_m11 34 rfl) rfl
theorem q2547 : (Jvm.Cond.instanceMethod ({ cls := "PaperMillModel", name := "reams", desc := "()I" } : Jvm.MethodName)) ∈ lw_all := lw_g (lw_at lw_m11 36 rfl) rfl
theorem q2548 : (Jvm.Cond.selects "PaperMillModel" ({ cls := "PaperMillModel", name := "reams", desc := "()I" } : Jvm.MethodName) ({ cls := "PaperMillModel", name := "reams", desc := "()I" } : Jvm.MethodName)) ∈ lw_all := lw_g (lw_at lw_m11 37 rfl) rfl
theorem q2549 : (Jvm.Cond.code ({ cls := "PaperMillModel", name := "reams", desc := "()I" } : Jvm.MethodName) prog_26_method_114_code (1 : Nat) (Option.some Jvm.ClassFile.FieldType.int)) ∈ lw_all := lw_g (lw_at lw_m11 38 rfl) rfl
theorem q2551 : (Jvm.Cond.instanceMethod ({ cls := "PaperMillModel", name := "quiresOf", desc := "(I)I" } : Jvm.MethodName)) ∈ lw_all := lw_g (lw_at lw_m11 40 rfl) rfl
theorem q2552 : (Jvm.Cond.selects "PaperMillModel" ({ cls := "PaperMillModel", name := "quiresOf", desc := "(I)I" } : Jvm.MethodName) ({ cls := "PaperMillModel", name := "quiresOf", desc := "(I)I" } : Jvm.MethodName)) ∈ lw_all := lw_g (lw_at lw_m11 41 rfl) rfl
theorem q2553 : (Jvm.Cond.code ({ cls := "PaperMillModel", name := "quiresOf", desc := "(I)I" } : Jvm.MethodName) prog_26_method_115_code (2 : Nat) (Option.some Jvm.ClassFile.FieldType.int)) ∈ lw_all := lw_g (lw_at lw_m11 42 rfl) rfl
theorem q2555 : (Jvm.Cond.instanceMethod ({ cls := "PaperMillModel", name := "priceOf", desc := "(I)I" } : Jvm.MethodName)) ∈ lw_all := lw_g (lw_at lw_m11 44 rfl) rfl
theorem q2556 : (Jvm.Cond.selects "PaperMillModel" ({ cls := "PaperMillModel", name := "priceOf", desc := "(I)I" } : Jvm.MethodName) ({ cls := "PaperMillModel", name := "priceOf", desc := "(I)I" } : Jvm.MethodName)) ∈ lw_all := lw_g (lw_at lw_m11 45 rfl) rfl
theorem q2557 : (Jvm.Cond.code ({ cls := "PaperMillModel", name := "priceOf", desc := "(I)I" } : Jvm.MethodName) prog_26_method_116_code (2 : Nat) (Option.some Jvm.ClassFile.FieldType.int)) ∈ lw_all := lw_g (lw_at lw_m11 46 rfl) rfl
theorem q2559 : (Jvm.Cond.instanceMethod ({ cls := "PaperMillModel", name := "day", desc := "()I" } : Jvm.MethodName)) ∈ lw_all := lw_g (lw_at lw_m11 48 rfl) rfl
theorem q2560 : (Jvm.Cond.selects "PaperMillModel" ({ cls := "PaperMillModel", name := "day", desc := "()I" } : Jvm.MethodName) ({ cls := "PaperMillModel", name := "day", desc := "()I" } : Jvm.MethodName)) ∈ lw_all := lw_g (lw_at lw_m11 49 rfl) rfl
theorem q2561 : (Jvm.Cond.code ({ cls := "PaperMillModel", name := "day", desc := "()I" } : Jvm.MethodName) prog_26_method_117_code (1 : Nat) (Option.some Jvm.ClassFile.FieldType.int)) ∈ lw_all := lw_g (lw_at lw_m11 50 rfl) rfl
theorem q2563 : (Jvm.Cond.instanceMethod ({ cls := "PaperMillModel", name := "purse", desc := "()I" } : Jvm.MethodName)) ∈ lw_all := lw_g (lw_at lw_m11 52 rfl) rfl
theorem q2564 : (Jvm.Cond.selects "PaperMillModel" ({ cls := "PaperMillModel", name := "purse", desc := "()I" } : Jvm.MethodName) ({ cls := "PaperMillModel", name := "purse", desc := "()I" } : Jvm.MethodName)) ∈ lw_all := lw_g (lw_at lw_m11 53 rfl) rfl
theorem q2565 : (Jvm.Cond.code ({ cls := "PaperMillModel", name := "purse", desc := "()I" } : Jvm.MethodName) prog_26_method_118_code (1 : Nat) (Option.some Jvm.ClassFile.FieldType.int)) ∈ lw_all := lw_g (lw_at lw_m11 54 rfl) rfl
theorem q2567 : (Jvm.Cond.instanceMethod ({ cls := "PaperMillModel", name := "unitsByPlaces", desc := "()I" } : Jvm.MethodName)) ∈ lw_all := lw_g (lw_at lw_m11 56 rfl) rfl
theorem q2568 : (Jvm.Cond.selects "PaperMillModel" ({ cls := "PaperMillModel", name := "unitsByPlaces", desc := "()I" } : Jvm.MethodName) ({ cls := "PaperMillModel", name := "unitsByPlaces", desc := "()I" } : Jvm.MethodName)) ∈ lw_all := lw_g (lw_at lw_m11 57 rfl) rfl
theorem q2569 : (Jvm.Cond.code ({ cls := "PaperMillModel", name := "unitsByPlaces", desc := "()I" } : Jvm.MethodName) prog_26_method_120_code (1 : Nat) (Option.some Jvm.ClassFile.FieldType.int)) ∈ lw_all := lw_g (lw_at lw_m11 58 rfl) rfl
theorem q2570 : (Jvm.Cond.methodLink "PaperMillModel" (255 : Nat) ({ cls := "PaperMillModel", name := "allUnits", desc := "()I" } : Jvm.MethodName)) ∈ lw_all := lw_g (lw_at lw_m11 59 rfl) rfl
theorem q2571 : (Jvm.Cond.privateMethod ({ cls := "PaperMillModel", name := "allUnits", desc := "()I" } : Jvm.MethodName)) ∈ lw_tbl := lw_at lw_m11 60 rfl
theorem q2572 : (Jvm.Cond.instanceMethod ({ cls := "PaperMillModel", name := "allUnits", desc := "()I" } : Jvm.MethodName)) ∈ lw_all := lw_g (lw_at lw_m11 61 rfl) rfl
theorem q2573 : (Jvm.Cond.code ({ cls := "PaperMillModel", name := "allUnits", desc := "()I" } : Jvm.MethodName) prog_26_method_119_code (3 : Nat) (Option.some Jvm.ClassFile.FieldType.int)) ∈ lw_all := lw_g (lw_at lw_m11 62 rfl) rfl
theorem q2575 : (Jvm.Cond.instanceMethod ({ cls := "PaperMillModel", name := "unitsByAccount", desc := "()I" } : Jvm.MethodName)) ∈ lw_all := lw_g (lw_at lw_m11 64 rfl) rfl
theorem q2576 : (Jvm.Cond.selects "PaperMillModel" ({ cls := "PaperMillModel", name := "unitsByAccount", desc := "()I" } : Jvm.MethodName) ({ cls := "PaperMillModel", name := "unitsByAccount", desc := "()I" } : Jvm.MethodName)) ∈ lw_all := lw_g (lw_at lw_m11 65 rfl) rfl
theorem q2577 : (Jvm.Cond.code ({ cls := "PaperMillModel", name := "unitsByAccount", desc := "()I" } : Jvm.MethodName) prog_26_method_121_code (1 : Nat) (Option.some Jvm.ClassFile.FieldType.int)) ∈ lw_all := lw_g (lw_at lw_m11 66 rfl) rfl
theorem q2579 : (Jvm.Cond.instanceMethod ({ cls := "PaperMillModel", name := "meanDamp", desc := "()D" } : Jvm.MethodName)) ∈ lw_all := lw_g (lw_at lw_m11 68 rfl) rfl
theorem q2580 : (Jvm.Cond.selects "PaperMillModel" ({ cls := "PaperMillModel", name := "meanDamp", desc := "()D" } : Jvm.MethodName) ({ cls := "PaperMillModel", name := "meanDamp", desc := "()D" } : Jvm.MethodName)) ∈ lw_all := lw_g (lw_at lw_m11 69 rfl) rfl
theorem q2581 : (Jvm.Cond.code ({ cls := "PaperMillModel", name := "meanDamp", desc := "()D" } : Jvm.MethodName) prog_26_method_122_code (4 : Nat) (Option.some Jvm.ClassFile.FieldType.double)) ∈ lw_all := lw_g (lw_at lw_m11 70 rfl) rfl
theorem q2583 : (Jvm.Cond.instanceMethod ({ cls := "PaperMillModel", name := "daysUntilMould", desc := "()I" } : Jvm.MethodName)) ∈ lw_all := lw_g (lw_at lw_m11 72 rfl) rfl
theorem q2584 : (Jvm.Cond.selects "PaperMillModel" ({ cls := "PaperMillModel", name := "daysUntilMould", desc := "()I" } : Jvm.MethodName) ({ cls := "PaperMillModel", name := "daysUntilMould", desc := "()I" } : Jvm.MethodName)) ∈ lw_all := lw_g (lw_at lw_m11 73 rfl) rfl
theorem q2585 : (Jvm.Cond.code ({ cls := "PaperMillModel", name := "daysUntilMould", desc := "()I" } : Jvm.MethodName) prog_26_method_123_code (2 : Nat) (Option.some Jvm.ClassFile.FieldType.int)) ∈ lw_all := lw_g (lw_at lw_m11 74 rfl) rfl
theorem q2587 : (Jvm.Cond.instanceMethod ({ cls := "PaperMillModel", name := "lostIn", desc := "(I)I" } : Jvm.MethodName)) ∈ lw_all := lw_g (lw_at lw_m11 76 rfl) rfl
theorem q2588 : (Jvm.Cond.selects "PaperMillModel" ({ cls := "PaperMillModel", name := "lostIn", desc := "(I)I" } : Jvm.MethodName) ({ cls := "PaperMillModel", name := "lostIn", desc := "(I)I" } : Jvm.MethodName)) ∈ lw_all := lw_g (lw_at lw_m11 77 rfl) rfl
theorem q2589 : (Jvm.Cond.code ({ cls := "PaperMillModel", name := "lostIn", desc := "(I)I" } : Jvm.MethodName) prog_26_method_124_code (3 : Nat) (Option.some Jvm.ClassFile.FieldType.int)) ∈ lw_all := lw_g (lw_at lw_m11 78 rfl) rfl
theorem q2591 : (Jvm.Cond.instanceMethod ({ cls := "PaperMillModel", name := "append", desc := "(I)I" } : Jvm.MethodName)) ∈ lw_all := lw_g (lw_at lw_m11 80 rfl) rfl
theorem q2592 : (Jvm.Cond.selects "PaperMillModel" ({ cls := "PaperMillModel", name := "append", desc := "(I)I" } : Jvm.MethodName) ({ cls := "PaperMillModel", name := "append", desc := "(I)I" } : Jvm.MethodName)) ∈ lw_all := lw_g (lw_at lw_m11 81 rfl) rfl
theorem q2593 : (Jvm.Cond.code ({ cls := "PaperMillModel", name := "append", desc := "(I)I" } : Jvm.MethodName) prog_26_method_125_code (2 : Nat) (Option.some Jvm.ClassFile.FieldType.int)) ∈ lw_all := lw_g (lw_at lw_m11 82 rfl) rfl
theorem q2595 : (Jvm.Cond.instanceMethod ({ cls := "PaperMillModel", name := "clearText", desc := "()I" } : Jvm.MethodName)) ∈ lw_all := lw_g (lw_at lw_m11 84 rfl) rfl
theorem q2596 : (Jvm.Cond.selects "PaperMillModel" ({ cls := "PaperMillModel", name := "clearText", desc := "()I" } : Jvm.MethodName) ({ cls := "PaperMillModel", name := "clearText", desc := "()I" } : Jvm.MethodName)) ∈ lw_all := lw_g (lw_at lw_m11 85 rfl) rfl
theorem q2597 : (Jvm.Cond.code ({ cls := "PaperMillModel", name := "clearText", desc := "()I" } : Jvm.MethodName) prog_26_method_126_code (2 : Nat) (Option.some Jvm.ClassFile.FieldType.int)) ∈ lw_all := lw_g (lw_at lw_m11 86 rfl) rfl
theorem q2599 : (Jvm.Cond.instanceMethod ({ cls := "PaperMillModel", name := "errorPosition", desc := "()I" } : Jvm.MethodName)) ∈ lw_all := lw_g (lw_at lw_m11 88 rfl) rfl
theorem q2600 : (Jvm.Cond.selects "PaperMillModel" ({ cls := "PaperMillModel", name := "errorPosition", desc := "()I" } : Jvm.MethodName) ({ cls := "PaperMillModel", name := "errorPosition", desc := "()I" } : Jvm.MethodName)) ∈ lw_all := lw_g (lw_at lw_m11 89 rfl) rfl
theorem q2601 : (Jvm.Cond.code ({ cls := "PaperMillModel", name := "errorPosition", desc := "()I" } : Jvm.MethodName) prog_26_method_141_code (1 : Nat) (Option.some Jvm.ClassFile.FieldType.int)) ∈ lw_all := lw_g (lw_at lw_m11 90 rfl) rfl
theorem q2602 : (Jvm.Cond.methodLink "PaperMillModel" (308 : Nat) ({ cls := "PaperMillModel", name := "isWhole", desc := "()Z" } : Jvm.MethodName)) ∈ lw_all := lw_g (lw_at lw_m11 91 rfl) rfl
theorem q2603 : (Jvm.Cond.privateMethod ({ cls := "PaperMillModel", name := "isWhole", desc := "()Z" } : Jvm.MethodName)) ∈ lw_tbl := lw_at lw_m11 92 rfl
theorem q2604 : (Jvm.Cond.instanceMethod ({ cls := "PaperMillModel", name := "isWhole", desc := "()Z" } : Jvm.MethodName)) ∈ lw_all := lw_g (lw_at lw_m11 93 rfl) rfl
theorem q2605 : (Jvm.Cond.code ({ cls := "PaperMillModel", name := "isWhole", desc := "()Z" } : Jvm.MethodName) prog_26_method_140_code (2 : Nat) (Option.some Jvm.ClassFile.FieldType.boolean)) ∈ lw_all := lw_g (lw_at lw_m11 94 rfl) rfl
theorem q2606 : (Jvm.Cond.methodLink "PaperMillModel" (305 : Nat) ({ cls := "PaperMillModel", name := "isPart", desc := "()Z" } : Jvm.MethodName)) ∈ lw_all := lw_g (lw_at lw_m11 95 rfl) rfl
theorem q2607 : (Jvm.Cond.privateMethod ({ cls := "PaperMillModel", name := "isPart", desc := "()Z" } : Jvm.MethodName)) ∈ lw_tbl := lw_at lw_m11 96 rfl
theorem q2608 : (Jvm.Cond.instanceMethod ({ cls := "PaperMillModel", name := "isPart", desc := "()Z" } : Jvm.MethodName)) ∈ lw_all := lw_g (lw_at lw_m11 97 rfl) rfl
theorem q2609 : (Jvm.Cond.code ({ cls := "PaperMillModel", name := "isPart", desc := "()Z" } : Jvm.MethodName) prog_26_method_139_code (2 : Nat) (Option.some Jvm.ClassFile.FieldType.boolean)) ∈ lw_all := lw_g (lw_at lw_m11 98 rfl) rfl
theorem q2610 : (Jvm.Cond.methodLink "PaperMillModel" (270 : Nat) ({ cls := "PaperMillModel", name := "isTold", desc := "(II)V" } : Jvm.MethodName)) ∈ lw_all := lw_g (lw_at lw_m11 99 rfl) rfl
theorem q2611 : (Jvm.Cond.privateMethod ({ cls := "PaperMillModel", name := "isTold", desc := "(II)V" } : Jvm.MethodName)) ∈ lw_tbl := lw_at lw_m11 100 rfl
theorem q2612 : (Jvm.Cond.instanceMethod ({ cls := "PaperMillModel", name := "isTold", desc := "(II)V" } : Jvm.MethodName)) ∈ lw_all := lw_g (lw_at lw_m11 101 rfl) rfl
theorem q2613 : (Jvm.Cond.code ({ cls := "PaperMillModel", name := "isTold", desc := "(II)V" } : Jvm.MethodName) prog_26_method_129_code (3 : Nat) (Option.none : Option Jvm.ClassFile.FieldType)) ∈ lw_all := lw_g (lw_at lw_m11 102 rfl) rfl
theorem q2614 : (Jvm.Cond.methodLink "PaperMillModel" (292 : Nat) ({ cls := "PaperMillModel", name := "isMix", desc := "()Z" } : Jvm.MethodName)) ∈ lw_all := lw_g (lw_at lw_m11 103 rfl) rfl
theorem q2615 : (Jvm.Cond.privateMethod ({ cls := "PaperMillModel", name := "isMix", desc := "()Z" } : Jvm.MethodName)) ∈ lw_tbl := lw_at lw_m11 104 rfl
theorem q2616 : (Jvm.Cond.instanceMethod ({ cls := "PaperMillModel", name := "isMix", desc := "()Z" } : Jvm.MethodName)) ∈ lw_all := lw_g (lw_at lw_m11 105 rfl) rfl
theorem q2617 : (Jvm.Cond.code ({ cls := "PaperMillModel", name := "isMix", desc := "()Z" } : Jvm.MethodName) prog_26_method_138_code (7 : Nat) (Option.some Jvm.ClassFile.FieldType.boolean)) ∈ lw_all := lw_g (lw_at lw_m11 106 rfl) rfl
theorem q2618 : (Jvm.Cond.methodLink "PaperMillModel" (280 : Nat) ({ cls := "PaperMillModel", name := "clearsMix", desc := "(I)V" } : Jvm.MethodName)) ∈ lw_all := lw_g (lw_at lw_m11 107 rfl) rfl
theorem q2619 : (Jvm.Cond.privateMethod ({ cls := "PaperMillModel", name := "clearsMix", desc := "(I)V" } : Jvm.MethodName)) ∈ lw_tbl := lw_at lw_m11 108 rfl
theorem q2620 : (Jvm.Cond.instanceMethod ({ cls := "PaperMillModel", name := "clearsMix", desc := "(I)V" } : Jvm.MethodName)) ∈ lw_all := lw_g (lw_at lw_m11 109 rfl) rfl
theorem q2621 : (Jvm.Cond.code ({ cls := "PaperMillModel", name := "clearsMix", desc := "(I)V" } : Jvm.MethodName) prog_26_method_135_code (3 : Nat) (Option.none : Option Jvm.ClassFile.FieldType)) ∈ lw_all := lw_g (lw_at lw_m11 110 rfl) rfl
theorem q2622 : (Jvm.Cond.methodLink "PaperMillModel" (283 : Nat) ({ cls := "PaperMillModel", name := "takes", desc := "(I)Z" } : Jvm.MethodName)) ∈ lw_all := lw_g (lw_at lw_m11 111 rfl) rfl
theorem q2623 : (Jvm.Cond.privateMethod ({ cls := "PaperMillModel", name := "takes", desc := "(I)Z" } : Jvm.MethodName)) ∈ lw_tbl := lw_at lw_m11 112 rfl
theorem q2624 : (Jvm.Cond.instanceMethod ({ cls := "PaperMillModel", name := "takes", desc := "(I)Z" } : Jvm.MethodName)) ∈ lw_all := lw_g (lw_at lw_m11 113 rfl) rfl
theorem q2625 : (Jvm.Cond.code ({ cls := "PaperMillModel", name := "takes", desc := "(I)Z" } : Jvm.MethodName) prog_26_method_128_code (3 : Nat) (Option.some Jvm.ClassFile.FieldType.boolean)) ∈ lw_all := lw_g (lw_at lw_m11 114 rfl) rfl
theorem q2626 : (Jvm.Cond.methodLink "PaperMillModel" (264 : Nat) ({ cls := "PaperMillModel", name := "sign", desc := "()I" } : Jvm.MethodName)) ∈ lw_all := lw_g (lw_at lw_m11 115 rfl) rfl
theorem q2627 : (Jvm.Cond.privateMethod ({ cls := "PaperMillModel", name := "sign", desc := "()I" } : Jvm.MethodName)) ∈ lw_tbl := lw_at lw_m11 116 rfl
theorem q2628 : (Jvm.Cond.instanceMethod ({ cls := "PaperMillModel", name := "sign", desc := "()I" } : Jvm.MethodName)) ∈ lw_all := lw_g (lw_at lw_m11 117 rfl) rfl
theorem q2629 : (Jvm.Cond.code ({ cls := "PaperMillModel", name := "sign", desc := "()I" } : Jvm.MethodName) prog_26_method_127_code (1 : Nat) (Option.some Jvm.ClassFile.FieldType.int)) ∈ lw_all := lw_g (lw_at lw_m11 118 rfl) rfl
theorem q2630 : (Jvm.Cond.methodLink "PaperMillModel" (286 : Nat) ({ cls := "PaperMillModel", name := "isTerm", desc := "(I)Z" } : Jvm.MethodName)) ∈ lw_all := lw_g (lw_at lw_m11 119 rfl) rfl
theorem q2631 : (Jvm.Cond.privateMethod ({ cls := "PaperMillModel", name := "isTerm", desc := "(I)Z" } : Jvm.MethodName)) ∈ lw_tbl := lw_at lw_m11 120 rfl
theorem q2632 : (Jvm.Cond.instanceMethod ({ cls := "PaperMillModel", name := "isTerm", desc := "(I)Z" } : Jvm.MethodName)) ∈ lw_all := lw_g (lw_at lw_m11 121 rfl) rfl
theorem q2633 : (Jvm.Cond.code ({ cls := "PaperMillModel", name := "isTerm", desc := "(I)Z" } : Jvm.MethodName) prog_26_method_137_code (4 : Nat) (Option.some Jvm.ClassFile.FieldType.boolean)) ∈ lw_all := lw_g (lw_at lw_m11 122 rfl) rfl
theorem q2634 : (Jvm.Cond.methodLink "PaperMillModel" (274 : Nat) ({ cls := "PaperMillModel", name := "sortBy", desc := "(I)I" } : Jvm.MethodName)) ∈ lw_all := lw_g (lw_at lw_m11 123 rfl) rfl
theorem q2635 : (Jvm.Cond.static ({ cls := "PaperMillModel", name := "sortBy", desc := "(I)I" } : Jvm.MethodName)) ∈ lw_all := lw_g (lw_at lw_m11 124 rfl) rfl
theorem q2636 : (Jvm.Cond.code ({ cls := "PaperMillModel", name := "sortBy", desc := "(I)I" } : Jvm.MethodName) prog_26_method_132_code (1 : Nat) (Option.some Jvm.ClassFile.FieldType.int)) ∈ lw_all := lw_g (lw_at lw_m11 125 rfl) rfl
theorem q2637 : (Jvm.Cond.methodLink "PaperMillModel" (277 : Nat) ({ cls := "PaperMillModel", name := "times", desc := "()I" } : Jvm.MethodName)) ∈ lw_all := lw_g (lw_at lw_m11 126 rfl) rfl
theorem q2638 : (Jvm.Cond.privateMethod ({ cls := "PaperMillModel", name := "times", desc := "()I" } : Jvm.MethodName)) ∈ lw_tbl := lw_at lw_m11 127 rfl
theorem q2639 : (Jvm.Cond.instanceMethod ({ cls := "PaperMillModel", name := "times", desc := "()I" } : Jvm.MethodName)) ∈ lw_all := lw_g (lw_at lw_m11 128 rfl) rfl
theorem q2640 : (Jvm.Cond.code ({ cls := "PaperMillModel", name := "times", desc := "()I" } : Jvm.MethodName) prog_26_method_134_code (2 : Nat) (Option.some Jvm.ClassFile.FieldType.int)) ∈ lw_all := lw_g (lw_at lw_m11 129 rfl) rfl
theorem q2641 : (Jvm.Cond.methodLink "PaperMillModel" (289 : Nat) ({ cls := "PaperMillModel", name := "closes", desc := "(I)Z" } : Jvm.MethodName)) ∈ lw_all := lw_g (lw_at lw_m11 130 rfl) rfl
theorem q2642 : (Jvm.Cond.privateMethod ({ cls := "PaperMillModel", name := "closes", desc := "(I)Z" } : Jvm.MethodName)) ∈ lw_tbl := lw_at lw_m11 131 rfl
theorem q2643 : (Jvm.Cond.instanceMethod ({ cls := "PaperMillModel", name := "closes", desc := "(I)Z" } : Jvm.MethodName)) ∈ lw_all := lw_g (lw_at lw_m11 132 rfl) rfl
theorem q2644 : (Jvm.Cond.code ({ cls := "PaperMillModel", name := "closes", desc := "(I)Z" } : Jvm.MethodName) prog_26_method_136_code (4 : Nat) (Option.some Jvm.ClassFile.FieldType.boolean)) ∈ lw_all := lw_g (lw_at lw_m11 133 rfl) rfl
theorem q2645 : (Jvm.Cond.methodLink "PaperMillModel" (296 : Nat) ({ cls := "PaperMillModel", name := "isFigure", desc := "(II)Z" } : Jvm.MethodName)) ∈ lw_all := lw_g (lw_at lw_m11 134 rfl) rfl
theorem q2646 : (Jvm.Cond.privateMethod ({ cls := "PaperMillModel", name := "isFigure", desc := "(II)Z" } : Jvm.MethodName)) ∈ lw_tbl := lw_at lw_m11 135 rfl
theorem q2647 : (Jvm.Cond.instanceMethod ({ cls := "PaperMillModel", name := "isFigure", desc := "(II)Z" } : Jvm.MethodName)) ∈ lw_all := lw_g (lw_at lw_m11 136 rfl) rfl
theorem q2648 : (Jvm.Cond.code ({ cls := "PaperMillModel", name := "isFigure", desc := "(II)Z" } : Jvm.MethodName) prog_26_method_131_code (5 : Nat) (Option.some Jvm.ClassFile.FieldType.boolean)) ∈ lw_all := lw_g (lw_at lw_m11 137 rfl) rfl
theorem q2649 : (Jvm.Cond.methodLink "PaperMillModel" (299 : Nat) ({ cls := "PaperMillModel", name := "isSorted", desc := "(I)Z" } : Jvm.MethodName)) ∈ lw_all := lw_g (lw_at lw_m11 138 rfl) rfl
theorem q2650 : (Jvm.Cond.privateMethod ({ cls := "PaperMillModel", name := "isSorted", desc := "(I)Z" } : Jvm.MethodName)) ∈ lw_tbl := lw_at lw_m11 139 rfl
theorem q2651 : (Jvm.Cond.instanceMethod ({ cls := "PaperMillModel", name := "isSorted", desc := "(I)Z" } : Jvm.MethodName)) ∈ lw_all := lw_g (lw_at lw_m11 140 rfl) rfl
theorem q2652 : (Jvm.Cond.code ({ cls := "PaperMillModel", name := "isSorted", desc := "(I)Z" } : Jvm.MethodName) prog_26_method_133_code (3 : Nat) (Option.some Jvm.ClassFile.FieldType.boolean)) ∈ lw_all := lw_g (lw_at lw_m11 141 rfl) rfl
theorem q2653 : (Jvm.Cond.methodLink "PaperMillModel" (302 : Nat) ({ cls := "PaperMillModel", name := "isNumber", desc := "(III)Z" } : Jvm.MethodName)) ∈ lw_all := lw_g (lw_at lw_m11 142 rfl) rfl
theorem q2654 : (Jvm.Cond.privateMethod ({ cls := "PaperMillModel", name := "isNumber", desc := "(III)Z" } : Jvm.MethodName)) ∈ lw_tbl := lw_at lw_m11 143 rfl
theorem q2655 : (Jvm.Cond.instanceMethod ({ cls := "PaperMillModel", name := "isNumber", desc := "(III)Z" } : Jvm.MethodName)) ∈ lw_all := lw_g (lw_at lw_m11 144 rfl) rfl
theorem q2656 : (Jvm.Cond.code ({ cls := "PaperMillModel", name := "isNumber", desc := "(III)Z" } : Jvm.MethodName) prog_26_method_130_code (6 : Nat) (Option.some Jvm.ClassFile.FieldType.boolean)) ∈ lw_all := lw_g (lw_at lw_m11 145 rfl) rfl
theorem q2658 : (Jvm.Cond.instanceMethod ({ cls := "PaperMillModel", name := "runText", desc := "()I" } : Jvm.MethodName)) ∈ lw_all := lw_g (lw_at lw_m11 147 rfl) rfl
theorem q2659 : (Jvm.Cond.selects "PaperMillModel" ({ cls := "PaperMillModel", name := "runText", desc := "()I" } : Jvm.MethodName) ({ cls := "PaperMillModel", name := "runText", desc := "()I" } : Jvm.MethodName)) ∈ lw_all := lw_g (lw_at lw_m11 148 rfl) rfl
theorem q2660 : (Jvm.Cond.code ({ cls := "PaperMillModel", name := "runText", desc := "()I" } : Jvm.MethodName) prog_26_method_143_code (2 : Nat) (Option.some Jvm.ClassFile.FieldType.int)) ∈ lw_all := lw_g (lw_at lw_m11 149 rfl) rfl
theorem q2661 : (Jvm.Cond.methodLink "PaperMillModel" (311 : Nat) ({ cls := "PaperMillModel", name := "isDone", desc := "(I)Z" } : Jvm.MethodName)) ∈ lw_all := lw_g (lw_at lw_m11 150 rfl) rfl
theorem q2662 : (Jvm.Cond.privateMethod ({ cls := "PaperMillModel", name := "isDone", desc := "(I)Z" } : Jvm.MethodName)) ∈ lw_tbl := lw_at lw_m11 151 rfl
theorem q2663 : (Jvm.Cond.instanceMethod ({ cls := "PaperMillModel", name := "isDone", desc := "(I)Z" } : Jvm.MethodName)) ∈ lw_all := lw_g (lw_at lw_m11 152 rfl) rfl
theorem q2664 : (Jvm.Cond.code ({ cls := "PaperMillModel", name := "isDone", desc := "(I)Z" } : Jvm.MethodName) prog_26_method_142_code (7 : Nat) (Option.some Jvm.ClassFile.FieldType.boolean)) ∈ lw_all := lw_g (lw_at lw_m11 153 rfl) rfl
theorem q2666 : (Jvm.Cond.instanceMethod ({ cls := "PaperMillModel", name := "undo", desc := "()I" } : Jvm.MethodName)) ∈ lw_all := lw_g (lw_at lw_m11 155 rfl) rfl
theorem q2667 : (Jvm.Cond.selects "PaperMillModel" ({ cls := "PaperMillModel", name := "undo", desc := "()I" } : Jvm.MethodName) ({ cls := "PaperMillModel", name := "undo", desc := "()I" } : Jvm.MethodName)) ∈ lw_all := lw_g (lw_at lw_m11 156 rfl) rfl
theorem q2668 : (Jvm.Cond.code ({ cls := "PaperMillModel", name := "undo", desc := "()I" } : Jvm.MethodName) prog_26_method_144_code (1 : Nat) (Option.some Jvm.ClassFile.FieldType.int)) ∈ lw_all := lw_g (lw_at lw_m11 157 rfl) rfl
theorem q2670 : (Jvm.Cond.instanceMethod ({ cls := "PaperMillModel", name := "takeSnapshot", desc := "()I" } : Jvm.MethodName)) ∈ lw_all := lw_g (lw_at lw_m11 159 rfl) rfl
theorem q2671 : (Jvm.Cond.selects "PaperMillModel" ({ cls := "PaperMillModel", name := "takeSnapshot", desc := "()I" } : Jvm.MethodName) ({ cls := "PaperMillModel", name := "takeSnapshot", desc := "()I" } : Jvm.MethodName)) ∈ lw_all := lw_g (lw_at lw_m11 160 rfl) rfl
theorem q2672 : (Jvm.Cond.code ({ cls := "PaperMillModel", name := "takeSnapshot", desc := "()I" } : Jvm.MethodName) prog_26_method_145_code (1 : Nat) (Option.some Jvm.ClassFile.FieldType.int)) ∈ lw_all := lw_g (lw_at lw_m11 161 rfl) rfl
theorem q2674 : (Jvm.Cond.instanceMethod ({ cls := "PaperMillModel", name := "restoreSnapshot", desc := "()I" } : Jvm.MethodName)) ∈ lw_all := lw_g (lw_at lw_m11 163 rfl) rfl
theorem q2675 : (Jvm.Cond.selects "PaperMillModel" ({ cls := "PaperMillModel", name := "restoreSnapshot", desc := "()I" } : Jvm.MethodName) ({ cls := "PaperMillModel", name := "restoreSnapshot", desc := "()I" } : Jvm.MethodName)) ∈ lw_all := lw_g (lw_at lw_m11 164 rfl) rfl
theorem q2676 : (Jvm.Cond.code ({ cls := "PaperMillModel", name := "restoreSnapshot", desc := "()I" } : Jvm.MethodName) prog_26_method_146_code (1 : Nat) (Option.some Jvm.ClassFile.FieldType.int)) ∈ lw_all := lw_g (lw_at lw_m11 165 rfl) rfl
theorem q2709 : (Jvm.Cond.castable "PaperMillModel" "java/lang/Object") ∈ lw_tbl := lw_at lw_m11 198 rfl
theorem in_X8 : ∀ w ∈ wsX80, w ∈ lw_all := lw_in wsX80 [2079, 2081, 2083, 2085, 2087, 2089, 2091, 2093, 2095, 2097, 2099, 2101, 2103, 2105, 2107, 2109] (by decide +kernel) (by decide +kernel)
