set_option maxRecDepth 100000
/-! NativeSubsetModel -/
def RX20 : String := "NativeSubsetModel"
def TX20 : u_T := fun k => match k with
  | 0 => ("NativeSubsetModel", "thrown", "I", false)
  | 1 => ("NativeSubsetModel", "rows", "I", false)
  | 2 => ("NativeSubsetModel", "kind", "[I", true)
  | 3 => ("NativeSubsetModel", "length", "[I", true)
  | 4 => ("NativeSubsetModel", "element", "[J", true)
  | 5 => ("NativeSubsetModel", "units", "I", false)
  | 6 => ("NativeSubsetModel", "unitClass", "[I", true)
  | 7 => ("NativeSubsetModel", "unitN", "[I", true)
  | 8 => ("NativeSubsetModel", "inners", "I", false)
  | 9 => ("NativeSubsetModel", "innerLength", "[I", true)
  | 10 => ("NativeSubsetModel", "ints", "[I", true)
  | 11 => ("NativeSubsetModel", "acts", "I", false)
  | 12 => ("NativeSubsetModel", "undone", "I", false)
  | 13 => ("NativeSubsetModel", "paid", "I", false)
  | 14 => ("NativeSubsetModel", "most", "I", false)
  | 15 => ("NativeSubsetModel", "faults", "I", false)
  | 16 => ("NativeSubsetModel", "size", "[I", true)
  | 17 => ("NativeSubsetModel", "act", "[I", true)
  | 18 => ("NativeSubsetModel", "answer", "J", false)
  | 19 => ("NativeSubsetModel", "held", "[J", true)
  | 20 => ("NativeSubsetModel", "calls", "I", false)
  | 21 => ("NativeSubsetModel", "callPlan", "[I", true)
  | 22 => ("NativeSubsetModel", "callAt", "[I", true)
  | 23 => ("NativeSubsetModel", "callGiven", "[I", true)
  | 24 => ("NativeSubsetModel", "callLeft", "[I", true)
  | 25 => ("NativeSubsetModel", "keptRows", "[I", true)
  | 26 => ("NativeSubsetModel", "kept", "[J", true)
  | 27 => ("NativeSubsetModel", "ranWith", "I", false)
  | 28 => ("NativeSubsetModel", "ranPaid", "I", false)
  | 29 => ("NativeSubsetModel", "ranActs", "I", false)
  | 30 => ("NativeSubsetModel", "ranEnds", "I", false)
  | 31 => ("NativeSubsetModel", "ranCaught", "I", false)
  | _ => ("NativeSubsetModel", "answers", "[J", true)
def tyX20 : Nat → FieldType := fun k => match k with
  | 0 => .int
  | 1 => .int
  | 2 => .array .int
  | 3 => .array .int
  | 4 => .array .long
  | 5 => .int
  | 6 => .array .int
  | 7 => .array .int
  | 8 => .int
  | 9 => .array .int
  | 10 => .array .int
  | 11 => .int
  | 12 => .int
  | 13 => .int
  | 14 => .int
  | 15 => .int
  | 16 => .array .int
  | 17 => .array .int
  | 18 => .long
  | 19 => .array .long
  | 20 => .int
  | 21 => .array .int
  | 22 => .array .int
  | 23 => .array .int
  | 24 => .array .int
  | 25 => .array .int
  | 26 => .array .long
  | 27 => .int
  | 28 => .int
  | 29 => .int
  | 30 => .int
  | 31 => .int
  | _ => .array .long
abbrev wsX200 : List Cond := u_ws RX20 TX20 33
set_option maxRecDepth 100000 in
theorem nmX20 : ∀ a, a < 33 → ∀ b, b < 33 → a ≠ b → (TX20 a).2.1 ≠ (TX20 b).2.1 := by decide +kernel
set_option maxRecDepth 100000 in
theorem tyX20_ok : ∀ k, k < 33 → parseFieldDescriptor (TX20 k).2.2.1 = some (tyX20 k) := by decide +kernel
abbrev cX20_init : ByteArray := prog_29_method_1_code
def yX20_init : MethodName := ⟨RX20, "<init>", "()V"⟩
def dkwX20_init_7 : List UInt8 := [16, 12, 188, 11, 181, 0, 76, 177]
abbrev dktX20_init_7 : List UInt8 := dkwX20_init_7 ++ []
def dkwX20_init_6 : List UInt8 := [181, 0, 60, 42, 2, 181, 0, 64, 42, 2, 181, 0, 67, 42, 2, 181, 0, 70, 42, 2, 181, 0, 73, 42]
abbrev dktX20_init_6 : List UInt8 := dkwX20_init_6 ++ dktX20_init_7
def dkwX20_init_5 : List UInt8 := [181, 0, 51, 42, 16, 7, 188, 10, 181, 0, 54, 42, 17, 65, 160, 188, 11, 181, 0, 57, 42, 2]
abbrev dktX20_init_5 : List UInt8 := dkwX20_init_5 ++ dktX20_init_6
def dkwX20_init_4 : List UInt8 := [181, 0, 42, 42, 16, 7, 188, 10, 181, 0, 45, 42, 16, 7, 188, 10, 181, 0, 48, 42, 16, 7, 188, 10]
abbrev dktX20_init_4 : List UInt8 := dkwX20_init_4 ++ dktX20_init_5
def dkwX20_init_3 : List UInt8 := [42, 17, 1, 176, 188, 10, 181, 0, 36, 42, 16, 40, 188, 11, 181, 0, 39, 42, 16, 7, 188, 10]
abbrev dktX20_init_3 : List UInt8 := dkwX20_init_3 ++ dktX20_init_4
def dkwX20_init_2 : List UInt8 := [17, 31, 64, 188, 10, 181, 0, 26, 42, 18, 29, 188, 10, 181, 0, 30, 42, 16, 6, 188, 10, 181, 0, 33]
abbrev dktX20_init_2 : List UInt8 := dkwX20_init_2 ++ dktX20_init_3
def dkwX20_init_1 : List UInt8 := [188, 11, 181, 0, 16, 42, 16, 30, 188, 10, 181, 0, 20, 42, 16, 30, 188, 10, 181, 0, 23, 42]
abbrev dktX20_init_1 : List UInt8 := dkwX20_init_1 ++ dktX20_init_2
def dkwX20_init_0 : List UInt8 := [42, 183, 0, 1, 42, 16, 60, 188, 10, 181, 0, 7, 42, 16, 60, 188, 10, 181, 0, 13, 42, 17, 9, 96]
abbrev dktX20_init_0 : List UInt8 := dkwX20_init_0 ++ dktX20_init_1
theorem dksX20_init_0 : cX20_init.data.toList.drop 0 = dktX20_init_0 := by decide +kernel
theorem dksX20_init_1 : cX20_init.data.toList.drop 24 = dktX20_init_1 := dk_seg dksX20_init_0 24 rfl rfl
theorem dksX20_init_2 : cX20_init.data.toList.drop 46 = dktX20_init_2 := dk_seg dksX20_init_1 22 rfl rfl
theorem dksX20_init_3 : cX20_init.data.toList.drop 70 = dktX20_init_3 := dk_seg dksX20_init_2 24 rfl rfl
theorem dksX20_init_4 : cX20_init.data.toList.drop 92 = dktX20_init_4 := dk_seg dksX20_init_3 22 rfl rfl
theorem dksX20_init_5 : cX20_init.data.toList.drop 116 = dktX20_init_5 := dk_seg dksX20_init_4 24 rfl rfl
theorem dksX20_init_6 : cX20_init.data.toList.drop 138 = dktX20_init_6 := dk_seg dksX20_init_5 22 rfl rfl
theorem dksX20_init_7 : cX20_init.data.toList.drop 162 = dktX20_init_7 := dk_seg dksX20_init_6 24 rfl rfl
theorem dX20_init_0 : decode cX20_init 0 = .ok (.aload_n 0, 1) := dk_42 (dk_at dksX20_init_0 0 rfl rfl)
theorem dX20_init_1 : decode cX20_init 1 = .ok (.invokespecial 1, 3) := dk_183 0 1 (dk_at dksX20_init_0 1 rfl rfl)
theorem dX20_init_4 : decode cX20_init 4 = .ok (.aload_n 0, 1) := dk_42 (dk_at dksX20_init_0 4 rfl rfl)
theorem dX20_init_5 : decode cX20_init 5 = .ok (.bipush 60, 2) := dk_16 60 (dk_at dksX20_init_0 5 rfl rfl)
theorem dX20_init_7 : decode cX20_init 7 = .ok (.newarray .int, 2) := dk_188_10 (dk_at dksX20_init_0 7 rfl rfl)
theorem dX20_init_9 : decode cX20_init 9 = .ok (.putfield 7, 3) := dk_181 0 7 (dk_at dksX20_init_0 9 rfl rfl)
theorem dX20_init_12 : decode cX20_init 12 = .ok (.aload_n 0, 1) := dk_42 (dk_at dksX20_init_0 12 rfl rfl)
theorem dX20_init_13 : decode cX20_init 13 = .ok (.bipush 60, 2) := dk_16 60 (dk_at dksX20_init_0 13 rfl rfl)
theorem dX20_init_15 : decode cX20_init 15 = .ok (.newarray .int, 2) := dk_188_10 (dk_at dksX20_init_0 15 rfl rfl)
theorem dX20_init_17 : decode cX20_init 17 = .ok (.putfield 13, 3) := dk_181 0 13 (dk_at dksX20_init_0 17 rfl rfl)
theorem dX20_init_20 : decode cX20_init 20 = .ok (.aload_n 0, 1) := dk_42 (dk_at dksX20_init_0 20 rfl rfl)
theorem dX20_init_21 : decode cX20_init 21 = .ok (.sipush 2400, 3) := dk_17 9 96 (dk_at dksX20_init_0 21 rfl rfl)
theorem dX20_init_24 : decode cX20_init 24 = .ok (.newarray .long, 2) := dk_188_11 (dk_at dksX20_init_1 0 rfl rfl)
theorem dX20_init_26 : decode cX20_init 26 = .ok (.putfield 16, 3) := dk_181 0 16 (dk_at dksX20_init_1 2 rfl rfl)
theorem dX20_init_29 : decode cX20_init 29 = .ok (.aload_n 0, 1) := dk_42 (dk_at dksX20_init_1 5 rfl rfl)
theorem dX20_init_30 : decode cX20_init 30 = .ok (.bipush 30, 2) := dk_16 30 (dk_at dksX20_init_1 6 rfl rfl)
theorem dX20_init_32 : decode cX20_init 32 = .ok (.newarray .int, 2) := dk_188_10 (dk_at dksX20_init_1 8 rfl rfl)
theorem dX20_init_34 : decode cX20_init 34 = .ok (.putfield 20, 3) := dk_181 0 20 (dk_at dksX20_init_1 10 rfl rfl)
theorem dX20_init_37 : decode cX20_init 37 = .ok (.aload_n 0, 1) := dk_42 (dk_at dksX20_init_1 13 rfl rfl)
theorem dX20_init_38 : decode cX20_init 38 = .ok (.bipush 30, 2) := dk_16 30 (dk_at dksX20_init_1 14 rfl rfl)
theorem dX20_init_40 : decode cX20_init 40 = .ok (.newarray .int, 2) := dk_188_10 (dk_at dksX20_init_1 16 rfl rfl)
theorem dX20_init_42 : decode cX20_init 42 = .ok (.putfield 23, 3) := dk_181 0 23 (dk_at dksX20_init_1 18 rfl rfl)
theorem dX20_init_45 : decode cX20_init 45 = .ok (.aload_n 0, 1) := dk_42 (dk_at dksX20_init_1 21 rfl rfl)
theorem dX20_init_46 : decode cX20_init 46 = .ok (.sipush 8000, 3) := dk_17 31 64 (dk_at dksX20_init_2 0 rfl rfl)
theorem dX20_init_49 : decode cX20_init 49 = .ok (.newarray .int, 2) := dk_188_10 (dk_at dksX20_init_2 3 rfl rfl)
theorem dX20_init_51 : decode cX20_init 51 = .ok (.putfield 26, 3) := dk_181 0 26 (dk_at dksX20_init_2 5 rfl rfl)
theorem dX20_init_54 : decode cX20_init 54 = .ok (.aload_n 0, 1) := dk_42 (dk_at dksX20_init_2 8 rfl rfl)
theorem dX20_init_55 : decode cX20_init 55 = .ok (.ldc 29, 2) := dk_18 29 (dk_at dksX20_init_2 9 rfl rfl)
theorem dX20_init_57 : decode cX20_init 57 = .ok (.newarray .int, 2) := dk_188_10 (dk_at dksX20_init_2 11 rfl rfl)
theorem dX20_init_59 : decode cX20_init 59 = .ok (.putfield 30, 3) := dk_181 0 30 (dk_at dksX20_init_2 13 rfl rfl)
theorem dX20_init_62 : decode cX20_init 62 = .ok (.aload_n 0, 1) := dk_42 (dk_at dksX20_init_2 16 rfl rfl)
theorem dX20_init_63 : decode cX20_init 63 = .ok (.bipush 6, 2) := dk_16 6 (dk_at dksX20_init_2 17 rfl rfl)
theorem dX20_init_65 : decode cX20_init 65 = .ok (.newarray .int, 2) := dk_188_10 (dk_at dksX20_init_2 19 rfl rfl)
theorem dX20_init_67 : decode cX20_init 67 = .ok (.putfield 33, 3) := dk_181 0 33 (dk_at dksX20_init_2 21 rfl rfl)
theorem dX20_init_70 : decode cX20_init 70 = .ok (.aload_n 0, 1) := dk_42 (dk_at dksX20_init_3 0 rfl rfl)
theorem dX20_init_71 : decode cX20_init 71 = .ok (.sipush 432, 3) := dk_17 1 176 (dk_at dksX20_init_3 1 rfl rfl)
theorem dX20_init_74 : decode cX20_init 74 = .ok (.newarray .int, 2) := dk_188_10 (dk_at dksX20_init_3 4 rfl rfl)
theorem dX20_init_76 : decode cX20_init 76 = .ok (.putfield 36, 3) := dk_181 0 36 (dk_at dksX20_init_3 6 rfl rfl)
theorem dX20_init_79 : decode cX20_init 79 = .ok (.aload_n 0, 1) := dk_42 (dk_at dksX20_init_3 9 rfl rfl)
theorem dX20_init_80 : decode cX20_init 80 = .ok (.bipush 40, 2) := dk_16 40 (dk_at dksX20_init_3 10 rfl rfl)
theorem dX20_init_82 : decode cX20_init 82 = .ok (.newarray .long, 2) := dk_188_11 (dk_at dksX20_init_3 12 rfl rfl)
theorem dX20_init_84 : decode cX20_init 84 = .ok (.putfield 39, 3) := dk_181 0 39 (dk_at dksX20_init_3 14 rfl rfl)
theorem dX20_init_87 : decode cX20_init 87 = .ok (.aload_n 0, 1) := dk_42 (dk_at dksX20_init_3 17 rfl rfl)
theorem dX20_init_88 : decode cX20_init 88 = .ok (.bipush 7, 2) := dk_16 7 (dk_at dksX20_init_3 18 rfl rfl)
theorem dX20_init_90 : decode cX20_init 90 = .ok (.newarray .int, 2) := dk_188_10 (dk_at dksX20_init_3 20 rfl rfl)
theorem dX20_init_92 : decode cX20_init 92 = .ok (.putfield 42, 3) := dk_181 0 42 (dk_at dksX20_init_4 0 rfl rfl)
theorem dX20_init_95 : decode cX20_init 95 = .ok (.aload_n 0, 1) := dk_42 (dk_at dksX20_init_4 3 rfl rfl)
theorem dX20_init_96 : decode cX20_init 96 = .ok (.bipush 7, 2) := dk_16 7 (dk_at dksX20_init_4 4 rfl rfl)
theorem dX20_init_98 : decode cX20_init 98 = .ok (.newarray .int, 2) := dk_188_10 (dk_at dksX20_init_4 6 rfl rfl)
theorem dX20_init_100 : decode cX20_init 100 = .ok (.putfield 45, 3) := dk_181 0 45 (dk_at dksX20_init_4 8 rfl rfl)
theorem dX20_init_103 : decode cX20_init 103 = .ok (.aload_n 0, 1) := dk_42 (dk_at dksX20_init_4 11 rfl rfl)
theorem dX20_init_104 : decode cX20_init 104 = .ok (.bipush 7, 2) := dk_16 7 (dk_at dksX20_init_4 12 rfl rfl)
theorem dX20_init_106 : decode cX20_init 106 = .ok (.newarray .int, 2) := dk_188_10 (dk_at dksX20_init_4 14 rfl rfl)
theorem dX20_init_108 : decode cX20_init 108 = .ok (.putfield 48, 3) := dk_181 0 48 (dk_at dksX20_init_4 16 rfl rfl)
theorem dX20_init_111 : decode cX20_init 111 = .ok (.aload_n 0, 1) := dk_42 (dk_at dksX20_init_4 19 rfl rfl)
theorem dX20_init_112 : decode cX20_init 112 = .ok (.bipush 7, 2) := dk_16 7 (dk_at dksX20_init_4 20 rfl rfl)
theorem dX20_init_114 : decode cX20_init 114 = .ok (.newarray .int, 2) := dk_188_10 (dk_at dksX20_init_4 22 rfl rfl)
theorem dX20_init_116 : decode cX20_init 116 = .ok (.putfield 51, 3) := dk_181 0 51 (dk_at dksX20_init_5 0 rfl rfl)
theorem dX20_init_119 : decode cX20_init 119 = .ok (.aload_n 0, 1) := dk_42 (dk_at dksX20_init_5 3 rfl rfl)
theorem dX20_init_120 : decode cX20_init 120 = .ok (.bipush 7, 2) := dk_16 7 (dk_at dksX20_init_5 4 rfl rfl)
theorem dX20_init_122 : decode cX20_init 122 = .ok (.newarray .int, 2) := dk_188_10 (dk_at dksX20_init_5 6 rfl rfl)
theorem dX20_init_124 : decode cX20_init 124 = .ok (.putfield 54, 3) := dk_181 0 54 (dk_at dksX20_init_5 8 rfl rfl)
theorem dX20_init_127 : decode cX20_init 127 = .ok (.aload_n 0, 1) := dk_42 (dk_at dksX20_init_5 11 rfl rfl)
theorem dX20_init_128 : decode cX20_init 128 = .ok (.sipush 16800, 3) := dk_17 65 160 (dk_at dksX20_init_5 12 rfl rfl)
theorem dX20_init_131 : decode cX20_init 131 = .ok (.newarray .long, 2) := dk_188_11 (dk_at dksX20_init_5 15 rfl rfl)
theorem dX20_init_133 : decode cX20_init 133 = .ok (.putfield 57, 3) := dk_181 0 57 (dk_at dksX20_init_5 17 rfl rfl)
theorem dX20_init_136 : decode cX20_init 136 = .ok (.aload_n 0, 1) := dk_42 (dk_at dksX20_init_5 20 rfl rfl)
theorem dX20_init_137 : decode cX20_init 137 = .ok (.iconst (-1), 1) := dk_2 (dk_at dksX20_init_5 21 rfl rfl)
theorem dX20_init_138 : decode cX20_init 138 = .ok (.putfield 60, 3) := dk_181 0 60 (dk_at dksX20_init_6 0 rfl rfl)
theorem dX20_init_141 : decode cX20_init 141 = .ok (.aload_n 0, 1) := dk_42 (dk_at dksX20_init_6 3 rfl rfl)
theorem dX20_init_142 : decode cX20_init 142 = .ok (.iconst (-1), 1) := dk_2 (dk_at dksX20_init_6 4 rfl rfl)
theorem dX20_init_143 : decode cX20_init 143 = .ok (.putfield 64, 3) := dk_181 0 64 (dk_at dksX20_init_6 5 rfl rfl)
theorem dX20_init_146 : decode cX20_init 146 = .ok (.aload_n 0, 1) := dk_42 (dk_at dksX20_init_6 8 rfl rfl)
theorem dX20_init_147 : decode cX20_init 147 = .ok (.iconst (-1), 1) := dk_2 (dk_at dksX20_init_6 9 rfl rfl)
theorem dX20_init_148 : decode cX20_init 148 = .ok (.putfield 67, 3) := dk_181 0 67 (dk_at dksX20_init_6 10 rfl rfl)
theorem dX20_init_151 : decode cX20_init 151 = .ok (.aload_n 0, 1) := dk_42 (dk_at dksX20_init_6 13 rfl rfl)
theorem dX20_init_152 : decode cX20_init 152 = .ok (.iconst (-1), 1) := dk_2 (dk_at dksX20_init_6 14 rfl rfl)
theorem dX20_init_153 : decode cX20_init 153 = .ok (.putfield 70, 3) := dk_181 0 70 (dk_at dksX20_init_6 15 rfl rfl)
theorem dX20_init_156 : decode cX20_init 156 = .ok (.aload_n 0, 1) := dk_42 (dk_at dksX20_init_6 18 rfl rfl)
theorem dX20_init_157 : decode cX20_init 157 = .ok (.iconst (-1), 1) := dk_2 (dk_at dksX20_init_6 19 rfl rfl)
theorem dX20_init_158 : decode cX20_init 158 = .ok (.putfield 73, 3) := dk_181 0 73 (dk_at dksX20_init_6 20 rfl rfl)
theorem dX20_init_161 : decode cX20_init 161 = .ok (.aload_n 0, 1) := dk_42 (dk_at dksX20_init_6 23 rfl rfl)
theorem dX20_init_162 : decode cX20_init 162 = .ok (.bipush 12, 2) := dk_16 12 (dk_at dksX20_init_7 0 rfl rfl)
theorem dX20_init_164 : decode cX20_init 164 = .ok (.newarray .long, 2) := dk_188_11 (dk_at dksX20_init_7 2 rfl rfl)
theorem dX20_init_166 : decode cX20_init 166 = .ok (.putfield 76, 3) := dk_181 0 76 (dk_at dksX20_init_7 4 rfl rfl)
theorem dX20_init_169 : decode cX20_init 169 = .ok (.return_, 1) := dk_177 (dk_at dksX20_init_7 7 rfl rfl)
abbrev cX20_thrown : ByteArray := prog_29_method_4_code
def yX20_thrown : MethodName := ⟨RX20, "thrown", "()I"⟩
theorem dX20_thrown_0 : decode cX20_thrown 0 = .ok (.aload_n 0, 1) := by decide +kernel
theorem dX20_thrown_1 : decode cX20_thrown 1 = .ok (.getfield 100, 3) := by decide +kernel
theorem dX20_thrown_4 : decode cX20_thrown 4 = .ok (.ireturn, 1) := by decide +kernel
abbrev cX20_row : ByteArray := prog_29_method_10_code
def yX20_row : MethodName := ⟨RX20, "row", "(II)I"⟩
def dkwX20_row_1 : List UInt8 := [16, 154, 172, 42, 180, 0, 103, 16, 60, 160, 0, 6, 16, 152, 172, 42, 27, 28, 182, 0, 129, 172]
abbrev dktX20_row_1 : List UInt8 := dkwX20_row_1 ++ []
def dkwX20_row_0 : List UInt8 := [27, 133, 9, 20, 0, 121, 184, 0, 123, 153, 0, 15, 28, 133, 9, 20, 0, 127, 184, 0, 123, 154, 0, 6]
abbrev dktX20_row_0 : List UInt8 := dkwX20_row_0 ++ dktX20_row_1
theorem dksX20_row_0 : cX20_row.data.toList.drop 0 = dktX20_row_0 := by decide +kernel
theorem dksX20_row_1 : cX20_row.data.toList.drop 24 = dktX20_row_1 := dk_seg dksX20_row_0 24 rfl rfl
theorem dX20_row_0 : decode cX20_row 0 = .ok (.iload_n 1, 1) := dk_27 (dk_at dksX20_row_0 0 rfl rfl)
theorem dX20_row_1 : decode cX20_row 1 = .ok (.i2l, 1) := dk_133 (dk_at dksX20_row_0 1 rfl rfl)
theorem dX20_row_2 : decode cX20_row 2 = .ok (.lconst 0, 1) := dk_9 (dk_at dksX20_row_0 2 rfl rfl)
theorem dX20_row_3 : decode cX20_row 3 = .ok (.ldc2_w 121, 3) := dk_20 0 121 (dk_at dksX20_row_0 3 rfl rfl)
theorem dX20_row_6 : decode cX20_row 6 = .ok (.invokestatic 123, 3) := dk_184 0 123 (dk_at dksX20_row_0 6 rfl rfl)
theorem dX20_row_9 : decode cX20_row 9 = .ok (.ifCond .eq 15, 3) := dk_153 0 15 (dk_at dksX20_row_0 9 rfl rfl)
theorem dX20_row_12 : decode cX20_row 12 = .ok (.iload_n 2, 1) := dk_28 (dk_at dksX20_row_0 12 rfl rfl)
theorem dX20_row_13 : decode cX20_row 13 = .ok (.i2l, 1) := dk_133 (dk_at dksX20_row_0 13 rfl rfl)
theorem dX20_row_14 : decode cX20_row 14 = .ok (.lconst 0, 1) := dk_9 (dk_at dksX20_row_0 14 rfl rfl)
theorem dX20_row_15 : decode cX20_row 15 = .ok (.ldc2_w 127, 3) := dk_20 0 127 (dk_at dksX20_row_0 15 rfl rfl)
theorem dX20_row_18 : decode cX20_row 18 = .ok (.invokestatic 123, 3) := dk_184 0 123 (dk_at dksX20_row_0 18 rfl rfl)
theorem dX20_row_21 : decode cX20_row 21 = .ok (.ifCond .ne 6, 3) := dk_154 0 6 (dk_at dksX20_row_0 21 rfl rfl)
theorem dX20_row_24 : decode cX20_row 24 = .ok (.bipush (-102), 2) := dk_16 154 (dk_at dksX20_row_1 0 rfl rfl)
theorem dX20_row_26 : decode cX20_row 26 = .ok (.ireturn, 1) := dk_172 (dk_at dksX20_row_1 2 rfl rfl)
theorem dX20_row_27 : decode cX20_row 27 = .ok (.aload_n 0, 1) := dk_42 (dk_at dksX20_row_1 3 rfl rfl)
theorem dX20_row_28 : decode cX20_row 28 = .ok (.getfield 103, 3) := dk_180 0 103 (dk_at dksX20_row_1 4 rfl rfl)
theorem dX20_row_31 : decode cX20_row 31 = .ok (.bipush 60, 2) := dk_16 60 (dk_at dksX20_row_1 7 rfl rfl)
theorem dX20_row_33 : decode cX20_row 33 = .ok (.if_icmp .ne 6, 3) := dk_160 0 6 (dk_at dksX20_row_1 9 rfl rfl)
theorem dX20_row_36 : decode cX20_row 36 = .ok (.bipush (-104), 2) := dk_16 152 (dk_at dksX20_row_1 12 rfl rfl)
theorem dX20_row_38 : decode cX20_row 38 = .ok (.ireturn, 1) := dk_172 (dk_at dksX20_row_1 14 rfl rfl)
theorem dX20_row_39 : decode cX20_row 39 = .ok (.aload_n 0, 1) := dk_42 (dk_at dksX20_row_1 15 rfl rfl)
theorem dX20_row_40 : decode cX20_row 40 = .ok (.iload_n 1, 1) := dk_27 (dk_at dksX20_row_1 16 rfl rfl)
theorem dX20_row_41 : decode cX20_row 41 = .ok (.iload_n 2, 1) := dk_28 (dk_at dksX20_row_1 17 rfl rfl)
theorem dX20_row_42 : decode cX20_row 42 = .ok (.invokevirtual 129, 3) := dk_182 0 129 (dk_at dksX20_row_1 18 rfl rfl)
theorem dX20_row_45 : decode cX20_row 45 = .ok (.ireturn, 1) := dk_172 (dk_at dksX20_row_1 21 rfl rfl)
abbrev cX20_in : ByteArray := prog_29_method_5_code
def yX20_in : MethodName := ⟨RX20, "in", "(JJJ)Z"⟩
def dkwX20_in_0 : List UInt8 := [30, 32, 148, 155, 0, 14, 30, 22, 4, 148, 157, 0, 7, 4, 167, 0, 4, 3, 172]
abbrev dktX20_in_0 : List UInt8 := dkwX20_in_0 ++ []
theorem dksX20_in_0 : cX20_in.data.toList.drop 0 = dktX20_in_0 := by decide +kernel
theorem dX20_in_0 : decode cX20_in 0 = .ok (.lload_n 0, 1) := dk_30 (dk_at dksX20_in_0 0 rfl rfl)
theorem dX20_in_1 : decode cX20_in 1 = .ok (.lload_n 2, 1) := dk_32 (dk_at dksX20_in_0 1 rfl rfl)
theorem dX20_in_2 : decode cX20_in 2 = .ok (.lcmp, 1) := dk_148 (dk_at dksX20_in_0 2 rfl rfl)
theorem dX20_in_3 : decode cX20_in 3 = .ok (.ifCond .lt 14, 3) := dk_155 0 14 (dk_at dksX20_in_0 3 rfl rfl)
theorem dX20_in_6 : decode cX20_in 6 = .ok (.lload_n 0, 1) := dk_30 (dk_at dksX20_in_0 6 rfl rfl)
theorem dX20_in_7 : decode cX20_in 7 = .ok (.lload 4, 2) := dk_22 4 (dk_at dksX20_in_0 7 rfl rfl)
theorem dX20_in_9 : decode cX20_in 9 = .ok (.lcmp, 1) := dk_148 (dk_at dksX20_in_0 9 rfl rfl)
theorem dX20_in_10 : decode cX20_in 10 = .ok (.ifCond .gt 7, 3) := dk_157 0 7 (dk_at dksX20_in_0 10 rfl rfl)
theorem dX20_in_13 : decode cX20_in 13 = .ok (.iconst 1, 1) := dk_4 (dk_at dksX20_in_0 13 rfl rfl)
theorem dX20_in_14 : decode cX20_in 14 = .ok (.goto 4, 3) := dk_167 0 4 (dk_at dksX20_in_0 14 rfl rfl)
theorem dX20_in_17 : decode cX20_in 17 = .ok (.iconst 0, 1) := dk_3 (dk_at dksX20_in_0 17 rfl rfl)
theorem dX20_in_18 : decode cX20_in 18 = .ok (.ireturn, 1) := dk_172 (dk_at dksX20_in_0 18 rfl rfl)
abbrev cX20_newRow : ByteArray := prog_29_method_11_code
def yX20_newRow : MethodName := ⟨RX20, "newRow", "(II)I"⟩
def dkwX20_newRow_3 : List UInt8 := [42, 180, 0, 103, 4, 100, 172]
abbrev dktX20_newRow_3 : List UInt8 := dkwX20_newRow_3 ++ []
def dkwX20_newRow_2 : List UInt8 := [20, 0, 133, 167, 0, 4, 9, 80, 132, 3, 1, 167, 255, 221, 42, 89, 180, 0, 103, 4, 96, 181, 0, 103]
abbrev dktX20_newRow_2 : List UInt8 := dkwX20_newRow_2 ++ dktX20_newRow_3
def dkwX20_newRow_1 : List UInt8 := [162, 0, 36, 42, 180, 0, 16, 16, 40, 42, 180, 0, 103, 104, 29, 96, 27, 16, 8, 161, 0, 9]
abbrev dktX20_newRow_1 : List UInt8 := dkwX20_newRow_1 ++ dktX20_newRow_2
def dkwX20_newRow_0 : List UInt8 := [42, 180, 0, 7, 42, 180, 0, 103, 27, 79, 42, 180, 0, 13, 42, 180, 0, 103, 28, 79, 3, 62, 29, 28]
abbrev dktX20_newRow_0 : List UInt8 := dkwX20_newRow_0 ++ dktX20_newRow_1
theorem dksX20_newRow_0 : cX20_newRow.data.toList.drop 0 = dktX20_newRow_0 := by decide +kernel
theorem dksX20_newRow_1 : cX20_newRow.data.toList.drop 24 = dktX20_newRow_1 := dk_seg dksX20_newRow_0 24 rfl rfl
theorem dksX20_newRow_2 : cX20_newRow.data.toList.drop 46 = dktX20_newRow_2 := dk_seg dksX20_newRow_1 22 rfl rfl
theorem dksX20_newRow_3 : cX20_newRow.data.toList.drop 70 = dktX20_newRow_3 := dk_seg dksX20_newRow_2 24 rfl rfl
theorem dX20_newRow_0 : decode cX20_newRow 0 = .ok (.aload_n 0, 1) := dk_42 (dk_at dksX20_newRow_0 0 rfl rfl)
theorem dX20_newRow_1 : decode cX20_newRow 1 = .ok (.getfield 7, 3) := dk_180 0 7 (dk_at dksX20_newRow_0 1 rfl rfl)
theorem dX20_newRow_4 : decode cX20_newRow 4 = .ok (.aload_n 0, 1) := dk_42 (dk_at dksX20_newRow_0 4 rfl rfl)
theorem dX20_newRow_5 : decode cX20_newRow 5 = .ok (.getfield 103, 3) := dk_180 0 103 (dk_at dksX20_newRow_0 5 rfl rfl)
theorem dX20_newRow_8 : decode cX20_newRow 8 = .ok (.iload_n 1, 1) := dk_27 (dk_at dksX20_newRow_0 8 rfl rfl)
theorem dX20_newRow_9 : decode cX20_newRow 9 = .ok (.iastore, 1) := dk_79 (dk_at dksX20_newRow_0 9 rfl rfl)
theorem dX20_newRow_10 : decode cX20_newRow 10 = .ok (.aload_n 0, 1) := dk_42 (dk_at dksX20_newRow_0 10 rfl rfl)
theorem dX20_newRow_11 : decode cX20_newRow 11 = .ok (.getfield 13, 3) := dk_180 0 13 (dk_at dksX20_newRow_0 11 rfl rfl)
theorem dX20_newRow_14 : decode cX20_newRow 14 = .ok (.aload_n 0, 1) := dk_42 (dk_at dksX20_newRow_0 14 rfl rfl)
theorem dX20_newRow_15 : decode cX20_newRow 15 = .ok (.getfield 103, 3) := dk_180 0 103 (dk_at dksX20_newRow_0 15 rfl rfl)
theorem dX20_newRow_18 : decode cX20_newRow 18 = .ok (.iload_n 2, 1) := dk_28 (dk_at dksX20_newRow_0 18 rfl rfl)
theorem dX20_newRow_19 : decode cX20_newRow 19 = .ok (.iastore, 1) := dk_79 (dk_at dksX20_newRow_0 19 rfl rfl)
theorem dX20_newRow_20 : decode cX20_newRow 20 = .ok (.iconst 0, 1) := dk_3 (dk_at dksX20_newRow_0 20 rfl rfl)
theorem dX20_newRow_21 : decode cX20_newRow 21 = .ok (.istore_n 3, 1) := dk_62 (dk_at dksX20_newRow_0 21 rfl rfl)
theorem dX20_newRow_22 : decode cX20_newRow 22 = .ok (.iload_n 3, 1) := dk_29 (dk_at dksX20_newRow_0 22 rfl rfl)
theorem dX20_newRow_23 : decode cX20_newRow 23 = .ok (.iload_n 2, 1) := dk_28 (dk_at dksX20_newRow_0 23 rfl rfl)
theorem dX20_newRow_24 : decode cX20_newRow 24 = .ok (.if_icmp .ge 36, 3) := dk_162 0 36 (dk_at dksX20_newRow_1 0 rfl rfl)
theorem dX20_newRow_27 : decode cX20_newRow 27 = .ok (.aload_n 0, 1) := dk_42 (dk_at dksX20_newRow_1 3 rfl rfl)
theorem dX20_newRow_28 : decode cX20_newRow 28 = .ok (.getfield 16, 3) := dk_180 0 16 (dk_at dksX20_newRow_1 4 rfl rfl)
theorem dX20_newRow_31 : decode cX20_newRow 31 = .ok (.bipush 40, 2) := dk_16 40 (dk_at dksX20_newRow_1 7 rfl rfl)
theorem dX20_newRow_33 : decode cX20_newRow 33 = .ok (.aload_n 0, 1) := dk_42 (dk_at dksX20_newRow_1 9 rfl rfl)
theorem dX20_newRow_34 : decode cX20_newRow 34 = .ok (.getfield 103, 3) := dk_180 0 103 (dk_at dksX20_newRow_1 10 rfl rfl)
theorem dX20_newRow_37 : decode cX20_newRow 37 = .ok (.imul, 1) := dk_104 (dk_at dksX20_newRow_1 13 rfl rfl)
theorem dX20_newRow_38 : decode cX20_newRow 38 = .ok (.iload_n 3, 1) := dk_29 (dk_at dksX20_newRow_1 14 rfl rfl)
theorem dX20_newRow_39 : decode cX20_newRow 39 = .ok (.iadd, 1) := dk_96 (dk_at dksX20_newRow_1 15 rfl rfl)
theorem dX20_newRow_40 : decode cX20_newRow 40 = .ok (.iload_n 1, 1) := dk_27 (dk_at dksX20_newRow_1 16 rfl rfl)
theorem dX20_newRow_41 : decode cX20_newRow 41 = .ok (.bipush 8, 2) := dk_16 8 (dk_at dksX20_newRow_1 17 rfl rfl)
theorem dX20_newRow_43 : decode cX20_newRow 43 = .ok (.if_icmp .lt 9, 3) := dk_161 0 9 (dk_at dksX20_newRow_1 19 rfl rfl)
theorem dX20_newRow_46 : decode cX20_newRow 46 = .ok (.ldc2_w 133, 3) := dk_20 0 133 (dk_at dksX20_newRow_2 0 rfl rfl)
theorem dX20_newRow_49 : decode cX20_newRow 49 = .ok (.goto 4, 3) := dk_167 0 4 (dk_at dksX20_newRow_2 3 rfl rfl)
theorem dX20_newRow_52 : decode cX20_newRow 52 = .ok (.lconst 0, 1) := dk_9 (dk_at dksX20_newRow_2 6 rfl rfl)
theorem dX20_newRow_53 : decode cX20_newRow 53 = .ok (.lastore, 1) := dk_80 (dk_at dksX20_newRow_2 7 rfl rfl)
theorem dX20_newRow_54 : decode cX20_newRow 54 = .ok (.iinc 3 1, 3) := dk_132 3 1 (dk_at dksX20_newRow_2 8 rfl rfl)
theorem dX20_newRow_57 : decode cX20_newRow 57 = .ok (.goto (-35), 3) := dk_167 255 221 (dk_at dksX20_newRow_2 11 rfl rfl)
theorem dX20_newRow_60 : decode cX20_newRow 60 = .ok (.aload_n 0, 1) := dk_42 (dk_at dksX20_newRow_2 14 rfl rfl)
theorem dX20_newRow_61 : decode cX20_newRow 61 = .ok (.dup, 1) := dk_89 (dk_at dksX20_newRow_2 15 rfl rfl)
theorem dX20_newRow_62 : decode cX20_newRow 62 = .ok (.getfield 103, 3) := dk_180 0 103 (dk_at dksX20_newRow_2 16 rfl rfl)
theorem dX20_newRow_65 : decode cX20_newRow 65 = .ok (.iconst 1, 1) := dk_4 (dk_at dksX20_newRow_2 19 rfl rfl)
theorem dX20_newRow_66 : decode cX20_newRow 66 = .ok (.iadd, 1) := dk_96 (dk_at dksX20_newRow_2 20 rfl rfl)
theorem dX20_newRow_67 : decode cX20_newRow 67 = .ok (.putfield 103, 3) := dk_181 0 103 (dk_at dksX20_newRow_2 21 rfl rfl)
theorem dX20_newRow_70 : decode cX20_newRow 70 = .ok (.aload_n 0, 1) := dk_42 (dk_at dksX20_newRow_3 0 rfl rfl)
theorem dX20_newRow_71 : decode cX20_newRow 71 = .ok (.getfield 103, 3) := dk_180 0 103 (dk_at dksX20_newRow_3 1 rfl rfl)
theorem dX20_newRow_74 : decode cX20_newRow 74 = .ok (.iconst 1, 1) := dk_4 (dk_at dksX20_newRow_3 4 rfl rfl)
theorem dX20_newRow_75 : decode cX20_newRow 75 = .ok (.isub, 1) := dk_100 (dk_at dksX20_newRow_3 5 rfl rfl)
theorem dX20_newRow_76 : decode cX20_newRow 76 = .ok (.ireturn, 1) := dk_172 (dk_at dksX20_newRow_3 6 rfl rfl)
abbrev cX20_unit : ByteArray := prog_29_method_12_code
def yX20_unit : MethodName := ⟨RX20, "unit", "(II)I"⟩
def dkwX20_unit_2 : List UInt8 := [89, 180, 0, 137, 4, 96, 181, 0, 137, 42, 180, 0, 137, 4, 100, 172]
abbrev dktX20_unit_2 : List UInt8 := dkwX20_unit_2 ++ []
def dkwX20_unit_1 : List UInt8 := [16, 152, 172, 42, 180, 0, 20, 42, 180, 0, 137, 27, 79, 42, 180, 0, 23, 42, 180, 0, 137, 28, 79, 42]
abbrev dktX20_unit_1 : List UInt8 := dkwX20_unit_1 ++ dktX20_unit_2
def dkwX20_unit_0 : List UInt8 := [27, 133, 9, 20, 0, 135, 184, 0, 123, 154, 0, 6, 16, 154, 172, 42, 180, 0, 137, 16, 30, 160, 0, 6]
abbrev dktX20_unit_0 : List UInt8 := dkwX20_unit_0 ++ dktX20_unit_1
theorem dksX20_unit_0 : cX20_unit.data.toList.drop 0 = dktX20_unit_0 := by decide +kernel
theorem dksX20_unit_1 : cX20_unit.data.toList.drop 24 = dktX20_unit_1 := dk_seg dksX20_unit_0 24 rfl rfl
theorem dksX20_unit_2 : cX20_unit.data.toList.drop 48 = dktX20_unit_2 := dk_seg dksX20_unit_1 24 rfl rfl
theorem dX20_unit_0 : decode cX20_unit 0 = .ok (.iload_n 1, 1) := dk_27 (dk_at dksX20_unit_0 0 rfl rfl)
theorem dX20_unit_1 : decode cX20_unit 1 = .ok (.i2l, 1) := dk_133 (dk_at dksX20_unit_0 1 rfl rfl)
theorem dX20_unit_2 : decode cX20_unit 2 = .ok (.lconst 0, 1) := dk_9 (dk_at dksX20_unit_0 2 rfl rfl)
theorem dX20_unit_3 : decode cX20_unit 3 = .ok (.ldc2_w 135, 3) := dk_20 0 135 (dk_at dksX20_unit_0 3 rfl rfl)
theorem dX20_unit_6 : decode cX20_unit 6 = .ok (.invokestatic 123, 3) := dk_184 0 123 (dk_at dksX20_unit_0 6 rfl rfl)
theorem dX20_unit_9 : decode cX20_unit 9 = .ok (.ifCond .ne 6, 3) := dk_154 0 6 (dk_at dksX20_unit_0 9 rfl rfl)
theorem dX20_unit_12 : decode cX20_unit 12 = .ok (.bipush (-102), 2) := dk_16 154 (dk_at dksX20_unit_0 12 rfl rfl)
theorem dX20_unit_14 : decode cX20_unit 14 = .ok (.ireturn, 1) := dk_172 (dk_at dksX20_unit_0 14 rfl rfl)
theorem dX20_unit_15 : decode cX20_unit 15 = .ok (.aload_n 0, 1) := dk_42 (dk_at dksX20_unit_0 15 rfl rfl)
theorem dX20_unit_16 : decode cX20_unit 16 = .ok (.getfield 137, 3) := dk_180 0 137 (dk_at dksX20_unit_0 16 rfl rfl)
theorem dX20_unit_19 : decode cX20_unit 19 = .ok (.bipush 30, 2) := dk_16 30 (dk_at dksX20_unit_0 19 rfl rfl)
theorem dX20_unit_21 : decode cX20_unit 21 = .ok (.if_icmp .ne 6, 3) := dk_160 0 6 (dk_at dksX20_unit_0 21 rfl rfl)
theorem dX20_unit_24 : decode cX20_unit 24 = .ok (.bipush (-104), 2) := dk_16 152 (dk_at dksX20_unit_1 0 rfl rfl)
theorem dX20_unit_26 : decode cX20_unit 26 = .ok (.ireturn, 1) := dk_172 (dk_at dksX20_unit_1 2 rfl rfl)
theorem dX20_unit_27 : decode cX20_unit 27 = .ok (.aload_n 0, 1) := dk_42 (dk_at dksX20_unit_1 3 rfl rfl)
theorem dX20_unit_28 : decode cX20_unit 28 = .ok (.getfield 20, 3) := dk_180 0 20 (dk_at dksX20_unit_1 4 rfl rfl)
theorem dX20_unit_31 : decode cX20_unit 31 = .ok (.aload_n 0, 1) := dk_42 (dk_at dksX20_unit_1 7 rfl rfl)
theorem dX20_unit_32 : decode cX20_unit 32 = .ok (.getfield 137, 3) := dk_180 0 137 (dk_at dksX20_unit_1 8 rfl rfl)
theorem dX20_unit_35 : decode cX20_unit 35 = .ok (.iload_n 1, 1) := dk_27 (dk_at dksX20_unit_1 11 rfl rfl)
theorem dX20_unit_36 : decode cX20_unit 36 = .ok (.iastore, 1) := dk_79 (dk_at dksX20_unit_1 12 rfl rfl)
theorem dX20_unit_37 : decode cX20_unit 37 = .ok (.aload_n 0, 1) := dk_42 (dk_at dksX20_unit_1 13 rfl rfl)
theorem dX20_unit_38 : decode cX20_unit 38 = .ok (.getfield 23, 3) := dk_180 0 23 (dk_at dksX20_unit_1 14 rfl rfl)
theorem dX20_unit_41 : decode cX20_unit 41 = .ok (.aload_n 0, 1) := dk_42 (dk_at dksX20_unit_1 17 rfl rfl)
theorem dX20_unit_42 : decode cX20_unit 42 = .ok (.getfield 137, 3) := dk_180 0 137 (dk_at dksX20_unit_1 18 rfl rfl)
theorem dX20_unit_45 : decode cX20_unit 45 = .ok (.iload_n 2, 1) := dk_28 (dk_at dksX20_unit_1 21 rfl rfl)
theorem dX20_unit_46 : decode cX20_unit 46 = .ok (.iastore, 1) := dk_79 (dk_at dksX20_unit_1 22 rfl rfl)
theorem dX20_unit_47 : decode cX20_unit 47 = .ok (.aload_n 0, 1) := dk_42 (dk_at dksX20_unit_1 23 rfl rfl)
theorem dX20_unit_48 : decode cX20_unit 48 = .ok (.dup, 1) := dk_89 (dk_at dksX20_unit_2 0 rfl rfl)
theorem dX20_unit_49 : decode cX20_unit 49 = .ok (.getfield 137, 3) := dk_180 0 137 (dk_at dksX20_unit_2 1 rfl rfl)
theorem dX20_unit_52 : decode cX20_unit 52 = .ok (.iconst 1, 1) := dk_4 (dk_at dksX20_unit_2 4 rfl rfl)
theorem dX20_unit_53 : decode cX20_unit 53 = .ok (.iadd, 1) := dk_96 (dk_at dksX20_unit_2 5 rfl rfl)
theorem dX20_unit_54 : decode cX20_unit 54 = .ok (.putfield 137, 3) := dk_181 0 137 (dk_at dksX20_unit_2 6 rfl rfl)
theorem dX20_unit_57 : decode cX20_unit 57 = .ok (.aload_n 0, 1) := dk_42 (dk_at dksX20_unit_2 9 rfl rfl)
theorem dX20_unit_58 : decode cX20_unit 58 = .ok (.getfield 137, 3) := dk_180 0 137 (dk_at dksX20_unit_2 10 rfl rfl)
theorem dX20_unit_61 : decode cX20_unit 61 = .ok (.iconst 1, 1) := dk_4 (dk_at dksX20_unit_2 13 rfl rfl)
theorem dX20_unit_62 : decode cX20_unit 62 = .ok (.isub, 1) := dk_100 (dk_at dksX20_unit_2 14 rfl rfl)
theorem dX20_unit_63 : decode cX20_unit 63 = .ok (.ireturn, 1) := dk_172 (dk_at dksX20_unit_2 15 rfl rfl)
abbrev cX20_put : ByteArray := prog_29_method_17_code
def yX20_put : MethodName := ⟨RX20, "put", "(IIJ)I"⟩
def dkwX20_put_4 : List UInt8 := [16, 40, 27, 104, 28, 96, 42, 21, 5, 33, 182, 0, 173, 80, 4, 172]
abbrev dktX20_put_4 : List UInt8 := dkwX20_put_4 ++ []
def dkwX20_put_3 : List UInt8 := [154, 0, 7, 7, 167, 0, 4, 3, 181, 0, 100, 42, 180, 0, 100, 158, 0, 5, 3, 172, 42, 180, 0, 16]
abbrev dktX20_put_3 : List UInt8 := dkwX20_put_3 ++ dktX20_put_4
def dkwX20_put_2 : List UInt8 := [100, 133, 184, 0, 123, 154, 0, 7, 6, 167, 0, 23, 21, 5, 16, 9, 160, 0, 15, 42, 33, 182, 0, 169]
abbrev dktX20_put_2 : List UInt8 := dkwX20_put_2 ++ dktX20_put_3
def dkwX20_put_1 : List UInt8 := [42, 21, 5, 33, 182, 0, 165, 154, 0, 7, 5, 167, 0, 45, 28, 133, 9, 42, 180, 0, 13, 27, 46, 4]
abbrev dktX20_put_1 : List UInt8 := dkwX20_put_1 ++ dktX20_put_2
def dkwX20_put_0 : List UInt8 := [42, 27, 182, 0, 161, 154, 0, 10, 42, 4, 181, 0, 100, 3, 172, 42, 180, 0, 7, 27, 46, 54, 5, 42]
abbrev dktX20_put_0 : List UInt8 := dkwX20_put_0 ++ dktX20_put_1
theorem dksX20_put_0 : cX20_put.data.toList.drop 0 = dktX20_put_0 := by decide +kernel
theorem dksX20_put_1 : cX20_put.data.toList.drop 24 = dktX20_put_1 := dk_seg dksX20_put_0 24 rfl rfl
theorem dksX20_put_2 : cX20_put.data.toList.drop 48 = dktX20_put_2 := dk_seg dksX20_put_1 24 rfl rfl
theorem dksX20_put_3 : cX20_put.data.toList.drop 72 = dktX20_put_3 := dk_seg dksX20_put_2 24 rfl rfl
theorem dksX20_put_4 : cX20_put.data.toList.drop 96 = dktX20_put_4 := dk_seg dksX20_put_3 24 rfl rfl
theorem dX20_put_0 : decode cX20_put 0 = .ok (.aload_n 0, 1) := dk_42 (dk_at dksX20_put_0 0 rfl rfl)
theorem dX20_put_1 : decode cX20_put 1 = .ok (.iload_n 1, 1) := dk_27 (dk_at dksX20_put_0 1 rfl rfl)
theorem dX20_put_2 : decode cX20_put 2 = .ok (.invokevirtual 161, 3) := dk_182 0 161 (dk_at dksX20_put_0 2 rfl rfl)
theorem dX20_put_5 : decode cX20_put 5 = .ok (.ifCond .ne 10, 3) := dk_154 0 10 (dk_at dksX20_put_0 5 rfl rfl)
theorem dX20_put_8 : decode cX20_put 8 = .ok (.aload_n 0, 1) := dk_42 (dk_at dksX20_put_0 8 rfl rfl)
theorem dX20_put_9 : decode cX20_put 9 = .ok (.iconst 1, 1) := dk_4 (dk_at dksX20_put_0 9 rfl rfl)
theorem dX20_put_10 : decode cX20_put 10 = .ok (.putfield 100, 3) := dk_181 0 100 (dk_at dksX20_put_0 10 rfl rfl)
theorem dX20_put_13 : decode cX20_put 13 = .ok (.iconst 0, 1) := dk_3 (dk_at dksX20_put_0 13 rfl rfl)
theorem dX20_put_14 : decode cX20_put 14 = .ok (.ireturn, 1) := dk_172 (dk_at dksX20_put_0 14 rfl rfl)
theorem dX20_put_15 : decode cX20_put 15 = .ok (.aload_n 0, 1) := dk_42 (dk_at dksX20_put_0 15 rfl rfl)
theorem dX20_put_16 : decode cX20_put 16 = .ok (.getfield 7, 3) := dk_180 0 7 (dk_at dksX20_put_0 16 rfl rfl)
theorem dX20_put_19 : decode cX20_put 19 = .ok (.iload_n 1, 1) := dk_27 (dk_at dksX20_put_0 19 rfl rfl)
theorem dX20_put_20 : decode cX20_put 20 = .ok (.iaload, 1) := dk_46 (dk_at dksX20_put_0 20 rfl rfl)
theorem dX20_put_21 : decode cX20_put 21 = .ok (.istore 5, 2) := dk_54 5 (dk_at dksX20_put_0 21 rfl rfl)
theorem dX20_put_23 : decode cX20_put 23 = .ok (.aload_n 0, 1) := dk_42 (dk_at dksX20_put_0 23 rfl rfl)
theorem dX20_put_24 : decode cX20_put 24 = .ok (.aload_n 0, 1) := dk_42 (dk_at dksX20_put_1 0 rfl rfl)
theorem dX20_put_25 : decode cX20_put 25 = .ok (.iload 5, 2) := dk_21 5 (dk_at dksX20_put_1 1 rfl rfl)
theorem dX20_put_27 : decode cX20_put 27 = .ok (.lload_n 3, 1) := dk_33 (dk_at dksX20_put_1 3 rfl rfl)
theorem dX20_put_28 : decode cX20_put 28 = .ok (.invokevirtual 165, 3) := dk_182 0 165 (dk_at dksX20_put_1 4 rfl rfl)
theorem dX20_put_31 : decode cX20_put 31 = .ok (.ifCond .ne 7, 3) := dk_154 0 7 (dk_at dksX20_put_1 7 rfl rfl)
theorem dX20_put_34 : decode cX20_put 34 = .ok (.iconst 2, 1) := dk_5 (dk_at dksX20_put_1 10 rfl rfl)
theorem dX20_put_35 : decode cX20_put 35 = .ok (.goto 45, 3) := dk_167 0 45 (dk_at dksX20_put_1 11 rfl rfl)
theorem dX20_put_38 : decode cX20_put 38 = .ok (.iload_n 2, 1) := dk_28 (dk_at dksX20_put_1 14 rfl rfl)
theorem dX20_put_39 : decode cX20_put 39 = .ok (.i2l, 1) := dk_133 (dk_at dksX20_put_1 15 rfl rfl)
theorem dX20_put_40 : decode cX20_put 40 = .ok (.lconst 0, 1) := dk_9 (dk_at dksX20_put_1 16 rfl rfl)
theorem dX20_put_41 : decode cX20_put 41 = .ok (.aload_n 0, 1) := dk_42 (dk_at dksX20_put_1 17 rfl rfl)
theorem dX20_put_42 : decode cX20_put 42 = .ok (.getfield 13, 3) := dk_180 0 13 (dk_at dksX20_put_1 18 rfl rfl)
theorem dX20_put_45 : decode cX20_put 45 = .ok (.iload_n 1, 1) := dk_27 (dk_at dksX20_put_1 21 rfl rfl)
theorem dX20_put_46 : decode cX20_put 46 = .ok (.iaload, 1) := dk_46 (dk_at dksX20_put_1 22 rfl rfl)
theorem dX20_put_47 : decode cX20_put 47 = .ok (.iconst 1, 1) := dk_4 (dk_at dksX20_put_1 23 rfl rfl)
theorem dX20_put_48 : decode cX20_put 48 = .ok (.isub, 1) := dk_100 (dk_at dksX20_put_2 0 rfl rfl)
theorem dX20_put_49 : decode cX20_put 49 = .ok (.i2l, 1) := dk_133 (dk_at dksX20_put_2 1 rfl rfl)
theorem dX20_put_50 : decode cX20_put 50 = .ok (.invokestatic 123, 3) := dk_184 0 123 (dk_at dksX20_put_2 2 rfl rfl)
theorem dX20_put_53 : decode cX20_put 53 = .ok (.ifCond .ne 7, 3) := dk_154 0 7 (dk_at dksX20_put_2 5 rfl rfl)
theorem dX20_put_56 : decode cX20_put 56 = .ok (.iconst 3, 1) := dk_6 (dk_at dksX20_put_2 8 rfl rfl)
theorem dX20_put_57 : decode cX20_put 57 = .ok (.goto 23, 3) := dk_167 0 23 (dk_at dksX20_put_2 9 rfl rfl)
theorem dX20_put_60 : decode cX20_put 60 = .ok (.iload 5, 2) := dk_21 5 (dk_at dksX20_put_2 12 rfl rfl)
theorem dX20_put_62 : decode cX20_put 62 = .ok (.bipush 9, 2) := dk_16 9 (dk_at dksX20_put_2 14 rfl rfl)
theorem dX20_put_64 : decode cX20_put 64 = .ok (.if_icmp .ne 15, 3) := dk_160 0 15 (dk_at dksX20_put_2 16 rfl rfl)
theorem dX20_put_67 : decode cX20_put 67 = .ok (.aload_n 0, 1) := dk_42 (dk_at dksX20_put_2 19 rfl rfl)
theorem dX20_put_68 : decode cX20_put 68 = .ok (.lload_n 3, 1) := dk_33 (dk_at dksX20_put_2 20 rfl rfl)
theorem dX20_put_69 : decode cX20_put 69 = .ok (.invokevirtual 169, 3) := dk_182 0 169 (dk_at dksX20_put_2 21 rfl rfl)
theorem dX20_put_72 : decode cX20_put 72 = .ok (.ifCond .ne 7, 3) := dk_154 0 7 (dk_at dksX20_put_3 0 rfl rfl)
theorem dX20_put_75 : decode cX20_put 75 = .ok (.iconst 4, 1) := dk_7 (dk_at dksX20_put_3 3 rfl rfl)
theorem dX20_put_76 : decode cX20_put 76 = .ok (.goto 4, 3) := dk_167 0 4 (dk_at dksX20_put_3 4 rfl rfl)
theorem dX20_put_79 : decode cX20_put 79 = .ok (.iconst 0, 1) := dk_3 (dk_at dksX20_put_3 7 rfl rfl)
theorem dX20_put_80 : decode cX20_put 80 = .ok (.putfield 100, 3) := dk_181 0 100 (dk_at dksX20_put_3 8 rfl rfl)
theorem dX20_put_83 : decode cX20_put 83 = .ok (.aload_n 0, 1) := dk_42 (dk_at dksX20_put_3 11 rfl rfl)
theorem dX20_put_84 : decode cX20_put 84 = .ok (.getfield 100, 3) := dk_180 0 100 (dk_at dksX20_put_3 12 rfl rfl)
theorem dX20_put_87 : decode cX20_put 87 = .ok (.ifCond .le 5, 3) := dk_158 0 5 (dk_at dksX20_put_3 15 rfl rfl)
theorem dX20_put_90 : decode cX20_put 90 = .ok (.iconst 0, 1) := dk_3 (dk_at dksX20_put_3 18 rfl rfl)
theorem dX20_put_91 : decode cX20_put 91 = .ok (.ireturn, 1) := dk_172 (dk_at dksX20_put_3 19 rfl rfl)
theorem dX20_put_92 : decode cX20_put 92 = .ok (.aload_n 0, 1) := dk_42 (dk_at dksX20_put_3 20 rfl rfl)
theorem dX20_put_93 : decode cX20_put 93 = .ok (.getfield 16, 3) := dk_180 0 16 (dk_at dksX20_put_3 21 rfl rfl)
theorem dX20_put_96 : decode cX20_put 96 = .ok (.bipush 40, 2) := dk_16 40 (dk_at dksX20_put_4 0 rfl rfl)
theorem dX20_put_98 : decode cX20_put 98 = .ok (.iload_n 1, 1) := dk_27 (dk_at dksX20_put_4 2 rfl rfl)
theorem dX20_put_99 : decode cX20_put 99 = .ok (.imul, 1) := dk_104 (dk_at dksX20_put_4 3 rfl rfl)
theorem dX20_put_100 : decode cX20_put 100 = .ok (.iload_n 2, 1) := dk_28 (dk_at dksX20_put_4 4 rfl rfl)
theorem dX20_put_101 : decode cX20_put 101 = .ok (.iadd, 1) := dk_96 (dk_at dksX20_put_4 5 rfl rfl)
theorem dX20_put_102 : decode cX20_put 102 = .ok (.aload_n 0, 1) := dk_42 (dk_at dksX20_put_4 6 rfl rfl)
theorem dX20_put_103 : decode cX20_put 103 = .ok (.iload 5, 2) := dk_21 5 (dk_at dksX20_put_4 7 rfl rfl)
theorem dX20_put_105 : decode cX20_put 105 = .ok (.lload_n 3, 1) := dk_33 (dk_at dksX20_put_4 9 rfl rfl)
theorem dX20_put_106 : decode cX20_put 106 = .ok (.invokevirtual 173, 3) := dk_182 0 173 (dk_at dksX20_put_4 10 rfl rfl)
theorem dX20_put_109 : decode cX20_put 109 = .ok (.lastore, 1) := dk_80 (dk_at dksX20_put_4 13 rfl rfl)
theorem dX20_put_110 : decode cX20_put 110 = .ok (.iconst 1, 1) := dk_4 (dk_at dksX20_put_4 14 rfl rfl)
theorem dX20_put_111 : decode cX20_put 111 = .ok (.ireturn, 1) := dk_172 (dk_at dksX20_put_4 15 rfl rfl)
abbrev cX20_isRow : ByteArray := prog_29_method_6_code
def yX20_isRow : MethodName := ⟨RX20, "isRow", "(I)Z"⟩
def dkwX20_isRow_0 : List UInt8 := [27, 155, 0, 15, 27, 42, 180, 0, 103, 162, 0, 7, 4, 167, 0, 4, 3, 172]
abbrev dktX20_isRow_0 : List UInt8 := dkwX20_isRow_0 ++ []
theorem dksX20_isRow_0 : cX20_isRow.data.toList.drop 0 = dktX20_isRow_0 := by decide +kernel
theorem dX20_isRow_0 : decode cX20_isRow 0 = .ok (.iload_n 1, 1) := dk_27 (dk_at dksX20_isRow_0 0 rfl rfl)
theorem dX20_isRow_1 : decode cX20_isRow 1 = .ok (.ifCond .lt 15, 3) := dk_155 0 15 (dk_at dksX20_isRow_0 1 rfl rfl)
theorem dX20_isRow_4 : decode cX20_isRow 4 = .ok (.iload_n 1, 1) := dk_27 (dk_at dksX20_isRow_0 4 rfl rfl)
theorem dX20_isRow_5 : decode cX20_isRow 5 = .ok (.aload_n 0, 1) := dk_42 (dk_at dksX20_isRow_0 5 rfl rfl)
theorem dX20_isRow_6 : decode cX20_isRow 6 = .ok (.getfield 103, 3) := dk_180 0 103 (dk_at dksX20_isRow_0 6 rfl rfl)
theorem dX20_isRow_9 : decode cX20_isRow 9 = .ok (.if_icmp .ge 7, 3) := dk_162 0 7 (dk_at dksX20_isRow_0 9 rfl rfl)
theorem dX20_isRow_12 : decode cX20_isRow 12 = .ok (.iconst 1, 1) := dk_4 (dk_at dksX20_isRow_0 12 rfl rfl)
theorem dX20_isRow_13 : decode cX20_isRow 13 = .ok (.goto 4, 3) := dk_167 0 4 (dk_at dksX20_isRow_0 13 rfl rfl)
theorem dX20_isRow_16 : decode cX20_isRow 16 = .ok (.iconst 0, 1) := dk_3 (dk_at dksX20_isRow_0 16 rfl rfl)
theorem dX20_isRow_17 : decode cX20_isRow 17 = .ok (.ireturn, 1) := dk_172 (dk_at dksX20_isRow_0 17 rfl rfl)
abbrev cX20_goes : ByteArray := prog_29_method_13_code
def yX20_goes : MethodName := ⟨RX20, "goes", "(IJ)Z"⟩
def dkwX20_goes_2 : List UInt8 := [167, 0, 4, 3, 172]
abbrev dktX20_goes_2 : List UInt8 := dkwX20_goes_2 ++ []
def dkwX20_goes_1 : List UInt8 := [153, 0, 27, 167, 0, 20, 32, 20, 0, 133, 42, 180, 0, 137, 4, 100, 133, 184, 0, 123, 153, 0, 7, 4]
abbrev dktX20_goes_1 : List UInt8 := dkwX20_goes_1 ++ dktX20_goes_2
def dkwX20_goes_0 : List UInt8 := [27, 16, 8, 161, 0, 42, 27, 16, 10, 160, 0, 19, 32, 20, 0, 133, 20, 0, 127, 184, 0, 123]
abbrev dktX20_goes_0 : List UInt8 := dkwX20_goes_0 ++ dktX20_goes_1
theorem dksX20_goes_0 : cX20_goes.data.toList.drop 0 = dktX20_goes_0 := by decide +kernel
theorem dksX20_goes_1 : cX20_goes.data.toList.drop 22 = dktX20_goes_1 := dk_seg dksX20_goes_0 22 rfl rfl
theorem dksX20_goes_2 : cX20_goes.data.toList.drop 46 = dktX20_goes_2 := dk_seg dksX20_goes_1 24 rfl rfl
theorem dX20_goes_0 : decode cX20_goes 0 = .ok (.iload_n 1, 1) := dk_27 (dk_at dksX20_goes_0 0 rfl rfl)
theorem dX20_goes_1 : decode cX20_goes 1 = .ok (.bipush 8, 2) := dk_16 8 (dk_at dksX20_goes_0 1 rfl rfl)
theorem dX20_goes_3 : decode cX20_goes 3 = .ok (.if_icmp .lt 42, 3) := dk_161 0 42 (dk_at dksX20_goes_0 3 rfl rfl)
theorem dX20_goes_6 : decode cX20_goes 6 = .ok (.iload_n 1, 1) := dk_27 (dk_at dksX20_goes_0 6 rfl rfl)
theorem dX20_goes_7 : decode cX20_goes 7 = .ok (.bipush 10, 2) := dk_16 10 (dk_at dksX20_goes_0 7 rfl rfl)
theorem dX20_goes_9 : decode cX20_goes 9 = .ok (.if_icmp .ne 19, 3) := dk_160 0 19 (dk_at dksX20_goes_0 9 rfl rfl)
theorem dX20_goes_12 : decode cX20_goes 12 = .ok (.lload_n 2, 1) := dk_32 (dk_at dksX20_goes_0 12 rfl rfl)
theorem dX20_goes_13 : decode cX20_goes 13 = .ok (.ldc2_w 133, 3) := dk_20 0 133 (dk_at dksX20_goes_0 13 rfl rfl)
theorem dX20_goes_16 : decode cX20_goes 16 = .ok (.ldc2_w 127, 3) := dk_20 0 127 (dk_at dksX20_goes_0 16 rfl rfl)
theorem dX20_goes_19 : decode cX20_goes 19 = .ok (.invokestatic 123, 3) := dk_184 0 123 (dk_at dksX20_goes_0 19 rfl rfl)
theorem dX20_goes_22 : decode cX20_goes 22 = .ok (.ifCond .eq 27, 3) := dk_153 0 27 (dk_at dksX20_goes_1 0 rfl rfl)
theorem dX20_goes_25 : decode cX20_goes 25 = .ok (.goto 20, 3) := dk_167 0 20 (dk_at dksX20_goes_1 3 rfl rfl)
theorem dX20_goes_28 : decode cX20_goes 28 = .ok (.lload_n 2, 1) := dk_32 (dk_at dksX20_goes_1 6 rfl rfl)
theorem dX20_goes_29 : decode cX20_goes 29 = .ok (.ldc2_w 133, 3) := dk_20 0 133 (dk_at dksX20_goes_1 7 rfl rfl)
theorem dX20_goes_32 : decode cX20_goes 32 = .ok (.aload_n 0, 1) := dk_42 (dk_at dksX20_goes_1 10 rfl rfl)
theorem dX20_goes_33 : decode cX20_goes 33 = .ok (.getfield 137, 3) := dk_180 0 137 (dk_at dksX20_goes_1 11 rfl rfl)
theorem dX20_goes_36 : decode cX20_goes 36 = .ok (.iconst 1, 1) := dk_4 (dk_at dksX20_goes_1 14 rfl rfl)
theorem dX20_goes_37 : decode cX20_goes 37 = .ok (.isub, 1) := dk_100 (dk_at dksX20_goes_1 15 rfl rfl)
theorem dX20_goes_38 : decode cX20_goes 38 = .ok (.i2l, 1) := dk_133 (dk_at dksX20_goes_1 16 rfl rfl)
theorem dX20_goes_39 : decode cX20_goes 39 = .ok (.invokestatic 123, 3) := dk_184 0 123 (dk_at dksX20_goes_1 17 rfl rfl)
theorem dX20_goes_42 : decode cX20_goes 42 = .ok (.ifCond .eq 7, 3) := dk_153 0 7 (dk_at dksX20_goes_1 20 rfl rfl)
theorem dX20_goes_45 : decode cX20_goes 45 = .ok (.iconst 1, 1) := dk_4 (dk_at dksX20_goes_1 23 rfl rfl)
theorem dX20_goes_46 : decode cX20_goes 46 = .ok (.goto 4, 3) := dk_167 0 4 (dk_at dksX20_goes_2 0 rfl rfl)
theorem dX20_goes_49 : decode cX20_goes 49 = .ok (.iconst 0, 1) := dk_3 (dk_at dksX20_goes_2 3 rfl rfl)
theorem dX20_goes_50 : decode cX20_goes 50 = .ok (.ireturn, 1) := dk_172 (dk_at dksX20_goes_2 4 rfl rfl)
abbrev cX20_isCard : ByteArray := prog_29_method_14_code
def yX20_isCard : MethodName := ⟨RX20, "isCard", "(J)Z"⟩
def dkwX20_isCard_0 : List UInt8 := [31, 20, 0, 133, 148, 153, 0, 13, 42, 180, 0, 20, 31, 136, 46, 158, 0, 7, 4, 167, 0, 4, 3, 172]
abbrev dktX20_isCard_0 : List UInt8 := dkwX20_isCard_0 ++ []
theorem dksX20_isCard_0 : cX20_isCard.data.toList.drop 0 = dktX20_isCard_0 := by decide +kernel
theorem dX20_isCard_0 : decode cX20_isCard 0 = .ok (.lload_n 1, 1) := dk_31 (dk_at dksX20_isCard_0 0 rfl rfl)
theorem dX20_isCard_1 : decode cX20_isCard 1 = .ok (.ldc2_w 133, 3) := dk_20 0 133 (dk_at dksX20_isCard_0 1 rfl rfl)
theorem dX20_isCard_4 : decode cX20_isCard 4 = .ok (.lcmp, 1) := dk_148 (dk_at dksX20_isCard_0 4 rfl rfl)
theorem dX20_isCard_5 : decode cX20_isCard 5 = .ok (.ifCond .eq 13, 3) := dk_153 0 13 (dk_at dksX20_isCard_0 5 rfl rfl)
theorem dX20_isCard_8 : decode cX20_isCard 8 = .ok (.aload_n 0, 1) := dk_42 (dk_at dksX20_isCard_0 8 rfl rfl)
theorem dX20_isCard_9 : decode cX20_isCard 9 = .ok (.getfield 20, 3) := dk_180 0 20 (dk_at dksX20_isCard_0 9 rfl rfl)
theorem dX20_isCard_12 : decode cX20_isCard 12 = .ok (.lload_n 1, 1) := dk_31 (dk_at dksX20_isCard_0 12 rfl rfl)
theorem dX20_isCard_13 : decode cX20_isCard 13 = .ok (.l2i, 1) := dk_136 (dk_at dksX20_isCard_0 13 rfl rfl)
theorem dX20_isCard_14 : decode cX20_isCard 14 = .ok (.iaload, 1) := dk_46 (dk_at dksX20_isCard_0 14 rfl rfl)
theorem dX20_isCard_15 : decode cX20_isCard 15 = .ok (.ifCond .le 7, 3) := dk_158 0 7 (dk_at dksX20_isCard_0 15 rfl rfl)
theorem dX20_isCard_18 : decode cX20_isCard 18 = .ok (.iconst 1, 1) := dk_4 (dk_at dksX20_isCard_0 18 rfl rfl)
theorem dX20_isCard_19 : decode cX20_isCard 19 = .ok (.goto 4, 3) := dk_167 0 4 (dk_at dksX20_isCard_0 19 rfl rfl)
theorem dX20_isCard_22 : decode cX20_isCard 22 = .ok (.iconst 0, 1) := dk_3 (dk_at dksX20_isCard_0 22 rfl rfl)
theorem dX20_isCard_23 : decode cX20_isCard 23 = .ok (.ireturn, 1) := dk_172 (dk_at dksX20_isCard_0 23 rfl rfl)
abbrev cX20_asElement : ByteArray := prog_29_method_15_code
def yX20_asElement : MethodName := ⟨RX20, "asElement", "(IJ)J"⟩
def dkwX20_asElement_4 : List UInt8 := [20, 0, 133, 167, 0, 10, 42, 32, 136, 182, 0, 154, 133, 173, 32, 173]
abbrev dktX20_asElement_4 : List UInt8 := dkwX20_asElement_4 ++ []
def dkwX20_asElement_3 : List UInt8 := [184, 0, 140, 184, 0, 144, 173, 32, 184, 0, 148, 184, 0, 151, 173, 32, 20, 0, 133, 148, 154, 0, 9]
abbrev dktX20_asElement_3 : List UInt8 := dkwX20_asElement_3 ++ dktX20_asElement_4
def dkwX20_asElement_2 : List UInt8 := [32, 10, 127, 173, 32, 136, 145, 133, 173, 32, 136, 146, 133, 173, 32, 136, 147, 133, 173, 32, 136, 133, 173, 32]
abbrev dktX20_asElement_2 : List UInt8 := dkwX20_asElement_2 ++ dktX20_asElement_3
def dkwX20_asElement_1 : List UInt8 := [170, 0, 0, 0, 0, 0, 120, 0, 0, 0, 0, 0, 0, 0, 10, 0, 0, 0, 59, 0, 0, 0, 63, 0, 0, 0, 68, 0, 0, 0, 73, 0, 0, 0, 78, 0, 0, 0, 120, 0, 0, 0, 82, 0, 0, 0, 90, 0, 0, 0, 120, 0, 0, 0, 120, 0, 0, 0, 98]
abbrev dktX20_asElement_1 : List UInt8 := dkwX20_asElement_1 ++ dktX20_asElement_2
def dkwX20_asElement_0 : List UInt8 := [27]
abbrev dktX20_asElement_0 : List UInt8 := dkwX20_asElement_0 ++ dktX20_asElement_1
theorem dksX20_asElement_0 : cX20_asElement.data.toList.drop 0 = dktX20_asElement_0 := by decide +kernel
theorem dksX20_asElement_1 : cX20_asElement.data.toList.drop 1 = dktX20_asElement_1 := dk_seg dksX20_asElement_0 1 rfl rfl
theorem dksX20_asElement_2 : cX20_asElement.data.toList.drop 60 = dktX20_asElement_2 := dk_seg dksX20_asElement_1 59 rfl rfl
theorem dksX20_asElement_3 : cX20_asElement.data.toList.drop 84 = dktX20_asElement_3 := dk_seg dksX20_asElement_2 24 rfl rfl
theorem dksX20_asElement_4 : cX20_asElement.data.toList.drop 107 = dktX20_asElement_4 := dk_seg dksX20_asElement_3 23 rfl rfl
theorem dX20_asElement_0 : decode cX20_asElement 0 = .ok (.iload_n 1, 1) := dk_27 (dk_at dksX20_asElement_0 0 rfl rfl)
theorem dX20_asElement_1 : decode cX20_asElement 1 = .ok (.tableswitch 120 0 10 #[59, 63, 68, 73, 78, 120, 82, 90, 120, 120, 98], 59) := by decide +kernel
theorem dX20_asElement_60 : decode cX20_asElement 60 = .ok (.lload_n 2, 1) := dk_32 (dk_at dksX20_asElement_2 0 rfl rfl)
theorem dX20_asElement_61 : decode cX20_asElement 61 = .ok (.lconst 1, 1) := dk_10 (dk_at dksX20_asElement_2 1 rfl rfl)
theorem dX20_asElement_62 : decode cX20_asElement 62 = .ok (.land, 1) := dk_127 (dk_at dksX20_asElement_2 2 rfl rfl)
theorem dX20_asElement_63 : decode cX20_asElement 63 = .ok (.lreturn, 1) := dk_173 (dk_at dksX20_asElement_2 3 rfl rfl)
theorem dX20_asElement_64 : decode cX20_asElement 64 = .ok (.lload_n 2, 1) := dk_32 (dk_at dksX20_asElement_2 4 rfl rfl)
theorem dX20_asElement_65 : decode cX20_asElement 65 = .ok (.l2i, 1) := dk_136 (dk_at dksX20_asElement_2 5 rfl rfl)
theorem dX20_asElement_66 : decode cX20_asElement 66 = .ok (.i2b, 1) := dk_145 (dk_at dksX20_asElement_2 6 rfl rfl)
theorem dX20_asElement_67 : decode cX20_asElement 67 = .ok (.i2l, 1) := dk_133 (dk_at dksX20_asElement_2 7 rfl rfl)
theorem dX20_asElement_68 : decode cX20_asElement 68 = .ok (.lreturn, 1) := dk_173 (dk_at dksX20_asElement_2 8 rfl rfl)
theorem dX20_asElement_69 : decode cX20_asElement 69 = .ok (.lload_n 2, 1) := dk_32 (dk_at dksX20_asElement_2 9 rfl rfl)
theorem dX20_asElement_70 : decode cX20_asElement 70 = .ok (.l2i, 1) := dk_136 (dk_at dksX20_asElement_2 10 rfl rfl)
theorem dX20_asElement_71 : decode cX20_asElement 71 = .ok (.i2c, 1) := dk_146 (dk_at dksX20_asElement_2 11 rfl rfl)
theorem dX20_asElement_72 : decode cX20_asElement 72 = .ok (.i2l, 1) := dk_133 (dk_at dksX20_asElement_2 12 rfl rfl)
theorem dX20_asElement_73 : decode cX20_asElement 73 = .ok (.lreturn, 1) := dk_173 (dk_at dksX20_asElement_2 13 rfl rfl)
theorem dX20_asElement_74 : decode cX20_asElement 74 = .ok (.lload_n 2, 1) := dk_32 (dk_at dksX20_asElement_2 14 rfl rfl)
theorem dX20_asElement_75 : decode cX20_asElement 75 = .ok (.l2i, 1) := dk_136 (dk_at dksX20_asElement_2 15 rfl rfl)
theorem dX20_asElement_76 : decode cX20_asElement 76 = .ok (.i2s, 1) := dk_147 (dk_at dksX20_asElement_2 16 rfl rfl)
theorem dX20_asElement_77 : decode cX20_asElement 77 = .ok (.i2l, 1) := dk_133 (dk_at dksX20_asElement_2 17 rfl rfl)
theorem dX20_asElement_78 : decode cX20_asElement 78 = .ok (.lreturn, 1) := dk_173 (dk_at dksX20_asElement_2 18 rfl rfl)
theorem dX20_asElement_79 : decode cX20_asElement 79 = .ok (.lload_n 2, 1) := dk_32 (dk_at dksX20_asElement_2 19 rfl rfl)
theorem dX20_asElement_80 : decode cX20_asElement 80 = .ok (.l2i, 1) := dk_136 (dk_at dksX20_asElement_2 20 rfl rfl)
theorem dX20_asElement_81 : decode cX20_asElement 81 = .ok (.i2l, 1) := dk_133 (dk_at dksX20_asElement_2 21 rfl rfl)
theorem dX20_asElement_82 : decode cX20_asElement 82 = .ok (.lreturn, 1) := dk_173 (dk_at dksX20_asElement_2 22 rfl rfl)
theorem dX20_asElement_83 : decode cX20_asElement 83 = .ok (.lload_n 2, 1) := dk_32 (dk_at dksX20_asElement_2 23 rfl rfl)
theorem dX20_asElement_84 : decode cX20_asElement 84 = .ok (.invokestatic 140, 3) := dk_184 0 140 (dk_at dksX20_asElement_3 0 rfl rfl)
theorem dX20_asElement_87 : decode cX20_asElement 87 = .ok (.invokestatic 144, 3) := dk_184 0 144 (dk_at dksX20_asElement_3 3 rfl rfl)
theorem dX20_asElement_90 : decode cX20_asElement 90 = .ok (.lreturn, 1) := dk_173 (dk_at dksX20_asElement_3 6 rfl rfl)
theorem dX20_asElement_91 : decode cX20_asElement 91 = .ok (.lload_n 2, 1) := dk_32 (dk_at dksX20_asElement_3 7 rfl rfl)
theorem dX20_asElement_92 : decode cX20_asElement 92 = .ok (.invokestatic 148, 3) := dk_184 0 148 (dk_at dksX20_asElement_3 8 rfl rfl)
theorem dX20_asElement_95 : decode cX20_asElement 95 = .ok (.invokestatic 151, 3) := dk_184 0 151 (dk_at dksX20_asElement_3 11 rfl rfl)
theorem dX20_asElement_98 : decode cX20_asElement 98 = .ok (.lreturn, 1) := dk_173 (dk_at dksX20_asElement_3 14 rfl rfl)
theorem dX20_asElement_99 : decode cX20_asElement 99 = .ok (.lload_n 2, 1) := dk_32 (dk_at dksX20_asElement_3 15 rfl rfl)
theorem dX20_asElement_100 : decode cX20_asElement 100 = .ok (.ldc2_w 133, 3) := dk_20 0 133 (dk_at dksX20_asElement_3 16 rfl rfl)
theorem dX20_asElement_103 : decode cX20_asElement 103 = .ok (.lcmp, 1) := dk_148 (dk_at dksX20_asElement_3 19 rfl rfl)
theorem dX20_asElement_104 : decode cX20_asElement 104 = .ok (.ifCond .ne 9, 3) := dk_154 0 9 (dk_at dksX20_asElement_3 20 rfl rfl)
theorem dX20_asElement_107 : decode cX20_asElement 107 = .ok (.ldc2_w 133, 3) := dk_20 0 133 (dk_at dksX20_asElement_4 0 rfl rfl)
theorem dX20_asElement_110 : decode cX20_asElement 110 = .ok (.goto 10, 3) := dk_167 0 10 (dk_at dksX20_asElement_4 3 rfl rfl)
theorem dX20_asElement_113 : decode cX20_asElement 113 = .ok (.aload_n 0, 1) := dk_42 (dk_at dksX20_asElement_4 6 rfl rfl)
theorem dX20_asElement_114 : decode cX20_asElement 114 = .ok (.lload_n 2, 1) := dk_32 (dk_at dksX20_asElement_4 7 rfl rfl)
theorem dX20_asElement_115 : decode cX20_asElement 115 = .ok (.l2i, 1) := dk_136 (dk_at dksX20_asElement_4 8 rfl rfl)
theorem dX20_asElement_116 : decode cX20_asElement 116 = .ok (.invokevirtual 154, 3) := dk_182 0 154 (dk_at dksX20_asElement_4 9 rfl rfl)
theorem dX20_asElement_119 : decode cX20_asElement 119 = .ok (.i2l, 1) := dk_133 (dk_at dksX20_asElement_4 12 rfl rfl)
theorem dX20_asElement_120 : decode cX20_asElement 120 = .ok (.lreturn, 1) := dk_173 (dk_at dksX20_asElement_4 13 rfl rfl)
theorem dX20_asElement_121 : decode cX20_asElement 121 = .ok (.lload_n 2, 1) := dk_32 (dk_at dksX20_asElement_4 14 rfl rfl)
theorem dX20_asElement_122 : decode cX20_asElement 122 = .ok (.lreturn, 1) := dk_173 (dk_at dksX20_asElement_4 15 rfl rfl)
abbrev cX20_floatOf : ByteArray := prog_29_method_9_code
def yX20_floatOf : MethodName := ⟨RX20, "floatOf", "(J)F"⟩
def dkwX20_floatOf_0 : List UInt8 := [30, 136, 184, 0, 118, 174]
abbrev dktX20_floatOf_0 : List UInt8 := dkwX20_floatOf_0 ++ []
theorem dksX20_floatOf_0 : cX20_floatOf.data.toList.drop 0 = dktX20_floatOf_0 := by decide +kernel
theorem dX20_floatOf_0 : decode cX20_floatOf 0 = .ok (.lload_n 0, 1) := dk_30 (dk_at dksX20_floatOf_0 0 rfl rfl)
theorem dX20_floatOf_1 : decode cX20_floatOf 1 = .ok (.l2i, 1) := dk_136 (dk_at dksX20_floatOf_0 1 rfl rfl)
theorem dX20_floatOf_2 : decode cX20_floatOf 2 = .ok (.invokestatic 118, 3) := dk_184 0 118 (dk_at dksX20_floatOf_0 2 rfl rfl)
theorem dX20_floatOf_5 : decode cX20_floatOf 5 = .ok (.freturn, 1) := dk_174 (dk_at dksX20_floatOf_0 5 rfl rfl)
abbrev cX20_singleOfBits : ByteArray := prog_29_method_3_code
def yX20_singleOfBits : MethodName := ⟨RX20, "singleOfBits", "(I)F"⟩
def dkwX20_singleOfBits_0 : List UInt8 := [26, 18, 91, 126, 18, 92, 164, 0, 8, 18, 95, 167, 0, 7, 26, 184, 0, 96, 174]
abbrev dktX20_singleOfBits_0 : List UInt8 := dkwX20_singleOfBits_0 ++ []
theorem dksX20_singleOfBits_0 : cX20_singleOfBits.data.toList.drop 0 = dktX20_singleOfBits_0 := by decide +kernel
theorem dX20_singleOfBits_0 : decode cX20_singleOfBits 0 = .ok (.iload_n 0, 1) := dk_26 (dk_at dksX20_singleOfBits_0 0 rfl rfl)
theorem dX20_singleOfBits_1 : decode cX20_singleOfBits 1 = .ok (.ldc 91, 2) := dk_18 91 (dk_at dksX20_singleOfBits_0 1 rfl rfl)
theorem dX20_singleOfBits_3 : decode cX20_singleOfBits 3 = .ok (.iand, 1) := dk_126 (dk_at dksX20_singleOfBits_0 3 rfl rfl)
theorem dX20_singleOfBits_4 : decode cX20_singleOfBits 4 = .ok (.ldc 92, 2) := dk_18 92 (dk_at dksX20_singleOfBits_0 4 rfl rfl)
theorem dX20_singleOfBits_6 : decode cX20_singleOfBits 6 = .ok (.if_icmp .le 8, 3) := dk_164 0 8 (dk_at dksX20_singleOfBits_0 6 rfl rfl)
theorem dX20_singleOfBits_9 : decode cX20_singleOfBits 9 = .ok (.ldc 95, 2) := dk_18 95 (dk_at dksX20_singleOfBits_0 9 rfl rfl)
theorem dX20_singleOfBits_11 : decode cX20_singleOfBits 11 = .ok (.goto 7, 3) := dk_167 0 7 (dk_at dksX20_singleOfBits_0 11 rfl rfl)
theorem dX20_singleOfBits_14 : decode cX20_singleOfBits 14 = .ok (.iload_n 0, 1) := dk_26 (dk_at dksX20_singleOfBits_0 14 rfl rfl)
theorem dX20_singleOfBits_15 : decode cX20_singleOfBits 15 = .ok (.invokestatic 96, 3) := dk_184 0 96 (dk_at dksX20_singleOfBits_0 15 rfl rfl)
theorem dX20_singleOfBits_18 : decode cX20_singleOfBits 18 = .ok (.freturn, 1) := dk_174 (dk_at dksX20_singleOfBits_0 18 rfl rfl)
abbrev cX20_floatBits : ByteArray := prog_29_method_8_code
def yX20_floatBits : MethodName := ⟨RX20, "floatBits", "(F)J"⟩
def dkwX20_floatBits_0 : List UInt8 := [34, 34, 149, 153, 0, 9, 20, 0, 112, 167, 0, 8, 34, 184, 0, 114, 133, 173]
abbrev dktX20_floatBits_0 : List UInt8 := dkwX20_floatBits_0 ++ []
theorem dksX20_floatBits_0 : cX20_floatBits.data.toList.drop 0 = dktX20_floatBits_0 := by decide +kernel
theorem dX20_floatBits_0 : decode cX20_floatBits 0 = .ok (.fload_n 0, 1) := dk_34 (dk_at dksX20_floatBits_0 0 rfl rfl)
theorem dX20_floatBits_1 : decode cX20_floatBits 1 = .ok (.fload_n 0, 1) := dk_34 (dk_at dksX20_floatBits_0 1 rfl rfl)
theorem dX20_floatBits_2 : decode cX20_floatBits 2 = .ok (.fcmp .l, 1) := dk_149 (dk_at dksX20_floatBits_0 2 rfl rfl)
theorem dX20_floatBits_3 : decode cX20_floatBits 3 = .ok (.ifCond .eq 9, 3) := dk_153 0 9 (dk_at dksX20_floatBits_0 3 rfl rfl)
theorem dX20_floatBits_6 : decode cX20_floatBits 6 = .ok (.ldc2_w 112, 3) := dk_20 0 112 (dk_at dksX20_floatBits_0 6 rfl rfl)
theorem dX20_floatBits_9 : decode cX20_floatBits 9 = .ok (.goto 8, 3) := dk_167 0 8 (dk_at dksX20_floatBits_0 9 rfl rfl)
theorem dX20_floatBits_12 : decode cX20_floatBits 12 = .ok (.fload_n 0, 1) := dk_34 (dk_at dksX20_floatBits_0 12 rfl rfl)
theorem dX20_floatBits_13 : decode cX20_floatBits 13 = .ok (.invokestatic 114, 3) := dk_184 0 114 (dk_at dksX20_floatBits_0 13 rfl rfl)
theorem dX20_floatBits_16 : decode cX20_floatBits 16 = .ok (.i2l, 1) := dk_133 (dk_at dksX20_floatBits_0 16 rfl rfl)
theorem dX20_floatBits_17 : decode cX20_floatBits 17 = .ok (.lreturn, 1) := dk_173 (dk_at dksX20_floatBits_0 17 rfl rfl)
abbrev cX20_realOfBits : ByteArray := prog_29_method_2_code
def yX20_realOfBits : MethodName := ⟨RX20, "realOfBits", "(J)D"⟩
def dkwX20_realOfBits_0 : List UInt8 := [30, 20, 0, 79, 127, 20, 0, 81, 148, 158, 0, 9, 20, 0, 85, 167, 0, 7, 30, 184, 0, 87, 175]
abbrev dktX20_realOfBits_0 : List UInt8 := dkwX20_realOfBits_0 ++ []
theorem dksX20_realOfBits_0 : cX20_realOfBits.data.toList.drop 0 = dktX20_realOfBits_0 := by decide +kernel
theorem dX20_realOfBits_0 : decode cX20_realOfBits 0 = .ok (.lload_n 0, 1) := dk_30 (dk_at dksX20_realOfBits_0 0 rfl rfl)
theorem dX20_realOfBits_1 : decode cX20_realOfBits 1 = .ok (.ldc2_w 79, 3) := dk_20 0 79 (dk_at dksX20_realOfBits_0 1 rfl rfl)
theorem dX20_realOfBits_4 : decode cX20_realOfBits 4 = .ok (.land, 1) := dk_127 (dk_at dksX20_realOfBits_0 4 rfl rfl)
theorem dX20_realOfBits_5 : decode cX20_realOfBits 5 = .ok (.ldc2_w 81, 3) := dk_20 0 81 (dk_at dksX20_realOfBits_0 5 rfl rfl)
theorem dX20_realOfBits_8 : decode cX20_realOfBits 8 = .ok (.lcmp, 1) := dk_148 (dk_at dksX20_realOfBits_0 8 rfl rfl)
theorem dX20_realOfBits_9 : decode cX20_realOfBits 9 = .ok (.ifCond .le 9, 3) := dk_158 0 9 (dk_at dksX20_realOfBits_0 9 rfl rfl)
theorem dX20_realOfBits_12 : decode cX20_realOfBits 12 = .ok (.ldc2_w 85, 3) := dk_20 0 85 (dk_at dksX20_realOfBits_0 12 rfl rfl)
theorem dX20_realOfBits_15 : decode cX20_realOfBits 15 = .ok (.goto 7, 3) := dk_167 0 7 (dk_at dksX20_realOfBits_0 15 rfl rfl)
theorem dX20_realOfBits_18 : decode cX20_realOfBits 18 = .ok (.lload_n 0, 1) := dk_30 (dk_at dksX20_realOfBits_0 18 rfl rfl)
theorem dX20_realOfBits_19 : decode cX20_realOfBits 19 = .ok (.invokestatic 87, 3) := dk_184 0 87 (dk_at dksX20_realOfBits_0 19 rfl rfl)
theorem dX20_realOfBits_22 : decode cX20_realOfBits 22 = .ok (.dreturn, 1) := dk_175 (dk_at dksX20_realOfBits_0 22 rfl rfl)
abbrev cX20_doubleBits : ByteArray := prog_29_method_7_code
def yX20_doubleBits : MethodName := ⟨RX20, "doubleBits", "(D)J"⟩
def dkwX20_doubleBits_0 : List UInt8 := [38, 38, 151, 153, 0, 9, 20, 0, 106, 167, 0, 7, 38, 184, 0, 108, 173]
abbrev dktX20_doubleBits_0 : List UInt8 := dkwX20_doubleBits_0 ++ []
theorem dksX20_doubleBits_0 : cX20_doubleBits.data.toList.drop 0 = dktX20_doubleBits_0 := by decide +kernel
theorem dX20_doubleBits_0 : decode cX20_doubleBits 0 = .ok (.dload_n 0, 1) := dk_38 (dk_at dksX20_doubleBits_0 0 rfl rfl)
theorem dX20_doubleBits_1 : decode cX20_doubleBits 1 = .ok (.dload_n 0, 1) := dk_38 (dk_at dksX20_doubleBits_0 1 rfl rfl)
theorem dX20_doubleBits_2 : decode cX20_doubleBits 2 = .ok (.dcmp .l, 1) := dk_151 (dk_at dksX20_doubleBits_0 2 rfl rfl)
theorem dX20_doubleBits_3 : decode cX20_doubleBits 3 = .ok (.ifCond .eq 9, 3) := dk_153 0 9 (dk_at dksX20_doubleBits_0 3 rfl rfl)
theorem dX20_doubleBits_6 : decode cX20_doubleBits 6 = .ok (.ldc2_w 106, 3) := dk_20 0 106 (dk_at dksX20_doubleBits_0 6 rfl rfl)
theorem dX20_doubleBits_9 : decode cX20_doubleBits 9 = .ok (.goto 7, 3) := dk_167 0 7 (dk_at dksX20_doubleBits_0 9 rfl rfl)
theorem dX20_doubleBits_12 : decode cX20_doubleBits 12 = .ok (.dload_n 0, 1) := dk_38 (dk_at dksX20_doubleBits_0 12 rfl rfl)
theorem dX20_doubleBits_13 : decode cX20_doubleBits 13 = .ok (.invokestatic 108, 3) := dk_184 0 108 (dk_at dksX20_doubleBits_0 13 rfl rfl)
theorem dX20_doubleBits_16 : decode cX20_doubleBits 16 = .ok (.lreturn, 1) := dk_173 (dk_at dksX20_doubleBits_0 16 rfl rfl)
abbrev cX20_newInner : ByteArray := prog_29_method_16_code
def yX20_newInner : MethodName := ⟨RX20, "newInner", "(I)I"⟩
def dkwX20_newInner_2 : List UInt8 := [181, 0, 158, 42, 180, 0, 158, 4, 100, 172]
abbrev dktX20_newInner_2 : List UInt8 := dkwX20_newInner_2 ++ []
def dkwX20_newInner_1 : List UInt8 := [42, 180, 0, 158, 104, 28, 96, 3, 79, 132, 2, 1, 167, 255, 232, 42, 89, 180, 0, 158, 4, 96]
abbrev dktX20_newInner_1 : List UInt8 := dkwX20_newInner_1 ++ dktX20_newInner_2
def dkwX20_newInner_0 : List UInt8 := [42, 180, 0, 26, 42, 180, 0, 158, 27, 79, 3, 61, 28, 16, 40, 162, 0, 24, 42, 180, 0, 30, 16, 40]
abbrev dktX20_newInner_0 : List UInt8 := dkwX20_newInner_0 ++ dktX20_newInner_1
theorem dksX20_newInner_0 : cX20_newInner.data.toList.drop 0 = dktX20_newInner_0 := by decide +kernel
theorem dksX20_newInner_1 : cX20_newInner.data.toList.drop 24 = dktX20_newInner_1 := dk_seg dksX20_newInner_0 24 rfl rfl
theorem dksX20_newInner_2 : cX20_newInner.data.toList.drop 46 = dktX20_newInner_2 := dk_seg dksX20_newInner_1 22 rfl rfl
theorem dX20_newInner_0 : decode cX20_newInner 0 = .ok (.aload_n 0, 1) := dk_42 (dk_at dksX20_newInner_0 0 rfl rfl)
theorem dX20_newInner_1 : decode cX20_newInner 1 = .ok (.getfield 26, 3) := dk_180 0 26 (dk_at dksX20_newInner_0 1 rfl rfl)
theorem dX20_newInner_4 : decode cX20_newInner 4 = .ok (.aload_n 0, 1) := dk_42 (dk_at dksX20_newInner_0 4 rfl rfl)
theorem dX20_newInner_5 : decode cX20_newInner 5 = .ok (.getfield 158, 3) := dk_180 0 158 (dk_at dksX20_newInner_0 5 rfl rfl)
theorem dX20_newInner_8 : decode cX20_newInner 8 = .ok (.iload_n 1, 1) := dk_27 (dk_at dksX20_newInner_0 8 rfl rfl)
theorem dX20_newInner_9 : decode cX20_newInner 9 = .ok (.iastore, 1) := dk_79 (dk_at dksX20_newInner_0 9 rfl rfl)
theorem dX20_newInner_10 : decode cX20_newInner 10 = .ok (.iconst 0, 1) := dk_3 (dk_at dksX20_newInner_0 10 rfl rfl)
theorem dX20_newInner_11 : decode cX20_newInner 11 = .ok (.istore_n 2, 1) := dk_61 (dk_at dksX20_newInner_0 11 rfl rfl)
theorem dX20_newInner_12 : decode cX20_newInner 12 = .ok (.iload_n 2, 1) := dk_28 (dk_at dksX20_newInner_0 12 rfl rfl)
theorem dX20_newInner_13 : decode cX20_newInner 13 = .ok (.bipush 40, 2) := dk_16 40 (dk_at dksX20_newInner_0 13 rfl rfl)
theorem dX20_newInner_15 : decode cX20_newInner 15 = .ok (.if_icmp .ge 24, 3) := dk_162 0 24 (dk_at dksX20_newInner_0 15 rfl rfl)
theorem dX20_newInner_18 : decode cX20_newInner 18 = .ok (.aload_n 0, 1) := dk_42 (dk_at dksX20_newInner_0 18 rfl rfl)
theorem dX20_newInner_19 : decode cX20_newInner 19 = .ok (.getfield 30, 3) := dk_180 0 30 (dk_at dksX20_newInner_0 19 rfl rfl)
theorem dX20_newInner_22 : decode cX20_newInner 22 = .ok (.bipush 40, 2) := dk_16 40 (dk_at dksX20_newInner_0 22 rfl rfl)
theorem dX20_newInner_24 : decode cX20_newInner 24 = .ok (.aload_n 0, 1) := dk_42 (dk_at dksX20_newInner_1 0 rfl rfl)
theorem dX20_newInner_25 : decode cX20_newInner 25 = .ok (.getfield 158, 3) := dk_180 0 158 (dk_at dksX20_newInner_1 1 rfl rfl)
theorem dX20_newInner_28 : decode cX20_newInner 28 = .ok (.imul, 1) := dk_104 (dk_at dksX20_newInner_1 4 rfl rfl)
theorem dX20_newInner_29 : decode cX20_newInner 29 = .ok (.iload_n 2, 1) := dk_28 (dk_at dksX20_newInner_1 5 rfl rfl)
theorem dX20_newInner_30 : decode cX20_newInner 30 = .ok (.iadd, 1) := dk_96 (dk_at dksX20_newInner_1 6 rfl rfl)
theorem dX20_newInner_31 : decode cX20_newInner 31 = .ok (.iconst 0, 1) := dk_3 (dk_at dksX20_newInner_1 7 rfl rfl)
theorem dX20_newInner_32 : decode cX20_newInner 32 = .ok (.iastore, 1) := dk_79 (dk_at dksX20_newInner_1 8 rfl rfl)
theorem dX20_newInner_33 : decode cX20_newInner 33 = .ok (.iinc 2 1, 3) := dk_132 2 1 (dk_at dksX20_newInner_1 9 rfl rfl)
theorem dX20_newInner_36 : decode cX20_newInner 36 = .ok (.goto (-24), 3) := dk_167 255 232 (dk_at dksX20_newInner_1 12 rfl rfl)
theorem dX20_newInner_39 : decode cX20_newInner 39 = .ok (.aload_n 0, 1) := dk_42 (dk_at dksX20_newInner_1 15 rfl rfl)
theorem dX20_newInner_40 : decode cX20_newInner 40 = .ok (.dup, 1) := dk_89 (dk_at dksX20_newInner_1 16 rfl rfl)
theorem dX20_newInner_41 : decode cX20_newInner 41 = .ok (.getfield 158, 3) := dk_180 0 158 (dk_at dksX20_newInner_1 17 rfl rfl)
theorem dX20_newInner_44 : decode cX20_newInner 44 = .ok (.iconst 1, 1) := dk_4 (dk_at dksX20_newInner_1 20 rfl rfl)
theorem dX20_newInner_45 : decode cX20_newInner 45 = .ok (.iadd, 1) := dk_96 (dk_at dksX20_newInner_1 21 rfl rfl)
theorem dX20_newInner_46 : decode cX20_newInner 46 = .ok (.putfield 158, 3) := dk_181 0 158 (dk_at dksX20_newInner_2 0 rfl rfl)
theorem dX20_newInner_49 : decode cX20_newInner 49 = .ok (.aload_n 0, 1) := dk_42 (dk_at dksX20_newInner_2 3 rfl rfl)
theorem dX20_newInner_50 : decode cX20_newInner 50 = .ok (.getfield 158, 3) := dk_180 0 158 (dk_at dksX20_newInner_2 4 rfl rfl)
theorem dX20_newInner_53 : decode cX20_newInner 53 = .ok (.iconst 1, 1) := dk_4 (dk_at dksX20_newInner_2 7 rfl rfl)
theorem dX20_newInner_54 : decode cX20_newInner 54 = .ok (.isub, 1) := dk_100 (dk_at dksX20_newInner_2 8 rfl rfl)
theorem dX20_newInner_55 : decode cX20_newInner 55 = .ok (.ireturn, 1) := dk_172 (dk_at dksX20_newInner_2 9 rfl rfl)
abbrev cX20_at : ByteArray := prog_29_method_18_code
def yX20_at : MethodName := ⟨RX20, "at", "(II)J"⟩
def dkwX20_at_3 : List UInt8 := [9, 148, 155, 0, 14, 42, 180, 0, 26, 33, 136, 46, 133, 167, 0, 4, 33, 173]
abbrev dktX20_at_3 : List UInt8 := dkwX20_at_3 ++ []
def dkwX20_at_2 : List UInt8 := [42, 180, 0, 16, 16, 40, 27, 104, 28, 96, 47, 66, 42, 180, 0, 7, 27, 46, 16, 10, 160, 0, 20, 33]
abbrev dktX20_at_2 : List UInt8 := dkwX20_at_2 ++ dktX20_at_3
def dkwX20_at_1 : List UInt8 := [133, 184, 0, 123, 154, 0, 7, 5, 167, 0, 4, 3, 181, 0, 100, 42, 180, 0, 100, 158, 0, 5, 9, 173]
abbrev dktX20_at_1 : List UInt8 := dkwX20_at_1 ++ dktX20_at_2
def dkwX20_at_0 : List UInt8 := [42, 42, 27, 182, 0, 161, 154, 0, 7, 4, 167, 0, 26, 28, 133, 9, 42, 180, 0, 13, 27, 46, 4, 100]
abbrev dktX20_at_0 : List UInt8 := dkwX20_at_0 ++ dktX20_at_1
theorem dksX20_at_0 : cX20_at.data.toList.drop 0 = dktX20_at_0 := by decide +kernel
theorem dksX20_at_1 : cX20_at.data.toList.drop 24 = dktX20_at_1 := dk_seg dksX20_at_0 24 rfl rfl
theorem dksX20_at_2 : cX20_at.data.toList.drop 48 = dktX20_at_2 := dk_seg dksX20_at_1 24 rfl rfl
theorem dksX20_at_3 : cX20_at.data.toList.drop 72 = dktX20_at_3 := dk_seg dksX20_at_2 24 rfl rfl
theorem dX20_at_0 : decode cX20_at 0 = .ok (.aload_n 0, 1) := dk_42 (dk_at dksX20_at_0 0 rfl rfl)
theorem dX20_at_1 : decode cX20_at 1 = .ok (.aload_n 0, 1) := dk_42 (dk_at dksX20_at_0 1 rfl rfl)
theorem dX20_at_2 : decode cX20_at 2 = .ok (.iload_n 1, 1) := dk_27 (dk_at dksX20_at_0 2 rfl rfl)
theorem dX20_at_3 : decode cX20_at 3 = .ok (.invokevirtual 161, 3) := dk_182 0 161 (dk_at dksX20_at_0 3 rfl rfl)
theorem dX20_at_6 : decode cX20_at 6 = .ok (.ifCond .ne 7, 3) := dk_154 0 7 (dk_at dksX20_at_0 6 rfl rfl)
theorem dX20_at_9 : decode cX20_at 9 = .ok (.iconst 1, 1) := dk_4 (dk_at dksX20_at_0 9 rfl rfl)
theorem dX20_at_10 : decode cX20_at 10 = .ok (.goto 26, 3) := dk_167 0 26 (dk_at dksX20_at_0 10 rfl rfl)
theorem dX20_at_13 : decode cX20_at 13 = .ok (.iload_n 2, 1) := dk_28 (dk_at dksX20_at_0 13 rfl rfl)
theorem dX20_at_14 : decode cX20_at 14 = .ok (.i2l, 1) := dk_133 (dk_at dksX20_at_0 14 rfl rfl)
theorem dX20_at_15 : decode cX20_at 15 = .ok (.lconst 0, 1) := dk_9 (dk_at dksX20_at_0 15 rfl rfl)
theorem dX20_at_16 : decode cX20_at 16 = .ok (.aload_n 0, 1) := dk_42 (dk_at dksX20_at_0 16 rfl rfl)
theorem dX20_at_17 : decode cX20_at 17 = .ok (.getfield 13, 3) := dk_180 0 13 (dk_at dksX20_at_0 17 rfl rfl)
theorem dX20_at_20 : decode cX20_at 20 = .ok (.iload_n 1, 1) := dk_27 (dk_at dksX20_at_0 20 rfl rfl)
theorem dX20_at_21 : decode cX20_at 21 = .ok (.iaload, 1) := dk_46 (dk_at dksX20_at_0 21 rfl rfl)
theorem dX20_at_22 : decode cX20_at 22 = .ok (.iconst 1, 1) := dk_4 (dk_at dksX20_at_0 22 rfl rfl)
theorem dX20_at_23 : decode cX20_at 23 = .ok (.isub, 1) := dk_100 (dk_at dksX20_at_0 23 rfl rfl)
theorem dX20_at_24 : decode cX20_at 24 = .ok (.i2l, 1) := dk_133 (dk_at dksX20_at_1 0 rfl rfl)
theorem dX20_at_25 : decode cX20_at 25 = .ok (.invokestatic 123, 3) := dk_184 0 123 (dk_at dksX20_at_1 1 rfl rfl)
theorem dX20_at_28 : decode cX20_at 28 = .ok (.ifCond .ne 7, 3) := dk_154 0 7 (dk_at dksX20_at_1 4 rfl rfl)
theorem dX20_at_31 : decode cX20_at 31 = .ok (.iconst 2, 1) := dk_5 (dk_at dksX20_at_1 7 rfl rfl)
theorem dX20_at_32 : decode cX20_at 32 = .ok (.goto 4, 3) := dk_167 0 4 (dk_at dksX20_at_1 8 rfl rfl)
theorem dX20_at_35 : decode cX20_at 35 = .ok (.iconst 0, 1) := dk_3 (dk_at dksX20_at_1 11 rfl rfl)
theorem dX20_at_36 : decode cX20_at 36 = .ok (.putfield 100, 3) := dk_181 0 100 (dk_at dksX20_at_1 12 rfl rfl)
theorem dX20_at_39 : decode cX20_at 39 = .ok (.aload_n 0, 1) := dk_42 (dk_at dksX20_at_1 15 rfl rfl)
theorem dX20_at_40 : decode cX20_at 40 = .ok (.getfield 100, 3) := dk_180 0 100 (dk_at dksX20_at_1 16 rfl rfl)
theorem dX20_at_43 : decode cX20_at 43 = .ok (.ifCond .le 5, 3) := dk_158 0 5 (dk_at dksX20_at_1 19 rfl rfl)
theorem dX20_at_46 : decode cX20_at 46 = .ok (.lconst 0, 1) := dk_9 (dk_at dksX20_at_1 22 rfl rfl)
theorem dX20_at_47 : decode cX20_at 47 = .ok (.lreturn, 1) := dk_173 (dk_at dksX20_at_1 23 rfl rfl)
theorem dX20_at_48 : decode cX20_at 48 = .ok (.aload_n 0, 1) := dk_42 (dk_at dksX20_at_2 0 rfl rfl)
theorem dX20_at_49 : decode cX20_at 49 = .ok (.getfield 16, 3) := dk_180 0 16 (dk_at dksX20_at_2 1 rfl rfl)
theorem dX20_at_52 : decode cX20_at 52 = .ok (.bipush 40, 2) := dk_16 40 (dk_at dksX20_at_2 4 rfl rfl)
theorem dX20_at_54 : decode cX20_at 54 = .ok (.iload_n 1, 1) := dk_27 (dk_at dksX20_at_2 6 rfl rfl)
theorem dX20_at_55 : decode cX20_at 55 = .ok (.imul, 1) := dk_104 (dk_at dksX20_at_2 7 rfl rfl)
theorem dX20_at_56 : decode cX20_at 56 = .ok (.iload_n 2, 1) := dk_28 (dk_at dksX20_at_2 8 rfl rfl)
theorem dX20_at_57 : decode cX20_at 57 = .ok (.iadd, 1) := dk_96 (dk_at dksX20_at_2 9 rfl rfl)
theorem dX20_at_58 : decode cX20_at 58 = .ok (.laload, 1) := dk_47 (dk_at dksX20_at_2 10 rfl rfl)
theorem dX20_at_59 : decode cX20_at 59 = .ok (.lstore_n 3, 1) := dk_66 (dk_at dksX20_at_2 11 rfl rfl)
theorem dX20_at_60 : decode cX20_at 60 = .ok (.aload_n 0, 1) := dk_42 (dk_at dksX20_at_2 12 rfl rfl)
theorem dX20_at_61 : decode cX20_at 61 = .ok (.getfield 7, 3) := dk_180 0 7 (dk_at dksX20_at_2 13 rfl rfl)
theorem dX20_at_64 : decode cX20_at 64 = .ok (.iload_n 1, 1) := dk_27 (dk_at dksX20_at_2 16 rfl rfl)
theorem dX20_at_65 : decode cX20_at 65 = .ok (.iaload, 1) := dk_46 (dk_at dksX20_at_2 17 rfl rfl)
theorem dX20_at_66 : decode cX20_at 66 = .ok (.bipush 10, 2) := dk_16 10 (dk_at dksX20_at_2 18 rfl rfl)
theorem dX20_at_68 : decode cX20_at 68 = .ok (.if_icmp .ne 20, 3) := dk_160 0 20 (dk_at dksX20_at_2 20 rfl rfl)
theorem dX20_at_71 : decode cX20_at 71 = .ok (.lload_n 3, 1) := dk_33 (dk_at dksX20_at_2 23 rfl rfl)
theorem dX20_at_72 : decode cX20_at 72 = .ok (.lconst 0, 1) := dk_9 (dk_at dksX20_at_3 0 rfl rfl)
theorem dX20_at_73 : decode cX20_at 73 = .ok (.lcmp, 1) := dk_148 (dk_at dksX20_at_3 1 rfl rfl)
theorem dX20_at_74 : decode cX20_at 74 = .ok (.ifCond .lt 14, 3) := dk_155 0 14 (dk_at dksX20_at_3 2 rfl rfl)
theorem dX20_at_77 : decode cX20_at 77 = .ok (.aload_n 0, 1) := dk_42 (dk_at dksX20_at_3 5 rfl rfl)
theorem dX20_at_78 : decode cX20_at 78 = .ok (.getfield 26, 3) := dk_180 0 26 (dk_at dksX20_at_3 6 rfl rfl)
theorem dX20_at_81 : decode cX20_at 81 = .ok (.lload_n 3, 1) := dk_33 (dk_at dksX20_at_3 9 rfl rfl)
theorem dX20_at_82 : decode cX20_at 82 = .ok (.l2i, 1) := dk_136 (dk_at dksX20_at_3 10 rfl rfl)
theorem dX20_at_83 : decode cX20_at 83 = .ok (.iaload, 1) := dk_46 (dk_at dksX20_at_3 11 rfl rfl)
theorem dX20_at_84 : decode cX20_at 84 = .ok (.i2l, 1) := dk_133 (dk_at dksX20_at_3 12 rfl rfl)
theorem dX20_at_85 : decode cX20_at 85 = .ok (.goto 4, 3) := dk_167 0 4 (dk_at dksX20_at_3 13 rfl rfl)
theorem dX20_at_88 : decode cX20_at 88 = .ok (.lload_n 3, 1) := dk_33 (dk_at dksX20_at_3 16 rfl rfl)
theorem dX20_at_89 : decode cX20_at 89 = .ok (.lreturn, 1) := dk_173 (dk_at dksX20_at_3 17 rfl rfl)
abbrev cX20_inner : ByteArray := prog_29_method_19_code
def yX20_inner : MethodName := ⟨RX20, "inner", "(IIII)I"⟩
def dkwX20_inner_6 : List UInt8 := [16, 40, 21, 5, 104, 29, 96, 21, 4, 79, 21, 6, 172]
abbrev dktX20_inner_6 : List UInt8 := dkwX20_inner_6 ++ []
def dkwX20_inner_5 : List UInt8 := [181, 0, 100, 3, 172, 42, 180, 0, 30, 16, 40, 21, 5, 104, 29, 96, 46, 54, 6, 42, 180, 0, 30]
abbrev dktX20_inner_5 : List UInt8 := dkwX20_inner_5 ++ dktX20_inner_6
def dkwX20_inner_4 : List UInt8 := [54, 5, 29, 133, 9, 42, 180, 0, 26, 21, 5, 46, 4, 100, 133, 184, 0, 123, 154, 0, 10, 42, 6]
abbrev dktX20_inner_4 : List UInt8 := dkwX20_inner_4 ++ dktX20_inner_5
def dkwX20_inner_3 : List UInt8 := [181, 0, 100, 42, 180, 0, 100, 158, 0, 5, 3, 172, 42, 180, 0, 16, 16, 40, 27, 104, 28, 96, 47, 136]
abbrev dktX20_inner_3 : List UInt8 := dkwX20_inner_3 ++ dktX20_inner_4
def dkwX20_inner_2 : List UInt8 := [167, 0, 24, 42, 180, 0, 16, 16, 40, 27, 104, 28, 96, 47, 9, 148, 156, 0, 7, 4, 167, 0, 4, 3]
abbrev dktX20_inner_2 : List UInt8 := dkwX20_inner_2 ++ dktX20_inner_3
def dkwX20_inner_1 : List UInt8 := [5, 167, 0, 46, 28, 133, 9, 42, 180, 0, 13, 27, 46, 4, 100, 133, 184, 0, 123, 154, 0, 7, 6]
abbrev dktX20_inner_1 : List UInt8 := dkwX20_inner_1 ++ dktX20_inner_2
def dkwX20_inner_0 : List UInt8 := [42, 42, 27, 182, 0, 161, 154, 0, 7, 4, 167, 0, 61, 42, 180, 0, 7, 27, 46, 16, 10, 159, 0, 7]
abbrev dktX20_inner_0 : List UInt8 := dkwX20_inner_0 ++ dktX20_inner_1
theorem dksX20_inner_0 : cX20_inner.data.toList.drop 0 = dktX20_inner_0 := by decide +kernel
theorem dksX20_inner_1 : cX20_inner.data.toList.drop 24 = dktX20_inner_1 := dk_seg dksX20_inner_0 24 rfl rfl
theorem dksX20_inner_2 : cX20_inner.data.toList.drop 47 = dktX20_inner_2 := dk_seg dksX20_inner_1 23 rfl rfl
theorem dksX20_inner_3 : cX20_inner.data.toList.drop 71 = dktX20_inner_3 := dk_seg dksX20_inner_2 24 rfl rfl
theorem dksX20_inner_4 : cX20_inner.data.toList.drop 95 = dktX20_inner_4 := dk_seg dksX20_inner_3 24 rfl rfl
theorem dksX20_inner_5 : cX20_inner.data.toList.drop 118 = dktX20_inner_5 := dk_seg dksX20_inner_4 23 rfl rfl
theorem dksX20_inner_6 : cX20_inner.data.toList.drop 141 = dktX20_inner_6 := dk_seg dksX20_inner_5 23 rfl rfl
theorem dX20_inner_0 : decode cX20_inner 0 = .ok (.aload_n 0, 1) := dk_42 (dk_at dksX20_inner_0 0 rfl rfl)
theorem dX20_inner_1 : decode cX20_inner 1 = .ok (.aload_n 0, 1) := dk_42 (dk_at dksX20_inner_0 1 rfl rfl)
theorem dX20_inner_2 : decode cX20_inner 2 = .ok (.iload_n 1, 1) := dk_27 (dk_at dksX20_inner_0 2 rfl rfl)
theorem dX20_inner_3 : decode cX20_inner 3 = .ok (.invokevirtual 161, 3) := dk_182 0 161 (dk_at dksX20_inner_0 3 rfl rfl)
theorem dX20_inner_6 : decode cX20_inner 6 = .ok (.ifCond .ne 7, 3) := dk_154 0 7 (dk_at dksX20_inner_0 6 rfl rfl)
theorem dX20_inner_9 : decode cX20_inner 9 = .ok (.iconst 1, 1) := dk_4 (dk_at dksX20_inner_0 9 rfl rfl)
theorem dX20_inner_10 : decode cX20_inner 10 = .ok (.goto 61, 3) := dk_167 0 61 (dk_at dksX20_inner_0 10 rfl rfl)
theorem dX20_inner_13 : decode cX20_inner 13 = .ok (.aload_n 0, 1) := dk_42 (dk_at dksX20_inner_0 13 rfl rfl)
theorem dX20_inner_14 : decode cX20_inner 14 = .ok (.getfield 7, 3) := dk_180 0 7 (dk_at dksX20_inner_0 14 rfl rfl)
theorem dX20_inner_17 : decode cX20_inner 17 = .ok (.iload_n 1, 1) := dk_27 (dk_at dksX20_inner_0 17 rfl rfl)
theorem dX20_inner_18 : decode cX20_inner 18 = .ok (.iaload, 1) := dk_46 (dk_at dksX20_inner_0 18 rfl rfl)
theorem dX20_inner_19 : decode cX20_inner 19 = .ok (.bipush 10, 2) := dk_16 10 (dk_at dksX20_inner_0 19 rfl rfl)
theorem dX20_inner_21 : decode cX20_inner 21 = .ok (.if_icmp .eq 7, 3) := dk_159 0 7 (dk_at dksX20_inner_0 21 rfl rfl)
theorem dX20_inner_24 : decode cX20_inner 24 = .ok (.iconst 2, 1) := dk_5 (dk_at dksX20_inner_1 0 rfl rfl)
theorem dX20_inner_25 : decode cX20_inner 25 = .ok (.goto 46, 3) := dk_167 0 46 (dk_at dksX20_inner_1 1 rfl rfl)
theorem dX20_inner_28 : decode cX20_inner 28 = .ok (.iload_n 2, 1) := dk_28 (dk_at dksX20_inner_1 4 rfl rfl)
theorem dX20_inner_29 : decode cX20_inner 29 = .ok (.i2l, 1) := dk_133 (dk_at dksX20_inner_1 5 rfl rfl)
theorem dX20_inner_30 : decode cX20_inner 30 = .ok (.lconst 0, 1) := dk_9 (dk_at dksX20_inner_1 6 rfl rfl)
theorem dX20_inner_31 : decode cX20_inner 31 = .ok (.aload_n 0, 1) := dk_42 (dk_at dksX20_inner_1 7 rfl rfl)
theorem dX20_inner_32 : decode cX20_inner 32 = .ok (.getfield 13, 3) := dk_180 0 13 (dk_at dksX20_inner_1 8 rfl rfl)
theorem dX20_inner_35 : decode cX20_inner 35 = .ok (.iload_n 1, 1) := dk_27 (dk_at dksX20_inner_1 11 rfl rfl)
theorem dX20_inner_36 : decode cX20_inner 36 = .ok (.iaload, 1) := dk_46 (dk_at dksX20_inner_1 12 rfl rfl)
theorem dX20_inner_37 : decode cX20_inner 37 = .ok (.iconst 1, 1) := dk_4 (dk_at dksX20_inner_1 13 rfl rfl)
theorem dX20_inner_38 : decode cX20_inner 38 = .ok (.isub, 1) := dk_100 (dk_at dksX20_inner_1 14 rfl rfl)
theorem dX20_inner_39 : decode cX20_inner 39 = .ok (.i2l, 1) := dk_133 (dk_at dksX20_inner_1 15 rfl rfl)
theorem dX20_inner_40 : decode cX20_inner 40 = .ok (.invokestatic 123, 3) := dk_184 0 123 (dk_at dksX20_inner_1 16 rfl rfl)
theorem dX20_inner_43 : decode cX20_inner 43 = .ok (.ifCond .ne 7, 3) := dk_154 0 7 (dk_at dksX20_inner_1 19 rfl rfl)
theorem dX20_inner_46 : decode cX20_inner 46 = .ok (.iconst 3, 1) := dk_6 (dk_at dksX20_inner_1 22 rfl rfl)
theorem dX20_inner_47 : decode cX20_inner 47 = .ok (.goto 24, 3) := dk_167 0 24 (dk_at dksX20_inner_2 0 rfl rfl)
theorem dX20_inner_50 : decode cX20_inner 50 = .ok (.aload_n 0, 1) := dk_42 (dk_at dksX20_inner_2 3 rfl rfl)
theorem dX20_inner_51 : decode cX20_inner 51 = .ok (.getfield 16, 3) := dk_180 0 16 (dk_at dksX20_inner_2 4 rfl rfl)
theorem dX20_inner_54 : decode cX20_inner 54 = .ok (.bipush 40, 2) := dk_16 40 (dk_at dksX20_inner_2 7 rfl rfl)
theorem dX20_inner_56 : decode cX20_inner 56 = .ok (.iload_n 1, 1) := dk_27 (dk_at dksX20_inner_2 9 rfl rfl)
theorem dX20_inner_57 : decode cX20_inner 57 = .ok (.imul, 1) := dk_104 (dk_at dksX20_inner_2 10 rfl rfl)
theorem dX20_inner_58 : decode cX20_inner 58 = .ok (.iload_n 2, 1) := dk_28 (dk_at dksX20_inner_2 11 rfl rfl)
theorem dX20_inner_59 : decode cX20_inner 59 = .ok (.iadd, 1) := dk_96 (dk_at dksX20_inner_2 12 rfl rfl)
theorem dX20_inner_60 : decode cX20_inner 60 = .ok (.laload, 1) := dk_47 (dk_at dksX20_inner_2 13 rfl rfl)
theorem dX20_inner_61 : decode cX20_inner 61 = .ok (.lconst 0, 1) := dk_9 (dk_at dksX20_inner_2 14 rfl rfl)
theorem dX20_inner_62 : decode cX20_inner 62 = .ok (.lcmp, 1) := dk_148 (dk_at dksX20_inner_2 15 rfl rfl)
theorem dX20_inner_63 : decode cX20_inner 63 = .ok (.ifCond .ge 7, 3) := dk_156 0 7 (dk_at dksX20_inner_2 16 rfl rfl)
theorem dX20_inner_66 : decode cX20_inner 66 = .ok (.iconst 1, 1) := dk_4 (dk_at dksX20_inner_2 19 rfl rfl)
theorem dX20_inner_67 : decode cX20_inner 67 = .ok (.goto 4, 3) := dk_167 0 4 (dk_at dksX20_inner_2 20 rfl rfl)
theorem dX20_inner_70 : decode cX20_inner 70 = .ok (.iconst 0, 1) := dk_3 (dk_at dksX20_inner_2 23 rfl rfl)
theorem dX20_inner_71 : decode cX20_inner 71 = .ok (.putfield 100, 3) := dk_181 0 100 (dk_at dksX20_inner_3 0 rfl rfl)
theorem dX20_inner_74 : decode cX20_inner 74 = .ok (.aload_n 0, 1) := dk_42 (dk_at dksX20_inner_3 3 rfl rfl)
theorem dX20_inner_75 : decode cX20_inner 75 = .ok (.getfield 100, 3) := dk_180 0 100 (dk_at dksX20_inner_3 4 rfl rfl)
theorem dX20_inner_78 : decode cX20_inner 78 = .ok (.ifCond .le 5, 3) := dk_158 0 5 (dk_at dksX20_inner_3 7 rfl rfl)
theorem dX20_inner_81 : decode cX20_inner 81 = .ok (.iconst 0, 1) := dk_3 (dk_at dksX20_inner_3 10 rfl rfl)
theorem dX20_inner_82 : decode cX20_inner 82 = .ok (.ireturn, 1) := dk_172 (dk_at dksX20_inner_3 11 rfl rfl)
theorem dX20_inner_83 : decode cX20_inner 83 = .ok (.aload_n 0, 1) := dk_42 (dk_at dksX20_inner_3 12 rfl rfl)
theorem dX20_inner_84 : decode cX20_inner 84 = .ok (.getfield 16, 3) := dk_180 0 16 (dk_at dksX20_inner_3 13 rfl rfl)
theorem dX20_inner_87 : decode cX20_inner 87 = .ok (.bipush 40, 2) := dk_16 40 (dk_at dksX20_inner_3 16 rfl rfl)
theorem dX20_inner_89 : decode cX20_inner 89 = .ok (.iload_n 1, 1) := dk_27 (dk_at dksX20_inner_3 18 rfl rfl)
theorem dX20_inner_90 : decode cX20_inner 90 = .ok (.imul, 1) := dk_104 (dk_at dksX20_inner_3 19 rfl rfl)
theorem dX20_inner_91 : decode cX20_inner 91 = .ok (.iload_n 2, 1) := dk_28 (dk_at dksX20_inner_3 20 rfl rfl)
theorem dX20_inner_92 : decode cX20_inner 92 = .ok (.iadd, 1) := dk_96 (dk_at dksX20_inner_3 21 rfl rfl)
theorem dX20_inner_93 : decode cX20_inner 93 = .ok (.laload, 1) := dk_47 (dk_at dksX20_inner_3 22 rfl rfl)
theorem dX20_inner_94 : decode cX20_inner 94 = .ok (.l2i, 1) := dk_136 (dk_at dksX20_inner_3 23 rfl rfl)
theorem dX20_inner_95 : decode cX20_inner 95 = .ok (.istore 5, 2) := dk_54 5 (dk_at dksX20_inner_4 0 rfl rfl)
theorem dX20_inner_97 : decode cX20_inner 97 = .ok (.iload_n 3, 1) := dk_29 (dk_at dksX20_inner_4 2 rfl rfl)
theorem dX20_inner_98 : decode cX20_inner 98 = .ok (.i2l, 1) := dk_133 (dk_at dksX20_inner_4 3 rfl rfl)
theorem dX20_inner_99 : decode cX20_inner 99 = .ok (.lconst 0, 1) := dk_9 (dk_at dksX20_inner_4 4 rfl rfl)
theorem dX20_inner_100 : decode cX20_inner 100 = .ok (.aload_n 0, 1) := dk_42 (dk_at dksX20_inner_4 5 rfl rfl)
theorem dX20_inner_101 : decode cX20_inner 101 = .ok (.getfield 26, 3) := dk_180 0 26 (dk_at dksX20_inner_4 6 rfl rfl)
theorem dX20_inner_104 : decode cX20_inner 104 = .ok (.iload 5, 2) := dk_21 5 (dk_at dksX20_inner_4 9 rfl rfl)
theorem dX20_inner_106 : decode cX20_inner 106 = .ok (.iaload, 1) := dk_46 (dk_at dksX20_inner_4 11 rfl rfl)
theorem dX20_inner_107 : decode cX20_inner 107 = .ok (.iconst 1, 1) := dk_4 (dk_at dksX20_inner_4 12 rfl rfl)
theorem dX20_inner_108 : decode cX20_inner 108 = .ok (.isub, 1) := dk_100 (dk_at dksX20_inner_4 13 rfl rfl)
theorem dX20_inner_109 : decode cX20_inner 109 = .ok (.i2l, 1) := dk_133 (dk_at dksX20_inner_4 14 rfl rfl)
theorem dX20_inner_110 : decode cX20_inner 110 = .ok (.invokestatic 123, 3) := dk_184 0 123 (dk_at dksX20_inner_4 15 rfl rfl)
theorem dX20_inner_113 : decode cX20_inner 113 = .ok (.ifCond .ne 10, 3) := dk_154 0 10 (dk_at dksX20_inner_4 18 rfl rfl)
theorem dX20_inner_116 : decode cX20_inner 116 = .ok (.aload_n 0, 1) := dk_42 (dk_at dksX20_inner_4 21 rfl rfl)
theorem dX20_inner_117 : decode cX20_inner 117 = .ok (.iconst 3, 1) := dk_6 (dk_at dksX20_inner_4 22 rfl rfl)
theorem dX20_inner_118 : decode cX20_inner 118 = .ok (.putfield 100, 3) := dk_181 0 100 (dk_at dksX20_inner_5 0 rfl rfl)
theorem dX20_inner_121 : decode cX20_inner 121 = .ok (.iconst 0, 1) := dk_3 (dk_at dksX20_inner_5 3 rfl rfl)
theorem dX20_inner_122 : decode cX20_inner 122 = .ok (.ireturn, 1) := dk_172 (dk_at dksX20_inner_5 4 rfl rfl)
theorem dX20_inner_123 : decode cX20_inner 123 = .ok (.aload_n 0, 1) := dk_42 (dk_at dksX20_inner_5 5 rfl rfl)
theorem dX20_inner_124 : decode cX20_inner 124 = .ok (.getfield 30, 3) := dk_180 0 30 (dk_at dksX20_inner_5 6 rfl rfl)
theorem dX20_inner_127 : decode cX20_inner 127 = .ok (.bipush 40, 2) := dk_16 40 (dk_at dksX20_inner_5 9 rfl rfl)
theorem dX20_inner_129 : decode cX20_inner 129 = .ok (.iload 5, 2) := dk_21 5 (dk_at dksX20_inner_5 11 rfl rfl)
theorem dX20_inner_131 : decode cX20_inner 131 = .ok (.imul, 1) := dk_104 (dk_at dksX20_inner_5 13 rfl rfl)
theorem dX20_inner_132 : decode cX20_inner 132 = .ok (.iload_n 3, 1) := dk_29 (dk_at dksX20_inner_5 14 rfl rfl)
theorem dX20_inner_133 : decode cX20_inner 133 = .ok (.iadd, 1) := dk_96 (dk_at dksX20_inner_5 15 rfl rfl)
theorem dX20_inner_134 : decode cX20_inner 134 = .ok (.iaload, 1) := dk_46 (dk_at dksX20_inner_5 16 rfl rfl)
theorem dX20_inner_135 : decode cX20_inner 135 = .ok (.istore 6, 2) := dk_54 6 (dk_at dksX20_inner_5 17 rfl rfl)
theorem dX20_inner_137 : decode cX20_inner 137 = .ok (.aload_n 0, 1) := dk_42 (dk_at dksX20_inner_5 19 rfl rfl)
theorem dX20_inner_138 : decode cX20_inner 138 = .ok (.getfield 30, 3) := dk_180 0 30 (dk_at dksX20_inner_5 20 rfl rfl)
theorem dX20_inner_141 : decode cX20_inner 141 = .ok (.bipush 40, 2) := dk_16 40 (dk_at dksX20_inner_6 0 rfl rfl)
theorem dX20_inner_143 : decode cX20_inner 143 = .ok (.iload 5, 2) := dk_21 5 (dk_at dksX20_inner_6 2 rfl rfl)
theorem dX20_inner_145 : decode cX20_inner 145 = .ok (.imul, 1) := dk_104 (dk_at dksX20_inner_6 4 rfl rfl)
theorem dX20_inner_146 : decode cX20_inner 146 = .ok (.iload_n 3, 1) := dk_29 (dk_at dksX20_inner_6 5 rfl rfl)
theorem dX20_inner_147 : decode cX20_inner 147 = .ok (.iadd, 1) := dk_96 (dk_at dksX20_inner_6 6 rfl rfl)
theorem dX20_inner_148 : decode cX20_inner 148 = .ok (.iload 4, 2) := dk_21 4 (dk_at dksX20_inner_6 7 rfl rfl)
theorem dX20_inner_150 : decode cX20_inner 150 = .ok (.iastore, 1) := dk_79 (dk_at dksX20_inner_6 9 rfl rfl)
theorem dX20_inner_151 : decode cX20_inner 151 = .ok (.iload 6, 2) := dk_21 6 (dk_at dksX20_inner_6 10 rfl rfl)
theorem dX20_inner_153 : decode cX20_inner 153 = .ok (.ireturn, 1) := dk_172 (dk_at dksX20_inner_6 12 rfl rfl)
abbrev cX20_about : ByteArray := prog_29_method_20_code
def yX20_about : MethodName := ⟨RX20, "about", "(I)I"⟩
def dkwX20_about_3 : List UInt8 := [16, 154, 172]
abbrev dktX20_about_3 : List UInt8 := dkwX20_about_3 ++ []
def dkwX20_about_2 : List UInt8 := [7, 160, 0, 10, 42, 180, 0, 183, 167, 0, 17, 27, 8, 160, 0, 10, 42, 180, 0, 186, 167, 0, 5]
abbrev dktX20_about_2 : List UInt8 := dkwX20_about_2 ++ dktX20_about_3
def dkwX20_about_1 : List UInt8 := [5, 160, 0, 10, 42, 180, 0, 177, 167, 0, 41, 27, 6, 160, 0, 10, 42, 180, 0, 180, 167, 0, 29, 27]
abbrev dktX20_about_1 : List UInt8 := dkwX20_about_1 ++ dktX20_about_2
def dkwX20_about_0 : List UInt8 := [27, 154, 0, 10, 42, 180, 0, 103, 167, 0, 65, 27, 4, 160, 0, 10, 42, 180, 0, 137, 167, 0, 53, 27]
abbrev dktX20_about_0 : List UInt8 := dkwX20_about_0 ++ dktX20_about_1
theorem dksX20_about_0 : cX20_about.data.toList.drop 0 = dktX20_about_0 := by decide +kernel
theorem dksX20_about_1 : cX20_about.data.toList.drop 24 = dktX20_about_1 := dk_seg dksX20_about_0 24 rfl rfl
theorem dksX20_about_2 : cX20_about.data.toList.drop 48 = dktX20_about_2 := dk_seg dksX20_about_1 24 rfl rfl
theorem dksX20_about_3 : cX20_about.data.toList.drop 71 = dktX20_about_3 := dk_seg dksX20_about_2 23 rfl rfl
theorem dX20_about_0 : decode cX20_about 0 = .ok (.iload_n 1, 1) := dk_27 (dk_at dksX20_about_0 0 rfl rfl)
theorem dX20_about_1 : decode cX20_about 1 = .ok (.ifCond .ne 10, 3) := dk_154 0 10 (dk_at dksX20_about_0 1 rfl rfl)
theorem dX20_about_4 : decode cX20_about 4 = .ok (.aload_n 0, 1) := dk_42 (dk_at dksX20_about_0 4 rfl rfl)
theorem dX20_about_5 : decode cX20_about 5 = .ok (.getfield 103, 3) := dk_180 0 103 (dk_at dksX20_about_0 5 rfl rfl)
theorem dX20_about_8 : decode cX20_about 8 = .ok (.goto 65, 3) := dk_167 0 65 (dk_at dksX20_about_0 8 rfl rfl)
theorem dX20_about_11 : decode cX20_about 11 = .ok (.iload_n 1, 1) := dk_27 (dk_at dksX20_about_0 11 rfl rfl)
theorem dX20_about_12 : decode cX20_about 12 = .ok (.iconst 1, 1) := dk_4 (dk_at dksX20_about_0 12 rfl rfl)
theorem dX20_about_13 : decode cX20_about 13 = .ok (.if_icmp .ne 10, 3) := dk_160 0 10 (dk_at dksX20_about_0 13 rfl rfl)
theorem dX20_about_16 : decode cX20_about 16 = .ok (.aload_n 0, 1) := dk_42 (dk_at dksX20_about_0 16 rfl rfl)
theorem dX20_about_17 : decode cX20_about 17 = .ok (.getfield 137, 3) := dk_180 0 137 (dk_at dksX20_about_0 17 rfl rfl)
theorem dX20_about_20 : decode cX20_about 20 = .ok (.goto 53, 3) := dk_167 0 53 (dk_at dksX20_about_0 20 rfl rfl)
theorem dX20_about_23 : decode cX20_about 23 = .ok (.iload_n 1, 1) := dk_27 (dk_at dksX20_about_0 23 rfl rfl)
theorem dX20_about_24 : decode cX20_about 24 = .ok (.iconst 2, 1) := dk_5 (dk_at dksX20_about_1 0 rfl rfl)
theorem dX20_about_25 : decode cX20_about 25 = .ok (.if_icmp .ne 10, 3) := dk_160 0 10 (dk_at dksX20_about_1 1 rfl rfl)
theorem dX20_about_28 : decode cX20_about 28 = .ok (.aload_n 0, 1) := dk_42 (dk_at dksX20_about_1 4 rfl rfl)
theorem dX20_about_29 : decode cX20_about 29 = .ok (.getfield 177, 3) := dk_180 0 177 (dk_at dksX20_about_1 5 rfl rfl)
theorem dX20_about_32 : decode cX20_about 32 = .ok (.goto 41, 3) := dk_167 0 41 (dk_at dksX20_about_1 8 rfl rfl)
theorem dX20_about_35 : decode cX20_about 35 = .ok (.iload_n 1, 1) := dk_27 (dk_at dksX20_about_1 11 rfl rfl)
theorem dX20_about_36 : decode cX20_about 36 = .ok (.iconst 3, 1) := dk_6 (dk_at dksX20_about_1 12 rfl rfl)
theorem dX20_about_37 : decode cX20_about 37 = .ok (.if_icmp .ne 10, 3) := dk_160 0 10 (dk_at dksX20_about_1 13 rfl rfl)
theorem dX20_about_40 : decode cX20_about 40 = .ok (.aload_n 0, 1) := dk_42 (dk_at dksX20_about_1 16 rfl rfl)
theorem dX20_about_41 : decode cX20_about 41 = .ok (.getfield 180, 3) := dk_180 0 180 (dk_at dksX20_about_1 17 rfl rfl)
theorem dX20_about_44 : decode cX20_about 44 = .ok (.goto 29, 3) := dk_167 0 29 (dk_at dksX20_about_1 20 rfl rfl)
theorem dX20_about_47 : decode cX20_about 47 = .ok (.iload_n 1, 1) := dk_27 (dk_at dksX20_about_1 23 rfl rfl)
theorem dX20_about_48 : decode cX20_about 48 = .ok (.iconst 4, 1) := dk_7 (dk_at dksX20_about_2 0 rfl rfl)
theorem dX20_about_49 : decode cX20_about 49 = .ok (.if_icmp .ne 10, 3) := dk_160 0 10 (dk_at dksX20_about_2 1 rfl rfl)
theorem dX20_about_52 : decode cX20_about 52 = .ok (.aload_n 0, 1) := dk_42 (dk_at dksX20_about_2 4 rfl rfl)
theorem dX20_about_53 : decode cX20_about 53 = .ok (.getfield 183, 3) := dk_180 0 183 (dk_at dksX20_about_2 5 rfl rfl)
theorem dX20_about_56 : decode cX20_about 56 = .ok (.goto 17, 3) := dk_167 0 17 (dk_at dksX20_about_2 8 rfl rfl)
theorem dX20_about_59 : decode cX20_about 59 = .ok (.iload_n 1, 1) := dk_27 (dk_at dksX20_about_2 11 rfl rfl)
theorem dX20_about_60 : decode cX20_about 60 = .ok (.iconst 5, 1) := dk_8 (dk_at dksX20_about_2 12 rfl rfl)
theorem dX20_about_61 : decode cX20_about 61 = .ok (.if_icmp .ne 10, 3) := dk_160 0 10 (dk_at dksX20_about_2 13 rfl rfl)
theorem dX20_about_64 : decode cX20_about 64 = .ok (.aload_n 0, 1) := dk_42 (dk_at dksX20_about_2 16 rfl rfl)
theorem dX20_about_65 : decode cX20_about 65 = .ok (.getfield 186, 3) := dk_180 0 186 (dk_at dksX20_about_2 17 rfl rfl)
theorem dX20_about_68 : decode cX20_about 68 = .ok (.goto 5, 3) := dk_167 0 5 (dk_at dksX20_about_2 20 rfl rfl)
theorem dX20_about_71 : decode cX20_about 71 = .ok (.bipush (-102), 2) := dk_16 154 (dk_at dksX20_about_3 0 rfl rfl)
theorem dX20_about_73 : decode cX20_about 73 = .ok (.ireturn, 1) := dk_172 (dk_at dksX20_about_3 2 rfl rfl)
abbrev cX20_of : ByteArray := prog_29_method_21_code
def yX20_of : MethodName := ⟨RX20, "of", "(II)I"⟩
def dkwX20_of_1 : List UInt8 := [28, 4, 160, 0, 12, 42, 180, 0, 13, 27, 46, 167, 0, 5, 16, 154, 172]
abbrev dktX20_of_1 : List UInt8 := dkwX20_of_1 ++ []
def dkwX20_of_0 : List UInt8 := [42, 27, 182, 0, 161, 154, 0, 6, 16, 155, 172, 28, 154, 0, 12, 42, 180, 0, 7, 27, 46, 167, 0, 19]
abbrev dktX20_of_0 : List UInt8 := dkwX20_of_0 ++ dktX20_of_1
theorem dksX20_of_0 : cX20_of.data.toList.drop 0 = dktX20_of_0 := by decide +kernel
theorem dksX20_of_1 : cX20_of.data.toList.drop 24 = dktX20_of_1 := dk_seg dksX20_of_0 24 rfl rfl
theorem dX20_of_0 : decode cX20_of 0 = .ok (.aload_n 0, 1) := dk_42 (dk_at dksX20_of_0 0 rfl rfl)
theorem dX20_of_1 : decode cX20_of 1 = .ok (.iload_n 1, 1) := dk_27 (dk_at dksX20_of_0 1 rfl rfl)
theorem dX20_of_2 : decode cX20_of 2 = .ok (.invokevirtual 161, 3) := dk_182 0 161 (dk_at dksX20_of_0 2 rfl rfl)
theorem dX20_of_5 : decode cX20_of 5 = .ok (.ifCond .ne 6, 3) := dk_154 0 6 (dk_at dksX20_of_0 5 rfl rfl)
theorem dX20_of_8 : decode cX20_of 8 = .ok (.bipush (-101), 2) := dk_16 155 (dk_at dksX20_of_0 8 rfl rfl)
theorem dX20_of_10 : decode cX20_of 10 = .ok (.ireturn, 1) := dk_172 (dk_at dksX20_of_0 10 rfl rfl)
theorem dX20_of_11 : decode cX20_of 11 = .ok (.iload_n 2, 1) := dk_28 (dk_at dksX20_of_0 11 rfl rfl)
theorem dX20_of_12 : decode cX20_of 12 = .ok (.ifCond .ne 12, 3) := dk_154 0 12 (dk_at dksX20_of_0 12 rfl rfl)
theorem dX20_of_15 : decode cX20_of 15 = .ok (.aload_n 0, 1) := dk_42 (dk_at dksX20_of_0 15 rfl rfl)
theorem dX20_of_16 : decode cX20_of 16 = .ok (.getfield 7, 3) := dk_180 0 7 (dk_at dksX20_of_0 16 rfl rfl)
theorem dX20_of_19 : decode cX20_of 19 = .ok (.iload_n 1, 1) := dk_27 (dk_at dksX20_of_0 19 rfl rfl)
theorem dX20_of_20 : decode cX20_of 20 = .ok (.iaload, 1) := dk_46 (dk_at dksX20_of_0 20 rfl rfl)
theorem dX20_of_21 : decode cX20_of 21 = .ok (.goto 19, 3) := dk_167 0 19 (dk_at dksX20_of_0 21 rfl rfl)
theorem dX20_of_24 : decode cX20_of 24 = .ok (.iload_n 2, 1) := dk_28 (dk_at dksX20_of_1 0 rfl rfl)
theorem dX20_of_25 : decode cX20_of 25 = .ok (.iconst 1, 1) := dk_4 (dk_at dksX20_of_1 1 rfl rfl)
theorem dX20_of_26 : decode cX20_of 26 = .ok (.if_icmp .ne 12, 3) := dk_160 0 12 (dk_at dksX20_of_1 2 rfl rfl)
theorem dX20_of_29 : decode cX20_of 29 = .ok (.aload_n 0, 1) := dk_42 (dk_at dksX20_of_1 5 rfl rfl)
theorem dX20_of_30 : decode cX20_of 30 = .ok (.getfield 13, 3) := dk_180 0 13 (dk_at dksX20_of_1 6 rfl rfl)
theorem dX20_of_33 : decode cX20_of 33 = .ok (.iload_n 1, 1) := dk_27 (dk_at dksX20_of_1 9 rfl rfl)
theorem dX20_of_34 : decode cX20_of 34 = .ok (.iaload, 1) := dk_46 (dk_at dksX20_of_1 10 rfl rfl)
theorem dX20_of_35 : decode cX20_of 35 = .ok (.goto 5, 3) := dk_167 0 5 (dk_at dksX20_of_1 11 rfl rfl)
theorem dX20_of_38 : decode cX20_of 38 = .ok (.bipush (-102), 2) := dk_16 154 (dk_at dksX20_of_1 14 rfl rfl)
theorem dX20_of_40 : decode cX20_of 40 = .ok (.ireturn, 1) := dk_172 (dk_at dksX20_of_1 16 rfl rfl)
abbrev cX20_worth : ByteArray := prog_29_method_24_code
def yX20_worth : MethodName := ⟨RX20, "worth", "(II)J"⟩
def dkwX20_worth_2 : List UInt8 := [182, 0, 194, 133, 167, 0, 10, 42, 180, 0, 20, 27, 46, 133, 173]
abbrev dktX20_worth_2 : List UInt8 := dkwX20_worth_2 ++ []
def dkwX20_worth_1 : List UInt8 := [20, 0, 189, 173, 28, 154, 0, 12, 42, 27, 182, 0, 191, 133, 167, 0, 24, 28, 4, 160, 0, 12, 42, 27]
abbrev dktX20_worth_1 : List UInt8 := dkwX20_worth_1 ++ dktX20_worth_2
def dkwX20_worth_0 : List UInt8 := [27, 155, 0, 23, 27, 42, 180, 0, 137, 162, 0, 15, 28, 133, 9, 20, 0, 135, 184, 0, 123, 154, 0, 7]
abbrev dktX20_worth_0 : List UInt8 := dkwX20_worth_0 ++ dktX20_worth_1
theorem dksX20_worth_0 : cX20_worth.data.toList.drop 0 = dktX20_worth_0 := by decide +kernel
theorem dksX20_worth_1 : cX20_worth.data.toList.drop 24 = dktX20_worth_1 := dk_seg dksX20_worth_0 24 rfl rfl
theorem dksX20_worth_2 : cX20_worth.data.toList.drop 48 = dktX20_worth_2 := dk_seg dksX20_worth_1 24 rfl rfl
theorem dX20_worth_0 : decode cX20_worth 0 = .ok (.iload_n 1, 1) := dk_27 (dk_at dksX20_worth_0 0 rfl rfl)
theorem dX20_worth_1 : decode cX20_worth 1 = .ok (.ifCond .lt 23, 3) := dk_155 0 23 (dk_at dksX20_worth_0 1 rfl rfl)
theorem dX20_worth_4 : decode cX20_worth 4 = .ok (.iload_n 1, 1) := dk_27 (dk_at dksX20_worth_0 4 rfl rfl)
theorem dX20_worth_5 : decode cX20_worth 5 = .ok (.aload_n 0, 1) := dk_42 (dk_at dksX20_worth_0 5 rfl rfl)
theorem dX20_worth_6 : decode cX20_worth 6 = .ok (.getfield 137, 3) := dk_180 0 137 (dk_at dksX20_worth_0 6 rfl rfl)
theorem dX20_worth_9 : decode cX20_worth 9 = .ok (.if_icmp .ge 15, 3) := dk_162 0 15 (dk_at dksX20_worth_0 9 rfl rfl)
theorem dX20_worth_12 : decode cX20_worth 12 = .ok (.iload_n 2, 1) := dk_28 (dk_at dksX20_worth_0 12 rfl rfl)
theorem dX20_worth_13 : decode cX20_worth 13 = .ok (.i2l, 1) := dk_133 (dk_at dksX20_worth_0 13 rfl rfl)
theorem dX20_worth_14 : decode cX20_worth 14 = .ok (.lconst 0, 1) := dk_9 (dk_at dksX20_worth_0 14 rfl rfl)
theorem dX20_worth_15 : decode cX20_worth 15 = .ok (.ldc2_w 135, 3) := dk_20 0 135 (dk_at dksX20_worth_0 15 rfl rfl)
theorem dX20_worth_18 : decode cX20_worth 18 = .ok (.invokestatic 123, 3) := dk_184 0 123 (dk_at dksX20_worth_0 18 rfl rfl)
theorem dX20_worth_21 : decode cX20_worth 21 = .ok (.ifCond .ne 7, 3) := dk_154 0 7 (dk_at dksX20_worth_0 21 rfl rfl)
theorem dX20_worth_24 : decode cX20_worth 24 = .ok (.ldc2_w 189, 3) := dk_20 0 189 (dk_at dksX20_worth_1 0 rfl rfl)
theorem dX20_worth_27 : decode cX20_worth 27 = .ok (.lreturn, 1) := dk_173 (dk_at dksX20_worth_1 3 rfl rfl)
theorem dX20_worth_28 : decode cX20_worth 28 = .ok (.iload_n 2, 1) := dk_28 (dk_at dksX20_worth_1 4 rfl rfl)
theorem dX20_worth_29 : decode cX20_worth 29 = .ok (.ifCond .ne 12, 3) := dk_154 0 12 (dk_at dksX20_worth_1 5 rfl rfl)
theorem dX20_worth_32 : decode cX20_worth 32 = .ok (.aload_n 0, 1) := dk_42 (dk_at dksX20_worth_1 8 rfl rfl)
theorem dX20_worth_33 : decode cX20_worth 33 = .ok (.iload_n 1, 1) := dk_27 (dk_at dksX20_worth_1 9 rfl rfl)
theorem dX20_worth_34 : decode cX20_worth 34 = .ok (.invokevirtual 191, 3) := dk_182 0 191 (dk_at dksX20_worth_1 10 rfl rfl)
theorem dX20_worth_37 : decode cX20_worth 37 = .ok (.i2l, 1) := dk_133 (dk_at dksX20_worth_1 13 rfl rfl)
theorem dX20_worth_38 : decode cX20_worth 38 = .ok (.goto 24, 3) := dk_167 0 24 (dk_at dksX20_worth_1 14 rfl rfl)
theorem dX20_worth_41 : decode cX20_worth 41 = .ok (.iload_n 2, 1) := dk_28 (dk_at dksX20_worth_1 17 rfl rfl)
theorem dX20_worth_42 : decode cX20_worth 42 = .ok (.iconst 1, 1) := dk_4 (dk_at dksX20_worth_1 18 rfl rfl)
theorem dX20_worth_43 : decode cX20_worth 43 = .ok (.if_icmp .ne 12, 3) := dk_160 0 12 (dk_at dksX20_worth_1 19 rfl rfl)
theorem dX20_worth_46 : decode cX20_worth 46 = .ok (.aload_n 0, 1) := dk_42 (dk_at dksX20_worth_1 22 rfl rfl)
theorem dX20_worth_47 : decode cX20_worth 47 = .ok (.iload_n 1, 1) := dk_27 (dk_at dksX20_worth_1 23 rfl rfl)
theorem dX20_worth_48 : decode cX20_worth 48 = .ok (.invokevirtual 194, 3) := dk_182 0 194 (dk_at dksX20_worth_2 0 rfl rfl)
theorem dX20_worth_51 : decode cX20_worth 51 = .ok (.i2l, 1) := dk_133 (dk_at dksX20_worth_2 3 rfl rfl)
theorem dX20_worth_52 : decode cX20_worth 52 = .ok (.goto 10, 3) := dk_167 0 10 (dk_at dksX20_worth_2 4 rfl rfl)
theorem dX20_worth_55 : decode cX20_worth 55 = .ok (.aload_n 0, 1) := dk_42 (dk_at dksX20_worth_2 7 rfl rfl)
theorem dX20_worth_56 : decode cX20_worth 56 = .ok (.getfield 20, 3) := dk_180 0 20 (dk_at dksX20_worth_2 8 rfl rfl)
theorem dX20_worth_59 : decode cX20_worth 59 = .ok (.iload_n 1, 1) := dk_27 (dk_at dksX20_worth_2 11 rfl rfl)
theorem dX20_worth_60 : decode cX20_worth 60 = .ok (.iaload, 1) := dk_46 (dk_at dksX20_worth_2 12 rfl rfl)
theorem dX20_worth_61 : decode cX20_worth 61 = .ok (.i2l, 1) := dk_133 (dk_at dksX20_worth_2 13 rfl rfl)
theorem dX20_worth_62 : decode cX20_worth 62 = .ok (.lreturn, 1) := dk_173 (dk_at dksX20_worth_2 14 rfl rfl)
abbrev cX20_worthOf : ByteArray := prog_29_method_22_code
def yX20_worthOf : MethodName := ⟨RX20, "worthOf", "(I)I"⟩
def dkwX20_worthOf_1 : List UInt8 := [160, 0, 11, 6, 28, 104, 5, 96, 167, 0, 8, 6, 28, 104, 6, 100, 172]
abbrev dktX20_worthOf_1 : List UInt8 := dkwX20_worthOf_1 ++ []
def dkwX20_worthOf_0 : List UInt8 := [42, 180, 0, 23, 27, 46, 61, 42, 180, 0, 20, 27, 46, 62, 29, 154, 0, 7, 28, 167, 0, 21, 29, 4]
abbrev dktX20_worthOf_0 : List UInt8 := dkwX20_worthOf_0 ++ dktX20_worthOf_1
theorem dksX20_worthOf_0 : cX20_worthOf.data.toList.drop 0 = dktX20_worthOf_0 := by decide +kernel
theorem dksX20_worthOf_1 : cX20_worthOf.data.toList.drop 24 = dktX20_worthOf_1 := dk_seg dksX20_worthOf_0 24 rfl rfl
theorem dX20_worthOf_0 : decode cX20_worthOf 0 = .ok (.aload_n 0, 1) := dk_42 (dk_at dksX20_worthOf_0 0 rfl rfl)
theorem dX20_worthOf_1 : decode cX20_worthOf 1 = .ok (.getfield 23, 3) := dk_180 0 23 (dk_at dksX20_worthOf_0 1 rfl rfl)
theorem dX20_worthOf_4 : decode cX20_worthOf 4 = .ok (.iload_n 1, 1) := dk_27 (dk_at dksX20_worthOf_0 4 rfl rfl)
theorem dX20_worthOf_5 : decode cX20_worthOf 5 = .ok (.iaload, 1) := dk_46 (dk_at dksX20_worthOf_0 5 rfl rfl)
theorem dX20_worthOf_6 : decode cX20_worthOf 6 = .ok (.istore_n 2, 1) := dk_61 (dk_at dksX20_worthOf_0 6 rfl rfl)
theorem dX20_worthOf_7 : decode cX20_worthOf 7 = .ok (.aload_n 0, 1) := dk_42 (dk_at dksX20_worthOf_0 7 rfl rfl)
theorem dX20_worthOf_8 : decode cX20_worthOf 8 = .ok (.getfield 20, 3) := dk_180 0 20 (dk_at dksX20_worthOf_0 8 rfl rfl)
theorem dX20_worthOf_11 : decode cX20_worthOf 11 = .ok (.iload_n 1, 1) := dk_27 (dk_at dksX20_worthOf_0 11 rfl rfl)
theorem dX20_worthOf_12 : decode cX20_worthOf 12 = .ok (.iaload, 1) := dk_46 (dk_at dksX20_worthOf_0 12 rfl rfl)
theorem dX20_worthOf_13 : decode cX20_worthOf 13 = .ok (.istore_n 3, 1) := dk_62 (dk_at dksX20_worthOf_0 13 rfl rfl)
theorem dX20_worthOf_14 : decode cX20_worthOf 14 = .ok (.iload_n 3, 1) := dk_29 (dk_at dksX20_worthOf_0 14 rfl rfl)
theorem dX20_worthOf_15 : decode cX20_worthOf 15 = .ok (.ifCond .ne 7, 3) := dk_154 0 7 (dk_at dksX20_worthOf_0 15 rfl rfl)
theorem dX20_worthOf_18 : decode cX20_worthOf 18 = .ok (.iload_n 2, 1) := dk_28 (dk_at dksX20_worthOf_0 18 rfl rfl)
theorem dX20_worthOf_19 : decode cX20_worthOf 19 = .ok (.goto 21, 3) := dk_167 0 21 (dk_at dksX20_worthOf_0 19 rfl rfl)
theorem dX20_worthOf_22 : decode cX20_worthOf 22 = .ok (.iload_n 3, 1) := dk_29 (dk_at dksX20_worthOf_0 22 rfl rfl)
theorem dX20_worthOf_23 : decode cX20_worthOf 23 = .ok (.iconst 1, 1) := dk_4 (dk_at dksX20_worthOf_0 23 rfl rfl)
theorem dX20_worthOf_24 : decode cX20_worthOf 24 = .ok (.if_icmp .ne 11, 3) := dk_160 0 11 (dk_at dksX20_worthOf_1 0 rfl rfl)
theorem dX20_worthOf_27 : decode cX20_worthOf 27 = .ok (.iconst 3, 1) := dk_6 (dk_at dksX20_worthOf_1 3 rfl rfl)
theorem dX20_worthOf_28 : decode cX20_worthOf 28 = .ok (.iload_n 2, 1) := dk_28 (dk_at dksX20_worthOf_1 4 rfl rfl)
theorem dX20_worthOf_29 : decode cX20_worthOf 29 = .ok (.imul, 1) := dk_104 (dk_at dksX20_worthOf_1 5 rfl rfl)
theorem dX20_worthOf_30 : decode cX20_worthOf 30 = .ok (.iconst 2, 1) := dk_5 (dk_at dksX20_worthOf_1 6 rfl rfl)
theorem dX20_worthOf_31 : decode cX20_worthOf 31 = .ok (.iadd, 1) := dk_96 (dk_at dksX20_worthOf_1 7 rfl rfl)
theorem dX20_worthOf_32 : decode cX20_worthOf 32 = .ok (.goto 8, 3) := dk_167 0 8 (dk_at dksX20_worthOf_1 8 rfl rfl)
theorem dX20_worthOf_35 : decode cX20_worthOf 35 = .ok (.iconst 3, 1) := dk_6 (dk_at dksX20_worthOf_1 11 rfl rfl)
theorem dX20_worthOf_36 : decode cX20_worthOf 36 = .ok (.iload_n 2, 1) := dk_28 (dk_at dksX20_worthOf_1 12 rfl rfl)
theorem dX20_worthOf_37 : decode cX20_worthOf 37 = .ok (.imul, 1) := dk_104 (dk_at dksX20_worthOf_1 13 rfl rfl)
theorem dX20_worthOf_38 : decode cX20_worthOf 38 = .ok (.iconst 3, 1) := dk_6 (dk_at dksX20_worthOf_1 14 rfl rfl)
theorem dX20_worthOf_39 : decode cX20_worthOf 39 = .ok (.isub, 1) := dk_100 (dk_at dksX20_worthOf_1 15 rfl rfl)
theorem dX20_worthOf_40 : decode cX20_worthOf 40 = .ok (.ireturn, 1) := dk_172 (dk_at dksX20_worthOf_1 16 rfl rfl)
abbrev cX20_feeOf : ByteArray := prog_29_method_23_code
def yX20_feeOf : MethodName := ⟨RX20, "feeOf", "(I)I"⟩
def dkwX20_feeOf_0 : List UInt8 := [42, 180, 0, 20, 27, 46, 154, 0, 7, 4, 167, 0, 4, 7, 172]
abbrev dktX20_feeOf_0 : List UInt8 := dkwX20_feeOf_0 ++ []
theorem dksX20_feeOf_0 : cX20_feeOf.data.toList.drop 0 = dktX20_feeOf_0 := by decide +kernel
theorem dX20_feeOf_0 : decode cX20_feeOf 0 = .ok (.aload_n 0, 1) := dk_42 (dk_at dksX20_feeOf_0 0 rfl rfl)
theorem dX20_feeOf_1 : decode cX20_feeOf 1 = .ok (.getfield 20, 3) := dk_180 0 20 (dk_at dksX20_feeOf_0 1 rfl rfl)
theorem dX20_feeOf_4 : decode cX20_feeOf 4 = .ok (.iload_n 1, 1) := dk_27 (dk_at dksX20_feeOf_0 4 rfl rfl)
theorem dX20_feeOf_5 : decode cX20_feeOf 5 = .ok (.iaload, 1) := dk_46 (dk_at dksX20_feeOf_0 5 rfl rfl)
theorem dX20_feeOf_6 : decode cX20_feeOf 6 = .ok (.ifCond .ne 7, 3) := dk_154 0 7 (dk_at dksX20_feeOf_0 6 rfl rfl)
theorem dX20_feeOf_9 : decode cX20_feeOf 9 = .ok (.iconst 1, 1) := dk_4 (dk_at dksX20_feeOf_0 9 rfl rfl)
theorem dX20_feeOf_10 : decode cX20_feeOf 10 = .ok (.goto 4, 3) := dk_167 0 4 (dk_at dksX20_feeOf_0 10 rfl rfl)
theorem dX20_feeOf_13 : decode cX20_feeOf 13 = .ok (.iconst 4, 1) := dk_7 (dk_at dksX20_feeOf_0 13 rfl rfl)
theorem dX20_feeOf_14 : decode cX20_feeOf 14 = .ok (.ireturn, 1) := dk_172 (dk_at dksX20_feeOf_0 14 rfl rfl)
abbrev cX20_plan : ByteArray := prog_29_method_25_code
def yX20_plan : MethodName := ⟨RX20, "plan", "(IIIIIII)I"⟩
def dkwX20_plan_7 : List UInt8 := [27, 46, 172]
abbrev dktX20_plan_7 : List UInt8 := dkwX20_plan_7 ++ []
def dkwX20_plan_6 : List UInt8 := [180, 0, 36, 21, 8, 8, 96, 21, 7, 79, 42, 180, 0, 33, 27, 92, 46, 4, 96, 79, 42, 180, 0, 33]
abbrev dktX20_plan_6 : List UInt8 := dkwX20_plan_6 ++ dktX20_plan_7
def dkwX20_plan_5 : List UInt8 := [180, 0, 36, 21, 8, 6, 96, 21, 5, 79, 42, 180, 0, 36, 21, 8, 7, 96, 21, 6, 79, 42]
abbrev dktX20_plan_5 : List UInt8 := dkwX20_plan_5 ++ dktX20_plan_6
def dkwX20_plan_4 : List UInt8 := [79, 42, 180, 0, 36, 21, 8, 4, 96, 29, 79, 42, 180, 0, 36, 21, 8, 5, 96, 21, 4, 79, 42]
abbrev dktX20_plan_4 : List UInt8 := dkwX20_plan_4 ++ dktX20_plan_5
def dkwX20_plan_3 : List UInt8 := [172, 16, 6, 16, 12, 27, 104, 42, 180, 0, 33, 27, 46, 96, 104, 54, 8, 42, 180, 0, 36, 21, 8, 28]
abbrev dktX20_plan_3 : List UInt8 := dkwX20_plan_3 ++ dktX20_plan_4
def dkwX20_plan_2 : List UInt8 := [9, 10, 184, 0, 123, 154, 0, 6, 16, 154, 172, 42, 180, 0, 33, 27, 46, 16, 12, 160, 0, 6, 16, 152]
abbrev dktX20_plan_2 : List UInt8 := dkwX20_plan_2 ++ dktX20_plan_3
def dkwX20_plan_1 : List UInt8 := [153, 0, 32, 28, 16, 10, 160, 0, 29, 29, 133, 9, 20, 0, 197, 184, 0, 123, 153, 0, 14, 21, 4, 133]
abbrev dktX20_plan_1 : List UInt8 := dkwX20_plan_1 ++ dktX20_plan_2
def dkwX20_plan_0 : List UInt8 := [27, 133, 9, 20, 0, 197, 184, 0, 123, 154, 0, 6, 16, 155, 172, 28, 133, 9, 20, 0, 199, 184, 0, 123]
abbrev dktX20_plan_0 : List UInt8 := dkwX20_plan_0 ++ dktX20_plan_1
theorem dksX20_plan_0 : cX20_plan.data.toList.drop 0 = dktX20_plan_0 := by decide +kernel
theorem dksX20_plan_1 : cX20_plan.data.toList.drop 24 = dktX20_plan_1 := dk_seg dksX20_plan_0 24 rfl rfl
theorem dksX20_plan_2 : cX20_plan.data.toList.drop 48 = dktX20_plan_2 := dk_seg dksX20_plan_1 24 rfl rfl
theorem dksX20_plan_3 : cX20_plan.data.toList.drop 72 = dktX20_plan_3 := dk_seg dksX20_plan_2 24 rfl rfl
theorem dksX20_plan_4 : cX20_plan.data.toList.drop 96 = dktX20_plan_4 := dk_seg dksX20_plan_3 24 rfl rfl
theorem dksX20_plan_5 : cX20_plan.data.toList.drop 119 = dktX20_plan_5 := dk_seg dksX20_plan_4 23 rfl rfl
theorem dksX20_plan_6 : cX20_plan.data.toList.drop 141 = dktX20_plan_6 := dk_seg dksX20_plan_5 22 rfl rfl
theorem dksX20_plan_7 : cX20_plan.data.toList.drop 165 = dktX20_plan_7 := dk_seg dksX20_plan_6 24 rfl rfl
theorem dX20_plan_0 : decode cX20_plan 0 = .ok (.iload_n 1, 1) := dk_27 (dk_at dksX20_plan_0 0 rfl rfl)
theorem dX20_plan_1 : decode cX20_plan 1 = .ok (.i2l, 1) := dk_133 (dk_at dksX20_plan_0 1 rfl rfl)
theorem dX20_plan_2 : decode cX20_plan 2 = .ok (.lconst 0, 1) := dk_9 (dk_at dksX20_plan_0 2 rfl rfl)
theorem dX20_plan_3 : decode cX20_plan 3 = .ok (.ldc2_w 197, 3) := dk_20 0 197 (dk_at dksX20_plan_0 3 rfl rfl)
theorem dX20_plan_6 : decode cX20_plan 6 = .ok (.invokestatic 123, 3) := dk_184 0 123 (dk_at dksX20_plan_0 6 rfl rfl)
theorem dX20_plan_9 : decode cX20_plan 9 = .ok (.ifCond .ne 6, 3) := dk_154 0 6 (dk_at dksX20_plan_0 9 rfl rfl)
theorem dX20_plan_12 : decode cX20_plan 12 = .ok (.bipush (-101), 2) := dk_16 155 (dk_at dksX20_plan_0 12 rfl rfl)
theorem dX20_plan_14 : decode cX20_plan 14 = .ok (.ireturn, 1) := dk_172 (dk_at dksX20_plan_0 14 rfl rfl)
theorem dX20_plan_15 : decode cX20_plan 15 = .ok (.iload_n 2, 1) := dk_28 (dk_at dksX20_plan_0 15 rfl rfl)
theorem dX20_plan_16 : decode cX20_plan 16 = .ok (.i2l, 1) := dk_133 (dk_at dksX20_plan_0 16 rfl rfl)
theorem dX20_plan_17 : decode cX20_plan 17 = .ok (.lconst 0, 1) := dk_9 (dk_at dksX20_plan_0 17 rfl rfl)
theorem dX20_plan_18 : decode cX20_plan 18 = .ok (.ldc2_w 199, 3) := dk_20 0 199 (dk_at dksX20_plan_0 18 rfl rfl)
theorem dX20_plan_21 : decode cX20_plan 21 = .ok (.invokestatic 123, 3) := dk_184 0 123 (dk_at dksX20_plan_0 21 rfl rfl)
theorem dX20_plan_24 : decode cX20_plan 24 = .ok (.ifCond .eq 32, 3) := dk_153 0 32 (dk_at dksX20_plan_1 0 rfl rfl)
theorem dX20_plan_27 : decode cX20_plan 27 = .ok (.iload_n 2, 1) := dk_28 (dk_at dksX20_plan_1 3 rfl rfl)
theorem dX20_plan_28 : decode cX20_plan 28 = .ok (.bipush 10, 2) := dk_16 10 (dk_at dksX20_plan_1 4 rfl rfl)
theorem dX20_plan_30 : decode cX20_plan 30 = .ok (.if_icmp .ne 29, 3) := dk_160 0 29 (dk_at dksX20_plan_1 6 rfl rfl)
theorem dX20_plan_33 : decode cX20_plan 33 = .ok (.iload_n 3, 1) := dk_29 (dk_at dksX20_plan_1 9 rfl rfl)
theorem dX20_plan_34 : decode cX20_plan 34 = .ok (.i2l, 1) := dk_133 (dk_at dksX20_plan_1 10 rfl rfl)
theorem dX20_plan_35 : decode cX20_plan 35 = .ok (.lconst 0, 1) := dk_9 (dk_at dksX20_plan_1 11 rfl rfl)
theorem dX20_plan_36 : decode cX20_plan 36 = .ok (.ldc2_w 197, 3) := dk_20 0 197 (dk_at dksX20_plan_1 12 rfl rfl)
theorem dX20_plan_39 : decode cX20_plan 39 = .ok (.invokestatic 123, 3) := dk_184 0 123 (dk_at dksX20_plan_1 15 rfl rfl)
theorem dX20_plan_42 : decode cX20_plan 42 = .ok (.ifCond .eq 14, 3) := dk_153 0 14 (dk_at dksX20_plan_1 18 rfl rfl)
theorem dX20_plan_45 : decode cX20_plan 45 = .ok (.iload 4, 2) := dk_21 4 (dk_at dksX20_plan_1 21 rfl rfl)
theorem dX20_plan_47 : decode cX20_plan 47 = .ok (.i2l, 1) := dk_133 (dk_at dksX20_plan_1 23 rfl rfl)
theorem dX20_plan_48 : decode cX20_plan 48 = .ok (.lconst 0, 1) := dk_9 (dk_at dksX20_plan_2 0 rfl rfl)
theorem dX20_plan_49 : decode cX20_plan 49 = .ok (.lconst 1, 1) := dk_10 (dk_at dksX20_plan_2 1 rfl rfl)
theorem dX20_plan_50 : decode cX20_plan 50 = .ok (.invokestatic 123, 3) := dk_184 0 123 (dk_at dksX20_plan_2 2 rfl rfl)
theorem dX20_plan_53 : decode cX20_plan 53 = .ok (.ifCond .ne 6, 3) := dk_154 0 6 (dk_at dksX20_plan_2 5 rfl rfl)
theorem dX20_plan_56 : decode cX20_plan 56 = .ok (.bipush (-102), 2) := dk_16 154 (dk_at dksX20_plan_2 8 rfl rfl)
theorem dX20_plan_58 : decode cX20_plan 58 = .ok (.ireturn, 1) := dk_172 (dk_at dksX20_plan_2 10 rfl rfl)
theorem dX20_plan_59 : decode cX20_plan 59 = .ok (.aload_n 0, 1) := dk_42 (dk_at dksX20_plan_2 11 rfl rfl)
theorem dX20_plan_60 : decode cX20_plan 60 = .ok (.getfield 33, 3) := dk_180 0 33 (dk_at dksX20_plan_2 12 rfl rfl)
theorem dX20_plan_63 : decode cX20_plan 63 = .ok (.iload_n 1, 1) := dk_27 (dk_at dksX20_plan_2 15 rfl rfl)
theorem dX20_plan_64 : decode cX20_plan 64 = .ok (.iaload, 1) := dk_46 (dk_at dksX20_plan_2 16 rfl rfl)
theorem dX20_plan_65 : decode cX20_plan 65 = .ok (.bipush 12, 2) := dk_16 12 (dk_at dksX20_plan_2 17 rfl rfl)
theorem dX20_plan_67 : decode cX20_plan 67 = .ok (.if_icmp .ne 6, 3) := dk_160 0 6 (dk_at dksX20_plan_2 19 rfl rfl)
theorem dX20_plan_70 : decode cX20_plan 70 = .ok (.bipush (-104), 2) := dk_16 152 (dk_at dksX20_plan_2 22 rfl rfl)
theorem dX20_plan_72 : decode cX20_plan 72 = .ok (.ireturn, 1) := dk_172 (dk_at dksX20_plan_3 0 rfl rfl)
theorem dX20_plan_73 : decode cX20_plan 73 = .ok (.bipush 6, 2) := dk_16 6 (dk_at dksX20_plan_3 1 rfl rfl)
theorem dX20_plan_75 : decode cX20_plan 75 = .ok (.bipush 12, 2) := dk_16 12 (dk_at dksX20_plan_3 3 rfl rfl)
theorem dX20_plan_77 : decode cX20_plan 77 = .ok (.iload_n 1, 1) := dk_27 (dk_at dksX20_plan_3 5 rfl rfl)
theorem dX20_plan_78 : decode cX20_plan 78 = .ok (.imul, 1) := dk_104 (dk_at dksX20_plan_3 6 rfl rfl)
theorem dX20_plan_79 : decode cX20_plan 79 = .ok (.aload_n 0, 1) := dk_42 (dk_at dksX20_plan_3 7 rfl rfl)
theorem dX20_plan_80 : decode cX20_plan 80 = .ok (.getfield 33, 3) := dk_180 0 33 (dk_at dksX20_plan_3 8 rfl rfl)
theorem dX20_plan_83 : decode cX20_plan 83 = .ok (.iload_n 1, 1) := dk_27 (dk_at dksX20_plan_3 11 rfl rfl)
theorem dX20_plan_84 : decode cX20_plan 84 = .ok (.iaload, 1) := dk_46 (dk_at dksX20_plan_3 12 rfl rfl)
theorem dX20_plan_85 : decode cX20_plan 85 = .ok (.iadd, 1) := dk_96 (dk_at dksX20_plan_3 13 rfl rfl)
theorem dX20_plan_86 : decode cX20_plan 86 = .ok (.imul, 1) := dk_104 (dk_at dksX20_plan_3 14 rfl rfl)
theorem dX20_plan_87 : decode cX20_plan 87 = .ok (.istore 8, 2) := dk_54 8 (dk_at dksX20_plan_3 15 rfl rfl)
theorem dX20_plan_89 : decode cX20_plan 89 = .ok (.aload_n 0, 1) := dk_42 (dk_at dksX20_plan_3 17 rfl rfl)
theorem dX20_plan_90 : decode cX20_plan 90 = .ok (.getfield 36, 3) := dk_180 0 36 (dk_at dksX20_plan_3 18 rfl rfl)
theorem dX20_plan_93 : decode cX20_plan 93 = .ok (.iload 8, 2) := dk_21 8 (dk_at dksX20_plan_3 21 rfl rfl)
theorem dX20_plan_95 : decode cX20_plan 95 = .ok (.iload_n 2, 1) := dk_28 (dk_at dksX20_plan_3 23 rfl rfl)
theorem dX20_plan_96 : decode cX20_plan 96 = .ok (.iastore, 1) := dk_79 (dk_at dksX20_plan_4 0 rfl rfl)
theorem dX20_plan_97 : decode cX20_plan 97 = .ok (.aload_n 0, 1) := dk_42 (dk_at dksX20_plan_4 1 rfl rfl)
theorem dX20_plan_98 : decode cX20_plan 98 = .ok (.getfield 36, 3) := dk_180 0 36 (dk_at dksX20_plan_4 2 rfl rfl)
theorem dX20_plan_101 : decode cX20_plan 101 = .ok (.iload 8, 2) := dk_21 8 (dk_at dksX20_plan_4 5 rfl rfl)
theorem dX20_plan_103 : decode cX20_plan 103 = .ok (.iconst 1, 1) := dk_4 (dk_at dksX20_plan_4 7 rfl rfl)
theorem dX20_plan_104 : decode cX20_plan 104 = .ok (.iadd, 1) := dk_96 (dk_at dksX20_plan_4 8 rfl rfl)
theorem dX20_plan_105 : decode cX20_plan 105 = .ok (.iload_n 3, 1) := dk_29 (dk_at dksX20_plan_4 9 rfl rfl)
theorem dX20_plan_106 : decode cX20_plan 106 = .ok (.iastore, 1) := dk_79 (dk_at dksX20_plan_4 10 rfl rfl)
theorem dX20_plan_107 : decode cX20_plan 107 = .ok (.aload_n 0, 1) := dk_42 (dk_at dksX20_plan_4 11 rfl rfl)
theorem dX20_plan_108 : decode cX20_plan 108 = .ok (.getfield 36, 3) := dk_180 0 36 (dk_at dksX20_plan_4 12 rfl rfl)
theorem dX20_plan_111 : decode cX20_plan 111 = .ok (.iload 8, 2) := dk_21 8 (dk_at dksX20_plan_4 15 rfl rfl)
theorem dX20_plan_113 : decode cX20_plan 113 = .ok (.iconst 2, 1) := dk_5 (dk_at dksX20_plan_4 17 rfl rfl)
theorem dX20_plan_114 : decode cX20_plan 114 = .ok (.iadd, 1) := dk_96 (dk_at dksX20_plan_4 18 rfl rfl)
theorem dX20_plan_115 : decode cX20_plan 115 = .ok (.iload 4, 2) := dk_21 4 (dk_at dksX20_plan_4 19 rfl rfl)
theorem dX20_plan_117 : decode cX20_plan 117 = .ok (.iastore, 1) := dk_79 (dk_at dksX20_plan_4 21 rfl rfl)
theorem dX20_plan_118 : decode cX20_plan 118 = .ok (.aload_n 0, 1) := dk_42 (dk_at dksX20_plan_4 22 rfl rfl)
theorem dX20_plan_119 : decode cX20_plan 119 = .ok (.getfield 36, 3) := dk_180 0 36 (dk_at dksX20_plan_5 0 rfl rfl)
theorem dX20_plan_122 : decode cX20_plan 122 = .ok (.iload 8, 2) := dk_21 8 (dk_at dksX20_plan_5 3 rfl rfl)
theorem dX20_plan_124 : decode cX20_plan 124 = .ok (.iconst 3, 1) := dk_6 (dk_at dksX20_plan_5 5 rfl rfl)
theorem dX20_plan_125 : decode cX20_plan 125 = .ok (.iadd, 1) := dk_96 (dk_at dksX20_plan_5 6 rfl rfl)
theorem dX20_plan_126 : decode cX20_plan 126 = .ok (.iload 5, 2) := dk_21 5 (dk_at dksX20_plan_5 7 rfl rfl)
theorem dX20_plan_128 : decode cX20_plan 128 = .ok (.iastore, 1) := dk_79 (dk_at dksX20_plan_5 9 rfl rfl)
theorem dX20_plan_129 : decode cX20_plan 129 = .ok (.aload_n 0, 1) := dk_42 (dk_at dksX20_plan_5 10 rfl rfl)
theorem dX20_plan_130 : decode cX20_plan 130 = .ok (.getfield 36, 3) := dk_180 0 36 (dk_at dksX20_plan_5 11 rfl rfl)
theorem dX20_plan_133 : decode cX20_plan 133 = .ok (.iload 8, 2) := dk_21 8 (dk_at dksX20_plan_5 14 rfl rfl)
theorem dX20_plan_135 : decode cX20_plan 135 = .ok (.iconst 4, 1) := dk_7 (dk_at dksX20_plan_5 16 rfl rfl)
theorem dX20_plan_136 : decode cX20_plan 136 = .ok (.iadd, 1) := dk_96 (dk_at dksX20_plan_5 17 rfl rfl)
theorem dX20_plan_137 : decode cX20_plan 137 = .ok (.iload 6, 2) := dk_21 6 (dk_at dksX20_plan_5 18 rfl rfl)
theorem dX20_plan_139 : decode cX20_plan 139 = .ok (.iastore, 1) := dk_79 (dk_at dksX20_plan_5 20 rfl rfl)
theorem dX20_plan_140 : decode cX20_plan 140 = .ok (.aload_n 0, 1) := dk_42 (dk_at dksX20_plan_5 21 rfl rfl)
theorem dX20_plan_141 : decode cX20_plan 141 = .ok (.getfield 36, 3) := dk_180 0 36 (dk_at dksX20_plan_6 0 rfl rfl)
theorem dX20_plan_144 : decode cX20_plan 144 = .ok (.iload 8, 2) := dk_21 8 (dk_at dksX20_plan_6 3 rfl rfl)
theorem dX20_plan_146 : decode cX20_plan 146 = .ok (.iconst 5, 1) := dk_8 (dk_at dksX20_plan_6 5 rfl rfl)
theorem dX20_plan_147 : decode cX20_plan 147 = .ok (.iadd, 1) := dk_96 (dk_at dksX20_plan_6 6 rfl rfl)
theorem dX20_plan_148 : decode cX20_plan 148 = .ok (.iload 7, 2) := dk_21 7 (dk_at dksX20_plan_6 7 rfl rfl)
theorem dX20_plan_150 : decode cX20_plan 150 = .ok (.iastore, 1) := dk_79 (dk_at dksX20_plan_6 9 rfl rfl)
theorem dX20_plan_151 : decode cX20_plan 151 = .ok (.aload_n 0, 1) := dk_42 (dk_at dksX20_plan_6 10 rfl rfl)
theorem dX20_plan_152 : decode cX20_plan 152 = .ok (.getfield 33, 3) := dk_180 0 33 (dk_at dksX20_plan_6 11 rfl rfl)
theorem dX20_plan_155 : decode cX20_plan 155 = .ok (.iload_n 1, 1) := dk_27 (dk_at dksX20_plan_6 14 rfl rfl)
theorem dX20_plan_156 : decode cX20_plan 156 = .ok (.dup2, 1) := dk_92 (dk_at dksX20_plan_6 15 rfl rfl)
theorem dX20_plan_157 : decode cX20_plan 157 = .ok (.iaload, 1) := dk_46 (dk_at dksX20_plan_6 16 rfl rfl)
theorem dX20_plan_158 : decode cX20_plan 158 = .ok (.iconst 1, 1) := dk_4 (dk_at dksX20_plan_6 17 rfl rfl)
theorem dX20_plan_159 : decode cX20_plan 159 = .ok (.iadd, 1) := dk_96 (dk_at dksX20_plan_6 18 rfl rfl)
theorem dX20_plan_160 : decode cX20_plan 160 = .ok (.iastore, 1) := dk_79 (dk_at dksX20_plan_6 19 rfl rfl)
theorem dX20_plan_161 : decode cX20_plan 161 = .ok (.aload_n 0, 1) := dk_42 (dk_at dksX20_plan_6 20 rfl rfl)
theorem dX20_plan_162 : decode cX20_plan 162 = .ok (.getfield 33, 3) := dk_180 0 33 (dk_at dksX20_plan_6 21 rfl rfl)
theorem dX20_plan_165 : decode cX20_plan 165 = .ok (.iload_n 1, 1) := dk_27 (dk_at dksX20_plan_7 0 rfl rfl)
theorem dX20_plan_166 : decode cX20_plan 166 = .ok (.iaload, 1) := dk_46 (dk_at dksX20_plan_7 1 rfl rfl)
theorem dX20_plan_167 : decode cX20_plan 167 = .ok (.ireturn, 1) := dk_172 (dk_at dksX20_plan_7 2 rfl rfl)
abbrev cX20_drop : ByteArray := prog_29_method_26_code
def yX20_drop : MethodName := ⟨RX20, "drop", "(I)I"⟩
def dkwX20_drop_1 : List UInt8 := [180, 0, 33, 27, 3, 79, 28, 172]
abbrev dktX20_drop_1 : List UInt8 := dkwX20_drop_1 ++ []
def dkwX20_drop_0 : List UInt8 := [27, 133, 9, 20, 0, 197, 184, 0, 123, 154, 0, 6, 16, 155, 172, 42, 180, 0, 33, 27, 46, 61, 42]
abbrev dktX20_drop_0 : List UInt8 := dkwX20_drop_0 ++ dktX20_drop_1
theorem dksX20_drop_0 : cX20_drop.data.toList.drop 0 = dktX20_drop_0 := by decide +kernel
theorem dksX20_drop_1 : cX20_drop.data.toList.drop 23 = dktX20_drop_1 := dk_seg dksX20_drop_0 23 rfl rfl
theorem dX20_drop_0 : decode cX20_drop 0 = .ok (.iload_n 1, 1) := dk_27 (dk_at dksX20_drop_0 0 rfl rfl)
theorem dX20_drop_1 : decode cX20_drop 1 = .ok (.i2l, 1) := dk_133 (dk_at dksX20_drop_0 1 rfl rfl)
theorem dX20_drop_2 : decode cX20_drop 2 = .ok (.lconst 0, 1) := dk_9 (dk_at dksX20_drop_0 2 rfl rfl)
theorem dX20_drop_3 : decode cX20_drop 3 = .ok (.ldc2_w 197, 3) := dk_20 0 197 (dk_at dksX20_drop_0 3 rfl rfl)
theorem dX20_drop_6 : decode cX20_drop 6 = .ok (.invokestatic 123, 3) := dk_184 0 123 (dk_at dksX20_drop_0 6 rfl rfl)
theorem dX20_drop_9 : decode cX20_drop 9 = .ok (.ifCond .ne 6, 3) := dk_154 0 6 (dk_at dksX20_drop_0 9 rfl rfl)
theorem dX20_drop_12 : decode cX20_drop 12 = .ok (.bipush (-101), 2) := dk_16 155 (dk_at dksX20_drop_0 12 rfl rfl)
theorem dX20_drop_14 : decode cX20_drop 14 = .ok (.ireturn, 1) := dk_172 (dk_at dksX20_drop_0 14 rfl rfl)
theorem dX20_drop_15 : decode cX20_drop 15 = .ok (.aload_n 0, 1) := dk_42 (dk_at dksX20_drop_0 15 rfl rfl)
theorem dX20_drop_16 : decode cX20_drop 16 = .ok (.getfield 33, 3) := dk_180 0 33 (dk_at dksX20_drop_0 16 rfl rfl)
theorem dX20_drop_19 : decode cX20_drop 19 = .ok (.iload_n 1, 1) := dk_27 (dk_at dksX20_drop_0 19 rfl rfl)
theorem dX20_drop_20 : decode cX20_drop 20 = .ok (.iaload, 1) := dk_46 (dk_at dksX20_drop_0 20 rfl rfl)
theorem dX20_drop_21 : decode cX20_drop 21 = .ok (.istore_n 2, 1) := dk_61 (dk_at dksX20_drop_0 21 rfl rfl)
theorem dX20_drop_22 : decode cX20_drop 22 = .ok (.aload_n 0, 1) := dk_42 (dk_at dksX20_drop_0 22 rfl rfl)
theorem dX20_drop_23 : decode cX20_drop 23 = .ok (.getfield 33, 3) := dk_180 0 33 (dk_at dksX20_drop_1 0 rfl rfl)
theorem dX20_drop_26 : decode cX20_drop 26 = .ok (.iload_n 1, 1) := dk_27 (dk_at dksX20_drop_1 3 rfl rfl)
theorem dX20_drop_27 : decode cX20_drop 27 = .ok (.iconst 0, 1) := dk_3 (dk_at dksX20_drop_1 4 rfl rfl)
theorem dX20_drop_28 : decode cX20_drop 28 = .ok (.iastore, 1) := dk_79 (dk_at dksX20_drop_1 5 rfl rfl)
theorem dX20_drop_29 : decode cX20_drop 29 = .ok (.iload_n 2, 1) := dk_28 (dk_at dksX20_drop_1 6 rfl rfl)
theorem dX20_drop_30 : decode cX20_drop 30 = .ok (.ireturn, 1) := dk_172 (dk_at dksX20_drop_1 7 rfl rfl)
abbrev cX20_price : ByteArray := prog_29_method_31_code
def yX20_price : MethodName := ⟨RX20, "price", "(IIII)J"⟩
def dkwX20_price_1 : List UInt8 := [20, 0, 189, 173, 42, 27, 28, 29, 21, 4, 182, 0, 211, 133, 173]
abbrev dktX20_price_1 : List UInt8 := dkwX20_price_1 ++ []
def dkwX20_price_0 : List UInt8 := [27, 133, 9, 20, 0, 199, 184, 0, 123, 153, 0, 13, 42, 27, 28, 29, 182, 0, 207, 154, 0, 7]
abbrev dktX20_price_0 : List UInt8 := dkwX20_price_0 ++ dktX20_price_1
theorem dksX20_price_0 : cX20_price.data.toList.drop 0 = dktX20_price_0 := by decide +kernel
theorem dksX20_price_1 : cX20_price.data.toList.drop 22 = dktX20_price_1 := dk_seg dksX20_price_0 22 rfl rfl
theorem dX20_price_0 : decode cX20_price 0 = .ok (.iload_n 1, 1) := dk_27 (dk_at dksX20_price_0 0 rfl rfl)
theorem dX20_price_1 : decode cX20_price 1 = .ok (.i2l, 1) := dk_133 (dk_at dksX20_price_0 1 rfl rfl)
theorem dX20_price_2 : decode cX20_price 2 = .ok (.lconst 0, 1) := dk_9 (dk_at dksX20_price_0 2 rfl rfl)
theorem dX20_price_3 : decode cX20_price 3 = .ok (.ldc2_w 199, 3) := dk_20 0 199 (dk_at dksX20_price_0 3 rfl rfl)
theorem dX20_price_6 : decode cX20_price 6 = .ok (.invokestatic 123, 3) := dk_184 0 123 (dk_at dksX20_price_0 6 rfl rfl)
theorem dX20_price_9 : decode cX20_price 9 = .ok (.ifCond .eq 13, 3) := dk_153 0 13 (dk_at dksX20_price_0 9 rfl rfl)
theorem dX20_price_12 : decode cX20_price 12 = .ok (.aload_n 0, 1) := dk_42 (dk_at dksX20_price_0 12 rfl rfl)
theorem dX20_price_13 : decode cX20_price 13 = .ok (.iload_n 1, 1) := dk_27 (dk_at dksX20_price_0 13 rfl rfl)
theorem dX20_price_14 : decode cX20_price 14 = .ok (.iload_n 2, 1) := dk_28 (dk_at dksX20_price_0 14 rfl rfl)
theorem dX20_price_15 : decode cX20_price 15 = .ok (.iload_n 3, 1) := dk_29 (dk_at dksX20_price_0 15 rfl rfl)
theorem dX20_price_16 : decode cX20_price 16 = .ok (.invokevirtual 207, 3) := dk_182 0 207 (dk_at dksX20_price_0 16 rfl rfl)
theorem dX20_price_19 : decode cX20_price 19 = .ok (.ifCond .ne 7, 3) := dk_154 0 7 (dk_at dksX20_price_0 19 rfl rfl)
theorem dX20_price_22 : decode cX20_price 22 = .ok (.ldc2_w 189, 3) := dk_20 0 189 (dk_at dksX20_price_1 0 rfl rfl)
theorem dX20_price_25 : decode cX20_price 25 = .ok (.lreturn, 1) := dk_173 (dk_at dksX20_price_1 3 rfl rfl)
theorem dX20_price_26 : decode cX20_price 26 = .ok (.aload_n 0, 1) := dk_42 (dk_at dksX20_price_1 4 rfl rfl)
theorem dX20_price_27 : decode cX20_price 27 = .ok (.iload_n 1, 1) := dk_27 (dk_at dksX20_price_1 5 rfl rfl)
theorem dX20_price_28 : decode cX20_price 28 = .ok (.iload_n 2, 1) := dk_28 (dk_at dksX20_price_1 6 rfl rfl)
theorem dX20_price_29 : decode cX20_price 29 = .ok (.iload_n 3, 1) := dk_29 (dk_at dksX20_price_1 7 rfl rfl)
theorem dX20_price_30 : decode cX20_price 30 = .ok (.iload 4, 2) := dk_21 4 (dk_at dksX20_price_1 8 rfl rfl)
theorem dX20_price_32 : decode cX20_price 32 = .ok (.invokevirtual 211, 3) := dk_182 0 211 (dk_at dksX20_price_1 10 rfl rfl)
theorem dX20_price_35 : decode cX20_price 35 = .ok (.i2l, 1) := dk_133 (dk_at dksX20_price_1 13 rfl rfl)
theorem dX20_price_36 : decode cX20_price 36 = .ok (.lreturn, 1) := dk_173 (dk_at dksX20_price_1 14 rfl rfl)
abbrev cX20_hasRows : ByteArray := prog_29_method_29_code
def yX20_hasRows : MethodName := ⟨RX20, "hasRows", "(III)Z"⟩
def dkwX20_hasRows_1 : List UInt8 := [182, 0, 161, 153, 0, 7, 4, 167, 0, 4, 3, 172]
abbrev dktX20_hasRows_1 : List UInt8 := dkwX20_hasRows_1 ++ []
def dkwX20_hasRows_0 : List UInt8 := [27, 184, 0, 201, 153, 0, 11, 42, 28, 182, 0, 161, 153, 0, 22, 27, 184, 0, 204, 153, 0, 11, 42, 29]
abbrev dktX20_hasRows_0 : List UInt8 := dkwX20_hasRows_0 ++ dktX20_hasRows_1
theorem dksX20_hasRows_0 : cX20_hasRows.data.toList.drop 0 = dktX20_hasRows_0 := by decide +kernel
theorem dksX20_hasRows_1 : cX20_hasRows.data.toList.drop 24 = dktX20_hasRows_1 := dk_seg dksX20_hasRows_0 24 rfl rfl
theorem dX20_hasRows_0 : decode cX20_hasRows 0 = .ok (.iload_n 1, 1) := dk_27 (dk_at dksX20_hasRows_0 0 rfl rfl)
theorem dX20_hasRows_1 : decode cX20_hasRows 1 = .ok (.invokestatic 201, 3) := dk_184 0 201 (dk_at dksX20_hasRows_0 1 rfl rfl)
theorem dX20_hasRows_4 : decode cX20_hasRows 4 = .ok (.ifCond .eq 11, 3) := dk_153 0 11 (dk_at dksX20_hasRows_0 4 rfl rfl)
theorem dX20_hasRows_7 : decode cX20_hasRows 7 = .ok (.aload_n 0, 1) := dk_42 (dk_at dksX20_hasRows_0 7 rfl rfl)
theorem dX20_hasRows_8 : decode cX20_hasRows 8 = .ok (.iload_n 2, 1) := dk_28 (dk_at dksX20_hasRows_0 8 rfl rfl)
theorem dX20_hasRows_9 : decode cX20_hasRows 9 = .ok (.invokevirtual 161, 3) := dk_182 0 161 (dk_at dksX20_hasRows_0 9 rfl rfl)
theorem dX20_hasRows_12 : decode cX20_hasRows 12 = .ok (.ifCond .eq 22, 3) := dk_153 0 22 (dk_at dksX20_hasRows_0 12 rfl rfl)
theorem dX20_hasRows_15 : decode cX20_hasRows 15 = .ok (.iload_n 1, 1) := dk_27 (dk_at dksX20_hasRows_0 15 rfl rfl)
theorem dX20_hasRows_16 : decode cX20_hasRows 16 = .ok (.invokestatic 204, 3) := dk_184 0 204 (dk_at dksX20_hasRows_0 16 rfl rfl)
theorem dX20_hasRows_19 : decode cX20_hasRows 19 = .ok (.ifCond .eq 11, 3) := dk_153 0 11 (dk_at dksX20_hasRows_0 19 rfl rfl)
theorem dX20_hasRows_22 : decode cX20_hasRows 22 = .ok (.aload_n 0, 1) := dk_42 (dk_at dksX20_hasRows_0 22 rfl rfl)
theorem dX20_hasRows_23 : decode cX20_hasRows 23 = .ok (.iload_n 3, 1) := dk_29 (dk_at dksX20_hasRows_0 23 rfl rfl)
theorem dX20_hasRows_24 : decode cX20_hasRows 24 = .ok (.invokevirtual 161, 3) := dk_182 0 161 (dk_at dksX20_hasRows_1 0 rfl rfl)
theorem dX20_hasRows_27 : decode cX20_hasRows 27 = .ok (.ifCond .eq 7, 3) := dk_153 0 7 (dk_at dksX20_hasRows_1 3 rfl rfl)
theorem dX20_hasRows_30 : decode cX20_hasRows 30 = .ok (.iconst 1, 1) := dk_4 (dk_at dksX20_hasRows_1 6 rfl rfl)
theorem dX20_hasRows_31 : decode cX20_hasRows 31 = .ok (.goto 4, 3) := dk_167 0 4 (dk_at dksX20_hasRows_1 7 rfl rfl)
theorem dX20_hasRows_34 : decode cX20_hasRows 34 = .ok (.iconst 0, 1) := dk_3 (dk_at dksX20_hasRows_1 10 rfl rfl)
theorem dX20_hasRows_35 : decode cX20_hasRows 35 = .ok (.ireturn, 1) := dk_172 (dk_at dksX20_hasRows_1 11 rfl rfl)
abbrev cX20_needsRow : ByteArray := prog_29_method_27_code
def yX20_needsRow : MethodName := ⟨RX20, "needsRow", "(I)Z"⟩
def dkwX20_needsRow_0 : List UInt8 := [26, 16, 10, 159, 0, 13, 26, 16, 11, 159, 0, 7, 4, 167, 0, 4, 3, 172]
abbrev dktX20_needsRow_0 : List UInt8 := dkwX20_needsRow_0 ++ []
theorem dksX20_needsRow_0 : cX20_needsRow.data.toList.drop 0 = dktX20_needsRow_0 := by decide +kernel
theorem dX20_needsRow_0 : decode cX20_needsRow 0 = .ok (.iload_n 0, 1) := dk_26 (dk_at dksX20_needsRow_0 0 rfl rfl)
theorem dX20_needsRow_1 : decode cX20_needsRow 1 = .ok (.bipush 10, 2) := dk_16 10 (dk_at dksX20_needsRow_0 1 rfl rfl)
theorem dX20_needsRow_3 : decode cX20_needsRow 3 = .ok (.if_icmp .eq 13, 3) := dk_159 0 13 (dk_at dksX20_needsRow_0 3 rfl rfl)
theorem dX20_needsRow_6 : decode cX20_needsRow 6 = .ok (.iload_n 0, 1) := dk_26 (dk_at dksX20_needsRow_0 6 rfl rfl)
theorem dX20_needsRow_7 : decode cX20_needsRow 7 = .ok (.bipush 11, 2) := dk_16 11 (dk_at dksX20_needsRow_0 7 rfl rfl)
theorem dX20_needsRow_9 : decode cX20_needsRow 9 = .ok (.if_icmp .eq 7, 3) := dk_159 0 7 (dk_at dksX20_needsRow_0 9 rfl rfl)
theorem dX20_needsRow_12 : decode cX20_needsRow 12 = .ok (.iconst 1, 1) := dk_4 (dk_at dksX20_needsRow_0 12 rfl rfl)
theorem dX20_needsRow_13 : decode cX20_needsRow 13 = .ok (.goto 4, 3) := dk_167 0 4 (dk_at dksX20_needsRow_0 13 rfl rfl)
theorem dX20_needsRow_16 : decode cX20_needsRow 16 = .ok (.iconst 0, 1) := dk_3 (dk_at dksX20_needsRow_0 16 rfl rfl)
theorem dX20_needsRow_17 : decode cX20_needsRow 17 = .ok (.ireturn, 1) := dk_172 (dk_at dksX20_needsRow_0 17 rfl rfl)
abbrev cX20_needsTwo : ByteArray := prog_29_method_28_code
def yX20_needsTwo : MethodName := ⟨RX20, "needsTwo", "(I)Z"⟩
def dkwX20_needsTwo_0 : List UInt8 := [26, 153, 0, 13, 26, 6, 159, 0, 8, 26, 7, 160, 0, 7, 4, 167, 0, 4, 3, 172]
abbrev dktX20_needsTwo_0 : List UInt8 := dkwX20_needsTwo_0 ++ []
theorem dksX20_needsTwo_0 : cX20_needsTwo.data.toList.drop 0 = dktX20_needsTwo_0 := by decide +kernel
theorem dX20_needsTwo_0 : decode cX20_needsTwo 0 = .ok (.iload_n 0, 1) := dk_26 (dk_at dksX20_needsTwo_0 0 rfl rfl)
theorem dX20_needsTwo_1 : decode cX20_needsTwo 1 = .ok (.ifCond .eq 13, 3) := dk_153 0 13 (dk_at dksX20_needsTwo_0 1 rfl rfl)
theorem dX20_needsTwo_4 : decode cX20_needsTwo 4 = .ok (.iload_n 0, 1) := dk_26 (dk_at dksX20_needsTwo_0 4 rfl rfl)
theorem dX20_needsTwo_5 : decode cX20_needsTwo 5 = .ok (.iconst 3, 1) := dk_6 (dk_at dksX20_needsTwo_0 5 rfl rfl)
theorem dX20_needsTwo_6 : decode cX20_needsTwo 6 = .ok (.if_icmp .eq 8, 3) := dk_159 0 8 (dk_at dksX20_needsTwo_0 6 rfl rfl)
theorem dX20_needsTwo_9 : decode cX20_needsTwo 9 = .ok (.iload_n 0, 1) := dk_26 (dk_at dksX20_needsTwo_0 9 rfl rfl)
theorem dX20_needsTwo_10 : decode cX20_needsTwo 10 = .ok (.iconst 4, 1) := dk_7 (dk_at dksX20_needsTwo_0 10 rfl rfl)
theorem dX20_needsTwo_11 : decode cX20_needsTwo 11 = .ok (.if_icmp .ne 7, 3) := dk_160 0 7 (dk_at dksX20_needsTwo_0 11 rfl rfl)
theorem dX20_needsTwo_14 : decode cX20_needsTwo 14 = .ok (.iconst 1, 1) := dk_4 (dk_at dksX20_needsTwo_0 14 rfl rfl)
theorem dX20_needsTwo_15 : decode cX20_needsTwo 15 = .ok (.goto 4, 3) := dk_167 0 4 (dk_at dksX20_needsTwo_0 15 rfl rfl)
theorem dX20_needsTwo_18 : decode cX20_needsTwo 18 = .ok (.iconst 0, 1) := dk_3 (dk_at dksX20_needsTwo_0 18 rfl rfl)
theorem dX20_needsTwo_19 : decode cX20_needsTwo 19 = .ok (.ireturn, 1) := dk_172 (dk_at dksX20_needsTwo_0 19 rfl rfl)
abbrev cX20_priceOf : ByteArray := prog_29_method_30_code
def yX20_priceOf : MethodName := ⟨RX20, "priceOf", "(IIII)I"⟩
def dkwX20_priceOf_9 : List UInt8 := [161, 0, 7, 6, 167, 0, 4, 4, 54, 9, 21, 6, 21, 7, 96, 21, 9, 104, 172]
abbrev dktX20_priceOf_9 : List UInt8 := dkwX20_priceOf_9 ++ []
def dkwX20_priceOf_8 : List UInt8 := [160, 0, 7, 5, 167, 0, 26, 21, 8, 16, 10, 160, 0, 7, 7, 167, 0, 15, 21, 8, 16, 8]
abbrev dktX20_priceOf_8 : List UInt8 := dkwX20_priceOf_8 ++ dktX20_priceOf_9
def dkwX20_priceOf_7 : List UInt8 := [29, 46, 54, 7, 42, 180, 0, 7, 28, 46, 54, 8, 21, 8, 8, 159, 0, 10, 21, 8, 16, 7]
abbrev dktX20_priceOf_7 : List UInt8 := dkwX20_priceOf_7 ++ dktX20_priceOf_8
def dkwX20_priceOf_6 : List UInt8 := [28, 46, 42, 180, 0, 13, 29, 46, 162, 0, 12, 42, 180, 0, 13, 28, 46, 167, 0, 9, 42, 180, 0, 13]
abbrev dktX20_priceOf_6 : List UInt8 := dkwX20_priceOf_6 ++ dktX20_priceOf_7
def dkwX20_priceOf_5 : List UInt8 := [180, 0, 13, 28, 46, 54, 7, 167, 0, 45, 27, 6, 159, 0, 8, 27, 7, 160, 0, 35, 42, 180, 0, 13]
abbrev dktX20_priceOf_5 : List UInt8 := dkwX20_priceOf_5 ++ dktX20_priceOf_6
def dkwX20_priceOf_4 : List UInt8 := [4, 159, 0, 20, 27, 8, 159, 0, 15, 27, 16, 6, 159, 0, 9, 27, 16, 12, 160, 0, 14, 42]
abbrev dktX20_priceOf_4 : List UInt8 := dkwX20_priceOf_4 ++ dktX20_priceOf_5
def dkwX20_priceOf_3 : List UInt8 := [21, 6, 172, 21, 5, 54, 7, 27, 16, 8, 160, 0, 13, 21, 5, 21, 5, 104, 54, 7, 167, 0, 78, 27]
abbrev dktX20_priceOf_3 : List UInt8 := dkwX20_priceOf_3 ++ dktX20_priceOf_4
def dkwX20_priceOf_2 : List UInt8 := [167, 0, 14, 27, 16, 10, 160, 0, 7, 8, 167, 0, 4, 4, 54, 6, 27, 184, 0, 201, 154, 0, 6]
abbrev dktX20_priceOf_2 : List UInt8 := dkwX20_priceOf_2 ++ dktX20_priceOf_3
def dkwX20_priceOf_1 : List UInt8 := [54, 5, 27, 153, 0, 9, 27, 16, 8, 160, 0, 7, 5, 167, 0, 23, 27, 4, 160, 0, 7, 6]
abbrev dktX20_priceOf_1 : List UInt8 := dkwX20_priceOf_1 ++ dktX20_priceOf_2
def dkwX20_priceOf_0 : List UInt8 := [21, 4, 156, 0, 7, 3, 167, 0, 17, 21, 4, 16, 40, 164, 0, 8, 16, 40, 167, 0, 5, 21, 4]
abbrev dktX20_priceOf_0 : List UInt8 := dkwX20_priceOf_0 ++ dktX20_priceOf_1
theorem dksX20_priceOf_0 : cX20_priceOf.data.toList.drop 0 = dktX20_priceOf_0 := by decide +kernel
theorem dksX20_priceOf_1 : cX20_priceOf.data.toList.drop 23 = dktX20_priceOf_1 := dk_seg dksX20_priceOf_0 23 rfl rfl
theorem dksX20_priceOf_2 : cX20_priceOf.data.toList.drop 45 = dktX20_priceOf_2 := dk_seg dksX20_priceOf_1 22 rfl rfl
theorem dksX20_priceOf_3 : cX20_priceOf.data.toList.drop 68 = dktX20_priceOf_3 := dk_seg dksX20_priceOf_2 23 rfl rfl
theorem dksX20_priceOf_4 : cX20_priceOf.data.toList.drop 92 = dktX20_priceOf_4 := dk_seg dksX20_priceOf_3 24 rfl rfl
theorem dksX20_priceOf_5 : cX20_priceOf.data.toList.drop 114 = dktX20_priceOf_5 := dk_seg dksX20_priceOf_4 22 rfl rfl
theorem dksX20_priceOf_6 : cX20_priceOf.data.toList.drop 138 = dktX20_priceOf_6 := dk_seg dksX20_priceOf_5 24 rfl rfl
theorem dksX20_priceOf_7 : cX20_priceOf.data.toList.drop 162 = dktX20_priceOf_7 := dk_seg dksX20_priceOf_6 24 rfl rfl
theorem dksX20_priceOf_8 : cX20_priceOf.data.toList.drop 184 = dktX20_priceOf_8 := dk_seg dksX20_priceOf_7 22 rfl rfl
theorem dksX20_priceOf_9 : cX20_priceOf.data.toList.drop 206 = dktX20_priceOf_9 := dk_seg dksX20_priceOf_8 22 rfl rfl
theorem dX20_priceOf_0 : decode cX20_priceOf 0 = .ok (.iload 4, 2) := dk_21 4 (dk_at dksX20_priceOf_0 0 rfl rfl)
theorem dX20_priceOf_2 : decode cX20_priceOf 2 = .ok (.ifCond .ge 7, 3) := dk_156 0 7 (dk_at dksX20_priceOf_0 2 rfl rfl)
theorem dX20_priceOf_5 : decode cX20_priceOf 5 = .ok (.iconst 0, 1) := dk_3 (dk_at dksX20_priceOf_0 5 rfl rfl)
theorem dX20_priceOf_6 : decode cX20_priceOf 6 = .ok (.goto 17, 3) := dk_167 0 17 (dk_at dksX20_priceOf_0 6 rfl rfl)
theorem dX20_priceOf_9 : decode cX20_priceOf 9 = .ok (.iload 4, 2) := dk_21 4 (dk_at dksX20_priceOf_0 9 rfl rfl)
theorem dX20_priceOf_11 : decode cX20_priceOf 11 = .ok (.bipush 40, 2) := dk_16 40 (dk_at dksX20_priceOf_0 11 rfl rfl)
theorem dX20_priceOf_13 : decode cX20_priceOf 13 = .ok (.if_icmp .le 8, 3) := dk_164 0 8 (dk_at dksX20_priceOf_0 13 rfl rfl)
theorem dX20_priceOf_16 : decode cX20_priceOf 16 = .ok (.bipush 40, 2) := dk_16 40 (dk_at dksX20_priceOf_0 16 rfl rfl)
theorem dX20_priceOf_18 : decode cX20_priceOf 18 = .ok (.goto 5, 3) := dk_167 0 5 (dk_at dksX20_priceOf_0 18 rfl rfl)
theorem dX20_priceOf_21 : decode cX20_priceOf 21 = .ok (.iload 4, 2) := dk_21 4 (dk_at dksX20_priceOf_0 21 rfl rfl)
theorem dX20_priceOf_23 : decode cX20_priceOf 23 = .ok (.istore 5, 2) := dk_54 5 (dk_at dksX20_priceOf_1 0 rfl rfl)
theorem dX20_priceOf_25 : decode cX20_priceOf 25 = .ok (.iload_n 1, 1) := dk_27 (dk_at dksX20_priceOf_1 2 rfl rfl)
theorem dX20_priceOf_26 : decode cX20_priceOf 26 = .ok (.ifCond .eq 9, 3) := dk_153 0 9 (dk_at dksX20_priceOf_1 3 rfl rfl)
theorem dX20_priceOf_29 : decode cX20_priceOf 29 = .ok (.iload_n 1, 1) := dk_27 (dk_at dksX20_priceOf_1 6 rfl rfl)
theorem dX20_priceOf_30 : decode cX20_priceOf 30 = .ok (.bipush 8, 2) := dk_16 8 (dk_at dksX20_priceOf_1 7 rfl rfl)
theorem dX20_priceOf_32 : decode cX20_priceOf 32 = .ok (.if_icmp .ne 7, 3) := dk_160 0 7 (dk_at dksX20_priceOf_1 9 rfl rfl)
theorem dX20_priceOf_35 : decode cX20_priceOf 35 = .ok (.iconst 2, 1) := dk_5 (dk_at dksX20_priceOf_1 12 rfl rfl)
theorem dX20_priceOf_36 : decode cX20_priceOf 36 = .ok (.goto 23, 3) := dk_167 0 23 (dk_at dksX20_priceOf_1 13 rfl rfl)
theorem dX20_priceOf_39 : decode cX20_priceOf 39 = .ok (.iload_n 1, 1) := dk_27 (dk_at dksX20_priceOf_1 16 rfl rfl)
theorem dX20_priceOf_40 : decode cX20_priceOf 40 = .ok (.iconst 1, 1) := dk_4 (dk_at dksX20_priceOf_1 17 rfl rfl)
theorem dX20_priceOf_41 : decode cX20_priceOf 41 = .ok (.if_icmp .ne 7, 3) := dk_160 0 7 (dk_at dksX20_priceOf_1 18 rfl rfl)
theorem dX20_priceOf_44 : decode cX20_priceOf 44 = .ok (.iconst 3, 1) := dk_6 (dk_at dksX20_priceOf_1 21 rfl rfl)
theorem dX20_priceOf_45 : decode cX20_priceOf 45 = .ok (.goto 14, 3) := dk_167 0 14 (dk_at dksX20_priceOf_2 0 rfl rfl)
theorem dX20_priceOf_48 : decode cX20_priceOf 48 = .ok (.iload_n 1, 1) := dk_27 (dk_at dksX20_priceOf_2 3 rfl rfl)
theorem dX20_priceOf_49 : decode cX20_priceOf 49 = .ok (.bipush 10, 2) := dk_16 10 (dk_at dksX20_priceOf_2 4 rfl rfl)
theorem dX20_priceOf_51 : decode cX20_priceOf 51 = .ok (.if_icmp .ne 7, 3) := dk_160 0 7 (dk_at dksX20_priceOf_2 6 rfl rfl)
theorem dX20_priceOf_54 : decode cX20_priceOf 54 = .ok (.iconst 5, 1) := dk_8 (dk_at dksX20_priceOf_2 9 rfl rfl)
theorem dX20_priceOf_55 : decode cX20_priceOf 55 = .ok (.goto 4, 3) := dk_167 0 4 (dk_at dksX20_priceOf_2 10 rfl rfl)
theorem dX20_priceOf_58 : decode cX20_priceOf 58 = .ok (.iconst 1, 1) := dk_4 (dk_at dksX20_priceOf_2 13 rfl rfl)
theorem dX20_priceOf_59 : decode cX20_priceOf 59 = .ok (.istore 6, 2) := dk_54 6 (dk_at dksX20_priceOf_2 14 rfl rfl)
theorem dX20_priceOf_61 : decode cX20_priceOf 61 = .ok (.iload_n 1, 1) := dk_27 (dk_at dksX20_priceOf_2 16 rfl rfl)
theorem dX20_priceOf_62 : decode cX20_priceOf 62 = .ok (.invokestatic 201, 3) := dk_184 0 201 (dk_at dksX20_priceOf_2 17 rfl rfl)
theorem dX20_priceOf_65 : decode cX20_priceOf 65 = .ok (.ifCond .ne 6, 3) := dk_154 0 6 (dk_at dksX20_priceOf_2 20 rfl rfl)
theorem dX20_priceOf_68 : decode cX20_priceOf 68 = .ok (.iload 6, 2) := dk_21 6 (dk_at dksX20_priceOf_3 0 rfl rfl)
theorem dX20_priceOf_70 : decode cX20_priceOf 70 = .ok (.ireturn, 1) := dk_172 (dk_at dksX20_priceOf_3 2 rfl rfl)
theorem dX20_priceOf_71 : decode cX20_priceOf 71 = .ok (.iload 5, 2) := dk_21 5 (dk_at dksX20_priceOf_3 3 rfl rfl)
theorem dX20_priceOf_73 : decode cX20_priceOf 73 = .ok (.istore 7, 2) := dk_54 7 (dk_at dksX20_priceOf_3 5 rfl rfl)
theorem dX20_priceOf_75 : decode cX20_priceOf 75 = .ok (.iload_n 1, 1) := dk_27 (dk_at dksX20_priceOf_3 7 rfl rfl)
theorem dX20_priceOf_76 : decode cX20_priceOf 76 = .ok (.bipush 8, 2) := dk_16 8 (dk_at dksX20_priceOf_3 8 rfl rfl)
theorem dX20_priceOf_78 : decode cX20_priceOf 78 = .ok (.if_icmp .ne 13, 3) := dk_160 0 13 (dk_at dksX20_priceOf_3 10 rfl rfl)
theorem dX20_priceOf_81 : decode cX20_priceOf 81 = .ok (.iload 5, 2) := dk_21 5 (dk_at dksX20_priceOf_3 13 rfl rfl)
theorem dX20_priceOf_83 : decode cX20_priceOf 83 = .ok (.iload 5, 2) := dk_21 5 (dk_at dksX20_priceOf_3 15 rfl rfl)
theorem dX20_priceOf_85 : decode cX20_priceOf 85 = .ok (.imul, 1) := dk_104 (dk_at dksX20_priceOf_3 17 rfl rfl)
theorem dX20_priceOf_86 : decode cX20_priceOf 86 = .ok (.istore 7, 2) := dk_54 7 (dk_at dksX20_priceOf_3 18 rfl rfl)
theorem dX20_priceOf_88 : decode cX20_priceOf 88 = .ok (.goto 78, 3) := dk_167 0 78 (dk_at dksX20_priceOf_3 20 rfl rfl)
theorem dX20_priceOf_91 : decode cX20_priceOf 91 = .ok (.iload_n 1, 1) := dk_27 (dk_at dksX20_priceOf_3 23 rfl rfl)
theorem dX20_priceOf_92 : decode cX20_priceOf 92 = .ok (.iconst 1, 1) := dk_4 (dk_at dksX20_priceOf_4 0 rfl rfl)
theorem dX20_priceOf_93 : decode cX20_priceOf 93 = .ok (.if_icmp .eq 20, 3) := dk_159 0 20 (dk_at dksX20_priceOf_4 1 rfl rfl)
theorem dX20_priceOf_96 : decode cX20_priceOf 96 = .ok (.iload_n 1, 1) := dk_27 (dk_at dksX20_priceOf_4 4 rfl rfl)
theorem dX20_priceOf_97 : decode cX20_priceOf 97 = .ok (.iconst 5, 1) := dk_8 (dk_at dksX20_priceOf_4 5 rfl rfl)
theorem dX20_priceOf_98 : decode cX20_priceOf 98 = .ok (.if_icmp .eq 15, 3) := dk_159 0 15 (dk_at dksX20_priceOf_4 6 rfl rfl)
theorem dX20_priceOf_101 : decode cX20_priceOf 101 = .ok (.iload_n 1, 1) := dk_27 (dk_at dksX20_priceOf_4 9 rfl rfl)
theorem dX20_priceOf_102 : decode cX20_priceOf 102 = .ok (.bipush 6, 2) := dk_16 6 (dk_at dksX20_priceOf_4 10 rfl rfl)
theorem dX20_priceOf_104 : decode cX20_priceOf 104 = .ok (.if_icmp .eq 9, 3) := dk_159 0 9 (dk_at dksX20_priceOf_4 12 rfl rfl)
theorem dX20_priceOf_107 : decode cX20_priceOf 107 = .ok (.iload_n 1, 1) := dk_27 (dk_at dksX20_priceOf_4 15 rfl rfl)
theorem dX20_priceOf_108 : decode cX20_priceOf 108 = .ok (.bipush 12, 2) := dk_16 12 (dk_at dksX20_priceOf_4 16 rfl rfl)
theorem dX20_priceOf_110 : decode cX20_priceOf 110 = .ok (.if_icmp .ne 14, 3) := dk_160 0 14 (dk_at dksX20_priceOf_4 18 rfl rfl)
theorem dX20_priceOf_113 : decode cX20_priceOf 113 = .ok (.aload_n 0, 1) := dk_42 (dk_at dksX20_priceOf_4 21 rfl rfl)
theorem dX20_priceOf_114 : decode cX20_priceOf 114 = .ok (.getfield 13, 3) := dk_180 0 13 (dk_at dksX20_priceOf_5 0 rfl rfl)
theorem dX20_priceOf_117 : decode cX20_priceOf 117 = .ok (.iload_n 2, 1) := dk_28 (dk_at dksX20_priceOf_5 3 rfl rfl)
theorem dX20_priceOf_118 : decode cX20_priceOf 118 = .ok (.iaload, 1) := dk_46 (dk_at dksX20_priceOf_5 4 rfl rfl)
theorem dX20_priceOf_119 : decode cX20_priceOf 119 = .ok (.istore 7, 2) := dk_54 7 (dk_at dksX20_priceOf_5 5 rfl rfl)
theorem dX20_priceOf_121 : decode cX20_priceOf 121 = .ok (.goto 45, 3) := dk_167 0 45 (dk_at dksX20_priceOf_5 7 rfl rfl)
theorem dX20_priceOf_124 : decode cX20_priceOf 124 = .ok (.iload_n 1, 1) := dk_27 (dk_at dksX20_priceOf_5 10 rfl rfl)
theorem dX20_priceOf_125 : decode cX20_priceOf 125 = .ok (.iconst 3, 1) := dk_6 (dk_at dksX20_priceOf_5 11 rfl rfl)
theorem dX20_priceOf_126 : decode cX20_priceOf 126 = .ok (.if_icmp .eq 8, 3) := dk_159 0 8 (dk_at dksX20_priceOf_5 12 rfl rfl)
theorem dX20_priceOf_129 : decode cX20_priceOf 129 = .ok (.iload_n 1, 1) := dk_27 (dk_at dksX20_priceOf_5 15 rfl rfl)
theorem dX20_priceOf_130 : decode cX20_priceOf 130 = .ok (.iconst 4, 1) := dk_7 (dk_at dksX20_priceOf_5 16 rfl rfl)
theorem dX20_priceOf_131 : decode cX20_priceOf 131 = .ok (.if_icmp .ne 35, 3) := dk_160 0 35 (dk_at dksX20_priceOf_5 17 rfl rfl)
theorem dX20_priceOf_134 : decode cX20_priceOf 134 = .ok (.aload_n 0, 1) := dk_42 (dk_at dksX20_priceOf_5 20 rfl rfl)
theorem dX20_priceOf_135 : decode cX20_priceOf 135 = .ok (.getfield 13, 3) := dk_180 0 13 (dk_at dksX20_priceOf_5 21 rfl rfl)
theorem dX20_priceOf_138 : decode cX20_priceOf 138 = .ok (.iload_n 2, 1) := dk_28 (dk_at dksX20_priceOf_6 0 rfl rfl)
theorem dX20_priceOf_139 : decode cX20_priceOf 139 = .ok (.iaload, 1) := dk_46 (dk_at dksX20_priceOf_6 1 rfl rfl)
theorem dX20_priceOf_140 : decode cX20_priceOf 140 = .ok (.aload_n 0, 1) := dk_42 (dk_at dksX20_priceOf_6 2 rfl rfl)
theorem dX20_priceOf_141 : decode cX20_priceOf 141 = .ok (.getfield 13, 3) := dk_180 0 13 (dk_at dksX20_priceOf_6 3 rfl rfl)
theorem dX20_priceOf_144 : decode cX20_priceOf 144 = .ok (.iload_n 3, 1) := dk_29 (dk_at dksX20_priceOf_6 6 rfl rfl)
theorem dX20_priceOf_145 : decode cX20_priceOf 145 = .ok (.iaload, 1) := dk_46 (dk_at dksX20_priceOf_6 7 rfl rfl)
theorem dX20_priceOf_146 : decode cX20_priceOf 146 = .ok (.if_icmp .ge 12, 3) := dk_162 0 12 (dk_at dksX20_priceOf_6 8 rfl rfl)
theorem dX20_priceOf_149 : decode cX20_priceOf 149 = .ok (.aload_n 0, 1) := dk_42 (dk_at dksX20_priceOf_6 11 rfl rfl)
theorem dX20_priceOf_150 : decode cX20_priceOf 150 = .ok (.getfield 13, 3) := dk_180 0 13 (dk_at dksX20_priceOf_6 12 rfl rfl)
theorem dX20_priceOf_153 : decode cX20_priceOf 153 = .ok (.iload_n 2, 1) := dk_28 (dk_at dksX20_priceOf_6 15 rfl rfl)
theorem dX20_priceOf_154 : decode cX20_priceOf 154 = .ok (.iaload, 1) := dk_46 (dk_at dksX20_priceOf_6 16 rfl rfl)
theorem dX20_priceOf_155 : decode cX20_priceOf 155 = .ok (.goto 9, 3) := dk_167 0 9 (dk_at dksX20_priceOf_6 17 rfl rfl)
theorem dX20_priceOf_158 : decode cX20_priceOf 158 = .ok (.aload_n 0, 1) := dk_42 (dk_at dksX20_priceOf_6 20 rfl rfl)
theorem dX20_priceOf_159 : decode cX20_priceOf 159 = .ok (.getfield 13, 3) := dk_180 0 13 (dk_at dksX20_priceOf_6 21 rfl rfl)
theorem dX20_priceOf_162 : decode cX20_priceOf 162 = .ok (.iload_n 3, 1) := dk_29 (dk_at dksX20_priceOf_7 0 rfl rfl)
theorem dX20_priceOf_163 : decode cX20_priceOf 163 = .ok (.iaload, 1) := dk_46 (dk_at dksX20_priceOf_7 1 rfl rfl)
theorem dX20_priceOf_164 : decode cX20_priceOf 164 = .ok (.istore 7, 2) := dk_54 7 (dk_at dksX20_priceOf_7 2 rfl rfl)
theorem dX20_priceOf_166 : decode cX20_priceOf 166 = .ok (.aload_n 0, 1) := dk_42 (dk_at dksX20_priceOf_7 4 rfl rfl)
theorem dX20_priceOf_167 : decode cX20_priceOf 167 = .ok (.getfield 7, 3) := dk_180 0 7 (dk_at dksX20_priceOf_7 5 rfl rfl)
theorem dX20_priceOf_170 : decode cX20_priceOf 170 = .ok (.iload_n 2, 1) := dk_28 (dk_at dksX20_priceOf_7 8 rfl rfl)
theorem dX20_priceOf_171 : decode cX20_priceOf 171 = .ok (.iaload, 1) := dk_46 (dk_at dksX20_priceOf_7 9 rfl rfl)
theorem dX20_priceOf_172 : decode cX20_priceOf 172 = .ok (.istore 8, 2) := dk_54 8 (dk_at dksX20_priceOf_7 10 rfl rfl)
theorem dX20_priceOf_174 : decode cX20_priceOf 174 = .ok (.iload 8, 2) := dk_21 8 (dk_at dksX20_priceOf_7 12 rfl rfl)
theorem dX20_priceOf_176 : decode cX20_priceOf 176 = .ok (.iconst 5, 1) := dk_8 (dk_at dksX20_priceOf_7 14 rfl rfl)
theorem dX20_priceOf_177 : decode cX20_priceOf 177 = .ok (.if_icmp .eq 10, 3) := dk_159 0 10 (dk_at dksX20_priceOf_7 15 rfl rfl)
theorem dX20_priceOf_180 : decode cX20_priceOf 180 = .ok (.iload 8, 2) := dk_21 8 (dk_at dksX20_priceOf_7 18 rfl rfl)
theorem dX20_priceOf_182 : decode cX20_priceOf 182 = .ok (.bipush 7, 2) := dk_16 7 (dk_at dksX20_priceOf_7 20 rfl rfl)
theorem dX20_priceOf_184 : decode cX20_priceOf 184 = .ok (.if_icmp .ne 7, 3) := dk_160 0 7 (dk_at dksX20_priceOf_8 0 rfl rfl)
theorem dX20_priceOf_187 : decode cX20_priceOf 187 = .ok (.iconst 2, 1) := dk_5 (dk_at dksX20_priceOf_8 3 rfl rfl)
theorem dX20_priceOf_188 : decode cX20_priceOf 188 = .ok (.goto 26, 3) := dk_167 0 26 (dk_at dksX20_priceOf_8 4 rfl rfl)
theorem dX20_priceOf_191 : decode cX20_priceOf 191 = .ok (.iload 8, 2) := dk_21 8 (dk_at dksX20_priceOf_8 7 rfl rfl)
theorem dX20_priceOf_193 : decode cX20_priceOf 193 = .ok (.bipush 10, 2) := dk_16 10 (dk_at dksX20_priceOf_8 9 rfl rfl)
theorem dX20_priceOf_195 : decode cX20_priceOf 195 = .ok (.if_icmp .ne 7, 3) := dk_160 0 7 (dk_at dksX20_priceOf_8 11 rfl rfl)
theorem dX20_priceOf_198 : decode cX20_priceOf 198 = .ok (.iconst 4, 1) := dk_7 (dk_at dksX20_priceOf_8 14 rfl rfl)
theorem dX20_priceOf_199 : decode cX20_priceOf 199 = .ok (.goto 15, 3) := dk_167 0 15 (dk_at dksX20_priceOf_8 15 rfl rfl)
theorem dX20_priceOf_202 : decode cX20_priceOf 202 = .ok (.iload 8, 2) := dk_21 8 (dk_at dksX20_priceOf_8 18 rfl rfl)
theorem dX20_priceOf_204 : decode cX20_priceOf 204 = .ok (.bipush 8, 2) := dk_16 8 (dk_at dksX20_priceOf_8 20 rfl rfl)
theorem dX20_priceOf_206 : decode cX20_priceOf 206 = .ok (.if_icmp .lt 7, 3) := dk_161 0 7 (dk_at dksX20_priceOf_9 0 rfl rfl)
theorem dX20_priceOf_209 : decode cX20_priceOf 209 = .ok (.iconst 3, 1) := dk_6 (dk_at dksX20_priceOf_9 3 rfl rfl)
theorem dX20_priceOf_210 : decode cX20_priceOf 210 = .ok (.goto 4, 3) := dk_167 0 4 (dk_at dksX20_priceOf_9 4 rfl rfl)
theorem dX20_priceOf_213 : decode cX20_priceOf 213 = .ok (.iconst 1, 1) := dk_4 (dk_at dksX20_priceOf_9 7 rfl rfl)
theorem dX20_priceOf_214 : decode cX20_priceOf 214 = .ok (.istore 9, 2) := dk_54 9 (dk_at dksX20_priceOf_9 8 rfl rfl)
theorem dX20_priceOf_216 : decode cX20_priceOf 216 = .ok (.iload 6, 2) := dk_21 6 (dk_at dksX20_priceOf_9 10 rfl rfl)
theorem dX20_priceOf_218 : decode cX20_priceOf 218 = .ok (.iload 7, 2) := dk_21 7 (dk_at dksX20_priceOf_9 12 rfl rfl)
theorem dX20_priceOf_220 : decode cX20_priceOf 220 = .ok (.iadd, 1) := dk_96 (dk_at dksX20_priceOf_9 14 rfl rfl)
theorem dX20_priceOf_221 : decode cX20_priceOf 221 = .ok (.iload 9, 2) := dk_21 9 (dk_at dksX20_priceOf_9 15 rfl rfl)
theorem dX20_priceOf_223 : decode cX20_priceOf 223 = .ok (.imul, 1) := dk_104 (dk_at dksX20_priceOf_9 17 rfl rfl)
theorem dX20_priceOf_224 : decode cX20_priceOf 224 = .ok (.ireturn, 1) := dk_172 (dk_at dksX20_priceOf_9 18 rfl rfl)
abbrev cX20_run : ByteArray := prog_29_method_57_code
def yX20_run : MethodName := ⟨RX20, "run", "(II)I"⟩
def dkwX20_run_5 : List UInt8 := [182, 1, 62, 62, 167, 255, 221, 42, 29, 181, 0, 60, 29, 172]
abbrev dktX20_run_5 : List UInt8 := dkwX20_run_5 ++ []
def dkwX20_run_4 : List UInt8 := [182, 1, 58, 54, 4, 21, 4, 158, 0, 20, 42, 89, 180, 1, 55, 4, 96, 181, 1, 55, 42, 21, 4]
abbrev dktX20_run_4 : List UInt8 := dkwX20_run_4 ++ dktX20_run_5
def dkwX20_run_3 : List UInt8 := [181, 0, 73, 42, 3, 181, 1, 31, 42, 27, 28, 182, 1, 45, 3, 62, 42, 180, 1, 31, 158, 0, 34, 42]
abbrev dktX20_run_3 : List UInt8 := dkwX20_run_3 ++ dktX20_run_4
def dkwX20_run_2 : List UInt8 := [161, 0, 6, 16, 152, 172, 42, 3, 181, 0, 64, 42, 3, 181, 0, 67, 42, 3, 181, 0, 70, 42, 3]
abbrev dktX20_run_2 : List UInt8 := dkwX20_run_2 ++ dktX20_run_3
def dkwX20_run_1 : List UInt8 := [154, 0, 6, 16, 154, 172, 42, 180, 0, 177, 17, 23, 112, 162, 0, 13, 42, 180, 1, 55, 17, 3, 32]
abbrev dktX20_run_1 : List UInt8 := dkwX20_run_1 ++ dktX20_run_2
def dkwX20_run_0 : List UInt8 := [27, 133, 9, 20, 0, 197, 184, 0, 123, 154, 0, 6, 16, 155, 172, 28, 133, 9, 20, 1, 53, 184, 0, 123]
abbrev dktX20_run_0 : List UInt8 := dkwX20_run_0 ++ dktX20_run_1
theorem dksX20_run_0 : cX20_run.data.toList.drop 0 = dktX20_run_0 := by decide +kernel
theorem dksX20_run_1 : cX20_run.data.toList.drop 24 = dktX20_run_1 := dk_seg dksX20_run_0 24 rfl rfl
theorem dksX20_run_2 : cX20_run.data.toList.drop 47 = dktX20_run_2 := dk_seg dksX20_run_1 23 rfl rfl
theorem dksX20_run_3 : cX20_run.data.toList.drop 70 = dktX20_run_3 := dk_seg dksX20_run_2 23 rfl rfl
theorem dksX20_run_4 : cX20_run.data.toList.drop 94 = dktX20_run_4 := dk_seg dksX20_run_3 24 rfl rfl
theorem dksX20_run_5 : cX20_run.data.toList.drop 117 = dktX20_run_5 := dk_seg dksX20_run_4 23 rfl rfl
theorem dX20_run_0 : decode cX20_run 0 = .ok (.iload_n 1, 1) := dk_27 (dk_at dksX20_run_0 0 rfl rfl)
theorem dX20_run_1 : decode cX20_run 1 = .ok (.i2l, 1) := dk_133 (dk_at dksX20_run_0 1 rfl rfl)
theorem dX20_run_2 : decode cX20_run 2 = .ok (.lconst 0, 1) := dk_9 (dk_at dksX20_run_0 2 rfl rfl)
theorem dX20_run_3 : decode cX20_run 3 = .ok (.ldc2_w 197, 3) := dk_20 0 197 (dk_at dksX20_run_0 3 rfl rfl)
theorem dX20_run_6 : decode cX20_run 6 = .ok (.invokestatic 123, 3) := dk_184 0 123 (dk_at dksX20_run_0 6 rfl rfl)
theorem dX20_run_9 : decode cX20_run 9 = .ok (.ifCond .ne 6, 3) := dk_154 0 6 (dk_at dksX20_run_0 9 rfl rfl)
theorem dX20_run_12 : decode cX20_run 12 = .ok (.bipush (-101), 2) := dk_16 155 (dk_at dksX20_run_0 12 rfl rfl)
theorem dX20_run_14 : decode cX20_run 14 = .ok (.ireturn, 1) := dk_172 (dk_at dksX20_run_0 14 rfl rfl)
theorem dX20_run_15 : decode cX20_run 15 = .ok (.iload_n 2, 1) := dk_28 (dk_at dksX20_run_0 15 rfl rfl)
theorem dX20_run_16 : decode cX20_run 16 = .ok (.i2l, 1) := dk_133 (dk_at dksX20_run_0 16 rfl rfl)
theorem dX20_run_17 : decode cX20_run 17 = .ok (.lconst 0, 1) := dk_9 (dk_at dksX20_run_0 17 rfl rfl)
theorem dX20_run_18 : decode cX20_run 18 = .ok (.ldc2_w 309, 3) := dk_20 1 53 (dk_at dksX20_run_0 18 rfl rfl)
theorem dX20_run_21 : decode cX20_run 21 = .ok (.invokestatic 123, 3) := dk_184 0 123 (dk_at dksX20_run_0 21 rfl rfl)
theorem dX20_run_24 : decode cX20_run 24 = .ok (.ifCond .ne 6, 3) := dk_154 0 6 (dk_at dksX20_run_1 0 rfl rfl)
theorem dX20_run_27 : decode cX20_run 27 = .ok (.bipush (-102), 2) := dk_16 154 (dk_at dksX20_run_1 3 rfl rfl)
theorem dX20_run_29 : decode cX20_run 29 = .ok (.ireturn, 1) := dk_172 (dk_at dksX20_run_1 5 rfl rfl)
theorem dX20_run_30 : decode cX20_run 30 = .ok (.aload_n 0, 1) := dk_42 (dk_at dksX20_run_1 6 rfl rfl)
theorem dX20_run_31 : decode cX20_run 31 = .ok (.getfield 177, 3) := dk_180 0 177 (dk_at dksX20_run_1 7 rfl rfl)
theorem dX20_run_34 : decode cX20_run 34 = .ok (.sipush 6000, 3) := dk_17 23 112 (dk_at dksX20_run_1 10 rfl rfl)
theorem dX20_run_37 : decode cX20_run 37 = .ok (.if_icmp .ge 13, 3) := dk_162 0 13 (dk_at dksX20_run_1 13 rfl rfl)
theorem dX20_run_40 : decode cX20_run 40 = .ok (.aload_n 0, 1) := dk_42 (dk_at dksX20_run_1 16 rfl rfl)
theorem dX20_run_41 : decode cX20_run 41 = .ok (.getfield 311, 3) := dk_180 1 55 (dk_at dksX20_run_1 17 rfl rfl)
theorem dX20_run_44 : decode cX20_run 44 = .ok (.sipush 800, 3) := dk_17 3 32 (dk_at dksX20_run_1 20 rfl rfl)
theorem dX20_run_47 : decode cX20_run 47 = .ok (.if_icmp .lt 6, 3) := dk_161 0 6 (dk_at dksX20_run_2 0 rfl rfl)
theorem dX20_run_50 : decode cX20_run 50 = .ok (.bipush (-104), 2) := dk_16 152 (dk_at dksX20_run_2 3 rfl rfl)
theorem dX20_run_52 : decode cX20_run 52 = .ok (.ireturn, 1) := dk_172 (dk_at dksX20_run_2 5 rfl rfl)
theorem dX20_run_53 : decode cX20_run 53 = .ok (.aload_n 0, 1) := dk_42 (dk_at dksX20_run_2 6 rfl rfl)
theorem dX20_run_54 : decode cX20_run 54 = .ok (.iconst 0, 1) := dk_3 (dk_at dksX20_run_2 7 rfl rfl)
theorem dX20_run_55 : decode cX20_run 55 = .ok (.putfield 64, 3) := dk_181 0 64 (dk_at dksX20_run_2 8 rfl rfl)
theorem dX20_run_58 : decode cX20_run 58 = .ok (.aload_n 0, 1) := dk_42 (dk_at dksX20_run_2 11 rfl rfl)
theorem dX20_run_59 : decode cX20_run 59 = .ok (.iconst 0, 1) := dk_3 (dk_at dksX20_run_2 12 rfl rfl)
theorem dX20_run_60 : decode cX20_run 60 = .ok (.putfield 67, 3) := dk_181 0 67 (dk_at dksX20_run_2 13 rfl rfl)
theorem dX20_run_63 : decode cX20_run 63 = .ok (.aload_n 0, 1) := dk_42 (dk_at dksX20_run_2 16 rfl rfl)
theorem dX20_run_64 : decode cX20_run 64 = .ok (.iconst 0, 1) := dk_3 (dk_at dksX20_run_2 17 rfl rfl)
theorem dX20_run_65 : decode cX20_run 65 = .ok (.putfield 70, 3) := dk_181 0 70 (dk_at dksX20_run_2 18 rfl rfl)
theorem dX20_run_68 : decode cX20_run 68 = .ok (.aload_n 0, 1) := dk_42 (dk_at dksX20_run_2 21 rfl rfl)
theorem dX20_run_69 : decode cX20_run 69 = .ok (.iconst 0, 1) := dk_3 (dk_at dksX20_run_2 22 rfl rfl)
theorem dX20_run_70 : decode cX20_run 70 = .ok (.putfield 73, 3) := dk_181 0 73 (dk_at dksX20_run_3 0 rfl rfl)
theorem dX20_run_73 : decode cX20_run 73 = .ok (.aload_n 0, 1) := dk_42 (dk_at dksX20_run_3 3 rfl rfl)
theorem dX20_run_74 : decode cX20_run 74 = .ok (.iconst 0, 1) := dk_3 (dk_at dksX20_run_3 4 rfl rfl)
theorem dX20_run_75 : decode cX20_run 75 = .ok (.putfield 287, 3) := dk_181 1 31 (dk_at dksX20_run_3 5 rfl rfl)
theorem dX20_run_78 : decode cX20_run 78 = .ok (.aload_n 0, 1) := dk_42 (dk_at dksX20_run_3 8 rfl rfl)
theorem dX20_run_79 : decode cX20_run 79 = .ok (.iload_n 1, 1) := dk_27 (dk_at dksX20_run_3 9 rfl rfl)
theorem dX20_run_80 : decode cX20_run 80 = .ok (.iload_n 2, 1) := dk_28 (dk_at dksX20_run_3 10 rfl rfl)
theorem dX20_run_81 : decode cX20_run 81 = .ok (.invokevirtual 301, 3) := dk_182 1 45 (dk_at dksX20_run_3 11 rfl rfl)
theorem dX20_run_84 : decode cX20_run 84 = .ok (.iconst 0, 1) := dk_3 (dk_at dksX20_run_3 14 rfl rfl)
theorem dX20_run_85 : decode cX20_run 85 = .ok (.istore_n 3, 1) := dk_62 (dk_at dksX20_run_3 15 rfl rfl)
theorem dX20_run_86 : decode cX20_run 86 = .ok (.aload_n 0, 1) := dk_42 (dk_at dksX20_run_3 16 rfl rfl)
theorem dX20_run_87 : decode cX20_run 87 = .ok (.getfield 287, 3) := dk_180 1 31 (dk_at dksX20_run_3 17 rfl rfl)
theorem dX20_run_90 : decode cX20_run 90 = .ok (.ifCond .le 34, 3) := dk_158 0 34 (dk_at dksX20_run_3 20 rfl rfl)
theorem dX20_run_93 : decode cX20_run 93 = .ok (.aload_n 0, 1) := dk_42 (dk_at dksX20_run_3 23 rfl rfl)
theorem dX20_run_94 : decode cX20_run 94 = .ok (.invokevirtual 314, 3) := dk_182 1 58 (dk_at dksX20_run_4 0 rfl rfl)
theorem dX20_run_97 : decode cX20_run 97 = .ok (.istore 4, 2) := dk_54 4 (dk_at dksX20_run_4 3 rfl rfl)
theorem dX20_run_99 : decode cX20_run 99 = .ok (.iload 4, 2) := dk_21 4 (dk_at dksX20_run_4 5 rfl rfl)
theorem dX20_run_101 : decode cX20_run 101 = .ok (.ifCond .le 20, 3) := dk_158 0 20 (dk_at dksX20_run_4 7 rfl rfl)
theorem dX20_run_104 : decode cX20_run 104 = .ok (.aload_n 0, 1) := dk_42 (dk_at dksX20_run_4 10 rfl rfl)
theorem dX20_run_105 : decode cX20_run 105 = .ok (.dup, 1) := dk_89 (dk_at dksX20_run_4 11 rfl rfl)
theorem dX20_run_106 : decode cX20_run 106 = .ok (.getfield 311, 3) := dk_180 1 55 (dk_at dksX20_run_4 12 rfl rfl)
theorem dX20_run_109 : decode cX20_run 109 = .ok (.iconst 1, 1) := dk_4 (dk_at dksX20_run_4 15 rfl rfl)
theorem dX20_run_110 : decode cX20_run 110 = .ok (.iadd, 1) := dk_96 (dk_at dksX20_run_4 16 rfl rfl)
theorem dX20_run_111 : decode cX20_run 111 = .ok (.putfield 311, 3) := dk_181 1 55 (dk_at dksX20_run_4 17 rfl rfl)
theorem dX20_run_114 : decode cX20_run 114 = .ok (.aload_n 0, 1) := dk_42 (dk_at dksX20_run_4 20 rfl rfl)
theorem dX20_run_115 : decode cX20_run 115 = .ok (.iload 4, 2) := dk_21 4 (dk_at dksX20_run_4 21 rfl rfl)
theorem dX20_run_117 : decode cX20_run 117 = .ok (.invokevirtual 318, 3) := dk_182 1 62 (dk_at dksX20_run_5 0 rfl rfl)
theorem dX20_run_120 : decode cX20_run 120 = .ok (.istore_n 3, 1) := dk_62 (dk_at dksX20_run_5 3 rfl rfl)
theorem dX20_run_121 : decode cX20_run 121 = .ok (.goto (-35), 3) := dk_167 255 221 (dk_at dksX20_run_5 4 rfl rfl)
theorem dX20_run_124 : decode cX20_run 124 = .ok (.aload_n 0, 1) := dk_42 (dk_at dksX20_run_5 7 rfl rfl)
theorem dX20_run_125 : decode cX20_run 125 = .ok (.iload_n 3, 1) := dk_29 (dk_at dksX20_run_5 8 rfl rfl)
theorem dX20_run_126 : decode cX20_run 126 = .ok (.putfield 60, 3) := dk_181 0 60 (dk_at dksX20_run_5 9 rfl rfl)
theorem dX20_run_129 : decode cX20_run 129 = .ok (.iload_n 3, 1) := dk_29 (dk_at dksX20_run_5 12 rfl rfl)
theorem dX20_run_130 : decode cX20_run 130 = .ok (.ireturn, 1) := dk_172 (dk_at dksX20_run_5 13 rfl rfl)
abbrev cX20_enter : ByteArray := prog_29_method_51_code
def yX20_enter : MethodName := ⟨RX20, "enter", "(II)V"⟩
def dkwX20_enter_5 : List UInt8 := [180, 1, 31, 167, 0, 7, 42, 180, 0, 186, 181, 0, 186, 177]
abbrev dktX20_enter_5 : List UInt8 := dkwX20_enter_5 ++ []
def dkwX20_enter_4 : List UInt8 := [89, 180, 1, 31, 4, 96, 181, 1, 31, 42, 42, 180, 1, 31, 42, 180, 0, 186, 164, 0, 10, 42]
abbrev dktX20_enter_4 : List UInt8 := dkwX20_enter_4 ++ dktX20_enter_5
def dkwX20_enter_3 : List UInt8 := [17, 9, 96, 42, 180, 1, 31, 104, 29, 96, 42, 180, 0, 16, 29, 47, 80, 132, 3, 1, 167, 255, 221, 42]
abbrev dktX20_enter_3 : List UInt8 := dkwX20_enter_3 ++ dktX20_enter_4
def dkwX20_enter_2 : List UInt8 := [42, 180, 0, 103, 79, 3, 62, 29, 16, 40, 42, 180, 0, 103, 104, 162, 0, 30, 42, 180, 0, 57]
abbrev dktX20_enter_2 : List UInt8 := dkwX20_enter_2 ++ dktX20_enter_3
def dkwX20_enter_1 : List UInt8 := [42, 180, 1, 31, 28, 79, 42, 180, 0, 51, 42, 180, 1, 31, 28, 79, 42, 180, 0, 54, 42, 180, 1, 31]
abbrev dktX20_enter_1 : List UInt8 := dkwX20_enter_1 ++ dktX20_enter_2
def dkwX20_enter_0 : List UInt8 := [42, 180, 0, 42, 42, 180, 1, 31, 27, 79, 42, 180, 0, 45, 42, 180, 1, 31, 3, 79, 42, 180, 0, 48]
abbrev dktX20_enter_0 : List UInt8 := dkwX20_enter_0 ++ dktX20_enter_1
theorem dksX20_enter_0 : cX20_enter.data.toList.drop 0 = dktX20_enter_0 := by decide +kernel
theorem dksX20_enter_1 : cX20_enter.data.toList.drop 24 = dktX20_enter_1 := dk_seg dksX20_enter_0 24 rfl rfl
theorem dksX20_enter_2 : cX20_enter.data.toList.drop 48 = dktX20_enter_2 := dk_seg dksX20_enter_1 24 rfl rfl
theorem dksX20_enter_3 : cX20_enter.data.toList.drop 70 = dktX20_enter_3 := dk_seg dksX20_enter_2 22 rfl rfl
theorem dksX20_enter_4 : cX20_enter.data.toList.drop 94 = dktX20_enter_4 := dk_seg dksX20_enter_3 24 rfl rfl
theorem dksX20_enter_5 : cX20_enter.data.toList.drop 116 = dktX20_enter_5 := dk_seg dksX20_enter_4 22 rfl rfl
theorem dX20_enter_0 : decode cX20_enter 0 = .ok (.aload_n 0, 1) := dk_42 (dk_at dksX20_enter_0 0 rfl rfl)
theorem dX20_enter_1 : decode cX20_enter 1 = .ok (.getfield 42, 3) := dk_180 0 42 (dk_at dksX20_enter_0 1 rfl rfl)
theorem dX20_enter_4 : decode cX20_enter 4 = .ok (.aload_n 0, 1) := dk_42 (dk_at dksX20_enter_0 4 rfl rfl)
theorem dX20_enter_5 : decode cX20_enter 5 = .ok (.getfield 287, 3) := dk_180 1 31 (dk_at dksX20_enter_0 5 rfl rfl)
theorem dX20_enter_8 : decode cX20_enter 8 = .ok (.iload_n 1, 1) := dk_27 (dk_at dksX20_enter_0 8 rfl rfl)
theorem dX20_enter_9 : decode cX20_enter 9 = .ok (.iastore, 1) := dk_79 (dk_at dksX20_enter_0 9 rfl rfl)
theorem dX20_enter_10 : decode cX20_enter 10 = .ok (.aload_n 0, 1) := dk_42 (dk_at dksX20_enter_0 10 rfl rfl)
theorem dX20_enter_11 : decode cX20_enter 11 = .ok (.getfield 45, 3) := dk_180 0 45 (dk_at dksX20_enter_0 11 rfl rfl)
theorem dX20_enter_14 : decode cX20_enter 14 = .ok (.aload_n 0, 1) := dk_42 (dk_at dksX20_enter_0 14 rfl rfl)
theorem dX20_enter_15 : decode cX20_enter 15 = .ok (.getfield 287, 3) := dk_180 1 31 (dk_at dksX20_enter_0 15 rfl rfl)
theorem dX20_enter_18 : decode cX20_enter 18 = .ok (.iconst 0, 1) := dk_3 (dk_at dksX20_enter_0 18 rfl rfl)
theorem dX20_enter_19 : decode cX20_enter 19 = .ok (.iastore, 1) := dk_79 (dk_at dksX20_enter_0 19 rfl rfl)
theorem dX20_enter_20 : decode cX20_enter 20 = .ok (.aload_n 0, 1) := dk_42 (dk_at dksX20_enter_0 20 rfl rfl)
theorem dX20_enter_21 : decode cX20_enter 21 = .ok (.getfield 48, 3) := dk_180 0 48 (dk_at dksX20_enter_0 21 rfl rfl)
theorem dX20_enter_24 : decode cX20_enter 24 = .ok (.aload_n 0, 1) := dk_42 (dk_at dksX20_enter_1 0 rfl rfl)
theorem dX20_enter_25 : decode cX20_enter 25 = .ok (.getfield 287, 3) := dk_180 1 31 (dk_at dksX20_enter_1 1 rfl rfl)
theorem dX20_enter_28 : decode cX20_enter 28 = .ok (.iload_n 2, 1) := dk_28 (dk_at dksX20_enter_1 4 rfl rfl)
theorem dX20_enter_29 : decode cX20_enter 29 = .ok (.iastore, 1) := dk_79 (dk_at dksX20_enter_1 5 rfl rfl)
theorem dX20_enter_30 : decode cX20_enter 30 = .ok (.aload_n 0, 1) := dk_42 (dk_at dksX20_enter_1 6 rfl rfl)
theorem dX20_enter_31 : decode cX20_enter 31 = .ok (.getfield 51, 3) := dk_180 0 51 (dk_at dksX20_enter_1 7 rfl rfl)
theorem dX20_enter_34 : decode cX20_enter 34 = .ok (.aload_n 0, 1) := dk_42 (dk_at dksX20_enter_1 10 rfl rfl)
theorem dX20_enter_35 : decode cX20_enter 35 = .ok (.getfield 287, 3) := dk_180 1 31 (dk_at dksX20_enter_1 11 rfl rfl)
theorem dX20_enter_38 : decode cX20_enter 38 = .ok (.iload_n 2, 1) := dk_28 (dk_at dksX20_enter_1 14 rfl rfl)
theorem dX20_enter_39 : decode cX20_enter 39 = .ok (.iastore, 1) := dk_79 (dk_at dksX20_enter_1 15 rfl rfl)
theorem dX20_enter_40 : decode cX20_enter 40 = .ok (.aload_n 0, 1) := dk_42 (dk_at dksX20_enter_1 16 rfl rfl)
theorem dX20_enter_41 : decode cX20_enter 41 = .ok (.getfield 54, 3) := dk_180 0 54 (dk_at dksX20_enter_1 17 rfl rfl)
theorem dX20_enter_44 : decode cX20_enter 44 = .ok (.aload_n 0, 1) := dk_42 (dk_at dksX20_enter_1 20 rfl rfl)
theorem dX20_enter_45 : decode cX20_enter 45 = .ok (.getfield 287, 3) := dk_180 1 31 (dk_at dksX20_enter_1 21 rfl rfl)
theorem dX20_enter_48 : decode cX20_enter 48 = .ok (.aload_n 0, 1) := dk_42 (dk_at dksX20_enter_2 0 rfl rfl)
theorem dX20_enter_49 : decode cX20_enter 49 = .ok (.getfield 103, 3) := dk_180 0 103 (dk_at dksX20_enter_2 1 rfl rfl)
theorem dX20_enter_52 : decode cX20_enter 52 = .ok (.iastore, 1) := dk_79 (dk_at dksX20_enter_2 4 rfl rfl)
theorem dX20_enter_53 : decode cX20_enter 53 = .ok (.iconst 0, 1) := dk_3 (dk_at dksX20_enter_2 5 rfl rfl)
theorem dX20_enter_54 : decode cX20_enter 54 = .ok (.istore_n 3, 1) := dk_62 (dk_at dksX20_enter_2 6 rfl rfl)
theorem dX20_enter_55 : decode cX20_enter 55 = .ok (.iload_n 3, 1) := dk_29 (dk_at dksX20_enter_2 7 rfl rfl)
theorem dX20_enter_56 : decode cX20_enter 56 = .ok (.bipush 40, 2) := dk_16 40 (dk_at dksX20_enter_2 8 rfl rfl)
theorem dX20_enter_58 : decode cX20_enter 58 = .ok (.aload_n 0, 1) := dk_42 (dk_at dksX20_enter_2 10 rfl rfl)
theorem dX20_enter_59 : decode cX20_enter 59 = .ok (.getfield 103, 3) := dk_180 0 103 (dk_at dksX20_enter_2 11 rfl rfl)
theorem dX20_enter_62 : decode cX20_enter 62 = .ok (.imul, 1) := dk_104 (dk_at dksX20_enter_2 14 rfl rfl)
theorem dX20_enter_63 : decode cX20_enter 63 = .ok (.if_icmp .ge 30, 3) := dk_162 0 30 (dk_at dksX20_enter_2 15 rfl rfl)
theorem dX20_enter_66 : decode cX20_enter 66 = .ok (.aload_n 0, 1) := dk_42 (dk_at dksX20_enter_2 18 rfl rfl)
theorem dX20_enter_67 : decode cX20_enter 67 = .ok (.getfield 57, 3) := dk_180 0 57 (dk_at dksX20_enter_2 19 rfl rfl)
theorem dX20_enter_70 : decode cX20_enter 70 = .ok (.sipush 2400, 3) := dk_17 9 96 (dk_at dksX20_enter_3 0 rfl rfl)
theorem dX20_enter_73 : decode cX20_enter 73 = .ok (.aload_n 0, 1) := dk_42 (dk_at dksX20_enter_3 3 rfl rfl)
theorem dX20_enter_74 : decode cX20_enter 74 = .ok (.getfield 287, 3) := dk_180 1 31 (dk_at dksX20_enter_3 4 rfl rfl)
theorem dX20_enter_77 : decode cX20_enter 77 = .ok (.imul, 1) := dk_104 (dk_at dksX20_enter_3 7 rfl rfl)
theorem dX20_enter_78 : decode cX20_enter 78 = .ok (.iload_n 3, 1) := dk_29 (dk_at dksX20_enter_3 8 rfl rfl)
theorem dX20_enter_79 : decode cX20_enter 79 = .ok (.iadd, 1) := dk_96 (dk_at dksX20_enter_3 9 rfl rfl)
theorem dX20_enter_80 : decode cX20_enter 80 = .ok (.aload_n 0, 1) := dk_42 (dk_at dksX20_enter_3 10 rfl rfl)
theorem dX20_enter_81 : decode cX20_enter 81 = .ok (.getfield 16, 3) := dk_180 0 16 (dk_at dksX20_enter_3 11 rfl rfl)
theorem dX20_enter_84 : decode cX20_enter 84 = .ok (.iload_n 3, 1) := dk_29 (dk_at dksX20_enter_3 14 rfl rfl)
theorem dX20_enter_85 : decode cX20_enter 85 = .ok (.laload, 1) := dk_47 (dk_at dksX20_enter_3 15 rfl rfl)
theorem dX20_enter_86 : decode cX20_enter 86 = .ok (.lastore, 1) := dk_80 (dk_at dksX20_enter_3 16 rfl rfl)
theorem dX20_enter_87 : decode cX20_enter 87 = .ok (.iinc 3 1, 3) := dk_132 3 1 (dk_at dksX20_enter_3 17 rfl rfl)
theorem dX20_enter_90 : decode cX20_enter 90 = .ok (.goto (-35), 3) := dk_167 255 221 (dk_at dksX20_enter_3 20 rfl rfl)
theorem dX20_enter_93 : decode cX20_enter 93 = .ok (.aload_n 0, 1) := dk_42 (dk_at dksX20_enter_3 23 rfl rfl)
theorem dX20_enter_94 : decode cX20_enter 94 = .ok (.dup, 1) := dk_89 (dk_at dksX20_enter_4 0 rfl rfl)
theorem dX20_enter_95 : decode cX20_enter 95 = .ok (.getfield 287, 3) := dk_180 1 31 (dk_at dksX20_enter_4 1 rfl rfl)
theorem dX20_enter_98 : decode cX20_enter 98 = .ok (.iconst 1, 1) := dk_4 (dk_at dksX20_enter_4 4 rfl rfl)
theorem dX20_enter_99 : decode cX20_enter 99 = .ok (.iadd, 1) := dk_96 (dk_at dksX20_enter_4 5 rfl rfl)
theorem dX20_enter_100 : decode cX20_enter 100 = .ok (.putfield 287, 3) := dk_181 1 31 (dk_at dksX20_enter_4 6 rfl rfl)
theorem dX20_enter_103 : decode cX20_enter 103 = .ok (.aload_n 0, 1) := dk_42 (dk_at dksX20_enter_4 9 rfl rfl)
theorem dX20_enter_104 : decode cX20_enter 104 = .ok (.aload_n 0, 1) := dk_42 (dk_at dksX20_enter_4 10 rfl rfl)
theorem dX20_enter_105 : decode cX20_enter 105 = .ok (.getfield 287, 3) := dk_180 1 31 (dk_at dksX20_enter_4 11 rfl rfl)
theorem dX20_enter_108 : decode cX20_enter 108 = .ok (.aload_n 0, 1) := dk_42 (dk_at dksX20_enter_4 14 rfl rfl)
theorem dX20_enter_109 : decode cX20_enter 109 = .ok (.getfield 186, 3) := dk_180 0 186 (dk_at dksX20_enter_4 15 rfl rfl)
theorem dX20_enter_112 : decode cX20_enter 112 = .ok (.if_icmp .le 10, 3) := dk_164 0 10 (dk_at dksX20_enter_4 18 rfl rfl)
theorem dX20_enter_115 : decode cX20_enter 115 = .ok (.aload_n 0, 1) := dk_42 (dk_at dksX20_enter_4 21 rfl rfl)
theorem dX20_enter_116 : decode cX20_enter 116 = .ok (.getfield 287, 3) := dk_180 1 31 (dk_at dksX20_enter_5 0 rfl rfl)
theorem dX20_enter_119 : decode cX20_enter 119 = .ok (.goto 7, 3) := dk_167 0 7 (dk_at dksX20_enter_5 3 rfl rfl)
theorem dX20_enter_122 : decode cX20_enter 122 = .ok (.aload_n 0, 1) := dk_42 (dk_at dksX20_enter_5 6 rfl rfl)
theorem dX20_enter_123 : decode cX20_enter 123 = .ok (.getfield 186, 3) := dk_180 0 186 (dk_at dksX20_enter_5 7 rfl rfl)
theorem dX20_enter_126 : decode cX20_enter 126 = .ok (.putfield 186, 3) := dk_181 0 186 (dk_at dksX20_enter_5 10 rfl rfl)
theorem dX20_enter_129 : decode cX20_enter 129 = .ok (.return_, 1) := dk_177 (dk_at dksX20_enter_5 13 rfl rfl)
abbrev cX20_step : ByteArray := prog_29_method_56_code
def yX20_step : MethodName := ⟨RX20, "step", "()I"⟩
def dkwX20_step_12 : List UInt8 := [182, 1, 49, 54, 8, 21, 8, 154, 0, 11, 42, 42, 180, 0, 218, 182, 1, 41, 21, 8, 172]
abbrev dktX20_step_12 : List UInt8 := dkwX20_step_12 ++ []
def dkwX20_step_11 : List UInt8 := [21, 8, 182, 1, 45, 3, 172, 42, 28, 29, 21, 4, 21, 5, 42, 27, 7, 182, 1, 38, 21, 6]
abbrev dktX20_step_11 : List UInt8 := dkwX20_step_11 ++ dktX20_step_12
def dkwX20_step_10 : List UInt8 := [180, 0, 51, 27, 46, 164, 0, 12, 42, 180, 0, 51, 27, 46, 167, 0, 5, 21, 6, 54, 8, 42, 29]
abbrev dktX20_step_10 : List UInt8 := dkwX20_step_10 ++ dktX20_step_11
def dkwX20_step_9 : List UInt8 := [42, 180, 1, 31, 16, 6, 160, 0, 6, 16, 7, 172, 21, 6, 156, 0, 7, 3, 167, 0, 25, 21, 6, 42]
abbrev dktX20_step_9 : List UInt8 := dkwX20_step_9 ++ dktX20_step_10
def dkwX20_step_8 : List UInt8 := [180, 0, 177, 4, 96, 181, 0, 177, 42, 89, 180, 0, 67, 4, 96, 181, 0, 67, 28, 16, 10, 160, 0, 57]
abbrev dktX20_step_8 : List UInt8 := dkwX20_step_8 ++ dktX20_step_9
def dkwX20_step_7 : List UInt8 := [42, 89, 180, 0, 183, 21, 7, 96, 181, 0, 183, 42, 89, 180, 0, 64, 21, 7, 96, 181, 0, 64, 42, 89]
abbrev dktX20_step_7 : List UInt8 := dkwX20_step_7 ++ dktX20_step_8
def dkwX20_step_6 : List UInt8 := [180, 0, 51, 27, 46, 21, 7, 162, 0, 6, 16, 8, 172, 42, 180, 0, 51, 27, 92, 46, 21, 7, 100, 79]
abbrev dktX20_step_6 : List UInt8 := dkwX20_step_6 ++ dktX20_step_7
def dkwX20_step_5 : List UInt8 := [21, 5, 182, 0, 207, 154, 0, 5, 4, 172, 42, 28, 29, 21, 5, 21, 6, 182, 0, 211, 54, 7, 42]
abbrev dktX20_step_5 : List UInt8 := dkwX20_step_5 ++ dktX20_step_6
def dkwX20_step_4 : List UInt8 := [182, 1, 38, 54, 4, 42, 27, 6, 182, 1, 38, 54, 5, 42, 27, 8, 182, 1, 38, 54, 6, 42, 28, 29]
abbrev dktX20_step_4 : List UInt8 := dkwX20_step_4 ++ dktX20_step_5
def dkwX20_step_3 : List UInt8 := [182, 1, 41, 3, 172, 42, 27, 3, 182, 1, 38, 61, 42, 27, 4, 182, 1, 38, 62, 42, 27, 5]
abbrev dktX20_step_3 : List UInt8 := dkwX20_step_3 ++ dktX20_step_4
def dkwX20_step_2 : List UInt8 := [181, 1, 31, 42, 180, 1, 31, 158, 0, 20, 42, 180, 0, 51, 27, 4, 100, 92, 46, 28, 100, 79, 42, 9]
abbrev dktX20_step_2 : List UInt8 := dkwX20_step_2 ++ dktX20_step_3
def dkwX20_step_1 : List UInt8 := [160, 0, 53, 42, 180, 0, 48, 27, 46, 42, 180, 0, 51, 27, 46, 100, 61, 42, 89, 180, 1, 31, 4, 100]
abbrev dktX20_step_1 : List UInt8 := dkwX20_step_1 ++ dktX20_step_2
def dkwX20_step_0 : List UInt8 := [42, 180, 1, 31, 4, 100, 60, 42, 180, 0, 45, 27, 46, 42, 180, 0, 33, 42, 180, 0, 42, 27, 46, 46]
abbrev dktX20_step_0 : List UInt8 := dkwX20_step_0 ++ dktX20_step_1
theorem dksX20_step_0 : cX20_step.data.toList.drop 0 = dktX20_step_0 := by decide +kernel
theorem dksX20_step_1 : cX20_step.data.toList.drop 24 = dktX20_step_1 := dk_seg dksX20_step_0 24 rfl rfl
theorem dksX20_step_2 : cX20_step.data.toList.drop 48 = dktX20_step_2 := dk_seg dksX20_step_1 24 rfl rfl
theorem dksX20_step_3 : cX20_step.data.toList.drop 72 = dktX20_step_3 := dk_seg dksX20_step_2 24 rfl rfl
theorem dksX20_step_4 : cX20_step.data.toList.drop 94 = dktX20_step_4 := dk_seg dksX20_step_3 22 rfl rfl
theorem dksX20_step_5 : cX20_step.data.toList.drop 118 = dktX20_step_5 := dk_seg dksX20_step_4 24 rfl rfl
theorem dksX20_step_6 : cX20_step.data.toList.drop 141 = dktX20_step_6 := dk_seg dksX20_step_5 23 rfl rfl
theorem dksX20_step_7 : cX20_step.data.toList.drop 165 = dktX20_step_7 := dk_seg dksX20_step_6 24 rfl rfl
theorem dksX20_step_8 : cX20_step.data.toList.drop 189 = dktX20_step_8 := dk_seg dksX20_step_7 24 rfl rfl
theorem dksX20_step_9 : cX20_step.data.toList.drop 213 = dktX20_step_9 := dk_seg dksX20_step_8 24 rfl rfl
theorem dksX20_step_10 : cX20_step.data.toList.drop 237 = dktX20_step_10 := dk_seg dksX20_step_9 24 rfl rfl
theorem dksX20_step_11 : cX20_step.data.toList.drop 260 = dktX20_step_11 := dk_seg dksX20_step_10 23 rfl rfl
theorem dksX20_step_12 : cX20_step.data.toList.drop 282 = dktX20_step_12 := dk_seg dksX20_step_11 22 rfl rfl
theorem dX20_step_0 : decode cX20_step 0 = .ok (.aload_n 0, 1) := dk_42 (dk_at dksX20_step_0 0 rfl rfl)
theorem dX20_step_1 : decode cX20_step 1 = .ok (.getfield 287, 3) := dk_180 1 31 (dk_at dksX20_step_0 1 rfl rfl)
theorem dX20_step_4 : decode cX20_step 4 = .ok (.iconst 1, 1) := dk_4 (dk_at dksX20_step_0 4 rfl rfl)
theorem dX20_step_5 : decode cX20_step 5 = .ok (.isub, 1) := dk_100 (dk_at dksX20_step_0 5 rfl rfl)
theorem dX20_step_6 : decode cX20_step 6 = .ok (.istore_n 1, 1) := dk_60 (dk_at dksX20_step_0 6 rfl rfl)
theorem dX20_step_7 : decode cX20_step 7 = .ok (.aload_n 0, 1) := dk_42 (dk_at dksX20_step_0 7 rfl rfl)
theorem dX20_step_8 : decode cX20_step 8 = .ok (.getfield 45, 3) := dk_180 0 45 (dk_at dksX20_step_0 8 rfl rfl)
theorem dX20_step_11 : decode cX20_step 11 = .ok (.iload_n 1, 1) := dk_27 (dk_at dksX20_step_0 11 rfl rfl)
theorem dX20_step_12 : decode cX20_step 12 = .ok (.iaload, 1) := dk_46 (dk_at dksX20_step_0 12 rfl rfl)
theorem dX20_step_13 : decode cX20_step 13 = .ok (.aload_n 0, 1) := dk_42 (dk_at dksX20_step_0 13 rfl rfl)
theorem dX20_step_14 : decode cX20_step 14 = .ok (.getfield 33, 3) := dk_180 0 33 (dk_at dksX20_step_0 14 rfl rfl)
theorem dX20_step_17 : decode cX20_step 17 = .ok (.aload_n 0, 1) := dk_42 (dk_at dksX20_step_0 17 rfl rfl)
theorem dX20_step_18 : decode cX20_step 18 = .ok (.getfield 42, 3) := dk_180 0 42 (dk_at dksX20_step_0 18 rfl rfl)
theorem dX20_step_21 : decode cX20_step 21 = .ok (.iload_n 1, 1) := dk_27 (dk_at dksX20_step_0 21 rfl rfl)
theorem dX20_step_22 : decode cX20_step 22 = .ok (.iaload, 1) := dk_46 (dk_at dksX20_step_0 22 rfl rfl)
theorem dX20_step_23 : decode cX20_step 23 = .ok (.iaload, 1) := dk_46 (dk_at dksX20_step_0 23 rfl rfl)
theorem dX20_step_24 : decode cX20_step 24 = .ok (.if_icmp .ne 53, 3) := dk_160 0 53 (dk_at dksX20_step_1 0 rfl rfl)
theorem dX20_step_27 : decode cX20_step 27 = .ok (.aload_n 0, 1) := dk_42 (dk_at dksX20_step_1 3 rfl rfl)
theorem dX20_step_28 : decode cX20_step 28 = .ok (.getfield 48, 3) := dk_180 0 48 (dk_at dksX20_step_1 4 rfl rfl)
theorem dX20_step_31 : decode cX20_step 31 = .ok (.iload_n 1, 1) := dk_27 (dk_at dksX20_step_1 7 rfl rfl)
theorem dX20_step_32 : decode cX20_step 32 = .ok (.iaload, 1) := dk_46 (dk_at dksX20_step_1 8 rfl rfl)
theorem dX20_step_33 : decode cX20_step 33 = .ok (.aload_n 0, 1) := dk_42 (dk_at dksX20_step_1 9 rfl rfl)
theorem dX20_step_34 : decode cX20_step 34 = .ok (.getfield 51, 3) := dk_180 0 51 (dk_at dksX20_step_1 10 rfl rfl)
theorem dX20_step_37 : decode cX20_step 37 = .ok (.iload_n 1, 1) := dk_27 (dk_at dksX20_step_1 13 rfl rfl)
theorem dX20_step_38 : decode cX20_step 38 = .ok (.iaload, 1) := dk_46 (dk_at dksX20_step_1 14 rfl rfl)
theorem dX20_step_39 : decode cX20_step 39 = .ok (.isub, 1) := dk_100 (dk_at dksX20_step_1 15 rfl rfl)
theorem dX20_step_40 : decode cX20_step 40 = .ok (.istore_n 2, 1) := dk_61 (dk_at dksX20_step_1 16 rfl rfl)
theorem dX20_step_41 : decode cX20_step 41 = .ok (.aload_n 0, 1) := dk_42 (dk_at dksX20_step_1 17 rfl rfl)
theorem dX20_step_42 : decode cX20_step 42 = .ok (.dup, 1) := dk_89 (dk_at dksX20_step_1 18 rfl rfl)
theorem dX20_step_43 : decode cX20_step 43 = .ok (.getfield 287, 3) := dk_180 1 31 (dk_at dksX20_step_1 19 rfl rfl)
theorem dX20_step_46 : decode cX20_step 46 = .ok (.iconst 1, 1) := dk_4 (dk_at dksX20_step_1 22 rfl rfl)
theorem dX20_step_47 : decode cX20_step 47 = .ok (.isub, 1) := dk_100 (dk_at dksX20_step_1 23 rfl rfl)
theorem dX20_step_48 : decode cX20_step 48 = .ok (.putfield 287, 3) := dk_181 1 31 (dk_at dksX20_step_2 0 rfl rfl)
theorem dX20_step_51 : decode cX20_step 51 = .ok (.aload_n 0, 1) := dk_42 (dk_at dksX20_step_2 3 rfl rfl)
theorem dX20_step_52 : decode cX20_step 52 = .ok (.getfield 287, 3) := dk_180 1 31 (dk_at dksX20_step_2 4 rfl rfl)
theorem dX20_step_55 : decode cX20_step 55 = .ok (.ifCond .le 20, 3) := dk_158 0 20 (dk_at dksX20_step_2 7 rfl rfl)
theorem dX20_step_58 : decode cX20_step 58 = .ok (.aload_n 0, 1) := dk_42 (dk_at dksX20_step_2 10 rfl rfl)
theorem dX20_step_59 : decode cX20_step 59 = .ok (.getfield 51, 3) := dk_180 0 51 (dk_at dksX20_step_2 11 rfl rfl)
theorem dX20_step_62 : decode cX20_step 62 = .ok (.iload_n 1, 1) := dk_27 (dk_at dksX20_step_2 14 rfl rfl)
theorem dX20_step_63 : decode cX20_step 63 = .ok (.iconst 1, 1) := dk_4 (dk_at dksX20_step_2 15 rfl rfl)
theorem dX20_step_64 : decode cX20_step 64 = .ok (.isub, 1) := dk_100 (dk_at dksX20_step_2 16 rfl rfl)
theorem dX20_step_65 : decode cX20_step 65 = .ok (.dup2, 1) := dk_92 (dk_at dksX20_step_2 17 rfl rfl)
theorem dX20_step_66 : decode cX20_step 66 = .ok (.iaload, 1) := dk_46 (dk_at dksX20_step_2 18 rfl rfl)
theorem dX20_step_67 : decode cX20_step 67 = .ok (.iload_n 2, 1) := dk_28 (dk_at dksX20_step_2 19 rfl rfl)
theorem dX20_step_68 : decode cX20_step 68 = .ok (.isub, 1) := dk_100 (dk_at dksX20_step_2 20 rfl rfl)
theorem dX20_step_69 : decode cX20_step 69 = .ok (.iastore, 1) := dk_79 (dk_at dksX20_step_2 21 rfl rfl)
theorem dX20_step_70 : decode cX20_step 70 = .ok (.aload_n 0, 1) := dk_42 (dk_at dksX20_step_2 22 rfl rfl)
theorem dX20_step_71 : decode cX20_step 71 = .ok (.lconst 0, 1) := dk_9 (dk_at dksX20_step_2 23 rfl rfl)
theorem dX20_step_72 : decode cX20_step 72 = .ok (.invokevirtual 297, 3) := dk_182 1 41 (dk_at dksX20_step_3 0 rfl rfl)
theorem dX20_step_75 : decode cX20_step 75 = .ok (.iconst 0, 1) := dk_3 (dk_at dksX20_step_3 3 rfl rfl)
theorem dX20_step_76 : decode cX20_step 76 = .ok (.ireturn, 1) := dk_172 (dk_at dksX20_step_3 4 rfl rfl)
theorem dX20_step_77 : decode cX20_step 77 = .ok (.aload_n 0, 1) := dk_42 (dk_at dksX20_step_3 5 rfl rfl)
theorem dX20_step_78 : decode cX20_step 78 = .ok (.iload_n 1, 1) := dk_27 (dk_at dksX20_step_3 6 rfl rfl)
theorem dX20_step_79 : decode cX20_step 79 = .ok (.iconst 0, 1) := dk_3 (dk_at dksX20_step_3 7 rfl rfl)
theorem dX20_step_80 : decode cX20_step 80 = .ok (.invokevirtual 294, 3) := dk_182 1 38 (dk_at dksX20_step_3 8 rfl rfl)
theorem dX20_step_83 : decode cX20_step 83 = .ok (.istore_n 2, 1) := dk_61 (dk_at dksX20_step_3 11 rfl rfl)
theorem dX20_step_84 : decode cX20_step 84 = .ok (.aload_n 0, 1) := dk_42 (dk_at dksX20_step_3 12 rfl rfl)
theorem dX20_step_85 : decode cX20_step 85 = .ok (.iload_n 1, 1) := dk_27 (dk_at dksX20_step_3 13 rfl rfl)
theorem dX20_step_86 : decode cX20_step 86 = .ok (.iconst 1, 1) := dk_4 (dk_at dksX20_step_3 14 rfl rfl)
theorem dX20_step_87 : decode cX20_step 87 = .ok (.invokevirtual 294, 3) := dk_182 1 38 (dk_at dksX20_step_3 15 rfl rfl)
theorem dX20_step_90 : decode cX20_step 90 = .ok (.istore_n 3, 1) := dk_62 (dk_at dksX20_step_3 18 rfl rfl)
theorem dX20_step_91 : decode cX20_step 91 = .ok (.aload_n 0, 1) := dk_42 (dk_at dksX20_step_3 19 rfl rfl)
theorem dX20_step_92 : decode cX20_step 92 = .ok (.iload_n 1, 1) := dk_27 (dk_at dksX20_step_3 20 rfl rfl)
theorem dX20_step_93 : decode cX20_step 93 = .ok (.iconst 2, 1) := dk_5 (dk_at dksX20_step_3 21 rfl rfl)
theorem dX20_step_94 : decode cX20_step 94 = .ok (.invokevirtual 294, 3) := dk_182 1 38 (dk_at dksX20_step_4 0 rfl rfl)
theorem dX20_step_97 : decode cX20_step 97 = .ok (.istore 4, 2) := dk_54 4 (dk_at dksX20_step_4 3 rfl rfl)
theorem dX20_step_99 : decode cX20_step 99 = .ok (.aload_n 0, 1) := dk_42 (dk_at dksX20_step_4 5 rfl rfl)
theorem dX20_step_100 : decode cX20_step 100 = .ok (.iload_n 1, 1) := dk_27 (dk_at dksX20_step_4 6 rfl rfl)
theorem dX20_step_101 : decode cX20_step 101 = .ok (.iconst 3, 1) := dk_6 (dk_at dksX20_step_4 7 rfl rfl)
theorem dX20_step_102 : decode cX20_step 102 = .ok (.invokevirtual 294, 3) := dk_182 1 38 (dk_at dksX20_step_4 8 rfl rfl)
theorem dX20_step_105 : decode cX20_step 105 = .ok (.istore 5, 2) := dk_54 5 (dk_at dksX20_step_4 11 rfl rfl)
theorem dX20_step_107 : decode cX20_step 107 = .ok (.aload_n 0, 1) := dk_42 (dk_at dksX20_step_4 13 rfl rfl)
theorem dX20_step_108 : decode cX20_step 108 = .ok (.iload_n 1, 1) := dk_27 (dk_at dksX20_step_4 14 rfl rfl)
theorem dX20_step_109 : decode cX20_step 109 = .ok (.iconst 5, 1) := dk_8 (dk_at dksX20_step_4 15 rfl rfl)
theorem dX20_step_110 : decode cX20_step 110 = .ok (.invokevirtual 294, 3) := dk_182 1 38 (dk_at dksX20_step_4 16 rfl rfl)
theorem dX20_step_113 : decode cX20_step 113 = .ok (.istore 6, 2) := dk_54 6 (dk_at dksX20_step_4 19 rfl rfl)
theorem dX20_step_115 : decode cX20_step 115 = .ok (.aload_n 0, 1) := dk_42 (dk_at dksX20_step_4 21 rfl rfl)
theorem dX20_step_116 : decode cX20_step 116 = .ok (.iload_n 2, 1) := dk_28 (dk_at dksX20_step_4 22 rfl rfl)
theorem dX20_step_117 : decode cX20_step 117 = .ok (.iload_n 3, 1) := dk_29 (dk_at dksX20_step_4 23 rfl rfl)
theorem dX20_step_118 : decode cX20_step 118 = .ok (.iload 5, 2) := dk_21 5 (dk_at dksX20_step_5 0 rfl rfl)
theorem dX20_step_120 : decode cX20_step 120 = .ok (.invokevirtual 207, 3) := dk_182 0 207 (dk_at dksX20_step_5 2 rfl rfl)
theorem dX20_step_123 : decode cX20_step 123 = .ok (.ifCond .ne 5, 3) := dk_154 0 5 (dk_at dksX20_step_5 5 rfl rfl)
theorem dX20_step_126 : decode cX20_step 126 = .ok (.iconst 1, 1) := dk_4 (dk_at dksX20_step_5 8 rfl rfl)
theorem dX20_step_127 : decode cX20_step 127 = .ok (.ireturn, 1) := dk_172 (dk_at dksX20_step_5 9 rfl rfl)
theorem dX20_step_128 : decode cX20_step 128 = .ok (.aload_n 0, 1) := dk_42 (dk_at dksX20_step_5 10 rfl rfl)
theorem dX20_step_129 : decode cX20_step 129 = .ok (.iload_n 2, 1) := dk_28 (dk_at dksX20_step_5 11 rfl rfl)
theorem dX20_step_130 : decode cX20_step 130 = .ok (.iload_n 3, 1) := dk_29 (dk_at dksX20_step_5 12 rfl rfl)
theorem dX20_step_131 : decode cX20_step 131 = .ok (.iload 5, 2) := dk_21 5 (dk_at dksX20_step_5 13 rfl rfl)
theorem dX20_step_133 : decode cX20_step 133 = .ok (.iload 6, 2) := dk_21 6 (dk_at dksX20_step_5 15 rfl rfl)
theorem dX20_step_135 : decode cX20_step 135 = .ok (.invokevirtual 211, 3) := dk_182 0 211 (dk_at dksX20_step_5 17 rfl rfl)
theorem dX20_step_138 : decode cX20_step 138 = .ok (.istore 7, 2) := dk_54 7 (dk_at dksX20_step_5 20 rfl rfl)
theorem dX20_step_140 : decode cX20_step 140 = .ok (.aload_n 0, 1) := dk_42 (dk_at dksX20_step_5 22 rfl rfl)
theorem dX20_step_141 : decode cX20_step 141 = .ok (.getfield 51, 3) := dk_180 0 51 (dk_at dksX20_step_6 0 rfl rfl)
theorem dX20_step_144 : decode cX20_step 144 = .ok (.iload_n 1, 1) := dk_27 (dk_at dksX20_step_6 3 rfl rfl)
theorem dX20_step_145 : decode cX20_step 145 = .ok (.iaload, 1) := dk_46 (dk_at dksX20_step_6 4 rfl rfl)
theorem dX20_step_146 : decode cX20_step 146 = .ok (.iload 7, 2) := dk_21 7 (dk_at dksX20_step_6 5 rfl rfl)
theorem dX20_step_148 : decode cX20_step 148 = .ok (.if_icmp .ge 6, 3) := dk_162 0 6 (dk_at dksX20_step_6 7 rfl rfl)
theorem dX20_step_151 : decode cX20_step 151 = .ok (.bipush 8, 2) := dk_16 8 (dk_at dksX20_step_6 10 rfl rfl)
theorem dX20_step_153 : decode cX20_step 153 = .ok (.ireturn, 1) := dk_172 (dk_at dksX20_step_6 12 rfl rfl)
theorem dX20_step_154 : decode cX20_step 154 = .ok (.aload_n 0, 1) := dk_42 (dk_at dksX20_step_6 13 rfl rfl)
theorem dX20_step_155 : decode cX20_step 155 = .ok (.getfield 51, 3) := dk_180 0 51 (dk_at dksX20_step_6 14 rfl rfl)
theorem dX20_step_158 : decode cX20_step 158 = .ok (.iload_n 1, 1) := dk_27 (dk_at dksX20_step_6 17 rfl rfl)
theorem dX20_step_159 : decode cX20_step 159 = .ok (.dup2, 1) := dk_92 (dk_at dksX20_step_6 18 rfl rfl)
theorem dX20_step_160 : decode cX20_step 160 = .ok (.iaload, 1) := dk_46 (dk_at dksX20_step_6 19 rfl rfl)
theorem dX20_step_161 : decode cX20_step 161 = .ok (.iload 7, 2) := dk_21 7 (dk_at dksX20_step_6 20 rfl rfl)
theorem dX20_step_163 : decode cX20_step 163 = .ok (.isub, 1) := dk_100 (dk_at dksX20_step_6 22 rfl rfl)
theorem dX20_step_164 : decode cX20_step 164 = .ok (.iastore, 1) := dk_79 (dk_at dksX20_step_6 23 rfl rfl)
theorem dX20_step_165 : decode cX20_step 165 = .ok (.aload_n 0, 1) := dk_42 (dk_at dksX20_step_7 0 rfl rfl)
theorem dX20_step_166 : decode cX20_step 166 = .ok (.dup, 1) := dk_89 (dk_at dksX20_step_7 1 rfl rfl)
theorem dX20_step_167 : decode cX20_step 167 = .ok (.getfield 183, 3) := dk_180 0 183 (dk_at dksX20_step_7 2 rfl rfl)
theorem dX20_step_170 : decode cX20_step 170 = .ok (.iload 7, 2) := dk_21 7 (dk_at dksX20_step_7 5 rfl rfl)
theorem dX20_step_172 : decode cX20_step 172 = .ok (.iadd, 1) := dk_96 (dk_at dksX20_step_7 7 rfl rfl)
theorem dX20_step_173 : decode cX20_step 173 = .ok (.putfield 183, 3) := dk_181 0 183 (dk_at dksX20_step_7 8 rfl rfl)
theorem dX20_step_176 : decode cX20_step 176 = .ok (.aload_n 0, 1) := dk_42 (dk_at dksX20_step_7 11 rfl rfl)
theorem dX20_step_177 : decode cX20_step 177 = .ok (.dup, 1) := dk_89 (dk_at dksX20_step_7 12 rfl rfl)
theorem dX20_step_178 : decode cX20_step 178 = .ok (.getfield 64, 3) := dk_180 0 64 (dk_at dksX20_step_7 13 rfl rfl)
theorem dX20_step_181 : decode cX20_step 181 = .ok (.iload 7, 2) := dk_21 7 (dk_at dksX20_step_7 16 rfl rfl)
theorem dX20_step_183 : decode cX20_step 183 = .ok (.iadd, 1) := dk_96 (dk_at dksX20_step_7 18 rfl rfl)
theorem dX20_step_184 : decode cX20_step 184 = .ok (.putfield 64, 3) := dk_181 0 64 (dk_at dksX20_step_7 19 rfl rfl)
theorem dX20_step_187 : decode cX20_step 187 = .ok (.aload_n 0, 1) := dk_42 (dk_at dksX20_step_7 22 rfl rfl)
theorem dX20_step_188 : decode cX20_step 188 = .ok (.dup, 1) := dk_89 (dk_at dksX20_step_7 23 rfl rfl)
theorem dX20_step_189 : decode cX20_step 189 = .ok (.getfield 177, 3) := dk_180 0 177 (dk_at dksX20_step_8 0 rfl rfl)
theorem dX20_step_192 : decode cX20_step 192 = .ok (.iconst 1, 1) := dk_4 (dk_at dksX20_step_8 3 rfl rfl)
theorem dX20_step_193 : decode cX20_step 193 = .ok (.iadd, 1) := dk_96 (dk_at dksX20_step_8 4 rfl rfl)
theorem dX20_step_194 : decode cX20_step 194 = .ok (.putfield 177, 3) := dk_181 0 177 (dk_at dksX20_step_8 5 rfl rfl)
theorem dX20_step_197 : decode cX20_step 197 = .ok (.aload_n 0, 1) := dk_42 (dk_at dksX20_step_8 8 rfl rfl)
theorem dX20_step_198 : decode cX20_step 198 = .ok (.dup, 1) := dk_89 (dk_at dksX20_step_8 9 rfl rfl)
theorem dX20_step_199 : decode cX20_step 199 = .ok (.getfield 67, 3) := dk_180 0 67 (dk_at dksX20_step_8 10 rfl rfl)
theorem dX20_step_202 : decode cX20_step 202 = .ok (.iconst 1, 1) := dk_4 (dk_at dksX20_step_8 13 rfl rfl)
theorem dX20_step_203 : decode cX20_step 203 = .ok (.iadd, 1) := dk_96 (dk_at dksX20_step_8 14 rfl rfl)
theorem dX20_step_204 : decode cX20_step 204 = .ok (.putfield 67, 3) := dk_181 0 67 (dk_at dksX20_step_8 15 rfl rfl)
theorem dX20_step_207 : decode cX20_step 207 = .ok (.iload_n 2, 1) := dk_28 (dk_at dksX20_step_8 18 rfl rfl)
theorem dX20_step_208 : decode cX20_step 208 = .ok (.bipush 10, 2) := dk_16 10 (dk_at dksX20_step_8 19 rfl rfl)
theorem dX20_step_210 : decode cX20_step 210 = .ok (.if_icmp .ne 57, 3) := dk_160 0 57 (dk_at dksX20_step_8 21 rfl rfl)
theorem dX20_step_213 : decode cX20_step 213 = .ok (.aload_n 0, 1) := dk_42 (dk_at dksX20_step_9 0 rfl rfl)
theorem dX20_step_214 : decode cX20_step 214 = .ok (.getfield 287, 3) := dk_180 1 31 (dk_at dksX20_step_9 1 rfl rfl)
theorem dX20_step_217 : decode cX20_step 217 = .ok (.bipush 6, 2) := dk_16 6 (dk_at dksX20_step_9 4 rfl rfl)
theorem dX20_step_219 : decode cX20_step 219 = .ok (.if_icmp .ne 6, 3) := dk_160 0 6 (dk_at dksX20_step_9 6 rfl rfl)
theorem dX20_step_222 : decode cX20_step 222 = .ok (.bipush 7, 2) := dk_16 7 (dk_at dksX20_step_9 9 rfl rfl)
theorem dX20_step_224 : decode cX20_step 224 = .ok (.ireturn, 1) := dk_172 (dk_at dksX20_step_9 11 rfl rfl)
theorem dX20_step_225 : decode cX20_step 225 = .ok (.iload 6, 2) := dk_21 6 (dk_at dksX20_step_9 12 rfl rfl)
theorem dX20_step_227 : decode cX20_step 227 = .ok (.ifCond .ge 7, 3) := dk_156 0 7 (dk_at dksX20_step_9 14 rfl rfl)
theorem dX20_step_230 : decode cX20_step 230 = .ok (.iconst 0, 1) := dk_3 (dk_at dksX20_step_9 17 rfl rfl)
theorem dX20_step_231 : decode cX20_step 231 = .ok (.goto 25, 3) := dk_167 0 25 (dk_at dksX20_step_9 18 rfl rfl)
theorem dX20_step_234 : decode cX20_step 234 = .ok (.iload 6, 2) := dk_21 6 (dk_at dksX20_step_9 21 rfl rfl)
theorem dX20_step_236 : decode cX20_step 236 = .ok (.aload_n 0, 1) := dk_42 (dk_at dksX20_step_9 23 rfl rfl)
theorem dX20_step_237 : decode cX20_step 237 = .ok (.getfield 51, 3) := dk_180 0 51 (dk_at dksX20_step_10 0 rfl rfl)
theorem dX20_step_240 : decode cX20_step 240 = .ok (.iload_n 1, 1) := dk_27 (dk_at dksX20_step_10 3 rfl rfl)
theorem dX20_step_241 : decode cX20_step 241 = .ok (.iaload, 1) := dk_46 (dk_at dksX20_step_10 4 rfl rfl)
theorem dX20_step_242 : decode cX20_step 242 = .ok (.if_icmp .le 12, 3) := dk_164 0 12 (dk_at dksX20_step_10 5 rfl rfl)
theorem dX20_step_245 : decode cX20_step 245 = .ok (.aload_n 0, 1) := dk_42 (dk_at dksX20_step_10 8 rfl rfl)
theorem dX20_step_246 : decode cX20_step 246 = .ok (.getfield 51, 3) := dk_180 0 51 (dk_at dksX20_step_10 9 rfl rfl)
theorem dX20_step_249 : decode cX20_step 249 = .ok (.iload_n 1, 1) := dk_27 (dk_at dksX20_step_10 12 rfl rfl)
theorem dX20_step_250 : decode cX20_step 250 = .ok (.iaload, 1) := dk_46 (dk_at dksX20_step_10 13 rfl rfl)
theorem dX20_step_251 : decode cX20_step 251 = .ok (.goto 5, 3) := dk_167 0 5 (dk_at dksX20_step_10 14 rfl rfl)
theorem dX20_step_254 : decode cX20_step 254 = .ok (.iload 6, 2) := dk_21 6 (dk_at dksX20_step_10 17 rfl rfl)
theorem dX20_step_256 : decode cX20_step 256 = .ok (.istore 8, 2) := dk_54 8 (dk_at dksX20_step_10 19 rfl rfl)
theorem dX20_step_258 : decode cX20_step 258 = .ok (.aload_n 0, 1) := dk_42 (dk_at dksX20_step_10 21 rfl rfl)
theorem dX20_step_259 : decode cX20_step 259 = .ok (.iload_n 3, 1) := dk_29 (dk_at dksX20_step_10 22 rfl rfl)
theorem dX20_step_260 : decode cX20_step 260 = .ok (.iload 8, 2) := dk_21 8 (dk_at dksX20_step_11 0 rfl rfl)
theorem dX20_step_262 : decode cX20_step 262 = .ok (.invokevirtual 301, 3) := dk_182 1 45 (dk_at dksX20_step_11 2 rfl rfl)
theorem dX20_step_265 : decode cX20_step 265 = .ok (.iconst 0, 1) := dk_3 (dk_at dksX20_step_11 5 rfl rfl)
theorem dX20_step_266 : decode cX20_step 266 = .ok (.ireturn, 1) := dk_172 (dk_at dksX20_step_11 6 rfl rfl)
theorem dX20_step_267 : decode cX20_step 267 = .ok (.aload_n 0, 1) := dk_42 (dk_at dksX20_step_11 7 rfl rfl)
theorem dX20_step_268 : decode cX20_step 268 = .ok (.iload_n 2, 1) := dk_28 (dk_at dksX20_step_11 8 rfl rfl)
theorem dX20_step_269 : decode cX20_step 269 = .ok (.iload_n 3, 1) := dk_29 (dk_at dksX20_step_11 9 rfl rfl)
theorem dX20_step_270 : decode cX20_step 270 = .ok (.iload 4, 2) := dk_21 4 (dk_at dksX20_step_11 10 rfl rfl)
theorem dX20_step_272 : decode cX20_step 272 = .ok (.iload 5, 2) := dk_21 5 (dk_at dksX20_step_11 12 rfl rfl)
theorem dX20_step_274 : decode cX20_step 274 = .ok (.aload_n 0, 1) := dk_42 (dk_at dksX20_step_11 14 rfl rfl)
theorem dX20_step_275 : decode cX20_step 275 = .ok (.iload_n 1, 1) := dk_27 (dk_at dksX20_step_11 15 rfl rfl)
theorem dX20_step_276 : decode cX20_step 276 = .ok (.iconst 4, 1) := dk_7 (dk_at dksX20_step_11 16 rfl rfl)
theorem dX20_step_277 : decode cX20_step 277 = .ok (.invokevirtual 294, 3) := dk_182 1 38 (dk_at dksX20_step_11 17 rfl rfl)
theorem dX20_step_280 : decode cX20_step 280 = .ok (.iload 6, 2) := dk_21 6 (dk_at dksX20_step_11 20 rfl rfl)
theorem dX20_step_282 : decode cX20_step 282 = .ok (.invokevirtual 305, 3) := dk_182 1 49 (dk_at dksX20_step_12 0 rfl rfl)
theorem dX20_step_285 : decode cX20_step 285 = .ok (.istore 8, 2) := dk_54 8 (dk_at dksX20_step_12 3 rfl rfl)
theorem dX20_step_287 : decode cX20_step 287 = .ok (.iload 8, 2) := dk_21 8 (dk_at dksX20_step_12 5 rfl rfl)
theorem dX20_step_289 : decode cX20_step 289 = .ok (.ifCond .ne 11, 3) := dk_154 0 11 (dk_at dksX20_step_12 7 rfl rfl)
theorem dX20_step_292 : decode cX20_step 292 = .ok (.aload_n 0, 1) := dk_42 (dk_at dksX20_step_12 10 rfl rfl)
theorem dX20_step_293 : decode cX20_step 293 = .ok (.aload_n 0, 1) := dk_42 (dk_at dksX20_step_12 11 rfl rfl)
theorem dX20_step_294 : decode cX20_step 294 = .ok (.getfield 218, 3) := dk_180 0 218 (dk_at dksX20_step_12 12 rfl rfl)
theorem dX20_step_297 : decode cX20_step 297 = .ok (.invokevirtual 297, 3) := dk_182 1 41 (dk_at dksX20_step_12 15 rfl rfl)
theorem dX20_step_300 : decode cX20_step 300 = .ok (.iload 8, 2) := dk_21 8 (dk_at dksX20_step_12 18 rfl rfl)
theorem dX20_step_302 : decode cX20_step 302 = .ok (.ireturn, 1) := dk_172 (dk_at dksX20_step_12 20 rfl rfl)
abbrev cX20_end : ByteArray := prog_29_method_53_code
def yX20_end : MethodName := ⟨RX20, "end", "(J)V"⟩
def dkwX20_end_1 : List UInt8 := [89, 180, 0, 70, 4, 96, 181, 0, 70, 42, 180, 0, 45, 29, 92, 46, 4, 96, 79, 177]
abbrev dktX20_end_1 : List UInt8 := dkwX20_end_1 ++ []
def dkwX20_end_0 : List UInt8 := [42, 180, 1, 31, 4, 100, 62, 29, 154, 0, 25, 42, 180, 0, 76, 42, 180, 0, 45, 29, 46, 31, 80, 42]
abbrev dktX20_end_0 : List UInt8 := dkwX20_end_0 ++ dktX20_end_1
theorem dksX20_end_0 : cX20_end.data.toList.drop 0 = dktX20_end_0 := by decide +kernel
theorem dksX20_end_1 : cX20_end.data.toList.drop 24 = dktX20_end_1 := dk_seg dksX20_end_0 24 rfl rfl
theorem dX20_end_0 : decode cX20_end 0 = .ok (.aload_n 0, 1) := dk_42 (dk_at dksX20_end_0 0 rfl rfl)
theorem dX20_end_1 : decode cX20_end 1 = .ok (.getfield 287, 3) := dk_180 1 31 (dk_at dksX20_end_0 1 rfl rfl)
theorem dX20_end_4 : decode cX20_end 4 = .ok (.iconst 1, 1) := dk_4 (dk_at dksX20_end_0 4 rfl rfl)
theorem dX20_end_5 : decode cX20_end 5 = .ok (.isub, 1) := dk_100 (dk_at dksX20_end_0 5 rfl rfl)
theorem dX20_end_6 : decode cX20_end 6 = .ok (.istore_n 3, 1) := dk_62 (dk_at dksX20_end_0 6 rfl rfl)
theorem dX20_end_7 : decode cX20_end 7 = .ok (.iload_n 3, 1) := dk_29 (dk_at dksX20_end_0 7 rfl rfl)
theorem dX20_end_8 : decode cX20_end 8 = .ok (.ifCond .ne 25, 3) := dk_154 0 25 (dk_at dksX20_end_0 8 rfl rfl)
theorem dX20_end_11 : decode cX20_end 11 = .ok (.aload_n 0, 1) := dk_42 (dk_at dksX20_end_0 11 rfl rfl)
theorem dX20_end_12 : decode cX20_end 12 = .ok (.getfield 76, 3) := dk_180 0 76 (dk_at dksX20_end_0 12 rfl rfl)
theorem dX20_end_15 : decode cX20_end 15 = .ok (.aload_n 0, 1) := dk_42 (dk_at dksX20_end_0 15 rfl rfl)
theorem dX20_end_16 : decode cX20_end 16 = .ok (.getfield 45, 3) := dk_180 0 45 (dk_at dksX20_end_0 16 rfl rfl)
theorem dX20_end_19 : decode cX20_end 19 = .ok (.iload_n 3, 1) := dk_29 (dk_at dksX20_end_0 19 rfl rfl)
theorem dX20_end_20 : decode cX20_end 20 = .ok (.iaload, 1) := dk_46 (dk_at dksX20_end_0 20 rfl rfl)
theorem dX20_end_21 : decode cX20_end 21 = .ok (.lload_n 1, 1) := dk_31 (dk_at dksX20_end_0 21 rfl rfl)
theorem dX20_end_22 : decode cX20_end 22 = .ok (.lastore, 1) := dk_80 (dk_at dksX20_end_0 22 rfl rfl)
theorem dX20_end_23 : decode cX20_end 23 = .ok (.aload_n 0, 1) := dk_42 (dk_at dksX20_end_0 23 rfl rfl)
theorem dX20_end_24 : decode cX20_end 24 = .ok (.dup, 1) := dk_89 (dk_at dksX20_end_1 0 rfl rfl)
theorem dX20_end_25 : decode cX20_end 25 = .ok (.getfield 70, 3) := dk_180 0 70 (dk_at dksX20_end_1 1 rfl rfl)
theorem dX20_end_28 : decode cX20_end 28 = .ok (.iconst 1, 1) := dk_4 (dk_at dksX20_end_1 4 rfl rfl)
theorem dX20_end_29 : decode cX20_end 29 = .ok (.iadd, 1) := dk_96 (dk_at dksX20_end_1 5 rfl rfl)
theorem dX20_end_30 : decode cX20_end 30 = .ok (.putfield 70, 3) := dk_181 0 70 (dk_at dksX20_end_1 6 rfl rfl)
theorem dX20_end_33 : decode cX20_end 33 = .ok (.aload_n 0, 1) := dk_42 (dk_at dksX20_end_1 9 rfl rfl)
theorem dX20_end_34 : decode cX20_end 34 = .ok (.getfield 45, 3) := dk_180 0 45 (dk_at dksX20_end_1 10 rfl rfl)
theorem dX20_end_37 : decode cX20_end 37 = .ok (.iload_n 3, 1) := dk_29 (dk_at dksX20_end_1 13 rfl rfl)
theorem dX20_end_38 : decode cX20_end 38 = .ok (.dup2, 1) := dk_92 (dk_at dksX20_end_1 14 rfl rfl)
theorem dX20_end_39 : decode cX20_end 39 = .ok (.iaload, 1) := dk_46 (dk_at dksX20_end_1 15 rfl rfl)
theorem dX20_end_40 : decode cX20_end 40 = .ok (.iconst 1, 1) := dk_4 (dk_at dksX20_end_1 16 rfl rfl)
theorem dX20_end_41 : decode cX20_end 41 = .ok (.iadd, 1) := dk_96 (dk_at dksX20_end_1 17 rfl rfl)
theorem dX20_end_42 : decode cX20_end 42 = .ok (.iastore, 1) := dk_79 (dk_at dksX20_end_1 18 rfl rfl)
theorem dX20_end_43 : decode cX20_end 43 = .ok (.return_, 1) := dk_177 (dk_at dksX20_end_1 19 rfl rfl)
abbrev cX20_actOf : ByteArray := prog_29_method_54_code
def yX20_actOf : MethodName := ⟨RX20, "actOf", "(II)I"⟩
def dkwX20_actOf_1 : List UInt8 := [96, 46, 172]
abbrev dktX20_actOf_1 : List UInt8 := dkwX20_actOf_1 ++ []
def dkwX20_actOf_0 : List UInt8 := [42, 180, 0, 36, 16, 6, 16, 12, 42, 180, 0, 42, 27, 46, 104, 42, 180, 0, 45, 27, 46, 96, 104, 28]
abbrev dktX20_actOf_0 : List UInt8 := dkwX20_actOf_0 ++ dktX20_actOf_1
theorem dksX20_actOf_0 : cX20_actOf.data.toList.drop 0 = dktX20_actOf_0 := by decide +kernel
theorem dksX20_actOf_1 : cX20_actOf.data.toList.drop 24 = dktX20_actOf_1 := dk_seg dksX20_actOf_0 24 rfl rfl
theorem dX20_actOf_0 : decode cX20_actOf 0 = .ok (.aload_n 0, 1) := dk_42 (dk_at dksX20_actOf_0 0 rfl rfl)
theorem dX20_actOf_1 : decode cX20_actOf 1 = .ok (.getfield 36, 3) := dk_180 0 36 (dk_at dksX20_actOf_0 1 rfl rfl)
theorem dX20_actOf_4 : decode cX20_actOf 4 = .ok (.bipush 6, 2) := dk_16 6 (dk_at dksX20_actOf_0 4 rfl rfl)
theorem dX20_actOf_6 : decode cX20_actOf 6 = .ok (.bipush 12, 2) := dk_16 12 (dk_at dksX20_actOf_0 6 rfl rfl)
theorem dX20_actOf_8 : decode cX20_actOf 8 = .ok (.aload_n 0, 1) := dk_42 (dk_at dksX20_actOf_0 8 rfl rfl)
theorem dX20_actOf_9 : decode cX20_actOf 9 = .ok (.getfield 42, 3) := dk_180 0 42 (dk_at dksX20_actOf_0 9 rfl rfl)
theorem dX20_actOf_12 : decode cX20_actOf 12 = .ok (.iload_n 1, 1) := dk_27 (dk_at dksX20_actOf_0 12 rfl rfl)
theorem dX20_actOf_13 : decode cX20_actOf 13 = .ok (.iaload, 1) := dk_46 (dk_at dksX20_actOf_0 13 rfl rfl)
theorem dX20_actOf_14 : decode cX20_actOf 14 = .ok (.imul, 1) := dk_104 (dk_at dksX20_actOf_0 14 rfl rfl)
theorem dX20_actOf_15 : decode cX20_actOf 15 = .ok (.aload_n 0, 1) := dk_42 (dk_at dksX20_actOf_0 15 rfl rfl)
theorem dX20_actOf_16 : decode cX20_actOf 16 = .ok (.getfield 45, 3) := dk_180 0 45 (dk_at dksX20_actOf_0 16 rfl rfl)
theorem dX20_actOf_19 : decode cX20_actOf 19 = .ok (.iload_n 1, 1) := dk_27 (dk_at dksX20_actOf_0 19 rfl rfl)
theorem dX20_actOf_20 : decode cX20_actOf 20 = .ok (.iaload, 1) := dk_46 (dk_at dksX20_actOf_0 20 rfl rfl)
theorem dX20_actOf_21 : decode cX20_actOf 21 = .ok (.iadd, 1) := dk_96 (dk_at dksX20_actOf_0 21 rfl rfl)
theorem dX20_actOf_22 : decode cX20_actOf 22 = .ok (.imul, 1) := dk_104 (dk_at dksX20_actOf_0 22 rfl rfl)
theorem dX20_actOf_23 : decode cX20_actOf 23 = .ok (.iload_n 2, 1) := dk_28 (dk_at dksX20_actOf_0 23 rfl rfl)
theorem dX20_actOf_24 : decode cX20_actOf 24 = .ok (.iadd, 1) := dk_96 (dk_at dksX20_actOf_1 0 rfl rfl)
theorem dX20_actOf_25 : decode cX20_actOf 25 = .ok (.iaload, 1) := dk_46 (dk_at dksX20_actOf_1 1 rfl rfl)
theorem dX20_actOf_26 : decode cX20_actOf 26 = .ok (.ireturn, 1) := dk_172 (dk_at dksX20_actOf_1 2 rfl rfl)
abbrev cX20_done : ByteArray := prog_29_method_50_code
def yX20_done : MethodName := ⟨RX20, "done", "(IIIIII)I"⟩
def dkwX20_done_5 : List UInt8 := [182, 1, 22, 172, 42, 28, 29, 21, 5, 21, 6, 182, 1, 25, 172, 42, 28, 182, 1, 28, 172, 16, 6, 172]
abbrev dktX20_done_5 : List UInt8 := dkwX20_done_5 ++ []
def dkwX20_done_4 : List UInt8 := [182, 1, 12, 172, 42, 28, 182, 1, 15, 172, 42, 28, 29, 21, 6, 182, 1, 18, 172, 42, 28, 29, 21, 6]
abbrev dktX20_done_4 : List UInt8 := dkwX20_done_4 ++ dktX20_done_5
def dkwX20_done_3 : List UInt8 := [21, 6, 182, 1, 3, 172, 42, 28, 21, 4, 182, 1, 6, 172, 42, 28, 21, 4, 182, 1, 9, 172, 42, 28]
abbrev dktX20_done_3 : List UInt8 := dkwX20_done_3 ++ dktX20_done_4
def dkwX20_done_2 : List UInt8 := [42, 28, 29, 21, 4, 21, 5, 21, 6, 182, 0, 252, 172, 42, 28, 182, 1, 0, 172, 42, 28, 29, 21, 5]
abbrev dktX20_done_2 : List UInt8 := dkwX20_done_2 ++ dktX20_done_3
def dkwX20_done_1 : List UInt8 := [170, 0, 0, 0, 0, 159, 0, 0, 0, 0, 0, 0, 0, 12, 0, 0, 0, 66, 0, 0, 0, 79, 0, 0, 0, 85, 0, 0, 0, 96, 0, 0, 0, 104, 0, 0, 0, 112, 0, 0, 0, 118, 0, 0, 0, 124, 0, 0, 0, 133, 0, 0, 0, 142, 0, 0, 0, 159, 0, 0, 0, 159, 0, 0, 0, 153]
abbrev dktX20_done_1 : List UInt8 := dkwX20_done_1 ++ dktX20_done_2
def dkwX20_done_0 : List UInt8 := [42, 9, 181, 0, 218, 27]
abbrev dktX20_done_0 : List UInt8 := dkwX20_done_0 ++ dktX20_done_1
theorem dksX20_done_0 : cX20_done.data.toList.drop 0 = dktX20_done_0 := by decide +kernel
theorem dksX20_done_1 : cX20_done.data.toList.drop 6 = dktX20_done_1 := dk_seg dksX20_done_0 6 rfl rfl
theorem dksX20_done_2 : cX20_done.data.toList.drop 72 = dktX20_done_2 := dk_seg dksX20_done_1 66 rfl rfl
theorem dksX20_done_3 : cX20_done.data.toList.drop 96 = dktX20_done_3 := dk_seg dksX20_done_2 24 rfl rfl
theorem dksX20_done_4 : cX20_done.data.toList.drop 120 = dktX20_done_4 := dk_seg dksX20_done_3 24 rfl rfl
theorem dksX20_done_5 : cX20_done.data.toList.drop 144 = dktX20_done_5 := dk_seg dksX20_done_4 24 rfl rfl
theorem dX20_done_0 : decode cX20_done 0 = .ok (.aload_n 0, 1) := dk_42 (dk_at dksX20_done_0 0 rfl rfl)
theorem dX20_done_1 : decode cX20_done 1 = .ok (.lconst 0, 1) := dk_9 (dk_at dksX20_done_0 1 rfl rfl)
theorem dX20_done_2 : decode cX20_done 2 = .ok (.putfield 218, 3) := dk_181 0 218 (dk_at dksX20_done_0 2 rfl rfl)
theorem dX20_done_5 : decode cX20_done 5 = .ok (.iload_n 1, 1) := dk_27 (dk_at dksX20_done_0 5 rfl rfl)
theorem dX20_done_6 : decode cX20_done 6 = .ok (.tableswitch 159 0 12 #[66, 79, 85, 96, 104, 112, 118, 124, 133, 142, 159, 159, 153], 66) := by decide +kernel
theorem dX20_done_72 : decode cX20_done 72 = .ok (.aload_n 0, 1) := dk_42 (dk_at dksX20_done_2 0 rfl rfl)
theorem dX20_done_73 : decode cX20_done 73 = .ok (.iload_n 2, 1) := dk_28 (dk_at dksX20_done_2 1 rfl rfl)
theorem dX20_done_74 : decode cX20_done 74 = .ok (.iload_n 3, 1) := dk_29 (dk_at dksX20_done_2 2 rfl rfl)
theorem dX20_done_75 : decode cX20_done 75 = .ok (.iload 4, 2) := dk_21 4 (dk_at dksX20_done_2 3 rfl rfl)
theorem dX20_done_77 : decode cX20_done 77 = .ok (.iload 5, 2) := dk_21 5 (dk_at dksX20_done_2 5 rfl rfl)
theorem dX20_done_79 : decode cX20_done 79 = .ok (.iload 6, 2) := dk_21 6 (dk_at dksX20_done_2 7 rfl rfl)
theorem dX20_done_81 : decode cX20_done 81 = .ok (.invokevirtual 252, 3) := dk_182 0 252 (dk_at dksX20_done_2 9 rfl rfl)
theorem dX20_done_84 : decode cX20_done 84 = .ok (.ireturn, 1) := dk_172 (dk_at dksX20_done_2 12 rfl rfl)
theorem dX20_done_85 : decode cX20_done 85 = .ok (.aload_n 0, 1) := dk_42 (dk_at dksX20_done_2 13 rfl rfl)
theorem dX20_done_86 : decode cX20_done 86 = .ok (.iload_n 2, 1) := dk_28 (dk_at dksX20_done_2 14 rfl rfl)
theorem dX20_done_87 : decode cX20_done 87 = .ok (.invokevirtual 256, 3) := dk_182 1 0 (dk_at dksX20_done_2 15 rfl rfl)
theorem dX20_done_90 : decode cX20_done 90 = .ok (.ireturn, 1) := dk_172 (dk_at dksX20_done_2 18 rfl rfl)
theorem dX20_done_91 : decode cX20_done 91 = .ok (.aload_n 0, 1) := dk_42 (dk_at dksX20_done_2 19 rfl rfl)
theorem dX20_done_92 : decode cX20_done 92 = .ok (.iload_n 2, 1) := dk_28 (dk_at dksX20_done_2 20 rfl rfl)
theorem dX20_done_93 : decode cX20_done 93 = .ok (.iload_n 3, 1) := dk_29 (dk_at dksX20_done_2 21 rfl rfl)
theorem dX20_done_94 : decode cX20_done 94 = .ok (.iload 5, 2) := dk_21 5 (dk_at dksX20_done_2 22 rfl rfl)
theorem dX20_done_96 : decode cX20_done 96 = .ok (.iload 6, 2) := dk_21 6 (dk_at dksX20_done_3 0 rfl rfl)
theorem dX20_done_98 : decode cX20_done 98 = .ok (.invokevirtual 259, 3) := dk_182 1 3 (dk_at dksX20_done_3 2 rfl rfl)
theorem dX20_done_101 : decode cX20_done 101 = .ok (.ireturn, 1) := dk_172 (dk_at dksX20_done_3 5 rfl rfl)
theorem dX20_done_102 : decode cX20_done 102 = .ok (.aload_n 0, 1) := dk_42 (dk_at dksX20_done_3 6 rfl rfl)
theorem dX20_done_103 : decode cX20_done 103 = .ok (.iload_n 2, 1) := dk_28 (dk_at dksX20_done_3 7 rfl rfl)
theorem dX20_done_104 : decode cX20_done 104 = .ok (.iload 4, 2) := dk_21 4 (dk_at dksX20_done_3 8 rfl rfl)
theorem dX20_done_106 : decode cX20_done 106 = .ok (.invokevirtual 262, 3) := dk_182 1 6 (dk_at dksX20_done_3 10 rfl rfl)
theorem dX20_done_109 : decode cX20_done 109 = .ok (.ireturn, 1) := dk_172 (dk_at dksX20_done_3 13 rfl rfl)
theorem dX20_done_110 : decode cX20_done 110 = .ok (.aload_n 0, 1) := dk_42 (dk_at dksX20_done_3 14 rfl rfl)
theorem dX20_done_111 : decode cX20_done 111 = .ok (.iload_n 2, 1) := dk_28 (dk_at dksX20_done_3 15 rfl rfl)
theorem dX20_done_112 : decode cX20_done 112 = .ok (.iload 4, 2) := dk_21 4 (dk_at dksX20_done_3 16 rfl rfl)
theorem dX20_done_114 : decode cX20_done 114 = .ok (.invokevirtual 265, 3) := dk_182 1 9 (dk_at dksX20_done_3 18 rfl rfl)
theorem dX20_done_117 : decode cX20_done 117 = .ok (.ireturn, 1) := dk_172 (dk_at dksX20_done_3 21 rfl rfl)
theorem dX20_done_118 : decode cX20_done 118 = .ok (.aload_n 0, 1) := dk_42 (dk_at dksX20_done_3 22 rfl rfl)
theorem dX20_done_119 : decode cX20_done 119 = .ok (.iload_n 2, 1) := dk_28 (dk_at dksX20_done_3 23 rfl rfl)
theorem dX20_done_120 : decode cX20_done 120 = .ok (.invokevirtual 268, 3) := dk_182 1 12 (dk_at dksX20_done_4 0 rfl rfl)
theorem dX20_done_123 : decode cX20_done 123 = .ok (.ireturn, 1) := dk_172 (dk_at dksX20_done_4 3 rfl rfl)
theorem dX20_done_124 : decode cX20_done 124 = .ok (.aload_n 0, 1) := dk_42 (dk_at dksX20_done_4 4 rfl rfl)
theorem dX20_done_125 : decode cX20_done 125 = .ok (.iload_n 2, 1) := dk_28 (dk_at dksX20_done_4 5 rfl rfl)
theorem dX20_done_126 : decode cX20_done 126 = .ok (.invokevirtual 271, 3) := dk_182 1 15 (dk_at dksX20_done_4 6 rfl rfl)
theorem dX20_done_129 : decode cX20_done 129 = .ok (.ireturn, 1) := dk_172 (dk_at dksX20_done_4 9 rfl rfl)
theorem dX20_done_130 : decode cX20_done 130 = .ok (.aload_n 0, 1) := dk_42 (dk_at dksX20_done_4 10 rfl rfl)
theorem dX20_done_131 : decode cX20_done 131 = .ok (.iload_n 2, 1) := dk_28 (dk_at dksX20_done_4 11 rfl rfl)
theorem dX20_done_132 : decode cX20_done 132 = .ok (.iload_n 3, 1) := dk_29 (dk_at dksX20_done_4 12 rfl rfl)
theorem dX20_done_133 : decode cX20_done 133 = .ok (.iload 6, 2) := dk_21 6 (dk_at dksX20_done_4 13 rfl rfl)
theorem dX20_done_135 : decode cX20_done 135 = .ok (.invokevirtual 274, 3) := dk_182 1 18 (dk_at dksX20_done_4 15 rfl rfl)
theorem dX20_done_138 : decode cX20_done 138 = .ok (.ireturn, 1) := dk_172 (dk_at dksX20_done_4 18 rfl rfl)
theorem dX20_done_139 : decode cX20_done 139 = .ok (.aload_n 0, 1) := dk_42 (dk_at dksX20_done_4 19 rfl rfl)
theorem dX20_done_140 : decode cX20_done 140 = .ok (.iload_n 2, 1) := dk_28 (dk_at dksX20_done_4 20 rfl rfl)
theorem dX20_done_141 : decode cX20_done 141 = .ok (.iload_n 3, 1) := dk_29 (dk_at dksX20_done_4 21 rfl rfl)
theorem dX20_done_142 : decode cX20_done 142 = .ok (.iload 6, 2) := dk_21 6 (dk_at dksX20_done_4 22 rfl rfl)
theorem dX20_done_144 : decode cX20_done 144 = .ok (.invokevirtual 278, 3) := dk_182 1 22 (dk_at dksX20_done_5 0 rfl rfl)
theorem dX20_done_147 : decode cX20_done 147 = .ok (.ireturn, 1) := dk_172 (dk_at dksX20_done_5 3 rfl rfl)
theorem dX20_done_148 : decode cX20_done 148 = .ok (.aload_n 0, 1) := dk_42 (dk_at dksX20_done_5 4 rfl rfl)
theorem dX20_done_149 : decode cX20_done 149 = .ok (.iload_n 2, 1) := dk_28 (dk_at dksX20_done_5 5 rfl rfl)
theorem dX20_done_150 : decode cX20_done 150 = .ok (.iload_n 3, 1) := dk_29 (dk_at dksX20_done_5 6 rfl rfl)
theorem dX20_done_151 : decode cX20_done 151 = .ok (.iload 5, 2) := dk_21 5 (dk_at dksX20_done_5 7 rfl rfl)
theorem dX20_done_153 : decode cX20_done 153 = .ok (.iload 6, 2) := dk_21 6 (dk_at dksX20_done_5 9 rfl rfl)
theorem dX20_done_155 : decode cX20_done 155 = .ok (.invokevirtual 281, 3) := dk_182 1 25 (dk_at dksX20_done_5 11 rfl rfl)
theorem dX20_done_158 : decode cX20_done 158 = .ok (.ireturn, 1) := dk_172 (dk_at dksX20_done_5 14 rfl rfl)
theorem dX20_done_159 : decode cX20_done 159 = .ok (.aload_n 0, 1) := dk_42 (dk_at dksX20_done_5 15 rfl rfl)
theorem dX20_done_160 : decode cX20_done 160 = .ok (.iload_n 2, 1) := dk_28 (dk_at dksX20_done_5 16 rfl rfl)
theorem dX20_done_161 : decode cX20_done 161 = .ok (.invokevirtual 284, 3) := dk_182 1 28 (dk_at dksX20_done_5 17 rfl rfl)
theorem dX20_done_164 : decode cX20_done 164 = .ok (.ireturn, 1) := dk_172 (dk_at dksX20_done_5 20 rfl rfl)
theorem dX20_done_165 : decode cX20_done 165 = .ok (.bipush 6, 2) := dk_16 6 (dk_at dksX20_done_5 21 rfl rfl)
theorem dX20_done_167 : decode cX20_done 167 = .ok (.ireturn, 1) := dk_172 (dk_at dksX20_done_5 23 rfl rfl)
abbrev cX20_copy : ByteArray := prog_29_method_35_code
def yX20_copy : MethodName := ⟨RX20, "copy", "(IIIII)I"⟩
def dkwX20_copy_8 : List UInt8 := [167, 255, 201, 3, 172]
abbrev dktX20_copy_8 : List UInt8 := dkwX20_copy_8 ++ []
def dkwX20_copy_7 : List UInt8 := [180, 0, 16, 16, 40, 29, 104, 21, 4, 96, 21, 9, 96, 42, 180, 0, 39, 21, 9, 47, 80, 132, 9, 1]
abbrev dktX20_copy_7 : List UInt8 := dkwX20_copy_7 ++ dktX20_copy_8
def dkwX20_copy_6 : List UInt8 := [16, 9, 160, 0, 19, 42, 42, 180, 0, 39, 21, 9, 47, 182, 0, 169, 154, 0, 5, 6, 172, 42]
abbrev dktX20_copy_6 : List UInt8 := dkwX20_copy_6 ++ dktX20_copy_7
def dkwX20_copy_5 : List UInt8 := [96, 21, 9, 96, 47, 80, 132, 9, 1, 167, 255, 225, 3, 54, 9, 21, 9, 21, 5, 162, 0, 54, 21, 7]
abbrev dktX20_copy_5 : List UInt8 := dkwX20_copy_5 ++ dktX20_copy_6
def dkwX20_copy_4 : List UInt8 := [54, 9, 21, 9, 21, 5, 162, 0, 30, 42, 180, 0, 39, 21, 9, 42, 180, 0, 16, 16, 40, 27, 104, 28]
abbrev dktX20_copy_4 : List UInt8 := dkwX20_copy_4 ++ dktX20_copy_5
def dkwX20_copy_3 : List UInt8 := [21, 5, 182, 0, 215, 153, 0, 15, 42, 29, 21, 4, 21, 5, 182, 0, 215, 154, 0, 5, 5, 172, 3]
abbrev dktX20_copy_3 : List UInt8 := dkwX20_copy_3 ++ dktX20_copy_4
def dkwX20_copy_2 : List UInt8 := [167, 0, 4, 3, 54, 8, 21, 6, 21, 7, 159, 0, 10, 21, 8, 154, 0, 5, 6, 172, 42, 27, 28]
abbrev dktX20_copy_2 : List UInt8 := dkwX20_copy_2 ++ dktX20_copy_3
def dkwX20_copy_1 : List UInt8 := [21, 6, 16, 9, 160, 0, 21, 21, 7, 16, 8, 159, 0, 10, 21, 7, 16, 9, 160, 0, 7, 4]
abbrev dktX20_copy_1 : List UInt8 := dkwX20_copy_1 ++ dktX20_copy_2
def dkwX20_copy_0 : List UInt8 := [42, 180, 0, 7, 27, 46, 54, 6, 42, 180, 0, 7, 29, 46, 54, 7, 21, 6, 16, 8, 159, 0, 10]
abbrev dktX20_copy_0 : List UInt8 := dkwX20_copy_0 ++ dktX20_copy_1
theorem dksX20_copy_0 : cX20_copy.data.toList.drop 0 = dktX20_copy_0 := by decide +kernel
theorem dksX20_copy_1 : cX20_copy.data.toList.drop 23 = dktX20_copy_1 := dk_seg dksX20_copy_0 23 rfl rfl
theorem dksX20_copy_2 : cX20_copy.data.toList.drop 45 = dktX20_copy_2 := dk_seg dksX20_copy_1 22 rfl rfl
theorem dksX20_copy_3 : cX20_copy.data.toList.drop 68 = dktX20_copy_3 := dk_seg dksX20_copy_2 23 rfl rfl
theorem dksX20_copy_4 : cX20_copy.data.toList.drop 91 = dktX20_copy_4 := dk_seg dksX20_copy_3 23 rfl rfl
theorem dksX20_copy_5 : cX20_copy.data.toList.drop 115 = dktX20_copy_5 := dk_seg dksX20_copy_4 24 rfl rfl
theorem dksX20_copy_6 : cX20_copy.data.toList.drop 139 = dktX20_copy_6 := dk_seg dksX20_copy_5 24 rfl rfl
theorem dksX20_copy_7 : cX20_copy.data.toList.drop 161 = dktX20_copy_7 := dk_seg dksX20_copy_6 22 rfl rfl
theorem dksX20_copy_8 : cX20_copy.data.toList.drop 185 = dktX20_copy_8 := dk_seg dksX20_copy_7 24 rfl rfl
theorem dX20_copy_0 : decode cX20_copy 0 = .ok (.aload_n 0, 1) := dk_42 (dk_at dksX20_copy_0 0 rfl rfl)
theorem dX20_copy_1 : decode cX20_copy 1 = .ok (.getfield 7, 3) := dk_180 0 7 (dk_at dksX20_copy_0 1 rfl rfl)
theorem dX20_copy_4 : decode cX20_copy 4 = .ok (.iload_n 1, 1) := dk_27 (dk_at dksX20_copy_0 4 rfl rfl)
theorem dX20_copy_5 : decode cX20_copy 5 = .ok (.iaload, 1) := dk_46 (dk_at dksX20_copy_0 5 rfl rfl)
theorem dX20_copy_6 : decode cX20_copy 6 = .ok (.istore 6, 2) := dk_54 6 (dk_at dksX20_copy_0 6 rfl rfl)
theorem dX20_copy_8 : decode cX20_copy 8 = .ok (.aload_n 0, 1) := dk_42 (dk_at dksX20_copy_0 8 rfl rfl)
theorem dX20_copy_9 : decode cX20_copy 9 = .ok (.getfield 7, 3) := dk_180 0 7 (dk_at dksX20_copy_0 9 rfl rfl)
theorem dX20_copy_12 : decode cX20_copy 12 = .ok (.iload_n 3, 1) := dk_29 (dk_at dksX20_copy_0 12 rfl rfl)
theorem dX20_copy_13 : decode cX20_copy 13 = .ok (.iaload, 1) := dk_46 (dk_at dksX20_copy_0 13 rfl rfl)
theorem dX20_copy_14 : decode cX20_copy 14 = .ok (.istore 7, 2) := dk_54 7 (dk_at dksX20_copy_0 14 rfl rfl)
theorem dX20_copy_16 : decode cX20_copy 16 = .ok (.iload 6, 2) := dk_21 6 (dk_at dksX20_copy_0 16 rfl rfl)
theorem dX20_copy_18 : decode cX20_copy 18 = .ok (.bipush 8, 2) := dk_16 8 (dk_at dksX20_copy_0 18 rfl rfl)
theorem dX20_copy_20 : decode cX20_copy 20 = .ok (.if_icmp .eq 10, 3) := dk_159 0 10 (dk_at dksX20_copy_0 20 rfl rfl)
theorem dX20_copy_23 : decode cX20_copy 23 = .ok (.iload 6, 2) := dk_21 6 (dk_at dksX20_copy_1 0 rfl rfl)
theorem dX20_copy_25 : decode cX20_copy 25 = .ok (.bipush 9, 2) := dk_16 9 (dk_at dksX20_copy_1 2 rfl rfl)
theorem dX20_copy_27 : decode cX20_copy 27 = .ok (.if_icmp .ne 21, 3) := dk_160 0 21 (dk_at dksX20_copy_1 4 rfl rfl)
theorem dX20_copy_30 : decode cX20_copy 30 = .ok (.iload 7, 2) := dk_21 7 (dk_at dksX20_copy_1 7 rfl rfl)
theorem dX20_copy_32 : decode cX20_copy 32 = .ok (.bipush 8, 2) := dk_16 8 (dk_at dksX20_copy_1 9 rfl rfl)
theorem dX20_copy_34 : decode cX20_copy 34 = .ok (.if_icmp .eq 10, 3) := dk_159 0 10 (dk_at dksX20_copy_1 11 rfl rfl)
theorem dX20_copy_37 : decode cX20_copy 37 = .ok (.iload 7, 2) := dk_21 7 (dk_at dksX20_copy_1 14 rfl rfl)
theorem dX20_copy_39 : decode cX20_copy 39 = .ok (.bipush 9, 2) := dk_16 9 (dk_at dksX20_copy_1 16 rfl rfl)
theorem dX20_copy_41 : decode cX20_copy 41 = .ok (.if_icmp .ne 7, 3) := dk_160 0 7 (dk_at dksX20_copy_1 18 rfl rfl)
theorem dX20_copy_44 : decode cX20_copy 44 = .ok (.iconst 1, 1) := dk_4 (dk_at dksX20_copy_1 21 rfl rfl)
theorem dX20_copy_45 : decode cX20_copy 45 = .ok (.goto 4, 3) := dk_167 0 4 (dk_at dksX20_copy_2 0 rfl rfl)
theorem dX20_copy_48 : decode cX20_copy 48 = .ok (.iconst 0, 1) := dk_3 (dk_at dksX20_copy_2 3 rfl rfl)
theorem dX20_copy_49 : decode cX20_copy 49 = .ok (.istore 8, 2) := dk_54 8 (dk_at dksX20_copy_2 4 rfl rfl)
theorem dX20_copy_51 : decode cX20_copy 51 = .ok (.iload 6, 2) := dk_21 6 (dk_at dksX20_copy_2 6 rfl rfl)
theorem dX20_copy_53 : decode cX20_copy 53 = .ok (.iload 7, 2) := dk_21 7 (dk_at dksX20_copy_2 8 rfl rfl)
theorem dX20_copy_55 : decode cX20_copy 55 = .ok (.if_icmp .eq 10, 3) := dk_159 0 10 (dk_at dksX20_copy_2 10 rfl rfl)
theorem dX20_copy_58 : decode cX20_copy 58 = .ok (.iload 8, 2) := dk_21 8 (dk_at dksX20_copy_2 13 rfl rfl)
theorem dX20_copy_60 : decode cX20_copy 60 = .ok (.ifCond .ne 5, 3) := dk_154 0 5 (dk_at dksX20_copy_2 15 rfl rfl)
theorem dX20_copy_63 : decode cX20_copy 63 = .ok (.iconst 3, 1) := dk_6 (dk_at dksX20_copy_2 18 rfl rfl)
theorem dX20_copy_64 : decode cX20_copy 64 = .ok (.ireturn, 1) := dk_172 (dk_at dksX20_copy_2 19 rfl rfl)
theorem dX20_copy_65 : decode cX20_copy 65 = .ok (.aload_n 0, 1) := dk_42 (dk_at dksX20_copy_2 20 rfl rfl)
theorem dX20_copy_66 : decode cX20_copy 66 = .ok (.iload_n 1, 1) := dk_27 (dk_at dksX20_copy_2 21 rfl rfl)
theorem dX20_copy_67 : decode cX20_copy 67 = .ok (.iload_n 2, 1) := dk_28 (dk_at dksX20_copy_2 22 rfl rfl)
theorem dX20_copy_68 : decode cX20_copy 68 = .ok (.iload 5, 2) := dk_21 5 (dk_at dksX20_copy_3 0 rfl rfl)
theorem dX20_copy_70 : decode cX20_copy 70 = .ok (.invokevirtual 215, 3) := dk_182 0 215 (dk_at dksX20_copy_3 2 rfl rfl)
theorem dX20_copy_73 : decode cX20_copy 73 = .ok (.ifCond .eq 15, 3) := dk_153 0 15 (dk_at dksX20_copy_3 5 rfl rfl)
theorem dX20_copy_76 : decode cX20_copy 76 = .ok (.aload_n 0, 1) := dk_42 (dk_at dksX20_copy_3 8 rfl rfl)
theorem dX20_copy_77 : decode cX20_copy 77 = .ok (.iload_n 3, 1) := dk_29 (dk_at dksX20_copy_3 9 rfl rfl)
theorem dX20_copy_78 : decode cX20_copy 78 = .ok (.iload 4, 2) := dk_21 4 (dk_at dksX20_copy_3 10 rfl rfl)
theorem dX20_copy_80 : decode cX20_copy 80 = .ok (.iload 5, 2) := dk_21 5 (dk_at dksX20_copy_3 12 rfl rfl)
theorem dX20_copy_82 : decode cX20_copy 82 = .ok (.invokevirtual 215, 3) := dk_182 0 215 (dk_at dksX20_copy_3 14 rfl rfl)
theorem dX20_copy_85 : decode cX20_copy 85 = .ok (.ifCond .ne 5, 3) := dk_154 0 5 (dk_at dksX20_copy_3 17 rfl rfl)
theorem dX20_copy_88 : decode cX20_copy 88 = .ok (.iconst 2, 1) := dk_5 (dk_at dksX20_copy_3 20 rfl rfl)
theorem dX20_copy_89 : decode cX20_copy 89 = .ok (.ireturn, 1) := dk_172 (dk_at dksX20_copy_3 21 rfl rfl)
theorem dX20_copy_90 : decode cX20_copy 90 = .ok (.iconst 0, 1) := dk_3 (dk_at dksX20_copy_3 22 rfl rfl)
theorem dX20_copy_91 : decode cX20_copy 91 = .ok (.istore 9, 2) := dk_54 9 (dk_at dksX20_copy_4 0 rfl rfl)
theorem dX20_copy_93 : decode cX20_copy 93 = .ok (.iload 9, 2) := dk_21 9 (dk_at dksX20_copy_4 2 rfl rfl)
theorem dX20_copy_95 : decode cX20_copy 95 = .ok (.iload 5, 2) := dk_21 5 (dk_at dksX20_copy_4 4 rfl rfl)
theorem dX20_copy_97 : decode cX20_copy 97 = .ok (.if_icmp .ge 30, 3) := dk_162 0 30 (dk_at dksX20_copy_4 6 rfl rfl)
theorem dX20_copy_100 : decode cX20_copy 100 = .ok (.aload_n 0, 1) := dk_42 (dk_at dksX20_copy_4 9 rfl rfl)
theorem dX20_copy_101 : decode cX20_copy 101 = .ok (.getfield 39, 3) := dk_180 0 39 (dk_at dksX20_copy_4 10 rfl rfl)
theorem dX20_copy_104 : decode cX20_copy 104 = .ok (.iload 9, 2) := dk_21 9 (dk_at dksX20_copy_4 13 rfl rfl)
theorem dX20_copy_106 : decode cX20_copy 106 = .ok (.aload_n 0, 1) := dk_42 (dk_at dksX20_copy_4 15 rfl rfl)
theorem dX20_copy_107 : decode cX20_copy 107 = .ok (.getfield 16, 3) := dk_180 0 16 (dk_at dksX20_copy_4 16 rfl rfl)
theorem dX20_copy_110 : decode cX20_copy 110 = .ok (.bipush 40, 2) := dk_16 40 (dk_at dksX20_copy_4 19 rfl rfl)
theorem dX20_copy_112 : decode cX20_copy 112 = .ok (.iload_n 1, 1) := dk_27 (dk_at dksX20_copy_4 21 rfl rfl)
theorem dX20_copy_113 : decode cX20_copy 113 = .ok (.imul, 1) := dk_104 (dk_at dksX20_copy_4 22 rfl rfl)
theorem dX20_copy_114 : decode cX20_copy 114 = .ok (.iload_n 2, 1) := dk_28 (dk_at dksX20_copy_4 23 rfl rfl)
theorem dX20_copy_115 : decode cX20_copy 115 = .ok (.iadd, 1) := dk_96 (dk_at dksX20_copy_5 0 rfl rfl)
theorem dX20_copy_116 : decode cX20_copy 116 = .ok (.iload 9, 2) := dk_21 9 (dk_at dksX20_copy_5 1 rfl rfl)
theorem dX20_copy_118 : decode cX20_copy 118 = .ok (.iadd, 1) := dk_96 (dk_at dksX20_copy_5 3 rfl rfl)
theorem dX20_copy_119 : decode cX20_copy 119 = .ok (.laload, 1) := dk_47 (dk_at dksX20_copy_5 4 rfl rfl)
theorem dX20_copy_120 : decode cX20_copy 120 = .ok (.lastore, 1) := dk_80 (dk_at dksX20_copy_5 5 rfl rfl)
theorem dX20_copy_121 : decode cX20_copy 121 = .ok (.iinc 9 1, 3) := dk_132 9 1 (dk_at dksX20_copy_5 6 rfl rfl)
theorem dX20_copy_124 : decode cX20_copy 124 = .ok (.goto (-31), 3) := dk_167 255 225 (dk_at dksX20_copy_5 9 rfl rfl)
theorem dX20_copy_127 : decode cX20_copy 127 = .ok (.iconst 0, 1) := dk_3 (dk_at dksX20_copy_5 12 rfl rfl)
theorem dX20_copy_128 : decode cX20_copy 128 = .ok (.istore 9, 2) := dk_54 9 (dk_at dksX20_copy_5 13 rfl rfl)
theorem dX20_copy_130 : decode cX20_copy 130 = .ok (.iload 9, 2) := dk_21 9 (dk_at dksX20_copy_5 15 rfl rfl)
theorem dX20_copy_132 : decode cX20_copy 132 = .ok (.iload 5, 2) := dk_21 5 (dk_at dksX20_copy_5 17 rfl rfl)
theorem dX20_copy_134 : decode cX20_copy 134 = .ok (.if_icmp .ge 54, 3) := dk_162 0 54 (dk_at dksX20_copy_5 19 rfl rfl)
theorem dX20_copy_137 : decode cX20_copy 137 = .ok (.iload 7, 2) := dk_21 7 (dk_at dksX20_copy_5 22 rfl rfl)
theorem dX20_copy_139 : decode cX20_copy 139 = .ok (.bipush 9, 2) := dk_16 9 (dk_at dksX20_copy_6 0 rfl rfl)
theorem dX20_copy_141 : decode cX20_copy 141 = .ok (.if_icmp .ne 19, 3) := dk_160 0 19 (dk_at dksX20_copy_6 2 rfl rfl)
theorem dX20_copy_144 : decode cX20_copy 144 = .ok (.aload_n 0, 1) := dk_42 (dk_at dksX20_copy_6 5 rfl rfl)
theorem dX20_copy_145 : decode cX20_copy 145 = .ok (.aload_n 0, 1) := dk_42 (dk_at dksX20_copy_6 6 rfl rfl)
theorem dX20_copy_146 : decode cX20_copy 146 = .ok (.getfield 39, 3) := dk_180 0 39 (dk_at dksX20_copy_6 7 rfl rfl)
theorem dX20_copy_149 : decode cX20_copy 149 = .ok (.iload 9, 2) := dk_21 9 (dk_at dksX20_copy_6 10 rfl rfl)
theorem dX20_copy_151 : decode cX20_copy 151 = .ok (.laload, 1) := dk_47 (dk_at dksX20_copy_6 12 rfl rfl)
theorem dX20_copy_152 : decode cX20_copy 152 = .ok (.invokevirtual 169, 3) := dk_182 0 169 (dk_at dksX20_copy_6 13 rfl rfl)
theorem dX20_copy_155 : decode cX20_copy 155 = .ok (.ifCond .ne 5, 3) := dk_154 0 5 (dk_at dksX20_copy_6 16 rfl rfl)
theorem dX20_copy_158 : decode cX20_copy 158 = .ok (.iconst 3, 1) := dk_6 (dk_at dksX20_copy_6 19 rfl rfl)
theorem dX20_copy_159 : decode cX20_copy 159 = .ok (.ireturn, 1) := dk_172 (dk_at dksX20_copy_6 20 rfl rfl)
theorem dX20_copy_160 : decode cX20_copy 160 = .ok (.aload_n 0, 1) := dk_42 (dk_at dksX20_copy_6 21 rfl rfl)
theorem dX20_copy_161 : decode cX20_copy 161 = .ok (.getfield 16, 3) := dk_180 0 16 (dk_at dksX20_copy_7 0 rfl rfl)
theorem dX20_copy_164 : decode cX20_copy 164 = .ok (.bipush 40, 2) := dk_16 40 (dk_at dksX20_copy_7 3 rfl rfl)
theorem dX20_copy_166 : decode cX20_copy 166 = .ok (.iload_n 3, 1) := dk_29 (dk_at dksX20_copy_7 5 rfl rfl)
theorem dX20_copy_167 : decode cX20_copy 167 = .ok (.imul, 1) := dk_104 (dk_at dksX20_copy_7 6 rfl rfl)
theorem dX20_copy_168 : decode cX20_copy 168 = .ok (.iload 4, 2) := dk_21 4 (dk_at dksX20_copy_7 7 rfl rfl)
theorem dX20_copy_170 : decode cX20_copy 170 = .ok (.iadd, 1) := dk_96 (dk_at dksX20_copy_7 9 rfl rfl)
theorem dX20_copy_171 : decode cX20_copy 171 = .ok (.iload 9, 2) := dk_21 9 (dk_at dksX20_copy_7 10 rfl rfl)
theorem dX20_copy_173 : decode cX20_copy 173 = .ok (.iadd, 1) := dk_96 (dk_at dksX20_copy_7 12 rfl rfl)
theorem dX20_copy_174 : decode cX20_copy 174 = .ok (.aload_n 0, 1) := dk_42 (dk_at dksX20_copy_7 13 rfl rfl)
theorem dX20_copy_175 : decode cX20_copy 175 = .ok (.getfield 39, 3) := dk_180 0 39 (dk_at dksX20_copy_7 14 rfl rfl)
theorem dX20_copy_178 : decode cX20_copy 178 = .ok (.iload 9, 2) := dk_21 9 (dk_at dksX20_copy_7 17 rfl rfl)
theorem dX20_copy_180 : decode cX20_copy 180 = .ok (.laload, 1) := dk_47 (dk_at dksX20_copy_7 19 rfl rfl)
theorem dX20_copy_181 : decode cX20_copy 181 = .ok (.lastore, 1) := dk_80 (dk_at dksX20_copy_7 20 rfl rfl)
theorem dX20_copy_182 : decode cX20_copy 182 = .ok (.iinc 9 1, 3) := dk_132 9 1 (dk_at dksX20_copy_7 21 rfl rfl)
theorem dX20_copy_185 : decode cX20_copy 185 = .ok (.goto (-55), 3) := dk_167 255 201 (dk_at dksX20_copy_8 0 rfl rfl)
theorem dX20_copy_188 : decode cX20_copy 188 = .ok (.iconst 0, 1) := dk_3 (dk_at dksX20_copy_8 3 rfl rfl)
theorem dX20_copy_189 : decode cX20_copy 189 = .ok (.ireturn, 1) := dk_172 (dk_at dksX20_copy_8 4 rfl rfl)
abbrev cX20_hasPlaces : ByteArray := prog_29_method_32_code
def yX20_hasPlaces : MethodName := ⟨RX20, "hasPlaces", "(III)Z"⟩
def dkwX20_hasPlaces_1 : List UInt8 := [4, 167, 0, 4, 3, 172]
abbrev dktX20_hasPlaces_1 : List UInt8 := dkwX20_hasPlaces_1 ++ []
def dkwX20_hasPlaces_0 : List UInt8 := [28, 155, 0, 27, 29, 155, 0, 23, 28, 133, 29, 133, 97, 42, 180, 0, 13, 27, 46, 133, 148, 157, 0, 7]
abbrev dktX20_hasPlaces_0 : List UInt8 := dkwX20_hasPlaces_0 ++ dktX20_hasPlaces_1
theorem dksX20_hasPlaces_0 : cX20_hasPlaces.data.toList.drop 0 = dktX20_hasPlaces_0 := by decide +kernel
theorem dksX20_hasPlaces_1 : cX20_hasPlaces.data.toList.drop 24 = dktX20_hasPlaces_1 := dk_seg dksX20_hasPlaces_0 24 rfl rfl
theorem dX20_hasPlaces_0 : decode cX20_hasPlaces 0 = .ok (.iload_n 2, 1) := dk_28 (dk_at dksX20_hasPlaces_0 0 rfl rfl)
theorem dX20_hasPlaces_1 : decode cX20_hasPlaces 1 = .ok (.ifCond .lt 27, 3) := dk_155 0 27 (dk_at dksX20_hasPlaces_0 1 rfl rfl)
theorem dX20_hasPlaces_4 : decode cX20_hasPlaces 4 = .ok (.iload_n 3, 1) := dk_29 (dk_at dksX20_hasPlaces_0 4 rfl rfl)
theorem dX20_hasPlaces_5 : decode cX20_hasPlaces 5 = .ok (.ifCond .lt 23, 3) := dk_155 0 23 (dk_at dksX20_hasPlaces_0 5 rfl rfl)
theorem dX20_hasPlaces_8 : decode cX20_hasPlaces 8 = .ok (.iload_n 2, 1) := dk_28 (dk_at dksX20_hasPlaces_0 8 rfl rfl)
theorem dX20_hasPlaces_9 : decode cX20_hasPlaces 9 = .ok (.i2l, 1) := dk_133 (dk_at dksX20_hasPlaces_0 9 rfl rfl)
theorem dX20_hasPlaces_10 : decode cX20_hasPlaces 10 = .ok (.iload_n 3, 1) := dk_29 (dk_at dksX20_hasPlaces_0 10 rfl rfl)
theorem dX20_hasPlaces_11 : decode cX20_hasPlaces 11 = .ok (.i2l, 1) := dk_133 (dk_at dksX20_hasPlaces_0 11 rfl rfl)
theorem dX20_hasPlaces_12 : decode cX20_hasPlaces 12 = .ok (.ladd, 1) := dk_97 (dk_at dksX20_hasPlaces_0 12 rfl rfl)
theorem dX20_hasPlaces_13 : decode cX20_hasPlaces 13 = .ok (.aload_n 0, 1) := dk_42 (dk_at dksX20_hasPlaces_0 13 rfl rfl)
theorem dX20_hasPlaces_14 : decode cX20_hasPlaces 14 = .ok (.getfield 13, 3) := dk_180 0 13 (dk_at dksX20_hasPlaces_0 14 rfl rfl)
theorem dX20_hasPlaces_17 : decode cX20_hasPlaces 17 = .ok (.iload_n 1, 1) := dk_27 (dk_at dksX20_hasPlaces_0 17 rfl rfl)
theorem dX20_hasPlaces_18 : decode cX20_hasPlaces 18 = .ok (.iaload, 1) := dk_46 (dk_at dksX20_hasPlaces_0 18 rfl rfl)
theorem dX20_hasPlaces_19 : decode cX20_hasPlaces 19 = .ok (.i2l, 1) := dk_133 (dk_at dksX20_hasPlaces_0 19 rfl rfl)
theorem dX20_hasPlaces_20 : decode cX20_hasPlaces 20 = .ok (.lcmp, 1) := dk_148 (dk_at dksX20_hasPlaces_0 20 rfl rfl)
theorem dX20_hasPlaces_21 : decode cX20_hasPlaces 21 = .ok (.ifCond .gt 7, 3) := dk_157 0 7 (dk_at dksX20_hasPlaces_0 21 rfl rfl)
theorem dX20_hasPlaces_24 : decode cX20_hasPlaces 24 = .ok (.iconst 1, 1) := dk_4 (dk_at dksX20_hasPlaces_1 0 rfl rfl)
theorem dX20_hasPlaces_25 : decode cX20_hasPlaces 25 = .ok (.goto 4, 3) := dk_167 0 4 (dk_at dksX20_hasPlaces_1 1 rfl rfl)
theorem dX20_hasPlaces_28 : decode cX20_hasPlaces 28 = .ok (.iconst 0, 1) := dk_3 (dk_at dksX20_hasPlaces_1 4 rfl rfl)
theorem dX20_hasPlaces_29 : decode cX20_hasPlaces 29 = .ok (.ireturn, 1) := dk_172 (dk_at dksX20_hasPlaces_1 5 rfl rfl)
abbrev cX20_copyRow : ByteArray := prog_29_method_36_code
def yX20_copyRow : MethodName := ⟨RX20, "copyRow", "(I)I"⟩
def dkwX20_copyRow_3 : List UInt8 := [181, 0, 218, 3, 172]
abbrev dktX20_copyRow_3 : List UInt8 := dkwX20_copyRow_3 ++ []
def dkwX20_copyRow_2 : List UInt8 := [29, 96, 42, 180, 0, 16, 16, 40, 27, 104, 29, 96, 47, 80, 132, 3, 1, 167, 255, 221, 42, 28, 133]
abbrev dktX20_copyRow_2 : List UInt8 := dkwX20_copyRow_2 ++ dktX20_copyRow_3
def dkwX20_copyRow_1 : List UInt8 := [182, 0, 129, 61, 3, 62, 29, 42, 180, 0, 13, 27, 46, 162, 0, 31, 42, 180, 0, 16, 16, 40, 28, 104]
abbrev dktX20_copyRow_1 : List UInt8 := dkwX20_copyRow_1 ++ dktX20_copyRow_2
def dkwX20_copyRow_0 : List UInt8 := [42, 180, 0, 103, 16, 60, 160, 0, 5, 8, 172, 42, 42, 180, 0, 7, 27, 46, 42, 180, 0, 13, 27, 46]
abbrev dktX20_copyRow_0 : List UInt8 := dkwX20_copyRow_0 ++ dktX20_copyRow_1
theorem dksX20_copyRow_0 : cX20_copyRow.data.toList.drop 0 = dktX20_copyRow_0 := by decide +kernel
theorem dksX20_copyRow_1 : cX20_copyRow.data.toList.drop 24 = dktX20_copyRow_1 := dk_seg dksX20_copyRow_0 24 rfl rfl
theorem dksX20_copyRow_2 : cX20_copyRow.data.toList.drop 48 = dktX20_copyRow_2 := dk_seg dksX20_copyRow_1 24 rfl rfl
theorem dksX20_copyRow_3 : cX20_copyRow.data.toList.drop 71 = dktX20_copyRow_3 := dk_seg dksX20_copyRow_2 23 rfl rfl
theorem dX20_copyRow_0 : decode cX20_copyRow 0 = .ok (.aload_n 0, 1) := dk_42 (dk_at dksX20_copyRow_0 0 rfl rfl)
theorem dX20_copyRow_1 : decode cX20_copyRow 1 = .ok (.getfield 103, 3) := dk_180 0 103 (dk_at dksX20_copyRow_0 1 rfl rfl)
theorem dX20_copyRow_4 : decode cX20_copyRow 4 = .ok (.bipush 60, 2) := dk_16 60 (dk_at dksX20_copyRow_0 4 rfl rfl)
theorem dX20_copyRow_6 : decode cX20_copyRow 6 = .ok (.if_icmp .ne 5, 3) := dk_160 0 5 (dk_at dksX20_copyRow_0 6 rfl rfl)
theorem dX20_copyRow_9 : decode cX20_copyRow 9 = .ok (.iconst 5, 1) := dk_8 (dk_at dksX20_copyRow_0 9 rfl rfl)
theorem dX20_copyRow_10 : decode cX20_copyRow 10 = .ok (.ireturn, 1) := dk_172 (dk_at dksX20_copyRow_0 10 rfl rfl)
theorem dX20_copyRow_11 : decode cX20_copyRow 11 = .ok (.aload_n 0, 1) := dk_42 (dk_at dksX20_copyRow_0 11 rfl rfl)
theorem dX20_copyRow_12 : decode cX20_copyRow 12 = .ok (.aload_n 0, 1) := dk_42 (dk_at dksX20_copyRow_0 12 rfl rfl)
theorem dX20_copyRow_13 : decode cX20_copyRow 13 = .ok (.getfield 7, 3) := dk_180 0 7 (dk_at dksX20_copyRow_0 13 rfl rfl)
theorem dX20_copyRow_16 : decode cX20_copyRow 16 = .ok (.iload_n 1, 1) := dk_27 (dk_at dksX20_copyRow_0 16 rfl rfl)
theorem dX20_copyRow_17 : decode cX20_copyRow 17 = .ok (.iaload, 1) := dk_46 (dk_at dksX20_copyRow_0 17 rfl rfl)
theorem dX20_copyRow_18 : decode cX20_copyRow 18 = .ok (.aload_n 0, 1) := dk_42 (dk_at dksX20_copyRow_0 18 rfl rfl)
theorem dX20_copyRow_19 : decode cX20_copyRow 19 = .ok (.getfield 13, 3) := dk_180 0 13 (dk_at dksX20_copyRow_0 19 rfl rfl)
theorem dX20_copyRow_22 : decode cX20_copyRow 22 = .ok (.iload_n 1, 1) := dk_27 (dk_at dksX20_copyRow_0 22 rfl rfl)
theorem dX20_copyRow_23 : decode cX20_copyRow 23 = .ok (.iaload, 1) := dk_46 (dk_at dksX20_copyRow_0 23 rfl rfl)
theorem dX20_copyRow_24 : decode cX20_copyRow 24 = .ok (.invokevirtual 129, 3) := dk_182 0 129 (dk_at dksX20_copyRow_1 0 rfl rfl)
theorem dX20_copyRow_27 : decode cX20_copyRow 27 = .ok (.istore_n 2, 1) := dk_61 (dk_at dksX20_copyRow_1 3 rfl rfl)
theorem dX20_copyRow_28 : decode cX20_copyRow 28 = .ok (.iconst 0, 1) := dk_3 (dk_at dksX20_copyRow_1 4 rfl rfl)
theorem dX20_copyRow_29 : decode cX20_copyRow 29 = .ok (.istore_n 3, 1) := dk_62 (dk_at dksX20_copyRow_1 5 rfl rfl)
theorem dX20_copyRow_30 : decode cX20_copyRow 30 = .ok (.iload_n 3, 1) := dk_29 (dk_at dksX20_copyRow_1 6 rfl rfl)
theorem dX20_copyRow_31 : decode cX20_copyRow 31 = .ok (.aload_n 0, 1) := dk_42 (dk_at dksX20_copyRow_1 7 rfl rfl)
theorem dX20_copyRow_32 : decode cX20_copyRow 32 = .ok (.getfield 13, 3) := dk_180 0 13 (dk_at dksX20_copyRow_1 8 rfl rfl)
theorem dX20_copyRow_35 : decode cX20_copyRow 35 = .ok (.iload_n 1, 1) := dk_27 (dk_at dksX20_copyRow_1 11 rfl rfl)
theorem dX20_copyRow_36 : decode cX20_copyRow 36 = .ok (.iaload, 1) := dk_46 (dk_at dksX20_copyRow_1 12 rfl rfl)
theorem dX20_copyRow_37 : decode cX20_copyRow 37 = .ok (.if_icmp .ge 31, 3) := dk_162 0 31 (dk_at dksX20_copyRow_1 13 rfl rfl)
theorem dX20_copyRow_40 : decode cX20_copyRow 40 = .ok (.aload_n 0, 1) := dk_42 (dk_at dksX20_copyRow_1 16 rfl rfl)
theorem dX20_copyRow_41 : decode cX20_copyRow 41 = .ok (.getfield 16, 3) := dk_180 0 16 (dk_at dksX20_copyRow_1 17 rfl rfl)
theorem dX20_copyRow_44 : decode cX20_copyRow 44 = .ok (.bipush 40, 2) := dk_16 40 (dk_at dksX20_copyRow_1 20 rfl rfl)
theorem dX20_copyRow_46 : decode cX20_copyRow 46 = .ok (.iload_n 2, 1) := dk_28 (dk_at dksX20_copyRow_1 22 rfl rfl)
theorem dX20_copyRow_47 : decode cX20_copyRow 47 = .ok (.imul, 1) := dk_104 (dk_at dksX20_copyRow_1 23 rfl rfl)
theorem dX20_copyRow_48 : decode cX20_copyRow 48 = .ok (.iload_n 3, 1) := dk_29 (dk_at dksX20_copyRow_2 0 rfl rfl)
theorem dX20_copyRow_49 : decode cX20_copyRow 49 = .ok (.iadd, 1) := dk_96 (dk_at dksX20_copyRow_2 1 rfl rfl)
theorem dX20_copyRow_50 : decode cX20_copyRow 50 = .ok (.aload_n 0, 1) := dk_42 (dk_at dksX20_copyRow_2 2 rfl rfl)
theorem dX20_copyRow_51 : decode cX20_copyRow 51 = .ok (.getfield 16, 3) := dk_180 0 16 (dk_at dksX20_copyRow_2 3 rfl rfl)
theorem dX20_copyRow_54 : decode cX20_copyRow 54 = .ok (.bipush 40, 2) := dk_16 40 (dk_at dksX20_copyRow_2 6 rfl rfl)
theorem dX20_copyRow_56 : decode cX20_copyRow 56 = .ok (.iload_n 1, 1) := dk_27 (dk_at dksX20_copyRow_2 8 rfl rfl)
theorem dX20_copyRow_57 : decode cX20_copyRow 57 = .ok (.imul, 1) := dk_104 (dk_at dksX20_copyRow_2 9 rfl rfl)
theorem dX20_copyRow_58 : decode cX20_copyRow 58 = .ok (.iload_n 3, 1) := dk_29 (dk_at dksX20_copyRow_2 10 rfl rfl)
theorem dX20_copyRow_59 : decode cX20_copyRow 59 = .ok (.iadd, 1) := dk_96 (dk_at dksX20_copyRow_2 11 rfl rfl)
theorem dX20_copyRow_60 : decode cX20_copyRow 60 = .ok (.laload, 1) := dk_47 (dk_at dksX20_copyRow_2 12 rfl rfl)
theorem dX20_copyRow_61 : decode cX20_copyRow 61 = .ok (.lastore, 1) := dk_80 (dk_at dksX20_copyRow_2 13 rfl rfl)
theorem dX20_copyRow_62 : decode cX20_copyRow 62 = .ok (.iinc 3 1, 3) := dk_132 3 1 (dk_at dksX20_copyRow_2 14 rfl rfl)
theorem dX20_copyRow_65 : decode cX20_copyRow 65 = .ok (.goto (-35), 3) := dk_167 255 221 (dk_at dksX20_copyRow_2 17 rfl rfl)
theorem dX20_copyRow_68 : decode cX20_copyRow 68 = .ok (.aload_n 0, 1) := dk_42 (dk_at dksX20_copyRow_2 20 rfl rfl)
theorem dX20_copyRow_69 : decode cX20_copyRow 69 = .ok (.iload_n 2, 1) := dk_28 (dk_at dksX20_copyRow_2 21 rfl rfl)
theorem dX20_copyRow_70 : decode cX20_copyRow 70 = .ok (.i2l, 1) := dk_133 (dk_at dksX20_copyRow_2 22 rfl rfl)
theorem dX20_copyRow_71 : decode cX20_copyRow 71 = .ok (.putfield 218, 3) := dk_181 0 218 (dk_at dksX20_copyRow_3 0 rfl rfl)
theorem dX20_copyRow_74 : decode cX20_copyRow 74 = .ok (.iconst 0, 1) := dk_3 (dk_at dksX20_copyRow_3 3 rfl rfl)
theorem dX20_copyRow_75 : decode cX20_copyRow 75 = .ok (.ireturn, 1) := dk_172 (dk_at dksX20_copyRow_3 4 rfl rfl)
abbrev cX20_fill : ByteArray := prog_29_method_37_code
def yX20_fill : MethodName := ⟨RX20, "fill", "(IIII)I"⟩
def dkwX20_fill_4 : List UInt8 := [28, 96, 21, 8, 96, 22, 6, 80, 132, 8, 1, 167, 255, 230, 3, 172]
abbrev dktX20_fill_4 : List UInt8 := dkwX20_fill_4 ++ []
def dkwX20_fill_3 : List UInt8 := [167, 0, 4, 9, 55, 6, 3, 54, 8, 21, 8, 21, 4, 162, 0, 25, 42, 180, 0, 16, 16, 40, 27, 104]
abbrev dktX20_fill_3 : List UInt8 := dkwX20_fill_3 ++ dktX20_fill_4
def dkwX20_fill_2 : List UInt8 := [133, 182, 0, 169, 154, 0, 5, 6, 172, 21, 4, 158, 0, 14, 42, 21, 5, 29, 133, 182, 0, 173]
abbrev dktX20_fill_2 : List UInt8 := dkwX20_fill_2 ++ dktX20_fill_3
def dkwX20_fill_1 : List UInt8 := [21, 4, 182, 0, 215, 154, 0, 5, 5, 172, 21, 5, 16, 9, 160, 0, 19, 21, 4, 158, 0, 14, 42, 29]
abbrev dktX20_fill_1 : List UInt8 := dkwX20_fill_1 ++ dktX20_fill_2
def dkwX20_fill_0 : List UInt8 := [42, 180, 0, 7, 27, 46, 54, 5, 42, 21, 5, 29, 133, 182, 0, 165, 154, 0, 5, 7, 172, 42, 27, 28]
abbrev dktX20_fill_0 : List UInt8 := dkwX20_fill_0 ++ dktX20_fill_1
theorem dksX20_fill_0 : cX20_fill.data.toList.drop 0 = dktX20_fill_0 := by decide +kernel
theorem dksX20_fill_1 : cX20_fill.data.toList.drop 24 = dktX20_fill_1 := dk_seg dksX20_fill_0 24 rfl rfl
theorem dksX20_fill_2 : cX20_fill.data.toList.drop 48 = dktX20_fill_2 := dk_seg dksX20_fill_1 24 rfl rfl
theorem dksX20_fill_3 : cX20_fill.data.toList.drop 70 = dktX20_fill_3 := dk_seg dksX20_fill_2 22 rfl rfl
theorem dksX20_fill_4 : cX20_fill.data.toList.drop 94 = dktX20_fill_4 := dk_seg dksX20_fill_3 24 rfl rfl
theorem dX20_fill_0 : decode cX20_fill 0 = .ok (.aload_n 0, 1) := dk_42 (dk_at dksX20_fill_0 0 rfl rfl)
theorem dX20_fill_1 : decode cX20_fill 1 = .ok (.getfield 7, 3) := dk_180 0 7 (dk_at dksX20_fill_0 1 rfl rfl)
theorem dX20_fill_4 : decode cX20_fill 4 = .ok (.iload_n 1, 1) := dk_27 (dk_at dksX20_fill_0 4 rfl rfl)
theorem dX20_fill_5 : decode cX20_fill 5 = .ok (.iaload, 1) := dk_46 (dk_at dksX20_fill_0 5 rfl rfl)
theorem dX20_fill_6 : decode cX20_fill 6 = .ok (.istore 5, 2) := dk_54 5 (dk_at dksX20_fill_0 6 rfl rfl)
theorem dX20_fill_8 : decode cX20_fill 8 = .ok (.aload_n 0, 1) := dk_42 (dk_at dksX20_fill_0 8 rfl rfl)
theorem dX20_fill_9 : decode cX20_fill 9 = .ok (.iload 5, 2) := dk_21 5 (dk_at dksX20_fill_0 9 rfl rfl)
theorem dX20_fill_11 : decode cX20_fill 11 = .ok (.iload_n 3, 1) := dk_29 (dk_at dksX20_fill_0 11 rfl rfl)
theorem dX20_fill_12 : decode cX20_fill 12 = .ok (.i2l, 1) := dk_133 (dk_at dksX20_fill_0 12 rfl rfl)
theorem dX20_fill_13 : decode cX20_fill 13 = .ok (.invokevirtual 165, 3) := dk_182 0 165 (dk_at dksX20_fill_0 13 rfl rfl)
theorem dX20_fill_16 : decode cX20_fill 16 = .ok (.ifCond .ne 5, 3) := dk_154 0 5 (dk_at dksX20_fill_0 16 rfl rfl)
theorem dX20_fill_19 : decode cX20_fill 19 = .ok (.iconst 4, 1) := dk_7 (dk_at dksX20_fill_0 19 rfl rfl)
theorem dX20_fill_20 : decode cX20_fill 20 = .ok (.ireturn, 1) := dk_172 (dk_at dksX20_fill_0 20 rfl rfl)
theorem dX20_fill_21 : decode cX20_fill 21 = .ok (.aload_n 0, 1) := dk_42 (dk_at dksX20_fill_0 21 rfl rfl)
theorem dX20_fill_22 : decode cX20_fill 22 = .ok (.iload_n 1, 1) := dk_27 (dk_at dksX20_fill_0 22 rfl rfl)
theorem dX20_fill_23 : decode cX20_fill 23 = .ok (.iload_n 2, 1) := dk_28 (dk_at dksX20_fill_0 23 rfl rfl)
theorem dX20_fill_24 : decode cX20_fill 24 = .ok (.iload 4, 2) := dk_21 4 (dk_at dksX20_fill_1 0 rfl rfl)
theorem dX20_fill_26 : decode cX20_fill 26 = .ok (.invokevirtual 215, 3) := dk_182 0 215 (dk_at dksX20_fill_1 2 rfl rfl)
theorem dX20_fill_29 : decode cX20_fill 29 = .ok (.ifCond .ne 5, 3) := dk_154 0 5 (dk_at dksX20_fill_1 5 rfl rfl)
theorem dX20_fill_32 : decode cX20_fill 32 = .ok (.iconst 2, 1) := dk_5 (dk_at dksX20_fill_1 8 rfl rfl)
theorem dX20_fill_33 : decode cX20_fill 33 = .ok (.ireturn, 1) := dk_172 (dk_at dksX20_fill_1 9 rfl rfl)
theorem dX20_fill_34 : decode cX20_fill 34 = .ok (.iload 5, 2) := dk_21 5 (dk_at dksX20_fill_1 10 rfl rfl)
theorem dX20_fill_36 : decode cX20_fill 36 = .ok (.bipush 9, 2) := dk_16 9 (dk_at dksX20_fill_1 12 rfl rfl)
theorem dX20_fill_38 : decode cX20_fill 38 = .ok (.if_icmp .ne 19, 3) := dk_160 0 19 (dk_at dksX20_fill_1 14 rfl rfl)
theorem dX20_fill_41 : decode cX20_fill 41 = .ok (.iload 4, 2) := dk_21 4 (dk_at dksX20_fill_1 17 rfl rfl)
theorem dX20_fill_43 : decode cX20_fill 43 = .ok (.ifCond .le 14, 3) := dk_158 0 14 (dk_at dksX20_fill_1 19 rfl rfl)
theorem dX20_fill_46 : decode cX20_fill 46 = .ok (.aload_n 0, 1) := dk_42 (dk_at dksX20_fill_1 22 rfl rfl)
theorem dX20_fill_47 : decode cX20_fill 47 = .ok (.iload_n 3, 1) := dk_29 (dk_at dksX20_fill_1 23 rfl rfl)
theorem dX20_fill_48 : decode cX20_fill 48 = .ok (.i2l, 1) := dk_133 (dk_at dksX20_fill_2 0 rfl rfl)
theorem dX20_fill_49 : decode cX20_fill 49 = .ok (.invokevirtual 169, 3) := dk_182 0 169 (dk_at dksX20_fill_2 1 rfl rfl)
theorem dX20_fill_52 : decode cX20_fill 52 = .ok (.ifCond .ne 5, 3) := dk_154 0 5 (dk_at dksX20_fill_2 4 rfl rfl)
theorem dX20_fill_55 : decode cX20_fill 55 = .ok (.iconst 3, 1) := dk_6 (dk_at dksX20_fill_2 7 rfl rfl)
theorem dX20_fill_56 : decode cX20_fill 56 = .ok (.ireturn, 1) := dk_172 (dk_at dksX20_fill_2 8 rfl rfl)
theorem dX20_fill_57 : decode cX20_fill 57 = .ok (.iload 4, 2) := dk_21 4 (dk_at dksX20_fill_2 9 rfl rfl)
theorem dX20_fill_59 : decode cX20_fill 59 = .ok (.ifCond .le 14, 3) := dk_158 0 14 (dk_at dksX20_fill_2 11 rfl rfl)
theorem dX20_fill_62 : decode cX20_fill 62 = .ok (.aload_n 0, 1) := dk_42 (dk_at dksX20_fill_2 14 rfl rfl)
theorem dX20_fill_63 : decode cX20_fill 63 = .ok (.iload 5, 2) := dk_21 5 (dk_at dksX20_fill_2 15 rfl rfl)
theorem dX20_fill_65 : decode cX20_fill 65 = .ok (.iload_n 3, 1) := dk_29 (dk_at dksX20_fill_2 17 rfl rfl)
theorem dX20_fill_66 : decode cX20_fill 66 = .ok (.i2l, 1) := dk_133 (dk_at dksX20_fill_2 18 rfl rfl)
theorem dX20_fill_67 : decode cX20_fill 67 = .ok (.invokevirtual 173, 3) := dk_182 0 173 (dk_at dksX20_fill_2 19 rfl rfl)
theorem dX20_fill_70 : decode cX20_fill 70 = .ok (.goto 4, 3) := dk_167 0 4 (dk_at dksX20_fill_3 0 rfl rfl)
theorem dX20_fill_73 : decode cX20_fill 73 = .ok (.lconst 0, 1) := dk_9 (dk_at dksX20_fill_3 3 rfl rfl)
theorem dX20_fill_74 : decode cX20_fill 74 = .ok (.lstore 6, 2) := dk_55 6 (dk_at dksX20_fill_3 4 rfl rfl)
theorem dX20_fill_76 : decode cX20_fill 76 = .ok (.iconst 0, 1) := dk_3 (dk_at dksX20_fill_3 6 rfl rfl)
theorem dX20_fill_77 : decode cX20_fill 77 = .ok (.istore 8, 2) := dk_54 8 (dk_at dksX20_fill_3 7 rfl rfl)
theorem dX20_fill_79 : decode cX20_fill 79 = .ok (.iload 8, 2) := dk_21 8 (dk_at dksX20_fill_3 9 rfl rfl)
theorem dX20_fill_81 : decode cX20_fill 81 = .ok (.iload 4, 2) := dk_21 4 (dk_at dksX20_fill_3 11 rfl rfl)
theorem dX20_fill_83 : decode cX20_fill 83 = .ok (.if_icmp .ge 25, 3) := dk_162 0 25 (dk_at dksX20_fill_3 13 rfl rfl)
theorem dX20_fill_86 : decode cX20_fill 86 = .ok (.aload_n 0, 1) := dk_42 (dk_at dksX20_fill_3 16 rfl rfl)
theorem dX20_fill_87 : decode cX20_fill 87 = .ok (.getfield 16, 3) := dk_180 0 16 (dk_at dksX20_fill_3 17 rfl rfl)
theorem dX20_fill_90 : decode cX20_fill 90 = .ok (.bipush 40, 2) := dk_16 40 (dk_at dksX20_fill_3 20 rfl rfl)
theorem dX20_fill_92 : decode cX20_fill 92 = .ok (.iload_n 1, 1) := dk_27 (dk_at dksX20_fill_3 22 rfl rfl)
theorem dX20_fill_93 : decode cX20_fill 93 = .ok (.imul, 1) := dk_104 (dk_at dksX20_fill_3 23 rfl rfl)
theorem dX20_fill_94 : decode cX20_fill 94 = .ok (.iload_n 2, 1) := dk_28 (dk_at dksX20_fill_4 0 rfl rfl)
theorem dX20_fill_95 : decode cX20_fill 95 = .ok (.iadd, 1) := dk_96 (dk_at dksX20_fill_4 1 rfl rfl)
theorem dX20_fill_96 : decode cX20_fill 96 = .ok (.iload 8, 2) := dk_21 8 (dk_at dksX20_fill_4 2 rfl rfl)
theorem dX20_fill_98 : decode cX20_fill 98 = .ok (.iadd, 1) := dk_96 (dk_at dksX20_fill_4 4 rfl rfl)
theorem dX20_fill_99 : decode cX20_fill 99 = .ok (.lload 6, 2) := dk_22 6 (dk_at dksX20_fill_4 5 rfl rfl)
theorem dX20_fill_101 : decode cX20_fill 101 = .ok (.lastore, 1) := dk_80 (dk_at dksX20_fill_4 7 rfl rfl)
theorem dX20_fill_102 : decode cX20_fill 102 = .ok (.iinc 8 1, 3) := dk_132 8 1 (dk_at dksX20_fill_4 8 rfl rfl)
theorem dX20_fill_105 : decode cX20_fill 105 = .ok (.goto (-26), 3) := dk_167 255 230 (dk_at dksX20_fill_4 11 rfl rfl)
theorem dX20_fill_108 : decode cX20_fill 108 = .ok (.iconst 0, 1) := dk_3 (dk_at dksX20_fill_4 14 rfl rfl)
theorem dX20_fill_109 : decode cX20_fill 109 = .ok (.ireturn, 1) := dk_172 (dk_at dksX20_fill_4 15 rfl rfl)
abbrev cX20_equal : ByteArray := prog_29_method_38_code
def yX20_equal : MethodName := ⟨RX20, "equal", "(II)I"⟩
def dkwX20_equal_4 : List UInt8 := [167, 255, 203, 42, 29, 153, 0, 7, 10, 167, 0, 4, 9, 181, 0, 218, 3, 172]
abbrev dktX20_equal_4 : List UInt8 := dkwX20_equal_4 ++ []
def dkwX20_equal_3 : List UInt8 := [21, 4, 96, 47, 42, 180, 0, 16, 16, 40, 28, 104, 21, 4, 96, 47, 182, 0, 222, 62, 132, 4, 1]
abbrev dktX20_equal_3 : List UInt8 := dkwX20_equal_3 ++ dktX20_equal_4
def dkwX20_equal_2 : List UInt8 := [180, 0, 13, 27, 46, 162, 0, 44, 42, 42, 180, 0, 7, 27, 46, 42, 180, 0, 16, 16, 40, 27, 104]
abbrev dktX20_equal_2 : List UInt8 := dkwX20_equal_2 ++ dktX20_equal_3
def dkwX20_equal_1 : List UInt8 := [180, 0, 13, 28, 46, 160, 0, 7, 4, 167, 0, 4, 3, 62, 3, 54, 4, 29, 153, 0, 55, 21, 4, 42]
abbrev dktX20_equal_1 : List UInt8 := dkwX20_equal_1 ++ dktX20_equal_2
def dkwX20_equal_0 : List UInt8 := [42, 180, 0, 7, 27, 46, 42, 180, 0, 7, 28, 46, 160, 0, 22, 42, 180, 0, 13, 27, 46, 42]
abbrev dktX20_equal_0 : List UInt8 := dkwX20_equal_0 ++ dktX20_equal_1
theorem dksX20_equal_0 : cX20_equal.data.toList.drop 0 = dktX20_equal_0 := by decide +kernel
theorem dksX20_equal_1 : cX20_equal.data.toList.drop 22 = dktX20_equal_1 := dk_seg dksX20_equal_0 22 rfl rfl
theorem dksX20_equal_2 : cX20_equal.data.toList.drop 46 = dktX20_equal_2 := dk_seg dksX20_equal_1 24 rfl rfl
theorem dksX20_equal_3 : cX20_equal.data.toList.drop 69 = dktX20_equal_3 := dk_seg dksX20_equal_2 23 rfl rfl
theorem dksX20_equal_4 : cX20_equal.data.toList.drop 92 = dktX20_equal_4 := dk_seg dksX20_equal_3 23 rfl rfl
theorem dX20_equal_0 : decode cX20_equal 0 = .ok (.aload_n 0, 1) := dk_42 (dk_at dksX20_equal_0 0 rfl rfl)
theorem dX20_equal_1 : decode cX20_equal 1 = .ok (.getfield 7, 3) := dk_180 0 7 (dk_at dksX20_equal_0 1 rfl rfl)
theorem dX20_equal_4 : decode cX20_equal 4 = .ok (.iload_n 1, 1) := dk_27 (dk_at dksX20_equal_0 4 rfl rfl)
theorem dX20_equal_5 : decode cX20_equal 5 = .ok (.iaload, 1) := dk_46 (dk_at dksX20_equal_0 5 rfl rfl)
theorem dX20_equal_6 : decode cX20_equal 6 = .ok (.aload_n 0, 1) := dk_42 (dk_at dksX20_equal_0 6 rfl rfl)
theorem dX20_equal_7 : decode cX20_equal 7 = .ok (.getfield 7, 3) := dk_180 0 7 (dk_at dksX20_equal_0 7 rfl rfl)
theorem dX20_equal_10 : decode cX20_equal 10 = .ok (.iload_n 2, 1) := dk_28 (dk_at dksX20_equal_0 10 rfl rfl)
theorem dX20_equal_11 : decode cX20_equal 11 = .ok (.iaload, 1) := dk_46 (dk_at dksX20_equal_0 11 rfl rfl)
theorem dX20_equal_12 : decode cX20_equal 12 = .ok (.if_icmp .ne 22, 3) := dk_160 0 22 (dk_at dksX20_equal_0 12 rfl rfl)
theorem dX20_equal_15 : decode cX20_equal 15 = .ok (.aload_n 0, 1) := dk_42 (dk_at dksX20_equal_0 15 rfl rfl)
theorem dX20_equal_16 : decode cX20_equal 16 = .ok (.getfield 13, 3) := dk_180 0 13 (dk_at dksX20_equal_0 16 rfl rfl)
theorem dX20_equal_19 : decode cX20_equal 19 = .ok (.iload_n 1, 1) := dk_27 (dk_at dksX20_equal_0 19 rfl rfl)
theorem dX20_equal_20 : decode cX20_equal 20 = .ok (.iaload, 1) := dk_46 (dk_at dksX20_equal_0 20 rfl rfl)
theorem dX20_equal_21 : decode cX20_equal 21 = .ok (.aload_n 0, 1) := dk_42 (dk_at dksX20_equal_0 21 rfl rfl)
theorem dX20_equal_22 : decode cX20_equal 22 = .ok (.getfield 13, 3) := dk_180 0 13 (dk_at dksX20_equal_1 0 rfl rfl)
theorem dX20_equal_25 : decode cX20_equal 25 = .ok (.iload_n 2, 1) := dk_28 (dk_at dksX20_equal_1 3 rfl rfl)
theorem dX20_equal_26 : decode cX20_equal 26 = .ok (.iaload, 1) := dk_46 (dk_at dksX20_equal_1 4 rfl rfl)
theorem dX20_equal_27 : decode cX20_equal 27 = .ok (.if_icmp .ne 7, 3) := dk_160 0 7 (dk_at dksX20_equal_1 5 rfl rfl)
theorem dX20_equal_30 : decode cX20_equal 30 = .ok (.iconst 1, 1) := dk_4 (dk_at dksX20_equal_1 8 rfl rfl)
theorem dX20_equal_31 : decode cX20_equal 31 = .ok (.goto 4, 3) := dk_167 0 4 (dk_at dksX20_equal_1 9 rfl rfl)
theorem dX20_equal_34 : decode cX20_equal 34 = .ok (.iconst 0, 1) := dk_3 (dk_at dksX20_equal_1 12 rfl rfl)
theorem dX20_equal_35 : decode cX20_equal 35 = .ok (.istore_n 3, 1) := dk_62 (dk_at dksX20_equal_1 13 rfl rfl)
theorem dX20_equal_36 : decode cX20_equal 36 = .ok (.iconst 0, 1) := dk_3 (dk_at dksX20_equal_1 14 rfl rfl)
theorem dX20_equal_37 : decode cX20_equal 37 = .ok (.istore 4, 2) := dk_54 4 (dk_at dksX20_equal_1 15 rfl rfl)
theorem dX20_equal_39 : decode cX20_equal 39 = .ok (.iload_n 3, 1) := dk_29 (dk_at dksX20_equal_1 17 rfl rfl)
theorem dX20_equal_40 : decode cX20_equal 40 = .ok (.ifCond .eq 55, 3) := dk_153 0 55 (dk_at dksX20_equal_1 18 rfl rfl)
theorem dX20_equal_43 : decode cX20_equal 43 = .ok (.iload 4, 2) := dk_21 4 (dk_at dksX20_equal_1 21 rfl rfl)
theorem dX20_equal_45 : decode cX20_equal 45 = .ok (.aload_n 0, 1) := dk_42 (dk_at dksX20_equal_1 23 rfl rfl)
theorem dX20_equal_46 : decode cX20_equal 46 = .ok (.getfield 13, 3) := dk_180 0 13 (dk_at dksX20_equal_2 0 rfl rfl)
theorem dX20_equal_49 : decode cX20_equal 49 = .ok (.iload_n 1, 1) := dk_27 (dk_at dksX20_equal_2 3 rfl rfl)
theorem dX20_equal_50 : decode cX20_equal 50 = .ok (.iaload, 1) := dk_46 (dk_at dksX20_equal_2 4 rfl rfl)
theorem dX20_equal_51 : decode cX20_equal 51 = .ok (.if_icmp .ge 44, 3) := dk_162 0 44 (dk_at dksX20_equal_2 5 rfl rfl)
theorem dX20_equal_54 : decode cX20_equal 54 = .ok (.aload_n 0, 1) := dk_42 (dk_at dksX20_equal_2 8 rfl rfl)
theorem dX20_equal_55 : decode cX20_equal 55 = .ok (.aload_n 0, 1) := dk_42 (dk_at dksX20_equal_2 9 rfl rfl)
theorem dX20_equal_56 : decode cX20_equal 56 = .ok (.getfield 7, 3) := dk_180 0 7 (dk_at dksX20_equal_2 10 rfl rfl)
theorem dX20_equal_59 : decode cX20_equal 59 = .ok (.iload_n 1, 1) := dk_27 (dk_at dksX20_equal_2 13 rfl rfl)
theorem dX20_equal_60 : decode cX20_equal 60 = .ok (.iaload, 1) := dk_46 (dk_at dksX20_equal_2 14 rfl rfl)
theorem dX20_equal_61 : decode cX20_equal 61 = .ok (.aload_n 0, 1) := dk_42 (dk_at dksX20_equal_2 15 rfl rfl)
theorem dX20_equal_62 : decode cX20_equal 62 = .ok (.getfield 16, 3) := dk_180 0 16 (dk_at dksX20_equal_2 16 rfl rfl)
theorem dX20_equal_65 : decode cX20_equal 65 = .ok (.bipush 40, 2) := dk_16 40 (dk_at dksX20_equal_2 19 rfl rfl)
theorem dX20_equal_67 : decode cX20_equal 67 = .ok (.iload_n 1, 1) := dk_27 (dk_at dksX20_equal_2 21 rfl rfl)
theorem dX20_equal_68 : decode cX20_equal 68 = .ok (.imul, 1) := dk_104 (dk_at dksX20_equal_2 22 rfl rfl)
theorem dX20_equal_69 : decode cX20_equal 69 = .ok (.iload 4, 2) := dk_21 4 (dk_at dksX20_equal_3 0 rfl rfl)
theorem dX20_equal_71 : decode cX20_equal 71 = .ok (.iadd, 1) := dk_96 (dk_at dksX20_equal_3 2 rfl rfl)
theorem dX20_equal_72 : decode cX20_equal 72 = .ok (.laload, 1) := dk_47 (dk_at dksX20_equal_3 3 rfl rfl)
theorem dX20_equal_73 : decode cX20_equal 73 = .ok (.aload_n 0, 1) := dk_42 (dk_at dksX20_equal_3 4 rfl rfl)
theorem dX20_equal_74 : decode cX20_equal 74 = .ok (.getfield 16, 3) := dk_180 0 16 (dk_at dksX20_equal_3 5 rfl rfl)
theorem dX20_equal_77 : decode cX20_equal 77 = .ok (.bipush 40, 2) := dk_16 40 (dk_at dksX20_equal_3 8 rfl rfl)
theorem dX20_equal_79 : decode cX20_equal 79 = .ok (.iload_n 2, 1) := dk_28 (dk_at dksX20_equal_3 10 rfl rfl)
theorem dX20_equal_80 : decode cX20_equal 80 = .ok (.imul, 1) := dk_104 (dk_at dksX20_equal_3 11 rfl rfl)
theorem dX20_equal_81 : decode cX20_equal 81 = .ok (.iload 4, 2) := dk_21 4 (dk_at dksX20_equal_3 12 rfl rfl)
theorem dX20_equal_83 : decode cX20_equal 83 = .ok (.iadd, 1) := dk_96 (dk_at dksX20_equal_3 14 rfl rfl)
theorem dX20_equal_84 : decode cX20_equal 84 = .ok (.laload, 1) := dk_47 (dk_at dksX20_equal_3 15 rfl rfl)
theorem dX20_equal_85 : decode cX20_equal 85 = .ok (.invokevirtual 222, 3) := dk_182 0 222 (dk_at dksX20_equal_3 16 rfl rfl)
theorem dX20_equal_88 : decode cX20_equal 88 = .ok (.istore_n 3, 1) := dk_62 (dk_at dksX20_equal_3 19 rfl rfl)
theorem dX20_equal_89 : decode cX20_equal 89 = .ok (.iinc 4 1, 3) := dk_132 4 1 (dk_at dksX20_equal_3 20 rfl rfl)
theorem dX20_equal_92 : decode cX20_equal 92 = .ok (.goto (-53), 3) := dk_167 255 203 (dk_at dksX20_equal_4 0 rfl rfl)
theorem dX20_equal_95 : decode cX20_equal 95 = .ok (.aload_n 0, 1) := dk_42 (dk_at dksX20_equal_4 3 rfl rfl)
theorem dX20_equal_96 : decode cX20_equal 96 = .ok (.iload_n 3, 1) := dk_29 (dk_at dksX20_equal_4 4 rfl rfl)
theorem dX20_equal_97 : decode cX20_equal 97 = .ok (.ifCond .eq 7, 3) := dk_153 0 7 (dk_at dksX20_equal_4 5 rfl rfl)
theorem dX20_equal_100 : decode cX20_equal 100 = .ok (.lconst 1, 1) := dk_10 (dk_at dksX20_equal_4 8 rfl rfl)
theorem dX20_equal_101 : decode cX20_equal 101 = .ok (.goto 4, 3) := dk_167 0 4 (dk_at dksX20_equal_4 9 rfl rfl)
theorem dX20_equal_104 : decode cX20_equal 104 = .ok (.lconst 0, 1) := dk_9 (dk_at dksX20_equal_4 12 rfl rfl)
theorem dX20_equal_105 : decode cX20_equal 105 = .ok (.putfield 218, 3) := dk_181 0 218 (dk_at dksX20_equal_4 13 rfl rfl)
theorem dX20_equal_108 : decode cX20_equal 108 = .ok (.iconst 0, 1) := dk_3 (dk_at dksX20_equal_4 16 rfl rfl)
theorem dX20_equal_109 : decode cX20_equal 109 = .ok (.ireturn, 1) := dk_172 (dk_at dksX20_equal_4 17 rfl rfl)
abbrev cX20_areEqual : ByteArray := prog_29_method_34_code
def yX20_areEqual : MethodName := ⟨RX20, "areEqual", "(IJJ)Z"⟩
def dkwX20_areEqual_7 : List UInt8 := [167, 0, 4, 3, 54, 8, 132, 9, 1, 167, 255, 200, 21, 8, 172]
abbrev dktX20_areEqual_7 : List UInt8 := dkwX20_areEqual_7 ++ []
def dkwX20_areEqual_6 : List UInt8 := [21, 6, 104, 21, 9, 96, 46, 42, 180, 0, 30, 16, 40, 21, 7, 104, 21, 9, 96, 46, 160, 0, 7, 4]
abbrev dktX20_areEqual_6 : List UInt8 := dkwX20_areEqual_6 ++ dktX20_areEqual_7
def dkwX20_areEqual_5 : List UInt8 := [21, 9, 42, 180, 0, 26, 21, 6, 46, 162, 0, 50, 21, 8, 153, 0, 45, 42, 180, 0, 30, 16, 40]
abbrev dktX20_areEqual_5 : List UInt8 := dkwX20_areEqual_5 ++ dktX20_areEqual_6
def dkwX20_areEqual_4 : List UInt8 := [21, 6, 46, 42, 180, 0, 26, 21, 7, 46, 160, 0, 7, 4, 167, 0, 4, 3, 54, 8, 3, 54, 9]
abbrev dktX20_areEqual_4 : List UInt8 := dkwX20_areEqual_4 ++ dktX20_areEqual_5
def dkwX20_areEqual_3 : List UInt8 := [148, 154, 0, 7, 4, 167, 0, 4, 3, 172, 32, 136, 54, 6, 22, 4, 136, 54, 7, 42, 180, 0, 26]
abbrev dktX20_areEqual_3 : List UInt8 := dkwX20_areEqual_3 ++ dktX20_areEqual_4
def dkwX20_areEqual_2 : List UInt8 := [3, 172, 27, 16, 10, 160, 0, 16, 32, 9, 148, 155, 0, 10, 22, 4, 9, 148, 156, 0, 16, 32, 22, 4]
abbrev dktX20_areEqual_2 : List UInt8 := dkwX20_areEqual_2 ++ dktX20_areEqual_3
def dkwX20_areEqual_1 : List UInt8 := [172, 27, 16, 7, 160, 0, 22, 32, 184, 0, 148, 22, 4, 184, 0, 148, 151, 154, 0, 7, 4, 167, 0, 4]
abbrev dktX20_areEqual_1 : List UInt8 := dkwX20_areEqual_1 ++ dktX20_areEqual_2
def dkwX20_areEqual_0 : List UInt8 := [27, 16, 6, 160, 0, 22, 32, 184, 0, 140, 22, 4, 184, 0, 140, 149, 154, 0, 7, 4, 167, 0, 4, 3]
abbrev dktX20_areEqual_0 : List UInt8 := dkwX20_areEqual_0 ++ dktX20_areEqual_1
theorem dksX20_areEqual_0 : cX20_areEqual.data.toList.drop 0 = dktX20_areEqual_0 := by decide +kernel
theorem dksX20_areEqual_1 : cX20_areEqual.data.toList.drop 24 = dktX20_areEqual_1 := dk_seg dksX20_areEqual_0 24 rfl rfl
theorem dksX20_areEqual_2 : cX20_areEqual.data.toList.drop 48 = dktX20_areEqual_2 := dk_seg dksX20_areEqual_1 24 rfl rfl
theorem dksX20_areEqual_3 : cX20_areEqual.data.toList.drop 72 = dktX20_areEqual_3 := dk_seg dksX20_areEqual_2 24 rfl rfl
theorem dksX20_areEqual_4 : cX20_areEqual.data.toList.drop 95 = dktX20_areEqual_4 := dk_seg dksX20_areEqual_3 23 rfl rfl
theorem dksX20_areEqual_5 : cX20_areEqual.data.toList.drop 118 = dktX20_areEqual_5 := dk_seg dksX20_areEqual_4 23 rfl rfl
theorem dksX20_areEqual_6 : cX20_areEqual.data.toList.drop 141 = dktX20_areEqual_6 := dk_seg dksX20_areEqual_5 23 rfl rfl
theorem dksX20_areEqual_7 : cX20_areEqual.data.toList.drop 165 = dktX20_areEqual_7 := dk_seg dksX20_areEqual_6 24 rfl rfl
theorem dX20_areEqual_0 : decode cX20_areEqual 0 = .ok (.iload_n 1, 1) := dk_27 (dk_at dksX20_areEqual_0 0 rfl rfl)
theorem dX20_areEqual_1 : decode cX20_areEqual 1 = .ok (.bipush 6, 2) := dk_16 6 (dk_at dksX20_areEqual_0 1 rfl rfl)
theorem dX20_areEqual_3 : decode cX20_areEqual 3 = .ok (.if_icmp .ne 22, 3) := dk_160 0 22 (dk_at dksX20_areEqual_0 3 rfl rfl)
theorem dX20_areEqual_6 : decode cX20_areEqual 6 = .ok (.lload_n 2, 1) := dk_32 (dk_at dksX20_areEqual_0 6 rfl rfl)
theorem dX20_areEqual_7 : decode cX20_areEqual 7 = .ok (.invokestatic 140, 3) := dk_184 0 140 (dk_at dksX20_areEqual_0 7 rfl rfl)
theorem dX20_areEqual_10 : decode cX20_areEqual 10 = .ok (.lload 4, 2) := dk_22 4 (dk_at dksX20_areEqual_0 10 rfl rfl)
theorem dX20_areEqual_12 : decode cX20_areEqual 12 = .ok (.invokestatic 140, 3) := dk_184 0 140 (dk_at dksX20_areEqual_0 12 rfl rfl)
theorem dX20_areEqual_15 : decode cX20_areEqual 15 = .ok (.fcmp .l, 1) := dk_149 (dk_at dksX20_areEqual_0 15 rfl rfl)
theorem dX20_areEqual_16 : decode cX20_areEqual 16 = .ok (.ifCond .ne 7, 3) := dk_154 0 7 (dk_at dksX20_areEqual_0 16 rfl rfl)
theorem dX20_areEqual_19 : decode cX20_areEqual 19 = .ok (.iconst 1, 1) := dk_4 (dk_at dksX20_areEqual_0 19 rfl rfl)
theorem dX20_areEqual_20 : decode cX20_areEqual 20 = .ok (.goto 4, 3) := dk_167 0 4 (dk_at dksX20_areEqual_0 20 rfl rfl)
theorem dX20_areEqual_23 : decode cX20_areEqual 23 = .ok (.iconst 0, 1) := dk_3 (dk_at dksX20_areEqual_0 23 rfl rfl)
theorem dX20_areEqual_24 : decode cX20_areEqual 24 = .ok (.ireturn, 1) := dk_172 (dk_at dksX20_areEqual_1 0 rfl rfl)
theorem dX20_areEqual_25 : decode cX20_areEqual 25 = .ok (.iload_n 1, 1) := dk_27 (dk_at dksX20_areEqual_1 1 rfl rfl)
theorem dX20_areEqual_26 : decode cX20_areEqual 26 = .ok (.bipush 7, 2) := dk_16 7 (dk_at dksX20_areEqual_1 2 rfl rfl)
theorem dX20_areEqual_28 : decode cX20_areEqual 28 = .ok (.if_icmp .ne 22, 3) := dk_160 0 22 (dk_at dksX20_areEqual_1 4 rfl rfl)
theorem dX20_areEqual_31 : decode cX20_areEqual 31 = .ok (.lload_n 2, 1) := dk_32 (dk_at dksX20_areEqual_1 7 rfl rfl)
theorem dX20_areEqual_32 : decode cX20_areEqual 32 = .ok (.invokestatic 148, 3) := dk_184 0 148 (dk_at dksX20_areEqual_1 8 rfl rfl)
theorem dX20_areEqual_35 : decode cX20_areEqual 35 = .ok (.lload 4, 2) := dk_22 4 (dk_at dksX20_areEqual_1 11 rfl rfl)
theorem dX20_areEqual_37 : decode cX20_areEqual 37 = .ok (.invokestatic 148, 3) := dk_184 0 148 (dk_at dksX20_areEqual_1 13 rfl rfl)
theorem dX20_areEqual_40 : decode cX20_areEqual 40 = .ok (.dcmp .l, 1) := dk_151 (dk_at dksX20_areEqual_1 16 rfl rfl)
theorem dX20_areEqual_41 : decode cX20_areEqual 41 = .ok (.ifCond .ne 7, 3) := dk_154 0 7 (dk_at dksX20_areEqual_1 17 rfl rfl)
theorem dX20_areEqual_44 : decode cX20_areEqual 44 = .ok (.iconst 1, 1) := dk_4 (dk_at dksX20_areEqual_1 20 rfl rfl)
theorem dX20_areEqual_45 : decode cX20_areEqual 45 = .ok (.goto 4, 3) := dk_167 0 4 (dk_at dksX20_areEqual_1 21 rfl rfl)
theorem dX20_areEqual_48 : decode cX20_areEqual 48 = .ok (.iconst 0, 1) := dk_3 (dk_at dksX20_areEqual_2 0 rfl rfl)
theorem dX20_areEqual_49 : decode cX20_areEqual 49 = .ok (.ireturn, 1) := dk_172 (dk_at dksX20_areEqual_2 1 rfl rfl)
theorem dX20_areEqual_50 : decode cX20_areEqual 50 = .ok (.iload_n 1, 1) := dk_27 (dk_at dksX20_areEqual_2 2 rfl rfl)
theorem dX20_areEqual_51 : decode cX20_areEqual 51 = .ok (.bipush 10, 2) := dk_16 10 (dk_at dksX20_areEqual_2 3 rfl rfl)
theorem dX20_areEqual_53 : decode cX20_areEqual 53 = .ok (.if_icmp .ne 16, 3) := dk_160 0 16 (dk_at dksX20_areEqual_2 5 rfl rfl)
theorem dX20_areEqual_56 : decode cX20_areEqual 56 = .ok (.lload_n 2, 1) := dk_32 (dk_at dksX20_areEqual_2 8 rfl rfl)
theorem dX20_areEqual_57 : decode cX20_areEqual 57 = .ok (.lconst 0, 1) := dk_9 (dk_at dksX20_areEqual_2 9 rfl rfl)
theorem dX20_areEqual_58 : decode cX20_areEqual 58 = .ok (.lcmp, 1) := dk_148 (dk_at dksX20_areEqual_2 10 rfl rfl)
theorem dX20_areEqual_59 : decode cX20_areEqual 59 = .ok (.ifCond .lt 10, 3) := dk_155 0 10 (dk_at dksX20_areEqual_2 11 rfl rfl)
theorem dX20_areEqual_62 : decode cX20_areEqual 62 = .ok (.lload 4, 2) := dk_22 4 (dk_at dksX20_areEqual_2 14 rfl rfl)
theorem dX20_areEqual_64 : decode cX20_areEqual 64 = .ok (.lconst 0, 1) := dk_9 (dk_at dksX20_areEqual_2 16 rfl rfl)
theorem dX20_areEqual_65 : decode cX20_areEqual 65 = .ok (.lcmp, 1) := dk_148 (dk_at dksX20_areEqual_2 17 rfl rfl)
theorem dX20_areEqual_66 : decode cX20_areEqual 66 = .ok (.ifCond .ge 16, 3) := dk_156 0 16 (dk_at dksX20_areEqual_2 18 rfl rfl)
theorem dX20_areEqual_69 : decode cX20_areEqual 69 = .ok (.lload_n 2, 1) := dk_32 (dk_at dksX20_areEqual_2 21 rfl rfl)
theorem dX20_areEqual_70 : decode cX20_areEqual 70 = .ok (.lload 4, 2) := dk_22 4 (dk_at dksX20_areEqual_2 22 rfl rfl)
theorem dX20_areEqual_72 : decode cX20_areEqual 72 = .ok (.lcmp, 1) := dk_148 (dk_at dksX20_areEqual_3 0 rfl rfl)
theorem dX20_areEqual_73 : decode cX20_areEqual 73 = .ok (.ifCond .ne 7, 3) := dk_154 0 7 (dk_at dksX20_areEqual_3 1 rfl rfl)
theorem dX20_areEqual_76 : decode cX20_areEqual 76 = .ok (.iconst 1, 1) := dk_4 (dk_at dksX20_areEqual_3 4 rfl rfl)
theorem dX20_areEqual_77 : decode cX20_areEqual 77 = .ok (.goto 4, 3) := dk_167 0 4 (dk_at dksX20_areEqual_3 5 rfl rfl)
theorem dX20_areEqual_80 : decode cX20_areEqual 80 = .ok (.iconst 0, 1) := dk_3 (dk_at dksX20_areEqual_3 8 rfl rfl)
theorem dX20_areEqual_81 : decode cX20_areEqual 81 = .ok (.ireturn, 1) := dk_172 (dk_at dksX20_areEqual_3 9 rfl rfl)
theorem dX20_areEqual_82 : decode cX20_areEqual 82 = .ok (.lload_n 2, 1) := dk_32 (dk_at dksX20_areEqual_3 10 rfl rfl)
theorem dX20_areEqual_83 : decode cX20_areEqual 83 = .ok (.l2i, 1) := dk_136 (dk_at dksX20_areEqual_3 11 rfl rfl)
theorem dX20_areEqual_84 : decode cX20_areEqual 84 = .ok (.istore 6, 2) := dk_54 6 (dk_at dksX20_areEqual_3 12 rfl rfl)
theorem dX20_areEqual_86 : decode cX20_areEqual 86 = .ok (.lload 4, 2) := dk_22 4 (dk_at dksX20_areEqual_3 14 rfl rfl)
theorem dX20_areEqual_88 : decode cX20_areEqual 88 = .ok (.l2i, 1) := dk_136 (dk_at dksX20_areEqual_3 16 rfl rfl)
theorem dX20_areEqual_89 : decode cX20_areEqual 89 = .ok (.istore 7, 2) := dk_54 7 (dk_at dksX20_areEqual_3 17 rfl rfl)
theorem dX20_areEqual_91 : decode cX20_areEqual 91 = .ok (.aload_n 0, 1) := dk_42 (dk_at dksX20_areEqual_3 19 rfl rfl)
theorem dX20_areEqual_92 : decode cX20_areEqual 92 = .ok (.getfield 26, 3) := dk_180 0 26 (dk_at dksX20_areEqual_3 20 rfl rfl)
theorem dX20_areEqual_95 : decode cX20_areEqual 95 = .ok (.iload 6, 2) := dk_21 6 (dk_at dksX20_areEqual_4 0 rfl rfl)
theorem dX20_areEqual_97 : decode cX20_areEqual 97 = .ok (.iaload, 1) := dk_46 (dk_at dksX20_areEqual_4 2 rfl rfl)
theorem dX20_areEqual_98 : decode cX20_areEqual 98 = .ok (.aload_n 0, 1) := dk_42 (dk_at dksX20_areEqual_4 3 rfl rfl)
theorem dX20_areEqual_99 : decode cX20_areEqual 99 = .ok (.getfield 26, 3) := dk_180 0 26 (dk_at dksX20_areEqual_4 4 rfl rfl)
theorem dX20_areEqual_102 : decode cX20_areEqual 102 = .ok (.iload 7, 2) := dk_21 7 (dk_at dksX20_areEqual_4 7 rfl rfl)
theorem dX20_areEqual_104 : decode cX20_areEqual 104 = .ok (.iaload, 1) := dk_46 (dk_at dksX20_areEqual_4 9 rfl rfl)
theorem dX20_areEqual_105 : decode cX20_areEqual 105 = .ok (.if_icmp .ne 7, 3) := dk_160 0 7 (dk_at dksX20_areEqual_4 10 rfl rfl)
theorem dX20_areEqual_108 : decode cX20_areEqual 108 = .ok (.iconst 1, 1) := dk_4 (dk_at dksX20_areEqual_4 13 rfl rfl)
theorem dX20_areEqual_109 : decode cX20_areEqual 109 = .ok (.goto 4, 3) := dk_167 0 4 (dk_at dksX20_areEqual_4 14 rfl rfl)
theorem dX20_areEqual_112 : decode cX20_areEqual 112 = .ok (.iconst 0, 1) := dk_3 (dk_at dksX20_areEqual_4 17 rfl rfl)
theorem dX20_areEqual_113 : decode cX20_areEqual 113 = .ok (.istore 8, 2) := dk_54 8 (dk_at dksX20_areEqual_4 18 rfl rfl)
theorem dX20_areEqual_115 : decode cX20_areEqual 115 = .ok (.iconst 0, 1) := dk_3 (dk_at dksX20_areEqual_4 20 rfl rfl)
theorem dX20_areEqual_116 : decode cX20_areEqual 116 = .ok (.istore 9, 2) := dk_54 9 (dk_at dksX20_areEqual_4 21 rfl rfl)
theorem dX20_areEqual_118 : decode cX20_areEqual 118 = .ok (.iload 9, 2) := dk_21 9 (dk_at dksX20_areEqual_5 0 rfl rfl)
theorem dX20_areEqual_120 : decode cX20_areEqual 120 = .ok (.aload_n 0, 1) := dk_42 (dk_at dksX20_areEqual_5 2 rfl rfl)
theorem dX20_areEqual_121 : decode cX20_areEqual 121 = .ok (.getfield 26, 3) := dk_180 0 26 (dk_at dksX20_areEqual_5 3 rfl rfl)
theorem dX20_areEqual_124 : decode cX20_areEqual 124 = .ok (.iload 6, 2) := dk_21 6 (dk_at dksX20_areEqual_5 6 rfl rfl)
theorem dX20_areEqual_126 : decode cX20_areEqual 126 = .ok (.iaload, 1) := dk_46 (dk_at dksX20_areEqual_5 8 rfl rfl)
theorem dX20_areEqual_127 : decode cX20_areEqual 127 = .ok (.if_icmp .ge 50, 3) := dk_162 0 50 (dk_at dksX20_areEqual_5 9 rfl rfl)
theorem dX20_areEqual_130 : decode cX20_areEqual 130 = .ok (.iload 8, 2) := dk_21 8 (dk_at dksX20_areEqual_5 12 rfl rfl)
theorem dX20_areEqual_132 : decode cX20_areEqual 132 = .ok (.ifCond .eq 45, 3) := dk_153 0 45 (dk_at dksX20_areEqual_5 14 rfl rfl)
theorem dX20_areEqual_135 : decode cX20_areEqual 135 = .ok (.aload_n 0, 1) := dk_42 (dk_at dksX20_areEqual_5 17 rfl rfl)
theorem dX20_areEqual_136 : decode cX20_areEqual 136 = .ok (.getfield 30, 3) := dk_180 0 30 (dk_at dksX20_areEqual_5 18 rfl rfl)
theorem dX20_areEqual_139 : decode cX20_areEqual 139 = .ok (.bipush 40, 2) := dk_16 40 (dk_at dksX20_areEqual_5 21 rfl rfl)
theorem dX20_areEqual_141 : decode cX20_areEqual 141 = .ok (.iload 6, 2) := dk_21 6 (dk_at dksX20_areEqual_6 0 rfl rfl)
theorem dX20_areEqual_143 : decode cX20_areEqual 143 = .ok (.imul, 1) := dk_104 (dk_at dksX20_areEqual_6 2 rfl rfl)
theorem dX20_areEqual_144 : decode cX20_areEqual 144 = .ok (.iload 9, 2) := dk_21 9 (dk_at dksX20_areEqual_6 3 rfl rfl)
theorem dX20_areEqual_146 : decode cX20_areEqual 146 = .ok (.iadd, 1) := dk_96 (dk_at dksX20_areEqual_6 5 rfl rfl)
theorem dX20_areEqual_147 : decode cX20_areEqual 147 = .ok (.iaload, 1) := dk_46 (dk_at dksX20_areEqual_6 6 rfl rfl)
theorem dX20_areEqual_148 : decode cX20_areEqual 148 = .ok (.aload_n 0, 1) := dk_42 (dk_at dksX20_areEqual_6 7 rfl rfl)
theorem dX20_areEqual_149 : decode cX20_areEqual 149 = .ok (.getfield 30, 3) := dk_180 0 30 (dk_at dksX20_areEqual_6 8 rfl rfl)
theorem dX20_areEqual_152 : decode cX20_areEqual 152 = .ok (.bipush 40, 2) := dk_16 40 (dk_at dksX20_areEqual_6 11 rfl rfl)
theorem dX20_areEqual_154 : decode cX20_areEqual 154 = .ok (.iload 7, 2) := dk_21 7 (dk_at dksX20_areEqual_6 13 rfl rfl)
theorem dX20_areEqual_156 : decode cX20_areEqual 156 = .ok (.imul, 1) := dk_104 (dk_at dksX20_areEqual_6 15 rfl rfl)
theorem dX20_areEqual_157 : decode cX20_areEqual 157 = .ok (.iload 9, 2) := dk_21 9 (dk_at dksX20_areEqual_6 16 rfl rfl)
theorem dX20_areEqual_159 : decode cX20_areEqual 159 = .ok (.iadd, 1) := dk_96 (dk_at dksX20_areEqual_6 18 rfl rfl)
theorem dX20_areEqual_160 : decode cX20_areEqual 160 = .ok (.iaload, 1) := dk_46 (dk_at dksX20_areEqual_6 19 rfl rfl)
theorem dX20_areEqual_161 : decode cX20_areEqual 161 = .ok (.if_icmp .ne 7, 3) := dk_160 0 7 (dk_at dksX20_areEqual_6 20 rfl rfl)
theorem dX20_areEqual_164 : decode cX20_areEqual 164 = .ok (.iconst 1, 1) := dk_4 (dk_at dksX20_areEqual_6 23 rfl rfl)
theorem dX20_areEqual_165 : decode cX20_areEqual 165 = .ok (.goto 4, 3) := dk_167 0 4 (dk_at dksX20_areEqual_7 0 rfl rfl)
theorem dX20_areEqual_168 : decode cX20_areEqual 168 = .ok (.iconst 0, 1) := dk_3 (dk_at dksX20_areEqual_7 3 rfl rfl)
theorem dX20_areEqual_169 : decode cX20_areEqual 169 = .ok (.istore 8, 2) := dk_54 8 (dk_at dksX20_areEqual_7 4 rfl rfl)
theorem dX20_areEqual_171 : decode cX20_areEqual 171 = .ok (.iinc 9 1, 3) := dk_132 9 1 (dk_at dksX20_areEqual_7 6 rfl rfl)
theorem dX20_areEqual_174 : decode cX20_areEqual 174 = .ok (.goto (-56), 3) := dk_167 255 200 (dk_at dksX20_areEqual_7 9 rfl rfl)
theorem dX20_areEqual_177 : decode cX20_areEqual 177 = .ok (.iload 8, 2) := dk_21 8 (dk_at dksX20_areEqual_7 12 rfl rfl)
theorem dX20_areEqual_179 : decode cX20_areEqual 179 = .ok (.ireturn, 1) := dk_172 (dk_at dksX20_areEqual_7 14 rfl rfl)
abbrev cX20_orderRows : ByteArray := prog_29_method_39_code
def yX20_orderRows : MethodName := ⟨RX20, "orderRows", "(II)I"⟩
def dkwX20_orderRows_7 : List UInt8 := [180, 0, 13, 28, 46, 164, 0, 7, 10, 167, 0, 4, 9, 181, 0, 218, 3, 172]
abbrev dktX20_orderRows_7 : List UInt8 := dkwX20_orderRows_7 ++ []
def dkwX20_orderRows_6 : List UInt8 := [27, 46, 42, 180, 0, 13, 28, 46, 162, 0, 9, 20, 0, 133, 167, 0, 23, 42, 180, 0, 13, 27, 46, 42]
abbrev dktX20_orderRows_6 : List UInt8 := dkwX20_orderRows_6 ++ dktX20_orderRows_7
def dkwX20_orderRows_5 : List UInt8 := [54, 4, 132, 5, 1, 167, 255, 207, 42, 21, 4, 153, 0, 9, 21, 4, 133, 167, 0, 44, 42, 180, 0, 13]
abbrev dktX20_orderRows_5 : List UInt8 := dkwX20_orderRows_5 ++ dktX20_orderRows_6
def dkwX20_orderRows_4 : List UInt8 := [16, 40, 27, 104, 21, 5, 96, 47, 42, 180, 0, 16, 16, 40, 28, 104, 21, 5, 96, 47, 184, 0, 228]
abbrev dktX20_orderRows_4 : List UInt8 := dkwX20_orderRows_4 ++ dktX20_orderRows_5
def dkwX20_orderRows_3 : List UInt8 := [54, 5, 21, 5, 29, 162, 0, 49, 21, 4, 154, 0, 44, 42, 180, 0, 7, 27, 46, 42, 180, 0, 16]
abbrev dktX20_orderRows_3 : List UInt8 := dkwX20_orderRows_3 ++ dktX20_orderRows_4
def dkwX20_orderRows_2 : List UInt8 := [162, 0, 12, 42, 180, 0, 13, 27, 46, 167, 0, 9, 42, 180, 0, 13, 28, 46, 62, 3, 54, 4, 3]
abbrev dktX20_orderRows_2 : List UInt8 := dkwX20_orderRows_2 ++ dktX20_orderRows_3
def dkwX20_orderRows_1 : List UInt8 := [180, 0, 7, 28, 46, 159, 0, 5, 7, 172, 42, 180, 0, 13, 27, 46, 42, 180, 0, 13, 28, 46]
abbrev dktX20_orderRows_1 : List UInt8 := dkwX20_orderRows_1 ++ dktX20_orderRows_2
def dkwX20_orderRows_0 : List UInt8 := [42, 180, 0, 7, 27, 46, 133, 10, 20, 0, 226, 184, 0, 123, 153, 0, 18, 42, 180, 0, 7, 27, 46, 42]
abbrev dktX20_orderRows_0 : List UInt8 := dkwX20_orderRows_0 ++ dktX20_orderRows_1
theorem dksX20_orderRows_0 : cX20_orderRows.data.toList.drop 0 = dktX20_orderRows_0 := by decide +kernel
theorem dksX20_orderRows_1 : cX20_orderRows.data.toList.drop 24 = dktX20_orderRows_1 := dk_seg dksX20_orderRows_0 24 rfl rfl
theorem dksX20_orderRows_2 : cX20_orderRows.data.toList.drop 46 = dktX20_orderRows_2 := dk_seg dksX20_orderRows_1 22 rfl rfl
theorem dksX20_orderRows_3 : cX20_orderRows.data.toList.drop 69 = dktX20_orderRows_3 := dk_seg dksX20_orderRows_2 23 rfl rfl
theorem dksX20_orderRows_4 : cX20_orderRows.data.toList.drop 92 = dktX20_orderRows_4 := dk_seg dksX20_orderRows_3 23 rfl rfl
theorem dksX20_orderRows_5 : cX20_orderRows.data.toList.drop 115 = dktX20_orderRows_5 := dk_seg dksX20_orderRows_4 23 rfl rfl
theorem dksX20_orderRows_6 : cX20_orderRows.data.toList.drop 139 = dktX20_orderRows_6 := dk_seg dksX20_orderRows_5 24 rfl rfl
theorem dksX20_orderRows_7 : cX20_orderRows.data.toList.drop 163 = dktX20_orderRows_7 := dk_seg dksX20_orderRows_6 24 rfl rfl
theorem dX20_orderRows_0 : decode cX20_orderRows 0 = .ok (.aload_n 0, 1) := dk_42 (dk_at dksX20_orderRows_0 0 rfl rfl)
theorem dX20_orderRows_1 : decode cX20_orderRows 1 = .ok (.getfield 7, 3) := dk_180 0 7 (dk_at dksX20_orderRows_0 1 rfl rfl)
theorem dX20_orderRows_4 : decode cX20_orderRows 4 = .ok (.iload_n 1, 1) := dk_27 (dk_at dksX20_orderRows_0 4 rfl rfl)
theorem dX20_orderRows_5 : decode cX20_orderRows 5 = .ok (.iaload, 1) := dk_46 (dk_at dksX20_orderRows_0 5 rfl rfl)
theorem dX20_orderRows_6 : decode cX20_orderRows 6 = .ok (.i2l, 1) := dk_133 (dk_at dksX20_orderRows_0 6 rfl rfl)
theorem dX20_orderRows_7 : decode cX20_orderRows 7 = .ok (.lconst 1, 1) := dk_10 (dk_at dksX20_orderRows_0 7 rfl rfl)
theorem dX20_orderRows_8 : decode cX20_orderRows 8 = .ok (.ldc2_w 226, 3) := dk_20 0 226 (dk_at dksX20_orderRows_0 8 rfl rfl)
theorem dX20_orderRows_11 : decode cX20_orderRows 11 = .ok (.invokestatic 123, 3) := dk_184 0 123 (dk_at dksX20_orderRows_0 11 rfl rfl)
theorem dX20_orderRows_14 : decode cX20_orderRows 14 = .ok (.ifCond .eq 18, 3) := dk_153 0 18 (dk_at dksX20_orderRows_0 14 rfl rfl)
theorem dX20_orderRows_17 : decode cX20_orderRows 17 = .ok (.aload_n 0, 1) := dk_42 (dk_at dksX20_orderRows_0 17 rfl rfl)
theorem dX20_orderRows_18 : decode cX20_orderRows 18 = .ok (.getfield 7, 3) := dk_180 0 7 (dk_at dksX20_orderRows_0 18 rfl rfl)
theorem dX20_orderRows_21 : decode cX20_orderRows 21 = .ok (.iload_n 1, 1) := dk_27 (dk_at dksX20_orderRows_0 21 rfl rfl)
theorem dX20_orderRows_22 : decode cX20_orderRows 22 = .ok (.iaload, 1) := dk_46 (dk_at dksX20_orderRows_0 22 rfl rfl)
theorem dX20_orderRows_23 : decode cX20_orderRows 23 = .ok (.aload_n 0, 1) := dk_42 (dk_at dksX20_orderRows_0 23 rfl rfl)
theorem dX20_orderRows_24 : decode cX20_orderRows 24 = .ok (.getfield 7, 3) := dk_180 0 7 (dk_at dksX20_orderRows_1 0 rfl rfl)
theorem dX20_orderRows_27 : decode cX20_orderRows 27 = .ok (.iload_n 2, 1) := dk_28 (dk_at dksX20_orderRows_1 3 rfl rfl)
theorem dX20_orderRows_28 : decode cX20_orderRows 28 = .ok (.iaload, 1) := dk_46 (dk_at dksX20_orderRows_1 4 rfl rfl)
theorem dX20_orderRows_29 : decode cX20_orderRows 29 = .ok (.if_icmp .eq 5, 3) := dk_159 0 5 (dk_at dksX20_orderRows_1 5 rfl rfl)
theorem dX20_orderRows_32 : decode cX20_orderRows 32 = .ok (.iconst 4, 1) := dk_7 (dk_at dksX20_orderRows_1 8 rfl rfl)
theorem dX20_orderRows_33 : decode cX20_orderRows 33 = .ok (.ireturn, 1) := dk_172 (dk_at dksX20_orderRows_1 9 rfl rfl)
theorem dX20_orderRows_34 : decode cX20_orderRows 34 = .ok (.aload_n 0, 1) := dk_42 (dk_at dksX20_orderRows_1 10 rfl rfl)
theorem dX20_orderRows_35 : decode cX20_orderRows 35 = .ok (.getfield 13, 3) := dk_180 0 13 (dk_at dksX20_orderRows_1 11 rfl rfl)
theorem dX20_orderRows_38 : decode cX20_orderRows 38 = .ok (.iload_n 1, 1) := dk_27 (dk_at dksX20_orderRows_1 14 rfl rfl)
theorem dX20_orderRows_39 : decode cX20_orderRows 39 = .ok (.iaload, 1) := dk_46 (dk_at dksX20_orderRows_1 15 rfl rfl)
theorem dX20_orderRows_40 : decode cX20_orderRows 40 = .ok (.aload_n 0, 1) := dk_42 (dk_at dksX20_orderRows_1 16 rfl rfl)
theorem dX20_orderRows_41 : decode cX20_orderRows 41 = .ok (.getfield 13, 3) := dk_180 0 13 (dk_at dksX20_orderRows_1 17 rfl rfl)
theorem dX20_orderRows_44 : decode cX20_orderRows 44 = .ok (.iload_n 2, 1) := dk_28 (dk_at dksX20_orderRows_1 20 rfl rfl)
theorem dX20_orderRows_45 : decode cX20_orderRows 45 = .ok (.iaload, 1) := dk_46 (dk_at dksX20_orderRows_1 21 rfl rfl)
theorem dX20_orderRows_46 : decode cX20_orderRows 46 = .ok (.if_icmp .ge 12, 3) := dk_162 0 12 (dk_at dksX20_orderRows_2 0 rfl rfl)
theorem dX20_orderRows_49 : decode cX20_orderRows 49 = .ok (.aload_n 0, 1) := dk_42 (dk_at dksX20_orderRows_2 3 rfl rfl)
theorem dX20_orderRows_50 : decode cX20_orderRows 50 = .ok (.getfield 13, 3) := dk_180 0 13 (dk_at dksX20_orderRows_2 4 rfl rfl)
theorem dX20_orderRows_53 : decode cX20_orderRows 53 = .ok (.iload_n 1, 1) := dk_27 (dk_at dksX20_orderRows_2 7 rfl rfl)
theorem dX20_orderRows_54 : decode cX20_orderRows 54 = .ok (.iaload, 1) := dk_46 (dk_at dksX20_orderRows_2 8 rfl rfl)
theorem dX20_orderRows_55 : decode cX20_orderRows 55 = .ok (.goto 9, 3) := dk_167 0 9 (dk_at dksX20_orderRows_2 9 rfl rfl)
theorem dX20_orderRows_58 : decode cX20_orderRows 58 = .ok (.aload_n 0, 1) := dk_42 (dk_at dksX20_orderRows_2 12 rfl rfl)
theorem dX20_orderRows_59 : decode cX20_orderRows 59 = .ok (.getfield 13, 3) := dk_180 0 13 (dk_at dksX20_orderRows_2 13 rfl rfl)
theorem dX20_orderRows_62 : decode cX20_orderRows 62 = .ok (.iload_n 2, 1) := dk_28 (dk_at dksX20_orderRows_2 16 rfl rfl)
theorem dX20_orderRows_63 : decode cX20_orderRows 63 = .ok (.iaload, 1) := dk_46 (dk_at dksX20_orderRows_2 17 rfl rfl)
theorem dX20_orderRows_64 : decode cX20_orderRows 64 = .ok (.istore_n 3, 1) := dk_62 (dk_at dksX20_orderRows_2 18 rfl rfl)
theorem dX20_orderRows_65 : decode cX20_orderRows 65 = .ok (.iconst 0, 1) := dk_3 (dk_at dksX20_orderRows_2 19 rfl rfl)
theorem dX20_orderRows_66 : decode cX20_orderRows 66 = .ok (.istore 4, 2) := dk_54 4 (dk_at dksX20_orderRows_2 20 rfl rfl)
theorem dX20_orderRows_68 : decode cX20_orderRows 68 = .ok (.iconst 0, 1) := dk_3 (dk_at dksX20_orderRows_2 22 rfl rfl)
theorem dX20_orderRows_69 : decode cX20_orderRows 69 = .ok (.istore 5, 2) := dk_54 5 (dk_at dksX20_orderRows_3 0 rfl rfl)
theorem dX20_orderRows_71 : decode cX20_orderRows 71 = .ok (.iload 5, 2) := dk_21 5 (dk_at dksX20_orderRows_3 2 rfl rfl)
theorem dX20_orderRows_73 : decode cX20_orderRows 73 = .ok (.iload_n 3, 1) := dk_29 (dk_at dksX20_orderRows_3 4 rfl rfl)
theorem dX20_orderRows_74 : decode cX20_orderRows 74 = .ok (.if_icmp .ge 49, 3) := dk_162 0 49 (dk_at dksX20_orderRows_3 5 rfl rfl)
theorem dX20_orderRows_77 : decode cX20_orderRows 77 = .ok (.iload 4, 2) := dk_21 4 (dk_at dksX20_orderRows_3 8 rfl rfl)
theorem dX20_orderRows_79 : decode cX20_orderRows 79 = .ok (.ifCond .ne 44, 3) := dk_154 0 44 (dk_at dksX20_orderRows_3 10 rfl rfl)
theorem dX20_orderRows_82 : decode cX20_orderRows 82 = .ok (.aload_n 0, 1) := dk_42 (dk_at dksX20_orderRows_3 13 rfl rfl)
theorem dX20_orderRows_83 : decode cX20_orderRows 83 = .ok (.getfield 7, 3) := dk_180 0 7 (dk_at dksX20_orderRows_3 14 rfl rfl)
theorem dX20_orderRows_86 : decode cX20_orderRows 86 = .ok (.iload_n 1, 1) := dk_27 (dk_at dksX20_orderRows_3 17 rfl rfl)
theorem dX20_orderRows_87 : decode cX20_orderRows 87 = .ok (.iaload, 1) := dk_46 (dk_at dksX20_orderRows_3 18 rfl rfl)
theorem dX20_orderRows_88 : decode cX20_orderRows 88 = .ok (.aload_n 0, 1) := dk_42 (dk_at dksX20_orderRows_3 19 rfl rfl)
theorem dX20_orderRows_89 : decode cX20_orderRows 89 = .ok (.getfield 16, 3) := dk_180 0 16 (dk_at dksX20_orderRows_3 20 rfl rfl)
theorem dX20_orderRows_92 : decode cX20_orderRows 92 = .ok (.bipush 40, 2) := dk_16 40 (dk_at dksX20_orderRows_4 0 rfl rfl)
theorem dX20_orderRows_94 : decode cX20_orderRows 94 = .ok (.iload_n 1, 1) := dk_27 (dk_at dksX20_orderRows_4 2 rfl rfl)
theorem dX20_orderRows_95 : decode cX20_orderRows 95 = .ok (.imul, 1) := dk_104 (dk_at dksX20_orderRows_4 3 rfl rfl)
theorem dX20_orderRows_96 : decode cX20_orderRows 96 = .ok (.iload 5, 2) := dk_21 5 (dk_at dksX20_orderRows_4 4 rfl rfl)
theorem dX20_orderRows_98 : decode cX20_orderRows 98 = .ok (.iadd, 1) := dk_96 (dk_at dksX20_orderRows_4 6 rfl rfl)
theorem dX20_orderRows_99 : decode cX20_orderRows 99 = .ok (.laload, 1) := dk_47 (dk_at dksX20_orderRows_4 7 rfl rfl)
theorem dX20_orderRows_100 : decode cX20_orderRows 100 = .ok (.aload_n 0, 1) := dk_42 (dk_at dksX20_orderRows_4 8 rfl rfl)
theorem dX20_orderRows_101 : decode cX20_orderRows 101 = .ok (.getfield 16, 3) := dk_180 0 16 (dk_at dksX20_orderRows_4 9 rfl rfl)
theorem dX20_orderRows_104 : decode cX20_orderRows 104 = .ok (.bipush 40, 2) := dk_16 40 (dk_at dksX20_orderRows_4 12 rfl rfl)
theorem dX20_orderRows_106 : decode cX20_orderRows 106 = .ok (.iload_n 2, 1) := dk_28 (dk_at dksX20_orderRows_4 14 rfl rfl)
theorem dX20_orderRows_107 : decode cX20_orderRows 107 = .ok (.imul, 1) := dk_104 (dk_at dksX20_orderRows_4 15 rfl rfl)
theorem dX20_orderRows_108 : decode cX20_orderRows 108 = .ok (.iload 5, 2) := dk_21 5 (dk_at dksX20_orderRows_4 16 rfl rfl)
theorem dX20_orderRows_110 : decode cX20_orderRows 110 = .ok (.iadd, 1) := dk_96 (dk_at dksX20_orderRows_4 18 rfl rfl)
theorem dX20_orderRows_111 : decode cX20_orderRows 111 = .ok (.laload, 1) := dk_47 (dk_at dksX20_orderRows_4 19 rfl rfl)
theorem dX20_orderRows_112 : decode cX20_orderRows 112 = .ok (.invokestatic 228, 3) := dk_184 0 228 (dk_at dksX20_orderRows_4 20 rfl rfl)
theorem dX20_orderRows_115 : decode cX20_orderRows 115 = .ok (.istore 4, 2) := dk_54 4 (dk_at dksX20_orderRows_5 0 rfl rfl)
theorem dX20_orderRows_117 : decode cX20_orderRows 117 = .ok (.iinc 5 1, 3) := dk_132 5 1 (dk_at dksX20_orderRows_5 2 rfl rfl)
theorem dX20_orderRows_120 : decode cX20_orderRows 120 = .ok (.goto (-49), 3) := dk_167 255 207 (dk_at dksX20_orderRows_5 5 rfl rfl)
theorem dX20_orderRows_123 : decode cX20_orderRows 123 = .ok (.aload_n 0, 1) := dk_42 (dk_at dksX20_orderRows_5 8 rfl rfl)
theorem dX20_orderRows_124 : decode cX20_orderRows 124 = .ok (.iload 4, 2) := dk_21 4 (dk_at dksX20_orderRows_5 9 rfl rfl)
theorem dX20_orderRows_126 : decode cX20_orderRows 126 = .ok (.ifCond .eq 9, 3) := dk_153 0 9 (dk_at dksX20_orderRows_5 11 rfl rfl)
theorem dX20_orderRows_129 : decode cX20_orderRows 129 = .ok (.iload 4, 2) := dk_21 4 (dk_at dksX20_orderRows_5 14 rfl rfl)
theorem dX20_orderRows_131 : decode cX20_orderRows 131 = .ok (.i2l, 1) := dk_133 (dk_at dksX20_orderRows_5 16 rfl rfl)
theorem dX20_orderRows_132 : decode cX20_orderRows 132 = .ok (.goto 44, 3) := dk_167 0 44 (dk_at dksX20_orderRows_5 17 rfl rfl)
theorem dX20_orderRows_135 : decode cX20_orderRows 135 = .ok (.aload_n 0, 1) := dk_42 (dk_at dksX20_orderRows_5 20 rfl rfl)
theorem dX20_orderRows_136 : decode cX20_orderRows 136 = .ok (.getfield 13, 3) := dk_180 0 13 (dk_at dksX20_orderRows_5 21 rfl rfl)
theorem dX20_orderRows_139 : decode cX20_orderRows 139 = .ok (.iload_n 1, 1) := dk_27 (dk_at dksX20_orderRows_6 0 rfl rfl)
theorem dX20_orderRows_140 : decode cX20_orderRows 140 = .ok (.iaload, 1) := dk_46 (dk_at dksX20_orderRows_6 1 rfl rfl)
theorem dX20_orderRows_141 : decode cX20_orderRows 141 = .ok (.aload_n 0, 1) := dk_42 (dk_at dksX20_orderRows_6 2 rfl rfl)
theorem dX20_orderRows_142 : decode cX20_orderRows 142 = .ok (.getfield 13, 3) := dk_180 0 13 (dk_at dksX20_orderRows_6 3 rfl rfl)
theorem dX20_orderRows_145 : decode cX20_orderRows 145 = .ok (.iload_n 2, 1) := dk_28 (dk_at dksX20_orderRows_6 6 rfl rfl)
theorem dX20_orderRows_146 : decode cX20_orderRows 146 = .ok (.iaload, 1) := dk_46 (dk_at dksX20_orderRows_6 7 rfl rfl)
theorem dX20_orderRows_147 : decode cX20_orderRows 147 = .ok (.if_icmp .ge 9, 3) := dk_162 0 9 (dk_at dksX20_orderRows_6 8 rfl rfl)
theorem dX20_orderRows_150 : decode cX20_orderRows 150 = .ok (.ldc2_w 133, 3) := dk_20 0 133 (dk_at dksX20_orderRows_6 11 rfl rfl)
theorem dX20_orderRows_153 : decode cX20_orderRows 153 = .ok (.goto 23, 3) := dk_167 0 23 (dk_at dksX20_orderRows_6 14 rfl rfl)
theorem dX20_orderRows_156 : decode cX20_orderRows 156 = .ok (.aload_n 0, 1) := dk_42 (dk_at dksX20_orderRows_6 17 rfl rfl)
theorem dX20_orderRows_157 : decode cX20_orderRows 157 = .ok (.getfield 13, 3) := dk_180 0 13 (dk_at dksX20_orderRows_6 18 rfl rfl)
theorem dX20_orderRows_160 : decode cX20_orderRows 160 = .ok (.iload_n 1, 1) := dk_27 (dk_at dksX20_orderRows_6 21 rfl rfl)
theorem dX20_orderRows_161 : decode cX20_orderRows 161 = .ok (.iaload, 1) := dk_46 (dk_at dksX20_orderRows_6 22 rfl rfl)
theorem dX20_orderRows_162 : decode cX20_orderRows 162 = .ok (.aload_n 0, 1) := dk_42 (dk_at dksX20_orderRows_6 23 rfl rfl)
theorem dX20_orderRows_163 : decode cX20_orderRows 163 = .ok (.getfield 13, 3) := dk_180 0 13 (dk_at dksX20_orderRows_7 0 rfl rfl)
theorem dX20_orderRows_166 : decode cX20_orderRows 166 = .ok (.iload_n 2, 1) := dk_28 (dk_at dksX20_orderRows_7 3 rfl rfl)
theorem dX20_orderRows_167 : decode cX20_orderRows 167 = .ok (.iaload, 1) := dk_46 (dk_at dksX20_orderRows_7 4 rfl rfl)
theorem dX20_orderRows_168 : decode cX20_orderRows 168 = .ok (.if_icmp .le 7, 3) := dk_164 0 7 (dk_at dksX20_orderRows_7 5 rfl rfl)
theorem dX20_orderRows_171 : decode cX20_orderRows 171 = .ok (.lconst 1, 1) := dk_10 (dk_at dksX20_orderRows_7 8 rfl rfl)
theorem dX20_orderRows_172 : decode cX20_orderRows 172 = .ok (.goto 4, 3) := dk_167 0 4 (dk_at dksX20_orderRows_7 9 rfl rfl)
theorem dX20_orderRows_175 : decode cX20_orderRows 175 = .ok (.lconst 0, 1) := dk_9 (dk_at dksX20_orderRows_7 12 rfl rfl)
theorem dX20_orderRows_176 : decode cX20_orderRows 176 = .ok (.putfield 218, 3) := dk_181 0 218 (dk_at dksX20_orderRows_7 13 rfl rfl)
theorem dX20_orderRows_179 : decode cX20_orderRows 179 = .ok (.iconst 0, 1) := dk_3 (dk_at dksX20_orderRows_7 16 rfl rfl)
theorem dX20_orderRows_180 : decode cX20_orderRows 180 = .ok (.ireturn, 1) := dk_172 (dk_at dksX20_orderRows_7 17 rfl rfl)
abbrev cX20_order : ByteArray := prog_29_method_33_code
def yX20_order : MethodName := ⟨RX20, "order", "(IJJ)I"⟩
def dkwX20_order_4 : List UInt8 := [167, 0, 14, 31, 33, 148, 158, 0, 7, 4, 167, 0, 4, 3, 172]
abbrev dktX20_order_4 : List UInt8 := dkwX20_order_4 ++ []
def dkwX20_order_3 : List UInt8 := [167, 0, 16, 24, 5, 24, 7, 151, 158, 0, 7, 4, 167, 0, 4, 3, 172, 31, 33, 148, 156, 0, 7, 2]
abbrev dktX20_order_3 : List UInt8 := dkwX20_order_3 ++ dktX20_order_4
def dkwX20_order_2 : List UInt8 := [160, 0, 41, 31, 184, 0, 148, 57, 5, 33, 184, 0, 148, 57, 7, 24, 5, 24, 7, 152, 156, 0, 7, 2]
abbrev dktX20_order_2 : List UInt8 := dkwX20_order_2 ++ dktX20_order_3
def dkwX20_order_1 : List UInt8 := [156, 0, 7, 2, 167, 0, 16, 23, 5, 23, 6, 149, 158, 0, 7, 4, 167, 0, 4, 3, 172, 26, 16, 7]
abbrev dktX20_order_1 : List UInt8 := dkwX20_order_1 ++ dktX20_order_2
def dkwX20_order_0 : List UInt8 := [26, 16, 6, 160, 0, 41, 31, 184, 0, 140, 56, 5, 33, 184, 0, 140, 56, 6, 23, 5, 23, 6, 150]
abbrev dktX20_order_0 : List UInt8 := dkwX20_order_0 ++ dktX20_order_1
theorem dksX20_order_0 : cX20_order.data.toList.drop 0 = dktX20_order_0 := by decide +kernel
theorem dksX20_order_1 : cX20_order.data.toList.drop 23 = dktX20_order_1 := dk_seg dksX20_order_0 23 rfl rfl
theorem dksX20_order_2 : cX20_order.data.toList.drop 47 = dktX20_order_2 := dk_seg dksX20_order_1 24 rfl rfl
theorem dksX20_order_3 : cX20_order.data.toList.drop 71 = dktX20_order_3 := dk_seg dksX20_order_2 24 rfl rfl
theorem dksX20_order_4 : cX20_order.data.toList.drop 95 = dktX20_order_4 := dk_seg dksX20_order_3 24 rfl rfl
theorem dX20_order_0 : decode cX20_order 0 = .ok (.iload_n 0, 1) := dk_26 (dk_at dksX20_order_0 0 rfl rfl)
theorem dX20_order_1 : decode cX20_order 1 = .ok (.bipush 6, 2) := dk_16 6 (dk_at dksX20_order_0 1 rfl rfl)
theorem dX20_order_3 : decode cX20_order 3 = .ok (.if_icmp .ne 41, 3) := dk_160 0 41 (dk_at dksX20_order_0 3 rfl rfl)
theorem dX20_order_6 : decode cX20_order 6 = .ok (.lload_n 1, 1) := dk_31 (dk_at dksX20_order_0 6 rfl rfl)
theorem dX20_order_7 : decode cX20_order 7 = .ok (.invokestatic 140, 3) := dk_184 0 140 (dk_at dksX20_order_0 7 rfl rfl)
theorem dX20_order_10 : decode cX20_order 10 = .ok (.fstore 5, 2) := dk_56 5 (dk_at dksX20_order_0 10 rfl rfl)
theorem dX20_order_12 : decode cX20_order 12 = .ok (.lload_n 3, 1) := dk_33 (dk_at dksX20_order_0 12 rfl rfl)
theorem dX20_order_13 : decode cX20_order 13 = .ok (.invokestatic 140, 3) := dk_184 0 140 (dk_at dksX20_order_0 13 rfl rfl)
theorem dX20_order_16 : decode cX20_order 16 = .ok (.fstore 6, 2) := dk_56 6 (dk_at dksX20_order_0 16 rfl rfl)
theorem dX20_order_18 : decode cX20_order 18 = .ok (.fload 5, 2) := dk_23 5 (dk_at dksX20_order_0 18 rfl rfl)
theorem dX20_order_20 : decode cX20_order 20 = .ok (.fload 6, 2) := dk_23 6 (dk_at dksX20_order_0 20 rfl rfl)
theorem dX20_order_22 : decode cX20_order 22 = .ok (.fcmp .g, 1) := dk_150 (dk_at dksX20_order_0 22 rfl rfl)
theorem dX20_order_23 : decode cX20_order 23 = .ok (.ifCond .ge 7, 3) := dk_156 0 7 (dk_at dksX20_order_1 0 rfl rfl)
theorem dX20_order_26 : decode cX20_order 26 = .ok (.iconst (-1), 1) := dk_2 (dk_at dksX20_order_1 3 rfl rfl)
theorem dX20_order_27 : decode cX20_order 27 = .ok (.goto 16, 3) := dk_167 0 16 (dk_at dksX20_order_1 4 rfl rfl)
theorem dX20_order_30 : decode cX20_order 30 = .ok (.fload 5, 2) := dk_23 5 (dk_at dksX20_order_1 7 rfl rfl)
theorem dX20_order_32 : decode cX20_order 32 = .ok (.fload 6, 2) := dk_23 6 (dk_at dksX20_order_1 9 rfl rfl)
theorem dX20_order_34 : decode cX20_order 34 = .ok (.fcmp .l, 1) := dk_149 (dk_at dksX20_order_1 11 rfl rfl)
theorem dX20_order_35 : decode cX20_order 35 = .ok (.ifCond .le 7, 3) := dk_158 0 7 (dk_at dksX20_order_1 12 rfl rfl)
theorem dX20_order_38 : decode cX20_order 38 = .ok (.iconst 1, 1) := dk_4 (dk_at dksX20_order_1 15 rfl rfl)
theorem dX20_order_39 : decode cX20_order 39 = .ok (.goto 4, 3) := dk_167 0 4 (dk_at dksX20_order_1 16 rfl rfl)
theorem dX20_order_42 : decode cX20_order 42 = .ok (.iconst 0, 1) := dk_3 (dk_at dksX20_order_1 19 rfl rfl)
theorem dX20_order_43 : decode cX20_order 43 = .ok (.ireturn, 1) := dk_172 (dk_at dksX20_order_1 20 rfl rfl)
theorem dX20_order_44 : decode cX20_order 44 = .ok (.iload_n 0, 1) := dk_26 (dk_at dksX20_order_1 21 rfl rfl)
theorem dX20_order_45 : decode cX20_order 45 = .ok (.bipush 7, 2) := dk_16 7 (dk_at dksX20_order_1 22 rfl rfl)
theorem dX20_order_47 : decode cX20_order 47 = .ok (.if_icmp .ne 41, 3) := dk_160 0 41 (dk_at dksX20_order_2 0 rfl rfl)
theorem dX20_order_50 : decode cX20_order 50 = .ok (.lload_n 1, 1) := dk_31 (dk_at dksX20_order_2 3 rfl rfl)
theorem dX20_order_51 : decode cX20_order 51 = .ok (.invokestatic 148, 3) := dk_184 0 148 (dk_at dksX20_order_2 4 rfl rfl)
theorem dX20_order_54 : decode cX20_order 54 = .ok (.dstore 5, 2) := dk_57 5 (dk_at dksX20_order_2 7 rfl rfl)
theorem dX20_order_56 : decode cX20_order 56 = .ok (.lload_n 3, 1) := dk_33 (dk_at dksX20_order_2 9 rfl rfl)
theorem dX20_order_57 : decode cX20_order 57 = .ok (.invokestatic 148, 3) := dk_184 0 148 (dk_at dksX20_order_2 10 rfl rfl)
theorem dX20_order_60 : decode cX20_order 60 = .ok (.dstore 7, 2) := dk_57 7 (dk_at dksX20_order_2 13 rfl rfl)
theorem dX20_order_62 : decode cX20_order 62 = .ok (.dload 5, 2) := dk_24 5 (dk_at dksX20_order_2 15 rfl rfl)
theorem dX20_order_64 : decode cX20_order 64 = .ok (.dload 7, 2) := dk_24 7 (dk_at dksX20_order_2 17 rfl rfl)
theorem dX20_order_66 : decode cX20_order 66 = .ok (.dcmp .g, 1) := dk_152 (dk_at dksX20_order_2 19 rfl rfl)
theorem dX20_order_67 : decode cX20_order 67 = .ok (.ifCond .ge 7, 3) := dk_156 0 7 (dk_at dksX20_order_2 20 rfl rfl)
theorem dX20_order_70 : decode cX20_order 70 = .ok (.iconst (-1), 1) := dk_2 (dk_at dksX20_order_2 23 rfl rfl)
theorem dX20_order_71 : decode cX20_order 71 = .ok (.goto 16, 3) := dk_167 0 16 (dk_at dksX20_order_3 0 rfl rfl)
theorem dX20_order_74 : decode cX20_order 74 = .ok (.dload 5, 2) := dk_24 5 (dk_at dksX20_order_3 3 rfl rfl)
theorem dX20_order_76 : decode cX20_order 76 = .ok (.dload 7, 2) := dk_24 7 (dk_at dksX20_order_3 5 rfl rfl)
theorem dX20_order_78 : decode cX20_order 78 = .ok (.dcmp .l, 1) := dk_151 (dk_at dksX20_order_3 7 rfl rfl)
theorem dX20_order_79 : decode cX20_order 79 = .ok (.ifCond .le 7, 3) := dk_158 0 7 (dk_at dksX20_order_3 8 rfl rfl)
theorem dX20_order_82 : decode cX20_order 82 = .ok (.iconst 1, 1) := dk_4 (dk_at dksX20_order_3 11 rfl rfl)
theorem dX20_order_83 : decode cX20_order 83 = .ok (.goto 4, 3) := dk_167 0 4 (dk_at dksX20_order_3 12 rfl rfl)
theorem dX20_order_86 : decode cX20_order 86 = .ok (.iconst 0, 1) := dk_3 (dk_at dksX20_order_3 15 rfl rfl)
theorem dX20_order_87 : decode cX20_order 87 = .ok (.ireturn, 1) := dk_172 (dk_at dksX20_order_3 16 rfl rfl)
theorem dX20_order_88 : decode cX20_order 88 = .ok (.lload_n 1, 1) := dk_31 (dk_at dksX20_order_3 17 rfl rfl)
theorem dX20_order_89 : decode cX20_order 89 = .ok (.lload_n 3, 1) := dk_33 (dk_at dksX20_order_3 18 rfl rfl)
theorem dX20_order_90 : decode cX20_order 90 = .ok (.lcmp, 1) := dk_148 (dk_at dksX20_order_3 19 rfl rfl)
theorem dX20_order_91 : decode cX20_order 91 = .ok (.ifCond .ge 7, 3) := dk_156 0 7 (dk_at dksX20_order_3 20 rfl rfl)
theorem dX20_order_94 : decode cX20_order 94 = .ok (.iconst (-1), 1) := dk_2 (dk_at dksX20_order_3 23 rfl rfl)
theorem dX20_order_95 : decode cX20_order 95 = .ok (.goto 14, 3) := dk_167 0 14 (dk_at dksX20_order_4 0 rfl rfl)
theorem dX20_order_98 : decode cX20_order 98 = .ok (.lload_n 1, 1) := dk_31 (dk_at dksX20_order_4 3 rfl rfl)
theorem dX20_order_99 : decode cX20_order 99 = .ok (.lload_n 3, 1) := dk_33 (dk_at dksX20_order_4 4 rfl rfl)
theorem dX20_order_100 : decode cX20_order 100 = .ok (.lcmp, 1) := dk_148 (dk_at dksX20_order_4 5 rfl rfl)
theorem dX20_order_101 : decode cX20_order 101 = .ok (.ifCond .le 7, 3) := dk_158 0 7 (dk_at dksX20_order_4 6 rfl rfl)
theorem dX20_order_104 : decode cX20_order 104 = .ok (.iconst 1, 1) := dk_4 (dk_at dksX20_order_4 9 rfl rfl)
theorem dX20_order_105 : decode cX20_order 105 = .ok (.goto 4, 3) := dk_167 0 4 (dk_at dksX20_order_4 10 rfl rfl)
theorem dX20_order_108 : decode cX20_order 108 = .ok (.iconst 0, 1) := dk_3 (dk_at dksX20_order_4 13 rfl rfl)
theorem dX20_order_109 : decode cX20_order 109 = .ok (.ireturn, 1) := dk_172 (dk_at dksX20_order_4 14 rfl rfl)
abbrev cX20_sum : ByteArray := prog_29_method_44_code
def yX20_sum : MethodName := ⟨RX20, "sum", "(I)I"⟩
def dkwX20_sum_8 : List UInt8 := [28, 16, 7, 160, 0, 11, 24, 5, 184, 0, 151, 167, 0, 4, 33, 181, 0, 218, 3, 172]
abbrev dktX20_sum_8 : List UInt8 := dkwX20_sum_8 ++ []
def dkwX20_sum_7 : List UInt8 := [96, 46, 133, 97, 66, 132, 10, 1, 167, 255, 215, 132, 7, 1, 167, 255, 91, 42, 28, 16, 6, 159, 0, 9]
abbrev dktX20_sum_7 : List UInt8 := dkwX20_sum_7 ++ dktX20_sum_8
def dkwX20_sum_6 : List UInt8 := [42, 180, 0, 26, 22, 8, 136, 46, 162, 0, 27, 33, 42, 180, 0, 30, 16, 40, 22, 8, 136, 104, 21, 10]
abbrev dktX20_sum_6 : List UInt8 := dkwX20_sum_6 ++ dktX20_sum_7
def dkwX20_sum_5 : List UInt8 := [22, 8, 136, 182, 0, 191, 133, 97, 66, 167, 0, 50, 3, 54, 10, 22, 8, 9, 148, 155, 0, 40, 21, 10]
abbrev dktX20_sum_5 : List UInt8 := dkwX20_sum_5 ++ dktX20_sum_6
def dkwX20_sum_4 : List UInt8 := [97, 66, 167, 0, 81, 28, 16, 10, 162, 0, 28, 33, 22, 8, 9, 148, 156, 0, 7, 9, 167, 0, 11, 42]
abbrev dktX20_sum_4 : List UInt8 := dkwX20_sum_4 ++ dktX20_sum_5
def dkwX20_sum_3 : List UInt8 := [24, 5, 22, 8, 184, 0, 148, 184, 0, 248, 57, 5, 167, 0, 95, 28, 16, 6, 162, 0, 11, 33, 22, 8]
abbrev dktX20_sum_3 : List UInt8 := dkwX20_sum_3 ++ dktX20_sum_4
def dkwX20_sum_2 : List UInt8 := [24, 5, 22, 8, 184, 0, 140, 184, 0, 244, 184, 0, 248, 57, 5, 167, 0, 116, 28, 16, 7, 160, 0, 18]
abbrev dktX20_sum_2 : List UInt8 := dkwX20_sum_2 ++ dktX20_sum_3
def dkwX20_sum_1 : List UInt8 := [162, 0, 160, 42, 180, 0, 16, 16, 40, 27, 104, 21, 7, 96, 47, 55, 8, 28, 16, 6, 160, 0, 21]
abbrev dktX20_sum_1 : List UInt8 := dkwX20_sum_1 ++ dktX20_sum_2
def dkwX20_sum_0 : List UInt8 := [42, 180, 0, 7, 27, 46, 61, 9, 66, 14, 57, 5, 3, 54, 7, 21, 7, 42, 180, 0, 13, 27, 46]
abbrev dktX20_sum_0 : List UInt8 := dkwX20_sum_0 ++ dktX20_sum_1
theorem dksX20_sum_0 : cX20_sum.data.toList.drop 0 = dktX20_sum_0 := by decide +kernel
theorem dksX20_sum_1 : cX20_sum.data.toList.drop 23 = dktX20_sum_1 := dk_seg dksX20_sum_0 23 rfl rfl
theorem dksX20_sum_2 : cX20_sum.data.toList.drop 46 = dktX20_sum_2 := dk_seg dksX20_sum_1 23 rfl rfl
theorem dksX20_sum_3 : cX20_sum.data.toList.drop 70 = dktX20_sum_3 := dk_seg dksX20_sum_2 24 rfl rfl
theorem dksX20_sum_4 : cX20_sum.data.toList.drop 94 = dktX20_sum_4 := dk_seg dksX20_sum_3 24 rfl rfl
theorem dksX20_sum_5 : cX20_sum.data.toList.drop 118 = dktX20_sum_5 := dk_seg dksX20_sum_4 24 rfl rfl
theorem dksX20_sum_6 : cX20_sum.data.toList.drop 142 = dktX20_sum_6 := dk_seg dksX20_sum_5 24 rfl rfl
theorem dksX20_sum_7 : cX20_sum.data.toList.drop 166 = dktX20_sum_7 := dk_seg dksX20_sum_6 24 rfl rfl
theorem dksX20_sum_8 : cX20_sum.data.toList.drop 190 = dktX20_sum_8 := dk_seg dksX20_sum_7 24 rfl rfl
theorem dX20_sum_0 : decode cX20_sum 0 = .ok (.aload_n 0, 1) := dk_42 (dk_at dksX20_sum_0 0 rfl rfl)
theorem dX20_sum_1 : decode cX20_sum 1 = .ok (.getfield 7, 3) := dk_180 0 7 (dk_at dksX20_sum_0 1 rfl rfl)
theorem dX20_sum_4 : decode cX20_sum 4 = .ok (.iload_n 1, 1) := dk_27 (dk_at dksX20_sum_0 4 rfl rfl)
theorem dX20_sum_5 : decode cX20_sum 5 = .ok (.iaload, 1) := dk_46 (dk_at dksX20_sum_0 5 rfl rfl)
theorem dX20_sum_6 : decode cX20_sum 6 = .ok (.istore_n 2, 1) := dk_61 (dk_at dksX20_sum_0 6 rfl rfl)
theorem dX20_sum_7 : decode cX20_sum 7 = .ok (.lconst 0, 1) := dk_9 (dk_at dksX20_sum_0 7 rfl rfl)
theorem dX20_sum_8 : decode cX20_sum 8 = .ok (.lstore_n 3, 1) := dk_66 (dk_at dksX20_sum_0 8 rfl rfl)
theorem dX20_sum_9 : decode cX20_sum 9 = .ok (.dconst 0, 1) := dk_14 (dk_at dksX20_sum_0 9 rfl rfl)
theorem dX20_sum_10 : decode cX20_sum 10 = .ok (.dstore 5, 2) := dk_57 5 (dk_at dksX20_sum_0 10 rfl rfl)
theorem dX20_sum_12 : decode cX20_sum 12 = .ok (.iconst 0, 1) := dk_3 (dk_at dksX20_sum_0 12 rfl rfl)
theorem dX20_sum_13 : decode cX20_sum 13 = .ok (.istore 7, 2) := dk_54 7 (dk_at dksX20_sum_0 13 rfl rfl)
theorem dX20_sum_15 : decode cX20_sum 15 = .ok (.iload 7, 2) := dk_21 7 (dk_at dksX20_sum_0 15 rfl rfl)
theorem dX20_sum_17 : decode cX20_sum 17 = .ok (.aload_n 0, 1) := dk_42 (dk_at dksX20_sum_0 17 rfl rfl)
theorem dX20_sum_18 : decode cX20_sum 18 = .ok (.getfield 13, 3) := dk_180 0 13 (dk_at dksX20_sum_0 18 rfl rfl)
theorem dX20_sum_21 : decode cX20_sum 21 = .ok (.iload_n 1, 1) := dk_27 (dk_at dksX20_sum_0 21 rfl rfl)
theorem dX20_sum_22 : decode cX20_sum 22 = .ok (.iaload, 1) := dk_46 (dk_at dksX20_sum_0 22 rfl rfl)
theorem dX20_sum_23 : decode cX20_sum 23 = .ok (.if_icmp .ge 160, 3) := dk_162 0 160 (dk_at dksX20_sum_1 0 rfl rfl)
theorem dX20_sum_26 : decode cX20_sum 26 = .ok (.aload_n 0, 1) := dk_42 (dk_at dksX20_sum_1 3 rfl rfl)
theorem dX20_sum_27 : decode cX20_sum 27 = .ok (.getfield 16, 3) := dk_180 0 16 (dk_at dksX20_sum_1 4 rfl rfl)
theorem dX20_sum_30 : decode cX20_sum 30 = .ok (.bipush 40, 2) := dk_16 40 (dk_at dksX20_sum_1 7 rfl rfl)
theorem dX20_sum_32 : decode cX20_sum 32 = .ok (.iload_n 1, 1) := dk_27 (dk_at dksX20_sum_1 9 rfl rfl)
theorem dX20_sum_33 : decode cX20_sum 33 = .ok (.imul, 1) := dk_104 (dk_at dksX20_sum_1 10 rfl rfl)
theorem dX20_sum_34 : decode cX20_sum 34 = .ok (.iload 7, 2) := dk_21 7 (dk_at dksX20_sum_1 11 rfl rfl)
theorem dX20_sum_36 : decode cX20_sum 36 = .ok (.iadd, 1) := dk_96 (dk_at dksX20_sum_1 13 rfl rfl)
theorem dX20_sum_37 : decode cX20_sum 37 = .ok (.laload, 1) := dk_47 (dk_at dksX20_sum_1 14 rfl rfl)
theorem dX20_sum_38 : decode cX20_sum 38 = .ok (.lstore 8, 2) := dk_55 8 (dk_at dksX20_sum_1 15 rfl rfl)
theorem dX20_sum_40 : decode cX20_sum 40 = .ok (.iload_n 2, 1) := dk_28 (dk_at dksX20_sum_1 17 rfl rfl)
theorem dX20_sum_41 : decode cX20_sum 41 = .ok (.bipush 6, 2) := dk_16 6 (dk_at dksX20_sum_1 18 rfl rfl)
theorem dX20_sum_43 : decode cX20_sum 43 = .ok (.if_icmp .ne 21, 3) := dk_160 0 21 (dk_at dksX20_sum_1 20 rfl rfl)
theorem dX20_sum_46 : decode cX20_sum 46 = .ok (.dload 5, 2) := dk_24 5 (dk_at dksX20_sum_2 0 rfl rfl)
theorem dX20_sum_48 : decode cX20_sum 48 = .ok (.lload 8, 2) := dk_22 8 (dk_at dksX20_sum_2 2 rfl rfl)
theorem dX20_sum_50 : decode cX20_sum 50 = .ok (.invokestatic 140, 3) := dk_184 0 140 (dk_at dksX20_sum_2 4 rfl rfl)
theorem dX20_sum_53 : decode cX20_sum 53 = .ok (.invokestatic 244, 3) := dk_184 0 244 (dk_at dksX20_sum_2 7 rfl rfl)
theorem dX20_sum_56 : decode cX20_sum 56 = .ok (.invokestatic 248, 3) := dk_184 0 248 (dk_at dksX20_sum_2 10 rfl rfl)
theorem dX20_sum_59 : decode cX20_sum 59 = .ok (.dstore 5, 2) := dk_57 5 (dk_at dksX20_sum_2 13 rfl rfl)
theorem dX20_sum_61 : decode cX20_sum 61 = .ok (.goto 116, 3) := dk_167 0 116 (dk_at dksX20_sum_2 15 rfl rfl)
theorem dX20_sum_64 : decode cX20_sum 64 = .ok (.iload_n 2, 1) := dk_28 (dk_at dksX20_sum_2 18 rfl rfl)
theorem dX20_sum_65 : decode cX20_sum 65 = .ok (.bipush 7, 2) := dk_16 7 (dk_at dksX20_sum_2 19 rfl rfl)
theorem dX20_sum_67 : decode cX20_sum 67 = .ok (.if_icmp .ne 18, 3) := dk_160 0 18 (dk_at dksX20_sum_2 21 rfl rfl)
theorem dX20_sum_70 : decode cX20_sum 70 = .ok (.dload 5, 2) := dk_24 5 (dk_at dksX20_sum_3 0 rfl rfl)
theorem dX20_sum_72 : decode cX20_sum 72 = .ok (.lload 8, 2) := dk_22 8 (dk_at dksX20_sum_3 2 rfl rfl)
theorem dX20_sum_74 : decode cX20_sum 74 = .ok (.invokestatic 148, 3) := dk_184 0 148 (dk_at dksX20_sum_3 4 rfl rfl)
theorem dX20_sum_77 : decode cX20_sum 77 = .ok (.invokestatic 248, 3) := dk_184 0 248 (dk_at dksX20_sum_3 7 rfl rfl)
theorem dX20_sum_80 : decode cX20_sum 80 = .ok (.dstore 5, 2) := dk_57 5 (dk_at dksX20_sum_3 10 rfl rfl)
theorem dX20_sum_82 : decode cX20_sum 82 = .ok (.goto 95, 3) := dk_167 0 95 (dk_at dksX20_sum_3 12 rfl rfl)
theorem dX20_sum_85 : decode cX20_sum 85 = .ok (.iload_n 2, 1) := dk_28 (dk_at dksX20_sum_3 15 rfl rfl)
theorem dX20_sum_86 : decode cX20_sum 86 = .ok (.bipush 6, 2) := dk_16 6 (dk_at dksX20_sum_3 16 rfl rfl)
theorem dX20_sum_88 : decode cX20_sum 88 = .ok (.if_icmp .ge 11, 3) := dk_162 0 11 (dk_at dksX20_sum_3 18 rfl rfl)
theorem dX20_sum_91 : decode cX20_sum 91 = .ok (.lload_n 3, 1) := dk_33 (dk_at dksX20_sum_3 21 rfl rfl)
theorem dX20_sum_92 : decode cX20_sum 92 = .ok (.lload 8, 2) := dk_22 8 (dk_at dksX20_sum_3 22 rfl rfl)
theorem dX20_sum_94 : decode cX20_sum 94 = .ok (.ladd, 1) := dk_97 (dk_at dksX20_sum_4 0 rfl rfl)
theorem dX20_sum_95 : decode cX20_sum 95 = .ok (.lstore_n 3, 1) := dk_66 (dk_at dksX20_sum_4 1 rfl rfl)
theorem dX20_sum_96 : decode cX20_sum 96 = .ok (.goto 81, 3) := dk_167 0 81 (dk_at dksX20_sum_4 2 rfl rfl)
theorem dX20_sum_99 : decode cX20_sum 99 = .ok (.iload_n 2, 1) := dk_28 (dk_at dksX20_sum_4 5 rfl rfl)
theorem dX20_sum_100 : decode cX20_sum 100 = .ok (.bipush 10, 2) := dk_16 10 (dk_at dksX20_sum_4 6 rfl rfl)
theorem dX20_sum_102 : decode cX20_sum 102 = .ok (.if_icmp .ge 28, 3) := dk_162 0 28 (dk_at dksX20_sum_4 8 rfl rfl)
theorem dX20_sum_105 : decode cX20_sum 105 = .ok (.lload_n 3, 1) := dk_33 (dk_at dksX20_sum_4 11 rfl rfl)
theorem dX20_sum_106 : decode cX20_sum 106 = .ok (.lload 8, 2) := dk_22 8 (dk_at dksX20_sum_4 12 rfl rfl)
theorem dX20_sum_108 : decode cX20_sum 108 = .ok (.lconst 0, 1) := dk_9 (dk_at dksX20_sum_4 14 rfl rfl)
theorem dX20_sum_109 : decode cX20_sum 109 = .ok (.lcmp, 1) := dk_148 (dk_at dksX20_sum_4 15 rfl rfl)
theorem dX20_sum_110 : decode cX20_sum 110 = .ok (.ifCond .ge 7, 3) := dk_156 0 7 (dk_at dksX20_sum_4 16 rfl rfl)
theorem dX20_sum_113 : decode cX20_sum 113 = .ok (.lconst 0, 1) := dk_9 (dk_at dksX20_sum_4 19 rfl rfl)
theorem dX20_sum_114 : decode cX20_sum 114 = .ok (.goto 11, 3) := dk_167 0 11 (dk_at dksX20_sum_4 20 rfl rfl)
theorem dX20_sum_117 : decode cX20_sum 117 = .ok (.aload_n 0, 1) := dk_42 (dk_at dksX20_sum_4 23 rfl rfl)
theorem dX20_sum_118 : decode cX20_sum 118 = .ok (.lload 8, 2) := dk_22 8 (dk_at dksX20_sum_5 0 rfl rfl)
theorem dX20_sum_120 : decode cX20_sum 120 = .ok (.l2i, 1) := dk_136 (dk_at dksX20_sum_5 2 rfl rfl)
theorem dX20_sum_121 : decode cX20_sum 121 = .ok (.invokevirtual 191, 3) := dk_182 0 191 (dk_at dksX20_sum_5 3 rfl rfl)
theorem dX20_sum_124 : decode cX20_sum 124 = .ok (.i2l, 1) := dk_133 (dk_at dksX20_sum_5 6 rfl rfl)
theorem dX20_sum_125 : decode cX20_sum 125 = .ok (.ladd, 1) := dk_97 (dk_at dksX20_sum_5 7 rfl rfl)
theorem dX20_sum_126 : decode cX20_sum 126 = .ok (.lstore_n 3, 1) := dk_66 (dk_at dksX20_sum_5 8 rfl rfl)
theorem dX20_sum_127 : decode cX20_sum 127 = .ok (.goto 50, 3) := dk_167 0 50 (dk_at dksX20_sum_5 9 rfl rfl)
theorem dX20_sum_130 : decode cX20_sum 130 = .ok (.iconst 0, 1) := dk_3 (dk_at dksX20_sum_5 12 rfl rfl)
theorem dX20_sum_131 : decode cX20_sum 131 = .ok (.istore 10, 2) := dk_54 10 (dk_at dksX20_sum_5 13 rfl rfl)
theorem dX20_sum_133 : decode cX20_sum 133 = .ok (.lload 8, 2) := dk_22 8 (dk_at dksX20_sum_5 15 rfl rfl)
theorem dX20_sum_135 : decode cX20_sum 135 = .ok (.lconst 0, 1) := dk_9 (dk_at dksX20_sum_5 17 rfl rfl)
theorem dX20_sum_136 : decode cX20_sum 136 = .ok (.lcmp, 1) := dk_148 (dk_at dksX20_sum_5 18 rfl rfl)
theorem dX20_sum_137 : decode cX20_sum 137 = .ok (.ifCond .lt 40, 3) := dk_155 0 40 (dk_at dksX20_sum_5 19 rfl rfl)
theorem dX20_sum_140 : decode cX20_sum 140 = .ok (.iload 10, 2) := dk_21 10 (dk_at dksX20_sum_5 22 rfl rfl)
theorem dX20_sum_142 : decode cX20_sum 142 = .ok (.aload_n 0, 1) := dk_42 (dk_at dksX20_sum_6 0 rfl rfl)
theorem dX20_sum_143 : decode cX20_sum 143 = .ok (.getfield 26, 3) := dk_180 0 26 (dk_at dksX20_sum_6 1 rfl rfl)
theorem dX20_sum_146 : decode cX20_sum 146 = .ok (.lload 8, 2) := dk_22 8 (dk_at dksX20_sum_6 4 rfl rfl)
theorem dX20_sum_148 : decode cX20_sum 148 = .ok (.l2i, 1) := dk_136 (dk_at dksX20_sum_6 6 rfl rfl)
theorem dX20_sum_149 : decode cX20_sum 149 = .ok (.iaload, 1) := dk_46 (dk_at dksX20_sum_6 7 rfl rfl)
theorem dX20_sum_150 : decode cX20_sum 150 = .ok (.if_icmp .ge 27, 3) := dk_162 0 27 (dk_at dksX20_sum_6 8 rfl rfl)
theorem dX20_sum_153 : decode cX20_sum 153 = .ok (.lload_n 3, 1) := dk_33 (dk_at dksX20_sum_6 11 rfl rfl)
theorem dX20_sum_154 : decode cX20_sum 154 = .ok (.aload_n 0, 1) := dk_42 (dk_at dksX20_sum_6 12 rfl rfl)
theorem dX20_sum_155 : decode cX20_sum 155 = .ok (.getfield 30, 3) := dk_180 0 30 (dk_at dksX20_sum_6 13 rfl rfl)
theorem dX20_sum_158 : decode cX20_sum 158 = .ok (.bipush 40, 2) := dk_16 40 (dk_at dksX20_sum_6 16 rfl rfl)
theorem dX20_sum_160 : decode cX20_sum 160 = .ok (.lload 8, 2) := dk_22 8 (dk_at dksX20_sum_6 18 rfl rfl)
theorem dX20_sum_162 : decode cX20_sum 162 = .ok (.l2i, 1) := dk_136 (dk_at dksX20_sum_6 20 rfl rfl)
theorem dX20_sum_163 : decode cX20_sum 163 = .ok (.imul, 1) := dk_104 (dk_at dksX20_sum_6 21 rfl rfl)
theorem dX20_sum_164 : decode cX20_sum 164 = .ok (.iload 10, 2) := dk_21 10 (dk_at dksX20_sum_6 22 rfl rfl)
theorem dX20_sum_166 : decode cX20_sum 166 = .ok (.iadd, 1) := dk_96 (dk_at dksX20_sum_7 0 rfl rfl)
theorem dX20_sum_167 : decode cX20_sum 167 = .ok (.iaload, 1) := dk_46 (dk_at dksX20_sum_7 1 rfl rfl)
theorem dX20_sum_168 : decode cX20_sum 168 = .ok (.i2l, 1) := dk_133 (dk_at dksX20_sum_7 2 rfl rfl)
theorem dX20_sum_169 : decode cX20_sum 169 = .ok (.ladd, 1) := dk_97 (dk_at dksX20_sum_7 3 rfl rfl)
theorem dX20_sum_170 : decode cX20_sum 170 = .ok (.lstore_n 3, 1) := dk_66 (dk_at dksX20_sum_7 4 rfl rfl)
theorem dX20_sum_171 : decode cX20_sum 171 = .ok (.iinc 10 1, 3) := dk_132 10 1 (dk_at dksX20_sum_7 5 rfl rfl)
theorem dX20_sum_174 : decode cX20_sum 174 = .ok (.goto (-41), 3) := dk_167 255 215 (dk_at dksX20_sum_7 8 rfl rfl)
theorem dX20_sum_177 : decode cX20_sum 177 = .ok (.iinc 7 1, 3) := dk_132 7 1 (dk_at dksX20_sum_7 11 rfl rfl)
theorem dX20_sum_180 : decode cX20_sum 180 = .ok (.goto (-165), 3) := dk_167 255 91 (dk_at dksX20_sum_7 14 rfl rfl)
theorem dX20_sum_183 : decode cX20_sum 183 = .ok (.aload_n 0, 1) := dk_42 (dk_at dksX20_sum_7 17 rfl rfl)
theorem dX20_sum_184 : decode cX20_sum 184 = .ok (.iload_n 2, 1) := dk_28 (dk_at dksX20_sum_7 18 rfl rfl)
theorem dX20_sum_185 : decode cX20_sum 185 = .ok (.bipush 6, 2) := dk_16 6 (dk_at dksX20_sum_7 19 rfl rfl)
theorem dX20_sum_187 : decode cX20_sum 187 = .ok (.if_icmp .eq 9, 3) := dk_159 0 9 (dk_at dksX20_sum_7 21 rfl rfl)
theorem dX20_sum_190 : decode cX20_sum 190 = .ok (.iload_n 2, 1) := dk_28 (dk_at dksX20_sum_8 0 rfl rfl)
theorem dX20_sum_191 : decode cX20_sum 191 = .ok (.bipush 7, 2) := dk_16 7 (dk_at dksX20_sum_8 1 rfl rfl)
theorem dX20_sum_193 : decode cX20_sum 193 = .ok (.if_icmp .ne 11, 3) := dk_160 0 11 (dk_at dksX20_sum_8 3 rfl rfl)
theorem dX20_sum_196 : decode cX20_sum 196 = .ok (.dload 5, 2) := dk_24 5 (dk_at dksX20_sum_8 6 rfl rfl)
theorem dX20_sum_198 : decode cX20_sum 198 = .ok (.invokestatic 151, 3) := dk_184 0 151 (dk_at dksX20_sum_8 8 rfl rfl)
theorem dX20_sum_201 : decode cX20_sum 201 = .ok (.goto 4, 3) := dk_167 0 4 (dk_at dksX20_sum_8 11 rfl rfl)
theorem dX20_sum_204 : decode cX20_sum 204 = .ok (.lload_n 3, 1) := dk_33 (dk_at dksX20_sum_8 14 rfl rfl)
theorem dX20_sum_205 : decode cX20_sum 205 = .ok (.putfield 218, 3) := dk_181 0 218 (dk_at dksX20_sum_8 15 rfl rfl)
theorem dX20_sum_208 : decode cX20_sum 208 = .ok (.iconst 0, 1) := dk_3 (dk_at dksX20_sum_8 18 rfl rfl)
theorem dX20_sum_209 : decode cX20_sum 209 = .ok (.ireturn, 1) := dk_172 (dk_at dksX20_sum_8 19 rfl rfl)
abbrev cX20_wide : ByteArray := prog_29_method_43_code
def yX20_wide : MethodName := ⟨RX20, "wide", "(F)D"⟩
def dkwX20_wide_0 : List UInt8 := [34, 34, 149, 153, 0, 9, 184, 0, 240, 167, 0, 5, 34, 141, 175]
abbrev dktX20_wide_0 : List UInt8 := dkwX20_wide_0 ++ []
theorem dksX20_wide_0 : cX20_wide.data.toList.drop 0 = dktX20_wide_0 := by decide +kernel
theorem dX20_wide_0 : decode cX20_wide 0 = .ok (.fload_n 0, 1) := dk_34 (dk_at dksX20_wide_0 0 rfl rfl)
theorem dX20_wide_1 : decode cX20_wide 1 = .ok (.fload_n 0, 1) := dk_34 (dk_at dksX20_wide_0 1 rfl rfl)
theorem dX20_wide_2 : decode cX20_wide 2 = .ok (.fcmp .l, 1) := dk_149 (dk_at dksX20_wide_0 2 rfl rfl)
theorem dX20_wide_3 : decode cX20_wide 3 = .ok (.ifCond .eq 9, 3) := dk_153 0 9 (dk_at dksX20_wide_0 3 rfl rfl)
theorem dX20_wide_6 : decode cX20_wide 6 = .ok (.invokestatic 240, 3) := dk_184 0 240 (dk_at dksX20_wide_0 6 rfl rfl)
theorem dX20_wide_9 : decode cX20_wide 9 = .ok (.goto 5, 3) := dk_167 0 5 (dk_at dksX20_wide_0 9 rfl rfl)
theorem dX20_wide_12 : decode cX20_wide 12 = .ok (.fload_n 0, 1) := dk_34 (dk_at dksX20_wide_0 12 rfl rfl)
theorem dX20_wide_13 : decode cX20_wide 13 = .ok (.f2d, 1) := dk_141 (dk_at dksX20_wide_0 13 rfl rfl)
theorem dX20_wide_14 : decode cX20_wide 14 = .ok (.dreturn, 1) := dk_175 (dk_at dksX20_wide_0 14 rfl rfl)
abbrev cX20_none : ByteArray := prog_29_method_40_code
def yX20_none : MethodName := ⟨RX20, "none", "()D"⟩
theorem dX20_none_0 : decode cX20_none 0 = .ok (.ldc2_w 85, 3) := by decide +kernel
theorem dX20_none_3 : decode cX20_none 3 = .ok (.dreturn, 1) := by decide +kernel
abbrev cX20_plus : ByteArray := prog_29_method_42_code
def yX20_plus : MethodName := ⟨RX20, "plus", "(DD)D"⟩
def dkwX20_plus_1 : List UInt8 := [153, 0, 15, 38, 40, 151, 153, 0, 9, 184, 0, 240, 167, 0, 6, 38, 40, 99, 175]
abbrev dktX20_plus_1 : List UInt8 := dkwX20_plus_1 ++ []
def dkwX20_plus_0 : List UInt8 := [38, 38, 151, 154, 0, 29, 40, 40, 151, 154, 0, 23, 38, 184, 0, 236, 153, 0, 22, 40, 184, 0, 236]
abbrev dktX20_plus_0 : List UInt8 := dkwX20_plus_0 ++ dktX20_plus_1
theorem dksX20_plus_0 : cX20_plus.data.toList.drop 0 = dktX20_plus_0 := by decide +kernel
theorem dksX20_plus_1 : cX20_plus.data.toList.drop 23 = dktX20_plus_1 := dk_seg dksX20_plus_0 23 rfl rfl
theorem dX20_plus_0 : decode cX20_plus 0 = .ok (.dload_n 0, 1) := dk_38 (dk_at dksX20_plus_0 0 rfl rfl)
theorem dX20_plus_1 : decode cX20_plus 1 = .ok (.dload_n 0, 1) := dk_38 (dk_at dksX20_plus_0 1 rfl rfl)
theorem dX20_plus_2 : decode cX20_plus 2 = .ok (.dcmp .l, 1) := dk_151 (dk_at dksX20_plus_0 2 rfl rfl)
theorem dX20_plus_3 : decode cX20_plus 3 = .ok (.ifCond .ne 29, 3) := dk_154 0 29 (dk_at dksX20_plus_0 3 rfl rfl)
theorem dX20_plus_6 : decode cX20_plus 6 = .ok (.dload_n 2, 1) := dk_40 (dk_at dksX20_plus_0 6 rfl rfl)
theorem dX20_plus_7 : decode cX20_plus 7 = .ok (.dload_n 2, 1) := dk_40 (dk_at dksX20_plus_0 7 rfl rfl)
theorem dX20_plus_8 : decode cX20_plus 8 = .ok (.dcmp .l, 1) := dk_151 (dk_at dksX20_plus_0 8 rfl rfl)
theorem dX20_plus_9 : decode cX20_plus 9 = .ok (.ifCond .ne 23, 3) := dk_154 0 23 (dk_at dksX20_plus_0 9 rfl rfl)
theorem dX20_plus_12 : decode cX20_plus 12 = .ok (.dload_n 0, 1) := dk_38 (dk_at dksX20_plus_0 12 rfl rfl)
theorem dX20_plus_13 : decode cX20_plus 13 = .ok (.invokestatic 236, 3) := dk_184 0 236 (dk_at dksX20_plus_0 13 rfl rfl)
theorem dX20_plus_16 : decode cX20_plus 16 = .ok (.ifCond .eq 22, 3) := dk_153 0 22 (dk_at dksX20_plus_0 16 rfl rfl)
theorem dX20_plus_19 : decode cX20_plus 19 = .ok (.dload_n 2, 1) := dk_40 (dk_at dksX20_plus_0 19 rfl rfl)
theorem dX20_plus_20 : decode cX20_plus 20 = .ok (.invokestatic 236, 3) := dk_184 0 236 (dk_at dksX20_plus_0 20 rfl rfl)
theorem dX20_plus_23 : decode cX20_plus 23 = .ok (.ifCond .eq 15, 3) := dk_153 0 15 (dk_at dksX20_plus_1 0 rfl rfl)
theorem dX20_plus_26 : decode cX20_plus 26 = .ok (.dload_n 0, 1) := dk_38 (dk_at dksX20_plus_1 3 rfl rfl)
theorem dX20_plus_27 : decode cX20_plus 27 = .ok (.dload_n 2, 1) := dk_40 (dk_at dksX20_plus_1 4 rfl rfl)
theorem dX20_plus_28 : decode cX20_plus 28 = .ok (.dcmp .l, 1) := dk_151 (dk_at dksX20_plus_1 5 rfl rfl)
theorem dX20_plus_29 : decode cX20_plus 29 = .ok (.ifCond .eq 9, 3) := dk_153 0 9 (dk_at dksX20_plus_1 6 rfl rfl)
theorem dX20_plus_32 : decode cX20_plus 32 = .ok (.invokestatic 240, 3) := dk_184 0 240 (dk_at dksX20_plus_1 9 rfl rfl)
theorem dX20_plus_35 : decode cX20_plus 35 = .ok (.goto 6, 3) := dk_167 0 6 (dk_at dksX20_plus_1 12 rfl rfl)
theorem dX20_plus_38 : decode cX20_plus 38 = .ok (.dload_n 0, 1) := dk_38 (dk_at dksX20_plus_1 15 rfl rfl)
theorem dX20_plus_39 : decode cX20_plus 39 = .ok (.dload_n 2, 1) := dk_40 (dk_at dksX20_plus_1 16 rfl rfl)
theorem dX20_plus_40 : decode cX20_plus 40 = .ok (.dadd, 1) := dk_99 (dk_at dksX20_plus_1 17 rfl rfl)
theorem dX20_plus_41 : decode cX20_plus 41 = .ok (.dreturn, 1) := dk_175 (dk_at dksX20_plus_1 18 rfl rfl)
abbrev cX20_isEndless : ByteArray := prog_29_method_41_code
def yX20_isEndless : MethodName := ⟨RX20, "isEndless", "(D)Z"⟩
def dkwX20_isEndless_0 : List UInt8 := [38, 20, 0, 232, 151, 157, 0, 11, 38, 20, 0, 234, 152, 156, 0, 7, 4, 167, 0, 4, 3, 172]
abbrev dktX20_isEndless_0 : List UInt8 := dkwX20_isEndless_0 ++ []
theorem dksX20_isEndless_0 : cX20_isEndless.data.toList.drop 0 = dktX20_isEndless_0 := by decide +kernel
theorem dX20_isEndless_0 : decode cX20_isEndless 0 = .ok (.dload_n 0, 1) := dk_38 (dk_at dksX20_isEndless_0 0 rfl rfl)
theorem dX20_isEndless_1 : decode cX20_isEndless 1 = .ok (.ldc2_w 232, 3) := dk_20 0 232 (dk_at dksX20_isEndless_0 1 rfl rfl)
theorem dX20_isEndless_4 : decode cX20_isEndless 4 = .ok (.dcmp .l, 1) := dk_151 (dk_at dksX20_isEndless_0 4 rfl rfl)
theorem dX20_isEndless_5 : decode cX20_isEndless 5 = .ok (.ifCond .gt 11, 3) := dk_157 0 11 (dk_at dksX20_isEndless_0 5 rfl rfl)
theorem dX20_isEndless_8 : decode cX20_isEndless 8 = .ok (.dload_n 0, 1) := dk_38 (dk_at dksX20_isEndless_0 8 rfl rfl)
theorem dX20_isEndless_9 : decode cX20_isEndless 9 = .ok (.ldc2_w 234, 3) := dk_20 0 234 (dk_at dksX20_isEndless_0 9 rfl rfl)
theorem dX20_isEndless_12 : decode cX20_isEndless 12 = .ok (.dcmp .g, 1) := dk_152 (dk_at dksX20_isEndless_0 12 rfl rfl)
theorem dX20_isEndless_13 : decode cX20_isEndless 13 = .ok (.ifCond .ge 7, 3) := dk_156 0 7 (dk_at dksX20_isEndless_0 13 rfl rfl)
theorem dX20_isEndless_16 : decode cX20_isEndless 16 = .ok (.iconst 1, 1) := dk_4 (dk_at dksX20_isEndless_0 16 rfl rfl)
theorem dX20_isEndless_17 : decode cX20_isEndless 17 = .ok (.goto 4, 3) := dk_167 0 4 (dk_at dksX20_isEndless_0 17 rfl rfl)
theorem dX20_isEndless_20 : decode cX20_isEndless 20 = .ok (.iconst 0, 1) := dk_3 (dk_at dksX20_isEndless_0 20 rfl rfl)
theorem dX20_isEndless_21 : decode cX20_isEndless 21 = .ok (.ireturn, 1) := dk_172 (dk_at dksX20_isEndless_0 21 rfl rfl)
abbrev cX20_greatest : ByteArray := prog_29_method_45_code
def yX20_greatest : MethodName := ⟨RX20, "greatest", "(I)I"⟩
def dkwX20_greatest_4 : List UInt8 := [167, 0, 7, 42, 180, 0, 218, 181, 0, 218, 132, 2, 1, 167, 255, 194, 3, 172]
abbrev dktX20_greatest_4 : List UInt8 := dkwX20_greatest_4 ++ []
def dkwX20_greatest_3 : List UInt8 := [96, 47, 42, 180, 0, 218, 184, 0, 228, 158, 0, 17, 42, 180, 0, 16, 16, 40, 27, 104, 28, 96, 47]
abbrev dktX20_greatest_3 : List UInt8 := dkwX20_greatest_3 ++ dktX20_greatest_4
def dkwX20_greatest_2 : List UInt8 := [180, 0, 13, 27, 46, 162, 0, 58, 42, 42, 180, 0, 7, 27, 46, 42, 180, 0, 16, 16, 40, 27, 104, 28]
abbrev dktX20_greatest_2 : List UInt8 := dkwX20_greatest_2 ++ dktX20_greatest_3
def dkwX20_greatest_1 : List UInt8 := [46, 154, 0, 5, 5, 172, 42, 42, 180, 0, 16, 16, 40, 27, 104, 47, 181, 0, 218, 4, 61, 28, 42]
abbrev dktX20_greatest_1 : List UInt8 := dkwX20_greatest_1 ++ dktX20_greatest_2
def dkwX20_greatest_0 : List UInt8 := [42, 180, 0, 7, 27, 46, 133, 10, 20, 0, 226, 184, 0, 123, 154, 0, 5, 7, 172, 42, 180, 0, 13, 27]
abbrev dktX20_greatest_0 : List UInt8 := dkwX20_greatest_0 ++ dktX20_greatest_1
theorem dksX20_greatest_0 : cX20_greatest.data.toList.drop 0 = dktX20_greatest_0 := by decide +kernel
theorem dksX20_greatest_1 : cX20_greatest.data.toList.drop 24 = dktX20_greatest_1 := dk_seg dksX20_greatest_0 24 rfl rfl
theorem dksX20_greatest_2 : cX20_greatest.data.toList.drop 47 = dktX20_greatest_2 := dk_seg dksX20_greatest_1 23 rfl rfl
theorem dksX20_greatest_3 : cX20_greatest.data.toList.drop 71 = dktX20_greatest_3 := dk_seg dksX20_greatest_2 24 rfl rfl
theorem dksX20_greatest_4 : cX20_greatest.data.toList.drop 94 = dktX20_greatest_4 := dk_seg dksX20_greatest_3 23 rfl rfl
theorem dX20_greatest_0 : decode cX20_greatest 0 = .ok (.aload_n 0, 1) := dk_42 (dk_at dksX20_greatest_0 0 rfl rfl)
theorem dX20_greatest_1 : decode cX20_greatest 1 = .ok (.getfield 7, 3) := dk_180 0 7 (dk_at dksX20_greatest_0 1 rfl rfl)
theorem dX20_greatest_4 : decode cX20_greatest 4 = .ok (.iload_n 1, 1) := dk_27 (dk_at dksX20_greatest_0 4 rfl rfl)
theorem dX20_greatest_5 : decode cX20_greatest 5 = .ok (.iaload, 1) := dk_46 (dk_at dksX20_greatest_0 5 rfl rfl)
theorem dX20_greatest_6 : decode cX20_greatest 6 = .ok (.i2l, 1) := dk_133 (dk_at dksX20_greatest_0 6 rfl rfl)
theorem dX20_greatest_7 : decode cX20_greatest 7 = .ok (.lconst 1, 1) := dk_10 (dk_at dksX20_greatest_0 7 rfl rfl)
theorem dX20_greatest_8 : decode cX20_greatest 8 = .ok (.ldc2_w 226, 3) := dk_20 0 226 (dk_at dksX20_greatest_0 8 rfl rfl)
theorem dX20_greatest_11 : decode cX20_greatest 11 = .ok (.invokestatic 123, 3) := dk_184 0 123 (dk_at dksX20_greatest_0 11 rfl rfl)
theorem dX20_greatest_14 : decode cX20_greatest 14 = .ok (.ifCond .ne 5, 3) := dk_154 0 5 (dk_at dksX20_greatest_0 14 rfl rfl)
theorem dX20_greatest_17 : decode cX20_greatest 17 = .ok (.iconst 4, 1) := dk_7 (dk_at dksX20_greatest_0 17 rfl rfl)
theorem dX20_greatest_18 : decode cX20_greatest 18 = .ok (.ireturn, 1) := dk_172 (dk_at dksX20_greatest_0 18 rfl rfl)
theorem dX20_greatest_19 : decode cX20_greatest 19 = .ok (.aload_n 0, 1) := dk_42 (dk_at dksX20_greatest_0 19 rfl rfl)
theorem dX20_greatest_20 : decode cX20_greatest 20 = .ok (.getfield 13, 3) := dk_180 0 13 (dk_at dksX20_greatest_0 20 rfl rfl)
theorem dX20_greatest_23 : decode cX20_greatest 23 = .ok (.iload_n 1, 1) := dk_27 (dk_at dksX20_greatest_0 23 rfl rfl)
theorem dX20_greatest_24 : decode cX20_greatest 24 = .ok (.iaload, 1) := dk_46 (dk_at dksX20_greatest_1 0 rfl rfl)
theorem dX20_greatest_25 : decode cX20_greatest 25 = .ok (.ifCond .ne 5, 3) := dk_154 0 5 (dk_at dksX20_greatest_1 1 rfl rfl)
theorem dX20_greatest_28 : decode cX20_greatest 28 = .ok (.iconst 2, 1) := dk_5 (dk_at dksX20_greatest_1 4 rfl rfl)
theorem dX20_greatest_29 : decode cX20_greatest 29 = .ok (.ireturn, 1) := dk_172 (dk_at dksX20_greatest_1 5 rfl rfl)
theorem dX20_greatest_30 : decode cX20_greatest 30 = .ok (.aload_n 0, 1) := dk_42 (dk_at dksX20_greatest_1 6 rfl rfl)
theorem dX20_greatest_31 : decode cX20_greatest 31 = .ok (.aload_n 0, 1) := dk_42 (dk_at dksX20_greatest_1 7 rfl rfl)
theorem dX20_greatest_32 : decode cX20_greatest 32 = .ok (.getfield 16, 3) := dk_180 0 16 (dk_at dksX20_greatest_1 8 rfl rfl)
theorem dX20_greatest_35 : decode cX20_greatest 35 = .ok (.bipush 40, 2) := dk_16 40 (dk_at dksX20_greatest_1 11 rfl rfl)
theorem dX20_greatest_37 : decode cX20_greatest 37 = .ok (.iload_n 1, 1) := dk_27 (dk_at dksX20_greatest_1 13 rfl rfl)
theorem dX20_greatest_38 : decode cX20_greatest 38 = .ok (.imul, 1) := dk_104 (dk_at dksX20_greatest_1 14 rfl rfl)
theorem dX20_greatest_39 : decode cX20_greatest 39 = .ok (.laload, 1) := dk_47 (dk_at dksX20_greatest_1 15 rfl rfl)
theorem dX20_greatest_40 : decode cX20_greatest 40 = .ok (.putfield 218, 3) := dk_181 0 218 (dk_at dksX20_greatest_1 16 rfl rfl)
theorem dX20_greatest_43 : decode cX20_greatest 43 = .ok (.iconst 1, 1) := dk_4 (dk_at dksX20_greatest_1 19 rfl rfl)
theorem dX20_greatest_44 : decode cX20_greatest 44 = .ok (.istore_n 2, 1) := dk_61 (dk_at dksX20_greatest_1 20 rfl rfl)
theorem dX20_greatest_45 : decode cX20_greatest 45 = .ok (.iload_n 2, 1) := dk_28 (dk_at dksX20_greatest_1 21 rfl rfl)
theorem dX20_greatest_46 : decode cX20_greatest 46 = .ok (.aload_n 0, 1) := dk_42 (dk_at dksX20_greatest_1 22 rfl rfl)
theorem dX20_greatest_47 : decode cX20_greatest 47 = .ok (.getfield 13, 3) := dk_180 0 13 (dk_at dksX20_greatest_2 0 rfl rfl)
theorem dX20_greatest_50 : decode cX20_greatest 50 = .ok (.iload_n 1, 1) := dk_27 (dk_at dksX20_greatest_2 3 rfl rfl)
theorem dX20_greatest_51 : decode cX20_greatest 51 = .ok (.iaload, 1) := dk_46 (dk_at dksX20_greatest_2 4 rfl rfl)
theorem dX20_greatest_52 : decode cX20_greatest 52 = .ok (.if_icmp .ge 58, 3) := dk_162 0 58 (dk_at dksX20_greatest_2 5 rfl rfl)
theorem dX20_greatest_55 : decode cX20_greatest 55 = .ok (.aload_n 0, 1) := dk_42 (dk_at dksX20_greatest_2 8 rfl rfl)
theorem dX20_greatest_56 : decode cX20_greatest 56 = .ok (.aload_n 0, 1) := dk_42 (dk_at dksX20_greatest_2 9 rfl rfl)
theorem dX20_greatest_57 : decode cX20_greatest 57 = .ok (.getfield 7, 3) := dk_180 0 7 (dk_at dksX20_greatest_2 10 rfl rfl)
theorem dX20_greatest_60 : decode cX20_greatest 60 = .ok (.iload_n 1, 1) := dk_27 (dk_at dksX20_greatest_2 13 rfl rfl)
theorem dX20_greatest_61 : decode cX20_greatest 61 = .ok (.iaload, 1) := dk_46 (dk_at dksX20_greatest_2 14 rfl rfl)
theorem dX20_greatest_62 : decode cX20_greatest 62 = .ok (.aload_n 0, 1) := dk_42 (dk_at dksX20_greatest_2 15 rfl rfl)
theorem dX20_greatest_63 : decode cX20_greatest 63 = .ok (.getfield 16, 3) := dk_180 0 16 (dk_at dksX20_greatest_2 16 rfl rfl)
theorem dX20_greatest_66 : decode cX20_greatest 66 = .ok (.bipush 40, 2) := dk_16 40 (dk_at dksX20_greatest_2 19 rfl rfl)
theorem dX20_greatest_68 : decode cX20_greatest 68 = .ok (.iload_n 1, 1) := dk_27 (dk_at dksX20_greatest_2 21 rfl rfl)
theorem dX20_greatest_69 : decode cX20_greatest 69 = .ok (.imul, 1) := dk_104 (dk_at dksX20_greatest_2 22 rfl rfl)
theorem dX20_greatest_70 : decode cX20_greatest 70 = .ok (.iload_n 2, 1) := dk_28 (dk_at dksX20_greatest_2 23 rfl rfl)
theorem dX20_greatest_71 : decode cX20_greatest 71 = .ok (.iadd, 1) := dk_96 (dk_at dksX20_greatest_3 0 rfl rfl)
theorem dX20_greatest_72 : decode cX20_greatest 72 = .ok (.laload, 1) := dk_47 (dk_at dksX20_greatest_3 1 rfl rfl)
theorem dX20_greatest_73 : decode cX20_greatest 73 = .ok (.aload_n 0, 1) := dk_42 (dk_at dksX20_greatest_3 2 rfl rfl)
theorem dX20_greatest_74 : decode cX20_greatest 74 = .ok (.getfield 218, 3) := dk_180 0 218 (dk_at dksX20_greatest_3 3 rfl rfl)
theorem dX20_greatest_77 : decode cX20_greatest 77 = .ok (.invokestatic 228, 3) := dk_184 0 228 (dk_at dksX20_greatest_3 6 rfl rfl)
theorem dX20_greatest_80 : decode cX20_greatest 80 = .ok (.ifCond .le 17, 3) := dk_158 0 17 (dk_at dksX20_greatest_3 9 rfl rfl)
theorem dX20_greatest_83 : decode cX20_greatest 83 = .ok (.aload_n 0, 1) := dk_42 (dk_at dksX20_greatest_3 12 rfl rfl)
theorem dX20_greatest_84 : decode cX20_greatest 84 = .ok (.getfield 16, 3) := dk_180 0 16 (dk_at dksX20_greatest_3 13 rfl rfl)
theorem dX20_greatest_87 : decode cX20_greatest 87 = .ok (.bipush 40, 2) := dk_16 40 (dk_at dksX20_greatest_3 16 rfl rfl)
theorem dX20_greatest_89 : decode cX20_greatest 89 = .ok (.iload_n 1, 1) := dk_27 (dk_at dksX20_greatest_3 18 rfl rfl)
theorem dX20_greatest_90 : decode cX20_greatest 90 = .ok (.imul, 1) := dk_104 (dk_at dksX20_greatest_3 19 rfl rfl)
theorem dX20_greatest_91 : decode cX20_greatest 91 = .ok (.iload_n 2, 1) := dk_28 (dk_at dksX20_greatest_3 20 rfl rfl)
theorem dX20_greatest_92 : decode cX20_greatest 92 = .ok (.iadd, 1) := dk_96 (dk_at dksX20_greatest_3 21 rfl rfl)
theorem dX20_greatest_93 : decode cX20_greatest 93 = .ok (.laload, 1) := dk_47 (dk_at dksX20_greatest_3 22 rfl rfl)
theorem dX20_greatest_94 : decode cX20_greatest 94 = .ok (.goto 7, 3) := dk_167 0 7 (dk_at dksX20_greatest_4 0 rfl rfl)
theorem dX20_greatest_97 : decode cX20_greatest 97 = .ok (.aload_n 0, 1) := dk_42 (dk_at dksX20_greatest_4 3 rfl rfl)
theorem dX20_greatest_98 : decode cX20_greatest 98 = .ok (.getfield 218, 3) := dk_180 0 218 (dk_at dksX20_greatest_4 4 rfl rfl)
theorem dX20_greatest_101 : decode cX20_greatest 101 = .ok (.putfield 218, 3) := dk_181 0 218 (dk_at dksX20_greatest_4 7 rfl rfl)
theorem dX20_greatest_104 : decode cX20_greatest 104 = .ok (.iinc 2 1, 3) := dk_132 2 1 (dk_at dksX20_greatest_4 10 rfl rfl)
theorem dX20_greatest_107 : decode cX20_greatest 107 = .ok (.goto (-62), 3) := dk_167 255 194 (dk_at dksX20_greatest_4 13 rfl rfl)
theorem dX20_greatest_110 : decode cX20_greatest 110 = .ok (.iconst 0, 1) := dk_3 (dk_at dksX20_greatest_4 16 rfl rfl)
theorem dX20_greatest_111 : decode cX20_greatest 111 = .ok (.ireturn, 1) := dk_172 (dk_at dksX20_greatest_4 17 rfl rfl)
abbrev cX20_turn : ByteArray := prog_29_method_46_code
def yX20_turn : MethodName := ⟨RX20, "turn", "(III)I"⟩
def dkwX20_turn_3 : List UInt8 := [96, 42, 180, 0, 39, 29, 4, 100, 21, 4, 100, 47, 80, 132, 4, 1, 167, 255, 222, 3, 172]
abbrev dktX20_turn_3 : List UInt8 := dkwX20_turn_3 ++ []
def dkwX20_turn_2 : List UInt8 := [167, 255, 226, 3, 54, 4, 21, 4, 29, 162, 0, 34, 42, 180, 0, 16, 16, 40, 27, 104, 28, 96, 21, 4]
abbrev dktX20_turn_2 : List UInt8 := dkwX20_turn_2 ++ dktX20_turn_3
def dkwX20_turn_1 : List UInt8 := [180, 0, 39, 21, 4, 42, 180, 0, 16, 16, 40, 27, 104, 28, 96, 21, 4, 96, 47, 80, 132, 4, 1]
abbrev dktX20_turn_1 : List UInt8 := dkwX20_turn_1 ++ dktX20_turn_2
def dkwX20_turn_0 : List UInt8 := [42, 27, 28, 29, 182, 0, 215, 154, 0, 5, 5, 172, 3, 54, 4, 21, 4, 29, 162, 0, 30, 42]
abbrev dktX20_turn_0 : List UInt8 := dkwX20_turn_0 ++ dktX20_turn_1
theorem dksX20_turn_0 : cX20_turn.data.toList.drop 0 = dktX20_turn_0 := by decide +kernel
theorem dksX20_turn_1 : cX20_turn.data.toList.drop 22 = dktX20_turn_1 := dk_seg dksX20_turn_0 22 rfl rfl
theorem dksX20_turn_2 : cX20_turn.data.toList.drop 45 = dktX20_turn_2 := dk_seg dksX20_turn_1 23 rfl rfl
theorem dksX20_turn_3 : cX20_turn.data.toList.drop 69 = dktX20_turn_3 := dk_seg dksX20_turn_2 24 rfl rfl
theorem dX20_turn_0 : decode cX20_turn 0 = .ok (.aload_n 0, 1) := dk_42 (dk_at dksX20_turn_0 0 rfl rfl)
theorem dX20_turn_1 : decode cX20_turn 1 = .ok (.iload_n 1, 1) := dk_27 (dk_at dksX20_turn_0 1 rfl rfl)
theorem dX20_turn_2 : decode cX20_turn 2 = .ok (.iload_n 2, 1) := dk_28 (dk_at dksX20_turn_0 2 rfl rfl)
theorem dX20_turn_3 : decode cX20_turn 3 = .ok (.iload_n 3, 1) := dk_29 (dk_at dksX20_turn_0 3 rfl rfl)
theorem dX20_turn_4 : decode cX20_turn 4 = .ok (.invokevirtual 215, 3) := dk_182 0 215 (dk_at dksX20_turn_0 4 rfl rfl)
theorem dX20_turn_7 : decode cX20_turn 7 = .ok (.ifCond .ne 5, 3) := dk_154 0 5 (dk_at dksX20_turn_0 7 rfl rfl)
theorem dX20_turn_10 : decode cX20_turn 10 = .ok (.iconst 2, 1) := dk_5 (dk_at dksX20_turn_0 10 rfl rfl)
theorem dX20_turn_11 : decode cX20_turn 11 = .ok (.ireturn, 1) := dk_172 (dk_at dksX20_turn_0 11 rfl rfl)
theorem dX20_turn_12 : decode cX20_turn 12 = .ok (.iconst 0, 1) := dk_3 (dk_at dksX20_turn_0 12 rfl rfl)
theorem dX20_turn_13 : decode cX20_turn 13 = .ok (.istore 4, 2) := dk_54 4 (dk_at dksX20_turn_0 13 rfl rfl)
theorem dX20_turn_15 : decode cX20_turn 15 = .ok (.iload 4, 2) := dk_21 4 (dk_at dksX20_turn_0 15 rfl rfl)
theorem dX20_turn_17 : decode cX20_turn 17 = .ok (.iload_n 3, 1) := dk_29 (dk_at dksX20_turn_0 17 rfl rfl)
theorem dX20_turn_18 : decode cX20_turn 18 = .ok (.if_icmp .ge 30, 3) := dk_162 0 30 (dk_at dksX20_turn_0 18 rfl rfl)
theorem dX20_turn_21 : decode cX20_turn 21 = .ok (.aload_n 0, 1) := dk_42 (dk_at dksX20_turn_0 21 rfl rfl)
theorem dX20_turn_22 : decode cX20_turn 22 = .ok (.getfield 39, 3) := dk_180 0 39 (dk_at dksX20_turn_1 0 rfl rfl)
theorem dX20_turn_25 : decode cX20_turn 25 = .ok (.iload 4, 2) := dk_21 4 (dk_at dksX20_turn_1 3 rfl rfl)
theorem dX20_turn_27 : decode cX20_turn 27 = .ok (.aload_n 0, 1) := dk_42 (dk_at dksX20_turn_1 5 rfl rfl)
theorem dX20_turn_28 : decode cX20_turn 28 = .ok (.getfield 16, 3) := dk_180 0 16 (dk_at dksX20_turn_1 6 rfl rfl)
theorem dX20_turn_31 : decode cX20_turn 31 = .ok (.bipush 40, 2) := dk_16 40 (dk_at dksX20_turn_1 9 rfl rfl)
theorem dX20_turn_33 : decode cX20_turn 33 = .ok (.iload_n 1, 1) := dk_27 (dk_at dksX20_turn_1 11 rfl rfl)
theorem dX20_turn_34 : decode cX20_turn 34 = .ok (.imul, 1) := dk_104 (dk_at dksX20_turn_1 12 rfl rfl)
theorem dX20_turn_35 : decode cX20_turn 35 = .ok (.iload_n 2, 1) := dk_28 (dk_at dksX20_turn_1 13 rfl rfl)
theorem dX20_turn_36 : decode cX20_turn 36 = .ok (.iadd, 1) := dk_96 (dk_at dksX20_turn_1 14 rfl rfl)
theorem dX20_turn_37 : decode cX20_turn 37 = .ok (.iload 4, 2) := dk_21 4 (dk_at dksX20_turn_1 15 rfl rfl)
theorem dX20_turn_39 : decode cX20_turn 39 = .ok (.iadd, 1) := dk_96 (dk_at dksX20_turn_1 17 rfl rfl)
theorem dX20_turn_40 : decode cX20_turn 40 = .ok (.laload, 1) := dk_47 (dk_at dksX20_turn_1 18 rfl rfl)
theorem dX20_turn_41 : decode cX20_turn 41 = .ok (.lastore, 1) := dk_80 (dk_at dksX20_turn_1 19 rfl rfl)
theorem dX20_turn_42 : decode cX20_turn 42 = .ok (.iinc 4 1, 3) := dk_132 4 1 (dk_at dksX20_turn_1 20 rfl rfl)
theorem dX20_turn_45 : decode cX20_turn 45 = .ok (.goto (-30), 3) := dk_167 255 226 (dk_at dksX20_turn_2 0 rfl rfl)
theorem dX20_turn_48 : decode cX20_turn 48 = .ok (.iconst 0, 1) := dk_3 (dk_at dksX20_turn_2 3 rfl rfl)
theorem dX20_turn_49 : decode cX20_turn 49 = .ok (.istore 4, 2) := dk_54 4 (dk_at dksX20_turn_2 4 rfl rfl)
theorem dX20_turn_51 : decode cX20_turn 51 = .ok (.iload 4, 2) := dk_21 4 (dk_at dksX20_turn_2 6 rfl rfl)
theorem dX20_turn_53 : decode cX20_turn 53 = .ok (.iload_n 3, 1) := dk_29 (dk_at dksX20_turn_2 8 rfl rfl)
theorem dX20_turn_54 : decode cX20_turn 54 = .ok (.if_icmp .ge 34, 3) := dk_162 0 34 (dk_at dksX20_turn_2 9 rfl rfl)
theorem dX20_turn_57 : decode cX20_turn 57 = .ok (.aload_n 0, 1) := dk_42 (dk_at dksX20_turn_2 12 rfl rfl)
theorem dX20_turn_58 : decode cX20_turn 58 = .ok (.getfield 16, 3) := dk_180 0 16 (dk_at dksX20_turn_2 13 rfl rfl)
theorem dX20_turn_61 : decode cX20_turn 61 = .ok (.bipush 40, 2) := dk_16 40 (dk_at dksX20_turn_2 16 rfl rfl)
theorem dX20_turn_63 : decode cX20_turn 63 = .ok (.iload_n 1, 1) := dk_27 (dk_at dksX20_turn_2 18 rfl rfl)
theorem dX20_turn_64 : decode cX20_turn 64 = .ok (.imul, 1) := dk_104 (dk_at dksX20_turn_2 19 rfl rfl)
theorem dX20_turn_65 : decode cX20_turn 65 = .ok (.iload_n 2, 1) := dk_28 (dk_at dksX20_turn_2 20 rfl rfl)
theorem dX20_turn_66 : decode cX20_turn 66 = .ok (.iadd, 1) := dk_96 (dk_at dksX20_turn_2 21 rfl rfl)
theorem dX20_turn_67 : decode cX20_turn 67 = .ok (.iload 4, 2) := dk_21 4 (dk_at dksX20_turn_2 22 rfl rfl)
theorem dX20_turn_69 : decode cX20_turn 69 = .ok (.iadd, 1) := dk_96 (dk_at dksX20_turn_3 0 rfl rfl)
theorem dX20_turn_70 : decode cX20_turn 70 = .ok (.aload_n 0, 1) := dk_42 (dk_at dksX20_turn_3 1 rfl rfl)
theorem dX20_turn_71 : decode cX20_turn 71 = .ok (.getfield 39, 3) := dk_180 0 39 (dk_at dksX20_turn_3 2 rfl rfl)
theorem dX20_turn_74 : decode cX20_turn 74 = .ok (.iload_n 3, 1) := dk_29 (dk_at dksX20_turn_3 5 rfl rfl)
theorem dX20_turn_75 : decode cX20_turn 75 = .ok (.iconst 1, 1) := dk_4 (dk_at dksX20_turn_3 6 rfl rfl)
theorem dX20_turn_76 : decode cX20_turn 76 = .ok (.isub, 1) := dk_100 (dk_at dksX20_turn_3 7 rfl rfl)
theorem dX20_turn_77 : decode cX20_turn 77 = .ok (.iload 4, 2) := dk_21 4 (dk_at dksX20_turn_3 8 rfl rfl)
theorem dX20_turn_79 : decode cX20_turn 79 = .ok (.isub, 1) := dk_100 (dk_at dksX20_turn_3 10 rfl rfl)
theorem dX20_turn_80 : decode cX20_turn 80 = .ok (.laload, 1) := dk_47 (dk_at dksX20_turn_3 11 rfl rfl)
theorem dX20_turn_81 : decode cX20_turn 81 = .ok (.lastore, 1) := dk_80 (dk_at dksX20_turn_3 12 rfl rfl)
theorem dX20_turn_82 : decode cX20_turn 82 = .ok (.iinc 4 1, 3) := dk_132 4 1 (dk_at dksX20_turn_3 13 rfl rfl)
theorem dX20_turn_85 : decode cX20_turn 85 = .ok (.goto (-34), 3) := dk_167 255 222 (dk_at dksX20_turn_3 16 rfl rfl)
theorem dX20_turn_88 : decode cX20_turn 88 = .ok (.iconst 0, 1) := dk_3 (dk_at dksX20_turn_3 19 rfl rfl)
theorem dX20_turn_89 : decode cX20_turn 89 = .ok (.ireturn, 1) := dk_172 (dk_at dksX20_turn_3 20 rfl rfl)
abbrev cX20_sort : ByteArray := prog_29_method_47_code
def yX20_sort : MethodName := ⟨RX20, "sort", "(III)I"⟩
def dkwX20_sort_6 : List UInt8 := [167, 255, 160, 3, 172]
abbrev dktX20_sort_6 : List UInt8 := dkwX20_sort_6 ++ []
def dkwX20_sort_5 : List UInt8 := [80, 132, 8, 255, 167, 255, 200, 42, 180, 0, 16, 21, 4, 21, 8, 96, 22, 6, 80, 132, 5, 1]
abbrev dktX20_sort_5 : List UInt8 := dkwX20_sort_5 ++ dktX20_sort_6
def dkwX20_sort_4 : List UInt8 := [156, 0, 31, 42, 180, 0, 16, 21, 4, 21, 8, 96, 42, 180, 0, 16, 21, 4, 21, 8, 96, 4, 100, 47]
abbrev dktX20_sort_4 : List UInt8 := dkwX20_sort_4 ++ dktX20_sort_5
def dkwX20_sort_3 : List UInt8 := [42, 180, 0, 7, 27, 46, 22, 6, 42, 180, 0, 16, 21, 4, 21, 8, 96, 4, 100, 47, 184, 0, 228]
abbrev dktX20_sort_3 : List UInt8 := dkwX20_sort_3 ++ dktX20_sort_4
def dkwX20_sort_2 : List UInt8 := [162, 0, 96, 42, 180, 0, 16, 21, 4, 21, 5, 96, 47, 55, 6, 21, 5, 54, 8, 21, 8, 158, 0, 57]
abbrev dktX20_sort_2 : List UInt8 := dkwX20_sort_2 ++ dktX20_sort_3
def dkwX20_sort_1 : List UInt8 := [182, 0, 215, 154, 0, 5, 5, 172, 16, 40, 27, 104, 28, 96, 54, 4, 4, 54, 5, 21, 5, 29]
abbrev dktX20_sort_1 : List UInt8 := dkwX20_sort_1 ++ dktX20_sort_2
def dkwX20_sort_0 : List UInt8 := [42, 180, 0, 7, 27, 46, 133, 10, 20, 0, 226, 184, 0, 123, 154, 0, 5, 7, 172, 42, 27, 28, 29]
abbrev dktX20_sort_0 : List UInt8 := dkwX20_sort_0 ++ dktX20_sort_1
theorem dksX20_sort_0 : cX20_sort.data.toList.drop 0 = dktX20_sort_0 := by decide +kernel
theorem dksX20_sort_1 : cX20_sort.data.toList.drop 23 = dktX20_sort_1 := dk_seg dksX20_sort_0 23 rfl rfl
theorem dksX20_sort_2 : cX20_sort.data.toList.drop 45 = dktX20_sort_2 := dk_seg dksX20_sort_1 22 rfl rfl
theorem dksX20_sort_3 : cX20_sort.data.toList.drop 69 = dktX20_sort_3 := dk_seg dksX20_sort_2 24 rfl rfl
theorem dksX20_sort_4 : cX20_sort.data.toList.drop 92 = dktX20_sort_4 := dk_seg dksX20_sort_3 23 rfl rfl
theorem dksX20_sort_5 : cX20_sort.data.toList.drop 116 = dktX20_sort_5 := dk_seg dksX20_sort_4 24 rfl rfl
theorem dksX20_sort_6 : cX20_sort.data.toList.drop 138 = dktX20_sort_6 := dk_seg dksX20_sort_5 22 rfl rfl
theorem dX20_sort_0 : decode cX20_sort 0 = .ok (.aload_n 0, 1) := dk_42 (dk_at dksX20_sort_0 0 rfl rfl)
theorem dX20_sort_1 : decode cX20_sort 1 = .ok (.getfield 7, 3) := dk_180 0 7 (dk_at dksX20_sort_0 1 rfl rfl)
theorem dX20_sort_4 : decode cX20_sort 4 = .ok (.iload_n 1, 1) := dk_27 (dk_at dksX20_sort_0 4 rfl rfl)
theorem dX20_sort_5 : decode cX20_sort 5 = .ok (.iaload, 1) := dk_46 (dk_at dksX20_sort_0 5 rfl rfl)
theorem dX20_sort_6 : decode cX20_sort 6 = .ok (.i2l, 1) := dk_133 (dk_at dksX20_sort_0 6 rfl rfl)
theorem dX20_sort_7 : decode cX20_sort 7 = .ok (.lconst 1, 1) := dk_10 (dk_at dksX20_sort_0 7 rfl rfl)
theorem dX20_sort_8 : decode cX20_sort 8 = .ok (.ldc2_w 226, 3) := dk_20 0 226 (dk_at dksX20_sort_0 8 rfl rfl)
theorem dX20_sort_11 : decode cX20_sort 11 = .ok (.invokestatic 123, 3) := dk_184 0 123 (dk_at dksX20_sort_0 11 rfl rfl)
theorem dX20_sort_14 : decode cX20_sort 14 = .ok (.ifCond .ne 5, 3) := dk_154 0 5 (dk_at dksX20_sort_0 14 rfl rfl)
theorem dX20_sort_17 : decode cX20_sort 17 = .ok (.iconst 4, 1) := dk_7 (dk_at dksX20_sort_0 17 rfl rfl)
theorem dX20_sort_18 : decode cX20_sort 18 = .ok (.ireturn, 1) := dk_172 (dk_at dksX20_sort_0 18 rfl rfl)
theorem dX20_sort_19 : decode cX20_sort 19 = .ok (.aload_n 0, 1) := dk_42 (dk_at dksX20_sort_0 19 rfl rfl)
theorem dX20_sort_20 : decode cX20_sort 20 = .ok (.iload_n 1, 1) := dk_27 (dk_at dksX20_sort_0 20 rfl rfl)
theorem dX20_sort_21 : decode cX20_sort 21 = .ok (.iload_n 2, 1) := dk_28 (dk_at dksX20_sort_0 21 rfl rfl)
theorem dX20_sort_22 : decode cX20_sort 22 = .ok (.iload_n 3, 1) := dk_29 (dk_at dksX20_sort_0 22 rfl rfl)
theorem dX20_sort_23 : decode cX20_sort 23 = .ok (.invokevirtual 215, 3) := dk_182 0 215 (dk_at dksX20_sort_1 0 rfl rfl)
theorem dX20_sort_26 : decode cX20_sort 26 = .ok (.ifCond .ne 5, 3) := dk_154 0 5 (dk_at dksX20_sort_1 3 rfl rfl)
theorem dX20_sort_29 : decode cX20_sort 29 = .ok (.iconst 2, 1) := dk_5 (dk_at dksX20_sort_1 6 rfl rfl)
theorem dX20_sort_30 : decode cX20_sort 30 = .ok (.ireturn, 1) := dk_172 (dk_at dksX20_sort_1 7 rfl rfl)
theorem dX20_sort_31 : decode cX20_sort 31 = .ok (.bipush 40, 2) := dk_16 40 (dk_at dksX20_sort_1 8 rfl rfl)
theorem dX20_sort_33 : decode cX20_sort 33 = .ok (.iload_n 1, 1) := dk_27 (dk_at dksX20_sort_1 10 rfl rfl)
theorem dX20_sort_34 : decode cX20_sort 34 = .ok (.imul, 1) := dk_104 (dk_at dksX20_sort_1 11 rfl rfl)
theorem dX20_sort_35 : decode cX20_sort 35 = .ok (.iload_n 2, 1) := dk_28 (dk_at dksX20_sort_1 12 rfl rfl)
theorem dX20_sort_36 : decode cX20_sort 36 = .ok (.iadd, 1) := dk_96 (dk_at dksX20_sort_1 13 rfl rfl)
theorem dX20_sort_37 : decode cX20_sort 37 = .ok (.istore 4, 2) := dk_54 4 (dk_at dksX20_sort_1 14 rfl rfl)
theorem dX20_sort_39 : decode cX20_sort 39 = .ok (.iconst 1, 1) := dk_4 (dk_at dksX20_sort_1 16 rfl rfl)
theorem dX20_sort_40 : decode cX20_sort 40 = .ok (.istore 5, 2) := dk_54 5 (dk_at dksX20_sort_1 17 rfl rfl)
theorem dX20_sort_42 : decode cX20_sort 42 = .ok (.iload 5, 2) := dk_21 5 (dk_at dksX20_sort_1 19 rfl rfl)
theorem dX20_sort_44 : decode cX20_sort 44 = .ok (.iload_n 3, 1) := dk_29 (dk_at dksX20_sort_1 21 rfl rfl)
theorem dX20_sort_45 : decode cX20_sort 45 = .ok (.if_icmp .ge 96, 3) := dk_162 0 96 (dk_at dksX20_sort_2 0 rfl rfl)
theorem dX20_sort_48 : decode cX20_sort 48 = .ok (.aload_n 0, 1) := dk_42 (dk_at dksX20_sort_2 3 rfl rfl)
theorem dX20_sort_49 : decode cX20_sort 49 = .ok (.getfield 16, 3) := dk_180 0 16 (dk_at dksX20_sort_2 4 rfl rfl)
theorem dX20_sort_52 : decode cX20_sort 52 = .ok (.iload 4, 2) := dk_21 4 (dk_at dksX20_sort_2 7 rfl rfl)
theorem dX20_sort_54 : decode cX20_sort 54 = .ok (.iload 5, 2) := dk_21 5 (dk_at dksX20_sort_2 9 rfl rfl)
theorem dX20_sort_56 : decode cX20_sort 56 = .ok (.iadd, 1) := dk_96 (dk_at dksX20_sort_2 11 rfl rfl)
theorem dX20_sort_57 : decode cX20_sort 57 = .ok (.laload, 1) := dk_47 (dk_at dksX20_sort_2 12 rfl rfl)
theorem dX20_sort_58 : decode cX20_sort 58 = .ok (.lstore 6, 2) := dk_55 6 (dk_at dksX20_sort_2 13 rfl rfl)
theorem dX20_sort_60 : decode cX20_sort 60 = .ok (.iload 5, 2) := dk_21 5 (dk_at dksX20_sort_2 15 rfl rfl)
theorem dX20_sort_62 : decode cX20_sort 62 = .ok (.istore 8, 2) := dk_54 8 (dk_at dksX20_sort_2 17 rfl rfl)
theorem dX20_sort_64 : decode cX20_sort 64 = .ok (.iload 8, 2) := dk_21 8 (dk_at dksX20_sort_2 19 rfl rfl)
theorem dX20_sort_66 : decode cX20_sort 66 = .ok (.ifCond .le 57, 3) := dk_158 0 57 (dk_at dksX20_sort_2 21 rfl rfl)
theorem dX20_sort_69 : decode cX20_sort 69 = .ok (.aload_n 0, 1) := dk_42 (dk_at dksX20_sort_3 0 rfl rfl)
theorem dX20_sort_70 : decode cX20_sort 70 = .ok (.getfield 7, 3) := dk_180 0 7 (dk_at dksX20_sort_3 1 rfl rfl)
theorem dX20_sort_73 : decode cX20_sort 73 = .ok (.iload_n 1, 1) := dk_27 (dk_at dksX20_sort_3 4 rfl rfl)
theorem dX20_sort_74 : decode cX20_sort 74 = .ok (.iaload, 1) := dk_46 (dk_at dksX20_sort_3 5 rfl rfl)
theorem dX20_sort_75 : decode cX20_sort 75 = .ok (.lload 6, 2) := dk_22 6 (dk_at dksX20_sort_3 6 rfl rfl)
theorem dX20_sort_77 : decode cX20_sort 77 = .ok (.aload_n 0, 1) := dk_42 (dk_at dksX20_sort_3 8 rfl rfl)
theorem dX20_sort_78 : decode cX20_sort 78 = .ok (.getfield 16, 3) := dk_180 0 16 (dk_at dksX20_sort_3 9 rfl rfl)
theorem dX20_sort_81 : decode cX20_sort 81 = .ok (.iload 4, 2) := dk_21 4 (dk_at dksX20_sort_3 12 rfl rfl)
theorem dX20_sort_83 : decode cX20_sort 83 = .ok (.iload 8, 2) := dk_21 8 (dk_at dksX20_sort_3 14 rfl rfl)
theorem dX20_sort_85 : decode cX20_sort 85 = .ok (.iadd, 1) := dk_96 (dk_at dksX20_sort_3 16 rfl rfl)
theorem dX20_sort_86 : decode cX20_sort 86 = .ok (.iconst 1, 1) := dk_4 (dk_at dksX20_sort_3 17 rfl rfl)
theorem dX20_sort_87 : decode cX20_sort 87 = .ok (.isub, 1) := dk_100 (dk_at dksX20_sort_3 18 rfl rfl)
theorem dX20_sort_88 : decode cX20_sort 88 = .ok (.laload, 1) := dk_47 (dk_at dksX20_sort_3 19 rfl rfl)
theorem dX20_sort_89 : decode cX20_sort 89 = .ok (.invokestatic 228, 3) := dk_184 0 228 (dk_at dksX20_sort_3 20 rfl rfl)
theorem dX20_sort_92 : decode cX20_sort 92 = .ok (.ifCond .ge 31, 3) := dk_156 0 31 (dk_at dksX20_sort_4 0 rfl rfl)
theorem dX20_sort_95 : decode cX20_sort 95 = .ok (.aload_n 0, 1) := dk_42 (dk_at dksX20_sort_4 3 rfl rfl)
theorem dX20_sort_96 : decode cX20_sort 96 = .ok (.getfield 16, 3) := dk_180 0 16 (dk_at dksX20_sort_4 4 rfl rfl)
theorem dX20_sort_99 : decode cX20_sort 99 = .ok (.iload 4, 2) := dk_21 4 (dk_at dksX20_sort_4 7 rfl rfl)
theorem dX20_sort_101 : decode cX20_sort 101 = .ok (.iload 8, 2) := dk_21 8 (dk_at dksX20_sort_4 9 rfl rfl)
theorem dX20_sort_103 : decode cX20_sort 103 = .ok (.iadd, 1) := dk_96 (dk_at dksX20_sort_4 11 rfl rfl)
theorem dX20_sort_104 : decode cX20_sort 104 = .ok (.aload_n 0, 1) := dk_42 (dk_at dksX20_sort_4 12 rfl rfl)
theorem dX20_sort_105 : decode cX20_sort 105 = .ok (.getfield 16, 3) := dk_180 0 16 (dk_at dksX20_sort_4 13 rfl rfl)
theorem dX20_sort_108 : decode cX20_sort 108 = .ok (.iload 4, 2) := dk_21 4 (dk_at dksX20_sort_4 16 rfl rfl)
theorem dX20_sort_110 : decode cX20_sort 110 = .ok (.iload 8, 2) := dk_21 8 (dk_at dksX20_sort_4 18 rfl rfl)
theorem dX20_sort_112 : decode cX20_sort 112 = .ok (.iadd, 1) := dk_96 (dk_at dksX20_sort_4 20 rfl rfl)
theorem dX20_sort_113 : decode cX20_sort 113 = .ok (.iconst 1, 1) := dk_4 (dk_at dksX20_sort_4 21 rfl rfl)
theorem dX20_sort_114 : decode cX20_sort 114 = .ok (.isub, 1) := dk_100 (dk_at dksX20_sort_4 22 rfl rfl)
theorem dX20_sort_115 : decode cX20_sort 115 = .ok (.laload, 1) := dk_47 (dk_at dksX20_sort_4 23 rfl rfl)
theorem dX20_sort_116 : decode cX20_sort 116 = .ok (.lastore, 1) := dk_80 (dk_at dksX20_sort_5 0 rfl rfl)
theorem dX20_sort_117 : decode cX20_sort 117 = .ok (.iinc 8 (-1), 3) := dk_132 8 255 (dk_at dksX20_sort_5 1 rfl rfl)
theorem dX20_sort_120 : decode cX20_sort 120 = .ok (.goto (-56), 3) := dk_167 255 200 (dk_at dksX20_sort_5 4 rfl rfl)
theorem dX20_sort_123 : decode cX20_sort 123 = .ok (.aload_n 0, 1) := dk_42 (dk_at dksX20_sort_5 7 rfl rfl)
theorem dX20_sort_124 : decode cX20_sort 124 = .ok (.getfield 16, 3) := dk_180 0 16 (dk_at dksX20_sort_5 8 rfl rfl)
theorem dX20_sort_127 : decode cX20_sort 127 = .ok (.iload 4, 2) := dk_21 4 (dk_at dksX20_sort_5 11 rfl rfl)
theorem dX20_sort_129 : decode cX20_sort 129 = .ok (.iload 8, 2) := dk_21 8 (dk_at dksX20_sort_5 13 rfl rfl)
theorem dX20_sort_131 : decode cX20_sort 131 = .ok (.iadd, 1) := dk_96 (dk_at dksX20_sort_5 15 rfl rfl)
theorem dX20_sort_132 : decode cX20_sort 132 = .ok (.lload 6, 2) := dk_22 6 (dk_at dksX20_sort_5 16 rfl rfl)
theorem dX20_sort_134 : decode cX20_sort 134 = .ok (.lastore, 1) := dk_80 (dk_at dksX20_sort_5 18 rfl rfl)
theorem dX20_sort_135 : decode cX20_sort 135 = .ok (.iinc 5 1, 3) := dk_132 5 1 (dk_at dksX20_sort_5 19 rfl rfl)
theorem dX20_sort_138 : decode cX20_sort 138 = .ok (.goto (-96), 3) := dk_167 255 160 (dk_at dksX20_sort_6 0 rfl rfl)
theorem dX20_sort_141 : decode cX20_sort 141 = .ok (.iconst 0, 1) := dk_3 (dk_at dksX20_sort_6 3 rfl rfl)
theorem dX20_sort_142 : decode cX20_sort 142 = .ok (.ireturn, 1) := dk_172 (dk_at dksX20_sort_6 4 rfl rfl)
abbrev cX20_findIn : ByteArray := prog_29_method_48_code
def yX20_findIn : MethodName := ⟨RX20, "findIn", "(IIII)I"⟩
def dkwX20_findIn_4 : List UInt8 := [167, 0, 7, 42, 180, 0, 218, 181, 0, 218, 132, 8, 255, 167, 255, 210, 3, 172]
abbrev dktX20_findIn_4 : List UInt8 := dkwX20_findIn_4 ++ []
def dkwX20_findIn_3 : List UInt8 := [180, 0, 16, 16, 40, 27, 104, 21, 8, 96, 47, 22, 6, 182, 0, 222, 153, 0, 9, 21, 8, 133]
abbrev dktX20_findIn_3 : List UInt8 := dkwX20_findIn_3 ++ dktX20_findIn_4
def dkwX20_findIn_2 : List UInt8 := [181, 0, 218, 28, 21, 4, 96, 4, 100, 54, 8, 21, 8, 28, 161, 0, 46, 42, 42, 21, 5, 42]
abbrev dktX20_findIn_2 : List UInt8 := dkwX20_findIn_2 ++ dktX20_findIn_3
def dkwX20_findIn_1 : List UInt8 := [182, 0, 215, 154, 0, 5, 5, 172, 42, 21, 5, 29, 133, 182, 0, 173, 55, 6, 42, 20, 0, 133]
abbrev dktX20_findIn_1 : List UInt8 := dkwX20_findIn_1 ++ dktX20_findIn_2
def dkwX20_findIn_0 : List UInt8 := [42, 180, 0, 7, 27, 46, 54, 5, 21, 5, 16, 7, 164, 0, 5, 7, 172, 42, 27, 28, 21, 4]
abbrev dktX20_findIn_0 : List UInt8 := dkwX20_findIn_0 ++ dktX20_findIn_1
theorem dksX20_findIn_0 : cX20_findIn.data.toList.drop 0 = dktX20_findIn_0 := by decide +kernel
theorem dksX20_findIn_1 : cX20_findIn.data.toList.drop 22 = dktX20_findIn_1 := dk_seg dksX20_findIn_0 22 rfl rfl
theorem dksX20_findIn_2 : cX20_findIn.data.toList.drop 44 = dktX20_findIn_2 := dk_seg dksX20_findIn_1 22 rfl rfl
theorem dksX20_findIn_3 : cX20_findIn.data.toList.drop 66 = dktX20_findIn_3 := dk_seg dksX20_findIn_2 22 rfl rfl
theorem dksX20_findIn_4 : cX20_findIn.data.toList.drop 88 = dktX20_findIn_4 := dk_seg dksX20_findIn_3 22 rfl rfl
theorem dX20_findIn_0 : decode cX20_findIn 0 = .ok (.aload_n 0, 1) := dk_42 (dk_at dksX20_findIn_0 0 rfl rfl)
theorem dX20_findIn_1 : decode cX20_findIn 1 = .ok (.getfield 7, 3) := dk_180 0 7 (dk_at dksX20_findIn_0 1 rfl rfl)
theorem dX20_findIn_4 : decode cX20_findIn 4 = .ok (.iload_n 1, 1) := dk_27 (dk_at dksX20_findIn_0 4 rfl rfl)
theorem dX20_findIn_5 : decode cX20_findIn 5 = .ok (.iaload, 1) := dk_46 (dk_at dksX20_findIn_0 5 rfl rfl)
theorem dX20_findIn_6 : decode cX20_findIn 6 = .ok (.istore 5, 2) := dk_54 5 (dk_at dksX20_findIn_0 6 rfl rfl)
theorem dX20_findIn_8 : decode cX20_findIn 8 = .ok (.iload 5, 2) := dk_21 5 (dk_at dksX20_findIn_0 8 rfl rfl)
theorem dX20_findIn_10 : decode cX20_findIn 10 = .ok (.bipush 7, 2) := dk_16 7 (dk_at dksX20_findIn_0 10 rfl rfl)
theorem dX20_findIn_12 : decode cX20_findIn 12 = .ok (.if_icmp .le 5, 3) := dk_164 0 5 (dk_at dksX20_findIn_0 12 rfl rfl)
theorem dX20_findIn_15 : decode cX20_findIn 15 = .ok (.iconst 4, 1) := dk_7 (dk_at dksX20_findIn_0 15 rfl rfl)
theorem dX20_findIn_16 : decode cX20_findIn 16 = .ok (.ireturn, 1) := dk_172 (dk_at dksX20_findIn_0 16 rfl rfl)
theorem dX20_findIn_17 : decode cX20_findIn 17 = .ok (.aload_n 0, 1) := dk_42 (dk_at dksX20_findIn_0 17 rfl rfl)
theorem dX20_findIn_18 : decode cX20_findIn 18 = .ok (.iload_n 1, 1) := dk_27 (dk_at dksX20_findIn_0 18 rfl rfl)
theorem dX20_findIn_19 : decode cX20_findIn 19 = .ok (.iload_n 2, 1) := dk_28 (dk_at dksX20_findIn_0 19 rfl rfl)
theorem dX20_findIn_20 : decode cX20_findIn 20 = .ok (.iload 4, 2) := dk_21 4 (dk_at dksX20_findIn_0 20 rfl rfl)
theorem dX20_findIn_22 : decode cX20_findIn 22 = .ok (.invokevirtual 215, 3) := dk_182 0 215 (dk_at dksX20_findIn_1 0 rfl rfl)
theorem dX20_findIn_25 : decode cX20_findIn 25 = .ok (.ifCond .ne 5, 3) := dk_154 0 5 (dk_at dksX20_findIn_1 3 rfl rfl)
theorem dX20_findIn_28 : decode cX20_findIn 28 = .ok (.iconst 2, 1) := dk_5 (dk_at dksX20_findIn_1 6 rfl rfl)
theorem dX20_findIn_29 : decode cX20_findIn 29 = .ok (.ireturn, 1) := dk_172 (dk_at dksX20_findIn_1 7 rfl rfl)
theorem dX20_findIn_30 : decode cX20_findIn 30 = .ok (.aload_n 0, 1) := dk_42 (dk_at dksX20_findIn_1 8 rfl rfl)
theorem dX20_findIn_31 : decode cX20_findIn 31 = .ok (.iload 5, 2) := dk_21 5 (dk_at dksX20_findIn_1 9 rfl rfl)
theorem dX20_findIn_33 : decode cX20_findIn 33 = .ok (.iload_n 3, 1) := dk_29 (dk_at dksX20_findIn_1 11 rfl rfl)
theorem dX20_findIn_34 : decode cX20_findIn 34 = .ok (.i2l, 1) := dk_133 (dk_at dksX20_findIn_1 12 rfl rfl)
theorem dX20_findIn_35 : decode cX20_findIn 35 = .ok (.invokevirtual 173, 3) := dk_182 0 173 (dk_at dksX20_findIn_1 13 rfl rfl)
theorem dX20_findIn_38 : decode cX20_findIn 38 = .ok (.lstore 6, 2) := dk_55 6 (dk_at dksX20_findIn_1 16 rfl rfl)
theorem dX20_findIn_40 : decode cX20_findIn 40 = .ok (.aload_n 0, 1) := dk_42 (dk_at dksX20_findIn_1 18 rfl rfl)
theorem dX20_findIn_41 : decode cX20_findIn 41 = .ok (.ldc2_w 133, 3) := dk_20 0 133 (dk_at dksX20_findIn_1 19 rfl rfl)
theorem dX20_findIn_44 : decode cX20_findIn 44 = .ok (.putfield 218, 3) := dk_181 0 218 (dk_at dksX20_findIn_2 0 rfl rfl)
theorem dX20_findIn_47 : decode cX20_findIn 47 = .ok (.iload_n 2, 1) := dk_28 (dk_at dksX20_findIn_2 3 rfl rfl)
theorem dX20_findIn_48 : decode cX20_findIn 48 = .ok (.iload 4, 2) := dk_21 4 (dk_at dksX20_findIn_2 4 rfl rfl)
theorem dX20_findIn_50 : decode cX20_findIn 50 = .ok (.iadd, 1) := dk_96 (dk_at dksX20_findIn_2 6 rfl rfl)
theorem dX20_findIn_51 : decode cX20_findIn 51 = .ok (.iconst 1, 1) := dk_4 (dk_at dksX20_findIn_2 7 rfl rfl)
theorem dX20_findIn_52 : decode cX20_findIn 52 = .ok (.isub, 1) := dk_100 (dk_at dksX20_findIn_2 8 rfl rfl)
theorem dX20_findIn_53 : decode cX20_findIn 53 = .ok (.istore 8, 2) := dk_54 8 (dk_at dksX20_findIn_2 9 rfl rfl)
theorem dX20_findIn_55 : decode cX20_findIn 55 = .ok (.iload 8, 2) := dk_21 8 (dk_at dksX20_findIn_2 11 rfl rfl)
theorem dX20_findIn_57 : decode cX20_findIn 57 = .ok (.iload_n 2, 1) := dk_28 (dk_at dksX20_findIn_2 13 rfl rfl)
theorem dX20_findIn_58 : decode cX20_findIn 58 = .ok (.if_icmp .lt 46, 3) := dk_161 0 46 (dk_at dksX20_findIn_2 14 rfl rfl)
theorem dX20_findIn_61 : decode cX20_findIn 61 = .ok (.aload_n 0, 1) := dk_42 (dk_at dksX20_findIn_2 17 rfl rfl)
theorem dX20_findIn_62 : decode cX20_findIn 62 = .ok (.aload_n 0, 1) := dk_42 (dk_at dksX20_findIn_2 18 rfl rfl)
theorem dX20_findIn_63 : decode cX20_findIn 63 = .ok (.iload 5, 2) := dk_21 5 (dk_at dksX20_findIn_2 19 rfl rfl)
theorem dX20_findIn_65 : decode cX20_findIn 65 = .ok (.aload_n 0, 1) := dk_42 (dk_at dksX20_findIn_2 21 rfl rfl)
theorem dX20_findIn_66 : decode cX20_findIn 66 = .ok (.getfield 16, 3) := dk_180 0 16 (dk_at dksX20_findIn_3 0 rfl rfl)
theorem dX20_findIn_69 : decode cX20_findIn 69 = .ok (.bipush 40, 2) := dk_16 40 (dk_at dksX20_findIn_3 3 rfl rfl)
theorem dX20_findIn_71 : decode cX20_findIn 71 = .ok (.iload_n 1, 1) := dk_27 (dk_at dksX20_findIn_3 5 rfl rfl)
theorem dX20_findIn_72 : decode cX20_findIn 72 = .ok (.imul, 1) := dk_104 (dk_at dksX20_findIn_3 6 rfl rfl)
theorem dX20_findIn_73 : decode cX20_findIn 73 = .ok (.iload 8, 2) := dk_21 8 (dk_at dksX20_findIn_3 7 rfl rfl)
theorem dX20_findIn_75 : decode cX20_findIn 75 = .ok (.iadd, 1) := dk_96 (dk_at dksX20_findIn_3 9 rfl rfl)
theorem dX20_findIn_76 : decode cX20_findIn 76 = .ok (.laload, 1) := dk_47 (dk_at dksX20_findIn_3 10 rfl rfl)
theorem dX20_findIn_77 : decode cX20_findIn 77 = .ok (.lload 6, 2) := dk_22 6 (dk_at dksX20_findIn_3 11 rfl rfl)
theorem dX20_findIn_79 : decode cX20_findIn 79 = .ok (.invokevirtual 222, 3) := dk_182 0 222 (dk_at dksX20_findIn_3 13 rfl rfl)
theorem dX20_findIn_82 : decode cX20_findIn 82 = .ok (.ifCond .eq 9, 3) := dk_153 0 9 (dk_at dksX20_findIn_3 16 rfl rfl)
theorem dX20_findIn_85 : decode cX20_findIn 85 = .ok (.iload 8, 2) := dk_21 8 (dk_at dksX20_findIn_3 19 rfl rfl)
theorem dX20_findIn_87 : decode cX20_findIn 87 = .ok (.i2l, 1) := dk_133 (dk_at dksX20_findIn_3 21 rfl rfl)
theorem dX20_findIn_88 : decode cX20_findIn 88 = .ok (.goto 7, 3) := dk_167 0 7 (dk_at dksX20_findIn_4 0 rfl rfl)
theorem dX20_findIn_91 : decode cX20_findIn 91 = .ok (.aload_n 0, 1) := dk_42 (dk_at dksX20_findIn_4 3 rfl rfl)
theorem dX20_findIn_92 : decode cX20_findIn 92 = .ok (.getfield 218, 3) := dk_180 0 218 (dk_at dksX20_findIn_4 4 rfl rfl)
theorem dX20_findIn_95 : decode cX20_findIn 95 = .ok (.putfield 218, 3) := dk_181 0 218 (dk_at dksX20_findIn_4 7 rfl rfl)
theorem dX20_findIn_98 : decode cX20_findIn 98 = .ok (.iinc 8 (-1), 3) := dk_132 8 255 (dk_at dksX20_findIn_4 10 rfl rfl)
theorem dX20_findIn_101 : decode cX20_findIn 101 = .ok (.goto (-46), 3) := dk_167 255 210 (dk_at dksX20_findIn_4 13 rfl rfl)
theorem dX20_findIn_104 : decode cX20_findIn 104 = .ok (.iconst 0, 1) := dk_3 (dk_at dksX20_findIn_4 16 rfl rfl)
theorem dX20_findIn_105 : decode cX20_findIn 105 = .ok (.ireturn, 1) := dk_172 (dk_at dksX20_findIn_4 17 rfl rfl)
abbrev cX20_fees : ByteArray := prog_29_method_49_code
def yX20_fees : MethodName := ⟨RX20, "fees", "(I)I"⟩
def dkwX20_fees_3 : List UInt8 := [132, 2, 1, 167, 255, 207, 3, 172]
abbrev dktX20_fees_3 : List UInt8 := dkwX20_fees_3 ++ []
def dkwX20_fees_2 : List UInt8 := [62, 42, 89, 180, 0, 218, 29, 156, 0, 7, 9, 167, 0, 9, 42, 29, 182, 0, 194, 133, 97, 181, 0, 218]
abbrev dktX20_fees_2 : List UInt8 := dkwX20_fees_2 ++ dktX20_fees_3
def dkwX20_fees_1 : List UInt8 := [3, 61, 28, 42, 180, 0, 13, 27, 46, 162, 0, 45, 42, 180, 0, 16, 16, 40, 27, 104, 28, 96, 47, 136]
abbrev dktX20_fees_1 : List UInt8 := dkwX20_fees_1 ++ dktX20_fees_2
def dkwX20_fees_0 : List UInt8 := [42, 180, 0, 7, 27, 46, 16, 8, 159, 0, 16, 42, 180, 0, 7, 27, 46, 16, 9, 159, 0, 5, 7, 172]
abbrev dktX20_fees_0 : List UInt8 := dkwX20_fees_0 ++ dktX20_fees_1
theorem dksX20_fees_0 : cX20_fees.data.toList.drop 0 = dktX20_fees_0 := by decide +kernel
theorem dksX20_fees_1 : cX20_fees.data.toList.drop 24 = dktX20_fees_1 := dk_seg dksX20_fees_0 24 rfl rfl
theorem dksX20_fees_2 : cX20_fees.data.toList.drop 48 = dktX20_fees_2 := dk_seg dksX20_fees_1 24 rfl rfl
theorem dksX20_fees_3 : cX20_fees.data.toList.drop 72 = dktX20_fees_3 := dk_seg dksX20_fees_2 24 rfl rfl
theorem dX20_fees_0 : decode cX20_fees 0 = .ok (.aload_n 0, 1) := dk_42 (dk_at dksX20_fees_0 0 rfl rfl)
theorem dX20_fees_1 : decode cX20_fees 1 = .ok (.getfield 7, 3) := dk_180 0 7 (dk_at dksX20_fees_0 1 rfl rfl)
theorem dX20_fees_4 : decode cX20_fees 4 = .ok (.iload_n 1, 1) := dk_27 (dk_at dksX20_fees_0 4 rfl rfl)
theorem dX20_fees_5 : decode cX20_fees 5 = .ok (.iaload, 1) := dk_46 (dk_at dksX20_fees_0 5 rfl rfl)
theorem dX20_fees_6 : decode cX20_fees 6 = .ok (.bipush 8, 2) := dk_16 8 (dk_at dksX20_fees_0 6 rfl rfl)
theorem dX20_fees_8 : decode cX20_fees 8 = .ok (.if_icmp .eq 16, 3) := dk_159 0 16 (dk_at dksX20_fees_0 8 rfl rfl)
theorem dX20_fees_11 : decode cX20_fees 11 = .ok (.aload_n 0, 1) := dk_42 (dk_at dksX20_fees_0 11 rfl rfl)
theorem dX20_fees_12 : decode cX20_fees 12 = .ok (.getfield 7, 3) := dk_180 0 7 (dk_at dksX20_fees_0 12 rfl rfl)
theorem dX20_fees_15 : decode cX20_fees 15 = .ok (.iload_n 1, 1) := dk_27 (dk_at dksX20_fees_0 15 rfl rfl)
theorem dX20_fees_16 : decode cX20_fees 16 = .ok (.iaload, 1) := dk_46 (dk_at dksX20_fees_0 16 rfl rfl)
theorem dX20_fees_17 : decode cX20_fees 17 = .ok (.bipush 9, 2) := dk_16 9 (dk_at dksX20_fees_0 17 rfl rfl)
theorem dX20_fees_19 : decode cX20_fees 19 = .ok (.if_icmp .eq 5, 3) := dk_159 0 5 (dk_at dksX20_fees_0 19 rfl rfl)
theorem dX20_fees_22 : decode cX20_fees 22 = .ok (.iconst 4, 1) := dk_7 (dk_at dksX20_fees_0 22 rfl rfl)
theorem dX20_fees_23 : decode cX20_fees 23 = .ok (.ireturn, 1) := dk_172 (dk_at dksX20_fees_0 23 rfl rfl)
theorem dX20_fees_24 : decode cX20_fees 24 = .ok (.iconst 0, 1) := dk_3 (dk_at dksX20_fees_1 0 rfl rfl)
theorem dX20_fees_25 : decode cX20_fees 25 = .ok (.istore_n 2, 1) := dk_61 (dk_at dksX20_fees_1 1 rfl rfl)
theorem dX20_fees_26 : decode cX20_fees 26 = .ok (.iload_n 2, 1) := dk_28 (dk_at dksX20_fees_1 2 rfl rfl)
theorem dX20_fees_27 : decode cX20_fees 27 = .ok (.aload_n 0, 1) := dk_42 (dk_at dksX20_fees_1 3 rfl rfl)
theorem dX20_fees_28 : decode cX20_fees 28 = .ok (.getfield 13, 3) := dk_180 0 13 (dk_at dksX20_fees_1 4 rfl rfl)
theorem dX20_fees_31 : decode cX20_fees 31 = .ok (.iload_n 1, 1) := dk_27 (dk_at dksX20_fees_1 7 rfl rfl)
theorem dX20_fees_32 : decode cX20_fees 32 = .ok (.iaload, 1) := dk_46 (dk_at dksX20_fees_1 8 rfl rfl)
theorem dX20_fees_33 : decode cX20_fees 33 = .ok (.if_icmp .ge 45, 3) := dk_162 0 45 (dk_at dksX20_fees_1 9 rfl rfl)
theorem dX20_fees_36 : decode cX20_fees 36 = .ok (.aload_n 0, 1) := dk_42 (dk_at dksX20_fees_1 12 rfl rfl)
theorem dX20_fees_37 : decode cX20_fees 37 = .ok (.getfield 16, 3) := dk_180 0 16 (dk_at dksX20_fees_1 13 rfl rfl)
theorem dX20_fees_40 : decode cX20_fees 40 = .ok (.bipush 40, 2) := dk_16 40 (dk_at dksX20_fees_1 16 rfl rfl)
theorem dX20_fees_42 : decode cX20_fees 42 = .ok (.iload_n 1, 1) := dk_27 (dk_at dksX20_fees_1 18 rfl rfl)
theorem dX20_fees_43 : decode cX20_fees 43 = .ok (.imul, 1) := dk_104 (dk_at dksX20_fees_1 19 rfl rfl)
theorem dX20_fees_44 : decode cX20_fees 44 = .ok (.iload_n 2, 1) := dk_28 (dk_at dksX20_fees_1 20 rfl rfl)
theorem dX20_fees_45 : decode cX20_fees 45 = .ok (.iadd, 1) := dk_96 (dk_at dksX20_fees_1 21 rfl rfl)
theorem dX20_fees_46 : decode cX20_fees 46 = .ok (.laload, 1) := dk_47 (dk_at dksX20_fees_1 22 rfl rfl)
theorem dX20_fees_47 : decode cX20_fees 47 = .ok (.l2i, 1) := dk_136 (dk_at dksX20_fees_1 23 rfl rfl)
theorem dX20_fees_48 : decode cX20_fees 48 = .ok (.istore_n 3, 1) := dk_62 (dk_at dksX20_fees_2 0 rfl rfl)
theorem dX20_fees_49 : decode cX20_fees 49 = .ok (.aload_n 0, 1) := dk_42 (dk_at dksX20_fees_2 1 rfl rfl)
theorem dX20_fees_50 : decode cX20_fees 50 = .ok (.dup, 1) := dk_89 (dk_at dksX20_fees_2 2 rfl rfl)
theorem dX20_fees_51 : decode cX20_fees 51 = .ok (.getfield 218, 3) := dk_180 0 218 (dk_at dksX20_fees_2 3 rfl rfl)
theorem dX20_fees_54 : decode cX20_fees 54 = .ok (.iload_n 3, 1) := dk_29 (dk_at dksX20_fees_2 6 rfl rfl)
theorem dX20_fees_55 : decode cX20_fees 55 = .ok (.ifCond .ge 7, 3) := dk_156 0 7 (dk_at dksX20_fees_2 7 rfl rfl)
theorem dX20_fees_58 : decode cX20_fees 58 = .ok (.lconst 0, 1) := dk_9 (dk_at dksX20_fees_2 10 rfl rfl)
theorem dX20_fees_59 : decode cX20_fees 59 = .ok (.goto 9, 3) := dk_167 0 9 (dk_at dksX20_fees_2 11 rfl rfl)
theorem dX20_fees_62 : decode cX20_fees 62 = .ok (.aload_n 0, 1) := dk_42 (dk_at dksX20_fees_2 14 rfl rfl)
theorem dX20_fees_63 : decode cX20_fees 63 = .ok (.iload_n 3, 1) := dk_29 (dk_at dksX20_fees_2 15 rfl rfl)
theorem dX20_fees_64 : decode cX20_fees 64 = .ok (.invokevirtual 194, 3) := dk_182 0 194 (dk_at dksX20_fees_2 16 rfl rfl)
theorem dX20_fees_67 : decode cX20_fees 67 = .ok (.i2l, 1) := dk_133 (dk_at dksX20_fees_2 19 rfl rfl)
theorem dX20_fees_68 : decode cX20_fees 68 = .ok (.ladd, 1) := dk_97 (dk_at dksX20_fees_2 20 rfl rfl)
theorem dX20_fees_69 : decode cX20_fees 69 = .ok (.putfield 218, 3) := dk_181 0 218 (dk_at dksX20_fees_2 21 rfl rfl)
theorem dX20_fees_72 : decode cX20_fees 72 = .ok (.iinc 2 1, 3) := dk_132 2 1 (dk_at dksX20_fees_3 0 rfl rfl)
theorem dX20_fees_75 : decode cX20_fees 75 = .ok (.goto (-49), 3) := dk_167 255 207 (dk_at dksX20_fees_3 3 rfl rfl)
theorem dX20_fees_78 : decode cX20_fees 78 = .ok (.iconst 0, 1) := dk_3 (dk_at dksX20_fees_3 6 rfl rfl)
theorem dX20_fees_79 : decode cX20_fees 79 = .ok (.ireturn, 1) := dk_172 (dk_at dksX20_fees_3 7 rfl rfl)
abbrev cX20_fail : ByteArray := prog_29_method_55_code
def yX20_fail : MethodName := ⟨RX20, "fail", "(I)I"⟩
def dkwX20_fail_4 : List UInt8 := [27, 172]
abbrev dktX20_fail_4 : List UInt8 := dkwX20_fail_4 ++ []
def dkwX20_fail_3 : List UInt8 := [160, 0, 21, 42, 89, 180, 0, 73, 4, 96, 181, 0, 73, 42, 27, 133, 182, 1, 41, 3, 172, 167, 255, 164]
abbrev dktX20_fail_3 : List UInt8 := dkwX20_fail_3 ++ dktX20_fail_4
def dkwX20_fail_2 : List UInt8 := [158, 0, 45, 42, 180, 0, 51, 28, 4, 100, 92, 46, 29, 100, 79, 42, 28, 4, 100, 5, 182, 1, 38, 4]
abbrev dktX20_fail_2 : List UInt8 := dkwX20_fail_2 ++ dktX20_fail_3
def dkwX20_fail_1 : List UInt8 := [46, 42, 180, 0, 51, 28, 46, 100, 62, 42, 89, 180, 1, 31, 4, 100, 181, 1, 31, 42, 180, 1, 31]
abbrev dktX20_fail_1 : List UInt8 := dkwX20_fail_1 ++ dktX20_fail_2
def dkwX20_fail_0 : List UInt8 := [42, 180, 1, 31, 158, 0, 91, 42, 180, 1, 31, 4, 100, 61, 42, 28, 182, 1, 34, 42, 180, 0, 48, 28]
abbrev dktX20_fail_0 : List UInt8 := dkwX20_fail_0 ++ dktX20_fail_1
theorem dksX20_fail_0 : cX20_fail.data.toList.drop 0 = dktX20_fail_0 := by decide +kernel
theorem dksX20_fail_1 : cX20_fail.data.toList.drop 24 = dktX20_fail_1 := dk_seg dksX20_fail_0 24 rfl rfl
theorem dksX20_fail_2 : cX20_fail.data.toList.drop 47 = dktX20_fail_2 := dk_seg dksX20_fail_1 23 rfl rfl
theorem dksX20_fail_3 : cX20_fail.data.toList.drop 71 = dktX20_fail_3 := dk_seg dksX20_fail_2 24 rfl rfl
theorem dksX20_fail_4 : cX20_fail.data.toList.drop 95 = dktX20_fail_4 := dk_seg dksX20_fail_3 24 rfl rfl
theorem dX20_fail_0 : decode cX20_fail 0 = .ok (.aload_n 0, 1) := dk_42 (dk_at dksX20_fail_0 0 rfl rfl)
theorem dX20_fail_1 : decode cX20_fail 1 = .ok (.getfield 287, 3) := dk_180 1 31 (dk_at dksX20_fail_0 1 rfl rfl)
theorem dX20_fail_4 : decode cX20_fail 4 = .ok (.ifCond .le 91, 3) := dk_158 0 91 (dk_at dksX20_fail_0 4 rfl rfl)
theorem dX20_fail_7 : decode cX20_fail 7 = .ok (.aload_n 0, 1) := dk_42 (dk_at dksX20_fail_0 7 rfl rfl)
theorem dX20_fail_8 : decode cX20_fail 8 = .ok (.getfield 287, 3) := dk_180 1 31 (dk_at dksX20_fail_0 8 rfl rfl)
theorem dX20_fail_11 : decode cX20_fail 11 = .ok (.iconst 1, 1) := dk_4 (dk_at dksX20_fail_0 11 rfl rfl)
theorem dX20_fail_12 : decode cX20_fail 12 = .ok (.isub, 1) := dk_100 (dk_at dksX20_fail_0 12 rfl rfl)
theorem dX20_fail_13 : decode cX20_fail 13 = .ok (.istore_n 2, 1) := dk_61 (dk_at dksX20_fail_0 13 rfl rfl)
theorem dX20_fail_14 : decode cX20_fail 14 = .ok (.aload_n 0, 1) := dk_42 (dk_at dksX20_fail_0 14 rfl rfl)
theorem dX20_fail_15 : decode cX20_fail 15 = .ok (.iload_n 2, 1) := dk_28 (dk_at dksX20_fail_0 15 rfl rfl)
theorem dX20_fail_16 : decode cX20_fail 16 = .ok (.invokevirtual 290, 3) := dk_182 1 34 (dk_at dksX20_fail_0 16 rfl rfl)
theorem dX20_fail_19 : decode cX20_fail 19 = .ok (.aload_n 0, 1) := dk_42 (dk_at dksX20_fail_0 19 rfl rfl)
theorem dX20_fail_20 : decode cX20_fail 20 = .ok (.getfield 48, 3) := dk_180 0 48 (dk_at dksX20_fail_0 20 rfl rfl)
theorem dX20_fail_23 : decode cX20_fail 23 = .ok (.iload_n 2, 1) := dk_28 (dk_at dksX20_fail_0 23 rfl rfl)
theorem dX20_fail_24 : decode cX20_fail 24 = .ok (.iaload, 1) := dk_46 (dk_at dksX20_fail_1 0 rfl rfl)
theorem dX20_fail_25 : decode cX20_fail 25 = .ok (.aload_n 0, 1) := dk_42 (dk_at dksX20_fail_1 1 rfl rfl)
theorem dX20_fail_26 : decode cX20_fail 26 = .ok (.getfield 51, 3) := dk_180 0 51 (dk_at dksX20_fail_1 2 rfl rfl)
theorem dX20_fail_29 : decode cX20_fail 29 = .ok (.iload_n 2, 1) := dk_28 (dk_at dksX20_fail_1 5 rfl rfl)
theorem dX20_fail_30 : decode cX20_fail 30 = .ok (.iaload, 1) := dk_46 (dk_at dksX20_fail_1 6 rfl rfl)
theorem dX20_fail_31 : decode cX20_fail 31 = .ok (.isub, 1) := dk_100 (dk_at dksX20_fail_1 7 rfl rfl)
theorem dX20_fail_32 : decode cX20_fail 32 = .ok (.istore_n 3, 1) := dk_62 (dk_at dksX20_fail_1 8 rfl rfl)
theorem dX20_fail_33 : decode cX20_fail 33 = .ok (.aload_n 0, 1) := dk_42 (dk_at dksX20_fail_1 9 rfl rfl)
theorem dX20_fail_34 : decode cX20_fail 34 = .ok (.dup, 1) := dk_89 (dk_at dksX20_fail_1 10 rfl rfl)
theorem dX20_fail_35 : decode cX20_fail 35 = .ok (.getfield 287, 3) := dk_180 1 31 (dk_at dksX20_fail_1 11 rfl rfl)
theorem dX20_fail_38 : decode cX20_fail 38 = .ok (.iconst 1, 1) := dk_4 (dk_at dksX20_fail_1 14 rfl rfl)
theorem dX20_fail_39 : decode cX20_fail 39 = .ok (.isub, 1) := dk_100 (dk_at dksX20_fail_1 15 rfl rfl)
theorem dX20_fail_40 : decode cX20_fail 40 = .ok (.putfield 287, 3) := dk_181 1 31 (dk_at dksX20_fail_1 16 rfl rfl)
theorem dX20_fail_43 : decode cX20_fail 43 = .ok (.aload_n 0, 1) := dk_42 (dk_at dksX20_fail_1 19 rfl rfl)
theorem dX20_fail_44 : decode cX20_fail 44 = .ok (.getfield 287, 3) := dk_180 1 31 (dk_at dksX20_fail_1 20 rfl rfl)
theorem dX20_fail_47 : decode cX20_fail 47 = .ok (.ifCond .le 45, 3) := dk_158 0 45 (dk_at dksX20_fail_2 0 rfl rfl)
theorem dX20_fail_50 : decode cX20_fail 50 = .ok (.aload_n 0, 1) := dk_42 (dk_at dksX20_fail_2 3 rfl rfl)
theorem dX20_fail_51 : decode cX20_fail 51 = .ok (.getfield 51, 3) := dk_180 0 51 (dk_at dksX20_fail_2 4 rfl rfl)
theorem dX20_fail_54 : decode cX20_fail 54 = .ok (.iload_n 2, 1) := dk_28 (dk_at dksX20_fail_2 7 rfl rfl)
theorem dX20_fail_55 : decode cX20_fail 55 = .ok (.iconst 1, 1) := dk_4 (dk_at dksX20_fail_2 8 rfl rfl)
theorem dX20_fail_56 : decode cX20_fail 56 = .ok (.isub, 1) := dk_100 (dk_at dksX20_fail_2 9 rfl rfl)
theorem dX20_fail_57 : decode cX20_fail 57 = .ok (.dup2, 1) := dk_92 (dk_at dksX20_fail_2 10 rfl rfl)
theorem dX20_fail_58 : decode cX20_fail 58 = .ok (.iaload, 1) := dk_46 (dk_at dksX20_fail_2 11 rfl rfl)
theorem dX20_fail_59 : decode cX20_fail 59 = .ok (.iload_n 3, 1) := dk_29 (dk_at dksX20_fail_2 12 rfl rfl)
theorem dX20_fail_60 : decode cX20_fail 60 = .ok (.isub, 1) := dk_100 (dk_at dksX20_fail_2 13 rfl rfl)
theorem dX20_fail_61 : decode cX20_fail 61 = .ok (.iastore, 1) := dk_79 (dk_at dksX20_fail_2 14 rfl rfl)
theorem dX20_fail_62 : decode cX20_fail 62 = .ok (.aload_n 0, 1) := dk_42 (dk_at dksX20_fail_2 15 rfl rfl)
theorem dX20_fail_63 : decode cX20_fail 63 = .ok (.iload_n 2, 1) := dk_28 (dk_at dksX20_fail_2 16 rfl rfl)
theorem dX20_fail_64 : decode cX20_fail 64 = .ok (.iconst 1, 1) := dk_4 (dk_at dksX20_fail_2 17 rfl rfl)
theorem dX20_fail_65 : decode cX20_fail 65 = .ok (.isub, 1) := dk_100 (dk_at dksX20_fail_2 18 rfl rfl)
theorem dX20_fail_66 : decode cX20_fail 66 = .ok (.iconst 2, 1) := dk_5 (dk_at dksX20_fail_2 19 rfl rfl)
theorem dX20_fail_67 : decode cX20_fail 67 = .ok (.invokevirtual 294, 3) := dk_182 1 38 (dk_at dksX20_fail_2 20 rfl rfl)
theorem dX20_fail_70 : decode cX20_fail 70 = .ok (.iconst 1, 1) := dk_4 (dk_at dksX20_fail_2 23 rfl rfl)
theorem dX20_fail_71 : decode cX20_fail 71 = .ok (.if_icmp .ne 21, 3) := dk_160 0 21 (dk_at dksX20_fail_3 0 rfl rfl)
theorem dX20_fail_74 : decode cX20_fail 74 = .ok (.aload_n 0, 1) := dk_42 (dk_at dksX20_fail_3 3 rfl rfl)
theorem dX20_fail_75 : decode cX20_fail 75 = .ok (.dup, 1) := dk_89 (dk_at dksX20_fail_3 4 rfl rfl)
theorem dX20_fail_76 : decode cX20_fail 76 = .ok (.getfield 73, 3) := dk_180 0 73 (dk_at dksX20_fail_3 5 rfl rfl)
theorem dX20_fail_79 : decode cX20_fail 79 = .ok (.iconst 1, 1) := dk_4 (dk_at dksX20_fail_3 8 rfl rfl)
theorem dX20_fail_80 : decode cX20_fail 80 = .ok (.iadd, 1) := dk_96 (dk_at dksX20_fail_3 9 rfl rfl)
theorem dX20_fail_81 : decode cX20_fail 81 = .ok (.putfield 73, 3) := dk_181 0 73 (dk_at dksX20_fail_3 10 rfl rfl)
theorem dX20_fail_84 : decode cX20_fail 84 = .ok (.aload_n 0, 1) := dk_42 (dk_at dksX20_fail_3 13 rfl rfl)
theorem dX20_fail_85 : decode cX20_fail 85 = .ok (.iload_n 1, 1) := dk_27 (dk_at dksX20_fail_3 14 rfl rfl)
theorem dX20_fail_86 : decode cX20_fail 86 = .ok (.i2l, 1) := dk_133 (dk_at dksX20_fail_3 15 rfl rfl)
theorem dX20_fail_87 : decode cX20_fail 87 = .ok (.invokevirtual 297, 3) := dk_182 1 41 (dk_at dksX20_fail_3 16 rfl rfl)
theorem dX20_fail_90 : decode cX20_fail 90 = .ok (.iconst 0, 1) := dk_3 (dk_at dksX20_fail_3 19 rfl rfl)
theorem dX20_fail_91 : decode cX20_fail 91 = .ok (.ireturn, 1) := dk_172 (dk_at dksX20_fail_3 20 rfl rfl)
theorem dX20_fail_92 : decode cX20_fail 92 = .ok (.goto (-92), 3) := dk_167 255 164 (dk_at dksX20_fail_3 21 rfl rfl)
theorem dX20_fail_95 : decode cX20_fail 95 = .ok (.iload_n 1, 1) := dk_27 (dk_at dksX20_fail_4 0 rfl rfl)
theorem dX20_fail_96 : decode cX20_fail 96 = .ok (.ireturn, 1) := dk_172 (dk_at dksX20_fail_4 1 rfl rfl)
abbrev cX20_undo : ByteArray := prog_29_method_52_code
def yX20_undo : MethodName := ⟨RX20, "undo", "(I)V"⟩
def dkwX20_undo_2 : List UInt8 := [89, 180, 0, 180, 4, 96, 181, 0, 180, 177]
abbrev dktX20_undo_2 : List UInt8 := dkwX20_undo_2 ++ []
def dkwX20_undo_1 : List UInt8 := [180, 0, 16, 28, 42, 180, 0, 57, 17, 9, 96, 27, 104, 28, 96, 47, 80, 132, 2, 1, 167, 255, 224, 42]
abbrev dktX20_undo_1 : List UInt8 := dkwX20_undo_1 ++ dktX20_undo_2
def dkwX20_undo_0 : List UInt8 := [42, 42, 180, 0, 54, 27, 46, 181, 0, 103, 3, 61, 28, 16, 40, 42, 180, 0, 103, 104, 162, 0, 27, 42]
abbrev dktX20_undo_0 : List UInt8 := dkwX20_undo_0 ++ dktX20_undo_1
theorem dksX20_undo_0 : cX20_undo.data.toList.drop 0 = dktX20_undo_0 := by decide +kernel
theorem dksX20_undo_1 : cX20_undo.data.toList.drop 24 = dktX20_undo_1 := dk_seg dksX20_undo_0 24 rfl rfl
theorem dksX20_undo_2 : cX20_undo.data.toList.drop 48 = dktX20_undo_2 := dk_seg dksX20_undo_1 24 rfl rfl
theorem dX20_undo_0 : decode cX20_undo 0 = .ok (.aload_n 0, 1) := dk_42 (dk_at dksX20_undo_0 0 rfl rfl)
theorem dX20_undo_1 : decode cX20_undo 1 = .ok (.aload_n 0, 1) := dk_42 (dk_at dksX20_undo_0 1 rfl rfl)
theorem dX20_undo_2 : decode cX20_undo 2 = .ok (.getfield 54, 3) := dk_180 0 54 (dk_at dksX20_undo_0 2 rfl rfl)
theorem dX20_undo_5 : decode cX20_undo 5 = .ok (.iload_n 1, 1) := dk_27 (dk_at dksX20_undo_0 5 rfl rfl)
theorem dX20_undo_6 : decode cX20_undo 6 = .ok (.iaload, 1) := dk_46 (dk_at dksX20_undo_0 6 rfl rfl)
theorem dX20_undo_7 : decode cX20_undo 7 = .ok (.putfield 103, 3) := dk_181 0 103 (dk_at dksX20_undo_0 7 rfl rfl)
theorem dX20_undo_10 : decode cX20_undo 10 = .ok (.iconst 0, 1) := dk_3 (dk_at dksX20_undo_0 10 rfl rfl)
theorem dX20_undo_11 : decode cX20_undo 11 = .ok (.istore_n 2, 1) := dk_61 (dk_at dksX20_undo_0 11 rfl rfl)
theorem dX20_undo_12 : decode cX20_undo 12 = .ok (.iload_n 2, 1) := dk_28 (dk_at dksX20_undo_0 12 rfl rfl)
theorem dX20_undo_13 : decode cX20_undo 13 = .ok (.bipush 40, 2) := dk_16 40 (dk_at dksX20_undo_0 13 rfl rfl)
theorem dX20_undo_15 : decode cX20_undo 15 = .ok (.aload_n 0, 1) := dk_42 (dk_at dksX20_undo_0 15 rfl rfl)
theorem dX20_undo_16 : decode cX20_undo 16 = .ok (.getfield 103, 3) := dk_180 0 103 (dk_at dksX20_undo_0 16 rfl rfl)
theorem dX20_undo_19 : decode cX20_undo 19 = .ok (.imul, 1) := dk_104 (dk_at dksX20_undo_0 19 rfl rfl)
theorem dX20_undo_20 : decode cX20_undo 20 = .ok (.if_icmp .ge 27, 3) := dk_162 0 27 (dk_at dksX20_undo_0 20 rfl rfl)
theorem dX20_undo_23 : decode cX20_undo 23 = .ok (.aload_n 0, 1) := dk_42 (dk_at dksX20_undo_0 23 rfl rfl)
theorem dX20_undo_24 : decode cX20_undo 24 = .ok (.getfield 16, 3) := dk_180 0 16 (dk_at dksX20_undo_1 0 rfl rfl)
theorem dX20_undo_27 : decode cX20_undo 27 = .ok (.iload_n 2, 1) := dk_28 (dk_at dksX20_undo_1 3 rfl rfl)
theorem dX20_undo_28 : decode cX20_undo 28 = .ok (.aload_n 0, 1) := dk_42 (dk_at dksX20_undo_1 4 rfl rfl)
theorem dX20_undo_29 : decode cX20_undo 29 = .ok (.getfield 57, 3) := dk_180 0 57 (dk_at dksX20_undo_1 5 rfl rfl)
theorem dX20_undo_32 : decode cX20_undo 32 = .ok (.sipush 2400, 3) := dk_17 9 96 (dk_at dksX20_undo_1 8 rfl rfl)
theorem dX20_undo_35 : decode cX20_undo 35 = .ok (.iload_n 1, 1) := dk_27 (dk_at dksX20_undo_1 11 rfl rfl)
theorem dX20_undo_36 : decode cX20_undo 36 = .ok (.imul, 1) := dk_104 (dk_at dksX20_undo_1 12 rfl rfl)
theorem dX20_undo_37 : decode cX20_undo 37 = .ok (.iload_n 2, 1) := dk_28 (dk_at dksX20_undo_1 13 rfl rfl)
theorem dX20_undo_38 : decode cX20_undo 38 = .ok (.iadd, 1) := dk_96 (dk_at dksX20_undo_1 14 rfl rfl)
theorem dX20_undo_39 : decode cX20_undo 39 = .ok (.laload, 1) := dk_47 (dk_at dksX20_undo_1 15 rfl rfl)
theorem dX20_undo_40 : decode cX20_undo 40 = .ok (.lastore, 1) := dk_80 (dk_at dksX20_undo_1 16 rfl rfl)
theorem dX20_undo_41 : decode cX20_undo 41 = .ok (.iinc 2 1, 3) := dk_132 2 1 (dk_at dksX20_undo_1 17 rfl rfl)
theorem dX20_undo_44 : decode cX20_undo 44 = .ok (.goto (-32), 3) := dk_167 255 224 (dk_at dksX20_undo_1 20 rfl rfl)
theorem dX20_undo_47 : decode cX20_undo 47 = .ok (.aload_n 0, 1) := dk_42 (dk_at dksX20_undo_1 23 rfl rfl)
theorem dX20_undo_48 : decode cX20_undo 48 = .ok (.dup, 1) := dk_89 (dk_at dksX20_undo_2 0 rfl rfl)
theorem dX20_undo_49 : decode cX20_undo 49 = .ok (.getfield 180, 3) := dk_180 0 180 (dk_at dksX20_undo_2 1 rfl rfl)
theorem dX20_undo_52 : decode cX20_undo 52 = .ok (.iconst 1, 1) := dk_4 (dk_at dksX20_undo_2 4 rfl rfl)
theorem dX20_undo_53 : decode cX20_undo 53 = .ok (.iadd, 1) := dk_96 (dk_at dksX20_undo_2 5 rfl rfl)
theorem dX20_undo_54 : decode cX20_undo 54 = .ok (.putfield 180, 3) := dk_181 0 180 (dk_at dksX20_undo_2 6 rfl rfl)
theorem dX20_undo_57 : decode cX20_undo 57 = .ok (.return_, 1) := dk_177 (dk_at dksX20_undo_2 9 rfl rfl)
abbrev cX20_told : ByteArray := prog_29_method_58_code
def yX20_told : MethodName := ⟨RX20, "told", "(I)I"⟩
def dkwX20_told_2 : List UInt8 := [7, 160, 0, 10, 42, 180, 0, 73, 167, 0, 5, 16, 154, 172]
abbrev dktX20_told_2 : List UInt8 := dkwX20_told_2 ++ []
def dkwX20_told_1 : List UInt8 := [5, 160, 0, 10, 42, 180, 0, 67, 167, 0, 29, 27, 6, 160, 0, 10, 42, 180, 0, 70, 167, 0, 17, 27]
abbrev dktX20_told_1 : List UInt8 := dkwX20_told_1 ++ dktX20_told_2
def dkwX20_told_0 : List UInt8 := [27, 154, 0, 10, 42, 180, 0, 60, 167, 0, 53, 27, 4, 160, 0, 10, 42, 180, 0, 64, 167, 0, 41, 27]
abbrev dktX20_told_0 : List UInt8 := dkwX20_told_0 ++ dktX20_told_1
theorem dksX20_told_0 : cX20_told.data.toList.drop 0 = dktX20_told_0 := by decide +kernel
theorem dksX20_told_1 : cX20_told.data.toList.drop 24 = dktX20_told_1 := dk_seg dksX20_told_0 24 rfl rfl
theorem dksX20_told_2 : cX20_told.data.toList.drop 48 = dktX20_told_2 := dk_seg dksX20_told_1 24 rfl rfl
theorem dX20_told_0 : decode cX20_told 0 = .ok (.iload_n 1, 1) := dk_27 (dk_at dksX20_told_0 0 rfl rfl)
theorem dX20_told_1 : decode cX20_told 1 = .ok (.ifCond .ne 10, 3) := dk_154 0 10 (dk_at dksX20_told_0 1 rfl rfl)
theorem dX20_told_4 : decode cX20_told 4 = .ok (.aload_n 0, 1) := dk_42 (dk_at dksX20_told_0 4 rfl rfl)
theorem dX20_told_5 : decode cX20_told 5 = .ok (.getfield 60, 3) := dk_180 0 60 (dk_at dksX20_told_0 5 rfl rfl)
theorem dX20_told_8 : decode cX20_told 8 = .ok (.goto 53, 3) := dk_167 0 53 (dk_at dksX20_told_0 8 rfl rfl)
theorem dX20_told_11 : decode cX20_told 11 = .ok (.iload_n 1, 1) := dk_27 (dk_at dksX20_told_0 11 rfl rfl)
theorem dX20_told_12 : decode cX20_told 12 = .ok (.iconst 1, 1) := dk_4 (dk_at dksX20_told_0 12 rfl rfl)
theorem dX20_told_13 : decode cX20_told 13 = .ok (.if_icmp .ne 10, 3) := dk_160 0 10 (dk_at dksX20_told_0 13 rfl rfl)
theorem dX20_told_16 : decode cX20_told 16 = .ok (.aload_n 0, 1) := dk_42 (dk_at dksX20_told_0 16 rfl rfl)
theorem dX20_told_17 : decode cX20_told 17 = .ok (.getfield 64, 3) := dk_180 0 64 (dk_at dksX20_told_0 17 rfl rfl)
theorem dX20_told_20 : decode cX20_told 20 = .ok (.goto 41, 3) := dk_167 0 41 (dk_at dksX20_told_0 20 rfl rfl)
theorem dX20_told_23 : decode cX20_told 23 = .ok (.iload_n 1, 1) := dk_27 (dk_at dksX20_told_0 23 rfl rfl)
theorem dX20_told_24 : decode cX20_told 24 = .ok (.iconst 2, 1) := dk_5 (dk_at dksX20_told_1 0 rfl rfl)
theorem dX20_told_25 : decode cX20_told 25 = .ok (.if_icmp .ne 10, 3) := dk_160 0 10 (dk_at dksX20_told_1 1 rfl rfl)
theorem dX20_told_28 : decode cX20_told 28 = .ok (.aload_n 0, 1) := dk_42 (dk_at dksX20_told_1 4 rfl rfl)
theorem dX20_told_29 : decode cX20_told 29 = .ok (.getfield 67, 3) := dk_180 0 67 (dk_at dksX20_told_1 5 rfl rfl)
theorem dX20_told_32 : decode cX20_told 32 = .ok (.goto 29, 3) := dk_167 0 29 (dk_at dksX20_told_1 8 rfl rfl)
theorem dX20_told_35 : decode cX20_told 35 = .ok (.iload_n 1, 1) := dk_27 (dk_at dksX20_told_1 11 rfl rfl)
theorem dX20_told_36 : decode cX20_told 36 = .ok (.iconst 3, 1) := dk_6 (dk_at dksX20_told_1 12 rfl rfl)
theorem dX20_told_37 : decode cX20_told 37 = .ok (.if_icmp .ne 10, 3) := dk_160 0 10 (dk_at dksX20_told_1 13 rfl rfl)
theorem dX20_told_40 : decode cX20_told 40 = .ok (.aload_n 0, 1) := dk_42 (dk_at dksX20_told_1 16 rfl rfl)
theorem dX20_told_41 : decode cX20_told 41 = .ok (.getfield 70, 3) := dk_180 0 70 (dk_at dksX20_told_1 17 rfl rfl)
theorem dX20_told_44 : decode cX20_told 44 = .ok (.goto 17, 3) := dk_167 0 17 (dk_at dksX20_told_1 20 rfl rfl)
theorem dX20_told_47 : decode cX20_told 47 = .ok (.iload_n 1, 1) := dk_27 (dk_at dksX20_told_1 23 rfl rfl)
theorem dX20_told_48 : decode cX20_told 48 = .ok (.iconst 4, 1) := dk_7 (dk_at dksX20_told_2 0 rfl rfl)
theorem dX20_told_49 : decode cX20_told 49 = .ok (.if_icmp .ne 10, 3) := dk_160 0 10 (dk_at dksX20_told_2 1 rfl rfl)
theorem dX20_told_52 : decode cX20_told 52 = .ok (.aload_n 0, 1) := dk_42 (dk_at dksX20_told_2 4 rfl rfl)
theorem dX20_told_53 : decode cX20_told 53 = .ok (.getfield 73, 3) := dk_180 0 73 (dk_at dksX20_told_2 5 rfl rfl)
theorem dX20_told_56 : decode cX20_told 56 = .ok (.goto 5, 3) := dk_167 0 5 (dk_at dksX20_told_2 8 rfl rfl)
theorem dX20_told_59 : decode cX20_told 59 = .ok (.bipush (-102), 2) := dk_16 154 (dk_at dksX20_told_2 11 rfl rfl)
theorem dX20_told_61 : decode cX20_told 61 = .ok (.ireturn, 1) := dk_172 (dk_at dksX20_told_2 13 rfl rfl)
abbrev cX20_answer : ByteArray := prog_29_method_59_code
def yX20_answer : MethodName := ⟨RX20, "answer", "(I)J"⟩
def dkwX20_answer_1 : List UInt8 := [27, 47, 167, 0, 6, 20, 0, 189, 173]
abbrev dktX20_answer_1 : List UInt8 := dkwX20_answer_1 ++ []
def dkwX20_answer_0 : List UInt8 := [27, 133, 9, 20, 1, 65, 184, 0, 123, 153, 0, 20, 27, 42, 180, 0, 70, 162, 0, 12, 42, 180, 0, 76]
abbrev dktX20_answer_0 : List UInt8 := dkwX20_answer_0 ++ dktX20_answer_1
theorem dksX20_answer_0 : cX20_answer.data.toList.drop 0 = dktX20_answer_0 := by decide +kernel
theorem dksX20_answer_1 : cX20_answer.data.toList.drop 24 = dktX20_answer_1 := dk_seg dksX20_answer_0 24 rfl rfl
theorem dX20_answer_0 : decode cX20_answer 0 = .ok (.iload_n 1, 1) := dk_27 (dk_at dksX20_answer_0 0 rfl rfl)
theorem dX20_answer_1 : decode cX20_answer 1 = .ok (.i2l, 1) := dk_133 (dk_at dksX20_answer_0 1 rfl rfl)
theorem dX20_answer_2 : decode cX20_answer 2 = .ok (.lconst 0, 1) := dk_9 (dk_at dksX20_answer_0 2 rfl rfl)
theorem dX20_answer_3 : decode cX20_answer 3 = .ok (.ldc2_w 321, 3) := dk_20 1 65 (dk_at dksX20_answer_0 3 rfl rfl)
theorem dX20_answer_6 : decode cX20_answer 6 = .ok (.invokestatic 123, 3) := dk_184 0 123 (dk_at dksX20_answer_0 6 rfl rfl)
theorem dX20_answer_9 : decode cX20_answer 9 = .ok (.ifCond .eq 20, 3) := dk_153 0 20 (dk_at dksX20_answer_0 9 rfl rfl)
theorem dX20_answer_12 : decode cX20_answer 12 = .ok (.iload_n 1, 1) := dk_27 (dk_at dksX20_answer_0 12 rfl rfl)
theorem dX20_answer_13 : decode cX20_answer 13 = .ok (.aload_n 0, 1) := dk_42 (dk_at dksX20_answer_0 13 rfl rfl)
theorem dX20_answer_14 : decode cX20_answer 14 = .ok (.getfield 70, 3) := dk_180 0 70 (dk_at dksX20_answer_0 14 rfl rfl)
theorem dX20_answer_17 : decode cX20_answer 17 = .ok (.if_icmp .ge 12, 3) := dk_162 0 12 (dk_at dksX20_answer_0 17 rfl rfl)
theorem dX20_answer_20 : decode cX20_answer 20 = .ok (.aload_n 0, 1) := dk_42 (dk_at dksX20_answer_0 20 rfl rfl)
theorem dX20_answer_21 : decode cX20_answer 21 = .ok (.getfield 76, 3) := dk_180 0 76 (dk_at dksX20_answer_0 21 rfl rfl)
theorem dX20_answer_24 : decode cX20_answer 24 = .ok (.iload_n 1, 1) := dk_27 (dk_at dksX20_answer_1 0 rfl rfl)
theorem dX20_answer_25 : decode cX20_answer 25 = .ok (.laload, 1) := dk_47 (dk_at dksX20_answer_1 1 rfl rfl)
theorem dX20_answer_26 : decode cX20_answer 26 = .ok (.goto 6, 3) := dk_167 0 6 (dk_at dksX20_answer_1 2 rfl rfl)
theorem dX20_answer_29 : decode cX20_answer 29 = .ok (.ldc2_w 189, 3) := dk_20 0 189 (dk_at dksX20_answer_1 5 rfl rfl)
theorem dX20_answer_32 : decode cX20_answer 32 = .ok (.lreturn, 1) := dk_173 (dk_at dksX20_answer_1 8 rfl rfl)
theorem q72 : (Jvm.Cond.initialized "NativeSubsetModel") ∈ lw_all := lw_g (lw_at lw_m1 23 rfl) rfl
theorem q513 : (Jvm.Cond.selects "NativeSubsetModel" ({ cls := "java/lang/Object", name := "getClass", desc := "()Ljava/lang/Class;" } : Jvm.MethodName) ({ cls := "java/lang/Object", name := "getClass", desc := "()Ljava/lang/Class;" } : Jvm.MethodName)) ∈ lw_all := lw_g (lw_at lw_m2 224 rfl) rfl
theorem q1473 : (Jvm.Cond.instantiable "NativeSubsetModel" (33 : Nat)) ∈ lw_all := lw_g (lw_at lw_m6 224 rfl) rfl
theorem q1475 : (Jvm.Cond.instanceMethod ({ cls := "NativeSubsetModel", name := "<init>", desc := "()V" } : Jvm.MethodName)) ∈ lw_all := lw_g (lw_at lw_m6 226 rfl) rfl
theorem q1476 : (Jvm.Cond.code ({ cls := "NativeSubsetModel", name := "<init>", desc := "()V" } : Jvm.MethodName) prog_29_method_1_code (1 : Nat) (Option.none : Option Jvm.ClassFile.FieldType)) ∈ lw_all := lw_g (lw_at lw_m6 227 rfl) rfl
theorem q1477 : (Jvm.Cond.methodLink "NativeSubsetModel" (1 : Nat) ({ cls := "java/lang/Object", name := "<init>", desc := "()V" } : Jvm.MethodName)) ∈ lw_all := lw_g (lw_at lw_m6 228 rfl) rfl
theorem q1478 : (Jvm.Cond.constant "NativeSubsetModel" (29 : Nat) (320000 : Int32)) ∈ lw_all := lw_g (lw_at lw_m6 229 rfl) rfl
theorem q1479 : (Jvm.Cond.fieldLink "NativeSubsetModel" (100 : Nat) "NativeSubsetModel" "thrown" "I") ∈ lw_all := lw_g (lw_at lw_m6 230 rfl) rfl
theorem q1480 : (Jvm.Cond.fieldLink "NativeSubsetModel" (103 : Nat) "NativeSubsetModel" "rows" "I") ∈ lw_all := lw_g (lw_at lw_m6 231 rfl) rfl
theorem q1481 : (Jvm.Cond.fieldLink "NativeSubsetModel" (7 : Nat) "NativeSubsetModel" "kind" "[I") ∈ lw_all := lw_g (lw_at lw_m6 232 rfl) rfl
theorem q1482 : (Jvm.Cond.fieldLink "NativeSubsetModel" (13 : Nat) "NativeSubsetModel" "length" "[I") ∈ lw_all := lw_g (lw_at lw_m6 233 rfl) rfl
theorem q1483 : (Jvm.Cond.fieldLink "NativeSubsetModel" (16 : Nat) "NativeSubsetModel" "element" "[J") ∈ lw_all := lw_g (lw_at lw_m6 234 rfl) rfl
theorem q1484 : (Jvm.Cond.fieldLink "NativeSubsetModel" (137 : Nat) "NativeSubsetModel" "units" "I") ∈ lw_all := lw_g (lw_at lw_m6 235 rfl) rfl
theorem q1485 : (Jvm.Cond.fieldLink "NativeSubsetModel" (20 : Nat) "NativeSubsetModel" "unitClass" "[I") ∈ lw_all := lw_g (lw_at lw_m6 236 rfl) rfl
theorem q1486 : (Jvm.Cond.fieldLink "NativeSubsetModel" (23 : Nat) "NativeSubsetModel" "unitN" "[I") ∈ lw_all := lw_g (lw_at lw_m6 237 rfl) rfl
theorem q1487 : (Jvm.Cond.fieldLink "NativeSubsetModel" (158 : Nat) "NativeSubsetModel" "inners" "I") ∈ lw_all := lw_g (lw_at lw_m6 238 rfl) rfl
theorem q1488 : (Jvm.Cond.fieldLink "NativeSubsetModel" (26 : Nat) "NativeSubsetModel" "innerLength" "[I") ∈ lw_all := lw_g (lw_at lw_m6 239 rfl) rfl
theorem q1489 : (Jvm.Cond.fieldLink "NativeSubsetModel" (30 : Nat) "NativeSubsetModel" "ints" "[I") ∈ lw_all := lw_g (lw_at lw_m7 0 rfl) rfl
theorem q1490 : (Jvm.Cond.fieldLink "NativeSubsetModel" (177 : Nat) "NativeSubsetModel" "acts" "I") ∈ lw_all := lw_g (lw_at lw_m7 1 rfl) rfl
theorem q1491 : (Jvm.Cond.fieldLink "NativeSubsetModel" (180 : Nat) "NativeSubsetModel" "undone" "I") ∈ lw_all := lw_g (lw_at lw_m7 2 rfl) rfl
theorem q1492 : (Jvm.Cond.fieldLink "NativeSubsetModel" (183 : Nat) "NativeSubsetModel" "paid" "I") ∈ lw_all := lw_g (lw_at lw_m7 3 rfl) rfl
theorem q1493 : (Jvm.Cond.fieldLink "NativeSubsetModel" (186 : Nat) "NativeSubsetModel" "most" "I") ∈ lw_all := lw_g (lw_at lw_m7 4 rfl) rfl
theorem q1494 : (Jvm.Cond.fieldLink "NativeSubsetModel" (311 : Nat) "NativeSubsetModel" "faults" "I") ∈ lw_all := lw_g (lw_at lw_m7 5 rfl) rfl
theorem q1495 : (Jvm.Cond.fieldLink "NativeSubsetModel" (33 : Nat) "NativeSubsetModel" "size" "[I") ∈ lw_all := lw_g (lw_at lw_m7 6 rfl) rfl
theorem q1496 : (Jvm.Cond.fieldLink "NativeSubsetModel" (36 : Nat) "NativeSubsetModel" "act" "[I") ∈ lw_all := lw_g (lw_at lw_m7 7 rfl) rfl
theorem q1497 : (Jvm.Cond.fieldLink "NativeSubsetModel" (218 : Nat) "NativeSubsetModel" "answer" "J") ∈ lw_all := lw_g (lw_at lw_m7 8 rfl) rfl
theorem q1498 : (Jvm.Cond.fieldLink "NativeSubsetModel" (39 : Nat) "NativeSubsetModel" "held" "[J") ∈ lw_all := lw_g (lw_at lw_m7 9 rfl) rfl
theorem q1499 : (Jvm.Cond.fieldLink "NativeSubsetModel" (287 : Nat) "NativeSubsetModel" "calls" "I") ∈ lw_all := lw_g (lw_at lw_m7 10 rfl) rfl
theorem q1500 : (Jvm.Cond.fieldLink "NativeSubsetModel" (42 : Nat) "NativeSubsetModel" "callPlan" "[I") ∈ lw_all := lw_g (lw_at lw_m7 11 rfl) rfl
theorem q1501 : (Jvm.Cond.fieldLink "NativeSubsetModel" (45 : Nat) "NativeSubsetModel" "callAt" "[I") ∈ lw_all := lw_g (lw_at lw_m7 12 rfl) rfl
theorem q1502 : (Jvm.Cond.fieldLink "NativeSubsetModel" (48 : Nat) "NativeSubsetModel" "callGiven" "[I") ∈ lw_all := lw_g (lw_at lw_m7 13 rfl) rfl
theorem q1503 : (Jvm.Cond.fieldLink "NativeSubsetModel" (51 : Nat) "NativeSubsetModel" "callLeft" "[I") ∈ lw_all := lw_g (lw_at lw_m7 14 rfl) rfl
theorem q1504 : (Jvm.Cond.fieldLink "NativeSubsetModel" (54 : Nat) "NativeSubsetModel" "keptRows" "[I") ∈ lw_all := lw_g (lw_at lw_m7 15 rfl) rfl
theorem q1505 : (Jvm.Cond.fieldLink "NativeSubsetModel" (57 : Nat) "NativeSubsetModel" "kept" "[J") ∈ lw_all := lw_g (lw_at lw_m7 16 rfl) rfl
theorem q1506 : (Jvm.Cond.fieldLink "NativeSubsetModel" (60 : Nat) "NativeSubsetModel" "ranWith" "I") ∈ lw_all := lw_g (lw_at lw_m7 17 rfl) rfl
theorem q1507 : (Jvm.Cond.fieldLink "NativeSubsetModel" (64 : Nat) "NativeSubsetModel" "ranPaid" "I") ∈ lw_all := lw_g (lw_at lw_m7 18 rfl) rfl
theorem q1508 : (Jvm.Cond.fieldLink "NativeSubsetModel" (67 : Nat) "NativeSubsetModel" "ranActs" "I") ∈ lw_all := lw_g (lw_at lw_m7 19 rfl) rfl
theorem q1509 : (Jvm.Cond.fieldLink "NativeSubsetModel" (70 : Nat) "NativeSubsetModel" "ranEnds" "I") ∈ lw_all := lw_g (lw_at lw_m7 20 rfl) rfl
theorem q1510 : (Jvm.Cond.fieldLink "NativeSubsetModel" (73 : Nat) "NativeSubsetModel" "ranCaught" "I") ∈ lw_all := lw_g (lw_at lw_m7 21 rfl) rfl
theorem q1511 : (Jvm.Cond.fieldLink "NativeSubsetModel" (76 : Nat) "NativeSubsetModel" "answers" "[J") ∈ lw_all := lw_g (lw_at lw_m7 22 rfl) rfl
theorem q1512 : (Jvm.Cond.lays "NativeSubsetModel" "NativeSubsetModel" "thrown" "I") ∈ lw_all := lw_g (lw_at lw_m7 23 rfl) rfl
theorem q1513 : (Jvm.Cond.soleField "NativeSubsetModel" "thrown") ∈ lw_all := lw_g (lw_at lw_m7 24 rfl) rfl
theorem q1514 : (Jvm.Cond.lays "NativeSubsetModel" "NativeSubsetModel" "rows" "I") ∈ lw_all := lw_g (lw_at lw_m7 25 rfl) rfl
theorem q1515 : (Jvm.Cond.soleField "NativeSubsetModel" "rows") ∈ lw_all := lw_g (lw_at lw_m7 26 rfl) rfl
theorem q1516 : (Jvm.Cond.laysFinal "NativeSubsetModel" "NativeSubsetModel" "kind" "[I") ∈ lw_all := lw_g (lw_at lw_m7 27 rfl) rfl
theorem q1517 : (Jvm.Cond.soleField "NativeSubsetModel" "kind") ∈ lw_all := lw_g (lw_at lw_m7 28 rfl) rfl
theorem q1518 : (Jvm.Cond.laysFinal "NativeSubsetModel" "NativeSubsetModel" "length" "[I") ∈ lw_all := lw_g (lw_at lw_m7 29 rfl) rfl
theorem q1519 : (Jvm.Cond.soleField "NativeSubsetModel" "length") ∈ lw_all := lw_g (lw_at lw_m7 30 rfl) rfl
theorem q1520 : (Jvm.Cond.laysFinal "NativeSubsetModel" "NativeSubsetModel" "element" "[J") ∈ lw_all := lw_g (lw_at lw_m7 31 rfl) rfl
theorem q1521 : (Jvm.Cond.soleField "NativeSubsetModel" "element") ∈ lw_all := lw_g (lw_at lw_m7 32 rfl) rfl
theorem q1522 : (Jvm.Cond.lays "NativeSubsetModel" "NativeSubsetModel" "units" "I") ∈ lw_all := lw_g (lw_at lw_m7 33 rfl) rfl
theorem q1523 : (Jvm.Cond.soleField "NativeSubsetModel" "units") ∈ lw_all := lw_g (lw_at lw_m7 34 rfl) rfl
theorem q1524 : (Jvm.Cond.laysFinal "NativeSubsetModel" "NativeSubsetModel" "unitClass" "[I") ∈ lw_all := lw_g (lw_at lw_m7 35 rfl) rfl
theorem q1525 : (Jvm.Cond.soleField "NativeSubsetModel" "unitClass") ∈ lw_all := lw_g (lw_at lw_m7 36 rfl) rfl
theorem q1526 : (Jvm.Cond.laysFinal "NativeSubsetModel" "NativeSubsetModel" "unitN" "[I") ∈ lw_all := lw_g (lw_at lw_m7 37 rfl) rfl
theorem q1527 : (Jvm.Cond.soleField "NativeSubsetModel" "unitN") ∈ lw_all := lw_g (lw_at lw_m7 38 rfl) rfl
theorem q1528 : (Jvm.Cond.lays "NativeSubsetModel" "NativeSubsetModel" "inners" "I") ∈ lw_all := lw_g (lw_at lw_m7 39 rfl) rfl
theorem q1529 : (Jvm.Cond.soleField "NativeSubsetModel" "inners") ∈ lw_all := lw_g (lw_at lw_m7 40 rfl) rfl
theorem q1530 : (Jvm.Cond.laysFinal "NativeSubsetModel" "NativeSubsetModel" "innerLength" "[I") ∈ lw_all := lw_g (lw_at lw_m7 41 rfl) rfl
theorem q1531 : (Jvm.Cond.soleField "NativeSubsetModel" "innerLength") ∈ lw_all := lw_g (lw_at lw_m7 42 rfl) rfl
theorem q1532 : (Jvm.Cond.laysFinal "NativeSubsetModel" "NativeSubsetModel" "ints" "[I") ∈ lw_all := lw_g (lw_at lw_m7 43 rfl) rfl
theorem q1533 : (Jvm.Cond.soleField "NativeSubsetModel" "ints") ∈ lw_all := lw_g (lw_at lw_m7 44 rfl) rfl
theorem q1534 : (Jvm.Cond.lays "NativeSubsetModel" "NativeSubsetModel" "acts" "I") ∈ lw_all := lw_g (lw_at lw_m7 45 rfl) rfl
theorem q1535 : (Jvm.Cond.soleField "NativeSubsetModel" "acts") ∈ lw_all := lw_g (lw_at lw_m7 46 rfl) rfl
theorem q1536 : (Jvm.Cond.lays "NativeSubsetModel" "NativeSubsetModel" "undone" "I") ∈ lw_all := lw_g (lw_at lw_m7 47 rfl) rfl
theorem q1537 : (Jvm.Cond.soleField "NativeSubsetModel" "undone") ∈ lw_all := lw_g (lw_at lw_m7 48 rfl) rfl
theorem q1538 : (Jvm.Cond.lays "NativeSubsetModel" "NativeSubsetModel" "paid" "I") ∈ lw_all := lw_g (lw_at lw_m7 49 rfl) rfl
theorem q1539 : (Jvm.Cond.soleField "NativeSubsetModel" "paid") ∈ lw_all := lw_g (lw_at lw_m7 50 rfl) rfl
theorem q1540 : (Jvm.Cond.lays "NativeSubsetModel" "NativeSubsetModel" "most" "I") ∈ lw_all := lw_g (lw_at lw_m7 51 rfl) rfl
theorem q1541 : (Jvm.Cond.soleField "NativeSubsetModel" "most") ∈ lw_all := lw_g (lw_at lw_m7 52 rfl) rfl
theorem q1542 : (Jvm.Cond.lays "NativeSubsetModel" "NativeSubsetModel" "faults" "I") ∈ lw_all := lw_g (lw_at lw_m7 53 rfl) rfl
theorem q1543 : (Jvm.Cond.soleField "NativeSubsetModel" "faults") ∈ lw_all := lw_g (lw_at lw_m7 54 rfl) rfl
theorem q1544 : (Jvm.Cond.laysFinal "NativeSubsetModel" "NativeSubsetModel" "size" "[I") ∈ lw_all := lw_g (lw_at lw_m7 55 rfl) rfl
theorem q1545 : (Jvm.Cond.soleField "NativeSubsetModel" "size") ∈ lw_all := lw_g (lw_at lw_m7 56 rfl) rfl
theorem q1546 : (Jvm.Cond.laysFinal "NativeSubsetModel" "NativeSubsetModel" "act" "[I") ∈ lw_all := lw_g (lw_at lw_m7 57 rfl) rfl
theorem q1547 : (Jvm.Cond.soleField "NativeSubsetModel" "act") ∈ lw_all := lw_g (lw_at lw_m7 58 rfl) rfl
theorem q1548 : (Jvm.Cond.lays "NativeSubsetModel" "NativeSubsetModel" "answer" "J") ∈ lw_all := lw_g (lw_at lw_m7 59 rfl) rfl
theorem q1549 : (Jvm.Cond.soleField "NativeSubsetModel" "answer") ∈ lw_all := lw_g (lw_at lw_m7 60 rfl) rfl
theorem q1550 : (Jvm.Cond.laysFinal "NativeSubsetModel" "NativeSubsetModel" "held" "[J") ∈ lw_all := lw_g (lw_at lw_m7 61 rfl) rfl
theorem q1551 : (Jvm.Cond.soleField "NativeSubsetModel" "held") ∈ lw_all := lw_g (lw_at lw_m7 62 rfl) rfl
theorem q1552 : (Jvm.Cond.lays "NativeSubsetModel" "NativeSubsetModel" "calls" "I") ∈ lw_all := lw_g (lw_at lw_m7 63 rfl) rfl
theorem q1553 : (Jvm.Cond.soleField "NativeSubsetModel" "calls") ∈ lw_all := lw_g (lw_at lw_m7 64 rfl) rfl
theorem q1554 : (Jvm.Cond.laysFinal "NativeSubsetModel" "NativeSubsetModel" "callPlan" "[I") ∈ lw_all := lw_g (lw_at lw_m7 65 rfl) rfl
theorem q1555 : (Jvm.Cond.soleField "NativeSubsetModel" "callPlan") ∈ lw_all := lw_g (lw_at lw_m7 66 rfl) rfl
theorem q1556 : (Jvm.Cond.laysFinal "NativeSubsetModel" "NativeSubsetModel" "callAt" "[I") ∈ lw_all := lw_g (lw_at lw_m7 67 rfl) rfl
theorem q1557 : (Jvm.Cond.soleField "NativeSubsetModel" "callAt") ∈ lw_all := lw_g (lw_at lw_m7 68 rfl) rfl
theorem q1558 : (Jvm.Cond.laysFinal "NativeSubsetModel" "NativeSubsetModel" "callGiven" "[I") ∈ lw_all := lw_g (lw_at lw_m7 69 rfl) rfl
theorem q1559 : (Jvm.Cond.soleField "NativeSubsetModel" "callGiven") ∈ lw_all := lw_g (lw_at lw_m7 70 rfl) rfl
theorem q1560 : (Jvm.Cond.laysFinal "NativeSubsetModel" "NativeSubsetModel" "callLeft" "[I") ∈ lw_all := lw_g (lw_at lw_m7 71 rfl) rfl
theorem q1561 : (Jvm.Cond.soleField "NativeSubsetModel" "callLeft") ∈ lw_all := lw_g (lw_at lw_m7 72 rfl) rfl
theorem q1562 : (Jvm.Cond.laysFinal "NativeSubsetModel" "NativeSubsetModel" "keptRows" "[I") ∈ lw_all := lw_g (lw_at lw_m7 73 rfl) rfl
theorem q1563 : (Jvm.Cond.soleField "NativeSubsetModel" "keptRows") ∈ lw_all := lw_g (lw_at lw_m7 74 rfl) rfl
theorem q1564 : (Jvm.Cond.laysFinal "NativeSubsetModel" "NativeSubsetModel" "kept" "[J") ∈ lw_all := lw_g (lw_at lw_m7 75 rfl) rfl
theorem q1565 : (Jvm.Cond.soleField "NativeSubsetModel" "kept") ∈ lw_all := lw_g (lw_at lw_m7 76 rfl) rfl
theorem q1566 : (Jvm.Cond.lays "NativeSubsetModel" "NativeSubsetModel" "ranWith" "I") ∈ lw_all := lw_g (lw_at lw_m7 77 rfl) rfl
theorem q1567 : (Jvm.Cond.soleField "NativeSubsetModel" "ranWith") ∈ lw_all := lw_g (lw_at lw_m7 78 rfl) rfl
theorem q1568 : (Jvm.Cond.lays "NativeSubsetModel" "NativeSubsetModel" "ranPaid" "I") ∈ lw_all := lw_g (lw_at lw_m7 79 rfl) rfl
theorem q1569 : (Jvm.Cond.soleField "NativeSubsetModel" "ranPaid") ∈ lw_all := lw_g (lw_at lw_m7 80 rfl) rfl
theorem q1570 : (Jvm.Cond.lays "NativeSubsetModel" "NativeSubsetModel" "ranActs" "I") ∈ lw_all := lw_g (lw_at lw_m7 81 rfl) rfl
theorem q1571 : (Jvm.Cond.soleField "NativeSubsetModel" "ranActs") ∈ lw_all := lw_g (lw_at lw_m7 82 rfl) rfl
theorem q1572 : (Jvm.Cond.lays "NativeSubsetModel" "NativeSubsetModel" "ranEnds" "I") ∈ lw_all := lw_g (lw_at lw_m7 83 rfl) rfl
theorem q1573 : (Jvm.Cond.soleField "NativeSubsetModel" "ranEnds") ∈ lw_all := lw_g (lw_at lw_m7 84 rfl) rfl
theorem q1574 : (Jvm.Cond.lays "NativeSubsetModel" "NativeSubsetModel" "ranCaught" "I") ∈ lw_all := lw_g (lw_at lw_m7 85 rfl) rfl
theorem q1575 : (Jvm.Cond.soleField "NativeSubsetModel" "ranCaught") ∈ lw_all := lw_g (lw_at lw_m7 86 rfl) rfl
theorem q1576 : (Jvm.Cond.laysFinal "NativeSubsetModel" "NativeSubsetModel" "answers" "[J") ∈ lw_all := lw_g (lw_at lw_m7 87 rfl) rfl
theorem q1577 : (Jvm.Cond.soleField "NativeSubsetModel" "answers") ∈ lw_all := lw_g (lw_at lw_m7 88 rfl) rfl
theorem q1578 : (Jvm.Cond.superclass "NativeSubsetModel" "java/lang/Object") ∈ lw_all := lw_g (lw_at lw_m7 89 rfl) rfl
theorem q1580 : (Jvm.Cond.instanceMethod ({ cls := "NativeSubsetModel", name := "thrown", desc := "()I" } : Jvm.MethodName)) ∈ lw_all := lw_g (lw_at lw_m7 91 rfl) rfl
theorem q1581 : (Jvm.Cond.selects "NativeSubsetModel" ({ cls := "NativeSubsetModel", name := "thrown", desc := "()I" } : Jvm.MethodName) ({ cls := "NativeSubsetModel", name := "thrown", desc := "()I" } : Jvm.MethodName)) ∈ lw_all := lw_g (lw_at lw_m7 92 rfl) rfl
theorem q1582 : (Jvm.Cond.code ({ cls := "NativeSubsetModel", name := "thrown", desc := "()I" } : Jvm.MethodName) prog_29_method_4_code (1 : Nat) (Option.some Jvm.ClassFile.FieldType.int)) ∈ lw_all := lw_g (lw_at lw_m7 93 rfl) rfl
theorem q1584 : (Jvm.Cond.instanceMethod ({ cls := "NativeSubsetModel", name := "row", desc := "(II)I" } : Jvm.MethodName)) ∈ lw_all := lw_g (lw_at lw_m7 95 rfl) rfl
theorem q1585 : (Jvm.Cond.selects "NativeSubsetModel" ({ cls := "NativeSubsetModel", name := "row", desc := "(II)I" } : Jvm.MethodName) ({ cls := "NativeSubsetModel", name := "row", desc := "(II)I" } : Jvm.MethodName)) ∈ lw_all := lw_g (lw_at lw_m7 96 rfl) rfl
theorem q1586 : (Jvm.Cond.code ({ cls := "NativeSubsetModel", name := "row", desc := "(II)I" } : Jvm.MethodName) prog_29_method_10_code (3 : Nat) (Option.some Jvm.ClassFile.FieldType.int)) ∈ lw_all := lw_g (lw_at lw_m7 97 rfl) rfl
theorem q1587 : (Jvm.Cond.constantLong "NativeSubsetModel" (121 : Nat) (10 : Int64)) ∈ lw_all := lw_g (lw_at lw_m7 98 rfl) rfl
theorem q1588 : (Jvm.Cond.methodLink "NativeSubsetModel" (123 : Nat) ({ cls := "NativeSubsetModel", name := "in", desc := "(JJJ)Z" } : Jvm.MethodName)) ∈ lw_all := lw_g (lw_at lw_m7 99 rfl) rfl
theorem q1589 : (Jvm.Cond.static ({ cls := "NativeSubsetModel", name := "in", desc := "(JJJ)Z" } : Jvm.MethodName)) ∈ lw_all := lw_g (lw_at lw_m7 100 rfl) rfl
theorem q1590 : (Jvm.Cond.code ({ cls := "NativeSubsetModel", name := "in", desc := "(JJJ)Z" } : Jvm.MethodName) prog_29_method_5_code (6 : Nat) (Option.some Jvm.ClassFile.FieldType.boolean)) ∈ lw_all := lw_g (lw_at lw_m7 101 rfl) rfl
theorem q1591 : (Jvm.Cond.constantLong "NativeSubsetModel" (127 : Nat) (40 : Int64)) ∈ lw_all := lw_g (lw_at lw_m7 102 rfl) rfl
theorem q1592 : (Jvm.Cond.methodLink "NativeSubsetModel" (129 : Nat) ({ cls := "NativeSubsetModel", name := "newRow", desc := "(II)I" } : Jvm.MethodName)) ∈ lw_all := lw_g (lw_at lw_m7 103 rfl) rfl
theorem q1593 : (Jvm.Cond.privateMethod ({ cls := "NativeSubsetModel", name := "newRow", desc := "(II)I" } : Jvm.MethodName)) ∈ lw_tbl := lw_at lw_m7 104 rfl
theorem q1594 : (Jvm.Cond.instanceMethod ({ cls := "NativeSubsetModel", name := "newRow", desc := "(II)I" } : Jvm.MethodName)) ∈ lw_all := lw_g (lw_at lw_m7 105 rfl) rfl
theorem q1595 : (Jvm.Cond.code ({ cls := "NativeSubsetModel", name := "newRow", desc := "(II)I" } : Jvm.MethodName) prog_29_method_11_code (4 : Nat) (Option.some Jvm.ClassFile.FieldType.int)) ∈ lw_all := lw_g (lw_at lw_m7 106 rfl) rfl
theorem q1596 : (Jvm.Cond.constantLong "NativeSubsetModel" (133 : Nat) (-1 : Int64)) ∈ lw_all := lw_g (lw_at lw_m7 107 rfl) rfl
theorem q1598 : (Jvm.Cond.instanceMethod ({ cls := "NativeSubsetModel", name := "unit", desc := "(II)I" } : Jvm.MethodName)) ∈ lw_all := lw_g (lw_at lw_m7 109 rfl) rfl
theorem q1599 : (Jvm.Cond.selects "NativeSubsetModel" ({ cls := "NativeSubsetModel", name := "unit", desc := "(II)I" } : Jvm.MethodName) ({ cls := "NativeSubsetModel", name := "unit", desc := "(II)I" } : Jvm.MethodName)) ∈ lw_all := lw_g (lw_at lw_m7 110 rfl) rfl
theorem q1600 : (Jvm.Cond.code ({ cls := "NativeSubsetModel", name := "unit", desc := "(II)I" } : Jvm.MethodName) prog_29_method_12_code (3 : Nat) (Option.some Jvm.ClassFile.FieldType.int)) ∈ lw_all := lw_g (lw_at lw_m7 111 rfl) rfl
theorem q1601 : (Jvm.Cond.constantLong "NativeSubsetModel" (135 : Nat) (2 : Int64)) ∈ lw_all := lw_g (lw_at lw_m7 112 rfl) rfl
theorem q1603 : (Jvm.Cond.instanceMethod ({ cls := "NativeSubsetModel", name := "put", desc := "(IIJ)I" } : Jvm.MethodName)) ∈ lw_all := lw_g (lw_at lw_m7 114 rfl) rfl
theorem q1604 : (Jvm.Cond.selects "NativeSubsetModel" ({ cls := "NativeSubsetModel", name := "put", desc := "(IIJ)I" } : Jvm.MethodName) ({ cls := "NativeSubsetModel", name := "put", desc := "(IIJ)I" } : Jvm.MethodName)) ∈ lw_all := lw_g (lw_at lw_m7 115 rfl) rfl
theorem q1605 : (Jvm.Cond.code ({ cls := "NativeSubsetModel", name := "put", desc := "(IIJ)I" } : Jvm.MethodName) prog_29_method_17_code (6 : Nat) (Option.some Jvm.ClassFile.FieldType.int)) ∈ lw_all := lw_g (lw_at lw_m7 116 rfl) rfl
theorem q1606 : (Jvm.Cond.methodLink "NativeSubsetModel" (161 : Nat) ({ cls := "NativeSubsetModel", name := "isRow", desc := "(I)Z" } : Jvm.MethodName)) ∈ lw_all := lw_g (lw_at lw_m7 117 rfl) rfl
theorem q1607 : (Jvm.Cond.privateMethod ({ cls := "NativeSubsetModel", name := "isRow", desc := "(I)Z" } : Jvm.MethodName)) ∈ lw_tbl := lw_at lw_m7 118 rfl
theorem q1608 : (Jvm.Cond.instanceMethod ({ cls := "NativeSubsetModel", name := "isRow", desc := "(I)Z" } : Jvm.MethodName)) ∈ lw_all := lw_g (lw_at lw_m7 119 rfl) rfl
theorem q1609 : (Jvm.Cond.code ({ cls := "NativeSubsetModel", name := "isRow", desc := "(I)Z" } : Jvm.MethodName) prog_29_method_6_code (2 : Nat) (Option.some Jvm.ClassFile.FieldType.boolean)) ∈ lw_all := lw_g (lw_at lw_m7 120 rfl) rfl
theorem q1610 : (Jvm.Cond.methodLink "NativeSubsetModel" (165 : Nat) ({ cls := "NativeSubsetModel", name := "goes", desc := "(IJ)Z" } : Jvm.MethodName)) ∈ lw_all := lw_g (lw_at lw_m7 121 rfl) rfl
theorem q1611 : (Jvm.Cond.privateMethod ({ cls := "NativeSubsetModel", name := "goes", desc := "(IJ)Z" } : Jvm.MethodName)) ∈ lw_tbl := lw_at lw_m7 122 rfl
theorem q1612 : (Jvm.Cond.instanceMethod ({ cls := "NativeSubsetModel", name := "goes", desc := "(IJ)Z" } : Jvm.MethodName)) ∈ lw_all := lw_g (lw_at lw_m7 123 rfl) rfl
theorem q1613 : (Jvm.Cond.code ({ cls := "NativeSubsetModel", name := "goes", desc := "(IJ)Z" } : Jvm.MethodName) prog_29_method_13_code (4 : Nat) (Option.some Jvm.ClassFile.FieldType.boolean)) ∈ lw_all := lw_g (lw_at lw_m7 124 rfl) rfl
theorem q1614 : (Jvm.Cond.methodLink "NativeSubsetModel" (169 : Nat) ({ cls := "NativeSubsetModel", name := "isCard", desc := "(J)Z" } : Jvm.MethodName)) ∈ lw_all := lw_g (lw_at lw_m7 125 rfl) rfl
theorem q1615 : (Jvm.Cond.privateMethod ({ cls := "NativeSubsetModel", name := "isCard", desc := "(J)Z" } : Jvm.MethodName)) ∈ lw_tbl := lw_at lw_m7 126 rfl
theorem q1616 : (Jvm.Cond.instanceMethod ({ cls := "NativeSubsetModel", name := "isCard", desc := "(J)Z" } : Jvm.MethodName)) ∈ lw_all := lw_g (lw_at lw_m7 127 rfl) rfl
theorem q1617 : (Jvm.Cond.code ({ cls := "NativeSubsetModel", name := "isCard", desc := "(J)Z" } : Jvm.MethodName) prog_29_method_14_code (3 : Nat) (Option.some Jvm.ClassFile.FieldType.boolean)) ∈ lw_all := lw_g (lw_at lw_m7 128 rfl) rfl
theorem q1618 : (Jvm.Cond.methodLink "NativeSubsetModel" (173 : Nat) ({ cls := "NativeSubsetModel", name := "asElement", desc := "(IJ)J" } : Jvm.MethodName)) ∈ lw_all := lw_g (lw_at lw_m7 129 rfl) rfl
theorem q1619 : (Jvm.Cond.privateMethod ({ cls := "NativeSubsetModel", name := "asElement", desc := "(IJ)J" } : Jvm.MethodName)) ∈ lw_tbl := lw_at lw_m7 130 rfl
theorem q1620 : (Jvm.Cond.instanceMethod ({ cls := "NativeSubsetModel", name := "asElement", desc := "(IJ)J" } : Jvm.MethodName)) ∈ lw_all := lw_g (lw_at lw_m7 131 rfl) rfl
theorem q1621 : (Jvm.Cond.code ({ cls := "NativeSubsetModel", name := "asElement", desc := "(IJ)J" } : Jvm.MethodName) prog_29_method_15_code (4 : Nat) (Option.some Jvm.ClassFile.FieldType.long)) ∈ lw_all := lw_g (lw_at lw_m7 132 rfl) rfl
theorem q1622 : (Jvm.Cond.methodLink "NativeSubsetModel" (140 : Nat) ({ cls := "NativeSubsetModel", name := "floatOf", desc := "(J)F" } : Jvm.MethodName)) ∈ lw_all := lw_g (lw_at lw_m7 133 rfl) rfl
theorem q1623 : (Jvm.Cond.static ({ cls := "NativeSubsetModel", name := "floatOf", desc := "(J)F" } : Jvm.MethodName)) ∈ lw_all := lw_g (lw_at lw_m7 134 rfl) rfl
theorem q1624 : (Jvm.Cond.code ({ cls := "NativeSubsetModel", name := "floatOf", desc := "(J)F" } : Jvm.MethodName) prog_29_method_9_code (2 : Nat) (Option.some Jvm.ClassFile.FieldType.float)) ∈ lw_all := lw_g (lw_at lw_m7 135 rfl) rfl
theorem q1625 : (Jvm.Cond.methodLink "NativeSubsetModel" (118 : Nat) ({ cls := "NativeSubsetModel", name := "singleOfBits", desc := "(I)F" } : Jvm.MethodName)) ∈ lw_all := lw_g (lw_at lw_m7 136 rfl) rfl
theorem q1626 : (Jvm.Cond.static ({ cls := "NativeSubsetModel", name := "singleOfBits", desc := "(I)F" } : Jvm.MethodName)) ∈ lw_all := lw_g (lw_at lw_m7 137 rfl) rfl
theorem q1627 : (Jvm.Cond.code ({ cls := "NativeSubsetModel", name := "singleOfBits", desc := "(I)F" } : Jvm.MethodName) prog_29_method_3_code (1 : Nat) (Option.some Jvm.ClassFile.FieldType.float)) ∈ lw_all := lw_g (lw_at lw_m7 138 rfl) rfl
theorem q1628 : (Jvm.Cond.constant "NativeSubsetModel" (91 : Nat) (2147483647 : Int32)) ∈ lw_all := lw_g (lw_at lw_m7 139 rfl) rfl
theorem q1629 : (Jvm.Cond.constant "NativeSubsetModel" (92 : Nat) (2139095040 : Int32)) ∈ lw_all := lw_g (lw_at lw_m7 140 rfl) rfl
theorem q1630 : (Jvm.Cond.constantFloat "NativeSubsetModel" (95 : Nat) (2143289344 : UInt32)) ∈ lw_all := lw_g (lw_at lw_m7 141 rfl) rfl
theorem q1631 : (Jvm.Cond.methodLink "NativeSubsetModel" (96 : Nat) ({ cls := "java/lang/Float", name := "intBitsToFloat", desc := "(I)F" } : Jvm.MethodName)) ∈ lw_all := lw_g (lw_at lw_m7 142 rfl) rfl
theorem q1632 : (Jvm.Cond.methodLink "NativeSubsetModel" (144 : Nat) ({ cls := "NativeSubsetModel", name := "floatBits", desc := "(F)J" } : Jvm.MethodName)) ∈ lw_all := lw_g (lw_at lw_m7 143 rfl) rfl
theorem q1633 : (Jvm.Cond.static ({ cls := "NativeSubsetModel", name := "floatBits", desc := "(F)J" } : Jvm.MethodName)) ∈ lw_all := lw_g (lw_at lw_m7 144 rfl) rfl
theorem q1634 : (Jvm.Cond.code ({ cls := "NativeSubsetModel", name := "floatBits", desc := "(F)J" } : Jvm.MethodName) prog_29_method_8_code (1 : Nat) (Option.some Jvm.ClassFile.FieldType.long)) ∈ lw_all := lw_g (lw_at lw_m7 145 rfl) rfl
theorem q1635 : (Jvm.Cond.constantLong "NativeSubsetModel" (112 : Nat) (2143289344 : Int64)) ∈ lw_all := lw_g (lw_at lw_m7 146 rfl) rfl
theorem q1636 : (Jvm.Cond.methodLink "NativeSubsetModel" (114 : Nat) ({ cls := "java/lang/Float", name := "floatToIntBits", desc := "(F)I" } : Jvm.MethodName)) ∈ lw_all := lw_g (lw_at lw_m7 147 rfl) rfl
theorem q1637 : (Jvm.Cond.methodLink "NativeSubsetModel" (148 : Nat) ({ cls := "NativeSubsetModel", name := "realOfBits", desc := "(J)D" } : Jvm.MethodName)) ∈ lw_all := lw_g (lw_at lw_m7 148 rfl) rfl
theorem q1638 : (Jvm.Cond.static ({ cls := "NativeSubsetModel", name := "realOfBits", desc := "(J)D" } : Jvm.MethodName)) ∈ lw_all := lw_g (lw_at lw_m7 149 rfl) rfl
theorem q1639 : (Jvm.Cond.code ({ cls := "NativeSubsetModel", name := "realOfBits", desc := "(J)D" } : Jvm.MethodName) prog_29_method_2_code (2 : Nat) (Option.some Jvm.ClassFile.FieldType.double)) ∈ lw_all := lw_g (lw_at lw_m7 150 rfl) rfl
theorem q1640 : (Jvm.Cond.constantLong "NativeSubsetModel" (79 : Nat) (9223372036854775807 : Int64)) ∈ lw_all := lw_g (lw_at lw_m7 151 rfl) rfl
theorem q1641 : (Jvm.Cond.constantLong "NativeSubsetModel" (81 : Nat) (9218868437227405312 : Int64)) ∈ lw_all := lw_g (lw_at lw_m7 152 rfl) rfl
theorem q1642 : (Jvm.Cond.constantDouble "NativeSubsetModel" (85 : Nat) (9221120237041090560 : UInt64)) ∈ lw_all := lw_g (lw_at lw_m7 153 rfl) rfl
theorem q1643 : (Jvm.Cond.methodLink "NativeSubsetModel" (87 : Nat) ({ cls := "java/lang/Double", name := "longBitsToDouble", desc := "(J)D" } : Jvm.MethodName)) ∈ lw_all := lw_g (lw_at lw_m7 154 rfl) rfl
theorem q1644 : (Jvm.Cond.methodLink "NativeSubsetModel" (151 : Nat) ({ cls := "NativeSubsetModel", name := "doubleBits", desc := "(D)J" } : Jvm.MethodName)) ∈ lw_all := lw_g (lw_at lw_m7 155 rfl) rfl
theorem q1645 : (Jvm.Cond.static ({ cls := "NativeSubsetModel", name := "doubleBits", desc := "(D)J" } : Jvm.MethodName)) ∈ lw_all := lw_g (lw_at lw_m7 156 rfl) rfl
theorem q1646 : (Jvm.Cond.code ({ cls := "NativeSubsetModel", name := "doubleBits", desc := "(D)J" } : Jvm.MethodName) prog_29_method_7_code (2 : Nat) (Option.some Jvm.ClassFile.FieldType.long)) ∈ lw_all := lw_g (lw_at lw_m7 157 rfl) rfl
theorem q1647 : (Jvm.Cond.constantLong "NativeSubsetModel" (106 : Nat) (9221120237041090560 : Int64)) ∈ lw_all := lw_g (lw_at lw_m7 158 rfl) rfl
theorem q1648 : (Jvm.Cond.methodLink "NativeSubsetModel" (108 : Nat) ({ cls := "java/lang/Double", name := "doubleToLongBits", desc := "(D)J" } : Jvm.MethodName)) ∈ lw_all := lw_g (lw_at lw_m7 159 rfl) rfl
theorem q1649 : (Jvm.Cond.methodLink "NativeSubsetModel" (154 : Nat) ({ cls := "NativeSubsetModel", name := "newInner", desc := "(I)I" } : Jvm.MethodName)) ∈ lw_all := lw_g (lw_at lw_m7 160 rfl) rfl
theorem q1650 : (Jvm.Cond.privateMethod ({ cls := "NativeSubsetModel", name := "newInner", desc := "(I)I" } : Jvm.MethodName)) ∈ lw_tbl := lw_at lw_m7 161 rfl
theorem q1651 : (Jvm.Cond.instanceMethod ({ cls := "NativeSubsetModel", name := "newInner", desc := "(I)I" } : Jvm.MethodName)) ∈ lw_all := lw_g (lw_at lw_m7 162 rfl) rfl
theorem q1652 : (Jvm.Cond.code ({ cls := "NativeSubsetModel", name := "newInner", desc := "(I)I" } : Jvm.MethodName) prog_29_method_16_code (3 : Nat) (Option.some Jvm.ClassFile.FieldType.int)) ∈ lw_all := lw_g (lw_at lw_m7 163 rfl) rfl
theorem q1654 : (Jvm.Cond.instanceMethod ({ cls := "NativeSubsetModel", name := "at", desc := "(II)J" } : Jvm.MethodName)) ∈ lw_all := lw_g (lw_at lw_m7 165 rfl) rfl
theorem q1655 : (Jvm.Cond.selects "NativeSubsetModel" ({ cls := "NativeSubsetModel", name := "at", desc := "(II)J" } : Jvm.MethodName) ({ cls := "NativeSubsetModel", name := "at", desc := "(II)J" } : Jvm.MethodName)) ∈ lw_all := lw_g (lw_at lw_m7 166 rfl) rfl
theorem q1656 : (Jvm.Cond.code ({ cls := "NativeSubsetModel", name := "at", desc := "(II)J" } : Jvm.MethodName) prog_29_method_18_code (5 : Nat) (Option.some Jvm.ClassFile.FieldType.long)) ∈ lw_all := lw_g (lw_at lw_m7 167 rfl) rfl
theorem q1658 : (Jvm.Cond.instanceMethod ({ cls := "NativeSubsetModel", name := "inner", desc := "(IIII)I" } : Jvm.MethodName)) ∈ lw_all := lw_g (lw_at lw_m7 169 rfl) rfl
theorem q1659 : (Jvm.Cond.selects "NativeSubsetModel" ({ cls := "NativeSubsetModel", name := "inner", desc := "(IIII)I" } : Jvm.MethodName) ({ cls := "NativeSubsetModel", name := "inner", desc := "(IIII)I" } : Jvm.MethodName)) ∈ lw_all := lw_g (lw_at lw_m7 170 rfl) rfl
theorem q1660 : (Jvm.Cond.code ({ cls := "NativeSubsetModel", name := "inner", desc := "(IIII)I" } : Jvm.MethodName) prog_29_method_19_code (7 : Nat) (Option.some Jvm.ClassFile.FieldType.int)) ∈ lw_all := lw_g (lw_at lw_m7 171 rfl) rfl
theorem q1662 : (Jvm.Cond.instanceMethod ({ cls := "NativeSubsetModel", name := "about", desc := "(I)I" } : Jvm.MethodName)) ∈ lw_all := lw_g (lw_at lw_m7 173 rfl) rfl
theorem q1663 : (Jvm.Cond.selects "NativeSubsetModel" ({ cls := "NativeSubsetModel", name := "about", desc := "(I)I" } : Jvm.MethodName) ({ cls := "NativeSubsetModel", name := "about", desc := "(I)I" } : Jvm.MethodName)) ∈ lw_all := lw_g (lw_at lw_m7 174 rfl) rfl
theorem q1664 : (Jvm.Cond.code ({ cls := "NativeSubsetModel", name := "about", desc := "(I)I" } : Jvm.MethodName) prog_29_method_20_code (2 : Nat) (Option.some Jvm.ClassFile.FieldType.int)) ∈ lw_all := lw_g (lw_at lw_m7 175 rfl) rfl
theorem q1666 : (Jvm.Cond.instanceMethod ({ cls := "NativeSubsetModel", name := "of", desc := "(II)I" } : Jvm.MethodName)) ∈ lw_all := lw_g (lw_at lw_m7 177 rfl) rfl
theorem q1667 : (Jvm.Cond.selects "NativeSubsetModel" ({ cls := "NativeSubsetModel", name := "of", desc := "(II)I" } : Jvm.MethodName) ({ cls := "NativeSubsetModel", name := "of", desc := "(II)I" } : Jvm.MethodName)) ∈ lw_all := lw_g (lw_at lw_m7 178 rfl) rfl
theorem q1668 : (Jvm.Cond.code ({ cls := "NativeSubsetModel", name := "of", desc := "(II)I" } : Jvm.MethodName) prog_29_method_21_code (3 : Nat) (Option.some Jvm.ClassFile.FieldType.int)) ∈ lw_all := lw_g (lw_at lw_m7 179 rfl) rfl
theorem q1670 : (Jvm.Cond.instanceMethod ({ cls := "NativeSubsetModel", name := "worth", desc := "(II)J" } : Jvm.MethodName)) ∈ lw_all := lw_g (lw_at lw_m7 181 rfl) rfl
theorem q1671 : (Jvm.Cond.selects "NativeSubsetModel" ({ cls := "NativeSubsetModel", name := "worth", desc := "(II)J" } : Jvm.MethodName) ({ cls := "NativeSubsetModel", name := "worth", desc := "(II)J" } : Jvm.MethodName)) ∈ lw_all := lw_g (lw_at lw_m7 182 rfl) rfl
theorem q1672 : (Jvm.Cond.code ({ cls := "NativeSubsetModel", name := "worth", desc := "(II)J" } : Jvm.MethodName) prog_29_method_24_code (3 : Nat) (Option.some Jvm.ClassFile.FieldType.long)) ∈ lw_all := lw_g (lw_at lw_m7 183 rfl) rfl
theorem q1673 : (Jvm.Cond.constantLong "NativeSubsetModel" (189 : Nat) (-9223372036854775808 : Int64)) ∈ lw_all := lw_g (lw_at lw_m7 184 rfl) rfl
theorem q1674 : (Jvm.Cond.methodLink "NativeSubsetModel" (191 : Nat) ({ cls := "NativeSubsetModel", name := "worthOf", desc := "(I)I" } : Jvm.MethodName)) ∈ lw_all := lw_g (lw_at lw_m7 185 rfl) rfl
theorem q1675 : (Jvm.Cond.privateMethod ({ cls := "NativeSubsetModel", name := "worthOf", desc := "(I)I" } : Jvm.MethodName)) ∈ lw_tbl := lw_at lw_m7 186 rfl
theorem q1676 : (Jvm.Cond.instanceMethod ({ cls := "NativeSubsetModel", name := "worthOf", desc := "(I)I" } : Jvm.MethodName)) ∈ lw_all := lw_g (lw_at lw_m7 187 rfl) rfl
theorem q1677 : (Jvm.Cond.code ({ cls := "NativeSubsetModel", name := "worthOf", desc := "(I)I" } : Jvm.MethodName) prog_29_method_22_code (4 : Nat) (Option.some Jvm.ClassFile.FieldType.int)) ∈ lw_all := lw_g (lw_at lw_m7 188 rfl) rfl
theorem q1678 : (Jvm.Cond.methodLink "NativeSubsetModel" (194 : Nat) ({ cls := "NativeSubsetModel", name := "feeOf", desc := "(I)I" } : Jvm.MethodName)) ∈ lw_all := lw_g (lw_at lw_m7 189 rfl) rfl
theorem q1679 : (Jvm.Cond.privateMethod ({ cls := "NativeSubsetModel", name := "feeOf", desc := "(I)I" } : Jvm.MethodName)) ∈ lw_tbl := lw_at lw_m7 190 rfl
theorem q1680 : (Jvm.Cond.instanceMethod ({ cls := "NativeSubsetModel", name := "feeOf", desc := "(I)I" } : Jvm.MethodName)) ∈ lw_all := lw_g (lw_at lw_m7 191 rfl) rfl
theorem q1681 : (Jvm.Cond.code ({ cls := "NativeSubsetModel", name := "feeOf", desc := "(I)I" } : Jvm.MethodName) prog_29_method_23_code (2 : Nat) (Option.some Jvm.ClassFile.FieldType.int)) ∈ lw_all := lw_g (lw_at lw_m7 192 rfl) rfl
theorem q1683 : (Jvm.Cond.instanceMethod ({ cls := "NativeSubsetModel", name := "plan", desc := "(IIIIIII)I" } : Jvm.MethodName)) ∈ lw_all := lw_g (lw_at lw_m7 194 rfl) rfl
theorem q1684 : (Jvm.Cond.selects "NativeSubsetModel" ({ cls := "NativeSubsetModel", name := "plan", desc := "(IIIIIII)I" } : Jvm.MethodName) ({ cls := "NativeSubsetModel", name := "plan", desc := "(IIIIIII)I" } : Jvm.MethodName)) ∈ lw_all := lw_g (lw_at lw_m7 195 rfl) rfl
theorem q1685 : (Jvm.Cond.code ({ cls := "NativeSubsetModel", name := "plan", desc := "(IIIIIII)I" } : Jvm.MethodName) prog_29_method_25_code (9 : Nat) (Option.some Jvm.ClassFile.FieldType.int)) ∈ lw_all := lw_g (lw_at lw_m7 196 rfl) rfl
theorem q1686 : (Jvm.Cond.constantLong "NativeSubsetModel" (197 : Nat) (5 : Int64)) ∈ lw_all := lw_g (lw_at lw_m7 197 rfl) rfl
theorem q1687 : (Jvm.Cond.constantLong "NativeSubsetModel" (199 : Nat) (12 : Int64)) ∈ lw_all := lw_g (lw_at lw_m7 198 rfl) rfl
theorem q1689 : (Jvm.Cond.instanceMethod ({ cls := "NativeSubsetModel", name := "drop", desc := "(I)I" } : Jvm.MethodName)) ∈ lw_all := lw_g (lw_at lw_m7 200 rfl) rfl
theorem q1690 : (Jvm.Cond.selects "NativeSubsetModel" ({ cls := "NativeSubsetModel", name := "drop", desc := "(I)I" } : Jvm.MethodName) ({ cls := "NativeSubsetModel", name := "drop", desc := "(I)I" } : Jvm.MethodName)) ∈ lw_all := lw_g (lw_at lw_m7 201 rfl) rfl
theorem q1691 : (Jvm.Cond.code ({ cls := "NativeSubsetModel", name := "drop", desc := "(I)I" } : Jvm.MethodName) prog_29_method_26_code (3 : Nat) (Option.some Jvm.ClassFile.FieldType.int)) ∈ lw_all := lw_g (lw_at lw_m7 202 rfl) rfl
theorem q1693 : (Jvm.Cond.instanceMethod ({ cls := "NativeSubsetModel", name := "price", desc := "(IIII)J" } : Jvm.MethodName)) ∈ lw_all := lw_g (lw_at lw_m7 204 rfl) rfl
theorem q1694 : (Jvm.Cond.selects "NativeSubsetModel" ({ cls := "NativeSubsetModel", name := "price", desc := "(IIII)J" } : Jvm.MethodName) ({ cls := "NativeSubsetModel", name := "price", desc := "(IIII)J" } : Jvm.MethodName)) ∈ lw_all := lw_g (lw_at lw_m7 205 rfl) rfl
theorem q1695 : (Jvm.Cond.code ({ cls := "NativeSubsetModel", name := "price", desc := "(IIII)J" } : Jvm.MethodName) prog_29_method_31_code (5 : Nat) (Option.some Jvm.ClassFile.FieldType.long)) ∈ lw_all := lw_g (lw_at lw_m7 206 rfl) rfl
theorem q1696 : (Jvm.Cond.methodLink "NativeSubsetModel" (207 : Nat) ({ cls := "NativeSubsetModel", name := "hasRows", desc := "(III)Z" } : Jvm.MethodName)) ∈ lw_all := lw_g (lw_at lw_m7 207 rfl) rfl
theorem q1697 : (Jvm.Cond.privateMethod ({ cls := "NativeSubsetModel", name := "hasRows", desc := "(III)Z" } : Jvm.MethodName)) ∈ lw_tbl := lw_at lw_m7 208 rfl
theorem q1698 : (Jvm.Cond.instanceMethod ({ cls := "NativeSubsetModel", name := "hasRows", desc := "(III)Z" } : Jvm.MethodName)) ∈ lw_all := lw_g (lw_at lw_m7 209 rfl) rfl
theorem q1699 : (Jvm.Cond.code ({ cls := "NativeSubsetModel", name := "hasRows", desc := "(III)Z" } : Jvm.MethodName) prog_29_method_29_code (4 : Nat) (Option.some Jvm.ClassFile.FieldType.boolean)) ∈ lw_all := lw_g (lw_at lw_m7 210 rfl) rfl
theorem q1700 : (Jvm.Cond.methodLink "NativeSubsetModel" (201 : Nat) ({ cls := "NativeSubsetModel", name := "needsRow", desc := "(I)Z" } : Jvm.MethodName)) ∈ lw_all := lw_g (lw_at lw_m7 211 rfl) rfl
theorem q1701 : (Jvm.Cond.static ({ cls := "NativeSubsetModel", name := "needsRow", desc := "(I)Z" } : Jvm.MethodName)) ∈ lw_all := lw_g (lw_at lw_m7 212 rfl) rfl
theorem q1702 : (Jvm.Cond.code ({ cls := "NativeSubsetModel", name := "needsRow", desc := "(I)Z" } : Jvm.MethodName) prog_29_method_27_code (1 : Nat) (Option.some Jvm.ClassFile.FieldType.boolean)) ∈ lw_all := lw_g (lw_at lw_m7 213 rfl) rfl
theorem q1703 : (Jvm.Cond.methodLink "NativeSubsetModel" (204 : Nat) ({ cls := "NativeSubsetModel", name := "needsTwo", desc := "(I)Z" } : Jvm.MethodName)) ∈ lw_all := lw_g (lw_at lw_m7 214 rfl) rfl
theorem q1704 : (Jvm.Cond.static ({ cls := "NativeSubsetModel", name := "needsTwo", desc := "(I)Z" } : Jvm.MethodName)) ∈ lw_all := lw_g (lw_at lw_m7 215 rfl) rfl
theorem q1705 : (Jvm.Cond.code ({ cls := "NativeSubsetModel", name := "needsTwo", desc := "(I)Z" } : Jvm.MethodName) prog_29_method_28_code (1 : Nat) (Option.some Jvm.ClassFile.FieldType.boolean)) ∈ lw_all := lw_g (lw_at lw_m7 216 rfl) rfl
theorem q1706 : (Jvm.Cond.methodLink "NativeSubsetModel" (211 : Nat) ({ cls := "NativeSubsetModel", name := "priceOf", desc := "(IIII)I" } : Jvm.MethodName)) ∈ lw_all := lw_g (lw_at lw_m7 217 rfl) rfl
theorem q1707 : (Jvm.Cond.privateMethod ({ cls := "NativeSubsetModel", name := "priceOf", desc := "(IIII)I" } : Jvm.MethodName)) ∈ lw_tbl := lw_at lw_m7 218 rfl
theorem q1708 : (Jvm.Cond.instanceMethod ({ cls := "NativeSubsetModel", name := "priceOf", desc := "(IIII)I" } : Jvm.MethodName)) ∈ lw_all := lw_g (lw_at lw_m7 219 rfl) rfl
theorem q1709 : (Jvm.Cond.code ({ cls := "NativeSubsetModel", name := "priceOf", desc := "(IIII)I" } : Jvm.MethodName) prog_29_method_30_code (10 : Nat) (Option.some Jvm.ClassFile.FieldType.int)) ∈ lw_all := lw_g (lw_at lw_m7 220 rfl) rfl
theorem q1711 : (Jvm.Cond.instanceMethod ({ cls := "NativeSubsetModel", name := "run", desc := "(II)I" } : Jvm.MethodName)) ∈ lw_all := lw_g (lw_at lw_m7 222 rfl) rfl
theorem q1712 : (Jvm.Cond.selects "NativeSubsetModel" ({ cls := "NativeSubsetModel", name := "run", desc := "(II)I" } : Jvm.MethodName) ({ cls := "NativeSubsetModel", name := "run", desc := "(II)I" } : Jvm.MethodName)) ∈ lw_all := lw_g (lw_at lw_m7 223 rfl) rfl
theorem q1713 : (Jvm.Cond.code ({ cls := "NativeSubsetModel", name := "run", desc := "(II)I" } : Jvm.MethodName) prog_29_method_57_code (5 : Nat) (Option.some Jvm.ClassFile.FieldType.int)) ∈ lw_all := lw_g (lw_at lw_m7 224 rfl) rfl
theorem q1714 : (Jvm.Cond.constantLong "NativeSubsetModel" (309 : Nat) (5000 : Int64)) ∈ lw_all := lw_g (lw_at lw_m7 225 rfl) rfl
theorem q1715 : (Jvm.Cond.methodLink "NativeSubsetModel" (301 : Nat) ({ cls := "NativeSubsetModel", name := "enter", desc := "(II)V" } : Jvm.MethodName)) ∈ lw_all := lw_g (lw_at lw_m7 226 rfl) rfl
theorem q1716 : (Jvm.Cond.privateMethod ({ cls := "NativeSubsetModel", name := "enter", desc := "(II)V" } : Jvm.MethodName)) ∈ lw_tbl := lw_at lw_m7 227 rfl
theorem q1717 : (Jvm.Cond.instanceMethod ({ cls := "NativeSubsetModel", name := "enter", desc := "(II)V" } : Jvm.MethodName)) ∈ lw_all := lw_g (lw_at lw_m7 228 rfl) rfl
theorem q1718 : (Jvm.Cond.code ({ cls := "NativeSubsetModel", name := "enter", desc := "(II)V" } : Jvm.MethodName) prog_29_method_51_code (4 : Nat) (Option.none : Option Jvm.ClassFile.FieldType)) ∈ lw_all := lw_g (lw_at lw_m7 229 rfl) rfl
theorem q1719 : (Jvm.Cond.methodLink "NativeSubsetModel" (314 : Nat) ({ cls := "NativeSubsetModel", name := "step", desc := "()I" } : Jvm.MethodName)) ∈ lw_all := lw_g (lw_at lw_m7 230 rfl) rfl
theorem q1720 : (Jvm.Cond.privateMethod ({ cls := "NativeSubsetModel", name := "step", desc := "()I" } : Jvm.MethodName)) ∈ lw_tbl := lw_at lw_m7 231 rfl
theorem q1721 : (Jvm.Cond.instanceMethod ({ cls := "NativeSubsetModel", name := "step", desc := "()I" } : Jvm.MethodName)) ∈ lw_all := lw_g (lw_at lw_m7 232 rfl) rfl
theorem q1722 : (Jvm.Cond.code ({ cls := "NativeSubsetModel", name := "step", desc := "()I" } : Jvm.MethodName) prog_29_method_56_code (9 : Nat) (Option.some Jvm.ClassFile.FieldType.int)) ∈ lw_all := lw_g (lw_at lw_m7 233 rfl) rfl
theorem q1723 : (Jvm.Cond.methodLink "NativeSubsetModel" (297 : Nat) ({ cls := "NativeSubsetModel", name := "end", desc := "(J)V" } : Jvm.MethodName)) ∈ lw_all := lw_g (lw_at lw_m7 234 rfl) rfl
theorem q1724 : (Jvm.Cond.privateMethod ({ cls := "NativeSubsetModel", name := "end", desc := "(J)V" } : Jvm.MethodName)) ∈ lw_tbl := lw_at lw_m7 235 rfl
theorem q1725 : (Jvm.Cond.instanceMethod ({ cls := "NativeSubsetModel", name := "end", desc := "(J)V" } : Jvm.MethodName)) ∈ lw_all := lw_g (lw_at lw_m7 236 rfl) rfl
theorem q1726 : (Jvm.Cond.code ({ cls := "NativeSubsetModel", name := "end", desc := "(J)V" } : Jvm.MethodName) prog_29_method_53_code (4 : Nat) (Option.none : Option Jvm.ClassFile.FieldType)) ∈ lw_all := lw_g (lw_at lw_m7 237 rfl) rfl
theorem q1727 : (Jvm.Cond.methodLink "NativeSubsetModel" (294 : Nat) ({ cls := "NativeSubsetModel", name := "actOf", desc := "(II)I" } : Jvm.MethodName)) ∈ lw_all := lw_g (lw_at lw_m7 238 rfl) rfl
theorem q1728 : (Jvm.Cond.privateMethod ({ cls := "NativeSubsetModel", name := "actOf", desc := "(II)I" } : Jvm.MethodName)) ∈ lw_tbl := lw_at lw_m7 239 rfl
theorem q1729 : (Jvm.Cond.instanceMethod ({ cls := "NativeSubsetModel", name := "actOf", desc := "(II)I" } : Jvm.MethodName)) ∈ lw_all := lw_g (lw_at lw_m8 0 rfl) rfl
theorem q1730 : (Jvm.Cond.code ({ cls := "NativeSubsetModel", name := "actOf", desc := "(II)I" } : Jvm.MethodName) prog_29_method_54_code (3 : Nat) (Option.some Jvm.ClassFile.FieldType.int)) ∈ lw_all := lw_g (lw_at lw_m8 1 rfl) rfl
theorem q1731 : (Jvm.Cond.methodLink "NativeSubsetModel" (305 : Nat) ({ cls := "NativeSubsetModel", name := "done", desc := "(IIIIII)I" } : Jvm.MethodName)) ∈ lw_all := lw_g (lw_at lw_m8 2 rfl) rfl
theorem q1732 : (Jvm.Cond.privateMethod ({ cls := "NativeSubsetModel", name := "done", desc := "(IIIIII)I" } : Jvm.MethodName)) ∈ lw_tbl := lw_at lw_m8 3 rfl
theorem q1733 : (Jvm.Cond.instanceMethod ({ cls := "NativeSubsetModel", name := "done", desc := "(IIIIII)I" } : Jvm.MethodName)) ∈ lw_all := lw_g (lw_at lw_m8 4 rfl) rfl
theorem q1734 : (Jvm.Cond.code ({ cls := "NativeSubsetModel", name := "done", desc := "(IIIIII)I" } : Jvm.MethodName) prog_29_method_50_code (7 : Nat) (Option.some Jvm.ClassFile.FieldType.int)) ∈ lw_all := lw_g (lw_at lw_m8 5 rfl) rfl
theorem q1735 : (Jvm.Cond.methodLink "NativeSubsetModel" (252 : Nat) ({ cls := "NativeSubsetModel", name := "copy", desc := "(IIIII)I" } : Jvm.MethodName)) ∈ lw_all := lw_g (lw_at lw_m8 6 rfl) rfl
theorem q1736 : (Jvm.Cond.privateMethod ({ cls := "NativeSubsetModel", name := "copy", desc := "(IIIII)I" } : Jvm.MethodName)) ∈ lw_tbl := lw_at lw_m8 7 rfl
theorem q1737 : (Jvm.Cond.instanceMethod ({ cls := "NativeSubsetModel", name := "copy", desc := "(IIIII)I" } : Jvm.MethodName)) ∈ lw_all := lw_g (lw_at lw_m8 8 rfl) rfl
theorem q1738 : (Jvm.Cond.code ({ cls := "NativeSubsetModel", name := "copy", desc := "(IIIII)I" } : Jvm.MethodName) prog_29_method_35_code (10 : Nat) (Option.some Jvm.ClassFile.FieldType.int)) ∈ lw_all := lw_g (lw_at lw_m8 9 rfl) rfl
theorem q1739 : (Jvm.Cond.methodLink "NativeSubsetModel" (215 : Nat) ({ cls := "NativeSubsetModel", name := "hasPlaces", desc := "(III)Z" } : Jvm.MethodName)) ∈ lw_all := lw_g (lw_at lw_m8 10 rfl) rfl
theorem q1740 : (Jvm.Cond.privateMethod ({ cls := "NativeSubsetModel", name := "hasPlaces", desc := "(III)Z" } : Jvm.MethodName)) ∈ lw_tbl := lw_at lw_m8 11 rfl
theorem q1741 : (Jvm.Cond.instanceMethod ({ cls := "NativeSubsetModel", name := "hasPlaces", desc := "(III)Z" } : Jvm.MethodName)) ∈ lw_all := lw_g (lw_at lw_m8 12 rfl) rfl
theorem q1742 : (Jvm.Cond.code ({ cls := "NativeSubsetModel", name := "hasPlaces", desc := "(III)Z" } : Jvm.MethodName) prog_29_method_32_code (4 : Nat) (Option.some Jvm.ClassFile.FieldType.boolean)) ∈ lw_all := lw_g (lw_at lw_m8 13 rfl) rfl
theorem q1743 : (Jvm.Cond.methodLink "NativeSubsetModel" (256 : Nat) ({ cls := "NativeSubsetModel", name := "copyRow", desc := "(I)I" } : Jvm.MethodName)) ∈ lw_all := lw_g (lw_at lw_m8 14 rfl) rfl
theorem q1744 : (Jvm.Cond.privateMethod ({ cls := "NativeSubsetModel", name := "copyRow", desc := "(I)I" } : Jvm.MethodName)) ∈ lw_tbl := lw_at lw_m8 15 rfl
theorem q1745 : (Jvm.Cond.instanceMethod ({ cls := "NativeSubsetModel", name := "copyRow", desc := "(I)I" } : Jvm.MethodName)) ∈ lw_all := lw_g (lw_at lw_m8 16 rfl) rfl
theorem q1746 : (Jvm.Cond.code ({ cls := "NativeSubsetModel", name := "copyRow", desc := "(I)I" } : Jvm.MethodName) prog_29_method_36_code (4 : Nat) (Option.some Jvm.ClassFile.FieldType.int)) ∈ lw_all := lw_g (lw_at lw_m8 17 rfl) rfl
theorem q1747 : (Jvm.Cond.methodLink "NativeSubsetModel" (259 : Nat) ({ cls := "NativeSubsetModel", name := "fill", desc := "(IIII)I" } : Jvm.MethodName)) ∈ lw_all := lw_g (lw_at lw_m8 18 rfl) rfl
theorem q1748 : (Jvm.Cond.privateMethod ({ cls := "NativeSubsetModel", name := "fill", desc := "(IIII)I" } : Jvm.MethodName)) ∈ lw_tbl := lw_at lw_m8 19 rfl
theorem q1749 : (Jvm.Cond.instanceMethod ({ cls := "NativeSubsetModel", name := "fill", desc := "(IIII)I" } : Jvm.MethodName)) ∈ lw_all := lw_g (lw_at lw_m8 20 rfl) rfl
theorem q1750 : (Jvm.Cond.code ({ cls := "NativeSubsetModel", name := "fill", desc := "(IIII)I" } : Jvm.MethodName) prog_29_method_37_code (9 : Nat) (Option.some Jvm.ClassFile.FieldType.int)) ∈ lw_all := lw_g (lw_at lw_m8 21 rfl) rfl
theorem q1751 : (Jvm.Cond.methodLink "NativeSubsetModel" (262 : Nat) ({ cls := "NativeSubsetModel", name := "equal", desc := "(II)I" } : Jvm.MethodName)) ∈ lw_all := lw_g (lw_at lw_m8 22 rfl) rfl
theorem q1752 : (Jvm.Cond.privateMethod ({ cls := "NativeSubsetModel", name := "equal", desc := "(II)I" } : Jvm.MethodName)) ∈ lw_tbl := lw_at lw_m8 23 rfl
theorem q1753 : (Jvm.Cond.instanceMethod ({ cls := "NativeSubsetModel", name := "equal", desc := "(II)I" } : Jvm.MethodName)) ∈ lw_all := lw_g (lw_at lw_m8 24 rfl) rfl
theorem q1754 : (Jvm.Cond.code ({ cls := "NativeSubsetModel", name := "equal", desc := "(II)I" } : Jvm.MethodName) prog_29_method_38_code (5 : Nat) (Option.some Jvm.ClassFile.FieldType.int)) ∈ lw_all := lw_g (lw_at lw_m8 25 rfl) rfl
theorem q1755 : (Jvm.Cond.methodLink "NativeSubsetModel" (222 : Nat) ({ cls := "NativeSubsetModel", name := "areEqual", desc := "(IJJ)Z" } : Jvm.MethodName)) ∈ lw_all := lw_g (lw_at lw_m8 26 rfl) rfl
theorem q1756 : (Jvm.Cond.privateMethod ({ cls := "NativeSubsetModel", name := "areEqual", desc := "(IJJ)Z" } : Jvm.MethodName)) ∈ lw_tbl := lw_at lw_m8 27 rfl
theorem q1757 : (Jvm.Cond.instanceMethod ({ cls := "NativeSubsetModel", name := "areEqual", desc := "(IJJ)Z" } : Jvm.MethodName)) ∈ lw_all := lw_g (lw_at lw_m8 28 rfl) rfl
theorem q1758 : (Jvm.Cond.code ({ cls := "NativeSubsetModel", name := "areEqual", desc := "(IJJ)Z" } : Jvm.MethodName) prog_29_method_34_code (10 : Nat) (Option.some Jvm.ClassFile.FieldType.boolean)) ∈ lw_all := lw_g (lw_at lw_m8 29 rfl) rfl
theorem q1759 : (Jvm.Cond.methodLink "NativeSubsetModel" (265 : Nat) ({ cls := "NativeSubsetModel", name := "orderRows", desc := "(II)I" } : Jvm.MethodName)) ∈ lw_all := lw_g (lw_at lw_m8 30 rfl) rfl
theorem q1760 : (Jvm.Cond.privateMethod ({ cls := "NativeSubsetModel", name := "orderRows", desc := "(II)I" } : Jvm.MethodName)) ∈ lw_tbl := lw_at lw_m8 31 rfl
theorem q1761 : (Jvm.Cond.instanceMethod ({ cls := "NativeSubsetModel", name := "orderRows", desc := "(II)I" } : Jvm.MethodName)) ∈ lw_all := lw_g (lw_at lw_m8 32 rfl) rfl
theorem q1762 : (Jvm.Cond.code ({ cls := "NativeSubsetModel", name := "orderRows", desc := "(II)I" } : Jvm.MethodName) prog_29_method_39_code (6 : Nat) (Option.some Jvm.ClassFile.FieldType.int)) ∈ lw_all := lw_g (lw_at lw_m8 33 rfl) rfl
theorem q1763 : (Jvm.Cond.constantLong "NativeSubsetModel" (226 : Nat) (7 : Int64)) ∈ lw_all := lw_g (lw_at lw_m8 34 rfl) rfl
theorem q1764 : (Jvm.Cond.methodLink "NativeSubsetModel" (228 : Nat) ({ cls := "NativeSubsetModel", name := "order", desc := "(IJJ)I" } : Jvm.MethodName)) ∈ lw_all := lw_g (lw_at lw_m8 35 rfl) rfl
theorem q1765 : (Jvm.Cond.static ({ cls := "NativeSubsetModel", name := "order", desc := "(IJJ)I" } : Jvm.MethodName)) ∈ lw_all := lw_g (lw_at lw_m8 36 rfl) rfl
theorem q1766 : (Jvm.Cond.code ({ cls := "NativeSubsetModel", name := "order", desc := "(IJJ)I" } : Jvm.MethodName) prog_29_method_33_code (9 : Nat) (Option.some Jvm.ClassFile.FieldType.int)) ∈ lw_all := lw_g (lw_at lw_m8 37 rfl) rfl
theorem q1767 : (Jvm.Cond.methodLink "NativeSubsetModel" (268 : Nat) ({ cls := "NativeSubsetModel", name := "sum", desc := "(I)I" } : Jvm.MethodName)) ∈ lw_all := lw_g (lw_at lw_m8 38 rfl) rfl
theorem q1768 : (Jvm.Cond.privateMethod ({ cls := "NativeSubsetModel", name := "sum", desc := "(I)I" } : Jvm.MethodName)) ∈ lw_tbl := lw_at lw_m8 39 rfl
theorem q1769 : (Jvm.Cond.instanceMethod ({ cls := "NativeSubsetModel", name := "sum", desc := "(I)I" } : Jvm.MethodName)) ∈ lw_all := lw_g (lw_at lw_m8 40 rfl) rfl
theorem q1770 : (Jvm.Cond.code ({ cls := "NativeSubsetModel", name := "sum", desc := "(I)I" } : Jvm.MethodName) prog_29_method_44_code (11 : Nat) (Option.some Jvm.ClassFile.FieldType.int)) ∈ lw_all := lw_g (lw_at lw_m8 41 rfl) rfl
theorem q1771 : (Jvm.Cond.methodLink "NativeSubsetModel" (244 : Nat) ({ cls := "NativeSubsetModel", name := "wide", desc := "(F)D" } : Jvm.MethodName)) ∈ lw_all := lw_g (lw_at lw_m8 42 rfl) rfl
theorem q1772 : (Jvm.Cond.static ({ cls := "NativeSubsetModel", name := "wide", desc := "(F)D" } : Jvm.MethodName)) ∈ lw_all := lw_g (lw_at lw_m8 43 rfl) rfl
theorem q1773 : (Jvm.Cond.code ({ cls := "NativeSubsetModel", name := "wide", desc := "(F)D" } : Jvm.MethodName) prog_29_method_43_code (1 : Nat) (Option.some Jvm.ClassFile.FieldType.double)) ∈ lw_all := lw_g (lw_at lw_m8 44 rfl) rfl
theorem q1774 : (Jvm.Cond.methodLink "NativeSubsetModel" (240 : Nat) ({ cls := "NativeSubsetModel", name := "none", desc := "()D" } : Jvm.MethodName)) ∈ lw_all := lw_g (lw_at lw_m8 45 rfl) rfl
theorem q1775 : (Jvm.Cond.static ({ cls := "NativeSubsetModel", name := "none", desc := "()D" } : Jvm.MethodName)) ∈ lw_all := lw_g (lw_at lw_m8 46 rfl) rfl
theorem q1776 : (Jvm.Cond.code ({ cls := "NativeSubsetModel", name := "none", desc := "()D" } : Jvm.MethodName) prog_29_method_40_code (0 : Nat) (Option.some Jvm.ClassFile.FieldType.double)) ∈ lw_all := lw_g (lw_at lw_m8 47 rfl) rfl
theorem q1777 : (Jvm.Cond.methodLink "NativeSubsetModel" (248 : Nat) ({ cls := "NativeSubsetModel", name := "plus", desc := "(DD)D" } : Jvm.MethodName)) ∈ lw_all := lw_g (lw_at lw_m8 48 rfl) rfl
theorem q1778 : (Jvm.Cond.static ({ cls := "NativeSubsetModel", name := "plus", desc := "(DD)D" } : Jvm.MethodName)) ∈ lw_all := lw_g (lw_at lw_m8 49 rfl) rfl
theorem q1779 : (Jvm.Cond.code ({ cls := "NativeSubsetModel", name := "plus", desc := "(DD)D" } : Jvm.MethodName) prog_29_method_42_code (4 : Nat) (Option.some Jvm.ClassFile.FieldType.double)) ∈ lw_all := lw_g (lw_at lw_m8 50 rfl) rfl
theorem q1780 : (Jvm.Cond.methodLink "NativeSubsetModel" (236 : Nat) ({ cls := "NativeSubsetModel", name := "isEndless", desc := "(D)Z" } : Jvm.MethodName)) ∈ lw_all := lw_g (lw_at lw_m8 51 rfl) rfl
theorem q1781 : (Jvm.Cond.static ({ cls := "NativeSubsetModel", name := "isEndless", desc := "(D)Z" } : Jvm.MethodName)) ∈ lw_all := lw_g (lw_at lw_m8 52 rfl) rfl
theorem q1782 : (Jvm.Cond.code ({ cls := "NativeSubsetModel", name := "isEndless", desc := "(D)Z" } : Jvm.MethodName) prog_29_method_41_code (2 : Nat) (Option.some Jvm.ClassFile.FieldType.boolean)) ∈ lw_all := lw_g (lw_at lw_m8 53 rfl) rfl
theorem q1783 : (Jvm.Cond.constantDouble "NativeSubsetModel" (232 : Nat) (9218868437227405311 : UInt64)) ∈ lw_all := lw_g (lw_at lw_m8 54 rfl) rfl
theorem q1784 : (Jvm.Cond.constantDouble "NativeSubsetModel" (234 : Nat) (18442240474082181119 : UInt64)) ∈ lw_all := lw_g (lw_at lw_m8 55 rfl) rfl
theorem q1785 : (Jvm.Cond.methodLink "NativeSubsetModel" (271 : Nat) ({ cls := "NativeSubsetModel", name := "greatest", desc := "(I)I" } : Jvm.MethodName)) ∈ lw_all := lw_g (lw_at lw_m8 56 rfl) rfl
theorem q1786 : (Jvm.Cond.privateMethod ({ cls := "NativeSubsetModel", name := "greatest", desc := "(I)I" } : Jvm.MethodName)) ∈ lw_tbl := lw_at lw_m8 57 rfl
theorem q1787 : (Jvm.Cond.instanceMethod ({ cls := "NativeSubsetModel", name := "greatest", desc := "(I)I" } : Jvm.MethodName)) ∈ lw_all := lw_g (lw_at lw_m8 58 rfl) rfl
theorem q1788 : (Jvm.Cond.code ({ cls := "NativeSubsetModel", name := "greatest", desc := "(I)I" } : Jvm.MethodName) prog_29_method_45_code (3 : Nat) (Option.some Jvm.ClassFile.FieldType.int)) ∈ lw_all := lw_g (lw_at lw_m8 59 rfl) rfl
theorem q1789 : (Jvm.Cond.methodLink "NativeSubsetModel" (274 : Nat) ({ cls := "NativeSubsetModel", name := "turn", desc := "(III)I" } : Jvm.MethodName)) ∈ lw_all := lw_g (lw_at lw_m8 60 rfl) rfl
theorem q1790 : (Jvm.Cond.privateMethod ({ cls := "NativeSubsetModel", name := "turn", desc := "(III)I" } : Jvm.MethodName)) ∈ lw_tbl := lw_at lw_m8 61 rfl
theorem q1791 : (Jvm.Cond.instanceMethod ({ cls := "NativeSubsetModel", name := "turn", desc := "(III)I" } : Jvm.MethodName)) ∈ lw_all := lw_g (lw_at lw_m8 62 rfl) rfl
theorem q1792 : (Jvm.Cond.code ({ cls := "NativeSubsetModel", name := "turn", desc := "(III)I" } : Jvm.MethodName) prog_29_method_46_code (5 : Nat) (Option.some Jvm.ClassFile.FieldType.int)) ∈ lw_all := lw_g (lw_at lw_m8 63 rfl) rfl
theorem q1793 : (Jvm.Cond.methodLink "NativeSubsetModel" (278 : Nat) ({ cls := "NativeSubsetModel", name := "sort", desc := "(III)I" } : Jvm.MethodName)) ∈ lw_all := lw_g (lw_at lw_m8 64 rfl) rfl
theorem q1794 : (Jvm.Cond.privateMethod ({ cls := "NativeSubsetModel", name := "sort", desc := "(III)I" } : Jvm.MethodName)) ∈ lw_tbl := lw_at lw_m8 65 rfl
theorem q1795 : (Jvm.Cond.instanceMethod ({ cls := "NativeSubsetModel", name := "sort", desc := "(III)I" } : Jvm.MethodName)) ∈ lw_all := lw_g (lw_at lw_m8 66 rfl) rfl
theorem q1796 : (Jvm.Cond.code ({ cls := "NativeSubsetModel", name := "sort", desc := "(III)I" } : Jvm.MethodName) prog_29_method_47_code (9 : Nat) (Option.some Jvm.ClassFile.FieldType.int)) ∈ lw_all := lw_g (lw_at lw_m8 67 rfl) rfl
theorem q1797 : (Jvm.Cond.methodLink "NativeSubsetModel" (281 : Nat) ({ cls := "NativeSubsetModel", name := "findIn", desc := "(IIII)I" } : Jvm.MethodName)) ∈ lw_all := lw_g (lw_at lw_m8 68 rfl) rfl
theorem q1798 : (Jvm.Cond.privateMethod ({ cls := "NativeSubsetModel", name := "findIn", desc := "(IIII)I" } : Jvm.MethodName)) ∈ lw_tbl := lw_at lw_m8 69 rfl
theorem q1799 : (Jvm.Cond.instanceMethod ({ cls := "NativeSubsetModel", name := "findIn", desc := "(IIII)I" } : Jvm.MethodName)) ∈ lw_all := lw_g (lw_at lw_m8 70 rfl) rfl
theorem q1800 : (Jvm.Cond.code ({ cls := "NativeSubsetModel", name := "findIn", desc := "(IIII)I" } : Jvm.MethodName) prog_29_method_48_code (9 : Nat) (Option.some Jvm.ClassFile.FieldType.int)) ∈ lw_all := lw_g (lw_at lw_m8 71 rfl) rfl
theorem q1801 : (Jvm.Cond.methodLink "NativeSubsetModel" (284 : Nat) ({ cls := "NativeSubsetModel", name := "fees", desc := "(I)I" } : Jvm.MethodName)) ∈ lw_all := lw_g (lw_at lw_m8 72 rfl) rfl
theorem q1802 : (Jvm.Cond.privateMethod ({ cls := "NativeSubsetModel", name := "fees", desc := "(I)I" } : Jvm.MethodName)) ∈ lw_tbl := lw_at lw_m8 73 rfl
theorem q1803 : (Jvm.Cond.instanceMethod ({ cls := "NativeSubsetModel", name := "fees", desc := "(I)I" } : Jvm.MethodName)) ∈ lw_all := lw_g (lw_at lw_m8 74 rfl) rfl
theorem q1804 : (Jvm.Cond.code ({ cls := "NativeSubsetModel", name := "fees", desc := "(I)I" } : Jvm.MethodName) prog_29_method_49_code (4 : Nat) (Option.some Jvm.ClassFile.FieldType.int)) ∈ lw_all := lw_g (lw_at lw_m8 75 rfl) rfl
theorem q1805 : (Jvm.Cond.methodLink "NativeSubsetModel" (318 : Nat) ({ cls := "NativeSubsetModel", name := "fail", desc := "(I)I" } : Jvm.MethodName)) ∈ lw_all := lw_g (lw_at lw_m8 76 rfl) rfl
theorem q1806 : (Jvm.Cond.privateMethod ({ cls := "NativeSubsetModel", name := "fail", desc := "(I)I" } : Jvm.MethodName)) ∈ lw_tbl := lw_at lw_m8 77 rfl
theorem q1807 : (Jvm.Cond.instanceMethod ({ cls := "NativeSubsetModel", name := "fail", desc := "(I)I" } : Jvm.MethodName)) ∈ lw_all := lw_g (lw_at lw_m8 78 rfl) rfl
theorem q1808 : (Jvm.Cond.code ({ cls := "NativeSubsetModel", name := "fail", desc := "(I)I" } : Jvm.MethodName) prog_29_method_55_code (4 : Nat) (Option.some Jvm.ClassFile.FieldType.int)) ∈ lw_all := lw_g (lw_at lw_m8 79 rfl) rfl
theorem q1809 : (Jvm.Cond.methodLink "NativeSubsetModel" (290 : Nat) ({ cls := "NativeSubsetModel", name := "undo", desc := "(I)V" } : Jvm.MethodName)) ∈ lw_all := lw_g (lw_at lw_m8 80 rfl) rfl
theorem q1810 : (Jvm.Cond.privateMethod ({ cls := "NativeSubsetModel", name := "undo", desc := "(I)V" } : Jvm.MethodName)) ∈ lw_tbl := lw_at lw_m8 81 rfl
theorem q1811 : (Jvm.Cond.instanceMethod ({ cls := "NativeSubsetModel", name := "undo", desc := "(I)V" } : Jvm.MethodName)) ∈ lw_all := lw_g (lw_at lw_m8 82 rfl) rfl
theorem q1812 : (Jvm.Cond.code ({ cls := "NativeSubsetModel", name := "undo", desc := "(I)V" } : Jvm.MethodName) prog_29_method_52_code (3 : Nat) (Option.none : Option Jvm.ClassFile.FieldType)) ∈ lw_all := lw_g (lw_at lw_m8 83 rfl) rfl
theorem q1814 : (Jvm.Cond.instanceMethod ({ cls := "NativeSubsetModel", name := "told", desc := "(I)I" } : Jvm.MethodName)) ∈ lw_all := lw_g (lw_at lw_m8 85 rfl) rfl
theorem q1815 : (Jvm.Cond.selects "NativeSubsetModel" ({ cls := "NativeSubsetModel", name := "told", desc := "(I)I" } : Jvm.MethodName) ({ cls := "NativeSubsetModel", name := "told", desc := "(I)I" } : Jvm.MethodName)) ∈ lw_all := lw_g (lw_at lw_m8 86 rfl) rfl
theorem q1816 : (Jvm.Cond.code ({ cls := "NativeSubsetModel", name := "told", desc := "(I)I" } : Jvm.MethodName) prog_29_method_58_code (2 : Nat) (Option.some Jvm.ClassFile.FieldType.int)) ∈ lw_all := lw_g (lw_at lw_m8 87 rfl) rfl
theorem q1818 : (Jvm.Cond.instanceMethod ({ cls := "NativeSubsetModel", name := "answer", desc := "(I)J" } : Jvm.MethodName)) ∈ lw_all := lw_g (lw_at lw_m8 89 rfl) rfl
theorem q1819 : (Jvm.Cond.selects "NativeSubsetModel" ({ cls := "NativeSubsetModel", name := "answer", desc := "(I)J" } : Jvm.MethodName) ({ cls := "NativeSubsetModel", name := "answer", desc := "(I)J" } : Jvm.MethodName)) ∈ lw_all := lw_g (lw_at lw_m8 90 rfl) rfl
theorem q1820 : (Jvm.Cond.code ({ cls := "NativeSubsetModel", name := "answer", desc := "(I)J" } : Jvm.MethodName) prog_29_method_59_code (2 : Nat) (Option.some Jvm.ClassFile.FieldType.long)) ∈ lw_all := lw_g (lw_at lw_m8 91 rfl) rfl
theorem q1821 : (Jvm.Cond.constantLong "NativeSubsetModel" (321 : Nat) (11 : Int64)) ∈ lw_all := lw_g (lw_at lw_m8 92 rfl) rfl
theorem q1854 : (Jvm.Cond.castable "NativeSubsetModel" "java/lang/Object") ∈ lw_tbl := lw_at lw_m8 125 rfl
theorem in_X20 : ∀ w ∈ wsX200, w ∈ lw_all := lw_in wsX200 [1512, 1514, 1516, 1518, 1520, 1522, 1524, 1526, 1528, 1530, 1532, 1534, 1536, 1538, 1540, 1542, 1544, 1546, 1548, 1550, 1552, 1554, 1556, 1558, 1560, 1562, 1564, 1566, 1568, 1570, 1572, 1574, 1576] (by decide +kernel) (by decide +kernel)
