set_option maxRecDepth 100000
/-! NativeSubset -/
def RX1 : String := "NativeSubset"
def TX1 : u_T := fun k => match k with
  | 0 => ("NativeSubset", "rows", "Ljava/util/ArrayList;", true)
  | 1 => ("NativeSubset", "units", "Ljava/util/ArrayList;", true)
  | 2 => ("NativeSubset", "plans", "[LNativeSubset$Plan;", true)
  | 3 => ("NativeSubset", "helpers", "[LNativeSubset$Helper;", true)
  | 4 => ("NativeSubset", "deep", "I", false)
  | 5 => ("NativeSubset", "deepest", "I", false)
  | 6 => ("NativeSubset", "acts", "I", false)
  | 7 => ("NativeSubset", "undone", "I", false)
  | 8 => ("NativeSubset", "faults", "I", false)
  | 9 => ("NativeSubset", "allPaid", "I", false)
  | 10 => ("NativeSubset", "hasRun", "Z", false)
  | 11 => ("NativeSubset", "result", "I", false)
  | 12 => ("NativeSubset", "paidNow", "I", false)
  | 13 => ("NativeSubset", "actsNow", "I", false)
  | 14 => ("NativeSubset", "endedNow", "I", false)
  | 15 => ("NativeSubset", "caught", "I", false)
  | _ => ("NativeSubset", "answers", "[J", true)
def tyX1 : Nat → FieldType := fun k => match k with
  | 0 => .object "java/util/ArrayList"
  | 1 => .object "java/util/ArrayList"
  | 2 => .array (.object "NativeSubset$Plan")
  | 3 => .array (.object "NativeSubset$Helper")
  | 4 => .int
  | 5 => .int
  | 6 => .int
  | 7 => .int
  | 8 => .int
  | 9 => .int
  | 10 => .boolean
  | 11 => .int
  | 12 => .int
  | 13 => .int
  | 14 => .int
  | 15 => .int
  | _ => .array .long
abbrev wsX10 : List Cond := u_ws RX1 TX1 17
set_option maxRecDepth 100000 in
theorem nmX1 : ∀ a, a < 17 → ∀ b, b < 17 → a ≠ b → (TX1 a).2.1 ≠ (TX1 b).2.1 := by decide +kernel
set_option maxRecDepth 100000 in
theorem tyX1_ok : ∀ k, k < 17 → parseFieldDescriptor (TX1 k).2.2.1 = some (tyX1 k) := by decide +kernel
abbrev cX1_init : ByteArray := prog_1_method_15_code
def yX1_init : MethodName := ⟨RX1, "<init>", "()V"⟩
def dkwX1_init_8 : List UInt8 := [183, 0, 172, 83, 181, 0, 173, 42, 16, 12, 188, 11, 181, 0, 177, 177]
abbrev dktX1_init_8 : List UInt8 := dkwX1_init_8 ++ []
def dkwX1_init_7 : List UInt8 := [183, 0, 166, 83, 89, 16, 11, 187, 0, 167, 89, 42, 183, 0, 169, 83, 89, 16, 12, 187, 0, 170, 89, 42]
abbrev dktX1_init_7 : List UInt8 := dkwX1_init_7 ++ dktX1_init_8
def dkwX1_init_6 : List UInt8 := [183, 0, 160, 83, 89, 16, 9, 187, 0, 161, 89, 42, 183, 0, 163, 83, 89, 16, 10, 187, 0, 164, 89, 42]
abbrev dktX1_init_6 : List UInt8 := dkwX1_init_6 ++ dktX1_init_7
def dkwX1_init_5 : List UInt8 := [183, 0, 154, 83, 89, 16, 7, 187, 0, 155, 89, 42, 183, 0, 157, 83, 89, 16, 8, 187, 0, 158, 89, 42]
abbrev dktX1_init_5 : List UInt8 := dkwX1_init_5 ++ dktX1_init_6
def dkwX1_init_4 : List UInt8 := [183, 0, 148, 83, 89, 8, 187, 0, 149, 89, 42, 183, 0, 151, 83, 89, 16, 6, 187, 0, 152, 89, 42]
abbrev dktX1_init_4 : List UInt8 := dkwX1_init_4 ++ dktX1_init_5
def dkwX1_init_3 : List UInt8 := [183, 0, 142, 83, 89, 6, 187, 0, 143, 89, 42, 183, 0, 145, 83, 89, 7, 187, 0, 146, 89, 42]
abbrev dktX1_init_3 : List UInt8 := dkwX1_init_3 ++ dktX1_init_4
def dkwX1_init_2 : List UInt8 := [183, 0, 134, 83, 89, 4, 187, 0, 137, 89, 42, 183, 0, 139, 83, 89, 5, 187, 0, 140, 89, 42]
abbrev dktX1_init_2 : List UInt8 := dkwX1_init_2 ++ dktX1_init_3
def dkwX1_init_1 : List UInt8 := [181, 0, 119, 42, 184, 0, 122, 181, 0, 126, 42, 16, 13, 189, 0, 130, 89, 3, 187, 0, 132, 89, 42]
abbrev dktX1_init_1 : List UInt8 := dkwX1_init_1 ++ dktX1_init_2
def dkwX1_init_0 : List UInt8 := [42, 183, 0, 109, 42, 187, 0, 112, 89, 183, 0, 114, 181, 0, 115, 42, 187, 0, 112, 89, 183, 0, 114]
abbrev dktX1_init_0 : List UInt8 := dkwX1_init_0 ++ dktX1_init_1
theorem dksX1_init_0 : cX1_init.data.toList.drop 0 = dktX1_init_0 := by decide +kernel
theorem dksX1_init_1 : cX1_init.data.toList.drop 23 = dktX1_init_1 := dk_seg dksX1_init_0 23 rfl rfl
theorem dksX1_init_2 : cX1_init.data.toList.drop 46 = dktX1_init_2 := dk_seg dksX1_init_1 23 rfl rfl
theorem dksX1_init_3 : cX1_init.data.toList.drop 68 = dktX1_init_3 := dk_seg dksX1_init_2 22 rfl rfl
theorem dksX1_init_4 : cX1_init.data.toList.drop 90 = dktX1_init_4 := dk_seg dksX1_init_3 22 rfl rfl
theorem dksX1_init_5 : cX1_init.data.toList.drop 113 = dktX1_init_5 := dk_seg dksX1_init_4 23 rfl rfl
theorem dksX1_init_6 : cX1_init.data.toList.drop 137 = dktX1_init_6 := dk_seg dksX1_init_5 24 rfl rfl
theorem dksX1_init_7 : cX1_init.data.toList.drop 161 = dktX1_init_7 := dk_seg dksX1_init_6 24 rfl rfl
theorem dksX1_init_8 : cX1_init.data.toList.drop 185 = dktX1_init_8 := dk_seg dksX1_init_7 24 rfl rfl
theorem dX1_init_0 : decode cX1_init 0 = .ok (.aload_n 0, 1) := dk_42 (dk_at dksX1_init_0 0 rfl rfl)
theorem dX1_init_1 : decode cX1_init 1 = .ok (.invokespecial 109, 3) := dk_183 0 109 (dk_at dksX1_init_0 1 rfl rfl)
theorem dX1_init_4 : decode cX1_init 4 = .ok (.aload_n 0, 1) := dk_42 (dk_at dksX1_init_0 4 rfl rfl)
theorem dX1_init_5 : decode cX1_init 5 = .ok (.new 112, 3) := dk_187 0 112 (dk_at dksX1_init_0 5 rfl rfl)
theorem dX1_init_8 : decode cX1_init 8 = .ok (.dup, 1) := dk_89 (dk_at dksX1_init_0 8 rfl rfl)
theorem dX1_init_9 : decode cX1_init 9 = .ok (.invokespecial 114, 3) := dk_183 0 114 (dk_at dksX1_init_0 9 rfl rfl)
theorem dX1_init_12 : decode cX1_init 12 = .ok (.putfield 115, 3) := dk_181 0 115 (dk_at dksX1_init_0 12 rfl rfl)
theorem dX1_init_15 : decode cX1_init 15 = .ok (.aload_n 0, 1) := dk_42 (dk_at dksX1_init_0 15 rfl rfl)
theorem dX1_init_16 : decode cX1_init 16 = .ok (.new 112, 3) := dk_187 0 112 (dk_at dksX1_init_0 16 rfl rfl)
theorem dX1_init_19 : decode cX1_init 19 = .ok (.dup, 1) := dk_89 (dk_at dksX1_init_0 19 rfl rfl)
theorem dX1_init_20 : decode cX1_init 20 = .ok (.invokespecial 114, 3) := dk_183 0 114 (dk_at dksX1_init_0 20 rfl rfl)
theorem dX1_init_23 : decode cX1_init 23 = .ok (.putfield 119, 3) := dk_181 0 119 (dk_at dksX1_init_1 0 rfl rfl)
theorem dX1_init_26 : decode cX1_init 26 = .ok (.aload_n 0, 1) := dk_42 (dk_at dksX1_init_1 3 rfl rfl)
theorem dX1_init_27 : decode cX1_init 27 = .ok (.invokestatic 122, 3) := dk_184 0 122 (dk_at dksX1_init_1 4 rfl rfl)
theorem dX1_init_30 : decode cX1_init 30 = .ok (.putfield 126, 3) := dk_181 0 126 (dk_at dksX1_init_1 7 rfl rfl)
theorem dX1_init_33 : decode cX1_init 33 = .ok (.aload_n 0, 1) := dk_42 (dk_at dksX1_init_1 10 rfl rfl)
theorem dX1_init_34 : decode cX1_init 34 = .ok (.bipush 13, 2) := dk_16 13 (dk_at dksX1_init_1 11 rfl rfl)
theorem dX1_init_36 : decode cX1_init 36 = .ok (.anewarray 130, 3) := dk_189 0 130 (dk_at dksX1_init_1 13 rfl rfl)
theorem dX1_init_39 : decode cX1_init 39 = .ok (.dup, 1) := dk_89 (dk_at dksX1_init_1 16 rfl rfl)
theorem dX1_init_40 : decode cX1_init 40 = .ok (.iconst 0, 1) := dk_3 (dk_at dksX1_init_1 17 rfl rfl)
theorem dX1_init_41 : decode cX1_init 41 = .ok (.new 132, 3) := dk_187 0 132 (dk_at dksX1_init_1 18 rfl rfl)
theorem dX1_init_44 : decode cX1_init 44 = .ok (.dup, 1) := dk_89 (dk_at dksX1_init_1 21 rfl rfl)
theorem dX1_init_45 : decode cX1_init 45 = .ok (.aload_n 0, 1) := dk_42 (dk_at dksX1_init_1 22 rfl rfl)
theorem dX1_init_46 : decode cX1_init 46 = .ok (.invokespecial 134, 3) := dk_183 0 134 (dk_at dksX1_init_2 0 rfl rfl)
theorem dX1_init_49 : decode cX1_init 49 = .ok (.aastore, 1) := dk_83 (dk_at dksX1_init_2 3 rfl rfl)
theorem dX1_init_50 : decode cX1_init 50 = .ok (.dup, 1) := dk_89 (dk_at dksX1_init_2 4 rfl rfl)
theorem dX1_init_51 : decode cX1_init 51 = .ok (.iconst 1, 1) := dk_4 (dk_at dksX1_init_2 5 rfl rfl)
theorem dX1_init_52 : decode cX1_init 52 = .ok (.new 137, 3) := dk_187 0 137 (dk_at dksX1_init_2 6 rfl rfl)
theorem dX1_init_55 : decode cX1_init 55 = .ok (.dup, 1) := dk_89 (dk_at dksX1_init_2 9 rfl rfl)
theorem dX1_init_56 : decode cX1_init 56 = .ok (.aload_n 0, 1) := dk_42 (dk_at dksX1_init_2 10 rfl rfl)
theorem dX1_init_57 : decode cX1_init 57 = .ok (.invokespecial 139, 3) := dk_183 0 139 (dk_at dksX1_init_2 11 rfl rfl)
theorem dX1_init_60 : decode cX1_init 60 = .ok (.aastore, 1) := dk_83 (dk_at dksX1_init_2 14 rfl rfl)
theorem dX1_init_61 : decode cX1_init 61 = .ok (.dup, 1) := dk_89 (dk_at dksX1_init_2 15 rfl rfl)
theorem dX1_init_62 : decode cX1_init 62 = .ok (.iconst 2, 1) := dk_5 (dk_at dksX1_init_2 16 rfl rfl)
theorem dX1_init_63 : decode cX1_init 63 = .ok (.new 140, 3) := dk_187 0 140 (dk_at dksX1_init_2 17 rfl rfl)
theorem dX1_init_66 : decode cX1_init 66 = .ok (.dup, 1) := dk_89 (dk_at dksX1_init_2 20 rfl rfl)
theorem dX1_init_67 : decode cX1_init 67 = .ok (.aload_n 0, 1) := dk_42 (dk_at dksX1_init_2 21 rfl rfl)
theorem dX1_init_68 : decode cX1_init 68 = .ok (.invokespecial 142, 3) := dk_183 0 142 (dk_at dksX1_init_3 0 rfl rfl)
theorem dX1_init_71 : decode cX1_init 71 = .ok (.aastore, 1) := dk_83 (dk_at dksX1_init_3 3 rfl rfl)
theorem dX1_init_72 : decode cX1_init 72 = .ok (.dup, 1) := dk_89 (dk_at dksX1_init_3 4 rfl rfl)
theorem dX1_init_73 : decode cX1_init 73 = .ok (.iconst 3, 1) := dk_6 (dk_at dksX1_init_3 5 rfl rfl)
theorem dX1_init_74 : decode cX1_init 74 = .ok (.new 143, 3) := dk_187 0 143 (dk_at dksX1_init_3 6 rfl rfl)
theorem dX1_init_77 : decode cX1_init 77 = .ok (.dup, 1) := dk_89 (dk_at dksX1_init_3 9 rfl rfl)
theorem dX1_init_78 : decode cX1_init 78 = .ok (.aload_n 0, 1) := dk_42 (dk_at dksX1_init_3 10 rfl rfl)
theorem dX1_init_79 : decode cX1_init 79 = .ok (.invokespecial 145, 3) := dk_183 0 145 (dk_at dksX1_init_3 11 rfl rfl)
theorem dX1_init_82 : decode cX1_init 82 = .ok (.aastore, 1) := dk_83 (dk_at dksX1_init_3 14 rfl rfl)
theorem dX1_init_83 : decode cX1_init 83 = .ok (.dup, 1) := dk_89 (dk_at dksX1_init_3 15 rfl rfl)
theorem dX1_init_84 : decode cX1_init 84 = .ok (.iconst 4, 1) := dk_7 (dk_at dksX1_init_3 16 rfl rfl)
theorem dX1_init_85 : decode cX1_init 85 = .ok (.new 146, 3) := dk_187 0 146 (dk_at dksX1_init_3 17 rfl rfl)
theorem dX1_init_88 : decode cX1_init 88 = .ok (.dup, 1) := dk_89 (dk_at dksX1_init_3 20 rfl rfl)
theorem dX1_init_89 : decode cX1_init 89 = .ok (.aload_n 0, 1) := dk_42 (dk_at dksX1_init_3 21 rfl rfl)
theorem dX1_init_90 : decode cX1_init 90 = .ok (.invokespecial 148, 3) := dk_183 0 148 (dk_at dksX1_init_4 0 rfl rfl)
theorem dX1_init_93 : decode cX1_init 93 = .ok (.aastore, 1) := dk_83 (dk_at dksX1_init_4 3 rfl rfl)
theorem dX1_init_94 : decode cX1_init 94 = .ok (.dup, 1) := dk_89 (dk_at dksX1_init_4 4 rfl rfl)
theorem dX1_init_95 : decode cX1_init 95 = .ok (.iconst 5, 1) := dk_8 (dk_at dksX1_init_4 5 rfl rfl)
theorem dX1_init_96 : decode cX1_init 96 = .ok (.new 149, 3) := dk_187 0 149 (dk_at dksX1_init_4 6 rfl rfl)
theorem dX1_init_99 : decode cX1_init 99 = .ok (.dup, 1) := dk_89 (dk_at dksX1_init_4 9 rfl rfl)
theorem dX1_init_100 : decode cX1_init 100 = .ok (.aload_n 0, 1) := dk_42 (dk_at dksX1_init_4 10 rfl rfl)
theorem dX1_init_101 : decode cX1_init 101 = .ok (.invokespecial 151, 3) := dk_183 0 151 (dk_at dksX1_init_4 11 rfl rfl)
theorem dX1_init_104 : decode cX1_init 104 = .ok (.aastore, 1) := dk_83 (dk_at dksX1_init_4 14 rfl rfl)
theorem dX1_init_105 : decode cX1_init 105 = .ok (.dup, 1) := dk_89 (dk_at dksX1_init_4 15 rfl rfl)
theorem dX1_init_106 : decode cX1_init 106 = .ok (.bipush 6, 2) := dk_16 6 (dk_at dksX1_init_4 16 rfl rfl)
theorem dX1_init_108 : decode cX1_init 108 = .ok (.new 152, 3) := dk_187 0 152 (dk_at dksX1_init_4 18 rfl rfl)
theorem dX1_init_111 : decode cX1_init 111 = .ok (.dup, 1) := dk_89 (dk_at dksX1_init_4 21 rfl rfl)
theorem dX1_init_112 : decode cX1_init 112 = .ok (.aload_n 0, 1) := dk_42 (dk_at dksX1_init_4 22 rfl rfl)
theorem dX1_init_113 : decode cX1_init 113 = .ok (.invokespecial 154, 3) := dk_183 0 154 (dk_at dksX1_init_5 0 rfl rfl)
theorem dX1_init_116 : decode cX1_init 116 = .ok (.aastore, 1) := dk_83 (dk_at dksX1_init_5 3 rfl rfl)
theorem dX1_init_117 : decode cX1_init 117 = .ok (.dup, 1) := dk_89 (dk_at dksX1_init_5 4 rfl rfl)
theorem dX1_init_118 : decode cX1_init 118 = .ok (.bipush 7, 2) := dk_16 7 (dk_at dksX1_init_5 5 rfl rfl)
theorem dX1_init_120 : decode cX1_init 120 = .ok (.new 155, 3) := dk_187 0 155 (dk_at dksX1_init_5 7 rfl rfl)
theorem dX1_init_123 : decode cX1_init 123 = .ok (.dup, 1) := dk_89 (dk_at dksX1_init_5 10 rfl rfl)
theorem dX1_init_124 : decode cX1_init 124 = .ok (.aload_n 0, 1) := dk_42 (dk_at dksX1_init_5 11 rfl rfl)
theorem dX1_init_125 : decode cX1_init 125 = .ok (.invokespecial 157, 3) := dk_183 0 157 (dk_at dksX1_init_5 12 rfl rfl)
theorem dX1_init_128 : decode cX1_init 128 = .ok (.aastore, 1) := dk_83 (dk_at dksX1_init_5 15 rfl rfl)
theorem dX1_init_129 : decode cX1_init 129 = .ok (.dup, 1) := dk_89 (dk_at dksX1_init_5 16 rfl rfl)
theorem dX1_init_130 : decode cX1_init 130 = .ok (.bipush 8, 2) := dk_16 8 (dk_at dksX1_init_5 17 rfl rfl)
theorem dX1_init_132 : decode cX1_init 132 = .ok (.new 158, 3) := dk_187 0 158 (dk_at dksX1_init_5 19 rfl rfl)
theorem dX1_init_135 : decode cX1_init 135 = .ok (.dup, 1) := dk_89 (dk_at dksX1_init_5 22 rfl rfl)
theorem dX1_init_136 : decode cX1_init 136 = .ok (.aload_n 0, 1) := dk_42 (dk_at dksX1_init_5 23 rfl rfl)
theorem dX1_init_137 : decode cX1_init 137 = .ok (.invokespecial 160, 3) := dk_183 0 160 (dk_at dksX1_init_6 0 rfl rfl)
theorem dX1_init_140 : decode cX1_init 140 = .ok (.aastore, 1) := dk_83 (dk_at dksX1_init_6 3 rfl rfl)
theorem dX1_init_141 : decode cX1_init 141 = .ok (.dup, 1) := dk_89 (dk_at dksX1_init_6 4 rfl rfl)
theorem dX1_init_142 : decode cX1_init 142 = .ok (.bipush 9, 2) := dk_16 9 (dk_at dksX1_init_6 5 rfl rfl)
theorem dX1_init_144 : decode cX1_init 144 = .ok (.new 161, 3) := dk_187 0 161 (dk_at dksX1_init_6 7 rfl rfl)
theorem dX1_init_147 : decode cX1_init 147 = .ok (.dup, 1) := dk_89 (dk_at dksX1_init_6 10 rfl rfl)
theorem dX1_init_148 : decode cX1_init 148 = .ok (.aload_n 0, 1) := dk_42 (dk_at dksX1_init_6 11 rfl rfl)
theorem dX1_init_149 : decode cX1_init 149 = .ok (.invokespecial 163, 3) := dk_183 0 163 (dk_at dksX1_init_6 12 rfl rfl)
theorem dX1_init_152 : decode cX1_init 152 = .ok (.aastore, 1) := dk_83 (dk_at dksX1_init_6 15 rfl rfl)
theorem dX1_init_153 : decode cX1_init 153 = .ok (.dup, 1) := dk_89 (dk_at dksX1_init_6 16 rfl rfl)
theorem dX1_init_154 : decode cX1_init 154 = .ok (.bipush 10, 2) := dk_16 10 (dk_at dksX1_init_6 17 rfl rfl)
theorem dX1_init_156 : decode cX1_init 156 = .ok (.new 164, 3) := dk_187 0 164 (dk_at dksX1_init_6 19 rfl rfl)
theorem dX1_init_159 : decode cX1_init 159 = .ok (.dup, 1) := dk_89 (dk_at dksX1_init_6 22 rfl rfl)
theorem dX1_init_160 : decode cX1_init 160 = .ok (.aload_n 0, 1) := dk_42 (dk_at dksX1_init_6 23 rfl rfl)
theorem dX1_init_161 : decode cX1_init 161 = .ok (.invokespecial 166, 3) := dk_183 0 166 (dk_at dksX1_init_7 0 rfl rfl)
theorem dX1_init_164 : decode cX1_init 164 = .ok (.aastore, 1) := dk_83 (dk_at dksX1_init_7 3 rfl rfl)
theorem dX1_init_165 : decode cX1_init 165 = .ok (.dup, 1) := dk_89 (dk_at dksX1_init_7 4 rfl rfl)
theorem dX1_init_166 : decode cX1_init 166 = .ok (.bipush 11, 2) := dk_16 11 (dk_at dksX1_init_7 5 rfl rfl)
theorem dX1_init_168 : decode cX1_init 168 = .ok (.new 167, 3) := dk_187 0 167 (dk_at dksX1_init_7 7 rfl rfl)
theorem dX1_init_171 : decode cX1_init 171 = .ok (.dup, 1) := dk_89 (dk_at dksX1_init_7 10 rfl rfl)
theorem dX1_init_172 : decode cX1_init 172 = .ok (.aload_n 0, 1) := dk_42 (dk_at dksX1_init_7 11 rfl rfl)
theorem dX1_init_173 : decode cX1_init 173 = .ok (.invokespecial 169, 3) := dk_183 0 169 (dk_at dksX1_init_7 12 rfl rfl)
theorem dX1_init_176 : decode cX1_init 176 = .ok (.aastore, 1) := dk_83 (dk_at dksX1_init_7 15 rfl rfl)
theorem dX1_init_177 : decode cX1_init 177 = .ok (.dup, 1) := dk_89 (dk_at dksX1_init_7 16 rfl rfl)
theorem dX1_init_178 : decode cX1_init 178 = .ok (.bipush 12, 2) := dk_16 12 (dk_at dksX1_init_7 17 rfl rfl)
theorem dX1_init_180 : decode cX1_init 180 = .ok (.new 170, 3) := dk_187 0 170 (dk_at dksX1_init_7 19 rfl rfl)
theorem dX1_init_183 : decode cX1_init 183 = .ok (.dup, 1) := dk_89 (dk_at dksX1_init_7 22 rfl rfl)
theorem dX1_init_184 : decode cX1_init 184 = .ok (.aload_n 0, 1) := dk_42 (dk_at dksX1_init_7 23 rfl rfl)
theorem dX1_init_185 : decode cX1_init 185 = .ok (.invokespecial 172, 3) := dk_183 0 172 (dk_at dksX1_init_8 0 rfl rfl)
theorem dX1_init_188 : decode cX1_init 188 = .ok (.aastore, 1) := dk_83 (dk_at dksX1_init_8 3 rfl rfl)
theorem dX1_init_189 : decode cX1_init 189 = .ok (.putfield 173, 3) := dk_181 0 173 (dk_at dksX1_init_8 4 rfl rfl)
theorem dX1_init_192 : decode cX1_init 192 = .ok (.aload_n 0, 1) := dk_42 (dk_at dksX1_init_8 7 rfl rfl)
theorem dX1_init_193 : decode cX1_init 193 = .ok (.bipush 12, 2) := dk_16 12 (dk_at dksX1_init_8 8 rfl rfl)
theorem dX1_init_195 : decode cX1_init 195 = .ok (.newarray .long, 2) := dk_188_11 (dk_at dksX1_init_8 10 rfl rfl)
theorem dX1_init_197 : decode cX1_init 197 = .ok (.putfield 177, 3) := dk_181 0 177 (dk_at dksX1_init_8 12 rfl rfl)
theorem dX1_init_200 : decode cX1_init 200 = .ok (.return_, 1) := dk_177 (dk_at dksX1_init_8 15 rfl rfl)
abbrev cX1_newPlans : ByteArray := prog_1_method_14_code
def yX1_newPlans : MethodName := ⟨RX1, "newPlans", "()[LNativeSubset$Plan;"⟩
def dkwX1_newPlans_1 : List UInt8 := [132, 1, 1, 167, 255, 237, 42, 176]
abbrev dktX1_newPlans_1 : List UInt8 := dkwX1_newPlans_1 ++ []
def dkwX1_newPlans_0 : List UInt8 := [16, 6, 189, 0, 104, 75, 3, 60, 27, 16, 6, 162, 0, 19, 42, 27, 187, 0, 104, 89, 183, 0, 106, 83]
abbrev dktX1_newPlans_0 : List UInt8 := dkwX1_newPlans_0 ++ dktX1_newPlans_1
theorem dksX1_newPlans_0 : cX1_newPlans.data.toList.drop 0 = dktX1_newPlans_0 := by decide +kernel
theorem dksX1_newPlans_1 : cX1_newPlans.data.toList.drop 24 = dktX1_newPlans_1 := dk_seg dksX1_newPlans_0 24 rfl rfl
theorem dX1_newPlans_0 : decode cX1_newPlans 0 = .ok (.bipush 6, 2) := dk_16 6 (dk_at dksX1_newPlans_0 0 rfl rfl)
theorem dX1_newPlans_2 : decode cX1_newPlans 2 = .ok (.anewarray 104, 3) := dk_189 0 104 (dk_at dksX1_newPlans_0 2 rfl rfl)
theorem dX1_newPlans_5 : decode cX1_newPlans 5 = .ok (.astore_n 0, 1) := dk_75 (dk_at dksX1_newPlans_0 5 rfl rfl)
theorem dX1_newPlans_6 : decode cX1_newPlans 6 = .ok (.iconst 0, 1) := dk_3 (dk_at dksX1_newPlans_0 6 rfl rfl)
theorem dX1_newPlans_7 : decode cX1_newPlans 7 = .ok (.istore_n 1, 1) := dk_60 (dk_at dksX1_newPlans_0 7 rfl rfl)
theorem dX1_newPlans_8 : decode cX1_newPlans 8 = .ok (.iload_n 1, 1) := dk_27 (dk_at dksX1_newPlans_0 8 rfl rfl)
theorem dX1_newPlans_9 : decode cX1_newPlans 9 = .ok (.bipush 6, 2) := dk_16 6 (dk_at dksX1_newPlans_0 9 rfl rfl)
theorem dX1_newPlans_11 : decode cX1_newPlans 11 = .ok (.if_icmp .ge 19, 3) := dk_162 0 19 (dk_at dksX1_newPlans_0 11 rfl rfl)
theorem dX1_newPlans_14 : decode cX1_newPlans 14 = .ok (.aload_n 0, 1) := dk_42 (dk_at dksX1_newPlans_0 14 rfl rfl)
theorem dX1_newPlans_15 : decode cX1_newPlans 15 = .ok (.iload_n 1, 1) := dk_27 (dk_at dksX1_newPlans_0 15 rfl rfl)
theorem dX1_newPlans_16 : decode cX1_newPlans 16 = .ok (.new 104, 3) := dk_187 0 104 (dk_at dksX1_newPlans_0 16 rfl rfl)
theorem dX1_newPlans_19 : decode cX1_newPlans 19 = .ok (.dup, 1) := dk_89 (dk_at dksX1_newPlans_0 19 rfl rfl)
theorem dX1_newPlans_20 : decode cX1_newPlans 20 = .ok (.invokespecial 106, 3) := dk_183 0 106 (dk_at dksX1_newPlans_0 20 rfl rfl)
theorem dX1_newPlans_23 : decode cX1_newPlans 23 = .ok (.aastore, 1) := dk_83 (dk_at dksX1_newPlans_0 23 rfl rfl)
theorem dX1_newPlans_24 : decode cX1_newPlans 24 = .ok (.iinc 1 1, 3) := dk_132 1 1 (dk_at dksX1_newPlans_1 0 rfl rfl)
theorem dX1_newPlans_27 : decode cX1_newPlans 27 = .ok (.goto (-19), 3) := dk_167 255 237 (dk_at dksX1_newPlans_1 3 rfl rfl)
theorem dX1_newPlans_30 : decode cX1_newPlans 30 = .ok (.aload_n 0, 1) := dk_42 (dk_at dksX1_newPlans_1 6 rfl rfl)
theorem dX1_newPlans_31 : decode cX1_newPlans 31 = .ok (.areturn, 1) := dk_176 (dk_at dksX1_newPlans_1 7 rfl rfl)
abbrev cX1_row : ByteArray := prog_1_method_22_code
def yX1_row : MethodName := ⟨RX1, "row", "(II)I"⟩
def dkwX1_row_2 : List UInt8 := [182, 0, 214, 87, 42, 180, 0, 115, 182, 0, 180, 4, 100, 172]
abbrev dktX1_row_2 : List UInt8 := dkwX1_row_2 ++ []
def dkwX1_row_1 : List UInt8 := [180, 0, 115, 182, 0, 180, 16, 60, 160, 0, 6, 16, 152, 172, 42, 180, 0, 115, 27, 28, 184, 0, 38]
abbrev dktX1_row_1 : List UInt8 := dkwX1_row_1 ++ dktX1_row_2
def dkwX1_row_0 : List UInt8 := [27, 155, 0, 19, 27, 16, 10, 163, 0, 13, 28, 155, 0, 9, 28, 16, 40, 164, 0, 6, 16, 154, 172, 42]
abbrev dktX1_row_0 : List UInt8 := dkwX1_row_0 ++ dktX1_row_1
theorem dksX1_row_0 : cX1_row.data.toList.drop 0 = dktX1_row_0 := by decide +kernel
theorem dksX1_row_1 : cX1_row.data.toList.drop 24 = dktX1_row_1 := dk_seg dksX1_row_0 24 rfl rfl
theorem dksX1_row_2 : cX1_row.data.toList.drop 47 = dktX1_row_2 := dk_seg dksX1_row_1 23 rfl rfl
theorem dX1_row_0 : decode cX1_row 0 = .ok (.iload_n 1, 1) := dk_27 (dk_at dksX1_row_0 0 rfl rfl)
theorem dX1_row_1 : decode cX1_row 1 = .ok (.ifCond .lt 19, 3) := dk_155 0 19 (dk_at dksX1_row_0 1 rfl rfl)
theorem dX1_row_4 : decode cX1_row 4 = .ok (.iload_n 1, 1) := dk_27 (dk_at dksX1_row_0 4 rfl rfl)
theorem dX1_row_5 : decode cX1_row 5 = .ok (.bipush 10, 2) := dk_16 10 (dk_at dksX1_row_0 5 rfl rfl)
theorem dX1_row_7 : decode cX1_row 7 = .ok (.if_icmp .gt 13, 3) := dk_163 0 13 (dk_at dksX1_row_0 7 rfl rfl)
theorem dX1_row_10 : decode cX1_row 10 = .ok (.iload_n 2, 1) := dk_28 (dk_at dksX1_row_0 10 rfl rfl)
theorem dX1_row_11 : decode cX1_row 11 = .ok (.ifCond .lt 9, 3) := dk_155 0 9 (dk_at dksX1_row_0 11 rfl rfl)
theorem dX1_row_14 : decode cX1_row 14 = .ok (.iload_n 2, 1) := dk_28 (dk_at dksX1_row_0 14 rfl rfl)
theorem dX1_row_15 : decode cX1_row 15 = .ok (.bipush 40, 2) := dk_16 40 (dk_at dksX1_row_0 15 rfl rfl)
theorem dX1_row_17 : decode cX1_row 17 = .ok (.if_icmp .le 6, 3) := dk_164 0 6 (dk_at dksX1_row_0 17 rfl rfl)
theorem dX1_row_20 : decode cX1_row 20 = .ok (.bipush (-102), 2) := dk_16 154 (dk_at dksX1_row_0 20 rfl rfl)
theorem dX1_row_22 : decode cX1_row 22 = .ok (.ireturn, 1) := dk_172 (dk_at dksX1_row_0 22 rfl rfl)
theorem dX1_row_23 : decode cX1_row 23 = .ok (.aload_n 0, 1) := dk_42 (dk_at dksX1_row_0 23 rfl rfl)
theorem dX1_row_24 : decode cX1_row 24 = .ok (.getfield 115, 3) := dk_180 0 115 (dk_at dksX1_row_1 0 rfl rfl)
theorem dX1_row_27 : decode cX1_row 27 = .ok (.invokevirtual 180, 3) := dk_182 0 180 (dk_at dksX1_row_1 3 rfl rfl)
theorem dX1_row_30 : decode cX1_row 30 = .ok (.bipush 60, 2) := dk_16 60 (dk_at dksX1_row_1 6 rfl rfl)
theorem dX1_row_32 : decode cX1_row 32 = .ok (.if_icmp .ne 6, 3) := dk_160 0 6 (dk_at dksX1_row_1 8 rfl rfl)
theorem dX1_row_35 : decode cX1_row 35 = .ok (.bipush (-104), 2) := dk_16 152 (dk_at dksX1_row_1 11 rfl rfl)
theorem dX1_row_37 : decode cX1_row 37 = .ok (.ireturn, 1) := dk_172 (dk_at dksX1_row_1 13 rfl rfl)
theorem dX1_row_38 : decode cX1_row 38 = .ok (.aload_n 0, 1) := dk_42 (dk_at dksX1_row_1 14 rfl rfl)
theorem dX1_row_39 : decode cX1_row 39 = .ok (.getfield 115, 3) := dk_180 0 115 (dk_at dksX1_row_1 15 rfl rfl)
theorem dX1_row_42 : decode cX1_row 42 = .ok (.iload_n 1, 1) := dk_27 (dk_at dksX1_row_1 18 rfl rfl)
theorem dX1_row_43 : decode cX1_row 43 = .ok (.iload_n 2, 1) := dk_28 (dk_at dksX1_row_1 19 rfl rfl)
theorem dX1_row_44 : decode cX1_row 44 = .ok (.invokestatic 38, 3) := dk_184 0 38 (dk_at dksX1_row_1 20 rfl rfl)
theorem dX1_row_47 : decode cX1_row 47 = .ok (.invokevirtual 214, 3) := dk_182 0 214 (dk_at dksX1_row_2 0 rfl rfl)
theorem dX1_row_50 : decode cX1_row 50 = .ok (.pop, 1) := dk_87 (dk_at dksX1_row_2 3 rfl rfl)
theorem dX1_row_51 : decode cX1_row 51 = .ok (.aload_n 0, 1) := dk_42 (dk_at dksX1_row_2 4 rfl rfl)
theorem dX1_row_52 : decode cX1_row 52 = .ok (.getfield 115, 3) := dk_180 0 115 (dk_at dksX1_row_2 5 rfl rfl)
theorem dX1_row_55 : decode cX1_row 55 = .ok (.invokevirtual 180, 3) := dk_182 0 180 (dk_at dksX1_row_2 8 rfl rfl)
theorem dX1_row_58 : decode cX1_row 58 = .ok (.iconst 1, 1) := dk_4 (dk_at dksX1_row_2 11 rfl rfl)
theorem dX1_row_59 : decode cX1_row 59 = .ok (.isub, 1) := dk_100 (dk_at dksX1_row_2 12 rfl rfl)
theorem dX1_row_60 : decode cX1_row 60 = .ok (.ireturn, 1) := dk_172 (dk_at dksX1_row_2 13 rfl rfl)
abbrev cX1_made : ByteArray := prog_1_method_3_code
def yX1_made : MethodName := ⟨RX1, "made", "(II)Ljava/lang/Object;"⟩
def dkwX1_made_3 : List UInt8 := [27, 188, 6, 176, 27, 188, 7, 176, 27, 189, 0, 31, 176, 27, 189, 0, 33, 176, 27, 189, 0, 17, 176]
abbrev dktX1_made_3 : List UInt8 := dkwX1_made_3 ++ []
def dkwX1_made_2 : List UInt8 := [27, 188, 4, 176, 27, 188, 8, 176, 27, 188, 5, 176, 27, 188, 9, 176, 27, 188, 10, 176, 27, 188, 11, 176]
abbrev dktX1_made_2 : List UInt8 := dkwX1_made_2 ++ dktX1_made_3
def dkwX1_made_1 : List UInt8 := [170, 0, 0, 0, 0, 0, 97, 0, 0, 0, 0, 0, 0, 0, 9, 0, 0, 0, 55, 0, 0, 0, 59, 0, 0, 0, 63, 0, 0, 0, 67, 0, 0, 0, 71, 0, 0, 0, 75, 0, 0, 0, 79, 0, 0, 0, 83, 0, 0, 0, 87, 0, 0, 0, 92]
abbrev dktX1_made_1 : List UInt8 := dkwX1_made_1 ++ dktX1_made_2
def dkwX1_made_0 : List UInt8 := [26]
abbrev dktX1_made_0 : List UInt8 := dkwX1_made_0 ++ dktX1_made_1
theorem dksX1_made_0 : cX1_made.data.toList.drop 0 = dktX1_made_0 := by decide +kernel
theorem dksX1_made_1 : cX1_made.data.toList.drop 1 = dktX1_made_1 := dk_seg dksX1_made_0 1 rfl rfl
theorem dksX1_made_2 : cX1_made.data.toList.drop 56 = dktX1_made_2 := dk_seg dksX1_made_1 55 rfl rfl
theorem dksX1_made_3 : cX1_made.data.toList.drop 80 = dktX1_made_3 := dk_seg dksX1_made_2 24 rfl rfl
theorem dX1_made_0 : decode cX1_made 0 = .ok (.iload_n 0, 1) := dk_26 (dk_at dksX1_made_0 0 rfl rfl)
theorem dX1_made_1 : decode cX1_made 1 = .ok (.tableswitch 97 0 9 #[55, 59, 63, 67, 71, 75, 79, 83, 87, 92], 55) := by decide +kernel
theorem dX1_made_56 : decode cX1_made 56 = .ok (.iload_n 1, 1) := dk_27 (dk_at dksX1_made_2 0 rfl rfl)
theorem dX1_made_57 : decode cX1_made 57 = .ok (.newarray .boolean, 2) := dk_188_4 (dk_at dksX1_made_2 1 rfl rfl)
theorem dX1_made_59 : decode cX1_made 59 = .ok (.areturn, 1) := dk_176 (dk_at dksX1_made_2 3 rfl rfl)
theorem dX1_made_60 : decode cX1_made 60 = .ok (.iload_n 1, 1) := dk_27 (dk_at dksX1_made_2 4 rfl rfl)
theorem dX1_made_61 : decode cX1_made 61 = .ok (.newarray .byte, 2) := dk_188_8 (dk_at dksX1_made_2 5 rfl rfl)
theorem dX1_made_63 : decode cX1_made 63 = .ok (.areturn, 1) := dk_176 (dk_at dksX1_made_2 7 rfl rfl)
theorem dX1_made_64 : decode cX1_made 64 = .ok (.iload_n 1, 1) := dk_27 (dk_at dksX1_made_2 8 rfl rfl)
theorem dX1_made_65 : decode cX1_made 65 = .ok (.newarray .char, 2) := dk_188_5 (dk_at dksX1_made_2 9 rfl rfl)
theorem dX1_made_67 : decode cX1_made 67 = .ok (.areturn, 1) := dk_176 (dk_at dksX1_made_2 11 rfl rfl)
theorem dX1_made_68 : decode cX1_made 68 = .ok (.iload_n 1, 1) := dk_27 (dk_at dksX1_made_2 12 rfl rfl)
theorem dX1_made_69 : decode cX1_made 69 = .ok (.newarray .short, 2) := dk_188_9 (dk_at dksX1_made_2 13 rfl rfl)
theorem dX1_made_71 : decode cX1_made 71 = .ok (.areturn, 1) := dk_176 (dk_at dksX1_made_2 15 rfl rfl)
theorem dX1_made_72 : decode cX1_made 72 = .ok (.iload_n 1, 1) := dk_27 (dk_at dksX1_made_2 16 rfl rfl)
theorem dX1_made_73 : decode cX1_made 73 = .ok (.newarray .int, 2) := dk_188_10 (dk_at dksX1_made_2 17 rfl rfl)
theorem dX1_made_75 : decode cX1_made 75 = .ok (.areturn, 1) := dk_176 (dk_at dksX1_made_2 19 rfl rfl)
theorem dX1_made_76 : decode cX1_made 76 = .ok (.iload_n 1, 1) := dk_27 (dk_at dksX1_made_2 20 rfl rfl)
theorem dX1_made_77 : decode cX1_made 77 = .ok (.newarray .long, 2) := dk_188_11 (dk_at dksX1_made_2 21 rfl rfl)
theorem dX1_made_79 : decode cX1_made 79 = .ok (.areturn, 1) := dk_176 (dk_at dksX1_made_2 23 rfl rfl)
theorem dX1_made_80 : decode cX1_made 80 = .ok (.iload_n 1, 1) := dk_27 (dk_at dksX1_made_3 0 rfl rfl)
theorem dX1_made_81 : decode cX1_made 81 = .ok (.newarray .float, 2) := dk_188_6 (dk_at dksX1_made_3 1 rfl rfl)
theorem dX1_made_83 : decode cX1_made 83 = .ok (.areturn, 1) := dk_176 (dk_at dksX1_made_3 3 rfl rfl)
theorem dX1_made_84 : decode cX1_made 84 = .ok (.iload_n 1, 1) := dk_27 (dk_at dksX1_made_3 4 rfl rfl)
theorem dX1_made_85 : decode cX1_made 85 = .ok (.newarray .double, 2) := dk_188_7 (dk_at dksX1_made_3 5 rfl rfl)
theorem dX1_made_87 : decode cX1_made 87 = .ok (.areturn, 1) := dk_176 (dk_at dksX1_made_3 7 rfl rfl)
theorem dX1_made_88 : decode cX1_made 88 = .ok (.iload_n 1, 1) := dk_27 (dk_at dksX1_made_3 8 rfl rfl)
theorem dX1_made_89 : decode cX1_made 89 = .ok (.anewarray 31, 3) := dk_189 0 31 (dk_at dksX1_made_3 9 rfl rfl)
theorem dX1_made_92 : decode cX1_made 92 = .ok (.areturn, 1) := dk_176 (dk_at dksX1_made_3 12 rfl rfl)
theorem dX1_made_93 : decode cX1_made 93 = .ok (.iload_n 1, 1) := dk_27 (dk_at dksX1_made_3 13 rfl rfl)
theorem dX1_made_94 : decode cX1_made 94 = .ok (.anewarray 33, 3) := dk_189 0 33 (dk_at dksX1_made_3 14 rfl rfl)
theorem dX1_made_97 : decode cX1_made 97 = .ok (.areturn, 1) := dk_176 (dk_at dksX1_made_3 17 rfl rfl)
theorem dX1_made_98 : decode cX1_made 98 = .ok (.iload_n 1, 1) := dk_27 (dk_at dksX1_made_3 18 rfl rfl)
theorem dX1_made_99 : decode cX1_made 99 = .ok (.anewarray 17, 3) := dk_189 0 17 (dk_at dksX1_made_3 19 rfl rfl)
theorem dX1_made_102 : decode cX1_made 102 = .ok (.areturn, 1) := dk_176 (dk_at dksX1_made_3 22 rfl rfl)
abbrev cX1_unit : ByteArray := prog_1_method_23_code
def yX1_unit : MethodName := ⟨RX1, "unit", "(II)I"⟩
def dkwX1_unit_3 : List UInt8 := [187, 0, 221, 89, 29, 28, 183, 0, 223, 182, 0, 214, 87, 29, 172]
abbrev dktX1_unit_3 : List UInt8 := dkwX1_unit_3 ++ []
def dkwX1_unit_2 : List UInt8 := [28, 183, 0, 217, 167, 0, 29, 27, 4, 160, 0, 15, 187, 0, 33, 89, 29, 28, 183, 0, 220, 167, 0, 12]
abbrev dktX1_unit_2 : List UInt8 := dkwX1_unit_2 ++ dktX1_unit_3
def dkwX1_unit_1 : List UInt8 := [16, 152, 172, 42, 180, 0, 119, 182, 0, 180, 62, 42, 180, 0, 119, 27, 154, 0, 15, 187, 0, 31, 89, 29]
abbrev dktX1_unit_1 : List UInt8 := dkwX1_unit_1 ++ dktX1_unit_2
def dkwX1_unit_0 : List UInt8 := [27, 155, 0, 8, 27, 5, 164, 0, 6, 16, 154, 172, 42, 180, 0, 119, 182, 0, 180, 16, 30, 160, 0, 6]
abbrev dktX1_unit_0 : List UInt8 := dkwX1_unit_0 ++ dktX1_unit_1
theorem dksX1_unit_0 : cX1_unit.data.toList.drop 0 = dktX1_unit_0 := by decide +kernel
theorem dksX1_unit_1 : cX1_unit.data.toList.drop 24 = dktX1_unit_1 := dk_seg dksX1_unit_0 24 rfl rfl
theorem dksX1_unit_2 : cX1_unit.data.toList.drop 48 = dktX1_unit_2 := dk_seg dksX1_unit_1 24 rfl rfl
theorem dksX1_unit_3 : cX1_unit.data.toList.drop 72 = dktX1_unit_3 := dk_seg dksX1_unit_2 24 rfl rfl
theorem dX1_unit_0 : decode cX1_unit 0 = .ok (.iload_n 1, 1) := dk_27 (dk_at dksX1_unit_0 0 rfl rfl)
theorem dX1_unit_1 : decode cX1_unit 1 = .ok (.ifCond .lt 8, 3) := dk_155 0 8 (dk_at dksX1_unit_0 1 rfl rfl)
theorem dX1_unit_4 : decode cX1_unit 4 = .ok (.iload_n 1, 1) := dk_27 (dk_at dksX1_unit_0 4 rfl rfl)
theorem dX1_unit_5 : decode cX1_unit 5 = .ok (.iconst 2, 1) := dk_5 (dk_at dksX1_unit_0 5 rfl rfl)
theorem dX1_unit_6 : decode cX1_unit 6 = .ok (.if_icmp .le 6, 3) := dk_164 0 6 (dk_at dksX1_unit_0 6 rfl rfl)
theorem dX1_unit_9 : decode cX1_unit 9 = .ok (.bipush (-102), 2) := dk_16 154 (dk_at dksX1_unit_0 9 rfl rfl)
theorem dX1_unit_11 : decode cX1_unit 11 = .ok (.ireturn, 1) := dk_172 (dk_at dksX1_unit_0 11 rfl rfl)
theorem dX1_unit_12 : decode cX1_unit 12 = .ok (.aload_n 0, 1) := dk_42 (dk_at dksX1_unit_0 12 rfl rfl)
theorem dX1_unit_13 : decode cX1_unit 13 = .ok (.getfield 119, 3) := dk_180 0 119 (dk_at dksX1_unit_0 13 rfl rfl)
theorem dX1_unit_16 : decode cX1_unit 16 = .ok (.invokevirtual 180, 3) := dk_182 0 180 (dk_at dksX1_unit_0 16 rfl rfl)
theorem dX1_unit_19 : decode cX1_unit 19 = .ok (.bipush 30, 2) := dk_16 30 (dk_at dksX1_unit_0 19 rfl rfl)
theorem dX1_unit_21 : decode cX1_unit 21 = .ok (.if_icmp .ne 6, 3) := dk_160 0 6 (dk_at dksX1_unit_0 21 rfl rfl)
theorem dX1_unit_24 : decode cX1_unit 24 = .ok (.bipush (-104), 2) := dk_16 152 (dk_at dksX1_unit_1 0 rfl rfl)
theorem dX1_unit_26 : decode cX1_unit 26 = .ok (.ireturn, 1) := dk_172 (dk_at dksX1_unit_1 2 rfl rfl)
theorem dX1_unit_27 : decode cX1_unit 27 = .ok (.aload_n 0, 1) := dk_42 (dk_at dksX1_unit_1 3 rfl rfl)
theorem dX1_unit_28 : decode cX1_unit 28 = .ok (.getfield 119, 3) := dk_180 0 119 (dk_at dksX1_unit_1 4 rfl rfl)
theorem dX1_unit_31 : decode cX1_unit 31 = .ok (.invokevirtual 180, 3) := dk_182 0 180 (dk_at dksX1_unit_1 7 rfl rfl)
theorem dX1_unit_34 : decode cX1_unit 34 = .ok (.istore_n 3, 1) := dk_62 (dk_at dksX1_unit_1 10 rfl rfl)
theorem dX1_unit_35 : decode cX1_unit 35 = .ok (.aload_n 0, 1) := dk_42 (dk_at dksX1_unit_1 11 rfl rfl)
theorem dX1_unit_36 : decode cX1_unit 36 = .ok (.getfield 119, 3) := dk_180 0 119 (dk_at dksX1_unit_1 12 rfl rfl)
theorem dX1_unit_39 : decode cX1_unit 39 = .ok (.iload_n 1, 1) := dk_27 (dk_at dksX1_unit_1 15 rfl rfl)
theorem dX1_unit_40 : decode cX1_unit 40 = .ok (.ifCond .ne 15, 3) := dk_154 0 15 (dk_at dksX1_unit_1 16 rfl rfl)
theorem dX1_unit_43 : decode cX1_unit 43 = .ok (.new 31, 3) := dk_187 0 31 (dk_at dksX1_unit_1 19 rfl rfl)
theorem dX1_unit_46 : decode cX1_unit 46 = .ok (.dup, 1) := dk_89 (dk_at dksX1_unit_1 22 rfl rfl)
theorem dX1_unit_47 : decode cX1_unit 47 = .ok (.iload_n 3, 1) := dk_29 (dk_at dksX1_unit_1 23 rfl rfl)
theorem dX1_unit_48 : decode cX1_unit 48 = .ok (.iload_n 2, 1) := dk_28 (dk_at dksX1_unit_2 0 rfl rfl)
theorem dX1_unit_49 : decode cX1_unit 49 = .ok (.invokespecial 217, 3) := dk_183 0 217 (dk_at dksX1_unit_2 1 rfl rfl)
theorem dX1_unit_52 : decode cX1_unit 52 = .ok (.goto 29, 3) := dk_167 0 29 (dk_at dksX1_unit_2 4 rfl rfl)
theorem dX1_unit_55 : decode cX1_unit 55 = .ok (.iload_n 1, 1) := dk_27 (dk_at dksX1_unit_2 7 rfl rfl)
theorem dX1_unit_56 : decode cX1_unit 56 = .ok (.iconst 1, 1) := dk_4 (dk_at dksX1_unit_2 8 rfl rfl)
theorem dX1_unit_57 : decode cX1_unit 57 = .ok (.if_icmp .ne 15, 3) := dk_160 0 15 (dk_at dksX1_unit_2 9 rfl rfl)
theorem dX1_unit_60 : decode cX1_unit 60 = .ok (.new 33, 3) := dk_187 0 33 (dk_at dksX1_unit_2 12 rfl rfl)
theorem dX1_unit_63 : decode cX1_unit 63 = .ok (.dup, 1) := dk_89 (dk_at dksX1_unit_2 15 rfl rfl)
theorem dX1_unit_64 : decode cX1_unit 64 = .ok (.iload_n 3, 1) := dk_29 (dk_at dksX1_unit_2 16 rfl rfl)
theorem dX1_unit_65 : decode cX1_unit 65 = .ok (.iload_n 2, 1) := dk_28 (dk_at dksX1_unit_2 17 rfl rfl)
theorem dX1_unit_66 : decode cX1_unit 66 = .ok (.invokespecial 220, 3) := dk_183 0 220 (dk_at dksX1_unit_2 18 rfl rfl)
theorem dX1_unit_69 : decode cX1_unit 69 = .ok (.goto 12, 3) := dk_167 0 12 (dk_at dksX1_unit_2 21 rfl rfl)
theorem dX1_unit_72 : decode cX1_unit 72 = .ok (.new 221, 3) := dk_187 0 221 (dk_at dksX1_unit_3 0 rfl rfl)
theorem dX1_unit_75 : decode cX1_unit 75 = .ok (.dup, 1) := dk_89 (dk_at dksX1_unit_3 3 rfl rfl)
theorem dX1_unit_76 : decode cX1_unit 76 = .ok (.iload_n 3, 1) := dk_29 (dk_at dksX1_unit_3 4 rfl rfl)
theorem dX1_unit_77 : decode cX1_unit 77 = .ok (.iload_n 2, 1) := dk_28 (dk_at dksX1_unit_3 5 rfl rfl)
theorem dX1_unit_78 : decode cX1_unit 78 = .ok (.invokespecial 223, 3) := dk_183 0 223 (dk_at dksX1_unit_3 6 rfl rfl)
theorem dX1_unit_81 : decode cX1_unit 81 = .ok (.invokevirtual 214, 3) := dk_182 0 214 (dk_at dksX1_unit_3 9 rfl rfl)
theorem dX1_unit_84 : decode cX1_unit 84 = .ok (.pop, 1) := dk_87 (dk_at dksX1_unit_3 12 rfl rfl)
theorem dX1_unit_85 : decode cX1_unit 85 = .ok (.iload_n 3, 1) := dk_29 (dk_at dksX1_unit_3 13 rfl rfl)
theorem dX1_unit_86 : decode cX1_unit 86 = .ok (.ireturn, 1) := dk_172 (dk_at dksX1_unit_3 14 rfl rfl)
abbrev cX1_about : ByteArray := prog_1_method_28_code
def yX1_about : MethodName := ⟨RX1, "about", "(I)I"⟩
def dkwX1_about_3 : List UInt8 := [180, 0, 248, 172, 42, 180, 0, 251, 172, 42, 180, 0, 254, 172, 16, 154, 172]
abbrev dktX1_about_3 : List UInt8 := dkwX1_about_3 ++ []
def dkwX1_about_2 : List UInt8 := [42, 180, 0, 115, 182, 0, 180, 172, 42, 180, 0, 119, 182, 0, 180, 172, 42, 180, 0, 245, 172, 42]
abbrev dktX1_about_2 : List UInt8 := dkwX1_about_2 ++ dktX1_about_3
def dkwX1_about_1 : List UInt8 := [170, 0, 0, 0, 0, 0, 75, 0, 0, 0, 0, 0, 0, 0, 5, 0, 0, 0, 39, 0, 0, 0, 47, 0, 0, 0, 55, 0, 0, 0, 60, 0, 0, 0, 65, 0, 0, 0, 70]
abbrev dktX1_about_1 : List UInt8 := dkwX1_about_1 ++ dktX1_about_2
def dkwX1_about_0 : List UInt8 := [27]
abbrev dktX1_about_0 : List UInt8 := dkwX1_about_0 ++ dktX1_about_1
theorem dksX1_about_0 : cX1_about.data.toList.drop 0 = dktX1_about_0 := by decide +kernel
theorem dksX1_about_1 : cX1_about.data.toList.drop 1 = dktX1_about_1 := dk_seg dksX1_about_0 1 rfl rfl
theorem dksX1_about_2 : cX1_about.data.toList.drop 40 = dktX1_about_2 := dk_seg dksX1_about_1 39 rfl rfl
theorem dksX1_about_3 : cX1_about.data.toList.drop 62 = dktX1_about_3 := dk_seg dksX1_about_2 22 rfl rfl
theorem dX1_about_0 : decode cX1_about 0 = .ok (.iload_n 1, 1) := dk_27 (dk_at dksX1_about_0 0 rfl rfl)
theorem dX1_about_1 : decode cX1_about 1 = .ok (.tableswitch 75 0 5 #[39, 47, 55, 60, 65, 70], 39) := by decide +kernel
theorem dX1_about_40 : decode cX1_about 40 = .ok (.aload_n 0, 1) := dk_42 (dk_at dksX1_about_2 0 rfl rfl)
theorem dX1_about_41 : decode cX1_about 41 = .ok (.getfield 115, 3) := dk_180 0 115 (dk_at dksX1_about_2 1 rfl rfl)
theorem dX1_about_44 : decode cX1_about 44 = .ok (.invokevirtual 180, 3) := dk_182 0 180 (dk_at dksX1_about_2 4 rfl rfl)
theorem dX1_about_47 : decode cX1_about 47 = .ok (.ireturn, 1) := dk_172 (dk_at dksX1_about_2 7 rfl rfl)
theorem dX1_about_48 : decode cX1_about 48 = .ok (.aload_n 0, 1) := dk_42 (dk_at dksX1_about_2 8 rfl rfl)
theorem dX1_about_49 : decode cX1_about 49 = .ok (.getfield 119, 3) := dk_180 0 119 (dk_at dksX1_about_2 9 rfl rfl)
theorem dX1_about_52 : decode cX1_about 52 = .ok (.invokevirtual 180, 3) := dk_182 0 180 (dk_at dksX1_about_2 12 rfl rfl)
theorem dX1_about_55 : decode cX1_about 55 = .ok (.ireturn, 1) := dk_172 (dk_at dksX1_about_2 15 rfl rfl)
theorem dX1_about_56 : decode cX1_about 56 = .ok (.aload_n 0, 1) := dk_42 (dk_at dksX1_about_2 16 rfl rfl)
theorem dX1_about_57 : decode cX1_about 57 = .ok (.getfield 245, 3) := dk_180 0 245 (dk_at dksX1_about_2 17 rfl rfl)
theorem dX1_about_60 : decode cX1_about 60 = .ok (.ireturn, 1) := dk_172 (dk_at dksX1_about_2 20 rfl rfl)
theorem dX1_about_61 : decode cX1_about 61 = .ok (.aload_n 0, 1) := dk_42 (dk_at dksX1_about_2 21 rfl rfl)
theorem dX1_about_62 : decode cX1_about 62 = .ok (.getfield 248, 3) := dk_180 0 248 (dk_at dksX1_about_3 0 rfl rfl)
theorem dX1_about_65 : decode cX1_about 65 = .ok (.ireturn, 1) := dk_172 (dk_at dksX1_about_3 3 rfl rfl)
theorem dX1_about_66 : decode cX1_about 66 = .ok (.aload_n 0, 1) := dk_42 (dk_at dksX1_about_3 4 rfl rfl)
theorem dX1_about_67 : decode cX1_about 67 = .ok (.getfield 251, 3) := dk_180 0 251 (dk_at dksX1_about_3 5 rfl rfl)
theorem dX1_about_70 : decode cX1_about 70 = .ok (.ireturn, 1) := dk_172 (dk_at dksX1_about_3 8 rfl rfl)
theorem dX1_about_71 : decode cX1_about 71 = .ok (.aload_n 0, 1) := dk_42 (dk_at dksX1_about_3 9 rfl rfl)
theorem dX1_about_72 : decode cX1_about 72 = .ok (.getfield 254, 3) := dk_180 0 254 (dk_at dksX1_about_3 10 rfl rfl)
theorem dX1_about_75 : decode cX1_about 75 = .ok (.ireturn, 1) := dk_172 (dk_at dksX1_about_3 13 rfl rfl)
theorem dX1_about_76 : decode cX1_about 76 = .ok (.bipush (-102), 2) := dk_16 154 (dk_at dksX1_about_3 14 rfl rfl)
theorem dX1_about_78 : decode cX1_about 78 = .ok (.ireturn, 1) := dk_172 (dk_at dksX1_about_3 16 rfl rfl)
abbrev cX1_of : ByteArray := prog_1_method_29_code
def yX1_of : MethodName := ⟨RX1, "of", "(II)I"⟩
def dkwX1_of_2 : List UInt8 := [167, 0, 5, 16, 154, 172]
abbrev dktX1_of_2 : List UInt8 := dkwX1_of_2 ++ []
def dkwX1_of_1 : List UInt8 := [184, 0, 25, 167, 0, 24, 28, 4, 160, 0, 17, 42, 180, 0, 115, 27, 182, 0, 184, 184, 0, 35]
abbrev dktX1_of_1 : List UInt8 := dkwX1_of_1 ++ dktX1_of_2
def dkwX1_of_0 : List UInt8 := [42, 27, 182, 0, 224, 154, 0, 6, 16, 155, 172, 28, 154, 0, 17, 42, 180, 0, 115, 27, 182, 0, 184]
abbrev dktX1_of_0 : List UInt8 := dkwX1_of_0 ++ dktX1_of_1
theorem dksX1_of_0 : cX1_of.data.toList.drop 0 = dktX1_of_0 := by decide +kernel
theorem dksX1_of_1 : cX1_of.data.toList.drop 23 = dktX1_of_1 := dk_seg dksX1_of_0 23 rfl rfl
theorem dksX1_of_2 : cX1_of.data.toList.drop 45 = dktX1_of_2 := dk_seg dksX1_of_1 22 rfl rfl
theorem dX1_of_0 : decode cX1_of 0 = .ok (.aload_n 0, 1) := dk_42 (dk_at dksX1_of_0 0 rfl rfl)
theorem dX1_of_1 : decode cX1_of 1 = .ok (.iload_n 1, 1) := dk_27 (dk_at dksX1_of_0 1 rfl rfl)
theorem dX1_of_2 : decode cX1_of 2 = .ok (.invokevirtual 224, 3) := dk_182 0 224 (dk_at dksX1_of_0 2 rfl rfl)
theorem dX1_of_5 : decode cX1_of 5 = .ok (.ifCond .ne 6, 3) := dk_154 0 6 (dk_at dksX1_of_0 5 rfl rfl)
theorem dX1_of_8 : decode cX1_of 8 = .ok (.bipush (-101), 2) := dk_16 155 (dk_at dksX1_of_0 8 rfl rfl)
theorem dX1_of_10 : decode cX1_of 10 = .ok (.ireturn, 1) := dk_172 (dk_at dksX1_of_0 10 rfl rfl)
theorem dX1_of_11 : decode cX1_of 11 = .ok (.iload_n 2, 1) := dk_28 (dk_at dksX1_of_0 11 rfl rfl)
theorem dX1_of_12 : decode cX1_of 12 = .ok (.ifCond .ne 17, 3) := dk_154 0 17 (dk_at dksX1_of_0 12 rfl rfl)
theorem dX1_of_15 : decode cX1_of 15 = .ok (.aload_n 0, 1) := dk_42 (dk_at dksX1_of_0 15 rfl rfl)
theorem dX1_of_16 : decode cX1_of 16 = .ok (.getfield 115, 3) := dk_180 0 115 (dk_at dksX1_of_0 16 rfl rfl)
theorem dX1_of_19 : decode cX1_of 19 = .ok (.iload_n 1, 1) := dk_27 (dk_at dksX1_of_0 19 rfl rfl)
theorem dX1_of_20 : decode cX1_of 20 = .ok (.invokevirtual 184, 3) := dk_182 0 184 (dk_at dksX1_of_0 20 rfl rfl)
theorem dX1_of_23 : decode cX1_of 23 = .ok (.invokestatic 25, 3) := dk_184 0 25 (dk_at dksX1_of_1 0 rfl rfl)
theorem dX1_of_26 : decode cX1_of 26 = .ok (.goto 24, 3) := dk_167 0 24 (dk_at dksX1_of_1 3 rfl rfl)
theorem dX1_of_29 : decode cX1_of 29 = .ok (.iload_n 2, 1) := dk_28 (dk_at dksX1_of_1 6 rfl rfl)
theorem dX1_of_30 : decode cX1_of 30 = .ok (.iconst 1, 1) := dk_4 (dk_at dksX1_of_1 7 rfl rfl)
theorem dX1_of_31 : decode cX1_of 31 = .ok (.if_icmp .ne 17, 3) := dk_160 0 17 (dk_at dksX1_of_1 8 rfl rfl)
theorem dX1_of_34 : decode cX1_of 34 = .ok (.aload_n 0, 1) := dk_42 (dk_at dksX1_of_1 11 rfl rfl)
theorem dX1_of_35 : decode cX1_of 35 = .ok (.getfield 115, 3) := dk_180 0 115 (dk_at dksX1_of_1 12 rfl rfl)
theorem dX1_of_38 : decode cX1_of 38 = .ok (.iload_n 1, 1) := dk_27 (dk_at dksX1_of_1 15 rfl rfl)
theorem dX1_of_39 : decode cX1_of 39 = .ok (.invokevirtual 184, 3) := dk_182 0 184 (dk_at dksX1_of_1 16 rfl rfl)
theorem dX1_of_42 : decode cX1_of 42 = .ok (.invokestatic 35, 3) := dk_184 0 35 (dk_at dksX1_of_1 19 rfl rfl)
theorem dX1_of_45 : decode cX1_of 45 = .ok (.goto 5, 3) := dk_167 0 5 (dk_at dksX1_of_2 0 rfl rfl)
theorem dX1_of_48 : decode cX1_of 48 = .ok (.bipush (-102), 2) := dk_16 154 (dk_at dksX1_of_2 3 rfl rfl)
theorem dX1_of_50 : decode cX1_of 50 = .ok (.ireturn, 1) := dk_172 (dk_at dksX1_of_2 5 rfl rfl)
abbrev cX1_isRow : ByteArray := prog_1_method_16_code
def yX1_isRow : MethodName := ⟨RX1, "isRow", "(I)Z"⟩
def dkwX1_isRow_0 : List UInt8 := [27, 155, 0, 18, 27, 42, 180, 0, 115, 182, 0, 180, 162, 0, 7, 4, 167, 0, 4, 3, 172]
abbrev dktX1_isRow_0 : List UInt8 := dkwX1_isRow_0 ++ []
theorem dksX1_isRow_0 : cX1_isRow.data.toList.drop 0 = dktX1_isRow_0 := by decide +kernel
theorem dX1_isRow_0 : decode cX1_isRow 0 = .ok (.iload_n 1, 1) := dk_27 (dk_at dksX1_isRow_0 0 rfl rfl)
theorem dX1_isRow_1 : decode cX1_isRow 1 = .ok (.ifCond .lt 18, 3) := dk_155 0 18 (dk_at dksX1_isRow_0 1 rfl rfl)
theorem dX1_isRow_4 : decode cX1_isRow 4 = .ok (.iload_n 1, 1) := dk_27 (dk_at dksX1_isRow_0 4 rfl rfl)
theorem dX1_isRow_5 : decode cX1_isRow 5 = .ok (.aload_n 0, 1) := dk_42 (dk_at dksX1_isRow_0 5 rfl rfl)
theorem dX1_isRow_6 : decode cX1_isRow 6 = .ok (.getfield 115, 3) := dk_180 0 115 (dk_at dksX1_isRow_0 6 rfl rfl)
theorem dX1_isRow_9 : decode cX1_isRow 9 = .ok (.invokevirtual 180, 3) := dk_182 0 180 (dk_at dksX1_isRow_0 9 rfl rfl)
theorem dX1_isRow_12 : decode cX1_isRow 12 = .ok (.if_icmp .ge 7, 3) := dk_162 0 7 (dk_at dksX1_isRow_0 12 rfl rfl)
theorem dX1_isRow_15 : decode cX1_isRow 15 = .ok (.iconst 1, 1) := dk_4 (dk_at dksX1_isRow_0 15 rfl rfl)
theorem dX1_isRow_16 : decode cX1_isRow 16 = .ok (.goto 4, 3) := dk_167 0 4 (dk_at dksX1_isRow_0 16 rfl rfl)
theorem dX1_isRow_19 : decode cX1_isRow 19 = .ok (.iconst 0, 1) := dk_3 (dk_at dksX1_isRow_0 19 rfl rfl)
theorem dX1_isRow_20 : decode cX1_isRow 20 = .ok (.ireturn, 1) := dk_172 (dk_at dksX1_isRow_0 20 rfl rfl)
abbrev cX1_kindOf : ByteArray := prog_1_method_1_code
def yX1_kindOf : MethodName := ⟨RX1, "kindOf", "(Ljava/lang/Object;)I"⟩
def dkwX1_kindOf_5 : List UInt8 := [193, 0, 23, 153, 0, 8, 16, 7, 167, 0, 5, 16, 10, 172]
abbrev dktX1_kindOf_5 : List UInt8 := dkwX1_kindOf_5 ++ []
def dkwX1_kindOf_4 : List UInt8 := [153, 0, 7, 7, 167, 0, 4, 8, 172, 42, 193, 0, 21, 153, 0, 8, 16, 6, 167, 0, 17, 42]
abbrev dktX1_kindOf_4 : List UInt8 := dkwX1_kindOf_4 ++ dktX1_kindOf_5
def dkwX1_kindOf_3 : List UInt8 := [167, 0, 4, 6, 172, 42, 193, 0, 17, 154, 0, 10, 42, 193, 0, 19, 153, 0, 16, 42, 193, 0, 17]
abbrev dktX1_kindOf_3 : List UInt8 := dkwX1_kindOf_3 ++ dktX1_kindOf_4
def dkwX1_kindOf_2 : List UInt8 := [3, 172, 42, 193, 0, 13, 154, 0, 10, 42, 193, 0, 15, 153, 0, 16, 42, 193, 0, 13, 153, 0, 7, 5]
abbrev dktX1_kindOf_2 : List UInt8 := dkwX1_kindOf_2 ++ dktX1_kindOf_3
def dkwX1_kindOf_1 : List UInt8 := [193, 0, 9, 154, 0, 10, 42, 193, 0, 11, 153, 0, 16, 42, 193, 0, 11, 153, 0, 7, 4, 167, 0, 4]
abbrev dktX1_kindOf_1 : List UInt8 := dkwX1_kindOf_1 ++ dktX1_kindOf_2
def dkwX1_kindOf_0 : List UInt8 := [42, 193, 0, 3, 153, 0, 18, 42, 193, 0, 5, 153, 0, 8, 16, 9, 167, 0, 5, 16, 8, 172, 42]
abbrev dktX1_kindOf_0 : List UInt8 := dkwX1_kindOf_0 ++ dktX1_kindOf_1
theorem dksX1_kindOf_0 : cX1_kindOf.data.toList.drop 0 = dktX1_kindOf_0 := by decide +kernel
theorem dksX1_kindOf_1 : cX1_kindOf.data.toList.drop 23 = dktX1_kindOf_1 := dk_seg dksX1_kindOf_0 23 rfl rfl
theorem dksX1_kindOf_2 : cX1_kindOf.data.toList.drop 47 = dktX1_kindOf_2 := dk_seg dksX1_kindOf_1 24 rfl rfl
theorem dksX1_kindOf_3 : cX1_kindOf.data.toList.drop 71 = dktX1_kindOf_3 := dk_seg dksX1_kindOf_2 24 rfl rfl
theorem dksX1_kindOf_4 : cX1_kindOf.data.toList.drop 94 = dktX1_kindOf_4 := dk_seg dksX1_kindOf_3 23 rfl rfl
theorem dksX1_kindOf_5 : cX1_kindOf.data.toList.drop 116 = dktX1_kindOf_5 := dk_seg dksX1_kindOf_4 22 rfl rfl
theorem dX1_kindOf_0 : decode cX1_kindOf 0 = .ok (.aload_n 0, 1) := dk_42 (dk_at dksX1_kindOf_0 0 rfl rfl)
theorem dX1_kindOf_1 : decode cX1_kindOf 1 = .ok (.instanceof 3, 3) := dk_193 0 3 (dk_at dksX1_kindOf_0 1 rfl rfl)
theorem dX1_kindOf_4 : decode cX1_kindOf 4 = .ok (.ifCond .eq 18, 3) := dk_153 0 18 (dk_at dksX1_kindOf_0 4 rfl rfl)
theorem dX1_kindOf_7 : decode cX1_kindOf 7 = .ok (.aload_n 0, 1) := dk_42 (dk_at dksX1_kindOf_0 7 rfl rfl)
theorem dX1_kindOf_8 : decode cX1_kindOf 8 = .ok (.instanceof 5, 3) := dk_193 0 5 (dk_at dksX1_kindOf_0 8 rfl rfl)
theorem dX1_kindOf_11 : decode cX1_kindOf 11 = .ok (.ifCond .eq 8, 3) := dk_153 0 8 (dk_at dksX1_kindOf_0 11 rfl rfl)
theorem dX1_kindOf_14 : decode cX1_kindOf 14 = .ok (.bipush 9, 2) := dk_16 9 (dk_at dksX1_kindOf_0 14 rfl rfl)
theorem dX1_kindOf_16 : decode cX1_kindOf 16 = .ok (.goto 5, 3) := dk_167 0 5 (dk_at dksX1_kindOf_0 16 rfl rfl)
theorem dX1_kindOf_19 : decode cX1_kindOf 19 = .ok (.bipush 8, 2) := dk_16 8 (dk_at dksX1_kindOf_0 19 rfl rfl)
theorem dX1_kindOf_21 : decode cX1_kindOf 21 = .ok (.ireturn, 1) := dk_172 (dk_at dksX1_kindOf_0 21 rfl rfl)
theorem dX1_kindOf_22 : decode cX1_kindOf 22 = .ok (.aload_n 0, 1) := dk_42 (dk_at dksX1_kindOf_0 22 rfl rfl)
theorem dX1_kindOf_23 : decode cX1_kindOf 23 = .ok (.instanceof 9, 3) := dk_193 0 9 (dk_at dksX1_kindOf_1 0 rfl rfl)
theorem dX1_kindOf_26 : decode cX1_kindOf 26 = .ok (.ifCond .ne 10, 3) := dk_154 0 10 (dk_at dksX1_kindOf_1 3 rfl rfl)
theorem dX1_kindOf_29 : decode cX1_kindOf 29 = .ok (.aload_n 0, 1) := dk_42 (dk_at dksX1_kindOf_1 6 rfl rfl)
theorem dX1_kindOf_30 : decode cX1_kindOf 30 = .ok (.instanceof 11, 3) := dk_193 0 11 (dk_at dksX1_kindOf_1 7 rfl rfl)
theorem dX1_kindOf_33 : decode cX1_kindOf 33 = .ok (.ifCond .eq 16, 3) := dk_153 0 16 (dk_at dksX1_kindOf_1 10 rfl rfl)
theorem dX1_kindOf_36 : decode cX1_kindOf 36 = .ok (.aload_n 0, 1) := dk_42 (dk_at dksX1_kindOf_1 13 rfl rfl)
theorem dX1_kindOf_37 : decode cX1_kindOf 37 = .ok (.instanceof 11, 3) := dk_193 0 11 (dk_at dksX1_kindOf_1 14 rfl rfl)
theorem dX1_kindOf_40 : decode cX1_kindOf 40 = .ok (.ifCond .eq 7, 3) := dk_153 0 7 (dk_at dksX1_kindOf_1 17 rfl rfl)
theorem dX1_kindOf_43 : decode cX1_kindOf 43 = .ok (.iconst 1, 1) := dk_4 (dk_at dksX1_kindOf_1 20 rfl rfl)
theorem dX1_kindOf_44 : decode cX1_kindOf 44 = .ok (.goto 4, 3) := dk_167 0 4 (dk_at dksX1_kindOf_1 21 rfl rfl)
theorem dX1_kindOf_47 : decode cX1_kindOf 47 = .ok (.iconst 0, 1) := dk_3 (dk_at dksX1_kindOf_2 0 rfl rfl)
theorem dX1_kindOf_48 : decode cX1_kindOf 48 = .ok (.ireturn, 1) := dk_172 (dk_at dksX1_kindOf_2 1 rfl rfl)
theorem dX1_kindOf_49 : decode cX1_kindOf 49 = .ok (.aload_n 0, 1) := dk_42 (dk_at dksX1_kindOf_2 2 rfl rfl)
theorem dX1_kindOf_50 : decode cX1_kindOf 50 = .ok (.instanceof 13, 3) := dk_193 0 13 (dk_at dksX1_kindOf_2 3 rfl rfl)
theorem dX1_kindOf_53 : decode cX1_kindOf 53 = .ok (.ifCond .ne 10, 3) := dk_154 0 10 (dk_at dksX1_kindOf_2 6 rfl rfl)
theorem dX1_kindOf_56 : decode cX1_kindOf 56 = .ok (.aload_n 0, 1) := dk_42 (dk_at dksX1_kindOf_2 9 rfl rfl)
theorem dX1_kindOf_57 : decode cX1_kindOf 57 = .ok (.instanceof 15, 3) := dk_193 0 15 (dk_at dksX1_kindOf_2 10 rfl rfl)
theorem dX1_kindOf_60 : decode cX1_kindOf 60 = .ok (.ifCond .eq 16, 3) := dk_153 0 16 (dk_at dksX1_kindOf_2 13 rfl rfl)
theorem dX1_kindOf_63 : decode cX1_kindOf 63 = .ok (.aload_n 0, 1) := dk_42 (dk_at dksX1_kindOf_2 16 rfl rfl)
theorem dX1_kindOf_64 : decode cX1_kindOf 64 = .ok (.instanceof 13, 3) := dk_193 0 13 (dk_at dksX1_kindOf_2 17 rfl rfl)
theorem dX1_kindOf_67 : decode cX1_kindOf 67 = .ok (.ifCond .eq 7, 3) := dk_153 0 7 (dk_at dksX1_kindOf_2 20 rfl rfl)
theorem dX1_kindOf_70 : decode cX1_kindOf 70 = .ok (.iconst 2, 1) := dk_5 (dk_at dksX1_kindOf_2 23 rfl rfl)
theorem dX1_kindOf_71 : decode cX1_kindOf 71 = .ok (.goto 4, 3) := dk_167 0 4 (dk_at dksX1_kindOf_3 0 rfl rfl)
theorem dX1_kindOf_74 : decode cX1_kindOf 74 = .ok (.iconst 3, 1) := dk_6 (dk_at dksX1_kindOf_3 3 rfl rfl)
theorem dX1_kindOf_75 : decode cX1_kindOf 75 = .ok (.ireturn, 1) := dk_172 (dk_at dksX1_kindOf_3 4 rfl rfl)
theorem dX1_kindOf_76 : decode cX1_kindOf 76 = .ok (.aload_n 0, 1) := dk_42 (dk_at dksX1_kindOf_3 5 rfl rfl)
theorem dX1_kindOf_77 : decode cX1_kindOf 77 = .ok (.instanceof 17, 3) := dk_193 0 17 (dk_at dksX1_kindOf_3 6 rfl rfl)
theorem dX1_kindOf_80 : decode cX1_kindOf 80 = .ok (.ifCond .ne 10, 3) := dk_154 0 10 (dk_at dksX1_kindOf_3 9 rfl rfl)
theorem dX1_kindOf_83 : decode cX1_kindOf 83 = .ok (.aload_n 0, 1) := dk_42 (dk_at dksX1_kindOf_3 12 rfl rfl)
theorem dX1_kindOf_84 : decode cX1_kindOf 84 = .ok (.instanceof 19, 3) := dk_193 0 19 (dk_at dksX1_kindOf_3 13 rfl rfl)
theorem dX1_kindOf_87 : decode cX1_kindOf 87 = .ok (.ifCond .eq 16, 3) := dk_153 0 16 (dk_at dksX1_kindOf_3 16 rfl rfl)
theorem dX1_kindOf_90 : decode cX1_kindOf 90 = .ok (.aload_n 0, 1) := dk_42 (dk_at dksX1_kindOf_3 19 rfl rfl)
theorem dX1_kindOf_91 : decode cX1_kindOf 91 = .ok (.instanceof 17, 3) := dk_193 0 17 (dk_at dksX1_kindOf_3 20 rfl rfl)
theorem dX1_kindOf_94 : decode cX1_kindOf 94 = .ok (.ifCond .eq 7, 3) := dk_153 0 7 (dk_at dksX1_kindOf_4 0 rfl rfl)
theorem dX1_kindOf_97 : decode cX1_kindOf 97 = .ok (.iconst 4, 1) := dk_7 (dk_at dksX1_kindOf_4 3 rfl rfl)
theorem dX1_kindOf_98 : decode cX1_kindOf 98 = .ok (.goto 4, 3) := dk_167 0 4 (dk_at dksX1_kindOf_4 4 rfl rfl)
theorem dX1_kindOf_101 : decode cX1_kindOf 101 = .ok (.iconst 5, 1) := dk_8 (dk_at dksX1_kindOf_4 7 rfl rfl)
theorem dX1_kindOf_102 : decode cX1_kindOf 102 = .ok (.ireturn, 1) := dk_172 (dk_at dksX1_kindOf_4 8 rfl rfl)
theorem dX1_kindOf_103 : decode cX1_kindOf 103 = .ok (.aload_n 0, 1) := dk_42 (dk_at dksX1_kindOf_4 9 rfl rfl)
theorem dX1_kindOf_104 : decode cX1_kindOf 104 = .ok (.instanceof 21, 3) := dk_193 0 21 (dk_at dksX1_kindOf_4 10 rfl rfl)
theorem dX1_kindOf_107 : decode cX1_kindOf 107 = .ok (.ifCond .eq 8, 3) := dk_153 0 8 (dk_at dksX1_kindOf_4 13 rfl rfl)
theorem dX1_kindOf_110 : decode cX1_kindOf 110 = .ok (.bipush 6, 2) := dk_16 6 (dk_at dksX1_kindOf_4 16 rfl rfl)
theorem dX1_kindOf_112 : decode cX1_kindOf 112 = .ok (.goto 17, 3) := dk_167 0 17 (dk_at dksX1_kindOf_4 18 rfl rfl)
theorem dX1_kindOf_115 : decode cX1_kindOf 115 = .ok (.aload_n 0, 1) := dk_42 (dk_at dksX1_kindOf_4 21 rfl rfl)
theorem dX1_kindOf_116 : decode cX1_kindOf 116 = .ok (.instanceof 23, 3) := dk_193 0 23 (dk_at dksX1_kindOf_5 0 rfl rfl)
theorem dX1_kindOf_119 : decode cX1_kindOf 119 = .ok (.ifCond .eq 8, 3) := dk_153 0 8 (dk_at dksX1_kindOf_5 3 rfl rfl)
theorem dX1_kindOf_122 : decode cX1_kindOf 122 = .ok (.bipush 7, 2) := dk_16 7 (dk_at dksX1_kindOf_5 6 rfl rfl)
theorem dX1_kindOf_124 : decode cX1_kindOf 124 = .ok (.goto 5, 3) := dk_167 0 5 (dk_at dksX1_kindOf_5 8 rfl rfl)
theorem dX1_kindOf_127 : decode cX1_kindOf 127 = .ok (.bipush 10, 2) := dk_16 10 (dk_at dksX1_kindOf_5 11 rfl rfl)
theorem dX1_kindOf_129 : decode cX1_kindOf 129 = .ok (.ireturn, 1) := dk_172 (dk_at dksX1_kindOf_5 13 rfl rfl)
abbrev cX1_sizeOf : ByteArray := prog_1_method_2_code
def yX1_sizeOf : MethodName := ⟨RX1, "sizeOf", "(Ljava/lang/Object;)I"⟩
def dkwX1_sizeOf_4 : List UInt8 := [42, 192, 0, 29, 190, 172, 42, 192, 0, 3, 190, 172]
abbrev dktX1_sizeOf_4 : List UInt8 := dkwX1_sizeOf_4 ++ []
def dkwX1_sizeOf_3 : List UInt8 := [42, 192, 0, 17, 190, 172, 42, 192, 0, 19, 190, 172, 42, 192, 0, 21, 190, 172, 42, 192, 0, 23, 190, 172]
abbrev dktX1_sizeOf_3 : List UInt8 := dkwX1_sizeOf_3 ++ dktX1_sizeOf_4
def dkwX1_sizeOf_2 : List UInt8 := [42, 192, 0, 9, 190, 172, 42, 192, 0, 11, 190, 172, 42, 192, 0, 13, 190, 172, 42, 192, 0, 15, 190, 172]
abbrev dktX1_sizeOf_2 : List UInt8 := dkwX1_sizeOf_2 ++ dktX1_sizeOf_3
def dkwX1_sizeOf_1 : List UInt8 := [170, 0, 0, 0, 0, 0, 0, 114, 0, 0, 0, 0, 0, 0, 0, 10, 0, 0, 0, 60, 0, 0, 0, 66, 0, 0, 0, 72, 0, 0, 0, 78, 0, 0, 0, 84, 0, 0, 0, 90, 0, 0, 0, 96, 0, 0, 0, 102, 0, 0, 0, 114, 0, 0, 0, 114, 0, 0, 0, 108]
abbrev dktX1_sizeOf_1 : List UInt8 := dkwX1_sizeOf_1 ++ dktX1_sizeOf_2
def dkwX1_sizeOf_0 : List UInt8 := [42, 184, 0, 25]
abbrev dktX1_sizeOf_0 : List UInt8 := dkwX1_sizeOf_0 ++ dktX1_sizeOf_1
theorem dksX1_sizeOf_0 : cX1_sizeOf.data.toList.drop 0 = dktX1_sizeOf_0 := by decide +kernel
theorem dksX1_sizeOf_1 : cX1_sizeOf.data.toList.drop 4 = dktX1_sizeOf_1 := dk_seg dksX1_sizeOf_0 4 rfl rfl
theorem dksX1_sizeOf_2 : cX1_sizeOf.data.toList.drop 64 = dktX1_sizeOf_2 := dk_seg dksX1_sizeOf_1 60 rfl rfl
theorem dksX1_sizeOf_3 : cX1_sizeOf.data.toList.drop 88 = dktX1_sizeOf_3 := dk_seg dksX1_sizeOf_2 24 rfl rfl
theorem dksX1_sizeOf_4 : cX1_sizeOf.data.toList.drop 112 = dktX1_sizeOf_4 := dk_seg dksX1_sizeOf_3 24 rfl rfl
theorem dX1_sizeOf_0 : decode cX1_sizeOf 0 = .ok (.aload_n 0, 1) := dk_42 (dk_at dksX1_sizeOf_0 0 rfl rfl)
theorem dX1_sizeOf_1 : decode cX1_sizeOf 1 = .ok (.invokestatic 25, 3) := dk_184 0 25 (dk_at dksX1_sizeOf_0 1 rfl rfl)
theorem dX1_sizeOf_4 : decode cX1_sizeOf 4 = .ok (.tableswitch 114 0 10 #[60, 66, 72, 78, 84, 90, 96, 102, 114, 114, 108], 60) := by decide +kernel
theorem dX1_sizeOf_64 : decode cX1_sizeOf 64 = .ok (.aload_n 0, 1) := dk_42 (dk_at dksX1_sizeOf_2 0 rfl rfl)
theorem dX1_sizeOf_65 : decode cX1_sizeOf 65 = .ok (.checkcast 9, 3) := dk_192 0 9 (dk_at dksX1_sizeOf_2 1 rfl rfl)
theorem dX1_sizeOf_68 : decode cX1_sizeOf 68 = .ok (.arraylength, 1) := dk_190 (dk_at dksX1_sizeOf_2 4 rfl rfl)
theorem dX1_sizeOf_69 : decode cX1_sizeOf 69 = .ok (.ireturn, 1) := dk_172 (dk_at dksX1_sizeOf_2 5 rfl rfl)
theorem dX1_sizeOf_70 : decode cX1_sizeOf 70 = .ok (.aload_n 0, 1) := dk_42 (dk_at dksX1_sizeOf_2 6 rfl rfl)
theorem dX1_sizeOf_71 : decode cX1_sizeOf 71 = .ok (.checkcast 11, 3) := dk_192 0 11 (dk_at dksX1_sizeOf_2 7 rfl rfl)
theorem dX1_sizeOf_74 : decode cX1_sizeOf 74 = .ok (.arraylength, 1) := dk_190 (dk_at dksX1_sizeOf_2 10 rfl rfl)
theorem dX1_sizeOf_75 : decode cX1_sizeOf 75 = .ok (.ireturn, 1) := dk_172 (dk_at dksX1_sizeOf_2 11 rfl rfl)
theorem dX1_sizeOf_76 : decode cX1_sizeOf 76 = .ok (.aload_n 0, 1) := dk_42 (dk_at dksX1_sizeOf_2 12 rfl rfl)
theorem dX1_sizeOf_77 : decode cX1_sizeOf 77 = .ok (.checkcast 13, 3) := dk_192 0 13 (dk_at dksX1_sizeOf_2 13 rfl rfl)
theorem dX1_sizeOf_80 : decode cX1_sizeOf 80 = .ok (.arraylength, 1) := dk_190 (dk_at dksX1_sizeOf_2 16 rfl rfl)
theorem dX1_sizeOf_81 : decode cX1_sizeOf 81 = .ok (.ireturn, 1) := dk_172 (dk_at dksX1_sizeOf_2 17 rfl rfl)
theorem dX1_sizeOf_82 : decode cX1_sizeOf 82 = .ok (.aload_n 0, 1) := dk_42 (dk_at dksX1_sizeOf_2 18 rfl rfl)
theorem dX1_sizeOf_83 : decode cX1_sizeOf 83 = .ok (.checkcast 15, 3) := dk_192 0 15 (dk_at dksX1_sizeOf_2 19 rfl rfl)
theorem dX1_sizeOf_86 : decode cX1_sizeOf 86 = .ok (.arraylength, 1) := dk_190 (dk_at dksX1_sizeOf_2 22 rfl rfl)
theorem dX1_sizeOf_87 : decode cX1_sizeOf 87 = .ok (.ireturn, 1) := dk_172 (dk_at dksX1_sizeOf_2 23 rfl rfl)
theorem dX1_sizeOf_88 : decode cX1_sizeOf 88 = .ok (.aload_n 0, 1) := dk_42 (dk_at dksX1_sizeOf_3 0 rfl rfl)
theorem dX1_sizeOf_89 : decode cX1_sizeOf 89 = .ok (.checkcast 17, 3) := dk_192 0 17 (dk_at dksX1_sizeOf_3 1 rfl rfl)
theorem dX1_sizeOf_92 : decode cX1_sizeOf 92 = .ok (.arraylength, 1) := dk_190 (dk_at dksX1_sizeOf_3 4 rfl rfl)
theorem dX1_sizeOf_93 : decode cX1_sizeOf 93 = .ok (.ireturn, 1) := dk_172 (dk_at dksX1_sizeOf_3 5 rfl rfl)
theorem dX1_sizeOf_94 : decode cX1_sizeOf 94 = .ok (.aload_n 0, 1) := dk_42 (dk_at dksX1_sizeOf_3 6 rfl rfl)
theorem dX1_sizeOf_95 : decode cX1_sizeOf 95 = .ok (.checkcast 19, 3) := dk_192 0 19 (dk_at dksX1_sizeOf_3 7 rfl rfl)
theorem dX1_sizeOf_98 : decode cX1_sizeOf 98 = .ok (.arraylength, 1) := dk_190 (dk_at dksX1_sizeOf_3 10 rfl rfl)
theorem dX1_sizeOf_99 : decode cX1_sizeOf 99 = .ok (.ireturn, 1) := dk_172 (dk_at dksX1_sizeOf_3 11 rfl rfl)
theorem dX1_sizeOf_100 : decode cX1_sizeOf 100 = .ok (.aload_n 0, 1) := dk_42 (dk_at dksX1_sizeOf_3 12 rfl rfl)
theorem dX1_sizeOf_101 : decode cX1_sizeOf 101 = .ok (.checkcast 21, 3) := dk_192 0 21 (dk_at dksX1_sizeOf_3 13 rfl rfl)
theorem dX1_sizeOf_104 : decode cX1_sizeOf 104 = .ok (.arraylength, 1) := dk_190 (dk_at dksX1_sizeOf_3 16 rfl rfl)
theorem dX1_sizeOf_105 : decode cX1_sizeOf 105 = .ok (.ireturn, 1) := dk_172 (dk_at dksX1_sizeOf_3 17 rfl rfl)
theorem dX1_sizeOf_106 : decode cX1_sizeOf 106 = .ok (.aload_n 0, 1) := dk_42 (dk_at dksX1_sizeOf_3 18 rfl rfl)
theorem dX1_sizeOf_107 : decode cX1_sizeOf 107 = .ok (.checkcast 23, 3) := dk_192 0 23 (dk_at dksX1_sizeOf_3 19 rfl rfl)
theorem dX1_sizeOf_110 : decode cX1_sizeOf 110 = .ok (.arraylength, 1) := dk_190 (dk_at dksX1_sizeOf_3 22 rfl rfl)
theorem dX1_sizeOf_111 : decode cX1_sizeOf 111 = .ok (.ireturn, 1) := dk_172 (dk_at dksX1_sizeOf_3 23 rfl rfl)
theorem dX1_sizeOf_112 : decode cX1_sizeOf 112 = .ok (.aload_n 0, 1) := dk_42 (dk_at dksX1_sizeOf_4 0 rfl rfl)
theorem dX1_sizeOf_113 : decode cX1_sizeOf 113 = .ok (.checkcast 29, 3) := dk_192 0 29 (dk_at dksX1_sizeOf_4 1 rfl rfl)
theorem dX1_sizeOf_116 : decode cX1_sizeOf 116 = .ok (.arraylength, 1) := dk_190 (dk_at dksX1_sizeOf_4 4 rfl rfl)
theorem dX1_sizeOf_117 : decode cX1_sizeOf 117 = .ok (.ireturn, 1) := dk_172 (dk_at dksX1_sizeOf_4 5 rfl rfl)
theorem dX1_sizeOf_118 : decode cX1_sizeOf 118 = .ok (.aload_n 0, 1) := dk_42 (dk_at dksX1_sizeOf_4 6 rfl rfl)
theorem dX1_sizeOf_119 : decode cX1_sizeOf 119 = .ok (.checkcast 3, 3) := dk_192 0 3 (dk_at dksX1_sizeOf_4 7 rfl rfl)
theorem dX1_sizeOf_122 : decode cX1_sizeOf 122 = .ok (.arraylength, 1) := dk_190 (dk_at dksX1_sizeOf_4 10 rfl rfl)
theorem dX1_sizeOf_123 : decode cX1_sizeOf 123 = .ok (.ireturn, 1) := dk_172 (dk_at dksX1_sizeOf_4 11 rfl rfl)
abbrev cX1_worth : ByteArray := prog_1_method_30_code
def yX1_worth : MethodName := ⟨RX1, "worth", "(II)J"⟩
def dkwX1_worth_3 : List UInt8 := [182, 1, 11, 133, 173]
abbrev dktX1_worth_3 : List UInt8 := dkwX1_worth_3 ++ []
def dkwX1_worth_2 : List UInt8 := [182, 1, 3, 133, 167, 0, 24, 28, 4, 160, 0, 14, 25, 4, 185, 1, 6, 1, 0, 133, 167, 0, 8, 45]
abbrev dktX1_worth_2 : List UInt8 := dkwX1_worth_2 ++ dktX1_worth_3
def dkwX1_worth_1 : List UInt8 := [20, 1, 1, 173, 42, 180, 0, 119, 27, 182, 0, 184, 192, 0, 31, 78, 45, 58, 4, 28, 154, 0, 11, 45]
abbrev dktX1_worth_1 : List UInt8 := dkwX1_worth_1 ++ dktX1_worth_2
def dkwX1_worth_0 : List UInt8 := [27, 155, 0, 23, 27, 42, 180, 0, 119, 182, 0, 180, 162, 0, 12, 28, 155, 0, 8, 28, 5, 164, 0, 7]
abbrev dktX1_worth_0 : List UInt8 := dkwX1_worth_0 ++ dktX1_worth_1
theorem dksX1_worth_0 : cX1_worth.data.toList.drop 0 = dktX1_worth_0 := by decide +kernel
theorem dksX1_worth_1 : cX1_worth.data.toList.drop 24 = dktX1_worth_1 := dk_seg dksX1_worth_0 24 rfl rfl
theorem dksX1_worth_2 : cX1_worth.data.toList.drop 48 = dktX1_worth_2 := dk_seg dksX1_worth_1 24 rfl rfl
theorem dksX1_worth_3 : cX1_worth.data.toList.drop 72 = dktX1_worth_3 := dk_seg dksX1_worth_2 24 rfl rfl
theorem dX1_worth_0 : decode cX1_worth 0 = .ok (.iload_n 1, 1) := dk_27 (dk_at dksX1_worth_0 0 rfl rfl)
theorem dX1_worth_1 : decode cX1_worth 1 = .ok (.ifCond .lt 23, 3) := dk_155 0 23 (dk_at dksX1_worth_0 1 rfl rfl)
theorem dX1_worth_4 : decode cX1_worth 4 = .ok (.iload_n 1, 1) := dk_27 (dk_at dksX1_worth_0 4 rfl rfl)
theorem dX1_worth_5 : decode cX1_worth 5 = .ok (.aload_n 0, 1) := dk_42 (dk_at dksX1_worth_0 5 rfl rfl)
theorem dX1_worth_6 : decode cX1_worth 6 = .ok (.getfield 119, 3) := dk_180 0 119 (dk_at dksX1_worth_0 6 rfl rfl)
theorem dX1_worth_9 : decode cX1_worth 9 = .ok (.invokevirtual 180, 3) := dk_182 0 180 (dk_at dksX1_worth_0 9 rfl rfl)
theorem dX1_worth_12 : decode cX1_worth 12 = .ok (.if_icmp .ge 12, 3) := dk_162 0 12 (dk_at dksX1_worth_0 12 rfl rfl)
theorem dX1_worth_15 : decode cX1_worth 15 = .ok (.iload_n 2, 1) := dk_28 (dk_at dksX1_worth_0 15 rfl rfl)
theorem dX1_worth_16 : decode cX1_worth 16 = .ok (.ifCond .lt 8, 3) := dk_155 0 8 (dk_at dksX1_worth_0 16 rfl rfl)
theorem dX1_worth_19 : decode cX1_worth 19 = .ok (.iload_n 2, 1) := dk_28 (dk_at dksX1_worth_0 19 rfl rfl)
theorem dX1_worth_20 : decode cX1_worth 20 = .ok (.iconst 2, 1) := dk_5 (dk_at dksX1_worth_0 20 rfl rfl)
theorem dX1_worth_21 : decode cX1_worth 21 = .ok (.if_icmp .le 7, 3) := dk_164 0 7 (dk_at dksX1_worth_0 21 rfl rfl)
theorem dX1_worth_24 : decode cX1_worth 24 = .ok (.ldc2_w 257, 3) := dk_20 1 1 (dk_at dksX1_worth_1 0 rfl rfl)
theorem dX1_worth_27 : decode cX1_worth 27 = .ok (.lreturn, 1) := dk_173 (dk_at dksX1_worth_1 3 rfl rfl)
theorem dX1_worth_28 : decode cX1_worth 28 = .ok (.aload_n 0, 1) := dk_42 (dk_at dksX1_worth_1 4 rfl rfl)
theorem dX1_worth_29 : decode cX1_worth 29 = .ok (.getfield 119, 3) := dk_180 0 119 (dk_at dksX1_worth_1 5 rfl rfl)
theorem dX1_worth_32 : decode cX1_worth 32 = .ok (.iload_n 1, 1) := dk_27 (dk_at dksX1_worth_1 8 rfl rfl)
theorem dX1_worth_33 : decode cX1_worth 33 = .ok (.invokevirtual 184, 3) := dk_182 0 184 (dk_at dksX1_worth_1 9 rfl rfl)
theorem dX1_worth_36 : decode cX1_worth 36 = .ok (.checkcast 31, 3) := dk_192 0 31 (dk_at dksX1_worth_1 12 rfl rfl)
theorem dX1_worth_39 : decode cX1_worth 39 = .ok (.astore_n 3, 1) := dk_78 (dk_at dksX1_worth_1 15 rfl rfl)
theorem dX1_worth_40 : decode cX1_worth 40 = .ok (.aload_n 3, 1) := dk_45 (dk_at dksX1_worth_1 16 rfl rfl)
theorem dX1_worth_41 : decode cX1_worth 41 = .ok (.astore 4, 2) := dk_58 4 (dk_at dksX1_worth_1 17 rfl rfl)
theorem dX1_worth_43 : decode cX1_worth 43 = .ok (.iload_n 2, 1) := dk_28 (dk_at dksX1_worth_1 19 rfl rfl)
theorem dX1_worth_44 : decode cX1_worth 44 = .ok (.ifCond .ne 11, 3) := dk_154 0 11 (dk_at dksX1_worth_1 20 rfl rfl)
theorem dX1_worth_47 : decode cX1_worth 47 = .ok (.aload_n 3, 1) := dk_45 (dk_at dksX1_worth_1 23 rfl rfl)
theorem dX1_worth_48 : decode cX1_worth 48 = .ok (.invokevirtual 259, 3) := dk_182 1 3 (dk_at dksX1_worth_2 0 rfl rfl)
theorem dX1_worth_51 : decode cX1_worth 51 = .ok (.i2l, 1) := dk_133 (dk_at dksX1_worth_2 3 rfl rfl)
theorem dX1_worth_52 : decode cX1_worth 52 = .ok (.goto 24, 3) := dk_167 0 24 (dk_at dksX1_worth_2 4 rfl rfl)
theorem dX1_worth_55 : decode cX1_worth 55 = .ok (.iload_n 2, 1) := dk_28 (dk_at dksX1_worth_2 7 rfl rfl)
theorem dX1_worth_56 : decode cX1_worth 56 = .ok (.iconst 1, 1) := dk_4 (dk_at dksX1_worth_2 8 rfl rfl)
theorem dX1_worth_57 : decode cX1_worth 57 = .ok (.if_icmp .ne 14, 3) := dk_160 0 14 (dk_at dksX1_worth_2 9 rfl rfl)
theorem dX1_worth_60 : decode cX1_worth 60 = .ok (.aload 4, 2) := dk_25 4 (dk_at dksX1_worth_2 12 rfl rfl)
theorem dX1_worth_62 : decode cX1_worth 62 = .ok (.invokeinterface 262 1, 5) := by decide +kernel
theorem dX1_worth_67 : decode cX1_worth 67 = .ok (.i2l, 1) := dk_133 (dk_at dksX1_worth_2 19 rfl rfl)
theorem dX1_worth_68 : decode cX1_worth 68 = .ok (.goto 8, 3) := dk_167 0 8 (dk_at dksX1_worth_2 20 rfl rfl)
theorem dX1_worth_71 : decode cX1_worth 71 = .ok (.aload_n 3, 1) := dk_45 (dk_at dksX1_worth_2 23 rfl rfl)
theorem dX1_worth_72 : decode cX1_worth 72 = .ok (.invokevirtual 267, 3) := dk_182 1 11 (dk_at dksX1_worth_3 0 rfl rfl)
theorem dX1_worth_75 : decode cX1_worth 75 = .ok (.i2l, 1) := dk_133 (dk_at dksX1_worth_3 3 rfl rfl)
theorem dX1_worth_76 : decode cX1_worth 76 = .ok (.lreturn, 1) := dk_173 (dk_at dksX1_worth_3 4 rfl rfl)
abbrev cX1_plan : ByteArray := prog_1_method_31_code
def yX1_plan : MethodName := ⟨RX1, "plan", "(IIIIIII)I"⟩
def dkwX1_plan_5 : List UInt8 := [21, 5, 21, 6, 21, 7, 183, 1, 19, 83, 25, 9, 180, 1, 14, 172]
abbrev dktX1_plan_5 : List UInt8 := dkwX1_plan_5 ++ []
def dkwX1_plan_4 : List UInt8 := [180, 1, 16, 25, 9, 89, 180, 1, 14, 90, 4, 96, 181, 1, 14, 187, 0, 190, 89, 28, 29, 21, 4]
abbrev dktX1_plan_4 : List UInt8 := dkwX1_plan_4 ++ dktX1_plan_5
def dkwX1_plan_3 : List UInt8 := [180, 0, 126, 27, 50, 58, 9, 25, 9, 180, 1, 14, 16, 12, 160, 0, 6, 16, 152, 172, 25, 9]
abbrev dktX1_plan_3 : List UInt8 := dkwX1_plan_3 ++ dktX1_plan_4
def dkwX1_plan_2 : List UInt8 := [21, 4, 4, 160, 0, 7, 4, 167, 0, 4, 3, 54, 8, 21, 8, 154, 0, 6, 16, 154, 172, 42]
abbrev dktX1_plan_2 : List UInt8 := dkwX1_plan_2 ++ dktX1_plan_3
def dkwX1_plan_1 : List UInt8 := [162, 0, 34, 28, 16, 10, 160, 0, 24, 29, 155, 0, 24, 29, 16, 6, 162, 0, 18, 21, 4, 153, 0, 9]
abbrev dktX1_plan_1 : List UInt8 := dkwX1_plan_1 ++ dktX1_plan_2
def dkwX1_plan_0 : List UInt8 := [27, 155, 0, 9, 27, 16, 6, 161, 0, 6, 16, 155, 172, 28, 155, 0, 43, 28, 42, 180, 0, 173, 190]
abbrev dktX1_plan_0 : List UInt8 := dkwX1_plan_0 ++ dktX1_plan_1
theorem dksX1_plan_0 : cX1_plan.data.toList.drop 0 = dktX1_plan_0 := by decide +kernel
theorem dksX1_plan_1 : cX1_plan.data.toList.drop 23 = dktX1_plan_1 := dk_seg dksX1_plan_0 23 rfl rfl
theorem dksX1_plan_2 : cX1_plan.data.toList.drop 47 = dktX1_plan_2 := dk_seg dksX1_plan_1 24 rfl rfl
theorem dksX1_plan_3 : cX1_plan.data.toList.drop 69 = dktX1_plan_3 := dk_seg dksX1_plan_2 22 rfl rfl
theorem dksX1_plan_4 : cX1_plan.data.toList.drop 91 = dktX1_plan_4 := dk_seg dksX1_plan_3 22 rfl rfl
theorem dksX1_plan_5 : cX1_plan.data.toList.drop 114 = dktX1_plan_5 := dk_seg dksX1_plan_4 23 rfl rfl
theorem dX1_plan_0 : decode cX1_plan 0 = .ok (.iload_n 1, 1) := dk_27 (dk_at dksX1_plan_0 0 rfl rfl)
theorem dX1_plan_1 : decode cX1_plan 1 = .ok (.ifCond .lt 9, 3) := dk_155 0 9 (dk_at dksX1_plan_0 1 rfl rfl)
theorem dX1_plan_4 : decode cX1_plan 4 = .ok (.iload_n 1, 1) := dk_27 (dk_at dksX1_plan_0 4 rfl rfl)
theorem dX1_plan_5 : decode cX1_plan 5 = .ok (.bipush 6, 2) := dk_16 6 (dk_at dksX1_plan_0 5 rfl rfl)
theorem dX1_plan_7 : decode cX1_plan 7 = .ok (.if_icmp .lt 6, 3) := dk_161 0 6 (dk_at dksX1_plan_0 7 rfl rfl)
theorem dX1_plan_10 : decode cX1_plan 10 = .ok (.bipush (-101), 2) := dk_16 155 (dk_at dksX1_plan_0 10 rfl rfl)
theorem dX1_plan_12 : decode cX1_plan 12 = .ok (.ireturn, 1) := dk_172 (dk_at dksX1_plan_0 12 rfl rfl)
theorem dX1_plan_13 : decode cX1_plan 13 = .ok (.iload_n 2, 1) := dk_28 (dk_at dksX1_plan_0 13 rfl rfl)
theorem dX1_plan_14 : decode cX1_plan 14 = .ok (.ifCond .lt 43, 3) := dk_155 0 43 (dk_at dksX1_plan_0 14 rfl rfl)
theorem dX1_plan_17 : decode cX1_plan 17 = .ok (.iload_n 2, 1) := dk_28 (dk_at dksX1_plan_0 17 rfl rfl)
theorem dX1_plan_18 : decode cX1_plan 18 = .ok (.aload_n 0, 1) := dk_42 (dk_at dksX1_plan_0 18 rfl rfl)
theorem dX1_plan_19 : decode cX1_plan 19 = .ok (.getfield 173, 3) := dk_180 0 173 (dk_at dksX1_plan_0 19 rfl rfl)
theorem dX1_plan_22 : decode cX1_plan 22 = .ok (.arraylength, 1) := dk_190 (dk_at dksX1_plan_0 22 rfl rfl)
theorem dX1_plan_23 : decode cX1_plan 23 = .ok (.if_icmp .ge 34, 3) := dk_162 0 34 (dk_at dksX1_plan_1 0 rfl rfl)
theorem dX1_plan_26 : decode cX1_plan 26 = .ok (.iload_n 2, 1) := dk_28 (dk_at dksX1_plan_1 3 rfl rfl)
theorem dX1_plan_27 : decode cX1_plan 27 = .ok (.bipush 10, 2) := dk_16 10 (dk_at dksX1_plan_1 4 rfl rfl)
theorem dX1_plan_29 : decode cX1_plan 29 = .ok (.if_icmp .ne 24, 3) := dk_160 0 24 (dk_at dksX1_plan_1 6 rfl rfl)
theorem dX1_plan_32 : decode cX1_plan 32 = .ok (.iload_n 3, 1) := dk_29 (dk_at dksX1_plan_1 9 rfl rfl)
theorem dX1_plan_33 : decode cX1_plan 33 = .ok (.ifCond .lt 24, 3) := dk_155 0 24 (dk_at dksX1_plan_1 10 rfl rfl)
theorem dX1_plan_36 : decode cX1_plan 36 = .ok (.iload_n 3, 1) := dk_29 (dk_at dksX1_plan_1 13 rfl rfl)
theorem dX1_plan_37 : decode cX1_plan 37 = .ok (.bipush 6, 2) := dk_16 6 (dk_at dksX1_plan_1 14 rfl rfl)
theorem dX1_plan_39 : decode cX1_plan 39 = .ok (.if_icmp .ge 18, 3) := dk_162 0 18 (dk_at dksX1_plan_1 16 rfl rfl)
theorem dX1_plan_42 : decode cX1_plan 42 = .ok (.iload 4, 2) := dk_21 4 (dk_at dksX1_plan_1 19 rfl rfl)
theorem dX1_plan_44 : decode cX1_plan 44 = .ok (.ifCond .eq 9, 3) := dk_153 0 9 (dk_at dksX1_plan_1 21 rfl rfl)
theorem dX1_plan_47 : decode cX1_plan 47 = .ok (.iload 4, 2) := dk_21 4 (dk_at dksX1_plan_2 0 rfl rfl)
theorem dX1_plan_49 : decode cX1_plan 49 = .ok (.iconst 1, 1) := dk_4 (dk_at dksX1_plan_2 2 rfl rfl)
theorem dX1_plan_50 : decode cX1_plan 50 = .ok (.if_icmp .ne 7, 3) := dk_160 0 7 (dk_at dksX1_plan_2 3 rfl rfl)
theorem dX1_plan_53 : decode cX1_plan 53 = .ok (.iconst 1, 1) := dk_4 (dk_at dksX1_plan_2 6 rfl rfl)
theorem dX1_plan_54 : decode cX1_plan 54 = .ok (.goto 4, 3) := dk_167 0 4 (dk_at dksX1_plan_2 7 rfl rfl)
theorem dX1_plan_57 : decode cX1_plan 57 = .ok (.iconst 0, 1) := dk_3 (dk_at dksX1_plan_2 10 rfl rfl)
theorem dX1_plan_58 : decode cX1_plan 58 = .ok (.istore 8, 2) := dk_54 8 (dk_at dksX1_plan_2 11 rfl rfl)
theorem dX1_plan_60 : decode cX1_plan 60 = .ok (.iload 8, 2) := dk_21 8 (dk_at dksX1_plan_2 13 rfl rfl)
theorem dX1_plan_62 : decode cX1_plan 62 = .ok (.ifCond .ne 6, 3) := dk_154 0 6 (dk_at dksX1_plan_2 15 rfl rfl)
theorem dX1_plan_65 : decode cX1_plan 65 = .ok (.bipush (-102), 2) := dk_16 154 (dk_at dksX1_plan_2 18 rfl rfl)
theorem dX1_plan_67 : decode cX1_plan 67 = .ok (.ireturn, 1) := dk_172 (dk_at dksX1_plan_2 20 rfl rfl)
theorem dX1_plan_68 : decode cX1_plan 68 = .ok (.aload_n 0, 1) := dk_42 (dk_at dksX1_plan_2 21 rfl rfl)
theorem dX1_plan_69 : decode cX1_plan 69 = .ok (.getfield 126, 3) := dk_180 0 126 (dk_at dksX1_plan_3 0 rfl rfl)
theorem dX1_plan_72 : decode cX1_plan 72 = .ok (.iload_n 1, 1) := dk_27 (dk_at dksX1_plan_3 3 rfl rfl)
theorem dX1_plan_73 : decode cX1_plan 73 = .ok (.aaload, 1) := dk_50 (dk_at dksX1_plan_3 4 rfl rfl)
theorem dX1_plan_74 : decode cX1_plan 74 = .ok (.astore 9, 2) := dk_58 9 (dk_at dksX1_plan_3 5 rfl rfl)
theorem dX1_plan_76 : decode cX1_plan 76 = .ok (.aload 9, 2) := dk_25 9 (dk_at dksX1_plan_3 7 rfl rfl)
theorem dX1_plan_78 : decode cX1_plan 78 = .ok (.getfield 270, 3) := dk_180 1 14 (dk_at dksX1_plan_3 9 rfl rfl)
theorem dX1_plan_81 : decode cX1_plan 81 = .ok (.bipush 12, 2) := dk_16 12 (dk_at dksX1_plan_3 12 rfl rfl)
theorem dX1_plan_83 : decode cX1_plan 83 = .ok (.if_icmp .ne 6, 3) := dk_160 0 6 (dk_at dksX1_plan_3 14 rfl rfl)
theorem dX1_plan_86 : decode cX1_plan 86 = .ok (.bipush (-104), 2) := dk_16 152 (dk_at dksX1_plan_3 17 rfl rfl)
theorem dX1_plan_88 : decode cX1_plan 88 = .ok (.ireturn, 1) := dk_172 (dk_at dksX1_plan_3 19 rfl rfl)
theorem dX1_plan_89 : decode cX1_plan 89 = .ok (.aload 9, 2) := dk_25 9 (dk_at dksX1_plan_3 20 rfl rfl)
theorem dX1_plan_91 : decode cX1_plan 91 = .ok (.getfield 272, 3) := dk_180 1 16 (dk_at dksX1_plan_4 0 rfl rfl)
theorem dX1_plan_94 : decode cX1_plan 94 = .ok (.aload 9, 2) := dk_25 9 (dk_at dksX1_plan_4 3 rfl rfl)
theorem dX1_plan_96 : decode cX1_plan 96 = .ok (.dup, 1) := dk_89 (dk_at dksX1_plan_4 5 rfl rfl)
theorem dX1_plan_97 : decode cX1_plan 97 = .ok (.getfield 270, 3) := dk_180 1 14 (dk_at dksX1_plan_4 6 rfl rfl)
theorem dX1_plan_100 : decode cX1_plan 100 = .ok (.dup_x1, 1) := dk_90 (dk_at dksX1_plan_4 9 rfl rfl)
theorem dX1_plan_101 : decode cX1_plan 101 = .ok (.iconst 1, 1) := dk_4 (dk_at dksX1_plan_4 10 rfl rfl)
theorem dX1_plan_102 : decode cX1_plan 102 = .ok (.iadd, 1) := dk_96 (dk_at dksX1_plan_4 11 rfl rfl)
theorem dX1_plan_103 : decode cX1_plan 103 = .ok (.putfield 270, 3) := dk_181 1 14 (dk_at dksX1_plan_4 12 rfl rfl)
theorem dX1_plan_106 : decode cX1_plan 106 = .ok (.new 190, 3) := dk_187 0 190 (dk_at dksX1_plan_4 15 rfl rfl)
theorem dX1_plan_109 : decode cX1_plan 109 = .ok (.dup, 1) := dk_89 (dk_at dksX1_plan_4 18 rfl rfl)
theorem dX1_plan_110 : decode cX1_plan 110 = .ok (.iload_n 2, 1) := dk_28 (dk_at dksX1_plan_4 19 rfl rfl)
theorem dX1_plan_111 : decode cX1_plan 111 = .ok (.iload_n 3, 1) := dk_29 (dk_at dksX1_plan_4 20 rfl rfl)
theorem dX1_plan_112 : decode cX1_plan 112 = .ok (.iload 4, 2) := dk_21 4 (dk_at dksX1_plan_4 21 rfl rfl)
theorem dX1_plan_114 : decode cX1_plan 114 = .ok (.iload 5, 2) := dk_21 5 (dk_at dksX1_plan_5 0 rfl rfl)
theorem dX1_plan_116 : decode cX1_plan 116 = .ok (.iload 6, 2) := dk_21 6 (dk_at dksX1_plan_5 2 rfl rfl)
theorem dX1_plan_118 : decode cX1_plan 118 = .ok (.iload 7, 2) := dk_21 7 (dk_at dksX1_plan_5 4 rfl rfl)
theorem dX1_plan_120 : decode cX1_plan 120 = .ok (.invokespecial 275, 3) := dk_183 1 19 (dk_at dksX1_plan_5 6 rfl rfl)
theorem dX1_plan_123 : decode cX1_plan 123 = .ok (.aastore, 1) := dk_83 (dk_at dksX1_plan_5 9 rfl rfl)
theorem dX1_plan_124 : decode cX1_plan 124 = .ok (.aload 9, 2) := dk_25 9 (dk_at dksX1_plan_5 10 rfl rfl)
theorem dX1_plan_126 : decode cX1_plan 126 = .ok (.getfield 270, 3) := dk_180 1 14 (dk_at dksX1_plan_5 12 rfl rfl)
theorem dX1_plan_129 : decode cX1_plan 129 = .ok (.ireturn, 1) := dk_172 (dk_at dksX1_plan_5 15 rfl rfl)
abbrev cX1_drop : ByteArray := prog_1_method_32_code
def yX1_drop : MethodName := ⟨RX1, "drop", "(I)I"⟩
def dkwX1_drop_1 : List UInt8 := [180, 0, 126, 27, 50, 3, 181, 1, 14, 28, 172]
abbrev dktX1_drop_1 : List UInt8 := dkwX1_drop_1 ++ []
def dkwX1_drop_0 : List UInt8 := [27, 155, 0, 9, 27, 16, 6, 161, 0, 6, 16, 155, 172, 42, 180, 0, 126, 27, 50, 180, 1, 14, 61, 42]
abbrev dktX1_drop_0 : List UInt8 := dkwX1_drop_0 ++ dktX1_drop_1
theorem dksX1_drop_0 : cX1_drop.data.toList.drop 0 = dktX1_drop_0 := by decide +kernel
theorem dksX1_drop_1 : cX1_drop.data.toList.drop 24 = dktX1_drop_1 := dk_seg dksX1_drop_0 24 rfl rfl
theorem dX1_drop_0 : decode cX1_drop 0 = .ok (.iload_n 1, 1) := dk_27 (dk_at dksX1_drop_0 0 rfl rfl)
theorem dX1_drop_1 : decode cX1_drop 1 = .ok (.ifCond .lt 9, 3) := dk_155 0 9 (dk_at dksX1_drop_0 1 rfl rfl)
theorem dX1_drop_4 : decode cX1_drop 4 = .ok (.iload_n 1, 1) := dk_27 (dk_at dksX1_drop_0 4 rfl rfl)
theorem dX1_drop_5 : decode cX1_drop 5 = .ok (.bipush 6, 2) := dk_16 6 (dk_at dksX1_drop_0 5 rfl rfl)
theorem dX1_drop_7 : decode cX1_drop 7 = .ok (.if_icmp .lt 6, 3) := dk_161 0 6 (dk_at dksX1_drop_0 7 rfl rfl)
theorem dX1_drop_10 : decode cX1_drop 10 = .ok (.bipush (-101), 2) := dk_16 155 (dk_at dksX1_drop_0 10 rfl rfl)
theorem dX1_drop_12 : decode cX1_drop 12 = .ok (.ireturn, 1) := dk_172 (dk_at dksX1_drop_0 12 rfl rfl)
theorem dX1_drop_13 : decode cX1_drop 13 = .ok (.aload_n 0, 1) := dk_42 (dk_at dksX1_drop_0 13 rfl rfl)
theorem dX1_drop_14 : decode cX1_drop 14 = .ok (.getfield 126, 3) := dk_180 0 126 (dk_at dksX1_drop_0 14 rfl rfl)
theorem dX1_drop_17 : decode cX1_drop 17 = .ok (.iload_n 1, 1) := dk_27 (dk_at dksX1_drop_0 17 rfl rfl)
theorem dX1_drop_18 : decode cX1_drop 18 = .ok (.aaload, 1) := dk_50 (dk_at dksX1_drop_0 18 rfl rfl)
theorem dX1_drop_19 : decode cX1_drop 19 = .ok (.getfield 270, 3) := dk_180 1 14 (dk_at dksX1_drop_0 19 rfl rfl)
theorem dX1_drop_22 : decode cX1_drop 22 = .ok (.istore_n 2, 1) := dk_61 (dk_at dksX1_drop_0 22 rfl rfl)
theorem dX1_drop_23 : decode cX1_drop 23 = .ok (.aload_n 0, 1) := dk_42 (dk_at dksX1_drop_0 23 rfl rfl)
theorem dX1_drop_24 : decode cX1_drop 24 = .ok (.getfield 126, 3) := dk_180 0 126 (dk_at dksX1_drop_1 0 rfl rfl)
theorem dX1_drop_27 : decode cX1_drop 27 = .ok (.iload_n 1, 1) := dk_27 (dk_at dksX1_drop_1 3 rfl rfl)
theorem dX1_drop_28 : decode cX1_drop 28 = .ok (.aaload, 1) := dk_50 (dk_at dksX1_drop_1 4 rfl rfl)
theorem dX1_drop_29 : decode cX1_drop 29 = .ok (.iconst 0, 1) := dk_3 (dk_at dksX1_drop_1 5 rfl rfl)
theorem dX1_drop_30 : decode cX1_drop 30 = .ok (.putfield 270, 3) := dk_181 1 14 (dk_at dksX1_drop_1 6 rfl rfl)
theorem dX1_drop_33 : decode cX1_drop 33 = .ok (.iload_n 2, 1) := dk_28 (dk_at dksX1_drop_1 9 rfl rfl)
theorem dX1_drop_34 : decode cX1_drop 34 = .ok (.ireturn, 1) := dk_172 (dk_at dksX1_drop_1 10 rfl rfl)
abbrev cX1_price : ByteArray := prog_1_method_33_code
def yX1_price : MethodName := ⟨RX1, "price", "(IIII)J"⟩
def dkwX1_price_3 : List UInt8 := [182, 1, 26, 133, 173]
abbrev dktX1_price_3 : List UInt8 := dkwX1_price_3 ++ []
def dkwX1_price_2 : List UInt8 := [154, 0, 7, 20, 1, 1, 173, 42, 187, 0, 190, 89, 27, 28, 3, 29, 3, 21, 4, 183, 1, 19]
abbrev dktX1_price_2 : List UInt8 := dkwX1_price_2 ++ dktX1_price_3
def dkwX1_price_1 : List UInt8 := [182, 0, 224, 153, 0, 23, 42, 180, 0, 173, 27, 50, 182, 1, 22, 153, 0, 15, 42, 29, 182, 0, 224]
abbrev dktX1_price_1 : List UInt8 := dkwX1_price_1 ++ dktX1_price_2
def dkwX1_price_0 : List UInt8 := [27, 155, 0, 47, 27, 42, 180, 0, 173, 190, 162, 0, 38, 27, 184, 0, 194, 153, 0, 35, 42, 28]
abbrev dktX1_price_0 : List UInt8 := dkwX1_price_0 ++ dktX1_price_1
theorem dksX1_price_0 : cX1_price.data.toList.drop 0 = dktX1_price_0 := by decide +kernel
theorem dksX1_price_1 : cX1_price.data.toList.drop 22 = dktX1_price_1 := dk_seg dksX1_price_0 22 rfl rfl
theorem dksX1_price_2 : cX1_price.data.toList.drop 45 = dktX1_price_2 := dk_seg dksX1_price_1 23 rfl rfl
theorem dksX1_price_3 : cX1_price.data.toList.drop 67 = dktX1_price_3 := dk_seg dksX1_price_2 22 rfl rfl
theorem dX1_price_0 : decode cX1_price 0 = .ok (.iload_n 1, 1) := dk_27 (dk_at dksX1_price_0 0 rfl rfl)
theorem dX1_price_1 : decode cX1_price 1 = .ok (.ifCond .lt 47, 3) := dk_155 0 47 (dk_at dksX1_price_0 1 rfl rfl)
theorem dX1_price_4 : decode cX1_price 4 = .ok (.iload_n 1, 1) := dk_27 (dk_at dksX1_price_0 4 rfl rfl)
theorem dX1_price_5 : decode cX1_price 5 = .ok (.aload_n 0, 1) := dk_42 (dk_at dksX1_price_0 5 rfl rfl)
theorem dX1_price_6 : decode cX1_price 6 = .ok (.getfield 173, 3) := dk_180 0 173 (dk_at dksX1_price_0 6 rfl rfl)
theorem dX1_price_9 : decode cX1_price 9 = .ok (.arraylength, 1) := dk_190 (dk_at dksX1_price_0 9 rfl rfl)
theorem dX1_price_10 : decode cX1_price 10 = .ok (.if_icmp .ge 38, 3) := dk_162 0 38 (dk_at dksX1_price_0 10 rfl rfl)
theorem dX1_price_13 : decode cX1_price 13 = .ok (.iload_n 1, 1) := dk_27 (dk_at dksX1_price_0 13 rfl rfl)
theorem dX1_price_14 : decode cX1_price 14 = .ok (.invokestatic 194, 3) := dk_184 0 194 (dk_at dksX1_price_0 14 rfl rfl)
theorem dX1_price_17 : decode cX1_price 17 = .ok (.ifCond .eq 35, 3) := dk_153 0 35 (dk_at dksX1_price_0 17 rfl rfl)
theorem dX1_price_20 : decode cX1_price 20 = .ok (.aload_n 0, 1) := dk_42 (dk_at dksX1_price_0 20 rfl rfl)
theorem dX1_price_21 : decode cX1_price 21 = .ok (.iload_n 2, 1) := dk_28 (dk_at dksX1_price_0 21 rfl rfl)
theorem dX1_price_22 : decode cX1_price 22 = .ok (.invokevirtual 224, 3) := dk_182 0 224 (dk_at dksX1_price_1 0 rfl rfl)
theorem dX1_price_25 : decode cX1_price 25 = .ok (.ifCond .eq 23, 3) := dk_153 0 23 (dk_at dksX1_price_1 3 rfl rfl)
theorem dX1_price_28 : decode cX1_price 28 = .ok (.aload_n 0, 1) := dk_42 (dk_at dksX1_price_1 6 rfl rfl)
theorem dX1_price_29 : decode cX1_price 29 = .ok (.getfield 173, 3) := dk_180 0 173 (dk_at dksX1_price_1 7 rfl rfl)
theorem dX1_price_32 : decode cX1_price 32 = .ok (.iload_n 1, 1) := dk_27 (dk_at dksX1_price_1 10 rfl rfl)
theorem dX1_price_33 : decode cX1_price 33 = .ok (.aaload, 1) := dk_50 (dk_at dksX1_price_1 11 rfl rfl)
theorem dX1_price_34 : decode cX1_price 34 = .ok (.invokevirtual 278, 3) := dk_182 1 22 (dk_at dksX1_price_1 12 rfl rfl)
theorem dX1_price_37 : decode cX1_price 37 = .ok (.ifCond .eq 15, 3) := dk_153 0 15 (dk_at dksX1_price_1 15 rfl rfl)
theorem dX1_price_40 : decode cX1_price 40 = .ok (.aload_n 0, 1) := dk_42 (dk_at dksX1_price_1 18 rfl rfl)
theorem dX1_price_41 : decode cX1_price 41 = .ok (.iload_n 3, 1) := dk_29 (dk_at dksX1_price_1 19 rfl rfl)
theorem dX1_price_42 : decode cX1_price 42 = .ok (.invokevirtual 224, 3) := dk_182 0 224 (dk_at dksX1_price_1 20 rfl rfl)
theorem dX1_price_45 : decode cX1_price 45 = .ok (.ifCond .ne 7, 3) := dk_154 0 7 (dk_at dksX1_price_2 0 rfl rfl)
theorem dX1_price_48 : decode cX1_price 48 = .ok (.ldc2_w 257, 3) := dk_20 1 1 (dk_at dksX1_price_2 3 rfl rfl)
theorem dX1_price_51 : decode cX1_price 51 = .ok (.lreturn, 1) := dk_173 (dk_at dksX1_price_2 6 rfl rfl)
theorem dX1_price_52 : decode cX1_price 52 = .ok (.aload_n 0, 1) := dk_42 (dk_at dksX1_price_2 7 rfl rfl)
theorem dX1_price_53 : decode cX1_price 53 = .ok (.new 190, 3) := dk_187 0 190 (dk_at dksX1_price_2 8 rfl rfl)
theorem dX1_price_56 : decode cX1_price 56 = .ok (.dup, 1) := dk_89 (dk_at dksX1_price_2 11 rfl rfl)
theorem dX1_price_57 : decode cX1_price 57 = .ok (.iload_n 1, 1) := dk_27 (dk_at dksX1_price_2 12 rfl rfl)
theorem dX1_price_58 : decode cX1_price 58 = .ok (.iload_n 2, 1) := dk_28 (dk_at dksX1_price_2 13 rfl rfl)
theorem dX1_price_59 : decode cX1_price 59 = .ok (.iconst 0, 1) := dk_3 (dk_at dksX1_price_2 14 rfl rfl)
theorem dX1_price_60 : decode cX1_price 60 = .ok (.iload_n 3, 1) := dk_29 (dk_at dksX1_price_2 15 rfl rfl)
theorem dX1_price_61 : decode cX1_price 61 = .ok (.iconst 0, 1) := dk_3 (dk_at dksX1_price_2 16 rfl rfl)
theorem dX1_price_62 : decode cX1_price 62 = .ok (.iload 4, 2) := dk_21 4 (dk_at dksX1_price_2 17 rfl rfl)
theorem dX1_price_64 : decode cX1_price 64 = .ok (.invokespecial 275, 3) := dk_183 1 19 (dk_at dksX1_price_2 19 rfl rfl)
theorem dX1_price_67 : decode cX1_price 67 = .ok (.invokevirtual 282, 3) := dk_182 1 26 (dk_at dksX1_price_3 0 rfl rfl)
theorem dX1_price_70 : decode cX1_price 70 = .ok (.i2l, 1) := dk_133 (dk_at dksX1_price_3 3 rfl rfl)
theorem dX1_price_71 : decode cX1_price 71 = .ok (.lreturn, 1) := dk_173 (dk_at dksX1_price_3 4 rfl rfl)
abbrev cX1_needsRow : ByteArray := prog_1_method_17_code
def yX1_needsRow : MethodName := ⟨RX1, "needsRow", "(I)Z"⟩
def dkwX1_needsRow_0 : List UInt8 := [26, 16, 10, 161, 0, 9, 26, 16, 11, 164, 0, 7, 4, 167, 0, 4, 3, 172]
abbrev dktX1_needsRow_0 : List UInt8 := dkwX1_needsRow_0 ++ []
theorem dksX1_needsRow_0 : cX1_needsRow.data.toList.drop 0 = dktX1_needsRow_0 := by decide +kernel
theorem dX1_needsRow_0 : decode cX1_needsRow 0 = .ok (.iload_n 0, 1) := dk_26 (dk_at dksX1_needsRow_0 0 rfl rfl)
theorem dX1_needsRow_1 : decode cX1_needsRow 1 = .ok (.bipush 10, 2) := dk_16 10 (dk_at dksX1_needsRow_0 1 rfl rfl)
theorem dX1_needsRow_3 : decode cX1_needsRow 3 = .ok (.if_icmp .lt 9, 3) := dk_161 0 9 (dk_at dksX1_needsRow_0 3 rfl rfl)
theorem dX1_needsRow_6 : decode cX1_needsRow 6 = .ok (.iload_n 0, 1) := dk_26 (dk_at dksX1_needsRow_0 6 rfl rfl)
theorem dX1_needsRow_7 : decode cX1_needsRow 7 = .ok (.bipush 11, 2) := dk_16 11 (dk_at dksX1_needsRow_0 7 rfl rfl)
theorem dX1_needsRow_9 : decode cX1_needsRow 9 = .ok (.if_icmp .le 7, 3) := dk_164 0 7 (dk_at dksX1_needsRow_0 9 rfl rfl)
theorem dX1_needsRow_12 : decode cX1_needsRow 12 = .ok (.iconst 1, 1) := dk_4 (dk_at dksX1_needsRow_0 12 rfl rfl)
theorem dX1_needsRow_13 : decode cX1_needsRow 13 = .ok (.goto 4, 3) := dk_167 0 4 (dk_at dksX1_needsRow_0 13 rfl rfl)
theorem dX1_needsRow_16 : decode cX1_needsRow 16 = .ok (.iconst 0, 1) := dk_3 (dk_at dksX1_needsRow_0 16 rfl rfl)
theorem dX1_needsRow_17 : decode cX1_needsRow 17 = .ok (.ireturn, 1) := dk_172 (dk_at dksX1_needsRow_0 17 rfl rfl)
abbrev cX1_priceOf : ByteArray := prog_1_method_21_code
def yX1_priceOf : MethodName := ⟨RX1, "priceOf", "(LNativeSubset$Act;)I"⟩
def dkwX1_priceOf_1 : List UInt8 := [185, 0, 208, 3, 0, 172]
abbrev dktX1_priceOf_1 : List UInt8 := dkwX1_priceOf_1 ++ []
def dkwX1_priceOf_0 : List UInt8 := [42, 180, 0, 173, 43, 180, 0, 189, 50, 77, 44, 78, 45, 44, 43, 182, 0, 201, 42, 43, 182, 0, 205]
abbrev dktX1_priceOf_0 : List UInt8 := dkwX1_priceOf_0 ++ dktX1_priceOf_1
theorem dksX1_priceOf_0 : cX1_priceOf.data.toList.drop 0 = dktX1_priceOf_0 := by decide +kernel
theorem dksX1_priceOf_1 : cX1_priceOf.data.toList.drop 23 = dktX1_priceOf_1 := dk_seg dksX1_priceOf_0 23 rfl rfl
theorem dX1_priceOf_0 : decode cX1_priceOf 0 = .ok (.aload_n 0, 1) := dk_42 (dk_at dksX1_priceOf_0 0 rfl rfl)
theorem dX1_priceOf_1 : decode cX1_priceOf 1 = .ok (.getfield 173, 3) := dk_180 0 173 (dk_at dksX1_priceOf_0 1 rfl rfl)
theorem dX1_priceOf_4 : decode cX1_priceOf 4 = .ok (.aload_n 1, 1) := dk_43 (dk_at dksX1_priceOf_0 4 rfl rfl)
theorem dX1_priceOf_5 : decode cX1_priceOf 5 = .ok (.getfield 189, 3) := dk_180 0 189 (dk_at dksX1_priceOf_0 5 rfl rfl)
theorem dX1_priceOf_8 : decode cX1_priceOf 8 = .ok (.aaload, 1) := dk_50 (dk_at dksX1_priceOf_0 8 rfl rfl)
theorem dX1_priceOf_9 : decode cX1_priceOf 9 = .ok (.astore_n 2, 1) := dk_77 (dk_at dksX1_priceOf_0 9 rfl rfl)
theorem dX1_priceOf_10 : decode cX1_priceOf 10 = .ok (.aload_n 2, 1) := dk_44 (dk_at dksX1_priceOf_0 10 rfl rfl)
theorem dX1_priceOf_11 : decode cX1_priceOf 11 = .ok (.astore_n 3, 1) := dk_78 (dk_at dksX1_priceOf_0 11 rfl rfl)
theorem dX1_priceOf_12 : decode cX1_priceOf 12 = .ok (.aload_n 3, 1) := dk_45 (dk_at dksX1_priceOf_0 12 rfl rfl)
theorem dX1_priceOf_13 : decode cX1_priceOf 13 = .ok (.aload_n 2, 1) := dk_44 (dk_at dksX1_priceOf_0 13 rfl rfl)
theorem dX1_priceOf_14 : decode cX1_priceOf 14 = .ok (.aload_n 1, 1) := dk_43 (dk_at dksX1_priceOf_0 14 rfl rfl)
theorem dX1_priceOf_15 : decode cX1_priceOf 15 = .ok (.invokevirtual 201, 3) := dk_182 0 201 (dk_at dksX1_priceOf_0 15 rfl rfl)
theorem dX1_priceOf_18 : decode cX1_priceOf 18 = .ok (.aload_n 0, 1) := dk_42 (dk_at dksX1_priceOf_0 18 rfl rfl)
theorem dX1_priceOf_19 : decode cX1_priceOf 19 = .ok (.aload_n 1, 1) := dk_43 (dk_at dksX1_priceOf_0 19 rfl rfl)
theorem dX1_priceOf_20 : decode cX1_priceOf 20 = .ok (.invokevirtual 205, 3) := dk_182 0 205 (dk_at dksX1_priceOf_0 20 rfl rfl)
theorem dX1_priceOf_23 : decode cX1_priceOf 23 = .ok (.invokeinterface 208 3, 5) := by decide +kernel
theorem dX1_priceOf_28 : decode cX1_priceOf 28 = .ok (.ireturn, 1) := dk_172 (dk_at dksX1_priceOf_1 5 rfl rfl)
abbrev cX1_weightOf : ByteArray := prog_1_method_20_code
def yX1_weightOf : MethodName := ⟨RX1, "weightOf", "(LNativeSubset$Act;)I"⟩
def dkwX1_weightOf_2 : List UInt8 := [28, 8, 159, 0, 9, 28, 16, 7, 160, 0, 7, 5, 167, 0, 4, 4, 172]
abbrev dktX1_weightOf_2 : List UInt8 := dkwX1_weightOf_2 ++ []
def dkwX1_weightOf_1 : List UInt8 := [184, 0, 25, 61, 28, 16, 10, 160, 0, 7, 7, 167, 0, 29, 28, 16, 8, 161, 0, 7, 6, 167, 0, 19]
abbrev dktX1_weightOf_1 : List UInt8 := dkwX1_weightOf_1 ++ dktX1_weightOf_2
def dkwX1_weightOf_0 : List UInt8 := [43, 180, 0, 189, 184, 0, 194, 154, 0, 5, 4, 172, 42, 180, 0, 115, 43, 180, 0, 198, 182, 0, 184]
abbrev dktX1_weightOf_0 : List UInt8 := dkwX1_weightOf_0 ++ dktX1_weightOf_1
theorem dksX1_weightOf_0 : cX1_weightOf.data.toList.drop 0 = dktX1_weightOf_0 := by decide +kernel
theorem dksX1_weightOf_1 : cX1_weightOf.data.toList.drop 23 = dktX1_weightOf_1 := dk_seg dksX1_weightOf_0 23 rfl rfl
theorem dksX1_weightOf_2 : cX1_weightOf.data.toList.drop 47 = dktX1_weightOf_2 := dk_seg dksX1_weightOf_1 24 rfl rfl
theorem dX1_weightOf_0 : decode cX1_weightOf 0 = .ok (.aload_n 1, 1) := dk_43 (dk_at dksX1_weightOf_0 0 rfl rfl)
theorem dX1_weightOf_1 : decode cX1_weightOf 1 = .ok (.getfield 189, 3) := dk_180 0 189 (dk_at dksX1_weightOf_0 1 rfl rfl)
theorem dX1_weightOf_4 : decode cX1_weightOf 4 = .ok (.invokestatic 194, 3) := dk_184 0 194 (dk_at dksX1_weightOf_0 4 rfl rfl)
theorem dX1_weightOf_7 : decode cX1_weightOf 7 = .ok (.ifCond .ne 5, 3) := dk_154 0 5 (dk_at dksX1_weightOf_0 7 rfl rfl)
theorem dX1_weightOf_10 : decode cX1_weightOf 10 = .ok (.iconst 1, 1) := dk_4 (dk_at dksX1_weightOf_0 10 rfl rfl)
theorem dX1_weightOf_11 : decode cX1_weightOf 11 = .ok (.ireturn, 1) := dk_172 (dk_at dksX1_weightOf_0 11 rfl rfl)
theorem dX1_weightOf_12 : decode cX1_weightOf 12 = .ok (.aload_n 0, 1) := dk_42 (dk_at dksX1_weightOf_0 12 rfl rfl)
theorem dX1_weightOf_13 : decode cX1_weightOf 13 = .ok (.getfield 115, 3) := dk_180 0 115 (dk_at dksX1_weightOf_0 13 rfl rfl)
theorem dX1_weightOf_16 : decode cX1_weightOf 16 = .ok (.aload_n 1, 1) := dk_43 (dk_at dksX1_weightOf_0 16 rfl rfl)
theorem dX1_weightOf_17 : decode cX1_weightOf 17 = .ok (.getfield 198, 3) := dk_180 0 198 (dk_at dksX1_weightOf_0 17 rfl rfl)
theorem dX1_weightOf_20 : decode cX1_weightOf 20 = .ok (.invokevirtual 184, 3) := dk_182 0 184 (dk_at dksX1_weightOf_0 20 rfl rfl)
theorem dX1_weightOf_23 : decode cX1_weightOf 23 = .ok (.invokestatic 25, 3) := dk_184 0 25 (dk_at dksX1_weightOf_1 0 rfl rfl)
theorem dX1_weightOf_26 : decode cX1_weightOf 26 = .ok (.istore_n 2, 1) := dk_61 (dk_at dksX1_weightOf_1 3 rfl rfl)
theorem dX1_weightOf_27 : decode cX1_weightOf 27 = .ok (.iload_n 2, 1) := dk_28 (dk_at dksX1_weightOf_1 4 rfl rfl)
theorem dX1_weightOf_28 : decode cX1_weightOf 28 = .ok (.bipush 10, 2) := dk_16 10 (dk_at dksX1_weightOf_1 5 rfl rfl)
theorem dX1_weightOf_30 : decode cX1_weightOf 30 = .ok (.if_icmp .ne 7, 3) := dk_160 0 7 (dk_at dksX1_weightOf_1 7 rfl rfl)
theorem dX1_weightOf_33 : decode cX1_weightOf 33 = .ok (.iconst 4, 1) := dk_7 (dk_at dksX1_weightOf_1 10 rfl rfl)
theorem dX1_weightOf_34 : decode cX1_weightOf 34 = .ok (.goto 29, 3) := dk_167 0 29 (dk_at dksX1_weightOf_1 11 rfl rfl)
theorem dX1_weightOf_37 : decode cX1_weightOf 37 = .ok (.iload_n 2, 1) := dk_28 (dk_at dksX1_weightOf_1 14 rfl rfl)
theorem dX1_weightOf_38 : decode cX1_weightOf 38 = .ok (.bipush 8, 2) := dk_16 8 (dk_at dksX1_weightOf_1 15 rfl rfl)
theorem dX1_weightOf_40 : decode cX1_weightOf 40 = .ok (.if_icmp .lt 7, 3) := dk_161 0 7 (dk_at dksX1_weightOf_1 17 rfl rfl)
theorem dX1_weightOf_43 : decode cX1_weightOf 43 = .ok (.iconst 3, 1) := dk_6 (dk_at dksX1_weightOf_1 20 rfl rfl)
theorem dX1_weightOf_44 : decode cX1_weightOf 44 = .ok (.goto 19, 3) := dk_167 0 19 (dk_at dksX1_weightOf_1 21 rfl rfl)
theorem dX1_weightOf_47 : decode cX1_weightOf 47 = .ok (.iload_n 2, 1) := dk_28 (dk_at dksX1_weightOf_2 0 rfl rfl)
theorem dX1_weightOf_48 : decode cX1_weightOf 48 = .ok (.iconst 5, 1) := dk_8 (dk_at dksX1_weightOf_2 1 rfl rfl)
theorem dX1_weightOf_49 : decode cX1_weightOf 49 = .ok (.if_icmp .eq 9, 3) := dk_159 0 9 (dk_at dksX1_weightOf_2 2 rfl rfl)
theorem dX1_weightOf_52 : decode cX1_weightOf 52 = .ok (.iload_n 2, 1) := dk_28 (dk_at dksX1_weightOf_2 5 rfl rfl)
theorem dX1_weightOf_53 : decode cX1_weightOf 53 = .ok (.bipush 7, 2) := dk_16 7 (dk_at dksX1_weightOf_2 6 rfl rfl)
theorem dX1_weightOf_55 : decode cX1_weightOf 55 = .ok (.if_icmp .ne 7, 3) := dk_160 0 7 (dk_at dksX1_weightOf_2 8 rfl rfl)
theorem dX1_weightOf_58 : decode cX1_weightOf 58 = .ok (.iconst 2, 1) := dk_5 (dk_at dksX1_weightOf_2 11 rfl rfl)
theorem dX1_weightOf_59 : decode cX1_weightOf 59 = .ok (.goto 4, 3) := dk_167 0 4 (dk_at dksX1_weightOf_2 12 rfl rfl)
theorem dX1_weightOf_62 : decode cX1_weightOf 62 = .ok (.iconst 1, 1) := dk_4 (dk_at dksX1_weightOf_2 15 rfl rfl)
theorem dX1_weightOf_63 : decode cX1_weightOf 63 = .ok (.ireturn, 1) := dk_172 (dk_at dksX1_weightOf_2 16 rfl rfl)
abbrev cX1_run : ByteArray := prog_1_method_34_code
def yX1_run : MethodName := ⟨RX1, "run", "(II)I"⟩
def dkwX1_run_6 : List UInt8 := [181, 0, 251, 42, 180, 1, 41, 172]
abbrev dktX1_run_6 : List UInt8 := dkwX1_run_6 ++ []
def dkwX1_run_5 : List UInt8 := [181, 1, 56, 42, 25, 4, 180, 1, 59, 181, 1, 62, 42, 89, 180, 0, 251, 25, 4, 180, 1, 50, 96]
abbrev dktX1_run_5 : List UInt8 := dkwX1_run_5 ++ dktX1_run_6
def dkwX1_run_4 : List UInt8 := [25, 5, 180, 1, 47, 181, 1, 41, 42, 25, 4, 180, 1, 50, 181, 1, 53, 42, 42, 180, 0, 245, 29, 100]
abbrev dktX1_run_4 : List UInt8 := dkwX1_run_4 ++ dktX1_run_5
def dkwX1_run_3 : List UInt8 := [181, 1, 34, 42, 3, 181, 1, 38, 42, 3, 181, 1, 41, 25, 4, 182, 1, 44, 167, 0, 14, 58, 5, 42]
abbrev dktX1_run_3 : List UInt8 := dkwX1_run_3 ++ dktX1_run_4
def dkwX1_run_2 : List UInt8 := [16, 152, 172, 42, 180, 0, 245, 62, 187, 1, 29, 89, 42, 27, 28, 183, 1, 31, 58, 4, 42, 4]
abbrev dktX1_run_2 : List UInt8 := dkwX1_run_2 ++ dktX1_run_3
def dkwX1_run_1 : List UInt8 := [16, 154, 172, 42, 180, 0, 245, 17, 23, 112, 162, 0, 13, 42, 180, 0, 95, 17, 3, 32, 161, 0, 6]
abbrev dktX1_run_1 : List UInt8 := dkwX1_run_1 ++ dktX1_run_2
def dkwX1_run_0 : List UInt8 := [27, 155, 0, 9, 27, 16, 6, 161, 0, 6, 16, 155, 172, 28, 155, 0, 10, 28, 17, 19, 136, 164, 0, 6]
abbrev dktX1_run_0 : List UInt8 := dkwX1_run_0 ++ dktX1_run_1
theorem dksX1_run_0 : cX1_run.data.toList.drop 0 = dktX1_run_0 := by decide +kernel
theorem dksX1_run_1 : cX1_run.data.toList.drop 24 = dktX1_run_1 := dk_seg dksX1_run_0 24 rfl rfl
theorem dksX1_run_2 : cX1_run.data.toList.drop 47 = dktX1_run_2 := dk_seg dksX1_run_1 23 rfl rfl
theorem dksX1_run_3 : cX1_run.data.toList.drop 69 = dktX1_run_3 := dk_seg dksX1_run_2 22 rfl rfl
theorem dksX1_run_4 : cX1_run.data.toList.drop 93 = dktX1_run_4 := dk_seg dksX1_run_3 24 rfl rfl
theorem dksX1_run_5 : cX1_run.data.toList.drop 117 = dktX1_run_5 := dk_seg dksX1_run_4 24 rfl rfl
theorem dksX1_run_6 : cX1_run.data.toList.drop 140 = dktX1_run_6 := dk_seg dksX1_run_5 23 rfl rfl
theorem dX1_run_0 : decode cX1_run 0 = .ok (.iload_n 1, 1) := dk_27 (dk_at dksX1_run_0 0 rfl rfl)
theorem dX1_run_1 : decode cX1_run 1 = .ok (.ifCond .lt 9, 3) := dk_155 0 9 (dk_at dksX1_run_0 1 rfl rfl)
theorem dX1_run_4 : decode cX1_run 4 = .ok (.iload_n 1, 1) := dk_27 (dk_at dksX1_run_0 4 rfl rfl)
theorem dX1_run_5 : decode cX1_run 5 = .ok (.bipush 6, 2) := dk_16 6 (dk_at dksX1_run_0 5 rfl rfl)
theorem dX1_run_7 : decode cX1_run 7 = .ok (.if_icmp .lt 6, 3) := dk_161 0 6 (dk_at dksX1_run_0 7 rfl rfl)
theorem dX1_run_10 : decode cX1_run 10 = .ok (.bipush (-101), 2) := dk_16 155 (dk_at dksX1_run_0 10 rfl rfl)
theorem dX1_run_12 : decode cX1_run 12 = .ok (.ireturn, 1) := dk_172 (dk_at dksX1_run_0 12 rfl rfl)
theorem dX1_run_13 : decode cX1_run 13 = .ok (.iload_n 2, 1) := dk_28 (dk_at dksX1_run_0 13 rfl rfl)
theorem dX1_run_14 : decode cX1_run 14 = .ok (.ifCond .lt 10, 3) := dk_155 0 10 (dk_at dksX1_run_0 14 rfl rfl)
theorem dX1_run_17 : decode cX1_run 17 = .ok (.iload_n 2, 1) := dk_28 (dk_at dksX1_run_0 17 rfl rfl)
theorem dX1_run_18 : decode cX1_run 18 = .ok (.sipush 5000, 3) := dk_17 19 136 (dk_at dksX1_run_0 18 rfl rfl)
theorem dX1_run_21 : decode cX1_run 21 = .ok (.if_icmp .le 6, 3) := dk_164 0 6 (dk_at dksX1_run_0 21 rfl rfl)
theorem dX1_run_24 : decode cX1_run 24 = .ok (.bipush (-102), 2) := dk_16 154 (dk_at dksX1_run_1 0 rfl rfl)
theorem dX1_run_26 : decode cX1_run 26 = .ok (.ireturn, 1) := dk_172 (dk_at dksX1_run_1 2 rfl rfl)
theorem dX1_run_27 : decode cX1_run 27 = .ok (.aload_n 0, 1) := dk_42 (dk_at dksX1_run_1 3 rfl rfl)
theorem dX1_run_28 : decode cX1_run 28 = .ok (.getfield 245, 3) := dk_180 0 245 (dk_at dksX1_run_1 4 rfl rfl)
theorem dX1_run_31 : decode cX1_run 31 = .ok (.sipush 6000, 3) := dk_17 23 112 (dk_at dksX1_run_1 7 rfl rfl)
theorem dX1_run_34 : decode cX1_run 34 = .ok (.if_icmp .ge 13, 3) := dk_162 0 13 (dk_at dksX1_run_1 10 rfl rfl)
theorem dX1_run_37 : decode cX1_run 37 = .ok (.aload_n 0, 1) := dk_42 (dk_at dksX1_run_1 13 rfl rfl)
theorem dX1_run_38 : decode cX1_run 38 = .ok (.getfield 95, 3) := dk_180 0 95 (dk_at dksX1_run_1 14 rfl rfl)
theorem dX1_run_41 : decode cX1_run 41 = .ok (.sipush 800, 3) := dk_17 3 32 (dk_at dksX1_run_1 17 rfl rfl)
theorem dX1_run_44 : decode cX1_run 44 = .ok (.if_icmp .lt 6, 3) := dk_161 0 6 (dk_at dksX1_run_1 20 rfl rfl)
theorem dX1_run_47 : decode cX1_run 47 = .ok (.bipush (-104), 2) := dk_16 152 (dk_at dksX1_run_2 0 rfl rfl)
theorem dX1_run_49 : decode cX1_run 49 = .ok (.ireturn, 1) := dk_172 (dk_at dksX1_run_2 2 rfl rfl)
theorem dX1_run_50 : decode cX1_run 50 = .ok (.aload_n 0, 1) := dk_42 (dk_at dksX1_run_2 3 rfl rfl)
theorem dX1_run_51 : decode cX1_run 51 = .ok (.getfield 245, 3) := dk_180 0 245 (dk_at dksX1_run_2 4 rfl rfl)
theorem dX1_run_54 : decode cX1_run 54 = .ok (.istore_n 3, 1) := dk_62 (dk_at dksX1_run_2 7 rfl rfl)
theorem dX1_run_55 : decode cX1_run 55 = .ok (.new 285, 3) := dk_187 1 29 (dk_at dksX1_run_2 8 rfl rfl)
theorem dX1_run_58 : decode cX1_run 58 = .ok (.dup, 1) := dk_89 (dk_at dksX1_run_2 11 rfl rfl)
theorem dX1_run_59 : decode cX1_run 59 = .ok (.aload_n 0, 1) := dk_42 (dk_at dksX1_run_2 12 rfl rfl)
theorem dX1_run_60 : decode cX1_run 60 = .ok (.iload_n 1, 1) := dk_27 (dk_at dksX1_run_2 13 rfl rfl)
theorem dX1_run_61 : decode cX1_run 61 = .ok (.iload_n 2, 1) := dk_28 (dk_at dksX1_run_2 14 rfl rfl)
theorem dX1_run_62 : decode cX1_run 62 = .ok (.invokespecial 287, 3) := dk_183 1 31 (dk_at dksX1_run_2 15 rfl rfl)
theorem dX1_run_65 : decode cX1_run 65 = .ok (.astore 4, 2) := dk_58 4 (dk_at dksX1_run_2 18 rfl rfl)
theorem dX1_run_67 : decode cX1_run 67 = .ok (.aload_n 0, 1) := dk_42 (dk_at dksX1_run_2 20 rfl rfl)
theorem dX1_run_68 : decode cX1_run 68 = .ok (.iconst 1, 1) := dk_4 (dk_at dksX1_run_2 21 rfl rfl)
theorem dX1_run_69 : decode cX1_run 69 = .ok (.putfield 290, 3) := dk_181 1 34 (dk_at dksX1_run_3 0 rfl rfl)
theorem dX1_run_72 : decode cX1_run 72 = .ok (.aload_n 0, 1) := dk_42 (dk_at dksX1_run_3 3 rfl rfl)
theorem dX1_run_73 : decode cX1_run 73 = .ok (.iconst 0, 1) := dk_3 (dk_at dksX1_run_3 4 rfl rfl)
theorem dX1_run_74 : decode cX1_run 74 = .ok (.putfield 294, 3) := dk_181 1 38 (dk_at dksX1_run_3 5 rfl rfl)
theorem dX1_run_77 : decode cX1_run 77 = .ok (.aload_n 0, 1) := dk_42 (dk_at dksX1_run_3 8 rfl rfl)
theorem dX1_run_78 : decode cX1_run 78 = .ok (.iconst 0, 1) := dk_3 (dk_at dksX1_run_3 9 rfl rfl)
theorem dX1_run_79 : decode cX1_run 79 = .ok (.putfield 297, 3) := dk_181 1 41 (dk_at dksX1_run_3 10 rfl rfl)
theorem dX1_run_82 : decode cX1_run 82 = .ok (.aload 4, 2) := dk_25 4 (dk_at dksX1_run_3 13 rfl rfl)
theorem dX1_run_84 : decode cX1_run 84 = .ok (.invokevirtual 300, 3) := dk_182 1 44 (dk_at dksX1_run_3 15 rfl rfl)
theorem dX1_run_87 : decode cX1_run 87 = .ok (.goto 14, 3) := dk_167 0 14 (dk_at dksX1_run_3 18 rfl rfl)
theorem dX1_run_90 : decode cX1_run 90 = .ok (.astore 5, 2) := dk_58 5 (dk_at dksX1_run_3 21 rfl rfl)
theorem dX1_run_92 : decode cX1_run 92 = .ok (.aload_n 0, 1) := dk_42 (dk_at dksX1_run_3 23 rfl rfl)
theorem dX1_run_93 : decode cX1_run 93 = .ok (.aload 5, 2) := dk_25 5 (dk_at dksX1_run_4 0 rfl rfl)
theorem dX1_run_95 : decode cX1_run 95 = .ok (.getfield 303, 3) := dk_180 1 47 (dk_at dksX1_run_4 2 rfl rfl)
theorem dX1_run_98 : decode cX1_run 98 = .ok (.putfield 297, 3) := dk_181 1 41 (dk_at dksX1_run_4 5 rfl rfl)
theorem dX1_run_101 : decode cX1_run 101 = .ok (.aload_n 0, 1) := dk_42 (dk_at dksX1_run_4 8 rfl rfl)
theorem dX1_run_102 : decode cX1_run 102 = .ok (.aload 4, 2) := dk_25 4 (dk_at dksX1_run_4 9 rfl rfl)
theorem dX1_run_104 : decode cX1_run 104 = .ok (.getfield 306, 3) := dk_180 1 50 (dk_at dksX1_run_4 11 rfl rfl)
theorem dX1_run_107 : decode cX1_run 107 = .ok (.putfield 309, 3) := dk_181 1 53 (dk_at dksX1_run_4 14 rfl rfl)
theorem dX1_run_110 : decode cX1_run 110 = .ok (.aload_n 0, 1) := dk_42 (dk_at dksX1_run_4 17 rfl rfl)
theorem dX1_run_111 : decode cX1_run 111 = .ok (.aload_n 0, 1) := dk_42 (dk_at dksX1_run_4 18 rfl rfl)
theorem dX1_run_112 : decode cX1_run 112 = .ok (.getfield 245, 3) := dk_180 0 245 (dk_at dksX1_run_4 19 rfl rfl)
theorem dX1_run_115 : decode cX1_run 115 = .ok (.iload_n 3, 1) := dk_29 (dk_at dksX1_run_4 22 rfl rfl)
theorem dX1_run_116 : decode cX1_run 116 = .ok (.isub, 1) := dk_100 (dk_at dksX1_run_4 23 rfl rfl)
theorem dX1_run_117 : decode cX1_run 117 = .ok (.putfield 312, 3) := dk_181 1 56 (dk_at dksX1_run_5 0 rfl rfl)
theorem dX1_run_120 : decode cX1_run 120 = .ok (.aload_n 0, 1) := dk_42 (dk_at dksX1_run_5 3 rfl rfl)
theorem dX1_run_121 : decode cX1_run 121 = .ok (.aload 4, 2) := dk_25 4 (dk_at dksX1_run_5 4 rfl rfl)
theorem dX1_run_123 : decode cX1_run 123 = .ok (.getfield 315, 3) := dk_180 1 59 (dk_at dksX1_run_5 6 rfl rfl)
theorem dX1_run_126 : decode cX1_run 126 = .ok (.putfield 318, 3) := dk_181 1 62 (dk_at dksX1_run_5 9 rfl rfl)
theorem dX1_run_129 : decode cX1_run 129 = .ok (.aload_n 0, 1) := dk_42 (dk_at dksX1_run_5 12 rfl rfl)
theorem dX1_run_130 : decode cX1_run 130 = .ok (.dup, 1) := dk_89 (dk_at dksX1_run_5 13 rfl rfl)
theorem dX1_run_131 : decode cX1_run 131 = .ok (.getfield 251, 3) := dk_180 0 251 (dk_at dksX1_run_5 14 rfl rfl)
theorem dX1_run_134 : decode cX1_run 134 = .ok (.aload 4, 2) := dk_25 4 (dk_at dksX1_run_5 17 rfl rfl)
theorem dX1_run_136 : decode cX1_run 136 = .ok (.getfield 306, 3) := dk_180 1 50 (dk_at dksX1_run_5 19 rfl rfl)
theorem dX1_run_139 : decode cX1_run 139 = .ok (.iadd, 1) := dk_96 (dk_at dksX1_run_5 22 rfl rfl)
theorem dX1_run_140 : decode cX1_run 140 = .ok (.putfield 251, 3) := dk_181 0 251 (dk_at dksX1_run_6 0 rfl rfl)
theorem dX1_run_143 : decode cX1_run 143 = .ok (.aload_n 0, 1) := dk_42 (dk_at dksX1_run_6 3 rfl rfl)
theorem dX1_run_144 : decode cX1_run 144 = .ok (.getfield 297, 3) := dk_180 1 41 (dk_at dksX1_run_6 4 rfl rfl)
theorem dX1_run_147 : decode cX1_run 147 = .ok (.ireturn, 1) := dk_172 (dk_at dksX1_run_6 7 rfl rfl)
abbrev cX1_fail : ByteArray := prog_1_method_13_code
def yX1_fail : MethodName := ⟨RX1, "fail", "(I)LNativeSubset$Failure;"⟩
def dkwX1_fail_0 : List UInt8 := [42, 89, 180, 0, 95, 4, 96, 181, 0, 95, 187, 0, 98, 89, 27, 183, 0, 100, 176]
abbrev dktX1_fail_0 : List UInt8 := dkwX1_fail_0 ++ []
theorem dksX1_fail_0 : cX1_fail.data.toList.drop 0 = dktX1_fail_0 := by decide +kernel
theorem dX1_fail_0 : decode cX1_fail 0 = .ok (.aload_n 0, 1) := dk_42 (dk_at dksX1_fail_0 0 rfl rfl)
theorem dX1_fail_1 : decode cX1_fail 1 = .ok (.dup, 1) := dk_89 (dk_at dksX1_fail_0 1 rfl rfl)
theorem dX1_fail_2 : decode cX1_fail 2 = .ok (.getfield 95, 3) := dk_180 0 95 (dk_at dksX1_fail_0 2 rfl rfl)
theorem dX1_fail_5 : decode cX1_fail 5 = .ok (.iconst 1, 1) := dk_4 (dk_at dksX1_fail_0 5 rfl rfl)
theorem dX1_fail_6 : decode cX1_fail 6 = .ok (.iadd, 1) := dk_96 (dk_at dksX1_fail_0 6 rfl rfl)
theorem dX1_fail_7 : decode cX1_fail 7 = .ok (.putfield 95, 3) := dk_181 0 95 (dk_at dksX1_fail_0 7 rfl rfl)
theorem dX1_fail_10 : decode cX1_fail 10 = .ok (.new 98, 3) := dk_187 0 98 (dk_at dksX1_fail_0 10 rfl rfl)
theorem dX1_fail_13 : decode cX1_fail 13 = .ok (.dup, 1) := dk_89 (dk_at dksX1_fail_0 13 rfl rfl)
theorem dX1_fail_14 : decode cX1_fail 14 = .ok (.iload_n 1, 1) := dk_27 (dk_at dksX1_fail_0 14 rfl rfl)
theorem dX1_fail_15 : decode cX1_fail 15 = .ok (.invokespecial 100, 3) := dk_183 0 100 (dk_at dksX1_fail_0 15 rfl rfl)
theorem dX1_fail_18 : decode cX1_fail 18 = .ok (.areturn, 1) := dk_176 (dk_at dksX1_fail_0 18 rfl rfl)
abbrev cX1_cloneOf : ByteArray := prog_1_method_4_code
def yX1_cloneOf : MethodName := ⟨RX1, "cloneOf", "(Ljava/lang/Object;)Ljava/lang/Object;"⟩
def dkwX1_cloneOf_1 : List UInt8 := [176]
abbrev dktX1_cloneOf_1 : List UInt8 := dkwX1_cloneOf_1 ++ []
def dkwX1_cloneOf_0 : List UInt8 := [42, 184, 0, 25, 42, 184, 0, 35, 184, 0, 38, 76, 42, 3, 43, 3, 42, 184, 0, 35, 184, 0, 42, 43]
abbrev dktX1_cloneOf_0 : List UInt8 := dkwX1_cloneOf_0 ++ dktX1_cloneOf_1
theorem dksX1_cloneOf_0 : cX1_cloneOf.data.toList.drop 0 = dktX1_cloneOf_0 := by decide +kernel
theorem dksX1_cloneOf_1 : cX1_cloneOf.data.toList.drop 24 = dktX1_cloneOf_1 := dk_seg dksX1_cloneOf_0 24 rfl rfl
theorem dX1_cloneOf_0 : decode cX1_cloneOf 0 = .ok (.aload_n 0, 1) := dk_42 (dk_at dksX1_cloneOf_0 0 rfl rfl)
theorem dX1_cloneOf_1 : decode cX1_cloneOf 1 = .ok (.invokestatic 25, 3) := dk_184 0 25 (dk_at dksX1_cloneOf_0 1 rfl rfl)
theorem dX1_cloneOf_4 : decode cX1_cloneOf 4 = .ok (.aload_n 0, 1) := dk_42 (dk_at dksX1_cloneOf_0 4 rfl rfl)
theorem dX1_cloneOf_5 : decode cX1_cloneOf 5 = .ok (.invokestatic 35, 3) := dk_184 0 35 (dk_at dksX1_cloneOf_0 5 rfl rfl)
theorem dX1_cloneOf_8 : decode cX1_cloneOf 8 = .ok (.invokestatic 38, 3) := dk_184 0 38 (dk_at dksX1_cloneOf_0 8 rfl rfl)
theorem dX1_cloneOf_11 : decode cX1_cloneOf 11 = .ok (.astore_n 1, 1) := dk_76 (dk_at dksX1_cloneOf_0 11 rfl rfl)
theorem dX1_cloneOf_12 : decode cX1_cloneOf 12 = .ok (.aload_n 0, 1) := dk_42 (dk_at dksX1_cloneOf_0 12 rfl rfl)
theorem dX1_cloneOf_13 : decode cX1_cloneOf 13 = .ok (.iconst 0, 1) := dk_3 (dk_at dksX1_cloneOf_0 13 rfl rfl)
theorem dX1_cloneOf_14 : decode cX1_cloneOf 14 = .ok (.aload_n 1, 1) := dk_43 (dk_at dksX1_cloneOf_0 14 rfl rfl)
theorem dX1_cloneOf_15 : decode cX1_cloneOf 15 = .ok (.iconst 0, 1) := dk_3 (dk_at dksX1_cloneOf_0 15 rfl rfl)
theorem dX1_cloneOf_16 : decode cX1_cloneOf 16 = .ok (.aload_n 0, 1) := dk_42 (dk_at dksX1_cloneOf_0 16 rfl rfl)
theorem dX1_cloneOf_17 : decode cX1_cloneOf 17 = .ok (.invokestatic 35, 3) := dk_184 0 35 (dk_at dksX1_cloneOf_0 17 rfl rfl)
theorem dX1_cloneOf_20 : decode cX1_cloneOf 20 = .ok (.invokestatic 42, 3) := dk_184 0 42 (dk_at dksX1_cloneOf_0 20 rfl rfl)
theorem dX1_cloneOf_23 : decode cX1_cloneOf 23 = .ok (.aload_n 1, 1) := dk_43 (dk_at dksX1_cloneOf_0 23 rfl rfl)
theorem dX1_cloneOf_24 : decode cX1_cloneOf 24 = .ok (.areturn, 1) := dk_176 (dk_at dksX1_cloneOf_1 0 rfl rfl)
abbrev cX1_isEqual : ByteArray := prog_1_method_12_code
def yX1_isEqual : MethodName := ⟨RX1, "isEqual", "(Ljava/lang/Object;Ljava/lang/Object;I)Z"⟩
def dkwX1_isEqual_6 : List UInt8 := [132, 6, 1, 167, 255, 222, 21, 5, 172]
abbrev dktX1_isEqual_6 : List UInt8 := dkwX1_isEqual_6 ++ []
def dkwX1_isEqual_5 : List UInt8 := [190, 162, 0, 28, 45, 21, 6, 46, 25, 4, 21, 6, 46, 160, 0, 7, 4, 167, 0, 4, 3, 54, 5]
abbrev dktX1_isEqual_5 : List UInt8 := dkwX1_isEqual_5 ++ dktX1_isEqual_6
def dkwX1_isEqual_4 : List UInt8 := [25, 4, 190, 160, 0, 7, 4, 167, 0, 4, 3, 54, 5, 3, 54, 6, 21, 5, 153, 0, 35, 21, 6, 45]
abbrev dktX1_isEqual_4 : List UInt8 := dkwX1_isEqual_4 ++ dktX1_isEqual_5
def dkwX1_isEqual_3 : List UInt8 := [45, 198, 0, 8, 25, 4, 199, 0, 15, 45, 25, 4, 166, 0, 7, 4, 167, 0, 4, 3, 172, 45, 190]
abbrev dktX1_isEqual_3 : List UInt8 := dkwX1_isEqual_3 ++ dktX1_isEqual_4
def dkwX1_isEqual_2 : List UInt8 := [154, 0, 7, 4, 167, 0, 4, 3, 172, 42, 192, 0, 29, 28, 50, 78, 43, 192, 0, 29, 28, 50, 58, 4]
abbrev dktX1_isEqual_2 : List UInt8 := dkwX1_isEqual_2 ++ dktX1_isEqual_3
def dkwX1_isEqual_1 : List UInt8 := [167, 0, 4, 3, 172, 42, 193, 0, 29, 154, 0, 23, 42, 28, 184, 0, 91, 43, 28, 184, 0, 91, 148]
abbrev dktX1_isEqual_1 : List UInt8 := dkwX1_isEqual_1 ++ dktX1_isEqual_2
def dkwX1_isEqual_0 : List UInt8 := [42, 184, 0, 83, 153, 0, 23, 42, 28, 184, 0, 87, 43, 28, 184, 0, 87, 151, 154, 0, 7, 4]
abbrev dktX1_isEqual_0 : List UInt8 := dkwX1_isEqual_0 ++ dktX1_isEqual_1
theorem dksX1_isEqual_0 : cX1_isEqual.data.toList.drop 0 = dktX1_isEqual_0 := by decide +kernel
theorem dksX1_isEqual_1 : cX1_isEqual.data.toList.drop 22 = dktX1_isEqual_1 := dk_seg dksX1_isEqual_0 22 rfl rfl
theorem dksX1_isEqual_2 : cX1_isEqual.data.toList.drop 45 = dktX1_isEqual_2 := dk_seg dksX1_isEqual_1 23 rfl rfl
theorem dksX1_isEqual_3 : cX1_isEqual.data.toList.drop 69 = dktX1_isEqual_3 := dk_seg dksX1_isEqual_2 24 rfl rfl
theorem dksX1_isEqual_4 : cX1_isEqual.data.toList.drop 92 = dktX1_isEqual_4 := dk_seg dksX1_isEqual_3 23 rfl rfl
theorem dksX1_isEqual_5 : cX1_isEqual.data.toList.drop 116 = dktX1_isEqual_5 := dk_seg dksX1_isEqual_4 24 rfl rfl
theorem dksX1_isEqual_6 : cX1_isEqual.data.toList.drop 139 = dktX1_isEqual_6 := dk_seg dksX1_isEqual_5 23 rfl rfl
theorem dX1_isEqual_0 : decode cX1_isEqual 0 = .ok (.aload_n 0, 1) := dk_42 (dk_at dksX1_isEqual_0 0 rfl rfl)
theorem dX1_isEqual_1 : decode cX1_isEqual 1 = .ok (.invokestatic 83, 3) := dk_184 0 83 (dk_at dksX1_isEqual_0 1 rfl rfl)
theorem dX1_isEqual_4 : decode cX1_isEqual 4 = .ok (.ifCond .eq 23, 3) := dk_153 0 23 (dk_at dksX1_isEqual_0 4 rfl rfl)
theorem dX1_isEqual_7 : decode cX1_isEqual 7 = .ok (.aload_n 0, 1) := dk_42 (dk_at dksX1_isEqual_0 7 rfl rfl)
theorem dX1_isEqual_8 : decode cX1_isEqual 8 = .ok (.iload_n 2, 1) := dk_28 (dk_at dksX1_isEqual_0 8 rfl rfl)
theorem dX1_isEqual_9 : decode cX1_isEqual 9 = .ok (.invokestatic 87, 3) := dk_184 0 87 (dk_at dksX1_isEqual_0 9 rfl rfl)
theorem dX1_isEqual_12 : decode cX1_isEqual 12 = .ok (.aload_n 1, 1) := dk_43 (dk_at dksX1_isEqual_0 12 rfl rfl)
theorem dX1_isEqual_13 : decode cX1_isEqual 13 = .ok (.iload_n 2, 1) := dk_28 (dk_at dksX1_isEqual_0 13 rfl rfl)
theorem dX1_isEqual_14 : decode cX1_isEqual 14 = .ok (.invokestatic 87, 3) := dk_184 0 87 (dk_at dksX1_isEqual_0 14 rfl rfl)
theorem dX1_isEqual_17 : decode cX1_isEqual 17 = .ok (.dcmp .l, 1) := dk_151 (dk_at dksX1_isEqual_0 17 rfl rfl)
theorem dX1_isEqual_18 : decode cX1_isEqual 18 = .ok (.ifCond .ne 7, 3) := dk_154 0 7 (dk_at dksX1_isEqual_0 18 rfl rfl)
theorem dX1_isEqual_21 : decode cX1_isEqual 21 = .ok (.iconst 1, 1) := dk_4 (dk_at dksX1_isEqual_0 21 rfl rfl)
theorem dX1_isEqual_22 : decode cX1_isEqual 22 = .ok (.goto 4, 3) := dk_167 0 4 (dk_at dksX1_isEqual_1 0 rfl rfl)
theorem dX1_isEqual_25 : decode cX1_isEqual 25 = .ok (.iconst 0, 1) := dk_3 (dk_at dksX1_isEqual_1 3 rfl rfl)
theorem dX1_isEqual_26 : decode cX1_isEqual 26 = .ok (.ireturn, 1) := dk_172 (dk_at dksX1_isEqual_1 4 rfl rfl)
theorem dX1_isEqual_27 : decode cX1_isEqual 27 = .ok (.aload_n 0, 1) := dk_42 (dk_at dksX1_isEqual_1 5 rfl rfl)
theorem dX1_isEqual_28 : decode cX1_isEqual 28 = .ok (.instanceof 29, 3) := dk_193 0 29 (dk_at dksX1_isEqual_1 6 rfl rfl)
theorem dX1_isEqual_31 : decode cX1_isEqual 31 = .ok (.ifCond .ne 23, 3) := dk_154 0 23 (dk_at dksX1_isEqual_1 9 rfl rfl)
theorem dX1_isEqual_34 : decode cX1_isEqual 34 = .ok (.aload_n 0, 1) := dk_42 (dk_at dksX1_isEqual_1 12 rfl rfl)
theorem dX1_isEqual_35 : decode cX1_isEqual 35 = .ok (.iload_n 2, 1) := dk_28 (dk_at dksX1_isEqual_1 13 rfl rfl)
theorem dX1_isEqual_36 : decode cX1_isEqual 36 = .ok (.invokestatic 91, 3) := dk_184 0 91 (dk_at dksX1_isEqual_1 14 rfl rfl)
theorem dX1_isEqual_39 : decode cX1_isEqual 39 = .ok (.aload_n 1, 1) := dk_43 (dk_at dksX1_isEqual_1 17 rfl rfl)
theorem dX1_isEqual_40 : decode cX1_isEqual 40 = .ok (.iload_n 2, 1) := dk_28 (dk_at dksX1_isEqual_1 18 rfl rfl)
theorem dX1_isEqual_41 : decode cX1_isEqual 41 = .ok (.invokestatic 91, 3) := dk_184 0 91 (dk_at dksX1_isEqual_1 19 rfl rfl)
theorem dX1_isEqual_44 : decode cX1_isEqual 44 = .ok (.lcmp, 1) := dk_148 (dk_at dksX1_isEqual_1 22 rfl rfl)
theorem dX1_isEqual_45 : decode cX1_isEqual 45 = .ok (.ifCond .ne 7, 3) := dk_154 0 7 (dk_at dksX1_isEqual_2 0 rfl rfl)
theorem dX1_isEqual_48 : decode cX1_isEqual 48 = .ok (.iconst 1, 1) := dk_4 (dk_at dksX1_isEqual_2 3 rfl rfl)
theorem dX1_isEqual_49 : decode cX1_isEqual 49 = .ok (.goto 4, 3) := dk_167 0 4 (dk_at dksX1_isEqual_2 4 rfl rfl)
theorem dX1_isEqual_52 : decode cX1_isEqual 52 = .ok (.iconst 0, 1) := dk_3 (dk_at dksX1_isEqual_2 7 rfl rfl)
theorem dX1_isEqual_53 : decode cX1_isEqual 53 = .ok (.ireturn, 1) := dk_172 (dk_at dksX1_isEqual_2 8 rfl rfl)
theorem dX1_isEqual_54 : decode cX1_isEqual 54 = .ok (.aload_n 0, 1) := dk_42 (dk_at dksX1_isEqual_2 9 rfl rfl)
theorem dX1_isEqual_55 : decode cX1_isEqual 55 = .ok (.checkcast 29, 3) := dk_192 0 29 (dk_at dksX1_isEqual_2 10 rfl rfl)
theorem dX1_isEqual_58 : decode cX1_isEqual 58 = .ok (.iload_n 2, 1) := dk_28 (dk_at dksX1_isEqual_2 13 rfl rfl)
theorem dX1_isEqual_59 : decode cX1_isEqual 59 = .ok (.aaload, 1) := dk_50 (dk_at dksX1_isEqual_2 14 rfl rfl)
theorem dX1_isEqual_60 : decode cX1_isEqual 60 = .ok (.astore_n 3, 1) := dk_78 (dk_at dksX1_isEqual_2 15 rfl rfl)
theorem dX1_isEqual_61 : decode cX1_isEqual 61 = .ok (.aload_n 1, 1) := dk_43 (dk_at dksX1_isEqual_2 16 rfl rfl)
theorem dX1_isEqual_62 : decode cX1_isEqual 62 = .ok (.checkcast 29, 3) := dk_192 0 29 (dk_at dksX1_isEqual_2 17 rfl rfl)
theorem dX1_isEqual_65 : decode cX1_isEqual 65 = .ok (.iload_n 2, 1) := dk_28 (dk_at dksX1_isEqual_2 20 rfl rfl)
theorem dX1_isEqual_66 : decode cX1_isEqual 66 = .ok (.aaload, 1) := dk_50 (dk_at dksX1_isEqual_2 21 rfl rfl)
theorem dX1_isEqual_67 : decode cX1_isEqual 67 = .ok (.astore 4, 2) := dk_58 4 (dk_at dksX1_isEqual_2 22 rfl rfl)
theorem dX1_isEqual_69 : decode cX1_isEqual 69 = .ok (.aload_n 3, 1) := dk_45 (dk_at dksX1_isEqual_3 0 rfl rfl)
theorem dX1_isEqual_70 : decode cX1_isEqual 70 = .ok (.ifnull 8, 3) := dk_198 0 8 (dk_at dksX1_isEqual_3 1 rfl rfl)
theorem dX1_isEqual_73 : decode cX1_isEqual 73 = .ok (.aload 4, 2) := dk_25 4 (dk_at dksX1_isEqual_3 4 rfl rfl)
theorem dX1_isEqual_75 : decode cX1_isEqual 75 = .ok (.ifnonnull 15, 3) := dk_199 0 15 (dk_at dksX1_isEqual_3 6 rfl rfl)
theorem dX1_isEqual_78 : decode cX1_isEqual 78 = .ok (.aload_n 3, 1) := dk_45 (dk_at dksX1_isEqual_3 9 rfl rfl)
theorem dX1_isEqual_79 : decode cX1_isEqual 79 = .ok (.aload 4, 2) := dk_25 4 (dk_at dksX1_isEqual_3 10 rfl rfl)
theorem dX1_isEqual_81 : decode cX1_isEqual 81 = .ok (.if_acmp .ne 7, 3) := dk_166 0 7 (dk_at dksX1_isEqual_3 12 rfl rfl)
theorem dX1_isEqual_84 : decode cX1_isEqual 84 = .ok (.iconst 1, 1) := dk_4 (dk_at dksX1_isEqual_3 15 rfl rfl)
theorem dX1_isEqual_85 : decode cX1_isEqual 85 = .ok (.goto 4, 3) := dk_167 0 4 (dk_at dksX1_isEqual_3 16 rfl rfl)
theorem dX1_isEqual_88 : decode cX1_isEqual 88 = .ok (.iconst 0, 1) := dk_3 (dk_at dksX1_isEqual_3 19 rfl rfl)
theorem dX1_isEqual_89 : decode cX1_isEqual 89 = .ok (.ireturn, 1) := dk_172 (dk_at dksX1_isEqual_3 20 rfl rfl)
theorem dX1_isEqual_90 : decode cX1_isEqual 90 = .ok (.aload_n 3, 1) := dk_45 (dk_at dksX1_isEqual_3 21 rfl rfl)
theorem dX1_isEqual_91 : decode cX1_isEqual 91 = .ok (.arraylength, 1) := dk_190 (dk_at dksX1_isEqual_3 22 rfl rfl)
theorem dX1_isEqual_92 : decode cX1_isEqual 92 = .ok (.aload 4, 2) := dk_25 4 (dk_at dksX1_isEqual_4 0 rfl rfl)
theorem dX1_isEqual_94 : decode cX1_isEqual 94 = .ok (.arraylength, 1) := dk_190 (dk_at dksX1_isEqual_4 2 rfl rfl)
theorem dX1_isEqual_95 : decode cX1_isEqual 95 = .ok (.if_icmp .ne 7, 3) := dk_160 0 7 (dk_at dksX1_isEqual_4 3 rfl rfl)
theorem dX1_isEqual_98 : decode cX1_isEqual 98 = .ok (.iconst 1, 1) := dk_4 (dk_at dksX1_isEqual_4 6 rfl rfl)
theorem dX1_isEqual_99 : decode cX1_isEqual 99 = .ok (.goto 4, 3) := dk_167 0 4 (dk_at dksX1_isEqual_4 7 rfl rfl)
theorem dX1_isEqual_102 : decode cX1_isEqual 102 = .ok (.iconst 0, 1) := dk_3 (dk_at dksX1_isEqual_4 10 rfl rfl)
theorem dX1_isEqual_103 : decode cX1_isEqual 103 = .ok (.istore 5, 2) := dk_54 5 (dk_at dksX1_isEqual_4 11 rfl rfl)
theorem dX1_isEqual_105 : decode cX1_isEqual 105 = .ok (.iconst 0, 1) := dk_3 (dk_at dksX1_isEqual_4 13 rfl rfl)
theorem dX1_isEqual_106 : decode cX1_isEqual 106 = .ok (.istore 6, 2) := dk_54 6 (dk_at dksX1_isEqual_4 14 rfl rfl)
theorem dX1_isEqual_108 : decode cX1_isEqual 108 = .ok (.iload 5, 2) := dk_21 5 (dk_at dksX1_isEqual_4 16 rfl rfl)
theorem dX1_isEqual_110 : decode cX1_isEqual 110 = .ok (.ifCond .eq 35, 3) := dk_153 0 35 (dk_at dksX1_isEqual_4 18 rfl rfl)
theorem dX1_isEqual_113 : decode cX1_isEqual 113 = .ok (.iload 6, 2) := dk_21 6 (dk_at dksX1_isEqual_4 21 rfl rfl)
theorem dX1_isEqual_115 : decode cX1_isEqual 115 = .ok (.aload_n 3, 1) := dk_45 (dk_at dksX1_isEqual_4 23 rfl rfl)
theorem dX1_isEqual_116 : decode cX1_isEqual 116 = .ok (.arraylength, 1) := dk_190 (dk_at dksX1_isEqual_5 0 rfl rfl)
theorem dX1_isEqual_117 : decode cX1_isEqual 117 = .ok (.if_icmp .ge 28, 3) := dk_162 0 28 (dk_at dksX1_isEqual_5 1 rfl rfl)
theorem dX1_isEqual_120 : decode cX1_isEqual 120 = .ok (.aload_n 3, 1) := dk_45 (dk_at dksX1_isEqual_5 4 rfl rfl)
theorem dX1_isEqual_121 : decode cX1_isEqual 121 = .ok (.iload 6, 2) := dk_21 6 (dk_at dksX1_isEqual_5 5 rfl rfl)
theorem dX1_isEqual_123 : decode cX1_isEqual 123 = .ok (.iaload, 1) := dk_46 (dk_at dksX1_isEqual_5 7 rfl rfl)
theorem dX1_isEqual_124 : decode cX1_isEqual 124 = .ok (.aload 4, 2) := dk_25 4 (dk_at dksX1_isEqual_5 8 rfl rfl)
theorem dX1_isEqual_126 : decode cX1_isEqual 126 = .ok (.iload 6, 2) := dk_21 6 (dk_at dksX1_isEqual_5 10 rfl rfl)
theorem dX1_isEqual_128 : decode cX1_isEqual 128 = .ok (.iaload, 1) := dk_46 (dk_at dksX1_isEqual_5 12 rfl rfl)
theorem dX1_isEqual_129 : decode cX1_isEqual 129 = .ok (.if_icmp .ne 7, 3) := dk_160 0 7 (dk_at dksX1_isEqual_5 13 rfl rfl)
theorem dX1_isEqual_132 : decode cX1_isEqual 132 = .ok (.iconst 1, 1) := dk_4 (dk_at dksX1_isEqual_5 16 rfl rfl)
theorem dX1_isEqual_133 : decode cX1_isEqual 133 = .ok (.goto 4, 3) := dk_167 0 4 (dk_at dksX1_isEqual_5 17 rfl rfl)
theorem dX1_isEqual_136 : decode cX1_isEqual 136 = .ok (.iconst 0, 1) := dk_3 (dk_at dksX1_isEqual_5 20 rfl rfl)
theorem dX1_isEqual_137 : decode cX1_isEqual 137 = .ok (.istore 5, 2) := dk_54 5 (dk_at dksX1_isEqual_5 21 rfl rfl)
theorem dX1_isEqual_139 : decode cX1_isEqual 139 = .ok (.iinc 6 1, 3) := dk_132 6 1 (dk_at dksX1_isEqual_6 0 rfl rfl)
theorem dX1_isEqual_142 : decode cX1_isEqual 142 = .ok (.goto (-34), 3) := dk_167 255 222 (dk_at dksX1_isEqual_6 3 rfl rfl)
theorem dX1_isEqual_145 : decode cX1_isEqual 145 = .ok (.iload 5, 2) := dk_21 5 (dk_at dksX1_isEqual_6 6 rfl rfl)
theorem dX1_isEqual_147 : decode cX1_isEqual 147 = .ok (.ireturn, 1) := dk_172 (dk_at dksX1_isEqual_6 8 rfl rfl)
abbrev cX1_isReal : ByteArray := prog_1_method_10_code
def yX1_isReal : MethodName := ⟨RX1, "isReal", "(Ljava/lang/Object;)Z"⟩
def dkwX1_isReal_0 : List UInt8 := [42, 193, 0, 21, 154, 0, 10, 42, 193, 0, 23, 153, 0, 7, 4, 167, 0, 4, 3, 172]
abbrev dktX1_isReal_0 : List UInt8 := dkwX1_isReal_0 ++ []
theorem dksX1_isReal_0 : cX1_isReal.data.toList.drop 0 = dktX1_isReal_0 := by decide +kernel
theorem dX1_isReal_0 : decode cX1_isReal 0 = .ok (.aload_n 0, 1) := dk_42 (dk_at dksX1_isReal_0 0 rfl rfl)
theorem dX1_isReal_1 : decode cX1_isReal 1 = .ok (.instanceof 21, 3) := dk_193 0 21 (dk_at dksX1_isReal_0 1 rfl rfl)
theorem dX1_isReal_4 : decode cX1_isReal 4 = .ok (.ifCond .ne 10, 3) := dk_154 0 10 (dk_at dksX1_isReal_0 4 rfl rfl)
theorem dX1_isReal_7 : decode cX1_isReal 7 = .ok (.aload_n 0, 1) := dk_42 (dk_at dksX1_isReal_0 7 rfl rfl)
theorem dX1_isReal_8 : decode cX1_isReal 8 = .ok (.instanceof 23, 3) := dk_193 0 23 (dk_at dksX1_isReal_0 8 rfl rfl)
theorem dX1_isReal_11 : decode cX1_isReal 11 = .ok (.ifCond .eq 7, 3) := dk_153 0 7 (dk_at dksX1_isReal_0 11 rfl rfl)
theorem dX1_isReal_14 : decode cX1_isReal 14 = .ok (.iconst 1, 1) := dk_4 (dk_at dksX1_isReal_0 14 rfl rfl)
theorem dX1_isReal_15 : decode cX1_isReal 15 = .ok (.goto 4, 3) := dk_167 0 4 (dk_at dksX1_isReal_0 15 rfl rfl)
theorem dX1_isReal_18 : decode cX1_isReal 18 = .ok (.iconst 0, 1) := dk_3 (dk_at dksX1_isReal_0 18 rfl rfl)
theorem dX1_isReal_19 : decode cX1_isReal 19 = .ok (.ireturn, 1) := dk_172 (dk_at dksX1_isReal_0 19 rfl rfl)
abbrev cX1_real : ByteArray := prog_1_method_8_code
def yX1_real : MethodName := ⟨RX1, "real", "(Ljava/lang/Object;I)D"⟩
def dkwX1_real_1 : List UInt8 := [167, 0, 5, 36, 141, 175, 42, 192, 0, 23, 27, 49, 175]
abbrev dktX1_real_1 : List UInt8 := dkwX1_real_1 ++ []
def dkwX1_real_0 : List UInt8 := [42, 193, 0, 21, 153, 0, 25, 42, 192, 0, 21, 27, 48, 69, 36, 36, 149, 153, 0, 9, 20, 0, 77]
abbrev dktX1_real_0 : List UInt8 := dkwX1_real_0 ++ dktX1_real_1
theorem dksX1_real_0 : cX1_real.data.toList.drop 0 = dktX1_real_0 := by decide +kernel
theorem dksX1_real_1 : cX1_real.data.toList.drop 23 = dktX1_real_1 := dk_seg dksX1_real_0 23 rfl rfl
theorem dX1_real_0 : decode cX1_real 0 = .ok (.aload_n 0, 1) := dk_42 (dk_at dksX1_real_0 0 rfl rfl)
theorem dX1_real_1 : decode cX1_real 1 = .ok (.instanceof 21, 3) := dk_193 0 21 (dk_at dksX1_real_0 1 rfl rfl)
theorem dX1_real_4 : decode cX1_real 4 = .ok (.ifCond .eq 25, 3) := dk_153 0 25 (dk_at dksX1_real_0 4 rfl rfl)
theorem dX1_real_7 : decode cX1_real 7 = .ok (.aload_n 0, 1) := dk_42 (dk_at dksX1_real_0 7 rfl rfl)
theorem dX1_real_8 : decode cX1_real 8 = .ok (.checkcast 21, 3) := dk_192 0 21 (dk_at dksX1_real_0 8 rfl rfl)
theorem dX1_real_11 : decode cX1_real 11 = .ok (.iload_n 1, 1) := dk_27 (dk_at dksX1_real_0 11 rfl rfl)
theorem dX1_real_12 : decode cX1_real 12 = .ok (.faload, 1) := dk_48 (dk_at dksX1_real_0 12 rfl rfl)
theorem dX1_real_13 : decode cX1_real 13 = .ok (.fstore_n 2, 1) := dk_69 (dk_at dksX1_real_0 13 rfl rfl)
theorem dX1_real_14 : decode cX1_real 14 = .ok (.fload_n 2, 1) := dk_36 (dk_at dksX1_real_0 14 rfl rfl)
theorem dX1_real_15 : decode cX1_real 15 = .ok (.fload_n 2, 1) := dk_36 (dk_at dksX1_real_0 15 rfl rfl)
theorem dX1_real_16 : decode cX1_real 16 = .ok (.fcmp .l, 1) := dk_149 (dk_at dksX1_real_0 16 rfl rfl)
theorem dX1_real_17 : decode cX1_real 17 = .ok (.ifCond .eq 9, 3) := dk_153 0 9 (dk_at dksX1_real_0 17 rfl rfl)
theorem dX1_real_20 : decode cX1_real 20 = .ok (.ldc2_w 77, 3) := dk_20 0 77 (dk_at dksX1_real_0 20 rfl rfl)
theorem dX1_real_23 : decode cX1_real 23 = .ok (.goto 5, 3) := dk_167 0 5 (dk_at dksX1_real_1 0 rfl rfl)
theorem dX1_real_26 : decode cX1_real 26 = .ok (.fload_n 2, 1) := dk_36 (dk_at dksX1_real_1 3 rfl rfl)
theorem dX1_real_27 : decode cX1_real 27 = .ok (.f2d, 1) := dk_141 (dk_at dksX1_real_1 4 rfl rfl)
theorem dX1_real_28 : decode cX1_real 28 = .ok (.dreturn, 1) := dk_175 (dk_at dksX1_real_1 5 rfl rfl)
theorem dX1_real_29 : decode cX1_real 29 = .ok (.aload_n 0, 1) := dk_42 (dk_at dksX1_real_1 6 rfl rfl)
theorem dX1_real_30 : decode cX1_real 30 = .ok (.checkcast 23, 3) := dk_192 0 23 (dk_at dksX1_real_1 7 rfl rfl)
theorem dX1_real_33 : decode cX1_real 33 = .ok (.iload_n 1, 1) := dk_27 (dk_at dksX1_real_1 10 rfl rfl)
theorem dX1_real_34 : decode cX1_real 34 = .ok (.daload, 1) := dk_49 (dk_at dksX1_real_1 11 rfl rfl)
theorem dX1_real_35 : decode cX1_real 35 = .ok (.dreturn, 1) := dk_175 (dk_at dksX1_real_1 12 rfl rfl)
abbrev cX1_get : ByteArray := prog_1_method_6_code
def yX1_get : MethodName := ⟨RX1, "get", "(Ljava/lang/Object;I)J"⟩
def dkwX1_get_6 : List UInt8 := [173, 42, 192, 0, 3, 27, 50, 78, 45, 199, 0, 9, 20, 0, 63, 167, 0, 8, 45, 180, 0, 65, 133, 173]
abbrev dktX1_get_6 : List UInt8 := dkwX1_get_6 ++ []
def dkwX1_get_5 : List UInt8 := [184, 0, 60, 173, 42, 192, 0, 29, 27, 50, 77, 44, 199, 0, 9, 20, 0, 63, 167, 0, 6, 44, 190, 133]
abbrev dktX1_get_5 : List UInt8 := dkwX1_get_5 ++ dktX1_get_6
def dkwX1_get_4 : List UInt8 := [192, 0, 19, 27, 47, 173, 42, 192, 0, 21, 27, 48, 184, 0, 54, 133, 173, 42, 192, 0, 23, 27, 49]
abbrev dktX1_get_4 : List UInt8 := dkwX1_get_4 ++ dktX1_get_5
def dkwX1_get_3 : List UInt8 := [192, 0, 13, 27, 52, 133, 173, 42, 192, 0, 15, 27, 53, 133, 173, 42, 192, 0, 17, 27, 46, 133, 173, 42]
abbrev dktX1_get_3 : List UInt8 := dkwX1_get_3 ++ dktX1_get_4
def dkwX1_get_2 : List UInt8 := [42, 192, 0, 9, 27, 51, 153, 0, 7, 10, 167, 0, 4, 9, 173, 42, 192, 0, 11, 27, 51, 133, 173, 42]
abbrev dktX1_get_2 : List UInt8 := dkwX1_get_2 ++ dktX1_get_3
def dkwX1_get_1 : List UInt8 := [170, 0, 0, 0, 0, 0, 0, 156, 0, 0, 0, 0, 0, 0, 0, 10, 0, 0, 0, 60, 0, 0, 0, 75, 0, 0, 0, 83, 0, 0, 0, 91, 0, 0, 0, 99, 0, 0, 0, 107, 0, 0, 0, 114, 0, 0, 0, 125, 0, 0, 0, 156, 0, 0, 0, 156, 0, 0, 0, 135]
abbrev dktX1_get_1 : List UInt8 := dkwX1_get_1 ++ dktX1_get_2
def dkwX1_get_0 : List UInt8 := [42, 184, 0, 25]
abbrev dktX1_get_0 : List UInt8 := dkwX1_get_0 ++ dktX1_get_1
theorem dksX1_get_0 : cX1_get.data.toList.drop 0 = dktX1_get_0 := by decide +kernel
theorem dksX1_get_1 : cX1_get.data.toList.drop 4 = dktX1_get_1 := dk_seg dksX1_get_0 4 rfl rfl
theorem dksX1_get_2 : cX1_get.data.toList.drop 64 = dktX1_get_2 := dk_seg dksX1_get_1 60 rfl rfl
theorem dksX1_get_3 : cX1_get.data.toList.drop 88 = dktX1_get_3 := dk_seg dksX1_get_2 24 rfl rfl
theorem dksX1_get_4 : cX1_get.data.toList.drop 112 = dktX1_get_4 := dk_seg dksX1_get_3 24 rfl rfl
theorem dksX1_get_5 : cX1_get.data.toList.drop 135 = dktX1_get_5 := dk_seg dksX1_get_4 23 rfl rfl
theorem dksX1_get_6 : cX1_get.data.toList.drop 159 = dktX1_get_6 := dk_seg dksX1_get_5 24 rfl rfl
theorem dX1_get_0 : decode cX1_get 0 = .ok (.aload_n 0, 1) := dk_42 (dk_at dksX1_get_0 0 rfl rfl)
theorem dX1_get_1 : decode cX1_get 1 = .ok (.invokestatic 25, 3) := dk_184 0 25 (dk_at dksX1_get_0 1 rfl rfl)
theorem dX1_get_4 : decode cX1_get 4 = .ok (.tableswitch 156 0 10 #[60, 75, 83, 91, 99, 107, 114, 125, 156, 156, 135], 60) := by decide +kernel
theorem dX1_get_64 : decode cX1_get 64 = .ok (.aload_n 0, 1) := dk_42 (dk_at dksX1_get_2 0 rfl rfl)
theorem dX1_get_65 : decode cX1_get 65 = .ok (.checkcast 9, 3) := dk_192 0 9 (dk_at dksX1_get_2 1 rfl rfl)
theorem dX1_get_68 : decode cX1_get 68 = .ok (.iload_n 1, 1) := dk_27 (dk_at dksX1_get_2 4 rfl rfl)
theorem dX1_get_69 : decode cX1_get 69 = .ok (.baload, 1) := dk_51 (dk_at dksX1_get_2 5 rfl rfl)
theorem dX1_get_70 : decode cX1_get 70 = .ok (.ifCond .eq 7, 3) := dk_153 0 7 (dk_at dksX1_get_2 6 rfl rfl)
theorem dX1_get_73 : decode cX1_get 73 = .ok (.lconst 1, 1) := dk_10 (dk_at dksX1_get_2 9 rfl rfl)
theorem dX1_get_74 : decode cX1_get 74 = .ok (.goto 4, 3) := dk_167 0 4 (dk_at dksX1_get_2 10 rfl rfl)
theorem dX1_get_77 : decode cX1_get 77 = .ok (.lconst 0, 1) := dk_9 (dk_at dksX1_get_2 13 rfl rfl)
theorem dX1_get_78 : decode cX1_get 78 = .ok (.lreturn, 1) := dk_173 (dk_at dksX1_get_2 14 rfl rfl)
theorem dX1_get_79 : decode cX1_get 79 = .ok (.aload_n 0, 1) := dk_42 (dk_at dksX1_get_2 15 rfl rfl)
theorem dX1_get_80 : decode cX1_get 80 = .ok (.checkcast 11, 3) := dk_192 0 11 (dk_at dksX1_get_2 16 rfl rfl)
theorem dX1_get_83 : decode cX1_get 83 = .ok (.iload_n 1, 1) := dk_27 (dk_at dksX1_get_2 19 rfl rfl)
theorem dX1_get_84 : decode cX1_get 84 = .ok (.baload, 1) := dk_51 (dk_at dksX1_get_2 20 rfl rfl)
theorem dX1_get_85 : decode cX1_get 85 = .ok (.i2l, 1) := dk_133 (dk_at dksX1_get_2 21 rfl rfl)
theorem dX1_get_86 : decode cX1_get 86 = .ok (.lreturn, 1) := dk_173 (dk_at dksX1_get_2 22 rfl rfl)
theorem dX1_get_87 : decode cX1_get 87 = .ok (.aload_n 0, 1) := dk_42 (dk_at dksX1_get_2 23 rfl rfl)
theorem dX1_get_88 : decode cX1_get 88 = .ok (.checkcast 13, 3) := dk_192 0 13 (dk_at dksX1_get_3 0 rfl rfl)
theorem dX1_get_91 : decode cX1_get 91 = .ok (.iload_n 1, 1) := dk_27 (dk_at dksX1_get_3 3 rfl rfl)
theorem dX1_get_92 : decode cX1_get 92 = .ok (.caload, 1) := dk_52 (dk_at dksX1_get_3 4 rfl rfl)
theorem dX1_get_93 : decode cX1_get 93 = .ok (.i2l, 1) := dk_133 (dk_at dksX1_get_3 5 rfl rfl)
theorem dX1_get_94 : decode cX1_get 94 = .ok (.lreturn, 1) := dk_173 (dk_at dksX1_get_3 6 rfl rfl)
theorem dX1_get_95 : decode cX1_get 95 = .ok (.aload_n 0, 1) := dk_42 (dk_at dksX1_get_3 7 rfl rfl)
theorem dX1_get_96 : decode cX1_get 96 = .ok (.checkcast 15, 3) := dk_192 0 15 (dk_at dksX1_get_3 8 rfl rfl)
theorem dX1_get_99 : decode cX1_get 99 = .ok (.iload_n 1, 1) := dk_27 (dk_at dksX1_get_3 11 rfl rfl)
theorem dX1_get_100 : decode cX1_get 100 = .ok (.saload, 1) := dk_53 (dk_at dksX1_get_3 12 rfl rfl)
theorem dX1_get_101 : decode cX1_get 101 = .ok (.i2l, 1) := dk_133 (dk_at dksX1_get_3 13 rfl rfl)
theorem dX1_get_102 : decode cX1_get 102 = .ok (.lreturn, 1) := dk_173 (dk_at dksX1_get_3 14 rfl rfl)
theorem dX1_get_103 : decode cX1_get 103 = .ok (.aload_n 0, 1) := dk_42 (dk_at dksX1_get_3 15 rfl rfl)
theorem dX1_get_104 : decode cX1_get 104 = .ok (.checkcast 17, 3) := dk_192 0 17 (dk_at dksX1_get_3 16 rfl rfl)
theorem dX1_get_107 : decode cX1_get 107 = .ok (.iload_n 1, 1) := dk_27 (dk_at dksX1_get_3 19 rfl rfl)
theorem dX1_get_108 : decode cX1_get 108 = .ok (.iaload, 1) := dk_46 (dk_at dksX1_get_3 20 rfl rfl)
theorem dX1_get_109 : decode cX1_get 109 = .ok (.i2l, 1) := dk_133 (dk_at dksX1_get_3 21 rfl rfl)
theorem dX1_get_110 : decode cX1_get 110 = .ok (.lreturn, 1) := dk_173 (dk_at dksX1_get_3 22 rfl rfl)
theorem dX1_get_111 : decode cX1_get 111 = .ok (.aload_n 0, 1) := dk_42 (dk_at dksX1_get_3 23 rfl rfl)
theorem dX1_get_112 : decode cX1_get 112 = .ok (.checkcast 19, 3) := dk_192 0 19 (dk_at dksX1_get_4 0 rfl rfl)
theorem dX1_get_115 : decode cX1_get 115 = .ok (.iload_n 1, 1) := dk_27 (dk_at dksX1_get_4 3 rfl rfl)
theorem dX1_get_116 : decode cX1_get 116 = .ok (.laload, 1) := dk_47 (dk_at dksX1_get_4 4 rfl rfl)
theorem dX1_get_117 : decode cX1_get 117 = .ok (.lreturn, 1) := dk_173 (dk_at dksX1_get_4 5 rfl rfl)
theorem dX1_get_118 : decode cX1_get 118 = .ok (.aload_n 0, 1) := dk_42 (dk_at dksX1_get_4 6 rfl rfl)
theorem dX1_get_119 : decode cX1_get 119 = .ok (.checkcast 21, 3) := dk_192 0 21 (dk_at dksX1_get_4 7 rfl rfl)
theorem dX1_get_122 : decode cX1_get 122 = .ok (.iload_n 1, 1) := dk_27 (dk_at dksX1_get_4 10 rfl rfl)
theorem dX1_get_123 : decode cX1_get 123 = .ok (.faload, 1) := dk_48 (dk_at dksX1_get_4 11 rfl rfl)
theorem dX1_get_124 : decode cX1_get 124 = .ok (.invokestatic 54, 3) := dk_184 0 54 (dk_at dksX1_get_4 12 rfl rfl)
theorem dX1_get_127 : decode cX1_get 127 = .ok (.i2l, 1) := dk_133 (dk_at dksX1_get_4 15 rfl rfl)
theorem dX1_get_128 : decode cX1_get 128 = .ok (.lreturn, 1) := dk_173 (dk_at dksX1_get_4 16 rfl rfl)
theorem dX1_get_129 : decode cX1_get 129 = .ok (.aload_n 0, 1) := dk_42 (dk_at dksX1_get_4 17 rfl rfl)
theorem dX1_get_130 : decode cX1_get 130 = .ok (.checkcast 23, 3) := dk_192 0 23 (dk_at dksX1_get_4 18 rfl rfl)
theorem dX1_get_133 : decode cX1_get 133 = .ok (.iload_n 1, 1) := dk_27 (dk_at dksX1_get_4 21 rfl rfl)
theorem dX1_get_134 : decode cX1_get 134 = .ok (.daload, 1) := dk_49 (dk_at dksX1_get_4 22 rfl rfl)
theorem dX1_get_135 : decode cX1_get 135 = .ok (.invokestatic 60, 3) := dk_184 0 60 (dk_at dksX1_get_5 0 rfl rfl)
theorem dX1_get_138 : decode cX1_get 138 = .ok (.lreturn, 1) := dk_173 (dk_at dksX1_get_5 3 rfl rfl)
theorem dX1_get_139 : decode cX1_get 139 = .ok (.aload_n 0, 1) := dk_42 (dk_at dksX1_get_5 4 rfl rfl)
theorem dX1_get_140 : decode cX1_get 140 = .ok (.checkcast 29, 3) := dk_192 0 29 (dk_at dksX1_get_5 5 rfl rfl)
theorem dX1_get_143 : decode cX1_get 143 = .ok (.iload_n 1, 1) := dk_27 (dk_at dksX1_get_5 8 rfl rfl)
theorem dX1_get_144 : decode cX1_get 144 = .ok (.aaload, 1) := dk_50 (dk_at dksX1_get_5 9 rfl rfl)
theorem dX1_get_145 : decode cX1_get 145 = .ok (.astore_n 2, 1) := dk_77 (dk_at dksX1_get_5 10 rfl rfl)
theorem dX1_get_146 : decode cX1_get 146 = .ok (.aload_n 2, 1) := dk_44 (dk_at dksX1_get_5 11 rfl rfl)
theorem dX1_get_147 : decode cX1_get 147 = .ok (.ifnonnull 9, 3) := dk_199 0 9 (dk_at dksX1_get_5 12 rfl rfl)
theorem dX1_get_150 : decode cX1_get 150 = .ok (.ldc2_w 63, 3) := dk_20 0 63 (dk_at dksX1_get_5 15 rfl rfl)
theorem dX1_get_153 : decode cX1_get 153 = .ok (.goto 6, 3) := dk_167 0 6 (dk_at dksX1_get_5 18 rfl rfl)
theorem dX1_get_156 : decode cX1_get 156 = .ok (.aload_n 2, 1) := dk_44 (dk_at dksX1_get_5 21 rfl rfl)
theorem dX1_get_157 : decode cX1_get 157 = .ok (.arraylength, 1) := dk_190 (dk_at dksX1_get_5 22 rfl rfl)
theorem dX1_get_158 : decode cX1_get 158 = .ok (.i2l, 1) := dk_133 (dk_at dksX1_get_5 23 rfl rfl)
theorem dX1_get_159 : decode cX1_get 159 = .ok (.lreturn, 1) := dk_173 (dk_at dksX1_get_6 0 rfl rfl)
theorem dX1_get_160 : decode cX1_get 160 = .ok (.aload_n 0, 1) := dk_42 (dk_at dksX1_get_6 1 rfl rfl)
theorem dX1_get_161 : decode cX1_get 161 = .ok (.checkcast 3, 3) := dk_192 0 3 (dk_at dksX1_get_6 2 rfl rfl)
theorem dX1_get_164 : decode cX1_get 164 = .ok (.iload_n 1, 1) := dk_27 (dk_at dksX1_get_6 5 rfl rfl)
theorem dX1_get_165 : decode cX1_get 165 = .ok (.aaload, 1) := dk_50 (dk_at dksX1_get_6 6 rfl rfl)
theorem dX1_get_166 : decode cX1_get 166 = .ok (.astore_n 3, 1) := dk_78 (dk_at dksX1_get_6 7 rfl rfl)
theorem dX1_get_167 : decode cX1_get 167 = .ok (.aload_n 3, 1) := dk_45 (dk_at dksX1_get_6 8 rfl rfl)
theorem dX1_get_168 : decode cX1_get 168 = .ok (.ifnonnull 9, 3) := dk_199 0 9 (dk_at dksX1_get_6 9 rfl rfl)
theorem dX1_get_171 : decode cX1_get 171 = .ok (.ldc2_w 63, 3) := dk_20 0 63 (dk_at dksX1_get_6 12 rfl rfl)
theorem dX1_get_174 : decode cX1_get 174 = .ok (.goto 8, 3) := dk_167 0 8 (dk_at dksX1_get_6 15 rfl rfl)
theorem dX1_get_177 : decode cX1_get 177 = .ok (.aload_n 3, 1) := dk_45 (dk_at dksX1_get_6 18 rfl rfl)
theorem dX1_get_178 : decode cX1_get 178 = .ok (.getfield 65, 3) := dk_180 0 65 (dk_at dksX1_get_6 19 rfl rfl)
theorem dX1_get_181 : decode cX1_get 181 = .ok (.i2l, 1) := dk_133 (dk_at dksX1_get_6 22 rfl rfl)
theorem dX1_get_182 : decode cX1_get 182 = .ok (.lreturn, 1) := dk_173 (dk_at dksX1_get_6 23 rfl rfl)
abbrev cX1_bitsOf : ByteArray := prog_1_method_5_code
def yX1_bitsOf : MethodName := ⟨RX1, "bitsOf", "(D)J"⟩
theorem dX1_bitsOf_0 : decode cX1_bitsOf 0 = .ok (.dload_n 0, 1) := by decide +kernel
theorem dX1_bitsOf_1 : decode cX1_bitsOf 1 = .ok (.invokestatic 48, 3) := by decide +kernel
theorem dX1_bitsOf_4 : decode cX1_bitsOf 4 = .ok (.lreturn, 1) := by decide +kernel
abbrev cX1_goes : ByteArray := prog_1_method_19_code
def yX1_goes : MethodName := ⟨RX1, "goes", "(IJ)Z"⟩
def dkwX1_goes_2 : List UInt8 := [20, 0, 63, 148, 155, 0, 15, 32, 20, 0, 187, 148, 157, 0, 7, 4, 167, 0, 4, 3, 172]
abbrev dktX1_goes_2 : List UInt8 := dkwX1_goes_2 ++ []
def dkwX1_goes_1 : List UInt8 := [180, 0, 119, 182, 0, 180, 133, 148, 156, 0, 7, 4, 167, 0, 4, 3, 172, 27, 16, 10, 160, 0, 19, 32]
abbrev dktX1_goes_1 : List UInt8 := dkwX1_goes_1 ++ dktX1_goes_2
def dkwX1_goes_0 : List UInt8 := [27, 16, 8, 159, 0, 9, 27, 16, 9, 160, 0, 30, 32, 20, 0, 63, 148, 155, 0, 20, 32, 42]
abbrev dktX1_goes_0 : List UInt8 := dkwX1_goes_0 ++ dktX1_goes_1
theorem dksX1_goes_0 : cX1_goes.data.toList.drop 0 = dktX1_goes_0 := by decide +kernel
theorem dksX1_goes_1 : cX1_goes.data.toList.drop 22 = dktX1_goes_1 := dk_seg dksX1_goes_0 22 rfl rfl
theorem dksX1_goes_2 : cX1_goes.data.toList.drop 46 = dktX1_goes_2 := dk_seg dksX1_goes_1 24 rfl rfl
theorem dX1_goes_0 : decode cX1_goes 0 = .ok (.iload_n 1, 1) := dk_27 (dk_at dksX1_goes_0 0 rfl rfl)
theorem dX1_goes_1 : decode cX1_goes 1 = .ok (.bipush 8, 2) := dk_16 8 (dk_at dksX1_goes_0 1 rfl rfl)
theorem dX1_goes_3 : decode cX1_goes 3 = .ok (.if_icmp .eq 9, 3) := dk_159 0 9 (dk_at dksX1_goes_0 3 rfl rfl)
theorem dX1_goes_6 : decode cX1_goes 6 = .ok (.iload_n 1, 1) := dk_27 (dk_at dksX1_goes_0 6 rfl rfl)
theorem dX1_goes_7 : decode cX1_goes 7 = .ok (.bipush 9, 2) := dk_16 9 (dk_at dksX1_goes_0 7 rfl rfl)
theorem dX1_goes_9 : decode cX1_goes 9 = .ok (.if_icmp .ne 30, 3) := dk_160 0 30 (dk_at dksX1_goes_0 9 rfl rfl)
theorem dX1_goes_12 : decode cX1_goes 12 = .ok (.lload_n 2, 1) := dk_32 (dk_at dksX1_goes_0 12 rfl rfl)
theorem dX1_goes_13 : decode cX1_goes 13 = .ok (.ldc2_w 63, 3) := dk_20 0 63 (dk_at dksX1_goes_0 13 rfl rfl)
theorem dX1_goes_16 : decode cX1_goes 16 = .ok (.lcmp, 1) := dk_148 (dk_at dksX1_goes_0 16 rfl rfl)
theorem dX1_goes_17 : decode cX1_goes 17 = .ok (.ifCond .lt 20, 3) := dk_155 0 20 (dk_at dksX1_goes_0 17 rfl rfl)
theorem dX1_goes_20 : decode cX1_goes 20 = .ok (.lload_n 2, 1) := dk_32 (dk_at dksX1_goes_0 20 rfl rfl)
theorem dX1_goes_21 : decode cX1_goes 21 = .ok (.aload_n 0, 1) := dk_42 (dk_at dksX1_goes_0 21 rfl rfl)
theorem dX1_goes_22 : decode cX1_goes 22 = .ok (.getfield 119, 3) := dk_180 0 119 (dk_at dksX1_goes_1 0 rfl rfl)
theorem dX1_goes_25 : decode cX1_goes 25 = .ok (.invokevirtual 180, 3) := dk_182 0 180 (dk_at dksX1_goes_1 3 rfl rfl)
theorem dX1_goes_28 : decode cX1_goes 28 = .ok (.i2l, 1) := dk_133 (dk_at dksX1_goes_1 6 rfl rfl)
theorem dX1_goes_29 : decode cX1_goes 29 = .ok (.lcmp, 1) := dk_148 (dk_at dksX1_goes_1 7 rfl rfl)
theorem dX1_goes_30 : decode cX1_goes 30 = .ok (.ifCond .ge 7, 3) := dk_156 0 7 (dk_at dksX1_goes_1 8 rfl rfl)
theorem dX1_goes_33 : decode cX1_goes 33 = .ok (.iconst 1, 1) := dk_4 (dk_at dksX1_goes_1 11 rfl rfl)
theorem dX1_goes_34 : decode cX1_goes 34 = .ok (.goto 4, 3) := dk_167 0 4 (dk_at dksX1_goes_1 12 rfl rfl)
theorem dX1_goes_37 : decode cX1_goes 37 = .ok (.iconst 0, 1) := dk_3 (dk_at dksX1_goes_1 15 rfl rfl)
theorem dX1_goes_38 : decode cX1_goes 38 = .ok (.ireturn, 1) := dk_172 (dk_at dksX1_goes_1 16 rfl rfl)
theorem dX1_goes_39 : decode cX1_goes 39 = .ok (.iload_n 1, 1) := dk_27 (dk_at dksX1_goes_1 17 rfl rfl)
theorem dX1_goes_40 : decode cX1_goes 40 = .ok (.bipush 10, 2) := dk_16 10 (dk_at dksX1_goes_1 18 rfl rfl)
theorem dX1_goes_42 : decode cX1_goes 42 = .ok (.if_icmp .ne 19, 3) := dk_160 0 19 (dk_at dksX1_goes_1 20 rfl rfl)
theorem dX1_goes_45 : decode cX1_goes 45 = .ok (.lload_n 2, 1) := dk_32 (dk_at dksX1_goes_1 23 rfl rfl)
theorem dX1_goes_46 : decode cX1_goes 46 = .ok (.ldc2_w 63, 3) := dk_20 0 63 (dk_at dksX1_goes_2 0 rfl rfl)
theorem dX1_goes_49 : decode cX1_goes 49 = .ok (.lcmp, 1) := dk_148 (dk_at dksX1_goes_2 3 rfl rfl)
theorem dX1_goes_50 : decode cX1_goes 50 = .ok (.ifCond .lt 15, 3) := dk_155 0 15 (dk_at dksX1_goes_2 4 rfl rfl)
theorem dX1_goes_53 : decode cX1_goes 53 = .ok (.lload_n 2, 1) := dk_32 (dk_at dksX1_goes_2 7 rfl rfl)
theorem dX1_goes_54 : decode cX1_goes 54 = .ok (.ldc2_w 187, 3) := dk_20 0 187 (dk_at dksX1_goes_2 8 rfl rfl)
theorem dX1_goes_57 : decode cX1_goes 57 = .ok (.lcmp, 1) := dk_148 (dk_at dksX1_goes_2 11 rfl rfl)
theorem dX1_goes_58 : decode cX1_goes 58 = .ok (.ifCond .gt 7, 3) := dk_157 0 7 (dk_at dksX1_goes_2 12 rfl rfl)
theorem dX1_goes_61 : decode cX1_goes 61 = .ok (.iconst 1, 1) := dk_4 (dk_at dksX1_goes_2 15 rfl rfl)
theorem dX1_goes_62 : decode cX1_goes 62 = .ok (.goto 4, 3) := dk_167 0 4 (dk_at dksX1_goes_2 16 rfl rfl)
theorem dX1_goes_65 : decode cX1_goes 65 = .ok (.iconst 0, 1) := dk_3 (dk_at dksX1_goes_2 19 rfl rfl)
theorem dX1_goes_66 : decode cX1_goes 66 = .ok (.ireturn, 1) := dk_172 (dk_at dksX1_goes_2 20 rfl rfl)
abbrev cX1_unitOf : ByteArray := prog_1_method_18_code
def yX1_unitOf : MethodName := ⟨RX1, "unitOf", "(J)LNativeSubset$Unit;"⟩
def dkwX1_unitOf_0 : List UInt8 := [31, 9, 148, 156, 0, 7, 1, 167, 0, 15, 42, 180, 0, 119, 31, 136, 182, 0, 184, 192, 0, 31, 176]
abbrev dktX1_unitOf_0 : List UInt8 := dkwX1_unitOf_0 ++ []
theorem dksX1_unitOf_0 : cX1_unitOf.data.toList.drop 0 = dktX1_unitOf_0 := by decide +kernel
theorem dX1_unitOf_0 : decode cX1_unitOf 0 = .ok (.lload_n 1, 1) := dk_31 (dk_at dksX1_unitOf_0 0 rfl rfl)
theorem dX1_unitOf_1 : decode cX1_unitOf 1 = .ok (.lconst 0, 1) := dk_9 (dk_at dksX1_unitOf_0 1 rfl rfl)
theorem dX1_unitOf_2 : decode cX1_unitOf 2 = .ok (.lcmp, 1) := dk_148 (dk_at dksX1_unitOf_0 2 rfl rfl)
theorem dX1_unitOf_3 : decode cX1_unitOf 3 = .ok (.ifCond .ge 7, 3) := dk_156 0 7 (dk_at dksX1_unitOf_0 3 rfl rfl)
theorem dX1_unitOf_6 : decode cX1_unitOf 6 = .ok (.aconst_null, 1) := dk_1 (dk_at dksX1_unitOf_0 6 rfl rfl)
theorem dX1_unitOf_7 : decode cX1_unitOf 7 = .ok (.goto 15, 3) := dk_167 0 15 (dk_at dksX1_unitOf_0 7 rfl rfl)
theorem dX1_unitOf_10 : decode cX1_unitOf 10 = .ok (.aload_n 0, 1) := dk_42 (dk_at dksX1_unitOf_0 10 rfl rfl)
theorem dX1_unitOf_11 : decode cX1_unitOf 11 = .ok (.getfield 119, 3) := dk_180 0 119 (dk_at dksX1_unitOf_0 11 rfl rfl)
theorem dX1_unitOf_14 : decode cX1_unitOf 14 = .ok (.lload_n 1, 1) := dk_31 (dk_at dksX1_unitOf_0 14 rfl rfl)
theorem dX1_unitOf_15 : decode cX1_unitOf 15 = .ok (.l2i, 1) := dk_136 (dk_at dksX1_unitOf_0 15 rfl rfl)
theorem dX1_unitOf_16 : decode cX1_unitOf 16 = .ok (.invokevirtual 184, 3) := dk_182 0 184 (dk_at dksX1_unitOf_0 16 rfl rfl)
theorem dX1_unitOf_19 : decode cX1_unitOf 19 = .ok (.checkcast 31, 3) := dk_192 0 31 (dk_at dksX1_unitOf_0 19 rfl rfl)
theorem dX1_unitOf_22 : decode cX1_unitOf 22 = .ok (.areturn, 1) := dk_176 (dk_at dksX1_unitOf_0 22 rfl rfl)
abbrev cX1_put : ByteArray := prog_1_method_7_code
def yX1_put : MethodName := ⟨RX1, "put", "(Ljava/lang/Object;IJLNativeSubset$Unit;[I)V"⟩
def dkwX1_put_7 : List UInt8 := [192, 0, 3, 27, 25, 4, 83, 177]
abbrev dktX1_put_7 : List UInt8 := dkwX1_put_7 ++ []
def dkwX1_put_6 : List UInt8 := [192, 0, 23, 27, 32, 184, 0, 73, 82, 167, 0, 22, 42, 192, 0, 29, 27, 25, 5, 83, 167, 0, 11, 42]
abbrev dktX1_put_6 : List UInt8 := dkwX1_put_6 ++ dktX1_put_7
def dkwX1_put_5 : List UInt8 := [192, 0, 19, 27, 32, 80, 167, 0, 49, 42, 192, 0, 21, 27, 32, 136, 184, 0, 69, 81, 167, 0, 35, 42]
abbrev dktX1_put_5 : List UInt8 := dkwX1_put_5 ++ dktX1_put_6
def dkwX1_put_4 : List UInt8 := [192, 0, 15, 27, 32, 136, 147, 86, 167, 0, 70, 42, 192, 0, 17, 27, 32, 136, 79, 167, 0, 59, 42]
abbrev dktX1_put_4 : List UInt8 := dkwX1_put_4 ++ dktX1_put_5
def dkwX1_put_3 : List UInt8 := [192, 0, 11, 27, 32, 136, 145, 84, 167, 0, 94, 42, 192, 0, 13, 27, 32, 136, 146, 85, 167, 0, 82, 42]
abbrev dktX1_put_3 : List UInt8 := dkwX1_put_3 ++ dktX1_put_4
def dkwX1_put_2 : List UInt8 := [42, 192, 0, 9, 27, 32, 10, 127, 10, 148, 154, 0, 7, 4, 167, 0, 4, 3, 84, 167, 0, 106, 42]
abbrev dktX1_put_2 : List UInt8 := dkwX1_put_2 ++ dktX1_put_3
def dkwX1_put_1 : List UInt8 := [170, 0, 0, 0, 0, 0, 0, 177, 0, 0, 0, 0, 0, 0, 0, 10, 0, 0, 0, 60, 0, 0, 0, 82, 0, 0, 0, 94, 0, 0, 0, 106, 0, 0, 0, 118, 0, 0, 0, 129, 0, 0, 0, 139, 0, 0, 0, 153, 0, 0, 0, 177, 0, 0, 0, 177, 0, 0, 0, 166]
abbrev dktX1_put_1 : List UInt8 := dkwX1_put_1 ++ dktX1_put_2
def dkwX1_put_0 : List UInt8 := [42, 184, 0, 25]
abbrev dktX1_put_0 : List UInt8 := dkwX1_put_0 ++ dktX1_put_1
theorem dksX1_put_0 : cX1_put.data.toList.drop 0 = dktX1_put_0 := by decide +kernel
theorem dksX1_put_1 : cX1_put.data.toList.drop 4 = dktX1_put_1 := dk_seg dksX1_put_0 4 rfl rfl
theorem dksX1_put_2 : cX1_put.data.toList.drop 64 = dktX1_put_2 := dk_seg dksX1_put_1 60 rfl rfl
theorem dksX1_put_3 : cX1_put.data.toList.drop 87 = dktX1_put_3 := dk_seg dksX1_put_2 23 rfl rfl
theorem dksX1_put_4 : cX1_put.data.toList.drop 111 = dktX1_put_4 := dk_seg dksX1_put_3 24 rfl rfl
theorem dksX1_put_5 : cX1_put.data.toList.drop 134 = dktX1_put_5 := dk_seg dksX1_put_4 23 rfl rfl
theorem dksX1_put_6 : cX1_put.data.toList.drop 158 = dktX1_put_6 := dk_seg dksX1_put_5 24 rfl rfl
theorem dksX1_put_7 : cX1_put.data.toList.drop 182 = dktX1_put_7 := dk_seg dksX1_put_6 24 rfl rfl
theorem dX1_put_0 : decode cX1_put 0 = .ok (.aload_n 0, 1) := dk_42 (dk_at dksX1_put_0 0 rfl rfl)
theorem dX1_put_1 : decode cX1_put 1 = .ok (.invokestatic 25, 3) := dk_184 0 25 (dk_at dksX1_put_0 1 rfl rfl)
theorem dX1_put_4 : decode cX1_put 4 = .ok (.tableswitch 177 0 10 #[60, 82, 94, 106, 118, 129, 139, 153, 177, 177, 166], 60) := by decide +kernel
theorem dX1_put_64 : decode cX1_put 64 = .ok (.aload_n 0, 1) := dk_42 (dk_at dksX1_put_2 0 rfl rfl)
theorem dX1_put_65 : decode cX1_put 65 = .ok (.checkcast 9, 3) := dk_192 0 9 (dk_at dksX1_put_2 1 rfl rfl)
theorem dX1_put_68 : decode cX1_put 68 = .ok (.iload_n 1, 1) := dk_27 (dk_at dksX1_put_2 4 rfl rfl)
theorem dX1_put_69 : decode cX1_put 69 = .ok (.lload_n 2, 1) := dk_32 (dk_at dksX1_put_2 5 rfl rfl)
theorem dX1_put_70 : decode cX1_put 70 = .ok (.lconst 1, 1) := dk_10 (dk_at dksX1_put_2 6 rfl rfl)
theorem dX1_put_71 : decode cX1_put 71 = .ok (.land, 1) := dk_127 (dk_at dksX1_put_2 7 rfl rfl)
theorem dX1_put_72 : decode cX1_put 72 = .ok (.lconst 1, 1) := dk_10 (dk_at dksX1_put_2 8 rfl rfl)
theorem dX1_put_73 : decode cX1_put 73 = .ok (.lcmp, 1) := dk_148 (dk_at dksX1_put_2 9 rfl rfl)
theorem dX1_put_74 : decode cX1_put 74 = .ok (.ifCond .ne 7, 3) := dk_154 0 7 (dk_at dksX1_put_2 10 rfl rfl)
theorem dX1_put_77 : decode cX1_put 77 = .ok (.iconst 1, 1) := dk_4 (dk_at dksX1_put_2 13 rfl rfl)
theorem dX1_put_78 : decode cX1_put 78 = .ok (.goto 4, 3) := dk_167 0 4 (dk_at dksX1_put_2 14 rfl rfl)
theorem dX1_put_81 : decode cX1_put 81 = .ok (.iconst 0, 1) := dk_3 (dk_at dksX1_put_2 17 rfl rfl)
theorem dX1_put_82 : decode cX1_put 82 = .ok (.bastore, 1) := dk_84 (dk_at dksX1_put_2 18 rfl rfl)
theorem dX1_put_83 : decode cX1_put 83 = .ok (.goto 106, 3) := dk_167 0 106 (dk_at dksX1_put_2 19 rfl rfl)
theorem dX1_put_86 : decode cX1_put 86 = .ok (.aload_n 0, 1) := dk_42 (dk_at dksX1_put_2 22 rfl rfl)
theorem dX1_put_87 : decode cX1_put 87 = .ok (.checkcast 11, 3) := dk_192 0 11 (dk_at dksX1_put_3 0 rfl rfl)
theorem dX1_put_90 : decode cX1_put 90 = .ok (.iload_n 1, 1) := dk_27 (dk_at dksX1_put_3 3 rfl rfl)
theorem dX1_put_91 : decode cX1_put 91 = .ok (.lload_n 2, 1) := dk_32 (dk_at dksX1_put_3 4 rfl rfl)
theorem dX1_put_92 : decode cX1_put 92 = .ok (.l2i, 1) := dk_136 (dk_at dksX1_put_3 5 rfl rfl)
theorem dX1_put_93 : decode cX1_put 93 = .ok (.i2b, 1) := dk_145 (dk_at dksX1_put_3 6 rfl rfl)
theorem dX1_put_94 : decode cX1_put 94 = .ok (.bastore, 1) := dk_84 (dk_at dksX1_put_3 7 rfl rfl)
theorem dX1_put_95 : decode cX1_put 95 = .ok (.goto 94, 3) := dk_167 0 94 (dk_at dksX1_put_3 8 rfl rfl)
theorem dX1_put_98 : decode cX1_put 98 = .ok (.aload_n 0, 1) := dk_42 (dk_at dksX1_put_3 11 rfl rfl)
theorem dX1_put_99 : decode cX1_put 99 = .ok (.checkcast 13, 3) := dk_192 0 13 (dk_at dksX1_put_3 12 rfl rfl)
theorem dX1_put_102 : decode cX1_put 102 = .ok (.iload_n 1, 1) := dk_27 (dk_at dksX1_put_3 15 rfl rfl)
theorem dX1_put_103 : decode cX1_put 103 = .ok (.lload_n 2, 1) := dk_32 (dk_at dksX1_put_3 16 rfl rfl)
theorem dX1_put_104 : decode cX1_put 104 = .ok (.l2i, 1) := dk_136 (dk_at dksX1_put_3 17 rfl rfl)
theorem dX1_put_105 : decode cX1_put 105 = .ok (.i2c, 1) := dk_146 (dk_at dksX1_put_3 18 rfl rfl)
theorem dX1_put_106 : decode cX1_put 106 = .ok (.castore, 1) := dk_85 (dk_at dksX1_put_3 19 rfl rfl)
theorem dX1_put_107 : decode cX1_put 107 = .ok (.goto 82, 3) := dk_167 0 82 (dk_at dksX1_put_3 20 rfl rfl)
theorem dX1_put_110 : decode cX1_put 110 = .ok (.aload_n 0, 1) := dk_42 (dk_at dksX1_put_3 23 rfl rfl)
theorem dX1_put_111 : decode cX1_put 111 = .ok (.checkcast 15, 3) := dk_192 0 15 (dk_at dksX1_put_4 0 rfl rfl)
theorem dX1_put_114 : decode cX1_put 114 = .ok (.iload_n 1, 1) := dk_27 (dk_at dksX1_put_4 3 rfl rfl)
theorem dX1_put_115 : decode cX1_put 115 = .ok (.lload_n 2, 1) := dk_32 (dk_at dksX1_put_4 4 rfl rfl)
theorem dX1_put_116 : decode cX1_put 116 = .ok (.l2i, 1) := dk_136 (dk_at dksX1_put_4 5 rfl rfl)
theorem dX1_put_117 : decode cX1_put 117 = .ok (.i2s, 1) := dk_147 (dk_at dksX1_put_4 6 rfl rfl)
theorem dX1_put_118 : decode cX1_put 118 = .ok (.sastore, 1) := dk_86 (dk_at dksX1_put_4 7 rfl rfl)
theorem dX1_put_119 : decode cX1_put 119 = .ok (.goto 70, 3) := dk_167 0 70 (dk_at dksX1_put_4 8 rfl rfl)
theorem dX1_put_122 : decode cX1_put 122 = .ok (.aload_n 0, 1) := dk_42 (dk_at dksX1_put_4 11 rfl rfl)
theorem dX1_put_123 : decode cX1_put 123 = .ok (.checkcast 17, 3) := dk_192 0 17 (dk_at dksX1_put_4 12 rfl rfl)
theorem dX1_put_126 : decode cX1_put 126 = .ok (.iload_n 1, 1) := dk_27 (dk_at dksX1_put_4 15 rfl rfl)
theorem dX1_put_127 : decode cX1_put 127 = .ok (.lload_n 2, 1) := dk_32 (dk_at dksX1_put_4 16 rfl rfl)
theorem dX1_put_128 : decode cX1_put 128 = .ok (.l2i, 1) := dk_136 (dk_at dksX1_put_4 17 rfl rfl)
theorem dX1_put_129 : decode cX1_put 129 = .ok (.iastore, 1) := dk_79 (dk_at dksX1_put_4 18 rfl rfl)
theorem dX1_put_130 : decode cX1_put 130 = .ok (.goto 59, 3) := dk_167 0 59 (dk_at dksX1_put_4 19 rfl rfl)
theorem dX1_put_133 : decode cX1_put 133 = .ok (.aload_n 0, 1) := dk_42 (dk_at dksX1_put_4 22 rfl rfl)
theorem dX1_put_134 : decode cX1_put 134 = .ok (.checkcast 19, 3) := dk_192 0 19 (dk_at dksX1_put_5 0 rfl rfl)
theorem dX1_put_137 : decode cX1_put 137 = .ok (.iload_n 1, 1) := dk_27 (dk_at dksX1_put_5 3 rfl rfl)
theorem dX1_put_138 : decode cX1_put 138 = .ok (.lload_n 2, 1) := dk_32 (dk_at dksX1_put_5 4 rfl rfl)
theorem dX1_put_139 : decode cX1_put 139 = .ok (.lastore, 1) := dk_80 (dk_at dksX1_put_5 5 rfl rfl)
theorem dX1_put_140 : decode cX1_put 140 = .ok (.goto 49, 3) := dk_167 0 49 (dk_at dksX1_put_5 6 rfl rfl)
theorem dX1_put_143 : decode cX1_put 143 = .ok (.aload_n 0, 1) := dk_42 (dk_at dksX1_put_5 9 rfl rfl)
theorem dX1_put_144 : decode cX1_put 144 = .ok (.checkcast 21, 3) := dk_192 0 21 (dk_at dksX1_put_5 10 rfl rfl)
theorem dX1_put_147 : decode cX1_put 147 = .ok (.iload_n 1, 1) := dk_27 (dk_at dksX1_put_5 13 rfl rfl)
theorem dX1_put_148 : decode cX1_put 148 = .ok (.lload_n 2, 1) := dk_32 (dk_at dksX1_put_5 14 rfl rfl)
theorem dX1_put_149 : decode cX1_put 149 = .ok (.l2i, 1) := dk_136 (dk_at dksX1_put_5 15 rfl rfl)
theorem dX1_put_150 : decode cX1_put 150 = .ok (.invokestatic 69, 3) := dk_184 0 69 (dk_at dksX1_put_5 16 rfl rfl)
theorem dX1_put_153 : decode cX1_put 153 = .ok (.fastore, 1) := dk_81 (dk_at dksX1_put_5 19 rfl rfl)
theorem dX1_put_154 : decode cX1_put 154 = .ok (.goto 35, 3) := dk_167 0 35 (dk_at dksX1_put_5 20 rfl rfl)
theorem dX1_put_157 : decode cX1_put 157 = .ok (.aload_n 0, 1) := dk_42 (dk_at dksX1_put_5 23 rfl rfl)
theorem dX1_put_158 : decode cX1_put 158 = .ok (.checkcast 23, 3) := dk_192 0 23 (dk_at dksX1_put_6 0 rfl rfl)
theorem dX1_put_161 : decode cX1_put 161 = .ok (.iload_n 1, 1) := dk_27 (dk_at dksX1_put_6 3 rfl rfl)
theorem dX1_put_162 : decode cX1_put 162 = .ok (.lload_n 2, 1) := dk_32 (dk_at dksX1_put_6 4 rfl rfl)
theorem dX1_put_163 : decode cX1_put 163 = .ok (.invokestatic 73, 3) := dk_184 0 73 (dk_at dksX1_put_6 5 rfl rfl)
theorem dX1_put_166 : decode cX1_put 166 = .ok (.dastore, 1) := dk_82 (dk_at dksX1_put_6 8 rfl rfl)
theorem dX1_put_167 : decode cX1_put 167 = .ok (.goto 22, 3) := dk_167 0 22 (dk_at dksX1_put_6 9 rfl rfl)
theorem dX1_put_170 : decode cX1_put 170 = .ok (.aload_n 0, 1) := dk_42 (dk_at dksX1_put_6 12 rfl rfl)
theorem dX1_put_171 : decode cX1_put 171 = .ok (.checkcast 29, 3) := dk_192 0 29 (dk_at dksX1_put_6 13 rfl rfl)
theorem dX1_put_174 : decode cX1_put 174 = .ok (.iload_n 1, 1) := dk_27 (dk_at dksX1_put_6 16 rfl rfl)
theorem dX1_put_175 : decode cX1_put 175 = .ok (.aload 5, 2) := dk_25 5 (dk_at dksX1_put_6 17 rfl rfl)
theorem dX1_put_177 : decode cX1_put 177 = .ok (.aastore, 1) := dk_83 (dk_at dksX1_put_6 19 rfl rfl)
theorem dX1_put_178 : decode cX1_put 178 = .ok (.goto 11, 3) := dk_167 0 11 (dk_at dksX1_put_6 20 rfl rfl)
theorem dX1_put_181 : decode cX1_put 181 = .ok (.aload_n 0, 1) := dk_42 (dk_at dksX1_put_6 23 rfl rfl)
theorem dX1_put_182 : decode cX1_put 182 = .ok (.checkcast 3, 3) := dk_192 0 3 (dk_at dksX1_put_7 0 rfl rfl)
theorem dX1_put_185 : decode cX1_put 185 = .ok (.iload_n 1, 1) := dk_27 (dk_at dksX1_put_7 3 rfl rfl)
theorem dX1_put_186 : decode cX1_put 186 = .ok (.aload 4, 2) := dk_25 4 (dk_at dksX1_put_7 4 rfl rfl)
theorem dX1_put_188 : decode cX1_put 188 = .ok (.aastore, 1) := dk_83 (dk_at dksX1_put_7 6 rfl rfl)
theorem dX1_put_189 : decode cX1_put 189 = .ok (.return_, 1) := dk_177 (dk_at dksX1_put_7 7 rfl rfl)
abbrev cX1_singleBits : ByteArray := prog_1_method_38_code
def yX1_singleBits : MethodName := ⟨RX1, "singleBits", "(I)F"⟩
def dkwX1_singleBits_0 : List UInt8 := [26, 19, 1, 72, 126, 19, 1, 73, 164, 0, 9, 19, 1, 74, 167, 0, 7, 26, 184, 1, 75, 174]
abbrev dktX1_singleBits_0 : List UInt8 := dkwX1_singleBits_0 ++ []
theorem dksX1_singleBits_0 : cX1_singleBits.data.toList.drop 0 = dktX1_singleBits_0 := by decide +kernel
theorem dX1_singleBits_0 : decode cX1_singleBits 0 = .ok (.iload_n 0, 1) := dk_26 (dk_at dksX1_singleBits_0 0 rfl rfl)
theorem dX1_singleBits_1 : decode cX1_singleBits 1 = .ok (.ldc_w 328, 3) := dk_19 1 72 (dk_at dksX1_singleBits_0 1 rfl rfl)
theorem dX1_singleBits_4 : decode cX1_singleBits 4 = .ok (.iand, 1) := dk_126 (dk_at dksX1_singleBits_0 4 rfl rfl)
theorem dX1_singleBits_5 : decode cX1_singleBits 5 = .ok (.ldc_w 329, 3) := dk_19 1 73 (dk_at dksX1_singleBits_0 5 rfl rfl)
theorem dX1_singleBits_8 : decode cX1_singleBits 8 = .ok (.if_icmp .le 9, 3) := dk_164 0 9 (dk_at dksX1_singleBits_0 8 rfl rfl)
theorem dX1_singleBits_11 : decode cX1_singleBits 11 = .ok (.ldc_w 330, 3) := dk_19 1 74 (dk_at dksX1_singleBits_0 11 rfl rfl)
theorem dX1_singleBits_14 : decode cX1_singleBits 14 = .ok (.goto 7, 3) := dk_167 0 7 (dk_at dksX1_singleBits_0 14 rfl rfl)
theorem dX1_singleBits_17 : decode cX1_singleBits 17 = .ok (.iload_n 0, 1) := dk_26 (dk_at dksX1_singleBits_0 17 rfl rfl)
theorem dX1_singleBits_18 : decode cX1_singleBits 18 = .ok (.invokestatic 331, 3) := dk_184 1 75 (dk_at dksX1_singleBits_0 18 rfl rfl)
theorem dX1_singleBits_21 : decode cX1_singleBits 21 = .ok (.freturn, 1) := dk_174 (dk_at dksX1_singleBits_0 21 rfl rfl)
abbrev cX1_numberBits : ByteArray := prog_1_method_37_code
def yX1_numberBits : MethodName := ⟨RX1, "numberBits", "(J)D"⟩
def dkwX1_numberBits_0 : List UInt8 := [30, 20, 1, 65, 127, 20, 1, 67, 148, 158, 0, 9, 20, 0, 77, 167, 0, 7, 30, 184, 1, 69, 175]
abbrev dktX1_numberBits_0 : List UInt8 := dkwX1_numberBits_0 ++ []
theorem dksX1_numberBits_0 : cX1_numberBits.data.toList.drop 0 = dktX1_numberBits_0 := by decide +kernel
theorem dX1_numberBits_0 : decode cX1_numberBits 0 = .ok (.lload_n 0, 1) := dk_30 (dk_at dksX1_numberBits_0 0 rfl rfl)
theorem dX1_numberBits_1 : decode cX1_numberBits 1 = .ok (.ldc2_w 321, 3) := dk_20 1 65 (dk_at dksX1_numberBits_0 1 rfl rfl)
theorem dX1_numberBits_4 : decode cX1_numberBits 4 = .ok (.land, 1) := dk_127 (dk_at dksX1_numberBits_0 4 rfl rfl)
theorem dX1_numberBits_5 : decode cX1_numberBits 5 = .ok (.ldc2_w 323, 3) := dk_20 1 67 (dk_at dksX1_numberBits_0 5 rfl rfl)
theorem dX1_numberBits_8 : decode cX1_numberBits 8 = .ok (.lcmp, 1) := dk_148 (dk_at dksX1_numberBits_0 8 rfl rfl)
theorem dX1_numberBits_9 : decode cX1_numberBits 9 = .ok (.ifCond .le 9, 3) := dk_158 0 9 (dk_at dksX1_numberBits_0 9 rfl rfl)
theorem dX1_numberBits_12 : decode cX1_numberBits 12 = .ok (.ldc2_w 77, 3) := dk_20 0 77 (dk_at dksX1_numberBits_0 12 rfl rfl)
theorem dX1_numberBits_15 : decode cX1_numberBits 15 = .ok (.goto 7, 3) := dk_167 0 7 (dk_at dksX1_numberBits_0 15 rfl rfl)
theorem dX1_numberBits_18 : decode cX1_numberBits 18 = .ok (.lload_n 0, 1) := dk_30 (dk_at dksX1_numberBits_0 18 rfl rfl)
theorem dX1_numberBits_19 : decode cX1_numberBits 19 = .ok (.invokestatic 325, 3) := dk_184 1 69 (dk_at dksX1_numberBits_0 19 rfl rfl)
theorem dX1_numberBits_22 : decode cX1_numberBits 22 = .ok (.dreturn, 1) := dk_175 (dk_at dksX1_numberBits_0 22 rfl rfl)
abbrev cX1_isBelow : ByteArray := prog_1_method_11_code
def yX1_isBelow : MethodName := ⟨RX1, "isBelow", "(Ljava/lang/Object;ILjava/lang/Object;I)Z"⟩
def dkwX1_isBelow_2 : List UInt8 := [167, 0, 4, 3, 172]
abbrev dktX1_isBelow_2 : List UInt8 := dkwX1_isBelow_2 ++ []
def dkwX1_isBelow_1 : List UInt8 := [167, 0, 26, 3, 167, 0, 22, 42, 27, 184, 0, 91, 44, 29, 184, 0, 91, 148, 156, 0, 7, 4]
abbrev dktX1_isBelow_1 : List UInt8 := dkwX1_isBelow_1 ++ dktX1_isBelow_2
def dkwX1_isBelow_0 : List UInt8 := [42, 184, 0, 83, 153, 0, 25, 42, 27, 184, 0, 87, 44, 29, 184, 0, 87, 152, 156, 0, 7, 4]
abbrev dktX1_isBelow_0 : List UInt8 := dkwX1_isBelow_0 ++ dktX1_isBelow_1
theorem dksX1_isBelow_0 : cX1_isBelow.data.toList.drop 0 = dktX1_isBelow_0 := by decide +kernel
theorem dksX1_isBelow_1 : cX1_isBelow.data.toList.drop 22 = dktX1_isBelow_1 := dk_seg dksX1_isBelow_0 22 rfl rfl
theorem dksX1_isBelow_2 : cX1_isBelow.data.toList.drop 44 = dktX1_isBelow_2 := dk_seg dksX1_isBelow_1 22 rfl rfl
theorem dX1_isBelow_0 : decode cX1_isBelow 0 = .ok (.aload_n 0, 1) := dk_42 (dk_at dksX1_isBelow_0 0 rfl rfl)
theorem dX1_isBelow_1 : decode cX1_isBelow 1 = .ok (.invokestatic 83, 3) := dk_184 0 83 (dk_at dksX1_isBelow_0 1 rfl rfl)
theorem dX1_isBelow_4 : decode cX1_isBelow 4 = .ok (.ifCond .eq 25, 3) := dk_153 0 25 (dk_at dksX1_isBelow_0 4 rfl rfl)
theorem dX1_isBelow_7 : decode cX1_isBelow 7 = .ok (.aload_n 0, 1) := dk_42 (dk_at dksX1_isBelow_0 7 rfl rfl)
theorem dX1_isBelow_8 : decode cX1_isBelow 8 = .ok (.iload_n 1, 1) := dk_27 (dk_at dksX1_isBelow_0 8 rfl rfl)
theorem dX1_isBelow_9 : decode cX1_isBelow 9 = .ok (.invokestatic 87, 3) := dk_184 0 87 (dk_at dksX1_isBelow_0 9 rfl rfl)
theorem dX1_isBelow_12 : decode cX1_isBelow 12 = .ok (.aload_n 2, 1) := dk_44 (dk_at dksX1_isBelow_0 12 rfl rfl)
theorem dX1_isBelow_13 : decode cX1_isBelow 13 = .ok (.iload_n 3, 1) := dk_29 (dk_at dksX1_isBelow_0 13 rfl rfl)
theorem dX1_isBelow_14 : decode cX1_isBelow 14 = .ok (.invokestatic 87, 3) := dk_184 0 87 (dk_at dksX1_isBelow_0 14 rfl rfl)
theorem dX1_isBelow_17 : decode cX1_isBelow 17 = .ok (.dcmp .g, 1) := dk_152 (dk_at dksX1_isBelow_0 17 rfl rfl)
theorem dX1_isBelow_18 : decode cX1_isBelow 18 = .ok (.ifCond .ge 7, 3) := dk_156 0 7 (dk_at dksX1_isBelow_0 18 rfl rfl)
theorem dX1_isBelow_21 : decode cX1_isBelow 21 = .ok (.iconst 1, 1) := dk_4 (dk_at dksX1_isBelow_0 21 rfl rfl)
theorem dX1_isBelow_22 : decode cX1_isBelow 22 = .ok (.goto 26, 3) := dk_167 0 26 (dk_at dksX1_isBelow_1 0 rfl rfl)
theorem dX1_isBelow_25 : decode cX1_isBelow 25 = .ok (.iconst 0, 1) := dk_3 (dk_at dksX1_isBelow_1 3 rfl rfl)
theorem dX1_isBelow_26 : decode cX1_isBelow 26 = .ok (.goto 22, 3) := dk_167 0 22 (dk_at dksX1_isBelow_1 4 rfl rfl)
theorem dX1_isBelow_29 : decode cX1_isBelow 29 = .ok (.aload_n 0, 1) := dk_42 (dk_at dksX1_isBelow_1 7 rfl rfl)
theorem dX1_isBelow_30 : decode cX1_isBelow 30 = .ok (.iload_n 1, 1) := dk_27 (dk_at dksX1_isBelow_1 8 rfl rfl)
theorem dX1_isBelow_31 : decode cX1_isBelow 31 = .ok (.invokestatic 91, 3) := dk_184 0 91 (dk_at dksX1_isBelow_1 9 rfl rfl)
theorem dX1_isBelow_34 : decode cX1_isBelow 34 = .ok (.aload_n 2, 1) := dk_44 (dk_at dksX1_isBelow_1 12 rfl rfl)
theorem dX1_isBelow_35 : decode cX1_isBelow 35 = .ok (.iload_n 3, 1) := dk_29 (dk_at dksX1_isBelow_1 13 rfl rfl)
theorem dX1_isBelow_36 : decode cX1_isBelow 36 = .ok (.invokestatic 91, 3) := dk_184 0 91 (dk_at dksX1_isBelow_1 14 rfl rfl)
theorem dX1_isBelow_39 : decode cX1_isBelow 39 = .ok (.lcmp, 1) := dk_148 (dk_at dksX1_isBelow_1 17 rfl rfl)
theorem dX1_isBelow_40 : decode cX1_isBelow 40 = .ok (.ifCond .ge 7, 3) := dk_156 0 7 (dk_at dksX1_isBelow_1 18 rfl rfl)
theorem dX1_isBelow_43 : decode cX1_isBelow 43 = .ok (.iconst 1, 1) := dk_4 (dk_at dksX1_isBelow_1 21 rfl rfl)
theorem dX1_isBelow_44 : decode cX1_isBelow 44 = .ok (.goto 4, 3) := dk_167 0 4 (dk_at dksX1_isBelow_2 0 rfl rfl)
theorem dX1_isBelow_47 : decode cX1_isBelow 47 = .ok (.iconst 0, 1) := dk_3 (dk_at dksX1_isBelow_2 3 rfl rfl)
theorem dX1_isBelow_48 : decode cX1_isBelow 48 = .ok (.ireturn, 1) := dk_172 (dk_at dksX1_isBelow_2 4 rfl rfl)
abbrev cX1_plus : ByteArray := prog_1_method_9_code
def yX1_plus : MethodName := ⟨RX1, "plus", "(DD)D"⟩
def dkwX1_plus_2 : List UInt8 := [20, 0, 77, 167, 0, 6, 38, 40, 99, 175]
abbrev dktX1_plus_2 : List UInt8 := dkwX1_plus_2 ++ []
def dkwX1_plus_1 : List UInt8 := [38, 151, 154, 0, 21, 40, 40, 151, 154, 0, 15, 21, 4, 153, 0, 16, 40, 38, 119, 151, 154, 0, 9]
abbrev dktX1_plus_1 : List UInt8 := dkwX1_plus_1 ++ dktX1_plus_2
def dkwX1_plus_0 : List UInt8 := [38, 20, 0, 79, 151, 153, 0, 11, 38, 20, 0, 81, 151, 154, 0, 7, 4, 167, 0, 4, 3, 54, 4, 38]
abbrev dktX1_plus_0 : List UInt8 := dkwX1_plus_0 ++ dktX1_plus_1
theorem dksX1_plus_0 : cX1_plus.data.toList.drop 0 = dktX1_plus_0 := by decide +kernel
theorem dksX1_plus_1 : cX1_plus.data.toList.drop 24 = dktX1_plus_1 := dk_seg dksX1_plus_0 24 rfl rfl
theorem dksX1_plus_2 : cX1_plus.data.toList.drop 47 = dktX1_plus_2 := dk_seg dksX1_plus_1 23 rfl rfl
theorem dX1_plus_0 : decode cX1_plus 0 = .ok (.dload_n 0, 1) := dk_38 (dk_at dksX1_plus_0 0 rfl rfl)
theorem dX1_plus_1 : decode cX1_plus 1 = .ok (.ldc2_w 79, 3) := dk_20 0 79 (dk_at dksX1_plus_0 1 rfl rfl)
theorem dX1_plus_4 : decode cX1_plus 4 = .ok (.dcmp .l, 1) := dk_151 (dk_at dksX1_plus_0 4 rfl rfl)
theorem dX1_plus_5 : decode cX1_plus 5 = .ok (.ifCond .eq 11, 3) := dk_153 0 11 (dk_at dksX1_plus_0 5 rfl rfl)
theorem dX1_plus_8 : decode cX1_plus 8 = .ok (.dload_n 0, 1) := dk_38 (dk_at dksX1_plus_0 8 rfl rfl)
theorem dX1_plus_9 : decode cX1_plus 9 = .ok (.ldc2_w 81, 3) := dk_20 0 81 (dk_at dksX1_plus_0 9 rfl rfl)
theorem dX1_plus_12 : decode cX1_plus 12 = .ok (.dcmp .l, 1) := dk_151 (dk_at dksX1_plus_0 12 rfl rfl)
theorem dX1_plus_13 : decode cX1_plus 13 = .ok (.ifCond .ne 7, 3) := dk_154 0 7 (dk_at dksX1_plus_0 13 rfl rfl)
theorem dX1_plus_16 : decode cX1_plus 16 = .ok (.iconst 1, 1) := dk_4 (dk_at dksX1_plus_0 16 rfl rfl)
theorem dX1_plus_17 : decode cX1_plus 17 = .ok (.goto 4, 3) := dk_167 0 4 (dk_at dksX1_plus_0 17 rfl rfl)
theorem dX1_plus_20 : decode cX1_plus 20 = .ok (.iconst 0, 1) := dk_3 (dk_at dksX1_plus_0 20 rfl rfl)
theorem dX1_plus_21 : decode cX1_plus 21 = .ok (.istore 4, 2) := dk_54 4 (dk_at dksX1_plus_0 21 rfl rfl)
theorem dX1_plus_23 : decode cX1_plus 23 = .ok (.dload_n 0, 1) := dk_38 (dk_at dksX1_plus_0 23 rfl rfl)
theorem dX1_plus_24 : decode cX1_plus 24 = .ok (.dload_n 0, 1) := dk_38 (dk_at dksX1_plus_1 0 rfl rfl)
theorem dX1_plus_25 : decode cX1_plus 25 = .ok (.dcmp .l, 1) := dk_151 (dk_at dksX1_plus_1 1 rfl rfl)
theorem dX1_plus_26 : decode cX1_plus 26 = .ok (.ifCond .ne 21, 3) := dk_154 0 21 (dk_at dksX1_plus_1 2 rfl rfl)
theorem dX1_plus_29 : decode cX1_plus 29 = .ok (.dload_n 2, 1) := dk_40 (dk_at dksX1_plus_1 5 rfl rfl)
theorem dX1_plus_30 : decode cX1_plus 30 = .ok (.dload_n 2, 1) := dk_40 (dk_at dksX1_plus_1 6 rfl rfl)
theorem dX1_plus_31 : decode cX1_plus 31 = .ok (.dcmp .l, 1) := dk_151 (dk_at dksX1_plus_1 7 rfl rfl)
theorem dX1_plus_32 : decode cX1_plus 32 = .ok (.ifCond .ne 15, 3) := dk_154 0 15 (dk_at dksX1_plus_1 8 rfl rfl)
theorem dX1_plus_35 : decode cX1_plus 35 = .ok (.iload 4, 2) := dk_21 4 (dk_at dksX1_plus_1 11 rfl rfl)
theorem dX1_plus_37 : decode cX1_plus 37 = .ok (.ifCond .eq 16, 3) := dk_153 0 16 (dk_at dksX1_plus_1 13 rfl rfl)
theorem dX1_plus_40 : decode cX1_plus 40 = .ok (.dload_n 2, 1) := dk_40 (dk_at dksX1_plus_1 16 rfl rfl)
theorem dX1_plus_41 : decode cX1_plus 41 = .ok (.dload_n 0, 1) := dk_38 (dk_at dksX1_plus_1 17 rfl rfl)
theorem dX1_plus_42 : decode cX1_plus 42 = .ok (.dneg, 1) := dk_119 (dk_at dksX1_plus_1 18 rfl rfl)
theorem dX1_plus_43 : decode cX1_plus 43 = .ok (.dcmp .l, 1) := dk_151 (dk_at dksX1_plus_1 19 rfl rfl)
theorem dX1_plus_44 : decode cX1_plus 44 = .ok (.ifCond .ne 9, 3) := dk_154 0 9 (dk_at dksX1_plus_1 20 rfl rfl)
theorem dX1_plus_47 : decode cX1_plus 47 = .ok (.ldc2_w 77, 3) := dk_20 0 77 (dk_at dksX1_plus_2 0 rfl rfl)
theorem dX1_plus_50 : decode cX1_plus 50 = .ok (.goto 6, 3) := dk_167 0 6 (dk_at dksX1_plus_2 3 rfl rfl)
theorem dX1_plus_53 : decode cX1_plus 53 = .ok (.dload_n 0, 1) := dk_38 (dk_at dksX1_plus_2 6 rfl rfl)
theorem dX1_plus_54 : decode cX1_plus 54 = .ok (.dload_n 2, 1) := dk_40 (dk_at dksX1_plus_2 7 rfl rfl)
theorem dX1_plus_55 : decode cX1_plus 55 = .ok (.dadd, 1) := dk_99 (dk_at dksX1_plus_2 8 rfl rfl)
theorem dX1_plus_56 : decode cX1_plus 56 = .ok (.dreturn, 1) := dk_175 (dk_at dksX1_plus_2 9 rfl rfl)
abbrev cX1_told : ByteArray := prog_1_method_35_code
def yX1_told : MethodName := ⟨RX1, "told", "(I)I"⟩
def dkwX1_told_3 : List UInt8 := [180, 1, 38, 172]
abbrev dktX1_told_3 : List UInt8 := dkwX1_told_3 ++ []
def dkwX1_told_2 : List UInt8 := [160, 0, 10, 42, 180, 1, 56, 167, 0, 19, 27, 6, 160, 0, 10, 42, 180, 1, 62, 167, 0, 7, 42]
abbrev dktX1_told_2 : List UInt8 := dkwX1_told_2 ++ dktX1_told_3
def dkwX1_told_1 : List UInt8 := [154, 0, 10, 42, 180, 1, 41, 167, 0, 43, 27, 4, 160, 0, 10, 42, 180, 1, 53, 167, 0, 31, 27, 5]
abbrev dktX1_told_1 : List UInt8 := dkwX1_told_1 ++ dktX1_told_2
def dkwX1_told_0 : List UInt8 := [27, 155, 0, 8, 27, 7, 164, 0, 6, 16, 154, 172, 42, 180, 1, 34, 154, 0, 5, 2, 172, 27]
abbrev dktX1_told_0 : List UInt8 := dkwX1_told_0 ++ dktX1_told_1
theorem dksX1_told_0 : cX1_told.data.toList.drop 0 = dktX1_told_0 := by decide +kernel
theorem dksX1_told_1 : cX1_told.data.toList.drop 22 = dktX1_told_1 := dk_seg dksX1_told_0 22 rfl rfl
theorem dksX1_told_2 : cX1_told.data.toList.drop 46 = dktX1_told_2 := dk_seg dksX1_told_1 24 rfl rfl
theorem dksX1_told_3 : cX1_told.data.toList.drop 69 = dktX1_told_3 := dk_seg dksX1_told_2 23 rfl rfl
theorem dX1_told_0 : decode cX1_told 0 = .ok (.iload_n 1, 1) := dk_27 (dk_at dksX1_told_0 0 rfl rfl)
theorem dX1_told_1 : decode cX1_told 1 = .ok (.ifCond .lt 8, 3) := dk_155 0 8 (dk_at dksX1_told_0 1 rfl rfl)
theorem dX1_told_4 : decode cX1_told 4 = .ok (.iload_n 1, 1) := dk_27 (dk_at dksX1_told_0 4 rfl rfl)
theorem dX1_told_5 : decode cX1_told 5 = .ok (.iconst 4, 1) := dk_7 (dk_at dksX1_told_0 5 rfl rfl)
theorem dX1_told_6 : decode cX1_told 6 = .ok (.if_icmp .le 6, 3) := dk_164 0 6 (dk_at dksX1_told_0 6 rfl rfl)
theorem dX1_told_9 : decode cX1_told 9 = .ok (.bipush (-102), 2) := dk_16 154 (dk_at dksX1_told_0 9 rfl rfl)
theorem dX1_told_11 : decode cX1_told 11 = .ok (.ireturn, 1) := dk_172 (dk_at dksX1_told_0 11 rfl rfl)
theorem dX1_told_12 : decode cX1_told 12 = .ok (.aload_n 0, 1) := dk_42 (dk_at dksX1_told_0 12 rfl rfl)
theorem dX1_told_13 : decode cX1_told 13 = .ok (.getfield 290, 3) := dk_180 1 34 (dk_at dksX1_told_0 13 rfl rfl)
theorem dX1_told_16 : decode cX1_told 16 = .ok (.ifCond .ne 5, 3) := dk_154 0 5 (dk_at dksX1_told_0 16 rfl rfl)
theorem dX1_told_19 : decode cX1_told 19 = .ok (.iconst (-1), 1) := dk_2 (dk_at dksX1_told_0 19 rfl rfl)
theorem dX1_told_20 : decode cX1_told 20 = .ok (.ireturn, 1) := dk_172 (dk_at dksX1_told_0 20 rfl rfl)
theorem dX1_told_21 : decode cX1_told 21 = .ok (.iload_n 1, 1) := dk_27 (dk_at dksX1_told_0 21 rfl rfl)
theorem dX1_told_22 : decode cX1_told 22 = .ok (.ifCond .ne 10, 3) := dk_154 0 10 (dk_at dksX1_told_1 0 rfl rfl)
theorem dX1_told_25 : decode cX1_told 25 = .ok (.aload_n 0, 1) := dk_42 (dk_at dksX1_told_1 3 rfl rfl)
theorem dX1_told_26 : decode cX1_told 26 = .ok (.getfield 297, 3) := dk_180 1 41 (dk_at dksX1_told_1 4 rfl rfl)
theorem dX1_told_29 : decode cX1_told 29 = .ok (.goto 43, 3) := dk_167 0 43 (dk_at dksX1_told_1 7 rfl rfl)
theorem dX1_told_32 : decode cX1_told 32 = .ok (.iload_n 1, 1) := dk_27 (dk_at dksX1_told_1 10 rfl rfl)
theorem dX1_told_33 : decode cX1_told 33 = .ok (.iconst 1, 1) := dk_4 (dk_at dksX1_told_1 11 rfl rfl)
theorem dX1_told_34 : decode cX1_told 34 = .ok (.if_icmp .ne 10, 3) := dk_160 0 10 (dk_at dksX1_told_1 12 rfl rfl)
theorem dX1_told_37 : decode cX1_told 37 = .ok (.aload_n 0, 1) := dk_42 (dk_at dksX1_told_1 15 rfl rfl)
theorem dX1_told_38 : decode cX1_told 38 = .ok (.getfield 309, 3) := dk_180 1 53 (dk_at dksX1_told_1 16 rfl rfl)
theorem dX1_told_41 : decode cX1_told 41 = .ok (.goto 31, 3) := dk_167 0 31 (dk_at dksX1_told_1 19 rfl rfl)
theorem dX1_told_44 : decode cX1_told 44 = .ok (.iload_n 1, 1) := dk_27 (dk_at dksX1_told_1 22 rfl rfl)
theorem dX1_told_45 : decode cX1_told 45 = .ok (.iconst 2, 1) := dk_5 (dk_at dksX1_told_1 23 rfl rfl)
theorem dX1_told_46 : decode cX1_told 46 = .ok (.if_icmp .ne 10, 3) := dk_160 0 10 (dk_at dksX1_told_2 0 rfl rfl)
theorem dX1_told_49 : decode cX1_told 49 = .ok (.aload_n 0, 1) := dk_42 (dk_at dksX1_told_2 3 rfl rfl)
theorem dX1_told_50 : decode cX1_told 50 = .ok (.getfield 312, 3) := dk_180 1 56 (dk_at dksX1_told_2 4 rfl rfl)
theorem dX1_told_53 : decode cX1_told 53 = .ok (.goto 19, 3) := dk_167 0 19 (dk_at dksX1_told_2 7 rfl rfl)
theorem dX1_told_56 : decode cX1_told 56 = .ok (.iload_n 1, 1) := dk_27 (dk_at dksX1_told_2 10 rfl rfl)
theorem dX1_told_57 : decode cX1_told 57 = .ok (.iconst 3, 1) := dk_6 (dk_at dksX1_told_2 11 rfl rfl)
theorem dX1_told_58 : decode cX1_told 58 = .ok (.if_icmp .ne 10, 3) := dk_160 0 10 (dk_at dksX1_told_2 12 rfl rfl)
theorem dX1_told_61 : decode cX1_told 61 = .ok (.aload_n 0, 1) := dk_42 (dk_at dksX1_told_2 15 rfl rfl)
theorem dX1_told_62 : decode cX1_told 62 = .ok (.getfield 318, 3) := dk_180 1 62 (dk_at dksX1_told_2 16 rfl rfl)
theorem dX1_told_65 : decode cX1_told 65 = .ok (.goto 7, 3) := dk_167 0 7 (dk_at dksX1_told_2 19 rfl rfl)
theorem dX1_told_68 : decode cX1_told 68 = .ok (.aload_n 0, 1) := dk_42 (dk_at dksX1_told_2 22 rfl rfl)
theorem dX1_told_69 : decode cX1_told 69 = .ok (.getfield 294, 3) := dk_180 1 38 (dk_at dksX1_told_3 0 rfl rfl)
theorem dX1_told_72 : decode cX1_told 72 = .ok (.ireturn, 1) := dk_172 (dk_at dksX1_told_3 3 rfl rfl)
abbrev cX1_answer : ByteArray := prog_1_method_36_code
def yX1_answer : MethodName := ⟨RX1, "answer", "(I)J"⟩
def dkwX1_answer_1 : List UInt8 := [47, 167, 0, 6, 20, 1, 1, 173]
abbrev dktX1_answer_1 : List UInt8 := dkwX1_answer_1 ++ []
def dkwX1_answer_0 : List UInt8 := [42, 180, 1, 34, 153, 0, 24, 27, 155, 0, 20, 27, 42, 180, 1, 62, 162, 0, 12, 42, 180, 0, 177, 27]
abbrev dktX1_answer_0 : List UInt8 := dkwX1_answer_0 ++ dktX1_answer_1
theorem dksX1_answer_0 : cX1_answer.data.toList.drop 0 = dktX1_answer_0 := by decide +kernel
theorem dksX1_answer_1 : cX1_answer.data.toList.drop 24 = dktX1_answer_1 := dk_seg dksX1_answer_0 24 rfl rfl
theorem dX1_answer_0 : decode cX1_answer 0 = .ok (.aload_n 0, 1) := dk_42 (dk_at dksX1_answer_0 0 rfl rfl)
theorem dX1_answer_1 : decode cX1_answer 1 = .ok (.getfield 290, 3) := dk_180 1 34 (dk_at dksX1_answer_0 1 rfl rfl)
theorem dX1_answer_4 : decode cX1_answer 4 = .ok (.ifCond .eq 24, 3) := dk_153 0 24 (dk_at dksX1_answer_0 4 rfl rfl)
theorem dX1_answer_7 : decode cX1_answer 7 = .ok (.iload_n 1, 1) := dk_27 (dk_at dksX1_answer_0 7 rfl rfl)
theorem dX1_answer_8 : decode cX1_answer 8 = .ok (.ifCond .lt 20, 3) := dk_155 0 20 (dk_at dksX1_answer_0 8 rfl rfl)
theorem dX1_answer_11 : decode cX1_answer 11 = .ok (.iload_n 1, 1) := dk_27 (dk_at dksX1_answer_0 11 rfl rfl)
theorem dX1_answer_12 : decode cX1_answer 12 = .ok (.aload_n 0, 1) := dk_42 (dk_at dksX1_answer_0 12 rfl rfl)
theorem dX1_answer_13 : decode cX1_answer 13 = .ok (.getfield 318, 3) := dk_180 1 62 (dk_at dksX1_answer_0 13 rfl rfl)
theorem dX1_answer_16 : decode cX1_answer 16 = .ok (.if_icmp .ge 12, 3) := dk_162 0 12 (dk_at dksX1_answer_0 16 rfl rfl)
theorem dX1_answer_19 : decode cX1_answer 19 = .ok (.aload_n 0, 1) := dk_42 (dk_at dksX1_answer_0 19 rfl rfl)
theorem dX1_answer_20 : decode cX1_answer 20 = .ok (.getfield 177, 3) := dk_180 0 177 (dk_at dksX1_answer_0 20 rfl rfl)
theorem dX1_answer_23 : decode cX1_answer 23 = .ok (.iload_n 1, 1) := dk_27 (dk_at dksX1_answer_0 23 rfl rfl)
theorem dX1_answer_24 : decode cX1_answer 24 = .ok (.laload, 1) := dk_47 (dk_at dksX1_answer_1 0 rfl rfl)
theorem dX1_answer_25 : decode cX1_answer 25 = .ok (.goto 6, 3) := dk_167 0 6 (dk_at dksX1_answer_1 1 rfl rfl)
theorem dX1_answer_28 : decode cX1_answer 28 = .ok (.ldc2_w 257, 3) := dk_20 1 1 (dk_at dksX1_answer_1 4 rfl rfl)
theorem dX1_answer_31 : decode cX1_answer 31 = .ok (.lreturn, 1) := dk_173 (dk_at dksX1_answer_1 7 rfl rfl)
abbrev cX1_put_2 : ByteArray := prog_1_method_25_code
def yX1_put_2 : MethodName := ⟨RX1, "put", "(IIJ)I"⟩
def dkwX1_put_2_4 : List UInt8 := [167, 0, 4, 1, 184, 0, 241, 4, 172]
abbrev dktX1_put_2_4 : List UInt8 := dkwX1_put_2_4 ++ []
def dkwX1_put_2_3 : List UInt8 := [25, 5, 28, 33, 25, 8, 21, 7, 16, 10, 160, 0, 16, 33, 9, 148, 155, 0, 10, 33, 136, 188, 10]
abbrev dktX1_put_2_3 : List UInt8 := dkwX1_put_2_3 ++ dktX1_put_2_4
def dkwX1_put_2_2 : List UInt8 := [16, 8, 159, 0, 10, 21, 7, 16, 9, 160, 0, 11, 42, 33, 182, 0, 237, 167, 0, 4, 1, 58, 8]
abbrev dktX1_put_2_2 : List UInt8 := dkwX1_put_2_2 ++ dktX1_put_2_3
def dkwX1_put_2_1 : List UInt8 := [155, 0, 13, 42, 21, 7, 33, 182, 0, 230, 154, 0, 11, 187, 0, 234, 89, 183, 0, 236, 191, 21, 7]
abbrev dktX1_put_2_1 : List UInt8 := dkwX1_put_2_1 ++ dktX1_put_2_2
def dkwX1_put_2_0 : List UInt8 := [42, 27, 182, 0, 227, 58, 5, 25, 5, 184, 0, 35, 54, 6, 25, 5, 184, 0, 25, 54, 7, 21, 6]
abbrev dktX1_put_2_0 : List UInt8 := dkwX1_put_2_0 ++ dktX1_put_2_1
theorem dksX1_put_2_0 : cX1_put_2.data.toList.drop 0 = dktX1_put_2_0 := by decide +kernel
theorem dksX1_put_2_1 : cX1_put_2.data.toList.drop 23 = dktX1_put_2_1 := dk_seg dksX1_put_2_0 23 rfl rfl
theorem dksX1_put_2_2 : cX1_put_2.data.toList.drop 46 = dktX1_put_2_2 := dk_seg dksX1_put_2_1 23 rfl rfl
theorem dksX1_put_2_3 : cX1_put_2.data.toList.drop 69 = dktX1_put_2_3 := dk_seg dksX1_put_2_2 23 rfl rfl
theorem dksX1_put_2_4 : cX1_put_2.data.toList.drop 92 = dktX1_put_2_4 := dk_seg dksX1_put_2_3 23 rfl rfl
theorem dX1_put_2_0 : decode cX1_put_2 0 = .ok (.aload_n 0, 1) := dk_42 (dk_at dksX1_put_2_0 0 rfl rfl)
theorem dX1_put_2_1 : decode cX1_put_2 1 = .ok (.iload_n 1, 1) := dk_27 (dk_at dksX1_put_2_0 1 rfl rfl)
theorem dX1_put_2_2 : decode cX1_put_2 2 = .ok (.invokevirtual 227, 3) := dk_182 0 227 (dk_at dksX1_put_2_0 2 rfl rfl)
theorem dX1_put_2_5 : decode cX1_put_2 5 = .ok (.astore 5, 2) := dk_58 5 (dk_at dksX1_put_2_0 5 rfl rfl)
theorem dX1_put_2_7 : decode cX1_put_2 7 = .ok (.aload 5, 2) := dk_25 5 (dk_at dksX1_put_2_0 7 rfl rfl)
theorem dX1_put_2_9 : decode cX1_put_2 9 = .ok (.invokestatic 35, 3) := dk_184 0 35 (dk_at dksX1_put_2_0 9 rfl rfl)
theorem dX1_put_2_12 : decode cX1_put_2 12 = .ok (.istore 6, 2) := dk_54 6 (dk_at dksX1_put_2_0 12 rfl rfl)
theorem dX1_put_2_14 : decode cX1_put_2 14 = .ok (.aload 5, 2) := dk_25 5 (dk_at dksX1_put_2_0 14 rfl rfl)
theorem dX1_put_2_16 : decode cX1_put_2 16 = .ok (.invokestatic 25, 3) := dk_184 0 25 (dk_at dksX1_put_2_0 16 rfl rfl)
theorem dX1_put_2_19 : decode cX1_put_2 19 = .ok (.istore 7, 2) := dk_54 7 (dk_at dksX1_put_2_0 19 rfl rfl)
theorem dX1_put_2_21 : decode cX1_put_2 21 = .ok (.iload 6, 2) := dk_21 6 (dk_at dksX1_put_2_0 21 rfl rfl)
theorem dX1_put_2_23 : decode cX1_put_2 23 = .ok (.ifCond .lt 13, 3) := dk_155 0 13 (dk_at dksX1_put_2_1 0 rfl rfl)
theorem dX1_put_2_26 : decode cX1_put_2 26 = .ok (.aload_n 0, 1) := dk_42 (dk_at dksX1_put_2_1 3 rfl rfl)
theorem dX1_put_2_27 : decode cX1_put_2 27 = .ok (.iload 7, 2) := dk_21 7 (dk_at dksX1_put_2_1 4 rfl rfl)
theorem dX1_put_2_29 : decode cX1_put_2 29 = .ok (.lload_n 3, 1) := dk_33 (dk_at dksX1_put_2_1 6 rfl rfl)
theorem dX1_put_2_30 : decode cX1_put_2 30 = .ok (.invokevirtual 230, 3) := dk_182 0 230 (dk_at dksX1_put_2_1 7 rfl rfl)
theorem dX1_put_2_33 : decode cX1_put_2 33 = .ok (.ifCond .ne 11, 3) := dk_154 0 11 (dk_at dksX1_put_2_1 10 rfl rfl)
theorem dX1_put_2_36 : decode cX1_put_2 36 = .ok (.new 234, 3) := dk_187 0 234 (dk_at dksX1_put_2_1 13 rfl rfl)
theorem dX1_put_2_39 : decode cX1_put_2 39 = .ok (.dup, 1) := dk_89 (dk_at dksX1_put_2_1 16 rfl rfl)
theorem dX1_put_2_40 : decode cX1_put_2 40 = .ok (.invokespecial 236, 3) := dk_183 0 236 (dk_at dksX1_put_2_1 17 rfl rfl)
theorem dX1_put_2_43 : decode cX1_put_2 43 = .ok (.athrow, 1) := dk_191 (dk_at dksX1_put_2_1 20 rfl rfl)
theorem dX1_put_2_44 : decode cX1_put_2 44 = .ok (.iload 7, 2) := dk_21 7 (dk_at dksX1_put_2_1 21 rfl rfl)
theorem dX1_put_2_46 : decode cX1_put_2 46 = .ok (.bipush 8, 2) := dk_16 8 (dk_at dksX1_put_2_2 0 rfl rfl)
theorem dX1_put_2_48 : decode cX1_put_2 48 = .ok (.if_icmp .eq 10, 3) := dk_159 0 10 (dk_at dksX1_put_2_2 2 rfl rfl)
theorem dX1_put_2_51 : decode cX1_put_2 51 = .ok (.iload 7, 2) := dk_21 7 (dk_at dksX1_put_2_2 5 rfl rfl)
theorem dX1_put_2_53 : decode cX1_put_2 53 = .ok (.bipush 9, 2) := dk_16 9 (dk_at dksX1_put_2_2 7 rfl rfl)
theorem dX1_put_2_55 : decode cX1_put_2 55 = .ok (.if_icmp .ne 11, 3) := dk_160 0 11 (dk_at dksX1_put_2_2 9 rfl rfl)
theorem dX1_put_2_58 : decode cX1_put_2 58 = .ok (.aload_n 0, 1) := dk_42 (dk_at dksX1_put_2_2 12 rfl rfl)
theorem dX1_put_2_59 : decode cX1_put_2 59 = .ok (.lload_n 3, 1) := dk_33 (dk_at dksX1_put_2_2 13 rfl rfl)
theorem dX1_put_2_60 : decode cX1_put_2 60 = .ok (.invokevirtual 237, 3) := dk_182 0 237 (dk_at dksX1_put_2_2 14 rfl rfl)
theorem dX1_put_2_63 : decode cX1_put_2 63 = .ok (.goto 4, 3) := dk_167 0 4 (dk_at dksX1_put_2_2 17 rfl rfl)
theorem dX1_put_2_66 : decode cX1_put_2 66 = .ok (.aconst_null, 1) := dk_1 (dk_at dksX1_put_2_2 20 rfl rfl)
theorem dX1_put_2_67 : decode cX1_put_2 67 = .ok (.astore 8, 2) := dk_58 8 (dk_at dksX1_put_2_2 21 rfl rfl)
theorem dX1_put_2_69 : decode cX1_put_2 69 = .ok (.aload 5, 2) := dk_25 5 (dk_at dksX1_put_2_3 0 rfl rfl)
theorem dX1_put_2_71 : decode cX1_put_2 71 = .ok (.iload_n 2, 1) := dk_28 (dk_at dksX1_put_2_3 2 rfl rfl)
theorem dX1_put_2_72 : decode cX1_put_2 72 = .ok (.lload_n 3, 1) := dk_33 (dk_at dksX1_put_2_3 3 rfl rfl)
theorem dX1_put_2_73 : decode cX1_put_2 73 = .ok (.aload 8, 2) := dk_25 8 (dk_at dksX1_put_2_3 4 rfl rfl)
theorem dX1_put_2_75 : decode cX1_put_2 75 = .ok (.iload 7, 2) := dk_21 7 (dk_at dksX1_put_2_3 6 rfl rfl)
theorem dX1_put_2_77 : decode cX1_put_2 77 = .ok (.bipush 10, 2) := dk_16 10 (dk_at dksX1_put_2_3 8 rfl rfl)
theorem dX1_put_2_79 : decode cX1_put_2 79 = .ok (.if_icmp .ne 16, 3) := dk_160 0 16 (dk_at dksX1_put_2_3 10 rfl rfl)
theorem dX1_put_2_82 : decode cX1_put_2 82 = .ok (.lload_n 3, 1) := dk_33 (dk_at dksX1_put_2_3 13 rfl rfl)
theorem dX1_put_2_83 : decode cX1_put_2 83 = .ok (.lconst 0, 1) := dk_9 (dk_at dksX1_put_2_3 14 rfl rfl)
theorem dX1_put_2_84 : decode cX1_put_2 84 = .ok (.lcmp, 1) := dk_148 (dk_at dksX1_put_2_3 15 rfl rfl)
theorem dX1_put_2_85 : decode cX1_put_2 85 = .ok (.ifCond .lt 10, 3) := dk_155 0 10 (dk_at dksX1_put_2_3 16 rfl rfl)
theorem dX1_put_2_88 : decode cX1_put_2 88 = .ok (.lload_n 3, 1) := dk_33 (dk_at dksX1_put_2_3 19 rfl rfl)
theorem dX1_put_2_89 : decode cX1_put_2 89 = .ok (.l2i, 1) := dk_136 (dk_at dksX1_put_2_3 20 rfl rfl)
theorem dX1_put_2_90 : decode cX1_put_2 90 = .ok (.newarray .int, 2) := dk_188_10 (dk_at dksX1_put_2_3 21 rfl rfl)
theorem dX1_put_2_92 : decode cX1_put_2 92 = .ok (.goto 4, 3) := dk_167 0 4 (dk_at dksX1_put_2_4 0 rfl rfl)
theorem dX1_put_2_95 : decode cX1_put_2 95 = .ok (.aconst_null, 1) := dk_1 (dk_at dksX1_put_2_4 3 rfl rfl)
theorem dX1_put_2_96 : decode cX1_put_2 96 = .ok (.invokestatic 241, 3) := dk_184 0 241 (dk_at dksX1_put_2_4 4 rfl rfl)
theorem dX1_put_2_99 : decode cX1_put_2 99 = .ok (.iconst 1, 1) := dk_4 (dk_at dksX1_put_2_4 7 rfl rfl)
theorem dX1_put_2_100 : decode cX1_put_2 100 = .ok (.ireturn, 1) := dk_172 (dk_at dksX1_put_2_4 8 rfl rfl)
abbrev cX1_rowOrNull : ByteArray := prog_1_method_24_code
def yX1_rowOrNull : MethodName := ⟨RX1, "rowOrNull", "(I)Ljava/lang/Object;"⟩
def dkwX1_rowOrNull_0 : List UInt8 := [42, 27, 182, 0, 224, 153, 0, 14, 42, 180, 0, 115, 27, 182, 0, 184, 167, 0, 4, 1, 176]
abbrev dktX1_rowOrNull_0 : List UInt8 := dkwX1_rowOrNull_0 ++ []
theorem dksX1_rowOrNull_0 : cX1_rowOrNull.data.toList.drop 0 = dktX1_rowOrNull_0 := by decide +kernel
theorem dX1_rowOrNull_0 : decode cX1_rowOrNull 0 = .ok (.aload_n 0, 1) := dk_42 (dk_at dksX1_rowOrNull_0 0 rfl rfl)
theorem dX1_rowOrNull_1 : decode cX1_rowOrNull 1 = .ok (.iload_n 1, 1) := dk_27 (dk_at dksX1_rowOrNull_0 1 rfl rfl)
theorem dX1_rowOrNull_2 : decode cX1_rowOrNull 2 = .ok (.invokevirtual 224, 3) := dk_182 0 224 (dk_at dksX1_rowOrNull_0 2 rfl rfl)
theorem dX1_rowOrNull_5 : decode cX1_rowOrNull 5 = .ok (.ifCond .eq 14, 3) := dk_153 0 14 (dk_at dksX1_rowOrNull_0 5 rfl rfl)
theorem dX1_rowOrNull_8 : decode cX1_rowOrNull 8 = .ok (.aload_n 0, 1) := dk_42 (dk_at dksX1_rowOrNull_0 8 rfl rfl)
theorem dX1_rowOrNull_9 : decode cX1_rowOrNull 9 = .ok (.getfield 115, 3) := dk_180 0 115 (dk_at dksX1_rowOrNull_0 9 rfl rfl)
theorem dX1_rowOrNull_12 : decode cX1_rowOrNull 12 = .ok (.iload_n 1, 1) := dk_27 (dk_at dksX1_rowOrNull_0 12 rfl rfl)
theorem dX1_rowOrNull_13 : decode cX1_rowOrNull 13 = .ok (.invokevirtual 184, 3) := dk_182 0 184 (dk_at dksX1_rowOrNull_0 13 rfl rfl)
theorem dX1_rowOrNull_16 : decode cX1_rowOrNull 16 = .ok (.goto 4, 3) := dk_167 0 4 (dk_at dksX1_rowOrNull_0 16 rfl rfl)
theorem dX1_rowOrNull_19 : decode cX1_rowOrNull 19 = .ok (.aconst_null, 1) := dk_1 (dk_at dksX1_rowOrNull_0 19 rfl rfl)
theorem dX1_rowOrNull_20 : decode cX1_rowOrNull 20 = .ok (.areturn, 1) := dk_176 (dk_at dksX1_rowOrNull_0 20 rfl rfl)
abbrev cX1_at : ByteArray := prog_1_method_26_code
def yX1_at : MethodName := ⟨RX1, "at", "(II)J"⟩
def dkwX1_at_0 : List UInt8 := [42, 27, 182, 0, 227, 28, 184, 0, 91, 173]
abbrev dktX1_at_0 : List UInt8 := dkwX1_at_0 ++ []
theorem dksX1_at_0 : cX1_at.data.toList.drop 0 = dktX1_at_0 := by decide +kernel
theorem dX1_at_0 : decode cX1_at 0 = .ok (.aload_n 0, 1) := dk_42 (dk_at dksX1_at_0 0 rfl rfl)
theorem dX1_at_1 : decode cX1_at 1 = .ok (.iload_n 1, 1) := dk_27 (dk_at dksX1_at_0 1 rfl rfl)
theorem dX1_at_2 : decode cX1_at 2 = .ok (.invokevirtual 227, 3) := dk_182 0 227 (dk_at dksX1_at_0 2 rfl rfl)
theorem dX1_at_5 : decode cX1_at 5 = .ok (.iload_n 2, 1) := dk_28 (dk_at dksX1_at_0 5 rfl rfl)
theorem dX1_at_6 : decode cX1_at 6 = .ok (.invokestatic 91, 3) := dk_184 0 91 (dk_at dksX1_at_0 6 rfl rfl)
theorem dX1_at_9 : decode cX1_at 9 = .ok (.lreturn, 1) := dk_173 (dk_at dksX1_at_0 9 rfl rfl)
abbrev cX1_inner : ByteArray := prog_1_method_27_code
def yX1_inner : MethodName := ⟨RX1, "inner", "(IIII)I"⟩
def dkwX1_inner_1 : List UInt8 := [21, 6, 172]
abbrev dktX1_inner_1 : List UInt8 := dkwX1_inner_1 ++ []
def dkwX1_inner_0 : List UInt8 := [42, 27, 182, 0, 227, 192, 0, 29, 28, 50, 58, 5, 25, 5, 29, 46, 54, 6, 25, 5, 29, 21, 4, 79]
abbrev dktX1_inner_0 : List UInt8 := dkwX1_inner_0 ++ dktX1_inner_1
theorem dksX1_inner_0 : cX1_inner.data.toList.drop 0 = dktX1_inner_0 := by decide +kernel
theorem dksX1_inner_1 : cX1_inner.data.toList.drop 24 = dktX1_inner_1 := dk_seg dksX1_inner_0 24 rfl rfl
theorem dX1_inner_0 : decode cX1_inner 0 = .ok (.aload_n 0, 1) := dk_42 (dk_at dksX1_inner_0 0 rfl rfl)
theorem dX1_inner_1 : decode cX1_inner 1 = .ok (.iload_n 1, 1) := dk_27 (dk_at dksX1_inner_0 1 rfl rfl)
theorem dX1_inner_2 : decode cX1_inner 2 = .ok (.invokevirtual 227, 3) := dk_182 0 227 (dk_at dksX1_inner_0 2 rfl rfl)
theorem dX1_inner_5 : decode cX1_inner 5 = .ok (.checkcast 29, 3) := dk_192 0 29 (dk_at dksX1_inner_0 5 rfl rfl)
theorem dX1_inner_8 : decode cX1_inner 8 = .ok (.iload_n 2, 1) := dk_28 (dk_at dksX1_inner_0 8 rfl rfl)
theorem dX1_inner_9 : decode cX1_inner 9 = .ok (.aaload, 1) := dk_50 (dk_at dksX1_inner_0 9 rfl rfl)
theorem dX1_inner_10 : decode cX1_inner 10 = .ok (.astore 5, 2) := dk_58 5 (dk_at dksX1_inner_0 10 rfl rfl)
theorem dX1_inner_12 : decode cX1_inner 12 = .ok (.aload 5, 2) := dk_25 5 (dk_at dksX1_inner_0 12 rfl rfl)
theorem dX1_inner_14 : decode cX1_inner 14 = .ok (.iload_n 3, 1) := dk_29 (dk_at dksX1_inner_0 14 rfl rfl)
theorem dX1_inner_15 : decode cX1_inner 15 = .ok (.iaload, 1) := dk_46 (dk_at dksX1_inner_0 15 rfl rfl)
theorem dX1_inner_16 : decode cX1_inner 16 = .ok (.istore 6, 2) := dk_54 6 (dk_at dksX1_inner_0 16 rfl rfl)
theorem dX1_inner_18 : decode cX1_inner 18 = .ok (.aload 5, 2) := dk_25 5 (dk_at dksX1_inner_0 18 rfl rfl)
theorem dX1_inner_20 : decode cX1_inner 20 = .ok (.iload_n 3, 1) := dk_29 (dk_at dksX1_inner_0 20 rfl rfl)
theorem dX1_inner_21 : decode cX1_inner 21 = .ok (.iload 4, 2) := dk_21 4 (dk_at dksX1_inner_0 21 rfl rfl)
theorem dX1_inner_23 : decode cX1_inner 23 = .ok (.iastore, 1) := dk_79 (dk_at dksX1_inner_0 23 rfl rfl)
theorem dX1_inner_24 : decode cX1_inner 24 = .ok (.iload 6, 2) := dk_21 6 (dk_at dksX1_inner_1 0 rfl rfl)
theorem dX1_inner_26 : decode cX1_inner 26 = .ok (.ireturn, 1) := dk_172 (dk_at dksX1_inner_1 2 rfl rfl)
theorem q50 : (Jvm.Cond.initialized "NativeSubset") ∈ lw_all := lw_g (lw_at lw_m1 1 rfl) rfl
theorem q99 : (Jvm.Cond.instantiable "NativeSubset" (17 : Nat)) ∈ lw_all := lw_g (lw_at lw_m1 50 rfl) rfl
theorem q101 : (Jvm.Cond.instanceMethod ({ cls := "NativeSubset", name := "<init>", desc := "()V" } : Jvm.MethodName)) ∈ lw_all := lw_g (lw_at lw_m1 52 rfl) rfl
theorem q102 : (Jvm.Cond.code ({ cls := "NativeSubset", name := "<init>", desc := "()V" } : Jvm.MethodName) prog_1_method_15_code (1 : Nat) (Option.none : Option Jvm.ClassFile.FieldType)) ∈ lw_all := lw_g (lw_at lw_m1 53 rfl) rfl
theorem q103 : (Jvm.Cond.methodLink "NativeSubset" (109 : Nat) ({ cls := "java/lang/Object", name := "<init>", desc := "()V" } : Jvm.MethodName)) ∈ lw_all := lw_g (lw_at lw_m1 54 rfl) rfl
theorem q106 : (Jvm.Cond.classLink "NativeSubset" (112 : Nat) "java/util/ArrayList") ∈ lw_all := lw_g (lw_at lw_m1 57 rfl) rfl
theorem q108 : (Jvm.Cond.methodLink "NativeSubset" (114 : Nat) ({ cls := "java/util/ArrayList", name := "<init>", desc := "()V" } : Jvm.MethodName)) ∈ lw_all := lw_g (lw_at lw_m1 59 rfl) rfl
theorem q132 : (Jvm.Cond.methodLink "NativeSubset" (122 : Nat) ({ cls := "NativeSubset", name := "newPlans", desc := "()[LNativeSubset$Plan;" } : Jvm.MethodName)) ∈ lw_all := lw_g (lw_at lw_m1 83 rfl) rfl
theorem q133 : (Jvm.Cond.static ({ cls := "NativeSubset", name := "newPlans", desc := "()[LNativeSubset$Plan;" } : Jvm.MethodName)) ∈ lw_all := lw_g (lw_at lw_m1 84 rfl) rfl
theorem q134 : (Jvm.Cond.code ({ cls := "NativeSubset", name := "newPlans", desc := "()[LNativeSubset$Plan;" } : Jvm.MethodName) prog_1_method_14_code (2 : Nat) (Option.some (Jvm.ClassFile.FieldType.array (Jvm.ClassFile.FieldType.object "NativeSubset$Plan")))) ∈ lw_all := lw_g (lw_at lw_m1 85 rfl) rfl
theorem q135 : (Jvm.Cond.classLink "NativeSubset" (104 : Nat) "NativeSubset$Plan") ∈ lw_all := lw_g (lw_at lw_m1 86 rfl) rfl
theorem q138 : (Jvm.Cond.methodLinkNest "NativeSubset" (106 : Nat) ({ cls := "NativeSubset$Plan", name := "<init>", desc := "()V" } : Jvm.MethodName) "NativeSubset") ∈ lw_tbl := lw_at lw_m1 89 rfl
theorem q146 : (Jvm.Cond.fieldLinkNest "NativeSubset" (272 : Nat) "NativeSubset$Plan" "acts" "[LNativeSubset$Act;" "NativeSubset") ∈ lw_tbl := lw_at lw_m1 97 rfl
theorem q148 : (Jvm.Cond.fieldLinkNest "NativeSubset" (270 : Nat) "NativeSubset$Plan" "size" "I" "NativeSubset") ∈ lw_tbl := lw_at lw_m1 99 rfl
theorem q154 : (Jvm.Cond.classLink "NativeSubset" (130 : Nat) "NativeSubset$Helper") ∈ lw_all := lw_g (lw_at lw_m1 105 rfl) rfl
theorem q156 : (Jvm.Cond.classLink "NativeSubset" (132 : Nat) "NativeSubset$Copying") ∈ lw_all := lw_g (lw_at lw_m1 107 rfl) rfl
theorem q158 : (Jvm.Cond.methodLink "NativeSubset" (134 : Nat) ({ cls := "NativeSubset$Copying", name := "<init>", desc := "(LNativeSubset;)V" } : Jvm.MethodName)) ∈ lw_all := lw_g (lw_at lw_m1 109 rfl) rfl
theorem q175 : (Jvm.Cond.classLink "NativeSubset" (137 : Nat) "NativeSubset$Cloning") ∈ lw_all := lw_g (lw_at lw_m1 126 rfl) rfl
theorem q177 : (Jvm.Cond.methodLink "NativeSubset" (139 : Nat) ({ cls := "NativeSubset$Cloning", name := "<init>", desc := "(LNativeSubset;)V" } : Jvm.MethodName)) ∈ lw_all := lw_g (lw_at lw_m1 128 rfl) rfl
theorem q199 : (Jvm.Cond.classLink "NativeSubset" (140 : Nat) "NativeSubset$Filling") ∈ lw_all := lw_g (lw_at lw_m1 150 rfl) rfl
theorem q201 : (Jvm.Cond.methodLink "NativeSubset" (142 : Nat) ({ cls := "NativeSubset$Filling", name := "<init>", desc := "(LNativeSubset;)V" } : Jvm.MethodName)) ∈ lw_all := lw_g (lw_at lw_m1 152 rfl) rfl
theorem q220 : (Jvm.Cond.classLink "NativeSubset" (143 : Nat) "NativeSubset$Equal") ∈ lw_all := lw_g (lw_at lw_m1 171 rfl) rfl
theorem q222 : (Jvm.Cond.methodLink "NativeSubset" (145 : Nat) ({ cls := "NativeSubset$Equal", name := "<init>", desc := "(LNativeSubset;)V" } : Jvm.MethodName)) ∈ lw_all := lw_g (lw_at lw_m1 173 rfl) rfl
theorem q241 : (Jvm.Cond.classLink "NativeSubset" (146 : Nat) "NativeSubset$Order") ∈ lw_all := lw_g (lw_at lw_m1 192 rfl) rfl
theorem q243 : (Jvm.Cond.methodLink "NativeSubset" (148 : Nat) ({ cls := "NativeSubset$Order", name := "<init>", desc := "(LNativeSubset;)V" } : Jvm.MethodName)) ∈ lw_all := lw_g (lw_at lw_m1 194 rfl) rfl
theorem q257 : (Jvm.Cond.classLink "NativeSubset" (149 : Nat) "NativeSubset$Sum") ∈ lw_all := lw_g (lw_at lw_m1 208 rfl) rfl
theorem q259 : (Jvm.Cond.methodLink "NativeSubset" (151 : Nat) ({ cls := "NativeSubset$Sum", name := "<init>", desc := "(LNativeSubset;)V" } : Jvm.MethodName)) ∈ lw_all := lw_g (lw_at lw_m1 210 rfl) rfl
theorem q272 : (Jvm.Cond.classLink "NativeSubset" (152 : Nat) "NativeSubset$Greatest") ∈ lw_all := lw_g (lw_at lw_m1 223 rfl) rfl
theorem q274 : (Jvm.Cond.methodLink "NativeSubset" (154 : Nat) ({ cls := "NativeSubset$Greatest", name := "<init>", desc := "(LNativeSubset;)V" } : Jvm.MethodName)) ∈ lw_all := lw_g (lw_at lw_m1 225 rfl) rfl
theorem q287 : (Jvm.Cond.classLink "NativeSubset" (155 : Nat) "NativeSubset$Turning") ∈ lw_all := lw_g (lw_at lw_m1 238 rfl) rfl
theorem q289 : (Jvm.Cond.methodLink "NativeSubset" (157 : Nat) ({ cls := "NativeSubset$Turning", name := "<init>", desc := "(LNativeSubset;)V" } : Jvm.MethodName)) ∈ lw_all := lw_g (lw_at lw_m2 0 rfl) rfl
theorem q303 : (Jvm.Cond.classLink "NativeSubset" (158 : Nat) "NativeSubset$Sorting") ∈ lw_all := lw_g (lw_at lw_m2 14 rfl) rfl
theorem q305 : (Jvm.Cond.methodLink "NativeSubset" (160 : Nat) ({ cls := "NativeSubset$Sorting", name := "<init>", desc := "(LNativeSubset;)V" } : Jvm.MethodName)) ∈ lw_all := lw_g (lw_at lw_m2 16 rfl) rfl
theorem q319 : (Jvm.Cond.classLink "NativeSubset" (161 : Nat) "NativeSubset$Finding") ∈ lw_all := lw_g (lw_at lw_m2 30 rfl) rfl
theorem q321 : (Jvm.Cond.methodLink "NativeSubset" (163 : Nat) ({ cls := "NativeSubset$Finding", name := "<init>", desc := "(LNativeSubset;)V" } : Jvm.MethodName)) ∈ lw_all := lw_g (lw_at lw_m2 32 rfl) rfl
theorem q335 : (Jvm.Cond.classLink "NativeSubset" (164 : Nat) "NativeSubset$Calling") ∈ lw_all := lw_g (lw_at lw_m2 46 rfl) rfl
theorem q337 : (Jvm.Cond.methodLink "NativeSubset" (166 : Nat) ({ cls := "NativeSubset$Calling", name := "<init>", desc := "(LNativeSubset;)V" } : Jvm.MethodName)) ∈ lw_all := lw_g (lw_at lw_m2 48 rfl) rfl
theorem q347 : (Jvm.Cond.classLink "NativeSubset" (167 : Nat) "NativeSubset$Giving") ∈ lw_all := lw_g (lw_at lw_m2 58 rfl) rfl
theorem q349 : (Jvm.Cond.methodLink "NativeSubset" (169 : Nat) ({ cls := "NativeSubset$Giving", name := "<init>", desc := "(LNativeSubset;)V" } : Jvm.MethodName)) ∈ lw_all := lw_g (lw_at lw_m2 60 rfl) rfl
theorem q359 : (Jvm.Cond.classLink "NativeSubset" (170 : Nat) "NativeSubset$Fees") ∈ lw_all := lw_g (lw_at lw_m2 70 rfl) rfl
theorem q361 : (Jvm.Cond.methodLink "NativeSubset" (172 : Nat) ({ cls := "NativeSubset$Fees", name := "<init>", desc := "(LNativeSubset;)V" } : Jvm.MethodName)) ∈ lw_all := lw_g (lw_at lw_m2 72 rfl) rfl
theorem q382 : (Jvm.Cond.fieldLink "NativeSubset" (115 : Nat) "NativeSubset" "rows" "Ljava/util/ArrayList;") ∈ lw_all := lw_g (lw_at lw_m2 93 rfl) rfl
theorem q383 : (Jvm.Cond.fieldLink "NativeSubset" (119 : Nat) "NativeSubset" "units" "Ljava/util/ArrayList;") ∈ lw_all := lw_g (lw_at lw_m2 94 rfl) rfl
theorem q385 : (Jvm.Cond.fieldLink "NativeSubset" (126 : Nat) "NativeSubset" "plans" "[LNativeSubset$Plan;") ∈ lw_all := lw_g (lw_at lw_m2 96 rfl) rfl
theorem q387 : (Jvm.Cond.fieldLink "NativeSubset" (173 : Nat) "NativeSubset" "helpers" "[LNativeSubset$Helper;") ∈ lw_all := lw_g (lw_at lw_m2 98 rfl) rfl
theorem q391 : (Jvm.Cond.fieldLink "NativeSubset" (254 : Nat) "NativeSubset" "deepest" "I") ∈ lw_all := lw_g (lw_at lw_m2 102 rfl) rfl
theorem q393 : (Jvm.Cond.fieldLink "NativeSubset" (245 : Nat) "NativeSubset" "acts" "I") ∈ lw_all := lw_g (lw_at lw_m2 104 rfl) rfl
theorem q395 : (Jvm.Cond.fieldLink "NativeSubset" (248 : Nat) "NativeSubset" "undone" "I") ∈ lw_all := lw_g (lw_at lw_m2 106 rfl) rfl
theorem q396 : (Jvm.Cond.fieldLink "NativeSubset" (95 : Nat) "NativeSubset" "faults" "I") ∈ lw_all := lw_g (lw_at lw_m2 107 rfl) rfl
theorem q397 : (Jvm.Cond.fieldLink "NativeSubset" (251 : Nat) "NativeSubset" "allPaid" "I") ∈ lw_all := lw_g (lw_at lw_m2 108 rfl) rfl
theorem q398 : (Jvm.Cond.fieldLink "NativeSubset" (290 : Nat) "NativeSubset" "hasRun" "Z") ∈ lw_all := lw_g (lw_at lw_m2 109 rfl) rfl
theorem q399 : (Jvm.Cond.fieldLink "NativeSubset" (297 : Nat) "NativeSubset" "result" "I") ∈ lw_all := lw_g (lw_at lw_m2 110 rfl) rfl
theorem q400 : (Jvm.Cond.fieldLink "NativeSubset" (309 : Nat) "NativeSubset" "paidNow" "I") ∈ lw_all := lw_g (lw_at lw_m2 111 rfl) rfl
theorem q401 : (Jvm.Cond.fieldLink "NativeSubset" (312 : Nat) "NativeSubset" "actsNow" "I") ∈ lw_all := lw_g (lw_at lw_m2 112 rfl) rfl
theorem q402 : (Jvm.Cond.fieldLink "NativeSubset" (318 : Nat) "NativeSubset" "endedNow" "I") ∈ lw_all := lw_g (lw_at lw_m2 113 rfl) rfl
theorem q404 : (Jvm.Cond.fieldLink "NativeSubset" (294 : Nat) "NativeSubset" "caught" "I") ∈ lw_all := lw_g (lw_at lw_m2 115 rfl) rfl
theorem q406 : (Jvm.Cond.fieldLink "NativeSubset" (177 : Nat) "NativeSubset" "answers" "[J") ∈ lw_all := lw_g (lw_at lw_m2 117 rfl) rfl
theorem q407 : (Jvm.Cond.laysFinal "NativeSubset" "NativeSubset" "rows" "Ljava/util/ArrayList;") ∈ lw_all := lw_g (lw_at lw_m2 118 rfl) rfl
theorem q408 : (Jvm.Cond.soleField "NativeSubset" "rows") ∈ lw_all := lw_g (lw_at lw_m2 119 rfl) rfl
theorem q409 : (Jvm.Cond.laysFinal "NativeSubset" "NativeSubset" "units" "Ljava/util/ArrayList;") ∈ lw_all := lw_g (lw_at lw_m2 120 rfl) rfl
theorem q410 : (Jvm.Cond.soleField "NativeSubset" "units") ∈ lw_all := lw_g (lw_at lw_m2 121 rfl) rfl
theorem q411 : (Jvm.Cond.laysFinal "NativeSubset" "NativeSubset" "plans" "[LNativeSubset$Plan;") ∈ lw_all := lw_g (lw_at lw_m2 122 rfl) rfl
theorem q412 : (Jvm.Cond.soleField "NativeSubset" "plans") ∈ lw_all := lw_g (lw_at lw_m2 123 rfl) rfl
theorem q413 : (Jvm.Cond.laysFinal "NativeSubset" "NativeSubset" "helpers" "[LNativeSubset$Helper;") ∈ lw_all := lw_g (lw_at lw_m2 124 rfl) rfl
theorem q414 : (Jvm.Cond.soleField "NativeSubset" "helpers") ∈ lw_all := lw_g (lw_at lw_m2 125 rfl) rfl
theorem q415 : (Jvm.Cond.lays "NativeSubset" "NativeSubset" "deep" "I") ∈ lw_all := lw_g (lw_at lw_m2 126 rfl) rfl
theorem q416 : (Jvm.Cond.soleField "NativeSubset" "deep") ∈ lw_all := lw_g (lw_at lw_m2 127 rfl) rfl
theorem q417 : (Jvm.Cond.lays "NativeSubset" "NativeSubset" "deepest" "I") ∈ lw_all := lw_g (lw_at lw_m2 128 rfl) rfl
theorem q418 : (Jvm.Cond.soleField "NativeSubset" "deepest") ∈ lw_all := lw_g (lw_at lw_m2 129 rfl) rfl
theorem q419 : (Jvm.Cond.lays "NativeSubset" "NativeSubset" "acts" "I") ∈ lw_all := lw_g (lw_at lw_m2 130 rfl) rfl
theorem q420 : (Jvm.Cond.soleField "NativeSubset" "acts") ∈ lw_all := lw_g (lw_at lw_m2 131 rfl) rfl
theorem q421 : (Jvm.Cond.lays "NativeSubset" "NativeSubset" "undone" "I") ∈ lw_all := lw_g (lw_at lw_m2 132 rfl) rfl
theorem q422 : (Jvm.Cond.soleField "NativeSubset" "undone") ∈ lw_all := lw_g (lw_at lw_m2 133 rfl) rfl
theorem q423 : (Jvm.Cond.lays "NativeSubset" "NativeSubset" "faults" "I") ∈ lw_all := lw_g (lw_at lw_m2 134 rfl) rfl
theorem q424 : (Jvm.Cond.soleField "NativeSubset" "faults") ∈ lw_all := lw_g (lw_at lw_m2 135 rfl) rfl
theorem q425 : (Jvm.Cond.lays "NativeSubset" "NativeSubset" "allPaid" "I") ∈ lw_all := lw_g (lw_at lw_m2 136 rfl) rfl
theorem q426 : (Jvm.Cond.soleField "NativeSubset" "allPaid") ∈ lw_all := lw_g (lw_at lw_m2 137 rfl) rfl
theorem q427 : (Jvm.Cond.lays "NativeSubset" "NativeSubset" "hasRun" "Z") ∈ lw_all := lw_g (lw_at lw_m2 138 rfl) rfl
theorem q428 : (Jvm.Cond.soleField "NativeSubset" "hasRun") ∈ lw_all := lw_g (lw_at lw_m2 139 rfl) rfl
theorem q429 : (Jvm.Cond.lays "NativeSubset" "NativeSubset" "result" "I") ∈ lw_all := lw_g (lw_at lw_m2 140 rfl) rfl
theorem q430 : (Jvm.Cond.soleField "NativeSubset" "result") ∈ lw_all := lw_g (lw_at lw_m2 141 rfl) rfl
theorem q431 : (Jvm.Cond.lays "NativeSubset" "NativeSubset" "paidNow" "I") ∈ lw_all := lw_g (lw_at lw_m2 142 rfl) rfl
theorem q432 : (Jvm.Cond.soleField "NativeSubset" "paidNow") ∈ lw_all := lw_g (lw_at lw_m2 143 rfl) rfl
theorem q433 : (Jvm.Cond.lays "NativeSubset" "NativeSubset" "actsNow" "I") ∈ lw_all := lw_g (lw_at lw_m2 144 rfl) rfl
theorem q434 : (Jvm.Cond.soleField "NativeSubset" "actsNow") ∈ lw_all := lw_g (lw_at lw_m2 145 rfl) rfl
theorem q435 : (Jvm.Cond.lays "NativeSubset" "NativeSubset" "endedNow" "I") ∈ lw_all := lw_g (lw_at lw_m2 146 rfl) rfl
theorem q436 : (Jvm.Cond.soleField "NativeSubset" "endedNow") ∈ lw_all := lw_g (lw_at lw_m2 147 rfl) rfl
theorem q437 : (Jvm.Cond.lays "NativeSubset" "NativeSubset" "caught" "I") ∈ lw_all := lw_g (lw_at lw_m2 148 rfl) rfl
theorem q438 : (Jvm.Cond.soleField "NativeSubset" "caught") ∈ lw_all := lw_g (lw_at lw_m2 149 rfl) rfl
theorem q439 : (Jvm.Cond.laysFinal "NativeSubset" "NativeSubset" "answers" "[J") ∈ lw_all := lw_g (lw_at lw_m2 150 rfl) rfl
theorem q440 : (Jvm.Cond.soleField "NativeSubset" "answers") ∈ lw_all := lw_g (lw_at lw_m2 151 rfl) rfl
theorem q441 : (Jvm.Cond.superclass "NativeSubset" "java/lang/Object") ∈ lw_all := lw_g (lw_at lw_m2 152 rfl) rfl
theorem q444 : (Jvm.Cond.instanceMethod ({ cls := "NativeSubset", name := "row", desc := "(II)I" } : Jvm.MethodName)) ∈ lw_all := lw_g (lw_at lw_m2 155 rfl) rfl
theorem q445 : (Jvm.Cond.selects "NativeSubset" ({ cls := "NativeSubset", name := "row", desc := "(II)I" } : Jvm.MethodName) ({ cls := "NativeSubset", name := "row", desc := "(II)I" } : Jvm.MethodName)) ∈ lw_all := lw_g (lw_at lw_m2 156 rfl) rfl
theorem q446 : (Jvm.Cond.code ({ cls := "NativeSubset", name := "row", desc := "(II)I" } : Jvm.MethodName) prog_1_method_22_code (3 : Nat) (Option.some Jvm.ClassFile.FieldType.int)) ∈ lw_all := lw_g (lw_at lw_m2 157 rfl) rfl
theorem q447 : (Jvm.Cond.methodLink "NativeSubset" (180 : Nat) ({ cls := "java/util/ArrayList", name := "size", desc := "()I" } : Jvm.MethodName)) ∈ lw_all := lw_g (lw_at lw_m2 158 rfl) rfl
theorem q451 : (Jvm.Cond.methodLink "NativeSubset" (38 : Nat) ({ cls := "NativeSubset", name := "made", desc := "(II)Ljava/lang/Object;" } : Jvm.MethodName)) ∈ lw_all := lw_g (lw_at lw_m2 162 rfl) rfl
theorem q452 : (Jvm.Cond.static ({ cls := "NativeSubset", name := "made", desc := "(II)Ljava/lang/Object;" } : Jvm.MethodName)) ∈ lw_all := lw_g (lw_at lw_m2 163 rfl) rfl
theorem q453 : (Jvm.Cond.code ({ cls := "NativeSubset", name := "made", desc := "(II)Ljava/lang/Object;" } : Jvm.MethodName) prog_1_method_3_code (2 : Nat) (Option.some (Jvm.ClassFile.FieldType.object "java/lang/Object"))) ∈ lw_all := lw_g (lw_at lw_m2 164 rfl) rfl
theorem q454 : (Jvm.Cond.classLink "NativeSubset" (31 : Nat) "NativeSubset$Unit") ∈ lw_all := lw_g (lw_at lw_m2 165 rfl) rfl
theorem q456 : (Jvm.Cond.classLink "NativeSubset" (33 : Nat) "NativeSubset$Card") ∈ lw_all := lw_g (lw_at lw_m2 167 rfl) rfl
theorem q458 : (Jvm.Cond.classLink "NativeSubset" (17 : Nat) "[I") ∈ lw_all := lw_g (lw_at lw_m2 169 rfl) rfl
theorem q460 : (Jvm.Cond.methodLink "NativeSubset" (214 : Nat) ({ cls := "java/util/ArrayList", name := "add", desc := "(Ljava/lang/Object;)Z" } : Jvm.MethodName)) ∈ lw_all := lw_g (lw_at lw_m2 171 rfl) rfl
theorem q492 : (Jvm.Cond.selects "NativeSubset" ({ cls := "java/lang/Object", name := "getClass", desc := "()Ljava/lang/Class;" } : Jvm.MethodName) ({ cls := "java/lang/Object", name := "getClass", desc := "()Ljava/lang/Class;" } : Jvm.MethodName)) ∈ lw_all := lw_g (lw_at lw_m2 203 rfl) rfl
theorem q543 : (Jvm.Cond.instanceMethod ({ cls := "NativeSubset", name := "unit", desc := "(II)I" } : Jvm.MethodName)) ∈ lw_all := lw_g (lw_at lw_m3 14 rfl) rfl
theorem q544 : (Jvm.Cond.selects "NativeSubset" ({ cls := "NativeSubset", name := "unit", desc := "(II)I" } : Jvm.MethodName) ({ cls := "NativeSubset", name := "unit", desc := "(II)I" } : Jvm.MethodName)) ∈ lw_all := lw_g (lw_at lw_m3 15 rfl) rfl
theorem q545 : (Jvm.Cond.code ({ cls := "NativeSubset", name := "unit", desc := "(II)I" } : Jvm.MethodName) prog_1_method_23_code (4 : Nat) (Option.some Jvm.ClassFile.FieldType.int)) ∈ lw_all := lw_g (lw_at lw_m3 16 rfl) rfl
theorem q547 : (Jvm.Cond.methodLink "NativeSubset" (217 : Nat) ({ cls := "NativeSubset$Unit", name := "<init>", desc := "(II)V" } : Jvm.MethodName)) ∈ lw_all := lw_g (lw_at lw_m3 18 rfl) rfl
theorem q552 : (Jvm.Cond.fieldLinkNest "NativeSubset" (65 : Nat) "NativeSubset$Unit" "number" "I" "NativeSubset") ∈ lw_tbl := lw_at lw_m3 23 rfl
theorem q560 : (Jvm.Cond.methodLink "NativeSubset" (220 : Nat) ({ cls := "NativeSubset$Card", name := "<init>", desc := "(II)V" } : Jvm.MethodName)) ∈ lw_all := lw_g (lw_at lw_m3 31 rfl) rfl
theorem q567 : (Jvm.Cond.classLink "NativeSubset" (221 : Nat) "NativeSubset$Gold") ∈ lw_all := lw_g (lw_at lw_m3 38 rfl) rfl
theorem q569 : (Jvm.Cond.methodLink "NativeSubset" (223 : Nat) ({ cls := "NativeSubset$Gold", name := "<init>", desc := "(II)V" } : Jvm.MethodName)) ∈ lw_all := lw_g (lw_at lw_m3 40 rfl) rfl
theorem q577 : (Jvm.Cond.instanceMethod ({ cls := "NativeSubset", name := "about", desc := "(I)I" } : Jvm.MethodName)) ∈ lw_all := lw_g (lw_at lw_m3 48 rfl) rfl
theorem q578 : (Jvm.Cond.selects "NativeSubset" ({ cls := "NativeSubset", name := "about", desc := "(I)I" } : Jvm.MethodName) ({ cls := "NativeSubset", name := "about", desc := "(I)I" } : Jvm.MethodName)) ∈ lw_all := lw_g (lw_at lw_m3 49 rfl) rfl
theorem q579 : (Jvm.Cond.code ({ cls := "NativeSubset", name := "about", desc := "(I)I" } : Jvm.MethodName) prog_1_method_28_code (2 : Nat) (Option.some Jvm.ClassFile.FieldType.int)) ∈ lw_all := lw_g (lw_at lw_m3 50 rfl) rfl
theorem q581 : (Jvm.Cond.instanceMethod ({ cls := "NativeSubset", name := "of", desc := "(II)I" } : Jvm.MethodName)) ∈ lw_all := lw_g (lw_at lw_m3 52 rfl) rfl
theorem q582 : (Jvm.Cond.selects "NativeSubset" ({ cls := "NativeSubset", name := "of", desc := "(II)I" } : Jvm.MethodName) ({ cls := "NativeSubset", name := "of", desc := "(II)I" } : Jvm.MethodName)) ∈ lw_all := lw_g (lw_at lw_m3 53 rfl) rfl
theorem q583 : (Jvm.Cond.code ({ cls := "NativeSubset", name := "of", desc := "(II)I" } : Jvm.MethodName) prog_1_method_29_code (3 : Nat) (Option.some Jvm.ClassFile.FieldType.int)) ∈ lw_all := lw_g (lw_at lw_m3 54 rfl) rfl
theorem q584 : (Jvm.Cond.methodLink "NativeSubset" (224 : Nat) ({ cls := "NativeSubset", name := "isRow", desc := "(I)Z" } : Jvm.MethodName)) ∈ lw_all := lw_g (lw_at lw_m3 55 rfl) rfl
theorem q585 : (Jvm.Cond.privateMethod ({ cls := "NativeSubset", name := "isRow", desc := "(I)Z" } : Jvm.MethodName)) ∈ lw_tbl := lw_at lw_m3 56 rfl
theorem q586 : (Jvm.Cond.instanceMethod ({ cls := "NativeSubset", name := "isRow", desc := "(I)Z" } : Jvm.MethodName)) ∈ lw_all := lw_g (lw_at lw_m3 57 rfl) rfl
theorem q587 : (Jvm.Cond.code ({ cls := "NativeSubset", name := "isRow", desc := "(I)Z" } : Jvm.MethodName) prog_1_method_16_code (2 : Nat) (Option.some Jvm.ClassFile.FieldType.boolean)) ∈ lw_all := lw_g (lw_at lw_m3 58 rfl) rfl
theorem q588 : (Jvm.Cond.methodLink "NativeSubset" (184 : Nat) ({ cls := "java/util/ArrayList", name := "get", desc := "(I)Ljava/lang/Object;" } : Jvm.MethodName)) ∈ lw_all := lw_g (lw_at lw_m3 59 rfl) rfl
theorem q602 : (Jvm.Cond.methodLink "NativeSubset" (25 : Nat) ({ cls := "NativeSubset", name := "kindOf", desc := "(Ljava/lang/Object;)I" } : Jvm.MethodName)) ∈ lw_all := lw_g (lw_at lw_m3 73 rfl) rfl
theorem q603 : (Jvm.Cond.static ({ cls := "NativeSubset", name := "kindOf", desc := "(Ljava/lang/Object;)I" } : Jvm.MethodName)) ∈ lw_all := lw_g (lw_at lw_m3 74 rfl) rfl
theorem q604 : (Jvm.Cond.code ({ cls := "NativeSubset", name := "kindOf", desc := "(Ljava/lang/Object;)I" } : Jvm.MethodName) prog_1_method_1_code (1 : Nat) (Option.some Jvm.ClassFile.FieldType.int)) ∈ lw_all := lw_g (lw_at lw_m3 75 rfl) rfl
theorem q605 : (Jvm.Cond.classLink "NativeSubset" (3 : Nat) "[LNativeSubset$Unit;") ∈ lw_all := lw_g (lw_at lw_m3 76 rfl) rfl
theorem q606 : (Jvm.Cond.classLink "NativeSubset" (5 : Nat) "[LNativeSubset$Card;") ∈ lw_all := lw_g (lw_at lw_m3 77 rfl) rfl
theorem q607 : (Jvm.Cond.classLink "NativeSubset" (9 : Nat) "[Z") ∈ lw_all := lw_g (lw_at lw_m3 78 rfl) rfl
theorem q608 : (Jvm.Cond.classLink "NativeSubset" (11 : Nat) "[B") ∈ lw_all := lw_g (lw_at lw_m3 79 rfl) rfl
theorem q609 : (Jvm.Cond.classLink "NativeSubset" (13 : Nat) "[C") ∈ lw_all := lw_g (lw_at lw_m3 80 rfl) rfl
theorem q610 : (Jvm.Cond.classLink "NativeSubset" (15 : Nat) "[S") ∈ lw_all := lw_g (lw_at lw_m3 81 rfl) rfl
theorem q611 : (Jvm.Cond.classLink "NativeSubset" (19 : Nat) "[J") ∈ lw_all := lw_g (lw_at lw_m3 82 rfl) rfl
theorem q612 : (Jvm.Cond.classLink "NativeSubset" (21 : Nat) "[F") ∈ lw_all := lw_g (lw_at lw_m3 83 rfl) rfl
theorem q613 : (Jvm.Cond.classLink "NativeSubset" (23 : Nat) "[D") ∈ lw_all := lw_g (lw_at lw_m3 84 rfl) rfl
theorem q614 : (Jvm.Cond.methodLink "NativeSubset" (35 : Nat) ({ cls := "NativeSubset", name := "sizeOf", desc := "(Ljava/lang/Object;)I" } : Jvm.MethodName)) ∈ lw_all := lw_g (lw_at lw_m3 85 rfl) rfl
theorem q615 : (Jvm.Cond.static ({ cls := "NativeSubset", name := "sizeOf", desc := "(Ljava/lang/Object;)I" } : Jvm.MethodName)) ∈ lw_all := lw_g (lw_at lw_m3 86 rfl) rfl
theorem q616 : (Jvm.Cond.code ({ cls := "NativeSubset", name := "sizeOf", desc := "(Ljava/lang/Object;)I" } : Jvm.MethodName) prog_1_method_2_code (1 : Nat) (Option.some Jvm.ClassFile.FieldType.int)) ∈ lw_all := lw_g (lw_at lw_m3 87 rfl) rfl
theorem q617 : (Jvm.Cond.classLink "NativeSubset" (29 : Nat) "[[I") ∈ lw_all := lw_g (lw_at lw_m3 88 rfl) rfl
theorem q619 : (Jvm.Cond.instanceMethod ({ cls := "NativeSubset", name := "worth", desc := "(II)J" } : Jvm.MethodName)) ∈ lw_all := lw_g (lw_at lw_m3 90 rfl) rfl
theorem q620 : (Jvm.Cond.selects "NativeSubset" ({ cls := "NativeSubset", name := "worth", desc := "(II)J" } : Jvm.MethodName) ({ cls := "NativeSubset", name := "worth", desc := "(II)J" } : Jvm.MethodName)) ∈ lw_all := lw_g (lw_at lw_m3 91 rfl) rfl
theorem q621 : (Jvm.Cond.code ({ cls := "NativeSubset", name := "worth", desc := "(II)J" } : Jvm.MethodName) prog_1_method_30_code (5 : Nat) (Option.some Jvm.ClassFile.FieldType.long)) ∈ lw_all := lw_g (lw_at lw_m3 92 rfl) rfl
theorem q622 : (Jvm.Cond.constantLong "NativeSubset" (257 : Nat) (-9223372036854775808 : Int64)) ∈ lw_all := lw_g (lw_at lw_m3 93 rfl) rfl
theorem q623 : (Jvm.Cond.methodLink "NativeSubset" (259 : Nat) ({ cls := "NativeSubset$Unit", name := "worth", desc := "()I" } : Jvm.MethodName)) ∈ lw_all := lw_g (lw_at lw_m3 94 rfl) rfl
theorem q636 : (Jvm.Cond.interfaceEntry "NativeSubset" (262 : Nat)) ∈ lw_tbl := lw_at lw_m3 107 rfl
theorem q637 : (Jvm.Cond.methodLink "NativeSubset" (262 : Nat) ({ cls := "NativeSubset$Paying", name := "fee", desc := "()I" } : Jvm.MethodName)) ∈ lw_all := lw_g (lw_at lw_m3 108 rfl) rfl
theorem q666 : (Jvm.Cond.methodLink "NativeSubset" (267 : Nat) ({ cls := "NativeSubset$Unit", name := "cls", desc := "()I" } : Jvm.MethodName)) ∈ lw_all := lw_g (lw_at lw_m3 137 rfl) rfl
theorem q680 : (Jvm.Cond.instanceMethod ({ cls := "NativeSubset", name := "plan", desc := "(IIIIIII)I" } : Jvm.MethodName)) ∈ lw_all := lw_g (lw_at lw_m3 151 rfl) rfl
theorem q681 : (Jvm.Cond.selects "NativeSubset" ({ cls := "NativeSubset", name := "plan", desc := "(IIIIIII)I" } : Jvm.MethodName) ({ cls := "NativeSubset", name := "plan", desc := "(IIIIIII)I" } : Jvm.MethodName)) ∈ lw_all := lw_g (lw_at lw_m3 152 rfl) rfl
theorem q682 : (Jvm.Cond.code ({ cls := "NativeSubset", name := "plan", desc := "(IIIIIII)I" } : Jvm.MethodName) prog_1_method_31_code (10 : Nat) (Option.some Jvm.ClassFile.FieldType.int)) ∈ lw_all := lw_g (lw_at lw_m3 153 rfl) rfl
theorem q683 : (Jvm.Cond.classLink "NativeSubset" (190 : Nat) "NativeSubset$Act") ∈ lw_all := lw_g (lw_at lw_m3 154 rfl) rfl
theorem q685 : (Jvm.Cond.methodLink "NativeSubset" (275 : Nat) ({ cls := "NativeSubset$Act", name := "<init>", desc := "(IIIIII)V" } : Jvm.MethodName)) ∈ lw_all := lw_g (lw_at lw_m3 156 rfl) rfl
theorem q691 : (Jvm.Cond.fieldLinkNest "NativeSubset" (189 : Nat) "NativeSubset$Act" "helper" "I" "NativeSubset") ∈ lw_tbl := lw_at lw_m3 162 rfl
theorem q702 : (Jvm.Cond.fieldLinkNest "NativeSubset" (198 : Nat) "NativeSubset$Act" "a" "I" "NativeSubset") ∈ lw_tbl := lw_at lw_m3 173 rfl
theorem q744 : (Jvm.Cond.instanceMethod ({ cls := "NativeSubset", name := "drop", desc := "(I)I" } : Jvm.MethodName)) ∈ lw_all := lw_g (lw_at lw_m3 215 rfl) rfl
theorem q745 : (Jvm.Cond.selects "NativeSubset" ({ cls := "NativeSubset", name := "drop", desc := "(I)I" } : Jvm.MethodName) ({ cls := "NativeSubset", name := "drop", desc := "(I)I" } : Jvm.MethodName)) ∈ lw_all := lw_g (lw_at lw_m3 216 rfl) rfl
theorem q746 : (Jvm.Cond.code ({ cls := "NativeSubset", name := "drop", desc := "(I)I" } : Jvm.MethodName) prog_1_method_32_code (3 : Nat) (Option.some Jvm.ClassFile.FieldType.int)) ∈ lw_all := lw_g (lw_at lw_m3 217 rfl) rfl
theorem q748 : (Jvm.Cond.instanceMethod ({ cls := "NativeSubset", name := "price", desc := "(IIII)J" } : Jvm.MethodName)) ∈ lw_all := lw_g (lw_at lw_m3 219 rfl) rfl
theorem q749 : (Jvm.Cond.selects "NativeSubset" ({ cls := "NativeSubset", name := "price", desc := "(IIII)J" } : Jvm.MethodName) ({ cls := "NativeSubset", name := "price", desc := "(IIII)J" } : Jvm.MethodName)) ∈ lw_all := lw_g (lw_at lw_m3 220 rfl) rfl
theorem q750 : (Jvm.Cond.code ({ cls := "NativeSubset", name := "price", desc := "(IIII)J" } : Jvm.MethodName) prog_1_method_33_code (5 : Nat) (Option.some Jvm.ClassFile.FieldType.long)) ∈ lw_all := lw_g (lw_at lw_m3 221 rfl) rfl
theorem q751 : (Jvm.Cond.methodLink "NativeSubset" (194 : Nat) ({ cls := "NativeSubset", name := "needsRow", desc := "(I)Z" } : Jvm.MethodName)) ∈ lw_all := lw_g (lw_at lw_m3 222 rfl) rfl
theorem q752 : (Jvm.Cond.static ({ cls := "NativeSubset", name := "needsRow", desc := "(I)Z" } : Jvm.MethodName)) ∈ lw_all := lw_g (lw_at lw_m3 223 rfl) rfl
theorem q753 : (Jvm.Cond.code ({ cls := "NativeSubset", name := "needsRow", desc := "(I)Z" } : Jvm.MethodName) prog_1_method_17_code (1 : Nat) (Option.some Jvm.ClassFile.FieldType.boolean)) ∈ lw_all := lw_g (lw_at lw_m3 224 rfl) rfl
theorem q754 : (Jvm.Cond.methodLink "NativeSubset" (278 : Nat) ({ cls := "NativeSubset$Helper", name := "hasOther", desc := "()Z" } : Jvm.MethodName)) ∈ lw_all := lw_g (lw_at lw_m3 225 rfl) rfl
theorem q775 : (Jvm.Cond.methodLink "NativeSubset" (282 : Nat) ({ cls := "NativeSubset", name := "priceOf", desc := "(LNativeSubset$Act;)I" } : Jvm.MethodName)) ∈ lw_all := lw_g (lw_at lw_m4 6 rfl) rfl
theorem q776 : (Jvm.Cond.privateMethod ({ cls := "NativeSubset", name := "priceOf", desc := "(LNativeSubset$Act;)I" } : Jvm.MethodName)) ∈ lw_tbl := lw_at lw_m4 7 rfl
theorem q777 : (Jvm.Cond.instanceMethod ({ cls := "NativeSubset", name := "priceOf", desc := "(LNativeSubset$Act;)I" } : Jvm.MethodName)) ∈ lw_all := lw_g (lw_at lw_m4 8 rfl) rfl
theorem q778 : (Jvm.Cond.code ({ cls := "NativeSubset", name := "priceOf", desc := "(LNativeSubset$Act;)I" } : Jvm.MethodName) prog_1_method_21_code (4 : Nat) (Option.some Jvm.ClassFile.FieldType.int)) ∈ lw_all := lw_g (lw_at lw_m4 9 rfl) rfl
theorem q779 : (Jvm.Cond.methodLink "NativeSubset" (201 : Nat) ({ cls := "NativeSubset$Helper", name := "many", desc := "(LNativeSubset$Act;)I" } : Jvm.MethodName)) ∈ lw_all := lw_g (lw_at lw_m4 10 rfl) rfl
theorem q813 : (Jvm.Cond.methodLink "NativeSubset" (205 : Nat) ({ cls := "NativeSubset", name := "weightOf", desc := "(LNativeSubset$Act;)I" } : Jvm.MethodName)) ∈ lw_all := lw_g (lw_at lw_m4 44 rfl) rfl
theorem q814 : (Jvm.Cond.privateMethod ({ cls := "NativeSubset", name := "weightOf", desc := "(LNativeSubset$Act;)I" } : Jvm.MethodName)) ∈ lw_tbl := lw_at lw_m4 45 rfl
theorem q815 : (Jvm.Cond.instanceMethod ({ cls := "NativeSubset", name := "weightOf", desc := "(LNativeSubset$Act;)I" } : Jvm.MethodName)) ∈ lw_all := lw_g (lw_at lw_m4 46 rfl) rfl
theorem q816 : (Jvm.Cond.code ({ cls := "NativeSubset", name := "weightOf", desc := "(LNativeSubset$Act;)I" } : Jvm.MethodName) prog_1_method_20_code (3 : Nat) (Option.some Jvm.ClassFile.FieldType.int)) ∈ lw_all := lw_g (lw_at lw_m4 47 rfl) rfl
theorem q817 : (Jvm.Cond.interfaceEntry "NativeSubset" (208 : Nat)) ∈ lw_tbl := lw_at lw_m4 48 rfl
theorem q818 : (Jvm.Cond.methodLink "NativeSubset" (208 : Nat) ({ cls := "NativeSubset$Priced", name := "price", desc := "(II)I" } : Jvm.MethodName)) ∈ lw_all := lw_g (lw_at lw_m4 49 rfl) rfl
theorem q927 : (Jvm.Cond.instanceMethod ({ cls := "NativeSubset", name := "run", desc := "(II)I" } : Jvm.MethodName)) ∈ lw_all := lw_g (lw_at lw_m4 158 rfl) rfl
theorem q928 : (Jvm.Cond.selects "NativeSubset" ({ cls := "NativeSubset", name := "run", desc := "(II)I" } : Jvm.MethodName) ({ cls := "NativeSubset", name := "run", desc := "(II)I" } : Jvm.MethodName)) ∈ lw_all := lw_g (lw_at lw_m4 159 rfl) rfl
theorem q929 : (Jvm.Cond.codeWith ({ cls := "NativeSubset", name := "run", desc := "(II)I" } : Jvm.MethodName) prog_1_method_34_code (6 : Nat) (Option.some Jvm.ClassFile.FieldType.int) [((82 : Nat), (87 : Nat), (90 : Nat), (98 : Nat))]) ∈ lw_all := lw_g (lw_at lw_m4 160 rfl) rfl
theorem q930 : (Jvm.Cond.classLink "NativeSubset" (98 : Nat) "NativeSubset$Failure") ∈ lw_all := lw_g (lw_at lw_m4 161 rfl) rfl
theorem q931 : (Jvm.Cond.classLink "NativeSubset" (285 : Nat) "NativeSubset$Call") ∈ lw_all := lw_g (lw_at lw_m4 162 rfl) rfl
theorem q933 : (Jvm.Cond.methodLink "NativeSubset" (287 : Nat) ({ cls := "NativeSubset$Call", name := "<init>", desc := "(LNativeSubset;II)V" } : Jvm.MethodName)) ∈ lw_all := lw_g (lw_at lw_m4 164 rfl) rfl
theorem q948 : (Jvm.Cond.fieldLinkNest "NativeSubset" (306 : Nat) "NativeSubset$Call" "paid" "I" "NativeSubset") ∈ lw_tbl := lw_at lw_m4 179 rfl
theorem q950 : (Jvm.Cond.fieldLinkNest "NativeSubset" (315 : Nat) "NativeSubset$Call" "ended" "I" "NativeSubset") ∈ lw_tbl := lw_at lw_m4 181 rfl
theorem q969 : (Jvm.Cond.methodLink "NativeSubset" (300 : Nat) ({ cls := "NativeSubset$Call", name := "go", desc := "()V" } : Jvm.MethodName)) ∈ lw_all := lw_g (lw_at lw_m4 200 rfl) rfl
theorem q982 : (Jvm.Cond.privateMethod ({ cls := "NativeSubset", name := "fail", desc := "(I)LNativeSubset$Failure;" } : Jvm.MethodName)) ∈ lw_tbl := lw_at lw_m4 213 rfl
theorem q983 : (Jvm.Cond.instanceMethod ({ cls := "NativeSubset", name := "fail", desc := "(I)LNativeSubset$Failure;" } : Jvm.MethodName)) ∈ lw_all := lw_g (lw_at lw_m4 214 rfl) rfl
theorem q984 : (Jvm.Cond.code ({ cls := "NativeSubset", name := "fail", desc := "(I)LNativeSubset$Failure;" } : Jvm.MethodName) prog_1_method_13_code (2 : Nat) (Option.some (Jvm.ClassFile.FieldType.object "NativeSubset$Failure"))) ∈ lw_all := lw_g (lw_at lw_m4 215 rfl) rfl
theorem q1041 : (Jvm.Cond.methodLink "NativeSubset" (100 : Nat) ({ cls := "NativeSubset$Failure", name := "<init>", desc := "(I)V" } : Jvm.MethodName)) ∈ lw_all := lw_g (lw_at lw_m5 32 rfl) rfl
theorem q1055 : (Jvm.Cond.fieldLinkNest "NativeSubset" (303 : Nat) "NativeSubset$Failure" "fault" "I" "NativeSubset") ∈ lw_tbl := lw_at lw_m5 46 rfl
theorem q1102 : (Jvm.Cond.static ({ cls := "NativeSubset", name := "cloneOf", desc := "(Ljava/lang/Object;)Ljava/lang/Object;" } : Jvm.MethodName)) ∈ lw_all := lw_g (lw_at lw_m5 93 rfl) rfl
theorem q1103 : (Jvm.Cond.code ({ cls := "NativeSubset", name := "cloneOf", desc := "(Ljava/lang/Object;)Ljava/lang/Object;" } : Jvm.MethodName) prog_1_method_4_code (2 : Nat) (Option.some (Jvm.ClassFile.FieldType.object "java/lang/Object"))) ∈ lw_all := lw_g (lw_at lw_m5 94 rfl) rfl
theorem q1104 : (Jvm.Cond.methodLink "NativeSubset" (42 : Nat) ({ cls := "java/lang/System", name := "arraycopy", desc := "(Ljava/lang/Object;ILjava/lang/Object;II)V" } : Jvm.MethodName)) ∈ lw_all := lw_g (lw_at lw_m5 95 rfl) rfl
theorem q1171 : (Jvm.Cond.static ({ cls := "NativeSubset", name := "isEqual", desc := "(Ljava/lang/Object;Ljava/lang/Object;I)Z" } : Jvm.MethodName)) ∈ lw_all := lw_g (lw_at lw_m5 162 rfl) rfl
theorem q1172 : (Jvm.Cond.code ({ cls := "NativeSubset", name := "isEqual", desc := "(Ljava/lang/Object;Ljava/lang/Object;I)Z" } : Jvm.MethodName) prog_1_method_12_code (7 : Nat) (Option.some Jvm.ClassFile.FieldType.boolean)) ∈ lw_all := lw_g (lw_at lw_m5 163 rfl) rfl
theorem q1173 : (Jvm.Cond.methodLink "NativeSubset" (83 : Nat) ({ cls := "NativeSubset", name := "isReal", desc := "(Ljava/lang/Object;)Z" } : Jvm.MethodName)) ∈ lw_all := lw_g (lw_at lw_m5 164 rfl) rfl
theorem q1174 : (Jvm.Cond.static ({ cls := "NativeSubset", name := "isReal", desc := "(Ljava/lang/Object;)Z" } : Jvm.MethodName)) ∈ lw_all := lw_g (lw_at lw_m5 165 rfl) rfl
theorem q1175 : (Jvm.Cond.code ({ cls := "NativeSubset", name := "isReal", desc := "(Ljava/lang/Object;)Z" } : Jvm.MethodName) prog_1_method_10_code (1 : Nat) (Option.some Jvm.ClassFile.FieldType.boolean)) ∈ lw_all := lw_g (lw_at lw_m5 166 rfl) rfl
theorem q1176 : (Jvm.Cond.methodLink "NativeSubset" (87 : Nat) ({ cls := "NativeSubset", name := "real", desc := "(Ljava/lang/Object;I)D" } : Jvm.MethodName)) ∈ lw_all := lw_g (lw_at lw_m5 167 rfl) rfl
theorem q1177 : (Jvm.Cond.static ({ cls := "NativeSubset", name := "real", desc := "(Ljava/lang/Object;I)D" } : Jvm.MethodName)) ∈ lw_all := lw_g (lw_at lw_m5 168 rfl) rfl
theorem q1178 : (Jvm.Cond.code ({ cls := "NativeSubset", name := "real", desc := "(Ljava/lang/Object;I)D" } : Jvm.MethodName) prog_1_method_8_code (3 : Nat) (Option.some Jvm.ClassFile.FieldType.double)) ∈ lw_all := lw_g (lw_at lw_m5 169 rfl) rfl
theorem q1179 : (Jvm.Cond.constantDouble "NativeSubset" (77 : Nat) (9221120237041090560 : UInt64)) ∈ lw_all := lw_g (lw_at lw_m5 170 rfl) rfl
theorem q1180 : (Jvm.Cond.methodLink "NativeSubset" (91 : Nat) ({ cls := "NativeSubset", name := "get", desc := "(Ljava/lang/Object;I)J" } : Jvm.MethodName)) ∈ lw_all := lw_g (lw_at lw_m5 171 rfl) rfl
theorem q1181 : (Jvm.Cond.static ({ cls := "NativeSubset", name := "get", desc := "(Ljava/lang/Object;I)J" } : Jvm.MethodName)) ∈ lw_all := lw_g (lw_at lw_m5 172 rfl) rfl
theorem q1182 : (Jvm.Cond.code ({ cls := "NativeSubset", name := "get", desc := "(Ljava/lang/Object;I)J" } : Jvm.MethodName) prog_1_method_6_code (4 : Nat) (Option.some Jvm.ClassFile.FieldType.long)) ∈ lw_all := lw_g (lw_at lw_m5 173 rfl) rfl
theorem q1183 : (Jvm.Cond.methodLink "NativeSubset" (54 : Nat) ({ cls := "java/lang/Float", name := "floatToIntBits", desc := "(F)I" } : Jvm.MethodName)) ∈ lw_all := lw_g (lw_at lw_m5 174 rfl) rfl
theorem q1193 : (Jvm.Cond.methodLink "NativeSubset" (60 : Nat) ({ cls := "NativeSubset", name := "bitsOf", desc := "(D)J" } : Jvm.MethodName)) ∈ lw_all := lw_g (lw_at lw_m5 184 rfl) rfl
theorem q1194 : (Jvm.Cond.static ({ cls := "NativeSubset", name := "bitsOf", desc := "(D)J" } : Jvm.MethodName)) ∈ lw_all := lw_g (lw_at lw_m5 185 rfl) rfl
theorem q1195 : (Jvm.Cond.code ({ cls := "NativeSubset", name := "bitsOf", desc := "(D)J" } : Jvm.MethodName) prog_1_method_5_code (2 : Nat) (Option.some Jvm.ClassFile.FieldType.long)) ∈ lw_all := lw_g (lw_at lw_m5 186 rfl) rfl
theorem q1196 : (Jvm.Cond.methodLink "NativeSubset" (48 : Nat) ({ cls := "java/lang/Double", name := "doubleToLongBits", desc := "(D)J" } : Jvm.MethodName)) ∈ lw_all := lw_g (lw_at lw_m5 187 rfl) rfl
theorem q1206 : (Jvm.Cond.constantLong "NativeSubset" (63 : Nat) (-1 : Int64)) ∈ lw_all := lw_g (lw_at lw_m5 197 rfl) rfl
theorem q1228 : (Jvm.Cond.privateMethod ({ cls := "NativeSubset", name := "goes", desc := "(IJ)Z" } : Jvm.MethodName)) ∈ lw_tbl := lw_at lw_m5 219 rfl
theorem q1229 : (Jvm.Cond.instanceMethod ({ cls := "NativeSubset", name := "goes", desc := "(IJ)Z" } : Jvm.MethodName)) ∈ lw_all := lw_g (lw_at lw_m5 220 rfl) rfl
theorem q1230 : (Jvm.Cond.code ({ cls := "NativeSubset", name := "goes", desc := "(IJ)Z" } : Jvm.MethodName) prog_1_method_19_code (4 : Nat) (Option.some Jvm.ClassFile.FieldType.boolean)) ∈ lw_all := lw_g (lw_at lw_m5 221 rfl) rfl
theorem q1231 : (Jvm.Cond.constantLong "NativeSubset" (187 : Nat) (40 : Int64)) ∈ lw_all := lw_g (lw_at lw_m5 222 rfl) rfl
theorem q1248 : (Jvm.Cond.privateMethod ({ cls := "NativeSubset", name := "unitOf", desc := "(J)LNativeSubset$Unit;" } : Jvm.MethodName)) ∈ lw_tbl := lw_at lw_m5 239 rfl
theorem q1249 : (Jvm.Cond.instanceMethod ({ cls := "NativeSubset", name := "unitOf", desc := "(J)LNativeSubset$Unit;" } : Jvm.MethodName)) ∈ lw_all := lw_g (lw_at lw_m6 0 rfl) rfl
theorem q1250 : (Jvm.Cond.code ({ cls := "NativeSubset", name := "unitOf", desc := "(J)LNativeSubset$Unit;" } : Jvm.MethodName) prog_1_method_18_code (3 : Nat) (Option.some (Jvm.ClassFile.FieldType.object "NativeSubset$Unit"))) ∈ lw_all := lw_g (lw_at lw_m6 1 rfl) rfl
theorem q1253 : (Jvm.Cond.static ({ cls := "NativeSubset", name := "put", desc := "(Ljava/lang/Object;IJLNativeSubset$Unit;[I)V" } : Jvm.MethodName)) ∈ lw_all := lw_g (lw_at lw_m6 4 rfl) rfl
theorem q1254 : (Jvm.Cond.code ({ cls := "NativeSubset", name := "put", desc := "(Ljava/lang/Object;IJLNativeSubset$Unit;[I)V" } : Jvm.MethodName) prog_1_method_7_code (6 : Nat) (Option.none : Option Jvm.ClassFile.FieldType)) ∈ lw_all := lw_g (lw_at lw_m6 5 rfl) rfl
theorem q1255 : (Jvm.Cond.methodLink "NativeSubset" (69 : Nat) ({ cls := "NativeSubset", name := "singleBits", desc := "(I)F" } : Jvm.MethodName)) ∈ lw_all := lw_g (lw_at lw_m6 6 rfl) rfl
theorem q1256 : (Jvm.Cond.static ({ cls := "NativeSubset", name := "singleBits", desc := "(I)F" } : Jvm.MethodName)) ∈ lw_all := lw_g (lw_at lw_m6 7 rfl) rfl
theorem q1257 : (Jvm.Cond.code ({ cls := "NativeSubset", name := "singleBits", desc := "(I)F" } : Jvm.MethodName) prog_1_method_38_code (1 : Nat) (Option.some Jvm.ClassFile.FieldType.float)) ∈ lw_all := lw_g (lw_at lw_m6 8 rfl) rfl
theorem q1258 : (Jvm.Cond.constant "NativeSubset" (328 : Nat) (2147483647 : Int32)) ∈ lw_all := lw_g (lw_at lw_m6 9 rfl) rfl
theorem q1259 : (Jvm.Cond.constant "NativeSubset" (329 : Nat) (2139095040 : Int32)) ∈ lw_all := lw_g (lw_at lw_m6 10 rfl) rfl
theorem q1260 : (Jvm.Cond.constantFloat "NativeSubset" (330 : Nat) (2143289344 : UInt32)) ∈ lw_all := lw_g (lw_at lw_m6 11 rfl) rfl
theorem q1261 : (Jvm.Cond.methodLink "NativeSubset" (331 : Nat) ({ cls := "java/lang/Float", name := "intBitsToFloat", desc := "(I)F" } : Jvm.MethodName)) ∈ lw_all := lw_g (lw_at lw_m6 12 rfl) rfl
theorem q1264 : (Jvm.Cond.methodLink "NativeSubset" (73 : Nat) ({ cls := "NativeSubset", name := "numberBits", desc := "(J)D" } : Jvm.MethodName)) ∈ lw_all := lw_g (lw_at lw_m6 15 rfl) rfl
theorem q1265 : (Jvm.Cond.static ({ cls := "NativeSubset", name := "numberBits", desc := "(J)D" } : Jvm.MethodName)) ∈ lw_all := lw_g (lw_at lw_m6 16 rfl) rfl
theorem q1266 : (Jvm.Cond.code ({ cls := "NativeSubset", name := "numberBits", desc := "(J)D" } : Jvm.MethodName) prog_1_method_37_code (2 : Nat) (Option.some Jvm.ClassFile.FieldType.double)) ∈ lw_all := lw_g (lw_at lw_m6 17 rfl) rfl
theorem q1267 : (Jvm.Cond.constantLong "NativeSubset" (321 : Nat) (9223372036854775807 : Int64)) ∈ lw_all := lw_g (lw_at lw_m6 18 rfl) rfl
theorem q1268 : (Jvm.Cond.constantLong "NativeSubset" (323 : Nat) (9218868437227405312 : Int64)) ∈ lw_all := lw_g (lw_at lw_m6 19 rfl) rfl
theorem q1269 : (Jvm.Cond.methodLink "NativeSubset" (325 : Nat) ({ cls := "java/lang/Double", name := "longBitsToDouble", desc := "(J)D" } : Jvm.MethodName)) ∈ lw_all := lw_g (lw_at lw_m6 20 rfl) rfl
theorem q1298 : (Jvm.Cond.static ({ cls := "NativeSubset", name := "isBelow", desc := "(Ljava/lang/Object;ILjava/lang/Object;I)Z" } : Jvm.MethodName)) ∈ lw_all := lw_g (lw_at lw_m6 49 rfl) rfl
theorem q1299 : (Jvm.Cond.code ({ cls := "NativeSubset", name := "isBelow", desc := "(Ljava/lang/Object;ILjava/lang/Object;I)Z" } : Jvm.MethodName) prog_1_method_11_code (4 : Nat) (Option.some Jvm.ClassFile.FieldType.boolean)) ∈ lw_all := lw_g (lw_at lw_m6 50 rfl) rfl
theorem q1338 : (Jvm.Cond.static ({ cls := "NativeSubset", name := "plus", desc := "(DD)D" } : Jvm.MethodName)) ∈ lw_all := lw_g (lw_at lw_m6 89 rfl) rfl
theorem q1339 : (Jvm.Cond.code ({ cls := "NativeSubset", name := "plus", desc := "(DD)D" } : Jvm.MethodName) prog_1_method_9_code (5 : Nat) (Option.some Jvm.ClassFile.FieldType.double)) ∈ lw_all := lw_g (lw_at lw_m6 90 rfl) rfl
theorem q1340 : (Jvm.Cond.constantDouble "NativeSubset" (79 : Nat) (9218868437227405312 : UInt64)) ∈ lw_all := lw_g (lw_at lw_m6 91 rfl) rfl
theorem q1341 : (Jvm.Cond.constantDouble "NativeSubset" (81 : Nat) (18442240474082181120 : UInt64)) ∈ lw_all := lw_g (lw_at lw_m6 92 rfl) rfl
theorem q1380 : (Jvm.Cond.instanceMethod ({ cls := "NativeSubset", name := "told", desc := "(I)I" } : Jvm.MethodName)) ∈ lw_all := lw_g (lw_at lw_m6 131 rfl) rfl
theorem q1381 : (Jvm.Cond.selects "NativeSubset" ({ cls := "NativeSubset", name := "told", desc := "(I)I" } : Jvm.MethodName) ({ cls := "NativeSubset", name := "told", desc := "(I)I" } : Jvm.MethodName)) ∈ lw_all := lw_g (lw_at lw_m6 132 rfl) rfl
theorem q1382 : (Jvm.Cond.code ({ cls := "NativeSubset", name := "told", desc := "(I)I" } : Jvm.MethodName) prog_1_method_35_code (2 : Nat) (Option.some Jvm.ClassFile.FieldType.int)) ∈ lw_all := lw_g (lw_at lw_m6 133 rfl) rfl
theorem q1384 : (Jvm.Cond.instanceMethod ({ cls := "NativeSubset", name := "answer", desc := "(I)J" } : Jvm.MethodName)) ∈ lw_all := lw_g (lw_at lw_m6 135 rfl) rfl
theorem q1385 : (Jvm.Cond.selects "NativeSubset" ({ cls := "NativeSubset", name := "answer", desc := "(I)J" } : Jvm.MethodName) ({ cls := "NativeSubset", name := "answer", desc := "(I)J" } : Jvm.MethodName)) ∈ lw_all := lw_g (lw_at lw_m6 136 rfl) rfl
theorem q1386 : (Jvm.Cond.code ({ cls := "NativeSubset", name := "answer", desc := "(I)J" } : Jvm.MethodName) prog_1_method_36_code (2 : Nat) (Option.some Jvm.ClassFile.FieldType.long)) ∈ lw_all := lw_g (lw_at lw_m6 137 rfl) rfl
theorem q1419 : (Jvm.Cond.instanceMethod ({ cls := "NativeSubset", name := "put", desc := "(IIJ)I" } : Jvm.MethodName)) ∈ lw_all := lw_g (lw_at lw_m6 170 rfl) rfl
theorem q1420 : (Jvm.Cond.selects "NativeSubset" ({ cls := "NativeSubset", name := "put", desc := "(IIJ)I" } : Jvm.MethodName) ({ cls := "NativeSubset", name := "put", desc := "(IIJ)I" } : Jvm.MethodName)) ∈ lw_all := lw_g (lw_at lw_m6 171 rfl) rfl
theorem q1421 : (Jvm.Cond.code ({ cls := "NativeSubset", name := "put", desc := "(IIJ)I" } : Jvm.MethodName) prog_1_method_25_code (9 : Nat) (Option.some Jvm.ClassFile.FieldType.int)) ∈ lw_all := lw_g (lw_at lw_m6 172 rfl) rfl
theorem q1422 : (Jvm.Cond.methodLink "NativeSubset" (227 : Nat) ({ cls := "NativeSubset", name := "rowOrNull", desc := "(I)Ljava/lang/Object;" } : Jvm.MethodName)) ∈ lw_all := lw_g (lw_at lw_m6 173 rfl) rfl
theorem q1423 : (Jvm.Cond.privateMethod ({ cls := "NativeSubset", name := "rowOrNull", desc := "(I)Ljava/lang/Object;" } : Jvm.MethodName)) ∈ lw_tbl := lw_at lw_m6 174 rfl
theorem q1424 : (Jvm.Cond.instanceMethod ({ cls := "NativeSubset", name := "rowOrNull", desc := "(I)Ljava/lang/Object;" } : Jvm.MethodName)) ∈ lw_all := lw_g (lw_at lw_m6 175 rfl) rfl
theorem q1425 : (Jvm.Cond.code ({ cls := "NativeSubset", name := "rowOrNull", desc := "(I)Ljava/lang/Object;" } : Jvm.MethodName) prog_1_method_24_code (2 : Nat) (Option.some (Jvm.ClassFile.FieldType.object "java/lang/Object"))) ∈ lw_all := lw_g (lw_at lw_m6 176 rfl) rfl
theorem q1426 : (Jvm.Cond.methodLink "NativeSubset" (230 : Nat) ({ cls := "NativeSubset", name := "goes", desc := "(IJ)Z" } : Jvm.MethodName)) ∈ lw_all := lw_g (lw_at lw_m6 177 rfl) rfl
theorem q1427 : (Jvm.Cond.classLink "NativeSubset" (234 : Nat) "java/lang/IllegalArgumentException") ∈ lw_all := lw_g (lw_at lw_m6 178 rfl) rfl
theorem q1436 : (Jvm.Cond.methodLink "NativeSubset" (236 : Nat) ({ cls := "java/lang/IllegalArgumentException", name := "<init>", desc := "()V" } : Jvm.MethodName)) ∈ lw_all := lw_g (lw_at lw_m6 187 rfl) rfl
theorem q1442 : (Jvm.Cond.methodLink "NativeSubset" (237 : Nat) ({ cls := "NativeSubset", name := "unitOf", desc := "(J)LNativeSubset$Unit;" } : Jvm.MethodName)) ∈ lw_all := lw_g (lw_at lw_m6 193 rfl) rfl
theorem q1443 : (Jvm.Cond.methodLink "NativeSubset" (241 : Nat) ({ cls := "NativeSubset", name := "put", desc := "(Ljava/lang/Object;IJLNativeSubset$Unit;[I)V" } : Jvm.MethodName)) ∈ lw_all := lw_g (lw_at lw_m6 194 rfl) rfl
theorem q1448 : (Jvm.Cond.instanceMethod ({ cls := "NativeSubset", name := "at", desc := "(II)J" } : Jvm.MethodName)) ∈ lw_all := lw_g (lw_at lw_m6 199 rfl) rfl
theorem q1449 : (Jvm.Cond.selects "NativeSubset" ({ cls := "NativeSubset", name := "at", desc := "(II)J" } : Jvm.MethodName) ({ cls := "NativeSubset", name := "at", desc := "(II)J" } : Jvm.MethodName)) ∈ lw_all := lw_g (lw_at lw_m6 200 rfl) rfl
theorem q1450 : (Jvm.Cond.code ({ cls := "NativeSubset", name := "at", desc := "(II)J" } : Jvm.MethodName) prog_1_method_26_code (3 : Nat) (Option.some Jvm.ClassFile.FieldType.long)) ∈ lw_all := lw_g (lw_at lw_m6 201 rfl) rfl
theorem q1469 : (Jvm.Cond.instanceMethod ({ cls := "NativeSubset", name := "inner", desc := "(IIII)I" } : Jvm.MethodName)) ∈ lw_all := lw_g (lw_at lw_m6 220 rfl) rfl
theorem q1470 : (Jvm.Cond.selects "NativeSubset" ({ cls := "NativeSubset", name := "inner", desc := "(IIII)I" } : Jvm.MethodName) ({ cls := "NativeSubset", name := "inner", desc := "(IIII)I" } : Jvm.MethodName)) ∈ lw_all := lw_g (lw_at lw_m6 221 rfl) rfl
theorem q1471 : (Jvm.Cond.code ({ cls := "NativeSubset", name := "inner", desc := "(IIII)I" } : Jvm.MethodName) prog_1_method_27_code (7 : Nat) (Option.some Jvm.ClassFile.FieldType.int)) ∈ lw_all := lw_g (lw_at lw_m6 222 rfl) rfl
theorem q1839 : (Jvm.Cond.castable "NativeSubset" "java/lang/Object") ∈ lw_tbl := lw_at lw_m8 110 rfl
theorem in_X1 : ∀ w ∈ wsX10, w ∈ lw_all := lw_in wsX10 [407, 409, 411, 413, 415, 417, 419, 421, 423, 425, 427, 429, 431, 433, 435, 437, 439] (by decide +kernel) (by decide +kernel)
