set_option maxRecDepth 100000
/-! NativeSubset$Plan -/
def RX2 : String := "NativeSubset$Plan"
def TX2 : u_T := fun k => match k with
  | 0 => ("NativeSubset$Plan", "acts", "[LNativeSubset$Act;", true)
  | _ => ("NativeSubset$Plan", "size", "I", false)
def tyX2 : Nat → FieldType := fun k => match k with
  | 0 => .array (.object "NativeSubset$Act")
  | _ => .int
abbrev wsX20 : List Cond := u_ws RX2 TX2 2
theorem nmX2 : ∀ a, a < 2 → ∀ b, b < 2 → a ≠ b → (TX2 a).2.1 ≠ (TX2 b).2.1 := by decide +kernel
theorem tyX2_ok : ∀ k, k < 2 → parseFieldDescriptor (TX2 k).2.2.1 = some (tyX2 k) := by decide +kernel
abbrev cX2_init : ByteArray := prog_21_method_1_code
def yX2_init : MethodName := ⟨RX2, "<init>", "()V"⟩
def dkwX2_init_0 : List UInt8 := [42, 183, 0, 3, 42, 16, 12, 189, 0, 9, 181, 0, 11, 177]
abbrev dktX2_init_0 : List UInt8 := dkwX2_init_0 ++ []
theorem dksX2_init_0 : cX2_init.data.toList.drop 0 = dktX2_init_0 := by decide +kernel
theorem dX2_init_0 : decode cX2_init 0 = .ok (.aload_n 0, 1) := dk_42 (dk_at dksX2_init_0 0 rfl rfl)
theorem dX2_init_1 : decode cX2_init 1 = .ok (.invokespecial 3, 3) := dk_183 0 3 (dk_at dksX2_init_0 1 rfl rfl)
theorem dX2_init_4 : decode cX2_init 4 = .ok (.aload_n 0, 1) := dk_42 (dk_at dksX2_init_0 4 rfl rfl)
theorem dX2_init_5 : decode cX2_init 5 = .ok (.bipush 12, 2) := dk_16 12 (dk_at dksX2_init_0 5 rfl rfl)
theorem dX2_init_7 : decode cX2_init 7 = .ok (.anewarray 9, 3) := dk_189 0 9 (dk_at dksX2_init_0 7 rfl rfl)
theorem dX2_init_10 : decode cX2_init 10 = .ok (.putfield 11, 3) := dk_181 0 11 (dk_at dksX2_init_0 10 rfl rfl)
theorem dX2_init_13 : decode cX2_init 13 = .ok (.return_, 1) := dk_177 (dk_at dksX2_init_0 13 rfl rfl)
theorem q54 : (Jvm.Cond.initialized "NativeSubset$Plan") ∈ lw_all := lw_g (lw_at lw_m1 5 rfl) rfl
theorem q137 : (Jvm.Cond.instantiable "NativeSubset$Plan" (2 : Nat)) ∈ lw_all := lw_g (lw_at lw_m1 88 rfl) rfl
theorem q139 : (Jvm.Cond.instanceMethod ({ cls := "NativeSubset$Plan", name := "<init>", desc := "()V" } : Jvm.MethodName)) ∈ lw_all := lw_g (lw_at lw_m1 90 rfl) rfl
theorem q140 : (Jvm.Cond.code ({ cls := "NativeSubset$Plan", name := "<init>", desc := "()V" } : Jvm.MethodName) prog_21_method_1_code (1 : Nat) (Option.none : Option Jvm.ClassFile.FieldType)) ∈ lw_all := lw_g (lw_at lw_m1 91 rfl) rfl
theorem q141 : (Jvm.Cond.methodLink "NativeSubset$Plan" (3 : Nat) ({ cls := "java/lang/Object", name := "<init>", desc := "()V" } : Jvm.MethodName)) ∈ lw_all := lw_g (lw_at lw_m1 92 rfl) rfl
theorem q142 : (Jvm.Cond.classLink "NativeSubset$Plan" (9 : Nat) "NativeSubset$Act") ∈ lw_all := lw_g (lw_at lw_m1 93 rfl) rfl
theorem q144 : (Jvm.Cond.fieldLink "NativeSubset$Plan" (11 : Nat) "NativeSubset$Plan" "acts" "[LNativeSubset$Act;") ∈ lw_all := lw_g (lw_at lw_m1 95 rfl) rfl
theorem q149 : (Jvm.Cond.laysFinal "NativeSubset$Plan" "NativeSubset$Plan" "acts" "[LNativeSubset$Act;") ∈ lw_all := lw_g (lw_at lw_m1 100 rfl) rfl
theorem q150 : (Jvm.Cond.soleField "NativeSubset$Plan" "acts") ∈ lw_all := lw_g (lw_at lw_m1 101 rfl) rfl
theorem q151 : (Jvm.Cond.lays "NativeSubset$Plan" "NativeSubset$Plan" "size" "I") ∈ lw_all := lw_g (lw_at lw_m1 102 rfl) rfl
theorem q152 : (Jvm.Cond.soleField "NativeSubset$Plan" "size") ∈ lw_all := lw_g (lw_at lw_m1 103 rfl) rfl
theorem q153 : (Jvm.Cond.superclass "NativeSubset$Plan" "java/lang/Object") ∈ lw_all := lw_g (lw_at lw_m1 104 rfl) rfl
theorem q508 : (Jvm.Cond.selects "NativeSubset$Plan" ({ cls := "java/lang/Object", name := "getClass", desc := "()Ljava/lang/Class;" } : Jvm.MethodName) ({ cls := "java/lang/Object", name := "getClass", desc := "()Ljava/lang/Class;" } : Jvm.MethodName)) ∈ lw_all := lw_g (lw_at lw_m2 219 rfl) rfl
theorem q1834 : (Jvm.Cond.castable "NativeSubset$Plan" "java/lang/Object") ∈ lw_tbl := lw_at lw_m8 105 rfl
theorem in_X2 : ∀ w ∈ wsX20, w ∈ lw_all := lw_in wsX20 [149, 151] (by decide +kernel) (by decide +kernel)
/-! NativeSubset$Helper -/
def RX3 : String := "NativeSubset$Helper"
abbrev cX3_init : ByteArray := prog_18_method_1_code
def yX3_init : MethodName := ⟨RX3, "<init>", "(LNativeSubset;I)V"⟩
def dkwX3_init_0 : List UInt8 := [42, 43, 181, 0, 1, 42, 183, 0, 7, 42, 28, 181, 0, 13, 177]
abbrev dktX3_init_0 : List UInt8 := dkwX3_init_0 ++ []
theorem dksX3_init_0 : cX3_init.data.toList.drop 0 = dktX3_init_0 := by decide +kernel
theorem dX3_init_0 : decode cX3_init 0 = .ok (.aload_n 0, 1) := dk_42 (dk_at dksX3_init_0 0 rfl rfl)
theorem dX3_init_1 : decode cX3_init 1 = .ok (.aload_n 1, 1) := dk_43 (dk_at dksX3_init_0 1 rfl rfl)
theorem dX3_init_2 : decode cX3_init 2 = .ok (.putfield 1, 3) := dk_181 0 1 (dk_at dksX3_init_0 2 rfl rfl)
theorem dX3_init_5 : decode cX3_init 5 = .ok (.aload_n 0, 1) := dk_42 (dk_at dksX3_init_0 5 rfl rfl)
theorem dX3_init_6 : decode cX3_init 6 = .ok (.invokespecial 7, 3) := dk_183 0 7 (dk_at dksX3_init_0 6 rfl rfl)
theorem dX3_init_9 : decode cX3_init 9 = .ok (.aload_n 0, 1) := dk_42 (dk_at dksX3_init_0 9 rfl rfl)
theorem dX3_init_10 : decode cX3_init 10 = .ok (.iload_n 2, 1) := dk_28 (dk_at dksX3_init_0 10 rfl rfl)
theorem dX3_init_11 : decode cX3_init 11 = .ok (.putfield 13, 3) := dk_181 0 13 (dk_at dksX3_init_0 11 rfl rfl)
theorem dX3_init_14 : decode cX3_init 14 = .ok (.return_, 1) := dk_177 (dk_at dksX3_init_0 14 rfl rfl)
abbrev cX3_hasOther : ByteArray := prog_18_method_5_code
def yX3_hasOther : MethodName := ⟨RX3, "hasOther", "()Z"⟩
theorem dX3_hasOther_0 : decode cX3_hasOther 0 = .ok (.iconst 0, 1) := by decide +kernel
theorem dX3_hasOther_1 : decode cX3_hasOther 1 = .ok (.ireturn, 1) := by decide +kernel
abbrev cX3_many : ByteArray := prog_18_method_4_code
def yX3_many : MethodName := ⟨RX3, "many", "(LNativeSubset$Act;)I"⟩
theorem dX3_many_0 : decode cX3_many 0 = .ok (.aload_n 1, 1) := by decide +kernel
theorem dX3_many_1 : decode cX3_many 1 = .ok (.getfield 17, 3) := by decide +kernel
theorem dX3_many_4 : decode cX3_many 4 = .ok (.ireturn, 1) := by decide +kernel
abbrev cX3_base : ByteArray := prog_18_method_2_code
def yX3_base : MethodName := ⟨RX3, "base", "()I"⟩
theorem dX3_base_0 : decode cX3_base 0 = .ok (.aload_n 0, 1) := by decide +kernel
theorem dX3_base_1 : decode cX3_base 1 = .ok (.getfield 13, 3) := by decide +kernel
theorem dX3_base_4 : decode cX3_base 4 = .ok (.ireturn, 1) := by decide +kernel
abbrev cX3_length : ByteArray := prog_18_method_3_code
def yX3_length : MethodName := ⟨RX3, "length", "(I)I"⟩
theorem dX3_length_0 : decode cX3_length 0 = .ok (.iload_n 1, 1) := by decide +kernel
theorem dX3_length_1 : decode cX3_length 1 = .ok (.ireturn, 1) := by decide +kernel
theorem q55 : (Jvm.Cond.initialized "NativeSubset$Helper") ∈ lw_all := lw_g (lw_at lw_m1 6 rfl) rfl
theorem q162 : (Jvm.Cond.instanceMethod ({ cls := "NativeSubset$Helper", name := "<init>", desc := "(LNativeSubset;I)V" } : Jvm.MethodName)) ∈ lw_all := lw_g (lw_at lw_m1 113 rfl) rfl
theorem q163 : (Jvm.Cond.code ({ cls := "NativeSubset$Helper", name := "<init>", desc := "(LNativeSubset;I)V" } : Jvm.MethodName) prog_18_method_1_code (3 : Nat) (Option.none : Option Jvm.ClassFile.FieldType)) ∈ lw_all := lw_g (lw_at lw_m1 114 rfl) rfl
theorem q164 : (Jvm.Cond.methodLink "NativeSubset$Helper" (7 : Nat) ({ cls := "java/lang/Object", name := "<init>", desc := "()V" } : Jvm.MethodName)) ∈ lw_all := lw_g (lw_at lw_m1 115 rfl) rfl
theorem q166 : (Jvm.Cond.fieldLink "NativeSubset$Helper" (13 : Nat) "NativeSubset$Helper" "base" "I") ∈ lw_all := lw_g (lw_at lw_m1 117 rfl) rfl
theorem q167 : (Jvm.Cond.fieldLink "NativeSubset$Helper" (1 : Nat) "NativeSubset$Helper" "this$0" "LNativeSubset;") ∈ lw_all := lw_g (lw_at lw_m1 118 rfl) rfl
theorem q171 : (Jvm.Cond.soleField "NativeSubset$Helper" "base") ∈ lw_all := lw_g (lw_at lw_m1 122 rfl) rfl
theorem q173 : (Jvm.Cond.soleField "NativeSubset$Helper" "this$0") ∈ lw_all := lw_g (lw_at lw_m1 124 rfl) rfl
theorem q729 : (Jvm.Cond.fieldLinkNest "NativeSubset$Helper" (17 : Nat) "NativeSubset$Act" "n" "I" "NativeSubset") ∈ lw_tbl := lw_at lw_m3 200 rfl
theorem q755 : (Jvm.Cond.instanceMethod ({ cls := "NativeSubset$Helper", name := "hasOther", desc := "()Z" } : Jvm.MethodName)) ∈ lw_all := lw_g (lw_at lw_m3 226 rfl) rfl
theorem q756 : (Jvm.Cond.sameMethod "NativeSubset$Helper" "NativeSubset$Helper" "hasOther" "()Z") ∈ lw_all := lw_g (lw_at lw_m3 227 rfl) rfl
theorem q774 : (Jvm.Cond.code ({ cls := "NativeSubset$Helper", name := "hasOther", desc := "()Z" } : Jvm.MethodName) prog_18_method_5_code (1 : Nat) (Option.some Jvm.ClassFile.FieldType.boolean)) ∈ lw_all := lw_g (lw_at lw_m4 5 rfl) rfl
theorem q780 : (Jvm.Cond.instanceMethod ({ cls := "NativeSubset$Helper", name := "many", desc := "(LNativeSubset$Act;)I" } : Jvm.MethodName)) ∈ lw_all := lw_g (lw_at lw_m4 11 rfl) rfl
theorem q781 : (Jvm.Cond.sameMethod "NativeSubset$Helper" "NativeSubset$Helper" "many" "(LNativeSubset$Act;)I") ∈ lw_all := lw_g (lw_at lw_m4 12 rfl) rfl
theorem q812 : (Jvm.Cond.code ({ cls := "NativeSubset$Helper", name := "many", desc := "(LNativeSubset$Act;)I" } : Jvm.MethodName) prog_18_method_4_code (2 : Nat) (Option.some Jvm.ClassFile.FieldType.int)) ∈ lw_all := lw_g (lw_at lw_m4 43 rfl) rfl
theorem q832 : (Jvm.Cond.instanceMethod ({ cls := "NativeSubset$Helper", name := "base", desc := "()I" } : Jvm.MethodName)) ∈ lw_all := lw_g (lw_at lw_m4 63 rfl) rfl
theorem q833 : (Jvm.Cond.publicMethod ({ cls := "NativeSubset$Helper", name := "base", desc := "()I" } : Jvm.MethodName)) ∈ lw_tbl := lw_at lw_m4 64 rfl
theorem q834 : (Jvm.Cond.code ({ cls := "NativeSubset$Helper", name := "base", desc := "()I" } : Jvm.MethodName) prog_18_method_2_code (1 : Nat) (Option.some Jvm.ClassFile.FieldType.int)) ∈ lw_all := lw_g (lw_at lw_m4 65 rfl) rfl
theorem q879 : (Jvm.Cond.instanceMethod ({ cls := "NativeSubset$Helper", name := "length", desc := "(I)I" } : Jvm.MethodName)) ∈ lw_all := lw_g (lw_at lw_m4 110 rfl) rfl
theorem q880 : (Jvm.Cond.publicMethod ({ cls := "NativeSubset$Helper", name := "length", desc := "(I)I" } : Jvm.MethodName)) ∈ lw_tbl := lw_at lw_m4 111 rfl
theorem q881 : (Jvm.Cond.code ({ cls := "NativeSubset$Helper", name := "length", desc := "(I)I" } : Jvm.MethodName) prog_18_method_3_code (2 : Nat) (Option.some Jvm.ClassFile.FieldType.int)) ∈ lw_all := lw_g (lw_at lw_m4 112 rfl) rfl
theorem q907 : (Jvm.Cond.declares ({ cls := "NativeSubset$Helper", name := "length", desc := "(I)I" } : Jvm.MethodName)) ∈ lw_tbl := lw_at lw_m4 138 rfl
theorem q1073 : (Jvm.Cond.declares ({ cls := "NativeSubset$Helper", name := "work", desc := "(LNativeSubset$Act;LNativeSubset$Call;)J" } : Jvm.MethodName)) ∈ lw_tbl := lw_at lw_m5 64 rfl
theorem q1074 : (Jvm.Cond.sameMethod "NativeSubset$Helper" "NativeSubset$Helper" "work" "(LNativeSubset$Act;LNativeSubset$Call;)J") ∈ lw_all := lw_g (lw_at lw_m5 65 rfl) rfl
theorem q1836 : (Jvm.Cond.castable "NativeSubset$Helper" "java/lang/Object") ∈ lw_tbl := lw_at lw_m8 107 rfl
/-! NativeSubset$Copying -/
def RX4 : String := "NativeSubset$Copying"
def TX4 : u_T := fun k => match k with
  | 0 => ("NativeSubset$Helper", "base", "I", true)
  | 1 => ("NativeSubset$Helper", "this$0", "LNativeSubset;", true)
  | _ => ("NativeSubset$Copying", "this$0", "LNativeSubset;", true)
def tyX4 : Nat → FieldType := fun k => match k with
  | 0 => .int
  | 1 => .object "NativeSubset"
  | _ => .object "NativeSubset"
abbrev wsX40 : List Cond := u_ws RX4 TX4 3
-- two fields of one name: no nmX4
theorem tyX4_ok : ∀ k, k < 3 → parseFieldDescriptor (TX4 k).2.2.1 = some (tyX4 k) := by decide +kernel
abbrev cX4_init : ByteArray := prog_9_method_1_code
def yX4_init : MethodName := ⟨RX4, "<init>", "(LNativeSubset;)V"⟩
def dkwX4_init_0 : List UInt8 := [42, 43, 181, 0, 3, 42, 43, 5, 183, 0, 9, 177]
abbrev dktX4_init_0 : List UInt8 := dkwX4_init_0 ++ []
theorem dksX4_init_0 : cX4_init.data.toList.drop 0 = dktX4_init_0 := by decide +kernel
theorem dX4_init_0 : decode cX4_init 0 = .ok (.aload_n 0, 1) := dk_42 (dk_at dksX4_init_0 0 rfl rfl)
theorem dX4_init_1 : decode cX4_init 1 = .ok (.aload_n 1, 1) := dk_43 (dk_at dksX4_init_0 1 rfl rfl)
theorem dX4_init_2 : decode cX4_init 2 = .ok (.putfield 3, 3) := dk_181 0 3 (dk_at dksX4_init_0 2 rfl rfl)
theorem dX4_init_5 : decode cX4_init 5 = .ok (.aload_n 0, 1) := dk_42 (dk_at dksX4_init_0 5 rfl rfl)
theorem dX4_init_6 : decode cX4_init 6 = .ok (.aload_n 1, 1) := dk_43 (dk_at dksX4_init_0 6 rfl rfl)
theorem dX4_init_7 : decode cX4_init 7 = .ok (.iconst 2, 1) := dk_5 (dk_at dksX4_init_0 7 rfl rfl)
theorem dX4_init_8 : decode cX4_init 8 = .ok (.invokespecial 9, 3) := dk_183 0 9 (dk_at dksX4_init_0 8 rfl rfl)
theorem dX4_init_11 : decode cX4_init 11 = .ok (.return_, 1) := dk_177 (dk_at dksX4_init_0 11 rfl rfl)
abbrev cX4_hasOther : ByteArray := prog_9_method_2_code
def yX4_hasOther : MethodName := ⟨RX4, "hasOther", "()Z"⟩
theorem dX4_hasOther_0 : decode cX4_hasOther 0 = .ok (.iconst 1, 1) := by decide +kernel
theorem dX4_hasOther_1 : decode cX4_hasOther 1 = .ok (.ireturn, 1) := by decide +kernel
abbrev cX4_work : ByteArray := prog_9_method_3_code
def yX4_work : MethodName := ⟨RX4, "work", "(LNativeSubset$Act;LNativeSubset$Call;)J"⟩
def dkwX4_work_4 : List UInt8 := [180, 0, 3, 5, 182, 0, 36, 191, 9, 173]
abbrev dktX4_work_4 : List UInt8 := dkwX4_work_4 ++ []
def dkwX4_work_3 : List UInt8 := [43, 180, 0, 52, 184, 0, 55, 167, 0, 25, 58, 5, 42, 180, 0, 3, 6, 182, 0, 36, 191, 58, 5, 42]
abbrev dktX4_work_3 : List UInt8 := dkwX4_work_3 ++ dktX4_work_4
def dkwX4_work_2 : List UInt8 := [6, 182, 0, 36, 191, 44, 43, 180, 0, 31, 182, 0, 40, 45, 43, 180, 0, 46, 25, 4, 43, 180, 0, 49]
abbrev dktX4_work_2 : List UInt8 := dkwX4_work_2 ++ dktX4_work_3
def dkwX4_work_1 : List UInt8 := [180, 0, 31, 182, 0, 25, 58, 4, 45, 193, 0, 34, 25, 4, 193, 0, 34, 159, 0, 12, 42, 180, 0, 3]
abbrev dktX4_work_1 : List UInt8 := dkwX4_work_1 ++ dktX4_work_2
def dkwX4_work_0 : List UInt8 := [42, 180, 0, 3, 180, 0, 15, 43, 180, 0, 19, 182, 0, 25, 78, 42, 180, 0, 3, 180, 0, 15, 43]
abbrev dktX4_work_0 : List UInt8 := dkwX4_work_0 ++ dktX4_work_1
theorem dksX4_work_0 : cX4_work.data.toList.drop 0 = dktX4_work_0 := by decide +kernel
theorem dksX4_work_1 : cX4_work.data.toList.drop 23 = dktX4_work_1 := dk_seg dksX4_work_0 23 rfl rfl
theorem dksX4_work_2 : cX4_work.data.toList.drop 47 = dktX4_work_2 := dk_seg dksX4_work_1 24 rfl rfl
theorem dksX4_work_3 : cX4_work.data.toList.drop 71 = dktX4_work_3 := dk_seg dksX4_work_2 24 rfl rfl
theorem dksX4_work_4 : cX4_work.data.toList.drop 95 = dktX4_work_4 := dk_seg dksX4_work_3 24 rfl rfl
theorem dX4_work_0 : decode cX4_work 0 = .ok (.aload_n 0, 1) := dk_42 (dk_at dksX4_work_0 0 rfl rfl)
theorem dX4_work_1 : decode cX4_work 1 = .ok (.getfield 3, 3) := dk_180 0 3 (dk_at dksX4_work_0 1 rfl rfl)
theorem dX4_work_4 : decode cX4_work 4 = .ok (.getfield 15, 3) := dk_180 0 15 (dk_at dksX4_work_0 4 rfl rfl)
theorem dX4_work_7 : decode cX4_work 7 = .ok (.aload_n 1, 1) := dk_43 (dk_at dksX4_work_0 7 rfl rfl)
theorem dX4_work_8 : decode cX4_work 8 = .ok (.getfield 19, 3) := dk_180 0 19 (dk_at dksX4_work_0 8 rfl rfl)
theorem dX4_work_11 : decode cX4_work 11 = .ok (.invokevirtual 25, 3) := dk_182 0 25 (dk_at dksX4_work_0 11 rfl rfl)
theorem dX4_work_14 : decode cX4_work 14 = .ok (.astore_n 3, 1) := dk_78 (dk_at dksX4_work_0 14 rfl rfl)
theorem dX4_work_15 : decode cX4_work 15 = .ok (.aload_n 0, 1) := dk_42 (dk_at dksX4_work_0 15 rfl rfl)
theorem dX4_work_16 : decode cX4_work 16 = .ok (.getfield 3, 3) := dk_180 0 3 (dk_at dksX4_work_0 16 rfl rfl)
theorem dX4_work_19 : decode cX4_work 19 = .ok (.getfield 15, 3) := dk_180 0 15 (dk_at dksX4_work_0 19 rfl rfl)
theorem dX4_work_22 : decode cX4_work 22 = .ok (.aload_n 1, 1) := dk_43 (dk_at dksX4_work_0 22 rfl rfl)
theorem dX4_work_23 : decode cX4_work 23 = .ok (.getfield 31, 3) := dk_180 0 31 (dk_at dksX4_work_1 0 rfl rfl)
theorem dX4_work_26 : decode cX4_work 26 = .ok (.invokevirtual 25, 3) := dk_182 0 25 (dk_at dksX4_work_1 3 rfl rfl)
theorem dX4_work_29 : decode cX4_work 29 = .ok (.astore 4, 2) := dk_58 4 (dk_at dksX4_work_1 6 rfl rfl)
theorem dX4_work_31 : decode cX4_work 31 = .ok (.aload_n 3, 1) := dk_45 (dk_at dksX4_work_1 8 rfl rfl)
theorem dX4_work_32 : decode cX4_work 32 = .ok (.instanceof 34, 3) := dk_193 0 34 (dk_at dksX4_work_1 9 rfl rfl)
theorem dX4_work_35 : decode cX4_work 35 = .ok (.aload 4, 2) := dk_25 4 (dk_at dksX4_work_1 12 rfl rfl)
theorem dX4_work_37 : decode cX4_work 37 = .ok (.instanceof 34, 3) := dk_193 0 34 (dk_at dksX4_work_1 14 rfl rfl)
theorem dX4_work_40 : decode cX4_work 40 = .ok (.if_icmp .eq 12, 3) := dk_159 0 12 (dk_at dksX4_work_1 17 rfl rfl)
theorem dX4_work_43 : decode cX4_work 43 = .ok (.aload_n 0, 1) := dk_42 (dk_at dksX4_work_1 20 rfl rfl)
theorem dX4_work_44 : decode cX4_work 44 = .ok (.getfield 3, 3) := dk_180 0 3 (dk_at dksX4_work_1 21 rfl rfl)
theorem dX4_work_47 : decode cX4_work 47 = .ok (.iconst 3, 1) := dk_6 (dk_at dksX4_work_2 0 rfl rfl)
theorem dX4_work_48 : decode cX4_work 48 = .ok (.invokevirtual 36, 3) := dk_182 0 36 (dk_at dksX4_work_2 1 rfl rfl)
theorem dX4_work_51 : decode cX4_work 51 = .ok (.athrow, 1) := dk_191 (dk_at dksX4_work_2 4 rfl rfl)
theorem dX4_work_52 : decode cX4_work 52 = .ok (.aload_n 2, 1) := dk_44 (dk_at dksX4_work_2 5 rfl rfl)
theorem dX4_work_53 : decode cX4_work 53 = .ok (.aload_n 1, 1) := dk_43 (dk_at dksX4_work_2 6 rfl rfl)
theorem dX4_work_54 : decode cX4_work 54 = .ok (.getfield 31, 3) := dk_180 0 31 (dk_at dksX4_work_2 7 rfl rfl)
theorem dX4_work_57 : decode cX4_work 57 = .ok (.invokevirtual 40, 3) := dk_182 0 40 (dk_at dksX4_work_2 10 rfl rfl)
theorem dX4_work_60 : decode cX4_work 60 = .ok (.aload_n 3, 1) := dk_45 (dk_at dksX4_work_2 13 rfl rfl)
theorem dX4_work_61 : decode cX4_work 61 = .ok (.aload_n 1, 1) := dk_43 (dk_at dksX4_work_2 14 rfl rfl)
theorem dX4_work_62 : decode cX4_work 62 = .ok (.getfield 46, 3) := dk_180 0 46 (dk_at dksX4_work_2 15 rfl rfl)
theorem dX4_work_65 : decode cX4_work 65 = .ok (.aload 4, 2) := dk_25 4 (dk_at dksX4_work_2 18 rfl rfl)
theorem dX4_work_67 : decode cX4_work 67 = .ok (.aload_n 1, 1) := dk_43 (dk_at dksX4_work_2 20 rfl rfl)
theorem dX4_work_68 : decode cX4_work 68 = .ok (.getfield 49, 3) := dk_180 0 49 (dk_at dksX4_work_2 21 rfl rfl)
theorem dX4_work_71 : decode cX4_work 71 = .ok (.aload_n 1, 1) := dk_43 (dk_at dksX4_work_3 0 rfl rfl)
theorem dX4_work_72 : decode cX4_work 72 = .ok (.getfield 52, 3) := dk_180 0 52 (dk_at dksX4_work_3 1 rfl rfl)
theorem dX4_work_75 : decode cX4_work 75 = .ok (.invokestatic 55, 3) := dk_184 0 55 (dk_at dksX4_work_3 4 rfl rfl)
theorem dX4_work_78 : decode cX4_work 78 = .ok (.goto 25, 3) := dk_167 0 25 (dk_at dksX4_work_3 7 rfl rfl)
theorem dX4_work_81 : decode cX4_work 81 = .ok (.astore 5, 2) := dk_58 5 (dk_at dksX4_work_3 10 rfl rfl)
theorem dX4_work_83 : decode cX4_work 83 = .ok (.aload_n 0, 1) := dk_42 (dk_at dksX4_work_3 12 rfl rfl)
theorem dX4_work_84 : decode cX4_work 84 = .ok (.getfield 3, 3) := dk_180 0 3 (dk_at dksX4_work_3 13 rfl rfl)
theorem dX4_work_87 : decode cX4_work 87 = .ok (.iconst 3, 1) := dk_6 (dk_at dksX4_work_3 16 rfl rfl)
theorem dX4_work_88 : decode cX4_work 88 = .ok (.invokevirtual 36, 3) := dk_182 0 36 (dk_at dksX4_work_3 17 rfl rfl)
theorem dX4_work_91 : decode cX4_work 91 = .ok (.athrow, 1) := dk_191 (dk_at dksX4_work_3 20 rfl rfl)
theorem dX4_work_92 : decode cX4_work 92 = .ok (.astore 5, 2) := dk_58 5 (dk_at dksX4_work_3 21 rfl rfl)
theorem dX4_work_94 : decode cX4_work 94 = .ok (.aload_n 0, 1) := dk_42 (dk_at dksX4_work_3 23 rfl rfl)
theorem dX4_work_95 : decode cX4_work 95 = .ok (.getfield 3, 3) := dk_180 0 3 (dk_at dksX4_work_4 0 rfl rfl)
theorem dX4_work_98 : decode cX4_work 98 = .ok (.iconst 2, 1) := dk_5 (dk_at dksX4_work_4 3 rfl rfl)
theorem dX4_work_99 : decode cX4_work 99 = .ok (.invokevirtual 36, 3) := dk_182 0 36 (dk_at dksX4_work_4 4 rfl rfl)
theorem dX4_work_102 : decode cX4_work 102 = .ok (.athrow, 1) := dk_191 (dk_at dksX4_work_4 7 rfl rfl)
theorem dX4_work_103 : decode cX4_work 103 = .ok (.lconst 0, 1) := dk_9 (dk_at dksX4_work_4 8 rfl rfl)
theorem dX4_work_104 : decode cX4_work 104 = .ok (.lreturn, 1) := dk_173 (dk_at dksX4_work_4 9 rfl rfl)
theorem q56 : (Jvm.Cond.initialized "NativeSubset$Copying") ∈ lw_all := lw_g (lw_at lw_m1 7 rfl) rfl
theorem q157 : (Jvm.Cond.instantiable "NativeSubset$Copying" (3 : Nat)) ∈ lw_all := lw_g (lw_at lw_m1 108 rfl) rfl
theorem q159 : (Jvm.Cond.instanceMethod ({ cls := "NativeSubset$Copying", name := "<init>", desc := "(LNativeSubset;)V" } : Jvm.MethodName)) ∈ lw_all := lw_g (lw_at lw_m1 110 rfl) rfl
theorem q160 : (Jvm.Cond.code ({ cls := "NativeSubset$Copying", name := "<init>", desc := "(LNativeSubset;)V" } : Jvm.MethodName) prog_9_method_1_code (2 : Nat) (Option.none : Option Jvm.ClassFile.FieldType)) ∈ lw_all := lw_g (lw_at lw_m1 111 rfl) rfl
theorem q161 : (Jvm.Cond.methodLink "NativeSubset$Copying" (9 : Nat) ({ cls := "NativeSubset$Helper", name := "<init>", desc := "(LNativeSubset;I)V" } : Jvm.MethodName)) ∈ lw_all := lw_g (lw_at lw_m1 112 rfl) rfl
theorem q165 : (Jvm.Cond.fieldLink "NativeSubset$Copying" (3 : Nat) "NativeSubset$Copying" "this$0" "LNativeSubset;") ∈ lw_all := lw_g (lw_at lw_m1 116 rfl) rfl
theorem q168 : (Jvm.Cond.laysFinal "NativeSubset$Copying" "NativeSubset$Copying" "this$0" "LNativeSubset;") ∈ lw_all := lw_g (lw_at lw_m1 119 rfl) rfl
theorem q169 : (Jvm.Cond.soleField "NativeSubset$Copying" "this$0") ∈ lw_all := lw_g (lw_at lw_m1 120 rfl) rfl
theorem q170 : (Jvm.Cond.laysFinal "NativeSubset$Copying" "NativeSubset$Helper" "base" "I") ∈ lw_all := lw_g (lw_at lw_m1 121 rfl) rfl
theorem q172 : (Jvm.Cond.laysFinal "NativeSubset$Copying" "NativeSubset$Helper" "this$0" "LNativeSubset;") ∈ lw_all := lw_g (lw_at lw_m1 123 rfl) rfl
theorem q174 : (Jvm.Cond.superclass "NativeSubset$Copying" "NativeSubset$Helper") ∈ lw_all := lw_g (lw_at lw_m1 125 rfl) rfl
theorem q381 : (Jvm.Cond.fieldLinkNest "NativeSubset$Copying" (15 : Nat) "NativeSubset" "rows" "Ljava/util/ArrayList;" "NativeSubset") ∈ lw_tbl := lw_at lw_m2 92 rfl
theorem q498 : (Jvm.Cond.selects "NativeSubset$Copying" ({ cls := "java/lang/Object", name := "getClass", desc := "()Ljava/lang/Class;" } : Jvm.MethodName) ({ cls := "java/lang/Object", name := "getClass", desc := "()Ljava/lang/Class;" } : Jvm.MethodName)) ∈ lw_all := lw_g (lw_at lw_m2 209 rfl) rfl
theorem q698 : (Jvm.Cond.fieldLinkNest "NativeSubset$Copying" (19 : Nat) "NativeSubset$Act" "a" "I" "NativeSubset") ∈ lw_tbl := lw_at lw_m3 169 rfl
theorem q709 : (Jvm.Cond.fieldLinkNest "NativeSubset$Copying" (46 : Nat) "NativeSubset$Act" "i" "I" "NativeSubset") ∈ lw_tbl := lw_at lw_m3 180 rfl
theorem q715 : (Jvm.Cond.fieldLinkNest "NativeSubset$Copying" (31 : Nat) "NativeSubset$Act" "b" "I" "NativeSubset") ∈ lw_tbl := lw_at lw_m3 186 rfl
theorem q720 : (Jvm.Cond.fieldLinkNest "NativeSubset$Copying" (49 : Nat) "NativeSubset$Act" "j" "I" "NativeSubset") ∈ lw_tbl := lw_at lw_m3 191 rfl
theorem q728 : (Jvm.Cond.fieldLinkNest "NativeSubset$Copying" (52 : Nat) "NativeSubset$Act" "n" "I" "NativeSubset") ∈ lw_tbl := lw_at lw_m3 199 rfl
theorem q759 : (Jvm.Cond.selects "NativeSubset$Copying" ({ cls := "NativeSubset$Helper", name := "hasOther", desc := "()Z" } : Jvm.MethodName) ({ cls := "NativeSubset$Copying", name := "hasOther", desc := "()Z" } : Jvm.MethodName)) ∈ lw_all := lw_g (lw_at lw_m3 230 rfl) rfl
theorem q760 : (Jvm.Cond.instanceMethod ({ cls := "NativeSubset$Copying", name := "hasOther", desc := "()Z" } : Jvm.MethodName)) ∈ lw_all := lw_g (lw_at lw_m3 231 rfl) rfl
theorem q761 : (Jvm.Cond.code ({ cls := "NativeSubset$Copying", name := "hasOther", desc := "()Z" } : Jvm.MethodName) prog_9_method_2_code (1 : Nat) (Option.some Jvm.ClassFile.FieldType.boolean)) ∈ lw_all := lw_g (lw_at lw_m3 232 rfl) rfl
theorem q790 : (Jvm.Cond.selects "NativeSubset$Copying" ({ cls := "NativeSubset$Helper", name := "many", desc := "(LNativeSubset$Act;)I" } : Jvm.MethodName) ({ cls := "NativeSubset$Helper", name := "many", desc := "(LNativeSubset$Act;)I" } : Jvm.MethodName)) ∈ lw_all := lw_g (lw_at lw_m4 21 rfl) rfl
theorem q838 : (Jvm.Cond.castable "NativeSubset$Copying" "NativeSubset$Priced") ∈ lw_tbl := lw_at lw_m4 69 rfl
theorem q839 : (Jvm.Cond.selects "NativeSubset$Copying" ({ cls := "NativeSubset$Priced", name := "base", desc := "()I" } : Jvm.MethodName) ({ cls := "NativeSubset$Helper", name := "base", desc := "()I" } : Jvm.MethodName)) ∈ lw_all := lw_g (lw_at lw_m4 70 rfl) rfl
theorem q840 : (Jvm.Cond.unhidden "NativeSubset$Copying" "base" "()I") ∈ lw_tbl := lw_at lw_m4 71 rfl
theorem q884 : (Jvm.Cond.selects "NativeSubset$Copying" ({ cls := "NativeSubset$Priced", name := "length", desc := "(I)I" } : Jvm.MethodName) ({ cls := "NativeSubset$Helper", name := "length", desc := "(I)I" } : Jvm.MethodName)) ∈ lw_all := lw_g (lw_at lw_m4 115 rfl) rfl
theorem q885 : (Jvm.Cond.unhidden "NativeSubset$Copying" "length" "(I)I") ∈ lw_tbl := lw_at lw_m4 116 rfl
theorem q915 : (Jvm.Cond.unhidden "NativeSubset$Copying" "price" "(II)I") ∈ lw_tbl := lw_at lw_m4 146 rfl
theorem q1106 : (Jvm.Cond.selects "NativeSubset$Copying" ({ cls := "NativeSubset$Helper", name := "work", desc := "(LNativeSubset$Act;LNativeSubset$Call;)J" } : Jvm.MethodName) ({ cls := "NativeSubset$Copying", name := "work", desc := "(LNativeSubset$Act;LNativeSubset$Call;)J" } : Jvm.MethodName)) ∈ lw_all := lw_g (lw_at lw_m5 97 rfl) rfl
theorem q1107 : (Jvm.Cond.instanceMethod ({ cls := "NativeSubset$Copying", name := "work", desc := "(LNativeSubset$Act;LNativeSubset$Call;)J" } : Jvm.MethodName)) ∈ lw_all := lw_g (lw_at lw_m5 98 rfl) rfl
theorem q1108 : (Jvm.Cond.codeWith ({ cls := "NativeSubset$Copying", name := "work", desc := "(LNativeSubset$Act;LNativeSubset$Call;)J" } : Jvm.MethodName) prog_9_method_3_code (6 : Nat) (Option.some Jvm.ClassFile.FieldType.long) [((60 : Nat), (78 : Nat), (81 : Nat), (61 : Nat)), ((60 : Nat), (78 : Nat), (92 : Nat), (63 : Nat))]) ∈ lw_all := lw_g (lw_at lw_m5 99 rfl) rfl
theorem q1109 : (Jvm.Cond.classLink "NativeSubset$Copying" (61 : Nat) "java/lang/ArrayStoreException") ∈ lw_all := lw_g (lw_at lw_m5 100 rfl) rfl
theorem q1136 : (Jvm.Cond.classLink "NativeSubset$Copying" (63 : Nat) "java/lang/IndexOutOfBoundsException") ∈ lw_all := lw_g (lw_at lw_m5 127 rfl) rfl
theorem q1155 : (Jvm.Cond.methodLink "NativeSubset$Copying" (25 : Nat) ({ cls := "java/util/ArrayList", name := "get", desc := "(I)Ljava/lang/Object;" } : Jvm.MethodName)) ∈ lw_all := lw_g (lw_at lw_m5 146 rfl) rfl
theorem q1156 : (Jvm.Cond.classLink "NativeSubset$Copying" (34 : Nat) "[[I") ∈ lw_all := lw_g (lw_at lw_m5 147 rfl) rfl
theorem q1157 : (Jvm.Cond.methodLinkNest "NativeSubset$Copying" (36 : Nat) ({ cls := "NativeSubset", name := "fail", desc := "(I)LNativeSubset$Failure;" } : Jvm.MethodName) "NativeSubset") ∈ lw_tbl := lw_at lw_m5 148 rfl
theorem q1158 : (Jvm.Cond.methodLink "NativeSubset$Copying" (40 : Nat) ({ cls := "NativeSubset$Call", name := "keep", desc := "(I)V" } : Jvm.MethodName)) ∈ lw_all := lw_g (lw_at lw_m5 149 rfl) rfl
theorem q1163 : (Jvm.Cond.methodLink "NativeSubset$Copying" (55 : Nat) ({ cls := "java/lang/System", name := "arraycopy", desc := "(Ljava/lang/Object;ILjava/lang/Object;II)V" } : Jvm.MethodName)) ∈ lw_all := lw_g (lw_at lw_m5 154 rfl) rfl
theorem q1841 : (Jvm.Cond.castable "NativeSubset$Copying" "java/lang/Object") ∈ lw_tbl := lw_at lw_m8 112 rfl
theorem q1865 : (Jvm.Cond.castable "NativeSubset$Copying" "NativeSubset$Helper") ∈ lw_tbl := lw_at lw_m8 136 rfl
theorem in_X4 : ∀ w ∈ wsX40, w ∈ lw_all := lw_in wsX40 [170, 172, 168] (by decide +kernel) (by decide +kernel)
/-! NativeSubset$Asking -/
def RX5 : String := "NativeSubset$Asking"
abbrev cX5_init : ByteArray := prog_3_method_1_code
def yX5_init : MethodName := ⟨RX5, "<init>", "(LNativeSubset;III)V"⟩
def dkwX5_init_0 : List UInt8 := [42, 43, 181, 0, 3, 42, 43, 28, 183, 0, 9, 42, 29, 181, 0, 15, 42, 21, 4, 181, 0, 19, 177]
abbrev dktX5_init_0 : List UInt8 := dkwX5_init_0 ++ []
theorem dksX5_init_0 : cX5_init.data.toList.drop 0 = dktX5_init_0 := by decide +kernel
theorem dX5_init_0 : decode cX5_init 0 = .ok (.aload_n 0, 1) := dk_42 (dk_at dksX5_init_0 0 rfl rfl)
theorem dX5_init_1 : decode cX5_init 1 = .ok (.aload_n 1, 1) := dk_43 (dk_at dksX5_init_0 1 rfl rfl)
theorem dX5_init_2 : decode cX5_init 2 = .ok (.putfield 3, 3) := dk_181 0 3 (dk_at dksX5_init_0 2 rfl rfl)
theorem dX5_init_5 : decode cX5_init 5 = .ok (.aload_n 0, 1) := dk_42 (dk_at dksX5_init_0 5 rfl rfl)
theorem dX5_init_6 : decode cX5_init 6 = .ok (.aload_n 1, 1) := dk_43 (dk_at dksX5_init_0 6 rfl rfl)
theorem dX5_init_7 : decode cX5_init 7 = .ok (.iload_n 2, 1) := dk_28 (dk_at dksX5_init_0 7 rfl rfl)
theorem dX5_init_8 : decode cX5_init 8 = .ok (.invokespecial 9, 3) := dk_183 0 9 (dk_at dksX5_init_0 8 rfl rfl)
theorem dX5_init_11 : decode cX5_init 11 = .ok (.aload_n 0, 1) := dk_42 (dk_at dksX5_init_0 11 rfl rfl)
theorem dX5_init_12 : decode cX5_init 12 = .ok (.iload_n 3, 1) := dk_29 (dk_at dksX5_init_0 12 rfl rfl)
theorem dX5_init_13 : decode cX5_init 13 = .ok (.putfield 15, 3) := dk_181 0 15 (dk_at dksX5_init_0 13 rfl rfl)
theorem dX5_init_16 : decode cX5_init 16 = .ok (.aload_n 0, 1) := dk_42 (dk_at dksX5_init_0 16 rfl rfl)
theorem dX5_init_17 : decode cX5_init 17 = .ok (.iload 4, 2) := dk_21 4 (dk_at dksX5_init_0 17 rfl rfl)
theorem dX5_init_19 : decode cX5_init 19 = .ok (.putfield 19, 3) := dk_181 0 19 (dk_at dksX5_init_0 19 rfl rfl)
theorem dX5_init_22 : decode cX5_init 22 = .ok (.return_, 1) := dk_177 (dk_at dksX5_init_0 22 rfl rfl)
abbrev cX5_many : ByteArray := prog_3_method_2_code
def yX5_many : MethodName := ⟨RX5, "many", "(LNativeSubset$Act;)I"⟩
def dkwX5_many_0 : List UInt8 := [42, 180, 0, 3, 180, 0, 22, 43, 180, 0, 26, 182, 0, 31, 184, 0, 37, 172]
abbrev dktX5_many_0 : List UInt8 := dkwX5_many_0 ++ []
theorem dksX5_many_0 : cX5_many.data.toList.drop 0 = dktX5_many_0 := by decide +kernel
theorem dX5_many_0 : decode cX5_many 0 = .ok (.aload_n 0, 1) := dk_42 (dk_at dksX5_many_0 0 rfl rfl)
theorem dX5_many_1 : decode cX5_many 1 = .ok (.getfield 3, 3) := dk_180 0 3 (dk_at dksX5_many_0 1 rfl rfl)
theorem dX5_many_4 : decode cX5_many 4 = .ok (.getfield 22, 3) := dk_180 0 22 (dk_at dksX5_many_0 4 rfl rfl)
theorem dX5_many_7 : decode cX5_many 7 = .ok (.aload_n 1, 1) := dk_43 (dk_at dksX5_many_0 7 rfl rfl)
theorem dX5_many_8 : decode cX5_many 8 = .ok (.getfield 26, 3) := dk_180 0 26 (dk_at dksX5_many_0 8 rfl rfl)
theorem dX5_many_11 : decode cX5_many 11 = .ok (.invokevirtual 31, 3) := dk_182 0 31 (dk_at dksX5_many_0 11 rfl rfl)
theorem dX5_many_14 : decode cX5_many 14 = .ok (.invokestatic 37, 3) := dk_184 0 37 (dk_at dksX5_many_0 14 rfl rfl)
theorem dX5_many_17 : decode cX5_many 17 = .ok (.ireturn, 1) := dk_172 (dk_at dksX5_many_0 17 rfl rfl)
abbrev cX5_row : ByteArray := prog_3_method_3_code
def yX5_row : MethodName := ⟨RX5, "row", "(LNativeSubset$Act;)Ljava/lang/Object;"⟩
def dkwX5_row_2 : List UInt8 := [176]
abbrev dktX5_row_2 : List UInt8 := dkwX5_row_2 ++ []
def dkwX5_row_1 : List UInt8 := [180, 0, 15, 161, 0, 11, 29, 42, 180, 0, 19, 164, 0, 12, 42, 180, 0, 3, 7, 182, 0, 44, 191, 44]
abbrev dktX5_row_1 : List UInt8 := dkwX5_row_1 ++ dktX5_row_2
def dkwX5_row_0 : List UInt8 := [42, 180, 0, 3, 180, 0, 22, 43, 180, 0, 26, 182, 0, 31, 77, 44, 184, 0, 41, 62, 29, 42]
abbrev dktX5_row_0 : List UInt8 := dkwX5_row_0 ++ dktX5_row_1
theorem dksX5_row_0 : cX5_row.data.toList.drop 0 = dktX5_row_0 := by decide +kernel
theorem dksX5_row_1 : cX5_row.data.toList.drop 22 = dktX5_row_1 := dk_seg dksX5_row_0 22 rfl rfl
theorem dksX5_row_2 : cX5_row.data.toList.drop 46 = dktX5_row_2 := dk_seg dksX5_row_1 24 rfl rfl
theorem dX5_row_0 : decode cX5_row 0 = .ok (.aload_n 0, 1) := dk_42 (dk_at dksX5_row_0 0 rfl rfl)
theorem dX5_row_1 : decode cX5_row 1 = .ok (.getfield 3, 3) := dk_180 0 3 (dk_at dksX5_row_0 1 rfl rfl)
theorem dX5_row_4 : decode cX5_row 4 = .ok (.getfield 22, 3) := dk_180 0 22 (dk_at dksX5_row_0 4 rfl rfl)
theorem dX5_row_7 : decode cX5_row 7 = .ok (.aload_n 1, 1) := dk_43 (dk_at dksX5_row_0 7 rfl rfl)
theorem dX5_row_8 : decode cX5_row 8 = .ok (.getfield 26, 3) := dk_180 0 26 (dk_at dksX5_row_0 8 rfl rfl)
theorem dX5_row_11 : decode cX5_row 11 = .ok (.invokevirtual 31, 3) := dk_182 0 31 (dk_at dksX5_row_0 11 rfl rfl)
theorem dX5_row_14 : decode cX5_row 14 = .ok (.astore_n 2, 1) := dk_77 (dk_at dksX5_row_0 14 rfl rfl)
theorem dX5_row_15 : decode cX5_row 15 = .ok (.aload_n 2, 1) := dk_44 (dk_at dksX5_row_0 15 rfl rfl)
theorem dX5_row_16 : decode cX5_row 16 = .ok (.invokestatic 41, 3) := dk_184 0 41 (dk_at dksX5_row_0 16 rfl rfl)
theorem dX5_row_19 : decode cX5_row 19 = .ok (.istore_n 3, 1) := dk_62 (dk_at dksX5_row_0 19 rfl rfl)
theorem dX5_row_20 : decode cX5_row 20 = .ok (.iload_n 3, 1) := dk_29 (dk_at dksX5_row_0 20 rfl rfl)
theorem dX5_row_21 : decode cX5_row 21 = .ok (.aload_n 0, 1) := dk_42 (dk_at dksX5_row_0 21 rfl rfl)
theorem dX5_row_22 : decode cX5_row 22 = .ok (.getfield 15, 3) := dk_180 0 15 (dk_at dksX5_row_1 0 rfl rfl)
theorem dX5_row_25 : decode cX5_row 25 = .ok (.if_icmp .lt 11, 3) := dk_161 0 11 (dk_at dksX5_row_1 3 rfl rfl)
theorem dX5_row_28 : decode cX5_row 28 = .ok (.iload_n 3, 1) := dk_29 (dk_at dksX5_row_1 6 rfl rfl)
theorem dX5_row_29 : decode cX5_row 29 = .ok (.aload_n 0, 1) := dk_42 (dk_at dksX5_row_1 7 rfl rfl)
theorem dX5_row_30 : decode cX5_row 30 = .ok (.getfield 19, 3) := dk_180 0 19 (dk_at dksX5_row_1 8 rfl rfl)
theorem dX5_row_33 : decode cX5_row 33 = .ok (.if_icmp .le 12, 3) := dk_164 0 12 (dk_at dksX5_row_1 11 rfl rfl)
theorem dX5_row_36 : decode cX5_row 36 = .ok (.aload_n 0, 1) := dk_42 (dk_at dksX5_row_1 14 rfl rfl)
theorem dX5_row_37 : decode cX5_row 37 = .ok (.getfield 3, 3) := dk_180 0 3 (dk_at dksX5_row_1 15 rfl rfl)
theorem dX5_row_40 : decode cX5_row 40 = .ok (.iconst 4, 1) := dk_7 (dk_at dksX5_row_1 18 rfl rfl)
theorem dX5_row_41 : decode cX5_row 41 = .ok (.invokevirtual 44, 3) := dk_182 0 44 (dk_at dksX5_row_1 19 rfl rfl)
theorem dX5_row_44 : decode cX5_row 44 = .ok (.athrow, 1) := dk_191 (dk_at dksX5_row_1 22 rfl rfl)
theorem dX5_row_45 : decode cX5_row 45 = .ok (.aload_n 2, 1) := dk_44 (dk_at dksX5_row_1 23 rfl rfl)
theorem dX5_row_46 : decode cX5_row 46 = .ok (.areturn, 1) := dk_176 (dk_at dksX5_row_2 0 rfl rfl)
theorem q57 : (Jvm.Cond.initialized "NativeSubset$Asking") ∈ lw_all := lw_g (lw_at lw_m1 8 rfl) rfl
theorem q181 : (Jvm.Cond.instanceMethod ({ cls := "NativeSubset$Asking", name := "<init>", desc := "(LNativeSubset;III)V" } : Jvm.MethodName)) ∈ lw_all := lw_g (lw_at lw_m1 132 rfl) rfl
theorem q182 : (Jvm.Cond.code ({ cls := "NativeSubset$Asking", name := "<init>", desc := "(LNativeSubset;III)V" } : Jvm.MethodName) prog_3_method_1_code (5 : Nat) (Option.none : Option Jvm.ClassFile.FieldType)) ∈ lw_all := lw_g (lw_at lw_m1 133 rfl) rfl
theorem q183 : (Jvm.Cond.methodLink "NativeSubset$Asking" (9 : Nat) ({ cls := "NativeSubset$Helper", name := "<init>", desc := "(LNativeSubset;I)V" } : Jvm.MethodName)) ∈ lw_all := lw_g (lw_at lw_m1 134 rfl) rfl
theorem q185 : (Jvm.Cond.fieldLink "NativeSubset$Asking" (15 : Nat) "NativeSubset$Asking" "first" "I") ∈ lw_all := lw_g (lw_at lw_m1 136 rfl) rfl
theorem q186 : (Jvm.Cond.fieldLink "NativeSubset$Asking" (19 : Nat) "NativeSubset$Asking" "last" "I") ∈ lw_all := lw_g (lw_at lw_m1 137 rfl) rfl
theorem q187 : (Jvm.Cond.fieldLink "NativeSubset$Asking" (3 : Nat) "NativeSubset$Asking" "this$0" "LNativeSubset;") ∈ lw_all := lw_g (lw_at lw_m1 138 rfl) rfl
theorem q191 : (Jvm.Cond.soleField "NativeSubset$Asking" "first") ∈ lw_all := lw_g (lw_at lw_m1 142 rfl) rfl
theorem q193 : (Jvm.Cond.soleField "NativeSubset$Asking" "last") ∈ lw_all := lw_g (lw_at lw_m1 144 rfl) rfl
theorem q195 : (Jvm.Cond.soleField "NativeSubset$Asking" "this$0") ∈ lw_all := lw_g (lw_at lw_m1 146 rfl) rfl
theorem q375 : (Jvm.Cond.fieldLinkNest "NativeSubset$Asking" (22 : Nat) "NativeSubset" "rows" "Ljava/util/ArrayList;" "NativeSubset") ∈ lw_tbl := lw_at lw_m2 86 rfl
theorem q693 : (Jvm.Cond.fieldLinkNest "NativeSubset$Asking" (26 : Nat) "NativeSubset$Act" "a" "I" "NativeSubset") ∈ lw_tbl := lw_at lw_m3 164 rfl
theorem q786 : (Jvm.Cond.instanceMethod ({ cls := "NativeSubset$Asking", name := "many", desc := "(LNativeSubset$Act;)I" } : Jvm.MethodName)) ∈ lw_all := lw_g (lw_at lw_m4 17 rfl) rfl
theorem q787 : (Jvm.Cond.code ({ cls := "NativeSubset$Asking", name := "many", desc := "(LNativeSubset$Act;)I" } : Jvm.MethodName) prog_3_method_2_code (2 : Nat) (Option.some Jvm.ClassFile.FieldType.int)) ∈ lw_all := lw_g (lw_at lw_m4 18 rfl) rfl
theorem q788 : (Jvm.Cond.methodLink "NativeSubset$Asking" (31 : Nat) ({ cls := "java/util/ArrayList", name := "get", desc := "(I)Ljava/lang/Object;" } : Jvm.MethodName)) ∈ lw_all := lw_g (lw_at lw_m4 19 rfl) rfl
theorem q789 : (Jvm.Cond.methodLinkNest "NativeSubset$Asking" (37 : Nat) ({ cls := "NativeSubset", name := "sizeOf", desc := "(Ljava/lang/Object;)I" } : Jvm.MethodName) "NativeSubset") ∈ lw_tbl := lw_at lw_m4 20 rfl
theorem q909 : (Jvm.Cond.superclass "NativeSubset$Asking" "NativeSubset$Helper") ∈ lw_all := lw_g (lw_at lw_m4 140 rfl) rfl
theorem q1212 : (Jvm.Cond.declares ({ cls := "NativeSubset$Asking", name := "row", desc := "(LNativeSubset$Act;)Ljava/lang/Object;" } : Jvm.MethodName)) ∈ lw_tbl := lw_at lw_m5 203 rfl
theorem q1214 : (Jvm.Cond.instanceMethod ({ cls := "NativeSubset$Asking", name := "row", desc := "(LNativeSubset$Act;)Ljava/lang/Object;" } : Jvm.MethodName)) ∈ lw_all := lw_g (lw_at lw_m5 205 rfl) rfl
theorem q1215 : (Jvm.Cond.code ({ cls := "NativeSubset$Asking", name := "row", desc := "(LNativeSubset$Act;)Ljava/lang/Object;" } : Jvm.MethodName) prog_3_method_3_code (4 : Nat) (Option.some (Jvm.ClassFile.FieldType.object "java/lang/Object"))) ∈ lw_all := lw_g (lw_at lw_m5 206 rfl) rfl
theorem q1216 : (Jvm.Cond.methodLinkNest "NativeSubset$Asking" (41 : Nat) ({ cls := "NativeSubset", name := "kindOf", desc := "(Ljava/lang/Object;)I" } : Jvm.MethodName) "NativeSubset") ∈ lw_tbl := lw_at lw_m5 207 rfl
theorem q1217 : (Jvm.Cond.methodLinkNest "NativeSubset$Asking" (44 : Nat) ({ cls := "NativeSubset", name := "fail", desc := "(I)LNativeSubset$Failure;" } : Jvm.MethodName) "NativeSubset") ∈ lw_tbl := lw_at lw_m5 208 rfl
theorem q1826 : (Jvm.Cond.sameMethod "NativeSubset$Asking" "NativeSubset$Asking" "many" "(LNativeSubset$Act;)I") ∈ lw_all := lw_g (lw_at lw_m8 97 rfl) rfl
/-! NativeSubset$Cloning -/
def RX6 : String := "NativeSubset$Cloning"
def TX6 : u_T := fun k => match k with
  | 0 => ("NativeSubset$Helper", "base", "I", true)
  | 1 => ("NativeSubset$Helper", "this$0", "LNativeSubset;", true)
  | 2 => ("NativeSubset$Asking", "first", "I", true)
  | 3 => ("NativeSubset$Asking", "last", "I", true)
  | 4 => ("NativeSubset$Asking", "this$0", "LNativeSubset;", true)
  | _ => ("NativeSubset$Cloning", "this$0", "LNativeSubset;", true)
def tyX6 : Nat → FieldType := fun k => match k with
  | 0 => .int
  | 1 => .object "NativeSubset"
  | 2 => .int
  | 3 => .int
  | 4 => .object "NativeSubset"
  | _ => .object "NativeSubset"
abbrev wsX60 : List Cond := u_ws RX6 TX6 6
-- two fields of one name: no nmX6
theorem tyX6_ok : ∀ k, k < 6 → parseFieldDescriptor (TX6 k).2.2.1 = some (tyX6 k) := by decide +kernel
abbrev cX6_init : ByteArray := prog_7_method_1_code
def yX6_init : MethodName := ⟨RX6, "<init>", "(LNativeSubset;)V"⟩
def dkwX6_init_0 : List UInt8 := [42, 43, 181, 0, 3, 42, 43, 6, 3, 16, 10, 183, 0, 9, 177]
abbrev dktX6_init_0 : List UInt8 := dkwX6_init_0 ++ []
theorem dksX6_init_0 : cX6_init.data.toList.drop 0 = dktX6_init_0 := by decide +kernel
theorem dX6_init_0 : decode cX6_init 0 = .ok (.aload_n 0, 1) := dk_42 (dk_at dksX6_init_0 0 rfl rfl)
theorem dX6_init_1 : decode cX6_init 1 = .ok (.aload_n 1, 1) := dk_43 (dk_at dksX6_init_0 1 rfl rfl)
theorem dX6_init_2 : decode cX6_init 2 = .ok (.putfield 3, 3) := dk_181 0 3 (dk_at dksX6_init_0 2 rfl rfl)
theorem dX6_init_5 : decode cX6_init 5 = .ok (.aload_n 0, 1) := dk_42 (dk_at dksX6_init_0 5 rfl rfl)
theorem dX6_init_6 : decode cX6_init 6 = .ok (.aload_n 1, 1) := dk_43 (dk_at dksX6_init_0 6 rfl rfl)
theorem dX6_init_7 : decode cX6_init 7 = .ok (.iconst 3, 1) := dk_6 (dk_at dksX6_init_0 7 rfl rfl)
theorem dX6_init_8 : decode cX6_init 8 = .ok (.iconst 0, 1) := dk_3 (dk_at dksX6_init_0 8 rfl rfl)
theorem dX6_init_9 : decode cX6_init 9 = .ok (.bipush 10, 2) := dk_16 10 (dk_at dksX6_init_0 9 rfl rfl)
theorem dX6_init_11 : decode cX6_init 11 = .ok (.invokespecial 9, 3) := dk_183 0 9 (dk_at dksX6_init_0 11 rfl rfl)
theorem dX6_init_14 : decode cX6_init 14 = .ok (.return_, 1) := dk_177 (dk_at dksX6_init_0 14 rfl rfl)
abbrev cX6_work : ByteArray := prog_7_method_2_code
def yX6_work : MethodName := ⟨RX6, "work", "(LNativeSubset$Act;LNativeSubset$Call;)J"⟩
def dkwX6_work_2 : List UInt8 := [182, 0, 43, 87, 42, 180, 0, 3, 180, 0, 15, 182, 0, 19, 4, 100, 133, 173]
abbrev dktX6_work_2 : List UInt8 := dkwX6_work_2 ++ []
def dkwX6_work_1 : List UInt8 := [42, 180, 0, 3, 180, 0, 15, 42, 180, 0, 3, 180, 0, 15, 43, 180, 0, 29, 182, 0, 35, 184, 0, 39]
abbrev dktX6_work_1 : List UInt8 := dkwX6_work_1 ++ dktX6_work_2
def dkwX6_work_0 : List UInt8 := [42, 180, 0, 3, 180, 0, 15, 182, 0, 19, 16, 60, 160, 0, 12, 42, 180, 0, 3, 8, 182, 0, 25, 191]
abbrev dktX6_work_0 : List UInt8 := dkwX6_work_0 ++ dktX6_work_1
theorem dksX6_work_0 : cX6_work.data.toList.drop 0 = dktX6_work_0 := by decide +kernel
theorem dksX6_work_1 : cX6_work.data.toList.drop 24 = dktX6_work_1 := dk_seg dksX6_work_0 24 rfl rfl
theorem dksX6_work_2 : cX6_work.data.toList.drop 48 = dktX6_work_2 := dk_seg dksX6_work_1 24 rfl rfl
theorem dX6_work_0 : decode cX6_work 0 = .ok (.aload_n 0, 1) := dk_42 (dk_at dksX6_work_0 0 rfl rfl)
theorem dX6_work_1 : decode cX6_work 1 = .ok (.getfield 3, 3) := dk_180 0 3 (dk_at dksX6_work_0 1 rfl rfl)
theorem dX6_work_4 : decode cX6_work 4 = .ok (.getfield 15, 3) := dk_180 0 15 (dk_at dksX6_work_0 4 rfl rfl)
theorem dX6_work_7 : decode cX6_work 7 = .ok (.invokevirtual 19, 3) := dk_182 0 19 (dk_at dksX6_work_0 7 rfl rfl)
theorem dX6_work_10 : decode cX6_work 10 = .ok (.bipush 60, 2) := dk_16 60 (dk_at dksX6_work_0 10 rfl rfl)
theorem dX6_work_12 : decode cX6_work 12 = .ok (.if_icmp .ne 12, 3) := dk_160 0 12 (dk_at dksX6_work_0 12 rfl rfl)
theorem dX6_work_15 : decode cX6_work 15 = .ok (.aload_n 0, 1) := dk_42 (dk_at dksX6_work_0 15 rfl rfl)
theorem dX6_work_16 : decode cX6_work 16 = .ok (.getfield 3, 3) := dk_180 0 3 (dk_at dksX6_work_0 16 rfl rfl)
theorem dX6_work_19 : decode cX6_work 19 = .ok (.iconst 5, 1) := dk_8 (dk_at dksX6_work_0 19 rfl rfl)
theorem dX6_work_20 : decode cX6_work 20 = .ok (.invokevirtual 25, 3) := dk_182 0 25 (dk_at dksX6_work_0 20 rfl rfl)
theorem dX6_work_23 : decode cX6_work 23 = .ok (.athrow, 1) := dk_191 (dk_at dksX6_work_0 23 rfl rfl)
theorem dX6_work_24 : decode cX6_work 24 = .ok (.aload_n 0, 1) := dk_42 (dk_at dksX6_work_1 0 rfl rfl)
theorem dX6_work_25 : decode cX6_work 25 = .ok (.getfield 3, 3) := dk_180 0 3 (dk_at dksX6_work_1 1 rfl rfl)
theorem dX6_work_28 : decode cX6_work 28 = .ok (.getfield 15, 3) := dk_180 0 15 (dk_at dksX6_work_1 4 rfl rfl)
theorem dX6_work_31 : decode cX6_work 31 = .ok (.aload_n 0, 1) := dk_42 (dk_at dksX6_work_1 7 rfl rfl)
theorem dX6_work_32 : decode cX6_work 32 = .ok (.getfield 3, 3) := dk_180 0 3 (dk_at dksX6_work_1 8 rfl rfl)
theorem dX6_work_35 : decode cX6_work 35 = .ok (.getfield 15, 3) := dk_180 0 15 (dk_at dksX6_work_1 11 rfl rfl)
theorem dX6_work_38 : decode cX6_work 38 = .ok (.aload_n 1, 1) := dk_43 (dk_at dksX6_work_1 14 rfl rfl)
theorem dX6_work_39 : decode cX6_work 39 = .ok (.getfield 29, 3) := dk_180 0 29 (dk_at dksX6_work_1 15 rfl rfl)
theorem dX6_work_42 : decode cX6_work 42 = .ok (.invokevirtual 35, 3) := dk_182 0 35 (dk_at dksX6_work_1 18 rfl rfl)
theorem dX6_work_45 : decode cX6_work 45 = .ok (.invokestatic 39, 3) := dk_184 0 39 (dk_at dksX6_work_1 21 rfl rfl)
theorem dX6_work_48 : decode cX6_work 48 = .ok (.invokevirtual 43, 3) := dk_182 0 43 (dk_at dksX6_work_2 0 rfl rfl)
theorem dX6_work_51 : decode cX6_work 51 = .ok (.pop, 1) := dk_87 (dk_at dksX6_work_2 3 rfl rfl)
theorem dX6_work_52 : decode cX6_work 52 = .ok (.aload_n 0, 1) := dk_42 (dk_at dksX6_work_2 4 rfl rfl)
theorem dX6_work_53 : decode cX6_work 53 = .ok (.getfield 3, 3) := dk_180 0 3 (dk_at dksX6_work_2 5 rfl rfl)
theorem dX6_work_56 : decode cX6_work 56 = .ok (.getfield 15, 3) := dk_180 0 15 (dk_at dksX6_work_2 8 rfl rfl)
theorem dX6_work_59 : decode cX6_work 59 = .ok (.invokevirtual 19, 3) := dk_182 0 19 (dk_at dksX6_work_2 11 rfl rfl)
theorem dX6_work_62 : decode cX6_work 62 = .ok (.iconst 1, 1) := dk_4 (dk_at dksX6_work_2 14 rfl rfl)
theorem dX6_work_63 : decode cX6_work 63 = .ok (.isub, 1) := dk_100 (dk_at dksX6_work_2 15 rfl rfl)
theorem dX6_work_64 : decode cX6_work 64 = .ok (.i2l, 1) := dk_133 (dk_at dksX6_work_2 16 rfl rfl)
theorem dX6_work_65 : decode cX6_work 65 = .ok (.lreturn, 1) := dk_173 (dk_at dksX6_work_2 17 rfl rfl)
theorem q58 : (Jvm.Cond.initialized "NativeSubset$Cloning") ∈ lw_all := lw_g (lw_at lw_m1 9 rfl) rfl
theorem q176 : (Jvm.Cond.instantiable "NativeSubset$Cloning" (6 : Nat)) ∈ lw_all := lw_g (lw_at lw_m1 127 rfl) rfl
theorem q178 : (Jvm.Cond.instanceMethod ({ cls := "NativeSubset$Cloning", name := "<init>", desc := "(LNativeSubset;)V" } : Jvm.MethodName)) ∈ lw_all := lw_g (lw_at lw_m1 129 rfl) rfl
theorem q179 : (Jvm.Cond.code ({ cls := "NativeSubset$Cloning", name := "<init>", desc := "(LNativeSubset;)V" } : Jvm.MethodName) prog_7_method_1_code (2 : Nat) (Option.none : Option Jvm.ClassFile.FieldType)) ∈ lw_all := lw_g (lw_at lw_m1 130 rfl) rfl
theorem q180 : (Jvm.Cond.methodLink "NativeSubset$Cloning" (9 : Nat) ({ cls := "NativeSubset$Asking", name := "<init>", desc := "(LNativeSubset;III)V" } : Jvm.MethodName)) ∈ lw_all := lw_g (lw_at lw_m1 131 rfl) rfl
theorem q184 : (Jvm.Cond.fieldLink "NativeSubset$Cloning" (3 : Nat) "NativeSubset$Cloning" "this$0" "LNativeSubset;") ∈ lw_all := lw_g (lw_at lw_m1 135 rfl) rfl
theorem q188 : (Jvm.Cond.laysFinal "NativeSubset$Cloning" "NativeSubset$Cloning" "this$0" "LNativeSubset;") ∈ lw_all := lw_g (lw_at lw_m1 139 rfl) rfl
theorem q189 : (Jvm.Cond.soleField "NativeSubset$Cloning" "this$0") ∈ lw_all := lw_g (lw_at lw_m1 140 rfl) rfl
theorem q190 : (Jvm.Cond.laysFinal "NativeSubset$Cloning" "NativeSubset$Asking" "first" "I") ∈ lw_all := lw_g (lw_at lw_m1 141 rfl) rfl
theorem q192 : (Jvm.Cond.laysFinal "NativeSubset$Cloning" "NativeSubset$Asking" "last" "I") ∈ lw_all := lw_g (lw_at lw_m1 143 rfl) rfl
theorem q194 : (Jvm.Cond.laysFinal "NativeSubset$Cloning" "NativeSubset$Asking" "this$0" "LNativeSubset;") ∈ lw_all := lw_g (lw_at lw_m1 145 rfl) rfl
theorem q196 : (Jvm.Cond.laysFinal "NativeSubset$Cloning" "NativeSubset$Helper" "base" "I") ∈ lw_all := lw_g (lw_at lw_m1 147 rfl) rfl
theorem q197 : (Jvm.Cond.laysFinal "NativeSubset$Cloning" "NativeSubset$Helper" "this$0" "LNativeSubset;") ∈ lw_all := lw_g (lw_at lw_m1 148 rfl) rfl
theorem q198 : (Jvm.Cond.superclass "NativeSubset$Cloning" "NativeSubset$Asking") ∈ lw_all := lw_g (lw_at lw_m1 149 rfl) rfl
theorem q376 : (Jvm.Cond.fieldLinkNest "NativeSubset$Cloning" (15 : Nat) "NativeSubset" "rows" "Ljava/util/ArrayList;" "NativeSubset") ∈ lw_tbl := lw_at lw_m2 87 rfl
theorem q497 : (Jvm.Cond.selects "NativeSubset$Cloning" ({ cls := "java/lang/Object", name := "getClass", desc := "()Ljava/lang/Class;" } : Jvm.MethodName) ({ cls := "java/lang/Object", name := "getClass", desc := "()Ljava/lang/Class;" } : Jvm.MethodName)) ∈ lw_all := lw_g (lw_at lw_m2 208 rfl) rfl
theorem q697 : (Jvm.Cond.fieldLinkNest "NativeSubset$Cloning" (29 : Nat) "NativeSubset$Act" "a" "I" "NativeSubset") ∈ lw_tbl := lw_at lw_m3 168 rfl
theorem q758 : (Jvm.Cond.selects "NativeSubset$Cloning" ({ cls := "NativeSubset$Helper", name := "hasOther", desc := "()Z" } : Jvm.MethodName) ({ cls := "NativeSubset$Helper", name := "hasOther", desc := "()Z" } : Jvm.MethodName)) ∈ lw_all := lw_g (lw_at lw_m3 229 rfl) rfl
theorem q785 : (Jvm.Cond.selects "NativeSubset$Cloning" ({ cls := "NativeSubset$Helper", name := "many", desc := "(LNativeSubset$Act;)I" } : Jvm.MethodName) ({ cls := "NativeSubset$Asking", name := "many", desc := "(LNativeSubset$Act;)I" } : Jvm.MethodName)) ∈ lw_all := lw_g (lw_at lw_m4 16 rfl) rfl
theorem q835 : (Jvm.Cond.castable "NativeSubset$Cloning" "NativeSubset$Priced") ∈ lw_tbl := lw_at lw_m4 66 rfl
theorem q836 : (Jvm.Cond.selects "NativeSubset$Cloning" ({ cls := "NativeSubset$Priced", name := "base", desc := "()I" } : Jvm.MethodName) ({ cls := "NativeSubset$Helper", name := "base", desc := "()I" } : Jvm.MethodName)) ∈ lw_all := lw_g (lw_at lw_m4 67 rfl) rfl
theorem q837 : (Jvm.Cond.unhidden "NativeSubset$Cloning" "base" "()I") ∈ lw_tbl := lw_at lw_m4 68 rfl
theorem q882 : (Jvm.Cond.selects "NativeSubset$Cloning" ({ cls := "NativeSubset$Priced", name := "length", desc := "(I)I" } : Jvm.MethodName) ({ cls := "NativeSubset$Helper", name := "length", desc := "(I)I" } : Jvm.MethodName)) ∈ lw_all := lw_g (lw_at lw_m4 113 rfl) rfl
theorem q883 : (Jvm.Cond.unhidden "NativeSubset$Cloning" "length" "(I)I") ∈ lw_tbl := lw_at lw_m4 114 rfl
theorem q914 : (Jvm.Cond.unhidden "NativeSubset$Cloning" "price" "(II)I") ∈ lw_tbl := lw_at lw_m4 145 rfl
theorem q1095 : (Jvm.Cond.selects "NativeSubset$Cloning" ({ cls := "NativeSubset$Helper", name := "work", desc := "(LNativeSubset$Act;LNativeSubset$Call;)J" } : Jvm.MethodName) ({ cls := "NativeSubset$Cloning", name := "work", desc := "(LNativeSubset$Act;LNativeSubset$Call;)J" } : Jvm.MethodName)) ∈ lw_all := lw_g (lw_at lw_m5 86 rfl) rfl
theorem q1096 : (Jvm.Cond.instanceMethod ({ cls := "NativeSubset$Cloning", name := "work", desc := "(LNativeSubset$Act;LNativeSubset$Call;)J" } : Jvm.MethodName)) ∈ lw_all := lw_g (lw_at lw_m5 87 rfl) rfl
theorem q1097 : (Jvm.Cond.code ({ cls := "NativeSubset$Cloning", name := "work", desc := "(LNativeSubset$Act;LNativeSubset$Call;)J" } : Jvm.MethodName) prog_7_method_2_code (3 : Nat) (Option.some Jvm.ClassFile.FieldType.long)) ∈ lw_all := lw_g (lw_at lw_m5 88 rfl) rfl
theorem q1098 : (Jvm.Cond.methodLink "NativeSubset$Cloning" (19 : Nat) ({ cls := "java/util/ArrayList", name := "size", desc := "()I" } : Jvm.MethodName)) ∈ lw_all := lw_g (lw_at lw_m5 89 rfl) rfl
theorem q1099 : (Jvm.Cond.methodLinkNest "NativeSubset$Cloning" (25 : Nat) ({ cls := "NativeSubset", name := "fail", desc := "(I)LNativeSubset$Failure;" } : Jvm.MethodName) "NativeSubset") ∈ lw_tbl := lw_at lw_m5 90 rfl
theorem q1100 : (Jvm.Cond.methodLink "NativeSubset$Cloning" (35 : Nat) ({ cls := "java/util/ArrayList", name := "get", desc := "(I)Ljava/lang/Object;" } : Jvm.MethodName)) ∈ lw_all := lw_g (lw_at lw_m5 91 rfl) rfl
theorem q1101 : (Jvm.Cond.methodLinkNest "NativeSubset$Cloning" (39 : Nat) ({ cls := "NativeSubset", name := "cloneOf", desc := "(Ljava/lang/Object;)Ljava/lang/Object;" } : Jvm.MethodName) "NativeSubset") ∈ lw_tbl := lw_at lw_m5 92 rfl
theorem q1105 : (Jvm.Cond.methodLink "NativeSubset$Cloning" (43 : Nat) ({ cls := "java/util/ArrayList", name := "add", desc := "(Ljava/lang/Object;)Z" } : Jvm.MethodName)) ∈ lw_all := lw_g (lw_at lw_m5 96 rfl) rfl
theorem q1842 : (Jvm.Cond.castable "NativeSubset$Cloning" "java/lang/Object") ∈ lw_tbl := lw_at lw_m8 113 rfl
theorem q1866 : (Jvm.Cond.castable "NativeSubset$Cloning" "NativeSubset$Helper") ∈ lw_tbl := lw_at lw_m8 137 rfl
theorem in_X6 : ∀ w ∈ wsX60, w ∈ lw_all := lw_in wsX60 [196, 197, 190, 192, 194, 188] (by decide +kernel) (by decide +kernel)
/-! NativeSubset$Working -/
def RX7 : String := "NativeSubset$Working"
abbrev cX7_init : ByteArray := prog_27_method_1_code
def yX7_init : MethodName := ⟨RX7, "<init>", "(LNativeSubset;III)V"⟩
def dkwX7_init_0 : List UInt8 := [42, 43, 181, 0, 3, 42, 43, 28, 29, 21, 4, 183, 0, 9, 177]
abbrev dktX7_init_0 : List UInt8 := dkwX7_init_0 ++ []
theorem dksX7_init_0 : cX7_init.data.toList.drop 0 = dktX7_init_0 := by decide +kernel
theorem dX7_init_0 : decode cX7_init 0 = .ok (.aload_n 0, 1) := dk_42 (dk_at dksX7_init_0 0 rfl rfl)
theorem dX7_init_1 : decode cX7_init 1 = .ok (.aload_n 1, 1) := dk_43 (dk_at dksX7_init_0 1 rfl rfl)
theorem dX7_init_2 : decode cX7_init 2 = .ok (.putfield 3, 3) := dk_181 0 3 (dk_at dksX7_init_0 2 rfl rfl)
theorem dX7_init_5 : decode cX7_init 5 = .ok (.aload_n 0, 1) := dk_42 (dk_at dksX7_init_0 5 rfl rfl)
theorem dX7_init_6 : decode cX7_init 6 = .ok (.aload_n 1, 1) := dk_43 (dk_at dksX7_init_0 6 rfl rfl)
theorem dX7_init_7 : decode cX7_init 7 = .ok (.iload_n 2, 1) := dk_28 (dk_at dksX7_init_0 7 rfl rfl)
theorem dX7_init_8 : decode cX7_init 8 = .ok (.iload_n 3, 1) := dk_29 (dk_at dksX7_init_0 8 rfl rfl)
theorem dX7_init_9 : decode cX7_init 9 = .ok (.iload 4, 2) := dk_21 4 (dk_at dksX7_init_0 9 rfl rfl)
theorem dX7_init_11 : decode cX7_init 11 = .ok (.invokespecial 9, 3) := dk_183 0 9 (dk_at dksX7_init_0 11 rfl rfl)
theorem dX7_init_14 : decode cX7_init 14 = .ok (.return_, 1) := dk_177 (dk_at dksX7_init_0 14 rfl rfl)
abbrev cX7_many : ByteArray := prog_27_method_2_code
def yX7_many : MethodName := ⟨RX7, "many", "(LNativeSubset$Act;)I"⟩
theorem dX7_many_0 : decode cX7_many 0 = .ok (.aload_n 1, 1) := by decide +kernel
theorem dX7_many_1 : decode cX7_many 1 = .ok (.getfield 15, 3) := by decide +kernel
theorem dX7_many_4 : decode cX7_many 4 = .ok (.ireturn, 1) := by decide +kernel
abbrev cX7_part : ByteArray := prog_27_method_3_code
def yX7_part : MethodName := ⟨RX7, "part", "(LNativeSubset$Act;)Ljava/lang/Object;"⟩
def dkwX7_part_2 : List UInt8 := [5, 182, 0, 32, 191, 44, 176]
abbrev dktX7_part_2 : List UInt8 := dkwX7_part_2 ++ []
def dkwX7_part_1 : List UInt8 := [155, 0, 20, 43, 180, 0, 29, 133, 43, 180, 0, 15, 133, 97, 29, 133, 148, 158, 0, 12, 42, 180, 0, 3]
abbrev dktX7_part_1 : List UInt8 := dkwX7_part_1 ++ dktX7_part_2
def dkwX7_part_0 : List UInt8 := [42, 43, 182, 0, 21, 77, 44, 184, 0, 25, 62, 43, 180, 0, 29, 155, 0, 27, 43, 180, 0, 15]
abbrev dktX7_part_0 : List UInt8 := dkwX7_part_0 ++ dktX7_part_1
theorem dksX7_part_0 : cX7_part.data.toList.drop 0 = dktX7_part_0 := by decide +kernel
theorem dksX7_part_1 : cX7_part.data.toList.drop 22 = dktX7_part_1 := dk_seg dksX7_part_0 22 rfl rfl
theorem dksX7_part_2 : cX7_part.data.toList.drop 46 = dktX7_part_2 := dk_seg dksX7_part_1 24 rfl rfl
theorem dX7_part_0 : decode cX7_part 0 = .ok (.aload_n 0, 1) := dk_42 (dk_at dksX7_part_0 0 rfl rfl)
theorem dX7_part_1 : decode cX7_part 1 = .ok (.aload_n 1, 1) := dk_43 (dk_at dksX7_part_0 1 rfl rfl)
theorem dX7_part_2 : decode cX7_part 2 = .ok (.invokevirtual 21, 3) := dk_182 0 21 (dk_at dksX7_part_0 2 rfl rfl)
theorem dX7_part_5 : decode cX7_part 5 = .ok (.astore_n 2, 1) := dk_77 (dk_at dksX7_part_0 5 rfl rfl)
theorem dX7_part_6 : decode cX7_part 6 = .ok (.aload_n 2, 1) := dk_44 (dk_at dksX7_part_0 6 rfl rfl)
theorem dX7_part_7 : decode cX7_part 7 = .ok (.invokestatic 25, 3) := dk_184 0 25 (dk_at dksX7_part_0 7 rfl rfl)
theorem dX7_part_10 : decode cX7_part 10 = .ok (.istore_n 3, 1) := dk_62 (dk_at dksX7_part_0 10 rfl rfl)
theorem dX7_part_11 : decode cX7_part 11 = .ok (.aload_n 1, 1) := dk_43 (dk_at dksX7_part_0 11 rfl rfl)
theorem dX7_part_12 : decode cX7_part 12 = .ok (.getfield 29, 3) := dk_180 0 29 (dk_at dksX7_part_0 12 rfl rfl)
theorem dX7_part_15 : decode cX7_part 15 = .ok (.ifCond .lt 27, 3) := dk_155 0 27 (dk_at dksX7_part_0 15 rfl rfl)
theorem dX7_part_18 : decode cX7_part 18 = .ok (.aload_n 1, 1) := dk_43 (dk_at dksX7_part_0 18 rfl rfl)
theorem dX7_part_19 : decode cX7_part 19 = .ok (.getfield 15, 3) := dk_180 0 15 (dk_at dksX7_part_0 19 rfl rfl)
theorem dX7_part_22 : decode cX7_part 22 = .ok (.ifCond .lt 20, 3) := dk_155 0 20 (dk_at dksX7_part_1 0 rfl rfl)
theorem dX7_part_25 : decode cX7_part 25 = .ok (.aload_n 1, 1) := dk_43 (dk_at dksX7_part_1 3 rfl rfl)
theorem dX7_part_26 : decode cX7_part 26 = .ok (.getfield 29, 3) := dk_180 0 29 (dk_at dksX7_part_1 4 rfl rfl)
theorem dX7_part_29 : decode cX7_part 29 = .ok (.i2l, 1) := dk_133 (dk_at dksX7_part_1 7 rfl rfl)
theorem dX7_part_30 : decode cX7_part 30 = .ok (.aload_n 1, 1) := dk_43 (dk_at dksX7_part_1 8 rfl rfl)
theorem dX7_part_31 : decode cX7_part 31 = .ok (.getfield 15, 3) := dk_180 0 15 (dk_at dksX7_part_1 9 rfl rfl)
theorem dX7_part_34 : decode cX7_part 34 = .ok (.i2l, 1) := dk_133 (dk_at dksX7_part_1 12 rfl rfl)
theorem dX7_part_35 : decode cX7_part 35 = .ok (.ladd, 1) := dk_97 (dk_at dksX7_part_1 13 rfl rfl)
theorem dX7_part_36 : decode cX7_part 36 = .ok (.iload_n 3, 1) := dk_29 (dk_at dksX7_part_1 14 rfl rfl)
theorem dX7_part_37 : decode cX7_part 37 = .ok (.i2l, 1) := dk_133 (dk_at dksX7_part_1 15 rfl rfl)
theorem dX7_part_38 : decode cX7_part 38 = .ok (.lcmp, 1) := dk_148 (dk_at dksX7_part_1 16 rfl rfl)
theorem dX7_part_39 : decode cX7_part 39 = .ok (.ifCond .le 12, 3) := dk_158 0 12 (dk_at dksX7_part_1 17 rfl rfl)
theorem dX7_part_42 : decode cX7_part 42 = .ok (.aload_n 0, 1) := dk_42 (dk_at dksX7_part_1 20 rfl rfl)
theorem dX7_part_43 : decode cX7_part 43 = .ok (.getfield 3, 3) := dk_180 0 3 (dk_at dksX7_part_1 21 rfl rfl)
theorem dX7_part_46 : decode cX7_part 46 = .ok (.iconst 2, 1) := dk_5 (dk_at dksX7_part_2 0 rfl rfl)
theorem dX7_part_47 : decode cX7_part 47 = .ok (.invokevirtual 32, 3) := dk_182 0 32 (dk_at dksX7_part_2 1 rfl rfl)
theorem dX7_part_50 : decode cX7_part 50 = .ok (.athrow, 1) := dk_191 (dk_at dksX7_part_2 4 rfl rfl)
theorem dX7_part_51 : decode cX7_part 51 = .ok (.aload_n 2, 1) := dk_44 (dk_at dksX7_part_2 5 rfl rfl)
theorem dX7_part_52 : decode cX7_part 52 = .ok (.areturn, 1) := dk_176 (dk_at dksX7_part_2 6 rfl rfl)
theorem q59 : (Jvm.Cond.initialized "NativeSubset$Working") ∈ lw_all := lw_g (lw_at lw_m1 10 rfl) rfl
theorem q205 : (Jvm.Cond.instanceMethod ({ cls := "NativeSubset$Working", name := "<init>", desc := "(LNativeSubset;III)V" } : Jvm.MethodName)) ∈ lw_all := lw_g (lw_at lw_m1 156 rfl) rfl
theorem q206 : (Jvm.Cond.code ({ cls := "NativeSubset$Working", name := "<init>", desc := "(LNativeSubset;III)V" } : Jvm.MethodName) prog_27_method_1_code (5 : Nat) (Option.none : Option Jvm.ClassFile.FieldType)) ∈ lw_all := lw_g (lw_at lw_m1 157 rfl) rfl
theorem q207 : (Jvm.Cond.methodLink "NativeSubset$Working" (9 : Nat) ({ cls := "NativeSubset$Asking", name := "<init>", desc := "(LNativeSubset;III)V" } : Jvm.MethodName)) ∈ lw_all := lw_g (lw_at lw_m1 158 rfl) rfl
theorem q209 : (Jvm.Cond.fieldLink "NativeSubset$Working" (3 : Nat) "NativeSubset$Working" "this$0" "LNativeSubset;") ∈ lw_all := lw_g (lw_at lw_m1 160 rfl) rfl
theorem q213 : (Jvm.Cond.soleField "NativeSubset$Working" "this$0") ∈ lw_all := lw_g (lw_at lw_m1 164 rfl) rfl
theorem q707 : (Jvm.Cond.fieldLinkNest "NativeSubset$Working" (29 : Nat) "NativeSubset$Act" "i" "I" "NativeSubset") ∈ lw_tbl := lw_at lw_m3 178 rfl
theorem q722 : (Jvm.Cond.fieldLinkNest "NativeSubset$Working" (15 : Nat) "NativeSubset$Act" "n" "I" "NativeSubset") ∈ lw_tbl := lw_at lw_m3 193 rfl
theorem q801 : (Jvm.Cond.instanceMethod ({ cls := "NativeSubset$Working", name := "many", desc := "(LNativeSubset$Act;)I" } : Jvm.MethodName)) ∈ lw_all := lw_g (lw_at lw_m4 32 rfl) rfl
theorem q802 : (Jvm.Cond.code ({ cls := "NativeSubset$Working", name := "many", desc := "(LNativeSubset$Act;)I" } : Jvm.MethodName) prog_27_method_2_code (2 : Nat) (Option.some Jvm.ClassFile.FieldType.int)) ∈ lw_all := lw_g (lw_at lw_m4 33 rfl) rfl
theorem q906 : (Jvm.Cond.sameMethod "NativeSubset$Working" "NativeSubset$Helper" "length" "(I)I") ∈ lw_all := lw_g (lw_at lw_m4 137 rfl) rfl
theorem q908 : (Jvm.Cond.superclass "NativeSubset$Working" "NativeSubset$Asking") ∈ lw_all := lw_g (lw_at lw_m4 139 rfl) rfl
theorem q1235 : (Jvm.Cond.declares ({ cls := "NativeSubset$Working", name := "part", desc := "(LNativeSubset$Act;)Ljava/lang/Object;" } : Jvm.MethodName)) ∈ lw_tbl := lw_at lw_m5 226 rfl
theorem q1237 : (Jvm.Cond.instanceMethod ({ cls := "NativeSubset$Working", name := "part", desc := "(LNativeSubset$Act;)Ljava/lang/Object;" } : Jvm.MethodName)) ∈ lw_all := lw_g (lw_at lw_m5 228 rfl) rfl
theorem q1238 : (Jvm.Cond.code ({ cls := "NativeSubset$Working", name := "part", desc := "(LNativeSubset$Act;)Ljava/lang/Object;" } : Jvm.MethodName) prog_27_method_3_code (4 : Nat) (Option.some (Jvm.ClassFile.FieldType.object "java/lang/Object"))) ∈ lw_all := lw_g (lw_at lw_m5 229 rfl) rfl
theorem q1239 : (Jvm.Cond.methodLink "NativeSubset$Working" (21 : Nat) ({ cls := "NativeSubset$Working", name := "row", desc := "(LNativeSubset$Act;)Ljava/lang/Object;" } : Jvm.MethodName)) ∈ lw_all := lw_g (lw_at lw_m5 230 rfl) rfl
theorem q1240 : (Jvm.Cond.sameMethod "NativeSubset$Working" "NativeSubset$Asking" "row" "(LNativeSubset$Act;)Ljava/lang/Object;") ∈ lw_all := lw_g (lw_at lw_m5 231 rfl) rfl
theorem q1245 : (Jvm.Cond.methodLinkNest "NativeSubset$Working" (25 : Nat) ({ cls := "NativeSubset", name := "sizeOf", desc := "(Ljava/lang/Object;)I" } : Jvm.MethodName) "NativeSubset") ∈ lw_tbl := lw_at lw_m5 236 rfl
theorem q1246 : (Jvm.Cond.methodLinkNest "NativeSubset$Working" (32 : Nat) ({ cls := "NativeSubset", name := "fail", desc := "(I)LNativeSubset$Failure;" } : Jvm.MethodName) "NativeSubset") ∈ lw_tbl := lw_at lw_m5 237 rfl
/-! NativeSubset$Filling -/
def RX8 : String := "NativeSubset$Filling"
def TX8 : u_T := fun k => match k with
  | 0 => ("NativeSubset$Helper", "base", "I", true)
  | 1 => ("NativeSubset$Helper", "this$0", "LNativeSubset;", true)
  | 2 => ("NativeSubset$Asking", "first", "I", true)
  | 3 => ("NativeSubset$Asking", "last", "I", true)
  | 4 => ("NativeSubset$Asking", "this$0", "LNativeSubset;", true)
  | 5 => ("NativeSubset$Working", "this$0", "LNativeSubset;", true)
  | _ => ("NativeSubset$Filling", "this$0", "LNativeSubset;", true)
def tyX8 : Nat → FieldType := fun k => match k with
  | 0 => .int
  | 1 => .object "NativeSubset"
  | 2 => .int
  | 3 => .int
  | 4 => .object "NativeSubset"
  | 5 => .object "NativeSubset"
  | _ => .object "NativeSubset"
abbrev wsX80 : List Cond := u_ws RX8 TX8 7
-- two fields of one name: no nmX8
theorem tyX8_ok : ∀ k, k < 7 → parseFieldDescriptor (TX8 k).2.2.1 = some (tyX8 k) := by decide +kernel
abbrev cX8_init : ByteArray := prog_13_method_1_code
def yX8_init : MethodName := ⟨RX8, "<init>", "(LNativeSubset;)V"⟩
def dkwX8_init_0 : List UInt8 := [42, 43, 181, 0, 3, 42, 43, 4, 3, 16, 10, 183, 0, 9, 177]
abbrev dktX8_init_0 : List UInt8 := dkwX8_init_0 ++ []
theorem dksX8_init_0 : cX8_init.data.toList.drop 0 = dktX8_init_0 := by decide +kernel
theorem dX8_init_0 : decode cX8_init 0 = .ok (.aload_n 0, 1) := dk_42 (dk_at dksX8_init_0 0 rfl rfl)
theorem dX8_init_1 : decode cX8_init 1 = .ok (.aload_n 1, 1) := dk_43 (dk_at dksX8_init_0 1 rfl rfl)
theorem dX8_init_2 : decode cX8_init 2 = .ok (.putfield 3, 3) := dk_181 0 3 (dk_at dksX8_init_0 2 rfl rfl)
theorem dX8_init_5 : decode cX8_init 5 = .ok (.aload_n 0, 1) := dk_42 (dk_at dksX8_init_0 5 rfl rfl)
theorem dX8_init_6 : decode cX8_init 6 = .ok (.aload_n 1, 1) := dk_43 (dk_at dksX8_init_0 6 rfl rfl)
theorem dX8_init_7 : decode cX8_init 7 = .ok (.iconst 1, 1) := dk_4 (dk_at dksX8_init_0 7 rfl rfl)
theorem dX8_init_8 : decode cX8_init 8 = .ok (.iconst 0, 1) := dk_3 (dk_at dksX8_init_0 8 rfl rfl)
theorem dX8_init_9 : decode cX8_init 9 = .ok (.bipush 10, 2) := dk_16 10 (dk_at dksX8_init_0 9 rfl rfl)
theorem dX8_init_11 : decode cX8_init 11 = .ok (.invokespecial 9, 3) := dk_183 0 9 (dk_at dksX8_init_0 11 rfl rfl)
theorem dX8_init_14 : decode cX8_init 14 = .ok (.return_, 1) := dk_177 (dk_at dksX8_init_0 14 rfl rfl)
abbrev cX8_work : ByteArray := prog_13_method_2_code
def yX8_work : MethodName := ⟨RX8, "work", "(LNativeSubset$Act;LNativeSubset$Call;)J"⟩
def dkwX8_work_7 : List UInt8 := [191, 9, 173]
abbrev dktX8_work_7 : List UInt8 := dkwX8_work_7 ++ []
def dkwX8_work_6 : List UInt8 := [25, 6, 184, 0, 66, 132, 7, 1, 167, 255, 223, 167, 0, 14, 58, 7, 42, 180, 0, 3, 6, 182, 0, 42]
abbrev dktX8_work_6 : List UInt8 := dkwX8_work_6 ++ dktX8_work_7
def dkwX8_work_5 : List UInt8 := [43, 180, 0, 60, 162, 0, 30, 25, 4, 43, 180, 0, 63, 21, 7, 96, 43, 180, 0, 35, 133, 25, 5]
abbrev dktX8_work_5 : List UInt8 := dkwX8_work_5 ++ dktX8_work_6
def dkwX8_work_4 : List UInt8 := [180, 0, 35, 188, 10, 167, 0, 4, 1, 58, 6, 44, 43, 180, 0, 19, 182, 0, 54, 3, 54, 7, 21, 7]
abbrev dktX8_work_4 : List UInt8 := dkwX8_work_4 ++ dktX8_work_5
def dkwX8_work_3 : List UInt8 := [182, 0, 50, 167, 0, 4, 1, 58, 5, 29, 16, 10, 160, 0, 20, 43, 180, 0, 35, 2, 159, 0, 12, 43]
abbrev dktX8_work_3 : List UInt8 := dkwX8_work_3 ++ dktX8_work_4
def dkwX8_work_2 : List UInt8 := [58, 4, 29, 16, 8, 159, 0, 9, 29, 16, 9, 160, 0, 18, 42, 180, 0, 3, 43, 180, 0, 35, 133]
abbrev dktX8_work_2 : List UInt8 := dkwX8_work_2 ++ dktX8_work_3
def dkwX8_work_1 : List UInt8 := [180, 0, 35, 133, 182, 0, 38, 154, 0, 12, 42, 180, 0, 3, 7, 182, 0, 42, 191, 42, 43, 182, 0, 46]
abbrev dktX8_work_1 : List UInt8 := dkwX8_work_1 ++ dktX8_work_2
def dkwX8_work_0 : List UInt8 := [42, 180, 0, 3, 180, 0, 15, 43, 180, 0, 19, 182, 0, 25, 184, 0, 31, 62, 42, 180, 0, 3, 29, 43]
abbrev dktX8_work_0 : List UInt8 := dkwX8_work_0 ++ dktX8_work_1
theorem dksX8_work_0 : cX8_work.data.toList.drop 0 = dktX8_work_0 := by decide +kernel
theorem dksX8_work_1 : cX8_work.data.toList.drop 24 = dktX8_work_1 := dk_seg dksX8_work_0 24 rfl rfl
theorem dksX8_work_2 : cX8_work.data.toList.drop 48 = dktX8_work_2 := dk_seg dksX8_work_1 24 rfl rfl
theorem dksX8_work_3 : cX8_work.data.toList.drop 71 = dktX8_work_3 := dk_seg dksX8_work_2 23 rfl rfl
theorem dksX8_work_4 : cX8_work.data.toList.drop 95 = dktX8_work_4 := dk_seg dksX8_work_3 24 rfl rfl
theorem dksX8_work_5 : cX8_work.data.toList.drop 119 = dktX8_work_5 := dk_seg dksX8_work_4 24 rfl rfl
theorem dksX8_work_6 : cX8_work.data.toList.drop 142 = dktX8_work_6 := dk_seg dksX8_work_5 23 rfl rfl
theorem dksX8_work_7 : cX8_work.data.toList.drop 166 = dktX8_work_7 := dk_seg dksX8_work_6 24 rfl rfl
theorem dX8_work_0 : decode cX8_work 0 = .ok (.aload_n 0, 1) := dk_42 (dk_at dksX8_work_0 0 rfl rfl)
theorem dX8_work_1 : decode cX8_work 1 = .ok (.getfield 3, 3) := dk_180 0 3 (dk_at dksX8_work_0 1 rfl rfl)
theorem dX8_work_4 : decode cX8_work 4 = .ok (.getfield 15, 3) := dk_180 0 15 (dk_at dksX8_work_0 4 rfl rfl)
theorem dX8_work_7 : decode cX8_work 7 = .ok (.aload_n 1, 1) := dk_43 (dk_at dksX8_work_0 7 rfl rfl)
theorem dX8_work_8 : decode cX8_work 8 = .ok (.getfield 19, 3) := dk_180 0 19 (dk_at dksX8_work_0 8 rfl rfl)
theorem dX8_work_11 : decode cX8_work 11 = .ok (.invokevirtual 25, 3) := dk_182 0 25 (dk_at dksX8_work_0 11 rfl rfl)
theorem dX8_work_14 : decode cX8_work 14 = .ok (.invokestatic 31, 3) := dk_184 0 31 (dk_at dksX8_work_0 14 rfl rfl)
theorem dX8_work_17 : decode cX8_work 17 = .ok (.istore_n 3, 1) := dk_62 (dk_at dksX8_work_0 17 rfl rfl)
theorem dX8_work_18 : decode cX8_work 18 = .ok (.aload_n 0, 1) := dk_42 (dk_at dksX8_work_0 18 rfl rfl)
theorem dX8_work_19 : decode cX8_work 19 = .ok (.getfield 3, 3) := dk_180 0 3 (dk_at dksX8_work_0 19 rfl rfl)
theorem dX8_work_22 : decode cX8_work 22 = .ok (.iload_n 3, 1) := dk_29 (dk_at dksX8_work_0 22 rfl rfl)
theorem dX8_work_23 : decode cX8_work 23 = .ok (.aload_n 1, 1) := dk_43 (dk_at dksX8_work_0 23 rfl rfl)
theorem dX8_work_24 : decode cX8_work 24 = .ok (.getfield 35, 3) := dk_180 0 35 (dk_at dksX8_work_1 0 rfl rfl)
theorem dX8_work_27 : decode cX8_work 27 = .ok (.i2l, 1) := dk_133 (dk_at dksX8_work_1 3 rfl rfl)
theorem dX8_work_28 : decode cX8_work 28 = .ok (.invokevirtual 38, 3) := dk_182 0 38 (dk_at dksX8_work_1 4 rfl rfl)
theorem dX8_work_31 : decode cX8_work 31 = .ok (.ifCond .ne 12, 3) := dk_154 0 12 (dk_at dksX8_work_1 7 rfl rfl)
theorem dX8_work_34 : decode cX8_work 34 = .ok (.aload_n 0, 1) := dk_42 (dk_at dksX8_work_1 10 rfl rfl)
theorem dX8_work_35 : decode cX8_work 35 = .ok (.getfield 3, 3) := dk_180 0 3 (dk_at dksX8_work_1 11 rfl rfl)
theorem dX8_work_38 : decode cX8_work 38 = .ok (.iconst 4, 1) := dk_7 (dk_at dksX8_work_1 14 rfl rfl)
theorem dX8_work_39 : decode cX8_work 39 = .ok (.invokevirtual 42, 3) := dk_182 0 42 (dk_at dksX8_work_1 15 rfl rfl)
theorem dX8_work_42 : decode cX8_work 42 = .ok (.athrow, 1) := dk_191 (dk_at dksX8_work_1 18 rfl rfl)
theorem dX8_work_43 : decode cX8_work 43 = .ok (.aload_n 0, 1) := dk_42 (dk_at dksX8_work_1 19 rfl rfl)
theorem dX8_work_44 : decode cX8_work 44 = .ok (.aload_n 1, 1) := dk_43 (dk_at dksX8_work_1 20 rfl rfl)
theorem dX8_work_45 : decode cX8_work 45 = .ok (.invokevirtual 46, 3) := dk_182 0 46 (dk_at dksX8_work_1 21 rfl rfl)
theorem dX8_work_48 : decode cX8_work 48 = .ok (.astore 4, 2) := dk_58 4 (dk_at dksX8_work_2 0 rfl rfl)
theorem dX8_work_50 : decode cX8_work 50 = .ok (.iload_n 3, 1) := dk_29 (dk_at dksX8_work_2 2 rfl rfl)
theorem dX8_work_51 : decode cX8_work 51 = .ok (.bipush 8, 2) := dk_16 8 (dk_at dksX8_work_2 3 rfl rfl)
theorem dX8_work_53 : decode cX8_work 53 = .ok (.if_icmp .eq 9, 3) := dk_159 0 9 (dk_at dksX8_work_2 5 rfl rfl)
theorem dX8_work_56 : decode cX8_work 56 = .ok (.iload_n 3, 1) := dk_29 (dk_at dksX8_work_2 8 rfl rfl)
theorem dX8_work_57 : decode cX8_work 57 = .ok (.bipush 9, 2) := dk_16 9 (dk_at dksX8_work_2 9 rfl rfl)
theorem dX8_work_59 : decode cX8_work 59 = .ok (.if_icmp .ne 18, 3) := dk_160 0 18 (dk_at dksX8_work_2 11 rfl rfl)
theorem dX8_work_62 : decode cX8_work 62 = .ok (.aload_n 0, 1) := dk_42 (dk_at dksX8_work_2 14 rfl rfl)
theorem dX8_work_63 : decode cX8_work 63 = .ok (.getfield 3, 3) := dk_180 0 3 (dk_at dksX8_work_2 15 rfl rfl)
theorem dX8_work_66 : decode cX8_work 66 = .ok (.aload_n 1, 1) := dk_43 (dk_at dksX8_work_2 18 rfl rfl)
theorem dX8_work_67 : decode cX8_work 67 = .ok (.getfield 35, 3) := dk_180 0 35 (dk_at dksX8_work_2 19 rfl rfl)
theorem dX8_work_70 : decode cX8_work 70 = .ok (.i2l, 1) := dk_133 (dk_at dksX8_work_2 22 rfl rfl)
theorem dX8_work_71 : decode cX8_work 71 = .ok (.invokevirtual 50, 3) := dk_182 0 50 (dk_at dksX8_work_3 0 rfl rfl)
theorem dX8_work_74 : decode cX8_work 74 = .ok (.goto 4, 3) := dk_167 0 4 (dk_at dksX8_work_3 3 rfl rfl)
theorem dX8_work_77 : decode cX8_work 77 = .ok (.aconst_null, 1) := dk_1 (dk_at dksX8_work_3 6 rfl rfl)
theorem dX8_work_78 : decode cX8_work 78 = .ok (.astore 5, 2) := dk_58 5 (dk_at dksX8_work_3 7 rfl rfl)
theorem dX8_work_80 : decode cX8_work 80 = .ok (.iload_n 3, 1) := dk_29 (dk_at dksX8_work_3 9 rfl rfl)
theorem dX8_work_81 : decode cX8_work 81 = .ok (.bipush 10, 2) := dk_16 10 (dk_at dksX8_work_3 10 rfl rfl)
theorem dX8_work_83 : decode cX8_work 83 = .ok (.if_icmp .ne 20, 3) := dk_160 0 20 (dk_at dksX8_work_3 12 rfl rfl)
theorem dX8_work_86 : decode cX8_work 86 = .ok (.aload_n 1, 1) := dk_43 (dk_at dksX8_work_3 15 rfl rfl)
theorem dX8_work_87 : decode cX8_work 87 = .ok (.getfield 35, 3) := dk_180 0 35 (dk_at dksX8_work_3 16 rfl rfl)
theorem dX8_work_90 : decode cX8_work 90 = .ok (.iconst (-1), 1) := dk_2 (dk_at dksX8_work_3 19 rfl rfl)
theorem dX8_work_91 : decode cX8_work 91 = .ok (.if_icmp .eq 12, 3) := dk_159 0 12 (dk_at dksX8_work_3 20 rfl rfl)
theorem dX8_work_94 : decode cX8_work 94 = .ok (.aload_n 1, 1) := dk_43 (dk_at dksX8_work_3 23 rfl rfl)
theorem dX8_work_95 : decode cX8_work 95 = .ok (.getfield 35, 3) := dk_180 0 35 (dk_at dksX8_work_4 0 rfl rfl)
theorem dX8_work_98 : decode cX8_work 98 = .ok (.newarray .int, 2) := dk_188_10 (dk_at dksX8_work_4 3 rfl rfl)
theorem dX8_work_100 : decode cX8_work 100 = .ok (.goto 4, 3) := dk_167 0 4 (dk_at dksX8_work_4 5 rfl rfl)
theorem dX8_work_103 : decode cX8_work 103 = .ok (.aconst_null, 1) := dk_1 (dk_at dksX8_work_4 8 rfl rfl)
theorem dX8_work_104 : decode cX8_work 104 = .ok (.astore 6, 2) := dk_58 6 (dk_at dksX8_work_4 9 rfl rfl)
theorem dX8_work_106 : decode cX8_work 106 = .ok (.aload_n 2, 1) := dk_44 (dk_at dksX8_work_4 11 rfl rfl)
theorem dX8_work_107 : decode cX8_work 107 = .ok (.aload_n 1, 1) := dk_43 (dk_at dksX8_work_4 12 rfl rfl)
theorem dX8_work_108 : decode cX8_work 108 = .ok (.getfield 19, 3) := dk_180 0 19 (dk_at dksX8_work_4 13 rfl rfl)
theorem dX8_work_111 : decode cX8_work 111 = .ok (.invokevirtual 54, 3) := dk_182 0 54 (dk_at dksX8_work_4 16 rfl rfl)
theorem dX8_work_114 : decode cX8_work 114 = .ok (.iconst 0, 1) := dk_3 (dk_at dksX8_work_4 19 rfl rfl)
theorem dX8_work_115 : decode cX8_work 115 = .ok (.istore 7, 2) := dk_54 7 (dk_at dksX8_work_4 20 rfl rfl)
theorem dX8_work_117 : decode cX8_work 117 = .ok (.iload 7, 2) := dk_21 7 (dk_at dksX8_work_4 22 rfl rfl)
theorem dX8_work_119 : decode cX8_work 119 = .ok (.aload_n 1, 1) := dk_43 (dk_at dksX8_work_5 0 rfl rfl)
theorem dX8_work_120 : decode cX8_work 120 = .ok (.getfield 60, 3) := dk_180 0 60 (dk_at dksX8_work_5 1 rfl rfl)
theorem dX8_work_123 : decode cX8_work 123 = .ok (.if_icmp .ge 30, 3) := dk_162 0 30 (dk_at dksX8_work_5 4 rfl rfl)
theorem dX8_work_126 : decode cX8_work 126 = .ok (.aload 4, 2) := dk_25 4 (dk_at dksX8_work_5 7 rfl rfl)
theorem dX8_work_128 : decode cX8_work 128 = .ok (.aload_n 1, 1) := dk_43 (dk_at dksX8_work_5 9 rfl rfl)
theorem dX8_work_129 : decode cX8_work 129 = .ok (.getfield 63, 3) := dk_180 0 63 (dk_at dksX8_work_5 10 rfl rfl)
theorem dX8_work_132 : decode cX8_work 132 = .ok (.iload 7, 2) := dk_21 7 (dk_at dksX8_work_5 13 rfl rfl)
theorem dX8_work_134 : decode cX8_work 134 = .ok (.iadd, 1) := dk_96 (dk_at dksX8_work_5 15 rfl rfl)
theorem dX8_work_135 : decode cX8_work 135 = .ok (.aload_n 1, 1) := dk_43 (dk_at dksX8_work_5 16 rfl rfl)
theorem dX8_work_136 : decode cX8_work 136 = .ok (.getfield 35, 3) := dk_180 0 35 (dk_at dksX8_work_5 17 rfl rfl)
theorem dX8_work_139 : decode cX8_work 139 = .ok (.i2l, 1) := dk_133 (dk_at dksX8_work_5 20 rfl rfl)
theorem dX8_work_140 : decode cX8_work 140 = .ok (.aload 5, 2) := dk_25 5 (dk_at dksX8_work_5 21 rfl rfl)
theorem dX8_work_142 : decode cX8_work 142 = .ok (.aload 6, 2) := dk_25 6 (dk_at dksX8_work_6 0 rfl rfl)
theorem dX8_work_144 : decode cX8_work 144 = .ok (.invokestatic 66, 3) := dk_184 0 66 (dk_at dksX8_work_6 2 rfl rfl)
theorem dX8_work_147 : decode cX8_work 147 = .ok (.iinc 7 1, 3) := dk_132 7 1 (dk_at dksX8_work_6 5 rfl rfl)
theorem dX8_work_150 : decode cX8_work 150 = .ok (.goto (-33), 3) := dk_167 255 223 (dk_at dksX8_work_6 8 rfl rfl)
theorem dX8_work_153 : decode cX8_work 153 = .ok (.goto 14, 3) := dk_167 0 14 (dk_at dksX8_work_6 11 rfl rfl)
theorem dX8_work_156 : decode cX8_work 156 = .ok (.astore 7, 2) := dk_58 7 (dk_at dksX8_work_6 14 rfl rfl)
theorem dX8_work_158 : decode cX8_work 158 = .ok (.aload_n 0, 1) := dk_42 (dk_at dksX8_work_6 16 rfl rfl)
theorem dX8_work_159 : decode cX8_work 159 = .ok (.getfield 3, 3) := dk_180 0 3 (dk_at dksX8_work_6 17 rfl rfl)
theorem dX8_work_162 : decode cX8_work 162 = .ok (.iconst 3, 1) := dk_6 (dk_at dksX8_work_6 20 rfl rfl)
theorem dX8_work_163 : decode cX8_work 163 = .ok (.invokevirtual 42, 3) := dk_182 0 42 (dk_at dksX8_work_6 21 rfl rfl)
theorem dX8_work_166 : decode cX8_work 166 = .ok (.athrow, 1) := dk_191 (dk_at dksX8_work_7 0 rfl rfl)
theorem dX8_work_167 : decode cX8_work 167 = .ok (.lconst 0, 1) := dk_9 (dk_at dksX8_work_7 1 rfl rfl)
theorem dX8_work_168 : decode cX8_work 168 = .ok (.lreturn, 1) := dk_173 (dk_at dksX8_work_7 2 rfl rfl)
theorem q60 : (Jvm.Cond.initialized "NativeSubset$Filling") ∈ lw_all := lw_g (lw_at lw_m1 11 rfl) rfl
theorem q200 : (Jvm.Cond.instantiable "NativeSubset$Filling" (7 : Nat)) ∈ lw_all := lw_g (lw_at lw_m1 151 rfl) rfl
theorem q202 : (Jvm.Cond.instanceMethod ({ cls := "NativeSubset$Filling", name := "<init>", desc := "(LNativeSubset;)V" } : Jvm.MethodName)) ∈ lw_all := lw_g (lw_at lw_m1 153 rfl) rfl
theorem q203 : (Jvm.Cond.code ({ cls := "NativeSubset$Filling", name := "<init>", desc := "(LNativeSubset;)V" } : Jvm.MethodName) prog_13_method_1_code (2 : Nat) (Option.none : Option Jvm.ClassFile.FieldType)) ∈ lw_all := lw_g (lw_at lw_m1 154 rfl) rfl
theorem q204 : (Jvm.Cond.methodLink "NativeSubset$Filling" (9 : Nat) ({ cls := "NativeSubset$Working", name := "<init>", desc := "(LNativeSubset;III)V" } : Jvm.MethodName)) ∈ lw_all := lw_g (lw_at lw_m1 155 rfl) rfl
theorem q208 : (Jvm.Cond.fieldLink "NativeSubset$Filling" (3 : Nat) "NativeSubset$Filling" "this$0" "LNativeSubset;") ∈ lw_all := lw_g (lw_at lw_m1 159 rfl) rfl
theorem q210 : (Jvm.Cond.laysFinal "NativeSubset$Filling" "NativeSubset$Filling" "this$0" "LNativeSubset;") ∈ lw_all := lw_g (lw_at lw_m1 161 rfl) rfl
theorem q211 : (Jvm.Cond.soleField "NativeSubset$Filling" "this$0") ∈ lw_all := lw_g (lw_at lw_m1 162 rfl) rfl
theorem q212 : (Jvm.Cond.laysFinal "NativeSubset$Filling" "NativeSubset$Working" "this$0" "LNativeSubset;") ∈ lw_all := lw_g (lw_at lw_m1 163 rfl) rfl
theorem q214 : (Jvm.Cond.laysFinal "NativeSubset$Filling" "NativeSubset$Asking" "first" "I") ∈ lw_all := lw_g (lw_at lw_m1 165 rfl) rfl
theorem q215 : (Jvm.Cond.laysFinal "NativeSubset$Filling" "NativeSubset$Asking" "last" "I") ∈ lw_all := lw_g (lw_at lw_m1 166 rfl) rfl
theorem q216 : (Jvm.Cond.laysFinal "NativeSubset$Filling" "NativeSubset$Asking" "this$0" "LNativeSubset;") ∈ lw_all := lw_g (lw_at lw_m1 167 rfl) rfl
theorem q217 : (Jvm.Cond.laysFinal "NativeSubset$Filling" "NativeSubset$Helper" "base" "I") ∈ lw_all := lw_g (lw_at lw_m1 168 rfl) rfl
theorem q218 : (Jvm.Cond.laysFinal "NativeSubset$Filling" "NativeSubset$Helper" "this$0" "LNativeSubset;") ∈ lw_all := lw_g (lw_at lw_m1 169 rfl) rfl
theorem q219 : (Jvm.Cond.superclass "NativeSubset$Filling" "NativeSubset$Working") ∈ lw_all := lw_g (lw_at lw_m1 170 rfl) rfl
theorem q378 : (Jvm.Cond.fieldLinkNest "NativeSubset$Filling" (15 : Nat) "NativeSubset" "rows" "Ljava/util/ArrayList;" "NativeSubset") ∈ lw_tbl := lw_at lw_m2 89 rfl
theorem q502 : (Jvm.Cond.selects "NativeSubset$Filling" ({ cls := "java/lang/Object", name := "getClass", desc := "()Ljava/lang/Class;" } : Jvm.MethodName) ({ cls := "java/lang/Object", name := "getClass", desc := "()Ljava/lang/Class;" } : Jvm.MethodName)) ∈ lw_all := lw_g (lw_at lw_m2 213 rfl) rfl
theorem q695 : (Jvm.Cond.fieldLinkNest "NativeSubset$Filling" (19 : Nat) "NativeSubset$Act" "a" "I" "NativeSubset") ∈ lw_tbl := lw_at lw_m3 166 rfl
theorem q706 : (Jvm.Cond.fieldLinkNest "NativeSubset$Filling" (63 : Nat) "NativeSubset$Act" "i" "I" "NativeSubset") ∈ lw_tbl := lw_at lw_m3 177 rfl
theorem q719 : (Jvm.Cond.fieldLinkNest "NativeSubset$Filling" (35 : Nat) "NativeSubset$Act" "j" "I" "NativeSubset") ∈ lw_tbl := lw_at lw_m3 190 rfl
theorem q725 : (Jvm.Cond.fieldLinkNest "NativeSubset$Filling" (60 : Nat) "NativeSubset$Act" "n" "I" "NativeSubset") ∈ lw_tbl := lw_at lw_m3 196 rfl
theorem q766 : (Jvm.Cond.selects "NativeSubset$Filling" ({ cls := "NativeSubset$Helper", name := "hasOther", desc := "()Z" } : Jvm.MethodName) ({ cls := "NativeSubset$Helper", name := "hasOther", desc := "()Z" } : Jvm.MethodName)) ∈ lw_all := lw_g (lw_at lw_m3 237 rfl) rfl
theorem q800 : (Jvm.Cond.selects "NativeSubset$Filling" ({ cls := "NativeSubset$Helper", name := "many", desc := "(LNativeSubset$Act;)I" } : Jvm.MethodName) ({ cls := "NativeSubset$Working", name := "many", desc := "(LNativeSubset$Act;)I" } : Jvm.MethodName)) ∈ lw_all := lw_g (lw_at lw_m4 31 rfl) rfl
theorem q847 : (Jvm.Cond.castable "NativeSubset$Filling" "NativeSubset$Priced") ∈ lw_tbl := lw_at lw_m4 78 rfl
theorem q848 : (Jvm.Cond.selects "NativeSubset$Filling" ({ cls := "NativeSubset$Priced", name := "base", desc := "()I" } : Jvm.MethodName) ({ cls := "NativeSubset$Helper", name := "base", desc := "()I" } : Jvm.MethodName)) ∈ lw_all := lw_g (lw_at lw_m4 79 rfl) rfl
theorem q849 : (Jvm.Cond.unhidden "NativeSubset$Filling" "base" "()I") ∈ lw_tbl := lw_at lw_m4 80 rfl
theorem q890 : (Jvm.Cond.selects "NativeSubset$Filling" ({ cls := "NativeSubset$Priced", name := "length", desc := "(I)I" } : Jvm.MethodName) ({ cls := "NativeSubset$Helper", name := "length", desc := "(I)I" } : Jvm.MethodName)) ∈ lw_all := lw_g (lw_at lw_m4 121 rfl) rfl
theorem q891 : (Jvm.Cond.unhidden "NativeSubset$Filling" "length" "(I)I") ∈ lw_tbl := lw_at lw_m4 122 rfl
theorem q918 : (Jvm.Cond.unhidden "NativeSubset$Filling" "price" "(II)I") ∈ lw_tbl := lw_at lw_m4 149 rfl
theorem q1221 : (Jvm.Cond.selects "NativeSubset$Filling" ({ cls := "NativeSubset$Helper", name := "work", desc := "(LNativeSubset$Act;LNativeSubset$Call;)J" } : Jvm.MethodName) ({ cls := "NativeSubset$Filling", name := "work", desc := "(LNativeSubset$Act;LNativeSubset$Call;)J" } : Jvm.MethodName)) ∈ lw_all := lw_g (lw_at lw_m5 212 rfl) rfl
theorem q1222 : (Jvm.Cond.instanceMethod ({ cls := "NativeSubset$Filling", name := "work", desc := "(LNativeSubset$Act;LNativeSubset$Call;)J" } : Jvm.MethodName)) ∈ lw_all := lw_g (lw_at lw_m5 213 rfl) rfl
theorem q1223 : (Jvm.Cond.codeWith ({ cls := "NativeSubset$Filling", name := "work", desc := "(LNativeSubset$Act;LNativeSubset$Call;)J" } : Jvm.MethodName) prog_13_method_2_code (8 : Nat) (Option.some Jvm.ClassFile.FieldType.long) [((114 : Nat), (153 : Nat), (156 : Nat), (70 : Nat))]) ∈ lw_all := lw_g (lw_at lw_m5 214 rfl) rfl
theorem q1224 : (Jvm.Cond.classLink "NativeSubset$Filling" (70 : Nat) "java/lang/ArrayStoreException") ∈ lw_all := lw_g (lw_at lw_m5 215 rfl) rfl
theorem q1225 : (Jvm.Cond.methodLink "NativeSubset$Filling" (25 : Nat) ({ cls := "java/util/ArrayList", name := "get", desc := "(I)Ljava/lang/Object;" } : Jvm.MethodName)) ∈ lw_all := lw_g (lw_at lw_m5 216 rfl) rfl
theorem q1226 : (Jvm.Cond.methodLinkNest "NativeSubset$Filling" (31 : Nat) ({ cls := "NativeSubset", name := "kindOf", desc := "(Ljava/lang/Object;)I" } : Jvm.MethodName) "NativeSubset") ∈ lw_tbl := lw_at lw_m5 217 rfl
theorem q1227 : (Jvm.Cond.methodLinkNest "NativeSubset$Filling" (38 : Nat) ({ cls := "NativeSubset", name := "goes", desc := "(IJ)Z" } : Jvm.MethodName) "NativeSubset") ∈ lw_tbl := lw_at lw_m5 218 rfl
theorem q1232 : (Jvm.Cond.methodLinkNest "NativeSubset$Filling" (42 : Nat) ({ cls := "NativeSubset", name := "fail", desc := "(I)LNativeSubset$Failure;" } : Jvm.MethodName) "NativeSubset") ∈ lw_tbl := lw_at lw_m5 223 rfl
theorem q1233 : (Jvm.Cond.methodLink "NativeSubset$Filling" (46 : Nat) ({ cls := "NativeSubset$Filling", name := "part", desc := "(LNativeSubset$Act;)Ljava/lang/Object;" } : Jvm.MethodName)) ∈ lw_all := lw_g (lw_at lw_m5 224 rfl) rfl
theorem q1234 : (Jvm.Cond.sameMethod "NativeSubset$Filling" "NativeSubset$Working" "part" "(LNativeSubset$Act;)Ljava/lang/Object;") ∈ lw_all := lw_g (lw_at lw_m5 225 rfl) rfl
theorem q1236 : (Jvm.Cond.selects "NativeSubset$Filling" ({ cls := "NativeSubset$Filling", name := "part", desc := "(LNativeSubset$Act;)Ljava/lang/Object;" } : Jvm.MethodName) ({ cls := "NativeSubset$Working", name := "part", desc := "(LNativeSubset$Act;)Ljava/lang/Object;" } : Jvm.MethodName)) ∈ lw_all := lw_g (lw_at lw_m5 227 rfl) rfl
theorem q1241 : (Jvm.Cond.selects "NativeSubset$Filling" ({ cls := "NativeSubset$Working", name := "row", desc := "(LNativeSubset$Act;)Ljava/lang/Object;" } : Jvm.MethodName) ({ cls := "NativeSubset$Asking", name := "row", desc := "(LNativeSubset$Act;)Ljava/lang/Object;" } : Jvm.MethodName)) ∈ lw_all := lw_g (lw_at lw_m5 232 rfl) rfl
theorem q1247 : (Jvm.Cond.methodLinkNest "NativeSubset$Filling" (50 : Nat) ({ cls := "NativeSubset", name := "unitOf", desc := "(J)LNativeSubset$Unit;" } : Jvm.MethodName) "NativeSubset") ∈ lw_tbl := lw_at lw_m5 238 rfl
theorem q1251 : (Jvm.Cond.methodLink "NativeSubset$Filling" (54 : Nat) ({ cls := "NativeSubset$Call", name := "keep", desc := "(I)V" } : Jvm.MethodName)) ∈ lw_all := lw_g (lw_at lw_m6 2 rfl) rfl
theorem q1252 : (Jvm.Cond.methodLinkNest "NativeSubset$Filling" (66 : Nat) ({ cls := "NativeSubset", name := "put", desc := "(Ljava/lang/Object;IJLNativeSubset$Unit;[I)V" } : Jvm.MethodName) "NativeSubset") ∈ lw_tbl := lw_at lw_m6 3 rfl
theorem q1843 : (Jvm.Cond.castable "NativeSubset$Filling" "java/lang/Object") ∈ lw_tbl := lw_at lw_m8 114 rfl
theorem q1867 : (Jvm.Cond.castable "NativeSubset$Filling" "NativeSubset$Helper") ∈ lw_tbl := lw_at lw_m8 138 rfl
theorem in_X8 : ∀ w ∈ wsX80, w ∈ lw_all := lw_in wsX80 [217, 218, 214, 215, 216, 212, 210] (by decide +kernel) (by decide +kernel)
/-! NativeSubset$Comparing -/
def RX9 : String := "NativeSubset$Comparing"
abbrev cX9_init : ByteArray := prog_8_method_1_code
def yX9_init : MethodName := ⟨RX9, "<init>", "(LNativeSubset;II)V"⟩
def dkwX9_init_0 : List UInt8 := [42, 43, 181, 0, 1, 42, 43, 4, 28, 29, 183, 0, 7, 177]
abbrev dktX9_init_0 : List UInt8 := dkwX9_init_0 ++ []
theorem dksX9_init_0 : cX9_init.data.toList.drop 0 = dktX9_init_0 := by decide +kernel
theorem dX9_init_0 : decode cX9_init 0 = .ok (.aload_n 0, 1) := dk_42 (dk_at dksX9_init_0 0 rfl rfl)
theorem dX9_init_1 : decode cX9_init 1 = .ok (.aload_n 1, 1) := dk_43 (dk_at dksX9_init_0 1 rfl rfl)
theorem dX9_init_2 : decode cX9_init 2 = .ok (.putfield 1, 3) := dk_181 0 1 (dk_at dksX9_init_0 2 rfl rfl)
theorem dX9_init_5 : decode cX9_init 5 = .ok (.aload_n 0, 1) := dk_42 (dk_at dksX9_init_0 5 rfl rfl)
theorem dX9_init_6 : decode cX9_init 6 = .ok (.aload_n 1, 1) := dk_43 (dk_at dksX9_init_0 6 rfl rfl)
theorem dX9_init_7 : decode cX9_init 7 = .ok (.iconst 1, 1) := dk_4 (dk_at dksX9_init_0 7 rfl rfl)
theorem dX9_init_8 : decode cX9_init 8 = .ok (.iload_n 2, 1) := dk_28 (dk_at dksX9_init_0 8 rfl rfl)
theorem dX9_init_9 : decode cX9_init 9 = .ok (.iload_n 3, 1) := dk_29 (dk_at dksX9_init_0 9 rfl rfl)
theorem dX9_init_10 : decode cX9_init 10 = .ok (.invokespecial 7, 3) := dk_183 0 7 (dk_at dksX9_init_0 10 rfl rfl)
theorem dX9_init_13 : decode cX9_init 13 = .ok (.return_, 1) := dk_177 (dk_at dksX9_init_0 13 rfl rfl)
abbrev cX9_hasOther : ByteArray := prog_8_method_3_code
def yX9_hasOther : MethodName := ⟨RX9, "hasOther", "()Z"⟩
theorem dX9_hasOther_0 : decode cX9_hasOther 0 = .ok (.iconst 1, 1) := by decide +kernel
theorem dX9_hasOther_1 : decode cX9_hasOther 1 = .ok (.ireturn, 1) := by decide +kernel
abbrev cX9_many : ByteArray := prog_8_method_2_code
def yX9_many : MethodName := ⟨RX9, "many", "(LNativeSubset$Act;)I"⟩
def dkwX9_many_1 : List UInt8 := [184, 0, 39, 172]
abbrev dktX9_many_1 : List UInt8 := dkwX9_many_1 ++ []
def dkwX9_many_0 : List UInt8 := [42, 43, 183, 0, 13, 42, 180, 0, 1, 180, 0, 17, 43, 180, 0, 23, 182, 0, 29, 184, 0, 35]
abbrev dktX9_many_0 : List UInt8 := dkwX9_many_0 ++ dktX9_many_1
theorem dksX9_many_0 : cX9_many.data.toList.drop 0 = dktX9_many_0 := by decide +kernel
theorem dksX9_many_1 : cX9_many.data.toList.drop 22 = dktX9_many_1 := dk_seg dksX9_many_0 22 rfl rfl
theorem dX9_many_0 : decode cX9_many 0 = .ok (.aload_n 0, 1) := dk_42 (dk_at dksX9_many_0 0 rfl rfl)
theorem dX9_many_1 : decode cX9_many 1 = .ok (.aload_n 1, 1) := dk_43 (dk_at dksX9_many_0 1 rfl rfl)
theorem dX9_many_2 : decode cX9_many 2 = .ok (.invokespecial 13, 3) := dk_183 0 13 (dk_at dksX9_many_0 2 rfl rfl)
theorem dX9_many_5 : decode cX9_many 5 = .ok (.aload_n 0, 1) := dk_42 (dk_at dksX9_many_0 5 rfl rfl)
theorem dX9_many_6 : decode cX9_many 6 = .ok (.getfield 1, 3) := dk_180 0 1 (dk_at dksX9_many_0 6 rfl rfl)
theorem dX9_many_9 : decode cX9_many 9 = .ok (.getfield 17, 3) := dk_180 0 17 (dk_at dksX9_many_0 9 rfl rfl)
theorem dX9_many_12 : decode cX9_many 12 = .ok (.aload_n 1, 1) := dk_43 (dk_at dksX9_many_0 12 rfl rfl)
theorem dX9_many_13 : decode cX9_many 13 = .ok (.getfield 23, 3) := dk_180 0 23 (dk_at dksX9_many_0 13 rfl rfl)
theorem dX9_many_16 : decode cX9_many 16 = .ok (.invokevirtual 29, 3) := dk_182 0 29 (dk_at dksX9_many_0 16 rfl rfl)
theorem dX9_many_19 : decode cX9_many 19 = .ok (.invokestatic 35, 3) := dk_184 0 35 (dk_at dksX9_many_0 19 rfl rfl)
theorem dX9_many_22 : decode cX9_many 22 = .ok (.invokestatic 39, 3) := dk_184 0 39 (dk_at dksX9_many_1 0 rfl rfl)
theorem dX9_many_25 : decode cX9_many 25 = .ok (.ireturn, 1) := dk_172 (dk_at dksX9_many_1 3 rfl rfl)
theorem q61 : (Jvm.Cond.initialized "NativeSubset$Comparing") ∈ lw_all := lw_g (lw_at lw_m1 12 rfl) rfl
theorem q226 : (Jvm.Cond.instanceMethod ({ cls := "NativeSubset$Comparing", name := "<init>", desc := "(LNativeSubset;II)V" } : Jvm.MethodName)) ∈ lw_all := lw_g (lw_at lw_m1 177 rfl) rfl
theorem q227 : (Jvm.Cond.code ({ cls := "NativeSubset$Comparing", name := "<init>", desc := "(LNativeSubset;II)V" } : Jvm.MethodName) prog_8_method_1_code (4 : Nat) (Option.none : Option Jvm.ClassFile.FieldType)) ∈ lw_all := lw_g (lw_at lw_m1 178 rfl) rfl
theorem q228 : (Jvm.Cond.methodLink "NativeSubset$Comparing" (7 : Nat) ({ cls := "NativeSubset$Asking", name := "<init>", desc := "(LNativeSubset;III)V" } : Jvm.MethodName)) ∈ lw_all := lw_g (lw_at lw_m1 179 rfl) rfl
theorem q230 : (Jvm.Cond.fieldLink "NativeSubset$Comparing" (1 : Nat) "NativeSubset$Comparing" "this$0" "LNativeSubset;") ∈ lw_all := lw_g (lw_at lw_m1 181 rfl) rfl
theorem q234 : (Jvm.Cond.soleField "NativeSubset$Comparing" "this$0") ∈ lw_all := lw_g (lw_at lw_m1 185 rfl) rfl
theorem q379 : (Jvm.Cond.fieldLinkNest "NativeSubset$Comparing" (17 : Nat) "NativeSubset" "rows" "Ljava/util/ArrayList;" "NativeSubset") ∈ lw_tbl := lw_at lw_m2 90 rfl
theorem q712 : (Jvm.Cond.fieldLinkNest "NativeSubset$Comparing" (23 : Nat) "NativeSubset$Act" "b" "I" "NativeSubset") ∈ lw_tbl := lw_at lw_m3 183 rfl
theorem q763 : (Jvm.Cond.instanceMethod ({ cls := "NativeSubset$Comparing", name := "hasOther", desc := "()Z" } : Jvm.MethodName)) ∈ lw_all := lw_g (lw_at lw_m3 234 rfl) rfl
theorem q764 : (Jvm.Cond.code ({ cls := "NativeSubset$Comparing", name := "hasOther", desc := "()Z" } : Jvm.MethodName) prog_8_method_3_code (1 : Nat) (Option.some Jvm.ClassFile.FieldType.boolean)) ∈ lw_all := lw_g (lw_at lw_m3 235 rfl) rfl
theorem q792 : (Jvm.Cond.instanceMethod ({ cls := "NativeSubset$Comparing", name := "many", desc := "(LNativeSubset$Act;)I" } : Jvm.MethodName)) ∈ lw_all := lw_g (lw_at lw_m4 23 rfl) rfl
theorem q793 : (Jvm.Cond.code ({ cls := "NativeSubset$Comparing", name := "many", desc := "(LNativeSubset$Act;)I" } : Jvm.MethodName) prog_8_method_2_code (2 : Nat) (Option.some Jvm.ClassFile.FieldType.int)) ∈ lw_all := lw_g (lw_at lw_m4 24 rfl) rfl
theorem q794 : (Jvm.Cond.methodLink "NativeSubset$Comparing" (13 : Nat) ({ cls := "NativeSubset$Asking", name := "many", desc := "(LNativeSubset$Act;)I" } : Jvm.MethodName)) ∈ lw_all := lw_g (lw_at lw_m4 25 rfl) rfl
theorem q795 : (Jvm.Cond.superclass "NativeSubset$Comparing" "NativeSubset$Asking") ∈ lw_all := lw_g (lw_at lw_m4 26 rfl) rfl
theorem q796 : (Jvm.Cond.methodLink "NativeSubset$Comparing" (29 : Nat) ({ cls := "java/util/ArrayList", name := "get", desc := "(I)Ljava/lang/Object;" } : Jvm.MethodName)) ∈ lw_all := lw_g (lw_at lw_m4 27 rfl) rfl
theorem q797 : (Jvm.Cond.methodLinkNest "NativeSubset$Comparing" (35 : Nat) ({ cls := "NativeSubset", name := "sizeOf", desc := "(Ljava/lang/Object;)I" } : Jvm.MethodName) "NativeSubset") ∈ lw_tbl := lw_at lw_m4 28 rfl
theorem q798 : (Jvm.Cond.methodLink "NativeSubset$Comparing" (39 : Nat) ({ cls := "java/lang/Math", name := "min", desc := "(II)I" } : Jvm.MethodName)) ∈ lw_all := lw_g (lw_at lw_m4 29 rfl) rfl
/-! NativeSubset$Equal -/
def RX10 : String := "NativeSubset$Equal"
def TX10 : u_T := fun k => match k with
  | 0 => ("NativeSubset$Helper", "base", "I", true)
  | 1 => ("NativeSubset$Helper", "this$0", "LNativeSubset;", true)
  | 2 => ("NativeSubset$Asking", "first", "I", true)
  | 3 => ("NativeSubset$Asking", "last", "I", true)
  | 4 => ("NativeSubset$Asking", "this$0", "LNativeSubset;", true)
  | 5 => ("NativeSubset$Comparing", "this$0", "LNativeSubset;", true)
  | _ => ("NativeSubset$Equal", "this$0", "LNativeSubset;", true)
def tyX10 : Nat → FieldType := fun k => match k with
  | 0 => .int
  | 1 => .object "NativeSubset"
  | 2 => .int
  | 3 => .int
  | 4 => .object "NativeSubset"
  | 5 => .object "NativeSubset"
  | _ => .object "NativeSubset"
abbrev wsX100 : List Cond := u_ws RX10 TX10 7
-- two fields of one name: no nmX10
theorem tyX10_ok : ∀ k, k < 7 → parseFieldDescriptor (TX10 k).2.2.1 = some (tyX10 k) := by decide +kernel
abbrev cX10_init : ByteArray := prog_10_method_1_code
def yX10_init : MethodName := ⟨RX10, "<init>", "(LNativeSubset;)V"⟩
def dkwX10_init_0 : List UInt8 := [42, 43, 181, 0, 3, 42, 43, 3, 16, 10, 183, 0, 9, 177]
abbrev dktX10_init_0 : List UInt8 := dkwX10_init_0 ++ []
theorem dksX10_init_0 : cX10_init.data.toList.drop 0 = dktX10_init_0 := by decide +kernel
theorem dX10_init_0 : decode cX10_init 0 = .ok (.aload_n 0, 1) := dk_42 (dk_at dksX10_init_0 0 rfl rfl)
theorem dX10_init_1 : decode cX10_init 1 = .ok (.aload_n 1, 1) := dk_43 (dk_at dksX10_init_0 1 rfl rfl)
theorem dX10_init_2 : decode cX10_init 2 = .ok (.putfield 3, 3) := dk_181 0 3 (dk_at dksX10_init_0 2 rfl rfl)
theorem dX10_init_5 : decode cX10_init 5 = .ok (.aload_n 0, 1) := dk_42 (dk_at dksX10_init_0 5 rfl rfl)
theorem dX10_init_6 : decode cX10_init 6 = .ok (.aload_n 1, 1) := dk_43 (dk_at dksX10_init_0 6 rfl rfl)
theorem dX10_init_7 : decode cX10_init 7 = .ok (.iconst 0, 1) := dk_3 (dk_at dksX10_init_0 7 rfl rfl)
theorem dX10_init_8 : decode cX10_init 8 = .ok (.bipush 10, 2) := dk_16 10 (dk_at dksX10_init_0 8 rfl rfl)
theorem dX10_init_10 : decode cX10_init 10 = .ok (.invokespecial 9, 3) := dk_183 0 9 (dk_at dksX10_init_0 10 rfl rfl)
theorem dX10_init_13 : decode cX10_init 13 = .ok (.return_, 1) := dk_177 (dk_at dksX10_init_0 13 rfl rfl)
abbrev cX10_work : ByteArray := prog_10_method_2_code
def yX10_work : MethodName := ⟨RX10, "work", "(LNativeSubset$Act;LNativeSubset$Call;)J"⟩
def dkwX10_work_4 : List UInt8 := [167, 255, 229, 21, 5, 153, 0, 7, 10, 167, 0, 4, 9, 173]
abbrev dktX10_work_4 : List UInt8 := dkwX10_work_4 ++ []
def dkwX10_work_3 : List UInt8 := [21, 6, 45, 184, 0, 38, 162, 0, 19, 45, 25, 4, 21, 6, 184, 0, 41, 54, 5, 132, 6, 1]
abbrev dktX10_work_3 : List UInt8 := dkwX10_work_3 ++ dktX10_work_4
def dkwX10_work_2 : List UInt8 := [25, 4, 184, 0, 38, 160, 0, 7, 4, 167, 0, 4, 3, 54, 5, 3, 54, 6, 21, 5, 153, 0, 28]
abbrev dktX10_work_2 : List UInt8 := dkwX10_work_2 ++ dktX10_work_3
def dkwX10_work_1 : List UInt8 := [180, 0, 31, 182, 0, 25, 58, 4, 45, 184, 0, 34, 25, 4, 184, 0, 34, 160, 0, 19, 45, 184, 0, 38]
abbrev dktX10_work_1 : List UInt8 := dkwX10_work_1 ++ dktX10_work_2
def dkwX10_work_0 : List UInt8 := [42, 180, 0, 3, 180, 0, 15, 43, 180, 0, 19, 182, 0, 25, 78, 42, 180, 0, 3, 180, 0, 15, 43]
abbrev dktX10_work_0 : List UInt8 := dkwX10_work_0 ++ dktX10_work_1
theorem dksX10_work_0 : cX10_work.data.toList.drop 0 = dktX10_work_0 := by decide +kernel
theorem dksX10_work_1 : cX10_work.data.toList.drop 23 = dktX10_work_1 := dk_seg dksX10_work_0 23 rfl rfl
theorem dksX10_work_2 : cX10_work.data.toList.drop 47 = dktX10_work_2 := dk_seg dksX10_work_1 24 rfl rfl
theorem dksX10_work_3 : cX10_work.data.toList.drop 70 = dktX10_work_3 := dk_seg dksX10_work_2 23 rfl rfl
theorem dksX10_work_4 : cX10_work.data.toList.drop 92 = dktX10_work_4 := dk_seg dksX10_work_3 22 rfl rfl
theorem dX10_work_0 : decode cX10_work 0 = .ok (.aload_n 0, 1) := dk_42 (dk_at dksX10_work_0 0 rfl rfl)
theorem dX10_work_1 : decode cX10_work 1 = .ok (.getfield 3, 3) := dk_180 0 3 (dk_at dksX10_work_0 1 rfl rfl)
theorem dX10_work_4 : decode cX10_work 4 = .ok (.getfield 15, 3) := dk_180 0 15 (dk_at dksX10_work_0 4 rfl rfl)
theorem dX10_work_7 : decode cX10_work 7 = .ok (.aload_n 1, 1) := dk_43 (dk_at dksX10_work_0 7 rfl rfl)
theorem dX10_work_8 : decode cX10_work 8 = .ok (.getfield 19, 3) := dk_180 0 19 (dk_at dksX10_work_0 8 rfl rfl)
theorem dX10_work_11 : decode cX10_work 11 = .ok (.invokevirtual 25, 3) := dk_182 0 25 (dk_at dksX10_work_0 11 rfl rfl)
theorem dX10_work_14 : decode cX10_work 14 = .ok (.astore_n 3, 1) := dk_78 (dk_at dksX10_work_0 14 rfl rfl)
theorem dX10_work_15 : decode cX10_work 15 = .ok (.aload_n 0, 1) := dk_42 (dk_at dksX10_work_0 15 rfl rfl)
theorem dX10_work_16 : decode cX10_work 16 = .ok (.getfield 3, 3) := dk_180 0 3 (dk_at dksX10_work_0 16 rfl rfl)
theorem dX10_work_19 : decode cX10_work 19 = .ok (.getfield 15, 3) := dk_180 0 15 (dk_at dksX10_work_0 19 rfl rfl)
theorem dX10_work_22 : decode cX10_work 22 = .ok (.aload_n 1, 1) := dk_43 (dk_at dksX10_work_0 22 rfl rfl)
theorem dX10_work_23 : decode cX10_work 23 = .ok (.getfield 31, 3) := dk_180 0 31 (dk_at dksX10_work_1 0 rfl rfl)
theorem dX10_work_26 : decode cX10_work 26 = .ok (.invokevirtual 25, 3) := dk_182 0 25 (dk_at dksX10_work_1 3 rfl rfl)
theorem dX10_work_29 : decode cX10_work 29 = .ok (.astore 4, 2) := dk_58 4 (dk_at dksX10_work_1 6 rfl rfl)
theorem dX10_work_31 : decode cX10_work 31 = .ok (.aload_n 3, 1) := dk_45 (dk_at dksX10_work_1 8 rfl rfl)
theorem dX10_work_32 : decode cX10_work 32 = .ok (.invokestatic 34, 3) := dk_184 0 34 (dk_at dksX10_work_1 9 rfl rfl)
theorem dX10_work_35 : decode cX10_work 35 = .ok (.aload 4, 2) := dk_25 4 (dk_at dksX10_work_1 12 rfl rfl)
theorem dX10_work_37 : decode cX10_work 37 = .ok (.invokestatic 34, 3) := dk_184 0 34 (dk_at dksX10_work_1 14 rfl rfl)
theorem dX10_work_40 : decode cX10_work 40 = .ok (.if_icmp .ne 19, 3) := dk_160 0 19 (dk_at dksX10_work_1 17 rfl rfl)
theorem dX10_work_43 : decode cX10_work 43 = .ok (.aload_n 3, 1) := dk_45 (dk_at dksX10_work_1 20 rfl rfl)
theorem dX10_work_44 : decode cX10_work 44 = .ok (.invokestatic 38, 3) := dk_184 0 38 (dk_at dksX10_work_1 21 rfl rfl)
theorem dX10_work_47 : decode cX10_work 47 = .ok (.aload 4, 2) := dk_25 4 (dk_at dksX10_work_2 0 rfl rfl)
theorem dX10_work_49 : decode cX10_work 49 = .ok (.invokestatic 38, 3) := dk_184 0 38 (dk_at dksX10_work_2 2 rfl rfl)
theorem dX10_work_52 : decode cX10_work 52 = .ok (.if_icmp .ne 7, 3) := dk_160 0 7 (dk_at dksX10_work_2 5 rfl rfl)
theorem dX10_work_55 : decode cX10_work 55 = .ok (.iconst 1, 1) := dk_4 (dk_at dksX10_work_2 8 rfl rfl)
theorem dX10_work_56 : decode cX10_work 56 = .ok (.goto 4, 3) := dk_167 0 4 (dk_at dksX10_work_2 9 rfl rfl)
theorem dX10_work_59 : decode cX10_work 59 = .ok (.iconst 0, 1) := dk_3 (dk_at dksX10_work_2 12 rfl rfl)
theorem dX10_work_60 : decode cX10_work 60 = .ok (.istore 5, 2) := dk_54 5 (dk_at dksX10_work_2 13 rfl rfl)
theorem dX10_work_62 : decode cX10_work 62 = .ok (.iconst 0, 1) := dk_3 (dk_at dksX10_work_2 15 rfl rfl)
theorem dX10_work_63 : decode cX10_work 63 = .ok (.istore 6, 2) := dk_54 6 (dk_at dksX10_work_2 16 rfl rfl)
theorem dX10_work_65 : decode cX10_work 65 = .ok (.iload 5, 2) := dk_21 5 (dk_at dksX10_work_2 18 rfl rfl)
theorem dX10_work_67 : decode cX10_work 67 = .ok (.ifCond .eq 28, 3) := dk_153 0 28 (dk_at dksX10_work_2 20 rfl rfl)
theorem dX10_work_70 : decode cX10_work 70 = .ok (.iload 6, 2) := dk_21 6 (dk_at dksX10_work_3 0 rfl rfl)
theorem dX10_work_72 : decode cX10_work 72 = .ok (.aload_n 3, 1) := dk_45 (dk_at dksX10_work_3 2 rfl rfl)
theorem dX10_work_73 : decode cX10_work 73 = .ok (.invokestatic 38, 3) := dk_184 0 38 (dk_at dksX10_work_3 3 rfl rfl)
theorem dX10_work_76 : decode cX10_work 76 = .ok (.if_icmp .ge 19, 3) := dk_162 0 19 (dk_at dksX10_work_3 6 rfl rfl)
theorem dX10_work_79 : decode cX10_work 79 = .ok (.aload_n 3, 1) := dk_45 (dk_at dksX10_work_3 9 rfl rfl)
theorem dX10_work_80 : decode cX10_work 80 = .ok (.aload 4, 2) := dk_25 4 (dk_at dksX10_work_3 10 rfl rfl)
theorem dX10_work_82 : decode cX10_work 82 = .ok (.iload 6, 2) := dk_21 6 (dk_at dksX10_work_3 12 rfl rfl)
theorem dX10_work_84 : decode cX10_work 84 = .ok (.invokestatic 41, 3) := dk_184 0 41 (dk_at dksX10_work_3 14 rfl rfl)
theorem dX10_work_87 : decode cX10_work 87 = .ok (.istore 5, 2) := dk_54 5 (dk_at dksX10_work_3 17 rfl rfl)
theorem dX10_work_89 : decode cX10_work 89 = .ok (.iinc 6 1, 3) := dk_132 6 1 (dk_at dksX10_work_3 19 rfl rfl)
theorem dX10_work_92 : decode cX10_work 92 = .ok (.goto (-27), 3) := dk_167 255 229 (dk_at dksX10_work_4 0 rfl rfl)
theorem dX10_work_95 : decode cX10_work 95 = .ok (.iload 5, 2) := dk_21 5 (dk_at dksX10_work_4 3 rfl rfl)
theorem dX10_work_97 : decode cX10_work 97 = .ok (.ifCond .eq 7, 3) := dk_153 0 7 (dk_at dksX10_work_4 5 rfl rfl)
theorem dX10_work_100 : decode cX10_work 100 = .ok (.lconst 1, 1) := dk_10 (dk_at dksX10_work_4 8 rfl rfl)
theorem dX10_work_101 : decode cX10_work 101 = .ok (.goto 4, 3) := dk_167 0 4 (dk_at dksX10_work_4 9 rfl rfl)
theorem dX10_work_104 : decode cX10_work 104 = .ok (.lconst 0, 1) := dk_9 (dk_at dksX10_work_4 12 rfl rfl)
theorem dX10_work_105 : decode cX10_work 105 = .ok (.lreturn, 1) := dk_173 (dk_at dksX10_work_4 13 rfl rfl)
theorem q62 : (Jvm.Cond.initialized "NativeSubset$Equal") ∈ lw_all := lw_g (lw_at lw_m1 13 rfl) rfl
theorem q221 : (Jvm.Cond.instantiable "NativeSubset$Equal" (7 : Nat)) ∈ lw_all := lw_g (lw_at lw_m1 172 rfl) rfl
theorem q223 : (Jvm.Cond.instanceMethod ({ cls := "NativeSubset$Equal", name := "<init>", desc := "(LNativeSubset;)V" } : Jvm.MethodName)) ∈ lw_all := lw_g (lw_at lw_m1 174 rfl) rfl
theorem q224 : (Jvm.Cond.code ({ cls := "NativeSubset$Equal", name := "<init>", desc := "(LNativeSubset;)V" } : Jvm.MethodName) prog_10_method_1_code (2 : Nat) (Option.none : Option Jvm.ClassFile.FieldType)) ∈ lw_all := lw_g (lw_at lw_m1 175 rfl) rfl
theorem q225 : (Jvm.Cond.methodLink "NativeSubset$Equal" (9 : Nat) ({ cls := "NativeSubset$Comparing", name := "<init>", desc := "(LNativeSubset;II)V" } : Jvm.MethodName)) ∈ lw_all := lw_g (lw_at lw_m1 176 rfl) rfl
theorem q229 : (Jvm.Cond.fieldLink "NativeSubset$Equal" (3 : Nat) "NativeSubset$Equal" "this$0" "LNativeSubset;") ∈ lw_all := lw_g (lw_at lw_m1 180 rfl) rfl
theorem q231 : (Jvm.Cond.laysFinal "NativeSubset$Equal" "NativeSubset$Equal" "this$0" "LNativeSubset;") ∈ lw_all := lw_g (lw_at lw_m1 182 rfl) rfl
theorem q232 : (Jvm.Cond.soleField "NativeSubset$Equal" "this$0") ∈ lw_all := lw_g (lw_at lw_m1 183 rfl) rfl
theorem q233 : (Jvm.Cond.laysFinal "NativeSubset$Equal" "NativeSubset$Comparing" "this$0" "LNativeSubset;") ∈ lw_all := lw_g (lw_at lw_m1 184 rfl) rfl
theorem q235 : (Jvm.Cond.laysFinal "NativeSubset$Equal" "NativeSubset$Asking" "first" "I") ∈ lw_all := lw_g (lw_at lw_m1 186 rfl) rfl
theorem q236 : (Jvm.Cond.laysFinal "NativeSubset$Equal" "NativeSubset$Asking" "last" "I") ∈ lw_all := lw_g (lw_at lw_m1 187 rfl) rfl
theorem q237 : (Jvm.Cond.laysFinal "NativeSubset$Equal" "NativeSubset$Asking" "this$0" "LNativeSubset;") ∈ lw_all := lw_g (lw_at lw_m1 188 rfl) rfl
theorem q238 : (Jvm.Cond.laysFinal "NativeSubset$Equal" "NativeSubset$Helper" "base" "I") ∈ lw_all := lw_g (lw_at lw_m1 189 rfl) rfl
theorem q239 : (Jvm.Cond.laysFinal "NativeSubset$Equal" "NativeSubset$Helper" "this$0" "LNativeSubset;") ∈ lw_all := lw_g (lw_at lw_m1 190 rfl) rfl
theorem q240 : (Jvm.Cond.superclass "NativeSubset$Equal" "NativeSubset$Comparing") ∈ lw_all := lw_g (lw_at lw_m1 191 rfl) rfl
theorem q377 : (Jvm.Cond.fieldLinkNest "NativeSubset$Equal" (15 : Nat) "NativeSubset" "rows" "Ljava/util/ArrayList;" "NativeSubset") ∈ lw_tbl := lw_at lw_m2 88 rfl
theorem q499 : (Jvm.Cond.selects "NativeSubset$Equal" ({ cls := "java/lang/Object", name := "getClass", desc := "()Ljava/lang/Class;" } : Jvm.MethodName) ({ cls := "java/lang/Object", name := "getClass", desc := "()Ljava/lang/Class;" } : Jvm.MethodName)) ∈ lw_all := lw_g (lw_at lw_m2 210 rfl) rfl
theorem q694 : (Jvm.Cond.fieldLinkNest "NativeSubset$Equal" (19 : Nat) "NativeSubset$Act" "a" "I" "NativeSubset") ∈ lw_tbl := lw_at lw_m3 165 rfl
theorem q714 : (Jvm.Cond.fieldLinkNest "NativeSubset$Equal" (31 : Nat) "NativeSubset$Act" "b" "I" "NativeSubset") ∈ lw_tbl := lw_at lw_m3 185 rfl
theorem q762 : (Jvm.Cond.selects "NativeSubset$Equal" ({ cls := "NativeSubset$Helper", name := "hasOther", desc := "()Z" } : Jvm.MethodName) ({ cls := "NativeSubset$Comparing", name := "hasOther", desc := "()Z" } : Jvm.MethodName)) ∈ lw_all := lw_g (lw_at lw_m3 233 rfl) rfl
theorem q791 : (Jvm.Cond.selects "NativeSubset$Equal" ({ cls := "NativeSubset$Helper", name := "many", desc := "(LNativeSubset$Act;)I" } : Jvm.MethodName) ({ cls := "NativeSubset$Comparing", name := "many", desc := "(LNativeSubset$Act;)I" } : Jvm.MethodName)) ∈ lw_all := lw_g (lw_at lw_m4 22 rfl) rfl
theorem q841 : (Jvm.Cond.castable "NativeSubset$Equal" "NativeSubset$Priced") ∈ lw_tbl := lw_at lw_m4 72 rfl
theorem q842 : (Jvm.Cond.selects "NativeSubset$Equal" ({ cls := "NativeSubset$Priced", name := "base", desc := "()I" } : Jvm.MethodName) ({ cls := "NativeSubset$Helper", name := "base", desc := "()I" } : Jvm.MethodName)) ∈ lw_all := lw_g (lw_at lw_m4 73 rfl) rfl
theorem q843 : (Jvm.Cond.unhidden "NativeSubset$Equal" "base" "()I") ∈ lw_tbl := lw_at lw_m4 74 rfl
theorem q886 : (Jvm.Cond.selects "NativeSubset$Equal" ({ cls := "NativeSubset$Priced", name := "length", desc := "(I)I" } : Jvm.MethodName) ({ cls := "NativeSubset$Helper", name := "length", desc := "(I)I" } : Jvm.MethodName)) ∈ lw_all := lw_g (lw_at lw_m4 117 rfl) rfl
theorem q887 : (Jvm.Cond.unhidden "NativeSubset$Equal" "length" "(I)I") ∈ lw_tbl := lw_at lw_m4 118 rfl
theorem q916 : (Jvm.Cond.unhidden "NativeSubset$Equal" "price" "(II)I") ∈ lw_tbl := lw_at lw_m4 147 rfl
theorem q1164 : (Jvm.Cond.selects "NativeSubset$Equal" ({ cls := "NativeSubset$Helper", name := "work", desc := "(LNativeSubset$Act;LNativeSubset$Call;)J" } : Jvm.MethodName) ({ cls := "NativeSubset$Equal", name := "work", desc := "(LNativeSubset$Act;LNativeSubset$Call;)J" } : Jvm.MethodName)) ∈ lw_all := lw_g (lw_at lw_m5 155 rfl) rfl
theorem q1165 : (Jvm.Cond.instanceMethod ({ cls := "NativeSubset$Equal", name := "work", desc := "(LNativeSubset$Act;LNativeSubset$Call;)J" } : Jvm.MethodName)) ∈ lw_all := lw_g (lw_at lw_m5 156 rfl) rfl
theorem q1166 : (Jvm.Cond.code ({ cls := "NativeSubset$Equal", name := "work", desc := "(LNativeSubset$Act;LNativeSubset$Call;)J" } : Jvm.MethodName) prog_10_method_2_code (7 : Nat) (Option.some Jvm.ClassFile.FieldType.long)) ∈ lw_all := lw_g (lw_at lw_m5 157 rfl) rfl
theorem q1167 : (Jvm.Cond.methodLink "NativeSubset$Equal" (25 : Nat) ({ cls := "java/util/ArrayList", name := "get", desc := "(I)Ljava/lang/Object;" } : Jvm.MethodName)) ∈ lw_all := lw_g (lw_at lw_m5 158 rfl) rfl
theorem q1168 : (Jvm.Cond.methodLinkNest "NativeSubset$Equal" (34 : Nat) ({ cls := "NativeSubset", name := "kindOf", desc := "(Ljava/lang/Object;)I" } : Jvm.MethodName) "NativeSubset") ∈ lw_tbl := lw_at lw_m5 159 rfl
theorem q1169 : (Jvm.Cond.methodLinkNest "NativeSubset$Equal" (38 : Nat) ({ cls := "NativeSubset", name := "sizeOf", desc := "(Ljava/lang/Object;)I" } : Jvm.MethodName) "NativeSubset") ∈ lw_tbl := lw_at lw_m5 160 rfl
theorem q1170 : (Jvm.Cond.methodLinkNest "NativeSubset$Equal" (41 : Nat) ({ cls := "NativeSubset", name := "isEqual", desc := "(Ljava/lang/Object;Ljava/lang/Object;I)Z" } : Jvm.MethodName) "NativeSubset") ∈ lw_tbl := lw_at lw_m5 161 rfl
theorem q1844 : (Jvm.Cond.castable "NativeSubset$Equal" "java/lang/Object") ∈ lw_tbl := lw_at lw_m8 115 rfl
theorem q1868 : (Jvm.Cond.castable "NativeSubset$Equal" "NativeSubset$Helper") ∈ lw_tbl := lw_at lw_m8 139 rfl
theorem in_X10 : ∀ w ∈ wsX100, w ∈ lw_all := lw_in wsX100 [238, 239, 235, 236, 237, 233, 231] (by decide +kernel) (by decide +kernel)
/-! NativeSubset$Order -/
def RX11 : String := "NativeSubset$Order"
def TX11 : u_T := fun k => match k with
  | 0 => ("NativeSubset$Helper", "base", "I", true)
  | 1 => ("NativeSubset$Helper", "this$0", "LNativeSubset;", true)
  | 2 => ("NativeSubset$Asking", "first", "I", true)
  | 3 => ("NativeSubset$Asking", "last", "I", true)
  | 4 => ("NativeSubset$Asking", "this$0", "LNativeSubset;", true)
  | 5 => ("NativeSubset$Comparing", "this$0", "LNativeSubset;", true)
  | _ => ("NativeSubset$Order", "this$0", "LNativeSubset;", true)
def tyX11 : Nat → FieldType := fun k => match k with
  | 0 => .int
  | 1 => .object "NativeSubset"
  | 2 => .int
  | 3 => .int
  | 4 => .object "NativeSubset"
  | 5 => .object "NativeSubset"
  | _ => .object "NativeSubset"
abbrev wsX110 : List Cond := u_ws RX11 TX11 7
-- two fields of one name: no nmX11
theorem tyX11_ok : ∀ k, k < 7 → parseFieldDescriptor (TX11 k).2.2.1 = some (tyX11 k) := by decide +kernel
abbrev cX11_init : ByteArray := prog_19_method_1_code
def yX11_init : MethodName := ⟨RX11, "<init>", "(LNativeSubset;)V"⟩
def dkwX11_init_0 : List UInt8 := [42, 43, 181, 0, 3, 42, 43, 4, 16, 7, 183, 0, 9, 177]
abbrev dktX11_init_0 : List UInt8 := dkwX11_init_0 ++ []
theorem dksX11_init_0 : cX11_init.data.toList.drop 0 = dktX11_init_0 := by decide +kernel
theorem dX11_init_0 : decode cX11_init 0 = .ok (.aload_n 0, 1) := dk_42 (dk_at dksX11_init_0 0 rfl rfl)
theorem dX11_init_1 : decode cX11_init 1 = .ok (.aload_n 1, 1) := dk_43 (dk_at dksX11_init_0 1 rfl rfl)
theorem dX11_init_2 : decode cX11_init 2 = .ok (.putfield 3, 3) := dk_181 0 3 (dk_at dksX11_init_0 2 rfl rfl)
theorem dX11_init_5 : decode cX11_init 5 = .ok (.aload_n 0, 1) := dk_42 (dk_at dksX11_init_0 5 rfl rfl)
theorem dX11_init_6 : decode cX11_init 6 = .ok (.aload_n 1, 1) := dk_43 (dk_at dksX11_init_0 6 rfl rfl)
theorem dX11_init_7 : decode cX11_init 7 = .ok (.iconst 1, 1) := dk_4 (dk_at dksX11_init_0 7 rfl rfl)
theorem dX11_init_8 : decode cX11_init 8 = .ok (.bipush 7, 2) := dk_16 7 (dk_at dksX11_init_0 8 rfl rfl)
theorem dX11_init_10 : decode cX11_init 10 = .ok (.invokespecial 9, 3) := dk_183 0 9 (dk_at dksX11_init_0 10 rfl rfl)
theorem dX11_init_13 : decode cX11_init 13 = .ok (.return_, 1) := dk_177 (dk_at dksX11_init_0 13 rfl rfl)
abbrev cX11_work : ByteArray := prog_19_method_2_code
def yX11_work : MethodName := ⟨RX11, "work", "(LNativeSubset$Act;LNativeSubset$Call;)J"⟩
def dkwX11_work_6 : List UInt8 := [21, 5, 21, 6, 164, 0, 7, 10, 167, 0, 4, 9, 173]
abbrev dktX11_work_6 : List UInt8 := dkwX11_work_6 ++ []
def dkwX11_work_5 : List UInt8 := [167, 0, 4, 10, 173, 132, 7, 1, 167, 255, 192, 21, 5, 21, 6, 162, 0, 9, 20, 0, 50, 167, 0, 15]
abbrev dktX11_work_5 : List UInt8 := dkwX11_work_5 ++ dktX11_work_6
def dkwX11_work_4 : List UInt8 := [184, 0, 46, 153, 0, 24, 45, 21, 7, 25, 4, 21, 7, 184, 0, 46, 153, 0, 9, 20, 0, 50]
abbrev dktX11_work_4 : List UInt8 := dkwX11_work_4 ++ dktX11_work_5
def dkwX11_work_3 : List UInt8 := [162, 0, 56, 45, 21, 7, 25, 4, 21, 7, 184, 0, 46, 154, 0, 16, 25, 4, 21, 7, 45, 21, 7]
abbrev dktX11_work_3 : List UInt8 := dkwX11_work_3 ++ dktX11_work_4
def dkwX11_work_2 : List UInt8 := [54, 5, 25, 4, 184, 0, 43, 54, 6, 3, 54, 7, 21, 7, 21, 5, 162, 0, 63, 21, 7, 21, 6]
abbrev dktX11_work_2 : List UInt8 := dkwX11_work_2 ++ dktX11_work_3
def dkwX11_work_1 : List UInt8 := [184, 0, 35, 25, 4, 184, 0, 35, 159, 0, 12, 42, 180, 0, 3, 7, 182, 0, 39, 191, 45, 184, 0, 43]
abbrev dktX11_work_1 : List UInt8 := dkwX11_work_1 ++ dktX11_work_2
def dkwX11_work_0 : List UInt8 := [42, 43, 182, 0, 15, 78, 42, 180, 0, 3, 180, 0, 19, 43, 180, 0, 23, 182, 0, 29, 58, 4, 45]
abbrev dktX11_work_0 : List UInt8 := dkwX11_work_0 ++ dktX11_work_1
theorem dksX11_work_0 : cX11_work.data.toList.drop 0 = dktX11_work_0 := by decide +kernel
theorem dksX11_work_1 : cX11_work.data.toList.drop 23 = dktX11_work_1 := dk_seg dksX11_work_0 23 rfl rfl
theorem dksX11_work_2 : cX11_work.data.toList.drop 47 = dktX11_work_2 := dk_seg dksX11_work_1 24 rfl rfl
theorem dksX11_work_3 : cX11_work.data.toList.drop 70 = dktX11_work_3 := dk_seg dksX11_work_2 23 rfl rfl
theorem dksX11_work_4 : cX11_work.data.toList.drop 93 = dktX11_work_4 := dk_seg dksX11_work_3 23 rfl rfl
theorem dksX11_work_5 : cX11_work.data.toList.drop 115 = dktX11_work_5 := dk_seg dksX11_work_4 22 rfl rfl
theorem dksX11_work_6 : cX11_work.data.toList.drop 139 = dktX11_work_6 := dk_seg dksX11_work_5 24 rfl rfl
theorem dX11_work_0 : decode cX11_work 0 = .ok (.aload_n 0, 1) := dk_42 (dk_at dksX11_work_0 0 rfl rfl)
theorem dX11_work_1 : decode cX11_work 1 = .ok (.aload_n 1, 1) := dk_43 (dk_at dksX11_work_0 1 rfl rfl)
theorem dX11_work_2 : decode cX11_work 2 = .ok (.invokevirtual 15, 3) := dk_182 0 15 (dk_at dksX11_work_0 2 rfl rfl)
theorem dX11_work_5 : decode cX11_work 5 = .ok (.astore_n 3, 1) := dk_78 (dk_at dksX11_work_0 5 rfl rfl)
theorem dX11_work_6 : decode cX11_work 6 = .ok (.aload_n 0, 1) := dk_42 (dk_at dksX11_work_0 6 rfl rfl)
theorem dX11_work_7 : decode cX11_work 7 = .ok (.getfield 3, 3) := dk_180 0 3 (dk_at dksX11_work_0 7 rfl rfl)
theorem dX11_work_10 : decode cX11_work 10 = .ok (.getfield 19, 3) := dk_180 0 19 (dk_at dksX11_work_0 10 rfl rfl)
theorem dX11_work_13 : decode cX11_work 13 = .ok (.aload_n 1, 1) := dk_43 (dk_at dksX11_work_0 13 rfl rfl)
theorem dX11_work_14 : decode cX11_work 14 = .ok (.getfield 23, 3) := dk_180 0 23 (dk_at dksX11_work_0 14 rfl rfl)
theorem dX11_work_17 : decode cX11_work 17 = .ok (.invokevirtual 29, 3) := dk_182 0 29 (dk_at dksX11_work_0 17 rfl rfl)
theorem dX11_work_20 : decode cX11_work 20 = .ok (.astore 4, 2) := dk_58 4 (dk_at dksX11_work_0 20 rfl rfl)
theorem dX11_work_22 : decode cX11_work 22 = .ok (.aload_n 3, 1) := dk_45 (dk_at dksX11_work_0 22 rfl rfl)
theorem dX11_work_23 : decode cX11_work 23 = .ok (.invokestatic 35, 3) := dk_184 0 35 (dk_at dksX11_work_1 0 rfl rfl)
theorem dX11_work_26 : decode cX11_work 26 = .ok (.aload 4, 2) := dk_25 4 (dk_at dksX11_work_1 3 rfl rfl)
theorem dX11_work_28 : decode cX11_work 28 = .ok (.invokestatic 35, 3) := dk_184 0 35 (dk_at dksX11_work_1 5 rfl rfl)
theorem dX11_work_31 : decode cX11_work 31 = .ok (.if_icmp .eq 12, 3) := dk_159 0 12 (dk_at dksX11_work_1 8 rfl rfl)
theorem dX11_work_34 : decode cX11_work 34 = .ok (.aload_n 0, 1) := dk_42 (dk_at dksX11_work_1 11 rfl rfl)
theorem dX11_work_35 : decode cX11_work 35 = .ok (.getfield 3, 3) := dk_180 0 3 (dk_at dksX11_work_1 12 rfl rfl)
theorem dX11_work_38 : decode cX11_work 38 = .ok (.iconst 4, 1) := dk_7 (dk_at dksX11_work_1 15 rfl rfl)
theorem dX11_work_39 : decode cX11_work 39 = .ok (.invokevirtual 39, 3) := dk_182 0 39 (dk_at dksX11_work_1 16 rfl rfl)
theorem dX11_work_42 : decode cX11_work 42 = .ok (.athrow, 1) := dk_191 (dk_at dksX11_work_1 19 rfl rfl)
theorem dX11_work_43 : decode cX11_work 43 = .ok (.aload_n 3, 1) := dk_45 (dk_at dksX11_work_1 20 rfl rfl)
theorem dX11_work_44 : decode cX11_work 44 = .ok (.invokestatic 43, 3) := dk_184 0 43 (dk_at dksX11_work_1 21 rfl rfl)
theorem dX11_work_47 : decode cX11_work 47 = .ok (.istore 5, 2) := dk_54 5 (dk_at dksX11_work_2 0 rfl rfl)
theorem dX11_work_49 : decode cX11_work 49 = .ok (.aload 4, 2) := dk_25 4 (dk_at dksX11_work_2 2 rfl rfl)
theorem dX11_work_51 : decode cX11_work 51 = .ok (.invokestatic 43, 3) := dk_184 0 43 (dk_at dksX11_work_2 4 rfl rfl)
theorem dX11_work_54 : decode cX11_work 54 = .ok (.istore 6, 2) := dk_54 6 (dk_at dksX11_work_2 7 rfl rfl)
theorem dX11_work_56 : decode cX11_work 56 = .ok (.iconst 0, 1) := dk_3 (dk_at dksX11_work_2 9 rfl rfl)
theorem dX11_work_57 : decode cX11_work 57 = .ok (.istore 7, 2) := dk_54 7 (dk_at dksX11_work_2 10 rfl rfl)
theorem dX11_work_59 : decode cX11_work 59 = .ok (.iload 7, 2) := dk_21 7 (dk_at dksX11_work_2 12 rfl rfl)
theorem dX11_work_61 : decode cX11_work 61 = .ok (.iload 5, 2) := dk_21 5 (dk_at dksX11_work_2 14 rfl rfl)
theorem dX11_work_63 : decode cX11_work 63 = .ok (.if_icmp .ge 63, 3) := dk_162 0 63 (dk_at dksX11_work_2 16 rfl rfl)
theorem dX11_work_66 : decode cX11_work 66 = .ok (.iload 7, 2) := dk_21 7 (dk_at dksX11_work_2 19 rfl rfl)
theorem dX11_work_68 : decode cX11_work 68 = .ok (.iload 6, 2) := dk_21 6 (dk_at dksX11_work_2 21 rfl rfl)
theorem dX11_work_70 : decode cX11_work 70 = .ok (.if_icmp .ge 56, 3) := dk_162 0 56 (dk_at dksX11_work_3 0 rfl rfl)
theorem dX11_work_73 : decode cX11_work 73 = .ok (.aload_n 3, 1) := dk_45 (dk_at dksX11_work_3 3 rfl rfl)
theorem dX11_work_74 : decode cX11_work 74 = .ok (.iload 7, 2) := dk_21 7 (dk_at dksX11_work_3 4 rfl rfl)
theorem dX11_work_76 : decode cX11_work 76 = .ok (.aload 4, 2) := dk_25 4 (dk_at dksX11_work_3 6 rfl rfl)
theorem dX11_work_78 : decode cX11_work 78 = .ok (.iload 7, 2) := dk_21 7 (dk_at dksX11_work_3 8 rfl rfl)
theorem dX11_work_80 : decode cX11_work 80 = .ok (.invokestatic 46, 3) := dk_184 0 46 (dk_at dksX11_work_3 10 rfl rfl)
theorem dX11_work_83 : decode cX11_work 83 = .ok (.ifCond .ne 16, 3) := dk_154 0 16 (dk_at dksX11_work_3 13 rfl rfl)
theorem dX11_work_86 : decode cX11_work 86 = .ok (.aload 4, 2) := dk_25 4 (dk_at dksX11_work_3 16 rfl rfl)
theorem dX11_work_88 : decode cX11_work 88 = .ok (.iload 7, 2) := dk_21 7 (dk_at dksX11_work_3 18 rfl rfl)
theorem dX11_work_90 : decode cX11_work 90 = .ok (.aload_n 3, 1) := dk_45 (dk_at dksX11_work_3 20 rfl rfl)
theorem dX11_work_91 : decode cX11_work 91 = .ok (.iload 7, 2) := dk_21 7 (dk_at dksX11_work_3 21 rfl rfl)
theorem dX11_work_93 : decode cX11_work 93 = .ok (.invokestatic 46, 3) := dk_184 0 46 (dk_at dksX11_work_4 0 rfl rfl)
theorem dX11_work_96 : decode cX11_work 96 = .ok (.ifCond .eq 24, 3) := dk_153 0 24 (dk_at dksX11_work_4 3 rfl rfl)
theorem dX11_work_99 : decode cX11_work 99 = .ok (.aload_n 3, 1) := dk_45 (dk_at dksX11_work_4 6 rfl rfl)
theorem dX11_work_100 : decode cX11_work 100 = .ok (.iload 7, 2) := dk_21 7 (dk_at dksX11_work_4 7 rfl rfl)
theorem dX11_work_102 : decode cX11_work 102 = .ok (.aload 4, 2) := dk_25 4 (dk_at dksX11_work_4 9 rfl rfl)
theorem dX11_work_104 : decode cX11_work 104 = .ok (.iload 7, 2) := dk_21 7 (dk_at dksX11_work_4 11 rfl rfl)
theorem dX11_work_106 : decode cX11_work 106 = .ok (.invokestatic 46, 3) := dk_184 0 46 (dk_at dksX11_work_4 13 rfl rfl)
theorem dX11_work_109 : decode cX11_work 109 = .ok (.ifCond .eq 9, 3) := dk_153 0 9 (dk_at dksX11_work_4 16 rfl rfl)
theorem dX11_work_112 : decode cX11_work 112 = .ok (.ldc2_w 50, 3) := dk_20 0 50 (dk_at dksX11_work_4 19 rfl rfl)
theorem dX11_work_115 : decode cX11_work 115 = .ok (.goto 4, 3) := dk_167 0 4 (dk_at dksX11_work_5 0 rfl rfl)
theorem dX11_work_118 : decode cX11_work 118 = .ok (.lconst 1, 1) := dk_10 (dk_at dksX11_work_5 3 rfl rfl)
theorem dX11_work_119 : decode cX11_work 119 = .ok (.lreturn, 1) := dk_173 (dk_at dksX11_work_5 4 rfl rfl)
theorem dX11_work_120 : decode cX11_work 120 = .ok (.iinc 7 1, 3) := dk_132 7 1 (dk_at dksX11_work_5 5 rfl rfl)
theorem dX11_work_123 : decode cX11_work 123 = .ok (.goto (-64), 3) := dk_167 255 192 (dk_at dksX11_work_5 8 rfl rfl)
theorem dX11_work_126 : decode cX11_work 126 = .ok (.iload 5, 2) := dk_21 5 (dk_at dksX11_work_5 11 rfl rfl)
theorem dX11_work_128 : decode cX11_work 128 = .ok (.iload 6, 2) := dk_21 6 (dk_at dksX11_work_5 13 rfl rfl)
theorem dX11_work_130 : decode cX11_work 130 = .ok (.if_icmp .ge 9, 3) := dk_162 0 9 (dk_at dksX11_work_5 15 rfl rfl)
theorem dX11_work_133 : decode cX11_work 133 = .ok (.ldc2_w 50, 3) := dk_20 0 50 (dk_at dksX11_work_5 18 rfl rfl)
theorem dX11_work_136 : decode cX11_work 136 = .ok (.goto 15, 3) := dk_167 0 15 (dk_at dksX11_work_5 21 rfl rfl)
theorem dX11_work_139 : decode cX11_work 139 = .ok (.iload 5, 2) := dk_21 5 (dk_at dksX11_work_6 0 rfl rfl)
theorem dX11_work_141 : decode cX11_work 141 = .ok (.iload 6, 2) := dk_21 6 (dk_at dksX11_work_6 2 rfl rfl)
theorem dX11_work_143 : decode cX11_work 143 = .ok (.if_icmp .le 7, 3) := dk_164 0 7 (dk_at dksX11_work_6 4 rfl rfl)
theorem dX11_work_146 : decode cX11_work 146 = .ok (.lconst 1, 1) := dk_10 (dk_at dksX11_work_6 7 rfl rfl)
theorem dX11_work_147 : decode cX11_work 147 = .ok (.goto 4, 3) := dk_167 0 4 (dk_at dksX11_work_6 8 rfl rfl)
theorem dX11_work_150 : decode cX11_work 150 = .ok (.lconst 0, 1) := dk_9 (dk_at dksX11_work_6 11 rfl rfl)
theorem dX11_work_151 : decode cX11_work 151 = .ok (.lreturn, 1) := dk_173 (dk_at dksX11_work_6 12 rfl rfl)
theorem q63 : (Jvm.Cond.initialized "NativeSubset$Order") ∈ lw_all := lw_g (lw_at lw_m1 14 rfl) rfl
theorem q242 : (Jvm.Cond.instantiable "NativeSubset$Order" (7 : Nat)) ∈ lw_all := lw_g (lw_at lw_m1 193 rfl) rfl
theorem q244 : (Jvm.Cond.instanceMethod ({ cls := "NativeSubset$Order", name := "<init>", desc := "(LNativeSubset;)V" } : Jvm.MethodName)) ∈ lw_all := lw_g (lw_at lw_m1 195 rfl) rfl
theorem q245 : (Jvm.Cond.code ({ cls := "NativeSubset$Order", name := "<init>", desc := "(LNativeSubset;)V" } : Jvm.MethodName) prog_19_method_1_code (2 : Nat) (Option.none : Option Jvm.ClassFile.FieldType)) ∈ lw_all := lw_g (lw_at lw_m1 196 rfl) rfl
theorem q246 : (Jvm.Cond.methodLink "NativeSubset$Order" (9 : Nat) ({ cls := "NativeSubset$Comparing", name := "<init>", desc := "(LNativeSubset;II)V" } : Jvm.MethodName)) ∈ lw_all := lw_g (lw_at lw_m1 197 rfl) rfl
theorem q247 : (Jvm.Cond.fieldLink "NativeSubset$Order" (3 : Nat) "NativeSubset$Order" "this$0" "LNativeSubset;") ∈ lw_all := lw_g (lw_at lw_m1 198 rfl) rfl
theorem q248 : (Jvm.Cond.laysFinal "NativeSubset$Order" "NativeSubset$Order" "this$0" "LNativeSubset;") ∈ lw_all := lw_g (lw_at lw_m1 199 rfl) rfl
theorem q249 : (Jvm.Cond.soleField "NativeSubset$Order" "this$0") ∈ lw_all := lw_g (lw_at lw_m1 200 rfl) rfl
theorem q250 : (Jvm.Cond.laysFinal "NativeSubset$Order" "NativeSubset$Comparing" "this$0" "LNativeSubset;") ∈ lw_all := lw_g (lw_at lw_m1 201 rfl) rfl
theorem q251 : (Jvm.Cond.laysFinal "NativeSubset$Order" "NativeSubset$Asking" "first" "I") ∈ lw_all := lw_g (lw_at lw_m1 202 rfl) rfl
theorem q252 : (Jvm.Cond.laysFinal "NativeSubset$Order" "NativeSubset$Asking" "last" "I") ∈ lw_all := lw_g (lw_at lw_m1 203 rfl) rfl
theorem q253 : (Jvm.Cond.laysFinal "NativeSubset$Order" "NativeSubset$Asking" "this$0" "LNativeSubset;") ∈ lw_all := lw_g (lw_at lw_m1 204 rfl) rfl
theorem q254 : (Jvm.Cond.laysFinal "NativeSubset$Order" "NativeSubset$Helper" "base" "I") ∈ lw_all := lw_g (lw_at lw_m1 205 rfl) rfl
theorem q255 : (Jvm.Cond.laysFinal "NativeSubset$Order" "NativeSubset$Helper" "this$0" "LNativeSubset;") ∈ lw_all := lw_g (lw_at lw_m1 206 rfl) rfl
theorem q256 : (Jvm.Cond.superclass "NativeSubset$Order" "NativeSubset$Comparing") ∈ lw_all := lw_g (lw_at lw_m1 207 rfl) rfl
theorem q380 : (Jvm.Cond.fieldLinkNest "NativeSubset$Order" (19 : Nat) "NativeSubset" "rows" "Ljava/util/ArrayList;" "NativeSubset") ∈ lw_tbl := lw_at lw_m2 91 rfl
theorem q507 : (Jvm.Cond.selects "NativeSubset$Order" ({ cls := "java/lang/Object", name := "getClass", desc := "()Ljava/lang/Class;" } : Jvm.MethodName) ({ cls := "java/lang/Object", name := "getClass", desc := "()Ljava/lang/Class;" } : Jvm.MethodName)) ∈ lw_all := lw_g (lw_at lw_m2 218 rfl) rfl
theorem q713 : (Jvm.Cond.fieldLinkNest "NativeSubset$Order" (23 : Nat) "NativeSubset$Act" "b" "I" "NativeSubset") ∈ lw_tbl := lw_at lw_m3 184 rfl
theorem q770 : (Jvm.Cond.selects "NativeSubset$Order" ({ cls := "NativeSubset$Helper", name := "hasOther", desc := "()Z" } : Jvm.MethodName) ({ cls := "NativeSubset$Comparing", name := "hasOther", desc := "()Z" } : Jvm.MethodName)) ∈ lw_all := lw_g (lw_at lw_m4 1 rfl) rfl
theorem q808 : (Jvm.Cond.selects "NativeSubset$Order" ({ cls := "NativeSubset$Helper", name := "many", desc := "(LNativeSubset$Act;)I" } : Jvm.MethodName) ({ cls := "NativeSubset$Comparing", name := "many", desc := "(LNativeSubset$Act;)I" } : Jvm.MethodName)) ∈ lw_all := lw_g (lw_at lw_m4 39 rfl) rfl
theorem q859 : (Jvm.Cond.castable "NativeSubset$Order" "NativeSubset$Priced") ∈ lw_tbl := lw_at lw_m4 90 rfl
theorem q860 : (Jvm.Cond.selects "NativeSubset$Order" ({ cls := "NativeSubset$Priced", name := "base", desc := "()I" } : Jvm.MethodName) ({ cls := "NativeSubset$Helper", name := "base", desc := "()I" } : Jvm.MethodName)) ∈ lw_all := lw_g (lw_at lw_m4 91 rfl) rfl
theorem q861 : (Jvm.Cond.unhidden "NativeSubset$Order" "base" "()I") ∈ lw_tbl := lw_at lw_m4 92 rfl
theorem q898 : (Jvm.Cond.selects "NativeSubset$Order" ({ cls := "NativeSubset$Priced", name := "length", desc := "(I)I" } : Jvm.MethodName) ({ cls := "NativeSubset$Helper", name := "length", desc := "(I)I" } : Jvm.MethodName)) ∈ lw_all := lw_g (lw_at lw_m4 129 rfl) rfl
theorem q899 : (Jvm.Cond.unhidden "NativeSubset$Order" "length" "(I)I") ∈ lw_tbl := lw_at lw_m4 130 rfl
theorem q922 : (Jvm.Cond.unhidden "NativeSubset$Order" "price" "(II)I") ∈ lw_tbl := lw_at lw_m4 153 rfl
theorem q1301 : (Jvm.Cond.selects "NativeSubset$Order" ({ cls := "NativeSubset$Helper", name := "work", desc := "(LNativeSubset$Act;LNativeSubset$Call;)J" } : Jvm.MethodName) ({ cls := "NativeSubset$Order", name := "work", desc := "(LNativeSubset$Act;LNativeSubset$Call;)J" } : Jvm.MethodName)) ∈ lw_all := lw_g (lw_at lw_m6 52 rfl) rfl
theorem q1302 : (Jvm.Cond.instanceMethod ({ cls := "NativeSubset$Order", name := "work", desc := "(LNativeSubset$Act;LNativeSubset$Call;)J" } : Jvm.MethodName)) ∈ lw_all := lw_g (lw_at lw_m6 53 rfl) rfl
theorem q1303 : (Jvm.Cond.code ({ cls := "NativeSubset$Order", name := "work", desc := "(LNativeSubset$Act;LNativeSubset$Call;)J" } : Jvm.MethodName) prog_19_method_2_code (8 : Nat) (Option.some Jvm.ClassFile.FieldType.long)) ∈ lw_all := lw_g (lw_at lw_m6 54 rfl) rfl
theorem q1304 : (Jvm.Cond.methodLink "NativeSubset$Order" (15 : Nat) ({ cls := "NativeSubset$Order", name := "row", desc := "(LNativeSubset$Act;)Ljava/lang/Object;" } : Jvm.MethodName)) ∈ lw_all := lw_g (lw_at lw_m6 55 rfl) rfl
theorem q1305 : (Jvm.Cond.sameMethod "NativeSubset$Order" "NativeSubset$Asking" "row" "(LNativeSubset$Act;)Ljava/lang/Object;") ∈ lw_all := lw_g (lw_at lw_m6 56 rfl) rfl
theorem q1306 : (Jvm.Cond.selects "NativeSubset$Order" ({ cls := "NativeSubset$Order", name := "row", desc := "(LNativeSubset$Act;)Ljava/lang/Object;" } : Jvm.MethodName) ({ cls := "NativeSubset$Asking", name := "row", desc := "(LNativeSubset$Act;)Ljava/lang/Object;" } : Jvm.MethodName)) ∈ lw_all := lw_g (lw_at lw_m6 57 rfl) rfl
theorem q1307 : (Jvm.Cond.methodLink "NativeSubset$Order" (29 : Nat) ({ cls := "java/util/ArrayList", name := "get", desc := "(I)Ljava/lang/Object;" } : Jvm.MethodName)) ∈ lw_all := lw_g (lw_at lw_m6 58 rfl) rfl
theorem q1308 : (Jvm.Cond.methodLinkNest "NativeSubset$Order" (35 : Nat) ({ cls := "NativeSubset", name := "kindOf", desc := "(Ljava/lang/Object;)I" } : Jvm.MethodName) "NativeSubset") ∈ lw_tbl := lw_at lw_m6 59 rfl
theorem q1309 : (Jvm.Cond.methodLinkNest "NativeSubset$Order" (39 : Nat) ({ cls := "NativeSubset", name := "fail", desc := "(I)LNativeSubset$Failure;" } : Jvm.MethodName) "NativeSubset") ∈ lw_tbl := lw_at lw_m6 60 rfl
theorem q1310 : (Jvm.Cond.methodLinkNest "NativeSubset$Order" (43 : Nat) ({ cls := "NativeSubset", name := "sizeOf", desc := "(Ljava/lang/Object;)I" } : Jvm.MethodName) "NativeSubset") ∈ lw_tbl := lw_at lw_m6 61 rfl
theorem q1311 : (Jvm.Cond.methodLinkNest "NativeSubset$Order" (46 : Nat) ({ cls := "NativeSubset", name := "isBelow", desc := "(Ljava/lang/Object;ILjava/lang/Object;I)Z" } : Jvm.MethodName) "NativeSubset") ∈ lw_tbl := lw_at lw_m6 62 rfl
theorem q1312 : (Jvm.Cond.constantLong "NativeSubset$Order" (50 : Nat) (-1 : Int64)) ∈ lw_all := lw_g (lw_at lw_m6 63 rfl) rfl
theorem q1845 : (Jvm.Cond.castable "NativeSubset$Order" "java/lang/Object") ∈ lw_tbl := lw_at lw_m8 116 rfl
theorem q1869 : (Jvm.Cond.castable "NativeSubset$Order" "NativeSubset$Helper") ∈ lw_tbl := lw_at lw_m8 140 rfl
theorem in_X11 : ∀ w ∈ wsX110, w ∈ lw_all := lw_in wsX110 [254, 255, 251, 252, 253, 250, 248] (by decide +kernel) (by decide +kernel)
/-! NativeSubset$Sum -/
def RX12 : String := "NativeSubset$Sum"
def TX12 : u_T := fun k => match k with
  | 0 => ("NativeSubset$Helper", "base", "I", true)
  | 1 => ("NativeSubset$Helper", "this$0", "LNativeSubset;", true)
  | 2 => ("NativeSubset$Asking", "first", "I", true)
  | 3 => ("NativeSubset$Asking", "last", "I", true)
  | 4 => ("NativeSubset$Asking", "this$0", "LNativeSubset;", true)
  | _ => ("NativeSubset$Sum", "this$0", "LNativeSubset;", true)
def tyX12 : Nat → FieldType := fun k => match k with
  | 0 => .int
  | 1 => .object "NativeSubset"
  | 2 => .int
  | 3 => .int
  | 4 => .object "NativeSubset"
  | _ => .object "NativeSubset"
abbrev wsX120 : List Cond := u_ws RX12 TX12 6
-- two fields of one name: no nmX12
theorem tyX12_ok : ∀ k, k < 6 → parseFieldDescriptor (TX12 k).2.2.1 = some (tyX12 k) := by decide +kernel
abbrev cX12_init : ByteArray := prog_24_method_1_code
def yX12_init : MethodName := ⟨RX12, "<init>", "(LNativeSubset;)V"⟩
def dkwX12_init_0 : List UInt8 := [42, 43, 181, 0, 3, 42, 43, 4, 3, 16, 10, 183, 0, 9, 177]
abbrev dktX12_init_0 : List UInt8 := dkwX12_init_0 ++ []
theorem dksX12_init_0 : cX12_init.data.toList.drop 0 = dktX12_init_0 := by decide +kernel
theorem dX12_init_0 : decode cX12_init 0 = .ok (.aload_n 0, 1) := dk_42 (dk_at dksX12_init_0 0 rfl rfl)
theorem dX12_init_1 : decode cX12_init 1 = .ok (.aload_n 1, 1) := dk_43 (dk_at dksX12_init_0 1 rfl rfl)
theorem dX12_init_2 : decode cX12_init 2 = .ok (.putfield 3, 3) := dk_181 0 3 (dk_at dksX12_init_0 2 rfl rfl)
theorem dX12_init_5 : decode cX12_init 5 = .ok (.aload_n 0, 1) := dk_42 (dk_at dksX12_init_0 5 rfl rfl)
theorem dX12_init_6 : decode cX12_init 6 = .ok (.aload_n 1, 1) := dk_43 (dk_at dksX12_init_0 6 rfl rfl)
theorem dX12_init_7 : decode cX12_init 7 = .ok (.iconst 1, 1) := dk_4 (dk_at dksX12_init_0 7 rfl rfl)
theorem dX12_init_8 : decode cX12_init 8 = .ok (.iconst 0, 1) := dk_3 (dk_at dksX12_init_0 8 rfl rfl)
theorem dX12_init_9 : decode cX12_init 9 = .ok (.bipush 10, 2) := dk_16 10 (dk_at dksX12_init_0 9 rfl rfl)
theorem dX12_init_11 : decode cX12_init 11 = .ok (.invokespecial 9, 3) := dk_183 0 9 (dk_at dksX12_init_0 11 rfl rfl)
theorem dX12_init_14 : decode cX12_init 14 = .ok (.return_, 1) := dk_177 (dk_at dksX12_init_0 14 rfl rfl)
abbrev cX12_work : ByteArray := prog_24_method_2_code
def yX12_work : MethodName := ⟨RX12, "work", "(LNativeSubset$Act;LNativeSubset$Call;)J"⟩
def dkwX12_work_1 : List UInt8 := [193, 0, 27, 153, 0, 14, 42, 45, 192, 0, 27, 182, 0, 29, 167, 0, 8, 42, 45, 182, 0, 33, 173]
abbrev dktX12_work_1 : List UInt8 := dkwX12_work_1 ++ []
def dkwX12_work_0 : List UInt8 := [42, 43, 182, 0, 15, 78, 45, 184, 0, 19, 153, 0, 11, 42, 45, 182, 0, 23, 167, 0, 26, 45]
abbrev dktX12_work_0 : List UInt8 := dkwX12_work_0 ++ dktX12_work_1
theorem dksX12_work_0 : cX12_work.data.toList.drop 0 = dktX12_work_0 := by decide +kernel
theorem dksX12_work_1 : cX12_work.data.toList.drop 22 = dktX12_work_1 := dk_seg dksX12_work_0 22 rfl rfl
theorem dX12_work_0 : decode cX12_work 0 = .ok (.aload_n 0, 1) := dk_42 (dk_at dksX12_work_0 0 rfl rfl)
theorem dX12_work_1 : decode cX12_work 1 = .ok (.aload_n 1, 1) := dk_43 (dk_at dksX12_work_0 1 rfl rfl)
theorem dX12_work_2 : decode cX12_work 2 = .ok (.invokevirtual 15, 3) := dk_182 0 15 (dk_at dksX12_work_0 2 rfl rfl)
theorem dX12_work_5 : decode cX12_work 5 = .ok (.astore_n 3, 1) := dk_78 (dk_at dksX12_work_0 5 rfl rfl)
theorem dX12_work_6 : decode cX12_work 6 = .ok (.aload_n 3, 1) := dk_45 (dk_at dksX12_work_0 6 rfl rfl)
theorem dX12_work_7 : decode cX12_work 7 = .ok (.invokestatic 19, 3) := dk_184 0 19 (dk_at dksX12_work_0 7 rfl rfl)
theorem dX12_work_10 : decode cX12_work 10 = .ok (.ifCond .eq 11, 3) := dk_153 0 11 (dk_at dksX12_work_0 10 rfl rfl)
theorem dX12_work_13 : decode cX12_work 13 = .ok (.aload_n 0, 1) := dk_42 (dk_at dksX12_work_0 13 rfl rfl)
theorem dX12_work_14 : decode cX12_work 14 = .ok (.aload_n 3, 1) := dk_45 (dk_at dksX12_work_0 14 rfl rfl)
theorem dX12_work_15 : decode cX12_work 15 = .ok (.invokevirtual 23, 3) := dk_182 0 23 (dk_at dksX12_work_0 15 rfl rfl)
theorem dX12_work_18 : decode cX12_work 18 = .ok (.goto 26, 3) := dk_167 0 26 (dk_at dksX12_work_0 18 rfl rfl)
theorem dX12_work_21 : decode cX12_work 21 = .ok (.aload_n 3, 1) := dk_45 (dk_at dksX12_work_0 21 rfl rfl)
theorem dX12_work_22 : decode cX12_work 22 = .ok (.instanceof 27, 3) := dk_193 0 27 (dk_at dksX12_work_1 0 rfl rfl)
theorem dX12_work_25 : decode cX12_work 25 = .ok (.ifCond .eq 14, 3) := dk_153 0 14 (dk_at dksX12_work_1 3 rfl rfl)
theorem dX12_work_28 : decode cX12_work 28 = .ok (.aload_n 0, 1) := dk_42 (dk_at dksX12_work_1 6 rfl rfl)
theorem dX12_work_29 : decode cX12_work 29 = .ok (.aload_n 3, 1) := dk_45 (dk_at dksX12_work_1 7 rfl rfl)
theorem dX12_work_30 : decode cX12_work 30 = .ok (.checkcast 27, 3) := dk_192 0 27 (dk_at dksX12_work_1 8 rfl rfl)
theorem dX12_work_33 : decode cX12_work 33 = .ok (.invokevirtual 29, 3) := dk_182 0 29 (dk_at dksX12_work_1 11 rfl rfl)
theorem dX12_work_36 : decode cX12_work 36 = .ok (.goto 8, 3) := dk_167 0 8 (dk_at dksX12_work_1 14 rfl rfl)
theorem dX12_work_39 : decode cX12_work 39 = .ok (.aload_n 0, 1) := dk_42 (dk_at dksX12_work_1 17 rfl rfl)
theorem dX12_work_40 : decode cX12_work 40 = .ok (.aload_n 3, 1) := dk_45 (dk_at dksX12_work_1 18 rfl rfl)
theorem dX12_work_41 : decode cX12_work 41 = .ok (.invokevirtual 33, 3) := dk_182 0 33 (dk_at dksX12_work_1 19 rfl rfl)
theorem dX12_work_44 : decode cX12_work 44 = .ok (.lreturn, 1) := dk_173 (dk_at dksX12_work_1 22 rfl rfl)
abbrev cX12_reals : ByteArray := prog_24_method_3_code
def yX12_reals : MethodName := ⟨RX12, "reals", "(Ljava/lang/Object;)J"⟩
def dkwX12_reals_1 : List UInt8 := [73, 132, 4, 1, 167, 255, 233, 40, 184, 0, 48, 173]
abbrev dktX12_reals_1 : List UInt8 := dkwX12_reals_1 ++ []
def dkwX12_reals_0 : List UInt8 := [14, 73, 3, 54, 4, 21, 4, 43, 184, 0, 36, 162, 0, 20, 40, 43, 21, 4, 184, 0, 40, 184, 0, 44]
abbrev dktX12_reals_0 : List UInt8 := dkwX12_reals_0 ++ dktX12_reals_1
theorem dksX12_reals_0 : cX12_reals.data.toList.drop 0 = dktX12_reals_0 := by decide +kernel
theorem dksX12_reals_1 : cX12_reals.data.toList.drop 24 = dktX12_reals_1 := dk_seg dksX12_reals_0 24 rfl rfl
theorem dX12_reals_0 : decode cX12_reals 0 = .ok (.dconst 0, 1) := dk_14 (dk_at dksX12_reals_0 0 rfl rfl)
theorem dX12_reals_1 : decode cX12_reals 1 = .ok (.dstore_n 2, 1) := dk_73 (dk_at dksX12_reals_0 1 rfl rfl)
theorem dX12_reals_2 : decode cX12_reals 2 = .ok (.iconst 0, 1) := dk_3 (dk_at dksX12_reals_0 2 rfl rfl)
theorem dX12_reals_3 : decode cX12_reals 3 = .ok (.istore 4, 2) := dk_54 4 (dk_at dksX12_reals_0 3 rfl rfl)
theorem dX12_reals_5 : decode cX12_reals 5 = .ok (.iload 4, 2) := dk_21 4 (dk_at dksX12_reals_0 5 rfl rfl)
theorem dX12_reals_7 : decode cX12_reals 7 = .ok (.aload_n 1, 1) := dk_43 (dk_at dksX12_reals_0 7 rfl rfl)
theorem dX12_reals_8 : decode cX12_reals 8 = .ok (.invokestatic 36, 3) := dk_184 0 36 (dk_at dksX12_reals_0 8 rfl rfl)
theorem dX12_reals_11 : decode cX12_reals 11 = .ok (.if_icmp .ge 20, 3) := dk_162 0 20 (dk_at dksX12_reals_0 11 rfl rfl)
theorem dX12_reals_14 : decode cX12_reals 14 = .ok (.dload_n 2, 1) := dk_40 (dk_at dksX12_reals_0 14 rfl rfl)
theorem dX12_reals_15 : decode cX12_reals 15 = .ok (.aload_n 1, 1) := dk_43 (dk_at dksX12_reals_0 15 rfl rfl)
theorem dX12_reals_16 : decode cX12_reals 16 = .ok (.iload 4, 2) := dk_21 4 (dk_at dksX12_reals_0 16 rfl rfl)
theorem dX12_reals_18 : decode cX12_reals 18 = .ok (.invokestatic 40, 3) := dk_184 0 40 (dk_at dksX12_reals_0 18 rfl rfl)
theorem dX12_reals_21 : decode cX12_reals 21 = .ok (.invokestatic 44, 3) := dk_184 0 44 (dk_at dksX12_reals_0 21 rfl rfl)
theorem dX12_reals_24 : decode cX12_reals 24 = .ok (.dstore_n 2, 1) := dk_73 (dk_at dksX12_reals_1 0 rfl rfl)
theorem dX12_reals_25 : decode cX12_reals 25 = .ok (.iinc 4 1, 3) := dk_132 4 1 (dk_at dksX12_reals_1 1 rfl rfl)
theorem dX12_reals_28 : decode cX12_reals 28 = .ok (.goto (-23), 3) := dk_167 255 233 (dk_at dksX12_reals_1 4 rfl rfl)
theorem dX12_reals_31 : decode cX12_reals 31 = .ok (.dload_n 2, 1) := dk_40 (dk_at dksX12_reals_1 7 rfl rfl)
theorem dX12_reals_32 : decode cX12_reals 32 = .ok (.invokestatic 48, 3) := dk_184 0 48 (dk_at dksX12_reals_1 8 rfl rfl)
theorem dX12_reals_35 : decode cX12_reals 35 = .ok (.lreturn, 1) := dk_173 (dk_at dksX12_reals_1 11 rfl rfl)
abbrev cX12_worths : ByteArray := prog_24_method_4_code
def yX12_worths : MethodName := ⟨RX12, "worths", "([LNativeSubset$Unit;)J"⟩
def dkwX12_worths_2 : List UInt8 := [167, 255, 221, 32, 173]
abbrev dktX12_worths_2 : List UInt8 := dkwX12_worths_2 ++ []
def dkwX12_worths_1 : List UInt8 := [50, 58, 7, 32, 25, 7, 199, 0, 7, 9, 167, 0, 9, 25, 7, 182, 0, 52, 133, 97, 65, 132, 6, 1]
abbrev dktX12_worths_1 : List UInt8 := dkwX12_worths_1 ++ dktX12_worths_2
def dkwX12_worths_0 : List UInt8 := [9, 65, 43, 58, 4, 25, 4, 190, 54, 5, 3, 54, 6, 21, 6, 21, 5, 162, 0, 34, 25, 4, 21, 6]
abbrev dktX12_worths_0 : List UInt8 := dkwX12_worths_0 ++ dktX12_worths_1
theorem dksX12_worths_0 : cX12_worths.data.toList.drop 0 = dktX12_worths_0 := by decide +kernel
theorem dksX12_worths_1 : cX12_worths.data.toList.drop 24 = dktX12_worths_1 := dk_seg dksX12_worths_0 24 rfl rfl
theorem dksX12_worths_2 : cX12_worths.data.toList.drop 48 = dktX12_worths_2 := dk_seg dksX12_worths_1 24 rfl rfl
theorem dX12_worths_0 : decode cX12_worths 0 = .ok (.lconst 0, 1) := dk_9 (dk_at dksX12_worths_0 0 rfl rfl)
theorem dX12_worths_1 : decode cX12_worths 1 = .ok (.lstore_n 2, 1) := dk_65 (dk_at dksX12_worths_0 1 rfl rfl)
theorem dX12_worths_2 : decode cX12_worths 2 = .ok (.aload_n 1, 1) := dk_43 (dk_at dksX12_worths_0 2 rfl rfl)
theorem dX12_worths_3 : decode cX12_worths 3 = .ok (.astore 4, 2) := dk_58 4 (dk_at dksX12_worths_0 3 rfl rfl)
theorem dX12_worths_5 : decode cX12_worths 5 = .ok (.aload 4, 2) := dk_25 4 (dk_at dksX12_worths_0 5 rfl rfl)
theorem dX12_worths_7 : decode cX12_worths 7 = .ok (.arraylength, 1) := dk_190 (dk_at dksX12_worths_0 7 rfl rfl)
theorem dX12_worths_8 : decode cX12_worths 8 = .ok (.istore 5, 2) := dk_54 5 (dk_at dksX12_worths_0 8 rfl rfl)
theorem dX12_worths_10 : decode cX12_worths 10 = .ok (.iconst 0, 1) := dk_3 (dk_at dksX12_worths_0 10 rfl rfl)
theorem dX12_worths_11 : decode cX12_worths 11 = .ok (.istore 6, 2) := dk_54 6 (dk_at dksX12_worths_0 11 rfl rfl)
theorem dX12_worths_13 : decode cX12_worths 13 = .ok (.iload 6, 2) := dk_21 6 (dk_at dksX12_worths_0 13 rfl rfl)
theorem dX12_worths_15 : decode cX12_worths 15 = .ok (.iload 5, 2) := dk_21 5 (dk_at dksX12_worths_0 15 rfl rfl)
theorem dX12_worths_17 : decode cX12_worths 17 = .ok (.if_icmp .ge 34, 3) := dk_162 0 34 (dk_at dksX12_worths_0 17 rfl rfl)
theorem dX12_worths_20 : decode cX12_worths 20 = .ok (.aload 4, 2) := dk_25 4 (dk_at dksX12_worths_0 20 rfl rfl)
theorem dX12_worths_22 : decode cX12_worths 22 = .ok (.iload 6, 2) := dk_21 6 (dk_at dksX12_worths_0 22 rfl rfl)
theorem dX12_worths_24 : decode cX12_worths 24 = .ok (.aaload, 1) := dk_50 (dk_at dksX12_worths_1 0 rfl rfl)
theorem dX12_worths_25 : decode cX12_worths 25 = .ok (.astore 7, 2) := dk_58 7 (dk_at dksX12_worths_1 1 rfl rfl)
theorem dX12_worths_27 : decode cX12_worths 27 = .ok (.lload_n 2, 1) := dk_32 (dk_at dksX12_worths_1 3 rfl rfl)
theorem dX12_worths_28 : decode cX12_worths 28 = .ok (.aload 7, 2) := dk_25 7 (dk_at dksX12_worths_1 4 rfl rfl)
theorem dX12_worths_30 : decode cX12_worths 30 = .ok (.ifnonnull 7, 3) := dk_199 0 7 (dk_at dksX12_worths_1 6 rfl rfl)
theorem dX12_worths_33 : decode cX12_worths 33 = .ok (.lconst 0, 1) := dk_9 (dk_at dksX12_worths_1 9 rfl rfl)
theorem dX12_worths_34 : decode cX12_worths 34 = .ok (.goto 9, 3) := dk_167 0 9 (dk_at dksX12_worths_1 10 rfl rfl)
theorem dX12_worths_37 : decode cX12_worths 37 = .ok (.aload 7, 2) := dk_25 7 (dk_at dksX12_worths_1 13 rfl rfl)
theorem dX12_worths_39 : decode cX12_worths 39 = .ok (.invokevirtual 52, 3) := dk_182 0 52 (dk_at dksX12_worths_1 15 rfl rfl)
theorem dX12_worths_42 : decode cX12_worths 42 = .ok (.i2l, 1) := dk_133 (dk_at dksX12_worths_1 18 rfl rfl)
theorem dX12_worths_43 : decode cX12_worths 43 = .ok (.ladd, 1) := dk_97 (dk_at dksX12_worths_1 19 rfl rfl)
theorem dX12_worths_44 : decode cX12_worths 44 = .ok (.lstore_n 2, 1) := dk_65 (dk_at dksX12_worths_1 20 rfl rfl)
theorem dX12_worths_45 : decode cX12_worths 45 = .ok (.iinc 6 1, 3) := dk_132 6 1 (dk_at dksX12_worths_1 21 rfl rfl)
theorem dX12_worths_48 : decode cX12_worths 48 = .ok (.goto (-35), 3) := dk_167 255 221 (dk_at dksX12_worths_2 0 rfl rfl)
theorem dX12_worths_51 : decode cX12_worths 51 = .ok (.lload_n 2, 1) := dk_32 (dk_at dksX12_worths_2 3 rfl rfl)
theorem dX12_worths_52 : decode cX12_worths 52 = .ok (.lreturn, 1) := dk_173 (dk_at dksX12_worths_2 4 rfl rfl)
abbrev cX12_wholes : ByteArray := prog_24_method_5_code
def yX12_wholes : MethodName := ⟨RX12, "wholes", "(Ljava/lang/Object;)J"⟩
def dkwX12_wholes_3 : List UInt8 := [184, 0, 60, 97, 65, 132, 4, 1, 167, 255, 185, 32, 173]
abbrev dktX12_wholes_3 : List UInt8 := dkwX12_wholes_3 ++ []
def dkwX12_wholes_2 : List UInt8 := [32, 25, 5, 21, 6, 46, 133, 97, 65, 132, 6, 1, 167, 255, 231, 167, 0, 12, 32, 43, 21, 4]
abbrev dktX12_wholes_2 : List UInt8 := dkwX12_wholes_2 ++ dktX12_wholes_3
def dkwX12_wholes_1 : List UInt8 := [192, 0, 58, 21, 4, 50, 58, 5, 3, 54, 6, 25, 5, 198, 0, 26, 21, 6, 25, 5, 190, 162, 0, 18]
abbrev dktX12_wholes_1 : List UInt8 := dkwX12_wholes_1 ++ dktX12_wholes_2
def dkwX12_wholes_0 : List UInt8 := [9, 65, 3, 54, 4, 21, 4, 43, 184, 0, 36, 162, 0, 68, 43, 193, 0, 58, 153, 0, 46, 43]
abbrev dktX12_wholes_0 : List UInt8 := dkwX12_wholes_0 ++ dktX12_wholes_1
theorem dksX12_wholes_0 : cX12_wholes.data.toList.drop 0 = dktX12_wholes_0 := by decide +kernel
theorem dksX12_wholes_1 : cX12_wholes.data.toList.drop 22 = dktX12_wholes_1 := dk_seg dksX12_wholes_0 22 rfl rfl
theorem dksX12_wholes_2 : cX12_wholes.data.toList.drop 46 = dktX12_wholes_2 := dk_seg dksX12_wholes_1 24 rfl rfl
theorem dksX12_wholes_3 : cX12_wholes.data.toList.drop 68 = dktX12_wholes_3 := dk_seg dksX12_wholes_2 22 rfl rfl
theorem dX12_wholes_0 : decode cX12_wholes 0 = .ok (.lconst 0, 1) := dk_9 (dk_at dksX12_wholes_0 0 rfl rfl)
theorem dX12_wholes_1 : decode cX12_wholes 1 = .ok (.lstore_n 2, 1) := dk_65 (dk_at dksX12_wholes_0 1 rfl rfl)
theorem dX12_wholes_2 : decode cX12_wholes 2 = .ok (.iconst 0, 1) := dk_3 (dk_at dksX12_wholes_0 2 rfl rfl)
theorem dX12_wholes_3 : decode cX12_wholes 3 = .ok (.istore 4, 2) := dk_54 4 (dk_at dksX12_wholes_0 3 rfl rfl)
theorem dX12_wholes_5 : decode cX12_wholes 5 = .ok (.iload 4, 2) := dk_21 4 (dk_at dksX12_wholes_0 5 rfl rfl)
theorem dX12_wholes_7 : decode cX12_wholes 7 = .ok (.aload_n 1, 1) := dk_43 (dk_at dksX12_wholes_0 7 rfl rfl)
theorem dX12_wholes_8 : decode cX12_wholes 8 = .ok (.invokestatic 36, 3) := dk_184 0 36 (dk_at dksX12_wholes_0 8 rfl rfl)
theorem dX12_wholes_11 : decode cX12_wholes 11 = .ok (.if_icmp .ge 68, 3) := dk_162 0 68 (dk_at dksX12_wholes_0 11 rfl rfl)
theorem dX12_wholes_14 : decode cX12_wholes 14 = .ok (.aload_n 1, 1) := dk_43 (dk_at dksX12_wholes_0 14 rfl rfl)
theorem dX12_wholes_15 : decode cX12_wholes 15 = .ok (.instanceof 58, 3) := dk_193 0 58 (dk_at dksX12_wholes_0 15 rfl rfl)
theorem dX12_wholes_18 : decode cX12_wholes 18 = .ok (.ifCond .eq 46, 3) := dk_153 0 46 (dk_at dksX12_wholes_0 18 rfl rfl)
theorem dX12_wholes_21 : decode cX12_wholes 21 = .ok (.aload_n 1, 1) := dk_43 (dk_at dksX12_wholes_0 21 rfl rfl)
theorem dX12_wholes_22 : decode cX12_wholes 22 = .ok (.checkcast 58, 3) := dk_192 0 58 (dk_at dksX12_wholes_1 0 rfl rfl)
theorem dX12_wholes_25 : decode cX12_wholes 25 = .ok (.iload 4, 2) := dk_21 4 (dk_at dksX12_wholes_1 3 rfl rfl)
theorem dX12_wholes_27 : decode cX12_wholes 27 = .ok (.aaload, 1) := dk_50 (dk_at dksX12_wholes_1 5 rfl rfl)
theorem dX12_wholes_28 : decode cX12_wholes 28 = .ok (.astore 5, 2) := dk_58 5 (dk_at dksX12_wholes_1 6 rfl rfl)
theorem dX12_wholes_30 : decode cX12_wholes 30 = .ok (.iconst 0, 1) := dk_3 (dk_at dksX12_wholes_1 8 rfl rfl)
theorem dX12_wholes_31 : decode cX12_wholes 31 = .ok (.istore 6, 2) := dk_54 6 (dk_at dksX12_wholes_1 9 rfl rfl)
theorem dX12_wholes_33 : decode cX12_wholes 33 = .ok (.aload 5, 2) := dk_25 5 (dk_at dksX12_wholes_1 11 rfl rfl)
theorem dX12_wholes_35 : decode cX12_wholes 35 = .ok (.ifnull 26, 3) := dk_198 0 26 (dk_at dksX12_wholes_1 13 rfl rfl)
theorem dX12_wholes_38 : decode cX12_wholes 38 = .ok (.iload 6, 2) := dk_21 6 (dk_at dksX12_wholes_1 16 rfl rfl)
theorem dX12_wholes_40 : decode cX12_wholes 40 = .ok (.aload 5, 2) := dk_25 5 (dk_at dksX12_wholes_1 18 rfl rfl)
theorem dX12_wholes_42 : decode cX12_wholes 42 = .ok (.arraylength, 1) := dk_190 (dk_at dksX12_wholes_1 20 rfl rfl)
theorem dX12_wholes_43 : decode cX12_wholes 43 = .ok (.if_icmp .ge 18, 3) := dk_162 0 18 (dk_at dksX12_wholes_1 21 rfl rfl)
theorem dX12_wholes_46 : decode cX12_wholes 46 = .ok (.lload_n 2, 1) := dk_32 (dk_at dksX12_wholes_2 0 rfl rfl)
theorem dX12_wholes_47 : decode cX12_wholes 47 = .ok (.aload 5, 2) := dk_25 5 (dk_at dksX12_wholes_2 1 rfl rfl)
theorem dX12_wholes_49 : decode cX12_wholes 49 = .ok (.iload 6, 2) := dk_21 6 (dk_at dksX12_wholes_2 3 rfl rfl)
theorem dX12_wholes_51 : decode cX12_wholes 51 = .ok (.iaload, 1) := dk_46 (dk_at dksX12_wholes_2 5 rfl rfl)
theorem dX12_wholes_52 : decode cX12_wholes 52 = .ok (.i2l, 1) := dk_133 (dk_at dksX12_wholes_2 6 rfl rfl)
theorem dX12_wholes_53 : decode cX12_wholes 53 = .ok (.ladd, 1) := dk_97 (dk_at dksX12_wholes_2 7 rfl rfl)
theorem dX12_wholes_54 : decode cX12_wholes 54 = .ok (.lstore_n 2, 1) := dk_65 (dk_at dksX12_wholes_2 8 rfl rfl)
theorem dX12_wholes_55 : decode cX12_wholes 55 = .ok (.iinc 6 1, 3) := dk_132 6 1 (dk_at dksX12_wholes_2 9 rfl rfl)
theorem dX12_wholes_58 : decode cX12_wholes 58 = .ok (.goto (-25), 3) := dk_167 255 231 (dk_at dksX12_wholes_2 12 rfl rfl)
theorem dX12_wholes_61 : decode cX12_wholes 61 = .ok (.goto 12, 3) := dk_167 0 12 (dk_at dksX12_wholes_2 15 rfl rfl)
theorem dX12_wholes_64 : decode cX12_wholes 64 = .ok (.lload_n 2, 1) := dk_32 (dk_at dksX12_wholes_2 18 rfl rfl)
theorem dX12_wholes_65 : decode cX12_wholes 65 = .ok (.aload_n 1, 1) := dk_43 (dk_at dksX12_wholes_2 19 rfl rfl)
theorem dX12_wholes_66 : decode cX12_wholes 66 = .ok (.iload 4, 2) := dk_21 4 (dk_at dksX12_wholes_2 20 rfl rfl)
theorem dX12_wholes_68 : decode cX12_wholes 68 = .ok (.invokestatic 60, 3) := dk_184 0 60 (dk_at dksX12_wholes_3 0 rfl rfl)
theorem dX12_wholes_71 : decode cX12_wholes 71 = .ok (.ladd, 1) := dk_97 (dk_at dksX12_wholes_3 3 rfl rfl)
theorem dX12_wholes_72 : decode cX12_wholes 72 = .ok (.lstore_n 2, 1) := dk_65 (dk_at dksX12_wholes_3 4 rfl rfl)
theorem dX12_wholes_73 : decode cX12_wholes 73 = .ok (.iinc 4 1, 3) := dk_132 4 1 (dk_at dksX12_wholes_3 5 rfl rfl)
theorem dX12_wholes_76 : decode cX12_wholes 76 = .ok (.goto (-71), 3) := dk_167 255 185 (dk_at dksX12_wholes_3 8 rfl rfl)
theorem dX12_wholes_79 : decode cX12_wholes 79 = .ok (.lload_n 2, 1) := dk_32 (dk_at dksX12_wholes_3 11 rfl rfl)
theorem dX12_wholes_80 : decode cX12_wholes 80 = .ok (.lreturn, 1) := dk_173 (dk_at dksX12_wholes_3 12 rfl rfl)
theorem q64 : (Jvm.Cond.initialized "NativeSubset$Sum") ∈ lw_all := lw_g (lw_at lw_m1 15 rfl) rfl
theorem q258 : (Jvm.Cond.instantiable "NativeSubset$Sum" (6 : Nat)) ∈ lw_all := lw_g (lw_at lw_m1 209 rfl) rfl
theorem q260 : (Jvm.Cond.instanceMethod ({ cls := "NativeSubset$Sum", name := "<init>", desc := "(LNativeSubset;)V" } : Jvm.MethodName)) ∈ lw_all := lw_g (lw_at lw_m1 211 rfl) rfl
theorem q261 : (Jvm.Cond.code ({ cls := "NativeSubset$Sum", name := "<init>", desc := "(LNativeSubset;)V" } : Jvm.MethodName) prog_24_method_1_code (2 : Nat) (Option.none : Option Jvm.ClassFile.FieldType)) ∈ lw_all := lw_g (lw_at lw_m1 212 rfl) rfl
theorem q262 : (Jvm.Cond.methodLink "NativeSubset$Sum" (9 : Nat) ({ cls := "NativeSubset$Asking", name := "<init>", desc := "(LNativeSubset;III)V" } : Jvm.MethodName)) ∈ lw_all := lw_g (lw_at lw_m1 213 rfl) rfl
theorem q263 : (Jvm.Cond.fieldLink "NativeSubset$Sum" (3 : Nat) "NativeSubset$Sum" "this$0" "LNativeSubset;") ∈ lw_all := lw_g (lw_at lw_m1 214 rfl) rfl
theorem q264 : (Jvm.Cond.laysFinal "NativeSubset$Sum" "NativeSubset$Sum" "this$0" "LNativeSubset;") ∈ lw_all := lw_g (lw_at lw_m1 215 rfl) rfl
theorem q265 : (Jvm.Cond.soleField "NativeSubset$Sum" "this$0") ∈ lw_all := lw_g (lw_at lw_m1 216 rfl) rfl
theorem q266 : (Jvm.Cond.laysFinal "NativeSubset$Sum" "NativeSubset$Asking" "first" "I") ∈ lw_all := lw_g (lw_at lw_m1 217 rfl) rfl
theorem q267 : (Jvm.Cond.laysFinal "NativeSubset$Sum" "NativeSubset$Asking" "last" "I") ∈ lw_all := lw_g (lw_at lw_m1 218 rfl) rfl
theorem q268 : (Jvm.Cond.laysFinal "NativeSubset$Sum" "NativeSubset$Asking" "this$0" "LNativeSubset;") ∈ lw_all := lw_g (lw_at lw_m1 219 rfl) rfl
theorem q269 : (Jvm.Cond.laysFinal "NativeSubset$Sum" "NativeSubset$Helper" "base" "I") ∈ lw_all := lw_g (lw_at lw_m1 220 rfl) rfl
theorem q270 : (Jvm.Cond.laysFinal "NativeSubset$Sum" "NativeSubset$Helper" "this$0" "LNativeSubset;") ∈ lw_all := lw_g (lw_at lw_m1 221 rfl) rfl
theorem q271 : (Jvm.Cond.superclass "NativeSubset$Sum" "NativeSubset$Asking") ∈ lw_all := lw_g (lw_at lw_m1 222 rfl) rfl
theorem q510 : (Jvm.Cond.selects "NativeSubset$Sum" ({ cls := "java/lang/Object", name := "getClass", desc := "()Ljava/lang/Class;" } : Jvm.MethodName) ({ cls := "java/lang/Object", name := "getClass", desc := "()Ljava/lang/Class;" } : Jvm.MethodName)) ∈ lw_all := lw_g (lw_at lw_m2 221 rfl) rfl
theorem q772 : (Jvm.Cond.selects "NativeSubset$Sum" ({ cls := "NativeSubset$Helper", name := "hasOther", desc := "()Z" } : Jvm.MethodName) ({ cls := "NativeSubset$Helper", name := "hasOther", desc := "()Z" } : Jvm.MethodName)) ∈ lw_all := lw_g (lw_at lw_m4 3 rfl) rfl
theorem q810 : (Jvm.Cond.selects "NativeSubset$Sum" ({ cls := "NativeSubset$Helper", name := "many", desc := "(LNativeSubset$Act;)I" } : Jvm.MethodName) ({ cls := "NativeSubset$Asking", name := "many", desc := "(LNativeSubset$Act;)I" } : Jvm.MethodName)) ∈ lw_all := lw_g (lw_at lw_m4 41 rfl) rfl
theorem q865 : (Jvm.Cond.castable "NativeSubset$Sum" "NativeSubset$Priced") ∈ lw_tbl := lw_at lw_m4 96 rfl
theorem q866 : (Jvm.Cond.selects "NativeSubset$Sum" ({ cls := "NativeSubset$Priced", name := "base", desc := "()I" } : Jvm.MethodName) ({ cls := "NativeSubset$Helper", name := "base", desc := "()I" } : Jvm.MethodName)) ∈ lw_all := lw_g (lw_at lw_m4 97 rfl) rfl
theorem q867 : (Jvm.Cond.unhidden "NativeSubset$Sum" "base" "()I") ∈ lw_tbl := lw_at lw_m4 98 rfl
theorem q910 : (Jvm.Cond.selects "NativeSubset$Sum" ({ cls := "NativeSubset$Priced", name := "length", desc := "(I)I" } : Jvm.MethodName) ({ cls := "NativeSubset$Helper", name := "length", desc := "(I)I" } : Jvm.MethodName)) ∈ lw_all := lw_g (lw_at lw_m4 141 rfl) rfl
theorem q911 : (Jvm.Cond.unhidden "NativeSubset$Sum" "length" "(I)I") ∈ lw_tbl := lw_at lw_m4 142 rfl
theorem q924 : (Jvm.Cond.unhidden "NativeSubset$Sum" "price" "(II)I") ∈ lw_tbl := lw_at lw_m4 155 rfl
theorem q1324 : (Jvm.Cond.selects "NativeSubset$Sum" ({ cls := "NativeSubset$Helper", name := "work", desc := "(LNativeSubset$Act;LNativeSubset$Call;)J" } : Jvm.MethodName) ({ cls := "NativeSubset$Sum", name := "work", desc := "(LNativeSubset$Act;LNativeSubset$Call;)J" } : Jvm.MethodName)) ∈ lw_all := lw_g (lw_at lw_m6 75 rfl) rfl
theorem q1325 : (Jvm.Cond.instanceMethod ({ cls := "NativeSubset$Sum", name := "work", desc := "(LNativeSubset$Act;LNativeSubset$Call;)J" } : Jvm.MethodName)) ∈ lw_all := lw_g (lw_at lw_m6 76 rfl) rfl
theorem q1326 : (Jvm.Cond.code ({ cls := "NativeSubset$Sum", name := "work", desc := "(LNativeSubset$Act;LNativeSubset$Call;)J" } : Jvm.MethodName) prog_24_method_2_code (4 : Nat) (Option.some Jvm.ClassFile.FieldType.long)) ∈ lw_all := lw_g (lw_at lw_m6 77 rfl) rfl
theorem q1327 : (Jvm.Cond.methodLink "NativeSubset$Sum" (15 : Nat) ({ cls := "NativeSubset$Sum", name := "row", desc := "(LNativeSubset$Act;)Ljava/lang/Object;" } : Jvm.MethodName)) ∈ lw_all := lw_g (lw_at lw_m6 78 rfl) rfl
theorem q1328 : (Jvm.Cond.sameMethod "NativeSubset$Sum" "NativeSubset$Asking" "row" "(LNativeSubset$Act;)Ljava/lang/Object;") ∈ lw_all := lw_g (lw_at lw_m6 79 rfl) rfl
theorem q1329 : (Jvm.Cond.selects "NativeSubset$Sum" ({ cls := "NativeSubset$Sum", name := "row", desc := "(LNativeSubset$Act;)Ljava/lang/Object;" } : Jvm.MethodName) ({ cls := "NativeSubset$Asking", name := "row", desc := "(LNativeSubset$Act;)Ljava/lang/Object;" } : Jvm.MethodName)) ∈ lw_all := lw_g (lw_at lw_m6 80 rfl) rfl
theorem q1330 : (Jvm.Cond.methodLinkNest "NativeSubset$Sum" (19 : Nat) ({ cls := "NativeSubset", name := "isReal", desc := "(Ljava/lang/Object;)Z" } : Jvm.MethodName) "NativeSubset") ∈ lw_tbl := lw_at lw_m6 81 rfl
theorem q1331 : (Jvm.Cond.methodLink "NativeSubset$Sum" (23 : Nat) ({ cls := "NativeSubset$Sum", name := "reals", desc := "(Ljava/lang/Object;)J" } : Jvm.MethodName)) ∈ lw_all := lw_g (lw_at lw_m6 82 rfl) rfl
theorem q1332 : (Jvm.Cond.privateMethod ({ cls := "NativeSubset$Sum", name := "reals", desc := "(Ljava/lang/Object;)J" } : Jvm.MethodName)) ∈ lw_tbl := lw_at lw_m6 83 rfl
theorem q1333 : (Jvm.Cond.instanceMethod ({ cls := "NativeSubset$Sum", name := "reals", desc := "(Ljava/lang/Object;)J" } : Jvm.MethodName)) ∈ lw_all := lw_g (lw_at lw_m6 84 rfl) rfl
theorem q1334 : (Jvm.Cond.code ({ cls := "NativeSubset$Sum", name := "reals", desc := "(Ljava/lang/Object;)J" } : Jvm.MethodName) prog_24_method_3_code (5 : Nat) (Option.some Jvm.ClassFile.FieldType.long)) ∈ lw_all := lw_g (lw_at lw_m6 85 rfl) rfl
theorem q1335 : (Jvm.Cond.methodLinkNest "NativeSubset$Sum" (36 : Nat) ({ cls := "NativeSubset", name := "sizeOf", desc := "(Ljava/lang/Object;)I" } : Jvm.MethodName) "NativeSubset") ∈ lw_tbl := lw_at lw_m6 86 rfl
theorem q1336 : (Jvm.Cond.methodLinkNest "NativeSubset$Sum" (40 : Nat) ({ cls := "NativeSubset", name := "real", desc := "(Ljava/lang/Object;I)D" } : Jvm.MethodName) "NativeSubset") ∈ lw_tbl := lw_at lw_m6 87 rfl
theorem q1337 : (Jvm.Cond.methodLinkNest "NativeSubset$Sum" (44 : Nat) ({ cls := "NativeSubset", name := "plus", desc := "(DD)D" } : Jvm.MethodName) "NativeSubset") ∈ lw_tbl := lw_at lw_m6 88 rfl
theorem q1342 : (Jvm.Cond.methodLinkNest "NativeSubset$Sum" (48 : Nat) ({ cls := "NativeSubset", name := "bitsOf", desc := "(D)J" } : Jvm.MethodName) "NativeSubset") ∈ lw_tbl := lw_at lw_m6 93 rfl
theorem q1343 : (Jvm.Cond.classLink "NativeSubset$Sum" (27 : Nat) "[LNativeSubset$Unit;") ∈ lw_all := lw_g (lw_at lw_m6 94 rfl) rfl
theorem q1344 : (Jvm.Cond.methodLink "NativeSubset$Sum" (29 : Nat) ({ cls := "NativeSubset$Sum", name := "worths", desc := "([LNativeSubset$Unit;)J" } : Jvm.MethodName)) ∈ lw_all := lw_g (lw_at lw_m6 95 rfl) rfl
theorem q1345 : (Jvm.Cond.privateMethod ({ cls := "NativeSubset$Sum", name := "worths", desc := "([LNativeSubset$Unit;)J" } : Jvm.MethodName)) ∈ lw_tbl := lw_at lw_m6 96 rfl
theorem q1346 : (Jvm.Cond.instanceMethod ({ cls := "NativeSubset$Sum", name := "worths", desc := "([LNativeSubset$Unit;)J" } : Jvm.MethodName)) ∈ lw_all := lw_g (lw_at lw_m6 97 rfl) rfl
theorem q1347 : (Jvm.Cond.code ({ cls := "NativeSubset$Sum", name := "worths", desc := "([LNativeSubset$Unit;)J" } : Jvm.MethodName) prog_24_method_4_code (8 : Nat) (Option.some Jvm.ClassFile.FieldType.long)) ∈ lw_all := lw_g (lw_at lw_m6 98 rfl) rfl
theorem q1348 : (Jvm.Cond.methodLink "NativeSubset$Sum" (52 : Nat) ({ cls := "NativeSubset$Unit", name := "worth", desc := "()I" } : Jvm.MethodName)) ∈ lw_all := lw_g (lw_at lw_m6 99 rfl) rfl
theorem q1349 : (Jvm.Cond.methodLink "NativeSubset$Sum" (33 : Nat) ({ cls := "NativeSubset$Sum", name := "wholes", desc := "(Ljava/lang/Object;)J" } : Jvm.MethodName)) ∈ lw_all := lw_g (lw_at lw_m6 100 rfl) rfl
theorem q1350 : (Jvm.Cond.privateMethod ({ cls := "NativeSubset$Sum", name := "wholes", desc := "(Ljava/lang/Object;)J" } : Jvm.MethodName)) ∈ lw_tbl := lw_at lw_m6 101 rfl
theorem q1351 : (Jvm.Cond.instanceMethod ({ cls := "NativeSubset$Sum", name := "wholes", desc := "(Ljava/lang/Object;)J" } : Jvm.MethodName)) ∈ lw_all := lw_g (lw_at lw_m6 102 rfl) rfl
theorem q1352 : (Jvm.Cond.code ({ cls := "NativeSubset$Sum", name := "wholes", desc := "(Ljava/lang/Object;)J" } : Jvm.MethodName) prog_24_method_5_code (7 : Nat) (Option.some Jvm.ClassFile.FieldType.long)) ∈ lw_all := lw_g (lw_at lw_m6 103 rfl) rfl
theorem q1353 : (Jvm.Cond.classLink "NativeSubset$Sum" (58 : Nat) "[[I") ∈ lw_all := lw_g (lw_at lw_m6 104 rfl) rfl
theorem q1354 : (Jvm.Cond.methodLinkNest "NativeSubset$Sum" (60 : Nat) ({ cls := "NativeSubset", name := "get", desc := "(Ljava/lang/Object;I)J" } : Jvm.MethodName) "NativeSubset") ∈ lw_tbl := lw_at lw_m6 105 rfl
theorem q1846 : (Jvm.Cond.castable "NativeSubset$Sum" "java/lang/Object") ∈ lw_tbl := lw_at lw_m8 117 rfl
theorem q1870 : (Jvm.Cond.castable "NativeSubset$Sum" "NativeSubset$Helper") ∈ lw_tbl := lw_at lw_m8 141 rfl
theorem in_X12 : ∀ w ∈ wsX120, w ∈ lw_all := lw_in wsX120 [269, 270, 266, 267, 268, 264] (by decide +kernel) (by decide +kernel)
/-! NativeSubset$Greatest -/
def RX13 : String := "NativeSubset$Greatest"
def TX13 : u_T := fun k => match k with
  | 0 => ("NativeSubset$Helper", "base", "I", true)
  | 1 => ("NativeSubset$Helper", "this$0", "LNativeSubset;", true)
  | 2 => ("NativeSubset$Asking", "first", "I", true)
  | 3 => ("NativeSubset$Asking", "last", "I", true)
  | 4 => ("NativeSubset$Asking", "this$0", "LNativeSubset;", true)
  | _ => ("NativeSubset$Greatest", "this$0", "LNativeSubset;", true)
def tyX13 : Nat → FieldType := fun k => match k with
  | 0 => .int
  | 1 => .object "NativeSubset"
  | 2 => .int
  | 3 => .int
  | 4 => .object "NativeSubset"
  | _ => .object "NativeSubset"
abbrev wsX130 : List Cond := u_ws RX13 TX13 6
-- two fields of one name: no nmX13
theorem tyX13_ok : ∀ k, k < 6 → parseFieldDescriptor (TX13 k).2.2.1 = some (tyX13 k) := by decide +kernel
abbrev cX13_init : ByteArray := prog_17_method_1_code
def yX13_init : MethodName := ⟨RX13, "<init>", "(LNativeSubset;)V"⟩
def dkwX13_init_0 : List UInt8 := [42, 43, 181, 0, 3, 42, 43, 4, 4, 16, 7, 183, 0, 9, 177]
abbrev dktX13_init_0 : List UInt8 := dkwX13_init_0 ++ []
theorem dksX13_init_0 : cX13_init.data.toList.drop 0 = dktX13_init_0 := by decide +kernel
theorem dX13_init_0 : decode cX13_init 0 = .ok (.aload_n 0, 1) := dk_42 (dk_at dksX13_init_0 0 rfl rfl)
theorem dX13_init_1 : decode cX13_init 1 = .ok (.aload_n 1, 1) := dk_43 (dk_at dksX13_init_0 1 rfl rfl)
theorem dX13_init_2 : decode cX13_init 2 = .ok (.putfield 3, 3) := dk_181 0 3 (dk_at dksX13_init_0 2 rfl rfl)
theorem dX13_init_5 : decode cX13_init 5 = .ok (.aload_n 0, 1) := dk_42 (dk_at dksX13_init_0 5 rfl rfl)
theorem dX13_init_6 : decode cX13_init 6 = .ok (.aload_n 1, 1) := dk_43 (dk_at dksX13_init_0 6 rfl rfl)
theorem dX13_init_7 : decode cX13_init 7 = .ok (.iconst 1, 1) := dk_4 (dk_at dksX13_init_0 7 rfl rfl)
theorem dX13_init_8 : decode cX13_init 8 = .ok (.iconst 1, 1) := dk_4 (dk_at dksX13_init_0 8 rfl rfl)
theorem dX13_init_9 : decode cX13_init 9 = .ok (.bipush 7, 2) := dk_16 7 (dk_at dksX13_init_0 9 rfl rfl)
theorem dX13_init_11 : decode cX13_init 11 = .ok (.invokespecial 9, 3) := dk_183 0 9 (dk_at dksX13_init_0 11 rfl rfl)
theorem dX13_init_14 : decode cX13_init 14 = .ok (.return_, 1) := dk_177 (dk_at dksX13_init_0 14 rfl rfl)
abbrev cX13_work : ByteArray := prog_17_method_2_code
def yX13_work : MethodName := ⟨RX13, "work", "(LNativeSubset$Act;LNativeSubset$Call;)J"⟩
def dkwX13_work_3 : List UInt8 := [173]
abbrev dktX13_work_3 : List UInt8 := dkwX13_work_3 ++ []
def dkwX13_work_2 : List UInt8 := [153, 0, 8, 21, 5, 167, 0, 5, 21, 4, 54, 4, 132, 5, 1, 167, 255, 223, 45, 21, 4, 184, 0, 31]
abbrev dktX13_work_2 : List UInt8 := dkwX13_work_2 ++ dktX13_work_3
def dkwX13_work_1 : List UInt8 := [54, 4, 4, 54, 5, 21, 5, 45, 184, 0, 19, 162, 0, 30, 45, 21, 4, 45, 21, 5, 184, 0, 27]
abbrev dktX13_work_1 : List UInt8 := dkwX13_work_1 ++ dktX13_work_2
def dkwX13_work_0 : List UInt8 := [42, 43, 182, 0, 15, 78, 45, 184, 0, 19, 154, 0, 12, 42, 180, 0, 3, 5, 182, 0, 23, 191, 3]
abbrev dktX13_work_0 : List UInt8 := dkwX13_work_0 ++ dktX13_work_1
theorem dksX13_work_0 : cX13_work.data.toList.drop 0 = dktX13_work_0 := by decide +kernel
theorem dksX13_work_1 : cX13_work.data.toList.drop 23 = dktX13_work_1 := dk_seg dksX13_work_0 23 rfl rfl
theorem dksX13_work_2 : cX13_work.data.toList.drop 46 = dktX13_work_2 := dk_seg dksX13_work_1 23 rfl rfl
theorem dksX13_work_3 : cX13_work.data.toList.drop 70 = dktX13_work_3 := dk_seg dksX13_work_2 24 rfl rfl
theorem dX13_work_0 : decode cX13_work 0 = .ok (.aload_n 0, 1) := dk_42 (dk_at dksX13_work_0 0 rfl rfl)
theorem dX13_work_1 : decode cX13_work 1 = .ok (.aload_n 1, 1) := dk_43 (dk_at dksX13_work_0 1 rfl rfl)
theorem dX13_work_2 : decode cX13_work 2 = .ok (.invokevirtual 15, 3) := dk_182 0 15 (dk_at dksX13_work_0 2 rfl rfl)
theorem dX13_work_5 : decode cX13_work 5 = .ok (.astore_n 3, 1) := dk_78 (dk_at dksX13_work_0 5 rfl rfl)
theorem dX13_work_6 : decode cX13_work 6 = .ok (.aload_n 3, 1) := dk_45 (dk_at dksX13_work_0 6 rfl rfl)
theorem dX13_work_7 : decode cX13_work 7 = .ok (.invokestatic 19, 3) := dk_184 0 19 (dk_at dksX13_work_0 7 rfl rfl)
theorem dX13_work_10 : decode cX13_work 10 = .ok (.ifCond .ne 12, 3) := dk_154 0 12 (dk_at dksX13_work_0 10 rfl rfl)
theorem dX13_work_13 : decode cX13_work 13 = .ok (.aload_n 0, 1) := dk_42 (dk_at dksX13_work_0 13 rfl rfl)
theorem dX13_work_14 : decode cX13_work 14 = .ok (.getfield 3, 3) := dk_180 0 3 (dk_at dksX13_work_0 14 rfl rfl)
theorem dX13_work_17 : decode cX13_work 17 = .ok (.iconst 2, 1) := dk_5 (dk_at dksX13_work_0 17 rfl rfl)
theorem dX13_work_18 : decode cX13_work 18 = .ok (.invokevirtual 23, 3) := dk_182 0 23 (dk_at dksX13_work_0 18 rfl rfl)
theorem dX13_work_21 : decode cX13_work 21 = .ok (.athrow, 1) := dk_191 (dk_at dksX13_work_0 21 rfl rfl)
theorem dX13_work_22 : decode cX13_work 22 = .ok (.iconst 0, 1) := dk_3 (dk_at dksX13_work_0 22 rfl rfl)
theorem dX13_work_23 : decode cX13_work 23 = .ok (.istore 4, 2) := dk_54 4 (dk_at dksX13_work_1 0 rfl rfl)
theorem dX13_work_25 : decode cX13_work 25 = .ok (.iconst 1, 1) := dk_4 (dk_at dksX13_work_1 2 rfl rfl)
theorem dX13_work_26 : decode cX13_work 26 = .ok (.istore 5, 2) := dk_54 5 (dk_at dksX13_work_1 3 rfl rfl)
theorem dX13_work_28 : decode cX13_work 28 = .ok (.iload 5, 2) := dk_21 5 (dk_at dksX13_work_1 5 rfl rfl)
theorem dX13_work_30 : decode cX13_work 30 = .ok (.aload_n 3, 1) := dk_45 (dk_at dksX13_work_1 7 rfl rfl)
theorem dX13_work_31 : decode cX13_work 31 = .ok (.invokestatic 19, 3) := dk_184 0 19 (dk_at dksX13_work_1 8 rfl rfl)
theorem dX13_work_34 : decode cX13_work 34 = .ok (.if_icmp .ge 30, 3) := dk_162 0 30 (dk_at dksX13_work_1 11 rfl rfl)
theorem dX13_work_37 : decode cX13_work 37 = .ok (.aload_n 3, 1) := dk_45 (dk_at dksX13_work_1 14 rfl rfl)
theorem dX13_work_38 : decode cX13_work 38 = .ok (.iload 4, 2) := dk_21 4 (dk_at dksX13_work_1 15 rfl rfl)
theorem dX13_work_40 : decode cX13_work 40 = .ok (.aload_n 3, 1) := dk_45 (dk_at dksX13_work_1 17 rfl rfl)
theorem dX13_work_41 : decode cX13_work 41 = .ok (.iload 5, 2) := dk_21 5 (dk_at dksX13_work_1 18 rfl rfl)
theorem dX13_work_43 : decode cX13_work 43 = .ok (.invokestatic 27, 3) := dk_184 0 27 (dk_at dksX13_work_1 20 rfl rfl)
theorem dX13_work_46 : decode cX13_work 46 = .ok (.ifCond .eq 8, 3) := dk_153 0 8 (dk_at dksX13_work_2 0 rfl rfl)
theorem dX13_work_49 : decode cX13_work 49 = .ok (.iload 5, 2) := dk_21 5 (dk_at dksX13_work_2 3 rfl rfl)
theorem dX13_work_51 : decode cX13_work 51 = .ok (.goto 5, 3) := dk_167 0 5 (dk_at dksX13_work_2 5 rfl rfl)
theorem dX13_work_54 : decode cX13_work 54 = .ok (.iload 4, 2) := dk_21 4 (dk_at dksX13_work_2 8 rfl rfl)
theorem dX13_work_56 : decode cX13_work 56 = .ok (.istore 4, 2) := dk_54 4 (dk_at dksX13_work_2 10 rfl rfl)
theorem dX13_work_58 : decode cX13_work 58 = .ok (.iinc 5 1, 3) := dk_132 5 1 (dk_at dksX13_work_2 12 rfl rfl)
theorem dX13_work_61 : decode cX13_work 61 = .ok (.goto (-33), 3) := dk_167 255 223 (dk_at dksX13_work_2 15 rfl rfl)
theorem dX13_work_64 : decode cX13_work 64 = .ok (.aload_n 3, 1) := dk_45 (dk_at dksX13_work_2 18 rfl rfl)
theorem dX13_work_65 : decode cX13_work 65 = .ok (.iload 4, 2) := dk_21 4 (dk_at dksX13_work_2 19 rfl rfl)
theorem dX13_work_67 : decode cX13_work 67 = .ok (.invokestatic 31, 3) := dk_184 0 31 (dk_at dksX13_work_2 21 rfl rfl)
theorem dX13_work_70 : decode cX13_work 70 = .ok (.lreturn, 1) := dk_173 (dk_at dksX13_work_3 0 rfl rfl)
theorem q65 : (Jvm.Cond.initialized "NativeSubset$Greatest") ∈ lw_all := lw_g (lw_at lw_m1 16 rfl) rfl
theorem q273 : (Jvm.Cond.instantiable "NativeSubset$Greatest" (6 : Nat)) ∈ lw_all := lw_g (lw_at lw_m1 224 rfl) rfl
theorem q275 : (Jvm.Cond.instanceMethod ({ cls := "NativeSubset$Greatest", name := "<init>", desc := "(LNativeSubset;)V" } : Jvm.MethodName)) ∈ lw_all := lw_g (lw_at lw_m1 226 rfl) rfl
theorem q276 : (Jvm.Cond.code ({ cls := "NativeSubset$Greatest", name := "<init>", desc := "(LNativeSubset;)V" } : Jvm.MethodName) prog_17_method_1_code (2 : Nat) (Option.none : Option Jvm.ClassFile.FieldType)) ∈ lw_all := lw_g (lw_at lw_m1 227 rfl) rfl
theorem q277 : (Jvm.Cond.methodLink "NativeSubset$Greatest" (9 : Nat) ({ cls := "NativeSubset$Asking", name := "<init>", desc := "(LNativeSubset;III)V" } : Jvm.MethodName)) ∈ lw_all := lw_g (lw_at lw_m1 228 rfl) rfl
theorem q278 : (Jvm.Cond.fieldLink "NativeSubset$Greatest" (3 : Nat) "NativeSubset$Greatest" "this$0" "LNativeSubset;") ∈ lw_all := lw_g (lw_at lw_m1 229 rfl) rfl
theorem q279 : (Jvm.Cond.laysFinal "NativeSubset$Greatest" "NativeSubset$Greatest" "this$0" "LNativeSubset;") ∈ lw_all := lw_g (lw_at lw_m1 230 rfl) rfl
theorem q280 : (Jvm.Cond.soleField "NativeSubset$Greatest" "this$0") ∈ lw_all := lw_g (lw_at lw_m1 231 rfl) rfl
theorem q281 : (Jvm.Cond.laysFinal "NativeSubset$Greatest" "NativeSubset$Asking" "first" "I") ∈ lw_all := lw_g (lw_at lw_m1 232 rfl) rfl
theorem q282 : (Jvm.Cond.laysFinal "NativeSubset$Greatest" "NativeSubset$Asking" "last" "I") ∈ lw_all := lw_g (lw_at lw_m1 233 rfl) rfl
theorem q283 : (Jvm.Cond.laysFinal "NativeSubset$Greatest" "NativeSubset$Asking" "this$0" "LNativeSubset;") ∈ lw_all := lw_g (lw_at lw_m1 234 rfl) rfl
theorem q284 : (Jvm.Cond.laysFinal "NativeSubset$Greatest" "NativeSubset$Helper" "base" "I") ∈ lw_all := lw_g (lw_at lw_m1 235 rfl) rfl
theorem q285 : (Jvm.Cond.laysFinal "NativeSubset$Greatest" "NativeSubset$Helper" "this$0" "LNativeSubset;") ∈ lw_all := lw_g (lw_at lw_m1 236 rfl) rfl
theorem q286 : (Jvm.Cond.superclass "NativeSubset$Greatest" "NativeSubset$Asking") ∈ lw_all := lw_g (lw_at lw_m1 237 rfl) rfl
theorem q506 : (Jvm.Cond.selects "NativeSubset$Greatest" ({ cls := "java/lang/Object", name := "getClass", desc := "()Ljava/lang/Class;" } : Jvm.MethodName) ({ cls := "java/lang/Object", name := "getClass", desc := "()Ljava/lang/Class;" } : Jvm.MethodName)) ∈ lw_all := lw_g (lw_at lw_m2 217 rfl) rfl
theorem q769 : (Jvm.Cond.selects "NativeSubset$Greatest" ({ cls := "NativeSubset$Helper", name := "hasOther", desc := "()Z" } : Jvm.MethodName) ({ cls := "NativeSubset$Helper", name := "hasOther", desc := "()Z" } : Jvm.MethodName)) ∈ lw_all := lw_g (lw_at lw_m4 0 rfl) rfl
theorem q807 : (Jvm.Cond.selects "NativeSubset$Greatest" ({ cls := "NativeSubset$Helper", name := "many", desc := "(LNativeSubset$Act;)I" } : Jvm.MethodName) ({ cls := "NativeSubset$Asking", name := "many", desc := "(LNativeSubset$Act;)I" } : Jvm.MethodName)) ∈ lw_all := lw_g (lw_at lw_m4 38 rfl) rfl
theorem q856 : (Jvm.Cond.castable "NativeSubset$Greatest" "NativeSubset$Priced") ∈ lw_tbl := lw_at lw_m4 87 rfl
theorem q857 : (Jvm.Cond.selects "NativeSubset$Greatest" ({ cls := "NativeSubset$Priced", name := "base", desc := "()I" } : Jvm.MethodName) ({ cls := "NativeSubset$Helper", name := "base", desc := "()I" } : Jvm.MethodName)) ∈ lw_all := lw_g (lw_at lw_m4 88 rfl) rfl
theorem q858 : (Jvm.Cond.unhidden "NativeSubset$Greatest" "base" "()I") ∈ lw_tbl := lw_at lw_m4 89 rfl
theorem q896 : (Jvm.Cond.selects "NativeSubset$Greatest" ({ cls := "NativeSubset$Priced", name := "length", desc := "(I)I" } : Jvm.MethodName) ({ cls := "NativeSubset$Helper", name := "length", desc := "(I)I" } : Jvm.MethodName)) ∈ lw_all := lw_g (lw_at lw_m4 127 rfl) rfl
theorem q897 : (Jvm.Cond.unhidden "NativeSubset$Greatest" "length" "(I)I") ∈ lw_tbl := lw_at lw_m4 128 rfl
theorem q921 : (Jvm.Cond.unhidden "NativeSubset$Greatest" "price" "(II)I") ∈ lw_tbl := lw_at lw_m4 152 rfl
theorem q1289 : (Jvm.Cond.selects "NativeSubset$Greatest" ({ cls := "NativeSubset$Helper", name := "work", desc := "(LNativeSubset$Act;LNativeSubset$Call;)J" } : Jvm.MethodName) ({ cls := "NativeSubset$Greatest", name := "work", desc := "(LNativeSubset$Act;LNativeSubset$Call;)J" } : Jvm.MethodName)) ∈ lw_all := lw_g (lw_at lw_m6 40 rfl) rfl
theorem q1290 : (Jvm.Cond.instanceMethod ({ cls := "NativeSubset$Greatest", name := "work", desc := "(LNativeSubset$Act;LNativeSubset$Call;)J" } : Jvm.MethodName)) ∈ lw_all := lw_g (lw_at lw_m6 41 rfl) rfl
theorem q1291 : (Jvm.Cond.code ({ cls := "NativeSubset$Greatest", name := "work", desc := "(LNativeSubset$Act;LNativeSubset$Call;)J" } : Jvm.MethodName) prog_17_method_2_code (6 : Nat) (Option.some Jvm.ClassFile.FieldType.long)) ∈ lw_all := lw_g (lw_at lw_m6 42 rfl) rfl
theorem q1292 : (Jvm.Cond.methodLink "NativeSubset$Greatest" (15 : Nat) ({ cls := "NativeSubset$Greatest", name := "row", desc := "(LNativeSubset$Act;)Ljava/lang/Object;" } : Jvm.MethodName)) ∈ lw_all := lw_g (lw_at lw_m6 43 rfl) rfl
theorem q1293 : (Jvm.Cond.sameMethod "NativeSubset$Greatest" "NativeSubset$Asking" "row" "(LNativeSubset$Act;)Ljava/lang/Object;") ∈ lw_all := lw_g (lw_at lw_m6 44 rfl) rfl
theorem q1294 : (Jvm.Cond.selects "NativeSubset$Greatest" ({ cls := "NativeSubset$Greatest", name := "row", desc := "(LNativeSubset$Act;)Ljava/lang/Object;" } : Jvm.MethodName) ({ cls := "NativeSubset$Asking", name := "row", desc := "(LNativeSubset$Act;)Ljava/lang/Object;" } : Jvm.MethodName)) ∈ lw_all := lw_g (lw_at lw_m6 45 rfl) rfl
theorem q1295 : (Jvm.Cond.methodLinkNest "NativeSubset$Greatest" (19 : Nat) ({ cls := "NativeSubset", name := "sizeOf", desc := "(Ljava/lang/Object;)I" } : Jvm.MethodName) "NativeSubset") ∈ lw_tbl := lw_at lw_m6 46 rfl
theorem q1296 : (Jvm.Cond.methodLinkNest "NativeSubset$Greatest" (23 : Nat) ({ cls := "NativeSubset", name := "fail", desc := "(I)LNativeSubset$Failure;" } : Jvm.MethodName) "NativeSubset") ∈ lw_tbl := lw_at lw_m6 47 rfl
theorem q1297 : (Jvm.Cond.methodLinkNest "NativeSubset$Greatest" (27 : Nat) ({ cls := "NativeSubset", name := "isBelow", desc := "(Ljava/lang/Object;ILjava/lang/Object;I)Z" } : Jvm.MethodName) "NativeSubset") ∈ lw_tbl := lw_at lw_m6 48 rfl
theorem q1300 : (Jvm.Cond.methodLinkNest "NativeSubset$Greatest" (31 : Nat) ({ cls := "NativeSubset", name := "get", desc := "(Ljava/lang/Object;I)J" } : Jvm.MethodName) "NativeSubset") ∈ lw_tbl := lw_at lw_m6 51 rfl
theorem q1847 : (Jvm.Cond.castable "NativeSubset$Greatest" "java/lang/Object") ∈ lw_tbl := lw_at lw_m8 118 rfl
theorem q1871 : (Jvm.Cond.castable "NativeSubset$Greatest" "NativeSubset$Helper") ∈ lw_tbl := lw_at lw_m8 142 rfl
theorem in_X13 : ∀ w ∈ wsX130, w ∈ lw_all := lw_in wsX130 [284, 285, 281, 282, 283, 279] (by decide +kernel) (by decide +kernel)
/-! NativeSubset$Turning -/
def RX14 : String := "NativeSubset$Turning"
def TX14 : u_T := fun k => match k with
  | 0 => ("NativeSubset$Helper", "base", "I", true)
  | 1 => ("NativeSubset$Helper", "this$0", "LNativeSubset;", true)
  | 2 => ("NativeSubset$Asking", "first", "I", true)
  | 3 => ("NativeSubset$Asking", "last", "I", true)
  | 4 => ("NativeSubset$Asking", "this$0", "LNativeSubset;", true)
  | 5 => ("NativeSubset$Working", "this$0", "LNativeSubset;", true)
  | _ => ("NativeSubset$Turning", "this$0", "LNativeSubset;", true)
def tyX14 : Nat → FieldType := fun k => match k with
  | 0 => .int
  | 1 => .object "NativeSubset"
  | 2 => .int
  | 3 => .int
  | 4 => .object "NativeSubset"
  | 5 => .object "NativeSubset"
  | _ => .object "NativeSubset"
abbrev wsX140 : List Cond := u_ws RX14 TX14 7
-- two fields of one name: no nmX14
theorem tyX14_ok : ∀ k, k < 7 → parseFieldDescriptor (TX14 k).2.2.1 = some (tyX14 k) := by decide +kernel
abbrev cX14_init : ByteArray := prog_25_method_1_code
def yX14_init : MethodName := ⟨RX14, "<init>", "(LNativeSubset;)V"⟩
def dkwX14_init_0 : List UInt8 := [42, 43, 181, 0, 3, 42, 43, 4, 3, 16, 10, 183, 0, 9, 177]
abbrev dktX14_init_0 : List UInt8 := dkwX14_init_0 ++ []
theorem dksX14_init_0 : cX14_init.data.toList.drop 0 = dktX14_init_0 := by decide +kernel
theorem dX14_init_0 : decode cX14_init 0 = .ok (.aload_n 0, 1) := dk_42 (dk_at dksX14_init_0 0 rfl rfl)
theorem dX14_init_1 : decode cX14_init 1 = .ok (.aload_n 1, 1) := dk_43 (dk_at dksX14_init_0 1 rfl rfl)
theorem dX14_init_2 : decode cX14_init 2 = .ok (.putfield 3, 3) := dk_181 0 3 (dk_at dksX14_init_0 2 rfl rfl)
theorem dX14_init_5 : decode cX14_init 5 = .ok (.aload_n 0, 1) := dk_42 (dk_at dksX14_init_0 5 rfl rfl)
theorem dX14_init_6 : decode cX14_init 6 = .ok (.aload_n 1, 1) := dk_43 (dk_at dksX14_init_0 6 rfl rfl)
theorem dX14_init_7 : decode cX14_init 7 = .ok (.iconst 1, 1) := dk_4 (dk_at dksX14_init_0 7 rfl rfl)
theorem dX14_init_8 : decode cX14_init 8 = .ok (.iconst 0, 1) := dk_3 (dk_at dksX14_init_0 8 rfl rfl)
theorem dX14_init_9 : decode cX14_init 9 = .ok (.bipush 10, 2) := dk_16 10 (dk_at dksX14_init_0 9 rfl rfl)
theorem dX14_init_11 : decode cX14_init 11 = .ok (.invokespecial 9, 3) := dk_183 0 9 (dk_at dksX14_init_0 11 rfl rfl)
theorem dX14_init_14 : decode cX14_init 14 = .ok (.return_, 1) := dk_177 (dk_at dksX14_init_0 14 rfl rfl)
abbrev cX14_work : ByteArray := prog_25_method_2_code
def yX14_work : MethodName := ⟨RX14, "work", "(LNativeSubset$Act;LNativeSubset$Call;)J"⟩
def dkwX14_work_2 : List UInt8 := [100, 45, 43, 180, 0, 38, 21, 5, 96, 4, 184, 0, 41, 132, 5, 1, 167, 255, 216, 9, 173]
abbrev dktX14_work_2 : List UInt8 := dkwX14_work_2 ++ []
def dkwX14_work_1 : List UInt8 := [21, 5, 43, 180, 0, 35, 162, 0, 37, 25, 4, 43, 180, 0, 38, 43, 180, 0, 35, 96, 4, 100, 21, 5]
abbrev dktX14_work_1 : List UInt8 := dkwX14_work_1 ++ dktX14_work_2
def dkwX14_work_0 : List UInt8 := [42, 43, 182, 0, 15, 78, 45, 184, 0, 19, 58, 4, 44, 43, 180, 0, 23, 182, 0, 29, 3, 54, 5]
abbrev dktX14_work_0 : List UInt8 := dkwX14_work_0 ++ dktX14_work_1
theorem dksX14_work_0 : cX14_work.data.toList.drop 0 = dktX14_work_0 := by decide +kernel
theorem dksX14_work_1 : cX14_work.data.toList.drop 23 = dktX14_work_1 := dk_seg dksX14_work_0 23 rfl rfl
theorem dksX14_work_2 : cX14_work.data.toList.drop 47 = dktX14_work_2 := dk_seg dksX14_work_1 24 rfl rfl
theorem dX14_work_0 : decode cX14_work 0 = .ok (.aload_n 0, 1) := dk_42 (dk_at dksX14_work_0 0 rfl rfl)
theorem dX14_work_1 : decode cX14_work 1 = .ok (.aload_n 1, 1) := dk_43 (dk_at dksX14_work_0 1 rfl rfl)
theorem dX14_work_2 : decode cX14_work 2 = .ok (.invokevirtual 15, 3) := dk_182 0 15 (dk_at dksX14_work_0 2 rfl rfl)
theorem dX14_work_5 : decode cX14_work 5 = .ok (.astore_n 3, 1) := dk_78 (dk_at dksX14_work_0 5 rfl rfl)
theorem dX14_work_6 : decode cX14_work 6 = .ok (.aload_n 3, 1) := dk_45 (dk_at dksX14_work_0 6 rfl rfl)
theorem dX14_work_7 : decode cX14_work 7 = .ok (.invokestatic 19, 3) := dk_184 0 19 (dk_at dksX14_work_0 7 rfl rfl)
theorem dX14_work_10 : decode cX14_work 10 = .ok (.astore 4, 2) := dk_58 4 (dk_at dksX14_work_0 10 rfl rfl)
theorem dX14_work_12 : decode cX14_work 12 = .ok (.aload_n 2, 1) := dk_44 (dk_at dksX14_work_0 12 rfl rfl)
theorem dX14_work_13 : decode cX14_work 13 = .ok (.aload_n 1, 1) := dk_43 (dk_at dksX14_work_0 13 rfl rfl)
theorem dX14_work_14 : decode cX14_work 14 = .ok (.getfield 23, 3) := dk_180 0 23 (dk_at dksX14_work_0 14 rfl rfl)
theorem dX14_work_17 : decode cX14_work 17 = .ok (.invokevirtual 29, 3) := dk_182 0 29 (dk_at dksX14_work_0 17 rfl rfl)
theorem dX14_work_20 : decode cX14_work 20 = .ok (.iconst 0, 1) := dk_3 (dk_at dksX14_work_0 20 rfl rfl)
theorem dX14_work_21 : decode cX14_work 21 = .ok (.istore 5, 2) := dk_54 5 (dk_at dksX14_work_0 21 rfl rfl)
theorem dX14_work_23 : decode cX14_work 23 = .ok (.iload 5, 2) := dk_21 5 (dk_at dksX14_work_1 0 rfl rfl)
theorem dX14_work_25 : decode cX14_work 25 = .ok (.aload_n 1, 1) := dk_43 (dk_at dksX14_work_1 2 rfl rfl)
theorem dX14_work_26 : decode cX14_work 26 = .ok (.getfield 35, 3) := dk_180 0 35 (dk_at dksX14_work_1 3 rfl rfl)
theorem dX14_work_29 : decode cX14_work 29 = .ok (.if_icmp .ge 37, 3) := dk_162 0 37 (dk_at dksX14_work_1 6 rfl rfl)
theorem dX14_work_32 : decode cX14_work 32 = .ok (.aload 4, 2) := dk_25 4 (dk_at dksX14_work_1 9 rfl rfl)
theorem dX14_work_34 : decode cX14_work 34 = .ok (.aload_n 1, 1) := dk_43 (dk_at dksX14_work_1 11 rfl rfl)
theorem dX14_work_35 : decode cX14_work 35 = .ok (.getfield 38, 3) := dk_180 0 38 (dk_at dksX14_work_1 12 rfl rfl)
theorem dX14_work_38 : decode cX14_work 38 = .ok (.aload_n 1, 1) := dk_43 (dk_at dksX14_work_1 15 rfl rfl)
theorem dX14_work_39 : decode cX14_work 39 = .ok (.getfield 35, 3) := dk_180 0 35 (dk_at dksX14_work_1 16 rfl rfl)
theorem dX14_work_42 : decode cX14_work 42 = .ok (.iadd, 1) := dk_96 (dk_at dksX14_work_1 19 rfl rfl)
theorem dX14_work_43 : decode cX14_work 43 = .ok (.iconst 1, 1) := dk_4 (dk_at dksX14_work_1 20 rfl rfl)
theorem dX14_work_44 : decode cX14_work 44 = .ok (.isub, 1) := dk_100 (dk_at dksX14_work_1 21 rfl rfl)
theorem dX14_work_45 : decode cX14_work 45 = .ok (.iload 5, 2) := dk_21 5 (dk_at dksX14_work_1 22 rfl rfl)
theorem dX14_work_47 : decode cX14_work 47 = .ok (.isub, 1) := dk_100 (dk_at dksX14_work_2 0 rfl rfl)
theorem dX14_work_48 : decode cX14_work 48 = .ok (.aload_n 3, 1) := dk_45 (dk_at dksX14_work_2 1 rfl rfl)
theorem dX14_work_49 : decode cX14_work 49 = .ok (.aload_n 1, 1) := dk_43 (dk_at dksX14_work_2 2 rfl rfl)
theorem dX14_work_50 : decode cX14_work 50 = .ok (.getfield 38, 3) := dk_180 0 38 (dk_at dksX14_work_2 3 rfl rfl)
theorem dX14_work_53 : decode cX14_work 53 = .ok (.iload 5, 2) := dk_21 5 (dk_at dksX14_work_2 6 rfl rfl)
theorem dX14_work_55 : decode cX14_work 55 = .ok (.iadd, 1) := dk_96 (dk_at dksX14_work_2 8 rfl rfl)
theorem dX14_work_56 : decode cX14_work 56 = .ok (.iconst 1, 1) := dk_4 (dk_at dksX14_work_2 9 rfl rfl)
theorem dX14_work_57 : decode cX14_work 57 = .ok (.invokestatic 41, 3) := dk_184 0 41 (dk_at dksX14_work_2 10 rfl rfl)
theorem dX14_work_60 : decode cX14_work 60 = .ok (.iinc 5 1, 3) := dk_132 5 1 (dk_at dksX14_work_2 13 rfl rfl)
theorem dX14_work_63 : decode cX14_work 63 = .ok (.goto (-40), 3) := dk_167 255 216 (dk_at dksX14_work_2 16 rfl rfl)
theorem dX14_work_66 : decode cX14_work 66 = .ok (.lconst 0, 1) := dk_9 (dk_at dksX14_work_2 19 rfl rfl)
theorem dX14_work_67 : decode cX14_work 67 = .ok (.lreturn, 1) := dk_173 (dk_at dksX14_work_2 20 rfl rfl)
theorem q66 : (Jvm.Cond.initialized "NativeSubset$Turning") ∈ lw_all := lw_g (lw_at lw_m1 17 rfl) rfl
theorem q288 : (Jvm.Cond.instantiable "NativeSubset$Turning" (7 : Nat)) ∈ lw_all := lw_g (lw_at lw_m1 239 rfl) rfl
theorem q290 : (Jvm.Cond.instanceMethod ({ cls := "NativeSubset$Turning", name := "<init>", desc := "(LNativeSubset;)V" } : Jvm.MethodName)) ∈ lw_all := lw_g (lw_at lw_m2 1 rfl) rfl
theorem q291 : (Jvm.Cond.code ({ cls := "NativeSubset$Turning", name := "<init>", desc := "(LNativeSubset;)V" } : Jvm.MethodName) prog_25_method_1_code (2 : Nat) (Option.none : Option Jvm.ClassFile.FieldType)) ∈ lw_all := lw_g (lw_at lw_m2 2 rfl) rfl
theorem q292 : (Jvm.Cond.methodLink "NativeSubset$Turning" (9 : Nat) ({ cls := "NativeSubset$Working", name := "<init>", desc := "(LNativeSubset;III)V" } : Jvm.MethodName)) ∈ lw_all := lw_g (lw_at lw_m2 3 rfl) rfl
theorem q293 : (Jvm.Cond.fieldLink "NativeSubset$Turning" (3 : Nat) "NativeSubset$Turning" "this$0" "LNativeSubset;") ∈ lw_all := lw_g (lw_at lw_m2 4 rfl) rfl
theorem q294 : (Jvm.Cond.laysFinal "NativeSubset$Turning" "NativeSubset$Turning" "this$0" "LNativeSubset;") ∈ lw_all := lw_g (lw_at lw_m2 5 rfl) rfl
theorem q295 : (Jvm.Cond.soleField "NativeSubset$Turning" "this$0") ∈ lw_all := lw_g (lw_at lw_m2 6 rfl) rfl
theorem q296 : (Jvm.Cond.laysFinal "NativeSubset$Turning" "NativeSubset$Working" "this$0" "LNativeSubset;") ∈ lw_all := lw_g (lw_at lw_m2 7 rfl) rfl
theorem q297 : (Jvm.Cond.laysFinal "NativeSubset$Turning" "NativeSubset$Asking" "first" "I") ∈ lw_all := lw_g (lw_at lw_m2 8 rfl) rfl
theorem q298 : (Jvm.Cond.laysFinal "NativeSubset$Turning" "NativeSubset$Asking" "last" "I") ∈ lw_all := lw_g (lw_at lw_m2 9 rfl) rfl
theorem q299 : (Jvm.Cond.laysFinal "NativeSubset$Turning" "NativeSubset$Asking" "this$0" "LNativeSubset;") ∈ lw_all := lw_g (lw_at lw_m2 10 rfl) rfl
theorem q300 : (Jvm.Cond.laysFinal "NativeSubset$Turning" "NativeSubset$Helper" "base" "I") ∈ lw_all := lw_g (lw_at lw_m2 11 rfl) rfl
theorem q301 : (Jvm.Cond.laysFinal "NativeSubset$Turning" "NativeSubset$Helper" "this$0" "LNativeSubset;") ∈ lw_all := lw_g (lw_at lw_m2 12 rfl) rfl
theorem q302 : (Jvm.Cond.superclass "NativeSubset$Turning" "NativeSubset$Working") ∈ lw_all := lw_g (lw_at lw_m2 13 rfl) rfl
theorem q511 : (Jvm.Cond.selects "NativeSubset$Turning" ({ cls := "java/lang/Object", name := "getClass", desc := "()Ljava/lang/Class;" } : Jvm.MethodName) ({ cls := "java/lang/Object", name := "getClass", desc := "()Ljava/lang/Class;" } : Jvm.MethodName)) ∈ lw_all := lw_g (lw_at lw_m2 222 rfl) rfl
theorem q696 : (Jvm.Cond.fieldLinkNest "NativeSubset$Turning" (23 : Nat) "NativeSubset$Act" "a" "I" "NativeSubset") ∈ lw_tbl := lw_at lw_m3 167 rfl
theorem q704 : (Jvm.Cond.fieldLinkNest "NativeSubset$Turning" (38 : Nat) "NativeSubset$Act" "i" "I" "NativeSubset") ∈ lw_tbl := lw_at lw_m3 175 rfl
theorem q723 : (Jvm.Cond.fieldLinkNest "NativeSubset$Turning" (35 : Nat) "NativeSubset$Act" "n" "I" "NativeSubset") ∈ lw_tbl := lw_at lw_m3 194 rfl
theorem q773 : (Jvm.Cond.selects "NativeSubset$Turning" ({ cls := "NativeSubset$Helper", name := "hasOther", desc := "()Z" } : Jvm.MethodName) ({ cls := "NativeSubset$Helper", name := "hasOther", desc := "()Z" } : Jvm.MethodName)) ∈ lw_all := lw_g (lw_at lw_m4 4 rfl) rfl
theorem q811 : (Jvm.Cond.selects "NativeSubset$Turning" ({ cls := "NativeSubset$Helper", name := "many", desc := "(LNativeSubset$Act;)I" } : Jvm.MethodName) ({ cls := "NativeSubset$Working", name := "many", desc := "(LNativeSubset$Act;)I" } : Jvm.MethodName)) ∈ lw_all := lw_g (lw_at lw_m4 42 rfl) rfl
theorem q868 : (Jvm.Cond.castable "NativeSubset$Turning" "NativeSubset$Priced") ∈ lw_tbl := lw_at lw_m4 99 rfl
theorem q869 : (Jvm.Cond.selects "NativeSubset$Turning" ({ cls := "NativeSubset$Priced", name := "base", desc := "()I" } : Jvm.MethodName) ({ cls := "NativeSubset$Helper", name := "base", desc := "()I" } : Jvm.MethodName)) ∈ lw_all := lw_g (lw_at lw_m4 100 rfl) rfl
theorem q870 : (Jvm.Cond.unhidden "NativeSubset$Turning" "base" "()I") ∈ lw_tbl := lw_at lw_m4 101 rfl
theorem q912 : (Jvm.Cond.selects "NativeSubset$Turning" ({ cls := "NativeSubset$Priced", name := "length", desc := "(I)I" } : Jvm.MethodName) ({ cls := "NativeSubset$Helper", name := "length", desc := "(I)I" } : Jvm.MethodName)) ∈ lw_all := lw_g (lw_at lw_m4 143 rfl) rfl
theorem q913 : (Jvm.Cond.unhidden "NativeSubset$Turning" "length" "(I)I") ∈ lw_tbl := lw_at lw_m4 144 rfl
theorem q925 : (Jvm.Cond.unhidden "NativeSubset$Turning" "price" "(II)I") ∈ lw_tbl := lw_at lw_m4 156 rfl
theorem q1244 : (Jvm.Cond.selects "NativeSubset$Turning" ({ cls := "NativeSubset$Working", name := "row", desc := "(LNativeSubset$Act;)Ljava/lang/Object;" } : Jvm.MethodName) ({ cls := "NativeSubset$Asking", name := "row", desc := "(LNativeSubset$Act;)Ljava/lang/Object;" } : Jvm.MethodName)) ∈ lw_all := lw_g (lw_at lw_m5 235 rfl) rfl
theorem q1355 : (Jvm.Cond.selects "NativeSubset$Turning" ({ cls := "NativeSubset$Helper", name := "work", desc := "(LNativeSubset$Act;LNativeSubset$Call;)J" } : Jvm.MethodName) ({ cls := "NativeSubset$Turning", name := "work", desc := "(LNativeSubset$Act;LNativeSubset$Call;)J" } : Jvm.MethodName)) ∈ lw_all := lw_g (lw_at lw_m6 106 rfl) rfl
theorem q1356 : (Jvm.Cond.instanceMethod ({ cls := "NativeSubset$Turning", name := "work", desc := "(LNativeSubset$Act;LNativeSubset$Call;)J" } : Jvm.MethodName)) ∈ lw_all := lw_g (lw_at lw_m6 107 rfl) rfl
theorem q1357 : (Jvm.Cond.code ({ cls := "NativeSubset$Turning", name := "work", desc := "(LNativeSubset$Act;LNativeSubset$Call;)J" } : Jvm.MethodName) prog_25_method_2_code (6 : Nat) (Option.some Jvm.ClassFile.FieldType.long)) ∈ lw_all := lw_g (lw_at lw_m6 108 rfl) rfl
theorem q1358 : (Jvm.Cond.methodLink "NativeSubset$Turning" (15 : Nat) ({ cls := "NativeSubset$Turning", name := "part", desc := "(LNativeSubset$Act;)Ljava/lang/Object;" } : Jvm.MethodName)) ∈ lw_all := lw_g (lw_at lw_m6 109 rfl) rfl
theorem q1359 : (Jvm.Cond.sameMethod "NativeSubset$Turning" "NativeSubset$Working" "part" "(LNativeSubset$Act;)Ljava/lang/Object;") ∈ lw_all := lw_g (lw_at lw_m6 110 rfl) rfl
theorem q1360 : (Jvm.Cond.selects "NativeSubset$Turning" ({ cls := "NativeSubset$Turning", name := "part", desc := "(LNativeSubset$Act;)Ljava/lang/Object;" } : Jvm.MethodName) ({ cls := "NativeSubset$Working", name := "part", desc := "(LNativeSubset$Act;)Ljava/lang/Object;" } : Jvm.MethodName)) ∈ lw_all := lw_g (lw_at lw_m6 111 rfl) rfl
theorem q1361 : (Jvm.Cond.methodLinkNest "NativeSubset$Turning" (19 : Nat) ({ cls := "NativeSubset", name := "cloneOf", desc := "(Ljava/lang/Object;)Ljava/lang/Object;" } : Jvm.MethodName) "NativeSubset") ∈ lw_tbl := lw_at lw_m6 112 rfl
theorem q1362 : (Jvm.Cond.methodLink "NativeSubset$Turning" (29 : Nat) ({ cls := "NativeSubset$Call", name := "keep", desc := "(I)V" } : Jvm.MethodName)) ∈ lw_all := lw_g (lw_at lw_m6 113 rfl) rfl
theorem q1363 : (Jvm.Cond.methodLink "NativeSubset$Turning" (41 : Nat) ({ cls := "java/lang/System", name := "arraycopy", desc := "(Ljava/lang/Object;ILjava/lang/Object;II)V" } : Jvm.MethodName)) ∈ lw_all := lw_g (lw_at lw_m6 114 rfl) rfl
theorem q1848 : (Jvm.Cond.castable "NativeSubset$Turning" "java/lang/Object") ∈ lw_tbl := lw_at lw_m8 119 rfl
theorem q1872 : (Jvm.Cond.castable "NativeSubset$Turning" "NativeSubset$Helper") ∈ lw_tbl := lw_at lw_m8 143 rfl
theorem in_X14 : ∀ w ∈ wsX140, w ∈ lw_all := lw_in wsX140 [300, 301, 297, 298, 299, 296, 294] (by decide +kernel) (by decide +kernel)
/-! NativeSubset$Sorting -/
def RX15 : String := "NativeSubset$Sorting"
def TX15 : u_T := fun k => match k with
  | 0 => ("NativeSubset$Helper", "base", "I", true)
  | 1 => ("NativeSubset$Helper", "this$0", "LNativeSubset;", true)
  | 2 => ("NativeSubset$Asking", "first", "I", true)
  | 3 => ("NativeSubset$Asking", "last", "I", true)
  | 4 => ("NativeSubset$Asking", "this$0", "LNativeSubset;", true)
  | 5 => ("NativeSubset$Working", "this$0", "LNativeSubset;", true)
  | _ => ("NativeSubset$Sorting", "this$0", "LNativeSubset;", true)
def tyX15 : Nat → FieldType := fun k => match k with
  | 0 => .int
  | 1 => .object "NativeSubset"
  | 2 => .int
  | 3 => .int
  | 4 => .object "NativeSubset"
  | 5 => .object "NativeSubset"
  | _ => .object "NativeSubset"
abbrev wsX150 : List Cond := u_ws RX15 TX15 7
-- two fields of one name: no nmX15
theorem tyX15_ok : ∀ k, k < 7 → parseFieldDescriptor (TX15 k).2.2.1 = some (tyX15 k) := by decide +kernel
abbrev cX15_init : ByteArray := prog_23_method_1_code
def yX15_init : MethodName := ⟨RX15, "<init>", "(LNativeSubset;)V"⟩
def dkwX15_init_0 : List UInt8 := [42, 43, 181, 0, 3, 42, 43, 5, 4, 16, 7, 183, 0, 9, 177]
abbrev dktX15_init_0 : List UInt8 := dkwX15_init_0 ++ []
theorem dksX15_init_0 : cX15_init.data.toList.drop 0 = dktX15_init_0 := by decide +kernel
theorem dX15_init_0 : decode cX15_init 0 = .ok (.aload_n 0, 1) := dk_42 (dk_at dksX15_init_0 0 rfl rfl)
theorem dX15_init_1 : decode cX15_init 1 = .ok (.aload_n 1, 1) := dk_43 (dk_at dksX15_init_0 1 rfl rfl)
theorem dX15_init_2 : decode cX15_init 2 = .ok (.putfield 3, 3) := dk_181 0 3 (dk_at dksX15_init_0 2 rfl rfl)
theorem dX15_init_5 : decode cX15_init 5 = .ok (.aload_n 0, 1) := dk_42 (dk_at dksX15_init_0 5 rfl rfl)
theorem dX15_init_6 : decode cX15_init 6 = .ok (.aload_n 1, 1) := dk_43 (dk_at dksX15_init_0 6 rfl rfl)
theorem dX15_init_7 : decode cX15_init 7 = .ok (.iconst 2, 1) := dk_5 (dk_at dksX15_init_0 7 rfl rfl)
theorem dX15_init_8 : decode cX15_init 8 = .ok (.iconst 1, 1) := dk_4 (dk_at dksX15_init_0 8 rfl rfl)
theorem dX15_init_9 : decode cX15_init 9 = .ok (.bipush 7, 2) := dk_16 7 (dk_at dksX15_init_0 9 rfl rfl)
theorem dX15_init_11 : decode cX15_init 11 = .ok (.invokespecial 9, 3) := dk_183 0 9 (dk_at dksX15_init_0 11 rfl rfl)
theorem dX15_init_14 : decode cX15_init 14 = .ok (.return_, 1) := dk_177 (dk_at dksX15_init_0 14 rfl rfl)
abbrev cX15_length : ByteArray := prog_23_method_2_code
def yX15_length : MethodName := ⟨RX15, "length", "(I)I"⟩
def dkwX15_length_0 : List UInt8 := [27, 42, 27, 183, 0, 15, 104, 172]
abbrev dktX15_length_0 : List UInt8 := dkwX15_length_0 ++ []
theorem dksX15_length_0 : cX15_length.data.toList.drop 0 = dktX15_length_0 := by decide +kernel
theorem dX15_length_0 : decode cX15_length 0 = .ok (.iload_n 1, 1) := dk_27 (dk_at dksX15_length_0 0 rfl rfl)
theorem dX15_length_1 : decode cX15_length 1 = .ok (.aload_n 0, 1) := dk_42 (dk_at dksX15_length_0 1 rfl rfl)
theorem dX15_length_2 : decode cX15_length 2 = .ok (.iload_n 1, 1) := dk_27 (dk_at dksX15_length_0 2 rfl rfl)
theorem dX15_length_3 : decode cX15_length 3 = .ok (.invokespecial 15, 3) := dk_183 0 15 (dk_at dksX15_length_0 3 rfl rfl)
theorem dX15_length_6 : decode cX15_length 6 = .ok (.imul, 1) := dk_104 (dk_at dksX15_length_0 6 rfl rfl)
theorem dX15_length_7 : decode cX15_length 7 = .ok (.ireturn, 1) := dk_172 (dk_at dksX15_length_0 7 rfl rfl)
abbrev cX15_work : ByteArray := prog_23_method_3_code
def yX15_work : MethodName := ⟨RX15, "work", "(LNativeSubset$Act;LNativeSubset$Call;)J"⟩
def dkwX15_work_5 : List UInt8 := [167, 255, 170, 9, 173]
abbrev dktX15_work_5 : List UInt8 := dkwX15_work_5 ++ []
def dkwX15_work_4 : List UInt8 := [4, 96, 21, 5, 21, 6, 100, 184, 0, 49, 25, 4, 3, 45, 21, 6, 4, 184, 0, 49, 132, 5, 1]
abbrev dktX15_work_4 : List UInt8 := dkwX15_work_4 ++ dktX15_work_5
def dkwX15_work_3 : List UInt8 := [3, 45, 21, 6, 4, 100, 184, 0, 55, 153, 0, 9, 132, 6, 255, 167, 255, 230, 45, 21, 6, 45, 21, 6]
abbrev dktX15_work_3 : List UInt8 := dkwX15_work_3 ++ dktX15_work_4
def dkwX15_work_2 : List UInt8 := [21, 5, 25, 4, 3, 4, 184, 0, 49, 21, 5, 54, 6, 21, 6, 43, 180, 0, 43, 164, 0, 23, 25, 4]
abbrev dktX15_work_2 : List UInt8 := dkwX15_work_2 ++ dktX15_work_3
def dkwX15_work_1 : List UInt8 := [43, 180, 0, 43, 4, 96, 54, 5, 21, 5, 43, 180, 0, 43, 43, 180, 0, 46, 96, 162, 0, 78, 45]
abbrev dktX15_work_1 : List UInt8 := dkwX15_work_1 ++ dktX15_work_2
def dkwX15_work_0 : List UInt8 := [42, 43, 182, 0, 19, 78, 44, 43, 180, 0, 23, 182, 0, 29, 45, 184, 0, 35, 4, 184, 0, 39, 58, 4]
abbrev dktX15_work_0 : List UInt8 := dkwX15_work_0 ++ dktX15_work_1
theorem dksX15_work_0 : cX15_work.data.toList.drop 0 = dktX15_work_0 := by decide +kernel
theorem dksX15_work_1 : cX15_work.data.toList.drop 24 = dktX15_work_1 := dk_seg dksX15_work_0 24 rfl rfl
theorem dksX15_work_2 : cX15_work.data.toList.drop 47 = dktX15_work_2 := dk_seg dksX15_work_1 23 rfl rfl
theorem dksX15_work_3 : cX15_work.data.toList.drop 71 = dktX15_work_3 := dk_seg dksX15_work_2 24 rfl rfl
theorem dksX15_work_4 : cX15_work.data.toList.drop 95 = dktX15_work_4 := dk_seg dksX15_work_3 24 rfl rfl
theorem dksX15_work_5 : cX15_work.data.toList.drop 118 = dktX15_work_5 := dk_seg dksX15_work_4 23 rfl rfl
theorem dX15_work_0 : decode cX15_work 0 = .ok (.aload_n 0, 1) := dk_42 (dk_at dksX15_work_0 0 rfl rfl)
theorem dX15_work_1 : decode cX15_work 1 = .ok (.aload_n 1, 1) := dk_43 (dk_at dksX15_work_0 1 rfl rfl)
theorem dX15_work_2 : decode cX15_work 2 = .ok (.invokevirtual 19, 3) := dk_182 0 19 (dk_at dksX15_work_0 2 rfl rfl)
theorem dX15_work_5 : decode cX15_work 5 = .ok (.astore_n 3, 1) := dk_78 (dk_at dksX15_work_0 5 rfl rfl)
theorem dX15_work_6 : decode cX15_work 6 = .ok (.aload_n 2, 1) := dk_44 (dk_at dksX15_work_0 6 rfl rfl)
theorem dX15_work_7 : decode cX15_work 7 = .ok (.aload_n 1, 1) := dk_43 (dk_at dksX15_work_0 7 rfl rfl)
theorem dX15_work_8 : decode cX15_work 8 = .ok (.getfield 23, 3) := dk_180 0 23 (dk_at dksX15_work_0 8 rfl rfl)
theorem dX15_work_11 : decode cX15_work 11 = .ok (.invokevirtual 29, 3) := dk_182 0 29 (dk_at dksX15_work_0 11 rfl rfl)
theorem dX15_work_14 : decode cX15_work 14 = .ok (.aload_n 3, 1) := dk_45 (dk_at dksX15_work_0 14 rfl rfl)
theorem dX15_work_15 : decode cX15_work 15 = .ok (.invokestatic 35, 3) := dk_184 0 35 (dk_at dksX15_work_0 15 rfl rfl)
theorem dX15_work_18 : decode cX15_work 18 = .ok (.iconst 1, 1) := dk_4 (dk_at dksX15_work_0 18 rfl rfl)
theorem dX15_work_19 : decode cX15_work 19 = .ok (.invokestatic 39, 3) := dk_184 0 39 (dk_at dksX15_work_0 19 rfl rfl)
theorem dX15_work_22 : decode cX15_work 22 = .ok (.astore 4, 2) := dk_58 4 (dk_at dksX15_work_0 22 rfl rfl)
theorem dX15_work_24 : decode cX15_work 24 = .ok (.aload_n 1, 1) := dk_43 (dk_at dksX15_work_1 0 rfl rfl)
theorem dX15_work_25 : decode cX15_work 25 = .ok (.getfield 43, 3) := dk_180 0 43 (dk_at dksX15_work_1 1 rfl rfl)
theorem dX15_work_28 : decode cX15_work 28 = .ok (.iconst 1, 1) := dk_4 (dk_at dksX15_work_1 4 rfl rfl)
theorem dX15_work_29 : decode cX15_work 29 = .ok (.iadd, 1) := dk_96 (dk_at dksX15_work_1 5 rfl rfl)
theorem dX15_work_30 : decode cX15_work 30 = .ok (.istore 5, 2) := dk_54 5 (dk_at dksX15_work_1 6 rfl rfl)
theorem dX15_work_32 : decode cX15_work 32 = .ok (.iload 5, 2) := dk_21 5 (dk_at dksX15_work_1 8 rfl rfl)
theorem dX15_work_34 : decode cX15_work 34 = .ok (.aload_n 1, 1) := dk_43 (dk_at dksX15_work_1 10 rfl rfl)
theorem dX15_work_35 : decode cX15_work 35 = .ok (.getfield 43, 3) := dk_180 0 43 (dk_at dksX15_work_1 11 rfl rfl)
theorem dX15_work_38 : decode cX15_work 38 = .ok (.aload_n 1, 1) := dk_43 (dk_at dksX15_work_1 14 rfl rfl)
theorem dX15_work_39 : decode cX15_work 39 = .ok (.getfield 46, 3) := dk_180 0 46 (dk_at dksX15_work_1 15 rfl rfl)
theorem dX15_work_42 : decode cX15_work 42 = .ok (.iadd, 1) := dk_96 (dk_at dksX15_work_1 18 rfl rfl)
theorem dX15_work_43 : decode cX15_work 43 = .ok (.if_icmp .ge 78, 3) := dk_162 0 78 (dk_at dksX15_work_1 19 rfl rfl)
theorem dX15_work_46 : decode cX15_work 46 = .ok (.aload_n 3, 1) := dk_45 (dk_at dksX15_work_1 22 rfl rfl)
theorem dX15_work_47 : decode cX15_work 47 = .ok (.iload 5, 2) := dk_21 5 (dk_at dksX15_work_2 0 rfl rfl)
theorem dX15_work_49 : decode cX15_work 49 = .ok (.aload 4, 2) := dk_25 4 (dk_at dksX15_work_2 2 rfl rfl)
theorem dX15_work_51 : decode cX15_work 51 = .ok (.iconst 0, 1) := dk_3 (dk_at dksX15_work_2 4 rfl rfl)
theorem dX15_work_52 : decode cX15_work 52 = .ok (.iconst 1, 1) := dk_4 (dk_at dksX15_work_2 5 rfl rfl)
theorem dX15_work_53 : decode cX15_work 53 = .ok (.invokestatic 49, 3) := dk_184 0 49 (dk_at dksX15_work_2 6 rfl rfl)
theorem dX15_work_56 : decode cX15_work 56 = .ok (.iload 5, 2) := dk_21 5 (dk_at dksX15_work_2 9 rfl rfl)
theorem dX15_work_58 : decode cX15_work 58 = .ok (.istore 6, 2) := dk_54 6 (dk_at dksX15_work_2 11 rfl rfl)
theorem dX15_work_60 : decode cX15_work 60 = .ok (.iload 6, 2) := dk_21 6 (dk_at dksX15_work_2 13 rfl rfl)
theorem dX15_work_62 : decode cX15_work 62 = .ok (.aload_n 1, 1) := dk_43 (dk_at dksX15_work_2 15 rfl rfl)
theorem dX15_work_63 : decode cX15_work 63 = .ok (.getfield 43, 3) := dk_180 0 43 (dk_at dksX15_work_2 16 rfl rfl)
theorem dX15_work_66 : decode cX15_work 66 = .ok (.if_icmp .le 23, 3) := dk_164 0 23 (dk_at dksX15_work_2 19 rfl rfl)
theorem dX15_work_69 : decode cX15_work 69 = .ok (.aload 4, 2) := dk_25 4 (dk_at dksX15_work_2 22 rfl rfl)
theorem dX15_work_71 : decode cX15_work 71 = .ok (.iconst 0, 1) := dk_3 (dk_at dksX15_work_3 0 rfl rfl)
theorem dX15_work_72 : decode cX15_work 72 = .ok (.aload_n 3, 1) := dk_45 (dk_at dksX15_work_3 1 rfl rfl)
theorem dX15_work_73 : decode cX15_work 73 = .ok (.iload 6, 2) := dk_21 6 (dk_at dksX15_work_3 2 rfl rfl)
theorem dX15_work_75 : decode cX15_work 75 = .ok (.iconst 1, 1) := dk_4 (dk_at dksX15_work_3 4 rfl rfl)
theorem dX15_work_76 : decode cX15_work 76 = .ok (.isub, 1) := dk_100 (dk_at dksX15_work_3 5 rfl rfl)
theorem dX15_work_77 : decode cX15_work 77 = .ok (.invokestatic 55, 3) := dk_184 0 55 (dk_at dksX15_work_3 6 rfl rfl)
theorem dX15_work_80 : decode cX15_work 80 = .ok (.ifCond .eq 9, 3) := dk_153 0 9 (dk_at dksX15_work_3 9 rfl rfl)
theorem dX15_work_83 : decode cX15_work 83 = .ok (.iinc 6 (-1), 3) := dk_132 6 255 (dk_at dksX15_work_3 12 rfl rfl)
theorem dX15_work_86 : decode cX15_work 86 = .ok (.goto (-26), 3) := dk_167 255 230 (dk_at dksX15_work_3 15 rfl rfl)
theorem dX15_work_89 : decode cX15_work 89 = .ok (.aload_n 3, 1) := dk_45 (dk_at dksX15_work_3 18 rfl rfl)
theorem dX15_work_90 : decode cX15_work 90 = .ok (.iload 6, 2) := dk_21 6 (dk_at dksX15_work_3 19 rfl rfl)
theorem dX15_work_92 : decode cX15_work 92 = .ok (.aload_n 3, 1) := dk_45 (dk_at dksX15_work_3 21 rfl rfl)
theorem dX15_work_93 : decode cX15_work 93 = .ok (.iload 6, 2) := dk_21 6 (dk_at dksX15_work_3 22 rfl rfl)
theorem dX15_work_95 : decode cX15_work 95 = .ok (.iconst 1, 1) := dk_4 (dk_at dksX15_work_4 0 rfl rfl)
theorem dX15_work_96 : decode cX15_work 96 = .ok (.iadd, 1) := dk_96 (dk_at dksX15_work_4 1 rfl rfl)
theorem dX15_work_97 : decode cX15_work 97 = .ok (.iload 5, 2) := dk_21 5 (dk_at dksX15_work_4 2 rfl rfl)
theorem dX15_work_99 : decode cX15_work 99 = .ok (.iload 6, 2) := dk_21 6 (dk_at dksX15_work_4 4 rfl rfl)
theorem dX15_work_101 : decode cX15_work 101 = .ok (.isub, 1) := dk_100 (dk_at dksX15_work_4 6 rfl rfl)
theorem dX15_work_102 : decode cX15_work 102 = .ok (.invokestatic 49, 3) := dk_184 0 49 (dk_at dksX15_work_4 7 rfl rfl)
theorem dX15_work_105 : decode cX15_work 105 = .ok (.aload 4, 2) := dk_25 4 (dk_at dksX15_work_4 10 rfl rfl)
theorem dX15_work_107 : decode cX15_work 107 = .ok (.iconst 0, 1) := dk_3 (dk_at dksX15_work_4 12 rfl rfl)
theorem dX15_work_108 : decode cX15_work 108 = .ok (.aload_n 3, 1) := dk_45 (dk_at dksX15_work_4 13 rfl rfl)
theorem dX15_work_109 : decode cX15_work 109 = .ok (.iload 6, 2) := dk_21 6 (dk_at dksX15_work_4 14 rfl rfl)
theorem dX15_work_111 : decode cX15_work 111 = .ok (.iconst 1, 1) := dk_4 (dk_at dksX15_work_4 16 rfl rfl)
theorem dX15_work_112 : decode cX15_work 112 = .ok (.invokestatic 49, 3) := dk_184 0 49 (dk_at dksX15_work_4 17 rfl rfl)
theorem dX15_work_115 : decode cX15_work 115 = .ok (.iinc 5 1, 3) := dk_132 5 1 (dk_at dksX15_work_4 20 rfl rfl)
theorem dX15_work_118 : decode cX15_work 118 = .ok (.goto (-86), 3) := dk_167 255 170 (dk_at dksX15_work_5 0 rfl rfl)
theorem dX15_work_121 : decode cX15_work 121 = .ok (.lconst 0, 1) := dk_9 (dk_at dksX15_work_5 3 rfl rfl)
theorem dX15_work_122 : decode cX15_work 122 = .ok (.lreturn, 1) := dk_173 (dk_at dksX15_work_5 4 rfl rfl)
theorem q67 : (Jvm.Cond.initialized "NativeSubset$Sorting") ∈ lw_all := lw_g (lw_at lw_m1 18 rfl) rfl
theorem q304 : (Jvm.Cond.instantiable "NativeSubset$Sorting" (7 : Nat)) ∈ lw_all := lw_g (lw_at lw_m2 15 rfl) rfl
theorem q306 : (Jvm.Cond.instanceMethod ({ cls := "NativeSubset$Sorting", name := "<init>", desc := "(LNativeSubset;)V" } : Jvm.MethodName)) ∈ lw_all := lw_g (lw_at lw_m2 17 rfl) rfl
theorem q307 : (Jvm.Cond.code ({ cls := "NativeSubset$Sorting", name := "<init>", desc := "(LNativeSubset;)V" } : Jvm.MethodName) prog_23_method_1_code (2 : Nat) (Option.none : Option Jvm.ClassFile.FieldType)) ∈ lw_all := lw_g (lw_at lw_m2 18 rfl) rfl
theorem q308 : (Jvm.Cond.methodLink "NativeSubset$Sorting" (9 : Nat) ({ cls := "NativeSubset$Working", name := "<init>", desc := "(LNativeSubset;III)V" } : Jvm.MethodName)) ∈ lw_all := lw_g (lw_at lw_m2 19 rfl) rfl
theorem q309 : (Jvm.Cond.fieldLink "NativeSubset$Sorting" (3 : Nat) "NativeSubset$Sorting" "this$0" "LNativeSubset;") ∈ lw_all := lw_g (lw_at lw_m2 20 rfl) rfl
theorem q310 : (Jvm.Cond.laysFinal "NativeSubset$Sorting" "NativeSubset$Sorting" "this$0" "LNativeSubset;") ∈ lw_all := lw_g (lw_at lw_m2 21 rfl) rfl
theorem q311 : (Jvm.Cond.soleField "NativeSubset$Sorting" "this$0") ∈ lw_all := lw_g (lw_at lw_m2 22 rfl) rfl
theorem q312 : (Jvm.Cond.laysFinal "NativeSubset$Sorting" "NativeSubset$Working" "this$0" "LNativeSubset;") ∈ lw_all := lw_g (lw_at lw_m2 23 rfl) rfl
theorem q313 : (Jvm.Cond.laysFinal "NativeSubset$Sorting" "NativeSubset$Asking" "first" "I") ∈ lw_all := lw_g (lw_at lw_m2 24 rfl) rfl
theorem q314 : (Jvm.Cond.laysFinal "NativeSubset$Sorting" "NativeSubset$Asking" "last" "I") ∈ lw_all := lw_g (lw_at lw_m2 25 rfl) rfl
theorem q315 : (Jvm.Cond.laysFinal "NativeSubset$Sorting" "NativeSubset$Asking" "this$0" "LNativeSubset;") ∈ lw_all := lw_g (lw_at lw_m2 26 rfl) rfl
theorem q316 : (Jvm.Cond.laysFinal "NativeSubset$Sorting" "NativeSubset$Helper" "base" "I") ∈ lw_all := lw_g (lw_at lw_m2 27 rfl) rfl
theorem q317 : (Jvm.Cond.laysFinal "NativeSubset$Sorting" "NativeSubset$Helper" "this$0" "LNativeSubset;") ∈ lw_all := lw_g (lw_at lw_m2 28 rfl) rfl
theorem q318 : (Jvm.Cond.superclass "NativeSubset$Sorting" "NativeSubset$Working") ∈ lw_all := lw_g (lw_at lw_m2 29 rfl) rfl
theorem q509 : (Jvm.Cond.selects "NativeSubset$Sorting" ({ cls := "java/lang/Object", name := "getClass", desc := "()Ljava/lang/Class;" } : Jvm.MethodName) ({ cls := "java/lang/Object", name := "getClass", desc := "()Ljava/lang/Class;" } : Jvm.MethodName)) ∈ lw_all := lw_g (lw_at lw_m2 220 rfl) rfl
theorem q699 : (Jvm.Cond.fieldLinkNest "NativeSubset$Sorting" (23 : Nat) "NativeSubset$Act" "a" "I" "NativeSubset") ∈ lw_tbl := lw_at lw_m3 170 rfl
theorem q708 : (Jvm.Cond.fieldLinkNest "NativeSubset$Sorting" (43 : Nat) "NativeSubset$Act" "i" "I" "NativeSubset") ∈ lw_tbl := lw_at lw_m3 179 rfl
theorem q727 : (Jvm.Cond.fieldLinkNest "NativeSubset$Sorting" (46 : Nat) "NativeSubset$Act" "n" "I" "NativeSubset") ∈ lw_tbl := lw_at lw_m3 198 rfl
theorem q771 : (Jvm.Cond.selects "NativeSubset$Sorting" ({ cls := "NativeSubset$Helper", name := "hasOther", desc := "()Z" } : Jvm.MethodName) ({ cls := "NativeSubset$Helper", name := "hasOther", desc := "()Z" } : Jvm.MethodName)) ∈ lw_all := lw_g (lw_at lw_m4 2 rfl) rfl
theorem q809 : (Jvm.Cond.selects "NativeSubset$Sorting" ({ cls := "NativeSubset$Helper", name := "many", desc := "(LNativeSubset$Act;)I" } : Jvm.MethodName) ({ cls := "NativeSubset$Working", name := "many", desc := "(LNativeSubset$Act;)I" } : Jvm.MethodName)) ∈ lw_all := lw_g (lw_at lw_m4 40 rfl) rfl
theorem q862 : (Jvm.Cond.castable "NativeSubset$Sorting" "NativeSubset$Priced") ∈ lw_tbl := lw_at lw_m4 93 rfl
theorem q863 : (Jvm.Cond.selects "NativeSubset$Sorting" ({ cls := "NativeSubset$Priced", name := "base", desc := "()I" } : Jvm.MethodName) ({ cls := "NativeSubset$Helper", name := "base", desc := "()I" } : Jvm.MethodName)) ∈ lw_all := lw_g (lw_at lw_m4 94 rfl) rfl
theorem q864 : (Jvm.Cond.unhidden "NativeSubset$Sorting" "base" "()I") ∈ lw_tbl := lw_at lw_m4 95 rfl
theorem q900 : (Jvm.Cond.selects "NativeSubset$Sorting" ({ cls := "NativeSubset$Priced", name := "length", desc := "(I)I" } : Jvm.MethodName) ({ cls := "NativeSubset$Sorting", name := "length", desc := "(I)I" } : Jvm.MethodName)) ∈ lw_all := lw_g (lw_at lw_m4 131 rfl) rfl
theorem q901 : (Jvm.Cond.unhidden "NativeSubset$Sorting" "length" "(I)I") ∈ lw_tbl := lw_at lw_m4 132 rfl
theorem q902 : (Jvm.Cond.instanceMethod ({ cls := "NativeSubset$Sorting", name := "length", desc := "(I)I" } : Jvm.MethodName)) ∈ lw_all := lw_g (lw_at lw_m4 133 rfl) rfl
theorem q903 : (Jvm.Cond.publicMethod ({ cls := "NativeSubset$Sorting", name := "length", desc := "(I)I" } : Jvm.MethodName)) ∈ lw_tbl := lw_at lw_m4 134 rfl
theorem q904 : (Jvm.Cond.code ({ cls := "NativeSubset$Sorting", name := "length", desc := "(I)I" } : Jvm.MethodName) prog_23_method_2_code (2 : Nat) (Option.some Jvm.ClassFile.FieldType.int)) ∈ lw_all := lw_g (lw_at lw_m4 135 rfl) rfl
theorem q905 : (Jvm.Cond.methodLink "NativeSubset$Sorting" (15 : Nat) ({ cls := "NativeSubset$Working", name := "length", desc := "(I)I" } : Jvm.MethodName)) ∈ lw_all := lw_g (lw_at lw_m4 136 rfl) rfl
theorem q923 : (Jvm.Cond.unhidden "NativeSubset$Sorting" "price" "(II)I") ∈ lw_tbl := lw_at lw_m4 154 rfl
theorem q1243 : (Jvm.Cond.selects "NativeSubset$Sorting" ({ cls := "NativeSubset$Working", name := "row", desc := "(LNativeSubset$Act;)Ljava/lang/Object;" } : Jvm.MethodName) ({ cls := "NativeSubset$Asking", name := "row", desc := "(LNativeSubset$Act;)Ljava/lang/Object;" } : Jvm.MethodName)) ∈ lw_all := lw_g (lw_at lw_m5 234 rfl) rfl
theorem q1313 : (Jvm.Cond.selects "NativeSubset$Sorting" ({ cls := "NativeSubset$Helper", name := "work", desc := "(LNativeSubset$Act;LNativeSubset$Call;)J" } : Jvm.MethodName) ({ cls := "NativeSubset$Sorting", name := "work", desc := "(LNativeSubset$Act;LNativeSubset$Call;)J" } : Jvm.MethodName)) ∈ lw_all := lw_g (lw_at lw_m6 64 rfl) rfl
theorem q1314 : (Jvm.Cond.instanceMethod ({ cls := "NativeSubset$Sorting", name := "work", desc := "(LNativeSubset$Act;LNativeSubset$Call;)J" } : Jvm.MethodName)) ∈ lw_all := lw_g (lw_at lw_m6 65 rfl) rfl
theorem q1315 : (Jvm.Cond.code ({ cls := "NativeSubset$Sorting", name := "work", desc := "(LNativeSubset$Act;LNativeSubset$Call;)J" } : Jvm.MethodName) prog_23_method_3_code (7 : Nat) (Option.some Jvm.ClassFile.FieldType.long)) ∈ lw_all := lw_g (lw_at lw_m6 66 rfl) rfl
theorem q1316 : (Jvm.Cond.methodLink "NativeSubset$Sorting" (19 : Nat) ({ cls := "NativeSubset$Sorting", name := "part", desc := "(LNativeSubset$Act;)Ljava/lang/Object;" } : Jvm.MethodName)) ∈ lw_all := lw_g (lw_at lw_m6 67 rfl) rfl
theorem q1317 : (Jvm.Cond.sameMethod "NativeSubset$Sorting" "NativeSubset$Working" "part" "(LNativeSubset$Act;)Ljava/lang/Object;") ∈ lw_all := lw_g (lw_at lw_m6 68 rfl) rfl
theorem q1318 : (Jvm.Cond.selects "NativeSubset$Sorting" ({ cls := "NativeSubset$Sorting", name := "part", desc := "(LNativeSubset$Act;)Ljava/lang/Object;" } : Jvm.MethodName) ({ cls := "NativeSubset$Working", name := "part", desc := "(LNativeSubset$Act;)Ljava/lang/Object;" } : Jvm.MethodName)) ∈ lw_all := lw_g (lw_at lw_m6 69 rfl) rfl
theorem q1319 : (Jvm.Cond.methodLink "NativeSubset$Sorting" (29 : Nat) ({ cls := "NativeSubset$Call", name := "keep", desc := "(I)V" } : Jvm.MethodName)) ∈ lw_all := lw_g (lw_at lw_m6 70 rfl) rfl
theorem q1320 : (Jvm.Cond.methodLinkNest "NativeSubset$Sorting" (35 : Nat) ({ cls := "NativeSubset", name := "kindOf", desc := "(Ljava/lang/Object;)I" } : Jvm.MethodName) "NativeSubset") ∈ lw_tbl := lw_at lw_m6 71 rfl
theorem q1321 : (Jvm.Cond.methodLinkNest "NativeSubset$Sorting" (39 : Nat) ({ cls := "NativeSubset", name := "made", desc := "(II)Ljava/lang/Object;" } : Jvm.MethodName) "NativeSubset") ∈ lw_tbl := lw_at lw_m6 72 rfl
theorem q1322 : (Jvm.Cond.methodLink "NativeSubset$Sorting" (49 : Nat) ({ cls := "java/lang/System", name := "arraycopy", desc := "(Ljava/lang/Object;ILjava/lang/Object;II)V" } : Jvm.MethodName)) ∈ lw_all := lw_g (lw_at lw_m6 73 rfl) rfl
theorem q1323 : (Jvm.Cond.methodLinkNest "NativeSubset$Sorting" (55 : Nat) ({ cls := "NativeSubset", name := "isBelow", desc := "(Ljava/lang/Object;ILjava/lang/Object;I)Z" } : Jvm.MethodName) "NativeSubset") ∈ lw_tbl := lw_at lw_m6 74 rfl
theorem q1849 : (Jvm.Cond.castable "NativeSubset$Sorting" "java/lang/Object") ∈ lw_tbl := lw_at lw_m8 120 rfl
theorem q1873 : (Jvm.Cond.castable "NativeSubset$Sorting" "NativeSubset$Helper") ∈ lw_tbl := lw_at lw_m8 144 rfl
theorem in_X15 : ∀ w ∈ wsX150, w ∈ lw_all := lw_in wsX150 [316, 317, 313, 314, 315, 312, 310] (by decide +kernel) (by decide +kernel)
/-! NativeSubset$Finding -/
def RX16 : String := "NativeSubset$Finding"
def TX16 : u_T := fun k => match k with
  | 0 => ("NativeSubset$Helper", "base", "I", true)
  | 1 => ("NativeSubset$Helper", "this$0", "LNativeSubset;", true)
  | 2 => ("NativeSubset$Asking", "first", "I", true)
  | 3 => ("NativeSubset$Asking", "last", "I", true)
  | 4 => ("NativeSubset$Asking", "this$0", "LNativeSubset;", true)
  | 5 => ("NativeSubset$Working", "this$0", "LNativeSubset;", true)
  | _ => ("NativeSubset$Finding", "this$0", "LNativeSubset;", true)
def tyX16 : Nat → FieldType := fun k => match k with
  | 0 => .int
  | 1 => .object "NativeSubset"
  | 2 => .int
  | 3 => .int
  | 4 => .object "NativeSubset"
  | 5 => .object "NativeSubset"
  | _ => .object "NativeSubset"
abbrev wsX160 : List Cond := u_ws RX16 TX16 7
-- two fields of one name: no nmX16
theorem tyX16_ok : ∀ k, k < 7 → parseFieldDescriptor (TX16 k).2.2.1 = some (tyX16 k) := by decide +kernel
abbrev cX16_init : ByteArray := prog_14_method_1_code
def yX16_init : MethodName := ⟨RX16, "<init>", "(LNativeSubset;)V"⟩
def dkwX16_init_0 : List UInt8 := [42, 43, 181, 0, 3, 42, 43, 4, 3, 16, 7, 183, 0, 9, 177]
abbrev dktX16_init_0 : List UInt8 := dkwX16_init_0 ++ []
theorem dksX16_init_0 : cX16_init.data.toList.drop 0 = dktX16_init_0 := by decide +kernel
theorem dX16_init_0 : decode cX16_init 0 = .ok (.aload_n 0, 1) := dk_42 (dk_at dksX16_init_0 0 rfl rfl)
theorem dX16_init_1 : decode cX16_init 1 = .ok (.aload_n 1, 1) := dk_43 (dk_at dksX16_init_0 1 rfl rfl)
theorem dX16_init_2 : decode cX16_init 2 = .ok (.putfield 3, 3) := dk_181 0 3 (dk_at dksX16_init_0 2 rfl rfl)
theorem dX16_init_5 : decode cX16_init 5 = .ok (.aload_n 0, 1) := dk_42 (dk_at dksX16_init_0 5 rfl rfl)
theorem dX16_init_6 : decode cX16_init 6 = .ok (.aload_n 1, 1) := dk_43 (dk_at dksX16_init_0 6 rfl rfl)
theorem dX16_init_7 : decode cX16_init 7 = .ok (.iconst 1, 1) := dk_4 (dk_at dksX16_init_0 7 rfl rfl)
theorem dX16_init_8 : decode cX16_init 8 = .ok (.iconst 0, 1) := dk_3 (dk_at dksX16_init_0 8 rfl rfl)
theorem dX16_init_9 : decode cX16_init 9 = .ok (.bipush 7, 2) := dk_16 7 (dk_at dksX16_init_0 9 rfl rfl)
theorem dX16_init_11 : decode cX16_init 11 = .ok (.invokespecial 9, 3) := dk_183 0 9 (dk_at dksX16_init_0 11 rfl rfl)
theorem dX16_init_14 : decode cX16_init 14 = .ok (.return_, 1) := dk_177 (dk_at dksX16_init_0 14 rfl rfl)
abbrev cX16_work : ByteArray := prog_14_method_2_code
def yX16_work : MethodName := ⟨RX16, "work", "(LNativeSubset$Act;LNativeSubset$Call;)J"⟩
def dkwX16_work_5 : List UInt8 := [173, 132, 5, 1, 167, 255, 166, 20, 0, 55, 173]
abbrev dktX16_work_5 : List UInt8 := dkwX16_work_5 ++ []
def dkwX16_work_4 : List UInt8 := [148, 154, 0, 7, 4, 167, 0, 4, 3, 54, 6, 21, 6, 153, 0, 12, 43, 180, 0, 44, 21, 5, 96, 133]
abbrev dktX16_work_4 : List UInt8 := dkwX16_work_4 ++ dktX16_work_5
def dkwX16_work_3 : List UInt8 := [167, 0, 33, 3, 167, 0, 29, 45, 43, 180, 0, 44, 21, 5, 96, 184, 0, 51, 25, 4, 3, 184, 0, 51]
abbrev dktX16_work_3 : List UInt8 := dkwX16_work_3 ++ dktX16_work_4
def dkwX16_work_2 : List UInt8 := [45, 43, 180, 0, 44, 21, 5, 96, 184, 0, 47, 25, 4, 3, 184, 0, 47, 151, 154, 0, 7, 4]
abbrev dktX16_work_2 : List UInt8 := dkwX16_work_2 ++ dktX16_work_3
def dkwX16_work_1 : List UInt8 := [1, 1, 184, 0, 33, 3, 54, 5, 21, 5, 43, 180, 0, 37, 162, 0, 87, 45, 184, 0, 40, 153, 0, 32]
abbrev dktX16_work_1 : List UInt8 := dkwX16_work_1 ++ dktX16_work_2
def dkwX16_work_0 : List UInt8 := [42, 43, 182, 0, 15, 78, 45, 184, 0, 19, 4, 184, 0, 23, 58, 4, 25, 4, 3, 43, 180, 0, 27, 133]
abbrev dktX16_work_0 : List UInt8 := dkwX16_work_0 ++ dktX16_work_1
theorem dksX16_work_0 : cX16_work.data.toList.drop 0 = dktX16_work_0 := by decide +kernel
theorem dksX16_work_1 : cX16_work.data.toList.drop 24 = dktX16_work_1 := dk_seg dksX16_work_0 24 rfl rfl
theorem dksX16_work_2 : cX16_work.data.toList.drop 48 = dktX16_work_2 := dk_seg dksX16_work_1 24 rfl rfl
theorem dksX16_work_3 : cX16_work.data.toList.drop 70 = dktX16_work_3 := dk_seg dksX16_work_2 22 rfl rfl
theorem dksX16_work_4 : cX16_work.data.toList.drop 94 = dktX16_work_4 := dk_seg dksX16_work_3 24 rfl rfl
theorem dksX16_work_5 : cX16_work.data.toList.drop 118 = dktX16_work_5 := dk_seg dksX16_work_4 24 rfl rfl
theorem dX16_work_0 : decode cX16_work 0 = .ok (.aload_n 0, 1) := dk_42 (dk_at dksX16_work_0 0 rfl rfl)
theorem dX16_work_1 : decode cX16_work 1 = .ok (.aload_n 1, 1) := dk_43 (dk_at dksX16_work_0 1 rfl rfl)
theorem dX16_work_2 : decode cX16_work 2 = .ok (.invokevirtual 15, 3) := dk_182 0 15 (dk_at dksX16_work_0 2 rfl rfl)
theorem dX16_work_5 : decode cX16_work 5 = .ok (.astore_n 3, 1) := dk_78 (dk_at dksX16_work_0 5 rfl rfl)
theorem dX16_work_6 : decode cX16_work 6 = .ok (.aload_n 3, 1) := dk_45 (dk_at dksX16_work_0 6 rfl rfl)
theorem dX16_work_7 : decode cX16_work 7 = .ok (.invokestatic 19, 3) := dk_184 0 19 (dk_at dksX16_work_0 7 rfl rfl)
theorem dX16_work_10 : decode cX16_work 10 = .ok (.iconst 1, 1) := dk_4 (dk_at dksX16_work_0 10 rfl rfl)
theorem dX16_work_11 : decode cX16_work 11 = .ok (.invokestatic 23, 3) := dk_184 0 23 (dk_at dksX16_work_0 11 rfl rfl)
theorem dX16_work_14 : decode cX16_work 14 = .ok (.astore 4, 2) := dk_58 4 (dk_at dksX16_work_0 14 rfl rfl)
theorem dX16_work_16 : decode cX16_work 16 = .ok (.aload 4, 2) := dk_25 4 (dk_at dksX16_work_0 16 rfl rfl)
theorem dX16_work_18 : decode cX16_work 18 = .ok (.iconst 0, 1) := dk_3 (dk_at dksX16_work_0 18 rfl rfl)
theorem dX16_work_19 : decode cX16_work 19 = .ok (.aload_n 1, 1) := dk_43 (dk_at dksX16_work_0 19 rfl rfl)
theorem dX16_work_20 : decode cX16_work 20 = .ok (.getfield 27, 3) := dk_180 0 27 (dk_at dksX16_work_0 20 rfl rfl)
theorem dX16_work_23 : decode cX16_work 23 = .ok (.i2l, 1) := dk_133 (dk_at dksX16_work_0 23 rfl rfl)
theorem dX16_work_24 : decode cX16_work 24 = .ok (.aconst_null, 1) := dk_1 (dk_at dksX16_work_1 0 rfl rfl)
theorem dX16_work_25 : decode cX16_work 25 = .ok (.aconst_null, 1) := dk_1 (dk_at dksX16_work_1 1 rfl rfl)
theorem dX16_work_26 : decode cX16_work 26 = .ok (.invokestatic 33, 3) := dk_184 0 33 (dk_at dksX16_work_1 2 rfl rfl)
theorem dX16_work_29 : decode cX16_work 29 = .ok (.iconst 0, 1) := dk_3 (dk_at dksX16_work_1 5 rfl rfl)
theorem dX16_work_30 : decode cX16_work 30 = .ok (.istore 5, 2) := dk_54 5 (dk_at dksX16_work_1 6 rfl rfl)
theorem dX16_work_32 : decode cX16_work 32 = .ok (.iload 5, 2) := dk_21 5 (dk_at dksX16_work_1 8 rfl rfl)
theorem dX16_work_34 : decode cX16_work 34 = .ok (.aload_n 1, 1) := dk_43 (dk_at dksX16_work_1 10 rfl rfl)
theorem dX16_work_35 : decode cX16_work 35 = .ok (.getfield 37, 3) := dk_180 0 37 (dk_at dksX16_work_1 11 rfl rfl)
theorem dX16_work_38 : decode cX16_work 38 = .ok (.if_icmp .ge 87, 3) := dk_162 0 87 (dk_at dksX16_work_1 14 rfl rfl)
theorem dX16_work_41 : decode cX16_work 41 = .ok (.aload_n 3, 1) := dk_45 (dk_at dksX16_work_1 17 rfl rfl)
theorem dX16_work_42 : decode cX16_work 42 = .ok (.invokestatic 40, 3) := dk_184 0 40 (dk_at dksX16_work_1 18 rfl rfl)
theorem dX16_work_45 : decode cX16_work 45 = .ok (.ifCond .eq 32, 3) := dk_153 0 32 (dk_at dksX16_work_1 21 rfl rfl)
theorem dX16_work_48 : decode cX16_work 48 = .ok (.aload_n 3, 1) := dk_45 (dk_at dksX16_work_2 0 rfl rfl)
theorem dX16_work_49 : decode cX16_work 49 = .ok (.aload_n 1, 1) := dk_43 (dk_at dksX16_work_2 1 rfl rfl)
theorem dX16_work_50 : decode cX16_work 50 = .ok (.getfield 44, 3) := dk_180 0 44 (dk_at dksX16_work_2 2 rfl rfl)
theorem dX16_work_53 : decode cX16_work 53 = .ok (.iload 5, 2) := dk_21 5 (dk_at dksX16_work_2 5 rfl rfl)
theorem dX16_work_55 : decode cX16_work 55 = .ok (.iadd, 1) := dk_96 (dk_at dksX16_work_2 7 rfl rfl)
theorem dX16_work_56 : decode cX16_work 56 = .ok (.invokestatic 47, 3) := dk_184 0 47 (dk_at dksX16_work_2 8 rfl rfl)
theorem dX16_work_59 : decode cX16_work 59 = .ok (.aload 4, 2) := dk_25 4 (dk_at dksX16_work_2 11 rfl rfl)
theorem dX16_work_61 : decode cX16_work 61 = .ok (.iconst 0, 1) := dk_3 (dk_at dksX16_work_2 13 rfl rfl)
theorem dX16_work_62 : decode cX16_work 62 = .ok (.invokestatic 47, 3) := dk_184 0 47 (dk_at dksX16_work_2 14 rfl rfl)
theorem dX16_work_65 : decode cX16_work 65 = .ok (.dcmp .l, 1) := dk_151 (dk_at dksX16_work_2 17 rfl rfl)
theorem dX16_work_66 : decode cX16_work 66 = .ok (.ifCond .ne 7, 3) := dk_154 0 7 (dk_at dksX16_work_2 18 rfl rfl)
theorem dX16_work_69 : decode cX16_work 69 = .ok (.iconst 1, 1) := dk_4 (dk_at dksX16_work_2 21 rfl rfl)
theorem dX16_work_70 : decode cX16_work 70 = .ok (.goto 33, 3) := dk_167 0 33 (dk_at dksX16_work_3 0 rfl rfl)
theorem dX16_work_73 : decode cX16_work 73 = .ok (.iconst 0, 1) := dk_3 (dk_at dksX16_work_3 3 rfl rfl)
theorem dX16_work_74 : decode cX16_work 74 = .ok (.goto 29, 3) := dk_167 0 29 (dk_at dksX16_work_3 4 rfl rfl)
theorem dX16_work_77 : decode cX16_work 77 = .ok (.aload_n 3, 1) := dk_45 (dk_at dksX16_work_3 7 rfl rfl)
theorem dX16_work_78 : decode cX16_work 78 = .ok (.aload_n 1, 1) := dk_43 (dk_at dksX16_work_3 8 rfl rfl)
theorem dX16_work_79 : decode cX16_work 79 = .ok (.getfield 44, 3) := dk_180 0 44 (dk_at dksX16_work_3 9 rfl rfl)
theorem dX16_work_82 : decode cX16_work 82 = .ok (.iload 5, 2) := dk_21 5 (dk_at dksX16_work_3 12 rfl rfl)
theorem dX16_work_84 : decode cX16_work 84 = .ok (.iadd, 1) := dk_96 (dk_at dksX16_work_3 14 rfl rfl)
theorem dX16_work_85 : decode cX16_work 85 = .ok (.invokestatic 51, 3) := dk_184 0 51 (dk_at dksX16_work_3 15 rfl rfl)
theorem dX16_work_88 : decode cX16_work 88 = .ok (.aload 4, 2) := dk_25 4 (dk_at dksX16_work_3 18 rfl rfl)
theorem dX16_work_90 : decode cX16_work 90 = .ok (.iconst 0, 1) := dk_3 (dk_at dksX16_work_3 20 rfl rfl)
theorem dX16_work_91 : decode cX16_work 91 = .ok (.invokestatic 51, 3) := dk_184 0 51 (dk_at dksX16_work_3 21 rfl rfl)
theorem dX16_work_94 : decode cX16_work 94 = .ok (.lcmp, 1) := dk_148 (dk_at dksX16_work_4 0 rfl rfl)
theorem dX16_work_95 : decode cX16_work 95 = .ok (.ifCond .ne 7, 3) := dk_154 0 7 (dk_at dksX16_work_4 1 rfl rfl)
theorem dX16_work_98 : decode cX16_work 98 = .ok (.iconst 1, 1) := dk_4 (dk_at dksX16_work_4 4 rfl rfl)
theorem dX16_work_99 : decode cX16_work 99 = .ok (.goto 4, 3) := dk_167 0 4 (dk_at dksX16_work_4 5 rfl rfl)
theorem dX16_work_102 : decode cX16_work 102 = .ok (.iconst 0, 1) := dk_3 (dk_at dksX16_work_4 8 rfl rfl)
theorem dX16_work_103 : decode cX16_work 103 = .ok (.istore 6, 2) := dk_54 6 (dk_at dksX16_work_4 9 rfl rfl)
theorem dX16_work_105 : decode cX16_work 105 = .ok (.iload 6, 2) := dk_21 6 (dk_at dksX16_work_4 11 rfl rfl)
theorem dX16_work_107 : decode cX16_work 107 = .ok (.ifCond .eq 12, 3) := dk_153 0 12 (dk_at dksX16_work_4 13 rfl rfl)
theorem dX16_work_110 : decode cX16_work 110 = .ok (.aload_n 1, 1) := dk_43 (dk_at dksX16_work_4 16 rfl rfl)
theorem dX16_work_111 : decode cX16_work 111 = .ok (.getfield 44, 3) := dk_180 0 44 (dk_at dksX16_work_4 17 rfl rfl)
theorem dX16_work_114 : decode cX16_work 114 = .ok (.iload 5, 2) := dk_21 5 (dk_at dksX16_work_4 20 rfl rfl)
theorem dX16_work_116 : decode cX16_work 116 = .ok (.iadd, 1) := dk_96 (dk_at dksX16_work_4 22 rfl rfl)
theorem dX16_work_117 : decode cX16_work 117 = .ok (.i2l, 1) := dk_133 (dk_at dksX16_work_4 23 rfl rfl)
theorem dX16_work_118 : decode cX16_work 118 = .ok (.lreturn, 1) := dk_173 (dk_at dksX16_work_5 0 rfl rfl)
theorem dX16_work_119 : decode cX16_work 119 = .ok (.iinc 5 1, 3) := dk_132 5 1 (dk_at dksX16_work_5 1 rfl rfl)
theorem dX16_work_122 : decode cX16_work 122 = .ok (.goto (-90), 3) := dk_167 255 166 (dk_at dksX16_work_5 4 rfl rfl)
theorem dX16_work_125 : decode cX16_work 125 = .ok (.ldc2_w 55, 3) := dk_20 0 55 (dk_at dksX16_work_5 7 rfl rfl)
theorem dX16_work_128 : decode cX16_work 128 = .ok (.lreturn, 1) := dk_173 (dk_at dksX16_work_5 10 rfl rfl)
theorem q68 : (Jvm.Cond.initialized "NativeSubset$Finding") ∈ lw_all := lw_g (lw_at lw_m1 19 rfl) rfl
theorem q320 : (Jvm.Cond.instantiable "NativeSubset$Finding" (7 : Nat)) ∈ lw_all := lw_g (lw_at lw_m2 31 rfl) rfl
theorem q322 : (Jvm.Cond.instanceMethod ({ cls := "NativeSubset$Finding", name := "<init>", desc := "(LNativeSubset;)V" } : Jvm.MethodName)) ∈ lw_all := lw_g (lw_at lw_m2 33 rfl) rfl
theorem q323 : (Jvm.Cond.code ({ cls := "NativeSubset$Finding", name := "<init>", desc := "(LNativeSubset;)V" } : Jvm.MethodName) prog_14_method_1_code (2 : Nat) (Option.none : Option Jvm.ClassFile.FieldType)) ∈ lw_all := lw_g (lw_at lw_m2 34 rfl) rfl
theorem q324 : (Jvm.Cond.methodLink "NativeSubset$Finding" (9 : Nat) ({ cls := "NativeSubset$Working", name := "<init>", desc := "(LNativeSubset;III)V" } : Jvm.MethodName)) ∈ lw_all := lw_g (lw_at lw_m2 35 rfl) rfl
theorem q325 : (Jvm.Cond.fieldLink "NativeSubset$Finding" (3 : Nat) "NativeSubset$Finding" "this$0" "LNativeSubset;") ∈ lw_all := lw_g (lw_at lw_m2 36 rfl) rfl
theorem q326 : (Jvm.Cond.laysFinal "NativeSubset$Finding" "NativeSubset$Finding" "this$0" "LNativeSubset;") ∈ lw_all := lw_g (lw_at lw_m2 37 rfl) rfl
theorem q327 : (Jvm.Cond.soleField "NativeSubset$Finding" "this$0") ∈ lw_all := lw_g (lw_at lw_m2 38 rfl) rfl
theorem q328 : (Jvm.Cond.laysFinal "NativeSubset$Finding" "NativeSubset$Working" "this$0" "LNativeSubset;") ∈ lw_all := lw_g (lw_at lw_m2 39 rfl) rfl
theorem q329 : (Jvm.Cond.laysFinal "NativeSubset$Finding" "NativeSubset$Asking" "first" "I") ∈ lw_all := lw_g (lw_at lw_m2 40 rfl) rfl
theorem q330 : (Jvm.Cond.laysFinal "NativeSubset$Finding" "NativeSubset$Asking" "last" "I") ∈ lw_all := lw_g (lw_at lw_m2 41 rfl) rfl
theorem q331 : (Jvm.Cond.laysFinal "NativeSubset$Finding" "NativeSubset$Asking" "this$0" "LNativeSubset;") ∈ lw_all := lw_g (lw_at lw_m2 42 rfl) rfl
theorem q332 : (Jvm.Cond.laysFinal "NativeSubset$Finding" "NativeSubset$Helper" "base" "I") ∈ lw_all := lw_g (lw_at lw_m2 43 rfl) rfl
theorem q333 : (Jvm.Cond.laysFinal "NativeSubset$Finding" "NativeSubset$Helper" "this$0" "LNativeSubset;") ∈ lw_all := lw_g (lw_at lw_m2 44 rfl) rfl
theorem q334 : (Jvm.Cond.superclass "NativeSubset$Finding" "NativeSubset$Working") ∈ lw_all := lw_g (lw_at lw_m2 45 rfl) rfl
theorem q503 : (Jvm.Cond.selects "NativeSubset$Finding" ({ cls := "java/lang/Object", name := "getClass", desc := "()Ljava/lang/Class;" } : Jvm.MethodName) ({ cls := "java/lang/Object", name := "getClass", desc := "()Ljava/lang/Class;" } : Jvm.MethodName)) ∈ lw_all := lw_g (lw_at lw_m2 214 rfl) rfl
theorem q705 : (Jvm.Cond.fieldLinkNest "NativeSubset$Finding" (44 : Nat) "NativeSubset$Act" "i" "I" "NativeSubset") ∈ lw_tbl := lw_at lw_m3 176 rfl
theorem q718 : (Jvm.Cond.fieldLinkNest "NativeSubset$Finding" (27 : Nat) "NativeSubset$Act" "j" "I" "NativeSubset") ∈ lw_tbl := lw_at lw_m3 189 rfl
theorem q724 : (Jvm.Cond.fieldLinkNest "NativeSubset$Finding" (37 : Nat) "NativeSubset$Act" "n" "I" "NativeSubset") ∈ lw_tbl := lw_at lw_m3 195 rfl
theorem q767 : (Jvm.Cond.selects "NativeSubset$Finding" ({ cls := "NativeSubset$Helper", name := "hasOther", desc := "()Z" } : Jvm.MethodName) ({ cls := "NativeSubset$Helper", name := "hasOther", desc := "()Z" } : Jvm.MethodName)) ∈ lw_all := lw_g (lw_at lw_m3 238 rfl) rfl
theorem q803 : (Jvm.Cond.selects "NativeSubset$Finding" ({ cls := "NativeSubset$Helper", name := "many", desc := "(LNativeSubset$Act;)I" } : Jvm.MethodName) ({ cls := "NativeSubset$Working", name := "many", desc := "(LNativeSubset$Act;)I" } : Jvm.MethodName)) ∈ lw_all := lw_g (lw_at lw_m4 34 rfl) rfl
theorem q850 : (Jvm.Cond.castable "NativeSubset$Finding" "NativeSubset$Priced") ∈ lw_tbl := lw_at lw_m4 81 rfl
theorem q851 : (Jvm.Cond.selects "NativeSubset$Finding" ({ cls := "NativeSubset$Priced", name := "base", desc := "()I" } : Jvm.MethodName) ({ cls := "NativeSubset$Helper", name := "base", desc := "()I" } : Jvm.MethodName)) ∈ lw_all := lw_g (lw_at lw_m4 82 rfl) rfl
theorem q852 : (Jvm.Cond.unhidden "NativeSubset$Finding" "base" "()I") ∈ lw_tbl := lw_at lw_m4 83 rfl
theorem q892 : (Jvm.Cond.selects "NativeSubset$Finding" ({ cls := "NativeSubset$Priced", name := "length", desc := "(I)I" } : Jvm.MethodName) ({ cls := "NativeSubset$Helper", name := "length", desc := "(I)I" } : Jvm.MethodName)) ∈ lw_all := lw_g (lw_at lw_m4 123 rfl) rfl
theorem q893 : (Jvm.Cond.unhidden "NativeSubset$Finding" "length" "(I)I") ∈ lw_tbl := lw_at lw_m4 124 rfl
theorem q919 : (Jvm.Cond.unhidden "NativeSubset$Finding" "price" "(II)I") ∈ lw_tbl := lw_at lw_m4 150 rfl
theorem q1242 : (Jvm.Cond.selects "NativeSubset$Finding" ({ cls := "NativeSubset$Working", name := "row", desc := "(LNativeSubset$Act;)Ljava/lang/Object;" } : Jvm.MethodName) ({ cls := "NativeSubset$Asking", name := "row", desc := "(LNativeSubset$Act;)Ljava/lang/Object;" } : Jvm.MethodName)) ∈ lw_all := lw_g (lw_at lw_m5 233 rfl) rfl
theorem q1272 : (Jvm.Cond.selects "NativeSubset$Finding" ({ cls := "NativeSubset$Helper", name := "work", desc := "(LNativeSubset$Act;LNativeSubset$Call;)J" } : Jvm.MethodName) ({ cls := "NativeSubset$Finding", name := "work", desc := "(LNativeSubset$Act;LNativeSubset$Call;)J" } : Jvm.MethodName)) ∈ lw_all := lw_g (lw_at lw_m6 23 rfl) rfl
theorem q1273 : (Jvm.Cond.instanceMethod ({ cls := "NativeSubset$Finding", name := "work", desc := "(LNativeSubset$Act;LNativeSubset$Call;)J" } : Jvm.MethodName)) ∈ lw_all := lw_g (lw_at lw_m6 24 rfl) rfl
theorem q1274 : (Jvm.Cond.code ({ cls := "NativeSubset$Finding", name := "work", desc := "(LNativeSubset$Act;LNativeSubset$Call;)J" } : Jvm.MethodName) prog_14_method_2_code (7 : Nat) (Option.some Jvm.ClassFile.FieldType.long)) ∈ lw_all := lw_g (lw_at lw_m6 25 rfl) rfl
theorem q1275 : (Jvm.Cond.methodLink "NativeSubset$Finding" (15 : Nat) ({ cls := "NativeSubset$Finding", name := "part", desc := "(LNativeSubset$Act;)Ljava/lang/Object;" } : Jvm.MethodName)) ∈ lw_all := lw_g (lw_at lw_m6 26 rfl) rfl
theorem q1276 : (Jvm.Cond.sameMethod "NativeSubset$Finding" "NativeSubset$Working" "part" "(LNativeSubset$Act;)Ljava/lang/Object;") ∈ lw_all := lw_g (lw_at lw_m6 27 rfl) rfl
theorem q1277 : (Jvm.Cond.selects "NativeSubset$Finding" ({ cls := "NativeSubset$Finding", name := "part", desc := "(LNativeSubset$Act;)Ljava/lang/Object;" } : Jvm.MethodName) ({ cls := "NativeSubset$Working", name := "part", desc := "(LNativeSubset$Act;)Ljava/lang/Object;" } : Jvm.MethodName)) ∈ lw_all := lw_g (lw_at lw_m6 28 rfl) rfl
theorem q1278 : (Jvm.Cond.methodLinkNest "NativeSubset$Finding" (19 : Nat) ({ cls := "NativeSubset", name := "kindOf", desc := "(Ljava/lang/Object;)I" } : Jvm.MethodName) "NativeSubset") ∈ lw_tbl := lw_at lw_m6 29 rfl
theorem q1279 : (Jvm.Cond.methodLinkNest "NativeSubset$Finding" (23 : Nat) ({ cls := "NativeSubset", name := "made", desc := "(II)Ljava/lang/Object;" } : Jvm.MethodName) "NativeSubset") ∈ lw_tbl := lw_at lw_m6 30 rfl
theorem q1280 : (Jvm.Cond.methodLinkNest "NativeSubset$Finding" (33 : Nat) ({ cls := "NativeSubset", name := "put", desc := "(Ljava/lang/Object;IJLNativeSubset$Unit;[I)V" } : Jvm.MethodName) "NativeSubset") ∈ lw_tbl := lw_at lw_m6 31 rfl
theorem q1281 : (Jvm.Cond.methodLinkNest "NativeSubset$Finding" (40 : Nat) ({ cls := "NativeSubset", name := "isReal", desc := "(Ljava/lang/Object;)Z" } : Jvm.MethodName) "NativeSubset") ∈ lw_tbl := lw_at lw_m6 32 rfl
theorem q1282 : (Jvm.Cond.methodLinkNest "NativeSubset$Finding" (47 : Nat) ({ cls := "NativeSubset", name := "real", desc := "(Ljava/lang/Object;I)D" } : Jvm.MethodName) "NativeSubset") ∈ lw_tbl := lw_at lw_m6 33 rfl
theorem q1283 : (Jvm.Cond.methodLinkNest "NativeSubset$Finding" (51 : Nat) ({ cls := "NativeSubset", name := "get", desc := "(Ljava/lang/Object;I)J" } : Jvm.MethodName) "NativeSubset") ∈ lw_tbl := lw_at lw_m6 34 rfl
theorem q1284 : (Jvm.Cond.constantLong "NativeSubset$Finding" (55 : Nat) (-1 : Int64)) ∈ lw_all := lw_g (lw_at lw_m6 35 rfl) rfl
theorem q1850 : (Jvm.Cond.castable "NativeSubset$Finding" "java/lang/Object") ∈ lw_tbl := lw_at lw_m8 121 rfl
theorem q1874 : (Jvm.Cond.castable "NativeSubset$Finding" "NativeSubset$Helper") ∈ lw_tbl := lw_at lw_m8 145 rfl
theorem in_X16 : ∀ w ∈ wsX160, w ∈ lw_all := lw_in wsX160 [332, 333, 329, 330, 331, 328, 326] (by decide +kernel) (by decide +kernel)
/-! NativeSubset$Calling -/
def RX17 : String := "NativeSubset$Calling"
def TX17 : u_T := fun k => match k with
  | 0 => ("NativeSubset$Helper", "base", "I", true)
  | 1 => ("NativeSubset$Helper", "this$0", "LNativeSubset;", true)
  | _ => ("NativeSubset$Calling", "this$0", "LNativeSubset;", true)
def tyX17 : Nat → FieldType := fun k => match k with
  | 0 => .int
  | 1 => .object "NativeSubset"
  | _ => .object "NativeSubset"
abbrev wsX170 : List Cond := u_ws RX17 TX17 3
-- two fields of one name: no nmX17
theorem tyX17_ok : ∀ k, k < 3 → parseFieldDescriptor (TX17 k).2.2.1 = some (tyX17 k) := by decide +kernel
abbrev cX17_init : ByteArray := prog_5_method_1_code
def yX17_init : MethodName := ⟨RX17, "<init>", "(LNativeSubset;)V"⟩
def dkwX17_init_0 : List UInt8 := [42, 43, 181, 0, 3, 42, 43, 8, 183, 0, 9, 177]
abbrev dktX17_init_0 : List UInt8 := dkwX17_init_0 ++ []
theorem dksX17_init_0 : cX17_init.data.toList.drop 0 = dktX17_init_0 := by decide +kernel
theorem dX17_init_0 : decode cX17_init 0 = .ok (.aload_n 0, 1) := dk_42 (dk_at dksX17_init_0 0 rfl rfl)
theorem dX17_init_1 : decode cX17_init 1 = .ok (.aload_n 1, 1) := dk_43 (dk_at dksX17_init_0 1 rfl rfl)
theorem dX17_init_2 : decode cX17_init 2 = .ok (.putfield 3, 3) := dk_181 0 3 (dk_at dksX17_init_0 2 rfl rfl)
theorem dX17_init_5 : decode cX17_init 5 = .ok (.aload_n 0, 1) := dk_42 (dk_at dksX17_init_0 5 rfl rfl)
theorem dX17_init_6 : decode cX17_init 6 = .ok (.aload_n 1, 1) := dk_43 (dk_at dksX17_init_0 6 rfl rfl)
theorem dX17_init_7 : decode cX17_init 7 = .ok (.iconst 5, 1) := dk_8 (dk_at dksX17_init_0 7 rfl rfl)
theorem dX17_init_8 : decode cX17_init 8 = .ok (.invokespecial 9, 3) := dk_183 0 9 (dk_at dksX17_init_0 8 rfl rfl)
theorem dX17_init_11 : decode cX17_init 11 = .ok (.return_, 1) := dk_177 (dk_at dksX17_init_0 11 rfl rfl)
abbrev cX17_many : ByteArray := prog_5_method_2_code
def yX17_many : MethodName := ⟨RX17, "many", "(LNativeSubset$Act;)I"⟩
theorem dX17_many_0 : decode cX17_many 0 = .ok (.iconst 0, 1) := by decide +kernel
theorem dX17_many_1 : decode cX17_many 1 = .ok (.ireturn, 1) := by decide +kernel
abbrev cX17_work : ByteArray := prog_5_method_3_code
def yX17_work : MethodName := ⟨RX17, "work", "(LNativeSubset$Act;LNativeSubset$Call;)J"⟩
def dkwX17_work_8 : List UInt8 := [173]
abbrev dktX17_work_8 : List UInt8 := dkwX17_work_8 ++ []
def dkwX17_work_7 : List UInt8 := [180, 0, 56, 100, 181, 0, 33, 44, 89, 180, 0, 56, 45, 180, 0, 56, 96, 181, 0, 56, 25, 7, 191, 9]
abbrev dktX17_work_7 : List UInt8 := dkwX17_work_7 ++ dktX17_work_8
def dkwX17_work_6 : List UInt8 := [44, 89, 180, 0, 56, 45, 180, 0, 56, 96, 181, 0, 56, 22, 5, 173, 58, 7, 44, 89, 180, 0, 33, 45]
abbrev dktX17_work_6 : List UInt8 := dkwX17_work_6 ++ dktX17_work_7
def dkwX17_work_5 : List UInt8 := [181, 0, 64, 25, 4, 180, 0, 67, 133, 55, 5, 44, 89, 180, 0, 33, 45, 180, 0, 56, 100, 181, 0, 33]
abbrev dktX17_work_5 : List UInt8 := dkwX17_work_5 ++ dktX17_work_6
def dkwX17_work_4 : List UInt8 := [58, 4, 43, 180, 0, 61, 154, 0, 6, 25, 4, 191, 42, 180, 0, 3, 89, 180, 0, 64, 4, 96]
abbrev dktX17_work_4 : List UInt8 := dkwX17_work_4 ++ dktX17_work_5
def dkwX17_work_3 : List UInt8 := [180, 0, 56, 100, 181, 0, 33, 44, 89, 180, 0, 56, 45, 180, 0, 56, 96, 181, 0, 56, 167, 0, 96]
abbrev dktX17_work_3 : List UInt8 := dkwX17_work_3 ++ dktX17_work_4
def dkwX17_work_2 : List UInt8 := [184, 0, 42, 183, 0, 45, 78, 45, 182, 0, 48, 44, 45, 182, 0, 52, 44, 89, 180, 0, 33, 45]
abbrev dktX17_work_2 : List UInt8 := dkwX17_work_2 ++ dktX17_work_3
def dkwX17_work_1 : List UInt8 := [187, 0, 23, 89, 42, 180, 0, 3, 43, 180, 0, 25, 3, 43, 180, 0, 30, 44, 180, 0, 33, 184, 0, 36]
abbrev dktX17_work_1 : List UInt8 := dkwX17_work_1 ++ dktX17_work_2
def dkwX17_work_0 : List UInt8 := [42, 180, 0, 3, 180, 0, 15, 16, 6, 160, 0, 13, 42, 180, 0, 3, 16, 7, 182, 0, 19, 191]
abbrev dktX17_work_0 : List UInt8 := dkwX17_work_0 ++ dktX17_work_1
theorem dksX17_work_0 : cX17_work.data.toList.drop 0 = dktX17_work_0 := by decide +kernel
theorem dksX17_work_1 : cX17_work.data.toList.drop 22 = dktX17_work_1 := dk_seg dksX17_work_0 22 rfl rfl
theorem dksX17_work_2 : cX17_work.data.toList.drop 46 = dktX17_work_2 := dk_seg dksX17_work_1 24 rfl rfl
theorem dksX17_work_3 : cX17_work.data.toList.drop 68 = dktX17_work_3 := dk_seg dksX17_work_2 22 rfl rfl
theorem dksX17_work_4 : cX17_work.data.toList.drop 91 = dktX17_work_4 := dk_seg dksX17_work_3 23 rfl rfl
theorem dksX17_work_5 : cX17_work.data.toList.drop 113 = dktX17_work_5 := dk_seg dksX17_work_4 22 rfl rfl
theorem dksX17_work_6 : cX17_work.data.toList.drop 137 = dktX17_work_6 := dk_seg dksX17_work_5 24 rfl rfl
theorem dksX17_work_7 : cX17_work.data.toList.drop 161 = dktX17_work_7 := dk_seg dksX17_work_6 24 rfl rfl
theorem dksX17_work_8 : cX17_work.data.toList.drop 185 = dktX17_work_8 := dk_seg dksX17_work_7 24 rfl rfl
theorem dX17_work_0 : decode cX17_work 0 = .ok (.aload_n 0, 1) := dk_42 (dk_at dksX17_work_0 0 rfl rfl)
theorem dX17_work_1 : decode cX17_work 1 = .ok (.getfield 3, 3) := dk_180 0 3 (dk_at dksX17_work_0 1 rfl rfl)
theorem dX17_work_4 : decode cX17_work 4 = .ok (.getfield 15, 3) := dk_180 0 15 (dk_at dksX17_work_0 4 rfl rfl)
theorem dX17_work_7 : decode cX17_work 7 = .ok (.bipush 6, 2) := dk_16 6 (dk_at dksX17_work_0 7 rfl rfl)
theorem dX17_work_9 : decode cX17_work 9 = .ok (.if_icmp .ne 13, 3) := dk_160 0 13 (dk_at dksX17_work_0 9 rfl rfl)
theorem dX17_work_12 : decode cX17_work 12 = .ok (.aload_n 0, 1) := dk_42 (dk_at dksX17_work_0 12 rfl rfl)
theorem dX17_work_13 : decode cX17_work 13 = .ok (.getfield 3, 3) := dk_180 0 3 (dk_at dksX17_work_0 13 rfl rfl)
theorem dX17_work_16 : decode cX17_work 16 = .ok (.bipush 7, 2) := dk_16 7 (dk_at dksX17_work_0 16 rfl rfl)
theorem dX17_work_18 : decode cX17_work 18 = .ok (.invokevirtual 19, 3) := dk_182 0 19 (dk_at dksX17_work_0 18 rfl rfl)
theorem dX17_work_21 : decode cX17_work 21 = .ok (.athrow, 1) := dk_191 (dk_at dksX17_work_0 21 rfl rfl)
theorem dX17_work_22 : decode cX17_work 22 = .ok (.new 23, 3) := dk_187 0 23 (dk_at dksX17_work_1 0 rfl rfl)
theorem dX17_work_25 : decode cX17_work 25 = .ok (.dup, 1) := dk_89 (dk_at dksX17_work_1 3 rfl rfl)
theorem dX17_work_26 : decode cX17_work 26 = .ok (.aload_n 0, 1) := dk_42 (dk_at dksX17_work_1 4 rfl rfl)
theorem dX17_work_27 : decode cX17_work 27 = .ok (.getfield 3, 3) := dk_180 0 3 (dk_at dksX17_work_1 5 rfl rfl)
theorem dX17_work_30 : decode cX17_work 30 = .ok (.aload_n 1, 1) := dk_43 (dk_at dksX17_work_1 8 rfl rfl)
theorem dX17_work_31 : decode cX17_work 31 = .ok (.getfield 25, 3) := dk_180 0 25 (dk_at dksX17_work_1 9 rfl rfl)
theorem dX17_work_34 : decode cX17_work 34 = .ok (.iconst 0, 1) := dk_3 (dk_at dksX17_work_1 12 rfl rfl)
theorem dX17_work_35 : decode cX17_work 35 = .ok (.aload_n 1, 1) := dk_43 (dk_at dksX17_work_1 13 rfl rfl)
theorem dX17_work_36 : decode cX17_work 36 = .ok (.getfield 30, 3) := dk_180 0 30 (dk_at dksX17_work_1 14 rfl rfl)
theorem dX17_work_39 : decode cX17_work 39 = .ok (.aload_n 2, 1) := dk_44 (dk_at dksX17_work_1 17 rfl rfl)
theorem dX17_work_40 : decode cX17_work 40 = .ok (.getfield 33, 3) := dk_180 0 33 (dk_at dksX17_work_1 18 rfl rfl)
theorem dX17_work_43 : decode cX17_work 43 = .ok (.invokestatic 36, 3) := dk_184 0 36 (dk_at dksX17_work_1 21 rfl rfl)
theorem dX17_work_46 : decode cX17_work 46 = .ok (.invokestatic 42, 3) := dk_184 0 42 (dk_at dksX17_work_2 0 rfl rfl)
theorem dX17_work_49 : decode cX17_work 49 = .ok (.invokespecial 45, 3) := dk_183 0 45 (dk_at dksX17_work_2 3 rfl rfl)
theorem dX17_work_52 : decode cX17_work 52 = .ok (.astore_n 3, 1) := dk_78 (dk_at dksX17_work_2 6 rfl rfl)
theorem dX17_work_53 : decode cX17_work 53 = .ok (.aload_n 3, 1) := dk_45 (dk_at dksX17_work_2 7 rfl rfl)
theorem dX17_work_54 : decode cX17_work 54 = .ok (.invokevirtual 48, 3) := dk_182 0 48 (dk_at dksX17_work_2 8 rfl rfl)
theorem dX17_work_57 : decode cX17_work 57 = .ok (.aload_n 2, 1) := dk_44 (dk_at dksX17_work_2 11 rfl rfl)
theorem dX17_work_58 : decode cX17_work 58 = .ok (.aload_n 3, 1) := dk_45 (dk_at dksX17_work_2 12 rfl rfl)
theorem dX17_work_59 : decode cX17_work 59 = .ok (.invokevirtual 52, 3) := dk_182 0 52 (dk_at dksX17_work_2 13 rfl rfl)
theorem dX17_work_62 : decode cX17_work 62 = .ok (.aload_n 2, 1) := dk_44 (dk_at dksX17_work_2 16 rfl rfl)
theorem dX17_work_63 : decode cX17_work 63 = .ok (.dup, 1) := dk_89 (dk_at dksX17_work_2 17 rfl rfl)
theorem dX17_work_64 : decode cX17_work 64 = .ok (.getfield 33, 3) := dk_180 0 33 (dk_at dksX17_work_2 18 rfl rfl)
theorem dX17_work_67 : decode cX17_work 67 = .ok (.aload_n 3, 1) := dk_45 (dk_at dksX17_work_2 21 rfl rfl)
theorem dX17_work_68 : decode cX17_work 68 = .ok (.getfield 56, 3) := dk_180 0 56 (dk_at dksX17_work_3 0 rfl rfl)
theorem dX17_work_71 : decode cX17_work 71 = .ok (.isub, 1) := dk_100 (dk_at dksX17_work_3 3 rfl rfl)
theorem dX17_work_72 : decode cX17_work 72 = .ok (.putfield 33, 3) := dk_181 0 33 (dk_at dksX17_work_3 4 rfl rfl)
theorem dX17_work_75 : decode cX17_work 75 = .ok (.aload_n 2, 1) := dk_44 (dk_at dksX17_work_3 7 rfl rfl)
theorem dX17_work_76 : decode cX17_work 76 = .ok (.dup, 1) := dk_89 (dk_at dksX17_work_3 8 rfl rfl)
theorem dX17_work_77 : decode cX17_work 77 = .ok (.getfield 56, 3) := dk_180 0 56 (dk_at dksX17_work_3 9 rfl rfl)
theorem dX17_work_80 : decode cX17_work 80 = .ok (.aload_n 3, 1) := dk_45 (dk_at dksX17_work_3 12 rfl rfl)
theorem dX17_work_81 : decode cX17_work 81 = .ok (.getfield 56, 3) := dk_180 0 56 (dk_at dksX17_work_3 13 rfl rfl)
theorem dX17_work_84 : decode cX17_work 84 = .ok (.iadd, 1) := dk_96 (dk_at dksX17_work_3 16 rfl rfl)
theorem dX17_work_85 : decode cX17_work 85 = .ok (.putfield 56, 3) := dk_181 0 56 (dk_at dksX17_work_3 17 rfl rfl)
theorem dX17_work_88 : decode cX17_work 88 = .ok (.goto 96, 3) := dk_167 0 96 (dk_at dksX17_work_3 20 rfl rfl)
theorem dX17_work_91 : decode cX17_work 91 = .ok (.astore 4, 2) := dk_58 4 (dk_at dksX17_work_4 0 rfl rfl)
theorem dX17_work_93 : decode cX17_work 93 = .ok (.aload_n 1, 1) := dk_43 (dk_at dksX17_work_4 2 rfl rfl)
theorem dX17_work_94 : decode cX17_work 94 = .ok (.getfield 61, 3) := dk_180 0 61 (dk_at dksX17_work_4 3 rfl rfl)
theorem dX17_work_97 : decode cX17_work 97 = .ok (.ifCond .ne 6, 3) := dk_154 0 6 (dk_at dksX17_work_4 6 rfl rfl)
theorem dX17_work_100 : decode cX17_work 100 = .ok (.aload 4, 2) := dk_25 4 (dk_at dksX17_work_4 9 rfl rfl)
theorem dX17_work_102 : decode cX17_work 102 = .ok (.athrow, 1) := dk_191 (dk_at dksX17_work_4 11 rfl rfl)
theorem dX17_work_103 : decode cX17_work 103 = .ok (.aload_n 0, 1) := dk_42 (dk_at dksX17_work_4 12 rfl rfl)
theorem dX17_work_104 : decode cX17_work 104 = .ok (.getfield 3, 3) := dk_180 0 3 (dk_at dksX17_work_4 13 rfl rfl)
theorem dX17_work_107 : decode cX17_work 107 = .ok (.dup, 1) := dk_89 (dk_at dksX17_work_4 16 rfl rfl)
theorem dX17_work_108 : decode cX17_work 108 = .ok (.getfield 64, 3) := dk_180 0 64 (dk_at dksX17_work_4 17 rfl rfl)
theorem dX17_work_111 : decode cX17_work 111 = .ok (.iconst 1, 1) := dk_4 (dk_at dksX17_work_4 20 rfl rfl)
theorem dX17_work_112 : decode cX17_work 112 = .ok (.iadd, 1) := dk_96 (dk_at dksX17_work_4 21 rfl rfl)
theorem dX17_work_113 : decode cX17_work 113 = .ok (.putfield 64, 3) := dk_181 0 64 (dk_at dksX17_work_5 0 rfl rfl)
theorem dX17_work_116 : decode cX17_work 116 = .ok (.aload 4, 2) := dk_25 4 (dk_at dksX17_work_5 3 rfl rfl)
theorem dX17_work_118 : decode cX17_work 118 = .ok (.getfield 67, 3) := dk_180 0 67 (dk_at dksX17_work_5 5 rfl rfl)
theorem dX17_work_121 : decode cX17_work 121 = .ok (.i2l, 1) := dk_133 (dk_at dksX17_work_5 8 rfl rfl)
theorem dX17_work_122 : decode cX17_work 122 = .ok (.lstore 5, 2) := dk_55 5 (dk_at dksX17_work_5 9 rfl rfl)
theorem dX17_work_124 : decode cX17_work 124 = .ok (.aload_n 2, 1) := dk_44 (dk_at dksX17_work_5 11 rfl rfl)
theorem dX17_work_125 : decode cX17_work 125 = .ok (.dup, 1) := dk_89 (dk_at dksX17_work_5 12 rfl rfl)
theorem dX17_work_126 : decode cX17_work 126 = .ok (.getfield 33, 3) := dk_180 0 33 (dk_at dksX17_work_5 13 rfl rfl)
theorem dX17_work_129 : decode cX17_work 129 = .ok (.aload_n 3, 1) := dk_45 (dk_at dksX17_work_5 16 rfl rfl)
theorem dX17_work_130 : decode cX17_work 130 = .ok (.getfield 56, 3) := dk_180 0 56 (dk_at dksX17_work_5 17 rfl rfl)
theorem dX17_work_133 : decode cX17_work 133 = .ok (.isub, 1) := dk_100 (dk_at dksX17_work_5 20 rfl rfl)
theorem dX17_work_134 : decode cX17_work 134 = .ok (.putfield 33, 3) := dk_181 0 33 (dk_at dksX17_work_5 21 rfl rfl)
theorem dX17_work_137 : decode cX17_work 137 = .ok (.aload_n 2, 1) := dk_44 (dk_at dksX17_work_6 0 rfl rfl)
theorem dX17_work_138 : decode cX17_work 138 = .ok (.dup, 1) := dk_89 (dk_at dksX17_work_6 1 rfl rfl)
theorem dX17_work_139 : decode cX17_work 139 = .ok (.getfield 56, 3) := dk_180 0 56 (dk_at dksX17_work_6 2 rfl rfl)
theorem dX17_work_142 : decode cX17_work 142 = .ok (.aload_n 3, 1) := dk_45 (dk_at dksX17_work_6 5 rfl rfl)
theorem dX17_work_143 : decode cX17_work 143 = .ok (.getfield 56, 3) := dk_180 0 56 (dk_at dksX17_work_6 6 rfl rfl)
theorem dX17_work_146 : decode cX17_work 146 = .ok (.iadd, 1) := dk_96 (dk_at dksX17_work_6 9 rfl rfl)
theorem dX17_work_147 : decode cX17_work 147 = .ok (.putfield 56, 3) := dk_181 0 56 (dk_at dksX17_work_6 10 rfl rfl)
theorem dX17_work_150 : decode cX17_work 150 = .ok (.lload 5, 2) := dk_22 5 (dk_at dksX17_work_6 13 rfl rfl)
theorem dX17_work_152 : decode cX17_work 152 = .ok (.lreturn, 1) := dk_173 (dk_at dksX17_work_6 15 rfl rfl)
theorem dX17_work_153 : decode cX17_work 153 = .ok (.astore 7, 2) := dk_58 7 (dk_at dksX17_work_6 16 rfl rfl)
theorem dX17_work_155 : decode cX17_work 155 = .ok (.aload_n 2, 1) := dk_44 (dk_at dksX17_work_6 18 rfl rfl)
theorem dX17_work_156 : decode cX17_work 156 = .ok (.dup, 1) := dk_89 (dk_at dksX17_work_6 19 rfl rfl)
theorem dX17_work_157 : decode cX17_work 157 = .ok (.getfield 33, 3) := dk_180 0 33 (dk_at dksX17_work_6 20 rfl rfl)
theorem dX17_work_160 : decode cX17_work 160 = .ok (.aload_n 3, 1) := dk_45 (dk_at dksX17_work_6 23 rfl rfl)
theorem dX17_work_161 : decode cX17_work 161 = .ok (.getfield 56, 3) := dk_180 0 56 (dk_at dksX17_work_7 0 rfl rfl)
theorem dX17_work_164 : decode cX17_work 164 = .ok (.isub, 1) := dk_100 (dk_at dksX17_work_7 3 rfl rfl)
theorem dX17_work_165 : decode cX17_work 165 = .ok (.putfield 33, 3) := dk_181 0 33 (dk_at dksX17_work_7 4 rfl rfl)
theorem dX17_work_168 : decode cX17_work 168 = .ok (.aload_n 2, 1) := dk_44 (dk_at dksX17_work_7 7 rfl rfl)
theorem dX17_work_169 : decode cX17_work 169 = .ok (.dup, 1) := dk_89 (dk_at dksX17_work_7 8 rfl rfl)
theorem dX17_work_170 : decode cX17_work 170 = .ok (.getfield 56, 3) := dk_180 0 56 (dk_at dksX17_work_7 9 rfl rfl)
theorem dX17_work_173 : decode cX17_work 173 = .ok (.aload_n 3, 1) := dk_45 (dk_at dksX17_work_7 12 rfl rfl)
theorem dX17_work_174 : decode cX17_work 174 = .ok (.getfield 56, 3) := dk_180 0 56 (dk_at dksX17_work_7 13 rfl rfl)
theorem dX17_work_177 : decode cX17_work 177 = .ok (.iadd, 1) := dk_96 (dk_at dksX17_work_7 16 rfl rfl)
theorem dX17_work_178 : decode cX17_work 178 = .ok (.putfield 56, 3) := dk_181 0 56 (dk_at dksX17_work_7 17 rfl rfl)
theorem dX17_work_181 : decode cX17_work 181 = .ok (.aload 7, 2) := dk_25 7 (dk_at dksX17_work_7 20 rfl rfl)
theorem dX17_work_183 : decode cX17_work 183 = .ok (.athrow, 1) := dk_191 (dk_at dksX17_work_7 22 rfl rfl)
theorem dX17_work_184 : decode cX17_work 184 = .ok (.lconst 0, 1) := dk_9 (dk_at dksX17_work_7 23 rfl rfl)
theorem dX17_work_185 : decode cX17_work 185 = .ok (.lreturn, 1) := dk_173 (dk_at dksX17_work_8 0 rfl rfl)
theorem q69 : (Jvm.Cond.initialized "NativeSubset$Calling") ∈ lw_all := lw_g (lw_at lw_m1 20 rfl) rfl
theorem q336 : (Jvm.Cond.instantiable "NativeSubset$Calling" (3 : Nat)) ∈ lw_all := lw_g (lw_at lw_m2 47 rfl) rfl
theorem q338 : (Jvm.Cond.instanceMethod ({ cls := "NativeSubset$Calling", name := "<init>", desc := "(LNativeSubset;)V" } : Jvm.MethodName)) ∈ lw_all := lw_g (lw_at lw_m2 49 rfl) rfl
theorem q339 : (Jvm.Cond.code ({ cls := "NativeSubset$Calling", name := "<init>", desc := "(LNativeSubset;)V" } : Jvm.MethodName) prog_5_method_1_code (2 : Nat) (Option.none : Option Jvm.ClassFile.FieldType)) ∈ lw_all := lw_g (lw_at lw_m2 50 rfl) rfl
theorem q340 : (Jvm.Cond.methodLink "NativeSubset$Calling" (9 : Nat) ({ cls := "NativeSubset$Helper", name := "<init>", desc := "(LNativeSubset;I)V" } : Jvm.MethodName)) ∈ lw_all := lw_g (lw_at lw_m2 51 rfl) rfl
theorem q341 : (Jvm.Cond.fieldLink "NativeSubset$Calling" (3 : Nat) "NativeSubset$Calling" "this$0" "LNativeSubset;") ∈ lw_all := lw_g (lw_at lw_m2 52 rfl) rfl
theorem q342 : (Jvm.Cond.laysFinal "NativeSubset$Calling" "NativeSubset$Calling" "this$0" "LNativeSubset;") ∈ lw_all := lw_g (lw_at lw_m2 53 rfl) rfl
theorem q343 : (Jvm.Cond.soleField "NativeSubset$Calling" "this$0") ∈ lw_all := lw_g (lw_at lw_m2 54 rfl) rfl
theorem q344 : (Jvm.Cond.laysFinal "NativeSubset$Calling" "NativeSubset$Helper" "base" "I") ∈ lw_all := lw_g (lw_at lw_m2 55 rfl) rfl
theorem q345 : (Jvm.Cond.laysFinal "NativeSubset$Calling" "NativeSubset$Helper" "this$0" "LNativeSubset;") ∈ lw_all := lw_g (lw_at lw_m2 56 rfl) rfl
theorem q346 : (Jvm.Cond.superclass "NativeSubset$Calling" "NativeSubset$Helper") ∈ lw_all := lw_g (lw_at lw_m2 57 rfl) rfl
theorem q388 : (Jvm.Cond.fieldLinkNest "NativeSubset$Calling" (15 : Nat) "NativeSubset" "deep" "I" "NativeSubset") ∈ lw_tbl := lw_at lw_m2 99 rfl
theorem q403 : (Jvm.Cond.fieldLinkNest "NativeSubset$Calling" (64 : Nat) "NativeSubset" "caught" "I" "NativeSubset") ∈ lw_tbl := lw_at lw_m2 114 rfl
theorem q495 : (Jvm.Cond.selects "NativeSubset$Calling" ({ cls := "java/lang/Object", name := "getClass", desc := "()Ljava/lang/Class;" } : Jvm.MethodName) ({ cls := "java/lang/Object", name := "getClass", desc := "()Ljava/lang/Class;" } : Jvm.MethodName)) ∈ lw_all := lw_g (lw_at lw_m2 206 rfl) rfl
theorem q700 : (Jvm.Cond.fieldLinkNest "NativeSubset$Calling" (25 : Nat) "NativeSubset$Act" "a" "I" "NativeSubset") ∈ lw_tbl := lw_at lw_m3 171 rfl
theorem q710 : (Jvm.Cond.fieldLinkNest "NativeSubset$Calling" (61 : Nat) "NativeSubset$Act" "i" "I" "NativeSubset") ∈ lw_tbl := lw_at lw_m3 181 rfl
theorem q726 : (Jvm.Cond.fieldLinkNest "NativeSubset$Calling" (30 : Nat) "NativeSubset$Act" "n" "I" "NativeSubset") ∈ lw_tbl := lw_at lw_m3 197 rfl
theorem q757 : (Jvm.Cond.selects "NativeSubset$Calling" ({ cls := "NativeSubset$Helper", name := "hasOther", desc := "()Z" } : Jvm.MethodName) ({ cls := "NativeSubset$Helper", name := "hasOther", desc := "()Z" } : Jvm.MethodName)) ∈ lw_all := lw_g (lw_at lw_m3 228 rfl) rfl
theorem q782 : (Jvm.Cond.selects "NativeSubset$Calling" ({ cls := "NativeSubset$Helper", name := "many", desc := "(LNativeSubset$Act;)I" } : Jvm.MethodName) ({ cls := "NativeSubset$Calling", name := "many", desc := "(LNativeSubset$Act;)I" } : Jvm.MethodName)) ∈ lw_all := lw_g (lw_at lw_m4 13 rfl) rfl
theorem q783 : (Jvm.Cond.instanceMethod ({ cls := "NativeSubset$Calling", name := "many", desc := "(LNativeSubset$Act;)I" } : Jvm.MethodName)) ∈ lw_all := lw_g (lw_at lw_m4 14 rfl) rfl
theorem q784 : (Jvm.Cond.code ({ cls := "NativeSubset$Calling", name := "many", desc := "(LNativeSubset$Act;)I" } : Jvm.MethodName) prog_5_method_2_code (2 : Nat) (Option.some Jvm.ClassFile.FieldType.int)) ∈ lw_all := lw_g (lw_at lw_m4 15 rfl) rfl
theorem q821 : (Jvm.Cond.castable "NativeSubset$Calling" "NativeSubset$Priced") ∈ lw_tbl := lw_at lw_m4 52 rfl
theorem q822 : (Jvm.Cond.unhidden "NativeSubset$Calling" "price" "(II)I") ∈ lw_tbl := lw_at lw_m4 53 rfl
theorem q830 : (Jvm.Cond.selects "NativeSubset$Calling" ({ cls := "NativeSubset$Priced", name := "base", desc := "()I" } : Jvm.MethodName) ({ cls := "NativeSubset$Helper", name := "base", desc := "()I" } : Jvm.MethodName)) ∈ lw_all := lw_g (lw_at lw_m4 61 rfl) rfl
theorem q831 : (Jvm.Cond.unhidden "NativeSubset$Calling" "base" "()I") ∈ lw_tbl := lw_at lw_m4 62 rfl
theorem q877 : (Jvm.Cond.selects "NativeSubset$Calling" ({ cls := "NativeSubset$Priced", name := "length", desc := "(I)I" } : Jvm.MethodName) ({ cls := "NativeSubset$Helper", name := "length", desc := "(I)I" } : Jvm.MethodName)) ∈ lw_all := lw_g (lw_at lw_m4 108 rfl) rfl
theorem q878 : (Jvm.Cond.unhidden "NativeSubset$Calling" "length" "(I)I") ∈ lw_tbl := lw_at lw_m4 109 rfl
theorem q945 : (Jvm.Cond.fieldLinkNest "NativeSubset$Calling" (33 : Nat) "NativeSubset$Call" "fuel" "I" "NativeSubset") ∈ lw_tbl := lw_at lw_m4 176 rfl
theorem q946 : (Jvm.Cond.fieldLinkNest "NativeSubset$Calling" (56 : Nat) "NativeSubset$Call" "paid" "I" "NativeSubset") ∈ lw_tbl := lw_at lw_m4 177 rfl
theorem q1054 : (Jvm.Cond.fieldLinkNest "NativeSubset$Calling" (67 : Nat) "NativeSubset$Failure" "fault" "I" "NativeSubset") ∈ lw_tbl := lw_at lw_m5 45 rfl
theorem q1075 : (Jvm.Cond.selects "NativeSubset$Calling" ({ cls := "NativeSubset$Helper", name := "work", desc := "(LNativeSubset$Act;LNativeSubset$Call;)J" } : Jvm.MethodName) ({ cls := "NativeSubset$Calling", name := "work", desc := "(LNativeSubset$Act;LNativeSubset$Call;)J" } : Jvm.MethodName)) ∈ lw_all := lw_g (lw_at lw_m5 66 rfl) rfl
theorem q1076 : (Jvm.Cond.instanceMethod ({ cls := "NativeSubset$Calling", name := "work", desc := "(LNativeSubset$Act;LNativeSubset$Call;)J" } : Jvm.MethodName)) ∈ lw_all := lw_g (lw_at lw_m5 67 rfl) rfl
theorem q1077 : (Jvm.Cond.codeWith ({ cls := "NativeSubset$Calling", name := "work", desc := "(LNativeSubset$Act;LNativeSubset$Call;)J" } : Jvm.MethodName) prog_5_method_3_code (8 : Nat) (Option.some Jvm.ClassFile.FieldType.long) [((53 : Nat), (62 : Nat), (91 : Nat), (59 : Nat)), ((53 : Nat), (62 : Nat), (153 : Nat), (0 : Nat)), ((91 : Nat), (124 : Nat), (153 : Nat), (0 : Nat)), ((153 : Nat), (155 : Nat), (153 : Nat), (0 : Nat))]) ∈ lw_all := lw_g (lw_at lw_m5 68 rfl) rfl
theorem q1078 : (Jvm.Cond.classLink "NativeSubset$Calling" (59 : Nat) "NativeSubset$Failure") ∈ lw_all := lw_g (lw_at lw_m5 69 rfl) rfl
theorem q1079 : (Jvm.Cond.methodLinkNest "NativeSubset$Calling" (19 : Nat) ({ cls := "NativeSubset", name := "fail", desc := "(I)LNativeSubset$Failure;" } : Jvm.MethodName) "NativeSubset") ∈ lw_tbl := lw_at lw_m5 70 rfl
theorem q1080 : (Jvm.Cond.classLink "NativeSubset$Calling" (23 : Nat) "NativeSubset$Call") ∈ lw_all := lw_g (lw_at lw_m5 71 rfl) rfl
theorem q1081 : (Jvm.Cond.methodLink "NativeSubset$Calling" (36 : Nat) ({ cls := "java/lang/Math", name := "min", desc := "(II)I" } : Jvm.MethodName)) ∈ lw_all := lw_g (lw_at lw_m5 72 rfl) rfl
theorem q1082 : (Jvm.Cond.methodLink "NativeSubset$Calling" (42 : Nat) ({ cls := "java/lang/Math", name := "max", desc := "(II)I" } : Jvm.MethodName)) ∈ lw_all := lw_g (lw_at lw_m5 73 rfl) rfl
theorem q1083 : (Jvm.Cond.methodLink "NativeSubset$Calling" (45 : Nat) ({ cls := "NativeSubset$Call", name := "<init>", desc := "(LNativeSubset;II)V" } : Jvm.MethodName)) ∈ lw_all := lw_g (lw_at lw_m5 74 rfl) rfl
theorem q1084 : (Jvm.Cond.methodLink "NativeSubset$Calling" (48 : Nat) ({ cls := "NativeSubset$Call", name := "go", desc := "()V" } : Jvm.MethodName)) ∈ lw_all := lw_g (lw_at lw_m5 75 rfl) rfl
theorem q1085 : (Jvm.Cond.methodLink "NativeSubset$Calling" (52 : Nat) ({ cls := "NativeSubset$Call", name := "take", desc := "(LNativeSubset$Call;)V" } : Jvm.MethodName)) ∈ lw_all := lw_g (lw_at lw_m5 76 rfl) rfl
theorem q1851 : (Jvm.Cond.castable "NativeSubset$Calling" "java/lang/Object") ∈ lw_tbl := lw_at lw_m8 122 rfl
theorem q1875 : (Jvm.Cond.castable "NativeSubset$Calling" "NativeSubset$Helper") ∈ lw_tbl := lw_at lw_m8 146 rfl
theorem in_X17 : ∀ w ∈ wsX170, w ∈ lw_all := lw_in wsX170 [344, 345, 342] (by decide +kernel) (by decide +kernel)
/-! NativeSubset$Giving -/
def RX18 : String := "NativeSubset$Giving"
def TX18 : u_T := fun k => match k with
  | 0 => ("NativeSubset$Helper", "base", "I", true)
  | 1 => ("NativeSubset$Helper", "this$0", "LNativeSubset;", true)
  | _ => ("NativeSubset$Giving", "this$0", "LNativeSubset;", true)
def tyX18 : Nat → FieldType := fun k => match k with
  | 0 => .int
  | 1 => .object "NativeSubset"
  | _ => .object "NativeSubset"
abbrev wsX180 : List Cond := u_ws RX18 TX18 3
-- two fields of one name: no nmX18
theorem tyX18_ok : ∀ k, k < 3 → parseFieldDescriptor (TX18 k).2.2.1 = some (tyX18 k) := by decide +kernel
abbrev cX18_init : ByteArray := prog_15_method_1_code
def yX18_init : MethodName := ⟨RX18, "<init>", "(LNativeSubset;)V"⟩
def dkwX18_init_0 : List UInt8 := [42, 43, 181, 0, 3, 42, 43, 4, 183, 0, 9, 177]
abbrev dktX18_init_0 : List UInt8 := dkwX18_init_0 ++ []
theorem dksX18_init_0 : cX18_init.data.toList.drop 0 = dktX18_init_0 := by decide +kernel
theorem dX18_init_0 : decode cX18_init 0 = .ok (.aload_n 0, 1) := dk_42 (dk_at dksX18_init_0 0 rfl rfl)
theorem dX18_init_1 : decode cX18_init 1 = .ok (.aload_n 1, 1) := dk_43 (dk_at dksX18_init_0 1 rfl rfl)
theorem dX18_init_2 : decode cX18_init 2 = .ok (.putfield 3, 3) := dk_181 0 3 (dk_at dksX18_init_0 2 rfl rfl)
theorem dX18_init_5 : decode cX18_init 5 = .ok (.aload_n 0, 1) := dk_42 (dk_at dksX18_init_0 5 rfl rfl)
theorem dX18_init_6 : decode cX18_init 6 = .ok (.aload_n 1, 1) := dk_43 (dk_at dksX18_init_0 6 rfl rfl)
theorem dX18_init_7 : decode cX18_init 7 = .ok (.iconst 1, 1) := dk_4 (dk_at dksX18_init_0 7 rfl rfl)
theorem dX18_init_8 : decode cX18_init 8 = .ok (.invokespecial 9, 3) := dk_183 0 9 (dk_at dksX18_init_0 8 rfl rfl)
theorem dX18_init_11 : decode cX18_init 11 = .ok (.return_, 1) := dk_177 (dk_at dksX18_init_0 11 rfl rfl)
abbrev cX18_many : ByteArray := prog_15_method_2_code
def yX18_many : MethodName := ⟨RX18, "many", "(LNativeSubset$Act;)I"⟩
theorem dX18_many_0 : decode cX18_many 0 = .ok (.iconst 0, 1) := by decide +kernel
theorem dX18_many_1 : decode cX18_many 1 = .ok (.ireturn, 1) := by decide +kernel
abbrev cX18_work : ByteArray := prog_15_method_3_code
def yX18_work : MethodName := ⟨RX18, "work", "(LNativeSubset$Act;LNativeSubset$Call;)J"⟩
def dkwX18_work_0 : List UInt8 := [42, 180, 0, 3, 16, 6, 182, 0, 15, 191]
abbrev dktX18_work_0 : List UInt8 := dkwX18_work_0 ++ []
theorem dksX18_work_0 : cX18_work.data.toList.drop 0 = dktX18_work_0 := by decide +kernel
theorem dX18_work_0 : decode cX18_work 0 = .ok (.aload_n 0, 1) := dk_42 (dk_at dksX18_work_0 0 rfl rfl)
theorem dX18_work_1 : decode cX18_work 1 = .ok (.getfield 3, 3) := dk_180 0 3 (dk_at dksX18_work_0 1 rfl rfl)
theorem dX18_work_4 : decode cX18_work 4 = .ok (.bipush 6, 2) := dk_16 6 (dk_at dksX18_work_0 4 rfl rfl)
theorem dX18_work_6 : decode cX18_work 6 = .ok (.invokevirtual 15, 3) := dk_182 0 15 (dk_at dksX18_work_0 6 rfl rfl)
theorem dX18_work_9 : decode cX18_work 9 = .ok (.athrow, 1) := dk_191 (dk_at dksX18_work_0 9 rfl rfl)
theorem q70 : (Jvm.Cond.initialized "NativeSubset$Giving") ∈ lw_all := lw_g (lw_at lw_m1 21 rfl) rfl
theorem q348 : (Jvm.Cond.instantiable "NativeSubset$Giving" (3 : Nat)) ∈ lw_all := lw_g (lw_at lw_m2 59 rfl) rfl
theorem q350 : (Jvm.Cond.instanceMethod ({ cls := "NativeSubset$Giving", name := "<init>", desc := "(LNativeSubset;)V" } : Jvm.MethodName)) ∈ lw_all := lw_g (lw_at lw_m2 61 rfl) rfl
theorem q351 : (Jvm.Cond.code ({ cls := "NativeSubset$Giving", name := "<init>", desc := "(LNativeSubset;)V" } : Jvm.MethodName) prog_15_method_1_code (2 : Nat) (Option.none : Option Jvm.ClassFile.FieldType)) ∈ lw_all := lw_g (lw_at lw_m2 62 rfl) rfl
theorem q352 : (Jvm.Cond.methodLink "NativeSubset$Giving" (9 : Nat) ({ cls := "NativeSubset$Helper", name := "<init>", desc := "(LNativeSubset;I)V" } : Jvm.MethodName)) ∈ lw_all := lw_g (lw_at lw_m2 63 rfl) rfl
theorem q353 : (Jvm.Cond.fieldLink "NativeSubset$Giving" (3 : Nat) "NativeSubset$Giving" "this$0" "LNativeSubset;") ∈ lw_all := lw_g (lw_at lw_m2 64 rfl) rfl
theorem q354 : (Jvm.Cond.laysFinal "NativeSubset$Giving" "NativeSubset$Giving" "this$0" "LNativeSubset;") ∈ lw_all := lw_g (lw_at lw_m2 65 rfl) rfl
theorem q355 : (Jvm.Cond.soleField "NativeSubset$Giving" "this$0") ∈ lw_all := lw_g (lw_at lw_m2 66 rfl) rfl
theorem q356 : (Jvm.Cond.laysFinal "NativeSubset$Giving" "NativeSubset$Helper" "base" "I") ∈ lw_all := lw_g (lw_at lw_m2 67 rfl) rfl
theorem q357 : (Jvm.Cond.laysFinal "NativeSubset$Giving" "NativeSubset$Helper" "this$0" "LNativeSubset;") ∈ lw_all := lw_g (lw_at lw_m2 68 rfl) rfl
theorem q358 : (Jvm.Cond.superclass "NativeSubset$Giving" "NativeSubset$Helper") ∈ lw_all := lw_g (lw_at lw_m2 69 rfl) rfl
theorem q504 : (Jvm.Cond.selects "NativeSubset$Giving" ({ cls := "java/lang/Object", name := "getClass", desc := "()Ljava/lang/Class;" } : Jvm.MethodName) ({ cls := "java/lang/Object", name := "getClass", desc := "()Ljava/lang/Class;" } : Jvm.MethodName)) ∈ lw_all := lw_g (lw_at lw_m2 215 rfl) rfl
theorem q768 : (Jvm.Cond.selects "NativeSubset$Giving" ({ cls := "NativeSubset$Helper", name := "hasOther", desc := "()Z" } : Jvm.MethodName) ({ cls := "NativeSubset$Helper", name := "hasOther", desc := "()Z" } : Jvm.MethodName)) ∈ lw_all := lw_g (lw_at lw_m3 239 rfl) rfl
theorem q804 : (Jvm.Cond.selects "NativeSubset$Giving" ({ cls := "NativeSubset$Helper", name := "many", desc := "(LNativeSubset$Act;)I" } : Jvm.MethodName) ({ cls := "NativeSubset$Giving", name := "many", desc := "(LNativeSubset$Act;)I" } : Jvm.MethodName)) ∈ lw_all := lw_g (lw_at lw_m4 35 rfl) rfl
theorem q805 : (Jvm.Cond.instanceMethod ({ cls := "NativeSubset$Giving", name := "many", desc := "(LNativeSubset$Act;)I" } : Jvm.MethodName)) ∈ lw_all := lw_g (lw_at lw_m4 36 rfl) rfl
theorem q806 : (Jvm.Cond.code ({ cls := "NativeSubset$Giving", name := "many", desc := "(LNativeSubset$Act;)I" } : Jvm.MethodName) prog_15_method_2_code (2 : Nat) (Option.some Jvm.ClassFile.FieldType.int)) ∈ lw_all := lw_g (lw_at lw_m4 37 rfl) rfl
theorem q853 : (Jvm.Cond.castable "NativeSubset$Giving" "NativeSubset$Priced") ∈ lw_tbl := lw_at lw_m4 84 rfl
theorem q854 : (Jvm.Cond.selects "NativeSubset$Giving" ({ cls := "NativeSubset$Priced", name := "base", desc := "()I" } : Jvm.MethodName) ({ cls := "NativeSubset$Helper", name := "base", desc := "()I" } : Jvm.MethodName)) ∈ lw_all := lw_g (lw_at lw_m4 85 rfl) rfl
theorem q855 : (Jvm.Cond.unhidden "NativeSubset$Giving" "base" "()I") ∈ lw_tbl := lw_at lw_m4 86 rfl
theorem q894 : (Jvm.Cond.selects "NativeSubset$Giving" ({ cls := "NativeSubset$Priced", name := "length", desc := "(I)I" } : Jvm.MethodName) ({ cls := "NativeSubset$Helper", name := "length", desc := "(I)I" } : Jvm.MethodName)) ∈ lw_all := lw_g (lw_at lw_m4 125 rfl) rfl
theorem q895 : (Jvm.Cond.unhidden "NativeSubset$Giving" "length" "(I)I") ∈ lw_tbl := lw_at lw_m4 126 rfl
theorem q920 : (Jvm.Cond.unhidden "NativeSubset$Giving" "price" "(II)I") ∈ lw_tbl := lw_at lw_m4 151 rfl
theorem q1285 : (Jvm.Cond.selects "NativeSubset$Giving" ({ cls := "NativeSubset$Helper", name := "work", desc := "(LNativeSubset$Act;LNativeSubset$Call;)J" } : Jvm.MethodName) ({ cls := "NativeSubset$Giving", name := "work", desc := "(LNativeSubset$Act;LNativeSubset$Call;)J" } : Jvm.MethodName)) ∈ lw_all := lw_g (lw_at lw_m6 36 rfl) rfl
theorem q1286 : (Jvm.Cond.instanceMethod ({ cls := "NativeSubset$Giving", name := "work", desc := "(LNativeSubset$Act;LNativeSubset$Call;)J" } : Jvm.MethodName)) ∈ lw_all := lw_g (lw_at lw_m6 37 rfl) rfl
theorem q1287 : (Jvm.Cond.code ({ cls := "NativeSubset$Giving", name := "work", desc := "(LNativeSubset$Act;LNativeSubset$Call;)J" } : Jvm.MethodName) prog_15_method_3_code (3 : Nat) (Option.some Jvm.ClassFile.FieldType.long)) ∈ lw_all := lw_g (lw_at lw_m6 38 rfl) rfl
theorem q1288 : (Jvm.Cond.methodLinkNest "NativeSubset$Giving" (15 : Nat) ({ cls := "NativeSubset", name := "fail", desc := "(I)LNativeSubset$Failure;" } : Jvm.MethodName) "NativeSubset") ∈ lw_tbl := lw_at lw_m6 39 rfl
theorem q1852 : (Jvm.Cond.castable "NativeSubset$Giving" "java/lang/Object") ∈ lw_tbl := lw_at lw_m8 123 rfl
theorem q1876 : (Jvm.Cond.castable "NativeSubset$Giving" "NativeSubset$Helper") ∈ lw_tbl := lw_at lw_m8 147 rfl
theorem in_X18 : ∀ w ∈ wsX180, w ∈ lw_all := lw_in wsX180 [356, 357, 354] (by decide +kernel) (by decide +kernel)
/-! NativeSubset$Fees -/
def RX19 : String := "NativeSubset$Fees"
def TX19 : u_T := fun k => match k with
  | 0 => ("NativeSubset$Helper", "base", "I", true)
  | 1 => ("NativeSubset$Helper", "this$0", "LNativeSubset;", true)
  | 2 => ("NativeSubset$Asking", "first", "I", true)
  | 3 => ("NativeSubset$Asking", "last", "I", true)
  | 4 => ("NativeSubset$Asking", "this$0", "LNativeSubset;", true)
  | _ => ("NativeSubset$Fees", "this$0", "LNativeSubset;", true)
def tyX19 : Nat → FieldType := fun k => match k with
  | 0 => .int
  | 1 => .object "NativeSubset"
  | 2 => .int
  | 3 => .int
  | 4 => .object "NativeSubset"
  | _ => .object "NativeSubset"
abbrev wsX190 : List Cond := u_ws RX19 TX19 6
-- two fields of one name: no nmX19
theorem tyX19_ok : ∀ k, k < 6 → parseFieldDescriptor (TX19 k).2.2.1 = some (tyX19 k) := by decide +kernel
abbrev cX19_init : ByteArray := prog_12_method_1_code
def yX19_init : MethodName := ⟨RX19, "<init>", "(LNativeSubset;)V"⟩
def dkwX19_init_0 : List UInt8 := [42, 43, 181, 0, 3, 42, 43, 4, 16, 8, 16, 9, 183, 0, 9, 177]
abbrev dktX19_init_0 : List UInt8 := dkwX19_init_0 ++ []
theorem dksX19_init_0 : cX19_init.data.toList.drop 0 = dktX19_init_0 := by decide +kernel
theorem dX19_init_0 : decode cX19_init 0 = .ok (.aload_n 0, 1) := dk_42 (dk_at dksX19_init_0 0 rfl rfl)
theorem dX19_init_1 : decode cX19_init 1 = .ok (.aload_n 1, 1) := dk_43 (dk_at dksX19_init_0 1 rfl rfl)
theorem dX19_init_2 : decode cX19_init 2 = .ok (.putfield 3, 3) := dk_181 0 3 (dk_at dksX19_init_0 2 rfl rfl)
theorem dX19_init_5 : decode cX19_init 5 = .ok (.aload_n 0, 1) := dk_42 (dk_at dksX19_init_0 5 rfl rfl)
theorem dX19_init_6 : decode cX19_init 6 = .ok (.aload_n 1, 1) := dk_43 (dk_at dksX19_init_0 6 rfl rfl)
theorem dX19_init_7 : decode cX19_init 7 = .ok (.iconst 1, 1) := dk_4 (dk_at dksX19_init_0 7 rfl rfl)
theorem dX19_init_8 : decode cX19_init 8 = .ok (.bipush 8, 2) := dk_16 8 (dk_at dksX19_init_0 8 rfl rfl)
theorem dX19_init_10 : decode cX19_init 10 = .ok (.bipush 9, 2) := dk_16 9 (dk_at dksX19_init_0 10 rfl rfl)
theorem dX19_init_12 : decode cX19_init 12 = .ok (.invokespecial 9, 3) := dk_183 0 9 (dk_at dksX19_init_0 12 rfl rfl)
theorem dX19_init_15 : decode cX19_init 15 = .ok (.return_, 1) := dk_177 (dk_at dksX19_init_0 15 rfl rfl)
abbrev cX19_work : ByteArray := prog_12_method_2_code
def yX19_work : MethodName := ⟨RX19, "work", "(LNativeSubset$Act;LNativeSubset$Call;)J"⟩
def dkwX19_work_3 : List UInt8 := [22, 4, 173]
abbrev dktX19_work_3 : List UInt8 := dkwX19_work_3 ++ []
def dkwX19_work_2 : List UInt8 := [199, 0, 7, 9, 167, 0, 11, 25, 10, 185, 0, 21, 1, 0, 133, 97, 55, 4, 132, 8, 1, 167, 255, 213]
abbrev dktX19_work_2 : List UInt8 := dkwX19_work_2 ++ dktX19_work_3
def dkwX19_work_1 : List UInt8 := [21, 8, 21, 7, 162, 0, 42, 25, 6, 21, 8, 50, 58, 9, 25, 9, 58, 10, 22, 4, 25, 10]
abbrev dktX19_work_1 : List UInt8 := dkwX19_work_1 ++ dktX19_work_2
def dkwX19_work_0 : List UInt8 := [42, 43, 182, 0, 15, 192, 0, 19, 78, 9, 55, 4, 45, 58, 6, 25, 6, 190, 54, 7, 3, 54, 8]
abbrev dktX19_work_0 : List UInt8 := dkwX19_work_0 ++ dktX19_work_1
theorem dksX19_work_0 : cX19_work.data.toList.drop 0 = dktX19_work_0 := by decide +kernel
theorem dksX19_work_1 : cX19_work.data.toList.drop 23 = dktX19_work_1 := dk_seg dksX19_work_0 23 rfl rfl
theorem dksX19_work_2 : cX19_work.data.toList.drop 45 = dktX19_work_2 := dk_seg dksX19_work_1 22 rfl rfl
theorem dksX19_work_3 : cX19_work.data.toList.drop 69 = dktX19_work_3 := dk_seg dksX19_work_2 24 rfl rfl
theorem dX19_work_0 : decode cX19_work 0 = .ok (.aload_n 0, 1) := dk_42 (dk_at dksX19_work_0 0 rfl rfl)
theorem dX19_work_1 : decode cX19_work 1 = .ok (.aload_n 1, 1) := dk_43 (dk_at dksX19_work_0 1 rfl rfl)
theorem dX19_work_2 : decode cX19_work 2 = .ok (.invokevirtual 15, 3) := dk_182 0 15 (dk_at dksX19_work_0 2 rfl rfl)
theorem dX19_work_5 : decode cX19_work 5 = .ok (.checkcast 19, 3) := dk_192 0 19 (dk_at dksX19_work_0 5 rfl rfl)
theorem dX19_work_8 : decode cX19_work 8 = .ok (.astore_n 3, 1) := dk_78 (dk_at dksX19_work_0 8 rfl rfl)
theorem dX19_work_9 : decode cX19_work 9 = .ok (.lconst 0, 1) := dk_9 (dk_at dksX19_work_0 9 rfl rfl)
theorem dX19_work_10 : decode cX19_work 10 = .ok (.lstore 4, 2) := dk_55 4 (dk_at dksX19_work_0 10 rfl rfl)
theorem dX19_work_12 : decode cX19_work 12 = .ok (.aload_n 3, 1) := dk_45 (dk_at dksX19_work_0 12 rfl rfl)
theorem dX19_work_13 : decode cX19_work 13 = .ok (.astore 6, 2) := dk_58 6 (dk_at dksX19_work_0 13 rfl rfl)
theorem dX19_work_15 : decode cX19_work 15 = .ok (.aload 6, 2) := dk_25 6 (dk_at dksX19_work_0 15 rfl rfl)
theorem dX19_work_17 : decode cX19_work 17 = .ok (.arraylength, 1) := dk_190 (dk_at dksX19_work_0 17 rfl rfl)
theorem dX19_work_18 : decode cX19_work 18 = .ok (.istore 7, 2) := dk_54 7 (dk_at dksX19_work_0 18 rfl rfl)
theorem dX19_work_20 : decode cX19_work 20 = .ok (.iconst 0, 1) := dk_3 (dk_at dksX19_work_0 20 rfl rfl)
theorem dX19_work_21 : decode cX19_work 21 = .ok (.istore 8, 2) := dk_54 8 (dk_at dksX19_work_0 21 rfl rfl)
theorem dX19_work_23 : decode cX19_work 23 = .ok (.iload 8, 2) := dk_21 8 (dk_at dksX19_work_1 0 rfl rfl)
theorem dX19_work_25 : decode cX19_work 25 = .ok (.iload 7, 2) := dk_21 7 (dk_at dksX19_work_1 2 rfl rfl)
theorem dX19_work_27 : decode cX19_work 27 = .ok (.if_icmp .ge 42, 3) := dk_162 0 42 (dk_at dksX19_work_1 4 rfl rfl)
theorem dX19_work_30 : decode cX19_work 30 = .ok (.aload 6, 2) := dk_25 6 (dk_at dksX19_work_1 7 rfl rfl)
theorem dX19_work_32 : decode cX19_work 32 = .ok (.iload 8, 2) := dk_21 8 (dk_at dksX19_work_1 9 rfl rfl)
theorem dX19_work_34 : decode cX19_work 34 = .ok (.aaload, 1) := dk_50 (dk_at dksX19_work_1 11 rfl rfl)
theorem dX19_work_35 : decode cX19_work 35 = .ok (.astore 9, 2) := dk_58 9 (dk_at dksX19_work_1 12 rfl rfl)
theorem dX19_work_37 : decode cX19_work 37 = .ok (.aload 9, 2) := dk_25 9 (dk_at dksX19_work_1 14 rfl rfl)
theorem dX19_work_39 : decode cX19_work 39 = .ok (.astore 10, 2) := dk_58 10 (dk_at dksX19_work_1 16 rfl rfl)
theorem dX19_work_41 : decode cX19_work 41 = .ok (.lload 4, 2) := dk_22 4 (dk_at dksX19_work_1 18 rfl rfl)
theorem dX19_work_43 : decode cX19_work 43 = .ok (.aload 10, 2) := dk_25 10 (dk_at dksX19_work_1 20 rfl rfl)
theorem dX19_work_45 : decode cX19_work 45 = .ok (.ifnonnull 7, 3) := dk_199 0 7 (dk_at dksX19_work_2 0 rfl rfl)
theorem dX19_work_48 : decode cX19_work 48 = .ok (.lconst 0, 1) := dk_9 (dk_at dksX19_work_2 3 rfl rfl)
theorem dX19_work_49 : decode cX19_work 49 = .ok (.goto 11, 3) := dk_167 0 11 (dk_at dksX19_work_2 4 rfl rfl)
theorem dX19_work_52 : decode cX19_work 52 = .ok (.aload 10, 2) := dk_25 10 (dk_at dksX19_work_2 7 rfl rfl)
theorem dX19_work_54 : decode cX19_work 54 = .ok (.invokeinterface 21 1, 5) := by decide +kernel
theorem dX19_work_59 : decode cX19_work 59 = .ok (.i2l, 1) := dk_133 (dk_at dksX19_work_2 14 rfl rfl)
theorem dX19_work_60 : decode cX19_work 60 = .ok (.ladd, 1) := dk_97 (dk_at dksX19_work_2 15 rfl rfl)
theorem dX19_work_61 : decode cX19_work 61 = .ok (.lstore 4, 2) := dk_55 4 (dk_at dksX19_work_2 16 rfl rfl)
theorem dX19_work_63 : decode cX19_work 63 = .ok (.iinc 8 1, 3) := dk_132 8 1 (dk_at dksX19_work_2 18 rfl rfl)
theorem dX19_work_66 : decode cX19_work 66 = .ok (.goto (-43), 3) := dk_167 255 213 (dk_at dksX19_work_2 21 rfl rfl)
theorem dX19_work_69 : decode cX19_work 69 = .ok (.lload 4, 2) := dk_22 4 (dk_at dksX19_work_3 0 rfl rfl)
theorem dX19_work_71 : decode cX19_work 71 = .ok (.lreturn, 1) := dk_173 (dk_at dksX19_work_3 2 rfl rfl)
theorem q71 : (Jvm.Cond.initialized "NativeSubset$Fees") ∈ lw_all := lw_g (lw_at lw_m1 22 rfl) rfl
theorem q360 : (Jvm.Cond.instantiable "NativeSubset$Fees" (6 : Nat)) ∈ lw_all := lw_g (lw_at lw_m2 71 rfl) rfl
theorem q362 : (Jvm.Cond.instanceMethod ({ cls := "NativeSubset$Fees", name := "<init>", desc := "(LNativeSubset;)V" } : Jvm.MethodName)) ∈ lw_all := lw_g (lw_at lw_m2 73 rfl) rfl
theorem q363 : (Jvm.Cond.code ({ cls := "NativeSubset$Fees", name := "<init>", desc := "(LNativeSubset;)V" } : Jvm.MethodName) prog_12_method_1_code (2 : Nat) (Option.none : Option Jvm.ClassFile.FieldType)) ∈ lw_all := lw_g (lw_at lw_m2 74 rfl) rfl
theorem q364 : (Jvm.Cond.methodLink "NativeSubset$Fees" (9 : Nat) ({ cls := "NativeSubset$Asking", name := "<init>", desc := "(LNativeSubset;III)V" } : Jvm.MethodName)) ∈ lw_all := lw_g (lw_at lw_m2 75 rfl) rfl
theorem q365 : (Jvm.Cond.fieldLink "NativeSubset$Fees" (3 : Nat) "NativeSubset$Fees" "this$0" "LNativeSubset;") ∈ lw_all := lw_g (lw_at lw_m2 76 rfl) rfl
theorem q366 : (Jvm.Cond.laysFinal "NativeSubset$Fees" "NativeSubset$Fees" "this$0" "LNativeSubset;") ∈ lw_all := lw_g (lw_at lw_m2 77 rfl) rfl
theorem q367 : (Jvm.Cond.soleField "NativeSubset$Fees" "this$0") ∈ lw_all := lw_g (lw_at lw_m2 78 rfl) rfl
theorem q368 : (Jvm.Cond.laysFinal "NativeSubset$Fees" "NativeSubset$Asking" "first" "I") ∈ lw_all := lw_g (lw_at lw_m2 79 rfl) rfl
theorem q369 : (Jvm.Cond.laysFinal "NativeSubset$Fees" "NativeSubset$Asking" "last" "I") ∈ lw_all := lw_g (lw_at lw_m2 80 rfl) rfl
theorem q370 : (Jvm.Cond.laysFinal "NativeSubset$Fees" "NativeSubset$Asking" "this$0" "LNativeSubset;") ∈ lw_all := lw_g (lw_at lw_m2 81 rfl) rfl
theorem q371 : (Jvm.Cond.laysFinal "NativeSubset$Fees" "NativeSubset$Helper" "base" "I") ∈ lw_all := lw_g (lw_at lw_m2 82 rfl) rfl
theorem q372 : (Jvm.Cond.laysFinal "NativeSubset$Fees" "NativeSubset$Helper" "this$0" "LNativeSubset;") ∈ lw_all := lw_g (lw_at lw_m2 83 rfl) rfl
theorem q373 : (Jvm.Cond.superclass "NativeSubset$Fees" "NativeSubset$Asking") ∈ lw_all := lw_g (lw_at lw_m2 84 rfl) rfl
theorem q501 : (Jvm.Cond.selects "NativeSubset$Fees" ({ cls := "java/lang/Object", name := "getClass", desc := "()Ljava/lang/Class;" } : Jvm.MethodName) ({ cls := "java/lang/Object", name := "getClass", desc := "()Ljava/lang/Class;" } : Jvm.MethodName)) ∈ lw_all := lw_g (lw_at lw_m2 212 rfl) rfl
theorem q765 : (Jvm.Cond.selects "NativeSubset$Fees" ({ cls := "NativeSubset$Helper", name := "hasOther", desc := "()Z" } : Jvm.MethodName) ({ cls := "NativeSubset$Helper", name := "hasOther", desc := "()Z" } : Jvm.MethodName)) ∈ lw_all := lw_g (lw_at lw_m3 236 rfl) rfl
theorem q799 : (Jvm.Cond.selects "NativeSubset$Fees" ({ cls := "NativeSubset$Helper", name := "many", desc := "(LNativeSubset$Act;)I" } : Jvm.MethodName) ({ cls := "NativeSubset$Asking", name := "many", desc := "(LNativeSubset$Act;)I" } : Jvm.MethodName)) ∈ lw_all := lw_g (lw_at lw_m4 30 rfl) rfl
theorem q844 : (Jvm.Cond.castable "NativeSubset$Fees" "NativeSubset$Priced") ∈ lw_tbl := lw_at lw_m4 75 rfl
theorem q845 : (Jvm.Cond.selects "NativeSubset$Fees" ({ cls := "NativeSubset$Priced", name := "base", desc := "()I" } : Jvm.MethodName) ({ cls := "NativeSubset$Helper", name := "base", desc := "()I" } : Jvm.MethodName)) ∈ lw_all := lw_g (lw_at lw_m4 76 rfl) rfl
theorem q846 : (Jvm.Cond.unhidden "NativeSubset$Fees" "base" "()I") ∈ lw_tbl := lw_at lw_m4 77 rfl
theorem q888 : (Jvm.Cond.selects "NativeSubset$Fees" ({ cls := "NativeSubset$Priced", name := "length", desc := "(I)I" } : Jvm.MethodName) ({ cls := "NativeSubset$Helper", name := "length", desc := "(I)I" } : Jvm.MethodName)) ∈ lw_all := lw_g (lw_at lw_m4 119 rfl) rfl
theorem q889 : (Jvm.Cond.unhidden "NativeSubset$Fees" "length" "(I)I") ∈ lw_tbl := lw_at lw_m4 120 rfl
theorem q917 : (Jvm.Cond.unhidden "NativeSubset$Fees" "price" "(II)I") ∈ lw_tbl := lw_at lw_m4 148 rfl
theorem q1207 : (Jvm.Cond.selects "NativeSubset$Fees" ({ cls := "NativeSubset$Helper", name := "work", desc := "(LNativeSubset$Act;LNativeSubset$Call;)J" } : Jvm.MethodName) ({ cls := "NativeSubset$Fees", name := "work", desc := "(LNativeSubset$Act;LNativeSubset$Call;)J" } : Jvm.MethodName)) ∈ lw_all := lw_g (lw_at lw_m5 198 rfl) rfl
theorem q1208 : (Jvm.Cond.instanceMethod ({ cls := "NativeSubset$Fees", name := "work", desc := "(LNativeSubset$Act;LNativeSubset$Call;)J" } : Jvm.MethodName)) ∈ lw_all := lw_g (lw_at lw_m5 199 rfl) rfl
theorem q1209 : (Jvm.Cond.code ({ cls := "NativeSubset$Fees", name := "work", desc := "(LNativeSubset$Act;LNativeSubset$Call;)J" } : Jvm.MethodName) prog_12_method_2_code (11 : Nat) (Option.some Jvm.ClassFile.FieldType.long)) ∈ lw_all := lw_g (lw_at lw_m5 200 rfl) rfl
theorem q1210 : (Jvm.Cond.methodLink "NativeSubset$Fees" (15 : Nat) ({ cls := "NativeSubset$Fees", name := "row", desc := "(LNativeSubset$Act;)Ljava/lang/Object;" } : Jvm.MethodName)) ∈ lw_all := lw_g (lw_at lw_m5 201 rfl) rfl
theorem q1211 : (Jvm.Cond.sameMethod "NativeSubset$Fees" "NativeSubset$Asking" "row" "(LNativeSubset$Act;)Ljava/lang/Object;") ∈ lw_all := lw_g (lw_at lw_m5 202 rfl) rfl
theorem q1213 : (Jvm.Cond.selects "NativeSubset$Fees" ({ cls := "NativeSubset$Fees", name := "row", desc := "(LNativeSubset$Act;)Ljava/lang/Object;" } : Jvm.MethodName) ({ cls := "NativeSubset$Asking", name := "row", desc := "(LNativeSubset$Act;)Ljava/lang/Object;" } : Jvm.MethodName)) ∈ lw_all := lw_g (lw_at lw_m5 204 rfl) rfl
theorem q1218 : (Jvm.Cond.classLink "NativeSubset$Fees" (19 : Nat) "[LNativeSubset$Unit;") ∈ lw_all := lw_g (lw_at lw_m5 209 rfl) rfl
theorem q1219 : (Jvm.Cond.interfaceEntry "NativeSubset$Fees" (21 : Nat)) ∈ lw_tbl := lw_at lw_m5 210 rfl
theorem q1220 : (Jvm.Cond.methodLink "NativeSubset$Fees" (21 : Nat) ({ cls := "NativeSubset$Paying", name := "fee", desc := "()I" } : Jvm.MethodName)) ∈ lw_all := lw_g (lw_at lw_m5 211 rfl) rfl
theorem q1853 : (Jvm.Cond.castable "NativeSubset$Fees" "java/lang/Object") ∈ lw_tbl := lw_at lw_m8 124 rfl
theorem q1877 : (Jvm.Cond.castable "NativeSubset$Fees" "NativeSubset$Helper") ∈ lw_tbl := lw_at lw_m8 148 rfl
theorem in_X19 : ∀ w ∈ wsX190, w ∈ lw_all := lw_in wsX190 [371, 372, 368, 369, 370, 366] (by decide +kernel) (by decide +kernel)
/-! NativeSubset$Unit -/
def RX21 : String := "NativeSubset$Unit"
def TX21 : u_T := fun k => match k with
  | 0 => ("NativeSubset$Unit", "number", "I", true)
  | _ => ("NativeSubset$Unit", "n", "I", true)
def tyX21 : Nat → FieldType := fun k => match k with
  | 0 => .int
  | _ => .int
abbrev wsX210 : List Cond := u_ws RX21 TX21 2
theorem nmX21 : ∀ a, a < 2 → ∀ b, b < 2 → a ≠ b → (TX21 a).2.1 ≠ (TX21 b).2.1 := by decide +kernel
theorem tyX21_ok : ∀ k, k < 2 → parseFieldDescriptor (TX21 k).2.2.1 = some (tyX21 k) := by decide +kernel
abbrev cX21_init : ByteArray := prog_26_method_1_code
def yX21_init : MethodName := ⟨RX21, "<init>", "(II)V"⟩
def dkwX21_init_0 : List UInt8 := [42, 183, 0, 1, 42, 27, 181, 0, 7, 42, 28, 181, 0, 13, 177]
abbrev dktX21_init_0 : List UInt8 := dkwX21_init_0 ++ []
theorem dksX21_init_0 : cX21_init.data.toList.drop 0 = dktX21_init_0 := by decide +kernel
theorem dX21_init_0 : decode cX21_init 0 = .ok (.aload_n 0, 1) := dk_42 (dk_at dksX21_init_0 0 rfl rfl)
theorem dX21_init_1 : decode cX21_init 1 = .ok (.invokespecial 1, 3) := dk_183 0 1 (dk_at dksX21_init_0 1 rfl rfl)
theorem dX21_init_4 : decode cX21_init 4 = .ok (.aload_n 0, 1) := dk_42 (dk_at dksX21_init_0 4 rfl rfl)
theorem dX21_init_5 : decode cX21_init 5 = .ok (.iload_n 1, 1) := dk_27 (dk_at dksX21_init_0 5 rfl rfl)
theorem dX21_init_6 : decode cX21_init 6 = .ok (.putfield 7, 3) := dk_181 0 7 (dk_at dksX21_init_0 6 rfl rfl)
theorem dX21_init_9 : decode cX21_init 9 = .ok (.aload_n 0, 1) := dk_42 (dk_at dksX21_init_0 9 rfl rfl)
theorem dX21_init_10 : decode cX21_init 10 = .ok (.iload_n 2, 1) := dk_28 (dk_at dksX21_init_0 10 rfl rfl)
theorem dX21_init_11 : decode cX21_init 11 = .ok (.putfield 13, 3) := dk_181 0 13 (dk_at dksX21_init_0 11 rfl rfl)
theorem dX21_init_14 : decode cX21_init 14 = .ok (.return_, 1) := dk_177 (dk_at dksX21_init_0 14 rfl rfl)
abbrev cX21_worth : ByteArray := prog_26_method_2_code
def yX21_worth : MethodName := ⟨RX21, "worth", "()I"⟩
theorem dX21_worth_0 : decode cX21_worth 0 = .ok (.aload_n 0, 1) := by decide +kernel
theorem dX21_worth_1 : decode cX21_worth 1 = .ok (.getfield 13, 3) := by decide +kernel
theorem dX21_worth_4 : decode cX21_worth 4 = .ok (.ireturn, 1) := by decide +kernel
abbrev cX21_least : ByteArray := prog_26_method_4_code
def yX21_least : MethodName := ⟨RX21, "least", "()I"⟩
theorem dX21_least_0 : decode cX21_least 0 = .ok (.iconst 1, 1) := by decide +kernel
theorem dX21_least_1 : decode cX21_least 1 = .ok (.ireturn, 1) := by decide +kernel
abbrev cX21_cls : ByteArray := prog_26_method_3_code
def yX21_cls : MethodName := ⟨RX21, "cls", "()I"⟩
theorem dX21_cls_0 : decode cX21_cls 0 = .ok (.iconst 0, 1) := by decide +kernel
theorem dX21_cls_1 : decode cX21_cls 1 = .ok (.ireturn, 1) := by decide +kernel
theorem q77 : (Jvm.Cond.initialized "NativeSubset$Unit") ∈ lw_all := lw_g (lw_at lw_m1 28 rfl) rfl
theorem q512 : (Jvm.Cond.selects "NativeSubset$Unit" ({ cls := "java/lang/Object", name := "getClass", desc := "()Ljava/lang/Class;" } : Jvm.MethodName) ({ cls := "java/lang/Object", name := "getClass", desc := "()Ljava/lang/Class;" } : Jvm.MethodName)) ∈ lw_all := lw_g (lw_at lw_m2 223 rfl) rfl
theorem q546 : (Jvm.Cond.instantiable "NativeSubset$Unit" (2 : Nat)) ∈ lw_all := lw_g (lw_at lw_m3 17 rfl) rfl
theorem q548 : (Jvm.Cond.instanceMethod ({ cls := "NativeSubset$Unit", name := "<init>", desc := "(II)V" } : Jvm.MethodName)) ∈ lw_all := lw_g (lw_at lw_m3 19 rfl) rfl
theorem q549 : (Jvm.Cond.code ({ cls := "NativeSubset$Unit", name := "<init>", desc := "(II)V" } : Jvm.MethodName) prog_26_method_1_code (3 : Nat) (Option.none : Option Jvm.ClassFile.FieldType)) ∈ lw_all := lw_g (lw_at lw_m3 20 rfl) rfl
theorem q550 : (Jvm.Cond.methodLink "NativeSubset$Unit" (1 : Nat) ({ cls := "java/lang/Object", name := "<init>", desc := "()V" } : Jvm.MethodName)) ∈ lw_all := lw_g (lw_at lw_m3 21 rfl) rfl
theorem q551 : (Jvm.Cond.fieldLink "NativeSubset$Unit" (7 : Nat) "NativeSubset$Unit" "number" "I") ∈ lw_all := lw_g (lw_at lw_m3 22 rfl) rfl
theorem q553 : (Jvm.Cond.fieldLink "NativeSubset$Unit" (13 : Nat) "NativeSubset$Unit" "n" "I") ∈ lw_all := lw_g (lw_at lw_m3 24 rfl) rfl
theorem q554 : (Jvm.Cond.laysFinal "NativeSubset$Unit" "NativeSubset$Unit" "number" "I") ∈ lw_all := lw_g (lw_at lw_m3 25 rfl) rfl
theorem q555 : (Jvm.Cond.soleField "NativeSubset$Unit" "number") ∈ lw_all := lw_g (lw_at lw_m3 26 rfl) rfl
theorem q556 : (Jvm.Cond.laysFinal "NativeSubset$Unit" "NativeSubset$Unit" "n" "I") ∈ lw_all := lw_g (lw_at lw_m3 27 rfl) rfl
theorem q557 : (Jvm.Cond.soleField "NativeSubset$Unit" "n") ∈ lw_all := lw_g (lw_at lw_m3 28 rfl) rfl
theorem q558 : (Jvm.Cond.superclass "NativeSubset$Unit" "java/lang/Object") ∈ lw_all := lw_g (lw_at lw_m3 29 rfl) rfl
theorem q624 : (Jvm.Cond.instanceMethod ({ cls := "NativeSubset$Unit", name := "worth", desc := "()I" } : Jvm.MethodName)) ∈ lw_all := lw_g (lw_at lw_m3 95 rfl) rfl
theorem q625 : (Jvm.Cond.selects "NativeSubset$Unit" ({ cls := "NativeSubset$Unit", name := "worth", desc := "()I" } : Jvm.MethodName) ({ cls := "NativeSubset$Unit", name := "worth", desc := "()I" } : Jvm.MethodName)) ∈ lw_all := lw_g (lw_at lw_m3 96 rfl) rfl
theorem q626 : (Jvm.Cond.sameMethod "NativeSubset$Unit" "NativeSubset$Unit" "worth" "()I") ∈ lw_all := lw_g (lw_at lw_m3 97 rfl) rfl
theorem q631 : (Jvm.Cond.code ({ cls := "NativeSubset$Unit", name := "worth", desc := "()I" } : Jvm.MethodName) prog_26_method_2_code (1 : Nat) (Option.some Jvm.ClassFile.FieldType.int)) ∈ lw_all := lw_g (lw_at lw_m3 102 rfl) rfl
theorem q655 : (Jvm.Cond.instanceMethod ({ cls := "NativeSubset$Unit", name := "least", desc := "()I" } : Jvm.MethodName)) ∈ lw_all := lw_g (lw_at lw_m3 126 rfl) rfl
theorem q656 : (Jvm.Cond.code ({ cls := "NativeSubset$Unit", name := "least", desc := "()I" } : Jvm.MethodName) prog_26_method_4_code (1 : Nat) (Option.some Jvm.ClassFile.FieldType.int)) ∈ lw_all := lw_g (lw_at lw_m3 127 rfl) rfl
theorem q660 : (Jvm.Cond.castable "NativeSubset$Unit" "NativeSubset$Paying") ∈ lw_tbl := lw_at lw_m3 131 rfl
theorem q661 : (Jvm.Cond.selects "NativeSubset$Unit" ({ cls := "NativeSubset$Paying", name := "least", desc := "()I" } : Jvm.MethodName) ({ cls := "NativeSubset$Unit", name := "least", desc := "()I" } : Jvm.MethodName)) ∈ lw_all := lw_g (lw_at lw_m3 132 rfl) rfl
theorem q662 : (Jvm.Cond.unhidden "NativeSubset$Unit" "least" "()I") ∈ lw_tbl := lw_at lw_m3 133 rfl
theorem q663 : (Jvm.Cond.publicMethod ({ cls := "NativeSubset$Unit", name := "least", desc := "()I" } : Jvm.MethodName)) ∈ lw_tbl := lw_at lw_m3 134 rfl
theorem q665 : (Jvm.Cond.unhidden "NativeSubset$Unit" "fee" "()I") ∈ lw_tbl := lw_at lw_m3 136 rfl
theorem q667 : (Jvm.Cond.instanceMethod ({ cls := "NativeSubset$Unit", name := "cls", desc := "()I" } : Jvm.MethodName)) ∈ lw_all := lw_g (lw_at lw_m3 138 rfl) rfl
theorem q668 : (Jvm.Cond.selects "NativeSubset$Unit" ({ cls := "NativeSubset$Unit", name := "cls", desc := "()I" } : Jvm.MethodName) ({ cls := "NativeSubset$Unit", name := "cls", desc := "()I" } : Jvm.MethodName)) ∈ lw_all := lw_g (lw_at lw_m3 139 rfl) rfl
theorem q669 : (Jvm.Cond.sameMethod "NativeSubset$Unit" "NativeSubset$Unit" "cls" "()I") ∈ lw_all := lw_g (lw_at lw_m3 140 rfl) rfl
theorem q674 : (Jvm.Cond.code ({ cls := "NativeSubset$Unit", name := "cls", desc := "()I" } : Jvm.MethodName) prog_26_method_3_code (1 : Nat) (Option.some Jvm.ClassFile.FieldType.int)) ∈ lw_all := lw_g (lw_at lw_m3 145 rfl) rfl
theorem q1824 : (Jvm.Cond.sameMethod "NativeSubset$Unit" "NativeSubset$Unit" "least" "()I") ∈ lw_all := lw_g (lw_at lw_m8 95 rfl) rfl
theorem q1837 : (Jvm.Cond.castable "NativeSubset$Unit" "java/lang/Object") ∈ lw_tbl := lw_at lw_m8 108 rfl
theorem in_X21 : ∀ w ∈ wsX210, w ∈ lw_all := lw_in wsX210 [554, 556] (by decide +kernel) (by decide +kernel)
/-! NativeSubset$Card -/
def RX22 : String := "NativeSubset$Card"
def TX22 : u_T := fun k => match k with
  | 0 => ("NativeSubset$Unit", "number", "I", true)
  | _ => ("NativeSubset$Unit", "n", "I", true)
def tyX22 : Nat → FieldType := fun k => match k with
  | 0 => .int
  | _ => .int
abbrev wsX220 : List Cond := u_ws RX22 TX22 2
theorem nmX22 : ∀ a, a < 2 → ∀ b, b < 2 → a ≠ b → (TX22 a).2.1 ≠ (TX22 b).2.1 := by decide +kernel
theorem tyX22_ok : ∀ k, k < 2 → parseFieldDescriptor (TX22 k).2.2.1 = some (tyX22 k) := by decide +kernel
abbrev cX22_init : ByteArray := prog_6_method_1_code
def yX22_init : MethodName := ⟨RX22, "<init>", "(II)V"⟩
def dkwX22_init_0 : List UInt8 := [42, 27, 28, 183, 0, 1, 177]
abbrev dktX22_init_0 : List UInt8 := dkwX22_init_0 ++ []
theorem dksX22_init_0 : cX22_init.data.toList.drop 0 = dktX22_init_0 := by decide +kernel
theorem dX22_init_0 : decode cX22_init 0 = .ok (.aload_n 0, 1) := dk_42 (dk_at dksX22_init_0 0 rfl rfl)
theorem dX22_init_1 : decode cX22_init 1 = .ok (.iload_n 1, 1) := dk_27 (dk_at dksX22_init_0 1 rfl rfl)
theorem dX22_init_2 : decode cX22_init 2 = .ok (.iload_n 2, 1) := dk_28 (dk_at dksX22_init_0 2 rfl rfl)
theorem dX22_init_3 : decode cX22_init 3 = .ok (.invokespecial 1, 3) := dk_183 0 1 (dk_at dksX22_init_0 3 rfl rfl)
theorem dX22_init_6 : decode cX22_init 6 = .ok (.return_, 1) := dk_177 (dk_at dksX22_init_0 6 rfl rfl)
abbrev cX22_worth : ByteArray := prog_6_method_2_code
def yX22_worth : MethodName := ⟨RX22, "worth", "()I"⟩
def dkwX22_worth_0 : List UInt8 := [6, 42, 183, 0, 7, 104, 5, 96, 172]
abbrev dktX22_worth_0 : List UInt8 := dkwX22_worth_0 ++ []
theorem dksX22_worth_0 : cX22_worth.data.toList.drop 0 = dktX22_worth_0 := by decide +kernel
theorem dX22_worth_0 : decode cX22_worth 0 = .ok (.iconst 3, 1) := dk_6 (dk_at dksX22_worth_0 0 rfl rfl)
theorem dX22_worth_1 : decode cX22_worth 1 = .ok (.aload_n 0, 1) := dk_42 (dk_at dksX22_worth_0 1 rfl rfl)
theorem dX22_worth_2 : decode cX22_worth 2 = .ok (.invokespecial 7, 3) := dk_183 0 7 (dk_at dksX22_worth_0 2 rfl rfl)
theorem dX22_worth_5 : decode cX22_worth 5 = .ok (.imul, 1) := dk_104 (dk_at dksX22_worth_0 5 rfl rfl)
theorem dX22_worth_6 : decode cX22_worth 6 = .ok (.iconst 2, 1) := dk_5 (dk_at dksX22_worth_0 6 rfl rfl)
theorem dX22_worth_7 : decode cX22_worth 7 = .ok (.iadd, 1) := dk_96 (dk_at dksX22_worth_0 7 rfl rfl)
theorem dX22_worth_8 : decode cX22_worth 8 = .ok (.ireturn, 1) := dk_172 (dk_at dksX22_worth_0 8 rfl rfl)
abbrev cX22_least : ByteArray := prog_6_method_4_code
def yX22_least : MethodName := ⟨RX22, "least", "()I"⟩
def dkwX22_least_0 : List UInt8 := [4, 42, 183, 0, 14, 96, 172]
abbrev dktX22_least_0 : List UInt8 := dkwX22_least_0 ++ []
theorem dksX22_least_0 : cX22_least.data.toList.drop 0 = dktX22_least_0 := by decide +kernel
theorem dX22_least_0 : decode cX22_least 0 = .ok (.iconst 1, 1) := dk_4 (dk_at dksX22_least_0 0 rfl rfl)
theorem dX22_least_1 : decode cX22_least 1 = .ok (.aload_n 0, 1) := dk_42 (dk_at dksX22_least_0 1 rfl rfl)
theorem dX22_least_2 : decode cX22_least 2 = .ok (.invokespecial 14, 3) := dk_183 0 14 (dk_at dksX22_least_0 2 rfl rfl)
theorem dX22_least_5 : decode cX22_least 5 = .ok (.iadd, 1) := dk_96 (dk_at dksX22_least_0 5 rfl rfl)
theorem dX22_least_6 : decode cX22_least 6 = .ok (.ireturn, 1) := dk_172 (dk_at dksX22_least_0 6 rfl rfl)
abbrev cX22_cls : ByteArray := prog_6_method_3_code
def yX22_cls : MethodName := ⟨RX22, "cls", "()I"⟩
def dkwX22_cls_0 : List UInt8 := [4, 42, 183, 0, 11, 96, 172]
abbrev dktX22_cls_0 : List UInt8 := dkwX22_cls_0 ++ []
theorem dksX22_cls_0 : cX22_cls.data.toList.drop 0 = dktX22_cls_0 := by decide +kernel
theorem dX22_cls_0 : decode cX22_cls 0 = .ok (.iconst 1, 1) := dk_4 (dk_at dksX22_cls_0 0 rfl rfl)
theorem dX22_cls_1 : decode cX22_cls 1 = .ok (.aload_n 0, 1) := dk_42 (dk_at dksX22_cls_0 1 rfl rfl)
theorem dX22_cls_2 : decode cX22_cls 2 = .ok (.invokespecial 11, 3) := dk_183 0 11 (dk_at dksX22_cls_0 2 rfl rfl)
theorem dX22_cls_5 : decode cX22_cls 5 = .ok (.iadd, 1) := dk_96 (dk_at dksX22_cls_0 5 rfl rfl)
theorem dX22_cls_6 : decode cX22_cls 6 = .ok (.ireturn, 1) := dk_172 (dk_at dksX22_cls_0 6 rfl rfl)
theorem q78 : (Jvm.Cond.initialized "NativeSubset$Card") ∈ lw_all := lw_g (lw_at lw_m1 29 rfl) rfl
theorem q496 : (Jvm.Cond.selects "NativeSubset$Card" ({ cls := "java/lang/Object", name := "getClass", desc := "()Ljava/lang/Class;" } : Jvm.MethodName) ({ cls := "java/lang/Object", name := "getClass", desc := "()Ljava/lang/Class;" } : Jvm.MethodName)) ∈ lw_all := lw_g (lw_at lw_m2 207 rfl) rfl
theorem q559 : (Jvm.Cond.instantiable "NativeSubset$Card" (2 : Nat)) ∈ lw_all := lw_g (lw_at lw_m3 30 rfl) rfl
theorem q561 : (Jvm.Cond.instanceMethod ({ cls := "NativeSubset$Card", name := "<init>", desc := "(II)V" } : Jvm.MethodName)) ∈ lw_all := lw_g (lw_at lw_m3 32 rfl) rfl
theorem q562 : (Jvm.Cond.code ({ cls := "NativeSubset$Card", name := "<init>", desc := "(II)V" } : Jvm.MethodName) prog_6_method_1_code (3 : Nat) (Option.none : Option Jvm.ClassFile.FieldType)) ∈ lw_all := lw_g (lw_at lw_m3 33 rfl) rfl
theorem q563 : (Jvm.Cond.methodLink "NativeSubset$Card" (1 : Nat) ({ cls := "NativeSubset$Unit", name := "<init>", desc := "(II)V" } : Jvm.MethodName)) ∈ lw_all := lw_g (lw_at lw_m3 34 rfl) rfl
theorem q564 : (Jvm.Cond.laysFinal "NativeSubset$Card" "NativeSubset$Unit" "number" "I") ∈ lw_all := lw_g (lw_at lw_m3 35 rfl) rfl
theorem q565 : (Jvm.Cond.laysFinal "NativeSubset$Card" "NativeSubset$Unit" "n" "I") ∈ lw_all := lw_g (lw_at lw_m3 36 rfl) rfl
theorem q566 : (Jvm.Cond.superclass "NativeSubset$Card" "NativeSubset$Unit") ∈ lw_all := lw_g (lw_at lw_m3 37 rfl) rfl
theorem q627 : (Jvm.Cond.selects "NativeSubset$Card" ({ cls := "NativeSubset$Unit", name := "worth", desc := "()I" } : Jvm.MethodName) ({ cls := "NativeSubset$Card", name := "worth", desc := "()I" } : Jvm.MethodName)) ∈ lw_all := lw_g (lw_at lw_m3 98 rfl) rfl
theorem q628 : (Jvm.Cond.instanceMethod ({ cls := "NativeSubset$Card", name := "worth", desc := "()I" } : Jvm.MethodName)) ∈ lw_all := lw_g (lw_at lw_m3 99 rfl) rfl
theorem q629 : (Jvm.Cond.code ({ cls := "NativeSubset$Card", name := "worth", desc := "()I" } : Jvm.MethodName) prog_6_method_2_code (1 : Nat) (Option.some Jvm.ClassFile.FieldType.int)) ∈ lw_all := lw_g (lw_at lw_m3 100 rfl) rfl
theorem q630 : (Jvm.Cond.methodLink "NativeSubset$Card" (7 : Nat) ({ cls := "NativeSubset$Unit", name := "worth", desc := "()I" } : Jvm.MethodName)) ∈ lw_all := lw_g (lw_at lw_m3 101 rfl) rfl
theorem q640 : (Jvm.Cond.castable "NativeSubset$Card" "NativeSubset$Paying") ∈ lw_tbl := lw_at lw_m3 111 rfl
theorem q641 : (Jvm.Cond.unhidden "NativeSubset$Card" "fee" "()I") ∈ lw_tbl := lw_at lw_m3 112 rfl
theorem q649 : (Jvm.Cond.selects "NativeSubset$Card" ({ cls := "NativeSubset$Paying", name := "least", desc := "()I" } : Jvm.MethodName) ({ cls := "NativeSubset$Card", name := "least", desc := "()I" } : Jvm.MethodName)) ∈ lw_all := lw_g (lw_at lw_m3 120 rfl) rfl
theorem q650 : (Jvm.Cond.unhidden "NativeSubset$Card" "least" "()I") ∈ lw_tbl := lw_at lw_m3 121 rfl
theorem q651 : (Jvm.Cond.instanceMethod ({ cls := "NativeSubset$Card", name := "least", desc := "()I" } : Jvm.MethodName)) ∈ lw_all := lw_g (lw_at lw_m3 122 rfl) rfl
theorem q652 : (Jvm.Cond.publicMethod ({ cls := "NativeSubset$Card", name := "least", desc := "()I" } : Jvm.MethodName)) ∈ lw_tbl := lw_at lw_m3 123 rfl
theorem q653 : (Jvm.Cond.code ({ cls := "NativeSubset$Card", name := "least", desc := "()I" } : Jvm.MethodName) prog_6_method_4_code (1 : Nat) (Option.some Jvm.ClassFile.FieldType.int)) ∈ lw_all := lw_g (lw_at lw_m3 124 rfl) rfl
theorem q654 : (Jvm.Cond.methodLink "NativeSubset$Card" (14 : Nat) ({ cls := "NativeSubset$Unit", name := "least", desc := "()I" } : Jvm.MethodName)) ∈ lw_all := lw_g (lw_at lw_m3 125 rfl) rfl
theorem q670 : (Jvm.Cond.selects "NativeSubset$Card" ({ cls := "NativeSubset$Unit", name := "cls", desc := "()I" } : Jvm.MethodName) ({ cls := "NativeSubset$Card", name := "cls", desc := "()I" } : Jvm.MethodName)) ∈ lw_all := lw_g (lw_at lw_m3 141 rfl) rfl
theorem q671 : (Jvm.Cond.instanceMethod ({ cls := "NativeSubset$Card", name := "cls", desc := "()I" } : Jvm.MethodName)) ∈ lw_all := lw_g (lw_at lw_m3 142 rfl) rfl
theorem q672 : (Jvm.Cond.code ({ cls := "NativeSubset$Card", name := "cls", desc := "()I" } : Jvm.MethodName) prog_6_method_3_code (1 : Nat) (Option.some Jvm.ClassFile.FieldType.int)) ∈ lw_all := lw_g (lw_at lw_m3 143 rfl) rfl
theorem q673 : (Jvm.Cond.methodLink "NativeSubset$Card" (11 : Nat) ({ cls := "NativeSubset$Unit", name := "cls", desc := "()I" } : Jvm.MethodName)) ∈ lw_all := lw_g (lw_at lw_m3 144 rfl) rfl
theorem q1823 : (Jvm.Cond.sameMethod "NativeSubset$Card" "NativeSubset$Card" "worth" "()I") ∈ lw_all := lw_g (lw_at lw_m8 94 rfl) rfl
theorem q1825 : (Jvm.Cond.sameMethod "NativeSubset$Card" "NativeSubset$Card" "cls" "()I") ∈ lw_all := lw_g (lw_at lw_m8 96 rfl) rfl
theorem q1832 : (Jvm.Cond.castable "NativeSubset$Card" "NativeSubset$Unit") ∈ lw_tbl := lw_at lw_m8 103 rfl
theorem q1838 : (Jvm.Cond.castable "NativeSubset$Card" "java/lang/Object") ∈ lw_tbl := lw_at lw_m8 109 rfl
theorem in_X22 : ∀ w ∈ wsX220, w ∈ lw_all := lw_in wsX220 [564, 565] (by decide +kernel) (by decide +kernel)
/-! NativeSubset$Gold -/
def RX23 : String := "NativeSubset$Gold"
def TX23 : u_T := fun k => match k with
  | 0 => ("NativeSubset$Unit", "number", "I", true)
  | _ => ("NativeSubset$Unit", "n", "I", true)
def tyX23 : Nat → FieldType := fun k => match k with
  | 0 => .int
  | _ => .int
abbrev wsX230 : List Cond := u_ws RX23 TX23 2
theorem nmX23 : ∀ a, a < 2 → ∀ b, b < 2 → a ≠ b → (TX23 a).2.1 ≠ (TX23 b).2.1 := by decide +kernel
theorem tyX23_ok : ∀ k, k < 2 → parseFieldDescriptor (TX23 k).2.2.1 = some (tyX23 k) := by decide +kernel
abbrev cX23_init : ByteArray := prog_16_method_1_code
def yX23_init : MethodName := ⟨RX23, "<init>", "(II)V"⟩
def dkwX23_init_0 : List UInt8 := [42, 27, 28, 183, 0, 1, 177]
abbrev dktX23_init_0 : List UInt8 := dkwX23_init_0 ++ []
theorem dksX23_init_0 : cX23_init.data.toList.drop 0 = dktX23_init_0 := by decide +kernel
theorem dX23_init_0 : decode cX23_init 0 = .ok (.aload_n 0, 1) := dk_42 (dk_at dksX23_init_0 0 rfl rfl)
theorem dX23_init_1 : decode cX23_init 1 = .ok (.iload_n 1, 1) := dk_27 (dk_at dksX23_init_0 1 rfl rfl)
theorem dX23_init_2 : decode cX23_init 2 = .ok (.iload_n 2, 1) := dk_28 (dk_at dksX23_init_0 2 rfl rfl)
theorem dX23_init_3 : decode cX23_init 3 = .ok (.invokespecial 1, 3) := dk_183 0 1 (dk_at dksX23_init_0 3 rfl rfl)
theorem dX23_init_6 : decode cX23_init 6 = .ok (.return_, 1) := dk_177 (dk_at dksX23_init_0 6 rfl rfl)
abbrev cX23_worth : ByteArray := prog_16_method_2_code
def yX23_worth : MethodName := ⟨RX23, "worth", "()I"⟩
def dkwX23_worth_0 : List UInt8 := [42, 183, 0, 7, 8, 100, 172]
abbrev dktX23_worth_0 : List UInt8 := dkwX23_worth_0 ++ []
theorem dksX23_worth_0 : cX23_worth.data.toList.drop 0 = dktX23_worth_0 := by decide +kernel
theorem dX23_worth_0 : decode cX23_worth 0 = .ok (.aload_n 0, 1) := dk_42 (dk_at dksX23_worth_0 0 rfl rfl)
theorem dX23_worth_1 : decode cX23_worth 1 = .ok (.invokespecial 7, 3) := dk_183 0 7 (dk_at dksX23_worth_0 1 rfl rfl)
theorem dX23_worth_4 : decode cX23_worth 4 = .ok (.iconst 5, 1) := dk_8 (dk_at dksX23_worth_0 4 rfl rfl)
theorem dX23_worth_5 : decode cX23_worth 5 = .ok (.isub, 1) := dk_100 (dk_at dksX23_worth_0 5 rfl rfl)
theorem dX23_worth_6 : decode cX23_worth 6 = .ok (.ireturn, 1) := dk_172 (dk_at dksX23_worth_0 6 rfl rfl)
abbrev cX23_cls : ByteArray := prog_16_method_3_code
def yX23_cls : MethodName := ⟨RX23, "cls", "()I"⟩
def dkwX23_cls_0 : List UInt8 := [4, 42, 183, 0, 11, 96, 172]
abbrev dktX23_cls_0 : List UInt8 := dkwX23_cls_0 ++ []
theorem dksX23_cls_0 : cX23_cls.data.toList.drop 0 = dktX23_cls_0 := by decide +kernel
theorem dX23_cls_0 : decode cX23_cls 0 = .ok (.iconst 1, 1) := dk_4 (dk_at dksX23_cls_0 0 rfl rfl)
theorem dX23_cls_1 : decode cX23_cls 1 = .ok (.aload_n 0, 1) := dk_42 (dk_at dksX23_cls_0 1 rfl rfl)
theorem dX23_cls_2 : decode cX23_cls 2 = .ok (.invokespecial 11, 3) := dk_183 0 11 (dk_at dksX23_cls_0 2 rfl rfl)
theorem dX23_cls_5 : decode cX23_cls 5 = .ok (.iadd, 1) := dk_96 (dk_at dksX23_cls_0 5 rfl rfl)
theorem dX23_cls_6 : decode cX23_cls 6 = .ok (.ireturn, 1) := dk_172 (dk_at dksX23_cls_0 6 rfl rfl)
theorem q79 : (Jvm.Cond.initialized "NativeSubset$Gold") ∈ lw_all := lw_g (lw_at lw_m1 30 rfl) rfl
theorem q505 : (Jvm.Cond.selects "NativeSubset$Gold" ({ cls := "java/lang/Object", name := "getClass", desc := "()Ljava/lang/Class;" } : Jvm.MethodName) ({ cls := "java/lang/Object", name := "getClass", desc := "()Ljava/lang/Class;" } : Jvm.MethodName)) ∈ lw_all := lw_g (lw_at lw_m2 216 rfl) rfl
theorem q568 : (Jvm.Cond.instantiable "NativeSubset$Gold" (2 : Nat)) ∈ lw_all := lw_g (lw_at lw_m3 39 rfl) rfl
theorem q570 : (Jvm.Cond.instanceMethod ({ cls := "NativeSubset$Gold", name := "<init>", desc := "(II)V" } : Jvm.MethodName)) ∈ lw_all := lw_g (lw_at lw_m3 41 rfl) rfl
theorem q571 : (Jvm.Cond.code ({ cls := "NativeSubset$Gold", name := "<init>", desc := "(II)V" } : Jvm.MethodName) prog_16_method_1_code (3 : Nat) (Option.none : Option Jvm.ClassFile.FieldType)) ∈ lw_all := lw_g (lw_at lw_m3 42 rfl) rfl
theorem q572 : (Jvm.Cond.methodLink "NativeSubset$Gold" (1 : Nat) ({ cls := "NativeSubset$Card", name := "<init>", desc := "(II)V" } : Jvm.MethodName)) ∈ lw_all := lw_g (lw_at lw_m3 43 rfl) rfl
theorem q573 : (Jvm.Cond.laysFinal "NativeSubset$Gold" "NativeSubset$Unit" "number" "I") ∈ lw_all := lw_g (lw_at lw_m3 44 rfl) rfl
theorem q574 : (Jvm.Cond.laysFinal "NativeSubset$Gold" "NativeSubset$Unit" "n" "I") ∈ lw_all := lw_g (lw_at lw_m3 45 rfl) rfl
theorem q575 : (Jvm.Cond.superclass "NativeSubset$Gold" "NativeSubset$Card") ∈ lw_all := lw_g (lw_at lw_m3 46 rfl) rfl
theorem q632 : (Jvm.Cond.selects "NativeSubset$Gold" ({ cls := "NativeSubset$Unit", name := "worth", desc := "()I" } : Jvm.MethodName) ({ cls := "NativeSubset$Gold", name := "worth", desc := "()I" } : Jvm.MethodName)) ∈ lw_all := lw_g (lw_at lw_m3 103 rfl) rfl
theorem q633 : (Jvm.Cond.instanceMethod ({ cls := "NativeSubset$Gold", name := "worth", desc := "()I" } : Jvm.MethodName)) ∈ lw_all := lw_g (lw_at lw_m3 104 rfl) rfl
theorem q634 : (Jvm.Cond.code ({ cls := "NativeSubset$Gold", name := "worth", desc := "()I" } : Jvm.MethodName) prog_16_method_2_code (1 : Nat) (Option.some Jvm.ClassFile.FieldType.int)) ∈ lw_all := lw_g (lw_at lw_m3 105 rfl) rfl
theorem q635 : (Jvm.Cond.methodLink "NativeSubset$Gold" (7 : Nat) ({ cls := "NativeSubset$Card", name := "worth", desc := "()I" } : Jvm.MethodName)) ∈ lw_all := lw_g (lw_at lw_m3 106 rfl) rfl
theorem q657 : (Jvm.Cond.castable "NativeSubset$Gold" "NativeSubset$Paying") ∈ lw_tbl := lw_at lw_m3 128 rfl
theorem q658 : (Jvm.Cond.selects "NativeSubset$Gold" ({ cls := "NativeSubset$Paying", name := "least", desc := "()I" } : Jvm.MethodName) ({ cls := "NativeSubset$Card", name := "least", desc := "()I" } : Jvm.MethodName)) ∈ lw_all := lw_g (lw_at lw_m3 129 rfl) rfl
theorem q659 : (Jvm.Cond.unhidden "NativeSubset$Gold" "least" "()I") ∈ lw_tbl := lw_at lw_m3 130 rfl
theorem q664 : (Jvm.Cond.unhidden "NativeSubset$Gold" "fee" "()I") ∈ lw_tbl := lw_at lw_m3 135 rfl
theorem q675 : (Jvm.Cond.selects "NativeSubset$Gold" ({ cls := "NativeSubset$Unit", name := "cls", desc := "()I" } : Jvm.MethodName) ({ cls := "NativeSubset$Gold", name := "cls", desc := "()I" } : Jvm.MethodName)) ∈ lw_all := lw_g (lw_at lw_m3 146 rfl) rfl
theorem q676 : (Jvm.Cond.instanceMethod ({ cls := "NativeSubset$Gold", name := "cls", desc := "()I" } : Jvm.MethodName)) ∈ lw_all := lw_g (lw_at lw_m3 147 rfl) rfl
theorem q677 : (Jvm.Cond.code ({ cls := "NativeSubset$Gold", name := "cls", desc := "()I" } : Jvm.MethodName) prog_16_method_3_code (1 : Nat) (Option.some Jvm.ClassFile.FieldType.int)) ∈ lw_all := lw_g (lw_at lw_m3 148 rfl) rfl
theorem q678 : (Jvm.Cond.methodLink "NativeSubset$Gold" (11 : Nat) ({ cls := "NativeSubset$Card", name := "cls", desc := "()I" } : Jvm.MethodName)) ∈ lw_all := lw_g (lw_at lw_m3 149 rfl) rfl
theorem q1833 : (Jvm.Cond.castable "NativeSubset$Gold" "NativeSubset$Unit") ∈ lw_tbl := lw_at lw_m8 104 rfl
theorem q1855 : (Jvm.Cond.castable "NativeSubset$Gold" "java/lang/Object") ∈ lw_tbl := lw_at lw_m8 126 rfl
theorem q1878 : (Jvm.Cond.castable "NativeSubset$Gold" "NativeSubset$Card") ∈ lw_tbl := lw_at lw_m8 149 rfl
theorem in_X23 : ∀ w ∈ wsX230, w ∈ lw_all := lw_in wsX230 [573, 574] (by decide +kernel) (by decide +kernel)
/-! NativeSubset$Act -/
def RX24 : String := "NativeSubset$Act"
def TX24 : u_T := fun k => match k with
  | 0 => ("NativeSubset$Act", "helper", "I", true)
  | 1 => ("NativeSubset$Act", "a", "I", true)
  | 2 => ("NativeSubset$Act", "i", "I", true)
  | 3 => ("NativeSubset$Act", "b", "I", true)
  | 4 => ("NativeSubset$Act", "j", "I", true)
  | _ => ("NativeSubset$Act", "n", "I", true)
def tyX24 : Nat → FieldType := fun k => match k with
  | 0 => .int
  | 1 => .int
  | 2 => .int
  | 3 => .int
  | 4 => .int
  | _ => .int
abbrev wsX240 : List Cond := u_ws RX24 TX24 6
theorem nmX24 : ∀ a, a < 6 → ∀ b, b < 6 → a ≠ b → (TX24 a).2.1 ≠ (TX24 b).2.1 := by decide +kernel
theorem tyX24_ok : ∀ k, k < 6 → parseFieldDescriptor (TX24 k).2.2.1 = some (tyX24 k) := by decide +kernel
abbrev cX24_init : ByteArray := prog_2_method_1_code
def yX24_init : MethodName := ⟨RX24, "<init>", "(IIIIII)V"⟩
def dkwX24_init_1 : List UInt8 := [181, 0, 19, 42, 21, 5, 181, 0, 22, 42, 21, 6, 181, 0, 25, 177]
abbrev dktX24_init_1 : List UInt8 := dkwX24_init_1 ++ []
def dkwX24_init_0 : List UInt8 := [42, 183, 0, 1, 42, 27, 181, 0, 7, 42, 28, 181, 0, 13, 42, 29, 181, 0, 16, 42, 21, 4]
abbrev dktX24_init_0 : List UInt8 := dkwX24_init_0 ++ dktX24_init_1
theorem dksX24_init_0 : cX24_init.data.toList.drop 0 = dktX24_init_0 := by decide +kernel
theorem dksX24_init_1 : cX24_init.data.toList.drop 22 = dktX24_init_1 := dk_seg dksX24_init_0 22 rfl rfl
theorem dX24_init_0 : decode cX24_init 0 = .ok (.aload_n 0, 1) := dk_42 (dk_at dksX24_init_0 0 rfl rfl)
theorem dX24_init_1 : decode cX24_init 1 = .ok (.invokespecial 1, 3) := dk_183 0 1 (dk_at dksX24_init_0 1 rfl rfl)
theorem dX24_init_4 : decode cX24_init 4 = .ok (.aload_n 0, 1) := dk_42 (dk_at dksX24_init_0 4 rfl rfl)
theorem dX24_init_5 : decode cX24_init 5 = .ok (.iload_n 1, 1) := dk_27 (dk_at dksX24_init_0 5 rfl rfl)
theorem dX24_init_6 : decode cX24_init 6 = .ok (.putfield 7, 3) := dk_181 0 7 (dk_at dksX24_init_0 6 rfl rfl)
theorem dX24_init_9 : decode cX24_init 9 = .ok (.aload_n 0, 1) := dk_42 (dk_at dksX24_init_0 9 rfl rfl)
theorem dX24_init_10 : decode cX24_init 10 = .ok (.iload_n 2, 1) := dk_28 (dk_at dksX24_init_0 10 rfl rfl)
theorem dX24_init_11 : decode cX24_init 11 = .ok (.putfield 13, 3) := dk_181 0 13 (dk_at dksX24_init_0 11 rfl rfl)
theorem dX24_init_14 : decode cX24_init 14 = .ok (.aload_n 0, 1) := dk_42 (dk_at dksX24_init_0 14 rfl rfl)
theorem dX24_init_15 : decode cX24_init 15 = .ok (.iload_n 3, 1) := dk_29 (dk_at dksX24_init_0 15 rfl rfl)
theorem dX24_init_16 : decode cX24_init 16 = .ok (.putfield 16, 3) := dk_181 0 16 (dk_at dksX24_init_0 16 rfl rfl)
theorem dX24_init_19 : decode cX24_init 19 = .ok (.aload_n 0, 1) := dk_42 (dk_at dksX24_init_0 19 rfl rfl)
theorem dX24_init_20 : decode cX24_init 20 = .ok (.iload 4, 2) := dk_21 4 (dk_at dksX24_init_0 20 rfl rfl)
theorem dX24_init_22 : decode cX24_init 22 = .ok (.putfield 19, 3) := dk_181 0 19 (dk_at dksX24_init_1 0 rfl rfl)
theorem dX24_init_25 : decode cX24_init 25 = .ok (.aload_n 0, 1) := dk_42 (dk_at dksX24_init_1 3 rfl rfl)
theorem dX24_init_26 : decode cX24_init 26 = .ok (.iload 5, 2) := dk_21 5 (dk_at dksX24_init_1 4 rfl rfl)
theorem dX24_init_28 : decode cX24_init 28 = .ok (.putfield 22, 3) := dk_181 0 22 (dk_at dksX24_init_1 6 rfl rfl)
theorem dX24_init_31 : decode cX24_init 31 = .ok (.aload_n 0, 1) := dk_42 (dk_at dksX24_init_1 9 rfl rfl)
theorem dX24_init_32 : decode cX24_init 32 = .ok (.iload 6, 2) := dk_21 6 (dk_at dksX24_init_1 10 rfl rfl)
theorem dX24_init_34 : decode cX24_init 34 = .ok (.putfield 25, 3) := dk_181 0 25 (dk_at dksX24_init_1 12 rfl rfl)
theorem dX24_init_37 : decode cX24_init 37 = .ok (.return_, 1) := dk_177 (dk_at dksX24_init_1 15 rfl rfl)
theorem q95 : (Jvm.Cond.initialized "NativeSubset$Act") ∈ lw_all := lw_g (lw_at lw_m1 46 rfl) rfl
theorem q493 : (Jvm.Cond.selects "NativeSubset$Act" ({ cls := "java/lang/Object", name := "getClass", desc := "()Ljava/lang/Class;" } : Jvm.MethodName) ({ cls := "java/lang/Object", name := "getClass", desc := "()Ljava/lang/Class;" } : Jvm.MethodName)) ∈ lw_all := lw_g (lw_at lw_m2 204 rfl) rfl
theorem q684 : (Jvm.Cond.instantiable "NativeSubset$Act" (6 : Nat)) ∈ lw_all := lw_g (lw_at lw_m3 155 rfl) rfl
theorem q686 : (Jvm.Cond.instanceMethod ({ cls := "NativeSubset$Act", name := "<init>", desc := "(IIIIII)V" } : Jvm.MethodName)) ∈ lw_all := lw_g (lw_at lw_m3 157 rfl) rfl
theorem q687 : (Jvm.Cond.code ({ cls := "NativeSubset$Act", name := "<init>", desc := "(IIIIII)V" } : Jvm.MethodName) prog_2_method_1_code (7 : Nat) (Option.none : Option Jvm.ClassFile.FieldType)) ∈ lw_all := lw_g (lw_at lw_m3 158 rfl) rfl
theorem q688 : (Jvm.Cond.methodLink "NativeSubset$Act" (1 : Nat) ({ cls := "java/lang/Object", name := "<init>", desc := "()V" } : Jvm.MethodName)) ∈ lw_all := lw_g (lw_at lw_m3 159 rfl) rfl
theorem q689 : (Jvm.Cond.fieldLink "NativeSubset$Act" (7 : Nat) "NativeSubset$Act" "helper" "I") ∈ lw_all := lw_g (lw_at lw_m3 160 rfl) rfl
theorem q692 : (Jvm.Cond.fieldLink "NativeSubset$Act" (13 : Nat) "NativeSubset$Act" "a" "I") ∈ lw_all := lw_g (lw_at lw_m3 163 rfl) rfl
theorem q703 : (Jvm.Cond.fieldLink "NativeSubset$Act" (16 : Nat) "NativeSubset$Act" "i" "I") ∈ lw_all := lw_g (lw_at lw_m3 174 rfl) rfl
theorem q711 : (Jvm.Cond.fieldLink "NativeSubset$Act" (19 : Nat) "NativeSubset$Act" "b" "I") ∈ lw_all := lw_g (lw_at lw_m3 182 rfl) rfl
theorem q717 : (Jvm.Cond.fieldLink "NativeSubset$Act" (22 : Nat) "NativeSubset$Act" "j" "I") ∈ lw_all := lw_g (lw_at lw_m3 188 rfl) rfl
theorem q721 : (Jvm.Cond.fieldLink "NativeSubset$Act" (25 : Nat) "NativeSubset$Act" "n" "I") ∈ lw_all := lw_g (lw_at lw_m3 192 rfl) rfl
theorem q730 : (Jvm.Cond.laysFinal "NativeSubset$Act" "NativeSubset$Act" "helper" "I") ∈ lw_all := lw_g (lw_at lw_m3 201 rfl) rfl
theorem q731 : (Jvm.Cond.soleField "NativeSubset$Act" "helper") ∈ lw_all := lw_g (lw_at lw_m3 202 rfl) rfl
theorem q732 : (Jvm.Cond.laysFinal "NativeSubset$Act" "NativeSubset$Act" "a" "I") ∈ lw_all := lw_g (lw_at lw_m3 203 rfl) rfl
theorem q733 : (Jvm.Cond.soleField "NativeSubset$Act" "a") ∈ lw_all := lw_g (lw_at lw_m3 204 rfl) rfl
theorem q734 : (Jvm.Cond.laysFinal "NativeSubset$Act" "NativeSubset$Act" "i" "I") ∈ lw_all := lw_g (lw_at lw_m3 205 rfl) rfl
theorem q735 : (Jvm.Cond.soleField "NativeSubset$Act" "i") ∈ lw_all := lw_g (lw_at lw_m3 206 rfl) rfl
theorem q736 : (Jvm.Cond.laysFinal "NativeSubset$Act" "NativeSubset$Act" "b" "I") ∈ lw_all := lw_g (lw_at lw_m3 207 rfl) rfl
theorem q737 : (Jvm.Cond.soleField "NativeSubset$Act" "b") ∈ lw_all := lw_g (lw_at lw_m3 208 rfl) rfl
theorem q738 : (Jvm.Cond.laysFinal "NativeSubset$Act" "NativeSubset$Act" "j" "I") ∈ lw_all := lw_g (lw_at lw_m3 209 rfl) rfl
theorem q739 : (Jvm.Cond.soleField "NativeSubset$Act" "j") ∈ lw_all := lw_g (lw_at lw_m3 210 rfl) rfl
theorem q740 : (Jvm.Cond.laysFinal "NativeSubset$Act" "NativeSubset$Act" "n" "I") ∈ lw_all := lw_g (lw_at lw_m3 211 rfl) rfl
theorem q741 : (Jvm.Cond.soleField "NativeSubset$Act" "n") ∈ lw_all := lw_g (lw_at lw_m3 212 rfl) rfl
theorem q742 : (Jvm.Cond.superclass "NativeSubset$Act" "java/lang/Object") ∈ lw_all := lw_g (lw_at lw_m3 213 rfl) rfl
theorem q1835 : (Jvm.Cond.castable "NativeSubset$Act" "java/lang/Object") ∈ lw_tbl := lw_at lw_m8 106 rfl
theorem in_X24 : ∀ w ∈ wsX240, w ∈ lw_all := lw_in wsX240 [730, 732, 734, 736, 738, 740] (by decide +kernel) (by decide +kernel)
/-! NativeSubset$Call -/
def RX25 : String := "NativeSubset$Call"
def TX25 : u_T := fun k => match k with
  | 0 => ("NativeSubset$Call", "plan", "I", true)
  | 1 => ("NativeSubset$Call", "size", "I", true)
  | 2 => ("NativeSubset$Call", "kept", "Ljava/util/ArrayList;", true)
  | 3 => ("NativeSubset$Call", "which", "[I", true)
  | 4 => ("NativeSubset$Call", "fuel", "I", false)
  | 5 => ("NativeSubset$Call", "paid", "I", false)
  | 6 => ("NativeSubset$Call", "ended", "I", false)
  | _ => ("NativeSubset$Call", "this$0", "LNativeSubset;", true)
def tyX25 : Nat → FieldType := fun k => match k with
  | 0 => .int
  | 1 => .int
  | 2 => .object "java/util/ArrayList"
  | 3 => .array .int
  | 4 => .int
  | 5 => .int
  | 6 => .int
  | _ => .object "NativeSubset"
abbrev wsX250 : List Cond := u_ws RX25 TX25 8
theorem nmX25 : ∀ a, a < 8 → ∀ b, b < 8 → a ≠ b → (TX25 a).2.1 ≠ (TX25 b).2.1 := by decide +kernel
theorem tyX25_ok : ∀ k, k < 8 → parseFieldDescriptor (TX25 k).2.2.1 = some (tyX25 k) := by decide +kernel
abbrev cX25_init : ByteArray := prog_4_method_1_code
def yX25_init : MethodName := ⟨RX25, "<init>", "(LNativeSubset;II)V"⟩
def dkwX25_init_2 : List UInt8 := [181, 0, 39, 177]
abbrev dktX25_init_2 : List UInt8 := dkwX25_init_2 ++ []
def dkwX25_init_1 : List UInt8 := [188, 10, 181, 0, 22, 42, 28, 181, 0, 26, 42, 43, 180, 0, 30, 182, 0, 33, 181, 0, 37, 42, 29]
abbrev dktX25_init_1 : List UInt8 := dkwX25_init_1 ++ dktX25_init_2
def dkwX25_init_0 : List UInt8 := [42, 43, 181, 0, 3, 42, 183, 0, 9, 42, 187, 0, 15, 89, 183, 0, 17, 181, 0, 18, 42, 16, 60]
abbrev dktX25_init_0 : List UInt8 := dkwX25_init_0 ++ dktX25_init_1
theorem dksX25_init_0 : cX25_init.data.toList.drop 0 = dktX25_init_0 := by decide +kernel
theorem dksX25_init_1 : cX25_init.data.toList.drop 23 = dktX25_init_1 := dk_seg dksX25_init_0 23 rfl rfl
theorem dksX25_init_2 : cX25_init.data.toList.drop 46 = dktX25_init_2 := dk_seg dksX25_init_1 23 rfl rfl
theorem dX25_init_0 : decode cX25_init 0 = .ok (.aload_n 0, 1) := dk_42 (dk_at dksX25_init_0 0 rfl rfl)
theorem dX25_init_1 : decode cX25_init 1 = .ok (.aload_n 1, 1) := dk_43 (dk_at dksX25_init_0 1 rfl rfl)
theorem dX25_init_2 : decode cX25_init 2 = .ok (.putfield 3, 3) := dk_181 0 3 (dk_at dksX25_init_0 2 rfl rfl)
theorem dX25_init_5 : decode cX25_init 5 = .ok (.aload_n 0, 1) := dk_42 (dk_at dksX25_init_0 5 rfl rfl)
theorem dX25_init_6 : decode cX25_init 6 = .ok (.invokespecial 9, 3) := dk_183 0 9 (dk_at dksX25_init_0 6 rfl rfl)
theorem dX25_init_9 : decode cX25_init 9 = .ok (.aload_n 0, 1) := dk_42 (dk_at dksX25_init_0 9 rfl rfl)
theorem dX25_init_10 : decode cX25_init 10 = .ok (.new 15, 3) := dk_187 0 15 (dk_at dksX25_init_0 10 rfl rfl)
theorem dX25_init_13 : decode cX25_init 13 = .ok (.dup, 1) := dk_89 (dk_at dksX25_init_0 13 rfl rfl)
theorem dX25_init_14 : decode cX25_init 14 = .ok (.invokespecial 17, 3) := dk_183 0 17 (dk_at dksX25_init_0 14 rfl rfl)
theorem dX25_init_17 : decode cX25_init 17 = .ok (.putfield 18, 3) := dk_181 0 18 (dk_at dksX25_init_0 17 rfl rfl)
theorem dX25_init_20 : decode cX25_init 20 = .ok (.aload_n 0, 1) := dk_42 (dk_at dksX25_init_0 20 rfl rfl)
theorem dX25_init_21 : decode cX25_init 21 = .ok (.bipush 60, 2) := dk_16 60 (dk_at dksX25_init_0 21 rfl rfl)
theorem dX25_init_23 : decode cX25_init 23 = .ok (.newarray .int, 2) := dk_188_10 (dk_at dksX25_init_1 0 rfl rfl)
theorem dX25_init_25 : decode cX25_init 25 = .ok (.putfield 22, 3) := dk_181 0 22 (dk_at dksX25_init_1 2 rfl rfl)
theorem dX25_init_28 : decode cX25_init 28 = .ok (.aload_n 0, 1) := dk_42 (dk_at dksX25_init_1 5 rfl rfl)
theorem dX25_init_29 : decode cX25_init 29 = .ok (.iload_n 2, 1) := dk_28 (dk_at dksX25_init_1 6 rfl rfl)
theorem dX25_init_30 : decode cX25_init 30 = .ok (.putfield 26, 3) := dk_181 0 26 (dk_at dksX25_init_1 7 rfl rfl)
theorem dX25_init_33 : decode cX25_init 33 = .ok (.aload_n 0, 1) := dk_42 (dk_at dksX25_init_1 10 rfl rfl)
theorem dX25_init_34 : decode cX25_init 34 = .ok (.aload_n 1, 1) := dk_43 (dk_at dksX25_init_1 11 rfl rfl)
theorem dX25_init_35 : decode cX25_init 35 = .ok (.getfield 30, 3) := dk_180 0 30 (dk_at dksX25_init_1 12 rfl rfl)
theorem dX25_init_38 : decode cX25_init 38 = .ok (.invokevirtual 33, 3) := dk_182 0 33 (dk_at dksX25_init_1 15 rfl rfl)
theorem dX25_init_41 : decode cX25_init 41 = .ok (.putfield 37, 3) := dk_181 0 37 (dk_at dksX25_init_1 18 rfl rfl)
theorem dX25_init_44 : decode cX25_init 44 = .ok (.aload_n 0, 1) := dk_42 (dk_at dksX25_init_1 21 rfl rfl)
theorem dX25_init_45 : decode cX25_init 45 = .ok (.iload_n 3, 1) := dk_29 (dk_at dksX25_init_1 22 rfl rfl)
theorem dX25_init_46 : decode cX25_init 46 = .ok (.putfield 39, 3) := dk_181 0 39 (dk_at dksX25_init_2 0 rfl rfl)
theorem dX25_init_49 : decode cX25_init 49 = .ok (.return_, 1) := dk_177 (dk_at dksX25_init_2 3 rfl rfl)
abbrev cX25_go : ByteArray := prog_4_method_6_code
def yX25_go : MethodName := ⟨RX25, "go", "()V"⟩
def dkwX25_go_7 : List UInt8 := [154, 0, 7, 42, 182, 0, 108, 25, 5, 191, 177]
abbrev dktX25_go_7 : List UInt8 := dkwX25_go_7 ++ []
def dkwX25_go_6 : List UInt8 := [182, 0, 108, 167, 0, 29, 58, 5, 42, 180, 0, 3, 89, 180, 0, 74, 4, 100, 181, 0, 74, 27]
abbrev dktX25_go_6 : List UInt8 := dkwX25_go_6 ++ dktX25_go_7
def dkwX25_go_5 : List UInt8 := [167, 255, 181, 4, 60, 42, 180, 0, 3, 89, 180, 0, 74, 4, 100, 181, 0, 74, 27, 154, 0, 36, 42]
abbrev dktX25_go_5 : List UInt8 := dkwX25_go_5 ++ dktX25_go_6
def dkwX25_go_4 : List UInt8 := [42, 180, 0, 3, 180, 0, 101, 28, 33, 80, 42, 89, 180, 0, 105, 4, 96, 181, 0, 105, 132, 2, 1]
abbrev dktX25_go_4 : List UInt8 := dkwX25_go_4 ++ dktX25_go_5
def dkwX25_go_3 : List UInt8 := [180, 0, 26, 50, 180, 0, 93, 28, 50, 182, 0, 97, 66, 42, 180, 0, 3, 180, 0, 74, 4, 160, 0, 13]
abbrev dktX25_go_3 : List UInt8 := dkwX25_go_3 ++ dktX25_go_4
def dkwX25_go_2 : List UInt8 := [180, 0, 86, 42, 180, 0, 26, 50, 180, 0, 90, 162, 0, 62, 42, 42, 180, 0, 3, 180, 0, 86, 42]
abbrev dktX25_go_2 : List UInt8 := dkwX25_go_2 ++ dktX25_go_3
def dkwX25_go_1 : List UInt8 := [42, 180, 0, 3, 180, 0, 74, 184, 0, 80, 181, 0, 77, 3, 60, 3, 61, 28, 42, 180, 0, 3]
abbrev dktX25_go_1 : List UInt8 := dkwX25_go_1 ++ dktX25_go_2
def dkwX25_go_0 : List UInt8 := [42, 180, 0, 3, 89, 180, 0, 74, 4, 96, 181, 0, 74, 42, 180, 0, 3, 42, 180, 0, 3, 180, 0, 77]
abbrev dktX25_go_0 : List UInt8 := dkwX25_go_0 ++ dktX25_go_1
theorem dksX25_go_0 : cX25_go.data.toList.drop 0 = dktX25_go_0 := by decide +kernel
theorem dksX25_go_1 : cX25_go.data.toList.drop 24 = dktX25_go_1 := dk_seg dksX25_go_0 24 rfl rfl
theorem dksX25_go_2 : cX25_go.data.toList.drop 46 = dktX25_go_2 := dk_seg dksX25_go_1 22 rfl rfl
theorem dksX25_go_3 : cX25_go.data.toList.drop 69 = dktX25_go_3 := dk_seg dksX25_go_2 23 rfl rfl
theorem dksX25_go_4 : cX25_go.data.toList.drop 93 = dktX25_go_4 := dk_seg dksX25_go_3 24 rfl rfl
theorem dksX25_go_5 : cX25_go.data.toList.drop 116 = dktX25_go_5 := dk_seg dksX25_go_4 23 rfl rfl
theorem dksX25_go_6 : cX25_go.data.toList.drop 139 = dktX25_go_6 := dk_seg dksX25_go_5 23 rfl rfl
theorem dksX25_go_7 : cX25_go.data.toList.drop 161 = dktX25_go_7 := dk_seg dksX25_go_6 22 rfl rfl
theorem dX25_go_0 : decode cX25_go 0 = .ok (.aload_n 0, 1) := dk_42 (dk_at dksX25_go_0 0 rfl rfl)
theorem dX25_go_1 : decode cX25_go 1 = .ok (.getfield 3, 3) := dk_180 0 3 (dk_at dksX25_go_0 1 rfl rfl)
theorem dX25_go_4 : decode cX25_go 4 = .ok (.dup, 1) := dk_89 (dk_at dksX25_go_0 4 rfl rfl)
theorem dX25_go_5 : decode cX25_go 5 = .ok (.getfield 74, 3) := dk_180 0 74 (dk_at dksX25_go_0 5 rfl rfl)
theorem dX25_go_8 : decode cX25_go 8 = .ok (.iconst 1, 1) := dk_4 (dk_at dksX25_go_0 8 rfl rfl)
theorem dX25_go_9 : decode cX25_go 9 = .ok (.iadd, 1) := dk_96 (dk_at dksX25_go_0 9 rfl rfl)
theorem dX25_go_10 : decode cX25_go 10 = .ok (.putfield 74, 3) := dk_181 0 74 (dk_at dksX25_go_0 10 rfl rfl)
theorem dX25_go_13 : decode cX25_go 13 = .ok (.aload_n 0, 1) := dk_42 (dk_at dksX25_go_0 13 rfl rfl)
theorem dX25_go_14 : decode cX25_go 14 = .ok (.getfield 3, 3) := dk_180 0 3 (dk_at dksX25_go_0 14 rfl rfl)
theorem dX25_go_17 : decode cX25_go 17 = .ok (.aload_n 0, 1) := dk_42 (dk_at dksX25_go_0 17 rfl rfl)
theorem dX25_go_18 : decode cX25_go 18 = .ok (.getfield 3, 3) := dk_180 0 3 (dk_at dksX25_go_0 18 rfl rfl)
theorem dX25_go_21 : decode cX25_go 21 = .ok (.getfield 77, 3) := dk_180 0 77 (dk_at dksX25_go_0 21 rfl rfl)
theorem dX25_go_24 : decode cX25_go 24 = .ok (.aload_n 0, 1) := dk_42 (dk_at dksX25_go_1 0 rfl rfl)
theorem dX25_go_25 : decode cX25_go 25 = .ok (.getfield 3, 3) := dk_180 0 3 (dk_at dksX25_go_1 1 rfl rfl)
theorem dX25_go_28 : decode cX25_go 28 = .ok (.getfield 74, 3) := dk_180 0 74 (dk_at dksX25_go_1 4 rfl rfl)
theorem dX25_go_31 : decode cX25_go 31 = .ok (.invokestatic 80, 3) := dk_184 0 80 (dk_at dksX25_go_1 7 rfl rfl)
theorem dX25_go_34 : decode cX25_go 34 = .ok (.putfield 77, 3) := dk_181 0 77 (dk_at dksX25_go_1 10 rfl rfl)
theorem dX25_go_37 : decode cX25_go 37 = .ok (.iconst 0, 1) := dk_3 (dk_at dksX25_go_1 13 rfl rfl)
theorem dX25_go_38 : decode cX25_go 38 = .ok (.istore_n 1, 1) := dk_60 (dk_at dksX25_go_1 14 rfl rfl)
theorem dX25_go_39 : decode cX25_go 39 = .ok (.iconst 0, 1) := dk_3 (dk_at dksX25_go_1 15 rfl rfl)
theorem dX25_go_40 : decode cX25_go 40 = .ok (.istore_n 2, 1) := dk_61 (dk_at dksX25_go_1 16 rfl rfl)
theorem dX25_go_41 : decode cX25_go 41 = .ok (.iload_n 2, 1) := dk_28 (dk_at dksX25_go_1 17 rfl rfl)
theorem dX25_go_42 : decode cX25_go 42 = .ok (.aload_n 0, 1) := dk_42 (dk_at dksX25_go_1 18 rfl rfl)
theorem dX25_go_43 : decode cX25_go 43 = .ok (.getfield 3, 3) := dk_180 0 3 (dk_at dksX25_go_1 19 rfl rfl)
theorem dX25_go_46 : decode cX25_go 46 = .ok (.getfield 86, 3) := dk_180 0 86 (dk_at dksX25_go_2 0 rfl rfl)
theorem dX25_go_49 : decode cX25_go 49 = .ok (.aload_n 0, 1) := dk_42 (dk_at dksX25_go_2 3 rfl rfl)
theorem dX25_go_50 : decode cX25_go 50 = .ok (.getfield 26, 3) := dk_180 0 26 (dk_at dksX25_go_2 4 rfl rfl)
theorem dX25_go_53 : decode cX25_go 53 = .ok (.aaload, 1) := dk_50 (dk_at dksX25_go_2 7 rfl rfl)
theorem dX25_go_54 : decode cX25_go 54 = .ok (.getfield 90, 3) := dk_180 0 90 (dk_at dksX25_go_2 8 rfl rfl)
theorem dX25_go_57 : decode cX25_go 57 = .ok (.if_icmp .ge 62, 3) := dk_162 0 62 (dk_at dksX25_go_2 11 rfl rfl)
theorem dX25_go_60 : decode cX25_go 60 = .ok (.aload_n 0, 1) := dk_42 (dk_at dksX25_go_2 14 rfl rfl)
theorem dX25_go_61 : decode cX25_go 61 = .ok (.aload_n 0, 1) := dk_42 (dk_at dksX25_go_2 15 rfl rfl)
theorem dX25_go_62 : decode cX25_go 62 = .ok (.getfield 3, 3) := dk_180 0 3 (dk_at dksX25_go_2 16 rfl rfl)
theorem dX25_go_65 : decode cX25_go 65 = .ok (.getfield 86, 3) := dk_180 0 86 (dk_at dksX25_go_2 19 rfl rfl)
theorem dX25_go_68 : decode cX25_go 68 = .ok (.aload_n 0, 1) := dk_42 (dk_at dksX25_go_2 22 rfl rfl)
theorem dX25_go_69 : decode cX25_go 69 = .ok (.getfield 26, 3) := dk_180 0 26 (dk_at dksX25_go_3 0 rfl rfl)
theorem dX25_go_72 : decode cX25_go 72 = .ok (.aaload, 1) := dk_50 (dk_at dksX25_go_3 3 rfl rfl)
theorem dX25_go_73 : decode cX25_go 73 = .ok (.getfield 93, 3) := dk_180 0 93 (dk_at dksX25_go_3 4 rfl rfl)
theorem dX25_go_76 : decode cX25_go 76 = .ok (.iload_n 2, 1) := dk_28 (dk_at dksX25_go_3 7 rfl rfl)
theorem dX25_go_77 : decode cX25_go 77 = .ok (.aaload, 1) := dk_50 (dk_at dksX25_go_3 8 rfl rfl)
theorem dX25_go_78 : decode cX25_go 78 = .ok (.invokevirtual 97, 3) := dk_182 0 97 (dk_at dksX25_go_3 9 rfl rfl)
theorem dX25_go_81 : decode cX25_go 81 = .ok (.lstore_n 3, 1) := dk_66 (dk_at dksX25_go_3 12 rfl rfl)
theorem dX25_go_82 : decode cX25_go 82 = .ok (.aload_n 0, 1) := dk_42 (dk_at dksX25_go_3 13 rfl rfl)
theorem dX25_go_83 : decode cX25_go 83 = .ok (.getfield 3, 3) := dk_180 0 3 (dk_at dksX25_go_3 14 rfl rfl)
theorem dX25_go_86 : decode cX25_go 86 = .ok (.getfield 74, 3) := dk_180 0 74 (dk_at dksX25_go_3 17 rfl rfl)
theorem dX25_go_89 : decode cX25_go 89 = .ok (.iconst 1, 1) := dk_4 (dk_at dksX25_go_3 20 rfl rfl)
theorem dX25_go_90 : decode cX25_go 90 = .ok (.if_icmp .ne 13, 3) := dk_160 0 13 (dk_at dksX25_go_3 21 rfl rfl)
theorem dX25_go_93 : decode cX25_go 93 = .ok (.aload_n 0, 1) := dk_42 (dk_at dksX25_go_4 0 rfl rfl)
theorem dX25_go_94 : decode cX25_go 94 = .ok (.getfield 3, 3) := dk_180 0 3 (dk_at dksX25_go_4 1 rfl rfl)
theorem dX25_go_97 : decode cX25_go 97 = .ok (.getfield 101, 3) := dk_180 0 101 (dk_at dksX25_go_4 4 rfl rfl)
theorem dX25_go_100 : decode cX25_go 100 = .ok (.iload_n 2, 1) := dk_28 (dk_at dksX25_go_4 7 rfl rfl)
theorem dX25_go_101 : decode cX25_go 101 = .ok (.lload_n 3, 1) := dk_33 (dk_at dksX25_go_4 8 rfl rfl)
theorem dX25_go_102 : decode cX25_go 102 = .ok (.lastore, 1) := dk_80 (dk_at dksX25_go_4 9 rfl rfl)
theorem dX25_go_103 : decode cX25_go 103 = .ok (.aload_n 0, 1) := dk_42 (dk_at dksX25_go_4 10 rfl rfl)
theorem dX25_go_104 : decode cX25_go 104 = .ok (.dup, 1) := dk_89 (dk_at dksX25_go_4 11 rfl rfl)
theorem dX25_go_105 : decode cX25_go 105 = .ok (.getfield 105, 3) := dk_180 0 105 (dk_at dksX25_go_4 12 rfl rfl)
theorem dX25_go_108 : decode cX25_go 108 = .ok (.iconst 1, 1) := dk_4 (dk_at dksX25_go_4 15 rfl rfl)
theorem dX25_go_109 : decode cX25_go 109 = .ok (.iadd, 1) := dk_96 (dk_at dksX25_go_4 16 rfl rfl)
theorem dX25_go_110 : decode cX25_go 110 = .ok (.putfield 105, 3) := dk_181 0 105 (dk_at dksX25_go_4 17 rfl rfl)
theorem dX25_go_113 : decode cX25_go 113 = .ok (.iinc 2 1, 3) := dk_132 2 1 (dk_at dksX25_go_4 20 rfl rfl)
theorem dX25_go_116 : decode cX25_go 116 = .ok (.goto (-75), 3) := dk_167 255 181 (dk_at dksX25_go_5 0 rfl rfl)
theorem dX25_go_119 : decode cX25_go 119 = .ok (.iconst 1, 1) := dk_4 (dk_at dksX25_go_5 3 rfl rfl)
theorem dX25_go_120 : decode cX25_go 120 = .ok (.istore_n 1, 1) := dk_60 (dk_at dksX25_go_5 4 rfl rfl)
theorem dX25_go_121 : decode cX25_go 121 = .ok (.aload_n 0, 1) := dk_42 (dk_at dksX25_go_5 5 rfl rfl)
theorem dX25_go_122 : decode cX25_go 122 = .ok (.getfield 3, 3) := dk_180 0 3 (dk_at dksX25_go_5 6 rfl rfl)
theorem dX25_go_125 : decode cX25_go 125 = .ok (.dup, 1) := dk_89 (dk_at dksX25_go_5 9 rfl rfl)
theorem dX25_go_126 : decode cX25_go 126 = .ok (.getfield 74, 3) := dk_180 0 74 (dk_at dksX25_go_5 10 rfl rfl)
theorem dX25_go_129 : decode cX25_go 129 = .ok (.iconst 1, 1) := dk_4 (dk_at dksX25_go_5 13 rfl rfl)
theorem dX25_go_130 : decode cX25_go 130 = .ok (.isub, 1) := dk_100 (dk_at dksX25_go_5 14 rfl rfl)
theorem dX25_go_131 : decode cX25_go 131 = .ok (.putfield 74, 3) := dk_181 0 74 (dk_at dksX25_go_5 15 rfl rfl)
theorem dX25_go_134 : decode cX25_go 134 = .ok (.iload_n 1, 1) := dk_27 (dk_at dksX25_go_5 18 rfl rfl)
theorem dX25_go_135 : decode cX25_go 135 = .ok (.ifCond .ne 36, 3) := dk_154 0 36 (dk_at dksX25_go_5 19 rfl rfl)
theorem dX25_go_138 : decode cX25_go 138 = .ok (.aload_n 0, 1) := dk_42 (dk_at dksX25_go_5 22 rfl rfl)
theorem dX25_go_139 : decode cX25_go 139 = .ok (.invokevirtual 108, 3) := dk_182 0 108 (dk_at dksX25_go_6 0 rfl rfl)
theorem dX25_go_142 : decode cX25_go 142 = .ok (.goto 29, 3) := dk_167 0 29 (dk_at dksX25_go_6 3 rfl rfl)
theorem dX25_go_145 : decode cX25_go 145 = .ok (.astore 5, 2) := dk_58 5 (dk_at dksX25_go_6 6 rfl rfl)
theorem dX25_go_147 : decode cX25_go 147 = .ok (.aload_n 0, 1) := dk_42 (dk_at dksX25_go_6 8 rfl rfl)
theorem dX25_go_148 : decode cX25_go 148 = .ok (.getfield 3, 3) := dk_180 0 3 (dk_at dksX25_go_6 9 rfl rfl)
theorem dX25_go_151 : decode cX25_go 151 = .ok (.dup, 1) := dk_89 (dk_at dksX25_go_6 12 rfl rfl)
theorem dX25_go_152 : decode cX25_go 152 = .ok (.getfield 74, 3) := dk_180 0 74 (dk_at dksX25_go_6 13 rfl rfl)
theorem dX25_go_155 : decode cX25_go 155 = .ok (.iconst 1, 1) := dk_4 (dk_at dksX25_go_6 16 rfl rfl)
theorem dX25_go_156 : decode cX25_go 156 = .ok (.isub, 1) := dk_100 (dk_at dksX25_go_6 17 rfl rfl)
theorem dX25_go_157 : decode cX25_go 157 = .ok (.putfield 74, 3) := dk_181 0 74 (dk_at dksX25_go_6 18 rfl rfl)
theorem dX25_go_160 : decode cX25_go 160 = .ok (.iload_n 1, 1) := dk_27 (dk_at dksX25_go_6 21 rfl rfl)
theorem dX25_go_161 : decode cX25_go 161 = .ok (.ifCond .ne 7, 3) := dk_154 0 7 (dk_at dksX25_go_7 0 rfl rfl)
theorem dX25_go_164 : decode cX25_go 164 = .ok (.aload_n 0, 1) := dk_42 (dk_at dksX25_go_7 3 rfl rfl)
theorem dX25_go_165 : decode cX25_go 165 = .ok (.invokevirtual 108, 3) := dk_182 0 108 (dk_at dksX25_go_7 4 rfl rfl)
theorem dX25_go_168 : decode cX25_go 168 = .ok (.aload 5, 2) := dk_25 5 (dk_at dksX25_go_7 7 rfl rfl)
theorem dX25_go_170 : decode cX25_go 170 = .ok (.athrow, 1) := dk_191 (dk_at dksX25_go_7 9 rfl rfl)
theorem dX25_go_171 : decode cX25_go 171 = .ok (.return_, 1) := dk_177 (dk_at dksX25_go_7 10 rfl rfl)
abbrev cX25_act : ByteArray := prog_4_method_7_code
def yX25_act : MethodName := ⟨RX25, "act", "(LNativeSubset$Act;)J"⟩
def dkwX25_act_5 : List UInt8 := [180, 0, 149, 4, 96, 181, 0, 149, 44, 43, 42, 182, 0, 151, 173]
abbrev dktX25_act_5 : List UInt8 := dkwX25_act_5 ++ []
def dkwX25_act_4 : List UInt8 := [180, 0, 39, 29, 100, 181, 0, 39, 42, 89, 180, 0, 146, 29, 96, 181, 0, 146, 42, 180, 0, 3, 89]
abbrev dktX25_act_4 : List UInt8 := dkwX25_act_4 ++ dktX25_act_5
def dkwX25_act_3 : List UInt8 := [182, 0, 142, 62, 42, 180, 0, 39, 29, 162, 0, 13, 42, 180, 0, 3, 16, 8, 182, 0, 138, 191, 42, 89]
abbrev dktX25_act_3 : List UInt8 := dkwX25_act_3 ++ dktX25_act_4
def dkwX25_act_2 : List UInt8 := [43, 180, 0, 135, 182, 0, 126, 154, 0, 12, 42, 180, 0, 3, 4, 182, 0, 138, 191, 42, 180, 0, 3, 43]
abbrev dktX25_act_2 : List UInt8 := dkwX25_act_2 ++ dktX25_act_3
def dkwX25_act_1 : List UInt8 := [180, 0, 3, 43, 180, 0, 123, 182, 0, 126, 153, 0, 24, 44, 182, 0, 129, 153, 0, 26, 42, 180, 0, 3]
abbrev dktX25_act_1 : List UInt8 := dkwX25_act_1 ++ dktX25_act_2
def dkwX25_act_0 : List UInt8 := [42, 180, 0, 3, 180, 0, 111, 43, 180, 0, 115, 50, 77, 43, 180, 0, 115, 184, 0, 120, 153, 0, 47, 42]
abbrev dktX25_act_0 : List UInt8 := dkwX25_act_0 ++ dktX25_act_1
theorem dksX25_act_0 : cX25_act.data.toList.drop 0 = dktX25_act_0 := by decide +kernel
theorem dksX25_act_1 : cX25_act.data.toList.drop 24 = dktX25_act_1 := dk_seg dksX25_act_0 24 rfl rfl
theorem dksX25_act_2 : cX25_act.data.toList.drop 48 = dktX25_act_2 := dk_seg dksX25_act_1 24 rfl rfl
theorem dksX25_act_3 : cX25_act.data.toList.drop 72 = dktX25_act_3 := dk_seg dksX25_act_2 24 rfl rfl
theorem dksX25_act_4 : cX25_act.data.toList.drop 96 = dktX25_act_4 := dk_seg dksX25_act_3 24 rfl rfl
theorem dksX25_act_5 : cX25_act.data.toList.drop 119 = dktX25_act_5 := dk_seg dksX25_act_4 23 rfl rfl
theorem dX25_act_0 : decode cX25_act 0 = .ok (.aload_n 0, 1) := dk_42 (dk_at dksX25_act_0 0 rfl rfl)
theorem dX25_act_1 : decode cX25_act 1 = .ok (.getfield 3, 3) := dk_180 0 3 (dk_at dksX25_act_0 1 rfl rfl)
theorem dX25_act_4 : decode cX25_act 4 = .ok (.getfield 111, 3) := dk_180 0 111 (dk_at dksX25_act_0 4 rfl rfl)
theorem dX25_act_7 : decode cX25_act 7 = .ok (.aload_n 1, 1) := dk_43 (dk_at dksX25_act_0 7 rfl rfl)
theorem dX25_act_8 : decode cX25_act 8 = .ok (.getfield 115, 3) := dk_180 0 115 (dk_at dksX25_act_0 8 rfl rfl)
theorem dX25_act_11 : decode cX25_act 11 = .ok (.aaload, 1) := dk_50 (dk_at dksX25_act_0 11 rfl rfl)
theorem dX25_act_12 : decode cX25_act 12 = .ok (.astore_n 2, 1) := dk_77 (dk_at dksX25_act_0 12 rfl rfl)
theorem dX25_act_13 : decode cX25_act 13 = .ok (.aload_n 1, 1) := dk_43 (dk_at dksX25_act_0 13 rfl rfl)
theorem dX25_act_14 : decode cX25_act 14 = .ok (.getfield 115, 3) := dk_180 0 115 (dk_at dksX25_act_0 14 rfl rfl)
theorem dX25_act_17 : decode cX25_act 17 = .ok (.invokestatic 120, 3) := dk_184 0 120 (dk_at dksX25_act_0 17 rfl rfl)
theorem dX25_act_20 : decode cX25_act 20 = .ok (.ifCond .eq 47, 3) := dk_153 0 47 (dk_at dksX25_act_0 20 rfl rfl)
theorem dX25_act_23 : decode cX25_act 23 = .ok (.aload_n 0, 1) := dk_42 (dk_at dksX25_act_0 23 rfl rfl)
theorem dX25_act_24 : decode cX25_act 24 = .ok (.getfield 3, 3) := dk_180 0 3 (dk_at dksX25_act_1 0 rfl rfl)
theorem dX25_act_27 : decode cX25_act 27 = .ok (.aload_n 1, 1) := dk_43 (dk_at dksX25_act_1 3 rfl rfl)
theorem dX25_act_28 : decode cX25_act 28 = .ok (.getfield 123, 3) := dk_180 0 123 (dk_at dksX25_act_1 4 rfl rfl)
theorem dX25_act_31 : decode cX25_act 31 = .ok (.invokevirtual 126, 3) := dk_182 0 126 (dk_at dksX25_act_1 7 rfl rfl)
theorem dX25_act_34 : decode cX25_act 34 = .ok (.ifCond .eq 24, 3) := dk_153 0 24 (dk_at dksX25_act_1 10 rfl rfl)
theorem dX25_act_37 : decode cX25_act 37 = .ok (.aload_n 2, 1) := dk_44 (dk_at dksX25_act_1 13 rfl rfl)
theorem dX25_act_38 : decode cX25_act 38 = .ok (.invokevirtual 129, 3) := dk_182 0 129 (dk_at dksX25_act_1 14 rfl rfl)
theorem dX25_act_41 : decode cX25_act 41 = .ok (.ifCond .eq 26, 3) := dk_153 0 26 (dk_at dksX25_act_1 17 rfl rfl)
theorem dX25_act_44 : decode cX25_act 44 = .ok (.aload_n 0, 1) := dk_42 (dk_at dksX25_act_1 20 rfl rfl)
theorem dX25_act_45 : decode cX25_act 45 = .ok (.getfield 3, 3) := dk_180 0 3 (dk_at dksX25_act_1 21 rfl rfl)
theorem dX25_act_48 : decode cX25_act 48 = .ok (.aload_n 1, 1) := dk_43 (dk_at dksX25_act_2 0 rfl rfl)
theorem dX25_act_49 : decode cX25_act 49 = .ok (.getfield 135, 3) := dk_180 0 135 (dk_at dksX25_act_2 1 rfl rfl)
theorem dX25_act_52 : decode cX25_act 52 = .ok (.invokevirtual 126, 3) := dk_182 0 126 (dk_at dksX25_act_2 4 rfl rfl)
theorem dX25_act_55 : decode cX25_act 55 = .ok (.ifCond .ne 12, 3) := dk_154 0 12 (dk_at dksX25_act_2 7 rfl rfl)
theorem dX25_act_58 : decode cX25_act 58 = .ok (.aload_n 0, 1) := dk_42 (dk_at dksX25_act_2 10 rfl rfl)
theorem dX25_act_59 : decode cX25_act 59 = .ok (.getfield 3, 3) := dk_180 0 3 (dk_at dksX25_act_2 11 rfl rfl)
theorem dX25_act_62 : decode cX25_act 62 = .ok (.iconst 1, 1) := dk_4 (dk_at dksX25_act_2 14 rfl rfl)
theorem dX25_act_63 : decode cX25_act 63 = .ok (.invokevirtual 138, 3) := dk_182 0 138 (dk_at dksX25_act_2 15 rfl rfl)
theorem dX25_act_66 : decode cX25_act 66 = .ok (.athrow, 1) := dk_191 (dk_at dksX25_act_2 18 rfl rfl)
theorem dX25_act_67 : decode cX25_act 67 = .ok (.aload_n 0, 1) := dk_42 (dk_at dksX25_act_2 19 rfl rfl)
theorem dX25_act_68 : decode cX25_act 68 = .ok (.getfield 3, 3) := dk_180 0 3 (dk_at dksX25_act_2 20 rfl rfl)
theorem dX25_act_71 : decode cX25_act 71 = .ok (.aload_n 1, 1) := dk_43 (dk_at dksX25_act_2 23 rfl rfl)
theorem dX25_act_72 : decode cX25_act 72 = .ok (.invokevirtual 142, 3) := dk_182 0 142 (dk_at dksX25_act_3 0 rfl rfl)
theorem dX25_act_75 : decode cX25_act 75 = .ok (.istore_n 3, 1) := dk_62 (dk_at dksX25_act_3 3 rfl rfl)
theorem dX25_act_76 : decode cX25_act 76 = .ok (.aload_n 0, 1) := dk_42 (dk_at dksX25_act_3 4 rfl rfl)
theorem dX25_act_77 : decode cX25_act 77 = .ok (.getfield 39, 3) := dk_180 0 39 (dk_at dksX25_act_3 5 rfl rfl)
theorem dX25_act_80 : decode cX25_act 80 = .ok (.iload_n 3, 1) := dk_29 (dk_at dksX25_act_3 8 rfl rfl)
theorem dX25_act_81 : decode cX25_act 81 = .ok (.if_icmp .ge 13, 3) := dk_162 0 13 (dk_at dksX25_act_3 9 rfl rfl)
theorem dX25_act_84 : decode cX25_act 84 = .ok (.aload_n 0, 1) := dk_42 (dk_at dksX25_act_3 12 rfl rfl)
theorem dX25_act_85 : decode cX25_act 85 = .ok (.getfield 3, 3) := dk_180 0 3 (dk_at dksX25_act_3 13 rfl rfl)
theorem dX25_act_88 : decode cX25_act 88 = .ok (.bipush 8, 2) := dk_16 8 (dk_at dksX25_act_3 16 rfl rfl)
theorem dX25_act_90 : decode cX25_act 90 = .ok (.invokevirtual 138, 3) := dk_182 0 138 (dk_at dksX25_act_3 18 rfl rfl)
theorem dX25_act_93 : decode cX25_act 93 = .ok (.athrow, 1) := dk_191 (dk_at dksX25_act_3 21 rfl rfl)
theorem dX25_act_94 : decode cX25_act 94 = .ok (.aload_n 0, 1) := dk_42 (dk_at dksX25_act_3 22 rfl rfl)
theorem dX25_act_95 : decode cX25_act 95 = .ok (.dup, 1) := dk_89 (dk_at dksX25_act_3 23 rfl rfl)
theorem dX25_act_96 : decode cX25_act 96 = .ok (.getfield 39, 3) := dk_180 0 39 (dk_at dksX25_act_4 0 rfl rfl)
theorem dX25_act_99 : decode cX25_act 99 = .ok (.iload_n 3, 1) := dk_29 (dk_at dksX25_act_4 3 rfl rfl)
theorem dX25_act_100 : decode cX25_act 100 = .ok (.isub, 1) := dk_100 (dk_at dksX25_act_4 4 rfl rfl)
theorem dX25_act_101 : decode cX25_act 101 = .ok (.putfield 39, 3) := dk_181 0 39 (dk_at dksX25_act_4 5 rfl rfl)
theorem dX25_act_104 : decode cX25_act 104 = .ok (.aload_n 0, 1) := dk_42 (dk_at dksX25_act_4 8 rfl rfl)
theorem dX25_act_105 : decode cX25_act 105 = .ok (.dup, 1) := dk_89 (dk_at dksX25_act_4 9 rfl rfl)
theorem dX25_act_106 : decode cX25_act 106 = .ok (.getfield 146, 3) := dk_180 0 146 (dk_at dksX25_act_4 10 rfl rfl)
theorem dX25_act_109 : decode cX25_act 109 = .ok (.iload_n 3, 1) := dk_29 (dk_at dksX25_act_4 13 rfl rfl)
theorem dX25_act_110 : decode cX25_act 110 = .ok (.iadd, 1) := dk_96 (dk_at dksX25_act_4 14 rfl rfl)
theorem dX25_act_111 : decode cX25_act 111 = .ok (.putfield 146, 3) := dk_181 0 146 (dk_at dksX25_act_4 15 rfl rfl)
theorem dX25_act_114 : decode cX25_act 114 = .ok (.aload_n 0, 1) := dk_42 (dk_at dksX25_act_4 18 rfl rfl)
theorem dX25_act_115 : decode cX25_act 115 = .ok (.getfield 3, 3) := dk_180 0 3 (dk_at dksX25_act_4 19 rfl rfl)
theorem dX25_act_118 : decode cX25_act 118 = .ok (.dup, 1) := dk_89 (dk_at dksX25_act_4 22 rfl rfl)
theorem dX25_act_119 : decode cX25_act 119 = .ok (.getfield 149, 3) := dk_180 0 149 (dk_at dksX25_act_5 0 rfl rfl)
theorem dX25_act_122 : decode cX25_act 122 = .ok (.iconst 1, 1) := dk_4 (dk_at dksX25_act_5 3 rfl rfl)
theorem dX25_act_123 : decode cX25_act 123 = .ok (.iadd, 1) := dk_96 (dk_at dksX25_act_5 4 rfl rfl)
theorem dX25_act_124 : decode cX25_act 124 = .ok (.putfield 149, 3) := dk_181 0 149 (dk_at dksX25_act_5 5 rfl rfl)
theorem dX25_act_127 : decode cX25_act 127 = .ok (.aload_n 2, 1) := dk_44 (dk_at dksX25_act_5 8 rfl rfl)
theorem dX25_act_128 : decode cX25_act 128 = .ok (.aload_n 1, 1) := dk_43 (dk_at dksX25_act_5 9 rfl rfl)
theorem dX25_act_129 : decode cX25_act 129 = .ok (.aload_n 0, 1) := dk_42 (dk_at dksX25_act_5 10 rfl rfl)
theorem dX25_act_130 : decode cX25_act 130 = .ok (.invokevirtual 151, 3) := dk_182 0 151 (dk_at dksX25_act_5 11 rfl rfl)
theorem dX25_act_133 : decode cX25_act 133 = .ok (.lreturn, 1) := dk_173 (dk_at dksX25_act_5 14 rfl rfl)
abbrev cX25_take : ByteArray := prog_4_method_4_code
def yX25_take : MethodName := ⟨RX25, "take", "(LNativeSubset$Call;)V"⟩
def dkwX25_take_2 : List UInt8 := [180, 0, 18, 43, 180, 0, 18, 28, 182, 0, 46, 182, 0, 54, 87, 132, 2, 1, 167, 255, 195, 177]
abbrev dktX25_take_2 : List UInt8 := dkwX25_take_2 ++ []
def dkwX25_take_1 : List UInt8 := [154, 0, 37, 42, 180, 0, 22, 42, 180, 0, 18, 182, 0, 33, 43, 180, 0, 22, 28, 46, 79, 42]
abbrev dktX25_take_1 : List UInt8 := dkwX25_take_1 ++ dktX25_take_2
def dkwX25_take_0 : List UInt8 := [3, 61, 28, 43, 180, 0, 18, 182, 0, 33, 162, 0, 56, 42, 43, 180, 0, 22, 28, 46, 182, 0, 42]
abbrev dktX25_take_0 : List UInt8 := dkwX25_take_0 ++ dktX25_take_1
theorem dksX25_take_0 : cX25_take.data.toList.drop 0 = dktX25_take_0 := by decide +kernel
theorem dksX25_take_1 : cX25_take.data.toList.drop 23 = dktX25_take_1 := dk_seg dksX25_take_0 23 rfl rfl
theorem dksX25_take_2 : cX25_take.data.toList.drop 45 = dktX25_take_2 := dk_seg dksX25_take_1 22 rfl rfl
theorem dX25_take_0 : decode cX25_take 0 = .ok (.iconst 0, 1) := dk_3 (dk_at dksX25_take_0 0 rfl rfl)
theorem dX25_take_1 : decode cX25_take 1 = .ok (.istore_n 2, 1) := dk_61 (dk_at dksX25_take_0 1 rfl rfl)
theorem dX25_take_2 : decode cX25_take 2 = .ok (.iload_n 2, 1) := dk_28 (dk_at dksX25_take_0 2 rfl rfl)
theorem dX25_take_3 : decode cX25_take 3 = .ok (.aload_n 1, 1) := dk_43 (dk_at dksX25_take_0 3 rfl rfl)
theorem dX25_take_4 : decode cX25_take 4 = .ok (.getfield 18, 3) := dk_180 0 18 (dk_at dksX25_take_0 4 rfl rfl)
theorem dX25_take_7 : decode cX25_take 7 = .ok (.invokevirtual 33, 3) := dk_182 0 33 (dk_at dksX25_take_0 7 rfl rfl)
theorem dX25_take_10 : decode cX25_take 10 = .ok (.if_icmp .ge 56, 3) := dk_162 0 56 (dk_at dksX25_take_0 10 rfl rfl)
theorem dX25_take_13 : decode cX25_take 13 = .ok (.aload_n 0, 1) := dk_42 (dk_at dksX25_take_0 13 rfl rfl)
theorem dX25_take_14 : decode cX25_take 14 = .ok (.aload_n 1, 1) := dk_43 (dk_at dksX25_take_0 14 rfl rfl)
theorem dX25_take_15 : decode cX25_take 15 = .ok (.getfield 22, 3) := dk_180 0 22 (dk_at dksX25_take_0 15 rfl rfl)
theorem dX25_take_18 : decode cX25_take 18 = .ok (.iload_n 2, 1) := dk_28 (dk_at dksX25_take_0 18 rfl rfl)
theorem dX25_take_19 : decode cX25_take 19 = .ok (.iaload, 1) := dk_46 (dk_at dksX25_take_0 19 rfl rfl)
theorem dX25_take_20 : decode cX25_take 20 = .ok (.invokevirtual 42, 3) := dk_182 0 42 (dk_at dksX25_take_0 20 rfl rfl)
theorem dX25_take_23 : decode cX25_take 23 = .ok (.ifCond .ne 37, 3) := dk_154 0 37 (dk_at dksX25_take_1 0 rfl rfl)
theorem dX25_take_26 : decode cX25_take 26 = .ok (.aload_n 0, 1) := dk_42 (dk_at dksX25_take_1 3 rfl rfl)
theorem dX25_take_27 : decode cX25_take 27 = .ok (.getfield 22, 3) := dk_180 0 22 (dk_at dksX25_take_1 4 rfl rfl)
theorem dX25_take_30 : decode cX25_take 30 = .ok (.aload_n 0, 1) := dk_42 (dk_at dksX25_take_1 7 rfl rfl)
theorem dX25_take_31 : decode cX25_take 31 = .ok (.getfield 18, 3) := dk_180 0 18 (dk_at dksX25_take_1 8 rfl rfl)
theorem dX25_take_34 : decode cX25_take 34 = .ok (.invokevirtual 33, 3) := dk_182 0 33 (dk_at dksX25_take_1 11 rfl rfl)
theorem dX25_take_37 : decode cX25_take 37 = .ok (.aload_n 1, 1) := dk_43 (dk_at dksX25_take_1 14 rfl rfl)
theorem dX25_take_38 : decode cX25_take 38 = .ok (.getfield 22, 3) := dk_180 0 22 (dk_at dksX25_take_1 15 rfl rfl)
theorem dX25_take_41 : decode cX25_take 41 = .ok (.iload_n 2, 1) := dk_28 (dk_at dksX25_take_1 18 rfl rfl)
theorem dX25_take_42 : decode cX25_take 42 = .ok (.iaload, 1) := dk_46 (dk_at dksX25_take_1 19 rfl rfl)
theorem dX25_take_43 : decode cX25_take 43 = .ok (.iastore, 1) := dk_79 (dk_at dksX25_take_1 20 rfl rfl)
theorem dX25_take_44 : decode cX25_take 44 = .ok (.aload_n 0, 1) := dk_42 (dk_at dksX25_take_1 21 rfl rfl)
theorem dX25_take_45 : decode cX25_take 45 = .ok (.getfield 18, 3) := dk_180 0 18 (dk_at dksX25_take_2 0 rfl rfl)
theorem dX25_take_48 : decode cX25_take 48 = .ok (.aload_n 1, 1) := dk_43 (dk_at dksX25_take_2 3 rfl rfl)
theorem dX25_take_49 : decode cX25_take 49 = .ok (.getfield 18, 3) := dk_180 0 18 (dk_at dksX25_take_2 4 rfl rfl)
theorem dX25_take_52 : decode cX25_take 52 = .ok (.iload_n 2, 1) := dk_28 (dk_at dksX25_take_2 7 rfl rfl)
theorem dX25_take_53 : decode cX25_take 53 = .ok (.invokevirtual 46, 3) := dk_182 0 46 (dk_at dksX25_take_2 8 rfl rfl)
theorem dX25_take_56 : decode cX25_take 56 = .ok (.invokevirtual 54, 3) := dk_182 0 54 (dk_at dksX25_take_2 11 rfl rfl)
theorem dX25_take_59 : decode cX25_take 59 = .ok (.pop, 1) := dk_87 (dk_at dksX25_take_2 14 rfl rfl)
theorem dX25_take_60 : decode cX25_take 60 = .ok (.iinc 2 1, 3) := dk_132 2 1 (dk_at dksX25_take_2 15 rfl rfl)
theorem dX25_take_63 : decode cX25_take 63 = .ok (.goto (-61), 3) := dk_167 255 195 (dk_at dksX25_take_2 18 rfl rfl)
theorem dX25_take_66 : decode cX25_take 66 = .ok (.return_, 1) := dk_177 (dk_at dksX25_take_2 21 rfl rfl)
abbrev cX25_has : ByteArray := prog_4_method_3_code
def yX25_has : MethodName := ⟨RX25, "has", "(I)Z"⟩
def dkwX25_has_1 : List UInt8 := [46, 27, 160, 0, 7, 4, 167, 0, 4, 3, 61, 132, 3, 1, 167, 255, 222, 28, 172]
abbrev dktX25_has_1 : List UInt8 := dkwX25_has_1 ++ []
def dkwX25_has_0 : List UInt8 := [3, 61, 3, 62, 29, 42, 180, 0, 18, 182, 0, 33, 162, 0, 29, 28, 154, 0, 13, 42, 180, 0, 22, 29]
abbrev dktX25_has_0 : List UInt8 := dkwX25_has_0 ++ dktX25_has_1
theorem dksX25_has_0 : cX25_has.data.toList.drop 0 = dktX25_has_0 := by decide +kernel
theorem dksX25_has_1 : cX25_has.data.toList.drop 24 = dktX25_has_1 := dk_seg dksX25_has_0 24 rfl rfl
theorem dX25_has_0 : decode cX25_has 0 = .ok (.iconst 0, 1) := dk_3 (dk_at dksX25_has_0 0 rfl rfl)
theorem dX25_has_1 : decode cX25_has 1 = .ok (.istore_n 2, 1) := dk_61 (dk_at dksX25_has_0 1 rfl rfl)
theorem dX25_has_2 : decode cX25_has 2 = .ok (.iconst 0, 1) := dk_3 (dk_at dksX25_has_0 2 rfl rfl)
theorem dX25_has_3 : decode cX25_has 3 = .ok (.istore_n 3, 1) := dk_62 (dk_at dksX25_has_0 3 rfl rfl)
theorem dX25_has_4 : decode cX25_has 4 = .ok (.iload_n 3, 1) := dk_29 (dk_at dksX25_has_0 4 rfl rfl)
theorem dX25_has_5 : decode cX25_has 5 = .ok (.aload_n 0, 1) := dk_42 (dk_at dksX25_has_0 5 rfl rfl)
theorem dX25_has_6 : decode cX25_has 6 = .ok (.getfield 18, 3) := dk_180 0 18 (dk_at dksX25_has_0 6 rfl rfl)
theorem dX25_has_9 : decode cX25_has 9 = .ok (.invokevirtual 33, 3) := dk_182 0 33 (dk_at dksX25_has_0 9 rfl rfl)
theorem dX25_has_12 : decode cX25_has 12 = .ok (.if_icmp .ge 29, 3) := dk_162 0 29 (dk_at dksX25_has_0 12 rfl rfl)
theorem dX25_has_15 : decode cX25_has 15 = .ok (.iload_n 2, 1) := dk_28 (dk_at dksX25_has_0 15 rfl rfl)
theorem dX25_has_16 : decode cX25_has 16 = .ok (.ifCond .ne 13, 3) := dk_154 0 13 (dk_at dksX25_has_0 16 rfl rfl)
theorem dX25_has_19 : decode cX25_has 19 = .ok (.aload_n 0, 1) := dk_42 (dk_at dksX25_has_0 19 rfl rfl)
theorem dX25_has_20 : decode cX25_has 20 = .ok (.getfield 22, 3) := dk_180 0 22 (dk_at dksX25_has_0 20 rfl rfl)
theorem dX25_has_23 : decode cX25_has 23 = .ok (.iload_n 3, 1) := dk_29 (dk_at dksX25_has_0 23 rfl rfl)
theorem dX25_has_24 : decode cX25_has 24 = .ok (.iaload, 1) := dk_46 (dk_at dksX25_has_1 0 rfl rfl)
theorem dX25_has_25 : decode cX25_has 25 = .ok (.iload_n 1, 1) := dk_27 (dk_at dksX25_has_1 1 rfl rfl)
theorem dX25_has_26 : decode cX25_has 26 = .ok (.if_icmp .ne 7, 3) := dk_160 0 7 (dk_at dksX25_has_1 2 rfl rfl)
theorem dX25_has_29 : decode cX25_has 29 = .ok (.iconst 1, 1) := dk_4 (dk_at dksX25_has_1 5 rfl rfl)
theorem dX25_has_30 : decode cX25_has 30 = .ok (.goto 4, 3) := dk_167 0 4 (dk_at dksX25_has_1 6 rfl rfl)
theorem dX25_has_33 : decode cX25_has 33 = .ok (.iconst 0, 1) := dk_3 (dk_at dksX25_has_1 9 rfl rfl)
theorem dX25_has_34 : decode cX25_has 34 = .ok (.istore_n 2, 1) := dk_61 (dk_at dksX25_has_1 10 rfl rfl)
theorem dX25_has_35 : decode cX25_has 35 = .ok (.iinc 3 1, 3) := dk_132 3 1 (dk_at dksX25_has_1 11 rfl rfl)
theorem dX25_has_38 : decode cX25_has 38 = .ok (.goto (-34), 3) := dk_167 255 222 (dk_at dksX25_has_1 14 rfl rfl)
theorem dX25_has_41 : decode cX25_has 41 = .ok (.iload_n 2, 1) := dk_28 (dk_at dksX25_has_1 17 rfl rfl)
theorem dX25_has_42 : decode cX25_has 42 = .ok (.ireturn, 1) := dk_172 (dk_at dksX25_has_1 18 rfl rfl)
abbrev cX25_keep : ByteArray := prog_4_method_2_code
def yX25_keep : MethodName := ⟨RX25, "keep", "(I)V"⟩
def dkwX25_keep_1 : List UInt8 := [180, 0, 18, 42, 180, 0, 3, 180, 0, 30, 27, 182, 0, 46, 184, 0, 50, 182, 0, 54, 87, 177]
abbrev dktX25_keep_1 : List UInt8 := dkwX25_keep_1 ++ []
def dkwX25_keep_0 : List UInt8 := [42, 27, 182, 0, 42, 154, 0, 38, 42, 180, 0, 22, 42, 180, 0, 18, 182, 0, 33, 27, 79, 42]
abbrev dktX25_keep_0 : List UInt8 := dkwX25_keep_0 ++ dktX25_keep_1
theorem dksX25_keep_0 : cX25_keep.data.toList.drop 0 = dktX25_keep_0 := by decide +kernel
theorem dksX25_keep_1 : cX25_keep.data.toList.drop 22 = dktX25_keep_1 := dk_seg dksX25_keep_0 22 rfl rfl
theorem dX25_keep_0 : decode cX25_keep 0 = .ok (.aload_n 0, 1) := dk_42 (dk_at dksX25_keep_0 0 rfl rfl)
theorem dX25_keep_1 : decode cX25_keep 1 = .ok (.iload_n 1, 1) := dk_27 (dk_at dksX25_keep_0 1 rfl rfl)
theorem dX25_keep_2 : decode cX25_keep 2 = .ok (.invokevirtual 42, 3) := dk_182 0 42 (dk_at dksX25_keep_0 2 rfl rfl)
theorem dX25_keep_5 : decode cX25_keep 5 = .ok (.ifCond .ne 38, 3) := dk_154 0 38 (dk_at dksX25_keep_0 5 rfl rfl)
theorem dX25_keep_8 : decode cX25_keep 8 = .ok (.aload_n 0, 1) := dk_42 (dk_at dksX25_keep_0 8 rfl rfl)
theorem dX25_keep_9 : decode cX25_keep 9 = .ok (.getfield 22, 3) := dk_180 0 22 (dk_at dksX25_keep_0 9 rfl rfl)
theorem dX25_keep_12 : decode cX25_keep 12 = .ok (.aload_n 0, 1) := dk_42 (dk_at dksX25_keep_0 12 rfl rfl)
theorem dX25_keep_13 : decode cX25_keep 13 = .ok (.getfield 18, 3) := dk_180 0 18 (dk_at dksX25_keep_0 13 rfl rfl)
theorem dX25_keep_16 : decode cX25_keep 16 = .ok (.invokevirtual 33, 3) := dk_182 0 33 (dk_at dksX25_keep_0 16 rfl rfl)
theorem dX25_keep_19 : decode cX25_keep 19 = .ok (.iload_n 1, 1) := dk_27 (dk_at dksX25_keep_0 19 rfl rfl)
theorem dX25_keep_20 : decode cX25_keep 20 = .ok (.iastore, 1) := dk_79 (dk_at dksX25_keep_0 20 rfl rfl)
theorem dX25_keep_21 : decode cX25_keep 21 = .ok (.aload_n 0, 1) := dk_42 (dk_at dksX25_keep_0 21 rfl rfl)
theorem dX25_keep_22 : decode cX25_keep 22 = .ok (.getfield 18, 3) := dk_180 0 18 (dk_at dksX25_keep_1 0 rfl rfl)
theorem dX25_keep_25 : decode cX25_keep 25 = .ok (.aload_n 0, 1) := dk_42 (dk_at dksX25_keep_1 3 rfl rfl)
theorem dX25_keep_26 : decode cX25_keep 26 = .ok (.getfield 3, 3) := dk_180 0 3 (dk_at dksX25_keep_1 4 rfl rfl)
theorem dX25_keep_29 : decode cX25_keep 29 = .ok (.getfield 30, 3) := dk_180 0 30 (dk_at dksX25_keep_1 7 rfl rfl)
theorem dX25_keep_32 : decode cX25_keep 32 = .ok (.iload_n 1, 1) := dk_27 (dk_at dksX25_keep_1 10 rfl rfl)
theorem dX25_keep_33 : decode cX25_keep 33 = .ok (.invokevirtual 46, 3) := dk_182 0 46 (dk_at dksX25_keep_1 11 rfl rfl)
theorem dX25_keep_36 : decode cX25_keep 36 = .ok (.invokestatic 50, 3) := dk_184 0 50 (dk_at dksX25_keep_1 14 rfl rfl)
theorem dX25_keep_39 : decode cX25_keep 39 = .ok (.invokevirtual 54, 3) := dk_182 0 54 (dk_at dksX25_keep_1 17 rfl rfl)
theorem dX25_keep_42 : decode cX25_keep 42 = .ok (.pop, 1) := dk_87 (dk_at dksX25_keep_1 20 rfl rfl)
theorem dX25_keep_43 : decode cX25_keep 43 = .ok (.return_, 1) := dk_177 (dk_at dksX25_keep_1 21 rfl rfl)
abbrev cX25_undo : ByteArray := prog_4_method_5_code
def yX25_undo : MethodName := ⟨RX25, "undo", "()V"⟩
def dkwX25_undo_4 : List UInt8 := [180, 0, 3, 180, 0, 30, 182, 0, 33, 4, 100, 182, 0, 71, 87, 167, 255, 216, 177]
abbrev dktX25_undo_4 : List UInt8 := dkwX25_undo_4 ++ []
def dkwX25_undo_3 : List UInt8 := [180, 0, 3, 180, 0, 30, 182, 0, 33, 42, 180, 0, 37, 164, 0, 29, 42, 180, 0, 3, 180, 0, 30, 42]
abbrev dktX25_undo_3 : List UInt8 := dkwX25_undo_3 ++ dktX25_undo_4
def dkwX25_undo_2 : List UInt8 := [180, 0, 22, 27, 46, 182, 0, 46, 3, 44, 184, 0, 61, 184, 0, 65, 132, 1, 1, 167, 255, 207, 42]
abbrev dktX25_undo_2 : List UInt8 := dkwX25_undo_2 ++ dktX25_undo_3
def dkwX25_undo_1 : List UInt8 := [162, 0, 44, 42, 180, 0, 18, 27, 182, 0, 46, 77, 44, 3, 42, 180, 0, 3, 180, 0, 30, 42]
abbrev dktX25_undo_1 : List UInt8 := dkwX25_undo_1 ++ dktX25_undo_2
def dkwX25_undo_0 : List UInt8 := [42, 180, 0, 3, 89, 180, 0, 58, 4, 96, 181, 0, 58, 3, 60, 27, 42, 180, 0, 18, 182, 0, 33]
abbrev dktX25_undo_0 : List UInt8 := dkwX25_undo_0 ++ dktX25_undo_1
theorem dksX25_undo_0 : cX25_undo.data.toList.drop 0 = dktX25_undo_0 := by decide +kernel
theorem dksX25_undo_1 : cX25_undo.data.toList.drop 23 = dktX25_undo_1 := dk_seg dksX25_undo_0 23 rfl rfl
theorem dksX25_undo_2 : cX25_undo.data.toList.drop 45 = dktX25_undo_2 := dk_seg dksX25_undo_1 22 rfl rfl
theorem dksX25_undo_3 : cX25_undo.data.toList.drop 68 = dktX25_undo_3 := dk_seg dksX25_undo_2 23 rfl rfl
theorem dksX25_undo_4 : cX25_undo.data.toList.drop 92 = dktX25_undo_4 := dk_seg dksX25_undo_3 24 rfl rfl
theorem dX25_undo_0 : decode cX25_undo 0 = .ok (.aload_n 0, 1) := dk_42 (dk_at dksX25_undo_0 0 rfl rfl)
theorem dX25_undo_1 : decode cX25_undo 1 = .ok (.getfield 3, 3) := dk_180 0 3 (dk_at dksX25_undo_0 1 rfl rfl)
theorem dX25_undo_4 : decode cX25_undo 4 = .ok (.dup, 1) := dk_89 (dk_at dksX25_undo_0 4 rfl rfl)
theorem dX25_undo_5 : decode cX25_undo 5 = .ok (.getfield 58, 3) := dk_180 0 58 (dk_at dksX25_undo_0 5 rfl rfl)
theorem dX25_undo_8 : decode cX25_undo 8 = .ok (.iconst 1, 1) := dk_4 (dk_at dksX25_undo_0 8 rfl rfl)
theorem dX25_undo_9 : decode cX25_undo 9 = .ok (.iadd, 1) := dk_96 (dk_at dksX25_undo_0 9 rfl rfl)
theorem dX25_undo_10 : decode cX25_undo 10 = .ok (.putfield 58, 3) := dk_181 0 58 (dk_at dksX25_undo_0 10 rfl rfl)
theorem dX25_undo_13 : decode cX25_undo 13 = .ok (.iconst 0, 1) := dk_3 (dk_at dksX25_undo_0 13 rfl rfl)
theorem dX25_undo_14 : decode cX25_undo 14 = .ok (.istore_n 1, 1) := dk_60 (dk_at dksX25_undo_0 14 rfl rfl)
theorem dX25_undo_15 : decode cX25_undo 15 = .ok (.iload_n 1, 1) := dk_27 (dk_at dksX25_undo_0 15 rfl rfl)
theorem dX25_undo_16 : decode cX25_undo 16 = .ok (.aload_n 0, 1) := dk_42 (dk_at dksX25_undo_0 16 rfl rfl)
theorem dX25_undo_17 : decode cX25_undo 17 = .ok (.getfield 18, 3) := dk_180 0 18 (dk_at dksX25_undo_0 17 rfl rfl)
theorem dX25_undo_20 : decode cX25_undo 20 = .ok (.invokevirtual 33, 3) := dk_182 0 33 (dk_at dksX25_undo_0 20 rfl rfl)
theorem dX25_undo_23 : decode cX25_undo 23 = .ok (.if_icmp .ge 44, 3) := dk_162 0 44 (dk_at dksX25_undo_1 0 rfl rfl)
theorem dX25_undo_26 : decode cX25_undo 26 = .ok (.aload_n 0, 1) := dk_42 (dk_at dksX25_undo_1 3 rfl rfl)
theorem dX25_undo_27 : decode cX25_undo 27 = .ok (.getfield 18, 3) := dk_180 0 18 (dk_at dksX25_undo_1 4 rfl rfl)
theorem dX25_undo_30 : decode cX25_undo 30 = .ok (.iload_n 1, 1) := dk_27 (dk_at dksX25_undo_1 7 rfl rfl)
theorem dX25_undo_31 : decode cX25_undo 31 = .ok (.invokevirtual 46, 3) := dk_182 0 46 (dk_at dksX25_undo_1 8 rfl rfl)
theorem dX25_undo_34 : decode cX25_undo 34 = .ok (.astore_n 2, 1) := dk_77 (dk_at dksX25_undo_1 11 rfl rfl)
theorem dX25_undo_35 : decode cX25_undo 35 = .ok (.aload_n 2, 1) := dk_44 (dk_at dksX25_undo_1 12 rfl rfl)
theorem dX25_undo_36 : decode cX25_undo 36 = .ok (.iconst 0, 1) := dk_3 (dk_at dksX25_undo_1 13 rfl rfl)
theorem dX25_undo_37 : decode cX25_undo 37 = .ok (.aload_n 0, 1) := dk_42 (dk_at dksX25_undo_1 14 rfl rfl)
theorem dX25_undo_38 : decode cX25_undo 38 = .ok (.getfield 3, 3) := dk_180 0 3 (dk_at dksX25_undo_1 15 rfl rfl)
theorem dX25_undo_41 : decode cX25_undo 41 = .ok (.getfield 30, 3) := dk_180 0 30 (dk_at dksX25_undo_1 18 rfl rfl)
theorem dX25_undo_44 : decode cX25_undo 44 = .ok (.aload_n 0, 1) := dk_42 (dk_at dksX25_undo_1 21 rfl rfl)
theorem dX25_undo_45 : decode cX25_undo 45 = .ok (.getfield 22, 3) := dk_180 0 22 (dk_at dksX25_undo_2 0 rfl rfl)
theorem dX25_undo_48 : decode cX25_undo 48 = .ok (.iload_n 1, 1) := dk_27 (dk_at dksX25_undo_2 3 rfl rfl)
theorem dX25_undo_49 : decode cX25_undo 49 = .ok (.iaload, 1) := dk_46 (dk_at dksX25_undo_2 4 rfl rfl)
theorem dX25_undo_50 : decode cX25_undo 50 = .ok (.invokevirtual 46, 3) := dk_182 0 46 (dk_at dksX25_undo_2 5 rfl rfl)
theorem dX25_undo_53 : decode cX25_undo 53 = .ok (.iconst 0, 1) := dk_3 (dk_at dksX25_undo_2 8 rfl rfl)
theorem dX25_undo_54 : decode cX25_undo 54 = .ok (.aload_n 2, 1) := dk_44 (dk_at dksX25_undo_2 9 rfl rfl)
theorem dX25_undo_55 : decode cX25_undo 55 = .ok (.invokestatic 61, 3) := dk_184 0 61 (dk_at dksX25_undo_2 10 rfl rfl)
theorem dX25_undo_58 : decode cX25_undo 58 = .ok (.invokestatic 65, 3) := dk_184 0 65 (dk_at dksX25_undo_2 13 rfl rfl)
theorem dX25_undo_61 : decode cX25_undo 61 = .ok (.iinc 1 1, 3) := dk_132 1 1 (dk_at dksX25_undo_2 16 rfl rfl)
theorem dX25_undo_64 : decode cX25_undo 64 = .ok (.goto (-49), 3) := dk_167 255 207 (dk_at dksX25_undo_2 19 rfl rfl)
theorem dX25_undo_67 : decode cX25_undo 67 = .ok (.aload_n 0, 1) := dk_42 (dk_at dksX25_undo_2 22 rfl rfl)
theorem dX25_undo_68 : decode cX25_undo 68 = .ok (.getfield 3, 3) := dk_180 0 3 (dk_at dksX25_undo_3 0 rfl rfl)
theorem dX25_undo_71 : decode cX25_undo 71 = .ok (.getfield 30, 3) := dk_180 0 30 (dk_at dksX25_undo_3 3 rfl rfl)
theorem dX25_undo_74 : decode cX25_undo 74 = .ok (.invokevirtual 33, 3) := dk_182 0 33 (dk_at dksX25_undo_3 6 rfl rfl)
theorem dX25_undo_77 : decode cX25_undo 77 = .ok (.aload_n 0, 1) := dk_42 (dk_at dksX25_undo_3 9 rfl rfl)
theorem dX25_undo_78 : decode cX25_undo 78 = .ok (.getfield 37, 3) := dk_180 0 37 (dk_at dksX25_undo_3 10 rfl rfl)
theorem dX25_undo_81 : decode cX25_undo 81 = .ok (.if_icmp .le 29, 3) := dk_164 0 29 (dk_at dksX25_undo_3 13 rfl rfl)
theorem dX25_undo_84 : decode cX25_undo 84 = .ok (.aload_n 0, 1) := dk_42 (dk_at dksX25_undo_3 16 rfl rfl)
theorem dX25_undo_85 : decode cX25_undo 85 = .ok (.getfield 3, 3) := dk_180 0 3 (dk_at dksX25_undo_3 17 rfl rfl)
theorem dX25_undo_88 : decode cX25_undo 88 = .ok (.getfield 30, 3) := dk_180 0 30 (dk_at dksX25_undo_3 20 rfl rfl)
theorem dX25_undo_91 : decode cX25_undo 91 = .ok (.aload_n 0, 1) := dk_42 (dk_at dksX25_undo_3 23 rfl rfl)
theorem dX25_undo_92 : decode cX25_undo 92 = .ok (.getfield 3, 3) := dk_180 0 3 (dk_at dksX25_undo_4 0 rfl rfl)
theorem dX25_undo_95 : decode cX25_undo 95 = .ok (.getfield 30, 3) := dk_180 0 30 (dk_at dksX25_undo_4 3 rfl rfl)
theorem dX25_undo_98 : decode cX25_undo 98 = .ok (.invokevirtual 33, 3) := dk_182 0 33 (dk_at dksX25_undo_4 6 rfl rfl)
theorem dX25_undo_101 : decode cX25_undo 101 = .ok (.iconst 1, 1) := dk_4 (dk_at dksX25_undo_4 9 rfl rfl)
theorem dX25_undo_102 : decode cX25_undo 102 = .ok (.isub, 1) := dk_100 (dk_at dksX25_undo_4 10 rfl rfl)
theorem dX25_undo_103 : decode cX25_undo 103 = .ok (.invokevirtual 71, 3) := dk_182 0 71 (dk_at dksX25_undo_4 11 rfl rfl)
theorem dX25_undo_106 : decode cX25_undo 106 = .ok (.pop, 1) := dk_87 (dk_at dksX25_undo_4 14 rfl rfl)
theorem dX25_undo_107 : decode cX25_undo 107 = .ok (.goto (-40), 3) := dk_167 255 216 (dk_at dksX25_undo_4 15 rfl rfl)
theorem dX25_undo_110 : decode cX25_undo 110 = .ok (.return_, 1) := dk_177 (dk_at dksX25_undo_4 18 rfl rfl)
theorem q96 : (Jvm.Cond.initialized "NativeSubset$Call") ∈ lw_all := lw_g (lw_at lw_m1 47 rfl) rfl
theorem q145 : (Jvm.Cond.fieldLinkNest "NativeSubset$Call" (93 : Nat) "NativeSubset$Plan" "acts" "[LNativeSubset$Act;" "NativeSubset") ∈ lw_tbl := lw_at lw_m1 96 rfl
theorem q147 : (Jvm.Cond.fieldLinkNest "NativeSubset$Call" (90 : Nat) "NativeSubset$Plan" "size" "I" "NativeSubset") ∈ lw_tbl := lw_at lw_m1 98 rfl
theorem q374 : (Jvm.Cond.fieldLinkNest "NativeSubset$Call" (30 : Nat) "NativeSubset" "rows" "Ljava/util/ArrayList;" "NativeSubset") ∈ lw_tbl := lw_at lw_m2 85 rfl
theorem q384 : (Jvm.Cond.fieldLinkNest "NativeSubset$Call" (86 : Nat) "NativeSubset" "plans" "[LNativeSubset$Plan;" "NativeSubset") ∈ lw_tbl := lw_at lw_m2 95 rfl
theorem q386 : (Jvm.Cond.fieldLinkNest "NativeSubset$Call" (111 : Nat) "NativeSubset" "helpers" "[LNativeSubset$Helper;" "NativeSubset") ∈ lw_tbl := lw_at lw_m2 97 rfl
theorem q389 : (Jvm.Cond.fieldLinkNest "NativeSubset$Call" (74 : Nat) "NativeSubset" "deep" "I" "NativeSubset") ∈ lw_tbl := lw_at lw_m2 100 rfl
theorem q390 : (Jvm.Cond.fieldLinkNest "NativeSubset$Call" (77 : Nat) "NativeSubset" "deepest" "I" "NativeSubset") ∈ lw_tbl := lw_at lw_m2 101 rfl
theorem q392 : (Jvm.Cond.fieldLinkNest "NativeSubset$Call" (149 : Nat) "NativeSubset" "acts" "I" "NativeSubset") ∈ lw_tbl := lw_at lw_m2 103 rfl
theorem q394 : (Jvm.Cond.fieldLinkNest "NativeSubset$Call" (58 : Nat) "NativeSubset" "undone" "I" "NativeSubset") ∈ lw_tbl := lw_at lw_m2 105 rfl
theorem q405 : (Jvm.Cond.fieldLinkNest "NativeSubset$Call" (101 : Nat) "NativeSubset" "answers" "[J" "NativeSubset") ∈ lw_tbl := lw_at lw_m2 116 rfl
theorem q494 : (Jvm.Cond.selects "NativeSubset$Call" ({ cls := "java/lang/Object", name := "getClass", desc := "()Ljava/lang/Class;" } : Jvm.MethodName) ({ cls := "java/lang/Object", name := "getClass", desc := "()Ljava/lang/Class;" } : Jvm.MethodName)) ∈ lw_all := lw_g (lw_at lw_m2 205 rfl) rfl
theorem q690 : (Jvm.Cond.fieldLinkNest "NativeSubset$Call" (115 : Nat) "NativeSubset$Act" "helper" "I" "NativeSubset") ∈ lw_tbl := lw_at lw_m3 161 rfl
theorem q701 : (Jvm.Cond.fieldLinkNest "NativeSubset$Call" (123 : Nat) "NativeSubset$Act" "a" "I" "NativeSubset") ∈ lw_tbl := lw_at lw_m3 172 rfl
theorem q716 : (Jvm.Cond.fieldLinkNest "NativeSubset$Call" (135 : Nat) "NativeSubset$Act" "b" "I" "NativeSubset") ∈ lw_tbl := lw_at lw_m3 187 rfl
theorem q932 : (Jvm.Cond.instantiable "NativeSubset$Call" (8 : Nat)) ∈ lw_all := lw_g (lw_at lw_m4 163 rfl) rfl
theorem q934 : (Jvm.Cond.instanceMethod ({ cls := "NativeSubset$Call", name := "<init>", desc := "(LNativeSubset;II)V" } : Jvm.MethodName)) ∈ lw_all := lw_g (lw_at lw_m4 165 rfl) rfl
theorem q935 : (Jvm.Cond.code ({ cls := "NativeSubset$Call", name := "<init>", desc := "(LNativeSubset;II)V" } : Jvm.MethodName) prog_4_method_1_code (4 : Nat) (Option.none : Option Jvm.ClassFile.FieldType)) ∈ lw_all := lw_g (lw_at lw_m4 166 rfl) rfl
theorem q936 : (Jvm.Cond.methodLink "NativeSubset$Call" (9 : Nat) ({ cls := "java/lang/Object", name := "<init>", desc := "()V" } : Jvm.MethodName)) ∈ lw_all := lw_g (lw_at lw_m4 167 rfl) rfl
theorem q937 : (Jvm.Cond.classLink "NativeSubset$Call" (15 : Nat) "java/util/ArrayList") ∈ lw_all := lw_g (lw_at lw_m4 168 rfl) rfl
theorem q938 : (Jvm.Cond.methodLink "NativeSubset$Call" (17 : Nat) ({ cls := "java/util/ArrayList", name := "<init>", desc := "()V" } : Jvm.MethodName)) ∈ lw_all := lw_g (lw_at lw_m4 169 rfl) rfl
theorem q939 : (Jvm.Cond.methodLink "NativeSubset$Call" (33 : Nat) ({ cls := "java/util/ArrayList", name := "size", desc := "()I" } : Jvm.MethodName)) ∈ lw_all := lw_g (lw_at lw_m4 170 rfl) rfl
theorem q940 : (Jvm.Cond.fieldLink "NativeSubset$Call" (26 : Nat) "NativeSubset$Call" "plan" "I") ∈ lw_all := lw_g (lw_at lw_m4 171 rfl) rfl
theorem q941 : (Jvm.Cond.fieldLink "NativeSubset$Call" (37 : Nat) "NativeSubset$Call" "size" "I") ∈ lw_all := lw_g (lw_at lw_m4 172 rfl) rfl
theorem q942 : (Jvm.Cond.fieldLink "NativeSubset$Call" (18 : Nat) "NativeSubset$Call" "kept" "Ljava/util/ArrayList;") ∈ lw_all := lw_g (lw_at lw_m4 173 rfl) rfl
theorem q943 : (Jvm.Cond.fieldLink "NativeSubset$Call" (22 : Nat) "NativeSubset$Call" "which" "[I") ∈ lw_all := lw_g (lw_at lw_m4 174 rfl) rfl
theorem q944 : (Jvm.Cond.fieldLink "NativeSubset$Call" (39 : Nat) "NativeSubset$Call" "fuel" "I") ∈ lw_all := lw_g (lw_at lw_m4 175 rfl) rfl
theorem q947 : (Jvm.Cond.fieldLink "NativeSubset$Call" (146 : Nat) "NativeSubset$Call" "paid" "I") ∈ lw_all := lw_g (lw_at lw_m4 178 rfl) rfl
theorem q949 : (Jvm.Cond.fieldLink "NativeSubset$Call" (105 : Nat) "NativeSubset$Call" "ended" "I") ∈ lw_all := lw_g (lw_at lw_m4 180 rfl) rfl
theorem q951 : (Jvm.Cond.fieldLink "NativeSubset$Call" (3 : Nat) "NativeSubset$Call" "this$0" "LNativeSubset;") ∈ lw_all := lw_g (lw_at lw_m4 182 rfl) rfl
theorem q952 : (Jvm.Cond.laysFinal "NativeSubset$Call" "NativeSubset$Call" "plan" "I") ∈ lw_all := lw_g (lw_at lw_m4 183 rfl) rfl
theorem q953 : (Jvm.Cond.soleField "NativeSubset$Call" "plan") ∈ lw_all := lw_g (lw_at lw_m4 184 rfl) rfl
theorem q954 : (Jvm.Cond.laysFinal "NativeSubset$Call" "NativeSubset$Call" "size" "I") ∈ lw_all := lw_g (lw_at lw_m4 185 rfl) rfl
theorem q955 : (Jvm.Cond.soleField "NativeSubset$Call" "size") ∈ lw_all := lw_g (lw_at lw_m4 186 rfl) rfl
theorem q956 : (Jvm.Cond.laysFinal "NativeSubset$Call" "NativeSubset$Call" "kept" "Ljava/util/ArrayList;") ∈ lw_all := lw_g (lw_at lw_m4 187 rfl) rfl
theorem q957 : (Jvm.Cond.soleField "NativeSubset$Call" "kept") ∈ lw_all := lw_g (lw_at lw_m4 188 rfl) rfl
theorem q958 : (Jvm.Cond.laysFinal "NativeSubset$Call" "NativeSubset$Call" "which" "[I") ∈ lw_all := lw_g (lw_at lw_m4 189 rfl) rfl
theorem q959 : (Jvm.Cond.soleField "NativeSubset$Call" "which") ∈ lw_all := lw_g (lw_at lw_m4 190 rfl) rfl
theorem q960 : (Jvm.Cond.lays "NativeSubset$Call" "NativeSubset$Call" "fuel" "I") ∈ lw_all := lw_g (lw_at lw_m4 191 rfl) rfl
theorem q961 : (Jvm.Cond.soleField "NativeSubset$Call" "fuel") ∈ lw_all := lw_g (lw_at lw_m4 192 rfl) rfl
theorem q962 : (Jvm.Cond.lays "NativeSubset$Call" "NativeSubset$Call" "paid" "I") ∈ lw_all := lw_g (lw_at lw_m4 193 rfl) rfl
theorem q963 : (Jvm.Cond.soleField "NativeSubset$Call" "paid") ∈ lw_all := lw_g (lw_at lw_m4 194 rfl) rfl
theorem q964 : (Jvm.Cond.lays "NativeSubset$Call" "NativeSubset$Call" "ended" "I") ∈ lw_all := lw_g (lw_at lw_m4 195 rfl) rfl
theorem q965 : (Jvm.Cond.soleField "NativeSubset$Call" "ended") ∈ lw_all := lw_g (lw_at lw_m4 196 rfl) rfl
theorem q966 : (Jvm.Cond.laysFinal "NativeSubset$Call" "NativeSubset$Call" "this$0" "LNativeSubset;") ∈ lw_all := lw_g (lw_at lw_m4 197 rfl) rfl
theorem q967 : (Jvm.Cond.soleField "NativeSubset$Call" "this$0") ∈ lw_all := lw_g (lw_at lw_m4 198 rfl) rfl
theorem q968 : (Jvm.Cond.superclass "NativeSubset$Call" "java/lang/Object") ∈ lw_all := lw_g (lw_at lw_m4 199 rfl) rfl
theorem q970 : (Jvm.Cond.instanceMethod ({ cls := "NativeSubset$Call", name := "go", desc := "()V" } : Jvm.MethodName)) ∈ lw_all := lw_g (lw_at lw_m4 201 rfl) rfl
theorem q971 : (Jvm.Cond.selects "NativeSubset$Call" ({ cls := "NativeSubset$Call", name := "go", desc := "()V" } : Jvm.MethodName) ({ cls := "NativeSubset$Call", name := "go", desc := "()V" } : Jvm.MethodName)) ∈ lw_all := lw_g (lw_at lw_m4 202 rfl) rfl
theorem q972 : (Jvm.Cond.codeWith ({ cls := "NativeSubset$Call", name := "go", desc := "()V" } : Jvm.MethodName) prog_4_method_6_code (6 : Nat) (Option.none : Option Jvm.ClassFile.FieldType) [((39 : Nat), (121 : Nat), (145 : Nat), (0 : Nat)), ((145 : Nat), (147 : Nat), (145 : Nat), (0 : Nat))]) ∈ lw_all := lw_g (lw_at lw_m4 203 rfl) rfl
theorem q973 : (Jvm.Cond.methodLink "NativeSubset$Call" (80 : Nat) ({ cls := "java/lang/Math", name := "max", desc := "(II)I" } : Jvm.MethodName)) ∈ lw_all := lw_g (lw_at lw_m4 204 rfl) rfl
theorem q974 : (Jvm.Cond.methodLink "NativeSubset$Call" (97 : Nat) ({ cls := "NativeSubset$Call", name := "act", desc := "(LNativeSubset$Act;)J" } : Jvm.MethodName)) ∈ lw_all := lw_g (lw_at lw_m4 205 rfl) rfl
theorem q975 : (Jvm.Cond.privateMethod ({ cls := "NativeSubset$Call", name := "act", desc := "(LNativeSubset$Act;)J" } : Jvm.MethodName)) ∈ lw_tbl := lw_at lw_m4 206 rfl
theorem q976 : (Jvm.Cond.instanceMethod ({ cls := "NativeSubset$Call", name := "act", desc := "(LNativeSubset$Act;)J" } : Jvm.MethodName)) ∈ lw_all := lw_g (lw_at lw_m4 207 rfl) rfl
theorem q977 : (Jvm.Cond.code ({ cls := "NativeSubset$Call", name := "act", desc := "(LNativeSubset$Act;)J" } : Jvm.MethodName) prog_4_method_7_code (4 : Nat) (Option.some Jvm.ClassFile.FieldType.long)) ∈ lw_all := lw_g (lw_at lw_m4 208 rfl) rfl
theorem q978 : (Jvm.Cond.methodLinkNest "NativeSubset$Call" (120 : Nat) ({ cls := "NativeSubset", name := "needsRow", desc := "(I)Z" } : Jvm.MethodName) "NativeSubset") ∈ lw_tbl := lw_at lw_m4 209 rfl
theorem q979 : (Jvm.Cond.methodLinkNest "NativeSubset$Call" (126 : Nat) ({ cls := "NativeSubset", name := "isRow", desc := "(I)Z" } : Jvm.MethodName) "NativeSubset") ∈ lw_tbl := lw_at lw_m4 210 rfl
theorem q980 : (Jvm.Cond.methodLink "NativeSubset$Call" (129 : Nat) ({ cls := "NativeSubset$Helper", name := "hasOther", desc := "()Z" } : Jvm.MethodName)) ∈ lw_all := lw_g (lw_at lw_m4 211 rfl) rfl
theorem q981 : (Jvm.Cond.methodLinkNest "NativeSubset$Call" (138 : Nat) ({ cls := "NativeSubset", name := "fail", desc := "(I)LNativeSubset$Failure;" } : Jvm.MethodName) "NativeSubset") ∈ lw_tbl := lw_at lw_m4 212 rfl
theorem q1071 : (Jvm.Cond.methodLinkNest "NativeSubset$Call" (142 : Nat) ({ cls := "NativeSubset", name := "priceOf", desc := "(LNativeSubset$Act;)I" } : Jvm.MethodName) "NativeSubset") ∈ lw_tbl := lw_at lw_m5 62 rfl
theorem q1072 : (Jvm.Cond.methodLink "NativeSubset$Call" (151 : Nat) ({ cls := "NativeSubset$Helper", name := "work", desc := "(LNativeSubset$Act;LNativeSubset$Call;)J" } : Jvm.MethodName)) ∈ lw_all := lw_g (lw_at lw_m5 63 rfl) rfl
theorem q1086 : (Jvm.Cond.instanceMethod ({ cls := "NativeSubset$Call", name := "take", desc := "(LNativeSubset$Call;)V" } : Jvm.MethodName)) ∈ lw_all := lw_g (lw_at lw_m5 77 rfl) rfl
theorem q1087 : (Jvm.Cond.selects "NativeSubset$Call" ({ cls := "NativeSubset$Call", name := "take", desc := "(LNativeSubset$Call;)V" } : Jvm.MethodName) ({ cls := "NativeSubset$Call", name := "take", desc := "(LNativeSubset$Call;)V" } : Jvm.MethodName)) ∈ lw_all := lw_g (lw_at lw_m5 78 rfl) rfl
theorem q1088 : (Jvm.Cond.code ({ cls := "NativeSubset$Call", name := "take", desc := "(LNativeSubset$Call;)V" } : Jvm.MethodName) prog_4_method_4_code (3 : Nat) (Option.none : Option Jvm.ClassFile.FieldType)) ∈ lw_all := lw_g (lw_at lw_m5 79 rfl) rfl
theorem q1089 : (Jvm.Cond.methodLink "NativeSubset$Call" (42 : Nat) ({ cls := "NativeSubset$Call", name := "has", desc := "(I)Z" } : Jvm.MethodName)) ∈ lw_all := lw_g (lw_at lw_m5 80 rfl) rfl
theorem q1090 : (Jvm.Cond.privateMethod ({ cls := "NativeSubset$Call", name := "has", desc := "(I)Z" } : Jvm.MethodName)) ∈ lw_tbl := lw_at lw_m5 81 rfl
theorem q1091 : (Jvm.Cond.instanceMethod ({ cls := "NativeSubset$Call", name := "has", desc := "(I)Z" } : Jvm.MethodName)) ∈ lw_all := lw_g (lw_at lw_m5 82 rfl) rfl
theorem q1092 : (Jvm.Cond.code ({ cls := "NativeSubset$Call", name := "has", desc := "(I)Z" } : Jvm.MethodName) prog_4_method_3_code (4 : Nat) (Option.some Jvm.ClassFile.FieldType.boolean)) ∈ lw_all := lw_g (lw_at lw_m5 83 rfl) rfl
theorem q1093 : (Jvm.Cond.methodLink "NativeSubset$Call" (46 : Nat) ({ cls := "java/util/ArrayList", name := "get", desc := "(I)Ljava/lang/Object;" } : Jvm.MethodName)) ∈ lw_all := lw_g (lw_at lw_m5 84 rfl) rfl
theorem q1094 : (Jvm.Cond.methodLink "NativeSubset$Call" (54 : Nat) ({ cls := "java/util/ArrayList", name := "add", desc := "(Ljava/lang/Object;)Z" } : Jvm.MethodName)) ∈ lw_all := lw_g (lw_at lw_m5 85 rfl) rfl
theorem q1159 : (Jvm.Cond.instanceMethod ({ cls := "NativeSubset$Call", name := "keep", desc := "(I)V" } : Jvm.MethodName)) ∈ lw_all := lw_g (lw_at lw_m5 150 rfl) rfl
theorem q1160 : (Jvm.Cond.selects "NativeSubset$Call" ({ cls := "NativeSubset$Call", name := "keep", desc := "(I)V" } : Jvm.MethodName) ({ cls := "NativeSubset$Call", name := "keep", desc := "(I)V" } : Jvm.MethodName)) ∈ lw_all := lw_g (lw_at lw_m5 151 rfl) rfl
theorem q1161 : (Jvm.Cond.code ({ cls := "NativeSubset$Call", name := "keep", desc := "(I)V" } : Jvm.MethodName) prog_4_method_2_code (2 : Nat) (Option.none : Option Jvm.ClassFile.FieldType)) ∈ lw_all := lw_g (lw_at lw_m5 152 rfl) rfl
theorem q1162 : (Jvm.Cond.methodLinkNest "NativeSubset$Call" (50 : Nat) ({ cls := "NativeSubset", name := "cloneOf", desc := "(Ljava/lang/Object;)Ljava/lang/Object;" } : Jvm.MethodName) "NativeSubset") ∈ lw_tbl := lw_at lw_m5 153 rfl
theorem q1364 : (Jvm.Cond.methodLink "NativeSubset$Call" (108 : Nat) ({ cls := "NativeSubset$Call", name := "undo", desc := "()V" } : Jvm.MethodName)) ∈ lw_all := lw_g (lw_at lw_m6 115 rfl) rfl
theorem q1365 : (Jvm.Cond.privateMethod ({ cls := "NativeSubset$Call", name := "undo", desc := "()V" } : Jvm.MethodName)) ∈ lw_tbl := lw_at lw_m6 116 rfl
theorem q1366 : (Jvm.Cond.instanceMethod ({ cls := "NativeSubset$Call", name := "undo", desc := "()V" } : Jvm.MethodName)) ∈ lw_all := lw_g (lw_at lw_m6 117 rfl) rfl
theorem q1367 : (Jvm.Cond.code ({ cls := "NativeSubset$Call", name := "undo", desc := "()V" } : Jvm.MethodName) prog_4_method_5_code (3 : Nat) (Option.none : Option Jvm.ClassFile.FieldType)) ∈ lw_all := lw_g (lw_at lw_m6 118 rfl) rfl
theorem q1368 : (Jvm.Cond.methodLinkNest "NativeSubset$Call" (61 : Nat) ({ cls := "NativeSubset", name := "sizeOf", desc := "(Ljava/lang/Object;)I" } : Jvm.MethodName) "NativeSubset") ∈ lw_tbl := lw_at lw_m6 119 rfl
theorem q1369 : (Jvm.Cond.methodLink "NativeSubset$Call" (65 : Nat) ({ cls := "java/lang/System", name := "arraycopy", desc := "(Ljava/lang/Object;ILjava/lang/Object;II)V" } : Jvm.MethodName)) ∈ lw_all := lw_g (lw_at lw_m6 120 rfl) rfl
theorem q1370 : (Jvm.Cond.methodLink "NativeSubset$Call" (71 : Nat) ({ cls := "java/util/ArrayList", name := "remove", desc := "(I)Ljava/lang/Object;" } : Jvm.MethodName)) ∈ lw_all := lw_g (lw_at lw_m6 121 rfl) rfl
theorem q1861 : (Jvm.Cond.castable "NativeSubset$Call" "java/lang/Object") ∈ lw_tbl := lw_at lw_m8 132 rfl
theorem in_X25 : ∀ w ∈ wsX250, w ∈ lw_all := lw_in wsX250 [952, 954, 956, 958, 960, 962, 964, 966] (by decide +kernel) (by decide +kernel)
/-! NativeSubset$Failure -/
def RX26 : String := "NativeSubset$Failure"
def TX26 : u_T := fun k => match k with
  | 0 => ("java/lang/Throwable", "cause", "Ljava/lang/Throwable;", false)
  | 1 => ("java/lang/Throwable", "stackTrace", "[Ljava/lang/StackTraceElement;", false)
  | 2 => ("java/lang/Throwable", "suppressedExceptions", "Ljava/util/List;", false)
  | 3 => ("java/lang/Throwable", "detailMessage", "Ljava/lang/String;", false)
  | 4 => ("java/lang/Throwable", "backtrace", "Ljava/lang/Object;", false)
  | 5 => ("java/lang/Throwable", "depth", "I", false)
  | _ => ("NativeSubset$Failure", "fault", "I", true)
def tyX26 : Nat → FieldType := fun k => match k with
  | 0 => .object "java/lang/Throwable"
  | 1 => .array (.object "java/lang/StackTraceElement")
  | 2 => .object "java/util/List"
  | 3 => .object "java/lang/String"
  | 4 => .object "java/lang/Object"
  | 5 => .int
  | _ => .int
abbrev wsX260 : List Cond := u_ws RX26 TX26 7
theorem nmX26 : ∀ a, a < 7 → ∀ b, b < 7 → a ≠ b → (TX26 a).2.1 ≠ (TX26 b).2.1 := by decide +kernel
theorem tyX26_ok : ∀ k, k < 7 → parseFieldDescriptor (TX26 k).2.2.1 = some (tyX26 k) := by decide +kernel
abbrev cX26_init : ByteArray := prog_11_method_1_code
def yX26_init : MethodName := ⟨RX26, "<init>", "(I)V"⟩
def dkwX26_init_0 : List UInt8 := [42, 1, 1, 3, 3, 183, 0, 1, 42, 27, 181, 0, 7, 177]
abbrev dktX26_init_0 : List UInt8 := dkwX26_init_0 ++ []
theorem dksX26_init_0 : cX26_init.data.toList.drop 0 = dktX26_init_0 := by decide +kernel
theorem dX26_init_0 : decode cX26_init 0 = .ok (.aload_n 0, 1) := dk_42 (dk_at dksX26_init_0 0 rfl rfl)
theorem dX26_init_1 : decode cX26_init 1 = .ok (.aconst_null, 1) := dk_1 (dk_at dksX26_init_0 1 rfl rfl)
theorem dX26_init_2 : decode cX26_init 2 = .ok (.aconst_null, 1) := dk_1 (dk_at dksX26_init_0 2 rfl rfl)
theorem dX26_init_3 : decode cX26_init 3 = .ok (.iconst 0, 1) := dk_3 (dk_at dksX26_init_0 3 rfl rfl)
theorem dX26_init_4 : decode cX26_init 4 = .ok (.iconst 0, 1) := dk_3 (dk_at dksX26_init_0 4 rfl rfl)
theorem dX26_init_5 : decode cX26_init 5 = .ok (.invokespecial 1, 3) := dk_183 0 1 (dk_at dksX26_init_0 5 rfl rfl)
theorem dX26_init_8 : decode cX26_init 8 = .ok (.aload_n 0, 1) := dk_42 (dk_at dksX26_init_0 8 rfl rfl)
theorem dX26_init_9 : decode cX26_init 9 = .ok (.iload_n 1, 1) := dk_27 (dk_at dksX26_init_0 9 rfl rfl)
theorem dX26_init_10 : decode cX26_init 10 = .ok (.putfield 7, 3) := dk_181 0 7 (dk_at dksX26_init_0 10 rfl rfl)
theorem dX26_init_13 : decode cX26_init 13 = .ok (.return_, 1) := dk_177 (dk_at dksX26_init_0 13 rfl rfl)
theorem q97 : (Jvm.Cond.initialized "NativeSubset$Failure") ∈ lw_all := lw_g (lw_at lw_m1 48 rfl) rfl
theorem q500 : (Jvm.Cond.selects "NativeSubset$Failure" ({ cls := "java/lang/Object", name := "getClass", desc := "()Ljava/lang/Class;" } : Jvm.MethodName) ({ cls := "java/lang/Object", name := "getClass", desc := "()Ljava/lang/Class;" } : Jvm.MethodName)) ∈ lw_all := lw_g (lw_at lw_m2 211 rfl) rfl
theorem q985 : (Jvm.Cond.instantiable "NativeSubset$Failure" (7 : Nat)) ∈ lw_all := lw_g (lw_at lw_m4 216 rfl) rfl
theorem q986 : (Jvm.Cond.castable "NativeSubset$Failure" "NativeSubset$Failure") ∈ lw_tbl := lw_at lw_m4 217 rfl
theorem q993 : (Jvm.Cond.selects "NativeSubset$Failure" ({ cls := "java/lang/Throwable", name := "fillInStackTrace", desc := "(I)Ljava/lang/Throwable;" } : Jvm.MethodName) ({ cls := "java/lang/Throwable", name := "fillInStackTrace", desc := "(I)Ljava/lang/Throwable;" } : Jvm.MethodName)) ∈ lw_all := lw_g (lw_at lw_m4 224 rfl) rfl
theorem q994 : (Jvm.Cond.selects "NativeSubset$Failure" ({ cls := "java/lang/Throwable", name := "fillInStackTrace", desc := "()Ljava/lang/Throwable;" } : Jvm.MethodName) ({ cls := "java/lang/Throwable", name := "fillInStackTrace", desc := "()Ljava/lang/Throwable;" } : Jvm.MethodName)) ∈ lw_all := lw_g (lw_at lw_m4 225 rfl) rfl
theorem q995 : (Jvm.Cond.lays "NativeSubset$Failure" "java/lang/Throwable" "cause" "Ljava/lang/Throwable;") ∈ lw_all := lw_g (lw_at lw_m4 226 rfl) rfl
theorem q997 : (Jvm.Cond.lays "NativeSubset$Failure" "java/lang/Throwable" "stackTrace" "[Ljava/lang/StackTraceElement;") ∈ lw_all := lw_g (lw_at lw_m4 228 rfl) rfl
theorem q999 : (Jvm.Cond.lays "NativeSubset$Failure" "java/lang/Throwable" "suppressedExceptions" "Ljava/util/List;") ∈ lw_all := lw_g (lw_at lw_m4 230 rfl) rfl
theorem q1001 : (Jvm.Cond.lays "NativeSubset$Failure" "java/lang/Throwable" "detailMessage" "Ljava/lang/String;") ∈ lw_all := lw_g (lw_at lw_m4 232 rfl) rfl
theorem q1003 : (Jvm.Cond.lays "NativeSubset$Failure" "java/lang/Throwable" "backtrace" "Ljava/lang/Object;") ∈ lw_all := lw_g (lw_at lw_m4 234 rfl) rfl
theorem q1042 : (Jvm.Cond.instanceMethod ({ cls := "NativeSubset$Failure", name := "<init>", desc := "(I)V" } : Jvm.MethodName)) ∈ lw_all := lw_g (lw_at lw_m5 33 rfl) rfl
theorem q1043 : (Jvm.Cond.code ({ cls := "NativeSubset$Failure", name := "<init>", desc := "(I)V" } : Jvm.MethodName) prog_11_method_1_code (2 : Nat) (Option.none : Option Jvm.ClassFile.FieldType)) ∈ lw_all := lw_g (lw_at lw_m5 34 rfl) rfl
theorem q1044 : (Jvm.Cond.methodLink "NativeSubset$Failure" (1 : Nat) ({ cls := "java/lang/RuntimeException", name := "<init>", desc := "(Ljava/lang/String;Ljava/lang/Throwable;ZZ)V" } : Jvm.MethodName)) ∈ lw_all := lw_g (lw_at lw_m5 35 rfl) rfl
theorem q1053 : (Jvm.Cond.fieldLink "NativeSubset$Failure" (7 : Nat) "NativeSubset$Failure" "fault" "I") ∈ lw_all := lw_g (lw_at lw_m5 44 rfl) rfl
theorem q1061 : (Jvm.Cond.laysFinal "NativeSubset$Failure" "NativeSubset$Failure" "fault" "I") ∈ lw_all := lw_g (lw_at lw_m5 52 rfl) rfl
theorem q1062 : (Jvm.Cond.soleField "NativeSubset$Failure" "fault") ∈ lw_all := lw_g (lw_at lw_m5 53 rfl) rfl
theorem q1067 : (Jvm.Cond.lays "NativeSubset$Failure" "java/lang/Throwable" "depth" "I") ∈ lw_all := lw_g (lw_at lw_m5 58 rfl) rfl
theorem q1070 : (Jvm.Cond.superclass "NativeSubset$Failure" "java/lang/RuntimeException") ∈ lw_all := lw_g (lw_at lw_m5 61 rfl) rfl
theorem q1862 : (Jvm.Cond.castable "NativeSubset$Failure" "java/lang/Object") ∈ lw_tbl := lw_at lw_m8 133 rfl
theorem in_X26 : ∀ w ∈ wsX260, w ∈ lw_all := lw_in wsX260 [995, 997, 999, 1001, 1003, 1067, 1061] (by decide +kernel) (by decide +kernel)
/-! NativeSubset$Paying -/
def RX27 : String := "NativeSubset$Paying"
abbrev cX27_fee : ByteArray := prog_20_method_2_code
def yX27_fee : MethodName := ⟨RX27, "fee", "()I"⟩
def dkwX27_fee_0 : List UInt8 := [42, 185, 0, 1, 1, 0, 42, 185, 0, 1, 1, 0, 104, 172]
abbrev dktX27_fee_0 : List UInt8 := dkwX27_fee_0 ++ []
theorem dksX27_fee_0 : cX27_fee.data.toList.drop 0 = dktX27_fee_0 := by decide +kernel
theorem dX27_fee_0 : decode cX27_fee 0 = .ok (.aload_n 0, 1) := dk_42 (dk_at dksX27_fee_0 0 rfl rfl)
theorem dX27_fee_1 : decode cX27_fee 1 = .ok (.invokeinterface 1 1, 5) := by decide +kernel
theorem dX27_fee_6 : decode cX27_fee 6 = .ok (.aload_n 0, 1) := dk_42 (dk_at dksX27_fee_0 6 rfl rfl)
theorem dX27_fee_7 : decode cX27_fee 7 = .ok (.invokeinterface 1 1, 5) := by decide +kernel
theorem dX27_fee_12 : decode cX27_fee 12 = .ok (.imul, 1) := dk_104 (dk_at dksX27_fee_0 12 rfl rfl)
theorem dX27_fee_13 : decode cX27_fee 13 = .ok (.ireturn, 1) := dk_172 (dk_at dksX27_fee_0 13 rfl rfl)
theorem q638 : (Jvm.Cond.interfaceMethod "NativeSubset$Paying" "NativeSubset$Paying" "fee" "()I") ∈ lw_tbl := lw_at lw_m3 109 rfl
theorem q639 : (Jvm.Cond.declares ({ cls := "NativeSubset$Paying", name := "fee", desc := "()I" } : Jvm.MethodName)) ∈ lw_tbl := lw_at lw_m3 110 rfl
theorem q642 : (Jvm.Cond.instanceMethod ({ cls := "NativeSubset$Paying", name := "fee", desc := "()I" } : Jvm.MethodName)) ∈ lw_all := lw_g (lw_at lw_m3 113 rfl) rfl
theorem q643 : (Jvm.Cond.publicMethod ({ cls := "NativeSubset$Paying", name := "fee", desc := "()I" } : Jvm.MethodName)) ∈ lw_tbl := lw_at lw_m3 114 rfl
theorem q644 : (Jvm.Cond.code ({ cls := "NativeSubset$Paying", name := "fee", desc := "()I" } : Jvm.MethodName) prog_20_method_2_code (1 : Nat) (Option.some Jvm.ClassFile.FieldType.int)) ∈ lw_all := lw_g (lw_at lw_m3 115 rfl) rfl
theorem q645 : (Jvm.Cond.interfaceEntry "NativeSubset$Paying" (1 : Nat)) ∈ lw_tbl := lw_at lw_m3 116 rfl
theorem q646 : (Jvm.Cond.methodLink "NativeSubset$Paying" (1 : Nat) ({ cls := "NativeSubset$Paying", name := "least", desc := "()I" } : Jvm.MethodName)) ∈ lw_all := lw_g (lw_at lw_m3 117 rfl) rfl
theorem q647 : (Jvm.Cond.interfaceMethod "NativeSubset$Paying" "NativeSubset$Paying" "least" "()I") ∈ lw_tbl := lw_at lw_m3 118 rfl
theorem q648 : (Jvm.Cond.declares ({ cls := "NativeSubset$Paying", name := "least", desc := "()I" } : Jvm.MethodName)) ∈ lw_tbl := lw_at lw_m3 119 rfl
theorem q1829 : (Jvm.Cond.initialized "NativeSubset$Paying") ∈ lw_all := lw_g (lw_at lw_m8 100 rfl) rfl
/-! NativeSubset$Priced -/
def RX28 : String := "NativeSubset$Priced"
abbrev cX28_price : ByteArray := prog_22_method_3_code
def yX28_price : MethodName := ⟨RX28, "price", "(II)I"⟩
def dkwX28_price_1 : List UInt8 := [104, 172]
abbrev dktX28_price_1 : List UInt8 := dkwX28_price_1 ++ []
def dkwX28_price_0 : List UInt8 := [42, 185, 0, 3, 1, 0, 42, 3, 16, 40, 27, 184, 0, 9, 184, 0, 15, 185, 0, 18, 2, 0, 96, 28]
abbrev dktX28_price_0 : List UInt8 := dkwX28_price_0 ++ dktX28_price_1
theorem dksX28_price_0 : cX28_price.data.toList.drop 0 = dktX28_price_0 := by decide +kernel
theorem dksX28_price_1 : cX28_price.data.toList.drop 24 = dktX28_price_1 := dk_seg dksX28_price_0 24 rfl rfl
theorem dX28_price_0 : decode cX28_price 0 = .ok (.aload_n 0, 1) := dk_42 (dk_at dksX28_price_0 0 rfl rfl)
theorem dX28_price_1 : decode cX28_price 1 = .ok (.invokeinterface 3 1, 5) := by decide +kernel
theorem dX28_price_6 : decode cX28_price 6 = .ok (.aload_n 0, 1) := dk_42 (dk_at dksX28_price_0 6 rfl rfl)
theorem dX28_price_7 : decode cX28_price 7 = .ok (.iconst 0, 1) := dk_3 (dk_at dksX28_price_0 7 rfl rfl)
theorem dX28_price_8 : decode cX28_price 8 = .ok (.bipush 40, 2) := dk_16 40 (dk_at dksX28_price_0 8 rfl rfl)
theorem dX28_price_10 : decode cX28_price 10 = .ok (.iload_n 1, 1) := dk_27 (dk_at dksX28_price_0 10 rfl rfl)
theorem dX28_price_11 : decode cX28_price 11 = .ok (.invokestatic 9, 3) := dk_184 0 9 (dk_at dksX28_price_0 11 rfl rfl)
theorem dX28_price_14 : decode cX28_price 14 = .ok (.invokestatic 15, 3) := dk_184 0 15 (dk_at dksX28_price_0 14 rfl rfl)
theorem dX28_price_17 : decode cX28_price 17 = .ok (.invokeinterface 18 2, 5) := by decide +kernel
theorem dX28_price_22 : decode cX28_price 22 = .ok (.iadd, 1) := dk_96 (dk_at dksX28_price_0 22 rfl rfl)
theorem dX28_price_23 : decode cX28_price 23 = .ok (.iload_n 2, 1) := dk_28 (dk_at dksX28_price_0 23 rfl rfl)
theorem dX28_price_24 : decode cX28_price 24 = .ok (.imul, 1) := dk_104 (dk_at dksX28_price_1 0 rfl rfl)
theorem dX28_price_25 : decode cX28_price 25 = .ok (.ireturn, 1) := dk_172 (dk_at dksX28_price_1 1 rfl rfl)
theorem q819 : (Jvm.Cond.interfaceMethod "NativeSubset$Priced" "NativeSubset$Priced" "price" "(II)I") ∈ lw_tbl := lw_at lw_m4 50 rfl
theorem q820 : (Jvm.Cond.declares ({ cls := "NativeSubset$Priced", name := "price", desc := "(II)I" } : Jvm.MethodName)) ∈ lw_tbl := lw_at lw_m4 51 rfl
theorem q823 : (Jvm.Cond.instanceMethod ({ cls := "NativeSubset$Priced", name := "price", desc := "(II)I" } : Jvm.MethodName)) ∈ lw_all := lw_g (lw_at lw_m4 54 rfl) rfl
theorem q824 : (Jvm.Cond.publicMethod ({ cls := "NativeSubset$Priced", name := "price", desc := "(II)I" } : Jvm.MethodName)) ∈ lw_tbl := lw_at lw_m4 55 rfl
theorem q825 : (Jvm.Cond.code ({ cls := "NativeSubset$Priced", name := "price", desc := "(II)I" } : Jvm.MethodName) prog_22_method_3_code (3 : Nat) (Option.some Jvm.ClassFile.FieldType.int)) ∈ lw_all := lw_g (lw_at lw_m4 56 rfl) rfl
theorem q826 : (Jvm.Cond.interfaceEntry "NativeSubset$Priced" (3 : Nat)) ∈ lw_tbl := lw_at lw_m4 57 rfl
theorem q827 : (Jvm.Cond.methodLink "NativeSubset$Priced" (3 : Nat) ({ cls := "NativeSubset$Priced", name := "base", desc := "()I" } : Jvm.MethodName)) ∈ lw_all := lw_g (lw_at lw_m4 58 rfl) rfl
theorem q828 : (Jvm.Cond.interfaceMethod "NativeSubset$Priced" "NativeSubset$Priced" "base" "()I") ∈ lw_tbl := lw_at lw_m4 59 rfl
theorem q829 : (Jvm.Cond.declares ({ cls := "NativeSubset$Priced", name := "base", desc := "()I" } : Jvm.MethodName)) ∈ lw_tbl := lw_at lw_m4 60 rfl
theorem q871 : (Jvm.Cond.methodLink "NativeSubset$Priced" (9 : Nat) ({ cls := "java/lang/Math", name := "min", desc := "(II)I" } : Jvm.MethodName)) ∈ lw_all := lw_g (lw_at lw_m4 102 rfl) rfl
theorem q872 : (Jvm.Cond.methodLink "NativeSubset$Priced" (15 : Nat) ({ cls := "java/lang/Math", name := "max", desc := "(II)I" } : Jvm.MethodName)) ∈ lw_all := lw_g (lw_at lw_m4 103 rfl) rfl
theorem q873 : (Jvm.Cond.interfaceEntry "NativeSubset$Priced" (18 : Nat)) ∈ lw_tbl := lw_at lw_m4 104 rfl
theorem q874 : (Jvm.Cond.methodLink "NativeSubset$Priced" (18 : Nat) ({ cls := "NativeSubset$Priced", name := "length", desc := "(I)I" } : Jvm.MethodName)) ∈ lw_all := lw_g (lw_at lw_m4 105 rfl) rfl
theorem q875 : (Jvm.Cond.interfaceMethod "NativeSubset$Priced" "NativeSubset$Priced" "length" "(I)I") ∈ lw_tbl := lw_at lw_m4 106 rfl
theorem q876 : (Jvm.Cond.declares ({ cls := "NativeSubset$Priced", name := "length", desc := "(I)I" } : Jvm.MethodName)) ∈ lw_tbl := lw_at lw_m4 107 rfl
theorem q1830 : (Jvm.Cond.initialized "NativeSubset$Priced") ∈ lw_all := lw_g (lw_at lw_m8 101 rfl) rfl
