set_option maxRecDepth 100000
/-! NativeSubsetLaw -/
def RX0 : String := "NativeSubsetLaw"
abbrev cX0_put : ByteArray := method_3_code
def yX0_put : MethodName := ⟨RX0, "put", "(LNativeSubset;IIJ[J)I"⟩
def dkwX0_put_1 : List UInt8 := [58, 6, 6, 172, 58, 6, 7, 172, 3, 172]
abbrev dktX0_put_1 : List UInt8 := dkwX0_put_1 ++ []
def dkwX0_put_0 : List UInt8 := [25, 5, 3, 42, 27, 28, 33, 182, 0, 7, 133, 80, 167, 0, 19, 58, 6, 4, 172, 58, 6, 5, 172]
abbrev dktX0_put_0 : List UInt8 := dkwX0_put_0 ++ dktX0_put_1
theorem dksX0_put_0 : cX0_put.data.toList.drop 0 = dktX0_put_0 := by decide +kernel
theorem dksX0_put_1 : cX0_put.data.toList.drop 23 = dktX0_put_1 := dk_seg dksX0_put_0 23 rfl rfl
theorem dX0_put_0 : decode cX0_put 0 = .ok (.aload 5, 2) := dk_25 5 (dk_at dksX0_put_0 0 rfl rfl)
theorem dX0_put_2 : decode cX0_put 2 = .ok (.iconst 0, 1) := dk_3 (dk_at dksX0_put_0 2 rfl rfl)
theorem dX0_put_3 : decode cX0_put 3 = .ok (.aload_n 0, 1) := dk_42 (dk_at dksX0_put_0 3 rfl rfl)
theorem dX0_put_4 : decode cX0_put 4 = .ok (.iload_n 1, 1) := dk_27 (dk_at dksX0_put_0 4 rfl rfl)
theorem dX0_put_5 : decode cX0_put 5 = .ok (.iload_n 2, 1) := dk_28 (dk_at dksX0_put_0 5 rfl rfl)
theorem dX0_put_6 : decode cX0_put 6 = .ok (.lload_n 3, 1) := dk_33 (dk_at dksX0_put_0 6 rfl rfl)
theorem dX0_put_7 : decode cX0_put 7 = .ok (.invokevirtual 7, 3) := dk_182 0 7 (dk_at dksX0_put_0 7 rfl rfl)
theorem dX0_put_10 : decode cX0_put 10 = .ok (.i2l, 1) := dk_133 (dk_at dksX0_put_0 10 rfl rfl)
theorem dX0_put_11 : decode cX0_put 11 = .ok (.lastore, 1) := dk_80 (dk_at dksX0_put_0 11 rfl rfl)
theorem dX0_put_12 : decode cX0_put 12 = .ok (.goto 19, 3) := dk_167 0 19 (dk_at dksX0_put_0 12 rfl rfl)
theorem dX0_put_15 : decode cX0_put 15 = .ok (.astore 6, 2) := dk_58 6 (dk_at dksX0_put_0 15 rfl rfl)
theorem dX0_put_17 : decode cX0_put 17 = .ok (.iconst 1, 1) := dk_4 (dk_at dksX0_put_0 17 rfl rfl)
theorem dX0_put_18 : decode cX0_put 18 = .ok (.ireturn, 1) := dk_172 (dk_at dksX0_put_0 18 rfl rfl)
theorem dX0_put_19 : decode cX0_put 19 = .ok (.astore 6, 2) := dk_58 6 (dk_at dksX0_put_0 19 rfl rfl)
theorem dX0_put_21 : decode cX0_put 21 = .ok (.iconst 2, 1) := dk_5 (dk_at dksX0_put_0 21 rfl rfl)
theorem dX0_put_22 : decode cX0_put 22 = .ok (.ireturn, 1) := dk_172 (dk_at dksX0_put_0 22 rfl rfl)
theorem dX0_put_23 : decode cX0_put 23 = .ok (.astore 6, 2) := dk_58 6 (dk_at dksX0_put_1 0 rfl rfl)
theorem dX0_put_25 : decode cX0_put 25 = .ok (.iconst 3, 1) := dk_6 (dk_at dksX0_put_1 2 rfl rfl)
theorem dX0_put_26 : decode cX0_put 26 = .ok (.ireturn, 1) := dk_172 (dk_at dksX0_put_1 3 rfl rfl)
theorem dX0_put_27 : decode cX0_put 27 = .ok (.astore 6, 2) := dk_58 6 (dk_at dksX0_put_1 4 rfl rfl)
theorem dX0_put_29 : decode cX0_put 29 = .ok (.iconst 4, 1) := dk_7 (dk_at dksX0_put_1 6 rfl rfl)
theorem dX0_put_30 : decode cX0_put 30 = .ok (.ireturn, 1) := dk_172 (dk_at dksX0_put_1 7 rfl rfl)
theorem dX0_put_31 : decode cX0_put 31 = .ok (.iconst 0, 1) := dk_3 (dk_at dksX0_put_1 8 rfl rfl)
theorem dX0_put_32 : decode cX0_put 32 = .ok (.ireturn, 1) := dk_172 (dk_at dksX0_put_1 9 rfl rfl)
abbrev cX0_at : ByteArray := method_4_code
def yX0_at : MethodName := ⟨RX0, "at", "(LNativeSubset;II[J)I"⟩
def dkwX0_at_0 : List UInt8 := [45, 3, 42, 27, 28, 182, 0, 21, 80, 167, 0, 11, 58, 4, 4, 172, 58, 4, 5, 172, 3, 172]
abbrev dktX0_at_0 : List UInt8 := dkwX0_at_0 ++ []
theorem dksX0_at_0 : cX0_at.data.toList.drop 0 = dktX0_at_0 := by decide +kernel
theorem dX0_at_0 : decode cX0_at 0 = .ok (.aload_n 3, 1) := dk_45 (dk_at dksX0_at_0 0 rfl rfl)
theorem dX0_at_1 : decode cX0_at 1 = .ok (.iconst 0, 1) := dk_3 (dk_at dksX0_at_0 1 rfl rfl)
theorem dX0_at_2 : decode cX0_at 2 = .ok (.aload_n 0, 1) := dk_42 (dk_at dksX0_at_0 2 rfl rfl)
theorem dX0_at_3 : decode cX0_at 3 = .ok (.iload_n 1, 1) := dk_27 (dk_at dksX0_at_0 3 rfl rfl)
theorem dX0_at_4 : decode cX0_at 4 = .ok (.iload_n 2, 1) := dk_28 (dk_at dksX0_at_0 4 rfl rfl)
theorem dX0_at_5 : decode cX0_at 5 = .ok (.invokevirtual 21, 3) := dk_182 0 21 (dk_at dksX0_at_0 5 rfl rfl)
theorem dX0_at_8 : decode cX0_at 8 = .ok (.lastore, 1) := dk_80 (dk_at dksX0_at_0 8 rfl rfl)
theorem dX0_at_9 : decode cX0_at 9 = .ok (.goto 11, 3) := dk_167 0 11 (dk_at dksX0_at_0 9 rfl rfl)
theorem dX0_at_12 : decode cX0_at 12 = .ok (.astore 4, 2) := dk_58 4 (dk_at dksX0_at_0 12 rfl rfl)
theorem dX0_at_14 : decode cX0_at 14 = .ok (.iconst 1, 1) := dk_4 (dk_at dksX0_at_0 14 rfl rfl)
theorem dX0_at_15 : decode cX0_at 15 = .ok (.ireturn, 1) := dk_172 (dk_at dksX0_at_0 15 rfl rfl)
theorem dX0_at_16 : decode cX0_at 16 = .ok (.astore 4, 2) := dk_58 4 (dk_at dksX0_at_0 16 rfl rfl)
theorem dX0_at_18 : decode cX0_at 18 = .ok (.iconst 2, 1) := dk_5 (dk_at dksX0_at_0 18 rfl rfl)
theorem dX0_at_19 : decode cX0_at 19 = .ok (.ireturn, 1) := dk_172 (dk_at dksX0_at_0 19 rfl rfl)
theorem dX0_at_20 : decode cX0_at 20 = .ok (.iconst 0, 1) := dk_3 (dk_at dksX0_at_0 20 rfl rfl)
theorem dX0_at_21 : decode cX0_at 21 = .ok (.ireturn, 1) := dk_172 (dk_at dksX0_at_0 21 rfl rfl)
abbrev cX0_inner : ByteArray := method_5_code
def yX0_inner : MethodName := ⟨RX0, "inner", "(LNativeSubset;IIII[J)I"⟩
def dkwX0_inner_1 : List UInt8 := [172, 58, 6, 6, 172, 3, 172]
abbrev dktX0_inner_1 : List UInt8 := dkwX0_inner_1 ++ []
def dkwX0_inner_0 : List UInt8 := [25, 5, 3, 42, 27, 28, 29, 21, 4, 182, 0, 25, 133, 80, 167, 0, 15, 58, 6, 4, 172, 58, 6, 5]
abbrev dktX0_inner_0 : List UInt8 := dkwX0_inner_0 ++ dktX0_inner_1
theorem dksX0_inner_0 : cX0_inner.data.toList.drop 0 = dktX0_inner_0 := by decide +kernel
theorem dksX0_inner_1 : cX0_inner.data.toList.drop 24 = dktX0_inner_1 := dk_seg dksX0_inner_0 24 rfl rfl
theorem dX0_inner_0 : decode cX0_inner 0 = .ok (.aload 5, 2) := dk_25 5 (dk_at dksX0_inner_0 0 rfl rfl)
theorem dX0_inner_2 : decode cX0_inner 2 = .ok (.iconst 0, 1) := dk_3 (dk_at dksX0_inner_0 2 rfl rfl)
theorem dX0_inner_3 : decode cX0_inner 3 = .ok (.aload_n 0, 1) := dk_42 (dk_at dksX0_inner_0 3 rfl rfl)
theorem dX0_inner_4 : decode cX0_inner 4 = .ok (.iload_n 1, 1) := dk_27 (dk_at dksX0_inner_0 4 rfl rfl)
theorem dX0_inner_5 : decode cX0_inner 5 = .ok (.iload_n 2, 1) := dk_28 (dk_at dksX0_inner_0 5 rfl rfl)
theorem dX0_inner_6 : decode cX0_inner 6 = .ok (.iload_n 3, 1) := dk_29 (dk_at dksX0_inner_0 6 rfl rfl)
theorem dX0_inner_7 : decode cX0_inner 7 = .ok (.iload 4, 2) := dk_21 4 (dk_at dksX0_inner_0 7 rfl rfl)
theorem dX0_inner_9 : decode cX0_inner 9 = .ok (.invokevirtual 25, 3) := dk_182 0 25 (dk_at dksX0_inner_0 9 rfl rfl)
theorem dX0_inner_12 : decode cX0_inner 12 = .ok (.i2l, 1) := dk_133 (dk_at dksX0_inner_0 12 rfl rfl)
theorem dX0_inner_13 : decode cX0_inner 13 = .ok (.lastore, 1) := dk_80 (dk_at dksX0_inner_0 13 rfl rfl)
theorem dX0_inner_14 : decode cX0_inner 14 = .ok (.goto 15, 3) := dk_167 0 15 (dk_at dksX0_inner_0 14 rfl rfl)
theorem dX0_inner_17 : decode cX0_inner 17 = .ok (.astore 6, 2) := dk_58 6 (dk_at dksX0_inner_0 17 rfl rfl)
theorem dX0_inner_19 : decode cX0_inner 19 = .ok (.iconst 1, 1) := dk_4 (dk_at dksX0_inner_0 19 rfl rfl)
theorem dX0_inner_20 : decode cX0_inner 20 = .ok (.ireturn, 1) := dk_172 (dk_at dksX0_inner_0 20 rfl rfl)
theorem dX0_inner_21 : decode cX0_inner 21 = .ok (.astore 6, 2) := dk_58 6 (dk_at dksX0_inner_0 21 rfl rfl)
theorem dX0_inner_23 : decode cX0_inner 23 = .ok (.iconst 2, 1) := dk_5 (dk_at dksX0_inner_0 23 rfl rfl)
theorem dX0_inner_24 : decode cX0_inner 24 = .ok (.ireturn, 1) := dk_172 (dk_at dksX0_inner_1 0 rfl rfl)
theorem dX0_inner_25 : decode cX0_inner 25 = .ok (.astore 6, 2) := dk_58 6 (dk_at dksX0_inner_1 1 rfl rfl)
theorem dX0_inner_27 : decode cX0_inner 27 = .ok (.iconst 3, 1) := dk_6 (dk_at dksX0_inner_1 3 rfl rfl)
theorem dX0_inner_28 : decode cX0_inner 28 = .ok (.ireturn, 1) := dk_172 (dk_at dksX0_inner_1 4 rfl rfl)
theorem dX0_inner_29 : decode cX0_inner 29 = .ok (.iconst 0, 1) := dk_3 (dk_at dksX0_inner_1 5 rfl rfl)
theorem dX0_inner_30 : decode cX0_inner 30 = .ok (.ireturn, 1) := dk_172 (dk_at dksX0_inner_1 6 rfl rfl)
theorem q49 : (Jvm.Cond.initialized "NativeSubsetLaw") ∈ lw_all := lw_g (lw_at lw_m1 0 rfl) rfl
theorem q98 : (Jvm.Cond.classLink "NativeSubsetLaw" (8 : Nat) "NativeSubset") ∈ lw_all := lw_g (lw_at lw_m1 49 rfl) rfl
theorem q100 : (Jvm.Cond.methodLink "NativeSubsetLaw" (31 : Nat) ({ cls := "NativeSubset", name := "<init>", desc := "()V" } : Jvm.MethodName)) ∈ lw_all := lw_g (lw_at lw_m1 51 rfl) rfl
theorem q443 : (Jvm.Cond.methodLink "NativeSubsetLaw" (35 : Nat) ({ cls := "NativeSubset", name := "row", desc := "(II)I" } : Jvm.MethodName)) ∈ lw_all := lw_g (lw_at lw_m2 154 rfl) rfl
theorem q542 : (Jvm.Cond.methodLink "NativeSubsetLaw" (40 : Nat) ({ cls := "NativeSubset", name := "unit", desc := "(II)I" } : Jvm.MethodName)) ∈ lw_all := lw_g (lw_at lw_m3 13 rfl) rfl
theorem q576 : (Jvm.Cond.methodLink "NativeSubsetLaw" (64 : Nat) ({ cls := "NativeSubset", name := "about", desc := "(I)I" } : Jvm.MethodName)) ∈ lw_all := lw_g (lw_at lw_m3 47 rfl) rfl
theorem q580 : (Jvm.Cond.methodLink "NativeSubsetLaw" (69 : Nat) ({ cls := "NativeSubset", name := "of", desc := "(II)I" } : Jvm.MethodName)) ∈ lw_all := lw_g (lw_at lw_m3 51 rfl) rfl
theorem q618 : (Jvm.Cond.methodLink "NativeSubsetLaw" (73 : Nat) ({ cls := "NativeSubset", name := "worth", desc := "(II)J" } : Jvm.MethodName)) ∈ lw_all := lw_g (lw_at lw_m3 89 rfl) rfl
theorem q679 : (Jvm.Cond.methodLink "NativeSubsetLaw" (77 : Nat) ({ cls := "NativeSubset", name := "plan", desc := "(IIIIIII)I" } : Jvm.MethodName)) ∈ lw_all := lw_g (lw_at lw_m3 150 rfl) rfl
theorem q743 : (Jvm.Cond.methodLink "NativeSubsetLaw" (82 : Nat) ({ cls := "NativeSubset", name := "drop", desc := "(I)I" } : Jvm.MethodName)) ∈ lw_all := lw_g (lw_at lw_m3 214 rfl) rfl
theorem q747 : (Jvm.Cond.methodLink "NativeSubsetLaw" (86 : Nat) ({ cls := "NativeSubset", name := "price", desc := "(IIII)J" } : Jvm.MethodName)) ∈ lw_all := lw_g (lw_at lw_m3 218 rfl) rfl
theorem q926 : (Jvm.Cond.methodLink "NativeSubsetLaw" (91 : Nat) ({ cls := "NativeSubset", name := "run", desc := "(II)I" } : Jvm.MethodName)) ∈ lw_all := lw_g (lw_at lw_m4 157 rfl) rfl
theorem q1379 : (Jvm.Cond.methodLink "NativeSubsetLaw" (95 : Nat) ({ cls := "NativeSubset", name := "told", desc := "(I)I" } : Jvm.MethodName)) ∈ lw_all := lw_g (lw_at lw_m6 130 rfl) rfl
theorem q1383 : (Jvm.Cond.methodLink "NativeSubsetLaw" (99 : Nat) ({ cls := "NativeSubset", name := "answer", desc := "(I)J" } : Jvm.MethodName)) ∈ lw_all := lw_g (lw_at lw_m6 134 rfl) rfl
theorem q1387 : (Jvm.Cond.methodLink "NativeSubsetLaw" (46 : Nat) ({ cls := "NativeSubsetLaw", name := "put", desc := "(LNativeSubset;IIJ[J)I" } : Jvm.MethodName)) ∈ lw_all := lw_g (lw_at lw_m6 138 rfl) rfl
theorem q1388 : (Jvm.Cond.static ({ cls := "NativeSubsetLaw", name := "put", desc := "(LNativeSubset;IIJ[J)I" } : Jvm.MethodName)) ∈ lw_all := lw_g (lw_at lw_m6 139 rfl) rfl
theorem q1389 : (Jvm.Cond.codeWith ({ cls := "NativeSubsetLaw", name := "put", desc := "(LNativeSubset;IIJ[J)I" } : Jvm.MethodName) method_3_code (7 : Nat) (Option.some Jvm.ClassFile.FieldType.int) [((0 : Nat), (12 : Nat), (15 : Nat), (13 : Nat)), ((0 : Nat), (12 : Nat), (19 : Nat), (15 : Nat)), ((0 : Nat), (12 : Nat), (23 : Nat), (17 : Nat)), ((0 : Nat), (12 : Nat), (27 : Nat), (19 : Nat))]) ∈ lw_all := lw_g (lw_at lw_m6 140 rfl) rfl
theorem q1390 : (Jvm.Cond.classLink "NativeSubsetLaw" (13 : Nat) "java/lang/NullPointerException") ∈ lw_all := lw_g (lw_at lw_m6 141 rfl) rfl
theorem q1415 : (Jvm.Cond.classLink "NativeSubsetLaw" (15 : Nat) "java/lang/IllegalArgumentException") ∈ lw_all := lw_g (lw_at lw_m6 166 rfl) rfl
theorem q1416 : (Jvm.Cond.classLink "NativeSubsetLaw" (17 : Nat) "java/lang/ArrayIndexOutOfBoundsException") ∈ lw_all := lw_g (lw_at lw_m6 167 rfl) rfl
theorem q1417 : (Jvm.Cond.classLink "NativeSubsetLaw" (19 : Nat) "java/lang/ArrayStoreException") ∈ lw_all := lw_g (lw_at lw_m6 168 rfl) rfl
theorem q1418 : (Jvm.Cond.methodLink "NativeSubsetLaw" (7 : Nat) ({ cls := "NativeSubset", name := "put", desc := "(IIJ)I" } : Jvm.MethodName)) ∈ lw_all := lw_g (lw_at lw_m6 169 rfl) rfl
theorem q1444 : (Jvm.Cond.methodLink "NativeSubsetLaw" (56 : Nat) ({ cls := "NativeSubsetLaw", name := "at", desc := "(LNativeSubset;II[J)I" } : Jvm.MethodName)) ∈ lw_all := lw_g (lw_at lw_m6 195 rfl) rfl
theorem q1445 : (Jvm.Cond.static ({ cls := "NativeSubsetLaw", name := "at", desc := "(LNativeSubset;II[J)I" } : Jvm.MethodName)) ∈ lw_all := lw_g (lw_at lw_m6 196 rfl) rfl
theorem q1446 : (Jvm.Cond.codeWith ({ cls := "NativeSubsetLaw", name := "at", desc := "(LNativeSubset;II[J)I" } : Jvm.MethodName) method_4_code (5 : Nat) (Option.some Jvm.ClassFile.FieldType.int) [((0 : Nat), (9 : Nat), (12 : Nat), (13 : Nat)), ((0 : Nat), (9 : Nat), (16 : Nat), (17 : Nat))]) ∈ lw_all := lw_g (lw_at lw_m6 197 rfl) rfl
theorem q1447 : (Jvm.Cond.methodLink "NativeSubsetLaw" (21 : Nat) ({ cls := "NativeSubset", name := "at", desc := "(II)J" } : Jvm.MethodName)) ∈ lw_all := lw_g (lw_at lw_m6 198 rfl) rfl
theorem q1451 : (Jvm.Cond.methodLink "NativeSubsetLaw" (60 : Nat) ({ cls := "NativeSubsetLaw", name := "inner", desc := "(LNativeSubset;IIII[J)I" } : Jvm.MethodName)) ∈ lw_all := lw_g (lw_at lw_m6 202 rfl) rfl
theorem q1452 : (Jvm.Cond.static ({ cls := "NativeSubsetLaw", name := "inner", desc := "(LNativeSubset;IIII[J)I" } : Jvm.MethodName)) ∈ lw_all := lw_g (lw_at lw_m6 203 rfl) rfl
theorem q1453 : (Jvm.Cond.codeWith ({ cls := "NativeSubsetLaw", name := "inner", desc := "(LNativeSubset;IIII[J)I" } : Jvm.MethodName) method_5_code (7 : Nat) (Option.some Jvm.ClassFile.FieldType.int) [((0 : Nat), (14 : Nat), (17 : Nat), (13 : Nat)), ((0 : Nat), (14 : Nat), (21 : Nat), (29 : Nat)), ((0 : Nat), (14 : Nat), (25 : Nat), (17 : Nat))]) ∈ lw_all := lw_g (lw_at lw_m6 204 rfl) rfl
theorem q1454 : (Jvm.Cond.classLink "NativeSubsetLaw" (29 : Nat) "java/lang/ClassCastException") ∈ lw_all := lw_g (lw_at lw_m6 205 rfl) rfl
theorem q1468 : (Jvm.Cond.methodLink "NativeSubsetLaw" (25 : Nat) ({ cls := "NativeSubset", name := "inner", desc := "(IIII)I" } : Jvm.MethodName)) ∈ lw_all := lw_g (lw_at lw_m6 219 rfl) rfl
theorem q1472 : (Jvm.Cond.classLink "NativeSubsetLaw" (32 : Nat) "NativeSubsetModel") ∈ lw_all := lw_g (lw_at lw_m6 223 rfl) rfl
theorem q1474 : (Jvm.Cond.methodLink "NativeSubsetLaw" (34 : Nat) ({ cls := "NativeSubsetModel", name := "<init>", desc := "()V" } : Jvm.MethodName)) ∈ lw_all := lw_g (lw_at lw_m6 225 rfl) rfl
theorem q1579 : (Jvm.Cond.methodLink "NativeSubsetLaw" (52 : Nat) ({ cls := "NativeSubsetModel", name := "thrown", desc := "()I" } : Jvm.MethodName)) ∈ lw_all := lw_g (lw_at lw_m7 90 rfl) rfl
theorem q1583 : (Jvm.Cond.methodLink "NativeSubsetLaw" (39 : Nat) ({ cls := "NativeSubsetModel", name := "row", desc := "(II)I" } : Jvm.MethodName)) ∈ lw_all := lw_g (lw_at lw_m7 94 rfl) rfl
theorem q1597 : (Jvm.Cond.methodLink "NativeSubsetLaw" (43 : Nat) ({ cls := "NativeSubsetModel", name := "unit", desc := "(II)I" } : Jvm.MethodName)) ∈ lw_all := lw_g (lw_at lw_m7 108 rfl) rfl
theorem q1602 : (Jvm.Cond.methodLink "NativeSubsetLaw" (51 : Nat) ({ cls := "NativeSubsetModel", name := "put", desc := "(IIJ)I" } : Jvm.MethodName)) ∈ lw_all := lw_g (lw_at lw_m7 113 rfl) rfl
theorem q1653 : (Jvm.Cond.methodLink "NativeSubsetLaw" (59 : Nat) ({ cls := "NativeSubsetModel", name := "at", desc := "(II)J" } : Jvm.MethodName)) ∈ lw_all := lw_g (lw_at lw_m7 164 rfl) rfl
theorem q1657 : (Jvm.Cond.methodLink "NativeSubsetLaw" (63 : Nat) ({ cls := "NativeSubsetModel", name := "inner", desc := "(IIII)I" } : Jvm.MethodName)) ∈ lw_all := lw_g (lw_at lw_m7 168 rfl) rfl
theorem q1661 : (Jvm.Cond.methodLink "NativeSubsetLaw" (68 : Nat) ({ cls := "NativeSubsetModel", name := "about", desc := "(I)I" } : Jvm.MethodName)) ∈ lw_all := lw_g (lw_at lw_m7 172 rfl) rfl
theorem q1665 : (Jvm.Cond.methodLink "NativeSubsetLaw" (72 : Nat) ({ cls := "NativeSubsetModel", name := "of", desc := "(II)I" } : Jvm.MethodName)) ∈ lw_all := lw_g (lw_at lw_m7 176 rfl) rfl
theorem q1669 : (Jvm.Cond.methodLink "NativeSubsetLaw" (76 : Nat) ({ cls := "NativeSubsetModel", name := "worth", desc := "(II)J" } : Jvm.MethodName)) ∈ lw_all := lw_g (lw_at lw_m7 180 rfl) rfl
theorem q1682 : (Jvm.Cond.methodLink "NativeSubsetLaw" (81 : Nat) ({ cls := "NativeSubsetModel", name := "plan", desc := "(IIIIIII)I" } : Jvm.MethodName)) ∈ lw_all := lw_g (lw_at lw_m7 193 rfl) rfl
theorem q1688 : (Jvm.Cond.methodLink "NativeSubsetLaw" (85 : Nat) ({ cls := "NativeSubsetModel", name := "drop", desc := "(I)I" } : Jvm.MethodName)) ∈ lw_all := lw_g (lw_at lw_m7 199 rfl) rfl
theorem q1692 : (Jvm.Cond.methodLink "NativeSubsetLaw" (90 : Nat) ({ cls := "NativeSubsetModel", name := "price", desc := "(IIII)J" } : Jvm.MethodName)) ∈ lw_all := lw_g (lw_at lw_m7 203 rfl) rfl
theorem q1710 : (Jvm.Cond.methodLink "NativeSubsetLaw" (94 : Nat) ({ cls := "NativeSubsetModel", name := "run", desc := "(II)I" } : Jvm.MethodName)) ∈ lw_all := lw_g (lw_at lw_m7 221 rfl) rfl
theorem q1813 : (Jvm.Cond.methodLink "NativeSubsetLaw" (98 : Nat) ({ cls := "NativeSubsetModel", name := "told", desc := "(I)I" } : Jvm.MethodName)) ∈ lw_all := lw_g (lw_at lw_m8 84 rfl) rfl
theorem q1817 : (Jvm.Cond.methodLink "NativeSubsetLaw" (103 : Nat) ({ cls := "NativeSubsetModel", name := "answer", desc := "(I)J" } : Jvm.MethodName)) ∈ lw_all := lw_g (lw_at lw_m8 88 rfl) rfl
theorem q1822 : (Jvm.Cond.constantLong "NativeSubsetLaw" (44 : Nat) (4294967295 : Int64)) ∈ lw_all := lw_g (lw_at lw_m8 93 rfl) rfl
/-! the law's own entry -/
abbrev cL_law : ByteArray := code
def dkwL_law_33 : List UInt8 := [153, 0, 5, 3, 172, 132, 4, 8, 167, 252, 211, 4, 172]
abbrev dktL_law_33 : List UInt8 := dkwL_law_33 ++ []
def dkwL_law_32 : List UInt8 := [172, 43, 42, 21, 4, 4, 96, 46, 182, 0, 99, 44, 42, 21, 4, 4, 96, 46, 182, 0, 103, 148]
abbrev dktL_law_32 : List UInt8 := dkwL_law_32 ++ dktL_law_33
def dkwL_law_31 : List UInt8 := [43, 42, 21, 4, 4, 96, 46, 182, 0, 95, 44, 42, 21, 4, 4, 96, 46, 182, 0, 98, 159, 0, 31, 3]
abbrev dktL_law_31 : List UInt8 := dkwL_law_31 ++ dktL_law_32
def dkwL_law_30 : List UInt8 := [182, 0, 91, 44, 42, 21, 4, 4, 96, 46, 42, 21, 4, 5, 96, 46, 182, 0, 94, 159, 0, 56, 3, 172]
abbrev dktL_law_30 : List UInt8 := dkwL_law_30 ++ dktL_law_31
def dkwL_law_29 : List UInt8 := [46, 182, 0, 90, 148, 153, 0, 93, 3, 172, 43, 42, 21, 4, 4, 96, 46, 42, 21, 4, 5, 96, 46]
abbrev dktL_law_29 : List UInt8 := dkwL_law_29 ++ dktL_law_30
def dkwL_law_28 : List UInt8 := [44, 42, 21, 4, 4, 96, 46, 42, 21, 4, 5, 96, 46, 42, 21, 4, 6, 96, 46, 42, 21, 4, 7, 96]
abbrev dktL_law_28 : List UInt8 := dkwL_law_28 ++ dktL_law_29
def dkwL_law_27 : List UInt8 := [4, 96, 46, 42, 21, 4, 5, 96, 46, 42, 21, 4, 6, 96, 46, 42, 21, 4, 7, 96, 46, 182, 0, 86]
abbrev dktL_law_27 : List UInt8 := dkwL_law_27 ++ dktL_law_28
def dkwL_law_26 : List UInt8 := [96, 46, 182, 0, 82, 44, 42, 21, 4, 4, 96, 46, 182, 0, 85, 159, 0, 155, 3, 172, 43, 42, 21, 4]
abbrev dktL_law_26 : List UInt8 := dkwL_law_26 ++ dktL_law_27
def dkwL_law_25 : List UInt8 := [16, 6, 96, 46, 42, 21, 4, 16, 7, 96, 46, 182, 0, 81, 159, 0, 180, 3, 172, 43, 42, 21, 4, 4]
abbrev dktL_law_25 : List UInt8 := dkwL_law_25 ++ dktL_law_26
def dkwL_law_24 : List UInt8 := [5, 96, 46, 42, 21, 4, 6, 96, 46, 42, 21, 4, 7, 96, 46, 42, 21, 4, 8, 96, 46, 42, 21, 4]
abbrev dktL_law_24 : List UInt8 := dkwL_law_24 ++ dktL_law_25
def dkwL_law_23 : List UInt8 := [16, 6, 96, 46, 42, 21, 4, 16, 7, 96, 46, 182, 0, 77, 44, 42, 21, 4, 4, 96, 46, 42, 21, 4]
abbrev dktL_law_23 : List UInt8 := dkwL_law_23 ++ dktL_law_24
def dkwL_law_22 : List UInt8 := [5, 96, 46, 42, 21, 4, 6, 96, 46, 42, 21, 4, 7, 96, 46, 42, 21, 4, 8, 96, 46, 42, 21, 4]
abbrev dktL_law_22 : List UInt8 := dkwL_law_22 ++ dktL_law_23
def dkwL_law_21 : List UInt8 := [21, 4, 5, 96, 46, 182, 0, 76, 148, 153, 1, 25, 3, 172, 43, 42, 21, 4, 4, 96, 46, 42, 21, 4]
abbrev dktL_law_21 : List UInt8 := dkwL_law_21 ++ dktL_law_22
def dkwL_law_20 : List UInt8 := [43, 42, 21, 4, 4, 96, 46, 42, 21, 4, 5, 96, 46, 182, 0, 73, 44, 42, 21, 4, 4, 96, 46, 42]
abbrev dktL_law_20 : List UInt8 := dkwL_law_20 ++ dktL_law_21
def dkwL_law_19 : List UInt8 := [182, 0, 69, 44, 42, 21, 4, 4, 96, 46, 42, 21, 4, 5, 96, 46, 182, 0, 72, 159, 1, 63, 3, 172]
abbrev dktL_law_19 : List UInt8 := dkwL_law_19 ++ dktL_law_20
def dkwL_law_18 : List UInt8 := [96, 46, 182, 0, 68, 159, 1, 100, 3, 172, 43, 42, 21, 4, 4, 96, 46, 42, 21, 4, 5, 96, 46]
abbrev dktL_law_18 : List UInt8 := dkwL_law_18 ++ dktL_law_19
def dkwL_law_17 : List UInt8 := [148, 153, 0, 5, 3, 172, 167, 1, 123, 43, 42, 21, 4, 4, 96, 46, 182, 0, 64, 44, 42, 21, 4, 4]
abbrev dktL_law_17 : List UInt8 := dkwL_law_17 ++ dktL_law_18
def dkwL_law_16 : List UInt8 := [54, 6, 44, 182, 0, 52, 21, 5, 159, 0, 5, 3, 172, 21, 5, 154, 0, 15, 45, 3, 47, 21, 6, 133]
abbrev dktL_law_16 : List UInt8 := dkwL_law_16 ++ dktL_law_17
def dkwL_law_15 : List UInt8 := [4, 96, 46, 42, 21, 4, 5, 96, 46, 42, 21, 4, 6, 96, 46, 42, 21, 4, 7, 96, 46, 182, 0, 63]
abbrev dktL_law_15 : List UInt8 := dkwL_law_15 ++ dktL_law_16
def dkwL_law_14 : List UInt8 := [96, 46, 42, 21, 4, 6, 96, 46, 42, 21, 4, 7, 96, 46, 45, 184, 0, 60, 54, 5, 44, 42, 21, 4]
abbrev dktL_law_14 : List UInt8 := dkwL_law_14 ++ dktL_law_15
def dkwL_law_13 : List UInt8 := [3, 47, 22, 6, 148, 153, 0, 5, 3, 172, 167, 1, 215, 43, 42, 21, 4, 4, 96, 46, 42, 21, 4, 5]
abbrev dktL_law_13 : List UInt8 := dkwL_law_13 ++ dktL_law_14
def dkwL_law_12 : List UInt8 := [96, 46, 182, 0, 59, 55, 6, 44, 182, 0, 52, 21, 5, 159, 0, 5, 3, 172, 21, 5, 154, 0, 14, 45]
abbrev dktL_law_12 : List UInt8 := dkwL_law_12 ++ dktL_law_13
def dkwL_law_11 : List UInt8 := [46, 42, 21, 4, 5, 96, 46, 45, 184, 0, 56, 54, 5, 44, 42, 21, 4, 4, 96, 46, 42, 21, 4, 5]
abbrev dktL_law_11 : List UInt8 := dkwL_law_11 ++ dktL_law_12
def dkwL_law_10 : List UInt8 := [154, 0, 15, 45, 3, 47, 21, 6, 133, 148, 153, 0, 5, 3, 172, 167, 2, 26, 43, 42, 21, 4, 4, 96]
abbrev dktL_law_10 : List UInt8 := dkwL_law_10 ++ dktL_law_11
def dkwL_law_9 : List UInt8 := [133, 20, 0, 44, 127, 129, 182, 0, 51, 54, 6, 44, 182, 0, 52, 21, 5, 159, 0, 5, 3, 172, 21, 5]
abbrev dktL_law_9 : List UInt8 := dkwL_law_9 ++ dktL_law_10
def dkwL_law_8 : List UInt8 := [96, 46, 42, 21, 4, 5, 96, 46, 42, 21, 4, 6, 96, 46, 133, 16, 32, 121, 42, 21, 4, 7, 96, 46]
abbrev dktL_law_8 : List UInt8 := dkwL_law_8 ++ dktL_law_9
def dkwL_law_7 : List UInt8 := [121, 42, 21, 4, 7, 96, 46, 133, 20, 0, 44, 127, 129, 45, 184, 0, 46, 54, 5, 44, 42, 21, 4, 4]
abbrev dktL_law_7 : List UInt8 := dkwL_law_7 ++ dktL_law_8
def dkwL_law_6 : List UInt8 := [3, 172, 43, 42, 21, 4, 4, 96, 46, 42, 21, 4, 5, 96, 46, 42, 21, 4, 6, 96, 46, 133, 16, 32]
abbrev dktL_law_6 : List UInt8 := dkwL_law_6 ++ dktL_law_7
def dkwL_law_5 : List UInt8 := [96, 46, 182, 0, 40, 44, 42, 21, 4, 4, 96, 46, 42, 21, 4, 5, 96, 46, 182, 0, 43, 159, 2, 140]
abbrev dktL_law_5 : List UInt8 := dkwL_law_5 ++ dktL_law_6
def dkwL_law_4 : List UInt8 := [21, 4, 5, 96, 46, 182, 0, 39, 159, 2, 177, 3, 172, 43, 42, 21, 4, 4, 96, 46, 42, 21, 4, 5]
abbrev dktL_law_4 : List UInt8 := dkwL_law_4 ++ dktL_law_5
def dkwL_law_3 : List UInt8 := [43, 42, 21, 4, 4, 96, 46, 42, 21, 4, 5, 96, 46, 182, 0, 35, 44, 42, 21, 4, 4, 96, 46, 42]
abbrev dktL_law_3 : List UInt8 := dkwL_law_3 ++ dktL_law_4
def dkwL_law_2 : List UInt8 := [170, 0, 0, 0, 0, 0, 3, 25, 0, 0, 0, 0, 0, 0, 0, 13, 0, 0, 0, 72, 0, 0, 0, 109, 0, 0, 0, 146, 0, 0, 1, 2, 0, 0, 1, 69, 0, 0, 1, 161, 0, 0, 1, 186, 0, 0, 1, 223, 0, 0, 2, 5, 0, 0, 2, 106, 0, 0, 2, 131, 0, 0, 2, 193, 0, 0, 2, 230, 0, 0, 2, 255]
abbrev dktL_law_2 : List UInt8 := dkwL_law_2 ++ dktL_law_3
def dkwL_law_1 : List UInt8 := [21, 4, 42, 190, 16, 8, 100, 163, 3, 41, 42, 21, 4, 46, 16, 15, 126]
abbrev dktL_law_1 : List UInt8 := dkwL_law_1 ++ dktL_law_2
def dkwL_law_0 : List UInt8 := [187, 0, 8, 89, 183, 0, 31, 76, 187, 0, 32, 89, 183, 0, 34, 77, 4, 188, 11, 78, 3, 54, 4]
abbrev dktL_law_0 : List UInt8 := dkwL_law_0 ++ dktL_law_1
theorem dksL_law_0 : cL_law.data.toList.drop 0 = dktL_law_0 := by decide +kernel
theorem dksL_law_1 : cL_law.data.toList.drop 23 = dktL_law_1 := dk_seg dksL_law_0 23 rfl rfl
theorem dksL_law_2 : cL_law.data.toList.drop 40 = dktL_law_2 := dk_seg dksL_law_1 17 rfl rfl
theorem dksL_law_3 : cL_law.data.toList.drop 112 = dktL_law_3 := dk_seg dksL_law_2 72 rfl rfl
theorem dksL_law_4 : cL_law.data.toList.drop 136 = dktL_law_4 := dk_seg dksL_law_3 24 rfl rfl
theorem dksL_law_5 : cL_law.data.toList.drop 160 = dktL_law_5 := dk_seg dksL_law_4 24 rfl rfl
theorem dksL_law_6 : cL_law.data.toList.drop 184 = dktL_law_6 := dk_seg dksL_law_5 24 rfl rfl
theorem dksL_law_7 : cL_law.data.toList.drop 208 = dktL_law_7 := dk_seg dksL_law_6 24 rfl rfl
theorem dksL_law_8 : cL_law.data.toList.drop 232 = dktL_law_8 := dk_seg dksL_law_7 24 rfl rfl
theorem dksL_law_9 : cL_law.data.toList.drop 256 = dktL_law_9 := dk_seg dksL_law_8 24 rfl rfl
theorem dksL_law_10 : cL_law.data.toList.drop 280 = dktL_law_10 := dk_seg dksL_law_9 24 rfl rfl
theorem dksL_law_11 : cL_law.data.toList.drop 304 = dktL_law_11 := dk_seg dksL_law_10 24 rfl rfl
theorem dksL_law_12 : cL_law.data.toList.drop 328 = dktL_law_12 := dk_seg dksL_law_11 24 rfl rfl
theorem dksL_law_13 : cL_law.data.toList.drop 352 = dktL_law_13 := dk_seg dksL_law_12 24 rfl rfl
theorem dksL_law_14 : cL_law.data.toList.drop 376 = dktL_law_14 := dk_seg dksL_law_13 24 rfl rfl
theorem dksL_law_15 : cL_law.data.toList.drop 400 = dktL_law_15 := dk_seg dksL_law_14 24 rfl rfl
theorem dksL_law_16 : cL_law.data.toList.drop 424 = dktL_law_16 := dk_seg dksL_law_15 24 rfl rfl
theorem dksL_law_17 : cL_law.data.toList.drop 448 = dktL_law_17 := dk_seg dksL_law_16 24 rfl rfl
theorem dksL_law_18 : cL_law.data.toList.drop 472 = dktL_law_18 := dk_seg dksL_law_17 24 rfl rfl
theorem dksL_law_19 : cL_law.data.toList.drop 495 = dktL_law_19 := dk_seg dksL_law_18 23 rfl rfl
theorem dksL_law_20 : cL_law.data.toList.drop 519 = dktL_law_20 := dk_seg dksL_law_19 24 rfl rfl
theorem dksL_law_21 : cL_law.data.toList.drop 543 = dktL_law_21 := dk_seg dksL_law_20 24 rfl rfl
theorem dksL_law_22 : cL_law.data.toList.drop 567 = dktL_law_22 := dk_seg dksL_law_21 24 rfl rfl
theorem dksL_law_23 : cL_law.data.toList.drop 591 = dktL_law_23 := dk_seg dksL_law_22 24 rfl rfl
theorem dksL_law_24 : cL_law.data.toList.drop 615 = dktL_law_24 := dk_seg dksL_law_23 24 rfl rfl
theorem dksL_law_25 : cL_law.data.toList.drop 639 = dktL_law_25 := dk_seg dksL_law_24 24 rfl rfl
theorem dksL_law_26 : cL_law.data.toList.drop 663 = dktL_law_26 := dk_seg dksL_law_25 24 rfl rfl
theorem dksL_law_27 : cL_law.data.toList.drop 687 = dktL_law_27 := dk_seg dksL_law_26 24 rfl rfl
theorem dksL_law_28 : cL_law.data.toList.drop 711 = dktL_law_28 := dk_seg dksL_law_27 24 rfl rfl
theorem dksL_law_29 : cL_law.data.toList.drop 735 = dktL_law_29 := dk_seg dksL_law_28 24 rfl rfl
theorem dksL_law_30 : cL_law.data.toList.drop 758 = dktL_law_30 := dk_seg dksL_law_29 23 rfl rfl
theorem dksL_law_31 : cL_law.data.toList.drop 782 = dktL_law_31 := dk_seg dksL_law_30 24 rfl rfl
theorem dksL_law_32 : cL_law.data.toList.drop 806 = dktL_law_32 := dk_seg dksL_law_31 24 rfl rfl
theorem dksL_law_33 : cL_law.data.toList.drop 828 = dktL_law_33 := dk_seg dksL_law_32 22 rfl rfl
theorem dL_law_0 : decode cL_law 0 = .ok (.new 8, 3) := dk_187 0 8 (dk_at dksL_law_0 0 rfl rfl)
theorem dL_law_3 : decode cL_law 3 = .ok (.dup, 1) := dk_89 (dk_at dksL_law_0 3 rfl rfl)
theorem dL_law_4 : decode cL_law 4 = .ok (.invokespecial 31, 3) := dk_183 0 31 (dk_at dksL_law_0 4 rfl rfl)
theorem dL_law_7 : decode cL_law 7 = .ok (.astore_n 1, 1) := dk_76 (dk_at dksL_law_0 7 rfl rfl)
theorem dL_law_8 : decode cL_law 8 = .ok (.new 32, 3) := dk_187 0 32 (dk_at dksL_law_0 8 rfl rfl)
theorem dL_law_11 : decode cL_law 11 = .ok (.dup, 1) := dk_89 (dk_at dksL_law_0 11 rfl rfl)
theorem dL_law_12 : decode cL_law 12 = .ok (.invokespecial 34, 3) := dk_183 0 34 (dk_at dksL_law_0 12 rfl rfl)
theorem dL_law_15 : decode cL_law 15 = .ok (.astore_n 2, 1) := dk_77 (dk_at dksL_law_0 15 rfl rfl)
theorem dL_law_16 : decode cL_law 16 = .ok (.iconst 1, 1) := dk_4 (dk_at dksL_law_0 16 rfl rfl)
theorem dL_law_17 : decode cL_law 17 = .ok (.newarray .long, 2) := dk_188_11 (dk_at dksL_law_0 17 rfl rfl)
theorem dL_law_19 : decode cL_law 19 = .ok (.astore_n 3, 1) := dk_78 (dk_at dksL_law_0 19 rfl rfl)
theorem dL_law_20 : decode cL_law 20 = .ok (.iconst 0, 1) := dk_3 (dk_at dksL_law_0 20 rfl rfl)
theorem dL_law_21 : decode cL_law 21 = .ok (.istore 4, 2) := dk_54 4 (dk_at dksL_law_0 21 rfl rfl)
theorem dL_law_23 : decode cL_law 23 = .ok (.iload 4, 2) := dk_21 4 (dk_at dksL_law_1 0 rfl rfl)
theorem dL_law_25 : decode cL_law 25 = .ok (.aload_n 0, 1) := dk_42 (dk_at dksL_law_1 2 rfl rfl)
theorem dL_law_26 : decode cL_law 26 = .ok (.arraylength, 1) := dk_190 (dk_at dksL_law_1 3 rfl rfl)
theorem dL_law_27 : decode cL_law 27 = .ok (.bipush 8, 2) := dk_16 8 (dk_at dksL_law_1 4 rfl rfl)
theorem dL_law_29 : decode cL_law 29 = .ok (.isub, 1) := dk_100 (dk_at dksL_law_1 6 rfl rfl)
theorem dL_law_30 : decode cL_law 30 = .ok (.if_icmp .gt 809, 3) := dk_163 3 41 (dk_at dksL_law_1 7 rfl rfl)
theorem dL_law_33 : decode cL_law 33 = .ok (.aload_n 0, 1) := dk_42 (dk_at dksL_law_1 10 rfl rfl)
theorem dL_law_34 : decode cL_law 34 = .ok (.iload 4, 2) := dk_21 4 (dk_at dksL_law_1 11 rfl rfl)
theorem dL_law_36 : decode cL_law 36 = .ok (.iaload, 1) := dk_46 (dk_at dksL_law_1 13 rfl rfl)
theorem dL_law_37 : decode cL_law 37 = .ok (.bipush 15, 2) := dk_16 15 (dk_at dksL_law_1 14 rfl rfl)
theorem dL_law_39 : decode cL_law 39 = .ok (.iand, 1) := dk_126 (dk_at dksL_law_1 16 rfl rfl)
theorem dL_law_40 : decode cL_law 40 = .ok (.tableswitch 793 0 13 #[72, 109, 146, 258, 325, 417, 442, 479, 517, 618, 643, 705, 742, 767], 72) := by decide +kernel
theorem dL_law_112 : decode cL_law 112 = .ok (.aload_n 1, 1) := dk_43 (dk_at dksL_law_3 0 rfl rfl)
theorem dL_law_113 : decode cL_law 113 = .ok (.aload_n 0, 1) := dk_42 (dk_at dksL_law_3 1 rfl rfl)
theorem dL_law_114 : decode cL_law 114 = .ok (.iload 4, 2) := dk_21 4 (dk_at dksL_law_3 2 rfl rfl)
theorem dL_law_116 : decode cL_law 116 = .ok (.iconst 1, 1) := dk_4 (dk_at dksL_law_3 4 rfl rfl)
theorem dL_law_117 : decode cL_law 117 = .ok (.iadd, 1) := dk_96 (dk_at dksL_law_3 5 rfl rfl)
theorem dL_law_118 : decode cL_law 118 = .ok (.iaload, 1) := dk_46 (dk_at dksL_law_3 6 rfl rfl)
theorem dL_law_119 : decode cL_law 119 = .ok (.aload_n 0, 1) := dk_42 (dk_at dksL_law_3 7 rfl rfl)
theorem dL_law_120 : decode cL_law 120 = .ok (.iload 4, 2) := dk_21 4 (dk_at dksL_law_3 8 rfl rfl)
theorem dL_law_122 : decode cL_law 122 = .ok (.iconst 2, 1) := dk_5 (dk_at dksL_law_3 10 rfl rfl)
theorem dL_law_123 : decode cL_law 123 = .ok (.iadd, 1) := dk_96 (dk_at dksL_law_3 11 rfl rfl)
theorem dL_law_124 : decode cL_law 124 = .ok (.iaload, 1) := dk_46 (dk_at dksL_law_3 12 rfl rfl)
theorem dL_law_125 : decode cL_law 125 = .ok (.invokevirtual 35, 3) := dk_182 0 35 (dk_at dksL_law_3 13 rfl rfl)
theorem dL_law_128 : decode cL_law 128 = .ok (.aload_n 2, 1) := dk_44 (dk_at dksL_law_3 16 rfl rfl)
theorem dL_law_129 : decode cL_law 129 = .ok (.aload_n 0, 1) := dk_42 (dk_at dksL_law_3 17 rfl rfl)
theorem dL_law_130 : decode cL_law 130 = .ok (.iload 4, 2) := dk_21 4 (dk_at dksL_law_3 18 rfl rfl)
theorem dL_law_132 : decode cL_law 132 = .ok (.iconst 1, 1) := dk_4 (dk_at dksL_law_3 20 rfl rfl)
theorem dL_law_133 : decode cL_law 133 = .ok (.iadd, 1) := dk_96 (dk_at dksL_law_3 21 rfl rfl)
theorem dL_law_134 : decode cL_law 134 = .ok (.iaload, 1) := dk_46 (dk_at dksL_law_3 22 rfl rfl)
theorem dL_law_135 : decode cL_law 135 = .ok (.aload_n 0, 1) := dk_42 (dk_at dksL_law_3 23 rfl rfl)
theorem dL_law_136 : decode cL_law 136 = .ok (.iload 4, 2) := dk_21 4 (dk_at dksL_law_4 0 rfl rfl)
theorem dL_law_138 : decode cL_law 138 = .ok (.iconst 2, 1) := dk_5 (dk_at dksL_law_4 2 rfl rfl)
theorem dL_law_139 : decode cL_law 139 = .ok (.iadd, 1) := dk_96 (dk_at dksL_law_4 3 rfl rfl)
theorem dL_law_140 : decode cL_law 140 = .ok (.iaload, 1) := dk_46 (dk_at dksL_law_4 4 rfl rfl)
theorem dL_law_141 : decode cL_law 141 = .ok (.invokevirtual 39, 3) := dk_182 0 39 (dk_at dksL_law_4 5 rfl rfl)
theorem dL_law_144 : decode cL_law 144 = .ok (.if_icmp .eq 689, 3) := dk_159 2 177 (dk_at dksL_law_4 8 rfl rfl)
theorem dL_law_147 : decode cL_law 147 = .ok (.iconst 0, 1) := dk_3 (dk_at dksL_law_4 11 rfl rfl)
theorem dL_law_148 : decode cL_law 148 = .ok (.ireturn, 1) := dk_172 (dk_at dksL_law_4 12 rfl rfl)
theorem dL_law_149 : decode cL_law 149 = .ok (.aload_n 1, 1) := dk_43 (dk_at dksL_law_4 13 rfl rfl)
theorem dL_law_150 : decode cL_law 150 = .ok (.aload_n 0, 1) := dk_42 (dk_at dksL_law_4 14 rfl rfl)
theorem dL_law_151 : decode cL_law 151 = .ok (.iload 4, 2) := dk_21 4 (dk_at dksL_law_4 15 rfl rfl)
theorem dL_law_153 : decode cL_law 153 = .ok (.iconst 1, 1) := dk_4 (dk_at dksL_law_4 17 rfl rfl)
theorem dL_law_154 : decode cL_law 154 = .ok (.iadd, 1) := dk_96 (dk_at dksL_law_4 18 rfl rfl)
theorem dL_law_155 : decode cL_law 155 = .ok (.iaload, 1) := dk_46 (dk_at dksL_law_4 19 rfl rfl)
theorem dL_law_156 : decode cL_law 156 = .ok (.aload_n 0, 1) := dk_42 (dk_at dksL_law_4 20 rfl rfl)
theorem dL_law_157 : decode cL_law 157 = .ok (.iload 4, 2) := dk_21 4 (dk_at dksL_law_4 21 rfl rfl)
theorem dL_law_159 : decode cL_law 159 = .ok (.iconst 2, 1) := dk_5 (dk_at dksL_law_4 23 rfl rfl)
theorem dL_law_160 : decode cL_law 160 = .ok (.iadd, 1) := dk_96 (dk_at dksL_law_5 0 rfl rfl)
theorem dL_law_161 : decode cL_law 161 = .ok (.iaload, 1) := dk_46 (dk_at dksL_law_5 1 rfl rfl)
theorem dL_law_162 : decode cL_law 162 = .ok (.invokevirtual 40, 3) := dk_182 0 40 (dk_at dksL_law_5 2 rfl rfl)
theorem dL_law_165 : decode cL_law 165 = .ok (.aload_n 2, 1) := dk_44 (dk_at dksL_law_5 5 rfl rfl)
theorem dL_law_166 : decode cL_law 166 = .ok (.aload_n 0, 1) := dk_42 (dk_at dksL_law_5 6 rfl rfl)
theorem dL_law_167 : decode cL_law 167 = .ok (.iload 4, 2) := dk_21 4 (dk_at dksL_law_5 7 rfl rfl)
theorem dL_law_169 : decode cL_law 169 = .ok (.iconst 1, 1) := dk_4 (dk_at dksL_law_5 9 rfl rfl)
theorem dL_law_170 : decode cL_law 170 = .ok (.iadd, 1) := dk_96 (dk_at dksL_law_5 10 rfl rfl)
theorem dL_law_171 : decode cL_law 171 = .ok (.iaload, 1) := dk_46 (dk_at dksL_law_5 11 rfl rfl)
theorem dL_law_172 : decode cL_law 172 = .ok (.aload_n 0, 1) := dk_42 (dk_at dksL_law_5 12 rfl rfl)
theorem dL_law_173 : decode cL_law 173 = .ok (.iload 4, 2) := dk_21 4 (dk_at dksL_law_5 13 rfl rfl)
theorem dL_law_175 : decode cL_law 175 = .ok (.iconst 2, 1) := dk_5 (dk_at dksL_law_5 15 rfl rfl)
theorem dL_law_176 : decode cL_law 176 = .ok (.iadd, 1) := dk_96 (dk_at dksL_law_5 16 rfl rfl)
theorem dL_law_177 : decode cL_law 177 = .ok (.iaload, 1) := dk_46 (dk_at dksL_law_5 17 rfl rfl)
theorem dL_law_178 : decode cL_law 178 = .ok (.invokevirtual 43, 3) := dk_182 0 43 (dk_at dksL_law_5 18 rfl rfl)
theorem dL_law_181 : decode cL_law 181 = .ok (.if_icmp .eq 652, 3) := dk_159 2 140 (dk_at dksL_law_5 21 rfl rfl)
theorem dL_law_184 : decode cL_law 184 = .ok (.iconst 0, 1) := dk_3 (dk_at dksL_law_6 0 rfl rfl)
theorem dL_law_185 : decode cL_law 185 = .ok (.ireturn, 1) := dk_172 (dk_at dksL_law_6 1 rfl rfl)
theorem dL_law_186 : decode cL_law 186 = .ok (.aload_n 1, 1) := dk_43 (dk_at dksL_law_6 2 rfl rfl)
theorem dL_law_187 : decode cL_law 187 = .ok (.aload_n 0, 1) := dk_42 (dk_at dksL_law_6 3 rfl rfl)
theorem dL_law_188 : decode cL_law 188 = .ok (.iload 4, 2) := dk_21 4 (dk_at dksL_law_6 4 rfl rfl)
theorem dL_law_190 : decode cL_law 190 = .ok (.iconst 1, 1) := dk_4 (dk_at dksL_law_6 6 rfl rfl)
theorem dL_law_191 : decode cL_law 191 = .ok (.iadd, 1) := dk_96 (dk_at dksL_law_6 7 rfl rfl)
theorem dL_law_192 : decode cL_law 192 = .ok (.iaload, 1) := dk_46 (dk_at dksL_law_6 8 rfl rfl)
theorem dL_law_193 : decode cL_law 193 = .ok (.aload_n 0, 1) := dk_42 (dk_at dksL_law_6 9 rfl rfl)
theorem dL_law_194 : decode cL_law 194 = .ok (.iload 4, 2) := dk_21 4 (dk_at dksL_law_6 10 rfl rfl)
theorem dL_law_196 : decode cL_law 196 = .ok (.iconst 2, 1) := dk_5 (dk_at dksL_law_6 12 rfl rfl)
theorem dL_law_197 : decode cL_law 197 = .ok (.iadd, 1) := dk_96 (dk_at dksL_law_6 13 rfl rfl)
theorem dL_law_198 : decode cL_law 198 = .ok (.iaload, 1) := dk_46 (dk_at dksL_law_6 14 rfl rfl)
theorem dL_law_199 : decode cL_law 199 = .ok (.aload_n 0, 1) := dk_42 (dk_at dksL_law_6 15 rfl rfl)
theorem dL_law_200 : decode cL_law 200 = .ok (.iload 4, 2) := dk_21 4 (dk_at dksL_law_6 16 rfl rfl)
theorem dL_law_202 : decode cL_law 202 = .ok (.iconst 3, 1) := dk_6 (dk_at dksL_law_6 18 rfl rfl)
theorem dL_law_203 : decode cL_law 203 = .ok (.iadd, 1) := dk_96 (dk_at dksL_law_6 19 rfl rfl)
theorem dL_law_204 : decode cL_law 204 = .ok (.iaload, 1) := dk_46 (dk_at dksL_law_6 20 rfl rfl)
theorem dL_law_205 : decode cL_law 205 = .ok (.i2l, 1) := dk_133 (dk_at dksL_law_6 21 rfl rfl)
theorem dL_law_206 : decode cL_law 206 = .ok (.bipush 32, 2) := dk_16 32 (dk_at dksL_law_6 22 rfl rfl)
theorem dL_law_208 : decode cL_law 208 = .ok (.lshl, 1) := dk_121 (dk_at dksL_law_7 0 rfl rfl)
theorem dL_law_209 : decode cL_law 209 = .ok (.aload_n 0, 1) := dk_42 (dk_at dksL_law_7 1 rfl rfl)
theorem dL_law_210 : decode cL_law 210 = .ok (.iload 4, 2) := dk_21 4 (dk_at dksL_law_7 2 rfl rfl)
theorem dL_law_212 : decode cL_law 212 = .ok (.iconst 4, 1) := dk_7 (dk_at dksL_law_7 4 rfl rfl)
theorem dL_law_213 : decode cL_law 213 = .ok (.iadd, 1) := dk_96 (dk_at dksL_law_7 5 rfl rfl)
theorem dL_law_214 : decode cL_law 214 = .ok (.iaload, 1) := dk_46 (dk_at dksL_law_7 6 rfl rfl)
theorem dL_law_215 : decode cL_law 215 = .ok (.i2l, 1) := dk_133 (dk_at dksL_law_7 7 rfl rfl)
theorem dL_law_216 : decode cL_law 216 = .ok (.ldc2_w 44, 3) := dk_20 0 44 (dk_at dksL_law_7 8 rfl rfl)
theorem dL_law_219 : decode cL_law 219 = .ok (.land, 1) := dk_127 (dk_at dksL_law_7 11 rfl rfl)
theorem dL_law_220 : decode cL_law 220 = .ok (.lor, 1) := dk_129 (dk_at dksL_law_7 12 rfl rfl)
theorem dL_law_221 : decode cL_law 221 = .ok (.aload_n 3, 1) := dk_45 (dk_at dksL_law_7 13 rfl rfl)
theorem dL_law_222 : decode cL_law 222 = .ok (.invokestatic 46, 3) := dk_184 0 46 (dk_at dksL_law_7 14 rfl rfl)
theorem dL_law_225 : decode cL_law 225 = .ok (.istore 5, 2) := dk_54 5 (dk_at dksL_law_7 17 rfl rfl)
theorem dL_law_227 : decode cL_law 227 = .ok (.aload_n 2, 1) := dk_44 (dk_at dksL_law_7 19 rfl rfl)
theorem dL_law_228 : decode cL_law 228 = .ok (.aload_n 0, 1) := dk_42 (dk_at dksL_law_7 20 rfl rfl)
theorem dL_law_229 : decode cL_law 229 = .ok (.iload 4, 2) := dk_21 4 (dk_at dksL_law_7 21 rfl rfl)
theorem dL_law_231 : decode cL_law 231 = .ok (.iconst 1, 1) := dk_4 (dk_at dksL_law_7 23 rfl rfl)
theorem dL_law_232 : decode cL_law 232 = .ok (.iadd, 1) := dk_96 (dk_at dksL_law_8 0 rfl rfl)
theorem dL_law_233 : decode cL_law 233 = .ok (.iaload, 1) := dk_46 (dk_at dksL_law_8 1 rfl rfl)
theorem dL_law_234 : decode cL_law 234 = .ok (.aload_n 0, 1) := dk_42 (dk_at dksL_law_8 2 rfl rfl)
theorem dL_law_235 : decode cL_law 235 = .ok (.iload 4, 2) := dk_21 4 (dk_at dksL_law_8 3 rfl rfl)
theorem dL_law_237 : decode cL_law 237 = .ok (.iconst 2, 1) := dk_5 (dk_at dksL_law_8 5 rfl rfl)
theorem dL_law_238 : decode cL_law 238 = .ok (.iadd, 1) := dk_96 (dk_at dksL_law_8 6 rfl rfl)
theorem dL_law_239 : decode cL_law 239 = .ok (.iaload, 1) := dk_46 (dk_at dksL_law_8 7 rfl rfl)
theorem dL_law_240 : decode cL_law 240 = .ok (.aload_n 0, 1) := dk_42 (dk_at dksL_law_8 8 rfl rfl)
theorem dL_law_241 : decode cL_law 241 = .ok (.iload 4, 2) := dk_21 4 (dk_at dksL_law_8 9 rfl rfl)
theorem dL_law_243 : decode cL_law 243 = .ok (.iconst 3, 1) := dk_6 (dk_at dksL_law_8 11 rfl rfl)
theorem dL_law_244 : decode cL_law 244 = .ok (.iadd, 1) := dk_96 (dk_at dksL_law_8 12 rfl rfl)
theorem dL_law_245 : decode cL_law 245 = .ok (.iaload, 1) := dk_46 (dk_at dksL_law_8 13 rfl rfl)
theorem dL_law_246 : decode cL_law 246 = .ok (.i2l, 1) := dk_133 (dk_at dksL_law_8 14 rfl rfl)
theorem dL_law_247 : decode cL_law 247 = .ok (.bipush 32, 2) := dk_16 32 (dk_at dksL_law_8 15 rfl rfl)
theorem dL_law_249 : decode cL_law 249 = .ok (.lshl, 1) := dk_121 (dk_at dksL_law_8 17 rfl rfl)
theorem dL_law_250 : decode cL_law 250 = .ok (.aload_n 0, 1) := dk_42 (dk_at dksL_law_8 18 rfl rfl)
theorem dL_law_251 : decode cL_law 251 = .ok (.iload 4, 2) := dk_21 4 (dk_at dksL_law_8 19 rfl rfl)
theorem dL_law_253 : decode cL_law 253 = .ok (.iconst 4, 1) := dk_7 (dk_at dksL_law_8 21 rfl rfl)
theorem dL_law_254 : decode cL_law 254 = .ok (.iadd, 1) := dk_96 (dk_at dksL_law_8 22 rfl rfl)
theorem dL_law_255 : decode cL_law 255 = .ok (.iaload, 1) := dk_46 (dk_at dksL_law_8 23 rfl rfl)
theorem dL_law_256 : decode cL_law 256 = .ok (.i2l, 1) := dk_133 (dk_at dksL_law_9 0 rfl rfl)
theorem dL_law_257 : decode cL_law 257 = .ok (.ldc2_w 44, 3) := dk_20 0 44 (dk_at dksL_law_9 1 rfl rfl)
theorem dL_law_260 : decode cL_law 260 = .ok (.land, 1) := dk_127 (dk_at dksL_law_9 4 rfl rfl)
theorem dL_law_261 : decode cL_law 261 = .ok (.lor, 1) := dk_129 (dk_at dksL_law_9 5 rfl rfl)
theorem dL_law_262 : decode cL_law 262 = .ok (.invokevirtual 51, 3) := dk_182 0 51 (dk_at dksL_law_9 6 rfl rfl)
theorem dL_law_265 : decode cL_law 265 = .ok (.istore 6, 2) := dk_54 6 (dk_at dksL_law_9 9 rfl rfl)
theorem dL_law_267 : decode cL_law 267 = .ok (.aload_n 2, 1) := dk_44 (dk_at dksL_law_9 11 rfl rfl)
theorem dL_law_268 : decode cL_law 268 = .ok (.invokevirtual 52, 3) := dk_182 0 52 (dk_at dksL_law_9 12 rfl rfl)
theorem dL_law_271 : decode cL_law 271 = .ok (.iload 5, 2) := dk_21 5 (dk_at dksL_law_9 15 rfl rfl)
theorem dL_law_273 : decode cL_law 273 = .ok (.if_icmp .eq 5, 3) := dk_159 0 5 (dk_at dksL_law_9 17 rfl rfl)
theorem dL_law_276 : decode cL_law 276 = .ok (.iconst 0, 1) := dk_3 (dk_at dksL_law_9 20 rfl rfl)
theorem dL_law_277 : decode cL_law 277 = .ok (.ireturn, 1) := dk_172 (dk_at dksL_law_9 21 rfl rfl)
theorem dL_law_278 : decode cL_law 278 = .ok (.iload 5, 2) := dk_21 5 (dk_at dksL_law_9 22 rfl rfl)
theorem dL_law_280 : decode cL_law 280 = .ok (.ifCond .ne 15, 3) := dk_154 0 15 (dk_at dksL_law_10 0 rfl rfl)
theorem dL_law_283 : decode cL_law 283 = .ok (.aload_n 3, 1) := dk_45 (dk_at dksL_law_10 3 rfl rfl)
theorem dL_law_284 : decode cL_law 284 = .ok (.iconst 0, 1) := dk_3 (dk_at dksL_law_10 4 rfl rfl)
theorem dL_law_285 : decode cL_law 285 = .ok (.laload, 1) := dk_47 (dk_at dksL_law_10 5 rfl rfl)
theorem dL_law_286 : decode cL_law 286 = .ok (.iload 6, 2) := dk_21 6 (dk_at dksL_law_10 6 rfl rfl)
theorem dL_law_288 : decode cL_law 288 = .ok (.i2l, 1) := dk_133 (dk_at dksL_law_10 8 rfl rfl)
theorem dL_law_289 : decode cL_law 289 = .ok (.lcmp, 1) := dk_148 (dk_at dksL_law_10 9 rfl rfl)
theorem dL_law_290 : decode cL_law 290 = .ok (.ifCond .eq 5, 3) := dk_153 0 5 (dk_at dksL_law_10 10 rfl rfl)
theorem dL_law_293 : decode cL_law 293 = .ok (.iconst 0, 1) := dk_3 (dk_at dksL_law_10 13 rfl rfl)
theorem dL_law_294 : decode cL_law 294 = .ok (.ireturn, 1) := dk_172 (dk_at dksL_law_10 14 rfl rfl)
theorem dL_law_295 : decode cL_law 295 = .ok (.goto 538, 3) := dk_167 2 26 (dk_at dksL_law_10 15 rfl rfl)
theorem dL_law_298 : decode cL_law 298 = .ok (.aload_n 1, 1) := dk_43 (dk_at dksL_law_10 18 rfl rfl)
theorem dL_law_299 : decode cL_law 299 = .ok (.aload_n 0, 1) := dk_42 (dk_at dksL_law_10 19 rfl rfl)
theorem dL_law_300 : decode cL_law 300 = .ok (.iload 4, 2) := dk_21 4 (dk_at dksL_law_10 20 rfl rfl)
theorem dL_law_302 : decode cL_law 302 = .ok (.iconst 1, 1) := dk_4 (dk_at dksL_law_10 22 rfl rfl)
theorem dL_law_303 : decode cL_law 303 = .ok (.iadd, 1) := dk_96 (dk_at dksL_law_10 23 rfl rfl)
theorem dL_law_304 : decode cL_law 304 = .ok (.iaload, 1) := dk_46 (dk_at dksL_law_11 0 rfl rfl)
theorem dL_law_305 : decode cL_law 305 = .ok (.aload_n 0, 1) := dk_42 (dk_at dksL_law_11 1 rfl rfl)
theorem dL_law_306 : decode cL_law 306 = .ok (.iload 4, 2) := dk_21 4 (dk_at dksL_law_11 2 rfl rfl)
theorem dL_law_308 : decode cL_law 308 = .ok (.iconst 2, 1) := dk_5 (dk_at dksL_law_11 4 rfl rfl)
theorem dL_law_309 : decode cL_law 309 = .ok (.iadd, 1) := dk_96 (dk_at dksL_law_11 5 rfl rfl)
theorem dL_law_310 : decode cL_law 310 = .ok (.iaload, 1) := dk_46 (dk_at dksL_law_11 6 rfl rfl)
theorem dL_law_311 : decode cL_law 311 = .ok (.aload_n 3, 1) := dk_45 (dk_at dksL_law_11 7 rfl rfl)
theorem dL_law_312 : decode cL_law 312 = .ok (.invokestatic 56, 3) := dk_184 0 56 (dk_at dksL_law_11 8 rfl rfl)
theorem dL_law_315 : decode cL_law 315 = .ok (.istore 5, 2) := dk_54 5 (dk_at dksL_law_11 11 rfl rfl)
theorem dL_law_317 : decode cL_law 317 = .ok (.aload_n 2, 1) := dk_44 (dk_at dksL_law_11 13 rfl rfl)
theorem dL_law_318 : decode cL_law 318 = .ok (.aload_n 0, 1) := dk_42 (dk_at dksL_law_11 14 rfl rfl)
theorem dL_law_319 : decode cL_law 319 = .ok (.iload 4, 2) := dk_21 4 (dk_at dksL_law_11 15 rfl rfl)
theorem dL_law_321 : decode cL_law 321 = .ok (.iconst 1, 1) := dk_4 (dk_at dksL_law_11 17 rfl rfl)
theorem dL_law_322 : decode cL_law 322 = .ok (.iadd, 1) := dk_96 (dk_at dksL_law_11 18 rfl rfl)
theorem dL_law_323 : decode cL_law 323 = .ok (.iaload, 1) := dk_46 (dk_at dksL_law_11 19 rfl rfl)
theorem dL_law_324 : decode cL_law 324 = .ok (.aload_n 0, 1) := dk_42 (dk_at dksL_law_11 20 rfl rfl)
theorem dL_law_325 : decode cL_law 325 = .ok (.iload 4, 2) := dk_21 4 (dk_at dksL_law_11 21 rfl rfl)
theorem dL_law_327 : decode cL_law 327 = .ok (.iconst 2, 1) := dk_5 (dk_at dksL_law_11 23 rfl rfl)
theorem dL_law_328 : decode cL_law 328 = .ok (.iadd, 1) := dk_96 (dk_at dksL_law_12 0 rfl rfl)
theorem dL_law_329 : decode cL_law 329 = .ok (.iaload, 1) := dk_46 (dk_at dksL_law_12 1 rfl rfl)
theorem dL_law_330 : decode cL_law 330 = .ok (.invokevirtual 59, 3) := dk_182 0 59 (dk_at dksL_law_12 2 rfl rfl)
theorem dL_law_333 : decode cL_law 333 = .ok (.lstore 6, 2) := dk_55 6 (dk_at dksL_law_12 5 rfl rfl)
theorem dL_law_335 : decode cL_law 335 = .ok (.aload_n 2, 1) := dk_44 (dk_at dksL_law_12 7 rfl rfl)
theorem dL_law_336 : decode cL_law 336 = .ok (.invokevirtual 52, 3) := dk_182 0 52 (dk_at dksL_law_12 8 rfl rfl)
theorem dL_law_339 : decode cL_law 339 = .ok (.iload 5, 2) := dk_21 5 (dk_at dksL_law_12 11 rfl rfl)
theorem dL_law_341 : decode cL_law 341 = .ok (.if_icmp .eq 5, 3) := dk_159 0 5 (dk_at dksL_law_12 13 rfl rfl)
theorem dL_law_344 : decode cL_law 344 = .ok (.iconst 0, 1) := dk_3 (dk_at dksL_law_12 16 rfl rfl)
theorem dL_law_345 : decode cL_law 345 = .ok (.ireturn, 1) := dk_172 (dk_at dksL_law_12 17 rfl rfl)
theorem dL_law_346 : decode cL_law 346 = .ok (.iload 5, 2) := dk_21 5 (dk_at dksL_law_12 18 rfl rfl)
theorem dL_law_348 : decode cL_law 348 = .ok (.ifCond .ne 14, 3) := dk_154 0 14 (dk_at dksL_law_12 20 rfl rfl)
theorem dL_law_351 : decode cL_law 351 = .ok (.aload_n 3, 1) := dk_45 (dk_at dksL_law_12 23 rfl rfl)
theorem dL_law_352 : decode cL_law 352 = .ok (.iconst 0, 1) := dk_3 (dk_at dksL_law_13 0 rfl rfl)
theorem dL_law_353 : decode cL_law 353 = .ok (.laload, 1) := dk_47 (dk_at dksL_law_13 1 rfl rfl)
theorem dL_law_354 : decode cL_law 354 = .ok (.lload 6, 2) := dk_22 6 (dk_at dksL_law_13 2 rfl rfl)
theorem dL_law_356 : decode cL_law 356 = .ok (.lcmp, 1) := dk_148 (dk_at dksL_law_13 4 rfl rfl)
theorem dL_law_357 : decode cL_law 357 = .ok (.ifCond .eq 5, 3) := dk_153 0 5 (dk_at dksL_law_13 5 rfl rfl)
theorem dL_law_360 : decode cL_law 360 = .ok (.iconst 0, 1) := dk_3 (dk_at dksL_law_13 8 rfl rfl)
theorem dL_law_361 : decode cL_law 361 = .ok (.ireturn, 1) := dk_172 (dk_at dksL_law_13 9 rfl rfl)
theorem dL_law_362 : decode cL_law 362 = .ok (.goto 471, 3) := dk_167 1 215 (dk_at dksL_law_13 10 rfl rfl)
theorem dL_law_365 : decode cL_law 365 = .ok (.aload_n 1, 1) := dk_43 (dk_at dksL_law_13 13 rfl rfl)
theorem dL_law_366 : decode cL_law 366 = .ok (.aload_n 0, 1) := dk_42 (dk_at dksL_law_13 14 rfl rfl)
theorem dL_law_367 : decode cL_law 367 = .ok (.iload 4, 2) := dk_21 4 (dk_at dksL_law_13 15 rfl rfl)
theorem dL_law_369 : decode cL_law 369 = .ok (.iconst 1, 1) := dk_4 (dk_at dksL_law_13 17 rfl rfl)
theorem dL_law_370 : decode cL_law 370 = .ok (.iadd, 1) := dk_96 (dk_at dksL_law_13 18 rfl rfl)
theorem dL_law_371 : decode cL_law 371 = .ok (.iaload, 1) := dk_46 (dk_at dksL_law_13 19 rfl rfl)
theorem dL_law_372 : decode cL_law 372 = .ok (.aload_n 0, 1) := dk_42 (dk_at dksL_law_13 20 rfl rfl)
theorem dL_law_373 : decode cL_law 373 = .ok (.iload 4, 2) := dk_21 4 (dk_at dksL_law_13 21 rfl rfl)
theorem dL_law_375 : decode cL_law 375 = .ok (.iconst 2, 1) := dk_5 (dk_at dksL_law_13 23 rfl rfl)
theorem dL_law_376 : decode cL_law 376 = .ok (.iadd, 1) := dk_96 (dk_at dksL_law_14 0 rfl rfl)
theorem dL_law_377 : decode cL_law 377 = .ok (.iaload, 1) := dk_46 (dk_at dksL_law_14 1 rfl rfl)
theorem dL_law_378 : decode cL_law 378 = .ok (.aload_n 0, 1) := dk_42 (dk_at dksL_law_14 2 rfl rfl)
theorem dL_law_379 : decode cL_law 379 = .ok (.iload 4, 2) := dk_21 4 (dk_at dksL_law_14 3 rfl rfl)
theorem dL_law_381 : decode cL_law 381 = .ok (.iconst 3, 1) := dk_6 (dk_at dksL_law_14 5 rfl rfl)
theorem dL_law_382 : decode cL_law 382 = .ok (.iadd, 1) := dk_96 (dk_at dksL_law_14 6 rfl rfl)
theorem dL_law_383 : decode cL_law 383 = .ok (.iaload, 1) := dk_46 (dk_at dksL_law_14 7 rfl rfl)
theorem dL_law_384 : decode cL_law 384 = .ok (.aload_n 0, 1) := dk_42 (dk_at dksL_law_14 8 rfl rfl)
theorem dL_law_385 : decode cL_law 385 = .ok (.iload 4, 2) := dk_21 4 (dk_at dksL_law_14 9 rfl rfl)
theorem dL_law_387 : decode cL_law 387 = .ok (.iconst 4, 1) := dk_7 (dk_at dksL_law_14 11 rfl rfl)
theorem dL_law_388 : decode cL_law 388 = .ok (.iadd, 1) := dk_96 (dk_at dksL_law_14 12 rfl rfl)
theorem dL_law_389 : decode cL_law 389 = .ok (.iaload, 1) := dk_46 (dk_at dksL_law_14 13 rfl rfl)
theorem dL_law_390 : decode cL_law 390 = .ok (.aload_n 3, 1) := dk_45 (dk_at dksL_law_14 14 rfl rfl)
theorem dL_law_391 : decode cL_law 391 = .ok (.invokestatic 60, 3) := dk_184 0 60 (dk_at dksL_law_14 15 rfl rfl)
theorem dL_law_394 : decode cL_law 394 = .ok (.istore 5, 2) := dk_54 5 (dk_at dksL_law_14 18 rfl rfl)
theorem dL_law_396 : decode cL_law 396 = .ok (.aload_n 2, 1) := dk_44 (dk_at dksL_law_14 20 rfl rfl)
theorem dL_law_397 : decode cL_law 397 = .ok (.aload_n 0, 1) := dk_42 (dk_at dksL_law_14 21 rfl rfl)
theorem dL_law_398 : decode cL_law 398 = .ok (.iload 4, 2) := dk_21 4 (dk_at dksL_law_14 22 rfl rfl)
theorem dL_law_400 : decode cL_law 400 = .ok (.iconst 1, 1) := dk_4 (dk_at dksL_law_15 0 rfl rfl)
theorem dL_law_401 : decode cL_law 401 = .ok (.iadd, 1) := dk_96 (dk_at dksL_law_15 1 rfl rfl)
theorem dL_law_402 : decode cL_law 402 = .ok (.iaload, 1) := dk_46 (dk_at dksL_law_15 2 rfl rfl)
theorem dL_law_403 : decode cL_law 403 = .ok (.aload_n 0, 1) := dk_42 (dk_at dksL_law_15 3 rfl rfl)
theorem dL_law_404 : decode cL_law 404 = .ok (.iload 4, 2) := dk_21 4 (dk_at dksL_law_15 4 rfl rfl)
theorem dL_law_406 : decode cL_law 406 = .ok (.iconst 2, 1) := dk_5 (dk_at dksL_law_15 6 rfl rfl)
theorem dL_law_407 : decode cL_law 407 = .ok (.iadd, 1) := dk_96 (dk_at dksL_law_15 7 rfl rfl)
theorem dL_law_408 : decode cL_law 408 = .ok (.iaload, 1) := dk_46 (dk_at dksL_law_15 8 rfl rfl)
theorem dL_law_409 : decode cL_law 409 = .ok (.aload_n 0, 1) := dk_42 (dk_at dksL_law_15 9 rfl rfl)
theorem dL_law_410 : decode cL_law 410 = .ok (.iload 4, 2) := dk_21 4 (dk_at dksL_law_15 10 rfl rfl)
theorem dL_law_412 : decode cL_law 412 = .ok (.iconst 3, 1) := dk_6 (dk_at dksL_law_15 12 rfl rfl)
theorem dL_law_413 : decode cL_law 413 = .ok (.iadd, 1) := dk_96 (dk_at dksL_law_15 13 rfl rfl)
theorem dL_law_414 : decode cL_law 414 = .ok (.iaload, 1) := dk_46 (dk_at dksL_law_15 14 rfl rfl)
theorem dL_law_415 : decode cL_law 415 = .ok (.aload_n 0, 1) := dk_42 (dk_at dksL_law_15 15 rfl rfl)
theorem dL_law_416 : decode cL_law 416 = .ok (.iload 4, 2) := dk_21 4 (dk_at dksL_law_15 16 rfl rfl)
theorem dL_law_418 : decode cL_law 418 = .ok (.iconst 4, 1) := dk_7 (dk_at dksL_law_15 18 rfl rfl)
theorem dL_law_419 : decode cL_law 419 = .ok (.iadd, 1) := dk_96 (dk_at dksL_law_15 19 rfl rfl)
theorem dL_law_420 : decode cL_law 420 = .ok (.iaload, 1) := dk_46 (dk_at dksL_law_15 20 rfl rfl)
theorem dL_law_421 : decode cL_law 421 = .ok (.invokevirtual 63, 3) := dk_182 0 63 (dk_at dksL_law_15 21 rfl rfl)
theorem dL_law_424 : decode cL_law 424 = .ok (.istore 6, 2) := dk_54 6 (dk_at dksL_law_16 0 rfl rfl)
theorem dL_law_426 : decode cL_law 426 = .ok (.aload_n 2, 1) := dk_44 (dk_at dksL_law_16 2 rfl rfl)
theorem dL_law_427 : decode cL_law 427 = .ok (.invokevirtual 52, 3) := dk_182 0 52 (dk_at dksL_law_16 3 rfl rfl)
theorem dL_law_430 : decode cL_law 430 = .ok (.iload 5, 2) := dk_21 5 (dk_at dksL_law_16 6 rfl rfl)
theorem dL_law_432 : decode cL_law 432 = .ok (.if_icmp .eq 5, 3) := dk_159 0 5 (dk_at dksL_law_16 8 rfl rfl)
theorem dL_law_435 : decode cL_law 435 = .ok (.iconst 0, 1) := dk_3 (dk_at dksL_law_16 11 rfl rfl)
theorem dL_law_436 : decode cL_law 436 = .ok (.ireturn, 1) := dk_172 (dk_at dksL_law_16 12 rfl rfl)
theorem dL_law_437 : decode cL_law 437 = .ok (.iload 5, 2) := dk_21 5 (dk_at dksL_law_16 13 rfl rfl)
theorem dL_law_439 : decode cL_law 439 = .ok (.ifCond .ne 15, 3) := dk_154 0 15 (dk_at dksL_law_16 15 rfl rfl)
theorem dL_law_442 : decode cL_law 442 = .ok (.aload_n 3, 1) := dk_45 (dk_at dksL_law_16 18 rfl rfl)
theorem dL_law_443 : decode cL_law 443 = .ok (.iconst 0, 1) := dk_3 (dk_at dksL_law_16 19 rfl rfl)
theorem dL_law_444 : decode cL_law 444 = .ok (.laload, 1) := dk_47 (dk_at dksL_law_16 20 rfl rfl)
theorem dL_law_445 : decode cL_law 445 = .ok (.iload 6, 2) := dk_21 6 (dk_at dksL_law_16 21 rfl rfl)
theorem dL_law_447 : decode cL_law 447 = .ok (.i2l, 1) := dk_133 (dk_at dksL_law_16 23 rfl rfl)
theorem dL_law_448 : decode cL_law 448 = .ok (.lcmp, 1) := dk_148 (dk_at dksL_law_17 0 rfl rfl)
theorem dL_law_449 : decode cL_law 449 = .ok (.ifCond .eq 5, 3) := dk_153 0 5 (dk_at dksL_law_17 1 rfl rfl)
theorem dL_law_452 : decode cL_law 452 = .ok (.iconst 0, 1) := dk_3 (dk_at dksL_law_17 4 rfl rfl)
theorem dL_law_453 : decode cL_law 453 = .ok (.ireturn, 1) := dk_172 (dk_at dksL_law_17 5 rfl rfl)
theorem dL_law_454 : decode cL_law 454 = .ok (.goto 379, 3) := dk_167 1 123 (dk_at dksL_law_17 6 rfl rfl)
theorem dL_law_457 : decode cL_law 457 = .ok (.aload_n 1, 1) := dk_43 (dk_at dksL_law_17 9 rfl rfl)
theorem dL_law_458 : decode cL_law 458 = .ok (.aload_n 0, 1) := dk_42 (dk_at dksL_law_17 10 rfl rfl)
theorem dL_law_459 : decode cL_law 459 = .ok (.iload 4, 2) := dk_21 4 (dk_at dksL_law_17 11 rfl rfl)
theorem dL_law_461 : decode cL_law 461 = .ok (.iconst 1, 1) := dk_4 (dk_at dksL_law_17 13 rfl rfl)
theorem dL_law_462 : decode cL_law 462 = .ok (.iadd, 1) := dk_96 (dk_at dksL_law_17 14 rfl rfl)
theorem dL_law_463 : decode cL_law 463 = .ok (.iaload, 1) := dk_46 (dk_at dksL_law_17 15 rfl rfl)
theorem dL_law_464 : decode cL_law 464 = .ok (.invokevirtual 64, 3) := dk_182 0 64 (dk_at dksL_law_17 16 rfl rfl)
theorem dL_law_467 : decode cL_law 467 = .ok (.aload_n 2, 1) := dk_44 (dk_at dksL_law_17 19 rfl rfl)
theorem dL_law_468 : decode cL_law 468 = .ok (.aload_n 0, 1) := dk_42 (dk_at dksL_law_17 20 rfl rfl)
theorem dL_law_469 : decode cL_law 469 = .ok (.iload 4, 2) := dk_21 4 (dk_at dksL_law_17 21 rfl rfl)
theorem dL_law_471 : decode cL_law 471 = .ok (.iconst 1, 1) := dk_4 (dk_at dksL_law_17 23 rfl rfl)
theorem dL_law_472 : decode cL_law 472 = .ok (.iadd, 1) := dk_96 (dk_at dksL_law_18 0 rfl rfl)
theorem dL_law_473 : decode cL_law 473 = .ok (.iaload, 1) := dk_46 (dk_at dksL_law_18 1 rfl rfl)
theorem dL_law_474 : decode cL_law 474 = .ok (.invokevirtual 68, 3) := dk_182 0 68 (dk_at dksL_law_18 2 rfl rfl)
theorem dL_law_477 : decode cL_law 477 = .ok (.if_icmp .eq 356, 3) := dk_159 1 100 (dk_at dksL_law_18 5 rfl rfl)
theorem dL_law_480 : decode cL_law 480 = .ok (.iconst 0, 1) := dk_3 (dk_at dksL_law_18 8 rfl rfl)
theorem dL_law_481 : decode cL_law 481 = .ok (.ireturn, 1) := dk_172 (dk_at dksL_law_18 9 rfl rfl)
theorem dL_law_482 : decode cL_law 482 = .ok (.aload_n 1, 1) := dk_43 (dk_at dksL_law_18 10 rfl rfl)
theorem dL_law_483 : decode cL_law 483 = .ok (.aload_n 0, 1) := dk_42 (dk_at dksL_law_18 11 rfl rfl)
theorem dL_law_484 : decode cL_law 484 = .ok (.iload 4, 2) := dk_21 4 (dk_at dksL_law_18 12 rfl rfl)
theorem dL_law_486 : decode cL_law 486 = .ok (.iconst 1, 1) := dk_4 (dk_at dksL_law_18 14 rfl rfl)
theorem dL_law_487 : decode cL_law 487 = .ok (.iadd, 1) := dk_96 (dk_at dksL_law_18 15 rfl rfl)
theorem dL_law_488 : decode cL_law 488 = .ok (.iaload, 1) := dk_46 (dk_at dksL_law_18 16 rfl rfl)
theorem dL_law_489 : decode cL_law 489 = .ok (.aload_n 0, 1) := dk_42 (dk_at dksL_law_18 17 rfl rfl)
theorem dL_law_490 : decode cL_law 490 = .ok (.iload 4, 2) := dk_21 4 (dk_at dksL_law_18 18 rfl rfl)
theorem dL_law_492 : decode cL_law 492 = .ok (.iconst 2, 1) := dk_5 (dk_at dksL_law_18 20 rfl rfl)
theorem dL_law_493 : decode cL_law 493 = .ok (.iadd, 1) := dk_96 (dk_at dksL_law_18 21 rfl rfl)
theorem dL_law_494 : decode cL_law 494 = .ok (.iaload, 1) := dk_46 (dk_at dksL_law_18 22 rfl rfl)
theorem dL_law_495 : decode cL_law 495 = .ok (.invokevirtual 69, 3) := dk_182 0 69 (dk_at dksL_law_19 0 rfl rfl)
theorem dL_law_498 : decode cL_law 498 = .ok (.aload_n 2, 1) := dk_44 (dk_at dksL_law_19 3 rfl rfl)
theorem dL_law_499 : decode cL_law 499 = .ok (.aload_n 0, 1) := dk_42 (dk_at dksL_law_19 4 rfl rfl)
theorem dL_law_500 : decode cL_law 500 = .ok (.iload 4, 2) := dk_21 4 (dk_at dksL_law_19 5 rfl rfl)
theorem dL_law_502 : decode cL_law 502 = .ok (.iconst 1, 1) := dk_4 (dk_at dksL_law_19 7 rfl rfl)
theorem dL_law_503 : decode cL_law 503 = .ok (.iadd, 1) := dk_96 (dk_at dksL_law_19 8 rfl rfl)
theorem dL_law_504 : decode cL_law 504 = .ok (.iaload, 1) := dk_46 (dk_at dksL_law_19 9 rfl rfl)
theorem dL_law_505 : decode cL_law 505 = .ok (.aload_n 0, 1) := dk_42 (dk_at dksL_law_19 10 rfl rfl)
theorem dL_law_506 : decode cL_law 506 = .ok (.iload 4, 2) := dk_21 4 (dk_at dksL_law_19 11 rfl rfl)
theorem dL_law_508 : decode cL_law 508 = .ok (.iconst 2, 1) := dk_5 (dk_at dksL_law_19 13 rfl rfl)
theorem dL_law_509 : decode cL_law 509 = .ok (.iadd, 1) := dk_96 (dk_at dksL_law_19 14 rfl rfl)
theorem dL_law_510 : decode cL_law 510 = .ok (.iaload, 1) := dk_46 (dk_at dksL_law_19 15 rfl rfl)
theorem dL_law_511 : decode cL_law 511 = .ok (.invokevirtual 72, 3) := dk_182 0 72 (dk_at dksL_law_19 16 rfl rfl)
theorem dL_law_514 : decode cL_law 514 = .ok (.if_icmp .eq 319, 3) := dk_159 1 63 (dk_at dksL_law_19 19 rfl rfl)
theorem dL_law_517 : decode cL_law 517 = .ok (.iconst 0, 1) := dk_3 (dk_at dksL_law_19 22 rfl rfl)
theorem dL_law_518 : decode cL_law 518 = .ok (.ireturn, 1) := dk_172 (dk_at dksL_law_19 23 rfl rfl)
theorem dL_law_519 : decode cL_law 519 = .ok (.aload_n 1, 1) := dk_43 (dk_at dksL_law_20 0 rfl rfl)
theorem dL_law_520 : decode cL_law 520 = .ok (.aload_n 0, 1) := dk_42 (dk_at dksL_law_20 1 rfl rfl)
theorem dL_law_521 : decode cL_law 521 = .ok (.iload 4, 2) := dk_21 4 (dk_at dksL_law_20 2 rfl rfl)
theorem dL_law_523 : decode cL_law 523 = .ok (.iconst 1, 1) := dk_4 (dk_at dksL_law_20 4 rfl rfl)
theorem dL_law_524 : decode cL_law 524 = .ok (.iadd, 1) := dk_96 (dk_at dksL_law_20 5 rfl rfl)
theorem dL_law_525 : decode cL_law 525 = .ok (.iaload, 1) := dk_46 (dk_at dksL_law_20 6 rfl rfl)
theorem dL_law_526 : decode cL_law 526 = .ok (.aload_n 0, 1) := dk_42 (dk_at dksL_law_20 7 rfl rfl)
theorem dL_law_527 : decode cL_law 527 = .ok (.iload 4, 2) := dk_21 4 (dk_at dksL_law_20 8 rfl rfl)
theorem dL_law_529 : decode cL_law 529 = .ok (.iconst 2, 1) := dk_5 (dk_at dksL_law_20 10 rfl rfl)
theorem dL_law_530 : decode cL_law 530 = .ok (.iadd, 1) := dk_96 (dk_at dksL_law_20 11 rfl rfl)
theorem dL_law_531 : decode cL_law 531 = .ok (.iaload, 1) := dk_46 (dk_at dksL_law_20 12 rfl rfl)
theorem dL_law_532 : decode cL_law 532 = .ok (.invokevirtual 73, 3) := dk_182 0 73 (dk_at dksL_law_20 13 rfl rfl)
theorem dL_law_535 : decode cL_law 535 = .ok (.aload_n 2, 1) := dk_44 (dk_at dksL_law_20 16 rfl rfl)
theorem dL_law_536 : decode cL_law 536 = .ok (.aload_n 0, 1) := dk_42 (dk_at dksL_law_20 17 rfl rfl)
theorem dL_law_537 : decode cL_law 537 = .ok (.iload 4, 2) := dk_21 4 (dk_at dksL_law_20 18 rfl rfl)
theorem dL_law_539 : decode cL_law 539 = .ok (.iconst 1, 1) := dk_4 (dk_at dksL_law_20 20 rfl rfl)
theorem dL_law_540 : decode cL_law 540 = .ok (.iadd, 1) := dk_96 (dk_at dksL_law_20 21 rfl rfl)
theorem dL_law_541 : decode cL_law 541 = .ok (.iaload, 1) := dk_46 (dk_at dksL_law_20 22 rfl rfl)
theorem dL_law_542 : decode cL_law 542 = .ok (.aload_n 0, 1) := dk_42 (dk_at dksL_law_20 23 rfl rfl)
theorem dL_law_543 : decode cL_law 543 = .ok (.iload 4, 2) := dk_21 4 (dk_at dksL_law_21 0 rfl rfl)
theorem dL_law_545 : decode cL_law 545 = .ok (.iconst 2, 1) := dk_5 (dk_at dksL_law_21 2 rfl rfl)
theorem dL_law_546 : decode cL_law 546 = .ok (.iadd, 1) := dk_96 (dk_at dksL_law_21 3 rfl rfl)
theorem dL_law_547 : decode cL_law 547 = .ok (.iaload, 1) := dk_46 (dk_at dksL_law_21 4 rfl rfl)
theorem dL_law_548 : decode cL_law 548 = .ok (.invokevirtual 76, 3) := dk_182 0 76 (dk_at dksL_law_21 5 rfl rfl)
theorem dL_law_551 : decode cL_law 551 = .ok (.lcmp, 1) := dk_148 (dk_at dksL_law_21 8 rfl rfl)
theorem dL_law_552 : decode cL_law 552 = .ok (.ifCond .eq 281, 3) := dk_153 1 25 (dk_at dksL_law_21 9 rfl rfl)
theorem dL_law_555 : decode cL_law 555 = .ok (.iconst 0, 1) := dk_3 (dk_at dksL_law_21 12 rfl rfl)
theorem dL_law_556 : decode cL_law 556 = .ok (.ireturn, 1) := dk_172 (dk_at dksL_law_21 13 rfl rfl)
theorem dL_law_557 : decode cL_law 557 = .ok (.aload_n 1, 1) := dk_43 (dk_at dksL_law_21 14 rfl rfl)
theorem dL_law_558 : decode cL_law 558 = .ok (.aload_n 0, 1) := dk_42 (dk_at dksL_law_21 15 rfl rfl)
theorem dL_law_559 : decode cL_law 559 = .ok (.iload 4, 2) := dk_21 4 (dk_at dksL_law_21 16 rfl rfl)
theorem dL_law_561 : decode cL_law 561 = .ok (.iconst 1, 1) := dk_4 (dk_at dksL_law_21 18 rfl rfl)
theorem dL_law_562 : decode cL_law 562 = .ok (.iadd, 1) := dk_96 (dk_at dksL_law_21 19 rfl rfl)
theorem dL_law_563 : decode cL_law 563 = .ok (.iaload, 1) := dk_46 (dk_at dksL_law_21 20 rfl rfl)
theorem dL_law_564 : decode cL_law 564 = .ok (.aload_n 0, 1) := dk_42 (dk_at dksL_law_21 21 rfl rfl)
theorem dL_law_565 : decode cL_law 565 = .ok (.iload 4, 2) := dk_21 4 (dk_at dksL_law_21 22 rfl rfl)
theorem dL_law_567 : decode cL_law 567 = .ok (.iconst 2, 1) := dk_5 (dk_at dksL_law_22 0 rfl rfl)
theorem dL_law_568 : decode cL_law 568 = .ok (.iadd, 1) := dk_96 (dk_at dksL_law_22 1 rfl rfl)
theorem dL_law_569 : decode cL_law 569 = .ok (.iaload, 1) := dk_46 (dk_at dksL_law_22 2 rfl rfl)
theorem dL_law_570 : decode cL_law 570 = .ok (.aload_n 0, 1) := dk_42 (dk_at dksL_law_22 3 rfl rfl)
theorem dL_law_571 : decode cL_law 571 = .ok (.iload 4, 2) := dk_21 4 (dk_at dksL_law_22 4 rfl rfl)
theorem dL_law_573 : decode cL_law 573 = .ok (.iconst 3, 1) := dk_6 (dk_at dksL_law_22 6 rfl rfl)
theorem dL_law_574 : decode cL_law 574 = .ok (.iadd, 1) := dk_96 (dk_at dksL_law_22 7 rfl rfl)
theorem dL_law_575 : decode cL_law 575 = .ok (.iaload, 1) := dk_46 (dk_at dksL_law_22 8 rfl rfl)
theorem dL_law_576 : decode cL_law 576 = .ok (.aload_n 0, 1) := dk_42 (dk_at dksL_law_22 9 rfl rfl)
theorem dL_law_577 : decode cL_law 577 = .ok (.iload 4, 2) := dk_21 4 (dk_at dksL_law_22 10 rfl rfl)
theorem dL_law_579 : decode cL_law 579 = .ok (.iconst 4, 1) := dk_7 (dk_at dksL_law_22 12 rfl rfl)
theorem dL_law_580 : decode cL_law 580 = .ok (.iadd, 1) := dk_96 (dk_at dksL_law_22 13 rfl rfl)
theorem dL_law_581 : decode cL_law 581 = .ok (.iaload, 1) := dk_46 (dk_at dksL_law_22 14 rfl rfl)
theorem dL_law_582 : decode cL_law 582 = .ok (.aload_n 0, 1) := dk_42 (dk_at dksL_law_22 15 rfl rfl)
theorem dL_law_583 : decode cL_law 583 = .ok (.iload 4, 2) := dk_21 4 (dk_at dksL_law_22 16 rfl rfl)
theorem dL_law_585 : decode cL_law 585 = .ok (.iconst 5, 1) := dk_8 (dk_at dksL_law_22 18 rfl rfl)
theorem dL_law_586 : decode cL_law 586 = .ok (.iadd, 1) := dk_96 (dk_at dksL_law_22 19 rfl rfl)
theorem dL_law_587 : decode cL_law 587 = .ok (.iaload, 1) := dk_46 (dk_at dksL_law_22 20 rfl rfl)
theorem dL_law_588 : decode cL_law 588 = .ok (.aload_n 0, 1) := dk_42 (dk_at dksL_law_22 21 rfl rfl)
theorem dL_law_589 : decode cL_law 589 = .ok (.iload 4, 2) := dk_21 4 (dk_at dksL_law_22 22 rfl rfl)
theorem dL_law_591 : decode cL_law 591 = .ok (.bipush 6, 2) := dk_16 6 (dk_at dksL_law_23 0 rfl rfl)
theorem dL_law_593 : decode cL_law 593 = .ok (.iadd, 1) := dk_96 (dk_at dksL_law_23 2 rfl rfl)
theorem dL_law_594 : decode cL_law 594 = .ok (.iaload, 1) := dk_46 (dk_at dksL_law_23 3 rfl rfl)
theorem dL_law_595 : decode cL_law 595 = .ok (.aload_n 0, 1) := dk_42 (dk_at dksL_law_23 4 rfl rfl)
theorem dL_law_596 : decode cL_law 596 = .ok (.iload 4, 2) := dk_21 4 (dk_at dksL_law_23 5 rfl rfl)
theorem dL_law_598 : decode cL_law 598 = .ok (.bipush 7, 2) := dk_16 7 (dk_at dksL_law_23 7 rfl rfl)
theorem dL_law_600 : decode cL_law 600 = .ok (.iadd, 1) := dk_96 (dk_at dksL_law_23 9 rfl rfl)
theorem dL_law_601 : decode cL_law 601 = .ok (.iaload, 1) := dk_46 (dk_at dksL_law_23 10 rfl rfl)
theorem dL_law_602 : decode cL_law 602 = .ok (.invokevirtual 77, 3) := dk_182 0 77 (dk_at dksL_law_23 11 rfl rfl)
theorem dL_law_605 : decode cL_law 605 = .ok (.aload_n 2, 1) := dk_44 (dk_at dksL_law_23 14 rfl rfl)
theorem dL_law_606 : decode cL_law 606 = .ok (.aload_n 0, 1) := dk_42 (dk_at dksL_law_23 15 rfl rfl)
theorem dL_law_607 : decode cL_law 607 = .ok (.iload 4, 2) := dk_21 4 (dk_at dksL_law_23 16 rfl rfl)
theorem dL_law_609 : decode cL_law 609 = .ok (.iconst 1, 1) := dk_4 (dk_at dksL_law_23 18 rfl rfl)
theorem dL_law_610 : decode cL_law 610 = .ok (.iadd, 1) := dk_96 (dk_at dksL_law_23 19 rfl rfl)
theorem dL_law_611 : decode cL_law 611 = .ok (.iaload, 1) := dk_46 (dk_at dksL_law_23 20 rfl rfl)
theorem dL_law_612 : decode cL_law 612 = .ok (.aload_n 0, 1) := dk_42 (dk_at dksL_law_23 21 rfl rfl)
theorem dL_law_613 : decode cL_law 613 = .ok (.iload 4, 2) := dk_21 4 (dk_at dksL_law_23 22 rfl rfl)
theorem dL_law_615 : decode cL_law 615 = .ok (.iconst 2, 1) := dk_5 (dk_at dksL_law_24 0 rfl rfl)
theorem dL_law_616 : decode cL_law 616 = .ok (.iadd, 1) := dk_96 (dk_at dksL_law_24 1 rfl rfl)
theorem dL_law_617 : decode cL_law 617 = .ok (.iaload, 1) := dk_46 (dk_at dksL_law_24 2 rfl rfl)
theorem dL_law_618 : decode cL_law 618 = .ok (.aload_n 0, 1) := dk_42 (dk_at dksL_law_24 3 rfl rfl)
theorem dL_law_619 : decode cL_law 619 = .ok (.iload 4, 2) := dk_21 4 (dk_at dksL_law_24 4 rfl rfl)
theorem dL_law_621 : decode cL_law 621 = .ok (.iconst 3, 1) := dk_6 (dk_at dksL_law_24 6 rfl rfl)
theorem dL_law_622 : decode cL_law 622 = .ok (.iadd, 1) := dk_96 (dk_at dksL_law_24 7 rfl rfl)
theorem dL_law_623 : decode cL_law 623 = .ok (.iaload, 1) := dk_46 (dk_at dksL_law_24 8 rfl rfl)
theorem dL_law_624 : decode cL_law 624 = .ok (.aload_n 0, 1) := dk_42 (dk_at dksL_law_24 9 rfl rfl)
theorem dL_law_625 : decode cL_law 625 = .ok (.iload 4, 2) := dk_21 4 (dk_at dksL_law_24 10 rfl rfl)
theorem dL_law_627 : decode cL_law 627 = .ok (.iconst 4, 1) := dk_7 (dk_at dksL_law_24 12 rfl rfl)
theorem dL_law_628 : decode cL_law 628 = .ok (.iadd, 1) := dk_96 (dk_at dksL_law_24 13 rfl rfl)
theorem dL_law_629 : decode cL_law 629 = .ok (.iaload, 1) := dk_46 (dk_at dksL_law_24 14 rfl rfl)
theorem dL_law_630 : decode cL_law 630 = .ok (.aload_n 0, 1) := dk_42 (dk_at dksL_law_24 15 rfl rfl)
theorem dL_law_631 : decode cL_law 631 = .ok (.iload 4, 2) := dk_21 4 (dk_at dksL_law_24 16 rfl rfl)
theorem dL_law_633 : decode cL_law 633 = .ok (.iconst 5, 1) := dk_8 (dk_at dksL_law_24 18 rfl rfl)
theorem dL_law_634 : decode cL_law 634 = .ok (.iadd, 1) := dk_96 (dk_at dksL_law_24 19 rfl rfl)
theorem dL_law_635 : decode cL_law 635 = .ok (.iaload, 1) := dk_46 (dk_at dksL_law_24 20 rfl rfl)
theorem dL_law_636 : decode cL_law 636 = .ok (.aload_n 0, 1) := dk_42 (dk_at dksL_law_24 21 rfl rfl)
theorem dL_law_637 : decode cL_law 637 = .ok (.iload 4, 2) := dk_21 4 (dk_at dksL_law_24 22 rfl rfl)
theorem dL_law_639 : decode cL_law 639 = .ok (.bipush 6, 2) := dk_16 6 (dk_at dksL_law_25 0 rfl rfl)
theorem dL_law_641 : decode cL_law 641 = .ok (.iadd, 1) := dk_96 (dk_at dksL_law_25 2 rfl rfl)
theorem dL_law_642 : decode cL_law 642 = .ok (.iaload, 1) := dk_46 (dk_at dksL_law_25 3 rfl rfl)
theorem dL_law_643 : decode cL_law 643 = .ok (.aload_n 0, 1) := dk_42 (dk_at dksL_law_25 4 rfl rfl)
theorem dL_law_644 : decode cL_law 644 = .ok (.iload 4, 2) := dk_21 4 (dk_at dksL_law_25 5 rfl rfl)
theorem dL_law_646 : decode cL_law 646 = .ok (.bipush 7, 2) := dk_16 7 (dk_at dksL_law_25 7 rfl rfl)
theorem dL_law_648 : decode cL_law 648 = .ok (.iadd, 1) := dk_96 (dk_at dksL_law_25 9 rfl rfl)
theorem dL_law_649 : decode cL_law 649 = .ok (.iaload, 1) := dk_46 (dk_at dksL_law_25 10 rfl rfl)
theorem dL_law_650 : decode cL_law 650 = .ok (.invokevirtual 81, 3) := dk_182 0 81 (dk_at dksL_law_25 11 rfl rfl)
theorem dL_law_653 : decode cL_law 653 = .ok (.if_icmp .eq 180, 3) := dk_159 0 180 (dk_at dksL_law_25 14 rfl rfl)
theorem dL_law_656 : decode cL_law 656 = .ok (.iconst 0, 1) := dk_3 (dk_at dksL_law_25 17 rfl rfl)
theorem dL_law_657 : decode cL_law 657 = .ok (.ireturn, 1) := dk_172 (dk_at dksL_law_25 18 rfl rfl)
theorem dL_law_658 : decode cL_law 658 = .ok (.aload_n 1, 1) := dk_43 (dk_at dksL_law_25 19 rfl rfl)
theorem dL_law_659 : decode cL_law 659 = .ok (.aload_n 0, 1) := dk_42 (dk_at dksL_law_25 20 rfl rfl)
theorem dL_law_660 : decode cL_law 660 = .ok (.iload 4, 2) := dk_21 4 (dk_at dksL_law_25 21 rfl rfl)
theorem dL_law_662 : decode cL_law 662 = .ok (.iconst 1, 1) := dk_4 (dk_at dksL_law_25 23 rfl rfl)
theorem dL_law_663 : decode cL_law 663 = .ok (.iadd, 1) := dk_96 (dk_at dksL_law_26 0 rfl rfl)
theorem dL_law_664 : decode cL_law 664 = .ok (.iaload, 1) := dk_46 (dk_at dksL_law_26 1 rfl rfl)
theorem dL_law_665 : decode cL_law 665 = .ok (.invokevirtual 82, 3) := dk_182 0 82 (dk_at dksL_law_26 2 rfl rfl)
theorem dL_law_668 : decode cL_law 668 = .ok (.aload_n 2, 1) := dk_44 (dk_at dksL_law_26 5 rfl rfl)
theorem dL_law_669 : decode cL_law 669 = .ok (.aload_n 0, 1) := dk_42 (dk_at dksL_law_26 6 rfl rfl)
theorem dL_law_670 : decode cL_law 670 = .ok (.iload 4, 2) := dk_21 4 (dk_at dksL_law_26 7 rfl rfl)
theorem dL_law_672 : decode cL_law 672 = .ok (.iconst 1, 1) := dk_4 (dk_at dksL_law_26 9 rfl rfl)
theorem dL_law_673 : decode cL_law 673 = .ok (.iadd, 1) := dk_96 (dk_at dksL_law_26 10 rfl rfl)
theorem dL_law_674 : decode cL_law 674 = .ok (.iaload, 1) := dk_46 (dk_at dksL_law_26 11 rfl rfl)
theorem dL_law_675 : decode cL_law 675 = .ok (.invokevirtual 85, 3) := dk_182 0 85 (dk_at dksL_law_26 12 rfl rfl)
theorem dL_law_678 : decode cL_law 678 = .ok (.if_icmp .eq 155, 3) := dk_159 0 155 (dk_at dksL_law_26 15 rfl rfl)
theorem dL_law_681 : decode cL_law 681 = .ok (.iconst 0, 1) := dk_3 (dk_at dksL_law_26 18 rfl rfl)
theorem dL_law_682 : decode cL_law 682 = .ok (.ireturn, 1) := dk_172 (dk_at dksL_law_26 19 rfl rfl)
theorem dL_law_683 : decode cL_law 683 = .ok (.aload_n 1, 1) := dk_43 (dk_at dksL_law_26 20 rfl rfl)
theorem dL_law_684 : decode cL_law 684 = .ok (.aload_n 0, 1) := dk_42 (dk_at dksL_law_26 21 rfl rfl)
theorem dL_law_685 : decode cL_law 685 = .ok (.iload 4, 2) := dk_21 4 (dk_at dksL_law_26 22 rfl rfl)
theorem dL_law_687 : decode cL_law 687 = .ok (.iconst 1, 1) := dk_4 (dk_at dksL_law_27 0 rfl rfl)
theorem dL_law_688 : decode cL_law 688 = .ok (.iadd, 1) := dk_96 (dk_at dksL_law_27 1 rfl rfl)
theorem dL_law_689 : decode cL_law 689 = .ok (.iaload, 1) := dk_46 (dk_at dksL_law_27 2 rfl rfl)
theorem dL_law_690 : decode cL_law 690 = .ok (.aload_n 0, 1) := dk_42 (dk_at dksL_law_27 3 rfl rfl)
theorem dL_law_691 : decode cL_law 691 = .ok (.iload 4, 2) := dk_21 4 (dk_at dksL_law_27 4 rfl rfl)
theorem dL_law_693 : decode cL_law 693 = .ok (.iconst 2, 1) := dk_5 (dk_at dksL_law_27 6 rfl rfl)
theorem dL_law_694 : decode cL_law 694 = .ok (.iadd, 1) := dk_96 (dk_at dksL_law_27 7 rfl rfl)
theorem dL_law_695 : decode cL_law 695 = .ok (.iaload, 1) := dk_46 (dk_at dksL_law_27 8 rfl rfl)
theorem dL_law_696 : decode cL_law 696 = .ok (.aload_n 0, 1) := dk_42 (dk_at dksL_law_27 9 rfl rfl)
theorem dL_law_697 : decode cL_law 697 = .ok (.iload 4, 2) := dk_21 4 (dk_at dksL_law_27 10 rfl rfl)
theorem dL_law_699 : decode cL_law 699 = .ok (.iconst 3, 1) := dk_6 (dk_at dksL_law_27 12 rfl rfl)
theorem dL_law_700 : decode cL_law 700 = .ok (.iadd, 1) := dk_96 (dk_at dksL_law_27 13 rfl rfl)
theorem dL_law_701 : decode cL_law 701 = .ok (.iaload, 1) := dk_46 (dk_at dksL_law_27 14 rfl rfl)
theorem dL_law_702 : decode cL_law 702 = .ok (.aload_n 0, 1) := dk_42 (dk_at dksL_law_27 15 rfl rfl)
theorem dL_law_703 : decode cL_law 703 = .ok (.iload 4, 2) := dk_21 4 (dk_at dksL_law_27 16 rfl rfl)
theorem dL_law_705 : decode cL_law 705 = .ok (.iconst 4, 1) := dk_7 (dk_at dksL_law_27 18 rfl rfl)
theorem dL_law_706 : decode cL_law 706 = .ok (.iadd, 1) := dk_96 (dk_at dksL_law_27 19 rfl rfl)
theorem dL_law_707 : decode cL_law 707 = .ok (.iaload, 1) := dk_46 (dk_at dksL_law_27 20 rfl rfl)
theorem dL_law_708 : decode cL_law 708 = .ok (.invokevirtual 86, 3) := dk_182 0 86 (dk_at dksL_law_27 21 rfl rfl)
theorem dL_law_711 : decode cL_law 711 = .ok (.aload_n 2, 1) := dk_44 (dk_at dksL_law_28 0 rfl rfl)
theorem dL_law_712 : decode cL_law 712 = .ok (.aload_n 0, 1) := dk_42 (dk_at dksL_law_28 1 rfl rfl)
theorem dL_law_713 : decode cL_law 713 = .ok (.iload 4, 2) := dk_21 4 (dk_at dksL_law_28 2 rfl rfl)
theorem dL_law_715 : decode cL_law 715 = .ok (.iconst 1, 1) := dk_4 (dk_at dksL_law_28 4 rfl rfl)
theorem dL_law_716 : decode cL_law 716 = .ok (.iadd, 1) := dk_96 (dk_at dksL_law_28 5 rfl rfl)
theorem dL_law_717 : decode cL_law 717 = .ok (.iaload, 1) := dk_46 (dk_at dksL_law_28 6 rfl rfl)
theorem dL_law_718 : decode cL_law 718 = .ok (.aload_n 0, 1) := dk_42 (dk_at dksL_law_28 7 rfl rfl)
theorem dL_law_719 : decode cL_law 719 = .ok (.iload 4, 2) := dk_21 4 (dk_at dksL_law_28 8 rfl rfl)
theorem dL_law_721 : decode cL_law 721 = .ok (.iconst 2, 1) := dk_5 (dk_at dksL_law_28 10 rfl rfl)
theorem dL_law_722 : decode cL_law 722 = .ok (.iadd, 1) := dk_96 (dk_at dksL_law_28 11 rfl rfl)
theorem dL_law_723 : decode cL_law 723 = .ok (.iaload, 1) := dk_46 (dk_at dksL_law_28 12 rfl rfl)
theorem dL_law_724 : decode cL_law 724 = .ok (.aload_n 0, 1) := dk_42 (dk_at dksL_law_28 13 rfl rfl)
theorem dL_law_725 : decode cL_law 725 = .ok (.iload 4, 2) := dk_21 4 (dk_at dksL_law_28 14 rfl rfl)
theorem dL_law_727 : decode cL_law 727 = .ok (.iconst 3, 1) := dk_6 (dk_at dksL_law_28 16 rfl rfl)
theorem dL_law_728 : decode cL_law 728 = .ok (.iadd, 1) := dk_96 (dk_at dksL_law_28 17 rfl rfl)
theorem dL_law_729 : decode cL_law 729 = .ok (.iaload, 1) := dk_46 (dk_at dksL_law_28 18 rfl rfl)
theorem dL_law_730 : decode cL_law 730 = .ok (.aload_n 0, 1) := dk_42 (dk_at dksL_law_28 19 rfl rfl)
theorem dL_law_731 : decode cL_law 731 = .ok (.iload 4, 2) := dk_21 4 (dk_at dksL_law_28 20 rfl rfl)
theorem dL_law_733 : decode cL_law 733 = .ok (.iconst 4, 1) := dk_7 (dk_at dksL_law_28 22 rfl rfl)
theorem dL_law_734 : decode cL_law 734 = .ok (.iadd, 1) := dk_96 (dk_at dksL_law_28 23 rfl rfl)
theorem dL_law_735 : decode cL_law 735 = .ok (.iaload, 1) := dk_46 (dk_at dksL_law_29 0 rfl rfl)
theorem dL_law_736 : decode cL_law 736 = .ok (.invokevirtual 90, 3) := dk_182 0 90 (dk_at dksL_law_29 1 rfl rfl)
theorem dL_law_739 : decode cL_law 739 = .ok (.lcmp, 1) := dk_148 (dk_at dksL_law_29 4 rfl rfl)
theorem dL_law_740 : decode cL_law 740 = .ok (.ifCond .eq 93, 3) := dk_153 0 93 (dk_at dksL_law_29 5 rfl rfl)
theorem dL_law_743 : decode cL_law 743 = .ok (.iconst 0, 1) := dk_3 (dk_at dksL_law_29 8 rfl rfl)
theorem dL_law_744 : decode cL_law 744 = .ok (.ireturn, 1) := dk_172 (dk_at dksL_law_29 9 rfl rfl)
theorem dL_law_745 : decode cL_law 745 = .ok (.aload_n 1, 1) := dk_43 (dk_at dksL_law_29 10 rfl rfl)
theorem dL_law_746 : decode cL_law 746 = .ok (.aload_n 0, 1) := dk_42 (dk_at dksL_law_29 11 rfl rfl)
theorem dL_law_747 : decode cL_law 747 = .ok (.iload 4, 2) := dk_21 4 (dk_at dksL_law_29 12 rfl rfl)
theorem dL_law_749 : decode cL_law 749 = .ok (.iconst 1, 1) := dk_4 (dk_at dksL_law_29 14 rfl rfl)
theorem dL_law_750 : decode cL_law 750 = .ok (.iadd, 1) := dk_96 (dk_at dksL_law_29 15 rfl rfl)
theorem dL_law_751 : decode cL_law 751 = .ok (.iaload, 1) := dk_46 (dk_at dksL_law_29 16 rfl rfl)
theorem dL_law_752 : decode cL_law 752 = .ok (.aload_n 0, 1) := dk_42 (dk_at dksL_law_29 17 rfl rfl)
theorem dL_law_753 : decode cL_law 753 = .ok (.iload 4, 2) := dk_21 4 (dk_at dksL_law_29 18 rfl rfl)
theorem dL_law_755 : decode cL_law 755 = .ok (.iconst 2, 1) := dk_5 (dk_at dksL_law_29 20 rfl rfl)
theorem dL_law_756 : decode cL_law 756 = .ok (.iadd, 1) := dk_96 (dk_at dksL_law_29 21 rfl rfl)
theorem dL_law_757 : decode cL_law 757 = .ok (.iaload, 1) := dk_46 (dk_at dksL_law_29 22 rfl rfl)
theorem dL_law_758 : decode cL_law 758 = .ok (.invokevirtual 91, 3) := dk_182 0 91 (dk_at dksL_law_30 0 rfl rfl)
theorem dL_law_761 : decode cL_law 761 = .ok (.aload_n 2, 1) := dk_44 (dk_at dksL_law_30 3 rfl rfl)
theorem dL_law_762 : decode cL_law 762 = .ok (.aload_n 0, 1) := dk_42 (dk_at dksL_law_30 4 rfl rfl)
theorem dL_law_763 : decode cL_law 763 = .ok (.iload 4, 2) := dk_21 4 (dk_at dksL_law_30 5 rfl rfl)
theorem dL_law_765 : decode cL_law 765 = .ok (.iconst 1, 1) := dk_4 (dk_at dksL_law_30 7 rfl rfl)
theorem dL_law_766 : decode cL_law 766 = .ok (.iadd, 1) := dk_96 (dk_at dksL_law_30 8 rfl rfl)
theorem dL_law_767 : decode cL_law 767 = .ok (.iaload, 1) := dk_46 (dk_at dksL_law_30 9 rfl rfl)
theorem dL_law_768 : decode cL_law 768 = .ok (.aload_n 0, 1) := dk_42 (dk_at dksL_law_30 10 rfl rfl)
theorem dL_law_769 : decode cL_law 769 = .ok (.iload 4, 2) := dk_21 4 (dk_at dksL_law_30 11 rfl rfl)
theorem dL_law_771 : decode cL_law 771 = .ok (.iconst 2, 1) := dk_5 (dk_at dksL_law_30 13 rfl rfl)
theorem dL_law_772 : decode cL_law 772 = .ok (.iadd, 1) := dk_96 (dk_at dksL_law_30 14 rfl rfl)
theorem dL_law_773 : decode cL_law 773 = .ok (.iaload, 1) := dk_46 (dk_at dksL_law_30 15 rfl rfl)
theorem dL_law_774 : decode cL_law 774 = .ok (.invokevirtual 94, 3) := dk_182 0 94 (dk_at dksL_law_30 16 rfl rfl)
theorem dL_law_777 : decode cL_law 777 = .ok (.if_icmp .eq 56, 3) := dk_159 0 56 (dk_at dksL_law_30 19 rfl rfl)
theorem dL_law_780 : decode cL_law 780 = .ok (.iconst 0, 1) := dk_3 (dk_at dksL_law_30 22 rfl rfl)
theorem dL_law_781 : decode cL_law 781 = .ok (.ireturn, 1) := dk_172 (dk_at dksL_law_30 23 rfl rfl)
theorem dL_law_782 : decode cL_law 782 = .ok (.aload_n 1, 1) := dk_43 (dk_at dksL_law_31 0 rfl rfl)
theorem dL_law_783 : decode cL_law 783 = .ok (.aload_n 0, 1) := dk_42 (dk_at dksL_law_31 1 rfl rfl)
theorem dL_law_784 : decode cL_law 784 = .ok (.iload 4, 2) := dk_21 4 (dk_at dksL_law_31 2 rfl rfl)
theorem dL_law_786 : decode cL_law 786 = .ok (.iconst 1, 1) := dk_4 (dk_at dksL_law_31 4 rfl rfl)
theorem dL_law_787 : decode cL_law 787 = .ok (.iadd, 1) := dk_96 (dk_at dksL_law_31 5 rfl rfl)
theorem dL_law_788 : decode cL_law 788 = .ok (.iaload, 1) := dk_46 (dk_at dksL_law_31 6 rfl rfl)
theorem dL_law_789 : decode cL_law 789 = .ok (.invokevirtual 95, 3) := dk_182 0 95 (dk_at dksL_law_31 7 rfl rfl)
theorem dL_law_792 : decode cL_law 792 = .ok (.aload_n 2, 1) := dk_44 (dk_at dksL_law_31 10 rfl rfl)
theorem dL_law_793 : decode cL_law 793 = .ok (.aload_n 0, 1) := dk_42 (dk_at dksL_law_31 11 rfl rfl)
theorem dL_law_794 : decode cL_law 794 = .ok (.iload 4, 2) := dk_21 4 (dk_at dksL_law_31 12 rfl rfl)
theorem dL_law_796 : decode cL_law 796 = .ok (.iconst 1, 1) := dk_4 (dk_at dksL_law_31 14 rfl rfl)
theorem dL_law_797 : decode cL_law 797 = .ok (.iadd, 1) := dk_96 (dk_at dksL_law_31 15 rfl rfl)
theorem dL_law_798 : decode cL_law 798 = .ok (.iaload, 1) := dk_46 (dk_at dksL_law_31 16 rfl rfl)
theorem dL_law_799 : decode cL_law 799 = .ok (.invokevirtual 98, 3) := dk_182 0 98 (dk_at dksL_law_31 17 rfl rfl)
theorem dL_law_802 : decode cL_law 802 = .ok (.if_icmp .eq 31, 3) := dk_159 0 31 (dk_at dksL_law_31 20 rfl rfl)
theorem dL_law_805 : decode cL_law 805 = .ok (.iconst 0, 1) := dk_3 (dk_at dksL_law_31 23 rfl rfl)
theorem dL_law_806 : decode cL_law 806 = .ok (.ireturn, 1) := dk_172 (dk_at dksL_law_32 0 rfl rfl)
theorem dL_law_807 : decode cL_law 807 = .ok (.aload_n 1, 1) := dk_43 (dk_at dksL_law_32 1 rfl rfl)
theorem dL_law_808 : decode cL_law 808 = .ok (.aload_n 0, 1) := dk_42 (dk_at dksL_law_32 2 rfl rfl)
theorem dL_law_809 : decode cL_law 809 = .ok (.iload 4, 2) := dk_21 4 (dk_at dksL_law_32 3 rfl rfl)
theorem dL_law_811 : decode cL_law 811 = .ok (.iconst 1, 1) := dk_4 (dk_at dksL_law_32 5 rfl rfl)
theorem dL_law_812 : decode cL_law 812 = .ok (.iadd, 1) := dk_96 (dk_at dksL_law_32 6 rfl rfl)
theorem dL_law_813 : decode cL_law 813 = .ok (.iaload, 1) := dk_46 (dk_at dksL_law_32 7 rfl rfl)
theorem dL_law_814 : decode cL_law 814 = .ok (.invokevirtual 99, 3) := dk_182 0 99 (dk_at dksL_law_32 8 rfl rfl)
theorem dL_law_817 : decode cL_law 817 = .ok (.aload_n 2, 1) := dk_44 (dk_at dksL_law_32 11 rfl rfl)
theorem dL_law_818 : decode cL_law 818 = .ok (.aload_n 0, 1) := dk_42 (dk_at dksL_law_32 12 rfl rfl)
theorem dL_law_819 : decode cL_law 819 = .ok (.iload 4, 2) := dk_21 4 (dk_at dksL_law_32 13 rfl rfl)
theorem dL_law_821 : decode cL_law 821 = .ok (.iconst 1, 1) := dk_4 (dk_at dksL_law_32 15 rfl rfl)
theorem dL_law_822 : decode cL_law 822 = .ok (.iadd, 1) := dk_96 (dk_at dksL_law_32 16 rfl rfl)
theorem dL_law_823 : decode cL_law 823 = .ok (.iaload, 1) := dk_46 (dk_at dksL_law_32 17 rfl rfl)
theorem dL_law_824 : decode cL_law 824 = .ok (.invokevirtual 103, 3) := dk_182 0 103 (dk_at dksL_law_32 18 rfl rfl)
theorem dL_law_827 : decode cL_law 827 = .ok (.lcmp, 1) := dk_148 (dk_at dksL_law_32 21 rfl rfl)
theorem dL_law_828 : decode cL_law 828 = .ok (.ifCond .eq 5, 3) := dk_153 0 5 (dk_at dksL_law_33 0 rfl rfl)
theorem dL_law_831 : decode cL_law 831 = .ok (.iconst 0, 1) := dk_3 (dk_at dksL_law_33 3 rfl rfl)
theorem dL_law_832 : decode cL_law 832 = .ok (.ireturn, 1) := dk_172 (dk_at dksL_law_33 4 rfl rfl)
theorem dL_law_833 : decode cL_law 833 = .ok (.iinc 4 8, 3) := dk_132 4 8 (dk_at dksL_law_33 5 rfl rfl)
theorem dL_law_836 : decode cL_law 836 = .ok (.goto (-813), 3) := dk_167 252 211 (dk_at dksL_law_33 8 rfl rfl)
theorem dL_law_839 : decode cL_law 839 = .ok (.iconst 1, 1) := dk_4 (dk_at dksL_law_33 11 rfl rfl)
theorem dL_law_840 : decode cL_law 840 = .ok (.ireturn, 1) := dk_172 (dk_at dksL_law_33 12 rfl rfl)
