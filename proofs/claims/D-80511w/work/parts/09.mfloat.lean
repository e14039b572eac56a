set_option maxRecDepth 100000
abbrev dN (v : UInt64) : Prop := FP.dcmp v v = none
abbrev fN (v : UInt32) : Prop := FP.fcmp v v = none
theorem ord_self (d : FP.Core.Datum) : FP.Core.order d d = none ∨ FP.Core.order d d = some .eq := by
  cases d with
  | nan => exact Or.inl rfl
  | inf b => right; simp [FP.Core.order]
  | fin a b c => right; simp [FP.Core.order]
theorem dN_cmp (v : UInt64) {op : CmpOp} : Op.cmpValue (FP.dcmp v v) op = 0 ↔ ¬ dN v := by
  rcases ord_self (FP.Core.decode FP.Core.b64 v.toNat) with h | h
  · have h1 : FP.dcmp v v = none := h
    rw [h1]; cases op <;> simp [Op.cmpValue, dN, h1]
  · have h1 : FP.dcmp v v = some .eq := h
    rw [h1]; cases op <;> simp [Op.cmpValue, dN, h1]
theorem fN_cmp (v : UInt32) {op : CmpOp} : Op.cmpValue (FP.fcmp v v) op = 0 ↔ ¬ fN v := by
  rcases ord_self (FP.Core.decode FP.Core.b32 v.toNat) with h | h
  · have h1 : FP.fcmp v v = none := h
    rw [h1]; cases op <;> simp [Op.cmpValue, fN, h1]
  · have h1 : FP.fcmp v v = some .eq := h
    rw [h1]; cases op <;> simp [Op.cmpValue, fN, h1]
/-- the bits of a double, of a float; of none the constant -/
def mdB (v : UInt64) : Int64 := if dN v then 9221120237041090560 else v.toInt64
def mfI (v : UInt32) : Int32 := if fN v then 2143289344 else v.toInt32
def mfB (v : UInt32) : Int64 := if fN v then 2143289344 else v.toInt32.toInt64
/-- the double of bits, the float of bits -/
def mdO (b : Int64) : UInt64 := if b &&& 9223372036854775807 ≤ 9218868437227405312 then b.toUInt64 else 9221120237041090560
def mfO (b : Int32) : UInt32 := if b &&& 2147483647 ≤ 2139095040 then b.toUInt32 else 2143289344
theorem and63 (b : Int64) : (b &&& 9223372036854775807).toInt = ((b.toUInt64 &&& 0x7fffffffffffffff).toNat : Int) := by
  have h1 : (b &&& 9223372036854775807).toBitVec.toNat = b.toBitVec.toNat % 2 ^ 63 := by
    have : (b &&& 9223372036854775807).toBitVec = b.toBitVec &&& (9223372036854775807 : Int64).toBitVec := rfl
    rw [this, BitVec.toNat_and, show ((9223372036854775807 : Int64).toBitVec).toNat = 2 ^ 63 - 1 from rfl, Nat.and_two_pow_sub_one_eq_mod]
  have h2 : (b.toUInt64 &&& 0x7fffffffffffffff).toNat = b.toBitVec.toNat % 2 ^ 63 := by
    rw [UInt64.toNat_and, show ((0x7fffffffffffffff : UInt64)).toNat = 2 ^ 63 - 1 from rfl, Nat.and_two_pow_sub_one_eq_mod]
    rfl
  have h3 : b.toBitVec.toNat % 2 ^ 63 < 2 ^ 63 := Nat.mod_lt _ (by decide)
  show (b &&& 9223372036854775807).toBitVec.toInt = _
  rw [BitVec.toInt_eq_toNat_of_lt (by rw [h1]; omega), h1, h2]
theorem and31 (b : Int32) : (b &&& 2147483647).toInt = ((b.toUInt32 &&& 0x7fffffff).toNat : Int) := by
  have h1 : (b &&& 2147483647).toBitVec.toNat = b.toBitVec.toNat % 2 ^ 31 := by
    have : (b &&& 2147483647).toBitVec = b.toBitVec &&& (2147483647 : Int32).toBitVec := rfl
    rw [this, BitVec.toNat_and, show ((2147483647 : Int32).toBitVec).toNat = 2 ^ 31 - 1 from rfl, Nat.and_two_pow_sub_one_eq_mod]
  have h2 : (b.toUInt32 &&& 0x7fffffff).toNat = b.toBitVec.toNat % 2 ^ 31 := by
    rw [UInt32.toNat_and, show ((0x7fffffff : UInt32)).toNat = 2 ^ 31 - 1 from rfl, Nat.and_two_pow_sub_one_eq_mod]
    rfl
  have h3 : b.toBitVec.toNat % 2 ^ 31 < 2 ^ 31 := Nat.mod_lt _ (by decide)
  show (b &&& 2147483647).toBitVec.toInt = _
  rw [BitVec.toInt_eq_toNat_of_lt (by rw [h1]; omega), h1, h2]
theorem num63 {b : Int64} : b &&& 9223372036854775807 ≤ 9218868437227405312 ↔ (b.toUInt64 &&& 0x7fffffffffffffff).toNat ≤ 9218868437227405312 := by
  rw [Int64.le_iff_toInt_le, and63, show (9218868437227405312 : Int64).toInt = 9218868437227405312 from rfl]
  omega
theorem num31 {b : Int32} : b &&& 2147483647 ≤ 2139095040 ↔ (b.toUInt32 &&& 0x7fffffff).toNat ≤ 2139095040 := by
  rw [Int32.le_iff_toInt_le, and31, show (2139095040 : Int32).toInt = 2139095040 from rfl]
  omega
theorem snl2d_of {b : Int64} (h : b &&& 9223372036854775807 ≤ 9218868437227405312) : vn_snl2d b = false := by
  have h1 := num63.mp h
  have h2 : ¬ (b.toUInt64 &&& 0x7fffffffffffffff > 0x7ff0000000000000) := by
    intro z
    have := UInt64.lt_iff_toNat_lt.mp z
    rw [show ((0x7ff0000000000000 : UInt64)).toNat = 9218868437227405312 from rfl] at this
    omega
  simp [vn_snl2d, h2]
theorem sni2f_of {b : Int32} (h : b &&& 2147483647 ≤ 2139095040) : vn_sni2f b = false := by
  have h1 := num31.mp h
  have h2 : ¬ (b.toUInt32 &&& 0x7fffffff > 0x7f800000) := by
    intro z
    have := UInt32.lt_iff_toNat_lt.mp z
    rw [show ((0x7f800000 : UInt32)).toNat = 2139095040 from rfl] at this
    omega
  simp [vn_sni2f, h2]
set_option maxHeartbeats 1000000 in
theorem c_J18_isNaN (l : Launch) (hl : l.stackTraces = false) (G : hp_G) (X : Nat → Nat) (N0 : Nat) (M : hp_h) (v : UInt64) : HM l yJ18_isNaN (ws_ yJ18_isNaN cJ18_isNaN 2 (some .boolean)) 0 0 0 0 G X N0 [.double v] M (PV (.int (bI (dN v))) M) PX0 := by
  refine HM.of hl [(0, .double v)] (by decide +kernel) rfl (Nat.le_of_ble_eq_true rfl) ?_
  intro p e s m args below meth c C hname
  refine V_dload_n C dJ18_isNaN_0 rfl 0 rfl ?_
  refine V_dload_n C dJ18_isNaN_1 rfl 0 rfl ?_
  refine V_dcmp C dJ18_isNaN_2 ?_
  refine V_if_eq (tgt := 10) C dJ18_isNaN_3 (by decide) (fun c_3 => ?_) (fun c_3 => ?_)
  · refine V_iconst (v := 0) C dJ18_isNaN_10 rfl ?_
    refine V_zret C rfl dJ18_isNaN_11 rfl ?_ (by first | exact Nat.le_of_ble_eq_true rfl | omega | (dsimp only; omega)) (by first | exact Nat.le_of_ble_eq_true rfl | omega | (dsimp only; omega))
    exact ⟨congrArg (fun z => some (Value.int z)) (bI_f (by rw [dN_cmp] at c_3; first | exact c_3 | exact Classical.not_not.mp c_3)), rfl⟩
  · refine V_iconst (v := 1) C dJ18_isNaN_6 rfl ?_
    refine V_goto (tgt := 11) C dJ18_isNaN_7 (by decide) ?_
    refine V_zret C rfl dJ18_isNaN_11 rfl ?_ (by first | exact Nat.le_of_ble_eq_true rfl | omega | (dsimp only; omega)) (by first | exact Nat.le_of_ble_eq_true rfl | omega | (dsimp only; omega))
    exact ⟨congrArg (fun z => some (Value.int z)) (bI_t (by rw [dN_cmp] at c_3; first | exact c_3 | exact Classical.not_not.mp c_3)), rfl⟩
set_option maxHeartbeats 1000000 in
theorem c_J17_isNaN (l : Launch) (hl : l.stackTraces = false) (G : hp_G) (X : Nat → Nat) (N0 : Nat) (M : hp_h) (v : UInt32) : HM l yJ17_isNaN (ws_ yJ17_isNaN cJ17_isNaN 1 (some .boolean)) 0 0 0 0 G X N0 [.float v] M (PV (.int (bI (fN v))) M) PX0 := by
  refine HM.of hl [(0, .float v)] (by decide +kernel) rfl (Nat.le_of_ble_eq_true rfl) ?_
  intro p e s m args below meth c C hname
  refine V_fload_n C dJ17_isNaN_0 rfl 0 rfl ?_
  refine V_fload_n C dJ17_isNaN_1 rfl 0 rfl ?_
  refine V_fcmp C dJ17_isNaN_2 ?_
  refine V_if_eq (tgt := 10) C dJ17_isNaN_3 (by decide) (fun c_3 => ?_) (fun c_3 => ?_)
  · refine V_iconst (v := 0) C dJ17_isNaN_10 rfl ?_
    refine V_zret C rfl dJ17_isNaN_11 rfl ?_ (by first | exact Nat.le_of_ble_eq_true rfl | omega | (dsimp only; omega)) (by first | exact Nat.le_of_ble_eq_true rfl | omega | (dsimp only; omega))
    exact ⟨congrArg (fun z => some (Value.int z)) (bI_f (by rw [fN_cmp] at c_3; first | exact c_3 | exact Classical.not_not.mp c_3)), rfl⟩
  · refine V_iconst (v := 1) C dJ17_isNaN_6 rfl ?_
    refine V_goto (tgt := 11) C dJ17_isNaN_7 (by decide) ?_
    refine V_zret C rfl dJ17_isNaN_11 rfl ?_ (by first | exact Nat.le_of_ble_eq_true rfl | omega | (dsimp only; omega)) (by first | exact Nat.le_of_ble_eq_true rfl | omega | (dsimp only; omega))
    exact ⟨congrArg (fun z => some (Value.int z)) (bI_t (by rw [fN_cmp] at c_3; first | exact c_3 | exact Classical.not_not.mp c_3)), rfl⟩
set_option maxHeartbeats 1000000 in
theorem c_J18_doubleToLongBits (l : Launch) (hl : l.stackTraces = false) (G : hp_G) (X : Nat → Nat) (N0 : Nat) (M : hp_h) (v : UInt64) : HM l yJ18_doubleToLongBits (ws_ yJ18_doubleToLongBits cJ18_doubleToLongBits 2 (some .long)) 1 23 0 0 G X N0 [.double v] M (PV (.long (mdB v)) M) PX0 := by
  refine HM.of hl [(0, .double v)] (by decide +kernel) rfl (Nat.le_of_ble_eq_true rfl) ?_
  intro p e s m args below meth c C hname
  refine V_dload_n C dJ18_doubleToLongBits_0 rfl 0 rfl ?_
  refine V_callS C (c_J18_isNaN l hl G X N0 M v) cs_J18_122 rfl rfl ⟨Nat.le_of_ble_eq_true rfl, Nat.le_of_ble_eq_true rfl⟩ ⟨(by first | exact Nat.le_of_ble_eq_true rfl | omega | (dsimp only; omega)), (by first | exact Nat.le_of_ble_eq_true rfl | omega | (dsimp only; omega))⟩ (Nat.le_of_ble_eq_true rfl) dJ18_doubleToLongBits_1 (fun _ _ _ h => px0 h) ?_
  rintro _ _ ⟨rfl, rfl⟩
  refine V_st (st' := [.int (bI (dN v))]) rfl ?_
  refine V_if_ne (tgt := 12) C dJ18_doubleToLongBits_4 (by decide) (fun c_4 => ?_) (fun c_4 => ?_)
  · refine V_ldc2 (v := 9221120237041090560) C (C.w q1205) dJ18_doubleToLongBits_12 ?_
    refine V_lret C dJ18_doubleToLongBits_15 rfl ?_ (by first | exact Nat.le_of_ble_eq_true rfl | omega | (dsimp only; omega)) (by first | exact Nat.le_of_ble_eq_true rfl | omega | (dsimp only; omega))
    refine ⟨congrArg (fun z => some (Value.long z)) ?_, rfl⟩
    unfold mdB
    first | rw [if_pos c_4] | rw [if_neg c_4] | (simp only [bI_0, Classical.not_not, dN_cmp, fN_cmp] at c_4; first | rw [if_pos c_4] | rw [if_neg c_4])
  · refine V_dload_n C dJ18_doubleToLongBits_7 rfl 0 rfl ?_
    refine V_d2l C ⟨q1202, q1204, q1203, q93⟩ ⟨Nat.le_of_ble_eq_true rfl, Nat.le_of_ble_eq_true rfl⟩ dJ18_doubleToLongBits_8 ?_
    refine V_lret C dJ18_doubleToLongBits_11 rfl ?_ (by first | exact Nat.le_of_ble_eq_true rfl | omega | (dsimp only; omega)) (by first | exact Nat.le_of_ble_eq_true rfl | omega | (dsimp only; omega))
    refine ⟨congrArg (fun z => some (Value.long z)) ?_, rfl⟩
    unfold mdB
    first | rw [if_pos c_4] | rw [if_neg c_4] | (simp only [bI_0, Classical.not_not, dN_cmp, fN_cmp] at c_4; first | rw [if_pos c_4] | rw [if_neg c_4])
set_option maxHeartbeats 1000000 in
theorem c_J17_floatToIntBits (l : Launch) (hl : l.stackTraces = false) (G : hp_G) (X : Nat → Nat) (N0 : Nat) (M : hp_h) (v : UInt32) : HM l yJ17_floatToIntBits (ws_ yJ17_floatToIntBits cJ17_floatToIntBits 1 (some .int)) 1 23 0 0 G X N0 [.float v] M (PV (.int (mfI v)) M) PX0 := by
  refine HM.of hl [(0, .float v)] (by decide +kernel) rfl (Nat.le_of_ble_eq_true rfl) ?_
  intro p e s m args below meth c C hname
  refine V_fload_n C dJ17_floatToIntBits_0 rfl 0 rfl ?_
  refine V_callS C (c_J17_isNaN l hl G X N0 M v) cs_J17_59 rfl rfl ⟨Nat.le_of_ble_eq_true rfl, Nat.le_of_ble_eq_true rfl⟩ ⟨(by first | exact Nat.le_of_ble_eq_true rfl | omega | (dsimp only; omega)), (by first | exact Nat.le_of_ble_eq_true rfl | omega | (dsimp only; omega))⟩ (Nat.le_of_ble_eq_true rfl) dJ17_floatToIntBits_1 (fun _ _ _ h => px0 h) ?_
  rintro _ _ ⟨rfl, rfl⟩
  refine V_st (st' := [.int (bI (fN v))]) rfl ?_
  refine V_if_ne (tgt := 12) C dJ17_floatToIntBits_4 (by decide) (fun c_4 => ?_) (fun c_4 => ?_)
  · refine V_ldc (v := 2143289344) C (C.w q1192) dJ17_floatToIntBits_12 ?_
    refine V_iret C dJ17_floatToIntBits_14 rfl ?_ (by first | exact Nat.le_of_ble_eq_true rfl | omega | (dsimp only; omega)) (by first | exact Nat.le_of_ble_eq_true rfl | omega | (dsimp only; omega))
    refine ⟨congrArg (fun z => some (Value.int z)) ?_, rfl⟩
    unfold mfI
    first | rw [if_pos c_4] | rw [if_neg c_4] | (simp only [bI_0, Classical.not_not, dN_cmp, fN_cmp] at c_4; first | rw [if_pos c_4] | rw [if_neg c_4])
  · refine V_fload_n C dJ17_floatToIntBits_7 rfl 0 rfl ?_
    refine V_f2i C ⟨q1189, q1191, q1190, q92⟩ ⟨Nat.le_of_ble_eq_true rfl, Nat.le_of_ble_eq_true rfl⟩ dJ17_floatToIntBits_8 ?_
    refine V_iret C dJ17_floatToIntBits_11 rfl ?_ (by first | exact Nat.le_of_ble_eq_true rfl | omega | (dsimp only; omega)) (by first | exact Nat.le_of_ble_eq_true rfl | omega | (dsimp only; omega))
    refine ⟨congrArg (fun z => some (Value.int z)) ?_, rfl⟩
    unfold mfI
    first | rw [if_pos c_4] | rw [if_neg c_4] | (simp only [bI_0, Classical.not_not, dN_cmp, fN_cmp] at c_4; first | rw [if_pos c_4] | rw [if_neg c_4])
set_option maxHeartbeats 1000000 in
theorem c_X20_realOfBits (l : Launch) (hl : l.stackTraces = false) (G : hp_G) (X : Nat → Nat) (N0 : Nat) (M : hp_h) (b : Int64) : HM l yX20_realOfBits (ws_ yX20_realOfBits cX20_realOfBits 2 (some .double)) 1 23 0 0 G X N0 [.long b] M (PV (.double (mdO b)) M) PX0 := by
  refine HM.of hl [(0, .long b)] (by decide +kernel) rfl (Nat.le_of_ble_eq_true rfl) ?_
  intro p e s m args below meth c C hname
  refine V_lload_n C dX20_realOfBits_0 rfl 0 rfl ?_
  refine V_ldc2 (v := 9223372036854775807) C (C.w q1640) dX20_realOfBits_1 ?_
  refine V_land C dX20_realOfBits_4 ?_
  refine V_ldc2 (v := 9218868437227405312) C (C.w q1641) dX20_realOfBits_5 ?_
  refine V_lcmp C dX20_realOfBits_8 ?_
  refine V_if_le (tgt := 18) C dX20_realOfBits_9 (by decide) (fun c_9 => ?_) (fun c_9 => ?_)
  · refine V_lload_n C dX20_realOfBits_18 rfl 0 rfl ?_
    refine V_l2d C ⟨q1643, q1271, q1270, q93⟩ (snl2d_of ((lg_cmp_le _ _).mp c_9)) ⟨Nat.le_of_ble_eq_true rfl, Nat.le_of_ble_eq_true rfl⟩ dX20_realOfBits_19 ?_
    refine V_dret C dX20_realOfBits_22 rfl ?_ (by first | exact Nat.le_of_ble_eq_true rfl | omega | (dsimp only; omega)) (by first | exact Nat.le_of_ble_eq_true rfl | omega | (dsimp only; omega))
    refine ⟨congrArg (fun z => some (Value.double z)) ?_, rfl⟩
    rw [lg_cmp_le] at c_9
    unfold mdO
    first | rw [if_pos c_9] | rw [if_neg c_9]
  · refine V_ldc2d (v := 9221120237041090560) C (C.w q1642) dX20_realOfBits_12 ?_
    refine V_goto (tgt := 22) C dX20_realOfBits_15 (by decide) ?_
    refine V_dret C dX20_realOfBits_22 rfl ?_ (by first | exact Nat.le_of_ble_eq_true rfl | omega | (dsimp only; omega)) (by first | exact Nat.le_of_ble_eq_true rfl | omega | (dsimp only; omega))
    refine ⟨congrArg (fun z => some (Value.double z)) ?_, rfl⟩
    rw [lg_cmp_le] at c_9
    unfold mdO
    first | rw [if_pos c_9] | rw [if_neg c_9]
set_option maxHeartbeats 1000000 in
theorem c_X20_singleOfBits (l : Launch) (hl : l.stackTraces = false) (G : hp_G) (X : Nat → Nat) (N0 : Nat) (M : hp_h) (b : Int32) : HM l yX20_singleOfBits (ws_ yX20_singleOfBits cX20_singleOfBits 1 (some .float)) 1 23 0 0 G X N0 [.int b] M (PV (.float (mfO b)) M) PX0 := by
  refine HM.of hl [(0, .int b)] (by decide +kernel) rfl (Nat.le_of_ble_eq_true rfl) ?_
  intro p e s m args below meth c C hname
  refine V_iload_n C dX20_singleOfBits_0 rfl 0 rfl ?_
  refine V_ldc (v := 2147483647) C (C.w q1628) dX20_singleOfBits_1 ?_
  refine V_iand C dX20_singleOfBits_3 ?_
  refine V_ldc (v := 2139095040) C (C.w q1629) dX20_singleOfBits_4 ?_
  refine V_icmp_le (tgt := 14) C dX20_singleOfBits_6 (by decide) (fun c_6 => ?_) (fun c_6 => ?_)
  · refine V_iload_n C dX20_singleOfBits_14 rfl 0 rfl ?_
    refine V_i2f C ⟨q1631, q1263, q1262, q92⟩ (sni2f_of c_6) ⟨Nat.le_of_ble_eq_true rfl, Nat.le_of_ble_eq_true rfl⟩ dX20_singleOfBits_15 ?_
    refine V_fret C dX20_singleOfBits_18 rfl ?_ (by first | exact Nat.le_of_ble_eq_true rfl | omega | (dsimp only; omega)) (by first | exact Nat.le_of_ble_eq_true rfl | omega | (dsimp only; omega))
    refine ⟨congrArg (fun z => some (Value.float z)) ?_, rfl⟩
    unfold mfO
    first | rw [if_pos c_6] | rw [if_neg c_6]
  · refine V_ldcf (v := 2143289344) C (C.w q1630) dX20_singleOfBits_9 ?_
    refine V_goto (tgt := 18) C dX20_singleOfBits_11 (by decide) ?_
    refine V_fret C dX20_singleOfBits_18 rfl ?_ (by first | exact Nat.le_of_ble_eq_true rfl | omega | (dsimp only; omega)) (by first | exact Nat.le_of_ble_eq_true rfl | omega | (dsimp only; omega))
    refine ⟨congrArg (fun z => some (Value.float z)) ?_, rfl⟩
    unfold mfO
    first | rw [if_pos c_6] | rw [if_neg c_6]
set_option maxHeartbeats 1000000 in
theorem c_X20_doubleBits (l : Launch) (hl : l.stackTraces = false) (G : hp_G) (X : Nat → Nat) (N0 : Nat) (M : hp_h) (v : UInt64) : HM l yX20_doubleBits (ws_ yX20_doubleBits cX20_doubleBits 2 (some .long)) 2 44 0 0 G X N0 [.double v] M (PV (.long (mdB v)) M) PX0 := by
  refine HM.of hl [(0, .double v)] (by decide +kernel) rfl (Nat.le_of_ble_eq_true rfl) ?_
  intro p e s m args below meth c C hname
  refine V_dload_n C dX20_doubleBits_0 rfl 0 rfl ?_
  refine V_dload_n C dX20_doubleBits_1 rfl 0 rfl ?_
  refine V_dcmp C dX20_doubleBits_2 ?_
  refine V_if_eq (tgt := 12) C dX20_doubleBits_3 (by decide) (fun c_3 => ?_) (fun c_3 => ?_)
  · refine V_dload_n C dX20_doubleBits_12 rfl 0 rfl ?_
    refine V_callS C (c_J18_doubleToLongBits l hl G X N0 M v) cs_X20_108 rfl rfl ⟨Nat.le_of_ble_eq_true rfl, Nat.le_of_ble_eq_true rfl⟩ ⟨(by first | exact Nat.le_of_ble_eq_true rfl | omega | (dsimp only; omega)), (by first | exact Nat.le_of_ble_eq_true rfl | omega | (dsimp only; omega))⟩ (Nat.le_of_ble_eq_true rfl) dX20_doubleBits_13 (fun _ _ _ h => px0 h) ?_
    rintro _ _ ⟨rfl, rfl⟩
    refine V_st (st' := [.long (mdB v)]) rfl ?_
    refine V_lret C dX20_doubleBits_16 rfl ?_ (by first | exact Nat.le_of_ble_eq_true rfl | omega | (dsimp only; omega)) (by first | exact Nat.le_of_ble_eq_true rfl | omega | (dsimp only; omega))
    exact ⟨rfl, rfl⟩
  · refine V_ldc2 (v := 9221120237041090560) C (C.w q1647) dX20_doubleBits_6 ?_
    refine V_goto (tgt := 16) C dX20_doubleBits_9 (by decide) ?_
    refine V_lret C dX20_doubleBits_16 rfl ?_ (by first | exact Nat.le_of_ble_eq_true rfl | omega | (dsimp only; omega)) (by first | exact Nat.le_of_ble_eq_true rfl | omega | (dsimp only; omega))
    refine ⟨congrArg (fun z => some (Value.long z)) ?_, rfl⟩
    rw [dN_cmp] at c_3
    unfold mdB
    rw [if_pos (Classical.not_not.mp c_3)]
set_option maxHeartbeats 1000000 in
theorem c_X20_floatBits (l : Launch) (hl : l.stackTraces = false) (G : hp_G) (X : Nat → Nat) (N0 : Nat) (M : hp_h) (v : UInt32) : HM l yX20_floatBits (ws_ yX20_floatBits cX20_floatBits 1 (some .long)) 2 43 0 0 G X N0 [.float v] M (PV (.long (mfB v)) M) PX0 := by
  refine HM.of hl [(0, .float v)] (by decide +kernel) rfl (Nat.le_of_ble_eq_true rfl) ?_
  intro p e s m args below meth c C hname
  refine V_fload_n C dX20_floatBits_0 rfl 0 rfl ?_
  refine V_fload_n C dX20_floatBits_1 rfl 0 rfl ?_
  refine V_fcmp C dX20_floatBits_2 ?_
  refine V_if_eq (tgt := 12) C dX20_floatBits_3 (by decide) (fun c_3 => ?_) (fun c_3 => ?_)
  · refine V_fload_n C dX20_floatBits_12 rfl 0 rfl ?_
    refine V_callS C (c_J17_floatToIntBits l hl G X N0 M v) cs_X20_114 rfl rfl ⟨Nat.le_of_ble_eq_true rfl, Nat.le_of_ble_eq_true rfl⟩ ⟨(by first | exact Nat.le_of_ble_eq_true rfl | omega | (dsimp only; omega)), (by first | exact Nat.le_of_ble_eq_true rfl | omega | (dsimp only; omega))⟩ (Nat.le_of_ble_eq_true rfl) dX20_floatBits_13 (fun _ _ _ h => px0 h) ?_
    rintro _ _ ⟨rfl, rfl⟩
    refine V_st (st' := [.int (mfI v)]) rfl ?_
    refine V_i2l (v := (mfI v).toInt64) C dX20_floatBits_16 rfl ?_
    refine V_lret C dX20_floatBits_17 rfl ?_ (by first | exact Nat.le_of_ble_eq_true rfl | omega | (dsimp only; omega)) (by first | exact Nat.le_of_ble_eq_true rfl | omega | (dsimp only; omega))
    refine ⟨congrArg (fun z => some (Value.long z)) ?_, rfl⟩
    rw [fN_cmp] at c_3
    unfold mfB mfI
    rw [if_neg c_3, if_neg c_3]
  · refine V_ldc2 (v := 2143289344) C (C.w q1635) dX20_floatBits_6 ?_
    refine V_goto (tgt := 17) C dX20_floatBits_9 (by decide) ?_
    refine V_lret C dX20_floatBits_17 rfl ?_ (by first | exact Nat.le_of_ble_eq_true rfl | omega | (dsimp only; omega)) (by first | exact Nat.le_of_ble_eq_true rfl | omega | (dsimp only; omega))
    refine ⟨congrArg (fun z => some (Value.long z)) ?_, rfl⟩
    rw [fN_cmp] at c_3
    unfold mfB
    rw [if_pos (Classical.not_not.mp c_3)]
set_option maxHeartbeats 1000000 in
theorem c_X20_floatOf (l : Launch) (hl : l.stackTraces = false) (G : hp_G) (X : Nat → Nat) (N0 : Nat) (M : hp_h) (b : Int64) : HM l yX20_floatOf (ws_ yX20_floatOf cX20_floatOf 2 (some .float)) 2 43 0 0 G X N0 [.long b] M (PV (.float (mfO b.toInt32)) M) PX0 := by
  refine HM.of hl [(0, .long b)] (by decide +kernel) rfl (Nat.le_of_ble_eq_true rfl) ?_
  intro p e s m args below meth c C hname
  refine V_lload_n C dX20_floatOf_0 rfl 0 rfl ?_
  refine V_l2i (v := b.toInt32) C dX20_floatOf_1 rfl ?_
  refine V_callS C (c_X20_singleOfBits l hl G X N0 M b.toInt32) cs_X20_118 rfl rfl ⟨Nat.le_of_ble_eq_true rfl, Nat.le_of_ble_eq_true rfl⟩ ⟨(by first | exact Nat.le_of_ble_eq_true rfl | omega | (dsimp only; omega)), (by first | exact Nat.le_of_ble_eq_true rfl | omega | (dsimp only; omega))⟩ (Nat.le_of_ble_eq_true rfl) dX20_floatOf_2 (fun _ _ _ h => px0 h) ?_
  rintro _ _ ⟨rfl, rfl⟩
  refine V_st (st' := [.float (mfO b.toInt32)]) rfl ?_
  refine V_fret C dX20_floatOf_5 rfl ?_ (by first | exact Nat.le_of_ble_eq_true rfl | omega | (dsimp only; omega)) (by first | exact Nat.le_of_ble_eq_true rfl | omega | (dsimp only; omega))
  exact ⟨rfl, rfl⟩
set_option maxHeartbeats 1000000 in
theorem c_X20_none (l : Launch) (hl : l.stackTraces = false) (G : hp_G) (X : Nat → Nat) (N0 : Nat) (M : hp_h)  : HM l yX20_none (ws_ yX20_none cX20_none 0 (some .double)) 0 0 0 0 G X N0 [] M (PV (.double 9221120237041090560) M) PX0 := by
  refine HM.of hl [] (by decide +kernel) rfl (Nat.le_of_ble_eq_true rfl) ?_
  intro p e s m args below meth c C hname
  refine V_ldc2d (v := 9221120237041090560) C (C.w q1642) dX20_none_0 ?_
  refine V_dret C dX20_none_3 rfl ?_ (by first | exact Nat.le_of_ble_eq_true rfl | omega | (dsimp only; omega)) (by first | exact Nat.le_of_ble_eq_true rfl | omega | (dsimp only; omega))
  exact ⟨rfl, rfl⟩
