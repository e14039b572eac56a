set_option maxRecDepth 100000
theorem and1 (b : Int64) : b &&& 1 = 0 ∨ b &&& 1 = 1 := by
  have h : (b &&& 1).toBitVec.toNat = b.toBitVec.toNat % 2 := by
    rw [show (b &&& 1).toBitVec = b.toBitVec &&& 1#64 from rfl, BitVec.toNat_and]
    exact Nat.and_one_is_mod _
  have h2 : b.toBitVec.toNat % 2 = 0 ∨ b.toBitVec.toNat % 2 = 1 := by omega
  rcases h2 with z | z <;> rw [z] at h
  · exact Or.inl (Int64.toBitVec_inj.mp (BitVec.eq_of_toNat_eq h))
  · exact Or.inr (Int64.toBitVec_inj.mp (BitVec.eq_of_toNat_eq h))
theorem nar_b (w : Int8) : vp_nar .byte w.toInt32 = w.toInt32 := by
  rw [vp_nar_byte]
  refine Int32.toInt_inj.mp ?_
  rw [Int8.toInt_toInt32, Int8.toInt_toInt32, Int32.toInt_toInt8, Int8.toInt_toInt32]
  have h1 := Int8.toInt_lt w
  have h2 := Int8.le_toInt w
  rw [Int.bmod_def]
  omega
theorem nar_s (w : Int16) : vp_nar .short w.toInt32 = w.toInt32 := by
  rw [vp_nar_short]
  refine Int32.toInt_inj.mp ?_
  rw [Int16.toInt_toInt32, Int16.toInt_toInt32, Int32.toInt_toInt16, Int16.toInt_toInt32]
  have h1 := Int16.toInt_lt w
  have h2 := Int16.le_toInt w
  rw [Int.bmod_def]
  omega
theorem chr_toInt (u : UInt32) : (u % 65536).toInt32.toInt = (u.toNat % 65536 : Nat) := by
  have h : (u % 65536).toInt32.toInt = (u % 65536).toBitVec.toInt := rfl
  rw [h, BitVec.toInt_eq_toNat_cond]
  have h2 : (u % 65536).toBitVec.toNat = u.toNat % 65536 := rfl
  rw [h2]
  rw [if_pos (by omega)]
theorem nar_c (u : UInt32) : vp_nar .char (u % 65536).toInt32 = (u % 65536).toInt32 := by
  rw [vp_nar_char]
  refine Int32.toInt_inj.mp ?_
  rw [chr_toInt]
  have h : ((u % 65536).toInt32.toUInt32.toUInt16.toUInt32.toInt32).toInt = ((u % 65536).toUInt16.toUInt32).toBitVec.toInt := rfl
  rw [h, BitVec.toInt_eq_toNat_cond]
  have h2 : ((u % 65536).toUInt16.toUInt32).toBitVec.toNat = u.toNat % 65536 % 65536 := rfl
  rw [h2, if_pos (by omega)]
  omega
theorem fits_b (w : Int8) : fits .byte (.int w.toInt32) = true := by
  have h1 := Int8.toInt_lt w
  have h2 := Int8.le_toInt w
  simp only [fits, Bool.and_eq_true, decide_eq_true_eq, Int32.le_iff_toInt_le, Int8.toInt_toInt32]
  exact ⟨h2, by have e : (127 : Int32).toInt = 127 := rfl; omega⟩
theorem fits_s (w : Int16) : fits .short (.int w.toInt32) = true := by
  have h1 := Int16.toInt_lt w
  have h2 := Int16.le_toInt w
  simp only [fits, Bool.and_eq_true, decide_eq_true_eq, Int32.le_iff_toInt_le, Int16.toInt_toInt32]
  exact ⟨h2, by have e : (32767 : Int32).toInt = 32767 := rfl; omega⟩
theorem fits_c (u : UInt32) : fits .char (.int (u % 65536).toInt32) = true := by
  simp only [fits, Bool.and_eq_true, decide_eq_true_eq, Int32.le_iff_toInt_le, chr_toInt]
  have e : (65535 : Int32).toInt = 65535 := rfl
  have e0 : (0 : Int32).toInt = 0 := rfl
  omega
theorem not_dN {b : Int64} (h : b &&& 9223372036854775807 ≤ 9218868437227405312) : ¬ dN b.toUInt64 := by
  rw [dN_iff]
  have h1 := num63.mp h
  have h2 : (b.toUInt64 &&& 0x7fffffffffffffff).toNat = b.toUInt64.toNat % 2 ^ 63 := by
    rw [UInt64.toNat_and]
    exact Nat.and_two_pow_sub_one_eq_mod _ 63
  rw [h2] at h1
  intro z
  unfold dD FP.Core.decode FP.Core.fieldE FP.Core.fieldT FP.Core.fieldS at z
  simp only [b64_t, b64_e] at z
  split at z
  · split at z
    · cases z
    · omega
  · split at z <;> cases z
theorem not_fN {b : Int32} (h : b &&& 2147483647 ≤ 2139095040) : ¬ fN b.toUInt32 := by
  rw [fN_iff]
  have h1 := num31.mp h
  have h2 : (b.toUInt32 &&& 0x7fffffff).toNat = b.toUInt32.toNat % 2 ^ 31 := by
    rw [UInt32.toNat_and]
    exact Nat.and_two_pow_sub_one_eq_mod _ 31
  rw [h2] at h1
  intro z
  unfold fD FP.Core.decode FP.Core.fieldE FP.Core.fieldT FP.Core.fieldS at z
  simp only [b32_t, b32_e] at z
  split at z
  · split at z
    · cases z
    · omega
  · split at z <;> cases z
theorem mdO_mdB (b : Int64) : mdO (mdB (mdO b)) = mdO b := by
  by_cases h : b &&& 9223372036854775807 ≤ 9218868437227405312
  · have e : mdO b = b.toUInt64 := by unfold mdO; rw [if_pos h]
    rw [e]
    unfold mdB
    rw [if_neg (not_dN h)]
    show mdO b.toUInt64.toInt64 = _
    rw [show b.toUInt64.toInt64 = b from rfl, e]
  · have e : mdO b = 9221120237041090560 := by unfold mdO; rw [if_neg h]
    rw [e]
    decide +kernel
theorem mfO_mfB (b : Int32) : mfO (mfB (mfO b)).toInt32 = mfO b := by
  by_cases h : b &&& 2147483647 ≤ 2139095040
  · have e : mfO b = b.toUInt32 := by unfold mfO; rw [if_pos h]
    rw [e]
    unfold mfB
    rw [if_neg (not_fN h)]
    rw [show b.toUInt32.toInt32.toInt64.toInt32 = b from by rw [show b.toUInt32.toInt32 = b from rfl, Int32.toInt32_toInt64], e]
  · have e : mfO b = 2143289344 := by unfold mfO; rw [if_neg h]
    rw [e]
    decide +kernel
/-- what bits tell, in a row of kind k (no rows) -/
def asV (k : Nat) (b : Int64) : Int64 := if k = 0 then b &&& 1 else if k = 1 then b.toInt32.toInt8.toInt32.toInt64 else if k = 2 then (b.toInt32.toUInt32 % 65536).toInt32.toInt64 else if k = 3 then b.toInt32.toInt16.toInt32.toInt64 else if k = 4 then b.toInt32.toInt64 else if k = 6 then mfB (mfO b.toInt32) else if k = 7 then mdB (mdO b) else b
theorem asE_V {σ : MS} {k : Nat} (hk : k ≤ 9) (b : Int64) : mf_asE (nI k) b σ = (asV k b, σ) := by
  match k, hk with
  | 0, _ => rfl
  | 1, _ => rfl
  | 2, _ => rfl
  | 3, _ => rfl
  | 4, _ => rfl
  | 5, _ => rfl
  | 6, _ => rfl
  | 7, _ => rfl
  | 8, _ => rfl
  | 9, _ => rfl
  | n + 10, h => exact absurd h (by omega)
/-- place i of the row at a becomes what tells b -/
def PPT (G : hp_G) (M : hp_h) (a k n i : Nat) (x : vp_A) (U J : Nat) (ua ja : Nat → Nat) (b : Int64) : Option Value → hp_h → Prop := fun v M' => v = none ∧ ∃ x', M' = hp_up M a (.inl (G.2 k, x')) ∧ XT k n x' ∧ (∀ j, j ≠ i → cv x'.2 j = cv x.2 j) ∧ CE U J ua ja k x' i b
theorem put0 {b : Int64} (h : b &&& 1 = 1) : asV 0 b = (vp_nar .boolean 1).toInt64 := by
  show b &&& 1 = _
  rw [h]; rfl
theorem put0n {b : Int64} (h : ¬ b &&& 1 = 1) : asV 0 b = (vp_nar .boolean 0).toInt64 := by
  show b &&& 1 = _
  rw [(and1 b).resolve_right h]; rfl
set_option maxHeartbeats 1000000 in
theorem c_X1_put_0 (l : Launch) (hl : l.stackTraces = false) (G : hp_G) (X : Nat → Nat) (N0 : Nat) (M : hp_h) {U J : Nat} {ua ja : Nat → Nat} (a n i : Nat) (f : Nat → Int32) (ha : M a = some (.inl (G.2 0, n, .inl f))) (hn : n ≤ 60000000) (hi : i < n) (b : Int64) (u9 v9 : Option Nat) : HM l yX1_put (ws_ yX1_put cX1_put 6 none) 3 80 0 0 G X N0 [.ref a, .int (nI i), .long b, va_rf u9, va_rf v9] M (PPT G M a 0 n i (n, .inl f) U J ua ja (asV 0 b)) PX0 := by
  refine HM.of hl [(0, .ref a), (1, .int (nI i)), (2, .long b), (4, va_rf u9), (5, va_rf v9)] (by decide +kernel) (by cases u9 <;> cases v9 <;> rfl) (by cases u9 <;> cases v9 <;> exact Nat.le_of_ble_eq_true rfl) ?_
  intro p e s m args below meth c C hname
  refine V_aload_n C dX1_put_0 rfl 0 rfl ?_
  refine V_callS C (c_X1_kindOf l hl G X N0 M a 0 (by decide) _ ha) cs_X1_25 rfl rfl ⟨Nat.le_of_ble_eq_true rfl, Nat.le_of_ble_eq_true rfl⟩ ⟨(by first | exact Nat.le_of_ble_eq_true rfl | omega | (dsimp only; omega)), (by first | exact Nat.le_of_ble_eq_true rfl | omega | (dsimp only; omega))⟩ (Nat.le_of_ble_eq_true rfl) dX1_put_1 (fun _ _ _ h => px0 h) ?_
  rintro _ _ ⟨rfl, rfl⟩
  refine V_st (st' := [.int (nI 0)]) rfl ?_
  refine V_tableIn (tgt := 64) (off := 60) C dX1_put_4 (by decide) (by decide) (by decide) (by decide) ?_
  refine V_aload_n C dX1_put_64 rfl 0 rfl ?_
  refine V_castA C (j := 0) (by decide) q607 (Or.inl rfl) ha dX1_put_65 ?_
  refine V_iload_n C dX1_put_68 rfl 1 rfl ?_
  refine V_lload_n C dX1_put_69 rfl 2 rfl ?_
  refine V_lconst (v := 1) C dX1_put_70 rfl ?_
  refine V_land C dX1_put_71 ?_
  refine V_lconst (v := 1) C dX1_put_72 rfl ?_
  refine V_lcmp C dX1_put_73 ?_
  refine V_pc (pc1 := 74) rfl ?_
  refine V_if_ne (tgt := 81) C dX1_put_74 (by decide) (fun c_74 => ?_) (fun c_74 => ?_)
  · refine V_iconst (v := 0) C dX1_put_81 rfl ?_
    refine V_zast C ha (vp_in_nI (by omega) (by omega)) dX1_put_82 ?_
    refine V_heap (M' := hp_up M a (.inl (G.2 0, n, .inl (upd f i (vp_nar .boolean 0))))) (by rw [nI_clamp (by omega)]) ?_
    obtain ⟨M_1, eM_2⟩ : ∃ z, z = hp_up M a (.inl (G.2 0, n, .inl (upd f i (vp_nar .boolean 0)))) := ⟨_, rfl⟩
    refine V_heap (M' := M_1) eM_2.symm ?_
    have eM_2_s : M_1 a = some (.inl (G.2 0, n, .inl (upd f i (vp_nar .boolean 0)))) := by rw [eM_2]; exact hp_up_s
    refine V_goto (tgt := 189) C dX1_put_83 (by decide) ?_
    refine V_vret C dX1_put_189 rfl ?_ (by first | exact Nat.le_of_ble_eq_true rfl | omega | (dsimp only; omega)) (by first | exact Nat.le_of_ble_eq_true rfl | omega | (dsimp only; omega))
    have h0 := c_74
    simp only [lg_cmp_lt, lg_cmp_gt, lg_cmp_ge, lg_cmp_le, lg_cmp_eq] at h0
    exact ⟨rfl, _, eM_2, ⟨rfl, Or.inl ⟨by decide, _, rfl⟩⟩, fun j hj => congrArg Sum.inl (if_neg hj), Or.inl ⟨by decide, _, rfl, by rw [show (upd f i _) i = _ from if_pos rfl]; rw [put0n h0], by rw [show (upd f i _) i = _ from if_pos rfl]; decide⟩⟩
  · refine V_iconst (v := 1) C dX1_put_77 rfl ?_
    refine V_goto (tgt := 82) C dX1_put_78 (by decide) ?_
    refine V_zast C ha (vp_in_nI (by omega) (by omega)) dX1_put_82 ?_
    refine V_heap (M' := hp_up M a (.inl (G.2 0, n, .inl (upd f i (vp_nar .boolean 1))))) (by rw [nI_clamp (by omega)]) ?_
    obtain ⟨M_3, eM_4⟩ : ∃ z, z = hp_up M a (.inl (G.2 0, n, .inl (upd f i (vp_nar .boolean 1)))) := ⟨_, rfl⟩
    refine V_heap (M' := M_3) eM_4.symm ?_
    have eM_4_s : M_3 a = some (.inl (G.2 0, n, .inl (upd f i (vp_nar .boolean 1)))) := by rw [eM_4]; exact hp_up_s
    refine V_goto (tgt := 189) C dX1_put_83 (by decide) ?_
    refine V_vret C dX1_put_189 rfl ?_ (by first | exact Nat.le_of_ble_eq_true rfl | omega | (dsimp only; omega)) (by first | exact Nat.le_of_ble_eq_true rfl | omega | (dsimp only; omega))
    have h0 := c_74
    simp only [lg_cmp_lt, lg_cmp_gt, lg_cmp_ge, lg_cmp_le, lg_cmp_eq] at h0
    exact ⟨rfl, _, eM_4, ⟨rfl, Or.inl ⟨by decide, _, rfl⟩⟩, fun j hj => congrArg Sum.inl (if_neg hj), Or.inl ⟨by decide, _, rfl, by rw [show (upd f i _) i = _ from if_pos rfl]; rw [put0 h0], by rw [show (upd f i _) i = _ from if_pos rfl]; decide⟩⟩
set_option maxHeartbeats 1000000 in
theorem c_X1_put_1 (l : Launch) (hl : l.stackTraces = false) (G : hp_G) (X : Nat → Nat) (N0 : Nat) (M : hp_h) {U J : Nat} {ua ja : Nat → Nat} (a n i : Nat) (f : Nat → Int32) (ha : M a = some (.inl (G.2 1, n, .inl f))) (hn : n ≤ 60000000) (hi : i < n) (b : Int64) (u9 v9 : Option Nat) : HM l yX1_put (ws_ yX1_put cX1_put 6 none) 3 80 0 0 G X N0 [.ref a, .int (nI i), .long b, va_rf u9, va_rf v9] M (PPT G M a 1 n i (n, .inl f) U J ua ja (asV 1 b)) PX0 := by
  refine HM.of hl [(0, .ref a), (1, .int (nI i)), (2, .long b), (4, va_rf u9), (5, va_rf v9)] (by decide +kernel) (by cases u9 <;> cases v9 <;> rfl) (by cases u9 <;> cases v9 <;> exact Nat.le_of_ble_eq_true rfl) ?_
  intro p e s m args below meth c C hname
  refine V_aload_n C dX1_put_0 rfl 0 rfl ?_
  refine V_callS C (c_X1_kindOf l hl G X N0 M a 1 (by decide) _ ha) cs_X1_25 rfl rfl ⟨Nat.le_of_ble_eq_true rfl, Nat.le_of_ble_eq_true rfl⟩ ⟨(by first | exact Nat.le_of_ble_eq_true rfl | omega | (dsimp only; omega)), (by first | exact Nat.le_of_ble_eq_true rfl | omega | (dsimp only; omega))⟩ (Nat.le_of_ble_eq_true rfl) dX1_put_1 (fun _ _ _ h => px0 h) ?_
  rintro _ _ ⟨rfl, rfl⟩
  refine V_st (st' := [.int (nI 1)]) rfl ?_
  refine V_tableIn (tgt := 86) (off := 82) C dX1_put_4 (by decide) (by decide) (by decide) (by decide) ?_
  refine V_aload_n C dX1_put_86 rfl 0 rfl ?_
  refine V_castA C (j := 1) (by decide) q608 (Or.inl rfl) ha dX1_put_87 ?_
  refine V_iload_n C dX1_put_90 rfl 1 rfl ?_
  refine V_lload_n C dX1_put_91 rfl 2 rfl ?_
  refine V_l2i (v := b.toInt32) C dX1_put_92 rfl ?_
  refine V_i2b (v := b.toInt32.toInt8.toInt32) C dX1_put_93 rfl ?_
  refine V_bast C ha (vp_in_nI (by omega) (by omega)) dX1_put_94 ?_
  refine V_heap (M' := hp_up M a (.inl (G.2 1, n, .inl (upd f i (vp_nar .byte b.toInt32.toInt8.toInt32))))) (by rw [nI_clamp (by omega)]) ?_
  obtain ⟨M_1, eM_2⟩ : ∃ z, z = hp_up M a (.inl (G.2 1, n, .inl (upd f i (vp_nar .byte b.toInt32.toInt8.toInt32)))) := ⟨_, rfl⟩
  refine V_heap (M' := M_1) eM_2.symm ?_
  have eM_2_s : M_1 a = some (.inl (G.2 1, n, .inl (upd f i (vp_nar .byte b.toInt32.toInt8.toInt32)))) := by rw [eM_2]; exact hp_up_s
  refine V_goto (tgt := 189) C dX1_put_95 (by decide) ?_
  refine V_pc (pc1 := 189) rfl ?_
  refine V_vret C dX1_put_189 rfl ?_ (by first | exact Nat.le_of_ble_eq_true rfl | omega | (dsimp only; omega)) (by first | exact Nat.le_of_ble_eq_true rfl | omega | (dsimp only; omega))
  exact ⟨rfl, _, eM_2, ⟨rfl, Or.inl ⟨by decide, _, rfl⟩⟩, fun j hj => congrArg Sum.inl (if_neg hj), Or.inl ⟨by decide, _, rfl, by rw [show (upd f i _) i = _ from if_pos rfl, nar_b _]; rfl, by rw [show (upd f i _) i = _ from if_pos rfl, nar_b _]; exact fits_b _⟩⟩
set_option maxHeartbeats 1000000 in
theorem c_X1_put_2 (l : Launch) (hl : l.stackTraces = false) (G : hp_G) (X : Nat → Nat) (N0 : Nat) (M : hp_h) {U J : Nat} {ua ja : Nat → Nat} (a n i : Nat) (f : Nat → Int32) (ha : M a = some (.inl (G.2 2, n, .inl f))) (hn : n ≤ 60000000) (hi : i < n) (b : Int64) (u9 v9 : Option Nat) : HM l yX1_put (ws_ yX1_put cX1_put 6 none) 3 80 0 0 G X N0 [.ref a, .int (nI i), .long b, va_rf u9, va_rf v9] M (PPT G M a 2 n i (n, .inl f) U J ua ja (asV 2 b)) PX0 := by
  refine HM.of hl [(0, .ref a), (1, .int (nI i)), (2, .long b), (4, va_rf u9), (5, va_rf v9)] (by decide +kernel) (by cases u9 <;> cases v9 <;> rfl) (by cases u9 <;> cases v9 <;> exact Nat.le_of_ble_eq_true rfl) ?_
  intro p e s m args below meth c C hname
  refine V_aload_n C dX1_put_0 rfl 0 rfl ?_
  refine V_callS C (c_X1_kindOf l hl G X N0 M a 2 (by decide) _ ha) cs_X1_25 rfl rfl ⟨Nat.le_of_ble_eq_true rfl, Nat.le_of_ble_eq_true rfl⟩ ⟨(by first | exact Nat.le_of_ble_eq_true rfl | omega | (dsimp only; omega)), (by first | exact Nat.le_of_ble_eq_true rfl | omega | (dsimp only; omega))⟩ (Nat.le_of_ble_eq_true rfl) dX1_put_1 (fun _ _ _ h => px0 h) ?_
  rintro _ _ ⟨rfl, rfl⟩
  refine V_st (st' := [.int (nI 2)]) rfl ?_
  refine V_tableIn (tgt := 98) (off := 94) C dX1_put_4 (by decide) (by decide) (by decide) (by decide) ?_
  refine V_aload_n C dX1_put_98 rfl 0 rfl ?_
  refine V_castA C (j := 2) (by decide) q609 (Or.inl rfl) ha dX1_put_99 ?_
  refine V_iload_n C dX1_put_102 rfl 1 rfl ?_
  refine V_lload_n C dX1_put_103 rfl 2 rfl ?_
  refine V_l2i (v := b.toInt32) C dX1_put_104 rfl ?_
  refine V_i2c (v := (b.toInt32.toUInt32 % 65536).toInt32) C dX1_put_105 rfl ?_
  refine V_cast C ha (vp_in_nI (by omega) (by omega)) dX1_put_106 ?_
  refine V_heap (M' := hp_up M a (.inl (G.2 2, n, .inl (upd f i (vp_nar .char ((b.toInt32.toUInt32 % 65536).toInt32)))))) (by rw [nI_clamp (by omega)]) ?_
  obtain ⟨M_1, eM_2⟩ : ∃ z, z = hp_up M a (.inl (G.2 2, n, .inl (upd f i (vp_nar .char ((b.toInt32.toUInt32 % 65536).toInt32))))) := ⟨_, rfl⟩
  refine V_heap (M' := M_1) eM_2.symm ?_
  have eM_2_s : M_1 a = some (.inl (G.2 2, n, .inl (upd f i (vp_nar .char ((b.toInt32.toUInt32 % 65536).toInt32))))) := by rw [eM_2]; exact hp_up_s
  refine V_goto (tgt := 189) C dX1_put_107 (by decide) ?_
  refine V_pc (pc1 := 189) rfl ?_
  refine V_vret C dX1_put_189 rfl ?_ (by first | exact Nat.le_of_ble_eq_true rfl | omega | (dsimp only; omega)) (by first | exact Nat.le_of_ble_eq_true rfl | omega | (dsimp only; omega))
  exact ⟨rfl, _, eM_2, ⟨rfl, Or.inl ⟨by decide, _, rfl⟩⟩, fun j hj => congrArg Sum.inl (if_neg hj), Or.inl ⟨by decide, _, rfl, by rw [show (upd f i _) i = _ from if_pos rfl, nar_c _]; rfl, by rw [show (upd f i _) i = _ from if_pos rfl, nar_c _]; exact fits_c _⟩⟩
set_option maxHeartbeats 1000000 in
theorem c_X1_put_3 (l : Launch) (hl : l.stackTraces = false) (G : hp_G) (X : Nat → Nat) (N0 : Nat) (M : hp_h) {U J : Nat} {ua ja : Nat → Nat} (a n i : Nat) (f : Nat → Int32) (ha : M a = some (.inl (G.2 3, n, .inl f))) (hn : n ≤ 60000000) (hi : i < n) (b : Int64) (u9 v9 : Option Nat) : HM l yX1_put (ws_ yX1_put cX1_put 6 none) 3 80 0 0 G X N0 [.ref a, .int (nI i), .long b, va_rf u9, va_rf v9] M (PPT G M a 3 n i (n, .inl f) U J ua ja (asV 3 b)) PX0 := by
  refine HM.of hl [(0, .ref a), (1, .int (nI i)), (2, .long b), (4, va_rf u9), (5, va_rf v9)] (by decide +kernel) (by cases u9 <;> cases v9 <;> rfl) (by cases u9 <;> cases v9 <;> exact Nat.le_of_ble_eq_true rfl) ?_
  intro p e s m args below meth c C hname
  refine V_aload_n C dX1_put_0 rfl 0 rfl ?_
  refine V_callS C (c_X1_kindOf l hl G X N0 M a 3 (by decide) _ ha) cs_X1_25 rfl rfl ⟨Nat.le_of_ble_eq_true rfl, Nat.le_of_ble_eq_true rfl⟩ ⟨(by first | exact Nat.le_of_ble_eq_true rfl | omega | (dsimp only; omega)), (by first | exact Nat.le_of_ble_eq_true rfl | omega | (dsimp only; omega))⟩ (Nat.le_of_ble_eq_true rfl) dX1_put_1 (fun _ _ _ h => px0 h) ?_
  rintro _ _ ⟨rfl, rfl⟩
  refine V_st (st' := [.int (nI 3)]) rfl ?_
  refine V_tableIn (tgt := 110) (off := 106) C dX1_put_4 (by decide) (by decide) (by decide) (by decide) ?_
  refine V_aload_n C dX1_put_110 rfl 0 rfl ?_
  refine V_castA C (j := 3) (by decide) q610 (Or.inl rfl) ha dX1_put_111 ?_
  refine V_iload_n C dX1_put_114 rfl 1 rfl ?_
  refine V_lload_n C dX1_put_115 rfl 2 rfl ?_
  refine V_l2i (v := b.toInt32) C dX1_put_116 rfl ?_
  refine V_i2s (v := b.toInt32.toInt16.toInt32) C dX1_put_117 rfl ?_
  refine V_sast C ha (vp_in_nI (by omega) (by omega)) dX1_put_118 ?_
  refine V_heap (M' := hp_up M a (.inl (G.2 3, n, .inl (upd f i (vp_nar .short b.toInt32.toInt16.toInt32))))) (by rw [nI_clamp (by omega)]) ?_
  obtain ⟨M_1, eM_2⟩ : ∃ z, z = hp_up M a (.inl (G.2 3, n, .inl (upd f i (vp_nar .short b.toInt32.toInt16.toInt32)))) := ⟨_, rfl⟩
  refine V_heap (M' := M_1) eM_2.symm ?_
  have eM_2_s : M_1 a = some (.inl (G.2 3, n, .inl (upd f i (vp_nar .short b.toInt32.toInt16.toInt32)))) := by rw [eM_2]; exact hp_up_s
  refine V_goto (tgt := 189) C dX1_put_119 (by decide) ?_
  refine V_pc (pc1 := 189) rfl ?_
  refine V_vret C dX1_put_189 rfl ?_ (by first | exact Nat.le_of_ble_eq_true rfl | omega | (dsimp only; omega)) (by first | exact Nat.le_of_ble_eq_true rfl | omega | (dsimp only; omega))
  exact ⟨rfl, _, eM_2, ⟨rfl, Or.inl ⟨by decide, _, rfl⟩⟩, fun j hj => congrArg Sum.inl (if_neg hj), Or.inl ⟨by decide, _, rfl, by rw [show (upd f i _) i = _ from if_pos rfl, nar_s _]; rfl, by rw [show (upd f i _) i = _ from if_pos rfl, nar_s _]; exact fits_s _⟩⟩
set_option maxHeartbeats 1000000 in
theorem c_X1_put_4 (l : Launch) (hl : l.stackTraces = false) (G : hp_G) (X : Nat → Nat) (N0 : Nat) (M : hp_h) {U J : Nat} {ua ja : Nat → Nat} (a n i : Nat) (f : Nat → Int32) (ha : M a = some (.inl (G.2 4, n, .inl f))) (hn : n ≤ 60000000) (hi : i < n) (b : Int64) (u9 v9 : Option Nat) : HM l yX1_put (ws_ yX1_put cX1_put 6 none) 3 80 0 0 G X N0 [.ref a, .int (nI i), .long b, va_rf u9, va_rf v9] M (PPT G M a 4 n i (n, .inl f) U J ua ja (asV 4 b)) PX0 := by
  refine HM.of hl [(0, .ref a), (1, .int (nI i)), (2, .long b), (4, va_rf u9), (5, va_rf v9)] (by decide +kernel) (by cases u9 <;> cases v9 <;> rfl) (by cases u9 <;> cases v9 <;> exact Nat.le_of_ble_eq_true rfl) ?_
  intro p e s m args below meth c C hname
  refine V_aload_n C dX1_put_0 rfl 0 rfl ?_
  refine V_callS C (c_X1_kindOf l hl G X N0 M a 4 (by decide) _ ha) cs_X1_25 rfl rfl ⟨Nat.le_of_ble_eq_true rfl, Nat.le_of_ble_eq_true rfl⟩ ⟨(by first | exact Nat.le_of_ble_eq_true rfl | omega | (dsimp only; omega)), (by first | exact Nat.le_of_ble_eq_true rfl | omega | (dsimp only; omega))⟩ (Nat.le_of_ble_eq_true rfl) dX1_put_1 (fun _ _ _ h => px0 h) ?_
  rintro _ _ ⟨rfl, rfl⟩
  refine V_st (st' := [.int (nI 4)]) rfl ?_
  refine V_tableIn (tgt := 122) (off := 118) C dX1_put_4 (by decide) (by decide) (by decide) (by decide) ?_
  refine V_aload_n C dX1_put_122 rfl 0 rfl ?_
  refine V_castA C (j := 4) (by decide) q458 (Or.inl rfl) ha dX1_put_123 ?_
  refine V_iload_n C dX1_put_126 rfl 1 rfl ?_
  refine V_lload_n C dX1_put_127 rfl 2 rfl ?_
  refine V_l2i (v := b.toInt32) C dX1_put_128 rfl ?_
  refine V_iast C ha (vp_in_nI (by omega) (by omega)) dX1_put_129 ?_
  refine V_heap (M' := hp_up M a (.inl (G.2 4, n, .inl (upd f i b.toInt32)))) (by rw [nI_clamp (by omega)]) ?_
  obtain ⟨M_1, eM_2⟩ : ∃ z, z = hp_up M a (.inl (G.2 4, n, .inl (upd f i b.toInt32))) := ⟨_, rfl⟩
  refine V_heap (M' := M_1) eM_2.symm ?_
  have eM_2_s : M_1 a = some (.inl (G.2 4, n, .inl (upd f i b.toInt32))) := by rw [eM_2]; exact hp_up_s
  refine V_goto (tgt := 189) C dX1_put_130 (by decide) ?_
  refine V_vret C dX1_put_189 rfl ?_ (by first | exact Nat.le_of_ble_eq_true rfl | omega | (dsimp only; omega)) (by first | exact Nat.le_of_ble_eq_true rfl | omega | (dsimp only; omega))
  exact ⟨rfl, _, eM_2, ⟨rfl, Or.inl ⟨by decide, _, rfl⟩⟩, fun j hj => congrArg Sum.inl (if_neg hj), Or.inl ⟨by decide, _, rfl, by rw [show (upd f i _) i = _ from if_pos rfl]; rfl, by rw [show (upd f i _) i = _ from if_pos rfl]; exact rfl⟩⟩
set_option maxHeartbeats 1000000 in
theorem c_X1_put_5 (l : Launch) (hl : l.stackTraces = false) (G : hp_G) (X : Nat → Nat) (N0 : Nat) (M : hp_h) {U J : Nat} {ua ja : Nat → Nat} (a n i : Nat) (f : Nat → Int64) (ha : M a = some (.inl (G.2 5, n, .inr (.inl f)))) (hn : n ≤ 60000000) (hi : i < n) (b : Int64) (u9 v9 : Option Nat) : HM l yX1_put (ws_ yX1_put cX1_put 6 none) 3 80 0 0 G X N0 [.ref a, .int (nI i), .long b, va_rf u9, va_rf v9] M (PPT G M a 5 n i (n, .inr (.inl f)) U J ua ja (asV 5 b)) PX0 := by
  refine HM.of hl [(0, .ref a), (1, .int (nI i)), (2, .long b), (4, va_rf u9), (5, va_rf v9)] (by decide +kernel) (by cases u9 <;> cases v9 <;> rfl) (by cases u9 <;> cases v9 <;> exact Nat.le_of_ble_eq_true rfl) ?_
  intro p e s m args below meth c C hname
  refine V_aload_n C dX1_put_0 rfl 0 rfl ?_
  refine V_callS C (c_X1_kindOf l hl G X N0 M a 5 (by decide) _ ha) cs_X1_25 rfl rfl ⟨Nat.le_of_ble_eq_true rfl, Nat.le_of_ble_eq_true rfl⟩ ⟨(by first | exact Nat.le_of_ble_eq_true rfl | omega | (dsimp only; omega)), (by first | exact Nat.le_of_ble_eq_true rfl | omega | (dsimp only; omega))⟩ (Nat.le_of_ble_eq_true rfl) dX1_put_1 (fun _ _ _ h => px0 h) ?_
  rintro _ _ ⟨rfl, rfl⟩
  refine V_st (st' := [.int (nI 5)]) rfl ?_
  refine V_tableIn (tgt := 133) (off := 129) C dX1_put_4 (by decide) (by decide) (by decide) (by decide) ?_
  refine V_aload_n C dX1_put_133 rfl 0 rfl ?_
  refine V_castA C (j := 5) (by decide) q611 (Or.inl rfl) ha dX1_put_134 ?_
  refine V_iload_n C dX1_put_137 rfl 1 rfl ?_
  refine V_lload_n C dX1_put_138 rfl 2 rfl ?_
  refine V_last C ha (vp_in_nI (by omega) (by omega)) dX1_put_139 ?_
  refine V_heap (M' := hp_up M a (.inl (G.2 5, n, .inr (.inl (vp_updL f i b))))) (by rw [nI_clamp (by omega)]) ?_
  obtain ⟨M_1, eM_2⟩ : ∃ z, z = hp_up M a (.inl (G.2 5, n, .inr (.inl (vp_updL f i b)))) := ⟨_, rfl⟩
  refine V_heap (M' := M_1) eM_2.symm ?_
  have eM_2_s : M_1 a = some (.inl (G.2 5, n, .inr (.inl (vp_updL f i b)))) := by rw [eM_2]; exact hp_up_s
  refine V_goto (tgt := 189) C dX1_put_140 (by decide) ?_
  refine V_vret C dX1_put_189 rfl ?_ (by first | exact Nat.le_of_ble_eq_true rfl | omega | (dsimp only; omega)) (by first | exact Nat.le_of_ble_eq_true rfl | omega | (dsimp only; omega))
  exact ⟨rfl, _, eM_2, ⟨rfl, Or.inr (Or.inl ⟨rfl, _, rfl⟩)⟩, fun j hj => congrArg (fun z => Sum.inr (Sum.inl z)) (if_neg hj), Or.inr (Or.inl ⟨rfl, _, rfl, (show (vp_updL f i _) i = _ from if_pos rfl).symm⟩)⟩
set_option maxHeartbeats 1000000 in
theorem c_X1_put_6 (l : Launch) (hl : l.stackTraces = false) (G : hp_G) (X : Nat → Nat) (N0 : Nat) (M : hp_h) {U J : Nat} {ua ja : Nat → Nat} (a n i : Nat) (f : Nat → UInt32) (ha : M a = some (.inl (G.2 6, n, .inr (.inr (.inl f))))) (hn : n ≤ 60000000) (hi : i < n) (b : Int64) (u9 v9 : Option Nat) : HM l yX1_put (ws_ yX1_put cX1_put 6 none) 3 80 0 0 G X N0 [.ref a, .int (nI i), .long b, va_rf u9, va_rf v9] M (PPT G M a 6 n i (n, .inr (.inr (.inl f))) U J ua ja (asV 6 b)) PX0 := by
  refine HM.of hl [(0, .ref a), (1, .int (nI i)), (2, .long b), (4, va_rf u9), (5, va_rf v9)] (by decide +kernel) (by cases u9 <;> cases v9 <;> rfl) (by cases u9 <;> cases v9 <;> exact Nat.le_of_ble_eq_true rfl) ?_
  intro p e s m args below meth c C hname
  refine V_aload_n C dX1_put_0 rfl 0 rfl ?_
  refine V_callS C (c_X1_kindOf l hl G X N0 M a 6 (by decide) _ ha) cs_X1_25 rfl rfl ⟨Nat.le_of_ble_eq_true rfl, Nat.le_of_ble_eq_true rfl⟩ ⟨(by first | exact Nat.le_of_ble_eq_true rfl | omega | (dsimp only; omega)), (by first | exact Nat.le_of_ble_eq_true rfl | omega | (dsimp only; omega))⟩ (Nat.le_of_ble_eq_true rfl) dX1_put_1 (fun _ _ _ h => px0 h) ?_
  rintro _ _ ⟨rfl, rfl⟩
  refine V_st (st' := [.int (nI 6)]) rfl ?_
  refine V_tableIn (tgt := 143) (off := 139) C dX1_put_4 (by decide) (by decide) (by decide) (by decide) ?_
  refine V_aload_n C dX1_put_143 rfl 0 rfl ?_
  refine V_castA C (j := 6) (by decide) q612 (Or.inl rfl) ha dX1_put_144 ?_
  refine V_iload_n C dX1_put_147 rfl 1 rfl ?_
  refine V_lload_n C dX1_put_148 rfl 2 rfl ?_
  refine V_l2i (v := b.toInt32) C dX1_put_149 rfl ?_
  refine V_callS C (c_X1_singleBits l hl G X N0 M b.toInt32) cs_X1_69 rfl rfl ⟨Nat.le_of_ble_eq_true rfl, Nat.le_of_ble_eq_true rfl⟩ ⟨(by first | exact Nat.le_of_ble_eq_true rfl | omega | (dsimp only; omega)), (by first | exact Nat.le_of_ble_eq_true rfl | omega | (dsimp only; omega))⟩ (Nat.le_of_ble_eq_true rfl) dX1_put_150 (fun _ _ _ h => px0 h) ?_
  rintro _ _ ⟨rfl, rfl⟩
  refine V_st (st' := [.float (mfO b.toInt32), .int (nI i), .ref a]) rfl ?_
  refine V_fast C ha (vp_in_nI (by omega) (by omega)) dX1_put_153 ?_
  refine V_heap (M' := hp_up M a (.inl (G.2 6, n, .inr (.inr (.inl (vf_upd f i (mfO b.toInt32))))))) (by rw [nI_clamp (by omega)]) ?_
  obtain ⟨M_1, eM_2⟩ : ∃ z, z = hp_up M a (.inl (G.2 6, n, .inr (.inr (.inl (vf_upd f i (mfO b.toInt32)))))) := ⟨_, rfl⟩
  refine V_heap (M' := M_1) eM_2.symm ?_
  have eM_2_s : M_1 a = some (.inl (G.2 6, n, .inr (.inr (.inl (vf_upd f i (mfO b.toInt32)))))) := by rw [eM_2]; exact hp_up_s
  refine V_goto (tgt := 189) C dX1_put_154 (by decide) ?_
  refine V_pc (pc1 := 189) rfl ?_
  refine V_vret C dX1_put_189 rfl ?_ (by first | exact Nat.le_of_ble_eq_true rfl | omega | (dsimp only; omega)) (by first | exact Nat.le_of_ble_eq_true rfl | omega | (dsimp only; omega))
  exact ⟨rfl, _, eM_2, ⟨rfl, Or.inr (Or.inr (Or.inl ⟨rfl, _, rfl⟩))⟩, fun j hj => congrArg (fun z => Sum.inr (Sum.inr (Sum.inl z))) (if_neg hj), Or.inr (Or.inr (Or.inl ⟨rfl, _, rfl, by rw [show (vf_upd f i _) i = _ from if_pos rfl]; rfl, by rw [show (vf_upd f i _) i = _ from if_pos rfl]; exact (mfO_mfB _).symm⟩))⟩
set_option maxHeartbeats 1000000 in
theorem c_X1_put_7 (l : Launch) (hl : l.stackTraces = false) (G : hp_G) (X : Nat → Nat) (N0 : Nat) (M : hp_h) {U J : Nat} {ua ja : Nat → Nat} (a n i : Nat) (f : Nat → UInt64) (ha : M a = some (.inl (G.2 7, n, .inr (.inr (.inr (.inl f)))))) (hn : n ≤ 60000000) (hi : i < n) (b : Int64) (u9 v9 : Option Nat) : HM l yX1_put (ws_ yX1_put cX1_put 6 none) 3 80 0 0 G X N0 [.ref a, .int (nI i), .long b, va_rf u9, va_rf v9] M (PPT G M a 7 n i (n, .inr (.inr (.inr (.inl f)))) U J ua ja (asV 7 b)) PX0 := by
  refine HM.of hl [(0, .ref a), (1, .int (nI i)), (2, .long b), (4, va_rf u9), (5, va_rf v9)] (by decide +kernel) (by cases u9 <;> cases v9 <;> rfl) (by cases u9 <;> cases v9 <;> exact Nat.le_of_ble_eq_true rfl) ?_
  intro p e s m args below meth c C hname
  refine V_aload_n C dX1_put_0 rfl 0 rfl ?_
  refine V_callS C (c_X1_kindOf l hl G X N0 M a 7 (by decide) _ ha) cs_X1_25 rfl rfl ⟨Nat.le_of_ble_eq_true rfl, Nat.le_of_ble_eq_true rfl⟩ ⟨(by first | exact Nat.le_of_ble_eq_true rfl | omega | (dsimp only; omega)), (by first | exact Nat.le_of_ble_eq_true rfl | omega | (dsimp only; omega))⟩ (Nat.le_of_ble_eq_true rfl) dX1_put_1 (fun _ _ _ h => px0 h) ?_
  rintro _ _ ⟨rfl, rfl⟩
  refine V_st (st' := [.int (nI 7)]) rfl ?_
  refine V_tableIn (tgt := 157) (off := 153) C dX1_put_4 (by decide) (by decide) (by decide) (by decide) ?_
  refine V_aload_n C dX1_put_157 rfl 0 rfl ?_
  refine V_castA C (j := 7) (by decide) q613 (Or.inl rfl) ha dX1_put_158 ?_
  refine V_iload_n C dX1_put_161 rfl 1 rfl ?_
  refine V_lload_n C dX1_put_162 rfl 2 rfl ?_
  refine V_callS C (c_X1_numberBits l hl G X N0 M b) cs_X1_73 rfl rfl ⟨Nat.le_of_ble_eq_true rfl, Nat.le_of_ble_eq_true rfl⟩ ⟨(by first | exact Nat.le_of_ble_eq_true rfl | omega | (dsimp only; omega)), (by first | exact Nat.le_of_ble_eq_true rfl | omega | (dsimp only; omega))⟩ (Nat.le_of_ble_eq_true rfl) dX1_put_163 (fun _ _ _ h => px0 h) ?_
  rintro _ _ ⟨rfl, rfl⟩
  refine V_st (st' := [.double (mdO b), .int (nI i), .ref a]) rfl ?_
  refine V_dast C ha (vp_in_nI (by omega) (by omega)) dX1_put_166 ?_
  refine V_heap (M' := hp_up M a (.inl (G.2 7, n, .inr (.inr (.inr (.inl (vf_upd f i (mdO b)))))))) (by rw [nI_clamp (by omega)]) ?_
  obtain ⟨M_1, eM_2⟩ : ∃ z, z = hp_up M a (.inl (G.2 7, n, .inr (.inr (.inr (.inl (vf_upd f i (mdO b))))))) := ⟨_, rfl⟩
  refine V_heap (M' := M_1) eM_2.symm ?_
  have eM_2_s : M_1 a = some (.inl (G.2 7, n, .inr (.inr (.inr (.inl (vf_upd f i (mdO b))))))) := by rw [eM_2]; exact hp_up_s
  refine V_goto (tgt := 189) C dX1_put_167 (by decide) ?_
  refine V_vret C dX1_put_189 rfl ?_ (by first | exact Nat.le_of_ble_eq_true rfl | omega | (dsimp only; omega)) (by first | exact Nat.le_of_ble_eq_true rfl | omega | (dsimp only; omega))
  exact ⟨rfl, _, eM_2, ⟨rfl, Or.inr (Or.inr (Or.inr (Or.inl ⟨rfl, _, rfl⟩)))⟩, fun j hj => congrArg (fun z => Sum.inr (Sum.inr (Sum.inr (Sum.inl z)))) (if_neg hj), Or.inr (Or.inr (Or.inr (Or.inl ⟨rfl, _, rfl, by rw [show (vf_upd f i _) i = _ from if_pos rfl]; rfl, by rw [show (vf_upd f i _) i = _ from if_pos rfl]; exact (mdO_mdB _).symm⟩)))⟩
set_option maxHeartbeats 1000000 in
theorem c_X1_put_8n (l : Launch) (hl : l.stackTraces = false) (G : hp_G) (X : Nat → Nat) (N0 : Nat) (M : hp_h) {U J : Nat} {ua ja : Nat → Nat} (a n i : Nat) (f : Nat → Option Nat) (ha : M a = some (.inl (G.2 8, n, .inr (.inr (.inr (.inr f)))))) (hn : n ≤ 60000000) (hi : i < n) (b : Int64) (hb : b = -1) (v9 : Option Nat) : HM l yX1_put (ws_ yX1_put cX1_put 6 none) 3 80 0 0 G X N0 [.ref a, .int (nI i), .long b, .null, va_rf v9] M (PPT G M a 8 n i (n, .inr (.inr (.inr (.inr f)))) U J ua ja b) PX0 := by
  refine HM.of hl [(0, .ref a), (1, .int (nI i)), (2, .long b), (4, .null), (5, va_rf v9)] (by decide +kernel) (by cases v9 <;> rfl) (by cases v9 <;> exact Nat.le_of_ble_eq_true rfl) ?_
  intro p e s m args below meth c C hname
  refine V_aload_n C dX1_put_0 rfl 0 rfl ?_
  refine V_callS C (c_X1_kindOf l hl G X N0 M a 8 (by decide) _ ha) cs_X1_25 rfl rfl ⟨Nat.le_of_ble_eq_true rfl, Nat.le_of_ble_eq_true rfl⟩ ⟨(by first | exact Nat.le_of_ble_eq_true rfl | omega | (dsimp only; omega)), (by first | exact Nat.le_of_ble_eq_true rfl | omega | (dsimp only; omega))⟩ (Nat.le_of_ble_eq_true rfl) dX1_put_1 (fun _ _ _ h => px0 h) ?_
  rintro _ _ ⟨rfl, rfl⟩
  refine V_st (st' := [.int (nI 8)]) rfl ?_
  refine V_tableIn (tgt := 181) (off := 177) C dX1_put_4 (by decide) (by decide) (by decide) (by decide) ?_
  refine V_aload_n C dX1_put_181 rfl 0 rfl ?_
  refine V_castA C (j := 8) (by decide) q605 (Or.inl rfl) ha dX1_put_182 ?_
  refine V_iload_n C dX1_put_185 rfl 1 rfl ?_
  refine V_aloadN C dX1_put_186 3 rfl ?_
  refine V_aastMN C (j := 8) rfl rfl ha (vp_in_nI (by omega) (by omega)) dX1_put_188 ?_
  refine V_heap (M' := hp_up M a (.inl (G.2 8, n, .inr (.inr (.inr (.inr (va_up f i none))))))) (by rw [nI_clamp (by omega)]) ?_
  obtain ⟨M_1, eM_2⟩ : ∃ z, z = hp_up M a (.inl (G.2 8, n, .inr (.inr (.inr (.inr (va_up f i none)))))) := ⟨_, rfl⟩
  refine V_heap (M' := M_1) eM_2.symm ?_
  have eM_2_s : M_1 a = some (.inl (G.2 8, n, .inr (.inr (.inr (.inr (va_up f i none)))))) := by rw [eM_2]; exact hp_up_s
  refine V_vret C dX1_put_189 rfl ?_ (by first | exact Nat.le_of_ble_eq_true rfl | omega | (dsimp only; omega)) (by first | exact Nat.le_of_ble_eq_true rfl | omega | (dsimp only; omega))
  exact ⟨rfl, _, eM_2, ⟨rfl, Or.inr (Or.inr (Or.inr (Or.inr ⟨by decide, _, rfl⟩)))⟩, fun j hj => congrArg (fun z => Sum.inr (Sum.inr (Sum.inr (Sum.inr z)))) (if_neg hj), Or.inr (Or.inr (Or.inr (Or.inr (Or.inl ⟨by decide, _, rfl, Or.inl ⟨hb, if_pos rfl⟩⟩))))⟩
set_option maxHeartbeats 1000000 in
theorem c_X1_put_8u (l : Launch) (hl : l.stackTraces = false) (G : hp_G) (X : Nat → Nat) (N0 : Nat) (M : hp_h) {U J : Nat} {ua ja : Nat → Nat} (a n i : Nat) (f : Nat → Option Nat) (ha : M a = some (.inl (G.2 8, n, .inr (.inr (.inr (.inr f)))))) (hn : n ≤ 60000000) (hi : i < n) (b : Int64) (u : Nat) (hu : u < U) (hb : b = lN u) (v9 : Option Nat) (hau : hp_AS G M (KTZ 8) (ua u)) : HM l yX1_put (ws_ yX1_put cX1_put 6 none) 3 80 0 0 G X N0 [.ref a, .int (nI i), .long b, .ref (ua u), va_rf v9] M (PPT G M a 8 n i (n, .inr (.inr (.inr (.inr f)))) U J ua ja b) PX0 := by
  refine HM.of hl [(0, .ref a), (1, .int (nI i)), (2, .long b), (4, .ref (ua u)), (5, va_rf v9)] (by decide +kernel) (by cases v9 <;> rfl) (by cases v9 <;> exact Nat.le_of_ble_eq_true rfl) ?_
  intro p e s m args below meth c C hname
  refine V_aload_n C dX1_put_0 rfl 0 rfl ?_
  refine V_callS C (c_X1_kindOf l hl G X N0 M a 8 (by decide) _ ha) cs_X1_25 rfl rfl ⟨Nat.le_of_ble_eq_true rfl, Nat.le_of_ble_eq_true rfl⟩ ⟨(by first | exact Nat.le_of_ble_eq_true rfl | omega | (dsimp only; omega)), (by first | exact Nat.le_of_ble_eq_true rfl | omega | (dsimp only; omega))⟩ (Nat.le_of_ble_eq_true rfl) dX1_put_1 (fun _ _ _ h => px0 h) ?_
  rintro _ _ ⟨rfl, rfl⟩
  refine V_st (st' := [.int (nI 8)]) rfl ?_
  refine V_tableIn (tgt := 181) (off := 177) C dX1_put_4 (by decide) (by decide) (by decide) (by decide) ?_
  refine V_aload_n C dX1_put_181 rfl 0 rfl ?_
  refine V_castA C (j := 8) (by decide) q605 (Or.inl rfl) ha dX1_put_182 ?_
  refine V_iload_n C dX1_put_185 rfl 1 rfl ?_
  refine V_aload C dX1_put_186 3 rfl ?_
  refine V_aastM C (j := 8) rfl rfl ha hau (vp_in_nI (by omega) (by omega)) dX1_put_188 ?_
  refine V_heap (M' := hp_up M a (.inl (G.2 8, n, .inr (.inr (.inr (.inr (va_up f i (some (ua u))))))))) (by rw [nI_clamp (by omega)]) ?_
  obtain ⟨M_1, eM_2⟩ : ∃ z, z = hp_up M a (.inl (G.2 8, n, .inr (.inr (.inr (.inr (va_up f i (some (ua u)))))))) := ⟨_, rfl⟩
  refine V_heap (M' := M_1) eM_2.symm ?_
  have eM_2_s : M_1 a = some (.inl (G.2 8, n, .inr (.inr (.inr (.inr (va_up f i (some (ua u)))))))) := by rw [eM_2]; exact hp_up_s
  refine V_vret C dX1_put_189 rfl ?_ (by first | exact Nat.le_of_ble_eq_true rfl | omega | (dsimp only; omega)) (by first | exact Nat.le_of_ble_eq_true rfl | omega | (dsimp only; omega))
  exact ⟨rfl, _, eM_2, ⟨rfl, Or.inr (Or.inr (Or.inr (Or.inr ⟨by decide, _, rfl⟩)))⟩, fun j hj => congrArg (fun z => Sum.inr (Sum.inr (Sum.inr (Sum.inr z)))) (if_neg hj), Or.inr (Or.inr (Or.inr (Or.inr (Or.inl ⟨by decide, _, rfl, Or.inr ⟨u, hu, hb, if_pos rfl⟩⟩))))⟩
set_option maxHeartbeats 1000000 in
theorem c_X1_put_9n (l : Launch) (hl : l.stackTraces = false) (G : hp_G) (X : Nat → Nat) (N0 : Nat) (M : hp_h) {U J : Nat} {ua ja : Nat → Nat} (a n i : Nat) (f : Nat → Option Nat) (ha : M a = some (.inl (G.2 9, n, .inr (.inr (.inr (.inr f)))))) (hn : n ≤ 60000000) (hi : i < n) (b : Int64) (hb : b = -1) (v9 : Option Nat) : HM l yX1_put (ws_ yX1_put cX1_put 6 none) 3 80 0 0 G X N0 [.ref a, .int (nI i), .long b, .null, va_rf v9] M (PPT G M a 9 n i (n, .inr (.inr (.inr (.inr f)))) U J ua ja b) PX0 := by
  refine HM.of hl [(0, .ref a), (1, .int (nI i)), (2, .long b), (4, .null), (5, va_rf v9)] (by decide +kernel) (by cases v9 <;> rfl) (by cases v9 <;> exact Nat.le_of_ble_eq_true rfl) ?_
  intro p e s m args below meth c C hname
  refine V_aload_n C dX1_put_0 rfl 0 rfl ?_
  refine V_callS C (c_X1_kindOf l hl G X N0 M a 9 (by decide) _ ha) cs_X1_25 rfl rfl ⟨Nat.le_of_ble_eq_true rfl, Nat.le_of_ble_eq_true rfl⟩ ⟨(by first | exact Nat.le_of_ble_eq_true rfl | omega | (dsimp only; omega)), (by first | exact Nat.le_of_ble_eq_true rfl | omega | (dsimp only; omega))⟩ (Nat.le_of_ble_eq_true rfl) dX1_put_1 (fun _ _ _ h => px0 h) ?_
  rintro _ _ ⟨rfl, rfl⟩
  refine V_st (st' := [.int (nI 9)]) rfl ?_
  refine V_tableIn (tgt := 181) (off := 177) C dX1_put_4 (by decide) (by decide) (by decide) (by decide) ?_
  refine V_aload_n C dX1_put_181 rfl 0 rfl ?_
  refine V_castA C (j := 9) (by decide) q605 (Or.inr ⟨rfl, rfl⟩) ha dX1_put_182 ?_
  refine V_iload_n C dX1_put_185 rfl 1 rfl ?_
  refine V_aloadN C dX1_put_186 3 rfl ?_
  refine V_aastMN C (j := 9) rfl rfl ha (vp_in_nI (by omega) (by omega)) dX1_put_188 ?_
  refine V_heap (M' := hp_up M a (.inl (G.2 9, n, .inr (.inr (.inr (.inr (va_up f i none))))))) (by rw [nI_clamp (by omega)]) ?_
  obtain ⟨M_1, eM_2⟩ : ∃ z, z = hp_up M a (.inl (G.2 9, n, .inr (.inr (.inr (.inr (va_up f i none)))))) := ⟨_, rfl⟩
  refine V_heap (M' := M_1) eM_2.symm ?_
  have eM_2_s : M_1 a = some (.inl (G.2 9, n, .inr (.inr (.inr (.inr (va_up f i none)))))) := by rw [eM_2]; exact hp_up_s
  refine V_vret C dX1_put_189 rfl ?_ (by first | exact Nat.le_of_ble_eq_true rfl | omega | (dsimp only; omega)) (by first | exact Nat.le_of_ble_eq_true rfl | omega | (dsimp only; omega))
  exact ⟨rfl, _, eM_2, ⟨rfl, Or.inr (Or.inr (Or.inr (Or.inr ⟨by decide, _, rfl⟩)))⟩, fun j hj => congrArg (fun z => Sum.inr (Sum.inr (Sum.inr (Sum.inr z)))) (if_neg hj), Or.inr (Or.inr (Or.inr (Or.inr (Or.inl ⟨by decide, _, rfl, Or.inl ⟨hb, if_pos rfl⟩⟩))))⟩
set_option maxHeartbeats 1000000 in
theorem c_X1_put_9u (l : Launch) (hl : l.stackTraces = false) (G : hp_G) (X : Nat → Nat) (N0 : Nat) (M : hp_h) {U J : Nat} {ua ja : Nat → Nat} (a n i : Nat) (f : Nat → Option Nat) (ha : M a = some (.inl (G.2 9, n, .inr (.inr (.inr (.inr f)))))) (hn : n ≤ 60000000) (hi : i < n) (b : Int64) (u : Nat) (hu : u < U) (hb : b = lN u) (v9 : Option Nat) (hau : hp_AS G M (KTZ 9) (ua u)) : HM l yX1_put (ws_ yX1_put cX1_put 6 none) 3 80 0 0 G X N0 [.ref a, .int (nI i), .long b, .ref (ua u), va_rf v9] M (PPT G M a 9 n i (n, .inr (.inr (.inr (.inr f)))) U J ua ja b) PX0 := by
  refine HM.of hl [(0, .ref a), (1, .int (nI i)), (2, .long b), (4, .ref (ua u)), (5, va_rf v9)] (by decide +kernel) (by cases v9 <;> rfl) (by cases v9 <;> exact Nat.le_of_ble_eq_true rfl) ?_
  intro p e s m args below meth c C hname
  refine V_aload_n C dX1_put_0 rfl 0 rfl ?_
  refine V_callS C (c_X1_kindOf l hl G X N0 M a 9 (by decide) _ ha) cs_X1_25 rfl rfl ⟨Nat.le_of_ble_eq_true rfl, Nat.le_of_ble_eq_true rfl⟩ ⟨(by first | exact Nat.le_of_ble_eq_true rfl | omega | (dsimp only; omega)), (by first | exact Nat.le_of_ble_eq_true rfl | omega | (dsimp only; omega))⟩ (Nat.le_of_ble_eq_true rfl) dX1_put_1 (fun _ _ _ h => px0 h) ?_
  rintro _ _ ⟨rfl, rfl⟩
  refine V_st (st' := [.int (nI 9)]) rfl ?_
  refine V_tableIn (tgt := 181) (off := 177) C dX1_put_4 (by decide) (by decide) (by decide) (by decide) ?_
  refine V_aload_n C dX1_put_181 rfl 0 rfl ?_
  refine V_castA C (j := 9) (by decide) q605 (Or.inr ⟨rfl, rfl⟩) ha dX1_put_182 ?_
  refine V_iload_n C dX1_put_185 rfl 1 rfl ?_
  refine V_aload C dX1_put_186 3 rfl ?_
  refine V_aastM C (j := 9) rfl rfl ha hau (vp_in_nI (by omega) (by omega)) dX1_put_188 ?_
  refine V_heap (M' := hp_up M a (.inl (G.2 9, n, .inr (.inr (.inr (.inr (va_up f i (some (ua u))))))))) (by rw [nI_clamp (by omega)]) ?_
  obtain ⟨M_1, eM_2⟩ : ∃ z, z = hp_up M a (.inl (G.2 9, n, .inr (.inr (.inr (.inr (va_up f i (some (ua u)))))))) := ⟨_, rfl⟩
  refine V_heap (M' := M_1) eM_2.symm ?_
  have eM_2_s : M_1 a = some (.inl (G.2 9, n, .inr (.inr (.inr (.inr (va_up f i (some (ua u)))))))) := by rw [eM_2]; exact hp_up_s
  refine V_vret C dX1_put_189 rfl ?_ (by first | exact Nat.le_of_ble_eq_true rfl | omega | (dsimp only; omega)) (by first | exact Nat.le_of_ble_eq_true rfl | omega | (dsimp only; omega))
  exact ⟨rfl, _, eM_2, ⟨rfl, Or.inr (Or.inr (Or.inr (Or.inr ⟨by decide, _, rfl⟩)))⟩, fun j hj => congrArg (fun z => Sum.inr (Sum.inr (Sum.inr (Sum.inr z)))) (if_neg hj), Or.inr (Or.inr (Or.inr (Or.inr (Or.inl ⟨by decide, _, rfl, Or.inr ⟨u, hu, hb, if_pos rfl⟩⟩))))⟩
set_option maxHeartbeats 1000000 in
theorem c_X1_put_10n (l : Launch) (hl : l.stackTraces = false) (G : hp_G) (X : Nat → Nat) (N0 : Nat) (M : hp_h) {U J : Nat} {ua ja : Nat → Nat} (a n i : Nat) (f : Nat → Option Nat) (ha : M a = some (.inl (G.2 10, n, .inr (.inr (.inr (.inr f)))))) (hn : n ≤ 60000000) (hi : i < n) (b : Int64) (w9 : Int64) (hb : w9 = -1) (u9 : Option Nat) : HM l yX1_put (ws_ yX1_put cX1_put 6 none) 3 80 0 0 G X N0 [.ref a, .int (nI i), .long b, va_rf u9, .null] M (PPT G M a 10 n i (n, .inr (.inr (.inr (.inr f)))) U J ua ja w9) PX0 := by
  refine HM.of hl [(0, .ref a), (1, .int (nI i)), (2, .long b), (4, va_rf u9), (5, .null)] (by decide +kernel) (by cases u9 <;> rfl) (by cases u9 <;> exact Nat.le_of_ble_eq_true rfl) ?_
  intro p e s m args below meth c C hname
  refine V_aload_n C dX1_put_0 rfl 0 rfl ?_
  refine V_callS C (c_X1_kindOf l hl G X N0 M a 10 (by decide) _ ha) cs_X1_25 rfl rfl ⟨Nat.le_of_ble_eq_true rfl, Nat.le_of_ble_eq_true rfl⟩ ⟨(by first | exact Nat.le_of_ble_eq_true rfl | omega | (dsimp only; omega)), (by first | exact Nat.le_of_ble_eq_true rfl | omega | (dsimp only; omega))⟩ (Nat.le_of_ble_eq_true rfl) dX1_put_1 (fun _ _ _ h => px0 h) ?_
  rintro _ _ ⟨rfl, rfl⟩
  refine V_st (st' := [.int (nI 10)]) rfl ?_
  refine V_tableIn (tgt := 170) (off := 166) C dX1_put_4 (by decide) (by decide) (by decide) (by decide) ?_
  refine V_aload_n C dX1_put_170 rfl 0 rfl ?_
  refine V_castA C (j := 10) (by decide) q617 (Or.inl rfl) ha dX1_put_171 ?_
  refine V_iload_n C dX1_put_174 rfl 1 rfl ?_
  refine V_aloadN C dX1_put_175 4 rfl ?_
  refine V_aastMN C (j := 10) rfl rfl ha (vp_in_nI (by omega) (by omega)) dX1_put_177 ?_
  refine V_heap (M' := hp_up M a (.inl (G.2 10, n, .inr (.inr (.inr (.inr (va_up f i none))))))) (by rw [nI_clamp (by omega)]) ?_
  obtain ⟨M_1, eM_2⟩ : ∃ z, z = hp_up M a (.inl (G.2 10, n, .inr (.inr (.inr (.inr (va_up f i none)))))) := ⟨_, rfl⟩
  refine V_heap (M' := M_1) eM_2.symm ?_
  have eM_2_s : M_1 a = some (.inl (G.2 10, n, .inr (.inr (.inr (.inr (va_up f i none)))))) := by rw [eM_2]; exact hp_up_s
  refine V_goto (tgt := 189) C dX1_put_178 (by decide) ?_
  refine V_vret C dX1_put_189 rfl ?_ (by first | exact Nat.le_of_ble_eq_true rfl | omega | (dsimp only; omega)) (by first | exact Nat.le_of_ble_eq_true rfl | omega | (dsimp only; omega))
  exact ⟨rfl, _, eM_2, ⟨rfl, Or.inr (Or.inr (Or.inr (Or.inr ⟨by decide, _, rfl⟩)))⟩, fun j hj => congrArg (fun z => Sum.inr (Sum.inr (Sum.inr (Sum.inr z)))) (if_neg hj), Or.inr (Or.inr (Or.inr (Or.inr (Or.inr ⟨rfl, _, rfl, Or.inl ⟨hb, if_pos rfl⟩⟩))))⟩
set_option maxHeartbeats 1000000 in
theorem c_X1_put_10u (l : Launch) (hl : l.stackTraces = false) (G : hp_G) (X : Nat → Nat) (N0 : Nat) (M : hp_h) {U J : Nat} {ua ja : Nat → Nat} (a n i : Nat) (f : Nat → Option Nat) (ha : M a = some (.inl (G.2 10, n, .inr (.inr (.inr (.inr f)))))) (hn : n ≤ 60000000) (hi : i < n) (b w9 : Int64) (u : Nat) (hu : u < J) (hb : w9 = lN u) (u9 : Option Nat) (hau : hp_AS G M (KTZ 10) (ja u)) : HM l yX1_put (ws_ yX1_put cX1_put 6 none) 3 80 0 0 G X N0 [.ref a, .int (nI i), .long b, va_rf u9, .ref (ja u)] M (PPT G M a 10 n i (n, .inr (.inr (.inr (.inr f)))) U J ua ja w9) PX0 := by
  refine HM.of hl [(0, .ref a), (1, .int (nI i)), (2, .long b), (4, va_rf u9), (5, .ref (ja u))] (by decide +kernel) (by cases u9 <;> rfl) (by cases u9 <;> exact Nat.le_of_ble_eq_true rfl) ?_
  intro p e s m args below meth c C hname
  refine V_aload_n C dX1_put_0 rfl 0 rfl ?_
  refine V_callS C (c_X1_kindOf l hl G X N0 M a 10 (by decide) _ ha) cs_X1_25 rfl rfl ⟨Nat.le_of_ble_eq_true rfl, Nat.le_of_ble_eq_true rfl⟩ ⟨(by first | exact Nat.le_of_ble_eq_true rfl | omega | (dsimp only; omega)), (by first | exact Nat.le_of_ble_eq_true rfl | omega | (dsimp only; omega))⟩ (Nat.le_of_ble_eq_true rfl) dX1_put_1 (fun _ _ _ h => px0 h) ?_
  rintro _ _ ⟨rfl, rfl⟩
  refine V_st (st' := [.int (nI 10)]) rfl ?_
  refine V_tableIn (tgt := 170) (off := 166) C dX1_put_4 (by decide) (by decide) (by decide) (by decide) ?_
  refine V_aload_n C dX1_put_170 rfl 0 rfl ?_
  refine V_castA C (j := 10) (by decide) q617 (Or.inl rfl) ha dX1_put_171 ?_
  refine V_iload_n C dX1_put_174 rfl 1 rfl ?_
  refine V_aload C dX1_put_175 4 rfl ?_
  refine V_aastM C (j := 10) rfl rfl ha hau (vp_in_nI (by omega) (by omega)) dX1_put_177 ?_
  refine V_heap (M' := hp_up M a (.inl (G.2 10, n, .inr (.inr (.inr (.inr (va_up f i (some (ja u))))))))) (by rw [nI_clamp (by omega)]) ?_
  obtain ⟨M_1, eM_2⟩ : ∃ z, z = hp_up M a (.inl (G.2 10, n, .inr (.inr (.inr (.inr (va_up f i (some (ja u)))))))) := ⟨_, rfl⟩
  refine V_heap (M' := M_1) eM_2.symm ?_
  have eM_2_s : M_1 a = some (.inl (G.2 10, n, .inr (.inr (.inr (.inr (va_up f i (some (ja u)))))))) := by rw [eM_2]; exact hp_up_s
  refine V_goto (tgt := 189) C dX1_put_178 (by decide) ?_
  refine V_vret C dX1_put_189 rfl ?_ (by first | exact Nat.le_of_ble_eq_true rfl | omega | (dsimp only; omega)) (by first | exact Nat.le_of_ble_eq_true rfl | omega | (dsimp only; omega))
  exact ⟨rfl, _, eM_2, ⟨rfl, Or.inr (Or.inr (Or.inr (Or.inr ⟨by decide, _, rfl⟩)))⟩, fun j hj => congrArg (fun z => Sum.inr (Sum.inr (Sum.inr (Sum.inr z)))) (if_neg hj), Or.inr (Or.inr (Or.inr (Or.inr (Or.inr ⟨rfl, _, rfl, Or.inr ⟨u, hu, hb, if_pos rfl⟩⟩))))⟩
/-- what is put into a row of kind k: the bits b, or the unit vu, or the inner row vi; it tells w -/
def PTW (G : hp_G) (M : hp_h) (k U J : Nat) (ua ja : Nat → Nat) (b w : Int64) (vu vi : Option Nat) : Prop :=
  (k ≤ 7 ∧ w = asV k b) ∨ ((k = 8 ∨ k = 9) ∧ w = b ∧ ((vu = none ∧ b = -1) ∨ ∃ u, u < U ∧ b = lN u ∧ vu = some (ua u) ∧ hp_AS G M (KTZ k) (ua u))) ∨ (k = 10 ∧ ((vi = none ∧ w = -1) ∨ ∃ u, u < J ∧ w = lN u ∧ vi = some (ja u) ∧ hp_AS G M (KTZ 10) (ja u)))
set_option maxHeartbeats 1000000 in
theorem c_X1_put (l : Launch) (hl : l.stackTraces = false) (G : hp_G) (X : Nat → Nat) (N0 : Nat) (M : hp_h) {U J : Nat} {ua ja : Nat → Nat} (a k n i : Nat) (x : vp_A) (ha : M a = some (.inl (G.2 k, x))) (hx : XT k n x) (hn : n ≤ 60000000) (hi : i < n) (b w : Int64) (vu vi : Option Nat) (hw : PTW G M k U J ua ja b w vu vi) : HM l yX1_put (ws_ yX1_put cX1_put 6 none) 3 80 0 0 G X N0 [.ref a, .int (nI i), .long b, va_rf vu, va_rf vi] M (PPT G M a k n i x U J ua ja w) PX0 := by
  obtain ⟨n', y⟩ := x
  obtain ⟨h1, h2⟩ := hx
  have h1 : n' = n := h1
  subst h1
  have h2 : CT k y := h2
  unfold PTW at hw
  rcases h2 with ⟨h, f, rfl⟩ | ⟨rfl, f, rfl⟩ | ⟨rfl, f, rfl⟩ | ⟨rfl, f, rfl⟩ | ⟨h, f, rfl⟩
  · obtain ⟨-, rfl⟩ | ⟨hw, -⟩ | ⟨hw, -⟩ := hw
    · match k, h with
      | 0, _ => exact c_X1_put_0 l hl G X N0 M a n' i f ha hn hi b vu vi
      | 1, _ => exact c_X1_put_1 l hl G X N0 M a n' i f ha hn hi b vu vi
      | 2, _ => exact c_X1_put_2 l hl G X N0 M a n' i f ha hn hi b vu vi
      | 3, _ => exact c_X1_put_3 l hl G X N0 M a n' i f ha hn hi b vu vi
      | 4, _ => exact c_X1_put_4 l hl G X N0 M a n' i f ha hn hi b vu vi
      | k + 5, h => exact absurd h (by omega)
    · omega
    · omega
  · obtain ⟨-, rfl⟩ | ⟨hw, -⟩ | ⟨hw, -⟩ := hw
    · exact c_X1_put_5 l hl G X N0 M a n' i f ha hn hi _ vu vi
    · omega
    · omega
  · obtain ⟨-, rfl⟩ | ⟨hw, -⟩ | ⟨hw, -⟩ := hw
    · exact c_X1_put_6 l hl G X N0 M a n' i f ha hn hi _ vu vi
    · omega
    · omega
  · obtain ⟨-, rfl⟩ | ⟨hw, -⟩ | ⟨hw, -⟩ := hw
    · exact c_X1_put_7 l hl G X N0 M a n' i f ha hn hi _ vu vi
    · omega
    · omega
  · obtain ⟨hw, -⟩ | ⟨h89, rfl, hw⟩ | ⟨hk, hw⟩ := hw
    · omega
    · obtain ⟨rfl, rfl⟩ | ⟨u, hu, rfl, rfl, hau⟩ := hw
      · obtain rfl | rfl | rfl := h
        · exact c_X1_put_8n l hl G X N0 M a n' i f ha hn hi _ rfl vi
        · exact c_X1_put_9n l hl G X N0 M a n' i f ha hn hi _ rfl vi
        · omega
      · obtain rfl | rfl | rfl := h
        · exact c_X1_put_8u l hl G X N0 M a n' i f ha hn hi _ u hu rfl vi hau
        · exact c_X1_put_9u l hl G X N0 M a n' i f ha hn hi _ u hu rfl vi hau
        · omega
    · subst hk
      obtain ⟨rfl, rfl⟩ | ⟨u, hu, rfl, rfl, hau⟩ := hw
      · exact c_X1_put_10n l hl G X N0 M a n' i f ha hn hi b _ rfl vu
      · exact c_X1_put_10u l hl G X N0 M a n' i f ha hn hi b _ u hu rfl vu hau
