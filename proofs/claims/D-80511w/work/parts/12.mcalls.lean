set_option maxRecDepth 100000
theorem inLen {k x : Int32} {n : Nat} (hx : x = nI n) (hn : n ≤ 1000000) : (0 ≤ k.toInt64 ∧ k.toInt64 ≤ (x - 1).toInt64) ↔ ∃ j : Nat, j < n ∧ k = nI j := by
  subst hx
  rcases Nat.eq_zero_or_pos n with h | h
  · subst h
    constructor
    · rintro ⟨h1, h2⟩
      have h3 := Int64.le_iff_toInt_le.mp (Int64.le_trans h1 h2)
      exact absurd h3 (by decide)
    · rintro ⟨j, h1, -⟩
      omega
  · have e : nI n - 1 = nI (n - 1) := by rw [show n = (n - 1) + 1 by omega, nI_pred]; rfl
    rw [e, nI_l (by omega), in64 (by omega)]
    constructor
    · rintro ⟨j, h1, h2⟩
      exact ⟨j, by omega, h2⟩
    · rintro ⟨j, h1, h2⟩
      exact ⟨j, by omega, h2⟩
theorem inUn {b : Int64} {x : Int32} {n : Nat} (hx : x = nI n) (hn : n ≤ 1000000) : (-1 ≤ b ∧ b ≤ (x - 1).toInt64) ↔ (b = -1 ∨ ∃ j : Nat, j < n ∧ b = lN j) := by
  subst hx
  have e : (nI n - 1).toInt64.toInt = (n : Int) - 1 := by
    rw [Int32.toInt_toInt64]
    have h2 : (nI n - 1).toInt = ((nI n).toInt - (1 : Int32).toInt).bmod (2 ^ 32) := Int32.toInt_sub ..
    rw [h2, nI_toInt (by omega), show (1 : Int32).toInt = 1 from rfl]
    exact Kit.bmod32 (by omega) (by omega)
  rw [Int64.le_iff_toInt_le, Int64.le_iff_toInt_le, e, show (-1 : Int64).toInt = -1 from rfl]
  constructor
  · rintro ⟨h1, h2⟩
    by_cases h : b.toInt = -1
    · exact Or.inl (Int64.toInt_inj.mp (by rw [h]; rfl))
    · exact Or.inr ⟨b.toInt.toNat, by omega, Int64.toInt_inj.mp (by rw [lN_toInt (by omega)]; omega)⟩
  · rintro (h | ⟨j, hj, h⟩)
    · subst h
      rw [show (-1 : Int64).toInt = -1 from rfl]
      omega
    · subst h
      rw [lN_toInt (by omega)]
      omega
def mf_putA (a : Nat) (k : Int32) (b : Int64) (σ : MS) : Int32 × MS :=
  if ¬ mf_goes σ (σ.2.1 2 a) b then (0, sz σ 0 2) else if ¬ (0 ≤ k.toInt64 ∧ k.toInt64 ≤ (σ.2.1 3 a - 1).toInt64) then (0, sz σ 0 3) else if σ.2.1 2 a = 9 ∧ ¬ mf_isCard σ b then (0, sz σ 0 4)
  else (1, sl (mf_asE (σ.2.1 2 a) b (sz σ 0 0)).2 4 (va_up ((mf_asE (σ.2.1 2 a) b (sz σ 0 0)).2.2.2.1 4) (40 * a + k.toNatClampNeg) (mf_asE (σ.2.1 2 a) b (sz σ 0 0)).1))
def mf_put (r k : Int32) (b : Int64) (σ : MS) : Int32 × MS := if ¬ r < 0 ∧ r < σ.1 1 then mf_putA r.toNatClampNeg k b σ else (0, sz σ 0 1)
def mf_atA (a : Nat) (k : Int32) (σ : MS) : Int64 × MS :=
  if ¬ (0 ≤ k.toInt64 ∧ k.toInt64 ≤ (σ.2.1 3 a - 1).toInt64) then (0, sz σ 0 2) else (if σ.2.1 2 a = 10 ∧ ¬ el σ a k.toNatClampNeg < 0 then (σ.2.1 9 (el σ a k.toNatClampNeg).toInt32.toNatClampNeg).toInt64 else el σ a k.toNatClampNeg, sz σ 0 0)
def mf_at (r k : Int32) (σ : MS) : Int64 × MS := if ¬ r < 0 ∧ r < σ.1 1 then mf_atA r.toNatClampNeg k σ else (0, sz σ 0 1)
def mf_innB (j : Nat) (m v : Int32) (σ : MS) : Int32 × MS :=
  if ¬ (0 ≤ m.toInt64 ∧ m.toInt64 ≤ (σ.2.1 9 j - 1).toInt64) then (0, sz σ 0 3) else (σ.2.1 10 (40 * j + m.toNatClampNeg), si (sz σ 0 0) 10 (va_up (σ.2.1 10) (40 * j + m.toNatClampNeg) v))
def mf_innA (a : Nat) (k m v : Int32) (σ : MS) : Int32 × MS :=
  if σ.2.1 2 a ≠ 10 then (0, sz σ 0 2) else if ¬ (0 ≤ k.toInt64 ∧ k.toInt64 ≤ (σ.2.1 3 a - 1).toInt64) then (0, sz σ 0 3) else if el σ a k.toNatClampNeg < 0 then (0, sz σ 0 1) else mf_innB (el σ a k.toNatClampNeg).toInt32.toNatClampNeg m v σ
def mf_inner (r k m v : Int32) (σ : MS) : Int32 × MS := if ¬ r < 0 ∧ r < σ.1 1 then mf_innA r.toNatClampNeg k m v σ else (0, sz σ 0 1)
def mf_of (r w : Int32) (σ : MS) : Int32 := if ¬ r < 0 ∧ r < σ.1 1 then (if w = 0 then σ.2.1 2 r.toNatClampNeg else if w = 1 then σ.2.1 3 r.toNatClampNeg else -102) else -101
def mf_worthW (u w : Int32) (σ : MS) : Int64 := if (¬ u < 0 ∧ u < σ.1 5) ∧ (0 ≤ w.toInt64 ∧ w.toInt64 ≤ 2) then (if w = 0 then (mf_worth σ u.toNatClampNeg).toInt64 else if w = 1 then (mf_fee σ u.toNatClampNeg).toInt64 else (σ.2.1 6 u.toNatClampNeg).toInt64) else -9223372036854775808
def mf_planA (p : Nat) (h a i b j n : Int32) (σ : MS) : Int32 × MS :=
  if σ.2.1 16 p = 12 then (-104, σ) else (nI (psz σ p + 1), si (si σ 17 (va_up (va_up (va_up (va_up (va_up (va_up (σ.2.1 17) (6 * (12 * p + psz σ p)) h) (6 * (12 * p + psz σ p) + 1) a) (6 * (12 * p + psz σ p) + 2) i) (6 * (12 * p + psz σ p) + 3) b) (6 * (12 * p + psz σ p) + 4) j) (6 * (12 * p + psz σ p) + 5) n)) 16 (va_up (σ.2.1 16) p (nI (psz σ p + 1))))
def mf_plan (p h a i b j n : Int32) (σ : MS) : Int32 × MS :=
  if ¬ (0 ≤ p.toInt64 ∧ p.toInt64 ≤ 5) then (-101, σ) else if ¬ (0 ≤ h.toInt64 ∧ h.toInt64 ≤ 12) ∨ (h = 10 ∧ (¬ (0 ≤ a.toInt64 ∧ a.toInt64 ≤ 5) ∨ ¬ (0 ≤ i.toInt64 ∧ i.toInt64 ≤ 1))) then (-102, σ) else mf_planA p.toNatClampNeg h a i b j n σ
def mf_drop (p : Int32) (σ : MS) : Int32 × MS := if ¬ (0 ≤ p.toInt64 ∧ p.toInt64 ≤ 5) then (-101, σ) else (σ.2.1 16 p.toNatClampNeg, si σ 16 (va_up (σ.2.1 16) p.toNatClampNeg 0))
theorem isRow9 {σ : MS} (hI : MI σ) {a : Nat} (ha : a < nR σ) : ¬ nI a < 0 ∧ nI a < σ.1 1 := (isRow_n hI.R.1 (by have := hI.R.2; omega)).mpr ⟨a, ha, rfl⟩
theorem isCard9 {σ : MS} (hI : MI σ) {b : Int64} {k : Int32} (h : mf_goes σ k b) (hk : k = 9) : b = -1 ∨ ∃ n : Nat, n < 30 ∧ b = lN n := by
  subst hk
  rcases h with h | ⟨h, -⟩ | ⟨-, h⟩
  · exact absurd h (by decide)
  · exact absurd h (by decide)
  · rcases (inUn hI.U.1 (by have := hI.U.2; omega)).mp h with e | ⟨j, hj, e⟩
    · exact Or.inl e
    · exact Or.inr ⟨j, by have := hI.U.2; omega, e⟩
theorem nI_kln {σ : MS} {a : Nat} {k : Int32} (hl : σ.2.1 3 a = nI (ln σ a) ∧ ln σ a ≤ 40) (h : 0 ≤ k.toInt64 ∧ k.toInt64 ≤ (σ.2.1 3 a - 1).toInt64) : ∃ j : Nat, j < ln σ a ∧ k = nI j := (inLen hl.1 (by omega)).mp h
set_option maxHeartbeats 1000000 in
theorem c_X20_put (l : Launch) (hl : l.stackTraces = false) (G : hp_G) (X : Nat → Nat) (N0 : Nat) (mo : Nat) (ad : Nat → Nat) (σ : MS) (M : hp_h) (hM : MH G mo ad σ M) (r k : Int32) (b : Int64) (hI : MI σ) (hJ8 : nJ σ < 8000) : HM l yX20_put (ws_ yX20_put cX20_put 6 (some .int)) 4 88 0 0 G X N0 [.ref mo, .int r, .int k, .long b] M (PM G mo ad M (some (.int (mf_put r k b σ).1)) (mf_put r k b σ).2) PX0 := by
  refine HM.of hl [(0, .ref mo), (1, .int r), (2, .int k), (3, .long b)] (by decide +kernel) rfl (Nat.le_of_ble_eq_true rfl) ?_
  intro p e s m args below meth c C hname
  have hF : MFr mo ad M M := MFr.rf
  refine V_aload_n C dX20_put_0 rfl 0 rfl ?_
  refine V_iload_n C dX20_put_1 rfl 1 rfl ?_
  refine V_callV C (c_X20_isRow l hl G X N0 mo ad σ M hM r ) cs_X20_161_9 hM.1 (show CLS[9]? = some (RX20, TX20, 33) from rfl) rfl rfl ⟨Nat.le_of_ble_eq_true rfl, Nat.le_of_ble_eq_true rfl⟩ ⟨(by first | exact Nat.le_of_ble_eq_true rfl | omega | (dsimp only; omega)), (by first | exact Nat.le_of_ble_eq_true rfl | omega | (dsimp only; omega))⟩ (Nat.le_of_ble_eq_true rfl) dX20_put_2 (fun _ _ _ h => px0 h) ?_
  rintro _ _ ⟨rfl, rfl⟩
  refine V_st (st' := [.int (bI (¬ r < 0 ∧ r < σ.1 1))]) rfl ?_
  refine V_if_ne (tgt := 15) C dX20_put_5 (by decide) (fun c_5 => ?_) (fun c_5 => ?_)
  · obtain ⟨a, ha, rfl⟩ := hI.row (bI_n.mp c_5)
    have ea : (nI a).toNatClampNeg = a := nI_clamp (by have := hI.R.2; omega)
    have hk := hI.k ha
    have hl9 := hI.l ha
    refine V_aload_n C dX20_put_15 rfl 0 rfl ?_
    refine M_get C hM (.ref (ad 2)) f_X20_7_9 rfl dX20_put_16 ?_
    refine V_iload_n C dX20_put_19 rfl 1 rfl ?_
    refine M_iald C hM 2 a rfl rfl (show a < 60 from by have := hI.R.2; omega) dX20_put_20 ?_
    refine V_st (st' := [.int (nI (kd σ a))]) (by rw [show (σ.2.1 2 a) = (nI (kd σ a)) from hk.1]) ?_
    refine V_istore C dX20_put_21 (Nat.le_of_ble_eq_true rfl) [(0, .ref mo), (1, .int (nI a)), (2, .int k), (3, .long b), (5, .int (nI (kd σ a)))] [1, 2, 3, 4, 0] rfl ?_
    refine V_aload_n C dX20_put_23 rfl 0 rfl ?_
    refine V_aload_n C dX20_put_24 rfl 0 rfl ?_
    refine V_pc (pc1 := 25) rfl ?_
    refine V_iload C dX20_put_25 4 rfl ?_
    refine V_lload_n C dX20_put_27 rfl 3 rfl ?_
    refine V_callV C (c_X20_goes l hl G X N0 mo ad σ M hM (nI (kd σ a)) b ) cs_X20_165_9 hM.1 (show CLS[9]? = some (RX20, TX20, 33) from rfl) rfl rfl ⟨Nat.le_of_ble_eq_true rfl, Nat.le_of_ble_eq_true rfl⟩ ⟨(by first | exact Nat.le_of_ble_eq_true rfl | omega | (dsimp only; omega)), (by first | exact Nat.le_of_ble_eq_true rfl | omega | (dsimp only; omega))⟩ (Nat.le_of_ble_eq_true rfl) dX20_put_28 (fun _ _ _ h => px0 h) ?_
    rintro _ _ ⟨rfl, rfl⟩
    refine V_st (st' := [.int (bI (mf_goes σ (nI (kd σ a)) b)), .ref mo]) rfl ?_
    refine V_if_ne (tgt := 38) C dX20_put_31 (by decide) (fun c_31 => ?_) (fun c_31 => ?_)
    · refine V_iload_n C dX20_put_38 rfl 2 rfl ?_
      refine V_i2l (v := k.toInt64) C dX20_put_39 rfl ?_
      refine V_lconst (v := 0) C dX20_put_40 rfl ?_
      refine V_aload_n C dX20_put_41 rfl 0 rfl ?_
      refine M_get C hM (.ref (ad 3)) f_X20_13_9 rfl dX20_put_42 ?_
      refine V_iload_n C dX20_put_45 rfl 1 rfl ?_
      refine M_iald C hM 3 a rfl rfl (show a < 60 from by have := hI.R.2; omega) dX20_put_46 ?_
      refine V_iconst (v := 1) C dX20_put_47 rfl ?_
      refine V_pc (pc1 := 48) rfl ?_
      refine V_isub C dX20_put_48 ?_
      refine V_i2l (v := ((σ.2.1 3 a) - 1).toInt64) C dX20_put_49 rfl ?_
      refine V_callS C (c_X20_in l hl G X N0 M k.toInt64 0 (((σ.2.1 3 a) - 1).toInt64)) cs_X20_123 rfl rfl ⟨Nat.le_of_ble_eq_true rfl, Nat.le_of_ble_eq_true rfl⟩ ⟨(by first | exact Nat.le_of_ble_eq_true rfl | omega | (dsimp only; omega)), (by first | exact Nat.le_of_ble_eq_true rfl | omega | (dsimp only; omega))⟩ (Nat.le_of_ble_eq_true rfl) dX20_put_50 (fun _ _ _ h => px0 h) ?_
      rintro _ _ ⟨rfl, rfl⟩
      refine V_st (st' := [.int (bI (0 ≤ k.toInt64 ∧ k.toInt64 ≤ (((σ.2.1 3 a) - 1).toInt64))), .ref mo]) rfl ?_
      refine V_if_ne (tgt := 60) C dX20_put_53 (by decide) (fun c_53 => ?_) (fun c_53 => ?_)
      · refine V_iload C dX20_put_60 4 rfl ?_
        refine V_bipush (v := 9) C dX20_put_62 rfl ?_
        refine V_icmp_ne (tgt := 79) C dX20_put_64 (by decide) (fun c_64 => ?_) (fun c_64 => ?_)
        · refine V_iconst (v := 0) C dX20_put_79 rfl ?_
          refine M_puti C hM hF f_X20_100_9 (by decide) mF_0 dX20_put_80 (fun M_1 hM_2 hF_3 => ?_)
          refine V_aload_n C dX20_put_83 rfl 0 rfl ?_
          refine M_get C hM_2 (.int 0) f_X20_100_9 rfl dX20_put_84 ?_
          refine V_if_le (tgt := 92) C dX20_put_87 (by decide) (fun c_87 => ?_) (fun c_87 => ?_)
          · obtain ⟨i0, hi0, rfl⟩ := nI_kln hl9 (bI_n.mp c_53)
            have ei : (nI i0).toNatClampNeg = i0 := nI_clamp (by omega)
            refine V_pc (pc1 := 92) rfl ?_
            refine V_aload_n C dX20_put_92 rfl 0 rfl ?_
            refine M_get C hM_2 (.ref (ad 4)) f_X20_16_9 rfl dX20_put_93 ?_
            refine V_bipush (v := 40) C dX20_put_96 rfl ?_
            refine V_iload_n C dX20_put_98 rfl 1 rfl ?_
            refine V_imul C dX20_put_99 ?_
            refine V_iload_n C dX20_put_100 rfl 2 rfl ?_
            refine V_iadd C dX20_put_101 ?_
            refine V_aload_n C dX20_put_102 rfl 0 rfl ?_
            refine V_iload C dX20_put_103 4 rfl ?_
            refine V_lload_n C dX20_put_105 rfl 3 rfl ?_
            refine V_callV C (c_X20_asElement l hl G X N0 mo ad (sz σ 0 0) M_1 hM_2 (kd σ a) hk.2 b (nJ σ) hI.J.1 hJ8) cs_X20_173_9 hM_2.1 (show CLS[9]? = some (RX20, TX20, 33) from rfl) rfl rfl ⟨Nat.le_of_ble_eq_true rfl, Nat.le_of_ble_eq_true rfl⟩ ⟨(by first | exact Nat.le_of_ble_eq_true rfl | omega | (dsimp only; omega)), (by first | exact Nat.le_of_ble_eq_true rfl | omega | (dsimp only; omega))⟩ (Nat.le_of_ble_eq_true rfl) dX20_put_106 (fun _ _ _ h => px0 h) ?_
            rintro _ M_4 ⟨rfl, hM_5, hF_6⟩
            refine V_st (st' := [.long ((mf_asE (nI (kd σ a)) b (sz σ 0 0)).1), .int ((40 * (nI a)) + (nI i0)), .ref (ad 4)]) rfl ?_
            have hF_7 := hF_3.trans hF_6
            refine M_last C hM_5 hF_7 4 (40 * a + i0) rfl (ix40 a i0) (show 40 * a + i0 < 2400 from by have := hI.R.2; omega) dX20_put_109 (fun M_8 hM_9 hF_10 => ?_)
            refine V_pc (pc1 := 110) rfl ?_
            refine V_iconst (v := 1) C dX20_put_110 rfl ?_
            refine V_iret C dX20_put_111 rfl ?_ (by first | exact Nat.le_of_ble_eq_true rfl | omega | (dsimp only; omega)) (by first | exact Nat.le_of_ble_eq_true rfl | omega | (dsimp only; omega))
            have e9 : mf_put (nI a) (nI i0) b σ = (1, (sl ((mf_asE (nI (kd σ a)) b (sz σ 0 0)).2) 4 (va_up (((mf_asE (nI (kd σ a)) b (sz σ 0 0)).2).2.2.1 4) (40 * a + i0) ((mf_asE (nI (kd σ a)) b (sz σ 0 0)).1)))) := by
              (try simp only [lg_cmp_lt, lg_cmp_gt, lg_cmp_ge, lg_cmp_le, lg_cmp_eq, bI_0, bI_n, Classical.not_not] at c_5 c_31 c_53 c_64 c_87)
              unfold mf_put
              rw [if_pos (isRow9 hI ha), ea]
              unfold mf_putA
              clear C hM
              try rw [ei]
              grind
            rw [e9]; exact ⟨rfl, hM_9, hF_10⟩
          · exact absurd c_87 (by decide)
        · refine V_aload_n C dX20_put_67 rfl 0 rfl ?_
          refine V_lload_n C dX20_put_68 rfl 3 rfl ?_
          refine V_callV C (c_X20_isCard l hl G X N0 mo ad σ M hM b (isCard9 hI (bI_n.mp c_31) c_64) ) cs_X20_169_9 hM.1 (show CLS[9]? = some (RX20, TX20, 33) from rfl) rfl rfl ⟨Nat.le_of_ble_eq_true rfl, Nat.le_of_ble_eq_true rfl⟩ ⟨(by first | exact Nat.le_of_ble_eq_true rfl | omega | (dsimp only; omega)), (by first | exact Nat.le_of_ble_eq_true rfl | omega | (dsimp only; omega))⟩ (Nat.le_of_ble_eq_true rfl) dX20_put_69 (fun _ _ _ h => px0 h) ?_
          rintro _ _ ⟨rfl, rfl⟩
          refine V_st (st' := [.int (bI (mf_isCard σ b)), .ref mo]) rfl ?_
          refine V_if_ne (tgt := 79) C dX20_put_72 (by decide) (fun c_72 => ?_) (fun c_72 => ?_)
          · refine V_iconst (v := 0) C dX20_put_79 rfl ?_
            refine V_pc (pc1 := 80) rfl ?_
            refine M_puti C hM hF f_X20_100_9 (by decide) mF_0 dX20_put_80 (fun M_11 hM_12 hF_13 => ?_)
            refine V_aload_n C dX20_put_83 rfl 0 rfl ?_
            refine M_get C hM_12 (.int 0) f_X20_100_9 rfl dX20_put_84 ?_
            refine V_if_le (tgt := 92) C dX20_put_87 (by decide) (fun c_87_2 => ?_) (fun c_87_2 => ?_)
            · obtain ⟨i0, hi0, rfl⟩ := nI_kln hl9 (bI_n.mp c_53)
              have ei : (nI i0).toNatClampNeg = i0 := nI_clamp (by omega)
              refine V_aload_n C dX20_put_92 rfl 0 rfl ?_
              refine M_get C hM_12 (.ref (ad 4)) f_X20_16_9 rfl dX20_put_93 ?_
              refine V_bipush (v := 40) C dX20_put_96 rfl ?_
              refine V_iload_n C dX20_put_98 rfl 1 rfl ?_
              refine V_imul C dX20_put_99 ?_
              refine V_iload_n C dX20_put_100 rfl 2 rfl ?_
              refine V_iadd C dX20_put_101 ?_
              refine V_aload_n C dX20_put_102 rfl 0 rfl ?_
              refine V_pc (pc1 := 103) rfl ?_
              refine V_iload C dX20_put_103 4 rfl ?_
              refine V_lload_n C dX20_put_105 rfl 3 rfl ?_
              refine V_callV C (c_X20_asElement l hl G X N0 mo ad (sz σ 0 0) M_11 hM_12 (kd σ a) hk.2 b (nJ σ) hI.J.1 hJ8) cs_X20_173_9 hM_12.1 (show CLS[9]? = some (RX20, TX20, 33) from rfl) rfl rfl ⟨Nat.le_of_ble_eq_true rfl, Nat.le_of_ble_eq_true rfl⟩ ⟨(by first | exact Nat.le_of_ble_eq_true rfl | omega | (dsimp only; omega)), (by first | exact Nat.le_of_ble_eq_true rfl | omega | (dsimp only; omega))⟩ (Nat.le_of_ble_eq_true rfl) dX20_put_106 (fun _ _ _ h => px0 h) ?_
              rintro _ M_14 ⟨rfl, hM_15, hF_16⟩
              refine V_st (st' := [.long ((mf_asE (nI (kd σ a)) b (sz σ 0 0)).1), .int ((40 * (nI a)) + (nI i0)), .ref (ad 4)]) rfl ?_
              have hF_17 := hF_13.trans hF_16
              refine M_last C hM_15 hF_17 4 (40 * a + i0) rfl (ix40 a i0) (show 40 * a + i0 < 2400 from by have := hI.R.2; omega) dX20_put_109 (fun M_18 hM_19 hF_20 => ?_)
              refine V_iconst (v := 1) C dX20_put_110 rfl ?_
              refine V_iret C dX20_put_111 rfl ?_ (by first | exact Nat.le_of_ble_eq_true rfl | omega | (dsimp only; omega)) (by first | exact Nat.le_of_ble_eq_true rfl | omega | (dsimp only; omega))
              have e9 : mf_put (nI a) (nI i0) b σ = (1, (sl ((mf_asE (nI (kd σ a)) b (sz σ 0 0)).2) 4 (va_up (((mf_asE (nI (kd σ a)) b (sz σ 0 0)).2).2.2.1 4) (40 * a + i0) ((mf_asE (nI (kd σ a)) b (sz σ 0 0)).1)))) := by
                (try simp only [lg_cmp_lt, lg_cmp_gt, lg_cmp_ge, lg_cmp_le, lg_cmp_eq, bI_0, bI_n, Classical.not_not] at c_5 c_31 c_53 c_64 c_72 c_87_2)
                unfold mf_put
                rw [if_pos (isRow9 hI ha), ea]
                unfold mf_putA
                clear C hM
                try rw [ei]
                grind
              rw [e9]; exact ⟨rfl, hM_19, hF_20⟩
            · exact absurd c_87_2 (by decide)
          · refine V_iconst (v := 4) C dX20_put_75 rfl ?_
            refine V_pc (pc1 := 76) rfl ?_
            refine V_goto (tgt := 80) C dX20_put_76 (by decide) ?_
            refine M_puti C hM hF f_X20_100_9 (by decide) mF_0 dX20_put_80 (fun M_21 hM_22 hF_23 => ?_)
            refine V_aload_n C dX20_put_83 rfl 0 rfl ?_
            refine M_get C hM_22 (.int 4) f_X20_100_9 rfl dX20_put_84 ?_
            refine V_if_le (tgt := 92) C dX20_put_87 (by decide) (fun c_87_3 => ?_) (fun c_87_3 => ?_)
            · exact absurd c_87_3 (by decide)
            · refine V_iconst (v := 0) C dX20_put_90 rfl ?_
              refine V_iret C dX20_put_91 rfl ?_ (by first | exact Nat.le_of_ble_eq_true rfl | omega | (dsimp only; omega)) (by first | exact Nat.le_of_ble_eq_true rfl | omega | (dsimp only; omega))
              have e9 : mf_put (nI a) k b σ = (0, (sz σ 0 4)) := by
                (try simp only [lg_cmp_lt, lg_cmp_gt, lg_cmp_ge, lg_cmp_le, lg_cmp_eq, bI_0, bI_n, Classical.not_not] at c_5 c_31 c_53 c_64 c_72 c_87_3)
                unfold mf_put
                rw [if_pos (isRow9 hI ha), ea]
                unfold mf_putA
                clear C hM
                grind
              rw [e9]; exact ⟨rfl, hM_22, hF_23⟩
      · refine V_iconst (v := 3) C dX20_put_56 rfl ?_
        refine V_goto (tgt := 80) C dX20_put_57 (by decide) ?_
        refine M_puti C hM hF f_X20_100_9 (by decide) mF_0 dX20_put_80 (fun M_24 hM_25 hF_26 => ?_)
        refine V_aload_n C dX20_put_83 rfl 0 rfl ?_
        refine M_get C hM_25 (.int 3) f_X20_100_9 rfl dX20_put_84 ?_
        refine V_if_le (tgt := 92) C dX20_put_87 (by decide) (fun c_87_4 => ?_) (fun c_87_4 => ?_)
        · exact absurd c_87_4 (by decide)
        · refine V_iconst (v := 0) C dX20_put_90 rfl ?_
          refine V_iret C dX20_put_91 rfl ?_ (by first | exact Nat.le_of_ble_eq_true rfl | omega | (dsimp only; omega)) (by first | exact Nat.le_of_ble_eq_true rfl | omega | (dsimp only; omega))
          have e9 : mf_put (nI a) k b σ = (0, (sz σ 0 3)) := by
            (try simp only [lg_cmp_lt, lg_cmp_gt, lg_cmp_ge, lg_cmp_le, lg_cmp_eq, bI_0, bI_n, Classical.not_not] at c_5 c_31 c_53 c_87_4)
            unfold mf_put
            rw [if_pos (isRow9 hI ha), ea]
            unfold mf_putA
            clear C hM
            grind
          rw [e9]; exact ⟨rfl, hM_25, hF_26⟩
    · refine V_iconst (v := 2) C dX20_put_34 rfl ?_
      refine V_goto (tgt := 80) C dX20_put_35 (by decide) ?_
      refine M_puti C hM hF f_X20_100_9 (by decide) mF_0 dX20_put_80 (fun M_27 hM_28 hF_29 => ?_)
      refine V_aload_n C dX20_put_83 rfl 0 rfl ?_
      refine M_get C hM_28 (.int 2) f_X20_100_9 rfl dX20_put_84 ?_
      refine V_if_le (tgt := 92) C dX20_put_87 (by decide) (fun c_87_5 => ?_) (fun c_87_5 => ?_)
      · exact absurd c_87_5 (by decide)
      · refine V_iconst (v := 0) C dX20_put_90 rfl ?_
        refine V_iret C dX20_put_91 rfl ?_ (by first | exact Nat.le_of_ble_eq_true rfl | omega | (dsimp only; omega)) (by first | exact Nat.le_of_ble_eq_true rfl | omega | (dsimp only; omega))
        have e9 : mf_put (nI a) k b σ = (0, (sz σ 0 2)) := by
          (try simp only [lg_cmp_lt, lg_cmp_gt, lg_cmp_ge, lg_cmp_le, lg_cmp_eq, bI_0, bI_n, Classical.not_not] at c_5 c_31 c_87_5)
          unfold mf_put
          rw [if_pos (isRow9 hI ha), ea]
          unfold mf_putA
          clear C hM
          grind
        rw [e9]; exact ⟨rfl, hM_28, hF_29⟩
  · refine V_aload_n C dX20_put_8 rfl 0 rfl ?_
    refine V_iconst (v := 1) C dX20_put_9 rfl ?_
    refine M_puti C hM hF f_X20_100_9 (by decide) mF_0 dX20_put_10 (fun M_30 hM_31 hF_32 => ?_)
    refine V_iconst (v := 0) C dX20_put_13 rfl ?_
    refine V_iret C dX20_put_14 rfl ?_ (by first | exact Nat.le_of_ble_eq_true rfl | omega | (dsimp only; omega)) (by first | exact Nat.le_of_ble_eq_true rfl | omega | (dsimp only; omega))
    have e9 : mf_put r k b σ = (0, sz σ 0 1) := by
      unfold mf_put
      rw [if_neg (bI_0.mp c_5)]
    rw [e9]; exact ⟨rfl, hM_31, hF_32⟩
set_option maxHeartbeats 1000000 in
theorem c_X20_at (l : Launch) (hl : l.stackTraces = false) (G : hp_G) (X : Nat → Nat) (N0 : Nat) (mo : Nat) (ad : Nat → Nat) (σ : MS) (M : hp_h) (hM : MH G mo ad σ M) (r k : Int32) (hI : MI σ) : HM l yX20_at (ws_ yX20_at cX20_at 5 (some .long)) 1 25 0 0 G X N0 [.ref mo, .int r, .int k] M (PM G mo ad M (some (.long (mf_at r k σ).1)) (mf_at r k σ).2) PX0 := by
  refine HM.of hl [(0, .ref mo), (1, .int r), (2, .int k)] (by decide +kernel) rfl (Nat.le_of_ble_eq_true rfl) ?_
  intro p e s m args below meth c C hname
  have hF : MFr mo ad M M := MFr.rf
  refine V_aload_n C dX20_at_0 rfl 0 rfl ?_
  refine V_aload_n C dX20_at_1 rfl 0 rfl ?_
  refine V_iload_n C dX20_at_2 rfl 1 rfl ?_
  refine V_callV C (c_X20_isRow l hl G X N0 mo ad σ M hM r ) cs_X20_161_9 hM.1 (show CLS[9]? = some (RX20, TX20, 33) from rfl) rfl rfl ⟨Nat.le_of_ble_eq_true rfl, Nat.le_of_ble_eq_true rfl⟩ ⟨(by first | exact Nat.le_of_ble_eq_true rfl | omega | (dsimp only; omega)), (by first | exact Nat.le_of_ble_eq_true rfl | omega | (dsimp only; omega))⟩ (Nat.le_of_ble_eq_true rfl) dX20_at_3 (fun _ _ _ h => px0 h) ?_
  rintro _ _ ⟨rfl, rfl⟩
  refine V_st (st' := [.int (bI (¬ r < 0 ∧ r < σ.1 1)), .ref mo]) rfl ?_
  refine V_if_ne (tgt := 13) C dX20_at_6 (by decide) (fun c_6 => ?_) (fun c_6 => ?_)
  · obtain ⟨a, ha, rfl⟩ := hI.row (bI_n.mp c_6)
    have ea : (nI a).toNatClampNeg = a := nI_clamp (by have := hI.R.2; omega)
    have hk := hI.k ha
    have hl9 := hI.l ha
    refine V_iload_n C dX20_at_13 rfl 2 rfl ?_
    refine V_i2l (v := k.toInt64) C dX20_at_14 rfl ?_
    refine V_lconst (v := 0) C dX20_at_15 rfl ?_
    refine V_aload_n C dX20_at_16 rfl 0 rfl ?_
    refine M_get C hM (.ref (ad 3)) f_X20_13_9 rfl dX20_at_17 ?_
    refine V_iload_n C dX20_at_20 rfl 1 rfl ?_
    refine V_pc (pc1 := 21) rfl ?_
    refine M_iald C hM 3 a rfl rfl (show a < 60 from by first | omega | (have := hI.R.2; omega) | (have := hI.U.2; omega) | (have := hI.J.2; omega)) dX20_at_21 ?_
    refine V_iconst (v := 1) C dX20_at_22 rfl ?_
    refine V_isub C dX20_at_23 ?_
    refine V_i2l (v := ((σ.2.1 3 a) - 1).toInt64) C dX20_at_24 rfl ?_
    refine V_callS C (c_X20_in l hl G X N0 M k.toInt64 0 (((σ.2.1 3 a) - 1).toInt64)) cs_X20_123 rfl rfl ⟨Nat.le_of_ble_eq_true rfl, Nat.le_of_ble_eq_true rfl⟩ ⟨(by first | exact Nat.le_of_ble_eq_true rfl | omega | (dsimp only; omega)), (by first | exact Nat.le_of_ble_eq_true rfl | omega | (dsimp only; omega))⟩ (Nat.le_of_ble_eq_true rfl) dX20_at_25 (fun _ _ _ h => px0 h) ?_
    rintro _ _ ⟨rfl, rfl⟩
    refine V_st (st' := [.int (bI (0 ≤ k.toInt64 ∧ k.toInt64 ≤ (((σ.2.1 3 a) - 1).toInt64))), .ref mo]) rfl ?_
    refine V_if_ne (tgt := 35) C dX20_at_28 (by decide) (fun c_28 => ?_) (fun c_28 => ?_)
    · refine V_iconst (v := 0) C dX20_at_35 rfl ?_
      refine M_puti C hM hF f_X20_100_9 (by decide) mF_0 dX20_at_36 (fun M_1 hM_2 hF_3 => ?_)
      refine V_aload_n C dX20_at_39 rfl 0 rfl ?_
      refine M_get C hM_2 (.int 0) f_X20_100_9 rfl dX20_at_40 ?_
      refine V_if_le (tgt := 48) C dX20_at_43 (by decide) (fun c_43 => ?_) (fun c_43 => ?_)
      · obtain ⟨i0, hi0, rfl⟩ := nI_kln hl9 (bI_n.mp c_28)
        have ei : (nI i0).toNatClampNeg = i0 := nI_clamp (by omega)
        refine V_aload_n C dX20_at_48 rfl 0 rfl ?_
        refine V_pc (pc1 := 49) rfl ?_
        refine M_get C hM_2 (.ref (ad 4)) f_X20_16_9 rfl dX20_at_49 ?_
        refine V_bipush (v := 40) C dX20_at_52 rfl ?_
        refine V_iload_n C dX20_at_54 rfl 1 rfl ?_
        refine V_imul C dX20_at_55 ?_
        refine V_iload_n C dX20_at_56 rfl 2 rfl ?_
        refine V_iadd C dX20_at_57 ?_
        refine M_lald C hM_2 4 (40 * a + i0) rfl (ix40 a i0) (show 40 * a + i0 < 2400 from by have := hI.R.2; omega) dX20_at_58 ?_
        refine V_st (st' := [.long (σ.2.2.1 4 (40 * a + i0))]) rfl ?_
        refine V_lstore_n C dX20_at_59 rfl (Nat.le_of_ble_eq_true rfl) [(0, .ref mo), (1, .int (nI a)), (2, .int (nI i0)), (3, .long (σ.2.2.1 4 (40 * a + i0)))] [1, 2, 3, 0] rfl ?_
        refine V_aload_n C dX20_at_60 rfl 0 rfl ?_
        refine M_get C hM_2 (.ref (ad 2)) f_X20_7_9 rfl dX20_at_61 ?_
        refine V_iload_n C dX20_at_64 rfl 1 rfl ?_
        refine M_iald C hM_2 2 a rfl rfl (show a < 60 from by first | omega | (have := hI.R.2; omega) | (have := hI.U.2; omega) | (have := hI.J.2; omega)) dX20_at_65 ?_
        refine V_st (st' := [.int (σ.2.1 2 a)]) rfl ?_
        refine V_pc (pc1 := 66) rfl ?_
        refine V_bipush (v := 10) C dX20_at_66 rfl ?_
        refine V_icmp_ne (tgt := 88) C dX20_at_68 (by decide) (fun c_68 => ?_) (fun c_68 => ?_)
        · refine V_lload_n C dX20_at_88 rfl 3 rfl ?_
          refine V_lret C dX20_at_89 rfl ?_ (by first | exact Nat.le_of_ble_eq_true rfl | omega | (dsimp only; omega)) (by first | exact Nat.le_of_ble_eq_true rfl | omega | (dsimp only; omega))
          have e9 : mf_at (nI a) (nI i0) σ = (σ.2.2.1 4 (40 * a + i0), (sz σ 0 0)) := by
            (try simp only [lg_cmp_lt, lg_cmp_gt, lg_cmp_ge, lg_cmp_le, lg_cmp_eq, bI_0, bI_n, Classical.not_not] at c_6 c_28 c_43 c_68)
            unfold mf_at
            rw [if_pos (isRow9 hI ha), ea]
            unfold mf_atA
            clear C hM
            try rw [ei]
            grind
          rw [e9]; exact ⟨rfl, hM_2, hF_3⟩
        · refine V_lload_n C dX20_at_71 rfl 3 rfl ?_
          refine V_lconst (v := 0) C dX20_at_72 rfl ?_
          refine V_lcmp C dX20_at_73 ?_
          refine V_if_lt (tgt := 88) C dX20_at_74 (by decide) (fun c_74 => ?_) (fun c_74 => ?_)
          · refine V_lload_n C dX20_at_88 rfl 3 rfl ?_
            refine V_lret C dX20_at_89 rfl ?_ (by first | exact Nat.le_of_ble_eq_true rfl | omega | (dsimp only; omega)) (by first | exact Nat.le_of_ble_eq_true rfl | omega | (dsimp only; omega))
            have e9 : mf_at (nI a) (nI i0) σ = (σ.2.2.1 4 (40 * a + i0), (sz σ 0 0)) := by
              (try simp only [lg_cmp_lt, lg_cmp_gt, lg_cmp_ge, lg_cmp_le, lg_cmp_eq, bI_0, bI_n, Classical.not_not] at c_6 c_28 c_43 c_68 c_74)
              unfold mf_at
              rw [if_pos (isRow9 hI ha), ea]
              unfold mf_atA
              clear C hM
              try rw [ei]
              grind
            rw [e9]; exact ⟨rfl, hM_2, hF_3⟩
          · obtain ⟨j0, hj0, ej⟩ : ∃ j, j < nJ σ ∧ el σ a i0 = lN j := by
              simp only [lg_cmp_lt, lg_cmp_gt, lg_cmp_ge, lg_cmp_le, lg_cmp_eq, bI_0, bI_n, Classical.not_not] at c_74
              rcases hI.ej ha hi0 (by have := (nI_eq (a := kd σ a) (b := 10) (by omega) (by omega)).mp (hk.1 ▸ c_68); exact this) with z | z
              · exact absurd (show el σ a i0 < 0 from by rw [z]; decide) c_74
              · exact z
            refine V_aload_n C dX20_at_77 rfl 0 rfl ?_
            refine M_get C hM_2 (.ref (ad 9)) f_X20_26_9 rfl dX20_at_78 ?_
            refine V_lload_n C dX20_at_81 rfl 3 rfl ?_
            refine V_l2i (v := (σ.2.2.1 4 (40 * a + i0)).toInt32) C dX20_at_82 rfl ?_
            refine M_iald C hM_2 9 j0 rfl (show (σ.2.2.1 4 (40 * a + i0)).toInt32 = nI j0 from by rw [show σ.2.2.1 4 (40 * a + i0) = lN j0 from ej]; exact lN_i j0) (show j0 < 8000 from by have := hI.J.2; omega) dX20_at_83 ?_
            refine V_st (st' := [.int (σ.2.1 9 j0)]) rfl ?_
            refine V_i2l (v := (σ.2.1 9 j0).toInt64) C dX20_at_84 rfl ?_
            refine V_pc (pc1 := 85) rfl ?_
            refine V_goto (tgt := 89) C dX20_at_85 (by decide) ?_
            refine V_lret C dX20_at_89 rfl ?_ (by first | exact Nat.le_of_ble_eq_true rfl | omega | (dsimp only; omega)) (by first | exact Nat.le_of_ble_eq_true rfl | omega | (dsimp only; omega))
            have e9 : mf_at (nI a) (nI i0) σ = ((σ.2.1 9 j0).toInt64, (sz σ 0 0)) := by
              (try simp only [lg_cmp_lt, lg_cmp_gt, lg_cmp_ge, lg_cmp_le, lg_cmp_eq, bI_0, bI_n, Classical.not_not] at c_6 c_28 c_43 c_68 c_74)
              unfold mf_at
              rw [if_pos (isRow9 hI ha), ea]
              unfold mf_atA
              clear C hM
              try rw [ei]
              try rw [show (el σ a i0).toInt32.toNatClampNeg = j0 from by rw [ej, lN_i, nI_clamp (by have := hI.J.2; omega)]]
              grind
            rw [e9]; exact ⟨rfl, hM_2, hF_3⟩
      · exact absurd c_43 (by decide)
    · refine V_iconst (v := 2) C dX20_at_31 rfl ?_
      refine V_goto (tgt := 36) C dX20_at_32 (by decide) ?_
      refine M_puti C hM hF f_X20_100_9 (by decide) mF_0 dX20_at_36 (fun M_4 hM_5 hF_6 => ?_)
      refine V_aload_n C dX20_at_39 rfl 0 rfl ?_
      refine M_get C hM_5 (.int 2) f_X20_100_9 rfl dX20_at_40 ?_
      refine V_if_le (tgt := 48) C dX20_at_43 (by decide) (fun c_43_2 => ?_) (fun c_43_2 => ?_)
      · exact absurd c_43_2 (by decide)
      · refine V_pc (pc1 := 46) rfl ?_
        refine V_lconst (v := 0) C dX20_at_46 rfl ?_
        refine V_lret C dX20_at_47 rfl ?_ (by first | exact Nat.le_of_ble_eq_true rfl | omega | (dsimp only; omega)) (by first | exact Nat.le_of_ble_eq_true rfl | omega | (dsimp only; omega))
        have e9 : mf_at (nI a) k σ = (0, (sz σ 0 2)) := by
          (try simp only [lg_cmp_lt, lg_cmp_gt, lg_cmp_ge, lg_cmp_le, lg_cmp_eq, bI_0, bI_n, Classical.not_not] at c_6 c_28 c_43_2)
          unfold mf_at
          rw [if_pos (isRow9 hI ha), ea]
          unfold mf_atA
          clear C hM
          grind
        rw [e9]; exact ⟨rfl, hM_5, hF_6⟩
  · refine V_iconst (v := 1) C dX20_at_9 rfl ?_
    refine V_goto (tgt := 36) C dX20_at_10 (by decide) ?_
    refine M_puti C hM hF f_X20_100_9 (by decide) mF_0 dX20_at_36 (fun M_7 hM_8 hF_9 => ?_)
    refine V_aload_n C dX20_at_39 rfl 0 rfl ?_
    refine M_get C hM_8 (.int 1) f_X20_100_9 rfl dX20_at_40 ?_
    refine V_if_le (tgt := 48) C dX20_at_43 (by decide) (fun c_43_3 => ?_) (fun c_43_3 => ?_)
    · exact absurd c_43_3 (by decide)
    · refine V_pc (pc1 := 46) rfl ?_
      refine V_lconst (v := 0) C dX20_at_46 rfl ?_
      refine V_lret C dX20_at_47 rfl ?_ (by first | exact Nat.le_of_ble_eq_true rfl | omega | (dsimp only; omega)) (by first | exact Nat.le_of_ble_eq_true rfl | omega | (dsimp only; omega))
      have e9 : mf_at r k σ = (0, (sz σ 0 1)) := by
        unfold mf_at
        rw [if_neg (bI_0.mp c_6)]
      rw [e9]; exact ⟨rfl, hM_8, hF_9⟩
set_option maxHeartbeats 1000000 in
theorem c_X20_inner (l : Launch) (hl : l.stackTraces = false) (G : hp_G) (X : Nat → Nat) (N0 : Nat) (mo : Nat) (ad : Nat → Nat) (σ : MS) (M : hp_h) (hM : MH G mo ad σ M) (r k mm v : Int32) (hI : MI σ) : HM l yX20_inner (ws_ yX20_inner cX20_inner 7 (some .int)) 1 25 0 0 G X N0 [.ref mo, .int r, .int k, .int mm, .int v] M (PM G mo ad M (some (.int (mf_inner r k mm v σ).1)) (mf_inner r k mm v σ).2) PX0 := by
  refine HM.of hl [(0, .ref mo), (1, .int r), (2, .int k), (3, .int mm), (4, .int v)] (by decide +kernel) rfl (Nat.le_of_ble_eq_true rfl) ?_
  intro p e s m args below meth c C hname
  have hF : MFr mo ad M M := MFr.rf
  refine V_aload_n C dX20_inner_0 rfl 0 rfl ?_
  refine V_aload_n C dX20_inner_1 rfl 0 rfl ?_
  refine V_iload_n C dX20_inner_2 rfl 1 rfl ?_
  refine V_callV C (c_X20_isRow l hl G X N0 mo ad σ M hM r ) cs_X20_161_9 hM.1 (show CLS[9]? = some (RX20, TX20, 33) from rfl) rfl rfl ⟨Nat.le_of_ble_eq_true rfl, Nat.le_of_ble_eq_true rfl⟩ ⟨(by first | exact Nat.le_of_ble_eq_true rfl | omega | (dsimp only; omega)), (by first | exact Nat.le_of_ble_eq_true rfl | omega | (dsimp only; omega))⟩ (Nat.le_of_ble_eq_true rfl) dX20_inner_3 (fun _ _ _ h => px0 h) ?_
  rintro _ _ ⟨rfl, rfl⟩
  refine V_st (st' := [.int (bI (¬ r < 0 ∧ r < σ.1 1)), .ref mo]) rfl ?_
  refine V_if_ne (tgt := 13) C dX20_inner_6 (by decide) (fun c_6 => ?_) (fun c_6 => ?_)
  · obtain ⟨a, ha, rfl⟩ := hI.row (bI_n.mp c_6)
    have ea : (nI a).toNatClampNeg = a := nI_clamp (by have := hI.R.2; omega)
    have hk := hI.k ha
    have hl9 := hI.l ha
    refine V_aload_n C dX20_inner_13 rfl 0 rfl ?_
    refine M_get C hM (.ref (ad 2)) f_X20_7_9 rfl dX20_inner_14 ?_
    refine V_iload_n C dX20_inner_17 rfl 1 rfl ?_
    refine M_iald C hM 2 a rfl rfl (show a < 60 from by first | omega | (have := hI.R.2; omega) | (have := hI.U.2; omega) | (have := hI.J.2; omega)) dX20_inner_18 ?_
    refine V_bipush (v := 10) C dX20_inner_19 rfl ?_
    refine V_icmp_eq (tgt := 28) C dX20_inner_21 (by decide) (fun c_21 => ?_) (fun c_21 => ?_)
    · refine V_pc (pc1 := 28) rfl ?_
      refine V_iload_n C dX20_inner_28 rfl 2 rfl ?_
      refine V_i2l (v := k.toInt64) C dX20_inner_29 rfl ?_
      refine V_lconst (v := 0) C dX20_inner_30 rfl ?_
      refine V_aload_n C dX20_inner_31 rfl 0 rfl ?_
      refine M_get C hM (.ref (ad 3)) f_X20_13_9 rfl dX20_inner_32 ?_
      refine V_iload_n C dX20_inner_35 rfl 1 rfl ?_
      refine M_iald C hM 3 a rfl rfl (show a < 60 from by first | omega | (have := hI.R.2; omega) | (have := hI.U.2; omega) | (have := hI.J.2; omega)) dX20_inner_36 ?_
      refine V_iconst (v := 1) C dX20_inner_37 rfl ?_
      refine V_isub C dX20_inner_38 ?_
      refine V_i2l (v := ((σ.2.1 3 a) - 1).toInt64) C dX20_inner_39 rfl ?_
      refine V_callS C (c_X20_in l hl G X N0 M k.toInt64 0 (((σ.2.1 3 a) - 1).toInt64)) cs_X20_123 rfl rfl ⟨Nat.le_of_ble_eq_true rfl, Nat.le_of_ble_eq_true rfl⟩ ⟨(by first | exact Nat.le_of_ble_eq_true rfl | omega | (dsimp only; omega)), (by first | exact Nat.le_of_ble_eq_true rfl | omega | (dsimp only; omega))⟩ (Nat.le_of_ble_eq_true rfl) dX20_inner_40 (fun _ _ _ h => px0 h) ?_
      rintro _ _ ⟨rfl, rfl⟩
      refine V_st (st' := [.int (bI (0 ≤ k.toInt64 ∧ k.toInt64 ≤ (((σ.2.1 3 a) - 1).toInt64))), .ref mo]) rfl ?_
      refine V_if_ne (tgt := 50) C dX20_inner_43 (by decide) (fun c_43 => ?_) (fun c_43 => ?_)
      · obtain ⟨i0, hi0, rfl⟩ := nI_kln hl9 (bI_n.mp c_43)
        have ei : (nI i0).toNatClampNeg = i0 := nI_clamp (by omega)
        refine V_pc (pc1 := 50) rfl ?_
        refine V_aload_n C dX20_inner_50 rfl 0 rfl ?_
        refine M_get C hM (.ref (ad 4)) f_X20_16_9 rfl dX20_inner_51 ?_
        refine V_bipush (v := 40) C dX20_inner_54 rfl ?_
        refine V_iload_n C dX20_inner_56 rfl 1 rfl ?_
        refine V_imul C dX20_inner_57 ?_
        refine V_iload_n C dX20_inner_58 rfl 2 rfl ?_
        refine V_iadd C dX20_inner_59 ?_
        refine M_lald C hM 4 (40 * a + i0) rfl (ix40 a i0) (show 40 * a + i0 < 2400 from by have := hI.R.2; omega) dX20_inner_60 ?_
        refine V_lconst (v := 0) C dX20_inner_61 rfl ?_
        refine V_lcmp C dX20_inner_62 ?_
        refine V_if_ge (tgt := 70) C dX20_inner_63 (by decide) (fun c_63 => ?_) (fun c_63 => ?_)
        · refine V_iconst (v := 0) C dX20_inner_70 rfl ?_
          refine V_pc (pc1 := 71) rfl ?_
          refine M_puti C hM hF f_X20_100_9 (by decide) mF_0 dX20_inner_71 (fun M_1 hM_2 hF_3 => ?_)
          refine V_aload_n C dX20_inner_74 rfl 0 rfl ?_
          refine M_get C hM_2 (.int 0) f_X20_100_9 rfl dX20_inner_75 ?_
          refine V_if_le (tgt := 83) C dX20_inner_78 (by decide) (fun c_78 => ?_) (fun c_78 => ?_)
          · have hx10 : kd σ a = 10 := by
              try simp only [lg_cmp_lt, lg_cmp_gt, lg_cmp_ge, lg_cmp_le, lg_cmp_eq, bI_0, bI_n, Classical.not_not] at c_21
              exact (nI_eq (a := kd σ a) (b := 10) (by omega) (by omega)).mp (hk.1 ▸ c_21)
            obtain ⟨j0, hj0, ej⟩ : ∃ j, j < nJ σ ∧ el σ a i0 = lN j := by
              try simp only [lg_cmp_lt, lg_cmp_gt, lg_cmp_ge, lg_cmp_le, lg_cmp_eq, bI_0, bI_n, Classical.not_not] at c_63
              rcases hI.ej ha hi0 hx10 with z | z
              · exact absurd c_63 (by rw [show σ.2.2.1 4 (40 * a + i0) = -1 from z]; decide)
              · exact z
            have hJ0 := hI.J.2
            have hil := hI.il hj0
            refine V_aload_n C dX20_inner_83 rfl 0 rfl ?_
            refine M_get C hM_2 (.ref (ad 4)) f_X20_16_9 rfl dX20_inner_84 ?_
            refine V_bipush (v := 40) C dX20_inner_87 rfl ?_
            refine V_iload_n C dX20_inner_89 rfl 1 rfl ?_
            refine V_imul C dX20_inner_90 ?_
            refine V_iload_n C dX20_inner_91 rfl 2 rfl ?_
            refine V_iadd C dX20_inner_92 ?_
            refine M_lald C hM_2 4 (40 * a + i0) rfl (ix40 a i0) (show 40 * a + i0 < 2400 from by have := hI.R.2; omega) dX20_inner_93 ?_
            refine V_st (st' := [.long (σ.2.2.1 4 (40 * a + i0))]) rfl ?_
            refine V_pc (pc1 := 94) rfl ?_
            refine V_l2i (v := (σ.2.2.1 4 (40 * a + i0)).toInt32) C dX20_inner_94 rfl ?_
            refine V_st (st' := [.int (nI j0)]) (by rw [show ((σ.2.2.1 4 (40 * a + i0)).toInt32) = (nI j0) from (show (σ.2.2.1 4 (40 * a + i0)).toInt32 = nI j0 from by rw [show σ.2.2.1 4 (40 * a + i0) = lN j0 from ej]; exact lN_i j0)]) ?_
            refine V_istore C dX20_inner_95 (Nat.le_of_ble_eq_true rfl) [(0, .ref mo), (1, .int (nI a)), (2, .int (nI i0)), (3, .int mm), (4, .int v), (5, .int (nI j0))] [1, 2, 3, 4, 5, 0] rfl ?_
            refine V_iload_n C dX20_inner_97 rfl 3 rfl ?_
            refine V_i2l (v := mm.toInt64) C dX20_inner_98 rfl ?_
            refine V_lconst (v := 0) C dX20_inner_99 rfl ?_
            refine V_aload_n C dX20_inner_100 rfl 0 rfl ?_
            refine M_get C hM_2 (.ref (ad 9)) f_X20_26_9 rfl dX20_inner_101 ?_
            refine V_iload C dX20_inner_104 5 rfl ?_
            refine M_iald C hM_2 9 j0 rfl rfl (show j0 < 8000 from by first | omega | (have := hI.R.2; omega) | (have := hI.U.2; omega) | (have := hI.J.2; omega)) dX20_inner_106 ?_
            refine V_st (st' := [.int (σ.2.1 9 j0), .long 0, .long mm.toInt64]) rfl ?_
            refine V_iconst (v := 1) C dX20_inner_107 rfl ?_
            refine V_isub C dX20_inner_108 ?_
            refine V_i2l (v := ((σ.2.1 9 j0) - 1).toInt64) C dX20_inner_109 rfl ?_
            refine V_pc (pc1 := 110) rfl ?_
            refine V_callS C (c_X20_in l hl G X N0 M_1 mm.toInt64 0 (((σ.2.1 9 j0) - 1).toInt64)) cs_X20_123 rfl rfl ⟨Nat.le_of_ble_eq_true rfl, Nat.le_of_ble_eq_true rfl⟩ ⟨(by first | exact Nat.le_of_ble_eq_true rfl | omega | (dsimp only; omega)), (by first | exact Nat.le_of_ble_eq_true rfl | omega | (dsimp only; omega))⟩ (Nat.le_of_ble_eq_true rfl) dX20_inner_110 (fun _ _ _ h => px0 h) ?_
            rintro _ _ ⟨rfl, rfl⟩
            refine V_st (st' := [.int (bI (0 ≤ mm.toInt64 ∧ mm.toInt64 ≤ (((σ.2.1 9 j0) - 1).toInt64)))]) rfl ?_
            refine V_if_ne (tgt := 123) C dX20_inner_113 (by decide) (fun c_113 => ?_) (fun c_113 => ?_)
            · obtain ⟨m0, hm0, rfl⟩ := (inLen (x := σ.2.1 9 j0) hil.1 (by omega)).mp (bI_n.mp c_113)
              have em : (nI m0).toNatClampNeg = m0 := nI_clamp (by omega)
              refine V_aload_n C dX20_inner_123 rfl 0 rfl ?_
              refine M_get C hM_2 (.ref (ad 10)) f_X20_30_9 rfl dX20_inner_124 ?_
              refine V_bipush (v := 40) C dX20_inner_127 rfl ?_
              refine V_iload C dX20_inner_129 5 rfl ?_
              refine V_imul C dX20_inner_131 ?_
              refine V_iload_n C dX20_inner_132 rfl 3 rfl ?_
              refine V_iadd C dX20_inner_133 ?_
              refine M_iald C hM_2 10 (40 * j0 + m0) rfl (ix40 j0 m0) (show 40 * j0 + m0 < 320000 from by omega) dX20_inner_134 ?_
              refine V_st (st' := [.int (σ.2.1 10 (40 * j0 + m0))]) rfl ?_
              refine V_istore C dX20_inner_135 (Nat.le_of_ble_eq_true rfl) [(0, .ref mo), (1, .int (nI a)), (2, .int (nI i0)), (3, .int (nI m0)), (4, .int v), (5, .int (nI j0)), (6, .int (σ.2.1 10 (40 * j0 + m0)))] [1, 2, 3, 4, 5, 6, 0] rfl ?_
              refine V_aload_n C dX20_inner_137 rfl 0 rfl ?_
              refine V_pc (pc1 := 138) rfl ?_
              refine M_get C hM_2 (.ref (ad 10)) f_X20_30_9 rfl dX20_inner_138 ?_
              refine V_bipush (v := 40) C dX20_inner_141 rfl ?_
              refine V_iload C dX20_inner_143 5 rfl ?_
              refine V_imul C dX20_inner_145 ?_
              refine V_iload_n C dX20_inner_146 rfl 3 rfl ?_
              refine V_iadd C dX20_inner_147 ?_
              refine V_iload C dX20_inner_148 4 rfl ?_
              refine M_iast C hM_2 hF_3 10 (40 * j0 + m0) rfl (ix40 j0 m0) (show 40 * j0 + m0 < 320000 from by omega) dX20_inner_150 (fun M_4 hM_5 hF_6 => ?_)
              refine V_iload C dX20_inner_151 6 rfl ?_
              refine V_iret C dX20_inner_153 rfl ?_ (by first | exact Nat.le_of_ble_eq_true rfl | omega | (dsimp only; omega)) (by first | exact Nat.le_of_ble_eq_true rfl | omega | (dsimp only; omega))
              have e9 : mf_inner (nI a) (nI i0) (nI m0) v σ = (σ.2.1 10 (40 * j0 + m0), (si (sz σ 0 0) 10 (va_up (σ.2.1 10) (40 * j0 + m0) v))) := by
                (try simp only [lg_cmp_lt, lg_cmp_gt, lg_cmp_ge, lg_cmp_le, lg_cmp_eq, bI_0, bI_n, Classical.not_not] at c_6 c_21 c_43 c_63 c_78 c_113)
                unfold mf_inner
                rw [if_pos (isRow9 hI ha), ea]
                unfold mf_innA
                clear C hM
                try rw [ei]
                rw [show (el σ a i0).toInt32.toNatClampNeg = j0 from by rw [ej, lN_i, nI_clamp (by omega)]]
                unfold mf_innB
                try rw [em]
                grind
              rw [e9]; exact ⟨rfl, MH.cg hM_5 (by first | rfl | (simp only [sz_sz])), hF_6⟩
            · refine V_aload_n C dX20_inner_116 rfl 0 rfl ?_
              refine V_iconst (v := 3) C dX20_inner_117 rfl ?_
              refine M_puti C hM_2 hF_3 f_X20_100_9 (by decide) mF_0 dX20_inner_118 (fun M_7 hM_8 hF_9 => ?_)
              refine V_iconst (v := 0) C dX20_inner_121 rfl ?_
              refine V_iret C dX20_inner_122 rfl ?_ (by first | exact Nat.le_of_ble_eq_true rfl | omega | (dsimp only; omega)) (by first | exact Nat.le_of_ble_eq_true rfl | omega | (dsimp only; omega))
              have e9 : mf_inner (nI a) (nI i0) mm v σ = (0, (sz σ 0 3)) := by
                (try simp only [lg_cmp_lt, lg_cmp_gt, lg_cmp_ge, lg_cmp_le, lg_cmp_eq, bI_0, bI_n, Classical.not_not] at c_6 c_21 c_43 c_63 c_78 c_113)
                unfold mf_inner
                rw [if_pos (isRow9 hI ha), ea]
                unfold mf_innA
                clear C hM
                try rw [ei]
                rw [show (el σ a i0).toInt32.toNatClampNeg = j0 from by rw [ej, lN_i, nI_clamp (by omega)]]
                unfold mf_innB
                grind
              rw [e9]; exact ⟨rfl, MH.cg hM_8 (by first | rfl | (simp only [sz_sz])), hF_9⟩
          · exact absurd c_78 (by decide)
        · refine V_iconst (v := 1) C dX20_inner_66 rfl ?_
          refine V_pc (pc1 := 67) rfl ?_
          refine V_goto (tgt := 71) C dX20_inner_67 (by decide) ?_
          refine M_puti C hM hF f_X20_100_9 (by decide) mF_0 dX20_inner_71 (fun M_10 hM_11 hF_12 => ?_)
          refine V_aload_n C dX20_inner_74 rfl 0 rfl ?_
          refine M_get C hM_11 (.int 1) f_X20_100_9 rfl dX20_inner_75 ?_
          refine V_if_le (tgt := 83) C dX20_inner_78 (by decide) (fun c_78_2 => ?_) (fun c_78_2 => ?_)
          · exact absurd c_78_2 (by decide)
          · refine V_iconst (v := 0) C dX20_inner_81 rfl ?_
            refine V_iret C dX20_inner_82 rfl ?_ (by first | exact Nat.le_of_ble_eq_true rfl | omega | (dsimp only; omega)) (by first | exact Nat.le_of_ble_eq_true rfl | omega | (dsimp only; omega))
            have e9 : mf_inner (nI a) (nI i0) mm v σ = (0, (sz σ 0 1)) := by
              (try simp only [lg_cmp_lt, lg_cmp_gt, lg_cmp_ge, lg_cmp_le, lg_cmp_eq, bI_0, bI_n, Classical.not_not] at c_6 c_21 c_43 c_63 c_78_2)
              unfold mf_inner
              rw [if_pos (isRow9 hI ha), ea]
              unfold mf_innA
              clear C hM
              try rw [ei]
              grind
            rw [e9]; exact ⟨rfl, MH.cg hM_11 (by first | rfl | (simp only [sz_sz])), hF_12⟩
      · refine V_pc (pc1 := 46) rfl ?_
        refine V_iconst (v := 3) C dX20_inner_46 rfl ?_
        refine V_goto (tgt := 71) C dX20_inner_47 (by decide) ?_
        refine M_puti C hM hF f_X20_100_9 (by decide) mF_0 dX20_inner_71 (fun M_13 hM_14 hF_15 => ?_)
        refine V_aload_n C dX20_inner_74 rfl 0 rfl ?_
        refine M_get C hM_14 (.int 3) f_X20_100_9 rfl dX20_inner_75 ?_
        refine V_if_le (tgt := 83) C dX20_inner_78 (by decide) (fun c_78_3 => ?_) (fun c_78_3 => ?_)
        · exact absurd c_78_3 (by decide)
        · refine V_iconst (v := 0) C dX20_inner_81 rfl ?_
          refine V_iret C dX20_inner_82 rfl ?_ (by first | exact Nat.le_of_ble_eq_true rfl | omega | (dsimp only; omega)) (by first | exact Nat.le_of_ble_eq_true rfl | omega | (dsimp only; omega))
          have e9 : mf_inner (nI a) k mm v σ = (0, (sz σ 0 3)) := by
            (try simp only [lg_cmp_lt, lg_cmp_gt, lg_cmp_ge, lg_cmp_le, lg_cmp_eq, bI_0, bI_n, Classical.not_not] at c_6 c_21 c_43 c_78_3)
            unfold mf_inner
            rw [if_pos (isRow9 hI ha), ea]
            unfold mf_innA
            clear C hM
            grind
          rw [e9]; exact ⟨rfl, MH.cg hM_14 (by first | rfl | (simp only [sz_sz])), hF_15⟩
    · refine V_pc (pc1 := 24) rfl ?_
      refine V_iconst (v := 2) C dX20_inner_24 rfl ?_
      refine V_goto (tgt := 71) C dX20_inner_25 (by decide) ?_
      refine M_puti C hM hF f_X20_100_9 (by decide) mF_0 dX20_inner_71 (fun M_16 hM_17 hF_18 => ?_)
      refine V_aload_n C dX20_inner_74 rfl 0 rfl ?_
      refine M_get C hM_17 (.int 2) f_X20_100_9 rfl dX20_inner_75 ?_
      refine V_if_le (tgt := 83) C dX20_inner_78 (by decide) (fun c_78_4 => ?_) (fun c_78_4 => ?_)
      · exact absurd c_78_4 (by decide)
      · refine V_iconst (v := 0) C dX20_inner_81 rfl ?_
        refine V_iret C dX20_inner_82 rfl ?_ (by first | exact Nat.le_of_ble_eq_true rfl | omega | (dsimp only; omega)) (by first | exact Nat.le_of_ble_eq_true rfl | omega | (dsimp only; omega))
        have e9 : mf_inner (nI a) k mm v σ = (0, (sz σ 0 2)) := by
          (try simp only [lg_cmp_lt, lg_cmp_gt, lg_cmp_ge, lg_cmp_le, lg_cmp_eq, bI_0, bI_n, Classical.not_not] at c_6 c_21 c_78_4)
          unfold mf_inner
          rw [if_pos (isRow9 hI ha), ea]
          unfold mf_innA
          clear C hM
          grind
        rw [e9]; exact ⟨rfl, MH.cg hM_17 (by first | rfl | (simp only [sz_sz])), hF_18⟩
  · refine V_iconst (v := 1) C dX20_inner_9 rfl ?_
    refine V_goto (tgt := 71) C dX20_inner_10 (by decide) ?_
    refine M_puti C hM hF f_X20_100_9 (by decide) mF_0 dX20_inner_71 (fun M_19 hM_20 hF_21 => ?_)
    refine V_aload_n C dX20_inner_74 rfl 0 rfl ?_
    refine M_get C hM_20 (.int 1) f_X20_100_9 rfl dX20_inner_75 ?_
    refine V_if_le (tgt := 83) C dX20_inner_78 (by decide) (fun c_78_5 => ?_) (fun c_78_5 => ?_)
    · exact absurd c_78_5 (by decide)
    · refine V_pc (pc1 := 81) rfl ?_
      refine V_iconst (v := 0) C dX20_inner_81 rfl ?_
      refine V_iret C dX20_inner_82 rfl ?_ (by first | exact Nat.le_of_ble_eq_true rfl | omega | (dsimp only; omega)) (by first | exact Nat.le_of_ble_eq_true rfl | omega | (dsimp only; omega))
      have e9 : mf_inner r k mm v σ = (0, (sz σ 0 1)) := by
        unfold mf_inner
        rw [if_neg (bI_0.mp c_6)]
      rw [e9]; exact ⟨rfl, hM_20, hF_21⟩
set_option maxHeartbeats 1000000 in
theorem c_X20_of (l : Launch) (hl : l.stackTraces = false) (G : hp_G) (X : Nat → Nat) (N0 : Nat) (mo : Nat) (ad : Nat → Nat) (σ : MS) (M : hp_h) (hM : MH G mo ad σ M) (r x : Int32) (hI : MI σ) : HM l yX20_of (ws_ yX20_of cX20_of 3 (some .int)) 1 21 0 0 G X N0 [.ref mo, .int r, .int x] M (PV (.int (mf_of r x σ)) M) PX0 := by
  refine HM.of hl [(0, .ref mo), (1, .int r), (2, .int x)] (by decide +kernel) rfl (Nat.le_of_ble_eq_true rfl) ?_
  intro p e s m args below meth c C hname
  have hF : MFr mo ad M M := MFr.rf
  refine V_aload_n C dX20_of_0 rfl 0 rfl ?_
  refine V_iload_n C dX20_of_1 rfl 1 rfl ?_
  refine V_callV C (c_X20_isRow l hl G X N0 mo ad σ M hM r ) cs_X20_161_9 hM.1 (show CLS[9]? = some (RX20, TX20, 33) from rfl) rfl rfl ⟨Nat.le_of_ble_eq_true rfl, Nat.le_of_ble_eq_true rfl⟩ ⟨(by first | exact Nat.le_of_ble_eq_true rfl | omega | (dsimp only; omega)), (by first | exact Nat.le_of_ble_eq_true rfl | omega | (dsimp only; omega))⟩ (Nat.le_of_ble_eq_true rfl) dX20_of_2 (fun _ _ _ h => px0 h) ?_
  rintro _ _ ⟨rfl, rfl⟩
  refine V_st (st' := [.int (bI (¬ r < 0 ∧ r < σ.1 1))]) rfl ?_
  refine V_if_ne (tgt := 11) C dX20_of_5 (by decide) (fun c_5 => ?_) (fun c_5 => ?_)
  · obtain ⟨a, ha, rfl⟩ := hI.row (bI_n.mp c_5)
    have ea : (nI a).toNatClampNeg = a := nI_clamp (by have := hI.R.2; omega)
    have hk := hI.k ha
    have hl9 := hI.l ha
    refine V_iload_n C dX20_of_11 rfl 2 rfl ?_
    refine V_if_ne (tgt := 24) C dX20_of_12 (by decide) (fun c_12 => ?_) (fun c_12 => ?_)
    · refine V_iload_n C dX20_of_24 rfl 2 rfl ?_
      refine V_iconst (v := 1) C dX20_of_25 rfl ?_
      refine V_icmp_ne (tgt := 38) C dX20_of_26 (by decide) (fun c_26 => ?_) (fun c_26 => ?_)
      · refine V_bipush (v := -102) C dX20_of_38 rfl ?_
        refine V_iret C dX20_of_40 rfl ?_ (by first | exact Nat.le_of_ble_eq_true rfl | omega | (dsimp only; omega)) (by first | exact Nat.le_of_ble_eq_true rfl | omega | (dsimp only; omega))
        refine ⟨congrArg (fun z => some (Value.int z)) ?_, rfl⟩
        (try simp only [lg_cmp_lt, lg_cmp_gt, lg_cmp_ge, lg_cmp_le, lg_cmp_eq, bI_0, bI_n, Classical.not_not] at c_5 c_12 c_26)
        unfold mf_of
        rw [if_pos (isRow9 hI ha), ea]
        clear C hM
        grind
      · refine V_aload_n C dX20_of_29 rfl 0 rfl ?_
        refine M_get C hM (.ref (ad 3)) f_X20_13_9 rfl dX20_of_30 ?_
        refine V_pc (pc1 := 33) rfl ?_
        refine V_iload_n C dX20_of_33 rfl 1 rfl ?_
        refine M_iald C hM 3 a rfl rfl (show a < 60 from by first | omega | (have := hI.R.2; omega) | (have := hI.U.2; omega) | (have := hI.J.2; omega)) dX20_of_34 ?_
        refine V_goto (tgt := 40) C dX20_of_35 (by decide) ?_
        refine V_iret C dX20_of_40 rfl ?_ (by first | exact Nat.le_of_ble_eq_true rfl | omega | (dsimp only; omega)) (by first | exact Nat.le_of_ble_eq_true rfl | omega | (dsimp only; omega))
        refine ⟨congrArg (fun z => some (Value.int z)) ?_, rfl⟩
        (try simp only [lg_cmp_lt, lg_cmp_gt, lg_cmp_ge, lg_cmp_le, lg_cmp_eq, bI_0, bI_n, Classical.not_not] at c_5 c_12 c_26)
        unfold mf_of
        rw [if_pos (isRow9 hI ha), ea]
        clear C hM
        grind
    · refine V_aload_n C dX20_of_15 rfl 0 rfl ?_
      refine M_get C hM (.ref (ad 2)) f_X20_7_9 rfl dX20_of_16 ?_
      refine V_iload_n C dX20_of_19 rfl 1 rfl ?_
      refine M_iald C hM 2 a rfl rfl (show a < 60 from by first | omega | (have := hI.R.2; omega) | (have := hI.U.2; omega) | (have := hI.J.2; omega)) dX20_of_20 ?_
      refine V_goto (tgt := 40) C dX20_of_21 (by decide) ?_
      refine V_pc (pc1 := 40) rfl ?_
      refine V_iret C dX20_of_40 rfl ?_ (by first | exact Nat.le_of_ble_eq_true rfl | omega | (dsimp only; omega)) (by first | exact Nat.le_of_ble_eq_true rfl | omega | (dsimp only; omega))
      refine ⟨congrArg (fun z => some (Value.int z)) ?_, rfl⟩
      (try simp only [lg_cmp_lt, lg_cmp_gt, lg_cmp_ge, lg_cmp_le, lg_cmp_eq, bI_0, bI_n, Classical.not_not] at c_5 c_12)
      unfold mf_of
      rw [if_pos (isRow9 hI ha), ea]
      clear C hM
      grind
  · refine V_bipush (v := -101) C dX20_of_8 rfl ?_
    refine V_iret C dX20_of_10 rfl ?_ (by first | exact Nat.le_of_ble_eq_true rfl | omega | (dsimp only; omega)) (by first | exact Nat.le_of_ble_eq_true rfl | omega | (dsimp only; omega))
    refine ⟨congrArg (fun z => some (Value.int z)) ?_, rfl⟩
    (try simp only [lg_cmp_lt, lg_cmp_gt, lg_cmp_ge, lg_cmp_le, lg_cmp_eq, bI_0, bI_n, Classical.not_not] at c_5)
    unfold mf_of
    clear C hM
    grind
set_option maxHeartbeats 1000000 in
theorem c_X20_drop (l : Launch) (hl : l.stackTraces = false) (G : hp_G) (X : Nat → Nat) (N0 : Nat) (mo : Nat) (ad : Nat → Nat) (σ : MS) (M : hp_h) (hM : MH G mo ad σ M) (pl : Int32) (hI : MI σ) : HM l yX20_drop (ws_ yX20_drop cX20_drop 3 (some .int)) 1 25 0 0 G X N0 [.ref mo, .int pl] M (PM G mo ad M (some (.int (mf_drop pl σ).1)) (mf_drop pl σ).2) PX0 := by
  refine HM.of hl [(0, .ref mo), (1, .int pl)] (by decide +kernel) rfl (Nat.le_of_ble_eq_true rfl) ?_
  intro p e s m args below meth c C hname
  have hF : MFr mo ad M M := MFr.rf
  refine V_iload_n C dX20_drop_0 rfl 1 rfl ?_
  refine V_i2l (v := pl.toInt64) C dX20_drop_1 rfl ?_
  refine V_lconst (v := 0) C dX20_drop_2 rfl ?_
  refine V_ldc2 (v := 5) C (C.w q1686) dX20_drop_3 ?_
  refine V_callS C (c_X20_in l hl G X N0 M pl.toInt64 0 5) cs_X20_123 rfl rfl ⟨Nat.le_of_ble_eq_true rfl, Nat.le_of_ble_eq_true rfl⟩ ⟨(by first | exact Nat.le_of_ble_eq_true rfl | omega | (dsimp only; omega)), (by first | exact Nat.le_of_ble_eq_true rfl | omega | (dsimp only; omega))⟩ (Nat.le_of_ble_eq_true rfl) dX20_drop_6 (fun _ _ _ h => px0 h) ?_
  rintro _ _ ⟨rfl, rfl⟩
  refine V_st (st' := [.int (bI (0 ≤ pl.toInt64 ∧ pl.toInt64 ≤ 5))]) rfl ?_
  refine V_if_ne (tgt := 15) C dX20_drop_9 (by decide) (fun c_9 => ?_) (fun c_9 => ?_)
  · obtain ⟨p0, hp0, rfl⟩ := (in64 (k := 5) (by decide)).mp (bI_n.mp c_9)
    have ep : (nI p0).toNatClampNeg = p0 := nI_clamp (by omega)
    have hp6 := hI.p (p := p0) (by omega)
    refine V_aload_n C dX20_drop_15 rfl 0 rfl ?_
    refine M_get C hM (.ref (ad 16)) f_X20_33_9 rfl dX20_drop_16 ?_
    refine V_iload_n C dX20_drop_19 rfl 1 rfl ?_
    refine M_iald C hM 16 p0 rfl rfl (show p0 < 6 from by first | omega | (have := hI.R.2; omega) | (have := hI.U.2; omega) | (have := hI.J.2; omega)) dX20_drop_20 ?_
    refine V_istore_n C dX20_drop_21 rfl (Nat.le_of_ble_eq_true rfl) [(0, .ref mo), (1, .int (nI p0)), (2, .int (σ.2.1 16 p0))] [1, 2, 0] rfl ?_
    refine V_pc (pc1 := 22) rfl ?_
    refine V_aload_n C dX20_drop_22 rfl 0 rfl ?_
    refine M_get C hM (.ref (ad 16)) f_X20_33_9 rfl dX20_drop_23 ?_
    refine V_iload_n C dX20_drop_26 rfl 1 rfl ?_
    refine V_iconst (v := 0) C dX20_drop_27 rfl ?_
    refine M_iast C hM hF 16 p0 rfl rfl (show p0 < 6 from by first | omega | (have := hI.R.2; omega) | (have := hI.U.2; omega) | (have := hI.J.2; omega)) dX20_drop_28 (fun M_1 hM_2 hF_3 => ?_)
    refine V_iload_n C dX20_drop_29 rfl 2 rfl ?_
    refine V_iret C dX20_drop_30 rfl ?_ (by first | exact Nat.le_of_ble_eq_true rfl | omega | (dsimp only; omega)) (by first | exact Nat.le_of_ble_eq_true rfl | omega | (dsimp only; omega))
    have e9 : mf_drop (nI p0) σ = (σ.2.1 16 p0, (si σ 16 (va_up (σ.2.1 16) p0 0))) := by
      unfold mf_drop
      rw [if_neg (fun z => z (bI_n.mp c_9)), ep]
    rw [e9]; exact ⟨rfl, hM_2, hF_3⟩
  · refine V_bipush (v := -101) C dX20_drop_12 rfl ?_
    refine V_iret C dX20_drop_14 rfl ?_ (by first | exact Nat.le_of_ble_eq_true rfl | omega | (dsimp only; omega)) (by first | exact Nat.le_of_ble_eq_true rfl | omega | (dsimp only; omega))
    have e9 : mf_drop pl σ = (-101, σ) := by
      unfold mf_drop
      rw [if_pos (bI_0.mp c_9)]
    rw [e9]; exact ⟨rfl, hM, hF⟩
set_option maxHeartbeats 1000000 in
theorem c_X20_worth (l : Launch) (hl : l.stackTraces = false) (G : hp_G) (X : Nat → Nat) (N0 : Nat) (mo : Nat) (ad : Nat → Nat) (σ : MS) (M : hp_h) (hM : MH G mo ad σ M) (u0 x : Int32) (hI : MI σ) : HM l yX20_worth (ws_ yX20_worth cX20_worth 3 (some .long)) 1 25 0 0 G X N0 [.ref mo, .int u0, .int x] M (PV (.long (mf_worthW u0 x σ)) M) PX0 := by
  refine HM.of hl [(0, .ref mo), (1, .int u0), (2, .int x)] (by decide +kernel) rfl (Nat.le_of_ble_eq_true rfl) ?_
  intro p e s m args below meth c C hname
  have hF : MFr mo ad M M := MFr.rf
  refine V_iload_n C dX20_worth_0 rfl 1 rfl ?_
  refine V_if_lt (tgt := 24) C dX20_worth_1 (by decide) (fun c_1 => ?_) (fun c_1 => ?_)
  · refine V_ldc2 (v := -9223372036854775808) C (C.w q1673) dX20_worth_24 ?_
    refine V_lret C dX20_worth_27 rfl ?_ (by first | exact Nat.le_of_ble_eq_true rfl | omega | (dsimp only; omega)) (by first | exact Nat.le_of_ble_eq_true rfl | omega | (dsimp only; omega))
    refine ⟨congrArg (fun z => some (Value.long z)) ?_, rfl⟩
    (try simp only [lg_cmp_lt, lg_cmp_gt, lg_cmp_ge, lg_cmp_le, lg_cmp_eq, bI_0, bI_n, Classical.not_not] at c_1)
    unfold mf_worthW
    clear C hM
    grind
  · refine V_iload_n C dX20_worth_4 rfl 1 rfl ?_
    refine V_aload_n C dX20_worth_5 rfl 0 rfl ?_
    refine M_get C hM (.int (σ.1 5)) f_X20_137_9 rfl dX20_worth_6 ?_
    refine V_icmp_ge (tgt := 24) C dX20_worth_9 (by decide) (fun c_9 => ?_) (fun c_9 => ?_)
    · refine V_ldc2 (v := -9223372036854775808) C (C.w q1673) dX20_worth_24 ?_
      refine V_lret C dX20_worth_27 rfl ?_ (by first | exact Nat.le_of_ble_eq_true rfl | omega | (dsimp only; omega)) (by first | exact Nat.le_of_ble_eq_true rfl | omega | (dsimp only; omega))
      refine ⟨congrArg (fun z => some (Value.long z)) ?_, rfl⟩
      (try simp only [lg_cmp_lt, lg_cmp_gt, lg_cmp_ge, lg_cmp_le, lg_cmp_eq, bI_0, bI_n, Classical.not_not] at c_1 c_9)
      unfold mf_worthW
      clear C hM
      grind
    · refine V_iload_n C dX20_worth_12 rfl 2 rfl ?_
      refine V_i2l (v := x.toInt64) C dX20_worth_13 rfl ?_
      refine V_lconst (v := 0) C dX20_worth_14 rfl ?_
      refine V_ldc2 (v := 2) C (C.w q1601) dX20_worth_15 ?_
      refine V_callS C (c_X20_in l hl G X N0 M x.toInt64 0 2) cs_X20_123 rfl rfl ⟨Nat.le_of_ble_eq_true rfl, Nat.le_of_ble_eq_true rfl⟩ ⟨(by first | exact Nat.le_of_ble_eq_true rfl | omega | (dsimp only; omega)), (by first | exact Nat.le_of_ble_eq_true rfl | omega | (dsimp only; omega))⟩ (Nat.le_of_ble_eq_true rfl) dX20_worth_18 (fun _ _ _ h => px0 h) ?_
      rintro _ _ ⟨rfl, rfl⟩
      refine V_st (st' := [.int (bI (0 ≤ x.toInt64 ∧ x.toInt64 ≤ 2))]) rfl ?_
      refine V_pc (pc1 := 21) rfl ?_
      refine V_if_ne (tgt := 28) C dX20_worth_21 (by decide) (fun c_21 => ?_) (fun c_21 => ?_)
      · have hu9 : ¬ u0 < 0 ∧ u0 < σ.1 5 := ⟨c_1, by grind⟩
        obtain ⟨u, hu, rfl⟩ := (isRow_n (σ := (fun _ => nI (nU σ), σ.2)) (R := nU σ) (r := u0) rfl (by have := hI.U.2; omega)).mp (by rw [← hI.U.1]; exact hu9)
        have eu : (nI u).toNatClampNeg = u := nI_clamp (by have := hI.U.2; omega)
        have hu30 : u < 30 := by have := hI.U.2; omega
        refine V_iload_n C dX20_worth_28 rfl 2 rfl ?_
        refine V_if_ne (tgt := 41) C dX20_worth_29 (by decide) (fun c_29 => ?_) (fun c_29 => ?_)
        · refine V_iload_n C dX20_worth_41 rfl 2 rfl ?_
          refine V_iconst (v := 1) C dX20_worth_42 rfl ?_
          refine V_icmp_ne (tgt := 55) C dX20_worth_43 (by decide) (fun c_43 => ?_) (fun c_43 => ?_)
          · refine V_aload_n C dX20_worth_55 rfl 0 rfl ?_
            refine M_get C hM (.ref (ad 6)) f_X20_20_9 rfl dX20_worth_56 ?_
            refine V_iload_n C dX20_worth_59 rfl 1 rfl ?_
            refine M_iald C hM 6 u rfl rfl (show u < 30 from by first | omega | (have := hI.R.2; omega) | (have := hI.U.2; omega) | (have := hI.J.2; omega)) dX20_worth_60 ?_
            refine V_i2l (v := (σ.2.1 6 u).toInt64) C dX20_worth_61 rfl ?_
            refine V_lret C dX20_worth_62 rfl ?_ (by first | exact Nat.le_of_ble_eq_true rfl | omega | (dsimp only; omega)) (by first | exact Nat.le_of_ble_eq_true rfl | omega | (dsimp only; omega))
            refine ⟨congrArg (fun z => some (Value.long z)) ?_, rfl⟩
            (try simp only [lg_cmp_lt, lg_cmp_gt, lg_cmp_ge, lg_cmp_le, lg_cmp_eq, bI_0, bI_n, Classical.not_not] at c_1 c_9 c_21 c_29 c_43)
            unfold mf_worthW
            rw [eu]
            clear C hM
            grind
          · refine V_aload_n C dX20_worth_46 rfl 0 rfl ?_
            refine V_iload_n C dX20_worth_47 rfl 1 rfl ?_
            refine V_callV C (c_X20_feeOf l hl G X N0 mo ad σ M hM u hu30 ) cs_X20_194_9 hM.1 (show CLS[9]? = some (RX20, TX20, 33) from rfl) rfl rfl ⟨Nat.le_of_ble_eq_true rfl, Nat.le_of_ble_eq_true rfl⟩ ⟨(by first | exact Nat.le_of_ble_eq_true rfl | omega | (dsimp only; omega)), (by first | exact Nat.le_of_ble_eq_true rfl | omega | (dsimp only; omega))⟩ (Nat.le_of_ble_eq_true rfl) dX20_worth_48 (fun _ _ _ h => px0 h) ?_
            rintro _ _ ⟨rfl, rfl⟩
            refine V_st (st' := [.int (mf_fee σ u)]) rfl ?_
            refine V_i2l (v := (mf_fee σ u).toInt64) C dX20_worth_51 rfl ?_
            refine V_goto (tgt := 62) C dX20_worth_52 (by decide) ?_
            refine V_lret C dX20_worth_62 rfl ?_ (by first | exact Nat.le_of_ble_eq_true rfl | omega | (dsimp only; omega)) (by first | exact Nat.le_of_ble_eq_true rfl | omega | (dsimp only; omega))
            refine ⟨congrArg (fun z => some (Value.long z)) ?_, rfl⟩
            (try simp only [lg_cmp_lt, lg_cmp_gt, lg_cmp_ge, lg_cmp_le, lg_cmp_eq, bI_0, bI_n, Classical.not_not] at c_1 c_9 c_21 c_29 c_43)
            unfold mf_worthW
            rw [eu]
            clear C hM
            grind
        · refine V_aload_n C dX20_worth_32 rfl 0 rfl ?_
          refine V_iload_n C dX20_worth_33 rfl 1 rfl ?_
          refine V_callV C (c_X20_worthOf l hl G X N0 mo ad σ M hM u hu30 ) cs_X20_191_9 hM.1 (show CLS[9]? = some (RX20, TX20, 33) from rfl) rfl rfl ⟨Nat.le_of_ble_eq_true rfl, Nat.le_of_ble_eq_true rfl⟩ ⟨(by first | exact Nat.le_of_ble_eq_true rfl | omega | (dsimp only; omega)), (by first | exact Nat.le_of_ble_eq_true rfl | omega | (dsimp only; omega))⟩ (Nat.le_of_ble_eq_true rfl) dX20_worth_34 (fun _ _ _ h => px0 h) ?_
          rintro _ _ ⟨rfl, rfl⟩
          refine V_st (st' := [.int (mf_worth σ u)]) rfl ?_
          refine V_i2l (v := (mf_worth σ u).toInt64) C dX20_worth_37 rfl ?_
          refine V_goto (tgt := 62) C dX20_worth_38 (by decide) ?_
          refine V_lret C dX20_worth_62 rfl ?_ (by first | exact Nat.le_of_ble_eq_true rfl | omega | (dsimp only; omega)) (by first | exact Nat.le_of_ble_eq_true rfl | omega | (dsimp only; omega))
          refine ⟨congrArg (fun z => some (Value.long z)) ?_, rfl⟩
          (try simp only [lg_cmp_lt, lg_cmp_gt, lg_cmp_ge, lg_cmp_le, lg_cmp_eq, bI_0, bI_n, Classical.not_not] at c_1 c_9 c_21 c_29)
          unfold mf_worthW
          rw [eu]
          clear C hM
          grind
      · refine V_ldc2 (v := -9223372036854775808) C (C.w q1673) dX20_worth_24 ?_
        refine V_lret C dX20_worth_27 rfl ?_ (by first | exact Nat.le_of_ble_eq_true rfl | omega | (dsimp only; omega)) (by first | exact Nat.le_of_ble_eq_true rfl | omega | (dsimp only; omega))
        refine ⟨congrArg (fun z => some (Value.long z)) ?_, rfl⟩
        (try simp only [lg_cmp_lt, lg_cmp_gt, lg_cmp_ge, lg_cmp_le, lg_cmp_eq, bI_0, bI_n, Classical.not_not] at c_1 c_9 c_21)
        unfold mf_worthW
        clear C hM
        grind
set_option maxHeartbeats 1000000 in
theorem c_X20_plan (l : Launch) (hl : l.stackTraces = false) (G : hp_G) (X : Nat → Nat) (N0 : Nat) (mo : Nat) (ad : Nat → Nat) (σ : MS) (M : hp_h) (hM : MH G mo ad σ M) (pl x0 a i b j n : Int32) (hI : MI σ) : HM l yX20_plan (ws_ yX20_plan cX20_plan 9 (some .int)) 1 25 0 0 G X N0 [.ref mo, .int pl, .int x0, .int a, .int i, .int b, .int j, .int n] M (PM G mo ad M (some (.int (mf_plan pl x0 a i b j n σ).1)) (mf_plan pl x0 a i b j n σ).2) PX0 := by
  refine HM.of hl [(0, .ref mo), (1, .int pl), (2, .int x0), (3, .int a), (4, .int i), (5, .int b), (6, .int j), (7, .int n)] (by decide +kernel) rfl (Nat.le_of_ble_eq_true rfl) ?_
  intro p e s m args below meth c C hname
  have hF : MFr mo ad M M := MFr.rf
  refine V_iload_n C dX20_plan_0 rfl 1 rfl ?_
  refine V_i2l (v := pl.toInt64) C dX20_plan_1 rfl ?_
  refine V_lconst (v := 0) C dX20_plan_2 rfl ?_
  refine V_ldc2 (v := 5) C (C.w q1686) dX20_plan_3 ?_
  refine V_callS C (c_X20_in l hl G X N0 M pl.toInt64 0 5) cs_X20_123 rfl rfl ⟨Nat.le_of_ble_eq_true rfl, Nat.le_of_ble_eq_true rfl⟩ ⟨(by first | exact Nat.le_of_ble_eq_true rfl | omega | (dsimp only; omega)), (by first | exact Nat.le_of_ble_eq_true rfl | omega | (dsimp only; omega))⟩ (Nat.le_of_ble_eq_true rfl) dX20_plan_6 (fun _ _ _ h => px0 h) ?_
  rintro _ _ ⟨rfl, rfl⟩
  refine V_st (st' := [.int (bI (0 ≤ pl.toInt64 ∧ pl.toInt64 ≤ 5))]) rfl ?_
  refine V_if_ne (tgt := 15) C dX20_plan_9 (by decide) (fun c_9 => ?_) (fun c_9 => ?_)
  · refine V_iload_n C dX20_plan_15 rfl 2 rfl ?_
    refine V_i2l (v := x0.toInt64) C dX20_plan_16 rfl ?_
    refine V_lconst (v := 0) C dX20_plan_17 rfl ?_
    refine V_ldc2 (v := 12) C (C.w q1687) dX20_plan_18 ?_
    refine V_callS C (c_X20_in l hl G X N0 M x0.toInt64 0 12) cs_X20_123 rfl rfl ⟨Nat.le_of_ble_eq_true rfl, Nat.le_of_ble_eq_true rfl⟩ ⟨(by first | exact Nat.le_of_ble_eq_true rfl | omega | (dsimp only; omega)), (by first | exact Nat.le_of_ble_eq_true rfl | omega | (dsimp only; omega))⟩ (Nat.le_of_ble_eq_true rfl) dX20_plan_21 (fun _ _ _ h => px0 h) ?_
    rintro _ _ ⟨rfl, rfl⟩
    refine V_st (st' := [.int (bI (0 ≤ x0.toInt64 ∧ x0.toInt64 ≤ 12))]) rfl ?_
    refine V_pc (pc1 := 24) rfl ?_
    refine V_if_eq (tgt := 56) C dX20_plan_24 (by decide) (fun c_24 => ?_) (fun c_24 => ?_)
    · refine V_bipush (v := -102) C dX20_plan_56 rfl ?_
      refine V_iret C dX20_plan_58 rfl ?_ (by first | exact Nat.le_of_ble_eq_true rfl | omega | (dsimp only; omega)) (by first | exact Nat.le_of_ble_eq_true rfl | omega | (dsimp only; omega))
      have e9 : mf_plan pl x0 a i b j n σ = (-102, σ) := by
        (try simp only [lg_cmp_lt, lg_cmp_gt, lg_cmp_ge, lg_cmp_le, lg_cmp_eq, bI_0, bI_n, Classical.not_not] at c_9 c_24)
        unfold mf_plan
        clear C hM
        grind
      rw [e9]; exact ⟨rfl, hM, hF⟩
    · refine V_iload_n C dX20_plan_27 rfl 2 rfl ?_
      refine V_bipush (v := 10) C dX20_plan_28 rfl ?_
      refine V_icmp_ne (tgt := 59) C dX20_plan_30 (by decide) (fun c_30 => ?_) (fun c_30 => ?_)
      · obtain ⟨p0, hp0, rfl⟩ := (in64 (k := 5) (by decide)).mp (bI_n.mp c_9)
        have ep : (nI p0).toNatClampNeg = p0 := nI_clamp (by omega)
        have hp6 := hI.p (p := p0) (by omega)
        refine V_aload_n C dX20_plan_59 rfl 0 rfl ?_
        refine M_get C hM (.ref (ad 16)) f_X20_33_9 rfl dX20_plan_60 ?_
        refine V_iload_n C dX20_plan_63 rfl 1 rfl ?_
        refine M_iald C hM 16 p0 rfl rfl (show p0 < 6 from by omega) dX20_plan_64 ?_
        refine V_st (st' := [.int (nI (psz σ p0))]) (by rw [show (σ.2.1 16 p0) = (nI (psz σ p0)) from hp6.1]) ?_
        refine V_bipush (v := 12) C dX20_plan_65 rfl ?_
        refine V_icmp_ne (tgt := 73) C dX20_plan_67 (by decide) (fun c_67 => ?_) (fun c_67 => ?_)
        · have hlt : psz σ p0 < 12 := by rcases Nat.lt_or_ge (psz σ p0) 12 with z | z; (exact z); exact absurd (show nI (psz σ p0) = 12 from by rw [show psz σ p0 = 12 by have := hp6.2; omega]; rfl) c_67
          refine V_bipush (v := 6) C dX20_plan_73 rfl ?_
          refine V_bipush (v := 12) C dX20_plan_75 rfl ?_
          refine V_pc (pc1 := 77) rfl ?_
          refine V_iload_n C dX20_plan_77 rfl 1 rfl ?_
          refine V_imul C dX20_plan_78 ?_
          refine V_aload_n C dX20_plan_79 rfl 0 rfl ?_
          refine M_get C hM (.ref (ad 16)) f_X20_33_9 rfl dX20_plan_80 ?_
          refine V_iload_n C dX20_plan_83 rfl 1 rfl ?_
          refine M_iald C hM 16 p0 rfl rfl (show p0 < 6 from by omega) dX20_plan_84 ?_
          refine V_st (st' := [.int (nI (psz σ p0)), .int (12 * (nI p0)), .int 6]) (by rw [show (σ.2.1 16 p0) = (nI (psz σ p0)) from hp6.1]) ?_
          refine V_iadd C dX20_plan_85 ?_
          refine V_imul C dX20_plan_86 ?_
          refine V_st (st' := [.int (nI (6 * (12 * p0 + psz σ p0)))]) (by rw [show (6 * ((12 * (nI p0)) + (nI (psz σ p0)))) = (nI (6 * (12 * p0 + psz σ p0))) from by rw [show (12 : Int32) = nI 12 from rfl, show (6 : Int32) = nI 6 from rfl, pk_mul, nI_add, pk_mul]]) ?_
          refine V_istore C dX20_plan_87 (Nat.le_of_ble_eq_true rfl) [(0, .ref mo), (1, .int (nI p0)), (2, .int x0), (3, .int a), (4, .int i), (5, .int b), (6, .int j), (7, .int n), (8, .int (nI (6 * (12 * p0 + psz σ p0))))] [1, 2, 3, 4, 5, 6, 7, 8, 0] rfl ?_
          refine V_aload_n C dX20_plan_89 rfl 0 rfl ?_
          refine M_get C hM (.ref (ad 17)) f_X20_36_9 rfl dX20_plan_90 ?_
          refine V_iload C dX20_plan_93 8 rfl ?_
          refine V_pc (pc1 := 95) rfl ?_
          refine V_iload_n C dX20_plan_95 rfl 2 rfl ?_
          refine M_iast C hM hF 17 (6 * (12 * p0 + psz σ p0)) rfl rfl (show 6 * (12 * p0 + psz σ p0) + 0 < 432 from by have := hp6.2; omega) dX20_plan_96 (fun M_1 hM_2 hF_3 => ?_)
          refine V_aload_n C dX20_plan_97 rfl 0 rfl ?_
          refine M_get C hM_2 (.ref (ad 17)) f_X20_36_9 rfl dX20_plan_98 ?_
          refine V_iload C dX20_plan_101 8 rfl ?_
          refine V_iconst (v := 1) C dX20_plan_103 rfl ?_
          refine V_iadd C dX20_plan_104 ?_
          refine V_st (st' := [.int (nI (6 * (12 * p0 + psz σ p0) + 1)), .ref (ad 17)]) (by rw [show ((nI (6 * (12 * p0 + psz σ p0))) + 1) = (nI (6 * (12 * p0 + psz σ p0) + 1)) from nI_add _ 1]) ?_
          refine V_iload_n C dX20_plan_105 rfl 3 rfl ?_
          refine M_iast C hM_2 hF_3 17 (6 * (12 * p0 + psz σ p0) + 1) rfl rfl (show 6 * (12 * p0 + psz σ p0) + 1 < 432 from by have := hp6.2; omega) dX20_plan_106 (fun M_4 hM_5 hF_6 => ?_)
          have hM_7 : MH G mo ad (si σ 17 (va_up (va_up (σ.2.1 17) (6 * (12 * p0 + psz σ p0)) x0) (6 * (12 * p0 + psz σ p0) + 1) a)) M_4 := MH.cg hM_5 (by rw [si_si, si_g])
          refine V_aload_n C dX20_plan_107 rfl 0 rfl ?_
          refine M_get C hM_7 (.ref (ad 17)) f_X20_36_9 rfl dX20_plan_108 ?_
          refine V_iload C dX20_plan_111 8 rfl ?_
          refine V_pc (pc1 := 113) rfl ?_
          refine V_iconst (v := 2) C dX20_plan_113 rfl ?_
          refine V_iadd C dX20_plan_114 ?_
          refine V_st (st' := [.int (nI (6 * (12 * p0 + psz σ p0) + 2)), .ref (ad 17)]) (by rw [show ((nI (6 * (12 * p0 + psz σ p0))) + 2) = (nI (6 * (12 * p0 + psz σ p0) + 2)) from nI_add _ 2]) ?_
          refine V_iload C dX20_plan_115 4 rfl ?_
          refine M_iast C hM_7 hF_6 17 (6 * (12 * p0 + psz σ p0) + 2) rfl rfl (show 6 * (12 * p0 + psz σ p0) + 2 < 432 from by have := hp6.2; omega) dX20_plan_117 (fun M_8 hM_9 hF_10 => ?_)
          have hM_11 : MH G mo ad (si σ 17 (va_up (va_up (va_up (σ.2.1 17) (6 * (12 * p0 + psz σ p0)) x0) (6 * (12 * p0 + psz σ p0) + 1) a) (6 * (12 * p0 + psz σ p0) + 2) i)) M_8 := MH.cg hM_9 (by rw [si_si, si_g])
          refine V_aload_n C dX20_plan_118 rfl 0 rfl ?_
          refine M_get C hM_11 (.ref (ad 17)) f_X20_36_9 rfl dX20_plan_119 ?_
          refine V_iload C dX20_plan_122 8 rfl ?_
          refine V_iconst (v := 3) C dX20_plan_124 rfl ?_
          refine V_iadd C dX20_plan_125 ?_
          refine V_st (st' := [.int (nI (6 * (12 * p0 + psz σ p0) + 3)), .ref (ad 17)]) (by rw [show ((nI (6 * (12 * p0 + psz σ p0))) + 3) = (nI (6 * (12 * p0 + psz σ p0) + 3)) from nI_add _ 3]) ?_
          refine V_iload C dX20_plan_126 5 rfl ?_
          refine M_iast C hM_11 hF_10 17 (6 * (12 * p0 + psz σ p0) + 3) rfl rfl (show 6 * (12 * p0 + psz σ p0) + 3 < 432 from by have := hp6.2; omega) dX20_plan_128 (fun M_12 hM_13 hF_14 => ?_)
          have hM_15 : MH G mo ad (si σ 17 (va_up (va_up (va_up (va_up (σ.2.1 17) (6 * (12 * p0 + psz σ p0)) x0) (6 * (12 * p0 + psz σ p0) + 1) a) (6 * (12 * p0 + psz σ p0) + 2) i) (6 * (12 * p0 + psz σ p0) + 3) b)) M_12 := MH.cg hM_13 (by rw [si_si, si_g])
          refine V_aload_n C dX20_plan_129 rfl 0 rfl ?_
          refine V_pc (pc1 := 130) rfl ?_
          refine M_get C hM_15 (.ref (ad 17)) f_X20_36_9 rfl dX20_plan_130 ?_
          refine V_iload C dX20_plan_133 8 rfl ?_
          refine V_iconst (v := 4) C dX20_plan_135 rfl ?_
          refine V_iadd C dX20_plan_136 ?_
          refine V_st (st' := [.int (nI (6 * (12 * p0 + psz σ p0) + 4)), .ref (ad 17)]) (by rw [show ((nI (6 * (12 * p0 + psz σ p0))) + 4) = (nI (6 * (12 * p0 + psz σ p0) + 4)) from nI_add _ 4]) ?_
          refine V_iload C dX20_plan_137 6 rfl ?_
          refine M_iast C hM_15 hF_14 17 (6 * (12 * p0 + psz σ p0) + 4) rfl rfl (show 6 * (12 * p0 + psz σ p0) + 4 < 432 from by have := hp6.2; omega) dX20_plan_139 (fun M_16 hM_17 hF_18 => ?_)
          have hM_19 : MH G mo ad (si σ 17 (va_up (va_up (va_up (va_up (va_up (σ.2.1 17) (6 * (12 * p0 + psz σ p0)) x0) (6 * (12 * p0 + psz σ p0) + 1) a) (6 * (12 * p0 + psz σ p0) + 2) i) (6 * (12 * p0 + psz σ p0) + 3) b) (6 * (12 * p0 + psz σ p0) + 4) j)) M_16 := MH.cg hM_17 (by rw [si_si, si_g])
          refine V_aload_n C dX20_plan_140 rfl 0 rfl ?_
          refine M_get C hM_19 (.ref (ad 17)) f_X20_36_9 rfl dX20_plan_141 ?_
          refine V_iload C dX20_plan_144 8 rfl ?_
          refine V_iconst (v := 5) C dX20_plan_146 rfl ?_
          refine V_iadd C dX20_plan_147 ?_
          refine V_st (st' := [.int (nI (6 * (12 * p0 + psz σ p0) + 5)), .ref (ad 17)]) (by rw [show ((nI (6 * (12 * p0 + psz σ p0))) + 5) = (nI (6 * (12 * p0 + psz σ p0) + 5)) from nI_add _ 5]) ?_
          refine V_iload C dX20_plan_148 7 rfl ?_
          refine V_pc (pc1 := 150) rfl ?_
          refine M_iast C hM_19 hF_18 17 (6 * (12 * p0 + psz σ p0) + 5) rfl rfl (show 6 * (12 * p0 + psz σ p0) + 5 < 432 from by have := hp6.2; omega) dX20_plan_150 (fun M_20 hM_21 hF_22 => ?_)
          have hM_23 : MH G mo ad (si σ 17 (va_up (va_up (va_up (va_up (va_up (va_up (σ.2.1 17) (6 * (12 * p0 + psz σ p0)) x0) (6 * (12 * p0 + psz σ p0) + 1) a) (6 * (12 * p0 + psz σ p0) + 2) i) (6 * (12 * p0 + psz σ p0) + 3) b) (6 * (12 * p0 + psz σ p0) + 4) j) (6 * (12 * p0 + psz σ p0) + 5) n)) M_20 := MH.cg hM_21 (by rw [si_si, si_g])
          refine V_aload_n C dX20_plan_151 rfl 0 rfl ?_
          refine M_get C hM_23 (.ref (ad 16)) f_X20_33_9 rfl dX20_plan_152 ?_
          refine V_iload_n C dX20_plan_155 rfl 1 rfl ?_
          refine V_dup2_11 C dX20_plan_156 rfl rfl ?_
          refine M_iald C hM_23 16 p0 rfl rfl (show p0 < 6 from by omega) dX20_plan_157 ?_
          refine V_st (st' := [.int (σ.2.1 16 p0), .int (nI p0), .ref (ad 16)]) rfl ?_
          refine V_st (st' := [.int (nI (psz σ p0)), .int (nI p0), .ref (ad 16)]) (by rw [show (σ.2.1 16 p0) = (nI (psz σ p0)) from hp6.1]) ?_
          refine V_iconst (v := 1) C dX20_plan_158 rfl ?_
          refine V_iadd C dX20_plan_159 ?_
          refine V_st (st' := [.int (nI (psz σ p0 + 1)), .int (nI p0), .ref (ad 16)]) (by rw [show ((nI (psz σ p0)) + 1) = (nI (psz σ p0 + 1)) from nI_1 _]) ?_
          refine M_iast C hM_23 hF_22 16 p0 rfl rfl (show p0 < 6 from by omega) dX20_plan_160 (fun M_24 hM_25 hF_26 => ?_)
          refine V_aload_n C dX20_plan_161 rfl 0 rfl ?_
          refine M_get C hM_25 (.ref (ad 16)) f_X20_33_9 rfl dX20_plan_162 ?_
          refine V_iload_n C dX20_plan_165 rfl 1 rfl ?_
          refine V_pc (pc1 := 166) rfl ?_
          refine M_iald C hM_25 16 p0 rfl rfl (show p0 < 6 from by omega) dX20_plan_166 ?_
          refine V_st (st' := [.int (nI (psz σ p0 + 1))]) (by simp [si, va_up]) ?_
          refine V_iret C dX20_plan_167 rfl ?_ (by first | exact Nat.le_of_ble_eq_true rfl | omega | (dsimp only; omega)) (by first | exact Nat.le_of_ble_eq_true rfl | omega | (dsimp only; omega))
          have e9 : mf_plan (nI p0) x0 a i b j n σ = ((nI (psz σ p0 + 1)), (si (si σ 17 (va_up (va_up (va_up (va_up (va_up (va_up (σ.2.1 17) (6 * (12 * p0 + psz σ p0)) x0) (6 * (12 * p0 + psz σ p0) + 1) a) (6 * (12 * p0 + psz σ p0) + 2) i) (6 * (12 * p0 + psz σ p0) + 3) b) (6 * (12 * p0 + psz σ p0) + 4) j) (6 * (12 * p0 + psz σ p0) + 5) n)) 16 (va_up (σ.2.1 16) p0 (nI (psz σ p0 + 1))))) := by
            (try simp only [lg_cmp_lt, lg_cmp_gt, lg_cmp_ge, lg_cmp_le, lg_cmp_eq, bI_0, bI_n, Classical.not_not] at c_9 c_24 c_30 c_67)
            unfold mf_plan
            rw [ep]
            unfold mf_planA
            clear C hM
            grind
          rw [e9]; exact ⟨rfl, hM_25, hF_26⟩
        · refine V_bipush (v := -104) C dX20_plan_70 rfl ?_
          refine V_iret C dX20_plan_72 rfl ?_ (by first | exact Nat.le_of_ble_eq_true rfl | omega | (dsimp only; omega)) (by first | exact Nat.le_of_ble_eq_true rfl | omega | (dsimp only; omega))
          have e9 : mf_plan (nI p0) x0 a i b j n σ = (-104, σ) := by
            (try simp only [lg_cmp_lt, lg_cmp_gt, lg_cmp_ge, lg_cmp_le, lg_cmp_eq, bI_0, bI_n, Classical.not_not] at c_9 c_24 c_30 c_67)
            unfold mf_plan
            rw [ep]
            unfold mf_planA
            clear C hM
            grind
          rw [e9]; exact ⟨rfl, hM, hF⟩
      · refine V_iload_n C dX20_plan_33 rfl 3 rfl ?_
        refine V_i2l (v := a.toInt64) C dX20_plan_34 rfl ?_
        refine V_lconst (v := 0) C dX20_plan_35 rfl ?_
        refine V_ldc2 (v := 5) C (C.w q1686) dX20_plan_36 ?_
        refine V_callS C (c_X20_in l hl G X N0 M a.toInt64 0 5) cs_X20_123 rfl rfl ⟨Nat.le_of_ble_eq_true rfl, Nat.le_of_ble_eq_true rfl⟩ ⟨(by first | exact Nat.le_of_ble_eq_true rfl | omega | (dsimp only; omega)), (by first | exact Nat.le_of_ble_eq_true rfl | omega | (dsimp only; omega))⟩ (Nat.le_of_ble_eq_true rfl) dX20_plan_39 (fun _ _ _ h => px0 h) ?_
        rintro _ _ ⟨rfl, rfl⟩
        refine V_st (st' := [.int (bI (0 ≤ a.toInt64 ∧ a.toInt64 ≤ 5))]) rfl ?_
        refine V_if_eq (tgt := 56) C dX20_plan_42 (by decide) (fun c_42 => ?_) (fun c_42 => ?_)
        · refine V_bipush (v := -102) C dX20_plan_56 rfl ?_
          refine V_iret C dX20_plan_58 rfl ?_ (by first | exact Nat.le_of_ble_eq_true rfl | omega | (dsimp only; omega)) (by first | exact Nat.le_of_ble_eq_true rfl | omega | (dsimp only; omega))
          have e9 : mf_plan pl x0 a i b j n σ = (-102, σ) := by
            (try simp only [lg_cmp_lt, lg_cmp_gt, lg_cmp_ge, lg_cmp_le, lg_cmp_eq, bI_0, bI_n, Classical.not_not] at c_9 c_24 c_30 c_42)
            unfold mf_plan
            clear C hM
            grind
          rw [e9]; exact ⟨rfl, hM, hF⟩
        · refine V_iload C dX20_plan_45 4 rfl ?_
          refine V_i2l (v := i.toInt64) C dX20_plan_47 rfl ?_
          refine V_pc (pc1 := 48) rfl ?_
          refine V_lconst (v := 0) C dX20_plan_48 rfl ?_
          refine V_lconst (v := 1) C dX20_plan_49 rfl ?_
          refine V_callS C (c_X20_in l hl G X N0 M i.toInt64 0 1) cs_X20_123 rfl rfl ⟨Nat.le_of_ble_eq_true rfl, Nat.le_of_ble_eq_true rfl⟩ ⟨(by first | exact Nat.le_of_ble_eq_true rfl | omega | (dsimp only; omega)), (by first | exact Nat.le_of_ble_eq_true rfl | omega | (dsimp only; omega))⟩ (Nat.le_of_ble_eq_true rfl) dX20_plan_50 (fun _ _ _ h => px0 h) ?_
          rintro _ _ ⟨rfl, rfl⟩
          refine V_st (st' := [.int (bI (0 ≤ i.toInt64 ∧ i.toInt64 ≤ 1))]) rfl ?_
          refine V_if_ne (tgt := 59) C dX20_plan_53 (by decide) (fun c_53 => ?_) (fun c_53 => ?_)
          · obtain ⟨p0, hp0, rfl⟩ := (in64 (k := 5) (by decide)).mp (bI_n.mp c_9)
            have ep : (nI p0).toNatClampNeg = p0 := nI_clamp (by omega)
            have hp6 := hI.p (p := p0) (by omega)
            refine V_aload_n C dX20_plan_59 rfl 0 rfl ?_
            refine M_get C hM (.ref (ad 16)) f_X20_33_9 rfl dX20_plan_60 ?_
            refine V_iload_n C dX20_plan_63 rfl 1 rfl ?_
            refine M_iald C hM 16 p0 rfl rfl (show p0 < 6 from by omega) dX20_plan_64 ?_
            refine V_st (st' := [.int (nI (psz σ p0))]) (by rw [show (σ.2.1 16 p0) = (nI (psz σ p0)) from hp6.1]) ?_
            refine V_bipush (v := 12) C dX20_plan_65 rfl ?_
            refine V_icmp_ne (tgt := 73) C dX20_plan_67 (by decide) (fun c_67_2 => ?_) (fun c_67_2 => ?_)
            · have hlt : psz σ p0 < 12 := by rcases Nat.lt_or_ge (psz σ p0) 12 with z | z; (exact z); exact absurd (show nI (psz σ p0) = 12 from by rw [show psz σ p0 = 12 by have := hp6.2; omega]; rfl) c_67_2
              refine V_bipush (v := 6) C dX20_plan_73 rfl ?_
              refine V_bipush (v := 12) C dX20_plan_75 rfl ?_
              refine V_pc (pc1 := 77) rfl ?_
              refine V_iload_n C dX20_plan_77 rfl 1 rfl ?_
              refine V_imul C dX20_plan_78 ?_
              refine V_aload_n C dX20_plan_79 rfl 0 rfl ?_
              refine M_get C hM (.ref (ad 16)) f_X20_33_9 rfl dX20_plan_80 ?_
              refine V_iload_n C dX20_plan_83 rfl 1 rfl ?_
              refine M_iald C hM 16 p0 rfl rfl (show p0 < 6 from by omega) dX20_plan_84 ?_
              refine V_st (st' := [.int (nI (psz σ p0)), .int (12 * (nI p0)), .int 6]) (by rw [show (σ.2.1 16 p0) = (nI (psz σ p0)) from hp6.1]) ?_
              refine V_iadd C dX20_plan_85 ?_
              refine V_imul C dX20_plan_86 ?_
              refine V_st (st' := [.int (nI (6 * (12 * p0 + psz σ p0)))]) (by rw [show (6 * ((12 * (nI p0)) + (nI (psz σ p0)))) = (nI (6 * (12 * p0 + psz σ p0))) from by rw [show (12 : Int32) = nI 12 from rfl, show (6 : Int32) = nI 6 from rfl, pk_mul, nI_add, pk_mul]]) ?_
              refine V_istore C dX20_plan_87 (Nat.le_of_ble_eq_true rfl) [(0, .ref mo), (1, .int (nI p0)), (2, .int x0), (3, .int a), (4, .int i), (5, .int b), (6, .int j), (7, .int n), (8, .int (nI (6 * (12 * p0 + psz σ p0))))] [1, 2, 3, 4, 5, 6, 7, 8, 0] rfl ?_
              refine V_aload_n C dX20_plan_89 rfl 0 rfl ?_
              refine M_get C hM (.ref (ad 17)) f_X20_36_9 rfl dX20_plan_90 ?_
              refine V_iload C dX20_plan_93 8 rfl ?_
              refine V_pc (pc1 := 95) rfl ?_
              refine V_iload_n C dX20_plan_95 rfl 2 rfl ?_
              refine M_iast C hM hF 17 (6 * (12 * p0 + psz σ p0)) rfl rfl (show 6 * (12 * p0 + psz σ p0) + 0 < 432 from by have := hp6.2; omega) dX20_plan_96 (fun M_27 hM_28 hF_29 => ?_)
              refine V_aload_n C dX20_plan_97 rfl 0 rfl ?_
              refine M_get C hM_28 (.ref (ad 17)) f_X20_36_9 rfl dX20_plan_98 ?_
              refine V_iload C dX20_plan_101 8 rfl ?_
              refine V_iconst (v := 1) C dX20_plan_103 rfl ?_
              refine V_iadd C dX20_plan_104 ?_
              refine V_st (st' := [.int (nI (6 * (12 * p0 + psz σ p0) + 1)), .ref (ad 17)]) (by rw [show ((nI (6 * (12 * p0 + psz σ p0))) + 1) = (nI (6 * (12 * p0 + psz σ p0) + 1)) from nI_add _ 1]) ?_
              refine V_iload_n C dX20_plan_105 rfl 3 rfl ?_
              refine M_iast C hM_28 hF_29 17 (6 * (12 * p0 + psz σ p0) + 1) rfl rfl (show 6 * (12 * p0 + psz σ p0) + 1 < 432 from by have := hp6.2; omega) dX20_plan_106 (fun M_30 hM_31 hF_32 => ?_)
              have hM_33 : MH G mo ad (si σ 17 (va_up (va_up (σ.2.1 17) (6 * (12 * p0 + psz σ p0)) x0) (6 * (12 * p0 + psz σ p0) + 1) a)) M_30 := MH.cg hM_31 (by rw [si_si, si_g])
              refine V_aload_n C dX20_plan_107 rfl 0 rfl ?_
              refine M_get C hM_33 (.ref (ad 17)) f_X20_36_9 rfl dX20_plan_108 ?_
              refine V_iload C dX20_plan_111 8 rfl ?_
              refine V_pc (pc1 := 113) rfl ?_
              refine V_iconst (v := 2) C dX20_plan_113 rfl ?_
              refine V_iadd C dX20_plan_114 ?_
              refine V_st (st' := [.int (nI (6 * (12 * p0 + psz σ p0) + 2)), .ref (ad 17)]) (by rw [show ((nI (6 * (12 * p0 + psz σ p0))) + 2) = (nI (6 * (12 * p0 + psz σ p0) + 2)) from nI_add _ 2]) ?_
              refine V_iload C dX20_plan_115 4 rfl ?_
              refine M_iast C hM_33 hF_32 17 (6 * (12 * p0 + psz σ p0) + 2) rfl rfl (show 6 * (12 * p0 + psz σ p0) + 2 < 432 from by have := hp6.2; omega) dX20_plan_117 (fun M_34 hM_35 hF_36 => ?_)
              have hM_37 : MH G mo ad (si σ 17 (va_up (va_up (va_up (σ.2.1 17) (6 * (12 * p0 + psz σ p0)) x0) (6 * (12 * p0 + psz σ p0) + 1) a) (6 * (12 * p0 + psz σ p0) + 2) i)) M_34 := MH.cg hM_35 (by rw [si_si, si_g])
              refine V_aload_n C dX20_plan_118 rfl 0 rfl ?_
              refine M_get C hM_37 (.ref (ad 17)) f_X20_36_9 rfl dX20_plan_119 ?_
              refine V_iload C dX20_plan_122 8 rfl ?_
              refine V_iconst (v := 3) C dX20_plan_124 rfl ?_
              refine V_iadd C dX20_plan_125 ?_
              refine V_st (st' := [.int (nI (6 * (12 * p0 + psz σ p0) + 3)), .ref (ad 17)]) (by rw [show ((nI (6 * (12 * p0 + psz σ p0))) + 3) = (nI (6 * (12 * p0 + psz σ p0) + 3)) from nI_add _ 3]) ?_
              refine V_iload C dX20_plan_126 5 rfl ?_
              refine M_iast C hM_37 hF_36 17 (6 * (12 * p0 + psz σ p0) + 3) rfl rfl (show 6 * (12 * p0 + psz σ p0) + 3 < 432 from by have := hp6.2; omega) dX20_plan_128 (fun M_38 hM_39 hF_40 => ?_)
              have hM_41 : MH G mo ad (si σ 17 (va_up (va_up (va_up (va_up (σ.2.1 17) (6 * (12 * p0 + psz σ p0)) x0) (6 * (12 * p0 + psz σ p0) + 1) a) (6 * (12 * p0 + psz σ p0) + 2) i) (6 * (12 * p0 + psz σ p0) + 3) b)) M_38 := MH.cg hM_39 (by rw [si_si, si_g])
              refine V_aload_n C dX20_plan_129 rfl 0 rfl ?_
              refine V_pc (pc1 := 130) rfl ?_
              refine M_get C hM_41 (.ref (ad 17)) f_X20_36_9 rfl dX20_plan_130 ?_
              refine V_iload C dX20_plan_133 8 rfl ?_
              refine V_iconst (v := 4) C dX20_plan_135 rfl ?_
              refine V_iadd C dX20_plan_136 ?_
              refine V_st (st' := [.int (nI (6 * (12 * p0 + psz σ p0) + 4)), .ref (ad 17)]) (by rw [show ((nI (6 * (12 * p0 + psz σ p0))) + 4) = (nI (6 * (12 * p0 + psz σ p0) + 4)) from nI_add _ 4]) ?_
              refine V_iload C dX20_plan_137 6 rfl ?_
              refine M_iast C hM_41 hF_40 17 (6 * (12 * p0 + psz σ p0) + 4) rfl rfl (show 6 * (12 * p0 + psz σ p0) + 4 < 432 from by have := hp6.2; omega) dX20_plan_139 (fun M_42 hM_43 hF_44 => ?_)
              have hM_45 : MH G mo ad (si σ 17 (va_up (va_up (va_up (va_up (va_up (σ.2.1 17) (6 * (12 * p0 + psz σ p0)) x0) (6 * (12 * p0 + psz σ p0) + 1) a) (6 * (12 * p0 + psz σ p0) + 2) i) (6 * (12 * p0 + psz σ p0) + 3) b) (6 * (12 * p0 + psz σ p0) + 4) j)) M_42 := MH.cg hM_43 (by rw [si_si, si_g])
              refine V_aload_n C dX20_plan_140 rfl 0 rfl ?_
              refine M_get C hM_45 (.ref (ad 17)) f_X20_36_9 rfl dX20_plan_141 ?_
              refine V_iload C dX20_plan_144 8 rfl ?_
              refine V_iconst (v := 5) C dX20_plan_146 rfl ?_
              refine V_iadd C dX20_plan_147 ?_
              refine V_st (st' := [.int (nI (6 * (12 * p0 + psz σ p0) + 5)), .ref (ad 17)]) (by rw [show ((nI (6 * (12 * p0 + psz σ p0))) + 5) = (nI (6 * (12 * p0 + psz σ p0) + 5)) from nI_add _ 5]) ?_
              refine V_iload C dX20_plan_148 7 rfl ?_
              refine V_pc (pc1 := 150) rfl ?_
              refine M_iast C hM_45 hF_44 17 (6 * (12 * p0 + psz σ p0) + 5) rfl rfl (show 6 * (12 * p0 + psz σ p0) + 5 < 432 from by have := hp6.2; omega) dX20_plan_150 (fun M_46 hM_47 hF_48 => ?_)
              have hM_49 : MH G mo ad (si σ 17 (va_up (va_up (va_up (va_up (va_up (va_up (σ.2.1 17) (6 * (12 * p0 + psz σ p0)) x0) (6 * (12 * p0 + psz σ p0) + 1) a) (6 * (12 * p0 + psz σ p0) + 2) i) (6 * (12 * p0 + psz σ p0) + 3) b) (6 * (12 * p0 + psz σ p0) + 4) j) (6 * (12 * p0 + psz σ p0) + 5) n)) M_46 := MH.cg hM_47 (by rw [si_si, si_g])
              refine V_aload_n C dX20_plan_151 rfl 0 rfl ?_
              refine M_get C hM_49 (.ref (ad 16)) f_X20_33_9 rfl dX20_plan_152 ?_
              refine V_iload_n C dX20_plan_155 rfl 1 rfl ?_
              refine V_dup2_11 C dX20_plan_156 rfl rfl ?_
              refine M_iald C hM_49 16 p0 rfl rfl (show p0 < 6 from by omega) dX20_plan_157 ?_
              refine V_st (st' := [.int (σ.2.1 16 p0), .int (nI p0), .ref (ad 16)]) rfl ?_
              refine V_st (st' := [.int (nI (psz σ p0)), .int (nI p0), .ref (ad 16)]) (by rw [show (σ.2.1 16 p0) = (nI (psz σ p0)) from hp6.1]) ?_
              refine V_iconst (v := 1) C dX20_plan_158 rfl ?_
              refine V_iadd C dX20_plan_159 ?_
              refine V_st (st' := [.int (nI (psz σ p0 + 1)), .int (nI p0), .ref (ad 16)]) (by rw [show ((nI (psz σ p0)) + 1) = (nI (psz σ p0 + 1)) from nI_1 _]) ?_
              refine M_iast C hM_49 hF_48 16 p0 rfl rfl (show p0 < 6 from by omega) dX20_plan_160 (fun M_50 hM_51 hF_52 => ?_)
              refine V_aload_n C dX20_plan_161 rfl 0 rfl ?_
              refine M_get C hM_51 (.ref (ad 16)) f_X20_33_9 rfl dX20_plan_162 ?_
              refine V_iload_n C dX20_plan_165 rfl 1 rfl ?_
              refine V_pc (pc1 := 166) rfl ?_
              refine M_iald C hM_51 16 p0 rfl rfl (show p0 < 6 from by omega) dX20_plan_166 ?_
              refine V_st (st' := [.int (nI (psz σ p0 + 1))]) (by simp [si, va_up]) ?_
              refine V_iret C dX20_plan_167 rfl ?_ (by first | exact Nat.le_of_ble_eq_true rfl | omega | (dsimp only; omega)) (by first | exact Nat.le_of_ble_eq_true rfl | omega | (dsimp only; omega))
              have e9 : mf_plan (nI p0) x0 a i b j n σ = ((nI (psz σ p0 + 1)), (si (si σ 17 (va_up (va_up (va_up (va_up (va_up (va_up (σ.2.1 17) (6 * (12 * p0 + psz σ p0)) x0) (6 * (12 * p0 + psz σ p0) + 1) a) (6 * (12 * p0 + psz σ p0) + 2) i) (6 * (12 * p0 + psz σ p0) + 3) b) (6 * (12 * p0 + psz σ p0) + 4) j) (6 * (12 * p0 + psz σ p0) + 5) n)) 16 (va_up (σ.2.1 16) p0 (nI (psz σ p0 + 1))))) := by
                (try simp only [lg_cmp_lt, lg_cmp_gt, lg_cmp_ge, lg_cmp_le, lg_cmp_eq, bI_0, bI_n, Classical.not_not] at c_9 c_24 c_30 c_42 c_53 c_67_2)
                unfold mf_plan
                rw [ep]
                unfold mf_planA
                clear C hM
                grind
              rw [e9]; exact ⟨rfl, hM_51, hF_52⟩
            · refine V_bipush (v := -104) C dX20_plan_70 rfl ?_
              refine V_iret C dX20_plan_72 rfl ?_ (by first | exact Nat.le_of_ble_eq_true rfl | omega | (dsimp only; omega)) (by first | exact Nat.le_of_ble_eq_true rfl | omega | (dsimp only; omega))
              have e9 : mf_plan (nI p0) x0 a i b j n σ = (-104, σ) := by
                (try simp only [lg_cmp_lt, lg_cmp_gt, lg_cmp_ge, lg_cmp_le, lg_cmp_eq, bI_0, bI_n, Classical.not_not] at c_9 c_24 c_30 c_42 c_53 c_67_2)
                unfold mf_plan
                rw [ep]
                unfold mf_planA
                clear C hM
                grind
              rw [e9]; exact ⟨rfl, hM, hF⟩
          · refine V_bipush (v := -102) C dX20_plan_56 rfl ?_
            refine V_iret C dX20_plan_58 rfl ?_ (by first | exact Nat.le_of_ble_eq_true rfl | omega | (dsimp only; omega)) (by first | exact Nat.le_of_ble_eq_true rfl | omega | (dsimp only; omega))
            have e9 : mf_plan pl x0 a i b j n σ = (-102, σ) := by
              (try simp only [lg_cmp_lt, lg_cmp_gt, lg_cmp_ge, lg_cmp_le, lg_cmp_eq, bI_0, bI_n, Classical.not_not] at c_9 c_24 c_30 c_42 c_53)
              unfold mf_plan
              clear C hM
              grind
            rw [e9]; exact ⟨rfl, hM, hF⟩
  · refine V_bipush (v := -101) C dX20_plan_12 rfl ?_
    refine V_iret C dX20_plan_14 rfl ?_ (by first | exact Nat.le_of_ble_eq_true rfl | omega | (dsimp only; omega)) (by first | exact Nat.le_of_ble_eq_true rfl | omega | (dsimp only; omega))
    have e9 : mf_plan pl x0 a i b j n σ = (-101, σ) := by
      (try simp only [lg_cmp_lt, lg_cmp_gt, lg_cmp_ge, lg_cmp_le, lg_cmp_eq, bI_0, bI_n, Classical.not_not] at c_9)
      unfold mf_plan
      clear C hM
      grind
    rw [e9]; exact ⟨rfl, hM, hF⟩
