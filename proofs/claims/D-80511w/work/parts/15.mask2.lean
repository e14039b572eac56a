set_option maxRecDepth 100000
abbrev mf_eqR (σ : MS) (a b : Nat) : Prop := (σ.2.1 2 a = σ.2.1 2 b ∧ σ.2.1 3 a = σ.2.1 3 b) ∧ ∀ q, q < ln σ a → mf_eq σ (σ.2.1 2 a) (el σ a q) (el σ b q)
def mf_equal (σ : MS) (a b : Nat) : Int32 × MS := (0, sa σ (if mf_eqR σ a b then 1 else 0))
def mf_by (σ : MS) (k : Int32) (a b : Nat) : Nat → Int32
  | 0 => 0
  | N + 1 => if mf_by σ k a b N = 0 then mf_order k (el σ a N) (el σ b N) else mf_by σ k a b N
theorem mf_by_stick {σ : MS} {k : Int32} {a b i : Nat} (h : ¬ mf_by σ k a b i = 0) : ∀ d, mf_by σ k a b (i + d) = mf_by σ k a b i
  | 0 => rfl
  | d + 1 => by
    show (if mf_by σ k a b (i + d) = 0 then _ else mf_by σ k a b (i + d)) = _
    rw [mf_by_stick h d, if_neg h]
def mf_ordR (σ : MS) (a b : Nat) : Int64 :=
  if ¬ mf_by σ (σ.2.1 2 a) a b (min (ln σ a) (ln σ b)) = 0 then (mf_by σ (σ.2.1 2 a) a b (min (ln σ a) (ln σ b))).toInt64 else if ln σ a < ln σ b then -1 else if ln σ b < ln σ a then 1 else 0
abbrev mf_real (k : Int32) : Prop := 1 ≤ k.toInt64 ∧ k.toInt64 ≤ 7
def mf_orderRows (σ : MS) (a b : Nat) : Int32 × MS := if ¬ mf_real (σ.2.1 2 a) ∨ ¬ σ.2.1 2 a = σ.2.1 2 b then (4, σ) else (0, sa σ (mf_ordR σ a b))
def mf_sumI (σ : MS) (x : Nat) (acc : Int64) : Nat → Int64
  | 0 => acc
  | N + 1 => mf_sumI σ x acc N + (σ.2.1 10 (40 * x + N)).toInt64
def mf_sum1 (σ : MS) (k : Int32) (w : Int64 × UInt64) (v : Int64) : Int64 × UInt64 :=
  if k = 6 then (w.1, mPlus w.2 (mWide (mfO v.toInt32))) else if k = 7 then (w.1, mPlus w.2 (mdO v)) else if k < 6 then (w.1 + v, w.2) else if k < 10 then (w.1 + (if v < 0 then 0 else (mf_worth σ v.toInt32.toNatClampNeg).toInt64), w.2)
  else (if v < 0 then w.1 else mf_sumI σ v.toInt32.toNatClampNeg w.1 (iln σ v.toInt32.toNatClampNeg), w.2)
def mf_sumN (σ : MS) (a : Nat) : Nat → Int64 × UInt64
  | 0 => (0, FP.dconst0)
  | N + 1 => mf_sum1 σ (σ.2.1 2 a) (mf_sumN σ a N) (el σ a N)
def mf_sum (σ : MS) (a : Nat) : Int32 × MS := (0, sa σ (if σ.2.1 2 a = 6 ∨ σ.2.1 2 a = 7 then mdB (mf_sumN σ a (ln σ a)).2 else (mf_sumN σ a (ln σ a)).1))
def mf_great (σ : MS) (a : Nat) : Nat → Nat
  | 0 => 0
  | 1 => 0
  | N + 2 => if 0 < mf_order (σ.2.1 2 a) (el σ a (N + 1)) (el σ a (mf_great σ a (N + 1))) then N + 1 else mf_great σ a (N + 1)
def mf_greatest (σ : MS) (a : Nat) : Int32 × MS := if ¬ mf_real (σ.2.1 2 a) then (4, σ) else if ln σ a = 0 then (2, σ) else (0, sa σ (el σ a (mf_great σ a (ln σ a))))
def mf_feeS (σ : MS) (a : Nat) : Nat → Int64
  | 0 => σ.2.2.2
  | N + 1 => mf_feeS σ a N + (if (el σ a N).toInt32 < 0 then 0 else (mf_fee σ (el σ a N).toInt32.toNatClampNeg).toInt64)
def mf_fees (σ : MS) (a : Nat) : Int32 × MS := if ¬ (σ.2.1 2 a = 8 ∨ σ.2.1 2 a = 9) then (4, σ) else (0, sa σ (mf_feeS σ a (ln σ a)))
theorem sa_sa {σ : MS} {v w : Int64} : sa (sa σ v) w = sa σ w := rfl
theorem sa_id {σ : MS} : sa σ σ.2.2.2 = σ := rfl
theorem el_ej {σ : MS} (hI : MI σ) {a i : Nat} (ha : a < nR σ) (hi : i < ln σ a) (h : σ.2.1 2 a = 10) : el σ a i = -1 ∨ ∃ j, j < nJ σ ∧ el σ a i = lN j := hI.ej ha hi ((kind_of (hI.k ha) (by decide)).mp h)
set_option maxHeartbeats 1000000 in
theorem c_X20_equal (l : Launch) (hl : l.stackTraces = false) (G : hp_G) (X : Nat → Nat) (N0 : Nat) (mo : Nat) (ad : Nat → Nat) (σ : MS) (M : hp_h) (hM : MH G mo ad σ M) (a b : Nat) (hI : MI σ) (ha : a < nR σ) (hb : b < nR σ) : HM l yX20_equal (ws_ yX20_equal cX20_equal 5 (some .int)) 4 93 0 0 G X N0 [.ref mo, .int (nI a), .int (nI b)] M (PM G mo ad M (some (.int (mf_equal σ a b).1)) (mf_equal σ a b).2) PX0 := by
  refine HM.of hl [(0, .ref mo), (1, .int (nI a)), (2, .int (nI b))] (by decide +kernel) rfl (Nat.le_of_ble_eq_true rfl) ?_
  intro p e s m args below meth c C hname
  have hF : MFr mo ad M M := MFr.rf
  have hR6 := hI.R
  have hk_a := hI.k ha
  have hl_a := hI.l ha
  have hk_b := hI.k hb
  have hl_b := hI.l hb
  refine V_aload_n C dX20_equal_0 rfl 0 rfl ?_
  refine M_get C hM (.ref (ad 2)) f_X20_7_9 rfl dX20_equal_1 ?_
  refine V_iload_n C dX20_equal_4 rfl 1 rfl ?_
  refine M_iald C hM 2 a rfl rfl (show a < 60 from by first | omega | (have := hI.R.2; omega) | (have := hI.U.2; omega) | (have := hI.J.2; omega)) dX20_equal_5 ?_
  refine V_aload_n C dX20_equal_6 rfl 0 rfl ?_
  refine M_get C hM (.ref (ad 2)) f_X20_7_9 rfl dX20_equal_7 ?_
  refine V_iload_n C dX20_equal_10 rfl 2 rfl ?_
  refine M_iald C hM 2 b rfl rfl (show b < 60 from by first | omega | (have := hI.R.2; omega) | (have := hI.U.2; omega) | (have := hI.J.2; omega)) dX20_equal_11 ?_
  have jn_35_1 : ∀ (x35 : Int32), x35 = bI (σ.2.1 2 a = σ.2.1 2 b ∧ σ.2.1 3 a = σ.2.1 3 b) → V p l e { frames := 4, cells := 0, slots := 0, locals := 93 } s m args below meth c G N0 5 (QV below G N0 (PM G mo ad M (some (.int (mf_equal σ a b).1)) (mf_equal σ a b).2) PX0 args s (0) (0)) (0) (0) M 35 [(0, .ref mo), (1, .int (nI a)), (2, .int (nI b))] [.int x35] := by
    intro x35 hjn_35_1
    refine V_istore_n C dX20_equal_35 rfl (Nat.le_of_ble_eq_true rfl) [(0, .ref mo), (1, .int (nI a)), (2, .int (nI b)), (3, .int x35)] [1, 2, 3, 0] rfl ?_
    refine V_iconst (v := 0) C dX20_equal_36 rfl ?_
    refine V_istore C dX20_equal_37 (Nat.le_of_ble_eq_true rfl) [(0, .ref mo), (1, .int (nI a)), (2, .int (nI b)), (3, .int x35), (4, .int 0)] [1, 2, 3, 4, 0] rfl ?_
    have lp_39 : ∀ (fu9 : Nat) (i : Nat) (e8 : Int32), ln σ a - i < fu9 → (i ≤ ln σ a) → (e8 = bI ((σ.2.1 2 a = σ.2.1 2 b ∧ σ.2.1 3 a = σ.2.1 3 b) ∧ ∀ q, q < i → mf_eq σ (σ.2.1 2 a) (el σ a q) (el σ b q))) → V p l e { frames := 4, cells := 0, slots := 0, locals := 93 } s m args below meth c G N0 5 (QV below G N0 (PM G mo ad M (some (.int (mf_equal σ a b).1)) (mf_equal σ a b).2) PX0 args s (0) (0)) (0) (0) M 39 [(0, .ref mo), (1, .int (nI a)), (2, .int (nI b)), (3, .int e8), (4, .int (nI i))] [] := by
      intro fu9
      induction fu9 with
      | zero => intro i e8  hfu9; exact absurd hfu9 (Nat.not_lt_zero _)
      | succ fu9 ih39 =>
        intro i e8  hfu9 hi he
        refine V_pc (pc1 := 39) rfl ?_
        refine V_iload_n C dX20_equal_39 rfl 3 rfl ?_
        refine V_if_eq (tgt := 95) C dX20_equal_40 (by decide) (fun c_40 => ?_) (fun c_40 => ?_)
        · refine V_aload_n C dX20_equal_95 rfl 0 rfl ?_
          refine V_iload_n C dX20_equal_96 rfl 3 rfl ?_
          refine V_if_eq (tgt := 104) C dX20_equal_97 (by decide) (fun c_97 => ?_) (fun c_97 => ?_)
          · refine V_lconst (v := 0) C dX20_equal_104 rfl ?_
            refine M_putl C hM hF f_X20_218_9 mF_18 dX20_equal_105 (fun M_3 hM_4 hF_5 => ?_)
            refine V_iconst (v := 0) C dX20_equal_108 rfl ?_
            refine V_iret C dX20_equal_109 rfl ?_ (by first | exact Nat.le_of_ble_eq_true rfl | omega | (dsimp only; omega)) (by first | exact Nat.le_of_ble_eq_true rfl | omega | (dsimp only; omega))
            have e9 : mf_equal σ a b = (0, (sa σ 0)) := by
              unfold mf_equal
              have hz := bI_0.mp (show bI ((σ.2.1 2 a = σ.2.1 2 b ∧ σ.2.1 3 a = σ.2.1 3 b) ∧ ∀ q, q < i → mf_eq σ (σ.2.1 2 a) (el σ a q) (el σ b q)) = 0 from he.symm.trans c_40)
              rw [if_neg (fun z => hz ⟨z.1, fun q hq => z.2 q (by omega)⟩)]
            rw [e9]; exact ⟨rfl, hM_4, hF_5⟩
          · refine V_lconst (v := 1) C dX20_equal_100 rfl ?_
            refine V_goto (tgt := 105) C dX20_equal_101 (by decide) ?_
            refine M_putl C hM hF f_X20_218_9 mF_18 dX20_equal_105 (fun M_6 hM_7 hF_8 => ?_)
            refine V_iconst (v := 0) C dX20_equal_108 rfl ?_
            refine V_iret C dX20_equal_109 rfl ?_ (by first | exact Nat.le_of_ble_eq_true rfl | omega | (dsimp only; omega)) (by first | exact Nat.le_of_ble_eq_true rfl | omega | (dsimp only; omega))
            have e9 : mf_equal σ a b = (0, (sa σ 1)) := by
              unfold mf_equal
              exact absurd c_40 c_97
            rw [e9]; exact ⟨rfl, hM_7, hF_8⟩
        · refine V_iload C dX20_equal_43 4 rfl ?_
          refine V_aload_n C dX20_equal_45 rfl 0 rfl ?_
          refine M_get C hM (.ref (ad 3)) f_X20_13_9 rfl dX20_equal_46 ?_
          refine V_iload_n C dX20_equal_49 rfl 1 rfl ?_
          refine M_iald C hM 3 a rfl rfl (show a < 60 from by first | omega | (have := hI.R.2; omega) | (have := hI.U.2; omega) | (have := hI.J.2; omega)) dX20_equal_50 ?_
          refine V_st (st' := [.int (nI (ln σ a)), .int (nI i)]) (by rw [show (σ.2.1 3 a) = (nI (ln σ a)) from hl_a.1]) ?_
          refine V_icmp_ge (tgt := 95) C dX20_equal_51 (by decide) (fun c_51 => ?_) (fun c_51 => ?_)
          · refine V_aload_n C dX20_equal_95 rfl 0 rfl ?_
            refine V_iload_n C dX20_equal_96 rfl 3 rfl ?_
            refine V_if_eq (tgt := 104) C dX20_equal_97 (by decide) (fun c_97_2 => ?_) (fun c_97_2 => ?_)
            · refine V_lconst (v := 0) C dX20_equal_104 rfl ?_
              refine V_pc (pc1 := 105) rfl ?_
              refine M_putl C hM hF f_X20_218_9 mF_18 dX20_equal_105 (fun M_9 hM_10 hF_11 => ?_)
              refine V_iconst (v := 0) C dX20_equal_108 rfl ?_
              refine V_iret C dX20_equal_109 rfl ?_ (by first | exact Nat.le_of_ble_eq_true rfl | omega | (dsimp only; omega)) (by first | exact Nat.le_of_ble_eq_true rfl | omega | (dsimp only; omega))
              have e9 : mf_equal σ a b = (0, (sa σ 0)) := by
                unfold mf_equal
                have hiE : i = ln σ a := by have := (nI_leI (by omega) (by omega)).mp c_51; omega
                rw [hiE] at he
                rw [if_neg (bI_0.mp (show bI (mf_eqR σ a b) = 0 from he.symm.trans c_97_2))]
              rw [e9]; exact ⟨rfl, hM_10, hF_11⟩
            · refine V_lconst (v := 1) C dX20_equal_100 rfl ?_
              refine V_pc (pc1 := 101) rfl ?_
              refine V_goto (tgt := 105) C dX20_equal_101 (by decide) ?_
              refine M_putl C hM hF f_X20_218_9 mF_18 dX20_equal_105 (fun M_12 hM_13 hF_14 => ?_)
              refine V_iconst (v := 0) C dX20_equal_108 rfl ?_
              refine V_iret C dX20_equal_109 rfl ?_ (by first | exact Nat.le_of_ble_eq_true rfl | omega | (dsimp only; omega)) (by first | exact Nat.le_of_ble_eq_true rfl | omega | (dsimp only; omega))
              have e9 : mf_equal σ a b = (0, (sa σ 1)) := by
                unfold mf_equal
                have hiE : i = ln σ a := by have := (nI_leI (by omega) (by omega)).mp c_51; omega
                rw [hiE] at he
                rw [if_pos (bI_n.mp (show ¬ bI (mf_eqR σ a b) = 0 from fun z => c_97_2 (he.trans z)))]
              rw [e9]; exact ⟨rfl, hM_13, hF_14⟩
          · have hlt : i < ln σ a := nI_ltN c_51 (by omega) (by omega)
            have hz := bI_n.mp (show ¬ bI ((σ.2.1 2 a = σ.2.1 2 b ∧ σ.2.1 3 a = σ.2.1 3 b) ∧ ∀ q, q < i → mf_eq σ (σ.2.1 2 a) (el σ a q) (el σ b q)) = 0 from by rw [← he]; exact c_40)
            have hlb : ln σ a = ln σ b := (nI_eq (by omega) (by omega)).mp (hl_a.1.symm.trans (hz.1.2.trans hl_b.1))
            refine V_aload_n C dX20_equal_54 rfl 0 rfl ?_
            refine V_aload_n C dX20_equal_55 rfl 0 rfl ?_
            refine M_get C hM (.ref (ad 2)) f_X20_7_9 rfl dX20_equal_56 ?_
            refine V_iload_n C dX20_equal_59 rfl 1 rfl ?_
            refine V_pc (pc1 := 60) rfl ?_
            refine M_iald C hM 2 a rfl rfl (show a < 60 from by first | omega | (have := hI.R.2; omega) | (have := hI.U.2; omega) | (have := hI.J.2; omega)) dX20_equal_60 ?_
            refine V_aload_n C dX20_equal_61 rfl 0 rfl ?_
            refine M_get C hM (.ref (ad 4)) f_X20_16_9 rfl dX20_equal_62 ?_
            refine V_bipush (v := 40) C dX20_equal_65 rfl ?_
            refine V_iload_n C dX20_equal_67 rfl 1 rfl ?_
            refine V_imul C dX20_equal_68 ?_
            refine V_st (st' := [.int (nI (40 * a)), .ref (ad 4), .int (σ.2.1 2 a), .ref mo]) (by rw [show (40 * (nI a)) = (nI (40 * a)) from pk_mul 40 a]) ?_
            refine V_iload C dX20_equal_69 4 rfl ?_
            refine V_iadd C dX20_equal_71 ?_
            refine V_st (st' := [.int (nI ((40 * a) + i)), .ref (ad 4), .int (σ.2.1 2 a), .ref mo]) (by rw [show ((nI (40 * a)) + (nI i)) = (nI ((40 * a) + i)) from nI_add (40 * a) i]) ?_
            refine M_lald C hM 4 (40 * a + i) rfl rfl (show 40 * a + i < 2400 from by omega) dX20_equal_72 ?_
            refine V_st (st' := [.long (el σ a i), .int (σ.2.1 2 a), .ref mo]) (by rw [show (σ.2.2.1 4 (40 * a + i)) = (el σ a i) from rfl]) ?_
            refine V_aload_n C dX20_equal_73 rfl 0 rfl ?_
            refine M_get C hM (.ref (ad 4)) f_X20_16_9 rfl dX20_equal_74 ?_
            refine V_bipush (v := 40) C dX20_equal_77 rfl ?_
            refine V_pc (pc1 := 79) rfl ?_
            refine V_iload_n C dX20_equal_79 rfl 2 rfl ?_
            refine V_imul C dX20_equal_80 ?_
            refine V_st (st' := [.int (nI (40 * b)), .ref (ad 4), .long (el σ a i), .int (σ.2.1 2 a), .ref mo]) (by rw [show (40 * (nI b)) = (nI (40 * b)) from pk_mul 40 b]) ?_
            refine V_iload C dX20_equal_81 4 rfl ?_
            refine V_iadd C dX20_equal_83 ?_
            refine V_st (st' := [.int (nI ((40 * b) + i)), .ref (ad 4), .long (el σ a i), .int (σ.2.1 2 a), .ref mo]) (by rw [show ((nI (40 * b)) + (nI i)) = (nI ((40 * b) + i)) from nI_add (40 * b) i]) ?_
            refine M_lald C hM 4 (40 * b + i) rfl rfl (show 40 * b + i < 2400 from by omega) dX20_equal_84 ?_
            refine V_st (st' := [.long (el σ b i), .long (el σ a i), .int (σ.2.1 2 a), .ref mo]) (by rw [show (σ.2.2.1 4 (40 * b + i)) = (el σ b i) from rfl]) ?_
            refine V_callV C (c_X20_areEqual l hl G X N0 mo ad σ M hM (σ.2.1 2 a) (el σ a i) (el σ b i) hI (fun h => ⟨el_ej hI ha hlt h, el_ej hI hb (by omega) (hz.1.1.symm.trans h)⟩) ) cs_X20_222_9 hM.1 (show CLS[9]? = some (RX20, TX20, 33) from rfl) rfl rfl ⟨Nat.le_of_ble_eq_true rfl, Nat.le_of_ble_eq_true rfl⟩ ⟨(by first | exact Nat.le_of_ble_eq_true rfl | omega | (dsimp only; omega)), (by first | exact Nat.le_of_ble_eq_true rfl | omega | (dsimp only; omega))⟩ (Nat.le_of_ble_eq_true rfl) dX20_equal_85 (fun _ _ _ h => px0 h) ?_
            rintro _ _ ⟨rfl, rfl⟩
            refine V_st (st' := [.int (bI (mf_eq σ (σ.2.1 2 a) (el σ a i) (el σ b i)))]) rfl ?_
            refine V_istore_n C dX20_equal_88 rfl (Nat.le_of_ble_eq_true rfl) [(0, .ref mo), (1, .int (nI a)), (2, .int (nI b)), (3, .int (bI (mf_eq σ (σ.2.1 2 a) (el σ a i) (el σ b i)))), (4, .int (nI i))] [1, 2, 3, 0, 4] rfl ?_
            refine V_iinc (v := nI (i + 1)) C dX20_equal_89 (k := 4) rfl (nI_add i 1) (Nat.le_of_ble_eq_true rfl) [(0, .ref mo), (1, .int (nI a)), (2, .int (nI b)), (3, .int (bI (mf_eq σ (σ.2.1 2 a) (el σ a i) (el σ b i)))), (4, .int (nI (i + 1)))] [1, 2, 3, 4, 0] rfl ?_
            refine V_goto (tgt := 39) C dX20_equal_92 (by decide) ?_
            exact ih39 (i + 1) (bI (mf_eq σ (σ.2.1 2 a) (el σ a i) (el σ b i)))  (by omega) (by omega) (by rw [he] at c_40; exact (Classical.em (mf_eq σ (σ.2.1 2 a) (el σ a i) (el σ b i))).elim (fun z => (bI_t z).symm.trans (bal_t c_40 z)) (fun z => (bI_f z).symm.trans (bal_f z)))
    refine V_loc (L' := [(0, .ref mo), (1, .int (nI a)), (2, .int (nI b)), (3, .int x35), (4, .int 0)]) [0, 1, 2, 3, 4] rfl ?_
    exact lp_39 _ 0 x35  (Nat.lt_succ_self _) (Nat.zero_le _) (by rw [hjn_35_1]; exact bI_cg ⟨fun h => ⟨h, fun q hq => absurd hq (Nat.not_lt_zero q)⟩, fun h => h.1⟩)
  refine V_icmp_ne (tgt := 34) C dX20_equal_12 (by decide) (fun c_12 => ?_) (fun c_12 => ?_)
  · refine V_iconst (v := 0) C dX20_equal_34 rfl ?_
    refine V_loc (L' := [(0, .ref mo), (1, .int (nI a)), (2, .int (nI b))]) [0, 1, 2] rfl ?_
    exact jn_35_1 0 (by first | exact bI_t ⟨c_12, by first | exact c_27 | (rw [hl_a.1, hl_b.1]; exact c_27)⟩ | exact bI_f (fun z => c_12 z.1) | exact bI_f (fun z => c_27 (by first | exact z.2 | (rw [← hl_a.1, ← hl_b.1]; exact z.2))))
  · refine V_aload_n C dX20_equal_15 rfl 0 rfl ?_
    refine M_get C hM (.ref (ad 3)) f_X20_13_9 rfl dX20_equal_16 ?_
    refine V_pc (pc1 := 19) rfl ?_
    refine V_iload_n C dX20_equal_19 rfl 1 rfl ?_
    refine M_iald C hM 3 a rfl rfl (show a < 60 from by first | omega | (have := hI.R.2; omega) | (have := hI.U.2; omega) | (have := hI.J.2; omega)) dX20_equal_20 ?_
    refine V_aload_n C dX20_equal_21 rfl 0 rfl ?_
    refine M_get C hM (.ref (ad 3)) f_X20_13_9 rfl dX20_equal_22 ?_
    refine V_iload_n C dX20_equal_25 rfl 2 rfl ?_
    refine M_iald C hM 3 b rfl rfl (show b < 60 from by first | omega | (have := hI.R.2; omega) | (have := hI.U.2; omega) | (have := hI.J.2; omega)) dX20_equal_26 ?_
    refine V_icmp_ne (tgt := 34) C dX20_equal_27 (by decide) (fun c_27 => ?_) (fun c_27 => ?_)
    · refine V_iconst (v := 0) C dX20_equal_34 rfl ?_
      refine V_loc (L' := [(0, .ref mo), (1, .int (nI a)), (2, .int (nI b))]) [0, 1, 2] rfl ?_
      exact jn_35_1 0 (by first | exact bI_t ⟨c_12, by first | exact c_27 | (rw [hl_a.1, hl_b.1]; exact c_27)⟩ | exact bI_f (fun z => c_12 z.1) | exact bI_f (fun z => c_27 (by first | exact z.2 | (rw [← hl_a.1, ← hl_b.1]; exact z.2))))
    · refine V_iconst (v := 1) C dX20_equal_30 rfl ?_
      refine V_goto (tgt := 35) C dX20_equal_31 (by decide) ?_
      refine V_loc (L' := [(0, .ref mo), (1, .int (nI a)), (2, .int (nI b))]) [0, 1, 2] rfl ?_
      exact jn_35_1 1 (by first | exact bI_t ⟨c_12, by first | exact c_27 | (rw [hl_a.1, hl_b.1]; exact c_27)⟩ | exact bI_f (fun z => c_12 z.1) | exact bI_f (fun z => c_27 (by first | exact z.2 | (rw [← hl_a.1, ← hl_b.1]; exact z.2))))
set_option maxHeartbeats 1000000 in
theorem c_X20_orderRows (l : Launch) (hl : l.stackTraces = false) (G : hp_G) (X : Nat → Nat) (N0 : Nat) (mo : Nat) (ad : Nat → Nat) (σ : MS) (M : hp_h) (hM : MH G mo ad σ M) (a b : Nat) (hI : MI σ) (ha : a < nR σ) (hb : b < nR σ) : HM l yX20_orderRows (ws_ yX20_orderRows cX20_orderRows 6 (some .int)) 4 92 0 0 G X N0 [.ref mo, .int (nI a), .int (nI b)] M (PM G mo ad M (some (.int (mf_orderRows σ a b).1)) (mf_orderRows σ a b).2) PX0 := by
  refine HM.of hl [(0, .ref mo), (1, .int (nI a)), (2, .int (nI b))] (by decide +kernel) rfl (Nat.le_of_ble_eq_true rfl) ?_
  intro p e s m args below meth c C hname
  have hF : MFr mo ad M M := MFr.rf
  have hR6 := hI.R
  have hk_a := hI.k ha
  have hl_a := hI.l ha
  have hk_b := hI.k hb
  have hl_b := hI.l hb
  refine V_aload_n C dX20_orderRows_0 rfl 0 rfl ?_
  refine M_get C hM (.ref (ad 2)) f_X20_7_9 rfl dX20_orderRows_1 ?_
  refine V_iload_n C dX20_orderRows_4 rfl 1 rfl ?_
  refine M_iald C hM 2 a rfl rfl (show a < 60 from by first | omega | (have := hI.R.2; omega) | (have := hI.U.2; omega) | (have := hI.J.2; omega)) dX20_orderRows_5 ?_
  have jn_34_1 : ∀ (z34 : Nat), ¬ (¬ mf_real (σ.2.1 2 a) ∨ ¬ σ.2.1 2 a = σ.2.1 2 b) → V p l e { frames := 4, cells := 0, slots := 0, locals := 92 } s m args below meth c G N0 6 (QV below G N0 (PM G mo ad M (some (.int (mf_orderRows σ a b).1)) (mf_orderRows σ a b).2) PX0 args s (0) (0)) (0) (0) M 34 [(0, .ref mo), (1, .int (nI a)), (2, .int (nI b))] [] := by
    intro z34 hjn_34_1
    refine V_aload_n C dX20_orderRows_34 rfl 0 rfl ?_
    have jn_64_2 : ∀ (x64 : Nat), x64 = min (ln σ a) (ln σ b) → V p l e { frames := 4, cells := 0, slots := 0, locals := 92 } s m args below meth c G N0 6 (QV below G N0 (PM G mo ad M (some (.int (mf_orderRows σ a b).1)) (mf_orderRows σ a b).2) PX0 args s (0) (0)) (0) (0) M 64 [(0, .ref mo), (1, .int (nI a)), (2, .int (nI b))] [.int (nI x64)] := by
      intro x64 hjn_64_2
      refine V_istore_n C dX20_orderRows_64 rfl (Nat.le_of_ble_eq_true rfl) [(0, .ref mo), (1, .int (nI a)), (2, .int (nI b)), (3, .int (nI x64))] [1, 2, 3, 0] rfl ?_
      refine V_iconst (v := 0) C dX20_orderRows_65 rfl ?_
      refine V_istore C dX20_orderRows_66 (Nat.le_of_ble_eq_true rfl) [(0, .ref mo), (1, .int (nI a)), (2, .int (nI b)), (3, .int (nI x64)), (4, .int 0)] [1, 2, 3, 4, 0] rfl ?_
      refine V_iconst (v := 0) C dX20_orderRows_68 rfl ?_
      refine V_istore C dX20_orderRows_69 (Nat.le_of_ble_eq_true rfl) [(0, .ref mo), (1, .int (nI a)), (2, .int (nI b)), (3, .int (nI x64)), (4, .int 0), (5, .int 0)] [1, 2, 3, 4, 5, 0] rfl ?_
      have lp_71 : ∀ (fu9 : Nat) (i : Nat) (y8 : Int32), x64 - i < fu9 → (i ≤ x64) → (y8 = mf_by σ (σ.2.1 2 a) a b i) → V p l e { frames := 4, cells := 0, slots := 0, locals := 92 } s m args below meth c G N0 6 (QV below G N0 (PM G mo ad M (some (.int (mf_orderRows σ a b).1)) (mf_orderRows σ a b).2) PX0 args s (0) (0)) (0) (0) M 71 [(0, .ref mo), (1, .int (nI a)), (2, .int (nI b)), (3, .int (nI x64)), (4, .int y8), (5, .int (nI i))] [] := by
        intro fu9
        induction fu9 with
        | zero => intro i y8  hfu9; exact absurd hfu9 (Nat.not_lt_zero _)
        | succ fu9 ih71 =>
          intro i y8  hfu9 hi he
          refine V_iload C dX20_orderRows_71 5 rfl ?_
          refine V_pc (pc1 := 73) rfl ?_
          refine V_iload_n C dX20_orderRows_73 rfl 3 rfl ?_
          refine V_icmp_ge (tgt := 123) C dX20_orderRows_74 (by decide) (fun c_74 => ?_) (fun c_74 => ?_)
          · refine V_aload_n C dX20_orderRows_123 rfl 0 rfl ?_
            refine V_iload C dX20_orderRows_124 4 rfl ?_
            refine V_if_eq (tgt := 135) C dX20_orderRows_126 (by decide) (fun c_126 => ?_) (fun c_126 => ?_)
            · refine V_aload_n C dX20_orderRows_135 rfl 0 rfl ?_
              refine M_get C hM (.ref (ad 3)) f_X20_13_9 rfl dX20_orderRows_136 ?_
              refine V_iload_n C dX20_orderRows_139 rfl 1 rfl ?_
              refine M_iald C hM 3 a rfl rfl (show a < 60 from by first | omega | (have := hI.R.2; omega) | (have := hI.U.2; omega) | (have := hI.J.2; omega)) dX20_orderRows_140 ?_
              refine V_st (st' := [.int (nI (ln σ a)), .ref mo]) (by rw [show (σ.2.1 3 a) = (nI (ln σ a)) from hl_a.1]) ?_
              refine V_aload_n C dX20_orderRows_141 rfl 0 rfl ?_
              refine M_get C hM (.ref (ad 3)) f_X20_13_9 rfl dX20_orderRows_142 ?_
              refine V_iload_n C dX20_orderRows_145 rfl 2 rfl ?_
              refine V_pc (pc1 := 146) rfl ?_
              refine M_iald C hM 3 b rfl rfl (show b < 60 from by first | omega | (have := hI.R.2; omega) | (have := hI.U.2; omega) | (have := hI.J.2; omega)) dX20_orderRows_146 ?_
              refine V_st (st' := [.int (nI (ln σ b)), .int (nI (ln σ a)), .ref mo]) (by rw [show (σ.2.1 3 b) = (nI (ln σ b)) from hl_b.1]) ?_
              refine V_icmp_ge (tgt := 156) C dX20_orderRows_147 (by decide) (fun c_147 => ?_) (fun c_147 => ?_)
              · refine V_aload_n C dX20_orderRows_156 rfl 0 rfl ?_
                refine M_get C hM (.ref (ad 3)) f_X20_13_9 rfl dX20_orderRows_157 ?_
                refine V_iload_n C dX20_orderRows_160 rfl 1 rfl ?_
                refine M_iald C hM 3 a rfl rfl (show a < 60 from by first | omega | (have := hI.R.2; omega) | (have := hI.U.2; omega) | (have := hI.J.2; omega)) dX20_orderRows_161 ?_
                refine V_st (st' := [.int (nI (ln σ a)), .ref mo]) (by rw [show (σ.2.1 3 a) = (nI (ln σ a)) from hl_a.1]) ?_
                refine V_aload_n C dX20_orderRows_162 rfl 0 rfl ?_
                refine M_get C hM (.ref (ad 3)) f_X20_13_9 rfl dX20_orderRows_163 ?_
                refine V_iload_n C dX20_orderRows_166 rfl 2 rfl ?_
                refine M_iald C hM 3 b rfl rfl (show b < 60 from by first | omega | (have := hI.R.2; omega) | (have := hI.U.2; omega) | (have := hI.J.2; omega)) dX20_orderRows_167 ?_
                refine V_st (st' := [.int (nI (ln σ b)), .int (nI (ln σ a)), .ref mo]) (by rw [show (σ.2.1 3 b) = (nI (ln σ b)) from hl_b.1]) ?_
                refine V_icmp_le (tgt := 175) C dX20_orderRows_168 (by decide) (fun c_168 => ?_) (fun c_168 => ?_)
                · refine V_lconst (v := 0) C dX20_orderRows_175 rfl ?_
                  refine V_pc (pc1 := 176) rfl ?_
                  refine M_putl C hM hF f_X20_218_9 mF_18 dX20_orderRows_176 (fun M_4 hM_5 hF_6 => ?_)
                  refine V_iconst (v := 0) C dX20_orderRows_179 rfl ?_
                  refine V_iret C dX20_orderRows_180 rfl ?_ (by first | exact Nat.le_of_ble_eq_true rfl | omega | (dsimp only; omega)) (by first | exact Nat.le_of_ble_eq_true rfl | omega | (dsimp only; omega))
                  have e9 : mf_orderRows σ a b = (0, (sa σ 0)) := by
                    unfold mf_orderRows
                    rw [if_neg hjn_34_1]
                    unfold mf_ordR
                    rw [← hjn_64_2]
                    have e8 : mf_by σ (σ.2.1 2 a) a b x64 = y8 := by
                      rw [show x64 = i by have := (nI_leI (by omega) (by omega)).mp c_74; omega]; exact he.symm
                    rw [e8]
                    first
                      | exact absurd c_126 c_79
                      | exact absurd c_79 c_126
                      | (have h1 := (nI_leI (by omega) (by omega)).mp c_147
                         have h2 := (nI_leI (by omega) (by omega)).mp c_168
                         rw [if_neg (fun z => z c_126), if_neg (by omega), if_neg (by omega)])
                      | (have h1 := (nI_leI (by omega) (by omega)).mp c_147
                         have h2 := nI_ltN c_168 (by omega) (by omega)
                         rw [if_neg (fun z => z c_126), if_neg (by omega), if_pos h2])
                  rw [e9]; exact ⟨rfl, hM_5, hF_6⟩
                · refine V_lconst (v := 1) C dX20_orderRows_171 rfl ?_
                  refine V_pc (pc1 := 172) rfl ?_
                  refine V_goto (tgt := 176) C dX20_orderRows_172 (by decide) ?_
                  refine M_putl C hM hF f_X20_218_9 mF_18 dX20_orderRows_176 (fun M_7 hM_8 hF_9 => ?_)
                  refine V_iconst (v := 0) C dX20_orderRows_179 rfl ?_
                  refine V_iret C dX20_orderRows_180 rfl ?_ (by first | exact Nat.le_of_ble_eq_true rfl | omega | (dsimp only; omega)) (by first | exact Nat.le_of_ble_eq_true rfl | omega | (dsimp only; omega))
                  have e9 : mf_orderRows σ a b = (0, (sa σ 1)) := by
                    unfold mf_orderRows
                    rw [if_neg hjn_34_1]
                    unfold mf_ordR
                    rw [← hjn_64_2]
                    have e8 : mf_by σ (σ.2.1 2 a) a b x64 = y8 := by
                      rw [show x64 = i by have := (nI_leI (by omega) (by omega)).mp c_74; omega]; exact he.symm
                    rw [e8]
                    first
                      | exact absurd c_126 c_79
                      | exact absurd c_79 c_126
                      | (have h1 := (nI_leI (by omega) (by omega)).mp c_147
                         have h2 := (nI_leI (by omega) (by omega)).mp c_168
                         rw [if_neg (fun z => z c_126), if_neg (by omega), if_neg (by omega)])
                      | (have h1 := (nI_leI (by omega) (by omega)).mp c_147
                         have h2 := nI_ltN c_168 (by omega) (by omega)
                         rw [if_neg (fun z => z c_126), if_neg (by omega), if_pos h2])
                  rw [e9]; exact ⟨rfl, hM_8, hF_9⟩
              · refine V_ldc2 (v := -1) C (C.w q1596) dX20_orderRows_150 ?_
                refine V_goto (tgt := 176) C dX20_orderRows_153 (by decide) ?_
                refine M_putl C hM hF f_X20_218_9 mF_18 dX20_orderRows_176 (fun M_10 hM_11 hF_12 => ?_)
                refine V_iconst (v := 0) C dX20_orderRows_179 rfl ?_
                refine V_iret C dX20_orderRows_180 rfl ?_ (by first | exact Nat.le_of_ble_eq_true rfl | omega | (dsimp only; omega)) (by first | exact Nat.le_of_ble_eq_true rfl | omega | (dsimp only; omega))
                have e9 : mf_orderRows σ a b = (0, (sa σ (-1))) := by
                  unfold mf_orderRows
                  rw [if_neg hjn_34_1]
                  unfold mf_ordR
                  rw [← hjn_64_2]
                  have e8 : mf_by σ (σ.2.1 2 a) a b x64 = y8 := by
                    rw [show x64 = i by have := (nI_leI (by omega) (by omega)).mp c_74; omega]; exact he.symm
                  rw [e8]
                  first
                    | exact absurd c_126 c_79
                    | exact absurd c_79 c_126
                    | rw [if_neg (fun z => z c_126), if_pos (nI_ltN c_147 (by omega) (by omega))]
                rw [e9]; exact ⟨rfl, hM_11, hF_12⟩
            · refine V_iload C dX20_orderRows_129 4 rfl ?_
              refine V_i2l (v := y8.toInt64) C dX20_orderRows_131 rfl ?_
              refine V_goto (tgt := 176) C dX20_orderRows_132 (by decide) ?_
              refine M_putl C hM hF f_X20_218_9 mF_18 dX20_orderRows_176 (fun M_13 hM_14 hF_15 => ?_)
              refine V_iconst (v := 0) C dX20_orderRows_179 rfl ?_
              refine V_iret C dX20_orderRows_180 rfl ?_ (by first | exact Nat.le_of_ble_eq_true rfl | omega | (dsimp only; omega)) (by first | exact Nat.le_of_ble_eq_true rfl | omega | (dsimp only; omega))
              have e9 : mf_orderRows σ a b = (0, (sa σ y8.toInt64)) := by
                unfold mf_orderRows
                rw [if_neg hjn_34_1]
                unfold mf_ordR
                rw [← hjn_64_2]
                have e8 : mf_by σ (σ.2.1 2 a) a b x64 = y8 := by
                  rw [show x64 = i by have := (nI_leI (by omega) (by omega)).mp c_74; omega]; exact he.symm
                rw [e8]
                first
                  | rw [if_pos c_126]
                  | exact absurd c_126 c_79
                  | exact absurd c_79 c_126
              rw [e9]; exact ⟨rfl, hM_14, hF_15⟩
          · refine V_iload C dX20_orderRows_77 4 rfl ?_
            refine V_if_ne (tgt := 123) C dX20_orderRows_79 (by decide) (fun c_79 => ?_) (fun c_79 => ?_)
            · refine V_aload_n C dX20_orderRows_123 rfl 0 rfl ?_
              refine V_iload C dX20_orderRows_124 4 rfl ?_
              refine V_if_eq (tgt := 135) C dX20_orderRows_126 (by decide) (fun c_126_2 => ?_) (fun c_126_2 => ?_)
              · refine V_aload_n C dX20_orderRows_135 rfl 0 rfl ?_
                refine M_get C hM (.ref (ad 3)) f_X20_13_9 rfl dX20_orderRows_136 ?_
                refine V_iload_n C dX20_orderRows_139 rfl 1 rfl ?_
                refine M_iald C hM 3 a rfl rfl (show a < 60 from by first | omega | (have := hI.R.2; omega) | (have := hI.U.2; omega) | (have := hI.J.2; omega)) dX20_orderRows_140 ?_
                refine V_st (st' := [.int (nI (ln σ a)), .ref mo]) (by rw [show (σ.2.1 3 a) = (nI (ln σ a)) from hl_a.1]) ?_
                refine V_aload_n C dX20_orderRows_141 rfl 0 rfl ?_
                refine V_pc (pc1 := 142) rfl ?_
                refine M_get C hM (.ref (ad 3)) f_X20_13_9 rfl dX20_orderRows_142 ?_
                refine V_iload_n C dX20_orderRows_145 rfl 2 rfl ?_
                refine M_iald C hM 3 b rfl rfl (show b < 60 from by first | omega | (have := hI.R.2; omega) | (have := hI.U.2; omega) | (have := hI.J.2; omega)) dX20_orderRows_146 ?_
                refine V_st (st' := [.int (nI (ln σ b)), .int (nI (ln σ a)), .ref mo]) (by rw [show (σ.2.1 3 b) = (nI (ln σ b)) from hl_b.1]) ?_
                refine V_icmp_ge (tgt := 156) C dX20_orderRows_147 (by decide) (fun c_147_2 => ?_) (fun c_147_2 => ?_)
                · refine V_aload_n C dX20_orderRows_156 rfl 0 rfl ?_
                  refine M_get C hM (.ref (ad 3)) f_X20_13_9 rfl dX20_orderRows_157 ?_
                  refine V_iload_n C dX20_orderRows_160 rfl 1 rfl ?_
                  refine M_iald C hM 3 a rfl rfl (show a < 60 from by first | omega | (have := hI.R.2; omega) | (have := hI.U.2; omega) | (have := hI.J.2; omega)) dX20_orderRows_161 ?_
                  refine V_st (st' := [.int (nI (ln σ a)), .ref mo]) (by rw [show (σ.2.1 3 a) = (nI (ln σ a)) from hl_a.1]) ?_
                  refine V_aload_n C dX20_orderRows_162 rfl 0 rfl ?_
                  refine M_get C hM (.ref (ad 3)) f_X20_13_9 rfl dX20_orderRows_163 ?_
                  refine V_iload_n C dX20_orderRows_166 rfl 2 rfl ?_
                  refine M_iald C hM 3 b rfl rfl (show b < 60 from by first | omega | (have := hI.R.2; omega) | (have := hI.U.2; omega) | (have := hI.J.2; omega)) dX20_orderRows_167 ?_
                  refine V_st (st' := [.int (nI (ln σ b)), .int (nI (ln σ a)), .ref mo]) (by rw [show (σ.2.1 3 b) = (nI (ln σ b)) from hl_b.1]) ?_
                  refine V_pc (pc1 := 168) rfl ?_
                  refine V_icmp_le (tgt := 175) C dX20_orderRows_168 (by decide) (fun c_168_2 => ?_) (fun c_168_2 => ?_)
                  · refine V_lconst (v := 0) C dX20_orderRows_175 rfl ?_
                    refine M_putl C hM hF f_X20_218_9 mF_18 dX20_orderRows_176 (fun M_16 hM_17 hF_18 => ?_)
                    refine V_iconst (v := 0) C dX20_orderRows_179 rfl ?_
                    refine V_iret C dX20_orderRows_180 rfl ?_ (by first | exact Nat.le_of_ble_eq_true rfl | omega | (dsimp only; omega)) (by first | exact Nat.le_of_ble_eq_true rfl | omega | (dsimp only; omega))
                    have e9 : mf_orderRows σ a b = (0, (sa σ 0)) := by
                      unfold mf_orderRows
                      rw [if_neg hjn_34_1]
                      unfold mf_ordR
                      rw [← hjn_64_2]
                      have e8 : mf_by σ (σ.2.1 2 a) a b x64 = y8 := by
                        have := mf_by_stick (d := x64 - i) (show ¬ mf_by σ (σ.2.1 2 a) a b i = 0 from fun z => c_79 (he.trans z))
                        rw [show i + (x64 - i) = x64 by omega] at this
                        rw [this]; exact he.symm
                      rw [e8]
                      first
                        | exact absurd c_126_2 c_79
                        | exact absurd c_79 c_126_2
                        | (have h1 := (nI_leI (by omega) (by omega)).mp c_147_2
                           have h2 := (nI_leI (by omega) (by omega)).mp c_168_2
                           rw [if_neg (fun z => z c_126_2), if_neg (by omega), if_neg (by omega)])
                        | (have h1 := (nI_leI (by omega) (by omega)).mp c_147_2
                           have h2 := nI_ltN c_168_2 (by omega) (by omega)
                           rw [if_neg (fun z => z c_126_2), if_neg (by omega), if_pos h2])
                    rw [e9]; exact ⟨rfl, hM_17, hF_18⟩
                  · refine V_lconst (v := 1) C dX20_orderRows_171 rfl ?_
                    refine V_goto (tgt := 176) C dX20_orderRows_172 (by decide) ?_
                    refine M_putl C hM hF f_X20_218_9 mF_18 dX20_orderRows_176 (fun M_19 hM_20 hF_21 => ?_)
                    refine V_iconst (v := 0) C dX20_orderRows_179 rfl ?_
                    refine V_iret C dX20_orderRows_180 rfl ?_ (by first | exact Nat.le_of_ble_eq_true rfl | omega | (dsimp only; omega)) (by first | exact Nat.le_of_ble_eq_true rfl | omega | (dsimp only; omega))
                    have e9 : mf_orderRows σ a b = (0, (sa σ 1)) := by
                      unfold mf_orderRows
                      rw [if_neg hjn_34_1]
                      unfold mf_ordR
                      rw [← hjn_64_2]
                      have e8 : mf_by σ (σ.2.1 2 a) a b x64 = y8 := by
                        have := mf_by_stick (d := x64 - i) (show ¬ mf_by σ (σ.2.1 2 a) a b i = 0 from fun z => c_79 (he.trans z))
                        rw [show i + (x64 - i) = x64 by omega] at this
                        rw [this]; exact he.symm
                      rw [e8]
                      first
                        | exact absurd c_126_2 c_79
                        | exact absurd c_79 c_126_2
                        | (have h1 := (nI_leI (by omega) (by omega)).mp c_147_2
                           have h2 := (nI_leI (by omega) (by omega)).mp c_168_2
                           rw [if_neg (fun z => z c_126_2), if_neg (by omega), if_neg (by omega)])
                        | (have h1 := (nI_leI (by omega) (by omega)).mp c_147_2
                           have h2 := nI_ltN c_168_2 (by omega) (by omega)
                           rw [if_neg (fun z => z c_126_2), if_neg (by omega), if_pos h2])
                    rw [e9]; exact ⟨rfl, hM_20, hF_21⟩
                · refine V_ldc2 (v := -1) C (C.w q1596) dX20_orderRows_150 ?_
                  refine V_goto (tgt := 176) C dX20_orderRows_153 (by decide) ?_
                  refine M_putl C hM hF f_X20_218_9 mF_18 dX20_orderRows_176 (fun M_22 hM_23 hF_24 => ?_)
                  refine V_iconst (v := 0) C dX20_orderRows_179 rfl ?_
                  refine V_iret C dX20_orderRows_180 rfl ?_ (by first | exact Nat.le_of_ble_eq_true rfl | omega | (dsimp only; omega)) (by first | exact Nat.le_of_ble_eq_true rfl | omega | (dsimp only; omega))
                  have e9 : mf_orderRows σ a b = (0, (sa σ (-1))) := by
                    unfold mf_orderRows
                    rw [if_neg hjn_34_1]
                    unfold mf_ordR
                    rw [← hjn_64_2]
                    have e8 : mf_by σ (σ.2.1 2 a) a b x64 = y8 := by
                      have := mf_by_stick (d := x64 - i) (show ¬ mf_by σ (σ.2.1 2 a) a b i = 0 from fun z => c_79 (he.trans z))
                      rw [show i + (x64 - i) = x64 by omega] at this
                      rw [this]; exact he.symm
                    rw [e8]
                    first
                      | exact absurd c_126_2 c_79
                      | exact absurd c_79 c_126_2
                      | rw [if_neg (fun z => z c_126_2), if_pos (nI_ltN c_147_2 (by omega) (by omega))]
                  rw [e9]; exact ⟨rfl, hM_23, hF_24⟩
              · refine V_iload C dX20_orderRows_129 4 rfl ?_
                refine V_i2l (v := y8.toInt64) C dX20_orderRows_131 rfl ?_
                refine V_goto (tgt := 176) C dX20_orderRows_132 (by decide) ?_
                refine M_putl C hM hF f_X20_218_9 mF_18 dX20_orderRows_176 (fun M_25 hM_26 hF_27 => ?_)
                refine V_iconst (v := 0) C dX20_orderRows_179 rfl ?_
                refine V_pc (pc1 := 180) rfl ?_
                refine V_iret C dX20_orderRows_180 rfl ?_ (by first | exact Nat.le_of_ble_eq_true rfl | omega | (dsimp only; omega)) (by first | exact Nat.le_of_ble_eq_true rfl | omega | (dsimp only; omega))
                have e9 : mf_orderRows σ a b = (0, (sa σ y8.toInt64)) := by
                  unfold mf_orderRows
                  rw [if_neg hjn_34_1]
                  unfold mf_ordR
                  rw [← hjn_64_2]
                  have e8 : mf_by σ (σ.2.1 2 a) a b x64 = y8 := by
                    have := mf_by_stick (d := x64 - i) (show ¬ mf_by σ (σ.2.1 2 a) a b i = 0 from fun z => c_79 (he.trans z))
                    rw [show i + (x64 - i) = x64 by omega] at this
                    rw [this]; exact he.symm
                  rw [e8]
                  first
                    | rw [if_pos c_126_2]
                    | exact absurd c_126_2 c_79
                    | exact absurd c_79 c_126_2
                rw [e9]; exact ⟨rfl, hM_26, hF_27⟩
            · have hlt : i < x64 := nI_ltN c_74 (by omega) (by omega)
              refine V_aload_n C dX20_orderRows_82 rfl 0 rfl ?_
              refine M_get C hM (.ref (ad 2)) f_X20_7_9 rfl dX20_orderRows_83 ?_
              refine V_iload_n C dX20_orderRows_86 rfl 1 rfl ?_
              refine M_iald C hM 2 a rfl rfl (show a < 60 from by first | omega | (have := hI.R.2; omega) | (have := hI.U.2; omega) | (have := hI.J.2; omega)) dX20_orderRows_87 ?_
              refine V_aload_n C dX20_orderRows_88 rfl 0 rfl ?_
              refine M_get C hM (.ref (ad 4)) f_X20_16_9 rfl dX20_orderRows_89 ?_
              refine V_bipush (v := 40) C dX20_orderRows_92 rfl ?_
              refine V_iload_n C dX20_orderRows_94 rfl 1 rfl ?_
              refine V_pc (pc1 := 95) rfl ?_
              refine V_imul C dX20_orderRows_95 ?_
              refine V_st (st' := [.int (nI (40 * a)), .ref (ad 4), .int (σ.2.1 2 a)]) (by rw [show (40 * (nI a)) = (nI (40 * a)) from pk_mul 40 a]) ?_
              refine V_iload C dX20_orderRows_96 5 rfl ?_
              refine V_iadd C dX20_orderRows_98 ?_
              refine V_st (st' := [.int (nI ((40 * a) + i)), .ref (ad 4), .int (σ.2.1 2 a)]) (by rw [show ((nI (40 * a)) + (nI i)) = (nI ((40 * a) + i)) from nI_add (40 * a) i]) ?_
              refine M_lald C hM 4 (40 * a + i) rfl rfl (show 40 * a + i < 2400 from by omega) dX20_orderRows_99 ?_
              refine V_st (st' := [.long (el σ a i), .int (σ.2.1 2 a)]) (by rw [show (σ.2.2.1 4 (40 * a + i)) = (el σ a i) from rfl]) ?_
              refine V_aload_n C dX20_orderRows_100 rfl 0 rfl ?_
              refine M_get C hM (.ref (ad 4)) f_X20_16_9 rfl dX20_orderRows_101 ?_
              refine V_bipush (v := 40) C dX20_orderRows_104 rfl ?_
              refine V_iload_n C dX20_orderRows_106 rfl 2 rfl ?_
              refine V_imul C dX20_orderRows_107 ?_
              refine V_st (st' := [.int (nI (40 * b)), .ref (ad 4), .long (el σ a i), .int (σ.2.1 2 a)]) (by rw [show (40 * (nI b)) = (nI (40 * b)) from pk_mul 40 b]) ?_
              refine V_iload C dX20_orderRows_108 5 rfl ?_
              refine V_iadd C dX20_orderRows_110 ?_
              refine V_st (st' := [.int (nI ((40 * b) + i)), .ref (ad 4), .long (el σ a i), .int (σ.2.1 2 a)]) (by rw [show ((nI (40 * b)) + (nI i)) = (nI ((40 * b) + i)) from nI_add (40 * b) i]) ?_
              refine M_lald C hM 4 (40 * b + i) rfl rfl (show 40 * b + i < 2400 from by omega) dX20_orderRows_111 ?_
              refine V_st (st' := [.long (el σ b i), .long (el σ a i), .int (σ.2.1 2 a)]) (by rw [show (σ.2.2.1 4 (40 * b + i)) = (el σ b i) from rfl]) ?_
              refine V_pc (pc1 := 112) rfl ?_
              refine V_callS C (c_X20_order l hl G X N0 M (σ.2.1 2 a) (el σ a i) (el σ b i)) cs_X20_228 rfl rfl ⟨Nat.le_of_ble_eq_true rfl, Nat.le_of_ble_eq_true rfl⟩ ⟨(by first | exact Nat.le_of_ble_eq_true rfl | omega | (dsimp only; omega)), (by first | exact Nat.le_of_ble_eq_true rfl | omega | (dsimp only; omega))⟩ (Nat.le_of_ble_eq_true rfl) dX20_orderRows_112 (fun _ _ _ h => px0 h) ?_
              rintro _ _ ⟨rfl, rfl⟩
              refine V_st (st' := [.int (mf_order (σ.2.1 2 a) (el σ a i) (el σ b i))]) rfl ?_
              refine V_istore C dX20_orderRows_115 (Nat.le_of_ble_eq_true rfl) [(0, .ref mo), (1, .int (nI a)), (2, .int (nI b)), (3, .int (nI x64)), (4, .int (mf_order (σ.2.1 2 a) (el σ a i) (el σ b i))), (5, .int (nI i))] [1, 2, 3, 4, 0, 5] rfl ?_
              refine V_iinc (v := nI (i + 1)) C dX20_orderRows_117 (k := 5) rfl (nI_add i 1) (Nat.le_of_ble_eq_true rfl) [(0, .ref mo), (1, .int (nI a)), (2, .int (nI b)), (3, .int (nI x64)), (4, .int (mf_order (σ.2.1 2 a) (el σ a i) (el σ b i))), (5, .int (nI (i + 1)))] [1, 2, 3, 4, 5, 0] rfl ?_
              refine V_goto (tgt := 71) C dX20_orderRows_120 (by decide) ?_
              exact ih71 (i + 1) (mf_order (σ.2.1 2 a) (el σ a i) (el σ b i))  (by omega) (by omega) (by unfold mf_by; rw [if_pos (he.symm.trans c_79)])
      refine V_loc (L' := [(0, .ref mo), (1, .int (nI a)), (2, .int (nI b)), (3, .int (nI x64)), (4, .int 0), (5, .int 0)]) [0, 1, 2, 3, 4, 5] rfl ?_
      exact lp_71 _ 0 0  (Nat.lt_succ_self _) (Nat.zero_le _) rfl
    refine M_get C hM (.ref (ad 3)) f_X20_13_9 rfl dX20_orderRows_35 ?_
    refine V_iload_n C dX20_orderRows_38 rfl 1 rfl ?_
    refine M_iald C hM 3 a rfl rfl (show a < 60 from by first | omega | (have := hI.R.2; omega) | (have := hI.U.2; omega) | (have := hI.J.2; omega)) dX20_orderRows_39 ?_
    refine V_st (st' := [.int (nI (ln σ a))]) (by rw [show (σ.2.1 3 a) = (nI (ln σ a)) from hl_a.1]) ?_
    refine V_aload_n C dX20_orderRows_40 rfl 0 rfl ?_
    refine M_get C hM (.ref (ad 3)) f_X20_13_9 rfl dX20_orderRows_41 ?_
    refine V_iload_n C dX20_orderRows_44 rfl 2 rfl ?_
    refine V_pc (pc1 := 45) rfl ?_
    refine M_iald C hM 3 b rfl rfl (show b < 60 from by first | omega | (have := hI.R.2; omega) | (have := hI.U.2; omega) | (have := hI.J.2; omega)) dX20_orderRows_45 ?_
    refine V_st (st' := [.int (nI (ln σ b)), .int (nI (ln σ a))]) (by rw [show (σ.2.1 3 b) = (nI (ln σ b)) from hl_b.1]) ?_
    refine V_icmp_ge (tgt := 58) C dX20_orderRows_46 (by decide) (fun c_46 => ?_) (fun c_46 => ?_)
    · refine V_aload_n C dX20_orderRows_58 rfl 0 rfl ?_
      refine M_get C hM (.ref (ad 3)) f_X20_13_9 rfl dX20_orderRows_59 ?_
      refine V_iload_n C dX20_orderRows_62 rfl 2 rfl ?_
      refine M_iald C hM 3 b rfl rfl (show b < 60 from by first | omega | (have := hI.R.2; omega) | (have := hI.U.2; omega) | (have := hI.J.2; omega)) dX20_orderRows_63 ?_
      refine V_st (st' := [.int (nI (ln σ b))]) (by rw [show (σ.2.1 3 b) = (nI (ln σ b)) from hl_b.1]) ?_
      refine V_loc (L' := [(0, .ref mo), (1, .int (nI a)), (2, .int (nI b))]) [0, 1, 2] rfl ?_
      exact jn_64_2 (ln σ b) (by first | (have := (nI_ltN c_46 (by omega) (by omega)); omega) | (have := (nI_leI (by omega) (by omega)).mp c_46; omega))
    · refine V_aload_n C dX20_orderRows_49 rfl 0 rfl ?_
      refine M_get C hM (.ref (ad 3)) f_X20_13_9 rfl dX20_orderRows_50 ?_
      refine V_iload_n C dX20_orderRows_53 rfl 1 rfl ?_
      refine M_iald C hM 3 a rfl rfl (show a < 60 from by first | omega | (have := hI.R.2; omega) | (have := hI.U.2; omega) | (have := hI.J.2; omega)) dX20_orderRows_54 ?_
      refine V_st (st' := [.int (nI (ln σ a))]) (by rw [show (σ.2.1 3 a) = (nI (ln σ a)) from hl_a.1]) ?_
      refine V_goto (tgt := 64) C dX20_orderRows_55 (by decide) ?_
      refine V_loc (L' := [(0, .ref mo), (1, .int (nI a)), (2, .int (nI b))]) [0, 1, 2] rfl ?_
      exact jn_64_2 (ln σ a) (by first | (have := (nI_ltN c_46 (by omega) (by omega)); omega) | (have := (nI_leI (by omega) (by omega)).mp c_46; omega))
  refine V_i2l (v := (σ.2.1 2 a).toInt64) C dX20_orderRows_6 rfl ?_
  refine V_lconst (v := 1) C dX20_orderRows_7 rfl ?_
  refine V_ldc2 (v := 7) C (C.w q1763) dX20_orderRows_8 ?_
  refine V_callS C (c_X20_in l hl G X N0 M ((σ.2.1 2 a).toInt64) 1 7) cs_X20_123 rfl rfl ⟨Nat.le_of_ble_eq_true rfl, Nat.le_of_ble_eq_true rfl⟩ ⟨(by first | exact Nat.le_of_ble_eq_true rfl | omega | (dsimp only; omega)), (by first | exact Nat.le_of_ble_eq_true rfl | omega | (dsimp only; omega))⟩ (Nat.le_of_ble_eq_true rfl) dX20_orderRows_11 (fun _ _ _ h => px0 h) ?_
  rintro _ _ ⟨rfl, rfl⟩
  refine V_st (st' := [.int (bI (1 ≤ ((σ.2.1 2 a).toInt64) ∧ ((σ.2.1 2 a).toInt64) ≤ 7))]) rfl ?_
  refine V_if_eq (tgt := 32) C dX20_orderRows_14 (by decide) (fun c_14 => ?_) (fun c_14 => ?_)
  · refine V_iconst (v := 4) C dX20_orderRows_32 rfl ?_
    refine V_iret C dX20_orderRows_33 rfl ?_ (by first | exact Nat.le_of_ble_eq_true rfl | omega | (dsimp only; omega)) (by first | exact Nat.le_of_ble_eq_true rfl | omega | (dsimp only; omega))
    have e9 : mf_orderRows σ a b = (4, σ) := by
      unfold mf_orderRows
      rw [if_pos (by first | exact Or.inl (bI_0.mp c_14) | exact Or.inr c_14)]
    rw [e9]; exact ⟨rfl, hM, hF⟩
  · refine V_aload_n C dX20_orderRows_17 rfl 0 rfl ?_
    refine M_get C hM (.ref (ad 2)) f_X20_7_9 rfl dX20_orderRows_18 ?_
    refine V_pc (pc1 := 21) rfl ?_
    refine V_iload_n C dX20_orderRows_21 rfl 1 rfl ?_
    refine M_iald C hM 2 a rfl rfl (show a < 60 from by first | omega | (have := hI.R.2; omega) | (have := hI.U.2; omega) | (have := hI.J.2; omega)) dX20_orderRows_22 ?_
    refine V_aload_n C dX20_orderRows_23 rfl 0 rfl ?_
    refine M_get C hM (.ref (ad 2)) f_X20_7_9 rfl dX20_orderRows_24 ?_
    refine V_iload_n C dX20_orderRows_27 rfl 2 rfl ?_
    refine M_iald C hM 2 b rfl rfl (show b < 60 from by first | omega | (have := hI.R.2; omega) | (have := hI.U.2; omega) | (have := hI.J.2; omega)) dX20_orderRows_28 ?_
    refine V_icmp_eq (tgt := 34) C dX20_orderRows_29 (by decide) (fun c_29 => ?_) (fun c_29 => ?_)
    · refine V_loc (L' := [(0, .ref mo), (1, .int (nI a)), (2, .int (nI b))]) [0, 1, 2] rfl ?_
      exact jn_34_1 0 (fun z => z.elim (fun y => y (bI_n.mp c_14)) (fun y => y c_29))
    · refine V_iconst (v := 4) C dX20_orderRows_32 rfl ?_
      refine V_iret C dX20_orderRows_33 rfl ?_ (by first | exact Nat.le_of_ble_eq_true rfl | omega | (dsimp only; omega)) (by first | exact Nat.le_of_ble_eq_true rfl | omega | (dsimp only; omega))
      have e9 : mf_orderRows σ a b = (4, σ) := by
        unfold mf_orderRows
        rw [if_pos (by first | exact Or.inl (bI_0.mp c_14) | exact Or.inr c_29)]
      rw [e9]; exact ⟨rfl, hM, hF⟩
set_option maxHeartbeats 1000000 in
theorem c_X20_fees (l : Launch) (hl : l.stackTraces = false) (G : hp_G) (X : Nat → Nat) (N0 : Nat) (mo : Nat) (ad : Nat → Nat) (σ : MS) (M : hp_h) (hM : MH G mo ad σ M) (a : Nat) (hI : MI σ) (ha : a < nR σ) : HM l yX20_fees (ws_ yX20_fees cX20_fees 4 (some .int)) 1 21 0 0 G X N0 [.ref mo, .int (nI a)] M (PM G mo ad M (some (.int (mf_fees σ a).1)) (mf_fees σ a).2) PX0 := by
  refine HM.of hl [(0, .ref mo), (1, .int (nI a))] (by decide +kernel) rfl (Nat.le_of_ble_eq_true rfl) ?_
  intro p e s m args below meth c C hname
  have hF : MFr mo ad M M := MFr.rf
  have hR6 := hI.R
  have hk_a := hI.k ha
  have hl_a := hI.l ha
  refine V_aload_n C dX20_fees_0 rfl 0 rfl ?_
  have jn_24_1 : ∀ (z24 : Nat), σ.2.1 2 a = 8 ∨ σ.2.1 2 a = 9 → V p l e { frames := 1, cells := 0, slots := 0, locals := 21 } s m args below meth c G N0 4 (QV below G N0 (PM G mo ad M (some (.int (mf_fees σ a).1)) (mf_fees σ a).2) PX0 args s (0) (0)) (0) (0) M 24 [(0, .ref mo), (1, .int (nI a))] [] := by
    intro z24 hjn_24_1
    refine V_iconst (v := 0) C dX20_fees_24 rfl ?_
    refine V_istore_n C dX20_fees_25 rfl (Nat.le_of_ble_eq_true rfl) [(0, .ref mo), (1, .int (nI a)), (2, .int 0)] [1, 2, 0] rfl ?_
    have lp_26 : ∀ (fu9 : Nat) (i : Nat) (M26 : hp_h), ln σ a - i < fu9 → (i ≤ ln σ a) → MH G mo ad (sa σ (mf_feeS σ a i)) M26 → MFr mo ad M M26 → V p l e { frames := 1, cells := 0, slots := 0, locals := 21 } s m args below meth c G N0 4 (QV below G N0 (PM G mo ad M (some (.int (mf_fees σ a).1)) (mf_fees σ a).2) PX0 args s (0) (0)) (0) (0) M26 26 [(0, .ref mo), (1, .int (nI a)), (2, .int (nI i))] [] := by
      intro fu9
      induction fu9 with
      | zero => intro i M26 hfu9; exact absurd hfu9 (Nat.not_lt_zero _)
      | succ fu9 ih26 =>
        intro i M26 hfu9 hi hM26 hF26
        refine V_iload_n C dX20_fees_26 rfl 2 rfl ?_
        refine V_aload_n C dX20_fees_27 rfl 0 rfl ?_
        refine M_get C hM26 (.ref (ad 3)) f_X20_13_9 rfl dX20_fees_28 ?_
        refine V_iload_n C dX20_fees_31 rfl 1 rfl ?_
        refine M_iald C hM26 3 a rfl rfl (show a < 60 from by first | omega | (have := hI.R.2; omega) | (have := hI.U.2; omega) | (have := hI.J.2; omega)) dX20_fees_32 ?_
        refine V_st (st' := [.int (σ.2.1 3 a), .int (nI i)]) rfl ?_
        refine V_st (st' := [.int (nI (ln σ a)), .int (nI i)]) (by rw [show (σ.2.1 3 a) = (nI (ln σ a)) from hl_a.1]) ?_
        refine V_icmp_ge (tgt := 78) C dX20_fees_33 (by decide) (fun c_33 => ?_) (fun c_33 => ?_)
        · refine V_iconst (v := 0) C dX20_fees_78 rfl ?_
          refine V_iret C dX20_fees_79 rfl ?_ (by first | exact Nat.le_of_ble_eq_true rfl | omega | (dsimp only; omega)) (by first | exact Nat.le_of_ble_eq_true rfl | omega | (dsimp only; omega))
          have hiE : i = ln σ a := by have := (nI_leI (by omega) (by omega)).mp c_33; omega
          have e9 : mf_fees σ a = (0, (sa σ (mf_feeS σ a i))) := by
            unfold mf_fees
            rw [if_neg (fun z => z hjn_24_1), hiE]
          rw [e9]; exact ⟨rfl, hM26, hF26⟩
        · have hlt : i < ln σ a := nI_ltN c_33 (by omega) (by omega)
          refine V_aload_n C dX20_fees_36 rfl 0 rfl ?_
          refine M_get C hM26 (.ref (ad 4)) f_X20_16_9 rfl dX20_fees_37 ?_
          refine V_pc (pc1 := 40) rfl ?_
          refine V_bipush (v := 40) C dX20_fees_40 rfl ?_
          refine V_iload_n C dX20_fees_42 rfl 1 rfl ?_
          refine V_imul C dX20_fees_43 ?_
          refine V_st (st' := [.int (nI (40 * a)), .ref (ad 4)]) (by rw [show (40 * (nI a)) = (nI (40 * a)) from pk_mul 40 a]) ?_
          refine V_iload_n C dX20_fees_44 rfl 2 rfl ?_
          refine V_iadd C dX20_fees_45 ?_
          refine V_st (st' := [.int (nI ((40 * a) + i)), .ref (ad 4)]) (by rw [show ((nI (40 * a)) + (nI i)) = (nI ((40 * a) + i)) from nI_add (40 * a) i]) ?_
          refine M_lald C hM26 4 (40 * a + i) rfl rfl (show 40 * a + i < 2400 from by omega) dX20_fees_46 ?_
          refine V_st (st' := [.long (σ.2.2.1 4 (40 * a + i))]) rfl ?_
          refine V_st (st' := [.long (el σ a i)]) (by rw [show (σ.2.2.1 4 (40 * a + i)) = (el σ a i) from rfl]) ?_
          refine V_l2i (v := (el σ a i).toInt32) C dX20_fees_47 rfl ?_
          refine V_istore_n C dX20_fees_48 rfl (Nat.le_of_ble_eq_true rfl) [(0, .ref mo), (1, .int (nI a)), (2, .int (nI i)), (3, .int ((el σ a i).toInt32))] [1, 2, 3, 0] rfl ?_
          refine V_aload_n C dX20_fees_49 rfl 0 rfl ?_
          refine V_dup C dX20_fees_50 rfl ?_
          refine M_get C hM26 (.long (mf_feeS σ a i)) f_X20_218_9 rfl dX20_fees_51 ?_
          refine V_iload_n C dX20_fees_54 rfl 3 rfl ?_
          refine V_pc (pc1 := 55) rfl ?_
          refine V_if_ge (tgt := 62) C dX20_fees_55 (by decide) (fun c_55 => ?_) (fun c_55 => ?_)
          · have hu : (el σ a i).toInt32 = nI (el σ a i).toInt32.toNatClampNeg ∧ (el σ a i).toInt32.toNatClampNeg < 30 := by
              rcases isCard_el hI ha hlt hjn_24_1 with z | ⟨u, hu, z⟩
              · exact absurd c_55 (by rw [z]; decide)
              · rw [z, lN_i, nI_clamp (by omega)]; exact ⟨rfl, hu⟩
            refine V_aload_n C dX20_fees_62 rfl 0 rfl ?_
            refine V_iload_n C dX20_fees_63 rfl 3 rfl ?_
            refine V_callV C (hu.1.symm ▸ c_X20_feeOf l hl G X N0 mo ad (sa σ (mf_feeS σ a i)) M26 hM26 (el σ a i).toInt32.toNatClampNeg hu.2) cs_X20_194_9 hM26.1 (show CLS[9]? = some (RX20, TX20, 33) from rfl) rfl rfl ⟨Nat.le_of_ble_eq_true rfl, Nat.le_of_ble_eq_true rfl⟩ ⟨(by first | exact Nat.le_of_ble_eq_true rfl | omega | (dsimp only; omega)), (by first | exact Nat.le_of_ble_eq_true rfl | omega | (dsimp only; omega))⟩ (Nat.le_of_ble_eq_true rfl) dX20_fees_64 (fun _ _ _ h => px0 h) ?_
            rintro _ _ ⟨rfl, rfl⟩
            refine V_st (st' := [.int (mf_fee σ (el σ a i).toInt32.toNatClampNeg), .long (mf_feeS σ a i), .ref mo]) rfl ?_
            refine V_i2l (v := (mf_fee σ (el σ a i).toInt32.toNatClampNeg).toInt64) C dX20_fees_67 rfl ?_
            refine V_ladd C dX20_fees_68 ?_
            refine M_putl C hM26 hF26 f_X20_218_9 mF_18 dX20_fees_69 (fun M_3 hM_4 hF_5 => ?_)
            refine V_iinc (v := nI (i + 1)) C dX20_fees_72 (k := 2) rfl (nI_add i 1) (Nat.le_of_ble_eq_true rfl) [(0, .ref mo), (1, .int (nI a)), (2, .int (nI (i + 1))), (3, .int ((el σ a i).toInt32))] [1, 2, 0, 3] rfl ?_
            refine V_goto (tgt := 26) C dX20_fees_75 (by decide) ?_
            refine V_loc (L' := [(0, .ref mo), (1, .int (nI a)), (2, .int (nI (i + 1)))]) [0, 1, 2] rfl ?_
            exact ih26 (i + 1) _ (by omega) (by omega) (MH.cg hM_4 (by rw [sa_sa]; rw [show mf_feeS σ a (i + 1) = mf_feeS σ a i + (if (el σ a i).toInt32 < 0 then 0 else (mf_fee σ (el σ a i).toInt32.toNatClampNeg).toInt64) from rfl]; first | rw [if_neg (Int32.not_lt.mpr c_55)] | rw [if_pos (Int32.not_le.mp c_55)])) hF_5
          · refine V_lconst (v := 0) C dX20_fees_58 rfl ?_
            refine V_goto (tgt := 68) C dX20_fees_59 (by decide) ?_
            refine V_ladd C dX20_fees_68 ?_
            refine M_putl C hM26 hF26 f_X20_218_9 mF_18 dX20_fees_69 (fun M_6 hM_7 hF_8 => ?_)
            refine V_iinc (v := nI (i + 1)) C dX20_fees_72 (k := 2) rfl (nI_add i 1) (Nat.le_of_ble_eq_true rfl) [(0, .ref mo), (1, .int (nI a)), (2, .int (nI (i + 1))), (3, .int ((el σ a i).toInt32))] [1, 2, 0, 3] rfl ?_
            refine V_goto (tgt := 26) C dX20_fees_75 (by decide) ?_
            refine V_loc (L' := [(0, .ref mo), (1, .int (nI a)), (2, .int (nI (i + 1)))]) [0, 1, 2] rfl ?_
            exact ih26 (i + 1) _ (by omega) (by omega) (MH.cg hM_7 (by rw [sa_sa]; rw [show mf_feeS σ a (i + 1) = mf_feeS σ a i + (if (el σ a i).toInt32 < 0 then 0 else (mf_fee σ (el σ a i).toInt32.toNatClampNeg).toInt64) from rfl]; first | rw [if_neg (Int32.not_lt.mpr c_55)] | rw [if_pos (Int32.not_le.mp c_55)])) hF_8
    refine V_loc (L' := [(0, .ref mo), (1, .int (nI a)), (2, .int 0)]) [0, 1, 2] rfl ?_
    exact lp_26 _ 0 _ (Nat.lt_succ_self _) (Nat.zero_le _) (MH.cg hM (rfl)) hF
  refine M_get C hM (.ref (ad 2)) f_X20_7_9 rfl dX20_fees_1 ?_
  refine V_iload_n C dX20_fees_4 rfl 1 rfl ?_
  refine M_iald C hM 2 a rfl rfl (show a < 60 from by first | omega | (have := hI.R.2; omega) | (have := hI.U.2; omega) | (have := hI.J.2; omega)) dX20_fees_5 ?_
  refine V_bipush (v := 8) C dX20_fees_6 rfl ?_
  refine V_icmp_eq (tgt := 24) C dX20_fees_8 (by decide) (fun c_8 => ?_) (fun c_8 => ?_)
  · refine V_loc (L' := [(0, .ref mo), (1, .int (nI a))]) [0, 1] rfl ?_
    exact jn_24_1 0 (by first | exact Or.inl c_8 | exact Or.inr c_19)
  · refine V_aload_n C dX20_fees_11 rfl 0 rfl ?_
    refine M_get C hM (.ref (ad 2)) f_X20_7_9 rfl dX20_fees_12 ?_
    refine V_iload_n C dX20_fees_15 rfl 1 rfl ?_
    refine M_iald C hM 2 a rfl rfl (show a < 60 from by first | omega | (have := hI.R.2; omega) | (have := hI.U.2; omega) | (have := hI.J.2; omega)) dX20_fees_16 ?_
    refine V_bipush (v := 9) C dX20_fees_17 rfl ?_
    refine V_pc (pc1 := 19) rfl ?_
    refine V_icmp_eq (tgt := 24) C dX20_fees_19 (by decide) (fun c_19 => ?_) (fun c_19 => ?_)
    · refine V_loc (L' := [(0, .ref mo), (1, .int (nI a))]) [0, 1] rfl ?_
      exact jn_24_1 0 (by first | exact Or.inl c_8 | exact Or.inr c_19)
    · refine V_iconst (v := 4) C dX20_fees_22 rfl ?_
      refine V_iret C dX20_fees_23 rfl ?_ (by first | exact Nat.le_of_ble_eq_true rfl | omega | (dsimp only; omega)) (by first | exact Nat.le_of_ble_eq_true rfl | omega | (dsimp only; omega))
      have e9 : mf_fees σ a = (4, σ) := by
        unfold mf_fees
        rw [if_pos (fun z => z.elim c_8 c_19)]
      rw [e9]; exact ⟨rfl, hM, hF⟩
set_option maxHeartbeats 1000000 in
theorem c_X20_greatest (l : Launch) (hl : l.stackTraces = false) (G : hp_G) (X : Nat → Nat) (N0 : Nat) (mo : Nat) (ad : Nat → Nat) (σ : MS) (M : hp_h) (hM : MH G mo ad σ M) (a : Nat) (hI : MI σ) (ha : a < nR σ) : HM l yX20_greatest (ws_ yX20_greatest cX20_greatest 3 (some .int)) 4 92 0 0 G X N0 [.ref mo, .int (nI a)] M (PM G mo ad M (some (.int (mf_greatest σ a).1)) (mf_greatest σ a).2) PX0 := by
  refine HM.of hl [(0, .ref mo), (1, .int (nI a))] (by decide +kernel) rfl (Nat.le_of_ble_eq_true rfl) ?_
  intro p e s m args below meth c C hname
  have hF : MFr mo ad M M := MFr.rf
  have hR6 := hI.R
  have hk_a := hI.k ha
  have hl_a := hI.l ha
  refine V_aload_n C dX20_greatest_0 rfl 0 rfl ?_
  refine M_get C hM (.ref (ad 2)) f_X20_7_9 rfl dX20_greatest_1 ?_
  refine V_iload_n C dX20_greatest_4 rfl 1 rfl ?_
  refine M_iald C hM 2 a rfl rfl (show a < 60 from by first | omega | (have := hI.R.2; omega) | (have := hI.U.2; omega) | (have := hI.J.2; omega)) dX20_greatest_5 ?_
  refine V_i2l (v := (σ.2.1 2 a).toInt64) C dX20_greatest_6 rfl ?_
  refine V_lconst (v := 1) C dX20_greatest_7 rfl ?_
  refine V_ldc2 (v := 7) C (C.w q1763) dX20_greatest_8 ?_
  refine V_callS C (c_X20_in l hl G X N0 M ((σ.2.1 2 a).toInt64) 1 7) cs_X20_123 rfl rfl ⟨Nat.le_of_ble_eq_true rfl, Nat.le_of_ble_eq_true rfl⟩ ⟨(by first | exact Nat.le_of_ble_eq_true rfl | omega | (dsimp only; omega)), (by first | exact Nat.le_of_ble_eq_true rfl | omega | (dsimp only; omega))⟩ (Nat.le_of_ble_eq_true rfl) dX20_greatest_11 (fun _ _ _ h => px0 h) ?_
  rintro _ _ ⟨rfl, rfl⟩
  refine V_st (st' := [.int (bI (1 ≤ ((σ.2.1 2 a).toInt64) ∧ ((σ.2.1 2 a).toInt64) ≤ 7))]) rfl ?_
  refine V_if_ne (tgt := 19) C dX20_greatest_14 (by decide) (fun c_14 => ?_) (fun c_14 => ?_)
  · refine V_aload_n C dX20_greatest_19 rfl 0 rfl ?_
    refine M_get C hM (.ref (ad 3)) f_X20_13_9 rfl dX20_greatest_20 ?_
    refine V_pc (pc1 := 23) rfl ?_
    refine V_iload_n C dX20_greatest_23 rfl 1 rfl ?_
    refine M_iald C hM 3 a rfl rfl (show a < 60 from by first | omega | (have := hI.R.2; omega) | (have := hI.U.2; omega) | (have := hI.J.2; omega)) dX20_greatest_24 ?_
    refine V_st (st' := [.int (nI (ln σ a))]) (by rw [show (σ.2.1 3 a) = (nI (ln σ a)) from hl_a.1]) ?_
    refine V_if_ne (tgt := 30) C dX20_greatest_25 (by decide) (fun c_25 => ?_) (fun c_25 => ?_)
    · have h1 : 1 ≤ ln σ a := by rcases Nat.eq_zero_or_pos (ln σ a) with z | z; (exact absurd (show nI (ln σ a) = 0 from by rw [z]; rfl) c_25); exact z
      refine V_aload_n C dX20_greatest_30 rfl 0 rfl ?_
      refine V_aload_n C dX20_greatest_31 rfl 0 rfl ?_
      refine M_get C hM (.ref (ad 4)) f_X20_16_9 rfl dX20_greatest_32 ?_
      refine V_bipush (v := 40) C dX20_greatest_35 rfl ?_
      refine V_iload_n C dX20_greatest_37 rfl 1 rfl ?_
      refine V_imul C dX20_greatest_38 ?_
      refine V_st (st' := [.int (nI (40 * a)), .ref (ad 4), .ref mo]) (by rw [show (40 * (nI a)) = (nI (40 * a)) from pk_mul 40 a]) ?_
      refine M_lald C hM 4 (40 * a + 0) rfl (congrArg nI (by omega)) (show 40 * a + 0 < 2400 from by omega) dX20_greatest_39 ?_
      refine V_st (st' := [.long (el σ a 0), .ref mo]) (by rw [show (σ.2.2.1 4 (40 * a + 0)) = (el σ a 0) from rfl]) ?_
      refine M_putl C hM hF f_X20_218_9 mF_18 dX20_greatest_40 (fun M_1 hM_2 hF_3 => ?_)
      refine V_iconst (v := 1) C dX20_greatest_43 rfl ?_
      refine V_pc (pc1 := 44) rfl ?_
      refine V_istore_n C dX20_greatest_44 rfl (Nat.le_of_ble_eq_true rfl) [(0, .ref mo), (1, .int (nI a)), (2, .int 1)] [1, 2, 0] rfl ?_
      have lp_45 : ∀ (fu9 : Nat) (i : Nat) (M45 : hp_h), ln σ a - i < fu9 → (i ≤ ln σ a) → (1 ≤ i) → MH G mo ad (sa σ (el σ a (mf_great σ a i))) M45 → MFr mo ad M M45 → V p l e { frames := 4, cells := 0, slots := 0, locals := 92 } s m args below meth c G N0 3 (QV below G N0 (PM G mo ad M (some (.int (mf_greatest σ a).1)) (mf_greatest σ a).2) PX0 args s (0) (0)) (0) (0) M45 45 [(0, .ref mo), (1, .int (nI a)), (2, .int (nI i))] [] := by
        intro fu9
        induction fu9 with
        | zero => intro i M45 hfu9; exact absurd hfu9 (Nat.not_lt_zero _)
        | succ fu9 ih45 =>
          intro i M45 hfu9 hi h1 hM45 hF45
          refine V_iload_n C dX20_greatest_45 rfl 2 rfl ?_
          refine V_aload_n C dX20_greatest_46 rfl 0 rfl ?_
          refine M_get C hM45 (.ref (ad 3)) f_X20_13_9 rfl dX20_greatest_47 ?_
          refine V_iload_n C dX20_greatest_50 rfl 1 rfl ?_
          refine M_iald C hM45 3 a rfl rfl (show a < 60 from by first | omega | (have := hI.R.2; omega) | (have := hI.U.2; omega) | (have := hI.J.2; omega)) dX20_greatest_51 ?_
          refine V_st (st' := [.int (σ.2.1 3 a), .int (nI i)]) rfl ?_
          refine V_st (st' := [.int (nI (ln σ a)), .int (nI i)]) (by rw [show (σ.2.1 3 a) = (nI (ln σ a)) from hl_a.1]) ?_
          refine V_icmp_ge (tgt := 110) C dX20_greatest_52 (by decide) (fun c_52 => ?_) (fun c_52 => ?_)
          · refine V_iconst (v := 0) C dX20_greatest_110 rfl ?_
            refine V_iret C dX20_greatest_111 rfl ?_ (by first | exact Nat.le_of_ble_eq_true rfl | omega | (dsimp only; omega)) (by first | exact Nat.le_of_ble_eq_true rfl | omega | (dsimp only; omega))
            have hiE : i = ln σ a := by have := (nI_leI (by omega) (by omega)).mp c_52; omega
            have e9 : mf_greatest σ a = (0, (sa σ (el σ a (mf_great σ a i)))) := by
              unfold mf_greatest
              rw [if_neg (fun z => z (bI_n.mp c_14)), if_neg (by omega), hiE]
            rw [e9]; exact ⟨rfl, hM45, hF45⟩
          · have hlt : i < ln σ a := nI_ltN c_52 (by omega) (by omega)
            refine V_aload_n C dX20_greatest_55 rfl 0 rfl ?_
            refine V_aload_n C dX20_greatest_56 rfl 0 rfl ?_
            refine M_get C hM45 (.ref (ad 2)) f_X20_7_9 rfl dX20_greatest_57 ?_
            refine V_iload_n C dX20_greatest_60 rfl 1 rfl ?_
            refine M_iald C hM45 2 a rfl rfl (show a < 60 from by first | omega | (have := hI.R.2; omega) | (have := hI.U.2; omega) | (have := hI.J.2; omega)) dX20_greatest_61 ?_
            refine V_st (st' := [.int (σ.2.1 2 a), .ref mo]) rfl ?_
            refine V_pc (pc1 := 62) rfl ?_
            refine V_aload_n C dX20_greatest_62 rfl 0 rfl ?_
            refine M_get C hM45 (.ref (ad 4)) f_X20_16_9 rfl dX20_greatest_63 ?_
            refine V_bipush (v := 40) C dX20_greatest_66 rfl ?_
            refine V_iload_n C dX20_greatest_68 rfl 1 rfl ?_
            refine V_imul C dX20_greatest_69 ?_
            refine V_st (st' := [.int (nI (40 * a)), .ref (ad 4), .int (σ.2.1 2 a), .ref mo]) (by rw [show (40 * (nI a)) = (nI (40 * a)) from pk_mul 40 a]) ?_
            refine V_iload_n C dX20_greatest_70 rfl 2 rfl ?_
            refine V_iadd C dX20_greatest_71 ?_
            refine V_st (st' := [.int (nI ((40 * a) + i)), .ref (ad 4), .int (σ.2.1 2 a), .ref mo]) (by rw [show ((nI (40 * a)) + (nI i)) = (nI ((40 * a) + i)) from nI_add (40 * a) i]) ?_
            refine M_lald C hM45 4 (40 * a + i) rfl rfl (show 40 * a + i < 2400 from by omega) dX20_greatest_72 ?_
            refine V_st (st' := [.long (σ.2.2.1 4 (40 * a + i)), .int (σ.2.1 2 a), .ref mo]) rfl ?_
            refine V_st (st' := [.long (el σ a i), .int (σ.2.1 2 a), .ref mo]) (by rw [show (σ.2.2.1 4 (40 * a + i)) = (el σ a i) from rfl]) ?_
            refine V_aload_n C dX20_greatest_73 rfl 0 rfl ?_
            refine M_get C hM45 (.long (el σ a (mf_great σ a i))) f_X20_218_9 rfl dX20_greatest_74 ?_
            refine V_callS C (c_X20_order l hl G X N0 M45 (σ.2.1 2 a) (el σ a i) (el σ a (mf_great σ a i))) cs_X20_228 rfl rfl ⟨Nat.le_of_ble_eq_true rfl, Nat.le_of_ble_eq_true rfl⟩ ⟨(by first | exact Nat.le_of_ble_eq_true rfl | omega | (dsimp only; omega)), (by first | exact Nat.le_of_ble_eq_true rfl | omega | (dsimp only; omega))⟩ (Nat.le_of_ble_eq_true rfl) dX20_greatest_77 (fun _ _ _ h => px0 h) ?_
            rintro _ _ ⟨rfl, rfl⟩
            refine V_st (st' := [.int (mf_order (σ.2.1 2 a) (el σ a i) (el σ a (mf_great σ a i))), .ref mo]) rfl ?_
            refine V_if_le (tgt := 97) C dX20_greatest_80 (by decide) (fun c_80 => ?_) (fun c_80 => ?_)
            · refine V_pc (pc1 := 97) rfl ?_
              refine V_aload_n C dX20_greatest_97 rfl 0 rfl ?_
              refine M_get C hM45 (.long (el σ a (mf_great σ a i))) f_X20_218_9 rfl dX20_greatest_98 ?_
              refine M_putl C hM45 hF45 f_X20_218_9 mF_18 dX20_greatest_101 (fun M_5 hM_6 hF_7 => ?_)
              refine V_iinc (v := nI (i + 1)) C dX20_greatest_104 (k := 2) rfl (nI_add i 1) (Nat.le_of_ble_eq_true rfl) [(0, .ref mo), (1, .int (nI a)), (2, .int (nI (i + 1)))] [1, 2, 0] rfl ?_
              refine V_goto (tgt := 45) C dX20_greatest_107 (by decide) ?_
              exact ih45 (i + 1) _ (by omega) (by omega) (by omega) (MH.cg hM_6 (by rw [sa_sa]; congr 1; rw [show mf_great σ a (i + 1) = if 0 < mf_order (σ.2.1 2 a) (el σ a i) (el σ a (mf_great σ a i)) then i else mf_great σ a i from by obtain ⟨j, rfl⟩ : ∃ j, i = j + 1 := ⟨i - 1, by omega⟩; rfl]; first | rw [if_neg (Int32.not_lt.mpr c_80)] | rw [if_pos (Int32.not_le.mp c_80)])) hF_7
            · refine V_pc (pc1 := 83) rfl ?_
              refine V_aload_n C dX20_greatest_83 rfl 0 rfl ?_
              refine M_get C hM45 (.ref (ad 4)) f_X20_16_9 rfl dX20_greatest_84 ?_
              refine V_bipush (v := 40) C dX20_greatest_87 rfl ?_
              refine V_iload_n C dX20_greatest_89 rfl 1 rfl ?_
              refine V_imul C dX20_greatest_90 ?_
              refine V_st (st' := [.int (nI (40 * a)), .ref (ad 4), .ref mo]) (by rw [show (40 * (nI a)) = (nI (40 * a)) from pk_mul 40 a]) ?_
              refine V_iload_n C dX20_greatest_91 rfl 2 rfl ?_
              refine V_iadd C dX20_greatest_92 ?_
              refine V_st (st' := [.int (nI ((40 * a) + i)), .ref (ad 4), .ref mo]) (by rw [show ((nI (40 * a)) + (nI i)) = (nI ((40 * a) + i)) from nI_add (40 * a) i]) ?_
              refine M_lald C hM45 4 (40 * a + i) rfl rfl (show 40 * a + i < 2400 from by omega) dX20_greatest_93 ?_
              refine V_st (st' := [.long (σ.2.2.1 4 (40 * a + i)), .ref mo]) rfl ?_
              refine V_st (st' := [.long (el σ a i), .ref mo]) (by rw [show (σ.2.2.1 4 (40 * a + i)) = (el σ a i) from rfl]) ?_
              refine V_goto (tgt := 101) C dX20_greatest_94 (by decide) ?_
              refine M_putl C hM45 hF45 f_X20_218_9 mF_18 dX20_greatest_101 (fun M_8 hM_9 hF_10 => ?_)
              refine V_iinc (v := nI (i + 1)) C dX20_greatest_104 (k := 2) rfl (nI_add i 1) (Nat.le_of_ble_eq_true rfl) [(0, .ref mo), (1, .int (nI a)), (2, .int (nI (i + 1)))] [1, 2, 0] rfl ?_
              refine V_goto (tgt := 45) C dX20_greatest_107 (by decide) ?_
              exact ih45 (i + 1) _ (by omega) (by omega) (by omega) (MH.cg hM_9 (by rw [sa_sa]; congr 1; rw [show mf_great σ a (i + 1) = if 0 < mf_order (σ.2.1 2 a) (el σ a i) (el σ a (mf_great σ a i)) then i else mf_great σ a i from by obtain ⟨j, rfl⟩ : ∃ j, i = j + 1 := ⟨i - 1, by omega⟩; rfl]; first | rw [if_neg (Int32.not_lt.mpr c_80)] | rw [if_pos (Int32.not_le.mp c_80)])) hF_10
      refine V_loc (L' := [(0, .ref mo), (1, .int (nI a)), (2, .int 1)]) [0, 1, 2] rfl ?_
      exact lp_45 _ 1 _ (Nat.lt_succ_self _) (by omega) (Nat.le_refl 1) (MH.cg hM_2 (by rfl)) hF_3
    · refine V_iconst (v := 2) C dX20_greatest_28 rfl ?_
      refine V_iret C dX20_greatest_29 rfl ?_ (by first | exact Nat.le_of_ble_eq_true rfl | omega | (dsimp only; omega)) (by first | exact Nat.le_of_ble_eq_true rfl | omega | (dsimp only; omega))
      have h0 : ln σ a = 0 := (nI_eq (b := 0) (by omega) (by omega)).mp c_25
      have e9 : mf_greatest σ a = (2, σ) := by
        unfold mf_greatest
        rw [if_neg (fun z => z (bI_n.mp c_14)), if_pos h0]
      rw [e9]; exact ⟨rfl, hM, hF⟩
  · refine V_iconst (v := 4) C dX20_greatest_17 rfl ?_
    refine V_iret C dX20_greatest_18 rfl ?_ (by first | exact Nat.le_of_ble_eq_true rfl | omega | (dsimp only; omega)) (by first | exact Nat.le_of_ble_eq_true rfl | omega | (dsimp only; omega))
    have e9 : mf_greatest σ a = (4, σ) := by
      unfold mf_greatest
      rw [if_pos (bI_0.mp c_14)]
    rw [e9]; exact ⟨rfl, hM, hF⟩
set_option maxHeartbeats 1000000 in
theorem c_X20_sum (l : Launch) (hl : l.stackTraces = false) (G : hp_G) (X : Nat → Nat) (N0 : Nat) (mo : Nat) (ad : Nat → Nat) (σ : MS) (M : hp_h) (hM : MH G mo ad σ M) (a : Nat) (hI : MI σ) (ha : a < nR σ) : HM l yX20_sum (ws_ yX20_sum cX20_sum 11 (some .int)) 3 65 0 0 G X N0 [.ref mo, .int (nI a)] M (PM G mo ad M (some (.int (mf_sum σ a).1)) (mf_sum σ a).2) PX0 := by
  refine HM.of hl [(0, .ref mo), (1, .int (nI a))] (by decide +kernel) rfl (Nat.le_of_ble_eq_true rfl) ?_
  intro p e s m args below meth c C hname
  have hF : MFr mo ad M M := MFr.rf
  have hR6 := hI.R
  have hk_a := hI.k ha
  have hl_a := hI.l ha
  refine V_aload_n C dX20_sum_0 rfl 0 rfl ?_
  refine M_get C hM (.ref (ad 2)) f_X20_7_9 rfl dX20_sum_1 ?_
  refine V_iload_n C dX20_sum_4 rfl 1 rfl ?_
  refine M_iald C hM 2 a rfl rfl (show a < 60 from by first | omega | (have := hI.R.2; omega) | (have := hI.U.2; omega) | (have := hI.J.2; omega)) dX20_sum_5 ?_
  refine V_istore_n C dX20_sum_6 rfl (Nat.le_of_ble_eq_true rfl) [(0, .ref mo), (1, .int (nI a)), (2, .int (σ.2.1 2 a))] [1, 2, 0] rfl ?_
  refine V_lconst (v := 0) C dX20_sum_7 rfl ?_
  refine V_lstore_n C dX20_sum_8 rfl (Nat.le_of_ble_eq_true rfl) [(0, .ref mo), (1, .int (nI a)), (2, .int (σ.2.1 2 a)), (3, .long 0)] [1, 2, 3, 0] rfl ?_
  refine V_dconst0 C dX20_sum_9 ?_
  refine V_dstore C dX20_sum_10 (Nat.le_of_ble_eq_true rfl) [(0, .ref mo), (1, .int (nI a)), (2, .int (σ.2.1 2 a)), (3, .long 0), (5, .double FP.dconst0)] [1, 2, 3, 4, 0] rfl ?_
  refine V_iconst (v := 0) C dX20_sum_12 rfl ?_
  refine V_istore C dX20_sum_13 (Nat.le_of_ble_eq_true rfl) [(0, .ref mo), (1, .int (nI a)), (2, .int (σ.2.1 2 a)), (3, .long 0), (5, .double FP.dconst0), (7, .int 0)] [1, 2, 3, 4, 5, 0] rfl ?_
  have lp_15 : ∀ (fu9 : Nat) (i : Nat) (W : Int64) (D : UInt64), ln σ a - i < fu9 → (i ≤ ln σ a) → ((W, D) = mf_sumN σ a i) → V p l e { frames := 3, cells := 0, slots := 0, locals := 65 } s m args below meth c G N0 11 (QV below G N0 (PM G mo ad M (some (.int (mf_sum σ a).1)) (mf_sum σ a).2) PX0 args s (0) (0)) (0) (0) M 15 [(0, .ref mo), (1, .int (nI a)), (2, .int (σ.2.1 2 a)), (3, .long W), (5, .double D), (7, .int (nI i))] [] := by
    intro fu9
    induction fu9 with
    | zero => intro i W D  hfu9; exact absurd hfu9 (Nat.not_lt_zero _)
    | succ fu9 ih15 =>
      intro i W D  hfu9 hi hw
      refine V_pc (pc1 := 15) rfl ?_
      refine V_iload C dX20_sum_15 5 rfl ?_
      refine V_aload_n C dX20_sum_17 rfl 0 rfl ?_
      refine M_get C hM (.ref (ad 3)) f_X20_13_9 rfl dX20_sum_18 ?_
      refine V_iload_n C dX20_sum_21 rfl 1 rfl ?_
      refine M_iald C hM 3 a rfl rfl (show a < 60 from by first | omega | (have := hI.R.2; omega) | (have := hI.U.2; omega) | (have := hI.J.2; omega)) dX20_sum_22 ?_
      refine V_st (st' := [.int (nI (ln σ a)), .int (nI i)]) (by rw [show (σ.2.1 3 a) = (nI (ln σ a)) from hl_a.1]) ?_
      refine V_icmp_ge (tgt := 183) C dX20_sum_23 (by decide) (fun c_23 => ?_) (fun c_23 => ?_)
      · refine V_aload_n C dX20_sum_183 rfl 0 rfl ?_
        refine V_iload_n C dX20_sum_184 rfl 2 rfl ?_
        refine V_bipush (v := 6) C dX20_sum_185 rfl ?_
        refine V_icmp_eq (tgt := 196) C dX20_sum_187 (by decide) (fun c_187 => ?_) (fun c_187 => ?_)
        · refine V_dload C dX20_sum_196 4 rfl ?_
          refine V_callS C (c_X20_doubleBits l hl G X N0 M D) cs_X20_151 rfl rfl ⟨Nat.le_of_ble_eq_true rfl, Nat.le_of_ble_eq_true rfl⟩ ⟨(by first | exact Nat.le_of_ble_eq_true rfl | omega | (dsimp only; omega)), (by first | exact Nat.le_of_ble_eq_true rfl | omega | (dsimp only; omega))⟩ (Nat.le_of_ble_eq_true rfl) dX20_sum_198 (fun _ _ _ h => px0 h) ?_
          rintro _ _ ⟨rfl, rfl⟩
          refine V_st (st' := [.long (mdB D), .ref mo]) rfl ?_
          refine V_pc (pc1 := 201) rfl ?_
          refine V_goto (tgt := 205) C dX20_sum_201 (by decide) ?_
          refine M_putl C hM hF f_X20_218_9 mF_18 dX20_sum_205 (fun M_2 hM_3 hF_4 => ?_)
          refine V_iconst (v := 0) C dX20_sum_208 rfl ?_
          refine V_iret C dX20_sum_209 rfl ?_ (by first | exact Nat.le_of_ble_eq_true rfl | omega | (dsimp only; omega)) (by first | exact Nat.le_of_ble_eq_true rfl | omega | (dsimp only; omega))
          have hiE : i = ln σ a := by have := (nI_leI (by omega) (by omega)).mp c_23; omega
          have e9 : mf_sum σ a = (0, (sa σ (mdB D))) := by
            unfold mf_sum
            rw [← hiE, ← hw]
            rw [if_pos (by first | exact Or.inl c_187 | exact Or.inr c_193)]
          rw [e9]; exact ⟨rfl, hM_3, hF_4⟩
        · refine V_iload_n C dX20_sum_190 rfl 2 rfl ?_
          refine V_bipush (v := 7) C dX20_sum_191 rfl ?_
          refine V_pc (pc1 := 193) rfl ?_
          refine V_icmp_ne (tgt := 204) C dX20_sum_193 (by decide) (fun c_193 => ?_) (fun c_193 => ?_)
          · refine V_lload_n C dX20_sum_204 rfl 3 rfl ?_
            refine M_putl C hM hF f_X20_218_9 mF_18 dX20_sum_205 (fun M_5 hM_6 hF_7 => ?_)
            refine V_iconst (v := 0) C dX20_sum_208 rfl ?_
            refine V_iret C dX20_sum_209 rfl ?_ (by first | exact Nat.le_of_ble_eq_true rfl | omega | (dsimp only; omega)) (by first | exact Nat.le_of_ble_eq_true rfl | omega | (dsimp only; omega))
            have hiE : i = ln σ a := by have := (nI_leI (by omega) (by omega)).mp c_23; omega
            have e9 : mf_sum σ a = (0, (sa σ W)) := by
              unfold mf_sum
              rw [← hiE, ← hw]
              rw [if_neg (fun z => z.elim c_187 c_193)]
            rw [e9]; exact ⟨rfl, hM_6, hF_7⟩
          · refine V_dload C dX20_sum_196 4 rfl ?_
            refine V_callS C (c_X20_doubleBits l hl G X N0 M D) cs_X20_151 rfl rfl ⟨Nat.le_of_ble_eq_true rfl, Nat.le_of_ble_eq_true rfl⟩ ⟨(by first | exact Nat.le_of_ble_eq_true rfl | omega | (dsimp only; omega)), (by first | exact Nat.le_of_ble_eq_true rfl | omega | (dsimp only; omega))⟩ (Nat.le_of_ble_eq_true rfl) dX20_sum_198 (fun _ _ _ h => px0 h) ?_
            rintro _ _ ⟨rfl, rfl⟩
            refine V_st (st' := [.long (mdB D), .ref mo]) rfl ?_
            refine V_goto (tgt := 205) C dX20_sum_201 (by decide) ?_
            refine M_putl C hM hF f_X20_218_9 mF_18 dX20_sum_205 (fun M_8 hM_9 hF_10 => ?_)
            refine V_iconst (v := 0) C dX20_sum_208 rfl ?_
            refine V_iret C dX20_sum_209 rfl ?_ (by first | exact Nat.le_of_ble_eq_true rfl | omega | (dsimp only; omega)) (by first | exact Nat.le_of_ble_eq_true rfl | omega | (dsimp only; omega))
            have hiE : i = ln σ a := by have := (nI_leI (by omega) (by omega)).mp c_23; omega
            have e9 : mf_sum σ a = (0, (sa σ (mdB D))) := by
              unfold mf_sum
              rw [← hiE, ← hw]
              rw [if_pos (by first | exact Or.inl c_187 | exact Or.inr c_193)]
            rw [e9]; exact ⟨rfl, hM_9, hF_10⟩
      · have hlt : i < ln σ a := nI_ltN c_23 (by omega) (by omega)
        refine V_aload_n C dX20_sum_26 rfl 0 rfl ?_
        refine M_get C hM (.ref (ad 4)) f_X20_16_9 rfl dX20_sum_27 ?_
        refine V_bipush (v := 40) C dX20_sum_30 rfl ?_
        refine V_iload_n C dX20_sum_32 rfl 1 rfl ?_
        refine V_imul C dX20_sum_33 ?_
        refine V_st (st' := [.int (nI (40 * a)), .ref (ad 4)]) (by rw [show (40 * (nI a)) = (nI (40 * a)) from pk_mul 40 a]) ?_
        refine V_iload C dX20_sum_34 5 rfl ?_
        refine V_pc (pc1 := 36) rfl ?_
        refine V_iadd C dX20_sum_36 ?_
        refine V_st (st' := [.int (nI ((40 * a) + i)), .ref (ad 4)]) (by rw [show ((nI (40 * a)) + (nI i)) = (nI ((40 * a) + i)) from nI_add (40 * a) i]) ?_
        refine M_lald C hM 4 (40 * a + i) rfl rfl (show 40 * a + i < 2400 from by omega) dX20_sum_37 ?_
        refine V_st (st' := [.long (el σ a i)]) (by rw [show (σ.2.2.1 4 (40 * a + i)) = (el σ a i) from rfl]) ?_
        refine V_lstore C dX20_sum_38 (Nat.le_of_ble_eq_true rfl) [(0, .ref mo), (1, .int (nI a)), (2, .int (σ.2.1 2 a)), (3, .long W), (5, .double D), (7, .int (nI i)), (8, .long (el σ a i))] [1, 2, 3, 4, 5, 6, 0] rfl ?_
        have jn_177_11 : ∀ (W2 : Int64) (D2 : UInt64), (W2, D2) = mf_sum1 σ (σ.2.1 2 a) (W, D) (el σ a i) → V p l e { frames := 3, cells := 0, slots := 0, locals := 65 } s m args below meth c G N0 11 (QV below G N0 (PM G mo ad M (some (.int (mf_sum σ a).1)) (mf_sum σ a).2) PX0 args s (0) (0)) (0) (0) M 177 [(0, .ref mo), (1, .int (nI a)), (2, .int (σ.2.1 2 a)), (3, .long W2), (5, .double D2), (7, .int (nI i))] [] := by
          intro W2 D2 hjn_177_11
          refine V_iinc (v := nI (i + 1)) C dX20_sum_177 (k := 5) rfl (nI_add i 1) (Nat.le_of_ble_eq_true rfl) [(0, .ref mo), (1, .int (nI a)), (2, .int (σ.2.1 2 a)), (3, .long W2), (5, .double D2), (7, .int (nI (i + 1)))] [1, 2, 3, 4, 5, 0] rfl ?_
          refine V_goto (tgt := 15) C dX20_sum_180 (by decide) ?_
          exact ih15 (i + 1) W2 D2  (by omega) (by omega) (by rw [hjn_177_11]; unfold mf_sumN; rw [← hw])
        refine V_iload_n C dX20_sum_40 rfl 2 rfl ?_
        refine V_bipush (v := 6) C dX20_sum_41 rfl ?_
        refine V_icmp_ne (tgt := 64) C dX20_sum_43 (by decide) (fun c_43 => ?_) (fun c_43 => ?_)
        · refine V_iload_n C dX20_sum_64 rfl 2 rfl ?_
          refine V_bipush (v := 7) C dX20_sum_65 rfl ?_
          refine V_icmp_ne (tgt := 85) C dX20_sum_67 (by decide) (fun c_67 => ?_) (fun c_67 => ?_)
          · refine V_iload_n C dX20_sum_85 rfl 2 rfl ?_
            refine V_bipush (v := 6) C dX20_sum_86 rfl ?_
            refine V_icmp_ge (tgt := 99) C dX20_sum_88 (by decide) (fun c_88 => ?_) (fun c_88 => ?_)
            · refine V_pc (pc1 := 99) rfl ?_
              refine V_iload_n C dX20_sum_99 rfl 2 rfl ?_
              refine V_bipush (v := 10) C dX20_sum_100 rfl ?_
              refine V_icmp_ge (tgt := 130) C dX20_sum_102 (by decide) (fun c_102 => ?_) (fun c_102 => ?_)
              · refine V_iconst (v := 0) C dX20_sum_130 rfl ?_
                refine V_istore C dX20_sum_131 (Nat.le_of_ble_eq_true rfl) [(0, .ref mo), (1, .int (nI a)), (2, .int (σ.2.1 2 a)), (3, .long W), (5, .double D), (7, .int (nI i)), (8, .long (el σ a i)), (10, .int 0)] [1, 2, 3, 4, 5, 6, 7, 0] rfl ?_
                have hk10 : σ.2.1 2 a = 10 := by
                  have h9 := c_102
                  rw [hk_a.1] at h9 ⊢
                  have g9 : 10 ≤ kd σ a := (nI_leI (a := 10) (by omega) (by omega)).mp h9
                  rw [show kd σ a = 10 by omega]; rfl
                rcases el_ej hI ha hlt hk10 with hm1 | ⟨x, hx, ex⟩
                · refine V_lload C dX20_sum_133 6 rfl ?_
                  refine V_lconst (v := 0) C dX20_sum_135 rfl ?_
                  refine V_lcmp C dX20_sum_136 ?_
                  refine V_if_lt (tgt := 177) C dX20_sum_137 (by decide) (fun c_137 => ?_) (fun c_137 => ?_)
                  · refine V_loc (L' := [(0, .ref mo), (1, .int (nI a)), (2, .int (σ.2.1 2 a)), (3, .long W), (5, .double D), (7, .int (nI i))]) [0, 1, 2, 3, 4, 5] rfl ?_
                    exact jn_177_11 W D (by unfold mf_sum1; rw [if_neg c_43]; rw [if_neg c_67]; rw [if_neg (Int32.not_lt.mpr c_88)]; rw [if_neg (Int32.not_lt.mpr c_102)]; rw [if_pos (by simp only [lg_cmp_lt, lg_cmp_gt, lg_cmp_ge, lg_cmp_le, lg_cmp_eq] at c_137; exact c_137)])
                  · exact absurd (show lg_cmp (el σ a i) 0 < 0 from by rw [hm1]; decide) c_137
                · have hx8 := hI.il hx
                  have hx0 : ¬ el σ a i < 0 := by rw [ex]; exact lN_nneg (by have := hI.J.2; omega)
                  have hJ6 := hI.J
                  have exi : (el σ a i).toInt32 = nI x := by rw [ex]; exact lN_i x
                  have exc : (el σ a i).toInt32.toNatClampNeg = x := by rw [exi]; exact nI_clamp (by omega)
                  have lp_133 : ∀ (fu9 : Nat) (j : Nat) (W3 : Int64), iln σ x - j < fu9 → (j ≤ iln σ x) → (W3 = mf_sumI σ x W j) → V p l e { frames := 3, cells := 0, slots := 0, locals := 65 } s m args below meth c G N0 11 (QV below G N0 (PM G mo ad M (some (.int (mf_sum σ a).1)) (mf_sum σ a).2) PX0 args s (0) (0)) (0) (0) M 133 [(0, .ref mo), (1, .int (nI a)), (2, .int (σ.2.1 2 a)), (3, .long W3), (5, .double D), (7, .int (nI i)), (8, .long (el σ a i)), (10, .int (nI j))] [] := by
                    intro fu9
                    induction fu9 with
                    | zero => intro j W3  hfu9; exact absurd hfu9 (Nat.not_lt_zero _)
                    | succ fu9 ih133 =>
                      intro j W3  hfu9 hj8 hj
                      refine V_lload C dX20_sum_133 6 rfl ?_
                      refine V_lconst (v := 0) C dX20_sum_135 rfl ?_
                      refine V_lcmp C dX20_sum_136 ?_
                      refine V_if_lt (tgt := 177) C dX20_sum_137 (by decide) (fun c_137_2 => ?_) (fun c_137_2 => ?_)
                      · exact absurd (by simp only [lg_cmp_lt, lg_cmp_gt, lg_cmp_ge, lg_cmp_le, lg_cmp_eq] at c_137_2; exact c_137_2) hx0
                      · refine V_iload C dX20_sum_140 7 rfl ?_
                        refine V_aload_n C dX20_sum_142 rfl 0 rfl ?_
                        refine M_get C hM (.ref (ad 9)) f_X20_26_9 rfl dX20_sum_143 ?_
                        refine V_pc (pc1 := 146) rfl ?_
                        refine V_lload C dX20_sum_146 6 rfl ?_
                        refine V_l2i (v := (el σ a i).toInt32) C dX20_sum_148 rfl ?_
                        refine V_st (st' := [.int (nI x), .ref (ad 9), .int (nI j)]) (by rw [show ((el σ a i).toInt32) = (nI x) from exi]) ?_
                        refine M_iald C hM 9 x rfl rfl (show x < 8000 from by omega) dX20_sum_149 ?_
                        refine V_st (st' := [.int (nI (iln σ x)), .int (nI j)]) (by rw [show (σ.2.1 9 x) = (nI (iln σ x)) from hx8.1]) ?_
                        refine V_icmp_ge (tgt := 177) C dX20_sum_150 (by decide) (fun c_150 => ?_) (fun c_150 => ?_)
                        · refine V_loc (L' := [(0, .ref mo), (1, .int (nI a)), (2, .int (σ.2.1 2 a)), (3, .long W3), (5, .double D), (7, .int (nI i))]) [0, 1, 2, 3, 4, 5] rfl ?_
                          exact jn_177_11 W3 D (by unfold mf_sum1; rw [if_neg c_43]; rw [if_neg c_67]; rw [if_neg (Int32.not_lt.mpr c_88)]; rw [if_neg (Int32.not_lt.mpr c_102)]; rw [show j = iln σ x by have := (nI_leI (by omega) (by omega)).mp c_150; omega] at hj; rw [if_neg hx0, exc]; show _ = (mf_sumI σ x W (iln σ x), D); rw [hj])
                        · have hjl : j < iln σ x := nI_ltN c_150 (by omega) (by omega)
                          refine V_lload_n C dX20_sum_153 rfl 3 rfl ?_
                          refine V_aload_n C dX20_sum_154 rfl 0 rfl ?_
                          refine M_get C hM (.ref (ad 10)) f_X20_30_9 rfl dX20_sum_155 ?_
                          refine V_bipush (v := 40) C dX20_sum_158 rfl ?_
                          refine V_lload C dX20_sum_160 6 rfl ?_
                          refine V_l2i (v := (el σ a i).toInt32) C dX20_sum_162 rfl ?_
                          refine V_st (st' := [.int (nI x), .int 40, .ref (ad 10), .long W3]) (by rw [show ((el σ a i).toInt32) = (nI x) from exi]) ?_
                          refine V_imul C dX20_sum_163 ?_
                          refine V_st (st' := [.int (nI (40 * x)), .ref (ad 10), .long W3]) (by rw [show (40 * (nI x)) = (nI (40 * x)) from pk_mul 40 x]) ?_
                          refine V_iload C dX20_sum_164 7 rfl ?_
                          refine V_pc (pc1 := 166) rfl ?_
                          refine V_iadd C dX20_sum_166 ?_
                          refine V_st (st' := [.int (nI ((40 * x) + j)), .ref (ad 10), .long W3]) (by rw [show ((nI (40 * x)) + (nI j)) = (nI ((40 * x) + j)) from nI_add (40 * x) j]) ?_
                          refine M_iald C hM 10 (40 * x + j) rfl rfl (show 40 * x + j < 320000 from by omega) dX20_sum_167 ?_
                          refine V_i2l (v := (σ.2.1 10 (40 * x + j)).toInt64) C dX20_sum_168 rfl ?_
                          refine V_ladd C dX20_sum_169 ?_
                          refine V_lstore_n C dX20_sum_170 rfl (Nat.le_of_ble_eq_true rfl) [(0, .ref mo), (1, .int (nI a)), (2, .int (σ.2.1 2 a)), (3, .long (W3 + ((σ.2.1 10 (40 * x + j)).toInt64))), (5, .double D), (7, .int (nI i)), (8, .long (el σ a i)), (10, .int (nI j))] [1, 2, 3, 0, 4, 5, 6, 7] rfl ?_
                          refine V_iinc (v := nI (j + 1)) C dX20_sum_171 (k := 7) rfl (nI_add j 1) (Nat.le_of_ble_eq_true rfl) [(0, .ref mo), (1, .int (nI a)), (2, .int (σ.2.1 2 a)), (3, .long (W3 + ((σ.2.1 10 (40 * x + j)).toInt64))), (5, .double D), (7, .int (nI i)), (8, .long (el σ a i)), (10, .int (nI (j + 1)))] [1, 2, 3, 4, 5, 6, 7, 0] rfl ?_
                          refine V_goto (tgt := 133) C dX20_sum_174 (by decide) ?_
                          exact ih133 (j + 1) (W3 + ((σ.2.1 10 (40 * x + j)).toInt64))  (by omega) (by omega) (by rw [hj]; rfl)
                  refine V_loc (L' := [(0, .ref mo), (1, .int (nI a)), (2, .int (σ.2.1 2 a)), (3, .long W), (5, .double D), (7, .int (nI i)), (8, .long (el σ a i)), (10, .int 0)]) [0, 1, 2, 3, 4, 5, 6, 7] rfl ?_
                  exact lp_133 _ 0 W  (Nat.lt_succ_self _) (Nat.zero_le _) rfl
              · refine V_lload_n C dX20_sum_105 rfl 3 rfl ?_
                refine V_lload C dX20_sum_106 6 rfl ?_
                refine V_lconst (v := 0) C dX20_sum_108 rfl ?_
                refine V_lcmp C dX20_sum_109 ?_
                refine V_if_ge (tgt := 117) C dX20_sum_110 (by decide) (fun c_110 => ?_) (fun c_110 => ?_)
                · have hk89 : σ.2.1 2 a = 8 ∨ σ.2.1 2 a = 9 := by
                    have h6 := c_88
                    have h9 := c_102
                    have h67 := c_67
                    rw [hk_a.1] at h6 h9 h67 ⊢
                    have g6 : 6 ≤ kd σ a := (nI_leI (a := 6) (by omega) (by omega)).mp h6
                    have g9 : kd σ a < 10 := nI_ltN (b := 10) h9 (by omega) (by omega)
                    have g7 : kd σ a ≠ 7 := fun z => h67 (by rw [z]; rfl)
                    have g8 : kd σ a ≠ 6 := fun z => c_43 (hk_a.1.trans (by rw [z]; rfl))
                    rcases (by omega : kd σ a = 8 ∨ kd σ a = 9) with z | z
                    · exact Or.inl (by rw [z]; rfl)
                    · exact Or.inr (by rw [z]; rfl)
                  have hu : (el σ a i).toInt32 = nI (el σ a i).toInt32.toNatClampNeg ∧ (el σ a i).toInt32.toNatClampNeg < 30 := by
                    rcases isCard_el hI ha hlt hk89 with z | ⟨u, hu, z⟩
                    · simp only [lg_cmp_lt, lg_cmp_gt, lg_cmp_ge, lg_cmp_le, lg_cmp_eq] at c_110
                      exact absurd c_110 (by rw [z]; decide)
                    · rw [z, lN_i, nI_clamp (by omega)]; exact ⟨rfl, hu⟩
                  refine V_aload_n C dX20_sum_117 rfl 0 rfl ?_
                  refine V_lload C dX20_sum_118 6 rfl ?_
                  refine V_l2i (v := (el σ a i).toInt32) C dX20_sum_120 rfl ?_
                  refine V_callV C (hu.1.symm ▸ c_X20_worthOf l hl G X N0 mo ad σ M hM (el σ a i).toInt32.toNatClampNeg hu.2) cs_X20_191_9 hM.1 (show CLS[9]? = some (RX20, TX20, 33) from rfl) rfl rfl ⟨Nat.le_of_ble_eq_true rfl, Nat.le_of_ble_eq_true rfl⟩ ⟨(by first | exact Nat.le_of_ble_eq_true rfl | omega | (dsimp only; omega)), (by first | exact Nat.le_of_ble_eq_true rfl | omega | (dsimp only; omega))⟩ (Nat.le_of_ble_eq_true rfl) dX20_sum_121 (fun _ _ _ h => px0 h) ?_
                  rintro _ _ ⟨rfl, rfl⟩
                  refine V_st (st' := [.int (mf_worth σ (el σ a i).toInt32.toNatClampNeg), .long W]) rfl ?_
                  refine V_pc (pc1 := 124) rfl ?_
                  refine V_i2l (v := (mf_worth σ (el σ a i).toInt32.toNatClampNeg).toInt64) C dX20_sum_124 rfl ?_
                  refine V_ladd C dX20_sum_125 ?_
                  refine V_lstore_n C dX20_sum_126 rfl (Nat.le_of_ble_eq_true rfl) [(0, .ref mo), (1, .int (nI a)), (2, .int (σ.2.1 2 a)), (3, .long (W + ((mf_worth σ (el σ a i).toInt32.toNatClampNeg).toInt64))), (5, .double D), (7, .int (nI i)), (8, .long (el σ a i))] [1, 2, 3, 0, 4, 5, 6] rfl ?_
                  refine V_goto (tgt := 177) C dX20_sum_127 (by decide) ?_
                  refine V_loc (L' := [(0, .ref mo), (1, .int (nI a)), (2, .int (σ.2.1 2 a)), (3, .long (W + ((mf_worth σ (el σ a i).toInt32.toNatClampNeg).toInt64))), (5, .double D), (7, .int (nI i))]) [0, 1, 2, 3, 4, 5] rfl ?_
                  exact jn_177_11 (W + ((mf_worth σ (el σ a i).toInt32.toNatClampNeg).toInt64)) D (by unfold mf_sum1; rw [if_neg c_43]; rw [if_neg c_67]; rw [if_neg (Int32.not_lt.mpr c_88)]; rw [if_pos (Int32.not_le.mp c_102)]; simp only [lg_cmp_lt, lg_cmp_gt, lg_cmp_ge, lg_cmp_le, lg_cmp_eq] at c_110; first | rw [if_neg (Int64.not_lt.mpr c_110)] | rw [if_pos (Int64.not_le.mp c_110)])
                · refine V_lconst (v := 0) C dX20_sum_113 rfl ?_
                  refine V_goto (tgt := 125) C dX20_sum_114 (by decide) ?_
                  refine V_ladd C dX20_sum_125 ?_
                  refine V_lstore_n C dX20_sum_126 rfl (Nat.le_of_ble_eq_true rfl) [(0, .ref mo), (1, .int (nI a)), (2, .int (σ.2.1 2 a)), (3, .long (W + 0)), (5, .double D), (7, .int (nI i)), (8, .long (el σ a i))] [1, 2, 3, 0, 4, 5, 6] rfl ?_
                  refine V_pc (pc1 := 127) rfl ?_
                  refine V_goto (tgt := 177) C dX20_sum_127 (by decide) ?_
                  refine V_loc (L' := [(0, .ref mo), (1, .int (nI a)), (2, .int (σ.2.1 2 a)), (3, .long (W + 0)), (5, .double D), (7, .int (nI i))]) [0, 1, 2, 3, 4, 5] rfl ?_
                  exact jn_177_11 (W + 0) D (by unfold mf_sum1; rw [if_neg c_43]; rw [if_neg c_67]; rw [if_neg (Int32.not_lt.mpr c_88)]; rw [if_pos (Int32.not_le.mp c_102)]; simp only [lg_cmp_lt, lg_cmp_gt, lg_cmp_ge, lg_cmp_le, lg_cmp_eq] at c_110; first | rw [if_neg (Int64.not_lt.mpr c_110)] | rw [if_pos (Int64.not_le.mp c_110)])
            · refine V_pc (pc1 := 91) rfl ?_
              refine V_lload_n C dX20_sum_91 rfl 3 rfl ?_
              refine V_lload C dX20_sum_92 6 rfl ?_
              refine V_ladd C dX20_sum_94 ?_
              refine V_lstore_n C dX20_sum_95 rfl (Nat.le_of_ble_eq_true rfl) [(0, .ref mo), (1, .int (nI a)), (2, .int (σ.2.1 2 a)), (3, .long (W + (el σ a i))), (5, .double D), (7, .int (nI i)), (8, .long (el σ a i))] [1, 2, 3, 0, 4, 5, 6] rfl ?_
              refine V_goto (tgt := 177) C dX20_sum_96 (by decide) ?_
              refine V_loc (L' := [(0, .ref mo), (1, .int (nI a)), (2, .int (σ.2.1 2 a)), (3, .long (W + (el σ a i))), (5, .double D), (7, .int (nI i))]) [0, 1, 2, 3, 4, 5] rfl ?_
              exact jn_177_11 (W + (el σ a i)) D (by unfold mf_sum1; rw [if_neg c_43]; rw [if_neg c_67]; rw [if_pos (Int32.not_le.mp c_88)])
          · refine V_dload C dX20_sum_70 4 rfl ?_
            refine V_lload C dX20_sum_72 6 rfl ?_
            refine V_callS C (c_X20_realOfBits l hl G X N0 M (el σ a i)) cs_X20_148 rfl rfl ⟨Nat.le_of_ble_eq_true rfl, Nat.le_of_ble_eq_true rfl⟩ ⟨(by first | exact Nat.le_of_ble_eq_true rfl | omega | (dsimp only; omega)), (by first | exact Nat.le_of_ble_eq_true rfl | omega | (dsimp only; omega))⟩ (Nat.le_of_ble_eq_true rfl) dX20_sum_74 (fun _ _ _ h => px0 h) ?_
            rintro _ _ ⟨rfl, rfl⟩
            refine V_st (st' := [.double (mdO (el σ a i)), .double D]) rfl ?_
            refine V_pc (pc1 := 77) rfl ?_
            refine V_callS C (c_X20_plus l hl G X N0 M D (mdO (el σ a i))) cs_X20_248 rfl rfl ⟨Nat.le_of_ble_eq_true rfl, Nat.le_of_ble_eq_true rfl⟩ ⟨(by first | exact Nat.le_of_ble_eq_true rfl | omega | (dsimp only; omega)), (by first | exact Nat.le_of_ble_eq_true rfl | omega | (dsimp only; omega))⟩ (Nat.le_of_ble_eq_true rfl) dX20_sum_77 (fun _ _ _ h => px0 h) ?_
            rintro _ _ ⟨rfl, rfl⟩
            refine V_st (st' := [.double (mPlus D (mdO (el σ a i)))]) rfl ?_
            refine V_dstore C dX20_sum_80 (Nat.le_of_ble_eq_true rfl) [(0, .ref mo), (1, .int (nI a)), (2, .int (σ.2.1 2 a)), (3, .long W), (5, .double (mPlus D (mdO (el σ a i)))), (7, .int (nI i)), (8, .long (el σ a i))] [1, 2, 3, 4, 0, 5, 6] rfl ?_
            refine V_goto (tgt := 177) C dX20_sum_82 (by decide) ?_
            refine V_loc (L' := [(0, .ref mo), (1, .int (nI a)), (2, .int (σ.2.1 2 a)), (3, .long W), (5, .double (mPlus D (mdO (el σ a i)))), (7, .int (nI i))]) [0, 1, 2, 3, 4, 5] rfl ?_
            exact jn_177_11 W (mPlus D (mdO (el σ a i))) (by unfold mf_sum1; rw [if_neg c_43]; rw [if_pos c_67])
        · refine V_dload C dX20_sum_46 4 rfl ?_
          refine V_lload C dX20_sum_48 6 rfl ?_
          refine V_callS C (c_X20_floatOf l hl G X N0 M (el σ a i)) cs_X20_140 rfl rfl ⟨Nat.le_of_ble_eq_true rfl, Nat.le_of_ble_eq_true rfl⟩ ⟨(by first | exact Nat.le_of_ble_eq_true rfl | omega | (dsimp only; omega)), (by first | exact Nat.le_of_ble_eq_true rfl | omega | (dsimp only; omega))⟩ (Nat.le_of_ble_eq_true rfl) dX20_sum_50 (fun _ _ _ h => px0 h) ?_
          rintro _ _ ⟨rfl, rfl⟩
          refine V_st (st' := [.float (mfO (el σ a i).toInt32), .double D]) rfl ?_
          refine V_callS C (c_X20_wide l hl G X N0 M (mfO (el σ a i).toInt32)) cs_X20_244 rfl rfl ⟨Nat.le_of_ble_eq_true rfl, Nat.le_of_ble_eq_true rfl⟩ ⟨(by first | exact Nat.le_of_ble_eq_true rfl | omega | (dsimp only; omega)), (by first | exact Nat.le_of_ble_eq_true rfl | omega | (dsimp only; omega))⟩ (Nat.le_of_ble_eq_true rfl) dX20_sum_53 (fun _ _ _ h => px0 h) ?_
          rintro _ _ ⟨rfl, rfl⟩
          refine V_st (st' := [.double (mWide (mfO (el σ a i).toInt32)), .double D]) rfl ?_
          refine V_callS C (c_X20_plus l hl G X N0 M D (mWide (mfO (el σ a i).toInt32))) cs_X20_248 rfl rfl ⟨Nat.le_of_ble_eq_true rfl, Nat.le_of_ble_eq_true rfl⟩ ⟨(by first | exact Nat.le_of_ble_eq_true rfl | omega | (dsimp only; omega)), (by first | exact Nat.le_of_ble_eq_true rfl | omega | (dsimp only; omega))⟩ (Nat.le_of_ble_eq_true rfl) dX20_sum_56 (fun _ _ _ h => px0 h) ?_
          rintro _ _ ⟨rfl, rfl⟩
          refine V_st (st' := [.double (mPlus D (mWide (mfO (el σ a i).toInt32)))]) rfl ?_
          refine V_dstore C dX20_sum_59 (Nat.le_of_ble_eq_true rfl) [(0, .ref mo), (1, .int (nI a)), (2, .int (σ.2.1 2 a)), (3, .long W), (5, .double (mPlus D (mWide (mfO (el σ a i).toInt32)))), (7, .int (nI i)), (8, .long (el σ a i))] [1, 2, 3, 4, 0, 5, 6] rfl ?_
          refine V_pc (pc1 := 61) rfl ?_
          refine V_goto (tgt := 177) C dX20_sum_61 (by decide) ?_
          refine V_loc (L' := [(0, .ref mo), (1, .int (nI a)), (2, .int (σ.2.1 2 a)), (3, .long W), (5, .double (mPlus D (mWide (mfO (el σ a i).toInt32)))), (7, .int (nI i))]) [0, 1, 2, 3, 4, 5] rfl ?_
          exact jn_177_11 W (mPlus D (mWide (mfO (el σ a i).toInt32))) (by unfold mf_sum1; rw [if_pos c_43])
  refine V_loc (L' := [(0, .ref mo), (1, .int (nI a)), (2, .int (σ.2.1 2 a)), (3, .long 0), (5, .double FP.dconst0), (7, .int 0)]) [0, 1, 2, 3, 4, 5] rfl ?_
  exact lp_15 _ 0 0 FP.dconst0  (Nat.lt_succ_self _) (Nat.zero_le _) rfl
