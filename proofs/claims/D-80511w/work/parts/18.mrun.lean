set_option maxRecDepth 100000
/-- σ' is σ but for rows' kinds, lengths, elements, what was held, rows of ints, the answer -/
def Kp (σ σ' : MS) : Prop := (∀ k, k ≠ 1 → k ≠ 8 → σ'.1 k = σ.1 k) ∧ (∀ k, k ≠ 2 → k ≠ 3 → k ≠ 9 → k ≠ 10 → σ'.2.1 k = σ.2.1 k) ∧ (∀ k, k ≠ 4 → k ≠ 19 → σ'.2.2.1 k = σ.2.2.1 k)
theorem Kp.rf {σ : MS} : Kp σ σ := ⟨fun _ _ _ => rfl, fun _ _ _ _ _ => rfl, fun _ _ _ => rfl⟩
theorem Kp.sa {σ τ : MS} {v : Int64} (h : Kp σ τ) : Kp σ (sa τ v) := h
theorem Kp.sl {σ τ : MS} {j : Nat} {f : Nat → Int64} (hj : j = 4 ∨ j = 19) (h : Kp σ τ) : Kp σ (sl τ j f) := by
  refine ⟨h.1, h.2.1, fun k h1 h2 => ?_⟩
  rw [← h.2.2 k h1 h2]
  show va_up τ.2.2.1 j f k = _
  unfold va_up
  rw [if_neg (by omega)]
theorem Kp.si {σ τ : MS} {j : Nat} {f : Nat → Int32} (hj : j = 2 ∨ j = 3 ∨ j = 9 ∨ j = 10) (h : Kp σ τ) : Kp σ (si τ j f) := by
  refine ⟨h.1, fun k h1 h2 h3 h4 => ?_, h.2.2⟩
  rw [← h.2.1 k h1 h2 h3 h4]
  show va_up τ.2.1 j f k = _
  unfold va_up
  rw [if_neg (by omega)]
theorem Kp.sz {σ τ : MS} {j : Nat} {v : Int32} (hj : j = 1 ∨ j = 8) (h : Kp σ τ) : Kp σ (sz τ j v) := by
  refine ⟨fun k h1 h2 => ?_, h.2.1, h.2.2⟩
  rw [← h.1 k h1 h2]
  show va_up τ.1 j v k = _
  unfold va_up
  rw [if_neg (by omega)]
theorem Kp.newRow {σ τ : MS} {R N : Nat} {k : Int32} (h : Kp σ τ) : Kp σ (mf_newRow R N k τ) := Kp.sz (by decide) (Kp.sl (by decide) (Kp.si (by decide) (Kp.si (by decide) h)))
theorem Kp.asE {σ τ : MS} {b : Int64} {k : Int32} (h : Kp σ τ) : Kp σ (mf_asE k b τ).2 := by
  unfold mf_asE
  repeat' split
  all_goals first | exact h | exact Kp.sz (by decide) (Kp.si (by decide) (Kp.si (by decide) h))
theorem Kp.copy {σ τ : MS} {a b : Nat} {i j n : Int32} (h : Kp σ τ) : Kp σ (mf_copy τ a i b j n).2 := by
  unfold mf_copy mf_copyA mf_hold
  repeat' split
  all_goals first | exact h | exact Kp.sl (by decide) (Kp.sl (by decide) h)
theorem Kp.copyRow {σ τ : MS} {a : Nat} (h : Kp σ τ) : Kp σ (mf_copyRow τ a).2 := by
  unfold mf_copyRow
  split
  · exact h
  · exact Kp.sa (Kp.sl (by decide) (Kp.newRow h))
theorem Kp.fill {σ τ : MS} {a : Nat} {i j n : Int32} (h : Kp σ τ) : Kp σ (mf_fill τ a i j n).2 := by
  unfold mf_fill mf_fillA mf_fillV
  split
  · exact h
  split
  · exact h
  split
  · exact h
  refine Kp.sl (by decide) ?_
  split
  · exact Kp.asE h
  · exact h
theorem Kp.turn {σ τ : MS} {a : Nat} {i n : Int32} (h : Kp σ τ) : Kp σ (mf_turn τ a i n).2 := by
  unfold mf_turn mf_turnA mf_hold
  split
  · exact h
  · exact Kp.sl (by decide) (Kp.sl (by decide) h)
theorem Kp.sort {σ τ : MS} {a : Nat} {i n : Int32} (h : Kp σ τ) : Kp σ (mf_sort τ a i n).2 := by
  unfold mf_sort mf_sortA
  split
  · exact h
  split
  · exact h
  · exact Kp.sl (by decide) h
theorem Kp.done {σ : MS} {x0 : Nat} {a i b j n : Int32} : Kp σ (mf_done σ x0 a i b j n).2 := by
  have h0 := Kp.sa (v := 0) (Kp.rf (σ := σ))
  unfold mf_done
  split
  · exact Kp.copy h0
  split
  · exact Kp.copyRow h0
  split
  · exact Kp.fill h0
  split
  · exact Kp.sa h0
  split
  · unfold mf_orderRows; split
    · exact h0
    · exact Kp.sa h0
  split
  · exact Kp.sa h0
  split
  · unfold mf_greatest; split
    · exact h0
    split
    · exact h0
    · exact Kp.sa h0
  split
  · exact Kp.turn h0
  split
  · exact Kp.sort h0
  split
  · unfold mf_findIn mf_findA; split
    · exact h0
    split
    · exact h0
    · exact Kp.sa h0
  split
  · unfold mf_fees; split
    · exact h0
    · exact Kp.sa h0
  exact h0
def mf_pay (c : Nat) (pr : Int32) (σ : MS) : MS := sz (sz (sz (sz (si σ 24 (va_up (σ.2.1 24) c (σ.2.1 24 c - pr))) 13 (σ.1 13 + pr)) 28 (σ.1 28 + pr)) 11 (σ.1 11 + 1)) 29 (σ.1 29 + 1)
def mf_ret (c : Nat) (σ : MS) : MS :=
  if c = 0 then sz σ 20 (nI 0) else mf_end (c - 1) 0 (si (sz σ 20 (nI c)) 24 (va_up (σ.2.1 24) (c - 1) (σ.2.1 24 (c - 1) - (σ.2.1 23 c - σ.2.1 24 c))))
def mf_fuel (n w : Int32) : Int32 := if n < 0 then 0 else if w < n then w else n
def mf_doAct (c : Nat) (σ : MS) (x0 : Nat) (a i b j n : Int32) : Int32 × MS :=
  if x0 = 10 then (if c = 5 then (7, σ) else (0, mf_enter (c + 1) a (mf_fuel n (σ.2.1 24 c)) σ)) else if (mf_done σ x0 a i b j n).1 = 0 then (0, mf_end c (mf_done σ x0 a i b j n).2.2.2.2 (mf_done σ x0 a i b j n).2) else mf_done σ x0 a i b j n
abbrev mf_prc (σ : MS) (c : Nat) : Int32 := mf_priceOf σ (mf_act σ c 0) (mf_act σ c 1) (mf_act σ c 3) (mf_act σ c 5)
def mf_step (c : Nat) (σ : MS) : Int32 × MS :=
  if σ.2.1 22 c = σ.2.1 16 (σ.2.1 21 c).toNatClampNeg then (0, mf_ret c σ) else if ¬ mf_hasRows σ (mf_act σ c 0) (mf_act σ c 1) (mf_act σ c 3) then (1, σ) else if σ.2.1 24 c < mf_prc σ c then (8, σ)
  else mf_doAct c (mf_pay c (mf_prc σ c) σ) (mf_act σ c 0).toNatClampNeg (mf_act σ c 1) (mf_act σ c 2) (mf_act σ c 3) (mf_act σ c 4) (mf_act σ c 5)
set_option maxHeartbeats 1000000 in
theorem c_X20_step (l : Launch) (hl : l.stackTraces = false) (G : hp_G) (X : Nat → Nat) (N0 : Nat) (mo : Nat) (ad : Nat → Nat) (σ : MS) (M : hp_h) (hM : MH G mo ad σ M) (c0 : Nat) (hI : MI σ) (hK : MK (c0 + 1) σ) (hJ8 : nJ σ < 8000) : HM l yX20_step (ws_ yX20_step cX20_step 9 (some .int)) 10 426 0 0 G X N0 [.ref mo] M (PM G mo ad M (some (.int (mf_step c0 σ).1)) (mf_step c0 σ).2) PX0 := by
  refine HM.of hl [(0, .ref mo)] (by decide +kernel) rfl (Nat.le_of_ble_eq_true rfl) ?_
  intro p e s m args below meth c C hname
  have hF : MFr mo ad M M := MFr.rf
  obtain ⟨⟨P0, hP0, eP, A0, hA0, eA, -⟩, R0, hR0, eR⟩ := hK.2 c0 (by omega)
  have hC6 := hK.1.2
  have hps := hI.p hP0
  refine V_aload_n C dX20_step_0 rfl 0 rfl ?_
  refine M_get C hM (.int (nI (c0 + 1))) f_X20_287_9 (congrArg (fun z => some (Value.int z)) hK.1.1) dX20_step_1 ?_
  refine V_iconst (v := 1) C dX20_step_4 rfl ?_
  refine V_isub C dX20_step_5 ?_
  refine V_st (st' := [.int (nI c0)]) (by rw [show ((nI (c0 + 1)) - 1) = (nI c0) from nI_pred c0]) ?_
  refine V_istore_n C dX20_step_6 rfl (Nat.le_of_ble_eq_true rfl) [(0, .ref mo), (1, .int (nI c0))] [1, 0] rfl ?_
  refine V_aload_n C dX20_step_7 rfl 0 rfl ?_
  refine M_get C hM (.ref (ad 22)) f_X20_45_9 rfl dX20_step_8 ?_
  refine V_iload_n C dX20_step_11 rfl 1 rfl ?_
  refine M_iald C hM 22 c0 rfl rfl (show c0 < 7 from by omega) dX20_step_12 ?_
  refine V_st (st' := [.int (nI A0)]) (by rw [show (σ.2.1 22 c0) = (nI A0) from eA]) ?_
  refine V_aload_n C dX20_step_13 rfl 0 rfl ?_
  refine M_get C hM (.ref (ad 16)) f_X20_33_9 rfl dX20_step_14 ?_
  refine V_pc (pc1 := 17) rfl ?_
  refine V_aload_n C dX20_step_17 rfl 0 rfl ?_
  refine M_get C hM (.ref (ad 21)) f_X20_42_9 rfl dX20_step_18 ?_
  refine V_iload_n C dX20_step_21 rfl 1 rfl ?_
  refine M_iald C hM 21 c0 rfl rfl (show c0 < 7 from by omega) dX20_step_22 ?_
  refine V_st (st' := [.int (nI P0), .ref (ad 16), .int (nI A0)]) (by rw [show (σ.2.1 21 c0) = (nI P0) from eP]) ?_
  refine M_iald C hM 16 P0 rfl rfl (show P0 < 6 from hP0) dX20_step_23 ?_
  refine V_st (st' := [.int (nI (psz σ P0)), .int (nI A0)]) (by rw [show (σ.2.1 16 P0) = (nI (psz σ P0)) from hps.1]) ?_
  refine V_icmp_ne (tgt := 77) C dX20_step_24 (by decide) (fun c_24 => ?_) (fun c_24 => ?_)
  · have hlt : A0 < psz σ P0 := by rcases Nat.lt_or_ge A0 (psz σ P0) with z | z; (exact z); exact absurd (show nI A0 = nI (psz σ P0) by rw [show A0 = psz σ P0 by omega]) c_24
    have hA12 : A0 < 12 := by omega
    obtain ⟨h0, hh, eh0, hcal⟩ := hI.a hP0 hlt
    have eh : mf_act σ c0 0 = nI h0 := by unfold mf_act; rw [eP, eA, nI_clamp (by omega), nI_clamp (by omega)]; exact eh0
    have hne : ¬ σ.2.1 22 c0 = σ.2.1 16 (σ.2.1 21 c0).toNatClampNeg := by rw [eP, nI_clamp (by omega), eA, hps.1]; exact c_24
    refine V_aload_n C dX20_step_77 rfl 0 rfl ?_
    refine V_iload_n C dX20_step_78 rfl 1 rfl ?_
    refine V_iconst (v := 0) C dX20_step_79 rfl ?_
    refine V_callV C (c_X20_actOf l hl G X N0 mo ad σ M hM c0 0 P0 A0 (by omega) (by omega) hP0 hA12 eP eA) cs_X20_294_9 hM.1 (show CLS[9]? = some (RX20, TX20, 33) from rfl) rfl rfl ⟨Nat.le_of_ble_eq_true rfl, Nat.le_of_ble_eq_true rfl⟩ ⟨(by first | exact Nat.le_of_ble_eq_true rfl | omega | (dsimp only; omega)), (by first | exact Nat.le_of_ble_eq_true rfl | omega | (dsimp only; omega))⟩ (Nat.le_of_ble_eq_true rfl) dX20_step_80 (fun _ _ _ h => px0 h) ?_
    rintro _ _ ⟨rfl, rfl⟩
    refine V_st (st' := [.int (mf_act σ c0 0)]) rfl ?_
    refine V_st (st' := [.int (nI h0)]) (by rw [show (mf_act σ c0 0) = (nI h0) from eh]) ?_
    refine V_istore_n C dX20_step_83 rfl (Nat.le_of_ble_eq_true rfl) [(0, .ref mo), (1, .int (nI c0)), (2, .int (nI h0))] [1, 2, 0] rfl ?_
    refine V_aload_n C dX20_step_84 rfl 0 rfl ?_
    refine V_pc (pc1 := 85) rfl ?_
    refine V_iload_n C dX20_step_85 rfl 1 rfl ?_
    refine V_iconst (v := 1) C dX20_step_86 rfl ?_
    refine V_callV C (c_X20_actOf l hl G X N0 mo ad σ M hM c0 1 P0 A0 (by omega) (by omega) hP0 hA12 eP eA) cs_X20_294_9 hM.1 (show CLS[9]? = some (RX20, TX20, 33) from rfl) rfl rfl ⟨Nat.le_of_ble_eq_true rfl, Nat.le_of_ble_eq_true rfl⟩ ⟨(by first | exact Nat.le_of_ble_eq_true rfl | omega | (dsimp only; omega)), (by first | exact Nat.le_of_ble_eq_true rfl | omega | (dsimp only; omega))⟩ (Nat.le_of_ble_eq_true rfl) dX20_step_87 (fun _ _ _ h => px0 h) ?_
    rintro _ _ ⟨rfl, rfl⟩
    refine V_st (st' := [.int (mf_act σ c0 1)]) rfl ?_
    refine V_istore_n C dX20_step_90 rfl (Nat.le_of_ble_eq_true rfl) [(0, .ref mo), (1, .int (nI c0)), (2, .int (nI h0)), (3, .int (mf_act σ c0 1))] [1, 2, 3, 0] rfl ?_
    refine V_aload_n C dX20_step_91 rfl 0 rfl ?_
    refine V_iload_n C dX20_step_92 rfl 1 rfl ?_
    refine V_iconst (v := 2) C dX20_step_93 rfl ?_
    refine V_callV C (c_X20_actOf l hl G X N0 mo ad σ M hM c0 2 P0 A0 (by omega) (by omega) hP0 hA12 eP eA) cs_X20_294_9 hM.1 (show CLS[9]? = some (RX20, TX20, 33) from rfl) rfl rfl ⟨Nat.le_of_ble_eq_true rfl, Nat.le_of_ble_eq_true rfl⟩ ⟨(by first | exact Nat.le_of_ble_eq_true rfl | omega | (dsimp only; omega)), (by first | exact Nat.le_of_ble_eq_true rfl | omega | (dsimp only; omega))⟩ (Nat.le_of_ble_eq_true rfl) dX20_step_94 (fun _ _ _ h => px0 h) ?_
    rintro _ _ ⟨rfl, rfl⟩
    refine V_st (st' := [.int (mf_act σ c0 2)]) rfl ?_
    refine V_istore C dX20_step_97 (Nat.le_of_ble_eq_true rfl) [(0, .ref mo), (1, .int (nI c0)), (2, .int (nI h0)), (3, .int (mf_act σ c0 1)), (4, .int (mf_act σ c0 2))] [1, 2, 3, 4, 0] rfl ?_
    refine V_aload_n C dX20_step_99 rfl 0 rfl ?_
    refine V_iload_n C dX20_step_100 rfl 1 rfl ?_
    refine V_iconst (v := 3) C dX20_step_101 rfl ?_
    refine V_pc (pc1 := 102) rfl ?_
    refine V_callV C (c_X20_actOf l hl G X N0 mo ad σ M hM c0 3 P0 A0 (by omega) (by omega) hP0 hA12 eP eA) cs_X20_294_9 hM.1 (show CLS[9]? = some (RX20, TX20, 33) from rfl) rfl rfl ⟨Nat.le_of_ble_eq_true rfl, Nat.le_of_ble_eq_true rfl⟩ ⟨(by first | exact Nat.le_of_ble_eq_true rfl | omega | (dsimp only; omega)), (by first | exact Nat.le_of_ble_eq_true rfl | omega | (dsimp only; omega))⟩ (Nat.le_of_ble_eq_true rfl) dX20_step_102 (fun _ _ _ h => px0 h) ?_
    rintro _ _ ⟨rfl, rfl⟩
    refine V_st (st' := [.int (mf_act σ c0 3)]) rfl ?_
    refine V_istore C dX20_step_105 (Nat.le_of_ble_eq_true rfl) [(0, .ref mo), (1, .int (nI c0)), (2, .int (nI h0)), (3, .int (mf_act σ c0 1)), (4, .int (mf_act σ c0 2)), (5, .int (mf_act σ c0 3))] [1, 2, 3, 4, 5, 0] rfl ?_
    refine V_aload_n C dX20_step_107 rfl 0 rfl ?_
    refine V_iload_n C dX20_step_108 rfl 1 rfl ?_
    refine V_iconst (v := 5) C dX20_step_109 rfl ?_
    refine V_callV C (c_X20_actOf l hl G X N0 mo ad σ M hM c0 5 P0 A0 (by omega) (by omega) hP0 hA12 eP eA) cs_X20_294_9 hM.1 (show CLS[9]? = some (RX20, TX20, 33) from rfl) rfl rfl ⟨Nat.le_of_ble_eq_true rfl, Nat.le_of_ble_eq_true rfl⟩ ⟨(by first | exact Nat.le_of_ble_eq_true rfl | omega | (dsimp only; omega)), (by first | exact Nat.le_of_ble_eq_true rfl | omega | (dsimp only; omega))⟩ (Nat.le_of_ble_eq_true rfl) dX20_step_110 (fun _ _ _ h => px0 h) ?_
    rintro _ _ ⟨rfl, rfl⟩
    refine V_st (st' := [.int (mf_act σ c0 5)]) rfl ?_
    refine V_istore C dX20_step_113 (Nat.le_of_ble_eq_true rfl) [(0, .ref mo), (1, .int (nI c0)), (2, .int (nI h0)), (3, .int (mf_act σ c0 1)), (4, .int (mf_act σ c0 2)), (5, .int (mf_act σ c0 3)), (6, .int (mf_act σ c0 5))] [1, 2, 3, 4, 5, 6, 0] rfl ?_
    refine V_aload_n C dX20_step_115 rfl 0 rfl ?_
    refine V_iload_n C dX20_step_116 rfl 2 rfl ?_
    refine V_iload_n C dX20_step_117 rfl 3 rfl ?_
    refine V_iload C dX20_step_118 5 rfl ?_
    refine V_callV C (c_X20_hasRows l hl G X N0 mo ad σ M hM (nI h0) (mf_act σ c0 1) (mf_act σ c0 3) ) cs_X20_207_9 hM.1 (show CLS[9]? = some (RX20, TX20, 33) from rfl) rfl rfl ⟨Nat.le_of_ble_eq_true rfl, Nat.le_of_ble_eq_true rfl⟩ ⟨(by first | exact Nat.le_of_ble_eq_true rfl | omega | (dsimp only; omega)), (by first | exact Nat.le_of_ble_eq_true rfl | omega | (dsimp only; omega))⟩ (Nat.le_of_ble_eq_true rfl) dX20_step_120 (fun _ _ _ h => px0 h) ?_
    rintro _ _ ⟨rfl, rfl⟩
    refine V_st (st' := [.int (bI (mf_hasRows σ (nI h0) (mf_act σ c0 1) (mf_act σ c0 3)))]) rfl ?_
    refine V_pc (pc1 := 123) rfl ?_
    refine V_if_ne (tgt := 128) C dX20_step_123 (by decide) (fun c_123 => ?_) (fun c_123 => ?_)
    · refine V_aload_n C dX20_step_128 rfl 0 rfl ?_
      refine V_iload_n C dX20_step_129 rfl 2 rfl ?_
      refine V_iload_n C dX20_step_130 rfl 3 rfl ?_
      refine V_iload C dX20_step_131 5 rfl ?_
      refine V_iload C dX20_step_133 6 rfl ?_
      refine V_callV C (c_X20_priceOf l hl G X N0 mo ad σ M hM (nI h0) (mf_act σ c0 1) (mf_act σ c0 3) (mf_act σ c0 5) hI (bI_n.mp c_123) ) cs_X20_211_9 hM.1 (show CLS[9]? = some (RX20, TX20, 33) from rfl) rfl rfl ⟨Nat.le_of_ble_eq_true rfl, Nat.le_of_ble_eq_true rfl⟩ ⟨(by first | exact Nat.le_of_ble_eq_true rfl | omega | (dsimp only; omega)), (by first | exact Nat.le_of_ble_eq_true rfl | omega | (dsimp only; omega))⟩ (Nat.le_of_ble_eq_true rfl) dX20_step_135 (fun _ _ _ h => px0 h) ?_
      rintro _ _ ⟨rfl, rfl⟩
      refine V_st (st' := [.int (mf_priceOf σ (nI h0) (mf_act σ c0 1) (mf_act σ c0 3) (mf_act σ c0 5))]) rfl ?_
      refine V_istore C dX20_step_138 (Nat.le_of_ble_eq_true rfl) [(0, .ref mo), (1, .int (nI c0)), (2, .int (nI h0)), (3, .int (mf_act σ c0 1)), (4, .int (mf_act σ c0 2)), (5, .int (mf_act σ c0 3)), (6, .int (mf_act σ c0 5)), (7, .int (mf_priceOf σ (nI h0) (mf_act σ c0 1) (mf_act σ c0 3) (mf_act σ c0 5)))] [1, 2, 3, 4, 5, 6, 7, 0] rfl ?_
      refine V_aload_n C dX20_step_140 rfl 0 rfl ?_
      refine M_get C hM (.ref (ad 24)) f_X20_51_9 rfl dX20_step_141 ?_
      refine V_iload_n C dX20_step_144 rfl 1 rfl ?_
      refine M_iald C hM 24 c0 rfl rfl (show c0 < 7 from by omega) dX20_step_145 ?_
      refine V_pc (pc1 := 146) rfl ?_
      refine V_iload C dX20_step_146 7 rfl ?_
      refine V_icmp_ge (tgt := 154) C dX20_step_148 (by decide) (fun c_148 => ?_) (fun c_148 => ?_)
      · refine V_aload_n C dX20_step_154 rfl 0 rfl ?_
        refine M_get C hM (.ref (ad 24)) f_X20_51_9 rfl dX20_step_155 ?_
        refine V_iload_n C dX20_step_158 rfl 1 rfl ?_
        refine V_dup2_11 C dX20_step_159 rfl rfl ?_
        refine M_iald C hM 24 c0 rfl rfl (show c0 < 7 from by omega) dX20_step_160 ?_
        refine V_iload C dX20_step_161 7 rfl ?_
        refine V_isub C dX20_step_163 ?_
        refine M_iast C hM hF 24 c0 rfl rfl (show c0 < 7 from by omega) dX20_step_164 (fun M_1 hM_2 hF_3 => ?_)
        refine V_aload_n C dX20_step_165 rfl 0 rfl ?_
        refine V_dup C dX20_step_166 rfl ?_
        refine V_pc (pc1 := 167) rfl ?_
        refine M_get C hM_2 (.int (σ.1 13)) f_X20_183_9 rfl dX20_step_167 ?_
        refine V_iload C dX20_step_170 7 rfl ?_
        refine V_iadd C dX20_step_172 ?_
        refine M_puti C hM_2 hF_3 f_X20_183_9 (by decide) mF_13 dX20_step_173 (fun M_4 hM_5 hF_6 => ?_)
        refine V_aload_n C dX20_step_176 rfl 0 rfl ?_
        refine V_dup C dX20_step_177 rfl ?_
        refine M_get C hM_5 (.int (σ.1 28)) f_X20_64_9 rfl dX20_step_178 ?_
        refine V_iload C dX20_step_181 7 rfl ?_
        refine V_iadd C dX20_step_183 ?_
        refine M_puti C hM_5 hF_6 f_X20_64_9 (by decide) mF_28 dX20_step_184 (fun M_7 hM_8 hF_9 => ?_)
        refine V_aload_n C dX20_step_187 rfl 0 rfl ?_
        refine V_dup C dX20_step_188 rfl ?_
        refine V_pc (pc1 := 189) rfl ?_
        refine M_get C hM_8 (.int (σ.1 11)) f_X20_177_9 rfl dX20_step_189 ?_
        refine V_iconst (v := 1) C dX20_step_192 rfl ?_
        refine V_iadd C dX20_step_193 ?_
        refine M_puti C hM_8 hF_9 f_X20_177_9 (by decide) mF_11 dX20_step_194 (fun M_10 hM_11 hF_12 => ?_)
        refine V_aload_n C dX20_step_197 rfl 0 rfl ?_
        refine V_dup C dX20_step_198 rfl ?_
        refine M_get C hM_11 (.int (σ.1 29)) f_X20_67_9 rfl dX20_step_199 ?_
        refine V_iconst (v := 1) C dX20_step_202 rfl ?_
        refine V_iadd C dX20_step_203 ?_
        refine M_puti C hM_11 hF_12 f_X20_67_9 (by decide) mF_29 dX20_step_204 (fun M_13 hM_14 hF_15 => ?_)
        obtain ⟨pr, epr⟩ : ∃ v, v = (mf_priceOf σ (nI h0) (mf_act σ c0 1) (mf_act σ c0 3) (mf_act σ c0 5)) := ⟨_, rfl⟩
        have hM_16 : MH G mo ad (mf_pay c0 pr σ) M_13 := by rw [epr]; exact hM_14
        have eprc : mf_prc σ c0 = pr := by rw [epr]; unfold mf_prc; rw [eh]
        have hstep : mf_step c0 σ = mf_doAct c0 (mf_pay c0 pr σ) h0 (mf_act σ c0 1) (mf_act σ c0 2) (mf_act σ c0 3) (mf_act σ c0 4) (mf_act σ c0 5) := by
          unfold mf_step
          rw [if_neg hne, if_neg (fun z => z (by rw [eh]; exact bI_n.mp c_123)), if_neg (by rw [eprc, epr]; exact Int32.not_lt.mpr c_148), eprc, eh, nI_clamp (by omega)]
        refine V_loc (L' := [(0, .ref mo), (1, .int (nI c0)), (2, .int (nI h0)), (3, .int (mf_act σ c0 1)), (4, .int (mf_act σ c0 2)), (5, .int (mf_act σ c0 3)), (6, .int (mf_act σ c0 5)), (7, .int pr)]) [0, 1, 2, 3, 4, 5, 6, 7] (by rw [epr]; rfl) ?_
        refine V_iload_n C dX20_step_207 rfl 2 rfl ?_
        refine V_bipush (v := 10) C dX20_step_208 rfl ?_
        refine V_pc (pc1 := 210) rfl ?_
        refine V_icmp_ne (tgt := 267) C dX20_step_210 (by decide) (fun c_210 => ?_) (fun c_210 => ?_)
        · have hn10 : h0 ≠ 10 := fun z => c_210 (by rw [z]; rfl)
          refine V_aload_n C dX20_step_267 rfl 0 rfl ?_
          refine V_iload_n C dX20_step_268 rfl 2 rfl ?_
          refine V_iload_n C dX20_step_269 rfl 3 rfl ?_
          refine V_iload C dX20_step_270 4 rfl ?_
          refine V_iload C dX20_step_272 5 rfl ?_
          refine V_aload_n C dX20_step_274 rfl 0 rfl ?_
          refine V_iload_n C dX20_step_275 rfl 1 rfl ?_
          refine V_iconst (v := 4) C dX20_step_276 rfl ?_
          refine V_callV C (c_X20_actOf l hl G X N0 mo ad (mf_pay c0 pr σ) M_13 hM_16 c0 4 P0 A0 (by omega) (by omega) hP0 hA12 eP eA) cs_X20_294_9 hM_16.1 (show CLS[9]? = some (RX20, TX20, 33) from rfl) rfl rfl ⟨Nat.le_of_ble_eq_true rfl, Nat.le_of_ble_eq_true rfl⟩ ⟨(by first | exact Nat.le_of_ble_eq_true rfl | omega | (dsimp only; omega)), (by first | exact Nat.le_of_ble_eq_true rfl | omega | (dsimp only; omega))⟩ (Nat.le_of_ble_eq_true rfl) dX20_step_277 (fun _ _ _ h => px0 h) ?_
          rintro _ _ ⟨rfl, rfl⟩
          refine V_st (st' := [.int (mf_act σ c0 4), .int (mf_act σ c0 3), .int (mf_act σ c0 2), .int (mf_act σ c0 1), .int (nI h0), .ref mo]) rfl ?_
          refine V_iload C dX20_step_280 6 rfl ?_
          refine V_callV C (c_X20_done l hl G X N0 mo ad (mf_pay c0 pr σ) M_13 hM_16 h0 hh hn10 (mf_act σ c0 1) (mf_act σ c0 2) (mf_act σ c0 3) (mf_act σ c0 4) (mf_act σ c0 5) hI (bI_n.mp c_123) hJ8) cs_X20_305_9 hM_16.1 (show CLS[9]? = some (RX20, TX20, 33) from rfl) rfl rfl ⟨Nat.le_of_ble_eq_true rfl, Nat.le_of_ble_eq_true rfl⟩ ⟨(by first | exact Nat.le_of_ble_eq_true rfl | omega | (dsimp only; omega)), (by first | exact Nat.le_of_ble_eq_true rfl | omega | (dsimp only; omega))⟩ (Nat.le_of_ble_eq_true rfl) dX20_step_282 (fun _ _ _ h => px0 h) ?_
          rintro _ M_17 ⟨rfl, hM_18, hF_19⟩
          refine V_st (st' := [.int ((mf_done (mf_pay c0 pr σ) h0 (mf_act σ c0 1) (mf_act σ c0 2) (mf_act σ c0 3) (mf_act σ c0 4) (mf_act σ c0 5)).1)]) rfl ?_
          have hF_20 := hF_15.trans hF_19
          refine V_pc (pc1 := 285) rfl ?_
          refine V_istore C dX20_step_285 (Nat.le_of_ble_eq_true rfl) [(0, .ref mo), (1, .int (nI c0)), (2, .int (nI h0)), (3, .int (mf_act σ c0 1)), (4, .int (mf_act σ c0 2)), (5, .int (mf_act σ c0 3)), (6, .int (mf_act σ c0 5)), (7, .int pr), (8, .int ((mf_done (mf_pay c0 pr σ) h0 (mf_act σ c0 1) (mf_act σ c0 2) (mf_act σ c0 3) (mf_act σ c0 4) (mf_act σ c0 5)).1))] [1, 2, 3, 4, 5, 6, 7, 8, 0] rfl ?_
          refine V_iload C dX20_step_287 8 rfl ?_
          refine V_if_ne (tgt := 300) C dX20_step_289 (by decide) (fun c_289 => ?_) (fun c_289 => ?_)
          · refine V_iload C dX20_step_300 8 rfl ?_
            refine V_iret C dX20_step_302 rfl ?_ (by first | exact Nat.le_of_ble_eq_true rfl | omega | (dsimp only; omega)) (by first | exact Nat.le_of_ble_eq_true rfl | omega | (dsimp only; omega))
            have e9 : mf_step c0 σ = (mf_done (mf_pay c0 pr σ) h0 (mf_act σ c0 1) (mf_act σ c0 2) (mf_act σ c0 3) (mf_act σ c0 4) (mf_act σ c0 5)) := by
              rw [hstep]
              unfold mf_doAct
              rw [if_neg hn10, if_neg c_289]
            rw [e9]; exact ⟨rfl, hM_18, hF_20⟩
          · have kp := Kp.done (σ := mf_pay c0 pr σ) (x0 := h0) (a := (mf_act σ c0 1)) (i := (mf_act σ c0 2)) (b := (mf_act σ c0 3)) (j := (mf_act σ c0 4)) (n := (mf_act σ c0 5))
            refine V_aload_n C dX20_step_292 rfl 0 rfl ?_
            refine V_aload_n C dX20_step_293 rfl 0 rfl ?_
            refine M_get C hM_18 (.long (((mf_done (mf_pay c0 pr σ) h0 (mf_act σ c0 1) (mf_act σ c0 2) (mf_act σ c0 3) (mf_act σ c0 4) (mf_act σ c0 5)).2).2.2.2)) f_X20_218_9 rfl dX20_step_294 ?_
            refine V_callV C (c_X20_end l hl G X N0 mo ad ((mf_done (mf_pay c0 pr σ) h0 (mf_act σ c0 1) (mf_act σ c0 2) (mf_act σ c0 3) (mf_act σ c0 4) (mf_act σ c0 5)).2) M_17 hM_18 c0 A0 (mf_done (mf_pay c0 pr σ) h0 (mf_act σ c0 1) (mf_act σ c0 2) (mf_act σ c0 3) (mf_act σ c0 4) (mf_act σ c0 5)).2.2.2.2 (by omega) ((kp.1 20 (by decide) (by decide)).trans hK.1.1) hA12 ((congrFun (kp.2.1 22 (by decide) (by decide) (by decide) (by decide)) c0).trans eA)) cs_X20_297_9 hM_18.1 (show CLS[9]? = some (RX20, TX20, 33) from rfl) rfl rfl ⟨Nat.le_of_ble_eq_true rfl, Nat.le_of_ble_eq_true rfl⟩ ⟨(by first | exact Nat.le_of_ble_eq_true rfl | omega | (dsimp only; omega)), (by first | exact Nat.le_of_ble_eq_true rfl | omega | (dsimp only; omega))⟩ (Nat.le_of_ble_eq_true rfl) dX20_step_297 (fun _ _ _ h => px0 h) ?_
            rintro _ M_21 ⟨rfl, hM_22, hF_23⟩
            refine V_st (st' := []) rfl ?_
            have hF_24 := hF_20.trans hF_23
            refine V_iload C dX20_step_300 8 rfl ?_
            refine V_iret C dX20_step_302 rfl ?_ (by first | exact Nat.le_of_ble_eq_true rfl | omega | (dsimp only; omega)) (by first | exact Nat.le_of_ble_eq_true rfl | omega | (dsimp only; omega))
            have e9 : mf_step c0 σ = (0, (mf_end c0 (mf_done (mf_pay c0 pr σ) h0 (mf_act σ c0 1) (mf_act σ c0 2) (mf_act σ c0 3) (mf_act σ c0 4) (mf_act σ c0 5)).2.2.2.2 (mf_done (mf_pay c0 pr σ) h0 (mf_act σ c0 1) (mf_act σ c0 2) (mf_act σ c0 3) (mf_act σ c0 4) (mf_act σ c0 5)).2)) := by
              rw [hstep]
              unfold mf_doAct
              rw [if_neg hn10, if_pos c_289]
            rw [e9]; exact ⟨congrArg (fun z => some (Value.int z)) c_289, hM_22, hF_24⟩
        · refine V_aload_n C dX20_step_213 rfl 0 rfl ?_
          refine M_get C hM_16 (.int (nI (c0 + 1))) f_X20_287_9 (congrArg (fun z => some (Value.int z)) hK.1.1) dX20_step_214 ?_
          refine V_bipush (v := 6) C dX20_step_217 rfl ?_
          refine V_icmp_ne (tgt := 225) C dX20_step_219 (by decide) (fun c_219 => ?_) (fun c_219 => ?_)
          · have epl : (mf_pay c0 pr σ).2.1 24 c0 = σ.2.1 24 c0 - pr := by simp [mf_pay, sz, si, va_up]
            have jn_256_25 : ∀ (x256 : Int32), x256 = mf_fuel (mf_act σ c0 5) (σ.2.1 24 c0 - pr) → V p l e { frames := 10, cells := 0, slots := 0, locals := 426 } s m args below meth c G N0 9 (QV below G N0 (PM G mo ad M (some (.int (mf_step c0 σ).1)) (mf_step c0 σ).2) PX0 args s (0) (0)) (0) (0) M_13 256 [(0, .ref mo), (1, .int (nI c0)), (2, .int (nI h0)), (3, .int (mf_act σ c0 1)), (4, .int (mf_act σ c0 2)), (5, .int (mf_act σ c0 3)), (6, .int (mf_act σ c0 5)), (7, .int pr)] [.int x256] := by
              intro x256 hjn_256_25
              refine V_istore C dX20_step_256 (Nat.le_of_ble_eq_true rfl) [(0, .ref mo), (1, .int (nI c0)), (2, .int (nI h0)), (3, .int (mf_act σ c0 1)), (4, .int (mf_act σ c0 2)), (5, .int (mf_act σ c0 3)), (6, .int (mf_act σ c0 5)), (7, .int pr), (8, .int x256)] [1, 2, 3, 4, 5, 6, 7, 8, 0] rfl ?_
              refine V_aload_n C dX20_step_258 rfl 0 rfl ?_
              refine V_iload_n C dX20_step_259 rfl 3 rfl ?_
              refine V_iload C dX20_step_260 8 rfl ?_
              refine V_callV C (c_X20_enter l hl G X N0 mo ad (mf_pay c0 pr σ) M_13 hM_16 (c0 + 1) (mf_act σ c0 1) x256 hI hK.1.1 (by have : c0 ≠ 5 := fun z => c_219 (by rw [z]; rfl); omega)) cs_X20_301_9 hM_16.1 (show CLS[9]? = some (RX20, TX20, 33) from rfl) rfl rfl ⟨Nat.le_of_ble_eq_true rfl, Nat.le_of_ble_eq_true rfl⟩ ⟨(by first | exact Nat.le_of_ble_eq_true rfl | omega | (dsimp only; omega)), (by first | exact Nat.le_of_ble_eq_true rfl | omega | (dsimp only; omega))⟩ (Nat.le_of_ble_eq_true rfl) dX20_step_262 (fun _ _ _ h => px0 h) ?_
              rintro _ M_26 ⟨rfl, hM_27, hF_28⟩
              refine V_st (st' := []) rfl ?_
              have hF_29 := hF_15.trans hF_28
              refine V_iconst (v := 0) C dX20_step_265 rfl ?_
              refine V_iret C dX20_step_266 rfl ?_ (by first | exact Nat.le_of_ble_eq_true rfl | omega | (dsimp only; omega)) (by first | exact Nat.le_of_ble_eq_true rfl | omega | (dsimp only; omega))
              have h10 : h0 = 10 := (nI_eq (b := 10) (by omega) (by omega)).mp c_210
              have e9 : mf_step c0 σ = (0, mf_enter (c0 + 1) (mf_act σ c0 1) (mf_fuel (mf_act σ c0 5) (σ.2.1 24 c0 - pr)) (mf_pay c0 pr σ)) := by
                rw [hstep]
                unfold mf_doAct
                rw [if_pos h10, if_neg (fun z => c_219 (by rw [z]; rfl)), epl]
              rw [e9]; exact ⟨rfl, by rw [← hjn_256_25]; exact hM_27, hF_29⟩
            refine V_iload C dX20_step_225 6 rfl ?_
            refine V_if_ge (tgt := 234) C dX20_step_227 (by decide) (fun c_227 => ?_) (fun c_227 => ?_)
            · refine V_iload C dX20_step_234 6 rfl ?_
              refine V_aload_n C dX20_step_236 rfl 0 rfl ?_
              refine M_get C hM_16 (.ref (ad 24)) f_X20_51_9 rfl dX20_step_237 ?_
              refine V_iload_n C dX20_step_240 rfl 1 rfl ?_
              refine M_iald C hM_16 24 c0 rfl rfl (show c0 < 7 from by omega) dX20_step_241 ?_
              refine V_st (st' := [.int (σ.2.1 24 c0 - pr), .int (mf_act σ c0 5)]) (by rw [show ((mf_pay c0 pr σ).2.1 24 c0) = (σ.2.1 24 c0 - pr) from epl]) ?_
              refine V_pc (pc1 := 242) rfl ?_
              refine V_icmp_le (tgt := 254) C dX20_step_242 (by decide) (fun c_242 => ?_) (fun c_242 => ?_)
              · refine V_iload C dX20_step_254 6 rfl ?_
                refine V_loc (L' := [(0, .ref mo), (1, .int (nI c0)), (2, .int (nI h0)), (3, .int (mf_act σ c0 1)), (4, .int (mf_act σ c0 2)), (5, .int (mf_act σ c0 3)), (6, .int (mf_act σ c0 5)), (7, .int pr)]) [0, 1, 2, 3, 4, 5, 6, 7] rfl ?_
                exact jn_256_25 (mf_act σ c0 5) (by unfold mf_fuel; grind)
              · refine V_aload_n C dX20_step_245 rfl 0 rfl ?_
                refine M_get C hM_16 (.ref (ad 24)) f_X20_51_9 rfl dX20_step_246 ?_
                refine V_iload_n C dX20_step_249 rfl 1 rfl ?_
                refine M_iald C hM_16 24 c0 rfl rfl (show c0 < 7 from by omega) dX20_step_250 ?_
                refine V_st (st' := [.int (σ.2.1 24 c0 - pr)]) (by rw [show ((mf_pay c0 pr σ).2.1 24 c0) = (σ.2.1 24 c0 - pr) from epl]) ?_
                refine V_goto (tgt := 256) C dX20_step_251 (by decide) ?_
                refine V_loc (L' := [(0, .ref mo), (1, .int (nI c0)), (2, .int (nI h0)), (3, .int (mf_act σ c0 1)), (4, .int (mf_act σ c0 2)), (5, .int (mf_act σ c0 3)), (6, .int (mf_act σ c0 5)), (7, .int pr)]) [0, 1, 2, 3, 4, 5, 6, 7] rfl ?_
                exact jn_256_25 (σ.2.1 24 c0 - pr) (by unfold mf_fuel; grind)
            · refine V_iconst (v := 0) C dX20_step_230 rfl ?_
              refine V_goto (tgt := 256) C dX20_step_231 (by decide) ?_
              refine V_loc (L' := [(0, .ref mo), (1, .int (nI c0)), (2, .int (nI h0)), (3, .int (mf_act σ c0 1)), (4, .int (mf_act σ c0 2)), (5, .int (mf_act σ c0 3)), (6, .int (mf_act σ c0 5)), (7, .int pr)]) [0, 1, 2, 3, 4, 5, 6, 7] rfl ?_
              exact jn_256_25 0 (by unfold mf_fuel; grind)
          · refine V_bipush (v := 7) C dX20_step_222 rfl ?_
            refine V_iret C dX20_step_224 rfl ?_ (by first | exact Nat.le_of_ble_eq_true rfl | omega | (dsimp only; omega)) (by first | exact Nat.le_of_ble_eq_true rfl | omega | (dsimp only; omega))
            have h10 : h0 = 10 := (nI_eq (b := 10) (by omega) (by omega)).mp c_210
            have h5 : c0 = 5 := by have := (nI_eq (a := c0 + 1) (b := 6) (by omega) (by omega)).mp c_219; omega
            have e9 : mf_step c0 σ = (7, (mf_pay c0 pr σ)) := by
              rw [hstep]
              unfold mf_doAct
              rw [if_pos h10, if_pos h5]
            rw [e9]; exact ⟨rfl, hM_16, hF_15⟩
      · refine V_bipush (v := 8) C dX20_step_151 rfl ?_
        refine V_iret C dX20_step_153 rfl ?_ (by first | exact Nat.le_of_ble_eq_true rfl | omega | (dsimp only; omega)) (by first | exact Nat.le_of_ble_eq_true rfl | omega | (dsimp only; omega))
        have e9 : mf_step c0 σ = (8, σ) := by
          unfold mf_step
          rw [if_neg hne, if_neg (fun z => z (by rw [eh]; exact bI_n.mp c_123)), if_pos (by unfold mf_prc; rw [eh]; exact Int32.not_le.mp c_148)]
        rw [e9]; exact ⟨rfl, hM, hF⟩
    · refine V_iconst (v := 1) C dX20_step_126 rfl ?_
      refine V_iret C dX20_step_127 rfl ?_ (by first | exact Nat.le_of_ble_eq_true rfl | omega | (dsimp only; omega)) (by first | exact Nat.le_of_ble_eq_true rfl | omega | (dsimp only; omega))
      have e9 : mf_step c0 σ = (1, σ) := by
        unfold mf_step
        rw [if_neg hne, if_pos (by rw [eh]; exact bI_0.mp c_123)]
      rw [e9]; exact ⟨rfl, hM, hF⟩
  · refine V_aload_n C dX20_step_27 rfl 0 rfl ?_
    refine M_get C hM (.ref (ad 23)) f_X20_48_9 rfl dX20_step_28 ?_
    refine V_iload_n C dX20_step_31 rfl 1 rfl ?_
    refine M_iald C hM 23 c0 rfl rfl (show c0 < 7 from by omega) dX20_step_32 ?_
    refine V_aload_n C dX20_step_33 rfl 0 rfl ?_
    refine M_get C hM (.ref (ad 24)) f_X20_51_9 rfl dX20_step_34 ?_
    refine V_pc (pc1 := 37) rfl ?_
    refine V_iload_n C dX20_step_37 rfl 1 rfl ?_
    refine M_iald C hM 24 c0 rfl rfl (show c0 < 7 from by omega) dX20_step_38 ?_
    refine V_isub C dX20_step_39 ?_
    refine V_istore_n C dX20_step_40 rfl (Nat.le_of_ble_eq_true rfl) [(0, .ref mo), (1, .int (nI c0)), (2, .int ((σ.2.1 23 c0) - (σ.2.1 24 c0)))] [1, 2, 0] rfl ?_
    refine V_aload_n C dX20_step_41 rfl 0 rfl ?_
    refine V_dup C dX20_step_42 rfl ?_
    refine M_get C hM (.int (nI (c0 + 1))) f_X20_287_9 (congrArg (fun z => some (Value.int z)) hK.1.1) dX20_step_43 ?_
    refine V_iconst (v := 1) C dX20_step_46 rfl ?_
    refine V_isub C dX20_step_47 ?_
    refine V_st (st' := [.int (nI c0), .ref mo]) (by rw [show ((nI (c0 + 1)) - 1) = (nI c0) from nI_pred c0]) ?_
    refine M_puti C hM hF f_X20_287_9 (by decide) mF_20 dX20_step_48 (fun M_30 hM_31 hF_32 => ?_)
    refine V_aload_n C dX20_step_51 rfl 0 rfl ?_
    refine M_get C hM_31 (.int (nI c0)) f_X20_287_9 rfl dX20_step_52 ?_
    refine V_pc (pc1 := 55) rfl ?_
    refine V_if_le (tgt := 75) C dX20_step_55 (by decide) (fun c_55 => ?_) (fun c_55 => ?_)
    · have hc0 : c0 = 0 := by rcases Nat.eq_zero_or_pos c0 with z | z; (exact z); exact absurd c_55 (nI_nle z (by omega))
      refine V_iconst (v := 0) C dX20_step_75 rfl ?_
      refine V_iret C dX20_step_76 rfl ?_ (by first | exact Nat.le_of_ble_eq_true rfl | omega | (dsimp only; omega)) (by first | exact Nat.le_of_ble_eq_true rfl | omega | (dsimp only; omega))
      have e9 : mf_step c0 σ = (0, (sz σ 20 (nI c0))) := by
        unfold mf_step
        rw [if_pos (by rw [eP, nI_clamp (by omega), eA, hps.1]; exact c_24)]
        unfold mf_ret
        rw [if_pos hc0, hc0]
      rw [e9]; exact ⟨rfl, hM_31, hF_32⟩
    · obtain ⟨c8, rfl⟩ : ∃ c8, c0 = c8 + 1 := by
        rcases c0 with _ | c8
        · exact absurd (show nI 0 ≤ 0 by decide) c_55
        · exact ⟨c8, rfl⟩
      obtain ⟨⟨P8, hP8, eP8, A8, hA8, eA8, hl8⟩, -⟩ := hK.2 c8 (by omega)
      have hps8 := hI.p hP8
      have hl9 := hl8 (by omega)
      refine V_aload_n C dX20_step_58 rfl 0 rfl ?_
      refine M_get C hM_31 (.ref (ad 24)) f_X20_51_9 rfl dX20_step_59 ?_
      refine V_iload_n C dX20_step_62 rfl 1 rfl ?_
      refine V_iconst (v := 1) C dX20_step_63 rfl ?_
      refine V_isub C dX20_step_64 ?_
      refine V_st (st' := [.int (nI c8), .ref (ad 24)]) (by rw [show ((nI (c8 + 1)) - 1) = (nI c8) from nI_pred c8]) ?_
      refine V_dup2_11 C dX20_step_65 rfl rfl ?_
      refine M_iald C hM_31 24 c8 rfl rfl (show c8 < 7 from by omega) dX20_step_66 ?_
      refine V_st (st' := [.int (σ.2.1 24 c8), .int (nI c8), .ref (ad 24)]) rfl ?_
      refine V_iload_n C dX20_step_67 rfl 2 rfl ?_
      refine V_isub C dX20_step_68 ?_
      refine M_iast C hM_31 hF_32 24 c8 rfl rfl (show c8 < 7 from by omega) dX20_step_69 (fun M_33 hM_34 hF_35 => ?_)
      refine V_aload_n C dX20_step_70 rfl 0 rfl ?_
      refine V_pc (pc1 := 71) rfl ?_
      refine V_lconst (v := 0) C dX20_step_71 rfl ?_
      refine V_callV C (c_X20_end l hl G X N0 mo ad (si (sz σ 20 (nI (c8 + 1))) 24 (va_up (σ.2.1 24) c8 ((σ.2.1 24 c8) - ((σ.2.1 23 (c8 + 1)) - (σ.2.1 24 (c8 + 1)))))) M_33 hM_34 c8 A8 0 (by omega) rfl (by omega) eA8) cs_X20_297_9 hM_34.1 (show CLS[9]? = some (RX20, TX20, 33) from rfl) rfl rfl ⟨Nat.le_of_ble_eq_true rfl, Nat.le_of_ble_eq_true rfl⟩ ⟨(by first | exact Nat.le_of_ble_eq_true rfl | omega | (dsimp only; omega)), (by first | exact Nat.le_of_ble_eq_true rfl | omega | (dsimp only; omega))⟩ (Nat.le_of_ble_eq_true rfl) dX20_step_72 (fun _ _ _ h => px0 h) ?_
      rintro _ M_36 ⟨rfl, hM_37, hF_38⟩
      refine V_st (st' := []) rfl ?_
      have hF_39 := hF_35.trans hF_38
      refine V_iconst (v := 0) C dX20_step_75 rfl ?_
      refine V_iret C dX20_step_76 rfl ?_ (by first | exact Nat.le_of_ble_eq_true rfl | omega | (dsimp only; omega)) (by first | exact Nat.le_of_ble_eq_true rfl | omega | (dsimp only; omega))
      have e9 : mf_step (c8 + 1) σ = (0, (mf_end c8 0 (si (sz σ 20 (nI (c8 + 1))) 24 (va_up (σ.2.1 24) c8 ((σ.2.1 24 c8) - ((σ.2.1 23 (c8 + 1)) - (σ.2.1 24 (c8 + 1)))))))) := by
        unfold mf_step
        rw [if_pos (by rw [eP, nI_clamp (by omega), eA, hps.1]; exact c_24)]
        unfold mf_ret
        rw [if_neg (by omega)]
        rfl
      rw [e9]; exact ⟨rfl, hM_37, hF_39⟩
/-- n rounds of the machine's loop from the state σ, with l left, end at σ' with l', all calls ended -/
def Tk : Nat → MS → Int32 → MS → Int32 → Prop
  | 0, σ, l, σ', l' => σ.1 20 = 0 ∧ σ = σ' ∧ l = l'
  | n + 1, σ, l, σ', l' => ∃ c, MI σ ∧ MK (c + 1) σ ∧ nJ σ < 8000 ∧ (((mf_step c σ).1 = 0 ∧ Tk n (mf_step c σ).2 l σ' l') ∨ (0 < (mf_step c σ).1 ∧ ∃ C, FK C (sz (mf_step c σ).2 15 ((mf_step c σ).2.1 15 + 1)) ∧ Tk n (mf_fail (mf_step c σ).1 C (sz (mf_step c σ).2 15 ((mf_step c σ).2.1 15 + 1))).2 (mf_fail (mf_step c σ).1 C (sz (mf_step c σ).2 15 ((mf_step c σ).2.1 15 + 1))).1 σ' l'))
def mf_zero (σ : MS) : MS := sz (sz (sz (sz (sz σ 28 0) 29 0) 30 0) 31 0) 20 0
def mf_begin (p f : Int32) (σ : MS) : MS := mf_enter 0 p f (mf_zero σ)
abbrev mf_runs (p f : Int32) (σ : MS) : Prop := (0 ≤ p.toInt64 ∧ p.toInt64 ≤ 5) ∧ (0 ≤ f.toInt64 ∧ f.toInt64 ≤ 5000) ∧ σ.1 11 < 6000 ∧ σ.1 15 < 800
def mf_noRun (p f : Int32) : Int32 := if ¬ (0 ≤ p.toInt64 ∧ p.toInt64 ≤ 5) then -101 else if ¬ (0 ≤ f.toInt64 ∧ f.toInt64 ≤ 5000) then -102 else -104
set_option maxHeartbeats 1000000 in
theorem c_X20_run_no (l : Launch) (hl : l.stackTraces = false) (G : hp_G) (X : Nat → Nat) (N0 : Nat) (mo : Nat) (ad : Nat → Nat) (σ : MS) (M : hp_h) (hM : MH G mo ad σ M) (p0 f0 : Int32) (hno : ¬ mf_runs p0 f0 σ) : HM l yX20_run (ws_ yX20_run cX20_run 5 (some .int)) 14 520 0 0 G X N0 [.ref mo, .int p0, .int f0] M (PM G mo ad M (some (.int (mf_noRun p0 f0))) σ) PX0 := by
  refine HM.of hl [(0, .ref mo), (1, .int p0), (2, .int f0)] (by decide +kernel) rfl (Nat.le_of_ble_eq_true rfl) ?_
  intro p e s m args below meth c C hname
  have hF : MFr mo ad M M := MFr.rf
  refine V_iload_n C dX20_run_0 rfl 1 rfl ?_
  refine V_i2l (v := p0.toInt64) C dX20_run_1 rfl ?_
  refine V_lconst (v := 0) C dX20_run_2 rfl ?_
  refine V_ldc2 (v := 5) C (C.w q1686) dX20_run_3 ?_
  refine V_callS C (c_X20_in l hl G X N0 M p0.toInt64 0 5) cs_X20_123 rfl rfl ⟨Nat.le_of_ble_eq_true rfl, Nat.le_of_ble_eq_true rfl⟩ ⟨(by first | exact Nat.le_of_ble_eq_true rfl | omega | (dsimp only; omega)), (by first | exact Nat.le_of_ble_eq_true rfl | omega | (dsimp only; omega))⟩ (Nat.le_of_ble_eq_true rfl) dX20_run_6 (fun _ _ _ h => px0 h) ?_
  rintro _ _ ⟨rfl, rfl⟩
  refine V_st (st' := [.int (bI (0 ≤ p0.toInt64 ∧ p0.toInt64 ≤ 5))]) rfl ?_
  refine V_if_ne (tgt := 15) C dX20_run_9 (by decide) (fun c_9 => ?_) (fun c_9 => ?_)
  · refine V_iload_n C dX20_run_15 rfl 2 rfl ?_
    refine V_i2l (v := f0.toInt64) C dX20_run_16 rfl ?_
    refine V_lconst (v := 0) C dX20_run_17 rfl ?_
    refine V_ldc2 (v := 5000) C (C.w q1714) dX20_run_18 ?_
    refine V_callS C (c_X20_in l hl G X N0 M f0.toInt64 0 5000) cs_X20_123 rfl rfl ⟨Nat.le_of_ble_eq_true rfl, Nat.le_of_ble_eq_true rfl⟩ ⟨(by first | exact Nat.le_of_ble_eq_true rfl | omega | (dsimp only; omega)), (by first | exact Nat.le_of_ble_eq_true rfl | omega | (dsimp only; omega))⟩ (Nat.le_of_ble_eq_true rfl) dX20_run_21 (fun _ _ _ h => px0 h) ?_
    rintro _ _ ⟨rfl, rfl⟩
    refine V_st (st' := [.int (bI (0 ≤ f0.toInt64 ∧ f0.toInt64 ≤ 5000))]) rfl ?_
    refine V_pc (pc1 := 24) rfl ?_
    refine V_if_ne (tgt := 30) C dX20_run_24 (by decide) (fun c_24 => ?_) (fun c_24 => ?_)
    · refine V_aload_n C dX20_run_30 rfl 0 rfl ?_
      refine M_get C hM (.int (σ.1 11)) f_X20_177_9 rfl dX20_run_31 ?_
      refine V_sipush (v := 6000) C dX20_run_34 rfl ?_
      refine V_icmp_ge (tgt := 50) C dX20_run_37 (by decide) (fun c_37 => ?_) (fun c_37 => ?_)
      · refine V_bipush (v := -104) C dX20_run_50 rfl ?_
        refine V_iret C dX20_run_52 rfl ?_ (by first | exact Nat.le_of_ble_eq_true rfl | omega | (dsimp only; omega)) (by first | exact Nat.le_of_ble_eq_true rfl | omega | (dsimp only; omega))
        refine ⟨congrArg (fun z => some (Value.int z)) ?_, hM, hF⟩
        unfold mf_noRun
        rw [if_neg (fun z => z (bI_n.mp c_9)), if_neg (fun z => z (bI_n.mp c_24))]
      · refine V_aload_n C dX20_run_40 rfl 0 rfl ?_
        refine M_get C hM (.int (σ.1 15)) f_X20_311_9 rfl dX20_run_41 ?_
        refine V_sipush (v := 800) C dX20_run_44 rfl ?_
        refine V_icmp_lt (tgt := 53) C dX20_run_47 (by decide) (fun c_47 => ?_) (fun c_47 => ?_)
        · exact absurd ⟨bI_n.mp c_9, bI_n.mp c_24, Int32.not_le.mp c_37, c_47⟩ hno
        · refine V_bipush (v := -104) C dX20_run_50 rfl ?_
          refine V_iret C dX20_run_52 rfl ?_ (by first | exact Nat.le_of_ble_eq_true rfl | omega | (dsimp only; omega)) (by first | exact Nat.le_of_ble_eq_true rfl | omega | (dsimp only; omega))
          refine ⟨congrArg (fun z => some (Value.int z)) ?_, hM, hF⟩
          unfold mf_noRun
          rw [if_neg (fun z => z (bI_n.mp c_9)), if_neg (fun z => z (bI_n.mp c_24))]
    · refine V_bipush (v := -102) C dX20_run_27 rfl ?_
      refine V_iret C dX20_run_29 rfl ?_ (by first | exact Nat.le_of_ble_eq_true rfl | omega | (dsimp only; omega)) (by first | exact Nat.le_of_ble_eq_true rfl | omega | (dsimp only; omega))
      refine ⟨congrArg (fun z => some (Value.int z)) ?_, hM, hF⟩
      unfold mf_noRun
      rw [if_neg (fun z => z (bI_n.mp c_9)), if_pos (bI_0.mp c_24)]
  · refine V_bipush (v := -101) C dX20_run_12 rfl ?_
    refine V_iret C dX20_run_14 rfl ?_ (by first | exact Nat.le_of_ble_eq_true rfl | omega | (dsimp only; omega)) (by first | exact Nat.le_of_ble_eq_true rfl | omega | (dsimp only; omega))
    refine ⟨congrArg (fun z => some (Value.int z)) ?_, hM, hF⟩
    unfold mf_noRun
    rw [if_pos (bI_0.mp c_9)]
set_option maxHeartbeats 1000000 in
theorem c_X20_run_yes (l : Launch) (hl : l.stackTraces = false) (G : hp_G) (X : Nat → Nat) (N0 : Nat) (mo : Nat) (ad : Nat → Nat) (σ : MS) (M : hp_h) (hM : MH G mo ad σ M) (p0 f0 : Int32) (hI : MI σ) (hr : mf_runs p0 f0 σ) (n0 : Nat) (σE : MS) (lE : Int32) (hT0 : Tk n0 (mf_begin p0 f0 σ) 0 σE lE) : HM l yX20_run (ws_ yX20_run cX20_run 5 (some .int)) 14 520 0 0 G X N0 [.ref mo, .int p0, .int f0] M (PM G mo ad M (some (.int lE)) (sz σE 27 lE)) PX0 := by
  refine HM.of hl [(0, .ref mo), (1, .int p0), (2, .int f0)] (by decide +kernel) rfl (Nat.le_of_ble_eq_true rfl) ?_
  intro p e s m args below meth c C hname
  have hF : MFr mo ad M M := MFr.rf
  refine V_iload_n C dX20_run_0 rfl 1 rfl ?_
  refine V_i2l (v := p0.toInt64) C dX20_run_1 rfl ?_
  refine V_lconst (v := 0) C dX20_run_2 rfl ?_
  refine V_ldc2 (v := 5) C (C.w q1686) dX20_run_3 ?_
  refine V_callS C (c_X20_in l hl G X N0 M p0.toInt64 0 5) cs_X20_123 rfl rfl ⟨Nat.le_of_ble_eq_true rfl, Nat.le_of_ble_eq_true rfl⟩ ⟨(by first | exact Nat.le_of_ble_eq_true rfl | omega | (dsimp only; omega)), (by first | exact Nat.le_of_ble_eq_true rfl | omega | (dsimp only; omega))⟩ (Nat.le_of_ble_eq_true rfl) dX20_run_6 (fun _ _ _ h => px0 h) ?_
  rintro _ _ ⟨rfl, rfl⟩
  refine V_st (st' := [.int (bI (0 ≤ p0.toInt64 ∧ p0.toInt64 ≤ 5))]) rfl ?_
  refine V_if_ne (tgt := 15) C dX20_run_9 (by decide) (fun c_9 => ?_) (fun c_9 => ?_)
  · refine V_iload_n C dX20_run_15 rfl 2 rfl ?_
    refine V_i2l (v := f0.toInt64) C dX20_run_16 rfl ?_
    refine V_lconst (v := 0) C dX20_run_17 rfl ?_
    refine V_ldc2 (v := 5000) C (C.w q1714) dX20_run_18 ?_
    refine V_callS C (c_X20_in l hl G X N0 M f0.toInt64 0 5000) cs_X20_123 rfl rfl ⟨Nat.le_of_ble_eq_true rfl, Nat.le_of_ble_eq_true rfl⟩ ⟨(by first | exact Nat.le_of_ble_eq_true rfl | omega | (dsimp only; omega)), (by first | exact Nat.le_of_ble_eq_true rfl | omega | (dsimp only; omega))⟩ (Nat.le_of_ble_eq_true rfl) dX20_run_21 (fun _ _ _ h => px0 h) ?_
    rintro _ _ ⟨rfl, rfl⟩
    refine V_st (st' := [.int (bI (0 ≤ f0.toInt64 ∧ f0.toInt64 ≤ 5000))]) rfl ?_
    refine V_pc (pc1 := 24) rfl ?_
    refine V_if_ne (tgt := 30) C dX20_run_24 (by decide) (fun c_24 => ?_) (fun c_24 => ?_)
    · refine V_aload_n C dX20_run_30 rfl 0 rfl ?_
      refine M_get C hM (.int (σ.1 11)) f_X20_177_9 rfl dX20_run_31 ?_
      refine V_sipush (v := 6000) C dX20_run_34 rfl ?_
      refine V_icmp_ge (tgt := 50) C dX20_run_37 (by decide) (fun c_37 => ?_) (fun c_37 => ?_)
      · exact absurd hr.2.2.1 (Int32.not_lt.mpr c_37)
      · refine V_aload_n C dX20_run_40 rfl 0 rfl ?_
        refine M_get C hM (.int (σ.1 15)) f_X20_311_9 rfl dX20_run_41 ?_
        refine V_sipush (v := 800) C dX20_run_44 rfl ?_
        refine V_icmp_lt (tgt := 53) C dX20_run_47 (by decide) (fun c_47 => ?_) (fun c_47 => ?_)
        · refine V_aload_n C dX20_run_53 rfl 0 rfl ?_
          refine V_iconst (v := 0) C dX20_run_54 rfl ?_
          refine M_puti C hM hF f_X20_64_9 (by decide) mF_28 dX20_run_55 (fun M_1 hM_2 hF_3 => ?_)
          refine V_pc (pc1 := 58) rfl ?_
          refine V_aload_n C dX20_run_58 rfl 0 rfl ?_
          refine V_iconst (v := 0) C dX20_run_59 rfl ?_
          refine M_puti C hM_2 hF_3 f_X20_67_9 (by decide) mF_29 dX20_run_60 (fun M_4 hM_5 hF_6 => ?_)
          refine V_aload_n C dX20_run_63 rfl 0 rfl ?_
          refine V_iconst (v := 0) C dX20_run_64 rfl ?_
          refine M_puti C hM_5 hF_6 f_X20_70_9 (by decide) mF_30 dX20_run_65 (fun M_7 hM_8 hF_9 => ?_)
          refine V_aload_n C dX20_run_68 rfl 0 rfl ?_
          refine V_iconst (v := 0) C dX20_run_69 rfl ?_
          refine M_puti C hM_8 hF_9 f_X20_73_9 (by decide) mF_31 dX20_run_70 (fun M_10 hM_11 hF_12 => ?_)
          refine V_aload_n C dX20_run_73 rfl 0 rfl ?_
          refine V_iconst (v := 0) C dX20_run_74 rfl ?_
          refine M_puti C hM_11 hF_12 f_X20_287_9 (by decide) mF_20 dX20_run_75 (fun M_13 hM_14 hF_15 => ?_)
          refine V_pc (pc1 := 78) rfl ?_
          refine V_aload_n C dX20_run_78 rfl 0 rfl ?_
          refine V_iload_n C dX20_run_79 rfl 1 rfl ?_
          refine V_iload_n C dX20_run_80 rfl 2 rfl ?_
          refine V_callV C (c_X20_enter l hl G X N0 mo ad (sz (sz (sz (sz (sz σ 28 0) 29 0) 30 0) 31 0) 20 0) M_13 hM_14 0 p0 f0 hI rfl (by omega)) cs_X20_301_9 hM_14.1 (show CLS[9]? = some (RX20, TX20, 33) from rfl) rfl rfl ⟨Nat.le_of_ble_eq_true rfl, Nat.le_of_ble_eq_true rfl⟩ ⟨(by first | exact Nat.le_of_ble_eq_true rfl | omega | (dsimp only; omega)), (by first | exact Nat.le_of_ble_eq_true rfl | omega | (dsimp only; omega))⟩ (Nat.le_of_ble_eq_true rfl) dX20_run_81 (fun _ _ _ h => px0 h) ?_
          rintro _ M_16 ⟨rfl, hM_17, hF_18⟩
          refine V_st (st' := []) rfl ?_
          have hF_19 := hF_15.trans hF_18
          refine V_iconst (v := 0) C dX20_run_84 rfl ?_
          refine V_istore_n C dX20_run_85 rfl (Nat.le_of_ble_eq_true rfl) [(0, .ref mo), (1, .int p0), (2, .int f0), (3, .int 0)] [1, 2, 3, 0] rfl ?_
          have lp_86 : ∀ (fu9 : Nat) (n9 : Nat) (σ1 : MS) (l1 : Int32) (M86 : hp_h), n9 < fu9 → (Tk n9 σ1 l1 σE lE) → MH G mo ad σ1 M86 → MFr mo ad M M86 → V p l e { frames := 14, cells := 0, slots := 0, locals := 520 } s m args below meth c G N0 5 (QV below G N0 (PM G mo ad M (some (.int lE)) (sz σE 27 lE)) PX0 args s (0) (0)) (0) (0) M86 86 [(0, .ref mo), (1, .int p0), (2, .int f0), (3, .int l1)] [] := by
            intro fu9
            induction fu9 with
            | zero => intro n9 σ1 l1 M86 hfu9; exact absurd hfu9 (Nat.not_lt_zero _)
            | succ fu9 ih86 =>
              intro n9 σ1 l1 M86 hfu9 hT hM86 hF86
              refine V_aload_n C dX20_run_86 rfl 0 rfl ?_
              refine M_get C hM86 (.int (σ1.1 20)) f_X20_287_9 rfl dX20_run_87 ?_
              refine V_if_le (tgt := 124) C dX20_run_90 (by decide) (fun c_90 => ?_) (fun c_90 => ?_)
              · obtain ⟨hz, rfl, rfl⟩ : σ1.1 20 = 0 ∧ σ1 = σE ∧ l1 = lE := by
                  rcases n9 with _ | n8
                  · exact hT
                  · obtain ⟨c1, -, hK1, -⟩ := hT
                    exact absurd c_90 (by rw [hK1.1.1]; exact nI_nle (by omega) (by have := hK1.1.2; omega))
                refine V_aload_n C dX20_run_124 rfl 0 rfl ?_
                refine V_iload_n C dX20_run_125 rfl 3 rfl ?_
                refine M_puti C hM86 hF86 f_X20_60_9 (by decide) mF_27 dX20_run_126 (fun M_21 hM_22 hF_23 => ?_)
                refine V_pc (pc1 := 129) rfl ?_
                refine V_iload_n C dX20_run_129 rfl 3 rfl ?_
                refine V_iret C dX20_run_130 rfl ?_ (by first | exact Nat.le_of_ble_eq_true rfl | omega | (dsimp only; omega)) (by first | exact Nat.le_of_ble_eq_true rfl | omega | (dsimp only; omega))
                exact ⟨rfl, hM_22, hF_23⟩
              · obtain ⟨n8, rfl⟩ : ∃ n8, n9 = n8 + 1 := by
                  rcases n9 with _ | n8
                  · exact absurd (show σ1.1 20 ≤ 0 by rw [hT.1]; decide) c_90
                  · exact ⟨n8, rfl⟩
                obtain ⟨c1, hI1, hK1, hJ1, hor⟩ := hT
                refine V_aload_n C dX20_run_93 rfl 0 rfl ?_
                refine V_callV C (c_X20_step l hl G X N0 mo ad σ1 M86 hM86 c1 hI1 hK1 hJ1) cs_X20_314_9 hM86.1 (show CLS[9]? = some (RX20, TX20, 33) from rfl) rfl rfl ⟨Nat.le_of_ble_eq_true rfl, Nat.le_of_ble_eq_true rfl⟩ ⟨(by first | exact Nat.le_of_ble_eq_true rfl | omega | (dsimp only; omega)), (by first | exact Nat.le_of_ble_eq_true rfl | omega | (dsimp only; omega))⟩ (Nat.le_of_ble_eq_true rfl) dX20_run_94 (fun _ _ _ h => px0 h) ?_
                rintro _ M_24 ⟨rfl, hM_25, hF_26⟩
                refine V_st (st' := [.int ((mf_step c1 σ1).1)]) rfl ?_
                have hF_27 := hF86.trans hF_26
                refine V_istore C dX20_run_97 (Nat.le_of_ble_eq_true rfl) [(0, .ref mo), (1, .int p0), (2, .int f0), (3, .int l1), (4, .int ((mf_step c1 σ1).1))] [1, 2, 3, 4, 0] rfl ?_
                refine V_pc (pc1 := 99) rfl ?_
                refine V_iload C dX20_run_99 4 rfl ?_
                refine V_if_le (tgt := 121) C dX20_run_101 (by decide) (fun c_101 => ?_) (fun c_101 => ?_)
                · refine V_goto (tgt := 86) C dX20_run_121 (by decide) ?_
                  refine V_loc (L' := [(0, .ref mo), (1, .int p0), (2, .int f0), (3, .int l1)]) [0, 1, 2, 3] rfl ?_
                  exact ih86 n8 ((mf_step c1 σ1).2) l1 _ (by omega) (by first | exact (hor.resolve_right (fun z => absurd z.1 (Int32.not_lt.mpr c_101))).2 | exact hTk) (MH.cg hM_25 (rfl)) hF_27
                · obtain ⟨hpos, C1, hFK, hTk⟩ := hor.resolve_left (fun z => c_101 (by rw [z.1]; decide))
                  refine V_aload_n C dX20_run_104 rfl 0 rfl ?_
                  refine V_dup C dX20_run_105 rfl ?_
                  refine M_get C hM_25 (.int (((mf_step c1 σ1).2).1 15)) f_X20_311_9 rfl dX20_run_106 ?_
                  refine V_iconst (v := 1) C dX20_run_109 rfl ?_
                  refine V_iadd C dX20_run_110 ?_
                  refine M_puti C hM_25 hF_27 f_X20_311_9 (by decide) mF_15 dX20_run_111 (fun M_28 hM_29 hF_30 => ?_)
                  refine V_aload_n C dX20_run_114 rfl 0 rfl ?_
                  refine V_iload C dX20_run_115 4 rfl ?_
                  refine V_callV C (c_X20_fail l hl G X N0 mo ad (sz ((mf_step c1 σ1).2) 15 ((((mf_step c1 σ1).2).1 15) + 1)) M_28 hM_29 (mf_step c1 σ1).1 C1 hFK) cs_X20_318_9 hM_29.1 (show CLS[9]? = some (RX20, TX20, 33) from rfl) rfl rfl ⟨Nat.le_of_ble_eq_true rfl, Nat.le_of_ble_eq_true rfl⟩ ⟨(by first | exact Nat.le_of_ble_eq_true rfl | omega | (dsimp only; omega)), (by first | exact Nat.le_of_ble_eq_true rfl | omega | (dsimp only; omega))⟩ (Nat.le_of_ble_eq_true rfl) dX20_run_117 (fun _ _ _ h => px0 h) ?_
                  rintro _ M_31 ⟨rfl, hM_32, hF_33⟩
                  refine V_st (st' := [.int ((mf_fail (mf_step c1 σ1).1 C1 (sz ((mf_step c1 σ1).2) 15 ((((mf_step c1 σ1).2).1 15) + 1))).1)]) rfl ?_
                  have hF_34 := hF_30.trans hF_33
                  refine V_istore_n C dX20_run_120 rfl (Nat.le_of_ble_eq_true rfl) [(0, .ref mo), (1, .int p0), (2, .int f0), (3, .int ((mf_fail (mf_step c1 σ1).1 C1 (sz ((mf_step c1 σ1).2) 15 ((((mf_step c1 σ1).2).1 15) + 1))).1)), (4, .int ((mf_step c1 σ1).1))] [1, 2, 3, 0, 4] rfl ?_
                  refine V_pc (pc1 := 121) rfl ?_
                  refine V_goto (tgt := 86) C dX20_run_121 (by decide) ?_
                  refine V_loc (L' := [(0, .ref mo), (1, .int p0), (2, .int f0), (3, .int ((mf_fail (mf_step c1 σ1).1 C1 (sz ((mf_step c1 σ1).2) 15 ((((mf_step c1 σ1).2).1 15) + 1))).1))]) [0, 1, 2, 3] rfl ?_
                  exact ih86 n8 ((mf_fail (mf_step c1 σ1).1 C1 (sz ((mf_step c1 σ1).2) 15 ((((mf_step c1 σ1).2).1 15) + 1))).2) ((mf_fail (mf_step c1 σ1).1 C1 (sz ((mf_step c1 σ1).2) 15 ((((mf_step c1 σ1).2).1 15) + 1))).1) _ (by omega) (by first | exact (hor.resolve_right (fun z => absurd z.1 (Int32.not_lt.mpr c_101))).2 | exact hTk) (MH.cg hM_32 (rfl)) hF_34
          refine V_loc (L' := [(0, .ref mo), (1, .int p0), (2, .int f0), (3, .int 0)]) [0, 1, 2, 3] rfl ?_
          exact lp_86 _ n0 (mf_begin p0 f0 σ) 0 _ (Nat.lt_succ_self _) hT0 (MH.cg hM_17 (rfl)) hF_19
        · exact absurd hr.2.2.2 c_47
    · exact absurd hr.2.1 (bI_0.mp c_24)
  · exact absurd hr.1 (bI_0.mp c_9)
