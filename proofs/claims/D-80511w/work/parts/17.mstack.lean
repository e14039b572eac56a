set_option maxRecDepth 100000
def mf_act (σ : MS) (c k : Nat) : Int32 := σ.2.1 17 (6 * (12 * (σ.2.1 21 c).toNatClampNeg + (σ.2.1 22 c).toNatClampNeg) + k)
def mf_enter (C : Nat) (p f : Int32) (σ : MS) : MS :=
  sz (sz (sl (si (si (si (si (si σ 21 (va_up (σ.2.1 21) C p)) 22 (va_up (σ.2.1 22) C 0)) 23 (va_up (σ.2.1 23) C f)) 24 (va_up (σ.2.1 24) C f)) 25 (va_up (σ.2.1 25) C (σ.1 1))) 26 (mfill (σ.2.2.1 26) (2400 * C) (40 * nR σ) (fun k => σ.2.2.1 4 k))) 20 (nI (C + 1))) 14 (if σ.1 14 < nI (C + 1) then nI (C + 1) else σ.1 14)
def mf_undo (c R : Nat) (σ : MS) : MS := sz (sl (sz σ 1 (nI R)) 4 (mfill (σ.2.2.1 4) 0 (40 * R) (fun k => σ.2.2.1 26 (2400 * c + k)))) 12 (σ.1 12 + 1)
def mf_end (c : Nat) (w : Int64) (σ : MS) : MS :=
  si (if c = 0 then sz (sl σ 32 (va_up (σ.2.2.1 32) (σ.2.1 22 0).toNatClampNeg w)) 30 (σ.1 30 + 1) else σ) 22 (va_up (σ.2.1 22) c (σ.2.1 22 c + 1))
/-- the stack of calls: C of them; each one's plan, act at hand, rows kept -/
def MK (C : Nat) (σ : MS) : Prop :=
  (σ.1 20 = nI C ∧ C ≤ 6) ∧ ∀ d, d < C → (∃ P, P < 6 ∧ σ.2.1 21 d = nI P ∧ ∃ A, A ≤ psz σ P ∧ σ.2.1 22 d = nI A ∧ (d + 1 < C → A < psz σ P)) ∧ ∃ R, R ≤ nR σ ∧ σ.2.1 25 d = nI R
def mf_pop (c : Nat) (σ : MS) : MS :=
  if c = 0 then sz (mf_undo c (σ.2.1 25 c).toNatClampNeg σ) 20 (nI c)
  else si (sz (mf_undo c (σ.2.1 25 c).toNatClampNeg σ) 20 (nI c)) 24 (va_up (σ.2.1 24) (c - 1) (σ.2.1 24 (c - 1) - (σ.2.1 23 c - σ.2.1 24 c)))
def mf_fail (f : Int32) : Nat → MS → Int32 × MS
  | 0, σ => (f, σ)
  | c + 1, σ => if 0 < c ∧ mf_act (mf_pop c σ) (c - 1) 2 = 1 then (0, mf_end (c - 1) f.toInt64 (sz (mf_pop c σ) 31 (σ.1 31 + 1))) else mf_fail f c (mf_pop c σ)
def FK (C : Nat) (σ : MS) : Prop := σ.1 20 = nI C ∧ C ≤ 6 ∧ (∀ d, d < C → ∃ R, R ≤ 60 ∧ σ.2.1 25 d = nI R) ∧ (∀ d, d + 1 < C → ∃ P A, P < 6 ∧ A < 12 ∧ σ.2.1 21 d = nI P ∧ σ.2.1 22 d = nI A)
theorem FK.pop {c : Nat} {σ : MS} (h : FK (c + 1) σ) : FK c (mf_pop c σ) := by
  have e : ∀ k, k ≠ 24 → (mf_pop c σ).2.1 k = σ.2.1 k := by
    intro k hk
    unfold mf_pop
    split
    · rfl
    · simp [si, va_up, hk, sz, mf_undo, sl]
  refine ⟨?_, by have := h.2.1; omega, fun d hd => ?_, fun d hd => ?_⟩
  · unfold mf_pop; split <;> rfl
  · rw [e 25 (by decide)]; exact h.2.2.1 d (by omega)
  · rw [e 21 (by decide), e 22 (by decide)]; exact h.2.2.2 d (by omega)
set_option maxHeartbeats 1000000 in
theorem c_X20_actOf (l : Launch) (hl : l.stackTraces = false) (G : hp_G) (X : Nat → Nat) (N0 : Nat) (mo : Nat) (ad : Nat → Nat) (σ : MS) (M : hp_h) (hM : MH G mo ad σ M) (c0 k P A : Nat) (hc : c0 < 7) (hk : k < 6) (hP : P < 6) (hA : A < 12) (eP : σ.2.1 21 c0 = nI P) (eA : σ.2.1 22 c0 = nI A) : HM l yX20_actOf (ws_ yX20_actOf cX20_actOf 3 (some .int)) 0 0 0 0 G X N0 [.ref mo, .int (nI c0), .int (nI k)] M (PV (.int (mf_act σ c0 k)) M) PX0 := by
  refine HM.of hl [(0, .ref mo), (1, .int (nI c0)), (2, .int (nI k))] (by decide +kernel) rfl (Nat.le_of_ble_eq_true rfl) ?_
  intro p e s m args below meth c C hname
  have hF : MFr mo ad M M := MFr.rf
  refine V_aload_n C dX20_actOf_0 rfl 0 rfl ?_
  refine M_get C hM (.ref (ad 17)) f_X20_36_9 rfl dX20_actOf_1 ?_
  refine V_bipush (v := 6) C dX20_actOf_4 rfl ?_
  refine V_bipush (v := 12) C dX20_actOf_6 rfl ?_
  refine V_aload_n C dX20_actOf_8 rfl 0 rfl ?_
  refine M_get C hM (.ref (ad 21)) f_X20_42_9 rfl dX20_actOf_9 ?_
  refine V_iload_n C dX20_actOf_12 rfl 1 rfl ?_
  refine M_iald C hM 21 c0 rfl rfl (show c0 < 7 from hc) dX20_actOf_13 ?_
  refine V_st (st' := [.int (nI P), .int 12, .int 6, .ref (ad 17)]) (by rw [show (σ.2.1 21 c0) = (nI P) from eP]) ?_
  refine V_imul C dX20_actOf_14 ?_
  refine V_st (st' := [.int (nI (12 * P)), .int 6, .ref (ad 17)]) (by rw [show (12 * (nI P)) = (nI (12 * P)) from pk_mul 12 P]) ?_
  refine V_aload_n C dX20_actOf_15 rfl 0 rfl ?_
  refine M_get C hM (.ref (ad 22)) f_X20_45_9 rfl dX20_actOf_16 ?_
  refine V_pc (pc1 := 19) rfl ?_
  refine V_iload_n C dX20_actOf_19 rfl 1 rfl ?_
  refine M_iald C hM 22 c0 rfl rfl (show c0 < 7 from hc) dX20_actOf_20 ?_
  refine V_st (st' := [.int (nI A), .int (nI (12 * P)), .int 6, .ref (ad 17)]) (by rw [show (σ.2.1 22 c0) = (nI A) from eA]) ?_
  refine V_iadd C dX20_actOf_21 ?_
  refine V_st (st' := [.int (nI ((12 * P) + A)), .int 6, .ref (ad 17)]) (by rw [show ((nI (12 * P)) + (nI A)) = (nI ((12 * P) + A)) from nI_add (12 * P) A]) ?_
  refine V_imul C dX20_actOf_22 ?_
  refine V_st (st' := [.int (nI (6 * ((12 * P) + A))), .ref (ad 17)]) (by rw [show (6 * (nI ((12 * P) + A))) = (nI (6 * ((12 * P) + A))) from pk_mul 6 ((12 * P) + A)]) ?_
  refine V_iload_n C dX20_actOf_23 rfl 2 rfl ?_
  refine V_iadd C dX20_actOf_24 ?_
  refine V_st (st' := [.int (nI ((6 * ((12 * P) + A)) + k)), .ref (ad 17)]) (by rw [show ((nI (6 * ((12 * P) + A))) + (nI k)) = (nI ((6 * ((12 * P) + A)) + k)) from nI_add (6 * ((12 * P) + A)) k]) ?_
  refine M_iald C hM 17 (6 * (12 * P + A) + k) rfl rfl (show 6 * (12 * P + A) + k < 432 from by omega) dX20_actOf_25 ?_
  refine V_iret C dX20_actOf_26 rfl ?_ (by first | exact Nat.le_of_ble_eq_true rfl | omega | (dsimp only; omega)) (by first | exact Nat.le_of_ble_eq_true rfl | omega | (dsimp only; omega))
  refine ⟨congrArg (fun z => some (Value.int z)) ?_, rfl⟩
  unfold mf_act
  rw [eP, eA, nI_clamp (by omega), nI_clamp (by omega)]
set_option maxHeartbeats 1000000 in
theorem c_X20_enter (l : Launch) (hl : l.stackTraces = false) (G : hp_G) (X : Nat → Nat) (N0 : Nat) (mo : Nat) (ad : Nat → Nat) (σ : MS) (M : hp_h) (hM : MH G mo ad σ M) (C0 : Nat) (p0 f0 : Int32) (hI : MI σ) (hC : σ.1 20 = nI C0) (hC6 : C0 ≤ 6) : HM l yX20_enter (ws_ yX20_enter cX20_enter 4 none) 0 0 0 0 G X N0 [.ref mo, .int p0, .int f0] M (PM G mo ad M none (mf_enter C0 p0 f0 σ)) PX0 := by
  refine HM.of hl [(0, .ref mo), (1, .int p0), (2, .int f0)] (by decide +kernel) rfl (Nat.le_of_ble_eq_true rfl) ?_
  intro p e s m args below meth c C hname
  have hF : MFr mo ad M M := MFr.rf
  have hR6 := hI.R
  refine V_aload_n C dX20_enter_0 rfl 0 rfl ?_
  refine M_get C hM (.ref (ad 21)) f_X20_42_9 rfl dX20_enter_1 ?_
  refine V_aload_n C dX20_enter_4 rfl 0 rfl ?_
  refine M_get C hM (.int (nI C0)) f_X20_287_9 (congrArg (fun z => some (Value.int z)) hC) dX20_enter_5 ?_
  refine V_iload_n C dX20_enter_8 rfl 1 rfl ?_
  refine M_iast C hM hF 21 C0 rfl rfl (show C0 < 7 from by omega) dX20_enter_9 (fun M_1 hM_2 hF_3 => ?_)
  refine V_aload_n C dX20_enter_10 rfl 0 rfl ?_
  refine M_get C hM_2 (.ref (ad 22)) f_X20_45_9 rfl dX20_enter_11 ?_
  refine V_aload_n C dX20_enter_14 rfl 0 rfl ?_
  refine M_get C hM_2 (.int (nI C0)) f_X20_287_9 (congrArg (fun z => some (Value.int z)) hC) dX20_enter_15 ?_
  refine V_iconst (v := 0) C dX20_enter_18 rfl ?_
  refine V_pc (pc1 := 19) rfl ?_
  refine M_iast C hM_2 hF_3 22 C0 rfl rfl (show C0 < 7 from by omega) dX20_enter_19 (fun M_4 hM_5 hF_6 => ?_)
  refine V_aload_n C dX20_enter_20 rfl 0 rfl ?_
  refine M_get C hM_5 (.ref (ad 23)) f_X20_48_9 rfl dX20_enter_21 ?_
  refine V_aload_n C dX20_enter_24 rfl 0 rfl ?_
  refine M_get C hM_5 (.int (nI C0)) f_X20_287_9 (congrArg (fun z => some (Value.int z)) hC) dX20_enter_25 ?_
  refine V_iload_n C dX20_enter_28 rfl 2 rfl ?_
  refine M_iast C hM_5 hF_6 23 C0 rfl rfl (show C0 < 7 from by omega) dX20_enter_29 (fun M_7 hM_8 hF_9 => ?_)
  refine V_aload_n C dX20_enter_30 rfl 0 rfl ?_
  refine M_get C hM_8 (.ref (ad 24)) f_X20_51_9 rfl dX20_enter_31 ?_
  refine V_aload_n C dX20_enter_34 rfl 0 rfl ?_
  refine M_get C hM_8 (.int (nI C0)) f_X20_287_9 (congrArg (fun z => some (Value.int z)) hC) dX20_enter_35 ?_
  refine V_iload_n C dX20_enter_38 rfl 2 rfl ?_
  refine V_pc (pc1 := 39) rfl ?_
  refine M_iast C hM_8 hF_9 24 C0 rfl rfl (show C0 < 7 from by omega) dX20_enter_39 (fun M_10 hM_11 hF_12 => ?_)
  refine V_aload_n C dX20_enter_40 rfl 0 rfl ?_
  refine M_get C hM_11 (.ref (ad 25)) f_X20_54_9 rfl dX20_enter_41 ?_
  refine V_aload_n C dX20_enter_44 rfl 0 rfl ?_
  refine M_get C hM_11 (.int (nI C0)) f_X20_287_9 (congrArg (fun z => some (Value.int z)) hC) dX20_enter_45 ?_
  refine V_aload_n C dX20_enter_48 rfl 0 rfl ?_
  refine M_get C hM_11 (.int (nI (nR σ))) f_X20_103_9 (congrArg (fun z => some (Value.int z)) hI.R.1) dX20_enter_49 ?_
  refine M_iast C hM_11 hF_12 25 C0 rfl rfl (show C0 < 7 from by omega) dX20_enter_52 (fun M_13 hM_14 hF_15 => ?_)
  refine V_iconst (v := 0) C dX20_enter_53 rfl ?_
  refine V_istore_n C dX20_enter_54 rfl (Nat.le_of_ble_eq_true rfl) [(0, .ref mo), (1, .int p0), (2, .int f0), (3, .int 0)] [1, 2, 3, 0] rfl ?_
  have lp_55 : ∀ (fu9 : Nat) (k : Nat) (M55 : hp_h), 40 * nR σ - k < fu9 → (k ≤ 40 * nR σ) → MH G mo ad (sl (si (si (si (si (si σ 21 (va_up (σ.2.1 21) C0 p0)) 22 (va_up (σ.2.1 22) C0 0)) 23 (va_up (σ.2.1 23) C0 f0)) 24 (va_up (σ.2.1 24) C0 f0)) 25 (va_up (σ.2.1 25) C0 (σ.1 1))) 26 (mfill (σ.2.2.1 26) (2400 * C0) k (fun k => σ.2.2.1 4 k))) M55 → MFr mo ad M M55 → V p l e { frames := 0, cells := 0, slots := 0, locals := 0 } s m args below meth c G N0 4 (QV below G N0 (PM G mo ad M none (mf_enter C0 p0 f0 σ)) PX0 args s (0) (0)) (0) (0) M55 55 [(0, .ref mo), (1, .int p0), (2, .int f0), (3, .int (nI k))] [] := by
    intro fu9
    induction fu9 with
    | zero => intro k M55 hfu9; exact absurd hfu9 (Nat.not_lt_zero _)
    | succ fu9 ih55 =>
      intro k M55 hfu9 hk hM55 hF55
      refine V_iload_n C dX20_enter_55 rfl 3 rfl ?_
      refine V_bipush (v := 40) C dX20_enter_56 rfl ?_
      refine V_pc (pc1 := 58) rfl ?_
      refine V_aload_n C dX20_enter_58 rfl 0 rfl ?_
      refine M_get C hM55 (.int (nI (nR σ))) f_X20_103_9 (congrArg (fun z => some (Value.int z)) hI.R.1) dX20_enter_59 ?_
      refine V_imul C dX20_enter_62 ?_
      refine V_st (st' := [.int (nI (40 * (nR σ))), .int (nI k)]) (by rw [show (40 * (nI (nR σ))) = (nI (40 * (nR σ))) from pk_mul 40 (nR σ)]) ?_
      refine V_icmp_ge (tgt := 93) C dX20_enter_63 (by decide) (fun c_63 => ?_) (fun c_63 => ?_)
      · refine V_aload_n C dX20_enter_93 rfl 0 rfl ?_
        refine V_dup C dX20_enter_94 rfl ?_
        refine M_get C hM55 (.int (nI C0)) f_X20_287_9 (congrArg (fun z => some (Value.int z)) hC) dX20_enter_95 ?_
        refine V_iconst (v := 1) C dX20_enter_98 rfl ?_
        refine V_iadd C dX20_enter_99 ?_
        refine V_st (st' := [.int (nI (C0 + 1)), .ref mo]) (by rw [show ((nI C0) + 1) = (nI (C0 + 1)) from nI_add C0 1]) ?_
        refine M_puti C hM55 hF55 f_X20_287_9 (by decide) mF_20 dX20_enter_100 (fun M_17 hM_18 hF_19 => ?_)
        refine V_aload_n C dX20_enter_103 rfl 0 rfl ?_
        refine V_aload_n C dX20_enter_104 rfl 0 rfl ?_
        refine V_pc (pc1 := 105) rfl ?_
        refine M_get C hM_18 (.int (nI (C0 + 1))) f_X20_287_9 rfl dX20_enter_105 ?_
        refine V_aload_n C dX20_enter_108 rfl 0 rfl ?_
        refine M_get C hM_18 (.int (σ.1 14)) f_X20_186_9 rfl dX20_enter_109 ?_
        refine V_icmp_le (tgt := 122) C dX20_enter_112 (by decide) (fun c_112 => ?_) (fun c_112 => ?_)
        · refine V_aload_n C dX20_enter_122 rfl 0 rfl ?_
          refine M_get C hM_18 (.int (σ.1 14)) f_X20_186_9 rfl dX20_enter_123 ?_
          refine M_puti C hM_18 hF_19 f_X20_186_9 (by decide) mF_14 dX20_enter_126 (fun M_20 hM_21 hF_22 => ?_)
          refine V_vret C dX20_enter_129 rfl ?_ (by first | exact Nat.le_of_ble_eq_true rfl | omega | (dsimp only; omega)) (by first | exact Nat.le_of_ble_eq_true rfl | omega | (dsimp only; omega))
          refine ⟨rfl, MH.cg hM_21 ?_, hF_22⟩
          have e : k = 40 * nR σ := by have := (nI_leI (by omega) (by omega)).mp c_63; omega
          subst e
          unfold mf_enter
          rw [hI.R.1]
          first | rw [if_pos (Int32.not_le.mp c_112)] | rw [if_neg (Int32.not_lt.mpr c_112)]
        · refine V_aload_n C dX20_enter_115 rfl 0 rfl ?_
          refine M_get C hM_18 (.int (nI (C0 + 1))) f_X20_287_9 rfl dX20_enter_116 ?_
          refine V_goto (tgt := 126) C dX20_enter_119 (by decide) ?_
          refine M_puti C hM_18 hF_19 f_X20_186_9 (by decide) mF_14 dX20_enter_126 (fun M_23 hM_24 hF_25 => ?_)
          refine V_vret C dX20_enter_129 rfl ?_ (by first | exact Nat.le_of_ble_eq_true rfl | omega | (dsimp only; omega)) (by first | exact Nat.le_of_ble_eq_true rfl | omega | (dsimp only; omega))
          refine ⟨rfl, MH.cg hM_24 ?_, hF_25⟩
          have e : k = 40 * nR σ := by have := (nI_leI (by omega) (by omega)).mp c_63; omega
          subst e
          unfold mf_enter
          rw [hI.R.1]
          first | rw [if_pos (Int32.not_le.mp c_112)] | rw [if_neg (Int32.not_lt.mpr c_112)]
      · have hlt : k < 40 * nR σ := nI_ltN c_63 (by omega) (by omega)
        refine V_aload_n C dX20_enter_66 rfl 0 rfl ?_
        refine M_get C hM55 (.ref (ad 26)) f_X20_57_9 rfl dX20_enter_67 ?_
        refine V_sipush (v := 2400) C dX20_enter_70 rfl ?_
        refine V_aload_n C dX20_enter_73 rfl 0 rfl ?_
        refine M_get C hM55 (.int (nI C0)) f_X20_287_9 (congrArg (fun z => some (Value.int z)) hC) dX20_enter_74 ?_
        refine V_imul C dX20_enter_77 ?_
        refine V_st (st' := [.int (nI (2400 * C0)), .ref (ad 26)]) (by rw [show (2400 * (nI C0)) = (nI (2400 * C0)) from pk_mul 2400 C0]) ?_
        refine V_iload_n C dX20_enter_78 rfl 3 rfl ?_
        refine V_iadd C dX20_enter_79 ?_
        refine V_st (st' := [.int (nI ((2400 * C0) + k)), .ref (ad 26)]) (by rw [show ((nI (2400 * C0)) + (nI k)) = (nI ((2400 * C0) + k)) from nI_add (2400 * C0) k]) ?_
        refine V_pc (pc1 := 80) rfl ?_
        refine V_aload_n C dX20_enter_80 rfl 0 rfl ?_
        refine M_get C hM55 (.ref (ad 4)) f_X20_16_9 rfl dX20_enter_81 ?_
        refine V_iload_n C dX20_enter_84 rfl 3 rfl ?_
        refine M_lald C hM55 4 k rfl rfl (show k < 2400 from by omega) dX20_enter_85 ?_
        refine V_st (st' := [.long (σ.2.2.1 4 k), .int (nI ((2400 * C0) + k)), .ref (ad 26)]) rfl ?_
        refine V_st (st' := [.long (σ.2.2.1 4 k), .int (nI ((2400 * C0) + k)), .ref (ad 26)]) (by rw [show (σ.2.2.1 4 k) = (σ.2.2.1 4 k) from rfl]) ?_
        refine M_last C hM55 hF55 26 (2400 * C0 + k) rfl rfl (show 2400 * C0 + k < 16800 from by omega) dX20_enter_86 (fun M_26 hM_27 hF_28 => ?_)
        have hM_29 : MH G mo ad (sl (si (si (si (si (si σ 21 (va_up (σ.2.1 21) C0 p0)) 22 (va_up (σ.2.1 22) C0 0)) 23 (va_up (σ.2.1 23) C0 f0)) 24 (va_up (σ.2.1 24) C0 f0)) 25 (va_up (σ.2.1 25) C0 (σ.1 1))) 26 (va_up (mfill (σ.2.2.1 26) (2400 * C0) k (fun k => σ.2.2.1 4 k)) (2400 * C0 + k) (σ.2.2.1 4 k))) M_26 := MH.cg hM_27 (by rw [sl_sl, sl_g])
        refine V_iinc (v := nI (k + 1)) C dX20_enter_87 (k := 3) rfl (nI_add k 1) (Nat.le_of_ble_eq_true rfl) [(0, .ref mo), (1, .int p0), (2, .int f0), (3, .int (nI (k + 1)))] [1, 2, 3, 0] rfl ?_
        refine V_goto (tgt := 55) C dX20_enter_90 (by decide) ?_
        exact ih55 (k + 1) _ (by omega) (by omega) (MH.cg hM_29 (by rw [mfill_s rfl])) hF_28
  refine V_loc (L' := [(0, .ref mo), (1, .int p0), (2, .int f0), (3, .int 0)]) [0, 1, 2, 3] rfl ?_
  exact lp_55 _ 0 _ (Nat.lt_succ_self _) (Nat.zero_le _) (MH.cg hM_14 (by rw [mfill_0]; simp only [hI.R.1]; exact (sl_id _ _).symm)) hF_15
set_option maxHeartbeats 1000000 in
theorem c_X20_undo (l : Launch) (hl : l.stackTraces = false) (G : hp_G) (X : Nat → Nat) (N0 : Nat) (mo : Nat) (ad : Nat → Nat) (σ : MS) (M : hp_h) (hM : MH G mo ad σ M) (c0 R0 : Nat) (hc : c0 < 7) (hR : R0 ≤ 60) (eR : σ.2.1 25 c0 = nI R0) : HM l yX20_undo (ws_ yX20_undo cX20_undo 3 none) 0 0 0 0 G X N0 [.ref mo, .int (nI c0)] M (PM G mo ad M none (mf_undo c0 R0 σ)) PX0 := by
  refine HM.of hl [(0, .ref mo), (1, .int (nI c0))] (by decide +kernel) rfl (Nat.le_of_ble_eq_true rfl) ?_
  intro p e s m args below meth c C hname
  have hF : MFr mo ad M M := MFr.rf
  refine V_aload_n C dX20_undo_0 rfl 0 rfl ?_
  refine V_aload_n C dX20_undo_1 rfl 0 rfl ?_
  refine M_get C hM (.ref (ad 25)) f_X20_54_9 rfl dX20_undo_2 ?_
  refine V_iload_n C dX20_undo_5 rfl 1 rfl ?_
  refine M_iald C hM 25 c0 rfl rfl (show c0 < 7 from hc) dX20_undo_6 ?_
  refine V_st (st' := [.int (nI R0), .ref mo]) (by rw [show (σ.2.1 25 c0) = (nI R0) from eR]) ?_
  refine M_puti C hM hF f_X20_103_9 (by decide) mF_1 dX20_undo_7 (fun M_1 hM_2 hF_3 => ?_)
  refine V_iconst (v := 0) C dX20_undo_10 rfl ?_
  refine V_istore_n C dX20_undo_11 rfl (Nat.le_of_ble_eq_true rfl) [(0, .ref mo), (1, .int (nI c0)), (2, .int 0)] [1, 2, 0] rfl ?_
  have lp_12 : ∀ (fu9 : Nat) (k : Nat) (M12 : hp_h), 40 * R0 - k < fu9 → (k ≤ 40 * R0) → MH G mo ad (sl (sz σ 1 (nI R0)) 4 (mfill (σ.2.2.1 4) 0 k (fun k => σ.2.2.1 26 (2400 * c0 + k)))) M12 → MFr mo ad M M12 → V p l e { frames := 0, cells := 0, slots := 0, locals := 0 } s m args below meth c G N0 3 (QV below G N0 (PM G mo ad M none (mf_undo c0 R0 σ)) PX0 args s (0) (0)) (0) (0) M12 12 [(0, .ref mo), (1, .int (nI c0)), (2, .int (nI k))] [] := by
    intro fu9
    induction fu9 with
    | zero => intro k M12 hfu9; exact absurd hfu9 (Nat.not_lt_zero _)
    | succ fu9 ih12 =>
      intro k M12 hfu9 hk hM12 hF12
      refine V_iload_n C dX20_undo_12 rfl 2 rfl ?_
      refine V_bipush (v := 40) C dX20_undo_13 rfl ?_
      refine V_aload_n C dX20_undo_15 rfl 0 rfl ?_
      refine V_pc (pc1 := 16) rfl ?_
      refine M_get C hM12 (.int (nI R0)) f_X20_103_9 rfl dX20_undo_16 ?_
      refine V_imul C dX20_undo_19 ?_
      refine V_st (st' := [.int (nI (40 * R0)), .int (nI k)]) (by rw [show (40 * (nI R0)) = (nI (40 * R0)) from pk_mul 40 R0]) ?_
      refine V_icmp_ge (tgt := 47) C dX20_undo_20 (by decide) (fun c_20 => ?_) (fun c_20 => ?_)
      · refine V_aload_n C dX20_undo_47 rfl 0 rfl ?_
        refine V_dup C dX20_undo_48 rfl ?_
        refine M_get C hM12 (.int (σ.1 12)) f_X20_180_9 rfl dX20_undo_49 ?_
        refine V_iconst (v := 1) C dX20_undo_52 rfl ?_
        refine V_iadd C dX20_undo_53 ?_
        refine M_puti C hM12 hF12 f_X20_180_9 (by decide) mF_12 dX20_undo_54 (fun M_5 hM_6 hF_7 => ?_)
        refine V_vret C dX20_undo_57 rfl ?_ (by first | exact Nat.le_of_ble_eq_true rfl | omega | (dsimp only; omega)) (by first | exact Nat.le_of_ble_eq_true rfl | omega | (dsimp only; omega))
        refine ⟨rfl, MH.cg hM_6 ?_, hF_7⟩
        have e : k = 40 * R0 := by have := (nI_leI (by omega) (by omega)).mp c_20; omega
        subst e
        rfl
      · have hlt : k < 40 * R0 := nI_ltN c_20 (by omega) (by omega)
        refine V_aload_n C dX20_undo_23 rfl 0 rfl ?_
        refine M_get C hM12 (.ref (ad 4)) f_X20_16_9 rfl dX20_undo_24 ?_
        refine V_iload_n C dX20_undo_27 rfl 2 rfl ?_
        refine V_aload_n C dX20_undo_28 rfl 0 rfl ?_
        refine M_get C hM12 (.ref (ad 26)) f_X20_57_9 rfl dX20_undo_29 ?_
        refine V_sipush (v := 2400) C dX20_undo_32 rfl ?_
        refine V_iload_n C dX20_undo_35 rfl 1 rfl ?_
        refine V_imul C dX20_undo_36 ?_
        refine V_st (st' := [.int (nI (2400 * c0)), .ref (ad 26), .int (nI k), .ref (ad 4)]) (by rw [show (2400 * (nI c0)) = (nI (2400 * c0)) from pk_mul 2400 c0]) ?_
        refine V_iload_n C dX20_undo_37 rfl 2 rfl ?_
        refine V_pc (pc1 := 38) rfl ?_
        refine V_iadd C dX20_undo_38 ?_
        refine V_st (st' := [.int (nI ((2400 * c0) + k)), .ref (ad 26), .int (nI k), .ref (ad 4)]) (by rw [show ((nI (2400 * c0)) + (nI k)) = (nI ((2400 * c0) + k)) from nI_add (2400 * c0) k]) ?_
        refine M_lald C hM12 26 (2400 * c0 + k) rfl rfl (show 2400 * c0 + k < 16800 from by omega) dX20_undo_39 ?_
        refine V_st (st' := [.long (σ.2.2.1 26 (2400 * c0 + k)), .int (nI k), .ref (ad 4)]) rfl ?_
        refine V_st (st' := [.long (σ.2.2.1 26 (2400 * c0 + k)), .int (nI k), .ref (ad 4)]) (by rw [show (σ.2.2.1 26 (2400 * c0 + k)) = (σ.2.2.1 26 (2400 * c0 + k)) from rfl]) ?_
        refine M_last C hM12 hF12 4 (0 + k) rfl (congrArg nI (by omega)) (show 0 + k < 2400 from by omega) dX20_undo_40 (fun M_8 hM_9 hF_10 => ?_)
        have hM_11 : MH G mo ad (sl (sz σ 1 (nI R0)) 4 (va_up (mfill (σ.2.2.1 4) 0 k (fun k => σ.2.2.1 26 (2400 * c0 + k))) (0 + k) (σ.2.2.1 26 (2400 * c0 + k)))) M_8 := MH.cg hM_9 (by rw [sl_sl, sl_g])
        refine V_iinc (v := nI (k + 1)) C dX20_undo_41 (k := 2) rfl (nI_add k 1) (Nat.le_of_ble_eq_true rfl) [(0, .ref mo), (1, .int (nI c0)), (2, .int (nI (k + 1)))] [1, 2, 0] rfl ?_
        refine V_goto (tgt := 12) C dX20_undo_44 (by decide) ?_
        exact ih12 (k + 1) _ (by omega) (by omega) (MH.cg hM_11 (by rw [mfill_s rfl])) hF_10
  refine V_loc (L' := [(0, .ref mo), (1, .int (nI c0)), (2, .int 0)]) [0, 1, 2] rfl ?_
  exact lp_12 _ 0 _ (Nat.lt_succ_self _) (Nat.zero_le _) (MH.cg hM_2 (by rw [mfill_0]; exact (sl_id _ _).symm)) hF_3
set_option maxHeartbeats 1000000 in
theorem c_X20_end (l : Launch) (hl : l.stackTraces = false) (G : hp_G) (X : Nat → Nat) (N0 : Nat) (mo : Nat) (ad : Nat → Nat) (σ : MS) (M : hp_h) (hM : MH G mo ad σ M) (c0 A : Nat) (w0 : Int64) (hc : c0 < 6) (hC : σ.1 20 = nI (c0 + 1)) (hA : A < 12) (eA : σ.2.1 22 c0 = nI A) : HM l yX20_end (ws_ yX20_end cX20_end 4 none) 0 0 0 0 G X N0 [.ref mo, .long w0] M (PM G mo ad M none (mf_end c0 w0 σ)) PX0 := by
  refine HM.of hl [(0, .ref mo), (1, .long w0)] (by decide +kernel) rfl (Nat.le_of_ble_eq_true rfl) ?_
  intro p e s m args below meth c C hname
  have hF : MFr mo ad M M := MFr.rf
  refine V_aload_n C dX20_end_0 rfl 0 rfl ?_
  refine M_get C hM (.int (nI (c0 + 1))) f_X20_287_9 (congrArg (fun z => some (Value.int z)) hC) dX20_end_1 ?_
  refine V_iconst (v := 1) C dX20_end_4 rfl ?_
  refine V_isub C dX20_end_5 ?_
  refine V_st (st' := [.int (nI c0)]) (by rw [show ((nI (c0 + 1)) - 1) = (nI c0) from nI_pred c0]) ?_
  refine V_istore_n C dX20_end_6 rfl (Nat.le_of_ble_eq_true rfl) [(0, .ref mo), (1, .long w0), (3, .int (nI c0))] [1, 2, 0] rfl ?_
  refine V_iload_n C dX20_end_7 rfl 2 rfl ?_
  refine V_if_ne (tgt := 33) C dX20_end_8 (by decide) (fun c_8 => ?_) (fun c_8 => ?_)
  · refine V_aload_n C dX20_end_33 rfl 0 rfl ?_
    refine M_get C hM (.ref (ad 22)) f_X20_45_9 rfl dX20_end_34 ?_
    refine V_iload_n C dX20_end_37 rfl 2 rfl ?_
    refine V_dup2_11 C dX20_end_38 rfl rfl ?_
    refine V_pc (pc1 := 39) rfl ?_
    refine M_iald C hM 22 c0 rfl rfl (show c0 < 7 from by omega) dX20_end_39 ?_
    refine V_iconst (v := 1) C dX20_end_40 rfl ?_
    refine V_iadd C dX20_end_41 ?_
    refine M_iast C hM hF 22 c0 rfl rfl (show c0 < 7 from by omega) dX20_end_42 (fun M_1 hM_2 hF_3 => ?_)
    refine V_vret C dX20_end_43 rfl ?_ (by first | exact Nat.le_of_ble_eq_true rfl | omega | (dsimp only; omega)) (by first | exact Nat.le_of_ble_eq_true rfl | omega | (dsimp only; omega))
    refine ⟨rfl, MH.cg hM_2 ?_, hF_3⟩
    unfold mf_end
    rw [if_neg (fun z => c_8 (by rw [z]; rfl))]
  · refine V_aload_n C dX20_end_11 rfl 0 rfl ?_
    refine M_get C hM (.ref (ad 32)) f_X20_76_9 rfl dX20_end_12 ?_
    refine V_aload_n C dX20_end_15 rfl 0 rfl ?_
    refine M_get C hM (.ref (ad 22)) f_X20_45_9 rfl dX20_end_16 ?_
    refine V_pc (pc1 := 19) rfl ?_
    refine V_iload_n C dX20_end_19 rfl 2 rfl ?_
    refine M_iald C hM 22 c0 rfl rfl (show c0 < 7 from by omega) dX20_end_20 ?_
    refine V_st (st' := [.int (nI A), .ref (ad 32)]) (by rw [show (σ.2.1 22 c0) = (nI A) from eA]) ?_
    refine V_lload_n C dX20_end_21 rfl 1 rfl ?_
    refine M_last C hM hF 32 A rfl rfl (show A < 12 from hA) dX20_end_22 (fun M_4 hM_5 hF_6 => ?_)
    refine V_aload_n C dX20_end_23 rfl 0 rfl ?_
    refine V_dup C dX20_end_24 rfl ?_
    refine M_get C hM_5 (.int (σ.1 30)) f_X20_70_9 rfl dX20_end_25 ?_
    refine V_iconst (v := 1) C dX20_end_28 rfl ?_
    refine V_iadd C dX20_end_29 ?_
    refine M_puti C hM_5 hF_6 f_X20_70_9 (by decide) mF_30 dX20_end_30 (fun M_7 hM_8 hF_9 => ?_)
    refine V_aload_n C dX20_end_33 rfl 0 rfl ?_
    refine M_get C hM_8 (.ref (ad 22)) f_X20_45_9 rfl dX20_end_34 ?_
    refine V_pc (pc1 := 37) rfl ?_
    refine V_iload_n C dX20_end_37 rfl 2 rfl ?_
    refine V_dup2_11 C dX20_end_38 rfl rfl ?_
    refine M_iald C hM_8 22 c0 rfl rfl (show c0 < 7 from by omega) dX20_end_39 ?_
    refine V_st (st' := [.int (σ.2.1 22 c0), .int (nI c0), .ref (ad 22)]) rfl ?_
    refine V_iconst (v := 1) C dX20_end_40 rfl ?_
    refine V_iadd C dX20_end_41 ?_
    refine M_iast C hM_8 hF_9 22 c0 rfl rfl (show c0 < 7 from by omega) dX20_end_42 (fun M_10 hM_11 hF_12 => ?_)
    refine V_vret C dX20_end_43 rfl ?_ (by first | exact Nat.le_of_ble_eq_true rfl | omega | (dsimp only; omega)) (by first | exact Nat.le_of_ble_eq_true rfl | omega | (dsimp only; omega))
    refine ⟨rfl, MH.cg hM_11 ?_, hF_12⟩
    unfold mf_end
    have e0 : c0 = 0 := (nI_eq (b := 0) (by omega) (by omega)).mp c_8
    subst e0
    rw [if_pos rfl, eA, nI_clamp (by omega)]
    rfl
set_option maxHeartbeats 1000000 in
theorem c_X20_fail (l : Launch) (hl : l.stackTraces = false) (G : hp_G) (X : Nat → Nat) (N0 : Nat) (mo : Nat) (ad : Nat → Nat) (σ : MS) (M : hp_h) (hM : MH G mo ad σ M) (f0 : Int32) (C0 : Nat) (hK0 : FK C0 σ) : HM l yX20_fail (ws_ yX20_fail cX20_fail 4 (some .int)) 1 23 0 0 G X N0 [.ref mo, .int f0] M (PM G mo ad M (some (.int (mf_fail f0 C0 σ).1)) (mf_fail f0 C0 σ).2) PX0 := by
  refine HM.of hl [(0, .ref mo), (1, .int f0)] (by decide +kernel) rfl (Nat.le_of_ble_eq_true rfl) ?_
  intro p e s m args below meth c C hname
  have hF : MFr mo ad M M := MFr.rf
  have lp_0 : ∀ (fu9 : Nat) (Cn : Nat) (σ1 : MS) (M0 : hp_h), Cn < fu9 → (FK Cn σ1) → (mf_fail f0 Cn σ1 = mf_fail f0 C0 σ) → MH G mo ad σ1 M0 → MFr mo ad M M0 → V p l e { frames := 1, cells := 0, slots := 0, locals := 23 } s m args below meth c G N0 4 (QV below G N0 (PM G mo ad M (some (.int (mf_fail f0 C0 σ).1)) (mf_fail f0 C0 σ).2) PX0 args s (0) (0)) (0) (0) M0 0 [(0, .ref mo), (1, .int f0)] [] := by
    intro fu9
    induction fu9 with
    | zero => intro Cn σ1 M0 hfu9; exact absurd hfu9 (Nat.not_lt_zero _)
    | succ fu9 ih0 =>
      intro Cn σ1 M0 hfu9 hK heq hM0 hF0
      refine V_aload_n C dX20_fail_0 rfl 0 rfl ?_
      refine M_get C hM0 (.int (nI Cn)) f_X20_287_9 (congrArg (fun z => some (Value.int z)) hK.1) dX20_fail_1 ?_
      refine V_if_le (tgt := 95) C dX20_fail_4 (by decide) (fun c_4 => ?_) (fun c_4 => ?_)
      · refine V_iload_n C dX20_fail_95 rfl 1 rfl ?_
        refine V_iret C dX20_fail_96 rfl ?_ (by first | exact Nat.le_of_ble_eq_true rfl | omega | (dsimp only; omega)) (by first | exact Nat.le_of_ble_eq_true rfl | omega | (dsimp only; omega))
        have hC0 : Cn = 0 := by rcases Nat.eq_zero_or_pos Cn with z | z; (exact z); exact absurd c_4 (nI_nle z (by have := hK.2.1; omega))
        have e9 : mf_fail f0 C0 σ = (f0, σ1) := by
          rw [← heq, hC0]
          rfl
        rw [e9]; exact ⟨rfl, hM0, hF0⟩
      · obtain ⟨c9, rfl⟩ : ∃ c9, Cn = c9 + 1 := by
          rcases Cn with _ | c9
          · exact absurd (show nI 0 ≤ 0 by decide) c_4
          · exact ⟨c9, rfl⟩
        have hC6 := hK.2.1
        obtain ⟨R9, hR9, eR9⟩ := hK.2.2.1 c9 (by omega)
        refine V_aload_n C dX20_fail_7 rfl 0 rfl ?_
        refine M_get C hM0 (.int (nI (c9 + 1))) f_X20_287_9 (congrArg (fun z => some (Value.int z)) hK.1) dX20_fail_8 ?_
        refine V_iconst (v := 1) C dX20_fail_11 rfl ?_
        refine V_isub C dX20_fail_12 ?_
        refine V_st (st' := [.int (nI c9)]) (by rw [show ((nI (c9 + 1)) - 1) = (nI c9) from nI_pred c9]) ?_
        refine V_istore_n C dX20_fail_13 rfl (Nat.le_of_ble_eq_true rfl) [(0, .ref mo), (1, .int f0), (2, .int (nI c9))] [1, 2, 0] rfl ?_
        refine V_aload_n C dX20_fail_14 rfl 0 rfl ?_
        refine V_iload_n C dX20_fail_15 rfl 2 rfl ?_
        refine V_callV C (c_X20_undo l hl G X N0 mo ad σ1 M0 hM0 c9 R9 (by omega) hR9 eR9) cs_X20_290_9 hM0.1 (show CLS[9]? = some (RX20, TX20, 33) from rfl) rfl rfl ⟨Nat.le_of_ble_eq_true rfl, Nat.le_of_ble_eq_true rfl⟩ ⟨(by first | exact Nat.le_of_ble_eq_true rfl | omega | (dsimp only; omega)), (by first | exact Nat.le_of_ble_eq_true rfl | omega | (dsimp only; omega))⟩ (Nat.le_of_ble_eq_true rfl) dX20_fail_16 (fun _ _ _ h => px0 h) ?_
        rintro _ M_2 ⟨rfl, hM_3, hF_4⟩
        refine V_st (st' := []) rfl ?_
        have hF_5 := hF0.trans hF_4
        refine V_pc (pc1 := 19) rfl ?_
        refine V_aload_n C dX20_fail_19 rfl 0 rfl ?_
        refine M_get C hM_3 (.ref (ad 23)) f_X20_48_9 rfl dX20_fail_20 ?_
        refine V_iload_n C dX20_fail_23 rfl 2 rfl ?_
        refine M_iald C hM_3 23 c9 rfl rfl (show c9 < 7 from by omega) dX20_fail_24 ?_
        refine V_st (st' := [.int (σ1.2.1 23 c9)]) (by rw [show ((mf_undo c9 R9 σ1).2.1 23 c9) = (σ1.2.1 23 c9) from rfl]) ?_
        refine V_aload_n C dX20_fail_25 rfl 0 rfl ?_
        refine M_get C hM_3 (.ref (ad 24)) f_X20_51_9 rfl dX20_fail_26 ?_
        refine V_iload_n C dX20_fail_29 rfl 2 rfl ?_
        refine M_iald C hM_3 24 c9 rfl rfl (show c9 < 7 from by omega) dX20_fail_30 ?_
        refine V_st (st' := [.int (σ1.2.1 24 c9), .int (σ1.2.1 23 c9)]) (by rw [show ((mf_undo c9 R9 σ1).2.1 24 c9) = (σ1.2.1 24 c9) from rfl]) ?_
        refine V_isub C dX20_fail_31 ?_
        refine V_istore_n C dX20_fail_32 rfl (Nat.le_of_ble_eq_true rfl) [(0, .ref mo), (1, .int f0), (2, .int (nI c9)), (3, .int ((σ1.2.1 23 c9) - (σ1.2.1 24 c9)))] [1, 2, 3, 0] rfl ?_
        refine V_aload_n C dX20_fail_33 rfl 0 rfl ?_
        refine V_dup C dX20_fail_34 rfl ?_
        refine V_pc (pc1 := 35) rfl ?_
        refine M_get C hM_3 (.int (nI (c9 + 1))) f_X20_287_9 (congrArg (fun z => some (Value.int z)) hK.1) dX20_fail_35 ?_
        refine V_iconst (v := 1) C dX20_fail_38 rfl ?_
        refine V_isub C dX20_fail_39 ?_
        refine V_st (st' := [.int (nI c9), .ref mo]) (by rw [show ((nI (c9 + 1)) - 1) = (nI c9) from nI_pred c9]) ?_
        refine M_puti C hM_3 hF_5 f_X20_287_9 (by decide) mF_20 dX20_fail_40 (fun M_6 hM_7 hF_8 => ?_)
        refine V_aload_n C dX20_fail_43 rfl 0 rfl ?_
        refine M_get C hM_7 (.int (nI c9)) f_X20_287_9 rfl dX20_fail_44 ?_
        refine V_if_le (tgt := 92) C dX20_fail_47 (by decide) (fun c_47 => ?_) (fun c_47 => ?_)
        · have hc0 : c9 = 0 := by rcases Nat.eq_zero_or_pos c9 with z | z; (exact z); exact absurd c_47 (nI_nle z (by omega))
          have epop : mf_pop c9 σ1 = (sz (mf_undo c9 R9 σ1) 20 (nI c9)) := by
            unfold mf_pop
            rw [if_pos hc0, eR9, nI_clamp (by omega)]
          refine V_goto (tgt := 0) C dX20_fail_92 (by decide) ?_
          refine V_loc (L' := [(0, .ref mo), (1, .int f0)]) [0, 1] rfl ?_
          exact ih0 c9 (sz (mf_undo c9 R9 σ1) 20 (nI c9)) _ (by omega) (by first | (have := hK.pop; rw [epop] at this; exact this)) (by rw [← heq, ← epop]; show _ = (if _ then _ else _); rw [if_neg (fun z => absurd z.1 (by omega))]) (MH.cg hM_7 (rfl)) hF_8
        · obtain ⟨c8, rfl⟩ : ∃ c8, c9 = c8 + 1 := by
            rcases c9 with _ | c8
            · exact absurd (show nI 0 ≤ 0 by decide) c_47
            · exact ⟨c8, rfl⟩
          obtain ⟨P9, A9, hP9, hA9, eP9, eA9⟩ := hK.2.2.2 c8 (by omega)
          refine V_aload_n C dX20_fail_50 rfl 0 rfl ?_
          refine M_get C hM_7 (.ref (ad 24)) f_X20_51_9 rfl dX20_fail_51 ?_
          refine V_iload_n C dX20_fail_54 rfl 2 rfl ?_
          refine V_iconst (v := 1) C dX20_fail_55 rfl ?_
          refine V_isub C dX20_fail_56 ?_
          refine V_st (st' := [.int (nI c8), .ref (ad 24)]) (by rw [show ((nI (c8 + 1)) - 1) = (nI c8) from nI_pred c8]) ?_
          refine V_pc (pc1 := 57) rfl ?_
          refine V_dup2_11 C dX20_fail_57 rfl rfl ?_
          refine M_iald C hM_7 24 c8 rfl rfl (show c8 < 7 from by omega) dX20_fail_58 ?_
          refine V_st (st' := [.int (((mf_undo (c8 + 1) R9 σ1).2.1 24) c8), .int (nI c8), .ref (ad 24)]) rfl ?_
          refine V_st (st' := [.int (σ1.2.1 24 c8), .int (nI c8), .ref (ad 24)]) (by rw [show (((mf_undo (c8 + 1) R9 σ1).2.1 24) c8) = (σ1.2.1 24 c8) from rfl]) ?_
          refine V_iload_n C dX20_fail_59 rfl 3 rfl ?_
          refine V_isub C dX20_fail_60 ?_
          refine M_iast C hM_7 hF_8 24 c8 rfl rfl (show c8 < 7 from by omega) dX20_fail_61 (fun M_9 hM_10 hF_11 => ?_)
          refine V_aload_n C dX20_fail_62 rfl 0 rfl ?_
          refine V_iload_n C dX20_fail_63 rfl 2 rfl ?_
          refine V_iconst (v := 1) C dX20_fail_64 rfl ?_
          refine V_isub C dX20_fail_65 ?_
          refine V_st (st' := [.int (nI c8), .ref mo]) (by rw [show ((nI (c8 + 1)) - 1) = (nI c8) from nI_pred c8]) ?_
          refine V_iconst (v := 2) C dX20_fail_66 rfl ?_
          refine V_callV C (c_X20_actOf l hl G X N0 mo ad (si (sz (mf_undo (c8 + 1) R9 σ1) 20 (nI (c8 + 1))) 24 (va_up ((mf_undo (c8 + 1) R9 σ1).2.1 24) c8 ((σ1.2.1 24 c8) - ((σ1.2.1 23 (c8 + 1)) - (σ1.2.1 24 (c8 + 1)))))) M_9 hM_10 c8 2 P9 A9 (by omega) (by omega) hP9 hA9 eP9 eA9) cs_X20_294_9 hM_10.1 (show CLS[9]? = some (RX20, TX20, 33) from rfl) rfl rfl ⟨Nat.le_of_ble_eq_true rfl, Nat.le_of_ble_eq_true rfl⟩ ⟨(by first | exact Nat.le_of_ble_eq_true rfl | omega | (dsimp only; omega)), (by first | exact Nat.le_of_ble_eq_true rfl | omega | (dsimp only; omega))⟩ (Nat.le_of_ble_eq_true rfl) dX20_fail_67 (fun _ _ _ h => px0 h) ?_
          rintro _ _ ⟨rfl, rfl⟩
          refine V_st (st' := [.int (mf_act (si (sz (mf_undo (c8 + 1) R9 σ1) 20 (nI (c8 + 1))) 24 (va_up ((mf_undo (c8 + 1) R9 σ1).2.1 24) c8 ((σ1.2.1 24 c8) - ((σ1.2.1 23 (c8 + 1)) - (σ1.2.1 24 (c8 + 1)))))) c8 2)]) rfl ?_
          have epop : mf_pop (c8 + 1) σ1 = (si (sz (mf_undo (c8 + 1) R9 σ1) 20 (nI (c8 + 1))) 24 (va_up ((mf_undo (c8 + 1) R9 σ1).2.1 24) c8 ((σ1.2.1 24 c8) - ((σ1.2.1 23 (c8 + 1)) - (σ1.2.1 24 (c8 + 1)))))) := by
            unfold mf_pop
            rw [if_neg (by omega), eR9, nI_clamp (by omega)]
            rfl
          refine V_iconst (v := 1) C dX20_fail_70 rfl ?_
          refine V_pc (pc1 := 71) rfl ?_
          refine V_icmp_ne (tgt := 92) C dX20_fail_71 (by decide) (fun c_71 => ?_) (fun c_71 => ?_)
          · refine V_goto (tgt := 0) C dX20_fail_92 (by decide) ?_
            refine V_loc (L' := [(0, .ref mo), (1, .int f0)]) [0, 1] rfl ?_
            exact ih0 (c8 + 1) (si (sz (mf_undo (c8 + 1) R9 σ1) 20 (nI (c8 + 1))) 24 (va_up ((mf_undo (c8 + 1) R9 σ1).2.1 24) c8 ((σ1.2.1 24 c8) - ((σ1.2.1 23 (c8 + 1)) - (σ1.2.1 24 (c8 + 1)))))) _ (by omega) (by first | (have := hK.pop; rw [epop] at this; exact this)) (by rw [← heq, ← epop]; show _ = (if _ then _ else _); rw [if_neg (fun z => c_71 (by rw [← epop]; exact z.2))]) (MH.cg hM_10 (rfl)) hF_11
          · refine V_aload_n C dX20_fail_74 rfl 0 rfl ?_
            refine V_dup C dX20_fail_75 rfl ?_
            refine M_get C hM_10 (.int ((mf_undo (c8 + 1) R9 σ1).1 31)) f_X20_73_9 rfl dX20_fail_76 ?_
            refine V_iconst (v := 1) C dX20_fail_79 rfl ?_
            refine V_iadd C dX20_fail_80 ?_
            refine M_puti C hM_10 hF_11 f_X20_73_9 (by decide) mF_31 dX20_fail_81 (fun M_12 hM_13 hF_14 => ?_)
            refine V_aload_n C dX20_fail_84 rfl 0 rfl ?_
            refine V_iload_n C dX20_fail_85 rfl 1 rfl ?_
            refine V_i2l (v := f0.toInt64) C dX20_fail_86 rfl ?_
            refine V_callV C (c_X20_end l hl G X N0 mo ad (sz (si (sz (mf_undo (c8 + 1) R9 σ1) 20 (nI (c8 + 1))) 24 (va_up ((mf_undo (c8 + 1) R9 σ1).2.1 24) c8 ((σ1.2.1 24 c8) - ((σ1.2.1 23 (c8 + 1)) - (σ1.2.1 24 (c8 + 1)))))) 31 (((mf_undo (c8 + 1) R9 σ1).1 31) + 1)) M_12 hM_13 c8 A9 f0.toInt64 (by omega) rfl hA9 eA9) cs_X20_297_9 hM_13.1 (show CLS[9]? = some (RX20, TX20, 33) from rfl) rfl rfl ⟨Nat.le_of_ble_eq_true rfl, Nat.le_of_ble_eq_true rfl⟩ ⟨(by first | exact Nat.le_of_ble_eq_true rfl | omega | (dsimp only; omega)), (by first | exact Nat.le_of_ble_eq_true rfl | omega | (dsimp only; omega))⟩ (Nat.le_of_ble_eq_true rfl) dX20_fail_87 (fun _ _ _ h => px0 h) ?_
            rintro _ M_15 ⟨rfl, hM_16, hF_17⟩
            refine V_st (st' := []) rfl ?_
            have hF_18 := hF_14.trans hF_17
            refine V_iconst (v := 0) C dX20_fail_90 rfl ?_
            refine V_pc (pc1 := 91) rfl ?_
            refine V_iret C dX20_fail_91 rfl ?_ (by first | exact Nat.le_of_ble_eq_true rfl | omega | (dsimp only; omega)) (by first | exact Nat.le_of_ble_eq_true rfl | omega | (dsimp only; omega))
            have e9 : mf_fail f0 C0 σ = (0, (mf_end c8 f0.toInt64 (sz (si (sz (mf_undo (c8 + 1) R9 σ1) 20 (nI (c8 + 1))) 24 (va_up ((mf_undo (c8 + 1) R9 σ1).2.1 24) c8 ((σ1.2.1 24 c8) - ((σ1.2.1 23 (c8 + 1)) - (σ1.2.1 24 (c8 + 1)))))) 31 (((mf_undo (c8 + 1) R9 σ1).1 31) + 1)))) := by
              rw [← heq]
              show (if _ then _ else _) = _
              rw [if_pos ⟨by omega, by rw [epop]; exact c_71⟩, epop]
              rfl
            rw [e9]; exact ⟨rfl, hM_16, hF_18⟩
  refine V_loc (L' := [(0, .ref mo), (1, .int f0)]) [0, 1] rfl ?_
  exact lp_0 _ C0 σ _ (Nat.lt_succ_self _) hK0 rfl (MH.cg hM (rfl)) hF
