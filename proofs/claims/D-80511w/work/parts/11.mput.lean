set_option maxRecDepth 100000
theorem bI_n {P : Prop} [Decidable P] : ¬ bI P = 0 ↔ P := by unfold bI; split <;> simp_all
abbrev kd (σ : MS) (r : Nat) : Nat := (σ.2.1 2 r).toNatClampNeg
abbrev ln (σ : MS) (r : Nat) : Nat := (σ.2.1 3 r).toNatClampNeg
abbrev iln (σ : MS) (j : Nat) : Nat := (σ.2.1 9 j).toNatClampNeg
abbrev psz (σ : MS) (p : Nat) : Nat := (σ.2.1 16 p).toNatClampNeg
abbrev el (σ : MS) (r i : Nat) : Int64 := σ.2.2.1 4 (40 * r + i)
/-- what holds of the reference's state between two calls (and within them, of these parts) -/
def MI (σ : MS) : Prop :=
  (σ.1 1 = nI (nR σ) ∧ nR σ ≤ 60) ∧ (σ.1 5 = nI (nU σ) ∧ nU σ ≤ 30) ∧ (σ.1 8 = nI (nJ σ) ∧ nJ σ ≤ 8000) ∧
  (∀ r, r < nR σ → σ.2.1 2 r = nI (kd σ r) ∧ kd σ r ≤ 10) ∧ (∀ r, r < nR σ → σ.2.1 3 r = nI (ln σ r) ∧ ln σ r ≤ 40) ∧
  (∀ u, u < nU σ → ∃ c, c ≤ 2 ∧ σ.2.1 6 u = nI c) ∧ (∀ j, j < nJ σ → σ.2.1 9 j = nI (iln σ j) ∧ iln σ j ≤ 40) ∧
  (∀ r i, r < nR σ → i < ln σ r → (kd σ r = 8 ∨ kd σ r = 9 → el σ r i = -1 ∨ ∃ u, u < nU σ ∧ el σ r i = lN u) ∧ (kd σ r = 10 → el σ r i = -1 ∨ ∃ j, j < nJ σ ∧ el σ r i = lN j)) ∧
  (∀ p, p < 6 → σ.2.1 16 p = nI (psz σ p) ∧ psz σ p ≤ 12) ∧
  (∀ p k, p < 6 → k < psz σ p → ∃ h, h ≤ 12 ∧ σ.2.1 17 (6 * (12 * p + k)) = nI h ∧ (h = 10 → (∃ q, q < 6 ∧ σ.2.1 17 (6 * (12 * p + k) + 1) = nI q) ∧ (σ.2.1 17 (6 * (12 * p + k) + 2) = 0 ∨ σ.2.1 17 (6 * (12 * p + k) + 2) = 1)))
theorem MI.R {σ : MS} (h : MI σ) : σ.1 1 = nI (nR σ) ∧ nR σ ≤ 60 := h.1
theorem MI.U {σ : MS} (h : MI σ) : σ.1 5 = nI (nU σ) ∧ nU σ ≤ 30 := h.2.1
theorem MI.J {σ : MS} (h : MI σ) : σ.1 8 = nI (nJ σ) ∧ nJ σ ≤ 8000 := h.2.2.1
theorem MI.k {σ : MS} (h : MI σ) {r : Nat} (hr : r < nR σ) : σ.2.1 2 r = nI (kd σ r) ∧ kd σ r ≤ 10 := h.2.2.2.1 r hr
theorem MI.l {σ : MS} (h : MI σ) {r : Nat} (hr : r < nR σ) : σ.2.1 3 r = nI (ln σ r) ∧ ln σ r ≤ 40 := h.2.2.2.2.1 r hr
theorem MI.c {σ : MS} (h : MI σ) {u : Nat} (hu : u < nU σ) : ∃ c, c ≤ 2 ∧ σ.2.1 6 u = nI c := h.2.2.2.2.2.1 u hu
theorem MI.il {σ : MS} (h : MI σ) {j : Nat} (hj : j < nJ σ) : σ.2.1 9 j = nI (iln σ j) ∧ iln σ j ≤ 40 := h.2.2.2.2.2.2.1 j hj
theorem MI.eu {σ : MS} (h : MI σ) {r i : Nat} (hr : r < nR σ) (hi : i < ln σ r) (hk : kd σ r = 8 ∨ kd σ r = 9) : el σ r i = -1 ∨ ∃ u, u < nU σ ∧ el σ r i = lN u := (h.2.2.2.2.2.2.2.1 r i hr hi).1 hk
theorem MI.ej {σ : MS} (h : MI σ) {r i : Nat} (hr : r < nR σ) (hi : i < ln σ r) (hk : kd σ r = 10) : el σ r i = -1 ∨ ∃ j, j < nJ σ ∧ el σ r i = lN j := (h.2.2.2.2.2.2.2.1 r i hr hi).2 hk
theorem MI.p {σ : MS} (h : MI σ) {p : Nat} (hp : p < 6) : σ.2.1 16 p = nI (psz σ p) ∧ psz σ p ≤ 12 := h.2.2.2.2.2.2.2.2.1 p hp
theorem MI.a {σ : MS} (h : MI σ) {p k : Nat} (hp : p < 6) (hk : k < psz σ p) : ∃ h, h ≤ 12 ∧ σ.2.1 17 (6 * (12 * p + k)) = nI h ∧ (h = 10 → (∃ q, q < 6 ∧ σ.2.1 17 (6 * (12 * p + k) + 1) = nI q) ∧ (σ.2.1 17 (6 * (12 * p + k) + 2) = 0 ∨ σ.2.1 17 (6 * (12 * p + k) + 2) = 1)) := h.2.2.2.2.2.2.2.2.2 p k hp hk
theorem MI.row {σ : MS} (h : MI σ) {r : Int32} (hr : ¬ r < 0 ∧ r < σ.1 1) : ∃ a : Nat, a < nR σ ∧ r = nI a := (isRow_n h.R.1 (by have := h.R.2; omega)).mp hr
def mf_row (R : Nat) (k n : Int32) (σ : MS) : Int32 × MS := if (0 ≤ k.toInt64 ∧ k.toInt64 ≤ 10) ∧ (0 ≤ n.toInt64 ∧ n.toInt64 ≤ 40) then (if R = 60 then (-104, σ) else (nI R, mf_newRow R n.toNatClampNeg k σ)) else (-102, σ)
def mf_unit (U : Nat) (c n : Int32) (σ : MS) : Int32 × MS := if 0 ≤ c.toInt64 ∧ c.toInt64 ≤ 2 then (if U = 30 then (-104, σ) else (nI U, sz (si (si σ 6 (va_up (σ.2.1 6) U c)) 7 (va_up (σ.2.1 7) U n)) 5 (nI (U + 1)))) else (-102, σ)
def mf_newInner (J : Nat) (n : Int32) (σ : MS) : MS := sz (si (si σ 9 (va_up (σ.2.1 9) J n)) 10 (mfill (σ.2.1 10) (40 * J) 40 (fun _ => 0))) 8 (nI (J + 1))
def mf_asE (k : Int32) (b : Int64) (σ : MS) : Int64 × MS :=
  if k = 0 then (b &&& 1, σ) else if k = 1 then (b.toInt32.toInt8.toInt32.toInt64, σ) else if k = 2 then ((b.toInt32.toUInt32 % 65536).toInt32.toInt64, σ) else if k = 3 then (b.toInt32.toInt16.toInt32.toInt64, σ)
  else if k = 4 then (b.toInt32.toInt64, σ) else if k = 6 then (mfB (mfO b.toInt32), σ) else if k = 7 then (mdB (mdO b), σ) else if k = 10 then (if b = -1 then (-1, σ) else (lN (nJ σ), mf_newInner (nJ σ) b.toInt32 σ)) else (b, σ)
theorem ix40' {a b : Int32} {r k : Nat} (ha : a = nI r) (hb : b = nI k) : (40 : Int32) * a + b = nI (40 * r + k) := by rw [ha, hb, ix40]
set_option maxHeartbeats 1000000 in
theorem c_X20_row (l : Launch) (hl : l.stackTraces = false) (G : hp_G) (X : Nat → Nat) (N0 : Nat) (mo : Nat) (ad : Nat → Nat) (σ : MS) (M : hp_h) (hM : MH G mo ad σ M) (k n : Int32) (R : Nat) (hR : σ.1 1 = nI R) (hR6 : R ≤ 60) : HM l yX20_row (ws_ yX20_row cX20_row 3 (some .int)) 1 25 0 0 G X N0 [.ref mo, .int k, .int n] M (PM G mo ad M (some (.int (mf_row R k n σ).1)) (mf_row R k n σ).2) PX0 := by
  refine HM.of hl [(0, .ref mo), (1, .int k), (2, .int n)] (by decide +kernel) rfl (Nat.le_of_ble_eq_true rfl) ?_
  intro p e s m args below meth c C hname
  have hF : MFr mo ad M M := MFr.rf
  refine V_iload_n C dX20_row_0 rfl 1 rfl ?_
  refine V_i2l (v := k.toInt64) C dX20_row_1 rfl ?_
  refine V_lconst (v := 0) C dX20_row_2 rfl ?_
  refine V_ldc2 (v := 10) C (C.w q1587) dX20_row_3 ?_
  refine V_callS C (c_X20_in l hl G X N0 M k.toInt64 0 10) cs_X20_123 rfl rfl ⟨Nat.le_of_ble_eq_true rfl, Nat.le_of_ble_eq_true rfl⟩ ⟨(by first | exact Nat.le_of_ble_eq_true rfl | omega | (dsimp only; omega)), (by first | exact Nat.le_of_ble_eq_true rfl | omega | (dsimp only; omega))⟩ (Nat.le_of_ble_eq_true rfl) dX20_row_6 (fun _ _ _ h => px0 h) ?_
  rintro _ _ ⟨rfl, rfl⟩
  refine V_st (st' := [.int (bI (0 ≤ k.toInt64 ∧ k.toInt64 ≤ 10))]) rfl ?_
  refine V_if_eq (tgt := 24) C dX20_row_9 (by decide) (fun c_9 => ?_) (fun c_9 => ?_)
  · refine V_bipush (v := -102) C dX20_row_24 rfl ?_
    refine V_iret C dX20_row_26 rfl ?_ (by first | exact Nat.le_of_ble_eq_true rfl | omega | (dsimp only; omega)) (by first | exact Nat.le_of_ble_eq_true rfl | omega | (dsimp only; omega))
    have e9 : mf_row R k n σ = (-102, σ) := by
      (try simp only [lg_cmp_lt, lg_cmp_gt, lg_cmp_ge, lg_cmp_le, lg_cmp_eq, bI_0, bI_n, Classical.not_not] at c_9)
      unfold mf_row
      clear C
      grind
    rw [e9]; exact ⟨rfl, hM, hF⟩
  · refine V_iload_n C dX20_row_12 rfl 2 rfl ?_
    refine V_i2l (v := n.toInt64) C dX20_row_13 rfl ?_
    refine V_lconst (v := 0) C dX20_row_14 rfl ?_
    refine V_ldc2 (v := 40) C (C.w q1591) dX20_row_15 ?_
    refine V_callS C (c_X20_in l hl G X N0 M n.toInt64 0 40) cs_X20_123 rfl rfl ⟨Nat.le_of_ble_eq_true rfl, Nat.le_of_ble_eq_true rfl⟩ ⟨(by first | exact Nat.le_of_ble_eq_true rfl | omega | (dsimp only; omega)), (by first | exact Nat.le_of_ble_eq_true rfl | omega | (dsimp only; omega))⟩ (Nat.le_of_ble_eq_true rfl) dX20_row_18 (fun _ _ _ h => px0 h) ?_
    rintro _ _ ⟨rfl, rfl⟩
    refine V_st (st' := [.int (bI (0 ≤ n.toInt64 ∧ n.toInt64 ≤ 40))]) rfl ?_
    refine V_pc (pc1 := 21) rfl ?_
    refine V_if_ne (tgt := 27) C dX20_row_21 (by decide) (fun c_21 => ?_) (fun c_21 => ?_)
    · refine V_aload_n C dX20_row_27 rfl 0 rfl ?_
      refine M_get C hM (.int (nI R)) f_X20_103_9 (congrArg (fun z => some (Value.int z)) hR) dX20_row_28 ?_
      refine V_bipush (v := 60) C dX20_row_31 rfl ?_
      refine V_icmp_ne (tgt := 39) C dX20_row_33 (by decide) (fun c_33 => ?_) (fun c_33 => ?_)
      · have h60 : R < 60 := by rcases Nat.lt_or_ge R 60 with z | z; (exact z); exact absurd (show nI R = 60 from by rw [show R = 60 by omega]; rfl) c_33
        obtain ⟨N, hN, hn⟩ := (in64 (k := 40) (by decide)).mp (bI_n.mp c_21)
        refine V_aload_n C dX20_row_39 rfl 0 rfl ?_
        refine V_iload_n C dX20_row_40 rfl 1 rfl ?_
        refine V_iload_n C dX20_row_41 rfl 2 rfl ?_
        refine V_callV C (c_X20_newRow l hl G X N0 mo ad σ M hM R N k n hn hR h60 hN) cs_X20_129_9 hM.1 (show CLS[9]? = some (RX20, TX20, 33) from rfl) rfl rfl ⟨Nat.le_of_ble_eq_true rfl, Nat.le_of_ble_eq_true rfl⟩ ⟨(by first | exact Nat.le_of_ble_eq_true rfl | omega | (dsimp only; omega)), (by first | exact Nat.le_of_ble_eq_true rfl | omega | (dsimp only; omega))⟩ (Nat.le_of_ble_eq_true rfl) dX20_row_42 (fun _ _ _ h => px0 h) ?_
        rintro _ M_1 ⟨rfl, hM_2, hF_3⟩
        refine V_st (st' := [.int (nI R)]) rfl ?_
        have hF_4 := hF.trans hF_3
        refine V_iret C dX20_row_45 rfl ?_ (by first | exact Nat.le_of_ble_eq_true rfl | omega | (dsimp only; omega)) (by first | exact Nat.le_of_ble_eq_true rfl | omega | (dsimp only; omega))
        have e9 : mf_row R k n σ = (nI R, mf_newRow R N k σ) := by
          unfold mf_row
          rw [if_pos ⟨bI_n.mp c_9, bI_n.mp c_21⟩, if_neg (by omega), hn, nI_clamp (by omega)]
        rw [e9]; exact ⟨rfl, hM_2, hF_4⟩
      · have h60 : R = 60 := by have := (nI_eq (a := R) (b := 60) (by omega) (by omega)).mp c_33; exact this
        refine V_bipush (v := -104) C dX20_row_36 rfl ?_
        refine V_iret C dX20_row_38 rfl ?_ (by first | exact Nat.le_of_ble_eq_true rfl | omega | (dsimp only; omega)) (by first | exact Nat.le_of_ble_eq_true rfl | omega | (dsimp only; omega))
        have e9 : mf_row R k n σ = (-104, σ) := by
          (try simp only [lg_cmp_lt, lg_cmp_gt, lg_cmp_ge, lg_cmp_le, lg_cmp_eq, bI_0, bI_n, Classical.not_not] at c_9 c_21 c_33)
          unfold mf_row
          clear C
          grind
        rw [e9]; exact ⟨rfl, hM, hF⟩
    · refine V_bipush (v := -102) C dX20_row_24 rfl ?_
      refine V_iret C dX20_row_26 rfl ?_ (by first | exact Nat.le_of_ble_eq_true rfl | omega | (dsimp only; omega)) (by first | exact Nat.le_of_ble_eq_true rfl | omega | (dsimp only; omega))
      have e9 : mf_row R k n σ = (-102, σ) := by
        (try simp only [lg_cmp_lt, lg_cmp_gt, lg_cmp_ge, lg_cmp_le, lg_cmp_eq, bI_0, bI_n, Classical.not_not] at c_9 c_21)
        unfold mf_row
        clear C
        grind
      rw [e9]; exact ⟨rfl, hM, hF⟩
set_option maxHeartbeats 1000000 in
theorem c_X20_unit (l : Launch) (hl : l.stackTraces = false) (G : hp_G) (X : Nat → Nat) (N0 : Nat) (mo : Nat) (ad : Nat → Nat) (σ : MS) (M : hp_h) (hM : MH G mo ad σ M) (c0 n : Int32) (U : Nat) (hU : σ.1 5 = nI U) (hU3 : U ≤ 30) : HM l yX20_unit (ws_ yX20_unit cX20_unit 3 (some .int)) 1 25 0 0 G X N0 [.ref mo, .int c0, .int n] M (PM G mo ad M (some (.int (mf_unit U c0 n σ).1)) (mf_unit U c0 n σ).2) PX0 := by
  refine HM.of hl [(0, .ref mo), (1, .int c0), (2, .int n)] (by decide +kernel) rfl (Nat.le_of_ble_eq_true rfl) ?_
  intro p e s m args below meth c C hname
  have hF : MFr mo ad M M := MFr.rf
  refine V_iload_n C dX20_unit_0 rfl 1 rfl ?_
  refine V_i2l (v := c0.toInt64) C dX20_unit_1 rfl ?_
  refine V_lconst (v := 0) C dX20_unit_2 rfl ?_
  refine V_ldc2 (v := 2) C (C.w q1601) dX20_unit_3 ?_
  refine V_callS C (c_X20_in l hl G X N0 M c0.toInt64 0 2) cs_X20_123 rfl rfl ⟨Nat.le_of_ble_eq_true rfl, Nat.le_of_ble_eq_true rfl⟩ ⟨(by first | exact Nat.le_of_ble_eq_true rfl | omega | (dsimp only; omega)), (by first | exact Nat.le_of_ble_eq_true rfl | omega | (dsimp only; omega))⟩ (Nat.le_of_ble_eq_true rfl) dX20_unit_6 (fun _ _ _ h => px0 h) ?_
  rintro _ _ ⟨rfl, rfl⟩
  refine V_st (st' := [.int (bI (0 ≤ c0.toInt64 ∧ c0.toInt64 ≤ 2))]) rfl ?_
  refine V_if_ne (tgt := 15) C dX20_unit_9 (by decide) (fun c_9 => ?_) (fun c_9 => ?_)
  · refine V_aload_n C dX20_unit_15 rfl 0 rfl ?_
    refine M_get C hM (.int (nI U)) f_X20_137_9 (congrArg (fun z => some (Value.int z)) hU) dX20_unit_16 ?_
    refine V_bipush (v := 30) C dX20_unit_19 rfl ?_
    refine V_icmp_ne (tgt := 27) C dX20_unit_21 (by decide) (fun c_21 => ?_) (fun c_21 => ?_)
    · have h30 : U < 30 := by rcases Nat.lt_or_ge U 30 with z | z; (exact z); exact absurd (show nI U = 30 from by rw [show U = 30 by omega]; rfl) c_21
      refine V_aload_n C dX20_unit_27 rfl 0 rfl ?_
      refine V_pc (pc1 := 28) rfl ?_
      refine M_get C hM (.ref (ad 6)) f_X20_20_9 rfl dX20_unit_28 ?_
      refine V_aload_n C dX20_unit_31 rfl 0 rfl ?_
      refine M_get C hM (.int (nI U)) f_X20_137_9 (congrArg (fun z => some (Value.int z)) hU) dX20_unit_32 ?_
      refine V_iload_n C dX20_unit_35 rfl 1 rfl ?_
      refine M_iast C hM hF 6 U rfl rfl h30 dX20_unit_36 (fun M_1 hM_2 hF_3 => ?_)
      refine V_aload_n C dX20_unit_37 rfl 0 rfl ?_
      refine M_get C hM_2 (.ref (ad 7)) f_X20_23_9 rfl dX20_unit_38 ?_
      refine V_aload_n C dX20_unit_41 rfl 0 rfl ?_
      refine M_get C hM_2 (.int (nI U)) f_X20_137_9 (congrArg (fun z => some (Value.int z)) hU) dX20_unit_42 ?_
      refine V_iload_n C dX20_unit_45 rfl 2 rfl ?_
      refine M_iast C hM_2 hF_3 7 U rfl rfl h30 dX20_unit_46 (fun M_4 hM_5 hF_6 => ?_)
      refine V_aload_n C dX20_unit_47 rfl 0 rfl ?_
      refine V_pc (pc1 := 48) rfl ?_
      refine V_dup C dX20_unit_48 rfl ?_
      refine M_get C hM_5 (.int (nI U)) f_X20_137_9 (congrArg (fun z => some (Value.int z)) hU) dX20_unit_49 ?_
      refine V_iconst (v := 1) C dX20_unit_52 rfl ?_
      refine V_iadd C dX20_unit_53 ?_
      refine V_st (st' := [.int (nI (U + 1)), .ref mo]) (by rw [show ((nI U) + 1) = (nI (U + 1)) from nI_1 U]) ?_
      refine M_puti C hM_5 hF_6 f_X20_137_9 (by decide) mF_5 dX20_unit_54 (fun M_7 hM_8 hF_9 => ?_)
      refine V_aload_n C dX20_unit_57 rfl 0 rfl ?_
      refine M_get C hM_8 (.int (nI (U + 1))) f_X20_137_9 rfl dX20_unit_58 ?_
      refine V_iconst (v := 1) C dX20_unit_61 rfl ?_
      refine V_isub C dX20_unit_62 ?_
      refine V_iret C dX20_unit_63 rfl ?_ (by first | exact Nat.le_of_ble_eq_true rfl | omega | (dsimp only; omega)) (by first | exact Nat.le_of_ble_eq_true rfl | omega | (dsimp only; omega))
      have e9 : mf_unit U c0 n σ = (nI U, (sz (si (si σ 6 (va_up (σ.2.1 6) U c0)) 7 (va_up (σ.2.1 7) U n)) 5 (nI (U + 1)))) := by
        unfold mf_unit
        rw [if_pos (bI_n.mp c_9), if_neg (by omega)]
        try rfl
      rw [e9]; exact ⟨congrArg (fun z => some (Value.int z)) (nI_pred U), hM_8, hF_9⟩
    · have h30 : U = 30 := by have := (nI_eq (a := U) (b := 30) (by omega) (by omega)).mp c_21; exact this
      refine V_bipush (v := -104) C dX20_unit_24 rfl ?_
      refine V_pc (pc1 := 26) rfl ?_
      refine V_iret C dX20_unit_26 rfl ?_ (by first | exact Nat.le_of_ble_eq_true rfl | omega | (dsimp only; omega)) (by first | exact Nat.le_of_ble_eq_true rfl | omega | (dsimp only; omega))
      have e9 : mf_unit U c0 n σ = (-104, σ) := by
        (try simp only [lg_cmp_lt, lg_cmp_gt, lg_cmp_ge, lg_cmp_le, lg_cmp_eq, bI_0, bI_n, Classical.not_not] at c_9 c_21)
        unfold mf_unit
        clear C
        grind
      rw [e9]; exact ⟨rfl, hM, hF⟩
  · refine V_bipush (v := -102) C dX20_unit_12 rfl ?_
    refine V_iret C dX20_unit_14 rfl ?_ (by first | exact Nat.le_of_ble_eq_true rfl | omega | (dsimp only; omega)) (by first | exact Nat.le_of_ble_eq_true rfl | omega | (dsimp only; omega))
    have e9 : mf_unit U c0 n σ = (-102, σ) := by
      (try simp only [lg_cmp_lt, lg_cmp_gt, lg_cmp_ge, lg_cmp_le, lg_cmp_eq, bI_0, bI_n, Classical.not_not] at c_9)
      unfold mf_unit
      clear C
      grind
    rw [e9]; exact ⟨rfl, hM, hF⟩
theorem si_id (σ : MS) (k : Nat) : si σ k (σ.2.1 k) = σ := by
  unfold si
  congr 2
  funext j
  unfold va_up
  split
  · rename_i h; rw [h]
  · rfl
set_option maxHeartbeats 1000000 in
theorem c_X20_newInner (l : Launch) (hl : l.stackTraces = false) (G : hp_G) (X : Nat → Nat) (N0 : Nat) (mo : Nat) (ad : Nat → Nat) (σ : MS) (M : hp_h) (hM : MH G mo ad σ M) (n : Int32) (J : Nat) (hJ : σ.1 8 = nI J) (hJ8 : J < 8000) : HM l yX20_newInner (ws_ yX20_newInner cX20_newInner 3 (some .int)) 0 0 0 0 G X N0 [.ref mo, .int n] M (PM G mo ad M (some (.int (nI J))) (mf_newInner J n σ)) PX0 := by
  refine HM.of hl [(0, .ref mo), (1, .int n)] (by decide +kernel) rfl (Nat.le_of_ble_eq_true rfl) ?_
  intro p e s m args below meth c C hname
  have hF : MFr mo ad M M := MFr.rf
  refine V_aload_n C dX20_newInner_0 rfl 0 rfl ?_
  refine M_get C hM (.ref (ad 9)) f_X20_26_9 rfl dX20_newInner_1 ?_
  refine V_aload_n C dX20_newInner_4 rfl 0 rfl ?_
  refine M_get C hM (.int (nI J)) f_X20_158_9 (congrArg (fun z => some (Value.int z)) hJ) dX20_newInner_5 ?_
  refine V_iload_n C dX20_newInner_8 rfl 1 rfl ?_
  refine M_iast C hM hF 9 J rfl rfl hJ8 dX20_newInner_9 (fun M_1 hM_2 hF_3 => ?_)
  refine V_iconst (v := 0) C dX20_newInner_10 rfl ?_
  refine V_istore_n C dX20_newInner_11 rfl (Nat.le_of_ble_eq_true rfl) [(0, .ref mo), (1, .int n), (2, .int 0)] [1, 2, 0] rfl ?_
  have lp_12 : ∀ (fu9 : Nat) (i : Nat) (M12 : hp_h), 40 - i < fu9 → (i ≤ 40) → MH G mo ad (si (si σ 9 (va_up (σ.2.1 9) J n)) 10 (mfill (σ.2.1 10) (40 * J) i (fun _ => 0))) M12 → MFr mo ad M M12 → V p l e { frames := 0, cells := 0, slots := 0, locals := 0 } s m args below meth c G N0 3 (QV below G N0 (PM G mo ad M (some (.int (nI J))) (mf_newInner J n σ)) PX0 args s (0) (0)) (0) (0) M12 12 [(0, .ref mo), (1, .int n), (2, .int (nI i))] [] := by
    intro fu9
    induction fu9 with
    | zero => intro i M12 hfu9; exact absurd hfu9 (Nat.not_lt_zero _)
    | succ fu9 ih12 =>
      intro i M12 hfu9 hi hM12 hF12
      refine V_iload_n C dX20_newInner_12 rfl 2 rfl ?_
      refine V_bipush (v := 40) C dX20_newInner_13 rfl ?_
      refine V_icmp_ge (tgt := 39) C dX20_newInner_15 (by decide) (fun c_15 => ?_) (fun c_15 => ?_)
      · refine V_pc (pc1 := 39) rfl ?_
        refine V_aload_n C dX20_newInner_39 rfl 0 rfl ?_
        refine V_dup C dX20_newInner_40 rfl ?_
        refine M_get C hM12 (.int (nI J)) f_X20_158_9 (congrArg (fun z => some (Value.int z)) hJ) dX20_newInner_41 ?_
        refine V_iconst (v := 1) C dX20_newInner_44 rfl ?_
        refine V_iadd C dX20_newInner_45 ?_
        refine V_st (st' := [.int (nI (J + 1)), .ref mo]) (by rw [show ((nI J) + 1) = (nI (J + 1)) from nI_1 J]) ?_
        refine M_puti C hM12 hF12 f_X20_158_9 (by decide) mF_8 dX20_newInner_46 (fun M_5 hM_6 hF_7 => ?_)
        refine V_aload_n C dX20_newInner_49 rfl 0 rfl ?_
        refine M_get C hM_6 (.int (nI (J + 1))) f_X20_158_9 rfl dX20_newInner_50 ?_
        refine V_iconst (v := 1) C dX20_newInner_53 rfl ?_
        refine V_isub C dX20_newInner_54 ?_
        refine V_iret C dX20_newInner_55 rfl ?_ (by first | exact Nat.le_of_ble_eq_true rfl | omega | (dsimp only; omega)) (by first | exact Nat.le_of_ble_eq_true rfl | omega | (dsimp only; omega))
        refine ⟨congrArg (fun z => some (Value.int z)) (nI_pred J), MH.cg hM_6 ?_, hF_7⟩
        have e : i = 40 := by have := (nI_leI (a := 40) (b := i) (by omega) (by omega)).mp c_15; omega
        subst e; rfl
      · have hlt : i < 40 := nI_ltN (a := i) (b := 40) c_15 (by omega) (by omega)
        refine V_pc (pc1 := 18) rfl ?_
        refine V_aload_n C dX20_newInner_18 rfl 0 rfl ?_
        refine M_get C hM12 (.ref (ad 10)) f_X20_30_9 rfl dX20_newInner_19 ?_
        refine V_bipush (v := 40) C dX20_newInner_22 rfl ?_
        refine V_aload_n C dX20_newInner_24 rfl 0 rfl ?_
        refine M_get C hM12 (.int (nI J)) f_X20_158_9 (congrArg (fun z => some (Value.int z)) hJ) dX20_newInner_25 ?_
        refine V_imul C dX20_newInner_28 ?_
        refine V_iload_n C dX20_newInner_29 rfl 2 rfl ?_
        refine V_iadd C dX20_newInner_30 ?_
        refine V_iconst (v := 0) C dX20_newInner_31 rfl ?_
        refine M_iast C hM12 hF12 10 (40 * J + i) rfl (ix40 J i) (show 40 * J + i < 320000 from by omega) dX20_newInner_32 (fun M_8 hM_9 hF_10 => ?_)
        have hM_11 : MH G mo ad (si (si σ 9 (va_up (σ.2.1 9) J n)) 10 (va_up (mfill (σ.2.1 10) (40 * J) i (fun _ => 0)) (40 * J + i) 0)) M_8 := MH.cg hM_9 (by rw [si_si, si_g])
        refine V_iinc (v := nI (i + 1)) C dX20_newInner_33 (k := 2) rfl (nI_1 i) (Nat.le_of_ble_eq_true rfl) [(0, .ref mo), (1, .int n), (2, .int (nI (i + 1)))] [1, 2, 0] rfl ?_
        refine V_goto (tgt := 12) C dX20_newInner_36 (by decide) ?_
        exact ih12 (i + 1) _ (by omega) (by omega) (MH.cg hM_11 (by rw [mfill_s rfl])) hF_10
  refine V_loc (L' := [(0, .ref mo), (1, .int n), (2, .int 0)]) [0, 1, 2] rfl ?_
  exact lp_12 _ 0 _ (Nat.lt_succ_self _) (Nat.zero_le _) (MH.cg hM_2 (by rw [mfill_0]; exact (si_id _ _).symm)) hF_3
set_option maxHeartbeats 1000000 in
theorem c_X20_asElement_0 (l : Launch) (hl : l.stackTraces = false) (G : hp_G) (X : Nat → Nat) (N0 : Nat) (mo : Nat) (ad : Nat → Nat) (σ : MS) (M : hp_h) (hM : MH G mo ad σ M) (b : Int64) (J : Nat) (hJ : σ.1 8 = nI J) (hJ8 : J < 8000) : HM l yX20_asElement (ws_ yX20_asElement cX20_asElement 4 (some .long)) 3 65 0 0 G X N0 [.ref mo, .int 0, .long b] M (PM G mo ad M (some (.long (mf_asE 0 b σ).1)) (mf_asE 0 b σ).2) PX0 := by
  refine HM.of hl [(0, .ref mo), (1, .int 0), (2, .long b)] (by decide +kernel) rfl (Nat.le_of_ble_eq_true rfl) ?_
  intro p e s m args below meth c C hname
  have hF : MFr mo ad M M := MFr.rf
  refine V_iload_n C dX20_asElement_0 rfl 1 rfl ?_
  refine V_tableIn (tgt := 60) (off := 59) C dX20_asElement_1 (by decide) (by decide) (by decide) (by decide) ?_
  refine V_lload_n C dX20_asElement_60 rfl 2 rfl ?_
  refine V_lconst (v := 1) C dX20_asElement_61 rfl ?_
  refine V_land C dX20_asElement_62 ?_
  refine V_lret C dX20_asElement_63 rfl ?_ (by first | exact Nat.le_of_ble_eq_true rfl | omega | (dsimp only; omega)) (by first | exact Nat.le_of_ble_eq_true rfl | omega | (dsimp only; omega))
  exact ⟨rfl, hM, hF⟩
set_option maxHeartbeats 1000000 in
theorem c_X20_asElement_1 (l : Launch) (hl : l.stackTraces = false) (G : hp_G) (X : Nat → Nat) (N0 : Nat) (mo : Nat) (ad : Nat → Nat) (σ : MS) (M : hp_h) (hM : MH G mo ad σ M) (b : Int64) (J : Nat) (hJ : σ.1 8 = nI J) (hJ8 : J < 8000) : HM l yX20_asElement (ws_ yX20_asElement cX20_asElement 4 (some .long)) 3 65 0 0 G X N0 [.ref mo, .int 1, .long b] M (PM G mo ad M (some (.long (mf_asE 1 b σ).1)) (mf_asE 1 b σ).2) PX0 := by
  refine HM.of hl [(0, .ref mo), (1, .int 1), (2, .long b)] (by decide +kernel) rfl (Nat.le_of_ble_eq_true rfl) ?_
  intro p e s m args below meth c C hname
  have hF : MFr mo ad M M := MFr.rf
  refine V_iload_n C dX20_asElement_0 rfl 1 rfl ?_
  refine V_tableIn (tgt := 64) (off := 63) C dX20_asElement_1 (by decide) (by decide) (by decide) (by decide) ?_
  refine V_lload_n C dX20_asElement_64 rfl 2 rfl ?_
  refine V_l2i (v := b.toInt32) C dX20_asElement_65 rfl ?_
  refine V_i2b (v := b.toInt32.toInt8.toInt32) C dX20_asElement_66 rfl ?_
  refine V_i2l (v := b.toInt32.toInt8.toInt32.toInt64) C dX20_asElement_67 rfl ?_
  refine V_lret C dX20_asElement_68 rfl ?_ (by first | exact Nat.le_of_ble_eq_true rfl | omega | (dsimp only; omega)) (by first | exact Nat.le_of_ble_eq_true rfl | omega | (dsimp only; omega))
  exact ⟨rfl, hM, hF⟩
set_option maxHeartbeats 1000000 in
theorem c_X20_asElement_2 (l : Launch) (hl : l.stackTraces = false) (G : hp_G) (X : Nat → Nat) (N0 : Nat) (mo : Nat) (ad : Nat → Nat) (σ : MS) (M : hp_h) (hM : MH G mo ad σ M) (b : Int64) (J : Nat) (hJ : σ.1 8 = nI J) (hJ8 : J < 8000) : HM l yX20_asElement (ws_ yX20_asElement cX20_asElement 4 (some .long)) 3 65 0 0 G X N0 [.ref mo, .int 2, .long b] M (PM G mo ad M (some (.long (mf_asE 2 b σ).1)) (mf_asE 2 b σ).2) PX0 := by
  refine HM.of hl [(0, .ref mo), (1, .int 2), (2, .long b)] (by decide +kernel) rfl (Nat.le_of_ble_eq_true rfl) ?_
  intro p e s m args below meth c C hname
  have hF : MFr mo ad M M := MFr.rf
  refine V_iload_n C dX20_asElement_0 rfl 1 rfl ?_
  refine V_tableIn (tgt := 69) (off := 68) C dX20_asElement_1 (by decide) (by decide) (by decide) (by decide) ?_
  refine V_lload_n C dX20_asElement_69 rfl 2 rfl ?_
  refine V_l2i (v := b.toInt32) C dX20_asElement_70 rfl ?_
  refine V_i2c (v := (b.toInt32.toUInt32 % 65536).toInt32) C dX20_asElement_71 rfl ?_
  refine V_i2l (v := ((b.toInt32.toUInt32 % 65536).toInt32).toInt64) C dX20_asElement_72 rfl ?_
  refine V_lret C dX20_asElement_73 rfl ?_ (by first | exact Nat.le_of_ble_eq_true rfl | omega | (dsimp only; omega)) (by first | exact Nat.le_of_ble_eq_true rfl | omega | (dsimp only; omega))
  exact ⟨rfl, hM, hF⟩
set_option maxHeartbeats 1000000 in
theorem c_X20_asElement_3 (l : Launch) (hl : l.stackTraces = false) (G : hp_G) (X : Nat → Nat) (N0 : Nat) (mo : Nat) (ad : Nat → Nat) (σ : MS) (M : hp_h) (hM : MH G mo ad σ M) (b : Int64) (J : Nat) (hJ : σ.1 8 = nI J) (hJ8 : J < 8000) : HM l yX20_asElement (ws_ yX20_asElement cX20_asElement 4 (some .long)) 3 65 0 0 G X N0 [.ref mo, .int 3, .long b] M (PM G mo ad M (some (.long (mf_asE 3 b σ).1)) (mf_asE 3 b σ).2) PX0 := by
  refine HM.of hl [(0, .ref mo), (1, .int 3), (2, .long b)] (by decide +kernel) rfl (Nat.le_of_ble_eq_true rfl) ?_
  intro p e s m args below meth c C hname
  have hF : MFr mo ad M M := MFr.rf
  refine V_iload_n C dX20_asElement_0 rfl 1 rfl ?_
  refine V_tableIn (tgt := 74) (off := 73) C dX20_asElement_1 (by decide) (by decide) (by decide) (by decide) ?_
  refine V_lload_n C dX20_asElement_74 rfl 2 rfl ?_
  refine V_l2i (v := b.toInt32) C dX20_asElement_75 rfl ?_
  refine V_i2s (v := b.toInt32.toInt16.toInt32) C dX20_asElement_76 rfl ?_
  refine V_i2l (v := b.toInt32.toInt16.toInt32.toInt64) C dX20_asElement_77 rfl ?_
  refine V_lret C dX20_asElement_78 rfl ?_ (by first | exact Nat.le_of_ble_eq_true rfl | omega | (dsimp only; omega)) (by first | exact Nat.le_of_ble_eq_true rfl | omega | (dsimp only; omega))
  exact ⟨rfl, hM, hF⟩
set_option maxHeartbeats 1000000 in
theorem c_X20_asElement_4 (l : Launch) (hl : l.stackTraces = false) (G : hp_G) (X : Nat → Nat) (N0 : Nat) (mo : Nat) (ad : Nat → Nat) (σ : MS) (M : hp_h) (hM : MH G mo ad σ M) (b : Int64) (J : Nat) (hJ : σ.1 8 = nI J) (hJ8 : J < 8000) : HM l yX20_asElement (ws_ yX20_asElement cX20_asElement 4 (some .long)) 3 65 0 0 G X N0 [.ref mo, .int 4, .long b] M (PM G mo ad M (some (.long (mf_asE 4 b σ).1)) (mf_asE 4 b σ).2) PX0 := by
  refine HM.of hl [(0, .ref mo), (1, .int 4), (2, .long b)] (by decide +kernel) rfl (Nat.le_of_ble_eq_true rfl) ?_
  intro p e s m args below meth c C hname
  have hF : MFr mo ad M M := MFr.rf
  refine V_iload_n C dX20_asElement_0 rfl 1 rfl ?_
  refine V_tableIn (tgt := 79) (off := 78) C dX20_asElement_1 (by decide) (by decide) (by decide) (by decide) ?_
  refine V_lload_n C dX20_asElement_79 rfl 2 rfl ?_
  refine V_l2i (v := b.toInt32) C dX20_asElement_80 rfl ?_
  refine V_i2l (v := b.toInt32.toInt64) C dX20_asElement_81 rfl ?_
  refine V_lret C dX20_asElement_82 rfl ?_ (by first | exact Nat.le_of_ble_eq_true rfl | omega | (dsimp only; omega)) (by first | exact Nat.le_of_ble_eq_true rfl | omega | (dsimp only; omega))
  exact ⟨rfl, hM, hF⟩
set_option maxHeartbeats 1000000 in
theorem c_X20_asElement_5 (l : Launch) (hl : l.stackTraces = false) (G : hp_G) (X : Nat → Nat) (N0 : Nat) (mo : Nat) (ad : Nat → Nat) (σ : MS) (M : hp_h) (hM : MH G mo ad σ M) (b : Int64) (J : Nat) (hJ : σ.1 8 = nI J) (hJ8 : J < 8000) : HM l yX20_asElement (ws_ yX20_asElement cX20_asElement 4 (some .long)) 3 65 0 0 G X N0 [.ref mo, .int 5, .long b] M (PM G mo ad M (some (.long (mf_asE 5 b σ).1)) (mf_asE 5 b σ).2) PX0 := by
  refine HM.of hl [(0, .ref mo), (1, .int 5), (2, .long b)] (by decide +kernel) rfl (Nat.le_of_ble_eq_true rfl) ?_
  intro p e s m args below meth c C hname
  have hF : MFr mo ad M M := MFr.rf
  refine V_iload_n C dX20_asElement_0 rfl 1 rfl ?_
  refine V_tableIn (tgt := 121) (off := 120) C dX20_asElement_1 (by decide) (by decide) (by decide) (by decide) ?_
  refine V_lload_n C dX20_asElement_121 rfl 2 rfl ?_
  refine V_lret C dX20_asElement_122 rfl ?_ (by first | exact Nat.le_of_ble_eq_true rfl | omega | (dsimp only; omega)) (by first | exact Nat.le_of_ble_eq_true rfl | omega | (dsimp only; omega))
  exact ⟨rfl, hM, hF⟩
set_option maxHeartbeats 1000000 in
theorem c_X20_asElement_6 (l : Launch) (hl : l.stackTraces = false) (G : hp_G) (X : Nat → Nat) (N0 : Nat) (mo : Nat) (ad : Nat → Nat) (σ : MS) (M : hp_h) (hM : MH G mo ad σ M) (b : Int64) (J : Nat) (hJ : σ.1 8 = nI J) (hJ8 : J < 8000) : HM l yX20_asElement (ws_ yX20_asElement cX20_asElement 4 (some .long)) 3 65 0 0 G X N0 [.ref mo, .int 6, .long b] M (PM G mo ad M (some (.long (mf_asE 6 b σ).1)) (mf_asE 6 b σ).2) PX0 := by
  refine HM.of hl [(0, .ref mo), (1, .int 6), (2, .long b)] (by decide +kernel) rfl (Nat.le_of_ble_eq_true rfl) ?_
  intro p e s m args below meth c C hname
  have hF : MFr mo ad M M := MFr.rf
  refine V_iload_n C dX20_asElement_0 rfl 1 rfl ?_
  refine V_tableIn (tgt := 83) (off := 82) C dX20_asElement_1 (by decide) (by decide) (by decide) (by decide) ?_
  refine V_lload_n C dX20_asElement_83 rfl 2 rfl ?_
  refine V_callS C (c_X20_floatOf l hl G X N0 M b) cs_X20_140 rfl rfl ⟨Nat.le_of_ble_eq_true rfl, Nat.le_of_ble_eq_true rfl⟩ ⟨(by first | exact Nat.le_of_ble_eq_true rfl | omega | (dsimp only; omega)), (by first | exact Nat.le_of_ble_eq_true rfl | omega | (dsimp only; omega))⟩ (Nat.le_of_ble_eq_true rfl) dX20_asElement_84 (fun _ _ _ h => px0 h) ?_
  rintro _ _ ⟨rfl, rfl⟩
  refine V_st (st' := [.float (mfO b.toInt32)]) rfl ?_
  refine V_callS C (c_X20_floatBits l hl G X N0 M (mfO b.toInt32)) cs_X20_144 rfl rfl ⟨Nat.le_of_ble_eq_true rfl, Nat.le_of_ble_eq_true rfl⟩ ⟨(by first | exact Nat.le_of_ble_eq_true rfl | omega | (dsimp only; omega)), (by first | exact Nat.le_of_ble_eq_true rfl | omega | (dsimp only; omega))⟩ (Nat.le_of_ble_eq_true rfl) dX20_asElement_87 (fun _ _ _ h => px0 h) ?_
  rintro _ _ ⟨rfl, rfl⟩
  refine V_st (st' := [.long (mfB (mfO b.toInt32))]) rfl ?_
  refine V_lret C dX20_asElement_90 rfl ?_ (by first | exact Nat.le_of_ble_eq_true rfl | omega | (dsimp only; omega)) (by first | exact Nat.le_of_ble_eq_true rfl | omega | (dsimp only; omega))
  exact ⟨rfl, hM, hF⟩
set_option maxHeartbeats 1000000 in
theorem c_X20_asElement_7 (l : Launch) (hl : l.stackTraces = false) (G : hp_G) (X : Nat → Nat) (N0 : Nat) (mo : Nat) (ad : Nat → Nat) (σ : MS) (M : hp_h) (hM : MH G mo ad σ M) (b : Int64) (J : Nat) (hJ : σ.1 8 = nI J) (hJ8 : J < 8000) : HM l yX20_asElement (ws_ yX20_asElement cX20_asElement 4 (some .long)) 3 65 0 0 G X N0 [.ref mo, .int 7, .long b] M (PM G mo ad M (some (.long (mf_asE 7 b σ).1)) (mf_asE 7 b σ).2) PX0 := by
  refine HM.of hl [(0, .ref mo), (1, .int 7), (2, .long b)] (by decide +kernel) rfl (Nat.le_of_ble_eq_true rfl) ?_
  intro p e s m args below meth c C hname
  have hF : MFr mo ad M M := MFr.rf
  refine V_iload_n C dX20_asElement_0 rfl 1 rfl ?_
  refine V_tableIn (tgt := 91) (off := 90) C dX20_asElement_1 (by decide) (by decide) (by decide) (by decide) ?_
  refine V_lload_n C dX20_asElement_91 rfl 2 rfl ?_
  refine V_callS C (c_X20_realOfBits l hl G X N0 M b) cs_X20_148 rfl rfl ⟨Nat.le_of_ble_eq_true rfl, Nat.le_of_ble_eq_true rfl⟩ ⟨(by first | exact Nat.le_of_ble_eq_true rfl | omega | (dsimp only; omega)), (by first | exact Nat.le_of_ble_eq_true rfl | omega | (dsimp only; omega))⟩ (Nat.le_of_ble_eq_true rfl) dX20_asElement_92 (fun _ _ _ h => px0 h) ?_
  rintro _ _ ⟨rfl, rfl⟩
  refine V_st (st' := [.double (mdO b)]) rfl ?_
  refine V_callS C (c_X20_doubleBits l hl G X N0 M (mdO b)) cs_X20_151 rfl rfl ⟨Nat.le_of_ble_eq_true rfl, Nat.le_of_ble_eq_true rfl⟩ ⟨(by first | exact Nat.le_of_ble_eq_true rfl | omega | (dsimp only; omega)), (by first | exact Nat.le_of_ble_eq_true rfl | omega | (dsimp only; omega))⟩ (Nat.le_of_ble_eq_true rfl) dX20_asElement_95 (fun _ _ _ h => px0 h) ?_
  rintro _ _ ⟨rfl, rfl⟩
  refine V_st (st' := [.long (mdB (mdO b))]) rfl ?_
  refine V_lret C dX20_asElement_98 rfl ?_ (by first | exact Nat.le_of_ble_eq_true rfl | omega | (dsimp only; omega)) (by first | exact Nat.le_of_ble_eq_true rfl | omega | (dsimp only; omega))
  exact ⟨rfl, hM, hF⟩
set_option maxHeartbeats 1000000 in
theorem c_X20_asElement_8 (l : Launch) (hl : l.stackTraces = false) (G : hp_G) (X : Nat → Nat) (N0 : Nat) (mo : Nat) (ad : Nat → Nat) (σ : MS) (M : hp_h) (hM : MH G mo ad σ M) (b : Int64) (J : Nat) (hJ : σ.1 8 = nI J) (hJ8 : J < 8000) : HM l yX20_asElement (ws_ yX20_asElement cX20_asElement 4 (some .long)) 3 65 0 0 G X N0 [.ref mo, .int 8, .long b] M (PM G mo ad M (some (.long (mf_asE 8 b σ).1)) (mf_asE 8 b σ).2) PX0 := by
  refine HM.of hl [(0, .ref mo), (1, .int 8), (2, .long b)] (by decide +kernel) rfl (Nat.le_of_ble_eq_true rfl) ?_
  intro p e s m args below meth c C hname
  have hF : MFr mo ad M M := MFr.rf
  refine V_iload_n C dX20_asElement_0 rfl 1 rfl ?_
  refine V_tableIn (tgt := 121) (off := 120) C dX20_asElement_1 (by decide) (by decide) (by decide) (by decide) ?_
  refine V_lload_n C dX20_asElement_121 rfl 2 rfl ?_
  refine V_lret C dX20_asElement_122 rfl ?_ (by first | exact Nat.le_of_ble_eq_true rfl | omega | (dsimp only; omega)) (by first | exact Nat.le_of_ble_eq_true rfl | omega | (dsimp only; omega))
  exact ⟨rfl, hM, hF⟩
set_option maxHeartbeats 1000000 in
theorem c_X20_asElement_9 (l : Launch) (hl : l.stackTraces = false) (G : hp_G) (X : Nat → Nat) (N0 : Nat) (mo : Nat) (ad : Nat → Nat) (σ : MS) (M : hp_h) (hM : MH G mo ad σ M) (b : Int64) (J : Nat) (hJ : σ.1 8 = nI J) (hJ8 : J < 8000) : HM l yX20_asElement (ws_ yX20_asElement cX20_asElement 4 (some .long)) 3 65 0 0 G X N0 [.ref mo, .int 9, .long b] M (PM G mo ad M (some (.long (mf_asE 9 b σ).1)) (mf_asE 9 b σ).2) PX0 := by
  refine HM.of hl [(0, .ref mo), (1, .int 9), (2, .long b)] (by decide +kernel) rfl (Nat.le_of_ble_eq_true rfl) ?_
  intro p e s m args below meth c C hname
  have hF : MFr mo ad M M := MFr.rf
  refine V_iload_n C dX20_asElement_0 rfl 1 rfl ?_
  refine V_tableIn (tgt := 121) (off := 120) C dX20_asElement_1 (by decide) (by decide) (by decide) (by decide) ?_
  refine V_lload_n C dX20_asElement_121 rfl 2 rfl ?_
  refine V_lret C dX20_asElement_122 rfl ?_ (by first | exact Nat.le_of_ble_eq_true rfl | omega | (dsimp only; omega)) (by first | exact Nat.le_of_ble_eq_true rfl | omega | (dsimp only; omega))
  exact ⟨rfl, hM, hF⟩
set_option maxHeartbeats 1000000 in
theorem c_X20_asElement_10 (l : Launch) (hl : l.stackTraces = false) (G : hp_G) (X : Nat → Nat) (N0 : Nat) (mo : Nat) (ad : Nat → Nat) (σ : MS) (M : hp_h) (hM : MH G mo ad σ M) (b : Int64) (J : Nat) (hJ : σ.1 8 = nI J) (hJ8 : J < 8000) : HM l yX20_asElement (ws_ yX20_asElement cX20_asElement 4 (some .long)) 3 65 0 0 G X N0 [.ref mo, .int 10, .long b] M (PM G mo ad M (some (.long (mf_asE 10 b σ).1)) (mf_asE 10 b σ).2) PX0 := by
  refine HM.of hl [(0, .ref mo), (1, .int 10), (2, .long b)] (by decide +kernel) rfl (Nat.le_of_ble_eq_true rfl) ?_
  intro p e s m args below meth c C hname
  have hF : MFr mo ad M M := MFr.rf
  refine V_iload_n C dX20_asElement_0 rfl 1 rfl ?_
  refine V_tableIn (tgt := 99) (off := 98) C dX20_asElement_1 (by decide) (by decide) (by decide) (by decide) ?_
  refine V_lload_n C dX20_asElement_99 rfl 2 rfl ?_
  refine V_ldc2 (v := -1) C (C.w q1596) dX20_asElement_100 ?_
  refine V_lcmp C dX20_asElement_103 ?_
  refine V_if_ne (tgt := 113) C dX20_asElement_104 (by decide) (fun c_104 => ?_) (fun c_104 => ?_)
  · refine V_aload_n C dX20_asElement_113 rfl 0 rfl ?_
    refine V_lload_n C dX20_asElement_114 rfl 2 rfl ?_
    refine V_l2i (v := b.toInt32) C dX20_asElement_115 rfl ?_
    refine V_callV C (c_X20_newInner l hl G X N0 mo ad σ M hM b.toInt32 J hJ hJ8) cs_X20_154_9 hM.1 (show CLS[9]? = some (RX20, TX20, 33) from rfl) rfl rfl ⟨Nat.le_of_ble_eq_true rfl, Nat.le_of_ble_eq_true rfl⟩ ⟨(by first | exact Nat.le_of_ble_eq_true rfl | omega | (dsimp only; omega)), (by first | exact Nat.le_of_ble_eq_true rfl | omega | (dsimp only; omega))⟩ (Nat.le_of_ble_eq_true rfl) dX20_asElement_116 (fun _ _ _ h => px0 h) ?_
    rintro _ M_1 ⟨rfl, hM_2, hF_3⟩
    refine V_st (st' := [.int (nI J)]) rfl ?_
    have hF_4 := hF.trans hF_3
    refine V_i2l (v := (nI J).toInt64) C dX20_asElement_119 rfl ?_
    refine V_st (st' := [.long (lN J)]) (by rw [show ((nI J).toInt64) = (lN J) from nI_l (by omega)]) ?_
    refine V_pc (pc1 := 120) rfl ?_
    refine V_lret C dX20_asElement_120 rfl ?_ (by first | exact Nat.le_of_ble_eq_true rfl | omega | (dsimp only; omega)) (by first | exact Nat.le_of_ble_eq_true rfl | omega | (dsimp only; omega))
    have e9 : mf_asE 10 b σ = (lN J, mf_newInner J b.toInt32 σ) := by
      rw [lg_cmp_eq] at c_104
      have e8 : nJ σ = J := by unfold nJ; rw [hJ, nI_clamp (by omega)]
      simp [mf_asE, c_104, e8]
    rw [e9]; exact ⟨rfl, hM_2, hF_4⟩
  · refine V_ldc2 (v := -1) C (C.w q1596) dX20_asElement_107 ?_
    refine V_goto (tgt := 120) C dX20_asElement_110 (by decide) ?_
    refine V_lret C dX20_asElement_120 rfl ?_ (by first | exact Nat.le_of_ble_eq_true rfl | omega | (dsimp only; omega)) (by first | exact Nat.le_of_ble_eq_true rfl | omega | (dsimp only; omega))
    have e9 : mf_asE 10 b σ = (-1, σ) := by
      rw [lg_cmp_eq] at c_104
      simp [mf_asE, c_104]
    rw [e9]; exact ⟨rfl, hM, hF⟩
theorem c_X20_asElement (l : Launch) (hl : l.stackTraces = false) (G : hp_G) (X : Nat → Nat) (N0 : Nat) (mo : Nat) (ad : Nat → Nat) (σ : MS) (M : hp_h) (hM : MH G mo ad σ M) (k : Nat) (hk : k ≤ 10) (b : Int64) (J : Nat) (hJ : σ.1 8 = nI J) (hJ8 : J < 8000) : HM l yX20_asElement (ws_ yX20_asElement cX20_asElement 4 (some .long)) 3 65 0 0 G X N0 [.ref mo, .int (nI k), .long b] M (PM G mo ad M (some (.long (mf_asE (nI k) b σ).1)) (mf_asE (nI k) b σ).2) PX0 := by
  match k, hk with
  | 0, _ => exact c_X20_asElement_0 l hl G X N0 mo ad σ M hM b J hJ hJ8
  | 1, _ => exact c_X20_asElement_1 l hl G X N0 mo ad σ M hM b J hJ hJ8
  | 2, _ => exact c_X20_asElement_2 l hl G X N0 mo ad σ M hM b J hJ hJ8
  | 3, _ => exact c_X20_asElement_3 l hl G X N0 mo ad σ M hM b J hJ hJ8
  | 4, _ => exact c_X20_asElement_4 l hl G X N0 mo ad σ M hM b J hJ hJ8
  | 5, _ => exact c_X20_asElement_5 l hl G X N0 mo ad σ M hM b J hJ hJ8
  | 6, _ => exact c_X20_asElement_6 l hl G X N0 mo ad σ M hM b J hJ hJ8
  | 7, _ => exact c_X20_asElement_7 l hl G X N0 mo ad σ M hM b J hJ hJ8
  | 8, _ => exact c_X20_asElement_8 l hl G X N0 mo ad σ M hM b J hJ hJ8
  | 9, _ => exact c_X20_asElement_9 l hl G X N0 mo ad σ M hM b J hJ hJ8
  | 10, _ => exact c_X20_asElement_10 l hl G X N0 mo ad σ M hM b J hJ hJ8
  | n + 11, h => exact absurd h (by omega)
