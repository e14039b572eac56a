set_option maxRecDepth 100000
theorem MH.cg {G : hp_G} {mo : Nat} {ad : Nat → Nat} {σ σ' : MS} {M : hp_h} (h : MH G mo ad σ M) (e : σ = σ') : MH G mo ad σ' M := e ▸ h
def mfill {α : Type} (g : Nat → α) (b n : Nat) (w : Nat → α) : Nat → α := fun j => if b ≤ j ∧ j < b + n then w (j - b) else g j
theorem mfill_0 {α : Type} {g : Nat → α} {b : Nat} {w : Nat → α} : mfill g b 0 w = g := by
  funext j
  unfold mfill
  rw [if_neg (by omega)]
theorem mfill_s {α : Type} {g : Nat → α} {b n : Nat} {w : Nat → α} {v : α} (h : v = w n) : va_up (mfill g b n w) (b + n) v = mfill g b (n + 1) w := by
  funext j
  unfold va_up mfill
  by_cases e : j = b + n
  · subst e
    rw [if_pos rfl, if_pos (by omega), h]
    congr 1
    omega
  · rw [if_neg e]
    by_cases e2 : b ≤ j ∧ j < b + n
    · rw [if_pos e2, if_pos (by omega)]
    · rw [if_neg e2, if_neg (by omega)]
theorem va_up_up {α : Type} {f : Nat → α} {k : Nat} {x y : α} : va_up (va_up f k x) k y = va_up f k y := by
  funext j
  unfold va_up
  split <;> rfl
theorem sl_sl {σ : MS} {k : Nat} {f g : Nat → Int64} : sl (sl σ k f) k g = sl σ k g := by simp only [sl, va_up_up]
theorem si_si {σ : MS} {k : Nat} {f g : Nat → Int32} : si (si σ k f) k g = si σ k g := by simp only [si, va_up_up]
theorem sz_sz {σ : MS} {k : Nat} {f g : Int32} : sz (sz σ k f) k g = sz σ k g := by simp only [sz, va_up_up]
theorem sl_g {σ : MS} {k : Nat} {f : Nat → Int64} : (sl σ k f).2.2.1 k = f := by simp [sl, va_up]
theorem si_g {σ : MS} {k : Nat} {f : Nat → Int32} : (si σ k f).2.1 k = f := by simp [si, va_up]
theorem ix40 (r k : Nat) : (40 : Int32) * nI r + nI k = nI (40 * r + k) := by rw [show (40 : Int32) = nI 40 from rfl, pk_mul, nI_add]
/-- a new row of kind k, N places -/
def mf_newRow (R N : Nat) (k : Int32) (σ : MS) : MS := sz (sl (si (si σ 2 (va_up (σ.2.1 2) R k)) 3 (va_up (σ.2.1 3) R (nI N))) 4 (mfill (σ.2.2.1 4) (40 * R) N (fun _ => if k < 8 then 0 else -1))) 1 (nI (R + 1))
theorem sl_id (σ : MS) (k : Nat) : sl σ k (σ.2.2.1 k) = σ := by
  unfold sl
  congr 3
  funext j
  unfold va_up
  split
  · rename_i h; rw [h]
  · rfl
theorem nI_ltN {a b : Nat} (h : ¬ nI b ≤ nI a) (ha : a < 2 ^ 31) (hb : b < 2 ^ 31) : a < b := Nat.not_le.mp fun z => h ((nI_leI hb ha).mpr z)
set_option maxHeartbeats 1000000 in
theorem c_X20_newRow (l : Launch) (hl : l.stackTraces = false) (G : hp_G) (X : Nat → Nat) (N0 : Nat) (mo : Nat) (ad : Nat → Nat) (σ : MS) (M : hp_h) (hM : MH G mo ad σ M) (R N : Nat) (k n : Int32) (hn : n = nI N) (hR : σ.1 1 = nI R) (hR6 : R < 60) (hN : N ≤ 40) : HM l yX20_newRow (ws_ yX20_newRow cX20_newRow 4 (some .int)) 0 0 0 0 G X N0 [.ref mo, .int k, .int n] M (PM G mo ad M (some (.int (nI R))) (mf_newRow R N k σ)) PX0 := by
  subst hn
  refine HM.of hl [(0, .ref mo), (1, .int k), (2, .int (nI N))] (by decide +kernel) rfl (Nat.le_of_ble_eq_true rfl) ?_
  intro p e s m args below meth c C hname
  have hF : MFr mo ad M M := MFr.rf
  refine V_aload_n C dX20_newRow_0 rfl 0 rfl ?_
  refine M_get C hM (.ref (ad 2)) f_X20_7_9 rfl dX20_newRow_1 ?_
  refine V_aload_n C dX20_newRow_4 rfl 0 rfl ?_
  refine M_get C hM (.int (nI R)) f_X20_103_9 (congrArg (fun z => some (Value.int z)) hR) dX20_newRow_5 ?_
  refine V_iload_n C dX20_newRow_8 rfl 1 rfl ?_
  refine M_iast C hM hF 2 R rfl rfl hR6 dX20_newRow_9 (fun M_1 hM_2 hF_3 => ?_)
  refine V_aload_n C dX20_newRow_10 rfl 0 rfl ?_
  refine M_get C hM_2 (.ref (ad 3)) f_X20_13_9 rfl dX20_newRow_11 ?_
  refine V_aload_n C dX20_newRow_14 rfl 0 rfl ?_
  refine M_get C hM_2 (.int (nI R)) f_X20_103_9 (congrArg (fun z => some (Value.int z)) hR) dX20_newRow_15 ?_
  refine V_iload_n C dX20_newRow_18 rfl 2 rfl ?_
  refine V_pc (pc1 := 19) rfl ?_
  refine M_iast C hM_2 hF_3 3 R rfl rfl hR6 dX20_newRow_19 (fun M_4 hM_5 hF_6 => ?_)
  refine V_iconst (v := 0) C dX20_newRow_20 rfl ?_
  refine V_istore_n C dX20_newRow_21 rfl (Nat.le_of_ble_eq_true rfl) [(0, .ref mo), (1, .int k), (2, .int (nI N)), (3, .int 0)] [1, 2, 3, 0] rfl ?_
  have lp_22 : ∀ (fu9 : Nat) (i : Nat) (M22 : hp_h), N - i < fu9 → (i ≤ N) → MH G mo ad (sl (si (si σ 2 (va_up (σ.2.1 2) R k)) 3 (va_up (σ.2.1 3) R (nI N))) 4 (mfill (σ.2.2.1 4) (40 * R) i (fun _ => if k < 8 then 0 else -1))) M22 → MFr mo ad M M22 → V p l e { frames := 0, cells := 0, slots := 0, locals := 0 } s m args below meth c G N0 4 (QV below G N0 (PM G mo ad M (some (.int (nI R))) (mf_newRow R N k σ)) PX0 args s (0) (0)) (0) (0) M22 22 [(0, .ref mo), (1, .int k), (2, .int (nI N)), (3, .int (nI i))] [] := by
    intro fu9
    induction fu9 with
    | zero => intro i M22 hfu9; exact absurd hfu9 (Nat.not_lt_zero _)
    | succ fu9 ih22 =>
      intro i M22 hfu9 hi hM22 hF22
      refine V_iload_n C dX20_newRow_22 rfl 3 rfl ?_
      refine V_iload_n C dX20_newRow_23 rfl 2 rfl ?_
      refine V_icmp_ge (tgt := 60) C dX20_newRow_24 (by decide) (fun c_24 => ?_) (fun c_24 => ?_)
      · refine V_aload_n C dX20_newRow_60 rfl 0 rfl ?_
        refine V_dup C dX20_newRow_61 rfl ?_
        refine M_get C hM22 (.int (nI R)) f_X20_103_9 (congrArg (fun z => some (Value.int z)) hR) dX20_newRow_62 ?_
        refine V_iconst (v := 1) C dX20_newRow_65 rfl ?_
        refine V_iadd C dX20_newRow_66 ?_
        refine V_st (st' := [.int (nI (R + 1)), .ref mo]) (by rw [show ((nI R) + 1) = (nI (R + 1)) from nI_1 R]) ?_
        refine M_puti C hM22 hF22 f_X20_103_9 (by decide) mF_1 dX20_newRow_67 (fun M_8 hM_9 hF_10 => ?_)
        refine V_pc (pc1 := 70) rfl ?_
        refine V_aload_n C dX20_newRow_70 rfl 0 rfl ?_
        refine M_get C hM_9 (.int (nI (R + 1))) f_X20_103_9 rfl dX20_newRow_71 ?_
        refine V_iconst (v := 1) C dX20_newRow_74 rfl ?_
        refine V_isub C dX20_newRow_75 ?_
        refine V_iret C dX20_newRow_76 rfl ?_ (by first | exact Nat.le_of_ble_eq_true rfl | omega | (dsimp only; omega)) (by first | exact Nat.le_of_ble_eq_true rfl | omega | (dsimp only; omega))
        refine ⟨congrArg (fun z => some (Value.int z)) (nI_pred R), MH.cg hM_9 ?_, hF_10⟩
        have e : i = N := by have := (nI_leI (by omega) (by omega)).mp c_24; omega
        subst e; rfl
      · have hlt : i < N := nI_ltN c_24 (by omega) (by omega)
        refine V_aload_n C dX20_newRow_27 rfl 0 rfl ?_
        refine M_get C hM22 (.ref (ad 4)) f_X20_16_9 rfl dX20_newRow_28 ?_
        refine V_bipush (v := 40) C dX20_newRow_31 rfl ?_
        refine V_aload_n C dX20_newRow_33 rfl 0 rfl ?_
        refine M_get C hM22 (.int (nI R)) f_X20_103_9 (congrArg (fun z => some (Value.int z)) hR) dX20_newRow_34 ?_
        refine V_imul C dX20_newRow_37 ?_
        refine V_pc (pc1 := 38) rfl ?_
        refine V_iload_n C dX20_newRow_38 rfl 3 rfl ?_
        refine V_iadd C dX20_newRow_39 ?_
        refine V_iload_n C dX20_newRow_40 rfl 1 rfl ?_
        refine V_bipush (v := 8) C dX20_newRow_41 rfl ?_
        refine V_icmp_lt (tgt := 52) C dX20_newRow_43 (by decide) (fun c_43 => ?_) (fun c_43 => ?_)
        · refine V_lconst (v := 0) C dX20_newRow_52 rfl ?_
          refine M_last C hM22 hF22 4 (40 * R + i) rfl (ix40 R i) (show 40 * R + i < 2400 from by omega) dX20_newRow_53 (fun M_11 hM_12 hF_13 => ?_)
          have hM_14 : MH G mo ad (sl (si (si σ 2 (va_up (σ.2.1 2) R k)) 3 (va_up (σ.2.1 3) R (nI N))) 4 (va_up (mfill (σ.2.2.1 4) (40 * R) i (fun _ => if k < 8 then 0 else -1)) (40 * R + i) 0)) M_11 := MH.cg hM_12 (by rw [sl_sl, sl_g])
          refine V_iinc (v := nI (i + 1)) C dX20_newRow_54 (k := 3) rfl (nI_1 i) (Nat.le_of_ble_eq_true rfl) [(0, .ref mo), (1, .int k), (2, .int (nI N)), (3, .int (nI (i + 1)))] [1, 2, 3, 0] rfl ?_
          refine V_goto (tgt := 22) C dX20_newRow_57 (by decide) ?_
          exact ih22 (i + 1) _ (by omega) (by omega) (MH.cg hM_14 (by rw [mfill_s (by first | (rw [if_pos c_43]) | (rw [if_neg c_43]))])) hF_13
        · refine V_ldc2 (v := -1) C (C.w q1596) dX20_newRow_46 ?_
          refine V_goto (tgt := 53) C dX20_newRow_49 (by decide) ?_
          refine M_last C hM22 hF22 4 (40 * R + i) rfl (ix40 R i) (show 40 * R + i < 2400 from by omega) dX20_newRow_53 (fun M_15 hM_16 hF_17 => ?_)
          have hM_18 : MH G mo ad (sl (si (si σ 2 (va_up (σ.2.1 2) R k)) 3 (va_up (σ.2.1 3) R (nI N))) 4 (va_up (mfill (σ.2.2.1 4) (40 * R) i (fun _ => if k < 8 then 0 else -1)) (40 * R + i) (-1))) M_15 := MH.cg hM_16 (by rw [sl_sl, sl_g])
          refine V_iinc (v := nI (i + 1)) C dX20_newRow_54 (k := 3) rfl (nI_1 i) (Nat.le_of_ble_eq_true rfl) [(0, .ref mo), (1, .int k), (2, .int (nI N)), (3, .int (nI (i + 1)))] [1, 2, 3, 0] rfl ?_
          refine V_goto (tgt := 22) C dX20_newRow_57 (by decide) ?_
          exact ih22 (i + 1) _ (by omega) (by omega) (MH.cg hM_18 (by rw [mfill_s (by first | (rw [if_pos c_43]) | (rw [if_neg c_43]))])) hF_17
  refine V_loc (L' := [(0, .ref mo), (1, .int k), (2, .int (nI N)), (3, .int 0)]) [0, 1, 2, 3] rfl ?_
  exact lp_22 _ 0 _ (Nat.lt_succ_self _) (Nat.zero_le _) (MH.cg hM_5 (by rw [mfill_0]; exact (sl_id _ _).symm)) hF_6
