set_option maxRecDepth 100000
/-- where v goes among f's first q, in order -/
def mf_pos (k : Int32) (f : Nat → Int64) (v : Int64) : Nat → Nat
  | 0 => 0
  | q + 1 => if mf_order k v (f q) < 0 then mf_pos k f v q else q + 1
theorem mf_pos_le {k : Int32} {f : Nat → Int64} {v : Int64} : ∀ q, mf_pos k f v q ≤ q
  | 0 => Nat.le_refl 0
  | q + 1 => by
    unfold mf_pos
    split
    · exact Nat.le_succ_of_le (mf_pos_le q)
    · exact Nat.le_refl _
def mf_ins (f : Nat → Int64) (t p : Nat) : Nat → Int64 := fun x => if x = t then f p else if t < x ∧ x ≤ p then f (x - 1) else f x
def mf_shift (f : Nat → Int64) (q p : Nat) : Nat → Int64 := fun x => if q < x ∧ x ≤ p then f (x - 1) else f x
def mf_srt (k : Int32) (f : Nat → Int64) : Nat → Nat → Int64
  | 0 => f
  | 1 => f
  | p + 2 => mf_ins (mf_srt k f (p + 1)) (mf_pos k (mf_srt k f (p + 1)) (mf_srt k f (p + 1) (p + 1)) (p + 1)) (p + 1)
theorem mf_srt_s {k : Int32} {f : Nat → Int64} {p : Nat} (h : 1 ≤ p) : mf_srt k f (p + 1) = mf_ins (mf_srt k f p) (mf_pos k (mf_srt k f p) (mf_srt k f p p) p) p := by
  obtain ⟨j, rfl⟩ : ∃ j, p = j + 1 := ⟨p - 1, by omega⟩
  rfl
theorem mf_shift_0 {f : Nat → Int64} {p : Nat} : mf_shift f p p = f := by
  funext x
  unfold mf_shift
  rw [if_neg (by omega)]
theorem nI_dec {q : Nat} (h : 0 < q) : nI q + Int32.ofInt (-1) = nI (q - 1) := by
  obtain ⟨r, rfl⟩ : ∃ r, q = r + 1 := ⟨q - 1, by omega⟩
  show _ = nI r
  rw [← nI_pred r, Int32.sub_eq_add_neg]
  rfl
theorem dec1 (x : Int32) : x + Int32.ofInt (-1) = x - 1 := by rw [Int32.sub_eq_add_neg]; rfl
theorem pred_lt {I : Nat} (h : I < 2 ^ 31) : nI (I + 0) - 1 < nI I := by
  rw [Int32.lt_iff_toInt_lt, Int32.toInt_sub, Nat.add_zero, nI_toInt h, show (1 : Int32).toInt = 1 from rfl, Int.bmod_eq_of_le (by omega) (by omega)]
  omega
theorem mfill_id {g : Nat → Int64} {b n : Nat} : mfill g b n (fun q => g (b + q)) = g := by
  funext x
  unfold mfill
  split
  · rename_i h
    show g (b + (x - b)) = g x
    rw [show b + (x - b) = x by omega]
  · rfl
theorem mfill_up {g : Nat → Int64} {b n k : Nat} {w w' : Nat → Int64} {v : Int64} (hk : k < n) (h : ∀ x, x < n → w' x = if x = k then v else w x) : va_up (mfill g b n w) (b + k) v = mfill g b n w' := by
  funext x
  unfold va_up mfill
  by_cases e : x = b + k
  · subst e
    rw [if_pos rfl, if_pos (by omega), h _ (by omega), if_pos (by omega)]
  · rw [if_neg e]
    by_cases e2 : b ≤ x ∧ x < b + n
    · rw [if_pos e2, if_pos e2, h _ (by omega), if_neg (by omega)]
    · rw [if_neg e2, if_neg e2]
theorem shift_step {f : Nat → Int64} {q p : Nat} (hp : q + 1 ≤ p) (x : Nat) : mf_shift f q p x = if x = q + 1 then f q else mf_shift f (q + 1) p x := by
  unfold mf_shift
  by_cases e : x = q + 1
  · subst e
    rw [if_pos (by omega), if_pos rfl]
    rfl
  · rw [if_neg e]
    by_cases e2 : q < x ∧ x ≤ p
    · rw [if_pos e2, if_pos (by omega)]
    · rw [if_neg e2, if_neg (by omega)]
theorem ins_step {f : Nat → Int64} {q p : Nat} (x : Nat) : mf_ins f q p x = if x = q then f p else mf_shift f q p x := by
  unfold mf_ins mf_shift
  rfl
theorem shift_at {f : Nat → Int64} {q p : Nat} : mf_shift f (q + 1) p q = f q := by
  unfold mf_shift
  rw [if_neg (by omega)]
def mf_sortA (σ : MS) (a I N : Nat) : MS := sl σ 4 (mfill (σ.2.2.1 4) (40 * a + I) N (mf_srt (σ.2.1 2 a) (fun q => el σ a (I + q)) N))
def mf_sort (σ : MS) (a : Nat) (i n : Int32) : Int32 × MS := if ¬ mf_real (σ.2.1 2 a) then (4, σ) else if ¬ mf_places σ a i n then (2, σ) else (0, mf_sortA σ a i.toNatClampNeg n.toNatClampNeg)
/-- of c places, the last ones of N, the first that holds; told from I on -/
def mf_fnd (f : Nat → Bool) (I N : Nat) : Nat → Int64
  | 0 => -1
  | c + 1 => if f (N - (c + 1)) then lN (I + (N - (c + 1))) else mf_fnd f I N c
def mf_findA (σ : MS) (a I : Nat) (v : Int64) (N : Nat) : MS := sa σ (mf_fnd (fun q => decide (mf_eq σ (σ.2.1 2 a) (el σ a (I + q)) v)) I N N)
def mf_findIn (σ : MS) (a : Nat) (i j n : Int32) : Int32 × MS := if ¬ σ.2.1 2 a ≤ 7 then (4, σ) else if ¬ mf_places σ a i n then (2, σ) else (0, mf_findA σ a i.toNatClampNeg (mf_asE (σ.2.1 2 a) j.toInt64 σ).1 n.toNatClampNeg)
theorem asE_2 {k : Int32} {b : Int64} {σ : MS} (h : ¬ k = 10) : (mf_asE k b σ).2 = σ := by
  unfold mf_asE
  rw [if_neg h]
  repeat' split
  all_goals rfl
def mf_done (σ : MS) (x0 : Nat) (a i b j n : Int32) : Int32 × MS :=
  if x0 = 0 then mf_copy (sa σ 0) a.toNatClampNeg i b.toNatClampNeg j n else if x0 = 1 then mf_copyRow (sa σ 0) a.toNatClampNeg else if x0 = 2 then mf_fill (sa σ 0) a.toNatClampNeg i j n else if x0 = 3 then mf_equal (sa σ 0) a.toNatClampNeg b.toNatClampNeg
  else if x0 = 4 then mf_orderRows (sa σ 0) a.toNatClampNeg b.toNatClampNeg else if x0 = 5 then mf_sum (sa σ 0) a.toNatClampNeg else if x0 = 6 then mf_greatest (sa σ 0) a.toNatClampNeg else if x0 = 7 then mf_turn (sa σ 0) a.toNatClampNeg i n
  else if x0 = 8 then mf_sort (sa σ 0) a.toNatClampNeg i n else if x0 = 9 then mf_findIn (sa σ 0) a.toNatClampNeg i j n else if x0 = 12 then mf_fees (sa σ 0) a.toNatClampNeg else (6, sa σ 0)
set_option maxHeartbeats 1000000 in
theorem c_X20_sort (l : Launch) (hl : l.stackTraces = false) (G : hp_G) (X : Nat → Nat) (N0 : Nat) (mo : Nat) (ad : Nat → Nat) (σ : MS) (M : hp_h) (hM : MH G mo ad σ M) (a : Nat) (i n : Int32) (hI : MI σ) (ha : a < nR σ) : HM l yX20_sort (ws_ yX20_sort cX20_sort 9 (some .int)) 4 92 0 0 G X N0 [.ref mo, .int (nI a), .int i, .int n] M (PM G mo ad M (some (.int (mf_sort σ a i n).1)) (mf_sort σ a i n).2) PX0 := by
  refine HM.of hl [(0, .ref mo), (1, .int (nI a)), (2, .int i), (3, .int n)] (by decide +kernel) rfl (Nat.le_of_ble_eq_true rfl) ?_
  intro p e s m args below meth c C hname
  have hF : MFr mo ad M M := MFr.rf
  have hR6 := hI.R
  have hk_a := hI.k ha
  have hl_a := hI.l ha
  refine V_aload_n C dX20_sort_0 rfl 0 rfl ?_
  refine M_get C hM (.ref (ad 2)) f_X20_7_9 rfl dX20_sort_1 ?_
  refine V_iload_n C dX20_sort_4 rfl 1 rfl ?_
  refine M_iald C hM 2 a rfl rfl (show a < 60 from by first | omega | (have := hI.R.2; omega) | (have := hI.U.2; omega) | (have := hI.J.2; omega)) dX20_sort_5 ?_
  refine V_i2l (v := (σ.2.1 2 a).toInt64) C dX20_sort_6 rfl ?_
  refine V_lconst (v := 1) C dX20_sort_7 rfl ?_
  refine V_ldc2 (v := 7) C (C.w q1763) dX20_sort_8 ?_
  refine V_callS C (c_X20_in l hl G X N0 M ((σ.2.1 2 a).toInt64) 1 7) cs_X20_123 rfl rfl ⟨Nat.le_of_ble_eq_true rfl, Nat.le_of_ble_eq_true rfl⟩ ⟨(by first | exact Nat.le_of_ble_eq_true rfl | omega | (dsimp only; omega)), (by first | exact Nat.le_of_ble_eq_true rfl | omega | (dsimp only; omega))⟩ (Nat.le_of_ble_eq_true rfl) dX20_sort_11 (fun _ _ _ h => px0 h) ?_
  rintro _ _ ⟨rfl, rfl⟩
  refine V_st (st' := [.int (bI (1 ≤ ((σ.2.1 2 a).toInt64) ∧ ((σ.2.1 2 a).toInt64) ≤ 7))]) rfl ?_
  refine V_if_ne (tgt := 19) C dX20_sort_14 (by decide) (fun c_14 => ?_) (fun c_14 => ?_)
  · refine V_aload_n C dX20_sort_19 rfl 0 rfl ?_
    refine V_iload_n C dX20_sort_20 rfl 1 rfl ?_
    refine V_pc (pc1 := 21) rfl ?_
    refine V_iload_n C dX20_sort_21 rfl 2 rfl ?_
    refine V_iload_n C dX20_sort_22 rfl 3 rfl ?_
    refine V_callV C (c_X20_hasPlaces l hl G X N0 mo ad σ M hM a (by omega) i n ) cs_X20_215_9 hM.1 (show CLS[9]? = some (RX20, TX20, 33) from rfl) rfl rfl ⟨Nat.le_of_ble_eq_true rfl, Nat.le_of_ble_eq_true rfl⟩ ⟨(by first | exact Nat.le_of_ble_eq_true rfl | omega | (dsimp only; omega)), (by first | exact Nat.le_of_ble_eq_true rfl | omega | (dsimp only; omega))⟩ (Nat.le_of_ble_eq_true rfl) dX20_sort_23 (fun _ _ _ h => px0 h) ?_
    rintro _ _ ⟨rfl, rfl⟩
    refine V_st (st' := [.int (bI (mf_places σ a i n))]) rfl ?_
    refine V_if_ne (tgt := 31) C dX20_sort_26 (by decide) (fun c_26 => ?_) (fun c_26 => ?_)
    · obtain ⟨I, N, rfl, rfl, hIN⟩ := places_n hl_a (bI_n.mp c_26)
      refine V_bipush (v := 40) C dX20_sort_31 rfl ?_
      refine V_iload_n C dX20_sort_33 rfl 1 rfl ?_
      refine V_imul C dX20_sort_34 ?_
      refine V_st (st' := [.int (nI (40 * a))]) (by rw [show (40 * (nI a)) = (nI (40 * a)) from pk_mul 40 a]) ?_
      refine V_iload_n C dX20_sort_35 rfl 2 rfl ?_
      refine V_iadd C dX20_sort_36 ?_
      refine V_st (st' := [.int (nI ((40 * a) + I))]) (by rw [show ((nI (40 * a)) + (nI I)) = (nI ((40 * a) + I)) from nI_add (40 * a) I]) ?_
      refine V_istore C dX20_sort_37 (Nat.le_of_ble_eq_true rfl) [(0, .ref mo), (1, .int (nI a)), (2, .int (nI I)), (3, .int (nI N)), (4, .int (nI ((40 * a) + I)))] [1, 2, 3, 4, 0] rfl ?_
      refine V_iconst (v := 1) C dX20_sort_39 rfl ?_
      refine V_istore C dX20_sort_40 (Nat.le_of_ble_eq_true rfl) [(0, .ref mo), (1, .int (nI a)), (2, .int (nI I)), (3, .int (nI N)), (4, .int (nI ((40 * a) + I))), (5, .int 1)] [1, 2, 3, 4, 5, 0] rfl ?_
      have lp_42 : ∀ (fu9 : Nat) (i : Nat) (M42 : hp_h), N - i < fu9 → (1 ≤ i) → (i ≤ max N 1) → MH G mo ad (sl σ 4 (mfill (σ.2.2.1 4) (40 * a + I) N (mf_srt (σ.2.1 2 a) (fun q => el σ a (I + q)) i))) M42 → MFr mo ad M M42 → V p l e { frames := 4, cells := 0, slots := 0, locals := 92 } s m args below meth c G N0 9 (QV below G N0 (PM G mo ad M (some (.int (mf_sort σ a (nI I) (nI N)).1)) (mf_sort σ a (nI I) (nI N)).2) PX0 args s (0) (0)) (0) (0) M42 42 [(0, .ref mo), (1, .int (nI a)), (2, .int (nI I)), (3, .int (nI N)), (4, .int (nI ((40 * a) + I))), (5, .int (nI i))] [] := by
        intro fu9
        induction fu9 with
        | zero => intro i M42 hfu9; exact absurd hfu9 (Nat.not_lt_zero _)
        | succ fu9 ih42 =>
          intro i M42 hfu9 h1 hi hM42 hF42
          refine V_pc (pc1 := 42) rfl ?_
          refine V_iload C dX20_sort_42 5 rfl ?_
          refine V_iload_n C dX20_sort_44 rfl 3 rfl ?_
          refine V_icmp_ge (tgt := 141) C dX20_sort_45 (by decide) (fun c_45 => ?_) (fun c_45 => ?_)
          · refine V_iconst (v := 0) C dX20_sort_141 rfl ?_
            refine V_iret C dX20_sort_142 rfl ?_ (by first | exact Nat.le_of_ble_eq_true rfl | omega | (dsimp only; omega)) (by first | exact Nat.le_of_ble_eq_true rfl | omega | (dsimp only; omega))
            have hge : N ≤ i := (nI_leI (by omega) (by omega)).mp c_45
            have e9 : mf_sort σ a (nI I) (nI N) = (0, (sl σ 4 (mfill (σ.2.2.1 4) (40 * a + I) N (mf_srt (σ.2.1 2 a) (fun q => el σ a (I + q)) i)))) := by
              unfold mf_sort
              rw [if_neg (fun z => z (bI_n.mp c_14)), if_neg (fun z => z (bI_n.mp c_26)), nI_clamp (by omega), nI_clamp (by omega)]
              unfold mf_sortA
              rcases Nat.eq_zero_or_pos N with z | z
              · subst z
                rw [mfill_0, mfill_0]
              · rw [show i = N by omega]
            rw [e9]; exact ⟨rfl, hM42, hF42⟩
          · have hlt : i < N := nI_ltN c_45 (by omega) (by omega)
            refine V_aload_n C dX20_sort_48 rfl 0 rfl ?_
            refine M_get C hM42 (.ref (ad 4)) f_X20_16_9 rfl dX20_sort_49 ?_
            refine V_iload C dX20_sort_52 4 rfl ?_
            refine V_iload C dX20_sort_54 5 rfl ?_
            refine V_iadd C dX20_sort_56 ?_
            refine V_st (st' := [.int (nI (((40 * a) + I) + i)), .ref (ad 4)]) (by rw [show ((nI ((40 * a) + I)) + (nI i)) = (nI (((40 * a) + I) + i)) from nI_add ((40 * a) + I) i]) ?_
            refine M_lald C hM42 4 (40 * a + I + i) rfl rfl (show 40 * a + I + i < 2400 from by omega) dX20_sort_57 ?_
            refine V_st (st' := [.long ((mfill (σ.2.2.1 4) (40 * a + I) N (mf_srt (σ.2.1 2 a) (fun q => el σ a (I + q)) i)) (40 * a + I + i))]) rfl ?_
            refine V_st (st' := [.long ((mf_srt (σ.2.1 2 a) (fun q => el σ a (I + q)) i) i)]) (by rw [show ((mfill (σ.2.2.1 4) (40 * a + I) N (mf_srt (σ.2.1 2 a) (fun q => el σ a (I + q)) i)) (40 * a + I + i)) = ((mf_srt (σ.2.1 2 a) (fun q => el σ a (I + q)) i) i) from (mfill_in hlt)]) ?_
            refine V_lstore C dX20_sort_58 (Nat.le_of_ble_eq_true rfl) [(0, .ref mo), (1, .int (nI a)), (2, .int (nI I)), (3, .int (nI N)), (4, .int (nI ((40 * a) + I))), (5, .int (nI i)), (6, .long ((mf_srt (σ.2.1 2 a) (fun q => el σ a (I + q)) i) i))] [1, 2, 3, 4, 5, 6, 0] rfl ?_
            refine V_iload C dX20_sort_60 5 rfl ?_
            refine V_istore C dX20_sort_62 (Nat.le_of_ble_eq_true rfl) [(0, .ref mo), (1, .int (nI a)), (2, .int (nI I)), (3, .int (nI N)), (4, .int (nI ((40 * a) + I))), (5, .int (nI i)), (6, .long ((mf_srt (σ.2.1 2 a) (fun q => el σ a (I + q)) i) i)), (8, .int (nI i))] [1, 2, 3, 4, 5, 6, 7, 0] rfl ?_
            obtain ⟨F, hFe⟩ : ∃ F, F = (mf_srt (σ.2.1 2 a) (fun q => el σ a (I + q)) i) := ⟨_, rfl⟩
            have lp_64 : ∀ (fu9 : Nat) (q : Nat) (M64 : hp_h), q < fu9 → (q ≤ i) → (mf_pos (σ.2.1 2 a) (mf_srt (σ.2.1 2 a) (fun q => el σ a (I + q)) i) ((mf_srt (σ.2.1 2 a) (fun q => el σ a (I + q)) i) i) i = mf_pos (σ.2.1 2 a) (mf_srt (σ.2.1 2 a) (fun q => el σ a (I + q)) i) ((mf_srt (σ.2.1 2 a) (fun q => el σ a (I + q)) i) i) q) → MH G mo ad (sl σ 4 (mfill (σ.2.2.1 4) (40 * a + I) N (mf_shift (mf_srt (σ.2.1 2 a) (fun q => el σ a (I + q)) i) q i))) M64 → MFr mo ad M M64 → V p l e { frames := 4, cells := 0, slots := 0, locals := 92 } s m args below meth c G N0 9 (QV below G N0 (PM G mo ad M (some (.int (mf_sort σ a (nI I) (nI N)).1)) (mf_sort σ a (nI I) (nI N)).2) PX0 args s (0) (0)) (0) (0) M64 64 [(0, .ref mo), (1, .int (nI a)), (2, .int (nI I)), (3, .int (nI N)), (4, .int (nI ((40 * a) + I))), (5, .int (nI i)), (6, .long ((mf_srt (σ.2.1 2 a) (fun q => el σ a (I + q)) i) i)), (8, .int (nI q))] [] := by
              intro fu9
              induction fu9 with
              | zero => intro q M64 hfu9; exact absurd hfu9 (Nat.not_lt_zero _)
              | succ fu9 ih64 =>
                intro q M64 hfu9 hq hps hM64 hF64
                refine V_pc (pc1 := 64) rfl ?_
                refine V_iload C dX20_sort_64 7 rfl ?_
                refine V_if_le (tgt := 123) C dX20_sort_66 (by decide) (fun c_66 => ?_) (fun c_66 => ?_)
                · have hpq : mf_pos (σ.2.1 2 a) (mf_srt (σ.2.1 2 a) (fun q => el σ a (I + q)) i) ((mf_srt (σ.2.1 2 a) (fun q => el σ a (I + q)) i) i) i = q := by
                    rw [hps, show q = 0 by have := (nI_leI (b := 0) (by omega) (by omega)).mp c_66; omega]
                    rfl
                  refine V_aload_n C dX20_sort_123 rfl 0 rfl ?_
                  refine M_get C hM64 (.ref (ad 4)) f_X20_16_9 rfl dX20_sort_124 ?_
                  refine V_iload C dX20_sort_127 4 rfl ?_
                  refine V_iload C dX20_sort_129 7 rfl ?_
                  refine V_iadd C dX20_sort_131 ?_
                  refine V_st (st' := [.int (nI (((40 * a) + I) + q)), .ref (ad 4)]) (by rw [show ((nI ((40 * a) + I)) + (nI q)) = (nI (((40 * a) + I) + q)) from nI_add ((40 * a) + I) q]) ?_
                  refine V_lload C dX20_sort_132 6 rfl ?_
                  refine M_last C hM64 hF64 4 (40 * a + I + q) rfl rfl (show 40 * a + I + q < 2400 from by omega) dX20_sort_134 (fun M_3 hM_4 hF_5 => ?_)
                  have hM_6 : MH G mo ad (sl σ 4 (va_up (mfill (σ.2.2.1 4) (40 * a + I) N (mf_shift (mf_srt (σ.2.1 2 a) (fun q => el σ a (I + q)) i) q i)) (40 * a + I + q) ((mf_srt (σ.2.1 2 a) (fun q => el σ a (I + q)) i) i))) M_3 := MH.cg hM_4 (by rw [sl_sl, sl_g])
                  have hM_7 : MH G mo ad (sl σ 4 (mfill (σ.2.2.1 4) (40 * a + I) N (mf_ins (mf_srt (σ.2.1 2 a) (fun q => el σ a (I + q)) i) (mf_pos (σ.2.1 2 a) (mf_srt (σ.2.1 2 a) (fun q => el σ a (I + q)) i) ((mf_srt (σ.2.1 2 a) (fun q => el σ a (I + q)) i) i) i) i))) M_3 := MH.cg hM_6 (by rw [hpq, mfill_up (w' := mf_ins (mf_srt (σ.2.1 2 a) (fun q => el σ a (I + q)) i) q i) (by omega) (fun x hx => ins_step x)])
                  refine V_iinc (v := nI (i + 1)) C dX20_sort_135 (k := 5) rfl (nI_add i 1) (Nat.le_of_ble_eq_true rfl) [(0, .ref mo), (1, .int (nI a)), (2, .int (nI I)), (3, .int (nI N)), (4, .int (nI ((40 * a) + I))), (5, .int (nI (i + 1))), (6, .long ((mf_srt (σ.2.1 2 a) (fun q => el σ a (I + q)) i) i)), (8, .int (nI q))] [1, 2, 3, 4, 5, 0, 6, 7] rfl ?_
                  refine V_goto (tgt := 42) C dX20_sort_138 (by decide) ?_
                  refine V_loc (L' := [(0, .ref mo), (1, .int (nI a)), (2, .int (nI I)), (3, .int (nI N)), (4, .int (nI ((40 * a) + I))), (5, .int (nI (i + 1)))]) [0, 1, 2, 3, 4, 5] rfl ?_
                  exact ih42 (i + 1) _ (by omega) (by omega) (by omega) (MH.cg hM_7 ((by rw [mf_srt_s h1]))) hF_5
                · have hq0 : 0 < q := by rcases Nat.eq_zero_or_pos q with z | z; (exact absurd (show nI q ≤ 0 from by rw [z]; decide) c_66); exact z
                  refine V_aload_n C dX20_sort_69 rfl 0 rfl ?_
                  refine M_get C hM64 (.ref (ad 2)) f_X20_7_9 rfl dX20_sort_70 ?_
                  refine V_iload_n C dX20_sort_73 rfl 1 rfl ?_
                  refine M_iald C hM64 2 a rfl rfl (show a < 60 from by first | omega | (have := hI.R.2; omega) | (have := hI.U.2; omega) | (have := hI.J.2; omega)) dX20_sort_74 ?_
                  refine V_st (st' := [.int (σ.2.1 2 a)]) rfl ?_
                  refine V_lload C dX20_sort_75 6 rfl ?_
                  refine V_aload_n C dX20_sort_77 rfl 0 rfl ?_
                  refine M_get C hM64 (.ref (ad 4)) f_X20_16_9 rfl dX20_sort_78 ?_
                  refine V_iload C dX20_sort_81 4 rfl ?_
                  refine V_iload C dX20_sort_83 7 rfl ?_
                  refine V_iadd C dX20_sort_85 ?_
                  refine V_st (st' := [.int (nI (((40 * a) + I) + q)), .ref (ad 4), .long ((mf_srt (σ.2.1 2 a) (fun q => el σ a (I + q)) i) i), .int (σ.2.1 2 a)]) (by rw [show ((nI ((40 * a) + I)) + (nI q)) = (nI (((40 * a) + I) + q)) from nI_add ((40 * a) + I) q]) ?_
                  refine V_pc (pc1 := 86) rfl ?_
                  refine V_iconst (v := 1) C dX20_sort_86 rfl ?_
                  refine V_isub C dX20_sort_87 ?_
                  refine V_st (st' := [.int (nI (40 * a + I + (q - 1))), .ref (ad 4), .long ((mf_srt (σ.2.1 2 a) (fun q => el σ a (I + q)) i) i), .int (σ.2.1 2 a)]) (by rw [show ((nI (((40 * a) + I) + q)) - 1) = (nI (40 * a + I + (q - 1))) from (by rw [show 40 * a + I + q = 40 * a + I + (q - 1) + 1 by omega]; exact nI_pred _)]) ?_
                  refine M_lald C hM64 4 (40 * a + I + (q - 1)) rfl rfl (show 40 * a + I + (q - 1) < 2400 from by omega) dX20_sort_88 ?_
                  refine V_st (st' := [.long ((mfill (σ.2.2.1 4) (40 * a + I) N (mf_shift (mf_srt (σ.2.1 2 a) (fun q => el σ a (I + q)) i) q i)) (40 * a + I + (q - 1))), .long ((mf_srt (σ.2.1 2 a) (fun q => el σ a (I + q)) i) i), .int (σ.2.1 2 a)]) rfl ?_
                  refine V_st (st' := [.long ((mf_srt (σ.2.1 2 a) (fun q => el σ a (I + q)) i) (q - 1)), .long ((mf_srt (σ.2.1 2 a) (fun q => el σ a (I + q)) i) i), .int (σ.2.1 2 a)]) (by rw [show ((mfill (σ.2.2.1 4) (40 * a + I) N (mf_shift (mf_srt (σ.2.1 2 a) (fun q => el σ a (I + q)) i) q i)) (40 * a + I + (q - 1))) = ((mf_srt (σ.2.1 2 a) (fun q => el σ a (I + q)) i) (q - 1)) from ((mfill_in (by omega)).trans (by have := shift_at (f := (mf_srt (σ.2.1 2 a) (fun q => el σ a (I + q)) i)) (q := q - 1) (p := i); rw [show q - 1 + 1 = q by omega] at this; exact this))]) ?_
                  refine V_callS C (c_X20_order l hl G X N0 M64 (σ.2.1 2 a) ((mf_srt (σ.2.1 2 a) (fun q => el σ a (I + q)) i) i) ((mf_srt (σ.2.1 2 a) (fun q => el σ a (I + q)) i) (q - 1))) cs_X20_228 rfl rfl ⟨Nat.le_of_ble_eq_true rfl, Nat.le_of_ble_eq_true rfl⟩ ⟨(by first | exact Nat.le_of_ble_eq_true rfl | omega | (dsimp only; omega)), (by first | exact Nat.le_of_ble_eq_true rfl | omega | (dsimp only; omega))⟩ (Nat.le_of_ble_eq_true rfl) dX20_sort_89 (fun _ _ _ h => px0 h) ?_
                  rintro _ _ ⟨rfl, rfl⟩
                  refine V_st (st' := [.int (mf_order (σ.2.1 2 a) ((mf_srt (σ.2.1 2 a) (fun q => el σ a (I + q)) i) i) ((mf_srt (σ.2.1 2 a) (fun q => el σ a (I + q)) i) (q - 1)))]) rfl ?_
                  refine V_if_ge (tgt := 123) C dX20_sort_92 (by decide) (fun c_92 => ?_) (fun c_92 => ?_)
                  · have hpq : mf_pos (σ.2.1 2 a) (mf_srt (σ.2.1 2 a) (fun q => el σ a (I + q)) i) ((mf_srt (σ.2.1 2 a) (fun q => el σ a (I + q)) i) i) i = q := by
                      rw [hps]
                      obtain ⟨r, rfl⟩ : ∃ r, q = r + 1 := ⟨q - 1, by omega⟩
                      show (if _ then _ else _) = _
                      exact if_neg (Int32.not_lt.mpr c_92)
                    refine V_aload_n C dX20_sort_123 rfl 0 rfl ?_
                    refine M_get C hM64 (.ref (ad 4)) f_X20_16_9 rfl dX20_sort_124 ?_
                    refine V_iload C dX20_sort_127 4 rfl ?_
                    refine V_iload C dX20_sort_129 7 rfl ?_
                    refine V_iadd C dX20_sort_131 ?_
                    refine V_st (st' := [.int (nI (((40 * a) + I) + q)), .ref (ad 4)]) (by rw [show ((nI ((40 * a) + I)) + (nI q)) = (nI (((40 * a) + I) + q)) from nI_add ((40 * a) + I) q]) ?_
                    refine V_lload C dX20_sort_132 6 rfl ?_
                    refine M_last C hM64 hF64 4 (40 * a + I + q) rfl rfl (show 40 * a + I + q < 2400 from by omega) dX20_sort_134 (fun M_8 hM_9 hF_10 => ?_)
                    have hM_11 : MH G mo ad (sl σ 4 (va_up (mfill (σ.2.2.1 4) (40 * a + I) N (mf_shift (mf_srt (σ.2.1 2 a) (fun q => el σ a (I + q)) i) q i)) (40 * a + I + q) ((mf_srt (σ.2.1 2 a) (fun q => el σ a (I + q)) i) i))) M_8 := MH.cg hM_9 (by rw [sl_sl, sl_g])
                    have hM_12 : MH G mo ad (sl σ 4 (mfill (σ.2.2.1 4) (40 * a + I) N (mf_ins (mf_srt (σ.2.1 2 a) (fun q => el σ a (I + q)) i) (mf_pos (σ.2.1 2 a) (mf_srt (σ.2.1 2 a) (fun q => el σ a (I + q)) i) ((mf_srt (σ.2.1 2 a) (fun q => el σ a (I + q)) i) i) i) i))) M_8 := MH.cg hM_11 (by rw [hpq, mfill_up (w' := mf_ins (mf_srt (σ.2.1 2 a) (fun q => el σ a (I + q)) i) q i) (by omega) (fun x hx => ins_step x)])
                    refine V_pc (pc1 := 135) rfl ?_
                    refine V_iinc (v := nI (i + 1)) C dX20_sort_135 (k := 5) rfl (nI_add i 1) (Nat.le_of_ble_eq_true rfl) [(0, .ref mo), (1, .int (nI a)), (2, .int (nI I)), (3, .int (nI N)), (4, .int (nI ((40 * a) + I))), (5, .int (nI (i + 1))), (6, .long ((mf_srt (σ.2.1 2 a) (fun q => el σ a (I + q)) i) i)), (8, .int (nI q))] [1, 2, 3, 4, 5, 0, 6, 7] rfl ?_
                    refine V_goto (tgt := 42) C dX20_sort_138 (by decide) ?_
                    refine V_loc (L' := [(0, .ref mo), (1, .int (nI a)), (2, .int (nI I)), (3, .int (nI N)), (4, .int (nI ((40 * a) + I))), (5, .int (nI (i + 1)))]) [0, 1, 2, 3, 4, 5] rfl ?_
                    exact ih42 (i + 1) _ (by omega) (by omega) (by omega) (MH.cg hM_12 ((by rw [mf_srt_s h1]))) hF_10
                  · refine V_aload_n C dX20_sort_95 rfl 0 rfl ?_
                    refine M_get C hM64 (.ref (ad 4)) f_X20_16_9 rfl dX20_sort_96 ?_
                    refine V_iload C dX20_sort_99 4 rfl ?_
                    refine V_iload C dX20_sort_101 7 rfl ?_
                    refine V_iadd C dX20_sort_103 ?_
                    refine V_st (st' := [.int (nI (((40 * a) + I) + q)), .ref (ad 4)]) (by rw [show ((nI ((40 * a) + I)) + (nI q)) = (nI (((40 * a) + I) + q)) from nI_add ((40 * a) + I) q]) ?_
                    refine V_aload_n C dX20_sort_104 rfl 0 rfl ?_
                    refine M_get C hM64 (.ref (ad 4)) f_X20_16_9 rfl dX20_sort_105 ?_
                    refine V_pc (pc1 := 108) rfl ?_
                    refine V_iload C dX20_sort_108 4 rfl ?_
                    refine V_iload C dX20_sort_110 7 rfl ?_
                    refine V_iadd C dX20_sort_112 ?_
                    refine V_st (st' := [.int (nI (((40 * a) + I) + q)), .ref (ad 4), .int (nI (((40 * a) + I) + q)), .ref (ad 4)]) (by rw [show ((nI ((40 * a) + I)) + (nI q)) = (nI (((40 * a) + I) + q)) from nI_add ((40 * a) + I) q]) ?_
                    refine V_iconst (v := 1) C dX20_sort_113 rfl ?_
                    refine V_isub C dX20_sort_114 ?_
                    refine V_st (st' := [.int (nI (40 * a + I + (q - 1))), .ref (ad 4), .int (nI (((40 * a) + I) + q)), .ref (ad 4)]) (by rw [show ((nI (((40 * a) + I) + q)) - 1) = (nI (40 * a + I + (q - 1))) from (by rw [show 40 * a + I + q = 40 * a + I + (q - 1) + 1 by omega]; exact nI_pred _)]) ?_
                    refine M_lald C hM64 4 (40 * a + I + (q - 1)) rfl rfl (show 40 * a + I + (q - 1) < 2400 from by omega) dX20_sort_115 ?_
                    refine V_st (st' := [.long ((mfill (σ.2.2.1 4) (40 * a + I) N (mf_shift (mf_srt (σ.2.1 2 a) (fun q => el σ a (I + q)) i) q i)) (40 * a + I + (q - 1))), .int (nI (((40 * a) + I) + q)), .ref (ad 4)]) rfl ?_
                    refine V_st (st' := [.long ((mf_srt (σ.2.1 2 a) (fun q => el σ a (I + q)) i) (q - 1)), .int (nI (((40 * a) + I) + q)), .ref (ad 4)]) (by rw [show ((mfill (σ.2.2.1 4) (40 * a + I) N (mf_shift (mf_srt (σ.2.1 2 a) (fun q => el σ a (I + q)) i) q i)) (40 * a + I + (q - 1))) = ((mf_srt (σ.2.1 2 a) (fun q => el σ a (I + q)) i) (q - 1)) from ((mfill_in (by omega)).trans (by have := shift_at (f := (mf_srt (σ.2.1 2 a) (fun q => el σ a (I + q)) i)) (q := q - 1) (p := i); rw [show q - 1 + 1 = q by omega] at this; exact this))]) ?_
                    refine M_last C hM64 hF64 4 (40 * a + I + q) rfl rfl (show 40 * a + I + q < 2400 from by omega) dX20_sort_116 (fun M_13 hM_14 hF_15 => ?_)
                    have hM_16 : MH G mo ad (sl σ 4 (va_up (mfill (σ.2.2.1 4) (40 * a + I) N (mf_shift (mf_srt (σ.2.1 2 a) (fun q => el σ a (I + q)) i) q i)) (40 * a + I + q) ((mf_srt (σ.2.1 2 a) (fun q => el σ a (I + q)) i) (q - 1)))) M_13 := MH.cg hM_14 (by rw [sl_sl, sl_g])
                    refine V_iinc (v := nI (q - 1)) C dX20_sort_117 (k := 7) rfl (nI_dec hq0) (Nat.le_of_ble_eq_true rfl) [(0, .ref mo), (1, .int (nI a)), (2, .int (nI I)), (3, .int (nI N)), (4, .int (nI ((40 * a) + I))), (5, .int (nI i)), (6, .long ((mf_srt (σ.2.1 2 a) (fun q => el σ a (I + q)) i) i)), (8, .int (nI (q - 1)))] [1, 2, 3, 4, 5, 6, 7, 0] rfl ?_
                    refine V_goto (tgt := 64) C dX20_sort_120 (by decide) ?_
                    exact ih64 (q - 1) _ (by omega) (by omega) (by rw [hps]; obtain ⟨r, rfl⟩ : ∃ r, q = r + 1 := ⟨q - 1, by omega⟩; show (if _ then _ else _) = _; rw [if_pos (by have := Int32.not_le.mp c_92; exact this)]; rfl) (MH.cg hM_16 ((by rw [mfill_up (w' := mf_shift (mf_srt (σ.2.1 2 a) (fun q => el σ a (I + q)) i) (q - 1) i) (by omega) (fun x hx => by have := shift_step (f := (mf_srt (σ.2.1 2 a) (fun q => el σ a (I + q)) i)) (q := q - 1) (p := i) (by omega) x; rw [show q - 1 + 1 = q by omega] at this; exact this)]))) hF_15
            refine V_loc (L' := [(0, .ref mo), (1, .int (nI a)), (2, .int (nI I)), (3, .int (nI N)), (4, .int (nI ((40 * a) + I))), (5, .int (nI i)), (6, .long ((mf_srt (σ.2.1 2 a) (fun q => el σ a (I + q)) i) i)), (8, .int (nI i))]) [0, 1, 2, 3, 4, 5, 6, 7] rfl ?_
            exact lp_64 _ i _ (Nat.lt_succ_self _) (Nat.le_refl i) rfl (MH.cg hM42 (by rw [mf_shift_0])) hF42
      refine V_loc (L' := [(0, .ref mo), (1, .int (nI a)), (2, .int (nI I)), (3, .int (nI N)), (4, .int (nI ((40 * a) + I))), (5, .int 1)]) [0, 1, 2, 3, 4, 5] rfl ?_
      exact lp_42 _ 1 _ (Nat.lt_succ_self _) (Nat.le_refl 1) (Nat.le_max_right _ _) (MH.cg hM (by show _ = sl σ 4 (mfill (σ.2.2.1 4) (40 * a + I) N (fun q => el σ a (I + q))); rw [show (fun q => el σ a (I + q)) = fun q => σ.2.2.1 4 ((40 * a + I) + q) from funext fun q => congrArg (σ.2.2.1 4) (show 40 * a + (I + q) = 40 * a + I + q by omega), mfill_id]; exact (sl_id σ 4).symm)) hF
    · refine V_iconst (v := 2) C dX20_sort_29 rfl ?_
      refine V_iret C dX20_sort_30 rfl ?_ (by first | exact Nat.le_of_ble_eq_true rfl | omega | (dsimp only; omega)) (by first | exact Nat.le_of_ble_eq_true rfl | omega | (dsimp only; omega))
      have e9 : mf_sort σ a i n = (2, σ) := by
        unfold mf_sort
        rw [if_neg (fun z => z (bI_n.mp c_14)), if_pos (bI_0.mp c_26)]
      rw [e9]; exact ⟨rfl, hM, hF⟩
  · refine V_iconst (v := 4) C dX20_sort_17 rfl ?_
    refine V_iret C dX20_sort_18 rfl ?_ (by first | exact Nat.le_of_ble_eq_true rfl | omega | (dsimp only; omega)) (by first | exact Nat.le_of_ble_eq_true rfl | omega | (dsimp only; omega))
    have e9 : mf_sort σ a i n = (4, σ) := by
      unfold mf_sort
      rw [if_pos (bI_0.mp c_14)]
    rw [e9]; exact ⟨rfl, hM, hF⟩
set_option maxHeartbeats 1000000 in
theorem c_X20_findIn (l : Launch) (hl : l.stackTraces = false) (G : hp_G) (X : Nat → Nat) (N0 : Nat) (mo : Nat) (ad : Nat → Nat) (σ : MS) (M : hp_h) (hM : MH G mo ad σ M) (a : Nat) (i j n : Int32) (hI : MI σ) (ha : a < nR σ) (hJ8 : nJ σ < 8000) : HM l yX20_findIn (ws_ yX20_findIn cX20_findIn 9 (some .int)) 4 93 0 0 G X N0 [.ref mo, .int (nI a), .int i, .int j, .int n] M (PM G mo ad M (some (.int (mf_findIn σ a i j n).1)) (mf_findIn σ a i j n).2) PX0 := by
  refine HM.of hl [(0, .ref mo), (1, .int (nI a)), (2, .int i), (3, .int j), (4, .int n)] (by decide +kernel) rfl (Nat.le_of_ble_eq_true rfl) ?_
  intro p e s m args below meth c C hname
  have hF : MFr mo ad M M := MFr.rf
  have hR6 := hI.R
  have hk_a := hI.k ha
  have hl_a := hI.l ha
  refine V_aload_n C dX20_findIn_0 rfl 0 rfl ?_
  refine M_get C hM (.ref (ad 2)) f_X20_7_9 rfl dX20_findIn_1 ?_
  refine V_iload_n C dX20_findIn_4 rfl 1 rfl ?_
  refine M_iald C hM 2 a rfl rfl (show a < 60 from by first | omega | (have := hI.R.2; omega) | (have := hI.U.2; omega) | (have := hI.J.2; omega)) dX20_findIn_5 ?_
  refine V_st (st' := [.int (nI (kd σ a))]) (by rw [show (σ.2.1 2 a) = (nI (kd σ a)) from hk_a.1]) ?_
  refine V_istore C dX20_findIn_6 (Nat.le_of_ble_eq_true rfl) [(0, .ref mo), (1, .int (nI a)), (2, .int i), (3, .int j), (4, .int n), (5, .int (nI (kd σ a)))] [1, 2, 3, 4, 5, 0] rfl ?_
  refine V_iload C dX20_findIn_8 5 rfl ?_
  refine V_bipush (v := 7) C dX20_findIn_10 rfl ?_
  refine V_icmp_le (tgt := 17) C dX20_findIn_12 (by decide) (fun c_12 => ?_) (fun c_12 => ?_)
  · refine V_aload_n C dX20_findIn_17 rfl 0 rfl ?_
    refine V_iload_n C dX20_findIn_18 rfl 1 rfl ?_
    refine V_iload_n C dX20_findIn_19 rfl 2 rfl ?_
    refine V_pc (pc1 := 20) rfl ?_
    refine V_iload C dX20_findIn_20 4 rfl ?_
    refine V_callV C (c_X20_hasPlaces l hl G X N0 mo ad σ M hM a (by omega) i n ) cs_X20_215_9 hM.1 (show CLS[9]? = some (RX20, TX20, 33) from rfl) rfl rfl ⟨Nat.le_of_ble_eq_true rfl, Nat.le_of_ble_eq_true rfl⟩ ⟨(by first | exact Nat.le_of_ble_eq_true rfl | omega | (dsimp only; omega)), (by first | exact Nat.le_of_ble_eq_true rfl | omega | (dsimp only; omega))⟩ (Nat.le_of_ble_eq_true rfl) dX20_findIn_22 (fun _ _ _ h => px0 h) ?_
    rintro _ _ ⟨rfl, rfl⟩
    refine V_st (st' := [.int (bI (mf_places σ a i n))]) rfl ?_
    refine V_if_ne (tgt := 30) C dX20_findIn_25 (by decide) (fun c_25 => ?_) (fun c_25 => ?_)
    · obtain ⟨I, N, rfl, rfl, hIN⟩ := places_n hl_a (bI_n.mp c_25)
      have hk7 : kd σ a ≤ 7 := (nI_leI (b := 7) (by omega) (by omega)).mp c_12
      have hk10 : ¬ nI (kd σ a) = 10 := fun z => absurd ((nI_eq (b := 10) (by omega) (by omega)).mp z) (by omega)
      refine V_aload_n C dX20_findIn_30 rfl 0 rfl ?_
      refine V_iload C dX20_findIn_31 5 rfl ?_
      refine V_iload_n C dX20_findIn_33 rfl 3 rfl ?_
      refine V_i2l (v := j.toInt64) C dX20_findIn_34 rfl ?_
      refine V_callV C (c_X20_asElement l hl G X N0 mo ad σ M hM (kd σ a) hk_a.2 j.toInt64 (nJ σ) hI.J.1 hJ8) cs_X20_173_9 hM.1 (show CLS[9]? = some (RX20, TX20, 33) from rfl) rfl rfl ⟨Nat.le_of_ble_eq_true rfl, Nat.le_of_ble_eq_true rfl⟩ ⟨(by first | exact Nat.le_of_ble_eq_true rfl | omega | (dsimp only; omega)), (by first | exact Nat.le_of_ble_eq_true rfl | omega | (dsimp only; omega))⟩ (Nat.le_of_ble_eq_true rfl) dX20_findIn_35 (fun _ _ _ h => px0 h) ?_
      rintro _ M_1 ⟨rfl, hM_2, hF_3⟩
      refine V_st (st' := [.long ((mf_asE (nI (kd σ a)) j.toInt64 σ).1)]) rfl ?_
      have hF_4 := hF.trans hF_3
      have hM_5 : MH G mo ad σ M_1 := MH.cg hM_2 (asE_2 hk10)
      refine V_lstore C dX20_findIn_38 (Nat.le_of_ble_eq_true rfl) [(0, .ref mo), (1, .int (nI a)), (2, .int (nI I)), (3, .int j), (4, .int (nI N)), (5, .int (nI (kd σ a))), (6, .long ((mf_asE (nI (kd σ a)) j.toInt64 σ).1))] [1, 2, 3, 4, 5, 6, 0] rfl ?_
      refine V_aload_n C dX20_findIn_40 rfl 0 rfl ?_
      refine V_ldc2 (v := -1) C (C.w q1596) dX20_findIn_41 ?_
      refine M_putl C hM_5 hF_4 f_X20_218_9 mF_18 dX20_findIn_44 (fun M_6 hM_7 hF_8 => ?_)
      refine V_pc (pc1 := 47) rfl ?_
      refine V_iload_n C dX20_findIn_47 rfl 2 rfl ?_
      refine V_iload C dX20_findIn_48 4 rfl ?_
      refine V_iadd C dX20_findIn_50 ?_
      refine V_st (st' := [.int (nI (I + N))]) (by rw [show ((nI I) + (nI N)) = (nI (I + N)) from nI_add I N]) ?_
      refine V_iconst (v := 1) C dX20_findIn_51 rfl ?_
      refine V_isub C dX20_findIn_52 ?_
      refine V_st (st' := [.int (nI (I + N) - 1)]) (by rw [show ((nI (I + N)) - 1) = (nI (I + N) - 1) from rfl]) ?_
      refine V_istore C dX20_findIn_53 (Nat.le_of_ble_eq_true rfl) [(0, .ref mo), (1, .int (nI a)), (2, .int (nI I)), (3, .int j), (4, .int (nI N)), (5, .int (nI (kd σ a))), (6, .long ((mf_asE (nI (kd σ a)) j.toInt64 σ).1)), (8, .int (nI (I + N) - 1))] [1, 2, 3, 4, 5, 6, 7, 0] rfl ?_
      obtain ⟨vv, hvv⟩ : ∃ v, v = (mf_asE (nI (kd σ a)) j.toInt64 σ).1 := ⟨_, rfl⟩
      have lp_55 : ∀ (fu9 : Nat) (t : Nat) (M55 : hp_h), t < fu9 → (t ≤ N) → MH G mo ad (sa σ (mf_fnd (fun q => decide (mf_eq σ (nI (kd σ a)) (el σ a (I + q)) (mf_asE (nI (kd σ a)) j.toInt64 σ).1)) I N (N - t))) M55 → MFr mo ad M M55 → V p l e { frames := 4, cells := 0, slots := 0, locals := 93 } s m args below meth c G N0 9 (QV below G N0 (PM G mo ad M (some (.int (mf_findIn σ a (nI I) j (nI N)).1)) (mf_findIn σ a (nI I) j (nI N)).2) PX0 args s (0) (0)) (0) (0) M55 55 [(0, .ref mo), (1, .int (nI a)), (2, .int (nI I)), (3, .int j), (4, .int (nI N)), (5, .int (nI (kd σ a))), (6, .long ((mf_asE (nI (kd σ a)) j.toInt64 σ).1)), (8, .int (nI (I + t) - 1))] [] := by
        intro fu9
        induction fu9 with
        | zero => intro t M55 hfu9; exact absurd hfu9 (Nat.not_lt_zero _)
        | succ fu9 ih55 =>
          intro t M55 hfu9 ht hM55 hF55
          refine V_iload C dX20_findIn_55 7 rfl ?_
          refine V_iload_n C dX20_findIn_57 rfl 2 rfl ?_
          refine V_icmp_lt (tgt := 104) C dX20_findIn_58 (by decide) (fun c_58 => ?_) (fun c_58 => ?_)
          · refine V_iconst (v := 0) C dX20_findIn_104 rfl ?_
            refine V_iret C dX20_findIn_105 rfl ?_ (by first | exact Nat.le_of_ble_eq_true rfl | omega | (dsimp only; omega)) (by first | exact Nat.le_of_ble_eq_true rfl | omega | (dsimp only; omega))
            have ht0 : t = 0 := by
              rcases Nat.eq_zero_or_pos t with z | z
              · exact z
              · rw [show nI (I + t) - 1 = nI (I + t - 1) from nI_sub (b := 1) (by omega)] at c_58
                have := (nI_ltI (by omega) (by omega)).mp c_58
                omega
            have e9 : mf_findIn σ a (nI I) j (nI N) = (0, (sa σ (mf_fnd (fun q => decide (mf_eq σ (nI (kd σ a)) (el σ a (I + q)) (mf_asE (nI (kd σ a)) j.toInt64 σ).1)) I N (N - t)))) := by
              unfold mf_findIn
              rw [hk_a.1, if_neg (fun z => z c_12), if_neg (fun z => z (bI_n.mp c_25)), nI_clamp (by omega), nI_clamp (by omega)]
              unfold mf_findA
              rw [hk_a.1, ht0]
              rfl
            rw [e9]; exact ⟨rfl, hM55, hF55⟩
          · have ht1 : 0 < t := by
              rcases Nat.eq_zero_or_pos t with z | z
              · subst z
                exact absurd (show nI (I + 0) - 1 < nI I from pred_lt (by omega)) c_58
              · exact z
            have e8 : nI (I + t) - 1 = nI (I + (t - 1)) := by rw [show I + (t - 1) = I + t - 1 by omega]; exact nI_sub (b := 1) (by omega)
            refine V_loc (L' := [(0, .ref mo), (1, .int (nI a)), (2, .int (nI I)), (3, .int j), (4, .int (nI N)), (5, .int (nI (kd σ a))), (6, .long ((mf_asE (nI (kd σ a)) j.toInt64 σ).1)), (8, .int (nI (I + (t - 1))))]) [0, 1, 2, 3, 4, 5, 6, 7] (by rw [e8]; rfl) ?_
            refine V_aload_n C dX20_findIn_61 rfl 0 rfl ?_
            refine V_aload_n C dX20_findIn_62 rfl 0 rfl ?_
            refine V_iload C dX20_findIn_63 5 rfl ?_
            refine V_pc (pc1 := 65) rfl ?_
            refine V_aload_n C dX20_findIn_65 rfl 0 rfl ?_
            refine M_get C hM55 (.ref (ad 4)) f_X20_16_9 rfl dX20_findIn_66 ?_
            refine V_bipush (v := 40) C dX20_findIn_69 rfl ?_
            refine V_iload_n C dX20_findIn_71 rfl 1 rfl ?_
            refine V_imul C dX20_findIn_72 ?_
            refine V_st (st' := [.int (nI (40 * a)), .ref (ad 4), .int (nI (kd σ a)), .ref mo, .ref mo]) (by rw [show (40 * (nI a)) = (nI (40 * a)) from pk_mul 40 a]) ?_
            refine V_iload C dX20_findIn_73 7 rfl ?_
            refine V_iadd C dX20_findIn_75 ?_
            refine V_st (st' := [.int (nI ((40 * a) + (I + (t - 1)))), .ref (ad 4), .int (nI (kd σ a)), .ref mo, .ref mo]) (by rw [show ((nI (40 * a)) + (nI (I + (t - 1)))) = (nI ((40 * a) + (I + (t - 1)))) from nI_add (40 * a) (I + (t - 1))]) ?_
            refine M_lald C hM55 4 (40 * a + (I + (t - 1))) rfl rfl (show 40 * a + (I + (t - 1)) < 2400 from by omega) dX20_findIn_76 ?_
            refine V_st (st' := [.long (σ.2.2.1 4 (40 * a + (I + (t - 1)))), .int (nI (kd σ a)), .ref mo, .ref mo]) rfl ?_
            refine V_st (st' := [.long (el σ a (I + (t - 1))), .int (nI (kd σ a)), .ref mo, .ref mo]) (by rw [show (σ.2.2.1 4 (40 * a + (I + (t - 1)))) = (el σ a (I + (t - 1))) from rfl]) ?_
            refine V_lload C dX20_findIn_77 6 rfl ?_
            refine V_callV C (c_X20_areEqual l hl G X N0 mo ad (sa σ (mf_fnd (fun q => decide (mf_eq σ (nI (kd σ a)) (el σ a (I + q)) (mf_asE (nI (kd σ a)) j.toInt64 σ).1)) I N (N - t))) M55 hM55 (nI (kd σ a)) (el σ a (I + (t - 1))) ((mf_asE (nI (kd σ a)) j.toInt64 σ).1) hI (fun h => absurd h hk10) ) cs_X20_222_9 hM55.1 (show CLS[9]? = some (RX20, TX20, 33) from rfl) rfl rfl ⟨Nat.le_of_ble_eq_true rfl, Nat.le_of_ble_eq_true rfl⟩ ⟨(by first | exact Nat.le_of_ble_eq_true rfl | omega | (dsimp only; omega)), (by first | exact Nat.le_of_ble_eq_true rfl | omega | (dsimp only; omega))⟩ (Nat.le_of_ble_eq_true rfl) dX20_findIn_79 (fun _ _ _ h => px0 h) ?_
            rintro _ _ ⟨rfl, rfl⟩
            refine V_st (st' := [.int (bI (mf_eq σ (nI (kd σ a)) (el σ a (I + (t - 1))) ((mf_asE (nI (kd σ a)) j.toInt64 σ).1))), .ref mo]) rfl ?_
            refine V_if_eq (tgt := 91) C dX20_findIn_82 (by decide) (fun c_82 => ?_) (fun c_82 => ?_)
            · refine V_aload_n C dX20_findIn_91 rfl 0 rfl ?_
              refine V_pc (pc1 := 92) rfl ?_
              refine M_get C hM55 (.long (mf_fnd (fun q => decide (mf_eq σ (nI (kd σ a)) (el σ a (I + q)) (mf_asE (nI (kd σ a)) j.toInt64 σ).1)) I N (N - t))) f_X20_218_9 rfl dX20_findIn_92 ?_
              refine M_putl C hM55 hF55 f_X20_218_9 mF_18 dX20_findIn_95 (fun M_10 hM_11 hF_12 => ?_)
              refine V_iinc (v := nI (I + (t - 1)) - 1) C dX20_findIn_98 (k := 7) rfl (dec1 _) (Nat.le_of_ble_eq_true rfl) [(0, .ref mo), (1, .int (nI a)), (2, .int (nI I)), (3, .int j), (4, .int (nI N)), (5, .int (nI (kd σ a))), (6, .long ((mf_asE (nI (kd σ a)) j.toInt64 σ).1)), (8, .int (nI (I + (t - 1)) - 1))] [1, 2, 3, 4, 5, 6, 7, 0] rfl ?_
              refine V_goto (tgt := 55) C dX20_findIn_101 (by decide) ?_
              exact ih55 (t - 1) _ (by omega) (by omega) (MH.cg hM_11 (by rw [sa_sa]; congr 1; rw [show N - (t - 1) = (N - t) + 1 by omega]; show _ = (if _ then _ else _); rw [show N - (N - t + 1) = t - 1 by omega]; first | rw [if_neg (fun z => bI_0.mp c_82 (of_decide_eq_true z))] | (rw [if_pos (decide_eq_true (bI_n.mp c_82))]))) hF_12
            · refine V_iload C dX20_findIn_85 7 rfl ?_
              refine V_pc (pc1 := 87) rfl ?_
              refine V_i2l (v := (nI (I + (t - 1))).toInt64) C dX20_findIn_87 rfl ?_
              refine V_st (st' := [.long (lN (I + (t - 1))), .ref mo]) (by rw [show ((nI (I + (t - 1))).toInt64) = (lN (I + (t - 1))) from nI_l (by omega)]) ?_
              refine V_goto (tgt := 95) C dX20_findIn_88 (by decide) ?_
              refine M_putl C hM55 hF55 f_X20_218_9 mF_18 dX20_findIn_95 (fun M_13 hM_14 hF_15 => ?_)
              refine V_iinc (v := nI (I + (t - 1)) - 1) C dX20_findIn_98 (k := 7) rfl (dec1 _) (Nat.le_of_ble_eq_true rfl) [(0, .ref mo), (1, .int (nI a)), (2, .int (nI I)), (3, .int j), (4, .int (nI N)), (5, .int (nI (kd σ a))), (6, .long ((mf_asE (nI (kd σ a)) j.toInt64 σ).1)), (8, .int (nI (I + (t - 1)) - 1))] [1, 2, 3, 4, 5, 6, 7, 0] rfl ?_
              refine V_goto (tgt := 55) C dX20_findIn_101 (by decide) ?_
              exact ih55 (t - 1) _ (by omega) (by omega) (MH.cg hM_14 (by rw [sa_sa]; congr 1; rw [show N - (t - 1) = (N - t) + 1 by omega]; show _ = (if _ then _ else _); rw [show N - (N - t + 1) = t - 1 by omega]; first | rw [if_neg (fun z => bI_0.mp c_82 (of_decide_eq_true z))] | (rw [if_pos (decide_eq_true (bI_n.mp c_82))]))) hF_15
      refine V_loc (L' := [(0, .ref mo), (1, .int (nI a)), (2, .int (nI I)), (3, .int j), (4, .int (nI N)), (5, .int (nI (kd σ a))), (6, .long ((mf_asE (nI (kd σ a)) j.toInt64 σ).1)), (8, .int (nI (I + N) - 1))]) [0, 1, 2, 3, 4, 5, 6, 7] rfl ?_
      exact lp_55 _ N _ (Nat.lt_succ_self _) (Nat.le_refl N) (MH.cg hM_7 (by rw [Nat.sub_self]; rfl)) hF_8
    · refine V_iconst (v := 2) C dX20_findIn_28 rfl ?_
      refine V_iret C dX20_findIn_29 rfl ?_ (by first | exact Nat.le_of_ble_eq_true rfl | omega | (dsimp only; omega)) (by first | exact Nat.le_of_ble_eq_true rfl | omega | (dsimp only; omega))
      have e9 : mf_findIn σ a i j n = (2, σ) := by
        unfold mf_findIn
        rw [hk_a.1, if_neg (fun z => z c_12), if_pos (bI_0.mp c_25)]
      rw [e9]; exact ⟨rfl, hM, hF⟩
  · refine V_iconst (v := 4) C dX20_findIn_15 rfl ?_
    refine V_iret C dX20_findIn_16 rfl ?_ (by first | exact Nat.le_of_ble_eq_true rfl | omega | (dsimp only; omega)) (by first | exact Nat.le_of_ble_eq_true rfl | omega | (dsimp only; omega))
    have e9 : mf_findIn σ a i j n = (4, σ) := by
      unfold mf_findIn
      rw [hk_a.1, if_pos c_12]
    rw [e9]; exact ⟨rfl, hM, hF⟩
set_option maxHeartbeats 1000000 in
theorem c_X20_done_0 (l : Launch) (hl : l.stackTraces = false) (G : hp_G) (X : Nat → Nat) (N0 : Nat) (mo : Nat) (ad : Nat → Nat) (σ : MS) (M : hp_h) (hM : MH G mo ad σ M) (a i b j n : Int32) (hI : MI σ) (hr : mf_hasRows σ 0 a b) (hJ8 : nJ σ < 8000) : HM l yX20_done (ws_ yX20_done cX20_done 7 (some .int)) 9 400 0 0 G X N0 [.ref mo, .int 0, .int a, .int i, .int b, .int j, .int n] M (PM G mo ad M (some (.int (mf_done σ 0 a i b j n).1)) (mf_done σ 0 a i b j n).2) PX0 := by
  obtain ⟨a0, ha0, rfl⟩ := hI.row (hr.1.resolve_left (by decide))
  have ea : (nI a0).toNatClampNeg = a0 := nI_clamp (by have := hI.R.2; omega)
  obtain ⟨b0, hb0, rfl⟩ := hI.row (hr.2.resolve_left (by decide))
  have eb : (nI b0).toNatClampNeg = b0 := nI_clamp (by have := hI.R.2; omega)
  refine HM.of hl [(0, .ref mo), (1, .int 0), (2, .int (nI a0)), (3, .int i), (4, .int (nI b0)), (5, .int j), (6, .int n)] (by decide +kernel) rfl (Nat.le_of_ble_eq_true rfl) ?_
  intro p e s m args below meth c C hname
  have hF : MFr mo ad M M := MFr.rf
  refine V_aload_n C dX20_done_0 rfl 0 rfl ?_
  refine V_lconst (v := 0) C dX20_done_1 rfl ?_
  refine M_putl C hM hF f_X20_218_9 mF_18 dX20_done_2 (fun M_1 hM_2 hF_3 => ?_)
  refine V_iload_n C dX20_done_5 rfl 1 rfl ?_
  refine V_tableIn (tgt := 72) (off := 66) C dX20_done_6 (by decide) (by decide) (by decide) (by decide) ?_
  refine V_aload_n C dX20_done_72 rfl 0 rfl ?_
  refine V_iload_n C dX20_done_73 rfl 2 rfl ?_
  refine V_iload_n C dX20_done_74 rfl 3 rfl ?_
  refine V_iload C dX20_done_75 4 rfl ?_
  refine V_iload C dX20_done_77 5 rfl ?_
  refine V_iload C dX20_done_79 6 rfl ?_
  refine V_pc (pc1 := 81) rfl ?_
  refine V_callV C (c_X20_copy l hl G X N0 mo ad (sa σ 0) M_1 hM_2 a0 b0 i j n hI ha0 hb0) cs_X20_252_9 hM_2.1 (show CLS[9]? = some (RX20, TX20, 33) from rfl) rfl rfl ⟨Nat.le_of_ble_eq_true rfl, Nat.le_of_ble_eq_true rfl⟩ ⟨(by first | exact Nat.le_of_ble_eq_true rfl | omega | (dsimp only; omega)), (by first | exact Nat.le_of_ble_eq_true rfl | omega | (dsimp only; omega))⟩ (Nat.le_of_ble_eq_true rfl) dX20_done_81 (fun _ _ _ h => px0 h) ?_
  rintro _ M_4 ⟨rfl, hM_5, hF_6⟩
  refine V_st (st' := [.int ((mf_copy (sa σ 0) a0 i b0 j n).1)]) rfl ?_
  have hF_7 := hF_3.trans hF_6
  refine V_iret C dX20_done_84 rfl ?_ (by first | exact Nat.le_of_ble_eq_true rfl | omega | (dsimp only; omega)) (by first | exact Nat.le_of_ble_eq_true rfl | omega | (dsimp only; omega))
  have e9 : mf_done σ 0 (nI a0) i (nI b0) j n = mf_copy (sa σ 0) a0 i b0 j n := by
    unfold mf_done
    rw [ea, eb]
    rfl
  rw [e9]; exact ⟨rfl, hM_5, hF_7⟩
set_option maxHeartbeats 1000000 in
theorem c_X20_done_1 (l : Launch) (hl : l.stackTraces = false) (G : hp_G) (X : Nat → Nat) (N0 : Nat) (mo : Nat) (ad : Nat → Nat) (σ : MS) (M : hp_h) (hM : MH G mo ad σ M) (a i b j n : Int32) (hI : MI σ) (hr : mf_hasRows σ 1 a b) (hJ8 : nJ σ < 8000) : HM l yX20_done (ws_ yX20_done cX20_done 7 (some .int)) 9 400 0 0 G X N0 [.ref mo, .int 1, .int a, .int i, .int b, .int j, .int n] M (PM G mo ad M (some (.int (mf_done σ 1 a i b j n).1)) (mf_done σ 1 a i b j n).2) PX0 := by
  obtain ⟨a0, ha0, rfl⟩ := hI.row (hr.1.resolve_left (by decide))
  have ea : (nI a0).toNatClampNeg = a0 := nI_clamp (by have := hI.R.2; omega)
  refine HM.of hl [(0, .ref mo), (1, .int 1), (2, .int (nI a0)), (3, .int i), (4, .int b), (5, .int j), (6, .int n)] (by decide +kernel) rfl (Nat.le_of_ble_eq_true rfl) ?_
  intro p e s m args below meth c C hname
  have hF : MFr mo ad M M := MFr.rf
  refine V_aload_n C dX20_done_0 rfl 0 rfl ?_
  refine V_lconst (v := 0) C dX20_done_1 rfl ?_
  refine M_putl C hM hF f_X20_218_9 mF_18 dX20_done_2 (fun M_1 hM_2 hF_3 => ?_)
  refine V_iload_n C dX20_done_5 rfl 1 rfl ?_
  refine V_tableIn (tgt := 85) (off := 79) C dX20_done_6 (by decide) (by decide) (by decide) (by decide) ?_
  refine V_aload_n C dX20_done_85 rfl 0 rfl ?_
  refine V_iload_n C dX20_done_86 rfl 2 rfl ?_
  refine V_callV C (c_X20_copyRow l hl G X N0 mo ad (sa σ 0) M_1 hM_2 a0 hI ha0) cs_X20_256_9 hM_2.1 (show CLS[9]? = some (RX20, TX20, 33) from rfl) rfl rfl ⟨Nat.le_of_ble_eq_true rfl, Nat.le_of_ble_eq_true rfl⟩ ⟨(by first | exact Nat.le_of_ble_eq_true rfl | omega | (dsimp only; omega)), (by first | exact Nat.le_of_ble_eq_true rfl | omega | (dsimp only; omega))⟩ (Nat.le_of_ble_eq_true rfl) dX20_done_87 (fun _ _ _ h => px0 h) ?_
  rintro _ M_4 ⟨rfl, hM_5, hF_6⟩
  refine V_st (st' := [.int ((mf_copyRow (sa σ 0) a0).1)]) rfl ?_
  have hF_7 := hF_3.trans hF_6
  refine V_iret C dX20_done_90 rfl ?_ (by first | exact Nat.le_of_ble_eq_true rfl | omega | (dsimp only; omega)) (by first | exact Nat.le_of_ble_eq_true rfl | omega | (dsimp only; omega))
  have e9 : mf_done σ 1 (nI a0) i b j n = mf_copyRow (sa σ 0) a0 := by
    unfold mf_done
    rw [ea]
    rfl
  rw [e9]; exact ⟨rfl, hM_5, hF_7⟩
set_option maxHeartbeats 1000000 in
theorem c_X20_done_2 (l : Launch) (hl : l.stackTraces = false) (G : hp_G) (X : Nat → Nat) (N0 : Nat) (mo : Nat) (ad : Nat → Nat) (σ : MS) (M : hp_h) (hM : MH G mo ad σ M) (a i b j n : Int32) (hI : MI σ) (hr : mf_hasRows σ 2 a b) (hJ8 : nJ σ < 8000) : HM l yX20_done (ws_ yX20_done cX20_done 7 (some .int)) 9 400 0 0 G X N0 [.ref mo, .int 2, .int a, .int i, .int b, .int j, .int n] M (PM G mo ad M (some (.int (mf_done σ 2 a i b j n).1)) (mf_done σ 2 a i b j n).2) PX0 := by
  obtain ⟨a0, ha0, rfl⟩ := hI.row (hr.1.resolve_left (by decide))
  have ea : (nI a0).toNatClampNeg = a0 := nI_clamp (by have := hI.R.2; omega)
  refine HM.of hl [(0, .ref mo), (1, .int 2), (2, .int (nI a0)), (3, .int i), (4, .int b), (5, .int j), (6, .int n)] (by decide +kernel) rfl (Nat.le_of_ble_eq_true rfl) ?_
  intro p e s m args below meth c C hname
  have hF : MFr mo ad M M := MFr.rf
  refine V_aload_n C dX20_done_0 rfl 0 rfl ?_
  refine V_lconst (v := 0) C dX20_done_1 rfl ?_
  refine M_putl C hM hF f_X20_218_9 mF_18 dX20_done_2 (fun M_1 hM_2 hF_3 => ?_)
  refine V_iload_n C dX20_done_5 rfl 1 rfl ?_
  refine V_tableIn (tgt := 91) (off := 85) C dX20_done_6 (by decide) (by decide) (by decide) (by decide) ?_
  refine V_aload_n C dX20_done_91 rfl 0 rfl ?_
  refine V_iload_n C dX20_done_92 rfl 2 rfl ?_
  refine V_iload_n C dX20_done_93 rfl 3 rfl ?_
  refine V_iload C dX20_done_94 5 rfl ?_
  refine V_iload C dX20_done_96 6 rfl ?_
  refine V_callV C (c_X20_fill l hl G X N0 mo ad (sa σ 0) M_1 hM_2 a0 i j n hI ha0 hJ8) cs_X20_259_9 hM_2.1 (show CLS[9]? = some (RX20, TX20, 33) from rfl) rfl rfl ⟨Nat.le_of_ble_eq_true rfl, Nat.le_of_ble_eq_true rfl⟩ ⟨(by first | exact Nat.le_of_ble_eq_true rfl | omega | (dsimp only; omega)), (by first | exact Nat.le_of_ble_eq_true rfl | omega | (dsimp only; omega))⟩ (Nat.le_of_ble_eq_true rfl) dX20_done_98 (fun _ _ _ h => px0 h) ?_
  rintro _ M_4 ⟨rfl, hM_5, hF_6⟩
  refine V_st (st' := [.int ((mf_fill (sa σ 0) a0 i j n).1)]) rfl ?_
  have hF_7 := hF_3.trans hF_6
  refine V_pc (pc1 := 101) rfl ?_
  refine V_iret C dX20_done_101 rfl ?_ (by first | exact Nat.le_of_ble_eq_true rfl | omega | (dsimp only; omega)) (by first | exact Nat.le_of_ble_eq_true rfl | omega | (dsimp only; omega))
  have e9 : mf_done σ 2 (nI a0) i b j n = mf_fill (sa σ 0) a0 i j n := by
    unfold mf_done
    rw [ea]
    rfl
  rw [e9]; exact ⟨rfl, hM_5, hF_7⟩
set_option maxHeartbeats 1000000 in
theorem c_X20_done_3 (l : Launch) (hl : l.stackTraces = false) (G : hp_G) (X : Nat → Nat) (N0 : Nat) (mo : Nat) (ad : Nat → Nat) (σ : MS) (M : hp_h) (hM : MH G mo ad σ M) (a i b j n : Int32) (hI : MI σ) (hr : mf_hasRows σ 3 a b) (hJ8 : nJ σ < 8000) : HM l yX20_done (ws_ yX20_done cX20_done 7 (some .int)) 9 400 0 0 G X N0 [.ref mo, .int 3, .int a, .int i, .int b, .int j, .int n] M (PM G mo ad M (some (.int (mf_done σ 3 a i b j n).1)) (mf_done σ 3 a i b j n).2) PX0 := by
  obtain ⟨a0, ha0, rfl⟩ := hI.row (hr.1.resolve_left (by decide))
  have ea : (nI a0).toNatClampNeg = a0 := nI_clamp (by have := hI.R.2; omega)
  obtain ⟨b0, hb0, rfl⟩ := hI.row (hr.2.resolve_left (by decide))
  have eb : (nI b0).toNatClampNeg = b0 := nI_clamp (by have := hI.R.2; omega)
  refine HM.of hl [(0, .ref mo), (1, .int 3), (2, .int (nI a0)), (3, .int i), (4, .int (nI b0)), (5, .int j), (6, .int n)] (by decide +kernel) rfl (Nat.le_of_ble_eq_true rfl) ?_
  intro p e s m args below meth c C hname
  have hF : MFr mo ad M M := MFr.rf
  refine V_aload_n C dX20_done_0 rfl 0 rfl ?_
  refine V_lconst (v := 0) C dX20_done_1 rfl ?_
  refine M_putl C hM hF f_X20_218_9 mF_18 dX20_done_2 (fun M_1 hM_2 hF_3 => ?_)
  refine V_iload_n C dX20_done_5 rfl 1 rfl ?_
  refine V_tableIn (tgt := 102) (off := 96) C dX20_done_6 (by decide) (by decide) (by decide) (by decide) ?_
  refine V_aload_n C dX20_done_102 rfl 0 rfl ?_
  refine V_iload_n C dX20_done_103 rfl 2 rfl ?_
  refine V_iload C dX20_done_104 4 rfl ?_
  refine V_callV C (c_X20_equal l hl G X N0 mo ad (sa σ 0) M_1 hM_2 a0 b0 hI ha0 hb0) cs_X20_262_9 hM_2.1 (show CLS[9]? = some (RX20, TX20, 33) from rfl) rfl rfl ⟨Nat.le_of_ble_eq_true rfl, Nat.le_of_ble_eq_true rfl⟩ ⟨(by first | exact Nat.le_of_ble_eq_true rfl | omega | (dsimp only; omega)), (by first | exact Nat.le_of_ble_eq_true rfl | omega | (dsimp only; omega))⟩ (Nat.le_of_ble_eq_true rfl) dX20_done_106 (fun _ _ _ h => px0 h) ?_
  rintro _ M_4 ⟨rfl, hM_5, hF_6⟩
  refine V_st (st' := [.int ((mf_equal (sa σ 0) a0 b0).1)]) rfl ?_
  have hF_7 := hF_3.trans hF_6
  refine V_iret C dX20_done_109 rfl ?_ (by first | exact Nat.le_of_ble_eq_true rfl | omega | (dsimp only; omega)) (by first | exact Nat.le_of_ble_eq_true rfl | omega | (dsimp only; omega))
  have e9 : mf_done σ 3 (nI a0) i (nI b0) j n = mf_equal (sa σ 0) a0 b0 := by
    unfold mf_done
    rw [ea, eb]
    rfl
  rw [e9]; exact ⟨rfl, hM_5, hF_7⟩
set_option maxHeartbeats 1000000 in
theorem c_X20_done_4 (l : Launch) (hl : l.stackTraces = false) (G : hp_G) (X : Nat → Nat) (N0 : Nat) (mo : Nat) (ad : Nat → Nat) (σ : MS) (M : hp_h) (hM : MH G mo ad σ M) (a i b j n : Int32) (hI : MI σ) (hr : mf_hasRows σ 4 a b) (hJ8 : nJ σ < 8000) : HM l yX20_done (ws_ yX20_done cX20_done 7 (some .int)) 9 400 0 0 G X N0 [.ref mo, .int 4, .int a, .int i, .int b, .int j, .int n] M (PM G mo ad M (some (.int (mf_done σ 4 a i b j n).1)) (mf_done σ 4 a i b j n).2) PX0 := by
  obtain ⟨a0, ha0, rfl⟩ := hI.row (hr.1.resolve_left (by decide))
  have ea : (nI a0).toNatClampNeg = a0 := nI_clamp (by have := hI.R.2; omega)
  obtain ⟨b0, hb0, rfl⟩ := hI.row (hr.2.resolve_left (by decide))
  have eb : (nI b0).toNatClampNeg = b0 := nI_clamp (by have := hI.R.2; omega)
  refine HM.of hl [(0, .ref mo), (1, .int 4), (2, .int (nI a0)), (3, .int i), (4, .int (nI b0)), (5, .int j), (6, .int n)] (by decide +kernel) rfl (Nat.le_of_ble_eq_true rfl) ?_
  intro p e s m args below meth c C hname
  have hF : MFr mo ad M M := MFr.rf
  refine V_aload_n C dX20_done_0 rfl 0 rfl ?_
  refine V_lconst (v := 0) C dX20_done_1 rfl ?_
  refine M_putl C hM hF f_X20_218_9 mF_18 dX20_done_2 (fun M_1 hM_2 hF_3 => ?_)
  refine V_iload_n C dX20_done_5 rfl 1 rfl ?_
  refine V_tableIn (tgt := 110) (off := 104) C dX20_done_6 (by decide) (by decide) (by decide) (by decide) ?_
  refine V_aload_n C dX20_done_110 rfl 0 rfl ?_
  refine V_iload_n C dX20_done_111 rfl 2 rfl ?_
  refine V_iload C dX20_done_112 4 rfl ?_
  refine V_callV C (c_X20_orderRows l hl G X N0 mo ad (sa σ 0) M_1 hM_2 a0 b0 hI ha0 hb0) cs_X20_265_9 hM_2.1 (show CLS[9]? = some (RX20, TX20, 33) from rfl) rfl rfl ⟨Nat.le_of_ble_eq_true rfl, Nat.le_of_ble_eq_true rfl⟩ ⟨(by first | exact Nat.le_of_ble_eq_true rfl | omega | (dsimp only; omega)), (by first | exact Nat.le_of_ble_eq_true rfl | omega | (dsimp only; omega))⟩ (Nat.le_of_ble_eq_true rfl) dX20_done_114 (fun _ _ _ h => px0 h) ?_
  rintro _ M_4 ⟨rfl, hM_5, hF_6⟩
  refine V_st (st' := [.int ((mf_orderRows (sa σ 0) a0 b0).1)]) rfl ?_
  have hF_7 := hF_3.trans hF_6
  refine V_iret C dX20_done_117 rfl ?_ (by first | exact Nat.le_of_ble_eq_true rfl | omega | (dsimp only; omega)) (by first | exact Nat.le_of_ble_eq_true rfl | omega | (dsimp only; omega))
  have e9 : mf_done σ 4 (nI a0) i (nI b0) j n = mf_orderRows (sa σ 0) a0 b0 := by
    unfold mf_done
    rw [ea, eb]
    rfl
  rw [e9]; exact ⟨rfl, hM_5, hF_7⟩
set_option maxHeartbeats 1000000 in
theorem c_X20_done_5 (l : Launch) (hl : l.stackTraces = false) (G : hp_G) (X : Nat → Nat) (N0 : Nat) (mo : Nat) (ad : Nat → Nat) (σ : MS) (M : hp_h) (hM : MH G mo ad σ M) (a i b j n : Int32) (hI : MI σ) (hr : mf_hasRows σ 5 a b) (hJ8 : nJ σ < 8000) : HM l yX20_done (ws_ yX20_done cX20_done 7 (some .int)) 9 400 0 0 G X N0 [.ref mo, .int 5, .int a, .int i, .int b, .int j, .int n] M (PM G mo ad M (some (.int (mf_done σ 5 a i b j n).1)) (mf_done σ 5 a i b j n).2) PX0 := by
  obtain ⟨a0, ha0, rfl⟩ := hI.row (hr.1.resolve_left (by decide))
  have ea : (nI a0).toNatClampNeg = a0 := nI_clamp (by have := hI.R.2; omega)
  refine HM.of hl [(0, .ref mo), (1, .int 5), (2, .int (nI a0)), (3, .int i), (4, .int b), (5, .int j), (6, .int n)] (by decide +kernel) rfl (Nat.le_of_ble_eq_true rfl) ?_
  intro p e s m args below meth c C hname
  have hF : MFr mo ad M M := MFr.rf
  refine V_aload_n C dX20_done_0 rfl 0 rfl ?_
  refine V_lconst (v := 0) C dX20_done_1 rfl ?_
  refine M_putl C hM hF f_X20_218_9 mF_18 dX20_done_2 (fun M_1 hM_2 hF_3 => ?_)
  refine V_iload_n C dX20_done_5 rfl 1 rfl ?_
  refine V_tableIn (tgt := 118) (off := 112) C dX20_done_6 (by decide) (by decide) (by decide) (by decide) ?_
  refine V_aload_n C dX20_done_118 rfl 0 rfl ?_
  refine V_iload_n C dX20_done_119 rfl 2 rfl ?_
  refine V_callV C (c_X20_sum l hl G X N0 mo ad (sa σ 0) M_1 hM_2 a0 hI ha0) cs_X20_268_9 hM_2.1 (show CLS[9]? = some (RX20, TX20, 33) from rfl) rfl rfl ⟨Nat.le_of_ble_eq_true rfl, Nat.le_of_ble_eq_true rfl⟩ ⟨(by first | exact Nat.le_of_ble_eq_true rfl | omega | (dsimp only; omega)), (by first | exact Nat.le_of_ble_eq_true rfl | omega | (dsimp only; omega))⟩ (Nat.le_of_ble_eq_true rfl) dX20_done_120 (fun _ _ _ h => px0 h) ?_
  rintro _ M_4 ⟨rfl, hM_5, hF_6⟩
  refine V_st (st' := [.int ((mf_sum (sa σ 0) a0).1)]) rfl ?_
  have hF_7 := hF_3.trans hF_6
  refine V_iret C dX20_done_123 rfl ?_ (by first | exact Nat.le_of_ble_eq_true rfl | omega | (dsimp only; omega)) (by first | exact Nat.le_of_ble_eq_true rfl | omega | (dsimp only; omega))
  have e9 : mf_done σ 5 (nI a0) i b j n = mf_sum (sa σ 0) a0 := by
    unfold mf_done
    rw [ea]
    rfl
  rw [e9]; exact ⟨rfl, hM_5, hF_7⟩
set_option maxHeartbeats 1000000 in
theorem c_X20_done_6 (l : Launch) (hl : l.stackTraces = false) (G : hp_G) (X : Nat → Nat) (N0 : Nat) (mo : Nat) (ad : Nat → Nat) (σ : MS) (M : hp_h) (hM : MH G mo ad σ M) (a i b j n : Int32) (hI : MI σ) (hr : mf_hasRows σ 6 a b) (hJ8 : nJ σ < 8000) : HM l yX20_done (ws_ yX20_done cX20_done 7 (some .int)) 9 400 0 0 G X N0 [.ref mo, .int 6, .int a, .int i, .int b, .int j, .int n] M (PM G mo ad M (some (.int (mf_done σ 6 a i b j n).1)) (mf_done σ 6 a i b j n).2) PX0 := by
  obtain ⟨a0, ha0, rfl⟩ := hI.row (hr.1.resolve_left (by decide))
  have ea : (nI a0).toNatClampNeg = a0 := nI_clamp (by have := hI.R.2; omega)
  refine HM.of hl [(0, .ref mo), (1, .int 6), (2, .int (nI a0)), (3, .int i), (4, .int b), (5, .int j), (6, .int n)] (by decide +kernel) rfl (Nat.le_of_ble_eq_true rfl) ?_
  intro p e s m args below meth c C hname
  have hF : MFr mo ad M M := MFr.rf
  refine V_aload_n C dX20_done_0 rfl 0 rfl ?_
  refine V_lconst (v := 0) C dX20_done_1 rfl ?_
  refine M_putl C hM hF f_X20_218_9 mF_18 dX20_done_2 (fun M_1 hM_2 hF_3 => ?_)
  refine V_iload_n C dX20_done_5 rfl 1 rfl ?_
  refine V_tableIn (tgt := 124) (off := 118) C dX20_done_6 (by decide) (by decide) (by decide) (by decide) ?_
  refine V_aload_n C dX20_done_124 rfl 0 rfl ?_
  refine V_iload_n C dX20_done_125 rfl 2 rfl ?_
  refine V_callV C (c_X20_greatest l hl G X N0 mo ad (sa σ 0) M_1 hM_2 a0 hI ha0) cs_X20_271_9 hM_2.1 (show CLS[9]? = some (RX20, TX20, 33) from rfl) rfl rfl ⟨Nat.le_of_ble_eq_true rfl, Nat.le_of_ble_eq_true rfl⟩ ⟨(by first | exact Nat.le_of_ble_eq_true rfl | omega | (dsimp only; omega)), (by first | exact Nat.le_of_ble_eq_true rfl | omega | (dsimp only; omega))⟩ (Nat.le_of_ble_eq_true rfl) dX20_done_126 (fun _ _ _ h => px0 h) ?_
  rintro _ M_4 ⟨rfl, hM_5, hF_6⟩
  refine V_st (st' := [.int ((mf_greatest (sa σ 0) a0).1)]) rfl ?_
  have hF_7 := hF_3.trans hF_6
  refine V_iret C dX20_done_129 rfl ?_ (by first | exact Nat.le_of_ble_eq_true rfl | omega | (dsimp only; omega)) (by first | exact Nat.le_of_ble_eq_true rfl | omega | (dsimp only; omega))
  have e9 : mf_done σ 6 (nI a0) i b j n = mf_greatest (sa σ 0) a0 := by
    unfold mf_done
    rw [ea]
    rfl
  rw [e9]; exact ⟨rfl, hM_5, hF_7⟩
set_option maxHeartbeats 1000000 in
theorem c_X20_done_7 (l : Launch) (hl : l.stackTraces = false) (G : hp_G) (X : Nat → Nat) (N0 : Nat) (mo : Nat) (ad : Nat → Nat) (σ : MS) (M : hp_h) (hM : MH G mo ad σ M) (a i b j n : Int32) (hI : MI σ) (hr : mf_hasRows σ 7 a b) (hJ8 : nJ σ < 8000) : HM l yX20_done (ws_ yX20_done cX20_done 7 (some .int)) 9 400 0 0 G X N0 [.ref mo, .int 7, .int a, .int i, .int b, .int j, .int n] M (PM G mo ad M (some (.int (mf_done σ 7 a i b j n).1)) (mf_done σ 7 a i b j n).2) PX0 := by
  obtain ⟨a0, ha0, rfl⟩ := hI.row (hr.1.resolve_left (by decide))
  have ea : (nI a0).toNatClampNeg = a0 := nI_clamp (by have := hI.R.2; omega)
  refine HM.of hl [(0, .ref mo), (1, .int 7), (2, .int (nI a0)), (3, .int i), (4, .int b), (5, .int j), (6, .int n)] (by decide +kernel) rfl (Nat.le_of_ble_eq_true rfl) ?_
  intro p e s m args below meth c C hname
  have hF : MFr mo ad M M := MFr.rf
  refine V_aload_n C dX20_done_0 rfl 0 rfl ?_
  refine V_lconst (v := 0) C dX20_done_1 rfl ?_
  refine M_putl C hM hF f_X20_218_9 mF_18 dX20_done_2 (fun M_1 hM_2 hF_3 => ?_)
  refine V_iload_n C dX20_done_5 rfl 1 rfl ?_
  refine V_tableIn (tgt := 130) (off := 124) C dX20_done_6 (by decide) (by decide) (by decide) (by decide) ?_
  refine V_aload_n C dX20_done_130 rfl 0 rfl ?_
  refine V_iload_n C dX20_done_131 rfl 2 rfl ?_
  refine V_iload_n C dX20_done_132 rfl 3 rfl ?_
  refine V_iload C dX20_done_133 6 rfl ?_
  refine V_callV C (c_X20_turn l hl G X N0 mo ad (sa σ 0) M_1 hM_2 a0 i n hI ha0) cs_X20_274_9 hM_2.1 (show CLS[9]? = some (RX20, TX20, 33) from rfl) rfl rfl ⟨Nat.le_of_ble_eq_true rfl, Nat.le_of_ble_eq_true rfl⟩ ⟨(by first | exact Nat.le_of_ble_eq_true rfl | omega | (dsimp only; omega)), (by first | exact Nat.le_of_ble_eq_true rfl | omega | (dsimp only; omega))⟩ (Nat.le_of_ble_eq_true rfl) dX20_done_135 (fun _ _ _ h => px0 h) ?_
  rintro _ M_4 ⟨rfl, hM_5, hF_6⟩
  refine V_st (st' := [.int ((mf_turn (sa σ 0) a0 i n).1)]) rfl ?_
  have hF_7 := hF_3.trans hF_6
  refine V_iret C dX20_done_138 rfl ?_ (by first | exact Nat.le_of_ble_eq_true rfl | omega | (dsimp only; omega)) (by first | exact Nat.le_of_ble_eq_true rfl | omega | (dsimp only; omega))
  have e9 : mf_done σ 7 (nI a0) i b j n = mf_turn (sa σ 0) a0 i n := by
    unfold mf_done
    rw [ea]
    rfl
  rw [e9]; exact ⟨rfl, hM_5, hF_7⟩
set_option maxHeartbeats 1000000 in
theorem c_X20_done_8 (l : Launch) (hl : l.stackTraces = false) (G : hp_G) (X : Nat → Nat) (N0 : Nat) (mo : Nat) (ad : Nat → Nat) (σ : MS) (M : hp_h) (hM : MH G mo ad σ M) (a i b j n : Int32) (hI : MI σ) (hr : mf_hasRows σ 8 a b) (hJ8 : nJ σ < 8000) : HM l yX20_done (ws_ yX20_done cX20_done 7 (some .int)) 9 400 0 0 G X N0 [.ref mo, .int 8, .int a, .int i, .int b, .int j, .int n] M (PM G mo ad M (some (.int (mf_done σ 8 a i b j n).1)) (mf_done σ 8 a i b j n).2) PX0 := by
  obtain ⟨a0, ha0, rfl⟩ := hI.row (hr.1.resolve_left (by decide))
  have ea : (nI a0).toNatClampNeg = a0 := nI_clamp (by have := hI.R.2; omega)
  refine HM.of hl [(0, .ref mo), (1, .int 8), (2, .int (nI a0)), (3, .int i), (4, .int b), (5, .int j), (6, .int n)] (by decide +kernel) rfl (Nat.le_of_ble_eq_true rfl) ?_
  intro p e s m args below meth c C hname
  have hF : MFr mo ad M M := MFr.rf
  refine V_aload_n C dX20_done_0 rfl 0 rfl ?_
  refine V_lconst (v := 0) C dX20_done_1 rfl ?_
  refine M_putl C hM hF f_X20_218_9 mF_18 dX20_done_2 (fun M_1 hM_2 hF_3 => ?_)
  refine V_iload_n C dX20_done_5 rfl 1 rfl ?_
  refine V_tableIn (tgt := 139) (off := 133) C dX20_done_6 (by decide) (by decide) (by decide) (by decide) ?_
  refine V_aload_n C dX20_done_139 rfl 0 rfl ?_
  refine V_iload_n C dX20_done_140 rfl 2 rfl ?_
  refine V_iload_n C dX20_done_141 rfl 3 rfl ?_
  refine V_iload C dX20_done_142 6 rfl ?_
  refine V_callV C (c_X20_sort l hl G X N0 mo ad (sa σ 0) M_1 hM_2 a0 i n hI ha0) cs_X20_278_9 hM_2.1 (show CLS[9]? = some (RX20, TX20, 33) from rfl) rfl rfl ⟨Nat.le_of_ble_eq_true rfl, Nat.le_of_ble_eq_true rfl⟩ ⟨(by first | exact Nat.le_of_ble_eq_true rfl | omega | (dsimp only; omega)), (by first | exact Nat.le_of_ble_eq_true rfl | omega | (dsimp only; omega))⟩ (Nat.le_of_ble_eq_true rfl) dX20_done_144 (fun _ _ _ h => px0 h) ?_
  rintro _ M_4 ⟨rfl, hM_5, hF_6⟩
  refine V_st (st' := [.int ((mf_sort (sa σ 0) a0 i n).1)]) rfl ?_
  have hF_7 := hF_3.trans hF_6
  refine V_iret C dX20_done_147 rfl ?_ (by first | exact Nat.le_of_ble_eq_true rfl | omega | (dsimp only; omega)) (by first | exact Nat.le_of_ble_eq_true rfl | omega | (dsimp only; omega))
  have e9 : mf_done σ 8 (nI a0) i b j n = mf_sort (sa σ 0) a0 i n := by
    unfold mf_done
    rw [ea]
    rfl
  rw [e9]; exact ⟨rfl, hM_5, hF_7⟩
set_option maxHeartbeats 1000000 in
theorem c_X20_done_9 (l : Launch) (hl : l.stackTraces = false) (G : hp_G) (X : Nat → Nat) (N0 : Nat) (mo : Nat) (ad : Nat → Nat) (σ : MS) (M : hp_h) (hM : MH G mo ad σ M) (a i b j n : Int32) (hI : MI σ) (hr : mf_hasRows σ 9 a b) (hJ8 : nJ σ < 8000) : HM l yX20_done (ws_ yX20_done cX20_done 7 (some .int)) 9 400 0 0 G X N0 [.ref mo, .int 9, .int a, .int i, .int b, .int j, .int n] M (PM G mo ad M (some (.int (mf_done σ 9 a i b j n).1)) (mf_done σ 9 a i b j n).2) PX0 := by
  obtain ⟨a0, ha0, rfl⟩ := hI.row (hr.1.resolve_left (by decide))
  have ea : (nI a0).toNatClampNeg = a0 := nI_clamp (by have := hI.R.2; omega)
  refine HM.of hl [(0, .ref mo), (1, .int 9), (2, .int (nI a0)), (3, .int i), (4, .int b), (5, .int j), (6, .int n)] (by decide +kernel) rfl (Nat.le_of_ble_eq_true rfl) ?_
  intro p e s m args below meth c C hname
  have hF : MFr mo ad M M := MFr.rf
  refine V_aload_n C dX20_done_0 rfl 0 rfl ?_
  refine V_lconst (v := 0) C dX20_done_1 rfl ?_
  refine M_putl C hM hF f_X20_218_9 mF_18 dX20_done_2 (fun M_1 hM_2 hF_3 => ?_)
  refine V_iload_n C dX20_done_5 rfl 1 rfl ?_
  refine V_tableIn (tgt := 148) (off := 142) C dX20_done_6 (by decide) (by decide) (by decide) (by decide) ?_
  refine V_aload_n C dX20_done_148 rfl 0 rfl ?_
  refine V_iload_n C dX20_done_149 rfl 2 rfl ?_
  refine V_iload_n C dX20_done_150 rfl 3 rfl ?_
  refine V_iload C dX20_done_151 5 rfl ?_
  refine V_iload C dX20_done_153 6 rfl ?_
  refine V_callV C (c_X20_findIn l hl G X N0 mo ad (sa σ 0) M_1 hM_2 a0 i j n hI ha0 hJ8) cs_X20_281_9 hM_2.1 (show CLS[9]? = some (RX20, TX20, 33) from rfl) rfl rfl ⟨Nat.le_of_ble_eq_true rfl, Nat.le_of_ble_eq_true rfl⟩ ⟨(by first | exact Nat.le_of_ble_eq_true rfl | omega | (dsimp only; omega)), (by first | exact Nat.le_of_ble_eq_true rfl | omega | (dsimp only; omega))⟩ (Nat.le_of_ble_eq_true rfl) dX20_done_155 (fun _ _ _ h => px0 h) ?_
  rintro _ M_4 ⟨rfl, hM_5, hF_6⟩
  refine V_st (st' := [.int ((mf_findIn (sa σ 0) a0 i j n).1)]) rfl ?_
  have hF_7 := hF_3.trans hF_6
  refine V_pc (pc1 := 158) rfl ?_
  refine V_iret C dX20_done_158 rfl ?_ (by first | exact Nat.le_of_ble_eq_true rfl | omega | (dsimp only; omega)) (by first | exact Nat.le_of_ble_eq_true rfl | omega | (dsimp only; omega))
  have e9 : mf_done σ 9 (nI a0) i b j n = mf_findIn (sa σ 0) a0 i j n := by
    unfold mf_done
    rw [ea]
    rfl
  rw [e9]; exact ⟨rfl, hM_5, hF_7⟩
set_option maxHeartbeats 1000000 in
theorem c_X20_done_11 (l : Launch) (hl : l.stackTraces = false) (G : hp_G) (X : Nat → Nat) (N0 : Nat) (mo : Nat) (ad : Nat → Nat) (σ : MS) (M : hp_h) (hM : MH G mo ad σ M) (a i b j n : Int32) (hI : MI σ) (hr : mf_hasRows σ 11 a b) (hJ8 : nJ σ < 8000) : HM l yX20_done (ws_ yX20_done cX20_done 7 (some .int)) 9 400 0 0 G X N0 [.ref mo, .int 11, .int a, .int i, .int b, .int j, .int n] M (PM G mo ad M (some (.int (mf_done σ 11 a i b j n).1)) (mf_done σ 11 a i b j n).2) PX0 := by
  refine HM.of hl [(0, .ref mo), (1, .int 11), (2, .int a), (3, .int i), (4, .int b), (5, .int j), (6, .int n)] (by decide +kernel) rfl (Nat.le_of_ble_eq_true rfl) ?_
  intro p e s m args below meth c C hname
  have hF : MFr mo ad M M := MFr.rf
  refine V_aload_n C dX20_done_0 rfl 0 rfl ?_
  refine V_lconst (v := 0) C dX20_done_1 rfl ?_
  refine M_putl C hM hF f_X20_218_9 mF_18 dX20_done_2 (fun M_1 hM_2 hF_3 => ?_)
  refine V_iload_n C dX20_done_5 rfl 1 rfl ?_
  refine V_tableIn (tgt := 165) (off := 159) C dX20_done_6 (by decide) (by decide) (by decide) (by decide) ?_
  refine V_bipush (v := 6) C dX20_done_165 rfl ?_
  refine V_iret C dX20_done_167 rfl ?_ (by first | exact Nat.le_of_ble_eq_true rfl | omega | (dsimp only; omega)) (by first | exact Nat.le_of_ble_eq_true rfl | omega | (dsimp only; omega))
  have e9 : mf_done σ 11 a i b j n = (6, (sa σ 0)) := by
    unfold mf_done
    rfl
  rw [e9]; exact ⟨rfl, hM_2, hF_3⟩
set_option maxHeartbeats 1000000 in
theorem c_X20_done_12 (l : Launch) (hl : l.stackTraces = false) (G : hp_G) (X : Nat → Nat) (N0 : Nat) (mo : Nat) (ad : Nat → Nat) (σ : MS) (M : hp_h) (hM : MH G mo ad σ M) (a i b j n : Int32) (hI : MI σ) (hr : mf_hasRows σ 12 a b) (hJ8 : nJ σ < 8000) : HM l yX20_done (ws_ yX20_done cX20_done 7 (some .int)) 9 400 0 0 G X N0 [.ref mo, .int 12, .int a, .int i, .int b, .int j, .int n] M (PM G mo ad M (some (.int (mf_done σ 12 a i b j n).1)) (mf_done σ 12 a i b j n).2) PX0 := by
  obtain ⟨a0, ha0, rfl⟩ := hI.row (hr.1.resolve_left (by decide))
  have ea : (nI a0).toNatClampNeg = a0 := nI_clamp (by have := hI.R.2; omega)
  refine HM.of hl [(0, .ref mo), (1, .int 12), (2, .int (nI a0)), (3, .int i), (4, .int b), (5, .int j), (6, .int n)] (by decide +kernel) rfl (Nat.le_of_ble_eq_true rfl) ?_
  intro p e s m args below meth c C hname
  have hF : MFr mo ad M M := MFr.rf
  refine V_aload_n C dX20_done_0 rfl 0 rfl ?_
  refine V_lconst (v := 0) C dX20_done_1 rfl ?_
  refine M_putl C hM hF f_X20_218_9 mF_18 dX20_done_2 (fun M_1 hM_2 hF_3 => ?_)
  refine V_iload_n C dX20_done_5 rfl 1 rfl ?_
  refine V_tableIn (tgt := 159) (off := 153) C dX20_done_6 (by decide) (by decide) (by decide) (by decide) ?_
  refine V_aload_n C dX20_done_159 rfl 0 rfl ?_
  refine V_iload_n C dX20_done_160 rfl 2 rfl ?_
  refine V_callV C (c_X20_fees l hl G X N0 mo ad (sa σ 0) M_1 hM_2 a0 hI ha0) cs_X20_284_9 hM_2.1 (show CLS[9]? = some (RX20, TX20, 33) from rfl) rfl rfl ⟨Nat.le_of_ble_eq_true rfl, Nat.le_of_ble_eq_true rfl⟩ ⟨(by first | exact Nat.le_of_ble_eq_true rfl | omega | (dsimp only; omega)), (by first | exact Nat.le_of_ble_eq_true rfl | omega | (dsimp only; omega))⟩ (Nat.le_of_ble_eq_true rfl) dX20_done_161 (fun _ _ _ h => px0 h) ?_
  rintro _ M_4 ⟨rfl, hM_5, hF_6⟩
  refine V_st (st' := [.int ((mf_fees (sa σ 0) a0).1)]) rfl ?_
  have hF_7 := hF_3.trans hF_6
  refine V_iret C dX20_done_164 rfl ?_ (by first | exact Nat.le_of_ble_eq_true rfl | omega | (dsimp only; omega)) (by first | exact Nat.le_of_ble_eq_true rfl | omega | (dsimp only; omega))
  have e9 : mf_done σ 12 (nI a0) i b j n = mf_fees (sa σ 0) a0 := by
    unfold mf_done
    rw [ea]
    rfl
  rw [e9]; exact ⟨rfl, hM_5, hF_7⟩
theorem c_X20_done (l : Launch) (hl : l.stackTraces = false) (G : hp_G) (X : Nat → Nat) (N0 : Nat) (mo : Nat) (ad : Nat → Nat) (σ : MS) (M : hp_h) (hM : MH G mo ad σ M) (x0 : Nat) (hx : x0 ≤ 12) (hx1 : x0 ≠ 10) (a i b j n : Int32) (hI : MI σ) (hr : mf_hasRows σ (nI x0) a b) (hJ8 : nJ σ < 8000) : HM l yX20_done (ws_ yX20_done cX20_done 7 (some .int)) 9 400 0 0 G X N0 [.ref mo, .int (nI x0), .int a, .int i, .int b, .int j, .int n] M (PM G mo ad M (some (.int (mf_done σ x0 a i b j n).1)) (mf_done σ x0 a i b j n).2) PX0 := by
  match x0, hx, hx1 with
  | 0, _, _ => exact c_X20_done_0 l hl G X N0 mo ad σ M hM a i b j n hI hr hJ8
  | 1, _, _ => exact c_X20_done_1 l hl G X N0 mo ad σ M hM a i b j n hI hr hJ8
  | 2, _, _ => exact c_X20_done_2 l hl G X N0 mo ad σ M hM a i b j n hI hr hJ8
  | 3, _, _ => exact c_X20_done_3 l hl G X N0 mo ad σ M hM a i b j n hI hr hJ8
  | 4, _, _ => exact c_X20_done_4 l hl G X N0 mo ad σ M hM a i b j n hI hr hJ8
  | 5, _, _ => exact c_X20_done_5 l hl G X N0 mo ad σ M hM a i b j n hI hr hJ8
  | 6, _, _ => exact c_X20_done_6 l hl G X N0 mo ad σ M hM a i b j n hI hr hJ8
  | 7, _, _ => exact c_X20_done_7 l hl G X N0 mo ad σ M hM a i b j n hI hr hJ8
  | 8, _, _ => exact c_X20_done_8 l hl G X N0 mo ad σ M hM a i b j n hI hr hJ8
  | 9, _, _ => exact c_X20_done_9 l hl G X N0 mo ad σ M hM a i b j n hI hr hJ8
  | 10, _, h => exact absurd rfl h
  | 11, _, _ => exact c_X20_done_11 l hl G X N0 mo ad σ M hM a i b j n hI hr hJ8
  | 12, _, _ => exact c_X20_done_12 l hl G X N0 mo ad σ M hM a i b j n hI hr hJ8
  | n + 13, h, _ => exact absurd h (by omega)
