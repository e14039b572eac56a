set_option maxRecDepth 100000
theorem WP.ofSP {G : hp_G} {E0 : Nat} {g : RG} {σ σ' : MS} {z : Nat → Int32} {C : Nat} {M M' : hp_h} {v : Option Value} {w : Int64} {r : Int32 × MS} (h : SP G E0 g σ C M (some (.long w)) σ' z (σ.1 31) v M') (h31 : σ'.1 31 = σ.1 31) (hr : r = (0, sa σ' w)) : WP G E0 g σ z C M r v M' := by
  subst hr
  obtain ⟨h1, g', h2, h3⟩ := h
  refine ⟨rfl, h1, g', ?_, ?_⟩
  · have h4 := h2.view (VW.sa (v := w))
    rw [← h31] at h4
    exact h4
  · exact h3
set_option maxHeartbeats 1000000 in
theorem c_X6_work_f (l : Launch) (hl : l.stackTraces = false) (G : hp_G) (X : Nat → Nat) (N0 : Nat) (M : hp_h) (g : RG) (σ : MS) (z : Nat → Int32) (C9 c9 : Nat) (hC : c9 + 1 = C9) (hR : REL G (X 0) g σ z (σ.1 31) C9 M) (hI : MI σ) (P9 K9 rr : Nat) (x0 i b j n : Int32) (hP9 : P9 < 6) (hK9 : K9 < psz σ P9) (hr : rr < nR σ) (hAF : AF σ P9 K9 = [.int x0, .int (nI rr), .int i, .int b, .int j, .int n]) (h60 : nR σ = 60) : HM l yX6_work (ws_ yX6_work cX6_work 3 (some .long)) 16 600 3 130 G X N0 [.ref (qH g 1), .ref (qA g P9 K9), .ref (qC g c9)] M PFF (WX G (X 0) g σ z C9 M (mf_copyRow σ rr)) := by
  refine HM.of hl [(0, .ref (qH g 1)), (1, .ref (qA g P9 K9)), (2, .ref (qC g c9))] (by decide +kernel) rfl (Nat.le_of_ble_eq_true rfl) ?_
  intro p e s m args below meth c C hname
  have hN := hR.N
  obtain ⟨mdR, hRl⟩ := hR.Rl
  obtain ⟨fR, hRs, hRf⟩ := hR.Rls
  have hH9 : M (qH g 1) = some (.inr (11, [.int 3, .ref (qN g), .int 0, .int 10, .ref (qN g), .ref (qN g)])) := hR.H (by decide)
  have hac : M (qA g P9 K9) = some (.inr (3, [.int x0, .int (nI rr), .int i, .int b, .int j, .int n])) := (hR.A hP9 hK9).trans (congrArg (fun y => some (Sum.inr (3, y))) hAF)
  refine V_aload_n C dX6_work_0 rfl 0 rfl ?_
  refine V_get C f_X6_3_11 hH9 (v := .ref (qN g)) rfl dX6_work_1 ?_
  refine V_getN C f_X6_15_0 hN (v := .ref (qRl g)) rfl dX6_work_4 ?_
  refine V_callV C (c_J2_size l hl G X N0 M (qRl g) (qRe g) (nR σ) mdR hRl) cs_X6_19_1 hRl (show CLS[1]? = some (RJ2, TJ2, 3) from rfl) rfl rfl ⟨Nat.le_of_ble_eq_true rfl, Nat.le_of_ble_eq_true rfl⟩ ⟨(by first | exact Nat.le_of_ble_eq_true rfl | omega | (dsimp only; omega) | (simp only [List.length_cons, List.length_nil]; omega)), (by first | exact Nat.le_of_ble_eq_true rfl | omega | (dsimp only; omega) | (simp only [List.length_cons, List.length_nil]; omega))⟩ (Nat.le_of_ble_eq_true rfl) dX6_work_7 (fun _ _ _ h => px0 h) ?_
  rintro _ _ ⟨rfl, rfl⟩
  refine V_st (st' := [.int (nI (nR σ))]) rfl ?_
  refine V_bipush (v := 60) C dX6_work_10 rfl ?_
  refine V_icmp_ne (tgt := 24) C dX6_work_12 (by decide) (fun c_12 => ?_) (fun c_12 => ?_)
  · exact absurd (by rw [h60]; rfl) c_12
  · refine V_aload_n C dX6_work_15 rfl 0 rfl ?_
    refine V_get C f_X6_3_11 hH9 (v := .ref (qN g)) rfl dX6_work_16 ?_
    refine V_iconst (v := 5) C dX6_work_19 rfl ?_
    refine V_callVN C (c_X1_fail l hl G X N0 M (qN g) (qRl g) (qUl g) (qPl g) (qHs g) (qAn g) (σ.1 20) (σ.1 14) (σ.1 11) (σ.1 12) (σ.1 15) (z 0) (z 1) (z 2) (z 3) (z 4) (z 5) (σ.1 31) 5 hN) cs_X6_25_0 hN (show CLS[0]? = some (RX1, TX1, 17) from rfl) rfl rfl ⟨Nat.le_of_ble_eq_true rfl, Nat.le_of_ble_eq_true rfl⟩ ⟨(by first | exact Nat.le_of_ble_eq_true rfl | omega | (dsimp only; omega) | (simp only [List.length_cons, List.length_nil]; omega)), (by first | exact Nat.le_of_ble_eq_true rfl | omega | (dsimp only; omega) | (simp only [List.length_cons, List.length_nil]; omega))⟩ (Nat.le_of_ble_eq_true rfl) dX6_work_20 (fun _ _ _ h => px0 h) ?_
    rintro _ M_3 ⟨q_1, rfl, hq_2, hN_4, hF_5, fr_6, sh_7⟩
    refine V_st (st' := [.ref q_1]) rfl ?_
    refine V_athrow C hF_5 (show CLS[8]? = some (RX26, TX26, 7) from rfl) dX6_work_23 ?_
    exact VX_out C (fun z hz => by cases hz) (WX.at0 (if_pos h60) (by decide) (FLX.of hR hq_2 hN_4 hF_5 fr_6 sh_7)) (by first | exact Nat.le_of_ble_eq_true rfl | omega | (dsimp only; omega) | (simp only [List.length_cons, List.length_nil]; omega)) (by first | exact Nat.le_of_ble_eq_true rfl | omega | (dsimp only; omega) | (simp only [List.length_cons, List.length_nil]; omega))
set_option maxHeartbeats 1000000 in
theorem c_X6_work (l : Launch) (hl : l.stackTraces = false) (G : hp_G) (X : Nat → Nat) (N0 : Nat) (M : hp_h) (g : RG) (σ : MS) (z : Nat → Int32) (C9 c9 : Nat) (hC : c9 + 1 = C9) (hR : REL G (X 0) g σ z (σ.1 31) C9 M) (hI : MI σ) (P9 K9 rr : Nat) (x0 i b j n : Int32) (hP9 : P9 < 6) (hK9 : K9 < psz σ P9) (hr : rr < nR σ) (hAF : AF σ P9 K9 = [.int x0, .int (nI rr), .int i, .int b, .int j, .int n]) (h60 : nR σ ≠ 60) (hm : MW σ) : HM l yX6_work (ws_ yX6_work cX6_work 3 (some .long)) 16 600 3 130 G X N0 [.ref (qH g 1), .ref (qA g P9 K9), .ref (qC g c9)] M (WP G (X 0) g σ z C9 M (mf_copyRow σ rr)) PX0 := by
  refine HM.of hl [(0, .ref (qH g 1)), (1, .ref (qA g P9 K9)), (2, .ref (qC g c9))] (by decide +kernel) rfl (Nat.le_of_ble_eq_true rfl) ?_
  intro p e s m args below meth c C hname
  have hN := hR.N
  obtain ⟨mdR, hRl⟩ := hR.Rl
  obtain ⟨fR, hRs, hRf⟩ := hR.Rls
  have hH9 : M (qH g 1) = some (.inr (11, [.int 3, .ref (qN g), .int 0, .int 10, .ref (qN g), .ref (qN g)])) := hR.H (by decide)
  have hac : M (qA g P9 K9) = some (.inr (3, [.int x0, .int (nI rr), .int i, .int b, .int j, .int n])) := (hR.A hP9 hK9).trans (congrArg (fun y => some (Sum.inr (3, y))) hAF)
  have hR60 := hI.R.2
  have hR59 : nR σ < 60 := by omega
  have hfr : hp_fr (fun _ => False) M M := hp_fr.rf
  have hsh : hp_sh M M := hp_sh.rf
  obtain ⟨xr, hra, hrx, hrc⟩ := hR.rw hr
  obtain ⟨hkE, hkL⟩ := hI.k hr
  obtain ⟨hlE, hlL⟩ := hI.l hr
  refine V_aload_n C dX6_work_0 rfl 0 rfl ?_
  refine V_get C f_X6_3_11 hH9 (v := .ref (qN g)) rfl dX6_work_1 ?_
  refine V_getN C f_X6_15_0 hN (v := .ref (qRl g)) rfl dX6_work_4 ?_
  refine V_callV C (c_J2_size l hl G X N0 M (qRl g) (qRe g) (nR σ) mdR hRl) cs_X6_19_1 hRl (show CLS[1]? = some (RJ2, TJ2, 3) from rfl) rfl rfl ⟨Nat.le_of_ble_eq_true rfl, Nat.le_of_ble_eq_true rfl⟩ ⟨(by first | exact Nat.le_of_ble_eq_true rfl | omega | (dsimp only; omega) | (simp only [List.length_cons, List.length_nil]; omega)), (by first | exact Nat.le_of_ble_eq_true rfl | omega | (dsimp only; omega) | (simp only [List.length_cons, List.length_nil]; omega))⟩ (Nat.le_of_ble_eq_true rfl) dX6_work_7 (fun _ _ _ h => px0 h) ?_
  rintro _ _ ⟨rfl, rfl⟩
  refine V_st (st' := [.int (nI (nR σ))]) rfl ?_
  refine V_bipush (v := 60) C dX6_work_10 rfl ?_
  refine V_icmp_ne (tgt := 24) C dX6_work_12 (by decide) (fun c_12 => ?_) (fun c_12 => ?_)
  · refine V_aload_n C dX6_work_24 rfl 0 rfl ?_
    refine V_get C f_X6_3_11 hH9 (v := .ref (qN g)) rfl dX6_work_25 ?_
    refine V_getN C f_X6_15_0 hN (v := .ref (qRl g)) rfl dX6_work_28 ?_
    refine V_aload_n C dX6_work_31 rfl 0 rfl ?_
    refine V_get C f_X6_3_11 hH9 (v := .ref (qN g)) rfl dX6_work_32 ?_
    refine V_pc (pc1 := 35) rfl ?_
    refine V_getN C f_X6_15_0 hN (v := .ref (qRl g)) rfl dX6_work_35 ?_
    refine V_aload_n C dX6_work_38 rfl 1 rfl ?_
    refine V_getN C f_X6_29_3 hac (v := .int (nI rr)) rfl dX6_work_39 ?_
    refine V_callV C (c_J2_get l hl G X N0 M (qRl g) (qRe g) (nR σ) (gcp g 2 0) mdR fR hRl (hRs.2.2.1 (by have := hRs.2.2.2.1; omega)) (by have := hRs.2.2.2.2; omega) hRs.2.2.2.1 rr (qR g rr) hr (hRf rr hr)) cs_X6_35_1 hRl (show CLS[1]? = some (RJ2, TJ2, 3) from rfl) rfl rfl ⟨Nat.le_of_ble_eq_true rfl, Nat.le_of_ble_eq_true rfl⟩ ⟨(by first | exact Nat.le_of_ble_eq_true rfl | omega | (dsimp only; omega) | (simp only [List.length_cons, List.length_nil]; omega)), (by first | exact Nat.le_of_ble_eq_true rfl | omega | (dsimp only; omega) | (simp only [List.length_cons, List.length_nil]; omega))⟩ (Nat.le_of_ble_eq_true rfl) dX6_work_42 (fun _ _ _ h => px0 h) ?_
    rintro _ _ ⟨rfl, rfl⟩
    refine V_st (st' := [.ref (qR g rr), .ref (qRl g)]) rfl ?_
    refine V_callSN C (c_X1_cloneOf l hl G X N0 M (qR g rr) (kd σ rr) (ln σ rr) xr hkL hra hrx (by omega) (fun i hi => (hR.ev hI hrc (hm rr hr) i hi).sh hsh)) cs_X6_39 rfl rfl ⟨Nat.le_of_ble_eq_true rfl, Nat.le_of_ble_eq_true rfl⟩ ⟨(by first | exact Nat.le_of_ble_eq_true rfl | omega | (dsimp only; omega) | (simp only [List.length_cons, List.length_nil]; omega)), (by first | exact Nat.le_of_ble_eq_true rfl | omega | (dsimp only; omega) | (simp only [List.length_cons, List.length_nil]; omega))⟩ (Nat.le_of_ble_eq_true rfl) dX6_work_45 (fun _ _ _ h => px0 h) ?_
    rintro _ M_8 ⟨q_1, x_2, rfl, hq_3, hn_4, hx_5, hcv_6, frC_7⟩
    refine V_st (st' := [.ref q_1, .ref (qRl g)]) rfl ?_
    have ho_9 : M_8 (qN g) = some (.inr (0, [.ref (qRl g), .ref (qUl g), .ref (qPl g), .ref (qHs g), .int (σ.1 20), .int (σ.1 14), .int (σ.1 11), .int (σ.1 12), .int (σ.1 15), .int (z 0), .int (z 1), .int (z 2), .int (z 3), .int (z 4), .int (z 5), .int (σ.1 31), .ref (qAn g)])) := frC_7 _ _ (fun y => y) hN
    have ho_10 : M_8 (qRl g) = some (.inr (1, [.int mdR, .ref (qRe g), .int (nI (nR σ))])) := frC_7 _ _ (fun y => y) hRl
    have ho_11 : M_8 (qH g 1) = some (.inr (11, [.int 3, .ref (qN g), .int 0, .int 10, .ref (qN g), .ref (qN g)])) := frC_7 _ _ (fun y => y) hH9
    have ho_12 : M_8 (qA g P9 K9) = some (.inr (3, [.int x0, .int (nI rr), .int i, .int b, .int j, .int n])) := frC_7 _ _ (fun y => y) hac
    have ha_13 : M_8 (qR g rr) = some (.inl (G.2 (kd σ rr), xr)) := frC_7 _ _ (fun y => y) hra
    have fr_14 := hfr.trans (frC_7.weak (fun _ y => y.elim))
    have sh_15 := hsh.trans (hp_sh.of frC_7)
    have hqM_16 : M q_1 = none := hp_sh_none hsh hq_3
    obtain ⟨zc, zs, hzc, hzs, bc, bs9⟩ := add_z (nR σ) (gcp g 2 0)
    have bs := bs9 (by omega)
    have hS_18 := hRs.fr fr_14 (fun z => z) (fun _ z => z)
    refine V_callV C (c_J2_addZ (X := X) (N0 := N0) l hl (qRl g) (qRe g) (gcp g 2 0) (nR σ) q_1 zc zs fR hzc hzs hS_18 (by omega) (AS_row hkL hn_4) (fun i hi y hy => (hR.elR hI hRf i hi y hy).sh0 sh_15)) cs_X6_43_1 ho_10 (show CLS[1]? = some (RJ2, TJ2, 3) from rfl) rfl rfl ⟨Nat.le_of_ble_eq_true rfl, Nat.le_of_ble_eq_true rfl⟩ ⟨(by first | exact Nat.le_of_ble_eq_true rfl | omega | (dsimp only; omega) | (simp only [List.length_cons, List.length_nil]; omega)), (by first | exact Nat.le_of_ble_eq_true rfl | omega | (dsimp only; omega) | (simp only [List.length_cons, List.length_nil]; omega))⟩ (Nat.le_of_ble_eq_true rfl) dX6_work_48 (fun _ _ _ h => px0 h) ?_
    rintro _ M_17 ⟨rfl, e', cap', f', hLA, hshA⟩
    refine V_st (st' := [.int 1]) rfl ?_
    obtain ⟨mdA, hLo⟩ := hLA.1.1
    have ho_19 : M_17 (qN g) = some (.inr (0, [.ref (qRl g), .ref (qUl g), .ref (qPl g), .ref (qHs g), .int (σ.1 20), .int (σ.1 14), .int (σ.1 11), .int (σ.1 12), .int (σ.1 15), .int (z 0), .int (z 1), .int (z 2), .int (z 3), .int (z 4), .int (z 5), .int (σ.1 31), .ref (qAn g)])) := hLA.2.2.2.2 _ _ (fun y => y.elim (fun y => hR.ne (t := 0) (i := 0) (j := 0) (t' := 1) (i' := 0) (j' := 0) ⟨by decide, rfl, rfl⟩ ⟨by decide, rfl, rfl⟩ (by simp) y) (fun y => hR.ne (t := 0) (i := 0) (j := 0) (t' := 2) (i' := 0) (j' := 0) ⟨by decide, rfl, rfl⟩ ⟨rfl, rfl, y.1⟩ (by simp) y.2)) ho_9
    have ho_20 : M_17 (qH g 1) = some (.inr (11, [.int 3, .ref (qN g), .int 0, .int 10, .ref (qN g), .ref (qN g)])) := hLA.2.2.2.2 _ _ (fun y => y.elim (fun y => hR.ne (t := 13) (i := 1) (j := 0) (t' := 1) (i' := 0) (j' := 0) ⟨by decide, rfl⟩ ⟨by decide, rfl, rfl⟩ (by simp) y) (fun y => hR.ne (t := 13) (i := 1) (j := 0) (t' := 2) (i' := 0) (j' := 0) ⟨by decide, rfl⟩ ⟨rfl, rfl, y.1⟩ (by simp) y.2)) ho_11
    have ho_21 : M_17 (qA g P9 K9) = some (.inr (3, [.int x0, .int (nI rr), .int i, .int b, .int j, .int n])) := hLA.2.2.2.2 _ _ (fun y => y.elim (fun y => hR.ne (t := 11) (i := P9) (j := K9) (t' := 1) (i' := 0) (j' := 0) ⟨hP9, hK9⟩ ⟨by decide, rfl, rfl⟩ (by simp) y) (fun y => hR.ne (t := 11) (i := P9) (j := K9) (t' := 2) (i' := 0) (j' := 0) ⟨hP9, hK9⟩ ⟨rfl, rfl, y.1⟩ (by simp) y.2)) ho_12
    refine V_pop C dX6_work_51 rfl ?_
    refine V_aload_n C dX6_work_52 rfl 0 rfl ?_
    refine V_get C f_X6_3_11 ho_20 (v := .ref (qN g)) rfl dX6_work_53 ?_
    refine V_getN C f_X6_15_0 ho_19 (v := .ref (qRl g)) rfl dX6_work_56 ?_
    refine V_callV C (c_J2_size l hl G X N0 M_17 (qRl g) e' (nR σ + 1) mdA hLo) cs_X6_19_1 hLo (show CLS[1]? = some (RJ2, TJ2, 3) from rfl) rfl rfl ⟨Nat.le_of_ble_eq_true rfl, Nat.le_of_ble_eq_true rfl⟩ ⟨(by first | exact Nat.le_of_ble_eq_true rfl | omega | (dsimp only; omega) | (simp only [List.length_cons, List.length_nil]; omega)), (by first | exact Nat.le_of_ble_eq_true rfl | omega | (dsimp only; omega) | (simp only [List.length_cons, List.length_nil]; omega))⟩ (Nat.le_of_ble_eq_true rfl) dX6_work_59 (fun _ _ _ h => px0 h) ?_
    rintro _ _ ⟨rfl, rfl⟩
    refine V_st (st' := [.int (nI (nR σ + 1))]) rfl ?_
    refine V_iconst (v := 1) C dX6_work_62 rfl ?_
    refine V_pc (pc1 := 63) rfl ?_
    refine V_isub C dX6_work_63 ?_
    refine V_st (st' := [.int (nI (nR σ))]) (by rw [show ((nI (nR σ + 1)) - 1) = (nI (nR σ)) from (nI_pred _)]) ?_
    refine V_i2l (v := (nI (nR σ)).toInt64) C dX6_work_64 rfl ?_
    refine V_st (st' := [.long (lN (nR σ))]) (by rw [show ((nI (nR σ)).toInt64) = (lN (nR σ)) from (nI_l (by omega))]) ?_
    refine V_lret C dX6_work_65 rfl ?_ (by first | exact Nat.le_of_ble_eq_true rfl | omega | (dsimp only; omega) | (simp only [List.length_cons, List.length_nil]; omega)) (by first | exact Nat.le_of_ble_eq_true rfl | omega | (dsimp only; omega) | (simp only [List.length_cons, List.length_nil]; omega))
    obtain ⟨σ', hσ⟩ : ∃ σ', σ' = sl (mf_newRow (nR σ) (ln σ rr) (σ.2.1 2 rr) σ) 4 (mfill (σ.2.2.1 4) (40 * nR σ) (ln σ rr) (fun p => el σ rr p)) := ⟨_, rfl⟩
    have hr9 : mf_copyRow σ rr = (0, sa σ' (lN (nR σ))) := by rw [hσ]; exact if_neg h60
    have k1 : kd σ' (nR σ) = kd σ rr := by rw [hσ]; exact congrArg Int32.toNatClampNeg (newRow_kR (σ := σ) (R := nR σ) (N := ln σ rr) (k := σ.2.1 2 rr)).1
    have k2 : ln σ' (nR σ) = ln σ rr := by rw [hσ]; exact (congrArg Int32.toNatClampNeg (newRow_kR (σ := σ) (R := nR σ) (N := ln σ rr) (k := σ.2.1 2 rr)).2).trans (nI_clamp (show ln σ rr < 2 ^ 31 by omega))
    have s1 : ∀ k, k ≠ 1 → σ'.1 k = σ.1 k := fun k hk => by rw [hσ]; exact newRow_1 hk
    refine WP.ofSP (σ' := σ') (SP.addRow hR hI (x := x_2) s1 (by rw [hσ]; show ((mf_newRow (nR σ) (ln σ rr) (σ.2.1 2 rr) σ).1 1).toNatClampNeg = _; rw [newRow_R, nI_clamp (show nR σ + 1 < 2 ^ 31 by omega)]) (fun k h h3 => by rw [hσ]; exact newRow_2 h h3) (fun r hr => by have y := newRow_k (σ := σ) (R := nR σ) (N := ln σ rr) (k := σ.2.1 2 rr) (Nat.ne_of_lt hr); rw [hσ]; exact ⟨congrArg Int32.toNatClampNeg y.1, congrArg Int32.toNatClampNeg y.2⟩) (fun k h _ => by rw [hσ]; exact (show va_up _ 4 _ k = _ from va_up_n h).trans (newRow_3 h)) (fun r k hr hk => ?_) hqM_16 fr_14 (by rw [k1]; exact hn_4) sh_15 hLA hRf hshA (by rw [k1, k2]; exact hx_5) (fun k hk2 => ?_)) (s1 31 (by decide)) hr9
    · rw [hσ]
      have := (hI.l hr).2
      unfold el
      rw [sl_g, mfill_out (by omega)]
    · rw [k2] at hk2
      rw [k1]
      have e9 : el σ' (nR σ) k = el σ rr k := by
        rw [hσ]
        unfold el
        rw [sl_g, mfill_in hk2]
      rw [e9]
      exact (hrc k hk2).at_ (hcv_6 k hk2)
  · exact absurd ((nI_eq (b := 60) (by omega) (by decide)).mp c_12) h60
