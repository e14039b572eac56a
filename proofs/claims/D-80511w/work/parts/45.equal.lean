set_option maxRecDepth 100000
theorem bI_01 {p : Prop} [Decidable p] : bI p = 0 ∨ bI p = 1 := by
  unfold bI
  split
  · exact Or.inr rfl
  · exact Or.inl rfl
theorem bI_1 {p : Prop} [Decidable p] : bI p = 1 ↔ p := by
  unfold bI
  split
  · next h => exact ⟨fun _ => h, fun _ => rfl⟩
  · next h => exact ⟨fun y => absurd y (by decide), fun y => absurd y h⟩
set_option maxHeartbeats 1000000 in
theorem c_X10_work_d (l : Launch) (hl : l.stackTraces = false) (G : hp_G) (X : Nat → Nat) (N0 : Nat) (M : hp_h) (g : RG) (σ : MS) (z : Nat → Int32) (C9 c9 : Nat) (hC : c9 + 1 = C9) (hR : REL G (X 0) g σ z (σ.1 31) C9 M) (hI : MI σ) (P9 K9 rr rs : Nat) (x0 i j n : Int32) (hP9 : P9 < 6) (hK9 : K9 < psz σ P9) (hr : rr < nR σ) (hs : rs < nR σ) (hAF : AF σ P9 K9 = [.int x0, .int (nI rr), .int i, .int (nI rs), .int j, .int n]) (hd9 : ¬ (σ.2.1 2 rr = σ.2.1 2 rs ∧ σ.2.1 3 rr = σ.2.1 3 rs)) : HM l yX10_work (ws_ yX10_work cX10_work 7 (some .long)) 16 600 1 7 G X N0 [.ref (qH g 3), .ref (qA g P9 K9), .ref (qC g c9)] M (WP G (X 0) g σ z C9 M (mf_equal σ rr rs)) PX0 := by
  refine HM.of hl [(0, .ref (qH g 3)), (1, .ref (qA g P9 K9)), (2, .ref (qC g c9))] (by decide +kernel) rfl (Nat.le_of_ble_eq_true rfl) ?_
  intro p e s m args below meth c C hname
  have hN := hR.N
  obtain ⟨mdR, hRl⟩ := hR.Rl
  obtain ⟨fR, hRs, hRf⟩ := hR.Rls
  have hH9 : M (qH g 3) = some (.inr (13, [.int 1, .ref (qN g), .int 0, .int 10, .ref (qN g), .ref (qN g), .ref (qN g)])) := hR.H (by decide)
  have hac : M (qA g P9 K9) = some (.inr (3, [.int x0, .int (nI rr), .int i, .int (nI rs), .int j, .int n])) := (hR.A hP9 hK9).trans (congrArg (fun y => some (Sum.inr (3, y))) hAF)
  obtain ⟨xr, hra, hrx, hrc⟩ := hR.rw hr
  obtain ⟨hkE, hkL⟩ := hI.k hr
  obtain ⟨hlE, hlL⟩ := hI.l hr
  obtain ⟨xrB, hraB, hrxB, hrcB⟩ := hR.rw hs
  obtain ⟨hkEB, hkLB⟩ := hI.k hs
  obtain ⟨hlEB, hlLB⟩ := hI.l hs
  refine V_aload_n C dX10_work_0 rfl 0 rfl ?_
  refine V_get C f_X10_3_13 hH9 (v := .ref (qN g)) rfl dX10_work_1 ?_
  refine V_getN C f_X10_15_0 hN (v := .ref (qRl g)) rfl dX10_work_4 ?_
  refine V_aload_n C dX10_work_7 rfl 1 rfl ?_
  refine V_getN C f_X10_19_3 hac (v := .int (nI rr)) rfl dX10_work_8 ?_
  refine V_callV C (c_J2_get l hl G X N0 M (qRl g) (qRe g) (nR σ) (gcp g 2 0) mdR fR hRl (hRs.2.2.1 (by have := hRs.2.2.2.1; omega)) (by have := hRs.2.2.2.2; omega) hRs.2.2.2.1 rr (qR g rr) hr (hRf rr hr)) cs_X10_25_1 hRl (show CLS[1]? = some (RJ2, TJ2, 3) from rfl) rfl rfl ⟨Nat.le_of_ble_eq_true rfl, Nat.le_of_ble_eq_true rfl⟩ ⟨(by first | exact Nat.le_of_ble_eq_true rfl | omega | (dsimp only; omega) | (simp only [List.length_cons, List.length_nil]; omega)), (by first | exact Nat.le_of_ble_eq_true rfl | omega | (dsimp only; omega) | (simp only [List.length_cons, List.length_nil]; omega))⟩ (Nat.le_of_ble_eq_true rfl) dX10_work_11 (fun _ _ _ h => px0 h) ?_
  rintro _ _ ⟨rfl, rfl⟩
  refine V_st (st' := [.ref (qR g rr)]) rfl ?_
  refine V_astore_n C dX10_work_14 rfl (Nat.le_of_ble_eq_true rfl) [(0, .ref (qH g 3)), (1, .ref (qA g P9 K9)), (2, .ref (qC g c9)), (3, .ref (qR g rr))] [1, 2, 3, 0] rfl ?_
  refine V_aload_n C dX10_work_15 rfl 0 rfl ?_
  refine V_get C f_X10_3_13 hH9 (v := .ref (qN g)) rfl dX10_work_16 ?_
  refine V_getN C f_X10_15_0 hN (v := .ref (qRl g)) rfl dX10_work_19 ?_
  refine V_aload_n C dX10_work_22 rfl 1 rfl ?_
  refine V_pc (pc1 := 23) rfl ?_
  refine V_getN C f_X10_31_3 hac (v := .int (nI rs)) rfl dX10_work_23 ?_
  refine V_callV C (c_J2_get l hl G X N0 M (qRl g) (qRe g) (nR σ) (gcp g 2 0) mdR fR hRl (hRs.2.2.1 (by have := hRs.2.2.2.1; omega)) (by have := hRs.2.2.2.2; omega) hRs.2.2.2.1 rs (qR g rs) hs (hRf rs hs)) cs_X10_25_1 hRl (show CLS[1]? = some (RJ2, TJ2, 3) from rfl) rfl rfl ⟨Nat.le_of_ble_eq_true rfl, Nat.le_of_ble_eq_true rfl⟩ ⟨(by first | exact Nat.le_of_ble_eq_true rfl | omega | (dsimp only; omega) | (simp only [List.length_cons, List.length_nil]; omega)), (by first | exact Nat.le_of_ble_eq_true rfl | omega | (dsimp only; omega) | (simp only [List.length_cons, List.length_nil]; omega))⟩ (Nat.le_of_ble_eq_true rfl) dX10_work_26 (fun _ _ _ h => px0 h) ?_
  rintro _ _ ⟨rfl, rfl⟩
  refine V_st (st' := [.ref (qR g rs)]) rfl ?_
  refine V_astore C dX10_work_29 (Nat.le_of_ble_eq_true rfl) [(0, .ref (qH g 3)), (1, .ref (qA g P9 K9)), (2, .ref (qC g c9)), (3, .ref (qR g rr)), (4, .ref (qR g rs))] [1, 2, 3, 4, 0] rfl ?_
  refine V_aload_n C dX10_work_31 rfl 3 rfl ?_
  refine V_callSN C (c_X1_kindOf l hl G X N0 M (qR g rr) (kd σ rr) hkL xr hra) cs_X10_34 rfl rfl ⟨Nat.le_of_ble_eq_true rfl, Nat.le_of_ble_eq_true rfl⟩ ⟨(by first | exact Nat.le_of_ble_eq_true rfl | omega | (dsimp only; omega) | (simp only [List.length_cons, List.length_nil]; omega)), (by first | exact Nat.le_of_ble_eq_true rfl | omega | (dsimp only; omega) | (simp only [List.length_cons, List.length_nil]; omega))⟩ (Nat.le_of_ble_eq_true rfl) dX10_work_32 (fun _ _ _ h => px0 h) ?_
  rintro _ _ ⟨rfl, rfl⟩
  refine V_st (st' := [.int (nI (kd σ rr))]) rfl ?_
  refine V_aload C dX10_work_35 4 rfl ?_
  refine V_callSN C (c_X1_kindOf l hl G X N0 M (qR g rs) (kd σ rs) hkLB xrB hraB) cs_X10_34 rfl rfl ⟨Nat.le_of_ble_eq_true rfl, Nat.le_of_ble_eq_true rfl⟩ ⟨(by first | exact Nat.le_of_ble_eq_true rfl | omega | (dsimp only; omega) | (simp only [List.length_cons, List.length_nil]; omega)), (by first | exact Nat.le_of_ble_eq_true rfl | omega | (dsimp only; omega) | (simp only [List.length_cons, List.length_nil]; omega))⟩ (Nat.le_of_ble_eq_true rfl) dX10_work_37 (fun _ _ _ h => px0 h) ?_
  rintro _ _ ⟨rfl, rfl⟩
  refine V_st (st' := [.int (nI (kd σ rs)), .int (nI (kd σ rr))]) rfl ?_
  refine V_icmp_ne (tgt := 59) C dX10_work_40 (by decide) (fun c_40 => ?_) (fun c_40 => ?_)
  · refine V_iconst (v := 0) C dX10_work_59 rfl ?_
    refine V_istore C dX10_work_60 (Nat.le_of_ble_eq_true rfl) [(0, .ref (qH g 3)), (1, .ref (qA g P9 K9)), (2, .ref (qC g c9)), (3, .ref (qR g rr)), (4, .ref (qR g rs)), (5, .int 0)] [1, 2, 3, 4, 5, 0] rfl ?_
    refine V_iconst (v := 0) C dX10_work_62 rfl ?_
    refine V_istore C dX10_work_63 (Nat.le_of_ble_eq_true rfl) [(0, .ref (qH g 3)), (1, .ref (qA g P9 K9)), (2, .ref (qC g c9)), (3, .ref (qR g rr)), (4, .ref (qR g rs)), (5, .int 0), (6, .int 0)] [1, 2, 3, 4, 5, 6, 0] rfl ?_
    refine V_pc (pc1 := 65) rfl ?_
    refine V_iload C dX10_work_65 5 rfl ?_
    refine V_if_eq (tgt := 95) C dX10_work_67 (by decide) (fun c_67 => ?_) (fun c_67 => ?_)
    · refine V_iload C dX10_work_95 5 rfl ?_
      refine V_if_eq (tgt := 104) C dX10_work_97 (by decide) (fun c_97 => ?_) (fun c_97 => ?_)
      · refine V_lconst (v := 0) C dX10_work_104 rfl ?_
        refine V_lret C dX10_work_105 rfl ?_ (by first | exact Nat.le_of_ble_eq_true rfl | omega | (dsimp only; omega) | (simp only [List.length_cons, List.length_nil]; omega)) (by first | exact Nat.le_of_ble_eq_true rfl | omega | (dsimp only; omega) | (simp only [List.length_cons, List.length_nil]; omega))
        exact WP.read hR (by unfold mf_equal; rw [if_neg (fun y => c_40 (by rw [← hkE, ← hkEB]; exact y.1.1))])
      · exact absurd c_97 (by decide)
    · exact absurd c_67 (by decide)
  · refine V_aload_n C dX10_work_43 rfl 3 rfl ?_
    refine V_callSN C (c_X1_sizeOf l hl G X N0 M (qR g rr) (kd σ rr) hkL xr hra) cs_X10_38 rfl rfl ⟨Nat.le_of_ble_eq_true rfl, Nat.le_of_ble_eq_true rfl⟩ ⟨(by first | exact Nat.le_of_ble_eq_true rfl | omega | (dsimp only; omega) | (simp only [List.length_cons, List.length_nil]; omega)), (by first | exact Nat.le_of_ble_eq_true rfl | omega | (dsimp only; omega) | (simp only [List.length_cons, List.length_nil]; omega))⟩ (Nat.le_of_ble_eq_true rfl) dX10_work_44 (fun _ _ _ h => px0 h) ?_
    rintro _ _ ⟨rfl, rfl⟩
    refine V_st (st' := [.int (nI xr.1)]) rfl ?_
    refine V_st (st' := [.int (nI (ln σ rr))]) (by rw [hrx.1]) ?_
    refine V_aload C dX10_work_47 4 rfl ?_
    refine V_callSN C (c_X1_sizeOf l hl G X N0 M (qR g rs) (kd σ rs) hkLB xrB hraB) cs_X10_38 rfl rfl ⟨Nat.le_of_ble_eq_true rfl, Nat.le_of_ble_eq_true rfl⟩ ⟨(by first | exact Nat.le_of_ble_eq_true rfl | omega | (dsimp only; omega) | (simp only [List.length_cons, List.length_nil]; omega)), (by first | exact Nat.le_of_ble_eq_true rfl | omega | (dsimp only; omega) | (simp only [List.length_cons, List.length_nil]; omega))⟩ (Nat.le_of_ble_eq_true rfl) dX10_work_49 (fun _ _ _ h => px0 h) ?_
    rintro _ _ ⟨rfl, rfl⟩
    refine V_st (st' := [.int (nI xrB.1), .int (nI (ln σ rr))]) rfl ?_
    refine V_st (st' := [.int (nI (ln σ rs)), .int (nI (ln σ rr))]) (by rw [hrxB.1]) ?_
    refine V_pc (pc1 := 52) rfl ?_
    refine V_icmp_ne (tgt := 59) C dX10_work_52 (by decide) (fun c_52 => ?_) (fun c_52 => ?_)
    · refine V_iconst (v := 0) C dX10_work_59 rfl ?_
      refine V_istore C dX10_work_60 (Nat.le_of_ble_eq_true rfl) [(0, .ref (qH g 3)), (1, .ref (qA g P9 K9)), (2, .ref (qC g c9)), (3, .ref (qR g rr)), (4, .ref (qR g rs)), (5, .int 0)] [1, 2, 3, 4, 5, 0] rfl ?_
      refine V_iconst (v := 0) C dX10_work_62 rfl ?_
      refine V_istore C dX10_work_63 (Nat.le_of_ble_eq_true rfl) [(0, .ref (qH g 3)), (1, .ref (qA g P9 K9)), (2, .ref (qC g c9)), (3, .ref (qR g rr)), (4, .ref (qR g rs)), (5, .int 0), (6, .int 0)] [1, 2, 3, 4, 5, 6, 0] rfl ?_
      refine V_iload C dX10_work_65 5 rfl ?_
      refine V_if_eq (tgt := 95) C dX10_work_67 (by decide) (fun c_67_2 => ?_) (fun c_67_2 => ?_)
      · refine V_iload C dX10_work_95 5 rfl ?_
        refine V_if_eq (tgt := 104) C dX10_work_97 (by decide) (fun c_97_2 => ?_) (fun c_97_2 => ?_)
        · refine V_lconst (v := 0) C dX10_work_104 rfl ?_
          refine V_lret C dX10_work_105 rfl ?_ (by first | exact Nat.le_of_ble_eq_true rfl | omega | (dsimp only; omega) | (simp only [List.length_cons, List.length_nil]; omega)) (by first | exact Nat.le_of_ble_eq_true rfl | omega | (dsimp only; omega) | (simp only [List.length_cons, List.length_nil]; omega))
          exact WP.read hR (by unfold mf_equal; rw [if_neg (fun y => c_52 (by rw [← hlE, ← hlEB]; exact y.1.2))])
        · exact absurd c_97_2 (by decide)
      · exact absurd c_67_2 (by decide)
    · refine V_iconst (v := 1) C dX10_work_55 rfl ?_
      refine V_goto (tgt := 60) C dX10_work_56 (by decide) ?_
      exact absurd (show σ.2.1 2 rr = σ.2.1 2 rs ∧ σ.2.1 3 rr = σ.2.1 3 rs from ⟨by rw [hkE, hkEB]; exact c_40, by rw [hlE, hlEB]; exact c_52⟩) hd9
set_option maxHeartbeats 1000000 in
theorem c_X10_work_9 (l : Launch) (hl : l.stackTraces = false) (G : hp_G) (X : Nat → Nat) (N0 : Nat) (M : hp_h) (g : RG) (σ : MS) (z : Nat → Int32) (C9 c9 : Nat) (hC : c9 + 1 = C9) (hR : REL G (X 0) g σ z (σ.1 31) C9 M) (hI : MI σ) (P9 K9 rr rs : Nat) (x0 i j n : Int32) (hP9 : P9 < 6) (hK9 : K9 < psz σ P9) (hr : rr < nR σ) (hs : rs < nR σ) (hAF : AF σ P9 K9 = [.int x0, .int (nI rr), .int i, .int (nI rs), .int j, .int n]) (hk9 : kd σ rr ≤ 9) (hke : kd σ rr = kd σ rs) (hle : ln σ rr = ln σ rs) : HM l yX10_work (ws_ yX10_work cX10_work 7 (some .long)) 16 600 1 7 G X N0 [.ref (qH g 3), .ref (qA g P9 K9), .ref (qC g c9)] M (WP G (X 0) g σ z C9 M (mf_equal σ rr rs)) PX0 := by
  refine HM.of hl [(0, .ref (qH g 3)), (1, .ref (qA g P9 K9)), (2, .ref (qC g c9))] (by decide +kernel) rfl (Nat.le_of_ble_eq_true rfl) ?_
  intro p e s m args below meth c C hname
  have hN := hR.N
  obtain ⟨mdR, hRl⟩ := hR.Rl
  obtain ⟨fR, hRs, hRf⟩ := hR.Rls
  have hH9 : M (qH g 3) = some (.inr (13, [.int 1, .ref (qN g), .int 0, .int 10, .ref (qN g), .ref (qN g), .ref (qN g)])) := hR.H (by decide)
  have hac : M (qA g P9 K9) = some (.inr (3, [.int x0, .int (nI rr), .int i, .int (nI rs), .int j, .int n])) := (hR.A hP9 hK9).trans (congrArg (fun y => some (Sum.inr (3, y))) hAF)
  obtain ⟨xr, hra, hrx, hrc⟩ := hR.rw hr
  obtain ⟨hkE, hkL⟩ := hI.k hr
  obtain ⟨hlE, hlL⟩ := hI.l hr
  obtain ⟨xrB, hraB, hrxB, hrcB⟩ := hR.rw hs
  obtain ⟨hkEB, hkLB⟩ := hI.k hs
  obtain ⟨hlEB, hlLB⟩ := hI.l hs
  refine V_aload_n C dX10_work_0 rfl 0 rfl ?_
  refine V_get C f_X10_3_13 hH9 (v := .ref (qN g)) rfl dX10_work_1 ?_
  refine V_getN C f_X10_15_0 hN (v := .ref (qRl g)) rfl dX10_work_4 ?_
  refine V_aload_n C dX10_work_7 rfl 1 rfl ?_
  refine V_getN C f_X10_19_3 hac (v := .int (nI rr)) rfl dX10_work_8 ?_
  refine V_callV C (c_J2_get l hl G X N0 M (qRl g) (qRe g) (nR σ) (gcp g 2 0) mdR fR hRl (hRs.2.2.1 (by have := hRs.2.2.2.1; omega)) (by have := hRs.2.2.2.2; omega) hRs.2.2.2.1 rr (qR g rr) hr (hRf rr hr)) cs_X10_25_1 hRl (show CLS[1]? = some (RJ2, TJ2, 3) from rfl) rfl rfl ⟨Nat.le_of_ble_eq_true rfl, Nat.le_of_ble_eq_true rfl⟩ ⟨(by first | exact Nat.le_of_ble_eq_true rfl | omega | (dsimp only; omega) | (simp only [List.length_cons, List.length_nil]; omega)), (by first | exact Nat.le_of_ble_eq_true rfl | omega | (dsimp only; omega) | (simp only [List.length_cons, List.length_nil]; omega))⟩ (Nat.le_of_ble_eq_true rfl) dX10_work_11 (fun _ _ _ h => px0 h) ?_
  rintro _ _ ⟨rfl, rfl⟩
  refine V_st (st' := [.ref (qR g rr)]) rfl ?_
  refine V_astore_n C dX10_work_14 rfl (Nat.le_of_ble_eq_true rfl) [(0, .ref (qH g 3)), (1, .ref (qA g P9 K9)), (2, .ref (qC g c9)), (3, .ref (qR g rr))] [1, 2, 3, 0] rfl ?_
  refine V_aload_n C dX10_work_15 rfl 0 rfl ?_
  refine V_get C f_X10_3_13 hH9 (v := .ref (qN g)) rfl dX10_work_16 ?_
  refine V_getN C f_X10_15_0 hN (v := .ref (qRl g)) rfl dX10_work_19 ?_
  refine V_aload_n C dX10_work_22 rfl 1 rfl ?_
  refine V_pc (pc1 := 23) rfl ?_
  refine V_getN C f_X10_31_3 hac (v := .int (nI rs)) rfl dX10_work_23 ?_
  refine V_callV C (c_J2_get l hl G X N0 M (qRl g) (qRe g) (nR σ) (gcp g 2 0) mdR fR hRl (hRs.2.2.1 (by have := hRs.2.2.2.1; omega)) (by have := hRs.2.2.2.2; omega) hRs.2.2.2.1 rs (qR g rs) hs (hRf rs hs)) cs_X10_25_1 hRl (show CLS[1]? = some (RJ2, TJ2, 3) from rfl) rfl rfl ⟨Nat.le_of_ble_eq_true rfl, Nat.le_of_ble_eq_true rfl⟩ ⟨(by first | exact Nat.le_of_ble_eq_true rfl | omega | (dsimp only; omega) | (simp only [List.length_cons, List.length_nil]; omega)), (by first | exact Nat.le_of_ble_eq_true rfl | omega | (dsimp only; omega) | (simp only [List.length_cons, List.length_nil]; omega))⟩ (Nat.le_of_ble_eq_true rfl) dX10_work_26 (fun _ _ _ h => px0 h) ?_
  rintro _ _ ⟨rfl, rfl⟩
  refine V_st (st' := [.ref (qR g rs)]) rfl ?_
  refine V_astore C dX10_work_29 (Nat.le_of_ble_eq_true rfl) [(0, .ref (qH g 3)), (1, .ref (qA g P9 K9)), (2, .ref (qC g c9)), (3, .ref (qR g rr)), (4, .ref (qR g rs))] [1, 2, 3, 4, 0] rfl ?_
  refine V_aload_n C dX10_work_31 rfl 3 rfl ?_
  refine V_callSN C (c_X1_kindOf l hl G X N0 M (qR g rr) (kd σ rr) hkL xr hra) cs_X10_34 rfl rfl ⟨Nat.le_of_ble_eq_true rfl, Nat.le_of_ble_eq_true rfl⟩ ⟨(by first | exact Nat.le_of_ble_eq_true rfl | omega | (dsimp only; omega) | (simp only [List.length_cons, List.length_nil]; omega)), (by first | exact Nat.le_of_ble_eq_true rfl | omega | (dsimp only; omega) | (simp only [List.length_cons, List.length_nil]; omega))⟩ (Nat.le_of_ble_eq_true rfl) dX10_work_32 (fun _ _ _ h => px0 h) ?_
  rintro _ _ ⟨rfl, rfl⟩
  refine V_st (st' := [.int (nI (kd σ rr))]) rfl ?_
  refine V_aload C dX10_work_35 4 rfl ?_
  refine V_callSN C (c_X1_kindOf l hl G X N0 M (qR g rs) (kd σ rs) hkLB xrB hraB) cs_X10_34 rfl rfl ⟨Nat.le_of_ble_eq_true rfl, Nat.le_of_ble_eq_true rfl⟩ ⟨(by first | exact Nat.le_of_ble_eq_true rfl | omega | (dsimp only; omega) | (simp only [List.length_cons, List.length_nil]; omega)), (by first | exact Nat.le_of_ble_eq_true rfl | omega | (dsimp only; omega) | (simp only [List.length_cons, List.length_nil]; omega))⟩ (Nat.le_of_ble_eq_true rfl) dX10_work_37 (fun _ _ _ h => px0 h) ?_
  rintro _ _ ⟨rfl, rfl⟩
  refine V_st (st' := [.int (nI (kd σ rs)), .int (nI (kd σ rr))]) rfl ?_
  refine V_icmp_ne (tgt := 59) C dX10_work_40 (by decide) (fun c_40 => ?_) (fun c_40 => ?_)
  · exact absurd (by rw [hke]) c_40
  · refine V_aload_n C dX10_work_43 rfl 3 rfl ?_
    refine V_callSN C (c_X1_sizeOf l hl G X N0 M (qR g rr) (kd σ rr) hkL xr hra) cs_X10_38 rfl rfl ⟨Nat.le_of_ble_eq_true rfl, Nat.le_of_ble_eq_true rfl⟩ ⟨(by first | exact Nat.le_of_ble_eq_true rfl | omega | (dsimp only; omega) | (simp only [List.length_cons, List.length_nil]; omega)), (by first | exact Nat.le_of_ble_eq_true rfl | omega | (dsimp only; omega) | (simp only [List.length_cons, List.length_nil]; omega))⟩ (Nat.le_of_ble_eq_true rfl) dX10_work_44 (fun _ _ _ h => px0 h) ?_
    rintro _ _ ⟨rfl, rfl⟩
    refine V_st (st' := [.int (nI xr.1)]) rfl ?_
    refine V_st (st' := [.int (nI (ln σ rr))]) (by rw [hrx.1]) ?_
    refine V_aload C dX10_work_47 4 rfl ?_
    refine V_callSN C (c_X1_sizeOf l hl G X N0 M (qR g rs) (kd σ rs) hkLB xrB hraB) cs_X10_38 rfl rfl ⟨Nat.le_of_ble_eq_true rfl, Nat.le_of_ble_eq_true rfl⟩ ⟨(by first | exact Nat.le_of_ble_eq_true rfl | omega | (dsimp only; omega) | (simp only [List.length_cons, List.length_nil]; omega)), (by first | exact Nat.le_of_ble_eq_true rfl | omega | (dsimp only; omega) | (simp only [List.length_cons, List.length_nil]; omega))⟩ (Nat.le_of_ble_eq_true rfl) dX10_work_49 (fun _ _ _ h => px0 h) ?_
    rintro _ _ ⟨rfl, rfl⟩
    refine V_st (st' := [.int (nI xrB.1), .int (nI (ln σ rr))]) rfl ?_
    refine V_st (st' := [.int (nI (ln σ rs)), .int (nI (ln σ rr))]) (by rw [hrxB.1]) ?_
    refine V_pc (pc1 := 52) rfl ?_
    refine V_icmp_ne (tgt := 59) C dX10_work_52 (by decide) (fun c_52 => ?_) (fun c_52 => ?_)
    · exact absurd (by rw [hle]) c_52
    · refine V_iconst (v := 1) C dX10_work_55 rfl ?_
      refine V_goto (tgt := 60) C dX10_work_56 (by decide) ?_
      refine V_istore C dX10_work_60 (Nat.le_of_ble_eq_true rfl) [(0, .ref (qH g 3)), (1, .ref (qA g P9 K9)), (2, .ref (qC g c9)), (3, .ref (qR g rr)), (4, .ref (qR g rs)), (5, .int 1)] [1, 2, 3, 4, 5, 0] rfl ?_
      refine V_iconst (v := 0) C dX10_work_62 rfl ?_
      refine V_istore C dX10_work_63 (Nat.le_of_ble_eq_true rfl) [(0, .ref (qH g 3)), (1, .ref (qA g P9 K9)), (2, .ref (qC g c9)), (3, .ref (qR g rr)), (4, .ref (qR g rs)), (5, .int 1), (6, .int 0)] [1, 2, 3, 4, 5, 6, 0] rfl ?_
      have lp_65 : ∀ (fu9 : Nat) (q : Nat) (v5 : Int32), ln σ rr - q < fu9 → (q ≤ ln σ rr) → (v5 = 0 ∨ v5 = 1) → (v5 = 1 ↔ ∀ m, m < q → mf_eq σ (nI (kd σ rr)) (el σ rr m) (el σ rs m)) → V p l e { frames := 16, cells := 1, slots := 7, locals := 600 } s m args below meth c G N0 7 (QV below G N0 ((WP G (X 0) g σ z C9 M (mf_equal σ rr rs))) PX0 args s (1) (7)) (0) (0) M 65 [(0, .ref (qH g 3)), (1, .ref (qA g P9 K9)), (2, .ref (qC g c9)), (3, .ref (qR g rr)), (4, .ref (qR g rs)), (5, .int v5), (6, .int (nI q))] [] := by
        intro fu9
        induction fu9 with
        | zero => intro q v5  hfu9; exact absurd hfu9 (Nat.not_lt_zero _)
        | succ fu9 ih65 =>
          intro q v5  hfu9 hq hv01 hvw
          refine V_iload C dX10_work_65 5 rfl ?_
          refine V_if_eq (tgt := 95) C dX10_work_67 (by decide) (fun c_67 => ?_) (fun c_67 => ?_)
          · obtain rfl | rfl := hv01
            · skip
              refine V_iload C dX10_work_95 5 rfl ?_
              refine V_if_eq (tgt := 104) C dX10_work_97 (by decide) (fun c_97 => ?_) (fun c_97 => ?_)
              · refine V_lconst (v := 0) C dX10_work_104 rfl ?_
                refine V_lret C dX10_work_105 rfl ?_ (by first | exact Nat.le_of_ble_eq_true rfl | omega | (dsimp only; omega) | (simp only [List.length_cons, List.length_nil]; omega)) (by first | exact Nat.le_of_ble_eq_true rfl | omega | (dsimp only; omega) | (simp only [List.length_cons, List.length_nil]; omega))
                exact WP.read hR (by unfold mf_equal; rw [if_neg (fun y => by have := hvw.mpr (fun m hm => by rw [← hkE]; exact y.2 m (by omega)); exact absurd this (by decide))])
              · exact absurd c_97 (by decide)
            · skip
              refine V_iload C dX10_work_95 5 rfl ?_
              refine V_if_eq (tgt := 104) C dX10_work_97 (by decide) (fun c_97_2 => ?_) (fun c_97_2 => ?_)
              · exact absurd c_97_2 (by decide)
              · refine V_lconst (v := 1) C dX10_work_100 rfl ?_
                refine V_goto (tgt := 105) C dX10_work_101 (by decide) ?_
                refine V_pc (pc1 := 105) rfl ?_
                refine V_lret C dX10_work_105 rfl ?_ (by first | exact Nat.le_of_ble_eq_true rfl | omega | (dsimp only; omega) | (simp only [List.length_cons, List.length_nil]; omega)) (by first | exact Nat.le_of_ble_eq_true rfl | omega | (dsimp only; omega) | (simp only [List.length_cons, List.length_nil]; omega))
                exact absurd c_67 (by decide)
          · refine V_iload C dX10_work_70 6 rfl ?_
            refine V_aload_n C dX10_work_72 rfl 3 rfl ?_
            refine V_callSN C (c_X1_sizeOf l hl G X N0 M (qR g rr) (kd σ rr) hkL xr hra) cs_X10_38 rfl rfl ⟨Nat.le_of_ble_eq_true rfl, Nat.le_of_ble_eq_true rfl⟩ ⟨(by first | exact Nat.le_of_ble_eq_true rfl | omega | (dsimp only; omega) | (simp only [List.length_cons, List.length_nil]; omega)), (by first | exact Nat.le_of_ble_eq_true rfl | omega | (dsimp only; omega) | (simp only [List.length_cons, List.length_nil]; omega))⟩ (Nat.le_of_ble_eq_true rfl) dX10_work_73 (fun _ _ _ h => px0 h) ?_
            rintro _ _ ⟨rfl, rfl⟩
            refine V_st (st' := [.int (nI xr.1), .int (nI q)]) rfl ?_
            refine V_st (st' := [.int (nI (ln σ rr)), .int (nI q)]) (by rw [hrx.1]) ?_
            refine V_icmp_ge (tgt := 95) C dX10_work_76 (by decide) (fun c_76 => ?_) (fun c_76 => ?_)
            · obtain rfl | rfl := hv01
              · skip
                refine V_pc (pc1 := 95) rfl ?_
                refine V_iload C dX10_work_95 5 rfl ?_
                refine V_if_eq (tgt := 104) C dX10_work_97 (by decide) (fun c_97_3 => ?_) (fun c_97_3 => ?_)
                · refine V_lconst (v := 0) C dX10_work_104 rfl ?_
                  refine V_lret C dX10_work_105 rfl ?_ (by first | exact Nat.le_of_ble_eq_true rfl | omega | (dsimp only; omega) | (simp only [List.length_cons, List.length_nil]; omega)) (by first | exact Nat.le_of_ble_eq_true rfl | omega | (dsimp only; omega) | (simp only [List.length_cons, List.length_nil]; omega))
                  exact WP.read hR (by unfold mf_equal; rw [if_neg (fun y => by have := hvw.mpr (fun m hm => by rw [← hkE]; exact y.2 m (by omega)); exact absurd this (by decide))])
                · exact absurd c_97_3 (by decide)
              · skip
                refine V_pc (pc1 := 95) rfl ?_
                refine V_iload C dX10_work_95 5 rfl ?_
                refine V_if_eq (tgt := 104) C dX10_work_97 (by decide) (fun c_97_4 => ?_) (fun c_97_4 => ?_)
                · exact absurd c_97_4 (by decide)
                · refine V_lconst (v := 1) C dX10_work_100 rfl ?_
                  refine V_goto (tgt := 105) C dX10_work_101 (by decide) ?_
                  refine V_lret C dX10_work_105 rfl ?_ (by first | exact Nat.le_of_ble_eq_true rfl | omega | (dsimp only; omega) | (simp only [List.length_cons, List.length_nil]; omega)) (by first | exact Nat.le_of_ble_eq_true rfl | omega | (dsimp only; omega) | (simp only [List.length_cons, List.length_nil]; omega))
                  have hq3 := (nI_leI (by omega) (by omega)).mp c_76
                  exact WP.read hR (by unfold mf_equal; rw [if_pos ⟨by rw [hkE, hkEB, hlE, hlEB, hke, hle]; exact ⟨rfl, rfl⟩, fun m hm => by rw [hkE]; exact hvw.mp rfl m (by omega)⟩])
            · have hq2 : q < ln σ rr := nI_ltN9 (by omega) (by omega) c_76
              refine V_pc (pc1 := 79) rfl ?_
              refine V_aload_n C dX10_work_79 rfl 3 rfl ?_
              refine V_aload C dX10_work_80 4 rfl ?_
              refine V_iload C dX10_work_82 6 rfl ?_
              refine V_callSN C (c_X1_isEqual l hl G X N0 M (U := nU σ) (J := nJ σ) (ua := fun u => qU g u) (ja := fun y => qJ g y) σ (qR g rr) (qR g rs) (kd σ rr) q xr xrB (el σ rr q) (el σ rs q) hk9 hra (by rw [hrx.1]; omega) (by rw [hrx.1]; omega) (hrc q (by omega)) (by rw [hke]; exact hraB) (by rw [hrxB.1]; omega) (by rw [hrxB.1]; omega) (by rw [hke]; exact hrcB q (by omega)) (hR.UH hI)) cs_X10_41 rfl rfl ⟨Nat.le_of_ble_eq_true rfl, Nat.le_of_ble_eq_true rfl⟩ ⟨(by first | exact Nat.le_of_ble_eq_true rfl | omega | (dsimp only; omega) | (simp only [List.length_cons, List.length_nil]; omega)), (by first | exact Nat.le_of_ble_eq_true rfl | omega | (dsimp only; omega) | (simp only [List.length_cons, List.length_nil]; omega))⟩ (Nat.le_of_ble_eq_true rfl) dX10_work_84 (fun _ _ _ h => px0 h) ?_
              rintro _ _ ⟨rfl, rfl⟩
              refine V_st (st' := [.int (bI (mf_eq σ (nI (kd σ rr)) (el σ rr q) (el σ rs q)))]) rfl ?_
              refine V_istore C dX10_work_87 (Nat.le_of_ble_eq_true rfl) [(0, .ref (qH g 3)), (1, .ref (qA g P9 K9)), (2, .ref (qC g c9)), (3, .ref (qR g rr)), (4, .ref (qR g rs)), (5, .int (bI (mf_eq σ (nI (kd σ rr)) (el σ rr q) (el σ rs q)))), (6, .int (nI q))] [1, 2, 3, 4, 5, 0, 6] rfl ?_
              refine V_iinc (v := nI (q + 1)) C dX10_work_89 (k := 6) rfl (nI_add q 1) (Nat.le_of_ble_eq_true rfl) [(0, .ref (qH g 3)), (1, .ref (qA g P9 K9)), (2, .ref (qC g c9)), (3, .ref (qR g rr)), (4, .ref (qR g rs)), (5, .int (bI (mf_eq σ (nI (kd σ rr)) (el σ rr q) (el σ rs q)))), (6, .int (nI (q + 1)))] [1, 2, 3, 4, 5, 6, 0] rfl ?_
              refine V_goto (tgt := 65) C dX10_work_92 (by decide) ?_
              exact ih65 (q + 1) (bI (mf_eq σ (nI (kd σ rr)) (el σ rr q) (el σ rs q)))  (by omega) (by omega) bI_01 (bI_1.trans ⟨fun y m hm => (Classical.em (m = q)).elim (fun e => by rw [e]; exact y) (fun e => hvw.mp (hv01.resolve_left c_67) m (by omega)), fun y => y q (by omega)⟩)
      refine V_loc (L' := [(0, .ref (qH g 3)), (1, .ref (qA g P9 K9)), (2, .ref (qC g c9)), (3, .ref (qR g rr)), (4, .ref (qR g rs)), (5, .int 1), (6, .int 0)]) [0, 1, 2, 3, 4, 5, 6] rfl ?_
      exact lp_65 _ 0 1  (Nat.lt_succ_self _) (Nat.zero_le _) (Or.inr rfl) (⟨fun _ m hm => absurd hm (Nat.not_lt_zero m), fun _ => rfl⟩)
theorem eq10_k {σ : MS} {k : Nat} (h : k = 10) {p q : Int64} : bI (mf_eq σ (nI 10) p q) = bI (mf_eq σ (nI k) p q) := by rw [h]
set_option maxHeartbeats 1000000 in
theorem c_X10_work_10 (l : Launch) (hl : l.stackTraces = false) (G : hp_G) (X : Nat → Nat) (N0 : Nat) (M : hp_h) (g : RG) (σ : MS) (z : Nat → Int32) (C9 c9 : Nat) (hC : c9 + 1 = C9) (hR : REL G (X 0) g σ z (σ.1 31) C9 M) (hI : MI σ) (P9 K9 rr rs : Nat) (x0 i j n : Int32) (hP9 : P9 < 6) (hK9 : K9 < psz σ P9) (hr : rr < nR σ) (hs : rs < nR σ) (hAF : AF σ P9 K9 = [.int x0, .int (nI rr), .int i, .int (nI rs), .int j, .int n]) (hk9 : kd σ rr = 10) (hke : kd σ rr = kd σ rs) (hle : ln σ rr = ln σ rs) : HM l yX10_work (ws_ yX10_work cX10_work 7 (some .long)) 16 600 1 7 G X N0 [.ref (qH g 3), .ref (qA g P9 K9), .ref (qC g c9)] M (WP G (X 0) g σ z C9 M (mf_equal σ rr rs)) PX0 := by
  refine HM.of hl [(0, .ref (qH g 3)), (1, .ref (qA g P9 K9)), (2, .ref (qC g c9))] (by decide +kernel) rfl (Nat.le_of_ble_eq_true rfl) ?_
  intro p e s m args below meth c C hname
  have hN := hR.N
  obtain ⟨mdR, hRl⟩ := hR.Rl
  obtain ⟨fR, hRs, hRf⟩ := hR.Rls
  have hH9 : M (qH g 3) = some (.inr (13, [.int 1, .ref (qN g), .int 0, .int 10, .ref (qN g), .ref (qN g), .ref (qN g)])) := hR.H (by decide)
  have hac : M (qA g P9 K9) = some (.inr (3, [.int x0, .int (nI rr), .int i, .int (nI rs), .int j, .int n])) := (hR.A hP9 hK9).trans (congrArg (fun y => some (Sum.inr (3, y))) hAF)
  obtain ⟨xr, hra, hrx, hrc⟩ := hR.rw hr
  obtain ⟨hkE, hkL⟩ := hI.k hr
  obtain ⟨hlE, hlL⟩ := hI.l hr
  obtain ⟨xrB, hraB, hrxB, hrcB⟩ := hR.rw hs
  obtain ⟨hkEB, hkLB⟩ := hI.k hs
  obtain ⟨hlEB, hlLB⟩ := hI.l hs
  refine V_aload_n C dX10_work_0 rfl 0 rfl ?_
  refine V_get C f_X10_3_13 hH9 (v := .ref (qN g)) rfl dX10_work_1 ?_
  refine V_getN C f_X10_15_0 hN (v := .ref (qRl g)) rfl dX10_work_4 ?_
  refine V_aload_n C dX10_work_7 rfl 1 rfl ?_
  refine V_getN C f_X10_19_3 hac (v := .int (nI rr)) rfl dX10_work_8 ?_
  refine V_callV C (c_J2_get l hl G X N0 M (qRl g) (qRe g) (nR σ) (gcp g 2 0) mdR fR hRl (hRs.2.2.1 (by have := hRs.2.2.2.1; omega)) (by have := hRs.2.2.2.2; omega) hRs.2.2.2.1 rr (qR g rr) hr (hRf rr hr)) cs_X10_25_1 hRl (show CLS[1]? = some (RJ2, TJ2, 3) from rfl) rfl rfl ⟨Nat.le_of_ble_eq_true rfl, Nat.le_of_ble_eq_true rfl⟩ ⟨(by first | exact Nat.le_of_ble_eq_true rfl | omega | (dsimp only; omega) | (simp only [List.length_cons, List.length_nil]; omega)), (by first | exact Nat.le_of_ble_eq_true rfl | omega | (dsimp only; omega) | (simp only [List.length_cons, List.length_nil]; omega))⟩ (Nat.le_of_ble_eq_true rfl) dX10_work_11 (fun _ _ _ h => px0 h) ?_
  rintro _ _ ⟨rfl, rfl⟩
  refine V_st (st' := [.ref (qR g rr)]) rfl ?_
  refine V_astore_n C dX10_work_14 rfl (Nat.le_of_ble_eq_true rfl) [(0, .ref (qH g 3)), (1, .ref (qA g P9 K9)), (2, .ref (qC g c9)), (3, .ref (qR g rr))] [1, 2, 3, 0] rfl ?_
  refine V_aload_n C dX10_work_15 rfl 0 rfl ?_
  refine V_get C f_X10_3_13 hH9 (v := .ref (qN g)) rfl dX10_work_16 ?_
  refine V_getN C f_X10_15_0 hN (v := .ref (qRl g)) rfl dX10_work_19 ?_
  refine V_aload_n C dX10_work_22 rfl 1 rfl ?_
  refine V_pc (pc1 := 23) rfl ?_
  refine V_getN C f_X10_31_3 hac (v := .int (nI rs)) rfl dX10_work_23 ?_
  refine V_callV C (c_J2_get l hl G X N0 M (qRl g) (qRe g) (nR σ) (gcp g 2 0) mdR fR hRl (hRs.2.2.1 (by have := hRs.2.2.2.1; omega)) (by have := hRs.2.2.2.2; omega) hRs.2.2.2.1 rs (qR g rs) hs (hRf rs hs)) cs_X10_25_1 hRl (show CLS[1]? = some (RJ2, TJ2, 3) from rfl) rfl rfl ⟨Nat.le_of_ble_eq_true rfl, Nat.le_of_ble_eq_true rfl⟩ ⟨(by first | exact Nat.le_of_ble_eq_true rfl | omega | (dsimp only; omega) | (simp only [List.length_cons, List.length_nil]; omega)), (by first | exact Nat.le_of_ble_eq_true rfl | omega | (dsimp only; omega) | (simp only [List.length_cons, List.length_nil]; omega))⟩ (Nat.le_of_ble_eq_true rfl) dX10_work_26 (fun _ _ _ h => px0 h) ?_
  rintro _ _ ⟨rfl, rfl⟩
  refine V_st (st' := [.ref (qR g rs)]) rfl ?_
  refine V_astore C dX10_work_29 (Nat.le_of_ble_eq_true rfl) [(0, .ref (qH g 3)), (1, .ref (qA g P9 K9)), (2, .ref (qC g c9)), (3, .ref (qR g rr)), (4, .ref (qR g rs))] [1, 2, 3, 4, 0] rfl ?_
  refine V_aload_n C dX10_work_31 rfl 3 rfl ?_
  refine V_callSN C (c_X1_kindOf l hl G X N0 M (qR g rr) (kd σ rr) hkL xr hra) cs_X10_34 rfl rfl ⟨Nat.le_of_ble_eq_true rfl, Nat.le_of_ble_eq_true rfl⟩ ⟨(by first | exact Nat.le_of_ble_eq_true rfl | omega | (dsimp only; omega) | (simp only [List.length_cons, List.length_nil]; omega)), (by first | exact Nat.le_of_ble_eq_true rfl | omega | (dsimp only; omega) | (simp only [List.length_cons, List.length_nil]; omega))⟩ (Nat.le_of_ble_eq_true rfl) dX10_work_32 (fun _ _ _ h => px0 h) ?_
  rintro _ _ ⟨rfl, rfl⟩
  refine V_st (st' := [.int (nI (kd σ rr))]) rfl ?_
  refine V_aload C dX10_work_35 4 rfl ?_
  refine V_callSN C (c_X1_kindOf l hl G X N0 M (qR g rs) (kd σ rs) hkLB xrB hraB) cs_X10_34 rfl rfl ⟨Nat.le_of_ble_eq_true rfl, Nat.le_of_ble_eq_true rfl⟩ ⟨(by first | exact Nat.le_of_ble_eq_true rfl | omega | (dsimp only; omega) | (simp only [List.length_cons, List.length_nil]; omega)), (by first | exact Nat.le_of_ble_eq_true rfl | omega | (dsimp only; omega) | (simp only [List.length_cons, List.length_nil]; omega))⟩ (Nat.le_of_ble_eq_true rfl) dX10_work_37 (fun _ _ _ h => px0 h) ?_
  rintro _ _ ⟨rfl, rfl⟩
  refine V_st (st' := [.int (nI (kd σ rs)), .int (nI (kd σ rr))]) rfl ?_
  refine V_icmp_ne (tgt := 59) C dX10_work_40 (by decide) (fun c_40 => ?_) (fun c_40 => ?_)
  · exact absurd (by rw [hke]) c_40
  · refine V_aload_n C dX10_work_43 rfl 3 rfl ?_
    refine V_callSN C (c_X1_sizeOf l hl G X N0 M (qR g rr) (kd σ rr) hkL xr hra) cs_X10_38 rfl rfl ⟨Nat.le_of_ble_eq_true rfl, Nat.le_of_ble_eq_true rfl⟩ ⟨(by first | exact Nat.le_of_ble_eq_true rfl | omega | (dsimp only; omega) | (simp only [List.length_cons, List.length_nil]; omega)), (by first | exact Nat.le_of_ble_eq_true rfl | omega | (dsimp only; omega) | (simp only [List.length_cons, List.length_nil]; omega))⟩ (Nat.le_of_ble_eq_true rfl) dX10_work_44 (fun _ _ _ h => px0 h) ?_
    rintro _ _ ⟨rfl, rfl⟩
    refine V_st (st' := [.int (nI xr.1)]) rfl ?_
    refine V_st (st' := [.int (nI (ln σ rr))]) (by rw [hrx.1]) ?_
    refine V_aload C dX10_work_47 4 rfl ?_
    refine V_callSN C (c_X1_sizeOf l hl G X N0 M (qR g rs) (kd σ rs) hkLB xrB hraB) cs_X10_38 rfl rfl ⟨Nat.le_of_ble_eq_true rfl, Nat.le_of_ble_eq_true rfl⟩ ⟨(by first | exact Nat.le_of_ble_eq_true rfl | omega | (dsimp only; omega) | (simp only [List.length_cons, List.length_nil]; omega)), (by first | exact Nat.le_of_ble_eq_true rfl | omega | (dsimp only; omega) | (simp only [List.length_cons, List.length_nil]; omega))⟩ (Nat.le_of_ble_eq_true rfl) dX10_work_49 (fun _ _ _ h => px0 h) ?_
    rintro _ _ ⟨rfl, rfl⟩
    refine V_st (st' := [.int (nI xrB.1), .int (nI (ln σ rr))]) rfl ?_
    refine V_st (st' := [.int (nI (ln σ rs)), .int (nI (ln σ rr))]) (by rw [hrxB.1]) ?_
    refine V_pc (pc1 := 52) rfl ?_
    refine V_icmp_ne (tgt := 59) C dX10_work_52 (by decide) (fun c_52 => ?_) (fun c_52 => ?_)
    · exact absurd (by rw [hle]) c_52
    · refine V_iconst (v := 1) C dX10_work_55 rfl ?_
      refine V_goto (tgt := 60) C dX10_work_56 (by decide) ?_
      refine V_istore C dX10_work_60 (Nat.le_of_ble_eq_true rfl) [(0, .ref (qH g 3)), (1, .ref (qA g P9 K9)), (2, .ref (qC g c9)), (3, .ref (qR g rr)), (4, .ref (qR g rs)), (5, .int 1)] [1, 2, 3, 4, 5, 0] rfl ?_
      refine V_iconst (v := 0) C dX10_work_62 rfl ?_
      refine V_istore C dX10_work_63 (Nat.le_of_ble_eq_true rfl) [(0, .ref (qH g 3)), (1, .ref (qA g P9 K9)), (2, .ref (qC g c9)), (3, .ref (qR g rr)), (4, .ref (qR g rs)), (5, .int 1), (6, .int 0)] [1, 2, 3, 4, 5, 6, 0] rfl ?_
      have lp_65 : ∀ (fu9 : Nat) (q : Nat) (v5 : Int32), ln σ rr - q < fu9 → (q ≤ ln σ rr) → (v5 = 0 ∨ v5 = 1) → (v5 = 1 ↔ ∀ m, m < q → mf_eq σ (nI (kd σ rr)) (el σ rr m) (el σ rs m)) → V p l e { frames := 16, cells := 1, slots := 7, locals := 600 } s m args below meth c G N0 7 (QV below G N0 ((WP G (X 0) g σ z C9 M (mf_equal σ rr rs))) PX0 args s (1) (7)) (0) (0) M 65 [(0, .ref (qH g 3)), (1, .ref (qA g P9 K9)), (2, .ref (qC g c9)), (3, .ref (qR g rr)), (4, .ref (qR g rs)), (5, .int v5), (6, .int (nI q))] [] := by
        intro fu9
        induction fu9 with
        | zero => intro q v5  hfu9; exact absurd hfu9 (Nat.not_lt_zero _)
        | succ fu9 ih65 =>
          intro q v5  hfu9 hq hv01 hvw
          refine V_iload C dX10_work_65 5 rfl ?_
          refine V_if_eq (tgt := 95) C dX10_work_67 (by decide) (fun c_67 => ?_) (fun c_67 => ?_)
          · obtain rfl | rfl := hv01
            · skip
              refine V_iload C dX10_work_95 5 rfl ?_
              refine V_if_eq (tgt := 104) C dX10_work_97 (by decide) (fun c_97 => ?_) (fun c_97 => ?_)
              · refine V_lconst (v := 0) C dX10_work_104 rfl ?_
                refine V_lret C dX10_work_105 rfl ?_ (by first | exact Nat.le_of_ble_eq_true rfl | omega | (dsimp only; omega) | (simp only [List.length_cons, List.length_nil]; omega)) (by first | exact Nat.le_of_ble_eq_true rfl | omega | (dsimp only; omega) | (simp only [List.length_cons, List.length_nil]; omega))
                exact WP.read hR (by unfold mf_equal; rw [if_neg (fun y => by have := hvw.mpr (fun m hm => by rw [← hkE]; exact y.2 m (by omega)); exact absurd this (by decide))])
              · exact absurd c_97 (by decide)
            · skip
              refine V_iload C dX10_work_95 5 rfl ?_
              refine V_if_eq (tgt := 104) C dX10_work_97 (by decide) (fun c_97_2 => ?_) (fun c_97_2 => ?_)
              · exact absurd c_97_2 (by decide)
              · refine V_lconst (v := 1) C dX10_work_100 rfl ?_
                refine V_goto (tgt := 105) C dX10_work_101 (by decide) ?_
                refine V_pc (pc1 := 105) rfl ?_
                refine V_lret C dX10_work_105 rfl ?_ (by first | exact Nat.le_of_ble_eq_true rfl | omega | (dsimp only; omega) | (simp only [List.length_cons, List.length_nil]; omega)) (by first | exact Nat.le_of_ble_eq_true rfl | omega | (dsimp only; omega) | (simp only [List.length_cons, List.length_nil]; omega))
                exact absurd c_67 (by decide)
          · refine V_iload C dX10_work_70 6 rfl ?_
            refine V_aload_n C dX10_work_72 rfl 3 rfl ?_
            refine V_callSN C (c_X1_sizeOf l hl G X N0 M (qR g rr) (kd σ rr) hkL xr hra) cs_X10_38 rfl rfl ⟨Nat.le_of_ble_eq_true rfl, Nat.le_of_ble_eq_true rfl⟩ ⟨(by first | exact Nat.le_of_ble_eq_true rfl | omega | (dsimp only; omega) | (simp only [List.length_cons, List.length_nil]; omega)), (by first | exact Nat.le_of_ble_eq_true rfl | omega | (dsimp only; omega) | (simp only [List.length_cons, List.length_nil]; omega))⟩ (Nat.le_of_ble_eq_true rfl) dX10_work_73 (fun _ _ _ h => px0 h) ?_
            rintro _ _ ⟨rfl, rfl⟩
            refine V_st (st' := [.int (nI xr.1), .int (nI q)]) rfl ?_
            refine V_st (st' := [.int (nI (ln σ rr)), .int (nI q)]) (by rw [hrx.1]) ?_
            refine V_icmp_ge (tgt := 95) C dX10_work_76 (by decide) (fun c_76 => ?_) (fun c_76 => ?_)
            · obtain rfl | rfl := hv01
              · skip
                refine V_pc (pc1 := 95) rfl ?_
                refine V_iload C dX10_work_95 5 rfl ?_
                refine V_if_eq (tgt := 104) C dX10_work_97 (by decide) (fun c_97_3 => ?_) (fun c_97_3 => ?_)
                · refine V_lconst (v := 0) C dX10_work_104 rfl ?_
                  refine V_lret C dX10_work_105 rfl ?_ (by first | exact Nat.le_of_ble_eq_true rfl | omega | (dsimp only; omega) | (simp only [List.length_cons, List.length_nil]; omega)) (by first | exact Nat.le_of_ble_eq_true rfl | omega | (dsimp only; omega) | (simp only [List.length_cons, List.length_nil]; omega))
                  exact WP.read hR (by unfold mf_equal; rw [if_neg (fun y => by have := hvw.mpr (fun m hm => by rw [← hkE]; exact y.2 m (by omega)); exact absurd this (by decide))])
                · exact absurd c_97_3 (by decide)
              · skip
                refine V_pc (pc1 := 95) rfl ?_
                refine V_iload C dX10_work_95 5 rfl ?_
                refine V_if_eq (tgt := 104) C dX10_work_97 (by decide) (fun c_97_4 => ?_) (fun c_97_4 => ?_)
                · exact absurd c_97_4 (by decide)
                · refine V_lconst (v := 1) C dX10_work_100 rfl ?_
                  refine V_goto (tgt := 105) C dX10_work_101 (by decide) ?_
                  refine V_lret C dX10_work_105 rfl ?_ (by first | exact Nat.le_of_ble_eq_true rfl | omega | (dsimp only; omega) | (simp only [List.length_cons, List.length_nil]; omega)) (by first | exact Nat.le_of_ble_eq_true rfl | omega | (dsimp only; omega) | (simp only [List.length_cons, List.length_nil]; omega))
                  have hq3 := (nI_leI (by omega) (by omega)).mp c_76
                  exact WP.read hR (by unfold mf_equal; rw [if_pos ⟨by rw [hkE, hkEB, hlE, hlEB, hke, hle]; exact ⟨rfl, rfl⟩, fun m hm => by rw [hkE]; exact hvw.mp rfl m (by omega)⟩])
            · have hq2 : q < ln σ rr := nI_ltN9 (by omega) (by omega) c_76
              refine V_pc (pc1 := 79) rfl ?_
              refine V_aload_n C dX10_work_79 rfl 3 rfl ?_
              refine V_aload C dX10_work_80 4 rfl ?_
              refine V_iload C dX10_work_82 6 rfl ?_
              refine V_callSN C (c_X1_isEqual_10 l hl G X N0 M g σ z C9 c9 hC hR hI rr rs q hr hs hk9 (by omega) (by omega) (by omega)) cs_X10_41 rfl rfl ⟨Nat.le_of_ble_eq_true rfl, Nat.le_of_ble_eq_true rfl⟩ ⟨(by first | exact Nat.le_of_ble_eq_true rfl | omega | (dsimp only; omega) | (simp only [List.length_cons, List.length_nil]; omega)), (by first | exact Nat.le_of_ble_eq_true rfl | omega | (dsimp only; omega) | (simp only [List.length_cons, List.length_nil]; omega))⟩ (Nat.le_of_ble_eq_true rfl) dX10_work_84 (fun _ _ _ h => px0 h) ?_
              rintro _ _ ⟨rfl, rfl⟩
              refine V_st (st' := [.int (bI (mf_eq σ (nI 10) (el σ rr q) (el σ rs q)))]) rfl ?_
              refine V_st (st' := [.int (bI (mf_eq σ (nI (kd σ rr)) (el σ rr q) (el σ rs q)))]) (by rw [eq10_k hk9]) ?_
              refine V_istore C dX10_work_87 (Nat.le_of_ble_eq_true rfl) [(0, .ref (qH g 3)), (1, .ref (qA g P9 K9)), (2, .ref (qC g c9)), (3, .ref (qR g rr)), (4, .ref (qR g rs)), (5, .int (bI (mf_eq σ (nI (kd σ rr)) (el σ rr q) (el σ rs q)))), (6, .int (nI q))] [1, 2, 3, 4, 5, 0, 6] rfl ?_
              refine V_iinc (v := nI (q + 1)) C dX10_work_89 (k := 6) rfl (nI_add q 1) (Nat.le_of_ble_eq_true rfl) [(0, .ref (qH g 3)), (1, .ref (qA g P9 K9)), (2, .ref (qC g c9)), (3, .ref (qR g rr)), (4, .ref (qR g rs)), (5, .int (bI (mf_eq σ (nI (kd σ rr)) (el σ rr q) (el σ rs q)))), (6, .int (nI (q + 1)))] [1, 2, 3, 4, 5, 6, 0] rfl ?_
              refine V_goto (tgt := 65) C dX10_work_92 (by decide) ?_
              exact ih65 (q + 1) (bI (mf_eq σ (nI (kd σ rr)) (el σ rr q) (el σ rs q)))  (by omega) (by omega) bI_01 (bI_1.trans ⟨fun y m hm => (Classical.em (m = q)).elim (fun e => by rw [e]; exact y) (fun e => hvw.mp (hv01.resolve_left c_67) m (by omega)), fun y => y q (by omega)⟩)
      refine V_loc (L' := [(0, .ref (qH g 3)), (1, .ref (qA g P9 K9)), (2, .ref (qC g c9)), (3, .ref (qR g rr)), (4, .ref (qR g rs)), (5, .int 1), (6, .int 0)]) [0, 1, 2, 3, 4, 5, 6] rfl ?_
      exact lp_65 _ 0 1  (Nat.lt_succ_self _) (Nat.zero_le _) (Or.inr rfl) (⟨fun _ m hm => absurd hm (Nat.not_lt_zero m), fun _ => rfl⟩)
