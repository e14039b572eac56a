set_option maxRecDepth 100000
set_option maxHeartbeats 1000000 in
theorem c_X15_work_k (l : Launch) (hl : l.stackTraces = false) (G : hp_G) (X : Nat → Nat) (N0 : Nat) (M : hp_h) (g : RG) (σ : MS) (z : Nat → Int32) (C9 c9 : Nat) (hC : c9 + 1 = C9) (hR : REL G (X 0) g σ z (σ.1 31) C9 M) (hI : MI σ) (P9 K9 rr : Nat) (x0 i b j n : Int32) (hP9 : P9 < 6) (hK9 : K9 < psz σ P9) (hr : rr < nR σ) (hAF : AF σ P9 K9 = [.int x0, .int (nI rr), .int i, .int b, .int j, .int n]) (hk9 : ¬ (1 ≤ kd σ rr ∧ kd σ rr ≤ 7)) : HM l yX15_work (ws_ yX15_work cX15_work 7 (some .long)) 18 700 4 150 G X N0 [.ref (qH g 8), .ref (qA g P9 K9), .ref (qC g c9)] M PFF (WX G (X 0) g σ z C9 M (mf_sort σ rr i n)) := by
  refine HM.of hl [(0, .ref (qH g 8)), (1, .ref (qA g P9 K9)), (2, .ref (qC g c9))] (by decide +kernel) rfl (Nat.le_of_ble_eq_true rfl) ?_
  intro p e s m args below meth c C hname
  have hN := hR.N
  have hH9 : M (qH g 8) = some (.inr (18, [.int 2, .ref (qN g), .int 1, .int 7, .ref (qN g), .ref (qN g), .ref (qN g)])) := hR.H (by decide)
  have hac : M (qA g P9 K9) = some (.inr (3, [.int x0, .int (nI rr), .int i, .int b, .int j, .int n])) := (hR.A hP9 hK9).trans (congrArg (fun y => some (Sum.inr (3, y))) hAF)
  refine V_aload_n C dX15_work_0 rfl 0 rfl ?_
  refine V_aload_n C dX15_work_1 rfl 1 rfl ?_
  refine V_callU C (c_X7_part_k18 l hl G X N0 M g σ z C9 c9 hC hR hI (qH g 8) hH9 (qA g P9 K9) x0 rr i b j n hr hac hk9) cs_X15_19_18 hH9 (show CLS[18]? = some (RX15, TX15, 7) from rfl) rfl rfl ⟨Nat.le_of_ble_eq_true rfl, Nat.le_of_ble_eq_true rfl⟩ ⟨(by first | exact Nat.le_of_ble_eq_true rfl | omega | (dsimp only; omega) | (simp only [List.length_cons, List.length_nil]; omega)), (by first | exact Nat.le_of_ble_eq_true rfl | omega | (dsimp only; omega) | (simp only [List.length_cons, List.length_nil]; omega))⟩ (Nat.le_of_ble_eq_true rfl) dX15_work_2 ?_ (fun _ _ h => h.elim)
  rintro q9 E9 M9 hx9
  obtain rfl := hx9.1
  exact VX_out C (fun z hz => by cases hz) (WX.at0 (if_pos (great_no hI hr hk9)) (by decide) hx9) (by first | exact Nat.le_of_ble_eq_true rfl | omega | (dsimp only; omega) | (simp only [List.length_cons, List.length_nil]; omega)) (by first | exact Nat.le_of_ble_eq_true rfl | omega | (dsimp only; omega) | (simp only [List.length_cons, List.length_nil]; omega))
set_option maxHeartbeats 1000000 in
theorem c_X15_work_p (l : Launch) (hl : l.stackTraces = false) (G : hp_G) (X : Nat → Nat) (N0 : Nat) (M : hp_h) (g : RG) (σ : MS) (z : Nat → Int32) (C9 c9 : Nat) (hC : c9 + 1 = C9) (hR : REL G (X 0) g σ z (σ.1 31) C9 M) (hI : MI σ) (P9 K9 rr : Nat) (x0 i b j n : Int32) (hP9 : P9 < 6) (hK9 : K9 < psz σ P9) (hr : rr < nR σ) (hAF : AF σ P9 K9 = [.int x0, .int (nI rr), .int i, .int b, .int j, .int n]) (hk9 : 1 ≤ kd σ rr ∧ kd σ rr ≤ 7) (hp : ¬ mf_places σ rr i n) : HM l yX15_work (ws_ yX15_work cX15_work 7 (some .long)) 18 700 4 150 G X N0 [.ref (qH g 8), .ref (qA g P9 K9), .ref (qC g c9)] M PFF (WX G (X 0) g σ z C9 M (mf_sort σ rr i n)) := by
  refine HM.of hl [(0, .ref (qH g 8)), (1, .ref (qA g P9 K9)), (2, .ref (qC g c9))] (by decide +kernel) rfl (Nat.le_of_ble_eq_true rfl) ?_
  intro p e s m args below meth c C hname
  have hN := hR.N
  have hH9 : M (qH g 8) = some (.inr (18, [.int 2, .ref (qN g), .int 1, .int 7, .ref (qN g), .ref (qN g), .ref (qN g)])) := hR.H (by decide)
  have hac : M (qA g P9 K9) = some (.inr (3, [.int x0, .int (nI rr), .int i, .int b, .int j, .int n])) := (hR.A hP9 hK9).trans (congrArg (fun y => some (Sum.inr (3, y))) hAF)
  refine V_aload_n C dX15_work_0 rfl 0 rfl ?_
  refine V_aload_n C dX15_work_1 rfl 1 rfl ?_
  refine V_callU C (c_X7_part_x18 l hl G X N0 M g σ z C9 c9 hC hR hI (qH g 8) hH9 (qA g P9 K9) x0 rr i b j n hr hac hk9 hp) cs_X15_19_18 hH9 (show CLS[18]? = some (RX15, TX15, 7) from rfl) rfl rfl ⟨Nat.le_of_ble_eq_true rfl, Nat.le_of_ble_eq_true rfl⟩ ⟨(by first | exact Nat.le_of_ble_eq_true rfl | omega | (dsimp only; omega) | (simp only [List.length_cons, List.length_nil]; omega)), (by first | exact Nat.le_of_ble_eq_true rfl | omega | (dsimp only; omega) | (simp only [List.length_cons, List.length_nil]; omega))⟩ (Nat.le_of_ble_eq_true rfl) dX15_work_2 ?_ (fun _ _ h => h.elim)
  rintro q9 E9 M9 hx9
  obtain rfl := hx9.1
  exact VX_out C (fun z hz => by cases hz) (WX.at0 ((if_neg (not_not_intro (great_yes hI hr hk9))).trans (if_pos hp)) (by decide) hx9) (by first | exact Nat.le_of_ble_eq_true rfl | omega | (dsimp only; omega) | (simp only [List.length_cons, List.length_nil]; omega)) (by first | exact Nat.le_of_ble_eq_true rfl | omega | (dsimp only; omega) | (simp only [List.length_cons, List.length_nil]; omega))
theorem UH.fr9 {M M' : hp_h} {ua : Nat → Nat} {U a : Nat} (h : UH M ua U) (hf : hp_fr (fun b => b = a) M M') (hn : ∀ u, u < U → ua u ≠ a) : UH M' ua U :=
  ⟨h.1, fun u hu => by
    obtain ⟨ci, y, h1, h2⟩ := h.2 u hu
    exact ⟨ci, y, h1, hf _ _ (hn u hu) h2⟩⟩
set_option maxHeartbeats 1000000 in
theorem c_X15_work (l : Launch) (hl : l.stackTraces = false) (G : hp_G) (X : Nat → Nat) (N0 : Nat) (M : hp_h) (g : RG) (σ : MS) (z : Nat → Int32) (C9 c9 : Nat) (hC : c9 + 1 = C9) (hR : REL G (X 0) g σ z (σ.1 31) C9 M) (hI : MI σ) (P9 K9 rr : Nat) (x0 i b j n : Int32) (hP9 : P9 < 6) (hK9 : K9 < psz σ P9) (hr : rr < nR σ) (hAF : AF σ P9 K9 = [.int x0, .int (nI rr), .int i, .int b, .int j, .int n]) (hk9 : 1 ≤ kd σ rr ∧ kd σ rr ≤ 7) (hp : mf_places σ rr i n) (hm : MW σ) (h0 : σ.2.2.2 = 0) : HM l yX15_work (ws_ yX15_work cX15_work 7 (some .long)) 18 700 4 150 G X N0 [.ref (qH g 8), .ref (qA g P9 K9), .ref (qC g c9)] M (WP G (X 0) g σ z C9 M (mf_sort σ rr i n)) PX0 := by
  refine HM.of hl [(0, .ref (qH g 8)), (1, .ref (qA g P9 K9)), (2, .ref (qC g c9))] (by decide +kernel) rfl (Nat.le_of_ble_eq_true rfl) ?_
  intro p e s m args below meth c C hname
  have hN := hR.N
  have hH9 : M (qH g 8) = some (.inr (18, [.int 2, .ref (qN g), .int 1, .int 7, .ref (qN g), .ref (qN g), .ref (qN g)])) := hR.H (by decide)
  have hac : M (qA g P9 K9) = some (.inr (3, [.int x0, .int (nI rr), .int i, .int b, .int j, .int n])) := (hR.A hP9 hK9).trans (congrArg (fun y => some (Sum.inr (3, y))) hAF)
  have hcC : c9 < C9 := by omega
  have hCc := hR.Cc hcC
  refine V_aload_n C dX15_work_0 rfl 0 rfl ?_
  refine V_aload_n C dX15_work_1 rfl 1 rfl ?_
  refine V_callU C (c_X7_part_18 l hl G X N0 M g σ z C9 c9 hC hR hI (qH g 8) hH9 (qA g P9 K9) x0 rr i b j n hr hac hk9 hp) cs_X15_19_18 hH9 (show CLS[18]? = some (RX15, TX15, 7) from rfl) rfl rfl ⟨Nat.le_of_ble_eq_true rfl, Nat.le_of_ble_eq_true rfl⟩ ⟨(by first | exact Nat.le_of_ble_eq_true rfl | omega | (dsimp only; omega) | (simp only [List.length_cons, List.length_nil]; omega)), (by first | exact Nat.le_of_ble_eq_true rfl | omega | (dsimp only; omega) | (simp only [List.length_cons, List.length_nil]; omega))⟩ (Nat.le_of_ble_eq_true rfl) dX15_work_2 (fun _ _ _ h => px0 h) ?_
  rintro _ _ ⟨rfl, rfl⟩
  refine V_st (st' := [.ref (qR g rr)]) rfl ?_
  obtain ⟨xr, hra, hrx, hrc⟩ := hR.rw hr
  obtain ⟨hkE, hkL⟩ := hI.k hr
  obtain ⟨hlE, hlL⟩ := hI.l hr
  obtain ⟨I, N, rfl, rfl, hIN⟩ := places_n (hI.l hr) hp
  refine V_astore_n C dX15_work_5 rfl (Nat.le_of_ble_eq_true rfl) [(0, .ref (qH g 8)), (1, .ref (qA g P9 K9)), (2, .ref (qC g c9)), (3, .ref (qR g rr))] [1, 2, 3, 0] rfl ?_
  refine V_aload_n C dX15_work_6 rfl 2 rfl ?_
  refine V_aload_n C dX15_work_7 rfl 1 rfl ?_
  refine V_getN C f_X15_23_3 hac (v := .int (nI rr)) rfl dX15_work_8 ?_
  have hfr : hp_fr (fun _ => False) M M := hp_fr.rf
  have hsh : hp_sh M M := hp_sh.rf
  refine V_callV C (c_X25_keep l hl G X N0 M g σ z C9 c9 hC hR hI hm rr hr) cs_X15_29_4 hCc (show CLS[4]? = some (RX25, TX25, 8) from rfl) rfl rfl ⟨Nat.le_of_ble_eq_true rfl, Nat.le_of_ble_eq_true rfl⟩ ⟨(by first | exact Nat.le_of_ble_eq_true rfl | omega | (dsimp only; omega) | (simp only [List.length_cons, List.length_nil]; omega)), (by first | exact Nat.le_of_ble_eq_true rfl | omega | (dsimp only; omega) | (simp only [List.length_cons, List.length_nil]; omega))⟩ (Nat.le_of_ble_eq_true rfl) dX15_work_11 (fun _ _ _ h => px0 h) ?_
  rintro _ M_1 ⟨rfl, g1, hk1, hR1, hkw1, hKp1⟩
  refine V_st (st' := []) rfl ?_
  have eg_2 : (qH g1 8) = (qH g 8) := hk1 13 8 0 (by decide) (by decide)
  have eg_3 : (qA g1 P9 K9) = (qA g P9 K9) := hk1 11 P9 K9 (by decide) (by decide)
  have eg_4 : (qC g1 c9) = (qC g c9) := hk1 15 c9 0 (by decide) (by decide)
  have eg_5 : (qR g1 rr) = (qR g rr) := hk1 5 rr 0 (by decide) (by decide)
  refine V_loc (L' := [(0, .ref (qH g1 8)), (1, .ref (qA g1 P9 K9)), (2, .ref (qC g1 c9)), (3, .ref (qR g1 rr))]) [0, 1, 2, 3] (by rw [eg_2, eg_3, eg_4, eg_5]; rfl) ?_
  have hac1 : M_1 (qA g1 P9 K9) = some (.inr (3, [.int x0, .int (nI rr), .int (nI I), .int b, .int j, .int (nI N)])) := (hR1.A hP9 hK9).trans (congrArg (fun y => some (Sum.inr (3, y))) hAF)
  have hH1 : M_1 (qH g1 8) = some (.inr (18, [.int 2, .ref (qN g1), .int 1, .int 7, .ref (qN g1), .ref (qN g1), .ref (qN g1)])) := hR1.H (by decide)
  have sh_6 := hsh.trans hKp1.2.2
  obtain ⟨xr1, hra1, hrx1, hrc1⟩ := hR1.rw hr
  have hfr3 : hp_fr (fun b => b = qR g1 rr) M_1 M_1 := hp_fr.rf
  have hs3 : hp_sh M_1 M_1 := hp_sh.rf
  refine V_aload_n C dX15_work_14 rfl 3 rfl ?_
  refine V_callSN C (c_X1_kindOf l hl G X N0 M_1 (qR g1 rr) (kd σ rr) hkL xr1 hra1) cs_X15_35 rfl rfl ⟨Nat.le_of_ble_eq_true rfl, Nat.le_of_ble_eq_true rfl⟩ ⟨(by first | exact Nat.le_of_ble_eq_true rfl | omega | (dsimp only; omega) | (simp only [List.length_cons, List.length_nil]; omega)), (by first | exact Nat.le_of_ble_eq_true rfl | omega | (dsimp only; omega) | (simp only [List.length_cons, List.length_nil]; omega))⟩ (Nat.le_of_ble_eq_true rfl) dX15_work_15 (fun _ _ _ h => px0 h) ?_
  rintro _ _ ⟨rfl, rfl⟩
  refine V_st (st' := [.int (nI (kd σ rr))]) rfl ?_
  refine V_iconst (v := 1) C dX15_work_18 rfl ?_
  refine V_pc (pc1 := 19) rfl ?_
  refine V_callSN C (c_X1_made l hl G X N0 M_1 (kd σ rr) 1 hkL (by omega)) cs_X15_39 rfl rfl ⟨Nat.le_of_ble_eq_true rfl, Nat.le_of_ble_eq_true rfl⟩ ⟨(by first | exact Nat.le_of_ble_eq_true rfl | omega | (dsimp only; omega) | (simp only [List.length_cons, List.length_nil]; omega)), (by first | exact Nat.le_of_ble_eq_true rfl | omega | (dsimp only; omega) | (simp only [List.length_cons, List.length_nil]; omega))⟩ (Nat.le_of_ble_eq_true rfl) dX15_work_19 (fun _ _ _ h => px0 h) ?_
  rintro _ M_9 ⟨q_7, rfl, hq_8, eM_10⟩
  refine V_st (st' := [.ref q_7]) rfl ?_
  have ne_11 : (qA g1 P9 K9) ≠ q_7 := hp_ne0 hac1 hq_8
  have ho_12 : M_9 (qA g1 P9 K9) = some (.inr (3, [.int x0, .int (nI rr), .int (nI I), .int b, .int j, .int (nI N)])) := by rw [eM_10, hp_up_n ne_11]; exact hac1
  have ne_13 : (qH g1 8) ≠ q_7 := hp_ne0 hH1 hq_8
  have ho_14 : M_9 (qH g1 8) = some (.inr (18, [.int 2, .ref (qN g1), .int 1, .int 7, .ref (qN g1), .ref (qN g1), .ref (qN g1)])) := by rw [eM_10, hp_up_n ne_13]; exact hH1
  have ne_15 : (qR g1 rr) ≠ q_7 := hp_ne0 hra1 hq_8
  have ha_16 : M_9 (qR g1 rr) = some (.inl (G.2 (kd σ rr), xr1)) := by rw [eM_10, hp_up_n ne_15]; exact hra1
  have hn_17 : M_9 q_7 = some (.inl (G.2 (kd σ rr), (1, ZK (kd σ rr)))) := by rw [eM_10]; exact hp_up_s
  have fr_18 := hp_fr.new hfr3 hq_8 eM_10
  have nn_19 := hp_fr.nn hfr3 hq_8
  have sh_20 := hp_sh.new hs3 hq_8 eM_10
  refine V_astore C dX15_work_22 (Nat.le_of_ble_eq_true rfl) [(0, .ref (qH g1 8)), (1, .ref (qA g1 P9 K9)), (2, .ref (qC g1 c9)), (3, .ref (qR g1 rr)), (4, .ref q_7)] [1, 2, 3, 4, 0] rfl ?_
  refine V_aload_n C dX15_work_24 rfl 1 rfl ?_
  refine V_getN C f_X15_43_3 ho_12 (v := .int (nI I)) rfl dX15_work_25 ?_
  refine V_iconst (v := 1) C dX15_work_28 rfl ?_
  refine V_iadd C dX15_work_29 ?_
  refine V_st (st' := [.int (nI (I + 1))]) (by rw [show ((nI I) + 1) = (nI (I + 1)) from nI_add I 1]) ?_
  refine V_istore C dX15_work_30 (Nat.le_of_ble_eq_true rfl) [(0, .ref (qH g1 8)), (1, .ref (qA g1 P9 K9)), (2, .ref (qC g1 c9)), (3, .ref (qR g1 rr)), (4, .ref q_7), (5, .int (nI (I + 1)))] [1, 2, 3, 4, 5, 0] rfl ?_
  have hxz : XT (kd σ rr) 1 (1, ZK (kd σ rr)) := ⟨rfl, CT_ZK hkL⟩
  have lp_32 : ∀ (fu9 : Nat) (p1 : Nat) (xk : vp_A) (xo : vp_A) (M32 : hp_h), N - p1 < fu9 → (1 ≤ p1) → (p1 ≤ max N 1) → (∀ y, y < N → CE (nU σ) (nJ σ) (fun u => qU g1 u) (fun y => qJ g1 y) (kd σ rr) xk (I + y) ((mf_srt (nI (kd σ rr)) (fun q => el σ rr (I + q)) p1) y)) → (∀ y, ¬ (I ≤ y ∧ y < I + N) → cv xk.2 y = cv xr1.2 y) → (XT (kd σ rr) (ln σ rr) xk) → (XT (kd σ rr) 1 xo) → (M32 (qR g1 rr) = some (.inl (G.2 (kd σ rr), xk))) → (M32 q_7 = some (.inl (G.2 (kd σ rr), xo))) → (hp_fr (fun b => b = qR g1 rr) M_1 M32) → (hp_sh M_1 M32) → V p l e { frames := 18, cells := 4, slots := 150, locals := 700 } s m args below meth c G N0 7 (QV below G N0 ((WP G (X 0) g σ z C9 M (mf_sort σ rr (nI I) (nI N)))) PX0 args s (4) (150)) (0 + 2 + 1) (0 + 130 + 1) M32 32 [(0, .ref (qH g1 8)), (1, .ref (qA g1 P9 K9)), (2, .ref (qC g1 c9)), (3, .ref (qR g1 rr)), (4, .ref q_7), (5, .int (nI (I + p1)))] [] := by
    intro fu9
    induction fu9 with
    | zero => intro p1 xk xo M32 hfu9; exact absurd hfu9 (Nat.not_lt_zero _)
    | succ fu9 ih32 =>
      intro p1 xk xo M32 hfu9 h1 hp1 hcon hout hxk hxo hraK honK hfrK hshK
      have ho_22 : M32 (qA g1 P9 K9) = some (.inr (3, [.int x0, .int (nI rr), .int (nI I), .int b, .int j, .int (nI N)])) := hfrK _ _ (hp_ne hac1 hra1 (by simp)) hac1
      have ho_23 : M32 (qH g1 8) = some (.inr (18, [.int 2, .ref (qN g1), .int 1, .int 7, .ref (qN g1), .ref (qN g1), .ref (qN g1)])) := hfrK _ _ (hp_ne hH1 hra1 (by simp)) hH1
      refine V_iload C dX15_work_32 5 rfl ?_
      refine V_aload_n C dX15_work_34 rfl 1 rfl ?_
      refine V_getN C f_X15_43_3 ho_22 (v := .int (nI I)) rfl dX15_work_35 ?_
      refine V_aload_n C dX15_work_38 rfl 1 rfl ?_
      refine V_getN C f_X15_46_3 ho_22 (v := .int (nI N)) rfl dX15_work_39 ?_
      refine V_pc (pc1 := 42) rfl ?_
      refine V_iadd C dX15_work_42 ?_
      refine V_st (st' := [.int (nI (I + N)), .int (nI (I + p1))]) (by rw [show ((nI I) + (nI N)) = (nI (I + N)) from nI_add I N]) ?_
      refine V_icmp_ge (tgt := 121) C dX15_work_43 (by decide) (fun c_43 => ?_) (fun c_43 => ?_)
      · refine V_lconst (v := 0) C dX15_work_121 rfl ?_
        refine V_lret C dX15_work_122 rfl ?_ (by first | exact Nat.le_of_ble_eq_true rfl | omega | (dsimp only; omega) | (simp only [List.length_cons, List.length_nil]; omega)) (by first | exact Nat.le_of_ble_eq_true rfl | omega | (dsimp only; omega) | (simp only [List.length_cons, List.length_nil]; omega))
        have hge : N ≤ p1 := by have := (nI_leI (by omega) (by omega)).mp c_43; omega
        have hkE := (hI.k hr).1
        refine WP.of9 (σ' := sl σ 4 (mfill (σ.2.2.1 4) (40 * rr + I) N (mf_srt (nI (kd σ rr)) (fun q => el σ rr (I + q)) N))) (ROWK (f' := mfill (σ.2.2.1 4) (40 * rr + I) N (mf_srt (nI (kd σ rr)) (fun q => el σ rr (I + q)) N)) (RKp.rf (n := nR σ)) rfl (fun _ _ _ _ _ _ _ y => y) hR1 hKp1 hr hC hkw1 hraK hfrK hshK hxk (fun k hk => ?_) (fun r' k hr' hn hk => ?_) ⟨fun _ _ => rfl, fun _ _ => ⟨rfl, rfl⟩, fun _ _ => rfl, fun _ _ => rfl, rfl, fun _ _ _ _ => rfl⟩) ?_ h0 rfl
        · by_cases e : I ≤ k ∧ k < I + N
          · rw [show 40 * rr + k = 40 * rr + I + (k - I) by omega, mfill_in (by omega)]
            have h9 := hcon (k - I) (by omega)
            rw [show I + (k - I) = k by omega, show p1 = N by omega] at h9
            exact h9
          · rw [mfill_out (by omega)]
            exact (hrc1 k hk).at_ (hout k e)
        · have := (hI.l hr').2
          exact mfill_out (by omega)
        · unfold mf_sort
          rw [if_neg (not_not_intro (great_yes hI hr hk9)), if_neg (not_not_intro hp), nI_clamp (by omega), nI_clamp (by omega)]
          unfold mf_sortA
          rw [hkE]
      · have hpN : p1 < N := by have := nI_ltN9 (by omega) (by omega) c_43; omega
        refine V_aload_n C dX15_work_46 rfl 3 rfl ?_
        refine V_iload C dX15_work_47 5 rfl ?_
        refine V_aload C dX15_work_49 4 rfl ?_
        refine V_iconst (v := 0) C dX15_work_51 rfl ?_
        refine V_iconst (v := 1) C dX15_work_52 rfl ?_
        refine V_st (st' := [.int (nI 1), .int (nI 0), .ref q_7, .int (nI (I + p1)), .ref (qR g1 rr)]) rfl ?_
        refine V_copyKN C ⟨q1322, q532, q531, q76⟩ (Or.inl rfl) hxk.2 hxo.2 hraK honK (sp := (I + p1)) (dp := 0) (n := 1) (by rw [hxk.1]; omega) (by rw [hxo.1]; decide) (by rw [hxk.1]; omega) (by rw [hxo.1]; decide) (fun y hy => by obtain rfl : y = 0 := (by omega); exact (EV.sh ((hcon p1 hpN).ev (hR1.UH hI) hR1.JH (fun y9 => absurd y9 (by omega))) hshK)) ⟨Nat.le_of_ble_eq_true rfl, Nat.le_of_ble_eq_true rfl⟩ dX15_work_53 (fun x_24 hx_25 hcv_26 => ?_)
        obtain ⟨M_27, eM_28⟩ : ∃ z, z = hp_up M32 q_7 (.inl (G.2 (kd σ rr), x_24)) := ⟨_, rfl⟩
        refine V_heap (M' := M_27) eM_28.symm ?_
        have ho_29 : M_27 (qA g1 P9 K9) = some (.inr (3, [.int x0, .int (nI rr), .int (nI I), .int b, .int j, .int (nI N)])) := by rw [eM_28, hp_up_n ne_11]; exact ho_22
        have ho_30 : M_27 (qH g1 8) = some (.inr (18, [.int 2, .ref (qN g1), .int 1, .int 7, .ref (qN g1), .ref (qN g1), .ref (qN g1)])) := by rw [eM_28, hp_up_n ne_13]; exact ho_23
        have ha_31 : M_27 (qR g1 rr) = some (.inl (G.2 (kd σ rr), xk)) := by rw [eM_28, hp_up_n ne_15]; exact hraK
        have eM_28_s : M_27 q_7 = some (.inl (G.2 (kd σ rr), x_24)) := by rw [eM_28]; exact hp_up_s
        have fr_32 := hp_fr.set hfrK nn_19 eM_28
        have sh_33 := hp_sh.set hshK honK eM_28 rfl
        have hx9 : XT (kd σ rr) 1 x_24 := ⟨hx_25.1.trans hxo.1, hx_25.2⟩
        have hc9 : cv x_24.2 0 = cv xk.2 (I + p1) := (hcv_26 0).trans (if_pos ⟨Nat.le_refl _, by decide⟩)
        have hce9 : CE (nU σ) (nJ σ) (fun u => qU g1 u) (fun y => qJ g1 y) (kd σ rr) x_24 0 (((mf_srt (nI (kd σ rr)) (fun q => el σ rr (I + q)) p1) p1)) := (hcon p1 hpN).at_ hc9
        have hq0 : mf_pos (nI (kd σ rr)) (mf_srt (nI (kd σ rr)) (fun q => el σ rr (I + q)) p1) ((mf_srt (nI (kd σ rr)) (fun q => el σ rr (I + q)) p1) p1) p1 = mf_pos (nI (kd σ rr)) (mf_srt (nI (kd σ rr)) (fun q => el σ rr (I + q)) p1) ((mf_srt (nI (kd σ rr)) (fun q => el σ rr (I + q)) p1) p1) p1 := rfl
        refine V_iload C dX15_work_56 5 rfl ?_
        refine V_istore C dX15_work_58 (Nat.le_of_ble_eq_true rfl) [(0, .ref (qH g1 8)), (1, .ref (qA g1 P9 K9)), (2, .ref (qC g1 c9)), (3, .ref (qR g1 rr)), (4, .ref q_7), (5, .int (nI (I + p1))), (6, .int (nI (I + p1)))] [1, 2, 3, 4, 5, 6, 0] rfl ?_
        have lp_60 : ∀ (fu9 : Nat) (q1 : Nat), q1 < fu9 → (q1 ≤ p1) → (mf_pos (nI (kd σ rr)) (mf_srt (nI (kd σ rr)) (fun q => el σ rr (I + q)) p1) ((mf_srt (nI (kd σ rr)) (fun q => el σ rr (I + q)) p1) p1) p1 = mf_pos (nI (kd σ rr)) (mf_srt (nI (kd σ rr)) (fun q => el σ rr (I + q)) p1) ((mf_srt (nI (kd σ rr)) (fun q => el σ rr (I + q)) p1) p1) q1) → V p l e { frames := 18, cells := 4, slots := 150, locals := 700 } s m args below meth c G N0 7 (QV below G N0 ((WP G (X 0) g σ z C9 M (mf_sort σ rr (nI I) (nI N)))) PX0 args s (4) (150)) (0 + 2 + 1) (0 + 130 + 1) M_27 60 [(0, .ref (qH g1 8)), (1, .ref (qA g1 P9 K9)), (2, .ref (qC g1 c9)), (3, .ref (qR g1 rr)), (4, .ref q_7), (5, .int (nI (I + p1))), (6, .int (nI (I + q1)))] [] := by
          intro fu9
          induction fu9 with
          | zero => intro q1  hfu9; exact absurd hfu9 (Nat.not_lt_zero _)
          | succ fu9 ih60 =>
            intro q1  hfu9 hq1 hps
            refine V_iload C dX15_work_60 6 rfl ?_
            refine V_aload_n C dX15_work_62 rfl 1 rfl ?_
            refine V_pc (pc1 := 63) rfl ?_
            refine V_getN C f_X15_43_3 ho_29 (v := .int (nI I)) rfl dX15_work_63 ?_
            refine V_icmp_le (tgt := 89) C dX15_work_66 (by decide) (fun c_66 => ?_) (fun c_66 => ?_)
            · have hpq : mf_pos (nI (kd σ rr)) (mf_srt (nI (kd σ rr)) (fun q => el σ rr (I + q)) p1) ((mf_srt (nI (kd σ rr)) (fun q => el σ rr (I + q)) p1) p1) p1 = q1 := by
                have h00 : q1 = 0 := by have := (nI_leI (by omega) (by omega)).mp c_66; omega
                rw [hps, h00]
                rfl
              refine V_aload_n C dX15_work_89 rfl 3 rfl ?_
              refine V_iload C dX15_work_90 6 rfl ?_
              refine V_aload_n C dX15_work_92 rfl 3 rfl ?_
              refine V_iload C dX15_work_93 6 rfl ?_
              refine V_iconst (v := 1) C dX15_work_95 rfl ?_
              refine V_iadd C dX15_work_96 ?_
              refine V_st (st' := [.int (nI ((I + q1) + 1)), .ref (qR g1 rr), .int (nI (I + q1)), .ref (qR g1 rr)]) (by rw [show ((nI (I + q1)) + 1) = (nI ((I + q1) + 1)) from nI_add (I + q1) 1]) ?_
              refine V_iload C dX15_work_97 5 rfl ?_
              refine V_iload C dX15_work_99 6 rfl ?_
              refine V_isub C dX15_work_101 ?_
              refine V_st (st' := [.int (nI (p1 - q1)), .int (nI ((I + q1) + 1)), .ref (qR g1 rr), .int (nI (I + q1)), .ref (qR g1 rr)]) (by rw [show ((nI (I + p1)) - (nI (I + q1))) = (nI (p1 - q1)) from (by rw [nI_sub (by omega)]; congr 1; omega)]) ?_
              have hev9 : ∀ y, y < N → EV G M_27 (kd σ rr) (cv xk.2 (I + y)) := fun y hy => EV.sh ((hcon y hy).ev (hR1.UH hI) hR1.JH (fun y9 => absurd y9 (by omega))) sh_33
              refine V_st (st' := [.int (nI (p1 - q1)), .int (nI ((I + q1) + 1)), .ref (qR g1 rr), .int (nI (I + q1)), .ref (qR g1 rr)]) rfl ?_
              refine V_copyKN C ⟨q1322, q532, q531, q76⟩ (Or.inl rfl) hxk.2 hxk.2 ha_31 ha_31 (sp := (I + q1)) (dp := ((I + q1) + 1)) (n := (p1 - q1)) (by rw [hxk.1]; omega) (by rw [hxk.1]; omega) (by rw [hxk.1]; omega) (by rw [hxk.1]; omega) (fun y hy => by rw [show I + q1 + y = I + (q1 + y) by omega]; exact hev9 (q1 + y) (by omega)) ⟨Nat.le_of_ble_eq_true rfl, Nat.le_of_ble_eq_true rfl⟩ dX15_work_102 (fun x_35 hx_36 hcv_37 => ?_)
              obtain ⟨M_38, eM_39⟩ : ∃ z, z = hp_up M_27 (qR g1 rr) (.inl (G.2 (kd σ rr), x_35)) := ⟨_, rfl⟩
              refine V_heap (M' := M_38) eM_39.symm ?_
              have ho_40 : M_38 (qA g1 P9 K9) = some (.inr (3, [.int x0, .int (nI rr), .int (nI I), .int b, .int j, .int (nI N)])) := by rw [eM_39, hp_up_n (hp_ne ho_29 ha_31 (by simp))]; exact ho_29
              have ho_41 : M_38 (qH g1 8) = some (.inr (18, [.int 2, .ref (qN g1), .int 1, .int 7, .ref (qN g1), .ref (qN g1), .ref (qN g1)])) := by rw [eM_39, hp_up_n (hp_ne ho_30 ha_31 (by simp))]; exact ho_30
              have ha_42 : M_38 q_7 = some (.inl (G.2 (kd σ rr), x_24)) := by rw [eM_39, hp_up_n (Ne.symm ne_15)]; exact eM_28_s
              have eM_39_s : M_38 (qR g1 rr) = some (.inl (G.2 (kd σ rr), x_35)) := by rw [eM_39]; exact hp_up_s
              have fr_43 := hp_fr.set fr_32 (Or.inl rfl) eM_39
              have sh_44 := hp_sh.set sh_33 ha_31 eM_39 rfl
              have hx10 : XT (kd σ rr) (ln σ rr) x_35 := ⟨hx_36.1.trans hxk.1, hx_36.2⟩
              refine V_pc (pc1 := 105) rfl ?_
              refine V_aload C dX15_work_105 4 rfl ?_
              refine V_iconst (v := 0) C dX15_work_107 rfl ?_
              refine V_aload_n C dX15_work_108 rfl 3 rfl ?_
              refine V_iload C dX15_work_109 6 rfl ?_
              refine V_iconst (v := 1) C dX15_work_111 rfl ?_
              refine V_st (st' := [.int (nI 1), .int (nI (I + q1)), .ref (qR g1 rr), .int (nI 0), .ref q_7]) rfl ?_
              refine V_copyKN C ⟨q1322, q532, q531, q76⟩ (Or.inl rfl) hx9.2 hx10.2 ha_42 eM_39_s (sp := 0) (dp := (I + q1)) (n := 1) (by rw [hx9.1]; decide) (by rw [hx10.1]; omega) (by rw [hx9.1]; decide) (by rw [hx10.1]; omega) (fun y hy => by obtain rfl : y = 0 := (by omega); rw [show 0 + 0 = 0 from rfl, hc9]; exact EV.sh ((hcon p1 hpN).ev (hR1.UH hI) hR1.JH (fun y9 => absurd y9 (by omega))) sh_44) ⟨Nat.le_of_ble_eq_true rfl, Nat.le_of_ble_eq_true rfl⟩ dX15_work_112 (fun x_45 hx_46 hcv_47 => ?_)
              obtain ⟨M_48, eM_49⟩ : ∃ z, z = hp_up M_38 (qR g1 rr) (.inl (G.2 (kd σ rr), x_45)) := ⟨_, rfl⟩
              refine V_heap (M' := M_48) eM_49.symm ?_
              have ho_50 : M_48 (qA g1 P9 K9) = some (.inr (3, [.int x0, .int (nI rr), .int (nI I), .int b, .int j, .int (nI N)])) := by rw [eM_49, hp_up_n (hp_ne ho_40 eM_39_s (by simp))]; exact ho_40
              have ho_51 : M_48 (qH g1 8) = some (.inr (18, [.int 2, .ref (qN g1), .int 1, .int 7, .ref (qN g1), .ref (qN g1), .ref (qN g1)])) := by rw [eM_49, hp_up_n (hp_ne ho_41 eM_39_s (by simp))]; exact ho_41
              have ha_52 : M_48 q_7 = some (.inl (G.2 (kd σ rr), x_24)) := by rw [eM_49, hp_up_n (Ne.symm ne_15)]; exact ha_42
              have eM_49_s : M_48 (qR g1 rr) = some (.inl (G.2 (kd σ rr), x_45)) := by rw [eM_49]; exact hp_up_s
              have fr_53 := hp_fr.set fr_43 (Or.inl rfl) eM_49
              have sh_54 := hp_sh.set sh_44 eM_39_s eM_49 rfl
              have hx11 : XT (kd σ rr) (ln σ rr) x_45 := ⟨hx_46.1.trans hx10.1, hx_46.2⟩
              refine V_iinc (v := nI (I + (p1 + 1))) C dX15_work_115 (k := 5) rfl (by rw [show I + (p1 + 1) = I + p1 + 1 by omega]; exact nI_add _ 1) (Nat.le_of_ble_eq_true rfl) [(0, .ref (qH g1 8)), (1, .ref (qA g1 P9 K9)), (2, .ref (qC g1 c9)), (3, .ref (qR g1 rr)), (4, .ref q_7), (5, .int (nI (I + (p1 + 1)))), (6, .int (nI (I + q1)))] [1, 2, 3, 4, 5, 0, 6] rfl ?_
              refine V_goto (tgt := 32) C dX15_work_118 (by decide) ?_
              have hcon2 : ∀ y, y < N → CE (nU σ) (nJ σ) (fun u => qU g1 u) (fun y => qJ g1 y) (kd σ rr) x_45 (I + y) ((mf_srt (nI (kd σ rr)) (fun q => el σ rr (I + q)) (p1 + 1)) y) := fun y hy => by
                rw [mf_srt_s h1, hpq]
                unfold mf_ins
                by_cases e1 : y = q1
                · rw [if_pos e1]
                  refine hce9.at_ ((hcv_47 (I + y)).trans ?_)
                  rw [if_pos ⟨by omega, by omega⟩, show 0 + (I + y - (I + q1)) = 0 by omega]
                · rw [if_neg e1]
                  have e11 : cv x_45.2 (I + y) = cv x_35.2 (I + y) := (hcv_47 (I + y)).trans (if_neg (by omega))
                  by_cases e2 : q1 < y ∧ y ≤ p1
                  · rw [if_pos e2]
                    refine (hcon (y - 1) (by omega)).at_ (e11.trans ((hcv_37 (I + y)).trans ?_))
                    rw [if_pos ⟨by omega, by omega⟩, show I + q1 + (I + y - (I + q1 + 1)) = I + (y - 1) by omega]
                  · rw [if_neg e2]
                    exact (hcon y hy).at_ (e11.trans ((hcv_37 (I + y)).trans (if_neg (by omega))))
              have hout2 : ∀ y, ¬ (I ≤ y ∧ y < I + N) → cv x_45.2 y = cv xr1.2 y := fun y hy => (hcv_47 y).trans ((if_neg (by omega)).trans ((hcv_37 y).trans ((if_neg (by omega)).trans (hout y hy))))
              refine V_loc (L' := [(0, .ref (qH g1 8)), (1, .ref (qA g1 P9 K9)), (2, .ref (qC g1 c9)), (3, .ref (qR g1 rr)), (4, .ref q_7), (5, .int (nI (I + (p1 + 1))))]) [0, 1, 2, 3, 4, 5] rfl ?_
              exact ih32 (p1 + 1) x_45 x_24 _ (by omega) (by omega) (by omega) hcon2 hout2 hx11 hx9 eM_49_s ha_52 fr_53 sh_54
            · have hq10 : 0 < q1 := by rcases Nat.eq_zero_or_pos q1 with y | y; (exact absurd (show nI (I + q1) ≤ nI I from (nI_leI (by omega) (by omega)).mpr (by omega)) c_66); exact y
              refine V_aload C dX15_work_69 4 rfl ?_
              refine V_iconst (v := 0) C dX15_work_71 rfl ?_
              refine V_aload_n C dX15_work_72 rfl 3 rfl ?_
              refine V_iload C dX15_work_73 6 rfl ?_
              refine V_iconst (v := 1) C dX15_work_75 rfl ?_
              refine V_isub C dX15_work_76 ?_
              refine V_st (st' := [.int (nI (I + (q1 - 1))), .ref (qR g1 rr), .int 0, .ref q_7]) (by rw [show ((nI (I + q1)) - 1) = (nI (I + (q1 - 1))) from (by rw [show I + q1 = I + (q1 - 1) + 1 by omega]; exact nI_pred _)]) ?_
              refine V_callSN C (c_X1_isBelow l hl G X N0 M_27 q_7 (qR g1 rr) (kd σ rr) 0 (I + (q1 - 1)) x_24 xk ((mf_srt (nI (kd σ rr)) (fun q => el σ rr (I + q)) p1) p1) ((mf_srt (nI (kd σ rr)) (fun q => el σ rr (I + q)) p1) (q1 - 1)) (by omega) eM_28_s (by rw [hx9.1]; omega) (by rw [hx9.1]; decide) hce9 ha_31 (by rw [hxk.1]; omega) (by rw [hxk.1]; omega) (hcon (q1 - 1) (by omega)) ((hR1.UH hI).fr9 fr_32 (fun y hy => hR1.ne (t := 6) (i := y) (j := 0) (t' := 5) (i' := rr) (j' := 0) ⟨hy, rfl⟩ ⟨hr, rfl⟩ (by simp)))) cs_X15_55 rfl rfl ⟨Nat.le_of_ble_eq_true rfl, Nat.le_of_ble_eq_true rfl⟩ ⟨(by first | exact Nat.le_of_ble_eq_true rfl | omega | (dsimp only; omega) | (simp only [List.length_cons, List.length_nil]; omega)), (by first | exact Nat.le_of_ble_eq_true rfl | omega | (dsimp only; omega) | (simp only [List.length_cons, List.length_nil]; omega))⟩ (Nat.le_of_ble_eq_true rfl) dX15_work_77 (fun _ _ _ h => px0 h) ?_
              rintro _ _ ⟨rfl, rfl⟩
              refine V_st (st' := [.int (bI (mf_order (nI (kd σ rr)) ((mf_srt (nI (kd σ rr)) (fun q => el σ rr (I + q)) p1) p1) ((mf_srt (nI (kd σ rr)) (fun q => el σ rr (I + q)) p1) (q1 - 1)) < 0))]) rfl ?_
              refine V_if_eq (tgt := 89) C dX15_work_80 (by decide) (fun c_80 => ?_) (fun c_80 => ?_)
              · have hpq : mf_pos (nI (kd σ rr)) (mf_srt (nI (kd σ rr)) (fun q => el σ rr (I + q)) p1) ((mf_srt (nI (kd σ rr)) (fun q => el σ rr (I + q)) p1) p1) p1 = q1 := by
                  rw [hps]
                  obtain ⟨r, rfl⟩ : ∃ r, q1 = r + 1 := ⟨q1 - 1, by omega⟩
                  show (if _ then _ else _) = _
                  exact if_neg (bI_0.mp c_80)
                refine V_aload_n C dX15_work_89 rfl 3 rfl ?_
                refine V_iload C dX15_work_90 6 rfl ?_
                refine V_pc (pc1 := 92) rfl ?_
                refine V_aload_n C dX15_work_92 rfl 3 rfl ?_
                refine V_iload C dX15_work_93 6 rfl ?_
                refine V_iconst (v := 1) C dX15_work_95 rfl ?_
                refine V_iadd C dX15_work_96 ?_
                refine V_st (st' := [.int (nI ((I + q1) + 1)), .ref (qR g1 rr), .int (nI (I + q1)), .ref (qR g1 rr)]) (by rw [show ((nI (I + q1)) + 1) = (nI ((I + q1) + 1)) from nI_add (I + q1) 1]) ?_
                refine V_iload C dX15_work_97 5 rfl ?_
                refine V_iload C dX15_work_99 6 rfl ?_
                refine V_isub C dX15_work_101 ?_
                refine V_st (st' := [.int (nI (p1 - q1)), .int (nI ((I + q1) + 1)), .ref (qR g1 rr), .int (nI (I + q1)), .ref (qR g1 rr)]) (by rw [show ((nI (I + p1)) - (nI (I + q1))) = (nI (p1 - q1)) from (by rw [nI_sub (by omega)]; congr 1; omega)]) ?_
                have hev9 : ∀ y, y < N → EV G M_27 (kd σ rr) (cv xk.2 (I + y)) := fun y hy => EV.sh ((hcon y hy).ev (hR1.UH hI) hR1.JH (fun y9 => absurd y9 (by omega))) sh_33
                refine V_st (st' := [.int (nI (p1 - q1)), .int (nI ((I + q1) + 1)), .ref (qR g1 rr), .int (nI (I + q1)), .ref (qR g1 rr)]) rfl ?_
                refine V_copyKN C ⟨q1322, q532, q531, q76⟩ (Or.inl rfl) hxk.2 hxk.2 ha_31 ha_31 (sp := (I + q1)) (dp := ((I + q1) + 1)) (n := (p1 - q1)) (by rw [hxk.1]; omega) (by rw [hxk.1]; omega) (by rw [hxk.1]; omega) (by rw [hxk.1]; omega) (fun y hy => by rw [show I + q1 + y = I + (q1 + y) by omega]; exact hev9 (q1 + y) (by omega)) ⟨Nat.le_of_ble_eq_true rfl, Nat.le_of_ble_eq_true rfl⟩ dX15_work_102 (fun x_55 hx_56 hcv_57 => ?_)
                obtain ⟨M_58, eM_59⟩ : ∃ z, z = hp_up M_27 (qR g1 rr) (.inl (G.2 (kd σ rr), x_55)) := ⟨_, rfl⟩
                refine V_heap (M' := M_58) eM_59.symm ?_
                have ho_60 : M_58 (qA g1 P9 K9) = some (.inr (3, [.int x0, .int (nI rr), .int (nI I), .int b, .int j, .int (nI N)])) := by rw [eM_59, hp_up_n (hp_ne ho_29 ha_31 (by simp))]; exact ho_29
                have ho_61 : M_58 (qH g1 8) = some (.inr (18, [.int 2, .ref (qN g1), .int 1, .int 7, .ref (qN g1), .ref (qN g1), .ref (qN g1)])) := by rw [eM_59, hp_up_n (hp_ne ho_30 ha_31 (by simp))]; exact ho_30
                have ha_62 : M_58 q_7 = some (.inl (G.2 (kd σ rr), x_24)) := by rw [eM_59, hp_up_n (Ne.symm ne_15)]; exact eM_28_s
                have eM_59_s : M_58 (qR g1 rr) = some (.inl (G.2 (kd σ rr), x_55)) := by rw [eM_59]; exact hp_up_s
                have fr_63 := hp_fr.set fr_32 (Or.inl rfl) eM_59
                have sh_64 := hp_sh.set sh_33 ha_31 eM_59 rfl
                have hx10 : XT (kd σ rr) (ln σ rr) x_55 := ⟨hx_56.1.trans hxk.1, hx_56.2⟩
                refine V_aload C dX15_work_105 4 rfl ?_
                refine V_iconst (v := 0) C dX15_work_107 rfl ?_
                refine V_aload_n C dX15_work_108 rfl 3 rfl ?_
                refine V_iload C dX15_work_109 6 rfl ?_
                refine V_pc (pc1 := 111) rfl ?_
                refine V_iconst (v := 1) C dX15_work_111 rfl ?_
                refine V_st (st' := [.int (nI 1), .int (nI (I + q1)), .ref (qR g1 rr), .int (nI 0), .ref q_7]) rfl ?_
                refine V_copyKN C ⟨q1322, q532, q531, q76⟩ (Or.inl rfl) hx9.2 hx10.2 ha_62 eM_59_s (sp := 0) (dp := (I + q1)) (n := 1) (by rw [hx9.1]; decide) (by rw [hx10.1]; omega) (by rw [hx9.1]; decide) (by rw [hx10.1]; omega) (fun y hy => by obtain rfl : y = 0 := (by omega); rw [show 0 + 0 = 0 from rfl, hc9]; exact EV.sh ((hcon p1 hpN).ev (hR1.UH hI) hR1.JH (fun y9 => absurd y9 (by omega))) sh_64) ⟨Nat.le_of_ble_eq_true rfl, Nat.le_of_ble_eq_true rfl⟩ dX15_work_112 (fun x_65 hx_66 hcv_67 => ?_)
                obtain ⟨M_68, eM_69⟩ : ∃ z, z = hp_up M_58 (qR g1 rr) (.inl (G.2 (kd σ rr), x_65)) := ⟨_, rfl⟩
                refine V_heap (M' := M_68) eM_69.symm ?_
                have ho_70 : M_68 (qA g1 P9 K9) = some (.inr (3, [.int x0, .int (nI rr), .int (nI I), .int b, .int j, .int (nI N)])) := by rw [eM_69, hp_up_n (hp_ne ho_60 eM_59_s (by simp))]; exact ho_60
                have ho_71 : M_68 (qH g1 8) = some (.inr (18, [.int 2, .ref (qN g1), .int 1, .int 7, .ref (qN g1), .ref (qN g1), .ref (qN g1)])) := by rw [eM_69, hp_up_n (hp_ne ho_61 eM_59_s (by simp))]; exact ho_61
                have ha_72 : M_68 q_7 = some (.inl (G.2 (kd σ rr), x_24)) := by rw [eM_69, hp_up_n (Ne.symm ne_15)]; exact ha_62
                have eM_69_s : M_68 (qR g1 rr) = some (.inl (G.2 (kd σ rr), x_65)) := by rw [eM_69]; exact hp_up_s
                have fr_73 := hp_fr.set fr_63 (Or.inl rfl) eM_69
                have sh_74 := hp_sh.set sh_64 eM_59_s eM_69 rfl
                have hx11 : XT (kd σ rr) (ln σ rr) x_65 := ⟨hx_66.1.trans hx10.1, hx_66.2⟩
                refine V_iinc (v := nI (I + (p1 + 1))) C dX15_work_115 (k := 5) rfl (by rw [show I + (p1 + 1) = I + p1 + 1 by omega]; exact nI_add _ 1) (Nat.le_of_ble_eq_true rfl) [(0, .ref (qH g1 8)), (1, .ref (qA g1 P9 K9)), (2, .ref (qC g1 c9)), (3, .ref (qR g1 rr)), (4, .ref q_7), (5, .int (nI (I + (p1 + 1)))), (6, .int (nI (I + q1)))] [1, 2, 3, 4, 5, 0, 6] rfl ?_
                refine V_goto (tgt := 32) C dX15_work_118 (by decide) ?_
                have hcon2 : ∀ y, y < N → CE (nU σ) (nJ σ) (fun u => qU g1 u) (fun y => qJ g1 y) (kd σ rr) x_65 (I + y) ((mf_srt (nI (kd σ rr)) (fun q => el σ rr (I + q)) (p1 + 1)) y) := fun y hy => by
                  rw [mf_srt_s h1, hpq]
                  unfold mf_ins
                  by_cases e1 : y = q1
                  · rw [if_pos e1]
                    refine hce9.at_ ((hcv_67 (I + y)).trans ?_)
                    rw [if_pos ⟨by omega, by omega⟩, show 0 + (I + y - (I + q1)) = 0 by omega]
                  · rw [if_neg e1]
                    have e11 : cv x_65.2 (I + y) = cv x_55.2 (I + y) := (hcv_67 (I + y)).trans (if_neg (by omega))
                    by_cases e2 : q1 < y ∧ y ≤ p1
                    · rw [if_pos e2]
                      refine (hcon (y - 1) (by omega)).at_ (e11.trans ((hcv_57 (I + y)).trans ?_))
                      rw [if_pos ⟨by omega, by omega⟩, show I + q1 + (I + y - (I + q1 + 1)) = I + (y - 1) by omega]
                    · rw [if_neg e2]
                      exact (hcon y hy).at_ (e11.trans ((hcv_57 (I + y)).trans (if_neg (by omega))))
                have hout2 : ∀ y, ¬ (I ≤ y ∧ y < I + N) → cv x_65.2 y = cv xr1.2 y := fun y hy => (hcv_67 y).trans ((if_neg (by omega)).trans ((hcv_57 y).trans ((if_neg (by omega)).trans (hout y hy))))
                refine V_loc (L' := [(0, .ref (qH g1 8)), (1, .ref (qA g1 P9 K9)), (2, .ref (qC g1 c9)), (3, .ref (qR g1 rr)), (4, .ref q_7), (5, .int (nI (I + (p1 + 1))))]) [0, 1, 2, 3, 4, 5] rfl ?_
                exact ih32 (p1 + 1) x_65 x_24 _ (by omega) (by omega) (by omega) hcon2 hout2 hx11 hx9 eM_69_s ha_72 fr_73 sh_74
              · refine V_iinc (v := nI (I + (q1 - 1))) C dX15_work_83 (k := 6) rfl (by rw [show I + (q1 - 1) = I + q1 - 1 by omega]; exact nI_dec (by omega)) (Nat.le_of_ble_eq_true rfl) [(0, .ref (qH g1 8)), (1, .ref (qA g1 P9 K9)), (2, .ref (qC g1 c9)), (3, .ref (qR g1 rr)), (4, .ref q_7), (5, .int (nI (I + p1))), (6, .int (nI (I + (q1 - 1))))] [1, 2, 3, 4, 5, 6, 0] rfl ?_
                refine V_goto (tgt := 60) C dX15_work_86 (by decide) ?_
                exact ih60 (q1 - 1)  (by omega) (by omega) (by rw [hps]; obtain ⟨r, rfl⟩ : ∃ r, q1 = r + 1 := ⟨q1 - 1, by omega⟩; show (if _ then _ else _) = _; refine (if_pos ?_).trans rfl; exact bI_n.mp c_80)
        refine V_loc (L' := [(0, .ref (qH g1 8)), (1, .ref (qA g1 P9 K9)), (2, .ref (qC g1 c9)), (3, .ref (qR g1 rr)), (4, .ref q_7), (5, .int (nI (I + p1))), (6, .int (nI (I + p1)))]) [0, 1, 2, 3, 4, 5, 6] rfl ?_
        exact lp_60 _ p1  (Nat.lt_succ_self _) (Nat.le_refl p1) rfl
  refine V_loc (L' := [(0, .ref (qH g1 8)), (1, .ref (qA g1 P9 K9)), (2, .ref (qC g1 c9)), (3, .ref (qR g1 rr)), (4, .ref q_7), (5, .int (nI (I + 1)))]) [0, 1, 2, 3, 4, 5] rfl ?_
  exact lp_32 _ 1 xr1 (1, ZK (kd σ rr)) _ (Nat.lt_succ_self _) (Nat.le_refl 1) (Nat.le_max_right _ _) (fun y hy => CE.kg (fun _ _ _ _ _ => rfl) (hrc1 (I + y) (by omega))) (fun y _ => rfl) hrx1 hxz ha_16 hn_17 fr_18 sh_20
