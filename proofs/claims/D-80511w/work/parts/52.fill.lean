set_option maxRecDepth 100000
section F52
variable {G : hp_G} {E0 : Nat} {g g1 : RG} {σ σ' : MS} {z : Nat → Int32} {ca : Int32} {C : Nat} {M M1 M3 M' : hp_h}
theorem nJ_new {n : Int32} (hJ : nJ σ < 8000) : nJ (mf_newInner (nJ σ) n σ) = nJ σ + 1 := by
  show (nI (nJ σ + 1)).toNatClampNeg = _
  rw [nI_clamp (by omega)]
theorem RDnewJ {n : Int32} {q : Nat} (hJ : nJ σ < 8000) {t i j : Nat} (hd : RD σ g C t i j) : RD (mf_newInner (nJ σ) n σ) (gJ g (nJ σ) q) C t i j := by
  have e8 := nJ_new (σ := σ) (n := n) hJ
  unfold RD at hd ⊢
  rw [e8]
  split at hd <;> (try dsimp only) <;> first | exact hd | exact ⟨Nat.lt_succ_of_lt hd.1, hd.2⟩
theorem RKp.newJ {n9 m q : Nat} {n : Int32} (hJ : nJ σ < 8000) (hq : M q = none) : RKp n9 σ g C M (mf_newInner (nJ σ) n σ) (gJ g (nJ σ) q) C (hp_up M q (.inl (G.2 4, m, .inl (fun _ => 0)))) := by
  refine RKp.mk9 (Z := fun _ => False) (fun t i j h2 h4 h17 h19 hd h5 h15 => ?_) (hp_fr.rf.new hq rfl) (fun _ y => y.elim) (fun t i j hd => ?_) (hp_sh.rf.new hq rfl)
  · refine ru_n ?_
    rintro ⟨rfl, rfl, rfl⟩
    exact absurd hd.1 (Nat.lt_irrefl _)
  · rcases RD.gJ (σ := σ) (σ' := mf_newInner (nJ σ) n σ) (nJ_new hJ) (by unfold nR; rw [newInner_1 (by decide)]) (by unfold nU; rw [newInner_1 (by decide)]) (newInner_2 (by decide) (by decide)) hd with y | ⟨rfl, rfl, rfl⟩
    · exact Or.inl y
    · right
      rw [show (gJ g (nJ σ) q).1 7 (nJ σ) 0 = q from (ru_s : ru g.1 7 (nJ σ) 0 q 7 (nJ σ) 0 = q)]
      exact hq
theorem MW.newInner {n : Int32} (h : MW σ) : MW (mf_newInner (nJ σ) n σ) := h
end F52
section L52
variable {σ : MS}
theorem fill_0 {a I N : Nat} {j : Int32} {w : Int64} {τ : MS} (hI : MI σ) (ha : a < nR σ) (hg : mf_goes σ (nI (kd σ a)) j.toInt64) (hp : mf_places σ a (nI I) (nI N)) (hN : 0 < N) (hIN : I + N ≤ 40) (hc : kd σ a = 9 → mf_isCard σ j.toInt64) (hw : mf_asE (nI (kd σ a)) j.toInt64 σ = (w, τ)) : mf_fill σ a (nI I) j (nI N) = (0, sl τ 4 (mfill (σ.2.2.1 4) (40 * a + I) N (fun _ => w))) := by
  have hk := hI.k ha
  unfold mf_fill
  rw [hk.1, if_neg (not_not_intro hg), if_neg (not_not_intro hp), if_neg (fun y => y.2.2 (hc ((nI_eq (b := 9) (by omega) (by decide)).mp y.1))), nI_clamp (by omega), nI_clamp (by omega)]
  unfold mf_fillA mf_fillV
  rw [hk.1, if_pos (show (0 : Int32) < nI N from (nI_ltI (a := 0) (by decide) (by omega)).mpr hN), hw]
theorem fill_z {a I : Nat} {j : Int32} (hI : MI σ) (ha : a < nR σ) (hg : mf_goes σ (nI (kd σ a)) j.toInt64) (hp : mf_places σ a (nI I) (nI 0)) (hIN : I ≤ 40) : mf_fill σ a (nI I) j (nI 0) = (0, σ) := by
  have hk := hI.k ha
  unfold mf_fill
  rw [hk.1, if_neg (not_not_intro hg), if_neg (not_not_intro hp), if_neg (fun y => absurd y.2.1 (by decide)), nI_clamp (by omega), nI_clamp (by omega)]
  unfold mf_fillA mf_fillV
  rw [if_neg (by decide), mfill_0, sl_id]
theorem fill_4 {a : Nat} {i j n : Int32} (hI : MI σ) (ha : a < nR σ) (hg : ¬ mf_goes σ (nI (kd σ a)) j.toInt64) : mf_fill σ a i j n = (4, σ) := by
  unfold mf_fill
  rw [(hI.k ha).1, if_pos hg]
theorem fill_2 {a : Nat} {i j n : Int32} (hI : MI σ) (ha : a < nR σ) (hg : mf_goes σ (nI (kd σ a)) j.toInt64) (hp : ¬ mf_places σ a i n) : mf_fill σ a i j n = (2, σ) := by
  unfold mf_fill
  rw [(hI.k ha).1, if_neg (not_not_intro hg), if_pos hp]
theorem fill_3 {a I N : Nat} {j : Int32} (hI : MI σ) (ha : a < nR σ) (hg : mf_goes σ (nI (kd σ a)) j.toInt64) (hp : mf_places σ a (nI I) (nI N)) (hN : 0 < N) (hN40 : N ≤ 40) (hk : kd σ a = 9) (hc : ¬ mf_isCard σ j.toInt64) : mf_fill σ a (nI I) j (nI N) = (3, σ) := by
  unfold mf_fill
  rw [(hI.k ha).1, if_neg (not_not_intro hg), if_neg (not_not_intro hp), if_pos ⟨by rw [hk]; rfl, (nI_ltI (a := 0) (by decide) (by omega)).mpr hN, hc⟩]
end L52
set_option maxHeartbeats 1000000 in
theorem c_X8_work_4 (l : Launch) (hl : l.stackTraces = false) (G : hp_G) (X : Nat → Nat) (N0 : Nat) (M : hp_h) (g : RG) (σ : MS) (z : Nat → Int32) (C9 c9 : Nat) (hC : c9 + 1 = C9) (hR : REL G (X 0) g σ z (σ.1 31) C9 M) (hI : MI σ) (P9 K9 rr : Nat) (x0 i b j n : Int32) (hP9 : P9 < 6) (hK9 : K9 < psz σ P9) (hr : rr < nR σ) (hAF : AF σ P9 K9 = [.int x0, .int (nI rr), .int i, .int b, .int j, .int n]) (hg : ¬ mf_goes σ (nI (kd σ rr)) j.toInt64) : HM l yX8_work (wsW_ yX8_work cX8_work 8 (some .long) [(114, 153, 156, 70)]) 24 11400 9 300 G X N0 [.ref (qH g 2), .ref (qA g P9 K9), .ref (qC g c9)] M PFF (WX G (X 0) g σ z C9 M (mf_fill σ rr i j n)) := by
  refine HM.ofH hl [(0, .ref (qH g 2)), (1, .ref (qA g P9 K9)), (2, .ref (qC g c9))] (by decide +kernel) rfl (Nat.le_of_ble_eq_true rfl) ?_
  intro p e s m args below meth c C hname
  have hN := hR.N
  obtain ⟨mdR, hRl⟩ := hR.Rl
  obtain ⟨fR, hRs, hRf⟩ := hR.Rls
  obtain ⟨mdU, hUl⟩ := hR.Ul
  obtain ⟨fU, hUs, hUf⟩ := hR.Uls
  have hH9 : M (qH g 2) = some (.inr (12, [.int 1, .ref (qN g), .int 0, .int 10, .ref (qN g), .ref (qN g), .ref (qN g)])) := hR.H (by decide)
  have hac : M (qA g P9 K9) = some (.inr (3, [.int x0, .int (nI rr), .int i, .int b, .int j, .int n])) := (hR.A hP9 hK9).trans (congrArg (fun y => some (Sum.inr (3, y))) hAF)
  refine V_aload_n C dX8_work_0 rfl 0 rfl ?_
  refine V_get C f_X8_3_12 hH9 (v := .ref (qN g)) rfl dX8_work_1 ?_
  refine V_getN C f_X8_15_0 hN (v := .ref (qRl g)) rfl dX8_work_4 ?_
  refine V_aload_n C dX8_work_7 rfl 1 rfl ?_
  refine V_getN C f_X8_19_3 hac (v := .int (nI rr)) rfl dX8_work_8 ?_
  refine V_callV C (c_J2_get l hl G X N0 M (qRl g) (qRe g) (nR σ) (gcp g 2 0) mdR fR hRl (hRs.2.2.1 (by have := hRs.2.2.2.1; omega)) (by have := hRs.2.2.2.2; omega) hRs.2.2.2.1 rr (qR g rr) hr (hRf rr hr)) cs_X8_25_1 hRl (show CLS[1]? = some (RJ2, TJ2, 3) from rfl) rfl rfl ⟨Nat.le_of_ble_eq_true rfl, Nat.le_of_ble_eq_true rfl⟩ ⟨(by first | exact Nat.le_of_ble_eq_true rfl | omega | (dsimp only; omega) | (simp only [List.length_cons, List.length_nil]; omega)), (by first | exact Nat.le_of_ble_eq_true rfl | omega | (dsimp only; omega) | (simp only [List.length_cons, List.length_nil]; omega))⟩ (Nat.le_of_ble_eq_true rfl) dX8_work_11 (fun _ _ _ h => px0 h) ?_
  rintro _ _ ⟨rfl, rfl⟩
  refine V_st (st' := [.ref (qR g rr)]) rfl ?_
  obtain ⟨xr, hra, hrx, hrc⟩ := hR.rw hr
  obtain ⟨hkE, hkL⟩ := hI.k hr
  obtain ⟨hlE, hlL⟩ := hI.l hr
  refine V_callSN C (c_X1_kindOf l hl G X N0 M (qR g rr) (kd σ rr) hkL xr hra) cs_X8_31 rfl rfl ⟨Nat.le_of_ble_eq_true rfl, Nat.le_of_ble_eq_true rfl⟩ ⟨(by first | exact Nat.le_of_ble_eq_true rfl | omega | (dsimp only; omega) | (simp only [List.length_cons, List.length_nil]; omega)), (by first | exact Nat.le_of_ble_eq_true rfl | omega | (dsimp only; omega) | (simp only [List.length_cons, List.length_nil]; omega))⟩ (Nat.le_of_ble_eq_true rfl) dX8_work_14 (fun _ _ _ h => px0 h) ?_
  rintro _ _ ⟨rfl, rfl⟩
  refine V_st (st' := [.int (nI (kd σ rr))]) rfl ?_
  refine V_istore_n C dX8_work_17 rfl (Nat.le_of_ble_eq_true rfl) [(0, .ref (qH g 2)), (1, .ref (qA g P9 K9)), (2, .ref (qC g c9)), (3, .int (nI (kd σ rr)))] [1, 2, 3, 0] rfl ?_
  refine V_aload_n C dX8_work_18 rfl 0 rfl ?_
  refine V_get C f_X8_3_12 hH9 (v := .ref (qN g)) rfl dX8_work_19 ?_
  refine V_iload_n C dX8_work_22 rfl 3 rfl ?_
  refine V_pc (pc1 := 23) rfl ?_
  refine V_aload_n C dX8_work_23 rfl 1 rfl ?_
  refine V_getN C f_X8_35_3 hac (v := .int j) rfl dX8_work_24 ?_
  refine V_i2l (v := j.toInt64) C dX8_work_27 rfl ?_
  refine V_callVN C (c_X1_goes l hl G X N0 M g σ z (σ.1 31) C9 hR hI (kd σ rr) j.toInt64 hkL) cs_X8_38_0 hN (show CLS[0]? = some (RX1, TX1, 17) from rfl) rfl rfl ⟨Nat.le_of_ble_eq_true rfl, Nat.le_of_ble_eq_true rfl⟩ ⟨(by first | exact Nat.le_of_ble_eq_true rfl | omega | (dsimp only; omega) | (simp only [List.length_cons, List.length_nil]; omega)), (by first | exact Nat.le_of_ble_eq_true rfl | omega | (dsimp only; omega) | (simp only [List.length_cons, List.length_nil]; omega))⟩ (Nat.le_of_ble_eq_true rfl) dX8_work_28 (fun _ _ _ h => px0 h) ?_
  rintro _ _ ⟨rfl, rfl⟩
  refine V_st (st' := [.int (bI (mf_goes σ (nI (kd σ rr)) j.toInt64))]) rfl ?_
  refine V_if_ne (tgt := 43) C dX8_work_31 (by decide) (fun c_31 => ?_) (fun c_31 => ?_)
  · exact absurd (bI_n.mp c_31) hg
  · refine V_aload_n C dX8_work_34 rfl 0 rfl ?_
    refine V_get C f_X8_3_12 hH9 (v := .ref (qN g)) rfl dX8_work_35 ?_
    refine V_iconst (v := 4) C dX8_work_38 rfl ?_
    refine V_callVN C (c_X1_fail l hl G X N0 M (qN g) (qRl g) (qUl g) (qPl g) (qHs g) (qAn g) (σ.1 20) (σ.1 14) (σ.1 11) (σ.1 12) (σ.1 15) (z 0) (z 1) (z 2) (z 3) (z 4) (z 5) (σ.1 31) 4 hN) cs_X8_42_0 hN (show CLS[0]? = some (RX1, TX1, 17) from rfl) rfl rfl ⟨Nat.le_of_ble_eq_true rfl, Nat.le_of_ble_eq_true rfl⟩ ⟨(by first | exact Nat.le_of_ble_eq_true rfl | omega | (dsimp only; omega) | (simp only [List.length_cons, List.length_nil]; omega)), (by first | exact Nat.le_of_ble_eq_true rfl | omega | (dsimp only; omega) | (simp only [List.length_cons, List.length_nil]; omega))⟩ (Nat.le_of_ble_eq_true rfl) dX8_work_39 (fun _ _ _ h => px0 h) ?_
    rintro _ M_3 ⟨q_1, rfl, hq_2, hN_4, hF_5, fr_6, sh_7⟩
    refine V_st (st' := [.ref q_1]) rfl ?_
    refine V_athrow C hF_5 (show CLS[8]? = some (RX26, TX26, 7) from rfl) dX8_work_42 ?_
    exact VX_out C (fun z9 hz => by have hz : z9 ∈ ([⟨114, 153, 156, 70⟩] : List ExceptionTableEntry) := hz; obtain rfl := List.mem_singleton.mp hz; exact Or.inl rfl) (WX.at0 (fill_4 hI hr hg) (by decide) (FLX.of hR hq_2 hN_4 hF_5 fr_6 sh_7)) (by first | exact Nat.le_of_ble_eq_true rfl | omega | (dsimp only; omega) | (simp only [List.length_cons, List.length_nil]; omega)) (by first | exact Nat.le_of_ble_eq_true rfl | omega | (dsimp only; omega) | (simp only [List.length_cons, List.length_nil]; omega))
set_option maxHeartbeats 1000000 in
theorem c_X8_work_2 (l : Launch) (hl : l.stackTraces = false) (G : hp_G) (X : Nat → Nat) (N0 : Nat) (M : hp_h) (g : RG) (σ : MS) (z : Nat → Int32) (C9 c9 : Nat) (hC : c9 + 1 = C9) (hR : REL G (X 0) g σ z (σ.1 31) C9 M) (hI : MI σ) (P9 K9 rr : Nat) (x0 i b j n : Int32) (hP9 : P9 < 6) (hK9 : K9 < psz σ P9) (hr : rr < nR σ) (hAF : AF σ P9 K9 = [.int x0, .int (nI rr), .int i, .int b, .int j, .int n]) (hk9 : 0 ≤ kd σ rr ∧ kd σ rr ≤ 10) (hg : mf_goes σ (nI (kd σ rr)) j.toInt64) (hp : ¬ mf_places σ rr i n) : HM l yX8_work (wsW_ yX8_work cX8_work 8 (some .long) [(114, 153, 156, 70)]) 24 11400 9 300 G X N0 [.ref (qH g 2), .ref (qA g P9 K9), .ref (qC g c9)] M PFF (WX G (X 0) g σ z C9 M (mf_fill σ rr i j n)) := by
  refine HM.ofH hl [(0, .ref (qH g 2)), (1, .ref (qA g P9 K9)), (2, .ref (qC g c9))] (by decide +kernel) rfl (Nat.le_of_ble_eq_true rfl) ?_
  intro p e s m args below meth c C hname
  have hN := hR.N
  obtain ⟨mdR, hRl⟩ := hR.Rl
  obtain ⟨fR, hRs, hRf⟩ := hR.Rls
  obtain ⟨mdU, hUl⟩ := hR.Ul
  obtain ⟨fU, hUs, hUf⟩ := hR.Uls
  have hH9 : M (qH g 2) = some (.inr (12, [.int 1, .ref (qN g), .int 0, .int 10, .ref (qN g), .ref (qN g), .ref (qN g)])) := hR.H (by decide)
  have hac : M (qA g P9 K9) = some (.inr (3, [.int x0, .int (nI rr), .int i, .int b, .int j, .int n])) := (hR.A hP9 hK9).trans (congrArg (fun y => some (Sum.inr (3, y))) hAF)
  refine V_aload_n C dX8_work_0 rfl 0 rfl ?_
  refine V_get C f_X8_3_12 hH9 (v := .ref (qN g)) rfl dX8_work_1 ?_
  refine V_getN C f_X8_15_0 hN (v := .ref (qRl g)) rfl dX8_work_4 ?_
  refine V_aload_n C dX8_work_7 rfl 1 rfl ?_
  refine V_getN C f_X8_19_3 hac (v := .int (nI rr)) rfl dX8_work_8 ?_
  refine V_callV C (c_J2_get l hl G X N0 M (qRl g) (qRe g) (nR σ) (gcp g 2 0) mdR fR hRl (hRs.2.2.1 (by have := hRs.2.2.2.1; omega)) (by have := hRs.2.2.2.2; omega) hRs.2.2.2.1 rr (qR g rr) hr (hRf rr hr)) cs_X8_25_1 hRl (show CLS[1]? = some (RJ2, TJ2, 3) from rfl) rfl rfl ⟨Nat.le_of_ble_eq_true rfl, Nat.le_of_ble_eq_true rfl⟩ ⟨(by first | exact Nat.le_of_ble_eq_true rfl | omega | (dsimp only; omega) | (simp only [List.length_cons, List.length_nil]; omega)), (by first | exact Nat.le_of_ble_eq_true rfl | omega | (dsimp only; omega) | (simp only [List.length_cons, List.length_nil]; omega))⟩ (Nat.le_of_ble_eq_true rfl) dX8_work_11 (fun _ _ _ h => px0 h) ?_
  rintro _ _ ⟨rfl, rfl⟩
  refine V_st (st' := [.ref (qR g rr)]) rfl ?_
  obtain ⟨xr, hra, hrx, hrc⟩ := hR.rw hr
  obtain ⟨hkE, hkL⟩ := hI.k hr
  obtain ⟨hlE, hlL⟩ := hI.l hr
  refine V_callSN C (c_X1_kindOf l hl G X N0 M (qR g rr) (kd σ rr) hkL xr hra) cs_X8_31 rfl rfl ⟨Nat.le_of_ble_eq_true rfl, Nat.le_of_ble_eq_true rfl⟩ ⟨(by first | exact Nat.le_of_ble_eq_true rfl | omega | (dsimp only; omega) | (simp only [List.length_cons, List.length_nil]; omega)), (by first | exact Nat.le_of_ble_eq_true rfl | omega | (dsimp only; omega) | (simp only [List.length_cons, List.length_nil]; omega))⟩ (Nat.le_of_ble_eq_true rfl) dX8_work_14 (fun _ _ _ h => px0 h) ?_
  rintro _ _ ⟨rfl, rfl⟩
  refine V_st (st' := [.int (nI (kd σ rr))]) rfl ?_
  refine V_istore_n C dX8_work_17 rfl (Nat.le_of_ble_eq_true rfl) [(0, .ref (qH g 2)), (1, .ref (qA g P9 K9)), (2, .ref (qC g c9)), (3, .int (nI (kd σ rr)))] [1, 2, 3, 0] rfl ?_
  refine V_aload_n C dX8_work_18 rfl 0 rfl ?_
  refine V_get C f_X8_3_12 hH9 (v := .ref (qN g)) rfl dX8_work_19 ?_
  refine V_iload_n C dX8_work_22 rfl 3 rfl ?_
  refine V_pc (pc1 := 23) rfl ?_
  refine V_aload_n C dX8_work_23 rfl 1 rfl ?_
  refine V_getN C f_X8_35_3 hac (v := .int j) rfl dX8_work_24 ?_
  refine V_i2l (v := j.toInt64) C dX8_work_27 rfl ?_
  refine V_callVN C (c_X1_goes l hl G X N0 M g σ z (σ.1 31) C9 hR hI (kd σ rr) j.toInt64 hkL) cs_X8_38_0 hN (show CLS[0]? = some (RX1, TX1, 17) from rfl) rfl rfl ⟨Nat.le_of_ble_eq_true rfl, Nat.le_of_ble_eq_true rfl⟩ ⟨(by first | exact Nat.le_of_ble_eq_true rfl | omega | (dsimp only; omega) | (simp only [List.length_cons, List.length_nil]; omega)), (by first | exact Nat.le_of_ble_eq_true rfl | omega | (dsimp only; omega) | (simp only [List.length_cons, List.length_nil]; omega))⟩ (Nat.le_of_ble_eq_true rfl) dX8_work_28 (fun _ _ _ h => px0 h) ?_
  rintro _ _ ⟨rfl, rfl⟩
  refine V_st (st' := [.int (bI (mf_goes σ (nI (kd σ rr)) j.toInt64))]) rfl ?_
  refine V_if_ne (tgt := 43) C dX8_work_31 (by decide) (fun c_31 => ?_) (fun c_31 => ?_)
  · refine V_aload_n C dX8_work_43 rfl 0 rfl ?_
    refine V_aload_n C dX8_work_44 rfl 1 rfl ?_
    refine V_callU C (c_X7_part_x12 l hl G X N0 M g σ z C9 c9 hC hR hI (qH g 2) hH9 (qA g P9 K9) x0 rr i b j n hr hac hk9 hp) cs_X8_46_12 hH9 (show CLS[12]? = some (RX8, TX8, 7) from rfl) rfl rfl ⟨Nat.le_of_ble_eq_true rfl, Nat.le_of_ble_eq_true rfl⟩ ⟨(by first | exact Nat.le_of_ble_eq_true rfl | omega | (dsimp only; omega) | (simp only [List.length_cons, List.length_nil]; omega)), (by first | exact Nat.le_of_ble_eq_true rfl | omega | (dsimp only; omega) | (simp only [List.length_cons, List.length_nil]; omega))⟩ (Nat.le_of_ble_eq_true rfl) dX8_work_45 ?_ (fun _ _ h => h.elim)
    rintro q9 E9 M9 hx9
    obtain rfl := hx9.1
    exact VX_out C (fun z9 hz => by have hz : z9 ∈ ([⟨114, 153, 156, 70⟩] : List ExceptionTableEntry) := hz; obtain rfl := List.mem_singleton.mp hz; exact Or.inl rfl) (WX.at0 (fill_2 hI hr hg hp) (by decide) hx9) (by first | exact Nat.le_of_ble_eq_true rfl | omega | (dsimp only; omega) | (simp only [List.length_cons, List.length_nil]; omega)) (by first | exact Nat.le_of_ble_eq_true rfl | omega | (dsimp only; omega) | (simp only [List.length_cons, List.length_nil]; omega))
  · exact absurd hg (bI_0.mp c_31)
theorem nI_m1 {m : Nat} (h : m < 2 ^ 31) : nI m ≠ -1 := fun e => by
  have e1 := congrArg Int32.toInt e
  rw [nI_toInt h] at e1
  have e2 : (-1 : Int32).toInt = -1 := rfl
  omega
theorem notCard {σ : MS} (hI : MI σ) {u : Nat} (hu : u < nU σ) (h : (σ.2.1 6 u).toNatClampNeg = 0) : ¬ mf_isCard σ (lN u) := by
  have hU := hI.U.2
  rintro (y | y)
  · exact lN_n1 (by omega) y.symm
  · rw [lN_i, nI_clamp (by omega), (hI.cN hu).2, h] at y
    exact absurd y (by decide)
set_option maxHeartbeats 1000000 in
theorem c_X8_work_A (l : Launch) (hl : l.stackTraces = false) (G : hp_G) (X : Nat → Nat) (N0 : Nat) (M : hp_h) (g : RG) (σ : MS) (z : Nat → Int32) (C9 c9 : Nat) (hC : c9 + 1 = C9) (hR : REL G (X 0) g σ z (σ.1 31) C9 M) (hI : MI σ) (P9 K9 rr : Nat) (x0 i b j n : Int32) (hP9 : P9 < 6) (hK9 : K9 < psz σ P9) (hr : rr < nR σ) (hAF : AF σ P9 K9 = [.int x0, .int (nI rr), .int i, .int b, .int j, .int n]) (hk9 : 0 ≤ kd σ rr ∧ kd σ rr ≤ 10) (hk7 : kd σ rr ≤ 7) (hg : mf_goes σ (nI (kd σ rr)) j.toInt64) (hp : mf_places σ rr i n) (hm : MW σ) (h0 : σ.2.2.2 = 0) (hn0 : n ≠ 0) : HM l yX8_work (wsW_ yX8_work cX8_work 8 (some .long) [(114, 153, 156, 70)]) 24 11400 9 300 G X N0 [.ref (qH g 2), .ref (qA g P9 K9), .ref (qC g c9)] M (WP G (X 0) g σ z C9 M (mf_fill σ rr i j n)) PX0 := by
  refine HM.ofH hl [(0, .ref (qH g 2)), (1, .ref (qA g P9 K9)), (2, .ref (qC g c9))] (by decide +kernel) rfl (Nat.le_of_ble_eq_true rfl) ?_
  intro p e s m args below meth c C hname
  have hN := hR.N
  obtain ⟨mdR, hRl⟩ := hR.Rl
  obtain ⟨fR, hRs, hRf⟩ := hR.Rls
  obtain ⟨mdU, hUl⟩ := hR.Ul
  obtain ⟨fU, hUs, hUf⟩ := hR.Uls
  have hH9 : M (qH g 2) = some (.inr (12, [.int 1, .ref (qN g), .int 0, .int 10, .ref (qN g), .ref (qN g), .ref (qN g)])) := hR.H (by decide)
  have hac : M (qA g P9 K9) = some (.inr (3, [.int x0, .int (nI rr), .int i, .int b, .int j, .int n])) := (hR.A hP9 hK9).trans (congrArg (fun y => some (Sum.inr (3, y))) hAF)
  have hcC : c9 < C9 := by omega
  have hCc := hR.Cc hcC
  have hgb : mf_goes σ (nI (kd σ rr)) j.toInt64 := by have y := hg;  exact y
  refine V_aload_n C dX8_work_0 rfl 0 rfl ?_
  refine V_get C f_X8_3_12 hH9 (v := .ref (qN g)) rfl dX8_work_1 ?_
  refine V_getN C f_X8_15_0 hN (v := .ref (qRl g)) rfl dX8_work_4 ?_
  refine V_aload_n C dX8_work_7 rfl 1 rfl ?_
  refine V_getN C f_X8_19_3 hac (v := .int (nI rr)) rfl dX8_work_8 ?_
  refine V_callV C (c_J2_get l hl G X N0 M (qRl g) (qRe g) (nR σ) (gcp g 2 0) mdR fR hRl (hRs.2.2.1 (by have := hRs.2.2.2.1; omega)) (by have := hRs.2.2.2.2; omega) hRs.2.2.2.1 rr (qR g rr) hr (hRf rr hr)) cs_X8_25_1 hRl (show CLS[1]? = some (RJ2, TJ2, 3) from rfl) rfl rfl ⟨Nat.le_of_ble_eq_true rfl, Nat.le_of_ble_eq_true rfl⟩ ⟨(by first | exact Nat.le_of_ble_eq_true rfl | omega | (dsimp only; omega) | (simp only [List.length_cons, List.length_nil]; omega)), (by first | exact Nat.le_of_ble_eq_true rfl | omega | (dsimp only; omega) | (simp only [List.length_cons, List.length_nil]; omega))⟩ (Nat.le_of_ble_eq_true rfl) dX8_work_11 (fun _ _ _ h => px0 h) ?_
  rintro _ _ ⟨rfl, rfl⟩
  refine V_st (st' := [.ref (qR g rr)]) rfl ?_
  obtain ⟨xr, hra, hrx, hrc⟩ := hR.rw hr
  obtain ⟨hkE, hkL⟩ := hI.k hr
  obtain ⟨hlE, hlL⟩ := hI.l hr
  refine V_callSN C (c_X1_kindOf l hl G X N0 M (qR g rr) (kd σ rr) hkL xr hra) cs_X8_31 rfl rfl ⟨Nat.le_of_ble_eq_true rfl, Nat.le_of_ble_eq_true rfl⟩ ⟨(by first | exact Nat.le_of_ble_eq_true rfl | omega | (dsimp only; omega) | (simp only [List.length_cons, List.length_nil]; omega)), (by first | exact Nat.le_of_ble_eq_true rfl | omega | (dsimp only; omega) | (simp only [List.length_cons, List.length_nil]; omega))⟩ (Nat.le_of_ble_eq_true rfl) dX8_work_14 (fun _ _ _ h => px0 h) ?_
  rintro _ _ ⟨rfl, rfl⟩
  refine V_st (st' := [.int (nI (kd σ rr))]) rfl ?_
  refine V_istore_n C dX8_work_17 rfl (Nat.le_of_ble_eq_true rfl) [(0, .ref (qH g 2)), (1, .ref (qA g P9 K9)), (2, .ref (qC g c9)), (3, .int (nI (kd σ rr)))] [1, 2, 3, 0] rfl ?_
  refine V_aload_n C dX8_work_18 rfl 0 rfl ?_
  refine V_get C f_X8_3_12 hH9 (v := .ref (qN g)) rfl dX8_work_19 ?_
  refine V_iload_n C dX8_work_22 rfl 3 rfl ?_
  refine V_pc (pc1 := 23) rfl ?_
  refine V_aload_n C dX8_work_23 rfl 1 rfl ?_
  refine V_getN C f_X8_35_3 hac (v := .int j) rfl dX8_work_24 ?_
  refine V_i2l (v := j.toInt64) C dX8_work_27 rfl ?_
  refine V_st (st' := [.long j.toInt64, .int (nI (kd σ rr)), .ref (qN g)]) (by rw [show j.toInt64 = j.toInt64 from rfl]) ?_
  refine V_callVN C (c_X1_goes l hl G X N0 M g σ z (σ.1 31) C9 hR hI (kd σ rr) j.toInt64 hkL) cs_X8_38_0 hN (show CLS[0]? = some (RX1, TX1, 17) from rfl) rfl rfl ⟨Nat.le_of_ble_eq_true rfl, Nat.le_of_ble_eq_true rfl⟩ ⟨(by first | exact Nat.le_of_ble_eq_true rfl | omega | (dsimp only; omega) | (simp only [List.length_cons, List.length_nil]; omega)), (by first | exact Nat.le_of_ble_eq_true rfl | omega | (dsimp only; omega) | (simp only [List.length_cons, List.length_nil]; omega))⟩ (Nat.le_of_ble_eq_true rfl) dX8_work_28 (fun _ _ _ h => px0 h) ?_
  rintro _ _ ⟨rfl, rfl⟩
  refine V_st (st' := [.int (bI (mf_goes σ (nI (kd σ rr)) j.toInt64))]) rfl ?_
  refine V_if_ne (tgt := 43) C dX8_work_31 (by decide) (fun c_31 => ?_) (fun c_31 => ?_)
  · refine V_aload_n C dX8_work_43 rfl 0 rfl ?_
    refine V_aload_n C dX8_work_44 rfl 1 rfl ?_
    refine V_callU C (c_X7_part_12 l hl G X N0 M g σ z C9 c9 hC hR hI (qH g 2) hH9 (qA g P9 K9) x0 rr i b j n hr hac hk9 hp) cs_X8_46_12 hH9 (show CLS[12]? = some (RX8, TX8, 7) from rfl) rfl rfl ⟨Nat.le_of_ble_eq_true rfl, Nat.le_of_ble_eq_true rfl⟩ ⟨(by first | exact Nat.le_of_ble_eq_true rfl | omega | (dsimp only; omega) | (simp only [List.length_cons, List.length_nil]; omega)), (by first | exact Nat.le_of_ble_eq_true rfl | omega | (dsimp only; omega) | (simp only [List.length_cons, List.length_nil]; omega))⟩ (Nat.le_of_ble_eq_true rfl) dX8_work_45 (fun _ _ _ h => px0 h) ?_
    rintro _ _ ⟨rfl, rfl⟩
    refine V_st (st' := [.ref (qR g rr)]) rfl ?_
    obtain ⟨I, N, rfl, rfl, hIN⟩ := places_n (hI.l hr) hp
    have hNp : 0 < N := Nat.pos_of_ne_zero (fun y => hn0 (by rw [y]; rfl))
    refine V_astore C dX8_work_48 (Nat.le_of_ble_eq_true rfl) [(0, .ref (qH g 2)), (1, .ref (qA g P9 K9)), (2, .ref (qC g c9)), (3, .int (nI (kd σ rr))), (4, .ref (qR g rr))] [1, 2, 3, 4, 0] rfl ?_
    refine V_iload_n C dX8_work_50 rfl 3 rfl ?_
    refine V_bipush (v := 8) C dX8_work_51 rfl ?_
    refine V_icmp_eq (tgt := 62) C dX8_work_53 (by decide) (fun c_53 => ?_) (fun c_53 => ?_)
    · exact absurd ((nI_eq (b := 8) (by omega) (by decide)).mp c_53) (by omega)
    · refine V_pc (pc1 := 56) rfl ?_
      refine V_iload_n C dX8_work_56 rfl 3 rfl ?_
      refine V_bipush (v := 9) C dX8_work_57 rfl ?_
      refine V_icmp_ne (tgt := 77) C dX8_work_59 (by decide) (fun c_59 => ?_) (fun c_59 => ?_)
      · refine V_null C dX8_work_77 ?_
        refine V_astoreN C dX8_work_78 (Nat.le_of_ble_eq_true rfl) [(0, .ref (qH g 2)), (1, .ref (qA g P9 K9)), (2, .ref (qC g c9)), (3, .int (nI (kd σ rr))), (4, .ref (qR g rr)), (5, .null)] [1, 2, 3, 4, 5, 0] rfl ?_
        refine V_iload_n C dX8_work_80 rfl 3 rfl ?_
        refine V_bipush (v := 10) C dX8_work_81 rfl ?_
        refine V_icmp_ne (tgt := 103) C dX8_work_83 (by decide) (fun c_83 => ?_) (fun c_83 => ?_)
        · refine V_null C dX8_work_103 ?_
          refine V_astoreN C dX8_work_104 (Nat.le_of_ble_eq_true rfl) [(0, .ref (qH g 2)), (1, .ref (qA g P9 K9)), (2, .ref (qC g c9)), (3, .int (nI (kd σ rr))), (4, .ref (qR g rr)), (5, .null), (6, .null)] [1, 2, 3, 4, 5, 6, 0] rfl ?_
          refine V_aload_n C dX8_work_106 rfl 2 rfl ?_
          refine V_aload_n C dX8_work_107 rfl 1 rfl ?_
          refine V_pc (pc1 := 108) rfl ?_
          refine V_getN C f_X8_19_3 hac (v := .int (nI rr)) rfl dX8_work_108 ?_
          have hfr : hp_fr (fun _ => False) M M := hp_fr.rf
          have hsh : hp_sh M M := hp_sh.rf
          refine V_callV C (c_X25_keep l hl G X N0 M g σ z C9 c9 hC hR hI hm rr hr) cs_X8_54_4 hCc (show CLS[4]? = some (RX25, TX25, 8) from rfl) rfl rfl ⟨Nat.le_of_ble_eq_true rfl, Nat.le_of_ble_eq_true rfl⟩ ⟨(by first | exact Nat.le_of_ble_eq_true rfl | omega | (dsimp only; omega) | (simp only [List.length_cons, List.length_nil]; omega)), (by first | exact Nat.le_of_ble_eq_true rfl | omega | (dsimp only; omega) | (simp only [List.length_cons, List.length_nil]; omega))⟩ (Nat.le_of_ble_eq_true rfl) dX8_work_111 (fun _ _ _ h => px0 h) ?_
          rintro _ M_1 ⟨rfl, g1, hk1, hR1, hkw1, hKp1⟩
          refine V_st (st' := []) rfl ?_
          have eg_2 : (qH g1 2) = (qH g 2) := hk1 13 2 0 (by decide) (by decide)
          have eg_3 : (qA g1 P9 K9) = (qA g P9 K9) := hk1 11 P9 K9 (by decide) (by decide)
          have eg_4 : (qC g1 c9) = (qC g c9) := hk1 15 c9 0 (by decide) (by decide)
          have eg_5 : (qR g1 rr) = (qR g rr) := hk1 5 rr 0 (by decide) (by decide)
          refine V_loc (L' := [(0, .ref (qH g1 2)), (1, .ref (qA g1 P9 K9)), (2, .ref (qC g1 c9)), (3, .int (nI (kd σ rr))), (4, .ref (qR g1 rr)), (5, .null), (6, .null)]) [0, 1, 2, 3, 4, 5, 6] (by rw [eg_2, eg_3, eg_4, eg_5]; rfl) ?_
          have hac1 : M_1 (qA g1 P9 K9) = some (.inr (3, [.int x0, .int (nI rr), .int (nI I), .int b, .int j, .int (nI N)])) := (hR1.A hP9 hK9).trans (congrArg (fun y => some (Sum.inr (3, y))) hAF)
          have hH1 : M_1 (qH g1 2) = some (.inr (12, [.int 1, .ref (qN g1), .int 0, .int 10, .ref (qN g1), .ref (qN g1), .ref (qN g1)])) := hR1.H (by decide)
          have sh_6 := hsh.trans hKp1.2.2
          obtain ⟨xr1, hra1, hrx1, hrc1⟩ := hR1.rw hr
          refine V_iconst (v := 0) C dX8_work_114 rfl ?_
          refine V_istore C dX8_work_115 (Nat.le_of_ble_eq_true rfl) [(0, .ref (qH g1 2)), (1, .ref (qA g1 P9 K9)), (2, .ref (qC g1 c9)), (3, .int (nI (kd σ rr))), (4, .ref (qR g1 rr)), (5, .null), (6, .null), (7, .int 0)] [1, 2, 3, 4, 5, 6, 7, 0] rfl ?_
          have hfr3 : hp_fr (fun b => b = qR g1 rr) M_1 M_1 := hp_fr.rf
          have hs3 : hp_sh M_1 M_1 := hp_sh.rf
          have lp_117 : ∀ (fu9 : Nat) (q : Nat) (xk : vp_A) (M117 : hp_h), N - q < fu9 → (q ≤ N) → (∀ y, I ≤ y → y < I + q → CE (nU σ) (nJ σ) (fun y => qU g1 y) (fun y => qJ g1 y) (kd σ rr) xk y (asV (kd σ rr) j.toInt64)) → (∀ y, ¬ (I ≤ y ∧ y < I + q) → cv xk.2 y = cv xr1.2 y) → (XT (kd σ rr) (ln σ rr) xk) → (M117 (qR g1 rr) = some (.inl (G.2 (kd σ rr), xk))) → (hp_fr (fun b => b = qR g1 rr) M_1 M117) → (hp_sh M_1 M117) → V p l e { frames := 24, cells := 9, slots := 300, locals := 11400 } s m args below meth c G N0 8 (QV below G N0 ((WP G (X 0) g σ z C9 M (mf_fill σ rr (nI I) j (nI N)))) PX0 args s (9) (300)) (0 + 2) (0 + 130) M117 117 [(0, .ref (qH g1 2)), (1, .ref (qA g1 P9 K9)), (2, .ref (qC g1 c9)), (3, .int (nI (kd σ rr))), (4, .ref (qR g1 rr)), (5, .null), (6, .null), (7, .int (nI q))] [] := by
            intro fu9
            induction fu9 with
            | zero => intro q xk M117 hfu9; exact absurd hfu9 (Nat.not_lt_zero _)
            | succ fu9 ih117 =>
              intro q xk M117 hfu9 hq hin hcvk hxk hraK hfrK hshK
              have ho_8 : M117 (qA g1 P9 K9) = some (.inr (3, [.int x0, .int (nI rr), .int (nI I), .int b, .int j, .int (nI N)])) := hfrK _ _ (hp_ne hac1 hra1 (by simp)) hac1
              have ho_9 : M117 (qH g1 2) = some (.inr (12, [.int 1, .ref (qN g1), .int 0, .int 10, .ref (qN g1), .ref (qN g1), .ref (qN g1)])) := hfrK _ _ (hp_ne hH1 hra1 (by simp)) hH1
              refine V_iload C dX8_work_117 7 rfl ?_
              refine V_aload_n C dX8_work_119 rfl 1 rfl ?_
              refine V_getN C f_X8_60_3 ho_8 (v := .int (nI N)) rfl dX8_work_120 ?_
              refine V_icmp_ge (tgt := 153) C dX8_work_123 (by decide) (fun c_123 => ?_) (fun c_123 => ?_)
              · refine V_goto (tgt := 167) C dX8_work_153 (by decide) ?_
                refine V_lconst (v := 0) C dX8_work_167 rfl ?_
                refine V_lret C dX8_work_168 rfl ?_ (by first | exact Nat.le_of_ble_eq_true rfl | omega | (dsimp only; omega) | (simp only [List.length_cons, List.length_nil]; omega)) (by first | exact Nat.le_of_ble_eq_true rfl | omega | (dsimp only; omega) | (simp only [List.length_cons, List.length_nil]; omega))
                have hq3 : q = N := by have := (nI_leI (by omega) (by omega)).mp c_123; omega
                subst hq3
                refine WP.of9 (σ' := sl σ 4 (mfill (σ.2.2.1 4) (40 * rr + I) q (fun _ => asV (kd σ rr) j.toInt64))) (ROWK (f' := mfill (σ.2.2.1 4) (40 * rr + I) q (fun _ => asV (kd σ rr) j.toInt64)) (RKp.grow (fun _ _ _ y => y) hfr) rfl (fun _ _ _ _ _ _ _ y => y) hR1 hKp1 hr hC hkw1 hraK hfrK hshK hxk (fun k hk => ?_) (fun r' k hr' hn hk => ?_) ⟨fun _ _ => rfl, fun _ _ => ⟨rfl, rfl⟩, fun _ _ => rfl, fun _ _ => rfl, rfl, fun _ _ _ _ => rfl⟩) (fill_0 hI hr hg hp hNp (by omega) (fun y => by omega) (asE_V (by omega) _)) h0 rfl
                · by_cases e : I ≤ k ∧ k < I + q
                  · rw [show 40 * rr + k = 40 * rr + I + (k - I) by omega, mfill_in (by omega)]
                    exact hin k e.1 e.2
                  · rw [mfill_out (by omega)]
                    exact (hrc1 k hk).at_ (hcvk k e)
                · have : ln σ r' ≤ 40 := (hI.l hr').2
                  have hk' : k < ln σ r' := hk
                  exact mfill_out (by omega)
              · refine V_aload C dX8_work_126 4 rfl ?_
                refine V_aload_n C dX8_work_128 rfl 1 rfl ?_
                refine V_getN C f_X8_63_3 ho_8 (v := .int (nI I)) rfl dX8_work_129 ?_
                refine V_iload C dX8_work_132 7 rfl ?_
                refine V_pc (pc1 := 134) rfl ?_
                refine V_iadd C dX8_work_134 ?_
                refine V_st (st' := [.int (nI (I + q)), .ref (qR g1 rr)]) (by rw [show ((nI I) + (nI q)) = (nI (I + q)) from nI_add I q]) ?_
                refine V_aload_n C dX8_work_135 rfl 1 rfl ?_
                refine V_getN C f_X8_35_3 ho_8 (v := .int j) rfl dX8_work_136 ?_
                refine V_i2l (v := j.toInt64) C dX8_work_139 rfl ?_
                refine V_st (st' := [.long j.toInt64, .int (nI (I + q)), .ref (qR g1 rr)]) (by rw [show j.toInt64 = j.toInt64 from rfl]) ?_
                refine V_aloadN C dX8_work_140 5 rfl ?_
                refine V_aloadN C dX8_work_142 6 rfl ?_
                have hq2 : q < N := nI_ltN9 (by omega) (by omega) c_123
                refine V_callSN C (c_X1_put l hl G X N0 M117 (U := nU σ) (J := nJ σ) (ua := fun y => qU g1 y) (ja := fun y => qJ g1 y) (qR g1 rr) (kd σ rr) (ln σ rr) (I + q) xk hraK hxk (by omega) (by omega) j.toInt64 (asV (kd σ rr) j.toInt64) none none (Or.inl ⟨hk7, rfl⟩)) cs_X8_66 rfl rfl ⟨Nat.le_of_ble_eq_true rfl, Nat.le_of_ble_eq_true rfl⟩ ⟨(by first | exact Nat.le_of_ble_eq_true rfl | omega | (dsimp only; omega) | (simp only [List.length_cons, List.length_nil]; omega)), (by first | exact Nat.le_of_ble_eq_true rfl | omega | (dsimp only; omega) | (simp only [List.length_cons, List.length_nil]; omega))⟩ (Nat.le_of_ble_eq_true rfl) dX8_work_144 (fun _ _ _ h => px0 h) ?_
                rintro _ M_10 ⟨rfl, x9, eP, hx9, ho9, hw9⟩
                refine V_st (st' := []) rfl ?_
                have ho_11 : M_10 (qA g1 P9 K9) = some (.inr (3, [.int x0, .int (nI rr), .int (nI I), .int b, .int j, .int (nI N)])) := by rw [eP, hp_up_n (hp_ne ho_8 hraK (by simp))]; exact ho_8
                have ho_12 : M_10 (qH g1 2) = some (.inr (12, [.int 1, .ref (qN g1), .int 0, .int 10, .ref (qN g1), .ref (qN g1), .ref (qN g1)])) := by rw [eP, hp_up_n (hp_ne ho_9 hraK (by simp))]; exact ho_9
                have hn_13 : M_10 (qR g1 rr) = some (.inl (G.2 (kd σ rr), x9)) := by rw [eP]; exact hp_up_s
                have fr_14 := hp_fr.set hfrK (Or.inl rfl) eP
                have sh_15 := hp_sh.set hshK hraK eP rfl
                refine V_iinc (v := nI (q + 1)) C dX8_work_147 (k := 7) rfl (nI_add q 1) (Nat.le_of_ble_eq_true rfl) [(0, .ref (qH g1 2)), (1, .ref (qA g1 P9 K9)), (2, .ref (qC g1 c9)), (3, .int (nI (kd σ rr))), (4, .ref (qR g1 rr)), (5, .null), (6, .null), (7, .int (nI (q + 1)))] [1, 2, 3, 4, 5, 6, 7, 0] rfl ?_
                refine V_goto (tgt := 117) C dX8_work_150 (by decide) ?_
                have hin2 : ∀ y, I ≤ y → y < I + (q + 1) → CE (nU σ) (nJ σ) (fun y => qU g1 y) (fun y => qJ g1 y) (kd σ rr) x9 y (asV (kd σ rr) j.toInt64) := fun y y1 y2 => by
                  by_cases e : y = I + q
                  · rw [e]; exact hw9
                  · exact (hin y y1 (by omega)).at_ (ho9 y e)
                have hcv2 : ∀ y, ¬ (I ≤ y ∧ y < I + (q + 1)) → cv x9.2 y = cv xr1.2 y := fun y y1 => (ho9 y (by omega)).trans (hcvk y (by omega))
                exact ih117 (q + 1) x9 _ (by omega) (by omega) hin2 hcv2 hx9 hn_13 fr_14 sh_15
          refine V_loc (L' := [(0, .ref (qH g1 2)), (1, .ref (qA g1 P9 K9)), (2, .ref (qC g1 c9)), (3, .int (nI (kd σ rr))), (4, .ref (qR g1 rr)), (5, .null), (6, .null), (7, .int 0)]) [0, 1, 2, 3, 4, 5, 6, 7] rfl ?_
          exact lp_117 _ 0 xr1 _ (Nat.lt_succ_self _) (Nat.zero_le _) (fun y h1 h2 => by omega) (fun y _ => rfl) hrx1 hra1 hfr3 hs3
        · exact absurd ((nI_eq (b := 10) (by omega) (by decide)).mp c_83) (by omega)
      · exact absurd ((nI_eq (b := 9) (by omega) (by decide)).mp c_59) (by omega)
  · exact absurd hgb (bI_0.mp c_31)
set_option maxHeartbeats 1000000 in
theorem c_X8_work_Az (l : Launch) (hl : l.stackTraces = false) (G : hp_G) (X : Nat → Nat) (N0 : Nat) (M : hp_h) (g : RG) (σ : MS) (z : Nat → Int32) (C9 c9 : Nat) (hC : c9 + 1 = C9) (hR : REL G (X 0) g σ z (σ.1 31) C9 M) (hI : MI σ) (P9 K9 rr : Nat) (x0 i b j n : Int32) (hP9 : P9 < 6) (hK9 : K9 < psz σ P9) (hr : rr < nR σ) (hAF : AF σ P9 K9 = [.int x0, .int (nI rr), .int i, .int b, .int j, .int n]) (hk9 : 0 ≤ kd σ rr ∧ kd σ rr ≤ 10) (hk7 : kd σ rr ≤ 7) (hg : mf_goes σ (nI (kd σ rr)) j.toInt64) (hp : mf_places σ rr i n) (hm : MW σ) (h0 : σ.2.2.2 = 0) (hn0 : n = 0) : HM l yX8_work (wsW_ yX8_work cX8_work 8 (some .long) [(114, 153, 156, 70)]) 24 11400 9 300 G X N0 [.ref (qH g 2), .ref (qA g P9 K9), .ref (qC g c9)] M (WP G (X 0) g σ z C9 M (mf_fill σ rr i j n)) PX0 := by
  refine HM.ofH hl [(0, .ref (qH g 2)), (1, .ref (qA g P9 K9)), (2, .ref (qC g c9))] (by decide +kernel) rfl (Nat.le_of_ble_eq_true rfl) ?_
  intro p e s m args below meth c C hname
  have hN := hR.N
  obtain ⟨mdR, hRl⟩ := hR.Rl
  obtain ⟨fR, hRs, hRf⟩ := hR.Rls
  obtain ⟨mdU, hUl⟩ := hR.Ul
  obtain ⟨fU, hUs, hUf⟩ := hR.Uls
  have hH9 : M (qH g 2) = some (.inr (12, [.int 1, .ref (qN g), .int 0, .int 10, .ref (qN g), .ref (qN g), .ref (qN g)])) := hR.H (by decide)
  have hac : M (qA g P9 K9) = some (.inr (3, [.int x0, .int (nI rr), .int i, .int b, .int j, .int n])) := (hR.A hP9 hK9).trans (congrArg (fun y => some (Sum.inr (3, y))) hAF)
  have hcC : c9 < C9 := by omega
  have hCc := hR.Cc hcC
  have hgb : mf_goes σ (nI (kd σ rr)) j.toInt64 := by have y := hg;  exact y
  refine V_aload_n C dX8_work_0 rfl 0 rfl ?_
  refine V_get C f_X8_3_12 hH9 (v := .ref (qN g)) rfl dX8_work_1 ?_
  refine V_getN C f_X8_15_0 hN (v := .ref (qRl g)) rfl dX8_work_4 ?_
  refine V_aload_n C dX8_work_7 rfl 1 rfl ?_
  refine V_getN C f_X8_19_3 hac (v := .int (nI rr)) rfl dX8_work_8 ?_
  refine V_callV C (c_J2_get l hl G X N0 M (qRl g) (qRe g) (nR σ) (gcp g 2 0) mdR fR hRl (hRs.2.2.1 (by have := hRs.2.2.2.1; omega)) (by have := hRs.2.2.2.2; omega) hRs.2.2.2.1 rr (qR g rr) hr (hRf rr hr)) cs_X8_25_1 hRl (show CLS[1]? = some (RJ2, TJ2, 3) from rfl) rfl rfl ⟨Nat.le_of_ble_eq_true rfl, Nat.le_of_ble_eq_true rfl⟩ ⟨(by first | exact Nat.le_of_ble_eq_true rfl | omega | (dsimp only; omega) | (simp only [List.length_cons, List.length_nil]; omega)), (by first | exact Nat.le_of_ble_eq_true rfl | omega | (dsimp only; omega) | (simp only [List.length_cons, List.length_nil]; omega))⟩ (Nat.le_of_ble_eq_true rfl) dX8_work_11 (fun _ _ _ h => px0 h) ?_
  rintro _ _ ⟨rfl, rfl⟩
  refine V_st (st' := [.ref (qR g rr)]) rfl ?_
  obtain ⟨xr, hra, hrx, hrc⟩ := hR.rw hr
  obtain ⟨hkE, hkL⟩ := hI.k hr
  obtain ⟨hlE, hlL⟩ := hI.l hr
  refine V_callSN C (c_X1_kindOf l hl G X N0 M (qR g rr) (kd σ rr) hkL xr hra) cs_X8_31 rfl rfl ⟨Nat.le_of_ble_eq_true rfl, Nat.le_of_ble_eq_true rfl⟩ ⟨(by first | exact Nat.le_of_ble_eq_true rfl | omega | (dsimp only; omega) | (simp only [List.length_cons, List.length_nil]; omega)), (by first | exact Nat.le_of_ble_eq_true rfl | omega | (dsimp only; omega) | (simp only [List.length_cons, List.length_nil]; omega))⟩ (Nat.le_of_ble_eq_true rfl) dX8_work_14 (fun _ _ _ h => px0 h) ?_
  rintro _ _ ⟨rfl, rfl⟩
  refine V_st (st' := [.int (nI (kd σ rr))]) rfl ?_
  refine V_istore_n C dX8_work_17 rfl (Nat.le_of_ble_eq_true rfl) [(0, .ref (qH g 2)), (1, .ref (qA g P9 K9)), (2, .ref (qC g c9)), (3, .int (nI (kd σ rr)))] [1, 2, 3, 0] rfl ?_
  refine V_aload_n C dX8_work_18 rfl 0 rfl ?_
  refine V_get C f_X8_3_12 hH9 (v := .ref (qN g)) rfl dX8_work_19 ?_
  refine V_iload_n C dX8_work_22 rfl 3 rfl ?_
  refine V_pc (pc1 := 23) rfl ?_
  refine V_aload_n C dX8_work_23 rfl 1 rfl ?_
  refine V_getN C f_X8_35_3 hac (v := .int j) rfl dX8_work_24 ?_
  refine V_i2l (v := j.toInt64) C dX8_work_27 rfl ?_
  refine V_st (st' := [.long j.toInt64, .int (nI (kd σ rr)), .ref (qN g)]) (by rw [show j.toInt64 = j.toInt64 from rfl]) ?_
  refine V_callVN C (c_X1_goes l hl G X N0 M g σ z (σ.1 31) C9 hR hI (kd σ rr) j.toInt64 hkL) cs_X8_38_0 hN (show CLS[0]? = some (RX1, TX1, 17) from rfl) rfl rfl ⟨Nat.le_of_ble_eq_true rfl, Nat.le_of_ble_eq_true rfl⟩ ⟨(by first | exact Nat.le_of_ble_eq_true rfl | omega | (dsimp only; omega) | (simp only [List.length_cons, List.length_nil]; omega)), (by first | exact Nat.le_of_ble_eq_true rfl | omega | (dsimp only; omega) | (simp only [List.length_cons, List.length_nil]; omega))⟩ (Nat.le_of_ble_eq_true rfl) dX8_work_28 (fun _ _ _ h => px0 h) ?_
  rintro _ _ ⟨rfl, rfl⟩
  refine V_st (st' := [.int (bI (mf_goes σ (nI (kd σ rr)) j.toInt64))]) rfl ?_
  refine V_if_ne (tgt := 43) C dX8_work_31 (by decide) (fun c_31 => ?_) (fun c_31 => ?_)
  · refine V_aload_n C dX8_work_43 rfl 0 rfl ?_
    refine V_aload_n C dX8_work_44 rfl 1 rfl ?_
    refine V_callU C (c_X7_part_12 l hl G X N0 M g σ z C9 c9 hC hR hI (qH g 2) hH9 (qA g P9 K9) x0 rr i b j n hr hac hk9 hp) cs_X8_46_12 hH9 (show CLS[12]? = some (RX8, TX8, 7) from rfl) rfl rfl ⟨Nat.le_of_ble_eq_true rfl, Nat.le_of_ble_eq_true rfl⟩ ⟨(by first | exact Nat.le_of_ble_eq_true rfl | omega | (dsimp only; omega) | (simp only [List.length_cons, List.length_nil]; omega)), (by first | exact Nat.le_of_ble_eq_true rfl | omega | (dsimp only; omega) | (simp only [List.length_cons, List.length_nil]; omega))⟩ (Nat.le_of_ble_eq_true rfl) dX8_work_45 (fun _ _ _ h => px0 h) ?_
    rintro _ _ ⟨rfl, rfl⟩
    refine V_st (st' := [.ref (qR g rr)]) rfl ?_
    obtain ⟨I, N, rfl, rfl, hIN⟩ := places_n (hI.l hr) hp
    obtain rfl : N = 0 := (nI_eq (b := 0) (by omega) (by decide)).mp hn0
    refine V_astore C dX8_work_48 (Nat.le_of_ble_eq_true rfl) [(0, .ref (qH g 2)), (1, .ref (qA g P9 K9)), (2, .ref (qC g c9)), (3, .int (nI (kd σ rr))), (4, .ref (qR g rr))] [1, 2, 3, 4, 0] rfl ?_
    refine V_iload_n C dX8_work_50 rfl 3 rfl ?_
    refine V_bipush (v := 8) C dX8_work_51 rfl ?_
    refine V_icmp_eq (tgt := 62) C dX8_work_53 (by decide) (fun c_53 => ?_) (fun c_53 => ?_)
    · exact absurd ((nI_eq (b := 8) (by omega) (by decide)).mp c_53) (by omega)
    · refine V_pc (pc1 := 56) rfl ?_
      refine V_iload_n C dX8_work_56 rfl 3 rfl ?_
      refine V_bipush (v := 9) C dX8_work_57 rfl ?_
      refine V_icmp_ne (tgt := 77) C dX8_work_59 (by decide) (fun c_59 => ?_) (fun c_59 => ?_)
      · refine V_null C dX8_work_77 ?_
        refine V_astoreN C dX8_work_78 (Nat.le_of_ble_eq_true rfl) [(0, .ref (qH g 2)), (1, .ref (qA g P9 K9)), (2, .ref (qC g c9)), (3, .int (nI (kd σ rr))), (4, .ref (qR g rr)), (5, .null)] [1, 2, 3, 4, 5, 0] rfl ?_
        refine V_iload_n C dX8_work_80 rfl 3 rfl ?_
        refine V_bipush (v := 10) C dX8_work_81 rfl ?_
        refine V_icmp_ne (tgt := 103) C dX8_work_83 (by decide) (fun c_83 => ?_) (fun c_83 => ?_)
        · refine V_null C dX8_work_103 ?_
          refine V_astoreN C dX8_work_104 (Nat.le_of_ble_eq_true rfl) [(0, .ref (qH g 2)), (1, .ref (qA g P9 K9)), (2, .ref (qC g c9)), (3, .int (nI (kd σ rr))), (4, .ref (qR g rr)), (5, .null), (6, .null)] [1, 2, 3, 4, 5, 6, 0] rfl ?_
          refine V_aload_n C dX8_work_106 rfl 2 rfl ?_
          refine V_aload_n C dX8_work_107 rfl 1 rfl ?_
          refine V_pc (pc1 := 108) rfl ?_
          refine V_getN C f_X8_19_3 hac (v := .int (nI rr)) rfl dX8_work_108 ?_
          have hfr : hp_fr (fun _ => False) M M := hp_fr.rf
          have hsh : hp_sh M M := hp_sh.rf
          refine V_callV C (c_X25_keep l hl G X N0 M g σ z C9 c9 hC hR hI hm rr hr) cs_X8_54_4 hCc (show CLS[4]? = some (RX25, TX25, 8) from rfl) rfl rfl ⟨Nat.le_of_ble_eq_true rfl, Nat.le_of_ble_eq_true rfl⟩ ⟨(by first | exact Nat.le_of_ble_eq_true rfl | omega | (dsimp only; omega) | (simp only [List.length_cons, List.length_nil]; omega)), (by first | exact Nat.le_of_ble_eq_true rfl | omega | (dsimp only; omega) | (simp only [List.length_cons, List.length_nil]; omega))⟩ (Nat.le_of_ble_eq_true rfl) dX8_work_111 (fun _ _ _ h => px0 h) ?_
          rintro _ M_1 ⟨rfl, g1, hk1, hR1, hkw1, hKp1⟩
          refine V_st (st' := []) rfl ?_
          have eg_2 : (qH g1 2) = (qH g 2) := hk1 13 2 0 (by decide) (by decide)
          have eg_3 : (qA g1 P9 K9) = (qA g P9 K9) := hk1 11 P9 K9 (by decide) (by decide)
          have eg_4 : (qC g1 c9) = (qC g c9) := hk1 15 c9 0 (by decide) (by decide)
          have eg_5 : (qR g1 rr) = (qR g rr) := hk1 5 rr 0 (by decide) (by decide)
          refine V_loc (L' := [(0, .ref (qH g1 2)), (1, .ref (qA g1 P9 K9)), (2, .ref (qC g1 c9)), (3, .int (nI (kd σ rr))), (4, .ref (qR g1 rr)), (5, .null), (6, .null)]) [0, 1, 2, 3, 4, 5, 6] (by rw [eg_2, eg_3, eg_4, eg_5]; rfl) ?_
          have hac1 : M_1 (qA g1 P9 K9) = some (.inr (3, [.int x0, .int (nI rr), .int (nI I), .int b, .int j, .int (nI 0)])) := (hR1.A hP9 hK9).trans (congrArg (fun y => some (Sum.inr (3, y))) hAF)
          have hH1 : M_1 (qH g1 2) = some (.inr (12, [.int 1, .ref (qN g1), .int 0, .int 10, .ref (qN g1), .ref (qN g1), .ref (qN g1)])) := hR1.H (by decide)
          have sh_6 := hsh.trans hKp1.2.2
          obtain ⟨xr1, hra1, hrx1, hrc1⟩ := hR1.rw hr
          refine V_iconst (v := 0) C dX8_work_114 rfl ?_
          refine V_istore C dX8_work_115 (Nat.le_of_ble_eq_true rfl) [(0, .ref (qH g1 2)), (1, .ref (qA g1 P9 K9)), (2, .ref (qC g1 c9)), (3, .int (nI (kd σ rr))), (4, .ref (qR g1 rr)), (5, .null), (6, .null), (7, .int 0)] [1, 2, 3, 4, 5, 6, 7, 0] rfl ?_
          refine V_iload C dX8_work_117 7 rfl ?_
          refine V_aload_n C dX8_work_119 rfl 1 rfl ?_
          refine V_getN C f_X8_60_3 hac1 (v := .int (nI 0)) rfl dX8_work_120 ?_
          refine V_icmp_ge (tgt := 153) C dX8_work_123 (by decide) (fun c_123 => ?_) (fun c_123 => ?_)
          · refine V_goto (tgt := 167) C dX8_work_153 (by decide) ?_
            refine V_lconst (v := 0) C dX8_work_167 rfl ?_
            refine V_lret C dX8_work_168 rfl ?_ (by first | exact Nat.le_of_ble_eq_true rfl | omega | (dsimp only; omega) | (simp only [List.length_cons, List.length_nil]; omega)) (by first | exact Nat.le_of_ble_eq_true rfl | omega | (dsimp only; omega) | (simp only [List.length_cons, List.length_nil]; omega))
            exact WP.of9 (σ' := σ) ⟨hR1, (RKp.grow (fun _ _ _ y => y) hfr).trans hKp1 (Nat.le_refl _) (Nat.le_refl _) (fun _ _ _ _ _ _ _ hd _ _ => hd)⟩ (fill_z hI hr hg hp (by omega)) h0 rfl
          · exact absurd c_123 (by decide)
        · exact absurd ((nI_eq (b := 10) (by omega) (by decide)).mp c_83) (by omega)
      · exact absurd ((nI_eq (b := 9) (by omega) (by decide)).mp c_59) (by omega)
  · exact absurd hgb (bI_0.mp c_31)
set_option maxHeartbeats 1000000 in
theorem c_X8_work_B8n (l : Launch) (hl : l.stackTraces = false) (G : hp_G) (X : Nat → Nat) (N0 : Nat) (M : hp_h) (g : RG) (σ : MS) (z : Nat → Int32) (C9 c9 : Nat) (hC : c9 + 1 = C9) (hR : REL G (X 0) g σ z (σ.1 31) C9 M) (hI : MI σ) (P9 K9 rr : Nat) (x0 i b j n : Int32) (hP9 : P9 < 6) (hK9 : K9 < psz σ P9) (hr : rr < nR σ) (hAF : AF σ P9 K9 = [.int x0, .int (nI rr), .int i, .int b, .int j, .int n]) (hk9 : 0 ≤ kd σ rr ∧ kd σ rr ≤ 10) (hkk : kd σ rr = 8) (hj : j = -1) (hg : mf_goes σ (nI (kd σ rr)) j.toInt64) (hp : mf_places σ rr i n) (hm : MW σ) (h0 : σ.2.2.2 = 0) (hn0 : n ≠ 0) : HM l yX8_work (wsW_ yX8_work cX8_work 8 (some .long) [(114, 153, 156, 70)]) 24 11400 9 300 G X N0 [.ref (qH g 2), .ref (qA g P9 K9), .ref (qC g c9)] M (WP G (X 0) g σ z C9 M (mf_fill σ rr i j n)) PX0 := by
  refine HM.ofH hl [(0, .ref (qH g 2)), (1, .ref (qA g P9 K9)), (2, .ref (qC g c9))] (by decide +kernel) rfl (Nat.le_of_ble_eq_true rfl) ?_
  intro p e s m args below meth c C hname
  have hN := hR.N
  obtain ⟨mdR, hRl⟩ := hR.Rl
  obtain ⟨fR, hRs, hRf⟩ := hR.Rls
  obtain ⟨mdU, hUl⟩ := hR.Ul
  obtain ⟨fU, hUs, hUf⟩ := hR.Uls
  have hH9 : M (qH g 2) = some (.inr (12, [.int 1, .ref (qN g), .int 0, .int 10, .ref (qN g), .ref (qN g), .ref (qN g)])) := hR.H (by decide)
  have hac : M (qA g P9 K9) = some (.inr (3, [.int x0, .int (nI rr), .int i, .int b, .int j, .int n])) := (hR.A hP9 hK9).trans (congrArg (fun y => some (Sum.inr (3, y))) hAF)
  have hcC : c9 < C9 := by omega
  have hCc := hR.Cc hcC
  subst hj
  have hgb : mf_goes σ (nI 8) (-1) := by have y := hg; rw [hkk] at y;  exact y
  refine V_aload_n C dX8_work_0 rfl 0 rfl ?_
  refine V_get C f_X8_3_12 hH9 (v := .ref (qN g)) rfl dX8_work_1 ?_
  refine V_getN C f_X8_15_0 hN (v := .ref (qRl g)) rfl dX8_work_4 ?_
  refine V_aload_n C dX8_work_7 rfl 1 rfl ?_
  refine V_getN C f_X8_19_3 hac (v := .int (nI rr)) rfl dX8_work_8 ?_
  refine V_callV C (c_J2_get l hl G X N0 M (qRl g) (qRe g) (nR σ) (gcp g 2 0) mdR fR hRl (hRs.2.2.1 (by have := hRs.2.2.2.1; omega)) (by have := hRs.2.2.2.2; omega) hRs.2.2.2.1 rr (qR g rr) hr (hRf rr hr)) cs_X8_25_1 hRl (show CLS[1]? = some (RJ2, TJ2, 3) from rfl) rfl rfl ⟨Nat.le_of_ble_eq_true rfl, Nat.le_of_ble_eq_true rfl⟩ ⟨(by first | exact Nat.le_of_ble_eq_true rfl | omega | (dsimp only; omega) | (simp only [List.length_cons, List.length_nil]; omega)), (by first | exact Nat.le_of_ble_eq_true rfl | omega | (dsimp only; omega) | (simp only [List.length_cons, List.length_nil]; omega))⟩ (Nat.le_of_ble_eq_true rfl) dX8_work_11 (fun _ _ _ h => px0 h) ?_
  rintro _ _ ⟨rfl, rfl⟩
  refine V_st (st' := [.ref (qR g rr)]) rfl ?_
  obtain ⟨xr, hra, hrx, hrc⟩ := hR.rw hr
  obtain ⟨hkE, hkL⟩ := hI.k hr
  obtain ⟨hlE, hlL⟩ := hI.l hr
  refine V_callSN C (c_X1_kindOf l hl G X N0 M (qR g rr) (kd σ rr) hkL xr hra) cs_X8_31 rfl rfl ⟨Nat.le_of_ble_eq_true rfl, Nat.le_of_ble_eq_true rfl⟩ ⟨(by first | exact Nat.le_of_ble_eq_true rfl | omega | (dsimp only; omega) | (simp only [List.length_cons, List.length_nil]; omega)), (by first | exact Nat.le_of_ble_eq_true rfl | omega | (dsimp only; omega) | (simp only [List.length_cons, List.length_nil]; omega))⟩ (Nat.le_of_ble_eq_true rfl) dX8_work_14 (fun _ _ _ h => px0 h) ?_
  rintro _ _ ⟨rfl, rfl⟩
  refine V_st (st' := [.int (nI (kd σ rr))]) rfl ?_
  refine V_st (st' := [.int (nI 8)]) (by rw [hkk]) ?_
  refine V_istore_n C dX8_work_17 rfl (Nat.le_of_ble_eq_true rfl) [(0, .ref (qH g 2)), (1, .ref (qA g P9 K9)), (2, .ref (qC g c9)), (3, .int (nI 8))] [1, 2, 3, 0] rfl ?_
  refine V_aload_n C dX8_work_18 rfl 0 rfl ?_
  refine V_get C f_X8_3_12 hH9 (v := .ref (qN g)) rfl dX8_work_19 ?_
  refine V_iload_n C dX8_work_22 rfl 3 rfl ?_
  refine V_pc (pc1 := 23) rfl ?_
  refine V_aload_n C dX8_work_23 rfl 1 rfl ?_
  refine V_getN C f_X8_35_3 hac (v := .int (-1)) rfl dX8_work_24 ?_
  refine V_i2l (v := ((-1) : Int32).toInt64) C dX8_work_27 rfl ?_
  refine V_st (st' := [.long (-1), .int (nI 8), .ref (qN g)]) (by rw [show (((-1) : Int32).toInt64) = (-1) from rfl]) ?_
  refine V_callVN C (c_X1_goes l hl G X N0 M g σ z (σ.1 31) C9 hR hI 8 (-1) (by decide)) cs_X8_38_0 hN (show CLS[0]? = some (RX1, TX1, 17) from rfl) rfl rfl ⟨Nat.le_of_ble_eq_true rfl, Nat.le_of_ble_eq_true rfl⟩ ⟨(by first | exact Nat.le_of_ble_eq_true rfl | omega | (dsimp only; omega) | (simp only [List.length_cons, List.length_nil]; omega)), (by first | exact Nat.le_of_ble_eq_true rfl | omega | (dsimp only; omega) | (simp only [List.length_cons, List.length_nil]; omega))⟩ (Nat.le_of_ble_eq_true rfl) dX8_work_28 (fun _ _ _ h => px0 h) ?_
  rintro _ _ ⟨rfl, rfl⟩
  refine V_st (st' := [.int (bI (mf_goes σ (nI 8) (-1)))]) rfl ?_
  refine V_if_ne (tgt := 43) C dX8_work_31 (by decide) (fun c_31 => ?_) (fun c_31 => ?_)
  · refine V_aload_n C dX8_work_43 rfl 0 rfl ?_
    refine V_aload_n C dX8_work_44 rfl 1 rfl ?_
    refine V_callU C (c_X7_part_12 l hl G X N0 M g σ z C9 c9 hC hR hI (qH g 2) hH9 (qA g P9 K9) x0 rr i b (-1) n hr hac hk9 hp) cs_X8_46_12 hH9 (show CLS[12]? = some (RX8, TX8, 7) from rfl) rfl rfl ⟨Nat.le_of_ble_eq_true rfl, Nat.le_of_ble_eq_true rfl⟩ ⟨(by first | exact Nat.le_of_ble_eq_true rfl | omega | (dsimp only; omega) | (simp only [List.length_cons, List.length_nil]; omega)), (by first | exact Nat.le_of_ble_eq_true rfl | omega | (dsimp only; omega) | (simp only [List.length_cons, List.length_nil]; omega))⟩ (Nat.le_of_ble_eq_true rfl) dX8_work_45 (fun _ _ _ h => px0 h) ?_
    rintro _ _ ⟨rfl, rfl⟩
    refine V_st (st' := [.ref (qR g rr)]) rfl ?_
    obtain ⟨I, N, rfl, rfl, hIN⟩ := places_n (hI.l hr) hp
    have hNp : 0 < N := Nat.pos_of_ne_zero (fun y => hn0 (by rw [y]; rfl))
    refine V_astore C dX8_work_48 (Nat.le_of_ble_eq_true rfl) [(0, .ref (qH g 2)), (1, .ref (qA g P9 K9)), (2, .ref (qC g c9)), (3, .int (nI 8)), (4, .ref (qR g rr))] [1, 2, 3, 4, 0] rfl ?_
    refine V_iload_n C dX8_work_50 rfl 3 rfl ?_
    refine V_bipush (v := 8) C dX8_work_51 rfl ?_
    refine V_icmp_eq (tgt := 62) C dX8_work_53 (by decide) (fun c_53 => ?_) (fun c_53 => ?_)
    · refine V_pc (pc1 := 62) rfl ?_
      refine V_aload_n C dX8_work_62 rfl 0 rfl ?_
      refine V_get C f_X8_3_12 hH9 (v := .ref (qN g)) rfl dX8_work_63 ?_
      refine V_aload_n C dX8_work_66 rfl 1 rfl ?_
      refine V_getN C f_X8_35_3 hac (v := .int (-1)) rfl dX8_work_67 ?_
      refine V_i2l (v := ((-1) : Int32).toInt64) C dX8_work_70 rfl ?_
      refine V_st (st' := [.long (-1), .ref (qN g)]) (by rw [show (((-1) : Int32).toInt64) = (-1) from rfl]) ?_
      refine V_callVN C (c_X1_unitOf_n l hl G X N0 M g σ z (σ.1 31) C9 hR hI (-1) (by decide)) cs_X8_50_0 hN (show CLS[0]? = some (RX1, TX1, 17) from rfl) rfl rfl ⟨Nat.le_of_ble_eq_true rfl, Nat.le_of_ble_eq_true rfl⟩ ⟨(by first | exact Nat.le_of_ble_eq_true rfl | omega | (dsimp only; omega) | (simp only [List.length_cons, List.length_nil]; omega)), (by first | exact Nat.le_of_ble_eq_true rfl | omega | (dsimp only; omega) | (simp only [List.length_cons, List.length_nil]; omega))⟩ (Nat.le_of_ble_eq_true rfl) dX8_work_71 (fun _ _ _ h => px0 h) ?_
      rintro _ _ ⟨rfl, rfl⟩
      refine V_st (st' := [.null]) rfl ?_
      refine V_goto (tgt := 78) C dX8_work_74 (by decide) ?_
      refine V_astoreN C dX8_work_78 (Nat.le_of_ble_eq_true rfl) [(0, .ref (qH g 2)), (1, .ref (qA g P9 K9)), (2, .ref (qC g c9)), (3, .int (nI 8)), (4, .ref (qR g rr)), (5, .null)] [1, 2, 3, 4, 5, 0] rfl ?_
      refine V_iload_n C dX8_work_80 rfl 3 rfl ?_
      refine V_bipush (v := 10) C dX8_work_81 rfl ?_
      refine V_icmp_ne (tgt := 103) C dX8_work_83 (by decide) (fun c_83 => ?_) (fun c_83 => ?_)
      · refine V_null C dX8_work_103 ?_
        refine V_pc (pc1 := 104) rfl ?_
        refine V_astoreN C dX8_work_104 (Nat.le_of_ble_eq_true rfl) [(0, .ref (qH g 2)), (1, .ref (qA g P9 K9)), (2, .ref (qC g c9)), (3, .int (nI 8)), (4, .ref (qR g rr)), (5, .null), (6, .null)] [1, 2, 3, 4, 5, 6, 0] rfl ?_
        refine V_aload_n C dX8_work_106 rfl 2 rfl ?_
        refine V_aload_n C dX8_work_107 rfl 1 rfl ?_
        refine V_getN C f_X8_19_3 hac (v := .int (nI rr)) rfl dX8_work_108 ?_
        have hfr : hp_fr (fun _ => False) M M := hp_fr.rf
        have hsh : hp_sh M M := hp_sh.rf
        refine V_callV C (c_X25_keep l hl G X N0 M g σ z C9 c9 hC hR hI hm rr hr) cs_X8_54_4 hCc (show CLS[4]? = some (RX25, TX25, 8) from rfl) rfl rfl ⟨Nat.le_of_ble_eq_true rfl, Nat.le_of_ble_eq_true rfl⟩ ⟨(by first | exact Nat.le_of_ble_eq_true rfl | omega | (dsimp only; omega) | (simp only [List.length_cons, List.length_nil]; omega)), (by first | exact Nat.le_of_ble_eq_true rfl | omega | (dsimp only; omega) | (simp only [List.length_cons, List.length_nil]; omega))⟩ (Nat.le_of_ble_eq_true rfl) dX8_work_111 (fun _ _ _ h => px0 h) ?_
        rintro _ M_1 ⟨rfl, g1, hk1, hR1, hkw1, hKp1⟩
        refine V_st (st' := []) rfl ?_
        have eg_2 : (qH g1 2) = (qH g 2) := hk1 13 2 0 (by decide) (by decide)
        have eg_3 : (qA g1 P9 K9) = (qA g P9 K9) := hk1 11 P9 K9 (by decide) (by decide)
        have eg_4 : (qC g1 c9) = (qC g c9) := hk1 15 c9 0 (by decide) (by decide)
        have eg_5 : (qR g1 rr) = (qR g rr) := hk1 5 rr 0 (by decide) (by decide)
        refine V_loc (L' := [(0, .ref (qH g1 2)), (1, .ref (qA g1 P9 K9)), (2, .ref (qC g1 c9)), (3, .int (nI 8)), (4, .ref (qR g1 rr)), (5, .null), (6, .null)]) [0, 1, 2, 3, 4, 5, 6] (by rw [eg_2, eg_3, eg_4, eg_5]; rfl) ?_
        have hac1 : M_1 (qA g1 P9 K9) = some (.inr (3, [.int x0, .int (nI rr), .int (nI I), .int b, .int (-1), .int (nI N)])) := (hR1.A hP9 hK9).trans (congrArg (fun y => some (Sum.inr (3, y))) hAF)
        have hH1 : M_1 (qH g1 2) = some (.inr (12, [.int 1, .ref (qN g1), .int 0, .int 10, .ref (qN g1), .ref (qN g1), .ref (qN g1)])) := hR1.H (by decide)
        have sh_6 := hsh.trans hKp1.2.2
        obtain ⟨xr1, hra1, hrx1, hrc1⟩ := hR1.rw hr
        refine V_iconst (v := 0) C dX8_work_114 rfl ?_
        refine V_istore C dX8_work_115 (Nat.le_of_ble_eq_true rfl) [(0, .ref (qH g1 2)), (1, .ref (qA g1 P9 K9)), (2, .ref (qC g1 c9)), (3, .int (nI 8)), (4, .ref (qR g1 rr)), (5, .null), (6, .null), (7, .int 0)] [1, 2, 3, 4, 5, 6, 7, 0] rfl ?_
        have hfr3 : hp_fr (fun b => b = qR g1 rr) M_1 M_1 := hp_fr.rf
        have hs3 : hp_sh M_1 M_1 := hp_sh.rf
        have lp_117 : ∀ (fu9 : Nat) (q : Nat) (xk : vp_A) (M117 : hp_h), N - q < fu9 → (q ≤ N) → (∀ y, I ≤ y → y < I + q → CE (nU σ) (nJ σ) (fun y => qU g1 y) (fun y => qJ g1 y) (kd σ rr) xk y (-1)) → (∀ y, ¬ (I ≤ y ∧ y < I + q) → cv xk.2 y = cv xr1.2 y) → (XT (kd σ rr) (ln σ rr) xk) → (M117 (qR g1 rr) = some (.inl (G.2 (kd σ rr), xk))) → (hp_fr (fun b => b = qR g1 rr) M_1 M117) → (hp_sh M_1 M117) → V p l e { frames := 24, cells := 9, slots := 300, locals := 11400 } s m args below meth c G N0 8 (QV below G N0 ((WP G (X 0) g σ z C9 M (mf_fill σ rr (nI I) (-1) (nI N)))) PX0 args s (9) (300)) (0 + 2) (0 + 130) M117 117 [(0, .ref (qH g1 2)), (1, .ref (qA g1 P9 K9)), (2, .ref (qC g1 c9)), (3, .int (nI 8)), (4, .ref (qR g1 rr)), (5, .null), (6, .null), (7, .int (nI q))] [] := by
          intro fu9
          induction fu9 with
          | zero => intro q xk M117 hfu9; exact absurd hfu9 (Nat.not_lt_zero _)
          | succ fu9 ih117 =>
            intro q xk M117 hfu9 hq hin hcvk hxk hraK hfrK hshK
            have ho_8 : M117 (qA g1 P9 K9) = some (.inr (3, [.int x0, .int (nI rr), .int (nI I), .int b, .int (-1), .int (nI N)])) := hfrK _ _ (hp_ne hac1 hra1 (by simp)) hac1
            have ho_9 : M117 (qH g1 2) = some (.inr (12, [.int 1, .ref (qN g1), .int 0, .int 10, .ref (qN g1), .ref (qN g1), .ref (qN g1)])) := hfrK _ _ (hp_ne hH1 hra1 (by simp)) hH1
            refine V_iload C dX8_work_117 7 rfl ?_
            refine V_aload_n C dX8_work_119 rfl 1 rfl ?_
            refine V_getN C f_X8_60_3 ho_8 (v := .int (nI N)) rfl dX8_work_120 ?_
            refine V_icmp_ge (tgt := 153) C dX8_work_123 (by decide) (fun c_123 => ?_) (fun c_123 => ?_)
            · refine V_goto (tgt := 167) C dX8_work_153 (by decide) ?_
              refine V_pc (pc1 := 167) rfl ?_
              refine V_lconst (v := 0) C dX8_work_167 rfl ?_
              refine V_lret C dX8_work_168 rfl ?_ (by first | exact Nat.le_of_ble_eq_true rfl | omega | (dsimp only; omega) | (simp only [List.length_cons, List.length_nil]; omega)) (by first | exact Nat.le_of_ble_eq_true rfl | omega | (dsimp only; omega) | (simp only [List.length_cons, List.length_nil]; omega))
              have hq3 : q = N := by have := (nI_leI (by omega) (by omega)).mp c_123; omega
              subst hq3
              refine WP.of9 (σ' := sl σ 4 (mfill (σ.2.2.1 4) (40 * rr + I) q (fun _ => -1))) (ROWK (f' := mfill (σ.2.2.1 4) (40 * rr + I) q (fun _ => -1)) (RKp.grow (fun _ _ _ y => y) hfr) rfl (fun _ _ _ _ _ _ _ y => y) hR1 hKp1 hr hC hkw1 hraK hfrK hshK hxk (fun k hk => ?_) (fun r' k hr' hn hk => ?_) ⟨fun _ _ => rfl, fun _ _ => ⟨rfl, rfl⟩, fun _ _ => rfl, fun _ _ => rfl, rfl, fun _ _ _ _ => rfl⟩) (fill_0 hI hr hg hp hNp (by omega) (fun _ => Or.inl rfl) (by rw [hkk]; exact asE_V (k := 8) (by decide) _)) h0 rfl
              · by_cases e : I ≤ k ∧ k < I + q
                · rw [show 40 * rr + k = 40 * rr + I + (k - I) by omega, mfill_in (by omega)]
                  exact hin k e.1 e.2
                · rw [mfill_out (by omega)]
                  exact (hrc1 k hk).at_ (hcvk k e)
              · have : ln σ r' ≤ 40 := (hI.l hr').2
                have hk' : k < ln σ r' := hk
                exact mfill_out (by omega)
            · refine V_aload C dX8_work_126 4 rfl ?_
              refine V_pc (pc1 := 128) rfl ?_
              refine V_aload_n C dX8_work_128 rfl 1 rfl ?_
              refine V_getN C f_X8_63_3 ho_8 (v := .int (nI I)) rfl dX8_work_129 ?_
              refine V_iload C dX8_work_132 7 rfl ?_
              refine V_iadd C dX8_work_134 ?_
              refine V_st (st' := [.int (nI (I + q)), .ref (qR g1 rr)]) (by rw [show ((nI I) + (nI q)) = (nI (I + q)) from nI_add I q]) ?_
              refine V_aload_n C dX8_work_135 rfl 1 rfl ?_
              refine V_getN C f_X8_35_3 ho_8 (v := .int (-1)) rfl dX8_work_136 ?_
              refine V_i2l (v := ((-1) : Int32).toInt64) C dX8_work_139 rfl ?_
              refine V_st (st' := [.long (-1), .int (nI (I + q)), .ref (qR g1 rr)]) (by rw [show (((-1) : Int32).toInt64) = (-1) from rfl]) ?_
              refine V_aloadN C dX8_work_140 5 rfl ?_
              refine V_aloadN C dX8_work_142 6 rfl ?_
              have hq2 : q < N := nI_ltN9 (by omega) (by omega) c_123
              refine V_callSN C (c_X1_put l hl G X N0 M117 (U := nU σ) (J := nJ σ) (ua := fun y => qU g1 y) (ja := fun y => qJ g1 y) (qR g1 rr) (kd σ rr) (ln σ rr) (I + q) xk hraK hxk (by omega) (by omega) (-1) (-1) none none (Or.inr (Or.inl ⟨by omega, rfl, Or.inl ⟨rfl, rfl⟩⟩))) cs_X8_66 rfl rfl ⟨Nat.le_of_ble_eq_true rfl, Nat.le_of_ble_eq_true rfl⟩ ⟨(by first | exact Nat.le_of_ble_eq_true rfl | omega | (dsimp only; omega) | (simp only [List.length_cons, List.length_nil]; omega)), (by first | exact Nat.le_of_ble_eq_true rfl | omega | (dsimp only; omega) | (simp only [List.length_cons, List.length_nil]; omega))⟩ (Nat.le_of_ble_eq_true rfl) dX8_work_144 (fun _ _ _ h => px0 h) ?_
              rintro _ M_10 ⟨rfl, x9, eP, hx9, ho9, hw9⟩
              refine V_st (st' := []) rfl ?_
              have ho_11 : M_10 (qA g1 P9 K9) = some (.inr (3, [.int x0, .int (nI rr), .int (nI I), .int b, .int (-1), .int (nI N)])) := by rw [eP, hp_up_n (hp_ne ho_8 hraK (by simp))]; exact ho_8
              have ho_12 : M_10 (qH g1 2) = some (.inr (12, [.int 1, .ref (qN g1), .int 0, .int 10, .ref (qN g1), .ref (qN g1), .ref (qN g1)])) := by rw [eP, hp_up_n (hp_ne ho_9 hraK (by simp))]; exact ho_9
              have hn_13 : M_10 (qR g1 rr) = some (.inl (G.2 (kd σ rr), x9)) := by rw [eP]; exact hp_up_s
              have fr_14 := hp_fr.set hfrK (Or.inl rfl) eP
              have sh_15 := hp_sh.set hshK hraK eP rfl
              refine V_iinc (v := nI (q + 1)) C dX8_work_147 (k := 7) rfl (nI_add q 1) (Nat.le_of_ble_eq_true rfl) [(0, .ref (qH g1 2)), (1, .ref (qA g1 P9 K9)), (2, .ref (qC g1 c9)), (3, .int (nI 8)), (4, .ref (qR g1 rr)), (5, .null), (6, .null), (7, .int (nI (q + 1)))] [1, 2, 3, 4, 5, 6, 7, 0] rfl ?_
              refine V_goto (tgt := 117) C dX8_work_150 (by decide) ?_
              have hin2 : ∀ y, I ≤ y → y < I + (q + 1) → CE (nU σ) (nJ σ) (fun y => qU g1 y) (fun y => qJ g1 y) (kd σ rr) x9 y (-1) := fun y y1 y2 => by
                by_cases e : y = I + q
                · rw [e]; exact hw9
                · exact (hin y y1 (by omega)).at_ (ho9 y e)
              have hcv2 : ∀ y, ¬ (I ≤ y ∧ y < I + (q + 1)) → cv x9.2 y = cv xr1.2 y := fun y y1 => (ho9 y (by omega)).trans (hcvk y (by omega))
              exact ih117 (q + 1) x9 _ (by omega) (by omega) hin2 hcv2 hx9 hn_13 fr_14 sh_15
        refine V_loc (L' := [(0, .ref (qH g1 2)), (1, .ref (qA g1 P9 K9)), (2, .ref (qC g1 c9)), (3, .int (nI 8)), (4, .ref (qR g1 rr)), (5, .null), (6, .null), (7, .int 0)]) [0, 1, 2, 3, 4, 5, 6, 7] rfl ?_
        exact lp_117 _ 0 xr1 _ (Nat.lt_succ_self _) (Nat.zero_le _) (fun y h1 h2 => by omega) (fun y _ => rfl) hrx1 hra1 hfr3 hs3
      · exact absurd c_83 (by decide)
    · exact absurd c_53 (by decide)
  · exact absurd hgb (bI_0.mp c_31)
set_option maxHeartbeats 1000000 in
theorem c_X8_work_B8nz (l : Launch) (hl : l.stackTraces = false) (G : hp_G) (X : Nat → Nat) (N0 : Nat) (M : hp_h) (g : RG) (σ : MS) (z : Nat → Int32) (C9 c9 : Nat) (hC : c9 + 1 = C9) (hR : REL G (X 0) g σ z (σ.1 31) C9 M) (hI : MI σ) (P9 K9 rr : Nat) (x0 i b j n : Int32) (hP9 : P9 < 6) (hK9 : K9 < psz σ P9) (hr : rr < nR σ) (hAF : AF σ P9 K9 = [.int x0, .int (nI rr), .int i, .int b, .int j, .int n]) (hk9 : 0 ≤ kd σ rr ∧ kd σ rr ≤ 10) (hkk : kd σ rr = 8) (hj : j = -1) (hg : mf_goes σ (nI (kd σ rr)) j.toInt64) (hp : mf_places σ rr i n) (hm : MW σ) (h0 : σ.2.2.2 = 0) (hn0 : n = 0) : HM l yX8_work (wsW_ yX8_work cX8_work 8 (some .long) [(114, 153, 156, 70)]) 24 11400 9 300 G X N0 [.ref (qH g 2), .ref (qA g P9 K9), .ref (qC g c9)] M (WP G (X 0) g σ z C9 M (mf_fill σ rr i j n)) PX0 := by
  refine HM.ofH hl [(0, .ref (qH g 2)), (1, .ref (qA g P9 K9)), (2, .ref (qC g c9))] (by decide +kernel) rfl (Nat.le_of_ble_eq_true rfl) ?_
  intro p e s m args below meth c C hname
  have hN := hR.N
  obtain ⟨mdR, hRl⟩ := hR.Rl
  obtain ⟨fR, hRs, hRf⟩ := hR.Rls
  obtain ⟨mdU, hUl⟩ := hR.Ul
  obtain ⟨fU, hUs, hUf⟩ := hR.Uls
  have hH9 : M (qH g 2) = some (.inr (12, [.int 1, .ref (qN g), .int 0, .int 10, .ref (qN g), .ref (qN g), .ref (qN g)])) := hR.H (by decide)
  have hac : M (qA g P9 K9) = some (.inr (3, [.int x0, .int (nI rr), .int i, .int b, .int j, .int n])) := (hR.A hP9 hK9).trans (congrArg (fun y => some (Sum.inr (3, y))) hAF)
  have hcC : c9 < C9 := by omega
  have hCc := hR.Cc hcC
  subst hj
  have hgb : mf_goes σ (nI 8) (-1) := by have y := hg; rw [hkk] at y;  exact y
  refine V_aload_n C dX8_work_0 rfl 0 rfl ?_
  refine V_get C f_X8_3_12 hH9 (v := .ref (qN g)) rfl dX8_work_1 ?_
  refine V_getN C f_X8_15_0 hN (v := .ref (qRl g)) rfl dX8_work_4 ?_
  refine V_aload_n C dX8_work_7 rfl 1 rfl ?_
  refine V_getN C f_X8_19_3 hac (v := .int (nI rr)) rfl dX8_work_8 ?_
  refine V_callV C (c_J2_get l hl G X N0 M (qRl g) (qRe g) (nR σ) (gcp g 2 0) mdR fR hRl (hRs.2.2.1 (by have := hRs.2.2.2.1; omega)) (by have := hRs.2.2.2.2; omega) hRs.2.2.2.1 rr (qR g rr) hr (hRf rr hr)) cs_X8_25_1 hRl (show CLS[1]? = some (RJ2, TJ2, 3) from rfl) rfl rfl ⟨Nat.le_of_ble_eq_true rfl, Nat.le_of_ble_eq_true rfl⟩ ⟨(by first | exact Nat.le_of_ble_eq_true rfl | omega | (dsimp only; omega) | (simp only [List.length_cons, List.length_nil]; omega)), (by first | exact Nat.le_of_ble_eq_true rfl | omega | (dsimp only; omega) | (simp only [List.length_cons, List.length_nil]; omega))⟩ (Nat.le_of_ble_eq_true rfl) dX8_work_11 (fun _ _ _ h => px0 h) ?_
  rintro _ _ ⟨rfl, rfl⟩
  refine V_st (st' := [.ref (qR g rr)]) rfl ?_
  obtain ⟨xr, hra, hrx, hrc⟩ := hR.rw hr
  obtain ⟨hkE, hkL⟩ := hI.k hr
  obtain ⟨hlE, hlL⟩ := hI.l hr
  refine V_callSN C (c_X1_kindOf l hl G X N0 M (qR g rr) (kd σ rr) hkL xr hra) cs_X8_31 rfl rfl ⟨Nat.le_of_ble_eq_true rfl, Nat.le_of_ble_eq_true rfl⟩ ⟨(by first | exact Nat.le_of_ble_eq_true rfl | omega | (dsimp only; omega) | (simp only [List.length_cons, List.length_nil]; omega)), (by first | exact Nat.le_of_ble_eq_true rfl | omega | (dsimp only; omega) | (simp only [List.length_cons, List.length_nil]; omega))⟩ (Nat.le_of_ble_eq_true rfl) dX8_work_14 (fun _ _ _ h => px0 h) ?_
  rintro _ _ ⟨rfl, rfl⟩
  refine V_st (st' := [.int (nI (kd σ rr))]) rfl ?_
  refine V_st (st' := [.int (nI 8)]) (by rw [hkk]) ?_
  refine V_istore_n C dX8_work_17 rfl (Nat.le_of_ble_eq_true rfl) [(0, .ref (qH g 2)), (1, .ref (qA g P9 K9)), (2, .ref (qC g c9)), (3, .int (nI 8))] [1, 2, 3, 0] rfl ?_
  refine V_aload_n C dX8_work_18 rfl 0 rfl ?_
  refine V_get C f_X8_3_12 hH9 (v := .ref (qN g)) rfl dX8_work_19 ?_
  refine V_iload_n C dX8_work_22 rfl 3 rfl ?_
  refine V_pc (pc1 := 23) rfl ?_
  refine V_aload_n C dX8_work_23 rfl 1 rfl ?_
  refine V_getN C f_X8_35_3 hac (v := .int (-1)) rfl dX8_work_24 ?_
  refine V_i2l (v := ((-1) : Int32).toInt64) C dX8_work_27 rfl ?_
  refine V_st (st' := [.long (-1), .int (nI 8), .ref (qN g)]) (by rw [show (((-1) : Int32).toInt64) = (-1) from rfl]) ?_
  refine V_callVN C (c_X1_goes l hl G X N0 M g σ z (σ.1 31) C9 hR hI 8 (-1) (by decide)) cs_X8_38_0 hN (show CLS[0]? = some (RX1, TX1, 17) from rfl) rfl rfl ⟨Nat.le_of_ble_eq_true rfl, Nat.le_of_ble_eq_true rfl⟩ ⟨(by first | exact Nat.le_of_ble_eq_true rfl | omega | (dsimp only; omega) | (simp only [List.length_cons, List.length_nil]; omega)), (by first | exact Nat.le_of_ble_eq_true rfl | omega | (dsimp only; omega) | (simp only [List.length_cons, List.length_nil]; omega))⟩ (Nat.le_of_ble_eq_true rfl) dX8_work_28 (fun _ _ _ h => px0 h) ?_
  rintro _ _ ⟨rfl, rfl⟩
  refine V_st (st' := [.int (bI (mf_goes σ (nI 8) (-1)))]) rfl ?_
  refine V_if_ne (tgt := 43) C dX8_work_31 (by decide) (fun c_31 => ?_) (fun c_31 => ?_)
  · refine V_aload_n C dX8_work_43 rfl 0 rfl ?_
    refine V_aload_n C dX8_work_44 rfl 1 rfl ?_
    refine V_callU C (c_X7_part_12 l hl G X N0 M g σ z C9 c9 hC hR hI (qH g 2) hH9 (qA g P9 K9) x0 rr i b (-1) n hr hac hk9 hp) cs_X8_46_12 hH9 (show CLS[12]? = some (RX8, TX8, 7) from rfl) rfl rfl ⟨Nat.le_of_ble_eq_true rfl, Nat.le_of_ble_eq_true rfl⟩ ⟨(by first | exact Nat.le_of_ble_eq_true rfl | omega | (dsimp only; omega) | (simp only [List.length_cons, List.length_nil]; omega)), (by first | exact Nat.le_of_ble_eq_true rfl | omega | (dsimp only; omega) | (simp only [List.length_cons, List.length_nil]; omega))⟩ (Nat.le_of_ble_eq_true rfl) dX8_work_45 (fun _ _ _ h => px0 h) ?_
    rintro _ _ ⟨rfl, rfl⟩
    refine V_st (st' := [.ref (qR g rr)]) rfl ?_
    obtain ⟨I, N, rfl, rfl, hIN⟩ := places_n (hI.l hr) hp
    obtain rfl : N = 0 := (nI_eq (b := 0) (by omega) (by decide)).mp hn0
    refine V_astore C dX8_work_48 (Nat.le_of_ble_eq_true rfl) [(0, .ref (qH g 2)), (1, .ref (qA g P9 K9)), (2, .ref (qC g c9)), (3, .int (nI 8)), (4, .ref (qR g rr))] [1, 2, 3, 4, 0] rfl ?_
    refine V_iload_n C dX8_work_50 rfl 3 rfl ?_
    refine V_bipush (v := 8) C dX8_work_51 rfl ?_
    refine V_icmp_eq (tgt := 62) C dX8_work_53 (by decide) (fun c_53 => ?_) (fun c_53 => ?_)
    · refine V_pc (pc1 := 62) rfl ?_
      refine V_aload_n C dX8_work_62 rfl 0 rfl ?_
      refine V_get C f_X8_3_12 hH9 (v := .ref (qN g)) rfl dX8_work_63 ?_
      refine V_aload_n C dX8_work_66 rfl 1 rfl ?_
      refine V_getN C f_X8_35_3 hac (v := .int (-1)) rfl dX8_work_67 ?_
      refine V_i2l (v := ((-1) : Int32).toInt64) C dX8_work_70 rfl ?_
      refine V_st (st' := [.long (-1), .ref (qN g)]) (by rw [show (((-1) : Int32).toInt64) = (-1) from rfl]) ?_
      refine V_callVN C (c_X1_unitOf_n l hl G X N0 M g σ z (σ.1 31) C9 hR hI (-1) (by decide)) cs_X8_50_0 hN (show CLS[0]? = some (RX1, TX1, 17) from rfl) rfl rfl ⟨Nat.le_of_ble_eq_true rfl, Nat.le_of_ble_eq_true rfl⟩ ⟨(by first | exact Nat.le_of_ble_eq_true rfl | omega | (dsimp only; omega) | (simp only [List.length_cons, List.length_nil]; omega)), (by first | exact Nat.le_of_ble_eq_true rfl | omega | (dsimp only; omega) | (simp only [List.length_cons, List.length_nil]; omega))⟩ (Nat.le_of_ble_eq_true rfl) dX8_work_71 (fun _ _ _ h => px0 h) ?_
      rintro _ _ ⟨rfl, rfl⟩
      refine V_st (st' := [.null]) rfl ?_
      refine V_goto (tgt := 78) C dX8_work_74 (by decide) ?_
      refine V_astoreN C dX8_work_78 (Nat.le_of_ble_eq_true rfl) [(0, .ref (qH g 2)), (1, .ref (qA g P9 K9)), (2, .ref (qC g c9)), (3, .int (nI 8)), (4, .ref (qR g rr)), (5, .null)] [1, 2, 3, 4, 5, 0] rfl ?_
      refine V_iload_n C dX8_work_80 rfl 3 rfl ?_
      refine V_bipush (v := 10) C dX8_work_81 rfl ?_
      refine V_icmp_ne (tgt := 103) C dX8_work_83 (by decide) (fun c_83 => ?_) (fun c_83 => ?_)
      · refine V_null C dX8_work_103 ?_
        refine V_pc (pc1 := 104) rfl ?_
        refine V_astoreN C dX8_work_104 (Nat.le_of_ble_eq_true rfl) [(0, .ref (qH g 2)), (1, .ref (qA g P9 K9)), (2, .ref (qC g c9)), (3, .int (nI 8)), (4, .ref (qR g rr)), (5, .null), (6, .null)] [1, 2, 3, 4, 5, 6, 0] rfl ?_
        refine V_aload_n C dX8_work_106 rfl 2 rfl ?_
        refine V_aload_n C dX8_work_107 rfl 1 rfl ?_
        refine V_getN C f_X8_19_3 hac (v := .int (nI rr)) rfl dX8_work_108 ?_
        have hfr : hp_fr (fun _ => False) M M := hp_fr.rf
        have hsh : hp_sh M M := hp_sh.rf
        refine V_callV C (c_X25_keep l hl G X N0 M g σ z C9 c9 hC hR hI hm rr hr) cs_X8_54_4 hCc (show CLS[4]? = some (RX25, TX25, 8) from rfl) rfl rfl ⟨Nat.le_of_ble_eq_true rfl, Nat.le_of_ble_eq_true rfl⟩ ⟨(by first | exact Nat.le_of_ble_eq_true rfl | omega | (dsimp only; omega) | (simp only [List.length_cons, List.length_nil]; omega)), (by first | exact Nat.le_of_ble_eq_true rfl | omega | (dsimp only; omega) | (simp only [List.length_cons, List.length_nil]; omega))⟩ (Nat.le_of_ble_eq_true rfl) dX8_work_111 (fun _ _ _ h => px0 h) ?_
        rintro _ M_1 ⟨rfl, g1, hk1, hR1, hkw1, hKp1⟩
        refine V_st (st' := []) rfl ?_
        have eg_2 : (qH g1 2) = (qH g 2) := hk1 13 2 0 (by decide) (by decide)
        have eg_3 : (qA g1 P9 K9) = (qA g P9 K9) := hk1 11 P9 K9 (by decide) (by decide)
        have eg_4 : (qC g1 c9) = (qC g c9) := hk1 15 c9 0 (by decide) (by decide)
        have eg_5 : (qR g1 rr) = (qR g rr) := hk1 5 rr 0 (by decide) (by decide)
        refine V_loc (L' := [(0, .ref (qH g1 2)), (1, .ref (qA g1 P9 K9)), (2, .ref (qC g1 c9)), (3, .int (nI 8)), (4, .ref (qR g1 rr)), (5, .null), (6, .null)]) [0, 1, 2, 3, 4, 5, 6] (by rw [eg_2, eg_3, eg_4, eg_5]; rfl) ?_
        have hac1 : M_1 (qA g1 P9 K9) = some (.inr (3, [.int x0, .int (nI rr), .int (nI I), .int b, .int (-1), .int (nI 0)])) := (hR1.A hP9 hK9).trans (congrArg (fun y => some (Sum.inr (3, y))) hAF)
        have hH1 : M_1 (qH g1 2) = some (.inr (12, [.int 1, .ref (qN g1), .int 0, .int 10, .ref (qN g1), .ref (qN g1), .ref (qN g1)])) := hR1.H (by decide)
        have sh_6 := hsh.trans hKp1.2.2
        obtain ⟨xr1, hra1, hrx1, hrc1⟩ := hR1.rw hr
        refine V_iconst (v := 0) C dX8_work_114 rfl ?_
        refine V_istore C dX8_work_115 (Nat.le_of_ble_eq_true rfl) [(0, .ref (qH g1 2)), (1, .ref (qA g1 P9 K9)), (2, .ref (qC g1 c9)), (3, .int (nI 8)), (4, .ref (qR g1 rr)), (5, .null), (6, .null), (7, .int 0)] [1, 2, 3, 4, 5, 6, 7, 0] rfl ?_
        refine V_iload C dX8_work_117 7 rfl ?_
        refine V_aload_n C dX8_work_119 rfl 1 rfl ?_
        refine V_getN C f_X8_60_3 hac1 (v := .int (nI 0)) rfl dX8_work_120 ?_
        refine V_icmp_ge (tgt := 153) C dX8_work_123 (by decide) (fun c_123 => ?_) (fun c_123 => ?_)
        · refine V_goto (tgt := 167) C dX8_work_153 (by decide) ?_
          refine V_pc (pc1 := 167) rfl ?_
          refine V_lconst (v := 0) C dX8_work_167 rfl ?_
          refine V_lret C dX8_work_168 rfl ?_ (by first | exact Nat.le_of_ble_eq_true rfl | omega | (dsimp only; omega) | (simp only [List.length_cons, List.length_nil]; omega)) (by first | exact Nat.le_of_ble_eq_true rfl | omega | (dsimp only; omega) | (simp only [List.length_cons, List.length_nil]; omega))
          exact WP.of9 (σ' := σ) ⟨hR1, (RKp.grow (fun _ _ _ y => y) hfr).trans hKp1 (Nat.le_refl _) (Nat.le_refl _) (fun _ _ _ _ _ _ _ hd _ _ => hd)⟩ (fill_z hI hr hg hp (by omega)) h0 rfl
        · exact absurd c_123 (by decide)
      · exact absurd c_83 (by decide)
    · exact absurd c_53 (by decide)
  · exact absurd hgb (bI_0.mp c_31)
set_option maxHeartbeats 1000000 in
theorem c_X8_work_B8u (l : Launch) (hl : l.stackTraces = false) (G : hp_G) (X : Nat → Nat) (N0 : Nat) (M : hp_h) (g : RG) (σ : MS) (z : Nat → Int32) (C9 c9 : Nat) (hC : c9 + 1 = C9) (hR : REL G (X 0) g σ z (σ.1 31) C9 M) (hI : MI σ) (P9 K9 rr : Nat) (x0 i b j n : Int32) (hP9 : P9 < 6) (hK9 : K9 < psz σ P9) (hr : rr < nR σ) (hAF : AF σ P9 K9 = [.int x0, .int (nI rr), .int i, .int b, .int j, .int n]) (hk9 : 0 ≤ kd σ rr ∧ kd σ rr ≤ 10) (hkk : kd σ rr = 8) (u : Nat) (hu : u < nU σ) (hj : j = nI u) (hg : mf_goes σ (nI (kd σ rr)) j.toInt64) (hp : mf_places σ rr i n) (hm : MW σ) (h0 : σ.2.2.2 = 0) (hn0 : n ≠ 0) : HM l yX8_work (wsW_ yX8_work cX8_work 8 (some .long) [(114, 153, 156, 70)]) 24 11400 9 300 G X N0 [.ref (qH g 2), .ref (qA g P9 K9), .ref (qC g c9)] M (WP G (X 0) g σ z C9 M (mf_fill σ rr i j n)) PX0 := by
  refine HM.ofH hl [(0, .ref (qH g 2)), (1, .ref (qA g P9 K9)), (2, .ref (qC g c9))] (by decide +kernel) rfl (Nat.le_of_ble_eq_true rfl) ?_
  intro p e s m args below meth c C hname
  have hN := hR.N
  obtain ⟨mdR, hRl⟩ := hR.Rl
  obtain ⟨fR, hRs, hRf⟩ := hR.Rls
  obtain ⟨mdU, hUl⟩ := hR.Ul
  obtain ⟨fU, hUs, hUf⟩ := hR.Uls
  have hH9 : M (qH g 2) = some (.inr (12, [.int 1, .ref (qN g), .int 0, .int 10, .ref (qN g), .ref (qN g), .ref (qN g)])) := hR.H (by decide)
  have hac : M (qA g P9 K9) = some (.inr (3, [.int x0, .int (nI rr), .int i, .int b, .int j, .int n])) := (hR.A hP9 hK9).trans (congrArg (fun y => some (Sum.inr (3, y))) hAF)
  have hcC : c9 < C9 := by omega
  have hCc := hR.Cc hcC
  subst hj
  have hgb : mf_goes σ (nI 8) (lN u) := by have y := hg; rw [hkk] at y; rw [(nI_l (by have := hI.U.2; omega))] at y;  exact y
  refine V_aload_n C dX8_work_0 rfl 0 rfl ?_
  refine V_get C f_X8_3_12 hH9 (v := .ref (qN g)) rfl dX8_work_1 ?_
  refine V_getN C f_X8_15_0 hN (v := .ref (qRl g)) rfl dX8_work_4 ?_
  refine V_aload_n C dX8_work_7 rfl 1 rfl ?_
  refine V_getN C f_X8_19_3 hac (v := .int (nI rr)) rfl dX8_work_8 ?_
  refine V_callV C (c_J2_get l hl G X N0 M (qRl g) (qRe g) (nR σ) (gcp g 2 0) mdR fR hRl (hRs.2.2.1 (by have := hRs.2.2.2.1; omega)) (by have := hRs.2.2.2.2; omega) hRs.2.2.2.1 rr (qR g rr) hr (hRf rr hr)) cs_X8_25_1 hRl (show CLS[1]? = some (RJ2, TJ2, 3) from rfl) rfl rfl ⟨Nat.le_of_ble_eq_true rfl, Nat.le_of_ble_eq_true rfl⟩ ⟨(by first | exact Nat.le_of_ble_eq_true rfl | omega | (dsimp only; omega) | (simp only [List.length_cons, List.length_nil]; omega)), (by first | exact Nat.le_of_ble_eq_true rfl | omega | (dsimp only; omega) | (simp only [List.length_cons, List.length_nil]; omega))⟩ (Nat.le_of_ble_eq_true rfl) dX8_work_11 (fun _ _ _ h => px0 h) ?_
  rintro _ _ ⟨rfl, rfl⟩
  refine V_st (st' := [.ref (qR g rr)]) rfl ?_
  obtain ⟨xr, hra, hrx, hrc⟩ := hR.rw hr
  obtain ⟨hkE, hkL⟩ := hI.k hr
  obtain ⟨hlE, hlL⟩ := hI.l hr
  refine V_callSN C (c_X1_kindOf l hl G X N0 M (qR g rr) (kd σ rr) hkL xr hra) cs_X8_31 rfl rfl ⟨Nat.le_of_ble_eq_true rfl, Nat.le_of_ble_eq_true rfl⟩ ⟨(by first | exact Nat.le_of_ble_eq_true rfl | omega | (dsimp only; omega) | (simp only [List.length_cons, List.length_nil]; omega)), (by first | exact Nat.le_of_ble_eq_true rfl | omega | (dsimp only; omega) | (simp only [List.length_cons, List.length_nil]; omega))⟩ (Nat.le_of_ble_eq_true rfl) dX8_work_14 (fun _ _ _ h => px0 h) ?_
  rintro _ _ ⟨rfl, rfl⟩
  refine V_st (st' := [.int (nI (kd σ rr))]) rfl ?_
  refine V_st (st' := [.int (nI 8)]) (by rw [hkk]) ?_
  refine V_istore_n C dX8_work_17 rfl (Nat.le_of_ble_eq_true rfl) [(0, .ref (qH g 2)), (1, .ref (qA g P9 K9)), (2, .ref (qC g c9)), (3, .int (nI 8))] [1, 2, 3, 0] rfl ?_
  refine V_aload_n C dX8_work_18 rfl 0 rfl ?_
  refine V_get C f_X8_3_12 hH9 (v := .ref (qN g)) rfl dX8_work_19 ?_
  refine V_iload_n C dX8_work_22 rfl 3 rfl ?_
  refine V_pc (pc1 := 23) rfl ?_
  refine V_aload_n C dX8_work_23 rfl 1 rfl ?_
  refine V_getN C f_X8_35_3 hac (v := .int (nI u)) rfl dX8_work_24 ?_
  refine V_i2l (v := (nI u).toInt64) C dX8_work_27 rfl ?_
  refine V_st (st' := [.long (lN u), .int (nI 8), .ref (qN g)]) (by rw [show ((nI u).toInt64) = (lN u) from (nI_l (by have := hI.U.2; omega))]) ?_
  refine V_callVN C (c_X1_goes l hl G X N0 M g σ z (σ.1 31) C9 hR hI 8 (lN u) (by decide)) cs_X8_38_0 hN (show CLS[0]? = some (RX1, TX1, 17) from rfl) rfl rfl ⟨Nat.le_of_ble_eq_true rfl, Nat.le_of_ble_eq_true rfl⟩ ⟨(by first | exact Nat.le_of_ble_eq_true rfl | omega | (dsimp only; omega) | (simp only [List.length_cons, List.length_nil]; omega)), (by first | exact Nat.le_of_ble_eq_true rfl | omega | (dsimp only; omega) | (simp only [List.length_cons, List.length_nil]; omega))⟩ (Nat.le_of_ble_eq_true rfl) dX8_work_28 (fun _ _ _ h => px0 h) ?_
  rintro _ _ ⟨rfl, rfl⟩
  refine V_st (st' := [.int (bI (mf_goes σ (nI 8) (lN u)))]) rfl ?_
  refine V_if_ne (tgt := 43) C dX8_work_31 (by decide) (fun c_31 => ?_) (fun c_31 => ?_)
  · refine V_aload_n C dX8_work_43 rfl 0 rfl ?_
    refine V_aload_n C dX8_work_44 rfl 1 rfl ?_
    refine V_callU C (c_X7_part_12 l hl G X N0 M g σ z C9 c9 hC hR hI (qH g 2) hH9 (qA g P9 K9) x0 rr i b (nI u) n hr hac hk9 hp) cs_X8_46_12 hH9 (show CLS[12]? = some (RX8, TX8, 7) from rfl) rfl rfl ⟨Nat.le_of_ble_eq_true rfl, Nat.le_of_ble_eq_true rfl⟩ ⟨(by first | exact Nat.le_of_ble_eq_true rfl | omega | (dsimp only; omega) | (simp only [List.length_cons, List.length_nil]; omega)), (by first | exact Nat.le_of_ble_eq_true rfl | omega | (dsimp only; omega) | (simp only [List.length_cons, List.length_nil]; omega))⟩ (Nat.le_of_ble_eq_true rfl) dX8_work_45 (fun _ _ _ h => px0 h) ?_
    rintro _ _ ⟨rfl, rfl⟩
    refine V_st (st' := [.ref (qR g rr)]) rfl ?_
    obtain ⟨I, N, rfl, rfl, hIN⟩ := places_n (hI.l hr) hp
    have hNp : 0 < N := Nat.pos_of_ne_zero (fun y => hn0 (by rw [y]; rfl))
    refine V_astore C dX8_work_48 (Nat.le_of_ble_eq_true rfl) [(0, .ref (qH g 2)), (1, .ref (qA g P9 K9)), (2, .ref (qC g c9)), (3, .int (nI 8)), (4, .ref (qR g rr))] [1, 2, 3, 4, 0] rfl ?_
    refine V_iload_n C dX8_work_50 rfl 3 rfl ?_
    refine V_bipush (v := 8) C dX8_work_51 rfl ?_
    refine V_icmp_eq (tgt := 62) C dX8_work_53 (by decide) (fun c_53 => ?_) (fun c_53 => ?_)
    · refine V_pc (pc1 := 62) rfl ?_
      refine V_aload_n C dX8_work_62 rfl 0 rfl ?_
      refine V_get C f_X8_3_12 hH9 (v := .ref (qN g)) rfl dX8_work_63 ?_
      refine V_aload_n C dX8_work_66 rfl 1 rfl ?_
      refine V_getN C f_X8_35_3 hac (v := .int (nI u)) rfl dX8_work_67 ?_
      refine V_i2l (v := (nI u).toInt64) C dX8_work_70 rfl ?_
      refine V_st (st' := [.long (lN u), .ref (qN g)]) (by rw [show ((nI u).toInt64) = (lN u) from (nI_l (by have := hI.U.2; omega))]) ?_
      refine V_callVN C (c_X1_unitOf_u l hl G X N0 M g σ z (σ.1 31) C9 hR hI u hu) cs_X8_50_0 hN (show CLS[0]? = some (RX1, TX1, 17) from rfl) rfl rfl ⟨Nat.le_of_ble_eq_true rfl, Nat.le_of_ble_eq_true rfl⟩ ⟨(by first | exact Nat.le_of_ble_eq_true rfl | omega | (dsimp only; omega) | (simp only [List.length_cons, List.length_nil]; omega)), (by first | exact Nat.le_of_ble_eq_true rfl | omega | (dsimp only; omega) | (simp only [List.length_cons, List.length_nil]; omega))⟩ (Nat.le_of_ble_eq_true rfl) dX8_work_71 (fun _ _ _ h => px0 h) ?_
      rintro _ _ ⟨rfl, rfl⟩
      refine V_st (st' := [.ref (qU g u)]) rfl ?_
      refine V_goto (tgt := 78) C dX8_work_74 (by decide) ?_
      refine V_astore C dX8_work_78 (Nat.le_of_ble_eq_true rfl) [(0, .ref (qH g 2)), (1, .ref (qA g P9 K9)), (2, .ref (qC g c9)), (3, .int (nI 8)), (4, .ref (qR g rr)), (5, .ref (qU g u))] [1, 2, 3, 4, 5, 0] rfl ?_
      refine V_iload_n C dX8_work_80 rfl 3 rfl ?_
      refine V_bipush (v := 10) C dX8_work_81 rfl ?_
      refine V_icmp_ne (tgt := 103) C dX8_work_83 (by decide) (fun c_83 => ?_) (fun c_83 => ?_)
      · refine V_null C dX8_work_103 ?_
        refine V_pc (pc1 := 104) rfl ?_
        refine V_astoreN C dX8_work_104 (Nat.le_of_ble_eq_true rfl) [(0, .ref (qH g 2)), (1, .ref (qA g P9 K9)), (2, .ref (qC g c9)), (3, .int (nI 8)), (4, .ref (qR g rr)), (5, .ref (qU g u)), (6, .null)] [1, 2, 3, 4, 5, 6, 0] rfl ?_
        refine V_aload_n C dX8_work_106 rfl 2 rfl ?_
        refine V_aload_n C dX8_work_107 rfl 1 rfl ?_
        refine V_getN C f_X8_19_3 hac (v := .int (nI rr)) rfl dX8_work_108 ?_
        have hfr : hp_fr (fun _ => False) M M := hp_fr.rf
        have hsh : hp_sh M M := hp_sh.rf
        refine V_callV C (c_X25_keep l hl G X N0 M g σ z C9 c9 hC hR hI hm rr hr) cs_X8_54_4 hCc (show CLS[4]? = some (RX25, TX25, 8) from rfl) rfl rfl ⟨Nat.le_of_ble_eq_true rfl, Nat.le_of_ble_eq_true rfl⟩ ⟨(by first | exact Nat.le_of_ble_eq_true rfl | omega | (dsimp only; omega) | (simp only [List.length_cons, List.length_nil]; omega)), (by first | exact Nat.le_of_ble_eq_true rfl | omega | (dsimp only; omega) | (simp only [List.length_cons, List.length_nil]; omega))⟩ (Nat.le_of_ble_eq_true rfl) dX8_work_111 (fun _ _ _ h => px0 h) ?_
        rintro _ M_1 ⟨rfl, g1, hk1, hR1, hkw1, hKp1⟩
        refine V_st (st' := []) rfl ?_
        have eg_2 : (qH g1 2) = (qH g 2) := hk1 13 2 0 (by decide) (by decide)
        have eg_3 : (qA g1 P9 K9) = (qA g P9 K9) := hk1 11 P9 K9 (by decide) (by decide)
        have eg_4 : (qC g1 c9) = (qC g c9) := hk1 15 c9 0 (by decide) (by decide)
        have eg_5 : (qR g1 rr) = (qR g rr) := hk1 5 rr 0 (by decide) (by decide)
        have eg_6 : (qU g1 u) = (qU g u) := hk1 6 u 0 (by decide) (by decide)
        refine V_loc (L' := [(0, .ref (qH g1 2)), (1, .ref (qA g1 P9 K9)), (2, .ref (qC g1 c9)), (3, .int (nI 8)), (4, .ref (qR g1 rr)), (5, .ref (qU g1 u)), (6, .null)]) [0, 1, 2, 3, 4, 5, 6] (by rw [eg_2, eg_3, eg_4, eg_5, eg_6]; rfl) ?_
        have hac1 : M_1 (qA g1 P9 K9) = some (.inr (3, [.int x0, .int (nI rr), .int (nI I), .int b, .int (nI u), .int (nI N)])) := (hR1.A hP9 hK9).trans (congrArg (fun y => some (Sum.inr (3, y))) hAF)
        have hH1 : M_1 (qH g1 2) = some (.inr (12, [.int 1, .ref (qN g1), .int 0, .int 10, .ref (qN g1), .ref (qN g1), .ref (qN g1)])) := hR1.H (by decide)
        have sh_7 := hsh.trans hKp1.2.2
        obtain ⟨xr1, hra1, hrx1, hrc1⟩ := hR1.rw hr
        refine V_iconst (v := 0) C dX8_work_114 rfl ?_
        refine V_istore C dX8_work_115 (Nat.le_of_ble_eq_true rfl) [(0, .ref (qH g1 2)), (1, .ref (qA g1 P9 K9)), (2, .ref (qC g1 c9)), (3, .int (nI 8)), (4, .ref (qR g1 rr)), (5, .ref (qU g1 u)), (6, .null), (7, .int 0)] [1, 2, 3, 4, 5, 6, 7, 0] rfl ?_
        have hfr3 : hp_fr (fun b => b = qR g1 rr) M_1 M_1 := hp_fr.rf
        have hs3 : hp_sh M_1 M_1 := hp_sh.rf
        have lp_117 : ∀ (fu9 : Nat) (q : Nat) (xk : vp_A) (M117 : hp_h), N - q < fu9 → (q ≤ N) → (∀ y, I ≤ y → y < I + q → CE (nU σ) (nJ σ) (fun y => qU g1 y) (fun y => qJ g1 y) (kd σ rr) xk y (lN u)) → (∀ y, ¬ (I ≤ y ∧ y < I + q) → cv xk.2 y = cv xr1.2 y) → (XT (kd σ rr) (ln σ rr) xk) → (M117 (qR g1 rr) = some (.inl (G.2 (kd σ rr), xk))) → (hp_fr (fun b => b = qR g1 rr) M_1 M117) → (hp_sh M_1 M117) → V p l e { frames := 24, cells := 9, slots := 300, locals := 11400 } s m args below meth c G N0 8 (QV below G N0 ((WP G (X 0) g σ z C9 M (mf_fill σ rr (nI I) (nI u) (nI N)))) PX0 args s (9) (300)) (0 + 2) (0 + 130) M117 117 [(0, .ref (qH g1 2)), (1, .ref (qA g1 P9 K9)), (2, .ref (qC g1 c9)), (3, .int (nI 8)), (4, .ref (qR g1 rr)), (5, .ref (qU g1 u)), (6, .null), (7, .int (nI q))] [] := by
          intro fu9
          induction fu9 with
          | zero => intro q xk M117 hfu9; exact absurd hfu9 (Nat.not_lt_zero _)
          | succ fu9 ih117 =>
            intro q xk M117 hfu9 hq hin hcvk hxk hraK hfrK hshK
            have ho_9 : M117 (qA g1 P9 K9) = some (.inr (3, [.int x0, .int (nI rr), .int (nI I), .int b, .int (nI u), .int (nI N)])) := hfrK _ _ (hp_ne hac1 hra1 (by simp)) hac1
            have ho_10 : M117 (qH g1 2) = some (.inr (12, [.int 1, .ref (qN g1), .int 0, .int 10, .ref (qN g1), .ref (qN g1), .ref (qN g1)])) := hfrK _ _ (hp_ne hH1 hra1 (by simp)) hH1
            refine V_iload C dX8_work_117 7 rfl ?_
            refine V_aload_n C dX8_work_119 rfl 1 rfl ?_
            refine V_getN C f_X8_60_3 ho_9 (v := .int (nI N)) rfl dX8_work_120 ?_
            refine V_icmp_ge (tgt := 153) C dX8_work_123 (by decide) (fun c_123 => ?_) (fun c_123 => ?_)
            · refine V_goto (tgt := 167) C dX8_work_153 (by decide) ?_
              refine V_pc (pc1 := 167) rfl ?_
              refine V_lconst (v := 0) C dX8_work_167 rfl ?_
              refine V_lret C dX8_work_168 rfl ?_ (by first | exact Nat.le_of_ble_eq_true rfl | omega | (dsimp only; omega) | (simp only [List.length_cons, List.length_nil]; omega)) (by first | exact Nat.le_of_ble_eq_true rfl | omega | (dsimp only; omega) | (simp only [List.length_cons, List.length_nil]; omega))
              have hq3 : q = N := by have := (nI_leI (by omega) (by omega)).mp c_123; omega
              subst hq3
              refine WP.of9 (σ' := sl σ 4 (mfill (σ.2.2.1 4) (40 * rr + I) q (fun _ => lN u))) (ROWK (f' := mfill (σ.2.2.1 4) (40 * rr + I) q (fun _ => lN u)) (RKp.grow (fun _ _ _ y => y) hfr) rfl (fun _ _ _ _ _ _ _ y => y) hR1 hKp1 hr hC hkw1 hraK hfrK hshK hxk (fun k hk => ?_) (fun r' k hr' hn hk => ?_) ⟨fun _ _ => rfl, fun _ _ => ⟨rfl, rfl⟩, fun _ _ => rfl, fun _ _ => rfl, rfl, fun _ _ _ _ => rfl⟩) (fill_0 hI hr hg hp hNp (by omega) (fun y => by omega) (by rw [hkk, nI_l (by have := hI.U.2; omega)]; exact asE_V (k := 8) (by decide) _)) h0 rfl
              · by_cases e : I ≤ k ∧ k < I + q
                · rw [show 40 * rr + k = 40 * rr + I + (k - I) by omega, mfill_in (by omega)]
                  exact hin k e.1 e.2
                · rw [mfill_out (by omega)]
                  exact (hrc1 k hk).at_ (hcvk k e)
              · have : ln σ r' ≤ 40 := (hI.l hr').2
                have hk' : k < ln σ r' := hk
                exact mfill_out (by omega)
            · refine V_aload C dX8_work_126 4 rfl ?_
              refine V_pc (pc1 := 128) rfl ?_
              refine V_aload_n C dX8_work_128 rfl 1 rfl ?_
              refine V_getN C f_X8_63_3 ho_9 (v := .int (nI I)) rfl dX8_work_129 ?_
              refine V_iload C dX8_work_132 7 rfl ?_
              refine V_iadd C dX8_work_134 ?_
              refine V_st (st' := [.int (nI (I + q)), .ref (qR g1 rr)]) (by rw [show ((nI I) + (nI q)) = (nI (I + q)) from nI_add I q]) ?_
              refine V_aload_n C dX8_work_135 rfl 1 rfl ?_
              refine V_getN C f_X8_35_3 ho_9 (v := .int (nI u)) rfl dX8_work_136 ?_
              refine V_i2l (v := (nI u).toInt64) C dX8_work_139 rfl ?_
              refine V_st (st' := [.long (lN u), .int (nI (I + q)), .ref (qR g1 rr)]) (by rw [show ((nI u).toInt64) = (lN u) from (nI_l (by have := hI.U.2; omega))]) ?_
              refine V_aload C dX8_work_140 5 rfl ?_
              refine V_aloadN C dX8_work_142 6 rfl ?_
              have hq2 : q < N := nI_ltN9 (by omega) (by omega) c_123
              have hRk : RELY G (X 0) g1 σ z (σ.1 31) C9 (fun _ => False) M_1 := hR1
              refine V_callSN C (c_X1_put l hl G X N0 M117 (U := nU σ) (J := nJ σ) (ua := fun y => qU g1 y) (ja := fun y => qJ g1 y) (qR g1 rr) (kd σ rr) (ln σ rr) (I + q) xk hraK hxk (by omega) (by omega) (lN u) (lN u) (some (qU g1 u)) none (Or.inr (Or.inl ⟨by omega, rfl, Or.inr ⟨u, hu, rfl, rfl, by rw [hkk]; exact hp_AS.sh0 (hRk.asU hI hu) hshK⟩⟩))) cs_X8_66 rfl rfl ⟨Nat.le_of_ble_eq_true rfl, Nat.le_of_ble_eq_true rfl⟩ ⟨(by first | exact Nat.le_of_ble_eq_true rfl | omega | (dsimp only; omega) | (simp only [List.length_cons, List.length_nil]; omega)), (by first | exact Nat.le_of_ble_eq_true rfl | omega | (dsimp only; omega) | (simp only [List.length_cons, List.length_nil]; omega))⟩ (Nat.le_of_ble_eq_true rfl) dX8_work_144 (fun _ _ _ h => px0 h) ?_
              rintro _ M_11 ⟨rfl, x9, eP, hx9, ho9, hw9⟩
              refine V_st (st' := []) rfl ?_
              have ho_12 : M_11 (qA g1 P9 K9) = some (.inr (3, [.int x0, .int (nI rr), .int (nI I), .int b, .int (nI u), .int (nI N)])) := by rw [eP, hp_up_n (hp_ne ho_9 hraK (by simp))]; exact ho_9
              have ho_13 : M_11 (qH g1 2) = some (.inr (12, [.int 1, .ref (qN g1), .int 0, .int 10, .ref (qN g1), .ref (qN g1), .ref (qN g1)])) := by rw [eP, hp_up_n (hp_ne ho_10 hraK (by simp))]; exact ho_10
              have hn_14 : M_11 (qR g1 rr) = some (.inl (G.2 (kd σ rr), x9)) := by rw [eP]; exact hp_up_s
              have fr_15 := hp_fr.set hfrK (Or.inl rfl) eP
              have sh_16 := hp_sh.set hshK hraK eP rfl
              refine V_iinc (v := nI (q + 1)) C dX8_work_147 (k := 7) rfl (nI_add q 1) (Nat.le_of_ble_eq_true rfl) [(0, .ref (qH g1 2)), (1, .ref (qA g1 P9 K9)), (2, .ref (qC g1 c9)), (3, .int (nI 8)), (4, .ref (qR g1 rr)), (5, .ref (qU g1 u)), (6, .null), (7, .int (nI (q + 1)))] [1, 2, 3, 4, 5, 6, 7, 0] rfl ?_
              refine V_goto (tgt := 117) C dX8_work_150 (by decide) ?_
              have hin2 : ∀ y, I ≤ y → y < I + (q + 1) → CE (nU σ) (nJ σ) (fun y => qU g1 y) (fun y => qJ g1 y) (kd σ rr) x9 y (lN u) := fun y y1 y2 => by
                by_cases e : y = I + q
                · rw [e]; exact hw9
                · exact (hin y y1 (by omega)).at_ (ho9 y e)
              have hcv2 : ∀ y, ¬ (I ≤ y ∧ y < I + (q + 1)) → cv x9.2 y = cv xr1.2 y := fun y y1 => (ho9 y (by omega)).trans (hcvk y (by omega))
              exact ih117 (q + 1) x9 _ (by omega) (by omega) hin2 hcv2 hx9 hn_14 fr_15 sh_16
        refine V_loc (L' := [(0, .ref (qH g1 2)), (1, .ref (qA g1 P9 K9)), (2, .ref (qC g1 c9)), (3, .int (nI 8)), (4, .ref (qR g1 rr)), (5, .ref (qU g1 u)), (6, .null), (7, .int 0)]) [0, 1, 2, 3, 4, 5, 6, 7] rfl ?_
        exact lp_117 _ 0 xr1 _ (Nat.lt_succ_self _) (Nat.zero_le _) (fun y h1 h2 => by omega) (fun y _ => rfl) hrx1 hra1 hfr3 hs3
      · exact absurd c_83 (by decide)
    · exact absurd c_53 (by decide)
  · exact absurd hgb (bI_0.mp c_31)
set_option maxHeartbeats 1000000 in
theorem c_X8_work_B8uz (l : Launch) (hl : l.stackTraces = false) (G : hp_G) (X : Nat → Nat) (N0 : Nat) (M : hp_h) (g : RG) (σ : MS) (z : Nat → Int32) (C9 c9 : Nat) (hC : c9 + 1 = C9) (hR : REL G (X 0) g σ z (σ.1 31) C9 M) (hI : MI σ) (P9 K9 rr : Nat) (x0 i b j n : Int32) (hP9 : P9 < 6) (hK9 : K9 < psz σ P9) (hr : rr < nR σ) (hAF : AF σ P9 K9 = [.int x0, .int (nI rr), .int i, .int b, .int j, .int n]) (hk9 : 0 ≤ kd σ rr ∧ kd σ rr ≤ 10) (hkk : kd σ rr = 8) (u : Nat) (hu : u < nU σ) (hj : j = nI u) (hg : mf_goes σ (nI (kd σ rr)) j.toInt64) (hp : mf_places σ rr i n) (hm : MW σ) (h0 : σ.2.2.2 = 0) (hn0 : n = 0) : HM l yX8_work (wsW_ yX8_work cX8_work 8 (some .long) [(114, 153, 156, 70)]) 24 11400 9 300 G X N0 [.ref (qH g 2), .ref (qA g P9 K9), .ref (qC g c9)] M (WP G (X 0) g σ z C9 M (mf_fill σ rr i j n)) PX0 := by
  refine HM.ofH hl [(0, .ref (qH g 2)), (1, .ref (qA g P9 K9)), (2, .ref (qC g c9))] (by decide +kernel) rfl (Nat.le_of_ble_eq_true rfl) ?_
  intro p e s m args below meth c C hname
  have hN := hR.N
  obtain ⟨mdR, hRl⟩ := hR.Rl
  obtain ⟨fR, hRs, hRf⟩ := hR.Rls
  obtain ⟨mdU, hUl⟩ := hR.Ul
  obtain ⟨fU, hUs, hUf⟩ := hR.Uls
  have hH9 : M (qH g 2) = some (.inr (12, [.int 1, .ref (qN g), .int 0, .int 10, .ref (qN g), .ref (qN g), .ref (qN g)])) := hR.H (by decide)
  have hac : M (qA g P9 K9) = some (.inr (3, [.int x0, .int (nI rr), .int i, .int b, .int j, .int n])) := (hR.A hP9 hK9).trans (congrArg (fun y => some (Sum.inr (3, y))) hAF)
  have hcC : c9 < C9 := by omega
  have hCc := hR.Cc hcC
  subst hj
  have hgb : mf_goes σ (nI 8) (lN u) := by have y := hg; rw [hkk] at y; rw [(nI_l (by have := hI.U.2; omega))] at y;  exact y
  refine V_aload_n C dX8_work_0 rfl 0 rfl ?_
  refine V_get C f_X8_3_12 hH9 (v := .ref (qN g)) rfl dX8_work_1 ?_
  refine V_getN C f_X8_15_0 hN (v := .ref (qRl g)) rfl dX8_work_4 ?_
  refine V_aload_n C dX8_work_7 rfl 1 rfl ?_
  refine V_getN C f_X8_19_3 hac (v := .int (nI rr)) rfl dX8_work_8 ?_
  refine V_callV C (c_J2_get l hl G X N0 M (qRl g) (qRe g) (nR σ) (gcp g 2 0) mdR fR hRl (hRs.2.2.1 (by have := hRs.2.2.2.1; omega)) (by have := hRs.2.2.2.2; omega) hRs.2.2.2.1 rr (qR g rr) hr (hRf rr hr)) cs_X8_25_1 hRl (show CLS[1]? = some (RJ2, TJ2, 3) from rfl) rfl rfl ⟨Nat.le_of_ble_eq_true rfl, Nat.le_of_ble_eq_true rfl⟩ ⟨(by first | exact Nat.le_of_ble_eq_true rfl | omega | (dsimp only; omega) | (simp only [List.length_cons, List.length_nil]; omega)), (by first | exact Nat.le_of_ble_eq_true rfl | omega | (dsimp only; omega) | (simp only [List.length_cons, List.length_nil]; omega))⟩ (Nat.le_of_ble_eq_true rfl) dX8_work_11 (fun _ _ _ h => px0 h) ?_
  rintro _ _ ⟨rfl, rfl⟩
  refine V_st (st' := [.ref (qR g rr)]) rfl ?_
  obtain ⟨xr, hra, hrx, hrc⟩ := hR.rw hr
  obtain ⟨hkE, hkL⟩ := hI.k hr
  obtain ⟨hlE, hlL⟩ := hI.l hr
  refine V_callSN C (c_X1_kindOf l hl G X N0 M (qR g rr) (kd σ rr) hkL xr hra) cs_X8_31 rfl rfl ⟨Nat.le_of_ble_eq_true rfl, Nat.le_of_ble_eq_true rfl⟩ ⟨(by first | exact Nat.le_of_ble_eq_true rfl | omega | (dsimp only; omega) | (simp only [List.length_cons, List.length_nil]; omega)), (by first | exact Nat.le_of_ble_eq_true rfl | omega | (dsimp only; omega) | (simp only [List.length_cons, List.length_nil]; omega))⟩ (Nat.le_of_ble_eq_true rfl) dX8_work_14 (fun _ _ _ h => px0 h) ?_
  rintro _ _ ⟨rfl, rfl⟩
  refine V_st (st' := [.int (nI (kd σ rr))]) rfl ?_
  refine V_st (st' := [.int (nI 8)]) (by rw [hkk]) ?_
  refine V_istore_n C dX8_work_17 rfl (Nat.le_of_ble_eq_true rfl) [(0, .ref (qH g 2)), (1, .ref (qA g P9 K9)), (2, .ref (qC g c9)), (3, .int (nI 8))] [1, 2, 3, 0] rfl ?_
  refine V_aload_n C dX8_work_18 rfl 0 rfl ?_
  refine V_get C f_X8_3_12 hH9 (v := .ref (qN g)) rfl dX8_work_19 ?_
  refine V_iload_n C dX8_work_22 rfl 3 rfl ?_
  refine V_pc (pc1 := 23) rfl ?_
  refine V_aload_n C dX8_work_23 rfl 1 rfl ?_
  refine V_getN C f_X8_35_3 hac (v := .int (nI u)) rfl dX8_work_24 ?_
  refine V_i2l (v := (nI u).toInt64) C dX8_work_27 rfl ?_
  refine V_st (st' := [.long (lN u), .int (nI 8), .ref (qN g)]) (by rw [show ((nI u).toInt64) = (lN u) from (nI_l (by have := hI.U.2; omega))]) ?_
  refine V_callVN C (c_X1_goes l hl G X N0 M g σ z (σ.1 31) C9 hR hI 8 (lN u) (by decide)) cs_X8_38_0 hN (show CLS[0]? = some (RX1, TX1, 17) from rfl) rfl rfl ⟨Nat.le_of_ble_eq_true rfl, Nat.le_of_ble_eq_true rfl⟩ ⟨(by first | exact Nat.le_of_ble_eq_true rfl | omega | (dsimp only; omega) | (simp only [List.length_cons, List.length_nil]; omega)), (by first | exact Nat.le_of_ble_eq_true rfl | omega | (dsimp only; omega) | (simp only [List.length_cons, List.length_nil]; omega))⟩ (Nat.le_of_ble_eq_true rfl) dX8_work_28 (fun _ _ _ h => px0 h) ?_
  rintro _ _ ⟨rfl, rfl⟩
  refine V_st (st' := [.int (bI (mf_goes σ (nI 8) (lN u)))]) rfl ?_
  refine V_if_ne (tgt := 43) C dX8_work_31 (by decide) (fun c_31 => ?_) (fun c_31 => ?_)
  · refine V_aload_n C dX8_work_43 rfl 0 rfl ?_
    refine V_aload_n C dX8_work_44 rfl 1 rfl ?_
    refine V_callU C (c_X7_part_12 l hl G X N0 M g σ z C9 c9 hC hR hI (qH g 2) hH9 (qA g P9 K9) x0 rr i b (nI u) n hr hac hk9 hp) cs_X8_46_12 hH9 (show CLS[12]? = some (RX8, TX8, 7) from rfl) rfl rfl ⟨Nat.le_of_ble_eq_true rfl, Nat.le_of_ble_eq_true rfl⟩ ⟨(by first | exact Nat.le_of_ble_eq_true rfl | omega | (dsimp only; omega) | (simp only [List.length_cons, List.length_nil]; omega)), (by first | exact Nat.le_of_ble_eq_true rfl | omega | (dsimp only; omega) | (simp only [List.length_cons, List.length_nil]; omega))⟩ (Nat.le_of_ble_eq_true rfl) dX8_work_45 (fun _ _ _ h => px0 h) ?_
    rintro _ _ ⟨rfl, rfl⟩
    refine V_st (st' := [.ref (qR g rr)]) rfl ?_
    obtain ⟨I, N, rfl, rfl, hIN⟩ := places_n (hI.l hr) hp
    obtain rfl : N = 0 := (nI_eq (b := 0) (by omega) (by decide)).mp hn0
    refine V_astore C dX8_work_48 (Nat.le_of_ble_eq_true rfl) [(0, .ref (qH g 2)), (1, .ref (qA g P9 K9)), (2, .ref (qC g c9)), (3, .int (nI 8)), (4, .ref (qR g rr))] [1, 2, 3, 4, 0] rfl ?_
    refine V_iload_n C dX8_work_50 rfl 3 rfl ?_
    refine V_bipush (v := 8) C dX8_work_51 rfl ?_
    refine V_icmp_eq (tgt := 62) C dX8_work_53 (by decide) (fun c_53 => ?_) (fun c_53 => ?_)
    · refine V_pc (pc1 := 62) rfl ?_
      refine V_aload_n C dX8_work_62 rfl 0 rfl ?_
      refine V_get C f_X8_3_12 hH9 (v := .ref (qN g)) rfl dX8_work_63 ?_
      refine V_aload_n C dX8_work_66 rfl 1 rfl ?_
      refine V_getN C f_X8_35_3 hac (v := .int (nI u)) rfl dX8_work_67 ?_
      refine V_i2l (v := (nI u).toInt64) C dX8_work_70 rfl ?_
      refine V_st (st' := [.long (lN u), .ref (qN g)]) (by rw [show ((nI u).toInt64) = (lN u) from (nI_l (by have := hI.U.2; omega))]) ?_
      refine V_callVN C (c_X1_unitOf_u l hl G X N0 M g σ z (σ.1 31) C9 hR hI u hu) cs_X8_50_0 hN (show CLS[0]? = some (RX1, TX1, 17) from rfl) rfl rfl ⟨Nat.le_of_ble_eq_true rfl, Nat.le_of_ble_eq_true rfl⟩ ⟨(by first | exact Nat.le_of_ble_eq_true rfl | omega | (dsimp only; omega) | (simp only [List.length_cons, List.length_nil]; omega)), (by first | exact Nat.le_of_ble_eq_true rfl | omega | (dsimp only; omega) | (simp only [List.length_cons, List.length_nil]; omega))⟩ (Nat.le_of_ble_eq_true rfl) dX8_work_71 (fun _ _ _ h => px0 h) ?_
      rintro _ _ ⟨rfl, rfl⟩
      refine V_st (st' := [.ref (qU g u)]) rfl ?_
      refine V_goto (tgt := 78) C dX8_work_74 (by decide) ?_
      refine V_astore C dX8_work_78 (Nat.le_of_ble_eq_true rfl) [(0, .ref (qH g 2)), (1, .ref (qA g P9 K9)), (2, .ref (qC g c9)), (3, .int (nI 8)), (4, .ref (qR g rr)), (5, .ref (qU g u))] [1, 2, 3, 4, 5, 0] rfl ?_
      refine V_iload_n C dX8_work_80 rfl 3 rfl ?_
      refine V_bipush (v := 10) C dX8_work_81 rfl ?_
      refine V_icmp_ne (tgt := 103) C dX8_work_83 (by decide) (fun c_83 => ?_) (fun c_83 => ?_)
      · refine V_null C dX8_work_103 ?_
        refine V_pc (pc1 := 104) rfl ?_
        refine V_astoreN C dX8_work_104 (Nat.le_of_ble_eq_true rfl) [(0, .ref (qH g 2)), (1, .ref (qA g P9 K9)), (2, .ref (qC g c9)), (3, .int (nI 8)), (4, .ref (qR g rr)), (5, .ref (qU g u)), (6, .null)] [1, 2, 3, 4, 5, 6, 0] rfl ?_
        refine V_aload_n C dX8_work_106 rfl 2 rfl ?_
        refine V_aload_n C dX8_work_107 rfl 1 rfl ?_
        refine V_getN C f_X8_19_3 hac (v := .int (nI rr)) rfl dX8_work_108 ?_
        have hfr : hp_fr (fun _ => False) M M := hp_fr.rf
        have hsh : hp_sh M M := hp_sh.rf
        refine V_callV C (c_X25_keep l hl G X N0 M g σ z C9 c9 hC hR hI hm rr hr) cs_X8_54_4 hCc (show CLS[4]? = some (RX25, TX25, 8) from rfl) rfl rfl ⟨Nat.le_of_ble_eq_true rfl, Nat.le_of_ble_eq_true rfl⟩ ⟨(by first | exact Nat.le_of_ble_eq_true rfl | omega | (dsimp only; omega) | (simp only [List.length_cons, List.length_nil]; omega)), (by first | exact Nat.le_of_ble_eq_true rfl | omega | (dsimp only; omega) | (simp only [List.length_cons, List.length_nil]; omega))⟩ (Nat.le_of_ble_eq_true rfl) dX8_work_111 (fun _ _ _ h => px0 h) ?_
        rintro _ M_1 ⟨rfl, g1, hk1, hR1, hkw1, hKp1⟩
        refine V_st (st' := []) rfl ?_
        have eg_2 : (qH g1 2) = (qH g 2) := hk1 13 2 0 (by decide) (by decide)
        have eg_3 : (qA g1 P9 K9) = (qA g P9 K9) := hk1 11 P9 K9 (by decide) (by decide)
        have eg_4 : (qC g1 c9) = (qC g c9) := hk1 15 c9 0 (by decide) (by decide)
        have eg_5 : (qR g1 rr) = (qR g rr) := hk1 5 rr 0 (by decide) (by decide)
        have eg_6 : (qU g1 u) = (qU g u) := hk1 6 u 0 (by decide) (by decide)
        refine V_loc (L' := [(0, .ref (qH g1 2)), (1, .ref (qA g1 P9 K9)), (2, .ref (qC g1 c9)), (3, .int (nI 8)), (4, .ref (qR g1 rr)), (5, .ref (qU g1 u)), (6, .null)]) [0, 1, 2, 3, 4, 5, 6] (by rw [eg_2, eg_3, eg_4, eg_5, eg_6]; rfl) ?_
        have hac1 : M_1 (qA g1 P9 K9) = some (.inr (3, [.int x0, .int (nI rr), .int (nI I), .int b, .int (nI u), .int (nI 0)])) := (hR1.A hP9 hK9).trans (congrArg (fun y => some (Sum.inr (3, y))) hAF)
        have hH1 : M_1 (qH g1 2) = some (.inr (12, [.int 1, .ref (qN g1), .int 0, .int 10, .ref (qN g1), .ref (qN g1), .ref (qN g1)])) := hR1.H (by decide)
        have sh_7 := hsh.trans hKp1.2.2
        obtain ⟨xr1, hra1, hrx1, hrc1⟩ := hR1.rw hr
        refine V_iconst (v := 0) C dX8_work_114 rfl ?_
        refine V_istore C dX8_work_115 (Nat.le_of_ble_eq_true rfl) [(0, .ref (qH g1 2)), (1, .ref (qA g1 P9 K9)), (2, .ref (qC g1 c9)), (3, .int (nI 8)), (4, .ref (qR g1 rr)), (5, .ref (qU g1 u)), (6, .null), (7, .int 0)] [1, 2, 3, 4, 5, 6, 7, 0] rfl ?_
        refine V_iload C dX8_work_117 7 rfl ?_
        refine V_aload_n C dX8_work_119 rfl 1 rfl ?_
        refine V_getN C f_X8_60_3 hac1 (v := .int (nI 0)) rfl dX8_work_120 ?_
        refine V_icmp_ge (tgt := 153) C dX8_work_123 (by decide) (fun c_123 => ?_) (fun c_123 => ?_)
        · refine V_goto (tgt := 167) C dX8_work_153 (by decide) ?_
          refine V_pc (pc1 := 167) rfl ?_
          refine V_lconst (v := 0) C dX8_work_167 rfl ?_
          refine V_lret C dX8_work_168 rfl ?_ (by first | exact Nat.le_of_ble_eq_true rfl | omega | (dsimp only; omega) | (simp only [List.length_cons, List.length_nil]; omega)) (by first | exact Nat.le_of_ble_eq_true rfl | omega | (dsimp only; omega) | (simp only [List.length_cons, List.length_nil]; omega))
          exact WP.of9 (σ' := σ) ⟨hR1, (RKp.grow (fun _ _ _ y => y) hfr).trans hKp1 (Nat.le_refl _) (Nat.le_refl _) (fun _ _ _ _ _ _ _ hd _ _ => hd)⟩ (fill_z hI hr hg hp (by omega)) h0 rfl
        · exact absurd c_123 (by decide)
      · exact absurd c_83 (by decide)
    · exact absurd c_53 (by decide)
  · exact absurd hgb (bI_0.mp c_31)
set_option maxHeartbeats 1000000 in
theorem c_X8_work_B9n (l : Launch) (hl : l.stackTraces = false) (G : hp_G) (X : Nat → Nat) (N0 : Nat) (M : hp_h) (g : RG) (σ : MS) (z : Nat → Int32) (C9 c9 : Nat) (hC : c9 + 1 = C9) (hR : REL G (X 0) g σ z (σ.1 31) C9 M) (hI : MI σ) (P9 K9 rr : Nat) (x0 i b j n : Int32) (hP9 : P9 < 6) (hK9 : K9 < psz σ P9) (hr : rr < nR σ) (hAF : AF σ P9 K9 = [.int x0, .int (nI rr), .int i, .int b, .int j, .int n]) (hk9 : 0 ≤ kd σ rr ∧ kd σ rr ≤ 10) (hkk : kd σ rr = 9) (hj : j = -1) (hg : mf_goes σ (nI (kd σ rr)) j.toInt64) (hp : mf_places σ rr i n) (hm : MW σ) (h0 : σ.2.2.2 = 0) (hn0 : n ≠ 0) : HM l yX8_work (wsW_ yX8_work cX8_work 8 (some .long) [(114, 153, 156, 70)]) 24 11400 9 300 G X N0 [.ref (qH g 2), .ref (qA g P9 K9), .ref (qC g c9)] M (WP G (X 0) g σ z C9 M (mf_fill σ rr i j n)) PX0 := by
  refine HM.ofH hl [(0, .ref (qH g 2)), (1, .ref (qA g P9 K9)), (2, .ref (qC g c9))] (by decide +kernel) rfl (Nat.le_of_ble_eq_true rfl) ?_
  intro p e s m args below meth c C hname
  have hN := hR.N
  obtain ⟨mdR, hRl⟩ := hR.Rl
  obtain ⟨fR, hRs, hRf⟩ := hR.Rls
  obtain ⟨mdU, hUl⟩ := hR.Ul
  obtain ⟨fU, hUs, hUf⟩ := hR.Uls
  have hH9 : M (qH g 2) = some (.inr (12, [.int 1, .ref (qN g), .int 0, .int 10, .ref (qN g), .ref (qN g), .ref (qN g)])) := hR.H (by decide)
  have hac : M (qA g P9 K9) = some (.inr (3, [.int x0, .int (nI rr), .int i, .int b, .int j, .int n])) := (hR.A hP9 hK9).trans (congrArg (fun y => some (Sum.inr (3, y))) hAF)
  have hcC : c9 < C9 := by omega
  have hCc := hR.Cc hcC
  subst hj
  have hgb : mf_goes σ (nI 9) (-1) := by have y := hg; rw [hkk] at y;  exact y
  refine V_aload_n C dX8_work_0 rfl 0 rfl ?_
  refine V_get C f_X8_3_12 hH9 (v := .ref (qN g)) rfl dX8_work_1 ?_
  refine V_getN C f_X8_15_0 hN (v := .ref (qRl g)) rfl dX8_work_4 ?_
  refine V_aload_n C dX8_work_7 rfl 1 rfl ?_
  refine V_getN C f_X8_19_3 hac (v := .int (nI rr)) rfl dX8_work_8 ?_
  refine V_callV C (c_J2_get l hl G X N0 M (qRl g) (qRe g) (nR σ) (gcp g 2 0) mdR fR hRl (hRs.2.2.1 (by have := hRs.2.2.2.1; omega)) (by have := hRs.2.2.2.2; omega) hRs.2.2.2.1 rr (qR g rr) hr (hRf rr hr)) cs_X8_25_1 hRl (show CLS[1]? = some (RJ2, TJ2, 3) from rfl) rfl rfl ⟨Nat.le_of_ble_eq_true rfl, Nat.le_of_ble_eq_true rfl⟩ ⟨(by first | exact Nat.le_of_ble_eq_true rfl | omega | (dsimp only; omega) | (simp only [List.length_cons, List.length_nil]; omega)), (by first | exact Nat.le_of_ble_eq_true rfl | omega | (dsimp only; omega) | (simp only [List.length_cons, List.length_nil]; omega))⟩ (Nat.le_of_ble_eq_true rfl) dX8_work_11 (fun _ _ _ h => px0 h) ?_
  rintro _ _ ⟨rfl, rfl⟩
  refine V_st (st' := [.ref (qR g rr)]) rfl ?_
  obtain ⟨xr, hra, hrx, hrc⟩ := hR.rw hr
  obtain ⟨hkE, hkL⟩ := hI.k hr
  obtain ⟨hlE, hlL⟩ := hI.l hr
  refine V_callSN C (c_X1_kindOf l hl G X N0 M (qR g rr) (kd σ rr) hkL xr hra) cs_X8_31 rfl rfl ⟨Nat.le_of_ble_eq_true rfl, Nat.le_of_ble_eq_true rfl⟩ ⟨(by first | exact Nat.le_of_ble_eq_true rfl | omega | (dsimp only; omega) | (simp only [List.length_cons, List.length_nil]; omega)), (by first | exact Nat.le_of_ble_eq_true rfl | omega | (dsimp only; omega) | (simp only [List.length_cons, List.length_nil]; omega))⟩ (Nat.le_of_ble_eq_true rfl) dX8_work_14 (fun _ _ _ h => px0 h) ?_
  rintro _ _ ⟨rfl, rfl⟩
  refine V_st (st' := [.int (nI (kd σ rr))]) rfl ?_
  refine V_st (st' := [.int (nI 9)]) (by rw [hkk]) ?_
  refine V_istore_n C dX8_work_17 rfl (Nat.le_of_ble_eq_true rfl) [(0, .ref (qH g 2)), (1, .ref (qA g P9 K9)), (2, .ref (qC g c9)), (3, .int (nI 9))] [1, 2, 3, 0] rfl ?_
  refine V_aload_n C dX8_work_18 rfl 0 rfl ?_
  refine V_get C f_X8_3_12 hH9 (v := .ref (qN g)) rfl dX8_work_19 ?_
  refine V_iload_n C dX8_work_22 rfl 3 rfl ?_
  refine V_pc (pc1 := 23) rfl ?_
  refine V_aload_n C dX8_work_23 rfl 1 rfl ?_
  refine V_getN C f_X8_35_3 hac (v := .int (-1)) rfl dX8_work_24 ?_
  refine V_i2l (v := ((-1) : Int32).toInt64) C dX8_work_27 rfl ?_
  refine V_st (st' := [.long (-1), .int (nI 9), .ref (qN g)]) (by rw [show (((-1) : Int32).toInt64) = (-1) from rfl]) ?_
  refine V_callVN C (c_X1_goes l hl G X N0 M g σ z (σ.1 31) C9 hR hI 9 (-1) (by decide)) cs_X8_38_0 hN (show CLS[0]? = some (RX1, TX1, 17) from rfl) rfl rfl ⟨Nat.le_of_ble_eq_true rfl, Nat.le_of_ble_eq_true rfl⟩ ⟨(by first | exact Nat.le_of_ble_eq_true rfl | omega | (dsimp only; omega) | (simp only [List.length_cons, List.length_nil]; omega)), (by first | exact Nat.le_of_ble_eq_true rfl | omega | (dsimp only; omega) | (simp only [List.length_cons, List.length_nil]; omega))⟩ (Nat.le_of_ble_eq_true rfl) dX8_work_28 (fun _ _ _ h => px0 h) ?_
  rintro _ _ ⟨rfl, rfl⟩
  refine V_st (st' := [.int (bI (mf_goes σ (nI 9) (-1)))]) rfl ?_
  refine V_if_ne (tgt := 43) C dX8_work_31 (by decide) (fun c_31 => ?_) (fun c_31 => ?_)
  · refine V_aload_n C dX8_work_43 rfl 0 rfl ?_
    refine V_aload_n C dX8_work_44 rfl 1 rfl ?_
    refine V_callU C (c_X7_part_12 l hl G X N0 M g σ z C9 c9 hC hR hI (qH g 2) hH9 (qA g P9 K9) x0 rr i b (-1) n hr hac hk9 hp) cs_X8_46_12 hH9 (show CLS[12]? = some (RX8, TX8, 7) from rfl) rfl rfl ⟨Nat.le_of_ble_eq_true rfl, Nat.le_of_ble_eq_true rfl⟩ ⟨(by first | exact Nat.le_of_ble_eq_true rfl | omega | (dsimp only; omega) | (simp only [List.length_cons, List.length_nil]; omega)), (by first | exact Nat.le_of_ble_eq_true rfl | omega | (dsimp only; omega) | (simp only [List.length_cons, List.length_nil]; omega))⟩ (Nat.le_of_ble_eq_true rfl) dX8_work_45 (fun _ _ _ h => px0 h) ?_
    rintro _ _ ⟨rfl, rfl⟩
    refine V_st (st' := [.ref (qR g rr)]) rfl ?_
    obtain ⟨I, N, rfl, rfl, hIN⟩ := places_n (hI.l hr) hp
    have hNp : 0 < N := Nat.pos_of_ne_zero (fun y => hn0 (by rw [y]; rfl))
    refine V_astore C dX8_work_48 (Nat.le_of_ble_eq_true rfl) [(0, .ref (qH g 2)), (1, .ref (qA g P9 K9)), (2, .ref (qC g c9)), (3, .int (nI 9)), (4, .ref (qR g rr))] [1, 2, 3, 4, 0] rfl ?_
    refine V_iload_n C dX8_work_50 rfl 3 rfl ?_
    refine V_bipush (v := 8) C dX8_work_51 rfl ?_
    refine V_icmp_eq (tgt := 62) C dX8_work_53 (by decide) (fun c_53 => ?_) (fun c_53 => ?_)
    · exact absurd c_53 (by decide)
    · refine V_pc (pc1 := 56) rfl ?_
      refine V_iload_n C dX8_work_56 rfl 3 rfl ?_
      refine V_bipush (v := 9) C dX8_work_57 rfl ?_
      refine V_icmp_ne (tgt := 77) C dX8_work_59 (by decide) (fun c_59 => ?_) (fun c_59 => ?_)
      · exact absurd c_59 (by decide)
      · refine V_aload_n C dX8_work_62 rfl 0 rfl ?_
        refine V_get C f_X8_3_12 hH9 (v := .ref (qN g)) rfl dX8_work_63 ?_
        refine V_aload_n C dX8_work_66 rfl 1 rfl ?_
        refine V_getN C f_X8_35_3 hac (v := .int (-1)) rfl dX8_work_67 ?_
        refine V_i2l (v := ((-1) : Int32).toInt64) C dX8_work_70 rfl ?_
        refine V_st (st' := [.long (-1), .ref (qN g)]) (by rw [show (((-1) : Int32).toInt64) = (-1) from rfl]) ?_
        refine V_callVN C (c_X1_unitOf_n l hl G X N0 M g σ z (σ.1 31) C9 hR hI (-1) (by decide)) cs_X8_50_0 hN (show CLS[0]? = some (RX1, TX1, 17) from rfl) rfl rfl ⟨Nat.le_of_ble_eq_true rfl, Nat.le_of_ble_eq_true rfl⟩ ⟨(by first | exact Nat.le_of_ble_eq_true rfl | omega | (dsimp only; omega) | (simp only [List.length_cons, List.length_nil]; omega)), (by first | exact Nat.le_of_ble_eq_true rfl | omega | (dsimp only; omega) | (simp only [List.length_cons, List.length_nil]; omega))⟩ (Nat.le_of_ble_eq_true rfl) dX8_work_71 (fun _ _ _ h => px0 h) ?_
        rintro _ _ ⟨rfl, rfl⟩
        refine V_st (st' := [.null]) rfl ?_
        refine V_goto (tgt := 78) C dX8_work_74 (by decide) ?_
        refine V_astoreN C dX8_work_78 (Nat.le_of_ble_eq_true rfl) [(0, .ref (qH g 2)), (1, .ref (qA g P9 K9)), (2, .ref (qC g c9)), (3, .int (nI 9)), (4, .ref (qR g rr)), (5, .null)] [1, 2, 3, 4, 5, 0] rfl ?_
        refine V_iload_n C dX8_work_80 rfl 3 rfl ?_
        refine V_pc (pc1 := 81) rfl ?_
        refine V_bipush (v := 10) C dX8_work_81 rfl ?_
        refine V_icmp_ne (tgt := 103) C dX8_work_83 (by decide) (fun c_83 => ?_) (fun c_83 => ?_)
        · refine V_null C dX8_work_103 ?_
          refine V_astoreN C dX8_work_104 (Nat.le_of_ble_eq_true rfl) [(0, .ref (qH g 2)), (1, .ref (qA g P9 K9)), (2, .ref (qC g c9)), (3, .int (nI 9)), (4, .ref (qR g rr)), (5, .null), (6, .null)] [1, 2, 3, 4, 5, 6, 0] rfl ?_
          refine V_aload_n C dX8_work_106 rfl 2 rfl ?_
          refine V_aload_n C dX8_work_107 rfl 1 rfl ?_
          refine V_getN C f_X8_19_3 hac (v := .int (nI rr)) rfl dX8_work_108 ?_
          have hfr : hp_fr (fun _ => False) M M := hp_fr.rf
          have hsh : hp_sh M M := hp_sh.rf
          refine V_callV C (c_X25_keep l hl G X N0 M g σ z C9 c9 hC hR hI hm rr hr) cs_X8_54_4 hCc (show CLS[4]? = some (RX25, TX25, 8) from rfl) rfl rfl ⟨Nat.le_of_ble_eq_true rfl, Nat.le_of_ble_eq_true rfl⟩ ⟨(by first | exact Nat.le_of_ble_eq_true rfl | omega | (dsimp only; omega) | (simp only [List.length_cons, List.length_nil]; omega)), (by first | exact Nat.le_of_ble_eq_true rfl | omega | (dsimp only; omega) | (simp only [List.length_cons, List.length_nil]; omega))⟩ (Nat.le_of_ble_eq_true rfl) dX8_work_111 (fun _ _ _ h => px0 h) ?_
          rintro _ M_1 ⟨rfl, g1, hk1, hR1, hkw1, hKp1⟩
          refine V_st (st' := []) rfl ?_
          have eg_2 : (qH g1 2) = (qH g 2) := hk1 13 2 0 (by decide) (by decide)
          have eg_3 : (qA g1 P9 K9) = (qA g P9 K9) := hk1 11 P9 K9 (by decide) (by decide)
          have eg_4 : (qC g1 c9) = (qC g c9) := hk1 15 c9 0 (by decide) (by decide)
          have eg_5 : (qR g1 rr) = (qR g rr) := hk1 5 rr 0 (by decide) (by decide)
          refine V_loc (L' := [(0, .ref (qH g1 2)), (1, .ref (qA g1 P9 K9)), (2, .ref (qC g1 c9)), (3, .int (nI 9)), (4, .ref (qR g1 rr)), (5, .null), (6, .null)]) [0, 1, 2, 3, 4, 5, 6] (by rw [eg_2, eg_3, eg_4, eg_5]; rfl) ?_
          have hac1 : M_1 (qA g1 P9 K9) = some (.inr (3, [.int x0, .int (nI rr), .int (nI I), .int b, .int (-1), .int (nI N)])) := (hR1.A hP9 hK9).trans (congrArg (fun y => some (Sum.inr (3, y))) hAF)
          have hH1 : M_1 (qH g1 2) = some (.inr (12, [.int 1, .ref (qN g1), .int 0, .int 10, .ref (qN g1), .ref (qN g1), .ref (qN g1)])) := hR1.H (by decide)
          have sh_6 := hsh.trans hKp1.2.2
          obtain ⟨xr1, hra1, hrx1, hrc1⟩ := hR1.rw hr
          refine V_iconst (v := 0) C dX8_work_114 rfl ?_
          refine V_istore C dX8_work_115 (Nat.le_of_ble_eq_true rfl) [(0, .ref (qH g1 2)), (1, .ref (qA g1 P9 K9)), (2, .ref (qC g1 c9)), (3, .int (nI 9)), (4, .ref (qR g1 rr)), (5, .null), (6, .null), (7, .int 0)] [1, 2, 3, 4, 5, 6, 7, 0] rfl ?_
          have hfr3 : hp_fr (fun b => b = qR g1 rr) M_1 M_1 := hp_fr.rf
          have hs3 : hp_sh M_1 M_1 := hp_sh.rf
          have lp_117 : ∀ (fu9 : Nat) (q : Nat) (xk : vp_A) (M117 : hp_h), N - q < fu9 → (q ≤ N) → (∀ y, I ≤ y → y < I + q → CE (nU σ) (nJ σ) (fun y => qU g1 y) (fun y => qJ g1 y) (kd σ rr) xk y (-1)) → (∀ y, ¬ (I ≤ y ∧ y < I + q) → cv xk.2 y = cv xr1.2 y) → (XT (kd σ rr) (ln σ rr) xk) → (M117 (qR g1 rr) = some (.inl (G.2 (kd σ rr), xk))) → (hp_fr (fun b => b = qR g1 rr) M_1 M117) → (hp_sh M_1 M117) → V p l e { frames := 24, cells := 9, slots := 300, locals := 11400 } s m args below meth c G N0 8 (QV below G N0 ((WP G (X 0) g σ z C9 M (mf_fill σ rr (nI I) (-1) (nI N)))) PX0 args s (9) (300)) (0 + 2) (0 + 130) M117 117 [(0, .ref (qH g1 2)), (1, .ref (qA g1 P9 K9)), (2, .ref (qC g1 c9)), (3, .int (nI 9)), (4, .ref (qR g1 rr)), (5, .null), (6, .null), (7, .int (nI q))] [] := by
            intro fu9
            induction fu9 with
            | zero => intro q xk M117 hfu9; exact absurd hfu9 (Nat.not_lt_zero _)
            | succ fu9 ih117 =>
              intro q xk M117 hfu9 hq hin hcvk hxk hraK hfrK hshK
              have ho_8 : M117 (qA g1 P9 K9) = some (.inr (3, [.int x0, .int (nI rr), .int (nI I), .int b, .int (-1), .int (nI N)])) := hfrK _ _ (hp_ne hac1 hra1 (by simp)) hac1
              have ho_9 : M117 (qH g1 2) = some (.inr (12, [.int 1, .ref (qN g1), .int 0, .int 10, .ref (qN g1), .ref (qN g1), .ref (qN g1)])) := hfrK _ _ (hp_ne hH1 hra1 (by simp)) hH1
              refine V_iload C dX8_work_117 7 rfl ?_
              refine V_aload_n C dX8_work_119 rfl 1 rfl ?_
              refine V_pc (pc1 := 120) rfl ?_
              refine V_getN C f_X8_60_3 ho_8 (v := .int (nI N)) rfl dX8_work_120 ?_
              refine V_icmp_ge (tgt := 153) C dX8_work_123 (by decide) (fun c_123 => ?_) (fun c_123 => ?_)
              · refine V_goto (tgt := 167) C dX8_work_153 (by decide) ?_
                refine V_lconst (v := 0) C dX8_work_167 rfl ?_
                refine V_lret C dX8_work_168 rfl ?_ (by first | exact Nat.le_of_ble_eq_true rfl | omega | (dsimp only; omega) | (simp only [List.length_cons, List.length_nil]; omega)) (by first | exact Nat.le_of_ble_eq_true rfl | omega | (dsimp only; omega) | (simp only [List.length_cons, List.length_nil]; omega))
                have hq3 : q = N := by have := (nI_leI (by omega) (by omega)).mp c_123; omega
                subst hq3
                refine WP.of9 (σ' := sl σ 4 (mfill (σ.2.2.1 4) (40 * rr + I) q (fun _ => -1))) (ROWK (f' := mfill (σ.2.2.1 4) (40 * rr + I) q (fun _ => -1)) (RKp.grow (fun _ _ _ y => y) hfr) rfl (fun _ _ _ _ _ _ _ y => y) hR1 hKp1 hr hC hkw1 hraK hfrK hshK hxk (fun k hk => ?_) (fun r' k hr' hn hk => ?_) ⟨fun _ _ => rfl, fun _ _ => ⟨rfl, rfl⟩, fun _ _ => rfl, fun _ _ => rfl, rfl, fun _ _ _ _ => rfl⟩) (fill_0 hI hr hg hp hNp (by omega) (fun _ => Or.inl rfl) (by rw [hkk]; exact asE_V (k := 9) (by decide) _)) h0 rfl
                · by_cases e : I ≤ k ∧ k < I + q
                  · rw [show 40 * rr + k = 40 * rr + I + (k - I) by omega, mfill_in (by omega)]
                    exact hin k e.1 e.2
                  · rw [mfill_out (by omega)]
                    exact (hrc1 k hk).at_ (hcvk k e)
                · have : ln σ r' ≤ 40 := (hI.l hr').2
                  have hk' : k < ln σ r' := hk
                  exact mfill_out (by omega)
              · refine V_aload C dX8_work_126 4 rfl ?_
                refine V_aload_n C dX8_work_128 rfl 1 rfl ?_
                refine V_getN C f_X8_63_3 ho_8 (v := .int (nI I)) rfl dX8_work_129 ?_
                refine V_iload C dX8_work_132 7 rfl ?_
                refine V_iadd C dX8_work_134 ?_
                refine V_st (st' := [.int (nI (I + q)), .ref (qR g1 rr)]) (by rw [show ((nI I) + (nI q)) = (nI (I + q)) from nI_add I q]) ?_
                refine V_aload_n C dX8_work_135 rfl 1 rfl ?_
                refine V_getN C f_X8_35_3 ho_8 (v := .int (-1)) rfl dX8_work_136 ?_
                refine V_i2l (v := ((-1) : Int32).toInt64) C dX8_work_139 rfl ?_
                refine V_st (st' := [.long (-1), .int (nI (I + q)), .ref (qR g1 rr)]) (by rw [show (((-1) : Int32).toInt64) = (-1) from rfl]) ?_
                refine V_aloadN C dX8_work_140 5 rfl ?_
                refine V_aloadN C dX8_work_142 6 rfl ?_
                refine V_pc (pc1 := 144) rfl ?_
                have hq2 : q < N := nI_ltN9 (by omega) (by omega) c_123
                refine V_callSN C (c_X1_put l hl G X N0 M117 (U := nU σ) (J := nJ σ) (ua := fun y => qU g1 y) (ja := fun y => qJ g1 y) (qR g1 rr) (kd σ rr) (ln σ rr) (I + q) xk hraK hxk (by omega) (by omega) (-1) (-1) none none (Or.inr (Or.inl ⟨by omega, rfl, Or.inl ⟨rfl, rfl⟩⟩))) cs_X8_66 rfl rfl ⟨Nat.le_of_ble_eq_true rfl, Nat.le_of_ble_eq_true rfl⟩ ⟨(by first | exact Nat.le_of_ble_eq_true rfl | omega | (dsimp only; omega) | (simp only [List.length_cons, List.length_nil]; omega)), (by first | exact Nat.le_of_ble_eq_true rfl | omega | (dsimp only; omega) | (simp only [List.length_cons, List.length_nil]; omega))⟩ (Nat.le_of_ble_eq_true rfl) dX8_work_144 (fun _ _ _ h => px0 h) ?_
                rintro _ M_10 ⟨rfl, x9, eP, hx9, ho9, hw9⟩
                refine V_st (st' := []) rfl ?_
                have ho_11 : M_10 (qA g1 P9 K9) = some (.inr (3, [.int x0, .int (nI rr), .int (nI I), .int b, .int (-1), .int (nI N)])) := by rw [eP, hp_up_n (hp_ne ho_8 hraK (by simp))]; exact ho_8
                have ho_12 : M_10 (qH g1 2) = some (.inr (12, [.int 1, .ref (qN g1), .int 0, .int 10, .ref (qN g1), .ref (qN g1), .ref (qN g1)])) := by rw [eP, hp_up_n (hp_ne ho_9 hraK (by simp))]; exact ho_9
                have hn_13 : M_10 (qR g1 rr) = some (.inl (G.2 (kd σ rr), x9)) := by rw [eP]; exact hp_up_s
                have fr_14 := hp_fr.set hfrK (Or.inl rfl) eP
                have sh_15 := hp_sh.set hshK hraK eP rfl
                refine V_iinc (v := nI (q + 1)) C dX8_work_147 (k := 7) rfl (nI_add q 1) (Nat.le_of_ble_eq_true rfl) [(0, .ref (qH g1 2)), (1, .ref (qA g1 P9 K9)), (2, .ref (qC g1 c9)), (3, .int (nI 9)), (4, .ref (qR g1 rr)), (5, .null), (6, .null), (7, .int (nI (q + 1)))] [1, 2, 3, 4, 5, 6, 7, 0] rfl ?_
                refine V_goto (tgt := 117) C dX8_work_150 (by decide) ?_
                have hin2 : ∀ y, I ≤ y → y < I + (q + 1) → CE (nU σ) (nJ σ) (fun y => qU g1 y) (fun y => qJ g1 y) (kd σ rr) x9 y (-1) := fun y y1 y2 => by
                  by_cases e : y = I + q
                  · rw [e]; exact hw9
                  · exact (hin y y1 (by omega)).at_ (ho9 y e)
                have hcv2 : ∀ y, ¬ (I ≤ y ∧ y < I + (q + 1)) → cv x9.2 y = cv xr1.2 y := fun y y1 => (ho9 y (by omega)).trans (hcvk y (by omega))
                exact ih117 (q + 1) x9 _ (by omega) (by omega) hin2 hcv2 hx9 hn_13 fr_14 sh_15
          refine V_loc (L' := [(0, .ref (qH g1 2)), (1, .ref (qA g1 P9 K9)), (2, .ref (qC g1 c9)), (3, .int (nI 9)), (4, .ref (qR g1 rr)), (5, .null), (6, .null), (7, .int 0)]) [0, 1, 2, 3, 4, 5, 6, 7] rfl ?_
          exact lp_117 _ 0 xr1 _ (Nat.lt_succ_self _) (Nat.zero_le _) (fun y h1 h2 => by omega) (fun y _ => rfl) hrx1 hra1 hfr3 hs3
        · exact absurd c_83 (by decide)
  · exact absurd hgb (bI_0.mp c_31)
set_option maxHeartbeats 1000000 in
theorem c_X8_work_B9nz (l : Launch) (hl : l.stackTraces = false) (G : hp_G) (X : Nat → Nat) (N0 : Nat) (M : hp_h) (g : RG) (σ : MS) (z : Nat → Int32) (C9 c9 : Nat) (hC : c9 + 1 = C9) (hR : REL G (X 0) g σ z (σ.1 31) C9 M) (hI : MI σ) (P9 K9 rr : Nat) (x0 i b j n : Int32) (hP9 : P9 < 6) (hK9 : K9 < psz σ P9) (hr : rr < nR σ) (hAF : AF σ P9 K9 = [.int x0, .int (nI rr), .int i, .int b, .int j, .int n]) (hk9 : 0 ≤ kd σ rr ∧ kd σ rr ≤ 10) (hkk : kd σ rr = 9) (hj : j = -1) (hg : mf_goes σ (nI (kd σ rr)) j.toInt64) (hp : mf_places σ rr i n) (hm : MW σ) (h0 : σ.2.2.2 = 0) (hn0 : n = 0) : HM l yX8_work (wsW_ yX8_work cX8_work 8 (some .long) [(114, 153, 156, 70)]) 24 11400 9 300 G X N0 [.ref (qH g 2), .ref (qA g P9 K9), .ref (qC g c9)] M (WP G (X 0) g σ z C9 M (mf_fill σ rr i j n)) PX0 := by
  refine HM.ofH hl [(0, .ref (qH g 2)), (1, .ref (qA g P9 K9)), (2, .ref (qC g c9))] (by decide +kernel) rfl (Nat.le_of_ble_eq_true rfl) ?_
  intro p e s m args below meth c C hname
  have hN := hR.N
  obtain ⟨mdR, hRl⟩ := hR.Rl
  obtain ⟨fR, hRs, hRf⟩ := hR.Rls
  obtain ⟨mdU, hUl⟩ := hR.Ul
  obtain ⟨fU, hUs, hUf⟩ := hR.Uls
  have hH9 : M (qH g 2) = some (.inr (12, [.int 1, .ref (qN g), .int 0, .int 10, .ref (qN g), .ref (qN g), .ref (qN g)])) := hR.H (by decide)
  have hac : M (qA g P9 K9) = some (.inr (3, [.int x0, .int (nI rr), .int i, .int b, .int j, .int n])) := (hR.A hP9 hK9).trans (congrArg (fun y => some (Sum.inr (3, y))) hAF)
  have hcC : c9 < C9 := by omega
  have hCc := hR.Cc hcC
  subst hj
  have hgb : mf_goes σ (nI 9) (-1) := by have y := hg; rw [hkk] at y;  exact y
  refine V_aload_n C dX8_work_0 rfl 0 rfl ?_
  refine V_get C f_X8_3_12 hH9 (v := .ref (qN g)) rfl dX8_work_1 ?_
  refine V_getN C f_X8_15_0 hN (v := .ref (qRl g)) rfl dX8_work_4 ?_
  refine V_aload_n C dX8_work_7 rfl 1 rfl ?_
  refine V_getN C f_X8_19_3 hac (v := .int (nI rr)) rfl dX8_work_8 ?_
  refine V_callV C (c_J2_get l hl G X N0 M (qRl g) (qRe g) (nR σ) (gcp g 2 0) mdR fR hRl (hRs.2.2.1 (by have := hRs.2.2.2.1; omega)) (by have := hRs.2.2.2.2; omega) hRs.2.2.2.1 rr (qR g rr) hr (hRf rr hr)) cs_X8_25_1 hRl (show CLS[1]? = some (RJ2, TJ2, 3) from rfl) rfl rfl ⟨Nat.le_of_ble_eq_true rfl, Nat.le_of_ble_eq_true rfl⟩ ⟨(by first | exact Nat.le_of_ble_eq_true rfl | omega | (dsimp only; omega) | (simp only [List.length_cons, List.length_nil]; omega)), (by first | exact Nat.le_of_ble_eq_true rfl | omega | (dsimp only; omega) | (simp only [List.length_cons, List.length_nil]; omega))⟩ (Nat.le_of_ble_eq_true rfl) dX8_work_11 (fun _ _ _ h => px0 h) ?_
  rintro _ _ ⟨rfl, rfl⟩
  refine V_st (st' := [.ref (qR g rr)]) rfl ?_
  obtain ⟨xr, hra, hrx, hrc⟩ := hR.rw hr
  obtain ⟨hkE, hkL⟩ := hI.k hr
  obtain ⟨hlE, hlL⟩ := hI.l hr
  refine V_callSN C (c_X1_kindOf l hl G X N0 M (qR g rr) (kd σ rr) hkL xr hra) cs_X8_31 rfl rfl ⟨Nat.le_of_ble_eq_true rfl, Nat.le_of_ble_eq_true rfl⟩ ⟨(by first | exact Nat.le_of_ble_eq_true rfl | omega | (dsimp only; omega) | (simp only [List.length_cons, List.length_nil]; omega)), (by first | exact Nat.le_of_ble_eq_true rfl | omega | (dsimp only; omega) | (simp only [List.length_cons, List.length_nil]; omega))⟩ (Nat.le_of_ble_eq_true rfl) dX8_work_14 (fun _ _ _ h => px0 h) ?_
  rintro _ _ ⟨rfl, rfl⟩
  refine V_st (st' := [.int (nI (kd σ rr))]) rfl ?_
  refine V_st (st' := [.int (nI 9)]) (by rw [hkk]) ?_
  refine V_istore_n C dX8_work_17 rfl (Nat.le_of_ble_eq_true rfl) [(0, .ref (qH g 2)), (1, .ref (qA g P9 K9)), (2, .ref (qC g c9)), (3, .int (nI 9))] [1, 2, 3, 0] rfl ?_
  refine V_aload_n C dX8_work_18 rfl 0 rfl ?_
  refine V_get C f_X8_3_12 hH9 (v := .ref (qN g)) rfl dX8_work_19 ?_
  refine V_iload_n C dX8_work_22 rfl 3 rfl ?_
  refine V_pc (pc1 := 23) rfl ?_
  refine V_aload_n C dX8_work_23 rfl 1 rfl ?_
  refine V_getN C f_X8_35_3 hac (v := .int (-1)) rfl dX8_work_24 ?_
  refine V_i2l (v := ((-1) : Int32).toInt64) C dX8_work_27 rfl ?_
  refine V_st (st' := [.long (-1), .int (nI 9), .ref (qN g)]) (by rw [show (((-1) : Int32).toInt64) = (-1) from rfl]) ?_
  refine V_callVN C (c_X1_goes l hl G X N0 M g σ z (σ.1 31) C9 hR hI 9 (-1) (by decide)) cs_X8_38_0 hN (show CLS[0]? = some (RX1, TX1, 17) from rfl) rfl rfl ⟨Nat.le_of_ble_eq_true rfl, Nat.le_of_ble_eq_true rfl⟩ ⟨(by first | exact Nat.le_of_ble_eq_true rfl | omega | (dsimp only; omega) | (simp only [List.length_cons, List.length_nil]; omega)), (by first | exact Nat.le_of_ble_eq_true rfl | omega | (dsimp only; omega) | (simp only [List.length_cons, List.length_nil]; omega))⟩ (Nat.le_of_ble_eq_true rfl) dX8_work_28 (fun _ _ _ h => px0 h) ?_
  rintro _ _ ⟨rfl, rfl⟩
  refine V_st (st' := [.int (bI (mf_goes σ (nI 9) (-1)))]) rfl ?_
  refine V_if_ne (tgt := 43) C dX8_work_31 (by decide) (fun c_31 => ?_) (fun c_31 => ?_)
  · refine V_aload_n C dX8_work_43 rfl 0 rfl ?_
    refine V_aload_n C dX8_work_44 rfl 1 rfl ?_
    refine V_callU C (c_X7_part_12 l hl G X N0 M g σ z C9 c9 hC hR hI (qH g 2) hH9 (qA g P9 K9) x0 rr i b (-1) n hr hac hk9 hp) cs_X8_46_12 hH9 (show CLS[12]? = some (RX8, TX8, 7) from rfl) rfl rfl ⟨Nat.le_of_ble_eq_true rfl, Nat.le_of_ble_eq_true rfl⟩ ⟨(by first | exact Nat.le_of_ble_eq_true rfl | omega | (dsimp only; omega) | (simp only [List.length_cons, List.length_nil]; omega)), (by first | exact Nat.le_of_ble_eq_true rfl | omega | (dsimp only; omega) | (simp only [List.length_cons, List.length_nil]; omega))⟩ (Nat.le_of_ble_eq_true rfl) dX8_work_45 (fun _ _ _ h => px0 h) ?_
    rintro _ _ ⟨rfl, rfl⟩
    refine V_st (st' := [.ref (qR g rr)]) rfl ?_
    obtain ⟨I, N, rfl, rfl, hIN⟩ := places_n (hI.l hr) hp
    obtain rfl : N = 0 := (nI_eq (b := 0) (by omega) (by decide)).mp hn0
    refine V_astore C dX8_work_48 (Nat.le_of_ble_eq_true rfl) [(0, .ref (qH g 2)), (1, .ref (qA g P9 K9)), (2, .ref (qC g c9)), (3, .int (nI 9)), (4, .ref (qR g rr))] [1, 2, 3, 4, 0] rfl ?_
    refine V_iload_n C dX8_work_50 rfl 3 rfl ?_
    refine V_bipush (v := 8) C dX8_work_51 rfl ?_
    refine V_icmp_eq (tgt := 62) C dX8_work_53 (by decide) (fun c_53 => ?_) (fun c_53 => ?_)
    · exact absurd c_53 (by decide)
    · refine V_pc (pc1 := 56) rfl ?_
      refine V_iload_n C dX8_work_56 rfl 3 rfl ?_
      refine V_bipush (v := 9) C dX8_work_57 rfl ?_
      refine V_icmp_ne (tgt := 77) C dX8_work_59 (by decide) (fun c_59 => ?_) (fun c_59 => ?_)
      · exact absurd c_59 (by decide)
      · refine V_aload_n C dX8_work_62 rfl 0 rfl ?_
        refine V_get C f_X8_3_12 hH9 (v := .ref (qN g)) rfl dX8_work_63 ?_
        refine V_aload_n C dX8_work_66 rfl 1 rfl ?_
        refine V_getN C f_X8_35_3 hac (v := .int (-1)) rfl dX8_work_67 ?_
        refine V_i2l (v := ((-1) : Int32).toInt64) C dX8_work_70 rfl ?_
        refine V_st (st' := [.long (-1), .ref (qN g)]) (by rw [show (((-1) : Int32).toInt64) = (-1) from rfl]) ?_
        refine V_callVN C (c_X1_unitOf_n l hl G X N0 M g σ z (σ.1 31) C9 hR hI (-1) (by decide)) cs_X8_50_0 hN (show CLS[0]? = some (RX1, TX1, 17) from rfl) rfl rfl ⟨Nat.le_of_ble_eq_true rfl, Nat.le_of_ble_eq_true rfl⟩ ⟨(by first | exact Nat.le_of_ble_eq_true rfl | omega | (dsimp only; omega) | (simp only [List.length_cons, List.length_nil]; omega)), (by first | exact Nat.le_of_ble_eq_true rfl | omega | (dsimp only; omega) | (simp only [List.length_cons, List.length_nil]; omega))⟩ (Nat.le_of_ble_eq_true rfl) dX8_work_71 (fun _ _ _ h => px0 h) ?_
        rintro _ _ ⟨rfl, rfl⟩
        refine V_st (st' := [.null]) rfl ?_
        refine V_goto (tgt := 78) C dX8_work_74 (by decide) ?_
        refine V_astoreN C dX8_work_78 (Nat.le_of_ble_eq_true rfl) [(0, .ref (qH g 2)), (1, .ref (qA g P9 K9)), (2, .ref (qC g c9)), (3, .int (nI 9)), (4, .ref (qR g rr)), (5, .null)] [1, 2, 3, 4, 5, 0] rfl ?_
        refine V_iload_n C dX8_work_80 rfl 3 rfl ?_
        refine V_pc (pc1 := 81) rfl ?_
        refine V_bipush (v := 10) C dX8_work_81 rfl ?_
        refine V_icmp_ne (tgt := 103) C dX8_work_83 (by decide) (fun c_83 => ?_) (fun c_83 => ?_)
        · refine V_null C dX8_work_103 ?_
          refine V_astoreN C dX8_work_104 (Nat.le_of_ble_eq_true rfl) [(0, .ref (qH g 2)), (1, .ref (qA g P9 K9)), (2, .ref (qC g c9)), (3, .int (nI 9)), (4, .ref (qR g rr)), (5, .null), (6, .null)] [1, 2, 3, 4, 5, 6, 0] rfl ?_
          refine V_aload_n C dX8_work_106 rfl 2 rfl ?_
          refine V_aload_n C dX8_work_107 rfl 1 rfl ?_
          refine V_getN C f_X8_19_3 hac (v := .int (nI rr)) rfl dX8_work_108 ?_
          have hfr : hp_fr (fun _ => False) M M := hp_fr.rf
          have hsh : hp_sh M M := hp_sh.rf
          refine V_callV C (c_X25_keep l hl G X N0 M g σ z C9 c9 hC hR hI hm rr hr) cs_X8_54_4 hCc (show CLS[4]? = some (RX25, TX25, 8) from rfl) rfl rfl ⟨Nat.le_of_ble_eq_true rfl, Nat.le_of_ble_eq_true rfl⟩ ⟨(by first | exact Nat.le_of_ble_eq_true rfl | omega | (dsimp only; omega) | (simp only [List.length_cons, List.length_nil]; omega)), (by first | exact Nat.le_of_ble_eq_true rfl | omega | (dsimp only; omega) | (simp only [List.length_cons, List.length_nil]; omega))⟩ (Nat.le_of_ble_eq_true rfl) dX8_work_111 (fun _ _ _ h => px0 h) ?_
          rintro _ M_1 ⟨rfl, g1, hk1, hR1, hkw1, hKp1⟩
          refine V_st (st' := []) rfl ?_
          have eg_2 : (qH g1 2) = (qH g 2) := hk1 13 2 0 (by decide) (by decide)
          have eg_3 : (qA g1 P9 K9) = (qA g P9 K9) := hk1 11 P9 K9 (by decide) (by decide)
          have eg_4 : (qC g1 c9) = (qC g c9) := hk1 15 c9 0 (by decide) (by decide)
          have eg_5 : (qR g1 rr) = (qR g rr) := hk1 5 rr 0 (by decide) (by decide)
          refine V_loc (L' := [(0, .ref (qH g1 2)), (1, .ref (qA g1 P9 K9)), (2, .ref (qC g1 c9)), (3, .int (nI 9)), (4, .ref (qR g1 rr)), (5, .null), (6, .null)]) [0, 1, 2, 3, 4, 5, 6] (by rw [eg_2, eg_3, eg_4, eg_5]; rfl) ?_
          have hac1 : M_1 (qA g1 P9 K9) = some (.inr (3, [.int x0, .int (nI rr), .int (nI I), .int b, .int (-1), .int (nI 0)])) := (hR1.A hP9 hK9).trans (congrArg (fun y => some (Sum.inr (3, y))) hAF)
          have hH1 : M_1 (qH g1 2) = some (.inr (12, [.int 1, .ref (qN g1), .int 0, .int 10, .ref (qN g1), .ref (qN g1), .ref (qN g1)])) := hR1.H (by decide)
          have sh_6 := hsh.trans hKp1.2.2
          obtain ⟨xr1, hra1, hrx1, hrc1⟩ := hR1.rw hr
          refine V_iconst (v := 0) C dX8_work_114 rfl ?_
          refine V_istore C dX8_work_115 (Nat.le_of_ble_eq_true rfl) [(0, .ref (qH g1 2)), (1, .ref (qA g1 P9 K9)), (2, .ref (qC g1 c9)), (3, .int (nI 9)), (4, .ref (qR g1 rr)), (5, .null), (6, .null), (7, .int 0)] [1, 2, 3, 4, 5, 6, 7, 0] rfl ?_
          refine V_iload C dX8_work_117 7 rfl ?_
          refine V_aload_n C dX8_work_119 rfl 1 rfl ?_
          refine V_pc (pc1 := 120) rfl ?_
          refine V_getN C f_X8_60_3 hac1 (v := .int (nI 0)) rfl dX8_work_120 ?_
          refine V_icmp_ge (tgt := 153) C dX8_work_123 (by decide) (fun c_123 => ?_) (fun c_123 => ?_)
          · refine V_goto (tgt := 167) C dX8_work_153 (by decide) ?_
            refine V_lconst (v := 0) C dX8_work_167 rfl ?_
            refine V_lret C dX8_work_168 rfl ?_ (by first | exact Nat.le_of_ble_eq_true rfl | omega | (dsimp only; omega) | (simp only [List.length_cons, List.length_nil]; omega)) (by first | exact Nat.le_of_ble_eq_true rfl | omega | (dsimp only; omega) | (simp only [List.length_cons, List.length_nil]; omega))
            exact WP.of9 (σ' := σ) ⟨hR1, (RKp.grow (fun _ _ _ y => y) hfr).trans hKp1 (Nat.le_refl _) (Nat.le_refl _) (fun _ _ _ _ _ _ _ hd _ _ => hd)⟩ (fill_z hI hr hg hp (by omega)) h0 rfl
          · exact absurd c_123 (by decide)
        · exact absurd c_83 (by decide)
  · exact absurd hgb (bI_0.mp c_31)
set_option maxHeartbeats 1000000 in
theorem c_X8_work_B9u (l : Launch) (hl : l.stackTraces = false) (G : hp_G) (X : Nat → Nat) (N0 : Nat) (M : hp_h) (g : RG) (σ : MS) (z : Nat → Int32) (C9 c9 : Nat) (hC : c9 + 1 = C9) (hR : REL G (X 0) g σ z (σ.1 31) C9 M) (hI : MI σ) (P9 K9 rr : Nat) (x0 i b j n : Int32) (hP9 : P9 < 6) (hK9 : K9 < psz σ P9) (hr : rr < nR σ) (hAF : AF σ P9 K9 = [.int x0, .int (nI rr), .int i, .int b, .int j, .int n]) (hk9 : 0 ≤ kd σ rr ∧ kd σ rr ≤ 10) (hkk : kd σ rr = 9) (u : Nat) (hu : u < nU σ) (hj : j = nI u) (hg : mf_goes σ (nI (kd σ rr)) j.toInt64) (hp : mf_places σ rr i n) (hm : MW σ) (h0 : σ.2.2.2 = 0) (hn0 : n ≠ 0) (hcd : (σ.2.1 6 u).toNatClampNeg ≠ 0) : HM l yX8_work (wsW_ yX8_work cX8_work 8 (some .long) [(114, 153, 156, 70)]) 24 11400 9 300 G X N0 [.ref (qH g 2), .ref (qA g P9 K9), .ref (qC g c9)] M (WP G (X 0) g σ z C9 M (mf_fill σ rr i j n)) PX0 := by
  refine HM.ofH hl [(0, .ref (qH g 2)), (1, .ref (qA g P9 K9)), (2, .ref (qC g c9))] (by decide +kernel) rfl (Nat.le_of_ble_eq_true rfl) ?_
  intro p e s m args below meth c C hname
  have hN := hR.N
  obtain ⟨mdR, hRl⟩ := hR.Rl
  obtain ⟨fR, hRs, hRf⟩ := hR.Rls
  obtain ⟨mdU, hUl⟩ := hR.Ul
  obtain ⟨fU, hUs, hUf⟩ := hR.Uls
  have hH9 : M (qH g 2) = some (.inr (12, [.int 1, .ref (qN g), .int 0, .int 10, .ref (qN g), .ref (qN g), .ref (qN g)])) := hR.H (by decide)
  have hac : M (qA g P9 K9) = some (.inr (3, [.int x0, .int (nI rr), .int i, .int b, .int j, .int n])) := (hR.A hP9 hK9).trans (congrArg (fun y => some (Sum.inr (3, y))) hAF)
  have hcC : c9 < C9 := by omega
  have hCc := hR.Cc hcC
  subst hj
  have hgb : mf_goes σ (nI 9) (lN u) := by have y := hg; rw [hkk] at y; rw [(nI_l (by have := hI.U.2; omega))] at y;  exact y
  refine V_aload_n C dX8_work_0 rfl 0 rfl ?_
  refine V_get C f_X8_3_12 hH9 (v := .ref (qN g)) rfl dX8_work_1 ?_
  refine V_getN C f_X8_15_0 hN (v := .ref (qRl g)) rfl dX8_work_4 ?_
  refine V_aload_n C dX8_work_7 rfl 1 rfl ?_
  refine V_getN C f_X8_19_3 hac (v := .int (nI rr)) rfl dX8_work_8 ?_
  refine V_callV C (c_J2_get l hl G X N0 M (qRl g) (qRe g) (nR σ) (gcp g 2 0) mdR fR hRl (hRs.2.2.1 (by have := hRs.2.2.2.1; omega)) (by have := hRs.2.2.2.2; omega) hRs.2.2.2.1 rr (qR g rr) hr (hRf rr hr)) cs_X8_25_1 hRl (show CLS[1]? = some (RJ2, TJ2, 3) from rfl) rfl rfl ⟨Nat.le_of_ble_eq_true rfl, Nat.le_of_ble_eq_true rfl⟩ ⟨(by first | exact Nat.le_of_ble_eq_true rfl | omega | (dsimp only; omega) | (simp only [List.length_cons, List.length_nil]; omega)), (by first | exact Nat.le_of_ble_eq_true rfl | omega | (dsimp only; omega) | (simp only [List.length_cons, List.length_nil]; omega))⟩ (Nat.le_of_ble_eq_true rfl) dX8_work_11 (fun _ _ _ h => px0 h) ?_
  rintro _ _ ⟨rfl, rfl⟩
  refine V_st (st' := [.ref (qR g rr)]) rfl ?_
  obtain ⟨xr, hra, hrx, hrc⟩ := hR.rw hr
  obtain ⟨hkE, hkL⟩ := hI.k hr
  obtain ⟨hlE, hlL⟩ := hI.l hr
  refine V_callSN C (c_X1_kindOf l hl G X N0 M (qR g rr) (kd σ rr) hkL xr hra) cs_X8_31 rfl rfl ⟨Nat.le_of_ble_eq_true rfl, Nat.le_of_ble_eq_true rfl⟩ ⟨(by first | exact Nat.le_of_ble_eq_true rfl | omega | (dsimp only; omega) | (simp only [List.length_cons, List.length_nil]; omega)), (by first | exact Nat.le_of_ble_eq_true rfl | omega | (dsimp only; omega) | (simp only [List.length_cons, List.length_nil]; omega))⟩ (Nat.le_of_ble_eq_true rfl) dX8_work_14 (fun _ _ _ h => px0 h) ?_
  rintro _ _ ⟨rfl, rfl⟩
  refine V_st (st' := [.int (nI (kd σ rr))]) rfl ?_
  refine V_st (st' := [.int (nI 9)]) (by rw [hkk]) ?_
  refine V_istore_n C dX8_work_17 rfl (Nat.le_of_ble_eq_true rfl) [(0, .ref (qH g 2)), (1, .ref (qA g P9 K9)), (2, .ref (qC g c9)), (3, .int (nI 9))] [1, 2, 3, 0] rfl ?_
  refine V_aload_n C dX8_work_18 rfl 0 rfl ?_
  refine V_get C f_X8_3_12 hH9 (v := .ref (qN g)) rfl dX8_work_19 ?_
  refine V_iload_n C dX8_work_22 rfl 3 rfl ?_
  refine V_pc (pc1 := 23) rfl ?_
  refine V_aload_n C dX8_work_23 rfl 1 rfl ?_
  refine V_getN C f_X8_35_3 hac (v := .int (nI u)) rfl dX8_work_24 ?_
  refine V_i2l (v := (nI u).toInt64) C dX8_work_27 rfl ?_
  refine V_st (st' := [.long (lN u), .int (nI 9), .ref (qN g)]) (by rw [show ((nI u).toInt64) = (lN u) from (nI_l (by have := hI.U.2; omega))]) ?_
  refine V_callVN C (c_X1_goes l hl G X N0 M g σ z (σ.1 31) C9 hR hI 9 (lN u) (by decide)) cs_X8_38_0 hN (show CLS[0]? = some (RX1, TX1, 17) from rfl) rfl rfl ⟨Nat.le_of_ble_eq_true rfl, Nat.le_of_ble_eq_true rfl⟩ ⟨(by first | exact Nat.le_of_ble_eq_true rfl | omega | (dsimp only; omega) | (simp only [List.length_cons, List.length_nil]; omega)), (by first | exact Nat.le_of_ble_eq_true rfl | omega | (dsimp only; omega) | (simp only [List.length_cons, List.length_nil]; omega))⟩ (Nat.le_of_ble_eq_true rfl) dX8_work_28 (fun _ _ _ h => px0 h) ?_
  rintro _ _ ⟨rfl, rfl⟩
  refine V_st (st' := [.int (bI (mf_goes σ (nI 9) (lN u)))]) rfl ?_
  refine V_if_ne (tgt := 43) C dX8_work_31 (by decide) (fun c_31 => ?_) (fun c_31 => ?_)
  · refine V_aload_n C dX8_work_43 rfl 0 rfl ?_
    refine V_aload_n C dX8_work_44 rfl 1 rfl ?_
    refine V_callU C (c_X7_part_12 l hl G X N0 M g σ z C9 c9 hC hR hI (qH g 2) hH9 (qA g P9 K9) x0 rr i b (nI u) n hr hac hk9 hp) cs_X8_46_12 hH9 (show CLS[12]? = some (RX8, TX8, 7) from rfl) rfl rfl ⟨Nat.le_of_ble_eq_true rfl, Nat.le_of_ble_eq_true rfl⟩ ⟨(by first | exact Nat.le_of_ble_eq_true rfl | omega | (dsimp only; omega) | (simp only [List.length_cons, List.length_nil]; omega)), (by first | exact Nat.le_of_ble_eq_true rfl | omega | (dsimp only; omega) | (simp only [List.length_cons, List.length_nil]; omega))⟩ (Nat.le_of_ble_eq_true rfl) dX8_work_45 (fun _ _ _ h => px0 h) ?_
    rintro _ _ ⟨rfl, rfl⟩
    refine V_st (st' := [.ref (qR g rr)]) rfl ?_
    obtain ⟨I, N, rfl, rfl, hIN⟩ := places_n (hI.l hr) hp
    have hNp : 0 < N := Nat.pos_of_ne_zero (fun y => hn0 (by rw [y]; rfl))
    refine V_astore C dX8_work_48 (Nat.le_of_ble_eq_true rfl) [(0, .ref (qH g 2)), (1, .ref (qA g P9 K9)), (2, .ref (qC g c9)), (3, .int (nI 9)), (4, .ref (qR g rr))] [1, 2, 3, 4, 0] rfl ?_
    refine V_iload_n C dX8_work_50 rfl 3 rfl ?_
    refine V_bipush (v := 8) C dX8_work_51 rfl ?_
    refine V_icmp_eq (tgt := 62) C dX8_work_53 (by decide) (fun c_53 => ?_) (fun c_53 => ?_)
    · exact absurd c_53 (by decide)
    · refine V_pc (pc1 := 56) rfl ?_
      refine V_iload_n C dX8_work_56 rfl 3 rfl ?_
      refine V_bipush (v := 9) C dX8_work_57 rfl ?_
      refine V_icmp_ne (tgt := 77) C dX8_work_59 (by decide) (fun c_59 => ?_) (fun c_59 => ?_)
      · exact absurd c_59 (by decide)
      · refine V_aload_n C dX8_work_62 rfl 0 rfl ?_
        refine V_get C f_X8_3_12 hH9 (v := .ref (qN g)) rfl dX8_work_63 ?_
        refine V_aload_n C dX8_work_66 rfl 1 rfl ?_
        refine V_getN C f_X8_35_3 hac (v := .int (nI u)) rfl dX8_work_67 ?_
        refine V_i2l (v := (nI u).toInt64) C dX8_work_70 rfl ?_
        refine V_st (st' := [.long (lN u), .ref (qN g)]) (by rw [show ((nI u).toInt64) = (lN u) from (nI_l (by have := hI.U.2; omega))]) ?_
        refine V_callVN C (c_X1_unitOf_u l hl G X N0 M g σ z (σ.1 31) C9 hR hI u hu) cs_X8_50_0 hN (show CLS[0]? = some (RX1, TX1, 17) from rfl) rfl rfl ⟨Nat.le_of_ble_eq_true rfl, Nat.le_of_ble_eq_true rfl⟩ ⟨(by first | exact Nat.le_of_ble_eq_true rfl | omega | (dsimp only; omega) | (simp only [List.length_cons, List.length_nil]; omega)), (by first | exact Nat.le_of_ble_eq_true rfl | omega | (dsimp only; omega) | (simp only [List.length_cons, List.length_nil]; omega))⟩ (Nat.le_of_ble_eq_true rfl) dX8_work_71 (fun _ _ _ h => px0 h) ?_
        rintro _ _ ⟨rfl, rfl⟩
        refine V_st (st' := [.ref (qU g u)]) rfl ?_
        refine V_goto (tgt := 78) C dX8_work_74 (by decide) ?_
        refine V_astore C dX8_work_78 (Nat.le_of_ble_eq_true rfl) [(0, .ref (qH g 2)), (1, .ref (qA g P9 K9)), (2, .ref (qC g c9)), (3, .int (nI 9)), (4, .ref (qR g rr)), (5, .ref (qU g u))] [1, 2, 3, 4, 5, 0] rfl ?_
        refine V_iload_n C dX8_work_80 rfl 3 rfl ?_
        refine V_pc (pc1 := 81) rfl ?_
        refine V_bipush (v := 10) C dX8_work_81 rfl ?_
        refine V_icmp_ne (tgt := 103) C dX8_work_83 (by decide) (fun c_83 => ?_) (fun c_83 => ?_)
        · refine V_null C dX8_work_103 ?_
          refine V_astoreN C dX8_work_104 (Nat.le_of_ble_eq_true rfl) [(0, .ref (qH g 2)), (1, .ref (qA g P9 K9)), (2, .ref (qC g c9)), (3, .int (nI 9)), (4, .ref (qR g rr)), (5, .ref (qU g u)), (6, .null)] [1, 2, 3, 4, 5, 6, 0] rfl ?_
          refine V_aload_n C dX8_work_106 rfl 2 rfl ?_
          refine V_aload_n C dX8_work_107 rfl 1 rfl ?_
          refine V_getN C f_X8_19_3 hac (v := .int (nI rr)) rfl dX8_work_108 ?_
          have hfr : hp_fr (fun _ => False) M M := hp_fr.rf
          have hsh : hp_sh M M := hp_sh.rf
          refine V_callV C (c_X25_keep l hl G X N0 M g σ z C9 c9 hC hR hI hm rr hr) cs_X8_54_4 hCc (show CLS[4]? = some (RX25, TX25, 8) from rfl) rfl rfl ⟨Nat.le_of_ble_eq_true rfl, Nat.le_of_ble_eq_true rfl⟩ ⟨(by first | exact Nat.le_of_ble_eq_true rfl | omega | (dsimp only; omega) | (simp only [List.length_cons, List.length_nil]; omega)), (by first | exact Nat.le_of_ble_eq_true rfl | omega | (dsimp only; omega) | (simp only [List.length_cons, List.length_nil]; omega))⟩ (Nat.le_of_ble_eq_true rfl) dX8_work_111 (fun _ _ _ h => px0 h) ?_
          rintro _ M_1 ⟨rfl, g1, hk1, hR1, hkw1, hKp1⟩
          refine V_st (st' := []) rfl ?_
          have eg_2 : (qH g1 2) = (qH g 2) := hk1 13 2 0 (by decide) (by decide)
          have eg_3 : (qA g1 P9 K9) = (qA g P9 K9) := hk1 11 P9 K9 (by decide) (by decide)
          have eg_4 : (qC g1 c9) = (qC g c9) := hk1 15 c9 0 (by decide) (by decide)
          have eg_5 : (qR g1 rr) = (qR g rr) := hk1 5 rr 0 (by decide) (by decide)
          have eg_6 : (qU g1 u) = (qU g u) := hk1 6 u 0 (by decide) (by decide)
          refine V_loc (L' := [(0, .ref (qH g1 2)), (1, .ref (qA g1 P9 K9)), (2, .ref (qC g1 c9)), (3, .int (nI 9)), (4, .ref (qR g1 rr)), (5, .ref (qU g1 u)), (6, .null)]) [0, 1, 2, 3, 4, 5, 6] (by rw [eg_2, eg_3, eg_4, eg_5, eg_6]; rfl) ?_
          have hac1 : M_1 (qA g1 P9 K9) = some (.inr (3, [.int x0, .int (nI rr), .int (nI I), .int b, .int (nI u), .int (nI N)])) := (hR1.A hP9 hK9).trans (congrArg (fun y => some (Sum.inr (3, y))) hAF)
          have hH1 : M_1 (qH g1 2) = some (.inr (12, [.int 1, .ref (qN g1), .int 0, .int 10, .ref (qN g1), .ref (qN g1), .ref (qN g1)])) := hR1.H (by decide)
          have sh_7 := hsh.trans hKp1.2.2
          obtain ⟨xr1, hra1, hrx1, hrc1⟩ := hR1.rw hr
          refine V_iconst (v := 0) C dX8_work_114 rfl ?_
          refine V_istore C dX8_work_115 (Nat.le_of_ble_eq_true rfl) [(0, .ref (qH g1 2)), (1, .ref (qA g1 P9 K9)), (2, .ref (qC g1 c9)), (3, .int (nI 9)), (4, .ref (qR g1 rr)), (5, .ref (qU g1 u)), (6, .null), (7, .int 0)] [1, 2, 3, 4, 5, 6, 7, 0] rfl ?_
          have hfr3 : hp_fr (fun b => b = qR g1 rr) M_1 M_1 := hp_fr.rf
          have hs3 : hp_sh M_1 M_1 := hp_sh.rf
          have lp_117 : ∀ (fu9 : Nat) (q : Nat) (xk : vp_A) (M117 : hp_h), N - q < fu9 → (q ≤ N) → (∀ y, I ≤ y → y < I + q → CE (nU σ) (nJ σ) (fun y => qU g1 y) (fun y => qJ g1 y) (kd σ rr) xk y (lN u)) → (∀ y, ¬ (I ≤ y ∧ y < I + q) → cv xk.2 y = cv xr1.2 y) → (XT (kd σ rr) (ln σ rr) xk) → (M117 (qR g1 rr) = some (.inl (G.2 (kd σ rr), xk))) → (hp_fr (fun b => b = qR g1 rr) M_1 M117) → (hp_sh M_1 M117) → V p l e { frames := 24, cells := 9, slots := 300, locals := 11400 } s m args below meth c G N0 8 (QV below G N0 ((WP G (X 0) g σ z C9 M (mf_fill σ rr (nI I) (nI u) (nI N)))) PX0 args s (9) (300)) (0 + 2) (0 + 130) M117 117 [(0, .ref (qH g1 2)), (1, .ref (qA g1 P9 K9)), (2, .ref (qC g1 c9)), (3, .int (nI 9)), (4, .ref (qR g1 rr)), (5, .ref (qU g1 u)), (6, .null), (7, .int (nI q))] [] := by
            intro fu9
            induction fu9 with
            | zero => intro q xk M117 hfu9; exact absurd hfu9 (Nat.not_lt_zero _)
            | succ fu9 ih117 =>
              intro q xk M117 hfu9 hq hin hcvk hxk hraK hfrK hshK
              have ho_9 : M117 (qA g1 P9 K9) = some (.inr (3, [.int x0, .int (nI rr), .int (nI I), .int b, .int (nI u), .int (nI N)])) := hfrK _ _ (hp_ne hac1 hra1 (by simp)) hac1
              have ho_10 : M117 (qH g1 2) = some (.inr (12, [.int 1, .ref (qN g1), .int 0, .int 10, .ref (qN g1), .ref (qN g1), .ref (qN g1)])) := hfrK _ _ (hp_ne hH1 hra1 (by simp)) hH1
              refine V_iload C dX8_work_117 7 rfl ?_
              refine V_aload_n C dX8_work_119 rfl 1 rfl ?_
              refine V_pc (pc1 := 120) rfl ?_
              refine V_getN C f_X8_60_3 ho_9 (v := .int (nI N)) rfl dX8_work_120 ?_
              refine V_icmp_ge (tgt := 153) C dX8_work_123 (by decide) (fun c_123 => ?_) (fun c_123 => ?_)
              · refine V_goto (tgt := 167) C dX8_work_153 (by decide) ?_
                refine V_lconst (v := 0) C dX8_work_167 rfl ?_
                refine V_lret C dX8_work_168 rfl ?_ (by first | exact Nat.le_of_ble_eq_true rfl | omega | (dsimp only; omega) | (simp only [List.length_cons, List.length_nil]; omega)) (by first | exact Nat.le_of_ble_eq_true rfl | omega | (dsimp only; omega) | (simp only [List.length_cons, List.length_nil]; omega))
                have hq3 : q = N := by have := (nI_leI (by omega) (by omega)).mp c_123; omega
                subst hq3
                refine WP.of9 (σ' := sl σ 4 (mfill (σ.2.2.1 4) (40 * rr + I) q (fun _ => lN u))) (ROWK (f' := mfill (σ.2.2.1 4) (40 * rr + I) q (fun _ => lN u)) (RKp.grow (fun _ _ _ y => y) hfr) rfl (fun _ _ _ _ _ _ _ y => y) hR1 hKp1 hr hC hkw1 hraK hfrK hshK hxk (fun k hk => ?_) (fun r' k hr' hn hk => ?_) ⟨fun _ _ => rfl, fun _ _ => ⟨rfl, rfl⟩, fun _ _ => rfl, fun _ _ => rfl, rfl, fun _ _ _ _ => rfl⟩) (fill_0 hI hr hg hp hNp (by omega) (fun _ => by rw [nI_l (by have := hI.U.2; omega)]; exact Or.inr (isCard_lN hI hu hcd)) (by rw [hkk, nI_l (by have := hI.U.2; omega)]; exact asE_V (k := 9) (by decide) _)) h0 rfl
                · by_cases e : I ≤ k ∧ k < I + q
                  · rw [show 40 * rr + k = 40 * rr + I + (k - I) by omega, mfill_in (by omega)]
                    exact hin k e.1 e.2
                  · rw [mfill_out (by omega)]
                    exact (hrc1 k hk).at_ (hcvk k e)
                · have : ln σ r' ≤ 40 := (hI.l hr').2
                  have hk' : k < ln σ r' := hk
                  exact mfill_out (by omega)
              · refine V_aload C dX8_work_126 4 rfl ?_
                refine V_aload_n C dX8_work_128 rfl 1 rfl ?_
                refine V_getN C f_X8_63_3 ho_9 (v := .int (nI I)) rfl dX8_work_129 ?_
                refine V_iload C dX8_work_132 7 rfl ?_
                refine V_iadd C dX8_work_134 ?_
                refine V_st (st' := [.int (nI (I + q)), .ref (qR g1 rr)]) (by rw [show ((nI I) + (nI q)) = (nI (I + q)) from nI_add I q]) ?_
                refine V_aload_n C dX8_work_135 rfl 1 rfl ?_
                refine V_getN C f_X8_35_3 ho_9 (v := .int (nI u)) rfl dX8_work_136 ?_
                refine V_i2l (v := (nI u).toInt64) C dX8_work_139 rfl ?_
                refine V_st (st' := [.long (lN u), .int (nI (I + q)), .ref (qR g1 rr)]) (by rw [show ((nI u).toInt64) = (lN u) from (nI_l (by have := hI.U.2; omega))]) ?_
                refine V_aload C dX8_work_140 5 rfl ?_
                refine V_aloadN C dX8_work_142 6 rfl ?_
                refine V_pc (pc1 := 144) rfl ?_
                have hq2 : q < N := nI_ltN9 (by omega) (by omega) c_123
                have hRk : RELY G (X 0) g1 σ z (σ.1 31) C9 (fun _ => False) M_1 := hR1
                refine V_callSN C (c_X1_put l hl G X N0 M117 (U := nU σ) (J := nJ σ) (ua := fun y => qU g1 y) (ja := fun y => qJ g1 y) (qR g1 rr) (kd σ rr) (ln σ rr) (I + q) xk hraK hxk (by omega) (by omega) (lN u) (lN u) (some (qU g1 u)) none (Or.inr (Or.inl ⟨by omega, rfl, Or.inr ⟨u, hu, rfl, rfl, by rw [hkk]; exact hp_AS.sh0 (hRk.asC hI hu hcd) hshK⟩⟩))) cs_X8_66 rfl rfl ⟨Nat.le_of_ble_eq_true rfl, Nat.le_of_ble_eq_true rfl⟩ ⟨(by first | exact Nat.le_of_ble_eq_true rfl | omega | (dsimp only; omega) | (simp only [List.length_cons, List.length_nil]; omega)), (by first | exact Nat.le_of_ble_eq_true rfl | omega | (dsimp only; omega) | (simp only [List.length_cons, List.length_nil]; omega))⟩ (Nat.le_of_ble_eq_true rfl) dX8_work_144 (fun _ _ _ h => px0 h) ?_
                rintro _ M_11 ⟨rfl, x9, eP, hx9, ho9, hw9⟩
                refine V_st (st' := []) rfl ?_
                have ho_12 : M_11 (qA g1 P9 K9) = some (.inr (3, [.int x0, .int (nI rr), .int (nI I), .int b, .int (nI u), .int (nI N)])) := by rw [eP, hp_up_n (hp_ne ho_9 hraK (by simp))]; exact ho_9
                have ho_13 : M_11 (qH g1 2) = some (.inr (12, [.int 1, .ref (qN g1), .int 0, .int 10, .ref (qN g1), .ref (qN g1), .ref (qN g1)])) := by rw [eP, hp_up_n (hp_ne ho_10 hraK (by simp))]; exact ho_10
                have hn_14 : M_11 (qR g1 rr) = some (.inl (G.2 (kd σ rr), x9)) := by rw [eP]; exact hp_up_s
                have fr_15 := hp_fr.set hfrK (Or.inl rfl) eP
                have sh_16 := hp_sh.set hshK hraK eP rfl
                refine V_iinc (v := nI (q + 1)) C dX8_work_147 (k := 7) rfl (nI_add q 1) (Nat.le_of_ble_eq_true rfl) [(0, .ref (qH g1 2)), (1, .ref (qA g1 P9 K9)), (2, .ref (qC g1 c9)), (3, .int (nI 9)), (4, .ref (qR g1 rr)), (5, .ref (qU g1 u)), (6, .null), (7, .int (nI (q + 1)))] [1, 2, 3, 4, 5, 6, 7, 0] rfl ?_
                refine V_goto (tgt := 117) C dX8_work_150 (by decide) ?_
                have hin2 : ∀ y, I ≤ y → y < I + (q + 1) → CE (nU σ) (nJ σ) (fun y => qU g1 y) (fun y => qJ g1 y) (kd σ rr) x9 y (lN u) := fun y y1 y2 => by
                  by_cases e : y = I + q
                  · rw [e]; exact hw9
                  · exact (hin y y1 (by omega)).at_ (ho9 y e)
                have hcv2 : ∀ y, ¬ (I ≤ y ∧ y < I + (q + 1)) → cv x9.2 y = cv xr1.2 y := fun y y1 => (ho9 y (by omega)).trans (hcvk y (by omega))
                exact ih117 (q + 1) x9 _ (by omega) (by omega) hin2 hcv2 hx9 hn_14 fr_15 sh_16
          refine V_loc (L' := [(0, .ref (qH g1 2)), (1, .ref (qA g1 P9 K9)), (2, .ref (qC g1 c9)), (3, .int (nI 9)), (4, .ref (qR g1 rr)), (5, .ref (qU g1 u)), (6, .null), (7, .int 0)]) [0, 1, 2, 3, 4, 5, 6, 7] rfl ?_
          exact lp_117 _ 0 xr1 _ (Nat.lt_succ_self _) (Nat.zero_le _) (fun y h1 h2 => by omega) (fun y _ => rfl) hrx1 hra1 hfr3 hs3
        · exact absurd c_83 (by decide)
  · exact absurd hgb (bI_0.mp c_31)
set_option maxHeartbeats 1000000 in
theorem c_X8_work_B9uz (l : Launch) (hl : l.stackTraces = false) (G : hp_G) (X : Nat → Nat) (N0 : Nat) (M : hp_h) (g : RG) (σ : MS) (z : Nat → Int32) (C9 c9 : Nat) (hC : c9 + 1 = C9) (hR : REL G (X 0) g σ z (σ.1 31) C9 M) (hI : MI σ) (P9 K9 rr : Nat) (x0 i b j n : Int32) (hP9 : P9 < 6) (hK9 : K9 < psz σ P9) (hr : rr < nR σ) (hAF : AF σ P9 K9 = [.int x0, .int (nI rr), .int i, .int b, .int j, .int n]) (hk9 : 0 ≤ kd σ rr ∧ kd σ rr ≤ 10) (hkk : kd σ rr = 9) (u : Nat) (hu : u < nU σ) (hj : j = nI u) (hg : mf_goes σ (nI (kd σ rr)) j.toInt64) (hp : mf_places σ rr i n) (hm : MW σ) (h0 : σ.2.2.2 = 0) (hn0 : n = 0) : HM l yX8_work (wsW_ yX8_work cX8_work 8 (some .long) [(114, 153, 156, 70)]) 24 11400 9 300 G X N0 [.ref (qH g 2), .ref (qA g P9 K9), .ref (qC g c9)] M (WP G (X 0) g σ z C9 M (mf_fill σ rr i j n)) PX0 := by
  refine HM.ofH hl [(0, .ref (qH g 2)), (1, .ref (qA g P9 K9)), (2, .ref (qC g c9))] (by decide +kernel) rfl (Nat.le_of_ble_eq_true rfl) ?_
  intro p e s m args below meth c C hname
  have hN := hR.N
  obtain ⟨mdR, hRl⟩ := hR.Rl
  obtain ⟨fR, hRs, hRf⟩ := hR.Rls
  obtain ⟨mdU, hUl⟩ := hR.Ul
  obtain ⟨fU, hUs, hUf⟩ := hR.Uls
  have hH9 : M (qH g 2) = some (.inr (12, [.int 1, .ref (qN g), .int 0, .int 10, .ref (qN g), .ref (qN g), .ref (qN g)])) := hR.H (by decide)
  have hac : M (qA g P9 K9) = some (.inr (3, [.int x0, .int (nI rr), .int i, .int b, .int j, .int n])) := (hR.A hP9 hK9).trans (congrArg (fun y => some (Sum.inr (3, y))) hAF)
  have hcC : c9 < C9 := by omega
  have hCc := hR.Cc hcC
  subst hj
  have hgb : mf_goes σ (nI 9) (lN u) := by have y := hg; rw [hkk] at y; rw [(nI_l (by have := hI.U.2; omega))] at y;  exact y
  refine V_aload_n C dX8_work_0 rfl 0 rfl ?_
  refine V_get C f_X8_3_12 hH9 (v := .ref (qN g)) rfl dX8_work_1 ?_
  refine V_getN C f_X8_15_0 hN (v := .ref (qRl g)) rfl dX8_work_4 ?_
  refine V_aload_n C dX8_work_7 rfl 1 rfl ?_
  refine V_getN C f_X8_19_3 hac (v := .int (nI rr)) rfl dX8_work_8 ?_
  refine V_callV C (c_J2_get l hl G X N0 M (qRl g) (qRe g) (nR σ) (gcp g 2 0) mdR fR hRl (hRs.2.2.1 (by have := hRs.2.2.2.1; omega)) (by have := hRs.2.2.2.2; omega) hRs.2.2.2.1 rr (qR g rr) hr (hRf rr hr)) cs_X8_25_1 hRl (show CLS[1]? = some (RJ2, TJ2, 3) from rfl) rfl rfl ⟨Nat.le_of_ble_eq_true rfl, Nat.le_of_ble_eq_true rfl⟩ ⟨(by first | exact Nat.le_of_ble_eq_true rfl | omega | (dsimp only; omega) | (simp only [List.length_cons, List.length_nil]; omega)), (by first | exact Nat.le_of_ble_eq_true rfl | omega | (dsimp only; omega) | (simp only [List.length_cons, List.length_nil]; omega))⟩ (Nat.le_of_ble_eq_true rfl) dX8_work_11 (fun _ _ _ h => px0 h) ?_
  rintro _ _ ⟨rfl, rfl⟩
  refine V_st (st' := [.ref (qR g rr)]) rfl ?_
  obtain ⟨xr, hra, hrx, hrc⟩ := hR.rw hr
  obtain ⟨hkE, hkL⟩ := hI.k hr
  obtain ⟨hlE, hlL⟩ := hI.l hr
  refine V_callSN C (c_X1_kindOf l hl G X N0 M (qR g rr) (kd σ rr) hkL xr hra) cs_X8_31 rfl rfl ⟨Nat.le_of_ble_eq_true rfl, Nat.le_of_ble_eq_true rfl⟩ ⟨(by first | exact Nat.le_of_ble_eq_true rfl | omega | (dsimp only; omega) | (simp only [List.length_cons, List.length_nil]; omega)), (by first | exact Nat.le_of_ble_eq_true rfl | omega | (dsimp only; omega) | (simp only [List.length_cons, List.length_nil]; omega))⟩ (Nat.le_of_ble_eq_true rfl) dX8_work_14 (fun _ _ _ h => px0 h) ?_
  rintro _ _ ⟨rfl, rfl⟩
  refine V_st (st' := [.int (nI (kd σ rr))]) rfl ?_
  refine V_st (st' := [.int (nI 9)]) (by rw [hkk]) ?_
  refine V_istore_n C dX8_work_17 rfl (Nat.le_of_ble_eq_true rfl) [(0, .ref (qH g 2)), (1, .ref (qA g P9 K9)), (2, .ref (qC g c9)), (3, .int (nI 9))] [1, 2, 3, 0] rfl ?_
  refine V_aload_n C dX8_work_18 rfl 0 rfl ?_
  refine V_get C f_X8_3_12 hH9 (v := .ref (qN g)) rfl dX8_work_19 ?_
  refine V_iload_n C dX8_work_22 rfl 3 rfl ?_
  refine V_pc (pc1 := 23) rfl ?_
  refine V_aload_n C dX8_work_23 rfl 1 rfl ?_
  refine V_getN C f_X8_35_3 hac (v := .int (nI u)) rfl dX8_work_24 ?_
  refine V_i2l (v := (nI u).toInt64) C dX8_work_27 rfl ?_
  refine V_st (st' := [.long (lN u), .int (nI 9), .ref (qN g)]) (by rw [show ((nI u).toInt64) = (lN u) from (nI_l (by have := hI.U.2; omega))]) ?_
  refine V_callVN C (c_X1_goes l hl G X N0 M g σ z (σ.1 31) C9 hR hI 9 (lN u) (by decide)) cs_X8_38_0 hN (show CLS[0]? = some (RX1, TX1, 17) from rfl) rfl rfl ⟨Nat.le_of_ble_eq_true rfl, Nat.le_of_ble_eq_true rfl⟩ ⟨(by first | exact Nat.le_of_ble_eq_true rfl | omega | (dsimp only; omega) | (simp only [List.length_cons, List.length_nil]; omega)), (by first | exact Nat.le_of_ble_eq_true rfl | omega | (dsimp only; omega) | (simp only [List.length_cons, List.length_nil]; omega))⟩ (Nat.le_of_ble_eq_true rfl) dX8_work_28 (fun _ _ _ h => px0 h) ?_
  rintro _ _ ⟨rfl, rfl⟩
  refine V_st (st' := [.int (bI (mf_goes σ (nI 9) (lN u)))]) rfl ?_
  refine V_if_ne (tgt := 43) C dX8_work_31 (by decide) (fun c_31 => ?_) (fun c_31 => ?_)
  · refine V_aload_n C dX8_work_43 rfl 0 rfl ?_
    refine V_aload_n C dX8_work_44 rfl 1 rfl ?_
    refine V_callU C (c_X7_part_12 l hl G X N0 M g σ z C9 c9 hC hR hI (qH g 2) hH9 (qA g P9 K9) x0 rr i b (nI u) n hr hac hk9 hp) cs_X8_46_12 hH9 (show CLS[12]? = some (RX8, TX8, 7) from rfl) rfl rfl ⟨Nat.le_of_ble_eq_true rfl, Nat.le_of_ble_eq_true rfl⟩ ⟨(by first | exact Nat.le_of_ble_eq_true rfl | omega | (dsimp only; omega) | (simp only [List.length_cons, List.length_nil]; omega)), (by first | exact Nat.le_of_ble_eq_true rfl | omega | (dsimp only; omega) | (simp only [List.length_cons, List.length_nil]; omega))⟩ (Nat.le_of_ble_eq_true rfl) dX8_work_45 (fun _ _ _ h => px0 h) ?_
    rintro _ _ ⟨rfl, rfl⟩
    refine V_st (st' := [.ref (qR g rr)]) rfl ?_
    obtain ⟨I, N, rfl, rfl, hIN⟩ := places_n (hI.l hr) hp
    obtain rfl : N = 0 := (nI_eq (b := 0) (by omega) (by decide)).mp hn0
    refine V_astore C dX8_work_48 (Nat.le_of_ble_eq_true rfl) [(0, .ref (qH g 2)), (1, .ref (qA g P9 K9)), (2, .ref (qC g c9)), (3, .int (nI 9)), (4, .ref (qR g rr))] [1, 2, 3, 4, 0] rfl ?_
    refine V_iload_n C dX8_work_50 rfl 3 rfl ?_
    refine V_bipush (v := 8) C dX8_work_51 rfl ?_
    refine V_icmp_eq (tgt := 62) C dX8_work_53 (by decide) (fun c_53 => ?_) (fun c_53 => ?_)
    · exact absurd c_53 (by decide)
    · refine V_pc (pc1 := 56) rfl ?_
      refine V_iload_n C dX8_work_56 rfl 3 rfl ?_
      refine V_bipush (v := 9) C dX8_work_57 rfl ?_
      refine V_icmp_ne (tgt := 77) C dX8_work_59 (by decide) (fun c_59 => ?_) (fun c_59 => ?_)
      · exact absurd c_59 (by decide)
      · refine V_aload_n C dX8_work_62 rfl 0 rfl ?_
        refine V_get C f_X8_3_12 hH9 (v := .ref (qN g)) rfl dX8_work_63 ?_
        refine V_aload_n C dX8_work_66 rfl 1 rfl ?_
        refine V_getN C f_X8_35_3 hac (v := .int (nI u)) rfl dX8_work_67 ?_
        refine V_i2l (v := (nI u).toInt64) C dX8_work_70 rfl ?_
        refine V_st (st' := [.long (lN u), .ref (qN g)]) (by rw [show ((nI u).toInt64) = (lN u) from (nI_l (by have := hI.U.2; omega))]) ?_
        refine V_callVN C (c_X1_unitOf_u l hl G X N0 M g σ z (σ.1 31) C9 hR hI u hu) cs_X8_50_0 hN (show CLS[0]? = some (RX1, TX1, 17) from rfl) rfl rfl ⟨Nat.le_of_ble_eq_true rfl, Nat.le_of_ble_eq_true rfl⟩ ⟨(by first | exact Nat.le_of_ble_eq_true rfl | omega | (dsimp only; omega) | (simp only [List.length_cons, List.length_nil]; omega)), (by first | exact Nat.le_of_ble_eq_true rfl | omega | (dsimp only; omega) | (simp only [List.length_cons, List.length_nil]; omega))⟩ (Nat.le_of_ble_eq_true rfl) dX8_work_71 (fun _ _ _ h => px0 h) ?_
        rintro _ _ ⟨rfl, rfl⟩
        refine V_st (st' := [.ref (qU g u)]) rfl ?_
        refine V_goto (tgt := 78) C dX8_work_74 (by decide) ?_
        refine V_astore C dX8_work_78 (Nat.le_of_ble_eq_true rfl) [(0, .ref (qH g 2)), (1, .ref (qA g P9 K9)), (2, .ref (qC g c9)), (3, .int (nI 9)), (4, .ref (qR g rr)), (5, .ref (qU g u))] [1, 2, 3, 4, 5, 0] rfl ?_
        refine V_iload_n C dX8_work_80 rfl 3 rfl ?_
        refine V_pc (pc1 := 81) rfl ?_
        refine V_bipush (v := 10) C dX8_work_81 rfl ?_
        refine V_icmp_ne (tgt := 103) C dX8_work_83 (by decide) (fun c_83 => ?_) (fun c_83 => ?_)
        · refine V_null C dX8_work_103 ?_
          refine V_astoreN C dX8_work_104 (Nat.le_of_ble_eq_true rfl) [(0, .ref (qH g 2)), (1, .ref (qA g P9 K9)), (2, .ref (qC g c9)), (3, .int (nI 9)), (4, .ref (qR g rr)), (5, .ref (qU g u)), (6, .null)] [1, 2, 3, 4, 5, 6, 0] rfl ?_
          refine V_aload_n C dX8_work_106 rfl 2 rfl ?_
          refine V_aload_n C dX8_work_107 rfl 1 rfl ?_
          refine V_getN C f_X8_19_3 hac (v := .int (nI rr)) rfl dX8_work_108 ?_
          have hfr : hp_fr (fun _ => False) M M := hp_fr.rf
          have hsh : hp_sh M M := hp_sh.rf
          refine V_callV C (c_X25_keep l hl G X N0 M g σ z C9 c9 hC hR hI hm rr hr) cs_X8_54_4 hCc (show CLS[4]? = some (RX25, TX25, 8) from rfl) rfl rfl ⟨Nat.le_of_ble_eq_true rfl, Nat.le_of_ble_eq_true rfl⟩ ⟨(by first | exact Nat.le_of_ble_eq_true rfl | omega | (dsimp only; omega) | (simp only [List.length_cons, List.length_nil]; omega)), (by first | exact Nat.le_of_ble_eq_true rfl | omega | (dsimp only; omega) | (simp only [List.length_cons, List.length_nil]; omega))⟩ (Nat.le_of_ble_eq_true rfl) dX8_work_111 (fun _ _ _ h => px0 h) ?_
          rintro _ M_1 ⟨rfl, g1, hk1, hR1, hkw1, hKp1⟩
          refine V_st (st' := []) rfl ?_
          have eg_2 : (qH g1 2) = (qH g 2) := hk1 13 2 0 (by decide) (by decide)
          have eg_3 : (qA g1 P9 K9) = (qA g P9 K9) := hk1 11 P9 K9 (by decide) (by decide)
          have eg_4 : (qC g1 c9) = (qC g c9) := hk1 15 c9 0 (by decide) (by decide)
          have eg_5 : (qR g1 rr) = (qR g rr) := hk1 5 rr 0 (by decide) (by decide)
          have eg_6 : (qU g1 u) = (qU g u) := hk1 6 u 0 (by decide) (by decide)
          refine V_loc (L' := [(0, .ref (qH g1 2)), (1, .ref (qA g1 P9 K9)), (2, .ref (qC g1 c9)), (3, .int (nI 9)), (4, .ref (qR g1 rr)), (5, .ref (qU g1 u)), (6, .null)]) [0, 1, 2, 3, 4, 5, 6] (by rw [eg_2, eg_3, eg_4, eg_5, eg_6]; rfl) ?_
          have hac1 : M_1 (qA g1 P9 K9) = some (.inr (3, [.int x0, .int (nI rr), .int (nI I), .int b, .int (nI u), .int (nI 0)])) := (hR1.A hP9 hK9).trans (congrArg (fun y => some (Sum.inr (3, y))) hAF)
          have hH1 : M_1 (qH g1 2) = some (.inr (12, [.int 1, .ref (qN g1), .int 0, .int 10, .ref (qN g1), .ref (qN g1), .ref (qN g1)])) := hR1.H (by decide)
          have sh_7 := hsh.trans hKp1.2.2
          obtain ⟨xr1, hra1, hrx1, hrc1⟩ := hR1.rw hr
          refine V_iconst (v := 0) C dX8_work_114 rfl ?_
          refine V_istore C dX8_work_115 (Nat.le_of_ble_eq_true rfl) [(0, .ref (qH g1 2)), (1, .ref (qA g1 P9 K9)), (2, .ref (qC g1 c9)), (3, .int (nI 9)), (4, .ref (qR g1 rr)), (5, .ref (qU g1 u)), (6, .null), (7, .int 0)] [1, 2, 3, 4, 5, 6, 7, 0] rfl ?_
          refine V_iload C dX8_work_117 7 rfl ?_
          refine V_aload_n C dX8_work_119 rfl 1 rfl ?_
          refine V_pc (pc1 := 120) rfl ?_
          refine V_getN C f_X8_60_3 hac1 (v := .int (nI 0)) rfl dX8_work_120 ?_
          refine V_icmp_ge (tgt := 153) C dX8_work_123 (by decide) (fun c_123 => ?_) (fun c_123 => ?_)
          · refine V_goto (tgt := 167) C dX8_work_153 (by decide) ?_
            refine V_lconst (v := 0) C dX8_work_167 rfl ?_
            refine V_lret C dX8_work_168 rfl ?_ (by first | exact Nat.le_of_ble_eq_true rfl | omega | (dsimp only; omega) | (simp only [List.length_cons, List.length_nil]; omega)) (by first | exact Nat.le_of_ble_eq_true rfl | omega | (dsimp only; omega) | (simp only [List.length_cons, List.length_nil]; omega))
            exact WP.of9 (σ' := σ) ⟨hR1, (RKp.grow (fun _ _ _ y => y) hfr).trans hKp1 (Nat.le_refl _) (Nat.le_refl _) (fun _ _ _ _ _ _ _ hd _ _ => hd)⟩ (fill_z hI hr hg hp (by omega)) h0 rfl
          · exact absurd c_123 (by decide)
        · exact absurd c_83 (by decide)
  · exact absurd hgb (bI_0.mp c_31)
set_option maxHeartbeats 1000000 in
theorem c_X8_work_Cn (l : Launch) (hl : l.stackTraces = false) (G : hp_G) (X : Nat → Nat) (N0 : Nat) (M : hp_h) (g : RG) (σ : MS) (z : Nat → Int32) (C9 c9 : Nat) (hC : c9 + 1 = C9) (hR : REL G (X 0) g σ z (σ.1 31) C9 M) (hI : MI σ) (P9 K9 rr : Nat) (x0 i b j n : Int32) (hP9 : P9 < 6) (hK9 : K9 < psz σ P9) (hr : rr < nR σ) (hAF : AF σ P9 K9 = [.int x0, .int (nI rr), .int i, .int b, .int j, .int n]) (hk9 : 0 ≤ kd σ rr ∧ kd σ rr ≤ 10) (hkk : kd σ rr = 10) (hj : j = -1) (hg : mf_goes σ (nI (kd σ rr)) j.toInt64) (hp : mf_places σ rr i n) (hm : MW σ) (h0 : σ.2.2.2 = 0) (hn0 : n ≠ 0) : HM l yX8_work (wsW_ yX8_work cX8_work 8 (some .long) [(114, 153, 156, 70)]) 24 11400 9 300 G X N0 [.ref (qH g 2), .ref (qA g P9 K9), .ref (qC g c9)] M (WP G (X 0) g σ z C9 M (mf_fill σ rr i j n)) PX0 := by
  refine HM.ofH hl [(0, .ref (qH g 2)), (1, .ref (qA g P9 K9)), (2, .ref (qC g c9))] (by decide +kernel) rfl (Nat.le_of_ble_eq_true rfl) ?_
  intro p e s m args below meth c C hname
  have hN := hR.N
  obtain ⟨mdR, hRl⟩ := hR.Rl
  obtain ⟨fR, hRs, hRf⟩ := hR.Rls
  obtain ⟨mdU, hUl⟩ := hR.Ul
  obtain ⟨fU, hUs, hUf⟩ := hR.Uls
  have hH9 : M (qH g 2) = some (.inr (12, [.int 1, .ref (qN g), .int 0, .int 10, .ref (qN g), .ref (qN g), .ref (qN g)])) := hR.H (by decide)
  have hac : M (qA g P9 K9) = some (.inr (3, [.int x0, .int (nI rr), .int i, .int b, .int j, .int n])) := (hR.A hP9 hK9).trans (congrArg (fun y => some (Sum.inr (3, y))) hAF)
  have hcC : c9 < C9 := by omega
  have hCc := hR.Cc hcC
  subst hj
  have hgb : mf_goes σ (nI 10) (-1) := by have y := hg; rw [hkk] at y;  exact y
  refine V_aload_n C dX8_work_0 rfl 0 rfl ?_
  refine V_get C f_X8_3_12 hH9 (v := .ref (qN g)) rfl dX8_work_1 ?_
  refine V_getN C f_X8_15_0 hN (v := .ref (qRl g)) rfl dX8_work_4 ?_
  refine V_aload_n C dX8_work_7 rfl 1 rfl ?_
  refine V_getN C f_X8_19_3 hac (v := .int (nI rr)) rfl dX8_work_8 ?_
  refine V_callV C (c_J2_get l hl G X N0 M (qRl g) (qRe g) (nR σ) (gcp g 2 0) mdR fR hRl (hRs.2.2.1 (by have := hRs.2.2.2.1; omega)) (by have := hRs.2.2.2.2; omega) hRs.2.2.2.1 rr (qR g rr) hr (hRf rr hr)) cs_X8_25_1 hRl (show CLS[1]? = some (RJ2, TJ2, 3) from rfl) rfl rfl ⟨Nat.le_of_ble_eq_true rfl, Nat.le_of_ble_eq_true rfl⟩ ⟨(by first | exact Nat.le_of_ble_eq_true rfl | omega | (dsimp only; omega) | (simp only [List.length_cons, List.length_nil]; omega)), (by first | exact Nat.le_of_ble_eq_true rfl | omega | (dsimp only; omega) | (simp only [List.length_cons, List.length_nil]; omega))⟩ (Nat.le_of_ble_eq_true rfl) dX8_work_11 (fun _ _ _ h => px0 h) ?_
  rintro _ _ ⟨rfl, rfl⟩
  refine V_st (st' := [.ref (qR g rr)]) rfl ?_
  obtain ⟨xr, hra, hrx, hrc⟩ := hR.rw hr
  obtain ⟨hkE, hkL⟩ := hI.k hr
  obtain ⟨hlE, hlL⟩ := hI.l hr
  refine V_callSN C (c_X1_kindOf l hl G X N0 M (qR g rr) (kd σ rr) hkL xr hra) cs_X8_31 rfl rfl ⟨Nat.le_of_ble_eq_true rfl, Nat.le_of_ble_eq_true rfl⟩ ⟨(by first | exact Nat.le_of_ble_eq_true rfl | omega | (dsimp only; omega) | (simp only [List.length_cons, List.length_nil]; omega)), (by first | exact Nat.le_of_ble_eq_true rfl | omega | (dsimp only; omega) | (simp only [List.length_cons, List.length_nil]; omega))⟩ (Nat.le_of_ble_eq_true rfl) dX8_work_14 (fun _ _ _ h => px0 h) ?_
  rintro _ _ ⟨rfl, rfl⟩
  refine V_st (st' := [.int (nI (kd σ rr))]) rfl ?_
  refine V_st (st' := [.int (nI 10)]) (by rw [hkk]) ?_
  refine V_istore_n C dX8_work_17 rfl (Nat.le_of_ble_eq_true rfl) [(0, .ref (qH g 2)), (1, .ref (qA g P9 K9)), (2, .ref (qC g c9)), (3, .int (nI 10))] [1, 2, 3, 0] rfl ?_
  refine V_aload_n C dX8_work_18 rfl 0 rfl ?_
  refine V_get C f_X8_3_12 hH9 (v := .ref (qN g)) rfl dX8_work_19 ?_
  refine V_iload_n C dX8_work_22 rfl 3 rfl ?_
  refine V_pc (pc1 := 23) rfl ?_
  refine V_aload_n C dX8_work_23 rfl 1 rfl ?_
  refine V_getN C f_X8_35_3 hac (v := .int (-1)) rfl dX8_work_24 ?_
  refine V_i2l (v := ((-1) : Int32).toInt64) C dX8_work_27 rfl ?_
  refine V_st (st' := [.long (-1), .int (nI 10), .ref (qN g)]) (by rw [show (((-1) : Int32).toInt64) = (-1) from rfl]) ?_
  refine V_callVN C (c_X1_goes l hl G X N0 M g σ z (σ.1 31) C9 hR hI 10 (-1) (by decide)) cs_X8_38_0 hN (show CLS[0]? = some (RX1, TX1, 17) from rfl) rfl rfl ⟨Nat.le_of_ble_eq_true rfl, Nat.le_of_ble_eq_true rfl⟩ ⟨(by first | exact Nat.le_of_ble_eq_true rfl | omega | (dsimp only; omega) | (simp only [List.length_cons, List.length_nil]; omega)), (by first | exact Nat.le_of_ble_eq_true rfl | omega | (dsimp only; omega) | (simp only [List.length_cons, List.length_nil]; omega))⟩ (Nat.le_of_ble_eq_true rfl) dX8_work_28 (fun _ _ _ h => px0 h) ?_
  rintro _ _ ⟨rfl, rfl⟩
  refine V_st (st' := [.int (bI (mf_goes σ (nI 10) (-1)))]) rfl ?_
  refine V_if_ne (tgt := 43) C dX8_work_31 (by decide) (fun c_31 => ?_) (fun c_31 => ?_)
  · refine V_aload_n C dX8_work_43 rfl 0 rfl ?_
    refine V_aload_n C dX8_work_44 rfl 1 rfl ?_
    refine V_callU C (c_X7_part_12 l hl G X N0 M g σ z C9 c9 hC hR hI (qH g 2) hH9 (qA g P9 K9) x0 rr i b (-1) n hr hac hk9 hp) cs_X8_46_12 hH9 (show CLS[12]? = some (RX8, TX8, 7) from rfl) rfl rfl ⟨Nat.le_of_ble_eq_true rfl, Nat.le_of_ble_eq_true rfl⟩ ⟨(by first | exact Nat.le_of_ble_eq_true rfl | omega | (dsimp only; omega) | (simp only [List.length_cons, List.length_nil]; omega)), (by first | exact Nat.le_of_ble_eq_true rfl | omega | (dsimp only; omega) | (simp only [List.length_cons, List.length_nil]; omega))⟩ (Nat.le_of_ble_eq_true rfl) dX8_work_45 (fun _ _ _ h => px0 h) ?_
    rintro _ _ ⟨rfl, rfl⟩
    refine V_st (st' := [.ref (qR g rr)]) rfl ?_
    obtain ⟨I, N, rfl, rfl, hIN⟩ := places_n (hI.l hr) hp
    have hNp : 0 < N := Nat.pos_of_ne_zero (fun y => hn0 (by rw [y]; rfl))
    refine V_astore C dX8_work_48 (Nat.le_of_ble_eq_true rfl) [(0, .ref (qH g 2)), (1, .ref (qA g P9 K9)), (2, .ref (qC g c9)), (3, .int (nI 10)), (4, .ref (qR g rr))] [1, 2, 3, 4, 0] rfl ?_
    refine V_iload_n C dX8_work_50 rfl 3 rfl ?_
    refine V_bipush (v := 8) C dX8_work_51 rfl ?_
    refine V_icmp_eq (tgt := 62) C dX8_work_53 (by decide) (fun c_53 => ?_) (fun c_53 => ?_)
    · exact absurd c_53 (by decide)
    · refine V_pc (pc1 := 56) rfl ?_
      refine V_iload_n C dX8_work_56 rfl 3 rfl ?_
      refine V_bipush (v := 9) C dX8_work_57 rfl ?_
      refine V_icmp_ne (tgt := 77) C dX8_work_59 (by decide) (fun c_59 => ?_) (fun c_59 => ?_)
      · refine V_null C dX8_work_77 ?_
        refine V_astoreN C dX8_work_78 (Nat.le_of_ble_eq_true rfl) [(0, .ref (qH g 2)), (1, .ref (qA g P9 K9)), (2, .ref (qC g c9)), (3, .int (nI 10)), (4, .ref (qR g rr)), (5, .null)] [1, 2, 3, 4, 5, 0] rfl ?_
        refine V_iload_n C dX8_work_80 rfl 3 rfl ?_
        refine V_bipush (v := 10) C dX8_work_81 rfl ?_
        refine V_icmp_ne (tgt := 103) C dX8_work_83 (by decide) (fun c_83 => ?_) (fun c_83 => ?_)
        · exact absurd c_83 (by decide)
        · refine V_aload_n C dX8_work_86 rfl 1 rfl ?_
          refine V_getN C f_X8_35_3 hac (v := .int (-1)) rfl dX8_work_87 ?_
          refine V_iconst (v := -1) C dX8_work_90 rfl ?_
          refine V_icmp_eq (tgt := 103) C dX8_work_91 (by decide) (fun c_91 => ?_) (fun c_91 => ?_)
          · refine V_pc (pc1 := 103) rfl ?_
            refine V_null C dX8_work_103 ?_
            refine V_astoreN C dX8_work_104 (Nat.le_of_ble_eq_true rfl) [(0, .ref (qH g 2)), (1, .ref (qA g P9 K9)), (2, .ref (qC g c9)), (3, .int (nI 10)), (4, .ref (qR g rr)), (5, .null), (6, .null)] [1, 2, 3, 4, 5, 6, 0] rfl ?_
            refine V_aload_n C dX8_work_106 rfl 2 rfl ?_
            refine V_aload_n C dX8_work_107 rfl 1 rfl ?_
            refine V_getN C f_X8_19_3 hac (v := .int (nI rr)) rfl dX8_work_108 ?_
            have hfr : hp_fr (fun _ => False) M M := hp_fr.rf
            have hsh : hp_sh M M := hp_sh.rf
            refine V_callV C (c_X25_keep l hl G X N0 M g σ z C9 c9 hC hR hI hm rr hr) cs_X8_54_4 hCc (show CLS[4]? = some (RX25, TX25, 8) from rfl) rfl rfl ⟨Nat.le_of_ble_eq_true rfl, Nat.le_of_ble_eq_true rfl⟩ ⟨(by first | exact Nat.le_of_ble_eq_true rfl | omega | (dsimp only; omega) | (simp only [List.length_cons, List.length_nil]; omega)), (by first | exact Nat.le_of_ble_eq_true rfl | omega | (dsimp only; omega) | (simp only [List.length_cons, List.length_nil]; omega))⟩ (Nat.le_of_ble_eq_true rfl) dX8_work_111 (fun _ _ _ h => px0 h) ?_
            rintro _ M_1 ⟨rfl, g1, hk1, hR1, hkw1, hKp1⟩
            refine V_st (st' := []) rfl ?_
            have eg_2 : (qH g1 2) = (qH g 2) := hk1 13 2 0 (by decide) (by decide)
            have eg_3 : (qA g1 P9 K9) = (qA g P9 K9) := hk1 11 P9 K9 (by decide) (by decide)
            have eg_4 : (qC g1 c9) = (qC g c9) := hk1 15 c9 0 (by decide) (by decide)
            have eg_5 : (qR g1 rr) = (qR g rr) := hk1 5 rr 0 (by decide) (by decide)
            refine V_loc (L' := [(0, .ref (qH g1 2)), (1, .ref (qA g1 P9 K9)), (2, .ref (qC g1 c9)), (3, .int (nI 10)), (4, .ref (qR g1 rr)), (5, .null), (6, .null)]) [0, 1, 2, 3, 4, 5, 6] (by rw [eg_2, eg_3, eg_4, eg_5]; rfl) ?_
            have hac1 : M_1 (qA g1 P9 K9) = some (.inr (3, [.int x0, .int (nI rr), .int (nI I), .int b, .int (-1), .int (nI N)])) := (hR1.A hP9 hK9).trans (congrArg (fun y => some (Sum.inr (3, y))) hAF)
            have hH1 : M_1 (qH g1 2) = some (.inr (12, [.int 1, .ref (qN g1), .int 0, .int 10, .ref (qN g1), .ref (qN g1), .ref (qN g1)])) := hR1.H (by decide)
            have sh_6 := hsh.trans hKp1.2.2
            obtain ⟨xr1, hra1, hrx1, hrc1⟩ := hR1.rw hr
            refine V_iconst (v := 0) C dX8_work_114 rfl ?_
            refine V_istore C dX8_work_115 (Nat.le_of_ble_eq_true rfl) [(0, .ref (qH g1 2)), (1, .ref (qA g1 P9 K9)), (2, .ref (qC g1 c9)), (3, .int (nI 10)), (4, .ref (qR g1 rr)), (5, .null), (6, .null), (7, .int 0)] [1, 2, 3, 4, 5, 6, 7, 0] rfl ?_
            have hfr3 : hp_fr (fun b => b = qR g1 rr) M_1 M_1 := hp_fr.rf
            have hs3 : hp_sh M_1 M_1 := hp_sh.rf
            have lp_117 : ∀ (fu9 : Nat) (q : Nat) (xk : vp_A) (M117 : hp_h), N - q < fu9 → (q ≤ N) → (∀ y, I ≤ y → y < I + q → CE (nU σ) (nJ σ) (fun y => qU g1 y) (fun y => qJ g1 y) (kd σ rr) xk y (-1)) → (∀ y, ¬ (I ≤ y ∧ y < I + q) → cv xk.2 y = cv xr1.2 y) → (XT (kd σ rr) (ln σ rr) xk) → (M117 (qR g1 rr) = some (.inl (G.2 (kd σ rr), xk))) → (hp_fr (fun b => b = qR g1 rr) M_1 M117) → (hp_sh M_1 M117) → V p l e { frames := 24, cells := 9, slots := 300, locals := 11400 } s m args below meth c G N0 8 (QV below G N0 ((WP G (X 0) g σ z C9 M (mf_fill σ rr (nI I) (-1) (nI N)))) PX0 args s (9) (300)) (0 + 2) (0 + 130) M117 117 [(0, .ref (qH g1 2)), (1, .ref (qA g1 P9 K9)), (2, .ref (qC g1 c9)), (3, .int (nI 10)), (4, .ref (qR g1 rr)), (5, .null), (6, .null), (7, .int (nI q))] [] := by
              intro fu9
              induction fu9 with
              | zero => intro q xk M117 hfu9; exact absurd hfu9 (Nat.not_lt_zero _)
              | succ fu9 ih117 =>
                intro q xk M117 hfu9 hq hin hcvk hxk hraK hfrK hshK
                have ho_8 : M117 (qA g1 P9 K9) = some (.inr (3, [.int x0, .int (nI rr), .int (nI I), .int b, .int (-1), .int (nI N)])) := hfrK _ _ (hp_ne hac1 hra1 (by simp)) hac1
                have ho_9 : M117 (qH g1 2) = some (.inr (12, [.int 1, .ref (qN g1), .int 0, .int 10, .ref (qN g1), .ref (qN g1), .ref (qN g1)])) := hfrK _ _ (hp_ne hH1 hra1 (by simp)) hH1
                refine V_iload C dX8_work_117 7 rfl ?_
                refine V_aload_n C dX8_work_119 rfl 1 rfl ?_
                refine V_getN C f_X8_60_3 ho_8 (v := .int (nI N)) rfl dX8_work_120 ?_
                refine V_icmp_ge (tgt := 153) C dX8_work_123 (by decide) (fun c_123 => ?_) (fun c_123 => ?_)
                · refine V_pc (pc1 := 153) rfl ?_
                  refine V_goto (tgt := 167) C dX8_work_153 (by decide) ?_
                  refine V_lconst (v := 0) C dX8_work_167 rfl ?_
                  refine V_lret C dX8_work_168 rfl ?_ (by first | exact Nat.le_of_ble_eq_true rfl | omega | (dsimp only; omega) | (simp only [List.length_cons, List.length_nil]; omega)) (by first | exact Nat.le_of_ble_eq_true rfl | omega | (dsimp only; omega) | (simp only [List.length_cons, List.length_nil]; omega))
                  have hq3 : q = N := by have := (nI_leI (by omega) (by omega)).mp c_123; omega
                  subst hq3
                  refine WP.of9 (σ' := sl σ 4 (mfill (σ.2.2.1 4) (40 * rr + I) q (fun _ => -1))) (ROWK (f' := mfill (σ.2.2.1 4) (40 * rr + I) q (fun _ => -1)) (RKp.grow (fun _ _ _ y => y) hfr) rfl (fun _ _ _ _ _ _ _ y => y) hR1 hKp1 hr hC hkw1 hraK hfrK hshK hxk (fun k hk => ?_) (fun r' k hr' hn hk => ?_) ⟨fun _ _ => rfl, fun _ _ => ⟨rfl, rfl⟩, fun _ _ => rfl, fun _ _ => rfl, rfl, fun _ _ _ _ => rfl⟩) (fill_0 hI hr hg hp hNp (by omega) (fun y => by omega) (by rw [hkk]; rfl)) h0 rfl
                  · by_cases e : I ≤ k ∧ k < I + q
                    · rw [show 40 * rr + k = 40 * rr + I + (k - I) by omega, mfill_in (by omega)]
                      exact hin k e.1 e.2
                    · rw [mfill_out (by omega)]
                      exact (hrc1 k hk).at_ (hcvk k e)
                  · have : ln σ r' ≤ 40 := (hI.l hr').2
                    have hk' : k < ln σ r' := hk
                    exact mfill_out (by omega)
                · refine V_pc (pc1 := 126) rfl ?_
                  refine V_aload C dX8_work_126 4 rfl ?_
                  refine V_aload_n C dX8_work_128 rfl 1 rfl ?_
                  refine V_getN C f_X8_63_3 ho_8 (v := .int (nI I)) rfl dX8_work_129 ?_
                  refine V_iload C dX8_work_132 7 rfl ?_
                  refine V_iadd C dX8_work_134 ?_
                  refine V_st (st' := [.int (nI (I + q)), .ref (qR g1 rr)]) (by rw [show ((nI I) + (nI q)) = (nI (I + q)) from nI_add I q]) ?_
                  refine V_aload_n C dX8_work_135 rfl 1 rfl ?_
                  refine V_getN C f_X8_35_3 ho_8 (v := .int (-1)) rfl dX8_work_136 ?_
                  refine V_i2l (v := ((-1) : Int32).toInt64) C dX8_work_139 rfl ?_
                  refine V_st (st' := [.long (-1), .int (nI (I + q)), .ref (qR g1 rr)]) (by rw [show (((-1) : Int32).toInt64) = (-1) from rfl]) ?_
                  refine V_aloadN C dX8_work_140 5 rfl ?_
                  refine V_aloadN C dX8_work_142 6 rfl ?_
                  have hq2 : q < N := nI_ltN9 (by omega) (by omega) c_123
                  refine V_callSN C (c_X1_put l hl G X N0 M117 (U := nU σ) (J := nJ σ) (ua := fun y => qU g1 y) (ja := fun y => qJ g1 y) (qR g1 rr) (kd σ rr) (ln σ rr) (I + q) xk hraK hxk (by omega) (by omega) (-1) (-1) none none (Or.inr (Or.inr ⟨hkk, Or.inl ⟨rfl, rfl⟩⟩))) cs_X8_66 rfl rfl ⟨Nat.le_of_ble_eq_true rfl, Nat.le_of_ble_eq_true rfl⟩ ⟨(by first | exact Nat.le_of_ble_eq_true rfl | omega | (dsimp only; omega) | (simp only [List.length_cons, List.length_nil]; omega)), (by first | exact Nat.le_of_ble_eq_true rfl | omega | (dsimp only; omega) | (simp only [List.length_cons, List.length_nil]; omega))⟩ (Nat.le_of_ble_eq_true rfl) dX8_work_144 (fun _ _ _ h => px0 h) ?_
                  rintro _ M_10 ⟨rfl, x9, eP, hx9, ho9, hw9⟩
                  refine V_st (st' := []) rfl ?_
                  have ho_11 : M_10 (qA g1 P9 K9) = some (.inr (3, [.int x0, .int (nI rr), .int (nI I), .int b, .int (-1), .int (nI N)])) := by rw [eP, hp_up_n (hp_ne ho_8 hraK (by simp))]; exact ho_8
                  have ho_12 : M_10 (qH g1 2) = some (.inr (12, [.int 1, .ref (qN g1), .int 0, .int 10, .ref (qN g1), .ref (qN g1), .ref (qN g1)])) := by rw [eP, hp_up_n (hp_ne ho_9 hraK (by simp))]; exact ho_9
                  have hn_13 : M_10 (qR g1 rr) = some (.inl (G.2 (kd σ rr), x9)) := by rw [eP]; exact hp_up_s
                  have fr_14 := hp_fr.set hfrK (Or.inl rfl) eP
                  have sh_15 := hp_sh.set hshK hraK eP rfl
                  refine V_iinc (v := nI (q + 1)) C dX8_work_147 (k := 7) rfl (nI_add q 1) (Nat.le_of_ble_eq_true rfl) [(0, .ref (qH g1 2)), (1, .ref (qA g1 P9 K9)), (2, .ref (qC g1 c9)), (3, .int (nI 10)), (4, .ref (qR g1 rr)), (5, .null), (6, .null), (7, .int (nI (q + 1)))] [1, 2, 3, 4, 5, 6, 7, 0] rfl ?_
                  refine V_pc (pc1 := 150) rfl ?_
                  refine V_goto (tgt := 117) C dX8_work_150 (by decide) ?_
                  have hin2 : ∀ y, I ≤ y → y < I + (q + 1) → CE (nU σ) (nJ σ) (fun y => qU g1 y) (fun y => qJ g1 y) (kd σ rr) x9 y (-1) := fun y y1 y2 => by
                    by_cases e : y = I + q
                    · rw [e]; exact hw9
                    · exact (hin y y1 (by omega)).at_ (ho9 y e)
                  have hcv2 : ∀ y, ¬ (I ≤ y ∧ y < I + (q + 1)) → cv x9.2 y = cv xr1.2 y := fun y y1 => (ho9 y (by omega)).trans (hcvk y (by omega))
                  exact ih117 (q + 1) x9 _ (by omega) (by omega) hin2 hcv2 hx9 hn_13 fr_14 sh_15
            refine V_loc (L' := [(0, .ref (qH g1 2)), (1, .ref (qA g1 P9 K9)), (2, .ref (qC g1 c9)), (3, .int (nI 10)), (4, .ref (qR g1 rr)), (5, .null), (6, .null), (7, .int 0)]) [0, 1, 2, 3, 4, 5, 6, 7] rfl ?_
            exact lp_117 _ 0 xr1 _ (Nat.lt_succ_self _) (Nat.zero_le _) (fun y h1 h2 => by omega) (fun y _ => rfl) hrx1 hra1 hfr3 hs3
          · exact absurd c_91 (by decide)
      · exact absurd c_59 (by decide)
  · exact absurd hgb (bI_0.mp c_31)
set_option maxHeartbeats 1000000 in
theorem c_X8_work_Cnz (l : Launch) (hl : l.stackTraces = false) (G : hp_G) (X : Nat → Nat) (N0 : Nat) (M : hp_h) (g : RG) (σ : MS) (z : Nat → Int32) (C9 c9 : Nat) (hC : c9 + 1 = C9) (hR : REL G (X 0) g σ z (σ.1 31) C9 M) (hI : MI σ) (P9 K9 rr : Nat) (x0 i b j n : Int32) (hP9 : P9 < 6) (hK9 : K9 < psz σ P9) (hr : rr < nR σ) (hAF : AF σ P9 K9 = [.int x0, .int (nI rr), .int i, .int b, .int j, .int n]) (hk9 : 0 ≤ kd σ rr ∧ kd σ rr ≤ 10) (hkk : kd σ rr = 10) (hj : j = -1) (hg : mf_goes σ (nI (kd σ rr)) j.toInt64) (hp : mf_places σ rr i n) (hm : MW σ) (h0 : σ.2.2.2 = 0) (hn0 : n = 0) : HM l yX8_work (wsW_ yX8_work cX8_work 8 (some .long) [(114, 153, 156, 70)]) 24 11400 9 300 G X N0 [.ref (qH g 2), .ref (qA g P9 K9), .ref (qC g c9)] M (WP G (X 0) g σ z C9 M (mf_fill σ rr i j n)) PX0 := by
  refine HM.ofH hl [(0, .ref (qH g 2)), (1, .ref (qA g P9 K9)), (2, .ref (qC g c9))] (by decide +kernel) rfl (Nat.le_of_ble_eq_true rfl) ?_
  intro p e s m args below meth c C hname
  have hN := hR.N
  obtain ⟨mdR, hRl⟩ := hR.Rl
  obtain ⟨fR, hRs, hRf⟩ := hR.Rls
  obtain ⟨mdU, hUl⟩ := hR.Ul
  obtain ⟨fU, hUs, hUf⟩ := hR.Uls
  have hH9 : M (qH g 2) = some (.inr (12, [.int 1, .ref (qN g), .int 0, .int 10, .ref (qN g), .ref (qN g), .ref (qN g)])) := hR.H (by decide)
  have hac : M (qA g P9 K9) = some (.inr (3, [.int x0, .int (nI rr), .int i, .int b, .int j, .int n])) := (hR.A hP9 hK9).trans (congrArg (fun y => some (Sum.inr (3, y))) hAF)
  have hcC : c9 < C9 := by omega
  have hCc := hR.Cc hcC
  subst hj
  have hgb : mf_goes σ (nI 10) (-1) := by have y := hg; rw [hkk] at y;  exact y
  refine V_aload_n C dX8_work_0 rfl 0 rfl ?_
  refine V_get C f_X8_3_12 hH9 (v := .ref (qN g)) rfl dX8_work_1 ?_
  refine V_getN C f_X8_15_0 hN (v := .ref (qRl g)) rfl dX8_work_4 ?_
  refine V_aload_n C dX8_work_7 rfl 1 rfl ?_
  refine V_getN C f_X8_19_3 hac (v := .int (nI rr)) rfl dX8_work_8 ?_
  refine V_callV C (c_J2_get l hl G X N0 M (qRl g) (qRe g) (nR σ) (gcp g 2 0) mdR fR hRl (hRs.2.2.1 (by have := hRs.2.2.2.1; omega)) (by have := hRs.2.2.2.2; omega) hRs.2.2.2.1 rr (qR g rr) hr (hRf rr hr)) cs_X8_25_1 hRl (show CLS[1]? = some (RJ2, TJ2, 3) from rfl) rfl rfl ⟨Nat.le_of_ble_eq_true rfl, Nat.le_of_ble_eq_true rfl⟩ ⟨(by first | exact Nat.le_of_ble_eq_true rfl | omega | (dsimp only; omega) | (simp only [List.length_cons, List.length_nil]; omega)), (by first | exact Nat.le_of_ble_eq_true rfl | omega | (dsimp only; omega) | (simp only [List.length_cons, List.length_nil]; omega))⟩ (Nat.le_of_ble_eq_true rfl) dX8_work_11 (fun _ _ _ h => px0 h) ?_
  rintro _ _ ⟨rfl, rfl⟩
  refine V_st (st' := [.ref (qR g rr)]) rfl ?_
  obtain ⟨xr, hra, hrx, hrc⟩ := hR.rw hr
  obtain ⟨hkE, hkL⟩ := hI.k hr
  obtain ⟨hlE, hlL⟩ := hI.l hr
  refine V_callSN C (c_X1_kindOf l hl G X N0 M (qR g rr) (kd σ rr) hkL xr hra) cs_X8_31 rfl rfl ⟨Nat.le_of_ble_eq_true rfl, Nat.le_of_ble_eq_true rfl⟩ ⟨(by first | exact Nat.le_of_ble_eq_true rfl | omega | (dsimp only; omega) | (simp only [List.length_cons, List.length_nil]; omega)), (by first | exact Nat.le_of_ble_eq_true rfl | omega | (dsimp only; omega) | (simp only [List.length_cons, List.length_nil]; omega))⟩ (Nat.le_of_ble_eq_true rfl) dX8_work_14 (fun _ _ _ h => px0 h) ?_
  rintro _ _ ⟨rfl, rfl⟩
  refine V_st (st' := [.int (nI (kd σ rr))]) rfl ?_
  refine V_st (st' := [.int (nI 10)]) (by rw [hkk]) ?_
  refine V_istore_n C dX8_work_17 rfl (Nat.le_of_ble_eq_true rfl) [(0, .ref (qH g 2)), (1, .ref (qA g P9 K9)), (2, .ref (qC g c9)), (3, .int (nI 10))] [1, 2, 3, 0] rfl ?_
  refine V_aload_n C dX8_work_18 rfl 0 rfl ?_
  refine V_get C f_X8_3_12 hH9 (v := .ref (qN g)) rfl dX8_work_19 ?_
  refine V_iload_n C dX8_work_22 rfl 3 rfl ?_
  refine V_pc (pc1 := 23) rfl ?_
  refine V_aload_n C dX8_work_23 rfl 1 rfl ?_
  refine V_getN C f_X8_35_3 hac (v := .int (-1)) rfl dX8_work_24 ?_
  refine V_i2l (v := ((-1) : Int32).toInt64) C dX8_work_27 rfl ?_
  refine V_st (st' := [.long (-1), .int (nI 10), .ref (qN g)]) (by rw [show (((-1) : Int32).toInt64) = (-1) from rfl]) ?_
  refine V_callVN C (c_X1_goes l hl G X N0 M g σ z (σ.1 31) C9 hR hI 10 (-1) (by decide)) cs_X8_38_0 hN (show CLS[0]? = some (RX1, TX1, 17) from rfl) rfl rfl ⟨Nat.le_of_ble_eq_true rfl, Nat.le_of_ble_eq_true rfl⟩ ⟨(by first | exact Nat.le_of_ble_eq_true rfl | omega | (dsimp only; omega) | (simp only [List.length_cons, List.length_nil]; omega)), (by first | exact Nat.le_of_ble_eq_true rfl | omega | (dsimp only; omega) | (simp only [List.length_cons, List.length_nil]; omega))⟩ (Nat.le_of_ble_eq_true rfl) dX8_work_28 (fun _ _ _ h => px0 h) ?_
  rintro _ _ ⟨rfl, rfl⟩
  refine V_st (st' := [.int (bI (mf_goes σ (nI 10) (-1)))]) rfl ?_
  refine V_if_ne (tgt := 43) C dX8_work_31 (by decide) (fun c_31 => ?_) (fun c_31 => ?_)
  · refine V_aload_n C dX8_work_43 rfl 0 rfl ?_
    refine V_aload_n C dX8_work_44 rfl 1 rfl ?_
    refine V_callU C (c_X7_part_12 l hl G X N0 M g σ z C9 c9 hC hR hI (qH g 2) hH9 (qA g P9 K9) x0 rr i b (-1) n hr hac hk9 hp) cs_X8_46_12 hH9 (show CLS[12]? = some (RX8, TX8, 7) from rfl) rfl rfl ⟨Nat.le_of_ble_eq_true rfl, Nat.le_of_ble_eq_true rfl⟩ ⟨(by first | exact Nat.le_of_ble_eq_true rfl | omega | (dsimp only; omega) | (simp only [List.length_cons, List.length_nil]; omega)), (by first | exact Nat.le_of_ble_eq_true rfl | omega | (dsimp only; omega) | (simp only [List.length_cons, List.length_nil]; omega))⟩ (Nat.le_of_ble_eq_true rfl) dX8_work_45 (fun _ _ _ h => px0 h) ?_
    rintro _ _ ⟨rfl, rfl⟩
    refine V_st (st' := [.ref (qR g rr)]) rfl ?_
    obtain ⟨I, N, rfl, rfl, hIN⟩ := places_n (hI.l hr) hp
    obtain rfl : N = 0 := (nI_eq (b := 0) (by omega) (by decide)).mp hn0
    refine V_astore C dX8_work_48 (Nat.le_of_ble_eq_true rfl) [(0, .ref (qH g 2)), (1, .ref (qA g P9 K9)), (2, .ref (qC g c9)), (3, .int (nI 10)), (4, .ref (qR g rr))] [1, 2, 3, 4, 0] rfl ?_
    refine V_iload_n C dX8_work_50 rfl 3 rfl ?_
    refine V_bipush (v := 8) C dX8_work_51 rfl ?_
    refine V_icmp_eq (tgt := 62) C dX8_work_53 (by decide) (fun c_53 => ?_) (fun c_53 => ?_)
    · exact absurd c_53 (by decide)
    · refine V_pc (pc1 := 56) rfl ?_
      refine V_iload_n C dX8_work_56 rfl 3 rfl ?_
      refine V_bipush (v := 9) C dX8_work_57 rfl ?_
      refine V_icmp_ne (tgt := 77) C dX8_work_59 (by decide) (fun c_59 => ?_) (fun c_59 => ?_)
      · refine V_null C dX8_work_77 ?_
        refine V_astoreN C dX8_work_78 (Nat.le_of_ble_eq_true rfl) [(0, .ref (qH g 2)), (1, .ref (qA g P9 K9)), (2, .ref (qC g c9)), (3, .int (nI 10)), (4, .ref (qR g rr)), (5, .null)] [1, 2, 3, 4, 5, 0] rfl ?_
        refine V_iload_n C dX8_work_80 rfl 3 rfl ?_
        refine V_bipush (v := 10) C dX8_work_81 rfl ?_
        refine V_icmp_ne (tgt := 103) C dX8_work_83 (by decide) (fun c_83 => ?_) (fun c_83 => ?_)
        · exact absurd c_83 (by decide)
        · refine V_aload_n C dX8_work_86 rfl 1 rfl ?_
          refine V_getN C f_X8_35_3 hac (v := .int (-1)) rfl dX8_work_87 ?_
          refine V_iconst (v := -1) C dX8_work_90 rfl ?_
          refine V_icmp_eq (tgt := 103) C dX8_work_91 (by decide) (fun c_91 => ?_) (fun c_91 => ?_)
          · refine V_pc (pc1 := 103) rfl ?_
            refine V_null C dX8_work_103 ?_
            refine V_astoreN C dX8_work_104 (Nat.le_of_ble_eq_true rfl) [(0, .ref (qH g 2)), (1, .ref (qA g P9 K9)), (2, .ref (qC g c9)), (3, .int (nI 10)), (4, .ref (qR g rr)), (5, .null), (6, .null)] [1, 2, 3, 4, 5, 6, 0] rfl ?_
            refine V_aload_n C dX8_work_106 rfl 2 rfl ?_
            refine V_aload_n C dX8_work_107 rfl 1 rfl ?_
            refine V_getN C f_X8_19_3 hac (v := .int (nI rr)) rfl dX8_work_108 ?_
            have hfr : hp_fr (fun _ => False) M M := hp_fr.rf
            have hsh : hp_sh M M := hp_sh.rf
            refine V_callV C (c_X25_keep l hl G X N0 M g σ z C9 c9 hC hR hI hm rr hr) cs_X8_54_4 hCc (show CLS[4]? = some (RX25, TX25, 8) from rfl) rfl rfl ⟨Nat.le_of_ble_eq_true rfl, Nat.le_of_ble_eq_true rfl⟩ ⟨(by first | exact Nat.le_of_ble_eq_true rfl | omega | (dsimp only; omega) | (simp only [List.length_cons, List.length_nil]; omega)), (by first | exact Nat.le_of_ble_eq_true rfl | omega | (dsimp only; omega) | (simp only [List.length_cons, List.length_nil]; omega))⟩ (Nat.le_of_ble_eq_true rfl) dX8_work_111 (fun _ _ _ h => px0 h) ?_
            rintro _ M_1 ⟨rfl, g1, hk1, hR1, hkw1, hKp1⟩
            refine V_st (st' := []) rfl ?_
            have eg_2 : (qH g1 2) = (qH g 2) := hk1 13 2 0 (by decide) (by decide)
            have eg_3 : (qA g1 P9 K9) = (qA g P9 K9) := hk1 11 P9 K9 (by decide) (by decide)
            have eg_4 : (qC g1 c9) = (qC g c9) := hk1 15 c9 0 (by decide) (by decide)
            have eg_5 : (qR g1 rr) = (qR g rr) := hk1 5 rr 0 (by decide) (by decide)
            refine V_loc (L' := [(0, .ref (qH g1 2)), (1, .ref (qA g1 P9 K9)), (2, .ref (qC g1 c9)), (3, .int (nI 10)), (4, .ref (qR g1 rr)), (5, .null), (6, .null)]) [0, 1, 2, 3, 4, 5, 6] (by rw [eg_2, eg_3, eg_4, eg_5]; rfl) ?_
            have hac1 : M_1 (qA g1 P9 K9) = some (.inr (3, [.int x0, .int (nI rr), .int (nI I), .int b, .int (-1), .int (nI 0)])) := (hR1.A hP9 hK9).trans (congrArg (fun y => some (Sum.inr (3, y))) hAF)
            have hH1 : M_1 (qH g1 2) = some (.inr (12, [.int 1, .ref (qN g1), .int 0, .int 10, .ref (qN g1), .ref (qN g1), .ref (qN g1)])) := hR1.H (by decide)
            have sh_6 := hsh.trans hKp1.2.2
            obtain ⟨xr1, hra1, hrx1, hrc1⟩ := hR1.rw hr
            refine V_iconst (v := 0) C dX8_work_114 rfl ?_
            refine V_istore C dX8_work_115 (Nat.le_of_ble_eq_true rfl) [(0, .ref (qH g1 2)), (1, .ref (qA g1 P9 K9)), (2, .ref (qC g1 c9)), (3, .int (nI 10)), (4, .ref (qR g1 rr)), (5, .null), (6, .null), (7, .int 0)] [1, 2, 3, 4, 5, 6, 7, 0] rfl ?_
            refine V_iload C dX8_work_117 7 rfl ?_
            refine V_aload_n C dX8_work_119 rfl 1 rfl ?_
            refine V_getN C f_X8_60_3 hac1 (v := .int (nI 0)) rfl dX8_work_120 ?_
            refine V_icmp_ge (tgt := 153) C dX8_work_123 (by decide) (fun c_123 => ?_) (fun c_123 => ?_)
            · refine V_pc (pc1 := 153) rfl ?_
              refine V_goto (tgt := 167) C dX8_work_153 (by decide) ?_
              refine V_lconst (v := 0) C dX8_work_167 rfl ?_
              refine V_lret C dX8_work_168 rfl ?_ (by first | exact Nat.le_of_ble_eq_true rfl | omega | (dsimp only; omega) | (simp only [List.length_cons, List.length_nil]; omega)) (by first | exact Nat.le_of_ble_eq_true rfl | omega | (dsimp only; omega) | (simp only [List.length_cons, List.length_nil]; omega))
              exact WP.of9 (σ' := σ) ⟨hR1, (RKp.grow (fun _ _ _ y => y) hfr).trans hKp1 (Nat.le_refl _) (Nat.le_refl _) (fun _ _ _ _ _ _ _ hd _ _ => hd)⟩ (fill_z hI hr hg hp (by omega)) h0 rfl
            · exact absurd c_123 (by decide)
          · exact absurd c_91 (by decide)
      · exact absurd c_59 (by decide)
  · exact absurd hgb (bI_0.mp c_31)
set_option maxHeartbeats 1000000 in
theorem c_X8_work_Cs (l : Launch) (hl : l.stackTraces = false) (G : hp_G) (X : Nat → Nat) (N0 : Nat) (M : hp_h) (g : RG) (σ : MS) (z : Nat → Int32) (C9 c9 : Nat) (hC : c9 + 1 = C9) (hR : REL G (X 0) g σ z (σ.1 31) C9 M) (hI : MI σ) (P9 K9 rr : Nat) (x0 i b j n : Int32) (hP9 : P9 < 6) (hK9 : K9 < psz σ P9) (hr : rr < nR σ) (hAF : AF σ P9 K9 = [.int x0, .int (nI rr), .int i, .int b, .int j, .int n]) (hk9 : 0 ≤ kd σ rr ∧ kd σ rr ≤ 10) (hkk : kd σ rr = 10) (m9 : Nat) (hm9 : m9 ≤ 40) (hj : j = nI m9) (hg : mf_goes σ (nI (kd σ rr)) j.toInt64) (hp : mf_places σ rr i n) (hm : MW σ) (h0 : σ.2.2.2 = 0) (hn0 : n ≠ 0) (hJ8 : nJ σ < 8000) : HM l yX8_work (wsW_ yX8_work cX8_work 8 (some .long) [(114, 153, 156, 70)]) 24 11400 9 300 G X N0 [.ref (qH g 2), .ref (qA g P9 K9), .ref (qC g c9)] M (WP G (X 0) g σ z C9 M (mf_fill σ rr i j n)) PX0 := by
  refine HM.ofH hl [(0, .ref (qH g 2)), (1, .ref (qA g P9 K9)), (2, .ref (qC g c9))] (by decide +kernel) rfl (Nat.le_of_ble_eq_true rfl) ?_
  intro p e s m args below meth c C hname
  have hN := hR.N
  obtain ⟨mdR, hRl⟩ := hR.Rl
  obtain ⟨fR, hRs, hRf⟩ := hR.Rls
  obtain ⟨mdU, hUl⟩ := hR.Ul
  obtain ⟨fU, hUs, hUf⟩ := hR.Uls
  have hH9 : M (qH g 2) = some (.inr (12, [.int 1, .ref (qN g), .int 0, .int 10, .ref (qN g), .ref (qN g), .ref (qN g)])) := hR.H (by decide)
  have hac : M (qA g P9 K9) = some (.inr (3, [.int x0, .int (nI rr), .int i, .int b, .int j, .int n])) := (hR.A hP9 hK9).trans (congrArg (fun y => some (Sum.inr (3, y))) hAF)
  have hcC : c9 < C9 := by omega
  have hCc := hR.Cc hcC
  subst hj
  have hgb : mf_goes σ (nI 10) (lN m9) := by have y := hg; rw [hkk] at y; rw [(nI_l (by omega))] at y;  exact y
  refine V_aload_n C dX8_work_0 rfl 0 rfl ?_
  refine V_get C f_X8_3_12 hH9 (v := .ref (qN g)) rfl dX8_work_1 ?_
  refine V_getN C f_X8_15_0 hN (v := .ref (qRl g)) rfl dX8_work_4 ?_
  refine V_aload_n C dX8_work_7 rfl 1 rfl ?_
  refine V_getN C f_X8_19_3 hac (v := .int (nI rr)) rfl dX8_work_8 ?_
  refine V_callV C (c_J2_get l hl G X N0 M (qRl g) (qRe g) (nR σ) (gcp g 2 0) mdR fR hRl (hRs.2.2.1 (by have := hRs.2.2.2.1; omega)) (by have := hRs.2.2.2.2; omega) hRs.2.2.2.1 rr (qR g rr) hr (hRf rr hr)) cs_X8_25_1 hRl (show CLS[1]? = some (RJ2, TJ2, 3) from rfl) rfl rfl ⟨Nat.le_of_ble_eq_true rfl, Nat.le_of_ble_eq_true rfl⟩ ⟨(by first | exact Nat.le_of_ble_eq_true rfl | omega | (dsimp only; omega) | (simp only [List.length_cons, List.length_nil]; omega)), (by first | exact Nat.le_of_ble_eq_true rfl | omega | (dsimp only; omega) | (simp only [List.length_cons, List.length_nil]; omega))⟩ (Nat.le_of_ble_eq_true rfl) dX8_work_11 (fun _ _ _ h => px0 h) ?_
  rintro _ _ ⟨rfl, rfl⟩
  refine V_st (st' := [.ref (qR g rr)]) rfl ?_
  obtain ⟨xr, hra, hrx, hrc⟩ := hR.rw hr
  obtain ⟨hkE, hkL⟩ := hI.k hr
  obtain ⟨hlE, hlL⟩ := hI.l hr
  refine V_callSN C (c_X1_kindOf l hl G X N0 M (qR g rr) (kd σ rr) hkL xr hra) cs_X8_31 rfl rfl ⟨Nat.le_of_ble_eq_true rfl, Nat.le_of_ble_eq_true rfl⟩ ⟨(by first | exact Nat.le_of_ble_eq_true rfl | omega | (dsimp only; omega) | (simp only [List.length_cons, List.length_nil]; omega)), (by first | exact Nat.le_of_ble_eq_true rfl | omega | (dsimp only; omega) | (simp only [List.length_cons, List.length_nil]; omega))⟩ (Nat.le_of_ble_eq_true rfl) dX8_work_14 (fun _ _ _ h => px0 h) ?_
  rintro _ _ ⟨rfl, rfl⟩
  refine V_st (st' := [.int (nI (kd σ rr))]) rfl ?_
  refine V_st (st' := [.int (nI 10)]) (by rw [hkk]) ?_
  refine V_istore_n C dX8_work_17 rfl (Nat.le_of_ble_eq_true rfl) [(0, .ref (qH g 2)), (1, .ref (qA g P9 K9)), (2, .ref (qC g c9)), (3, .int (nI 10))] [1, 2, 3, 0] rfl ?_
  refine V_aload_n C dX8_work_18 rfl 0 rfl ?_
  refine V_get C f_X8_3_12 hH9 (v := .ref (qN g)) rfl dX8_work_19 ?_
  refine V_iload_n C dX8_work_22 rfl 3 rfl ?_
  refine V_pc (pc1 := 23) rfl ?_
  refine V_aload_n C dX8_work_23 rfl 1 rfl ?_
  refine V_getN C f_X8_35_3 hac (v := .int (nI m9)) rfl dX8_work_24 ?_
  refine V_i2l (v := (nI m9).toInt64) C dX8_work_27 rfl ?_
  refine V_st (st' := [.long (lN m9), .int (nI 10), .ref (qN g)]) (by rw [show ((nI m9).toInt64) = (lN m9) from (nI_l (by omega))]) ?_
  refine V_callVN C (c_X1_goes l hl G X N0 M g σ z (σ.1 31) C9 hR hI 10 (lN m9) (by decide)) cs_X8_38_0 hN (show CLS[0]? = some (RX1, TX1, 17) from rfl) rfl rfl ⟨Nat.le_of_ble_eq_true rfl, Nat.le_of_ble_eq_true rfl⟩ ⟨(by first | exact Nat.le_of_ble_eq_true rfl | omega | (dsimp only; omega) | (simp only [List.length_cons, List.length_nil]; omega)), (by first | exact Nat.le_of_ble_eq_true rfl | omega | (dsimp only; omega) | (simp only [List.length_cons, List.length_nil]; omega))⟩ (Nat.le_of_ble_eq_true rfl) dX8_work_28 (fun _ _ _ h => px0 h) ?_
  rintro _ _ ⟨rfl, rfl⟩
  refine V_st (st' := [.int (bI (mf_goes σ (nI 10) (lN m9)))]) rfl ?_
  refine V_if_ne (tgt := 43) C dX8_work_31 (by decide) (fun c_31 => ?_) (fun c_31 => ?_)
  · refine V_aload_n C dX8_work_43 rfl 0 rfl ?_
    refine V_aload_n C dX8_work_44 rfl 1 rfl ?_
    refine V_callU C (c_X7_part_12 l hl G X N0 M g σ z C9 c9 hC hR hI (qH g 2) hH9 (qA g P9 K9) x0 rr i b (nI m9) n hr hac hk9 hp) cs_X8_46_12 hH9 (show CLS[12]? = some (RX8, TX8, 7) from rfl) rfl rfl ⟨Nat.le_of_ble_eq_true rfl, Nat.le_of_ble_eq_true rfl⟩ ⟨(by first | exact Nat.le_of_ble_eq_true rfl | omega | (dsimp only; omega) | (simp only [List.length_cons, List.length_nil]; omega)), (by first | exact Nat.le_of_ble_eq_true rfl | omega | (dsimp only; omega) | (simp only [List.length_cons, List.length_nil]; omega))⟩ (Nat.le_of_ble_eq_true rfl) dX8_work_45 (fun _ _ _ h => px0 h) ?_
    rintro _ _ ⟨rfl, rfl⟩
    refine V_st (st' := [.ref (qR g rr)]) rfl ?_
    obtain ⟨I, N, rfl, rfl, hIN⟩ := places_n (hI.l hr) hp
    have hNp : 0 < N := Nat.pos_of_ne_zero (fun y => hn0 (by rw [y]; rfl))
    refine V_astore C dX8_work_48 (Nat.le_of_ble_eq_true rfl) [(0, .ref (qH g 2)), (1, .ref (qA g P9 K9)), (2, .ref (qC g c9)), (3, .int (nI 10)), (4, .ref (qR g rr))] [1, 2, 3, 4, 0] rfl ?_
    refine V_iload_n C dX8_work_50 rfl 3 rfl ?_
    refine V_bipush (v := 8) C dX8_work_51 rfl ?_
    refine V_icmp_eq (tgt := 62) C dX8_work_53 (by decide) (fun c_53 => ?_) (fun c_53 => ?_)
    · exact absurd c_53 (by decide)
    · refine V_pc (pc1 := 56) rfl ?_
      refine V_iload_n C dX8_work_56 rfl 3 rfl ?_
      refine V_bipush (v := 9) C dX8_work_57 rfl ?_
      refine V_icmp_ne (tgt := 77) C dX8_work_59 (by decide) (fun c_59 => ?_) (fun c_59 => ?_)
      · refine V_null C dX8_work_77 ?_
        refine V_astoreN C dX8_work_78 (Nat.le_of_ble_eq_true rfl) [(0, .ref (qH g 2)), (1, .ref (qA g P9 K9)), (2, .ref (qC g c9)), (3, .int (nI 10)), (4, .ref (qR g rr)), (5, .null)] [1, 2, 3, 4, 5, 0] rfl ?_
        refine V_iload_n C dX8_work_80 rfl 3 rfl ?_
        refine V_bipush (v := 10) C dX8_work_81 rfl ?_
        refine V_icmp_ne (tgt := 103) C dX8_work_83 (by decide) (fun c_83 => ?_) (fun c_83 => ?_)
        · exact absurd c_83 (by decide)
        · refine V_aload_n C dX8_work_86 rfl 1 rfl ?_
          refine V_getN C f_X8_35_3 hac (v := .int (nI m9)) rfl dX8_work_87 ?_
          refine V_iconst (v := -1) C dX8_work_90 rfl ?_
          refine V_icmp_eq (tgt := 103) C dX8_work_91 (by decide) (fun c_91 => ?_) (fun c_91 => ?_)
          · exact absurd c_91 (nI_m1 (by omega))
          · have hfr : hp_fr (fun _ => False) M M := hp_fr.rf
            have hsh : hp_sh M M := hp_sh.rf
            refine V_pc (pc1 := 94) rfl ?_
            refine V_aload_n C dX8_work_94 rfl 1 rfl ?_
            refine V_getN C f_X8_35_3 hac (v := .int (nI m9)) rfl dX8_work_95 ?_
            refine V_new_i C q539 (N' := m9) (nI_pos (by omega)) (nI_clamp (by omega)) (by omega) (by first | exact Nat.le_of_ble_eq_true rfl | omega | (dsimp only; omega) | (simp only [List.length_cons, List.length_nil]; omega)) (by first | exact Nat.le_of_ble_eq_true rfl | omega | (dsimp only; omega) | (simp only [List.length_cons, List.length_nil]; omega)) dX8_work_98 (fun q_1 hq_2 => ?_)
            have ne_3 : (qN g) ≠ q_1 := hp_ne0 hN hq_2
            have ne_4 : (qRl g) ≠ q_1 := hp_ne0 hRl hq_2
            have ne_5 : (qUl g) ≠ q_1 := hp_ne0 hUl hq_2
            have ne_6 : (qH g 2) ≠ q_1 := hp_ne0 hH9 hq_2
            have ne_7 : (qA g P9 K9) ≠ q_1 := hp_ne0 hac hq_2
            have ne_8 : (qC g c9) ≠ q_1 := hp_ne0 hCc hq_2
            have ne_9 : (qR g rr) ≠ q_1 := hp_ne0 hra hq_2
            obtain ⟨M_10, eM_11⟩ : ∃ z, z = hp_up M q_1 ((.inl (G.2 4, m9, .inl (fun _ => 0)))) := ⟨_, rfl⟩
            refine V_heap (M' := M_10) eM_11.symm ?_
            have ho_12 : M_10 (qN g) = some (.inr (0, [.ref (qRl g), .ref (qUl g), .ref (qPl g), .ref (qHs g), .int (σ.1 20), .int (σ.1 14), .int (σ.1 11), .int (σ.1 12), .int (σ.1 15), .int (z 0), .int (z 1), .int (z 2), .int (z 3), .int (z 4), .int (z 5), .int (σ.1 31), .ref (qAn g)])) := by rw [eM_11, hp_up_n (hp_ne0 hN hq_2)]; exact hN
            have ho_13 : M_10 (qRl g) = some (.inr (1, [.int mdR, .ref (qRe g), .int (nI (nR σ))])) := by rw [eM_11, hp_up_n (hp_ne0 hRl hq_2)]; exact hRl
            have ho_14 : M_10 (qUl g) = some (.inr (1, [.int mdU, .ref (qUe g), .int (nI (nU σ))])) := by rw [eM_11, hp_up_n (hp_ne0 hUl hq_2)]; exact hUl
            have ho_15 : M_10 (qH g 2) = some (.inr (12, [.int 1, .ref (qN g), .int 0, .int 10, .ref (qN g), .ref (qN g), .ref (qN g)])) := by rw [eM_11, hp_up_n (hp_ne0 hH9 hq_2)]; exact hH9
            have ho_16 : M_10 (qA g P9 K9) = some (.inr (3, [.int x0, .int (nI rr), .int (nI I), .int b, .int (nI m9), .int (nI N)])) := by rw [eM_11, hp_up_n (hp_ne0 hac hq_2)]; exact hac
            have ho_17 : M_10 (qC g c9) = some (.inr (4, [.int (σ.2.1 21 c9), .int (σ.2.1 25 c9), .ref (qKl g c9), .ref (qW g c9), .int (σ.2.1 24 c9), .int (σ.2.1 23 c9 - σ.2.1 24 c9), .int (σ.2.1 22 c9), .ref (qN g)])) := by rw [eM_11, hp_up_n (hp_ne0 hCc hq_2)]; exact hCc
            have ha_18 : M_10 (qR g rr) = some (.inl (G.2 (kd σ rr), xr)) := by rw [eM_11, hp_up_n (hp_ne0 hra hq_2)]; exact hra
            have ho_19 : M_10 q_1 = some ((.inl (G.2 4, m9, .inl (fun _ => 0)))) := by rw [eM_11]; exact hp_up_s
            have fr_20 := hp_fr.new hfr hq_2 eM_11
            have nn_21 := hp_fr.nn hfr hq_2
            have sh_22 := hp_sh.new hsh hq_2 eM_11
            refine V_goto (tgt := 104) C dX8_work_100 (by decide) ?_
            refine V_astore C dX8_work_104 (Nat.le_of_ble_eq_true rfl) [(0, .ref (qH g 2)), (1, .ref (qA g P9 K9)), (2, .ref (qC g c9)), (3, .int (nI 10)), (4, .ref (qR g rr)), (5, .null), (6, .ref q_1)] [1, 2, 3, 4, 5, 6, 0] rfl ?_
            have hRJ : REL G (X 0) (gJ g (nJ σ) q_1) (mf_newInner (nJ σ) (nI m9) σ) z (σ.1 31) C9 M_10 := by rw [eM_11]; exact hR.newInner hI hJ8 hm9 hq_2
            have hIJ : MI (mf_newInner (nJ σ) (nI m9) σ) := hI.newInner hJ8 hm9
            have hmJ : MW (mf_newInner (nJ σ) (nI m9) σ) := hm
            refine V_aload_n C dX8_work_106 rfl 2 rfl ?_
            refine V_aload_n C dX8_work_107 rfl 1 rfl ?_
            refine V_getN C f_X8_19_3 ho_16 (v := .int (nI rr)) rfl dX8_work_108 ?_
            refine V_callV C (c_X25_keep l hl G X N0 M_10 (gJ g (nJ σ) q_1) (mf_newInner (nJ σ) (nI m9) σ) z C9 c9 hC hRJ hIJ hmJ rr hr) cs_X8_54_4 ho_17 (show CLS[4]? = some (RX25, TX25, 8) from rfl) rfl rfl ⟨Nat.le_of_ble_eq_true rfl, Nat.le_of_ble_eq_true rfl⟩ ⟨(by first | exact Nat.le_of_ble_eq_true rfl | omega | (dsimp only; omega) | (simp only [List.length_cons, List.length_nil]; omega)), (by first | exact Nat.le_of_ble_eq_true rfl | omega | (dsimp only; omega) | (simp only [List.length_cons, List.length_nil]; omega))⟩ (Nat.le_of_ble_eq_true rfl) dX8_work_111 (fun _ _ _ h => px0 h) ?_
            rintro _ M_23 ⟨rfl, g1, hk1, hR1, hkw1, hKp1⟩
            refine V_st (st' := []) rfl ?_
            have eg_24 : (qH g1 2) = (qH g 2) := hk1 13 2 0 (by decide) (by decide)
            have eg_25 : (qA g1 P9 K9) = (qA g P9 K9) := hk1 11 P9 K9 (by decide) (by decide)
            have eg_26 : (qC g1 c9) = (qC g c9) := hk1 15 c9 0 (by decide) (by decide)
            have eg_27 : (qR g1 rr) = (qR g rr) := hk1 5 rr 0 (by decide) (by decide)
            refine V_loc (L' := [(0, .ref (qH g1 2)), (1, .ref (qA g1 P9 K9)), (2, .ref (qC g1 c9)), (3, .int (nI 10)), (4, .ref (qR g1 rr)), (5, .null), (6, .ref q_1)]) [0, 1, 2, 3, 4, 5, 6] (by rw [eg_24, eg_25, eg_26, eg_27]; rfl) ?_
            have hac1 : M_23 (qA g1 P9 K9) = some (.inr (3, [.int x0, .int (nI rr), .int (nI I), .int b, .int (nI m9), .int (nI N)])) := (hR1.A hP9 hK9).trans (congrArg (fun y => some (Sum.inr (3, y))) hAF)
            obtain ⟨xr1, hra1, hrx1, hrc1⟩ := hR1.rw hr
            have hra1 : M_23 (qR g1 rr) = some (.inl (G.2 (kd σ rr), xr1)) := hra1
            have hrx1 : XT (kd σ rr) (ln σ rr) xr1 := hrx1
            have hju : qJ g1 (nJ σ) = q_1 := (hk1 7 (nJ σ) 0 (by decide) (by decide)).trans (ru_s : ru g.1 7 (nJ σ) 0 q_1 7 (nJ σ) 0 = q_1)
            refine V_iconst (v := 0) C dX8_work_114 rfl ?_
            refine V_istore C dX8_work_115 (Nat.le_of_ble_eq_true rfl) [(0, .ref (qH g1 2)), (1, .ref (qA g1 P9 K9)), (2, .ref (qC g1 c9)), (3, .int (nI 10)), (4, .ref (qR g1 rr)), (5, .null), (6, .ref q_1), (7, .int 0)] [1, 2, 3, 4, 5, 6, 7, 0] rfl ?_
            have hfr3 : hp_fr (fun b => b = qR g1 rr) M_23 M_23 := hp_fr.rf
            have hs3 : hp_sh M_23 M_23 := hp_sh.rf
            have lp_117 : ∀ (fu9 : Nat) (q : Nat) (xk : vp_A) (M117 : hp_h), N - q < fu9 → (q ≤ N) → (∀ y, I ≤ y → y < I + q → CE (nU (mf_newInner (nJ σ) (nI m9) σ)) (nJ (mf_newInner (nJ σ) (nI m9) σ)) (fun y => qU g1 y) (fun y => qJ g1 y) (kd σ rr) xk y (lN (nJ σ))) → (∀ y, ¬ (I ≤ y ∧ y < I + q) → cv xk.2 y = cv xr1.2 y) → (XT (kd σ rr) (ln σ rr) xk) → (M117 (qR g1 rr) = some (.inl (G.2 (kd σ rr), xk))) → (hp_fr (fun b => b = qR g1 rr) M_23 M117) → (hp_sh M_23 M117) → V p l e { frames := 24, cells := 9, slots := 300, locals := 11400 } s m args below meth c G N0 8 (QV below G N0 ((WP G (X 0) g σ z C9 M (mf_fill σ rr (nI I) (nI m9) (nI N)))) PX0 args s (9) (300)) (1 + 2) (0 + m9 + 130) M117 117 [(0, .ref (qH g1 2)), (1, .ref (qA g1 P9 K9)), (2, .ref (qC g1 c9)), (3, .int (nI 10)), (4, .ref (qR g1 rr)), (5, .null), (6, .ref q_1), (7, .int (nI q))] [] := by
              intro fu9
              induction fu9 with
              | zero => intro q xk M117 hfu9; exact absurd hfu9 (Nat.not_lt_zero _)
              | succ fu9 ih117 =>
                intro q xk M117 hfu9 hq hin hcvk hxk hraK hfrK hshK
                have ho_29 : M117 (qA g1 P9 K9) = some (.inr (3, [.int x0, .int (nI rr), .int (nI I), .int b, .int (nI m9), .int (nI N)])) := hfrK _ _ (hp_ne hac1 hra1 (by simp)) hac1
                refine V_iload C dX8_work_117 7 rfl ?_
                refine V_pc (pc1 := 119) rfl ?_
                refine V_aload_n C dX8_work_119 rfl 1 rfl ?_
                refine V_getN C f_X8_60_3 ho_29 (v := .int (nI N)) rfl dX8_work_120 ?_
                refine V_icmp_ge (tgt := 153) C dX8_work_123 (by decide) (fun c_123 => ?_) (fun c_123 => ?_)
                · refine V_goto (tgt := 167) C dX8_work_153 (by decide) ?_
                  refine V_lconst (v := 0) C dX8_work_167 rfl ?_
                  refine V_lret C dX8_work_168 rfl ?_ (by first | exact Nat.le_of_ble_eq_true rfl | omega | (dsimp only; omega) | (simp only [List.length_cons, List.length_nil]; omega)) (by first | exact Nat.le_of_ble_eq_true rfl | omega | (dsimp only; omega) | (simp only [List.length_cons, List.length_nil]; omega))
                  have hq3 : q = N := by have := (nI_leI (by omega) (by omega)).mp c_123; omega
                  subst hq3
                  refine WP.of9 (σ' := sl (mf_newInner (nJ σ) (nI m9) σ) 4 (mfill (σ.2.2.1 4) (40 * rr + I) q (fun _ => lN (nJ σ)))) (ROWK (σ1 := (mf_newInner (nJ σ) (nI m9) σ)) (g0 := (gJ g (nJ σ) q_1)) (f' := mfill (σ.2.2.1 4) (40 * rr + I) q (fun _ => lN (nJ σ))) (by rw [eM_11]; exact RKp.newJ hJ8 hq_2) rfl (fun _ _ _ _ _ _ _ y => RDnewJ hJ8 y) hR1 hKp1 hr hC hkw1 hraK hfrK hshK hxk (fun k hk => ?_) (fun r' k hr' hn hk => ?_) ⟨fun _ _ => rfl, fun _ _ => ⟨rfl, rfl⟩, fun _ _ => rfl, fun _ _ => rfl, rfl, fun _ _ _ _ => rfl⟩) (fill_0 hI hr hg hp hNp (by omega) (fun y => by omega) (by rw [hkk, nI_l (by omega)]; show (if lN m9 = -1 then _ else _) = _; rw [if_neg (lN_n1 (by omega)).symm, lN_i])) h0 rfl
                  · by_cases e : I ≤ k ∧ k < I + q
                    · rw [show 40 * rr + k = 40 * rr + I + (k - I) by omega, mfill_in (by omega)]
                      exact hin k e.1 e.2
                    · rw [mfill_out (by omega)]
                      exact (hrc1 k hk).at_ (hcvk k e)
                  · have : ln σ r' ≤ 40 := (hI.l hr').2
                    have hk' : k < ln σ r' := hk
                    exact mfill_out (by omega)
                · refine V_aload C dX8_work_126 4 rfl ?_
                  refine V_aload_n C dX8_work_128 rfl 1 rfl ?_
                  refine V_getN C f_X8_63_3 ho_29 (v := .int (nI I)) rfl dX8_work_129 ?_
                  refine V_iload C dX8_work_132 7 rfl ?_
                  refine V_iadd C dX8_work_134 ?_
                  refine V_st (st' := [.int (nI (I + q)), .ref (qR g1 rr)]) (by rw [show ((nI I) + (nI q)) = (nI (I + q)) from nI_add I q]) ?_
                  refine V_aload_n C dX8_work_135 rfl 1 rfl ?_
                  refine V_getN C f_X8_35_3 ho_29 (v := .int (nI m9)) rfl dX8_work_136 ?_
                  refine V_i2l (v := (nI m9).toInt64) C dX8_work_139 rfl ?_
                  refine V_st (st' := [.long (lN m9), .int (nI (I + q)), .ref (qR g1 rr)]) (by rw [show ((nI m9).toInt64) = (lN m9) from (nI_l (by omega))]) ?_
                  refine V_aloadN C dX8_work_140 5 rfl ?_
                  refine V_pc (pc1 := 142) rfl ?_
                  refine V_aload C dX8_work_142 6 rfl ?_
                  have hq2 : q < N := nI_ltN9 (by omega) (by omega) c_123
                  obtain ⟨fj, hj1, -⟩ := hR1.ji (j := nJ σ) (by rw [nJ_new hJ8]; omega)
                  have hj2 : hp_AS G M117 (KTZ 10) (qJ g1 (nJ σ)) := Or.inr (Or.inr ⟨rfl, _, hfrK _ _ (hR1.ne (t := 7) (i := nJ σ) (j := 0) (t' := 5) (i' := rr) (j' := 0) ⟨by rw [nJ_new hJ8]; omega, rfl⟩ ⟨hr, rfl⟩ (by simp)) hj1⟩)
                  refine V_callSN C (c_X1_put l hl G X N0 M117 (U := nU (mf_newInner (nJ σ) (nI m9) σ)) (J := nJ (mf_newInner (nJ σ) (nI m9) σ)) (ua := fun y => qU g1 y) (ja := fun y => qJ g1 y) (qR g1 rr) (kd σ rr) (ln σ rr) (I + q) xk hraK hxk (by omega) (by omega) (lN m9) (lN (nJ σ)) none (some q_1) (Or.inr (Or.inr ⟨hkk, Or.inr ⟨nJ σ, by rw [nJ_new hJ8]; omega, rfl, congrArg some hju.symm, hj2⟩⟩))) cs_X8_66 rfl rfl ⟨Nat.le_of_ble_eq_true rfl, Nat.le_of_ble_eq_true rfl⟩ ⟨(by first | exact Nat.le_of_ble_eq_true rfl | omega | (dsimp only; omega) | (simp only [List.length_cons, List.length_nil]; omega)), (by first | exact Nat.le_of_ble_eq_true rfl | omega | (dsimp only; omega) | (simp only [List.length_cons, List.length_nil]; omega))⟩ (Nat.le_of_ble_eq_true rfl) dX8_work_144 (fun _ _ _ h => px0 h) ?_
                  rintro _ M_30 ⟨rfl, x9, eP, hx9, ho9, hw9⟩
                  refine V_st (st' := []) rfl ?_
                  have ho_31 : M_30 (qA g1 P9 K9) = some (.inr (3, [.int x0, .int (nI rr), .int (nI I), .int b, .int (nI m9), .int (nI N)])) := by rw [eP, hp_up_n (hp_ne ho_29 hraK (by simp))]; exact ho_29
                  have hn_32 : M_30 (qR g1 rr) = some (.inl (G.2 (kd σ rr), x9)) := by rw [eP]; exact hp_up_s
                  have fr_33 := hp_fr.set hfrK (Or.inl rfl) eP
                  have sh_34 := hp_sh.set hshK hraK eP rfl
                  refine V_iinc (v := nI (q + 1)) C dX8_work_147 (k := 7) rfl (nI_add q 1) (Nat.le_of_ble_eq_true rfl) [(0, .ref (qH g1 2)), (1, .ref (qA g1 P9 K9)), (2, .ref (qC g1 c9)), (3, .int (nI 10)), (4, .ref (qR g1 rr)), (5, .null), (6, .ref q_1), (7, .int (nI (q + 1)))] [1, 2, 3, 4, 5, 6, 7, 0] rfl ?_
                  refine V_goto (tgt := 117) C dX8_work_150 (by decide) ?_
                  have hin2 : ∀ y, I ≤ y → y < I + (q + 1) → CE (nU (mf_newInner (nJ σ) (nI m9) σ)) (nJ (mf_newInner (nJ σ) (nI m9) σ)) (fun y => qU g1 y) (fun y => qJ g1 y) (kd σ rr) x9 y (lN (nJ σ)) := fun y y1 y2 => by
                    by_cases e : y = I + q
                    · rw [e]; exact hw9
                    · exact (hin y y1 (by omega)).at_ (ho9 y e)
                  have hcv2 : ∀ y, ¬ (I ≤ y ∧ y < I + (q + 1)) → cv x9.2 y = cv xr1.2 y := fun y y1 => (ho9 y (by omega)).trans (hcvk y (by omega))
                  exact ih117 (q + 1) x9 _ (by omega) (by omega) hin2 hcv2 hx9 hn_32 fr_33 sh_34
            refine V_loc (L' := [(0, .ref (qH g1 2)), (1, .ref (qA g1 P9 K9)), (2, .ref (qC g1 c9)), (3, .int (nI 10)), (4, .ref (qR g1 rr)), (5, .null), (6, .ref q_1), (7, .int 0)]) [0, 1, 2, 3, 4, 5, 6, 7] rfl ?_
            exact lp_117 _ 0 xr1 _ (Nat.lt_succ_self _) (Nat.zero_le _) (fun y h1 h2 => by omega) (fun y _ => rfl) hrx1 hra1 hfr3 hs3
      · exact absurd c_59 (by decide)
  · exact absurd hgb (bI_0.mp c_31)
set_option maxHeartbeats 1000000 in
theorem c_X8_work_Csz (l : Launch) (hl : l.stackTraces = false) (G : hp_G) (X : Nat → Nat) (N0 : Nat) (M : hp_h) (g : RG) (σ : MS) (z : Nat → Int32) (C9 c9 : Nat) (hC : c9 + 1 = C9) (hR : REL G (X 0) g σ z (σ.1 31) C9 M) (hI : MI σ) (P9 K9 rr : Nat) (x0 i b j n : Int32) (hP9 : P9 < 6) (hK9 : K9 < psz σ P9) (hr : rr < nR σ) (hAF : AF σ P9 K9 = [.int x0, .int (nI rr), .int i, .int b, .int j, .int n]) (hk9 : 0 ≤ kd σ rr ∧ kd σ rr ≤ 10) (hkk : kd σ rr = 10) (m9 : Nat) (hm9 : m9 ≤ 40) (hj : j = nI m9) (hg : mf_goes σ (nI (kd σ rr)) j.toInt64) (hp : mf_places σ rr i n) (hm : MW σ) (h0 : σ.2.2.2 = 0) (hn0 : n = 0) : HM l yX8_work (wsW_ yX8_work cX8_work 8 (some .long) [(114, 153, 156, 70)]) 24 11400 9 300 G X N0 [.ref (qH g 2), .ref (qA g P9 K9), .ref (qC g c9)] M (WP G (X 0) g σ z C9 M (mf_fill σ rr i j n)) PX0 := by
  refine HM.ofH hl [(0, .ref (qH g 2)), (1, .ref (qA g P9 K9)), (2, .ref (qC g c9))] (by decide +kernel) rfl (Nat.le_of_ble_eq_true rfl) ?_
  intro p e s m args below meth c C hname
  have hN := hR.N
  obtain ⟨mdR, hRl⟩ := hR.Rl
  obtain ⟨fR, hRs, hRf⟩ := hR.Rls
  obtain ⟨mdU, hUl⟩ := hR.Ul
  obtain ⟨fU, hUs, hUf⟩ := hR.Uls
  have hH9 : M (qH g 2) = some (.inr (12, [.int 1, .ref (qN g), .int 0, .int 10, .ref (qN g), .ref (qN g), .ref (qN g)])) := hR.H (by decide)
  have hac : M (qA g P9 K9) = some (.inr (3, [.int x0, .int (nI rr), .int i, .int b, .int j, .int n])) := (hR.A hP9 hK9).trans (congrArg (fun y => some (Sum.inr (3, y))) hAF)
  have hcC : c9 < C9 := by omega
  have hCc := hR.Cc hcC
  subst hj
  have hgb : mf_goes σ (nI 10) (lN m9) := by have y := hg; rw [hkk] at y; rw [(nI_l (by omega))] at y;  exact y
  refine V_aload_n C dX8_work_0 rfl 0 rfl ?_
  refine V_get C f_X8_3_12 hH9 (v := .ref (qN g)) rfl dX8_work_1 ?_
  refine V_getN C f_X8_15_0 hN (v := .ref (qRl g)) rfl dX8_work_4 ?_
  refine V_aload_n C dX8_work_7 rfl 1 rfl ?_
  refine V_getN C f_X8_19_3 hac (v := .int (nI rr)) rfl dX8_work_8 ?_
  refine V_callV C (c_J2_get l hl G X N0 M (qRl g) (qRe g) (nR σ) (gcp g 2 0) mdR fR hRl (hRs.2.2.1 (by have := hRs.2.2.2.1; omega)) (by have := hRs.2.2.2.2; omega) hRs.2.2.2.1 rr (qR g rr) hr (hRf rr hr)) cs_X8_25_1 hRl (show CLS[1]? = some (RJ2, TJ2, 3) from rfl) rfl rfl ⟨Nat.le_of_ble_eq_true rfl, Nat.le_of_ble_eq_true rfl⟩ ⟨(by first | exact Nat.le_of_ble_eq_true rfl | omega | (dsimp only; omega) | (simp only [List.length_cons, List.length_nil]; omega)), (by first | exact Nat.le_of_ble_eq_true rfl | omega | (dsimp only; omega) | (simp only [List.length_cons, List.length_nil]; omega))⟩ (Nat.le_of_ble_eq_true rfl) dX8_work_11 (fun _ _ _ h => px0 h) ?_
  rintro _ _ ⟨rfl, rfl⟩
  refine V_st (st' := [.ref (qR g rr)]) rfl ?_
  obtain ⟨xr, hra, hrx, hrc⟩ := hR.rw hr
  obtain ⟨hkE, hkL⟩ := hI.k hr
  obtain ⟨hlE, hlL⟩ := hI.l hr
  refine V_callSN C (c_X1_kindOf l hl G X N0 M (qR g rr) (kd σ rr) hkL xr hra) cs_X8_31 rfl rfl ⟨Nat.le_of_ble_eq_true rfl, Nat.le_of_ble_eq_true rfl⟩ ⟨(by first | exact Nat.le_of_ble_eq_true rfl | omega | (dsimp only; omega) | (simp only [List.length_cons, List.length_nil]; omega)), (by first | exact Nat.le_of_ble_eq_true rfl | omega | (dsimp only; omega) | (simp only [List.length_cons, List.length_nil]; omega))⟩ (Nat.le_of_ble_eq_true rfl) dX8_work_14 (fun _ _ _ h => px0 h) ?_
  rintro _ _ ⟨rfl, rfl⟩
  refine V_st (st' := [.int (nI (kd σ rr))]) rfl ?_
  refine V_st (st' := [.int (nI 10)]) (by rw [hkk]) ?_
  refine V_istore_n C dX8_work_17 rfl (Nat.le_of_ble_eq_true rfl) [(0, .ref (qH g 2)), (1, .ref (qA g P9 K9)), (2, .ref (qC g c9)), (3, .int (nI 10))] [1, 2, 3, 0] rfl ?_
  refine V_aload_n C dX8_work_18 rfl 0 rfl ?_
  refine V_get C f_X8_3_12 hH9 (v := .ref (qN g)) rfl dX8_work_19 ?_
  refine V_iload_n C dX8_work_22 rfl 3 rfl ?_
  refine V_pc (pc1 := 23) rfl ?_
  refine V_aload_n C dX8_work_23 rfl 1 rfl ?_
  refine V_getN C f_X8_35_3 hac (v := .int (nI m9)) rfl dX8_work_24 ?_
  refine V_i2l (v := (nI m9).toInt64) C dX8_work_27 rfl ?_
  refine V_st (st' := [.long (lN m9), .int (nI 10), .ref (qN g)]) (by rw [show ((nI m9).toInt64) = (lN m9) from (nI_l (by omega))]) ?_
  refine V_callVN C (c_X1_goes l hl G X N0 M g σ z (σ.1 31) C9 hR hI 10 (lN m9) (by decide)) cs_X8_38_0 hN (show CLS[0]? = some (RX1, TX1, 17) from rfl) rfl rfl ⟨Nat.le_of_ble_eq_true rfl, Nat.le_of_ble_eq_true rfl⟩ ⟨(by first | exact Nat.le_of_ble_eq_true rfl | omega | (dsimp only; omega) | (simp only [List.length_cons, List.length_nil]; omega)), (by first | exact Nat.le_of_ble_eq_true rfl | omega | (dsimp only; omega) | (simp only [List.length_cons, List.length_nil]; omega))⟩ (Nat.le_of_ble_eq_true rfl) dX8_work_28 (fun _ _ _ h => px0 h) ?_
  rintro _ _ ⟨rfl, rfl⟩
  refine V_st (st' := [.int (bI (mf_goes σ (nI 10) (lN m9)))]) rfl ?_
  refine V_if_ne (tgt := 43) C dX8_work_31 (by decide) (fun c_31 => ?_) (fun c_31 => ?_)
  · refine V_aload_n C dX8_work_43 rfl 0 rfl ?_
    refine V_aload_n C dX8_work_44 rfl 1 rfl ?_
    refine V_callU C (c_X7_part_12 l hl G X N0 M g σ z C9 c9 hC hR hI (qH g 2) hH9 (qA g P9 K9) x0 rr i b (nI m9) n hr hac hk9 hp) cs_X8_46_12 hH9 (show CLS[12]? = some (RX8, TX8, 7) from rfl) rfl rfl ⟨Nat.le_of_ble_eq_true rfl, Nat.le_of_ble_eq_true rfl⟩ ⟨(by first | exact Nat.le_of_ble_eq_true rfl | omega | (dsimp only; omega) | (simp only [List.length_cons, List.length_nil]; omega)), (by first | exact Nat.le_of_ble_eq_true rfl | omega | (dsimp only; omega) | (simp only [List.length_cons, List.length_nil]; omega))⟩ (Nat.le_of_ble_eq_true rfl) dX8_work_45 (fun _ _ _ h => px0 h) ?_
    rintro _ _ ⟨rfl, rfl⟩
    refine V_st (st' := [.ref (qR g rr)]) rfl ?_
    obtain ⟨I, N, rfl, rfl, hIN⟩ := places_n (hI.l hr) hp
    obtain rfl : N = 0 := (nI_eq (b := 0) (by omega) (by decide)).mp hn0
    refine V_astore C dX8_work_48 (Nat.le_of_ble_eq_true rfl) [(0, .ref (qH g 2)), (1, .ref (qA g P9 K9)), (2, .ref (qC g c9)), (3, .int (nI 10)), (4, .ref (qR g rr))] [1, 2, 3, 4, 0] rfl ?_
    refine V_iload_n C dX8_work_50 rfl 3 rfl ?_
    refine V_bipush (v := 8) C dX8_work_51 rfl ?_
    refine V_icmp_eq (tgt := 62) C dX8_work_53 (by decide) (fun c_53 => ?_) (fun c_53 => ?_)
    · exact absurd c_53 (by decide)
    · refine V_pc (pc1 := 56) rfl ?_
      refine V_iload_n C dX8_work_56 rfl 3 rfl ?_
      refine V_bipush (v := 9) C dX8_work_57 rfl ?_
      refine V_icmp_ne (tgt := 77) C dX8_work_59 (by decide) (fun c_59 => ?_) (fun c_59 => ?_)
      · refine V_null C dX8_work_77 ?_
        refine V_astoreN C dX8_work_78 (Nat.le_of_ble_eq_true rfl) [(0, .ref (qH g 2)), (1, .ref (qA g P9 K9)), (2, .ref (qC g c9)), (3, .int (nI 10)), (4, .ref (qR g rr)), (5, .null)] [1, 2, 3, 4, 5, 0] rfl ?_
        refine V_iload_n C dX8_work_80 rfl 3 rfl ?_
        refine V_bipush (v := 10) C dX8_work_81 rfl ?_
        refine V_icmp_ne (tgt := 103) C dX8_work_83 (by decide) (fun c_83 => ?_) (fun c_83 => ?_)
        · exact absurd c_83 (by decide)
        · refine V_aload_n C dX8_work_86 rfl 1 rfl ?_
          refine V_getN C f_X8_35_3 hac (v := .int (nI m9)) rfl dX8_work_87 ?_
          refine V_iconst (v := -1) C dX8_work_90 rfl ?_
          refine V_icmp_eq (tgt := 103) C dX8_work_91 (by decide) (fun c_91 => ?_) (fun c_91 => ?_)
          · exact absurd c_91 (nI_m1 (by omega))
          · have hfr : hp_fr (fun _ => False) M M := hp_fr.rf
            have hsh : hp_sh M M := hp_sh.rf
            refine V_pc (pc1 := 94) rfl ?_
            refine V_aload_n C dX8_work_94 rfl 1 rfl ?_
            refine V_getN C f_X8_35_3 hac (v := .int (nI m9)) rfl dX8_work_95 ?_
            refine V_new_i C q539 (N' := m9) (nI_pos (by omega)) (nI_clamp (by omega)) (by omega) (by first | exact Nat.le_of_ble_eq_true rfl | omega | (dsimp only; omega) | (simp only [List.length_cons, List.length_nil]; omega)) (by first | exact Nat.le_of_ble_eq_true rfl | omega | (dsimp only; omega) | (simp only [List.length_cons, List.length_nil]; omega)) dX8_work_98 (fun q_1 hq_2 => ?_)
            have ne_3 : (qN g) ≠ q_1 := hp_ne0 hN hq_2
            have ne_4 : (qRl g) ≠ q_1 := hp_ne0 hRl hq_2
            have ne_5 : (qUl g) ≠ q_1 := hp_ne0 hUl hq_2
            have ne_6 : (qH g 2) ≠ q_1 := hp_ne0 hH9 hq_2
            have ne_7 : (qA g P9 K9) ≠ q_1 := hp_ne0 hac hq_2
            have ne_8 : (qC g c9) ≠ q_1 := hp_ne0 hCc hq_2
            have ne_9 : (qR g rr) ≠ q_1 := hp_ne0 hra hq_2
            obtain ⟨M_10, eM_11⟩ : ∃ z, z = hp_up M q_1 ((.inl (G.2 4, m9, .inl (fun _ => 0)))) := ⟨_, rfl⟩
            refine V_heap (M' := M_10) eM_11.symm ?_
            have ho_12 : M_10 (qN g) = some (.inr (0, [.ref (qRl g), .ref (qUl g), .ref (qPl g), .ref (qHs g), .int (σ.1 20), .int (σ.1 14), .int (σ.1 11), .int (σ.1 12), .int (σ.1 15), .int (z 0), .int (z 1), .int (z 2), .int (z 3), .int (z 4), .int (z 5), .int (σ.1 31), .ref (qAn g)])) := by rw [eM_11, hp_up_n (hp_ne0 hN hq_2)]; exact hN
            have ho_13 : M_10 (qRl g) = some (.inr (1, [.int mdR, .ref (qRe g), .int (nI (nR σ))])) := by rw [eM_11, hp_up_n (hp_ne0 hRl hq_2)]; exact hRl
            have ho_14 : M_10 (qUl g) = some (.inr (1, [.int mdU, .ref (qUe g), .int (nI (nU σ))])) := by rw [eM_11, hp_up_n (hp_ne0 hUl hq_2)]; exact hUl
            have ho_15 : M_10 (qH g 2) = some (.inr (12, [.int 1, .ref (qN g), .int 0, .int 10, .ref (qN g), .ref (qN g), .ref (qN g)])) := by rw [eM_11, hp_up_n (hp_ne0 hH9 hq_2)]; exact hH9
            have ho_16 : M_10 (qA g P9 K9) = some (.inr (3, [.int x0, .int (nI rr), .int (nI I), .int b, .int (nI m9), .int (nI 0)])) := by rw [eM_11, hp_up_n (hp_ne0 hac hq_2)]; exact hac
            have ho_17 : M_10 (qC g c9) = some (.inr (4, [.int (σ.2.1 21 c9), .int (σ.2.1 25 c9), .ref (qKl g c9), .ref (qW g c9), .int (σ.2.1 24 c9), .int (σ.2.1 23 c9 - σ.2.1 24 c9), .int (σ.2.1 22 c9), .ref (qN g)])) := by rw [eM_11, hp_up_n (hp_ne0 hCc hq_2)]; exact hCc
            have ha_18 : M_10 (qR g rr) = some (.inl (G.2 (kd σ rr), xr)) := by rw [eM_11, hp_up_n (hp_ne0 hra hq_2)]; exact hra
            have ho_19 : M_10 q_1 = some ((.inl (G.2 4, m9, .inl (fun _ => 0)))) := by rw [eM_11]; exact hp_up_s
            have fr_20 := hp_fr.new hfr hq_2 eM_11
            have nn_21 := hp_fr.nn hfr hq_2
            have sh_22 := hp_sh.new hsh hq_2 eM_11
            refine V_goto (tgt := 104) C dX8_work_100 (by decide) ?_
            refine V_astore C dX8_work_104 (Nat.le_of_ble_eq_true rfl) [(0, .ref (qH g 2)), (1, .ref (qA g P9 K9)), (2, .ref (qC g c9)), (3, .int (nI 10)), (4, .ref (qR g rr)), (5, .null), (6, .ref q_1)] [1, 2, 3, 4, 5, 6, 0] rfl ?_
            refine V_aload_n C dX8_work_106 rfl 2 rfl ?_
            refine V_aload_n C dX8_work_107 rfl 1 rfl ?_
            refine V_getN C f_X8_19_3 ho_16 (v := .int (nI rr)) rfl dX8_work_108 ?_
            have hR_24 := hR.grow fr_20
            refine V_callV C (c_X25_keep l hl G X N0 M_10 g σ z C9 c9 hC hR_24 hI hm rr hr) cs_X8_54_4 ho_17 (show CLS[4]? = some (RX25, TX25, 8) from rfl) rfl rfl ⟨Nat.le_of_ble_eq_true rfl, Nat.le_of_ble_eq_true rfl⟩ ⟨(by first | exact Nat.le_of_ble_eq_true rfl | omega | (dsimp only; omega) | (simp only [List.length_cons, List.length_nil]; omega)), (by first | exact Nat.le_of_ble_eq_true rfl | omega | (dsimp only; omega) | (simp only [List.length_cons, List.length_nil]; omega))⟩ (Nat.le_of_ble_eq_true rfl) dX8_work_111 (fun _ _ _ h => px0 h) ?_
            rintro _ M_23 ⟨rfl, g1, hk1, hR1, hkw1, hKp1⟩
            refine V_st (st' := []) rfl ?_
            have eg_25 : (qH g1 2) = (qH g 2) := hk1 13 2 0 (by decide) (by decide)
            have eg_26 : (qA g1 P9 K9) = (qA g P9 K9) := hk1 11 P9 K9 (by decide) (by decide)
            have eg_27 : (qC g1 c9) = (qC g c9) := hk1 15 c9 0 (by decide) (by decide)
            have eg_28 : (qR g1 rr) = (qR g rr) := hk1 5 rr 0 (by decide) (by decide)
            refine V_loc (L' := [(0, .ref (qH g1 2)), (1, .ref (qA g1 P9 K9)), (2, .ref (qC g1 c9)), (3, .int (nI 10)), (4, .ref (qR g1 rr)), (5, .null), (6, .ref q_1)]) [0, 1, 2, 3, 4, 5, 6] (by rw [eg_25, eg_26, eg_27, eg_28]; rfl) ?_
            have hac1 : M_23 (qA g1 P9 K9) = some (.inr (3, [.int x0, .int (nI rr), .int (nI I), .int b, .int (nI m9), .int (nI 0)])) := (hR1.A hP9 hK9).trans (congrArg (fun y => some (Sum.inr (3, y))) hAF)
            have hH1 : M_23 (qH g1 2) = some (.inr (12, [.int 1, .ref (qN g1), .int 0, .int 10, .ref (qN g1), .ref (qN g1), .ref (qN g1)])) := hR1.H (by decide)
            have sh_29 := sh_22.trans hKp1.2.2
            have hw_30 := hKp1.2.1 _ _ ho_19 (fun ⟨_, _, _, hd9, e9⟩ => hR.fresh hq_2 _ _ _ hd9 e9)
            obtain ⟨xr1, hra1, hrx1, hrc1⟩ := hR1.rw hr
            refine V_iconst (v := 0) C dX8_work_114 rfl ?_
            refine V_istore C dX8_work_115 (Nat.le_of_ble_eq_true rfl) [(0, .ref (qH g1 2)), (1, .ref (qA g1 P9 K9)), (2, .ref (qC g1 c9)), (3, .int (nI 10)), (4, .ref (qR g1 rr)), (5, .null), (6, .ref q_1), (7, .int 0)] [1, 2, 3, 4, 5, 6, 7, 0] rfl ?_
            refine V_iload C dX8_work_117 7 rfl ?_
            refine V_pc (pc1 := 119) rfl ?_
            refine V_aload_n C dX8_work_119 rfl 1 rfl ?_
            refine V_getN C f_X8_60_3 hac1 (v := .int (nI 0)) rfl dX8_work_120 ?_
            refine V_icmp_ge (tgt := 153) C dX8_work_123 (by decide) (fun c_123 => ?_) (fun c_123 => ?_)
            · refine V_goto (tgt := 167) C dX8_work_153 (by decide) ?_
              refine V_lconst (v := 0) C dX8_work_167 rfl ?_
              refine V_lret C dX8_work_168 rfl ?_ (by first | exact Nat.le_of_ble_eq_true rfl | omega | (dsimp only; omega) | (simp only [List.length_cons, List.length_nil]; omega)) (by first | exact Nat.le_of_ble_eq_true rfl | omega | (dsimp only; omega) | (simp only [List.length_cons, List.length_nil]; omega))
              exact WP.of9 (σ' := σ) ⟨hR1, (RKp.grow (fun _ _ _ y => y) fr_20).trans hKp1 (Nat.le_refl _) (Nat.le_refl _) (fun _ _ _ _ _ _ _ hd _ _ => hd)⟩ (fill_z hI hr hg hp (by omega)) h0 rfl
            · exact absurd c_123 (by decide)
      · exact absurd c_59 (by decide)
  · exact absurd hgb (bI_0.mp c_31)
set_option maxHeartbeats 1000000 in
theorem c_X8_work_3 (l : Launch) (hl : l.stackTraces = false) (G : hp_G) (X : Nat → Nat) (N0 : Nat) (M : hp_h) (g : RG) (σ : MS) (z : Nat → Int32) (C9 c9 : Nat) (hC : c9 + 1 = C9) (hR : REL G (X 0) g σ z (σ.1 31) C9 M) (hI : MI σ) (P9 K9 rr : Nat) (x0 i b j n : Int32) (hP9 : P9 < 6) (hK9 : K9 < psz σ P9) (hr : rr < nR σ) (hAF : AF σ P9 K9 = [.int x0, .int (nI rr), .int i, .int b, .int j, .int n]) (hk9 : 0 ≤ kd σ rr ∧ kd σ rr ≤ 10) (hkk : kd σ rr = 9) (u : Nat) (hu : u < nU σ) (hj : j = nI u) (hg : mf_goes σ (nI (kd σ rr)) j.toInt64) (hp : mf_places σ rr i n) (hm : MW σ) (hcd0 : (σ.2.1 6 u).toNatClampNeg = 0) (hn0 : n ≠ 0) : HM l yX8_work (wsW_ yX8_work cX8_work 8 (some .long) [(114, 153, 156, 70)]) 24 11400 9 300 G X N0 [.ref (qH g 2), .ref (qA g P9 K9), .ref (qC g c9)] M PFF (WX G (X 0) g σ z C9 M (mf_fill σ rr i j n)) := by
  refine HM.ofH hl [(0, .ref (qH g 2)), (1, .ref (qA g P9 K9)), (2, .ref (qC g c9))] (by decide +kernel) rfl (Nat.le_of_ble_eq_true rfl) ?_
  intro p e s m args below meth c C hname
  have hN := hR.N
  obtain ⟨mdR, hRl⟩ := hR.Rl
  obtain ⟨fR, hRs, hRf⟩ := hR.Rls
  obtain ⟨mdU, hUl⟩ := hR.Ul
  obtain ⟨fU, hUs, hUf⟩ := hR.Uls
  have hH9 : M (qH g 2) = some (.inr (12, [.int 1, .ref (qN g), .int 0, .int 10, .ref (qN g), .ref (qN g), .ref (qN g)])) := hR.H (by decide)
  have hac : M (qA g P9 K9) = some (.inr (3, [.int x0, .int (nI rr), .int i, .int b, .int j, .int n])) := (hR.A hP9 hK9).trans (congrArg (fun y => some (Sum.inr (3, y))) hAF)
  have hcC : c9 < C9 := by omega
  have hCc := hR.Cc hcC
  subst hj
  have hgb : mf_goes σ (nI 9) (lN u) := by have y := hg; rw [hkk] at y; rw [(nI_l (by have := hI.U.2; omega))] at y;  exact y
  refine V_aload_n C dX8_work_0 rfl 0 rfl ?_
  refine V_get C f_X8_3_12 hH9 (v := .ref (qN g)) rfl dX8_work_1 ?_
  refine V_getN C f_X8_15_0 hN (v := .ref (qRl g)) rfl dX8_work_4 ?_
  refine V_aload_n C dX8_work_7 rfl 1 rfl ?_
  refine V_getN C f_X8_19_3 hac (v := .int (nI rr)) rfl dX8_work_8 ?_
  refine V_callV C (c_J2_get l hl G X N0 M (qRl g) (qRe g) (nR σ) (gcp g 2 0) mdR fR hRl (hRs.2.2.1 (by have := hRs.2.2.2.1; omega)) (by have := hRs.2.2.2.2; omega) hRs.2.2.2.1 rr (qR g rr) hr (hRf rr hr)) cs_X8_25_1 hRl (show CLS[1]? = some (RJ2, TJ2, 3) from rfl) rfl rfl ⟨Nat.le_of_ble_eq_true rfl, Nat.le_of_ble_eq_true rfl⟩ ⟨(by first | exact Nat.le_of_ble_eq_true rfl | omega | (dsimp only; omega) | (simp only [List.length_cons, List.length_nil]; omega)), (by first | exact Nat.le_of_ble_eq_true rfl | omega | (dsimp only; omega) | (simp only [List.length_cons, List.length_nil]; omega))⟩ (Nat.le_of_ble_eq_true rfl) dX8_work_11 (fun _ _ _ h => px0 h) ?_
  rintro _ _ ⟨rfl, rfl⟩
  refine V_st (st' := [.ref (qR g rr)]) rfl ?_
  obtain ⟨xr, hra, hrx, hrc⟩ := hR.rw hr
  obtain ⟨hkE, hkL⟩ := hI.k hr
  obtain ⟨hlE, hlL⟩ := hI.l hr
  refine V_callSN C (c_X1_kindOf l hl G X N0 M (qR g rr) (kd σ rr) hkL xr hra) cs_X8_31 rfl rfl ⟨Nat.le_of_ble_eq_true rfl, Nat.le_of_ble_eq_true rfl⟩ ⟨(by first | exact Nat.le_of_ble_eq_true rfl | omega | (dsimp only; omega) | (simp only [List.length_cons, List.length_nil]; omega)), (by first | exact Nat.le_of_ble_eq_true rfl | omega | (dsimp only; omega) | (simp only [List.length_cons, List.length_nil]; omega))⟩ (Nat.le_of_ble_eq_true rfl) dX8_work_14 (fun _ _ _ h => px0 h) ?_
  rintro _ _ ⟨rfl, rfl⟩
  refine V_st (st' := [.int (nI (kd σ rr))]) rfl ?_
  refine V_st (st' := [.int (nI 9)]) (by rw [hkk]) ?_
  refine V_istore_n C dX8_work_17 rfl (Nat.le_of_ble_eq_true rfl) [(0, .ref (qH g 2)), (1, .ref (qA g P9 K9)), (2, .ref (qC g c9)), (3, .int (nI 9))] [1, 2, 3, 0] rfl ?_
  refine V_aload_n C dX8_work_18 rfl 0 rfl ?_
  refine V_get C f_X8_3_12 hH9 (v := .ref (qN g)) rfl dX8_work_19 ?_
  refine V_iload_n C dX8_work_22 rfl 3 rfl ?_
  refine V_pc (pc1 := 23) rfl ?_
  refine V_aload_n C dX8_work_23 rfl 1 rfl ?_
  refine V_getN C f_X8_35_3 hac (v := .int (nI u)) rfl dX8_work_24 ?_
  refine V_i2l (v := (nI u).toInt64) C dX8_work_27 rfl ?_
  refine V_st (st' := [.long (lN u), .int (nI 9), .ref (qN g)]) (by rw [show ((nI u).toInt64) = (lN u) from (nI_l (by have := hI.U.2; omega))]) ?_
  refine V_callVN C (c_X1_goes l hl G X N0 M g σ z (σ.1 31) C9 hR hI 9 (lN u) (by decide)) cs_X8_38_0 hN (show CLS[0]? = some (RX1, TX1, 17) from rfl) rfl rfl ⟨Nat.le_of_ble_eq_true rfl, Nat.le_of_ble_eq_true rfl⟩ ⟨(by first | exact Nat.le_of_ble_eq_true rfl | omega | (dsimp only; omega) | (simp only [List.length_cons, List.length_nil]; omega)), (by first | exact Nat.le_of_ble_eq_true rfl | omega | (dsimp only; omega) | (simp only [List.length_cons, List.length_nil]; omega))⟩ (Nat.le_of_ble_eq_true rfl) dX8_work_28 (fun _ _ _ h => px0 h) ?_
  rintro _ _ ⟨rfl, rfl⟩
  refine V_st (st' := [.int (bI (mf_goes σ (nI 9) (lN u)))]) rfl ?_
  refine V_if_ne (tgt := 43) C dX8_work_31 (by decide) (fun c_31 => ?_) (fun c_31 => ?_)
  · refine V_aload_n C dX8_work_43 rfl 0 rfl ?_
    refine V_aload_n C dX8_work_44 rfl 1 rfl ?_
    refine V_callU C (c_X7_part_12 l hl G X N0 M g σ z C9 c9 hC hR hI (qH g 2) hH9 (qA g P9 K9) x0 rr i b (nI u) n hr hac hk9 hp) cs_X8_46_12 hH9 (show CLS[12]? = some (RX8, TX8, 7) from rfl) rfl rfl ⟨Nat.le_of_ble_eq_true rfl, Nat.le_of_ble_eq_true rfl⟩ ⟨(by first | exact Nat.le_of_ble_eq_true rfl | omega | (dsimp only; omega) | (simp only [List.length_cons, List.length_nil]; omega)), (by first | exact Nat.le_of_ble_eq_true rfl | omega | (dsimp only; omega) | (simp only [List.length_cons, List.length_nil]; omega))⟩ (Nat.le_of_ble_eq_true rfl) dX8_work_45 (fun _ _ _ h => px0 h) ?_
    rintro _ _ ⟨rfl, rfl⟩
    refine V_st (st' := [.ref (qR g rr)]) rfl ?_
    obtain ⟨I, N, rfl, rfl, hIN⟩ := places_n (hI.l hr) hp
    have hNp : 0 < N := Nat.pos_of_ne_zero (fun y => hn0 (by rw [y]; rfl))
    refine V_astore C dX8_work_48 (Nat.le_of_ble_eq_true rfl) [(0, .ref (qH g 2)), (1, .ref (qA g P9 K9)), (2, .ref (qC g c9)), (3, .int (nI 9)), (4, .ref (qR g rr))] [1, 2, 3, 4, 0] rfl ?_
    refine V_iload_n C dX8_work_50 rfl 3 rfl ?_
    refine V_bipush (v := 8) C dX8_work_51 rfl ?_
    refine V_icmp_eq (tgt := 62) C dX8_work_53 (by decide) (fun c_53 => ?_) (fun c_53 => ?_)
    · exact absurd c_53 (by decide)
    · refine V_pc (pc1 := 56) rfl ?_
      refine V_iload_n C dX8_work_56 rfl 3 rfl ?_
      refine V_bipush (v := 9) C dX8_work_57 rfl ?_
      refine V_icmp_ne (tgt := 77) C dX8_work_59 (by decide) (fun c_59 => ?_) (fun c_59 => ?_)
      · exact absurd c_59 (by decide)
      · refine V_aload_n C dX8_work_62 rfl 0 rfl ?_
        refine V_get C f_X8_3_12 hH9 (v := .ref (qN g)) rfl dX8_work_63 ?_
        refine V_aload_n C dX8_work_66 rfl 1 rfl ?_
        refine V_getN C f_X8_35_3 hac (v := .int (nI u)) rfl dX8_work_67 ?_
        refine V_i2l (v := (nI u).toInt64) C dX8_work_70 rfl ?_
        refine V_st (st' := [.long (lN u), .ref (qN g)]) (by rw [show ((nI u).toInt64) = (lN u) from (nI_l (by have := hI.U.2; omega))]) ?_
        refine V_callVN C (c_X1_unitOf_u l hl G X N0 M g σ z (σ.1 31) C9 hR hI u hu) cs_X8_50_0 hN (show CLS[0]? = some (RX1, TX1, 17) from rfl) rfl rfl ⟨Nat.le_of_ble_eq_true rfl, Nat.le_of_ble_eq_true rfl⟩ ⟨(by first | exact Nat.le_of_ble_eq_true rfl | omega | (dsimp only; omega) | (simp only [List.length_cons, List.length_nil]; omega)), (by first | exact Nat.le_of_ble_eq_true rfl | omega | (dsimp only; omega) | (simp only [List.length_cons, List.length_nil]; omega))⟩ (Nat.le_of_ble_eq_true rfl) dX8_work_71 (fun _ _ _ h => px0 h) ?_
        rintro _ _ ⟨rfl, rfl⟩
        refine V_st (st' := [.ref (qU g u)]) rfl ?_
        refine V_goto (tgt := 78) C dX8_work_74 (by decide) ?_
        refine V_astore C dX8_work_78 (Nat.le_of_ble_eq_true rfl) [(0, .ref (qH g 2)), (1, .ref (qA g P9 K9)), (2, .ref (qC g c9)), (3, .int (nI 9)), (4, .ref (qR g rr)), (5, .ref (qU g u))] [1, 2, 3, 4, 5, 0] rfl ?_
        refine V_iload_n C dX8_work_80 rfl 3 rfl ?_
        refine V_pc (pc1 := 81) rfl ?_
        refine V_bipush (v := 10) C dX8_work_81 rfl ?_
        refine V_icmp_ne (tgt := 103) C dX8_work_83 (by decide) (fun c_83 => ?_) (fun c_83 => ?_)
        · refine V_null C dX8_work_103 ?_
          refine V_astoreN C dX8_work_104 (Nat.le_of_ble_eq_true rfl) [(0, .ref (qH g 2)), (1, .ref (qA g P9 K9)), (2, .ref (qC g c9)), (3, .int (nI 9)), (4, .ref (qR g rr)), (5, .ref (qU g u)), (6, .null)] [1, 2, 3, 4, 5, 6, 0] rfl ?_
          refine V_aload_n C dX8_work_106 rfl 2 rfl ?_
          refine V_aload_n C dX8_work_107 rfl 1 rfl ?_
          refine V_getN C f_X8_19_3 hac (v := .int (nI rr)) rfl dX8_work_108 ?_
          have hfr : hp_fr (fun _ => False) M M := hp_fr.rf
          have hsh : hp_sh M M := hp_sh.rf
          refine V_callV C (c_X25_keep l hl G X N0 M g σ z C9 c9 hC hR hI hm rr hr) cs_X8_54_4 hCc (show CLS[4]? = some (RX25, TX25, 8) from rfl) rfl rfl ⟨Nat.le_of_ble_eq_true rfl, Nat.le_of_ble_eq_true rfl⟩ ⟨(by first | exact Nat.le_of_ble_eq_true rfl | omega | (dsimp only; omega) | (simp only [List.length_cons, List.length_nil]; omega)), (by first | exact Nat.le_of_ble_eq_true rfl | omega | (dsimp only; omega) | (simp only [List.length_cons, List.length_nil]; omega))⟩ (Nat.le_of_ble_eq_true rfl) dX8_work_111 (fun _ _ _ h => px0 h) ?_
          rintro _ M_1 ⟨rfl, g1, hk1, hR1, hkw1, hKp1⟩
          refine V_st (st' := []) rfl ?_
          have eg_2 : (qH g1 2) = (qH g 2) := hk1 13 2 0 (by decide) (by decide)
          have eg_3 : (qA g1 P9 K9) = (qA g P9 K9) := hk1 11 P9 K9 (by decide) (by decide)
          have eg_4 : (qC g1 c9) = (qC g c9) := hk1 15 c9 0 (by decide) (by decide)
          have eg_5 : (qR g1 rr) = (qR g rr) := hk1 5 rr 0 (by decide) (by decide)
          have eg_6 : (qU g1 u) = (qU g u) := hk1 6 u 0 (by decide) (by decide)
          refine V_loc (L' := [(0, .ref (qH g1 2)), (1, .ref (qA g1 P9 K9)), (2, .ref (qC g1 c9)), (3, .int (nI 9)), (4, .ref (qR g1 rr)), (5, .ref (qU g1 u)), (6, .null)]) [0, 1, 2, 3, 4, 5, 6] (by rw [eg_2, eg_3, eg_4, eg_5, eg_6]; rfl) ?_
          have hac1 : M_1 (qA g1 P9 K9) = some (.inr (3, [.int x0, .int (nI rr), .int (nI I), .int b, .int (nI u), .int (nI N)])) := (hR1.A hP9 hK9).trans (congrArg (fun y => some (Sum.inr (3, y))) hAF)
          have hH1 : M_1 (qH g1 2) = some (.inr (12, [.int 1, .ref (qN g1), .int 0, .int 10, .ref (qN g1), .ref (qN g1), .ref (qN g1)])) := hR1.H (by decide)
          have hN1 := hR1.N
          have sh_7 := hsh.trans hKp1.2.2
          obtain ⟨xr1, hra1, hrx1, hrc1⟩ := hR1.rw hr
          refine V_iconst (v := 0) C dX8_work_114 rfl ?_
          refine V_istore C dX8_work_115 (Nat.le_of_ble_eq_true rfl) [(0, .ref (qH g1 2)), (1, .ref (qA g1 P9 K9)), (2, .ref (qC g1 c9)), (3, .int (nI 9)), (4, .ref (qR g1 rr)), (5, .ref (qU g1 u)), (6, .null), (7, .int 0)] [1, 2, 3, 4, 5, 6, 7, 0] rfl ?_
          refine V_iload C dX8_work_117 7 rfl ?_
          refine V_aload_n C dX8_work_119 rfl 1 rfl ?_
          refine V_pc (pc1 := 120) rfl ?_
          refine V_getN C f_X8_60_3 hac1 (v := .int (nI N)) rfl dX8_work_120 ?_
          refine V_icmp_ge (tgt := 153) C dX8_work_123 (by decide) (fun c_123 => ?_) (fun c_123 => ?_)
          · exact absurd ((nI_leI (b := 0) (by omega) (by decide)).mp c_123) (by omega)
          · refine V_aload C dX8_work_126 4 rfl ?_
            refine V_aload_n C dX8_work_128 rfl 1 rfl ?_
            refine V_getN C f_X8_63_3 hac1 (v := .int (nI I)) rfl dX8_work_129 ?_
            refine V_iload C dX8_work_132 7 rfl ?_
            refine V_iadd C dX8_work_134 ?_
            refine V_st (st' := [.int (nI (I + 0)), .ref (qR g1 rr)]) (by rw [show ((nI I) + 0) = (nI (I + 0)) from nI_add I 0]) ?_
            refine V_aload_n C dX8_work_135 rfl 1 rfl ?_
            refine V_getN C f_X8_35_3 hac1 (v := .int (nI u)) rfl dX8_work_136 ?_
            refine V_i2l (v := (nI u).toInt64) C dX8_work_139 rfl ?_
            refine V_st (st' := [.long (lN u), .int (nI (I + 0)), .ref (qR g1 rr)]) (by rw [show ((nI u).toInt64) = (lN u) from (nI_l (by have := hI.U.2; omega))]) ?_
            refine V_aload C dX8_work_140 5 rfl ?_
            refine V_aloadN C dX8_work_142 6 rfl ?_
            refine V_pc (pc1 := 144) rfl ?_
            obtain ⟨f9, hf1, -⟩ := hR1.r89 hr (Or.inr hkk)
            rw [hkk] at hf1
            have hv9 := hR1.un hu
            rw [hcd0] at hv9
            refine V_callSN C (c_X1_put_ase l hl G X N0 M_1 (qR g1 rr) (ln σ rr) (qU g1 u) (nI (I + 0)) f9 hf1 (vp_in_nI (by omega) (by omega)) _ hv9 (lN u) none) cs_X8_66 rfl rfl ⟨Nat.le_of_ble_eq_true rfl, Nat.le_of_ble_eq_true rfl⟩ ⟨(by first | exact Nat.le_of_ble_eq_true rfl | omega | (dsimp only; omega) | (simp only [List.length_cons, List.length_nil]; omega)), (by first | exact Nat.le_of_ble_eq_true rfl | omega | (dsimp only; omega) | (simp only [List.length_cons, List.length_nil]; omega))⟩ (Nat.le_of_ble_eq_true rfl) dX8_work_144 ?_ (fun _ _ h => h.elim)
            rintro q9 _ M9 ⟨rfl, eM9⟩
            obtain rfl := eM9.symm
            refine VX_catch C [] ⟨114, 153, 156, 70⟩ _ rfl (fun z hz => by cases hz) rfl (by decide) q1224 q1129 ?_
            refine V_astore C dX8_work_156 (Nat.le_of_ble_eq_true rfl) [(0, .ref (qH g1 2)), (1, .ref (qA g1 P9 K9)), (2, .ref (qC g1 c9)), (3, .int (nI 9)), (4, .ref (qR g1 rr)), (5, .ref (qU g1 u)), (6, .null), (7, .ref q9)] [1, 2, 3, 4, 5, 6, 7, 0] rfl ?_
            refine V_aload_n C dX8_work_158 rfl 0 rfl ?_
            refine V_get C f_X8_3_12 hH1 (v := .ref (qN g1)) rfl dX8_work_159 ?_
            refine V_iconst (v := 3) C dX8_work_162 rfl ?_
            refine V_callVN C (c_X1_fail l hl G X N0 M_1 (qN g1) (qRl g1) (qUl g1) (qPl g1) (qHs g1) (qAn g1) (σ.1 20) (σ.1 14) (σ.1 11) (σ.1 12) (σ.1 15) (z 0) (z 1) (z 2) (z 3) (z 4) (z 5) (σ.1 31) 3 hN1) cs_X8_42_0 hN1 (show CLS[0]? = some (RX1, TX1, 17) from rfl) rfl rfl ⟨Nat.le_of_ble_eq_true rfl, Nat.le_of_ble_eq_true rfl⟩ ⟨(by first | exact Nat.le_of_ble_eq_true rfl | omega | (dsimp only; omega) | (simp only [List.length_cons, List.length_nil]; omega)), (by first | exact Nat.le_of_ble_eq_true rfl | omega | (dsimp only; omega) | (simp only [List.length_cons, List.length_nil]; omega))⟩ (Nat.le_of_ble_eq_true rfl) dX8_work_163 (fun _ _ _ h => px0 h) ?_
            rintro _ M_10 ⟨q_8, rfl, hq_9, hN_11, hF_12, fr_13, sh_14⟩
            refine V_st (st' := [.ref q_8]) rfl ?_
            refine V_athrow C hF_12 (show CLS[8]? = some (RX26, TX26, 7) from rfl) dX8_work_166 ?_
            exact VX_out C (fun z9 hz => by have hz : z9 ∈ ([⟨114, 153, 156, 70⟩] : List ExceptionTableEntry) := hz; obtain rfl := List.mem_singleton.mp hz; exact Or.inl rfl) (WX.at0 (fill_3 hI hr hg hp hNp (by omega) hkk (by rw [nI_l (by have := hI.U.2; omega)]; exact notCard hI hu hcd0)) (by decide) (FLX.keep hKp1 (FLX.of hR1 hq_9 hN_11 hF_12 fr_13 sh_14))) (by first | exact Nat.le_of_ble_eq_true rfl | omega | (dsimp only; omega) | (simp only [List.length_cons, List.length_nil]; omega)) (by first | exact Nat.le_of_ble_eq_true rfl | omega | (dsimp only; omega) | (simp only [List.length_cons, List.length_nil]; omega))
        · exact absurd c_83 (by decide)
  · exact absurd hgb (bI_0.mp c_31)
