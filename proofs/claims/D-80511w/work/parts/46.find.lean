set_option maxRecDepth 100000
theorem find_k {σ : MS} (hI : MI σ) {r : Nat} (hr : r < nR σ) : σ.2.1 2 r ≤ 7 ↔ kd σ r ≤ 7 := by
  have h := (hI.k hr).2
  rw [(hI.k hr).1]
  exact nI_leI (b := 7) (by omega) (by decide)
theorem fnd_no {f : Nat → Bool} {I N q : Nat} (hq : q < N) (h : ¬ f q = true) : mf_fnd f I N (N - q) = mf_fnd f I N (N - (q + 1)) := by
  obtain ⟨c, hc⟩ : ∃ c, N - q = c + 1 := ⟨N - q - 1, by omega⟩
  rw [hc, show N - (q + 1) = c by omega]
  show (if f (N - (c + 1)) then _ else _) = _
  rw [show N - (c + 1) = q by omega, if_neg h]
theorem fnd_yes {f : Nat → Bool} {I N q : Nat} (hq : q < N) (h : f q = true) : mf_fnd f I N (N - q) = lN (I + q) := by
  obtain ⟨c, hc⟩ : ∃ c, N - q = c + 1 := ⟨N - q - 1, by omega⟩
  rw [hc]
  show (if f (N - (c + 1)) then _ else _) = _
  rw [show N - (c + 1) = q by omega, if_pos h]
theorem WP.readN {G : hp_G} {E0 : Nat} {g : RG} {σ : MS} {z : Nat → Int32} {C : Nat} {M M' : hp_h} (h : REL G E0 g σ z (σ.1 31) C M) (hf : hp_fr (fun _ => False) M M') {r : Int32 × MS} {w : Int64} (hr : r = (0, sa σ w)) : WP G E0 g σ z C M r (some (.long w)) M' := by
  subst hr
  exact ⟨rfl, rfl, g, (h.grow hf).view VW.sa, RKp.grow (fun t i j hd => hd) hf⟩
set_option maxHeartbeats 1000000 in
theorem c_X16_work_k (l : Launch) (hl : l.stackTraces = false) (G : hp_G) (X : Nat → Nat) (N0 : Nat) (M : hp_h) (g : RG) (σ : MS) (z : Nat → Int32) (C9 c9 : Nat) (hC : c9 + 1 = C9) (hR : REL G (X 0) g σ z (σ.1 31) C9 M) (hI : MI σ) (P9 K9 rr : Nat) (x0 i b j n : Int32) (hP9 : P9 < 6) (hK9 : K9 < psz σ P9) (hr : rr < nR σ) (hAF : AF σ P9 K9 = [.int x0, .int (nI rr), .int i, .int b, .int j, .int n]) (hk9 : ¬ (0 ≤ kd σ rr ∧ kd σ rr ≤ 7)) : HM l yX16_work (ws_ yX16_work cX16_work 7 (some .long)) 16 600 1 8 G X N0 [.ref (qH g 9), .ref (qA g P9 K9), .ref (qC g c9)] M PFF (WX G (X 0) g σ z C9 M (mf_findIn σ rr i j n)) := by
  refine HM.of hl [(0, .ref (qH g 9)), (1, .ref (qA g P9 K9)), (2, .ref (qC g c9))] (by decide +kernel) rfl (Nat.le_of_ble_eq_true rfl) ?_
  intro p e s m args below meth c C hname
  have hN := hR.N
  have hH9 : M (qH g 9) = some (.inr (19, [.int 1, .ref (qN g), .int 0, .int 7, .ref (qN g), .ref (qN g), .ref (qN g)])) := hR.H (by decide)
  have hac : M (qA g P9 K9) = some (.inr (3, [.int x0, .int (nI rr), .int i, .int b, .int j, .int n])) := (hR.A hP9 hK9).trans (congrArg (fun y => some (Sum.inr (3, y))) hAF)
  refine V_aload_n C dX16_work_0 rfl 0 rfl ?_
  refine V_aload_n C dX16_work_1 rfl 1 rfl ?_
  refine V_callU C (c_X7_part_k19 l hl G X N0 M g σ z C9 c9 hC hR hI (qH g 9) hH9 (qA g P9 K9) x0 rr i b j n hr hac hk9) cs_X16_15_19 hH9 (show CLS[19]? = some (RX16, TX16, 7) from rfl) rfl rfl ⟨Nat.le_of_ble_eq_true rfl, Nat.le_of_ble_eq_true rfl⟩ ⟨(by first | exact Nat.le_of_ble_eq_true rfl | omega | (dsimp only; omega) | (simp only [List.length_cons, List.length_nil]; omega)), (by first | exact Nat.le_of_ble_eq_true rfl | omega | (dsimp only; omega) | (simp only [List.length_cons, List.length_nil]; omega))⟩ (Nat.le_of_ble_eq_true rfl) dX16_work_2 ?_ (fun _ _ h => h.elim)
  rintro q9 E9 M9 hx9
  obtain rfl := hx9.1
  exact VX_out C (fun z hz => by cases hz) (WX.at0 (if_pos (fun y => hk9 ⟨Nat.zero_le _, (find_k hI hr).mp y⟩)) (by decide) hx9) (by first | exact Nat.le_of_ble_eq_true rfl | omega | (dsimp only; omega) | (simp only [List.length_cons, List.length_nil]; omega)) (by first | exact Nat.le_of_ble_eq_true rfl | omega | (dsimp only; omega) | (simp only [List.length_cons, List.length_nil]; omega))
set_option maxHeartbeats 1000000 in
theorem c_X16_work_p (l : Launch) (hl : l.stackTraces = false) (G : hp_G) (X : Nat → Nat) (N0 : Nat) (M : hp_h) (g : RG) (σ : MS) (z : Nat → Int32) (C9 c9 : Nat) (hC : c9 + 1 = C9) (hR : REL G (X 0) g σ z (σ.1 31) C9 M) (hI : MI σ) (P9 K9 rr : Nat) (x0 i b j n : Int32) (hP9 : P9 < 6) (hK9 : K9 < psz σ P9) (hr : rr < nR σ) (hAF : AF σ P9 K9 = [.int x0, .int (nI rr), .int i, .int b, .int j, .int n]) (hk9 : 0 ≤ kd σ rr ∧ kd σ rr ≤ 7) (hp : ¬ mf_places σ rr i n) : HM l yX16_work (ws_ yX16_work cX16_work 7 (some .long)) 16 600 1 8 G X N0 [.ref (qH g 9), .ref (qA g P9 K9), .ref (qC g c9)] M PFF (WX G (X 0) g σ z C9 M (mf_findIn σ rr i j n)) := by
  refine HM.of hl [(0, .ref (qH g 9)), (1, .ref (qA g P9 K9)), (2, .ref (qC g c9))] (by decide +kernel) rfl (Nat.le_of_ble_eq_true rfl) ?_
  intro p e s m args below meth c C hname
  have hN := hR.N
  have hH9 : M (qH g 9) = some (.inr (19, [.int 1, .ref (qN g), .int 0, .int 7, .ref (qN g), .ref (qN g), .ref (qN g)])) := hR.H (by decide)
  have hac : M (qA g P9 K9) = some (.inr (3, [.int x0, .int (nI rr), .int i, .int b, .int j, .int n])) := (hR.A hP9 hK9).trans (congrArg (fun y => some (Sum.inr (3, y))) hAF)
  refine V_aload_n C dX16_work_0 rfl 0 rfl ?_
  refine V_aload_n C dX16_work_1 rfl 1 rfl ?_
  refine V_callU C (c_X7_part_x19 l hl G X N0 M g σ z C9 c9 hC hR hI (qH g 9) hH9 (qA g P9 K9) x0 rr i b j n hr hac hk9 hp) cs_X16_15_19 hH9 (show CLS[19]? = some (RX16, TX16, 7) from rfl) rfl rfl ⟨Nat.le_of_ble_eq_true rfl, Nat.le_of_ble_eq_true rfl⟩ ⟨(by first | exact Nat.le_of_ble_eq_true rfl | omega | (dsimp only; omega) | (simp only [List.length_cons, List.length_nil]; omega)), (by first | exact Nat.le_of_ble_eq_true rfl | omega | (dsimp only; omega) | (simp only [List.length_cons, List.length_nil]; omega))⟩ (Nat.le_of_ble_eq_true rfl) dX16_work_2 ?_ (fun _ _ h => h.elim)
  rintro q9 E9 M9 hx9
  obtain rfl := hx9.1
  exact VX_out C (fun z hz => by cases hz) (WX.at0 ((if_neg (not_not_intro ((find_k hI hr).mpr hk9.2))).trans (if_pos hp)) (by decide) hx9) (by first | exact Nat.le_of_ble_eq_true rfl | omega | (dsimp only; omega) | (simp only [List.length_cons, List.length_nil]; omega)) (by first | exact Nat.le_of_ble_eq_true rfl | omega | (dsimp only; omega) | (simp only [List.length_cons, List.length_nil]; omega))
set_option maxHeartbeats 1000000 in
theorem c_X16_work (l : Launch) (hl : l.stackTraces = false) (G : hp_G) (X : Nat → Nat) (N0 : Nat) (M : hp_h) (g : RG) (σ : MS) (z : Nat → Int32) (C9 c9 : Nat) (hC : c9 + 1 = C9) (hR : REL G (X 0) g σ z (σ.1 31) C9 M) (hI : MI σ) (P9 K9 rr : Nat) (x0 i b j n : Int32) (hP9 : P9 < 6) (hK9 : K9 < psz σ P9) (hr : rr < nR σ) (hAF : AF σ P9 K9 = [.int x0, .int (nI rr), .int i, .int b, .int j, .int n]) (hk9 : 0 ≤ kd σ rr ∧ kd σ rr ≤ 7) (hp : mf_places σ rr i n) : HM l yX16_work (ws_ yX16_work cX16_work 7 (some .long)) 16 600 1 8 G X N0 [.ref (qH g 9), .ref (qA g P9 K9), .ref (qC g c9)] M (WP G (X 0) g σ z C9 M (mf_findIn σ rr i j n)) PX0 := by
  refine HM.of hl [(0, .ref (qH g 9)), (1, .ref (qA g P9 K9)), (2, .ref (qC g c9))] (by decide +kernel) rfl (Nat.le_of_ble_eq_true rfl) ?_
  intro p e s m args below meth c C hname
  have hN := hR.N
  have hH9 : M (qH g 9) = some (.inr (19, [.int 1, .ref (qN g), .int 0, .int 7, .ref (qN g), .ref (qN g), .ref (qN g)])) := hR.H (by decide)
  have hac : M (qA g P9 K9) = some (.inr (3, [.int x0, .int (nI rr), .int i, .int b, .int j, .int n])) := (hR.A hP9 hK9).trans (congrArg (fun y => some (Sum.inr (3, y))) hAF)
  refine V_aload_n C dX16_work_0 rfl 0 rfl ?_
  refine V_aload_n C dX16_work_1 rfl 1 rfl ?_
  refine V_callU C (c_X7_part_19 l hl G X N0 M g σ z C9 c9 hC hR hI (qH g 9) hH9 (qA g P9 K9) x0 rr i b j n hr hac hk9 hp) cs_X16_15_19 hH9 (show CLS[19]? = some (RX16, TX16, 7) from rfl) rfl rfl ⟨Nat.le_of_ble_eq_true rfl, Nat.le_of_ble_eq_true rfl⟩ ⟨(by first | exact Nat.le_of_ble_eq_true rfl | omega | (dsimp only; omega) | (simp only [List.length_cons, List.length_nil]; omega)), (by first | exact Nat.le_of_ble_eq_true rfl | omega | (dsimp only; omega) | (simp only [List.length_cons, List.length_nil]; omega))⟩ (Nat.le_of_ble_eq_true rfl) dX16_work_2 (fun _ _ _ h => px0 h) ?_
  rintro _ _ ⟨rfl, rfl⟩
  refine V_st (st' := [.ref (qR g rr)]) rfl ?_
  obtain ⟨xr, hra, hrx, hrc⟩ := hR.rw hr
  obtain ⟨hkE, hkL⟩ := hI.k hr
  obtain ⟨hlE, hlL⟩ := hI.l hr
  obtain ⟨I, N, rfl, rfl, hIN⟩ := places_n (hI.l hr) hp
  refine V_astore_n C dX16_work_5 rfl (Nat.le_of_ble_eq_true rfl) [(0, .ref (qH g 9)), (1, .ref (qA g P9 K9)), (2, .ref (qC g c9)), (3, .ref (qR g rr))] [1, 2, 3, 0] rfl ?_
  refine V_aload_n C dX16_work_6 rfl 3 rfl ?_
  refine V_callSN C (c_X1_kindOf l hl G X N0 M (qR g rr) (kd σ rr) hkL xr hra) cs_X16_19 rfl rfl ⟨Nat.le_of_ble_eq_true rfl, Nat.le_of_ble_eq_true rfl⟩ ⟨(by first | exact Nat.le_of_ble_eq_true rfl | omega | (dsimp only; omega) | (simp only [List.length_cons, List.length_nil]; omega)), (by first | exact Nat.le_of_ble_eq_true rfl | omega | (dsimp only; omega) | (simp only [List.length_cons, List.length_nil]; omega))⟩ (Nat.le_of_ble_eq_true rfl) dX16_work_7 (fun _ _ _ h => px0 h) ?_
  rintro _ _ ⟨rfl, rfl⟩
  refine V_st (st' := [.int (nI (kd σ rr))]) rfl ?_
  refine V_iconst (v := 1) C dX16_work_10 rfl ?_
  have hfr : hp_fr (fun _ => False) M M := hp_fr.rf
  have hsh : hp_sh M M := hp_sh.rf
  refine V_callSN C (c_X1_made l hl G X N0 M (kd σ rr) 1 hkL (by omega)) cs_X16_23 rfl rfl ⟨Nat.le_of_ble_eq_true rfl, Nat.le_of_ble_eq_true rfl⟩ ⟨(by first | exact Nat.le_of_ble_eq_true rfl | omega | (dsimp only; omega) | (simp only [List.length_cons, List.length_nil]; omega)), (by first | exact Nat.le_of_ble_eq_true rfl | omega | (dsimp only; omega) | (simp only [List.length_cons, List.length_nil]; omega))⟩ (Nat.le_of_ble_eq_true rfl) dX16_work_11 (fun _ _ _ h => px0 h) ?_
  rintro _ M_3 ⟨q_1, rfl, hq_2, eM_4⟩
  refine V_st (st' := [.ref q_1]) rfl ?_
  have ne_5 : (qN g) ≠ q_1 := hp_ne0 hN hq_2
  have ho_6 : M_3 (qN g) = some (.inr (0, [.ref (qRl g), .ref (qUl g), .ref (qPl g), .ref (qHs g), .int (σ.1 20), .int (σ.1 14), .int (σ.1 11), .int (σ.1 12), .int (σ.1 15), .int (z 0), .int (z 1), .int (z 2), .int (z 3), .int (z 4), .int (z 5), .int (σ.1 31), .ref (qAn g)])) := by rw [eM_4, hp_up_n ne_5]; exact hN
  have ne_7 : (qH g 9) ≠ q_1 := hp_ne0 hH9 hq_2
  have ho_8 : M_3 (qH g 9) = some (.inr (19, [.int 1, .ref (qN g), .int 0, .int 7, .ref (qN g), .ref (qN g), .ref (qN g)])) := by rw [eM_4, hp_up_n ne_7]; exact hH9
  have ne_9 : (qA g P9 K9) ≠ q_1 := hp_ne0 hac hq_2
  have ho_10 : M_3 (qA g P9 K9) = some (.inr (3, [.int x0, .int (nI rr), .int (nI I), .int b, .int j, .int (nI N)])) := by rw [eM_4, hp_up_n ne_9]; exact hac
  have ne_11 : (qR g rr) ≠ q_1 := hp_ne0 hra hq_2
  have ha_12 : M_3 (qR g rr) = some (.inl (G.2 (kd σ rr), xr)) := by rw [eM_4, hp_up_n ne_11]; exact hra
  have hn_13 : M_3 q_1 = some (.inl (G.2 (kd σ rr), (1, ZK (kd σ rr)))) := by rw [eM_4]; exact hp_up_s
  have fr_14 := hp_fr.new hfr hq_2 eM_4
  have nn_15 := hp_fr.nn hfr hq_2
  have sh_16 := hp_sh.new hsh hq_2 eM_4
  refine V_astore C dX16_work_14 (Nat.le_of_ble_eq_true rfl) [(0, .ref (qH g 9)), (1, .ref (qA g P9 K9)), (2, .ref (qC g c9)), (3, .ref (qR g rr)), (4, .ref q_1)] [1, 2, 3, 4, 0] rfl ?_
  refine V_aload C dX16_work_16 4 rfl ?_
  refine V_iconst (v := 0) C dX16_work_18 rfl ?_
  refine V_pc (pc1 := 19) rfl ?_
  refine V_aload_n C dX16_work_19 rfl 1 rfl ?_
  refine V_getN C f_X16_27_3 ho_10 (v := .int j) rfl dX16_work_20 ?_
  refine V_i2l (v := j.toInt64) C dX16_work_23 rfl ?_
  refine V_null C dX16_work_24 ?_
  refine V_null C dX16_work_25 ?_
  refine V_callSN C (c_X1_put l hl G X N0 M_3 (U := nU σ) (J := nJ σ) (ua := fun u => qU g u) (ja := fun y => qJ g y) q_1 (kd σ rr) 1 0 (1, ZK (kd σ rr)) hn_13 ⟨rfl, CT_ZK hkL⟩ (by decide) (by decide) j.toInt64 (asV (kd σ rr) j.toInt64) none none (Or.inl ⟨hk9.2, rfl⟩)) cs_X16_33 rfl rfl ⟨Nat.le_of_ble_eq_true rfl, Nat.le_of_ble_eq_true rfl⟩ ⟨(by first | exact Nat.le_of_ble_eq_true rfl | omega | (dsimp only; omega) | (simp only [List.length_cons, List.length_nil]; omega)), (by first | exact Nat.le_of_ble_eq_true rfl | omega | (dsimp only; omega) | (simp only [List.length_cons, List.length_nil]; omega))⟩ (Nat.le_of_ble_eq_true rfl) dX16_work_26 (fun _ _ _ h => px0 h) ?_
  rintro _ M_17 ⟨rfl, x9, eP, hx9, ho9, hw9⟩
  refine V_st (st' := []) rfl ?_
  have ho_18 : M_17 (qN g) = some (.inr (0, [.ref (qRl g), .ref (qUl g), .ref (qPl g), .ref (qHs g), .int (σ.1 20), .int (σ.1 14), .int (σ.1 11), .int (σ.1 12), .int (σ.1 15), .int (z 0), .int (z 1), .int (z 2), .int (z 3), .int (z 4), .int (z 5), .int (σ.1 31), .ref (qAn g)])) := by rw [eP, hp_up_n ne_5]; exact ho_6
  have ho_19 : M_17 (qH g 9) = some (.inr (19, [.int 1, .ref (qN g), .int 0, .int 7, .ref (qN g), .ref (qN g), .ref (qN g)])) := by rw [eP, hp_up_n ne_7]; exact ho_8
  have ho_20 : M_17 (qA g P9 K9) = some (.inr (3, [.int x0, .int (nI rr), .int (nI I), .int b, .int j, .int (nI N)])) := by rw [eP, hp_up_n ne_9]; exact ho_10
  have ha_21 : M_17 (qR g rr) = some (.inl (G.2 (kd σ rr), xr)) := by rw [eP, hp_up_n ne_11]; exact ha_12
  have hn_22 : M_17 q_1 = some (.inl (G.2 (kd σ rr), x9)) := by rw [eP]; exact hp_up_s
  have fr_23 := hp_fr.set fr_14 nn_15 eP
  have hRn := hR.grow fr_23
  refine V_iconst (v := 0) C dX16_work_29 rfl ?_
  refine V_istore C dX16_work_30 (Nat.le_of_ble_eq_true rfl) [(0, .ref (qH g 9)), (1, .ref (qA g P9 K9)), (2, .ref (qC g c9)), (3, .ref (qR g rr)), (4, .ref q_1), (5, .int 0)] [1, 2, 3, 4, 5, 0] rfl ?_
  have hII : I + N < 2 ^ 31 := by omega
  have lp_32 : ∀ (fu9 : Nat) (q : Nat), N - q < fu9 → (q ≤ N) → (mf_fnd (fun q => decide (mf_eq σ (nI (kd σ rr)) (el σ rr (I + q)) (asV (kd σ rr) j.toInt64))) I N N = mf_fnd (fun q => decide (mf_eq σ (nI (kd σ rr)) (el σ rr (I + q)) (asV (kd σ rr) j.toInt64))) I N (N - q)) → V p l e { frames := 16, cells := 1, slots := 8, locals := 600 } s m args below meth c G N0 7 (QV below G N0 ((WP G (X 0) g σ z C9 M (mf_findIn σ rr (nI I) j (nI N)))) PX0 args s (1) (8)) (0 + 1) (0 + 1) M_17 32 [(0, .ref (qH g 9)), (1, .ref (qA g P9 K9)), (2, .ref (qC g c9)), (3, .ref (qR g rr)), (4, .ref q_1), (5, .int (nI q))] [] := by
    intro fu9
    induction fu9 with
    | zero => intro q  hfu9; exact absurd hfu9 (Nat.not_lt_zero _)
    | succ fu9 ih32 =>
      intro q  hfu9 hq hf
      refine V_iload C dX16_work_32 5 rfl ?_
      refine V_aload_n C dX16_work_34 rfl 1 rfl ?_
      refine V_getN C f_X16_37_3 ho_20 (v := .int (nI N)) rfl dX16_work_35 ?_
      refine V_icmp_ge (tgt := 125) C dX16_work_38 (by decide) (fun c_38 => ?_) (fun c_38 => ?_)
      · refine V_pc (pc1 := 125) rfl ?_
        refine V_ldc2 (v := -1) C (C.w q1284) dX16_work_125 ?_
        refine V_lret C dX16_work_128 rfl ?_ (by first | exact Nat.le_of_ble_eq_true rfl | omega | (dsimp only; omega) | (simp only [List.length_cons, List.length_nil]; omega)) (by first | exact Nat.le_of_ble_eq_true rfl | omega | (dsimp only; omega) | (simp only [List.length_cons, List.length_nil]; omega))
        have hq3 := (nI_leI (by omega) (by omega)).mp c_38
        exact WP.readN hR fr_23 (by unfold mf_findIn; rw [if_neg (not_not_intro ((find_k hI hr).mpr hk9.2)), if_neg (not_not_intro hp), nI_clamp (by omega), nI_clamp (by omega), hkE, asE_V (by omega)]; unfold mf_findA; rw [hkE, hf]; rw [show N - q = 0 by omega]; rfl)
      · refine V_pc (pc1 := 41) rfl ?_
        refine V_aload_n C dX16_work_41 rfl 3 rfl ?_
        have hq2 : q < N := nI_ltN9 (by omega) (by omega) c_38
        refine V_callSN C (c_X1_isReal l hl G X N0 M_17 (qR g rr) (kd σ rr) hkL xr ha_21) cs_X16_40 rfl rfl ⟨Nat.le_of_ble_eq_true rfl, Nat.le_of_ble_eq_true rfl⟩ ⟨(by first | exact Nat.le_of_ble_eq_true rfl | omega | (dsimp only; omega) | (simp only [List.length_cons, List.length_nil]; omega)), (by first | exact Nat.le_of_ble_eq_true rfl | omega | (dsimp only; omega) | (simp only [List.length_cons, List.length_nil]; omega))⟩ (Nat.le_of_ble_eq_true rfl) dX16_work_42 (fun _ _ _ h => px0 h) ?_
        rintro _ _ ⟨rfl, rfl⟩
        refine V_st (st' := [.int (bI (kd σ rr = 6 ∨ kd σ rr = 7))]) rfl ?_
        refine V_if_eq (tgt := 77) C dX16_work_45 (by decide) (fun c_45 => ?_) (fun c_45 => ?_)
        · refine V_aload_n C dX16_work_77 rfl 3 rfl ?_
          refine V_aload_n C dX16_work_78 rfl 1 rfl ?_
          refine V_getN C f_X16_44_3 ho_20 (v := .int (nI I)) rfl dX16_work_79 ?_
          refine V_iload C dX16_work_82 5 rfl ?_
          refine V_iadd C dX16_work_84 ?_
          refine V_st (st' := [.int (nI (I + q)), .ref (qR g rr)]) (by rw [show ((nI I) + (nI q)) = (nI (I + q)) from nI_add I q]) ?_
          refine V_callSN C (c_X1_get l hl G X N0 M_17 (qR g rr) (kd σ rr) (I + q) xr (el σ rr (I + q)) (by omega) ha_21 (by rw [hrx.1]; omega) (by rw [hrx.1]; omega) (hrc (I + q) (by omega)) (hRn.UH hI)) cs_X16_51 rfl rfl ⟨Nat.le_of_ble_eq_true rfl, Nat.le_of_ble_eq_true rfl⟩ ⟨(by first | exact Nat.le_of_ble_eq_true rfl | omega | (dsimp only; omega) | (simp only [List.length_cons, List.length_nil]; omega)), (by first | exact Nat.le_of_ble_eq_true rfl | omega | (dsimp only; omega) | (simp only [List.length_cons, List.length_nil]; omega))⟩ (Nat.le_of_ble_eq_true rfl) dX16_work_85 (fun _ _ _ h => px0 h) ?_
          rintro _ _ ⟨rfl, rfl⟩
          refine V_st (st' := [.long (el σ rr (I + q))]) rfl ?_
          refine V_aload C dX16_work_88 4 rfl ?_
          refine V_iconst (v := 0) C dX16_work_90 rfl ?_
          refine V_callSN C (c_X1_get l hl G X N0 M_17 q_1 (kd σ rr) 0 x9 (asV (kd σ rr) j.toInt64) (by omega) hn_22 (by rw [hx9.1]; omega) (by rw [hx9.1]; decide) hw9 (hRn.UH hI)) cs_X16_51 rfl rfl ⟨Nat.le_of_ble_eq_true rfl, Nat.le_of_ble_eq_true rfl⟩ ⟨(by first | exact Nat.le_of_ble_eq_true rfl | omega | (dsimp only; omega) | (simp only [List.length_cons, List.length_nil]; omega)), (by first | exact Nat.le_of_ble_eq_true rfl | omega | (dsimp only; omega) | (simp only [List.length_cons, List.length_nil]; omega))⟩ (Nat.le_of_ble_eq_true rfl) dX16_work_91 (fun _ _ _ h => px0 h) ?_
          rintro _ _ ⟨rfl, rfl⟩
          refine V_st (st' := [.long (asV (kd σ rr) j.toInt64), .long (el σ rr (I + q))]) rfl ?_
          refine V_pc (pc1 := 94) rfl ?_
          refine V_lcmp C dX16_work_94 ?_
          refine V_if_ne (tgt := 102) C dX16_work_95 (by decide) (fun c_95 => ?_) (fun c_95 => ?_)
          · refine V_iconst (v := 0) C dX16_work_102 rfl ?_
            refine V_istore C dX16_work_103 (Nat.le_of_ble_eq_true rfl) [(0, .ref (qH g 9)), (1, .ref (qA g P9 K9)), (2, .ref (qC g c9)), (3, .ref (qR g rr)), (4, .ref q_1), (5, .int (nI q)), (6, .int 0)] [1, 2, 3, 4, 5, 6, 0] rfl ?_
            refine V_iload C dX16_work_105 6 rfl ?_
            refine V_if_eq (tgt := 119) C dX16_work_107 (by decide) (fun c_107 => ?_) (fun c_107 => ?_)
            · refine V_iinc (v := nI (q + 1)) C dX16_work_119 (k := 5) rfl (nI_add q 1) (Nat.le_of_ble_eq_true rfl) [(0, .ref (qH g 9)), (1, .ref (qA g P9 K9)), (2, .ref (qC g c9)), (3, .ref (qR g rr)), (4, .ref q_1), (5, .int (nI (q + 1))), (6, .int 0)] [1, 2, 3, 4, 5, 0, 6] rfl ?_
              refine V_goto (tgt := 32) C dX16_work_122 (by decide) ?_
              refine V_loc (L' := [(0, .ref (qH g 9)), (1, .ref (qA g P9 K9)), (2, .ref (qC g c9)), (3, .ref (qR g rr)), (4, .ref q_1), (5, .int (nI (q + 1)))]) [0, 1, 2, 3, 4, 5] rfl ?_
              exact ih32 (q + 1)  (by omega) (by omega) (by rw [hf]; exact fnd_no hq2 (fun y => absurd ((mf_eq_bits (by omega) (bI_0.mp c_45) _ _).mp (of_decide_eq_true y)) (by have y9 := c_95; (try simp only [lg_cmp_lt, lg_cmp_gt, lg_cmp_ge, lg_cmp_le, lg_cmp_eq, Classical.not_not] at y9); exact y9)))
            · exact absurd c_107 (by decide)
          · refine V_iconst (v := 1) C dX16_work_98 rfl ?_
            refine V_goto (tgt := 103) C dX16_work_99 (by decide) ?_
            refine V_istore C dX16_work_103 (Nat.le_of_ble_eq_true rfl) [(0, .ref (qH g 9)), (1, .ref (qA g P9 K9)), (2, .ref (qC g c9)), (3, .ref (qR g rr)), (4, .ref q_1), (5, .int (nI q)), (6, .int 1)] [1, 2, 3, 4, 5, 6, 0] rfl ?_
            refine V_iload C dX16_work_105 6 rfl ?_
            refine V_if_eq (tgt := 119) C dX16_work_107 (by decide) (fun c_107_2 => ?_) (fun c_107_2 => ?_)
            · exact absurd c_107_2 (by decide)
            · refine V_aload_n C dX16_work_110 rfl 1 rfl ?_
              refine V_getN C f_X16_44_3 ho_20 (v := .int (nI I)) rfl dX16_work_111 ?_
              refine V_iload C dX16_work_114 5 rfl ?_
              refine V_iadd C dX16_work_116 ?_
              refine V_st (st' := [.int (nI (I + q))]) (by rw [show ((nI I) + (nI q)) = (nI (I + q)) from nI_add I q]) ?_
              refine V_i2l (v := (nI (I + q)).toInt64) C dX16_work_117 rfl ?_
              refine V_st (st' := [.long (lN (I + q))]) (by rw [show ((nI (I + q)).toInt64) = (lN (I + q)) from (nI_l (by omega))]) ?_
              refine V_pc (pc1 := 118) rfl ?_
              refine V_lret C dX16_work_118 rfl ?_ (by first | exact Nat.le_of_ble_eq_true rfl | omega | (dsimp only; omega) | (simp only [List.length_cons, List.length_nil]; omega)) (by first | exact Nat.le_of_ble_eq_true rfl | omega | (dsimp only; omega) | (simp only [List.length_cons, List.length_nil]; omega))
              exact WP.readN hR fr_23 (by unfold mf_findIn; rw [if_neg (not_not_intro ((find_k hI hr).mpr hk9.2)), if_neg (not_not_intro hp), nI_clamp (by omega), nI_clamp (by omega), hkE, asE_V (by omega)]; unfold mf_findA; rw [hkE, hf]; rw [fnd_yes hq2 (decide_eq_true ((mf_eq_bits (by omega) (bI_0.mp c_45) _ _).mpr (by have y9 := c_95; (try simp only [lg_cmp_lt, lg_cmp_gt, lg_cmp_ge, lg_cmp_le, lg_cmp_eq, Classical.not_not] at y9); exact y9)))])
        · refine V_aload_n C dX16_work_48 rfl 3 rfl ?_
          refine V_aload_n C dX16_work_49 rfl 1 rfl ?_
          refine V_getN C f_X16_44_3 ho_20 (v := .int (nI I)) rfl dX16_work_50 ?_
          refine V_iload C dX16_work_53 5 rfl ?_
          refine V_iadd C dX16_work_55 ?_
          refine V_st (st' := [.int (nI (I + q)), .ref (qR g rr)]) (by rw [show ((nI I) + (nI q)) = (nI (I + q)) from nI_add I q]) ?_
          refine V_callSN C (c_X1_real l hl G X N0 M_17 (qR g rr) (kd σ rr) (I + q) xr (el σ rr (I + q)) (bI_n.mp c_45) ha_21 (by rw [hrx.1]; omega) (by rw [hrx.1]; omega) (hrc (I + q) (by omega))) cs_X16_47 rfl rfl ⟨Nat.le_of_ble_eq_true rfl, Nat.le_of_ble_eq_true rfl⟩ ⟨(by first | exact Nat.le_of_ble_eq_true rfl | omega | (dsimp only; omega) | (simp only [List.length_cons, List.length_nil]; omega)), (by first | exact Nat.le_of_ble_eq_true rfl | omega | (dsimp only; omega) | (simp only [List.length_cons, List.length_nil]; omega))⟩ (Nat.le_of_ble_eq_true rfl) dX16_work_56 (fun _ _ _ h => px0 h) ?_
          rintro _ _ ⟨rfl, rfl⟩
          refine V_st (st' := [.double (mRe (kd σ rr) (el σ rr (I + q)))]) rfl ?_
          refine V_aload C dX16_work_59 4 rfl ?_
          refine V_iconst (v := 0) C dX16_work_61 rfl ?_
          refine V_callSN C (c_X1_real l hl G X N0 M_17 q_1 (kd σ rr) 0 x9 (asV (kd σ rr) j.toInt64) (bI_n.mp c_45) hn_22 (by rw [hx9.1]; omega) (by rw [hx9.1]; decide) hw9) cs_X16_47 rfl rfl ⟨Nat.le_of_ble_eq_true rfl, Nat.le_of_ble_eq_true rfl⟩ ⟨(by first | exact Nat.le_of_ble_eq_true rfl | omega | (dsimp only; omega) | (simp only [List.length_cons, List.length_nil]; omega)), (by first | exact Nat.le_of_ble_eq_true rfl | omega | (dsimp only; omega) | (simp only [List.length_cons, List.length_nil]; omega))⟩ (Nat.le_of_ble_eq_true rfl) dX16_work_62 (fun _ _ _ h => px0 h) ?_
          rintro _ _ ⟨rfl, rfl⟩
          refine V_st (st' := [.double (mRe (kd σ rr) (asV (kd σ rr) j.toInt64)), .double (mRe (kd σ rr) (el σ rr (I + q)))]) rfl ?_
          refine V_pc (pc1 := 65) rfl ?_
          refine V_dcmp C dX16_work_65 ?_
          refine V_if_ne (tgt := 73) C dX16_work_66 (by decide) (fun c_66 => ?_) (fun c_66 => ?_)
          · refine V_iconst (v := 0) C dX16_work_73 rfl ?_
            refine V_goto (tgt := 103) C dX16_work_74 (by decide) ?_
            refine V_istore C dX16_work_103 (Nat.le_of_ble_eq_true rfl) [(0, .ref (qH g 9)), (1, .ref (qA g P9 K9)), (2, .ref (qC g c9)), (3, .ref (qR g rr)), (4, .ref q_1), (5, .int (nI q)), (6, .int 0)] [1, 2, 3, 4, 5, 6, 0] rfl ?_
            refine V_iload C dX16_work_105 6 rfl ?_
            refine V_if_eq (tgt := 119) C dX16_work_107 (by decide) (fun c_107_3 => ?_) (fun c_107_3 => ?_)
            · refine V_iinc (v := nI (q + 1)) C dX16_work_119 (k := 5) rfl (nI_add q 1) (Nat.le_of_ble_eq_true rfl) [(0, .ref (qH g 9)), (1, .ref (qA g P9 K9)), (2, .ref (qC g c9)), (3, .ref (qR g rr)), (4, .ref q_1), (5, .int (nI (q + 1))), (6, .int 0)] [1, 2, 3, 4, 5, 0, 6] rfl ?_
              refine V_goto (tgt := 32) C dX16_work_122 (by decide) ?_
              refine V_loc (L' := [(0, .ref (qH g 9)), (1, .ref (qA g P9 K9)), (2, .ref (qC g c9)), (3, .ref (qR g rr)), (4, .ref q_1), (5, .int (nI (q + 1)))]) [0, 1, 2, 3, 4, 5] rfl ?_
              exact ih32 (q + 1)  (by omega) (by omega) (by rw [hf]; exact fnd_no hq2 (fun y => absurd ((mf_eq_real (bI_n.mp c_45) _ _).mp (of_decide_eq_true y)) (by have y9 := c_66; (try simp only [lg_cmp_lt, lg_cmp_gt, lg_cmp_ge, lg_cmp_le, lg_cmp_eq, cv_eq, Classical.not_not] at y9); exact y9)))
            · exact absurd c_107_3 (by decide)
          · refine V_iconst (v := 1) C dX16_work_69 rfl ?_
            refine V_goto (tgt := 103) C dX16_work_70 (by decide) ?_
            refine V_istore C dX16_work_103 (Nat.le_of_ble_eq_true rfl) [(0, .ref (qH g 9)), (1, .ref (qA g P9 K9)), (2, .ref (qC g c9)), (3, .ref (qR g rr)), (4, .ref q_1), (5, .int (nI q)), (6, .int 1)] [1, 2, 3, 4, 5, 6, 0] rfl ?_
            refine V_iload C dX16_work_105 6 rfl ?_
            refine V_if_eq (tgt := 119) C dX16_work_107 (by decide) (fun c_107_4 => ?_) (fun c_107_4 => ?_)
            · exact absurd c_107_4 (by decide)
            · refine V_aload_n C dX16_work_110 rfl 1 rfl ?_
              refine V_getN C f_X16_44_3 ho_20 (v := .int (nI I)) rfl dX16_work_111 ?_
              refine V_iload C dX16_work_114 5 rfl ?_
              refine V_iadd C dX16_work_116 ?_
              refine V_st (st' := [.int (nI (I + q))]) (by rw [show ((nI I) + (nI q)) = (nI (I + q)) from nI_add I q]) ?_
              refine V_i2l (v := (nI (I + q)).toInt64) C dX16_work_117 rfl ?_
              refine V_st (st' := [.long (lN (I + q))]) (by rw [show ((nI (I + q)).toInt64) = (lN (I + q)) from (nI_l (by omega))]) ?_
              refine V_pc (pc1 := 118) rfl ?_
              refine V_lret C dX16_work_118 rfl ?_ (by first | exact Nat.le_of_ble_eq_true rfl | omega | (dsimp only; omega) | (simp only [List.length_cons, List.length_nil]; omega)) (by first | exact Nat.le_of_ble_eq_true rfl | omega | (dsimp only; omega) | (simp only [List.length_cons, List.length_nil]; omega))
              exact WP.readN hR fr_23 (by unfold mf_findIn; rw [if_neg (not_not_intro ((find_k hI hr).mpr hk9.2)), if_neg (not_not_intro hp), nI_clamp (by omega), nI_clamp (by omega), hkE, asE_V (by omega)]; unfold mf_findA; rw [hkE, hf]; rw [fnd_yes hq2 (decide_eq_true ((mf_eq_real (bI_n.mp c_45) _ _).mpr (by have y9 := c_66; (try simp only [lg_cmp_lt, lg_cmp_gt, lg_cmp_ge, lg_cmp_le, lg_cmp_eq, cv_eq, Classical.not_not] at y9); exact y9)))])
  refine V_loc (L' := [(0, .ref (qH g 9)), (1, .ref (qA g P9 K9)), (2, .ref (qC g c9)), (3, .ref (qR g rr)), (4, .ref q_1), (5, .int 0)]) [0, 1, 2, 3, 4, 5] rfl ?_
  exact lp_32 _ 0  (Nat.lt_succ_self _) (Nat.zero_le _) rfl
