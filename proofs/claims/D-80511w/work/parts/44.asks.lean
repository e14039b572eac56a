set_option maxRecDepth 100000
section W44
variable {G : hp_G} {E0 : Nat} {g : RG} {σ σ' : MS} {z z' : Nat → Int32} {ca ca' : Int32} {C : Nat} {Y : Nat → Prop} {M M' : hp_h}
/-- an act's work is done: r tells fault and state, the state the answer -/
def WP (G : hp_G) (E0 : Nat) (g : RG) (σ : MS) (z : Nat → Int32) (C : Nat) (M : hp_h) (r : Int32 × MS) : Option Value → hp_h → Prop := fun v M' => r.1 = 0 ∧ v = some (.long r.2.2.2.2) ∧ ∃ g', REL G E0 g' r.2 z (r.2.1 31) C M' ∧ RKp (nR σ) σ g C M r.2 g' C M'
/-- or it fails -/
def WX (G : hp_G) (E0 : Nat) (g : RG) (σ : MS) (z : Nat → Int32) (C : Nat) (M : hp_h) (r : Int32 × MS) : Nat → String → hp_h → Prop := fun q E M' => r.1 ≠ 0 ∧ FLX G E0 g σ z C M r.2 r.1 q E M'
theorem VW.sa {v : Int64} : VW σ (sa σ v) := ⟨fun _ _ => rfl, fun _ _ => ⟨rfl, rfl⟩, fun _ _ => rfl, fun _ _ => rfl, rfl, fun _ _ _ _ => rfl⟩
theorem RKp.sa {n : Nat} {v : Int64} : RKp n σ g C M (sa σ v) g C M := ⟨fun _ _ _ _ _ _ _ _ _ _ => rfl, fun _ _ h h' => ⟨h, h'⟩, hp_sh.rf⟩
theorem WP.read (h : REL G E0 g σ z (σ.1 31) C M) {r : Int32 × MS} {w : Int64} (hr : r = (0, sa σ w)) : WP G E0 g σ z C M r (some (.long w)) M := by
  subst hr
  exact ⟨rfl, rfl, g, h.view VW.sa, RKp.sa⟩
theorem WX.at0 {r : Int32 × MS} {f : Int32} {q : Nat} {E : String} (hr : r = (f, σ)) (hf : f ≠ 0) (h : FLX G E0 g σ z C M σ f q E M') : WX G E0 g σ z C M r q E M' := by
  subst hr
  exact ⟨hf, h⟩
end W44
theorem cmp_flip (a b : Int) : compare a b = .lt ↔ compare b a = .gt := by
  simp only [compare, compareOfLessAndEq]
  by_cases h1 : a < b
  · simp only [if_pos h1, if_neg (show ¬ b < a by omega), if_neg (show ¬ b = a by omega)]
  · rw [if_neg h1]
    by_cases h2 : b < a
    · simp only [if_pos h2, if_neg (show ¬ a = b by omega)]
      constructor <;> intro z <;> cases z
    · have : a = b := by omega
      subst this
      simp
theorem ord_flip (x y : FP.Core.Datum) : FP.Core.order x y = some .lt ↔ FP.Core.order y x = some .gt := by
  cases x <;> cases y <;> simp only [FP.Core.order, Option.some.injEq, reduceCtorEq]
  · exact cmp_flip _ _
  · exact cmp_flip _ _
  · exact cmp_flip _ _
  · next a b c d e f => rw [show min f c = min c f from Int.min_comm _ _]; exact cmp_flip _ _
theorem order_flip {k : Int32} {p q : Int64} : mf_order k p q < 0 ↔ 0 < mf_order k q p := by
  unfold mf_order
  by_cases h6 : k = 6
  · rw [if_pos h6, if_pos h6]
    unfold mf_oF
    have h := ord_flip (fD (mfO p.toInt32)) (fD (mfO q.toInt32))
    have h2 := ord_flip (fD (mfO q.toInt32)) (fD (mfO p.toInt32))
    have e1 : FP.fcmp (mfO p.toInt32) (mfO q.toInt32) = FP.Core.order (fD (mfO p.toInt32)) (fD (mfO q.toInt32)) := rfl
    have e2 : FP.fcmp (mfO q.toInt32) (mfO p.toInt32) = FP.Core.order (fD (mfO q.toInt32)) (fD (mfO p.toInt32)) := rfl
    rw [e1, e2]
    by_cases a : FP.Core.order (fD (mfO p.toInt32)) (fD (mfO q.toInt32)) = some .lt
    · rw [if_pos a, h.mp a]
      simp
    · rw [if_neg a]
      have b : ¬ FP.Core.order (fD (mfO q.toInt32)) (fD (mfO p.toInt32)) = some .gt := fun z => a (h.mpr z)
      rw [if_neg b]
      split <;> split <;> simp
  · rw [if_neg h6, if_neg h6]
    by_cases h7 : k = 7
    · rw [if_pos h7, if_pos h7]
      unfold mf_oD
      have h := ord_flip (dD (mdO p)) (dD (mdO q))
      have e1 : FP.dcmp (mdO p) (mdO q) = FP.Core.order (dD (mdO p)) (dD (mdO q)) := rfl
      have e2 : FP.dcmp (mdO q) (mdO p) = FP.Core.order (dD (mdO q)) (dD (mdO p)) := rfl
      rw [e1, e2]
      by_cases a : FP.Core.order (dD (mdO p)) (dD (mdO q)) = some .lt
      · rw [if_pos a, h.mp a]
        simp
      · rw [if_neg a]
        have b : ¬ FP.Core.order (dD (mdO q)) (dD (mdO p)) = some .gt := fun z => a (h.mpr z)
        rw [if_neg b]
        split <;> split <;> simp
    · rw [if_neg h7, if_neg h7]
      by_cases a : p < q
      · rw [if_pos a, if_neg (Int64.lt_asymm a), if_pos a]
        decide
      · rw [if_neg a]
        by_cases b : q < p
        · rw [if_pos b, if_pos b]; decide
        · rw [if_neg b, if_neg b, if_neg a]
theorem great_le {σ : MS} {a : Nat} : ∀ N, 1 ≤ N → mf_great σ a N < N
  | 1, _ => Nat.zero_lt_one
  | N + 2, _ => by
    show (if _ then N + 1 else mf_great σ a (N + 1)) < N + 2
    have := great_le (σ := σ) (a := a) (N + 1) (by omega)
    split
    · exact Nat.lt_succ_self _
    · exact Nat.lt_succ_of_lt this
set_option maxHeartbeats 1000000 in
theorem c_X18_work (l : Launch) (hl : l.stackTraces = false) (G : hp_G) (X : Nat → Nat) (N0 : Nat) (M : hp_h) (g : RG) (σ : MS) (z : Nat → Int32) (C9 c9 : Nat) (hC : c9 + 1 = C9) (hR : REL G (X 0) g σ z (σ.1 31) C9 M) (hI : MI σ) (ac : Nat) : HM l yX18_work (ws_ yX18_work cX18_work 3 (some .long)) 16 600 1 7 G X N0 [.ref (qH g 11), .ref ac, .ref (qC g c9)] M PFF (WX G (X 0) g σ z C9 M (6, σ)) := by
  refine HM.of hl [(0, .ref (qH g 11)), (1, .ref ac), (2, .ref (qC g c9))] (by decide +kernel) rfl (Nat.le_of_ble_eq_true rfl) ?_
  intro p e s m args below meth c C hname
  have hN := hR.N
  have hH9 : M (qH g 11) = some (.inr (21, [.int 1, .ref (qN g), .ref (qN g)])) := hR.H (by decide)
  refine V_aload_n C dX18_work_0 rfl 0 rfl ?_
  refine V_get C f_X18_3_21 hH9 (v := .ref (qN g)) rfl dX18_work_1 ?_
  refine V_bipush (v := 6) C dX18_work_4 rfl ?_
  refine V_callVN C (c_X1_fail l hl G X N0 M (qN g) (qRl g) (qUl g) (qPl g) (qHs g) (qAn g) (σ.1 20) (σ.1 14) (σ.1 11) (σ.1 12) (σ.1 15) (z 0) (z 1) (z 2) (z 3) (z 4) (z 5) (σ.1 31) 6 hN) cs_X18_15_0 hN (show CLS[0]? = some (RX1, TX1, 17) from rfl) rfl rfl ⟨Nat.le_of_ble_eq_true rfl, Nat.le_of_ble_eq_true rfl⟩ ⟨(by first | exact Nat.le_of_ble_eq_true rfl | omega | (dsimp only; omega) | (simp only [List.length_cons, List.length_nil]; omega)), (by first | exact Nat.le_of_ble_eq_true rfl | omega | (dsimp only; omega) | (simp only [List.length_cons, List.length_nil]; omega))⟩ (Nat.le_of_ble_eq_true rfl) dX18_work_6 (fun _ _ _ h => px0 h) ?_
  rintro _ M_3 ⟨q_1, rfl, hq_2, hN_4, hF_5, fr_6, sh_7⟩
  refine V_st (st' := [.ref q_1]) rfl ?_
  refine V_athrow C hF_5 (show CLS[8]? = some (RX26, TX26, 7) from rfl) dX18_work_9 ?_
  exact VX_out C (fun z hz => by cases hz) (WX.at0 rfl (by decide) (FLX.of hR hq_2 hN_4 hF_5 fr_6 sh_7)) (by first | exact Nat.le_of_ble_eq_true rfl | omega | (dsimp only; omega) | (simp only [List.length_cons, List.length_nil]; omega)) (by first | exact Nat.le_of_ble_eq_true rfl | omega | (dsimp only; omega) | (simp only [List.length_cons, List.length_nil]; omega))
theorem great_no {σ : MS} (hI : MI σ) {r : Nat} (hr : r < nR σ) (hk : ¬ (1 ≤ kd σ r ∧ kd σ r ≤ 7)) : ¬ mf_real (σ.2.1 2 r) := fun y => hk (by
  rw [(hI.k hr).1] at y
  unfold mf_real at y
  have h := (hI.k hr).2
  rw [nI_l (by omega)] at y
  exact ⟨(lN_le (a := 1) (by decide) (by omega)).mp y.1, (lN_le (b := 7) (by omega) (by decide)).mp y.2⟩)
theorem great_yes {σ : MS} (hI : MI σ) {r : Nat} (hr : r < nR σ) (hk : 1 ≤ kd σ r ∧ kd σ r ≤ 7) : mf_real (σ.2.1 2 r) := by
  rw [(hI.k hr).1]
  have h := (hI.k hr).2
  unfold mf_real
  rw [nI_l (by omega)]
  exact ⟨(lN_le (a := 1) (by decide) (by omega)).mpr hk.1, (lN_le (b := 7) (by omega) (by decide)).mpr hk.2⟩
set_option maxHeartbeats 1000000 in
theorem c_X13_work_k (l : Launch) (hl : l.stackTraces = false) (G : hp_G) (X : Nat → Nat) (N0 : Nat) (M : hp_h) (g : RG) (σ : MS) (z : Nat → Int32) (C9 c9 : Nat) (hC : c9 + 1 = C9) (hR : REL G (X 0) g σ z (σ.1 31) C9 M) (hI : MI σ) (P9 K9 rr : Nat) (x0 i b j n : Int32) (hP9 : P9 < 6) (hK9 : K9 < psz σ P9) (hr : rr < nR σ) (hAF : AF σ P9 K9 = [.int x0, .int (nI rr), .int i, .int b, .int j, .int n]) (hk9 : ¬ (1 ≤ kd σ rr ∧ kd σ rr ≤ 7)) : HM l yX13_work (ws_ yX13_work cX13_work 6 (some .long)) 16 600 1 7 G X N0 [.ref (qH g 6), .ref (qA g P9 K9), .ref (qC g c9)] M PFF (WX G (X 0) g σ z C9 M (mf_greatest σ rr)) := by
  refine HM.of hl [(0, .ref (qH g 6)), (1, .ref (qA g P9 K9)), (2, .ref (qC g c9))] (by decide +kernel) rfl (Nat.le_of_ble_eq_true rfl) ?_
  intro p e s m args below meth c C hname
  have hN := hR.N
  have hH9 : M (qH g 6) = some (.inr (16, [.int 1, .ref (qN g), .int 1, .int 7, .ref (qN g), .ref (qN g)])) := hR.H (by decide)
  have hac : M (qA g P9 K9) = some (.inr (3, [.int x0, .int (nI rr), .int i, .int b, .int j, .int n])) := (hR.A hP9 hK9).trans (congrArg (fun y => some (Sum.inr (3, y))) hAF)
  refine V_aload_n C dX13_work_0 rfl 0 rfl ?_
  refine V_aload_n C dX13_work_1 rfl 1 rfl ?_
  refine V_callU C (c_X5_row_x16 l hl G X N0 M g σ z C9 c9 hC hR hI (qH g 6) hH9 (qA g P9 K9) x0 rr i b j n hr hac hk9) cs_X13_15_16 hH9 (show CLS[16]? = some (RX13, TX13, 6) from rfl) rfl rfl ⟨Nat.le_of_ble_eq_true rfl, Nat.le_of_ble_eq_true rfl⟩ ⟨(by first | exact Nat.le_of_ble_eq_true rfl | omega | (dsimp only; omega) | (simp only [List.length_cons, List.length_nil]; omega)), (by first | exact Nat.le_of_ble_eq_true rfl | omega | (dsimp only; omega) | (simp only [List.length_cons, List.length_nil]; omega))⟩ (Nat.le_of_ble_eq_true rfl) dX13_work_2 ?_ (fun _ _ h => h.elim)
  rintro q9 E9 M9 hx9
  obtain rfl := hx9.1
  exact VX_out C (fun z hz => by cases hz) (WX.at0 (if_pos (great_no hI hr hk9)) (by decide) hx9) (by first | exact Nat.le_of_ble_eq_true rfl | omega | (dsimp only; omega) | (simp only [List.length_cons, List.length_nil]; omega)) (by first | exact Nat.le_of_ble_eq_true rfl | omega | (dsimp only; omega) | (simp only [List.length_cons, List.length_nil]; omega))
set_option maxHeartbeats 1000000 in
theorem c_X13_work_0 (l : Launch) (hl : l.stackTraces = false) (G : hp_G) (X : Nat → Nat) (N0 : Nat) (M : hp_h) (g : RG) (σ : MS) (z : Nat → Int32) (C9 c9 : Nat) (hC : c9 + 1 = C9) (hR : REL G (X 0) g σ z (σ.1 31) C9 M) (hI : MI σ) (P9 K9 rr : Nat) (x0 i b j n : Int32) (hP9 : P9 < 6) (hK9 : K9 < psz σ P9) (hr : rr < nR σ) (hAF : AF σ P9 K9 = [.int x0, .int (nI rr), .int i, .int b, .int j, .int n]) (hk9 : 1 ≤ kd σ rr ∧ kd σ rr ≤ 7) (hl0 : ln σ rr = 0) : HM l yX13_work (ws_ yX13_work cX13_work 6 (some .long)) 16 600 1 7 G X N0 [.ref (qH g 6), .ref (qA g P9 K9), .ref (qC g c9)] M PFF (WX G (X 0) g σ z C9 M (mf_greatest σ rr)) := by
  refine HM.of hl [(0, .ref (qH g 6)), (1, .ref (qA g P9 K9)), (2, .ref (qC g c9))] (by decide +kernel) rfl (Nat.le_of_ble_eq_true rfl) ?_
  intro p e s m args below meth c C hname
  have hN := hR.N
  have hH9 : M (qH g 6) = some (.inr (16, [.int 1, .ref (qN g), .int 1, .int 7, .ref (qN g), .ref (qN g)])) := hR.H (by decide)
  have hac : M (qA g P9 K9) = some (.inr (3, [.int x0, .int (nI rr), .int i, .int b, .int j, .int n])) := (hR.A hP9 hK9).trans (congrArg (fun y => some (Sum.inr (3, y))) hAF)
  refine V_aload_n C dX13_work_0 rfl 0 rfl ?_
  refine V_aload_n C dX13_work_1 rfl 1 rfl ?_
  refine V_callU C (c_X5_row_16 l hl G X N0 M g σ z C9 c9 hC hR hI (qH g 6) hH9 (qA g P9 K9) x0 rr i b j n hr hac hk9) cs_X13_15_16 hH9 (show CLS[16]? = some (RX13, TX13, 6) from rfl) rfl rfl ⟨Nat.le_of_ble_eq_true rfl, Nat.le_of_ble_eq_true rfl⟩ ⟨(by first | exact Nat.le_of_ble_eq_true rfl | omega | (dsimp only; omega) | (simp only [List.length_cons, List.length_nil]; omega)), (by first | exact Nat.le_of_ble_eq_true rfl | omega | (dsimp only; omega) | (simp only [List.length_cons, List.length_nil]; omega))⟩ (Nat.le_of_ble_eq_true rfl) dX13_work_2 (fun _ _ _ h => px0 h) ?_
  rintro _ _ ⟨rfl, rfl⟩
  refine V_st (st' := [.ref (qR g rr)]) rfl ?_
  obtain ⟨xr, hra, hrx, hrc⟩ := hR.rw hr
  obtain ⟨hkE, hkL⟩ := hI.k hr
  obtain ⟨hlE, hlL⟩ := hI.l hr
  refine V_astore_n C dX13_work_5 rfl (Nat.le_of_ble_eq_true rfl) [(0, .ref (qH g 6)), (1, .ref (qA g P9 K9)), (2, .ref (qC g c9)), (3, .ref (qR g rr))] [1, 2, 3, 0] rfl ?_
  refine V_aload_n C dX13_work_6 rfl 3 rfl ?_
  refine V_callSN C (c_X1_sizeOf l hl G X N0 M (qR g rr) (kd σ rr) hkL xr hra) cs_X13_19 rfl rfl ⟨Nat.le_of_ble_eq_true rfl, Nat.le_of_ble_eq_true rfl⟩ ⟨(by first | exact Nat.le_of_ble_eq_true rfl | omega | (dsimp only; omega) | (simp only [List.length_cons, List.length_nil]; omega)), (by first | exact Nat.le_of_ble_eq_true rfl | omega | (dsimp only; omega) | (simp only [List.length_cons, List.length_nil]; omega))⟩ (Nat.le_of_ble_eq_true rfl) dX13_work_7 (fun _ _ _ h => px0 h) ?_
  rintro _ _ ⟨rfl, rfl⟩
  refine V_st (st' := [.int (nI xr.1)]) rfl ?_
  refine V_st (st' := [.int (nI (ln σ rr))]) (by rw [hrx.1]) ?_
  refine V_if_ne (tgt := 22) C dX13_work_10 (by decide) (fun c_10 => ?_) (fun c_10 => ?_)
  · exact absurd (show nI (ln σ rr) = 0 by rw [hl0]; rfl) c_10
  · refine V_aload_n C dX13_work_13 rfl 0 rfl ?_
    refine V_get C f_X13_3_16 hH9 (v := .ref (qN g)) rfl dX13_work_14 ?_
    refine V_iconst (v := 2) C dX13_work_17 rfl ?_
    refine V_callVN C (c_X1_fail l hl G X N0 M (qN g) (qRl g) (qUl g) (qPl g) (qHs g) (qAn g) (σ.1 20) (σ.1 14) (σ.1 11) (σ.1 12) (σ.1 15) (z 0) (z 1) (z 2) (z 3) (z 4) (z 5) (σ.1 31) 2 hN) cs_X13_23_0 hN (show CLS[0]? = some (RX1, TX1, 17) from rfl) rfl rfl ⟨Nat.le_of_ble_eq_true rfl, Nat.le_of_ble_eq_true rfl⟩ ⟨(by first | exact Nat.le_of_ble_eq_true rfl | omega | (dsimp only; omega) | (simp only [List.length_cons, List.length_nil]; omega)), (by first | exact Nat.le_of_ble_eq_true rfl | omega | (dsimp only; omega) | (simp only [List.length_cons, List.length_nil]; omega))⟩ (Nat.le_of_ble_eq_true rfl) dX13_work_18 (fun _ _ _ h => px0 h) ?_
    rintro _ M_3 ⟨q_1, rfl, hq_2, hN_4, hF_5, fr_6, sh_7⟩
    refine V_st (st' := [.ref q_1]) rfl ?_
    refine V_pc (pc1 := 21) rfl ?_
    refine V_athrow C hF_5 (show CLS[8]? = some (RX26, TX26, 7) from rfl) dX13_work_21 ?_
    exact VX_out C (fun z hz => by cases hz) (WX.at0 ((if_neg (not_not_intro (great_yes hI hr hk9))).trans (if_pos hl0)) (by decide) (FLX.of hR hq_2 hN_4 hF_5 fr_6 sh_7)) (by first | exact Nat.le_of_ble_eq_true rfl | omega | (dsimp only; omega) | (simp only [List.length_cons, List.length_nil]; omega)) (by first | exact Nat.le_of_ble_eq_true rfl | omega | (dsimp only; omega) | (simp only [List.length_cons, List.length_nil]; omega))
set_option maxHeartbeats 1000000 in
theorem c_X13_work (l : Launch) (hl : l.stackTraces = false) (G : hp_G) (X : Nat → Nat) (N0 : Nat) (M : hp_h) (g : RG) (σ : MS) (z : Nat → Int32) (C9 c9 : Nat) (hC : c9 + 1 = C9) (hR : REL G (X 0) g σ z (σ.1 31) C9 M) (hI : MI σ) (P9 K9 rr : Nat) (x0 i b j n : Int32) (hP9 : P9 < 6) (hK9 : K9 < psz σ P9) (hr : rr < nR σ) (hAF : AF σ P9 K9 = [.int x0, .int (nI rr), .int i, .int b, .int j, .int n]) (hk9 : 1 ≤ kd σ rr ∧ kd σ rr ≤ 7) (hl0 : ln σ rr ≠ 0) : HM l yX13_work (ws_ yX13_work cX13_work 6 (some .long)) 16 600 1 7 G X N0 [.ref (qH g 6), .ref (qA g P9 K9), .ref (qC g c9)] M (WP G (X 0) g σ z C9 M (mf_greatest σ rr)) PX0 := by
  refine HM.of hl [(0, .ref (qH g 6)), (1, .ref (qA g P9 K9)), (2, .ref (qC g c9))] (by decide +kernel) rfl (Nat.le_of_ble_eq_true rfl) ?_
  intro p e s m args below meth c C hname
  have hN := hR.N
  have hH9 : M (qH g 6) = some (.inr (16, [.int 1, .ref (qN g), .int 1, .int 7, .ref (qN g), .ref (qN g)])) := hR.H (by decide)
  have hac : M (qA g P9 K9) = some (.inr (3, [.int x0, .int (nI rr), .int i, .int b, .int j, .int n])) := (hR.A hP9 hK9).trans (congrArg (fun y => some (Sum.inr (3, y))) hAF)
  refine V_aload_n C dX13_work_0 rfl 0 rfl ?_
  refine V_aload_n C dX13_work_1 rfl 1 rfl ?_
  refine V_callU C (c_X5_row_16 l hl G X N0 M g σ z C9 c9 hC hR hI (qH g 6) hH9 (qA g P9 K9) x0 rr i b j n hr hac hk9) cs_X13_15_16 hH9 (show CLS[16]? = some (RX13, TX13, 6) from rfl) rfl rfl ⟨Nat.le_of_ble_eq_true rfl, Nat.le_of_ble_eq_true rfl⟩ ⟨(by first | exact Nat.le_of_ble_eq_true rfl | omega | (dsimp only; omega) | (simp only [List.length_cons, List.length_nil]; omega)), (by first | exact Nat.le_of_ble_eq_true rfl | omega | (dsimp only; omega) | (simp only [List.length_cons, List.length_nil]; omega))⟩ (Nat.le_of_ble_eq_true rfl) dX13_work_2 (fun _ _ _ h => px0 h) ?_
  rintro _ _ ⟨rfl, rfl⟩
  refine V_st (st' := [.ref (qR g rr)]) rfl ?_
  obtain ⟨xr, hra, hrx, hrc⟩ := hR.rw hr
  obtain ⟨hkE, hkL⟩ := hI.k hr
  obtain ⟨hlE, hlL⟩ := hI.l hr
  refine V_astore_n C dX13_work_5 rfl (Nat.le_of_ble_eq_true rfl) [(0, .ref (qH g 6)), (1, .ref (qA g P9 K9)), (2, .ref (qC g c9)), (3, .ref (qR g rr))] [1, 2, 3, 0] rfl ?_
  refine V_aload_n C dX13_work_6 rfl 3 rfl ?_
  refine V_callSN C (c_X1_sizeOf l hl G X N0 M (qR g rr) (kd σ rr) hkL xr hra) cs_X13_19 rfl rfl ⟨Nat.le_of_ble_eq_true rfl, Nat.le_of_ble_eq_true rfl⟩ ⟨(by first | exact Nat.le_of_ble_eq_true rfl | omega | (dsimp only; omega) | (simp only [List.length_cons, List.length_nil]; omega)), (by first | exact Nat.le_of_ble_eq_true rfl | omega | (dsimp only; omega) | (simp only [List.length_cons, List.length_nil]; omega))⟩ (Nat.le_of_ble_eq_true rfl) dX13_work_7 (fun _ _ _ h => px0 h) ?_
  rintro _ _ ⟨rfl, rfl⟩
  refine V_st (st' := [.int (nI xr.1)]) rfl ?_
  refine V_st (st' := [.int (nI (ln σ rr))]) (by rw [hrx.1]) ?_
  refine V_if_ne (tgt := 22) C dX13_work_10 (by decide) (fun c_10 => ?_) (fun c_10 => ?_)
  · refine V_iconst (v := 0) C dX13_work_22 rfl ?_
    refine V_istore C dX13_work_23 (Nat.le_of_ble_eq_true rfl) [(0, .ref (qH g 6)), (1, .ref (qA g P9 K9)), (2, .ref (qC g c9)), (3, .ref (qR g rr)), (4, .int 0)] [1, 2, 3, 4, 0] rfl ?_
    refine V_iconst (v := 1) C dX13_work_25 rfl ?_
    refine V_istore C dX13_work_26 (Nat.le_of_ble_eq_true rfl) [(0, .ref (qH g 6)), (1, .ref (qA g P9 K9)), (2, .ref (qC g c9)), (3, .ref (qR g rr)), (4, .int 0), (5, .int 1)] [1, 2, 3, 4, 5, 0] rfl ?_
    have lp_28 : ∀ (fu9 : Nat) (q : Nat) (t : Nat), ln σ rr - q < fu9 → (1 ≤ q) → (q ≤ ln σ rr) → (t < q) → (t = mf_great σ rr q) → V p l e { frames := 16, cells := 1, slots := 7, locals := 600 } s m args below meth c G N0 6 (QV below G N0 ((WP G (X 0) g σ z C9 M (mf_greatest σ rr))) PX0 args s (1) (7)) (0) (0) M 28 [(0, .ref (qH g 6)), (1, .ref (qA g P9 K9)), (2, .ref (qC g c9)), (3, .ref (qR g rr)), (4, .int (nI t)), (5, .int (nI q))] [] := by
      intro fu9
      induction fu9 with
      | zero => intro q t  hfu9; exact absurd hfu9 (Nat.not_lt_zero _)
      | succ fu9 ih28 =>
        intro q t  hfu9 hq1 hq htq ht
        refine V_pc (pc1 := 28) rfl ?_
        refine V_iload C dX13_work_28 5 rfl ?_
        refine V_aload_n C dX13_work_30 rfl 3 rfl ?_
        refine V_callSN C (c_X1_sizeOf l hl G X N0 M (qR g rr) (kd σ rr) hkL xr hra) cs_X13_19 rfl rfl ⟨Nat.le_of_ble_eq_true rfl, Nat.le_of_ble_eq_true rfl⟩ ⟨(by first | exact Nat.le_of_ble_eq_true rfl | omega | (dsimp only; omega) | (simp only [List.length_cons, List.length_nil]; omega)), (by first | exact Nat.le_of_ble_eq_true rfl | omega | (dsimp only; omega) | (simp only [List.length_cons, List.length_nil]; omega))⟩ (Nat.le_of_ble_eq_true rfl) dX13_work_31 (fun _ _ _ h => px0 h) ?_
        rintro _ _ ⟨rfl, rfl⟩
        refine V_st (st' := [.int (nI xr.1), .int (nI q)]) rfl ?_
        refine V_st (st' := [.int (nI (ln σ rr)), .int (nI q)]) (by rw [hrx.1]) ?_
        refine V_icmp_ge (tgt := 64) C dX13_work_34 (by decide) (fun c_34 => ?_) (fun c_34 => ?_)
        · refine V_aload_n C dX13_work_64 rfl 3 rfl ?_
          refine V_iload C dX13_work_65 4 rfl ?_
          have hq3 : q = ln σ rr := by have := (nI_leI (by omega) (by omega)).mp c_34; omega
          refine V_callSN C (c_X1_get l hl G X N0 M (qR g rr) (kd σ rr) t xr (el σ rr t) (by omega) hra (by rw [hrx.1]; omega) (by rw [hrx.1]; omega) (hrc t (by omega)) (hR.UH hI)) cs_X13_31 rfl rfl ⟨Nat.le_of_ble_eq_true rfl, Nat.le_of_ble_eq_true rfl⟩ ⟨(by first | exact Nat.le_of_ble_eq_true rfl | omega | (dsimp only; omega) | (simp only [List.length_cons, List.length_nil]; omega)), (by first | exact Nat.le_of_ble_eq_true rfl | omega | (dsimp only; omega) | (simp only [List.length_cons, List.length_nil]; omega))⟩ (Nat.le_of_ble_eq_true rfl) dX13_work_67 (fun _ _ _ h => px0 h) ?_
          rintro _ _ ⟨rfl, rfl⟩
          refine V_st (st' := [.long (el σ rr t)]) rfl ?_
          refine V_lret C dX13_work_70 rfl ?_ (by first | exact Nat.le_of_ble_eq_true rfl | omega | (dsimp only; omega) | (simp only [List.length_cons, List.length_nil]; omega)) (by first | exact Nat.le_of_ble_eq_true rfl | omega | (dsimp only; omega) | (simp only [List.length_cons, List.length_nil]; omega))
          exact WP.read hR (by unfold mf_greatest; rw [if_neg (not_not_intro (great_yes hI hr hk9)), if_neg hl0, ht, hq3])
        · refine V_aload_n C dX13_work_37 rfl 3 rfl ?_
          refine V_iload C dX13_work_38 4 rfl ?_
          refine V_aload_n C dX13_work_40 rfl 3 rfl ?_
          refine V_iload C dX13_work_41 5 rfl ?_
          have hq2 : q < ln σ rr := nI_ltN9 (by omega) (by omega) c_34
          refine V_callSN C (c_X1_isBelow l hl G X N0 M (qR g rr) (qR g rr) (kd σ rr) t q xr xr (el σ rr t) (el σ rr q) (by omega) hra (by rw [hrx.1]; omega) (by rw [hrx.1]; omega) (hrc t (by omega)) hra (by rw [hrx.1]; omega) (by rw [hrx.1]; omega) (hrc q (by omega)) (hR.UH hI)) cs_X13_27 rfl rfl ⟨Nat.le_of_ble_eq_true rfl, Nat.le_of_ble_eq_true rfl⟩ ⟨(by first | exact Nat.le_of_ble_eq_true rfl | omega | (dsimp only; omega) | (simp only [List.length_cons, List.length_nil]; omega)), (by first | exact Nat.le_of_ble_eq_true rfl | omega | (dsimp only; omega) | (simp only [List.length_cons, List.length_nil]; omega))⟩ (Nat.le_of_ble_eq_true rfl) dX13_work_43 (fun _ _ _ h => px0 h) ?_
          rintro _ _ ⟨rfl, rfl⟩
          refine V_st (st' := [.int (bI (mf_order (nI (kd σ rr)) (el σ rr t) (el σ rr q) < 0))]) rfl ?_
          refine V_if_eq (tgt := 54) C dX13_work_46 (by decide) (fun c_46 => ?_) (fun c_46 => ?_)
          · refine V_iload C dX13_work_54 4 rfl ?_
            refine V_istore C dX13_work_56 (Nat.le_of_ble_eq_true rfl) [(0, .ref (qH g 6)), (1, .ref (qA g P9 K9)), (2, .ref (qC g c9)), (3, .ref (qR g rr)), (4, .int (nI t)), (5, .int (nI q))] [1, 2, 3, 4, 0, 5] rfl ?_
            refine V_pc (pc1 := 58) rfl ?_
            refine V_iinc (v := nI (q + 1)) C dX13_work_58 (k := 5) rfl (nI_add q 1) (Nat.le_of_ble_eq_true rfl) [(0, .ref (qH g 6)), (1, .ref (qA g P9 K9)), (2, .ref (qC g c9)), (3, .ref (qR g rr)), (4, .int (nI t)), (5, .int (nI (q + 1)))] [1, 2, 3, 4, 5, 0] rfl ?_
            refine V_goto (tgt := 28) C dX13_work_61 (by decide) ?_
            have hq2 : q < ln σ rr := nI_ltN9 (by omega) (by omega) c_34
            have hgs : mf_great σ rr (q + 1) = if 0 < mf_order (nI (kd σ rr)) (el σ rr q) (el σ rr t) then q else t := by obtain ⟨y, rfl⟩ : ∃ y, q = y + 1 := ⟨q - 1, by omega⟩; rw [ht, ← hkE]; rfl
            exact ih28 (q + 1) t  (by omega) (by omega) (by omega) (by omega) (by rw [hgs, if_neg (fun y => bI_0.mp c_46 (order_flip.mpr y))])
          · refine V_iload C dX13_work_49 5 rfl ?_
            refine V_goto (tgt := 56) C dX13_work_51 (by decide) ?_
            refine V_pc (pc1 := 56) rfl ?_
            refine V_istore C dX13_work_56 (Nat.le_of_ble_eq_true rfl) [(0, .ref (qH g 6)), (1, .ref (qA g P9 K9)), (2, .ref (qC g c9)), (3, .ref (qR g rr)), (4, .int (nI q)), (5, .int (nI q))] [1, 2, 3, 4, 0, 5] rfl ?_
            refine V_iinc (v := nI (q + 1)) C dX13_work_58 (k := 5) rfl (nI_add q 1) (Nat.le_of_ble_eq_true rfl) [(0, .ref (qH g 6)), (1, .ref (qA g P9 K9)), (2, .ref (qC g c9)), (3, .ref (qR g rr)), (4, .int (nI q)), (5, .int (nI (q + 1)))] [1, 2, 3, 4, 5, 0] rfl ?_
            refine V_goto (tgt := 28) C dX13_work_61 (by decide) ?_
            have hq2 : q < ln σ rr := nI_ltN9 (by omega) (by omega) c_34
            have hgs : mf_great σ rr (q + 1) = if 0 < mf_order (nI (kd σ rr)) (el σ rr q) (el σ rr t) then q else t := by obtain ⟨y, rfl⟩ : ∃ y, q = y + 1 := ⟨q - 1, by omega⟩; rw [ht, ← hkE]; rfl
            exact ih28 (q + 1) q  (by omega) (by omega) (by omega) (by omega) (by rw [hgs, if_pos (order_flip.mp (bI_n.mp c_46))])
    refine V_loc (L' := [(0, .ref (qH g 6)), (1, .ref (qA g P9 K9)), (2, .ref (qC g c9)), (3, .ref (qR g rr)), (4, .int 0), (5, .int 1)]) [0, 1, 2, 3, 4, 5] rfl ?_
    exact lp_28 _ 1 0  (Nat.lt_succ_self _) (Nat.le_refl 1) (by omega) Nat.zero_lt_one rfl
  · exact absurd ((nI_eq (b := 0) (by omega) (by decide)).mp c_10) hl0
theorem fees_k {σ : MS} (hI : MI σ) {r : Nat} (hr : r < nR σ) : (σ.2.1 2 r = 8 ∨ σ.2.1 2 r = 9) ↔ (kd σ r = 8 ∨ kd σ r = 9) := by
  have h := (hI.k hr).2
  rw [(hI.k hr).1]
  exact or_congr (nI_eq (b := 8) (by omega) (by decide)) (nI_eq (b := 9) (by omega) (by decide))
set_option maxHeartbeats 1000000 in
theorem c_X19_work_k (l : Launch) (hl : l.stackTraces = false) (G : hp_G) (X : Nat → Nat) (N0 : Nat) (M : hp_h) (g : RG) (σ : MS) (z : Nat → Int32) (C9 c9 : Nat) (hC : c9 + 1 = C9) (hR : REL G (X 0) g σ z (σ.1 31) C9 M) (hI : MI σ) (P9 K9 rr : Nat) (x0 i b j n : Int32) (hP9 : P9 < 6) (hK9 : K9 < psz σ P9) (hr : rr < nR σ) (hAF : AF σ P9 K9 = [.int x0, .int (nI rr), .int i, .int b, .int j, .int n]) (hk9 : ¬ (8 ≤ kd σ rr ∧ kd σ rr ≤ 9)) : HM l yX19_work (ws_ yX19_work cX19_work 11 (some .long)) 16 600 1 7 G X N0 [.ref (qH g 12), .ref (qA g P9 K9), .ref (qC g c9)] M PFF (WX G (X 0) g σ z C9 M (mf_fees σ rr)) := by
  refine HM.of hl [(0, .ref (qH g 12)), (1, .ref (qA g P9 K9)), (2, .ref (qC g c9))] (by decide +kernel) rfl (Nat.le_of_ble_eq_true rfl) ?_
  intro p e s m args below meth c C hname
  have hN := hR.N
  have hH9 : M (qH g 12) = some (.inr (22, [.int 1, .ref (qN g), .int 8, .int 9, .ref (qN g), .ref (qN g)])) := hR.H (by decide)
  have hac : M (qA g P9 K9) = some (.inr (3, [.int x0, .int (nI rr), .int i, .int b, .int j, .int n])) := (hR.A hP9 hK9).trans (congrArg (fun y => some (Sum.inr (3, y))) hAF)
  refine V_aload_n C dX19_work_0 rfl 0 rfl ?_
  refine V_aload_n C dX19_work_1 rfl 1 rfl ?_
  refine V_callU C (c_X5_row_x22 l hl G X N0 M g σ z C9 c9 hC hR hI (qH g 12) hH9 (qA g P9 K9) x0 rr i b j n hr hac hk9) cs_X19_15_22 hH9 (show CLS[22]? = some (RX19, TX19, 6) from rfl) rfl rfl ⟨Nat.le_of_ble_eq_true rfl, Nat.le_of_ble_eq_true rfl⟩ ⟨(by first | exact Nat.le_of_ble_eq_true rfl | omega | (dsimp only; omega) | (simp only [List.length_cons, List.length_nil]; omega)), (by first | exact Nat.le_of_ble_eq_true rfl | omega | (dsimp only; omega) | (simp only [List.length_cons, List.length_nil]; omega))⟩ (Nat.le_of_ble_eq_true rfl) dX19_work_2 ?_ (fun _ _ h => h.elim)
  rintro q9 E9 M9 hx9
  obtain rfl := hx9.1
  exact VX_out C (fun z hz => by cases hz) (WX.at0 (if_pos (fun y => by have := (fees_k hI hr).mp y; omega)) (by decide) hx9) (by first | exact Nat.le_of_ble_eq_true rfl | omega | (dsimp only; omega) | (simp only [List.length_cons, List.length_nil]; omega)) (by first | exact Nat.le_of_ble_eq_true rfl | omega | (dsimp only; omega) | (simp only [List.length_cons, List.length_nil]; omega))
set_option maxHeartbeats 1000000 in
theorem c_X19_work (l : Launch) (hl : l.stackTraces = false) (G : hp_G) (X : Nat → Nat) (N0 : Nat) (M : hp_h) (g : RG) (σ : MS) (z : Nat → Int32) (C9 c9 : Nat) (hC : c9 + 1 = C9) (hR : REL G (X 0) g σ z (σ.1 31) C9 M) (hI : MI σ) (P9 K9 rr : Nat) (x0 i b j n : Int32) (hP9 : P9 < 6) (hK9 : K9 < psz σ P9) (hr : rr < nR σ) (hAF : AF σ P9 K9 = [.int x0, .int (nI rr), .int i, .int b, .int j, .int n]) (hk9 : 8 ≤ kd σ rr ∧ kd σ rr ≤ 9) (h0 : σ.2.2.2 = 0) : HM l yX19_work (ws_ yX19_work cX19_work 11 (some .long)) 16 600 1 7 G X N0 [.ref (qH g 12), .ref (qA g P9 K9), .ref (qC g c9)] M (WP G (X 0) g σ z C9 M (mf_fees σ rr)) PX0 := by
  refine HM.of hl [(0, .ref (qH g 12)), (1, .ref (qA g P9 K9)), (2, .ref (qC g c9))] (by decide +kernel) rfl (Nat.le_of_ble_eq_true rfl) ?_
  intro p e s m args below meth c C hname
  have hN := hR.N
  have hH9 : M (qH g 12) = some (.inr (22, [.int 1, .ref (qN g), .int 8, .int 9, .ref (qN g), .ref (qN g)])) := hR.H (by decide)
  have hac : M (qA g P9 K9) = some (.inr (3, [.int x0, .int (nI rr), .int i, .int b, .int j, .int n])) := (hR.A hP9 hK9).trans (congrArg (fun y => some (Sum.inr (3, y))) hAF)
  have hf0 : mf_feeS σ rr 0 = 0 := h0
  refine V_aload_n C dX19_work_0 rfl 0 rfl ?_
  refine V_aload_n C dX19_work_1 rfl 1 rfl ?_
  refine V_callU C (c_X5_row_22 l hl G X N0 M g σ z C9 c9 hC hR hI (qH g 12) hH9 (qA g P9 K9) x0 rr i b j n hr hac hk9) cs_X19_15_22 hH9 (show CLS[22]? = some (RX19, TX19, 6) from rfl) rfl rfl ⟨Nat.le_of_ble_eq_true rfl, Nat.le_of_ble_eq_true rfl⟩ ⟨(by first | exact Nat.le_of_ble_eq_true rfl | omega | (dsimp only; omega) | (simp only [List.length_cons, List.length_nil]; omega)), (by first | exact Nat.le_of_ble_eq_true rfl | omega | (dsimp only; omega) | (simp only [List.length_cons, List.length_nil]; omega))⟩ (Nat.le_of_ble_eq_true rfl) dX19_work_2 (fun _ _ _ h => px0 h) ?_
  rintro _ _ ⟨rfl, rfl⟩
  refine V_st (st' := [.ref (qR g rr)]) rfl ?_
  obtain ⟨xr, hra, hrx, hrc⟩ := hR.rw hr
  obtain ⟨hkE, hkL⟩ := hI.k hr
  obtain ⟨hlE, hlL⟩ := hI.l hr
  obtain ⟨f9, hf1, hf2⟩ := hR.r89 hr (show kd σ rr = 8 ∨ kd σ rr = 9 by omega)
  obtain hk8 | hk8 : kd σ rr = 8 ∨ kd σ rr = 9 := by omega
  · rw [hk8] at hf1
    refine V_castA C (j := 8) (by decide) q1218 (Or.inl rfl) hf1 dX19_work_5 ?_
    refine V_astore_n C dX19_work_8 rfl (Nat.le_of_ble_eq_true rfl) [(0, .ref (qH g 12)), (1, .ref (qA g P9 K9)), (2, .ref (qC g c9)), (3, .ref (qR g rr))] [1, 2, 3, 0] rfl ?_
    refine V_lconst (v := 0) C dX19_work_9 rfl ?_
    refine V_lstore C dX19_work_10 (Nat.le_of_ble_eq_true rfl) [(0, .ref (qH g 12)), (1, .ref (qA g P9 K9)), (2, .ref (qC g c9)), (3, .ref (qR g rr)), (4, .long 0)] [1, 2, 3, 4, 0] rfl ?_
    refine V_aload_n C dX19_work_12 rfl 3 rfl ?_
    refine V_astore C dX19_work_13 (Nat.le_of_ble_eq_true rfl) [(0, .ref (qH g 12)), (1, .ref (qA g P9 K9)), (2, .ref (qC g c9)), (3, .ref (qR g rr)), (4, .long 0), (6, .ref (qR g rr))] [1, 2, 3, 4, 5, 0] rfl ?_
    refine V_aload C dX19_work_15 5 rfl ?_
    refine V_alen (j := 8) C rfl hf1 (v := nI (ln σ rr)) rfl dX19_work_17 ?_
    refine V_pc (pc1 := 18) rfl ?_
    refine V_istore C dX19_work_18 (Nat.le_of_ble_eq_true rfl) [(0, .ref (qH g 12)), (1, .ref (qA g P9 K9)), (2, .ref (qC g c9)), (3, .ref (qR g rr)), (4, .long 0), (6, .ref (qR g rr)), (7, .int (nI (ln σ rr)))] [1, 2, 3, 4, 5, 6, 0] rfl ?_
    refine V_iconst (v := 0) C dX19_work_20 rfl ?_
    refine V_istore C dX19_work_21 (Nat.le_of_ble_eq_true rfl) [(0, .ref (qH g 12)), (1, .ref (qA g P9 K9)), (2, .ref (qC g c9)), (3, .ref (qR g rr)), (4, .long 0), (6, .ref (qR g rr)), (7, .int (nI (ln σ rr))), (8, .int 0)] [1, 2, 3, 4, 5, 6, 7, 0] rfl ?_
    have lp_23 : ∀ (fu9 : Nat) (q : Nat) (sm : Int64), ln σ rr - q < fu9 → (q ≤ ln σ rr) → (sm = mf_feeS σ rr q) → V p l e { frames := 16, cells := 1, slots := 7, locals := 600 } s m args below meth c G N0 11 (QV below G N0 ((WP G (X 0) g σ z C9 M (mf_fees σ rr))) PX0 args s (1) (7)) (0) (0) M 23 [(0, .ref (qH g 12)), (1, .ref (qA g P9 K9)), (2, .ref (qC g c9)), (3, .ref (qR g rr)), (4, .long sm), (6, .ref (qR g rr)), (7, .int (nI (ln σ rr))), (8, .int (nI q))] [] := by
      intro fu9
      induction fu9 with
      | zero => intro q sm  hfu9; exact absurd hfu9 (Nat.not_lt_zero _)
      | succ fu9 ih23 =>
        intro q sm  hfu9 hq hsm
        refine V_iload C dX19_work_23 7 rfl ?_
        refine V_iload C dX19_work_25 6 rfl ?_
        refine V_icmp_ge (tgt := 69) C dX19_work_27 (by decide) (fun c_27 => ?_) (fun c_27 => ?_)
        · refine V_lload C dX19_work_69 4 rfl ?_
          refine V_lret C dX19_work_71 rfl ?_ (by first | exact Nat.le_of_ble_eq_true rfl | omega | (dsimp only; omega) | (simp only [List.length_cons, List.length_nil]; omega)) (by first | exact Nat.le_of_ble_eq_true rfl | omega | (dsimp only; omega) | (simp only [List.length_cons, List.length_nil]; omega))
          have hq3 : q = ln σ rr := by have := (nI_leI (by omega) (by omega)).mp c_27; omega
          exact WP.read hR (by unfold mf_fees; rw [if_neg (not_not_intro ((fees_k hI hr).mpr (by omega))), hsm, hq3])
        · refine V_aload C dX19_work_30 5 rfl ?_
          refine V_iload C dX19_work_32 7 rfl ?_
          have hq2 : q < ln σ rr := nI_ltN9 (by omega) (by omega) c_27
          rcases hf2 q hq2 with ⟨he, hfn⟩ | ⟨u, hu, he, hfu⟩
          · skip
            refine V_aald C (j := 8) rfl rfl hf1 (vp_in_nI (by omega) (by omega)) dX19_work_34 ?_
            refine V_st (st' := [.null]) (by rw [nI_clamp (by omega), hfn]; rfl) ?_
            refine V_astoreN C dX19_work_35 (Nat.le_of_ble_eq_true rfl) [(0, .ref (qH g 12)), (1, .ref (qA g P9 K9)), (2, .ref (qC g c9)), (3, .ref (qR g rr)), (4, .long sm), (6, .ref (qR g rr)), (7, .int (nI (ln σ rr))), (8, .int (nI q)), (9, .null)] [1, 2, 3, 4, 5, 6, 7, 8, 0] rfl ?_
            refine V_aloadN C dX19_work_37 8 rfl ?_
            refine V_astoreN C dX19_work_39 (Nat.le_of_ble_eq_true rfl) [(0, .ref (qH g 12)), (1, .ref (qA g P9 K9)), (2, .ref (qC g c9)), (3, .ref (qR g rr)), (4, .long sm), (6, .ref (qR g rr)), (7, .int (nI (ln σ rr))), (8, .int (nI q)), (9, .null), (10, .null)] [1, 2, 3, 4, 5, 6, 7, 8, 9, 0] rfl ?_
            refine V_pc (pc1 := 41) rfl ?_
            refine V_lload C dX19_work_41 4 rfl ?_
            refine V_aloadN C dX19_work_43 9 rfl ?_
            refine V_ifnonnullN C dX19_work_45 ?_
            refine V_lconst (v := 0) C dX19_work_48 rfl ?_
            refine V_goto (tgt := 60) C dX19_work_49 (by decide) ?_
            refine V_ladd C dX19_work_60 ?_
            refine V_st (st' := [.long (mf_feeS σ rr (q + 1))]) (by rw [show (sm + 0) = (mf_feeS σ rr (q + 1)) from by rw [hsm]; show _ = mf_feeS σ rr q + (if (el σ rr q).toInt32 < 0 then 0 else (mf_fee σ (el σ rr q).toInt32.toNatClampNeg).toInt64); rw [he]; rfl]) ?_
            refine V_lstore C dX19_work_61 (Nat.le_of_ble_eq_true rfl) [(0, .ref (qH g 12)), (1, .ref (qA g P9 K9)), (2, .ref (qC g c9)), (3, .ref (qR g rr)), (4, .long (mf_feeS σ rr (q + 1))), (6, .ref (qR g rr)), (7, .int (nI (ln σ rr))), (8, .int (nI q)), (9, .null), (10, .null)] [1, 2, 3, 4, 0, 5, 6, 7, 8, 9] rfl ?_
            refine V_iinc (v := nI (q + 1)) C dX19_work_63 (k := 7) rfl (nI_add q 1) (Nat.le_of_ble_eq_true rfl) [(0, .ref (qH g 12)), (1, .ref (qA g P9 K9)), (2, .ref (qC g c9)), (3, .ref (qR g rr)), (4, .long (mf_feeS σ rr (q + 1))), (6, .ref (qR g rr)), (7, .int (nI (ln σ rr))), (8, .int (nI (q + 1))), (9, .null), (10, .null)] [1, 2, 3, 4, 5, 6, 7, 0, 8, 9] rfl ?_
            refine V_goto (tgt := 23) C dX19_work_66 (by decide) ?_
            refine V_loc (L' := [(0, .ref (qH g 12)), (1, .ref (qA g P9 K9)), (2, .ref (qC g c9)), (3, .ref (qR g rr)), (4, .long (mf_feeS σ rr (q + 1))), (6, .ref (qR g rr)), (7, .int (nI (ln σ rr))), (8, .int (nI (q + 1)))]) [0, 1, 2, 3, 4, 5, 6, 7] rfl ?_
            exact ih23 (q + 1) (mf_feeS σ rr (q + 1))  (by omega) (by omega) rfl
          · skip
            refine V_aald C (j := 8) rfl rfl hf1 (vp_in_nI (by omega) (by omega)) dX19_work_34 ?_
            refine V_st (st' := [.ref (qU g u)]) (by rw [nI_clamp (by omega), hfu]; rfl) ?_
            refine V_astore C dX19_work_35 (Nat.le_of_ble_eq_true rfl) [(0, .ref (qH g 12)), (1, .ref (qA g P9 K9)), (2, .ref (qC g c9)), (3, .ref (qR g rr)), (4, .long sm), (6, .ref (qR g rr)), (7, .int (nI (ln σ rr))), (8, .int (nI q)), (9, .ref (qU g u))] [1, 2, 3, 4, 5, 6, 7, 8, 0] rfl ?_
            refine V_aload C dX19_work_37 8 rfl ?_
            refine V_astore C dX19_work_39 (Nat.le_of_ble_eq_true rfl) [(0, .ref (qH g 12)), (1, .ref (qA g P9 K9)), (2, .ref (qC g c9)), (3, .ref (qR g rr)), (4, .long sm), (6, .ref (qR g rr)), (7, .int (nI (ln σ rr))), (8, .int (nI q)), (9, .ref (qU g u)), (10, .ref (qU g u))] [1, 2, 3, 4, 5, 6, 7, 8, 9, 0] rfl ?_
            refine V_pc (pc1 := 41) rfl ?_
            refine V_lload C dX19_work_41 4 rfl ?_
            refine V_aload C dX19_work_43 9 rfl ?_
            refine V_ifnonnull (tgt := 52) C dX19_work_45 (by decide) ?_
            obtain ⟨hc2, hcn⟩ := hI.cN hu
            have hun := hR.un hu
            obtain hc9 | hc9 | hc9 : (σ.2.1 6 u).toNatClampNeg = 0 ∨ (σ.2.1 6 u).toNatClampNeg = 1 ∨ (σ.2.1 6 u).toNatClampNeg = 2 := by omega
            · rw [hc9] at hun hcn
              refine V_aload C dX19_work_52 9 rfl ?_
              refine V_callD C (c_X27_fee_5 l hl G X N0 M (qU g u) (nI u) (σ.2.1 7 u) hun) ⟨lw_meth q644, q1220, q642, q1829, List.mem_of_getElem? (i := 0) rfl, mh_X27_fee⟩ hun (show CLS[5]? = some (RX21, TX21, 2) from rfl) rfl rfl ⟨Nat.le_of_ble_eq_true rfl, Nat.le_of_ble_eq_true rfl⟩ ⟨by first | exact Nat.le_of_ble_eq_true rfl | omega | (dsimp only; omega) | (simp only [List.length_cons, List.length_nil]; omega), by first | exact Nat.le_of_ble_eq_true rfl | omega | (dsimp only; omega) | (simp only [List.length_cons, List.length_nil]; omega)⟩ (Nat.le_of_ble_eq_true rfl) dX19_work_54 (fun _ _ _ h => px0 h) ?_
              rintro _ _ ⟨rfl, rfl⟩
              refine V_st (st' := [.int (1 * 1 : Int32), .long sm]) rfl ?_
              refine V_i2l (v := (1 * 1 : Int32).toInt64) C dX19_work_59 rfl ?_
              refine V_ladd C dX19_work_60 ?_
              refine V_st (st' := [.long (mf_feeS σ rr (q + 1))]) (by rw [show (sm + ((1 * 1 : Int32).toInt64)) = (mf_feeS σ rr (q + 1)) from by rw [hsm]; show _ = mf_feeS σ rr q + (if (el σ rr q).toInt32 < 0 then 0 else (mf_fee σ (el σ rr q).toInt32.toNatClampNeg).toInt64); have hU3 := hI.U.2; rw [he, lN_i, if_neg (nI_pos (by omega)), nI_clamp (by omega)]; unfold mf_fee; rw [hcn]; rfl]) ?_
              refine V_lstore C dX19_work_61 (Nat.le_of_ble_eq_true rfl) [(0, .ref (qH g 12)), (1, .ref (qA g P9 K9)), (2, .ref (qC g c9)), (3, .ref (qR g rr)), (4, .long (mf_feeS σ rr (q + 1))), (6, .ref (qR g rr)), (7, .int (nI (ln σ rr))), (8, .int (nI q)), (9, .ref (qU g u)), (10, .ref (qU g u))] [1, 2, 3, 4, 0, 5, 6, 7, 8, 9] rfl ?_
              refine V_iinc (v := nI (q + 1)) C dX19_work_63 (k := 7) rfl (nI_add q 1) (Nat.le_of_ble_eq_true rfl) [(0, .ref (qH g 12)), (1, .ref (qA g P9 K9)), (2, .ref (qC g c9)), (3, .ref (qR g rr)), (4, .long (mf_feeS σ rr (q + 1))), (6, .ref (qR g rr)), (7, .int (nI (ln σ rr))), (8, .int (nI (q + 1))), (9, .ref (qU g u)), (10, .ref (qU g u))] [1, 2, 3, 4, 5, 6, 7, 0, 8, 9] rfl ?_
              refine V_goto (tgt := 23) C dX19_work_66 (by decide) ?_
              refine V_loc (L' := [(0, .ref (qH g 12)), (1, .ref (qA g P9 K9)), (2, .ref (qC g c9)), (3, .ref (qR g rr)), (4, .long (mf_feeS σ rr (q + 1))), (6, .ref (qR g rr)), (7, .int (nI (ln σ rr))), (8, .int (nI (q + 1)))]) [0, 1, 2, 3, 4, 5, 6, 7] rfl ?_
              exact ih23 (q + 1) (mf_feeS σ rr (q + 1))  (by omega) (by omega) rfl
            · rw [hc9] at hun hcn
              refine V_aload C dX19_work_52 9 rfl ?_
              refine V_callD C (c_X27_fee_6 l hl G X N0 M (qU g u) (nI u) (σ.2.1 7 u) hun) ⟨lw_meth q644, q1220, q642, q1829, List.mem_of_getElem? (i := 1) rfl, mh_X27_fee⟩ hun (show CLS[6]? = some (RX22, TX22, 2) from rfl) rfl rfl ⟨Nat.le_of_ble_eq_true rfl, Nat.le_of_ble_eq_true rfl⟩ ⟨by first | exact Nat.le_of_ble_eq_true rfl | omega | (dsimp only; omega) | (simp only [List.length_cons, List.length_nil]; omega), by first | exact Nat.le_of_ble_eq_true rfl | omega | (dsimp only; omega) | (simp only [List.length_cons, List.length_nil]; omega)⟩ (Nat.le_of_ble_eq_true rfl) dX19_work_54 (fun _ _ _ h => px0 h) ?_
              rintro _ _ ⟨rfl, rfl⟩
              refine V_st (st' := [.int ((1 + 1) * (1 + 1) : Int32), .long sm]) rfl ?_
              refine V_i2l (v := ((1 + 1) * (1 + 1) : Int32).toInt64) C dX19_work_59 rfl ?_
              refine V_ladd C dX19_work_60 ?_
              refine V_st (st' := [.long (mf_feeS σ rr (q + 1))]) (by rw [show (sm + (((1 + 1) * (1 + 1) : Int32).toInt64)) = (mf_feeS σ rr (q + 1)) from by rw [hsm]; show _ = mf_feeS σ rr q + (if (el σ rr q).toInt32 < 0 then 0 else (mf_fee σ (el σ rr q).toInt32.toNatClampNeg).toInt64); have hU3 := hI.U.2; rw [he, lN_i, if_neg (nI_pos (by omega)), nI_clamp (by omega)]; unfold mf_fee; rw [hcn]; rfl]) ?_
              refine V_lstore C dX19_work_61 (Nat.le_of_ble_eq_true rfl) [(0, .ref (qH g 12)), (1, .ref (qA g P9 K9)), (2, .ref (qC g c9)), (3, .ref (qR g rr)), (4, .long (mf_feeS σ rr (q + 1))), (6, .ref (qR g rr)), (7, .int (nI (ln σ rr))), (8, .int (nI q)), (9, .ref (qU g u)), (10, .ref (qU g u))] [1, 2, 3, 4, 0, 5, 6, 7, 8, 9] rfl ?_
              refine V_iinc (v := nI (q + 1)) C dX19_work_63 (k := 7) rfl (nI_add q 1) (Nat.le_of_ble_eq_true rfl) [(0, .ref (qH g 12)), (1, .ref (qA g P9 K9)), (2, .ref (qC g c9)), (3, .ref (qR g rr)), (4, .long (mf_feeS σ rr (q + 1))), (6, .ref (qR g rr)), (7, .int (nI (ln σ rr))), (8, .int (nI (q + 1))), (9, .ref (qU g u)), (10, .ref (qU g u))] [1, 2, 3, 4, 5, 6, 7, 0, 8, 9] rfl ?_
              refine V_goto (tgt := 23) C dX19_work_66 (by decide) ?_
              refine V_loc (L' := [(0, .ref (qH g 12)), (1, .ref (qA g P9 K9)), (2, .ref (qC g c9)), (3, .ref (qR g rr)), (4, .long (mf_feeS σ rr (q + 1))), (6, .ref (qR g rr)), (7, .int (nI (ln σ rr))), (8, .int (nI (q + 1)))]) [0, 1, 2, 3, 4, 5, 6, 7] rfl ?_
              exact ih23 (q + 1) (mf_feeS σ rr (q + 1))  (by omega) (by omega) rfl
            · rw [hc9] at hun hcn
              refine V_aload C dX19_work_52 9 rfl ?_
              refine V_callD C (c_X27_fee_7 l hl G X N0 M (qU g u) (nI u) (σ.2.1 7 u) hun) ⟨lw_meth q644, q1220, q642, q1829, List.mem_of_getElem? (i := 2) rfl, mh_X27_fee⟩ hun (show CLS[7]? = some (RX23, TX23, 2) from rfl) rfl rfl ⟨Nat.le_of_ble_eq_true rfl, Nat.le_of_ble_eq_true rfl⟩ ⟨by first | exact Nat.le_of_ble_eq_true rfl | omega | (dsimp only; omega) | (simp only [List.length_cons, List.length_nil]; omega), by first | exact Nat.le_of_ble_eq_true rfl | omega | (dsimp only; omega) | (simp only [List.length_cons, List.length_nil]; omega)⟩ (Nat.le_of_ble_eq_true rfl) dX19_work_54 (fun _ _ _ h => px0 h) ?_
              rintro _ _ ⟨rfl, rfl⟩
              refine V_st (st' := [.int ((1 + 1) * (1 + 1) : Int32), .long sm]) rfl ?_
              refine V_i2l (v := ((1 + 1) * (1 + 1) : Int32).toInt64) C dX19_work_59 rfl ?_
              refine V_ladd C dX19_work_60 ?_
              refine V_st (st' := [.long (mf_feeS σ rr (q + 1))]) (by rw [show (sm + (((1 + 1) * (1 + 1) : Int32).toInt64)) = (mf_feeS σ rr (q + 1)) from by rw [hsm]; show _ = mf_feeS σ rr q + (if (el σ rr q).toInt32 < 0 then 0 else (mf_fee σ (el σ rr q).toInt32.toNatClampNeg).toInt64); have hU3 := hI.U.2; rw [he, lN_i, if_neg (nI_pos (by omega)), nI_clamp (by omega)]; unfold mf_fee; rw [hcn]; rfl]) ?_
              refine V_lstore C dX19_work_61 (Nat.le_of_ble_eq_true rfl) [(0, .ref (qH g 12)), (1, .ref (qA g P9 K9)), (2, .ref (qC g c9)), (3, .ref (qR g rr)), (4, .long (mf_feeS σ rr (q + 1))), (6, .ref (qR g rr)), (7, .int (nI (ln σ rr))), (8, .int (nI q)), (9, .ref (qU g u)), (10, .ref (qU g u))] [1, 2, 3, 4, 0, 5, 6, 7, 8, 9] rfl ?_
              refine V_iinc (v := nI (q + 1)) C dX19_work_63 (k := 7) rfl (nI_add q 1) (Nat.le_of_ble_eq_true rfl) [(0, .ref (qH g 12)), (1, .ref (qA g P9 K9)), (2, .ref (qC g c9)), (3, .ref (qR g rr)), (4, .long (mf_feeS σ rr (q + 1))), (6, .ref (qR g rr)), (7, .int (nI (ln σ rr))), (8, .int (nI (q + 1))), (9, .ref (qU g u)), (10, .ref (qU g u))] [1, 2, 3, 4, 5, 6, 7, 0, 8, 9] rfl ?_
              refine V_goto (tgt := 23) C dX19_work_66 (by decide) ?_
              refine V_loc (L' := [(0, .ref (qH g 12)), (1, .ref (qA g P9 K9)), (2, .ref (qC g c9)), (3, .ref (qR g rr)), (4, .long (mf_feeS σ rr (q + 1))), (6, .ref (qR g rr)), (7, .int (nI (ln σ rr))), (8, .int (nI (q + 1)))]) [0, 1, 2, 3, 4, 5, 6, 7] rfl ?_
              exact ih23 (q + 1) (mf_feeS σ rr (q + 1))  (by omega) (by omega) rfl
    refine V_loc (L' := [(0, .ref (qH g 12)), (1, .ref (qA g P9 K9)), (2, .ref (qC g c9)), (3, .ref (qR g rr)), (4, .long 0), (6, .ref (qR g rr)), (7, .int (nI (ln σ rr))), (8, .int 0)]) [0, 1, 2, 3, 4, 5, 6, 7] rfl ?_
    exact lp_23 _ 0 0  (Nat.lt_succ_self _) (Nat.zero_le _) hf0.symm
  · rw [hk8] at hf1
    refine V_castA C (j := 9) (by decide) q1218 (Or.inr ⟨rfl, rfl⟩) hf1 dX19_work_5 ?_
    refine V_astore_n C dX19_work_8 rfl (Nat.le_of_ble_eq_true rfl) [(0, .ref (qH g 12)), (1, .ref (qA g P9 K9)), (2, .ref (qC g c9)), (3, .ref (qR g rr))] [1, 2, 3, 0] rfl ?_
    refine V_lconst (v := 0) C dX19_work_9 rfl ?_
    refine V_lstore C dX19_work_10 (Nat.le_of_ble_eq_true rfl) [(0, .ref (qH g 12)), (1, .ref (qA g P9 K9)), (2, .ref (qC g c9)), (3, .ref (qR g rr)), (4, .long 0)] [1, 2, 3, 4, 0] rfl ?_
    refine V_aload_n C dX19_work_12 rfl 3 rfl ?_
    refine V_astore C dX19_work_13 (Nat.le_of_ble_eq_true rfl) [(0, .ref (qH g 12)), (1, .ref (qA g P9 K9)), (2, .ref (qC g c9)), (3, .ref (qR g rr)), (4, .long 0), (6, .ref (qR g rr))] [1, 2, 3, 4, 5, 0] rfl ?_
    refine V_aload C dX19_work_15 5 rfl ?_
    refine V_alen (j := 9) C rfl hf1 (v := nI (ln σ rr)) rfl dX19_work_17 ?_
    refine V_pc (pc1 := 18) rfl ?_
    refine V_istore C dX19_work_18 (Nat.le_of_ble_eq_true rfl) [(0, .ref (qH g 12)), (1, .ref (qA g P9 K9)), (2, .ref (qC g c9)), (3, .ref (qR g rr)), (4, .long 0), (6, .ref (qR g rr)), (7, .int (nI (ln σ rr)))] [1, 2, 3, 4, 5, 6, 0] rfl ?_
    refine V_iconst (v := 0) C dX19_work_20 rfl ?_
    refine V_istore C dX19_work_21 (Nat.le_of_ble_eq_true rfl) [(0, .ref (qH g 12)), (1, .ref (qA g P9 K9)), (2, .ref (qC g c9)), (3, .ref (qR g rr)), (4, .long 0), (6, .ref (qR g rr)), (7, .int (nI (ln σ rr))), (8, .int 0)] [1, 2, 3, 4, 5, 6, 7, 0] rfl ?_
    have lp_23 : ∀ (fu9 : Nat) (q : Nat) (sm : Int64), ln σ rr - q < fu9 → (q ≤ ln σ rr) → (sm = mf_feeS σ rr q) → V p l e { frames := 16, cells := 1, slots := 7, locals := 600 } s m args below meth c G N0 11 (QV below G N0 ((WP G (X 0) g σ z C9 M (mf_fees σ rr))) PX0 args s (1) (7)) (0) (0) M 23 [(0, .ref (qH g 12)), (1, .ref (qA g P9 K9)), (2, .ref (qC g c9)), (3, .ref (qR g rr)), (4, .long sm), (6, .ref (qR g rr)), (7, .int (nI (ln σ rr))), (8, .int (nI q))] [] := by
      intro fu9
      induction fu9 with
      | zero => intro q sm  hfu9; exact absurd hfu9 (Nat.not_lt_zero _)
      | succ fu9 ih23 =>
        intro q sm  hfu9 hq hsm
        refine V_iload C dX19_work_23 7 rfl ?_
        refine V_iload C dX19_work_25 6 rfl ?_
        refine V_icmp_ge (tgt := 69) C dX19_work_27 (by decide) (fun c_27_2 => ?_) (fun c_27_2 => ?_)
        · refine V_lload C dX19_work_69 4 rfl ?_
          refine V_lret C dX19_work_71 rfl ?_ (by first | exact Nat.le_of_ble_eq_true rfl | omega | (dsimp only; omega) | (simp only [List.length_cons, List.length_nil]; omega)) (by first | exact Nat.le_of_ble_eq_true rfl | omega | (dsimp only; omega) | (simp only [List.length_cons, List.length_nil]; omega))
          have hq3 : q = ln σ rr := by have := (nI_leI (by omega) (by omega)).mp c_27_2; omega
          exact WP.read hR (by unfold mf_fees; rw [if_neg (not_not_intro ((fees_k hI hr).mpr (by omega))), hsm, hq3])
        · refine V_aload C dX19_work_30 5 rfl ?_
          refine V_iload C dX19_work_32 7 rfl ?_
          have hq2 : q < ln σ rr := nI_ltN9 (by omega) (by omega) c_27_2
          rcases hf2 q hq2 with ⟨he, hfn⟩ | ⟨u, hu, he, hfu⟩
          · skip
            refine V_aald C (j := 9) rfl rfl hf1 (vp_in_nI (by omega) (by omega)) dX19_work_34 ?_
            refine V_st (st' := [.null]) (by rw [nI_clamp (by omega), hfn]; rfl) ?_
            refine V_astoreN C dX19_work_35 (Nat.le_of_ble_eq_true rfl) [(0, .ref (qH g 12)), (1, .ref (qA g P9 K9)), (2, .ref (qC g c9)), (3, .ref (qR g rr)), (4, .long sm), (6, .ref (qR g rr)), (7, .int (nI (ln σ rr))), (8, .int (nI q)), (9, .null)] [1, 2, 3, 4, 5, 6, 7, 8, 0] rfl ?_
            refine V_aloadN C dX19_work_37 8 rfl ?_
            refine V_astoreN C dX19_work_39 (Nat.le_of_ble_eq_true rfl) [(0, .ref (qH g 12)), (1, .ref (qA g P9 K9)), (2, .ref (qC g c9)), (3, .ref (qR g rr)), (4, .long sm), (6, .ref (qR g rr)), (7, .int (nI (ln σ rr))), (8, .int (nI q)), (9, .null), (10, .null)] [1, 2, 3, 4, 5, 6, 7, 8, 9, 0] rfl ?_
            refine V_pc (pc1 := 41) rfl ?_
            refine V_lload C dX19_work_41 4 rfl ?_
            refine V_aloadN C dX19_work_43 9 rfl ?_
            refine V_ifnonnullN C dX19_work_45 ?_
            refine V_lconst (v := 0) C dX19_work_48 rfl ?_
            refine V_goto (tgt := 60) C dX19_work_49 (by decide) ?_
            refine V_ladd C dX19_work_60 ?_
            refine V_st (st' := [.long (mf_feeS σ rr (q + 1))]) (by rw [show (sm + 0) = (mf_feeS σ rr (q + 1)) from by rw [hsm]; show _ = mf_feeS σ rr q + (if (el σ rr q).toInt32 < 0 then 0 else (mf_fee σ (el σ rr q).toInt32.toNatClampNeg).toInt64); rw [he]; rfl]) ?_
            refine V_lstore C dX19_work_61 (Nat.le_of_ble_eq_true rfl) [(0, .ref (qH g 12)), (1, .ref (qA g P9 K9)), (2, .ref (qC g c9)), (3, .ref (qR g rr)), (4, .long (mf_feeS σ rr (q + 1))), (6, .ref (qR g rr)), (7, .int (nI (ln σ rr))), (8, .int (nI q)), (9, .null), (10, .null)] [1, 2, 3, 4, 0, 5, 6, 7, 8, 9] rfl ?_
            refine V_iinc (v := nI (q + 1)) C dX19_work_63 (k := 7) rfl (nI_add q 1) (Nat.le_of_ble_eq_true rfl) [(0, .ref (qH g 12)), (1, .ref (qA g P9 K9)), (2, .ref (qC g c9)), (3, .ref (qR g rr)), (4, .long (mf_feeS σ rr (q + 1))), (6, .ref (qR g rr)), (7, .int (nI (ln σ rr))), (8, .int (nI (q + 1))), (9, .null), (10, .null)] [1, 2, 3, 4, 5, 6, 7, 0, 8, 9] rfl ?_
            refine V_goto (tgt := 23) C dX19_work_66 (by decide) ?_
            refine V_loc (L' := [(0, .ref (qH g 12)), (1, .ref (qA g P9 K9)), (2, .ref (qC g c9)), (3, .ref (qR g rr)), (4, .long (mf_feeS σ rr (q + 1))), (6, .ref (qR g rr)), (7, .int (nI (ln σ rr))), (8, .int (nI (q + 1)))]) [0, 1, 2, 3, 4, 5, 6, 7] rfl ?_
            exact ih23 (q + 1) (mf_feeS σ rr (q + 1))  (by omega) (by omega) rfl
          · skip
            refine V_aald C (j := 9) rfl rfl hf1 (vp_in_nI (by omega) (by omega)) dX19_work_34 ?_
            refine V_st (st' := [.ref (qU g u)]) (by rw [nI_clamp (by omega), hfu]; rfl) ?_
            refine V_astore C dX19_work_35 (Nat.le_of_ble_eq_true rfl) [(0, .ref (qH g 12)), (1, .ref (qA g P9 K9)), (2, .ref (qC g c9)), (3, .ref (qR g rr)), (4, .long sm), (6, .ref (qR g rr)), (7, .int (nI (ln σ rr))), (8, .int (nI q)), (9, .ref (qU g u))] [1, 2, 3, 4, 5, 6, 7, 8, 0] rfl ?_
            refine V_aload C dX19_work_37 8 rfl ?_
            refine V_astore C dX19_work_39 (Nat.le_of_ble_eq_true rfl) [(0, .ref (qH g 12)), (1, .ref (qA g P9 K9)), (2, .ref (qC g c9)), (3, .ref (qR g rr)), (4, .long sm), (6, .ref (qR g rr)), (7, .int (nI (ln σ rr))), (8, .int (nI q)), (9, .ref (qU g u)), (10, .ref (qU g u))] [1, 2, 3, 4, 5, 6, 7, 8, 9, 0] rfl ?_
            refine V_pc (pc1 := 41) rfl ?_
            refine V_lload C dX19_work_41 4 rfl ?_
            refine V_aload C dX19_work_43 9 rfl ?_
            refine V_ifnonnull (tgt := 52) C dX19_work_45 (by decide) ?_
            obtain ⟨hc2, hcn⟩ := hI.cN hu
            have hun := hR.un hu
            obtain hc9 | hc9 | hc9 : (σ.2.1 6 u).toNatClampNeg = 0 ∨ (σ.2.1 6 u).toNatClampNeg = 1 ∨ (σ.2.1 6 u).toNatClampNeg = 2 := by omega
            · rw [hc9] at hun hcn
              refine V_aload C dX19_work_52 9 rfl ?_
              refine V_callD C (c_X27_fee_5 l hl G X N0 M (qU g u) (nI u) (σ.2.1 7 u) hun) ⟨lw_meth q644, q1220, q642, q1829, List.mem_of_getElem? (i := 0) rfl, mh_X27_fee⟩ hun (show CLS[5]? = some (RX21, TX21, 2) from rfl) rfl rfl ⟨Nat.le_of_ble_eq_true rfl, Nat.le_of_ble_eq_true rfl⟩ ⟨by first | exact Nat.le_of_ble_eq_true rfl | omega | (dsimp only; omega) | (simp only [List.length_cons, List.length_nil]; omega), by first | exact Nat.le_of_ble_eq_true rfl | omega | (dsimp only; omega) | (simp only [List.length_cons, List.length_nil]; omega)⟩ (Nat.le_of_ble_eq_true rfl) dX19_work_54 (fun _ _ _ h => px0 h) ?_
              rintro _ _ ⟨rfl, rfl⟩
              refine V_st (st' := [.int (1 * 1 : Int32), .long sm]) rfl ?_
              refine V_i2l (v := (1 * 1 : Int32).toInt64) C dX19_work_59 rfl ?_
              refine V_ladd C dX19_work_60 ?_
              refine V_st (st' := [.long (mf_feeS σ rr (q + 1))]) (by rw [show (sm + ((1 * 1 : Int32).toInt64)) = (mf_feeS σ rr (q + 1)) from by rw [hsm]; show _ = mf_feeS σ rr q + (if (el σ rr q).toInt32 < 0 then 0 else (mf_fee σ (el σ rr q).toInt32.toNatClampNeg).toInt64); have hU3 := hI.U.2; rw [he, lN_i, if_neg (nI_pos (by omega)), nI_clamp (by omega)]; unfold mf_fee; rw [hcn]; rfl]) ?_
              refine V_lstore C dX19_work_61 (Nat.le_of_ble_eq_true rfl) [(0, .ref (qH g 12)), (1, .ref (qA g P9 K9)), (2, .ref (qC g c9)), (3, .ref (qR g rr)), (4, .long (mf_feeS σ rr (q + 1))), (6, .ref (qR g rr)), (7, .int (nI (ln σ rr))), (8, .int (nI q)), (9, .ref (qU g u)), (10, .ref (qU g u))] [1, 2, 3, 4, 0, 5, 6, 7, 8, 9] rfl ?_
              refine V_iinc (v := nI (q + 1)) C dX19_work_63 (k := 7) rfl (nI_add q 1) (Nat.le_of_ble_eq_true rfl) [(0, .ref (qH g 12)), (1, .ref (qA g P9 K9)), (2, .ref (qC g c9)), (3, .ref (qR g rr)), (4, .long (mf_feeS σ rr (q + 1))), (6, .ref (qR g rr)), (7, .int (nI (ln σ rr))), (8, .int (nI (q + 1))), (9, .ref (qU g u)), (10, .ref (qU g u))] [1, 2, 3, 4, 5, 6, 7, 0, 8, 9] rfl ?_
              refine V_goto (tgt := 23) C dX19_work_66 (by decide) ?_
              refine V_loc (L' := [(0, .ref (qH g 12)), (1, .ref (qA g P9 K9)), (2, .ref (qC g c9)), (3, .ref (qR g rr)), (4, .long (mf_feeS σ rr (q + 1))), (6, .ref (qR g rr)), (7, .int (nI (ln σ rr))), (8, .int (nI (q + 1)))]) [0, 1, 2, 3, 4, 5, 6, 7] rfl ?_
              exact ih23 (q + 1) (mf_feeS σ rr (q + 1))  (by omega) (by omega) rfl
            · rw [hc9] at hun hcn
              refine V_aload C dX19_work_52 9 rfl ?_
              refine V_callD C (c_X27_fee_6 l hl G X N0 M (qU g u) (nI u) (σ.2.1 7 u) hun) ⟨lw_meth q644, q1220, q642, q1829, List.mem_of_getElem? (i := 1) rfl, mh_X27_fee⟩ hun (show CLS[6]? = some (RX22, TX22, 2) from rfl) rfl rfl ⟨Nat.le_of_ble_eq_true rfl, Nat.le_of_ble_eq_true rfl⟩ ⟨by first | exact Nat.le_of_ble_eq_true rfl | omega | (dsimp only; omega) | (simp only [List.length_cons, List.length_nil]; omega), by first | exact Nat.le_of_ble_eq_true rfl | omega | (dsimp only; omega) | (simp only [List.length_cons, List.length_nil]; omega)⟩ (Nat.le_of_ble_eq_true rfl) dX19_work_54 (fun _ _ _ h => px0 h) ?_
              rintro _ _ ⟨rfl, rfl⟩
              refine V_st (st' := [.int ((1 + 1) * (1 + 1) : Int32), .long sm]) rfl ?_
              refine V_i2l (v := ((1 + 1) * (1 + 1) : Int32).toInt64) C dX19_work_59 rfl ?_
              refine V_ladd C dX19_work_60 ?_
              refine V_st (st' := [.long (mf_feeS σ rr (q + 1))]) (by rw [show (sm + (((1 + 1) * (1 + 1) : Int32).toInt64)) = (mf_feeS σ rr (q + 1)) from by rw [hsm]; show _ = mf_feeS σ rr q + (if (el σ rr q).toInt32 < 0 then 0 else (mf_fee σ (el σ rr q).toInt32.toNatClampNeg).toInt64); have hU3 := hI.U.2; rw [he, lN_i, if_neg (nI_pos (by omega)), nI_clamp (by omega)]; unfold mf_fee; rw [hcn]; rfl]) ?_
              refine V_lstore C dX19_work_61 (Nat.le_of_ble_eq_true rfl) [(0, .ref (qH g 12)), (1, .ref (qA g P9 K9)), (2, .ref (qC g c9)), (3, .ref (qR g rr)), (4, .long (mf_feeS σ rr (q + 1))), (6, .ref (qR g rr)), (7, .int (nI (ln σ rr))), (8, .int (nI q)), (9, .ref (qU g u)), (10, .ref (qU g u))] [1, 2, 3, 4, 0, 5, 6, 7, 8, 9] rfl ?_
              refine V_iinc (v := nI (q + 1)) C dX19_work_63 (k := 7) rfl (nI_add q 1) (Nat.le_of_ble_eq_true rfl) [(0, .ref (qH g 12)), (1, .ref (qA g P9 K9)), (2, .ref (qC g c9)), (3, .ref (qR g rr)), (4, .long (mf_feeS σ rr (q + 1))), (6, .ref (qR g rr)), (7, .int (nI (ln σ rr))), (8, .int (nI (q + 1))), (9, .ref (qU g u)), (10, .ref (qU g u))] [1, 2, 3, 4, 5, 6, 7, 0, 8, 9] rfl ?_
              refine V_goto (tgt := 23) C dX19_work_66 (by decide) ?_
              refine V_loc (L' := [(0, .ref (qH g 12)), (1, .ref (qA g P9 K9)), (2, .ref (qC g c9)), (3, .ref (qR g rr)), (4, .long (mf_feeS σ rr (q + 1))), (6, .ref (qR g rr)), (7, .int (nI (ln σ rr))), (8, .int (nI (q + 1)))]) [0, 1, 2, 3, 4, 5, 6, 7] rfl ?_
              exact ih23 (q + 1) (mf_feeS σ rr (q + 1))  (by omega) (by omega) rfl
            · rw [hc9] at hun hcn
              refine V_aload C dX19_work_52 9 rfl ?_
              refine V_callD C (c_X27_fee_7 l hl G X N0 M (qU g u) (nI u) (σ.2.1 7 u) hun) ⟨lw_meth q644, q1220, q642, q1829, List.mem_of_getElem? (i := 2) rfl, mh_X27_fee⟩ hun (show CLS[7]? = some (RX23, TX23, 2) from rfl) rfl rfl ⟨Nat.le_of_ble_eq_true rfl, Nat.le_of_ble_eq_true rfl⟩ ⟨by first | exact Nat.le_of_ble_eq_true rfl | omega | (dsimp only; omega) | (simp only [List.length_cons, List.length_nil]; omega), by first | exact Nat.le_of_ble_eq_true rfl | omega | (dsimp only; omega) | (simp only [List.length_cons, List.length_nil]; omega)⟩ (Nat.le_of_ble_eq_true rfl) dX19_work_54 (fun _ _ _ h => px0 h) ?_
              rintro _ _ ⟨rfl, rfl⟩
              refine V_st (st' := [.int ((1 + 1) * (1 + 1) : Int32), .long sm]) rfl ?_
              refine V_i2l (v := ((1 + 1) * (1 + 1) : Int32).toInt64) C dX19_work_59 rfl ?_
              refine V_ladd C dX19_work_60 ?_
              refine V_st (st' := [.long (mf_feeS σ rr (q + 1))]) (by rw [show (sm + (((1 + 1) * (1 + 1) : Int32).toInt64)) = (mf_feeS σ rr (q + 1)) from by rw [hsm]; show _ = mf_feeS σ rr q + (if (el σ rr q).toInt32 < 0 then 0 else (mf_fee σ (el σ rr q).toInt32.toNatClampNeg).toInt64); have hU3 := hI.U.2; rw [he, lN_i, if_neg (nI_pos (by omega)), nI_clamp (by omega)]; unfold mf_fee; rw [hcn]; rfl]) ?_
              refine V_lstore C dX19_work_61 (Nat.le_of_ble_eq_true rfl) [(0, .ref (qH g 12)), (1, .ref (qA g P9 K9)), (2, .ref (qC g c9)), (3, .ref (qR g rr)), (4, .long (mf_feeS σ rr (q + 1))), (6, .ref (qR g rr)), (7, .int (nI (ln σ rr))), (8, .int (nI q)), (9, .ref (qU g u)), (10, .ref (qU g u))] [1, 2, 3, 4, 0, 5, 6, 7, 8, 9] rfl ?_
              refine V_iinc (v := nI (q + 1)) C dX19_work_63 (k := 7) rfl (nI_add q 1) (Nat.le_of_ble_eq_true rfl) [(0, .ref (qH g 12)), (1, .ref (qA g P9 K9)), (2, .ref (qC g c9)), (3, .ref (qR g rr)), (4, .long (mf_feeS σ rr (q + 1))), (6, .ref (qR g rr)), (7, .int (nI (ln σ rr))), (8, .int (nI (q + 1))), (9, .ref (qU g u)), (10, .ref (qU g u))] [1, 2, 3, 4, 5, 6, 7, 0, 8, 9] rfl ?_
              refine V_goto (tgt := 23) C dX19_work_66 (by decide) ?_
              refine V_loc (L' := [(0, .ref (qH g 12)), (1, .ref (qA g P9 K9)), (2, .ref (qC g c9)), (3, .ref (qR g rr)), (4, .long (mf_feeS σ rr (q + 1))), (6, .ref (qR g rr)), (7, .int (nI (ln σ rr))), (8, .int (nI (q + 1)))]) [0, 1, 2, 3, 4, 5, 6, 7] rfl ?_
              exact ih23 (q + 1) (mf_feeS σ rr (q + 1))  (by omega) (by omega) rfl
    refine V_loc (L' := [(0, .ref (qH g 12)), (1, .ref (qA g P9 K9)), (2, .ref (qC g c9)), (3, .ref (qR g rr)), (4, .long 0), (6, .ref (qR g rr)), (7, .int (nI (ln σ rr))), (8, .int 0)]) [0, 1, 2, 3, 4, 5, 6, 7] rfl ?_
    exact lp_23 _ 0 0  (Nat.lt_succ_self _) (Nat.zero_le _) hf0.symm
theorem sum_real {σ : MS} (hI : MI σ) {r q : Nat} (hr : r < nR σ) (hk : kd σ r = 6 ∨ kd σ r = 7) : (mf_sumN σ r (q + 1)).2 = mPlus (mf_sumN σ r q).2 (mRe (kd σ r) (el σ r q)) := by
  show (mf_sum1 σ (σ.2.1 2 r) (mf_sumN σ r q) (el σ r q)).2 = _
  rw [(hI.k hr).1]
  rcases hk with h | h <;> rw [h] <;> rfl
set_option maxHeartbeats 1000000 in
theorem c_X12_reals (l : Launch) (hl : l.stackTraces = false) (G : hp_G) (X : Nat → Nat) (N0 : Nat) (M : hp_h) (g : RG) (σ : MS) (z : Nat → Int32) (C9 c9 : Nat) (hC : c9 + 1 = C9) (hR : REL G (X 0) g σ z (σ.1 31) C9 M) (hI : MI σ) (rr : Nat) (hr : rr < nR σ) (hk67 : kd σ rr = 6 ∨ kd σ rr = 7) : HM l yX12_reals (ws_ yX12_reals cX12_reals 5 (some .long)) 14 500 0 0 G X N0 [.ref (qH g 5), .ref (qR g rr)] M (PV (.long (mdB (mf_sumN σ rr (ln σ rr)).2)) M) PX0 := by
  refine HM.of hl [(0, .ref (qH g 5)), (1, .ref (qR g rr))] (by decide +kernel) rfl (Nat.le_of_ble_eq_true rfl) ?_
  intro p e s m args below meth c C hname
  have hN := hR.N
  have hH9 : M (qH g 5) = some (.inr (15, [.int 1, .ref (qN g), .int 0, .int 10, .ref (qN g), .ref (qN g)])) := hR.H (by decide)
  refine V_dconst0 C dX12_reals_0 ?_
  refine V_dstore_n C dX12_reals_1 rfl (Nat.le_of_ble_eq_true rfl) [(0, .ref (qH g 5)), (1, .ref (qR g rr)), (2, .double FP.dconst0)] [1, 2, 0] rfl ?_
  refine V_iconst (v := 0) C dX12_reals_2 rfl ?_
  refine V_istore C dX12_reals_3 (Nat.le_of_ble_eq_true rfl) [(0, .ref (qH g 5)), (1, .ref (qR g rr)), (2, .double FP.dconst0), (4, .int 0)] [1, 2, 3, 0] rfl ?_
  obtain ⟨xr, hra, hrx, hrc⟩ := hR.rw hr
  obtain ⟨hkE, hkL⟩ := hI.k hr
  obtain ⟨hlE, hlL⟩ := hI.l hr
  have lp_5 : ∀ (fu9 : Nat) (q : Nat) (sm : UInt64), ln σ rr - q < fu9 → (q ≤ ln σ rr) → (sm = (mf_sumN σ rr q).2) → V p l e { frames := 14, cells := 0, slots := 0, locals := 500 } s m args below meth c G N0 5 (QV below G N0 (PV (.long (mdB (mf_sumN σ rr (ln σ rr)).2)) M) PX0 args s (0) (0)) (0) (0) M 5 [(0, .ref (qH g 5)), (1, .ref (qR g rr)), (2, .double sm), (4, .int (nI q))] [] := by
    intro fu9
    induction fu9 with
    | zero => intro q sm  hfu9; exact absurd hfu9 (Nat.not_lt_zero _)
    | succ fu9 ih5 =>
      intro q sm  hfu9 hq hsm
      refine V_iload C dX12_reals_5 3 rfl ?_
      refine V_aload_n C dX12_reals_7 rfl 1 rfl ?_
      refine V_callSN C (c_X1_sizeOf l hl G X N0 M (qR g rr) (kd σ rr) hkL xr hra) cs_X12_36 rfl rfl ⟨Nat.le_of_ble_eq_true rfl, Nat.le_of_ble_eq_true rfl⟩ ⟨(by first | exact Nat.le_of_ble_eq_true rfl | omega | (dsimp only; omega) | (simp only [List.length_cons, List.length_nil]; omega)), (by first | exact Nat.le_of_ble_eq_true rfl | omega | (dsimp only; omega) | (simp only [List.length_cons, List.length_nil]; omega))⟩ (Nat.le_of_ble_eq_true rfl) dX12_reals_8 (fun _ _ _ h => px0 h) ?_
      rintro _ _ ⟨rfl, rfl⟩
      refine V_st (st' := [.int (nI xr.1), .int (nI q)]) rfl ?_
      refine V_st (st' := [.int (nI (ln σ rr)), .int (nI q)]) (by rw [hrx.1]) ?_
      refine V_icmp_ge (tgt := 31) C dX12_reals_11 (by decide) (fun c_11 => ?_) (fun c_11 => ?_)
      · refine V_dload_n C dX12_reals_31 rfl 2 rfl ?_
        refine V_callSN C (c_X1_bitsOf l hl G X N0 M sm) cs_X12_48 rfl rfl ⟨Nat.le_of_ble_eq_true rfl, Nat.le_of_ble_eq_true rfl⟩ ⟨(by first | exact Nat.le_of_ble_eq_true rfl | omega | (dsimp only; omega) | (simp only [List.length_cons, List.length_nil]; omega)), (by first | exact Nat.le_of_ble_eq_true rfl | omega | (dsimp only; omega) | (simp only [List.length_cons, List.length_nil]; omega))⟩ (Nat.le_of_ble_eq_true rfl) dX12_reals_32 (fun _ _ _ h => px0 h) ?_
        rintro _ _ ⟨rfl, rfl⟩
        refine V_st (st' := [.long (mdB sm)]) rfl ?_
        refine V_lret C dX12_reals_35 rfl ?_ (by first | exact Nat.le_of_ble_eq_true rfl | omega | (dsimp only; omega) | (simp only [List.length_cons, List.length_nil]; omega)) (by first | exact Nat.le_of_ble_eq_true rfl | omega | (dsimp only; omega) | (simp only [List.length_cons, List.length_nil]; omega))
        have hq3 : q = ln σ rr := by have := (nI_leI (by omega) (by omega)).mp c_11; omega
        exact ⟨by rw [hsm, hq3], rfl⟩
      · have hq2 : q < ln σ rr := nI_ltN9 (by omega) (by omega) c_11
        refine V_dload_n C dX12_reals_14 rfl 2 rfl ?_
        refine V_aload_n C dX12_reals_15 rfl 1 rfl ?_
        refine V_iload C dX12_reals_16 3 rfl ?_
        refine V_pc (pc1 := 18) rfl ?_
        refine V_callSN C (c_X1_real l hl G X N0 M (qR g rr) (kd σ rr) q xr (el σ rr q) hk67 hra (by rw [hrx.1]; omega) (by rw [hrx.1]; omega) (hrc q (by omega))) cs_X12_40 rfl rfl ⟨Nat.le_of_ble_eq_true rfl, Nat.le_of_ble_eq_true rfl⟩ ⟨(by first | exact Nat.le_of_ble_eq_true rfl | omega | (dsimp only; omega) | (simp only [List.length_cons, List.length_nil]; omega)), (by first | exact Nat.le_of_ble_eq_true rfl | omega | (dsimp only; omega) | (simp only [List.length_cons, List.length_nil]; omega))⟩ (Nat.le_of_ble_eq_true rfl) dX12_reals_18 (fun _ _ _ h => px0 h) ?_
        rintro _ _ ⟨rfl, rfl⟩
        refine V_st (st' := [.double (mRe (kd σ rr) (el σ rr q)), .double sm]) rfl ?_
        refine V_callSN C (c_X1_plus l hl G X N0 M sm (mRe (kd σ rr) (el σ rr q))) cs_X12_44 rfl rfl ⟨Nat.le_of_ble_eq_true rfl, Nat.le_of_ble_eq_true rfl⟩ ⟨(by first | exact Nat.le_of_ble_eq_true rfl | omega | (dsimp only; omega) | (simp only [List.length_cons, List.length_nil]; omega)), (by first | exact Nat.le_of_ble_eq_true rfl | omega | (dsimp only; omega) | (simp only [List.length_cons, List.length_nil]; omega))⟩ (Nat.le_of_ble_eq_true rfl) dX12_reals_21 (fun _ _ _ h => px0 h) ?_
        rintro _ _ ⟨rfl, rfl⟩
        refine V_st (st' := [.double (mPlus sm (mRe (kd σ rr) (el σ rr q)))]) rfl ?_
        refine V_dstore_n C dX12_reals_24 rfl (Nat.le_of_ble_eq_true rfl) [(0, .ref (qH g 5)), (1, .ref (qR g rr)), (2, .double (mPlus sm (mRe (kd σ rr) (el σ rr q)))), (4, .int (nI q))] [1, 2, 0, 3] rfl ?_
        refine V_iinc (v := nI (q + 1)) C dX12_reals_25 (k := 3) rfl (nI_add q 1) (Nat.le_of_ble_eq_true rfl) [(0, .ref (qH g 5)), (1, .ref (qR g rr)), (2, .double (mPlus sm (mRe (kd σ rr) (el σ rr q)))), (4, .int (nI (q + 1)))] [1, 2, 3, 0] rfl ?_
        refine V_goto (tgt := 5) C dX12_reals_28 (by decide) ?_
        exact ih5 (q + 1) (mPlus sm (mRe (kd σ rr) (el σ rr q)))  (by omega) (by omega) (by rw [hsm]; exact (sum_real hI hr hk67).symm)
  refine V_loc (L' := [(0, .ref (qH g 5)), (1, .ref (qR g rr)), (2, .double FP.dconst0), (4, .int 0)]) [0, 1, 2, 3] rfl ?_
  exact lp_5 _ 0 FP.dconst0  (Nat.lt_succ_self _) (Nat.zero_le _) rfl
theorem sum_unit {σ : MS} (hI : MI σ) {r q : Nat} (hr : r < nR σ) (hk : kd σ r = 8 ∨ kd σ r = 9) : (mf_sumN σ r (q + 1)).1 = (mf_sumN σ r q).1 + (if el σ r q < 0 then 0 else (mf_worth σ (el σ r q).toInt32.toNatClampNeg).toInt64) := by
  show (mf_sum1 σ (σ.2.1 2 r) (mf_sumN σ r q) (el σ r q)).1 = _
  rw [(hI.k hr).1]
  rcases hk with h | h <;> rw [h] <;> rfl
set_option maxHeartbeats 1000000 in
theorem c_X12_worths (l : Launch) (hl : l.stackTraces = false) (G : hp_G) (X : Nat → Nat) (N0 : Nat) (M : hp_h) (g : RG) (σ : MS) (z : Nat → Int32) (C9 c9 : Nat) (hC : c9 + 1 = C9) (hR : REL G (X 0) g σ z (σ.1 31) C9 M) (hI : MI σ) (rr : Nat) (hr : rr < nR σ) (hk89 : kd σ rr = 8 ∨ kd σ rr = 9) : HM l yX12_worths (ws_ yX12_worths cX12_worths 8 (some .long)) 14 500 0 0 G X N0 [.ref (qH g 5), .ref (qR g rr)] M (PV (.long (mf_sumN σ rr (ln σ rr)).1) M) PX0 := by
  refine HM.of hl [(0, .ref (qH g 5)), (1, .ref (qR g rr))] (by decide +kernel) rfl (Nat.le_of_ble_eq_true rfl) ?_
  intro p e s m args below meth c C hname
  have hN := hR.N
  have hH9 : M (qH g 5) = some (.inr (15, [.int 1, .ref (qN g), .int 0, .int 10, .ref (qN g), .ref (qN g)])) := hR.H (by decide)
  refine V_lconst (v := 0) C dX12_worths_0 rfl ?_
  refine V_lstore_n C dX12_worths_1 rfl (Nat.le_of_ble_eq_true rfl) [(0, .ref (qH g 5)), (1, .ref (qR g rr)), (2, .long 0)] [1, 2, 0] rfl ?_
  obtain ⟨f9, hf1, hf2⟩ := hR.r89 hr hk89
  obtain ⟨hlE, hlL⟩ := hI.l hr
  have hk89b := hk89
  obtain hk8 | hk8 := hk89b
  · rw [hk8] at hf1
    refine V_aload_n C dX12_worths_2 rfl 1 rfl ?_
    refine V_astore C dX12_worths_3 (Nat.le_of_ble_eq_true rfl) [(0, .ref (qH g 5)), (1, .ref (qR g rr)), (2, .long 0), (4, .ref (qR g rr))] [1, 2, 3, 0] rfl ?_
    refine V_aload C dX12_worths_5 3 rfl ?_
    refine V_alen (j := 8) C rfl hf1 (v := nI (ln σ rr)) rfl dX12_worths_7 ?_
    refine V_istore C dX12_worths_8 (Nat.le_of_ble_eq_true rfl) [(0, .ref (qH g 5)), (1, .ref (qR g rr)), (2, .long 0), (4, .ref (qR g rr)), (5, .int (nI (ln σ rr)))] [1, 2, 3, 4, 0] rfl ?_
    refine V_iconst (v := 0) C dX12_worths_10 rfl ?_
    refine V_istore C dX12_worths_11 (Nat.le_of_ble_eq_true rfl) [(0, .ref (qH g 5)), (1, .ref (qR g rr)), (2, .long 0), (4, .ref (qR g rr)), (5, .int (nI (ln σ rr))), (6, .int 0)] [1, 2, 3, 4, 5, 0] rfl ?_
    have lp_13 : ∀ (fu9 : Nat) (q : Nat) (sm : Int64), ln σ rr - q < fu9 → (q ≤ ln σ rr) → (sm = (mf_sumN σ rr q).1) → V p l e { frames := 14, cells := 0, slots := 0, locals := 500 } s m args below meth c G N0 8 (QV below G N0 (PV (.long (mf_sumN σ rr (ln σ rr)).1) M) PX0 args s (0) (0)) (0) (0) M 13 [(0, .ref (qH g 5)), (1, .ref (qR g rr)), (2, .long sm), (4, .ref (qR g rr)), (5, .int (nI (ln σ rr))), (6, .int (nI q))] [] := by
      intro fu9
      induction fu9 with
      | zero => intro q sm  hfu9; exact absurd hfu9 (Nat.not_lt_zero _)
      | succ fu9 ih13 =>
        intro q sm  hfu9 hq hsm
        refine V_iload C dX12_worths_13 5 rfl ?_
        refine V_iload C dX12_worths_15 4 rfl ?_
        refine V_pc (pc1 := 17) rfl ?_
        refine V_icmp_ge (tgt := 51) C dX12_worths_17 (by decide) (fun c_17 => ?_) (fun c_17 => ?_)
        · refine V_lload_n C dX12_worths_51 rfl 2 rfl ?_
          refine V_lret C dX12_worths_52 rfl ?_ (by first | exact Nat.le_of_ble_eq_true rfl | omega | (dsimp only; omega) | (simp only [List.length_cons, List.length_nil]; omega)) (by first | exact Nat.le_of_ble_eq_true rfl | omega | (dsimp only; omega) | (simp only [List.length_cons, List.length_nil]; omega))
          have hq3 : q = ln σ rr := by have := (nI_leI (by omega) (by omega)).mp c_17; omega
          exact ⟨by rw [hsm, hq3], rfl⟩
        · refine V_aload C dX12_worths_20 3 rfl ?_
          refine V_iload C dX12_worths_22 5 rfl ?_
          have hq2 : q < ln σ rr := nI_ltN9 (by omega) (by omega) c_17
          rcases hf2 q hq2 with ⟨he, hfn⟩ | ⟨u, hu, he, hfu⟩
          · skip
            refine V_aald C (j := 8) rfl rfl hf1 (vp_in_nI (by omega) (by omega)) dX12_worths_24 ?_
            refine V_st (st' := [.null]) (by rw [nI_clamp (by omega), hfn]; rfl) ?_
            refine V_astoreN C dX12_worths_25 (Nat.le_of_ble_eq_true rfl) [(0, .ref (qH g 5)), (1, .ref (qR g rr)), (2, .long sm), (4, .ref (qR g rr)), (5, .int (nI (ln σ rr))), (6, .int (nI q)), (7, .null)] [1, 2, 3, 4, 5, 6, 0] rfl ?_
            refine V_lload_n C dX12_worths_27 rfl 2 rfl ?_
            refine V_aloadN C dX12_worths_28 6 rfl ?_
            refine V_ifnonnullN C dX12_worths_30 ?_
            refine V_lconst (v := 0) C dX12_worths_33 rfl ?_
            refine V_goto (tgt := 43) C dX12_worths_34 (by decide) ?_
            refine V_ladd C dX12_worths_43 ?_
            refine V_st (st' := [.long ((mf_sumN σ rr (q + 1)).1)]) (by rw [show (sm + 0) = ((mf_sumN σ rr (q + 1)).1) from by rw [hsm, sum_unit hI hr hk89, he]; rfl]) ?_
            refine V_lstore_n C dX12_worths_44 rfl (Nat.le_of_ble_eq_true rfl) [(0, .ref (qH g 5)), (1, .ref (qR g rr)), (2, .long ((mf_sumN σ rr (q + 1)).1)), (4, .ref (qR g rr)), (5, .int (nI (ln σ rr))), (6, .int (nI q)), (7, .null)] [1, 2, 0, 3, 4, 5, 6] rfl ?_
            refine V_pc (pc1 := 45) rfl ?_
            refine V_iinc (v := nI (q + 1)) C dX12_worths_45 (k := 5) rfl (nI_add q 1) (Nat.le_of_ble_eq_true rfl) [(0, .ref (qH g 5)), (1, .ref (qR g rr)), (2, .long ((mf_sumN σ rr (q + 1)).1)), (4, .ref (qR g rr)), (5, .int (nI (ln σ rr))), (6, .int (nI (q + 1))), (7, .null)] [1, 2, 3, 4, 5, 0, 6] rfl ?_
            refine V_goto (tgt := 13) C dX12_worths_48 (by decide) ?_
            refine V_loc (L' := [(0, .ref (qH g 5)), (1, .ref (qR g rr)), (2, .long ((mf_sumN σ rr (q + 1)).1)), (4, .ref (qR g rr)), (5, .int (nI (ln σ rr))), (6, .int (nI (q + 1)))]) [0, 1, 2, 3, 4, 5] rfl ?_
            exact ih13 (q + 1) ((mf_sumN σ rr (q + 1)).1)  (by omega) (by omega) rfl
          · skip
            refine V_aald C (j := 8) rfl rfl hf1 (vp_in_nI (by omega) (by omega)) dX12_worths_24 ?_
            refine V_st (st' := [.ref (qU g u)]) (by rw [nI_clamp (by omega), hfu]; rfl) ?_
            refine V_astore C dX12_worths_25 (Nat.le_of_ble_eq_true rfl) [(0, .ref (qH g 5)), (1, .ref (qR g rr)), (2, .long sm), (4, .ref (qR g rr)), (5, .int (nI (ln σ rr))), (6, .int (nI q)), (7, .ref (qU g u))] [1, 2, 3, 4, 5, 6, 0] rfl ?_
            refine V_lload_n C dX12_worths_27 rfl 2 rfl ?_
            refine V_aload C dX12_worths_28 6 rfl ?_
            refine V_ifnonnull (tgt := 37) C dX12_worths_30 (by decide) ?_
            obtain ⟨hc2, hcn⟩ := hI.cN hu
            have hun := hR.un hu
            obtain hc9 | hc9 | hc9 : (σ.2.1 6 u).toNatClampNeg = 0 ∨ (σ.2.1 6 u).toNatClampNeg = 1 ∨ (σ.2.1 6 u).toNatClampNeg = 2 := by omega
            · rw [hc9] at hun hcn
              refine V_aload C dX12_worths_37 6 rfl ?_
              refine V_callV C (c_X21_worth_5 l hl G X N0 M (qU g u) (nI u) (σ.2.1 7 u) hun) cs_X12_52_5 hun (show CLS[5]? = some (RX21, TX21, 2) from rfl) rfl rfl ⟨Nat.le_of_ble_eq_true rfl, Nat.le_of_ble_eq_true rfl⟩ ⟨(by first | exact Nat.le_of_ble_eq_true rfl | omega | (dsimp only; omega) | (simp only [List.length_cons, List.length_nil]; omega)), (by first | exact Nat.le_of_ble_eq_true rfl | omega | (dsimp only; omega) | (simp only [List.length_cons, List.length_nil]; omega))⟩ (Nat.le_of_ble_eq_true rfl) dX12_worths_39 (fun _ _ _ h => px0 h) ?_
              rintro _ _ ⟨rfl, rfl⟩
              refine V_st (st' := [.int (σ.2.1 7 u), .long sm]) rfl ?_
              refine V_i2l (v := (σ.2.1 7 u).toInt64) C dX12_worths_42 rfl ?_
              refine V_ladd C dX12_worths_43 ?_
              refine V_st (st' := [.long ((mf_sumN σ rr (q + 1)).1)]) (by rw [show (sm + ((σ.2.1 7 u).toInt64)) = ((mf_sumN σ rr (q + 1)).1) from by have hU3 := hI.U.2; rw [hsm, sum_unit hI hr hk89, he, lN_i, if_neg (lN_neg (by omega)), nI_clamp (by omega)]; unfold mf_worth; rw [hcn]; rw [if_pos (show nI 0 = 0 from rfl)]]) ?_
              refine V_pc (pc1 := 44) rfl ?_
              refine V_lstore_n C dX12_worths_44 rfl (Nat.le_of_ble_eq_true rfl) [(0, .ref (qH g 5)), (1, .ref (qR g rr)), (2, .long ((mf_sumN σ rr (q + 1)).1)), (4, .ref (qR g rr)), (5, .int (nI (ln σ rr))), (6, .int (nI q)), (7, .ref (qU g u))] [1, 2, 0, 3, 4, 5, 6] rfl ?_
              refine V_iinc (v := nI (q + 1)) C dX12_worths_45 (k := 5) rfl (nI_add q 1) (Nat.le_of_ble_eq_true rfl) [(0, .ref (qH g 5)), (1, .ref (qR g rr)), (2, .long ((mf_sumN σ rr (q + 1)).1)), (4, .ref (qR g rr)), (5, .int (nI (ln σ rr))), (6, .int (nI (q + 1))), (7, .ref (qU g u))] [1, 2, 3, 4, 5, 0, 6] rfl ?_
              refine V_goto (tgt := 13) C dX12_worths_48 (by decide) ?_
              refine V_loc (L' := [(0, .ref (qH g 5)), (1, .ref (qR g rr)), (2, .long ((mf_sumN σ rr (q + 1)).1)), (4, .ref (qR g rr)), (5, .int (nI (ln σ rr))), (6, .int (nI (q + 1)))]) [0, 1, 2, 3, 4, 5] rfl ?_
              exact ih13 (q + 1) ((mf_sumN σ rr (q + 1)).1)  (by omega) (by omega) rfl
            · rw [hc9] at hun hcn
              refine V_aload C dX12_worths_37 6 rfl ?_
              refine V_callO C (c_X22_worth_6 l hl G X N0 M (qU g u) (nI u) (σ.2.1 7 u) hun) cs_X12_52_6 hun (show CLS[6]? = some (RX22, TX22, 2) from rfl) rfl rfl ⟨Nat.le_of_ble_eq_true rfl, Nat.le_of_ble_eq_true rfl⟩ ⟨(by first | exact Nat.le_of_ble_eq_true rfl | omega | (dsimp only; omega) | (simp only [List.length_cons, List.length_nil]; omega)), (by first | exact Nat.le_of_ble_eq_true rfl | omega | (dsimp only; omega) | (simp only [List.length_cons, List.length_nil]; omega))⟩ (Nat.le_of_ble_eq_true rfl) dX12_worths_39 (fun _ _ _ h => px0 h) ?_
              rintro _ _ ⟨rfl, rfl⟩
              refine V_st (st' := [.int (3 * σ.2.1 7 u + 2), .long sm]) rfl ?_
              refine V_i2l (v := (3 * σ.2.1 7 u + 2).toInt64) C dX12_worths_42 rfl ?_
              refine V_ladd C dX12_worths_43 ?_
              refine V_st (st' := [.long ((mf_sumN σ rr (q + 1)).1)]) (by rw [show (sm + ((3 * σ.2.1 7 u + 2).toInt64)) = ((mf_sumN σ rr (q + 1)).1) from by have hU3 := hI.U.2; rw [hsm, sum_unit hI hr hk89, he, lN_i, if_neg (lN_neg (by omega)), nI_clamp (by omega)]; unfold mf_worth; rw [hcn]; rw [if_neg (by decide), if_pos (show nI 1 = 1 from rfl)]]) ?_
              refine V_pc (pc1 := 44) rfl ?_
              refine V_lstore_n C dX12_worths_44 rfl (Nat.le_of_ble_eq_true rfl) [(0, .ref (qH g 5)), (1, .ref (qR g rr)), (2, .long ((mf_sumN σ rr (q + 1)).1)), (4, .ref (qR g rr)), (5, .int (nI (ln σ rr))), (6, .int (nI q)), (7, .ref (qU g u))] [1, 2, 0, 3, 4, 5, 6] rfl ?_
              refine V_iinc (v := nI (q + 1)) C dX12_worths_45 (k := 5) rfl (nI_add q 1) (Nat.le_of_ble_eq_true rfl) [(0, .ref (qH g 5)), (1, .ref (qR g rr)), (2, .long ((mf_sumN σ rr (q + 1)).1)), (4, .ref (qR g rr)), (5, .int (nI (ln σ rr))), (6, .int (nI (q + 1))), (7, .ref (qU g u))] [1, 2, 3, 4, 5, 0, 6] rfl ?_
              refine V_goto (tgt := 13) C dX12_worths_48 (by decide) ?_
              refine V_loc (L' := [(0, .ref (qH g 5)), (1, .ref (qR g rr)), (2, .long ((mf_sumN σ rr (q + 1)).1)), (4, .ref (qR g rr)), (5, .int (nI (ln σ rr))), (6, .int (nI (q + 1)))]) [0, 1, 2, 3, 4, 5] rfl ?_
              exact ih13 (q + 1) ((mf_sumN σ rr (q + 1)).1)  (by omega) (by omega) rfl
            · rw [hc9] at hun hcn
              refine V_aload C dX12_worths_37 6 rfl ?_
              refine V_callO C (c_X23_worth_7 l hl G X N0 M (qU g u) (nI u) (σ.2.1 7 u) hun) cs_X12_52_7 hun (show CLS[7]? = some (RX23, TX23, 2) from rfl) rfl rfl ⟨Nat.le_of_ble_eq_true rfl, Nat.le_of_ble_eq_true rfl⟩ ⟨(by first | exact Nat.le_of_ble_eq_true rfl | omega | (dsimp only; omega) | (simp only [List.length_cons, List.length_nil]; omega)), (by first | exact Nat.le_of_ble_eq_true rfl | omega | (dsimp only; omega) | (simp only [List.length_cons, List.length_nil]; omega))⟩ (Nat.le_of_ble_eq_true rfl) dX12_worths_39 (fun _ _ _ h => px0 h) ?_
              rintro _ _ ⟨rfl, rfl⟩
              refine V_st (st' := [.int (3 * σ.2.1 7 u + 2 - 5), .long sm]) rfl ?_
              refine V_i2l (v := (3 * σ.2.1 7 u + 2 - 5).toInt64) C dX12_worths_42 rfl ?_
              refine V_ladd C dX12_worths_43 ?_
              refine V_st (st' := [.long ((mf_sumN σ rr (q + 1)).1)]) (by rw [show (sm + ((3 * σ.2.1 7 u + 2 - 5).toInt64)) = ((mf_sumN σ rr (q + 1)).1) from by have hU3 := hI.U.2; rw [hsm, sum_unit hI hr hk89, he, lN_i, if_neg (lN_neg (by omega)), nI_clamp (by omega)]; unfold mf_worth; rw [hcn]; rw [if_neg (by decide), if_neg (by decide), worth_g]]) ?_
              refine V_pc (pc1 := 44) rfl ?_
              refine V_lstore_n C dX12_worths_44 rfl (Nat.le_of_ble_eq_true rfl) [(0, .ref (qH g 5)), (1, .ref (qR g rr)), (2, .long ((mf_sumN σ rr (q + 1)).1)), (4, .ref (qR g rr)), (5, .int (nI (ln σ rr))), (6, .int (nI q)), (7, .ref (qU g u))] [1, 2, 0, 3, 4, 5, 6] rfl ?_
              refine V_iinc (v := nI (q + 1)) C dX12_worths_45 (k := 5) rfl (nI_add q 1) (Nat.le_of_ble_eq_true rfl) [(0, .ref (qH g 5)), (1, .ref (qR g rr)), (2, .long ((mf_sumN σ rr (q + 1)).1)), (4, .ref (qR g rr)), (5, .int (nI (ln σ rr))), (6, .int (nI (q + 1))), (7, .ref (qU g u))] [1, 2, 3, 4, 5, 0, 6] rfl ?_
              refine V_goto (tgt := 13) C dX12_worths_48 (by decide) ?_
              refine V_loc (L' := [(0, .ref (qH g 5)), (1, .ref (qR g rr)), (2, .long ((mf_sumN σ rr (q + 1)).1)), (4, .ref (qR g rr)), (5, .int (nI (ln σ rr))), (6, .int (nI (q + 1)))]) [0, 1, 2, 3, 4, 5] rfl ?_
              exact ih13 (q + 1) ((mf_sumN σ rr (q + 1)).1)  (by omega) (by omega) rfl
    refine V_loc (L' := [(0, .ref (qH g 5)), (1, .ref (qR g rr)), (2, .long 0), (4, .ref (qR g rr)), (5, .int (nI (ln σ rr))), (6, .int 0)]) [0, 1, 2, 3, 4, 5] rfl ?_
    exact lp_13 _ 0 0  (Nat.lt_succ_self _) (Nat.zero_le _) rfl
  · rw [hk8] at hf1
    refine V_aload_n C dX12_worths_2 rfl 1 rfl ?_
    refine V_astore C dX12_worths_3 (Nat.le_of_ble_eq_true rfl) [(0, .ref (qH g 5)), (1, .ref (qR g rr)), (2, .long 0), (4, .ref (qR g rr))] [1, 2, 3, 0] rfl ?_
    refine V_aload C dX12_worths_5 3 rfl ?_
    refine V_alen (j := 9) C rfl hf1 (v := nI (ln σ rr)) rfl dX12_worths_7 ?_
    refine V_istore C dX12_worths_8 (Nat.le_of_ble_eq_true rfl) [(0, .ref (qH g 5)), (1, .ref (qR g rr)), (2, .long 0), (4, .ref (qR g rr)), (5, .int (nI (ln σ rr)))] [1, 2, 3, 4, 0] rfl ?_
    refine V_iconst (v := 0) C dX12_worths_10 rfl ?_
    refine V_istore C dX12_worths_11 (Nat.le_of_ble_eq_true rfl) [(0, .ref (qH g 5)), (1, .ref (qR g rr)), (2, .long 0), (4, .ref (qR g rr)), (5, .int (nI (ln σ rr))), (6, .int 0)] [1, 2, 3, 4, 5, 0] rfl ?_
    have lp_13 : ∀ (fu9 : Nat) (q : Nat) (sm : Int64), ln σ rr - q < fu9 → (q ≤ ln σ rr) → (sm = (mf_sumN σ rr q).1) → V p l e { frames := 14, cells := 0, slots := 0, locals := 500 } s m args below meth c G N0 8 (QV below G N0 (PV (.long (mf_sumN σ rr (ln σ rr)).1) M) PX0 args s (0) (0)) (0) (0) M 13 [(0, .ref (qH g 5)), (1, .ref (qR g rr)), (2, .long sm), (4, .ref (qR g rr)), (5, .int (nI (ln σ rr))), (6, .int (nI q))] [] := by
      intro fu9
      induction fu9 with
      | zero => intro q sm  hfu9; exact absurd hfu9 (Nat.not_lt_zero _)
      | succ fu9 ih13 =>
        intro q sm  hfu9 hq hsm
        refine V_iload C dX12_worths_13 5 rfl ?_
        refine V_iload C dX12_worths_15 4 rfl ?_
        refine V_pc (pc1 := 17) rfl ?_
        refine V_icmp_ge (tgt := 51) C dX12_worths_17 (by decide) (fun c_17_2 => ?_) (fun c_17_2 => ?_)
        · refine V_lload_n C dX12_worths_51 rfl 2 rfl ?_
          refine V_lret C dX12_worths_52 rfl ?_ (by first | exact Nat.le_of_ble_eq_true rfl | omega | (dsimp only; omega) | (simp only [List.length_cons, List.length_nil]; omega)) (by first | exact Nat.le_of_ble_eq_true rfl | omega | (dsimp only; omega) | (simp only [List.length_cons, List.length_nil]; omega))
          have hq3 : q = ln σ rr := by have := (nI_leI (by omega) (by omega)).mp c_17_2; omega
          exact ⟨by rw [hsm, hq3], rfl⟩
        · refine V_aload C dX12_worths_20 3 rfl ?_
          refine V_iload C dX12_worths_22 5 rfl ?_
          have hq2 : q < ln σ rr := nI_ltN9 (by omega) (by omega) c_17_2
          rcases hf2 q hq2 with ⟨he, hfn⟩ | ⟨u, hu, he, hfu⟩
          · skip
            refine V_aald C (j := 9) rfl rfl hf1 (vp_in_nI (by omega) (by omega)) dX12_worths_24 ?_
            refine V_st (st' := [.null]) (by rw [nI_clamp (by omega), hfn]; rfl) ?_
            refine V_astoreN C dX12_worths_25 (Nat.le_of_ble_eq_true rfl) [(0, .ref (qH g 5)), (1, .ref (qR g rr)), (2, .long sm), (4, .ref (qR g rr)), (5, .int (nI (ln σ rr))), (6, .int (nI q)), (7, .null)] [1, 2, 3, 4, 5, 6, 0] rfl ?_
            refine V_lload_n C dX12_worths_27 rfl 2 rfl ?_
            refine V_aloadN C dX12_worths_28 6 rfl ?_
            refine V_ifnonnullN C dX12_worths_30 ?_
            refine V_lconst (v := 0) C dX12_worths_33 rfl ?_
            refine V_goto (tgt := 43) C dX12_worths_34 (by decide) ?_
            refine V_ladd C dX12_worths_43 ?_
            refine V_st (st' := [.long ((mf_sumN σ rr (q + 1)).1)]) (by rw [show (sm + 0) = ((mf_sumN σ rr (q + 1)).1) from by rw [hsm, sum_unit hI hr hk89, he]; rfl]) ?_
            refine V_lstore_n C dX12_worths_44 rfl (Nat.le_of_ble_eq_true rfl) [(0, .ref (qH g 5)), (1, .ref (qR g rr)), (2, .long ((mf_sumN σ rr (q + 1)).1)), (4, .ref (qR g rr)), (5, .int (nI (ln σ rr))), (6, .int (nI q)), (7, .null)] [1, 2, 0, 3, 4, 5, 6] rfl ?_
            refine V_pc (pc1 := 45) rfl ?_
            refine V_iinc (v := nI (q + 1)) C dX12_worths_45 (k := 5) rfl (nI_add q 1) (Nat.le_of_ble_eq_true rfl) [(0, .ref (qH g 5)), (1, .ref (qR g rr)), (2, .long ((mf_sumN σ rr (q + 1)).1)), (4, .ref (qR g rr)), (5, .int (nI (ln σ rr))), (6, .int (nI (q + 1))), (7, .null)] [1, 2, 3, 4, 5, 0, 6] rfl ?_
            refine V_goto (tgt := 13) C dX12_worths_48 (by decide) ?_
            refine V_loc (L' := [(0, .ref (qH g 5)), (1, .ref (qR g rr)), (2, .long ((mf_sumN σ rr (q + 1)).1)), (4, .ref (qR g rr)), (5, .int (nI (ln σ rr))), (6, .int (nI (q + 1)))]) [0, 1, 2, 3, 4, 5] rfl ?_
            exact ih13 (q + 1) ((mf_sumN σ rr (q + 1)).1)  (by omega) (by omega) rfl
          · skip
            refine V_aald C (j := 9) rfl rfl hf1 (vp_in_nI (by omega) (by omega)) dX12_worths_24 ?_
            refine V_st (st' := [.ref (qU g u)]) (by rw [nI_clamp (by omega), hfu]; rfl) ?_
            refine V_astore C dX12_worths_25 (Nat.le_of_ble_eq_true rfl) [(0, .ref (qH g 5)), (1, .ref (qR g rr)), (2, .long sm), (4, .ref (qR g rr)), (5, .int (nI (ln σ rr))), (6, .int (nI q)), (7, .ref (qU g u))] [1, 2, 3, 4, 5, 6, 0] rfl ?_
            refine V_lload_n C dX12_worths_27 rfl 2 rfl ?_
            refine V_aload C dX12_worths_28 6 rfl ?_
            refine V_ifnonnull (tgt := 37) C dX12_worths_30 (by decide) ?_
            obtain ⟨hc2, hcn⟩ := hI.cN hu
            have hun := hR.un hu
            obtain hc9 | hc9 | hc9 : (σ.2.1 6 u).toNatClampNeg = 0 ∨ (σ.2.1 6 u).toNatClampNeg = 1 ∨ (σ.2.1 6 u).toNatClampNeg = 2 := by omega
            · rw [hc9] at hun hcn
              refine V_aload C dX12_worths_37 6 rfl ?_
              refine V_callV C (c_X21_worth_5 l hl G X N0 M (qU g u) (nI u) (σ.2.1 7 u) hun) cs_X12_52_5 hun (show CLS[5]? = some (RX21, TX21, 2) from rfl) rfl rfl ⟨Nat.le_of_ble_eq_true rfl, Nat.le_of_ble_eq_true rfl⟩ ⟨(by first | exact Nat.le_of_ble_eq_true rfl | omega | (dsimp only; omega) | (simp only [List.length_cons, List.length_nil]; omega)), (by first | exact Nat.le_of_ble_eq_true rfl | omega | (dsimp only; omega) | (simp only [List.length_cons, List.length_nil]; omega))⟩ (Nat.le_of_ble_eq_true rfl) dX12_worths_39 (fun _ _ _ h => px0 h) ?_
              rintro _ _ ⟨rfl, rfl⟩
              refine V_st (st' := [.int (σ.2.1 7 u), .long sm]) rfl ?_
              refine V_i2l (v := (σ.2.1 7 u).toInt64) C dX12_worths_42 rfl ?_
              refine V_ladd C dX12_worths_43 ?_
              refine V_st (st' := [.long ((mf_sumN σ rr (q + 1)).1)]) (by rw [show (sm + ((σ.2.1 7 u).toInt64)) = ((mf_sumN σ rr (q + 1)).1) from by have hU3 := hI.U.2; rw [hsm, sum_unit hI hr hk89, he, lN_i, if_neg (lN_neg (by omega)), nI_clamp (by omega)]; unfold mf_worth; rw [hcn]; rw [if_pos (show nI 0 = 0 from rfl)]]) ?_
              refine V_pc (pc1 := 44) rfl ?_
              refine V_lstore_n C dX12_worths_44 rfl (Nat.le_of_ble_eq_true rfl) [(0, .ref (qH g 5)), (1, .ref (qR g rr)), (2, .long ((mf_sumN σ rr (q + 1)).1)), (4, .ref (qR g rr)), (5, .int (nI (ln σ rr))), (6, .int (nI q)), (7, .ref (qU g u))] [1, 2, 0, 3, 4, 5, 6] rfl ?_
              refine V_iinc (v := nI (q + 1)) C dX12_worths_45 (k := 5) rfl (nI_add q 1) (Nat.le_of_ble_eq_true rfl) [(0, .ref (qH g 5)), (1, .ref (qR g rr)), (2, .long ((mf_sumN σ rr (q + 1)).1)), (4, .ref (qR g rr)), (5, .int (nI (ln σ rr))), (6, .int (nI (q + 1))), (7, .ref (qU g u))] [1, 2, 3, 4, 5, 0, 6] rfl ?_
              refine V_goto (tgt := 13) C dX12_worths_48 (by decide) ?_
              refine V_loc (L' := [(0, .ref (qH g 5)), (1, .ref (qR g rr)), (2, .long ((mf_sumN σ rr (q + 1)).1)), (4, .ref (qR g rr)), (5, .int (nI (ln σ rr))), (6, .int (nI (q + 1)))]) [0, 1, 2, 3, 4, 5] rfl ?_
              exact ih13 (q + 1) ((mf_sumN σ rr (q + 1)).1)  (by omega) (by omega) rfl
            · rw [hc9] at hun hcn
              refine V_aload C dX12_worths_37 6 rfl ?_
              refine V_callO C (c_X22_worth_6 l hl G X N0 M (qU g u) (nI u) (σ.2.1 7 u) hun) cs_X12_52_6 hun (show CLS[6]? = some (RX22, TX22, 2) from rfl) rfl rfl ⟨Nat.le_of_ble_eq_true rfl, Nat.le_of_ble_eq_true rfl⟩ ⟨(by first | exact Nat.le_of_ble_eq_true rfl | omega | (dsimp only; omega) | (simp only [List.length_cons, List.length_nil]; omega)), (by first | exact Nat.le_of_ble_eq_true rfl | omega | (dsimp only; omega) | (simp only [List.length_cons, List.length_nil]; omega))⟩ (Nat.le_of_ble_eq_true rfl) dX12_worths_39 (fun _ _ _ h => px0 h) ?_
              rintro _ _ ⟨rfl, rfl⟩
              refine V_st (st' := [.int (3 * σ.2.1 7 u + 2), .long sm]) rfl ?_
              refine V_i2l (v := (3 * σ.2.1 7 u + 2).toInt64) C dX12_worths_42 rfl ?_
              refine V_ladd C dX12_worths_43 ?_
              refine V_st (st' := [.long ((mf_sumN σ rr (q + 1)).1)]) (by rw [show (sm + ((3 * σ.2.1 7 u + 2).toInt64)) = ((mf_sumN σ rr (q + 1)).1) from by have hU3 := hI.U.2; rw [hsm, sum_unit hI hr hk89, he, lN_i, if_neg (lN_neg (by omega)), nI_clamp (by omega)]; unfold mf_worth; rw [hcn]; rw [if_neg (by decide), if_pos (show nI 1 = 1 from rfl)]]) ?_
              refine V_pc (pc1 := 44) rfl ?_
              refine V_lstore_n C dX12_worths_44 rfl (Nat.le_of_ble_eq_true rfl) [(0, .ref (qH g 5)), (1, .ref (qR g rr)), (2, .long ((mf_sumN σ rr (q + 1)).1)), (4, .ref (qR g rr)), (5, .int (nI (ln σ rr))), (6, .int (nI q)), (7, .ref (qU g u))] [1, 2, 0, 3, 4, 5, 6] rfl ?_
              refine V_iinc (v := nI (q + 1)) C dX12_worths_45 (k := 5) rfl (nI_add q 1) (Nat.le_of_ble_eq_true rfl) [(0, .ref (qH g 5)), (1, .ref (qR g rr)), (2, .long ((mf_sumN σ rr (q + 1)).1)), (4, .ref (qR g rr)), (5, .int (nI (ln σ rr))), (6, .int (nI (q + 1))), (7, .ref (qU g u))] [1, 2, 3, 4, 5, 0, 6] rfl ?_
              refine V_goto (tgt := 13) C dX12_worths_48 (by decide) ?_
              refine V_loc (L' := [(0, .ref (qH g 5)), (1, .ref (qR g rr)), (2, .long ((mf_sumN σ rr (q + 1)).1)), (4, .ref (qR g rr)), (5, .int (nI (ln σ rr))), (6, .int (nI (q + 1)))]) [0, 1, 2, 3, 4, 5] rfl ?_
              exact ih13 (q + 1) ((mf_sumN σ rr (q + 1)).1)  (by omega) (by omega) rfl
            · rw [hc9] at hun hcn
              refine V_aload C dX12_worths_37 6 rfl ?_
              refine V_callO C (c_X23_worth_7 l hl G X N0 M (qU g u) (nI u) (σ.2.1 7 u) hun) cs_X12_52_7 hun (show CLS[7]? = some (RX23, TX23, 2) from rfl) rfl rfl ⟨Nat.le_of_ble_eq_true rfl, Nat.le_of_ble_eq_true rfl⟩ ⟨(by first | exact Nat.le_of_ble_eq_true rfl | omega | (dsimp only; omega) | (simp only [List.length_cons, List.length_nil]; omega)), (by first | exact Nat.le_of_ble_eq_true rfl | omega | (dsimp only; omega) | (simp only [List.length_cons, List.length_nil]; omega))⟩ (Nat.le_of_ble_eq_true rfl) dX12_worths_39 (fun _ _ _ h => px0 h) ?_
              rintro _ _ ⟨rfl, rfl⟩
              refine V_st (st' := [.int (3 * σ.2.1 7 u + 2 - 5), .long sm]) rfl ?_
              refine V_i2l (v := (3 * σ.2.1 7 u + 2 - 5).toInt64) C dX12_worths_42 rfl ?_
              refine V_ladd C dX12_worths_43 ?_
              refine V_st (st' := [.long ((mf_sumN σ rr (q + 1)).1)]) (by rw [show (sm + ((3 * σ.2.1 7 u + 2 - 5).toInt64)) = ((mf_sumN σ rr (q + 1)).1) from by have hU3 := hI.U.2; rw [hsm, sum_unit hI hr hk89, he, lN_i, if_neg (lN_neg (by omega)), nI_clamp (by omega)]; unfold mf_worth; rw [hcn]; rw [if_neg (by decide), if_neg (by decide), worth_g]]) ?_
              refine V_pc (pc1 := 44) rfl ?_
              refine V_lstore_n C dX12_worths_44 rfl (Nat.le_of_ble_eq_true rfl) [(0, .ref (qH g 5)), (1, .ref (qR g rr)), (2, .long ((mf_sumN σ rr (q + 1)).1)), (4, .ref (qR g rr)), (5, .int (nI (ln σ rr))), (6, .int (nI q)), (7, .ref (qU g u))] [1, 2, 0, 3, 4, 5, 6] rfl ?_
              refine V_iinc (v := nI (q + 1)) C dX12_worths_45 (k := 5) rfl (nI_add q 1) (Nat.le_of_ble_eq_true rfl) [(0, .ref (qH g 5)), (1, .ref (qR g rr)), (2, .long ((mf_sumN σ rr (q + 1)).1)), (4, .ref (qR g rr)), (5, .int (nI (ln σ rr))), (6, .int (nI (q + 1))), (7, .ref (qU g u))] [1, 2, 3, 4, 5, 0, 6] rfl ?_
              refine V_goto (tgt := 13) C dX12_worths_48 (by decide) ?_
              refine V_loc (L' := [(0, .ref (qH g 5)), (1, .ref (qR g rr)), (2, .long ((mf_sumN σ rr (q + 1)).1)), (4, .ref (qR g rr)), (5, .int (nI (ln σ rr))), (6, .int (nI (q + 1)))]) [0, 1, 2, 3, 4, 5] rfl ?_
              exact ih13 (q + 1) ((mf_sumN σ rr (q + 1)).1)  (by omega) (by omega) rfl
    refine V_loc (L' := [(0, .ref (qH g 5)), (1, .ref (qR g rr)), (2, .long 0), (4, .ref (qR g rr)), (5, .int (nI (ln σ rr))), (6, .int 0)]) [0, 1, 2, 3, 4, 5] rfl ?_
    exact lp_13 _ 0 0  (Nat.lt_succ_self _) (Nat.zero_le _) rfl
theorem sum_small {σ : MS} (hI : MI σ) {r q : Nat} (hr : r < nR σ) (hk : kd σ r ≤ 5) : (mf_sumN σ r (q + 1)).1 = (mf_sumN σ r q).1 + el σ r q := by
  show (mf_sum1 σ (σ.2.1 2 r) (mf_sumN σ r q) (el σ r q)).1 = _
  rw [(hI.k hr).1]
  match h : kd σ r, hk with
  | 0, _ => rfl
  | 1, _ => rfl
  | 2, _ => rfl
  | 3, _ => rfl
  | 4, _ => rfl
  | 5, _ => rfl
  | k + 6, y => exact absurd y (by omega)
theorem sum_inner {σ : MS} (hI : MI σ) {r q : Nat} (hr : r < nR σ) (hk : kd σ r = 10) : (mf_sumN σ r (q + 1)).1 = if el σ r q < 0 then (mf_sumN σ r q).1 else mf_sumI σ (el σ r q).toInt32.toNatClampNeg (mf_sumN σ r q).1 (iln σ (el σ r q).toInt32.toNatClampNeg) := by
  show (mf_sum1 σ (σ.2.1 2 r) (mf_sumN σ r q) (el σ r q)).1 = _
  rw [(hI.k hr).1, hk]
  rfl
set_option maxHeartbeats 1000000 in
theorem c_X12_wholes_0 (l : Launch) (hl : l.stackTraces = false) (G : hp_G) (X : Nat → Nat) (N0 : Nat) (M : hp_h) (g : RG) (σ : MS) (z : Nat → Int32) (C9 c9 : Nat) (hC : c9 + 1 = C9) (hR : REL G (X 0) g σ z (σ.1 31) C9 M) (hI : MI σ) (rr : Nat) (hr : rr < nR σ) (hk9 : kd σ rr = 0) : HM l yX12_wholes (ws_ yX12_wholes cX12_wholes 7 (some .long)) 14 500 0 0 G X N0 [.ref (qH g 5), .ref (qR g rr)] M (PV (.long (mf_sumN σ rr (ln σ rr)).1) M) PX0 := by
  refine HM.of hl [(0, .ref (qH g 5)), (1, .ref (qR g rr))] (by decide +kernel) rfl (Nat.le_of_ble_eq_true rfl) ?_
  intro p e s m args below meth c C hname
  have hN := hR.N
  have hH9 : M (qH g 5) = some (.inr (15, [.int 1, .ref (qN g), .int 0, .int 10, .ref (qN g), .ref (qN g)])) := hR.H (by decide)
  refine V_lconst (v := 0) C dX12_wholes_0 rfl ?_
  refine V_lstore_n C dX12_wholes_1 rfl (Nat.le_of_ble_eq_true rfl) [(0, .ref (qH g 5)), (1, .ref (qR g rr)), (2, .long 0)] [1, 2, 0] rfl ?_
  refine V_iconst (v := 0) C dX12_wholes_2 rfl ?_
  refine V_istore C dX12_wholes_3 (Nat.le_of_ble_eq_true rfl) [(0, .ref (qH g 5)), (1, .ref (qR g rr)), (2, .long 0), (4, .int 0)] [1, 2, 3, 0] rfl ?_
  obtain ⟨xr, hra, hrx, hrc⟩ := hR.rw hr
  obtain ⟨hkE, hkL⟩ := hI.k hr
  obtain ⟨hlE, hlL⟩ := hI.l hr
  rw [hk9] at hra hrx hrc
  have lp_5 : ∀ (fu9 : Nat) (q : Nat) (sm : Int64), ln σ rr - q < fu9 → (q ≤ ln σ rr) → (sm = (mf_sumN σ rr q).1) → V p l e { frames := 14, cells := 0, slots := 0, locals := 500 } s m args below meth c G N0 7 (QV below G N0 (PV (.long (mf_sumN σ rr (ln σ rr)).1) M) PX0 args s (0) (0)) (0) (0) M 5 [(0, .ref (qH g 5)), (1, .ref (qR g rr)), (2, .long sm), (4, .int (nI q))] [] := by
    intro fu9
    induction fu9 with
    | zero => intro q sm  hfu9; exact absurd hfu9 (Nat.not_lt_zero _)
    | succ fu9 ih5 =>
      intro q sm  hfu9 hq hsm
      refine V_iload C dX12_wholes_5 3 rfl ?_
      refine V_aload_n C dX12_wholes_7 rfl 1 rfl ?_
      refine V_callSN C (c_X1_sizeOf l hl G X N0 M (qR g rr) 0 (by decide) xr hra) cs_X12_36 rfl rfl ⟨Nat.le_of_ble_eq_true rfl, Nat.le_of_ble_eq_true rfl⟩ ⟨(by first | exact Nat.le_of_ble_eq_true rfl | omega | (dsimp only; omega) | (simp only [List.length_cons, List.length_nil]; omega)), (by first | exact Nat.le_of_ble_eq_true rfl | omega | (dsimp only; omega) | (simp only [List.length_cons, List.length_nil]; omega))⟩ (Nat.le_of_ble_eq_true rfl) dX12_wholes_8 (fun _ _ _ h => px0 h) ?_
      rintro _ _ ⟨rfl, rfl⟩
      refine V_st (st' := [.int (nI xr.1), .int (nI q)]) rfl ?_
      refine V_st (st' := [.int (nI (ln σ rr)), .int (nI q)]) (by rw [hrx.1]) ?_
      refine V_icmp_ge (tgt := 79) C dX12_wholes_11 (by decide) (fun c_11 => ?_) (fun c_11 => ?_)
      · refine V_lload_n C dX12_wholes_79 rfl 2 rfl ?_
        refine V_lret C dX12_wholes_80 rfl ?_ (by first | exact Nat.le_of_ble_eq_true rfl | omega | (dsimp only; omega) | (simp only [List.length_cons, List.length_nil]; omega)) (by first | exact Nat.le_of_ble_eq_true rfl | omega | (dsimp only; omega) | (simp only [List.length_cons, List.length_nil]; omega))
        have hq3 : q = ln σ rr := by have := (nI_leI (by omega) (by omega)).mp c_11; omega
        exact ⟨by rw [hsm, hq3], rfl⟩
      · have hq2 : q < ln σ rr := nI_ltN9 (by omega) (by omega) c_11
        refine V_aload_n C dX12_wholes_14 rfl 1 rfl ?_
        refine V_instAN C (j := 0) (nm := "[[I") (by decide) q1353 (List.mem_of_getElem? (i := 9) rfl) hra dX12_wholes_15 ?_
        refine V_if_eq (tgt := 64) C dX12_wholes_18 (by decide) (fun c_18 => ?_) (fun c_18 => ?_)
        · refine V_pc (pc1 := 64) rfl ?_
          refine V_lload_n C dX12_wholes_64 rfl 2 rfl ?_
          refine V_aload_n C dX12_wholes_65 rfl 1 rfl ?_
          refine V_iload C dX12_wholes_66 3 rfl ?_
          refine V_callSN C (c_X1_get l hl G X N0 M (qR g rr) 0 q xr (el σ rr q) (by decide) hra (by rw [hrx.1]; omega) (by rw [hrx.1]; omega) (hrc q (by omega)) (hR.UH hI)) cs_X12_60 rfl rfl ⟨Nat.le_of_ble_eq_true rfl, Nat.le_of_ble_eq_true rfl⟩ ⟨(by first | exact Nat.le_of_ble_eq_true rfl | omega | (dsimp only; omega) | (simp only [List.length_cons, List.length_nil]; omega)), (by first | exact Nat.le_of_ble_eq_true rfl | omega | (dsimp only; omega) | (simp only [List.length_cons, List.length_nil]; omega))⟩ (Nat.le_of_ble_eq_true rfl) dX12_wholes_68 (fun _ _ _ h => px0 h) ?_
          rintro _ _ ⟨rfl, rfl⟩
          refine V_st (st' := [.long (el σ rr q), .long sm]) rfl ?_
          refine V_ladd C dX12_wholes_71 ?_
          refine V_lstore_n C dX12_wholes_72 rfl (Nat.le_of_ble_eq_true rfl) [(0, .ref (qH g 5)), (1, .ref (qR g rr)), (2, .long (sm + (el σ rr q))), (4, .int (nI q))] [1, 2, 0, 3] rfl ?_
          refine V_iinc (v := nI (q + 1)) C dX12_wholes_73 (k := 3) rfl (nI_add q 1) (Nat.le_of_ble_eq_true rfl) [(0, .ref (qH g 5)), (1, .ref (qR g rr)), (2, .long (sm + (el σ rr q))), (4, .int (nI (q + 1)))] [1, 2, 3, 0] rfl ?_
          refine V_goto (tgt := 5) C dX12_wholes_76 (by decide) ?_
          exact ih5 (q + 1) (sm + (el σ rr q))  (by omega) (by omega) (by rw [hsm, sum_small hI hr (by omega)])
        · exact absurd c_18 (by decide)
  refine V_loc (L' := [(0, .ref (qH g 5)), (1, .ref (qR g rr)), (2, .long 0), (4, .int 0)]) [0, 1, 2, 3] rfl ?_
  exact lp_5 _ 0 0  (Nat.lt_succ_self _) (Nat.zero_le _) rfl
set_option maxHeartbeats 1000000 in
theorem c_X12_wholes_1 (l : Launch) (hl : l.stackTraces = false) (G : hp_G) (X : Nat → Nat) (N0 : Nat) (M : hp_h) (g : RG) (σ : MS) (z : Nat → Int32) (C9 c9 : Nat) (hC : c9 + 1 = C9) (hR : REL G (X 0) g σ z (σ.1 31) C9 M) (hI : MI σ) (rr : Nat) (hr : rr < nR σ) (hk9 : kd σ rr = 1) : HM l yX12_wholes (ws_ yX12_wholes cX12_wholes 7 (some .long)) 14 500 0 0 G X N0 [.ref (qH g 5), .ref (qR g rr)] M (PV (.long (mf_sumN σ rr (ln σ rr)).1) M) PX0 := by
  refine HM.of hl [(0, .ref (qH g 5)), (1, .ref (qR g rr))] (by decide +kernel) rfl (Nat.le_of_ble_eq_true rfl) ?_
  intro p e s m args below meth c C hname
  have hN := hR.N
  have hH9 : M (qH g 5) = some (.inr (15, [.int 1, .ref (qN g), .int 0, .int 10, .ref (qN g), .ref (qN g)])) := hR.H (by decide)
  refine V_lconst (v := 0) C dX12_wholes_0 rfl ?_
  refine V_lstore_n C dX12_wholes_1 rfl (Nat.le_of_ble_eq_true rfl) [(0, .ref (qH g 5)), (1, .ref (qR g rr)), (2, .long 0)] [1, 2, 0] rfl ?_
  refine V_iconst (v := 0) C dX12_wholes_2 rfl ?_
  refine V_istore C dX12_wholes_3 (Nat.le_of_ble_eq_true rfl) [(0, .ref (qH g 5)), (1, .ref (qR g rr)), (2, .long 0), (4, .int 0)] [1, 2, 3, 0] rfl ?_
  obtain ⟨xr, hra, hrx, hrc⟩ := hR.rw hr
  obtain ⟨hkE, hkL⟩ := hI.k hr
  obtain ⟨hlE, hlL⟩ := hI.l hr
  rw [hk9] at hra hrx hrc
  have lp_5 : ∀ (fu9 : Nat) (q : Nat) (sm : Int64), ln σ rr - q < fu9 → (q ≤ ln σ rr) → (sm = (mf_sumN σ rr q).1) → V p l e { frames := 14, cells := 0, slots := 0, locals := 500 } s m args below meth c G N0 7 (QV below G N0 (PV (.long (mf_sumN σ rr (ln σ rr)).1) M) PX0 args s (0) (0)) (0) (0) M 5 [(0, .ref (qH g 5)), (1, .ref (qR g rr)), (2, .long sm), (4, .int (nI q))] [] := by
    intro fu9
    induction fu9 with
    | zero => intro q sm  hfu9; exact absurd hfu9 (Nat.not_lt_zero _)
    | succ fu9 ih5 =>
      intro q sm  hfu9 hq hsm
      refine V_iload C dX12_wholes_5 3 rfl ?_
      refine V_aload_n C dX12_wholes_7 rfl 1 rfl ?_
      refine V_callSN C (c_X1_sizeOf l hl G X N0 M (qR g rr) 1 (by decide) xr hra) cs_X12_36 rfl rfl ⟨Nat.le_of_ble_eq_true rfl, Nat.le_of_ble_eq_true rfl⟩ ⟨(by first | exact Nat.le_of_ble_eq_true rfl | omega | (dsimp only; omega) | (simp only [List.length_cons, List.length_nil]; omega)), (by first | exact Nat.le_of_ble_eq_true rfl | omega | (dsimp only; omega) | (simp only [List.length_cons, List.length_nil]; omega))⟩ (Nat.le_of_ble_eq_true rfl) dX12_wholes_8 (fun _ _ _ h => px0 h) ?_
      rintro _ _ ⟨rfl, rfl⟩
      refine V_st (st' := [.int (nI xr.1), .int (nI q)]) rfl ?_
      refine V_st (st' := [.int (nI (ln σ rr)), .int (nI q)]) (by rw [hrx.1]) ?_
      refine V_icmp_ge (tgt := 79) C dX12_wholes_11 (by decide) (fun c_11 => ?_) (fun c_11 => ?_)
      · refine V_lload_n C dX12_wholes_79 rfl 2 rfl ?_
        refine V_lret C dX12_wholes_80 rfl ?_ (by first | exact Nat.le_of_ble_eq_true rfl | omega | (dsimp only; omega) | (simp only [List.length_cons, List.length_nil]; omega)) (by first | exact Nat.le_of_ble_eq_true rfl | omega | (dsimp only; omega) | (simp only [List.length_cons, List.length_nil]; omega))
        have hq3 : q = ln σ rr := by have := (nI_leI (by omega) (by omega)).mp c_11; omega
        exact ⟨by rw [hsm, hq3], rfl⟩
      · have hq2 : q < ln σ rr := nI_ltN9 (by omega) (by omega) c_11
        refine V_aload_n C dX12_wholes_14 rfl 1 rfl ?_
        refine V_instAN C (j := 1) (nm := "[[I") (by decide) q1353 (List.mem_of_getElem? (i := 19) rfl) hra dX12_wholes_15 ?_
        refine V_if_eq (tgt := 64) C dX12_wholes_18 (by decide) (fun c_18 => ?_) (fun c_18 => ?_)
        · refine V_pc (pc1 := 64) rfl ?_
          refine V_lload_n C dX12_wholes_64 rfl 2 rfl ?_
          refine V_aload_n C dX12_wholes_65 rfl 1 rfl ?_
          refine V_iload C dX12_wholes_66 3 rfl ?_
          refine V_callSN C (c_X1_get l hl G X N0 M (qR g rr) 1 q xr (el σ rr q) (by decide) hra (by rw [hrx.1]; omega) (by rw [hrx.1]; omega) (hrc q (by omega)) (hR.UH hI)) cs_X12_60 rfl rfl ⟨Nat.le_of_ble_eq_true rfl, Nat.le_of_ble_eq_true rfl⟩ ⟨(by first | exact Nat.le_of_ble_eq_true rfl | omega | (dsimp only; omega) | (simp only [List.length_cons, List.length_nil]; omega)), (by first | exact Nat.le_of_ble_eq_true rfl | omega | (dsimp only; omega) | (simp only [List.length_cons, List.length_nil]; omega))⟩ (Nat.le_of_ble_eq_true rfl) dX12_wholes_68 (fun _ _ _ h => px0 h) ?_
          rintro _ _ ⟨rfl, rfl⟩
          refine V_st (st' := [.long (el σ rr q), .long sm]) rfl ?_
          refine V_ladd C dX12_wholes_71 ?_
          refine V_lstore_n C dX12_wholes_72 rfl (Nat.le_of_ble_eq_true rfl) [(0, .ref (qH g 5)), (1, .ref (qR g rr)), (2, .long (sm + (el σ rr q))), (4, .int (nI q))] [1, 2, 0, 3] rfl ?_
          refine V_iinc (v := nI (q + 1)) C dX12_wholes_73 (k := 3) rfl (nI_add q 1) (Nat.le_of_ble_eq_true rfl) [(0, .ref (qH g 5)), (1, .ref (qR g rr)), (2, .long (sm + (el σ rr q))), (4, .int (nI (q + 1)))] [1, 2, 3, 0] rfl ?_
          refine V_goto (tgt := 5) C dX12_wholes_76 (by decide) ?_
          exact ih5 (q + 1) (sm + (el σ rr q))  (by omega) (by omega) (by rw [hsm, sum_small hI hr (by omega)])
        · exact absurd c_18 (by decide)
  refine V_loc (L' := [(0, .ref (qH g 5)), (1, .ref (qR g rr)), (2, .long 0), (4, .int 0)]) [0, 1, 2, 3] rfl ?_
  exact lp_5 _ 0 0  (Nat.lt_succ_self _) (Nat.zero_le _) rfl
set_option maxHeartbeats 1000000 in
theorem c_X12_wholes_2 (l : Launch) (hl : l.stackTraces = false) (G : hp_G) (X : Nat → Nat) (N0 : Nat) (M : hp_h) (g : RG) (σ : MS) (z : Nat → Int32) (C9 c9 : Nat) (hC : c9 + 1 = C9) (hR : REL G (X 0) g σ z (σ.1 31) C9 M) (hI : MI σ) (rr : Nat) (hr : rr < nR σ) (hk9 : kd σ rr = 2) : HM l yX12_wholes (ws_ yX12_wholes cX12_wholes 7 (some .long)) 14 500 0 0 G X N0 [.ref (qH g 5), .ref (qR g rr)] M (PV (.long (mf_sumN σ rr (ln σ rr)).1) M) PX0 := by
  refine HM.of hl [(0, .ref (qH g 5)), (1, .ref (qR g rr))] (by decide +kernel) rfl (Nat.le_of_ble_eq_true rfl) ?_
  intro p e s m args below meth c C hname
  have hN := hR.N
  have hH9 : M (qH g 5) = some (.inr (15, [.int 1, .ref (qN g), .int 0, .int 10, .ref (qN g), .ref (qN g)])) := hR.H (by decide)
  refine V_lconst (v := 0) C dX12_wholes_0 rfl ?_
  refine V_lstore_n C dX12_wholes_1 rfl (Nat.le_of_ble_eq_true rfl) [(0, .ref (qH g 5)), (1, .ref (qR g rr)), (2, .long 0)] [1, 2, 0] rfl ?_
  refine V_iconst (v := 0) C dX12_wholes_2 rfl ?_
  refine V_istore C dX12_wholes_3 (Nat.le_of_ble_eq_true rfl) [(0, .ref (qH g 5)), (1, .ref (qR g rr)), (2, .long 0), (4, .int 0)] [1, 2, 3, 0] rfl ?_
  obtain ⟨xr, hra, hrx, hrc⟩ := hR.rw hr
  obtain ⟨hkE, hkL⟩ := hI.k hr
  obtain ⟨hlE, hlL⟩ := hI.l hr
  rw [hk9] at hra hrx hrc
  have lp_5 : ∀ (fu9 : Nat) (q : Nat) (sm : Int64), ln σ rr - q < fu9 → (q ≤ ln σ rr) → (sm = (mf_sumN σ rr q).1) → V p l e { frames := 14, cells := 0, slots := 0, locals := 500 } s m args below meth c G N0 7 (QV below G N0 (PV (.long (mf_sumN σ rr (ln σ rr)).1) M) PX0 args s (0) (0)) (0) (0) M 5 [(0, .ref (qH g 5)), (1, .ref (qR g rr)), (2, .long sm), (4, .int (nI q))] [] := by
    intro fu9
    induction fu9 with
    | zero => intro q sm  hfu9; exact absurd hfu9 (Nat.not_lt_zero _)
    | succ fu9 ih5 =>
      intro q sm  hfu9 hq hsm
      refine V_iload C dX12_wholes_5 3 rfl ?_
      refine V_aload_n C dX12_wholes_7 rfl 1 rfl ?_
      refine V_callSN C (c_X1_sizeOf l hl G X N0 M (qR g rr) 2 (by decide) xr hra) cs_X12_36 rfl rfl ⟨Nat.le_of_ble_eq_true rfl, Nat.le_of_ble_eq_true rfl⟩ ⟨(by first | exact Nat.le_of_ble_eq_true rfl | omega | (dsimp only; omega) | (simp only [List.length_cons, List.length_nil]; omega)), (by first | exact Nat.le_of_ble_eq_true rfl | omega | (dsimp only; omega) | (simp only [List.length_cons, List.length_nil]; omega))⟩ (Nat.le_of_ble_eq_true rfl) dX12_wholes_8 (fun _ _ _ h => px0 h) ?_
      rintro _ _ ⟨rfl, rfl⟩
      refine V_st (st' := [.int (nI xr.1), .int (nI q)]) rfl ?_
      refine V_st (st' := [.int (nI (ln σ rr)), .int (nI q)]) (by rw [hrx.1]) ?_
      refine V_icmp_ge (tgt := 79) C dX12_wholes_11 (by decide) (fun c_11 => ?_) (fun c_11 => ?_)
      · refine V_lload_n C dX12_wholes_79 rfl 2 rfl ?_
        refine V_lret C dX12_wholes_80 rfl ?_ (by first | exact Nat.le_of_ble_eq_true rfl | omega | (dsimp only; omega) | (simp only [List.length_cons, List.length_nil]; omega)) (by first | exact Nat.le_of_ble_eq_true rfl | omega | (dsimp only; omega) | (simp only [List.length_cons, List.length_nil]; omega))
        have hq3 : q = ln σ rr := by have := (nI_leI (by omega) (by omega)).mp c_11; omega
        exact ⟨by rw [hsm, hq3], rfl⟩
      · have hq2 : q < ln σ rr := nI_ltN9 (by omega) (by omega) c_11
        refine V_aload_n C dX12_wholes_14 rfl 1 rfl ?_
        refine V_instAN C (j := 2) (nm := "[[I") (by decide) q1353 (List.mem_of_getElem? (i := 29) rfl) hra dX12_wholes_15 ?_
        refine V_if_eq (tgt := 64) C dX12_wholes_18 (by decide) (fun c_18 => ?_) (fun c_18 => ?_)
        · refine V_pc (pc1 := 64) rfl ?_
          refine V_lload_n C dX12_wholes_64 rfl 2 rfl ?_
          refine V_aload_n C dX12_wholes_65 rfl 1 rfl ?_
          refine V_iload C dX12_wholes_66 3 rfl ?_
          refine V_callSN C (c_X1_get l hl G X N0 M (qR g rr) 2 q xr (el σ rr q) (by decide) hra (by rw [hrx.1]; omega) (by rw [hrx.1]; omega) (hrc q (by omega)) (hR.UH hI)) cs_X12_60 rfl rfl ⟨Nat.le_of_ble_eq_true rfl, Nat.le_of_ble_eq_true rfl⟩ ⟨(by first | exact Nat.le_of_ble_eq_true rfl | omega | (dsimp only; omega) | (simp only [List.length_cons, List.length_nil]; omega)), (by first | exact Nat.le_of_ble_eq_true rfl | omega | (dsimp only; omega) | (simp only [List.length_cons, List.length_nil]; omega))⟩ (Nat.le_of_ble_eq_true rfl) dX12_wholes_68 (fun _ _ _ h => px0 h) ?_
          rintro _ _ ⟨rfl, rfl⟩
          refine V_st (st' := [.long (el σ rr q), .long sm]) rfl ?_
          refine V_ladd C dX12_wholes_71 ?_
          refine V_lstore_n C dX12_wholes_72 rfl (Nat.le_of_ble_eq_true rfl) [(0, .ref (qH g 5)), (1, .ref (qR g rr)), (2, .long (sm + (el σ rr q))), (4, .int (nI q))] [1, 2, 0, 3] rfl ?_
          refine V_iinc (v := nI (q + 1)) C dX12_wholes_73 (k := 3) rfl (nI_add q 1) (Nat.le_of_ble_eq_true rfl) [(0, .ref (qH g 5)), (1, .ref (qR g rr)), (2, .long (sm + (el σ rr q))), (4, .int (nI (q + 1)))] [1, 2, 3, 0] rfl ?_
          refine V_goto (tgt := 5) C dX12_wholes_76 (by decide) ?_
          exact ih5 (q + 1) (sm + (el σ rr q))  (by omega) (by omega) (by rw [hsm, sum_small hI hr (by omega)])
        · exact absurd c_18 (by decide)
  refine V_loc (L' := [(0, .ref (qH g 5)), (1, .ref (qR g rr)), (2, .long 0), (4, .int 0)]) [0, 1, 2, 3] rfl ?_
  exact lp_5 _ 0 0  (Nat.lt_succ_self _) (Nat.zero_le _) rfl
set_option maxHeartbeats 1000000 in
theorem c_X12_wholes_3 (l : Launch) (hl : l.stackTraces = false) (G : hp_G) (X : Nat → Nat) (N0 : Nat) (M : hp_h) (g : RG) (σ : MS) (z : Nat → Int32) (C9 c9 : Nat) (hC : c9 + 1 = C9) (hR : REL G (X 0) g σ z (σ.1 31) C9 M) (hI : MI σ) (rr : Nat) (hr : rr < nR σ) (hk9 : kd σ rr = 3) : HM l yX12_wholes (ws_ yX12_wholes cX12_wholes 7 (some .long)) 14 500 0 0 G X N0 [.ref (qH g 5), .ref (qR g rr)] M (PV (.long (mf_sumN σ rr (ln σ rr)).1) M) PX0 := by
  refine HM.of hl [(0, .ref (qH g 5)), (1, .ref (qR g rr))] (by decide +kernel) rfl (Nat.le_of_ble_eq_true rfl) ?_
  intro p e s m args below meth c C hname
  have hN := hR.N
  have hH9 : M (qH g 5) = some (.inr (15, [.int 1, .ref (qN g), .int 0, .int 10, .ref (qN g), .ref (qN g)])) := hR.H (by decide)
  refine V_lconst (v := 0) C dX12_wholes_0 rfl ?_
  refine V_lstore_n C dX12_wholes_1 rfl (Nat.le_of_ble_eq_true rfl) [(0, .ref (qH g 5)), (1, .ref (qR g rr)), (2, .long 0)] [1, 2, 0] rfl ?_
  refine V_iconst (v := 0) C dX12_wholes_2 rfl ?_
  refine V_istore C dX12_wholes_3 (Nat.le_of_ble_eq_true rfl) [(0, .ref (qH g 5)), (1, .ref (qR g rr)), (2, .long 0), (4, .int 0)] [1, 2, 3, 0] rfl ?_
  obtain ⟨xr, hra, hrx, hrc⟩ := hR.rw hr
  obtain ⟨hkE, hkL⟩ := hI.k hr
  obtain ⟨hlE, hlL⟩ := hI.l hr
  rw [hk9] at hra hrx hrc
  have lp_5 : ∀ (fu9 : Nat) (q : Nat) (sm : Int64), ln σ rr - q < fu9 → (q ≤ ln σ rr) → (sm = (mf_sumN σ rr q).1) → V p l e { frames := 14, cells := 0, slots := 0, locals := 500 } s m args below meth c G N0 7 (QV below G N0 (PV (.long (mf_sumN σ rr (ln σ rr)).1) M) PX0 args s (0) (0)) (0) (0) M 5 [(0, .ref (qH g 5)), (1, .ref (qR g rr)), (2, .long sm), (4, .int (nI q))] [] := by
    intro fu9
    induction fu9 with
    | zero => intro q sm  hfu9; exact absurd hfu9 (Nat.not_lt_zero _)
    | succ fu9 ih5 =>
      intro q sm  hfu9 hq hsm
      refine V_iload C dX12_wholes_5 3 rfl ?_
      refine V_aload_n C dX12_wholes_7 rfl 1 rfl ?_
      refine V_callSN C (c_X1_sizeOf l hl G X N0 M (qR g rr) 3 (by decide) xr hra) cs_X12_36 rfl rfl ⟨Nat.le_of_ble_eq_true rfl, Nat.le_of_ble_eq_true rfl⟩ ⟨(by first | exact Nat.le_of_ble_eq_true rfl | omega | (dsimp only; omega) | (simp only [List.length_cons, List.length_nil]; omega)), (by first | exact Nat.le_of_ble_eq_true rfl | omega | (dsimp only; omega) | (simp only [List.length_cons, List.length_nil]; omega))⟩ (Nat.le_of_ble_eq_true rfl) dX12_wholes_8 (fun _ _ _ h => px0 h) ?_
      rintro _ _ ⟨rfl, rfl⟩
      refine V_st (st' := [.int (nI xr.1), .int (nI q)]) rfl ?_
      refine V_st (st' := [.int (nI (ln σ rr)), .int (nI q)]) (by rw [hrx.1]) ?_
      refine V_icmp_ge (tgt := 79) C dX12_wholes_11 (by decide) (fun c_11 => ?_) (fun c_11 => ?_)
      · refine V_lload_n C dX12_wholes_79 rfl 2 rfl ?_
        refine V_lret C dX12_wholes_80 rfl ?_ (by first | exact Nat.le_of_ble_eq_true rfl | omega | (dsimp only; omega) | (simp only [List.length_cons, List.length_nil]; omega)) (by first | exact Nat.le_of_ble_eq_true rfl | omega | (dsimp only; omega) | (simp only [List.length_cons, List.length_nil]; omega))
        have hq3 : q = ln σ rr := by have := (nI_leI (by omega) (by omega)).mp c_11; omega
        exact ⟨by rw [hsm, hq3], rfl⟩
      · have hq2 : q < ln σ rr := nI_ltN9 (by omega) (by omega) c_11
        refine V_aload_n C dX12_wholes_14 rfl 1 rfl ?_
        refine V_instAN C (j := 3) (nm := "[[I") (by decide) q1353 (List.mem_of_getElem? (i := 39) rfl) hra dX12_wholes_15 ?_
        refine V_if_eq (tgt := 64) C dX12_wholes_18 (by decide) (fun c_18 => ?_) (fun c_18 => ?_)
        · refine V_pc (pc1 := 64) rfl ?_
          refine V_lload_n C dX12_wholes_64 rfl 2 rfl ?_
          refine V_aload_n C dX12_wholes_65 rfl 1 rfl ?_
          refine V_iload C dX12_wholes_66 3 rfl ?_
          refine V_callSN C (c_X1_get l hl G X N0 M (qR g rr) 3 q xr (el σ rr q) (by decide) hra (by rw [hrx.1]; omega) (by rw [hrx.1]; omega) (hrc q (by omega)) (hR.UH hI)) cs_X12_60 rfl rfl ⟨Nat.le_of_ble_eq_true rfl, Nat.le_of_ble_eq_true rfl⟩ ⟨(by first | exact Nat.le_of_ble_eq_true rfl | omega | (dsimp only; omega) | (simp only [List.length_cons, List.length_nil]; omega)), (by first | exact Nat.le_of_ble_eq_true rfl | omega | (dsimp only; omega) | (simp only [List.length_cons, List.length_nil]; omega))⟩ (Nat.le_of_ble_eq_true rfl) dX12_wholes_68 (fun _ _ _ h => px0 h) ?_
          rintro _ _ ⟨rfl, rfl⟩
          refine V_st (st' := [.long (el σ rr q), .long sm]) rfl ?_
          refine V_ladd C dX12_wholes_71 ?_
          refine V_lstore_n C dX12_wholes_72 rfl (Nat.le_of_ble_eq_true rfl) [(0, .ref (qH g 5)), (1, .ref (qR g rr)), (2, .long (sm + (el σ rr q))), (4, .int (nI q))] [1, 2, 0, 3] rfl ?_
          refine V_iinc (v := nI (q + 1)) C dX12_wholes_73 (k := 3) rfl (nI_add q 1) (Nat.le_of_ble_eq_true rfl) [(0, .ref (qH g 5)), (1, .ref (qR g rr)), (2, .long (sm + (el σ rr q))), (4, .int (nI (q + 1)))] [1, 2, 3, 0] rfl ?_
          refine V_goto (tgt := 5) C dX12_wholes_76 (by decide) ?_
          exact ih5 (q + 1) (sm + (el σ rr q))  (by omega) (by omega) (by rw [hsm, sum_small hI hr (by omega)])
        · exact absurd c_18 (by decide)
  refine V_loc (L' := [(0, .ref (qH g 5)), (1, .ref (qR g rr)), (2, .long 0), (4, .int 0)]) [0, 1, 2, 3] rfl ?_
  exact lp_5 _ 0 0  (Nat.lt_succ_self _) (Nat.zero_le _) rfl
set_option maxHeartbeats 1000000 in
theorem c_X12_wholes_4 (l : Launch) (hl : l.stackTraces = false) (G : hp_G) (X : Nat → Nat) (N0 : Nat) (M : hp_h) (g : RG) (σ : MS) (z : Nat → Int32) (C9 c9 : Nat) (hC : c9 + 1 = C9) (hR : REL G (X 0) g σ z (σ.1 31) C9 M) (hI : MI σ) (rr : Nat) (hr : rr < nR σ) (hk9 : kd σ rr = 4) : HM l yX12_wholes (ws_ yX12_wholes cX12_wholes 7 (some .long)) 14 500 0 0 G X N0 [.ref (qH g 5), .ref (qR g rr)] M (PV (.long (mf_sumN σ rr (ln σ rr)).1) M) PX0 := by
  refine HM.of hl [(0, .ref (qH g 5)), (1, .ref (qR g rr))] (by decide +kernel) rfl (Nat.le_of_ble_eq_true rfl) ?_
  intro p e s m args below meth c C hname
  have hN := hR.N
  have hH9 : M (qH g 5) = some (.inr (15, [.int 1, .ref (qN g), .int 0, .int 10, .ref (qN g), .ref (qN g)])) := hR.H (by decide)
  refine V_lconst (v := 0) C dX12_wholes_0 rfl ?_
  refine V_lstore_n C dX12_wholes_1 rfl (Nat.le_of_ble_eq_true rfl) [(0, .ref (qH g 5)), (1, .ref (qR g rr)), (2, .long 0)] [1, 2, 0] rfl ?_
  refine V_iconst (v := 0) C dX12_wholes_2 rfl ?_
  refine V_istore C dX12_wholes_3 (Nat.le_of_ble_eq_true rfl) [(0, .ref (qH g 5)), (1, .ref (qR g rr)), (2, .long 0), (4, .int 0)] [1, 2, 3, 0] rfl ?_
  obtain ⟨xr, hra, hrx, hrc⟩ := hR.rw hr
  obtain ⟨hkE, hkL⟩ := hI.k hr
  obtain ⟨hlE, hlL⟩ := hI.l hr
  rw [hk9] at hra hrx hrc
  have lp_5 : ∀ (fu9 : Nat) (q : Nat) (sm : Int64), ln σ rr - q < fu9 → (q ≤ ln σ rr) → (sm = (mf_sumN σ rr q).1) → V p l e { frames := 14, cells := 0, slots := 0, locals := 500 } s m args below meth c G N0 7 (QV below G N0 (PV (.long (mf_sumN σ rr (ln σ rr)).1) M) PX0 args s (0) (0)) (0) (0) M 5 [(0, .ref (qH g 5)), (1, .ref (qR g rr)), (2, .long sm), (4, .int (nI q))] [] := by
    intro fu9
    induction fu9 with
    | zero => intro q sm  hfu9; exact absurd hfu9 (Nat.not_lt_zero _)
    | succ fu9 ih5 =>
      intro q sm  hfu9 hq hsm
      refine V_iload C dX12_wholes_5 3 rfl ?_
      refine V_aload_n C dX12_wholes_7 rfl 1 rfl ?_
      refine V_callSN C (c_X1_sizeOf l hl G X N0 M (qR g rr) 4 (by decide) xr hra) cs_X12_36 rfl rfl ⟨Nat.le_of_ble_eq_true rfl, Nat.le_of_ble_eq_true rfl⟩ ⟨(by first | exact Nat.le_of_ble_eq_true rfl | omega | (dsimp only; omega) | (simp only [List.length_cons, List.length_nil]; omega)), (by first | exact Nat.le_of_ble_eq_true rfl | omega | (dsimp only; omega) | (simp only [List.length_cons, List.length_nil]; omega))⟩ (Nat.le_of_ble_eq_true rfl) dX12_wholes_8 (fun _ _ _ h => px0 h) ?_
      rintro _ _ ⟨rfl, rfl⟩
      refine V_st (st' := [.int (nI xr.1), .int (nI q)]) rfl ?_
      refine V_st (st' := [.int (nI (ln σ rr)), .int (nI q)]) (by rw [hrx.1]) ?_
      refine V_icmp_ge (tgt := 79) C dX12_wholes_11 (by decide) (fun c_11 => ?_) (fun c_11 => ?_)
      · refine V_lload_n C dX12_wholes_79 rfl 2 rfl ?_
        refine V_lret C dX12_wholes_80 rfl ?_ (by first | exact Nat.le_of_ble_eq_true rfl | omega | (dsimp only; omega) | (simp only [List.length_cons, List.length_nil]; omega)) (by first | exact Nat.le_of_ble_eq_true rfl | omega | (dsimp only; omega) | (simp only [List.length_cons, List.length_nil]; omega))
        have hq3 : q = ln σ rr := by have := (nI_leI (by omega) (by omega)).mp c_11; omega
        exact ⟨by rw [hsm, hq3], rfl⟩
      · have hq2 : q < ln σ rr := nI_ltN9 (by omega) (by omega) c_11
        refine V_aload_n C dX12_wholes_14 rfl 1 rfl ?_
        refine V_instAN C (j := 4) (nm := "[[I") (by decide) q1353 (List.mem_of_getElem? (i := 49) rfl) hra dX12_wholes_15 ?_
        refine V_if_eq (tgt := 64) C dX12_wholes_18 (by decide) (fun c_18 => ?_) (fun c_18 => ?_)
        · refine V_pc (pc1 := 64) rfl ?_
          refine V_lload_n C dX12_wholes_64 rfl 2 rfl ?_
          refine V_aload_n C dX12_wholes_65 rfl 1 rfl ?_
          refine V_iload C dX12_wholes_66 3 rfl ?_
          refine V_callSN C (c_X1_get l hl G X N0 M (qR g rr) 4 q xr (el σ rr q) (by decide) hra (by rw [hrx.1]; omega) (by rw [hrx.1]; omega) (hrc q (by omega)) (hR.UH hI)) cs_X12_60 rfl rfl ⟨Nat.le_of_ble_eq_true rfl, Nat.le_of_ble_eq_true rfl⟩ ⟨(by first | exact Nat.le_of_ble_eq_true rfl | omega | (dsimp only; omega) | (simp only [List.length_cons, List.length_nil]; omega)), (by first | exact Nat.le_of_ble_eq_true rfl | omega | (dsimp only; omega) | (simp only [List.length_cons, List.length_nil]; omega))⟩ (Nat.le_of_ble_eq_true rfl) dX12_wholes_68 (fun _ _ _ h => px0 h) ?_
          rintro _ _ ⟨rfl, rfl⟩
          refine V_st (st' := [.long (el σ rr q), .long sm]) rfl ?_
          refine V_ladd C dX12_wholes_71 ?_
          refine V_lstore_n C dX12_wholes_72 rfl (Nat.le_of_ble_eq_true rfl) [(0, .ref (qH g 5)), (1, .ref (qR g rr)), (2, .long (sm + (el σ rr q))), (4, .int (nI q))] [1, 2, 0, 3] rfl ?_
          refine V_iinc (v := nI (q + 1)) C dX12_wholes_73 (k := 3) rfl (nI_add q 1) (Nat.le_of_ble_eq_true rfl) [(0, .ref (qH g 5)), (1, .ref (qR g rr)), (2, .long (sm + (el σ rr q))), (4, .int (nI (q + 1)))] [1, 2, 3, 0] rfl ?_
          refine V_goto (tgt := 5) C dX12_wholes_76 (by decide) ?_
          exact ih5 (q + 1) (sm + (el σ rr q))  (by omega) (by omega) (by rw [hsm, sum_small hI hr (by omega)])
        · exact absurd c_18 (by decide)
  refine V_loc (L' := [(0, .ref (qH g 5)), (1, .ref (qR g rr)), (2, .long 0), (4, .int 0)]) [0, 1, 2, 3] rfl ?_
  exact lp_5 _ 0 0  (Nat.lt_succ_self _) (Nat.zero_le _) rfl
set_option maxHeartbeats 1000000 in
theorem c_X12_wholes_5 (l : Launch) (hl : l.stackTraces = false) (G : hp_G) (X : Nat → Nat) (N0 : Nat) (M : hp_h) (g : RG) (σ : MS) (z : Nat → Int32) (C9 c9 : Nat) (hC : c9 + 1 = C9) (hR : REL G (X 0) g σ z (σ.1 31) C9 M) (hI : MI σ) (rr : Nat) (hr : rr < nR σ) (hk9 : kd σ rr = 5) : HM l yX12_wholes (ws_ yX12_wholes cX12_wholes 7 (some .long)) 14 500 0 0 G X N0 [.ref (qH g 5), .ref (qR g rr)] M (PV (.long (mf_sumN σ rr (ln σ rr)).1) M) PX0 := by
  refine HM.of hl [(0, .ref (qH g 5)), (1, .ref (qR g rr))] (by decide +kernel) rfl (Nat.le_of_ble_eq_true rfl) ?_
  intro p e s m args below meth c C hname
  have hN := hR.N
  have hH9 : M (qH g 5) = some (.inr (15, [.int 1, .ref (qN g), .int 0, .int 10, .ref (qN g), .ref (qN g)])) := hR.H (by decide)
  refine V_lconst (v := 0) C dX12_wholes_0 rfl ?_
  refine V_lstore_n C dX12_wholes_1 rfl (Nat.le_of_ble_eq_true rfl) [(0, .ref (qH g 5)), (1, .ref (qR g rr)), (2, .long 0)] [1, 2, 0] rfl ?_
  refine V_iconst (v := 0) C dX12_wholes_2 rfl ?_
  refine V_istore C dX12_wholes_3 (Nat.le_of_ble_eq_true rfl) [(0, .ref (qH g 5)), (1, .ref (qR g rr)), (2, .long 0), (4, .int 0)] [1, 2, 3, 0] rfl ?_
  obtain ⟨xr, hra, hrx, hrc⟩ := hR.rw hr
  obtain ⟨hkE, hkL⟩ := hI.k hr
  obtain ⟨hlE, hlL⟩ := hI.l hr
  rw [hk9] at hra hrx hrc
  have lp_5 : ∀ (fu9 : Nat) (q : Nat) (sm : Int64), ln σ rr - q < fu9 → (q ≤ ln σ rr) → (sm = (mf_sumN σ rr q).1) → V p l e { frames := 14, cells := 0, slots := 0, locals := 500 } s m args below meth c G N0 7 (QV below G N0 (PV (.long (mf_sumN σ rr (ln σ rr)).1) M) PX0 args s (0) (0)) (0) (0) M 5 [(0, .ref (qH g 5)), (1, .ref (qR g rr)), (2, .long sm), (4, .int (nI q))] [] := by
    intro fu9
    induction fu9 with
    | zero => intro q sm  hfu9; exact absurd hfu9 (Nat.not_lt_zero _)
    | succ fu9 ih5 =>
      intro q sm  hfu9 hq hsm
      refine V_iload C dX12_wholes_5 3 rfl ?_
      refine V_aload_n C dX12_wholes_7 rfl 1 rfl ?_
      refine V_callSN C (c_X1_sizeOf l hl G X N0 M (qR g rr) 5 (by decide) xr hra) cs_X12_36 rfl rfl ⟨Nat.le_of_ble_eq_true rfl, Nat.le_of_ble_eq_true rfl⟩ ⟨(by first | exact Nat.le_of_ble_eq_true rfl | omega | (dsimp only; omega) | (simp only [List.length_cons, List.length_nil]; omega)), (by first | exact Nat.le_of_ble_eq_true rfl | omega | (dsimp only; omega) | (simp only [List.length_cons, List.length_nil]; omega))⟩ (Nat.le_of_ble_eq_true rfl) dX12_wholes_8 (fun _ _ _ h => px0 h) ?_
      rintro _ _ ⟨rfl, rfl⟩
      refine V_st (st' := [.int (nI xr.1), .int (nI q)]) rfl ?_
      refine V_st (st' := [.int (nI (ln σ rr)), .int (nI q)]) (by rw [hrx.1]) ?_
      refine V_icmp_ge (tgt := 79) C dX12_wholes_11 (by decide) (fun c_11 => ?_) (fun c_11 => ?_)
      · refine V_lload_n C dX12_wholes_79 rfl 2 rfl ?_
        refine V_lret C dX12_wholes_80 rfl ?_ (by first | exact Nat.le_of_ble_eq_true rfl | omega | (dsimp only; omega) | (simp only [List.length_cons, List.length_nil]; omega)) (by first | exact Nat.le_of_ble_eq_true rfl | omega | (dsimp only; omega) | (simp only [List.length_cons, List.length_nil]; omega))
        have hq3 : q = ln σ rr := by have := (nI_leI (by omega) (by omega)).mp c_11; omega
        exact ⟨by rw [hsm, hq3], rfl⟩
      · have hq2 : q < ln σ rr := nI_ltN9 (by omega) (by omega) c_11
        refine V_aload_n C dX12_wholes_14 rfl 1 rfl ?_
        refine V_instAN C (j := 5) (nm := "[[I") (by decide) q1353 (List.mem_of_getElem? (i := 59) rfl) hra dX12_wholes_15 ?_
        refine V_if_eq (tgt := 64) C dX12_wholes_18 (by decide) (fun c_18 => ?_) (fun c_18 => ?_)
        · refine V_pc (pc1 := 64) rfl ?_
          refine V_lload_n C dX12_wholes_64 rfl 2 rfl ?_
          refine V_aload_n C dX12_wholes_65 rfl 1 rfl ?_
          refine V_iload C dX12_wholes_66 3 rfl ?_
          refine V_callSN C (c_X1_get l hl G X N0 M (qR g rr) 5 q xr (el σ rr q) (by decide) hra (by rw [hrx.1]; omega) (by rw [hrx.1]; omega) (hrc q (by omega)) (hR.UH hI)) cs_X12_60 rfl rfl ⟨Nat.le_of_ble_eq_true rfl, Nat.le_of_ble_eq_true rfl⟩ ⟨(by first | exact Nat.le_of_ble_eq_true rfl | omega | (dsimp only; omega) | (simp only [List.length_cons, List.length_nil]; omega)), (by first | exact Nat.le_of_ble_eq_true rfl | omega | (dsimp only; omega) | (simp only [List.length_cons, List.length_nil]; omega))⟩ (Nat.le_of_ble_eq_true rfl) dX12_wholes_68 (fun _ _ _ h => px0 h) ?_
          rintro _ _ ⟨rfl, rfl⟩
          refine V_st (st' := [.long (el σ rr q), .long sm]) rfl ?_
          refine V_ladd C dX12_wholes_71 ?_
          refine V_lstore_n C dX12_wholes_72 rfl (Nat.le_of_ble_eq_true rfl) [(0, .ref (qH g 5)), (1, .ref (qR g rr)), (2, .long (sm + (el σ rr q))), (4, .int (nI q))] [1, 2, 0, 3] rfl ?_
          refine V_iinc (v := nI (q + 1)) C dX12_wholes_73 (k := 3) rfl (nI_add q 1) (Nat.le_of_ble_eq_true rfl) [(0, .ref (qH g 5)), (1, .ref (qR g rr)), (2, .long (sm + (el σ rr q))), (4, .int (nI (q + 1)))] [1, 2, 3, 0] rfl ?_
          refine V_goto (tgt := 5) C dX12_wholes_76 (by decide) ?_
          exact ih5 (q + 1) (sm + (el σ rr q))  (by omega) (by omega) (by rw [hsm, sum_small hI hr (by omega)])
        · exact absurd c_18 (by decide)
  refine V_loc (L' := [(0, .ref (qH g 5)), (1, .ref (qR g rr)), (2, .long 0), (4, .int 0)]) [0, 1, 2, 3] rfl ?_
  exact lp_5 _ 0 0  (Nat.lt_succ_self _) (Nat.zero_le _) rfl
set_option maxHeartbeats 1000000 in
theorem c_X12_wholes_10 (l : Launch) (hl : l.stackTraces = false) (G : hp_G) (X : Nat → Nat) (N0 : Nat) (M : hp_h) (g : RG) (σ : MS) (z : Nat → Int32) (C9 c9 : Nat) (hC : c9 + 1 = C9) (hR : REL G (X 0) g σ z (σ.1 31) C9 M) (hI : MI σ) (rr : Nat) (hr : rr < nR σ) (hk9 : kd σ rr = 10) : HM l yX12_wholes (ws_ yX12_wholes cX12_wholes 7 (some .long)) 14 500 0 0 G X N0 [.ref (qH g 5), .ref (qR g rr)] M (PV (.long (mf_sumN σ rr (ln σ rr)).1) M) PX0 := by
  refine HM.of hl [(0, .ref (qH g 5)), (1, .ref (qR g rr))] (by decide +kernel) rfl (Nat.le_of_ble_eq_true rfl) ?_
  intro p e s m args below meth c C hname
  have hN := hR.N
  have hH9 : M (qH g 5) = some (.inr (15, [.int 1, .ref (qN g), .int 0, .int 10, .ref (qN g), .ref (qN g)])) := hR.H (by decide)
  refine V_lconst (v := 0) C dX12_wholes_0 rfl ?_
  refine V_lstore_n C dX12_wholes_1 rfl (Nat.le_of_ble_eq_true rfl) [(0, .ref (qH g 5)), (1, .ref (qR g rr)), (2, .long 0)] [1, 2, 0] rfl ?_
  refine V_iconst (v := 0) C dX12_wholes_2 rfl ?_
  refine V_istore C dX12_wholes_3 (Nat.le_of_ble_eq_true rfl) [(0, .ref (qH g 5)), (1, .ref (qR g rr)), (2, .long 0), (4, .int 0)] [1, 2, 3, 0] rfl ?_
  obtain ⟨f10, hf1, hf2⟩ := hR.r10 hr hk9
  obtain ⟨hlE, hlL⟩ := hI.l hr
  have lp_5 : ∀ (fu9 : Nat) (q : Nat) (sm : Int64), ln σ rr - q < fu9 → (q ≤ ln σ rr) → (sm = (mf_sumN σ rr q).1) → V p l e { frames := 14, cells := 0, slots := 0, locals := 500 } s m args below meth c G N0 7 (QV below G N0 (PV (.long (mf_sumN σ rr (ln σ rr)).1) M) PX0 args s (0) (0)) (0) (0) M 5 [(0, .ref (qH g 5)), (1, .ref (qR g rr)), (2, .long sm), (4, .int (nI q))] [] := by
    intro fu9
    induction fu9 with
    | zero => intro q sm  hfu9; exact absurd hfu9 (Nat.not_lt_zero _)
    | succ fu9 ih5 =>
      intro q sm  hfu9 hq hsm
      refine V_iload C dX12_wholes_5 3 rfl ?_
      refine V_aload_n C dX12_wholes_7 rfl 1 rfl ?_
      refine V_callSN C (c_X1_sizeOf l hl G X N0 M (qR g rr) 10 (by decide) _ hf1) cs_X12_36 rfl rfl ⟨Nat.le_of_ble_eq_true rfl, Nat.le_of_ble_eq_true rfl⟩ ⟨(by first | exact Nat.le_of_ble_eq_true rfl | omega | (dsimp only; omega) | (simp only [List.length_cons, List.length_nil]; omega)), (by first | exact Nat.le_of_ble_eq_true rfl | omega | (dsimp only; omega) | (simp only [List.length_cons, List.length_nil]; omega))⟩ (Nat.le_of_ble_eq_true rfl) dX12_wholes_8 (fun _ _ _ h => px0 h) ?_
      rintro _ _ ⟨rfl, rfl⟩
      refine V_st (st' := [.int (nI (ln σ rr)), .int (nI q)]) rfl ?_
      refine V_icmp_ge (tgt := 79) C dX12_wholes_11 (by decide) (fun c_11 => ?_) (fun c_11 => ?_)
      · refine V_lload_n C dX12_wholes_79 rfl 2 rfl ?_
        refine V_lret C dX12_wholes_80 rfl ?_ (by first | exact Nat.le_of_ble_eq_true rfl | omega | (dsimp only; omega) | (simp only [List.length_cons, List.length_nil]; omega)) (by first | exact Nat.le_of_ble_eq_true rfl | omega | (dsimp only; omega) | (simp only [List.length_cons, List.length_nil]; omega))
        have hq3 : q = ln σ rr := by have := (nI_leI (by omega) (by omega)).mp c_11; omega
        exact ⟨by rw [hsm, hq3], rfl⟩
      · refine V_aload_n C dX12_wholes_14 rfl 1 rfl ?_
        refine V_instAY C (j := 10) (by decide) q1353 (Or.inl rfl) hf1 dX12_wholes_15 ?_
        refine V_if_eq (tgt := 64) C dX12_wholes_18 (by decide) (fun c_18 => ?_) (fun c_18 => ?_)
        · exact absurd c_18 (by decide)
        · refine V_pc (pc1 := 21) rfl ?_
          refine V_aload_n C dX12_wholes_21 rfl 1 rfl ?_
          refine V_castA C (j := 10) (by decide) q1353 (Or.inl rfl) hf1 dX12_wholes_22 ?_
          refine V_iload C dX12_wholes_25 3 rfl ?_
          have hq2 : q < ln σ rr := nI_ltN9 (by omega) (by omega) c_11
          rcases hf2 q hq2 with ⟨he, hfn⟩ | ⟨jj, hj, he, hfu⟩
          · skip
            refine V_aald C (j := 10) rfl rfl hf1 (vp_in_nI (by omega) (by omega)) dX12_wholes_27 ?_
            refine V_st (st' := [.null]) (by rw [nI_clamp (by omega), hfn]; rfl) ?_
            refine V_astoreN C dX12_wholes_28 (Nat.le_of_ble_eq_true rfl) [(0, .ref (qH g 5)), (1, .ref (qR g rr)), (2, .long sm), (4, .int (nI q)), (5, .null)] [1, 2, 3, 4, 0] rfl ?_
            refine V_iconst (v := 0) C dX12_wholes_30 rfl ?_
            refine V_istore C dX12_wholes_31 (Nat.le_of_ble_eq_true rfl) [(0, .ref (qH g 5)), (1, .ref (qR g rr)), (2, .long sm), (4, .int (nI q)), (5, .null), (6, .int 0)] [1, 2, 3, 4, 5, 0] rfl ?_
            refine V_aloadN C dX12_wholes_33 4 rfl ?_
            refine V_ifnullN (tgt := 61) C dX12_wholes_35 (by decide) ?_
            refine V_goto (tgt := 73) C dX12_wholes_61 (by decide) ?_
            refine V_iinc (v := nI (q + 1)) C dX12_wholes_73 (k := 3) rfl (nI_add q 1) (Nat.le_of_ble_eq_true rfl) [(0, .ref (qH g 5)), (1, .ref (qR g rr)), (2, .long sm), (4, .int (nI (q + 1))), (5, .null), (6, .int 0)] [1, 2, 3, 0, 4, 5] rfl ?_
            refine V_goto (tgt := 5) C dX12_wholes_76 (by decide) ?_
            refine V_loc (L' := [(0, .ref (qH g 5)), (1, .ref (qR g rr)), (2, .long sm), (4, .int (nI (q + 1)))]) [0, 1, 2, 3] rfl ?_
            exact ih5 (q + 1) sm  (by omega) (by omega) (by rw [hsm, sum_inner hI hr hk9, he]; rfl)
          · skip
            obtain ⟨fj, hj1, hj2⟩ := hR.ji hj
            have hjl := (hI.il hj).2
            refine V_aald C (j := 10) rfl rfl hf1 (vp_in_nI (by omega) (by omega)) dX12_wholes_27 ?_
            refine V_st (st' := [.ref (qJ g jj)]) (by rw [nI_clamp (by omega), hfu]; rfl) ?_
            refine V_astore C dX12_wholes_28 (Nat.le_of_ble_eq_true rfl) [(0, .ref (qH g 5)), (1, .ref (qR g rr)), (2, .long sm), (4, .int (nI q)), (5, .ref (qJ g jj))] [1, 2, 3, 4, 0] rfl ?_
            refine V_iconst (v := 0) C dX12_wholes_30 rfl ?_
            refine V_istore C dX12_wholes_31 (Nat.le_of_ble_eq_true rfl) [(0, .ref (qH g 5)), (1, .ref (qR g rr)), (2, .long sm), (4, .int (nI q)), (5, .ref (qJ g jj)), (6, .int 0)] [1, 2, 3, 4, 5, 0] rfl ?_
            have il_33 : ∀ (fu9 : Nat) (i9 : Nat) (s2 : Int64), iln σ jj - i9 < fu9 → (i9 ≤ iln σ jj) → (s2 = mf_sumI σ jj sm i9) → V p l e { frames := 14, cells := 0, slots := 0, locals := 500 } s m args below meth c G N0 7 (QV below G N0 (PV (.long (mf_sumN σ rr (ln σ rr)).1) M) PX0 args s (0) (0)) (0) (0) M 33 [(0, .ref (qH g 5)), (1, .ref (qR g rr)), (2, .long s2), (4, .int (nI q)), (5, .ref (qJ g jj)), (6, .int (nI i9))] [] := by
              intro fu9
              induction fu9 with
              | zero => intro i9 s2  hfu9; exact absurd hfu9 (Nat.not_lt_zero _)
              | succ fu9 ih33 =>
                intro i9 s2  hfu9 hi9 hs2
                refine V_aload C dX12_wholes_33 4 rfl ?_
                refine V_ifnull C dX12_wholes_35 ?_
                refine V_iload C dX12_wholes_38 5 rfl ?_
                refine V_aload C dX12_wholes_40 4 rfl ?_
                refine V_alen (j := 4) C rfl hj1 (v := nI (iln σ jj)) rfl dX12_wholes_42 ?_
                refine V_pc (pc1 := 43) rfl ?_
                refine V_icmp_ge (tgt := 61) C dX12_wholes_43 (by decide) (fun c_43 => ?_) (fun c_43 => ?_)
                · have hi3 : i9 = iln σ jj := by have := (nI_leI (by omega) (by omega)).mp c_43; omega
                  refine V_goto (tgt := 73) C dX12_wholes_61 (by decide) ?_
                  refine V_iinc (v := nI (q + 1)) C dX12_wholes_73 (k := 3) rfl (nI_add q 1) (Nat.le_of_ble_eq_true rfl) [(0, .ref (qH g 5)), (1, .ref (qR g rr)), (2, .long s2), (4, .int (nI (q + 1))), (5, .ref (qJ g jj)), (6, .int (nI i9))] [1, 2, 3, 0, 4, 5] rfl ?_
                  refine V_goto (tgt := 5) C dX12_wholes_76 (by decide) ?_
                  refine V_loc (L' := [(0, .ref (qH g 5)), (1, .ref (qR g rr)), (2, .long s2), (4, .int (nI (q + 1)))]) [0, 1, 2, 3] rfl ?_
                  exact ih5 (q + 1) s2  (by omega) (by omega) (by have hJ := hI.J.2; rw [hs2, sum_inner hI hr hk9, he, if_neg (lN_neg (by omega)), lN_i, nI_clamp (by omega), hsm, hi3])
                · have hi2 : i9 < iln σ jj := nI_ltN9 (by omega) (by omega) c_43
                  refine V_lload_n C dX12_wholes_46 rfl 2 rfl ?_
                  refine V_aload C dX12_wholes_47 4 rfl ?_
                  refine V_iload C dX12_wholes_49 5 rfl ?_
                  refine V_iald C hj1 (vp_in_nI (by omega) (by omega)) dX12_wholes_51 ?_
                  refine V_st (st' := [.int (fj i9), .long s2]) (by rw [nI_clamp (by omega)]) ?_
                  refine V_i2l (v := (fj i9).toInt64) C dX12_wholes_52 rfl ?_
                  refine V_ladd C dX12_wholes_53 ?_
                  refine V_lstore_n C dX12_wholes_54 rfl (Nat.le_of_ble_eq_true rfl) [(0, .ref (qH g 5)), (1, .ref (qR g rr)), (2, .long (s2 + ((fj i9).toInt64))), (4, .int (nI q)), (5, .ref (qJ g jj)), (6, .int (nI i9))] [1, 2, 0, 3, 4, 5] rfl ?_
                  refine V_iinc (v := nI (i9 + 1)) C dX12_wholes_55 (k := 5) rfl (nI_add i9 1) (Nat.le_of_ble_eq_true rfl) [(0, .ref (qH g 5)), (1, .ref (qR g rr)), (2, .long (s2 + ((fj i9).toInt64))), (4, .int (nI q)), (5, .ref (qJ g jj)), (6, .int (nI (i9 + 1)))] [1, 2, 3, 4, 5, 0] rfl ?_
                  refine V_goto (tgt := 33) C dX12_wholes_58 (by decide) ?_
                  exact ih33 (i9 + 1) (s2 + ((fj i9).toInt64))  (by omega) (by omega) (by rw [hs2, hj2 i9 (by omega)]; rfl)
            refine V_loc (L' := [(0, .ref (qH g 5)), (1, .ref (qR g rr)), (2, .long sm), (4, .int (nI q)), (5, .ref (qJ g jj)), (6, .int 0)]) [0, 1, 2, 3, 4, 5] rfl ?_
            exact il_33 _ 0 sm  (Nat.lt_succ_self _) (Nat.zero_le _) rfl
  refine V_loc (L' := [(0, .ref (qH g 5)), (1, .ref (qR g rr)), (2, .long 0), (4, .int 0)]) [0, 1, 2, 3] rfl ?_
  exact lp_5 _ 0 0  (Nat.lt_succ_self _) (Nat.zero_le _) rfl
set_option maxHeartbeats 1000000 in
theorem c_X12_work_0 (l : Launch) (hl : l.stackTraces = false) (G : hp_G) (X : Nat → Nat) (N0 : Nat) (M : hp_h) (g : RG) (σ : MS) (z : Nat → Int32) (C9 c9 : Nat) (hC : c9 + 1 = C9) (hR : REL G (X 0) g σ z (σ.1 31) C9 M) (hI : MI σ) (P9 K9 rr : Nat) (x0 i b j n : Int32) (hP9 : P9 < 6) (hK9 : K9 < psz σ P9) (hr : rr < nR σ) (hAF : AF σ P9 K9 = [.int x0, .int (nI rr), .int i, .int b, .int j, .int n]) (hk9 : kd σ rr = 0) : HM l yX12_work (ws_ yX12_work cX12_work 4 (some .long)) 18 700 1 7 G X N0 [.ref (qH g 5), .ref (qA g P9 K9), .ref (qC g c9)] M (WP G (X 0) g σ z C9 M (mf_sum σ rr)) PX0 := by
  refine HM.of hl [(0, .ref (qH g 5)), (1, .ref (qA g P9 K9)), (2, .ref (qC g c9))] (by decide +kernel) rfl (Nat.le_of_ble_eq_true rfl) ?_
  intro p e s m args below meth c C hname
  have hN := hR.N
  have hH9 : M (qH g 5) = some (.inr (15, [.int 1, .ref (qN g), .int 0, .int 10, .ref (qN g), .ref (qN g)])) := hR.H (by decide)
  have hac : M (qA g P9 K9) = some (.inr (3, [.int x0, .int (nI rr), .int i, .int b, .int j, .int n])) := (hR.A hP9 hK9).trans (congrArg (fun y => some (Sum.inr (3, y))) hAF)
  refine V_aload_n C dX12_work_0 rfl 0 rfl ?_
  refine V_aload_n C dX12_work_1 rfl 1 rfl ?_
  refine V_callU C (c_X5_row_15 l hl G X N0 M g σ z C9 c9 hC hR hI (qH g 5) hH9 (qA g P9 K9) x0 rr i b j n hr hac (by omega)) cs_X12_15_15 hH9 (show CLS[15]? = some (RX12, TX12, 6) from rfl) rfl rfl ⟨Nat.le_of_ble_eq_true rfl, Nat.le_of_ble_eq_true rfl⟩ ⟨(by first | exact Nat.le_of_ble_eq_true rfl | omega | (dsimp only; omega) | (simp only [List.length_cons, List.length_nil]; omega)), (by first | exact Nat.le_of_ble_eq_true rfl | omega | (dsimp only; omega) | (simp only [List.length_cons, List.length_nil]; omega))⟩ (Nat.le_of_ble_eq_true rfl) dX12_work_2 (fun _ _ _ h => px0 h) ?_
  rintro _ _ ⟨rfl, rfl⟩
  refine V_st (st' := [.ref (qR g rr)]) rfl ?_
  obtain ⟨xr, hra, hrx, hrc⟩ := hR.rw hr
  obtain ⟨hkE, hkL⟩ := hI.k hr
  obtain ⟨hlE, hlL⟩ := hI.l hr
  rw [hk9] at hra hrx hrc
  refine V_astore_n C dX12_work_5 rfl (Nat.le_of_ble_eq_true rfl) [(0, .ref (qH g 5)), (1, .ref (qA g P9 K9)), (2, .ref (qC g c9)), (3, .ref (qR g rr))] [1, 2, 3, 0] rfl ?_
  refine V_aload_n C dX12_work_6 rfl 3 rfl ?_
  refine V_callSN C (c_X1_isReal l hl G X N0 M (qR g rr) 0 (by decide) xr hra) cs_X12_19 rfl rfl ⟨Nat.le_of_ble_eq_true rfl, Nat.le_of_ble_eq_true rfl⟩ ⟨(by first | exact Nat.le_of_ble_eq_true rfl | omega | (dsimp only; omega) | (simp only [List.length_cons, List.length_nil]; omega)), (by first | exact Nat.le_of_ble_eq_true rfl | omega | (dsimp only; omega) | (simp only [List.length_cons, List.length_nil]; omega))⟩ (Nat.le_of_ble_eq_true rfl) dX12_work_7 (fun _ _ _ h => px0 h) ?_
  rintro _ _ ⟨rfl, rfl⟩
  refine V_st (st' := [.int (bI (0 = 6 ∨ 0 = 7))]) rfl ?_
  refine V_if_eq (tgt := 21) C dX12_work_10 (by decide) (fun c_10 => ?_) (fun c_10 => ?_)
  · refine V_aload_n C dX12_work_21 rfl 3 rfl ?_
    refine V_instAN C (j := 0) (nm := "[LNativeSubset$Unit;") (by decide) q1343 (List.mem_of_getElem? (i := 7) rfl) hra dX12_work_22 ?_
    refine V_if_eq (tgt := 39) C dX12_work_25 (by decide) (fun c_25 => ?_) (fun c_25 => ?_)
    · refine V_aload_n C dX12_work_39 rfl 0 rfl ?_
      refine V_pc (pc1 := 40) rfl ?_
      refine V_aload_n C dX12_work_40 rfl 3 rfl ?_
      refine V_callV C (c_X12_wholes_0 l hl G X N0 M g σ z C9 c9 hC hR hI rr hr hk9) cs_X12_33_15 hH9 (show CLS[15]? = some (RX12, TX12, 6) from rfl) rfl rfl ⟨Nat.le_of_ble_eq_true rfl, Nat.le_of_ble_eq_true rfl⟩ ⟨(by first | exact Nat.le_of_ble_eq_true rfl | omega | (dsimp only; omega) | (simp only [List.length_cons, List.length_nil]; omega)), (by first | exact Nat.le_of_ble_eq_true rfl | omega | (dsimp only; omega) | (simp only [List.length_cons, List.length_nil]; omega))⟩ (Nat.le_of_ble_eq_true rfl) dX12_work_41 (fun _ _ _ h => px0 h) ?_
      rintro _ _ ⟨rfl, rfl⟩
      refine V_st (st' := [.long ((mf_sumN σ rr (ln σ rr)).1)]) rfl ?_
      refine V_lret C dX12_work_44 rfl ?_ (by first | exact Nat.le_of_ble_eq_true rfl | omega | (dsimp only; omega) | (simp only [List.length_cons, List.length_nil]; omega)) (by first | exact Nat.le_of_ble_eq_true rfl | omega | (dsimp only; omega) | (simp only [List.length_cons, List.length_nil]; omega))
      exact WP.read hR (by unfold mf_sum; rw [if_neg (show ¬ (σ.2.1 2 rr = 6 ∨ σ.2.1 2 rr = 7) from by rw [hkE, hk9]; decide)])
    · exact absurd c_25 (by decide)
  · exact absurd c_10 (by decide)
set_option maxHeartbeats 1000000 in
theorem c_X12_work_1 (l : Launch) (hl : l.stackTraces = false) (G : hp_G) (X : Nat → Nat) (N0 : Nat) (M : hp_h) (g : RG) (σ : MS) (z : Nat → Int32) (C9 c9 : Nat) (hC : c9 + 1 = C9) (hR : REL G (X 0) g σ z (σ.1 31) C9 M) (hI : MI σ) (P9 K9 rr : Nat) (x0 i b j n : Int32) (hP9 : P9 < 6) (hK9 : K9 < psz σ P9) (hr : rr < nR σ) (hAF : AF σ P9 K9 = [.int x0, .int (nI rr), .int i, .int b, .int j, .int n]) (hk9 : kd σ rr = 1) : HM l yX12_work (ws_ yX12_work cX12_work 4 (some .long)) 18 700 1 7 G X N0 [.ref (qH g 5), .ref (qA g P9 K9), .ref (qC g c9)] M (WP G (X 0) g σ z C9 M (mf_sum σ rr)) PX0 := by
  refine HM.of hl [(0, .ref (qH g 5)), (1, .ref (qA g P9 K9)), (2, .ref (qC g c9))] (by decide +kernel) rfl (Nat.le_of_ble_eq_true rfl) ?_
  intro p e s m args below meth c C hname
  have hN := hR.N
  have hH9 : M (qH g 5) = some (.inr (15, [.int 1, .ref (qN g), .int 0, .int 10, .ref (qN g), .ref (qN g)])) := hR.H (by decide)
  have hac : M (qA g P9 K9) = some (.inr (3, [.int x0, .int (nI rr), .int i, .int b, .int j, .int n])) := (hR.A hP9 hK9).trans (congrArg (fun y => some (Sum.inr (3, y))) hAF)
  refine V_aload_n C dX12_work_0 rfl 0 rfl ?_
  refine V_aload_n C dX12_work_1 rfl 1 rfl ?_
  refine V_callU C (c_X5_row_15 l hl G X N0 M g σ z C9 c9 hC hR hI (qH g 5) hH9 (qA g P9 K9) x0 rr i b j n hr hac (by omega)) cs_X12_15_15 hH9 (show CLS[15]? = some (RX12, TX12, 6) from rfl) rfl rfl ⟨Nat.le_of_ble_eq_true rfl, Nat.le_of_ble_eq_true rfl⟩ ⟨(by first | exact Nat.le_of_ble_eq_true rfl | omega | (dsimp only; omega) | (simp only [List.length_cons, List.length_nil]; omega)), (by first | exact Nat.le_of_ble_eq_true rfl | omega | (dsimp only; omega) | (simp only [List.length_cons, List.length_nil]; omega))⟩ (Nat.le_of_ble_eq_true rfl) dX12_work_2 (fun _ _ _ h => px0 h) ?_
  rintro _ _ ⟨rfl, rfl⟩
  refine V_st (st' := [.ref (qR g rr)]) rfl ?_
  obtain ⟨xr, hra, hrx, hrc⟩ := hR.rw hr
  obtain ⟨hkE, hkL⟩ := hI.k hr
  obtain ⟨hlE, hlL⟩ := hI.l hr
  rw [hk9] at hra hrx hrc
  refine V_astore_n C dX12_work_5 rfl (Nat.le_of_ble_eq_true rfl) [(0, .ref (qH g 5)), (1, .ref (qA g P9 K9)), (2, .ref (qC g c9)), (3, .ref (qR g rr))] [1, 2, 3, 0] rfl ?_
  refine V_aload_n C dX12_work_6 rfl 3 rfl ?_
  refine V_callSN C (c_X1_isReal l hl G X N0 M (qR g rr) 1 (by decide) xr hra) cs_X12_19 rfl rfl ⟨Nat.le_of_ble_eq_true rfl, Nat.le_of_ble_eq_true rfl⟩ ⟨(by first | exact Nat.le_of_ble_eq_true rfl | omega | (dsimp only; omega) | (simp only [List.length_cons, List.length_nil]; omega)), (by first | exact Nat.le_of_ble_eq_true rfl | omega | (dsimp only; omega) | (simp only [List.length_cons, List.length_nil]; omega))⟩ (Nat.le_of_ble_eq_true rfl) dX12_work_7 (fun _ _ _ h => px0 h) ?_
  rintro _ _ ⟨rfl, rfl⟩
  refine V_st (st' := [.int (bI (1 = 6 ∨ 1 = 7))]) rfl ?_
  refine V_if_eq (tgt := 21) C dX12_work_10 (by decide) (fun c_10 => ?_) (fun c_10 => ?_)
  · refine V_aload_n C dX12_work_21 rfl 3 rfl ?_
    refine V_instAN C (j := 1) (nm := "[LNativeSubset$Unit;") (by decide) q1343 (List.mem_of_getElem? (i := 17) rfl) hra dX12_work_22 ?_
    refine V_if_eq (tgt := 39) C dX12_work_25 (by decide) (fun c_25 => ?_) (fun c_25 => ?_)
    · refine V_aload_n C dX12_work_39 rfl 0 rfl ?_
      refine V_pc (pc1 := 40) rfl ?_
      refine V_aload_n C dX12_work_40 rfl 3 rfl ?_
      refine V_callV C (c_X12_wholes_1 l hl G X N0 M g σ z C9 c9 hC hR hI rr hr hk9) cs_X12_33_15 hH9 (show CLS[15]? = some (RX12, TX12, 6) from rfl) rfl rfl ⟨Nat.le_of_ble_eq_true rfl, Nat.le_of_ble_eq_true rfl⟩ ⟨(by first | exact Nat.le_of_ble_eq_true rfl | omega | (dsimp only; omega) | (simp only [List.length_cons, List.length_nil]; omega)), (by first | exact Nat.le_of_ble_eq_true rfl | omega | (dsimp only; omega) | (simp only [List.length_cons, List.length_nil]; omega))⟩ (Nat.le_of_ble_eq_true rfl) dX12_work_41 (fun _ _ _ h => px0 h) ?_
      rintro _ _ ⟨rfl, rfl⟩
      refine V_st (st' := [.long ((mf_sumN σ rr (ln σ rr)).1)]) rfl ?_
      refine V_lret C dX12_work_44 rfl ?_ (by first | exact Nat.le_of_ble_eq_true rfl | omega | (dsimp only; omega) | (simp only [List.length_cons, List.length_nil]; omega)) (by first | exact Nat.le_of_ble_eq_true rfl | omega | (dsimp only; omega) | (simp only [List.length_cons, List.length_nil]; omega))
      exact WP.read hR (by unfold mf_sum; rw [if_neg (show ¬ (σ.2.1 2 rr = 6 ∨ σ.2.1 2 rr = 7) from by rw [hkE, hk9]; decide)])
    · exact absurd c_25 (by decide)
  · exact absurd c_10 (by decide)
set_option maxHeartbeats 1000000 in
theorem c_X12_work_2 (l : Launch) (hl : l.stackTraces = false) (G : hp_G) (X : Nat → Nat) (N0 : Nat) (M : hp_h) (g : RG) (σ : MS) (z : Nat → Int32) (C9 c9 : Nat) (hC : c9 + 1 = C9) (hR : REL G (X 0) g σ z (σ.1 31) C9 M) (hI : MI σ) (P9 K9 rr : Nat) (x0 i b j n : Int32) (hP9 : P9 < 6) (hK9 : K9 < psz σ P9) (hr : rr < nR σ) (hAF : AF σ P9 K9 = [.int x0, .int (nI rr), .int i, .int b, .int j, .int n]) (hk9 : kd σ rr = 2) : HM l yX12_work (ws_ yX12_work cX12_work 4 (some .long)) 18 700 1 7 G X N0 [.ref (qH g 5), .ref (qA g P9 K9), .ref (qC g c9)] M (WP G (X 0) g σ z C9 M (mf_sum σ rr)) PX0 := by
  refine HM.of hl [(0, .ref (qH g 5)), (1, .ref (qA g P9 K9)), (2, .ref (qC g c9))] (by decide +kernel) rfl (Nat.le_of_ble_eq_true rfl) ?_
  intro p e s m args below meth c C hname
  have hN := hR.N
  have hH9 : M (qH g 5) = some (.inr (15, [.int 1, .ref (qN g), .int 0, .int 10, .ref (qN g), .ref (qN g)])) := hR.H (by decide)
  have hac : M (qA g P9 K9) = some (.inr (3, [.int x0, .int (nI rr), .int i, .int b, .int j, .int n])) := (hR.A hP9 hK9).trans (congrArg (fun y => some (Sum.inr (3, y))) hAF)
  refine V_aload_n C dX12_work_0 rfl 0 rfl ?_
  refine V_aload_n C dX12_work_1 rfl 1 rfl ?_
  refine V_callU C (c_X5_row_15 l hl G X N0 M g σ z C9 c9 hC hR hI (qH g 5) hH9 (qA g P9 K9) x0 rr i b j n hr hac (by omega)) cs_X12_15_15 hH9 (show CLS[15]? = some (RX12, TX12, 6) from rfl) rfl rfl ⟨Nat.le_of_ble_eq_true rfl, Nat.le_of_ble_eq_true rfl⟩ ⟨(by first | exact Nat.le_of_ble_eq_true rfl | omega | (dsimp only; omega) | (simp only [List.length_cons, List.length_nil]; omega)), (by first | exact Nat.le_of_ble_eq_true rfl | omega | (dsimp only; omega) | (simp only [List.length_cons, List.length_nil]; omega))⟩ (Nat.le_of_ble_eq_true rfl) dX12_work_2 (fun _ _ _ h => px0 h) ?_
  rintro _ _ ⟨rfl, rfl⟩
  refine V_st (st' := [.ref (qR g rr)]) rfl ?_
  obtain ⟨xr, hra, hrx, hrc⟩ := hR.rw hr
  obtain ⟨hkE, hkL⟩ := hI.k hr
  obtain ⟨hlE, hlL⟩ := hI.l hr
  rw [hk9] at hra hrx hrc
  refine V_astore_n C dX12_work_5 rfl (Nat.le_of_ble_eq_true rfl) [(0, .ref (qH g 5)), (1, .ref (qA g P9 K9)), (2, .ref (qC g c9)), (3, .ref (qR g rr))] [1, 2, 3, 0] rfl ?_
  refine V_aload_n C dX12_work_6 rfl 3 rfl ?_
  refine V_callSN C (c_X1_isReal l hl G X N0 M (qR g rr) 2 (by decide) xr hra) cs_X12_19 rfl rfl ⟨Nat.le_of_ble_eq_true rfl, Nat.le_of_ble_eq_true rfl⟩ ⟨(by first | exact Nat.le_of_ble_eq_true rfl | omega | (dsimp only; omega) | (simp only [List.length_cons, List.length_nil]; omega)), (by first | exact Nat.le_of_ble_eq_true rfl | omega | (dsimp only; omega) | (simp only [List.length_cons, List.length_nil]; omega))⟩ (Nat.le_of_ble_eq_true rfl) dX12_work_7 (fun _ _ _ h => px0 h) ?_
  rintro _ _ ⟨rfl, rfl⟩
  refine V_st (st' := [.int (bI (2 = 6 ∨ 2 = 7))]) rfl ?_
  refine V_if_eq (tgt := 21) C dX12_work_10 (by decide) (fun c_10 => ?_) (fun c_10 => ?_)
  · refine V_aload_n C dX12_work_21 rfl 3 rfl ?_
    refine V_instAN C (j := 2) (nm := "[LNativeSubset$Unit;") (by decide) q1343 (List.mem_of_getElem? (i := 27) rfl) hra dX12_work_22 ?_
    refine V_if_eq (tgt := 39) C dX12_work_25 (by decide) (fun c_25 => ?_) (fun c_25 => ?_)
    · refine V_aload_n C dX12_work_39 rfl 0 rfl ?_
      refine V_pc (pc1 := 40) rfl ?_
      refine V_aload_n C dX12_work_40 rfl 3 rfl ?_
      refine V_callV C (c_X12_wholes_2 l hl G X N0 M g σ z C9 c9 hC hR hI rr hr hk9) cs_X12_33_15 hH9 (show CLS[15]? = some (RX12, TX12, 6) from rfl) rfl rfl ⟨Nat.le_of_ble_eq_true rfl, Nat.le_of_ble_eq_true rfl⟩ ⟨(by first | exact Nat.le_of_ble_eq_true rfl | omega | (dsimp only; omega) | (simp only [List.length_cons, List.length_nil]; omega)), (by first | exact Nat.le_of_ble_eq_true rfl | omega | (dsimp only; omega) | (simp only [List.length_cons, List.length_nil]; omega))⟩ (Nat.le_of_ble_eq_true rfl) dX12_work_41 (fun _ _ _ h => px0 h) ?_
      rintro _ _ ⟨rfl, rfl⟩
      refine V_st (st' := [.long ((mf_sumN σ rr (ln σ rr)).1)]) rfl ?_
      refine V_lret C dX12_work_44 rfl ?_ (by first | exact Nat.le_of_ble_eq_true rfl | omega | (dsimp only; omega) | (simp only [List.length_cons, List.length_nil]; omega)) (by first | exact Nat.le_of_ble_eq_true rfl | omega | (dsimp only; omega) | (simp only [List.length_cons, List.length_nil]; omega))
      exact WP.read hR (by unfold mf_sum; rw [if_neg (show ¬ (σ.2.1 2 rr = 6 ∨ σ.2.1 2 rr = 7) from by rw [hkE, hk9]; decide)])
    · exact absurd c_25 (by decide)
  · exact absurd c_10 (by decide)
set_option maxHeartbeats 1000000 in
theorem c_X12_work_3 (l : Launch) (hl : l.stackTraces = false) (G : hp_G) (X : Nat → Nat) (N0 : Nat) (M : hp_h) (g : RG) (σ : MS) (z : Nat → Int32) (C9 c9 : Nat) (hC : c9 + 1 = C9) (hR : REL G (X 0) g σ z (σ.1 31) C9 M) (hI : MI σ) (P9 K9 rr : Nat) (x0 i b j n : Int32) (hP9 : P9 < 6) (hK9 : K9 < psz σ P9) (hr : rr < nR σ) (hAF : AF σ P9 K9 = [.int x0, .int (nI rr), .int i, .int b, .int j, .int n]) (hk9 : kd σ rr = 3) : HM l yX12_work (ws_ yX12_work cX12_work 4 (some .long)) 18 700 1 7 G X N0 [.ref (qH g 5), .ref (qA g P9 K9), .ref (qC g c9)] M (WP G (X 0) g σ z C9 M (mf_sum σ rr)) PX0 := by
  refine HM.of hl [(0, .ref (qH g 5)), (1, .ref (qA g P9 K9)), (2, .ref (qC g c9))] (by decide +kernel) rfl (Nat.le_of_ble_eq_true rfl) ?_
  intro p e s m args below meth c C hname
  have hN := hR.N
  have hH9 : M (qH g 5) = some (.inr (15, [.int 1, .ref (qN g), .int 0, .int 10, .ref (qN g), .ref (qN g)])) := hR.H (by decide)
  have hac : M (qA g P9 K9) = some (.inr (3, [.int x0, .int (nI rr), .int i, .int b, .int j, .int n])) := (hR.A hP9 hK9).trans (congrArg (fun y => some (Sum.inr (3, y))) hAF)
  refine V_aload_n C dX12_work_0 rfl 0 rfl ?_
  refine V_aload_n C dX12_work_1 rfl 1 rfl ?_
  refine V_callU C (c_X5_row_15 l hl G X N0 M g σ z C9 c9 hC hR hI (qH g 5) hH9 (qA g P9 K9) x0 rr i b j n hr hac (by omega)) cs_X12_15_15 hH9 (show CLS[15]? = some (RX12, TX12, 6) from rfl) rfl rfl ⟨Nat.le_of_ble_eq_true rfl, Nat.le_of_ble_eq_true rfl⟩ ⟨(by first | exact Nat.le_of_ble_eq_true rfl | omega | (dsimp only; omega) | (simp only [List.length_cons, List.length_nil]; omega)), (by first | exact Nat.le_of_ble_eq_true rfl | omega | (dsimp only; omega) | (simp only [List.length_cons, List.length_nil]; omega))⟩ (Nat.le_of_ble_eq_true rfl) dX12_work_2 (fun _ _ _ h => px0 h) ?_
  rintro _ _ ⟨rfl, rfl⟩
  refine V_st (st' := [.ref (qR g rr)]) rfl ?_
  obtain ⟨xr, hra, hrx, hrc⟩ := hR.rw hr
  obtain ⟨hkE, hkL⟩ := hI.k hr
  obtain ⟨hlE, hlL⟩ := hI.l hr
  rw [hk9] at hra hrx hrc
  refine V_astore_n C dX12_work_5 rfl (Nat.le_of_ble_eq_true rfl) [(0, .ref (qH g 5)), (1, .ref (qA g P9 K9)), (2, .ref (qC g c9)), (3, .ref (qR g rr))] [1, 2, 3, 0] rfl ?_
  refine V_aload_n C dX12_work_6 rfl 3 rfl ?_
  refine V_callSN C (c_X1_isReal l hl G X N0 M (qR g rr) 3 (by decide) xr hra) cs_X12_19 rfl rfl ⟨Nat.le_of_ble_eq_true rfl, Nat.le_of_ble_eq_true rfl⟩ ⟨(by first | exact Nat.le_of_ble_eq_true rfl | omega | (dsimp only; omega) | (simp only [List.length_cons, List.length_nil]; omega)), (by first | exact Nat.le_of_ble_eq_true rfl | omega | (dsimp only; omega) | (simp only [List.length_cons, List.length_nil]; omega))⟩ (Nat.le_of_ble_eq_true rfl) dX12_work_7 (fun _ _ _ h => px0 h) ?_
  rintro _ _ ⟨rfl, rfl⟩
  refine V_st (st' := [.int (bI (3 = 6 ∨ 3 = 7))]) rfl ?_
  refine V_if_eq (tgt := 21) C dX12_work_10 (by decide) (fun c_10 => ?_) (fun c_10 => ?_)
  · refine V_aload_n C dX12_work_21 rfl 3 rfl ?_
    refine V_instAN C (j := 3) (nm := "[LNativeSubset$Unit;") (by decide) q1343 (List.mem_of_getElem? (i := 37) rfl) hra dX12_work_22 ?_
    refine V_if_eq (tgt := 39) C dX12_work_25 (by decide) (fun c_25 => ?_) (fun c_25 => ?_)
    · refine V_aload_n C dX12_work_39 rfl 0 rfl ?_
      refine V_pc (pc1 := 40) rfl ?_
      refine V_aload_n C dX12_work_40 rfl 3 rfl ?_
      refine V_callV C (c_X12_wholes_3 l hl G X N0 M g σ z C9 c9 hC hR hI rr hr hk9) cs_X12_33_15 hH9 (show CLS[15]? = some (RX12, TX12, 6) from rfl) rfl rfl ⟨Nat.le_of_ble_eq_true rfl, Nat.le_of_ble_eq_true rfl⟩ ⟨(by first | exact Nat.le_of_ble_eq_true rfl | omega | (dsimp only; omega) | (simp only [List.length_cons, List.length_nil]; omega)), (by first | exact Nat.le_of_ble_eq_true rfl | omega | (dsimp only; omega) | (simp only [List.length_cons, List.length_nil]; omega))⟩ (Nat.le_of_ble_eq_true rfl) dX12_work_41 (fun _ _ _ h => px0 h) ?_
      rintro _ _ ⟨rfl, rfl⟩
      refine V_st (st' := [.long ((mf_sumN σ rr (ln σ rr)).1)]) rfl ?_
      refine V_lret C dX12_work_44 rfl ?_ (by first | exact Nat.le_of_ble_eq_true rfl | omega | (dsimp only; omega) | (simp only [List.length_cons, List.length_nil]; omega)) (by first | exact Nat.le_of_ble_eq_true rfl | omega | (dsimp only; omega) | (simp only [List.length_cons, List.length_nil]; omega))
      exact WP.read hR (by unfold mf_sum; rw [if_neg (show ¬ (σ.2.1 2 rr = 6 ∨ σ.2.1 2 rr = 7) from by rw [hkE, hk9]; decide)])
    · exact absurd c_25 (by decide)
  · exact absurd c_10 (by decide)
set_option maxHeartbeats 1000000 in
theorem c_X12_work_4 (l : Launch) (hl : l.stackTraces = false) (G : hp_G) (X : Nat → Nat) (N0 : Nat) (M : hp_h) (g : RG) (σ : MS) (z : Nat → Int32) (C9 c9 : Nat) (hC : c9 + 1 = C9) (hR : REL G (X 0) g σ z (σ.1 31) C9 M) (hI : MI σ) (P9 K9 rr : Nat) (x0 i b j n : Int32) (hP9 : P9 < 6) (hK9 : K9 < psz σ P9) (hr : rr < nR σ) (hAF : AF σ P9 K9 = [.int x0, .int (nI rr), .int i, .int b, .int j, .int n]) (hk9 : kd σ rr = 4) : HM l yX12_work (ws_ yX12_work cX12_work 4 (some .long)) 18 700 1 7 G X N0 [.ref (qH g 5), .ref (qA g P9 K9), .ref (qC g c9)] M (WP G (X 0) g σ z C9 M (mf_sum σ rr)) PX0 := by
  refine HM.of hl [(0, .ref (qH g 5)), (1, .ref (qA g P9 K9)), (2, .ref (qC g c9))] (by decide +kernel) rfl (Nat.le_of_ble_eq_true rfl) ?_
  intro p e s m args below meth c C hname
  have hN := hR.N
  have hH9 : M (qH g 5) = some (.inr (15, [.int 1, .ref (qN g), .int 0, .int 10, .ref (qN g), .ref (qN g)])) := hR.H (by decide)
  have hac : M (qA g P9 K9) = some (.inr (3, [.int x0, .int (nI rr), .int i, .int b, .int j, .int n])) := (hR.A hP9 hK9).trans (congrArg (fun y => some (Sum.inr (3, y))) hAF)
  refine V_aload_n C dX12_work_0 rfl 0 rfl ?_
  refine V_aload_n C dX12_work_1 rfl 1 rfl ?_
  refine V_callU C (c_X5_row_15 l hl G X N0 M g σ z C9 c9 hC hR hI (qH g 5) hH9 (qA g P9 K9) x0 rr i b j n hr hac (by omega)) cs_X12_15_15 hH9 (show CLS[15]? = some (RX12, TX12, 6) from rfl) rfl rfl ⟨Nat.le_of_ble_eq_true rfl, Nat.le_of_ble_eq_true rfl⟩ ⟨(by first | exact Nat.le_of_ble_eq_true rfl | omega | (dsimp only; omega) | (simp only [List.length_cons, List.length_nil]; omega)), (by first | exact Nat.le_of_ble_eq_true rfl | omega | (dsimp only; omega) | (simp only [List.length_cons, List.length_nil]; omega))⟩ (Nat.le_of_ble_eq_true rfl) dX12_work_2 (fun _ _ _ h => px0 h) ?_
  rintro _ _ ⟨rfl, rfl⟩
  refine V_st (st' := [.ref (qR g rr)]) rfl ?_
  obtain ⟨xr, hra, hrx, hrc⟩ := hR.rw hr
  obtain ⟨hkE, hkL⟩ := hI.k hr
  obtain ⟨hlE, hlL⟩ := hI.l hr
  rw [hk9] at hra hrx hrc
  refine V_astore_n C dX12_work_5 rfl (Nat.le_of_ble_eq_true rfl) [(0, .ref (qH g 5)), (1, .ref (qA g P9 K9)), (2, .ref (qC g c9)), (3, .ref (qR g rr))] [1, 2, 3, 0] rfl ?_
  refine V_aload_n C dX12_work_6 rfl 3 rfl ?_
  refine V_callSN C (c_X1_isReal l hl G X N0 M (qR g rr) 4 (by decide) xr hra) cs_X12_19 rfl rfl ⟨Nat.le_of_ble_eq_true rfl, Nat.le_of_ble_eq_true rfl⟩ ⟨(by first | exact Nat.le_of_ble_eq_true rfl | omega | (dsimp only; omega) | (simp only [List.length_cons, List.length_nil]; omega)), (by first | exact Nat.le_of_ble_eq_true rfl | omega | (dsimp only; omega) | (simp only [List.length_cons, List.length_nil]; omega))⟩ (Nat.le_of_ble_eq_true rfl) dX12_work_7 (fun _ _ _ h => px0 h) ?_
  rintro _ _ ⟨rfl, rfl⟩
  refine V_st (st' := [.int (bI (4 = 6 ∨ 4 = 7))]) rfl ?_
  refine V_if_eq (tgt := 21) C dX12_work_10 (by decide) (fun c_10 => ?_) (fun c_10 => ?_)
  · refine V_aload_n C dX12_work_21 rfl 3 rfl ?_
    refine V_instAN C (j := 4) (nm := "[LNativeSubset$Unit;") (by decide) q1343 (List.mem_of_getElem? (i := 47) rfl) hra dX12_work_22 ?_
    refine V_if_eq (tgt := 39) C dX12_work_25 (by decide) (fun c_25 => ?_) (fun c_25 => ?_)
    · refine V_aload_n C dX12_work_39 rfl 0 rfl ?_
      refine V_pc (pc1 := 40) rfl ?_
      refine V_aload_n C dX12_work_40 rfl 3 rfl ?_
      refine V_callV C (c_X12_wholes_4 l hl G X N0 M g σ z C9 c9 hC hR hI rr hr hk9) cs_X12_33_15 hH9 (show CLS[15]? = some (RX12, TX12, 6) from rfl) rfl rfl ⟨Nat.le_of_ble_eq_true rfl, Nat.le_of_ble_eq_true rfl⟩ ⟨(by first | exact Nat.le_of_ble_eq_true rfl | omega | (dsimp only; omega) | (simp only [List.length_cons, List.length_nil]; omega)), (by first | exact Nat.le_of_ble_eq_true rfl | omega | (dsimp only; omega) | (simp only [List.length_cons, List.length_nil]; omega))⟩ (Nat.le_of_ble_eq_true rfl) dX12_work_41 (fun _ _ _ h => px0 h) ?_
      rintro _ _ ⟨rfl, rfl⟩
      refine V_st (st' := [.long ((mf_sumN σ rr (ln σ rr)).1)]) rfl ?_
      refine V_lret C dX12_work_44 rfl ?_ (by first | exact Nat.le_of_ble_eq_true rfl | omega | (dsimp only; omega) | (simp only [List.length_cons, List.length_nil]; omega)) (by first | exact Nat.le_of_ble_eq_true rfl | omega | (dsimp only; omega) | (simp only [List.length_cons, List.length_nil]; omega))
      exact WP.read hR (by unfold mf_sum; rw [if_neg (show ¬ (σ.2.1 2 rr = 6 ∨ σ.2.1 2 rr = 7) from by rw [hkE, hk9]; decide)])
    · exact absurd c_25 (by decide)
  · exact absurd c_10 (by decide)
set_option maxHeartbeats 1000000 in
theorem c_X12_work_5 (l : Launch) (hl : l.stackTraces = false) (G : hp_G) (X : Nat → Nat) (N0 : Nat) (M : hp_h) (g : RG) (σ : MS) (z : Nat → Int32) (C9 c9 : Nat) (hC : c9 + 1 = C9) (hR : REL G (X 0) g σ z (σ.1 31) C9 M) (hI : MI σ) (P9 K9 rr : Nat) (x0 i b j n : Int32) (hP9 : P9 < 6) (hK9 : K9 < psz σ P9) (hr : rr < nR σ) (hAF : AF σ P9 K9 = [.int x0, .int (nI rr), .int i, .int b, .int j, .int n]) (hk9 : kd σ rr = 5) : HM l yX12_work (ws_ yX12_work cX12_work 4 (some .long)) 18 700 1 7 G X N0 [.ref (qH g 5), .ref (qA g P9 K9), .ref (qC g c9)] M (WP G (X 0) g σ z C9 M (mf_sum σ rr)) PX0 := by
  refine HM.of hl [(0, .ref (qH g 5)), (1, .ref (qA g P9 K9)), (2, .ref (qC g c9))] (by decide +kernel) rfl (Nat.le_of_ble_eq_true rfl) ?_
  intro p e s m args below meth c C hname
  have hN := hR.N
  have hH9 : M (qH g 5) = some (.inr (15, [.int 1, .ref (qN g), .int 0, .int 10, .ref (qN g), .ref (qN g)])) := hR.H (by decide)
  have hac : M (qA g P9 K9) = some (.inr (3, [.int x0, .int (nI rr), .int i, .int b, .int j, .int n])) := (hR.A hP9 hK9).trans (congrArg (fun y => some (Sum.inr (3, y))) hAF)
  refine V_aload_n C dX12_work_0 rfl 0 rfl ?_
  refine V_aload_n C dX12_work_1 rfl 1 rfl ?_
  refine V_callU C (c_X5_row_15 l hl G X N0 M g σ z C9 c9 hC hR hI (qH g 5) hH9 (qA g P9 K9) x0 rr i b j n hr hac (by omega)) cs_X12_15_15 hH9 (show CLS[15]? = some (RX12, TX12, 6) from rfl) rfl rfl ⟨Nat.le_of_ble_eq_true rfl, Nat.le_of_ble_eq_true rfl⟩ ⟨(by first | exact Nat.le_of_ble_eq_true rfl | omega | (dsimp only; omega) | (simp only [List.length_cons, List.length_nil]; omega)), (by first | exact Nat.le_of_ble_eq_true rfl | omega | (dsimp only; omega) | (simp only [List.length_cons, List.length_nil]; omega))⟩ (Nat.le_of_ble_eq_true rfl) dX12_work_2 (fun _ _ _ h => px0 h) ?_
  rintro _ _ ⟨rfl, rfl⟩
  refine V_st (st' := [.ref (qR g rr)]) rfl ?_
  obtain ⟨xr, hra, hrx, hrc⟩ := hR.rw hr
  obtain ⟨hkE, hkL⟩ := hI.k hr
  obtain ⟨hlE, hlL⟩ := hI.l hr
  rw [hk9] at hra hrx hrc
  refine V_astore_n C dX12_work_5 rfl (Nat.le_of_ble_eq_true rfl) [(0, .ref (qH g 5)), (1, .ref (qA g P9 K9)), (2, .ref (qC g c9)), (3, .ref (qR g rr))] [1, 2, 3, 0] rfl ?_
  refine V_aload_n C dX12_work_6 rfl 3 rfl ?_
  refine V_callSN C (c_X1_isReal l hl G X N0 M (qR g rr) 5 (by decide) xr hra) cs_X12_19 rfl rfl ⟨Nat.le_of_ble_eq_true rfl, Nat.le_of_ble_eq_true rfl⟩ ⟨(by first | exact Nat.le_of_ble_eq_true rfl | omega | (dsimp only; omega) | (simp only [List.length_cons, List.length_nil]; omega)), (by first | exact Nat.le_of_ble_eq_true rfl | omega | (dsimp only; omega) | (simp only [List.length_cons, List.length_nil]; omega))⟩ (Nat.le_of_ble_eq_true rfl) dX12_work_7 (fun _ _ _ h => px0 h) ?_
  rintro _ _ ⟨rfl, rfl⟩
  refine V_st (st' := [.int (bI (5 = 6 ∨ 5 = 7))]) rfl ?_
  refine V_if_eq (tgt := 21) C dX12_work_10 (by decide) (fun c_10 => ?_) (fun c_10 => ?_)
  · refine V_aload_n C dX12_work_21 rfl 3 rfl ?_
    refine V_instAN C (j := 5) (nm := "[LNativeSubset$Unit;") (by decide) q1343 (List.mem_of_getElem? (i := 57) rfl) hra dX12_work_22 ?_
    refine V_if_eq (tgt := 39) C dX12_work_25 (by decide) (fun c_25 => ?_) (fun c_25 => ?_)
    · refine V_aload_n C dX12_work_39 rfl 0 rfl ?_
      refine V_pc (pc1 := 40) rfl ?_
      refine V_aload_n C dX12_work_40 rfl 3 rfl ?_
      refine V_callV C (c_X12_wholes_5 l hl G X N0 M g σ z C9 c9 hC hR hI rr hr hk9) cs_X12_33_15 hH9 (show CLS[15]? = some (RX12, TX12, 6) from rfl) rfl rfl ⟨Nat.le_of_ble_eq_true rfl, Nat.le_of_ble_eq_true rfl⟩ ⟨(by first | exact Nat.le_of_ble_eq_true rfl | omega | (dsimp only; omega) | (simp only [List.length_cons, List.length_nil]; omega)), (by first | exact Nat.le_of_ble_eq_true rfl | omega | (dsimp only; omega) | (simp only [List.length_cons, List.length_nil]; omega))⟩ (Nat.le_of_ble_eq_true rfl) dX12_work_41 (fun _ _ _ h => px0 h) ?_
      rintro _ _ ⟨rfl, rfl⟩
      refine V_st (st' := [.long ((mf_sumN σ rr (ln σ rr)).1)]) rfl ?_
      refine V_lret C dX12_work_44 rfl ?_ (by first | exact Nat.le_of_ble_eq_true rfl | omega | (dsimp only; omega) | (simp only [List.length_cons, List.length_nil]; omega)) (by first | exact Nat.le_of_ble_eq_true rfl | omega | (dsimp only; omega) | (simp only [List.length_cons, List.length_nil]; omega))
      exact WP.read hR (by unfold mf_sum; rw [if_neg (show ¬ (σ.2.1 2 rr = 6 ∨ σ.2.1 2 rr = 7) from by rw [hkE, hk9]; decide)])
    · exact absurd c_25 (by decide)
  · exact absurd c_10 (by decide)
set_option maxHeartbeats 1000000 in
theorem c_X12_work_6 (l : Launch) (hl : l.stackTraces = false) (G : hp_G) (X : Nat → Nat) (N0 : Nat) (M : hp_h) (g : RG) (σ : MS) (z : Nat → Int32) (C9 c9 : Nat) (hC : c9 + 1 = C9) (hR : REL G (X 0) g σ z (σ.1 31) C9 M) (hI : MI σ) (P9 K9 rr : Nat) (x0 i b j n : Int32) (hP9 : P9 < 6) (hK9 : K9 < psz σ P9) (hr : rr < nR σ) (hAF : AF σ P9 K9 = [.int x0, .int (nI rr), .int i, .int b, .int j, .int n]) (hk9 : kd σ rr = 6) : HM l yX12_work (ws_ yX12_work cX12_work 4 (some .long)) 18 700 1 7 G X N0 [.ref (qH g 5), .ref (qA g P9 K9), .ref (qC g c9)] M (WP G (X 0) g σ z C9 M (mf_sum σ rr)) PX0 := by
  refine HM.of hl [(0, .ref (qH g 5)), (1, .ref (qA g P9 K9)), (2, .ref (qC g c9))] (by decide +kernel) rfl (Nat.le_of_ble_eq_true rfl) ?_
  intro p e s m args below meth c C hname
  have hN := hR.N
  have hH9 : M (qH g 5) = some (.inr (15, [.int 1, .ref (qN g), .int 0, .int 10, .ref (qN g), .ref (qN g)])) := hR.H (by decide)
  have hac : M (qA g P9 K9) = some (.inr (3, [.int x0, .int (nI rr), .int i, .int b, .int j, .int n])) := (hR.A hP9 hK9).trans (congrArg (fun y => some (Sum.inr (3, y))) hAF)
  refine V_aload_n C dX12_work_0 rfl 0 rfl ?_
  refine V_aload_n C dX12_work_1 rfl 1 rfl ?_
  refine V_callU C (c_X5_row_15 l hl G X N0 M g σ z C9 c9 hC hR hI (qH g 5) hH9 (qA g P9 K9) x0 rr i b j n hr hac (by omega)) cs_X12_15_15 hH9 (show CLS[15]? = some (RX12, TX12, 6) from rfl) rfl rfl ⟨Nat.le_of_ble_eq_true rfl, Nat.le_of_ble_eq_true rfl⟩ ⟨(by first | exact Nat.le_of_ble_eq_true rfl | omega | (dsimp only; omega) | (simp only [List.length_cons, List.length_nil]; omega)), (by first | exact Nat.le_of_ble_eq_true rfl | omega | (dsimp only; omega) | (simp only [List.length_cons, List.length_nil]; omega))⟩ (Nat.le_of_ble_eq_true rfl) dX12_work_2 (fun _ _ _ h => px0 h) ?_
  rintro _ _ ⟨rfl, rfl⟩
  refine V_st (st' := [.ref (qR g rr)]) rfl ?_
  obtain ⟨xr, hra, hrx, hrc⟩ := hR.rw hr
  obtain ⟨hkE, hkL⟩ := hI.k hr
  obtain ⟨hlE, hlL⟩ := hI.l hr
  rw [hk9] at hra hrx hrc
  refine V_astore_n C dX12_work_5 rfl (Nat.le_of_ble_eq_true rfl) [(0, .ref (qH g 5)), (1, .ref (qA g P9 K9)), (2, .ref (qC g c9)), (3, .ref (qR g rr))] [1, 2, 3, 0] rfl ?_
  refine V_aload_n C dX12_work_6 rfl 3 rfl ?_
  refine V_callSN C (c_X1_isReal l hl G X N0 M (qR g rr) 6 (by decide) xr hra) cs_X12_19 rfl rfl ⟨Nat.le_of_ble_eq_true rfl, Nat.le_of_ble_eq_true rfl⟩ ⟨(by first | exact Nat.le_of_ble_eq_true rfl | omega | (dsimp only; omega) | (simp only [List.length_cons, List.length_nil]; omega)), (by first | exact Nat.le_of_ble_eq_true rfl | omega | (dsimp only; omega) | (simp only [List.length_cons, List.length_nil]; omega))⟩ (Nat.le_of_ble_eq_true rfl) dX12_work_7 (fun _ _ _ h => px0 h) ?_
  rintro _ _ ⟨rfl, rfl⟩
  refine V_st (st' := [.int (bI (6 = 6 ∨ 6 = 7))]) rfl ?_
  refine V_if_eq (tgt := 21) C dX12_work_10 (by decide) (fun c_10 => ?_) (fun c_10 => ?_)
  · exact absurd c_10 (by decide)
  · refine V_aload_n C dX12_work_13 rfl 0 rfl ?_
    refine V_aload_n C dX12_work_14 rfl 3 rfl ?_
    refine V_callV C (c_X12_reals l hl G X N0 M g σ z C9 c9 hC hR hI rr hr (by omega)) cs_X12_23_15 hH9 (show CLS[15]? = some (RX12, TX12, 6) from rfl) rfl rfl ⟨Nat.le_of_ble_eq_true rfl, Nat.le_of_ble_eq_true rfl⟩ ⟨(by first | exact Nat.le_of_ble_eq_true rfl | omega | (dsimp only; omega) | (simp only [List.length_cons, List.length_nil]; omega)), (by first | exact Nat.le_of_ble_eq_true rfl | omega | (dsimp only; omega) | (simp only [List.length_cons, List.length_nil]; omega))⟩ (Nat.le_of_ble_eq_true rfl) dX12_work_15 (fun _ _ _ h => px0 h) ?_
    rintro _ _ ⟨rfl, rfl⟩
    refine V_st (st' := [.long (mdB (mf_sumN σ rr (ln σ rr)).2)]) rfl ?_
    refine V_goto (tgt := 44) C dX12_work_18 (by decide) ?_
    refine V_pc (pc1 := 44) rfl ?_
    refine V_lret C dX12_work_44 rfl ?_ (by first | exact Nat.le_of_ble_eq_true rfl | omega | (dsimp only; omega) | (simp only [List.length_cons, List.length_nil]; omega)) (by first | exact Nat.le_of_ble_eq_true rfl | omega | (dsimp only; omega) | (simp only [List.length_cons, List.length_nil]; omega))
    exact WP.read hR (by unfold mf_sum; rw [if_pos (show σ.2.1 2 rr = 6 ∨ σ.2.1 2 rr = 7 from by rw [hkE, hk9]; decide)])
set_option maxHeartbeats 1000000 in
theorem c_X12_work_7 (l : Launch) (hl : l.stackTraces = false) (G : hp_G) (X : Nat → Nat) (N0 : Nat) (M : hp_h) (g : RG) (σ : MS) (z : Nat → Int32) (C9 c9 : Nat) (hC : c9 + 1 = C9) (hR : REL G (X 0) g σ z (σ.1 31) C9 M) (hI : MI σ) (P9 K9 rr : Nat) (x0 i b j n : Int32) (hP9 : P9 < 6) (hK9 : K9 < psz σ P9) (hr : rr < nR σ) (hAF : AF σ P9 K9 = [.int x0, .int (nI rr), .int i, .int b, .int j, .int n]) (hk9 : kd σ rr = 7) : HM l yX12_work (ws_ yX12_work cX12_work 4 (some .long)) 18 700 1 7 G X N0 [.ref (qH g 5), .ref (qA g P9 K9), .ref (qC g c9)] M (WP G (X 0) g σ z C9 M (mf_sum σ rr)) PX0 := by
  refine HM.of hl [(0, .ref (qH g 5)), (1, .ref (qA g P9 K9)), (2, .ref (qC g c9))] (by decide +kernel) rfl (Nat.le_of_ble_eq_true rfl) ?_
  intro p e s m args below meth c C hname
  have hN := hR.N
  have hH9 : M (qH g 5) = some (.inr (15, [.int 1, .ref (qN g), .int 0, .int 10, .ref (qN g), .ref (qN g)])) := hR.H (by decide)
  have hac : M (qA g P9 K9) = some (.inr (3, [.int x0, .int (nI rr), .int i, .int b, .int j, .int n])) := (hR.A hP9 hK9).trans (congrArg (fun y => some (Sum.inr (3, y))) hAF)
  refine V_aload_n C dX12_work_0 rfl 0 rfl ?_
  refine V_aload_n C dX12_work_1 rfl 1 rfl ?_
  refine V_callU C (c_X5_row_15 l hl G X N0 M g σ z C9 c9 hC hR hI (qH g 5) hH9 (qA g P9 K9) x0 rr i b j n hr hac (by omega)) cs_X12_15_15 hH9 (show CLS[15]? = some (RX12, TX12, 6) from rfl) rfl rfl ⟨Nat.le_of_ble_eq_true rfl, Nat.le_of_ble_eq_true rfl⟩ ⟨(by first | exact Nat.le_of_ble_eq_true rfl | omega | (dsimp only; omega) | (simp only [List.length_cons, List.length_nil]; omega)), (by first | exact Nat.le_of_ble_eq_true rfl | omega | (dsimp only; omega) | (simp only [List.length_cons, List.length_nil]; omega))⟩ (Nat.le_of_ble_eq_true rfl) dX12_work_2 (fun _ _ _ h => px0 h) ?_
  rintro _ _ ⟨rfl, rfl⟩
  refine V_st (st' := [.ref (qR g rr)]) rfl ?_
  obtain ⟨xr, hra, hrx, hrc⟩ := hR.rw hr
  obtain ⟨hkE, hkL⟩ := hI.k hr
  obtain ⟨hlE, hlL⟩ := hI.l hr
  rw [hk9] at hra hrx hrc
  refine V_astore_n C dX12_work_5 rfl (Nat.le_of_ble_eq_true rfl) [(0, .ref (qH g 5)), (1, .ref (qA g P9 K9)), (2, .ref (qC g c9)), (3, .ref (qR g rr))] [1, 2, 3, 0] rfl ?_
  refine V_aload_n C dX12_work_6 rfl 3 rfl ?_
  refine V_callSN C (c_X1_isReal l hl G X N0 M (qR g rr) 7 (by decide) xr hra) cs_X12_19 rfl rfl ⟨Nat.le_of_ble_eq_true rfl, Nat.le_of_ble_eq_true rfl⟩ ⟨(by first | exact Nat.le_of_ble_eq_true rfl | omega | (dsimp only; omega) | (simp only [List.length_cons, List.length_nil]; omega)), (by first | exact Nat.le_of_ble_eq_true rfl | omega | (dsimp only; omega) | (simp only [List.length_cons, List.length_nil]; omega))⟩ (Nat.le_of_ble_eq_true rfl) dX12_work_7 (fun _ _ _ h => px0 h) ?_
  rintro _ _ ⟨rfl, rfl⟩
  refine V_st (st' := [.int (bI (7 = 6 ∨ 7 = 7))]) rfl ?_
  refine V_if_eq (tgt := 21) C dX12_work_10 (by decide) (fun c_10 => ?_) (fun c_10 => ?_)
  · exact absurd c_10 (by decide)
  · refine V_aload_n C dX12_work_13 rfl 0 rfl ?_
    refine V_aload_n C dX12_work_14 rfl 3 rfl ?_
    refine V_callV C (c_X12_reals l hl G X N0 M g σ z C9 c9 hC hR hI rr hr (by omega)) cs_X12_23_15 hH9 (show CLS[15]? = some (RX12, TX12, 6) from rfl) rfl rfl ⟨Nat.le_of_ble_eq_true rfl, Nat.le_of_ble_eq_true rfl⟩ ⟨(by first | exact Nat.le_of_ble_eq_true rfl | omega | (dsimp only; omega) | (simp only [List.length_cons, List.length_nil]; omega)), (by first | exact Nat.le_of_ble_eq_true rfl | omega | (dsimp only; omega) | (simp only [List.length_cons, List.length_nil]; omega))⟩ (Nat.le_of_ble_eq_true rfl) dX12_work_15 (fun _ _ _ h => px0 h) ?_
    rintro _ _ ⟨rfl, rfl⟩
    refine V_st (st' := [.long (mdB (mf_sumN σ rr (ln σ rr)).2)]) rfl ?_
    refine V_goto (tgt := 44) C dX12_work_18 (by decide) ?_
    refine V_pc (pc1 := 44) rfl ?_
    refine V_lret C dX12_work_44 rfl ?_ (by first | exact Nat.le_of_ble_eq_true rfl | omega | (dsimp only; omega) | (simp only [List.length_cons, List.length_nil]; omega)) (by first | exact Nat.le_of_ble_eq_true rfl | omega | (dsimp only; omega) | (simp only [List.length_cons, List.length_nil]; omega))
    exact WP.read hR (by unfold mf_sum; rw [if_pos (show σ.2.1 2 rr = 6 ∨ σ.2.1 2 rr = 7 from by rw [hkE, hk9]; decide)])
set_option maxHeartbeats 1000000 in
theorem c_X12_work_8 (l : Launch) (hl : l.stackTraces = false) (G : hp_G) (X : Nat → Nat) (N0 : Nat) (M : hp_h) (g : RG) (σ : MS) (z : Nat → Int32) (C9 c9 : Nat) (hC : c9 + 1 = C9) (hR : REL G (X 0) g σ z (σ.1 31) C9 M) (hI : MI σ) (P9 K9 rr : Nat) (x0 i b j n : Int32) (hP9 : P9 < 6) (hK9 : K9 < psz σ P9) (hr : rr < nR σ) (hAF : AF σ P9 K9 = [.int x0, .int (nI rr), .int i, .int b, .int j, .int n]) (hk9 : kd σ rr = 8) : HM l yX12_work (ws_ yX12_work cX12_work 4 (some .long)) 18 700 1 7 G X N0 [.ref (qH g 5), .ref (qA g P9 K9), .ref (qC g c9)] M (WP G (X 0) g σ z C9 M (mf_sum σ rr)) PX0 := by
  refine HM.of hl [(0, .ref (qH g 5)), (1, .ref (qA g P9 K9)), (2, .ref (qC g c9))] (by decide +kernel) rfl (Nat.le_of_ble_eq_true rfl) ?_
  intro p e s m args below meth c C hname
  have hN := hR.N
  have hH9 : M (qH g 5) = some (.inr (15, [.int 1, .ref (qN g), .int 0, .int 10, .ref (qN g), .ref (qN g)])) := hR.H (by decide)
  have hac : M (qA g P9 K9) = some (.inr (3, [.int x0, .int (nI rr), .int i, .int b, .int j, .int n])) := (hR.A hP9 hK9).trans (congrArg (fun y => some (Sum.inr (3, y))) hAF)
  refine V_aload_n C dX12_work_0 rfl 0 rfl ?_
  refine V_aload_n C dX12_work_1 rfl 1 rfl ?_
  refine V_callU C (c_X5_row_15 l hl G X N0 M g σ z C9 c9 hC hR hI (qH g 5) hH9 (qA g P9 K9) x0 rr i b j n hr hac (by omega)) cs_X12_15_15 hH9 (show CLS[15]? = some (RX12, TX12, 6) from rfl) rfl rfl ⟨Nat.le_of_ble_eq_true rfl, Nat.le_of_ble_eq_true rfl⟩ ⟨(by first | exact Nat.le_of_ble_eq_true rfl | omega | (dsimp only; omega) | (simp only [List.length_cons, List.length_nil]; omega)), (by first | exact Nat.le_of_ble_eq_true rfl | omega | (dsimp only; omega) | (simp only [List.length_cons, List.length_nil]; omega))⟩ (Nat.le_of_ble_eq_true rfl) dX12_work_2 (fun _ _ _ h => px0 h) ?_
  rintro _ _ ⟨rfl, rfl⟩
  refine V_st (st' := [.ref (qR g rr)]) rfl ?_
  obtain ⟨xr, hra, hrx, hrc⟩ := hR.rw hr
  obtain ⟨hkE, hkL⟩ := hI.k hr
  obtain ⟨hlE, hlL⟩ := hI.l hr
  rw [hk9] at hra hrx hrc
  refine V_astore_n C dX12_work_5 rfl (Nat.le_of_ble_eq_true rfl) [(0, .ref (qH g 5)), (1, .ref (qA g P9 K9)), (2, .ref (qC g c9)), (3, .ref (qR g rr))] [1, 2, 3, 0] rfl ?_
  refine V_aload_n C dX12_work_6 rfl 3 rfl ?_
  refine V_callSN C (c_X1_isReal l hl G X N0 M (qR g rr) 8 (by decide) xr hra) cs_X12_19 rfl rfl ⟨Nat.le_of_ble_eq_true rfl, Nat.le_of_ble_eq_true rfl⟩ ⟨(by first | exact Nat.le_of_ble_eq_true rfl | omega | (dsimp only; omega) | (simp only [List.length_cons, List.length_nil]; omega)), (by first | exact Nat.le_of_ble_eq_true rfl | omega | (dsimp only; omega) | (simp only [List.length_cons, List.length_nil]; omega))⟩ (Nat.le_of_ble_eq_true rfl) dX12_work_7 (fun _ _ _ h => px0 h) ?_
  rintro _ _ ⟨rfl, rfl⟩
  refine V_st (st' := [.int (bI (8 = 6 ∨ 8 = 7))]) rfl ?_
  refine V_if_eq (tgt := 21) C dX12_work_10 (by decide) (fun c_10 => ?_) (fun c_10 => ?_)
  · refine V_aload_n C dX12_work_21 rfl 3 rfl ?_
    refine V_instAY C (j := 8) (by decide) q1343 (Or.inl rfl) hra dX12_work_22 ?_
    refine V_if_eq (tgt := 39) C dX12_work_25 (by decide) (fun c_25 => ?_) (fun c_25 => ?_)
    · exact absurd c_25 (by decide)
    · refine V_aload_n C dX12_work_28 rfl 0 rfl ?_
      refine V_pc (pc1 := 29) rfl ?_
      refine V_aload_n C dX12_work_29 rfl 3 rfl ?_
      refine V_castA C (j := 8) (by decide) q1343 (Or.inl rfl) hra dX12_work_30 ?_
      refine V_callV C (c_X12_worths l hl G X N0 M g σ z C9 c9 hC hR hI rr hr (by omega)) cs_X12_29_15 hH9 (show CLS[15]? = some (RX12, TX12, 6) from rfl) rfl rfl ⟨Nat.le_of_ble_eq_true rfl, Nat.le_of_ble_eq_true rfl⟩ ⟨(by first | exact Nat.le_of_ble_eq_true rfl | omega | (dsimp only; omega) | (simp only [List.length_cons, List.length_nil]; omega)), (by first | exact Nat.le_of_ble_eq_true rfl | omega | (dsimp only; omega) | (simp only [List.length_cons, List.length_nil]; omega))⟩ (Nat.le_of_ble_eq_true rfl) dX12_work_33 (fun _ _ _ h => px0 h) ?_
      rintro _ _ ⟨rfl, rfl⟩
      refine V_st (st' := [.long ((mf_sumN σ rr (ln σ rr)).1)]) rfl ?_
      refine V_goto (tgt := 44) C dX12_work_36 (by decide) ?_
      refine V_lret C dX12_work_44 rfl ?_ (by first | exact Nat.le_of_ble_eq_true rfl | omega | (dsimp only; omega) | (simp only [List.length_cons, List.length_nil]; omega)) (by first | exact Nat.le_of_ble_eq_true rfl | omega | (dsimp only; omega) | (simp only [List.length_cons, List.length_nil]; omega))
      exact WP.read hR (by unfold mf_sum; rw [if_neg (show ¬ (σ.2.1 2 rr = 6 ∨ σ.2.1 2 rr = 7) from by rw [hkE, hk9]; decide)])
  · exact absurd c_10 (by decide)
set_option maxHeartbeats 1000000 in
theorem c_X12_work_9 (l : Launch) (hl : l.stackTraces = false) (G : hp_G) (X : Nat → Nat) (N0 : Nat) (M : hp_h) (g : RG) (σ : MS) (z : Nat → Int32) (C9 c9 : Nat) (hC : c9 + 1 = C9) (hR : REL G (X 0) g σ z (σ.1 31) C9 M) (hI : MI σ) (P9 K9 rr : Nat) (x0 i b j n : Int32) (hP9 : P9 < 6) (hK9 : K9 < psz σ P9) (hr : rr < nR σ) (hAF : AF σ P9 K9 = [.int x0, .int (nI rr), .int i, .int b, .int j, .int n]) (hk9 : kd σ rr = 9) : HM l yX12_work (ws_ yX12_work cX12_work 4 (some .long)) 18 700 1 7 G X N0 [.ref (qH g 5), .ref (qA g P9 K9), .ref (qC g c9)] M (WP G (X 0) g σ z C9 M (mf_sum σ rr)) PX0 := by
  refine HM.of hl [(0, .ref (qH g 5)), (1, .ref (qA g P9 K9)), (2, .ref (qC g c9))] (by decide +kernel) rfl (Nat.le_of_ble_eq_true rfl) ?_
  intro p e s m args below meth c C hname
  have hN := hR.N
  have hH9 : M (qH g 5) = some (.inr (15, [.int 1, .ref (qN g), .int 0, .int 10, .ref (qN g), .ref (qN g)])) := hR.H (by decide)
  have hac : M (qA g P9 K9) = some (.inr (3, [.int x0, .int (nI rr), .int i, .int b, .int j, .int n])) := (hR.A hP9 hK9).trans (congrArg (fun y => some (Sum.inr (3, y))) hAF)
  refine V_aload_n C dX12_work_0 rfl 0 rfl ?_
  refine V_aload_n C dX12_work_1 rfl 1 rfl ?_
  refine V_callU C (c_X5_row_15 l hl G X N0 M g σ z C9 c9 hC hR hI (qH g 5) hH9 (qA g P9 K9) x0 rr i b j n hr hac (by omega)) cs_X12_15_15 hH9 (show CLS[15]? = some (RX12, TX12, 6) from rfl) rfl rfl ⟨Nat.le_of_ble_eq_true rfl, Nat.le_of_ble_eq_true rfl⟩ ⟨(by first | exact Nat.le_of_ble_eq_true rfl | omega | (dsimp only; omega) | (simp only [List.length_cons, List.length_nil]; omega)), (by first | exact Nat.le_of_ble_eq_true rfl | omega | (dsimp only; omega) | (simp only [List.length_cons, List.length_nil]; omega))⟩ (Nat.le_of_ble_eq_true rfl) dX12_work_2 (fun _ _ _ h => px0 h) ?_
  rintro _ _ ⟨rfl, rfl⟩
  refine V_st (st' := [.ref (qR g rr)]) rfl ?_
  obtain ⟨xr, hra, hrx, hrc⟩ := hR.rw hr
  obtain ⟨hkE, hkL⟩ := hI.k hr
  obtain ⟨hlE, hlL⟩ := hI.l hr
  rw [hk9] at hra hrx hrc
  refine V_astore_n C dX12_work_5 rfl (Nat.le_of_ble_eq_true rfl) [(0, .ref (qH g 5)), (1, .ref (qA g P9 K9)), (2, .ref (qC g c9)), (3, .ref (qR g rr))] [1, 2, 3, 0] rfl ?_
  refine V_aload_n C dX12_work_6 rfl 3 rfl ?_
  refine V_callSN C (c_X1_isReal l hl G X N0 M (qR g rr) 9 (by decide) xr hra) cs_X12_19 rfl rfl ⟨Nat.le_of_ble_eq_true rfl, Nat.le_of_ble_eq_true rfl⟩ ⟨(by first | exact Nat.le_of_ble_eq_true rfl | omega | (dsimp only; omega) | (simp only [List.length_cons, List.length_nil]; omega)), (by first | exact Nat.le_of_ble_eq_true rfl | omega | (dsimp only; omega) | (simp only [List.length_cons, List.length_nil]; omega))⟩ (Nat.le_of_ble_eq_true rfl) dX12_work_7 (fun _ _ _ h => px0 h) ?_
  rintro _ _ ⟨rfl, rfl⟩
  refine V_st (st' := [.int (bI (9 = 6 ∨ 9 = 7))]) rfl ?_
  refine V_if_eq (tgt := 21) C dX12_work_10 (by decide) (fun c_10 => ?_) (fun c_10 => ?_)
  · refine V_aload_n C dX12_work_21 rfl 3 rfl ?_
    refine V_instAY C (j := 9) (by decide) q1343 (Or.inr ⟨rfl, rfl⟩) hra dX12_work_22 ?_
    refine V_if_eq (tgt := 39) C dX12_work_25 (by decide) (fun c_25 => ?_) (fun c_25 => ?_)
    · exact absurd c_25 (by decide)
    · refine V_aload_n C dX12_work_28 rfl 0 rfl ?_
      refine V_pc (pc1 := 29) rfl ?_
      refine V_aload_n C dX12_work_29 rfl 3 rfl ?_
      refine V_castA C (j := 9) (by decide) q1343 (Or.inr ⟨rfl, rfl⟩) hra dX12_work_30 ?_
      refine V_callV C (c_X12_worths l hl G X N0 M g σ z C9 c9 hC hR hI rr hr (by omega)) cs_X12_29_15 hH9 (show CLS[15]? = some (RX12, TX12, 6) from rfl) rfl rfl ⟨Nat.le_of_ble_eq_true rfl, Nat.le_of_ble_eq_true rfl⟩ ⟨(by first | exact Nat.le_of_ble_eq_true rfl | omega | (dsimp only; omega) | (simp only [List.length_cons, List.length_nil]; omega)), (by first | exact Nat.le_of_ble_eq_true rfl | omega | (dsimp only; omega) | (simp only [List.length_cons, List.length_nil]; omega))⟩ (Nat.le_of_ble_eq_true rfl) dX12_work_33 (fun _ _ _ h => px0 h) ?_
      rintro _ _ ⟨rfl, rfl⟩
      refine V_st (st' := [.long ((mf_sumN σ rr (ln σ rr)).1)]) rfl ?_
      refine V_goto (tgt := 44) C dX12_work_36 (by decide) ?_
      refine V_lret C dX12_work_44 rfl ?_ (by first | exact Nat.le_of_ble_eq_true rfl | omega | (dsimp only; omega) | (simp only [List.length_cons, List.length_nil]; omega)) (by first | exact Nat.le_of_ble_eq_true rfl | omega | (dsimp only; omega) | (simp only [List.length_cons, List.length_nil]; omega))
      exact WP.read hR (by unfold mf_sum; rw [if_neg (show ¬ (σ.2.1 2 rr = 6 ∨ σ.2.1 2 rr = 7) from by rw [hkE, hk9]; decide)])
  · exact absurd c_10 (by decide)
set_option maxHeartbeats 1000000 in
theorem c_X12_work_10 (l : Launch) (hl : l.stackTraces = false) (G : hp_G) (X : Nat → Nat) (N0 : Nat) (M : hp_h) (g : RG) (σ : MS) (z : Nat → Int32) (C9 c9 : Nat) (hC : c9 + 1 = C9) (hR : REL G (X 0) g σ z (σ.1 31) C9 M) (hI : MI σ) (P9 K9 rr : Nat) (x0 i b j n : Int32) (hP9 : P9 < 6) (hK9 : K9 < psz σ P9) (hr : rr < nR σ) (hAF : AF σ P9 K9 = [.int x0, .int (nI rr), .int i, .int b, .int j, .int n]) (hk9 : kd σ rr = 10) : HM l yX12_work (ws_ yX12_work cX12_work 4 (some .long)) 18 700 1 7 G X N0 [.ref (qH g 5), .ref (qA g P9 K9), .ref (qC g c9)] M (WP G (X 0) g σ z C9 M (mf_sum σ rr)) PX0 := by
  refine HM.of hl [(0, .ref (qH g 5)), (1, .ref (qA g P9 K9)), (2, .ref (qC g c9))] (by decide +kernel) rfl (Nat.le_of_ble_eq_true rfl) ?_
  intro p e s m args below meth c C hname
  have hN := hR.N
  have hH9 : M (qH g 5) = some (.inr (15, [.int 1, .ref (qN g), .int 0, .int 10, .ref (qN g), .ref (qN g)])) := hR.H (by decide)
  have hac : M (qA g P9 K9) = some (.inr (3, [.int x0, .int (nI rr), .int i, .int b, .int j, .int n])) := (hR.A hP9 hK9).trans (congrArg (fun y => some (Sum.inr (3, y))) hAF)
  refine V_aload_n C dX12_work_0 rfl 0 rfl ?_
  refine V_aload_n C dX12_work_1 rfl 1 rfl ?_
  refine V_callU C (c_X5_row_15 l hl G X N0 M g σ z C9 c9 hC hR hI (qH g 5) hH9 (qA g P9 K9) x0 rr i b j n hr hac (by omega)) cs_X12_15_15 hH9 (show CLS[15]? = some (RX12, TX12, 6) from rfl) rfl rfl ⟨Nat.le_of_ble_eq_true rfl, Nat.le_of_ble_eq_true rfl⟩ ⟨(by first | exact Nat.le_of_ble_eq_true rfl | omega | (dsimp only; omega) | (simp only [List.length_cons, List.length_nil]; omega)), (by first | exact Nat.le_of_ble_eq_true rfl | omega | (dsimp only; omega) | (simp only [List.length_cons, List.length_nil]; omega))⟩ (Nat.le_of_ble_eq_true rfl) dX12_work_2 (fun _ _ _ h => px0 h) ?_
  rintro _ _ ⟨rfl, rfl⟩
  refine V_st (st' := [.ref (qR g rr)]) rfl ?_
  obtain ⟨xr, hra, hrx, hrc⟩ := hR.rw hr
  obtain ⟨hkE, hkL⟩ := hI.k hr
  obtain ⟨hlE, hlL⟩ := hI.l hr
  rw [hk9] at hra hrx hrc
  refine V_astore_n C dX12_work_5 rfl (Nat.le_of_ble_eq_true rfl) [(0, .ref (qH g 5)), (1, .ref (qA g P9 K9)), (2, .ref (qC g c9)), (3, .ref (qR g rr))] [1, 2, 3, 0] rfl ?_
  refine V_aload_n C dX12_work_6 rfl 3 rfl ?_
  refine V_callSN C (c_X1_isReal l hl G X N0 M (qR g rr) 10 (by decide) xr hra) cs_X12_19 rfl rfl ⟨Nat.le_of_ble_eq_true rfl, Nat.le_of_ble_eq_true rfl⟩ ⟨(by first | exact Nat.le_of_ble_eq_true rfl | omega | (dsimp only; omega) | (simp only [List.length_cons, List.length_nil]; omega)), (by first | exact Nat.le_of_ble_eq_true rfl | omega | (dsimp only; omega) | (simp only [List.length_cons, List.length_nil]; omega))⟩ (Nat.le_of_ble_eq_true rfl) dX12_work_7 (fun _ _ _ h => px0 h) ?_
  rintro _ _ ⟨rfl, rfl⟩
  refine V_st (st' := [.int (bI (10 = 6 ∨ 10 = 7))]) rfl ?_
  refine V_if_eq (tgt := 21) C dX12_work_10 (by decide) (fun c_10 => ?_) (fun c_10 => ?_)
  · refine V_aload_n C dX12_work_21 rfl 3 rfl ?_
    refine V_instAN C (j := 10) (nm := "[LNativeSubset$Unit;") (by decide) q1343 (List.mem_of_getElem? (i := 107) rfl) hra dX12_work_22 ?_
    refine V_if_eq (tgt := 39) C dX12_work_25 (by decide) (fun c_25 => ?_) (fun c_25 => ?_)
    · refine V_aload_n C dX12_work_39 rfl 0 rfl ?_
      refine V_pc (pc1 := 40) rfl ?_
      refine V_aload_n C dX12_work_40 rfl 3 rfl ?_
      refine V_callV C (c_X12_wholes_10 l hl G X N0 M g σ z C9 c9 hC hR hI rr hr hk9) cs_X12_33_15 hH9 (show CLS[15]? = some (RX12, TX12, 6) from rfl) rfl rfl ⟨Nat.le_of_ble_eq_true rfl, Nat.le_of_ble_eq_true rfl⟩ ⟨(by first | exact Nat.le_of_ble_eq_true rfl | omega | (dsimp only; omega) | (simp only [List.length_cons, List.length_nil]; omega)), (by first | exact Nat.le_of_ble_eq_true rfl | omega | (dsimp only; omega) | (simp only [List.length_cons, List.length_nil]; omega))⟩ (Nat.le_of_ble_eq_true rfl) dX12_work_41 (fun _ _ _ h => px0 h) ?_
      rintro _ _ ⟨rfl, rfl⟩
      refine V_st (st' := [.long ((mf_sumN σ rr (ln σ rr)).1)]) rfl ?_
      refine V_lret C dX12_work_44 rfl ?_ (by first | exact Nat.le_of_ble_eq_true rfl | omega | (dsimp only; omega) | (simp only [List.length_cons, List.length_nil]; omega)) (by first | exact Nat.le_of_ble_eq_true rfl | omega | (dsimp only; omega) | (simp only [List.length_cons, List.length_nil]; omega))
      exact WP.read hR (by unfold mf_sum; rw [if_neg (show ¬ (σ.2.1 2 rr = 6 ∨ σ.2.1 2 rr = 7) from by rw [hkE, hk9]; decide)])
    · exact absurd c_25 (by decide)
  · exact absurd c_10 (by decide)
theorem c_X12_work (l : Launch) (hl : l.stackTraces = false) (G : hp_G) (X : Nat → Nat) (N0 : Nat) (M : hp_h) (g : RG) (σ : MS) (z : Nat → Int32) (C9 c9 : Nat) (hC : c9 + 1 = C9) (hR : REL G (X 0) g σ z (σ.1 31) C9 M) (hI : MI σ) (P9 K9 rr : Nat) (x0 i b j n : Int32) (hP9 : P9 < 6) (hK9 : K9 < psz σ P9) (hr : rr < nR σ) (hAF : AF σ P9 K9 = [.int x0, .int (nI rr), .int i, .int b, .int j, .int n]) : HM l yX12_work (ws_ yX12_work cX12_work 4 (some .long)) 18 700 1 7 G X N0 [.ref (qH g 5), .ref (qA g P9 K9), .ref (qC g c9)] M (WP G (X 0) g σ z C9 M (mf_sum σ rr)) PX0 := by
  have hk := (hI.k hr).2
  match h : kd σ rr, hk with
  | 0, _ => exact c_X12_work_0 l hl G X N0 M g σ z C9 c9 hC hR hI P9 K9 rr x0 i b j n hP9 hK9 hr hAF h
  | 1, _ => exact c_X12_work_1 l hl G X N0 M g σ z C9 c9 hC hR hI P9 K9 rr x0 i b j n hP9 hK9 hr hAF h
  | 2, _ => exact c_X12_work_2 l hl G X N0 M g σ z C9 c9 hC hR hI P9 K9 rr x0 i b j n hP9 hK9 hr hAF h
  | 3, _ => exact c_X12_work_3 l hl G X N0 M g σ z C9 c9 hC hR hI P9 K9 rr x0 i b j n hP9 hK9 hr hAF h
  | 4, _ => exact c_X12_work_4 l hl G X N0 M g σ z C9 c9 hC hR hI P9 K9 rr x0 i b j n hP9 hK9 hr hAF h
  | 5, _ => exact c_X12_work_5 l hl G X N0 M g σ z C9 c9 hC hR hI P9 K9 rr x0 i b j n hP9 hK9 hr hAF h
  | 6, _ => exact c_X12_work_6 l hl G X N0 M g σ z C9 c9 hC hR hI P9 K9 rr x0 i b j n hP9 hK9 hr hAF h
  | 7, _ => exact c_X12_work_7 l hl G X N0 M g σ z C9 c9 hC hR hI P9 K9 rr x0 i b j n hP9 hK9 hr hAF h
  | 8, _ => exact c_X12_work_8 l hl G X N0 M g σ z C9 c9 hC hR hI P9 K9 rr x0 i b j n hP9 hK9 hr hAF h
  | 9, _ => exact c_X12_work_9 l hl G X N0 M g σ z C9 c9 hC hR hI P9 K9 rr x0 i b j n hP9 hK9 hr hAF h
  | 10, _ => exact c_X12_work_10 l hl G X N0 M g σ z C9 c9 hC hR hI P9 K9 rr x0 i b j n hP9 hK9 hr hAF h
  | k + 11, y => exact absurd y (by omega)
theorem order_vals {k : Int32} {p q : Int64} : mf_order k p q = -1 ∨ mf_order k p q = 0 ∨ mf_order k p q = 1 := by
  unfold mf_order mf_oF mf_oD
  repeat' split
  all_goals simp
theorem ordR_hit {σ : MS} {a b q : Nat} (h1 : q < ln σ a) (h2 : q < ln σ b) (h0 : mf_by σ (σ.2.1 2 a) a b q = 0) (hn : mf_order (σ.2.1 2 a) (el σ a q) (el σ b q) ≠ 0) : mf_ordR σ a b = (mf_order (σ.2.1 2 a) (el σ a q) (el σ b q)).toInt64 := by
  have e1 : mf_by σ (σ.2.1 2 a) a b (q + 1) = mf_order (σ.2.1 2 a) (el σ a q) (el σ b q) := if_pos h0
  have e2 : mf_by σ (σ.2.1 2 a) a b (min (ln σ a) (ln σ b)) = mf_order (σ.2.1 2 a) (el σ a q) (el σ b q) := by
    rw [← e1, show min (ln σ a) (ln σ b) = (q + 1) + (min (ln σ a) (ln σ b) - (q + 1)) from by omega]
    exact mf_by_stick (by rw [e1]; exact hn) _
  unfold mf_ordR
  rw [e2, if_pos hn]
theorem ordR_end {σ : MS} {a b q : Nat} (hq : q = min (ln σ a) (ln σ b)) (h0 : mf_by σ (σ.2.1 2 a) a b q = 0) : mf_ordR σ a b = if ln σ a < ln σ b then -1 else if ln σ b < ln σ a then 1 else 0 := by
  unfold mf_ordR
  rw [← hq, if_neg (not_not_intro h0)]
set_option maxHeartbeats 1000000 in
theorem c_X11_work_k (l : Launch) (hl : l.stackTraces = false) (G : hp_G) (X : Nat → Nat) (N0 : Nat) (M : hp_h) (g : RG) (σ : MS) (z : Nat → Int32) (C9 c9 : Nat) (hC : c9 + 1 = C9) (hR : REL G (X 0) g σ z (σ.1 31) C9 M) (hI : MI σ) (P9 K9 rr rs : Nat) (x0 i j n : Int32) (hP9 : P9 < 6) (hK9 : K9 < psz σ P9) (hr : rr < nR σ) (hs : rs < nR σ) (hAF : AF σ P9 K9 = [.int x0, .int (nI rr), .int i, .int (nI rs), .int j, .int n]) (hk9 : ¬ (1 ≤ kd σ rr ∧ kd σ rr ≤ 7)) : HM l yX11_work (ws_ yX11_work cX11_work 8 (some .long)) 16 600 1 7 G X N0 [.ref (qH g 4), .ref (qA g P9 K9), .ref (qC g c9)] M PFF (WX G (X 0) g σ z C9 M (mf_orderRows σ rr rs)) := by
  refine HM.of hl [(0, .ref (qH g 4)), (1, .ref (qA g P9 K9)), (2, .ref (qC g c9))] (by decide +kernel) rfl (Nat.le_of_ble_eq_true rfl) ?_
  intro p e s m args below meth c C hname
  have hN := hR.N
  have hH9 : M (qH g 4) = some (.inr (14, [.int 1, .ref (qN g), .int 1, .int 7, .ref (qN g), .ref (qN g), .ref (qN g)])) := hR.H (by decide)
  have hac : M (qA g P9 K9) = some (.inr (3, [.int x0, .int (nI rr), .int i, .int (nI rs), .int j, .int n])) := (hR.A hP9 hK9).trans (congrArg (fun y => some (Sum.inr (3, y))) hAF)
  refine V_aload_n C dX11_work_0 rfl 0 rfl ?_
  refine V_aload_n C dX11_work_1 rfl 1 rfl ?_
  refine V_callU C (c_X5_row_x14 l hl G X N0 M g σ z C9 c9 hC hR hI (qH g 4) hH9 (qA g P9 K9) x0 rr i (nI rs) j n hr hac hk9) cs_X11_15_14 hH9 (show CLS[14]? = some (RX11, TX11, 7) from rfl) rfl rfl ⟨Nat.le_of_ble_eq_true rfl, Nat.le_of_ble_eq_true rfl⟩ ⟨(by first | exact Nat.le_of_ble_eq_true rfl | omega | (dsimp only; omega) | (simp only [List.length_cons, List.length_nil]; omega)), (by first | exact Nat.le_of_ble_eq_true rfl | omega | (dsimp only; omega) | (simp only [List.length_cons, List.length_nil]; omega))⟩ (Nat.le_of_ble_eq_true rfl) dX11_work_2 ?_ (fun _ _ h => h.elim)
  rintro q9 E9 M9 hx9
  obtain rfl := hx9.1
  exact VX_out C (fun z hz => by cases hz) (WX.at0 (if_pos (Or.inl (great_no hI hr hk9))) (by decide) hx9) (by first | exact Nat.le_of_ble_eq_true rfl | omega | (dsimp only; omega) | (simp only [List.length_cons, List.length_nil]; omega)) (by first | exact Nat.le_of_ble_eq_true rfl | omega | (dsimp only; omega) | (simp only [List.length_cons, List.length_nil]; omega))
set_option maxHeartbeats 1000000 in
theorem c_X11_work_d (l : Launch) (hl : l.stackTraces = false) (G : hp_G) (X : Nat → Nat) (N0 : Nat) (M : hp_h) (g : RG) (σ : MS) (z : Nat → Int32) (C9 c9 : Nat) (hC : c9 + 1 = C9) (hR : REL G (X 0) g σ z (σ.1 31) C9 M) (hI : MI σ) (P9 K9 rr rs : Nat) (x0 i j n : Int32) (hP9 : P9 < 6) (hK9 : K9 < psz σ P9) (hr : rr < nR σ) (hs : rs < nR σ) (hAF : AF σ P9 K9 = [.int x0, .int (nI rr), .int i, .int (nI rs), .int j, .int n]) (hk9 : 1 ≤ kd σ rr ∧ kd σ rr ≤ 7) (hkne : kd σ rr ≠ kd σ rs) : HM l yX11_work (ws_ yX11_work cX11_work 8 (some .long)) 16 600 1 7 G X N0 [.ref (qH g 4), .ref (qA g P9 K9), .ref (qC g c9)] M PFF (WX G (X 0) g σ z C9 M (mf_orderRows σ rr rs)) := by
  refine HM.of hl [(0, .ref (qH g 4)), (1, .ref (qA g P9 K9)), (2, .ref (qC g c9))] (by decide +kernel) rfl (Nat.le_of_ble_eq_true rfl) ?_
  intro p e s m args below meth c C hname
  have hN := hR.N
  obtain ⟨mdR, hRl⟩ := hR.Rl
  obtain ⟨fR, hRs, hRf⟩ := hR.Rls
  have hH9 : M (qH g 4) = some (.inr (14, [.int 1, .ref (qN g), .int 1, .int 7, .ref (qN g), .ref (qN g), .ref (qN g)])) := hR.H (by decide)
  have hac : M (qA g P9 K9) = some (.inr (3, [.int x0, .int (nI rr), .int i, .int (nI rs), .int j, .int n])) := (hR.A hP9 hK9).trans (congrArg (fun y => some (Sum.inr (3, y))) hAF)
  refine V_aload_n C dX11_work_0 rfl 0 rfl ?_
  refine V_aload_n C dX11_work_1 rfl 1 rfl ?_
  refine V_callU C (c_X5_row_14 l hl G X N0 M g σ z C9 c9 hC hR hI (qH g 4) hH9 (qA g P9 K9) x0 rr i (nI rs) j n hr hac hk9) cs_X11_15_14 hH9 (show CLS[14]? = some (RX11, TX11, 7) from rfl) rfl rfl ⟨Nat.le_of_ble_eq_true rfl, Nat.le_of_ble_eq_true rfl⟩ ⟨(by first | exact Nat.le_of_ble_eq_true rfl | omega | (dsimp only; omega) | (simp only [List.length_cons, List.length_nil]; omega)), (by first | exact Nat.le_of_ble_eq_true rfl | omega | (dsimp only; omega) | (simp only [List.length_cons, List.length_nil]; omega))⟩ (Nat.le_of_ble_eq_true rfl) dX11_work_2 (fun _ _ _ h => px0 h) ?_
  rintro _ _ ⟨rfl, rfl⟩
  refine V_st (st' := [.ref (qR g rr)]) rfl ?_
  obtain ⟨xr, hra, hrx, hrc⟩ := hR.rw hr
  obtain ⟨hkE, hkL⟩ := hI.k hr
  obtain ⟨hlE, hlL⟩ := hI.l hr
  refine V_astore_n C dX11_work_5 rfl (Nat.le_of_ble_eq_true rfl) [(0, .ref (qH g 4)), (1, .ref (qA g P9 K9)), (2, .ref (qC g c9)), (3, .ref (qR g rr))] [1, 2, 3, 0] rfl ?_
  obtain ⟨xrB, hraB, hrxB, hrcB⟩ := hR.rw hs
  obtain ⟨hkEB, hkLB⟩ := hI.k hs
  obtain ⟨hlEB, hlLB⟩ := hI.l hs
  refine V_aload_n C dX11_work_6 rfl 0 rfl ?_
  refine V_get C f_X11_3_14 hH9 (v := .ref (qN g)) rfl dX11_work_7 ?_
  refine V_getN C f_X11_19_0 hN (v := .ref (qRl g)) rfl dX11_work_10 ?_
  refine V_aload_n C dX11_work_13 rfl 1 rfl ?_
  refine V_getN C f_X11_23_3 hac (v := .int (nI rs)) rfl dX11_work_14 ?_
  refine V_callV C (c_J2_get l hl G X N0 M (qRl g) (qRe g) (nR σ) (gcp g 2 0) mdR fR hRl (hRs.2.2.1 (by have := hRs.2.2.2.1; omega)) (by have := hRs.2.2.2.2; omega) hRs.2.2.2.1 rs (qR g rs) hs (hRf rs hs)) cs_X11_29_1 hRl (show CLS[1]? = some (RJ2, TJ2, 3) from rfl) rfl rfl ⟨Nat.le_of_ble_eq_true rfl, Nat.le_of_ble_eq_true rfl⟩ ⟨(by first | exact Nat.le_of_ble_eq_true rfl | omega | (dsimp only; omega) | (simp only [List.length_cons, List.length_nil]; omega)), (by first | exact Nat.le_of_ble_eq_true rfl | omega | (dsimp only; omega) | (simp only [List.length_cons, List.length_nil]; omega))⟩ (Nat.le_of_ble_eq_true rfl) dX11_work_17 (fun _ _ _ h => px0 h) ?_
  rintro _ _ ⟨rfl, rfl⟩
  refine V_st (st' := [.ref (qR g rs)]) rfl ?_
  refine V_astore C dX11_work_20 (Nat.le_of_ble_eq_true rfl) [(0, .ref (qH g 4)), (1, .ref (qA g P9 K9)), (2, .ref (qC g c9)), (3, .ref (qR g rr)), (4, .ref (qR g rs))] [1, 2, 3, 4, 0] rfl ?_
  refine V_pc (pc1 := 22) rfl ?_
  refine V_aload_n C dX11_work_22 rfl 3 rfl ?_
  refine V_callSN C (c_X1_kindOf l hl G X N0 M (qR g rr) (kd σ rr) hkL xr hra) cs_X11_35 rfl rfl ⟨Nat.le_of_ble_eq_true rfl, Nat.le_of_ble_eq_true rfl⟩ ⟨(by first | exact Nat.le_of_ble_eq_true rfl | omega | (dsimp only; omega) | (simp only [List.length_cons, List.length_nil]; omega)), (by first | exact Nat.le_of_ble_eq_true rfl | omega | (dsimp only; omega) | (simp only [List.length_cons, List.length_nil]; omega))⟩ (Nat.le_of_ble_eq_true rfl) dX11_work_23 (fun _ _ _ h => px0 h) ?_
  rintro _ _ ⟨rfl, rfl⟩
  refine V_st (st' := [.int (nI (kd σ rr))]) rfl ?_
  refine V_aload C dX11_work_26 4 rfl ?_
  refine V_callSN C (c_X1_kindOf l hl G X N0 M (qR g rs) (kd σ rs) hkLB xrB hraB) cs_X11_35 rfl rfl ⟨Nat.le_of_ble_eq_true rfl, Nat.le_of_ble_eq_true rfl⟩ ⟨(by first | exact Nat.le_of_ble_eq_true rfl | omega | (dsimp only; omega) | (simp only [List.length_cons, List.length_nil]; omega)), (by first | exact Nat.le_of_ble_eq_true rfl | omega | (dsimp only; omega) | (simp only [List.length_cons, List.length_nil]; omega))⟩ (Nat.le_of_ble_eq_true rfl) dX11_work_28 (fun _ _ _ h => px0 h) ?_
  rintro _ _ ⟨rfl, rfl⟩
  refine V_st (st' := [.int (nI (kd σ rs)), .int (nI (kd σ rr))]) rfl ?_
  refine V_icmp_eq (tgt := 43) C dX11_work_31 (by decide) (fun c_31 => ?_) (fun c_31 => ?_)
  · exact absurd (nI_inj9 (by omega) (by omega) c_31) hkne
  · refine V_aload_n C dX11_work_34 rfl 0 rfl ?_
    refine V_get C f_X11_3_14 hH9 (v := .ref (qN g)) rfl dX11_work_35 ?_
    refine V_iconst (v := 4) C dX11_work_38 rfl ?_
    refine V_callVN C (c_X1_fail l hl G X N0 M (qN g) (qRl g) (qUl g) (qPl g) (qHs g) (qAn g) (σ.1 20) (σ.1 14) (σ.1 11) (σ.1 12) (σ.1 15) (z 0) (z 1) (z 2) (z 3) (z 4) (z 5) (σ.1 31) 4 hN) cs_X11_39_0 hN (show CLS[0]? = some (RX1, TX1, 17) from rfl) rfl rfl ⟨Nat.le_of_ble_eq_true rfl, Nat.le_of_ble_eq_true rfl⟩ ⟨(by first | exact Nat.le_of_ble_eq_true rfl | omega | (dsimp only; omega) | (simp only [List.length_cons, List.length_nil]; omega)), (by first | exact Nat.le_of_ble_eq_true rfl | omega | (dsimp only; omega) | (simp only [List.length_cons, List.length_nil]; omega))⟩ (Nat.le_of_ble_eq_true rfl) dX11_work_39 (fun _ _ _ h => px0 h) ?_
    rintro _ M_3 ⟨q_1, rfl, hq_2, hN_4, hF_5, fr_6, sh_7⟩
    refine V_st (st' := [.ref q_1]) rfl ?_
    refine V_athrow C hF_5 (show CLS[8]? = some (RX26, TX26, 7) from rfl) dX11_work_42 ?_
    exact VX_out C (fun z hz => by cases hz) (WX.at0 (if_pos (Or.inr (fun y => hkne (nI_inj9 (by omega) (by omega) (by rw [← hkE, ← hkEB]; exact y))))) (by decide) (FLX.of hR hq_2 hN_4 hF_5 fr_6 sh_7)) (by first | exact Nat.le_of_ble_eq_true rfl | omega | (dsimp only; omega) | (simp only [List.length_cons, List.length_nil]; omega)) (by first | exact Nat.le_of_ble_eq_true rfl | omega | (dsimp only; omega) | (simp only [List.length_cons, List.length_nil]; omega))
theorem ordR_go {σ : MS} {a b q : Nat} {k : Int32} (h0 : mf_by σ (σ.2.1 2 a) a b q = 0) (hk : σ.2.1 2 a = k) (h1 : ¬ mf_order k (el σ a q) (el σ b q) < 0) (h2 : ¬ mf_order k (el σ b q) (el σ a q) < 0) : mf_by σ (σ.2.1 2 a) a b (q + 1) = 0 := by
  show (if mf_by σ (σ.2.1 2 a) a b q = 0 then _ else _) = _
  rw [if_pos h0, hk]
  rcases order_vals (k := k) (p := el σ a q) (q := el σ b q) with y | y | y
  · exact absurd (by rw [y]; decide) h1
  · exact y
  · exact absurd (order_flip.mpr (by rw [y]; decide)) h2
theorem ord_m1 {k : Int32} {p q : Int64} (h : mf_order k p q < 0) : (mf_order k p q).toInt64 = -1 := by
  rcases order_vals (k := k) (p := p) (q := q) with y | y | y <;> rw [y] at h ⊢
  · rfl
  · exact absurd h (by decide)
  · exact absurd h (by decide)
theorem ord_p1 {k : Int32} {p q : Int64} (h : 0 < mf_order k p q) : (mf_order k p q).toInt64 = 1 := by
  rcases order_vals (k := k) (p := p) (q := q) with y | y | y <;> rw [y] at h ⊢
  · exact absurd h (by decide)
  · exact absurd h (by decide)
  · rfl
set_option maxHeartbeats 1000000 in
theorem c_X11_work (l : Launch) (hl : l.stackTraces = false) (G : hp_G) (X : Nat → Nat) (N0 : Nat) (M : hp_h) (g : RG) (σ : MS) (z : Nat → Int32) (C9 c9 : Nat) (hC : c9 + 1 = C9) (hR : REL G (X 0) g σ z (σ.1 31) C9 M) (hI : MI σ) (P9 K9 rr rs : Nat) (x0 i j n : Int32) (hP9 : P9 < 6) (hK9 : K9 < psz σ P9) (hr : rr < nR σ) (hs : rs < nR σ) (hAF : AF σ P9 K9 = [.int x0, .int (nI rr), .int i, .int (nI rs), .int j, .int n]) (hk9 : 1 ≤ kd σ rr ∧ kd σ rr ≤ 7) (hke : kd σ rr = kd σ rs) : HM l yX11_work (ws_ yX11_work cX11_work 8 (some .long)) 16 600 1 7 G X N0 [.ref (qH g 4), .ref (qA g P9 K9), .ref (qC g c9)] M (WP G (X 0) g σ z C9 M (mf_orderRows σ rr rs)) PX0 := by
  refine HM.of hl [(0, .ref (qH g 4)), (1, .ref (qA g P9 K9)), (2, .ref (qC g c9))] (by decide +kernel) rfl (Nat.le_of_ble_eq_true rfl) ?_
  intro p e s m args below meth c C hname
  have hN := hR.N
  obtain ⟨mdR, hRl⟩ := hR.Rl
  obtain ⟨fR, hRs, hRf⟩ := hR.Rls
  have hH9 : M (qH g 4) = some (.inr (14, [.int 1, .ref (qN g), .int 1, .int 7, .ref (qN g), .ref (qN g), .ref (qN g)])) := hR.H (by decide)
  have hac : M (qA g P9 K9) = some (.inr (3, [.int x0, .int (nI rr), .int i, .int (nI rs), .int j, .int n])) := (hR.A hP9 hK9).trans (congrArg (fun y => some (Sum.inr (3, y))) hAF)
  refine V_aload_n C dX11_work_0 rfl 0 rfl ?_
  refine V_aload_n C dX11_work_1 rfl 1 rfl ?_
  refine V_callU C (c_X5_row_14 l hl G X N0 M g σ z C9 c9 hC hR hI (qH g 4) hH9 (qA g P9 K9) x0 rr i (nI rs) j n hr hac hk9) cs_X11_15_14 hH9 (show CLS[14]? = some (RX11, TX11, 7) from rfl) rfl rfl ⟨Nat.le_of_ble_eq_true rfl, Nat.le_of_ble_eq_true rfl⟩ ⟨(by first | exact Nat.le_of_ble_eq_true rfl | omega | (dsimp only; omega) | (simp only [List.length_cons, List.length_nil]; omega)), (by first | exact Nat.le_of_ble_eq_true rfl | omega | (dsimp only; omega) | (simp only [List.length_cons, List.length_nil]; omega))⟩ (Nat.le_of_ble_eq_true rfl) dX11_work_2 (fun _ _ _ h => px0 h) ?_
  rintro _ _ ⟨rfl, rfl⟩
  refine V_st (st' := [.ref (qR g rr)]) rfl ?_
  obtain ⟨xr, hra, hrx, hrc⟩ := hR.rw hr
  obtain ⟨hkE, hkL⟩ := hI.k hr
  obtain ⟨hlE, hlL⟩ := hI.l hr
  refine V_astore_n C dX11_work_5 rfl (Nat.le_of_ble_eq_true rfl) [(0, .ref (qH g 4)), (1, .ref (qA g P9 K9)), (2, .ref (qC g c9)), (3, .ref (qR g rr))] [1, 2, 3, 0] rfl ?_
  obtain ⟨xrB, hraB, hrxB, hrcB⟩ := hR.rw hs
  obtain ⟨hkEB, hkLB⟩ := hI.k hs
  obtain ⟨hlEB, hlLB⟩ := hI.l hs
  refine V_aload_n C dX11_work_6 rfl 0 rfl ?_
  refine V_get C f_X11_3_14 hH9 (v := .ref (qN g)) rfl dX11_work_7 ?_
  refine V_getN C f_X11_19_0 hN (v := .ref (qRl g)) rfl dX11_work_10 ?_
  refine V_aload_n C dX11_work_13 rfl 1 rfl ?_
  refine V_getN C f_X11_23_3 hac (v := .int (nI rs)) rfl dX11_work_14 ?_
  refine V_callV C (c_J2_get l hl G X N0 M (qRl g) (qRe g) (nR σ) (gcp g 2 0) mdR fR hRl (hRs.2.2.1 (by have := hRs.2.2.2.1; omega)) (by have := hRs.2.2.2.2; omega) hRs.2.2.2.1 rs (qR g rs) hs (hRf rs hs)) cs_X11_29_1 hRl (show CLS[1]? = some (RJ2, TJ2, 3) from rfl) rfl rfl ⟨Nat.le_of_ble_eq_true rfl, Nat.le_of_ble_eq_true rfl⟩ ⟨(by first | exact Nat.le_of_ble_eq_true rfl | omega | (dsimp only; omega) | (simp only [List.length_cons, List.length_nil]; omega)), (by first | exact Nat.le_of_ble_eq_true rfl | omega | (dsimp only; omega) | (simp only [List.length_cons, List.length_nil]; omega))⟩ (Nat.le_of_ble_eq_true rfl) dX11_work_17 (fun _ _ _ h => px0 h) ?_
  rintro _ _ ⟨rfl, rfl⟩
  refine V_st (st' := [.ref (qR g rs)]) rfl ?_
  refine V_astore C dX11_work_20 (Nat.le_of_ble_eq_true rfl) [(0, .ref (qH g 4)), (1, .ref (qA g P9 K9)), (2, .ref (qC g c9)), (3, .ref (qR g rr)), (4, .ref (qR g rs))] [1, 2, 3, 4, 0] rfl ?_
  refine V_pc (pc1 := 22) rfl ?_
  refine V_aload_n C dX11_work_22 rfl 3 rfl ?_
  refine V_callSN C (c_X1_kindOf l hl G X N0 M (qR g rr) (kd σ rr) hkL xr hra) cs_X11_35 rfl rfl ⟨Nat.le_of_ble_eq_true rfl, Nat.le_of_ble_eq_true rfl⟩ ⟨(by first | exact Nat.le_of_ble_eq_true rfl | omega | (dsimp only; omega) | (simp only [List.length_cons, List.length_nil]; omega)), (by first | exact Nat.le_of_ble_eq_true rfl | omega | (dsimp only; omega) | (simp only [List.length_cons, List.length_nil]; omega))⟩ (Nat.le_of_ble_eq_true rfl) dX11_work_23 (fun _ _ _ h => px0 h) ?_
  rintro _ _ ⟨rfl, rfl⟩
  refine V_st (st' := [.int (nI (kd σ rr))]) rfl ?_
  refine V_aload C dX11_work_26 4 rfl ?_
  refine V_callSN C (c_X1_kindOf l hl G X N0 M (qR g rs) (kd σ rs) hkLB xrB hraB) cs_X11_35 rfl rfl ⟨Nat.le_of_ble_eq_true rfl, Nat.le_of_ble_eq_true rfl⟩ ⟨(by first | exact Nat.le_of_ble_eq_true rfl | omega | (dsimp only; omega) | (simp only [List.length_cons, List.length_nil]; omega)), (by first | exact Nat.le_of_ble_eq_true rfl | omega | (dsimp only; omega) | (simp only [List.length_cons, List.length_nil]; omega))⟩ (Nat.le_of_ble_eq_true rfl) dX11_work_28 (fun _ _ _ h => px0 h) ?_
  rintro _ _ ⟨rfl, rfl⟩
  refine V_st (st' := [.int (nI (kd σ rs)), .int (nI (kd σ rr))]) rfl ?_
  refine V_icmp_eq (tgt := 43) C dX11_work_31 (by decide) (fun c_31 => ?_) (fun c_31 => ?_)
  · refine V_aload_n C dX11_work_43 rfl 3 rfl ?_
    refine V_callSN C (c_X1_sizeOf l hl G X N0 M (qR g rr) (kd σ rr) hkL xr hra) cs_X11_43 rfl rfl ⟨Nat.le_of_ble_eq_true rfl, Nat.le_of_ble_eq_true rfl⟩ ⟨(by first | exact Nat.le_of_ble_eq_true rfl | omega | (dsimp only; omega) | (simp only [List.length_cons, List.length_nil]; omega)), (by first | exact Nat.le_of_ble_eq_true rfl | omega | (dsimp only; omega) | (simp only [List.length_cons, List.length_nil]; omega))⟩ (Nat.le_of_ble_eq_true rfl) dX11_work_44 (fun _ _ _ h => px0 h) ?_
    rintro _ _ ⟨rfl, rfl⟩
    refine V_st (st' := [.int (nI xr.1)]) rfl ?_
    refine V_st (st' := [.int (nI (ln σ rr))]) (by rw [hrx.1]) ?_
    refine V_istore C dX11_work_47 (Nat.le_of_ble_eq_true rfl) [(0, .ref (qH g 4)), (1, .ref (qA g P9 K9)), (2, .ref (qC g c9)), (3, .ref (qR g rr)), (4, .ref (qR g rs)), (5, .int (nI (ln σ rr)))] [1, 2, 3, 4, 5, 0] rfl ?_
    refine V_aload C dX11_work_49 4 rfl ?_
    refine V_callSN C (c_X1_sizeOf l hl G X N0 M (qR g rs) (kd σ rs) hkLB xrB hraB) cs_X11_43 rfl rfl ⟨Nat.le_of_ble_eq_true rfl, Nat.le_of_ble_eq_true rfl⟩ ⟨(by first | exact Nat.le_of_ble_eq_true rfl | omega | (dsimp only; omega) | (simp only [List.length_cons, List.length_nil]; omega)), (by first | exact Nat.le_of_ble_eq_true rfl | omega | (dsimp only; omega) | (simp only [List.length_cons, List.length_nil]; omega))⟩ (Nat.le_of_ble_eq_true rfl) dX11_work_51 (fun _ _ _ h => px0 h) ?_
    rintro _ _ ⟨rfl, rfl⟩
    refine V_st (st' := [.int (nI xrB.1)]) rfl ?_
    refine V_st (st' := [.int (nI (ln σ rs))]) (by rw [hrxB.1]) ?_
    refine V_istore C dX11_work_54 (Nat.le_of_ble_eq_true rfl) [(0, .ref (qH g 4)), (1, .ref (qA g P9 K9)), (2, .ref (qC g c9)), (3, .ref (qR g rr)), (4, .ref (qR g rs)), (5, .int (nI (ln σ rr))), (6, .int (nI (ln σ rs)))] [1, 2, 3, 4, 5, 6, 0] rfl ?_
    refine V_iconst (v := 0) C dX11_work_56 rfl ?_
    refine V_pc (pc1 := 57) rfl ?_
    refine V_istore C dX11_work_57 (Nat.le_of_ble_eq_true rfl) [(0, .ref (qH g 4)), (1, .ref (qA g P9 K9)), (2, .ref (qC g c9)), (3, .ref (qR g rr)), (4, .ref (qR g rs)), (5, .int (nI (ln σ rr))), (6, .int (nI (ln σ rs))), (7, .int 0)] [1, 2, 3, 4, 5, 6, 7, 0] rfl ?_
    rw [← hke] at hraB hrxB hrcB
    have lp_59 : ∀ (fu9 : Nat) (q : Nat), ln σ rr - q < fu9 → (q ≤ ln σ rr) → (q ≤ ln σ rs) → (mf_by σ (σ.2.1 2 rr) rr rs q = 0) → V p l e { frames := 16, cells := 1, slots := 7, locals := 600 } s m args below meth c G N0 8 (QV below G N0 ((WP G (X 0) g σ z C9 M (mf_orderRows σ rr rs))) PX0 args s (1) (7)) (0) (0) M 59 [(0, .ref (qH g 4)), (1, .ref (qA g P9 K9)), (2, .ref (qC g c9)), (3, .ref (qR g rr)), (4, .ref (qR g rs)), (5, .int (nI (ln σ rr))), (6, .int (nI (ln σ rs))), (7, .int (nI q))] [] := by
      intro fu9
      induction fu9 with
      | zero => intro q  hfu9; exact absurd hfu9 (Nat.not_lt_zero _)
      | succ fu9 ih59 =>
        intro q  hfu9 hq hqb hby
        refine V_iload C dX11_work_59 7 rfl ?_
        refine V_iload C dX11_work_61 5 rfl ?_
        refine V_icmp_ge (tgt := 126) C dX11_work_63 (by decide) (fun c_63 => ?_) (fun c_63 => ?_)
        · refine V_iload C dX11_work_126 5 rfl ?_
          refine V_iload C dX11_work_128 6 rfl ?_
          refine V_icmp_ge (tgt := 139) C dX11_work_130 (by decide) (fun c_130 => ?_) (fun c_130 => ?_)
          · refine V_iload C dX11_work_139 5 rfl ?_
            refine V_iload C dX11_work_141 6 rfl ?_
            refine V_icmp_le (tgt := 150) C dX11_work_143 (by decide) (fun c_143 => ?_) (fun c_143 => ?_)
            · refine V_lconst (v := 0) C dX11_work_150 rfl ?_
              refine V_lret C dX11_work_151 rfl ?_ (by first | exact Nat.le_of_ble_eq_true rfl | omega | (dsimp only; omega) | (simp only [List.length_cons, List.length_nil]; omega)) (by first | exact Nat.le_of_ble_eq_true rfl | omega | (dsimp only; omega) | (simp only [List.length_cons, List.length_nil]; omega))
              have hqm : q = min (ln σ rr) (ln σ rs) := by have := (nI_leI (by omega) (by omega)).mp c_63; omega
              exact WP.read hR (by unfold mf_orderRows; rw [if_neg (fun y => y.elim (fun z => z (great_yes hI hr hk9)) (fun z => z (by rw [hkE, hkEB, hke])))]; rw [ordR_end hqm hby]; rw [if_neg (Nat.not_lt.mpr ((nI_leI (by omega) (by omega)).mp c_130)), if_neg (Nat.not_lt.mpr ((nI_leI (by omega) (by omega)).mp c_143))])
            · refine V_lconst (v := 1) C dX11_work_146 rfl ?_
              refine V_goto (tgt := 151) C dX11_work_147 (by decide) ?_
              refine V_pc (pc1 := 151) rfl ?_
              refine V_lret C dX11_work_151 rfl ?_ (by first | exact Nat.le_of_ble_eq_true rfl | omega | (dsimp only; omega) | (simp only [List.length_cons, List.length_nil]; omega)) (by first | exact Nat.le_of_ble_eq_true rfl | omega | (dsimp only; omega) | (simp only [List.length_cons, List.length_nil]; omega))
              have hqm : q = min (ln σ rr) (ln σ rs) := by have := (nI_leI (by omega) (by omega)).mp c_63; omega
              exact WP.read hR (by unfold mf_orderRows; rw [if_neg (fun y => y.elim (fun z => z (great_yes hI hr hk9)) (fun z => z (by rw [hkE, hkEB, hke])))]; rw [ordR_end hqm hby]; rw [if_neg (Nat.not_lt.mpr ((nI_leI (by omega) (by omega)).mp c_130)), if_pos (nI_ltN9 (by omega) (by omega) c_143)])
          · refine V_ldc2 (v := -1) C (C.w q1312) dX11_work_133 ?_
            refine V_goto (tgt := 151) C dX11_work_136 (by decide) ?_
            refine V_lret C dX11_work_151 rfl ?_ (by first | exact Nat.le_of_ble_eq_true rfl | omega | (dsimp only; omega) | (simp only [List.length_cons, List.length_nil]; omega)) (by first | exact Nat.le_of_ble_eq_true rfl | omega | (dsimp only; omega) | (simp only [List.length_cons, List.length_nil]; omega))
            have hqm : q = min (ln σ rr) (ln σ rs) := by have := (nI_leI (by omega) (by omega)).mp c_63; omega
            exact WP.read hR (by unfold mf_orderRows; rw [if_neg (fun y => y.elim (fun z => z (great_yes hI hr hk9)) (fun z => z (by rw [hkE, hkEB, hke])))]; rw [ordR_end hqm hby]; rw [if_pos (nI_ltN9 (by omega) (by omega) c_130)])
        · refine V_iload C dX11_work_66 7 rfl ?_
          refine V_iload C dX11_work_68 6 rfl ?_
          refine V_icmp_ge (tgt := 126) C dX11_work_70 (by decide) (fun c_70 => ?_) (fun c_70 => ?_)
          · refine V_iload C dX11_work_126 5 rfl ?_
            refine V_iload C dX11_work_128 6 rfl ?_
            refine V_icmp_ge (tgt := 139) C dX11_work_130 (by decide) (fun c_130_2 => ?_) (fun c_130_2 => ?_)
            · refine V_iload C dX11_work_139 5 rfl ?_
              refine V_iload C dX11_work_141 6 rfl ?_
              refine V_pc (pc1 := 143) rfl ?_
              refine V_icmp_le (tgt := 150) C dX11_work_143 (by decide) (fun c_143_2 => ?_) (fun c_143_2 => ?_)
              · refine V_lconst (v := 0) C dX11_work_150 rfl ?_
                refine V_lret C dX11_work_151 rfl ?_ (by first | exact Nat.le_of_ble_eq_true rfl | omega | (dsimp only; omega) | (simp only [List.length_cons, List.length_nil]; omega)) (by first | exact Nat.le_of_ble_eq_true rfl | omega | (dsimp only; omega) | (simp only [List.length_cons, List.length_nil]; omega))
                have hqm : q = min (ln σ rr) (ln σ rs) := by have := (nI_leI (by omega) (by omega)).mp c_70; omega
                exact WP.read hR (by unfold mf_orderRows; rw [if_neg (fun y => y.elim (fun z => z (great_yes hI hr hk9)) (fun z => z (by rw [hkE, hkEB, hke])))]; rw [ordR_end hqm hby]; rw [if_neg (Nat.not_lt.mpr ((nI_leI (by omega) (by omega)).mp c_130_2)), if_neg (Nat.not_lt.mpr ((nI_leI (by omega) (by omega)).mp c_143_2))])
              · refine V_lconst (v := 1) C dX11_work_146 rfl ?_
                refine V_goto (tgt := 151) C dX11_work_147 (by decide) ?_
                refine V_lret C dX11_work_151 rfl ?_ (by first | exact Nat.le_of_ble_eq_true rfl | omega | (dsimp only; omega) | (simp only [List.length_cons, List.length_nil]; omega)) (by first | exact Nat.le_of_ble_eq_true rfl | omega | (dsimp only; omega) | (simp only [List.length_cons, List.length_nil]; omega))
                have hqm : q = min (ln σ rr) (ln σ rs) := by have := (nI_leI (by omega) (by omega)).mp c_70; omega
                exact WP.read hR (by unfold mf_orderRows; rw [if_neg (fun y => y.elim (fun z => z (great_yes hI hr hk9)) (fun z => z (by rw [hkE, hkEB, hke])))]; rw [ordR_end hqm hby]; rw [if_neg (Nat.not_lt.mpr ((nI_leI (by omega) (by omega)).mp c_130_2)), if_pos (nI_ltN9 (by omega) (by omega) c_143_2)])
            · refine V_ldc2 (v := -1) C (C.w q1312) dX11_work_133 ?_
              refine V_goto (tgt := 151) C dX11_work_136 (by decide) ?_
              refine V_pc (pc1 := 151) rfl ?_
              refine V_lret C dX11_work_151 rfl ?_ (by first | exact Nat.le_of_ble_eq_true rfl | omega | (dsimp only; omega) | (simp only [List.length_cons, List.length_nil]; omega)) (by first | exact Nat.le_of_ble_eq_true rfl | omega | (dsimp only; omega) | (simp only [List.length_cons, List.length_nil]; omega))
              have hqm : q = min (ln σ rr) (ln σ rs) := by have := (nI_leI (by omega) (by omega)).mp c_70; omega
              exact WP.read hR (by unfold mf_orderRows; rw [if_neg (fun y => y.elim (fun z => z (great_yes hI hr hk9)) (fun z => z (by rw [hkE, hkEB, hke])))]; rw [ordR_end hqm hby]; rw [if_pos (nI_ltN9 (by omega) (by omega) c_130_2)])
          · refine V_aload_n C dX11_work_73 rfl 3 rfl ?_
            refine V_iload C dX11_work_74 7 rfl ?_
            refine V_aload C dX11_work_76 4 rfl ?_
            refine V_iload C dX11_work_78 7 rfl ?_
            have hq2 : q < ln σ rr := nI_ltN9 (by omega) (by omega) c_63
            have hq2b : q < ln σ rs := nI_ltN9 (by omega) (by omega) c_70
            refine V_callSN C (c_X1_isBelow l hl G X N0 M (qR g rr) (qR g rs) (kd σ rr) q q xr xrB (el σ rr q) (el σ rs q) (by omega) hra (by rw [hrx.1]; omega) (by rw [hrx.1]; omega) (hrc q (by omega)) hraB (by rw [hrxB.1]; omega) (by rw [hrxB.1]; omega) (hrcB q (by omega)) (hR.UH hI)) cs_X11_46 rfl rfl ⟨Nat.le_of_ble_eq_true rfl, Nat.le_of_ble_eq_true rfl⟩ ⟨(by first | exact Nat.le_of_ble_eq_true rfl | omega | (dsimp only; omega) | (simp only [List.length_cons, List.length_nil]; omega)), (by first | exact Nat.le_of_ble_eq_true rfl | omega | (dsimp only; omega) | (simp only [List.length_cons, List.length_nil]; omega))⟩ (Nat.le_of_ble_eq_true rfl) dX11_work_80 (fun _ _ _ h => px0 h) ?_
            rintro _ _ ⟨rfl, rfl⟩
            refine V_st (st' := [.int (bI (mf_order (nI (kd σ rr)) (el σ rr q) (el σ rs q) < 0))]) rfl ?_
            refine V_pc (pc1 := 83) rfl ?_
            refine V_if_ne (tgt := 99) C dX11_work_83 (by decide) (fun c_83 => ?_) (fun c_83 => ?_)
            · refine V_aload_n C dX11_work_99 rfl 3 rfl ?_
              refine V_iload C dX11_work_100 7 rfl ?_
              refine V_aload C dX11_work_102 4 rfl ?_
              refine V_iload C dX11_work_104 7 rfl ?_
              refine V_callSN C (c_X1_isBelow l hl G X N0 M (qR g rr) (qR g rs) (kd σ rr) q q xr xrB (el σ rr q) (el σ rs q) (by omega) hra (by rw [hrx.1]; omega) (by rw [hrx.1]; omega) (hrc q (by omega)) hraB (by rw [hrxB.1]; omega) (by rw [hrxB.1]; omega) (hrcB q (by omega)) (hR.UH hI)) cs_X11_46 rfl rfl ⟨Nat.le_of_ble_eq_true rfl, Nat.le_of_ble_eq_true rfl⟩ ⟨(by first | exact Nat.le_of_ble_eq_true rfl | omega | (dsimp only; omega) | (simp only [List.length_cons, List.length_nil]; omega)), (by first | exact Nat.le_of_ble_eq_true rfl | omega | (dsimp only; omega) | (simp only [List.length_cons, List.length_nil]; omega))⟩ (Nat.le_of_ble_eq_true rfl) dX11_work_106 (fun _ _ _ h => px0 h) ?_
              rintro _ _ ⟨rfl, rfl⟩
              refine V_st (st' := [.int (bI (mf_order (nI (kd σ rr)) (el σ rr q) (el σ rs q) < 0))]) rfl ?_
              refine V_if_eq (tgt := 118) C dX11_work_109 (by decide) (fun c_109 => ?_) (fun c_109 => ?_)
              · refine V_lconst (v := 1) C dX11_work_118 rfl ?_
                refine V_lret C dX11_work_119 rfl ?_ (by first | exact Nat.le_of_ble_eq_true rfl | omega | (dsimp only; omega) | (simp only [List.length_cons, List.length_nil]; omega)) (by first | exact Nat.le_of_ble_eq_true rfl | omega | (dsimp only; omega) | (simp only [List.length_cons, List.length_nil]; omega))
                have hps : 0 < mf_order (nI (kd σ rr)) (el σ rr q) (el σ rs q) := (absurd (bI_n.mp c_83) (bI_0.mp c_109))
                exact WP.read hR (by unfold mf_orderRows; rw [if_neg (fun y => y.elim (fun z => z (great_yes hI hr hk9)) (fun z => z (by rw [hkE, hkEB, hke])))]; rw [ordR_hit hq2 hq2b hby (by rw [hkE]; intro y; rw [y] at hps; exact absurd hps (by decide)), hkE, ord_p1 hps])
              · refine V_ldc2 (v := -1) C (C.w q1312) dX11_work_112 ?_
                refine V_goto (tgt := 119) C dX11_work_115 (by decide) ?_
                refine V_lret C dX11_work_119 rfl ?_ (by first | exact Nat.le_of_ble_eq_true rfl | omega | (dsimp only; omega) | (simp only [List.length_cons, List.length_nil]; omega)) (by first | exact Nat.le_of_ble_eq_true rfl | omega | (dsimp only; omega) | (simp only [List.length_cons, List.length_nil]; omega))
                exact WP.read hR (by unfold mf_orderRows; rw [if_neg (fun y => y.elim (fun z => z (great_yes hI hr hk9)) (fun z => z (by rw [hkE, hkEB, hke])))]; rw [ordR_hit hq2 hq2b hby (by rw [hkE]; intro y; have := bI_n.mp c_109; rw [y] at this; exact absurd this (by decide)), hkE, ord_m1 (bI_n.mp c_109)])
            · refine V_aload C dX11_work_86 4 rfl ?_
              refine V_iload C dX11_work_88 7 rfl ?_
              refine V_aload_n C dX11_work_90 rfl 3 rfl ?_
              refine V_iload C dX11_work_91 7 rfl ?_
              refine V_callSN C (c_X1_isBelow l hl G X N0 M (qR g rs) (qR g rr) (kd σ rr) q q xrB xr (el σ rs q) (el σ rr q) (by omega) hraB (by rw [hrxB.1]; omega) (by rw [hrxB.1]; omega) (hrcB q (by omega)) hra (by rw [hrx.1]; omega) (by rw [hrx.1]; omega) (hrc q (by omega)) (hR.UH hI)) cs_X11_46 rfl rfl ⟨Nat.le_of_ble_eq_true rfl, Nat.le_of_ble_eq_true rfl⟩ ⟨(by first | exact Nat.le_of_ble_eq_true rfl | omega | (dsimp only; omega) | (simp only [List.length_cons, List.length_nil]; omega)), (by first | exact Nat.le_of_ble_eq_true rfl | omega | (dsimp only; omega) | (simp only [List.length_cons, List.length_nil]; omega))⟩ (Nat.le_of_ble_eq_true rfl) dX11_work_93 (fun _ _ _ h => px0 h) ?_
              rintro _ _ ⟨rfl, rfl⟩
              refine V_st (st' := [.int (bI (mf_order (nI (kd σ rr)) (el σ rs q) (el σ rr q) < 0))]) rfl ?_
              refine V_if_eq (tgt := 120) C dX11_work_96 (by decide) (fun c_96 => ?_) (fun c_96 => ?_)
              · refine V_iinc (v := nI (q + 1)) C dX11_work_120 (k := 7) rfl (nI_add q 1) (Nat.le_of_ble_eq_true rfl) [(0, .ref (qH g 4)), (1, .ref (qA g P9 K9)), (2, .ref (qC g c9)), (3, .ref (qR g rr)), (4, .ref (qR g rs)), (5, .int (nI (ln σ rr))), (6, .int (nI (ln σ rs))), (7, .int (nI (q + 1)))] [1, 2, 3, 4, 5, 6, 7, 0] rfl ?_
                refine V_goto (tgt := 59) C dX11_work_123 (by decide) ?_
                exact ih59 (q + 1)  (by omega) (by omega) (by omega) (ordR_go hby hkE (bI_0.mp c_83) (bI_0.mp c_96))
              · refine V_aload_n C dX11_work_99 rfl 3 rfl ?_
                refine V_iload C dX11_work_100 7 rfl ?_
                refine V_aload C dX11_work_102 4 rfl ?_
                refine V_iload C dX11_work_104 7 rfl ?_
                refine V_callSN C (c_X1_isBelow l hl G X N0 M (qR g rr) (qR g rs) (kd σ rr) q q xr xrB (el σ rr q) (el σ rs q) (by omega) hra (by rw [hrx.1]; omega) (by rw [hrx.1]; omega) (hrc q (by omega)) hraB (by rw [hrxB.1]; omega) (by rw [hrxB.1]; omega) (hrcB q (by omega)) (hR.UH hI)) cs_X11_46 rfl rfl ⟨Nat.le_of_ble_eq_true rfl, Nat.le_of_ble_eq_true rfl⟩ ⟨(by first | exact Nat.le_of_ble_eq_true rfl | omega | (dsimp only; omega) | (simp only [List.length_cons, List.length_nil]; omega)), (by first | exact Nat.le_of_ble_eq_true rfl | omega | (dsimp only; omega) | (simp only [List.length_cons, List.length_nil]; omega))⟩ (Nat.le_of_ble_eq_true rfl) dX11_work_106 (fun _ _ _ h => px0 h) ?_
                rintro _ _ ⟨rfl, rfl⟩
                refine V_st (st' := [.int (bI (mf_order (nI (kd σ rr)) (el σ rr q) (el σ rs q) < 0))]) rfl ?_
                refine V_pc (pc1 := 109) rfl ?_
                refine V_if_eq (tgt := 118) C dX11_work_109 (by decide) (fun c_109_2 => ?_) (fun c_109_2 => ?_)
                · refine V_lconst (v := 1) C dX11_work_118 rfl ?_
                  refine V_lret C dX11_work_119 rfl ?_ (by first | exact Nat.le_of_ble_eq_true rfl | omega | (dsimp only; omega) | (simp only [List.length_cons, List.length_nil]; omega)) (by first | exact Nat.le_of_ble_eq_true rfl | omega | (dsimp only; omega) | (simp only [List.length_cons, List.length_nil]; omega))
                  have hps : 0 < mf_order (nI (kd σ rr)) (el σ rr q) (el σ rs q) := order_flip.mp (bI_n.mp c_96)
                  exact WP.read hR (by unfold mf_orderRows; rw [if_neg (fun y => y.elim (fun z => z (great_yes hI hr hk9)) (fun z => z (by rw [hkE, hkEB, hke])))]; rw [ordR_hit hq2 hq2b hby (by rw [hkE]; intro y; rw [y] at hps; exact absurd hps (by decide)), hkE, ord_p1 hps])
                · refine V_ldc2 (v := -1) C (C.w q1312) dX11_work_112 ?_
                  refine V_goto (tgt := 119) C dX11_work_115 (by decide) ?_
                  refine V_lret C dX11_work_119 rfl ?_ (by first | exact Nat.le_of_ble_eq_true rfl | omega | (dsimp only; omega) | (simp only [List.length_cons, List.length_nil]; omega)) (by first | exact Nat.le_of_ble_eq_true rfl | omega | (dsimp only; omega) | (simp only [List.length_cons, List.length_nil]; omega))
                  exact WP.read hR (by unfold mf_orderRows; rw [if_neg (fun y => y.elim (fun z => z (great_yes hI hr hk9)) (fun z => z (by rw [hkE, hkEB, hke])))]; rw [ordR_hit hq2 hq2b hby (by rw [hkE]; intro y; have := bI_n.mp c_109_2; rw [y] at this; exact absurd this (by decide)), hkE, ord_m1 (bI_n.mp c_109_2)])
    refine V_loc (L' := [(0, .ref (qH g 4)), (1, .ref (qA g P9 K9)), (2, .ref (qC g c9)), (3, .ref (qR g rr)), (4, .ref (qR g rs)), (5, .int (nI (ln σ rr))), (6, .int (nI (ln σ rs))), (7, .int 0)]) [0, 1, 2, 3, 4, 5, 6, 7] rfl ?_
    exact lp_59 _ 0  (Nat.lt_succ_self _) (Nat.zero_le _) (Nat.zero_le _) rfl
  · exact absurd (by rw [hke]) c_31
theorem eq10 {σ : MS} (hI : MI σ) {a b : Nat} (ha : a < nJ σ) (hb : b < nJ σ) : mf_eq σ (nI 10) (lN a) (lN b) ↔ (iln σ a = iln σ b ∧ ∀ m, m < iln σ a → σ.2.1 10 (40 * a + m) = σ.2.1 10 (40 * b + m)) := by
  have hJ := hI.J.2
  have h1 := hI.il ha
  have h2 := hI.il hb
  unfold mf_eq mf_eqI
  rw [lN_i, lN_i, nI_clamp (n := a) (by omega), nI_clamp (n := b) (by omega), h1.1, h2.1]
  have na := lN_neg (u := a) (by omega)
  have nb := lN_neg (u := b) (by omega)
  constructor
  · rintro (⟨y, -⟩ | ⟨y, -⟩ | ⟨-, -, y, -⟩ | ⟨-, -, -, y⟩)
    · exact absurd y (by decide)
    · exact absurd y (by decide)
    · exact absurd y (fun z => z.elim (fun z => z rfl) (fun z => z.elim na nb))
    · exact ⟨nI_inj9 (by omega) (by omega) y.1, y.2⟩
  · intro y
    exact Or.inr (Or.inr (Or.inr ⟨rfl, na, nb, by rw [y.1], y.2⟩))
theorem eq10n {σ : MS} {p q : Int64} (h : p < 0 ∨ q < 0) : mf_eq σ (nI 10) p q ↔ p = q := by
  unfold mf_eq
  constructor
  · rintro (⟨y, -⟩ | ⟨y, -⟩ | ⟨-, -, -, y⟩ | ⟨-, y1, y2, -⟩)
    · exact absurd y (by decide)
    · exact absurd y (by decide)
    · exact y
    · exact absurd h (fun z => z.elim y1 y2)
  · intro y
    exact Or.inr (Or.inr (Or.inl ⟨by decide, by decide, Or.inr h, y⟩))
set_option maxHeartbeats 1000000 in
theorem c_X1_isEqual_10 (l : Launch) (hl : l.stackTraces = false) (G : hp_G) (X : Nat → Nat) (N0 : Nat) (M : hp_h) (g : RG) (σ : MS) (z : Nat → Int32) (C9 c9 : Nat) (hC : c9 + 1 = C9) (hR : REL G (X 0) g σ z (σ.1 31) C9 M) (hI : MI σ) (ra rb i : Nat) (hra0 : ra < nR σ) (hrb0 : rb < nR σ) (hka : kd σ ra = 10) (hkb : kd σ rb = 10) (hi : i < ln σ ra) (hiB : i < ln σ rb) : HM l yX1_isEqual (ws_ yX1_isEqual cX1_isEqual 7 (some .boolean)) 5 113 0 0 G X N0 [.ref (qR g ra), .ref (qR g rb), .int (nI i)] M (PV (.int (bI (mf_eq σ (nI 10) (el σ ra i) (el σ rb i)))) M) PX0 := by
  refine HM.of hl [(0, .ref (qR g ra)), (1, .ref (qR g rb)), (2, .int (nI i))] (by decide +kernel) rfl (Nat.le_of_ble_eq_true rfl) ?_
  intro p e s m args below meth c C hname
  have hN := hR.N
  obtain ⟨f10, hf1, hf2⟩ := hR.r10 hra0 hka
  obtain ⟨fB0, hf1B, hf2B⟩ := hR.r10 hrb0 hkb
  have hla := (hI.l hra0).2
  have hlb := (hI.l hrb0).2
  refine V_aload_n C dX1_isEqual_0 rfl 0 rfl ?_
  refine V_callS C (c_X1_isReal l hl G X N0 M (qR g ra) 10 (by decide) _ hf1) cs_X1_83 rfl rfl ⟨Nat.le_of_ble_eq_true rfl, Nat.le_of_ble_eq_true rfl⟩ ⟨(by first | exact Nat.le_of_ble_eq_true rfl | omega | (dsimp only; omega) | (simp only [List.length_cons, List.length_nil]; omega)), (by first | exact Nat.le_of_ble_eq_true rfl | omega | (dsimp only; omega) | (simp only [List.length_cons, List.length_nil]; omega))⟩ (Nat.le_of_ble_eq_true rfl) dX1_isEqual_1 (fun _ _ _ h => px0 h) ?_
  rintro _ _ ⟨rfl, rfl⟩
  refine V_st (st' := [.int (bI (10 = 6 ∨ 10 = 7))]) rfl ?_
  refine V_if_eq (tgt := 27) C dX1_isEqual_4 (by decide) (fun c_4 => ?_) (fun c_4 => ?_)
  · refine V_aload_n C dX1_isEqual_27 rfl 0 rfl ?_
    refine V_instAY C (j := 10) (by decide) q617 (Or.inl rfl) hf1 dX1_isEqual_28 ?_
    refine V_if_ne (tgt := 54) C dX1_isEqual_31 (by decide) (fun c_31 => ?_) (fun c_31 => ?_)
    · refine V_aload_n C dX1_isEqual_54 rfl 0 rfl ?_
      refine V_castA C (j := 10) (by decide) q617 (Or.inl rfl) hf1 dX1_isEqual_55 ?_
      refine V_iload_n C dX1_isEqual_58 rfl 2 rfl ?_
      rcases hf2 i hi with ⟨he, hfn⟩ | ⟨jj, hj, he, hfu⟩
      · skip
        refine V_aald C (j := 10) rfl rfl hf1 (vp_in_nI (by omega) (by omega)) dX1_isEqual_59 ?_
        refine V_st (st' := [.null]) (by rw [nI_clamp (by omega), hfn]; rfl) ?_
        refine V_astore_nN C dX1_isEqual_60 rfl (Nat.le_of_ble_eq_true rfl) [(0, .ref (qR g ra)), (1, .ref (qR g rb)), (2, .int (nI i)), (3, .null)] [1, 2, 3, 0] rfl ?_
        refine V_pc (pc1 := 61) rfl ?_
        refine V_aload_n C dX1_isEqual_61 rfl 1 rfl ?_
        refine V_castA C (j := 10) (by decide) q617 (Or.inl rfl) hf1B dX1_isEqual_62 ?_
        refine V_iload_n C dX1_isEqual_65 rfl 2 rfl ?_
        rcases hf2B i hiB with ⟨heB, hfnB⟩ | ⟨jB, hjB, heB, hfuB⟩
        · skip
          refine V_aald C (j := 10) rfl rfl hf1B (vp_in_nI (by omega) (by omega)) dX1_isEqual_66 ?_
          refine V_st (st' := [.null]) (by rw [nI_clamp (by omega), hfnB]; rfl) ?_
          refine V_astoreN C dX1_isEqual_67 (Nat.le_of_ble_eq_true rfl) [(0, .ref (qR g ra)), (1, .ref (qR g rb)), (2, .int (nI i)), (3, .null), (4, .null)] [1, 2, 3, 4, 0] rfl ?_
          refine V_aload_nN C dX1_isEqual_69 rfl 3 rfl ?_
          refine V_ifnullN (tgt := 78) C dX1_isEqual_70 (by decide) ?_
          refine V_aload_nN C dX1_isEqual_78 rfl 3 rfl ?_
          refine V_aloadN C dX1_isEqual_79 4 rfl ?_
          refine V_st (st' := va_rf none :: va_rf none :: []) rfl ?_
          refine V_acmp_ne (tgt := 88) C dX1_isEqual_81 (by decide) (fun c_81 => ?_) (fun c_81 => ?_)
          · exact absurd rfl c_81
          · refine V_iconst (v := 1) C dX1_isEqual_84 rfl ?_
            refine V_goto (tgt := 89) C dX1_isEqual_85 (by decide) ?_
            refine V_pc (pc1 := 89) rfl ?_
            refine V_zret C rfl dX1_isEqual_89 rfl ?_ (by first | exact Nat.le_of_ble_eq_true rfl | omega | (dsimp only; omega) | (simp only [List.length_cons, List.length_nil]; omega)) (by first | exact Nat.le_of_ble_eq_true rfl | omega | (dsimp only; omega) | (simp only [List.length_cons, List.length_nil]; omega))
            exact ⟨congrArg (fun z => some (Value.int z)) (bI_t ((eq10n (Or.inl (by rw [he]; decide))).mpr (by rw [he, heB]))), rfl⟩
        · skip
          obtain ⟨fB, hB1, hB2⟩ := hR.ji hjB
          have hBl := (hI.il hjB).2
          refine V_aald C (j := 10) rfl rfl hf1B (vp_in_nI (by omega) (by omega)) dX1_isEqual_66 ?_
          refine V_st (st' := [.ref (qJ g jB)]) (by rw [nI_clamp (by omega), hfuB]; rfl) ?_
          refine V_astore C dX1_isEqual_67 (Nat.le_of_ble_eq_true rfl) [(0, .ref (qR g ra)), (1, .ref (qR g rb)), (2, .int (nI i)), (3, .null), (4, .ref (qJ g jB))] [1, 2, 3, 4, 0] rfl ?_
          refine V_aload_nN C dX1_isEqual_69 rfl 3 rfl ?_
          refine V_ifnullN (tgt := 78) C dX1_isEqual_70 (by decide) ?_
          refine V_aload_nN C dX1_isEqual_78 rfl 3 rfl ?_
          refine V_aload C dX1_isEqual_79 4 rfl ?_
          refine V_st (st' := va_rf (some (qJ g jB)) :: va_rf none :: []) rfl ?_
          refine V_acmp_ne (tgt := 88) C dX1_isEqual_81 (by decide) (fun c_81_2 => ?_) (fun c_81_2 => ?_)
          · refine V_iconst (v := 0) C dX1_isEqual_88 rfl ?_
            refine V_zret C rfl dX1_isEqual_89 rfl ?_ (by first | exact Nat.le_of_ble_eq_true rfl | omega | (dsimp only; omega) | (simp only [List.length_cons, List.length_nil]; omega)) (by first | exact Nat.le_of_ble_eq_true rfl | omega | (dsimp only; omega) | (simp only [List.length_cons, List.length_nil]; omega))
            exact ⟨congrArg (fun z => some (Value.int z)) (bI_f (fun y => absurd ((eq10n (Or.inl (by rw [he]; decide))).mp y) (by rw [he, heB]; exact lN_n1 (by have := hI.J.2; omega)))), rfl⟩
          · exact absurd c_81_2 (by simp)
      · skip
        obtain ⟨fj, hj1, hj2⟩ := hR.ji hj
        have hjl := (hI.il hj).2
        refine V_aald C (j := 10) rfl rfl hf1 (vp_in_nI (by omega) (by omega)) dX1_isEqual_59 ?_
        refine V_st (st' := [.ref (qJ g jj)]) (by rw [nI_clamp (by omega), hfu]; rfl) ?_
        refine V_astore_n C dX1_isEqual_60 rfl (Nat.le_of_ble_eq_true rfl) [(0, .ref (qR g ra)), (1, .ref (qR g rb)), (2, .int (nI i)), (3, .ref (qJ g jj))] [1, 2, 3, 0] rfl ?_
        refine V_pc (pc1 := 61) rfl ?_
        refine V_aload_n C dX1_isEqual_61 rfl 1 rfl ?_
        refine V_castA C (j := 10) (by decide) q617 (Or.inl rfl) hf1B dX1_isEqual_62 ?_
        refine V_iload_n C dX1_isEqual_65 rfl 2 rfl ?_
        rcases hf2B i hiB with ⟨heB, hfnB⟩ | ⟨jB, hjB, heB, hfuB⟩
        · skip
          refine V_aald C (j := 10) rfl rfl hf1B (vp_in_nI (by omega) (by omega)) dX1_isEqual_66 ?_
          refine V_st (st' := [.null]) (by rw [nI_clamp (by omega), hfnB]; rfl) ?_
          refine V_astoreN C dX1_isEqual_67 (Nat.le_of_ble_eq_true rfl) [(0, .ref (qR g ra)), (1, .ref (qR g rb)), (2, .int (nI i)), (3, .ref (qJ g jj)), (4, .null)] [1, 2, 3, 4, 0] rfl ?_
          refine V_aload_n C dX1_isEqual_69 rfl 3 rfl ?_
          refine V_ifnull C dX1_isEqual_70 ?_
          refine V_aloadN C dX1_isEqual_73 4 rfl ?_
          refine V_ifnonnullN C dX1_isEqual_75 ?_
          refine V_aload_n C dX1_isEqual_78 rfl 3 rfl ?_
          refine V_aloadN C dX1_isEqual_79 4 rfl ?_
          refine V_st (st' := va_rf none :: va_rf (some (qJ g jj)) :: []) rfl ?_
          refine V_acmp_ne (tgt := 88) C dX1_isEqual_81 (by decide) (fun c_81_3 => ?_) (fun c_81_3 => ?_)
          · refine V_pc (pc1 := 88) rfl ?_
            refine V_iconst (v := 0) C dX1_isEqual_88 rfl ?_
            refine V_zret C rfl dX1_isEqual_89 rfl ?_ (by first | exact Nat.le_of_ble_eq_true rfl | omega | (dsimp only; omega) | (simp only [List.length_cons, List.length_nil]; omega)) (by first | exact Nat.le_of_ble_eq_true rfl | omega | (dsimp only; omega) | (simp only [List.length_cons, List.length_nil]; omega))
            exact ⟨congrArg (fun z => some (Value.int z)) (bI_f (fun y => absurd ((eq10n (Or.inr (by rw [heB]; decide))).mp y) (by rw [he, heB]; exact (lN_n1 (by have := hI.J.2; omega)).symm))), rfl⟩
          · exact absurd c_81_3 (by simp)
        · skip
          obtain ⟨fB, hB1, hB2⟩ := hR.ji hjB
          have hBl := (hI.il hjB).2
          refine V_aald C (j := 10) rfl rfl hf1B (vp_in_nI (by omega) (by omega)) dX1_isEqual_66 ?_
          refine V_st (st' := [.ref (qJ g jB)]) (by rw [nI_clamp (by omega), hfuB]; rfl) ?_
          refine V_astore C dX1_isEqual_67 (Nat.le_of_ble_eq_true rfl) [(0, .ref (qR g ra)), (1, .ref (qR g rb)), (2, .int (nI i)), (3, .ref (qJ g jj)), (4, .ref (qJ g jB))] [1, 2, 3, 4, 0] rfl ?_
          refine V_aload_n C dX1_isEqual_69 rfl 3 rfl ?_
          refine V_ifnull C dX1_isEqual_70 ?_
          refine V_aload C dX1_isEqual_73 4 rfl ?_
          refine V_ifnonnull (tgt := 90) C dX1_isEqual_75 (by decide) ?_
          refine V_aload_n C dX1_isEqual_90 rfl 3 rfl ?_
          refine V_alen (j := 4) C rfl hj1 (v := nI (iln σ jj)) rfl dX1_isEqual_91 ?_
          refine V_aload C dX1_isEqual_92 4 rfl ?_
          refine V_pc (pc1 := 94) rfl ?_
          refine V_alen (j := 4) C rfl hB1 (v := nI (iln σ jB)) rfl dX1_isEqual_94 ?_
          refine V_icmp_ne (tgt := 102) C dX1_isEqual_95 (by decide) (fun c_95 => ?_) (fun c_95 => ?_)
          · refine V_iconst (v := 0) C dX1_isEqual_102 rfl ?_
            refine V_istore C dX1_isEqual_103 (Nat.le_of_ble_eq_true rfl) [(0, .ref (qR g ra)), (1, .ref (qR g rb)), (2, .int (nI i)), (3, .ref (qJ g jj)), (4, .ref (qJ g jB)), (5, .int 0)] [1, 2, 3, 4, 5, 0] rfl ?_
            refine V_iconst (v := 0) C dX1_isEqual_105 rfl ?_
            refine V_istore C dX1_isEqual_106 (Nat.le_of_ble_eq_true rfl) [(0, .ref (qR g ra)), (1, .ref (qR g rb)), (2, .int (nI i)), (3, .ref (qJ g jj)), (4, .ref (qJ g jB)), (5, .int 0), (6, .int 0)] [1, 2, 3, 4, 5, 6, 0] rfl ?_
            have lp_108 : ∀ (fu9 : Nat) (q : Nat) (v5 : Int32), iln σ jj - q < fu9 → (q ≤ iln σ jj) → (v5 = 0 ∨ v5 = 1) → (v5 = 1 ↔ (iln σ jj = iln σ jB ∧ ∀ m, m < q → fj m = fB m)) → V p l e { frames := 5, cells := 0, slots := 0, locals := 113 } s m args below meth c G N0 7 (QV below G N0 (PV (.int (bI (mf_eq σ (nI 10) (el σ ra i) (el σ rb i)))) M) PX0 args s (0) (0)) (0) (0) M 108 [(0, .ref (qR g ra)), (1, .ref (qR g rb)), (2, .int (nI i)), (3, .ref (qJ g jj)), (4, .ref (qJ g jB)), (5, .int v5), (6, .int (nI q))] [] := by
              intro fu9
              induction fu9 with
              | zero => intro q v5  hfu9; exact absurd hfu9 (Nat.not_lt_zero _)
              | succ fu9 ih108 =>
                intro q v5  hfu9 hq hv01 hvw
                refine V_iload C dX1_isEqual_108 5 rfl ?_
                refine V_if_eq (tgt := 145) C dX1_isEqual_110 (by decide) (fun c_110 => ?_) (fun c_110 => ?_)
                · obtain rfl | rfl := hv01
                  · skip
                    refine V_iload C dX1_isEqual_145 5 rfl ?_
                    refine V_zret C rfl dX1_isEqual_147 rfl ?_ (by first | exact Nat.le_of_ble_eq_true rfl | omega | (dsimp only; omega) | (simp only [List.length_cons, List.length_nil]; omega)) (by first | exact Nat.le_of_ble_eq_true rfl | omega | (dsimp only; omega) | (simp only [List.length_cons, List.length_nil]; omega))
                    exact ⟨congrArg (fun z => some (Value.int z)) (bI_f (fun y => by rw [he, heB] at y; have z9 := (eq10 hI hj hjB).mp y; have := hvw.mpr ⟨z9.1, fun m hm => by rw [hj2 m (by omega), hB2 m (by omega)]; exact z9.2 m (by omega)⟩; exact absurd this (by decide))), rfl⟩
                  · skip
                    refine V_iload C dX1_isEqual_145 5 rfl ?_
                    refine V_zret C rfl dX1_isEqual_147 rfl ?_ (by first | exact Nat.le_of_ble_eq_true rfl | omega | (dsimp only; omega) | (simp only [List.length_cons, List.length_nil]; omega)) (by first | exact Nat.le_of_ble_eq_true rfl | omega | (dsimp only; omega) | (simp only [List.length_cons, List.length_nil]; omega))
                    exact ⟨congrArg (fun z => some (Value.int z)) (bI_t (absurd c_110 (by decide))), rfl⟩
                · refine V_iload C dX1_isEqual_113 6 rfl ?_
                  refine V_aload_n C dX1_isEqual_115 rfl 3 rfl ?_
                  refine V_alen (j := 4) C rfl hj1 (v := nI (iln σ jj)) rfl dX1_isEqual_116 ?_
                  refine V_icmp_ge (tgt := 145) C dX1_isEqual_117 (by decide) (fun c_117 => ?_) (fun c_117 => ?_)
                  · obtain rfl | rfl := hv01
                    · skip
                      refine V_pc (pc1 := 145) rfl ?_
                      refine V_iload C dX1_isEqual_145 5 rfl ?_
                      refine V_zret C rfl dX1_isEqual_147 rfl ?_ (by first | exact Nat.le_of_ble_eq_true rfl | omega | (dsimp only; omega) | (simp only [List.length_cons, List.length_nil]; omega)) (by first | exact Nat.le_of_ble_eq_true rfl | omega | (dsimp only; omega) | (simp only [List.length_cons, List.length_nil]; omega))
                      exact ⟨congrArg (fun z => some (Value.int z)) (bI_f (fun y => by rw [he, heB] at y; have z9 := (eq10 hI hj hjB).mp y; have := hvw.mpr ⟨z9.1, fun m hm => by rw [hj2 m (by omega), hB2 m (by omega)]; exact z9.2 m (by omega)⟩; exact absurd this (by decide))), rfl⟩
                    · skip
                      refine V_pc (pc1 := 145) rfl ?_
                      refine V_iload C dX1_isEqual_145 5 rfl ?_
                      refine V_zret C rfl dX1_isEqual_147 rfl ?_ (by first | exact Nat.le_of_ble_eq_true rfl | omega | (dsimp only; omega) | (simp only [List.length_cons, List.length_nil]; omega)) (by first | exact Nat.le_of_ble_eq_true rfl | omega | (dsimp only; omega) | (simp only [List.length_cons, List.length_nil]; omega))
                      exact ⟨congrArg (fun z => some (Value.int z)) (bI_t (by rw [he, heB]; refine (eq10 hI hj hjB).mpr ⟨(hvw.mp rfl).1, fun m hm => ?_⟩; have hl := (hvw.mp rfl).1; have hqq := (nI_leI (by omega) (by omega)).mp c_117; rw [← hj2 m hm, ← hB2 m (by omega)]; exact (hvw.mp rfl).2 m (by omega))), rfl⟩
                  · have hq2 : q < iln σ jj := nI_ltN9 (by omega) (by omega) c_117
                    have hv1 := hvw.mp (hv01.resolve_left c_110)
                    have hq2B : q < iln σ jB := by omega
                    refine V_pc (pc1 := 120) rfl ?_
                    refine V_aload_n C dX1_isEqual_120 rfl 3 rfl ?_
                    refine V_iload C dX1_isEqual_121 6 rfl ?_
                    refine V_iald C hj1 (vp_in_nI (by omega) (by omega)) dX1_isEqual_123 ?_
                    refine V_st (st' := [.int (fj q)]) (by rw [nI_clamp (by omega)]) ?_
                    refine V_aload C dX1_isEqual_124 4 rfl ?_
                    refine V_iload C dX1_isEqual_126 6 rfl ?_
                    refine V_iald C hB1 (vp_in_nI (by omega) (by omega)) dX1_isEqual_128 ?_
                    refine V_st (st' := [.int (fB q), .int (fj q)]) (by rw [nI_clamp (by omega)]) ?_
                    refine V_icmp_ne (tgt := 136) C dX1_isEqual_129 (by decide) (fun c_129 => ?_) (fun c_129 => ?_)
                    · refine V_iconst (v := 0) C dX1_isEqual_136 rfl ?_
                      refine V_istore C dX1_isEqual_137 (Nat.le_of_ble_eq_true rfl) [(0, .ref (qR g ra)), (1, .ref (qR g rb)), (2, .int (nI i)), (3, .ref (qJ g jj)), (4, .ref (qJ g jB)), (5, .int 0), (6, .int (nI q))] [1, 2, 3, 4, 5, 0, 6] rfl ?_
                      refine V_iinc (v := nI (q + 1)) C dX1_isEqual_139 (k := 6) rfl (nI_add q 1) (Nat.le_of_ble_eq_true rfl) [(0, .ref (qR g ra)), (1, .ref (qR g rb)), (2, .int (nI i)), (3, .ref (qJ g jj)), (4, .ref (qJ g jB)), (5, .int 0), (6, .int (nI (q + 1)))] [1, 2, 3, 4, 5, 6, 0] rfl ?_
                      refine V_goto (tgt := 108) C dX1_isEqual_142 (by decide) ?_
                      exact ih108 (q + 1) 0  (by omega) (by omega) (Or.inl rfl) (⟨fun y => absurd y (by decide), fun y => absurd (y.2 q (by omega)) c_129⟩)
                    · refine V_iconst (v := 1) C dX1_isEqual_132 rfl ?_
                      refine V_goto (tgt := 137) C dX1_isEqual_133 (by decide) ?_
                      refine V_istore C dX1_isEqual_137 (Nat.le_of_ble_eq_true rfl) [(0, .ref (qR g ra)), (1, .ref (qR g rb)), (2, .int (nI i)), (3, .ref (qJ g jj)), (4, .ref (qJ g jB)), (5, .int 1), (6, .int (nI q))] [1, 2, 3, 4, 5, 0, 6] rfl ?_
                      refine V_iinc (v := nI (q + 1)) C dX1_isEqual_139 (k := 6) rfl (nI_add q 1) (Nat.le_of_ble_eq_true rfl) [(0, .ref (qR g ra)), (1, .ref (qR g rb)), (2, .int (nI i)), (3, .ref (qJ g jj)), (4, .ref (qJ g jB)), (5, .int 1), (6, .int (nI (q + 1)))] [1, 2, 3, 4, 5, 6, 0] rfl ?_
                      refine V_goto (tgt := 108) C dX1_isEqual_142 (by decide) ?_
                      exact ih108 (q + 1) 1  (by omega) (by omega) (Or.inr rfl) (⟨fun _ => ⟨hv1.1, fun m hm => (Classical.em (m = q)).elim (fun e => by rw [e]; exact c_129) (fun e => hv1.2 m (by omega))⟩, fun _ => rfl⟩)
            refine V_loc (L' := [(0, .ref (qR g ra)), (1, .ref (qR g rb)), (2, .int (nI i)), (3, .ref (qJ g jj)), (4, .ref (qJ g jB)), (5, .int 0), (6, .int 0)]) [0, 1, 2, 3, 4, 5, 6] rfl ?_
            exact lp_108 _ 0 0  (Nat.lt_succ_self _) (Nat.zero_le _) (Or.inl rfl) (⟨fun y => absurd y (by decide), fun y => absurd (by rw [y.1]) c_95⟩)
          · refine V_iconst (v := 1) C dX1_isEqual_98 rfl ?_
            refine V_goto (tgt := 103) C dX1_isEqual_99 (by decide) ?_
            refine V_istore C dX1_isEqual_103 (Nat.le_of_ble_eq_true rfl) [(0, .ref (qR g ra)), (1, .ref (qR g rb)), (2, .int (nI i)), (3, .ref (qJ g jj)), (4, .ref (qJ g jB)), (5, .int 1)] [1, 2, 3, 4, 5, 0] rfl ?_
            refine V_iconst (v := 0) C dX1_isEqual_105 rfl ?_
            refine V_istore C dX1_isEqual_106 (Nat.le_of_ble_eq_true rfl) [(0, .ref (qR g ra)), (1, .ref (qR g rb)), (2, .int (nI i)), (3, .ref (qJ g jj)), (4, .ref (qJ g jB)), (5, .int 1), (6, .int 0)] [1, 2, 3, 4, 5, 6, 0] rfl ?_
            have lp_108 : ∀ (fu9 : Nat) (q : Nat) (v5 : Int32), iln σ jj - q < fu9 → (q ≤ iln σ jj) → (v5 = 0 ∨ v5 = 1) → (v5 = 1 ↔ (iln σ jj = iln σ jB ∧ ∀ m, m < q → fj m = fB m)) → V p l e { frames := 5, cells := 0, slots := 0, locals := 113 } s m args below meth c G N0 7 (QV below G N0 (PV (.int (bI (mf_eq σ (nI 10) (el σ ra i) (el σ rb i)))) M) PX0 args s (0) (0)) (0) (0) M 108 [(0, .ref (qR g ra)), (1, .ref (qR g rb)), (2, .int (nI i)), (3, .ref (qJ g jj)), (4, .ref (qJ g jB)), (5, .int v5), (6, .int (nI q))] [] := by
              intro fu9
              induction fu9 with
              | zero => intro q v5  hfu9; exact absurd hfu9 (Nat.not_lt_zero _)
              | succ fu9 ih108 =>
                intro q v5  hfu9 hq hv01 hvw
                refine V_iload C dX1_isEqual_108 5 rfl ?_
                refine V_if_eq (tgt := 145) C dX1_isEqual_110 (by decide) (fun c_110_2 => ?_) (fun c_110_2 => ?_)
                · obtain rfl | rfl := hv01
                  · skip
                    refine V_iload C dX1_isEqual_145 5 rfl ?_
                    refine V_zret C rfl dX1_isEqual_147 rfl ?_ (by first | exact Nat.le_of_ble_eq_true rfl | omega | (dsimp only; omega) | (simp only [List.length_cons, List.length_nil]; omega)) (by first | exact Nat.le_of_ble_eq_true rfl | omega | (dsimp only; omega) | (simp only [List.length_cons, List.length_nil]; omega))
                    exact ⟨congrArg (fun z => some (Value.int z)) (bI_f (fun y => by rw [he, heB] at y; have z9 := (eq10 hI hj hjB).mp y; have := hvw.mpr ⟨z9.1, fun m hm => by rw [hj2 m (by omega), hB2 m (by omega)]; exact z9.2 m (by omega)⟩; exact absurd this (by decide))), rfl⟩
                  · skip
                    refine V_iload C dX1_isEqual_145 5 rfl ?_
                    refine V_zret C rfl dX1_isEqual_147 rfl ?_ (by first | exact Nat.le_of_ble_eq_true rfl | omega | (dsimp only; omega) | (simp only [List.length_cons, List.length_nil]; omega)) (by first | exact Nat.le_of_ble_eq_true rfl | omega | (dsimp only; omega) | (simp only [List.length_cons, List.length_nil]; omega))
                    exact ⟨congrArg (fun z => some (Value.int z)) (bI_t (absurd c_110_2 (by decide))), rfl⟩
                · refine V_iload C dX1_isEqual_113 6 rfl ?_
                  refine V_aload_n C dX1_isEqual_115 rfl 3 rfl ?_
                  refine V_alen (j := 4) C rfl hj1 (v := nI (iln σ jj)) rfl dX1_isEqual_116 ?_
                  refine V_pc (pc1 := 117) rfl ?_
                  refine V_icmp_ge (tgt := 145) C dX1_isEqual_117 (by decide) (fun c_117_2 => ?_) (fun c_117_2 => ?_)
                  · obtain rfl | rfl := hv01
                    · skip
                      refine V_iload C dX1_isEqual_145 5 rfl ?_
                      refine V_zret C rfl dX1_isEqual_147 rfl ?_ (by first | exact Nat.le_of_ble_eq_true rfl | omega | (dsimp only; omega) | (simp only [List.length_cons, List.length_nil]; omega)) (by first | exact Nat.le_of_ble_eq_true rfl | omega | (dsimp only; omega) | (simp only [List.length_cons, List.length_nil]; omega))
                      exact ⟨congrArg (fun z => some (Value.int z)) (bI_f (fun y => by rw [he, heB] at y; have z9 := (eq10 hI hj hjB).mp y; have := hvw.mpr ⟨z9.1, fun m hm => by rw [hj2 m (by omega), hB2 m (by omega)]; exact z9.2 m (by omega)⟩; exact absurd this (by decide))), rfl⟩
                    · skip
                      refine V_iload C dX1_isEqual_145 5 rfl ?_
                      refine V_zret C rfl dX1_isEqual_147 rfl ?_ (by first | exact Nat.le_of_ble_eq_true rfl | omega | (dsimp only; omega) | (simp only [List.length_cons, List.length_nil]; omega)) (by first | exact Nat.le_of_ble_eq_true rfl | omega | (dsimp only; omega) | (simp only [List.length_cons, List.length_nil]; omega))
                      exact ⟨congrArg (fun z => some (Value.int z)) (bI_t (by rw [he, heB]; refine (eq10 hI hj hjB).mpr ⟨(hvw.mp rfl).1, fun m hm => ?_⟩; have hl := (hvw.mp rfl).1; have hqq := (nI_leI (by omega) (by omega)).mp c_117_2; rw [← hj2 m hm, ← hB2 m (by omega)]; exact (hvw.mp rfl).2 m (by omega))), rfl⟩
                  · have hq2 : q < iln σ jj := nI_ltN9 (by omega) (by omega) c_117_2
                    have hv1 := hvw.mp (hv01.resolve_left c_110_2)
                    have hq2B : q < iln σ jB := by omega
                    refine V_aload_n C dX1_isEqual_120 rfl 3 rfl ?_
                    refine V_iload C dX1_isEqual_121 6 rfl ?_
                    refine V_iald C hj1 (vp_in_nI (by omega) (by omega)) dX1_isEqual_123 ?_
                    refine V_st (st' := [.int (fj q)]) (by rw [nI_clamp (by omega)]) ?_
                    refine V_aload C dX1_isEqual_124 4 rfl ?_
                    refine V_iload C dX1_isEqual_126 6 rfl ?_
                    refine V_iald C hB1 (vp_in_nI (by omega) (by omega)) dX1_isEqual_128 ?_
                    refine V_st (st' := [.int (fB q), .int (fj q)]) (by rw [nI_clamp (by omega)]) ?_
                    refine V_icmp_ne (tgt := 136) C dX1_isEqual_129 (by decide) (fun c_129_2 => ?_) (fun c_129_2 => ?_)
                    · refine V_iconst (v := 0) C dX1_isEqual_136 rfl ?_
                      refine V_istore C dX1_isEqual_137 (Nat.le_of_ble_eq_true rfl) [(0, .ref (qR g ra)), (1, .ref (qR g rb)), (2, .int (nI i)), (3, .ref (qJ g jj)), (4, .ref (qJ g jB)), (5, .int 0), (6, .int (nI q))] [1, 2, 3, 4, 5, 0, 6] rfl ?_
                      refine V_iinc (v := nI (q + 1)) C dX1_isEqual_139 (k := 6) rfl (nI_add q 1) (Nat.le_of_ble_eq_true rfl) [(0, .ref (qR g ra)), (1, .ref (qR g rb)), (2, .int (nI i)), (3, .ref (qJ g jj)), (4, .ref (qJ g jB)), (5, .int 0), (6, .int (nI (q + 1)))] [1, 2, 3, 4, 5, 6, 0] rfl ?_
                      refine V_goto (tgt := 108) C dX1_isEqual_142 (by decide) ?_
                      exact ih108 (q + 1) 0  (by omega) (by omega) (Or.inl rfl) (⟨fun y => absurd y (by decide), fun y => absurd (y.2 q (by omega)) c_129_2⟩)
                    · refine V_iconst (v := 1) C dX1_isEqual_132 rfl ?_
                      refine V_goto (tgt := 137) C dX1_isEqual_133 (by decide) ?_
                      refine V_istore C dX1_isEqual_137 (Nat.le_of_ble_eq_true rfl) [(0, .ref (qR g ra)), (1, .ref (qR g rb)), (2, .int (nI i)), (3, .ref (qJ g jj)), (4, .ref (qJ g jB)), (5, .int 1), (6, .int (nI q))] [1, 2, 3, 4, 5, 0, 6] rfl ?_
                      refine V_iinc (v := nI (q + 1)) C dX1_isEqual_139 (k := 6) rfl (nI_add q 1) (Nat.le_of_ble_eq_true rfl) [(0, .ref (qR g ra)), (1, .ref (qR g rb)), (2, .int (nI i)), (3, .ref (qJ g jj)), (4, .ref (qJ g jB)), (5, .int 1), (6, .int (nI (q + 1)))] [1, 2, 3, 4, 5, 6, 0] rfl ?_
                      refine V_pc (pc1 := 142) rfl ?_
                      refine V_goto (tgt := 108) C dX1_isEqual_142 (by decide) ?_
                      exact ih108 (q + 1) 1  (by omega) (by omega) (Or.inr rfl) (⟨fun _ => ⟨hv1.1, fun m hm => (Classical.em (m = q)).elim (fun e => by rw [e]; exact c_129_2) (fun e => hv1.2 m (by omega))⟩, fun _ => rfl⟩)
            refine V_loc (L' := [(0, .ref (qR g ra)), (1, .ref (qR g rb)), (2, .int (nI i)), (3, .ref (qJ g jj)), (4, .ref (qJ g jB)), (5, .int 1), (6, .int 0)]) [0, 1, 2, 3, 4, 5, 6] rfl ?_
            exact lp_108 _ 0 1  (Nat.lt_succ_self _) (Nat.zero_le _) (Or.inr rfl) (⟨fun _ => ⟨nI_inj9 (by omega) (by omega) c_95, fun m hm => absurd hm (Nat.not_lt_zero m)⟩, fun _ => rfl⟩)
    · exact absurd c_31 (by decide)
  · exact absurd c_4 (by decide)
