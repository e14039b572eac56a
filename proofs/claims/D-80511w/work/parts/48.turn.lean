set_option maxRecDepth 100000
section C48
variable {G : hp_G} {E0 : Nat} {g g0 g1 : RG} {σ σ1 σ' : MS} {z : Nat → Int32} {ca : Int32} {C : Nat} {Y : Nat → Prop} {M M2 M3 M' : hp_h}
theorem RD.gg {t i j : Nat} (h2 : t ≠ 2) (h4 : t ≠ 4) (h17 : t ≠ 17) (h19 : t ≠ 19) (h : RD σ g C t i j) : RD σ g1 C t i j := by
  unfold RD at h ⊢
  split at h <;> (try dsimp only) <;> first | exact h | exact absurd rfl h2 | exact absurd rfl h4 | exact absurd rfl h17 | exact absurd rfl h19
theorem RELY.rowF (h : RELY G E0 g σ z ca C Y M) {r : Nat} (hr : r < nR σ) {f' : Nat → Int64} {x' : vp_A} (hM : M' (qR g r) = some (.inl (G.2 (kd σ r), x'))) (hf : hp_fr (fun b => b = qR g r) M M') (hx : XT (kd σ r) (ln σ r) x') (hc : ∀ k, k < ln σ r → CE (nU σ) (nJ σ) (fun u => qU g u) (fun y => qJ g y) (kd σ r) x' k (f' (40 * r + k))) (ho : ∀ r' k, r' < nR σ → r' ≠ r → k < ln σ r' → f' (40 * r' + k) = el σ r' k) (hk : ∀ c, c + 1 = C → (∃ i, i < kn g c ∧ wh g c i = r) ∨ kr σ c ≤ r) : RELY G E0 g (sl σ 4 f') z ca C Y M' := by
  refine (h.row hr hx hc ho hk).heap (fun a e ha _ => ?_)
  by_cases e9 : a = qR g r
  · subst e9
    rw [hp_up_s] at ha
    cases ha
    exact hM
  · rw [hp_up_n e9] at ha
    exact hf a e e9 ha
theorem RKp.rowF {n r : Nat} (hr : r < nR σ) (hf : hp_fr (fun b => b = qR g r) M M') (hs : hp_sh M M') {f' : Nat → Int64} : RKp n σ g C M (sl σ 4 f') g C M' :=
  RKp.mk9 (fun _ _ _ _ _ _ _ _ _ _ => rfl) hf (fun a h => ⟨5, r, 0, ⟨hr, rfl⟩, h.symm⟩) (fun t i j hd => Or.inl ⟨hd, rfl⟩) hs
theorem VW.RD (hv : VW σ σ') {t i j : Nat} (h : RD σ' g C t i j) : RD σ g C t i j := by
  have h1 := hv.1 1 (by decide)
  have h5 := hv.1 5 (by decide)
  have h8 := hv.1 8 (by decide)
  have h16 := hv.2.2.1 16 (by decide)
  unfold _root_.Jvm.Pilot.CNativeSubsetLaw_law_r3584_2ddaea.RD nR nU nJ psz at h ⊢
  rw [h1, h5, h8, h16] at h
  exact h
theorem RKp.view {n C1 : Nat} (h : RKp n σ g C M σ1 g1 C1 M') (hv : VW σ1 σ') : RKp n σ g C M σ' g1 C1 M' := by
  refine ⟨h.1, fun a e ha hn => ⟨(h.2.1 a e ha hn).1, ?_⟩, h.2.2⟩
  rintro ⟨t, i, j, hd, e9⟩
  exact (h.2.1 a e ha hn).2 ⟨t, i, j, hv.RD hd, e9⟩
theorem CE.kg {k i : Nat} {x : vp_A} {b : Int64} {U J : Nat} (hk1 : ∀ t i j, t ≠ 17 → t ≠ 19 → g1.1 t i j = g.1 t i j) (h : CE U J (fun u => qU g u) (fun y => qJ g y) k x i b) : CE U J (fun u => qU g1 u) (fun y => qJ g1 y) k x i b :=
  h.mono (Nat.le_refl _) (Nat.le_refl _) (fun u _ => hk1 6 u 0 (by decide) (by decide)) (fun j _ => hk1 7 j 0 (by decide) (by decide))
/-- a row that is kept is changed: behind what comes first (p0), a call of keep (hKp) -/
theorem ROWK {r c : Nat} {f' : Nat → Int64} {x' : vp_A} (hp0 : RKp (nR σ) σ g C M σ1 g0 C M2) (hn : nR σ1 = nR σ) (hD0 : ∀ t i j, t ≠ 2 → t ≠ 4 → t ≠ 17 → t ≠ 19 → RD σ g C t i j → RD σ1 g0 C t i j)
    (hR1 : REL G E0 g1 σ1 z ca C M3) (hKp : RKp (nR σ1) σ1 g0 C M2 σ1 g1 C M3) (hr : r < nR σ1) (hC : c + 1 = C) (hkw : ∃ i, i < kn g1 c ∧ wh g1 c i = r)
    (hM : M' (qR g1 r) = some (.inl (G.2 (kd σ1 r), x'))) (hf : hp_fr (fun b => b = qR g1 r) M3 M') (hs : hp_sh M3 M') (hx : XT (kd σ1 r) (ln σ1 r) x') (hc : ∀ k, k < ln σ1 r → CE (nU σ1) (nJ σ1) (fun u => qU g1 u) (fun y => qJ g1 y) (kd σ1 r) x' k (f' (40 * r + k))) (ho : ∀ r' k, r' < nR σ1 → r' ≠ r → k < ln σ1 r' → f' (40 * r' + k) = el σ1 r' k)
    (hv : VW (sl σ1 4 f') σ') : REL G E0 g1 σ' z ca C M' ∧ RKp (nR σ) σ g C M σ' g1 C M' := by
  constructor
  · refine (hR1.rowF hr hM hf hx hc ho (fun c' hc' => ?_)).view hv
    obtain rfl : c' = c := by omega
    exact Or.inl hkw
  · have h1 := hKp.trans (RKp.rowF (n := nR σ1) (C := C) hr hf hs (f' := f')) (Nat.le_refl _) (Nat.le_refl _) (fun t i j h2 h4 h17 h19 hd _ _ => RD.gg h2 h4 h17 h19 hd)
    have h2 := hp0.trans h1 (Nat.le_refl _) (by omega) (fun t i j h2 h4 h17 h19 hd _ _ => hD0 t i j h2 h4 h17 h19 hd)
    exact h2.view hv
theorem WP.of9 {r : Int32 × MS} {w : Int64} (h : REL G E0 g1 σ' z (σ.1 31) C M' ∧ RKp (nR σ) σ g C M σ' g1 C M') (hr : r = (0, σ')) (hw : σ'.2.2.2 = w) (h31 : σ'.1 31 = σ.1 31) : WP G E0 g σ z C M r (some (.long w)) M' := by
  subst hr hw
  refine ⟨rfl, rfl, g1, ?_, h.2⟩
  show REL G E0 g1 σ' z (σ'.1 31) C M'
  rw [h31]
  exact h.1
end C48
set_option maxHeartbeats 1000000 in
theorem c_X14_work_p (l : Launch) (hl : l.stackTraces = false) (G : hp_G) (X : Nat → Nat) (N0 : Nat) (M : hp_h) (g : RG) (σ : MS) (z : Nat → Int32) (C9 c9 : Nat) (hC : c9 + 1 = C9) (hR : REL G (X 0) g σ z (σ.1 31) C9 M) (hI : MI σ) (P9 K9 rr : Nat) (x0 i b j n : Int32) (hP9 : P9 < 6) (hK9 : K9 < psz σ P9) (hr : rr < nR σ) (hAF : AF σ P9 K9 = [.int x0, .int (nI rr), .int i, .int b, .int j, .int n]) (hk9 : 0 ≤ kd σ rr ∧ kd σ rr ≤ 10) (hp : ¬ mf_places σ rr i n) : HM l yX14_work (ws_ yX14_work cX14_work 6 (some .long)) 16 600 4 180 G X N0 [.ref (qH g 7), .ref (qA g P9 K9), .ref (qC g c9)] M PFF (WX G (X 0) g σ z C9 M (mf_turn σ rr i n)) := by
  refine HM.of hl [(0, .ref (qH g 7)), (1, .ref (qA g P9 K9)), (2, .ref (qC g c9))] (by decide +kernel) rfl (Nat.le_of_ble_eq_true rfl) ?_
  intro p e s m args below meth c C hname
  have hN := hR.N
  have hH9 : M (qH g 7) = some (.inr (17, [.int 1, .ref (qN g), .int 0, .int 10, .ref (qN g), .ref (qN g), .ref (qN g)])) := hR.H (by decide)
  have hac : M (qA g P9 K9) = some (.inr (3, [.int x0, .int (nI rr), .int i, .int b, .int j, .int n])) := (hR.A hP9 hK9).trans (congrArg (fun y => some (Sum.inr (3, y))) hAF)
  refine V_aload_n C dX14_work_0 rfl 0 rfl ?_
  refine V_aload_n C dX14_work_1 rfl 1 rfl ?_
  refine V_callU C (c_X7_part_x17 l hl G X N0 M g σ z C9 c9 hC hR hI (qH g 7) hH9 (qA g P9 K9) x0 rr i b j n hr hac hk9 hp) cs_X14_15_17 hH9 (show CLS[17]? = some (RX14, TX14, 7) from rfl) rfl rfl ⟨Nat.le_of_ble_eq_true rfl, Nat.le_of_ble_eq_true rfl⟩ ⟨(by first | exact Nat.le_of_ble_eq_true rfl | omega | (dsimp only; omega) | (simp only [List.length_cons, List.length_nil]; omega)), (by first | exact Nat.le_of_ble_eq_true rfl | omega | (dsimp only; omega) | (simp only [List.length_cons, List.length_nil]; omega))⟩ (Nat.le_of_ble_eq_true rfl) dX14_work_2 ?_ (fun _ _ h => h.elim)
  rintro q9 E9 M9 hx9
  obtain rfl := hx9.1
  exact VX_out C (fun z hz => by cases hz) (WX.at0 (if_pos hp) (by decide) hx9) (by first | exact Nat.le_of_ble_eq_true rfl | omega | (dsimp only; omega) | (simp only [List.length_cons, List.length_nil]; omega)) (by first | exact Nat.le_of_ble_eq_true rfl | omega | (dsimp only; omega) | (simp only [List.length_cons, List.length_nil]; omega))
set_option maxHeartbeats 1000000 in
theorem c_X14_work (l : Launch) (hl : l.stackTraces = false) (G : hp_G) (X : Nat → Nat) (N0 : Nat) (M : hp_h) (g : RG) (σ : MS) (z : Nat → Int32) (C9 c9 : Nat) (hC : c9 + 1 = C9) (hR : REL G (X 0) g σ z (σ.1 31) C9 M) (hI : MI σ) (P9 K9 rr : Nat) (x0 i b j n : Int32) (hP9 : P9 < 6) (hK9 : K9 < psz σ P9) (hr : rr < nR σ) (hAF : AF σ P9 K9 = [.int x0, .int (nI rr), .int i, .int b, .int j, .int n]) (hk9 : 0 ≤ kd σ rr ∧ kd σ rr ≤ 10) (hp : mf_places σ rr i n) (hm : MW σ) (h0 : σ.2.2.2 = 0) : HM l yX14_work (ws_ yX14_work cX14_work 6 (some .long)) 16 600 4 180 G X N0 [.ref (qH g 7), .ref (qA g P9 K9), .ref (qC g c9)] M (WP G (X 0) g σ z C9 M (mf_turn σ rr i n)) PX0 := by
  refine HM.of hl [(0, .ref (qH g 7)), (1, .ref (qA g P9 K9)), (2, .ref (qC g c9))] (by decide +kernel) rfl (Nat.le_of_ble_eq_true rfl) ?_
  intro p e s m args below meth c C hname
  have hN := hR.N
  have hH9 : M (qH g 7) = some (.inr (17, [.int 1, .ref (qN g), .int 0, .int 10, .ref (qN g), .ref (qN g), .ref (qN g)])) := hR.H (by decide)
  have hac : M (qA g P9 K9) = some (.inr (3, [.int x0, .int (nI rr), .int i, .int b, .int j, .int n])) := (hR.A hP9 hK9).trans (congrArg (fun y => some (Sum.inr (3, y))) hAF)
  have hcC : c9 < C9 := by omega
  have hCc := hR.Cc hcC
  refine V_aload_n C dX14_work_0 rfl 0 rfl ?_
  refine V_aload_n C dX14_work_1 rfl 1 rfl ?_
  refine V_callU C (c_X7_part_17 l hl G X N0 M g σ z C9 c9 hC hR hI (qH g 7) hH9 (qA g P9 K9) x0 rr i b j n hr hac hk9 hp) cs_X14_15_17 hH9 (show CLS[17]? = some (RX14, TX14, 7) from rfl) rfl rfl ⟨Nat.le_of_ble_eq_true rfl, Nat.le_of_ble_eq_true rfl⟩ ⟨(by first | exact Nat.le_of_ble_eq_true rfl | omega | (dsimp only; omega) | (simp only [List.length_cons, List.length_nil]; omega)), (by first | exact Nat.le_of_ble_eq_true rfl | omega | (dsimp only; omega) | (simp only [List.length_cons, List.length_nil]; omega))⟩ (Nat.le_of_ble_eq_true rfl) dX14_work_2 (fun _ _ _ h => px0 h) ?_
  rintro _ _ ⟨rfl, rfl⟩
  refine V_st (st' := [.ref (qR g rr)]) rfl ?_
  obtain ⟨xr, hra, hrx, hrc⟩ := hR.rw hr
  obtain ⟨hkE, hkL⟩ := hI.k hr
  obtain ⟨hlE, hlL⟩ := hI.l hr
  obtain ⟨I, N, rfl, rfl, hIN⟩ := places_n (hI.l hr) hp
  refine V_astore_n C dX14_work_5 rfl (Nat.le_of_ble_eq_true rfl) [(0, .ref (qH g 7)), (1, .ref (qA g P9 K9)), (2, .ref (qC g c9)), (3, .ref (qR g rr))] [1, 2, 3, 0] rfl ?_
  refine V_aload_n C dX14_work_6 rfl 3 rfl ?_
  have hfr : hp_fr (fun _ => False) M M := hp_fr.rf
  have hsh : hp_sh M M := hp_sh.rf
  refine V_callSN C (c_X1_cloneOf l hl G X N0 M (qR g rr) (kd σ rr) (ln σ rr) xr hkL hra hrx (by omega) (fun i hi => (hR.ev hI hrc (hm rr hr) i hi).sh hsh)) cs_X14_19 rfl rfl ⟨Nat.le_of_ble_eq_true rfl, Nat.le_of_ble_eq_true rfl⟩ ⟨(by first | exact Nat.le_of_ble_eq_true rfl | omega | (dsimp only; omega) | (simp only [List.length_cons, List.length_nil]; omega)), (by first | exact Nat.le_of_ble_eq_true rfl | omega | (dsimp only; omega) | (simp only [List.length_cons, List.length_nil]; omega))⟩ (Nat.le_of_ble_eq_true rfl) dX14_work_7 (fun _ _ _ h => px0 h) ?_
  rintro _ M_8 ⟨q_1, x_2, rfl, hq_3, hn_4, hx_5, hcv_6, frC_7⟩
  refine V_st (st' := [.ref q_1]) rfl ?_
  have ho_9 : M_8 (qN g) = some (.inr (0, [.ref (qRl g), .ref (qUl g), .ref (qPl g), .ref (qHs g), .int (σ.1 20), .int (σ.1 14), .int (σ.1 11), .int (σ.1 12), .int (σ.1 15), .int (z 0), .int (z 1), .int (z 2), .int (z 3), .int (z 4), .int (z 5), .int (σ.1 31), .ref (qAn g)])) := frC_7 _ _ (fun y => y) hN
  have ho_10 : M_8 (qH g 7) = some (.inr (17, [.int 1, .ref (qN g), .int 0, .int 10, .ref (qN g), .ref (qN g), .ref (qN g)])) := frC_7 _ _ (fun y => y) hH9
  have ho_11 : M_8 (qA g P9 K9) = some (.inr (3, [.int x0, .int (nI rr), .int (nI I), .int b, .int j, .int (nI N)])) := frC_7 _ _ (fun y => y) hac
  have ho_12 : M_8 (qC g c9) = some (.inr (4, [.int (σ.2.1 21 c9), .int (σ.2.1 25 c9), .ref (qKl g c9), .ref (qW g c9), .int (σ.2.1 24 c9), .int (σ.2.1 23 c9 - σ.2.1 24 c9), .int (σ.2.1 22 c9), .ref (qN g)])) := frC_7 _ _ (fun y => y) hCc
  have ha_13 : M_8 (qR g rr) = some (.inl (G.2 (kd σ rr), xr)) := frC_7 _ _ (fun y => y) hra
  have fr_14 := hfr.trans (frC_7.weak (fun _ y => y.elim))
  have sh_15 := hsh.trans (hp_sh.of frC_7)
  have hqM_16 : M q_1 = none := hp_sh_none hsh hq_3
  refine V_astore C dX14_work_10 (Nat.le_of_ble_eq_true rfl) [(0, .ref (qH g 7)), (1, .ref (qA g P9 K9)), (2, .ref (qC g c9)), (3, .ref (qR g rr)), (4, .ref q_1)] [1, 2, 3, 4, 0] rfl ?_
  refine V_aload_n C dX14_work_12 rfl 2 rfl ?_
  refine V_aload_n C dX14_work_13 rfl 1 rfl ?_
  refine V_getN C f_X14_23_3 ho_11 (v := .int (nI rr)) rfl dX14_work_14 ?_
  have hR_18 := hR.grow fr_14
  refine V_callV C (c_X25_keep l hl G X N0 M_8 g σ z C9 c9 hC hR_18 hI hm rr hr) cs_X14_29_4 ho_12 (show CLS[4]? = some (RX25, TX25, 8) from rfl) rfl rfl ⟨Nat.le_of_ble_eq_true rfl, Nat.le_of_ble_eq_true rfl⟩ ⟨(by first | exact Nat.le_of_ble_eq_true rfl | omega | (dsimp only; omega) | (simp only [List.length_cons, List.length_nil]; omega)), (by first | exact Nat.le_of_ble_eq_true rfl | omega | (dsimp only; omega) | (simp only [List.length_cons, List.length_nil]; omega))⟩ (Nat.le_of_ble_eq_true rfl) dX14_work_17 (fun _ _ _ h => px0 h) ?_
  rintro _ M_17 ⟨rfl, g1, hk1, hR1, hkw1, hKp1⟩
  refine V_st (st' := []) rfl ?_
  have eg_19 : (qH g1 7) = (qH g 7) := hk1 13 7 0 (by decide) (by decide)
  have eg_20 : (qA g1 P9 K9) = (qA g P9 K9) := hk1 11 P9 K9 (by decide) (by decide)
  have eg_21 : (qC g1 c9) = (qC g c9) := hk1 15 c9 0 (by decide) (by decide)
  have eg_22 : (qR g1 rr) = (qR g rr) := hk1 5 rr 0 (by decide) (by decide)
  refine V_loc (L' := [(0, .ref (qH g1 7)), (1, .ref (qA g1 P9 K9)), (2, .ref (qC g1 c9)), (3, .ref (qR g1 rr)), (4, .ref q_1)]) [0, 1, 2, 3, 4] (by rw [eg_19, eg_20, eg_21, eg_22]; rfl) ?_
  have hac1 : M_17 (qA g1 P9 K9) = some (.inr (3, [.int x0, .int (nI rr), .int (nI I), .int b, .int j, .int (nI N)])) := (hR1.A hP9 hK9).trans (congrArg (fun y => some (Sum.inr (3, y))) hAF)
  have hH1 : M_17 (qH g1 7) = some (.inr (17, [.int 1, .ref (qN g1), .int 0, .int 10, .ref (qN g1), .ref (qN g1), .ref (qN g1)])) := hR1.H (by decide)
  have sh_23 := sh_15.trans hKp1.2.2
  have hw_24 := hKp1.2.1 _ _ hn_4 (fun ⟨_, _, _, hd9, e9⟩ => hR.fresh hqM_16 _ _ _ hd9 e9)
  obtain ⟨xr1, hra1, hrx1, hrc1⟩ := hR1.rw hr
  refine V_pc (pc1 := 20) rfl ?_
  refine V_iconst (v := 0) C dX14_work_20 rfl ?_
  refine V_istore C dX14_work_21 (Nat.le_of_ble_eq_true rfl) [(0, .ref (qH g1 7)), (1, .ref (qA g1 P9 K9)), (2, .ref (qC g1 c9)), (3, .ref (qR g1 rr)), (4, .ref q_1), (5, .int 0)] [1, 2, 3, 4, 5, 0] rfl ?_
  have hfr3 : hp_fr (fun b => b = qR g1 rr) M_17 M_17 := hp_fr.rf
  have hs3 : hp_sh M_17 M_17 := hp_sh.rf
  have ne_25 : q_1 ≠ qR g1 rr := fun e9 => hw_24.2 ⟨5, rr, 0, ⟨hr, rfl⟩, e9.symm⟩
  have lp_23 : ∀ (fu9 : Nat) (q : Nat) (xk : vp_A) (M23 : hp_h), N - q < fu9 → (q ≤ N) → (∀ y, cv xk.2 y = if I ≤ y ∧ y < I + q then cv x_2.2 (I + N - 1 - (y - I)) else cv xr1.2 y) → (XT (kd σ rr) (ln σ rr) xk) → (M23 (qR g1 rr) = some (.inl (G.2 (kd σ rr), xk))) → (hp_fr (fun b => b = qR g1 rr) M_17 M23) → (hp_sh M_17 M23) → V p l e { frames := 16, cells := 4, slots := 180, locals := 600 } s m args below meth c G N0 6 (QV below G N0 ((WP G (X 0) g σ z C9 M (mf_turn σ rr (nI I) (nI N)))) PX0 args s (4) (180)) (0 + 1 + 2) (0 + (ln σ rr) + 130) M23 23 [(0, .ref (qH g1 7)), (1, .ref (qA g1 P9 K9)), (2, .ref (qC g1 c9)), (3, .ref (qR g1 rr)), (4, .ref q_1), (5, .int (nI q))] [] := by
    intro fu9
    induction fu9 with
    | zero => intro q xk M23 hfu9; exact absurd hfu9 (Nat.not_lt_zero _)
    | succ fu9 ih23 =>
      intro q xk M23 hfu9 hq hcvk hxk hraK hfrK hshK
      have ho_27 : M23 (qA g1 P9 K9) = some (.inr (3, [.int x0, .int (nI rr), .int (nI I), .int b, .int j, .int (nI N)])) := hfrK _ _ (hp_ne hac1 hra1 (by simp)) hac1
      have ho_28 : M23 (qH g1 7) = some (.inr (17, [.int 1, .ref (qN g1), .int 0, .int 10, .ref (qN g1), .ref (qN g1), .ref (qN g1)])) := hfrK _ _ (hp_ne hH1 hra1 (by simp)) hH1
      have ha_29 : M23 q_1 = some (.inl (G.2 (kd σ rr), x_2)) := hfrK _ _ ne_25 hw_24.1
      refine V_iload C dX14_work_23 5 rfl ?_
      refine V_aload_n C dX14_work_25 rfl 1 rfl ?_
      refine V_getN C f_X14_35_3 ho_27 (v := .int (nI N)) rfl dX14_work_26 ?_
      refine V_icmp_ge (tgt := 66) C dX14_work_29 (by decide) (fun c_29 => ?_) (fun c_29 => ?_)
      · refine V_lconst (v := 0) C dX14_work_66 rfl ?_
        refine V_lret C dX14_work_67 rfl ?_ (by first | exact Nat.le_of_ble_eq_true rfl | omega | (dsimp only; omega) | (simp only [List.length_cons, List.length_nil]; omega)) (by first | exact Nat.le_of_ble_eq_true rfl | omega | (dsimp only; omega) | (simp only [List.length_cons, List.length_nil]; omega))
        have hq3 : q = N := by have := (nI_leI (by omega) (by omega)).mp c_29; omega
        subst hq3
        refine WP.of9 (σ' := mf_turnA σ rr I q) (ROWK (f' := mfill (σ.2.2.1 4) (40 * rr + I) q (fun y => el σ rr (I + (q - 1 - y)))) (RKp.grow (fun _ _ _ y => y) fr_14) rfl (fun _ _ _ _ _ _ _ y => y) hR1 hKp1 hr hC hkw1 hraK hfrK hshK hxk (fun k hk => ?_) (fun r' k hr' hn hk => ?_) ⟨fun _ _ => rfl, fun _ _ => ⟨rfl, rfl⟩, fun _ _ => rfl, fun _ _ => rfl, rfl, fun _ _ _ _ => rfl⟩) (show mf_turn σ rr (nI I) (nI q) = (0, mf_turnA σ rr I q) from by unfold mf_turn; rw [if_neg (not_not_intro hp), nI_clamp (by omega), nI_clamp (by omega)]) h0 rfl
        · by_cases e : I ≤ k ∧ k < I + q
          · rw [show 40 * rr + k = 40 * rr + I + (k - I) by omega, mfill_in (by omega)]
            have h9 := hcvk k
            rw [if_pos e] at h9
            rw [show I + (q - 1 - (k - I)) = I + q - 1 - (k - I) by omega]
            exact CE.at_ (CE.at_ (CE.kg hk1 (hrc (I + q - 1 - (k - I)) (by omega))) (hcv_6 _ (by omega))) h9
          · rw [mfill_out (by omega)]
            have h9 := hcvk k
            rw [if_neg e] at h9
            exact (hrc1 k hk).at_ h9
        · have := (hI.l hr').2
          exact mfill_out (by omega)
      · have hq2 : q < N := nI_ltN9 (by omega) (by omega) c_29
        refine V_aload C dX14_work_32 4 rfl ?_
        refine V_aload_n C dX14_work_34 rfl 1 rfl ?_
        refine V_getN C f_X14_38_3 ho_27 (v := .int (nI I)) rfl dX14_work_35 ?_
        refine V_aload_n C dX14_work_38 rfl 1 rfl ?_
        refine V_getN C f_X14_35_3 ho_27 (v := .int (nI N)) rfl dX14_work_39 ?_
        refine V_iadd C dX14_work_42 ?_
        refine V_st (st' := [.int (nI (I + N)), .ref q_1]) (by rw [show ((nI I) + (nI N)) = (nI (I + N)) from nI_add I N]) ?_
        refine V_pc (pc1 := 43) rfl ?_
        refine V_iconst (v := 1) C dX14_work_43 rfl ?_
        refine V_isub C dX14_work_44 ?_
        refine V_st (st' := [.int (nI (I + N - 1)), .ref q_1]) (by rw [show ((nI (I + N)) - 1) = (nI (I + N - 1)) from (nI_sub (b := 1) (by omega))]) ?_
        refine V_iload C dX14_work_45 5 rfl ?_
        refine V_isub C dX14_work_47 ?_
        refine V_st (st' := [.int (nI (I + N - 1 - q)), .ref q_1]) (by rw [show ((nI (I + N - 1)) - (nI q)) = (nI (I + N - 1 - q)) from (nI_sub (by omega))]) ?_
        refine V_aload_n C dX14_work_48 rfl 3 rfl ?_
        refine V_aload_n C dX14_work_49 rfl 1 rfl ?_
        refine V_getN C f_X14_38_3 ho_27 (v := .int (nI I)) rfl dX14_work_50 ?_
        refine V_iload C dX14_work_53 5 rfl ?_
        refine V_iadd C dX14_work_55 ?_
        refine V_st (st' := [.int (nI (I + q)), .ref (qR g1 rr), .int (nI (I + N - 1 - q)), .ref q_1]) (by rw [show ((nI I) + (nI q)) = (nI (I + q)) from nI_add I q]) ?_
        refine V_iconst (v := 1) C dX14_work_56 rfl ?_
        refine V_st (st' := [.int (nI 1), .int (nI (I + q)), .ref (qR g1 rr), .int (nI (I + N - 1 - q)), .ref q_1]) rfl ?_
        refine V_copyKN C ⟨q1363, q532, q531, q76⟩ (Or.inl rfl) hx_5.2 hxk.2 ha_29 hraK (sp := (I + N - 1 - q)) (dp := (I + q)) (n := 1) (by rw [hx_5.1]; omega) (by rw [hxk.1]; omega) (by rw [hx_5.1]; omega) (by rw [hxk.1]; omega) (fun y hy => by obtain rfl : y = 0 := (by omega); rw [hcv_6 _ (by omega)]; exact (hR.ev hI hrc (hm rr hr) _ (by omega)).sh (sh_23.trans hshK)) ⟨Nat.le_of_ble_eq_true rfl, Nat.le_of_ble_eq_true rfl⟩ dX14_work_57 (fun x_30 hx_31 hcv_32 => ?_)
        obtain ⟨M_33, eM_34⟩ : ∃ z, z = hp_up M23 (qR g1 rr) (.inl (G.2 (kd σ rr), x_30)) := ⟨_, rfl⟩
        refine V_heap (M' := M_33) eM_34.symm ?_
        have ho_35 : M_33 (qA g1 P9 K9) = some (.inr (3, [.int x0, .int (nI rr), .int (nI I), .int b, .int j, .int (nI N)])) := by rw [eM_34, hp_up_n (hp_ne ho_27 hraK (by simp))]; exact ho_27
        have ho_36 : M_33 (qH g1 7) = some (.inr (17, [.int 1, .ref (qN g1), .int 0, .int 10, .ref (qN g1), .ref (qN g1), .ref (qN g1)])) := by rw [eM_34, hp_up_n (hp_ne ho_28 hraK (by simp))]; exact ho_28
        have ha_37 : M_33 q_1 = some (.inl (G.2 (kd σ rr), x_2)) := by rw [eM_34, hp_up_n ne_25]; exact ha_29
        have eM_34_s : M_33 (qR g1 rr) = some (.inl (G.2 (kd σ rr), x_30)) := by rw [eM_34]; exact hp_up_s
        have fr_38 := hp_fr.set hfrK (Or.inl rfl) eM_34
        have sh_39 := hp_sh.set hshK hraK eM_34 rfl
        have hxt_40 : XT (kd σ rr) (ln σ rr) x_30 := ⟨hx_31.1.trans hxk.1, hx_31.2⟩
        refine V_iinc (v := nI (q + 1)) C dX14_work_60 (k := 5) rfl (nI_add q 1) (Nat.le_of_ble_eq_true rfl) [(0, .ref (qH g1 7)), (1, .ref (qA g1 P9 K9)), (2, .ref (qC g1 c9)), (3, .ref (qR g1 rr)), (4, .ref q_1), (5, .int (nI (q + 1)))] [1, 2, 3, 4, 5, 0] rfl ?_
        refine V_pc (pc1 := 63) rfl ?_
        refine V_goto (tgt := 23) C dX14_work_63 (by decide) ?_
        have hcn : ∀ y, cv x_30.2 y = if I ≤ y ∧ y < I + (q + 1) then cv x_2.2 (I + N - 1 - (y - I)) else cv xr1.2 y := fun y => by
          rw [hcv_32 y]
          by_cases e : y = I + q
          · subst e
            rw [if_pos ⟨by omega, by omega⟩, if_pos ⟨by omega, by omega⟩, show I + N - 1 - q + (I + q - (I + q)) = I + N - 1 - (I + q - I) by omega]
          · rw [if_neg (by omega), hcvk y]
            by_cases e2 : I ≤ y ∧ y < I + q
            · rw [if_pos e2, if_pos (by omega)]
            · rw [if_neg e2, if_neg (by omega)]
        exact ih23 (q + 1) x_30 _ (by omega) (by omega) hcn hxt_40 eM_34_s fr_38 sh_39
  refine V_loc (L' := [(0, .ref (qH g1 7)), (1, .ref (qA g1 P9 K9)), (2, .ref (qC g1 c9)), (3, .ref (qR g1 rr)), (4, .ref q_1), (5, .int 0)]) [0, 1, 2, 3, 4, 5] rfl ?_
  exact lp_23 _ 0 xr1 _ (Nat.lt_succ_self _) (Nat.zero_le _) (fun y => by rw [if_neg (by omega)]) hrx1 hra1 hfr3 hs3
