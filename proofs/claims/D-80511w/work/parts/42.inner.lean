set_option maxRecDepth 100000
section I42
variable {G : hp_G} {E0 : Nat} {g : RG} {σ σ' : MS} {z z' : Nat → Int32} {ca ca' : Int32} {C : Nat} {Y : Nat → Prop} {M M' : hp_h}
theorem inn_no {r k m v : Int32} (h : ¬ (¬ r < 0 ∧ r < σ.1 1)) : mf_inner r k m v σ = (0, sz σ 0 1) := if_neg h
theorem inn_row (hI : MI σ) {r : Nat} (hr : r < nR σ) {k m v : Int32} : mf_inner (nI r) k m v σ = mf_innA r k m v σ := by
  unfold mf_inner
  rw [if_pos (isRow9 hI hr), nI_clamp (by have := hI.R.2; omega)]
theorem inn_kind (hI : MI σ) {r : Nat} (hr : r < nR σ) (hk : kd σ r < 10) {k m v : Int32} : mf_inner (nI r) k m v σ = (0, sz σ 0 2) := by
  rw [inn_row hI hr]
  unfold mf_innA
  rw [(hI.k hr).1, if_pos (fun y => by have := (nI_eq (b := 10) (by omega) (by decide)).mp y; omega)]
theorem inn_k10 (hI : MI σ) {r : Nat} (hr : r < nR σ) (hk : kd σ r = 10) {k m v : Int32} : mf_inner (nI r) k m v σ = if (k < 0 ∨ ln σ r ≤ k.toNatClampNeg) then (0, sz σ 0 3) else if el σ r k.toNatClampNeg < 0 then (0, sz σ 0 1) else mf_innB (el σ r k.toNatClampNeg).toInt32.toNatClampNeg m v σ := by
  rw [inn_row hI hr]
  unfold mf_innA
  rw [(hI.k hr).1, hk, if_neg (by decide), (hI.l hr).1]
  by_cases h : vp_in k (ln σ r)
  · rw [if_neg h, if_neg (not_not_intro ((inN (hI.l hr).2).mpr h))]
  · rw [if_pos (Classical.not_not.mp h), if_pos (fun y => h ((inN (hI.l hr).2).mp y))]
theorem inn_out (hI : MI σ) {r : Nat} (hr : r < nR σ) (hk : kd σ r = 10) {k m v : Int32} (h : ¬ vp_in k (ln σ r)) : mf_inner (nI r) k m v σ = (0, sz σ 0 3) := by rw [inn_k10 hI hr hk, if_pos (Classical.not_not.mp h)]
theorem inn_nul (hI : MI σ) {r i : Nat} (hr : r < nR σ) (hk : kd σ r = 10) {m v : Int32} (hi : i < ln σ r) (he : el σ r i = -1) : mf_inner (nI r) (nI i) m v σ = (0, sz σ 0 1) := by
  have hl := (hI.l hr).2
  rw [inn_k10 hI hr hk, if_neg (vp_in_nI hi (by omega)), nI_clamp (by omega), he, if_pos (by decide)]
theorem inn_j (hI : MI σ) {r i j : Nat} (hr : r < nR σ) (hk : kd σ r = 10) {m v : Int32} (hi : i < ln σ r) (hj : j < nJ σ) (he : el σ r i = lN j) : mf_inner (nI r) (nI i) m v σ = mf_innB j m v σ := by
  have hl := (hI.l hr).2
  have hJ := hI.J.2
  rw [inn_k10 hI hr hk, if_neg (vp_in_nI hi (by omega)), nI_clamp (n := i) (by omega), he, if_neg (lN_neg (by omega)), lN_i, nI_clamp (n := j) (by omega)]
theorem innB_out (hI : MI σ) {j : Nat} (hj : j < nJ σ) {m v : Int32} (h : ¬ vp_in m (iln σ j)) : mf_innB j m v σ = (0, sz σ 0 3) := by
  unfold mf_innB
  rw [(hI.il hj).1, if_pos (fun y => h ((inN (hI.il hj).2).mp y))]
theorem innB_in (hI : MI σ) {j m : Nat} (hj : j < nJ σ) {v : Int32} (h : m < iln σ j) : mf_innB j (nI m) v σ = (σ.2.1 10 (40 * j + m), si (sz σ 0 0) 10 (va_up (σ.2.1 10) (40 * j + m) v)) := by
  have hl := (hI.il hj).2
  unfold mf_innB
  rw [(hI.il hj).1, if_neg (not_not_intro ((inN hl).mpr (vp_in_nI h (by omega)))), nI_clamp (by omega)]
theorem SP.inn (h : REL G E0 g σ z ca C M) (hI : MI σ) {r i j m : Nat} (hr : r < nR σ) (hk : kd σ r = 10) (hi : i < ln σ r) (hj : j < nJ σ) (he : el σ r i = lN j) (hm : m < iln σ j) {v : Int32} {f : Nat → Int32} (hf : M (qJ g j) = some (.inl (G.2 4, iln σ j, .inl f))) (hf2 : ∀ k, k < iln σ j → f k = σ.2.1 10 (40 * j + k)) : SP G E0 g σ C M (some (.int (mf_inner (nI r) (nI i) (nI m) v σ).1)) (mf_inner (nI r) (nI i) (nI m) v σ).2 z ca (some (.int (f m))) (hp_up M (qJ g j) (.inl (G.2 4, iln σ j, .inl (upd f m v)))) := by
  rw [inn_j hI hr hk hi hj he, innB_in hI hj hm]
  have hV : VW (si σ 10 (va_up (σ.2.1 10) (40 * j + m) v)) (si (sz σ 0 0) 10 (va_up (σ.2.1 10) (40 * j + m) v)) := by
    refine ⟨fun k hk => ?_, fun r hr => ⟨rfl, rfl⟩, fun k hk => rfl, fun k hk => rfl, rfl, fun r k hr hk => rfl⟩
    show va_up σ.1 0 _ k = σ.1 k
    rw [va_up_n (by omega)]
  refine ⟨congrArg (fun y => some (Value.int y)) (hf2 m hm), g, (h.innerSet hj (f := va_up (σ.2.1 10) (40 * j + m) v) (fun k hk => ?_) (fun j' k hj' hn hk => ?_)).view hV, RKp.set1 (t0 := 7) (i0 := j) (j0 := 0) ⟨hj, rfl⟩ (fun t i j hd => ?_) hf (show hp_sm (.inl _) (.inl (G.2 4, iln σ j, .inl (upd f m v))) from rfl) rfl⟩
  · by_cases e : k = m
    · subst e; rw [va_up_s]; exact if_pos rfl
    · rw [va_up_n (by omega)]; exact (if_neg e).trans (hf2 k hk)
  · have := (hI.il hj').2
    have := (hI.il hj).2
    rw [va_up_n (by omega)]
  · exact hd
end I42
set_option maxHeartbeats 1000000 in
theorem c_X1_inner_1 (l : Launch) (hl : l.stackTraces = false) (G : hp_G) (X : Nat → Nat) (N0 : Nat) (M : hp_h) (g : RG) (σ : MS) (z : Nat → Int32) (ca : Int32) (C9 : Nat) (hR : REL G (X 0) g σ z ca C9 M) (hI : MI σ) (r k mm v : Int32) (hr : ¬ (¬ r < 0 ∧ r < σ.1 1)) : HM l yX1_inner (ws_ yX1_inner cX1_inner 7 (some .int)) 12 10500 3 310 G X N0 [.ref (qN g), .int r, .int k, .int mm, .int v] M PFF (SX G (X 0) g σ C9 M "java/lang/NullPointerException" (sz σ 0 1) z ca) := by
  refine HM.of hl [(0, .ref (qN g)), (1, .int r), (2, .int k), (3, .int mm), (4, .int v)] (by decide +kernel) rfl (Nat.le_of_ble_eq_true rfl) ?_
  intro p e s m args below meth c C hname
  have hN := hR.N
  refine V_aload_n C dX1_inner_0 rfl 0 rfl ?_
  refine V_iload_n C dX1_inner_1 rfl 1 rfl ?_
  refine V_callV C (c_X1_rowOrNull_n l hl G X N0 M g σ z ca C9 hR hI r hr) cs_X1_227_0 hN (show CLS[0]? = some (RX1, TX1, 17) from rfl) rfl rfl ⟨Nat.le_of_ble_eq_true rfl, Nat.le_of_ble_eq_true rfl⟩ ⟨(by first | exact Nat.le_of_ble_eq_true rfl | omega | (dsimp only; omega) | (simp only [List.length_cons, List.length_nil]; omega)), (by first | exact Nat.le_of_ble_eq_true rfl | omega | (dsimp only; omega) | (simp only [List.length_cons, List.length_nil]; omega))⟩ (Nat.le_of_ble_eq_true rfl) dX1_inner_2 (fun _ _ _ h => px0 h) ?_
  rintro _ _ ⟨rfl, rfl⟩
  refine V_st (st' := [.null]) rfl ?_
  refine V_castN C dX1_inner_5 ?_
  refine V_iload_n C dX1_inner_8 rfl 2 rfl ?_
  exact V_aaldN C dX1_inner_9 (Nat.le_of_ble_eq_true rfl) (VNN.of C ⟨Nat.le_of_ble_eq_true rfl, Nat.le_of_ble_eq_true rfl⟩ ⟨(by first | exact Nat.le_of_ble_eq_true rfl | omega | (dsimp only; omega) | (simp only [List.length_cons, List.length_nil]; omega)), (by first | exact Nat.le_of_ble_eq_true rfl | omega | (dsimp only; omega) | (simp only [List.length_cons, List.length_nil]; omega))⟩ (fun q9 => VX_out C (fun z hz => by cases hz) (SX.of hR hp_fr.rf) (by first | exact Nat.le_of_ble_eq_true rfl | omega | (dsimp only; omega) | (simp only [List.length_cons, List.length_nil]; omega)) (by first | exact Nat.le_of_ble_eq_true rfl | omega | (dsimp only; omega) | (simp only [List.length_cons, List.length_nil]; omega))))
set_option maxHeartbeats 1000000 in
theorem c_X1_inner_2 (l : Launch) (hl : l.stackTraces = false) (G : hp_G) (X : Nat → Nat) (N0 : Nat) (M : hp_h) (g : RG) (σ : MS) (z : Nat → Int32) (ca : Int32) (C9 : Nat) (hR : REL G (X 0) g σ z ca C9 M) (hI : MI σ) (r : Nat) (k mm v : Int32) (hr : r < nR σ) (hk9 : kd σ r < 10) : HM l yX1_inner (ws_ yX1_inner cX1_inner 7 (some .int)) 12 10500 3 310 G X N0 [.ref (qN g), .int (nI r), .int k, .int mm, .int v] M PFF (SX G (X 0) g σ C9 M "java/lang/ClassCastException" (sz σ 0 2) z ca) := by
  refine HM.of hl [(0, .ref (qN g)), (1, .int (nI r)), (2, .int k), (3, .int mm), (4, .int v)] (by decide +kernel) rfl (Nat.le_of_ble_eq_true rfl) ?_
  intro p e s m args below meth c C hname
  have hN := hR.N
  refine V_aload_n C dX1_inner_0 rfl 0 rfl ?_
  refine V_iload_n C dX1_inner_1 rfl 1 rfl ?_
  refine V_callV C (c_X1_rowOrNull_r l hl G X N0 M g σ z ca C9 hR hI r hr) cs_X1_227_0 hN (show CLS[0]? = some (RX1, TX1, 17) from rfl) rfl rfl ⟨Nat.le_of_ble_eq_true rfl, Nat.le_of_ble_eq_true rfl⟩ ⟨(by first | exact Nat.le_of_ble_eq_true rfl | omega | (dsimp only; omega) | (simp only [List.length_cons, List.length_nil]; omega)), (by first | exact Nat.le_of_ble_eq_true rfl | omega | (dsimp only; omega) | (simp only [List.length_cons, List.length_nil]; omega))⟩ (Nat.le_of_ble_eq_true rfl) dX1_inner_2 (fun _ _ _ h => px0 h) ?_
  rintro _ _ ⟨rfl, rfl⟩
  refine V_st (st' := [.ref (qR g r)]) rfl ?_
  obtain ⟨xr, hra, hrx, hrc⟩ := hR.rw hr
  obtain ⟨hkE, hkL⟩ := hI.k hr
  obtain ⟨hlE, hlL⟩ := hI.l hr
  exact V_castX C hk9 hra q617 dX1_inner_5 (Nat.le_of_ble_eq_true rfl) (fun tx h1 h2 => VN.of (nb := 290) C tb_CCE tg_CCE ⟨by decide, by decide, by decide, by decide⟩ h2 h1 (by decide) ⟨Nat.le_of_ble_eq_true rfl, Nat.le_of_ble_eq_true rfl⟩ (by decide) ⟨(by first | exact Nat.le_of_ble_eq_true rfl | omega | (dsimp only; omega) | (simp only [List.length_cons, List.length_nil]; omega)), (by first | exact Nat.le_of_ble_eq_true rfl | omega | (dsimp only; omega) | (simp only [List.length_cons, List.length_nil]; omega))⟩ (fun q9 => VX_out C (fun z hz => by cases hz) (SX.of hR hp_fr.rf) (by first | exact Nat.le_of_ble_eq_true rfl | omega | (dsimp only; omega) | (simp only [List.length_cons, List.length_nil]; omega)) (by first | exact Nat.le_of_ble_eq_true rfl | omega | (dsimp only; omega) | (simp only [List.length_cons, List.length_nil]; omega))))
set_option maxHeartbeats 1000000 in
theorem c_X1_inner_3 (l : Launch) (hl : l.stackTraces = false) (G : hp_G) (X : Nat → Nat) (N0 : Nat) (M : hp_h) (g : RG) (σ : MS) (z : Nat → Int32) (ca : Int32) (C9 : Nat) (hR : REL G (X 0) g σ z ca C9 M) (hI : MI σ) (r : Nat) (k mm v : Int32) (hr : r < nR σ) (hk9 : kd σ r = 10) (hout : ¬ vp_in k (ln σ r)) : HM l yX1_inner (ws_ yX1_inner cX1_inner 7 (some .int)) 12 10500 3 310 G X N0 [.ref (qN g), .int (nI r), .int k, .int mm, .int v] M PFF (SX G (X 0) g σ C9 M "java/lang/ArrayIndexOutOfBoundsException" (sz σ 0 3) z ca) := by
  refine HM.of hl [(0, .ref (qN g)), (1, .int (nI r)), (2, .int k), (3, .int mm), (4, .int v)] (by decide +kernel) rfl (Nat.le_of_ble_eq_true rfl) ?_
  intro p e s m args below meth c C hname
  have hN := hR.N
  refine V_aload_n C dX1_inner_0 rfl 0 rfl ?_
  refine V_iload_n C dX1_inner_1 rfl 1 rfl ?_
  refine V_callV C (c_X1_rowOrNull_r l hl G X N0 M g σ z ca C9 hR hI r hr) cs_X1_227_0 hN (show CLS[0]? = some (RX1, TX1, 17) from rfl) rfl rfl ⟨Nat.le_of_ble_eq_true rfl, Nat.le_of_ble_eq_true rfl⟩ ⟨(by first | exact Nat.le_of_ble_eq_true rfl | omega | (dsimp only; omega) | (simp only [List.length_cons, List.length_nil]; omega)), (by first | exact Nat.le_of_ble_eq_true rfl | omega | (dsimp only; omega) | (simp only [List.length_cons, List.length_nil]; omega))⟩ (Nat.le_of_ble_eq_true rfl) dX1_inner_2 (fun _ _ _ h => px0 h) ?_
  rintro _ _ ⟨rfl, rfl⟩
  refine V_st (st' := [.ref (qR g r)]) rfl ?_
  obtain ⟨f10, hf1, hf2⟩ := hR.r10 hr hk9
  obtain ⟨hlE, hlL⟩ := hI.l hr
  refine V_castA C (j := 10) (by decide) q617 (Or.inl rfl) hf1 dX1_inner_5 ?_
  refine V_iload_n C dX1_inner_8 rfl 2 rfl ?_
  exact V_aaldZ C (j := 10) rfl hf1 hout dX1_inner_9 (Nat.le_of_ble_eq_true rfl) (VN.ix C (by omega) ⟨Nat.le_of_ble_eq_true rfl, Nat.le_of_ble_eq_true rfl⟩ ⟨(by first | exact Nat.le_of_ble_eq_true rfl | omega | (dsimp only; omega) | (simp only [List.length_cons, List.length_nil]; omega)), (by first | exact Nat.le_of_ble_eq_true rfl | omega | (dsimp only; omega) | (simp only [List.length_cons, List.length_nil]; omega))⟩ (fun q9 => VX_out C (fun z hz => by cases hz) (SX.of hR hp_fr.rf) (by first | exact Nat.le_of_ble_eq_true rfl | omega | (dsimp only; omega) | (simp only [List.length_cons, List.length_nil]; omega)) (by first | exact Nat.le_of_ble_eq_true rfl | omega | (dsimp only; omega) | (simp only [List.length_cons, List.length_nil]; omega))))
set_option maxHeartbeats 1000000 in
theorem c_X1_inner_4 (l : Launch) (hl : l.stackTraces = false) (G : hp_G) (X : Nat → Nat) (N0 : Nat) (M : hp_h) (g : RG) (σ : MS) (z : Nat → Int32) (ca : Int32) (C9 : Nat) (hR : REL G (X 0) g σ z ca C9 M) (hI : MI σ) (r i : Nat) (mm v : Int32) (hr : r < nR σ) (hk9 : kd σ r = 10) (hi : i < ln σ r) (he : el σ r i = -1) : HM l yX1_inner (ws_ yX1_inner cX1_inner 7 (some .int)) 12 10500 3 310 G X N0 [.ref (qN g), .int (nI r), .int (nI i), .int mm, .int v] M PFF (SX G (X 0) g σ C9 M "java/lang/NullPointerException" (sz σ 0 1) z ca) := by
  refine HM.of hl [(0, .ref (qN g)), (1, .int (nI r)), (2, .int (nI i)), (3, .int mm), (4, .int v)] (by decide +kernel) rfl (Nat.le_of_ble_eq_true rfl) ?_
  intro p e s m args below meth c C hname
  have hN := hR.N
  refine V_aload_n C dX1_inner_0 rfl 0 rfl ?_
  refine V_iload_n C dX1_inner_1 rfl 1 rfl ?_
  refine V_callV C (c_X1_rowOrNull_r l hl G X N0 M g σ z ca C9 hR hI r hr) cs_X1_227_0 hN (show CLS[0]? = some (RX1, TX1, 17) from rfl) rfl rfl ⟨Nat.le_of_ble_eq_true rfl, Nat.le_of_ble_eq_true rfl⟩ ⟨(by first | exact Nat.le_of_ble_eq_true rfl | omega | (dsimp only; omega) | (simp only [List.length_cons, List.length_nil]; omega)), (by first | exact Nat.le_of_ble_eq_true rfl | omega | (dsimp only; omega) | (simp only [List.length_cons, List.length_nil]; omega))⟩ (Nat.le_of_ble_eq_true rfl) dX1_inner_2 (fun _ _ _ h => px0 h) ?_
  rintro _ _ ⟨rfl, rfl⟩
  refine V_st (st' := [.ref (qR g r)]) rfl ?_
  obtain ⟨f10, hf1, hf2⟩ := hR.r10 hr hk9
  obtain ⟨hlE, hlL⟩ := hI.l hr
  have hfi : f10 i = none := by
    rcases hf2 i hi with y | ⟨j, h1, h2, h3⟩
    · exact y.2
    · exact absurd (he.symm.trans h2) (lN_n1 (by have := hI.J.2; omega))
  refine V_castA C (j := 10) (by decide) q617 (Or.inl rfl) hf1 dX1_inner_5 ?_
  refine V_iload_n C dX1_inner_8 rfl 2 rfl ?_
  refine V_aald C (j := 10) rfl rfl hf1 (vp_in_nI (by omega) (by omega)) dX1_inner_9 ?_
  refine V_st (st' := [.null]) (by rw [nI_clamp (by omega), hfi]; rfl) ?_
  refine V_astoreN C dX1_inner_10 (Nat.le_of_ble_eq_true rfl) [(0, .ref (qN g)), (1, .int (nI r)), (2, .int (nI i)), (3, .int mm), (4, .int v), (5, .null)] [1, 2, 3, 4, 5, 0] rfl ?_
  refine V_aloadN C dX1_inner_12 5 rfl ?_
  refine V_iload_n C dX1_inner_14 rfl 3 rfl ?_
  exact V_ialdN C dX1_inner_15 (Nat.le_of_ble_eq_true rfl) (VNN.of C ⟨Nat.le_of_ble_eq_true rfl, Nat.le_of_ble_eq_true rfl⟩ ⟨(by first | exact Nat.le_of_ble_eq_true rfl | omega | (dsimp only; omega) | (simp only [List.length_cons, List.length_nil]; omega)), (by first | exact Nat.le_of_ble_eq_true rfl | omega | (dsimp only; omega) | (simp only [List.length_cons, List.length_nil]; omega))⟩ (fun q9 => VX_out C (fun z hz => by cases hz) (SX.of hR hp_fr.rf) (by first | exact Nat.le_of_ble_eq_true rfl | omega | (dsimp only; omega) | (simp only [List.length_cons, List.length_nil]; omega)) (by first | exact Nat.le_of_ble_eq_true rfl | omega | (dsimp only; omega) | (simp only [List.length_cons, List.length_nil]; omega))))
set_option maxHeartbeats 1000000 in
theorem c_X1_inner_5 (l : Launch) (hl : l.stackTraces = false) (G : hp_G) (X : Nat → Nat) (N0 : Nat) (M : hp_h) (g : RG) (σ : MS) (z : Nat → Int32) (ca : Int32) (C9 : Nat) (hR : REL G (X 0) g σ z ca C9 M) (hI : MI σ) (r i j : Nat) (hr : r < nR σ) (hk9 : kd σ r = 10) (hi : i < ln σ r) (hj : j < nJ σ) (he : el σ r i = lN j) (mm v : Int32) (hout : ¬ vp_in mm (iln σ j)) : HM l yX1_inner (ws_ yX1_inner cX1_inner 7 (some .int)) 12 10500 3 310 G X N0 [.ref (qN g), .int (nI r), .int (nI i), .int mm, .int v] M PFF (SX G (X 0) g σ C9 M "java/lang/ArrayIndexOutOfBoundsException" (sz σ 0 3) z ca) := by
  refine HM.of hl [(0, .ref (qN g)), (1, .int (nI r)), (2, .int (nI i)), (3, .int mm), (4, .int v)] (by decide +kernel) rfl (Nat.le_of_ble_eq_true rfl) ?_
  intro p e s m args below meth c C hname
  have hN := hR.N
  refine V_aload_n C dX1_inner_0 rfl 0 rfl ?_
  refine V_iload_n C dX1_inner_1 rfl 1 rfl ?_
  refine V_callV C (c_X1_rowOrNull_r l hl G X N0 M g σ z ca C9 hR hI r hr) cs_X1_227_0 hN (show CLS[0]? = some (RX1, TX1, 17) from rfl) rfl rfl ⟨Nat.le_of_ble_eq_true rfl, Nat.le_of_ble_eq_true rfl⟩ ⟨(by first | exact Nat.le_of_ble_eq_true rfl | omega | (dsimp only; omega) | (simp only [List.length_cons, List.length_nil]; omega)), (by first | exact Nat.le_of_ble_eq_true rfl | omega | (dsimp only; omega) | (simp only [List.length_cons, List.length_nil]; omega))⟩ (Nat.le_of_ble_eq_true rfl) dX1_inner_2 (fun _ _ _ h => px0 h) ?_
  rintro _ _ ⟨rfl, rfl⟩
  refine V_st (st' := [.ref (qR g r)]) rfl ?_
  obtain ⟨f10, hf1, hf2⟩ := hR.r10 hr hk9
  obtain ⟨hlE, hlL⟩ := hI.l hr
  have hfi : f10 i = some (qJ g j) := by
    rcases hf2 i hi with y | ⟨j, h1, h2, h3⟩
    · exact absurd (y.1.symm.trans he) (lN_n1 (by have := hI.J.2; omega))
    · rw [h3, lN_inj (by have := hI.J.2; omega) (by have := hI.J.2; omega) (he.symm.trans h2)]
  obtain ⟨fj, hj1, hj2⟩ := hR.ji hj
  have hjl := (hI.il hj).2
  refine V_castA C (j := 10) (by decide) q617 (Or.inl rfl) hf1 dX1_inner_5 ?_
  refine V_iload_n C dX1_inner_8 rfl 2 rfl ?_
  refine V_aald C (j := 10) rfl rfl hf1 (vp_in_nI (by omega) (by omega)) dX1_inner_9 ?_
  refine V_st (st' := [.ref (qJ g j)]) (by rw [nI_clamp (by omega), hfi]; rfl) ?_
  refine V_astore C dX1_inner_10 (Nat.le_of_ble_eq_true rfl) [(0, .ref (qN g)), (1, .int (nI r)), (2, .int (nI i)), (3, .int mm), (4, .int v), (5, .ref (qJ g j))] [1, 2, 3, 4, 5, 0] rfl ?_
  refine V_aload C dX1_inner_12 5 rfl ?_
  refine V_iload_n C dX1_inner_14 rfl 3 rfl ?_
  exact V_ialdZ C hj1 hout dX1_inner_15 (Nat.le_of_ble_eq_true rfl) (VN.ix C (by omega) ⟨Nat.le_of_ble_eq_true rfl, Nat.le_of_ble_eq_true rfl⟩ ⟨(by first | exact Nat.le_of_ble_eq_true rfl | omega | (dsimp only; omega) | (simp only [List.length_cons, List.length_nil]; omega)), (by first | exact Nat.le_of_ble_eq_true rfl | omega | (dsimp only; omega) | (simp only [List.length_cons, List.length_nil]; omega))⟩ (fun q9 => VX_out C (fun z hz => by cases hz) (SX.of hR hp_fr.rf) (by first | exact Nat.le_of_ble_eq_true rfl | omega | (dsimp only; omega) | (simp only [List.length_cons, List.length_nil]; omega)) (by first | exact Nat.le_of_ble_eq_true rfl | omega | (dsimp only; omega) | (simp only [List.length_cons, List.length_nil]; omega))))
set_option maxHeartbeats 1000000 in
theorem c_X1_inner_0 (l : Launch) (hl : l.stackTraces = false) (G : hp_G) (X : Nat → Nat) (N0 : Nat) (M : hp_h) (g : RG) (σ : MS) (z : Nat → Int32) (ca : Int32) (C9 : Nat) (hR : REL G (X 0) g σ z ca C9 M) (hI : MI σ) (r i j : Nat) (hr : r < nR σ) (hk9 : kd σ r = 10) (hi : i < ln σ r) (hj : j < nJ σ) (he : el σ r i = lN j) (mm : Nat) (v : Int32) (hm : mm < iln σ j) : HM l yX1_inner (ws_ yX1_inner cX1_inner 7 (some .int)) 12 10500 3 310 G X N0 [.ref (qN g), .int (nI r), .int (nI i), .int (nI mm), .int v] M (SP G (X 0) g σ C9 M (some (.int (mf_inner (nI r) (nI i) (nI mm) v σ).1)) (mf_inner (nI r) (nI i) (nI mm) v σ).2 z ca) PX0 := by
  refine HM.of hl [(0, .ref (qN g)), (1, .int (nI r)), (2, .int (nI i)), (3, .int (nI mm)), (4, .int v)] (by decide +kernel) rfl (Nat.le_of_ble_eq_true rfl) ?_
  intro p e s m args below meth c C hname
  have hN := hR.N
  refine V_aload_n C dX1_inner_0 rfl 0 rfl ?_
  refine V_iload_n C dX1_inner_1 rfl 1 rfl ?_
  refine V_callV C (c_X1_rowOrNull_r l hl G X N0 M g σ z ca C9 hR hI r hr) cs_X1_227_0 hN (show CLS[0]? = some (RX1, TX1, 17) from rfl) rfl rfl ⟨Nat.le_of_ble_eq_true rfl, Nat.le_of_ble_eq_true rfl⟩ ⟨(by first | exact Nat.le_of_ble_eq_true rfl | omega | (dsimp only; omega) | (simp only [List.length_cons, List.length_nil]; omega)), (by first | exact Nat.le_of_ble_eq_true rfl | omega | (dsimp only; omega) | (simp only [List.length_cons, List.length_nil]; omega))⟩ (Nat.le_of_ble_eq_true rfl) dX1_inner_2 (fun _ _ _ h => px0 h) ?_
  rintro _ _ ⟨rfl, rfl⟩
  refine V_st (st' := [.ref (qR g r)]) rfl ?_
  obtain ⟨f10, hf1, hf2⟩ := hR.r10 hr hk9
  obtain ⟨hlE, hlL⟩ := hI.l hr
  have hfi : f10 i = some (qJ g j) := by
    rcases hf2 i hi with y | ⟨j, h1, h2, h3⟩
    · exact absurd (y.1.symm.trans he) (lN_n1 (by have := hI.J.2; omega))
    · rw [h3, lN_inj (by have := hI.J.2; omega) (by have := hI.J.2; omega) (he.symm.trans h2)]
  obtain ⟨fj, hj1, hj2⟩ := hR.ji hj
  have hjl := (hI.il hj).2
  refine V_castA C (j := 10) (by decide) q617 (Or.inl rfl) hf1 dX1_inner_5 ?_
  refine V_iload_n C dX1_inner_8 rfl 2 rfl ?_
  refine V_aald C (j := 10) rfl rfl hf1 (vp_in_nI (by omega) (by omega)) dX1_inner_9 ?_
  refine V_st (st' := [.ref (qJ g j)]) (by rw [nI_clamp (by omega), hfi]; rfl) ?_
  refine V_astore C dX1_inner_10 (Nat.le_of_ble_eq_true rfl) [(0, .ref (qN g)), (1, .int (nI r)), (2, .int (nI i)), (3, .int (nI mm)), (4, .int v), (5, .ref (qJ g j))] [1, 2, 3, 4, 5, 0] rfl ?_
  refine V_aload C dX1_inner_12 5 rfl ?_
  refine V_iload_n C dX1_inner_14 rfl 3 rfl ?_
  refine V_iald C hj1 (vp_in_nI (by omega) (by omega)) dX1_inner_15 ?_
  refine V_st (st' := [.int (fj mm)]) (by rw [nI_clamp (by omega)]) ?_
  refine V_istore C dX1_inner_16 (Nat.le_of_ble_eq_true rfl) [(0, .ref (qN g)), (1, .int (nI r)), (2, .int (nI i)), (3, .int (nI mm)), (4, .int v), (5, .ref (qJ g j)), (6, .int (fj mm))] [1, 2, 3, 4, 5, 6, 0] rfl ?_
  refine V_pc (pc1 := 18) rfl ?_
  refine V_aload C dX1_inner_18 5 rfl ?_
  refine V_iload_n C dX1_inner_20 rfl 3 rfl ?_
  refine V_iload C dX1_inner_21 4 rfl ?_
  refine V_iast C hj1 (vp_in_nI (by omega) (by omega)) dX1_inner_23 ?_
  refine V_heap (M' := hp_up M (qJ g j) (.inl (G.2 4, (iln σ j), .inl (upd fj mm v)))) (by rw [nI_clamp (by omega)]) ?_
  obtain ⟨M_1, eM_2⟩ : ∃ z, z = hp_up M (qJ g j) (.inl (G.2 4, (iln σ j), .inl (upd fj mm v))) := ⟨_, rfl⟩
  refine V_heap (M' := M_1) eM_2.symm ?_
  have ha_3 : M_1 (qR g r) = some (.inl (G.2 10, (ln σ r), .inr (.inr (.inr (.inr f10))))) := by rw [eM_2, hp_up_n (hp_ne hf1 hj1 (by simp))]; exact hf1
  have eM_2_s : M_1 (qJ g j) = some (.inl (G.2 4, (iln σ j), .inl (upd fj mm v))) := by rw [eM_2]; exact hp_up_s
  refine V_iload C dX1_inner_24 6 rfl ?_
  refine V_iret C dX1_inner_26 rfl ?_ (by first | exact Nat.le_of_ble_eq_true rfl | omega | (dsimp only; omega) | (simp only [List.length_cons, List.length_nil]; omega)) (by first | exact Nat.le_of_ble_eq_true rfl | omega | (dsimp only; omega) | (simp only [List.length_cons, List.length_nil]; omega))
  rw [eM_2]
  exact SP.inn hR hI hr hk9 hi hj he hm hj1 hj2
