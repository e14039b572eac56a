set_option maxRecDepth 100000
def CAPC (n cap cap' : Nat) : Prop := cap' = if n < cap then cap else gcap cap
set_option maxHeartbeats 1000000 in
theorem c_J2_add_2_eqC (l : Launch) (hl : l.stackTraces = false) (G : hp_G) (X : Nat → Nat) (N0 : Nat) (M : hp_h) (a e0 n v : Nat) (md : Int32) (f : Nat → Option Nat) (hl9 : M a = some (.inr (1, [.int md, .ref e0, .int (nI n)]))) (hv : hp_AS G M (.object "java/lang/Object") v) (he : M e0 = some (.inl (G.2 11, n, RV f))) (hn0 : 0 < n) (hn : n < 60) (hel : ∀ i, i < n → ∀ y, f i = some y → hp_AS G M (.object "java/lang/Object") y) : HM l yJ2_add_2 (ws_ yJ2_add_2 cJ2_add_2 4 none) 5 117 1 (gcap n) G X N0 [.ref a, .ref v, .ref e0, .int (nI n)] M (fun v9 M' => v9 = none ∧ ∃ e' cap' f', LAd G (X 0) M M' a e0 n n v f e' cap' f' ∧ hp_sh M M' ∧ CAPC n n cap') PX0 := by
  refine HM.of hl [(0, .ref a), (1, .ref v), (2, .ref e0), (3, .int (nI n))] (by decide +kernel) rfl (Nat.le_of_ble_eq_true rfl) ?_
  intro p e s m args below meth c C hname
  have hfr : hp_fr (fun b => b = a ∨ (n ≠ 0 ∧ b = e0)) M M := hp_fr.rf
  have hsh : hp_sh M M := hp_sh.rf
  have hg9 := @gcap_gt n
  have hg8 := gcap_le (c := n) (by omega)
  refine V_iload_n C dJ2_add_2_0 rfl 3 rfl ?_
  refine V_aload_n C dJ2_add_2_1 rfl 2 rfl ?_
  refine V_alen (j := 11) C rfl he (v := nI n) rfl dJ2_add_2_2 ?_
  refine V_icmp_ne (tgt := 11) C dJ2_add_2_3 (by decide) (fun c_3 => ?_) (fun c_3 => ?_)
  · exact absurd rfl c_3
  · refine V_aload_n C dJ2_add_2_6 rfl 0 rfl ?_
    refine V_callV C (c_J2_grow_n l hl G X N0 M a e0 n md f hl9 he hn0 (by omega) hel) cs_J2_129_1 hl9 (show CLS[1]? = some (RJ2, TJ2, 3) from rfl) rfl rfl ⟨Nat.le_of_ble_eq_true rfl, Nat.le_of_ble_eq_true rfl⟩ ⟨(by first | exact Nat.le_of_ble_eq_true rfl | omega | (dsimp only; omega)), (by first | exact Nat.le_of_ble_eq_true rfl | omega | (dsimp only; omega))⟩ (Nat.le_of_ble_eq_true rfl) dJ2_add_2_7 (fun _ _ _ h => px0 h) ?_
    rintro _ M_1 ⟨q_2, f_3, rfl, hq_4, ho_5, ha_6, hf_7, fr_8⟩
    refine V_st (st' := [.ref q_2]) rfl ?_
    have fr_8_t := hfr.trans (fr_8.weak (fun _ z => Or.inl z))
    have fr_8_s := hsh.trans (hp_sh_fr fr_8 hl9 ho_5)
    have ne_15 : a ≠ q_2 := hp_ne0 hl9 hq_4
    have ne_17 : e0 ≠ q_2 := hp_ne0 he hq_4
    refine V_astore_n C dJ2_add_2_10 rfl (Nat.le_of_ble_eq_true rfl) [(0, .ref a), (1, .ref v), (2, .ref q_2), (3, .int (nI n))] [1, 2, 0, 3] rfl ?_
    refine V_aload_n C dJ2_add_2_11 rfl 2 rfl ?_
    refine V_iload_n C dJ2_add_2_12 rfl 3 rfl ?_
    refine V_aload_n C dJ2_add_2_13 rfl 1 rfl ?_
    refine V_aastM C (j := 11) rfl rfl ha_6 (hv.sh fr_8_s) (vp_in_nI gcap_gt (by omega)) dJ2_add_2_14 ?_
    refine V_heap (M' := hp_up M_1 q_2 (.inl (G.2 11, (gcap n), .inr (.inr (.inr (.inr (va_up f_3 n (some v)))))))) (by rw [nI_clamp (by omega)]) ?_
    obtain ⟨M_27, eM_28⟩ : ∃ z, z = hp_up M_1 q_2 (.inl (G.2 11, (gcap n), .inr (.inr (.inr (.inr (va_up f_3 n (some v))))))) := ⟨_, rfl⟩
    refine V_heap (M' := M_27) eM_28.symm ?_
    have ho_29 : M_27 a = some (.inr (1, [.int md, .ref q_2, .int (nI n)])) := by rw [eM_28, hp_up_n ne_15]; exact ho_5
    have eM_28_s : M_27 q_2 = some (.inl (G.2 11, (gcap n), .inr (.inr (.inr (.inr (va_up f_3 n (some v))))))) := by rw [eM_28]; exact hp_up_s
    have fr_30 := hp_fr.set fr_8_t (Or.inr hq_4) eM_28
    have sh_31 := hp_sh.set fr_8_s ha_6 eM_28 rfl
    refine V_pc (pc1 := 15) rfl ?_
    refine V_aload_n C dJ2_add_2_15 rfl 0 rfl ?_
    refine V_iload_n C dJ2_add_2_16 rfl 3 rfl ?_
    refine V_iconst (v := 1) C dJ2_add_2_17 rfl ?_
    refine V_iadd C dJ2_add_2_18 ?_
    refine V_st (st' := [.int (nI (n + 1)), .ref a]) (by rw [show ((nI n) + 1) = (nI (n + 1)) from (nI_1 n)]) ?_
    refine V_put C f_J2_48_1 ho_29 rfl rfl (Nat.le_of_ble_eq_true rfl) dJ2_add_2_19 ?_
    obtain ⟨M_32, eM_33⟩ : ∃ z, z = hp_up M_27 a (.inr (1, [.int md, .ref q_2, .int (nI (n + 1))])) := ⟨_, rfl⟩
    refine V_heap (M' := M_32) eM_33.symm ?_
    have ha_34 : M_32 q_2 = some (.inl (G.2 11, (gcap n), .inr (.inr (.inr (.inr (va_up f_3 n (some v))))))) := by rw [eM_33, hp_up_n (Ne.symm ne_15)]; exact eM_28_s
    have eM_33_s : M_32 a = some (.inr (1, [.int md, .ref q_2, .int (nI (n + 1))])) := by rw [eM_33]; exact hp_up_s
    have fr_35 := hp_fr.set fr_30 (Or.inl (Or.inl rfl)) eM_33
    have sh_36 := hp_sh.set sh_31 ho_29 eM_33 rfl
    refine V_vret C dJ2_add_2_22 rfl ?_ (by first | exact Nat.le_of_ble_eq_true rfl | omega | (dsimp only; omega)) (by first | exact Nat.le_of_ble_eq_true rfl | omega | (dsimp only; omega))
    exact ⟨rfl, _, _, _, ⟨⟨⟨_, eM_33_s⟩, fun z => absurd z (by omega), fun _ => ha_34, ⟨gcap_gt, gcap_le (by omega)⟩⟩, fun i hi => (va_up_n (Nat.ne_of_lt hi)).trans (hf_7 i hi), va_up_s, Or.inr hq_4, fr_35⟩, sh_36, (if_neg (Nat.lt_irrefl _)).symm⟩
set_option maxHeartbeats 1000000 in
theorem c_J2_add_2_zC (l : Launch) (hl : l.stackTraces = false) (G : hp_G) (X : Nat → Nat) (N0 : Nat) (M : hp_h) (a v : Nat) (md : Int32) (f : Nat → Option Nat) (hl9 : M a = some (.inr (1, [.int md, .ref (X 0), .int (nI 0)]))) (hv : hp_AS G M (.object "java/lang/Object") v) : HM l yJ2_add_2 (ws_ yJ2_add_2 cJ2_add_2 4 none) 5 117 1 10 G X N0 [.ref a, .ref v, .ref (X 0), .int (nI 0)] M (fun v9 M' => v9 = none ∧ ∃ e' cap' f', LAd G (X 0) M M' a (X 0) 0 0 v (fun _ => none) e' cap' f' ∧ hp_sh M M' ∧ CAPC 0 0 cap') PX0 := by
  refine HM.of hl [(0, .ref a), (1, .ref v), (2, .ref (X 0)), (3, .int (nI 0))] (by decide +kernel) rfl (Nat.le_of_ble_eq_true rfl) ?_
  intro p e s m args below meth c C hname
  have hfr : hp_fr (fun b => b = a ∨ (0 ≠ 0 ∧ b = (X 0))) M M := hp_fr.rf
  have hsh : hp_sh M M := hp_sh.rf
  have hg8 : gcap 0 = 10 := rfl
  refine V_iload_n C dJ2_add_2_0 rfl 3 rfl ?_
  refine V_aload_n C dJ2_add_2_1 rfl 2 rfl ?_
  refine V_alenE C dJ2_add_2_2 ?_
  refine V_icmp_ne (tgt := 11) C dJ2_add_2_3 (by decide) (fun c_3 => ?_) (fun c_3 => ?_)
  · exact absurd rfl c_3
  · refine V_aload_n C dJ2_add_2_6 rfl 0 rfl ?_
    refine V_callV C (c_J2_grow_z l hl G X N0 M a md hl9) cs_J2_129_1 hl9 (show CLS[1]? = some (RJ2, TJ2, 3) from rfl) rfl rfl ⟨Nat.le_of_ble_eq_true rfl, Nat.le_of_ble_eq_true rfl⟩ ⟨(by first | exact Nat.le_of_ble_eq_true rfl | omega | (dsimp only; omega)), (by first | exact Nat.le_of_ble_eq_true rfl | omega | (dsimp only; omega))⟩ (Nat.le_of_ble_eq_true rfl) dJ2_add_2_7 (fun _ _ _ h => px0 h) ?_
    rintro _ M_1 ⟨q_2, f_3, rfl, hq_4, ho_5, ha_6, hf_7, fr_8⟩
    refine V_st (st' := [.ref q_2]) rfl ?_
    have fr_8_t := hfr.trans (fr_8.weak (fun _ z => Or.inl z))
    have fr_8_s := hsh.trans (hp_sh_fr fr_8 hl9 ho_5)
    have ne_15 : a ≠ q_2 := hp_ne0 hl9 hq_4
    refine V_astore_n C dJ2_add_2_10 rfl (Nat.le_of_ble_eq_true rfl) [(0, .ref a), (1, .ref v), (2, .ref q_2), (3, .int (nI 0))] [1, 2, 0, 3] rfl ?_
    refine V_aload_n C dJ2_add_2_11 rfl 2 rfl ?_
    refine V_iload_n C dJ2_add_2_12 rfl 3 rfl ?_
    refine V_aload_n C dJ2_add_2_13 rfl 1 rfl ?_
    refine V_aastM C (j := 11) rfl rfl ha_6 (hv.sh fr_8_s) (vp_in_nI (by decide) (by omega)) dJ2_add_2_14 ?_
    refine V_heap (M' := hp_up M_1 q_2 (.inl (G.2 11, (gcap 0), .inr (.inr (.inr (.inr (va_up f_3 0 (some v)))))))) (by rw [nI_clamp (by omega)]) ?_
    obtain ⟨M_25, eM_26⟩ : ∃ z, z = hp_up M_1 q_2 (.inl (G.2 11, (gcap 0), .inr (.inr (.inr (.inr (va_up f_3 0 (some v))))))) := ⟨_, rfl⟩
    refine V_heap (M' := M_25) eM_26.symm ?_
    have ho_27 : M_25 a = some (.inr (1, [.int md, .ref q_2, .int (nI 0)])) := by rw [eM_26, hp_up_n ne_15]; exact ho_5
    have eM_26_s : M_25 q_2 = some (.inl (G.2 11, (gcap 0), .inr (.inr (.inr (.inr (va_up f_3 0 (some v))))))) := by rw [eM_26]; exact hp_up_s
    have fr_28 := hp_fr.set fr_8_t (Or.inr hq_4) eM_26
    have sh_29 := hp_sh.set fr_8_s ha_6 eM_26 rfl
    refine V_pc (pc1 := 15) rfl ?_
    refine V_aload_n C dJ2_add_2_15 rfl 0 rfl ?_
    refine V_iload_n C dJ2_add_2_16 rfl 3 rfl ?_
    refine V_iconst (v := 1) C dJ2_add_2_17 rfl ?_
    refine V_iadd C dJ2_add_2_18 ?_
    refine V_st (st' := [.int (nI (0 + 1)), .ref a]) (by rw [show ((nI 0) + 1) = (nI (0 + 1)) from (nI_1 0)]) ?_
    refine V_put C f_J2_48_1 ho_27 rfl rfl (Nat.le_of_ble_eq_true rfl) dJ2_add_2_19 ?_
    obtain ⟨M_30, eM_31⟩ : ∃ z, z = hp_up M_25 a (.inr (1, [.int md, .ref q_2, .int (nI (0 + 1))])) := ⟨_, rfl⟩
    refine V_heap (M' := M_30) eM_31.symm ?_
    have ha_32 : M_30 q_2 = some (.inl (G.2 11, (gcap 0), .inr (.inr (.inr (.inr (va_up f_3 0 (some v))))))) := by rw [eM_31, hp_up_n (Ne.symm ne_15)]; exact eM_26_s
    have eM_31_s : M_30 a = some (.inr (1, [.int md, .ref q_2, .int (nI (0 + 1))])) := by rw [eM_31]; exact hp_up_s
    have fr_33 := hp_fr.set fr_28 (Or.inl (Or.inl rfl)) eM_31
    have sh_34 := hp_sh.set sh_29 ho_27 eM_31 rfl
    refine V_vret C dJ2_add_2_22 rfl ?_ (by first | exact Nat.le_of_ble_eq_true rfl | omega | (dsimp only; omega)) (by first | exact Nat.le_of_ble_eq_true rfl | omega | (dsimp only; omega))
    exact ⟨rfl, _, _, _, ⟨⟨⟨_, eM_31_s⟩, fun z => absurd z (by decide), fun _ => ha_32, ⟨by decide, by decide⟩⟩, fun i hi => absurd hi (Nat.not_lt_zero _), va_up_s, Or.inr hq_4, fr_33⟩, sh_34, (if_neg (Nat.lt_irrefl _)).symm⟩
set_option maxHeartbeats 1000000 in
theorem c_J2_add_2_ltC (l : Launch) (hl : l.stackTraces = false) (G : hp_G) (X : Nat → Nat) (N0 : Nat) (M : hp_h) (a e0 cap n v : Nat) (md : Int32) (f : Nat → Option Nat) (hl9 : M a = some (.inr (1, [.int md, .ref e0, .int (nI n)]))) (hv : hp_AS G M (.object "java/lang/Object") v) (he : M e0 = some (.inl (G.2 11, cap, RV f))) (hc : n < cap) (hn : cap ≤ 90) : HM l yJ2_add_2 (ws_ yJ2_add_2 cJ2_add_2 4 none) 5 117 0 0 G X N0 [.ref a, .ref v, .ref e0, .int (nI n)] M (fun v9 M' => v9 = none ∧ ∃ e' cap' f', LAd G (X 0) M M' a e0 cap n v f e' cap' f' ∧ hp_sh M M' ∧ CAPC n cap cap') PX0 := by
  refine HM.of hl [(0, .ref a), (1, .ref v), (2, .ref e0), (3, .int (nI n))] (by decide +kernel) rfl (Nat.le_of_ble_eq_true rfl) ?_
  intro p e s m args below meth c C hname
  have hfr : hp_fr (fun b => b = a ∨ (cap ≠ 0 ∧ b = e0)) M M := hp_fr.rf
  have hsh : hp_sh M M := hp_sh.rf
  refine V_iload_n C dJ2_add_2_0 rfl 3 rfl ?_
  refine V_aload_n C dJ2_add_2_1 rfl 2 rfl ?_
  refine V_alen (j := 11) C rfl he (v := nI cap) rfl dJ2_add_2_2 ?_
  refine V_icmp_ne (tgt := 11) C dJ2_add_2_3 (by decide) (fun c_3 => ?_) (fun c_3 => ?_)
  · refine V_aload_n C dJ2_add_2_11 rfl 2 rfl ?_
    refine V_iload_n C dJ2_add_2_12 rfl 3 rfl ?_
    refine V_aload_n C dJ2_add_2_13 rfl 1 rfl ?_
    refine V_aastM C (j := 11) rfl rfl he hv (vp_in_nI (by omega) (by omega)) dJ2_add_2_14 ?_
    refine V_heap (M' := hp_up M e0 (.inl (G.2 11, cap, .inr (.inr (.inr (.inr (va_up f n (some v)))))))) (by rw [nI_clamp (by omega)]) ?_
    obtain ⟨M_1, eM_2⟩ : ∃ z, z = hp_up M e0 (.inl (G.2 11, cap, .inr (.inr (.inr (.inr (va_up f n (some v))))))) := ⟨_, rfl⟩
    refine V_heap (M' := M_1) eM_2.symm ?_
    have ho_3 : M_1 a = some (.inr (1, [.int md, .ref e0, .int (nI n)])) := by rw [eM_2, hp_up_n (hp_ne hl9 he (by simp))]; exact hl9
    have eM_2_s : M_1 e0 = some (.inl (G.2 11, cap, .inr (.inr (.inr (.inr (va_up f n (some v))))))) := by rw [eM_2]; exact hp_up_s
    have fr_4 := hp_fr.set hfr (Or.inl (Or.inr ⟨by omega, rfl⟩)) eM_2
    have sh_5 := hp_sh.set hsh he eM_2 rfl
    refine V_aload_n C dJ2_add_2_15 rfl 0 rfl ?_
    refine V_iload_n C dJ2_add_2_16 rfl 3 rfl ?_
    refine V_iconst (v := 1) C dJ2_add_2_17 rfl ?_
    refine V_pc (pc1 := 18) rfl ?_
    refine V_iadd C dJ2_add_2_18 ?_
    refine V_st (st' := [.int (nI (n + 1)), .ref a]) (by rw [show ((nI n) + 1) = (nI (n + 1)) from (nI_1 n)]) ?_
    refine V_put C f_J2_48_1 ho_3 rfl rfl (Nat.le_of_ble_eq_true rfl) dJ2_add_2_19 ?_
    obtain ⟨M_6, eM_7⟩ : ∃ z, z = hp_up M_1 a (.inr (1, [.int md, .ref e0, .int (nI (n + 1))])) := ⟨_, rfl⟩
    refine V_heap (M' := M_6) eM_7.symm ?_
    have ha_8 : M_6 e0 = some (.inl (G.2 11, cap, .inr (.inr (.inr (.inr (va_up f n (some v))))))) := by rw [eM_7, hp_up_n (hp_ne eM_2_s ho_3 (by simp))]; exact eM_2_s
    have eM_7_s : M_6 a = some (.inr (1, [.int md, .ref e0, .int (nI (n + 1))])) := by rw [eM_7]; exact hp_up_s
    have fr_9 := hp_fr.set fr_4 (Or.inl (Or.inl rfl)) eM_7
    have sh_10 := hp_sh.set sh_5 ho_3 eM_7 rfl
    refine V_vret C dJ2_add_2_22 rfl ?_ (by first | exact Nat.le_of_ble_eq_true rfl | omega | (dsimp only; omega)) (by first | exact Nat.le_of_ble_eq_true rfl | omega | (dsimp only; omega))
    exact ⟨rfl, _, _, _, ⟨⟨⟨_, eM_7_s⟩, fun z => absurd z (by omega), fun _ => ha_8, ⟨by omega, hn⟩⟩, fun i hi => va_up_n (Nat.ne_of_lt hi), va_up_s, Or.inl ⟨rfl, by omega⟩, fr_9⟩, sh_10, (if_pos hc).symm⟩
  · exact absurd ((nI_eq (a := n) (b := cap) (by omega) (by omega)).mp c_3) (by omega)
set_option maxHeartbeats 1000000 in
theorem c_J2_addC_eq (l : Launch) (hl : l.stackTraces = false) (G : hp_G) (X : Nat → Nat) (N0 : Nat) (M : hp_h) (a e0 n v : Nat) (md : Int32) (f : Nat → Option Nat) (hl9 : M a = some (.inr (1, [.int md, .ref e0, .int (nI n)]))) (hv : hp_AS G M (.object "java/lang/Object") v) (he : M e0 = some (.inl (G.2 11, n, RV f))) (hn0 : 0 < n) (hn : n < 60) (hel : ∀ i, i < n → ∀ y, f i = some y → hp_AS G M (.object "java/lang/Object") y) : HM l yJ2_add (ws_ yJ2_add cJ2_add 2 (some .boolean)) 6 140 1 (gcap n) G X N0 [.ref a, .ref v] M (fun v9 M' => v9 = some (.int 1) ∧ ∃ e' cap' f', LAd G (X 0) M M' a e0 n n v f e' cap' f' ∧ hp_sh M M' ∧ CAPC n n cap') PX0 := by
  refine HM.of hl [(0, .ref a), (1, .ref v)] (by decide +kernel) rfl (Nat.le_of_ble_eq_true rfl) ?_
  intro p e s m args below meth c C hname
  have hfr : hp_fr (fun b => b = a ∨ (n ≠ 0 ∧ b = e0)) M M := hp_fr.rf
  have hsh : hp_sh M M := hp_sh.rf
  refine V_aload_n C dJ2_add_0 rfl 0 rfl ?_
  refine V_dup C dJ2_add_1 rfl ?_
  refine V_get C f_J2_63_1 hl9 (v := .int md) rfl dJ2_add_2 ?_
  refine V_iconst (v := 1) C dJ2_add_5 rfl ?_
  refine V_iadd C dJ2_add_6 ?_
  refine V_put C f_J2_63_1 hl9 rfl rfl (Nat.le_of_ble_eq_true rfl) dJ2_add_7 ?_
  obtain ⟨M_1, eM_2⟩ : ∃ z, z = hp_up M a (.inr (1, [.int (md + 1), .ref e0, .int (nI n)])) := ⟨_, rfl⟩
  refine V_heap (M' := M_1) eM_2.symm ?_
  have ha_3 : M_1 e0 = some (.inl (G.2 11, n, .inr (.inr (.inr (.inr f))))) := by rw [eM_2, hp_up_n (hp_ne he hl9 (by simp))]; exact he
  have eM_2_s : M_1 a = some (.inr (1, [.int (md + 1), .ref e0, .int (nI n)])) := by rw [eM_2]; exact hp_up_s
  have fr_4 := hp_fr.set hfr (Or.inl (Or.inl rfl)) eM_2
  have sh_5 := hp_sh.set hsh hl9 eM_2 rfl
  refine V_aload_n C dJ2_add_10 rfl 0 rfl ?_
  refine V_aload_n C dJ2_add_11 rfl 1 rfl ?_
  refine V_aload_n C dJ2_add_12 rfl 0 rfl ?_
  refine V_get C f_J2_9_1 eM_2_s (v := .ref e0) rfl dJ2_add_13 ?_
  refine V_aload_n C dJ2_add_16 rfl 0 rfl ?_
  refine V_pc (pc1 := 17) rfl ?_
  refine V_get C f_J2_48_1 eM_2_s (v := .int (nI n)) rfl dJ2_add_17 ?_
  refine V_callV C (c_J2_add_2_eqC l hl G X N0 M_1 a e0 n v (md + 1) f eM_2_s (hv.sh sh_5) ha_3 hn0 hn (fun i hi y hy => (hel i hi y hy).sh sh_5)) cs_J2_131_1 eM_2_s (show CLS[1]? = some (RJ2, TJ2, 3) from rfl) rfl rfl ⟨Nat.le_of_ble_eq_true rfl, Nat.le_of_ble_eq_true rfl⟩ ⟨(by first | exact Nat.le_of_ble_eq_true rfl | omega | (dsimp only; omega)), (by first | exact Nat.le_of_ble_eq_true rfl | omega | (dsimp only; omega))⟩ (Nat.le_of_ble_eq_true rfl) dJ2_add_20 (fun _ _ _ h => px0 h) ?_
  rintro _ M_6 ⟨rfl, e_7, cp_8, f_9, L_10, sh_11, hcq9⟩
  refine V_st (st' := []) rfl ?_
  refine V_iconst (v := 1) C dJ2_add_23 rfl ?_
  refine V_zret C rfl dJ2_add_24 rfl ?_ (by first | exact Nat.le_of_ble_eq_true rfl | omega | (dsimp only; omega)) (by first | exact Nat.le_of_ble_eq_true rfl | omega | (dsimp only; omega))
  obtain ⟨x1, x2, x3, x4, x5⟩ := L_10
  refine ⟨rfl, _, _, _, ⟨x1, x2, x3, ?_, fr_4.trans x5⟩, sh_5.trans sh_11, hcq9⟩
  rcases x4 with x4 | x4
  · exact Or.inl x4
  · exact Or.inr (hp_up_none eM_2 x4)
set_option maxHeartbeats 1000000 in
theorem c_J2_addC_z (l : Launch) (hl : l.stackTraces = false) (G : hp_G) (X : Nat → Nat) (N0 : Nat) (M : hp_h) (a v : Nat) (md : Int32) (f : Nat → Option Nat) (hl9 : M a = some (.inr (1, [.int md, .ref (X 0), .int (nI 0)]))) (hv : hp_AS G M (.object "java/lang/Object") v) : HM l yJ2_add (ws_ yJ2_add cJ2_add 2 (some .boolean)) 6 140 1 10 G X N0 [.ref a, .ref v] M (fun v9 M' => v9 = some (.int 1) ∧ ∃ e' cap' f', LAd G (X 0) M M' a (X 0) 0 0 v f e' cap' f' ∧ hp_sh M M' ∧ CAPC 0 0 cap') PX0 := by
  refine HM.of hl [(0, .ref a), (1, .ref v)] (by decide +kernel) rfl (Nat.le_of_ble_eq_true rfl) ?_
  intro p e s m args below meth c C hname
  have hfr : hp_fr (fun b => b = a ∨ (0 ≠ 0 ∧ b = (X 0))) M M := hp_fr.rf
  have hsh : hp_sh M M := hp_sh.rf
  refine V_aload_n C dJ2_add_0 rfl 0 rfl ?_
  refine V_dup C dJ2_add_1 rfl ?_
  refine V_get C f_J2_63_1 hl9 (v := .int md) rfl dJ2_add_2 ?_
  refine V_iconst (v := 1) C dJ2_add_5 rfl ?_
  refine V_iadd C dJ2_add_6 ?_
  refine V_put C f_J2_63_1 hl9 rfl rfl (Nat.le_of_ble_eq_true rfl) dJ2_add_7 ?_
  obtain ⟨M_1, eM_2⟩ : ∃ z, z = hp_up M a (.inr (1, [.int (md + 1), .ref (X 0), .int (nI 0)])) := ⟨_, rfl⟩
  refine V_heap (M' := M_1) eM_2.symm ?_
  have eM_2_s : M_1 a = some (.inr (1, [.int (md + 1), .ref (X 0), .int (nI 0)])) := by rw [eM_2]; exact hp_up_s
  have fr_3 := hp_fr.set hfr (Or.inl (Or.inl rfl)) eM_2
  have sh_4 := hp_sh.set hsh hl9 eM_2 rfl
  refine V_aload_n C dJ2_add_10 rfl 0 rfl ?_
  refine V_aload_n C dJ2_add_11 rfl 1 rfl ?_
  refine V_aload_n C dJ2_add_12 rfl 0 rfl ?_
  refine V_get C f_J2_9_1 eM_2_s (v := .ref (X 0)) rfl dJ2_add_13 ?_
  refine V_aload_n C dJ2_add_16 rfl 0 rfl ?_
  refine V_pc (pc1 := 17) rfl ?_
  refine V_get C f_J2_48_1 eM_2_s (v := .int (nI 0)) rfl dJ2_add_17 ?_
  refine V_callV C (c_J2_add_2_zC l hl G X N0 M_1 a v (md + 1) f eM_2_s (hv.sh sh_4)) cs_J2_131_1 eM_2_s (show CLS[1]? = some (RJ2, TJ2, 3) from rfl) rfl rfl ⟨Nat.le_of_ble_eq_true rfl, Nat.le_of_ble_eq_true rfl⟩ ⟨(by first | exact Nat.le_of_ble_eq_true rfl | omega | (dsimp only; omega)), (by first | exact Nat.le_of_ble_eq_true rfl | omega | (dsimp only; omega))⟩ (Nat.le_of_ble_eq_true rfl) dJ2_add_20 (fun _ _ _ h => px0 h) ?_
  rintro _ M_5 ⟨rfl, e_6, cp_7, f_8, L_9, sh_10, hcq9⟩
  refine V_st (st' := []) rfl ?_
  refine V_iconst (v := 1) C dJ2_add_23 rfl ?_
  refine V_zret C rfl dJ2_add_24 rfl ?_ (by first | exact Nat.le_of_ble_eq_true rfl | omega | (dsimp only; omega)) (by first | exact Nat.le_of_ble_eq_true rfl | omega | (dsimp only; omega))
  obtain ⟨x1, x2, x3, x4, x5⟩ := L_9
  refine ⟨rfl, _, _, _, ⟨x1, fun i hi => absurd hi (Nat.not_lt_zero _), x3, ?_, fr_3.trans x5⟩, sh_4.trans sh_10, hcq9⟩
  rcases x4 with x4 | x4
  · exact Or.inl x4
  · exact Or.inr (hp_up_none eM_2 x4)
set_option maxHeartbeats 1000000 in
theorem c_J2_addC_lt (l : Launch) (hl : l.stackTraces = false) (G : hp_G) (X : Nat → Nat) (N0 : Nat) (M : hp_h) (a e0 cap n v : Nat) (md : Int32) (f : Nat → Option Nat) (hl9 : M a = some (.inr (1, [.int md, .ref e0, .int (nI n)]))) (hv : hp_AS G M (.object "java/lang/Object") v) (he : M e0 = some (.inl (G.2 11, cap, RV f))) (hc : n < cap) (hn : cap ≤ 90) : HM l yJ2_add (ws_ yJ2_add cJ2_add 2 (some .boolean)) 6 140 0 0 G X N0 [.ref a, .ref v] M (fun v9 M' => v9 = some (.int 1) ∧ ∃ e' cap' f', LAd G (X 0) M M' a e0 cap n v f e' cap' f' ∧ hp_sh M M' ∧ CAPC n cap cap') PX0 := by
  refine HM.of hl [(0, .ref a), (1, .ref v)] (by decide +kernel) rfl (Nat.le_of_ble_eq_true rfl) ?_
  intro p e s m args below meth c C hname
  have hfr : hp_fr (fun b => b = a ∨ (cap ≠ 0 ∧ b = e0)) M M := hp_fr.rf
  have hsh : hp_sh M M := hp_sh.rf
  refine V_aload_n C dJ2_add_0 rfl 0 rfl ?_
  refine V_dup C dJ2_add_1 rfl ?_
  refine V_get C f_J2_63_1 hl9 (v := .int md) rfl dJ2_add_2 ?_
  refine V_iconst (v := 1) C dJ2_add_5 rfl ?_
  refine V_iadd C dJ2_add_6 ?_
  refine V_put C f_J2_63_1 hl9 rfl rfl (Nat.le_of_ble_eq_true rfl) dJ2_add_7 ?_
  obtain ⟨M_1, eM_2⟩ : ∃ z, z = hp_up M a (.inr (1, [.int (md + 1), .ref e0, .int (nI n)])) := ⟨_, rfl⟩
  refine V_heap (M' := M_1) eM_2.symm ?_
  have ha_3 : M_1 e0 = some (.inl (G.2 11, cap, .inr (.inr (.inr (.inr f))))) := by rw [eM_2, hp_up_n (hp_ne he hl9 (by simp))]; exact he
  have eM_2_s : M_1 a = some (.inr (1, [.int (md + 1), .ref e0, .int (nI n)])) := by rw [eM_2]; exact hp_up_s
  have fr_4 := hp_fr.set hfr (Or.inl (Or.inl rfl)) eM_2
  have sh_5 := hp_sh.set hsh hl9 eM_2 rfl
  refine V_aload_n C dJ2_add_10 rfl 0 rfl ?_
  refine V_aload_n C dJ2_add_11 rfl 1 rfl ?_
  refine V_aload_n C dJ2_add_12 rfl 0 rfl ?_
  refine V_get C f_J2_9_1 eM_2_s (v := .ref e0) rfl dJ2_add_13 ?_
  refine V_aload_n C dJ2_add_16 rfl 0 rfl ?_
  refine V_pc (pc1 := 17) rfl ?_
  refine V_get C f_J2_48_1 eM_2_s (v := .int (nI n)) rfl dJ2_add_17 ?_
  refine V_callV C (c_J2_add_2_ltC l hl G X N0 M_1 a e0 cap n v (md + 1) f eM_2_s (hv.sh sh_5) ha_3 hc hn) cs_J2_131_1 eM_2_s (show CLS[1]? = some (RJ2, TJ2, 3) from rfl) rfl rfl ⟨Nat.le_of_ble_eq_true rfl, Nat.le_of_ble_eq_true rfl⟩ ⟨(by first | exact Nat.le_of_ble_eq_true rfl | omega | (dsimp only; omega)), (by first | exact Nat.le_of_ble_eq_true rfl | omega | (dsimp only; omega))⟩ (Nat.le_of_ble_eq_true rfl) dJ2_add_20 (fun _ _ _ h => px0 h) ?_
  rintro _ M_6 ⟨rfl, e_7, cp_8, f_9, L_10, sh_11, hcq9⟩
  refine V_st (st' := []) rfl ?_
  refine V_iconst (v := 1) C dJ2_add_23 rfl ?_
  refine V_zret C rfl dJ2_add_24 rfl ?_ (by first | exact Nat.le_of_ble_eq_true rfl | omega | (dsimp only; omega)) (by first | exact Nat.le_of_ble_eq_true rfl | omega | (dsimp only; omega))
  obtain ⟨x1, x2, x3, x4, x5⟩ := L_10
  refine ⟨rfl, _, _, _, ⟨x1, x2, x3, ?_, fr_4.trans x5⟩, sh_5.trans sh_11, hcq9⟩
  rcases x4 with x4 | x4
  · exact Or.inl x4
  · exact Or.inr (hp_up_none eM_2 x4)
theorem c_J2_addC (l : Launch) (hl : l.stackTraces = false) (G : hp_G) (X : Nat → Nat) (N0 : Nat) (M : hp_h) (a e0 cap n v : Nat) (f : Nat → Option Nat) (h : LSt G (X 0) M a e0 cap n f) (hn : n < 60) (hv : hp_AS G M (.object "java/lang/Object") v) (hel : ∀ i, i < n → ∀ y, f i = some y → hp_AS G M (.object "java/lang/Object") y) : HM l yJ2_add (ws_ yJ2_add cJ2_add 2 (some .boolean)) 6 140 (if n < cap then 0 else 1) (if n < cap then 0 else gcap cap) G X N0 [.ref a, .ref v] M (fun v9 M' => v9 = some (.int 1) ∧ ∃ e' cap' f', LAd G (X 0) M M' a e0 cap n v f e' cap' f' ∧ hp_sh M M' ∧ CAPC n cap cap') PX0 := by
  obtain ⟨⟨md, hm⟩, h0, h1, h2, h3⟩ := h
  by_cases hc : n < cap
  · rw [if_pos hc, if_pos hc]
    exact c_J2_addC_lt l hl G X N0 M a e0 cap n v md f hm hv (h1 (by omega)) hc h3
  · rw [if_neg hc, if_neg hc]
    have e : cap = n := by omega
    subst e
    by_cases hz : cap = 0
    · subst hz
      have e := h0 rfl
      subst e
      exact c_J2_addC_z l hl G X N0 M a v md f hm hv
    · exact c_J2_addC_eq l hl G X N0 M a e0 cap v md f hm hv (h1 hz) (by omega) hn hel
theorem c_J2_addCZ {G : hp_G} {X : Nat → Nat} {N0 : Nat} {M : hp_h} (l : Launch) (hl : l.stackTraces = false) (a e0 cap n v zc zs : Nat) (f : Nat → Option Nat) (hzc : (if n < cap then 0 else 1) = zc) (hzs : (if n < cap then 0 else gcap cap) = zs) (h : LSt G (X 0) M a e0 cap n f) (hn : n < 60) (hv : hp_AS G M (.object "java/lang/Object") v) (hel : ∀ i, i < n → ∀ y, f i = some y → hp_AS G M (.object "java/lang/Object") y) : HM l yJ2_add (ws_ yJ2_add cJ2_add 2 (some .boolean)) 6 140 zc zs G X N0 [.ref a, .ref v] M (fun v9 M' => v9 = some (.int 1) ∧ ∃ e' cap' f', LAd G (X 0) M M' a e0 cap n v f e' cap' f' ∧ hp_sh M M' ∧ CAPC n cap cap') PX0 := by
  subst hzc hzs
  exact c_J2_addC l hl G X N0 M a e0 cap n v f h hn hv hel
/-- what growing costs, by the capacities -/
theorem capc_4 {n cap cap' : Nat} (h : CAPC n cap cap') (hn : n ≤ cap) : (if n < cap then 0 else gcap cap) + 4 * cap ≤ 4 * cap' ∧ (if n < cap then 0 else 1) ≤ 1 := by
  unfold CAPC at h
  by_cases e : n < cap
  · rw [if_pos e] at h ⊢
    rw [if_pos e]
    exact ⟨by omega, by decide⟩
  · rw [if_neg e] at h ⊢
    rw [if_neg e]
    refine ⟨?_, by decide⟩
    rw [h]
    unfold gcap gm
    split
    · omega
    · split <;> omega
set_option maxHeartbeats 1000000 in
theorem c_X25_hasY (l : Launch) (hl : l.stackTraces = false) (G : hp_G) (X : Nat → Nat) (N0 : Nat) (M : hp_h) (g : RG) (σ : MS) (z : Nat → Int32) (ca : Int32) (C9 c9 : Nat) (Y9 : Nat → Prop) (hC : c9 + 1 = C9) (hR : RELY G (X 0) g σ z ca C9 Y9 M) (hI : MI σ) (r : Nat) (hr : r < 60) : HM l yX25_has (ws_ yX25_has cX25_has 4 (some .boolean)) 1 20 0 0 G X N0 [.ref (qC g c9), .int (nI r)] M (fun v9 M' => M = M' ∧ ∃ w, v9 = some (.int w) ∧ (w = 0 ∨ w = 1) ∧ (w = 0 ↔ ∀ i, i < kn g c9 → wh g c9 i ≠ r)) PX0 := by
  refine HM.of hl [(0, .ref (qC g c9)), (1, .int (nI r))] (by decide +kernel) rfl (Nat.le_of_ble_eq_true rfl) ?_
  intro p e s m args below meth c C hname
  have hcC : c9 < C9 := by omega
  have hCc := hR.Cc hcC
  obtain ⟨mdK, hKl⟩ := hR.Kl hcC
  obtain ⟨fK, hKs, hKf⟩ := hR.Kls hcC
  obtain ⟨fW, hW, hWf⟩ := hR.W hcC
  refine V_iconst (v := 0) C dX25_has_0 rfl ?_
  refine V_istore_n C dX25_has_1 rfl (Nat.le_of_ble_eq_true rfl) [(0, .ref (qC g c9)), (1, .int (nI r)), (2, .int 0)] [1, 2, 0] rfl ?_
  refine V_iconst (v := 0) C dX25_has_2 rfl ?_
  refine V_istore_n C dX25_has_3 rfl (Nat.le_of_ble_eq_true rfl) [(0, .ref (qC g c9)), (1, .int (nI r)), (2, .int 0), (3, .int 0)] [1, 2, 3, 0] rfl ?_
  have hkn := hR.knR hcC
  have hR60 := hI.R.2
  have lp_4 : ∀ (fu9 : Nat) (q : Nat) (v2 : Int32), kn g c9 - q < fu9 → (q ≤ kn g c9) → (v2 = 0 ∨ v2 = 1) → (v2 = 0 ↔ ∀ i, i < q → wh g c9 i ≠ r) → V p l e { frames := 1, cells := 0, slots := 0, locals := 20 } s m args below meth c G N0 4 (QV below G N0 ((fun v9 M' => M = M' ∧ ∃ w, v9 = some (.int w) ∧ (w = 0 ∨ w = 1) ∧ (w = 0 ↔ ∀ i, i < kn g c9 → wh g c9 i ≠ r))) PX0 args s (0) (0)) (0) (0) M 4 [(0, .ref (qC g c9)), (1, .int (nI r)), (2, .int v2), (3, .int (nI q))] [] := by
    intro fu9
    induction fu9 with
    | zero => intro q v2  hfu9; exact absurd hfu9 (Nat.not_lt_zero _)
    | succ fu9 ih4 =>
      intro q v2  hfu9 hq hv01 hvw
      refine V_iload_n C dX25_has_4 rfl 3 rfl ?_
      refine V_aload_n C dX25_has_5 rfl 0 rfl ?_
      refine V_get C f_X25_18_4 hCc (v := .ref (qKl g c9)) rfl dX25_has_6 ?_
      refine V_callV C (c_J2_size l hl G X N0 M (qKl g c9) (qKe g c9) (kn g c9) mdK hKl) cs_X25_33_1 hKl (show CLS[1]? = some (RJ2, TJ2, 3) from rfl) rfl rfl ⟨Nat.le_of_ble_eq_true rfl, Nat.le_of_ble_eq_true rfl⟩ ⟨(by first | exact Nat.le_of_ble_eq_true rfl | omega | (dsimp only; omega) | (simp only [List.length_cons, List.length_nil]; omega)), (by first | exact Nat.le_of_ble_eq_true rfl | omega | (dsimp only; omega) | (simp only [List.length_cons, List.length_nil]; omega))⟩ (Nat.le_of_ble_eq_true rfl) dX25_has_9 (fun _ _ _ h => px0 h) ?_
      rintro _ _ ⟨rfl, rfl⟩
      refine V_st (st' := [.int (nI (kn g c9)), .int (nI q)]) rfl ?_
      refine V_icmp_ge (tgt := 41) C dX25_has_12 (by decide) (fun c_12 => ?_) (fun c_12 => ?_)
      · have hq3 : q = kn g c9 := by
          have := (nI_leI (by omega) (by omega)).mp c_12
          omega
        subst hq3
        obtain rfl | rfl := hv01
        · skip
          refine V_iload_n C dX25_has_41 rfl 2 rfl ?_
          refine V_zret C rfl dX25_has_42 rfl ?_ (by first | exact Nat.le_of_ble_eq_true rfl | omega | (dsimp only; omega) | (simp only [List.length_cons, List.length_nil]; omega)) (by first | exact Nat.le_of_ble_eq_true rfl | omega | (dsimp only; omega) | (simp only [List.length_cons, List.length_nil]; omega))
          exact ⟨rfl, _, rfl, Or.inl rfl, hvw⟩
        · skip
          refine V_iload_n C dX25_has_41 rfl 2 rfl ?_
          refine V_zret C rfl dX25_has_42 rfl ?_ (by first | exact Nat.le_of_ble_eq_true rfl | omega | (dsimp only; omega) | (simp only [List.length_cons, List.length_nil]; omega)) (by first | exact Nat.le_of_ble_eq_true rfl | omega | (dsimp only; omega) | (simp only [List.length_cons, List.length_nil]; omega))
          exact ⟨rfl, _, rfl, Or.inr rfl, hvw⟩
      · refine V_iload_n C dX25_has_15 rfl 2 rfl ?_
        refine V_if_ne (tgt := 29) C dX25_has_16 (by decide) (fun c_16 => ?_) (fun c_16 => ?_)
        · refine V_pc (pc1 := 29) rfl ?_
          refine V_iconst (v := 1) C dX25_has_29 rfl ?_
          refine V_goto (tgt := 34) C dX25_has_30 (by decide) ?_
          refine V_istore_n C dX25_has_34 rfl (Nat.le_of_ble_eq_true rfl) [(0, .ref (qC g c9)), (1, .int (nI r)), (2, .int 1), (3, .int (nI q))] [1, 2, 0, 3] rfl ?_
          refine V_iinc (v := nI (q + 1)) C dX25_has_35 (k := 3) rfl (nI_add q 1) (Nat.le_of_ble_eq_true rfl) [(0, .ref (qC g c9)), (1, .int (nI r)), (2, .int 1), (3, .int (nI (q + 1)))] [1, 2, 3, 0] rfl ?_
          refine V_goto (tgt := 4) C dX25_has_38 (by decide) ?_
          have hq2 : q < kn g c9 := (nI_ltN9 (by omega) (by omega) c_12)
          have hv1 : v2 = 1 := hv01.resolve_left c_16
          exact ih4 (q + 1) 1  (by omega) (by omega) (Or.inr rfl) (⟨fun y => absurd y (by decide), fun y => absurd (hvw.mpr (fun i hi => y i (by omega))) c_16⟩)
        · refine V_pc (pc1 := 19) rfl ?_
          refine V_aload_n C dX25_has_19 rfl 0 rfl ?_
          refine V_get C f_X25_22_4 hCc (v := .ref (qW g c9)) rfl dX25_has_20 ?_
          refine V_iload_n C dX25_has_23 rfl 3 rfl ?_
          refine V_iald C hW (vp_in_nI (show q < 60 by have := nI_ltN9 (a := q) (b := kn g c9) (by omega) (by omega) c_12; omega) (by omega)) dX25_has_24 ?_
          refine V_st (st' := [.int (fW q)]) (by rw [nI_clamp (by omega)]) ?_
          refine V_iload_n C dX25_has_25 rfl 1 rfl ?_
          refine V_icmp_ne (tgt := 33) C dX25_has_26 (by decide) (fun c_26 => ?_) (fun c_26 => ?_)
          · refine V_iconst (v := 0) C dX25_has_33 rfl ?_
            refine V_istore_n C dX25_has_34 rfl (Nat.le_of_ble_eq_true rfl) [(0, .ref (qC g c9)), (1, .int (nI r)), (2, .int 0), (3, .int (nI q))] [1, 2, 0, 3] rfl ?_
            refine V_iinc (v := nI (q + 1)) C dX25_has_35 (k := 3) rfl (nI_add q 1) (Nat.le_of_ble_eq_true rfl) [(0, .ref (qC g c9)), (1, .int (nI r)), (2, .int 0), (3, .int (nI (q + 1)))] [1, 2, 3, 0] rfl ?_
            refine V_goto (tgt := 4) C dX25_has_38 (by decide) ?_
            have hq2 : q < kn g c9 := (nI_ltN9 (by omega) (by omega) c_12)
            have hw9 : wh g c9 q ≠ r := fun y => c_26 ((hWf q hq2).trans (by rw [y]))
            exact ih4 (q + 1) 0  (by omega) (by omega) (Or.inl rfl) (⟨fun _ i hi => by by_cases e : i = q; { rw [e]; exact hw9 }; exact hvw.mp c_16 i (by omega), fun _ => rfl⟩)
          · refine V_iconst (v := 1) C dX25_has_29 rfl ?_
            refine V_goto (tgt := 34) C dX25_has_30 (by decide) ?_
            refine V_istore_n C dX25_has_34 rfl (Nat.le_of_ble_eq_true rfl) [(0, .ref (qC g c9)), (1, .int (nI r)), (2, .int 1), (3, .int (nI q))] [1, 2, 0, 3] rfl ?_
            refine V_iinc (v := nI (q + 1)) C dX25_has_35 (k := 3) rfl (nI_add q 1) (Nat.le_of_ble_eq_true rfl) [(0, .ref (qC g c9)), (1, .int (nI r)), (2, .int 1), (3, .int (nI (q + 1)))] [1, 2, 3, 0] rfl ?_
            refine V_goto (tgt := 4) C dX25_has_38 (by decide) ?_
            have hq2 : q < kn g c9 := (nI_ltN9 (by omega) (by omega) c_12)
            have hw9 : wh g c9 q = r := nI_inj9 (by have := (hR.2.2.2 c9 hcC).1 q hq2; omega) (by omega) ((hWf q hq2).symm.trans c_26)
            exact ih4 (q + 1) 1  (by omega) (by omega) (Or.inr rfl) (⟨fun y => absurd y (by decide), fun y => absurd hw9 (y q (by omega))⟩)
  refine V_loc (L' := [(0, .ref (qC g c9)), (1, .int (nI r)), (2, .int 0), (3, .int 0)]) [0, 1, 2, 3] rfl ?_
  exact lp_4 _ 0 0  (Nat.lt_succ_self _) (Nat.zero_le _) (Or.inl rfl) (⟨fun _ i hi => absurd hi (Nat.not_lt_zero i), fun _ => rfl⟩)
/-- rows that call c keeps, from number k on -/
def Yt (g : RG) (c k : Nat) : Nat → Prop := fun r => ∃ i, k ≤ i ∧ i < kn g c ∧ wh g c i = r
section T57
variable {G : hp_G} {E0 : Nat} {g g5 : RG} {σ σ' : MS} {z : Nat → Int32} {ca : Int32} {C c k : Nat} {Y Y' : Nat → Prop} {M M' M5 M6 M7 : hp_h}
theorem RELY.Yw (h : RELY G E0 g σ z ca C Y M) (hy : ∀ r, Y r → ¬ Y' r → ∀ d, d + 1 = C → ∃ i, i < kn g d ∧ wh g d i = r) : RELY G E0 g σ z ca C Y' M := by
  refine ⟨h.1, h.2.1, h.2.2.1, fun d hd => ?_⟩
  obtain ⟨b1, b2, b3, b4, b5⟩ := h.2.2.2 d hd
  refine ⟨b1, b2, b3, b4, fun r hr hn hY k hk => b5 r hr hn (fun y => ?_) k hk⟩
  by_cases e : Y' r
  · exact hY ⟨y.1, e⟩
  · obtain ⟨i, h1, h2⟩ := hy r y.2 e d y.1
    exact hn i h1 h2
theorem RELY.takeY (h : REL G E0 g σ z ca (c + 1 + 1) M) : RELY G E0 g σ z ca (c + 1) (Yt g (c + 1) 0) M := by
  refine h.leave (fun d hd r hr hn hY k hk => ?_)
  obtain rfl : d = c := by omega
  obtain ⟨-, -, -, b4, b5⟩ := h.2.2.2 d (by omega)
  obtain ⟨-, -, -, -, d5⟩ := h.2.2.2 (d + 1) (by omega)
  have h1 := b5 r hr hn (fun y => y.2) k hk
  rw [if_pos (by omega)] at h1
  have h2 := d5 r (Nat.lt_of_lt_of_le hr (b4 (d + 1) (by omega) (by omega))) (fun i hi e => hY ⟨i, Nat.zero_le _, hi, e⟩) (fun y => y.2) k hk
  rw [if_neg (by omega)] at h2
  exact h1.trans h2
theorem RD.up {t i j : Nat} (h : RD σ g C t i j) : RD σ g (C + 1) t i j := by
  unfold _root_.Jvm.Pilot.CNativeSubsetLaw_law_r3584_2ddaea.RD at h ⊢
  split at h <;> first | exact h | exact ⟨Nat.lt_succ_of_lt h.1, h.2⟩
theorem RD.top {t i j : Nat} (h : RD σ g C t i j) (ht : 15 ≤ t) : i < C := by
  rcases (show t = 15 ∨ t = 16 ∨ t = 17 ∨ t = 18 ∨ t = 19 ∨ 20 ≤ t by omega) with rfl | rfl | rfl | rfl | rfl | h20
  · exact h.1
  · exact h.1
  · exact h.1
  · exact h.1
  · exact h.1
  · obtain ⟨m, rfl⟩ : ∃ m, t = m + 20 := ⟨t - 20, by omega⟩
    have h : m + 20 < 20 ∧ i = 0 ∧ j = 0 := h
    omega
/-- taking what the inner call keeps: k of it done -/
def TK5 (G : hp_G) (E0 : Nat) (g : RG) (σ : MS) (z : Nat → Int32) (ca : Int32) (c k : Nat) (g5 : RG) (M M5 : hp_h) : Prop :=
  (∀ t i j, t ≠ 17 → t ≠ 19 → g5.1 t i j = g.1 t i j) ∧ RELY G E0 g5 σ z ca (c + 1) (Yt g (c + 1) k) M5 ∧ hp_fr (fun b => IsR σ g (c + 1) b) M M5 ∧ hp_sh M M5 ∧ (∀ i, i < kn g c → ∃ i', i' < kn g5 c ∧ wh g5 c i' = wh g c i) ∧
  ∀ t i j, RD σ g5 (c + 1) t i j → (RD σ g (c + 1) t i j ∧ g5.1 t i j = g.1 t i j) ∨ M (g5.1 t i j) = none ∨ (t = 19 ∧ ∃ i', i' < k ∧ i' < kn g (c + 1) ∧ g5.1 t i j = qK g (c + 1) i')
theorem TK5.zero (h : REL G E0 g σ z ca (c + 1 + 1) M) : TK5 G E0 g σ z ca c 0 g M M := ⟨fun _ _ _ _ _ => rfl, h.takeY, hp_fr.rf, hp_sh.rf, fun i hi => ⟨i, hi, rfl⟩, fun _ _ _ hd => Or.inl ⟨hd, rfl⟩⟩
theorem RELY.notR (h : REL G E0 g σ z ca (C + 1) M) {t j : Nat} (hd : RD σ g (C + 1) t C j) (ht : 15 ≤ t) : ¬ IsR σ g C (g.1 t C j) := by
  rintro ⟨t', i', j', hd', e⟩
  obtain ⟨e1, e2, e3⟩ := h.2.1 _ _ _ _ _ _ hd'.up hd e
  subst e1 e2
  exact absurd (hd'.top ht) (Nat.lt_irrefl _)
/-- the inner call's own cells stay -/
theorem TK5.cell (h5 : TK5 G E0 g σ z ca c k g5 M M5) (h : REL G E0 g σ z ca (c + 1 + 1) M) {t j : Nat} (hd : RD σ g (c + 1 + 1) t (c + 1) j) (ht : 15 ≤ t) {E : va_E} (hE : M (g.1 t (c + 1) j) = some E) : M5 (g.1 t (c + 1) j) = some E := h5.2.2.1 _ _ (h.notR hd ht) hE
theorem TK5.skip (h5 : TK5 G E0 g σ z ca c k g5 M M5) (hw : ∃ i, i < kn g5 c ∧ wh g5 c i = wh g (c + 1) k) : TK5 G E0 g σ z ca c (k + 1) g5 M M5 := by
  obtain ⟨a1, a2, a3, a4, a6, a5⟩ := h5
  refine ⟨a1, a2.Yw (fun r hY hn d hd => ?_), a3, a4, a6, fun t i j hd => (a5 t i j hd).imp id (fun y => y.imp id (fun y => ?_))⟩
  · obtain ⟨i, i1, i2, i3⟩ := hY
    obtain rfl : d = c := by omega
    rcases Nat.lt_or_ge k i with y | y
    · exact absurd ⟨i, y, i2, i3⟩ hn
    · obtain rfl : i = k := by omega
      rw [← i3]; exact hw
  · obtain ⟨y0, i', y1, y2, y3⟩ := y
    exact ⟨y0, i', by omega, y2, y3⟩
/-- a clone that the inner call keeps is no role's yet -/
theorem TK5.clone (h5 : TK5 G E0 g σ z ca c k g5 M M5) (h : REL G E0 g σ z ca (c + 1 + 1) M) {i : Nat} (hi : k ≤ i) (hi2 : i < kn g (c + 1)) {t i' j : Nat} (hd : RD σ g5 (c + 1) t i' j) : g5.1 t i' j ≠ qK g (c + 1) i := by
  have hd2 : RD σ g (c + 1 + 1) 19 (c + 1) i := ⟨Nat.lt_succ_self _, hi2⟩
  rcases h5.2.2.2.2.2 t i' j hd with ⟨y1, y2⟩ | y | ⟨-, i2, y1, y2, y3⟩
  · rw [y2]
    exact fun e => h.notR hd2 (by decide) ⟨t, i', j, y1, e⟩
  · intro e
    rw [e] at y
    exact h.ne0 hd2 y
  · rw [y3]
    intro e
    have := (h.2.1 19 (c + 1) i2 19 (c + 1) i ⟨Nat.lt_succ_self _, y2⟩ hd2 e).2.2
    omega
theorem TK5.step (h5 : TK5 G E0 g σ z ca c k g5 M M5) (h : REL G E0 g σ z ca (c + 1 + 1) M) (hI : MI σ) (hk : k < kn g (c + 1)) (hnew : ∀ i, i < kn g5 c → wh g5 c i ≠ wh g (c + 1) k) {e' cap' : Nat} {f f' : Nat → Option Nat} {fW : Nat → Int32}
    (e6 : M6 = hp_up M5 (qW g5 c) (.inl (G.2 4, 60, .inl (upd fW (kn g5 c) (nI (wh g (c + 1) k)))))) (hW0 : M5 (qW g5 c) = some (.inl (G.2 4, 60, .inl fW))) (hfW : ∀ i, i < kn g5 c → fW i = nI (wh g5 c i)) (hL : LAd G E0 M6 M7 (qKl g5 c) (qKe g5 c) (gcp g5 17 c) (kn g5 c) (qK g (c + 1) k) f e' cap' f') (hf : ∀ i, i < kn g5 c → f i = some (qK g5 c i)) (hs : hp_sh M6 M7) :
    ∃ g6, TK5 G E0 g σ z ca c (k + 1) g6 M M7 ∧ gcp g6 17 c = cap' := by
  have h5' := h5
  obtain ⟨a1, a2, a3, a4, a6, a5⟩ := h5
  obtain ⟨l1, l2, l3, l4, l5⟩ := hL
  have hcc : c < c + 1 := Nat.lt_succ_self c
  have d16 : RD σ g5 (c + 1) 16 c 0 := ⟨hcc, rfl⟩
  have d18 : RD σ g5 (c + 1) 18 c 0 := ⟨hcc, rfl⟩
  obtain ⟨x, x1, x2, e, x3, x4, x5⟩ := h.K (c := c + 1) (Nat.lt_succ_self _) hk
  have hd2 : RD σ g (c + 1 + 1) 19 (c + 1) k := ⟨Nat.lt_succ_self _, hk⟩
  have hq5 : M5 (qK g (c + 1) k) = some (.inl (G.2 (kd σ (wh g (c + 1) k)), x)) := h5'.cell h hd2 (by decide) x1
  have hqr : ∀ t i j, RD σ g5 (c + 1) t i j → g5.1 t i j ≠ qK g (c + 1) k := fun t i j hd => h5'.clone h (Nat.le_refl k) hk hd
  have hq6 : M6 (qK g (c + 1) k) = some (.inl (G.2 (kd σ (wh g (c + 1) k)), x)) := by rw [e6, hp_up_n (Ne.symm (hqr _ _ _ d18))]; exact hq5
  have hf1 : hp_fr (fun b => b = qW g5 c) M5 M6 := hp_fr.rf.set (Or.inl rfl) e6
  have hfr : hp_fr (fun b => b = qKl g5 c ∨ (gcp g5 17 c ≠ 0 ∧ b = qKe g5 c) ∨ b = qW g5 c) M5 M7 := (hf1.weak (fun a y => Or.inr (Or.inr y))).trans (l5.weak (fun a y => y.elim Or.inl (fun y => Or.inr (Or.inl y))))
  have hZ : ∀ b, (b = qKl g5 c ∨ (gcp g5 17 c ≠ 0 ∧ b = qKe g5 c) ∨ b = qW g5 c) → ∃ t i j, RD σ g5 (c + 1) t i j ∧ g5.1 t i j = b ∧ t ≠ 19 := by
    rintro b (rfl | ⟨y, rfl⟩ | rfl)
    · exact ⟨16, c, 0, d16, rfl, by decide⟩
    · exact ⟨17, c, 0, ⟨hcc, rfl, y⟩, rfl, by decide⟩
    · exact ⟨18, c, 0, d18, rfl, by decide⟩
  have hq7 : M7 (qK g (c + 1) k) = some (.inl (G.2 (kd σ (wh g (c + 1) k)), x)) := hfr _ _ (fun y => by
    obtain ⟨t, i, j, y1, y2, -⟩ := hZ _ y
    exact hqr t i j y1 y2) hq5
  have nW : qKl g5 c ≠ qW g5 c := a2.ne d16 d18 (by simp)
  have hW6 : M6 (qW g5 c) = some (.inl (G.2 4, 60, .inl (upd fW (kn g5 c) (nI (wh g (c + 1) k))))) := by rw [e6]; exact hp_up_s
  have hW7 : M7 (qW g5 c) = some (.inl (G.2 4, 60, .inl (upd fW (kn g5 c) (nI (wh g (c + 1) k))))) := l5 _ _ (by
    rintro (y | ⟨y1, y2⟩)
    · exact nW y.symm
    · exact a2.ne d18 (t' := 17) (i' := c) (j' := 0) ⟨hcc, rfl, y1⟩ (by simp) y2) hW6
  have he : (e' = qKe g5 c ∧ gcp g5 17 c ≠ 0) ∨ (M5 e' = none ∧ e' ≠ qK g (c + 1) k) := by
    rcases l4 with y | y
    · exact Or.inl y
    · refine Or.inr ⟨hp_up_none e6 y, fun e => ?_⟩
      rw [e] at y; rw [y] at hq6; cases hq6
  have he2 : (e' = qKe g5 c ∧ gcp g5 17 c ≠ 0) ∨ ((∀ t i j, RD σ g5 (c + 1) t i j → g5.1 t i j ≠ e') ∧ e' ≠ qK g (c + 1) k) := he.imp id (fun y => ⟨a2.fresh y.1, y.2⟩)
  have hr : wh g (c + 1) k < nR σ := ((h.2.2.2 (c + 1) (Nat.lt_succ_self _)).1 k hk).1
  have hx3 : wh g (c + 1) k < kr σ c → ∀ i, i < ln σ (wh g (c + 1) k) → e i = sn σ c (wh g (c + 1) k) i := fun hrk i hi => by
    obtain ⟨b1, b2, b3, b4, b5⟩ := h.2.2.2 c (by omega)
    rw [x4 (Nat.lt_of_lt_of_le hrk (b4 (c + 1) (Nat.lt_succ_self c) (Nat.lt_succ_self _))) i hi]
    by_cases hkept : ∃ i, i < kn g c ∧ wh g c i = wh g (c + 1) k
    · exfalso
      obtain ⟨i0, y1, y2⟩ := hkept
      obtain ⟨i1, y3, y4⟩ := a6 i0 y1
      exact hnew i1 y3 (y4.trans y2)
    · have h1 := b5 _ hrk (fun i hi e => hkept ⟨i, hi, e⟩) (fun y => y.2) i hi
      rw [if_pos (by omega)] at h1
      exact h1.symm
  have hR6 := a2.keep (q := qK g (c + 1) k) (e := e) (fw := upd fW (kn g5 c) (nI (wh g (c + 1) k))) (f := f) (f' := f') rfl hr hnew hqr l1 (fun i hi => by rw [l2 i hi]; exact hf i hi) l3 he2 hW7 (fun i hi => (if_neg (Nat.ne_of_lt hi)).trans (hfW i hi)) (if_pos rfl) hq7 x2 (fun i hi => CE.kg a1 (x3 i hi)) hx3 x5 hfr
  refine ⟨gK g5 c (wh g (c + 1) k) e' (qK g (c + 1) k) cap', ⟨fun t i j h17 h19 => (gK_o (fun y => h17 y.1) (fun y => h19 y.1)).trans (a1 t i j h17 h19), hR6.Yw (fun r hY hn d hd => ?_), ?_, a4.trans ((hp_sh_fr hf1 hW0 hW6 rfl).trans hs), fun i hi => ?_, fun t i j hd => ?_⟩, ?_⟩
  · exfalso
    obtain ⟨⟨i, i1, i2, i3⟩, hne⟩ := hY
    rcases Nat.lt_or_ge k i with y | y
    · exact hn ⟨i, y, i2, i3⟩
    · obtain rfl : i = k := by omega
      exact hne i3.symm
  · intro b E hb hE
    refine hfr b E (fun y => ?_) (a3 b E hb hE)
    obtain ⟨t, i, j, y1, y2, y3⟩ := hZ b y
    rcases a5 t i j y1 with ⟨z1, z2⟩ | z1 | ⟨z0, -⟩
    · exact hb ⟨t, i, j, z1, z2.symm.trans y2⟩
    · rw [y2, hE] at z1; cases z1
    · exact y3 z0
  · by_cases e9 : ∃ i', i' < kn g5 c ∧ wh g5 c i' = wh g c i
    · obtain ⟨i', y1, y2⟩ := e9
      exact ⟨i', by rw [gK_k]; omega, by rw [show wh (gK g5 c (wh g (c + 1) k) e' (qK g (c + 1) k) cap') c i' = wh g5 c i' from gK_wn (fun y => absurd y.2 (Nat.ne_of_lt y1))]; exact y2⟩
    · exact absurd (a6 i hi) e9
  · rcases RD.gK hd with ⟨y1, y2⟩ | ⟨rfl, rfl, rfl⟩ | ⟨rfl, rfl, rfl⟩
    · rcases a5 t i j y1 with ⟨z1, z2⟩ | z1 | ⟨z0, i2, z1, z2, z3⟩
      · exact Or.inl ⟨z1, y2.trans z2⟩
      · exact Or.inr (Or.inl (by rw [y2]; exact z1))
      · exact Or.inr (Or.inr ⟨z0, i2, by omega, z2, y2.trans z3⟩)
    · exact Or.inr (Or.inr ⟨rfl, k, Nat.lt_succ_self k, hk, gK_19⟩)
    · rw [gK_17]
      rcases he with ⟨y1, y2⟩ | ⟨y, -⟩
      · rcases a5 17 i 0 ⟨hcc, rfl, y2⟩ with ⟨z1, z2⟩ | z1 | ⟨z0, -⟩
        · exact Or.inl ⟨z1, y1.trans z2⟩
        · exact Or.inr (Or.inl (by rw [y1]; exact z1))
        · exact absurd z0 (by decide)
      · refine Or.inr (Or.inl ?_)
        cases hm : M e' with
        | none => rfl
        | some w =>
          obtain ⟨w', hw, -⟩ := a4 e' w hm
          rw [y] at hw; cases hw
  · exact gK_c
/-- all is taken -/
theorem TK5.fin (h5 : TK5 G E0 g σ z ca c (kn g (c + 1)) g5 M M5) (h : REL G E0 g σ z ca (c + 1 + 1) M) {n : Nat} : REL G E0 g5 σ z ca (c + 1) M5 ∧ RKp n σ g (c + 1 + 1) M σ g5 (c + 1) M5 ∧ M5 (qC g (c + 1)) = M (qC g (c + 1)) := by
  have h5' := h5
  obtain ⟨a1, a2, a3, a4, a6, a5⟩ := h5
  refine ⟨a2.Yw (fun r hY _ _ _ => ?_), ⟨fun t i j h2 h4 h17 h19 _ _ _ => a1 t i j h17 h19, fun a e ha hn => ⟨a3 a e (fun y => ?_) ha, ?_⟩, a4⟩, ?_⟩
  · obtain ⟨i, i1, i2, -⟩ := hY
    omega
  · obtain ⟨t, i, j, y1, y2⟩ := y
    exact hn ⟨t, i, j, y1.up, y2⟩
  · rintro ⟨t, i, j, y1, y2⟩
    rcases a5 t i j y1 with ⟨z1, z2⟩ | z1 | ⟨-, i2, z1, z2, z3⟩
    · exact hn ⟨t, i, j, z1.up, z2.symm.trans y2⟩
    · rw [y2, ha] at z1; cases z1
    · exact hn ⟨19, c + 1, i2, ⟨Nat.lt_succ_self _, z2⟩, z3.symm.trans y2⟩
  · obtain ⟨E, hE, -⟩ := h.1 15 (c + 1) 0 ⟨Nat.lt_succ_self _, rfl⟩
    exact (h5'.cell h (t := 15) (j := 0) ⟨Nat.lt_succ_self _, rfl⟩ (by decide) hE).trans hE.symm
end T57
set_option maxHeartbeats 1000000 in
theorem c_X25_take (l : Launch) (hl : l.stackTraces = false) (G : hp_G) (X : Nat → Nat) (N0 : Nat) (M : hp_h) (g : RG) (σ : MS) (z : Nat → Int32) (ca : Int32) (c9 : Nat) (hR : REL G (X 0) g σ z ca (c9 + 1 + 1) M) (hI : MI σ) : HM l yX25_take (ws_ yX25_take cX25_take 3 none) 7 161 60 360 G X N0 [.ref (qC g c9), .ref (qC g (c9 + 1))] M (fun v9 M' => v9 = none ∧ ∃ g5, (∀ t i j, t ≠ 17 → t ≠ 19 → g5.1 t i j = g.1 t i j) ∧ REL G (X 0) g5 σ z ca (c9 + 1) M' ∧ RKp (nR σ) σ g (c9 + 1 + 1) M σ g5 (c9 + 1) M' ∧ M' (qC g (c9 + 1)) = M (qC g (c9 + 1))) PX0 := by
  refine HM.of hl [(0, .ref (qC g c9)), (1, .ref (qC g (c9 + 1)))] (by decide +kernel) rfl (Nat.le_of_ble_eq_true rfl) ?_
  intro p e s m args below meth c C hname
  have hCi : M (qC g (c9 + 1)) = some (.inr (4, [.int (σ.2.1 21 (c9 + 1)), .int (σ.2.1 25 (c9 + 1)), .ref (qKl g (c9 + 1)), .ref (qW g (c9 + 1)), .int (σ.2.1 24 (c9 + 1)), .int (σ.2.1 23 (c9 + 1) - σ.2.1 24 (c9 + 1)), .int (σ.2.1 22 (c9 + 1)), .ref (qN g)])) := hR.Cc (Nat.lt_succ_self _)
  obtain ⟨mdI, hKi⟩ := hR.Kl (c := c9 + 1) (Nat.lt_succ_self _)
  obtain ⟨fI, hLi, hfI⟩ := hR.Kls (c := c9 + 1) (Nat.lt_succ_self _)
  obtain ⟨fWi, hWi, hWif⟩ := hR.W (c := c9 + 1) (Nat.lt_succ_self _)
  have hknI : kn g (c9 + 1) ≤ 60 := by have := hR.knR (c := c9 + 1) (Nat.lt_succ_self _); have := hI.R.2; omega
  have hcp0 : gcp g 17 c9 ≤ 90 := (hR.2.2.1.2.2 c9 (by omega)).2.1
  refine V_iconst (v := 0) C dX25_take_0 rfl ?_
  refine V_istore_n C dX25_take_1 rfl (Nat.le_of_ble_eq_true rfl) [(0, .ref (qC g c9)), (1, .ref (qC g (c9 + 1))), (2, .int 0)] [1, 2, 0] rfl ?_
  have lp_2 : ∀ (fu9 : Nat) (k5 : Nat) (g5 : RG) (M2 : hp_h), kn g (c9 + 1) - k5 < fu9 → (k5 ≤ kn g (c9 + 1)) → (TK5 G (X 0) g σ z ca c9 k5 g5 M M2) → V p l e { frames := 7, cells := 60, slots := 360, locals := 161 } s m args below meth c G N0 3 (QV below G N0 ((fun v9 M' => v9 = none ∧ ∃ g5, (∀ t i j, t ≠ 17 → t ≠ 19 → g5.1 t i j = g.1 t i j) ∧ REL G (X 0) g5 σ z ca (c9 + 1) M' ∧ RKp (nR σ) σ g (c9 + 1 + 1) M σ g5 (c9 + 1) M' ∧ M' (qC g (c9 + 1)) = M (qC g (c9 + 1)))) PX0 args s (60) (360)) (k5) (4 * gcp g5 17 c9) M2 2 [(0, .ref (qC g c9)), (1, .ref (qC g (c9 + 1))), (2, .int (nI k5))] [] := by
    intro fu9
    induction fu9 with
    | zero => intro k5 g5 M2 hfu9; exact absurd hfu9 (Nat.not_lt_zero _)
    | succ fu9 ih2 =>
      intro k5 g5 M2 hfu9 hk5 hT5
      have hRk := hT5.2.1
      have e15 : qC g5 c9 = qC g c9 := hT5.1 15 c9 0 (by decide) (by decide)
      have hcp9 : gcp g5 17 c9 ≤ 90 := (hRk.2.2.1.2.2 c9 (Nat.lt_succ_self c9)).2.1
      have hCi5 : M2 (qC g (c9 + 1)) = some (.inr (4, [.int (σ.2.1 21 (c9 + 1)), .int (σ.2.1 25 (c9 + 1)), .ref (qKl g (c9 + 1)), .ref (qW g (c9 + 1)), .int (σ.2.1 24 (c9 + 1)), .int (σ.2.1 23 (c9 + 1) - σ.2.1 24 (c9 + 1)), .int (σ.2.1 22 (c9 + 1)), .ref (qN g)])) := hT5.cell hR (t := 15) (j := 0) ⟨Nat.lt_succ_self _, rfl⟩ (by decide) hCi
      have hKi5 : M2 (qKl g (c9 + 1)) = some (.inr (1, [.int mdI, .ref (qKe g (c9 + 1)), .int (nI (kn g (c9 + 1)))])) := hT5.cell hR (t := 16) (j := 0) ⟨Nat.lt_succ_self _, rfl⟩ (by decide) hKi
      have hWi5 : M2 (qW g (c9 + 1)) = some (.inl (G.2 4, 60, .inl fWi)) := hT5.cell hR (t := 18) (j := 0) ⟨Nat.lt_succ_self _, rfl⟩ (by decide) hWi
      have hLi5 : LSt G (X 0) M2 (qKl g (c9 + 1)) (qKe g (c9 + 1)) (gcp g 17 (c9 + 1)) (kn g (c9 + 1)) fI := ⟨⟨mdI, hKi5⟩, hLi.2.1, fun y => hT5.cell hR (t := 17) (j := 0) ⟨Nat.lt_succ_self _, rfl, y⟩ (by decide) (hLi.2.2.1 y), hLi.2.2.2⟩
      refine V_iload_n C dX25_take_2 rfl 2 rfl ?_
      refine V_aload_n C dX25_take_3 rfl 1 rfl ?_
      refine V_get C f_X25_18_4 hCi5 (v := .ref (qKl g (c9 + 1))) rfl dX25_take_4 ?_
      refine V_callV C (c_J2_size l hl G X N0 M2 (qKl g (c9 + 1)) (qKe g (c9 + 1)) (kn g (c9 + 1)) mdI hKi5) cs_X25_33_1 hKi5 (show CLS[1]? = some (RJ2, TJ2, 3) from rfl) rfl rfl ⟨Nat.le_of_ble_eq_true rfl, Nat.le_of_ble_eq_true rfl⟩ ⟨(by first | exact Nat.le_of_ble_eq_true rfl | omega | (dsimp only; omega) | (simp only [List.length_cons, List.length_nil]; omega)), (by first | exact Nat.le_of_ble_eq_true rfl | omega | (dsimp only; omega) | (simp only [List.length_cons, List.length_nil]; omega))⟩ (Nat.le_of_ble_eq_true rfl) dX25_take_7 (fun _ _ _ h => px0 h) ?_
      rintro _ _ ⟨rfl, rfl⟩
      refine V_st (st' := [.int (nI (kn g (c9 + 1))), .int (nI k5)]) rfl ?_
      refine V_icmp_ge (tgt := 66) C dX25_take_10 (by decide) (fun c_10 => ?_) (fun c_10 => ?_)
      · refine V_vret C dX25_take_66 rfl ?_ (by first | exact Nat.le_of_ble_eq_true rfl | omega | (dsimp only; omega) | (simp only [List.length_cons, List.length_nil]; omega)) (by first | exact Nat.le_of_ble_eq_true rfl | omega | (dsimp only; omega) | (simp only [List.length_cons, List.length_nil]; omega))
        have hkk : k5 = kn g (c9 + 1) := by have := (nI_leI (by omega) (by omega)).mp c_10; omega
        subst hkk
        obtain ⟨f1, f2, f3⟩ := hT5.fin hR (n := nR σ)
        exact ⟨rfl, g5, hT5.1, f1, f2, f3⟩
      · have hk52 : k5 < kn g (c9 + 1) := nI_ltN9 (by omega) (by omega) c_10
        obtain ⟨w9, hw0⟩ : ∃ y, y = wh g (c9 + 1) k5 := ⟨_, rfl⟩
        have hwn : w9 < nR σ := by rw [hw0]; exact ((hR.2.2.2 (c9 + 1) (Nat.lt_succ_self _)).1 k5 hk52).1
        have hR60 := hI.R.2
        have hkL := (hI.k hwn).2
        refine V_aload_n C dX25_take_13 rfl 0 rfl ?_
        refine V_aload_n C dX25_take_14 rfl 1 rfl ?_
        refine V_get C f_X25_22_4 hCi5 (v := .ref (qW g (c9 + 1))) rfl dX25_take_15 ?_
        refine V_iload_n C dX25_take_18 rfl 2 rfl ?_
        refine V_pc (pc1 := 19) rfl ?_
        refine V_iald C hWi5 (vp_in_nI (show k5 < 60 by omega) (by omega)) dX25_take_19 ?_
        refine V_st (st' := [.int (fWi k5), .ref (qC g c9)]) (by rw [nI_clamp (by omega)]) ?_
        refine V_st (st' := [.int (nI w9), .ref (qC g c9)]) (by rw [show (fWi k5) = (nI w9) from (by rw [hw0]; exact hWif k5 hk52)]) ?_
        refine V_st (st' := [.int (nI w9), .ref (qC g5 c9)]) (by rw [e15]) ?_
        have hCo := hRk.Cc (Nat.lt_succ_self c9)
        refine V_callV C (c_X25_hasY l hl G X N0 M2 g5 σ z ca (c9 + 1) c9 (Yt g (c9 + 1) k5) rfl hRk hI w9 (by omega)) cs_X25_42_4 hCo (show CLS[4]? = some (RX25, TX25, 8) from rfl) rfl rfl ⟨Nat.le_of_ble_eq_true rfl, Nat.le_of_ble_eq_true rfl⟩ ⟨(by first | exact Nat.le_of_ble_eq_true rfl | omega | (dsimp only; omega) | (simp only [List.length_cons, List.length_nil]; omega)), (by first | exact Nat.le_of_ble_eq_true rfl | omega | (dsimp only; omega) | (simp only [List.length_cons, List.length_nil]; omega))⟩ (Nat.le_of_ble_eq_true rfl) dX25_take_20 (fun _ _ _ h => px0 h) ?_
        rintro _ _ ⟨rfl, v9, rfl, hv01, hvw⟩
        refine V_st (st' := [.int v9]) rfl ?_
        refine V_if_ne (tgt := 60) C dX25_take_23 (by decide) (fun c_23 => ?_) (fun c_23 => ?_)
        · refine V_iinc (v := nI (k5 + 1)) C dX25_take_60 (k := 2) rfl (nI_add k5 1) (Nat.le_of_ble_eq_true rfl) [(0, .ref (qC g c9)), (1, .ref (qC g (c9 + 1))), (2, .int (nI (k5 + 1)))] [1, 2, 0] rfl ?_
          refine V_goto (tgt := 2) C dX25_take_63 (by decide) ?_
          have hkept : ∃ i, i < kn g5 c9 ∧ wh g5 c9 i = wh g (c9 + 1) k5 := by
            rw [← hw0]
            exact Classical.byContradiction (fun y => c_23 (hvw.mpr (fun i hi e => y ⟨i, hi, e⟩)))
          exact V_widen (by omega) (by omega) <| ih2 (k5 + 1) g5 _ (by omega) (by omega) (hT5.skip hkept)
        · have hnew := hvw.mp c_23
          have hknr := hRk.knr (Nat.lt_succ_self c9) hwn hnew
          obtain ⟨mdO, hKo⟩ := hRk.Kl (Nat.lt_succ_self c9)
          obtain ⟨fO, hLo, hfO⟩ := hRk.Kls (Nat.lt_succ_self c9)
          obtain ⟨fWo, hWo, hfWo⟩ := hRk.W (Nat.lt_succ_self c9)
          have hCo2 : M2 (qC g c9) = some (.inr (4, [.int (σ.2.1 21 c9), .int (σ.2.1 25 c9), .ref (qKl g5 c9), .ref (qW g5 c9), .int (σ.2.1 24 c9), .int (σ.2.1 23 c9 - σ.2.1 24 c9), .int (σ.2.1 22 c9), .ref (qN g5)])) := by rw [← e15]; exact hCo
          have hfrW : hp_fr (fun b => b = qW g5 c9) M2 M2 := hp_fr.rf
          have hshW : hp_sh M2 M2 := hp_sh.rf
          have hneW : (qW g (c9 + 1)) ≠ qW g5 c9 := fun y => hR.notR (t := 18) (j := 0) ⟨Nat.lt_succ_self _, rfl⟩ (by decide) ⟨18, c9, 0, ⟨Nat.lt_succ_self c9, rfl⟩, (hT5.1 18 c9 0 (by decide) (by decide)).symm.trans y.symm⟩
          refine V_aload_n C dX25_take_26 rfl 0 rfl ?_
          refine V_get C f_X25_22_4 hCo2 (v := .ref (qW g5 c9)) rfl dX25_take_27 ?_
          refine V_aload_n C dX25_take_30 rfl 0 rfl ?_
          refine V_get C f_X25_18_4 hCo2 (v := .ref (qKl g5 c9)) rfl dX25_take_31 ?_
          refine V_callV C (c_J2_size l hl G X N0 M2 (qKl g5 c9) (qKe g5 c9) (kn g5 c9) mdO hKo) cs_X25_33_1 hKo (show CLS[1]? = some (RJ2, TJ2, 3) from rfl) rfl rfl ⟨Nat.le_of_ble_eq_true rfl, Nat.le_of_ble_eq_true rfl⟩ ⟨(by first | exact Nat.le_of_ble_eq_true rfl | omega | (dsimp only; omega) | (simp only [List.length_cons, List.length_nil]; omega)), (by first | exact Nat.le_of_ble_eq_true rfl | omega | (dsimp only; omega) | (simp only [List.length_cons, List.length_nil]; omega))⟩ (Nat.le_of_ble_eq_true rfl) dX25_take_34 (fun _ _ _ h => px0 h) ?_
          rintro _ _ ⟨rfl, rfl⟩
          refine V_st (st' := [.int (nI (kn g5 c9)), .ref (qW g5 c9)]) rfl ?_
          refine V_aload_n C dX25_take_37 rfl 1 rfl ?_
          refine V_get C f_X25_22_4 hCi5 (v := .ref (qW g (c9 + 1))) rfl dX25_take_38 ?_
          refine V_iload_n C dX25_take_41 rfl 2 rfl ?_
          refine V_iald C hWi5 (vp_in_nI (show k5 < 60 by omega) (by omega)) dX25_take_42 ?_
          refine V_st (st' := [.int (fWi k5), .int (nI (kn g5 c9)), .ref (qW g5 c9)]) (by rw [nI_clamp (by omega)]) ?_
          refine V_st (st' := [.int (nI w9), .int (nI (kn g5 c9)), .ref (qW g5 c9)]) (by rw [show (fWi k5) = (nI w9) from (by rw [hw0]; exact hWif k5 hk52)]) ?_
          refine V_pc (pc1 := 43) rfl ?_
          refine V_iast C hWo (vp_in_nI (show kn g5 c9 < 60 by omega) (by omega)) dX25_take_43 ?_
          refine V_heap (M' := hp_up M2 (qW g5 c9) (.inl (G.2 4, 60, .inl (upd fWo (kn g5 c9) (nI w9))))) (by rw [nI_clamp (by omega)]) ?_
          obtain ⟨M_2, eM_3⟩ : ∃ z, z = hp_up M2 (qW g5 c9) (.inl (G.2 4, 60, .inl (upd fWo (kn g5 c9) (nI w9)))) := ⟨_, rfl⟩
          refine V_heap (M' := M_2) eM_3.symm ?_
          have ho_4 : M_2 (qC g (c9 + 1)) = some (.inr (4, [.int (σ.2.1 21 (c9 + 1)), .int (σ.2.1 25 (c9 + 1)), .ref (qKl g (c9 + 1)), .ref (qW g (c9 + 1)), .int (σ.2.1 24 (c9 + 1)), .int (σ.2.1 23 (c9 + 1) - σ.2.1 24 (c9 + 1)), .int (σ.2.1 22 (c9 + 1)), .ref (qN g)])) := by rw [eM_3, hp_up_n (hp_ne hCi5 hWo (by simp))]; exact hCi5
          have ho_5 : M_2 (qKl g (c9 + 1)) = some (.inr (1, [.int mdI, .ref (qKe g (c9 + 1)), .int (nI (kn g (c9 + 1)))])) := by rw [eM_3, hp_up_n (hp_ne hKi5 hWo (by simp))]; exact hKi5
          have ho_6 : M_2 (qC g c9) = some (.inr (4, [.int (σ.2.1 21 c9), .int (σ.2.1 25 c9), .ref (qKl g5 c9), .ref (qW g5 c9), .int (σ.2.1 24 c9), .int (σ.2.1 23 c9 - σ.2.1 24 c9), .int (σ.2.1 22 c9), .ref (qN g5)])) := by rw [eM_3, hp_up_n (hp_ne hCo2 hWo (by simp))]; exact hCo2
          have ho_7 : M_2 (qKl g5 c9) = some (.inr (1, [.int mdO, .ref (qKe g5 c9), .int (nI (kn g5 c9))])) := by rw [eM_3, hp_up_n (hp_ne hKo hWo (by simp))]; exact hKo
          have ha_8 : M_2 (qW g (c9 + 1)) = some (.inl (G.2 4, 60, .inl fWi)) := by rw [eM_3, hp_up_n hneW]; exact hWi5
          have eM_3_s : M_2 (qW g5 c9) = some (.inl (G.2 4, 60, .inl (upd fWo (kn g5 c9) (nI w9)))) := by rw [eM_3]; exact hp_up_s
          have fr_9 := hp_fr.set hfrW (Or.inl rfl) eM_3
          have sh_10 := hp_sh.set hshW hWo eM_3 rfl
          have hLi6 : LSt G (X 0) M_2 (qKl g (c9 + 1)) (qKe g (c9 + 1)) (gcp g 17 (c9 + 1)) (kn g (c9 + 1)) fI := hLi5.fr fr_9 (fun y => hR.notR (t := 16) (j := 0) ⟨Nat.lt_succ_self _, rfl⟩ (by decide) ⟨18, c9, 0, ⟨Nat.lt_succ_self c9, rfl⟩, (hT5.1 18 c9 0 (by decide) (by decide)).symm.trans y.symm⟩) (fun y0 y => hR.notR (t := 17) (j := 0) ⟨Nat.lt_succ_self _, rfl, y0⟩ (by decide) ⟨18, c9, 0, ⟨Nat.lt_succ_self c9, rfl⟩, (hT5.1 18 c9 0 (by decide) (by decide)).symm.trans y.symm⟩)
          refine V_aload_n C dX25_take_44 rfl 0 rfl ?_
          refine V_get C f_X25_18_4 ho_6 (v := .ref (qKl g5 c9)) rfl dX25_take_45 ?_
          refine V_aload_n C dX25_take_48 rfl 1 rfl ?_
          refine V_get C f_X25_18_4 ho_4 (v := .ref (qKl g (c9 + 1))) rfl dX25_take_49 ?_
          refine V_iload_n C dX25_take_52 rfl 2 rfl ?_
          refine V_callV C (c_J2_get l hl G X N0 M_2 (qKl g (c9 + 1)) (qKe g (c9 + 1)) (kn g (c9 + 1)) (gcp g 17 (c9 + 1)) mdI fI ho_5 (hLi6.2.2.1 (by have := hLi6.2.2.2.1; omega)) (by have := hLi6.2.2.2.2; omega) hLi6.2.2.2.1 k5 (qK g (c9 + 1) k5) hk52 (hfI k5 hk52)) cs_X25_46_1 ho_5 (show CLS[1]? = some (RJ2, TJ2, 3) from rfl) rfl rfl ⟨Nat.le_of_ble_eq_true rfl, Nat.le_of_ble_eq_true rfl⟩ ⟨(by first | exact Nat.le_of_ble_eq_true rfl | omega | (dsimp only; omega) | (simp only [List.length_cons, List.length_nil]; omega)), (by first | exact Nat.le_of_ble_eq_true rfl | omega | (dsimp only; omega) | (simp only [List.length_cons, List.length_nil]; omega))⟩ (Nat.le_of_ble_eq_true rfl) dX25_take_53 (fun _ _ _ h => px0 h) ?_
          rintro _ _ ⟨rfl, rfl⟩
          refine V_st (st' := [.ref (qK g (c9 + 1) k5), .ref (qKl g5 c9)]) rfl ?_
          have hLo6 := hLo.fr fr_9 (hRk.ne (t := 16) (i := c9) (j := 0) (t' := 18) (i' := c9) (j' := 0) ⟨Nat.lt_succ_self c9, rfl⟩ ⟨Nat.lt_succ_self c9, rfl⟩ (by simp)) (fun y => hRk.ne (t := 17) (i := c9) (j := 0) (t' := 18) (i' := c9) (j' := 0) ⟨Nat.lt_succ_self c9, rfl, y⟩ ⟨Nat.lt_succ_self c9, rfl⟩ (by simp))
          obtain ⟨xk, hka, -⟩ := hR.K (c := c9 + 1) (Nat.lt_succ_self _) hk52
          have hka5 := hT5.cell hR (t := 19) (j := k5) ⟨Nat.lt_succ_self _, hk52⟩ (by decide) hka
          have hka6 : M_2 (qK g (c9 + 1) k5) = some (.inl (G.2 (kd σ w9), xk)) := by rw [hw0]; exact fr_9 _ _ (fun y => hT5.clone hR (Nat.le_refl k5) hk52 (t := 18) (i' := c9) (j := 0) ⟨Nat.lt_succ_self c9, rfl⟩ y.symm) hka5
          obtain ⟨zc, hzc⟩ : ∃ y, (if kn g5 c9 < gcp g5 17 c9 then 0 else 1) = y := ⟨_, rfl⟩
          obtain ⟨zs, hzs⟩ : ∃ y, (if kn g5 c9 < gcp g5 17 c9 then 0 else gcap (gcp g5 17 c9)) = y := ⟨_, rfl⟩
          have hle9 : kn g5 c9 ≤ gcp g5 17 c9 := (hRk.2.2.1.2.2 c9 (Nat.lt_succ_self c9)).1
          have hzc1 : zc ≤ 1 := by rw [← hzc]; split <;> omega
          have hgc9 : zs + 4 * gcp g5 17 c9 ≤ 360 := by have y1 := capc_4 (n := kn g5 c9) (cap := gcp g5 17 c9) rfl hle9; have y2 : (if kn g5 c9 < gcp g5 17 c9 then gcp g5 17 c9 else gcap (gcp g5 17 c9)) ≤ 90 := by { split; { exact hcp9 }; { exact gcap_le (by omega) } }; rw [hzs] at y1; omega
          refine V_callV C (c_J2_addCZ (X := X) (N0 := N0) l hl (qKl g5 c9) (qKe g5 c9) (gcp g5 17 c9) (kn g5 c9) (qK g (c9 + 1) k5) zc zs fO hzc hzs hLo6 (by omega) (AS_row hkL hka6) (fun i hi y hy => (hRk.elK hI (Nat.lt_succ_self c9) hfO i hi y hy).sh0 sh_10)) cs_X25_54_1 ho_7 (show CLS[1]? = some (RJ2, TJ2, 3) from rfl) rfl rfl ⟨Nat.le_of_ble_eq_true rfl, Nat.le_of_ble_eq_true rfl⟩ ⟨(by first | exact Nat.le_of_ble_eq_true rfl | omega | (dsimp only; omega) | (simp only [List.length_cons, List.length_nil]; omega)), (by first | exact Nat.le_of_ble_eq_true rfl | omega | (dsimp only; omega) | (simp only [List.length_cons, List.length_nil]; omega))⟩ (Nat.le_of_ble_eq_true rfl) dX25_take_56 (fun _ _ _ h => px0 h) ?_
          rintro _ M_11 ⟨rfl, e', cap', f', hLA, hshA, hcq⟩
          refine V_st (st' := [.int 1]) rfl ?_
          obtain ⟨g6, hT6, hg6⟩ := hT5.step hR hI hk52 (fun i hi y => hnew i hi (by rw [hw0]; exact y)) (by rw [← hw0]; exact eM_3) hWo hfWo hLA hfO hshA
          have hg69 := (capc_4 hcq hle9).1
          rw [hzs] at hg69
          refine V_pop C dX25_take_59 rfl ?_
          refine V_iinc (v := nI (k5 + 1)) C dX25_take_60 (k := 2) rfl (nI_add k5 1) (Nat.le_of_ble_eq_true rfl) [(0, .ref (qC g c9)), (1, .ref (qC g (c9 + 1))), (2, .int (nI (k5 + 1)))] [1, 2, 0] rfl ?_
          refine V_goto (tgt := 2) C dX25_take_63 (by decide) ?_
          exact V_widen (by omega) (by omega) <| ih2 (k5 + 1) g6 _ (by omega) (by omega) hT6
  refine V_loc (L' := [(0, .ref (qC g c9)), (1, .ref (qC g (c9 + 1))), (2, .int 0)]) [0, 1, 2] rfl ?_
  exact V_widen (by omega) (by omega) <| lp_2 _ 0 g _ (Nat.lt_succ_self _) (Nat.zero_le _) (TK5.zero hR)
