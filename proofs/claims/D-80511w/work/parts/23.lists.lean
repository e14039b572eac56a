set_option maxRecDepth 100000
set_option maxHeartbeats 1000000 in
theorem c_J2_size (l : Launch) (hl : l.stackTraces = false) (G : hp_G) (X : Nat → Nat) (N0 : Nat) (M : hp_h) (a e0 n : Nat) (md : Int32) (hl9 : M a = some (.inr (1, [.int md, .ref e0, .int (nI n)]))) : HM l yJ2_size (ws_ yJ2_size cJ2_size 1 (some .int)) 0 0 0 0 G X N0 [.ref a] M (PV (.int (nI n)) M) PX0 := by
  refine HM.of hl [(0, .ref a)] (by decide +kernel) rfl (Nat.le_of_ble_eq_true rfl) ?_
  intro p e s m args below meth c C hname
  refine V_aload_n C dJ2_size_0 rfl 0 rfl ?_
  refine V_get C f_J2_48_1 hl9 (v := .int (nI n)) rfl dJ2_size_1 ?_
  refine V_iret C dJ2_size_4 rfl ?_ (by first | exact Nat.le_of_ble_eq_true rfl | omega | (dsimp only; omega)) (by first | exact Nat.le_of_ble_eq_true rfl | omega | (dsimp only; omega))
  exact ⟨rfl, rfl⟩
set_option maxHeartbeats 1000000 in
theorem c_J15_checkIndex (l : Launch) (hl : l.stackTraces = false) (G : hp_G) (X : Nat → Nat) (N0 : Nat) (M : hp_h) (i n : Nat) (hi : i < n) (hn : n ≤ 60000000) : HM l yJ15_checkIndex (ws_ yJ15_checkIndex cJ15_checkIndex 3 (some .int)) 0 0 0 0 G X N0 [.int (nI i), .int (nI n), .null] M (PV (.int (nI i)) M) PX0 := by
  refine HM.of hl [(0, .int (nI i)), (1, .int (nI n)), (2, .null)] (by decide +kernel) rfl (Nat.le_of_ble_eq_true rfl) ?_
  intro p e s m args below meth c C hname
  refine V_iload_n C dJ15_checkIndex_0 rfl 0 rfl ?_
  refine V_if_lt (tgt := 9) C dJ15_checkIndex_1 (by decide) (fun c_1 => ?_) (fun c_1 => ?_)
  · exact absurd c_1 (nI_pos (by omega))
  · refine V_iload_n C dJ15_checkIndex_4 rfl 0 rfl ?_
    refine V_iload_n C dJ15_checkIndex_5 rfl 1 rfl ?_
    refine V_icmp_lt (tgt := 16) C dJ15_checkIndex_6 (by decide) (fun c_6 => ?_) (fun c_6 => ?_)
    · refine V_iload_n C dJ15_checkIndex_16 rfl 0 rfl ?_
      refine V_iret C dJ15_checkIndex_17 rfl ?_ (by first | exact Nat.le_of_ble_eq_true rfl | omega | (dsimp only; omega)) (by first | exact Nat.le_of_ble_eq_true rfl | omega | (dsimp only; omega))
      exact ⟨rfl, rfl⟩
    · exact absurd (nI_lt hi (by omega)) c_6
set_option maxHeartbeats 1000000 in
theorem c_J14_checkIndex (l : Launch) (hl : l.stackTraces = false) (G : hp_G) (X : Nat → Nat) (N0 : Nat) (M : hp_h) (i n : Nat) (hi : i < n) (hn : n ≤ 60000000) : HM l yJ14_checkIndex (ws_ yJ14_checkIndex cJ14_checkIndex 2 (some .int)) 1 22 0 0 G X N0 [.int (nI i), .int (nI n)] M (PV (.int (nI i)) M) PX0 := by
  refine HM.of hl [(0, .int (nI i)), (1, .int (nI n))] (by decide +kernel) rfl (Nat.le_of_ble_eq_true rfl) ?_
  intro p e s m args below meth c C hname
  refine V_iload_n C dJ14_checkIndex_0 rfl 0 rfl ?_
  refine V_iload_n C dJ14_checkIndex_1 rfl 1 rfl ?_
  refine V_null C dJ14_checkIndex_2 ?_
  refine V_callS C (c_J15_checkIndex l hl G X N0 M i n hi hn) cs_J14_105 rfl rfl ⟨Nat.le_of_ble_eq_true rfl, Nat.le_of_ble_eq_true rfl⟩ ⟨(by first | exact Nat.le_of_ble_eq_true rfl | omega | (dsimp only; omega)), (by first | exact Nat.le_of_ble_eq_true rfl | omega | (dsimp only; omega))⟩ (Nat.le_of_ble_eq_true rfl) dJ14_checkIndex_3 (fun _ _ _ h => px0 h) ?_
  rintro _ _ ⟨rfl, rfl⟩
  refine V_st (st' := [.int (nI i)]) rfl ?_
  refine V_iret C dJ14_checkIndex_6 rfl ?_ (by first | exact Nat.le_of_ble_eq_true rfl | omega | (dsimp only; omega)) (by first | exact Nat.le_of_ble_eq_true rfl | omega | (dsimp only; omega))
  exact ⟨rfl, rfl⟩
set_option maxHeartbeats 1000000 in
theorem c_J2_elementData (l : Launch) (hl : l.stackTraces = false) (G : hp_G) (X : Nat → Nat) (N0 : Nat) (M : hp_h) (a e0 n cap : Nat) (md : Int32) (f : Nat → Option Nat) (hl9 : M a = some (.inr (1, [.int md, .ref e0, .int (nI n)]))) (he : M e0 = some (.inl (G.2 11, cap, .inr (.inr (.inr (.inr f)))))) (hc : cap ≤ 60000000) (hn : n ≤ cap) (i r : Nat) (hi : i < n) (hf : f i = some r) : HM l yJ2_elementData (ws_ yJ2_elementData cJ2_elementData 2 (some (.object "java/lang/Object"))) 0 0 0 0 G X N0 [.ref a, .int (nI i)] M (PV (.ref r) M) PX0 := by
  refine HM.of hl [(0, .ref a), (1, .int (nI i))] (by decide +kernel) rfl (Nat.le_of_ble_eq_true rfl) ?_
  intro p e s m args below meth c C hname
  refine V_aload_n C dJ2_elementData_0 rfl 0 rfl ?_
  refine V_get C f_J2_9_1 hl9 (v := .ref e0) rfl dJ2_elementData_1 ?_
  refine V_iload_n C dJ2_elementData_4 rfl 1 rfl ?_
  refine V_aald C (j := 11) rfl rfl he (vp_in_nI (by omega) (by omega)) dJ2_elementData_5 ?_
  refine V_st (st' := [.ref r]) (by rw [nI_clamp (by omega), hf]; rfl) ?_
  refine V_st (st' := [va_rf (some r)]) rfl ?_
  refine V_aret C (by first | exact Or.inl ⟨_, rfl⟩ | exact Or.inr ⟨_, rfl⟩) dJ2_elementData_6 rfl ?_ (by first | exact Nat.le_of_ble_eq_true rfl | omega | (dsimp only; omega)) (by first | exact Nat.le_of_ble_eq_true rfl | omega | (dsimp only; omega))
  exact ⟨rfl, rfl⟩
set_option maxHeartbeats 1000000 in
theorem c_J2_get (l : Launch) (hl : l.stackTraces = false) (G : hp_G) (X : Nat → Nat) (N0 : Nat) (M : hp_h) (a e0 n cap : Nat) (md : Int32) (f : Nat → Option Nat) (hl9 : M a = some (.inr (1, [.int md, .ref e0, .int (nI n)]))) (he : M e0 = some (.inl (G.2 11, cap, .inr (.inr (.inr (.inr f)))))) (hc : cap ≤ 60000000) (hn : n ≤ cap) (i r : Nat) (hi : i < n) (hf : f i = some r) : HM l yJ2_get (ws_ yJ2_get cJ2_get 2 (some (.object "java/lang/Object"))) 2 43 0 0 G X N0 [.ref a, .int (nI i)] M (PV (.ref r) M) PX0 := by
  refine HM.of hl [(0, .ref a), (1, .int (nI i))] (by decide +kernel) rfl (Nat.le_of_ble_eq_true rfl) ?_
  intro p e s m args below meth c C hname
  refine V_iload_n C dJ2_get_0 rfl 1 rfl ?_
  refine V_aload_n C dJ2_get_1 rfl 0 rfl ?_
  refine V_get C f_J2_48_1 hl9 (v := .int (nI n)) rfl dJ2_get_2 ?_
  refine V_callS C (c_J14_checkIndex l hl G X N0 M i n hi (by omega)) cs_J2_118 rfl rfl ⟨Nat.le_of_ble_eq_true rfl, Nat.le_of_ble_eq_true rfl⟩ ⟨(by first | exact Nat.le_of_ble_eq_true rfl | omega | (dsimp only; omega)), (by first | exact Nat.le_of_ble_eq_true rfl | omega | (dsimp only; omega))⟩ (Nat.le_of_ble_eq_true rfl) dJ2_get_5 (fun _ _ _ h => px0 h) ?_
  rintro _ _ ⟨rfl, rfl⟩
  refine V_st (st' := [.int (nI i)]) rfl ?_
  refine V_pop C dJ2_get_8 rfl ?_
  refine V_aload_n C dJ2_get_9 rfl 0 rfl ?_
  refine V_iload_n C dJ2_get_10 rfl 1 rfl ?_
  refine V_callV C (c_J2_elementData l hl G X N0 M a e0 n cap md f hl9 he hc hn i r hi hf) cs_J2_123_1 hl9 (show CLS[1]? = some (RJ2, TJ2, 3) from rfl) rfl rfl ⟨Nat.le_of_ble_eq_true rfl, Nat.le_of_ble_eq_true rfl⟩ ⟨(by first | exact Nat.le_of_ble_eq_true rfl | omega | (dsimp only; omega)), (by first | exact Nat.le_of_ble_eq_true rfl | omega | (dsimp only; omega))⟩ (Nat.le_of_ble_eq_true rfl) dJ2_get_11 (fun _ _ _ h => px0 h) ?_
  rintro _ _ ⟨rfl, rfl⟩
  refine V_st (st' := [.ref r]) rfl ?_
  refine V_st (st' := [va_rf (some r)]) rfl ?_
  refine V_aret C (by first | exact Or.inl ⟨_, rfl⟩ | exact Or.inr ⟨_, rfl⟩) dJ2_get_14 rfl ?_ (by first | exact Nat.le_of_ble_eq_true rfl | omega | (dsimp only; omega)) (by first | exact Nat.le_of_ble_eq_true rfl | omega | (dsimp only; omega))
  exact ⟨rfl, rfl⟩
