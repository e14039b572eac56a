set_option maxRecDepth 100000
theorem CT_ZK {k : Nat} (hk : k ≤ 10) : CT k (ZK k) := by
  match k, hk with
  | 0, _ => exact Or.inl ⟨by decide, _, rfl⟩
  | 1, _ => exact Or.inl ⟨by decide, _, rfl⟩
  | 2, _ => exact Or.inl ⟨by decide, _, rfl⟩
  | 3, _ => exact Or.inl ⟨by decide, _, rfl⟩
  | 4, _ => exact Or.inl ⟨by decide, _, rfl⟩
  | 5, _ => exact Or.inr (Or.inl ⟨rfl, _, rfl⟩)
  | 6, _ => exact Or.inr (Or.inr (Or.inl ⟨rfl, _, rfl⟩))
  | 7, _ => exact Or.inr (Or.inr (Or.inr (Or.inl ⟨rfl, _, rfl⟩)))
  | 8, _ => exact Or.inr (Or.inr (Or.inr (Or.inr ⟨by decide, _, rfl⟩)))
  | 9, _ => exact Or.inr (Or.inr (Or.inr (Or.inr ⟨by decide, _, rfl⟩)))
  | 10, _ => exact Or.inr (Or.inr (Or.inr (Or.inr ⟨by decide, _, rfl⟩)))
  | n + 11, h => exact absurd h (by omega)
theorem EV.sh {G : hp_G} {M M' : hp_h} {k : Nat} {v : Int32 ⊕ Int64 ⊕ UInt32 ⊕ UInt64 ⊕ Option Nat} (h : EV G M k v) (hf : hp_sh M M') : EV G M' k v := by
  unfold EV at h ⊢
  split <;> first | exact h | exact hp_AS.sh h hf | trivial
set_option maxHeartbeats 1000000 in
theorem c_X1_cloneOf (l : Launch) (hl : l.stackTraces = false) (G : hp_G) (X : Nat → Nat) (N0 : Nat) (M : hp_h) (a k n : Nat) (x : vp_A) (hk : k ≤ 10) (ha : M a = some (.inl (G.2 k, x))) (hx : XT k n x) (hn : n ≤ 60000000) (hel : ∀ i, i < n → EV G M k (cv x.2 i)) : HM l yX1_cloneOf (ws_ yX1_cloneOf cX1_cloneOf 2 (some (.object "java/lang/Object"))) 3 61 1 n G X N0 [.ref a] M (fun v9 M' => ∃ q x', v9 = some (.ref q) ∧ M q = none ∧ M' q = some (.inl (G.2 k, x')) ∧ XT k n x' ∧ (∀ i, i < n → cv x'.2 i = cv x.2 i) ∧ hp_fr (fun _ => False) M M') PX0 := by
  refine HM.of hl [(0, .ref a)] (by decide +kernel) rfl (Nat.le_of_ble_eq_true rfl) ?_
  intro p e s m args below meth c C hname
  have hfr : hp_fr (fun _ => False) M M := hp_fr.rf
  refine V_aload_n C dX1_cloneOf_0 rfl 0 rfl ?_
  refine V_callS C (c_X1_kindOf l hl G X N0 M a k hk x ha) cs_X1_25 rfl rfl ⟨Nat.le_of_ble_eq_true rfl, Nat.le_of_ble_eq_true rfl⟩ ⟨(by first | exact Nat.le_of_ble_eq_true rfl | omega | (dsimp only; omega)), (by first | exact Nat.le_of_ble_eq_true rfl | omega | (dsimp only; omega))⟩ (Nat.le_of_ble_eq_true rfl) dX1_cloneOf_1 (fun _ _ _ h => px0 h) ?_
  rintro _ _ ⟨rfl, rfl⟩
  refine V_st (st' := [.int (nI k)]) rfl ?_
  refine V_aload_n C dX1_cloneOf_4 rfl 0 rfl ?_
  refine V_callS C (c_X1_sizeOf l hl G X N0 M a k hk x ha) cs_X1_35 rfl rfl ⟨Nat.le_of_ble_eq_true rfl, Nat.le_of_ble_eq_true rfl⟩ ⟨(by first | exact Nat.le_of_ble_eq_true rfl | omega | (dsimp only; omega)), (by first | exact Nat.le_of_ble_eq_true rfl | omega | (dsimp only; omega))⟩ (Nat.le_of_ble_eq_true rfl) dX1_cloneOf_5 (fun _ _ _ h => px0 h) ?_
  rintro _ _ ⟨rfl, rfl⟩
  refine V_st (st' := [.int (nI x.1), .int (nI k)]) rfl ?_
  refine V_st (st' := [.int (nI n), .int (nI k)]) (by rw [hx.1]) ?_
  refine V_callS C (c_X1_made l hl G X N0 M k n hk hn) cs_X1_38 rfl rfl ⟨Nat.le_of_ble_eq_true rfl, Nat.le_of_ble_eq_true rfl⟩ ⟨(by first | exact Nat.le_of_ble_eq_true rfl | omega | (dsimp only; omega)), (by first | exact Nat.le_of_ble_eq_true rfl | omega | (dsimp only; omega))⟩ (Nat.le_of_ble_eq_true rfl) dX1_cloneOf_8 (fun _ _ _ h => px0 h) ?_
  rintro _ M_3 ⟨q_1, rfl, hq_2, eM_4⟩
  refine V_st (st' := [.ref q_1]) rfl ?_
  have ne_5 : a ≠ q_1 := hp_ne0 ha hq_2
  have ha_6 : M_3 a = some (.inl (G.2 k, x)) := by rw [eM_4, hp_up_n (hp_ne0 ha hq_2)]; exact ha
  have ha_7 : M_3 q_1 = some (.inl (G.2 k, (n, ZK k))) := by rw [eM_4]; exact hp_up_s
  have fr_8 := hp_fr.new hfr hq_2 eM_4
  refine V_astore_n C dX1_cloneOf_11 rfl (Nat.le_of_ble_eq_true rfl) [(0, .ref a), (1, .ref q_1)] [1, 0] rfl ?_
  refine V_aload_n C dX1_cloneOf_12 rfl 0 rfl ?_
  refine V_iconst (v := 0) C dX1_cloneOf_13 rfl ?_
  refine V_aload_n C dX1_cloneOf_14 rfl 1 rfl ?_
  refine V_iconst (v := 0) C dX1_cloneOf_15 rfl ?_
  refine V_aload_n C dX1_cloneOf_16 rfl 0 rfl ?_
  refine V_pc (pc1 := 17) rfl ?_
  refine V_callS C (c_X1_sizeOf l hl G X N0 M_3 a k hk x ha_6) cs_X1_35 rfl rfl ⟨Nat.le_of_ble_eq_true rfl, Nat.le_of_ble_eq_true rfl⟩ ⟨(by first | exact Nat.le_of_ble_eq_true rfl | omega | (dsimp only; omega)), (by first | exact Nat.le_of_ble_eq_true rfl | omega | (dsimp only; omega))⟩ (Nat.le_of_ble_eq_true rfl) dX1_cloneOf_17 (fun _ _ _ h => px0 h) ?_
  rintro _ _ ⟨rfl, rfl⟩
  refine V_st (st' := [.int (nI x.1), .int 0, .ref q_1, .int 0, .ref a]) rfl ?_
  refine V_st (st' := [.int (nI n), .int 0, .ref q_1, .int 0, .ref a]) (by rw [hx.1]) ?_
  refine V_st (st' := [.int (nI n), .int (nI 0), .ref q_1, .int (nI 0), .ref a]) rfl ?_
  refine V_copyKN C ⟨q1104, q532, q531, q76⟩ (Or.inl rfl) hx.2 (CT_ZK hk) ha_6 ha_7 (sp := 0) (dp := 0) (n := n) (by rw [hx.1]; omega) (by show 0 + n ≤ n; omega) (by rw [hx.1]; exact hn) hn (fun i hi => by rw [Nat.zero_add]; exact (hel i hi).sh (hp_sh.of fr_8)) ⟨Nat.le_of_ble_eq_true rfl, Nat.le_of_ble_eq_true rfl⟩ dX1_cloneOf_20 (fun x_9 hx_10 hcv_11 => ?_)
  obtain ⟨M_12, eM_13⟩ : ∃ z, z = hp_up M_3 q_1 (.inl (G.2 k, x_9)) := ⟨_, rfl⟩
  refine V_heap (M' := M_12) eM_13.symm ?_
  have ha_14 : M_12 a = some (.inl (G.2 k, x)) := by rw [eM_13, hp_up_n ne_5]; exact ha_6
  have eM_13_s : M_12 q_1 = some (.inl (G.2 k, x_9)) := by rw [eM_13]; exact hp_up_s
  have fr_15 := hp_fr.set fr_8 (Or.inr hq_2) eM_13
  refine V_aload_n C dX1_cloneOf_23 rfl 1 rfl ?_
  refine V_st (st' := [va_rf (some q_1)]) rfl ?_
  refine V_aret C (by first | exact Or.inl ⟨_, rfl⟩ | exact Or.inr ⟨_, rfl⟩) dX1_cloneOf_24 rfl ?_ (by first | exact Nat.le_of_ble_eq_true rfl | omega | (dsimp only; omega)) (by first | exact Nat.le_of_ble_eq_true rfl | omega | (dsimp only; omega))
  exact ⟨q_1, x_9, rfl, hq_2, eM_13_s, hx_10, fun i hi => by rw [hcv_11 i, if_pos ⟨Nat.zero_le _, by omega⟩, Nat.zero_add, Nat.sub_zero], fr_15⟩
set_option maxHeartbeats 1000000 in
theorem c_J6_init_2 (l : Launch) (hl : l.stackTraces = false) (G : hp_G) (X : Nat → Nat) (N0 : Nat) (M : hp_h) (a : Nat) (hf9 : M a = some (.inr (8, [.null, .null, .null, .null, .null, .int 0, .int 0]))) : HM l yJ6_init_2 (ws_ yJ6_init_2 cJ6_init_2 5 none) 1 24 0 0 G X N0 [.ref a, .null, .null, .int 0, .int 0] M (fun v9 M' => v9 = none ∧ M' a = some (.inr (8, [.null, .null, .null, .null, .null, .int 0, .int 0])) ∧ hp_fr (fun b => b = a) M M' ∧ hp_sh M M') PX0 := by
  refine HM.of hl [(0, .ref a), (1, .null), (2, .null), (3, .int 0), (4, .int 0)] (by decide +kernel) rfl (Nat.le_of_ble_eq_true rfl) ?_
  intro p e s m args below meth c C hname
  have hfr : hp_fr (fun b => b = a) M M := hp_fr.rf
  have hsh : hp_sh M M := hp_sh.rf
  refine V_aload_n C dJ6_init_2_0 rfl 0 rfl ?_
  refine V_obj C cs_J6_1 ⟨Nat.le_of_ble_eq_true rfl, Nat.le_of_ble_eq_true rfl⟩ dJ6_init_2_1 ?_
  refine V_aload_n C dJ6_init_2_4 rfl 0 rfl ?_
  refine V_aload_n C dJ6_init_2_5 rfl 0 rfl ?_
  refine V_put C f_J6_7_8 hf9 rfl rfl (Nat.le_of_ble_eq_true rfl) dJ6_init_2_6 ?_
  obtain ⟨M_1, eM_2⟩ : ∃ z, z = hp_up M a (.inr (8, [.ref a, .null, .null, .null, .null, .int 0, .int 0])) := ⟨_, rfl⟩
  refine V_heap (M' := M_1) eM_2.symm ?_
  have eM_2_s : M_1 a = some (.inr (8, [.ref a, .null, .null, .null, .null, .int 0, .int 0])) := by rw [eM_2]; exact hp_up_s
  have fr_3 := hp_fr.set hfr (Or.inl rfl) eM_2
  have sh_4 := hp_sh.set hsh hf9 eM_2 rfl
  refine V_aload_n C dJ6_init_2_9 rfl 0 rfl ?_
  refine V_getT C (Or.inl ⟨rfl, rfl⟩) q1010 dJ6_init_2_10 (fun rt_5 => ?_)
  refine V_put C f_J6_17_8 eM_2_s (by cases rt_5 <;> rfl) (by cases rt_5 <;> rfl) (Nat.le_of_ble_eq_true rfl) dJ6_init_2_13 ?_
  obtain ⟨M_6, eM_7⟩ : ∃ z, z = hp_up M_1 a (.inr (8, [.ref a, va_rf rt_5, .null, .null, .null, .int 0, .int 0])) := ⟨_, rfl⟩
  refine V_heap (M' := M_6) eM_7.symm ?_
  have eM_7_s : M_6 a = some (.inr (8, [.ref a, va_rf rt_5, .null, .null, .null, .int 0, .int 0])) := by rw [eM_7]; exact hp_up_s
  have fr_8 := hp_fr.set fr_3 (Or.inl rfl) eM_7
  have sh_9 := hp_sh.set sh_4 eM_2_s eM_7 rfl
  refine V_aload_n C dJ6_init_2_16 rfl 0 rfl ?_
  refine V_getT C (Or.inr ⟨rfl, rfl⟩) q1012 dJ6_init_2_17 (fun rt_10 => ?_)
  refine V_put C f_J6_24_8 eM_7_s (by cases rt_10 <;> rfl) (by cases rt_10 <;> rfl) (Nat.le_of_ble_eq_true rfl) dJ6_init_2_20 ?_
  obtain ⟨M_11, eM_12⟩ : ∃ z, z = hp_up M_6 a (.inr (8, [.ref a, va_rf rt_5, va_rf rt_10, .null, .null, .int 0, .int 0])) := ⟨_, rfl⟩
  refine V_heap (M' := M_11) eM_12.symm ?_
  have eM_12_s : M_11 a = some (.inr (8, [.ref a, va_rf rt_5, va_rf rt_10, .null, .null, .int 0, .int 0])) := by rw [eM_12]; exact hp_up_s
  have fr_13 := hp_fr.set fr_8 (Or.inl rfl) eM_12
  have sh_14 := hp_sh.set sh_9 eM_7_s eM_12 rfl
  refine V_pc (pc1 := 23) rfl ?_
  refine V_iload C dJ6_init_2_23 4 rfl ?_
  refine V_if_eq (tgt := 36) C dJ6_init_2_25 (by decide) (fun c_25 => ?_) (fun c_25 => ?_)
  · refine V_aload_n C dJ6_init_2_36 rfl 0 rfl ?_
    refine V_null C dJ6_init_2_37 ?_
    refine V_put C f_J6_17_8 eM_12_s rfl rfl (Nat.le_of_ble_eq_true rfl) dJ6_init_2_38 ?_
    obtain ⟨M_15, eM_16⟩ : ∃ z, z = hp_up M_11 a (.inr (8, [.ref a, .null, va_rf rt_10, .null, .null, .int 0, .int 0])) := ⟨_, rfl⟩
    refine V_heap (M' := M_15) eM_16.symm ?_
    have eM_16_s : M_15 a = some (.inr (8, [.ref a, .null, va_rf rt_10, .null, .null, .int 0, .int 0])) := by rw [eM_16]; exact hp_up_s
    have fr_17 := hp_fr.set fr_13 (Or.inl rfl) eM_16
    have sh_18 := hp_sh.set sh_14 eM_12_s eM_16 rfl
    refine V_aload_n C dJ6_init_2_41 rfl 0 rfl ?_
    refine V_aload_nN C dJ6_init_2_42 rfl 1 rfl ?_
    refine V_put C f_J6_31_8 eM_16_s rfl rfl (Nat.le_of_ble_eq_true rfl) dJ6_init_2_43 ?_
    obtain ⟨M_19, eM_20⟩ : ∃ z, z = hp_up M_15 a (.inr (8, [.ref a, .null, va_rf rt_10, .null, .null, .int 0, .int 0])) := ⟨_, rfl⟩
    refine V_heap (M' := M_19) eM_20.symm ?_
    have eM_20_s : M_19 a = some (.inr (8, [.ref a, .null, va_rf rt_10, .null, .null, .int 0, .int 0])) := by rw [eM_20]; exact hp_up_s
    have fr_21 := hp_fr.set fr_17 (Or.inl rfl) eM_20
    have sh_22 := hp_sh.set sh_18 eM_16_s eM_20 rfl
    refine V_aload_n C dJ6_init_2_46 rfl 0 rfl ?_
    refine V_aload_nN C dJ6_init_2_47 rfl 2 rfl ?_
    refine V_put C f_J6_7_8 eM_20_s rfl rfl (Nat.le_of_ble_eq_true rfl) dJ6_init_2_48 ?_
    obtain ⟨M_23, eM_24⟩ : ∃ z, z = hp_up M_19 a (.inr (8, [.null, .null, va_rf rt_10, .null, .null, .int 0, .int 0])) := ⟨_, rfl⟩
    refine V_heap (M' := M_23) eM_24.symm ?_
    have eM_24_s : M_23 a = some (.inr (8, [.null, .null, va_rf rt_10, .null, .null, .int 0, .int 0])) := by rw [eM_24]; exact hp_up_s
    have fr_25 := hp_fr.set fr_21 (Or.inl rfl) eM_24
    have sh_26 := hp_sh.set sh_22 eM_20_s eM_24 rfl
    refine V_iload_n C dJ6_init_2_51 rfl 3 rfl ?_
    refine V_pc (pc1 := 52) rfl ?_
    refine V_if_ne (tgt := 60) C dJ6_init_2_52 (by decide) (fun c_52 => ?_) (fun c_52 => ?_)
    · exact absurd c_52 (by decide)
    · refine V_aload_n C dJ6_init_2_55 rfl 0 rfl ?_
      refine V_null C dJ6_init_2_56 ?_
      refine V_put C f_J6_24_8 eM_24_s rfl rfl (Nat.le_of_ble_eq_true rfl) dJ6_init_2_57 ?_
      obtain ⟨M_27, eM_28⟩ : ∃ z, z = hp_up M_23 a (.inr (8, [.null, .null, .null, .null, .null, .int 0, .int 0])) := ⟨_, rfl⟩
      refine V_heap (M' := M_27) eM_28.symm ?_
      have eM_28_s : M_27 a = some (.inr (8, [.null, .null, .null, .null, .null, .int 0, .int 0])) := by rw [eM_28]; exact hp_up_s
      have fr_29 := hp_fr.set fr_25 (Or.inl rfl) eM_28
      have sh_30 := hp_sh.set sh_26 eM_24_s eM_28 rfl
      refine V_vret C dJ6_init_2_60 rfl ?_ (by first | exact Nat.le_of_ble_eq_true rfl | omega | (dsimp only; omega)) (by first | exact Nat.le_of_ble_eq_true rfl | omega | (dsimp only; omega))
      exact ⟨rfl, eM_28_s, fr_29, sh_30⟩
  · exact absurd c_25 (by decide)
set_option maxHeartbeats 1000000 in
theorem c_J7_init (l : Launch) (hl : l.stackTraces = false) (G : hp_G) (X : Nat → Nat) (N0 : Nat) (M : hp_h) (a : Nat) (hf9 : M a = some (.inr (8, [.null, .null, .null, .null, .null, .int 0, .int 0]))) : HM l yJ7_init (ws_ yJ7_init cJ7_init 5 none) 2 48 0 0 G X N0 [.ref a, .null, .null, .int 0, .int 0] M (fun v9 M' => v9 = none ∧ M' a = some (.inr (8, [.null, .null, .null, .null, .null, .int 0, .int 0])) ∧ hp_fr (fun b => b = a) M M' ∧ hp_sh M M') PX0 := by
  refine HM.of hl [(0, .ref a), (1, .null), (2, .null), (3, .int 0), (4, .int 0)] (by decide +kernel) rfl (Nat.le_of_ble_eq_true rfl) ?_
  intro p e s m args below meth c C hname
  have hfr : hp_fr (fun b => b = a) M M := hp_fr.rf
  have hsh : hp_sh M M := hp_sh.rf
  refine V_aload_n C dJ7_init_0 rfl 0 rfl ?_
  refine V_aload_nN C dJ7_init_1 rfl 1 rfl ?_
  refine V_aload_nN C dJ7_init_2 rfl 2 rfl ?_
  refine V_iload_n C dJ7_init_3 rfl 3 rfl ?_
  refine V_iload C dJ7_init_4 4 rfl ?_
  refine V_callI C (c_J6_init_2 l hl G X N0 M a hf9) cs_J7_16 rfl rfl ⟨Nat.le_of_ble_eq_true rfl, Nat.le_of_ble_eq_true rfl⟩ ⟨(by first | exact Nat.le_of_ble_eq_true rfl | omega | (dsimp only; omega)), (by first | exact Nat.le_of_ble_eq_true rfl | omega | (dsimp only; omega))⟩ (Nat.le_of_ble_eq_true rfl) dJ7_init_6 (fun _ _ _ h => px0 h) ?_
  rintro _ M_1 ⟨rfl, ho_2, fr_3, sh_4⟩
  refine V_st (st' := []) rfl ?_
  refine V_vret C dJ7_init_9 rfl ?_ (by first | exact Nat.le_of_ble_eq_true rfl | omega | (dsimp only; omega)) (by first | exact Nat.le_of_ble_eq_true rfl | omega | (dsimp only; omega))
  exact ⟨rfl, ho_2, fr_3, sh_4⟩
set_option maxHeartbeats 1000000 in
theorem c_J8_init (l : Launch) (hl : l.stackTraces = false) (G : hp_G) (X : Nat → Nat) (N0 : Nat) (M : hp_h) (a : Nat) (hf9 : M a = some (.inr (8, [.null, .null, .null, .null, .null, .int 0, .int 0]))) : HM l yJ8_init (ws_ yJ8_init cJ8_init 5 none) 3 72 0 0 G X N0 [.ref a, .null, .null, .int 0, .int 0] M (fun v9 M' => v9 = none ∧ M' a = some (.inr (8, [.null, .null, .null, .null, .null, .int 0, .int 0])) ∧ hp_fr (fun b => b = a) M M' ∧ hp_sh M M') PX0 := by
  refine HM.of hl [(0, .ref a), (1, .null), (2, .null), (3, .int 0), (4, .int 0)] (by decide +kernel) rfl (Nat.le_of_ble_eq_true rfl) ?_
  intro p e s m args below meth c C hname
  have hfr : hp_fr (fun b => b = a) M M := hp_fr.rf
  have hsh : hp_sh M M := hp_sh.rf
  refine V_aload_n C dJ8_init_0 rfl 0 rfl ?_
  refine V_aload_nN C dJ8_init_1 rfl 1 rfl ?_
  refine V_aload_nN C dJ8_init_2 rfl 2 rfl ?_
  refine V_iload_n C dJ8_init_3 rfl 3 rfl ?_
  refine V_iload C dJ8_init_4 4 rfl ?_
  refine V_callI C (c_J7_init l hl G X N0 M a hf9) cs_J8_16 rfl rfl ⟨Nat.le_of_ble_eq_true rfl, Nat.le_of_ble_eq_true rfl⟩ ⟨(by first | exact Nat.le_of_ble_eq_true rfl | omega | (dsimp only; omega)), (by first | exact Nat.le_of_ble_eq_true rfl | omega | (dsimp only; omega))⟩ (Nat.le_of_ble_eq_true rfl) dJ8_init_6 (fun _ _ _ h => px0 h) ?_
  rintro _ M_1 ⟨rfl, ho_2, fr_3, sh_4⟩
  refine V_st (st' := []) rfl ?_
  refine V_vret C dJ8_init_9 rfl ?_ (by first | exact Nat.le_of_ble_eq_true rfl | omega | (dsimp only; omega)) (by first | exact Nat.le_of_ble_eq_true rfl | omega | (dsimp only; omega))
  exact ⟨rfl, ho_2, fr_3, sh_4⟩
set_option maxHeartbeats 1000000 in
theorem c_X26_init (l : Launch) (hl : l.stackTraces = false) (G : hp_G) (X : Nat → Nat) (N0 : Nat) (M : hp_h) (a : Nat) (hf9 : M a = some (.inr (8, [.null, .null, .null, .null, .null, .int 0, .int 0]))) (ft : Int32) : HM l yX26_init (ws_ yX26_init cX26_init 2 none) 4 96 0 0 G X N0 [.ref a, .int ft] M (fun v9 M' => v9 = none ∧ M' a = some (.inr (8, [.null, .null, .null, .null, .null, .int 0, .int ft])) ∧ hp_fr (fun b => b = a) M M' ∧ hp_sh M M') PX0 := by
  refine HM.of hl [(0, .ref a), (1, .int ft)] (by decide +kernel) rfl (Nat.le_of_ble_eq_true rfl) ?_
  intro p e s m args below meth c C hname
  have hfr : hp_fr (fun b => b = a) M M := hp_fr.rf
  have hsh : hp_sh M M := hp_sh.rf
  refine V_aload_n C dX26_init_0 rfl 0 rfl ?_
  refine V_null C dX26_init_1 ?_
  refine V_null C dX26_init_2 ?_
  refine V_iconst (v := 0) C dX26_init_3 rfl ?_
  refine V_iconst (v := 0) C dX26_init_4 rfl ?_
  refine V_callI C (c_J8_init l hl G X N0 M a hf9) cs_X26_1 rfl rfl ⟨Nat.le_of_ble_eq_true rfl, Nat.le_of_ble_eq_true rfl⟩ ⟨(by first | exact Nat.le_of_ble_eq_true rfl | omega | (dsimp only; omega)), (by first | exact Nat.le_of_ble_eq_true rfl | omega | (dsimp only; omega))⟩ (Nat.le_of_ble_eq_true rfl) dX26_init_5 (fun _ _ _ h => px0 h) ?_
  rintro _ M_1 ⟨rfl, ho_2, fr_3, sh_4⟩
  refine V_st (st' := []) rfl ?_
  refine V_aload_n C dX26_init_8 rfl 0 rfl ?_
  refine V_iload_n C dX26_init_9 rfl 1 rfl ?_
  refine V_putF C hname f_X26_7_8 ho_2 rfl rfl (Nat.le_of_ble_eq_true rfl) dX26_init_10 ?_
  obtain ⟨M_5, eM_6⟩ : ∃ z, z = hp_up M_1 a (.inr (8, [.null, .null, .null, .null, .null, .int 0, .int ft])) := ⟨_, rfl⟩
  refine V_heap (M' := M_5) eM_6.symm ?_
  have eM_6_s : M_5 a = some (.inr (8, [.null, .null, .null, .null, .null, .int 0, .int ft])) := by rw [eM_6]; exact hp_up_s
  have fr_7 := hp_fr.set fr_3 (Or.inl rfl) eM_6
  have sh_8 := hp_sh.set sh_4 ho_2 eM_6 rfl
  refine V_vret C dX26_init_13 rfl ?_ (by first | exact Nat.le_of_ble_eq_true rfl | omega | (dsimp only; omega)) (by first | exact Nat.le_of_ble_eq_true rfl | omega | (dsimp only; omega))
  exact ⟨rfl, eM_6_s, fr_7, sh_8⟩
/-- a frame, and a later change of one cell that is new or excepted -/
theorem hp_fr.after {X : Nat → Prop} {M0 M M2 : hp_h} {q : Nat} (h : hp_fr X M0 M) (h2 : hp_fr (fun b => b = q) M M2) (hx : X q ∨ M0 q = none) : hp_fr X M0 M2 := fun a e ha hm => by
  refine h2 a e ?_ (h a e ha hm)
  rintro rfl
  rcases hx with z | z
  · exact ha z
  · rw [z] at hm; cases hm
set_option maxHeartbeats 1000000 in
theorem c_X1_fail (l : Launch) (hl : l.stackTraces = false) (G : hp_G) (X : Nat → Nat) (N0 : Nat) (M : hp_h) (na r1 r2 r3 r4 r5 : Nat) (z4 z5 z6 z7 z8 z9 zz za zb zc zd ze ft : Int32) (hna : M na = some (.inr (0, [.ref r1, .ref r2, .ref r3, .ref r4, .int z4, .int z5, .int z6, .int z7, .int z8, .int z9, .int zz, .int za, .int zb, .int zc, .int zd, .int ze, .ref r5]))) : HM l yX1_fail (ws_ yX1_fail cX1_fail 2 (some (.object "NativeSubset$Failure"))) 5 117 1 7 G X N0 [.ref na, .int ft] M (fun v9 M' => ∃ q, v9 = some (.ref q) ∧ M q = none ∧ M' na = some (.inr (0, [.ref r1, .ref r2, .ref r3, .ref r4, .int z4, .int z5, .int z6, .int z7, .int (z8 + 1), .int z9, .int zz, .int za, .int zb, .int zc, .int zd, .int ze, .ref r5])) ∧ M' q = some (.inr (8, [.null, .null, .null, .null, .null, .int 0, .int ft])) ∧ hp_fr (fun b => b = na) M M' ∧ hp_sh M M') PX0 := by
  refine HM.of hl [(0, .ref na), (1, .int ft)] (by decide +kernel) rfl (Nat.le_of_ble_eq_true rfl) ?_
  intro p e s m args below meth c C hname
  have hfr : hp_fr (fun b => b = na) M M := hp_fr.rf
  have hsh : hp_sh M M := hp_sh.rf
  refine V_aload_n C dX1_fail_0 rfl 0 rfl ?_
  refine V_dup C dX1_fail_1 rfl ?_
  refine V_get C f_X1_95_0 hna (v := .int z8) rfl dX1_fail_2 ?_
  refine V_iconst (v := 1) C dX1_fail_5 rfl ?_
  refine V_iadd C dX1_fail_6 ?_
  refine V_put C f_X1_95_0 hna rfl rfl (Nat.le_of_ble_eq_true rfl) dX1_fail_7 ?_
  obtain ⟨M_1, eM_2⟩ : ∃ z, z = hp_up M na (.inr (0, [.ref r1, .ref r2, .ref r3, .ref r4, .int z4, .int z5, .int z6, .int z7, .int (z8 + 1), .int z9, .int zz, .int za, .int zb, .int zc, .int zd, .int ze, .ref r5])) := ⟨_, rfl⟩
  refine V_heap (M' := M_1) eM_2.symm ?_
  have eM_2_s : M_1 na = some (.inr (0, [.ref r1, .ref r2, .ref r3, .ref r4, .int z4, .int z5, .int z6, .int z7, .int (z8 + 1), .int z9, .int zz, .int za, .int zb, .int zc, .int zd, .int ze, .ref r5])) := by rw [eM_2]; exact hp_up_s
  have fr_3 := hp_fr.set hfr (Or.inl rfl) eM_2
  have sh_4 := hp_sh.set hsh hna eM_2 rfl
  refine V_new C n_X1_98 rfl (by first | exact Nat.le_of_ble_eq_true rfl | omega | (dsimp only; omega)) (by first | exact Nat.le_of_ble_eq_true rfl | omega | (dsimp only; omega)) dX1_fail_10 (fun q_5 hq_6 => ?_)
  have ne_7 : na ≠ q_5 := hp_ne0 eM_2_s hq_6
  obtain ⟨M_8, eM_9⟩ : ∃ z, z = hp_up M_1 q_5 (.inr (8, [.null, .null, .null, .null, .null, .int 0, .int 0])) := ⟨_, rfl⟩
  refine V_heap (M' := M_8) eM_9.symm ?_
  have ho_10 : M_8 na = some (.inr (0, [.ref r1, .ref r2, .ref r3, .ref r4, .int z4, .int z5, .int z6, .int z7, .int (z8 + 1), .int z9, .int zz, .int za, .int zb, .int zc, .int zd, .int ze, .ref r5])) := by rw [eM_9, hp_up_n (hp_ne0 eM_2_s hq_6)]; exact eM_2_s
  have ho_11 : M_8 q_5 = some (.inr (8, [.null, .null, .null, .null, .null, .int 0, .int 0])) := by rw [eM_9]; exact hp_up_s
  have fr_12 := hp_fr.new fr_3 hq_6 eM_9
  have nn_13 := hp_fr.nn fr_3 hq_6
  have sh_14 := hp_sh.new sh_4 hq_6 eM_9
  refine V_dup C dX1_fail_13 rfl ?_
  refine V_iload_n C dX1_fail_14 rfl 1 rfl ?_
  refine V_callI C (c_X26_init l hl G X N0 M_8 q_5 ho_11 ft) cs_X1_100 rfl rfl ⟨Nat.le_of_ble_eq_true rfl, Nat.le_of_ble_eq_true rfl⟩ ⟨(by first | exact Nat.le_of_ble_eq_true rfl | omega | (dsimp only; omega)), (by first | exact Nat.le_of_ble_eq_true rfl | omega | (dsimp only; omega))⟩ (Nat.le_of_ble_eq_true rfl) dX1_fail_15 (fun _ _ _ h => px0 h) ?_
  rintro _ M_15 ⟨rfl, ho_16, fr_17, sh_18⟩
  refine V_st (st' := [.ref q_5]) rfl ?_
  have ho_19 := fr_17 _ _ ne_7 ho_10
  have fr_20 := hp_fr.after fr_12 fr_17 nn_13
  have sh_21 := sh_14.trans sh_18
  refine V_st (st' := [va_rf (some q_5)]) rfl ?_
  refine V_aret C (by first | exact Or.inl ⟨_, rfl⟩ | exact Or.inr ⟨_, rfl⟩) dX1_fail_18 rfl ?_ (by first | exact Nat.le_of_ble_eq_true rfl | omega | (dsimp only; omega)) (by first | exact Nat.le_of_ble_eq_true rfl | omega | (dsimp only; omega))
  exact ⟨q_5, rfl, hp_up_none eM_2 hq_6, ho_19, ho_16, fr_20, sh_21⟩
