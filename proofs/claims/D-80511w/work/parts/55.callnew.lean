set_option maxRecDepth 100000
set_option maxHeartbeats 1000000 in
theorem c_X25_init (l : Launch) (hl : l.stackTraces = false) (G : hp_G) (X : Nat → Nat) (N0 : Nat) (M : hp_h) (g : RG) (σ : MS) (z : Nat → Int32) (ca : Int32) (C9 : Nat) (hR : REL G (X 0) g σ z ca C9 M) (hI : MI σ) (a : Nat) (pn fu : Int32) (ha9 : M a = some (.inr (4, [.int 0, .int 0, .null, .null, .int 0, .int 0, .int 0, .null]))) : HM l yX25_init (ws_ yX25_init cX25_init 4 none) 4 84 2 63 G X N0 [.ref a, .ref (qN g), .int pn, .int fu] M (fun v9 M' => v9 = none ∧ ∃ ql qw md, M ql = none ∧ M qw = none ∧ ql ≠ qw ∧ M' a = some (.inr (4, [.int pn, .int (nI (nR σ)), .ref ql, .ref qw, .int fu, .int 0, .int 0, .ref (qN g)])) ∧ M' ql = some (.inr (1, [.int md, .ref (X 0), .int 0])) ∧ M' qw = some (.inl (G.2 4, 60, .inl (fun _ => 0))) ∧ hp_fr (fun b => b = a) M M' ∧ hp_sh M M') PX0 := by
  refine HM.of hl [(0, .ref a), (1, .ref (qN g)), (2, .int pn), (3, .int fu)] (by decide +kernel) rfl (Nat.le_of_ble_eq_true rfl) ?_
  intro p e s m args below meth c C hname
  have hN := hR.N
  obtain ⟨mdR, hRl⟩ := hR.Rl
  obtain ⟨fR, hRs, hRf⟩ := hR.Rls
  have hfr : hp_fr (fun b => b = a) M M := hp_fr.rf
  have hsh : hp_sh M M := hp_sh.rf
  refine V_aload_n C dX25_init_0 rfl 0 rfl ?_
  refine V_aload_n C dX25_init_1 rfl 1 rfl ?_
  refine V_putF C hname f_X25_3_4 ha9 rfl rfl (Nat.le_of_ble_eq_true rfl) dX25_init_2 ?_
  obtain ⟨M_1, eM_2⟩ : ∃ z, z = hp_up M a (.inr (4, [.int 0, .int 0, .null, .null, .int 0, .int 0, .int 0, .ref (qN g)])) := ⟨_, rfl⟩
  refine V_heap (M' := M_1) eM_2.symm ?_
  have ho_3 : M_1 (qN g) = some (.inr (0, [.ref (qRl g), .ref (qUl g), .ref (qPl g), .ref (qHs g), .int (σ.1 20), .int (σ.1 14), .int (σ.1 11), .int (σ.1 12), .int (σ.1 15), .int (z 0), .int (z 1), .int (z 2), .int (z 3), .int (z 4), .int (z 5), .int ca, .ref (qAn g)])) := by rw [eM_2, hp_up_n (hp_ne hN ha9 (by simp))]; exact hN
  have ho_4 : M_1 (qRl g) = some (.inr (1, [.int mdR, .ref (qRe g), .int (nI (nR σ))])) := by rw [eM_2, hp_up_n (hp_ne hRl ha9 (by simp))]; exact hRl
  have eM_2_s : M_1 a = some (.inr (4, [.int 0, .int 0, .null, .null, .int 0, .int 0, .int 0, .ref (qN g)])) := by rw [eM_2]; exact hp_up_s
  have fr_5 := hp_fr.set hfr (Or.inl rfl) eM_2
  have sh_6 := hp_sh.set hsh ha9 eM_2 rfl
  refine V_aload_n C dX25_init_5 rfl 0 rfl ?_
  refine V_obj C cs_X25_9 ⟨Nat.le_of_ble_eq_true rfl, Nat.le_of_ble_eq_true rfl⟩ dX25_init_6 ?_
  refine V_aload_n C dX25_init_9 rfl 0 rfl ?_
  refine V_new C n_X25_15 rfl (by first | exact Nat.le_of_ble_eq_true rfl | omega | (dsimp only; omega) | (simp only [List.length_cons, List.length_nil]; omega)) (by first | exact Nat.le_of_ble_eq_true rfl | omega | (dsimp only; omega) | (simp only [List.length_cons, List.length_nil]; omega)) dX25_init_10 (fun q_7 hq_8 => ?_)
  have ne_9 : (qN g) ≠ q_7 := hp_ne0 ho_3 hq_8
  have ne_10 : (qRl g) ≠ q_7 := hp_ne0 ho_4 hq_8
  have ne_11 : a ≠ q_7 := hp_ne0 eM_2_s hq_8
  obtain ⟨M_12, eM_13⟩ : ∃ z, z = hp_up M_1 q_7 (.inr (1, [.int 0, .null, .int 0])) := ⟨_, rfl⟩
  refine V_heap (M' := M_12) eM_13.symm ?_
  have ho_14 : M_12 (qN g) = some (.inr (0, [.ref (qRl g), .ref (qUl g), .ref (qPl g), .ref (qHs g), .int (σ.1 20), .int (σ.1 14), .int (σ.1 11), .int (σ.1 12), .int (σ.1 15), .int (z 0), .int (z 1), .int (z 2), .int (z 3), .int (z 4), .int (z 5), .int ca, .ref (qAn g)])) := by rw [eM_13, hp_up_n (hp_ne0 ho_3 hq_8)]; exact ho_3
  have ho_15 : M_12 (qRl g) = some (.inr (1, [.int mdR, .ref (qRe g), .int (nI (nR σ))])) := by rw [eM_13, hp_up_n (hp_ne0 ho_4 hq_8)]; exact ho_4
  have ho_16 : M_12 a = some (.inr (4, [.int 0, .int 0, .null, .null, .int 0, .int 0, .int 0, .ref (qN g)])) := by rw [eM_13, hp_up_n (hp_ne0 eM_2_s hq_8)]; exact eM_2_s
  have ho_17 : M_12 q_7 = some (.inr (1, [.int 0, .null, .int 0])) := by rw [eM_13]; exact hp_up_s
  have fr_18 := hp_fr.new fr_5 hq_8 eM_13
  have nn_19 := hp_fr.nn fr_5 hq_8
  have sh_20 := hp_sh.new sh_6 hq_8 eM_13
  refine V_dup C dX25_init_13 rfl ?_
  refine V_callI C (c_J2_init l hl G X N0 M_12 q_7 ho_17) cs_X25_17 rfl rfl ⟨Nat.le_of_ble_eq_true rfl, Nat.le_of_ble_eq_true rfl⟩ ⟨(by first | exact Nat.le_of_ble_eq_true rfl | omega | (dsimp only; omega) | (simp only [List.length_cons, List.length_nil]; omega)), (by first | exact Nat.le_of_ble_eq_true rfl | omega | (dsimp only; omega) | (simp only [List.length_cons, List.length_nil]; omega))⟩ (Nat.le_of_ble_eq_true rfl) dX25_init_14 (fun _ _ _ h => px0 h) ?_
  rintro _ M_21 ⟨rfl, ho_22, fr_23, sh_24⟩
  refine V_st (st' := [.ref q_7, .ref a]) rfl ?_
  have ho_25 : M_21 (qN g) = some (.inr (0, [.ref (qRl g), .ref (qUl g), .ref (qPl g), .ref (qHs g), .int (σ.1 20), .int (σ.1 14), .int (σ.1 11), .int (σ.1 12), .int (σ.1 15), .int (z 0), .int (z 1), .int (z 2), .int (z 3), .int (z 4), .int (z 5), .int ca, .ref (qAn g)])) := fr_23 _ _ ne_9 ho_14
  have ho_26 : M_21 (qRl g) = some (.inr (1, [.int mdR, .ref (qRe g), .int (nI (nR σ))])) := fr_23 _ _ ne_10 ho_15
  have ho_27 : M_21 a = some (.inr (4, [.int 0, .int 0, .null, .null, .int 0, .int 0, .int 0, .ref (qN g)])) := fr_23 _ _ ne_11 ho_16
  have fr_28 := hp_fr.after fr_18 fr_23 nn_19
  have sh_29 := sh_20.trans sh_24
  refine V_putF C hname f_X25_18_4 ho_27 rfl rfl (Nat.le_of_ble_eq_true rfl) dX25_init_17 ?_
  obtain ⟨M_30, eM_31⟩ : ∃ z, z = hp_up M_21 a (.inr (4, [.int 0, .int 0, .ref q_7, .null, .int 0, .int 0, .int 0, .ref (qN g)])) := ⟨_, rfl⟩
  refine V_heap (M' := M_30) eM_31.symm ?_
  have ho_32 : M_30 (qN g) = some (.inr (0, [.ref (qRl g), .ref (qUl g), .ref (qPl g), .ref (qHs g), .int (σ.1 20), .int (σ.1 14), .int (σ.1 11), .int (σ.1 12), .int (σ.1 15), .int (z 0), .int (z 1), .int (z 2), .int (z 3), .int (z 4), .int (z 5), .int ca, .ref (qAn g)])) := by rw [eM_31, hp_up_n (hp_ne ho_25 ho_27 (by simp))]; exact ho_25
  have ho_33 : M_30 (qRl g) = some (.inr (1, [.int mdR, .ref (qRe g), .int (nI (nR σ))])) := by rw [eM_31, hp_up_n (hp_ne ho_26 ho_27 (by simp))]; exact ho_26
  have ho_34 : M_30 q_7 = some (.inr (1, [.int 0, .ref (X 0), .int 0])) := by rw [eM_31, hp_up_n (Ne.symm ne_11)]; exact ho_22
  have eM_31_s : M_30 a = some (.inr (4, [.int 0, .int 0, .ref q_7, .null, .int 0, .int 0, .int 0, .ref (qN g)])) := by rw [eM_31]; exact hp_up_s
  have fr_35 := hp_fr.set fr_28 (Or.inl rfl) eM_31
  have sh_36 := hp_sh.set sh_29 ho_27 eM_31 rfl
  refine V_aload_n C dX25_init_20 rfl 0 rfl ?_
  refine V_pc (pc1 := 21) rfl ?_
  refine V_bipush (v := 60) C dX25_init_21 rfl ?_
  refine V_new_i C q539 (N' := 60) (by decide) (by decide) (by decide) (by first | exact Nat.le_of_ble_eq_true rfl | omega | (dsimp only; omega) | (simp only [List.length_cons, List.length_nil]; omega)) (by first | exact Nat.le_of_ble_eq_true rfl | omega | (dsimp only; omega) | (simp only [List.length_cons, List.length_nil]; omega)) dX25_init_23 (fun q_37 hq_38 => ?_)
  have ne_39 : (qN g) ≠ q_37 := hp_ne0 ho_32 hq_38
  have ne_40 : (qRl g) ≠ q_37 := hp_ne0 ho_33 hq_38
  have ne_41 : a ≠ q_37 := hp_ne0 eM_31_s hq_38
  have ne_42 : q_7 ≠ q_37 := hp_ne0 ho_34 hq_38
  obtain ⟨M_43, eM_44⟩ : ∃ z, z = hp_up M_30 q_37 ((.inl (G.2 4, 60, .inl (fun _ => 0)))) := ⟨_, rfl⟩
  refine V_heap (M' := M_43) eM_44.symm ?_
  have ho_45 : M_43 (qN g) = some (.inr (0, [.ref (qRl g), .ref (qUl g), .ref (qPl g), .ref (qHs g), .int (σ.1 20), .int (σ.1 14), .int (σ.1 11), .int (σ.1 12), .int (σ.1 15), .int (z 0), .int (z 1), .int (z 2), .int (z 3), .int (z 4), .int (z 5), .int ca, .ref (qAn g)])) := by rw [eM_44, hp_up_n (hp_ne0 ho_32 hq_38)]; exact ho_32
  have ho_46 : M_43 (qRl g) = some (.inr (1, [.int mdR, .ref (qRe g), .int (nI (nR σ))])) := by rw [eM_44, hp_up_n (hp_ne0 ho_33 hq_38)]; exact ho_33
  have ho_47 : M_43 a = some (.inr (4, [.int 0, .int 0, .ref q_7, .null, .int 0, .int 0, .int 0, .ref (qN g)])) := by rw [eM_44, hp_up_n (hp_ne0 eM_31_s hq_38)]; exact eM_31_s
  have ho_48 : M_43 q_7 = some (.inr (1, [.int 0, .ref (X 0), .int 0])) := by rw [eM_44, hp_up_n (hp_ne0 ho_34 hq_38)]; exact ho_34
  have ho_49 : M_43 q_37 = some ((.inl (G.2 4, 60, .inl (fun _ => 0)))) := by rw [eM_44]; exact hp_up_s
  have fr_50 := hp_fr.new fr_35 hq_38 eM_44
  have nn_51 := hp_fr.nn fr_35 hq_38
  have sh_52 := hp_sh.new sh_36 hq_38 eM_44
  refine V_putF C hname f_X25_22_4 ho_47 rfl rfl (Nat.le_of_ble_eq_true rfl) dX25_init_25 ?_
  obtain ⟨M_53, eM_54⟩ : ∃ z, z = hp_up M_43 a (.inr (4, [.int 0, .int 0, .ref q_7, .ref q_37, .int 0, .int 0, .int 0, .ref (qN g)])) := ⟨_, rfl⟩
  refine V_heap (M' := M_53) eM_54.symm ?_
  have ho_55 : M_53 (qN g) = some (.inr (0, [.ref (qRl g), .ref (qUl g), .ref (qPl g), .ref (qHs g), .int (σ.1 20), .int (σ.1 14), .int (σ.1 11), .int (σ.1 12), .int (σ.1 15), .int (z 0), .int (z 1), .int (z 2), .int (z 3), .int (z 4), .int (z 5), .int ca, .ref (qAn g)])) := by rw [eM_54, hp_up_n (hp_ne ho_45 ho_47 (by simp))]; exact ho_45
  have ho_56 : M_53 (qRl g) = some (.inr (1, [.int mdR, .ref (qRe g), .int (nI (nR σ))])) := by rw [eM_54, hp_up_n (hp_ne ho_46 ho_47 (by simp))]; exact ho_46
  have ho_57 : M_53 q_7 = some (.inr (1, [.int 0, .ref (X 0), .int 0])) := by rw [eM_54, hp_up_n (Ne.symm ne_11)]; exact ho_48
  have ha_58 : M_53 q_37 = some (.inl (G.2 4, 60, .inl (fun _ => 0))) := by rw [eM_54, hp_up_n (Ne.symm ne_41)]; exact ho_49
  have eM_54_s : M_53 a = some (.inr (4, [.int 0, .int 0, .ref q_7, .ref q_37, .int 0, .int 0, .int 0, .ref (qN g)])) := by rw [eM_54]; exact hp_up_s
  have fr_59 := hp_fr.set fr_50 (Or.inl rfl) eM_54
  have sh_60 := hp_sh.set sh_52 ho_47 eM_54 rfl
  refine V_aload_n C dX25_init_28 rfl 0 rfl ?_
  refine V_iload_n C dX25_init_29 rfl 2 rfl ?_
  refine V_putF C hname f_X25_26_4 eM_54_s rfl rfl (Nat.le_of_ble_eq_true rfl) dX25_init_30 ?_
  obtain ⟨M_61, eM_62⟩ : ∃ z, z = hp_up M_53 a (.inr (4, [.int pn, .int 0, .ref q_7, .ref q_37, .int 0, .int 0, .int 0, .ref (qN g)])) := ⟨_, rfl⟩
  refine V_heap (M' := M_61) eM_62.symm ?_
  have ho_63 : M_61 (qN g) = some (.inr (0, [.ref (qRl g), .ref (qUl g), .ref (qPl g), .ref (qHs g), .int (σ.1 20), .int (σ.1 14), .int (σ.1 11), .int (σ.1 12), .int (σ.1 15), .int (z 0), .int (z 1), .int (z 2), .int (z 3), .int (z 4), .int (z 5), .int ca, .ref (qAn g)])) := by rw [eM_62, hp_up_n (hp_ne ho_55 eM_54_s (by simp))]; exact ho_55
  have ho_64 : M_61 (qRl g) = some (.inr (1, [.int mdR, .ref (qRe g), .int (nI (nR σ))])) := by rw [eM_62, hp_up_n (hp_ne ho_56 eM_54_s (by simp))]; exact ho_56
  have ho_65 : M_61 q_7 = some (.inr (1, [.int 0, .ref (X 0), .int 0])) := by rw [eM_62, hp_up_n (Ne.symm ne_11)]; exact ho_57
  have ha_66 : M_61 q_37 = some (.inl (G.2 4, 60, .inl (fun _ => 0))) := by rw [eM_62, hp_up_n (Ne.symm ne_41)]; exact ha_58
  have eM_62_s : M_61 a = some (.inr (4, [.int pn, .int 0, .ref q_7, .ref q_37, .int 0, .int 0, .int 0, .ref (qN g)])) := by rw [eM_62]; exact hp_up_s
  have fr_67 := hp_fr.set fr_59 (Or.inl rfl) eM_62
  have sh_68 := hp_sh.set sh_60 eM_54_s eM_62 rfl
  refine V_aload_n C dX25_init_33 rfl 0 rfl ?_
  refine V_aload_n C dX25_init_34 rfl 1 rfl ?_
  refine V_getN C f_X25_30_0 ho_63 (v := .ref (qRl g)) rfl dX25_init_35 ?_
  refine V_callV C (c_J2_size l hl G X N0 M_61 (qRl g) (qRe g) (nR σ) mdR ho_64) cs_X25_33_1 ho_64 (show CLS[1]? = some (RJ2, TJ2, 3) from rfl) rfl rfl ⟨Nat.le_of_ble_eq_true rfl, Nat.le_of_ble_eq_true rfl⟩ ⟨(by first | exact Nat.le_of_ble_eq_true rfl | omega | (dsimp only; omega) | (simp only [List.length_cons, List.length_nil]; omega)), (by first | exact Nat.le_of_ble_eq_true rfl | omega | (dsimp only; omega) | (simp only [List.length_cons, List.length_nil]; omega))⟩ (Nat.le_of_ble_eq_true rfl) dX25_init_38 (fun _ _ _ h => px0 h) ?_
  rintro _ _ ⟨rfl, rfl⟩
  refine V_st (st' := [.int (nI (nR σ)), .ref a]) rfl ?_
  refine V_putF C hname f_X25_37_4 eM_62_s rfl rfl (Nat.le_of_ble_eq_true rfl) dX25_init_41 ?_
  obtain ⟨M_69, eM_70⟩ : ∃ z, z = hp_up M_61 a (.inr (4, [.int pn, .int (nI (nR σ)), .ref q_7, .ref q_37, .int 0, .int 0, .int 0, .ref (qN g)])) := ⟨_, rfl⟩
  refine V_heap (M' := M_69) eM_70.symm ?_
  have ho_71 : M_69 (qN g) = some (.inr (0, [.ref (qRl g), .ref (qUl g), .ref (qPl g), .ref (qHs g), .int (σ.1 20), .int (σ.1 14), .int (σ.1 11), .int (σ.1 12), .int (σ.1 15), .int (z 0), .int (z 1), .int (z 2), .int (z 3), .int (z 4), .int (z 5), .int ca, .ref (qAn g)])) := by rw [eM_70, hp_up_n (hp_ne ho_63 eM_62_s (by simp))]; exact ho_63
  have ho_72 : M_69 (qRl g) = some (.inr (1, [.int mdR, .ref (qRe g), .int (nI (nR σ))])) := by rw [eM_70, hp_up_n (hp_ne ho_64 eM_62_s (by simp))]; exact ho_64
  have ho_73 : M_69 q_7 = some (.inr (1, [.int 0, .ref (X 0), .int 0])) := by rw [eM_70, hp_up_n (Ne.symm ne_11)]; exact ho_65
  have ha_74 : M_69 q_37 = some (.inl (G.2 4, 60, .inl (fun _ => 0))) := by rw [eM_70, hp_up_n (Ne.symm ne_41)]; exact ha_66
  have eM_70_s : M_69 a = some (.inr (4, [.int pn, .int (nI (nR σ)), .ref q_7, .ref q_37, .int 0, .int 0, .int 0, .ref (qN g)])) := by rw [eM_70]; exact hp_up_s
  have fr_75 := hp_fr.set fr_67 (Or.inl rfl) eM_70
  have sh_76 := hp_sh.set sh_68 eM_62_s eM_70 rfl
  refine V_aload_n C dX25_init_44 rfl 0 rfl ?_
  refine V_pc (pc1 := 45) rfl ?_
  refine V_iload_n C dX25_init_45 rfl 3 rfl ?_
  refine V_put C f_X25_39_4 eM_70_s rfl rfl (Nat.le_of_ble_eq_true rfl) dX25_init_46 ?_
  obtain ⟨M_77, eM_78⟩ : ∃ z, z = hp_up M_69 a (.inr (4, [.int pn, .int (nI (nR σ)), .ref q_7, .ref q_37, .int fu, .int 0, .int 0, .ref (qN g)])) := ⟨_, rfl⟩
  refine V_heap (M' := M_77) eM_78.symm ?_
  have ho_79 : M_77 (qN g) = some (.inr (0, [.ref (qRl g), .ref (qUl g), .ref (qPl g), .ref (qHs g), .int (σ.1 20), .int (σ.1 14), .int (σ.1 11), .int (σ.1 12), .int (σ.1 15), .int (z 0), .int (z 1), .int (z 2), .int (z 3), .int (z 4), .int (z 5), .int ca, .ref (qAn g)])) := by rw [eM_78, hp_up_n (hp_ne ho_71 eM_70_s (by simp))]; exact ho_71
  have ho_80 : M_77 (qRl g) = some (.inr (1, [.int mdR, .ref (qRe g), .int (nI (nR σ))])) := by rw [eM_78, hp_up_n (hp_ne ho_72 eM_70_s (by simp))]; exact ho_72
  have ho_81 : M_77 q_7 = some (.inr (1, [.int 0, .ref (X 0), .int 0])) := by rw [eM_78, hp_up_n (Ne.symm ne_11)]; exact ho_73
  have ha_82 : M_77 q_37 = some (.inl (G.2 4, 60, .inl (fun _ => 0))) := by rw [eM_78, hp_up_n (Ne.symm ne_41)]; exact ha_74
  have eM_78_s : M_77 a = some (.inr (4, [.int pn, .int (nI (nR σ)), .ref q_7, .ref q_37, .int fu, .int 0, .int 0, .ref (qN g)])) := by rw [eM_78]; exact hp_up_s
  have fr_83 := hp_fr.set fr_75 (Or.inl rfl) eM_78
  have sh_84 := hp_sh.set sh_76 eM_70_s eM_78 rfl
  refine V_vret C dX25_init_49 rfl ?_ (by first | exact Nat.le_of_ble_eq_true rfl | omega | (dsimp only; omega) | (simp only [List.length_cons, List.length_nil]; omega)) (by first | exact Nat.le_of_ble_eq_true rfl | omega | (dsimp only; omega) | (simp only [List.length_cons, List.length_nil]; omega))
  exact ⟨rfl, q_7, q_37, 0, hp_sh_none sh_6 hq_8, hp_sh_none sh_36 hq_38, ne_42, eM_78_s, ho_81, ha_82, fr_83, sh_84⟩
