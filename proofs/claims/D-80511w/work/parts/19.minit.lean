set_option maxRecDepth 100000
/-- cells of M that X does not tell lie in M' as they were -/
def hp_fr (X : Nat → Prop) (M M' : hp_h) : Prop := ∀ a e, ¬ X a → M a = some e → M' a = some e
theorem hp_fr.rf {X : Nat → Prop} {M : hp_h} : hp_fr X M M := fun _ _ _ h => h
theorem hp_fr.trans {X : Nat → Prop} {M M' M'' : hp_h} (h : hp_fr X M M') (h' : hp_fr X M' M'') : hp_fr X M M'' := fun a e hx ha => h' a e hx (h a e hx ha)
theorem hp_fr.weak {X Y : Nat → Prop} {M M' : hp_h} (h : hp_fr X M M') (hy : ∀ a, X a → Y a) : hp_fr Y M M' := fun a e hx ha => h a e (fun z => hx (hy a z)) ha
theorem hp_fr.new {X : Nat → Prop} {M0 M M2 : hp_h} {q : Nat} {E : va_E} (h : hp_fr X M0 M) (hq : M q = none) (e : M2 = hp_up M q E) : hp_fr X M0 M2 := fun a x hx ha => by
  have h1 := h a x hx ha
  rw [e, hp_up_n (hp_ne0 h1 hq)]
  exact h1
theorem hp_fr.nn {X : Nat → Prop} {M0 M : hp_h} {q : Nat} (h : hp_fr X M0 M) (hq : M q = none) : X q ∨ M0 q = none := by
  by_cases hx : X q
  · exact Or.inl hx
  · cases hz : M0 q with
    | none => exact Or.inr rfl
    | some x => have := h q x hx hz; rw [hq] at this; cases this
theorem hp_fr.set {X : Nat → Prop} {M0 M M2 : hp_h} {a : Nat} {E : va_E} (h : hp_fr X M0 M) (hx : X a ∨ M0 a = none) (e : M2 = hp_up M a E) : hp_fr X M0 M2 := fun b x hb hm => by
  have h1 := h b x hb hm
  rw [e, hp_up_n ?_]
  · exact h1
  · rintro rfl
    rcases hx with z | z
    · exact hb z
    · rw [z] at hm; cases hm
/-- the addresses of A lie in M, no two alike -/
def hp_ad (A : List Nat) (M : hp_h) : Prop := A.Nodup ∧ ∀ q ∈ A, ∃ e, M q = some e
theorem hp_ad.new {A : List Nat} {M M2 : hp_h} {q : Nat} {E : va_E} (h : hp_ad A M) (hq : M q = none) (e : M2 = hp_up M q E) : hp_ad (q :: A) M2 := by
  refine ⟨List.nodup_cons.mpr ⟨fun z => ?_, h.1⟩, fun z hz => ?_⟩
  · obtain ⟨x, hx⟩ := h.2 q z
    rw [hq] at hx; cases hx
  · rcases List.mem_cons.mp hz with rfl | hz
    · exact ⟨E, by rw [e]; exact hp_up_s⟩
    · obtain ⟨x, hx⟩ := h.2 z hz
      by_cases hb : z = q
      · subst hb; exact ⟨E, by rw [e]; exact hp_up_s⟩
      · exact ⟨x, by rw [e, hp_up_n hb]; exact hx⟩
theorem hp_ad.set {A : List Nat} {M M2 : hp_h} {a : Nat} {E : va_E} (h : hp_ad A M) (e : M2 = hp_up M a E) : hp_ad A M2 := by
  refine ⟨h.1, fun z hz => ?_⟩
  obtain ⟨x, hx⟩ := h.2 z hz
  by_cases hb : z = a
  · subst hb; exact ⟨E, by rw [e]; exact hp_up_s⟩
  · exact ⟨x, by rw [e, hp_up_n hb]; exact hx⟩
def mf_init : MS := (fun k => if 27 ≤ k ∧ k ≤ 31 then -1 else 0, fun _ _ => 0, fun _ _ => 0, 0)
def mf_pos9 : Nat → Nat := fun k => ([99, 99, 16, 15, 14, 99, 13, 12, 99, 11, 10, 99, 99, 99, 99, 99, 9, 8, 99, 7, 99, 6, 5, 4, 3, 2, 1, 99, 99, 99, 99, 99, 0] : List Nat).getD k 99
theorem mf_pos9_lt : ∀ k, (mk k = 1 ∨ mk k = 2) → k < 33 ∧ mf_pos9 k < 17 := by
  intro k h
  have hk : k < 33 := by
    rcases Nat.lt_or_ge k 33 with z | z
    · exact z
    · exfalso
      have : mk k = 9 := by unfold mk; rw [List.getD_eq_getElem?_getD, List.getElem?_eq_none (by simp only [List.length_cons, List.length_nil]; omega)]; rfl
      omega
  refine ⟨hk, ?_⟩
  revert h
  exact (show ∀ k, k < 33 → (mk k = 1 ∨ mk k = 2) → mf_pos9 k < 17 by decide +kernel) k hk
theorem mf_pos9_inj : ∀ j k, (mk j = 1 ∨ mk j = 2) → (mk k = 1 ∨ mk k = 2) → mf_pos9 j = mf_pos9 k → j = k := by
  intro j k hj hk
  have h1 := (mf_pos9_lt j hj).1
  have h2 := (mf_pos9_lt k hk).1
  revert hj hk
  exact (show ∀ j, j < 33 → ∀ k, k < 33 → (mk j = 1 ∨ mk j = 2) → (mk k = 1 ∨ mk k = 2) → mf_pos9 j = mf_pos9 k → j = k by decide +kernel) j h1 k h2
theorem mf_ad_inj {A : List Nat} (hA : A.Nodup) (hl : A.length = 17) : ∀ j k, (mk j = 1 ∨ mk j = 2) → (mk k = 1 ∨ mk k = 2) → A.getD (mf_pos9 j) 0 = A.getD (mf_pos9 k) 0 → j = k := by
  intro j k hj hk h
  have h1 := (mf_pos9_lt j hj).2
  have h2 := (mf_pos9_lt k hk).2
  refine mf_pos9_inj j k hj hk ?_
  rw [List.getD_eq_getElem?_getD, List.getD_eq_getElem?_getD, List.getElem?_eq_getElem (by omega), List.getElem?_eq_getElem (by omega)] at h
  have hp := List.pairwise_iff_getElem.mp hA
  rcases Nat.lt_trichotomy (mf_pos9 j) (mf_pos9 k) with z | z | z
  · exact absurd h (hp _ _ (by omega) (by omega) z)
  · exact z
  · exact absurd h.symm (hp _ _ (by omega) (by omega) z)
set_option maxHeartbeats 1000000 in
theorem c_X20_init (l : Launch) (hl : l.stackTraces = false) (G : hp_G) (X : Nat → Nat) (N0 : Nat) (mo : Nat) (M : hp_h) (hmo : M mo = some (.inr (9, [.int 0, .int 0, .null, .null, .null, .int 0, .null, .null, .int 0, .null, .null, .int 0, .int 0, .int 0, .int 0, .int 0, .null, .null, .long 0, .null, .int 0, .null, .null, .null, .null, .null, .null, .int 0, .int 0, .int 0, .int 0, .int 0, .null]))) : HM l yX20_init (ws_ yX20_init cX20_init 1 none) 1 24 17 347905 G X N0 [.ref mo] M (fun v M' => v = none ∧ ∃ ad, MH G mo ad mf_init M' ∧ hp_fr (fun a => a = mo) M M') PX0 := by
  refine HM.of hl [(0, .ref mo)] (by decide +kernel) rfl (Nat.le_of_ble_eq_true rfl) ?_
  intro p e s m args below meth c C hname
  have hfr : hp_fr (fun a => a = mo) M M := hp_fr.rf
  have had0 : hp_ad [mo] M := ⟨List.nodup_cons.mpr ⟨List.not_mem_nil, List.nodup_nil⟩, fun q hq => by rw [List.mem_singleton.mp hq]; exact ⟨_, hmo⟩⟩
  refine V_aload_n C dX20_init_0 rfl 0 rfl ?_
  refine V_obj C cs_X20_1 ⟨Nat.le_of_ble_eq_true rfl, Nat.le_of_ble_eq_true rfl⟩ dX20_init_1 ?_
  refine V_aload_n C dX20_init_4 rfl 0 rfl ?_
  refine V_bipush (v := 60) C dX20_init_5 rfl ?_
  refine V_new_i C q539 (N' := 60) (by decide) (by decide) (by decide) (by first | exact Nat.le_of_ble_eq_true rfl | omega | (dsimp only; omega)) (by first | exact Nat.le_of_ble_eq_true rfl | omega | (dsimp only; omega)) dX20_init_7 (fun q_1 hq_2 => ?_)
  obtain ⟨M_3, eM_4⟩ : ∃ z, z = hp_up M q_1 ((.inl (G.2 4, 60, .inl (fun _ => 0)))) := ⟨_, rfl⟩
  refine V_heap (M' := M_3) eM_4.symm ?_
  have ho_5 : M_3 mo = some (.inr (9, [.int 0, .int 0, .null, .null, .null, .int 0, .null, .null, .int 0, .null, .null, .int 0, .int 0, .int 0, .int 0, .int 0, .null, .null, .long 0, .null, .int 0, .null, .null, .null, .null, .null, .null, .int 0, .int 0, .int 0, .int 0, .int 0, .null])) := by rw [eM_4, hp_up_n (hp_ne0 hmo hq_2)]; exact hmo
  have ho_6 : M_3 q_1 = some ((.inl (G.2 4, 60, .inl (fun _ => 0)))) := by rw [eM_4]; exact hp_up_s
  have fr_7 := hp_fr.new hfr hq_2 eM_4
  have nn_8 := hp_fr.nn hfr hq_2
  have ad_9 := hp_ad.new had0 hq_2 eM_4
  refine V_putF C hname f_X20_7_9 ho_5 rfl rfl (Nat.le_of_ble_eq_true rfl) dX20_init_9 ?_
  obtain ⟨M_10, eM_11⟩ : ∃ z, z = hp_up M_3 mo (.inr (9, [.int 0, .int 0, .ref q_1, .null, .null, .int 0, .null, .null, .int 0, .null, .null, .int 0, .int 0, .int 0, .int 0, .int 0, .null, .null, .long 0, .null, .int 0, .null, .null, .null, .null, .null, .null, .int 0, .int 0, .int 0, .int 0, .int 0, .null])) := ⟨_, rfl⟩
  refine V_heap (M' := M_10) eM_11.symm ?_
  have ha_12 : M_10 q_1 = some (.inl (G.2 4, 60, .inl (fun _ => 0))) := by rw [eM_11, hp_up_n (hp_ne ho_6 ho_5 (by simp))]; exact ho_6
  have eM_11_s : M_10 mo = some (.inr (9, [.int 0, .int 0, .ref q_1, .null, .null, .int 0, .null, .null, .int 0, .null, .null, .int 0, .int 0, .int 0, .int 0, .int 0, .null, .null, .long 0, .null, .int 0, .null, .null, .null, .null, .null, .null, .int 0, .int 0, .int 0, .int 0, .int 0, .null])) := by rw [eM_11]; exact hp_up_s
  have fr_13 := hp_fr.set fr_7 (Or.inl rfl) eM_11
  have ad_14 := hp_ad.set ad_9 eM_11
  refine V_aload_n C dX20_init_12 rfl 0 rfl ?_
  refine V_bipush (v := 60) C dX20_init_13 rfl ?_
  refine V_new_i C q539 (N' := 60) (by decide) (by decide) (by decide) (by first | exact Nat.le_of_ble_eq_true rfl | omega | (dsimp only; omega)) (by first | exact Nat.le_of_ble_eq_true rfl | omega | (dsimp only; omega)) dX20_init_15 (fun q_15 hq_16 => ?_)
  obtain ⟨M_17, eM_18⟩ : ∃ z, z = hp_up M_10 q_15 ((.inl (G.2 4, 60, .inl (fun _ => 0)))) := ⟨_, rfl⟩
  refine V_heap (M' := M_17) eM_18.symm ?_
  have ho_19 : M_17 mo = some (.inr (9, [.int 0, .int 0, .ref q_1, .null, .null, .int 0, .null, .null, .int 0, .null, .null, .int 0, .int 0, .int 0, .int 0, .int 0, .null, .null, .long 0, .null, .int 0, .null, .null, .null, .null, .null, .null, .int 0, .int 0, .int 0, .int 0, .int 0, .null])) := by rw [eM_18, hp_up_n (hp_ne0 eM_11_s hq_16)]; exact eM_11_s
  have ha_20 : M_17 q_1 = some (.inl (G.2 4, 60, .inl (fun _ => 0))) := by rw [eM_18, hp_up_n (hp_ne0 ha_12 hq_16)]; exact ha_12
  have ho_21 : M_17 q_15 = some ((.inl (G.2 4, 60, .inl (fun _ => 0)))) := by rw [eM_18]; exact hp_up_s
  have fr_22 := hp_fr.new fr_13 hq_16 eM_18
  have nn_23 := hp_fr.nn fr_13 hq_16
  have ad_24 := hp_ad.new ad_14 hq_16 eM_18
  refine V_putF C hname f_X20_13_9 ho_19 rfl rfl (Nat.le_of_ble_eq_true rfl) dX20_init_17 ?_
  obtain ⟨M_25, eM_26⟩ : ∃ z, z = hp_up M_17 mo (.inr (9, [.int 0, .int 0, .ref q_1, .ref q_15, .null, .int 0, .null, .null, .int 0, .null, .null, .int 0, .int 0, .int 0, .int 0, .int 0, .null, .null, .long 0, .null, .int 0, .null, .null, .null, .null, .null, .null, .int 0, .int 0, .int 0, .int 0, .int 0, .null])) := ⟨_, rfl⟩
  refine V_heap (M' := M_25) eM_26.symm ?_
  have ha_27 : M_25 q_1 = some (.inl (G.2 4, 60, .inl (fun _ => 0))) := by rw [eM_26, hp_up_n (hp_ne ha_20 ho_19 (by simp))]; exact ha_20
  have ha_28 : M_25 q_15 = some (.inl (G.2 4, 60, .inl (fun _ => 0))) := by rw [eM_26, hp_up_n (hp_ne ho_21 ho_19 (by simp))]; exact ho_21
  have eM_26_s : M_25 mo = some (.inr (9, [.int 0, .int 0, .ref q_1, .ref q_15, .null, .int 0, .null, .null, .int 0, .null, .null, .int 0, .int 0, .int 0, .int 0, .int 0, .null, .null, .long 0, .null, .int 0, .null, .null, .null, .null, .null, .null, .int 0, .int 0, .int 0, .int 0, .int 0, .null])) := by rw [eM_26]; exact hp_up_s
  have fr_29 := hp_fr.set fr_22 (Or.inl rfl) eM_26
  have ad_30 := hp_ad.set ad_24 eM_26
  refine V_aload_n C dX20_init_20 rfl 0 rfl ?_
  refine V_pc (pc1 := 21) rfl ?_
  refine V_sipush (v := 2400) C dX20_init_21 rfl ?_
  refine V_new_l C q442 (N' := 2400) (by decide) (by decide) (by decide) (by first | exact Nat.le_of_ble_eq_true rfl | omega | (dsimp only; omega)) (by first | exact Nat.le_of_ble_eq_true rfl | omega | (dsimp only; omega)) dX20_init_24 (fun q_31 hq_32 => ?_)
  obtain ⟨M_33, eM_34⟩ : ∃ z, z = hp_up M_25 q_31 ((.inl (G.2 5, 2400, .inr (.inl (fun _ => 0))))) := ⟨_, rfl⟩
  refine V_heap (M' := M_33) eM_34.symm ?_
  have ho_35 : M_33 mo = some (.inr (9, [.int 0, .int 0, .ref q_1, .ref q_15, .null, .int 0, .null, .null, .int 0, .null, .null, .int 0, .int 0, .int 0, .int 0, .int 0, .null, .null, .long 0, .null, .int 0, .null, .null, .null, .null, .null, .null, .int 0, .int 0, .int 0, .int 0, .int 0, .null])) := by rw [eM_34, hp_up_n (hp_ne0 eM_26_s hq_32)]; exact eM_26_s
  have ha_36 : M_33 q_1 = some (.inl (G.2 4, 60, .inl (fun _ => 0))) := by rw [eM_34, hp_up_n (hp_ne0 ha_27 hq_32)]; exact ha_27
  have ha_37 : M_33 q_15 = some (.inl (G.2 4, 60, .inl (fun _ => 0))) := by rw [eM_34, hp_up_n (hp_ne0 ha_28 hq_32)]; exact ha_28
  have ho_38 : M_33 q_31 = some ((.inl (G.2 5, 2400, .inr (.inl (fun _ => 0))))) := by rw [eM_34]; exact hp_up_s
  have fr_39 := hp_fr.new fr_29 hq_32 eM_34
  have nn_40 := hp_fr.nn fr_29 hq_32
  have ad_41 := hp_ad.new ad_30 hq_32 eM_34
  refine V_putF C hname f_X20_16_9 ho_35 rfl rfl (Nat.le_of_ble_eq_true rfl) dX20_init_26 ?_
  obtain ⟨M_42, eM_43⟩ : ∃ z, z = hp_up M_33 mo (.inr (9, [.int 0, .int 0, .ref q_1, .ref q_15, .ref q_31, .int 0, .null, .null, .int 0, .null, .null, .int 0, .int 0, .int 0, .int 0, .int 0, .null, .null, .long 0, .null, .int 0, .null, .null, .null, .null, .null, .null, .int 0, .int 0, .int 0, .int 0, .int 0, .null])) := ⟨_, rfl⟩
  refine V_heap (M' := M_42) eM_43.symm ?_
  have ha_44 : M_42 q_1 = some (.inl (G.2 4, 60, .inl (fun _ => 0))) := by rw [eM_43, hp_up_n (hp_ne ha_36 ho_35 (by simp))]; exact ha_36
  have ha_45 : M_42 q_15 = some (.inl (G.2 4, 60, .inl (fun _ => 0))) := by rw [eM_43, hp_up_n (hp_ne ha_37 ho_35 (by simp))]; exact ha_37
  have ha_46 : M_42 q_31 = some (.inl (G.2 5, 2400, .inr (.inl (fun _ => 0)))) := by rw [eM_43, hp_up_n (hp_ne ho_38 ho_35 (by simp))]; exact ho_38
  have eM_43_s : M_42 mo = some (.inr (9, [.int 0, .int 0, .ref q_1, .ref q_15, .ref q_31, .int 0, .null, .null, .int 0, .null, .null, .int 0, .int 0, .int 0, .int 0, .int 0, .null, .null, .long 0, .null, .int 0, .null, .null, .null, .null, .null, .null, .int 0, .int 0, .int 0, .int 0, .int 0, .null])) := by rw [eM_43]; exact hp_up_s
  have fr_47 := hp_fr.set fr_39 (Or.inl rfl) eM_43
  have ad_48 := hp_ad.set ad_41 eM_43
  refine V_aload_n C dX20_init_29 rfl 0 rfl ?_
  refine V_bipush (v := 30) C dX20_init_30 rfl ?_
  refine V_new_i C q539 (N' := 30) (by decide) (by decide) (by decide) (by first | exact Nat.le_of_ble_eq_true rfl | omega | (dsimp only; omega)) (by first | exact Nat.le_of_ble_eq_true rfl | omega | (dsimp only; omega)) dX20_init_32 (fun q_49 hq_50 => ?_)
  obtain ⟨M_51, eM_52⟩ : ∃ z, z = hp_up M_42 q_49 ((.inl (G.2 4, 30, .inl (fun _ => 0)))) := ⟨_, rfl⟩
  refine V_heap (M' := M_51) eM_52.symm ?_
  have ho_53 : M_51 mo = some (.inr (9, [.int 0, .int 0, .ref q_1, .ref q_15, .ref q_31, .int 0, .null, .null, .int 0, .null, .null, .int 0, .int 0, .int 0, .int 0, .int 0, .null, .null, .long 0, .null, .int 0, .null, .null, .null, .null, .null, .null, .int 0, .int 0, .int 0, .int 0, .int 0, .null])) := by rw [eM_52, hp_up_n (hp_ne0 eM_43_s hq_50)]; exact eM_43_s
  have ha_54 : M_51 q_1 = some (.inl (G.2 4, 60, .inl (fun _ => 0))) := by rw [eM_52, hp_up_n (hp_ne0 ha_44 hq_50)]; exact ha_44
  have ha_55 : M_51 q_15 = some (.inl (G.2 4, 60, .inl (fun _ => 0))) := by rw [eM_52, hp_up_n (hp_ne0 ha_45 hq_50)]; exact ha_45
  have ha_56 : M_51 q_31 = some (.inl (G.2 5, 2400, .inr (.inl (fun _ => 0)))) := by rw [eM_52, hp_up_n (hp_ne0 ha_46 hq_50)]; exact ha_46
  have ho_57 : M_51 q_49 = some ((.inl (G.2 4, 30, .inl (fun _ => 0)))) := by rw [eM_52]; exact hp_up_s
  have fr_58 := hp_fr.new fr_47 hq_50 eM_52
  have nn_59 := hp_fr.nn fr_47 hq_50
  have ad_60 := hp_ad.new ad_48 hq_50 eM_52
  refine V_putF C hname f_X20_20_9 ho_53 rfl rfl (Nat.le_of_ble_eq_true rfl) dX20_init_34 ?_
  obtain ⟨M_61, eM_62⟩ : ∃ z, z = hp_up M_51 mo (.inr (9, [.int 0, .int 0, .ref q_1, .ref q_15, .ref q_31, .int 0, .ref q_49, .null, .int 0, .null, .null, .int 0, .int 0, .int 0, .int 0, .int 0, .null, .null, .long 0, .null, .int 0, .null, .null, .null, .null, .null, .null, .int 0, .int 0, .int 0, .int 0, .int 0, .null])) := ⟨_, rfl⟩
  refine V_heap (M' := M_61) eM_62.symm ?_
  have ha_63 : M_61 q_1 = some (.inl (G.2 4, 60, .inl (fun _ => 0))) := by rw [eM_62, hp_up_n (hp_ne ha_54 ho_53 (by simp))]; exact ha_54
  have ha_64 : M_61 q_15 = some (.inl (G.2 4, 60, .inl (fun _ => 0))) := by rw [eM_62, hp_up_n (hp_ne ha_55 ho_53 (by simp))]; exact ha_55
  have ha_65 : M_61 q_31 = some (.inl (G.2 5, 2400, .inr (.inl (fun _ => 0)))) := by rw [eM_62, hp_up_n (hp_ne ha_56 ho_53 (by simp))]; exact ha_56
  have ha_66 : M_61 q_49 = some (.inl (G.2 4, 30, .inl (fun _ => 0))) := by rw [eM_62, hp_up_n (hp_ne ho_57 ho_53 (by simp))]; exact ho_57
  have eM_62_s : M_61 mo = some (.inr (9, [.int 0, .int 0, .ref q_1, .ref q_15, .ref q_31, .int 0, .ref q_49, .null, .int 0, .null, .null, .int 0, .int 0, .int 0, .int 0, .int 0, .null, .null, .long 0, .null, .int 0, .null, .null, .null, .null, .null, .null, .int 0, .int 0, .int 0, .int 0, .int 0, .null])) := by rw [eM_62]; exact hp_up_s
  have fr_67 := hp_fr.set fr_58 (Or.inl rfl) eM_62
  have ad_68 := hp_ad.set ad_60 eM_62
  refine V_aload_n C dX20_init_37 rfl 0 rfl ?_
  refine V_bipush (v := 30) C dX20_init_38 rfl ?_
  refine V_new_i C q539 (N' := 30) (by decide) (by decide) (by decide) (by first | exact Nat.le_of_ble_eq_true rfl | omega | (dsimp only; omega)) (by first | exact Nat.le_of_ble_eq_true rfl | omega | (dsimp only; omega)) dX20_init_40 (fun q_69 hq_70 => ?_)
  obtain ⟨M_71, eM_72⟩ : ∃ z, z = hp_up M_61 q_69 ((.inl (G.2 4, 30, .inl (fun _ => 0)))) := ⟨_, rfl⟩
  refine V_heap (M' := M_71) eM_72.symm ?_
  have ho_73 : M_71 mo = some (.inr (9, [.int 0, .int 0, .ref q_1, .ref q_15, .ref q_31, .int 0, .ref q_49, .null, .int 0, .null, .null, .int 0, .int 0, .int 0, .int 0, .int 0, .null, .null, .long 0, .null, .int 0, .null, .null, .null, .null, .null, .null, .int 0, .int 0, .int 0, .int 0, .int 0, .null])) := by rw [eM_72, hp_up_n (hp_ne0 eM_62_s hq_70)]; exact eM_62_s
  have ha_74 : M_71 q_1 = some (.inl (G.2 4, 60, .inl (fun _ => 0))) := by rw [eM_72, hp_up_n (hp_ne0 ha_63 hq_70)]; exact ha_63
  have ha_75 : M_71 q_15 = some (.inl (G.2 4, 60, .inl (fun _ => 0))) := by rw [eM_72, hp_up_n (hp_ne0 ha_64 hq_70)]; exact ha_64
  have ha_76 : M_71 q_31 = some (.inl (G.2 5, 2400, .inr (.inl (fun _ => 0)))) := by rw [eM_72, hp_up_n (hp_ne0 ha_65 hq_70)]; exact ha_65
  have ha_77 : M_71 q_49 = some (.inl (G.2 4, 30, .inl (fun _ => 0))) := by rw [eM_72, hp_up_n (hp_ne0 ha_66 hq_70)]; exact ha_66
  have ho_78 : M_71 q_69 = some ((.inl (G.2 4, 30, .inl (fun _ => 0)))) := by rw [eM_72]; exact hp_up_s
  have fr_79 := hp_fr.new fr_67 hq_70 eM_72
  have nn_80 := hp_fr.nn fr_67 hq_70
  have ad_81 := hp_ad.new ad_68 hq_70 eM_72
  refine V_putF C hname f_X20_23_9 ho_73 rfl rfl (Nat.le_of_ble_eq_true rfl) dX20_init_42 ?_
  obtain ⟨M_82, eM_83⟩ : ∃ z, z = hp_up M_71 mo (.inr (9, [.int 0, .int 0, .ref q_1, .ref q_15, .ref q_31, .int 0, .ref q_49, .ref q_69, .int 0, .null, .null, .int 0, .int 0, .int 0, .int 0, .int 0, .null, .null, .long 0, .null, .int 0, .null, .null, .null, .null, .null, .null, .int 0, .int 0, .int 0, .int 0, .int 0, .null])) := ⟨_, rfl⟩
  refine V_heap (M' := M_82) eM_83.symm ?_
  have ha_84 : M_82 q_1 = some (.inl (G.2 4, 60, .inl (fun _ => 0))) := by rw [eM_83, hp_up_n (hp_ne ha_74 ho_73 (by simp))]; exact ha_74
  have ha_85 : M_82 q_15 = some (.inl (G.2 4, 60, .inl (fun _ => 0))) := by rw [eM_83, hp_up_n (hp_ne ha_75 ho_73 (by simp))]; exact ha_75
  have ha_86 : M_82 q_31 = some (.inl (G.2 5, 2400, .inr (.inl (fun _ => 0)))) := by rw [eM_83, hp_up_n (hp_ne ha_76 ho_73 (by simp))]; exact ha_76
  have ha_87 : M_82 q_49 = some (.inl (G.2 4, 30, .inl (fun _ => 0))) := by rw [eM_83, hp_up_n (hp_ne ha_77 ho_73 (by simp))]; exact ha_77
  have ha_88 : M_82 q_69 = some (.inl (G.2 4, 30, .inl (fun _ => 0))) := by rw [eM_83, hp_up_n (hp_ne ho_78 ho_73 (by simp))]; exact ho_78
  have eM_83_s : M_82 mo = some (.inr (9, [.int 0, .int 0, .ref q_1, .ref q_15, .ref q_31, .int 0, .ref q_49, .ref q_69, .int 0, .null, .null, .int 0, .int 0, .int 0, .int 0, .int 0, .null, .null, .long 0, .null, .int 0, .null, .null, .null, .null, .null, .null, .int 0, .int 0, .int 0, .int 0, .int 0, .null])) := by rw [eM_83]; exact hp_up_s
  have fr_89 := hp_fr.set fr_79 (Or.inl rfl) eM_83
  have ad_90 := hp_ad.set ad_81 eM_83
  refine V_aload_n C dX20_init_45 rfl 0 rfl ?_
  refine V_pc (pc1 := 46) rfl ?_
  refine V_sipush (v := 8000) C dX20_init_46 rfl ?_
  refine V_new_i C q539 (N' := 8000) (by decide) (by decide) (by decide) (by first | exact Nat.le_of_ble_eq_true rfl | omega | (dsimp only; omega)) (by first | exact Nat.le_of_ble_eq_true rfl | omega | (dsimp only; omega)) dX20_init_49 (fun q_91 hq_92 => ?_)
  obtain ⟨M_93, eM_94⟩ : ∃ z, z = hp_up M_82 q_91 ((.inl (G.2 4, 8000, .inl (fun _ => 0)))) := ⟨_, rfl⟩
  refine V_heap (M' := M_93) eM_94.symm ?_
  have ho_95 : M_93 mo = some (.inr (9, [.int 0, .int 0, .ref q_1, .ref q_15, .ref q_31, .int 0, .ref q_49, .ref q_69, .int 0, .null, .null, .int 0, .int 0, .int 0, .int 0, .int 0, .null, .null, .long 0, .null, .int 0, .null, .null, .null, .null, .null, .null, .int 0, .int 0, .int 0, .int 0, .int 0, .null])) := by rw [eM_94, hp_up_n (hp_ne0 eM_83_s hq_92)]; exact eM_83_s
  have ha_96 : M_93 q_1 = some (.inl (G.2 4, 60, .inl (fun _ => 0))) := by rw [eM_94, hp_up_n (hp_ne0 ha_84 hq_92)]; exact ha_84
  have ha_97 : M_93 q_15 = some (.inl (G.2 4, 60, .inl (fun _ => 0))) := by rw [eM_94, hp_up_n (hp_ne0 ha_85 hq_92)]; exact ha_85
  have ha_98 : M_93 q_31 = some (.inl (G.2 5, 2400, .inr (.inl (fun _ => 0)))) := by rw [eM_94, hp_up_n (hp_ne0 ha_86 hq_92)]; exact ha_86
  have ha_99 : M_93 q_49 = some (.inl (G.2 4, 30, .inl (fun _ => 0))) := by rw [eM_94, hp_up_n (hp_ne0 ha_87 hq_92)]; exact ha_87
  have ha_100 : M_93 q_69 = some (.inl (G.2 4, 30, .inl (fun _ => 0))) := by rw [eM_94, hp_up_n (hp_ne0 ha_88 hq_92)]; exact ha_88
  have ho_101 : M_93 q_91 = some ((.inl (G.2 4, 8000, .inl (fun _ => 0)))) := by rw [eM_94]; exact hp_up_s
  have fr_102 := hp_fr.new fr_89 hq_92 eM_94
  have nn_103 := hp_fr.nn fr_89 hq_92
  have ad_104 := hp_ad.new ad_90 hq_92 eM_94
  refine V_putF C hname f_X20_26_9 ho_95 rfl rfl (Nat.le_of_ble_eq_true rfl) dX20_init_51 ?_
  obtain ⟨M_105, eM_106⟩ : ∃ z, z = hp_up M_93 mo (.inr (9, [.int 0, .int 0, .ref q_1, .ref q_15, .ref q_31, .int 0, .ref q_49, .ref q_69, .int 0, .ref q_91, .null, .int 0, .int 0, .int 0, .int 0, .int 0, .null, .null, .long 0, .null, .int 0, .null, .null, .null, .null, .null, .null, .int 0, .int 0, .int 0, .int 0, .int 0, .null])) := ⟨_, rfl⟩
  refine V_heap (M' := M_105) eM_106.symm ?_
  have ha_107 : M_105 q_1 = some (.inl (G.2 4, 60, .inl (fun _ => 0))) := by rw [eM_106, hp_up_n (hp_ne ha_96 ho_95 (by simp))]; exact ha_96
  have ha_108 : M_105 q_15 = some (.inl (G.2 4, 60, .inl (fun _ => 0))) := by rw [eM_106, hp_up_n (hp_ne ha_97 ho_95 (by simp))]; exact ha_97
  have ha_109 : M_105 q_31 = some (.inl (G.2 5, 2400, .inr (.inl (fun _ => 0)))) := by rw [eM_106, hp_up_n (hp_ne ha_98 ho_95 (by simp))]; exact ha_98
  have ha_110 : M_105 q_49 = some (.inl (G.2 4, 30, .inl (fun _ => 0))) := by rw [eM_106, hp_up_n (hp_ne ha_99 ho_95 (by simp))]; exact ha_99
  have ha_111 : M_105 q_69 = some (.inl (G.2 4, 30, .inl (fun _ => 0))) := by rw [eM_106, hp_up_n (hp_ne ha_100 ho_95 (by simp))]; exact ha_100
  have ha_112 : M_105 q_91 = some (.inl (G.2 4, 8000, .inl (fun _ => 0))) := by rw [eM_106, hp_up_n (hp_ne ho_101 ho_95 (by simp))]; exact ho_101
  have eM_106_s : M_105 mo = some (.inr (9, [.int 0, .int 0, .ref q_1, .ref q_15, .ref q_31, .int 0, .ref q_49, .ref q_69, .int 0, .ref q_91, .null, .int 0, .int 0, .int 0, .int 0, .int 0, .null, .null, .long 0, .null, .int 0, .null, .null, .null, .null, .null, .null, .int 0, .int 0, .int 0, .int 0, .int 0, .null])) := by rw [eM_106]; exact hp_up_s
  have fr_113 := hp_fr.set fr_102 (Or.inl rfl) eM_106
  have ad_114 := hp_ad.set ad_104 eM_106
  refine V_aload_n C dX20_init_54 rfl 0 rfl ?_
  refine V_ldc (v := 320000) C (C.w q1478) dX20_init_55 ?_
  refine V_new_i C q539 (N' := 320000) (by decide) (by decide) (by decide) (by first | exact Nat.le_of_ble_eq_true rfl | omega | (dsimp only; omega)) (by first | exact Nat.le_of_ble_eq_true rfl | omega | (dsimp only; omega)) dX20_init_57 (fun q_115 hq_116 => ?_)
  obtain ⟨M_117, eM_118⟩ : ∃ z, z = hp_up M_105 q_115 ((.inl (G.2 4, 320000, .inl (fun _ => 0)))) := ⟨_, rfl⟩
  refine V_heap (M' := M_117) eM_118.symm ?_
  have ho_119 : M_117 mo = some (.inr (9, [.int 0, .int 0, .ref q_1, .ref q_15, .ref q_31, .int 0, .ref q_49, .ref q_69, .int 0, .ref q_91, .null, .int 0, .int 0, .int 0, .int 0, .int 0, .null, .null, .long 0, .null, .int 0, .null, .null, .null, .null, .null, .null, .int 0, .int 0, .int 0, .int 0, .int 0, .null])) := by rw [eM_118, hp_up_n (hp_ne0 eM_106_s hq_116)]; exact eM_106_s
  have ha_120 : M_117 q_1 = some (.inl (G.2 4, 60, .inl (fun _ => 0))) := by rw [eM_118, hp_up_n (hp_ne0 ha_107 hq_116)]; exact ha_107
  have ha_121 : M_117 q_15 = some (.inl (G.2 4, 60, .inl (fun _ => 0))) := by rw [eM_118, hp_up_n (hp_ne0 ha_108 hq_116)]; exact ha_108
  have ha_122 : M_117 q_31 = some (.inl (G.2 5, 2400, .inr (.inl (fun _ => 0)))) := by rw [eM_118, hp_up_n (hp_ne0 ha_109 hq_116)]; exact ha_109
  have ha_123 : M_117 q_49 = some (.inl (G.2 4, 30, .inl (fun _ => 0))) := by rw [eM_118, hp_up_n (hp_ne0 ha_110 hq_116)]; exact ha_110
  have ha_124 : M_117 q_69 = some (.inl (G.2 4, 30, .inl (fun _ => 0))) := by rw [eM_118, hp_up_n (hp_ne0 ha_111 hq_116)]; exact ha_111
  have ha_125 : M_117 q_91 = some (.inl (G.2 4, 8000, .inl (fun _ => 0))) := by rw [eM_118, hp_up_n (hp_ne0 ha_112 hq_116)]; exact ha_112
  have ho_126 : M_117 q_115 = some ((.inl (G.2 4, 320000, .inl (fun _ => 0)))) := by rw [eM_118]; exact hp_up_s
  have fr_127 := hp_fr.new fr_113 hq_116 eM_118
  have nn_128 := hp_fr.nn fr_113 hq_116
  have ad_129 := hp_ad.new ad_114 hq_116 eM_118
  refine V_putF C hname f_X20_30_9 ho_119 rfl rfl (Nat.le_of_ble_eq_true rfl) dX20_init_59 ?_
  obtain ⟨M_130, eM_131⟩ : ∃ z, z = hp_up M_117 mo (.inr (9, [.int 0, .int 0, .ref q_1, .ref q_15, .ref q_31, .int 0, .ref q_49, .ref q_69, .int 0, .ref q_91, .ref q_115, .int 0, .int 0, .int 0, .int 0, .int 0, .null, .null, .long 0, .null, .int 0, .null, .null, .null, .null, .null, .null, .int 0, .int 0, .int 0, .int 0, .int 0, .null])) := ⟨_, rfl⟩
  refine V_heap (M' := M_130) eM_131.symm ?_
  have ha_132 : M_130 q_1 = some (.inl (G.2 4, 60, .inl (fun _ => 0))) := by rw [eM_131, hp_up_n (hp_ne ha_120 ho_119 (by simp))]; exact ha_120
  have ha_133 : M_130 q_15 = some (.inl (G.2 4, 60, .inl (fun _ => 0))) := by rw [eM_131, hp_up_n (hp_ne ha_121 ho_119 (by simp))]; exact ha_121
  have ha_134 : M_130 q_31 = some (.inl (G.2 5, 2400, .inr (.inl (fun _ => 0)))) := by rw [eM_131, hp_up_n (hp_ne ha_122 ho_119 (by simp))]; exact ha_122
  have ha_135 : M_130 q_49 = some (.inl (G.2 4, 30, .inl (fun _ => 0))) := by rw [eM_131, hp_up_n (hp_ne ha_123 ho_119 (by simp))]; exact ha_123
  have ha_136 : M_130 q_69 = some (.inl (G.2 4, 30, .inl (fun _ => 0))) := by rw [eM_131, hp_up_n (hp_ne ha_124 ho_119 (by simp))]; exact ha_124
  have ha_137 : M_130 q_91 = some (.inl (G.2 4, 8000, .inl (fun _ => 0))) := by rw [eM_131, hp_up_n (hp_ne ha_125 ho_119 (by simp))]; exact ha_125
  have ha_138 : M_130 q_115 = some (.inl (G.2 4, 320000, .inl (fun _ => 0))) := by rw [eM_131, hp_up_n (hp_ne ho_126 ho_119 (by simp))]; exact ho_126
  have eM_131_s : M_130 mo = some (.inr (9, [.int 0, .int 0, .ref q_1, .ref q_15, .ref q_31, .int 0, .ref q_49, .ref q_69, .int 0, .ref q_91, .ref q_115, .int 0, .int 0, .int 0, .int 0, .int 0, .null, .null, .long 0, .null, .int 0, .null, .null, .null, .null, .null, .null, .int 0, .int 0, .int 0, .int 0, .int 0, .null])) := by rw [eM_131]; exact hp_up_s
  have fr_139 := hp_fr.set fr_127 (Or.inl rfl) eM_131
  have ad_140 := hp_ad.set ad_129 eM_131
  refine V_aload_n C dX20_init_62 rfl 0 rfl ?_
  refine V_bipush (v := 6) C dX20_init_63 rfl ?_
  refine V_new_i C q539 (N' := 6) (by decide) (by decide) (by decide) (by first | exact Nat.le_of_ble_eq_true rfl | omega | (dsimp only; omega)) (by first | exact Nat.le_of_ble_eq_true rfl | omega | (dsimp only; omega)) dX20_init_65 (fun q_141 hq_142 => ?_)
  obtain ⟨M_143, eM_144⟩ : ∃ z, z = hp_up M_130 q_141 ((.inl (G.2 4, 6, .inl (fun _ => 0)))) := ⟨_, rfl⟩
  refine V_heap (M' := M_143) eM_144.symm ?_
  have ho_145 : M_143 mo = some (.inr (9, [.int 0, .int 0, .ref q_1, .ref q_15, .ref q_31, .int 0, .ref q_49, .ref q_69, .int 0, .ref q_91, .ref q_115, .int 0, .int 0, .int 0, .int 0, .int 0, .null, .null, .long 0, .null, .int 0, .null, .null, .null, .null, .null, .null, .int 0, .int 0, .int 0, .int 0, .int 0, .null])) := by rw [eM_144, hp_up_n (hp_ne0 eM_131_s hq_142)]; exact eM_131_s
  have ha_146 : M_143 q_1 = some (.inl (G.2 4, 60, .inl (fun _ => 0))) := by rw [eM_144, hp_up_n (hp_ne0 ha_132 hq_142)]; exact ha_132
  have ha_147 : M_143 q_15 = some (.inl (G.2 4, 60, .inl (fun _ => 0))) := by rw [eM_144, hp_up_n (hp_ne0 ha_133 hq_142)]; exact ha_133
  have ha_148 : M_143 q_31 = some (.inl (G.2 5, 2400, .inr (.inl (fun _ => 0)))) := by rw [eM_144, hp_up_n (hp_ne0 ha_134 hq_142)]; exact ha_134
  have ha_149 : M_143 q_49 = some (.inl (G.2 4, 30, .inl (fun _ => 0))) := by rw [eM_144, hp_up_n (hp_ne0 ha_135 hq_142)]; exact ha_135
  have ha_150 : M_143 q_69 = some (.inl (G.2 4, 30, .inl (fun _ => 0))) := by rw [eM_144, hp_up_n (hp_ne0 ha_136 hq_142)]; exact ha_136
  have ha_151 : M_143 q_91 = some (.inl (G.2 4, 8000, .inl (fun _ => 0))) := by rw [eM_144, hp_up_n (hp_ne0 ha_137 hq_142)]; exact ha_137
  have ha_152 : M_143 q_115 = some (.inl (G.2 4, 320000, .inl (fun _ => 0))) := by rw [eM_144, hp_up_n (hp_ne0 ha_138 hq_142)]; exact ha_138
  have ho_153 : M_143 q_141 = some ((.inl (G.2 4, 6, .inl (fun _ => 0)))) := by rw [eM_144]; exact hp_up_s
  have fr_154 := hp_fr.new fr_139 hq_142 eM_144
  have nn_155 := hp_fr.nn fr_139 hq_142
  have ad_156 := hp_ad.new ad_140 hq_142 eM_144
  refine V_putF C hname f_X20_33_9 ho_145 rfl rfl (Nat.le_of_ble_eq_true rfl) dX20_init_67 ?_
  obtain ⟨M_157, eM_158⟩ : ∃ z, z = hp_up M_143 mo (.inr (9, [.int 0, .int 0, .ref q_1, .ref q_15, .ref q_31, .int 0, .ref q_49, .ref q_69, .int 0, .ref q_91, .ref q_115, .int 0, .int 0, .int 0, .int 0, .int 0, .ref q_141, .null, .long 0, .null, .int 0, .null, .null, .null, .null, .null, .null, .int 0, .int 0, .int 0, .int 0, .int 0, .null])) := ⟨_, rfl⟩
  refine V_heap (M' := M_157) eM_158.symm ?_
  have ha_159 : M_157 q_1 = some (.inl (G.2 4, 60, .inl (fun _ => 0))) := by rw [eM_158, hp_up_n (hp_ne ha_146 ho_145 (by simp))]; exact ha_146
  have ha_160 : M_157 q_15 = some (.inl (G.2 4, 60, .inl (fun _ => 0))) := by rw [eM_158, hp_up_n (hp_ne ha_147 ho_145 (by simp))]; exact ha_147
  have ha_161 : M_157 q_31 = some (.inl (G.2 5, 2400, .inr (.inl (fun _ => 0)))) := by rw [eM_158, hp_up_n (hp_ne ha_148 ho_145 (by simp))]; exact ha_148
  have ha_162 : M_157 q_49 = some (.inl (G.2 4, 30, .inl (fun _ => 0))) := by rw [eM_158, hp_up_n (hp_ne ha_149 ho_145 (by simp))]; exact ha_149
  have ha_163 : M_157 q_69 = some (.inl (G.2 4, 30, .inl (fun _ => 0))) := by rw [eM_158, hp_up_n (hp_ne ha_150 ho_145 (by simp))]; exact ha_150
  have ha_164 : M_157 q_91 = some (.inl (G.2 4, 8000, .inl (fun _ => 0))) := by rw [eM_158, hp_up_n (hp_ne ha_151 ho_145 (by simp))]; exact ha_151
  have ha_165 : M_157 q_115 = some (.inl (G.2 4, 320000, .inl (fun _ => 0))) := by rw [eM_158, hp_up_n (hp_ne ha_152 ho_145 (by simp))]; exact ha_152
  have ha_166 : M_157 q_141 = some (.inl (G.2 4, 6, .inl (fun _ => 0))) := by rw [eM_158, hp_up_n (hp_ne ho_153 ho_145 (by simp))]; exact ho_153
  have eM_158_s : M_157 mo = some (.inr (9, [.int 0, .int 0, .ref q_1, .ref q_15, .ref q_31, .int 0, .ref q_49, .ref q_69, .int 0, .ref q_91, .ref q_115, .int 0, .int 0, .int 0, .int 0, .int 0, .ref q_141, .null, .long 0, .null, .int 0, .null, .null, .null, .null, .null, .null, .int 0, .int 0, .int 0, .int 0, .int 0, .null])) := by rw [eM_158]; exact hp_up_s
  have fr_167 := hp_fr.set fr_154 (Or.inl rfl) eM_158
  have ad_168 := hp_ad.set ad_156 eM_158
  refine V_aload_n C dX20_init_70 rfl 0 rfl ?_
  refine V_pc (pc1 := 71) rfl ?_
  refine V_sipush (v := 432) C dX20_init_71 rfl ?_
  refine V_new_i C q539 (N' := 432) (by decide) (by decide) (by decide) (by first | exact Nat.le_of_ble_eq_true rfl | omega | (dsimp only; omega)) (by first | exact Nat.le_of_ble_eq_true rfl | omega | (dsimp only; omega)) dX20_init_74 (fun q_169 hq_170 => ?_)
  obtain ⟨M_171, eM_172⟩ : ∃ z, z = hp_up M_157 q_169 ((.inl (G.2 4, 432, .inl (fun _ => 0)))) := ⟨_, rfl⟩
  refine V_heap (M' := M_171) eM_172.symm ?_
  have ho_173 : M_171 mo = some (.inr (9, [.int 0, .int 0, .ref q_1, .ref q_15, .ref q_31, .int 0, .ref q_49, .ref q_69, .int 0, .ref q_91, .ref q_115, .int 0, .int 0, .int 0, .int 0, .int 0, .ref q_141, .null, .long 0, .null, .int 0, .null, .null, .null, .null, .null, .null, .int 0, .int 0, .int 0, .int 0, .int 0, .null])) := by rw [eM_172, hp_up_n (hp_ne0 eM_158_s hq_170)]; exact eM_158_s
  have ha_174 : M_171 q_1 = some (.inl (G.2 4, 60, .inl (fun _ => 0))) := by rw [eM_172, hp_up_n (hp_ne0 ha_159 hq_170)]; exact ha_159
  have ha_175 : M_171 q_15 = some (.inl (G.2 4, 60, .inl (fun _ => 0))) := by rw [eM_172, hp_up_n (hp_ne0 ha_160 hq_170)]; exact ha_160
  have ha_176 : M_171 q_31 = some (.inl (G.2 5, 2400, .inr (.inl (fun _ => 0)))) := by rw [eM_172, hp_up_n (hp_ne0 ha_161 hq_170)]; exact ha_161
  have ha_177 : M_171 q_49 = some (.inl (G.2 4, 30, .inl (fun _ => 0))) := by rw [eM_172, hp_up_n (hp_ne0 ha_162 hq_170)]; exact ha_162
  have ha_178 : M_171 q_69 = some (.inl (G.2 4, 30, .inl (fun _ => 0))) := by rw [eM_172, hp_up_n (hp_ne0 ha_163 hq_170)]; exact ha_163
  have ha_179 : M_171 q_91 = some (.inl (G.2 4, 8000, .inl (fun _ => 0))) := by rw [eM_172, hp_up_n (hp_ne0 ha_164 hq_170)]; exact ha_164
  have ha_180 : M_171 q_115 = some (.inl (G.2 4, 320000, .inl (fun _ => 0))) := by rw [eM_172, hp_up_n (hp_ne0 ha_165 hq_170)]; exact ha_165
  have ha_181 : M_171 q_141 = some (.inl (G.2 4, 6, .inl (fun _ => 0))) := by rw [eM_172, hp_up_n (hp_ne0 ha_166 hq_170)]; exact ha_166
  have ho_182 : M_171 q_169 = some ((.inl (G.2 4, 432, .inl (fun _ => 0)))) := by rw [eM_172]; exact hp_up_s
  have fr_183 := hp_fr.new fr_167 hq_170 eM_172
  have nn_184 := hp_fr.nn fr_167 hq_170
  have ad_185 := hp_ad.new ad_168 hq_170 eM_172
  refine V_putF C hname f_X20_36_9 ho_173 rfl rfl (Nat.le_of_ble_eq_true rfl) dX20_init_76 ?_
  obtain ⟨M_186, eM_187⟩ : ∃ z, z = hp_up M_171 mo (.inr (9, [.int 0, .int 0, .ref q_1, .ref q_15, .ref q_31, .int 0, .ref q_49, .ref q_69, .int 0, .ref q_91, .ref q_115, .int 0, .int 0, .int 0, .int 0, .int 0, .ref q_141, .ref q_169, .long 0, .null, .int 0, .null, .null, .null, .null, .null, .null, .int 0, .int 0, .int 0, .int 0, .int 0, .null])) := ⟨_, rfl⟩
  refine V_heap (M' := M_186) eM_187.symm ?_
  have ha_188 : M_186 q_1 = some (.inl (G.2 4, 60, .inl (fun _ => 0))) := by rw [eM_187, hp_up_n (hp_ne ha_174 ho_173 (by simp))]; exact ha_174
  have ha_189 : M_186 q_15 = some (.inl (G.2 4, 60, .inl (fun _ => 0))) := by rw [eM_187, hp_up_n (hp_ne ha_175 ho_173 (by simp))]; exact ha_175
  have ha_190 : M_186 q_31 = some (.inl (G.2 5, 2400, .inr (.inl (fun _ => 0)))) := by rw [eM_187, hp_up_n (hp_ne ha_176 ho_173 (by simp))]; exact ha_176
  have ha_191 : M_186 q_49 = some (.inl (G.2 4, 30, .inl (fun _ => 0))) := by rw [eM_187, hp_up_n (hp_ne ha_177 ho_173 (by simp))]; exact ha_177
  have ha_192 : M_186 q_69 = some (.inl (G.2 4, 30, .inl (fun _ => 0))) := by rw [eM_187, hp_up_n (hp_ne ha_178 ho_173 (by simp))]; exact ha_178
  have ha_193 : M_186 q_91 = some (.inl (G.2 4, 8000, .inl (fun _ => 0))) := by rw [eM_187, hp_up_n (hp_ne ha_179 ho_173 (by simp))]; exact ha_179
  have ha_194 : M_186 q_115 = some (.inl (G.2 4, 320000, .inl (fun _ => 0))) := by rw [eM_187, hp_up_n (hp_ne ha_180 ho_173 (by simp))]; exact ha_180
  have ha_195 : M_186 q_141 = some (.inl (G.2 4, 6, .inl (fun _ => 0))) := by rw [eM_187, hp_up_n (hp_ne ha_181 ho_173 (by simp))]; exact ha_181
  have ha_196 : M_186 q_169 = some (.inl (G.2 4, 432, .inl (fun _ => 0))) := by rw [eM_187, hp_up_n (hp_ne ho_182 ho_173 (by simp))]; exact ho_182
  have eM_187_s : M_186 mo = some (.inr (9, [.int 0, .int 0, .ref q_1, .ref q_15, .ref q_31, .int 0, .ref q_49, .ref q_69, .int 0, .ref q_91, .ref q_115, .int 0, .int 0, .int 0, .int 0, .int 0, .ref q_141, .ref q_169, .long 0, .null, .int 0, .null, .null, .null, .null, .null, .null, .int 0, .int 0, .int 0, .int 0, .int 0, .null])) := by rw [eM_187]; exact hp_up_s
  have fr_197 := hp_fr.set fr_183 (Or.inl rfl) eM_187
  have ad_198 := hp_ad.set ad_185 eM_187
  refine V_aload_n C dX20_init_79 rfl 0 rfl ?_
  refine V_bipush (v := 40) C dX20_init_80 rfl ?_
  refine V_new_l C q442 (N' := 40) (by decide) (by decide) (by decide) (by first | exact Nat.le_of_ble_eq_true rfl | omega | (dsimp only; omega)) (by first | exact Nat.le_of_ble_eq_true rfl | omega | (dsimp only; omega)) dX20_init_82 (fun q_199 hq_200 => ?_)
  obtain ⟨M_201, eM_202⟩ : ∃ z, z = hp_up M_186 q_199 ((.inl (G.2 5, 40, .inr (.inl (fun _ => 0))))) := ⟨_, rfl⟩
  refine V_heap (M' := M_201) eM_202.symm ?_
  have ho_203 : M_201 mo = some (.inr (9, [.int 0, .int 0, .ref q_1, .ref q_15, .ref q_31, .int 0, .ref q_49, .ref q_69, .int 0, .ref q_91, .ref q_115, .int 0, .int 0, .int 0, .int 0, .int 0, .ref q_141, .ref q_169, .long 0, .null, .int 0, .null, .null, .null, .null, .null, .null, .int 0, .int 0, .int 0, .int 0, .int 0, .null])) := by rw [eM_202, hp_up_n (hp_ne0 eM_187_s hq_200)]; exact eM_187_s
  have ha_204 : M_201 q_1 = some (.inl (G.2 4, 60, .inl (fun _ => 0))) := by rw [eM_202, hp_up_n (hp_ne0 ha_188 hq_200)]; exact ha_188
  have ha_205 : M_201 q_15 = some (.inl (G.2 4, 60, .inl (fun _ => 0))) := by rw [eM_202, hp_up_n (hp_ne0 ha_189 hq_200)]; exact ha_189
  have ha_206 : M_201 q_31 = some (.inl (G.2 5, 2400, .inr (.inl (fun _ => 0)))) := by rw [eM_202, hp_up_n (hp_ne0 ha_190 hq_200)]; exact ha_190
  have ha_207 : M_201 q_49 = some (.inl (G.2 4, 30, .inl (fun _ => 0))) := by rw [eM_202, hp_up_n (hp_ne0 ha_191 hq_200)]; exact ha_191
  have ha_208 : M_201 q_69 = some (.inl (G.2 4, 30, .inl (fun _ => 0))) := by rw [eM_202, hp_up_n (hp_ne0 ha_192 hq_200)]; exact ha_192
  have ha_209 : M_201 q_91 = some (.inl (G.2 4, 8000, .inl (fun _ => 0))) := by rw [eM_202, hp_up_n (hp_ne0 ha_193 hq_200)]; exact ha_193
  have ha_210 : M_201 q_115 = some (.inl (G.2 4, 320000, .inl (fun _ => 0))) := by rw [eM_202, hp_up_n (hp_ne0 ha_194 hq_200)]; exact ha_194
  have ha_211 : M_201 q_141 = some (.inl (G.2 4, 6, .inl (fun _ => 0))) := by rw [eM_202, hp_up_n (hp_ne0 ha_195 hq_200)]; exact ha_195
  have ha_212 : M_201 q_169 = some (.inl (G.2 4, 432, .inl (fun _ => 0))) := by rw [eM_202, hp_up_n (hp_ne0 ha_196 hq_200)]; exact ha_196
  have ho_213 : M_201 q_199 = some ((.inl (G.2 5, 40, .inr (.inl (fun _ => 0))))) := by rw [eM_202]; exact hp_up_s
  have fr_214 := hp_fr.new fr_197 hq_200 eM_202
  have nn_215 := hp_fr.nn fr_197 hq_200
  have ad_216 := hp_ad.new ad_198 hq_200 eM_202
  refine V_putF C hname f_X20_39_9 ho_203 rfl rfl (Nat.le_of_ble_eq_true rfl) dX20_init_84 ?_
  obtain ⟨M_217, eM_218⟩ : ∃ z, z = hp_up M_201 mo (.inr (9, [.int 0, .int 0, .ref q_1, .ref q_15, .ref q_31, .int 0, .ref q_49, .ref q_69, .int 0, .ref q_91, .ref q_115, .int 0, .int 0, .int 0, .int 0, .int 0, .ref q_141, .ref q_169, .long 0, .ref q_199, .int 0, .null, .null, .null, .null, .null, .null, .int 0, .int 0, .int 0, .int 0, .int 0, .null])) := ⟨_, rfl⟩
  refine V_heap (M' := M_217) eM_218.symm ?_
  have ha_219 : M_217 q_1 = some (.inl (G.2 4, 60, .inl (fun _ => 0))) := by rw [eM_218, hp_up_n (hp_ne ha_204 ho_203 (by simp))]; exact ha_204
  have ha_220 : M_217 q_15 = some (.inl (G.2 4, 60, .inl (fun _ => 0))) := by rw [eM_218, hp_up_n (hp_ne ha_205 ho_203 (by simp))]; exact ha_205
  have ha_221 : M_217 q_31 = some (.inl (G.2 5, 2400, .inr (.inl (fun _ => 0)))) := by rw [eM_218, hp_up_n (hp_ne ha_206 ho_203 (by simp))]; exact ha_206
  have ha_222 : M_217 q_49 = some (.inl (G.2 4, 30, .inl (fun _ => 0))) := by rw [eM_218, hp_up_n (hp_ne ha_207 ho_203 (by simp))]; exact ha_207
  have ha_223 : M_217 q_69 = some (.inl (G.2 4, 30, .inl (fun _ => 0))) := by rw [eM_218, hp_up_n (hp_ne ha_208 ho_203 (by simp))]; exact ha_208
  have ha_224 : M_217 q_91 = some (.inl (G.2 4, 8000, .inl (fun _ => 0))) := by rw [eM_218, hp_up_n (hp_ne ha_209 ho_203 (by simp))]; exact ha_209
  have ha_225 : M_217 q_115 = some (.inl (G.2 4, 320000, .inl (fun _ => 0))) := by rw [eM_218, hp_up_n (hp_ne ha_210 ho_203 (by simp))]; exact ha_210
  have ha_226 : M_217 q_141 = some (.inl (G.2 4, 6, .inl (fun _ => 0))) := by rw [eM_218, hp_up_n (hp_ne ha_211 ho_203 (by simp))]; exact ha_211
  have ha_227 : M_217 q_169 = some (.inl (G.2 4, 432, .inl (fun _ => 0))) := by rw [eM_218, hp_up_n (hp_ne ha_212 ho_203 (by simp))]; exact ha_212
  have ha_228 : M_217 q_199 = some (.inl (G.2 5, 40, .inr (.inl (fun _ => 0)))) := by rw [eM_218, hp_up_n (hp_ne ho_213 ho_203 (by simp))]; exact ho_213
  have eM_218_s : M_217 mo = some (.inr (9, [.int 0, .int 0, .ref q_1, .ref q_15, .ref q_31, .int 0, .ref q_49, .ref q_69, .int 0, .ref q_91, .ref q_115, .int 0, .int 0, .int 0, .int 0, .int 0, .ref q_141, .ref q_169, .long 0, .ref q_199, .int 0, .null, .null, .null, .null, .null, .null, .int 0, .int 0, .int 0, .int 0, .int 0, .null])) := by rw [eM_218]; exact hp_up_s
  have fr_229 := hp_fr.set fr_214 (Or.inl rfl) eM_218
  have ad_230 := hp_ad.set ad_216 eM_218
  refine V_aload_n C dX20_init_87 rfl 0 rfl ?_
  refine V_bipush (v := 7) C dX20_init_88 rfl ?_
  refine V_new_i C q539 (N' := 7) (by decide) (by decide) (by decide) (by first | exact Nat.le_of_ble_eq_true rfl | omega | (dsimp only; omega)) (by first | exact Nat.le_of_ble_eq_true rfl | omega | (dsimp only; omega)) dX20_init_90 (fun q_231 hq_232 => ?_)
  obtain ⟨M_233, eM_234⟩ : ∃ z, z = hp_up M_217 q_231 ((.inl (G.2 4, 7, .inl (fun _ => 0)))) := ⟨_, rfl⟩
  refine V_heap (M' := M_233) eM_234.symm ?_
  have ho_235 : M_233 mo = some (.inr (9, [.int 0, .int 0, .ref q_1, .ref q_15, .ref q_31, .int 0, .ref q_49, .ref q_69, .int 0, .ref q_91, .ref q_115, .int 0, .int 0, .int 0, .int 0, .int 0, .ref q_141, .ref q_169, .long 0, .ref q_199, .int 0, .null, .null, .null, .null, .null, .null, .int 0, .int 0, .int 0, .int 0, .int 0, .null])) := by rw [eM_234, hp_up_n (hp_ne0 eM_218_s hq_232)]; exact eM_218_s
  have ha_236 : M_233 q_1 = some (.inl (G.2 4, 60, .inl (fun _ => 0))) := by rw [eM_234, hp_up_n (hp_ne0 ha_219 hq_232)]; exact ha_219
  have ha_237 : M_233 q_15 = some (.inl (G.2 4, 60, .inl (fun _ => 0))) := by rw [eM_234, hp_up_n (hp_ne0 ha_220 hq_232)]; exact ha_220
  have ha_238 : M_233 q_31 = some (.inl (G.2 5, 2400, .inr (.inl (fun _ => 0)))) := by rw [eM_234, hp_up_n (hp_ne0 ha_221 hq_232)]; exact ha_221
  have ha_239 : M_233 q_49 = some (.inl (G.2 4, 30, .inl (fun _ => 0))) := by rw [eM_234, hp_up_n (hp_ne0 ha_222 hq_232)]; exact ha_222
  have ha_240 : M_233 q_69 = some (.inl (G.2 4, 30, .inl (fun _ => 0))) := by rw [eM_234, hp_up_n (hp_ne0 ha_223 hq_232)]; exact ha_223
  have ha_241 : M_233 q_91 = some (.inl (G.2 4, 8000, .inl (fun _ => 0))) := by rw [eM_234, hp_up_n (hp_ne0 ha_224 hq_232)]; exact ha_224
  have ha_242 : M_233 q_115 = some (.inl (G.2 4, 320000, .inl (fun _ => 0))) := by rw [eM_234, hp_up_n (hp_ne0 ha_225 hq_232)]; exact ha_225
  have ha_243 : M_233 q_141 = some (.inl (G.2 4, 6, .inl (fun _ => 0))) := by rw [eM_234, hp_up_n (hp_ne0 ha_226 hq_232)]; exact ha_226
  have ha_244 : M_233 q_169 = some (.inl (G.2 4, 432, .inl (fun _ => 0))) := by rw [eM_234, hp_up_n (hp_ne0 ha_227 hq_232)]; exact ha_227
  have ha_245 : M_233 q_199 = some (.inl (G.2 5, 40, .inr (.inl (fun _ => 0)))) := by rw [eM_234, hp_up_n (hp_ne0 ha_228 hq_232)]; exact ha_228
  have ho_246 : M_233 q_231 = some ((.inl (G.2 4, 7, .inl (fun _ => 0)))) := by rw [eM_234]; exact hp_up_s
  have fr_247 := hp_fr.new fr_229 hq_232 eM_234
  have nn_248 := hp_fr.nn fr_229 hq_232
  have ad_249 := hp_ad.new ad_230 hq_232 eM_234
  refine V_putF C hname f_X20_42_9 ho_235 rfl rfl (Nat.le_of_ble_eq_true rfl) dX20_init_92 ?_
  obtain ⟨M_250, eM_251⟩ : ∃ z, z = hp_up M_233 mo (.inr (9, [.int 0, .int 0, .ref q_1, .ref q_15, .ref q_31, .int 0, .ref q_49, .ref q_69, .int 0, .ref q_91, .ref q_115, .int 0, .int 0, .int 0, .int 0, .int 0, .ref q_141, .ref q_169, .long 0, .ref q_199, .int 0, .ref q_231, .null, .null, .null, .null, .null, .int 0, .int 0, .int 0, .int 0, .int 0, .null])) := ⟨_, rfl⟩
  refine V_heap (M' := M_250) eM_251.symm ?_
  have ha_252 : M_250 q_1 = some (.inl (G.2 4, 60, .inl (fun _ => 0))) := by rw [eM_251, hp_up_n (hp_ne ha_236 ho_235 (by simp))]; exact ha_236
  have ha_253 : M_250 q_15 = some (.inl (G.2 4, 60, .inl (fun _ => 0))) := by rw [eM_251, hp_up_n (hp_ne ha_237 ho_235 (by simp))]; exact ha_237
  have ha_254 : M_250 q_31 = some (.inl (G.2 5, 2400, .inr (.inl (fun _ => 0)))) := by rw [eM_251, hp_up_n (hp_ne ha_238 ho_235 (by simp))]; exact ha_238
  have ha_255 : M_250 q_49 = some (.inl (G.2 4, 30, .inl (fun _ => 0))) := by rw [eM_251, hp_up_n (hp_ne ha_239 ho_235 (by simp))]; exact ha_239
  have ha_256 : M_250 q_69 = some (.inl (G.2 4, 30, .inl (fun _ => 0))) := by rw [eM_251, hp_up_n (hp_ne ha_240 ho_235 (by simp))]; exact ha_240
  have ha_257 : M_250 q_91 = some (.inl (G.2 4, 8000, .inl (fun _ => 0))) := by rw [eM_251, hp_up_n (hp_ne ha_241 ho_235 (by simp))]; exact ha_241
  have ha_258 : M_250 q_115 = some (.inl (G.2 4, 320000, .inl (fun _ => 0))) := by rw [eM_251, hp_up_n (hp_ne ha_242 ho_235 (by simp))]; exact ha_242
  have ha_259 : M_250 q_141 = some (.inl (G.2 4, 6, .inl (fun _ => 0))) := by rw [eM_251, hp_up_n (hp_ne ha_243 ho_235 (by simp))]; exact ha_243
  have ha_260 : M_250 q_169 = some (.inl (G.2 4, 432, .inl (fun _ => 0))) := by rw [eM_251, hp_up_n (hp_ne ha_244 ho_235 (by simp))]; exact ha_244
  have ha_261 : M_250 q_199 = some (.inl (G.2 5, 40, .inr (.inl (fun _ => 0)))) := by rw [eM_251, hp_up_n (hp_ne ha_245 ho_235 (by simp))]; exact ha_245
  have ha_262 : M_250 q_231 = some (.inl (G.2 4, 7, .inl (fun _ => 0))) := by rw [eM_251, hp_up_n (hp_ne ho_246 ho_235 (by simp))]; exact ho_246
  have eM_251_s : M_250 mo = some (.inr (9, [.int 0, .int 0, .ref q_1, .ref q_15, .ref q_31, .int 0, .ref q_49, .ref q_69, .int 0, .ref q_91, .ref q_115, .int 0, .int 0, .int 0, .int 0, .int 0, .ref q_141, .ref q_169, .long 0, .ref q_199, .int 0, .ref q_231, .null, .null, .null, .null, .null, .int 0, .int 0, .int 0, .int 0, .int 0, .null])) := by rw [eM_251]; exact hp_up_s
  have fr_263 := hp_fr.set fr_247 (Or.inl rfl) eM_251
  have ad_264 := hp_ad.set ad_249 eM_251
  refine V_aload_n C dX20_init_95 rfl 0 rfl ?_
  refine V_pc (pc1 := 96) rfl ?_
  refine V_bipush (v := 7) C dX20_init_96 rfl ?_
  refine V_new_i C q539 (N' := 7) (by decide) (by decide) (by decide) (by first | exact Nat.le_of_ble_eq_true rfl | omega | (dsimp only; omega)) (by first | exact Nat.le_of_ble_eq_true rfl | omega | (dsimp only; omega)) dX20_init_98 (fun q_265 hq_266 => ?_)
  obtain ⟨M_267, eM_268⟩ : ∃ z, z = hp_up M_250 q_265 ((.inl (G.2 4, 7, .inl (fun _ => 0)))) := ⟨_, rfl⟩
  refine V_heap (M' := M_267) eM_268.symm ?_
  have ho_269 : M_267 mo = some (.inr (9, [.int 0, .int 0, .ref q_1, .ref q_15, .ref q_31, .int 0, .ref q_49, .ref q_69, .int 0, .ref q_91, .ref q_115, .int 0, .int 0, .int 0, .int 0, .int 0, .ref q_141, .ref q_169, .long 0, .ref q_199, .int 0, .ref q_231, .null, .null, .null, .null, .null, .int 0, .int 0, .int 0, .int 0, .int 0, .null])) := by rw [eM_268, hp_up_n (hp_ne0 eM_251_s hq_266)]; exact eM_251_s
  have ha_270 : M_267 q_1 = some (.inl (G.2 4, 60, .inl (fun _ => 0))) := by rw [eM_268, hp_up_n (hp_ne0 ha_252 hq_266)]; exact ha_252
  have ha_271 : M_267 q_15 = some (.inl (G.2 4, 60, .inl (fun _ => 0))) := by rw [eM_268, hp_up_n (hp_ne0 ha_253 hq_266)]; exact ha_253
  have ha_272 : M_267 q_31 = some (.inl (G.2 5, 2400, .inr (.inl (fun _ => 0)))) := by rw [eM_268, hp_up_n (hp_ne0 ha_254 hq_266)]; exact ha_254
  have ha_273 : M_267 q_49 = some (.inl (G.2 4, 30, .inl (fun _ => 0))) := by rw [eM_268, hp_up_n (hp_ne0 ha_255 hq_266)]; exact ha_255
  have ha_274 : M_267 q_69 = some (.inl (G.2 4, 30, .inl (fun _ => 0))) := by rw [eM_268, hp_up_n (hp_ne0 ha_256 hq_266)]; exact ha_256
  have ha_275 : M_267 q_91 = some (.inl (G.2 4, 8000, .inl (fun _ => 0))) := by rw [eM_268, hp_up_n (hp_ne0 ha_257 hq_266)]; exact ha_257
  have ha_276 : M_267 q_115 = some (.inl (G.2 4, 320000, .inl (fun _ => 0))) := by rw [eM_268, hp_up_n (hp_ne0 ha_258 hq_266)]; exact ha_258
  have ha_277 : M_267 q_141 = some (.inl (G.2 4, 6, .inl (fun _ => 0))) := by rw [eM_268, hp_up_n (hp_ne0 ha_259 hq_266)]; exact ha_259
  have ha_278 : M_267 q_169 = some (.inl (G.2 4, 432, .inl (fun _ => 0))) := by rw [eM_268, hp_up_n (hp_ne0 ha_260 hq_266)]; exact ha_260
  have ha_279 : M_267 q_199 = some (.inl (G.2 5, 40, .inr (.inl (fun _ => 0)))) := by rw [eM_268, hp_up_n (hp_ne0 ha_261 hq_266)]; exact ha_261
  have ha_280 : M_267 q_231 = some (.inl (G.2 4, 7, .inl (fun _ => 0))) := by rw [eM_268, hp_up_n (hp_ne0 ha_262 hq_266)]; exact ha_262
  have ho_281 : M_267 q_265 = some ((.inl (G.2 4, 7, .inl (fun _ => 0)))) := by rw [eM_268]; exact hp_up_s
  have fr_282 := hp_fr.new fr_263 hq_266 eM_268
  have nn_283 := hp_fr.nn fr_263 hq_266
  have ad_284 := hp_ad.new ad_264 hq_266 eM_268
  refine V_putF C hname f_X20_45_9 ho_269 rfl rfl (Nat.le_of_ble_eq_true rfl) dX20_init_100 ?_
  obtain ⟨M_285, eM_286⟩ : ∃ z, z = hp_up M_267 mo (.inr (9, [.int 0, .int 0, .ref q_1, .ref q_15, .ref q_31, .int 0, .ref q_49, .ref q_69, .int 0, .ref q_91, .ref q_115, .int 0, .int 0, .int 0, .int 0, .int 0, .ref q_141, .ref q_169, .long 0, .ref q_199, .int 0, .ref q_231, .ref q_265, .null, .null, .null, .null, .int 0, .int 0, .int 0, .int 0, .int 0, .null])) := ⟨_, rfl⟩
  refine V_heap (M' := M_285) eM_286.symm ?_
  have ha_287 : M_285 q_1 = some (.inl (G.2 4, 60, .inl (fun _ => 0))) := by rw [eM_286, hp_up_n (hp_ne ha_270 ho_269 (by simp))]; exact ha_270
  have ha_288 : M_285 q_15 = some (.inl (G.2 4, 60, .inl (fun _ => 0))) := by rw [eM_286, hp_up_n (hp_ne ha_271 ho_269 (by simp))]; exact ha_271
  have ha_289 : M_285 q_31 = some (.inl (G.2 5, 2400, .inr (.inl (fun _ => 0)))) := by rw [eM_286, hp_up_n (hp_ne ha_272 ho_269 (by simp))]; exact ha_272
  have ha_290 : M_285 q_49 = some (.inl (G.2 4, 30, .inl (fun _ => 0))) := by rw [eM_286, hp_up_n (hp_ne ha_273 ho_269 (by simp))]; exact ha_273
  have ha_291 : M_285 q_69 = some (.inl (G.2 4, 30, .inl (fun _ => 0))) := by rw [eM_286, hp_up_n (hp_ne ha_274 ho_269 (by simp))]; exact ha_274
  have ha_292 : M_285 q_91 = some (.inl (G.2 4, 8000, .inl (fun _ => 0))) := by rw [eM_286, hp_up_n (hp_ne ha_275 ho_269 (by simp))]; exact ha_275
  have ha_293 : M_285 q_115 = some (.inl (G.2 4, 320000, .inl (fun _ => 0))) := by rw [eM_286, hp_up_n (hp_ne ha_276 ho_269 (by simp))]; exact ha_276
  have ha_294 : M_285 q_141 = some (.inl (G.2 4, 6, .inl (fun _ => 0))) := by rw [eM_286, hp_up_n (hp_ne ha_277 ho_269 (by simp))]; exact ha_277
  have ha_295 : M_285 q_169 = some (.inl (G.2 4, 432, .inl (fun _ => 0))) := by rw [eM_286, hp_up_n (hp_ne ha_278 ho_269 (by simp))]; exact ha_278
  have ha_296 : M_285 q_199 = some (.inl (G.2 5, 40, .inr (.inl (fun _ => 0)))) := by rw [eM_286, hp_up_n (hp_ne ha_279 ho_269 (by simp))]; exact ha_279
  have ha_297 : M_285 q_231 = some (.inl (G.2 4, 7, .inl (fun _ => 0))) := by rw [eM_286, hp_up_n (hp_ne ha_280 ho_269 (by simp))]; exact ha_280
  have ha_298 : M_285 q_265 = some (.inl (G.2 4, 7, .inl (fun _ => 0))) := by rw [eM_286, hp_up_n (hp_ne ho_281 ho_269 (by simp))]; exact ho_281
  have eM_286_s : M_285 mo = some (.inr (9, [.int 0, .int 0, .ref q_1, .ref q_15, .ref q_31, .int 0, .ref q_49, .ref q_69, .int 0, .ref q_91, .ref q_115, .int 0, .int 0, .int 0, .int 0, .int 0, .ref q_141, .ref q_169, .long 0, .ref q_199, .int 0, .ref q_231, .ref q_265, .null, .null, .null, .null, .int 0, .int 0, .int 0, .int 0, .int 0, .null])) := by rw [eM_286]; exact hp_up_s
  have fr_299 := hp_fr.set fr_282 (Or.inl rfl) eM_286
  have ad_300 := hp_ad.set ad_284 eM_286
  refine V_aload_n C dX20_init_103 rfl 0 rfl ?_
  refine V_bipush (v := 7) C dX20_init_104 rfl ?_
  refine V_new_i C q539 (N' := 7) (by decide) (by decide) (by decide) (by first | exact Nat.le_of_ble_eq_true rfl | omega | (dsimp only; omega)) (by first | exact Nat.le_of_ble_eq_true rfl | omega | (dsimp only; omega)) dX20_init_106 (fun q_301 hq_302 => ?_)
  obtain ⟨M_303, eM_304⟩ : ∃ z, z = hp_up M_285 q_301 ((.inl (G.2 4, 7, .inl (fun _ => 0)))) := ⟨_, rfl⟩
  refine V_heap (M' := M_303) eM_304.symm ?_
  have ho_305 : M_303 mo = some (.inr (9, [.int 0, .int 0, .ref q_1, .ref q_15, .ref q_31, .int 0, .ref q_49, .ref q_69, .int 0, .ref q_91, .ref q_115, .int 0, .int 0, .int 0, .int 0, .int 0, .ref q_141, .ref q_169, .long 0, .ref q_199, .int 0, .ref q_231, .ref q_265, .null, .null, .null, .null, .int 0, .int 0, .int 0, .int 0, .int 0, .null])) := by rw [eM_304, hp_up_n (hp_ne0 eM_286_s hq_302)]; exact eM_286_s
  have ha_306 : M_303 q_1 = some (.inl (G.2 4, 60, .inl (fun _ => 0))) := by rw [eM_304, hp_up_n (hp_ne0 ha_287 hq_302)]; exact ha_287
  have ha_307 : M_303 q_15 = some (.inl (G.2 4, 60, .inl (fun _ => 0))) := by rw [eM_304, hp_up_n (hp_ne0 ha_288 hq_302)]; exact ha_288
  have ha_308 : M_303 q_31 = some (.inl (G.2 5, 2400, .inr (.inl (fun _ => 0)))) := by rw [eM_304, hp_up_n (hp_ne0 ha_289 hq_302)]; exact ha_289
  have ha_309 : M_303 q_49 = some (.inl (G.2 4, 30, .inl (fun _ => 0))) := by rw [eM_304, hp_up_n (hp_ne0 ha_290 hq_302)]; exact ha_290
  have ha_310 : M_303 q_69 = some (.inl (G.2 4, 30, .inl (fun _ => 0))) := by rw [eM_304, hp_up_n (hp_ne0 ha_291 hq_302)]; exact ha_291
  have ha_311 : M_303 q_91 = some (.inl (G.2 4, 8000, .inl (fun _ => 0))) := by rw [eM_304, hp_up_n (hp_ne0 ha_292 hq_302)]; exact ha_292
  have ha_312 : M_303 q_115 = some (.inl (G.2 4, 320000, .inl (fun _ => 0))) := by rw [eM_304, hp_up_n (hp_ne0 ha_293 hq_302)]; exact ha_293
  have ha_313 : M_303 q_141 = some (.inl (G.2 4, 6, .inl (fun _ => 0))) := by rw [eM_304, hp_up_n (hp_ne0 ha_294 hq_302)]; exact ha_294
  have ha_314 : M_303 q_169 = some (.inl (G.2 4, 432, .inl (fun _ => 0))) := by rw [eM_304, hp_up_n (hp_ne0 ha_295 hq_302)]; exact ha_295
  have ha_315 : M_303 q_199 = some (.inl (G.2 5, 40, .inr (.inl (fun _ => 0)))) := by rw [eM_304, hp_up_n (hp_ne0 ha_296 hq_302)]; exact ha_296
  have ha_316 : M_303 q_231 = some (.inl (G.2 4, 7, .inl (fun _ => 0))) := by rw [eM_304, hp_up_n (hp_ne0 ha_297 hq_302)]; exact ha_297
  have ha_317 : M_303 q_265 = some (.inl (G.2 4, 7, .inl (fun _ => 0))) := by rw [eM_304, hp_up_n (hp_ne0 ha_298 hq_302)]; exact ha_298
  have ho_318 : M_303 q_301 = some ((.inl (G.2 4, 7, .inl (fun _ => 0)))) := by rw [eM_304]; exact hp_up_s
  have fr_319 := hp_fr.new fr_299 hq_302 eM_304
  have nn_320 := hp_fr.nn fr_299 hq_302
  have ad_321 := hp_ad.new ad_300 hq_302 eM_304
  refine V_putF C hname f_X20_48_9 ho_305 rfl rfl (Nat.le_of_ble_eq_true rfl) dX20_init_108 ?_
  obtain ⟨M_322, eM_323⟩ : ∃ z, z = hp_up M_303 mo (.inr (9, [.int 0, .int 0, .ref q_1, .ref q_15, .ref q_31, .int 0, .ref q_49, .ref q_69, .int 0, .ref q_91, .ref q_115, .int 0, .int 0, .int 0, .int 0, .int 0, .ref q_141, .ref q_169, .long 0, .ref q_199, .int 0, .ref q_231, .ref q_265, .ref q_301, .null, .null, .null, .int 0, .int 0, .int 0, .int 0, .int 0, .null])) := ⟨_, rfl⟩
  refine V_heap (M' := M_322) eM_323.symm ?_
  have ha_324 : M_322 q_1 = some (.inl (G.2 4, 60, .inl (fun _ => 0))) := by rw [eM_323, hp_up_n (hp_ne ha_306 ho_305 (by simp))]; exact ha_306
  have ha_325 : M_322 q_15 = some (.inl (G.2 4, 60, .inl (fun _ => 0))) := by rw [eM_323, hp_up_n (hp_ne ha_307 ho_305 (by simp))]; exact ha_307
  have ha_326 : M_322 q_31 = some (.inl (G.2 5, 2400, .inr (.inl (fun _ => 0)))) := by rw [eM_323, hp_up_n (hp_ne ha_308 ho_305 (by simp))]; exact ha_308
  have ha_327 : M_322 q_49 = some (.inl (G.2 4, 30, .inl (fun _ => 0))) := by rw [eM_323, hp_up_n (hp_ne ha_309 ho_305 (by simp))]; exact ha_309
  have ha_328 : M_322 q_69 = some (.inl (G.2 4, 30, .inl (fun _ => 0))) := by rw [eM_323, hp_up_n (hp_ne ha_310 ho_305 (by simp))]; exact ha_310
  have ha_329 : M_322 q_91 = some (.inl (G.2 4, 8000, .inl (fun _ => 0))) := by rw [eM_323, hp_up_n (hp_ne ha_311 ho_305 (by simp))]; exact ha_311
  have ha_330 : M_322 q_115 = some (.inl (G.2 4, 320000, .inl (fun _ => 0))) := by rw [eM_323, hp_up_n (hp_ne ha_312 ho_305 (by simp))]; exact ha_312
  have ha_331 : M_322 q_141 = some (.inl (G.2 4, 6, .inl (fun _ => 0))) := by rw [eM_323, hp_up_n (hp_ne ha_313 ho_305 (by simp))]; exact ha_313
  have ha_332 : M_322 q_169 = some (.inl (G.2 4, 432, .inl (fun _ => 0))) := by rw [eM_323, hp_up_n (hp_ne ha_314 ho_305 (by simp))]; exact ha_314
  have ha_333 : M_322 q_199 = some (.inl (G.2 5, 40, .inr (.inl (fun _ => 0)))) := by rw [eM_323, hp_up_n (hp_ne ha_315 ho_305 (by simp))]; exact ha_315
  have ha_334 : M_322 q_231 = some (.inl (G.2 4, 7, .inl (fun _ => 0))) := by rw [eM_323, hp_up_n (hp_ne ha_316 ho_305 (by simp))]; exact ha_316
  have ha_335 : M_322 q_265 = some (.inl (G.2 4, 7, .inl (fun _ => 0))) := by rw [eM_323, hp_up_n (hp_ne ha_317 ho_305 (by simp))]; exact ha_317
  have ha_336 : M_322 q_301 = some (.inl (G.2 4, 7, .inl (fun _ => 0))) := by rw [eM_323, hp_up_n (hp_ne ho_318 ho_305 (by simp))]; exact ho_318
  have eM_323_s : M_322 mo = some (.inr (9, [.int 0, .int 0, .ref q_1, .ref q_15, .ref q_31, .int 0, .ref q_49, .ref q_69, .int 0, .ref q_91, .ref q_115, .int 0, .int 0, .int 0, .int 0, .int 0, .ref q_141, .ref q_169, .long 0, .ref q_199, .int 0, .ref q_231, .ref q_265, .ref q_301, .null, .null, .null, .int 0, .int 0, .int 0, .int 0, .int 0, .null])) := by rw [eM_323]; exact hp_up_s
  have fr_337 := hp_fr.set fr_319 (Or.inl rfl) eM_323
  have ad_338 := hp_ad.set ad_321 eM_323
  refine V_aload_n C dX20_init_111 rfl 0 rfl ?_
  refine V_bipush (v := 7) C dX20_init_112 rfl ?_
  refine V_new_i C q539 (N' := 7) (by decide) (by decide) (by decide) (by first | exact Nat.le_of_ble_eq_true rfl | omega | (dsimp only; omega)) (by first | exact Nat.le_of_ble_eq_true rfl | omega | (dsimp only; omega)) dX20_init_114 (fun q_339 hq_340 => ?_)
  obtain ⟨M_341, eM_342⟩ : ∃ z, z = hp_up M_322 q_339 ((.inl (G.2 4, 7, .inl (fun _ => 0)))) := ⟨_, rfl⟩
  refine V_heap (M' := M_341) eM_342.symm ?_
  have ho_343 : M_341 mo = some (.inr (9, [.int 0, .int 0, .ref q_1, .ref q_15, .ref q_31, .int 0, .ref q_49, .ref q_69, .int 0, .ref q_91, .ref q_115, .int 0, .int 0, .int 0, .int 0, .int 0, .ref q_141, .ref q_169, .long 0, .ref q_199, .int 0, .ref q_231, .ref q_265, .ref q_301, .null, .null, .null, .int 0, .int 0, .int 0, .int 0, .int 0, .null])) := by rw [eM_342, hp_up_n (hp_ne0 eM_323_s hq_340)]; exact eM_323_s
  have ha_344 : M_341 q_1 = some (.inl (G.2 4, 60, .inl (fun _ => 0))) := by rw [eM_342, hp_up_n (hp_ne0 ha_324 hq_340)]; exact ha_324
  have ha_345 : M_341 q_15 = some (.inl (G.2 4, 60, .inl (fun _ => 0))) := by rw [eM_342, hp_up_n (hp_ne0 ha_325 hq_340)]; exact ha_325
  have ha_346 : M_341 q_31 = some (.inl (G.2 5, 2400, .inr (.inl (fun _ => 0)))) := by rw [eM_342, hp_up_n (hp_ne0 ha_326 hq_340)]; exact ha_326
  have ha_347 : M_341 q_49 = some (.inl (G.2 4, 30, .inl (fun _ => 0))) := by rw [eM_342, hp_up_n (hp_ne0 ha_327 hq_340)]; exact ha_327
  have ha_348 : M_341 q_69 = some (.inl (G.2 4, 30, .inl (fun _ => 0))) := by rw [eM_342, hp_up_n (hp_ne0 ha_328 hq_340)]; exact ha_328
  have ha_349 : M_341 q_91 = some (.inl (G.2 4, 8000, .inl (fun _ => 0))) := by rw [eM_342, hp_up_n (hp_ne0 ha_329 hq_340)]; exact ha_329
  have ha_350 : M_341 q_115 = some (.inl (G.2 4, 320000, .inl (fun _ => 0))) := by rw [eM_342, hp_up_n (hp_ne0 ha_330 hq_340)]; exact ha_330
  have ha_351 : M_341 q_141 = some (.inl (G.2 4, 6, .inl (fun _ => 0))) := by rw [eM_342, hp_up_n (hp_ne0 ha_331 hq_340)]; exact ha_331
  have ha_352 : M_341 q_169 = some (.inl (G.2 4, 432, .inl (fun _ => 0))) := by rw [eM_342, hp_up_n (hp_ne0 ha_332 hq_340)]; exact ha_332
  have ha_353 : M_341 q_199 = some (.inl (G.2 5, 40, .inr (.inl (fun _ => 0)))) := by rw [eM_342, hp_up_n (hp_ne0 ha_333 hq_340)]; exact ha_333
  have ha_354 : M_341 q_231 = some (.inl (G.2 4, 7, .inl (fun _ => 0))) := by rw [eM_342, hp_up_n (hp_ne0 ha_334 hq_340)]; exact ha_334
  have ha_355 : M_341 q_265 = some (.inl (G.2 4, 7, .inl (fun _ => 0))) := by rw [eM_342, hp_up_n (hp_ne0 ha_335 hq_340)]; exact ha_335
  have ha_356 : M_341 q_301 = some (.inl (G.2 4, 7, .inl (fun _ => 0))) := by rw [eM_342, hp_up_n (hp_ne0 ha_336 hq_340)]; exact ha_336
  have ho_357 : M_341 q_339 = some ((.inl (G.2 4, 7, .inl (fun _ => 0)))) := by rw [eM_342]; exact hp_up_s
  have fr_358 := hp_fr.new fr_337 hq_340 eM_342
  have nn_359 := hp_fr.nn fr_337 hq_340
  have ad_360 := hp_ad.new ad_338 hq_340 eM_342
  refine V_putF C hname f_X20_51_9 ho_343 rfl rfl (Nat.le_of_ble_eq_true rfl) dX20_init_116 ?_
  obtain ⟨M_361, eM_362⟩ : ∃ z, z = hp_up M_341 mo (.inr (9, [.int 0, .int 0, .ref q_1, .ref q_15, .ref q_31, .int 0, .ref q_49, .ref q_69, .int 0, .ref q_91, .ref q_115, .int 0, .int 0, .int 0, .int 0, .int 0, .ref q_141, .ref q_169, .long 0, .ref q_199, .int 0, .ref q_231, .ref q_265, .ref q_301, .ref q_339, .null, .null, .int 0, .int 0, .int 0, .int 0, .int 0, .null])) := ⟨_, rfl⟩
  refine V_heap (M' := M_361) eM_362.symm ?_
  have ha_363 : M_361 q_1 = some (.inl (G.2 4, 60, .inl (fun _ => 0))) := by rw [eM_362, hp_up_n (hp_ne ha_344 ho_343 (by simp))]; exact ha_344
  have ha_364 : M_361 q_15 = some (.inl (G.2 4, 60, .inl (fun _ => 0))) := by rw [eM_362, hp_up_n (hp_ne ha_345 ho_343 (by simp))]; exact ha_345
  have ha_365 : M_361 q_31 = some (.inl (G.2 5, 2400, .inr (.inl (fun _ => 0)))) := by rw [eM_362, hp_up_n (hp_ne ha_346 ho_343 (by simp))]; exact ha_346
  have ha_366 : M_361 q_49 = some (.inl (G.2 4, 30, .inl (fun _ => 0))) := by rw [eM_362, hp_up_n (hp_ne ha_347 ho_343 (by simp))]; exact ha_347
  have ha_367 : M_361 q_69 = some (.inl (G.2 4, 30, .inl (fun _ => 0))) := by rw [eM_362, hp_up_n (hp_ne ha_348 ho_343 (by simp))]; exact ha_348
  have ha_368 : M_361 q_91 = some (.inl (G.2 4, 8000, .inl (fun _ => 0))) := by rw [eM_362, hp_up_n (hp_ne ha_349 ho_343 (by simp))]; exact ha_349
  have ha_369 : M_361 q_115 = some (.inl (G.2 4, 320000, .inl (fun _ => 0))) := by rw [eM_362, hp_up_n (hp_ne ha_350 ho_343 (by simp))]; exact ha_350
  have ha_370 : M_361 q_141 = some (.inl (G.2 4, 6, .inl (fun _ => 0))) := by rw [eM_362, hp_up_n (hp_ne ha_351 ho_343 (by simp))]; exact ha_351
  have ha_371 : M_361 q_169 = some (.inl (G.2 4, 432, .inl (fun _ => 0))) := by rw [eM_362, hp_up_n (hp_ne ha_352 ho_343 (by simp))]; exact ha_352
  have ha_372 : M_361 q_199 = some (.inl (G.2 5, 40, .inr (.inl (fun _ => 0)))) := by rw [eM_362, hp_up_n (hp_ne ha_353 ho_343 (by simp))]; exact ha_353
  have ha_373 : M_361 q_231 = some (.inl (G.2 4, 7, .inl (fun _ => 0))) := by rw [eM_362, hp_up_n (hp_ne ha_354 ho_343 (by simp))]; exact ha_354
  have ha_374 : M_361 q_265 = some (.inl (G.2 4, 7, .inl (fun _ => 0))) := by rw [eM_362, hp_up_n (hp_ne ha_355 ho_343 (by simp))]; exact ha_355
  have ha_375 : M_361 q_301 = some (.inl (G.2 4, 7, .inl (fun _ => 0))) := by rw [eM_362, hp_up_n (hp_ne ha_356 ho_343 (by simp))]; exact ha_356
  have ha_376 : M_361 q_339 = some (.inl (G.2 4, 7, .inl (fun _ => 0))) := by rw [eM_362, hp_up_n (hp_ne ho_357 ho_343 (by simp))]; exact ho_357
  have eM_362_s : M_361 mo = some (.inr (9, [.int 0, .int 0, .ref q_1, .ref q_15, .ref q_31, .int 0, .ref q_49, .ref q_69, .int 0, .ref q_91, .ref q_115, .int 0, .int 0, .int 0, .int 0, .int 0, .ref q_141, .ref q_169, .long 0, .ref q_199, .int 0, .ref q_231, .ref q_265, .ref q_301, .ref q_339, .null, .null, .int 0, .int 0, .int 0, .int 0, .int 0, .null])) := by rw [eM_362]; exact hp_up_s
  have fr_377 := hp_fr.set fr_358 (Or.inl rfl) eM_362
  have ad_378 := hp_ad.set ad_360 eM_362
  refine V_aload_n C dX20_init_119 rfl 0 rfl ?_
  refine V_pc (pc1 := 120) rfl ?_
  refine V_bipush (v := 7) C dX20_init_120 rfl ?_
  refine V_new_i C q539 (N' := 7) (by decide) (by decide) (by decide) (by first | exact Nat.le_of_ble_eq_true rfl | omega | (dsimp only; omega)) (by first | exact Nat.le_of_ble_eq_true rfl | omega | (dsimp only; omega)) dX20_init_122 (fun q_379 hq_380 => ?_)
  obtain ⟨M_381, eM_382⟩ : ∃ z, z = hp_up M_361 q_379 ((.inl (G.2 4, 7, .inl (fun _ => 0)))) := ⟨_, rfl⟩
  refine V_heap (M' := M_381) eM_382.symm ?_
  have ho_383 : M_381 mo = some (.inr (9, [.int 0, .int 0, .ref q_1, .ref q_15, .ref q_31, .int 0, .ref q_49, .ref q_69, .int 0, .ref q_91, .ref q_115, .int 0, .int 0, .int 0, .int 0, .int 0, .ref q_141, .ref q_169, .long 0, .ref q_199, .int 0, .ref q_231, .ref q_265, .ref q_301, .ref q_339, .null, .null, .int 0, .int 0, .int 0, .int 0, .int 0, .null])) := by rw [eM_382, hp_up_n (hp_ne0 eM_362_s hq_380)]; exact eM_362_s
  have ha_384 : M_381 q_1 = some (.inl (G.2 4, 60, .inl (fun _ => 0))) := by rw [eM_382, hp_up_n (hp_ne0 ha_363 hq_380)]; exact ha_363
  have ha_385 : M_381 q_15 = some (.inl (G.2 4, 60, .inl (fun _ => 0))) := by rw [eM_382, hp_up_n (hp_ne0 ha_364 hq_380)]; exact ha_364
  have ha_386 : M_381 q_31 = some (.inl (G.2 5, 2400, .inr (.inl (fun _ => 0)))) := by rw [eM_382, hp_up_n (hp_ne0 ha_365 hq_380)]; exact ha_365
  have ha_387 : M_381 q_49 = some (.inl (G.2 4, 30, .inl (fun _ => 0))) := by rw [eM_382, hp_up_n (hp_ne0 ha_366 hq_380)]; exact ha_366
  have ha_388 : M_381 q_69 = some (.inl (G.2 4, 30, .inl (fun _ => 0))) := by rw [eM_382, hp_up_n (hp_ne0 ha_367 hq_380)]; exact ha_367
  have ha_389 : M_381 q_91 = some (.inl (G.2 4, 8000, .inl (fun _ => 0))) := by rw [eM_382, hp_up_n (hp_ne0 ha_368 hq_380)]; exact ha_368
  have ha_390 : M_381 q_115 = some (.inl (G.2 4, 320000, .inl (fun _ => 0))) := by rw [eM_382, hp_up_n (hp_ne0 ha_369 hq_380)]; exact ha_369
  have ha_391 : M_381 q_141 = some (.inl (G.2 4, 6, .inl (fun _ => 0))) := by rw [eM_382, hp_up_n (hp_ne0 ha_370 hq_380)]; exact ha_370
  have ha_392 : M_381 q_169 = some (.inl (G.2 4, 432, .inl (fun _ => 0))) := by rw [eM_382, hp_up_n (hp_ne0 ha_371 hq_380)]; exact ha_371
  have ha_393 : M_381 q_199 = some (.inl (G.2 5, 40, .inr (.inl (fun _ => 0)))) := by rw [eM_382, hp_up_n (hp_ne0 ha_372 hq_380)]; exact ha_372
  have ha_394 : M_381 q_231 = some (.inl (G.2 4, 7, .inl (fun _ => 0))) := by rw [eM_382, hp_up_n (hp_ne0 ha_373 hq_380)]; exact ha_373
  have ha_395 : M_381 q_265 = some (.inl (G.2 4, 7, .inl (fun _ => 0))) := by rw [eM_382, hp_up_n (hp_ne0 ha_374 hq_380)]; exact ha_374
  have ha_396 : M_381 q_301 = some (.inl (G.2 4, 7, .inl (fun _ => 0))) := by rw [eM_382, hp_up_n (hp_ne0 ha_375 hq_380)]; exact ha_375
  have ha_397 : M_381 q_339 = some (.inl (G.2 4, 7, .inl (fun _ => 0))) := by rw [eM_382, hp_up_n (hp_ne0 ha_376 hq_380)]; exact ha_376
  have ho_398 : M_381 q_379 = some ((.inl (G.2 4, 7, .inl (fun _ => 0)))) := by rw [eM_382]; exact hp_up_s
  have fr_399 := hp_fr.new fr_377 hq_380 eM_382
  have nn_400 := hp_fr.nn fr_377 hq_380
  have ad_401 := hp_ad.new ad_378 hq_380 eM_382
  refine V_putF C hname f_X20_54_9 ho_383 rfl rfl (Nat.le_of_ble_eq_true rfl) dX20_init_124 ?_
  obtain ⟨M_402, eM_403⟩ : ∃ z, z = hp_up M_381 mo (.inr (9, [.int 0, .int 0, .ref q_1, .ref q_15, .ref q_31, .int 0, .ref q_49, .ref q_69, .int 0, .ref q_91, .ref q_115, .int 0, .int 0, .int 0, .int 0, .int 0, .ref q_141, .ref q_169, .long 0, .ref q_199, .int 0, .ref q_231, .ref q_265, .ref q_301, .ref q_339, .ref q_379, .null, .int 0, .int 0, .int 0, .int 0, .int 0, .null])) := ⟨_, rfl⟩
  refine V_heap (M' := M_402) eM_403.symm ?_
  have ha_404 : M_402 q_1 = some (.inl (G.2 4, 60, .inl (fun _ => 0))) := by rw [eM_403, hp_up_n (hp_ne ha_384 ho_383 (by simp))]; exact ha_384
  have ha_405 : M_402 q_15 = some (.inl (G.2 4, 60, .inl (fun _ => 0))) := by rw [eM_403, hp_up_n (hp_ne ha_385 ho_383 (by simp))]; exact ha_385
  have ha_406 : M_402 q_31 = some (.inl (G.2 5, 2400, .inr (.inl (fun _ => 0)))) := by rw [eM_403, hp_up_n (hp_ne ha_386 ho_383 (by simp))]; exact ha_386
  have ha_407 : M_402 q_49 = some (.inl (G.2 4, 30, .inl (fun _ => 0))) := by rw [eM_403, hp_up_n (hp_ne ha_387 ho_383 (by simp))]; exact ha_387
  have ha_408 : M_402 q_69 = some (.inl (G.2 4, 30, .inl (fun _ => 0))) := by rw [eM_403, hp_up_n (hp_ne ha_388 ho_383 (by simp))]; exact ha_388
  have ha_409 : M_402 q_91 = some (.inl (G.2 4, 8000, .inl (fun _ => 0))) := by rw [eM_403, hp_up_n (hp_ne ha_389 ho_383 (by simp))]; exact ha_389
  have ha_410 : M_402 q_115 = some (.inl (G.2 4, 320000, .inl (fun _ => 0))) := by rw [eM_403, hp_up_n (hp_ne ha_390 ho_383 (by simp))]; exact ha_390
  have ha_411 : M_402 q_141 = some (.inl (G.2 4, 6, .inl (fun _ => 0))) := by rw [eM_403, hp_up_n (hp_ne ha_391 ho_383 (by simp))]; exact ha_391
  have ha_412 : M_402 q_169 = some (.inl (G.2 4, 432, .inl (fun _ => 0))) := by rw [eM_403, hp_up_n (hp_ne ha_392 ho_383 (by simp))]; exact ha_392
  have ha_413 : M_402 q_199 = some (.inl (G.2 5, 40, .inr (.inl (fun _ => 0)))) := by rw [eM_403, hp_up_n (hp_ne ha_393 ho_383 (by simp))]; exact ha_393
  have ha_414 : M_402 q_231 = some (.inl (G.2 4, 7, .inl (fun _ => 0))) := by rw [eM_403, hp_up_n (hp_ne ha_394 ho_383 (by simp))]; exact ha_394
  have ha_415 : M_402 q_265 = some (.inl (G.2 4, 7, .inl (fun _ => 0))) := by rw [eM_403, hp_up_n (hp_ne ha_395 ho_383 (by simp))]; exact ha_395
  have ha_416 : M_402 q_301 = some (.inl (G.2 4, 7, .inl (fun _ => 0))) := by rw [eM_403, hp_up_n (hp_ne ha_396 ho_383 (by simp))]; exact ha_396
  have ha_417 : M_402 q_339 = some (.inl (G.2 4, 7, .inl (fun _ => 0))) := by rw [eM_403, hp_up_n (hp_ne ha_397 ho_383 (by simp))]; exact ha_397
  have ha_418 : M_402 q_379 = some (.inl (G.2 4, 7, .inl (fun _ => 0))) := by rw [eM_403, hp_up_n (hp_ne ho_398 ho_383 (by simp))]; exact ho_398
  have eM_403_s : M_402 mo = some (.inr (9, [.int 0, .int 0, .ref q_1, .ref q_15, .ref q_31, .int 0, .ref q_49, .ref q_69, .int 0, .ref q_91, .ref q_115, .int 0, .int 0, .int 0, .int 0, .int 0, .ref q_141, .ref q_169, .long 0, .ref q_199, .int 0, .ref q_231, .ref q_265, .ref q_301, .ref q_339, .ref q_379, .null, .int 0, .int 0, .int 0, .int 0, .int 0, .null])) := by rw [eM_403]; exact hp_up_s
  have fr_419 := hp_fr.set fr_399 (Or.inl rfl) eM_403
  have ad_420 := hp_ad.set ad_401 eM_403
  refine V_aload_n C dX20_init_127 rfl 0 rfl ?_
  refine V_sipush (v := 16800) C dX20_init_128 rfl ?_
  refine V_new_l C q442 (N' := 16800) (by decide) (by decide) (by decide) (by first | exact Nat.le_of_ble_eq_true rfl | omega | (dsimp only; omega)) (by first | exact Nat.le_of_ble_eq_true rfl | omega | (dsimp only; omega)) dX20_init_131 (fun q_421 hq_422 => ?_)
  obtain ⟨M_423, eM_424⟩ : ∃ z, z = hp_up M_402 q_421 ((.inl (G.2 5, 16800, .inr (.inl (fun _ => 0))))) := ⟨_, rfl⟩
  refine V_heap (M' := M_423) eM_424.symm ?_
  have ho_425 : M_423 mo = some (.inr (9, [.int 0, .int 0, .ref q_1, .ref q_15, .ref q_31, .int 0, .ref q_49, .ref q_69, .int 0, .ref q_91, .ref q_115, .int 0, .int 0, .int 0, .int 0, .int 0, .ref q_141, .ref q_169, .long 0, .ref q_199, .int 0, .ref q_231, .ref q_265, .ref q_301, .ref q_339, .ref q_379, .null, .int 0, .int 0, .int 0, .int 0, .int 0, .null])) := by rw [eM_424, hp_up_n (hp_ne0 eM_403_s hq_422)]; exact eM_403_s
  have ha_426 : M_423 q_1 = some (.inl (G.2 4, 60, .inl (fun _ => 0))) := by rw [eM_424, hp_up_n (hp_ne0 ha_404 hq_422)]; exact ha_404
  have ha_427 : M_423 q_15 = some (.inl (G.2 4, 60, .inl (fun _ => 0))) := by rw [eM_424, hp_up_n (hp_ne0 ha_405 hq_422)]; exact ha_405
  have ha_428 : M_423 q_31 = some (.inl (G.2 5, 2400, .inr (.inl (fun _ => 0)))) := by rw [eM_424, hp_up_n (hp_ne0 ha_406 hq_422)]; exact ha_406
  have ha_429 : M_423 q_49 = some (.inl (G.2 4, 30, .inl (fun _ => 0))) := by rw [eM_424, hp_up_n (hp_ne0 ha_407 hq_422)]; exact ha_407
  have ha_430 : M_423 q_69 = some (.inl (G.2 4, 30, .inl (fun _ => 0))) := by rw [eM_424, hp_up_n (hp_ne0 ha_408 hq_422)]; exact ha_408
  have ha_431 : M_423 q_91 = some (.inl (G.2 4, 8000, .inl (fun _ => 0))) := by rw [eM_424, hp_up_n (hp_ne0 ha_409 hq_422)]; exact ha_409
  have ha_432 : M_423 q_115 = some (.inl (G.2 4, 320000, .inl (fun _ => 0))) := by rw [eM_424, hp_up_n (hp_ne0 ha_410 hq_422)]; exact ha_410
  have ha_433 : M_423 q_141 = some (.inl (G.2 4, 6, .inl (fun _ => 0))) := by rw [eM_424, hp_up_n (hp_ne0 ha_411 hq_422)]; exact ha_411
  have ha_434 : M_423 q_169 = some (.inl (G.2 4, 432, .inl (fun _ => 0))) := by rw [eM_424, hp_up_n (hp_ne0 ha_412 hq_422)]; exact ha_412
  have ha_435 : M_423 q_199 = some (.inl (G.2 5, 40, .inr (.inl (fun _ => 0)))) := by rw [eM_424, hp_up_n (hp_ne0 ha_413 hq_422)]; exact ha_413
  have ha_436 : M_423 q_231 = some (.inl (G.2 4, 7, .inl (fun _ => 0))) := by rw [eM_424, hp_up_n (hp_ne0 ha_414 hq_422)]; exact ha_414
  have ha_437 : M_423 q_265 = some (.inl (G.2 4, 7, .inl (fun _ => 0))) := by rw [eM_424, hp_up_n (hp_ne0 ha_415 hq_422)]; exact ha_415
  have ha_438 : M_423 q_301 = some (.inl (G.2 4, 7, .inl (fun _ => 0))) := by rw [eM_424, hp_up_n (hp_ne0 ha_416 hq_422)]; exact ha_416
  have ha_439 : M_423 q_339 = some (.inl (G.2 4, 7, .inl (fun _ => 0))) := by rw [eM_424, hp_up_n (hp_ne0 ha_417 hq_422)]; exact ha_417
  have ha_440 : M_423 q_379 = some (.inl (G.2 4, 7, .inl (fun _ => 0))) := by rw [eM_424, hp_up_n (hp_ne0 ha_418 hq_422)]; exact ha_418
  have ho_441 : M_423 q_421 = some ((.inl (G.2 5, 16800, .inr (.inl (fun _ => 0))))) := by rw [eM_424]; exact hp_up_s
  have fr_442 := hp_fr.new fr_419 hq_422 eM_424
  have nn_443 := hp_fr.nn fr_419 hq_422
  have ad_444 := hp_ad.new ad_420 hq_422 eM_424
  refine V_putF C hname f_X20_57_9 ho_425 rfl rfl (Nat.le_of_ble_eq_true rfl) dX20_init_133 ?_
  obtain ⟨M_445, eM_446⟩ : ∃ z, z = hp_up M_423 mo (.inr (9, [.int 0, .int 0, .ref q_1, .ref q_15, .ref q_31, .int 0, .ref q_49, .ref q_69, .int 0, .ref q_91, .ref q_115, .int 0, .int 0, .int 0, .int 0, .int 0, .ref q_141, .ref q_169, .long 0, .ref q_199, .int 0, .ref q_231, .ref q_265, .ref q_301, .ref q_339, .ref q_379, .ref q_421, .int 0, .int 0, .int 0, .int 0, .int 0, .null])) := ⟨_, rfl⟩
  refine V_heap (M' := M_445) eM_446.symm ?_
  have ha_447 : M_445 q_1 = some (.inl (G.2 4, 60, .inl (fun _ => 0))) := by rw [eM_446, hp_up_n (hp_ne ha_426 ho_425 (by simp))]; exact ha_426
  have ha_448 : M_445 q_15 = some (.inl (G.2 4, 60, .inl (fun _ => 0))) := by rw [eM_446, hp_up_n (hp_ne ha_427 ho_425 (by simp))]; exact ha_427
  have ha_449 : M_445 q_31 = some (.inl (G.2 5, 2400, .inr (.inl (fun _ => 0)))) := by rw [eM_446, hp_up_n (hp_ne ha_428 ho_425 (by simp))]; exact ha_428
  have ha_450 : M_445 q_49 = some (.inl (G.2 4, 30, .inl (fun _ => 0))) := by rw [eM_446, hp_up_n (hp_ne ha_429 ho_425 (by simp))]; exact ha_429
  have ha_451 : M_445 q_69 = some (.inl (G.2 4, 30, .inl (fun _ => 0))) := by rw [eM_446, hp_up_n (hp_ne ha_430 ho_425 (by simp))]; exact ha_430
  have ha_452 : M_445 q_91 = some (.inl (G.2 4, 8000, .inl (fun _ => 0))) := by rw [eM_446, hp_up_n (hp_ne ha_431 ho_425 (by simp))]; exact ha_431
  have ha_453 : M_445 q_115 = some (.inl (G.2 4, 320000, .inl (fun _ => 0))) := by rw [eM_446, hp_up_n (hp_ne ha_432 ho_425 (by simp))]; exact ha_432
  have ha_454 : M_445 q_141 = some (.inl (G.2 4, 6, .inl (fun _ => 0))) := by rw [eM_446, hp_up_n (hp_ne ha_433 ho_425 (by simp))]; exact ha_433
  have ha_455 : M_445 q_169 = some (.inl (G.2 4, 432, .inl (fun _ => 0))) := by rw [eM_446, hp_up_n (hp_ne ha_434 ho_425 (by simp))]; exact ha_434
  have ha_456 : M_445 q_199 = some (.inl (G.2 5, 40, .inr (.inl (fun _ => 0)))) := by rw [eM_446, hp_up_n (hp_ne ha_435 ho_425 (by simp))]; exact ha_435
  have ha_457 : M_445 q_231 = some (.inl (G.2 4, 7, .inl (fun _ => 0))) := by rw [eM_446, hp_up_n (hp_ne ha_436 ho_425 (by simp))]; exact ha_436
  have ha_458 : M_445 q_265 = some (.inl (G.2 4, 7, .inl (fun _ => 0))) := by rw [eM_446, hp_up_n (hp_ne ha_437 ho_425 (by simp))]; exact ha_437
  have ha_459 : M_445 q_301 = some (.inl (G.2 4, 7, .inl (fun _ => 0))) := by rw [eM_446, hp_up_n (hp_ne ha_438 ho_425 (by simp))]; exact ha_438
  have ha_460 : M_445 q_339 = some (.inl (G.2 4, 7, .inl (fun _ => 0))) := by rw [eM_446, hp_up_n (hp_ne ha_439 ho_425 (by simp))]; exact ha_439
  have ha_461 : M_445 q_379 = some (.inl (G.2 4, 7, .inl (fun _ => 0))) := by rw [eM_446, hp_up_n (hp_ne ha_440 ho_425 (by simp))]; exact ha_440
  have ha_462 : M_445 q_421 = some (.inl (G.2 5, 16800, .inr (.inl (fun _ => 0)))) := by rw [eM_446, hp_up_n (hp_ne ho_441 ho_425 (by simp))]; exact ho_441
  have eM_446_s : M_445 mo = some (.inr (9, [.int 0, .int 0, .ref q_1, .ref q_15, .ref q_31, .int 0, .ref q_49, .ref q_69, .int 0, .ref q_91, .ref q_115, .int 0, .int 0, .int 0, .int 0, .int 0, .ref q_141, .ref q_169, .long 0, .ref q_199, .int 0, .ref q_231, .ref q_265, .ref q_301, .ref q_339, .ref q_379, .ref q_421, .int 0, .int 0, .int 0, .int 0, .int 0, .null])) := by rw [eM_446]; exact hp_up_s
  have fr_463 := hp_fr.set fr_442 (Or.inl rfl) eM_446
  have ad_464 := hp_ad.set ad_444 eM_446
  refine V_aload_n C dX20_init_136 rfl 0 rfl ?_
  refine V_iconst (v := -1) C dX20_init_137 rfl ?_
  refine V_put C f_X20_60_9 eM_446_s rfl rfl (Nat.le_of_ble_eq_true rfl) dX20_init_138 ?_
  obtain ⟨M_465, eM_466⟩ : ∃ z, z = hp_up M_445 mo (.inr (9, [.int 0, .int 0, .ref q_1, .ref q_15, .ref q_31, .int 0, .ref q_49, .ref q_69, .int 0, .ref q_91, .ref q_115, .int 0, .int 0, .int 0, .int 0, .int 0, .ref q_141, .ref q_169, .long 0, .ref q_199, .int 0, .ref q_231, .ref q_265, .ref q_301, .ref q_339, .ref q_379, .ref q_421, .int (-1), .int 0, .int 0, .int 0, .int 0, .null])) := ⟨_, rfl⟩
  refine V_heap (M' := M_465) eM_466.symm ?_
  have ha_467 : M_465 q_1 = some (.inl (G.2 4, 60, .inl (fun _ => 0))) := by rw [eM_466, hp_up_n (hp_ne ha_447 eM_446_s (by simp))]; exact ha_447
  have ha_468 : M_465 q_15 = some (.inl (G.2 4, 60, .inl (fun _ => 0))) := by rw [eM_466, hp_up_n (hp_ne ha_448 eM_446_s (by simp))]; exact ha_448
  have ha_469 : M_465 q_31 = some (.inl (G.2 5, 2400, .inr (.inl (fun _ => 0)))) := by rw [eM_466, hp_up_n (hp_ne ha_449 eM_446_s (by simp))]; exact ha_449
  have ha_470 : M_465 q_49 = some (.inl (G.2 4, 30, .inl (fun _ => 0))) := by rw [eM_466, hp_up_n (hp_ne ha_450 eM_446_s (by simp))]; exact ha_450
  have ha_471 : M_465 q_69 = some (.inl (G.2 4, 30, .inl (fun _ => 0))) := by rw [eM_466, hp_up_n (hp_ne ha_451 eM_446_s (by simp))]; exact ha_451
  have ha_472 : M_465 q_91 = some (.inl (G.2 4, 8000, .inl (fun _ => 0))) := by rw [eM_466, hp_up_n (hp_ne ha_452 eM_446_s (by simp))]; exact ha_452
  have ha_473 : M_465 q_115 = some (.inl (G.2 4, 320000, .inl (fun _ => 0))) := by rw [eM_466, hp_up_n (hp_ne ha_453 eM_446_s (by simp))]; exact ha_453
  have ha_474 : M_465 q_141 = some (.inl (G.2 4, 6, .inl (fun _ => 0))) := by rw [eM_466, hp_up_n (hp_ne ha_454 eM_446_s (by simp))]; exact ha_454
  have ha_475 : M_465 q_169 = some (.inl (G.2 4, 432, .inl (fun _ => 0))) := by rw [eM_466, hp_up_n (hp_ne ha_455 eM_446_s (by simp))]; exact ha_455
  have ha_476 : M_465 q_199 = some (.inl (G.2 5, 40, .inr (.inl (fun _ => 0)))) := by rw [eM_466, hp_up_n (hp_ne ha_456 eM_446_s (by simp))]; exact ha_456
  have ha_477 : M_465 q_231 = some (.inl (G.2 4, 7, .inl (fun _ => 0))) := by rw [eM_466, hp_up_n (hp_ne ha_457 eM_446_s (by simp))]; exact ha_457
  have ha_478 : M_465 q_265 = some (.inl (G.2 4, 7, .inl (fun _ => 0))) := by rw [eM_466, hp_up_n (hp_ne ha_458 eM_446_s (by simp))]; exact ha_458
  have ha_479 : M_465 q_301 = some (.inl (G.2 4, 7, .inl (fun _ => 0))) := by rw [eM_466, hp_up_n (hp_ne ha_459 eM_446_s (by simp))]; exact ha_459
  have ha_480 : M_465 q_339 = some (.inl (G.2 4, 7, .inl (fun _ => 0))) := by rw [eM_466, hp_up_n (hp_ne ha_460 eM_446_s (by simp))]; exact ha_460
  have ha_481 : M_465 q_379 = some (.inl (G.2 4, 7, .inl (fun _ => 0))) := by rw [eM_466, hp_up_n (hp_ne ha_461 eM_446_s (by simp))]; exact ha_461
  have ha_482 : M_465 q_421 = some (.inl (G.2 5, 16800, .inr (.inl (fun _ => 0)))) := by rw [eM_466, hp_up_n (hp_ne ha_462 eM_446_s (by simp))]; exact ha_462
  have eM_466_s : M_465 mo = some (.inr (9, [.int 0, .int 0, .ref q_1, .ref q_15, .ref q_31, .int 0, .ref q_49, .ref q_69, .int 0, .ref q_91, .ref q_115, .int 0, .int 0, .int 0, .int 0, .int 0, .ref q_141, .ref q_169, .long 0, .ref q_199, .int 0, .ref q_231, .ref q_265, .ref q_301, .ref q_339, .ref q_379, .ref q_421, .int (-1), .int 0, .int 0, .int 0, .int 0, .null])) := by rw [eM_466]; exact hp_up_s
  have fr_483 := hp_fr.set fr_463 (Or.inl rfl) eM_466
  have ad_484 := hp_ad.set ad_464 eM_466
  refine V_aload_n C dX20_init_141 rfl 0 rfl ?_
  refine V_iconst (v := -1) C dX20_init_142 rfl ?_
  refine V_pc (pc1 := 143) rfl ?_
  refine V_put C f_X20_64_9 eM_466_s rfl rfl (Nat.le_of_ble_eq_true rfl) dX20_init_143 ?_
  obtain ⟨M_485, eM_486⟩ : ∃ z, z = hp_up M_465 mo (.inr (9, [.int 0, .int 0, .ref q_1, .ref q_15, .ref q_31, .int 0, .ref q_49, .ref q_69, .int 0, .ref q_91, .ref q_115, .int 0, .int 0, .int 0, .int 0, .int 0, .ref q_141, .ref q_169, .long 0, .ref q_199, .int 0, .ref q_231, .ref q_265, .ref q_301, .ref q_339, .ref q_379, .ref q_421, .int (-1), .int (-1), .int 0, .int 0, .int 0, .null])) := ⟨_, rfl⟩
  refine V_heap (M' := M_485) eM_486.symm ?_
  have ha_487 : M_485 q_1 = some (.inl (G.2 4, 60, .inl (fun _ => 0))) := by rw [eM_486, hp_up_n (hp_ne ha_467 eM_466_s (by simp))]; exact ha_467
  have ha_488 : M_485 q_15 = some (.inl (G.2 4, 60, .inl (fun _ => 0))) := by rw [eM_486, hp_up_n (hp_ne ha_468 eM_466_s (by simp))]; exact ha_468
  have ha_489 : M_485 q_31 = some (.inl (G.2 5, 2400, .inr (.inl (fun _ => 0)))) := by rw [eM_486, hp_up_n (hp_ne ha_469 eM_466_s (by simp))]; exact ha_469
  have ha_490 : M_485 q_49 = some (.inl (G.2 4, 30, .inl (fun _ => 0))) := by rw [eM_486, hp_up_n (hp_ne ha_470 eM_466_s (by simp))]; exact ha_470
  have ha_491 : M_485 q_69 = some (.inl (G.2 4, 30, .inl (fun _ => 0))) := by rw [eM_486, hp_up_n (hp_ne ha_471 eM_466_s (by simp))]; exact ha_471
  have ha_492 : M_485 q_91 = some (.inl (G.2 4, 8000, .inl (fun _ => 0))) := by rw [eM_486, hp_up_n (hp_ne ha_472 eM_466_s (by simp))]; exact ha_472
  have ha_493 : M_485 q_115 = some (.inl (G.2 4, 320000, .inl (fun _ => 0))) := by rw [eM_486, hp_up_n (hp_ne ha_473 eM_466_s (by simp))]; exact ha_473
  have ha_494 : M_485 q_141 = some (.inl (G.2 4, 6, .inl (fun _ => 0))) := by rw [eM_486, hp_up_n (hp_ne ha_474 eM_466_s (by simp))]; exact ha_474
  have ha_495 : M_485 q_169 = some (.inl (G.2 4, 432, .inl (fun _ => 0))) := by rw [eM_486, hp_up_n (hp_ne ha_475 eM_466_s (by simp))]; exact ha_475
  have ha_496 : M_485 q_199 = some (.inl (G.2 5, 40, .inr (.inl (fun _ => 0)))) := by rw [eM_486, hp_up_n (hp_ne ha_476 eM_466_s (by simp))]; exact ha_476
  have ha_497 : M_485 q_231 = some (.inl (G.2 4, 7, .inl (fun _ => 0))) := by rw [eM_486, hp_up_n (hp_ne ha_477 eM_466_s (by simp))]; exact ha_477
  have ha_498 : M_485 q_265 = some (.inl (G.2 4, 7, .inl (fun _ => 0))) := by rw [eM_486, hp_up_n (hp_ne ha_478 eM_466_s (by simp))]; exact ha_478
  have ha_499 : M_485 q_301 = some (.inl (G.2 4, 7, .inl (fun _ => 0))) := by rw [eM_486, hp_up_n (hp_ne ha_479 eM_466_s (by simp))]; exact ha_479
  have ha_500 : M_485 q_339 = some (.inl (G.2 4, 7, .inl (fun _ => 0))) := by rw [eM_486, hp_up_n (hp_ne ha_480 eM_466_s (by simp))]; exact ha_480
  have ha_501 : M_485 q_379 = some (.inl (G.2 4, 7, .inl (fun _ => 0))) := by rw [eM_486, hp_up_n (hp_ne ha_481 eM_466_s (by simp))]; exact ha_481
  have ha_502 : M_485 q_421 = some (.inl (G.2 5, 16800, .inr (.inl (fun _ => 0)))) := by rw [eM_486, hp_up_n (hp_ne ha_482 eM_466_s (by simp))]; exact ha_482
  have eM_486_s : M_485 mo = some (.inr (9, [.int 0, .int 0, .ref q_1, .ref q_15, .ref q_31, .int 0, .ref q_49, .ref q_69, .int 0, .ref q_91, .ref q_115, .int 0, .int 0, .int 0, .int 0, .int 0, .ref q_141, .ref q_169, .long 0, .ref q_199, .int 0, .ref q_231, .ref q_265, .ref q_301, .ref q_339, .ref q_379, .ref q_421, .int (-1), .int (-1), .int 0, .int 0, .int 0, .null])) := by rw [eM_486]; exact hp_up_s
  have fr_503 := hp_fr.set fr_483 (Or.inl rfl) eM_486
  have ad_504 := hp_ad.set ad_484 eM_486
  refine V_aload_n C dX20_init_146 rfl 0 rfl ?_
  refine V_iconst (v := -1) C dX20_init_147 rfl ?_
  refine V_put C f_X20_67_9 eM_486_s rfl rfl (Nat.le_of_ble_eq_true rfl) dX20_init_148 ?_
  obtain ⟨M_505, eM_506⟩ : ∃ z, z = hp_up M_485 mo (.inr (9, [.int 0, .int 0, .ref q_1, .ref q_15, .ref q_31, .int 0, .ref q_49, .ref q_69, .int 0, .ref q_91, .ref q_115, .int 0, .int 0, .int 0, .int 0, .int 0, .ref q_141, .ref q_169, .long 0, .ref q_199, .int 0, .ref q_231, .ref q_265, .ref q_301, .ref q_339, .ref q_379, .ref q_421, .int (-1), .int (-1), .int (-1), .int 0, .int 0, .null])) := ⟨_, rfl⟩
  refine V_heap (M' := M_505) eM_506.symm ?_
  have ha_507 : M_505 q_1 = some (.inl (G.2 4, 60, .inl (fun _ => 0))) := by rw [eM_506, hp_up_n (hp_ne ha_487 eM_486_s (by simp))]; exact ha_487
  have ha_508 : M_505 q_15 = some (.inl (G.2 4, 60, .inl (fun _ => 0))) := by rw [eM_506, hp_up_n (hp_ne ha_488 eM_486_s (by simp))]; exact ha_488
  have ha_509 : M_505 q_31 = some (.inl (G.2 5, 2400, .inr (.inl (fun _ => 0)))) := by rw [eM_506, hp_up_n (hp_ne ha_489 eM_486_s (by simp))]; exact ha_489
  have ha_510 : M_505 q_49 = some (.inl (G.2 4, 30, .inl (fun _ => 0))) := by rw [eM_506, hp_up_n (hp_ne ha_490 eM_486_s (by simp))]; exact ha_490
  have ha_511 : M_505 q_69 = some (.inl (G.2 4, 30, .inl (fun _ => 0))) := by rw [eM_506, hp_up_n (hp_ne ha_491 eM_486_s (by simp))]; exact ha_491
  have ha_512 : M_505 q_91 = some (.inl (G.2 4, 8000, .inl (fun _ => 0))) := by rw [eM_506, hp_up_n (hp_ne ha_492 eM_486_s (by simp))]; exact ha_492
  have ha_513 : M_505 q_115 = some (.inl (G.2 4, 320000, .inl (fun _ => 0))) := by rw [eM_506, hp_up_n (hp_ne ha_493 eM_486_s (by simp))]; exact ha_493
  have ha_514 : M_505 q_141 = some (.inl (G.2 4, 6, .inl (fun _ => 0))) := by rw [eM_506, hp_up_n (hp_ne ha_494 eM_486_s (by simp))]; exact ha_494
  have ha_515 : M_505 q_169 = some (.inl (G.2 4, 432, .inl (fun _ => 0))) := by rw [eM_506, hp_up_n (hp_ne ha_495 eM_486_s (by simp))]; exact ha_495
  have ha_516 : M_505 q_199 = some (.inl (G.2 5, 40, .inr (.inl (fun _ => 0)))) := by rw [eM_506, hp_up_n (hp_ne ha_496 eM_486_s (by simp))]; exact ha_496
  have ha_517 : M_505 q_231 = some (.inl (G.2 4, 7, .inl (fun _ => 0))) := by rw [eM_506, hp_up_n (hp_ne ha_497 eM_486_s (by simp))]; exact ha_497
  have ha_518 : M_505 q_265 = some (.inl (G.2 4, 7, .inl (fun _ => 0))) := by rw [eM_506, hp_up_n (hp_ne ha_498 eM_486_s (by simp))]; exact ha_498
  have ha_519 : M_505 q_301 = some (.inl (G.2 4, 7, .inl (fun _ => 0))) := by rw [eM_506, hp_up_n (hp_ne ha_499 eM_486_s (by simp))]; exact ha_499
  have ha_520 : M_505 q_339 = some (.inl (G.2 4, 7, .inl (fun _ => 0))) := by rw [eM_506, hp_up_n (hp_ne ha_500 eM_486_s (by simp))]; exact ha_500
  have ha_521 : M_505 q_379 = some (.inl (G.2 4, 7, .inl (fun _ => 0))) := by rw [eM_506, hp_up_n (hp_ne ha_501 eM_486_s (by simp))]; exact ha_501
  have ha_522 : M_505 q_421 = some (.inl (G.2 5, 16800, .inr (.inl (fun _ => 0)))) := by rw [eM_506, hp_up_n (hp_ne ha_502 eM_486_s (by simp))]; exact ha_502
  have eM_506_s : M_505 mo = some (.inr (9, [.int 0, .int 0, .ref q_1, .ref q_15, .ref q_31, .int 0, .ref q_49, .ref q_69, .int 0, .ref q_91, .ref q_115, .int 0, .int 0, .int 0, .int 0, .int 0, .ref q_141, .ref q_169, .long 0, .ref q_199, .int 0, .ref q_231, .ref q_265, .ref q_301, .ref q_339, .ref q_379, .ref q_421, .int (-1), .int (-1), .int (-1), .int 0, .int 0, .null])) := by rw [eM_506]; exact hp_up_s
  have fr_523 := hp_fr.set fr_503 (Or.inl rfl) eM_506
  have ad_524 := hp_ad.set ad_504 eM_506
  refine V_aload_n C dX20_init_151 rfl 0 rfl ?_
  refine V_iconst (v := -1) C dX20_init_152 rfl ?_
  refine V_put C f_X20_70_9 eM_506_s rfl rfl (Nat.le_of_ble_eq_true rfl) dX20_init_153 ?_
  obtain ⟨M_525, eM_526⟩ : ∃ z, z = hp_up M_505 mo (.inr (9, [.int 0, .int 0, .ref q_1, .ref q_15, .ref q_31, .int 0, .ref q_49, .ref q_69, .int 0, .ref q_91, .ref q_115, .int 0, .int 0, .int 0, .int 0, .int 0, .ref q_141, .ref q_169, .long 0, .ref q_199, .int 0, .ref q_231, .ref q_265, .ref q_301, .ref q_339, .ref q_379, .ref q_421, .int (-1), .int (-1), .int (-1), .int (-1), .int 0, .null])) := ⟨_, rfl⟩
  refine V_heap (M' := M_525) eM_526.symm ?_
  have ha_527 : M_525 q_1 = some (.inl (G.2 4, 60, .inl (fun _ => 0))) := by rw [eM_526, hp_up_n (hp_ne ha_507 eM_506_s (by simp))]; exact ha_507
  have ha_528 : M_525 q_15 = some (.inl (G.2 4, 60, .inl (fun _ => 0))) := by rw [eM_526, hp_up_n (hp_ne ha_508 eM_506_s (by simp))]; exact ha_508
  have ha_529 : M_525 q_31 = some (.inl (G.2 5, 2400, .inr (.inl (fun _ => 0)))) := by rw [eM_526, hp_up_n (hp_ne ha_509 eM_506_s (by simp))]; exact ha_509
  have ha_530 : M_525 q_49 = some (.inl (G.2 4, 30, .inl (fun _ => 0))) := by rw [eM_526, hp_up_n (hp_ne ha_510 eM_506_s (by simp))]; exact ha_510
  have ha_531 : M_525 q_69 = some (.inl (G.2 4, 30, .inl (fun _ => 0))) := by rw [eM_526, hp_up_n (hp_ne ha_511 eM_506_s (by simp))]; exact ha_511
  have ha_532 : M_525 q_91 = some (.inl (G.2 4, 8000, .inl (fun _ => 0))) := by rw [eM_526, hp_up_n (hp_ne ha_512 eM_506_s (by simp))]; exact ha_512
  have ha_533 : M_525 q_115 = some (.inl (G.2 4, 320000, .inl (fun _ => 0))) := by rw [eM_526, hp_up_n (hp_ne ha_513 eM_506_s (by simp))]; exact ha_513
  have ha_534 : M_525 q_141 = some (.inl (G.2 4, 6, .inl (fun _ => 0))) := by rw [eM_526, hp_up_n (hp_ne ha_514 eM_506_s (by simp))]; exact ha_514
  have ha_535 : M_525 q_169 = some (.inl (G.2 4, 432, .inl (fun _ => 0))) := by rw [eM_526, hp_up_n (hp_ne ha_515 eM_506_s (by simp))]; exact ha_515
  have ha_536 : M_525 q_199 = some (.inl (G.2 5, 40, .inr (.inl (fun _ => 0)))) := by rw [eM_526, hp_up_n (hp_ne ha_516 eM_506_s (by simp))]; exact ha_516
  have ha_537 : M_525 q_231 = some (.inl (G.2 4, 7, .inl (fun _ => 0))) := by rw [eM_526, hp_up_n (hp_ne ha_517 eM_506_s (by simp))]; exact ha_517
  have ha_538 : M_525 q_265 = some (.inl (G.2 4, 7, .inl (fun _ => 0))) := by rw [eM_526, hp_up_n (hp_ne ha_518 eM_506_s (by simp))]; exact ha_518
  have ha_539 : M_525 q_301 = some (.inl (G.2 4, 7, .inl (fun _ => 0))) := by rw [eM_526, hp_up_n (hp_ne ha_519 eM_506_s (by simp))]; exact ha_519
  have ha_540 : M_525 q_339 = some (.inl (G.2 4, 7, .inl (fun _ => 0))) := by rw [eM_526, hp_up_n (hp_ne ha_520 eM_506_s (by simp))]; exact ha_520
  have ha_541 : M_525 q_379 = some (.inl (G.2 4, 7, .inl (fun _ => 0))) := by rw [eM_526, hp_up_n (hp_ne ha_521 eM_506_s (by simp))]; exact ha_521
  have ha_542 : M_525 q_421 = some (.inl (G.2 5, 16800, .inr (.inl (fun _ => 0)))) := by rw [eM_526, hp_up_n (hp_ne ha_522 eM_506_s (by simp))]; exact ha_522
  have eM_526_s : M_525 mo = some (.inr (9, [.int 0, .int 0, .ref q_1, .ref q_15, .ref q_31, .int 0, .ref q_49, .ref q_69, .int 0, .ref q_91, .ref q_115, .int 0, .int 0, .int 0, .int 0, .int 0, .ref q_141, .ref q_169, .long 0, .ref q_199, .int 0, .ref q_231, .ref q_265, .ref q_301, .ref q_339, .ref q_379, .ref q_421, .int (-1), .int (-1), .int (-1), .int (-1), .int 0, .null])) := by rw [eM_526]; exact hp_up_s
  have fr_543 := hp_fr.set fr_523 (Or.inl rfl) eM_526
  have ad_544 := hp_ad.set ad_524 eM_526
  refine V_aload_n C dX20_init_156 rfl 0 rfl ?_
  refine V_iconst (v := -1) C dX20_init_157 rfl ?_
  refine V_put C f_X20_73_9 eM_526_s rfl rfl (Nat.le_of_ble_eq_true rfl) dX20_init_158 ?_
  obtain ⟨M_545, eM_546⟩ : ∃ z, z = hp_up M_525 mo (.inr (9, [.int 0, .int 0, .ref q_1, .ref q_15, .ref q_31, .int 0, .ref q_49, .ref q_69, .int 0, .ref q_91, .ref q_115, .int 0, .int 0, .int 0, .int 0, .int 0, .ref q_141, .ref q_169, .long 0, .ref q_199, .int 0, .ref q_231, .ref q_265, .ref q_301, .ref q_339, .ref q_379, .ref q_421, .int (-1), .int (-1), .int (-1), .int (-1), .int (-1), .null])) := ⟨_, rfl⟩
  refine V_heap (M' := M_545) eM_546.symm ?_
  have ha_547 : M_545 q_1 = some (.inl (G.2 4, 60, .inl (fun _ => 0))) := by rw [eM_546, hp_up_n (hp_ne ha_527 eM_526_s (by simp))]; exact ha_527
  have ha_548 : M_545 q_15 = some (.inl (G.2 4, 60, .inl (fun _ => 0))) := by rw [eM_546, hp_up_n (hp_ne ha_528 eM_526_s (by simp))]; exact ha_528
  have ha_549 : M_545 q_31 = some (.inl (G.2 5, 2400, .inr (.inl (fun _ => 0)))) := by rw [eM_546, hp_up_n (hp_ne ha_529 eM_526_s (by simp))]; exact ha_529
  have ha_550 : M_545 q_49 = some (.inl (G.2 4, 30, .inl (fun _ => 0))) := by rw [eM_546, hp_up_n (hp_ne ha_530 eM_526_s (by simp))]; exact ha_530
  have ha_551 : M_545 q_69 = some (.inl (G.2 4, 30, .inl (fun _ => 0))) := by rw [eM_546, hp_up_n (hp_ne ha_531 eM_526_s (by simp))]; exact ha_531
  have ha_552 : M_545 q_91 = some (.inl (G.2 4, 8000, .inl (fun _ => 0))) := by rw [eM_546, hp_up_n (hp_ne ha_532 eM_526_s (by simp))]; exact ha_532
  have ha_553 : M_545 q_115 = some (.inl (G.2 4, 320000, .inl (fun _ => 0))) := by rw [eM_546, hp_up_n (hp_ne ha_533 eM_526_s (by simp))]; exact ha_533
  have ha_554 : M_545 q_141 = some (.inl (G.2 4, 6, .inl (fun _ => 0))) := by rw [eM_546, hp_up_n (hp_ne ha_534 eM_526_s (by simp))]; exact ha_534
  have ha_555 : M_545 q_169 = some (.inl (G.2 4, 432, .inl (fun _ => 0))) := by rw [eM_546, hp_up_n (hp_ne ha_535 eM_526_s (by simp))]; exact ha_535
  have ha_556 : M_545 q_199 = some (.inl (G.2 5, 40, .inr (.inl (fun _ => 0)))) := by rw [eM_546, hp_up_n (hp_ne ha_536 eM_526_s (by simp))]; exact ha_536
  have ha_557 : M_545 q_231 = some (.inl (G.2 4, 7, .inl (fun _ => 0))) := by rw [eM_546, hp_up_n (hp_ne ha_537 eM_526_s (by simp))]; exact ha_537
  have ha_558 : M_545 q_265 = some (.inl (G.2 4, 7, .inl (fun _ => 0))) := by rw [eM_546, hp_up_n (hp_ne ha_538 eM_526_s (by simp))]; exact ha_538
  have ha_559 : M_545 q_301 = some (.inl (G.2 4, 7, .inl (fun _ => 0))) := by rw [eM_546, hp_up_n (hp_ne ha_539 eM_526_s (by simp))]; exact ha_539
  have ha_560 : M_545 q_339 = some (.inl (G.2 4, 7, .inl (fun _ => 0))) := by rw [eM_546, hp_up_n (hp_ne ha_540 eM_526_s (by simp))]; exact ha_540
  have ha_561 : M_545 q_379 = some (.inl (G.2 4, 7, .inl (fun _ => 0))) := by rw [eM_546, hp_up_n (hp_ne ha_541 eM_526_s (by simp))]; exact ha_541
  have ha_562 : M_545 q_421 = some (.inl (G.2 5, 16800, .inr (.inl (fun _ => 0)))) := by rw [eM_546, hp_up_n (hp_ne ha_542 eM_526_s (by simp))]; exact ha_542
  have eM_546_s : M_545 mo = some (.inr (9, [.int 0, .int 0, .ref q_1, .ref q_15, .ref q_31, .int 0, .ref q_49, .ref q_69, .int 0, .ref q_91, .ref q_115, .int 0, .int 0, .int 0, .int 0, .int 0, .ref q_141, .ref q_169, .long 0, .ref q_199, .int 0, .ref q_231, .ref q_265, .ref q_301, .ref q_339, .ref q_379, .ref q_421, .int (-1), .int (-1), .int (-1), .int (-1), .int (-1), .null])) := by rw [eM_546]; exact hp_up_s
  have fr_563 := hp_fr.set fr_543 (Or.inl rfl) eM_546
  have ad_564 := hp_ad.set ad_544 eM_546
  refine V_aload_n C dX20_init_161 rfl 0 rfl ?_
  refine V_bipush (v := 12) C dX20_init_162 rfl ?_
  refine V_pc (pc1 := 164) rfl ?_
  refine V_new_l C q442 (N' := 12) (by decide) (by decide) (by decide) (by first | exact Nat.le_of_ble_eq_true rfl | omega | (dsimp only; omega)) (by first | exact Nat.le_of_ble_eq_true rfl | omega | (dsimp only; omega)) dX20_init_164 (fun q_565 hq_566 => ?_)
  obtain ⟨M_567, eM_568⟩ : ∃ z, z = hp_up M_545 q_565 ((.inl (G.2 5, 12, .inr (.inl (fun _ => 0))))) := ⟨_, rfl⟩
  refine V_heap (M' := M_567) eM_568.symm ?_
  have ho_569 : M_567 mo = some (.inr (9, [.int 0, .int 0, .ref q_1, .ref q_15, .ref q_31, .int 0, .ref q_49, .ref q_69, .int 0, .ref q_91, .ref q_115, .int 0, .int 0, .int 0, .int 0, .int 0, .ref q_141, .ref q_169, .long 0, .ref q_199, .int 0, .ref q_231, .ref q_265, .ref q_301, .ref q_339, .ref q_379, .ref q_421, .int (-1), .int (-1), .int (-1), .int (-1), .int (-1), .null])) := by rw [eM_568, hp_up_n (hp_ne0 eM_546_s hq_566)]; exact eM_546_s
  have ha_570 : M_567 q_1 = some (.inl (G.2 4, 60, .inl (fun _ => 0))) := by rw [eM_568, hp_up_n (hp_ne0 ha_547 hq_566)]; exact ha_547
  have ha_571 : M_567 q_15 = some (.inl (G.2 4, 60, .inl (fun _ => 0))) := by rw [eM_568, hp_up_n (hp_ne0 ha_548 hq_566)]; exact ha_548
  have ha_572 : M_567 q_31 = some (.inl (G.2 5, 2400, .inr (.inl (fun _ => 0)))) := by rw [eM_568, hp_up_n (hp_ne0 ha_549 hq_566)]; exact ha_549
  have ha_573 : M_567 q_49 = some (.inl (G.2 4, 30, .inl (fun _ => 0))) := by rw [eM_568, hp_up_n (hp_ne0 ha_550 hq_566)]; exact ha_550
  have ha_574 : M_567 q_69 = some (.inl (G.2 4, 30, .inl (fun _ => 0))) := by rw [eM_568, hp_up_n (hp_ne0 ha_551 hq_566)]; exact ha_551
  have ha_575 : M_567 q_91 = some (.inl (G.2 4, 8000, .inl (fun _ => 0))) := by rw [eM_568, hp_up_n (hp_ne0 ha_552 hq_566)]; exact ha_552
  have ha_576 : M_567 q_115 = some (.inl (G.2 4, 320000, .inl (fun _ => 0))) := by rw [eM_568, hp_up_n (hp_ne0 ha_553 hq_566)]; exact ha_553
  have ha_577 : M_567 q_141 = some (.inl (G.2 4, 6, .inl (fun _ => 0))) := by rw [eM_568, hp_up_n (hp_ne0 ha_554 hq_566)]; exact ha_554
  have ha_578 : M_567 q_169 = some (.inl (G.2 4, 432, .inl (fun _ => 0))) := by rw [eM_568, hp_up_n (hp_ne0 ha_555 hq_566)]; exact ha_555
  have ha_579 : M_567 q_199 = some (.inl (G.2 5, 40, .inr (.inl (fun _ => 0)))) := by rw [eM_568, hp_up_n (hp_ne0 ha_556 hq_566)]; exact ha_556
  have ha_580 : M_567 q_231 = some (.inl (G.2 4, 7, .inl (fun _ => 0))) := by rw [eM_568, hp_up_n (hp_ne0 ha_557 hq_566)]; exact ha_557
  have ha_581 : M_567 q_265 = some (.inl (G.2 4, 7, .inl (fun _ => 0))) := by rw [eM_568, hp_up_n (hp_ne0 ha_558 hq_566)]; exact ha_558
  have ha_582 : M_567 q_301 = some (.inl (G.2 4, 7, .inl (fun _ => 0))) := by rw [eM_568, hp_up_n (hp_ne0 ha_559 hq_566)]; exact ha_559
  have ha_583 : M_567 q_339 = some (.inl (G.2 4, 7, .inl (fun _ => 0))) := by rw [eM_568, hp_up_n (hp_ne0 ha_560 hq_566)]; exact ha_560
  have ha_584 : M_567 q_379 = some (.inl (G.2 4, 7, .inl (fun _ => 0))) := by rw [eM_568, hp_up_n (hp_ne0 ha_561 hq_566)]; exact ha_561
  have ha_585 : M_567 q_421 = some (.inl (G.2 5, 16800, .inr (.inl (fun _ => 0)))) := by rw [eM_568, hp_up_n (hp_ne0 ha_562 hq_566)]; exact ha_562
  have ho_586 : M_567 q_565 = some ((.inl (G.2 5, 12, .inr (.inl (fun _ => 0))))) := by rw [eM_568]; exact hp_up_s
  have fr_587 := hp_fr.new fr_563 hq_566 eM_568
  have nn_588 := hp_fr.nn fr_563 hq_566
  have ad_589 := hp_ad.new ad_564 hq_566 eM_568
  refine V_putF C hname f_X20_76_9 ho_569 rfl rfl (Nat.le_of_ble_eq_true rfl) dX20_init_166 ?_
  obtain ⟨M_590, eM_591⟩ : ∃ z, z = hp_up M_567 mo (.inr (9, [.int 0, .int 0, .ref q_1, .ref q_15, .ref q_31, .int 0, .ref q_49, .ref q_69, .int 0, .ref q_91, .ref q_115, .int 0, .int 0, .int 0, .int 0, .int 0, .ref q_141, .ref q_169, .long 0, .ref q_199, .int 0, .ref q_231, .ref q_265, .ref q_301, .ref q_339, .ref q_379, .ref q_421, .int (-1), .int (-1), .int (-1), .int (-1), .int (-1), .ref q_565])) := ⟨_, rfl⟩
  refine V_heap (M' := M_590) eM_591.symm ?_
  have ha_592 : M_590 q_1 = some (.inl (G.2 4, 60, .inl (fun _ => 0))) := by rw [eM_591, hp_up_n (hp_ne ha_570 ho_569 (by simp))]; exact ha_570
  have ha_593 : M_590 q_15 = some (.inl (G.2 4, 60, .inl (fun _ => 0))) := by rw [eM_591, hp_up_n (hp_ne ha_571 ho_569 (by simp))]; exact ha_571
  have ha_594 : M_590 q_31 = some (.inl (G.2 5, 2400, .inr (.inl (fun _ => 0)))) := by rw [eM_591, hp_up_n (hp_ne ha_572 ho_569 (by simp))]; exact ha_572
  have ha_595 : M_590 q_49 = some (.inl (G.2 4, 30, .inl (fun _ => 0))) := by rw [eM_591, hp_up_n (hp_ne ha_573 ho_569 (by simp))]; exact ha_573
  have ha_596 : M_590 q_69 = some (.inl (G.2 4, 30, .inl (fun _ => 0))) := by rw [eM_591, hp_up_n (hp_ne ha_574 ho_569 (by simp))]; exact ha_574
  have ha_597 : M_590 q_91 = some (.inl (G.2 4, 8000, .inl (fun _ => 0))) := by rw [eM_591, hp_up_n (hp_ne ha_575 ho_569 (by simp))]; exact ha_575
  have ha_598 : M_590 q_115 = some (.inl (G.2 4, 320000, .inl (fun _ => 0))) := by rw [eM_591, hp_up_n (hp_ne ha_576 ho_569 (by simp))]; exact ha_576
  have ha_599 : M_590 q_141 = some (.inl (G.2 4, 6, .inl (fun _ => 0))) := by rw [eM_591, hp_up_n (hp_ne ha_577 ho_569 (by simp))]; exact ha_577
  have ha_600 : M_590 q_169 = some (.inl (G.2 4, 432, .inl (fun _ => 0))) := by rw [eM_591, hp_up_n (hp_ne ha_578 ho_569 (by simp))]; exact ha_578
  have ha_601 : M_590 q_199 = some (.inl (G.2 5, 40, .inr (.inl (fun _ => 0)))) := by rw [eM_591, hp_up_n (hp_ne ha_579 ho_569 (by simp))]; exact ha_579
  have ha_602 : M_590 q_231 = some (.inl (G.2 4, 7, .inl (fun _ => 0))) := by rw [eM_591, hp_up_n (hp_ne ha_580 ho_569 (by simp))]; exact ha_580
  have ha_603 : M_590 q_265 = some (.inl (G.2 4, 7, .inl (fun _ => 0))) := by rw [eM_591, hp_up_n (hp_ne ha_581 ho_569 (by simp))]; exact ha_581
  have ha_604 : M_590 q_301 = some (.inl (G.2 4, 7, .inl (fun _ => 0))) := by rw [eM_591, hp_up_n (hp_ne ha_582 ho_569 (by simp))]; exact ha_582
  have ha_605 : M_590 q_339 = some (.inl (G.2 4, 7, .inl (fun _ => 0))) := by rw [eM_591, hp_up_n (hp_ne ha_583 ho_569 (by simp))]; exact ha_583
  have ha_606 : M_590 q_379 = some (.inl (G.2 4, 7, .inl (fun _ => 0))) := by rw [eM_591, hp_up_n (hp_ne ha_584 ho_569 (by simp))]; exact ha_584
  have ha_607 : M_590 q_421 = some (.inl (G.2 5, 16800, .inr (.inl (fun _ => 0)))) := by rw [eM_591, hp_up_n (hp_ne ha_585 ho_569 (by simp))]; exact ha_585
  have ha_608 : M_590 q_565 = some (.inl (G.2 5, 12, .inr (.inl (fun _ => 0)))) := by rw [eM_591, hp_up_n (hp_ne ho_586 ho_569 (by simp))]; exact ho_586
  have eM_591_s : M_590 mo = some (.inr (9, [.int 0, .int 0, .ref q_1, .ref q_15, .ref q_31, .int 0, .ref q_49, .ref q_69, .int 0, .ref q_91, .ref q_115, .int 0, .int 0, .int 0, .int 0, .int 0, .ref q_141, .ref q_169, .long 0, .ref q_199, .int 0, .ref q_231, .ref q_265, .ref q_301, .ref q_339, .ref q_379, .ref q_421, .int (-1), .int (-1), .int (-1), .int (-1), .int (-1), .ref q_565])) := by rw [eM_591]; exact hp_up_s
  have fr_609 := hp_fr.set fr_587 (Or.inl rfl) eM_591
  have ad_610 := hp_ad.set ad_589 eM_591
  refine V_vret C dX20_init_169 rfl ?_ (by first | exact Nat.le_of_ble_eq_true rfl | omega | (dsimp only; omega)) (by first | exact Nat.le_of_ble_eq_true rfl | omega | (dsimp only; omega))
  have had := ad_610
  refine ⟨rfl, fun k => ([q_565, q_421, q_379, q_339, q_301, q_265, q_231, q_199, q_169, q_141, q_115, q_91, q_69, q_49, q_31, q_15, q_1] : List Nat).getD (mf_pos9 k) 0, ⟨?_, ?_, ?_, mf_ad_inj (List.nodup_append.mp (show (([q_565, q_421, q_379, q_339, q_301, q_265, q_231, q_199, q_169, q_141, q_115, q_91, q_69, q_49, q_31, q_15, q_1] : List Nat) ++ [mo]).Nodup from had.1)).1 rfl, ?_⟩, fr_609⟩
  · exact eM_591_s
  · intro k hk
    have hk3 := (mf_pos9_lt k (by omega)).1
    match k, hk3, hk with
    | 0, _, h => exact absurd h (by decide)
    | 1, _, h => exact absurd h (by decide)
    | 2, _, _ => exact ha_592
    | 3, _, _ => exact ha_593
    | 4, _, h => exact absurd h (by decide)
    | 5, _, h => exact absurd h (by decide)
    | 6, _, _ => exact ha_595
    | 7, _, _ => exact ha_596
    | 8, _, h => exact absurd h (by decide)
    | 9, _, _ => exact ha_597
    | 10, _, _ => exact ha_598
    | 11, _, h => exact absurd h (by decide)
    | 12, _, h => exact absurd h (by decide)
    | 13, _, h => exact absurd h (by decide)
    | 14, _, h => exact absurd h (by decide)
    | 15, _, h => exact absurd h (by decide)
    | 16, _, _ => exact ha_599
    | 17, _, _ => exact ha_600
    | 18, _, h => exact absurd h (by decide)
    | 19, _, h => exact absurd h (by decide)
    | 20, _, h => exact absurd h (by decide)
    | 21, _, _ => exact ha_602
    | 22, _, _ => exact ha_603
    | 23, _, _ => exact ha_604
    | 24, _, _ => exact ha_605
    | 25, _, _ => exact ha_606
    | 26, _, h => exact absurd h (by decide)
    | 27, _, h => exact absurd h (by decide)
    | 28, _, h => exact absurd h (by decide)
    | 29, _, h => exact absurd h (by decide)
    | 30, _, h => exact absurd h (by decide)
    | 31, _, h => exact absurd h (by decide)
    | 32, _, h => exact absurd h (by decide)
    | n + 33, h, _ => exact absurd h (by omega)
  · intro k hk
    have hk3 := (mf_pos9_lt k (by omega)).1
    match k, hk3, hk with
    | 0, _, h => exact absurd h (by decide)
    | 1, _, h => exact absurd h (by decide)
    | 2, _, h => exact absurd h (by decide)
    | 3, _, h => exact absurd h (by decide)
    | 4, _, _ => exact ha_594
    | 5, _, h => exact absurd h (by decide)
    | 6, _, h => exact absurd h (by decide)
    | 7, _, h => exact absurd h (by decide)
    | 8, _, h => exact absurd h (by decide)
    | 9, _, h => exact absurd h (by decide)
    | 10, _, h => exact absurd h (by decide)
    | 11, _, h => exact absurd h (by decide)
    | 12, _, h => exact absurd h (by decide)
    | 13, _, h => exact absurd h (by decide)
    | 14, _, h => exact absurd h (by decide)
    | 15, _, h => exact absurd h (by decide)
    | 16, _, h => exact absurd h (by decide)
    | 17, _, h => exact absurd h (by decide)
    | 18, _, h => exact absurd h (by decide)
    | 19, _, _ => exact ha_601
    | 20, _, h => exact absurd h (by decide)
    | 21, _, h => exact absurd h (by decide)
    | 22, _, h => exact absurd h (by decide)
    | 23, _, h => exact absurd h (by decide)
    | 24, _, h => exact absurd h (by decide)
    | 25, _, h => exact absurd h (by decide)
    | 26, _, _ => exact ha_607
    | 27, _, h => exact absurd h (by decide)
    | 28, _, h => exact absurd h (by decide)
    | 29, _, h => exact absurd h (by decide)
    | 30, _, h => exact absurd h (by decide)
    | 31, _, h => exact absurd h (by decide)
    | 32, _, _ => exact ha_608
    | n + 33, h, _ => exact absurd h (by omega)
  · intro k hk h
    have h2 := (mf_pos9_lt k hk).2
    have hm : ([q_565, q_421, q_379, q_339, q_301, q_265, q_231, q_199, q_169, q_141, q_115, q_91, q_69, q_49, q_31, q_15, q_1] : List Nat).getD (mf_pos9 k) 0 ∈ ([q_565, q_421, q_379, q_339, q_301, q_265, q_231, q_199, q_169, q_141, q_115, q_91, q_69, q_49, q_31, q_15, q_1] : List Nat) := by
      rw [List.getD_eq_getElem?_getD, List.getElem?_eq_getElem (by exact h2)]
      exact List.getElem_mem _
    exact (List.nodup_append.mp (show (([q_565, q_421, q_379, q_339, q_301, q_265, q_231, q_199, q_169, q_141, q_115, q_91, q_69, q_49, q_31, q_15, q_1] : List Nat) ++ [mo]).Nodup from had.1)).2.2 _ hm mo (List.mem_singleton.mpr rfl) h
