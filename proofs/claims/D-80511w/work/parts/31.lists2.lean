set_option maxRecDepth 100000
/-- cells of one shape: the same class -/
def hp_sm (e e' : va_E) : Prop := match e, e' with
  | .inl a, .inl b => a.1 = b.1
  | .inr a, .inr b => a.1 = b.1
  | _, _ => False
theorem hp_sm.rf {e : va_E} : hp_sm e e := by cases e <;> rfl
theorem hp_sm.trans {e e' e'' : va_E} (h : hp_sm e e') (h' : hp_sm e' e'') : hp_sm e e'' := by
  cases e <;> cases e' <;> cases e'' <;> first | exact Eq.trans h h' | exact h.elim | exact h'.elim
/-- what lies in M lies in M' too, of its class -/
def hp_sh (M M' : hp_h) : Prop := ∀ a e, M a = some e → ∃ e', M' a = some e' ∧ hp_sm e e'
theorem hp_sh.rf {M : hp_h} : hp_sh M M := fun _ e h => ⟨e, h, hp_sm.rf⟩
theorem hp_sh.trans {M M' M'' : hp_h} (h : hp_sh M M') (h' : hp_sh M' M'') : hp_sh M M'' := fun a e ha => by
  obtain ⟨e1, h1, s1⟩ := h a e ha
  obtain ⟨e2, h2, s2⟩ := h' a e1 h1
  exact ⟨e2, h2, s1.trans s2⟩
theorem hp_sh.set {M0 M M2 : hp_h} {a : Nat} {E E' : va_E} (h : hp_sh M0 M) (ha : M a = some E) (e : M2 = hp_up M a E') (hs : hp_sm E E') : hp_sh M0 M2 := h.trans (fun b x hb => by
  by_cases hba : b = a
  · subst hba
    rw [ha] at hb
    cases hb
    exact ⟨E', by rw [e]; exact hp_up_s, hs⟩
  · exact ⟨x, by rw [e, hp_up_n hba]; exact hb, hp_sm.rf⟩)
theorem hp_sh.new {M0 M M2 : hp_h} {q : Nat} {E : va_E} (h : hp_sh M0 M) (hq : M q = none) (e : M2 = hp_up M q E) : hp_sh M0 M2 := h.trans (fun b x hb => ⟨x, by rw [e, hp_up_n (hp_ne0 hb hq)]; exact hb, hp_sm.rf⟩)
theorem hp_sh.of {M M' : hp_h} (h : hp_fr (fun _ => False) M M') : hp_sh M M' := fun a e ha => ⟨e, h a e (fun z => z) ha, hp_sm.rf⟩
theorem hp_AS.sh {G : hp_G} {M M' : hp_h} {ty : FieldType} {y : Nat} (h : hp_AS G M ty y) (hf : hp_sh M M') : hp_AS G M' ty y := by
  rcases h with ⟨E, ci, fs, r, h1, h2, h3⟩ | ⟨E, j, x, h1, h2, h3, h4⟩ | ⟨h1, x, h2⟩
  · obtain ⟨e', a1, a2⟩ := hf _ _ h2
    rcases e' with e' | ⟨ci', fs'⟩
    · exact a2.elim
    · cases (show ci = ci' from a2)
      exact Or.inl ⟨E, ci, fs', r, h1, a1, h3⟩
  · obtain ⟨e', a1, a2⟩ := hf _ _ h3
    rcases e' with ⟨c', x'⟩ | e'
    · cases (show G.2 j = c' from a2)
      exact Or.inr (Or.inl ⟨E, j, x', h1, h2, a1, h4⟩)
    · exact a2.elim
  · obtain ⟨e', a1, a2⟩ := hf _ _ h2
    rcases e' with ⟨c', x'⟩ | e'
    · cases (show G.2 4 = c' from a2)
      exact Or.inr (Or.inr ⟨h1, x', a1⟩)
    · exact a2.elim
def gm (c : Nat) : Nat := if c / 2 < 1 then 1 else c / 2
def gcap (c : Nat) : Nat := if c = 0 then 10 else c + gm c
theorem gm_le {c : Nat} : gm c ≤ c / 2 + 1 := by unfold gm; split <;> omega
theorem gm_pos {c : Nat} : 1 ≤ gm c := by unfold gm; split <;> omega
theorem gcap_le {c : Nat} (h : c < 60) : gcap c ≤ 90 := by unfold gcap gm; split <;> (try split) <;> omega
theorem gcap_gt {c : Nat} : c < gcap c := by unfold gcap gm; split <;> (try split) <;> omega
theorem nI_shr {c : Nat} (h : c < 2 ^ 20) : nI c >>> ((1 : Int32) &&& 31) = nI (c / 2) := by
  refine Int32.toInt_inj.mp ?_
  rw [nI_toInt (by omega)]
  have e : (nI c >>> ((1 : Int32) &&& 31)).toInt = (nI c).toInt / 2 := by
    rw [show ((1 : Int32) &&& 31) = 1 from by decide]
    have h1 : (nI c >>> (1 : Int32)).toBitVec = (nI c).toBitVec.sshiftRight 1 := by
      rw [Int32.toBitVec_shiftRight]
      rfl
    have h2 : (nI c >>> (1 : Int32)).toInt = ((nI c).toBitVec.sshiftRight 1).toInt := by rw [← h1]; rfl
    rw [h2, BitVec.toInt_sshiftRight, Int.shiftRight_eq_div_pow]
    rfl
  rw [e, nI_toInt (by omega)]
  omega
theorem gm_max {c : Nat} (h : c < 1000) : (if (1 : Int32) < nI (c / 2) then nI (c / 2) else 1) = nI (gm c) := by
  unfold gm
  by_cases h1 : c / 2 < 1
  · rw [if_pos h1, if_neg (fun z => by have := (nI_ltI (a := 1) (b := c / 2) (by omega) (by omega)).mp z; omega)]; rfl
  · rw [if_neg h1]
    by_cases h2 : (1 : Int32) < nI (c / 2)
    · rw [if_pos h2]
    · rw [if_neg h2]
      have : ¬ 1 < c / 2 := fun z => h2 ((nI_ltI (a := 1) (b := c / 2) (by omega) (by omega)).mpr z)
      rw [show c / 2 = 1 by omega]; rfl
theorem nI_sub1 (n : Nat) : nI (n + 1) - nI n = 1 := by rw [← nI_1, Int32.add_comm]; exact Int32.add_sub_cancel _ _
theorem nI_min {a b : Nat} (h : a ≤ b) (hb : b < 2 ^ 31) : (if nI b < nI a then nI b else nI a) = nI a := if_neg (fun z => by have := (nI_ltI (by omega) (by omega)).mp z; omega)
section V31
variable {p : Program} {l : Launch} {e : Env} {R : Room} {s : State} {m : MethodId} {args : Array Value} {below : List Frame} {meth : Method} {c : Code} {cc : ByteArray} {own : String} {nL : Nat} {ret : Option FieldType} {hh : List (Nat × Nat × Nat × Nat)} {G : hp_G} {X : Nat → Nat} {N0 : Nat} {Q : State → Prop} {cells slots : Nat} {M : hp_h} {pc : Nat} {L : List (Nat × Value)} {rest : List Value} {idx : Nat}
theorem V_copy_qN (C : Cx p l s m args meth c cc own nL ret hh G X N0) (hI : ACI own idx) {a0 a j0 j1 n0 n1 : Nat} {ty0 ty1 : FieldType} {f g : Nat → Option Nat} (ht0 : (TYS G.2)[j0]? = some (G.2 j0, ty0)) (ht1 : (TYS G.2)[j1]? = some (G.2 j1, ty1)) (hr0 : refKind ty0 = true) (hr1 : refKind ty1 = true) (ha0 : M a0 = some (.inl (G.2 j0, n0, .inr (.inr (.inr (.inr f)))))) (ha : M a = some (.inl (G.2 j1, n1, .inr (.inr (.inr (.inr g)))))) {sp dp n : Nat} (h4 : sp + n ≤ n0) (h5 : dp + n ≤ n1) (hn0 : n0 ≤ 60000000) (hn1 : n1 ≤ 60000000) (hel : ∀ i, i < n → ∀ y, f (sp + i) = some y → hp_AS G M ty1 y) (hR : 1 ≤ R.frames ∧ (rest.map fun v => v.category).sum + (nativeFrameWords "java/lang/System" "arraycopy" 5 + 11) ≤ R.locals) (hdg : decode cc pc = .ok (.invokestatic idx, 3)) (kk : V p l e R s m args below meth c G N0 nL Q cells slots (hp_up M a (.inl (G.2 j1, n1, .inr (.inr (.inr (.inr (va_cpy f g sp dp n))))))) (pc + 3) L rest) : V p l e R s m args below meth c G N0 nL Q cells slots M pc L (.int (nI n) :: .int (nI dp) :: .ref a :: .int (nI sp) :: .ref a0 :: rest) := by
  have e1 : (nI sp).toNatClampNeg = sp := nI_clamp (by omega)
  have e2 : (nI dp).toNatClampNeg = dp := nI_clamp (by omega)
  have e3 : (nI n).toNatClampNeg = n := nI_clamp (by omega)
  exact V_copy_q C hI ht0 ht1 hr0 hr1 ha0 ha (nI_pos (by omega)) (nI_pos (by omega)) (nI_pos (by omega)) (by rw [e1, e3]; exact h4) (by rw [e2, e3]; exact h5) (by rw [e1, e3]; exact hel) hR hdg (by rw [e1, e2, e3]; exact kk)
theorem V_copyKN (C : Cx p l s m args meth c cc own nL ret hh G X N0) (hI : ACI own idx) {a0 a j0 j1 : Nat} {x0 x1 : vp_A} (hj : j0 = j1 ∨ ((j0 = 8 ∨ j0 = 9) ∧ (j1 = 8 ∨ j1 = 9))) (hc0 : CT j0 x0.2) (hc1 : CT j1 x1.2) (ha0 : M a0 = some (.inl (G.2 j0, x0))) (ha : M a = some (.inl (G.2 j1, x1))) {sp dp n : Nat} (h4 : sp + n ≤ x0.1) (h5 : dp + n ≤ x1.1) (hn0 : x0.1 ≤ 60000000) (hn1 : x1.1 ≤ 60000000) (hel : ∀ i, i < n → EV G M j1 (cv x0.2 (sp + i))) (hR : 1 ≤ R.frames ∧ (rest.map fun v => v.category).sum + (nativeFrameWords "java/lang/System" "arraycopy" 5 + 11) ≤ R.locals) (hdg : decode cc pc = .ok (.invokestatic idx, 3))
    (kk : ∀ x' : vp_A, XT j1 x1.1 x' → (∀ i, cv x'.2 i = if dp ≤ i ∧ i < dp + n then cv x0.2 (sp + (i - dp)) else cv x1.2 i) → V p l e R s m args below meth c G N0 nL Q cells slots (hp_up M a (.inl (G.2 j1, x'))) (pc + 3) L rest) : V p l e R s m args below meth c G N0 nL Q cells slots M pc L (.int (nI n) :: .int (nI dp) :: .ref a :: .int (nI sp) :: .ref a0 :: rest) := by
  have e1 : (nI sp).toNatClampNeg = sp := nI_clamp (by omega)
  have e2 : (nI dp).toNatClampNeg = dp := nI_clamp (by omega)
  have e3 : (nI n).toNatClampNeg = n := nI_clamp (by omega)
  exact V_copyK C hI hj hc0 hc1 ha0 ha (nI_pos (by omega)) (nI_pos (by omega)) (nI_pos (by omega)) (by rw [e1, e3]; exact h4) (by rw [e2, e3]; exact h5) (by rw [e1, e3]; exact hel) hR hdg (by rw [e1, e2, e3]; exact kk)
end V31
theorem hp_AS.mono {G : hp_G} {M M' : hp_h} {ty : FieldType} {y : Nat} (h : hp_AS G M ty y) (hf : hp_fr (fun _ => False) M M') : hp_AS G M' ty y := by
  rcases h with ⟨E, ci, fs, r, h1, h2, h3⟩ | ⟨E, j, x, h1, h2, h3, h4⟩ | ⟨h1, x, h2⟩
  · exact Or.inl ⟨E, ci, fs, r, h1, hf _ _ (fun z => z) h2, h3⟩
  · exact Or.inr (Or.inl ⟨E, j, x, h1, h2, hf _ _ (fun z => z) h3, h4⟩)
  · exact Or.inr (Or.inr ⟨h1, x, hf _ _ (fun z => z) h2⟩)
set_option maxHeartbeats 1000000 in
theorem c_J3_newLength (l : Launch) (hl : l.stackTraces = false) (G : hp_G) (X : Nat → Nat) (N0 : Nat) (M : hp_h) (cap : Nat) (hc : cap < 1000) : HM l yJ3_newLength (ws_ yJ3_newLength cJ3_newLength 4 (some .int)) 1 24 0 0 G X N0 [.int (nI cap), .int 1, .int (nI (cap / 2))] M (PV (.int (nI (cap + gm cap))) M) PX0 := by
  refine HM.of hl [(0, .int (nI cap)), (1, .int 1), (2, .int (nI (cap / 2)))] (by decide +kernel) rfl (Nat.le_of_ble_eq_true rfl) ?_
  intro p e s m args below meth c C hname
  refine V_iload_n C dJ3_newLength_0 rfl 0 rfl ?_
  refine V_iload_n C dJ3_newLength_1 rfl 1 rfl ?_
  refine V_iload_n C dJ3_newLength_2 rfl 2 rfl ?_
  refine V_mmax C cs_J3_194 ⟨Nat.le_of_ble_eq_true rfl, Nat.le_of_ble_eq_true rfl⟩ ⟨by first | exact Nat.le_of_ble_eq_true rfl | omega | (dsimp only; omega), by first | exact Nat.le_of_ble_eq_true rfl | omega | (dsimp only; omega)⟩ dJ3_newLength_3 ?_
  refine V_st (st' := [.int (nI (gm cap)), .int (nI cap)]) (by rw [show (if 1 < nI (cap / 2) then nI (cap / 2) else 1) = (nI (gm cap)) from (gm_max hc)]) ?_
  refine V_iadd C dJ3_newLength_6 ?_
  refine V_st (st' := [.int (nI (cap + (gm cap)))]) (by rw [show ((nI cap) + (nI (gm cap))) = (nI (cap + (gm cap))) from nI_add cap (gm cap)]) ?_
  refine V_istore_n C dJ3_newLength_7 rfl (Nat.le_of_ble_eq_true rfl) [(0, .int (nI cap)), (1, .int 1), (2, .int (nI (cap / 2))), (3, .int (nI (cap + (gm cap))))] [1, 2, 3, 0] rfl ?_
  refine V_iconst (v := 0) C dJ3_newLength_8 rfl ?_
  refine V_iload_n C dJ3_newLength_9 rfl 3 rfl ?_
  refine V_icmp_ge (tgt := 21) C dJ3_newLength_10 (by decide) (fun c_10 => ?_) (fun c_10 => ?_)
  · exact absurd c_10 (Int32.not_le.mpr ((nI_ltI (a := 0) (b := cap + gm cap) (by omega) (by have := @gm_le cap; omega)).mpr (by have := @gm_pos cap; omega)))
  · refine V_iload_n C dJ3_newLength_13 rfl 3 rfl ?_
    refine V_ldc (v := 2147483639) C (C.w q482) dJ3_newLength_14 ?_
    refine V_pc (pc1 := 16) rfl ?_
    refine V_icmp_gt (tgt := 21) C dJ3_newLength_16 (by decide) (fun c_16 => ?_) (fun c_16 => ?_)
    · exact absurd c_16 (Int32.not_lt.mpr ((nI_leI (a := cap + gm cap) (b := 2147483639) (by have := @gm_le cap; omega) (by omega)).mpr (by have := @gm_le cap; omega)))
    · refine V_iload_n C dJ3_newLength_19 rfl 3 rfl ?_
      refine V_iret C dJ3_newLength_20 rfl ?_ (by first | exact Nat.le_of_ble_eq_true rfl | omega | (dsimp only; omega)) (by first | exact Nat.le_of_ble_eq_true rfl | omega | (dsimp only; omega))
      exact ⟨rfl, rfl⟩
set_option maxHeartbeats 1000000 in
theorem c_J5_copyOf_2 (l : Launch) (hl : l.stackTraces = false) (G : hp_G) (X : Nat → Nat) (N0 : Nat) (M : hp_h) (a n N : Nat) (f : Nat → Option Nat) (ha : M a = some (.inl (G.2 11, n, RV f))) (hn : n ≤ N) (hN : N ≤ 1000) (hel : ∀ i, i < n → ∀ y, f i = some y → hp_AS G M (.object "java/lang/Object") y) : HM l yJ5_copyOf_2 (ws_ yJ5_copyOf_2 cJ5_copyOf_2 4 (some (.array (.object "java/lang/Object")))) 1 30 1 N G X N0 [.ref a, .int (nI N), .ref (X 1)] M (fun v M' => ∃ q f', v = some (.ref q) ∧ M q = none ∧ M' q = some (.inl (G.2 11, N, RV f')) ∧ (∀ i, i < n → f' i = f i) ∧ hp_fr (fun _ => False) M M') PX0 := by
  refine HM.of hl [(0, .ref a), (1, .int (nI N)), (2, .ref (X 1))] (by decide +kernel) rfl (Nat.le_of_ble_eq_true rfl) ?_
  intro p e s m args below meth c C hname
  have hfr : hp_fr (fun _ => False) M M := hp_fr.rf
  refine V_aload_n C dJ5_copyOf_2_0 rfl 2 rfl ?_
  refine V_ldcM C q524 dJ5_copyOf_2_1 ?_
  refine V_st (st' := va_rf (some (X 1)) :: va_rf (some (X 1)) :: []) rfl ?_
  refine V_acmp_ne (tgt := 13) C dJ5_copyOf_2_3 (by decide) (fun c_3 => ?_) (fun c_3 => ?_)
  · exact absurd rfl c_3
  · refine V_iload_n C dJ5_copyOf_2_6 rfl 1 rfl ?_
    refine V_new_q (j := 11) C rfl q526 (List.mem_of_getElem? (i := 5) rfl) (N' := N) (nI_pos (by omega)) (nI_clamp (by omega)) (by omega) (by first | exact Nat.le_of_ble_eq_true rfl | omega | (dsimp only; omega)) (by first | exact Nat.le_of_ble_eq_true rfl | omega | (dsimp only; omega)) dJ5_copyOf_2_7 (fun q_1 hq_2 => ?_)
    have ne_3 : a ≠ q_1 := hp_ne0 ha hq_2
    obtain ⟨M_4, eM_5⟩ : ∃ z, z = hp_up M q_1 ((.inl (G.2 11, N, .inr (.inr (.inr (.inr (fun _ => none))))))) := ⟨_, rfl⟩
    refine V_heap (M' := M_4) eM_5.symm ?_
    have ha_6 : M_4 a = some (.inl (G.2 11, n, .inr (.inr (.inr (.inr f))))) := by rw [eM_5, hp_up_n (hp_ne0 ha hq_2)]; exact ha
    have ho_7 : M_4 q_1 = some ((.inl (G.2 11, N, .inr (.inr (.inr (.inr (fun _ => none))))))) := by rw [eM_5]; exact hp_up_s
    have fr_8 := hp_fr.new hfr hq_2 eM_5
    have nn_9 := hp_fr.nn hfr hq_2
    refine V_goto (tgt := 24) C dJ5_copyOf_2_10 (by decide) ?_
    refine V_astore_n C dJ5_copyOf_2_24 rfl (Nat.le_of_ble_eq_true rfl) [(0, .ref a), (1, .int (nI N)), (2, .ref (X 1)), (3, .ref q_1)] [1, 2, 3, 0] rfl ?_
    refine V_aload_n C dJ5_copyOf_2_25 rfl 0 rfl ?_
    refine V_iconst (v := 0) C dJ5_copyOf_2_26 rfl ?_
    refine V_aload_n C dJ5_copyOf_2_27 rfl 3 rfl ?_
    refine V_iconst (v := 0) C dJ5_copyOf_2_28 rfl ?_
    refine V_pc (pc1 := 29) rfl ?_
    refine V_aload_n C dJ5_copyOf_2_29 rfl 0 rfl ?_
    refine V_alen (j := 11) C rfl ha_6 (v := nI n) rfl dJ5_copyOf_2_30 ?_
    refine V_iload_n C dJ5_copyOf_2_31 rfl 1 rfl ?_
    refine V_mmin C cs_J5_304 ⟨Nat.le_of_ble_eq_true rfl, Nat.le_of_ble_eq_true rfl⟩ ⟨by first | exact Nat.le_of_ble_eq_true rfl | omega | (dsimp only; omega), by first | exact Nat.le_of_ble_eq_true rfl | omega | (dsimp only; omega)⟩ dJ5_copyOf_2_32 ?_
    refine V_st (st' := [.int (nI n), .int 0, .ref q_1, .int 0, .ref a]) (by rw [show (if nI N < nI n then nI N else nI n) = (nI n) from (nI_min hn (by omega))]) ?_
    refine V_st (st' := [.int (nI n), .int (nI 0), .ref q_1, .int (nI 0), .ref a]) rfl ?_
    refine V_copy_qN C ⟨q530, q532, q531, q76⟩ (j0 := 11) (j1 := 11) rfl rfl rfl rfl ha_6 ho_7 (sp := 0) (dp := 0) (n := n) (by omega) (by omega) (by omega) (by omega) (fun i hi y hy => (hel i hi y (by rw [← hy, Nat.zero_add])).mono fr_8) ⟨Nat.le_of_ble_eq_true rfl, Nat.le_of_ble_eq_true rfl⟩ dJ5_copyOf_2_35 ?_
    obtain ⟨M_10, eM_11⟩ : ∃ z, z = hp_up M_4 q_1 (.inl (G.2 11, N, .inr (.inr (.inr (.inr (va_cpy f (fun _ => none) 0 0 n)))))) := ⟨_, rfl⟩
    refine V_heap (M' := M_10) eM_11.symm ?_
    have ha_12 : M_10 a = some (.inl (G.2 11, n, .inr (.inr (.inr (.inr f))))) := by rw [eM_11, hp_up_n ne_3]; exact ha_6
    have eM_11_s : M_10 q_1 = some (.inl (G.2 11, N, .inr (.inr (.inr (.inr (va_cpy f (fun _ => none) 0 0 n)))))) := by rw [eM_11]; exact hp_up_s
    have fr_13 := hp_fr.set fr_8 nn_9 eM_11
    refine V_aload_n C dJ5_copyOf_2_38 rfl 3 rfl ?_
    refine V_st (st' := [va_rf (some q_1)]) rfl ?_
    refine V_aret C (by first | exact Or.inl ⟨_, rfl⟩ | exact Or.inr ⟨_, rfl⟩) dJ5_copyOf_2_39 rfl ?_ (by first | exact Nat.le_of_ble_eq_true rfl | omega | (dsimp only; omega)) (by first | exact Nat.le_of_ble_eq_true rfl | omega | (dsimp only; omega))
    exact ⟨q_1, _, rfl, hq_2, eM_11_s, fun i hi => by show va_cpy _ _ _ _ _ _ = _; unfold va_cpy; rw [if_pos ⟨Nat.zero_le _, by omega⟩, Nat.zero_add, Nat.sub_zero], fr_13⟩
set_option maxHeartbeats 1000000 in
theorem c_J5_copyOf (l : Launch) (hl : l.stackTraces = false) (G : hp_G) (X : Nat → Nat) (N0 : Nat) (M : hp_h) (a n N : Nat) (f : Nat → Option Nat) (ha : M a = some (.inl (G.2 11, n, RV f))) (hn : n ≤ N) (hN : N ≤ 1000) (hel : ∀ i, i < n → ∀ y, f i = some y → hp_AS G M (.object "java/lang/Object") y) : HM l yJ5_copyOf (ws_ yJ5_copyOf cJ5_copyOf 2 (some (.array (.object "java/lang/Object")))) 2 53 1 N G X N0 [.ref a, .int (nI N)] M (fun v M' => ∃ q f', v = some (.ref q) ∧ M q = none ∧ M' q = some (.inl (G.2 11, N, RV f')) ∧ (∀ i, i < n → f' i = f i) ∧ hp_fr (fun _ => False) M M') PX0 := by
  refine HM.of hl [(0, .ref a), (1, .int (nI N))] (by decide +kernel) rfl (Nat.le_of_ble_eq_true rfl) ?_
  intro p e s m args below meth c C hname
  have hfr : hp_fr (fun _ => False) M M := hp_fr.rf
  refine V_aload_n C dJ5_copyOf_0 rfl 0 rfl ?_
  refine V_iload_n C dJ5_copyOf_1 rfl 1 rfl ?_
  refine V_aload_n C dJ5_copyOf_2 rfl 0 rfl ?_
  refine V_getC C ⟨q489, q1880, q490, q520⟩ ha ⟨Nat.le_of_ble_eq_true rfl, Nat.le_of_ble_eq_true rfl⟩ dJ5_copyOf_3 ?_
  refine V_callS C (c_J5_copyOf_2 l hl G X N0 M a n N f ha hn hN hel) cs_J5_300 rfl rfl ⟨Nat.le_of_ble_eq_true rfl, Nat.le_of_ble_eq_true rfl⟩ ⟨(by first | exact Nat.le_of_ble_eq_true rfl | omega | (dsimp only; omega)), (by first | exact Nat.le_of_ble_eq_true rfl | omega | (dsimp only; omega))⟩ (Nat.le_of_ble_eq_true rfl) dJ5_copyOf_6 (fun _ _ _ h => px0 h) ?_
  rintro _ M_1 ⟨q_2, f_3, rfl, hq_4, ha_5, hf_6, fr_7⟩
  refine V_st (st' := [.ref q_2]) rfl ?_
  have fr_7_t := hfr.trans (fr_7.weak (fun _ z => z.elim))
  have ne_11 : a ≠ q_2 := hp_ne0 ha hq_4
  have ha_14 : M_1 a = some (.inl (G.2 11, n, .inr (.inr (.inr (.inr f))))) := fr_7 _ _ (fun z => z) ha
  refine V_st (st' := [va_rf (some q_2)]) rfl ?_
  refine V_aret C (by first | exact Or.inl ⟨_, rfl⟩ | exact Or.inr ⟨_, rfl⟩) dJ5_copyOf_9 rfl ?_ (by first | exact Nat.le_of_ble_eq_true rfl | omega | (dsimp only; omega)) (by first | exact Nat.le_of_ble_eq_true rfl | omega | (dsimp only; omega))
  exact ⟨q_2, f_3, rfl, hq_4, ha_5, hf_6, fr_7_t⟩
set_option maxHeartbeats 1000000 in
theorem c_J2_grow_2_n (l : Launch) (hl : l.stackTraces = false) (G : hp_G) (X : Nat → Nat) (N0 : Nat) (M : hp_h) (a e0 n : Nat) (md : Int32) (f : Nat → Option Nat) (hl9 : M a = some (.inr (1, [.int md, .ref e0, .int (nI n)]))) (he : M e0 = some (.inl (G.2 11, n, RV f))) (hn0 : 0 < n) (hn : n < 100) (hel : ∀ i, i < n → ∀ y, f i = some y → hp_AS G M (.object "java/lang/Object") y) : HM l yJ2_grow_2 (ws_ yJ2_grow_2 cJ2_grow_2 4 (some (.array (.object "java/lang/Object")))) 3 74 1 (gcap n) G X N0 [.ref a, .int (nI (n + 1))] M (fun v M' => ∃ q f', v = some (.ref q) ∧ M q = none ∧ M' a = some (.inr (1, [.int md, .ref q, .int (nI n)])) ∧ M' q = some (.inl (G.2 11, gcap n, RV f')) ∧ (∀ i, i < n → f' i = f i) ∧ hp_fr (fun b => b = a) M M') PX0 := by
  refine HM.of hl [(0, .ref a), (1, .int (nI (n + 1)))] (by decide +kernel) rfl (Nat.le_of_ble_eq_true rfl) ?_
  intro p e s m args below meth c C hname
  have hfr : hp_fr (fun b => b = a) M M := hp_fr.rf
  have hgc : gcap n = n + gm n := by unfold gcap; rw [if_neg (by omega)]
  refine V_aload_n C dJ2_grow_2_0 rfl 0 rfl ?_
  refine V_get C f_J2_9_1 hl9 (v := .ref e0) rfl dJ2_grow_2_1 ?_
  refine V_alen (j := 11) C rfl he (v := nI n) rfl dJ2_grow_2_4 ?_
  refine V_istore_n C dJ2_grow_2_5 rfl (Nat.le_of_ble_eq_true rfl) [(0, .ref a), (1, .int (nI (n + 1))), (2, .int (nI n))] [1, 2, 0] rfl ?_
  refine V_iload_n C dJ2_grow_2_6 rfl 2 rfl ?_
  refine V_if_gt (tgt := 20) C dJ2_grow_2_7 (by decide) (fun c_7 => ?_) (fun c_7 => ?_)
  · refine V_iload_n C dJ2_grow_2_20 rfl 2 rfl ?_
    refine V_iload_n C dJ2_grow_2_21 rfl 1 rfl ?_
    refine V_iload_n C dJ2_grow_2_22 rfl 2 rfl ?_
    refine V_isub C dJ2_grow_2_23 ?_
    refine V_st (st' := [.int 1, .int (nI n)]) (by rw [show ((nI (n + 1)) - (nI n)) = 1 from (nI_sub1 n)]) ?_
    refine V_iload_n C dJ2_grow_2_24 rfl 2 rfl ?_
    refine V_pc (pc1 := 25) rfl ?_
    refine V_iconst (v := 1) C dJ2_grow_2_25 rfl ?_
    refine V_ishr C dJ2_grow_2_26 ?_
    refine V_st (st' := [.int (nI (n / 2)), .int 1, .int (nI n)]) (by rw [show ((nI n) >>> (1 &&& 31)) = (nI (n / 2)) from (nI_shr (by omega))]) ?_
    refine V_callS C (c_J3_newLength l hl G X N0 M n (by omega)) cs_J2_73 rfl rfl ⟨Nat.le_of_ble_eq_true rfl, Nat.le_of_ble_eq_true rfl⟩ ⟨(by first | exact Nat.le_of_ble_eq_true rfl | omega | (dsimp only; omega)), (by first | exact Nat.le_of_ble_eq_true rfl | omega | (dsimp only; omega))⟩ (Nat.le_of_ble_eq_true rfl) dJ2_grow_2_27 (fun _ _ _ h => px0 h) ?_
    rintro _ _ ⟨rfl, rfl⟩
    refine V_st (st' := [.int (nI (n + gm n))]) rfl ?_
    refine V_istore_n C dJ2_grow_2_30 rfl (Nat.le_of_ble_eq_true rfl) [(0, .ref a), (1, .int (nI (n + 1))), (2, .int (nI n)), (3, .int (nI (n + gm n)))] [1, 2, 3, 0] rfl ?_
    refine V_aload_n C dJ2_grow_2_31 rfl 0 rfl ?_
    refine V_aload_n C dJ2_grow_2_32 rfl 0 rfl ?_
    refine V_get C f_J2_9_1 hl9 (v := .ref e0) rfl dJ2_grow_2_33 ?_
    refine V_iload_n C dJ2_grow_2_36 rfl 3 rfl ?_
    refine V_callS C (c_J5_copyOf l hl G X N0 M e0 n (n + gm n) f he (by omega) (by have := @gm_le n; omega) hel) cs_J2_66 rfl rfl ⟨Nat.le_of_ble_eq_true rfl, Nat.le_of_ble_eq_true rfl⟩ ⟨(by first | exact Nat.le_of_ble_eq_true rfl | omega | (dsimp only; omega)), (by first | exact Nat.le_of_ble_eq_true rfl | omega | (dsimp only; omega))⟩ (Nat.le_of_ble_eq_true rfl) dJ2_grow_2_37 (fun _ _ _ h => px0 h) ?_
    rintro _ M_1 ⟨q_2, f_3, rfl, hq_4, ha_5, hf_6, fr_7⟩
    refine V_st (st' := [.ref q_2, .ref a]) rfl ?_
    have fr_7_t := hfr.trans (fr_7.weak (fun _ z => z.elim))
    have ne_11 : a ≠ q_2 := hp_ne0 hl9 hq_4
    have ne_13 : e0 ≠ q_2 := hp_ne0 he hq_4
    have ho_16 : M_1 a = some (.inr (1, [.int md, .ref e0, .int (nI n)])) := fr_7 _ _ (fun z => z) hl9
    have ha_17 : M_1 e0 = some (.inl (G.2 11, n, .inr (.inr (.inr (.inr f))))) := fr_7 _ _ (fun z => z) he
    refine V_dup_x1 C dJ2_grow_2_40 rfl rfl ?_
    refine V_put C f_J2_9_1 ho_16 rfl rfl (Nat.le_of_ble_eq_true rfl) dJ2_grow_2_41 ?_
    obtain ⟨M_24, eM_25⟩ : ∃ z, z = hp_up M_1 a (.inr (1, [.int md, .ref q_2, .int (nI n)])) := ⟨_, rfl⟩
    refine V_heap (M' := M_24) eM_25.symm ?_
    have ha_26 : M_24 e0 = some (.inl (G.2 11, n, .inr (.inr (.inr (.inr f))))) := by rw [eM_25, hp_up_n (hp_ne ha_17 ho_16 (by simp))]; exact ha_17
    have ha_27 : M_24 q_2 = some (.inl (G.2 11, (n + gm n), .inr (.inr (.inr (.inr f_3))))) := by rw [eM_25, hp_up_n (Ne.symm ne_11)]; exact ha_5
    have eM_25_s : M_24 a = some (.inr (1, [.int md, .ref q_2, .int (nI n)])) := by rw [eM_25]; exact hp_up_s
    have fr_28 := hp_fr.set fr_7_t (Or.inl rfl) eM_25
    refine V_st (st' := [va_rf (some q_2)]) rfl ?_
    refine V_aret C (by first | exact Or.inl ⟨_, rfl⟩ | exact Or.inr ⟨_, rfl⟩) dJ2_grow_2_44 rfl ?_ (by first | exact Nat.le_of_ble_eq_true rfl | omega | (dsimp only; omega)) (by first | exact Nat.le_of_ble_eq_true rfl | omega | (dsimp only; omega))
    exact ⟨q_2, _, rfl, hq_4, eM_25_s, by rw [show gcap n = n + gm n from by unfold gcap; rw [if_neg (by omega)]]; exact ha_27, hf_6, fr_28⟩
  · exact absurd ((nI_ltI (a := 0) (b := n) (by omega) (by omega)).mpr hn0) c_7
set_option maxHeartbeats 1000000 in
theorem c_J2_grow_2_z (l : Launch) (hl : l.stackTraces = false) (G : hp_G) (X : Nat → Nat) (N0 : Nat) (M : hp_h) (a : Nat) (md : Int32) (hl9 : M a = some (.inr (1, [.int md, .ref (X 0), .int (nI 0)]))) : HM l yJ2_grow_2 (ws_ yJ2_grow_2 cJ2_grow_2 4 (some (.array (.object "java/lang/Object")))) 3 74 1 10 G X N0 [.ref a, .int (nI (0 + 1))] M (fun v M' => ∃ q f', v = some (.ref q) ∧ M q = none ∧ M' a = some (.inr (1, [.int md, .ref q, .int (nI 0)])) ∧ M' q = some (.inl (G.2 11, gcap 0, RV f')) ∧ (∀ i, i < 0 → f' i = none) ∧ hp_fr (fun b => b = a) M M') PX0 := by
  refine HM.of hl [(0, .ref a), (1, .int (nI (0 + 1)))] (by decide +kernel) rfl (Nat.le_of_ble_eq_true rfl) ?_
  intro p e s m args below meth c C hname
  have hfr : hp_fr (fun b => b = a) M M := hp_fr.rf
  refine V_aload_n C dJ2_grow_2_0 rfl 0 rfl ?_
  refine V_get C f_J2_9_1 hl9 (v := .ref (X 0)) rfl dJ2_grow_2_1 ?_
  refine V_alenE C dJ2_grow_2_4 ?_
  refine V_istore_n C dJ2_grow_2_5 rfl (Nat.le_of_ble_eq_true rfl) [(0, .ref a), (1, .int (nI (0 + 1))), (2, .int 0)] [1, 2, 0] rfl ?_
  refine V_iload_n C dJ2_grow_2_6 rfl 2 rfl ?_
  refine V_if_gt (tgt := 20) C dJ2_grow_2_7 (by decide) (fun c_7 => ?_) (fun c_7 => ?_)
  · exact absurd c_7 (by decide)
  · refine V_aload_n C dJ2_grow_2_10 rfl 0 rfl ?_
    refine V_get C f_J2_9_1 hl9 (v := .ref (X 0)) rfl dJ2_grow_2_11 ?_
    refine V_getE C q118 dJ2_grow_2_14 ?_
    refine V_st (st' := va_rf (some (X 0)) :: va_rf (some (X 0)) :: []) rfl ?_
    refine V_acmp_eq (tgt := 45) C dJ2_grow_2_17 (by decide) (fun c_17 => ?_) (fun c_17 => ?_)
    · refine V_aload_n C dJ2_grow_2_45 rfl 0 rfl ?_
      refine V_pc (pc1 := 46) rfl ?_
      refine V_bipush (v := 10) C dJ2_grow_2_46 rfl ?_
      refine V_iload_n C dJ2_grow_2_48 rfl 1 rfl ?_
      refine V_mmax C cs_J2_79 ⟨Nat.le_of_ble_eq_true rfl, Nat.le_of_ble_eq_true rfl⟩ ⟨by first | exact Nat.le_of_ble_eq_true rfl | omega | (dsimp only; omega), by first | exact Nat.le_of_ble_eq_true rfl | omega | (dsimp only; omega)⟩ dJ2_grow_2_49 ?_
      refine V_st (st' := [.int 10, .ref a]) (by rw [show (if 10 < nI (0 + 1) then nI (0 + 1) else 10) = 10 from (by decide)]) ?_
      refine V_new_q (j := 11) C rfl q534 (List.mem_of_getElem? (i := 5) rfl) (N' := 10) (by decide) (by decide) (by decide) (by first | exact Nat.le_of_ble_eq_true rfl | omega | (dsimp only; omega)) (by first | exact Nat.le_of_ble_eq_true rfl | omega | (dsimp only; omega)) dJ2_grow_2_52 (fun q_1 hq_2 => ?_)
      have ne_3 : a ≠ q_1 := hp_ne0 hl9 hq_2
      obtain ⟨M_4, eM_5⟩ : ∃ z, z = hp_up M q_1 ((.inl (G.2 11, 10, .inr (.inr (.inr (.inr (fun _ => none))))))) := ⟨_, rfl⟩
      refine V_heap (M' := M_4) eM_5.symm ?_
      have ho_6 : M_4 a = some (.inr (1, [.int md, .ref (X 0), .int (nI 0)])) := by rw [eM_5, hp_up_n (hp_ne0 hl9 hq_2)]; exact hl9
      have ho_7 : M_4 q_1 = some ((.inl (G.2 11, 10, .inr (.inr (.inr (.inr (fun _ => none))))))) := by rw [eM_5]; exact hp_up_s
      have fr_8 := hp_fr.new hfr hq_2 eM_5
      have nn_9 := hp_fr.nn hfr hq_2
      refine V_dup_x1 C dJ2_grow_2_55 rfl rfl ?_
      refine V_put C f_J2_9_1 ho_6 rfl rfl (Nat.le_of_ble_eq_true rfl) dJ2_grow_2_56 ?_
      obtain ⟨M_10, eM_11⟩ : ∃ z, z = hp_up M_4 a (.inr (1, [.int md, .ref q_1, .int (nI 0)])) := ⟨_, rfl⟩
      refine V_heap (M' := M_10) eM_11.symm ?_
      have ha_12 : M_10 q_1 = some (.inl (G.2 11, 10, .inr (.inr (.inr (.inr (fun _ => none)))))) := by rw [eM_11, hp_up_n (Ne.symm ne_3)]; exact ho_7
      have eM_11_s : M_10 a = some (.inr (1, [.int md, .ref q_1, .int (nI 0)])) := by rw [eM_11]; exact hp_up_s
      have fr_13 := hp_fr.set fr_8 (Or.inl rfl) eM_11
      refine V_st (st' := [va_rf (some q_1)]) rfl ?_
      refine V_aret C (by first | exact Or.inl ⟨_, rfl⟩ | exact Or.inr ⟨_, rfl⟩) dJ2_grow_2_59 rfl ?_ (by first | exact Nat.le_of_ble_eq_true rfl | omega | (dsimp only; omega)) (by first | exact Nat.le_of_ble_eq_true rfl | omega | (dsimp only; omega))
      exact ⟨q_1, _, rfl, hq_2, eM_11_s, ha_12, fun i hi => absurd hi (Nat.not_lt_zero _), fr_13⟩
    · exact absurd rfl c_17
set_option maxHeartbeats 1000000 in
theorem c_J2_grow_n (l : Launch) (hl : l.stackTraces = false) (G : hp_G) (X : Nat → Nat) (N0 : Nat) (M : hp_h) (a e0 n : Nat) (md : Int32) (f : Nat → Option Nat) (hl9 : M a = some (.inr (1, [.int md, .ref e0, .int (nI n)]))) (he : M e0 = some (.inl (G.2 11, n, RV f))) (hn0 : 0 < n) (hn : n < 100) (hel : ∀ i, i < n → ∀ y, f i = some y → hp_AS G M (.object "java/lang/Object") y) : HM l yJ2_grow (ws_ yJ2_grow cJ2_grow 1 (some (.array (.object "java/lang/Object")))) 4 97 1 (gcap n) G X N0 [.ref a] M (fun v M' => ∃ q f', v = some (.ref q) ∧ M q = none ∧ M' a = some (.inr (1, [.int md, .ref q, .int (nI n)])) ∧ M' q = some (.inl (G.2 11, gcap n, RV f')) ∧ (∀ i, i < n → f' i = f i) ∧ hp_fr (fun b => b = a) M M') PX0 := by
  refine HM.of hl [(0, .ref a)] (by decide +kernel) rfl (Nat.le_of_ble_eq_true rfl) ?_
  intro p e s m args below meth c C hname
  have hfr : hp_fr (fun b => b = a) M M := hp_fr.rf
  refine V_aload_n C dJ2_grow_0 rfl 0 rfl ?_
  refine V_aload_n C dJ2_grow_1 rfl 0 rfl ?_
  refine V_get C f_J2_48_1 hl9 (v := .int (nI n)) rfl dJ2_grow_2 ?_
  refine V_iconst (v := 1) C dJ2_grow_5 rfl ?_
  refine V_iadd C dJ2_grow_6 ?_
  refine V_st (st' := [.int (nI (n + 1)), .ref a]) (by rw [show ((nI n) + 1) = (nI (n + 1)) from (nI_1 n)]) ?_
  refine V_callV C (c_J2_grow_2_n l hl G X N0 M a e0 n md f hl9 he hn0 hn hel) cs_J2_69_1 hl9 (show CLS[1]? = some (RJ2, TJ2, 3) from rfl) rfl rfl ⟨Nat.le_of_ble_eq_true rfl, Nat.le_of_ble_eq_true rfl⟩ ⟨(by first | exact Nat.le_of_ble_eq_true rfl | omega | (dsimp only; omega)), (by first | exact Nat.le_of_ble_eq_true rfl | omega | (dsimp only; omega))⟩ (Nat.le_of_ble_eq_true rfl) dJ2_grow_7 (fun _ _ _ h => px0 h) ?_
  rintro _ M_1 ⟨q_2, f_3, rfl, hq_4, ho_5, ha_6, hf_7, fr_8⟩
  refine V_st (st' := [.ref q_2]) rfl ?_
  have fr_8_t := hfr.trans fr_8
  have ne_12 : a ≠ q_2 := hp_ne0 hl9 hq_4
  have ne_14 : e0 ≠ q_2 := hp_ne0 he hq_4
  refine V_st (st' := [va_rf (some q_2)]) rfl ?_
  refine V_aret C (by first | exact Or.inl ⟨_, rfl⟩ | exact Or.inr ⟨_, rfl⟩) dJ2_grow_10 rfl ?_ (by first | exact Nat.le_of_ble_eq_true rfl | omega | (dsimp only; omega)) (by first | exact Nat.le_of_ble_eq_true rfl | omega | (dsimp only; omega))
  exact ⟨q_2, _, rfl, hq_4, ho_5, ha_6, hf_7, fr_8_t⟩
set_option maxHeartbeats 1000000 in
theorem c_J2_grow_z (l : Launch) (hl : l.stackTraces = false) (G : hp_G) (X : Nat → Nat) (N0 : Nat) (M : hp_h) (a : Nat) (md : Int32) (hl9 : M a = some (.inr (1, [.int md, .ref (X 0), .int (nI 0)]))) : HM l yJ2_grow (ws_ yJ2_grow cJ2_grow 1 (some (.array (.object "java/lang/Object")))) 4 97 1 10 G X N0 [.ref a] M (fun v M' => ∃ q f', v = some (.ref q) ∧ M q = none ∧ M' a = some (.inr (1, [.int md, .ref q, .int (nI 0)])) ∧ M' q = some (.inl (G.2 11, gcap 0, RV f')) ∧ (∀ i, i < 0 → f' i = none) ∧ hp_fr (fun b => b = a) M M') PX0 := by
  refine HM.of hl [(0, .ref a)] (by decide +kernel) rfl (Nat.le_of_ble_eq_true rfl) ?_
  intro p e s m args below meth c C hname
  have hfr : hp_fr (fun b => b = a) M M := hp_fr.rf
  refine V_aload_n C dJ2_grow_0 rfl 0 rfl ?_
  refine V_aload_n C dJ2_grow_1 rfl 0 rfl ?_
  refine V_get C f_J2_48_1 hl9 (v := .int (nI 0)) rfl dJ2_grow_2 ?_
  refine V_iconst (v := 1) C dJ2_grow_5 rfl ?_
  refine V_iadd C dJ2_grow_6 ?_
  refine V_st (st' := [.int (nI (0 + 1)), .ref a]) (by rw [show ((nI 0) + 1) = (nI (0 + 1)) from (nI_1 0)]) ?_
  refine V_callV C (c_J2_grow_2_z l hl G X N0 M a md hl9) cs_J2_69_1 hl9 (show CLS[1]? = some (RJ2, TJ2, 3) from rfl) rfl rfl ⟨Nat.le_of_ble_eq_true rfl, Nat.le_of_ble_eq_true rfl⟩ ⟨(by first | exact Nat.le_of_ble_eq_true rfl | omega | (dsimp only; omega)), (by first | exact Nat.le_of_ble_eq_true rfl | omega | (dsimp only; omega))⟩ (Nat.le_of_ble_eq_true rfl) dJ2_grow_7 (fun _ _ _ h => px0 h) ?_
  rintro _ M_1 ⟨q_2, f_3, rfl, hq_4, ho_5, ha_6, hf_7, fr_8⟩
  refine V_st (st' := [.ref q_2]) rfl ?_
  have fr_8_t := hfr.trans fr_8
  have ne_12 : a ≠ q_2 := hp_ne0 hl9 hq_4
  refine V_st (st' := [va_rf (some q_2)]) rfl ?_
  refine V_aret C (by first | exact Or.inl ⟨_, rfl⟩ | exact Or.inr ⟨_, rfl⟩) dJ2_grow_10 rfl ?_ (by first | exact Nat.le_of_ble_eq_true rfl | omega | (dsimp only; omega)) (by first | exact Nat.le_of_ble_eq_true rfl | omega | (dsimp only; omega))
  exact ⟨q_2, _, rfl, hq_4, ho_5, ha_6, hf_7, fr_8_t⟩
theorem hp_up_none {M M2 : hp_h} {a q : Nat} {E : va_E} (e : M2 = hp_up M a E) (h : M2 q = none) : M q = none := by
  rw [e] at h
  by_cases hq : q = a
  · subst hq; rw [hp_up_s] at h; cases h
  · rw [hp_up_n hq] at h; exact h
theorem va_up_s {α : Type} {f : Nat → α} {k : Nat} {v : α} : va_up f k v k = v := if_pos rfl
theorem va_up_n {α : Type} {f : Nat → α} {k j : Nat} {v : α} (h : j ≠ k) : va_up f k v j = f j := if_neg h
theorem hp_sh_fr {M M' : hp_h} {a : Nat} {E E' : va_E} (h : hp_fr (fun b => b = a) M M') (ha : M a = some E) (ha' : M' a = some E') (hs : hp_sm E E' := by rfl) : hp_sh M M' := fun b x hb => by
  by_cases hba : b = a
  · subst hba
    rw [ha] at hb
    cases hb
    exact ⟨E', ha', hs⟩
  · exact ⟨x, h b x hba hb, hp_sm.rf⟩
set_option maxHeartbeats 1000000 in
theorem c_J2_add_2_eq (l : Launch) (hl : l.stackTraces = false) (G : hp_G) (X : Nat → Nat) (N0 : Nat) (M : hp_h) (a e0 n v : Nat) (md : Int32) (f : Nat → Option Nat) (hl9 : M a = some (.inr (1, [.int md, .ref e0, .int (nI n)]))) (hv : hp_AS G M (.object "java/lang/Object") v) (he : M e0 = some (.inl (G.2 11, n, RV f))) (hn0 : 0 < n) (hn : n < 60) (hel : ∀ i, i < n → ∀ y, f i = some y → hp_AS G M (.object "java/lang/Object") y) : HM l yJ2_add_2 (ws_ yJ2_add_2 cJ2_add_2 4 none) 5 117 1 (gcap n) G X N0 [.ref a, .ref v, .ref e0, .int (nI n)] M (fun v9 M' => v9 = none ∧ ∃ e' cap' f', LAd G (X 0) M M' a e0 n n v f e' cap' f' ∧ hp_sh M M') PX0 := by
  refine HM.of hl [(0, .ref a), (1, .ref v), (2, .ref e0), (3, .int (nI n))] (by decide +kernel) rfl (Nat.le_of_ble_eq_true rfl) ?_
  intro p e s m args below meth c C hname
  have hfr : hp_fr (fun b => b = a ∨ (n ≠ 0 ∧ b = e0)) M M := hp_fr.rf
  have hsh : hp_sh M M := hp_sh.rf
  have hg9 := @gcap_gt n
  have hg8 := gcap_le (c := n) (by omega)
  refine V_iload_n C dJ2_add_2_0 rfl 3 rfl ?_
  refine V_aload_n C dJ2_add_2_1 rfl 2 rfl ?_
  refine V_alen (j := 11) C rfl he (v := nI n) rfl dJ2_add_2_2 ?_
  refine V_icmp_ne (tgt := 11) C dJ2_add_2_3 (by decide) (fun c_3 => ?_) (fun c_3 => ?_)
  · exact absurd rfl c_3
  · refine V_aload_n C dJ2_add_2_6 rfl 0 rfl ?_
    refine V_callV C (c_J2_grow_n l hl G X N0 M a e0 n md f hl9 he hn0 (by omega) hel) cs_J2_129_1 hl9 (show CLS[1]? = some (RJ2, TJ2, 3) from rfl) rfl rfl ⟨Nat.le_of_ble_eq_true rfl, Nat.le_of_ble_eq_true rfl⟩ ⟨(by first | exact Nat.le_of_ble_eq_true rfl | omega | (dsimp only; omega)), (by first | exact Nat.le_of_ble_eq_true rfl | omega | (dsimp only; omega))⟩ (Nat.le_of_ble_eq_true rfl) dJ2_add_2_7 (fun _ _ _ h => px0 h) ?_
    rintro _ M_1 ⟨q_2, f_3, rfl, hq_4, ho_5, ha_6, hf_7, fr_8⟩
    refine V_st (st' := [.ref q_2]) rfl ?_
    have fr_8_t := hfr.trans (fr_8.weak (fun _ z => Or.inl z))
    have fr_8_s := hsh.trans (hp_sh_fr fr_8 hl9 ho_5)
    have ne_15 : a ≠ q_2 := hp_ne0 hl9 hq_4
    have ne_17 : e0 ≠ q_2 := hp_ne0 he hq_4
    refine V_astore_n C dJ2_add_2_10 rfl (Nat.le_of_ble_eq_true rfl) [(0, .ref a), (1, .ref v), (2, .ref q_2), (3, .int (nI n))] [1, 2, 0, 3] rfl ?_
    refine V_aload_n C dJ2_add_2_11 rfl 2 rfl ?_
    refine V_iload_n C dJ2_add_2_12 rfl 3 rfl ?_
    refine V_aload_n C dJ2_add_2_13 rfl 1 rfl ?_
    refine V_aastM C (j := 11) rfl rfl ha_6 (hv.sh fr_8_s) (vp_in_nI gcap_gt (by omega)) dJ2_add_2_14 ?_
    refine V_heap (M' := hp_up M_1 q_2 (.inl (G.2 11, (gcap n), .inr (.inr (.inr (.inr (va_up f_3 n (some v)))))))) (by rw [nI_clamp (by omega)]) ?_
    obtain ⟨M_27, eM_28⟩ : ∃ z, z = hp_up M_1 q_2 (.inl (G.2 11, (gcap n), .inr (.inr (.inr (.inr (va_up f_3 n (some v))))))) := ⟨_, rfl⟩
    refine V_heap (M' := M_27) eM_28.symm ?_
    have ho_29 : M_27 a = some (.inr (1, [.int md, .ref q_2, .int (nI n)])) := by rw [eM_28, hp_up_n ne_15]; exact ho_5
    have eM_28_s : M_27 q_2 = some (.inl (G.2 11, (gcap n), .inr (.inr (.inr (.inr (va_up f_3 n (some v))))))) := by rw [eM_28]; exact hp_up_s
    have fr_30 := hp_fr.set fr_8_t (Or.inr hq_4) eM_28
    have sh_31 := hp_sh.set fr_8_s ha_6 eM_28 rfl
    refine V_pc (pc1 := 15) rfl ?_
    refine V_aload_n C dJ2_add_2_15 rfl 0 rfl ?_
    refine V_iload_n C dJ2_add_2_16 rfl 3 rfl ?_
    refine V_iconst (v := 1) C dJ2_add_2_17 rfl ?_
    refine V_iadd C dJ2_add_2_18 ?_
    refine V_st (st' := [.int (nI (n + 1)), .ref a]) (by rw [show ((nI n) + 1) = (nI (n + 1)) from (nI_1 n)]) ?_
    refine V_put C f_J2_48_1 ho_29 rfl rfl (Nat.le_of_ble_eq_true rfl) dJ2_add_2_19 ?_
    obtain ⟨M_32, eM_33⟩ : ∃ z, z = hp_up M_27 a (.inr (1, [.int md, .ref q_2, .int (nI (n + 1))])) := ⟨_, rfl⟩
    refine V_heap (M' := M_32) eM_33.symm ?_
    have ha_34 : M_32 q_2 = some (.inl (G.2 11, (gcap n), .inr (.inr (.inr (.inr (va_up f_3 n (some v))))))) := by rw [eM_33, hp_up_n (Ne.symm ne_15)]; exact eM_28_s
    have eM_33_s : M_32 a = some (.inr (1, [.int md, .ref q_2, .int (nI (n + 1))])) := by rw [eM_33]; exact hp_up_s
    have fr_35 := hp_fr.set fr_30 (Or.inl (Or.inl rfl)) eM_33
    have sh_36 := hp_sh.set sh_31 ho_29 eM_33 rfl
    refine V_vret C dJ2_add_2_22 rfl ?_ (by first | exact Nat.le_of_ble_eq_true rfl | omega | (dsimp only; omega)) (by first | exact Nat.le_of_ble_eq_true rfl | omega | (dsimp only; omega))
    exact ⟨rfl, _, _, _, ⟨⟨⟨_, eM_33_s⟩, fun z => absurd z (by omega), fun _ => ha_34, ⟨gcap_gt, gcap_le (by omega)⟩⟩, fun i hi => (va_up_n (Nat.ne_of_lt hi)).trans (hf_7 i hi), va_up_s, Or.inr hq_4, fr_35⟩, sh_36⟩
set_option maxHeartbeats 1000000 in
theorem c_J2_add_2_z (l : Launch) (hl : l.stackTraces = false) (G : hp_G) (X : Nat → Nat) (N0 : Nat) (M : hp_h) (a v : Nat) (md : Int32) (f : Nat → Option Nat) (hl9 : M a = some (.inr (1, [.int md, .ref (X 0), .int (nI 0)]))) (hv : hp_AS G M (.object "java/lang/Object") v) : HM l yJ2_add_2 (ws_ yJ2_add_2 cJ2_add_2 4 none) 5 117 1 10 G X N0 [.ref a, .ref v, .ref (X 0), .int (nI 0)] M (fun v9 M' => v9 = none ∧ ∃ e' cap' f', LAd G (X 0) M M' a (X 0) 0 0 v (fun _ => none) e' cap' f' ∧ hp_sh M M') PX0 := by
  refine HM.of hl [(0, .ref a), (1, .ref v), (2, .ref (X 0)), (3, .int (nI 0))] (by decide +kernel) rfl (Nat.le_of_ble_eq_true rfl) ?_
  intro p e s m args below meth c C hname
  have hfr : hp_fr (fun b => b = a ∨ (0 ≠ 0 ∧ b = (X 0))) M M := hp_fr.rf
  have hsh : hp_sh M M := hp_sh.rf
  have hg8 : gcap 0 = 10 := rfl
  refine V_iload_n C dJ2_add_2_0 rfl 3 rfl ?_
  refine V_aload_n C dJ2_add_2_1 rfl 2 rfl ?_
  refine V_alenE C dJ2_add_2_2 ?_
  refine V_icmp_ne (tgt := 11) C dJ2_add_2_3 (by decide) (fun c_3 => ?_) (fun c_3 => ?_)
  · exact absurd rfl c_3
  · refine V_aload_n C dJ2_add_2_6 rfl 0 rfl ?_
    refine V_callV C (c_J2_grow_z l hl G X N0 M a md hl9) cs_J2_129_1 hl9 (show CLS[1]? = some (RJ2, TJ2, 3) from rfl) rfl rfl ⟨Nat.le_of_ble_eq_true rfl, Nat.le_of_ble_eq_true rfl⟩ ⟨(by first | exact Nat.le_of_ble_eq_true rfl | omega | (dsimp only; omega)), (by first | exact Nat.le_of_ble_eq_true rfl | omega | (dsimp only; omega))⟩ (Nat.le_of_ble_eq_true rfl) dJ2_add_2_7 (fun _ _ _ h => px0 h) ?_
    rintro _ M_1 ⟨q_2, f_3, rfl, hq_4, ho_5, ha_6, hf_7, fr_8⟩
    refine V_st (st' := [.ref q_2]) rfl ?_
    have fr_8_t := hfr.trans (fr_8.weak (fun _ z => Or.inl z))
    have fr_8_s := hsh.trans (hp_sh_fr fr_8 hl9 ho_5)
    have ne_15 : a ≠ q_2 := hp_ne0 hl9 hq_4
    refine V_astore_n C dJ2_add_2_10 rfl (Nat.le_of_ble_eq_true rfl) [(0, .ref a), (1, .ref v), (2, .ref q_2), (3, .int (nI 0))] [1, 2, 0, 3] rfl ?_
    refine V_aload_n C dJ2_add_2_11 rfl 2 rfl ?_
    refine V_iload_n C dJ2_add_2_12 rfl 3 rfl ?_
    refine V_aload_n C dJ2_add_2_13 rfl 1 rfl ?_
    refine V_aastM C (j := 11) rfl rfl ha_6 (hv.sh fr_8_s) (vp_in_nI (by decide) (by omega)) dJ2_add_2_14 ?_
    refine V_heap (M' := hp_up M_1 q_2 (.inl (G.2 11, (gcap 0), .inr (.inr (.inr (.inr (va_up f_3 0 (some v)))))))) (by rw [nI_clamp (by omega)]) ?_
    obtain ⟨M_25, eM_26⟩ : ∃ z, z = hp_up M_1 q_2 (.inl (G.2 11, (gcap 0), .inr (.inr (.inr (.inr (va_up f_3 0 (some v))))))) := ⟨_, rfl⟩
    refine V_heap (M' := M_25) eM_26.symm ?_
    have ho_27 : M_25 a = some (.inr (1, [.int md, .ref q_2, .int (nI 0)])) := by rw [eM_26, hp_up_n ne_15]; exact ho_5
    have eM_26_s : M_25 q_2 = some (.inl (G.2 11, (gcap 0), .inr (.inr (.inr (.inr (va_up f_3 0 (some v))))))) := by rw [eM_26]; exact hp_up_s
    have fr_28 := hp_fr.set fr_8_t (Or.inr hq_4) eM_26
    have sh_29 := hp_sh.set fr_8_s ha_6 eM_26 rfl
    refine V_pc (pc1 := 15) rfl ?_
    refine V_aload_n C dJ2_add_2_15 rfl 0 rfl ?_
    refine V_iload_n C dJ2_add_2_16 rfl 3 rfl ?_
    refine V_iconst (v := 1) C dJ2_add_2_17 rfl ?_
    refine V_iadd C dJ2_add_2_18 ?_
    refine V_st (st' := [.int (nI (0 + 1)), .ref a]) (by rw [show ((nI 0) + 1) = (nI (0 + 1)) from (nI_1 0)]) ?_
    refine V_put C f_J2_48_1 ho_27 rfl rfl (Nat.le_of_ble_eq_true rfl) dJ2_add_2_19 ?_
    obtain ⟨M_30, eM_31⟩ : ∃ z, z = hp_up M_25 a (.inr (1, [.int md, .ref q_2, .int (nI (0 + 1))])) := ⟨_, rfl⟩
    refine V_heap (M' := M_30) eM_31.symm ?_
    have ha_32 : M_30 q_2 = some (.inl (G.2 11, (gcap 0), .inr (.inr (.inr (.inr (va_up f_3 0 (some v))))))) := by rw [eM_31, hp_up_n (Ne.symm ne_15)]; exact eM_26_s
    have eM_31_s : M_30 a = some (.inr (1, [.int md, .ref q_2, .int (nI (0 + 1))])) := by rw [eM_31]; exact hp_up_s
    have fr_33 := hp_fr.set fr_28 (Or.inl (Or.inl rfl)) eM_31
    have sh_34 := hp_sh.set sh_29 ho_27 eM_31 rfl
    refine V_vret C dJ2_add_2_22 rfl ?_ (by first | exact Nat.le_of_ble_eq_true rfl | omega | (dsimp only; omega)) (by first | exact Nat.le_of_ble_eq_true rfl | omega | (dsimp only; omega))
    exact ⟨rfl, _, _, _, ⟨⟨⟨_, eM_31_s⟩, fun z => absurd z (by decide), fun _ => ha_32, ⟨by decide, by decide⟩⟩, fun i hi => absurd hi (Nat.not_lt_zero _), va_up_s, Or.inr hq_4, fr_33⟩, sh_34⟩
set_option maxHeartbeats 1000000 in
theorem c_J2_add_2_lt (l : Launch) (hl : l.stackTraces = false) (G : hp_G) (X : Nat → Nat) (N0 : Nat) (M : hp_h) (a e0 cap n v : Nat) (md : Int32) (f : Nat → Option Nat) (hl9 : M a = some (.inr (1, [.int md, .ref e0, .int (nI n)]))) (hv : hp_AS G M (.object "java/lang/Object") v) (he : M e0 = some (.inl (G.2 11, cap, RV f))) (hc : n < cap) (hn : cap ≤ 90) : HM l yJ2_add_2 (ws_ yJ2_add_2 cJ2_add_2 4 none) 5 117 0 0 G X N0 [.ref a, .ref v, .ref e0, .int (nI n)] M (fun v9 M' => v9 = none ∧ ∃ e' cap' f', LAd G (X 0) M M' a e0 cap n v f e' cap' f' ∧ hp_sh M M') PX0 := by
  refine HM.of hl [(0, .ref a), (1, .ref v), (2, .ref e0), (3, .int (nI n))] (by decide +kernel) rfl (Nat.le_of_ble_eq_true rfl) ?_
  intro p e s m args below meth c C hname
  have hfr : hp_fr (fun b => b = a ∨ (cap ≠ 0 ∧ b = e0)) M M := hp_fr.rf
  have hsh : hp_sh M M := hp_sh.rf
  refine V_iload_n C dJ2_add_2_0 rfl 3 rfl ?_
  refine V_aload_n C dJ2_add_2_1 rfl 2 rfl ?_
  refine V_alen (j := 11) C rfl he (v := nI cap) rfl dJ2_add_2_2 ?_
  refine V_icmp_ne (tgt := 11) C dJ2_add_2_3 (by decide) (fun c_3 => ?_) (fun c_3 => ?_)
  · refine V_aload_n C dJ2_add_2_11 rfl 2 rfl ?_
    refine V_iload_n C dJ2_add_2_12 rfl 3 rfl ?_
    refine V_aload_n C dJ2_add_2_13 rfl 1 rfl ?_
    refine V_aastM C (j := 11) rfl rfl he hv (vp_in_nI (by omega) (by omega)) dJ2_add_2_14 ?_
    refine V_heap (M' := hp_up M e0 (.inl (G.2 11, cap, .inr (.inr (.inr (.inr (va_up f n (some v)))))))) (by rw [nI_clamp (by omega)]) ?_
    obtain ⟨M_1, eM_2⟩ : ∃ z, z = hp_up M e0 (.inl (G.2 11, cap, .inr (.inr (.inr (.inr (va_up f n (some v))))))) := ⟨_, rfl⟩
    refine V_heap (M' := M_1) eM_2.symm ?_
    have ho_3 : M_1 a = some (.inr (1, [.int md, .ref e0, .int (nI n)])) := by rw [eM_2, hp_up_n (hp_ne hl9 he (by simp))]; exact hl9
    have eM_2_s : M_1 e0 = some (.inl (G.2 11, cap, .inr (.inr (.inr (.inr (va_up f n (some v))))))) := by rw [eM_2]; exact hp_up_s
    have fr_4 := hp_fr.set hfr (Or.inl (Or.inr ⟨by omega, rfl⟩)) eM_2
    have sh_5 := hp_sh.set hsh he eM_2 rfl
    refine V_aload_n C dJ2_add_2_15 rfl 0 rfl ?_
    refine V_iload_n C dJ2_add_2_16 rfl 3 rfl ?_
    refine V_iconst (v := 1) C dJ2_add_2_17 rfl ?_
    refine V_pc (pc1 := 18) rfl ?_
    refine V_iadd C dJ2_add_2_18 ?_
    refine V_st (st' := [.int (nI (n + 1)), .ref a]) (by rw [show ((nI n) + 1) = (nI (n + 1)) from (nI_1 n)]) ?_
    refine V_put C f_J2_48_1 ho_3 rfl rfl (Nat.le_of_ble_eq_true rfl) dJ2_add_2_19 ?_
    obtain ⟨M_6, eM_7⟩ : ∃ z, z = hp_up M_1 a (.inr (1, [.int md, .ref e0, .int (nI (n + 1))])) := ⟨_, rfl⟩
    refine V_heap (M' := M_6) eM_7.symm ?_
    have ha_8 : M_6 e0 = some (.inl (G.2 11, cap, .inr (.inr (.inr (.inr (va_up f n (some v))))))) := by rw [eM_7, hp_up_n (hp_ne eM_2_s ho_3 (by simp))]; exact eM_2_s
    have eM_7_s : M_6 a = some (.inr (1, [.int md, .ref e0, .int (nI (n + 1))])) := by rw [eM_7]; exact hp_up_s
    have fr_9 := hp_fr.set fr_4 (Or.inl (Or.inl rfl)) eM_7
    have sh_10 := hp_sh.set sh_5 ho_3 eM_7 rfl
    refine V_vret C dJ2_add_2_22 rfl ?_ (by first | exact Nat.le_of_ble_eq_true rfl | omega | (dsimp only; omega)) (by first | exact Nat.le_of_ble_eq_true rfl | omega | (dsimp only; omega))
    exact ⟨rfl, _, _, _, ⟨⟨⟨_, eM_7_s⟩, fun z => absurd z (by omega), fun _ => ha_8, ⟨by omega, hn⟩⟩, fun i hi => va_up_n (Nat.ne_of_lt hi), va_up_s, Or.inl ⟨rfl, by omega⟩, fr_9⟩, sh_10⟩
  · exact absurd ((nI_eq (a := n) (b := cap) (by omega) (by omega)).mp c_3) (by omega)
set_option maxHeartbeats 1000000 in
theorem c_J2_add_eq (l : Launch) (hl : l.stackTraces = false) (G : hp_G) (X : Nat → Nat) (N0 : Nat) (M : hp_h) (a e0 n v : Nat) (md : Int32) (f : Nat → Option Nat) (hl9 : M a = some (.inr (1, [.int md, .ref e0, .int (nI n)]))) (hv : hp_AS G M (.object "java/lang/Object") v) (he : M e0 = some (.inl (G.2 11, n, RV f))) (hn0 : 0 < n) (hn : n < 60) (hel : ∀ i, i < n → ∀ y, f i = some y → hp_AS G M (.object "java/lang/Object") y) : HM l yJ2_add (ws_ yJ2_add cJ2_add 2 (some .boolean)) 6 140 1 (gcap n) G X N0 [.ref a, .ref v] M (fun v9 M' => v9 = some (.int 1) ∧ ∃ e' cap' f', LAd G (X 0) M M' a e0 n n v f e' cap' f' ∧ hp_sh M M') PX0 := by
  refine HM.of hl [(0, .ref a), (1, .ref v)] (by decide +kernel) rfl (Nat.le_of_ble_eq_true rfl) ?_
  intro p e s m args below meth c C hname
  have hfr : hp_fr (fun b => b = a ∨ (n ≠ 0 ∧ b = e0)) M M := hp_fr.rf
  have hsh : hp_sh M M := hp_sh.rf
  refine V_aload_n C dJ2_add_0 rfl 0 rfl ?_
  refine V_dup C dJ2_add_1 rfl ?_
  refine V_get C f_J2_63_1 hl9 (v := .int md) rfl dJ2_add_2 ?_
  refine V_iconst (v := 1) C dJ2_add_5 rfl ?_
  refine V_iadd C dJ2_add_6 ?_
  refine V_put C f_J2_63_1 hl9 rfl rfl (Nat.le_of_ble_eq_true rfl) dJ2_add_7 ?_
  obtain ⟨M_1, eM_2⟩ : ∃ z, z = hp_up M a (.inr (1, [.int (md + 1), .ref e0, .int (nI n)])) := ⟨_, rfl⟩
  refine V_heap (M' := M_1) eM_2.symm ?_
  have ha_3 : M_1 e0 = some (.inl (G.2 11, n, .inr (.inr (.inr (.inr f))))) := by rw [eM_2, hp_up_n (hp_ne he hl9 (by simp))]; exact he
  have eM_2_s : M_1 a = some (.inr (1, [.int (md + 1), .ref e0, .int (nI n)])) := by rw [eM_2]; exact hp_up_s
  have fr_4 := hp_fr.set hfr (Or.inl (Or.inl rfl)) eM_2
  have sh_5 := hp_sh.set hsh hl9 eM_2 rfl
  refine V_aload_n C dJ2_add_10 rfl 0 rfl ?_
  refine V_aload_n C dJ2_add_11 rfl 1 rfl ?_
  refine V_aload_n C dJ2_add_12 rfl 0 rfl ?_
  refine V_get C f_J2_9_1 eM_2_s (v := .ref e0) rfl dJ2_add_13 ?_
  refine V_aload_n C dJ2_add_16 rfl 0 rfl ?_
  refine V_pc (pc1 := 17) rfl ?_
  refine V_get C f_J2_48_1 eM_2_s (v := .int (nI n)) rfl dJ2_add_17 ?_
  refine V_callV C (c_J2_add_2_eq l hl G X N0 M_1 a e0 n v (md + 1) f eM_2_s (hv.sh sh_5) ha_3 hn0 hn (fun i hi y hy => (hel i hi y hy).sh sh_5)) cs_J2_131_1 eM_2_s (show CLS[1]? = some (RJ2, TJ2, 3) from rfl) rfl rfl ⟨Nat.le_of_ble_eq_true rfl, Nat.le_of_ble_eq_true rfl⟩ ⟨(by first | exact Nat.le_of_ble_eq_true rfl | omega | (dsimp only; omega)), (by first | exact Nat.le_of_ble_eq_true rfl | omega | (dsimp only; omega))⟩ (Nat.le_of_ble_eq_true rfl) dJ2_add_20 (fun _ _ _ h => px0 h) ?_
  rintro _ M_6 ⟨rfl, e_7, cp_8, f_9, L_10, sh_11⟩
  refine V_st (st' := []) rfl ?_
  refine V_iconst (v := 1) C dJ2_add_23 rfl ?_
  refine V_zret C rfl dJ2_add_24 rfl ?_ (by first | exact Nat.le_of_ble_eq_true rfl | omega | (dsimp only; omega)) (by first | exact Nat.le_of_ble_eq_true rfl | omega | (dsimp only; omega))
  obtain ⟨x1, x2, x3, x4, x5⟩ := L_10
  refine ⟨rfl, _, _, _, ⟨x1, x2, x3, ?_, fr_4.trans x5⟩, sh_5.trans sh_11⟩
  rcases x4 with x4 | x4
  · exact Or.inl x4
  · exact Or.inr (hp_up_none eM_2 x4)
set_option maxHeartbeats 1000000 in
theorem c_J2_add_z (l : Launch) (hl : l.stackTraces = false) (G : hp_G) (X : Nat → Nat) (N0 : Nat) (M : hp_h) (a v : Nat) (md : Int32) (f : Nat → Option Nat) (hl9 : M a = some (.inr (1, [.int md, .ref (X 0), .int (nI 0)]))) (hv : hp_AS G M (.object "java/lang/Object") v) : HM l yJ2_add (ws_ yJ2_add cJ2_add 2 (some .boolean)) 6 140 1 10 G X N0 [.ref a, .ref v] M (fun v9 M' => v9 = some (.int 1) ∧ ∃ e' cap' f', LAd G (X 0) M M' a (X 0) 0 0 v f e' cap' f' ∧ hp_sh M M') PX0 := by
  refine HM.of hl [(0, .ref a), (1, .ref v)] (by decide +kernel) rfl (Nat.le_of_ble_eq_true rfl) ?_
  intro p e s m args below meth c C hname
  have hfr : hp_fr (fun b => b = a ∨ (0 ≠ 0 ∧ b = (X 0))) M M := hp_fr.rf
  have hsh : hp_sh M M := hp_sh.rf
  refine V_aload_n C dJ2_add_0 rfl 0 rfl ?_
  refine V_dup C dJ2_add_1 rfl ?_
  refine V_get C f_J2_63_1 hl9 (v := .int md) rfl dJ2_add_2 ?_
  refine V_iconst (v := 1) C dJ2_add_5 rfl ?_
  refine V_iadd C dJ2_add_6 ?_
  refine V_put C f_J2_63_1 hl9 rfl rfl (Nat.le_of_ble_eq_true rfl) dJ2_add_7 ?_
  obtain ⟨M_1, eM_2⟩ : ∃ z, z = hp_up M a (.inr (1, [.int (md + 1), .ref (X 0), .int (nI 0)])) := ⟨_, rfl⟩
  refine V_heap (M' := M_1) eM_2.symm ?_
  have eM_2_s : M_1 a = some (.inr (1, [.int (md + 1), .ref (X 0), .int (nI 0)])) := by rw [eM_2]; exact hp_up_s
  have fr_3 := hp_fr.set hfr (Or.inl (Or.inl rfl)) eM_2
  have sh_4 := hp_sh.set hsh hl9 eM_2 rfl
  refine V_aload_n C dJ2_add_10 rfl 0 rfl ?_
  refine V_aload_n C dJ2_add_11 rfl 1 rfl ?_
  refine V_aload_n C dJ2_add_12 rfl 0 rfl ?_
  refine V_get C f_J2_9_1 eM_2_s (v := .ref (X 0)) rfl dJ2_add_13 ?_
  refine V_aload_n C dJ2_add_16 rfl 0 rfl ?_
  refine V_pc (pc1 := 17) rfl ?_
  refine V_get C f_J2_48_1 eM_2_s (v := .int (nI 0)) rfl dJ2_add_17 ?_
  refine V_callV C (c_J2_add_2_z l hl G X N0 M_1 a v (md + 1) f eM_2_s (hv.sh sh_4)) cs_J2_131_1 eM_2_s (show CLS[1]? = some (RJ2, TJ2, 3) from rfl) rfl rfl ⟨Nat.le_of_ble_eq_true rfl, Nat.le_of_ble_eq_true rfl⟩ ⟨(by first | exact Nat.le_of_ble_eq_true rfl | omega | (dsimp only; omega)), (by first | exact Nat.le_of_ble_eq_true rfl | omega | (dsimp only; omega))⟩ (Nat.le_of_ble_eq_true rfl) dJ2_add_20 (fun _ _ _ h => px0 h) ?_
  rintro _ M_5 ⟨rfl, e_6, cp_7, f_8, L_9, sh_10⟩
  refine V_st (st' := []) rfl ?_
  refine V_iconst (v := 1) C dJ2_add_23 rfl ?_
  refine V_zret C rfl dJ2_add_24 rfl ?_ (by first | exact Nat.le_of_ble_eq_true rfl | omega | (dsimp only; omega)) (by first | exact Nat.le_of_ble_eq_true rfl | omega | (dsimp only; omega))
  obtain ⟨x1, x2, x3, x4, x5⟩ := L_9
  refine ⟨rfl, _, _, _, ⟨x1, fun i hi => absurd hi (Nat.not_lt_zero _), x3, ?_, fr_3.trans x5⟩, sh_4.trans sh_10⟩
  rcases x4 with x4 | x4
  · exact Or.inl x4
  · exact Or.inr (hp_up_none eM_2 x4)
set_option maxHeartbeats 1000000 in
theorem c_J2_add_lt (l : Launch) (hl : l.stackTraces = false) (G : hp_G) (X : Nat → Nat) (N0 : Nat) (M : hp_h) (a e0 cap n v : Nat) (md : Int32) (f : Nat → Option Nat) (hl9 : M a = some (.inr (1, [.int md, .ref e0, .int (nI n)]))) (hv : hp_AS G M (.object "java/lang/Object") v) (he : M e0 = some (.inl (G.2 11, cap, RV f))) (hc : n < cap) (hn : cap ≤ 90) : HM l yJ2_add (ws_ yJ2_add cJ2_add 2 (some .boolean)) 6 140 0 0 G X N0 [.ref a, .ref v] M (fun v9 M' => v9 = some (.int 1) ∧ ∃ e' cap' f', LAd G (X 0) M M' a e0 cap n v f e' cap' f' ∧ hp_sh M M') PX0 := by
  refine HM.of hl [(0, .ref a), (1, .ref v)] (by decide +kernel) rfl (Nat.le_of_ble_eq_true rfl) ?_
  intro p e s m args below meth c C hname
  have hfr : hp_fr (fun b => b = a ∨ (cap ≠ 0 ∧ b = e0)) M M := hp_fr.rf
  have hsh : hp_sh M M := hp_sh.rf
  refine V_aload_n C dJ2_add_0 rfl 0 rfl ?_
  refine V_dup C dJ2_add_1 rfl ?_
  refine V_get C f_J2_63_1 hl9 (v := .int md) rfl dJ2_add_2 ?_
  refine V_iconst (v := 1) C dJ2_add_5 rfl ?_
  refine V_iadd C dJ2_add_6 ?_
  refine V_put C f_J2_63_1 hl9 rfl rfl (Nat.le_of_ble_eq_true rfl) dJ2_add_7 ?_
  obtain ⟨M_1, eM_2⟩ : ∃ z, z = hp_up M a (.inr (1, [.int (md + 1), .ref e0, .int (nI n)])) := ⟨_, rfl⟩
  refine V_heap (M' := M_1) eM_2.symm ?_
  have ha_3 : M_1 e0 = some (.inl (G.2 11, cap, .inr (.inr (.inr (.inr f))))) := by rw [eM_2, hp_up_n (hp_ne he hl9 (by simp))]; exact he
  have eM_2_s : M_1 a = some (.inr (1, [.int (md + 1), .ref e0, .int (nI n)])) := by rw [eM_2]; exact hp_up_s
  have fr_4 := hp_fr.set hfr (Or.inl (Or.inl rfl)) eM_2
  have sh_5 := hp_sh.set hsh hl9 eM_2 rfl
  refine V_aload_n C dJ2_add_10 rfl 0 rfl ?_
  refine V_aload_n C dJ2_add_11 rfl 1 rfl ?_
  refine V_aload_n C dJ2_add_12 rfl 0 rfl ?_
  refine V_get C f_J2_9_1 eM_2_s (v := .ref e0) rfl dJ2_add_13 ?_
  refine V_aload_n C dJ2_add_16 rfl 0 rfl ?_
  refine V_pc (pc1 := 17) rfl ?_
  refine V_get C f_J2_48_1 eM_2_s (v := .int (nI n)) rfl dJ2_add_17 ?_
  refine V_callV C (c_J2_add_2_lt l hl G X N0 M_1 a e0 cap n v (md + 1) f eM_2_s (hv.sh sh_5) ha_3 hc hn) cs_J2_131_1 eM_2_s (show CLS[1]? = some (RJ2, TJ2, 3) from rfl) rfl rfl ⟨Nat.le_of_ble_eq_true rfl, Nat.le_of_ble_eq_true rfl⟩ ⟨(by first | exact Nat.le_of_ble_eq_true rfl | omega | (dsimp only; omega)), (by first | exact Nat.le_of_ble_eq_true rfl | omega | (dsimp only; omega))⟩ (Nat.le_of_ble_eq_true rfl) dJ2_add_20 (fun _ _ _ h => px0 h) ?_
  rintro _ M_6 ⟨rfl, e_7, cp_8, f_9, L_10, sh_11⟩
  refine V_st (st' := []) rfl ?_
  refine V_iconst (v := 1) C dJ2_add_23 rfl ?_
  refine V_zret C rfl dJ2_add_24 rfl ?_ (by first | exact Nat.le_of_ble_eq_true rfl | omega | (dsimp only; omega)) (by first | exact Nat.le_of_ble_eq_true rfl | omega | (dsimp only; omega))
  obtain ⟨x1, x2, x3, x4, x5⟩ := L_10
  refine ⟨rfl, _, _, _, ⟨x1, x2, x3, ?_, fr_4.trans x5⟩, sh_5.trans sh_11⟩
  rcases x4 with x4 | x4
  · exact Or.inl x4
  · exact Or.inr (hp_up_none eM_2 x4)
theorem c_J2_add (l : Launch) (hl : l.stackTraces = false) (G : hp_G) (X : Nat → Nat) (N0 : Nat) (M : hp_h) (a e0 cap n v : Nat) (f : Nat → Option Nat) (h : LSt G (X 0) M a e0 cap n f) (hn : n < 60) (hv : hp_AS G M (.object "java/lang/Object") v) (hel : ∀ i, i < n → ∀ y, f i = some y → hp_AS G M (.object "java/lang/Object") y) : HM l yJ2_add (ws_ yJ2_add cJ2_add 2 (some .boolean)) 6 140 (if n < cap then 0 else 1) (if n < cap then 0 else gcap cap) G X N0 [.ref a, .ref v] M (fun v9 M' => v9 = some (.int 1) ∧ ∃ e' cap' f', LAd G (X 0) M M' a e0 cap n v f e' cap' f' ∧ hp_sh M M') PX0 := by
  obtain ⟨⟨md, hm⟩, h0, h1, h2, h3⟩ := h
  by_cases hc : n < cap
  · rw [if_pos hc, if_pos hc]
    exact c_J2_add_lt l hl G X N0 M a e0 cap n v md f hm hv (h1 (by omega)) hc h3
  · rw [if_neg hc, if_neg hc]
    have e : cap = n := by omega
    subst e
    by_cases hz : cap = 0
    · subst hz
      have e := h0 rfl
      subst e
      exact c_J2_add_z l hl G X N0 M a v md f hm hv
    · exact c_J2_add_eq l hl G X N0 M a e0 cap v md f hm hv (h1 hz) (by omega) hn hel
set_option maxHeartbeats 1000000 in
theorem c_J2_fastRemove (l : Launch) (hl : l.stackTraces = false) (G : hp_G) (X : Nat → Nat) (N0 : Nat) (M : hp_h) (a e0 cap n : Nat) (md : Int32) (f : Nat → Option Nat) (hl9 : M a = some (.inr (1, [.int md, .ref e0, .int (nI (n + 1))]))) (he : M e0 = some (.inl (G.2 11, cap, RV f))) (hc : n < cap) (hn : cap ≤ 90) : HM l yJ2_fastRemove (ws_ yJ2_fastRemove cJ2_fastRemove 4 none) 0 0 0 0 G X N0 [.ref a, .ref e0, .int (nI n)] M (fun v9 M' => v9 = none ∧ M' a = some (.inr (1, [.int (md + 1), .ref e0, .int (nI n)])) ∧ M' e0 = some (.inl (G.2 11, cap, RV (va_up f n none))) ∧ hp_fr (fun b => b = a ∨ b = e0) M M' ∧ hp_sh M M') PX0 := by
  refine HM.of hl [(0, .ref a), (1, .ref e0), (2, .int (nI n))] (by decide +kernel) rfl (Nat.le_of_ble_eq_true rfl) ?_
  intro p e s m args below meth c C hname
  have hfr : hp_fr (fun b => b = a ∨ b = e0) M M := hp_fr.rf
  have hsh : hp_sh M M := hp_sh.rf
  refine V_aload_n C dJ2_fastRemove_0 rfl 0 rfl ?_
  refine V_dup C dJ2_fastRemove_1 rfl ?_
  refine V_get C f_J2_63_1 hl9 (v := .int md) rfl dJ2_fastRemove_2 ?_
  refine V_iconst (v := 1) C dJ2_fastRemove_5 rfl ?_
  refine V_iadd C dJ2_fastRemove_6 ?_
  refine V_put C f_J2_63_1 hl9 rfl rfl (Nat.le_of_ble_eq_true rfl) dJ2_fastRemove_7 ?_
  obtain ⟨M_1, eM_2⟩ : ∃ z, z = hp_up M a (.inr (1, [.int (md + 1), .ref e0, .int (nI (n + 1))])) := ⟨_, rfl⟩
  refine V_heap (M' := M_1) eM_2.symm ?_
  have ha_3 : M_1 e0 = some (.inl (G.2 11, cap, .inr (.inr (.inr (.inr f))))) := by rw [eM_2, hp_up_n (hp_ne he hl9 (by simp))]; exact he
  have eM_2_s : M_1 a = some (.inr (1, [.int (md + 1), .ref e0, .int (nI (n + 1))])) := by rw [eM_2]; exact hp_up_s
  have fr_4 := hp_fr.set hfr (Or.inl (Or.inl rfl)) eM_2
  have sh_5 := hp_sh.set hsh hl9 eM_2 rfl
  refine V_aload_n C dJ2_fastRemove_10 rfl 0 rfl ?_
  refine V_get C f_J2_48_1 eM_2_s (v := .int (nI (n + 1))) rfl dJ2_fastRemove_11 ?_
  refine V_iconst (v := 1) C dJ2_fastRemove_14 rfl ?_
  refine V_isub C dJ2_fastRemove_15 ?_
  refine V_st (st' := [.int (nI n)]) (by rw [show ((nI (n + 1)) - 1) = (nI n) from (nI_pred n)]) ?_
  refine V_dup C dJ2_fastRemove_16 rfl ?_
  refine V_pc (pc1 := 17) rfl ?_
  refine V_istore_n C dJ2_fastRemove_17 rfl (Nat.le_of_ble_eq_true rfl) [(0, .ref a), (1, .ref e0), (2, .int (nI n)), (3, .int (nI n))] [1, 2, 3, 0] rfl ?_
  refine V_iload_n C dJ2_fastRemove_18 rfl 2 rfl ?_
  refine V_icmp_le (tgt := 34) C dJ2_fastRemove_19 (by decide) (fun c_19 => ?_) (fun c_19 => ?_)
  · refine V_aload_n C dJ2_fastRemove_34 rfl 1 rfl ?_
    refine V_aload_n C dJ2_fastRemove_35 rfl 0 rfl ?_
    refine V_iload_n C dJ2_fastRemove_36 rfl 3 rfl ?_
    refine V_dup_x1 C dJ2_fastRemove_37 rfl rfl ?_
    refine V_put C f_J2_48_1 eM_2_s rfl rfl (Nat.le_of_ble_eq_true rfl) dJ2_fastRemove_38 ?_
    obtain ⟨M_6, eM_7⟩ : ∃ z, z = hp_up M_1 a (.inr (1, [.int (md + 1), .ref e0, .int (nI n)])) := ⟨_, rfl⟩
    refine V_heap (M' := M_6) eM_7.symm ?_
    have ha_8 : M_6 e0 = some (.inl (G.2 11, cap, .inr (.inr (.inr (.inr f))))) := by rw [eM_7, hp_up_n (hp_ne ha_3 eM_2_s (by simp))]; exact ha_3
    have eM_7_s : M_6 a = some (.inr (1, [.int (md + 1), .ref e0, .int (nI n)])) := by rw [eM_7]; exact hp_up_s
    have fr_9 := hp_fr.set fr_4 (Or.inl (Or.inl rfl)) eM_7
    have sh_10 := hp_sh.set sh_5 eM_2_s eM_7 rfl
    refine V_null C dJ2_fastRemove_41 ?_
    refine V_aastMN C (j := 11) rfl rfl ha_8 (vp_in_nI (by omega) (by omega)) dJ2_fastRemove_42 ?_
    refine V_heap (M' := hp_up M_6 e0 (.inl (G.2 11, cap, .inr (.inr (.inr (.inr (va_up f n none))))))) (by rw [nI_clamp (by omega)]) ?_
    obtain ⟨M_11, eM_12⟩ : ∃ z, z = hp_up M_6 e0 (.inl (G.2 11, cap, .inr (.inr (.inr (.inr (va_up f n none)))))) := ⟨_, rfl⟩
    refine V_heap (M' := M_11) eM_12.symm ?_
    have ho_13 : M_11 a = some (.inr (1, [.int (md + 1), .ref e0, .int (nI n)])) := by rw [eM_12, hp_up_n (hp_ne eM_7_s ha_8 (by simp))]; exact eM_7_s
    have eM_12_s : M_11 e0 = some (.inl (G.2 11, cap, .inr (.inr (.inr (.inr (va_up f n none)))))) := by rw [eM_12]; exact hp_up_s
    have fr_14 := hp_fr.set fr_9 (Or.inl (Or.inr rfl)) eM_12
    have sh_15 := hp_sh.set sh_10 ha_8 eM_12 rfl
    refine V_vret C dJ2_fastRemove_43 rfl ?_ (by first | exact Nat.le_of_ble_eq_true rfl | omega | (dsimp only; omega)) (by first | exact Nat.le_of_ble_eq_true rfl | omega | (dsimp only; omega))
    exact ⟨rfl, ho_13, eM_12_s, fr_14, sh_15⟩
  · exact absurd (show nI n ≤ nI n from Int32.le_refl _) c_19
set_option maxHeartbeats 1000000 in
theorem c_J2_remove (l : Launch) (hl : l.stackTraces = false) (G : hp_G) (X : Nat → Nat) (N0 : Nat) (M : hp_h) (a e0 cap n r : Nat) (md : Int32) (f : Nat → Option Nat) (hl9 : M a = some (.inr (1, [.int md, .ref e0, .int (nI (n + 1))]))) (he : M e0 = some (.inl (G.2 11, cap, RV f))) (hc : n < cap) (hn : cap ≤ 90) (hr : f n = some r) : HM l yJ2_remove (ws_ yJ2_remove cJ2_remove 4 (some (.object "java/lang/Object"))) 2 43 0 0 G X N0 [.ref a, .int (nI n)] M (fun v9 M' => v9 = some (.ref r) ∧ M' a = some (.inr (1, [.int (md + 1), .ref e0, .int (nI n)])) ∧ M' e0 = some (.inl (G.2 11, cap, RV (va_up f n none))) ∧ hp_fr (fun b => b = a ∨ b = e0) M M' ∧ hp_sh M M') PX0 := by
  refine HM.of hl [(0, .ref a), (1, .int (nI n))] (by decide +kernel) rfl (Nat.le_of_ble_eq_true rfl) ?_
  intro p e s m args below meth c C hname
  have hfr : hp_fr (fun b => b = a ∨ b = e0) M M := hp_fr.rf
  have hsh : hp_sh M M := hp_sh.rf
  refine V_iload_n C dJ2_remove_0 rfl 1 rfl ?_
  refine V_aload_n C dJ2_remove_1 rfl 0 rfl ?_
  refine V_get C f_J2_48_1 hl9 (v := .int (nI (n + 1))) rfl dJ2_remove_2 ?_
  refine V_callS C (c_J14_checkIndex l hl G X N0 M n (n + 1) (by omega) (by omega)) cs_J2_118 rfl rfl ⟨Nat.le_of_ble_eq_true rfl, Nat.le_of_ble_eq_true rfl⟩ ⟨(by first | exact Nat.le_of_ble_eq_true rfl | omega | (dsimp only; omega)), (by first | exact Nat.le_of_ble_eq_true rfl | omega | (dsimp only; omega))⟩ (Nat.le_of_ble_eq_true rfl) dJ2_remove_5 (fun _ _ _ h => px0 h) ?_
  rintro _ _ ⟨rfl, rfl⟩
  refine V_st (st' := [.int (nI n)]) rfl ?_
  refine V_pop C dJ2_remove_8 rfl ?_
  refine V_aload_n C dJ2_remove_9 rfl 0 rfl ?_
  refine V_get C f_J2_9_1 hl9 (v := .ref e0) rfl dJ2_remove_10 ?_
  refine V_astore_n C dJ2_remove_13 rfl (Nat.le_of_ble_eq_true rfl) [(0, .ref a), (1, .int (nI n)), (2, .ref e0)] [1, 2, 0] rfl ?_
  refine V_aload_n C dJ2_remove_14 rfl 2 rfl ?_
  refine V_iload_n C dJ2_remove_15 rfl 1 rfl ?_
  refine V_aald C (j := 11) rfl rfl he (vp_in_nI (by omega) (by omega)) dJ2_remove_16 ?_
  refine V_st (st' := [.ref r]) (by rw [nI_clamp (by omega), hr]; rfl) ?_
  refine V_pc (pc1 := 17) rfl ?_
  refine V_astore_n C dJ2_remove_17 rfl (Nat.le_of_ble_eq_true rfl) [(0, .ref a), (1, .int (nI n)), (2, .ref e0), (3, .ref r)] [1, 2, 3, 0] rfl ?_
  refine V_aload_n C dJ2_remove_18 rfl 0 rfl ?_
  refine V_aload_n C dJ2_remove_19 rfl 2 rfl ?_
  refine V_iload_n C dJ2_remove_20 rfl 1 rfl ?_
  refine V_callV C (c_J2_fastRemove l hl G X N0 M a e0 cap n md f hl9 he hc hn) cs_J2_144_1 hl9 (show CLS[1]? = some (RJ2, TJ2, 3) from rfl) rfl rfl ⟨Nat.le_of_ble_eq_true rfl, Nat.le_of_ble_eq_true rfl⟩ ⟨(by first | exact Nat.le_of_ble_eq_true rfl | omega | (dsimp only; omega)), (by first | exact Nat.le_of_ble_eq_true rfl | omega | (dsimp only; omega))⟩ (Nat.le_of_ble_eq_true rfl) dJ2_remove_21 (fun _ _ _ h => px0 h) ?_
  rintro _ M_1 ⟨rfl, ho_2, ha_3, fr_4, sh_5⟩
  refine V_st (st' := []) rfl ?_
  refine V_aload_n C dJ2_remove_24 rfl 3 rfl ?_
  refine V_st (st' := [va_rf (some r)]) rfl ?_
  refine V_aret C (by first | exact Or.inl ⟨_, rfl⟩ | exact Or.inr ⟨_, rfl⟩) dJ2_remove_25 rfl ?_ (by first | exact Nat.le_of_ble_eq_true rfl | omega | (dsimp only; omega)) (by first | exact Nat.le_of_ble_eq_true rfl | omega | (dsimp only; omega))
  exact ⟨rfl, ho_2, ha_3, fr_4, sh_5⟩
set_option maxHeartbeats 1000000 in
theorem c_J0_init (l : Launch) (hl : l.stackTraces = false) (G : hp_G) (X : Nat → Nat) (N0 : Nat) (M : hp_h) (a : Nat) (hl9 : M a = some (.inr (1, [.int 0, .null, .int 0]))) : HM l yJ0_init (ws_ yJ0_init cJ0_init 1 none) 1 24 0 0 G X N0 [.ref a] M (fun v9 M' => v9 = none ∧ M' a = some (.inr (1, [.int 0, .null, .int 0])) ∧ hp_fr (fun b => b = a) M M' ∧ hp_sh M M') PX0 := by
  refine HM.of hl [(0, .ref a)] (by decide +kernel) rfl (Nat.le_of_ble_eq_true rfl) ?_
  intro p e s m args below meth c C hname
  have hfr : hp_fr (fun b => b = a) M M := hp_fr.rf
  have hsh : hp_sh M M := hp_sh.rf
  refine V_aload_n C dJ0_init_0 rfl 0 rfl ?_
  refine V_obj C cs_J0_1 ⟨Nat.le_of_ble_eq_true rfl, Nat.le_of_ble_eq_true rfl⟩ dJ0_init_1 ?_
  refine V_vret C dJ0_init_4 rfl ?_ (by first | exact Nat.le_of_ble_eq_true rfl | omega | (dsimp only; omega)) (by first | exact Nat.le_of_ble_eq_true rfl | omega | (dsimp only; omega))
  exact ⟨rfl, hl9, hfr, hsh⟩
set_option maxHeartbeats 1000000 in
theorem c_J1_init (l : Launch) (hl : l.stackTraces = false) (G : hp_G) (X : Nat → Nat) (N0 : Nat) (M : hp_h) (a : Nat) (hl9 : M a = some (.inr (1, [.int 0, .null, .int 0]))) : HM l yJ1_init (ws_ yJ1_init cJ1_init 1 none) 2 44 0 0 G X N0 [.ref a] M (fun v9 M' => v9 = none ∧ M' a = some (.inr (1, [.int 0, .null, .int 0])) ∧ hp_fr (fun b => b = a) M M' ∧ hp_sh M M') PX0 := by
  refine HM.of hl [(0, .ref a)] (by decide +kernel) rfl (Nat.le_of_ble_eq_true rfl) ?_
  intro p e s m args below meth c C hname
  have hfr : hp_fr (fun b => b = a) M M := hp_fr.rf
  have hsh : hp_sh M M := hp_sh.rf
  refine V_aload_n C dJ1_init_0 rfl 0 rfl ?_
  refine V_callI C (c_J0_init l hl G X N0 M a hl9) cs_J1_1 rfl rfl ⟨Nat.le_of_ble_eq_true rfl, Nat.le_of_ble_eq_true rfl⟩ ⟨(by first | exact Nat.le_of_ble_eq_true rfl | omega | (dsimp only; omega)), (by first | exact Nat.le_of_ble_eq_true rfl | omega | (dsimp only; omega))⟩ (Nat.le_of_ble_eq_true rfl) dJ1_init_1 (fun _ _ _ h => px0 h) ?_
  rintro _ M_1 ⟨rfl, ho_2, fr_3, sh_4⟩
  refine V_st (st' := []) rfl ?_
  refine V_aload_n C dJ1_init_4 rfl 0 rfl ?_
  refine V_iconst (v := 0) C dJ1_init_5 rfl ?_
  refine V_put C f_J1_7_1 ho_2 rfl rfl (Nat.le_of_ble_eq_true rfl) dJ1_init_6 ?_
  obtain ⟨M_8, eM_9⟩ : ∃ z, z = hp_up M_1 a (.inr (1, [.int 0, .null, .int 0])) := ⟨_, rfl⟩
  refine V_heap (M' := M_8) eM_9.symm ?_
  have eM_9_s : M_8 a = some (.inr (1, [.int 0, .null, .int 0])) := by rw [eM_9]; exact hp_up_s
  have fr_10 := hp_fr.set fr_3 (Or.inl rfl) eM_9
  have sh_11 := hp_sh.set sh_4 ho_2 eM_9 rfl
  refine V_vret C dJ1_init_9 rfl ?_ (by first | exact Nat.le_of_ble_eq_true rfl | omega | (dsimp only; omega)) (by first | exact Nat.le_of_ble_eq_true rfl | omega | (dsimp only; omega))
  exact ⟨rfl, eM_9_s, fr_10, sh_11⟩
set_option maxHeartbeats 1000000 in
theorem c_J2_init (l : Launch) (hl : l.stackTraces = false) (G : hp_G) (X : Nat → Nat) (N0 : Nat) (M : hp_h) (a : Nat) (hl9 : M a = some (.inr (1, [.int 0, .null, .int 0]))) : HM l yJ2_init (ws_ yJ2_init cJ2_init 1 none) 3 64 0 0 G X N0 [.ref a] M (fun v9 M' => v9 = none ∧ M' a = some (.inr (1, [.int 0, .ref (X 0), .int 0])) ∧ hp_fr (fun b => b = a) M M' ∧ hp_sh M M') PX0 := by
  refine HM.of hl [(0, .ref a)] (by decide +kernel) rfl (Nat.le_of_ble_eq_true rfl) ?_
  intro p e s m args below meth c C hname
  have hfr : hp_fr (fun b => b = a) M M := hp_fr.rf
  have hsh : hp_sh M M := hp_sh.rf
  refine V_aload_n C dJ2_init_0 rfl 0 rfl ?_
  refine V_callI C (c_J1_init l hl G X N0 M a hl9) cs_J2_1 rfl rfl ⟨Nat.le_of_ble_eq_true rfl, Nat.le_of_ble_eq_true rfl⟩ ⟨(by first | exact Nat.le_of_ble_eq_true rfl | omega | (dsimp only; omega)), (by first | exact Nat.le_of_ble_eq_true rfl | omega | (dsimp only; omega))⟩ (Nat.le_of_ble_eq_true rfl) dJ2_init_1 (fun _ _ _ h => px0 h) ?_
  rintro _ M_1 ⟨rfl, ho_2, fr_3, sh_4⟩
  refine V_st (st' := []) rfl ?_
  refine V_aload_n C dJ2_init_4 rfl 0 rfl ?_
  refine V_getE C q118 dJ2_init_5 ?_
  refine V_put C f_J2_9_1 ho_2 rfl rfl (Nat.le_of_ble_eq_true rfl) dJ2_init_8 ?_
  obtain ⟨M_8, eM_9⟩ : ∃ z, z = hp_up M_1 a (.inr (1, [.int 0, .ref (X 0), .int 0])) := ⟨_, rfl⟩
  refine V_heap (M' := M_8) eM_9.symm ?_
  have eM_9_s : M_8 a = some (.inr (1, [.int 0, .ref (X 0), .int 0])) := by rw [eM_9]; exact hp_up_s
  have fr_10 := hp_fr.set fr_3 (Or.inl rfl) eM_9
  have sh_11 := hp_sh.set sh_4 ho_2 eM_9 rfl
  refine V_vret C dJ2_init_11 rfl ?_ (by first | exact Nat.le_of_ble_eq_true rfl | omega | (dsimp only; omega)) (by first | exact Nat.le_of_ble_eq_true rfl | omega | (dsimp only; omega))
  exact ⟨rfl, eM_9_s, fr_10, sh_11⟩
