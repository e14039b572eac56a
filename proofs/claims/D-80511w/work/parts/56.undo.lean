set_option maxRecDepth 100000
section U56
variable {G : hp_G} {E0 : Nat} {g : RG} {σ σ' : MS} {z : Nat → Int32} {ca : Int32} {C c : Nat} {Y : Nat → Prop} {M M' : hp_h}
theorem sz_id9 {k : Nat} {v : Int32} (h : σ.1 k = v) : sz σ k v = σ := by
  subst h
  show (va_up σ.1 k (σ.1 k), σ.2) = σ
  have e : va_up σ.1 k (σ.1 k) = σ.1 := by
    funext j
    unfold va_up
    split
    · next h => rw [h]
    · rfl
  rw [e]
/-- all rows of a call's copy have the elements that the copy tells -/
theorem RELY.fin (h : REL G E0 g σ z ca (c + 1) M) {f : Nat → Int64} (hd : ∀ r, r < nR σ → ((∃ i, i < kn g c ∧ wh g c i = r) → r < kr σ c → ∀ x, x < ln σ r → f (40 * r + x) = sn σ c r x) ∧ (¬ (∃ i, i < kn g c ∧ wh g c i = r) → ∀ x, x < ln σ r → f (40 * r + x) = el σ r x)) : ∀ r, r < kr σ c → ∀ x, x < ln σ r → f (40 * r + x) = sn σ c r x := by
  intro r hr x hx
  obtain ⟨-, -, b3, -, b5⟩ := h.2.2.2 c (Nat.lt_succ_self c)
  obtain ⟨d1, d2⟩ := hd r (by omega)
  by_cases e : ∃ i, i < kn g c ∧ wh g c i = r
  · exact d1 e hr x hx
  · rw [d2 e x hx]
    have := b5 r hr (fun i hi y => e ⟨i, hi, y⟩) (fun y => y.2) x hx
    rw [if_neg (by omega)] at this
    exact this.symm
/-- the call is left behind its copies laid back -/
theorem RELY.left9 {f : Nat → Int64} (h0 : REL G E0 g σ z ca (c + 1) M) (hf : ∀ r, r < kr σ c → ∀ x, x < ln σ r → f (40 * r + x) = sn σ c r x) (s2 : σ'.2.1 = σ.2.1) (s3 : σ'.2.2.1 26 = σ.2.2.1 26) (h : REL G E0 g (sl σ' 4 f) z ca (c + 1) M') : REL G E0 g (sl σ' 4 f) z ca c M' := by
  refine h.leave (fun d hd r hr hn _ k hk => ?_)
  obtain ⟨-, -, -, b4, b5⟩ := h0.2.2.2 d (by omega)
  have e25 : kr (sl σ' 4 f) d = kr σ d := by unfold kr; show (σ'.2.1 25 d).toNatClampNeg = _; rw [s2]
  have eln : ln (sl σ' 4 f) r = ln σ r := by unfold ln; show (σ'.2.1 3 r).toNatClampNeg = _; rw [s2]
  rw [e25] at hr
  rw [eln] at hk
  have h1 := b5 r hr hn (fun y => y.2) k hk
  rw [if_pos (by omega)] at h1
  have h2 := hf r (Nat.lt_of_lt_of_le hr (b4 c (by omega) (Nat.lt_succ_self c))) k hk
  show σ'.2.2.1 26 (2400 * d + (40 * r + k)) = f (40 * r + k)
  rw [s3, h2, ← show d + 1 = c by omega]
  rw [show d + 1 = c by omega] at h1
  rw [show d + 1 = c by omega]
  exact h1
theorem RD.undo (h1 : nR σ' ≤ nR σ) (h5 : nU σ' = nU σ) (h8 : nJ σ' = nJ σ) (h16 : σ'.2.1 16 = σ.2.1 16) {t i j : Nat} (hd : RD σ' g c t i j) : RD σ g (c + 1) t i j := by
  unfold _root_.Jvm.Pilot.CNativeSubsetLaw_law_r3584_2ddaea.RD psz at hd ⊢
  rw [h5, h8, h16] at hd
  split at hd <;> (try dsimp only) <;> first | exact hd | exact ⟨Nat.lt_succ_of_lt hd.1, hd.2⟩ | exact ⟨Nat.lt_of_lt_of_le hd.1 h1, hd.2⟩
end U56
set_option maxHeartbeats 1000000 in
theorem c_X25_undo (l : Launch) (hl : l.stackTraces = false) (G : hp_G) (X : Nat → Nat) (N0 : Nat) (M : hp_h) (g : RG) (σ : MS) (z : Nat → Int32) (ca : Int32) (c9 : Nat) (hR : REL G (X 0) g σ z ca (c9 + 1) M) (hI : MI σ) (hK25 : σ.2.1 25 c9 = nI (kr σ c9)) : HM l yX25_undo (ws_ yX25_undo cX25_undo 3 none) 3 66 0 0 G X N0 [.ref (qC g c9)] M (fun v9 M' => v9 = none ∧ REL G (X 0) g (mf_undo c9 (kr σ c9) σ) z ca c9 M' ∧ RKp (nR σ) σ g (c9 + 1) M (mf_undo c9 (kr σ c9) σ) g c9 M' ∧ M' (qC g c9) = M (qC g c9)) PX0 := by
  refine HM.of hl [(0, .ref (qC g c9))] (by decide +kernel) rfl (Nat.le_of_ble_eq_true rfl) ?_
  intro p e s m args below meth c C hname
  have hN := hR.N
  obtain ⟨mdR, hRl⟩ := hR.Rl
  obtain ⟨fR, hRs, hRf⟩ := hR.Rls
  have hCc : M (qC g c9) = some (.inr (4, [.int (σ.2.1 21 c9), .int (σ.2.1 25 c9), .ref (qKl g c9), .ref (qW g c9), .int (σ.2.1 24 c9), .int (σ.2.1 23 c9 - σ.2.1 24 c9), .int (σ.2.1 22 c9), .ref (qN g)])) := hR.Cc (Nat.lt_succ_self c9)
  have hfr : hp_fr (fun b => b = qN g ∨ b = qRl g ∨ (gcp g 2 0 ≠ 0 ∧ b = qRe g) ∨ ∃ r, r < nR σ ∧ b = qR g r) M M := hp_fr.rf
  have hsh : hp_sh M M := hp_sh.rf
  have hknB : kn g c9 ≤ 60 := by have := hR.knR (Nat.lt_succ_self c9); have := hI.R.2; omega
  have hnX : ¬ (qC g c9 = qN g ∨ qC g c9 = qRl g ∨ (gcp g 2 0 ≠ 0 ∧ qC g c9 = qRe g) ∨ ∃ r, r < nR σ ∧ qC g c9 = qR g r) := by
    rintro (y | y | ⟨y1, y⟩ | ⟨r, hr, y⟩)
    · exact hR.ne (t := 15) (i := c9) (j := 0) (t' := 0) (i' := 0) (j' := 0) ⟨Nat.lt_succ_self c9, rfl⟩ ⟨by decide, rfl, rfl⟩ (by simp) y
    · exact hR.ne (t := 15) (i := c9) (j := 0) (t' := 1) (i' := 0) (j' := 0) ⟨Nat.lt_succ_self c9, rfl⟩ ⟨by decide, rfl, rfl⟩ (by simp) y
    · exact hR.ne (t := 15) (i := c9) (j := 0) (t' := 2) (i' := 0) (j' := 0) ⟨Nat.lt_succ_self c9, rfl⟩ ⟨rfl, rfl, y1⟩ (by simp) y
    · exact hR.ne (t := 15) (i := c9) (j := 0) (t' := 5) (i' := r) (j' := 0) ⟨Nat.lt_succ_self c9, rfl⟩ ⟨hr, rfl⟩ (by simp) y
  refine V_aload_n C dX25_undo_0 rfl 0 rfl ?_
  refine V_get C f_X25_3_4 hCc (v := .ref (qN g)) rfl dX25_undo_1 ?_
  refine V_dup C dX25_undo_4 rfl ?_
  refine V_getN C f_X25_58_0 hN (v := .int (σ.1 12)) rfl dX25_undo_5 ?_
  refine V_iconst (v := 1) C dX25_undo_8 rfl ?_
  refine V_iadd C dX25_undo_9 ?_
  refine V_putN C f_X25_58_0 hN rfl rfl (Nat.le_of_ble_eq_true rfl) dX25_undo_10 ?_
  obtain ⟨M_1, eM_2⟩ : ∃ z9, z9 = hp_up M (qN g) (.inr (0, [.ref (qRl g), .ref (qUl g), .ref (qPl g), .ref (qHs g), .int (σ.1 20), .int (σ.1 14), .int (σ.1 11), .int ((σ.1 12) + 1), .int (σ.1 15), .int (z 0), .int (z 1), .int (z 2), .int (z 3), .int (z 4), .int (z 5), .int ca, .ref (qAn g)])) := ⟨_, rfl⟩
  refine V_heap (M' := M_1) eM_2.symm ?_
  have ho_3 : M_1 (qRl g) = some (.inr (1, [.int mdR, .ref (qRe g), .int (nI (nR σ))])) := by rw [eM_2, hp_up_n (hp_ne hRl hN (by simp))]; exact hRl
  have ho_4 : M_1 (qC g c9) = some (.inr (4, [.int (σ.2.1 21 c9), .int (σ.2.1 25 c9), .ref (qKl g c9), .ref (qW g c9), .int (σ.2.1 24 c9), .int (σ.2.1 23 c9 - σ.2.1 24 c9), .int (σ.2.1 22 c9), .ref (qN g)])) := by rw [eM_2, hp_up_n (hp_ne hCc hN (by simp))]; exact hCc
  have eM_2_s : M_1 (qN g) = some (.inr (0, [.ref (qRl g), .ref (qUl g), .ref (qPl g), .ref (qHs g), .int (σ.1 20), .int (σ.1 14), .int (σ.1 11), .int ((σ.1 12) + 1), .int (σ.1 15), .int (z 0), .int (z 1), .int (z 2), .int (z 3), .int (z 4), .int (z 5), .int ca, .ref (qAn g)])) := by rw [eM_2]; exact hp_up_s
  have fr_5 := hp_fr.set hfr (Or.inl (Or.inl rfl)) eM_2
  have sh_6 := hp_sh.set hsh hN eM_2 rfl
  refine V_iconst (v := 0) C dX25_undo_13 rfl ?_
  refine V_istore_n C dX25_undo_14 rfl (Nat.le_of_ble_eq_true rfl) [(0, .ref (qC g c9)), (1, .int 0)] [1, 0] rfl ?_
  have hf1 := fr_5
  have hRt : REL G (X 0) g (sz σ 12 (σ.1 12 + 1)) z ca (c9 + 1) M_1 := hR.num1 rfl rfl rfl rfl rfl eM_2_s (by rw [eM_2]; exact hp_fr.set hp_fr.rf (Or.inl rfl) rfl)
  have hRt2 : REL G (X 0) g (sl (sz σ 12 (σ.1 12 + 1)) 4 (σ.2.2.1 4)) z ca (c9 + 1) M_1 := by rw [show sl (sz σ 12 (σ.1 12 + 1)) 4 (σ.2.2.1 4) = (sz σ 12 (σ.1 12 + 1)) from sl_id _ _]; exact hRt
  have lp_15 : ∀ (fu9 : Nat) (k5 : Nat) (f5 : Nat → Int64) (M15 : hp_h), kn g c9 - k5 < fu9 → (k5 ≤ kn g c9) → (REL G (X 0) g (sl (sz σ 12 (σ.1 12 + 1)) 4 f5) z ca (c9 + 1) M15) → (∀ r, r < nR σ → ((∃ i, i < k5 ∧ wh g c9 i = r) → r < kr σ c9 → ∀ x, x < ln σ r → f5 (40 * r + x) = sn σ c9 r x) ∧ (¬ (∃ i, i < k5 ∧ wh g c9 i = r) → ∀ x, x < ln σ r → f5 (40 * r + x) = el σ r x)) → (hp_fr (fun b => b = qN g ∨ b = qRl g ∨ (gcp g 2 0 ≠ 0 ∧ b = qRe g) ∨ ∃ r, r < nR σ ∧ b = qR g r) M M15) → (hp_sh M M15) → V p l e { frames := 3, cells := 0, slots := 0, locals := 66 } s m args below meth c G N0 3 (QV below G N0 ((fun v9 M' => v9 = none ∧ REL G (X 0) g (mf_undo c9 (kr σ c9) σ) z ca c9 M' ∧ RKp (nR σ) σ g (c9 + 1) M (mf_undo c9 (kr σ c9) σ) g c9 M' ∧ M' (qC g c9) = M (qC g c9))) PX0 args s (0) (0)) (0) (0) M15 15 [(0, .ref (qC g c9)), (1, .int (nI k5))] [] := by
    intro fu9
    induction fu9 with
    | zero => intro k5 f5 M15 hfu9; exact absurd hfu9 (Nat.not_lt_zero _)
    | succ fu9 ih15 =>
      intro k5 f5 M15 hfu9 hk5 hRk hdn hfrK hshK
      have hCk : M15 (qC g c9) = some (.inr (4, [.int (σ.2.1 21 c9), .int (σ.2.1 25 c9), .ref (qKl g c9), .ref (qW g c9), .int (σ.2.1 24 c9), .int (σ.2.1 23 c9 - σ.2.1 24 c9), .int (σ.2.1 22 c9), .ref (qN g)])) := hRk.Cc (Nat.lt_succ_self c9)
      obtain ⟨mdK, hKl⟩ := hRk.Kl (Nat.lt_succ_self c9)
      obtain ⟨fK, hKs, hKf⟩ := hRk.Kls (Nat.lt_succ_self c9)
      obtain ⟨fW, hW, hWf⟩ := hRk.W (Nat.lt_succ_self c9)
      have hNk : M15 (qN g) = some (.inr (0, [.ref (qRl g), .ref (qUl g), .ref (qPl g), .ref (qHs g), .int (σ.1 20), .int (σ.1 14), .int (σ.1 11), .int (σ.1 12 + 1), .int (σ.1 15), .int (z 0), .int (z 1), .int (z 2), .int (z 3), .int (z 4), .int (z 5), .int ca, .ref (qAn g)])) := hRk.N
      obtain ⟨mdR, hRl⟩ := hRk.Rl
      have hRl : M15 (qRl g) = some (.inr (1, [.int mdR, .ref (qRe g), .int (nI (nR σ))])) := hRl
      obtain ⟨fR, hRs, hRf⟩ := hRk.Rls
      have hRs : LSt G (X 0) M15 (qRl g) (qRe g) (gcp g 2 0) (nR σ) fR := hRs
      have hRf : ∀ r, r < nR σ → fR r = some (qR g r) := hRf
      refine V_iload_n C dX25_undo_15 rfl 1 rfl ?_
      refine V_aload_n C dX25_undo_16 rfl 0 rfl ?_
      refine V_pc (pc1 := 17) rfl ?_
      refine V_get C f_X25_18_4 hCk (v := .ref (qKl g c9)) rfl dX25_undo_17 ?_
      refine V_callV C (c_J2_size l hl G X N0 M15 (qKl g c9) (qKe g c9) (kn g c9) mdK hKl) cs_X25_33_1 hKl (show CLS[1]? = some (RJ2, TJ2, 3) from rfl) rfl rfl ⟨Nat.le_of_ble_eq_true rfl, Nat.le_of_ble_eq_true rfl⟩ ⟨(by first | exact Nat.le_of_ble_eq_true rfl | omega | (dsimp only; omega) | (simp only [List.length_cons, List.length_nil]; omega)), (by first | exact Nat.le_of_ble_eq_true rfl | omega | (dsimp only; omega) | (simp only [List.length_cons, List.length_nil]; omega))⟩ (Nat.le_of_ble_eq_true rfl) dX25_undo_20 (fun _ _ _ h => px0 h) ?_
      rintro _ _ ⟨rfl, rfl⟩
      refine V_st (st' := [.int (nI (kn g c9)), .int (nI k5)]) rfl ?_
      refine V_icmp_ge (tgt := 67) C dX25_undo_23 (by decide) (fun c_23 => ?_) (fun c_23 => ?_)
      · have hkk : k5 = kn g c9 := by have := (nI_leI (by have := hKs.2.2.2.1; have := hKs.2.2.2.2; omega) (by have := hKs.2.2.2.1; have := hKs.2.2.2.2; omega)).mp c_23; omega
        subst hkk
        have hfin := hR.fin hdn
        have hRL : REL G (X 0) g (sl (sz σ 12 (σ.1 12 + 1)) 4 f5) z ca c9 M15 := RELY.left9 (σ' := (sz σ 12 (σ.1 12 + 1))) hR hfin rfl rfl hRk
        have hkr9 : kr σ c9 ≤ nR σ := (hR.2.2.2 c9 (Nat.lt_succ_self c9)).2.2.1
        have hR60 := hI.R.2
        have hRL2 : REL G (X 0) g (sz (sl (sz σ 12 (σ.1 12 + 1)) 4 f5) 1 (nI (nR σ))) z ca c9 M15 := by rw [show sz (sl (sz σ 12 (σ.1 12 + 1)) 4 f5) 1 (nI (nR σ)) = (sl (sz σ 12 (σ.1 12 + 1)) 4 f5) from sz_id9 hI.R.1]; exact hRL
        have hE25 : σ.2.1 25 c9 = nI (kr σ c9) := hK25
        have lp_67 : ∀ (fu9 : Nat) (n5 : Nat) (M67 : hp_h), n5 < fu9 → (kr σ c9 ≤ n5) → (n5 ≤ nR σ) → (REL G (X 0) g (sz (sl (sz σ 12 (σ.1 12 + 1)) 4 f5) 1 (nI n5)) z ca c9 M67) → (hp_fr (fun b => b = qN g ∨ b = qRl g ∨ (gcp g 2 0 ≠ 0 ∧ b = qRe g) ∨ ∃ r, r < nR σ ∧ b = qR g r) M M67) → (hp_sh M M67) → V p l e { frames := 3, cells := 0, slots := 0, locals := 66 } s m args below meth c G N0 3 (QV below G N0 ((fun v9 M' => v9 = none ∧ REL G (X 0) g (mf_undo c9 (kr σ c9) σ) z ca c9 M' ∧ RKp (nR σ) σ g (c9 + 1) M (mf_undo c9 (kr σ c9) σ) g c9 M' ∧ M' (qC g c9) = M (qC g c9))) PX0 args s (0) (0)) (0) (0) M67 67 [(0, .ref (qC g c9))] [] := by
          intro fu9
          induction fu9 with
          | zero => intro n5 M67 hfu9; exact absurd hfu9 (Nat.not_lt_zero _)
          | succ fu9 ih67 =>
            intro n5 M67 hfu9 hn51 hn52 hRn hfrK2 hshK2
            have hn9 : nR (sz (sl (sz σ 12 (σ.1 12 + 1)) 4 f5) 1 (nI n5)) = n5 := by show (nI n5).toNatClampNeg = n5; rw [nI_clamp (by omega)]
            have hCk2 : M67 (qC g c9) = some (.inr (4, [.int (σ.2.1 21 c9), .int (σ.2.1 25 c9), .ref (qKl g c9), .ref (qW g c9), .int (σ.2.1 24 c9), .int (σ.2.1 23 c9 - σ.2.1 24 c9), .int (σ.2.1 22 c9), .ref (qN g)])) := hfrK2 _ _ hnX hCc
            rw [hE25] at hCk2
            have hNk2 : M67 (qN g) = some (.inr (0, [.ref (qRl g), .ref (qUl g), .ref (qPl g), .ref (qHs g), .int (σ.1 20), .int (σ.1 14), .int (σ.1 11), .int (σ.1 12 + 1), .int (σ.1 15), .int (z 0), .int (z 1), .int (z 2), .int (z 3), .int (z 4), .int (z 5), .int ca, .ref (qAn g)])) := hRn.N
            obtain ⟨mdR2, hRl2⟩ := hRn.Rl
            rw [hn9] at hRl2
            obtain ⟨fR2, hRs2, hRf2⟩ := hRn.Rls
            rw [hn9] at hRs2 hRf2
            refine V_aload_n C dX25_undo_67 rfl 0 rfl ?_
            refine V_get C f_X25_3_4 hCk2 (v := .ref (qN g)) rfl dX25_undo_68 ?_
            refine V_getN C f_X25_30_0 hNk2 (v := .ref (qRl g)) rfl dX25_undo_71 ?_
            refine V_callV C (c_J2_size l hl G X N0 M67 (qRl g) (qRe g) n5 mdR2 hRl2) cs_X25_33_1 hRl2 (show CLS[1]? = some (RJ2, TJ2, 3) from rfl) rfl rfl ⟨Nat.le_of_ble_eq_true rfl, Nat.le_of_ble_eq_true rfl⟩ ⟨(by first | exact Nat.le_of_ble_eq_true rfl | omega | (dsimp only; omega) | (simp only [List.length_cons, List.length_nil]; omega)), (by first | exact Nat.le_of_ble_eq_true rfl | omega | (dsimp only; omega) | (simp only [List.length_cons, List.length_nil]; omega))⟩ (Nat.le_of_ble_eq_true rfl) dX25_undo_74 (fun _ _ _ h => px0 h) ?_
            rintro _ _ ⟨rfl, rfl⟩
            refine V_st (st' := [.int (nI n5)]) rfl ?_
            refine V_aload_n C dX25_undo_77 rfl 0 rfl ?_
            refine V_get C f_X25_37_4 hCk2 (v := .int (nI (kr σ c9))) rfl dX25_undo_78 ?_
            refine V_icmp_le (tgt := 110) C dX25_undo_81 (by decide) (fun c_81 => ?_) (fun c_81 => ?_)
            · refine V_vret C dX25_undo_110 rfl ?_ (by first | exact Nat.le_of_ble_eq_true rfl | omega | (dsimp only; omega) | (simp only [List.length_cons, List.length_nil]; omega)) (by first | exact Nat.le_of_ble_eq_true rfl | omega | (dsimp only; omega) | (simp only [List.length_cons, List.length_nil]; omega))
              have hnn : n5 = kr σ c9 := by have := (nI_leI (by omega) (by omega)).mp c_81; omega
              subst hnn
              refine ⟨rfl, hRn.view ⟨fun k hk => ?_, fun _ _ => ⟨rfl, rfl⟩, fun _ _ => rfl, fun _ _ => rfl, rfl, fun r k hr hk => ?_⟩, RKp.mk9 (Z := (fun b => b = qN g ∨ b = qRl g ∨ (gcp g 2 0 ≠ 0 ∧ b = qRe g) ∨ ∃ r, r < nR σ ∧ b = qR g r)) (fun _ _ _ _ _ _ _ _ _ _ => rfl) hfrK2 ?_ (fun t i j hd => Or.inl ⟨RD.undo (σ := σ) (σ' := mf_undo c9 (kr σ c9) σ) ?_ rfl rfl rfl hd, rfl⟩) hshK2, (hfrK2 _ _ hnX hCc).trans hCc.symm⟩
              · rcases hk with rfl | rfl | rfl | rfl | rfl | rfl | rfl | rfl <;> rfl
              · have hr : r < kr σ c9 := by rw [hn9] at hr; exact hr
                have hk : k < ln σ r := hk
                have l9 := (hI.l (r := r) (by omega)).2
                show mfill (σ.2.2.1 4) 0 (40 * kr σ c9) (fun k => σ.2.2.1 26 (2400 * c9 + k)) (40 * r + k) = f5 (40 * r + k)
                rw [mfill_in0 (by omega), hfin r hr k hk]
              · rintro a (rfl | rfl | ⟨y, rfl⟩ | ⟨r, hr, rfl⟩)
                · exact ⟨0, 0, 0, ⟨by decide, rfl, rfl⟩, rfl⟩
                · exact ⟨1, 0, 0, ⟨by decide, rfl, rfl⟩, rfl⟩
                · exact ⟨2, 0, 0, ⟨rfl, rfl, y⟩, rfl⟩
                · exact ⟨5, r, 0, ⟨hr, rfl⟩, rfl⟩
              · show (nI (kr σ c9)).toNatClampNeg ≤ nR σ
                rw [nI_clamp (by omega)]
                exact hkr9
            · obtain ⟨m5, rfl⟩ : ∃ m, n5 = m + 1 := ⟨n5 - 1, by have := nI_ltN9 (by omega) (by omega) c_81; omega⟩
              have hm5 : kr σ c9 ≤ m5 := by have := nI_ltN9 (by omega) (by omega) c_81; omega
              have hcp0 : gcp g 2 0 ≠ 0 := by have := hRs2.2.2.2.1; omega
              refine V_aload_n C dX25_undo_84 rfl 0 rfl ?_
              refine V_get C f_X25_3_4 hCk2 (v := .ref (qN g)) rfl dX25_undo_85 ?_
              refine V_pc (pc1 := 88) rfl ?_
              refine V_getN C f_X25_30_0 hNk2 (v := .ref (qRl g)) rfl dX25_undo_88 ?_
              refine V_aload_n C dX25_undo_91 rfl 0 rfl ?_
              refine V_get C f_X25_3_4 hCk2 (v := .ref (qN g)) rfl dX25_undo_92 ?_
              refine V_getN C f_X25_30_0 hNk2 (v := .ref (qRl g)) rfl dX25_undo_95 ?_
              refine V_callV C (c_J2_size l hl G X N0 M67 (qRl g) (qRe g) (m5 + 1) mdR2 hRl2) cs_X25_33_1 hRl2 (show CLS[1]? = some (RJ2, TJ2, 3) from rfl) rfl rfl ⟨Nat.le_of_ble_eq_true rfl, Nat.le_of_ble_eq_true rfl⟩ ⟨(by first | exact Nat.le_of_ble_eq_true rfl | omega | (dsimp only; omega) | (simp only [List.length_cons, List.length_nil]; omega)), (by first | exact Nat.le_of_ble_eq_true rfl | omega | (dsimp only; omega) | (simp only [List.length_cons, List.length_nil]; omega))⟩ (Nat.le_of_ble_eq_true rfl) dX25_undo_98 (fun _ _ _ h => px0 h) ?_
              rintro _ _ ⟨rfl, rfl⟩
              refine V_st (st' := [.int (nI (m5 + 1)), .ref (qRl g)]) rfl ?_
              refine V_iconst (v := 1) C dX25_undo_101 rfl ?_
              refine V_isub C dX25_undo_102 ?_
              refine V_st (st' := [.int (nI m5), .ref (qRl g)]) (by rw [show ((nI (m5 + 1)) - 1) = (nI m5) from (nI_pred m5)]) ?_
              refine V_callV C (c_J2_remove l hl G X N0 M67 (qRl g) (qRe g) (gcp g 2 0) m5 (qR g m5) mdR2 fR2 hRl2 (hRs2.2.2.1 hcp0) (by have := hRs2.2.2.2.1; omega) hRs2.2.2.2.2 (hRf2 m5 (Nat.lt_succ_self m5))) cs_X25_71_1 hRl2 (show CLS[1]? = some (RJ2, TJ2, 3) from rfl) rfl rfl ⟨Nat.le_of_ble_eq_true rfl, Nat.le_of_ble_eq_true rfl⟩ ⟨(by first | exact Nat.le_of_ble_eq_true rfl | omega | (dsimp only; omega) | (simp only [List.length_cons, List.length_nil]; omega)), (by first | exact Nat.le_of_ble_eq_true rfl | omega | (dsimp only; omega) | (simp only [List.length_cons, List.length_nil]; omega))⟩ (Nat.le_of_ble_eq_true rfl) dX25_undo_103 (fun _ _ _ h => px0 h) ?_
              rintro _ M_9 ⟨rfl, hr1, hr2, hr3, hr4⟩
              refine V_st (st' := [.ref (qR g m5)]) rfl ?_
              have hRn2 : REL G (X 0) g (sz (sl (sz σ 12 (σ.1 12 + 1)) 4 f5) 1 (nI m5)) z ca c9 M_9 := by
                have h9 := hRn.dropRow (n := m5) (f := fR2) (f' := va_up fR2 m5 none) hn9 (by omega) ⟨⟨_, hr1⟩, fun y => absurd y hcp0, fun _ => hr2, by have := hRs2.2.2.2.1; omega, hRs2.2.2.2.2⟩ (fun r hr => by rw [va_up_n (by omega)]; exact hRf2 r (by omega)) hr3 (fun d hd => ?_)
                · rw [sz_sz] at h9; exact h9
                · obtain ⟨b1, b2, b3, b4, b5⟩ := hR.2.2.2 d (by omega)
                  refine ⟨Nat.le_trans (b4 c9 hd (Nat.lt_succ_self c9)) hm5, fun i hi => ?_⟩
                  exact Nat.lt_of_lt_of_le ((b1 i hi).2 c9 hd (Nat.lt_succ_self c9)) hm5
              have hf92 : hp_fr (fun b => b = qN g ∨ b = qRl g ∨ (gcp g 2 0 ≠ 0 ∧ b = qRe g) ∨ ∃ r, r < nR σ ∧ b = qR g r) M M_9 := hfrK2.trans (hr3.weak (fun a y => y.elim (fun y => Or.inr (Or.inl y)) (fun y => Or.inr (Or.inr (Or.inl ⟨hcp0, y⟩)))))
              have hs92 : hp_sh M M_9 := hshK2.trans hr4
              refine V_pop C dX25_undo_106 rfl ?_
              refine V_goto (tgt := 67) C dX25_undo_107 (by decide) ?_
              exact ih67 m5 _ (by omega) (by omega) (by omega) hRn2 hf92 hs92
        refine V_loc (L' := [(0, .ref (qC g c9))]) [0] rfl ?_
        exact lp_67 _ (nR σ) _ (Nat.lt_succ_self _) hkr9 (Nat.le_refl _) hRL2 hfrK hshK
      · have hk52 : k5 < kn g c9 := nI_ltN9 (by omega) (by have := hKs.2.2.2.1; have := hKs.2.2.2.2; omega) c_23
        have hw9 : wh g c9 k5 < nR σ := ((hR.2.2.2 c9 (Nat.lt_succ_self c9)).1 k5 hk52).1
        have hR60 := hI.R.2
        obtain ⟨xk, hKa, hKx, eK, hKc, hKe, hKq⟩ := hRk.K (Nat.lt_succ_self c9) hk52
        obtain ⟨w9, hw0⟩ : ∃ y, y = wh g c9 k5 := ⟨_, rfl⟩
        have hKa : M15 (qK g c9 k5) = some (.inl (G.2 (kd σ w9), xk)) := by rw [hw0]; exact hKa
        have hKx : XT (kd σ w9) (ln σ w9) xk := by rw [hw0]; exact hKx
        have hKc : ∀ y, y < ln σ w9 → CE (nU σ) (nJ σ) (fun u => qU g u) (fun y => qJ g y) (kd σ w9) xk y (eK y) := by rw [hw0]; exact hKc
        have hKe : w9 < kr σ c9 → ∀ y, y < ln σ w9 → eK y = sn σ c9 w9 y := by rw [hw0]; exact hKe
        have hKq : CQ (nU σ) (σ.2.1 6) (kd σ w9) (ln σ w9) eK := by rw [hw0]; exact hKq
        have hwn : w9 < nR σ := by rw [hw0]; exact hw9
        have hkL := (hI.k hwn).2
        have hlL := (hI.l hwn).2
        obtain ⟨xr, hra, hrx, hrc⟩ := hRk.rw (r := w9) hwn
        have hra : M15 (qR g w9) = some (.inl (G.2 (kd σ w9), xr)) := hra
        have hrx : XT (kd σ w9) (ln σ w9) xr := hrx
        refine V_aload_n C dX25_undo_26 rfl 0 rfl ?_
        refine V_get C f_X25_18_4 hCk (v := .ref (qKl g c9)) rfl dX25_undo_27 ?_
        refine V_iload_n C dX25_undo_30 rfl 1 rfl ?_
        refine V_callV C (c_J2_get l hl G X N0 M15 (qKl g c9) (qKe g c9) (kn g c9) (gcp g 17 c9) mdK fK hKl (hKs.2.2.1 (by have := hKs.2.2.2.1; omega)) (by have := hKs.2.2.2.2; omega) hKs.2.2.2.1 k5 (qK g c9 k5) hk52 (hKf k5 hk52)) cs_X25_46_1 hKl (show CLS[1]? = some (RJ2, TJ2, 3) from rfl) rfl rfl ⟨Nat.le_of_ble_eq_true rfl, Nat.le_of_ble_eq_true rfl⟩ ⟨(by first | exact Nat.le_of_ble_eq_true rfl | omega | (dsimp only; omega) | (simp only [List.length_cons, List.length_nil]; omega)), (by first | exact Nat.le_of_ble_eq_true rfl | omega | (dsimp only; omega) | (simp only [List.length_cons, List.length_nil]; omega))⟩ (Nat.le_of_ble_eq_true rfl) dX25_undo_31 (fun _ _ _ h => px0 h) ?_
        rintro _ _ ⟨rfl, rfl⟩
        refine V_st (st' := [.ref (qK g c9 k5)]) rfl ?_
        refine V_astore_n C dX25_undo_34 rfl (Nat.le_of_ble_eq_true rfl) [(0, .ref (qC g c9)), (1, .int (nI k5)), (2, .ref (qK g c9 k5))] [1, 2, 0] rfl ?_
        refine V_aload_n C dX25_undo_35 rfl 2 rfl ?_
        refine V_iconst (v := 0) C dX25_undo_36 rfl ?_
        refine V_aload_n C dX25_undo_37 rfl 0 rfl ?_
        refine V_get C f_X25_3_4 hCk (v := .ref (qN g)) rfl dX25_undo_38 ?_
        refine V_pc (pc1 := 41) rfl ?_
        refine V_getN C f_X25_30_0 hNk (v := .ref (qRl g)) rfl dX25_undo_41 ?_
        refine V_aload_n C dX25_undo_44 rfl 0 rfl ?_
        refine V_get C f_X25_22_4 hCk (v := .ref (qW g c9)) rfl dX25_undo_45 ?_
        refine V_iload_n C dX25_undo_48 rfl 1 rfl ?_
        refine V_iald C hW (vp_in_nI (show k5 < 60 by have := hR.knR (Nat.lt_succ_self c9); omega) (by omega)) dX25_undo_49 ?_
        refine V_st (st' := [.int (fW k5), .ref (qRl g), .int 0, .ref (qK g c9 k5)]) (by rw [nI_clamp (by omega)]) ?_
        refine V_st (st' := [.int (nI w9), .ref (qRl g), .int 0, .ref (qK g c9 k5)]) (by rw [show (fW k5) = (nI w9) from (by rw [hw0]; exact hWf k5 hk52)]) ?_
        refine V_callV C (c_J2_get l hl G X N0 M15 (qRl g) (qRe g) (nR σ) (gcp g 2 0) mdR fR hRl (hRs.2.2.1 (by have := hRs.2.2.2.1; omega)) (by have := hRs.2.2.2.2; omega) hRs.2.2.2.1 w9 (qR g w9) hwn (hRf w9 hwn)) cs_X25_46_1 hRl (show CLS[1]? = some (RJ2, TJ2, 3) from rfl) rfl rfl ⟨Nat.le_of_ble_eq_true rfl, Nat.le_of_ble_eq_true rfl⟩ ⟨(by first | exact Nat.le_of_ble_eq_true rfl | omega | (dsimp only; omega) | (simp only [List.length_cons, List.length_nil]; omega)), (by first | exact Nat.le_of_ble_eq_true rfl | omega | (dsimp only; omega) | (simp only [List.length_cons, List.length_nil]; omega))⟩ (Nat.le_of_ble_eq_true rfl) dX25_undo_50 (fun _ _ _ h => px0 h) ?_
        rintro _ _ ⟨rfl, rfl⟩
        refine V_st (st' := [.ref (qR g w9), .int 0, .ref (qK g c9 k5)]) rfl ?_
        refine V_iconst (v := 0) C dX25_undo_53 rfl ?_
        refine V_aload_n C dX25_undo_54 rfl 2 rfl ?_
        refine V_callSN C (c_X1_sizeOf l hl G X N0 M15 (qK g c9 k5) (kd σ w9) hkL xk hKa) cs_X25_61 rfl rfl ⟨Nat.le_of_ble_eq_true rfl, Nat.le_of_ble_eq_true rfl⟩ ⟨(by first | exact Nat.le_of_ble_eq_true rfl | omega | (dsimp only; omega) | (simp only [List.length_cons, List.length_nil]; omega)), (by first | exact Nat.le_of_ble_eq_true rfl | omega | (dsimp only; omega) | (simp only [List.length_cons, List.length_nil]; omega))⟩ (Nat.le_of_ble_eq_true rfl) dX25_undo_55 (fun _ _ _ h => px0 h) ?_
        rintro _ _ ⟨rfl, rfl⟩
        refine V_st (st' := [.int (nI xk.1), .int 0, .ref (qR g w9), .int 0, .ref (qK g c9 k5)]) rfl ?_
        refine V_st (st' := [.int (nI (ln σ w9)), .int 0, .ref (qR g w9), .int 0, .ref (qK g c9 k5)]) (by rw [hKx.1]) ?_
        refine V_st (st' := [.int (nI (ln σ w9)), .int (nI 0), .ref (qR g w9), .int (nI 0), .ref (qK g c9 k5)]) rfl ?_
        refine V_copyKN C ⟨q1369, q532, q531, q76⟩ (Or.inl rfl) hKx.2 hrx.2 hKa hra (sp := 0) (dp := 0) (n := ln σ w9) (by rw [hKx.1]; omega) (by rw [hrx.1]; omega) (by rw [hKx.1]; omega) (by rw [hrx.1]; omega) (fun y hy => by rw [Nat.zero_add]; exact (hR.ev hI hKc hKq y hy).sh hshK) ⟨Nat.le_of_ble_eq_true rfl, Nat.le_of_ble_eq_true rfl⟩ dX25_undo_58 (fun x9 hx9 hcv9 => ?_)
        obtain ⟨M_10, eM_11⟩ : ∃ y, y = hp_up M15 (qR g w9) (.inl (G.2 (kd σ w9), x9)) := ⟨_, rfl⟩
        refine V_heap (M' := M_10) eM_11.symm ?_
        have hf9 : hp_fr (fun b => b = qN g ∨ b = qRl g ∨ (gcp g 2 0 ≠ 0 ∧ b = qRe g) ∨ ∃ r, r < nR σ ∧ b = qR g r) M M_10 := hp_fr.set hfrK (Or.inl (Or.inr (Or.inr (Or.inr ⟨w9, hwn, rfl⟩)))) eM_11
        have hs9 : hp_sh M M_10 := hp_sh.set hshK hra eM_11 rfl
        have hx9t : XT (kd σ w9) (ln σ w9) x9 := ⟨hx9.1.trans hrx.1, hx9.2⟩
        have hRn : REL G (X 0) g (sl (sz σ 12 (σ.1 12 + 1)) 4 (mfill f5 (40 * w9) (ln σ w9) eK)) z ca (c9 + 1) M_10 := by
          rw [eM_11]
          have h9 := hRk.row (r := w9) (f' := mfill f5 (40 * w9) (ln σ w9) eK) (x' := x9) hwn hx9t (fun y (hy : y < ln σ w9) => ?_) (fun r' y hr' hn hy => ?_) (fun d hd => Or.inl ⟨k5, by rw [show d = c9 by omega]; exact hk52, by rw [show d = c9 by omega]; exact hw0.symm⟩)
          · rw [sl_sl] at h9; exact h9
          · rw [mfill_in hy]; exact (hKc y hy).at_ (by rw [hcv9 y, if_pos ⟨Nat.zero_le _, by omega⟩, Nat.zero_add, Nat.sub_zero])
          · have hl2 : ln σ r' ≤ 40 := (hI.l hr').2
            have hy2 : y < ln σ r' := hy
            exact mfill_out (by omega)
        refine V_iinc (v := nI (k5 + 1)) C dX25_undo_61 (k := 1) rfl (nI_add k5 1) (Nat.le_of_ble_eq_true rfl) [(0, .ref (qC g c9)), (1, .int (nI (k5 + 1))), (2, .ref (qK g c9 k5))] [1, 0, 2] rfl ?_
        refine V_goto (tgt := 15) C dX25_undo_64 (by decide) ?_
        have hdn2 : ∀ r, r < nR σ → ((∃ i, i < k5 + 1 ∧ wh g c9 i = r) → r < kr σ c9 → ∀ x, x < ln σ r → mfill f5 (40 * w9) (ln σ w9) eK (40 * r + x) = sn σ c9 r x) ∧ (¬ (∃ i, i < k5 + 1 ∧ wh g c9 i = r) → ∀ x, x < ln σ r → mfill f5 (40 * w9) (ln σ w9) eK (40 * r + x) = el σ r x) := fun r hr => by
          by_cases e : r = w9
          · subst e
            exact ⟨fun _ hk x hx => by rw [mfill_in hx]; exact hKe hk x hx, fun hn => absurd ⟨k5, Nat.lt_succ_self _, hw0.symm⟩ hn⟩
          · have hl2 := (hI.l hr).2
            obtain ⟨d1, d2⟩ := hdn r hr
            refine ⟨fun hi hk x hx => ?_, fun hi x hx => ?_⟩
            · rw [mfill_out (by omega)]
              obtain ⟨i, hi1, hi2⟩ := hi
              refine d1 ⟨i, ?_, hi2⟩ hk x hx
              rcases Nat.lt_or_ge i k5 with y | y
              · exact y
              · exact absurd (by rw [← hi2, hw0, show i = k5 by omega]) e
            · rw [mfill_out (by omega)]
              exact d2 (fun y => hi ⟨y.choose, by have := y.choose_spec.1; omega, y.choose_spec.2⟩) x hx
        refine V_loc (L' := [(0, .ref (qC g c9)), (1, .int (nI (k5 + 1)))]) [0, 1] rfl ?_
        exact ih15 (k5 + 1) (mfill f5 (40 * w9) (ln σ w9) eK) _ (by omega) (by omega) hRn hdn2 hf9 hs9
  refine V_loc (L' := [(0, .ref (qC g c9)), (1, .int 0)]) [0, 1] rfl ?_
  exact lp_15 _ 0 (σ.2.2.1 4) _ (Nat.lt_succ_self _) (Nat.zero_le _) hRt2 (fun r _ => ⟨fun y => absurd y.choose_spec.1 (Nat.not_lt_zero _), fun _ _ _ => rfl⟩) fr_5 sh_6
