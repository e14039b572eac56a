set_option maxRecDepth 100000
section F43
variable {G : hp_G} {E0 : Nat} {g : RG} {σ σ' : MS} {z z' : Nat → Int32} {ca ca' : Int32} {C : Nat} {Y : Nat → Prop} {M M' : hp_h}
/-- a fault is counted -/
def mf_flt (σ : MS) : MS := sz σ 15 (σ.1 15 + 1)
/-- a Failure comes, with fault f, of state σ -/
def FLX (G : hp_G) (E0 : Nat) (g : RG) (σ0 : MS) (z : Nat → Int32) (C : Nat) (M : hp_h) (σ : MS) (f : Int32) : Nat → String → hp_h → Prop := fun q E M' => E = RX26 ∧ ∃ g', REL G E0 g' (mf_flt σ) z ((mf_flt σ).1 31) C M' ∧ RKp (nR σ0) σ0 g C M (mf_flt σ) g' C M' ∧ M' q = some (.inr (8, [.null, .null, .null, .null, .null, .int 0, .int f])) ∧ ¬ IsR (mf_flt σ) g' C q
theorem flt_e {k : Nat} (h : k ≠ 15) : (mf_flt σ).1 k = σ.1 k := va_up_n h
theorem RELY.num1 (h : RELY G E0 g σ z ca C Y M) (h1 : σ'.1 1 = σ.1 1) (h5 : σ'.1 5 = σ.1 5) (h8 : σ'.1 8 = σ.1 8) (h2 : σ'.2.1 = σ.2.1) (h3 : σ'.2.2.1 = σ.2.2.1) (hN : M' (qN g) = some (.inr (0, NF g σ' z' ca'))) (hf : hp_fr (fun b => b = qN g) M M') : RELY G E0 g σ' z' ca' C Y M' := by
  refine (h.num (z' := z') (ca' := ca') h1 h5 h8 h2 h3).heap (fun a e ha hr => ?_)
  by_cases e9 : a = qN g
  · subst e9
    rw [hp_up_s] at ha
    cases ha
    exact hN
  · rw [hp_up_n e9] at ha
    exact hf a e e9 ha
theorem RD.num (h1 : σ'.1 1 = σ.1 1) (h5 : σ'.1 5 = σ.1 5) (h8 : σ'.1 8 = σ.1 8) (h2 : σ'.2.1 = σ.2.1) {t i j : Nat} (h : RD σ' g C t i j) : RD σ g C t i j := by
  unfold RD nR nU nJ psz at h ⊢
  rw [h1, h5, h8, h2] at h
  exact h
theorem RKp.num {n : Nat} (h1 : σ'.1 1 = σ.1 1) (h5 : σ'.1 5 = σ.1 5) (h8 : σ'.1 8 = σ.1 8) (h2 : σ'.2.1 = σ.2.1) (hf : hp_fr (fun b => b = qN g) M M') (hs : hp_sh M M') : RKp n σ g C M σ' g C M' :=
  RKp.mk9 (fun _ _ _ _ _ _ _ _ _ _ => rfl) hf (fun a h => ⟨0, 0, 0, ⟨by decide, rfl, rfl⟩, h.symm⟩) (fun t i j hd => Or.inl ⟨RD.num h1 h5 h8 h2 hd, rfl⟩) hs
/-- behind fail(f) -/
theorem FLX.of (h : REL G E0 g σ z (σ.1 31) C M) {q : Nat} {f : Int32} (hq : M q = none) (hN : M' (qN g) = some (.inr (0, [.ref (qRl g), .ref (qUl g), .ref (qPl g), .ref (qHs g), .int (σ.1 20), .int (σ.1 14), .int (σ.1 11), .int (σ.1 12), .int (σ.1 15 + 1), .int (z 0), .int (z 1), .int (z 2), .int (z 3), .int (z 4), .int (z 5), .int (σ.1 31), .ref (qAn g)])))
    (hF : M' q = some (.inr (8, [.null, .null, .null, .null, .null, .int 0, .int f]))) (hf : hp_fr (fun b => b = qN g) M M') (hs : hp_sh M M') : FLX G E0 g σ z C M σ f q RX26 M' := by
  refine ⟨rfl, g, h.num1 (z' := z) (flt_e (by decide)) (flt_e (by decide)) (flt_e (by decide)) rfl rfl hN hf, RKp.num (flt_e (by decide)) (flt_e (by decide)) (flt_e (by decide)) rfl hf hs, hF, ?_⟩
  rintro ⟨t, i, j, hd, e⟩
  exact h.fresh hq t i j (RD.num (σ' := mf_flt σ) (flt_e (by decide)) (flt_e (by decide)) (flt_e (by decide)) rfl hd) e
theorem FLX.after {σ0 σ1 : MS} {g1 : RG} {M1 : hp_h} {f : Int32} {q : Nat} {E : String} (h1 : RKp (nR σ0) σ0 g C M σ1 g1 C M1) (hn : nR σ0 ≤ nR σ1) (hD : ∀ t i j, t ≠ 2 → t ≠ 4 → t ≠ 17 → t ≠ 19 → RD σ0 g C t i j → (t = 5 → i < nR σ0) → (15 ≤ t → i < C) → RD σ1 g1 C t i j) (h : FLX G E0 g1 σ1 z C M1 σ f q E M') : FLX G E0 g σ0 z C M σ f q E M' := by
  obtain ⟨a1, g', a2, a3, a4, a5⟩ := h
  exact ⟨a1, g', a2, h1.trans a3 (Nat.le_refl _) hn hD, a4, a5⟩
/-- an index set has no more elements than the range it maps into -/
theorem pigeon : ∀ (n k : Nat) (f : Nat → Nat), (∀ i, i < k → f i < n) → (∀ i j, i < k → j < k → f i = f j → i = j) → k ≤ n
  | 0, k, f, h1, _ => by
    cases k with
    | zero => exact Nat.le_refl _
    | succ k => exact absurd (h1 0 (Nat.succ_pos _)) (Nat.not_lt_zero _)
  | n + 1, k, f, h1, h2 => by
    cases k with
    | zero => exact Nat.zero_le _
    | succ k =>
      refine Nat.succ_le_succ (pigeon n k (fun i => if f i = n then f k else f i) (fun i hi => ?_) (fun i j hi hj e => ?_))
      · (try dsimp only)
        split
        · next e => 
          have hk := h1 k (Nat.lt_succ_self _)
          have : f k ≠ n := fun y => absurd (h2 i k (by omega) (by omega) (e.trans y.symm)) (by omega)
          omega
        · next e => have := h1 i (by omega); omega
      · (try dsimp only at e)
        split at e
        · next e1 =>
          split at e
          · next e2 => exact h2 i j (by omega) (by omega) (e1.trans e2.symm)
          · next e2 => exact absurd (h2 k j (by omega) (by omega) e) (by omega)
        · next e1 =>
          split at e
          · next e2 => exact absurd (h2 i k (by omega) (by omega) e) (by omega)
          · next e2 => exact h2 i j (by omega) (by omega) e
theorem RELY.knR (h : RELY G E0 g σ z ca C Y M) {c : Nat} (hc : c < C) : kn g c ≤ nR σ := pigeon _ _ (wh g c) (fun i hi => ((h.2.2.2 c hc).1 i hi).1) (h.2.2.2 c hc).2.1
theorem RELY.knr (h : RELY G E0 g σ z ca C Y M) {c r : Nat} (hc : c < C) (hr : r < nR σ) (hn : ∀ i, i < kn g c → wh g c i ≠ r) : kn g c + 1 ≤ nR σ := by
  refine pigeon (nR σ) (kn g c + 1) (fun i => if i = kn g c then r else wh g c i) (fun i hi => ?_) (fun i j hi hj e => ?_)
  · (try dsimp only)
    split
    · exact hr
    · exact ((h.2.2.2 c hc).1 i (by omega)).1
  · (try dsimp only at e)
    split at e <;> split at e
    · omega
    · exact absurd e.symm (hn j (by omega))
    · exact absurd e (hn i (by omega))
    · exact (h.2.2.2 c hc).2.1 i j (by omega) (by omega) e
/-- rows of cards have only cards -/
def MW (σ : MS) : Prop := ∀ r, r < nR σ → CQ (nU σ) (σ.2.1 6) (kd σ r) (ln σ r) (fun i => el σ r i)
/-- the elements of a row may be copied into one of its kind -/
theorem RELY.ev (h : RELY G E0 g σ z ca C Y M) (hI : MI σ) {k n : Nat} {x : vp_A} {e : Nat → Int64} (hc : ∀ i, i < n → CE (nU σ) (nJ σ) (fun u => qU g u) (fun y => qJ g y) k x i (e i)) (hq : CQ (nU σ) (σ.2.1 6) k n e) : ∀ i, i < n → EV G M k (cv x.2 i) := fun i hi => by
  refine (hc i hi).ev (h.UH hI) h.JH (fun hk => ?_)
  rcases hq hk i hi with y | ⟨u, h1, h2, h3⟩
  · exact Or.inl y
  · refine Or.inr (fun u' e1 hu' => ?_)
    have hU := hI.U.2
    have : u' = u := lN_inj (by omega) (by omega) (e1.symm.trans h2)
    subst this
    have hun := h.un hu'
    have h3' := (hI.cN hu').1
    exact ⟨_, _, by omega, hun⟩
end F43
set_option maxHeartbeats 1000000 in
theorem c_X5_row_12 (l : Launch) (hl : l.stackTraces = false) (G : hp_G) (X : Nat → Nat) (N0 : Nat) (M : hp_h) (g : RG) (σ : MS) (z : Nat → Int32) (C9 c9 : Nat) (hC : c9 + 1 = C9) (hR : REL G (X 0) g σ z (σ.1 31) C9 M) (hI : MI σ) (hh : Nat) (hhh : M hh = some (.inr (12, [.int 1, .ref (qN g), .int 0, .int 10, .ref (qN g), .ref (qN g), .ref (qN g)]))) (ac : Nat) (x0 : Int32) (rr : Nat) (i b j n : Int32) (hr : rr < nR σ) (hac : M ac = some (.inr (3, [.int x0, .int (nI rr), .int i, .int b, .int j, .int n]))) (hk9 : 0 ≤ kd σ rr ∧ kd σ rr ≤ 10) : HM l yX5_row (ws_ yX5_row cX5_row 4 (some (.object "java/lang/Object"))) 8 200 0 0 G X N0 [.ref hh, .ref ac] M (PV (.ref (qR g rr)) M) PX0 := by
  refine HM.of hl [(0, .ref hh), (1, .ref ac)] (by decide +kernel) rfl (Nat.le_of_ble_eq_true rfl) ?_
  intro p e s m args below meth c C hname
  have hN := hR.N
  obtain ⟨mdR, hRl⟩ := hR.Rl
  obtain ⟨fR, hRs, hRf⟩ := hR.Rls
  refine V_aload_n C dX5_row_0 rfl 0 rfl ?_
  refine V_get C f_X5_3_12 hhh (v := .ref (qN g)) rfl dX5_row_1 ?_
  refine V_getN C f_X5_22_0 hN (v := .ref (qRl g)) rfl dX5_row_4 ?_
  refine V_aload_n C dX5_row_7 rfl 1 rfl ?_
  refine V_getN C f_X5_26_3 hac (v := .int (nI rr)) rfl dX5_row_8 ?_
  refine V_callV C (c_J2_get l hl G X N0 M (qRl g) (qRe g) (nR σ) (gcp g 2 0) mdR fR hRl (hRs.2.2.1 (by have := hRs.2.2.2.1; omega)) (by have := hRs.2.2.2.2; omega) hRs.2.2.2.1 rr (qR g rr) hr (hRf rr hr)) cs_X5_31_1 hRl (show CLS[1]? = some (RJ2, TJ2, 3) from rfl) rfl rfl ⟨Nat.le_of_ble_eq_true rfl, Nat.le_of_ble_eq_true rfl⟩ ⟨(by first | exact Nat.le_of_ble_eq_true rfl | omega | (dsimp only; omega) | (simp only [List.length_cons, List.length_nil]; omega)), (by first | exact Nat.le_of_ble_eq_true rfl | omega | (dsimp only; omega) | (simp only [List.length_cons, List.length_nil]; omega))⟩ (Nat.le_of_ble_eq_true rfl) dX5_row_11 (fun _ _ _ h => px0 h) ?_
  rintro _ _ ⟨rfl, rfl⟩
  refine V_st (st' := [.ref (qR g rr)]) rfl ?_
  obtain ⟨xr, hra, hrx, hrc⟩ := hR.rw hr
  obtain ⟨hkE, hkL⟩ := hI.k hr
  obtain ⟨hlE, hlL⟩ := hI.l hr
  refine V_astore_n C dX5_row_14 rfl (Nat.le_of_ble_eq_true rfl) [(0, .ref hh), (1, .ref ac), (2, .ref (qR g rr))] [1, 2, 0] rfl ?_
  refine V_aload_n C dX5_row_15 rfl 2 rfl ?_
  refine V_callSN C (c_X1_kindOf l hl G X N0 M (qR g rr) (kd σ rr) hkL xr hra) cs_X5_41 rfl rfl ⟨Nat.le_of_ble_eq_true rfl, Nat.le_of_ble_eq_true rfl⟩ ⟨(by first | exact Nat.le_of_ble_eq_true rfl | omega | (dsimp only; omega) | (simp only [List.length_cons, List.length_nil]; omega)), (by first | exact Nat.le_of_ble_eq_true rfl | omega | (dsimp only; omega) | (simp only [List.length_cons, List.length_nil]; omega))⟩ (Nat.le_of_ble_eq_true rfl) dX5_row_16 (fun _ _ _ h => px0 h) ?_
  rintro _ _ ⟨rfl, rfl⟩
  refine V_st (st' := [.int (nI (kd σ rr))]) rfl ?_
  refine V_istore_n C dX5_row_19 rfl (Nat.le_of_ble_eq_true rfl) [(0, .ref hh), (1, .ref ac), (2, .ref (qR g rr)), (3, .int (nI (kd σ rr)))] [1, 2, 3, 0] rfl ?_
  refine V_iload_n C dX5_row_20 rfl 3 rfl ?_
  refine V_pc (pc1 := 21) rfl ?_
  refine V_aload_n C dX5_row_21 rfl 0 rfl ?_
  refine V_get C f_X5_15_12 hhh (v := .int 0) rfl dX5_row_22 ?_
  refine V_icmp_lt (tgt := 36) C dX5_row_25 (by decide) (fun c_25 => ?_) (fun c_25 => ?_)
  · exact absurd ((nI_ltI (b := 0) (by omega) (by decide)).mp c_25) (by omega)
  · refine V_iload_n C dX5_row_28 rfl 3 rfl ?_
    refine V_aload_n C dX5_row_29 rfl 0 rfl ?_
    refine V_get C f_X5_19_12 hhh (v := .int 10) rfl dX5_row_30 ?_
    refine V_icmp_le (tgt := 45) C dX5_row_33 (by decide) (fun c_33 => ?_) (fun c_33 => ?_)
    · refine V_aload_n C dX5_row_45 rfl 2 rfl ?_
      refine V_st (st' := [va_rf (some (qR g rr))]) rfl ?_
      refine V_aret C (by first | exact Or.inl ⟨_, rfl⟩ | exact Or.inr ⟨_, rfl⟩) dX5_row_46 rfl ?_ (by first | exact Nat.le_of_ble_eq_true rfl | omega | (dsimp only; omega) | (simp only [List.length_cons, List.length_nil]; omega)) (by first | exact Nat.le_of_ble_eq_true rfl | omega | (dsimp only; omega) | (simp only [List.length_cons, List.length_nil]; omega))
      exact ⟨rfl, rfl⟩
    · exact absurd ((nI_ltI (a := 10) (by decide) (by omega)).mp (Int32.not_le.mp c_33)) (by omega)
set_option maxHeartbeats 1000000 in
theorem c_X5_row_14 (l : Launch) (hl : l.stackTraces = false) (G : hp_G) (X : Nat → Nat) (N0 : Nat) (M : hp_h) (g : RG) (σ : MS) (z : Nat → Int32) (C9 c9 : Nat) (hC : c9 + 1 = C9) (hR : REL G (X 0) g σ z (σ.1 31) C9 M) (hI : MI σ) (hh : Nat) (hhh : M hh = some (.inr (14, [.int 1, .ref (qN g), .int 1, .int 7, .ref (qN g), .ref (qN g), .ref (qN g)]))) (ac : Nat) (x0 : Int32) (rr : Nat) (i b j n : Int32) (hr : rr < nR σ) (hac : M ac = some (.inr (3, [.int x0, .int (nI rr), .int i, .int b, .int j, .int n]))) (hk9 : 1 ≤ kd σ rr ∧ kd σ rr ≤ 7) : HM l yX5_row (ws_ yX5_row cX5_row 4 (some (.object "java/lang/Object"))) 8 200 0 0 G X N0 [.ref hh, .ref ac] M (PV (.ref (qR g rr)) M) PX0 := by
  refine HM.of hl [(0, .ref hh), (1, .ref ac)] (by decide +kernel) rfl (Nat.le_of_ble_eq_true rfl) ?_
  intro p e s m args below meth c C hname
  have hN := hR.N
  obtain ⟨mdR, hRl⟩ := hR.Rl
  obtain ⟨fR, hRs, hRf⟩ := hR.Rls
  refine V_aload_n C dX5_row_0 rfl 0 rfl ?_
  refine V_get C f_X5_3_14 hhh (v := .ref (qN g)) rfl dX5_row_1 ?_
  refine V_getN C f_X5_22_0 hN (v := .ref (qRl g)) rfl dX5_row_4 ?_
  refine V_aload_n C dX5_row_7 rfl 1 rfl ?_
  refine V_getN C f_X5_26_3 hac (v := .int (nI rr)) rfl dX5_row_8 ?_
  refine V_callV C (c_J2_get l hl G X N0 M (qRl g) (qRe g) (nR σ) (gcp g 2 0) mdR fR hRl (hRs.2.2.1 (by have := hRs.2.2.2.1; omega)) (by have := hRs.2.2.2.2; omega) hRs.2.2.2.1 rr (qR g rr) hr (hRf rr hr)) cs_X5_31_1 hRl (show CLS[1]? = some (RJ2, TJ2, 3) from rfl) rfl rfl ⟨Nat.le_of_ble_eq_true rfl, Nat.le_of_ble_eq_true rfl⟩ ⟨(by first | exact Nat.le_of_ble_eq_true rfl | omega | (dsimp only; omega) | (simp only [List.length_cons, List.length_nil]; omega)), (by first | exact Nat.le_of_ble_eq_true rfl | omega | (dsimp only; omega) | (simp only [List.length_cons, List.length_nil]; omega))⟩ (Nat.le_of_ble_eq_true rfl) dX5_row_11 (fun _ _ _ h => px0 h) ?_
  rintro _ _ ⟨rfl, rfl⟩
  refine V_st (st' := [.ref (qR g rr)]) rfl ?_
  obtain ⟨xr, hra, hrx, hrc⟩ := hR.rw hr
  obtain ⟨hkE, hkL⟩ := hI.k hr
  obtain ⟨hlE, hlL⟩ := hI.l hr
  refine V_astore_n C dX5_row_14 rfl (Nat.le_of_ble_eq_true rfl) [(0, .ref hh), (1, .ref ac), (2, .ref (qR g rr))] [1, 2, 0] rfl ?_
  refine V_aload_n C dX5_row_15 rfl 2 rfl ?_
  refine V_callSN C (c_X1_kindOf l hl G X N0 M (qR g rr) (kd σ rr) hkL xr hra) cs_X5_41 rfl rfl ⟨Nat.le_of_ble_eq_true rfl, Nat.le_of_ble_eq_true rfl⟩ ⟨(by first | exact Nat.le_of_ble_eq_true rfl | omega | (dsimp only; omega) | (simp only [List.length_cons, List.length_nil]; omega)), (by first | exact Nat.le_of_ble_eq_true rfl | omega | (dsimp only; omega) | (simp only [List.length_cons, List.length_nil]; omega))⟩ (Nat.le_of_ble_eq_true rfl) dX5_row_16 (fun _ _ _ h => px0 h) ?_
  rintro _ _ ⟨rfl, rfl⟩
  refine V_st (st' := [.int (nI (kd σ rr))]) rfl ?_
  refine V_istore_n C dX5_row_19 rfl (Nat.le_of_ble_eq_true rfl) [(0, .ref hh), (1, .ref ac), (2, .ref (qR g rr)), (3, .int (nI (kd σ rr)))] [1, 2, 3, 0] rfl ?_
  refine V_iload_n C dX5_row_20 rfl 3 rfl ?_
  refine V_pc (pc1 := 21) rfl ?_
  refine V_aload_n C dX5_row_21 rfl 0 rfl ?_
  refine V_get C f_X5_15_14 hhh (v := .int 1) rfl dX5_row_22 ?_
  refine V_icmp_lt (tgt := 36) C dX5_row_25 (by decide) (fun c_25 => ?_) (fun c_25 => ?_)
  · exact absurd ((nI_ltI (b := 1) (by omega) (by decide)).mp c_25) (by omega)
  · refine V_iload_n C dX5_row_28 rfl 3 rfl ?_
    refine V_aload_n C dX5_row_29 rfl 0 rfl ?_
    refine V_get C f_X5_19_14 hhh (v := .int 7) rfl dX5_row_30 ?_
    refine V_icmp_le (tgt := 45) C dX5_row_33 (by decide) (fun c_33 => ?_) (fun c_33 => ?_)
    · refine V_aload_n C dX5_row_45 rfl 2 rfl ?_
      refine V_st (st' := [va_rf (some (qR g rr))]) rfl ?_
      refine V_aret C (by first | exact Or.inl ⟨_, rfl⟩ | exact Or.inr ⟨_, rfl⟩) dX5_row_46 rfl ?_ (by first | exact Nat.le_of_ble_eq_true rfl | omega | (dsimp only; omega) | (simp only [List.length_cons, List.length_nil]; omega)) (by first | exact Nat.le_of_ble_eq_true rfl | omega | (dsimp only; omega) | (simp only [List.length_cons, List.length_nil]; omega))
      exact ⟨rfl, rfl⟩
    · exact absurd ((nI_ltI (a := 7) (by decide) (by omega)).mp (Int32.not_le.mp c_33)) (by omega)
set_option maxHeartbeats 1000000 in
theorem c_X5_row_x14 (l : Launch) (hl : l.stackTraces = false) (G : hp_G) (X : Nat → Nat) (N0 : Nat) (M : hp_h) (g : RG) (σ : MS) (z : Nat → Int32) (C9 c9 : Nat) (hC : c9 + 1 = C9) (hR : REL G (X 0) g σ z (σ.1 31) C9 M) (hI : MI σ) (hh : Nat) (hhh : M hh = some (.inr (14, [.int 1, .ref (qN g), .int 1, .int 7, .ref (qN g), .ref (qN g), .ref (qN g)]))) (ac : Nat) (x0 : Int32) (rr : Nat) (i b j n : Int32) (hr : rr < nR σ) (hac : M ac = some (.inr (3, [.int x0, .int (nI rr), .int i, .int b, .int j, .int n]))) (hk9 : ¬ (1 ≤ kd σ rr ∧ kd σ rr ≤ 7)) : HM l yX5_row (ws_ yX5_row cX5_row 4 (some (.object "java/lang/Object"))) 8 200 1 7 G X N0 [.ref hh, .ref ac] M PFF (FLX G (X 0) g σ z C9 M σ 4) := by
  refine HM.of hl [(0, .ref hh), (1, .ref ac)] (by decide +kernel) rfl (Nat.le_of_ble_eq_true rfl) ?_
  intro p e s m args below meth c C hname
  have hN := hR.N
  obtain ⟨mdR, hRl⟩ := hR.Rl
  obtain ⟨fR, hRs, hRf⟩ := hR.Rls
  refine V_aload_n C dX5_row_0 rfl 0 rfl ?_
  refine V_get C f_X5_3_14 hhh (v := .ref (qN g)) rfl dX5_row_1 ?_
  refine V_getN C f_X5_22_0 hN (v := .ref (qRl g)) rfl dX5_row_4 ?_
  refine V_aload_n C dX5_row_7 rfl 1 rfl ?_
  refine V_getN C f_X5_26_3 hac (v := .int (nI rr)) rfl dX5_row_8 ?_
  refine V_callV C (c_J2_get l hl G X N0 M (qRl g) (qRe g) (nR σ) (gcp g 2 0) mdR fR hRl (hRs.2.2.1 (by have := hRs.2.2.2.1; omega)) (by have := hRs.2.2.2.2; omega) hRs.2.2.2.1 rr (qR g rr) hr (hRf rr hr)) cs_X5_31_1 hRl (show CLS[1]? = some (RJ2, TJ2, 3) from rfl) rfl rfl ⟨Nat.le_of_ble_eq_true rfl, Nat.le_of_ble_eq_true rfl⟩ ⟨(by first | exact Nat.le_of_ble_eq_true rfl | omega | (dsimp only; omega) | (simp only [List.length_cons, List.length_nil]; omega)), (by first | exact Nat.le_of_ble_eq_true rfl | omega | (dsimp only; omega) | (simp only [List.length_cons, List.length_nil]; omega))⟩ (Nat.le_of_ble_eq_true rfl) dX5_row_11 (fun _ _ _ h => px0 h) ?_
  rintro _ _ ⟨rfl, rfl⟩
  refine V_st (st' := [.ref (qR g rr)]) rfl ?_
  obtain ⟨xr, hra, hrx, hrc⟩ := hR.rw hr
  obtain ⟨hkE, hkL⟩ := hI.k hr
  obtain ⟨hlE, hlL⟩ := hI.l hr
  refine V_astore_n C dX5_row_14 rfl (Nat.le_of_ble_eq_true rfl) [(0, .ref hh), (1, .ref ac), (2, .ref (qR g rr))] [1, 2, 0] rfl ?_
  refine V_aload_n C dX5_row_15 rfl 2 rfl ?_
  refine V_callSN C (c_X1_kindOf l hl G X N0 M (qR g rr) (kd σ rr) hkL xr hra) cs_X5_41 rfl rfl ⟨Nat.le_of_ble_eq_true rfl, Nat.le_of_ble_eq_true rfl⟩ ⟨(by first | exact Nat.le_of_ble_eq_true rfl | omega | (dsimp only; omega) | (simp only [List.length_cons, List.length_nil]; omega)), (by first | exact Nat.le_of_ble_eq_true rfl | omega | (dsimp only; omega) | (simp only [List.length_cons, List.length_nil]; omega))⟩ (Nat.le_of_ble_eq_true rfl) dX5_row_16 (fun _ _ _ h => px0 h) ?_
  rintro _ _ ⟨rfl, rfl⟩
  refine V_st (st' := [.int (nI (kd σ rr))]) rfl ?_
  refine V_istore_n C dX5_row_19 rfl (Nat.le_of_ble_eq_true rfl) [(0, .ref hh), (1, .ref ac), (2, .ref (qR g rr)), (3, .int (nI (kd σ rr)))] [1, 2, 3, 0] rfl ?_
  refine V_iload_n C dX5_row_20 rfl 3 rfl ?_
  refine V_pc (pc1 := 21) rfl ?_
  refine V_aload_n C dX5_row_21 rfl 0 rfl ?_
  refine V_get C f_X5_15_14 hhh (v := .int 1) rfl dX5_row_22 ?_
  refine V_icmp_lt (tgt := 36) C dX5_row_25 (by decide) (fun c_25 => ?_) (fun c_25 => ?_)
  · refine V_aload_n C dX5_row_36 rfl 0 rfl ?_
    refine V_get C f_X5_3_14 hhh (v := .ref (qN g)) rfl dX5_row_37 ?_
    refine V_iconst (v := 4) C dX5_row_40 rfl ?_
    refine V_callVN C (c_X1_fail l hl G X N0 M (qN g) (qRl g) (qUl g) (qPl g) (qHs g) (qAn g) (σ.1 20) (σ.1 14) (σ.1 11) (σ.1 12) (σ.1 15) (z 0) (z 1) (z 2) (z 3) (z 4) (z 5) (σ.1 31) 4 hN) cs_X5_44_0 hN (show CLS[0]? = some (RX1, TX1, 17) from rfl) rfl rfl ⟨Nat.le_of_ble_eq_true rfl, Nat.le_of_ble_eq_true rfl⟩ ⟨(by first | exact Nat.le_of_ble_eq_true rfl | omega | (dsimp only; omega) | (simp only [List.length_cons, List.length_nil]; omega)), (by first | exact Nat.le_of_ble_eq_true rfl | omega | (dsimp only; omega) | (simp only [List.length_cons, List.length_nil]; omega))⟩ (Nat.le_of_ble_eq_true rfl) dX5_row_41 (fun _ _ _ h => px0 h) ?_
    rintro _ M_3 ⟨q_1, rfl, hq_2, hN_4, hF_5, fr_6, sh_7⟩
    refine V_st (st' := [.ref q_1]) rfl ?_
    refine V_athrow C hF_5 (show CLS[8]? = some (RX26, TX26, 7) from rfl) dX5_row_44 ?_
    exact VX_out C (fun z hz => by cases hz) (FLX.of hR hq_2 hN_4 hF_5 fr_6 sh_7) (by first | exact Nat.le_of_ble_eq_true rfl | omega | (dsimp only; omega) | (simp only [List.length_cons, List.length_nil]; omega)) (by first | exact Nat.le_of_ble_eq_true rfl | omega | (dsimp only; omega) | (simp only [List.length_cons, List.length_nil]; omega))
  · refine V_iload_n C dX5_row_28 rfl 3 rfl ?_
    refine V_aload_n C dX5_row_29 rfl 0 rfl ?_
    refine V_get C f_X5_19_14 hhh (v := .int 7) rfl dX5_row_30 ?_
    refine V_icmp_le (tgt := 45) C dX5_row_33 (by decide) (fun c_33 => ?_) (fun c_33 => ?_)
    · refine absurd (hk9 : ¬ (1 ≤ kd σ rr ∧ kd σ rr ≤ 7)) (not_not_intro ⟨?_, (nI_leI (b := 7) (by omega) (by decide)).mp c_33⟩); exact Nat.not_lt.mp (fun y => c_25 ((nI_ltI (b := 1) (by omega) (by decide)).mpr y))
    · refine V_aload_n C dX5_row_36 rfl 0 rfl ?_
      refine V_get C f_X5_3_14 hhh (v := .ref (qN g)) rfl dX5_row_37 ?_
      refine V_iconst (v := 4) C dX5_row_40 rfl ?_
      refine V_callVN C (c_X1_fail l hl G X N0 M (qN g) (qRl g) (qUl g) (qPl g) (qHs g) (qAn g) (σ.1 20) (σ.1 14) (σ.1 11) (σ.1 12) (σ.1 15) (z 0) (z 1) (z 2) (z 3) (z 4) (z 5) (σ.1 31) 4 hN) cs_X5_44_0 hN (show CLS[0]? = some (RX1, TX1, 17) from rfl) rfl rfl ⟨Nat.le_of_ble_eq_true rfl, Nat.le_of_ble_eq_true rfl⟩ ⟨(by first | exact Nat.le_of_ble_eq_true rfl | omega | (dsimp only; omega) | (simp only [List.length_cons, List.length_nil]; omega)), (by first | exact Nat.le_of_ble_eq_true rfl | omega | (dsimp only; omega) | (simp only [List.length_cons, List.length_nil]; omega))⟩ (Nat.le_of_ble_eq_true rfl) dX5_row_41 (fun _ _ _ h => px0 h) ?_
      rintro _ M_10 ⟨q_8, rfl, hq_9, hN_11, hF_12, fr_13, sh_14⟩
      refine V_st (st' := [.ref q_8]) rfl ?_
      refine V_athrow C hF_12 (show CLS[8]? = some (RX26, TX26, 7) from rfl) dX5_row_44 ?_
      exact VX_out C (fun z hz => by cases hz) (FLX.of hR hq_9 hN_11 hF_12 fr_13 sh_14) (by first | exact Nat.le_of_ble_eq_true rfl | omega | (dsimp only; omega) | (simp only [List.length_cons, List.length_nil]; omega)) (by first | exact Nat.le_of_ble_eq_true rfl | omega | (dsimp only; omega) | (simp only [List.length_cons, List.length_nil]; omega))
set_option maxHeartbeats 1000000 in
theorem c_X5_row_15 (l : Launch) (hl : l.stackTraces = false) (G : hp_G) (X : Nat → Nat) (N0 : Nat) (M : hp_h) (g : RG) (σ : MS) (z : Nat → Int32) (C9 c9 : Nat) (hC : c9 + 1 = C9) (hR : REL G (X 0) g σ z (σ.1 31) C9 M) (hI : MI σ) (hh : Nat) (hhh : M hh = some (.inr (15, [.int 1, .ref (qN g), .int 0, .int 10, .ref (qN g), .ref (qN g)]))) (ac : Nat) (x0 : Int32) (rr : Nat) (i b j n : Int32) (hr : rr < nR σ) (hac : M ac = some (.inr (3, [.int x0, .int (nI rr), .int i, .int b, .int j, .int n]))) (hk9 : 0 ≤ kd σ rr ∧ kd σ rr ≤ 10) : HM l yX5_row (ws_ yX5_row cX5_row 4 (some (.object "java/lang/Object"))) 8 200 0 0 G X N0 [.ref hh, .ref ac] M (PV (.ref (qR g rr)) M) PX0 := by
  refine HM.of hl [(0, .ref hh), (1, .ref ac)] (by decide +kernel) rfl (Nat.le_of_ble_eq_true rfl) ?_
  intro p e s m args below meth c C hname
  have hN := hR.N
  obtain ⟨mdR, hRl⟩ := hR.Rl
  obtain ⟨fR, hRs, hRf⟩ := hR.Rls
  refine V_aload_n C dX5_row_0 rfl 0 rfl ?_
  refine V_get C f_X5_3_15 hhh (v := .ref (qN g)) rfl dX5_row_1 ?_
  refine V_getN C f_X5_22_0 hN (v := .ref (qRl g)) rfl dX5_row_4 ?_
  refine V_aload_n C dX5_row_7 rfl 1 rfl ?_
  refine V_getN C f_X5_26_3 hac (v := .int (nI rr)) rfl dX5_row_8 ?_
  refine V_callV C (c_J2_get l hl G X N0 M (qRl g) (qRe g) (nR σ) (gcp g 2 0) mdR fR hRl (hRs.2.2.1 (by have := hRs.2.2.2.1; omega)) (by have := hRs.2.2.2.2; omega) hRs.2.2.2.1 rr (qR g rr) hr (hRf rr hr)) cs_X5_31_1 hRl (show CLS[1]? = some (RJ2, TJ2, 3) from rfl) rfl rfl ⟨Nat.le_of_ble_eq_true rfl, Nat.le_of_ble_eq_true rfl⟩ ⟨(by first | exact Nat.le_of_ble_eq_true rfl | omega | (dsimp only; omega) | (simp only [List.length_cons, List.length_nil]; omega)), (by first | exact Nat.le_of_ble_eq_true rfl | omega | (dsimp only; omega) | (simp only [List.length_cons, List.length_nil]; omega))⟩ (Nat.le_of_ble_eq_true rfl) dX5_row_11 (fun _ _ _ h => px0 h) ?_
  rintro _ _ ⟨rfl, rfl⟩
  refine V_st (st' := [.ref (qR g rr)]) rfl ?_
  obtain ⟨xr, hra, hrx, hrc⟩ := hR.rw hr
  obtain ⟨hkE, hkL⟩ := hI.k hr
  obtain ⟨hlE, hlL⟩ := hI.l hr
  refine V_astore_n C dX5_row_14 rfl (Nat.le_of_ble_eq_true rfl) [(0, .ref hh), (1, .ref ac), (2, .ref (qR g rr))] [1, 2, 0] rfl ?_
  refine V_aload_n C dX5_row_15 rfl 2 rfl ?_
  refine V_callSN C (c_X1_kindOf l hl G X N0 M (qR g rr) (kd σ rr) hkL xr hra) cs_X5_41 rfl rfl ⟨Nat.le_of_ble_eq_true rfl, Nat.le_of_ble_eq_true rfl⟩ ⟨(by first | exact Nat.le_of_ble_eq_true rfl | omega | (dsimp only; omega) | (simp only [List.length_cons, List.length_nil]; omega)), (by first | exact Nat.le_of_ble_eq_true rfl | omega | (dsimp only; omega) | (simp only [List.length_cons, List.length_nil]; omega))⟩ (Nat.le_of_ble_eq_true rfl) dX5_row_16 (fun _ _ _ h => px0 h) ?_
  rintro _ _ ⟨rfl, rfl⟩
  refine V_st (st' := [.int (nI (kd σ rr))]) rfl ?_
  refine V_istore_n C dX5_row_19 rfl (Nat.le_of_ble_eq_true rfl) [(0, .ref hh), (1, .ref ac), (2, .ref (qR g rr)), (3, .int (nI (kd σ rr)))] [1, 2, 3, 0] rfl ?_
  refine V_iload_n C dX5_row_20 rfl 3 rfl ?_
  refine V_pc (pc1 := 21) rfl ?_
  refine V_aload_n C dX5_row_21 rfl 0 rfl ?_
  refine V_get C f_X5_15_15 hhh (v := .int 0) rfl dX5_row_22 ?_
  refine V_icmp_lt (tgt := 36) C dX5_row_25 (by decide) (fun c_25 => ?_) (fun c_25 => ?_)
  · exact absurd ((nI_ltI (b := 0) (by omega) (by decide)).mp c_25) (by omega)
  · refine V_iload_n C dX5_row_28 rfl 3 rfl ?_
    refine V_aload_n C dX5_row_29 rfl 0 rfl ?_
    refine V_get C f_X5_19_15 hhh (v := .int 10) rfl dX5_row_30 ?_
    refine V_icmp_le (tgt := 45) C dX5_row_33 (by decide) (fun c_33 => ?_) (fun c_33 => ?_)
    · refine V_aload_n C dX5_row_45 rfl 2 rfl ?_
      refine V_st (st' := [va_rf (some (qR g rr))]) rfl ?_
      refine V_aret C (by first | exact Or.inl ⟨_, rfl⟩ | exact Or.inr ⟨_, rfl⟩) dX5_row_46 rfl ?_ (by first | exact Nat.le_of_ble_eq_true rfl | omega | (dsimp only; omega) | (simp only [List.length_cons, List.length_nil]; omega)) (by first | exact Nat.le_of_ble_eq_true rfl | omega | (dsimp only; omega) | (simp only [List.length_cons, List.length_nil]; omega))
      exact ⟨rfl, rfl⟩
    · exact absurd ((nI_ltI (a := 10) (by decide) (by omega)).mp (Int32.not_le.mp c_33)) (by omega)
set_option maxHeartbeats 1000000 in
theorem c_X5_row_16 (l : Launch) (hl : l.stackTraces = false) (G : hp_G) (X : Nat → Nat) (N0 : Nat) (M : hp_h) (g : RG) (σ : MS) (z : Nat → Int32) (C9 c9 : Nat) (hC : c9 + 1 = C9) (hR : REL G (X 0) g σ z (σ.1 31) C9 M) (hI : MI σ) (hh : Nat) (hhh : M hh = some (.inr (16, [.int 1, .ref (qN g), .int 1, .int 7, .ref (qN g), .ref (qN g)]))) (ac : Nat) (x0 : Int32) (rr : Nat) (i b j n : Int32) (hr : rr < nR σ) (hac : M ac = some (.inr (3, [.int x0, .int (nI rr), .int i, .int b, .int j, .int n]))) (hk9 : 1 ≤ kd σ rr ∧ kd σ rr ≤ 7) : HM l yX5_row (ws_ yX5_row cX5_row 4 (some (.object "java/lang/Object"))) 8 200 0 0 G X N0 [.ref hh, .ref ac] M (PV (.ref (qR g rr)) M) PX0 := by
  refine HM.of hl [(0, .ref hh), (1, .ref ac)] (by decide +kernel) rfl (Nat.le_of_ble_eq_true rfl) ?_
  intro p e s m args below meth c C hname
  have hN := hR.N
  obtain ⟨mdR, hRl⟩ := hR.Rl
  obtain ⟨fR, hRs, hRf⟩ := hR.Rls
  refine V_aload_n C dX5_row_0 rfl 0 rfl ?_
  refine V_get C f_X5_3_16 hhh (v := .ref (qN g)) rfl dX5_row_1 ?_
  refine V_getN C f_X5_22_0 hN (v := .ref (qRl g)) rfl dX5_row_4 ?_
  refine V_aload_n C dX5_row_7 rfl 1 rfl ?_
  refine V_getN C f_X5_26_3 hac (v := .int (nI rr)) rfl dX5_row_8 ?_
  refine V_callV C (c_J2_get l hl G X N0 M (qRl g) (qRe g) (nR σ) (gcp g 2 0) mdR fR hRl (hRs.2.2.1 (by have := hRs.2.2.2.1; omega)) (by have := hRs.2.2.2.2; omega) hRs.2.2.2.1 rr (qR g rr) hr (hRf rr hr)) cs_X5_31_1 hRl (show CLS[1]? = some (RJ2, TJ2, 3) from rfl) rfl rfl ⟨Nat.le_of_ble_eq_true rfl, Nat.le_of_ble_eq_true rfl⟩ ⟨(by first | exact Nat.le_of_ble_eq_true rfl | omega | (dsimp only; omega) | (simp only [List.length_cons, List.length_nil]; omega)), (by first | exact Nat.le_of_ble_eq_true rfl | omega | (dsimp only; omega) | (simp only [List.length_cons, List.length_nil]; omega))⟩ (Nat.le_of_ble_eq_true rfl) dX5_row_11 (fun _ _ _ h => px0 h) ?_
  rintro _ _ ⟨rfl, rfl⟩
  refine V_st (st' := [.ref (qR g rr)]) rfl ?_
  obtain ⟨xr, hra, hrx, hrc⟩ := hR.rw hr
  obtain ⟨hkE, hkL⟩ := hI.k hr
  obtain ⟨hlE, hlL⟩ := hI.l hr
  refine V_astore_n C dX5_row_14 rfl (Nat.le_of_ble_eq_true rfl) [(0, .ref hh), (1, .ref ac), (2, .ref (qR g rr))] [1, 2, 0] rfl ?_
  refine V_aload_n C dX5_row_15 rfl 2 rfl ?_
  refine V_callSN C (c_X1_kindOf l hl G X N0 M (qR g rr) (kd σ rr) hkL xr hra) cs_X5_41 rfl rfl ⟨Nat.le_of_ble_eq_true rfl, Nat.le_of_ble_eq_true rfl⟩ ⟨(by first | exact Nat.le_of_ble_eq_true rfl | omega | (dsimp only; omega) | (simp only [List.length_cons, List.length_nil]; omega)), (by first | exact Nat.le_of_ble_eq_true rfl | omega | (dsimp only; omega) | (simp only [List.length_cons, List.length_nil]; omega))⟩ (Nat.le_of_ble_eq_true rfl) dX5_row_16 (fun _ _ _ h => px0 h) ?_
  rintro _ _ ⟨rfl, rfl⟩
  refine V_st (st' := [.int (nI (kd σ rr))]) rfl ?_
  refine V_istore_n C dX5_row_19 rfl (Nat.le_of_ble_eq_true rfl) [(0, .ref hh), (1, .ref ac), (2, .ref (qR g rr)), (3, .int (nI (kd σ rr)))] [1, 2, 3, 0] rfl ?_
  refine V_iload_n C dX5_row_20 rfl 3 rfl ?_
  refine V_pc (pc1 := 21) rfl ?_
  refine V_aload_n C dX5_row_21 rfl 0 rfl ?_
  refine V_get C f_X5_15_16 hhh (v := .int 1) rfl dX5_row_22 ?_
  refine V_icmp_lt (tgt := 36) C dX5_row_25 (by decide) (fun c_25 => ?_) (fun c_25 => ?_)
  · exact absurd ((nI_ltI (b := 1) (by omega) (by decide)).mp c_25) (by omega)
  · refine V_iload_n C dX5_row_28 rfl 3 rfl ?_
    refine V_aload_n C dX5_row_29 rfl 0 rfl ?_
    refine V_get C f_X5_19_16 hhh (v := .int 7) rfl dX5_row_30 ?_
    refine V_icmp_le (tgt := 45) C dX5_row_33 (by decide) (fun c_33 => ?_) (fun c_33 => ?_)
    · refine V_aload_n C dX5_row_45 rfl 2 rfl ?_
      refine V_st (st' := [va_rf (some (qR g rr))]) rfl ?_
      refine V_aret C (by first | exact Or.inl ⟨_, rfl⟩ | exact Or.inr ⟨_, rfl⟩) dX5_row_46 rfl ?_ (by first | exact Nat.le_of_ble_eq_true rfl | omega | (dsimp only; omega) | (simp only [List.length_cons, List.length_nil]; omega)) (by first | exact Nat.le_of_ble_eq_true rfl | omega | (dsimp only; omega) | (simp only [List.length_cons, List.length_nil]; omega))
      exact ⟨rfl, rfl⟩
    · exact absurd ((nI_ltI (a := 7) (by decide) (by omega)).mp (Int32.not_le.mp c_33)) (by omega)
set_option maxHeartbeats 1000000 in
theorem c_X5_row_x16 (l : Launch) (hl : l.stackTraces = false) (G : hp_G) (X : Nat → Nat) (N0 : Nat) (M : hp_h) (g : RG) (σ : MS) (z : Nat → Int32) (C9 c9 : Nat) (hC : c9 + 1 = C9) (hR : REL G (X 0) g σ z (σ.1 31) C9 M) (hI : MI σ) (hh : Nat) (hhh : M hh = some (.inr (16, [.int 1, .ref (qN g), .int 1, .int 7, .ref (qN g), .ref (qN g)]))) (ac : Nat) (x0 : Int32) (rr : Nat) (i b j n : Int32) (hr : rr < nR σ) (hac : M ac = some (.inr (3, [.int x0, .int (nI rr), .int i, .int b, .int j, .int n]))) (hk9 : ¬ (1 ≤ kd σ rr ∧ kd σ rr ≤ 7)) : HM l yX5_row (ws_ yX5_row cX5_row 4 (some (.object "java/lang/Object"))) 8 200 1 7 G X N0 [.ref hh, .ref ac] M PFF (FLX G (X 0) g σ z C9 M σ 4) := by
  refine HM.of hl [(0, .ref hh), (1, .ref ac)] (by decide +kernel) rfl (Nat.le_of_ble_eq_true rfl) ?_
  intro p e s m args below meth c C hname
  have hN := hR.N
  obtain ⟨mdR, hRl⟩ := hR.Rl
  obtain ⟨fR, hRs, hRf⟩ := hR.Rls
  refine V_aload_n C dX5_row_0 rfl 0 rfl ?_
  refine V_get C f_X5_3_16 hhh (v := .ref (qN g)) rfl dX5_row_1 ?_
  refine V_getN C f_X5_22_0 hN (v := .ref (qRl g)) rfl dX5_row_4 ?_
  refine V_aload_n C dX5_row_7 rfl 1 rfl ?_
  refine V_getN C f_X5_26_3 hac (v := .int (nI rr)) rfl dX5_row_8 ?_
  refine V_callV C (c_J2_get l hl G X N0 M (qRl g) (qRe g) (nR σ) (gcp g 2 0) mdR fR hRl (hRs.2.2.1 (by have := hRs.2.2.2.1; omega)) (by have := hRs.2.2.2.2; omega) hRs.2.2.2.1 rr (qR g rr) hr (hRf rr hr)) cs_X5_31_1 hRl (show CLS[1]? = some (RJ2, TJ2, 3) from rfl) rfl rfl ⟨Nat.le_of_ble_eq_true rfl, Nat.le_of_ble_eq_true rfl⟩ ⟨(by first | exact Nat.le_of_ble_eq_true rfl | omega | (dsimp only; omega) | (simp only [List.length_cons, List.length_nil]; omega)), (by first | exact Nat.le_of_ble_eq_true rfl | omega | (dsimp only; omega) | (simp only [List.length_cons, List.length_nil]; omega))⟩ (Nat.le_of_ble_eq_true rfl) dX5_row_11 (fun _ _ _ h => px0 h) ?_
  rintro _ _ ⟨rfl, rfl⟩
  refine V_st (st' := [.ref (qR g rr)]) rfl ?_
  obtain ⟨xr, hra, hrx, hrc⟩ := hR.rw hr
  obtain ⟨hkE, hkL⟩ := hI.k hr
  obtain ⟨hlE, hlL⟩ := hI.l hr
  refine V_astore_n C dX5_row_14 rfl (Nat.le_of_ble_eq_true rfl) [(0, .ref hh), (1, .ref ac), (2, .ref (qR g rr))] [1, 2, 0] rfl ?_
  refine V_aload_n C dX5_row_15 rfl 2 rfl ?_
  refine V_callSN C (c_X1_kindOf l hl G X N0 M (qR g rr) (kd σ rr) hkL xr hra) cs_X5_41 rfl rfl ⟨Nat.le_of_ble_eq_true rfl, Nat.le_of_ble_eq_true rfl⟩ ⟨(by first | exact Nat.le_of_ble_eq_true rfl | omega | (dsimp only; omega) | (simp only [List.length_cons, List.length_nil]; omega)), (by first | exact Nat.le_of_ble_eq_true rfl | omega | (dsimp only; omega) | (simp only [List.length_cons, List.length_nil]; omega))⟩ (Nat.le_of_ble_eq_true rfl) dX5_row_16 (fun _ _ _ h => px0 h) ?_
  rintro _ _ ⟨rfl, rfl⟩
  refine V_st (st' := [.int (nI (kd σ rr))]) rfl ?_
  refine V_istore_n C dX5_row_19 rfl (Nat.le_of_ble_eq_true rfl) [(0, .ref hh), (1, .ref ac), (2, .ref (qR g rr)), (3, .int (nI (kd σ rr)))] [1, 2, 3, 0] rfl ?_
  refine V_iload_n C dX5_row_20 rfl 3 rfl ?_
  refine V_pc (pc1 := 21) rfl ?_
  refine V_aload_n C dX5_row_21 rfl 0 rfl ?_
  refine V_get C f_X5_15_16 hhh (v := .int 1) rfl dX5_row_22 ?_
  refine V_icmp_lt (tgt := 36) C dX5_row_25 (by decide) (fun c_25 => ?_) (fun c_25 => ?_)
  · refine V_aload_n C dX5_row_36 rfl 0 rfl ?_
    refine V_get C f_X5_3_16 hhh (v := .ref (qN g)) rfl dX5_row_37 ?_
    refine V_iconst (v := 4) C dX5_row_40 rfl ?_
    refine V_callVN C (c_X1_fail l hl G X N0 M (qN g) (qRl g) (qUl g) (qPl g) (qHs g) (qAn g) (σ.1 20) (σ.1 14) (σ.1 11) (σ.1 12) (σ.1 15) (z 0) (z 1) (z 2) (z 3) (z 4) (z 5) (σ.1 31) 4 hN) cs_X5_44_0 hN (show CLS[0]? = some (RX1, TX1, 17) from rfl) rfl rfl ⟨Nat.le_of_ble_eq_true rfl, Nat.le_of_ble_eq_true rfl⟩ ⟨(by first | exact Nat.le_of_ble_eq_true rfl | omega | (dsimp only; omega) | (simp only [List.length_cons, List.length_nil]; omega)), (by first | exact Nat.le_of_ble_eq_true rfl | omega | (dsimp only; omega) | (simp only [List.length_cons, List.length_nil]; omega))⟩ (Nat.le_of_ble_eq_true rfl) dX5_row_41 (fun _ _ _ h => px0 h) ?_
    rintro _ M_3 ⟨q_1, rfl, hq_2, hN_4, hF_5, fr_6, sh_7⟩
    refine V_st (st' := [.ref q_1]) rfl ?_
    refine V_athrow C hF_5 (show CLS[8]? = some (RX26, TX26, 7) from rfl) dX5_row_44 ?_
    exact VX_out C (fun z hz => by cases hz) (FLX.of hR hq_2 hN_4 hF_5 fr_6 sh_7) (by first | exact Nat.le_of_ble_eq_true rfl | omega | (dsimp only; omega) | (simp only [List.length_cons, List.length_nil]; omega)) (by first | exact Nat.le_of_ble_eq_true rfl | omega | (dsimp only; omega) | (simp only [List.length_cons, List.length_nil]; omega))
  · refine V_iload_n C dX5_row_28 rfl 3 rfl ?_
    refine V_aload_n C dX5_row_29 rfl 0 rfl ?_
    refine V_get C f_X5_19_16 hhh (v := .int 7) rfl dX5_row_30 ?_
    refine V_icmp_le (tgt := 45) C dX5_row_33 (by decide) (fun c_33 => ?_) (fun c_33 => ?_)
    · refine absurd (hk9 : ¬ (1 ≤ kd σ rr ∧ kd σ rr ≤ 7)) (not_not_intro ⟨?_, (nI_leI (b := 7) (by omega) (by decide)).mp c_33⟩); exact Nat.not_lt.mp (fun y => c_25 ((nI_ltI (b := 1) (by omega) (by decide)).mpr y))
    · refine V_aload_n C dX5_row_36 rfl 0 rfl ?_
      refine V_get C f_X5_3_16 hhh (v := .ref (qN g)) rfl dX5_row_37 ?_
      refine V_iconst (v := 4) C dX5_row_40 rfl ?_
      refine V_callVN C (c_X1_fail l hl G X N0 M (qN g) (qRl g) (qUl g) (qPl g) (qHs g) (qAn g) (σ.1 20) (σ.1 14) (σ.1 11) (σ.1 12) (σ.1 15) (z 0) (z 1) (z 2) (z 3) (z 4) (z 5) (σ.1 31) 4 hN) cs_X5_44_0 hN (show CLS[0]? = some (RX1, TX1, 17) from rfl) rfl rfl ⟨Nat.le_of_ble_eq_true rfl, Nat.le_of_ble_eq_true rfl⟩ ⟨(by first | exact Nat.le_of_ble_eq_true rfl | omega | (dsimp only; omega) | (simp only [List.length_cons, List.length_nil]; omega)), (by first | exact Nat.le_of_ble_eq_true rfl | omega | (dsimp only; omega) | (simp only [List.length_cons, List.length_nil]; omega))⟩ (Nat.le_of_ble_eq_true rfl) dX5_row_41 (fun _ _ _ h => px0 h) ?_
      rintro _ M_10 ⟨q_8, rfl, hq_9, hN_11, hF_12, fr_13, sh_14⟩
      refine V_st (st' := [.ref q_8]) rfl ?_
      refine V_athrow C hF_12 (show CLS[8]? = some (RX26, TX26, 7) from rfl) dX5_row_44 ?_
      exact VX_out C (fun z hz => by cases hz) (FLX.of hR hq_9 hN_11 hF_12 fr_13 sh_14) (by first | exact Nat.le_of_ble_eq_true rfl | omega | (dsimp only; omega) | (simp only [List.length_cons, List.length_nil]; omega)) (by first | exact Nat.le_of_ble_eq_true rfl | omega | (dsimp only; omega) | (simp only [List.length_cons, List.length_nil]; omega))
set_option maxHeartbeats 1000000 in
theorem c_X5_row_17 (l : Launch) (hl : l.stackTraces = false) (G : hp_G) (X : Nat → Nat) (N0 : Nat) (M : hp_h) (g : RG) (σ : MS) (z : Nat → Int32) (C9 c9 : Nat) (hC : c9 + 1 = C9) (hR : REL G (X 0) g σ z (σ.1 31) C9 M) (hI : MI σ) (hh : Nat) (hhh : M hh = some (.inr (17, [.int 1, .ref (qN g), .int 0, .int 10, .ref (qN g), .ref (qN g), .ref (qN g)]))) (ac : Nat) (x0 : Int32) (rr : Nat) (i b j n : Int32) (hr : rr < nR σ) (hac : M ac = some (.inr (3, [.int x0, .int (nI rr), .int i, .int b, .int j, .int n]))) (hk9 : 0 ≤ kd σ rr ∧ kd σ rr ≤ 10) : HM l yX5_row (ws_ yX5_row cX5_row 4 (some (.object "java/lang/Object"))) 8 200 0 0 G X N0 [.ref hh, .ref ac] M (PV (.ref (qR g rr)) M) PX0 := by
  refine HM.of hl [(0, .ref hh), (1, .ref ac)] (by decide +kernel) rfl (Nat.le_of_ble_eq_true rfl) ?_
  intro p e s m args below meth c C hname
  have hN := hR.N
  obtain ⟨mdR, hRl⟩ := hR.Rl
  obtain ⟨fR, hRs, hRf⟩ := hR.Rls
  refine V_aload_n C dX5_row_0 rfl 0 rfl ?_
  refine V_get C f_X5_3_17 hhh (v := .ref (qN g)) rfl dX5_row_1 ?_
  refine V_getN C f_X5_22_0 hN (v := .ref (qRl g)) rfl dX5_row_4 ?_
  refine V_aload_n C dX5_row_7 rfl 1 rfl ?_
  refine V_getN C f_X5_26_3 hac (v := .int (nI rr)) rfl dX5_row_8 ?_
  refine V_callV C (c_J2_get l hl G X N0 M (qRl g) (qRe g) (nR σ) (gcp g 2 0) mdR fR hRl (hRs.2.2.1 (by have := hRs.2.2.2.1; omega)) (by have := hRs.2.2.2.2; omega) hRs.2.2.2.1 rr (qR g rr) hr (hRf rr hr)) cs_X5_31_1 hRl (show CLS[1]? = some (RJ2, TJ2, 3) from rfl) rfl rfl ⟨Nat.le_of_ble_eq_true rfl, Nat.le_of_ble_eq_true rfl⟩ ⟨(by first | exact Nat.le_of_ble_eq_true rfl | omega | (dsimp only; omega) | (simp only [List.length_cons, List.length_nil]; omega)), (by first | exact Nat.le_of_ble_eq_true rfl | omega | (dsimp only; omega) | (simp only [List.length_cons, List.length_nil]; omega))⟩ (Nat.le_of_ble_eq_true rfl) dX5_row_11 (fun _ _ _ h => px0 h) ?_
  rintro _ _ ⟨rfl, rfl⟩
  refine V_st (st' := [.ref (qR g rr)]) rfl ?_
  obtain ⟨xr, hra, hrx, hrc⟩ := hR.rw hr
  obtain ⟨hkE, hkL⟩ := hI.k hr
  obtain ⟨hlE, hlL⟩ := hI.l hr
  refine V_astore_n C dX5_row_14 rfl (Nat.le_of_ble_eq_true rfl) [(0, .ref hh), (1, .ref ac), (2, .ref (qR g rr))] [1, 2, 0] rfl ?_
  refine V_aload_n C dX5_row_15 rfl 2 rfl ?_
  refine V_callSN C (c_X1_kindOf l hl G X N0 M (qR g rr) (kd σ rr) hkL xr hra) cs_X5_41 rfl rfl ⟨Nat.le_of_ble_eq_true rfl, Nat.le_of_ble_eq_true rfl⟩ ⟨(by first | exact Nat.le_of_ble_eq_true rfl | omega | (dsimp only; omega) | (simp only [List.length_cons, List.length_nil]; omega)), (by first | exact Nat.le_of_ble_eq_true rfl | omega | (dsimp only; omega) | (simp only [List.length_cons, List.length_nil]; omega))⟩ (Nat.le_of_ble_eq_true rfl) dX5_row_16 (fun _ _ _ h => px0 h) ?_
  rintro _ _ ⟨rfl, rfl⟩
  refine V_st (st' := [.int (nI (kd σ rr))]) rfl ?_
  refine V_istore_n C dX5_row_19 rfl (Nat.le_of_ble_eq_true rfl) [(0, .ref hh), (1, .ref ac), (2, .ref (qR g rr)), (3, .int (nI (kd σ rr)))] [1, 2, 3, 0] rfl ?_
  refine V_iload_n C dX5_row_20 rfl 3 rfl ?_
  refine V_pc (pc1 := 21) rfl ?_
  refine V_aload_n C dX5_row_21 rfl 0 rfl ?_
  refine V_get C f_X5_15_17 hhh (v := .int 0) rfl dX5_row_22 ?_
  refine V_icmp_lt (tgt := 36) C dX5_row_25 (by decide) (fun c_25 => ?_) (fun c_25 => ?_)
  · exact absurd ((nI_ltI (b := 0) (by omega) (by decide)).mp c_25) (by omega)
  · refine V_iload_n C dX5_row_28 rfl 3 rfl ?_
    refine V_aload_n C dX5_row_29 rfl 0 rfl ?_
    refine V_get C f_X5_19_17 hhh (v := .int 10) rfl dX5_row_30 ?_
    refine V_icmp_le (tgt := 45) C dX5_row_33 (by decide) (fun c_33 => ?_) (fun c_33 => ?_)
    · refine V_aload_n C dX5_row_45 rfl 2 rfl ?_
      refine V_st (st' := [va_rf (some (qR g rr))]) rfl ?_
      refine V_aret C (by first | exact Or.inl ⟨_, rfl⟩ | exact Or.inr ⟨_, rfl⟩) dX5_row_46 rfl ?_ (by first | exact Nat.le_of_ble_eq_true rfl | omega | (dsimp only; omega) | (simp only [List.length_cons, List.length_nil]; omega)) (by first | exact Nat.le_of_ble_eq_true rfl | omega | (dsimp only; omega) | (simp only [List.length_cons, List.length_nil]; omega))
      exact ⟨rfl, rfl⟩
    · exact absurd ((nI_ltI (a := 10) (by decide) (by omega)).mp (Int32.not_le.mp c_33)) (by omega)
set_option maxHeartbeats 1000000 in
theorem c_X5_row_18 (l : Launch) (hl : l.stackTraces = false) (G : hp_G) (X : Nat → Nat) (N0 : Nat) (M : hp_h) (g : RG) (σ : MS) (z : Nat → Int32) (C9 c9 : Nat) (hC : c9 + 1 = C9) (hR : REL G (X 0) g σ z (σ.1 31) C9 M) (hI : MI σ) (hh : Nat) (hhh : M hh = some (.inr (18, [.int 2, .ref (qN g), .int 1, .int 7, .ref (qN g), .ref (qN g), .ref (qN g)]))) (ac : Nat) (x0 : Int32) (rr : Nat) (i b j n : Int32) (hr : rr < nR σ) (hac : M ac = some (.inr (3, [.int x0, .int (nI rr), .int i, .int b, .int j, .int n]))) (hk9 : 1 ≤ kd σ rr ∧ kd σ rr ≤ 7) : HM l yX5_row (ws_ yX5_row cX5_row 4 (some (.object "java/lang/Object"))) 8 200 0 0 G X N0 [.ref hh, .ref ac] M (PV (.ref (qR g rr)) M) PX0 := by
  refine HM.of hl [(0, .ref hh), (1, .ref ac)] (by decide +kernel) rfl (Nat.le_of_ble_eq_true rfl) ?_
  intro p e s m args below meth c C hname
  have hN := hR.N
  obtain ⟨mdR, hRl⟩ := hR.Rl
  obtain ⟨fR, hRs, hRf⟩ := hR.Rls
  refine V_aload_n C dX5_row_0 rfl 0 rfl ?_
  refine V_get C f_X5_3_18 hhh (v := .ref (qN g)) rfl dX5_row_1 ?_
  refine V_getN C f_X5_22_0 hN (v := .ref (qRl g)) rfl dX5_row_4 ?_
  refine V_aload_n C dX5_row_7 rfl 1 rfl ?_
  refine V_getN C f_X5_26_3 hac (v := .int (nI rr)) rfl dX5_row_8 ?_
  refine V_callV C (c_J2_get l hl G X N0 M (qRl g) (qRe g) (nR σ) (gcp g 2 0) mdR fR hRl (hRs.2.2.1 (by have := hRs.2.2.2.1; omega)) (by have := hRs.2.2.2.2; omega) hRs.2.2.2.1 rr (qR g rr) hr (hRf rr hr)) cs_X5_31_1 hRl (show CLS[1]? = some (RJ2, TJ2, 3) from rfl) rfl rfl ⟨Nat.le_of_ble_eq_true rfl, Nat.le_of_ble_eq_true rfl⟩ ⟨(by first | exact Nat.le_of_ble_eq_true rfl | omega | (dsimp only; omega) | (simp only [List.length_cons, List.length_nil]; omega)), (by first | exact Nat.le_of_ble_eq_true rfl | omega | (dsimp only; omega) | (simp only [List.length_cons, List.length_nil]; omega))⟩ (Nat.le_of_ble_eq_true rfl) dX5_row_11 (fun _ _ _ h => px0 h) ?_
  rintro _ _ ⟨rfl, rfl⟩
  refine V_st (st' := [.ref (qR g rr)]) rfl ?_
  obtain ⟨xr, hra, hrx, hrc⟩ := hR.rw hr
  obtain ⟨hkE, hkL⟩ := hI.k hr
  obtain ⟨hlE, hlL⟩ := hI.l hr
  refine V_astore_n C dX5_row_14 rfl (Nat.le_of_ble_eq_true rfl) [(0, .ref hh), (1, .ref ac), (2, .ref (qR g rr))] [1, 2, 0] rfl ?_
  refine V_aload_n C dX5_row_15 rfl 2 rfl ?_
  refine V_callSN C (c_X1_kindOf l hl G X N0 M (qR g rr) (kd σ rr) hkL xr hra) cs_X5_41 rfl rfl ⟨Nat.le_of_ble_eq_true rfl, Nat.le_of_ble_eq_true rfl⟩ ⟨(by first | exact Nat.le_of_ble_eq_true rfl | omega | (dsimp only; omega) | (simp only [List.length_cons, List.length_nil]; omega)), (by first | exact Nat.le_of_ble_eq_true rfl | omega | (dsimp only; omega) | (simp only [List.length_cons, List.length_nil]; omega))⟩ (Nat.le_of_ble_eq_true rfl) dX5_row_16 (fun _ _ _ h => px0 h) ?_
  rintro _ _ ⟨rfl, rfl⟩
  refine V_st (st' := [.int (nI (kd σ rr))]) rfl ?_
  refine V_istore_n C dX5_row_19 rfl (Nat.le_of_ble_eq_true rfl) [(0, .ref hh), (1, .ref ac), (2, .ref (qR g rr)), (3, .int (nI (kd σ rr)))] [1, 2, 3, 0] rfl ?_
  refine V_iload_n C dX5_row_20 rfl 3 rfl ?_
  refine V_pc (pc1 := 21) rfl ?_
  refine V_aload_n C dX5_row_21 rfl 0 rfl ?_
  refine V_get C f_X5_15_18 hhh (v := .int 1) rfl dX5_row_22 ?_
  refine V_icmp_lt (tgt := 36) C dX5_row_25 (by decide) (fun c_25 => ?_) (fun c_25 => ?_)
  · exact absurd ((nI_ltI (b := 1) (by omega) (by decide)).mp c_25) (by omega)
  · refine V_iload_n C dX5_row_28 rfl 3 rfl ?_
    refine V_aload_n C dX5_row_29 rfl 0 rfl ?_
    refine V_get C f_X5_19_18 hhh (v := .int 7) rfl dX5_row_30 ?_
    refine V_icmp_le (tgt := 45) C dX5_row_33 (by decide) (fun c_33 => ?_) (fun c_33 => ?_)
    · refine V_aload_n C dX5_row_45 rfl 2 rfl ?_
      refine V_st (st' := [va_rf (some (qR g rr))]) rfl ?_
      refine V_aret C (by first | exact Or.inl ⟨_, rfl⟩ | exact Or.inr ⟨_, rfl⟩) dX5_row_46 rfl ?_ (by first | exact Nat.le_of_ble_eq_true rfl | omega | (dsimp only; omega) | (simp only [List.length_cons, List.length_nil]; omega)) (by first | exact Nat.le_of_ble_eq_true rfl | omega | (dsimp only; omega) | (simp only [List.length_cons, List.length_nil]; omega))
      exact ⟨rfl, rfl⟩
    · exact absurd ((nI_ltI (a := 7) (by decide) (by omega)).mp (Int32.not_le.mp c_33)) (by omega)
set_option maxHeartbeats 1000000 in
theorem c_X5_row_x18 (l : Launch) (hl : l.stackTraces = false) (G : hp_G) (X : Nat → Nat) (N0 : Nat) (M : hp_h) (g : RG) (σ : MS) (z : Nat → Int32) (C9 c9 : Nat) (hC : c9 + 1 = C9) (hR : REL G (X 0) g σ z (σ.1 31) C9 M) (hI : MI σ) (hh : Nat) (hhh : M hh = some (.inr (18, [.int 2, .ref (qN g), .int 1, .int 7, .ref (qN g), .ref (qN g), .ref (qN g)]))) (ac : Nat) (x0 : Int32) (rr : Nat) (i b j n : Int32) (hr : rr < nR σ) (hac : M ac = some (.inr (3, [.int x0, .int (nI rr), .int i, .int b, .int j, .int n]))) (hk9 : ¬ (1 ≤ kd σ rr ∧ kd σ rr ≤ 7)) : HM l yX5_row (ws_ yX5_row cX5_row 4 (some (.object "java/lang/Object"))) 8 200 1 7 G X N0 [.ref hh, .ref ac] M PFF (FLX G (X 0) g σ z C9 M σ 4) := by
  refine HM.of hl [(0, .ref hh), (1, .ref ac)] (by decide +kernel) rfl (Nat.le_of_ble_eq_true rfl) ?_
  intro p e s m args below meth c C hname
  have hN := hR.N
  obtain ⟨mdR, hRl⟩ := hR.Rl
  obtain ⟨fR, hRs, hRf⟩ := hR.Rls
  refine V_aload_n C dX5_row_0 rfl 0 rfl ?_
  refine V_get C f_X5_3_18 hhh (v := .ref (qN g)) rfl dX5_row_1 ?_
  refine V_getN C f_X5_22_0 hN (v := .ref (qRl g)) rfl dX5_row_4 ?_
  refine V_aload_n C dX5_row_7 rfl 1 rfl ?_
  refine V_getN C f_X5_26_3 hac (v := .int (nI rr)) rfl dX5_row_8 ?_
  refine V_callV C (c_J2_get l hl G X N0 M (qRl g) (qRe g) (nR σ) (gcp g 2 0) mdR fR hRl (hRs.2.2.1 (by have := hRs.2.2.2.1; omega)) (by have := hRs.2.2.2.2; omega) hRs.2.2.2.1 rr (qR g rr) hr (hRf rr hr)) cs_X5_31_1 hRl (show CLS[1]? = some (RJ2, TJ2, 3) from rfl) rfl rfl ⟨Nat.le_of_ble_eq_true rfl, Nat.le_of_ble_eq_true rfl⟩ ⟨(by first | exact Nat.le_of_ble_eq_true rfl | omega | (dsimp only; omega) | (simp only [List.length_cons, List.length_nil]; omega)), (by first | exact Nat.le_of_ble_eq_true rfl | omega | (dsimp only; omega) | (simp only [List.length_cons, List.length_nil]; omega))⟩ (Nat.le_of_ble_eq_true rfl) dX5_row_11 (fun _ _ _ h => px0 h) ?_
  rintro _ _ ⟨rfl, rfl⟩
  refine V_st (st' := [.ref (qR g rr)]) rfl ?_
  obtain ⟨xr, hra, hrx, hrc⟩ := hR.rw hr
  obtain ⟨hkE, hkL⟩ := hI.k hr
  obtain ⟨hlE, hlL⟩ := hI.l hr
  refine V_astore_n C dX5_row_14 rfl (Nat.le_of_ble_eq_true rfl) [(0, .ref hh), (1, .ref ac), (2, .ref (qR g rr))] [1, 2, 0] rfl ?_
  refine V_aload_n C dX5_row_15 rfl 2 rfl ?_
  refine V_callSN C (c_X1_kindOf l hl G X N0 M (qR g rr) (kd σ rr) hkL xr hra) cs_X5_41 rfl rfl ⟨Nat.le_of_ble_eq_true rfl, Nat.le_of_ble_eq_true rfl⟩ ⟨(by first | exact Nat.le_of_ble_eq_true rfl | omega | (dsimp only; omega) | (simp only [List.length_cons, List.length_nil]; omega)), (by first | exact Nat.le_of_ble_eq_true rfl | omega | (dsimp only; omega) | (simp only [List.length_cons, List.length_nil]; omega))⟩ (Nat.le_of_ble_eq_true rfl) dX5_row_16 (fun _ _ _ h => px0 h) ?_
  rintro _ _ ⟨rfl, rfl⟩
  refine V_st (st' := [.int (nI (kd σ rr))]) rfl ?_
  refine V_istore_n C dX5_row_19 rfl (Nat.le_of_ble_eq_true rfl) [(0, .ref hh), (1, .ref ac), (2, .ref (qR g rr)), (3, .int (nI (kd σ rr)))] [1, 2, 3, 0] rfl ?_
  refine V_iload_n C dX5_row_20 rfl 3 rfl ?_
  refine V_pc (pc1 := 21) rfl ?_
  refine V_aload_n C dX5_row_21 rfl 0 rfl ?_
  refine V_get C f_X5_15_18 hhh (v := .int 1) rfl dX5_row_22 ?_
  refine V_icmp_lt (tgt := 36) C dX5_row_25 (by decide) (fun c_25 => ?_) (fun c_25 => ?_)
  · refine V_aload_n C dX5_row_36 rfl 0 rfl ?_
    refine V_get C f_X5_3_18 hhh (v := .ref (qN g)) rfl dX5_row_37 ?_
    refine V_iconst (v := 4) C dX5_row_40 rfl ?_
    refine V_callVN C (c_X1_fail l hl G X N0 M (qN g) (qRl g) (qUl g) (qPl g) (qHs g) (qAn g) (σ.1 20) (σ.1 14) (σ.1 11) (σ.1 12) (σ.1 15) (z 0) (z 1) (z 2) (z 3) (z 4) (z 5) (σ.1 31) 4 hN) cs_X5_44_0 hN (show CLS[0]? = some (RX1, TX1, 17) from rfl) rfl rfl ⟨Nat.le_of_ble_eq_true rfl, Nat.le_of_ble_eq_true rfl⟩ ⟨(by first | exact Nat.le_of_ble_eq_true rfl | omega | (dsimp only; omega) | (simp only [List.length_cons, List.length_nil]; omega)), (by first | exact Nat.le_of_ble_eq_true rfl | omega | (dsimp only; omega) | (simp only [List.length_cons, List.length_nil]; omega))⟩ (Nat.le_of_ble_eq_true rfl) dX5_row_41 (fun _ _ _ h => px0 h) ?_
    rintro _ M_3 ⟨q_1, rfl, hq_2, hN_4, hF_5, fr_6, sh_7⟩
    refine V_st (st' := [.ref q_1]) rfl ?_
    refine V_athrow C hF_5 (show CLS[8]? = some (RX26, TX26, 7) from rfl) dX5_row_44 ?_
    exact VX_out C (fun z hz => by cases hz) (FLX.of hR hq_2 hN_4 hF_5 fr_6 sh_7) (by first | exact Nat.le_of_ble_eq_true rfl | omega | (dsimp only; omega) | (simp only [List.length_cons, List.length_nil]; omega)) (by first | exact Nat.le_of_ble_eq_true rfl | omega | (dsimp only; omega) | (simp only [List.length_cons, List.length_nil]; omega))
  · refine V_iload_n C dX5_row_28 rfl 3 rfl ?_
    refine V_aload_n C dX5_row_29 rfl 0 rfl ?_
    refine V_get C f_X5_19_18 hhh (v := .int 7) rfl dX5_row_30 ?_
    refine V_icmp_le (tgt := 45) C dX5_row_33 (by decide) (fun c_33 => ?_) (fun c_33 => ?_)
    · refine absurd (hk9 : ¬ (1 ≤ kd σ rr ∧ kd σ rr ≤ 7)) (not_not_intro ⟨?_, (nI_leI (b := 7) (by omega) (by decide)).mp c_33⟩); exact Nat.not_lt.mp (fun y => c_25 ((nI_ltI (b := 1) (by omega) (by decide)).mpr y))
    · refine V_aload_n C dX5_row_36 rfl 0 rfl ?_
      refine V_get C f_X5_3_18 hhh (v := .ref (qN g)) rfl dX5_row_37 ?_
      refine V_iconst (v := 4) C dX5_row_40 rfl ?_
      refine V_callVN C (c_X1_fail l hl G X N0 M (qN g) (qRl g) (qUl g) (qPl g) (qHs g) (qAn g) (σ.1 20) (σ.1 14) (σ.1 11) (σ.1 12) (σ.1 15) (z 0) (z 1) (z 2) (z 3) (z 4) (z 5) (σ.1 31) 4 hN) cs_X5_44_0 hN (show CLS[0]? = some (RX1, TX1, 17) from rfl) rfl rfl ⟨Nat.le_of_ble_eq_true rfl, Nat.le_of_ble_eq_true rfl⟩ ⟨(by first | exact Nat.le_of_ble_eq_true rfl | omega | (dsimp only; omega) | (simp only [List.length_cons, List.length_nil]; omega)), (by first | exact Nat.le_of_ble_eq_true rfl | omega | (dsimp only; omega) | (simp only [List.length_cons, List.length_nil]; omega))⟩ (Nat.le_of_ble_eq_true rfl) dX5_row_41 (fun _ _ _ h => px0 h) ?_
      rintro _ M_10 ⟨q_8, rfl, hq_9, hN_11, hF_12, fr_13, sh_14⟩
      refine V_st (st' := [.ref q_8]) rfl ?_
      refine V_athrow C hF_12 (show CLS[8]? = some (RX26, TX26, 7) from rfl) dX5_row_44 ?_
      exact VX_out C (fun z hz => by cases hz) (FLX.of hR hq_9 hN_11 hF_12 fr_13 sh_14) (by first | exact Nat.le_of_ble_eq_true rfl | omega | (dsimp only; omega) | (simp only [List.length_cons, List.length_nil]; omega)) (by first | exact Nat.le_of_ble_eq_true rfl | omega | (dsimp only; omega) | (simp only [List.length_cons, List.length_nil]; omega))
set_option maxHeartbeats 1000000 in
theorem c_X5_row_19 (l : Launch) (hl : l.stackTraces = false) (G : hp_G) (X : Nat → Nat) (N0 : Nat) (M : hp_h) (g : RG) (σ : MS) (z : Nat → Int32) (C9 c9 : Nat) (hC : c9 + 1 = C9) (hR : REL G (X 0) g σ z (σ.1 31) C9 M) (hI : MI σ) (hh : Nat) (hhh : M hh = some (.inr (19, [.int 1, .ref (qN g), .int 0, .int 7, .ref (qN g), .ref (qN g), .ref (qN g)]))) (ac : Nat) (x0 : Int32) (rr : Nat) (i b j n : Int32) (hr : rr < nR σ) (hac : M ac = some (.inr (3, [.int x0, .int (nI rr), .int i, .int b, .int j, .int n]))) (hk9 : 0 ≤ kd σ rr ∧ kd σ rr ≤ 7) : HM l yX5_row (ws_ yX5_row cX5_row 4 (some (.object "java/lang/Object"))) 8 200 0 0 G X N0 [.ref hh, .ref ac] M (PV (.ref (qR g rr)) M) PX0 := by
  refine HM.of hl [(0, .ref hh), (1, .ref ac)] (by decide +kernel) rfl (Nat.le_of_ble_eq_true rfl) ?_
  intro p e s m args below meth c C hname
  have hN := hR.N
  obtain ⟨mdR, hRl⟩ := hR.Rl
  obtain ⟨fR, hRs, hRf⟩ := hR.Rls
  refine V_aload_n C dX5_row_0 rfl 0 rfl ?_
  refine V_get C f_X5_3_19 hhh (v := .ref (qN g)) rfl dX5_row_1 ?_
  refine V_getN C f_X5_22_0 hN (v := .ref (qRl g)) rfl dX5_row_4 ?_
  refine V_aload_n C dX5_row_7 rfl 1 rfl ?_
  refine V_getN C f_X5_26_3 hac (v := .int (nI rr)) rfl dX5_row_8 ?_
  refine V_callV C (c_J2_get l hl G X N0 M (qRl g) (qRe g) (nR σ) (gcp g 2 0) mdR fR hRl (hRs.2.2.1 (by have := hRs.2.2.2.1; omega)) (by have := hRs.2.2.2.2; omega) hRs.2.2.2.1 rr (qR g rr) hr (hRf rr hr)) cs_X5_31_1 hRl (show CLS[1]? = some (RJ2, TJ2, 3) from rfl) rfl rfl ⟨Nat.le_of_ble_eq_true rfl, Nat.le_of_ble_eq_true rfl⟩ ⟨(by first | exact Nat.le_of_ble_eq_true rfl | omega | (dsimp only; omega) | (simp only [List.length_cons, List.length_nil]; omega)), (by first | exact Nat.le_of_ble_eq_true rfl | omega | (dsimp only; omega) | (simp only [List.length_cons, List.length_nil]; omega))⟩ (Nat.le_of_ble_eq_true rfl) dX5_row_11 (fun _ _ _ h => px0 h) ?_
  rintro _ _ ⟨rfl, rfl⟩
  refine V_st (st' := [.ref (qR g rr)]) rfl ?_
  obtain ⟨xr, hra, hrx, hrc⟩ := hR.rw hr
  obtain ⟨hkE, hkL⟩ := hI.k hr
  obtain ⟨hlE, hlL⟩ := hI.l hr
  refine V_astore_n C dX5_row_14 rfl (Nat.le_of_ble_eq_true rfl) [(0, .ref hh), (1, .ref ac), (2, .ref (qR g rr))] [1, 2, 0] rfl ?_
  refine V_aload_n C dX5_row_15 rfl 2 rfl ?_
  refine V_callSN C (c_X1_kindOf l hl G X N0 M (qR g rr) (kd σ rr) hkL xr hra) cs_X5_41 rfl rfl ⟨Nat.le_of_ble_eq_true rfl, Nat.le_of_ble_eq_true rfl⟩ ⟨(by first | exact Nat.le_of_ble_eq_true rfl | omega | (dsimp only; omega) | (simp only [List.length_cons, List.length_nil]; omega)), (by first | exact Nat.le_of_ble_eq_true rfl | omega | (dsimp only; omega) | (simp only [List.length_cons, List.length_nil]; omega))⟩ (Nat.le_of_ble_eq_true rfl) dX5_row_16 (fun _ _ _ h => px0 h) ?_
  rintro _ _ ⟨rfl, rfl⟩
  refine V_st (st' := [.int (nI (kd σ rr))]) rfl ?_
  refine V_istore_n C dX5_row_19 rfl (Nat.le_of_ble_eq_true rfl) [(0, .ref hh), (1, .ref ac), (2, .ref (qR g rr)), (3, .int (nI (kd σ rr)))] [1, 2, 3, 0] rfl ?_
  refine V_iload_n C dX5_row_20 rfl 3 rfl ?_
  refine V_pc (pc1 := 21) rfl ?_
  refine V_aload_n C dX5_row_21 rfl 0 rfl ?_
  refine V_get C f_X5_15_19 hhh (v := .int 0) rfl dX5_row_22 ?_
  refine V_icmp_lt (tgt := 36) C dX5_row_25 (by decide) (fun c_25 => ?_) (fun c_25 => ?_)
  · exact absurd ((nI_ltI (b := 0) (by omega) (by decide)).mp c_25) (by omega)
  · refine V_iload_n C dX5_row_28 rfl 3 rfl ?_
    refine V_aload_n C dX5_row_29 rfl 0 rfl ?_
    refine V_get C f_X5_19_19 hhh (v := .int 7) rfl dX5_row_30 ?_
    refine V_icmp_le (tgt := 45) C dX5_row_33 (by decide) (fun c_33 => ?_) (fun c_33 => ?_)
    · refine V_aload_n C dX5_row_45 rfl 2 rfl ?_
      refine V_st (st' := [va_rf (some (qR g rr))]) rfl ?_
      refine V_aret C (by first | exact Or.inl ⟨_, rfl⟩ | exact Or.inr ⟨_, rfl⟩) dX5_row_46 rfl ?_ (by first | exact Nat.le_of_ble_eq_true rfl | omega | (dsimp only; omega) | (simp only [List.length_cons, List.length_nil]; omega)) (by first | exact Nat.le_of_ble_eq_true rfl | omega | (dsimp only; omega) | (simp only [List.length_cons, List.length_nil]; omega))
      exact ⟨rfl, rfl⟩
    · exact absurd ((nI_ltI (a := 7) (by decide) (by omega)).mp (Int32.not_le.mp c_33)) (by omega)
set_option maxHeartbeats 1000000 in
theorem c_X5_row_x19 (l : Launch) (hl : l.stackTraces = false) (G : hp_G) (X : Nat → Nat) (N0 : Nat) (M : hp_h) (g : RG) (σ : MS) (z : Nat → Int32) (C9 c9 : Nat) (hC : c9 + 1 = C9) (hR : REL G (X 0) g σ z (σ.1 31) C9 M) (hI : MI σ) (hh : Nat) (hhh : M hh = some (.inr (19, [.int 1, .ref (qN g), .int 0, .int 7, .ref (qN g), .ref (qN g), .ref (qN g)]))) (ac : Nat) (x0 : Int32) (rr : Nat) (i b j n : Int32) (hr : rr < nR σ) (hac : M ac = some (.inr (3, [.int x0, .int (nI rr), .int i, .int b, .int j, .int n]))) (hk9 : ¬ (0 ≤ kd σ rr ∧ kd σ rr ≤ 7)) : HM l yX5_row (ws_ yX5_row cX5_row 4 (some (.object "java/lang/Object"))) 8 200 1 7 G X N0 [.ref hh, .ref ac] M PFF (FLX G (X 0) g σ z C9 M σ 4) := by
  refine HM.of hl [(0, .ref hh), (1, .ref ac)] (by decide +kernel) rfl (Nat.le_of_ble_eq_true rfl) ?_
  intro p e s m args below meth c C hname
  have hN := hR.N
  obtain ⟨mdR, hRl⟩ := hR.Rl
  obtain ⟨fR, hRs, hRf⟩ := hR.Rls
  refine V_aload_n C dX5_row_0 rfl 0 rfl ?_
  refine V_get C f_X5_3_19 hhh (v := .ref (qN g)) rfl dX5_row_1 ?_
  refine V_getN C f_X5_22_0 hN (v := .ref (qRl g)) rfl dX5_row_4 ?_
  refine V_aload_n C dX5_row_7 rfl 1 rfl ?_
  refine V_getN C f_X5_26_3 hac (v := .int (nI rr)) rfl dX5_row_8 ?_
  refine V_callV C (c_J2_get l hl G X N0 M (qRl g) (qRe g) (nR σ) (gcp g 2 0) mdR fR hRl (hRs.2.2.1 (by have := hRs.2.2.2.1; omega)) (by have := hRs.2.2.2.2; omega) hRs.2.2.2.1 rr (qR g rr) hr (hRf rr hr)) cs_X5_31_1 hRl (show CLS[1]? = some (RJ2, TJ2, 3) from rfl) rfl rfl ⟨Nat.le_of_ble_eq_true rfl, Nat.le_of_ble_eq_true rfl⟩ ⟨(by first | exact Nat.le_of_ble_eq_true rfl | omega | (dsimp only; omega) | (simp only [List.length_cons, List.length_nil]; omega)), (by first | exact Nat.le_of_ble_eq_true rfl | omega | (dsimp only; omega) | (simp only [List.length_cons, List.length_nil]; omega))⟩ (Nat.le_of_ble_eq_true rfl) dX5_row_11 (fun _ _ _ h => px0 h) ?_
  rintro _ _ ⟨rfl, rfl⟩
  refine V_st (st' := [.ref (qR g rr)]) rfl ?_
  obtain ⟨xr, hra, hrx, hrc⟩ := hR.rw hr
  obtain ⟨hkE, hkL⟩ := hI.k hr
  obtain ⟨hlE, hlL⟩ := hI.l hr
  refine V_astore_n C dX5_row_14 rfl (Nat.le_of_ble_eq_true rfl) [(0, .ref hh), (1, .ref ac), (2, .ref (qR g rr))] [1, 2, 0] rfl ?_
  refine V_aload_n C dX5_row_15 rfl 2 rfl ?_
  refine V_callSN C (c_X1_kindOf l hl G X N0 M (qR g rr) (kd σ rr) hkL xr hra) cs_X5_41 rfl rfl ⟨Nat.le_of_ble_eq_true rfl, Nat.le_of_ble_eq_true rfl⟩ ⟨(by first | exact Nat.le_of_ble_eq_true rfl | omega | (dsimp only; omega) | (simp only [List.length_cons, List.length_nil]; omega)), (by first | exact Nat.le_of_ble_eq_true rfl | omega | (dsimp only; omega) | (simp only [List.length_cons, List.length_nil]; omega))⟩ (Nat.le_of_ble_eq_true rfl) dX5_row_16 (fun _ _ _ h => px0 h) ?_
  rintro _ _ ⟨rfl, rfl⟩
  refine V_st (st' := [.int (nI (kd σ rr))]) rfl ?_
  refine V_istore_n C dX5_row_19 rfl (Nat.le_of_ble_eq_true rfl) [(0, .ref hh), (1, .ref ac), (2, .ref (qR g rr)), (3, .int (nI (kd σ rr)))] [1, 2, 3, 0] rfl ?_
  refine V_iload_n C dX5_row_20 rfl 3 rfl ?_
  refine V_pc (pc1 := 21) rfl ?_
  refine V_aload_n C dX5_row_21 rfl 0 rfl ?_
  refine V_get C f_X5_15_19 hhh (v := .int 0) rfl dX5_row_22 ?_
  refine V_icmp_lt (tgt := 36) C dX5_row_25 (by decide) (fun c_25 => ?_) (fun c_25 => ?_)
  · exact absurd ((nI_ltI (b := 0) (by omega) (by decide)).mp c_25) (by omega)
  · refine V_iload_n C dX5_row_28 rfl 3 rfl ?_
    refine V_aload_n C dX5_row_29 rfl 0 rfl ?_
    refine V_get C f_X5_19_19 hhh (v := .int 7) rfl dX5_row_30 ?_
    refine V_icmp_le (tgt := 45) C dX5_row_33 (by decide) (fun c_33 => ?_) (fun c_33 => ?_)
    · exact absurd ((nI_leI (b := 7) (by omega) (by decide)).mp c_33) (by omega)
    · refine V_aload_n C dX5_row_36 rfl 0 rfl ?_
      refine V_get C f_X5_3_19 hhh (v := .ref (qN g)) rfl dX5_row_37 ?_
      refine V_iconst (v := 4) C dX5_row_40 rfl ?_
      refine V_callVN C (c_X1_fail l hl G X N0 M (qN g) (qRl g) (qUl g) (qPl g) (qHs g) (qAn g) (σ.1 20) (σ.1 14) (σ.1 11) (σ.1 12) (σ.1 15) (z 0) (z 1) (z 2) (z 3) (z 4) (z 5) (σ.1 31) 4 hN) cs_X5_44_0 hN (show CLS[0]? = some (RX1, TX1, 17) from rfl) rfl rfl ⟨Nat.le_of_ble_eq_true rfl, Nat.le_of_ble_eq_true rfl⟩ ⟨(by first | exact Nat.le_of_ble_eq_true rfl | omega | (dsimp only; omega) | (simp only [List.length_cons, List.length_nil]; omega)), (by first | exact Nat.le_of_ble_eq_true rfl | omega | (dsimp only; omega) | (simp only [List.length_cons, List.length_nil]; omega))⟩ (Nat.le_of_ble_eq_true rfl) dX5_row_41 (fun _ _ _ h => px0 h) ?_
      rintro _ M_3 ⟨q_1, rfl, hq_2, hN_4, hF_5, fr_6, sh_7⟩
      refine V_st (st' := [.ref q_1]) rfl ?_
      refine V_athrow C hF_5 (show CLS[8]? = some (RX26, TX26, 7) from rfl) dX5_row_44 ?_
      exact VX_out C (fun z hz => by cases hz) (FLX.of hR hq_2 hN_4 hF_5 fr_6 sh_7) (by first | exact Nat.le_of_ble_eq_true rfl | omega | (dsimp only; omega) | (simp only [List.length_cons, List.length_nil]; omega)) (by first | exact Nat.le_of_ble_eq_true rfl | omega | (dsimp only; omega) | (simp only [List.length_cons, List.length_nil]; omega))
set_option maxHeartbeats 1000000 in
theorem c_X5_row_22 (l : Launch) (hl : l.stackTraces = false) (G : hp_G) (X : Nat → Nat) (N0 : Nat) (M : hp_h) (g : RG) (σ : MS) (z : Nat → Int32) (C9 c9 : Nat) (hC : c9 + 1 = C9) (hR : REL G (X 0) g σ z (σ.1 31) C9 M) (hI : MI σ) (hh : Nat) (hhh : M hh = some (.inr (22, [.int 1, .ref (qN g), .int 8, .int 9, .ref (qN g), .ref (qN g)]))) (ac : Nat) (x0 : Int32) (rr : Nat) (i b j n : Int32) (hr : rr < nR σ) (hac : M ac = some (.inr (3, [.int x0, .int (nI rr), .int i, .int b, .int j, .int n]))) (hk9 : 8 ≤ kd σ rr ∧ kd σ rr ≤ 9) : HM l yX5_row (ws_ yX5_row cX5_row 4 (some (.object "java/lang/Object"))) 8 200 0 0 G X N0 [.ref hh, .ref ac] M (PV (.ref (qR g rr)) M) PX0 := by
  refine HM.of hl [(0, .ref hh), (1, .ref ac)] (by decide +kernel) rfl (Nat.le_of_ble_eq_true rfl) ?_
  intro p e s m args below meth c C hname
  have hN := hR.N
  obtain ⟨mdR, hRl⟩ := hR.Rl
  obtain ⟨fR, hRs, hRf⟩ := hR.Rls
  refine V_aload_n C dX5_row_0 rfl 0 rfl ?_
  refine V_get C f_X5_3_22 hhh (v := .ref (qN g)) rfl dX5_row_1 ?_
  refine V_getN C f_X5_22_0 hN (v := .ref (qRl g)) rfl dX5_row_4 ?_
  refine V_aload_n C dX5_row_7 rfl 1 rfl ?_
  refine V_getN C f_X5_26_3 hac (v := .int (nI rr)) rfl dX5_row_8 ?_
  refine V_callV C (c_J2_get l hl G X N0 M (qRl g) (qRe g) (nR σ) (gcp g 2 0) mdR fR hRl (hRs.2.2.1 (by have := hRs.2.2.2.1; omega)) (by have := hRs.2.2.2.2; omega) hRs.2.2.2.1 rr (qR g rr) hr (hRf rr hr)) cs_X5_31_1 hRl (show CLS[1]? = some (RJ2, TJ2, 3) from rfl) rfl rfl ⟨Nat.le_of_ble_eq_true rfl, Nat.le_of_ble_eq_true rfl⟩ ⟨(by first | exact Nat.le_of_ble_eq_true rfl | omega | (dsimp only; omega) | (simp only [List.length_cons, List.length_nil]; omega)), (by first | exact Nat.le_of_ble_eq_true rfl | omega | (dsimp only; omega) | (simp only [List.length_cons, List.length_nil]; omega))⟩ (Nat.le_of_ble_eq_true rfl) dX5_row_11 (fun _ _ _ h => px0 h) ?_
  rintro _ _ ⟨rfl, rfl⟩
  refine V_st (st' := [.ref (qR g rr)]) rfl ?_
  obtain ⟨xr, hra, hrx, hrc⟩ := hR.rw hr
  obtain ⟨hkE, hkL⟩ := hI.k hr
  obtain ⟨hlE, hlL⟩ := hI.l hr
  refine V_astore_n C dX5_row_14 rfl (Nat.le_of_ble_eq_true rfl) [(0, .ref hh), (1, .ref ac), (2, .ref (qR g rr))] [1, 2, 0] rfl ?_
  refine V_aload_n C dX5_row_15 rfl 2 rfl ?_
  refine V_callSN C (c_X1_kindOf l hl G X N0 M (qR g rr) (kd σ rr) hkL xr hra) cs_X5_41 rfl rfl ⟨Nat.le_of_ble_eq_true rfl, Nat.le_of_ble_eq_true rfl⟩ ⟨(by first | exact Nat.le_of_ble_eq_true rfl | omega | (dsimp only; omega) | (simp only [List.length_cons, List.length_nil]; omega)), (by first | exact Nat.le_of_ble_eq_true rfl | omega | (dsimp only; omega) | (simp only [List.length_cons, List.length_nil]; omega))⟩ (Nat.le_of_ble_eq_true rfl) dX5_row_16 (fun _ _ _ h => px0 h) ?_
  rintro _ _ ⟨rfl, rfl⟩
  refine V_st (st' := [.int (nI (kd σ rr))]) rfl ?_
  refine V_istore_n C dX5_row_19 rfl (Nat.le_of_ble_eq_true rfl) [(0, .ref hh), (1, .ref ac), (2, .ref (qR g rr)), (3, .int (nI (kd σ rr)))] [1, 2, 3, 0] rfl ?_
  refine V_iload_n C dX5_row_20 rfl 3 rfl ?_
  refine V_pc (pc1 := 21) rfl ?_
  refine V_aload_n C dX5_row_21 rfl 0 rfl ?_
  refine V_get C f_X5_15_22 hhh (v := .int 8) rfl dX5_row_22 ?_
  refine V_icmp_lt (tgt := 36) C dX5_row_25 (by decide) (fun c_25 => ?_) (fun c_25 => ?_)
  · exact absurd ((nI_ltI (b := 8) (by omega) (by decide)).mp c_25) (by omega)
  · refine V_iload_n C dX5_row_28 rfl 3 rfl ?_
    refine V_aload_n C dX5_row_29 rfl 0 rfl ?_
    refine V_get C f_X5_19_22 hhh (v := .int 9) rfl dX5_row_30 ?_
    refine V_icmp_le (tgt := 45) C dX5_row_33 (by decide) (fun c_33 => ?_) (fun c_33 => ?_)
    · refine V_aload_n C dX5_row_45 rfl 2 rfl ?_
      refine V_st (st' := [va_rf (some (qR g rr))]) rfl ?_
      refine V_aret C (by first | exact Or.inl ⟨_, rfl⟩ | exact Or.inr ⟨_, rfl⟩) dX5_row_46 rfl ?_ (by first | exact Nat.le_of_ble_eq_true rfl | omega | (dsimp only; omega) | (simp only [List.length_cons, List.length_nil]; omega)) (by first | exact Nat.le_of_ble_eq_true rfl | omega | (dsimp only; omega) | (simp only [List.length_cons, List.length_nil]; omega))
      exact ⟨rfl, rfl⟩
    · exact absurd ((nI_ltI (a := 9) (by decide) (by omega)).mp (Int32.not_le.mp c_33)) (by omega)
set_option maxHeartbeats 1000000 in
theorem c_X5_row_x22 (l : Launch) (hl : l.stackTraces = false) (G : hp_G) (X : Nat → Nat) (N0 : Nat) (M : hp_h) (g : RG) (σ : MS) (z : Nat → Int32) (C9 c9 : Nat) (hC : c9 + 1 = C9) (hR : REL G (X 0) g σ z (σ.1 31) C9 M) (hI : MI σ) (hh : Nat) (hhh : M hh = some (.inr (22, [.int 1, .ref (qN g), .int 8, .int 9, .ref (qN g), .ref (qN g)]))) (ac : Nat) (x0 : Int32) (rr : Nat) (i b j n : Int32) (hr : rr < nR σ) (hac : M ac = some (.inr (3, [.int x0, .int (nI rr), .int i, .int b, .int j, .int n]))) (hk9 : ¬ (8 ≤ kd σ rr ∧ kd σ rr ≤ 9)) : HM l yX5_row (ws_ yX5_row cX5_row 4 (some (.object "java/lang/Object"))) 8 200 1 7 G X N0 [.ref hh, .ref ac] M PFF (FLX G (X 0) g σ z C9 M σ 4) := by
  refine HM.of hl [(0, .ref hh), (1, .ref ac)] (by decide +kernel) rfl (Nat.le_of_ble_eq_true rfl) ?_
  intro p e s m args below meth c C hname
  have hN := hR.N
  obtain ⟨mdR, hRl⟩ := hR.Rl
  obtain ⟨fR, hRs, hRf⟩ := hR.Rls
  refine V_aload_n C dX5_row_0 rfl 0 rfl ?_
  refine V_get C f_X5_3_22 hhh (v := .ref (qN g)) rfl dX5_row_1 ?_
  refine V_getN C f_X5_22_0 hN (v := .ref (qRl g)) rfl dX5_row_4 ?_
  refine V_aload_n C dX5_row_7 rfl 1 rfl ?_
  refine V_getN C f_X5_26_3 hac (v := .int (nI rr)) rfl dX5_row_8 ?_
  refine V_callV C (c_J2_get l hl G X N0 M (qRl g) (qRe g) (nR σ) (gcp g 2 0) mdR fR hRl (hRs.2.2.1 (by have := hRs.2.2.2.1; omega)) (by have := hRs.2.2.2.2; omega) hRs.2.2.2.1 rr (qR g rr) hr (hRf rr hr)) cs_X5_31_1 hRl (show CLS[1]? = some (RJ2, TJ2, 3) from rfl) rfl rfl ⟨Nat.le_of_ble_eq_true rfl, Nat.le_of_ble_eq_true rfl⟩ ⟨(by first | exact Nat.le_of_ble_eq_true rfl | omega | (dsimp only; omega) | (simp only [List.length_cons, List.length_nil]; omega)), (by first | exact Nat.le_of_ble_eq_true rfl | omega | (dsimp only; omega) | (simp only [List.length_cons, List.length_nil]; omega))⟩ (Nat.le_of_ble_eq_true rfl) dX5_row_11 (fun _ _ _ h => px0 h) ?_
  rintro _ _ ⟨rfl, rfl⟩
  refine V_st (st' := [.ref (qR g rr)]) rfl ?_
  obtain ⟨xr, hra, hrx, hrc⟩ := hR.rw hr
  obtain ⟨hkE, hkL⟩ := hI.k hr
  obtain ⟨hlE, hlL⟩ := hI.l hr
  refine V_astore_n C dX5_row_14 rfl (Nat.le_of_ble_eq_true rfl) [(0, .ref hh), (1, .ref ac), (2, .ref (qR g rr))] [1, 2, 0] rfl ?_
  refine V_aload_n C dX5_row_15 rfl 2 rfl ?_
  refine V_callSN C (c_X1_kindOf l hl G X N0 M (qR g rr) (kd σ rr) hkL xr hra) cs_X5_41 rfl rfl ⟨Nat.le_of_ble_eq_true rfl, Nat.le_of_ble_eq_true rfl⟩ ⟨(by first | exact Nat.le_of_ble_eq_true rfl | omega | (dsimp only; omega) | (simp only [List.length_cons, List.length_nil]; omega)), (by first | exact Nat.le_of_ble_eq_true rfl | omega | (dsimp only; omega) | (simp only [List.length_cons, List.length_nil]; omega))⟩ (Nat.le_of_ble_eq_true rfl) dX5_row_16 (fun _ _ _ h => px0 h) ?_
  rintro _ _ ⟨rfl, rfl⟩
  refine V_st (st' := [.int (nI (kd σ rr))]) rfl ?_
  refine V_istore_n C dX5_row_19 rfl (Nat.le_of_ble_eq_true rfl) [(0, .ref hh), (1, .ref ac), (2, .ref (qR g rr)), (3, .int (nI (kd σ rr)))] [1, 2, 3, 0] rfl ?_
  refine V_iload_n C dX5_row_20 rfl 3 rfl ?_
  refine V_pc (pc1 := 21) rfl ?_
  refine V_aload_n C dX5_row_21 rfl 0 rfl ?_
  refine V_get C f_X5_15_22 hhh (v := .int 8) rfl dX5_row_22 ?_
  refine V_icmp_lt (tgt := 36) C dX5_row_25 (by decide) (fun c_25 => ?_) (fun c_25 => ?_)
  · refine V_aload_n C dX5_row_36 rfl 0 rfl ?_
    refine V_get C f_X5_3_22 hhh (v := .ref (qN g)) rfl dX5_row_37 ?_
    refine V_iconst (v := 4) C dX5_row_40 rfl ?_
    refine V_callVN C (c_X1_fail l hl G X N0 M (qN g) (qRl g) (qUl g) (qPl g) (qHs g) (qAn g) (σ.1 20) (σ.1 14) (σ.1 11) (σ.1 12) (σ.1 15) (z 0) (z 1) (z 2) (z 3) (z 4) (z 5) (σ.1 31) 4 hN) cs_X5_44_0 hN (show CLS[0]? = some (RX1, TX1, 17) from rfl) rfl rfl ⟨Nat.le_of_ble_eq_true rfl, Nat.le_of_ble_eq_true rfl⟩ ⟨(by first | exact Nat.le_of_ble_eq_true rfl | omega | (dsimp only; omega) | (simp only [List.length_cons, List.length_nil]; omega)), (by first | exact Nat.le_of_ble_eq_true rfl | omega | (dsimp only; omega) | (simp only [List.length_cons, List.length_nil]; omega))⟩ (Nat.le_of_ble_eq_true rfl) dX5_row_41 (fun _ _ _ h => px0 h) ?_
    rintro _ M_3 ⟨q_1, rfl, hq_2, hN_4, hF_5, fr_6, sh_7⟩
    refine V_st (st' := [.ref q_1]) rfl ?_
    refine V_athrow C hF_5 (show CLS[8]? = some (RX26, TX26, 7) from rfl) dX5_row_44 ?_
    exact VX_out C (fun z hz => by cases hz) (FLX.of hR hq_2 hN_4 hF_5 fr_6 sh_7) (by first | exact Nat.le_of_ble_eq_true rfl | omega | (dsimp only; omega) | (simp only [List.length_cons, List.length_nil]; omega)) (by first | exact Nat.le_of_ble_eq_true rfl | omega | (dsimp only; omega) | (simp only [List.length_cons, List.length_nil]; omega))
  · refine V_iload_n C dX5_row_28 rfl 3 rfl ?_
    refine V_aload_n C dX5_row_29 rfl 0 rfl ?_
    refine V_get C f_X5_19_22 hhh (v := .int 9) rfl dX5_row_30 ?_
    refine V_icmp_le (tgt := 45) C dX5_row_33 (by decide) (fun c_33 => ?_) (fun c_33 => ?_)
    · refine absurd (hk9 : ¬ (8 ≤ kd σ rr ∧ kd σ rr ≤ 9)) (not_not_intro ⟨?_, (nI_leI (b := 9) (by omega) (by decide)).mp c_33⟩); exact Nat.not_lt.mp (fun y => c_25 ((nI_ltI (b := 8) (by omega) (by decide)).mpr y))
    · refine V_aload_n C dX5_row_36 rfl 0 rfl ?_
      refine V_get C f_X5_3_22 hhh (v := .ref (qN g)) rfl dX5_row_37 ?_
      refine V_iconst (v := 4) C dX5_row_40 rfl ?_
      refine V_callVN C (c_X1_fail l hl G X N0 M (qN g) (qRl g) (qUl g) (qPl g) (qHs g) (qAn g) (σ.1 20) (σ.1 14) (σ.1 11) (σ.1 12) (σ.1 15) (z 0) (z 1) (z 2) (z 3) (z 4) (z 5) (σ.1 31) 4 hN) cs_X5_44_0 hN (show CLS[0]? = some (RX1, TX1, 17) from rfl) rfl rfl ⟨Nat.le_of_ble_eq_true rfl, Nat.le_of_ble_eq_true rfl⟩ ⟨(by first | exact Nat.le_of_ble_eq_true rfl | omega | (dsimp only; omega) | (simp only [List.length_cons, List.length_nil]; omega)), (by first | exact Nat.le_of_ble_eq_true rfl | omega | (dsimp only; omega) | (simp only [List.length_cons, List.length_nil]; omega))⟩ (Nat.le_of_ble_eq_true rfl) dX5_row_41 (fun _ _ _ h => px0 h) ?_
      rintro _ M_10 ⟨q_8, rfl, hq_9, hN_11, hF_12, fr_13, sh_14⟩
      refine V_st (st' := [.ref q_8]) rfl ?_
      refine V_athrow C hF_12 (show CLS[8]? = some (RX26, TX26, 7) from rfl) dX5_row_44 ?_
      exact VX_out C (fun z hz => by cases hz) (FLX.of hR hq_9 hN_11 hF_12 fr_13 sh_14) (by first | exact Nat.le_of_ble_eq_true rfl | omega | (dsimp only; omega) | (simp only [List.length_cons, List.length_nil]; omega)) (by first | exact Nat.le_of_ble_eq_true rfl | omega | (dsimp only; omega) | (simp only [List.length_cons, List.length_nil]; omega))
theorem places_i {σ : MS} (hI : MI σ) {r : Nat} (hr : r < nR σ) {i n : Int32} : mf_places σ r i n ↔ ¬ i < 0 ∧ ¬ n < 0 ∧ ¬ lg_cmp (i.toInt64 + n.toInt64) (nI (ln σ r)).toInt64 > 0 := by
  unfold mf_places
  rw [(hI.l hr).1]
  simp only [lg_cmp_lt, lg_cmp_gt, lg_cmp_ge, lg_cmp_le, lg_cmp_eq, Int64.not_lt]
set_option maxHeartbeats 1000000 in
theorem c_X7_part_12 (l : Launch) (hl : l.stackTraces = false) (G : hp_G) (X : Nat → Nat) (N0 : Nat) (M : hp_h) (g : RG) (σ : MS) (z : Nat → Int32) (C9 c9 : Nat) (hC : c9 + 1 = C9) (hR : REL G (X 0) g σ z (σ.1 31) C9 M) (hI : MI σ) (hh : Nat) (hhh : M hh = some (.inr (12, [.int 1, .ref (qN g), .int 0, .int 10, .ref (qN g), .ref (qN g), .ref (qN g)]))) (ac : Nat) (x0 : Int32) (rr : Nat) (i b j n : Int32) (hr : rr < nR σ) (hac : M ac = some (.inr (3, [.int x0, .int (nI rr), .int i, .int b, .int j, .int n]))) (hk9 : 0 ≤ kd σ rr ∧ kd σ rr ≤ 10) (hp : mf_places σ rr i n) : HM l yX7_part (ws_ yX7_part cX7_part 4 (some (.object "java/lang/Object"))) 10 260 0 0 G X N0 [.ref hh, .ref ac] M (PV (.ref (qR g rr)) M) PX0 := by
  refine HM.of hl [(0, .ref hh), (1, .ref ac)] (by decide +kernel) rfl (Nat.le_of_ble_eq_true rfl) ?_
  intro p e s m args below meth c C hname
  have hN := hR.N
  refine V_aload_n C dX7_part_0 rfl 0 rfl ?_
  refine V_aload_n C dX7_part_1 rfl 1 rfl ?_
  refine V_callU C (c_X5_row_12 l hl G X N0 M g σ z C9 c9 hC hR hI hh hhh ac x0 rr i b j n hr hac hk9) cs_X7_21_12 hhh (show CLS[12]? = some (RX8, TX8, 7) from rfl) rfl rfl ⟨Nat.le_of_ble_eq_true rfl, Nat.le_of_ble_eq_true rfl⟩ ⟨(by first | exact Nat.le_of_ble_eq_true rfl | omega | (dsimp only; omega) | (simp only [List.length_cons, List.length_nil]; omega)), (by first | exact Nat.le_of_ble_eq_true rfl | omega | (dsimp only; omega) | (simp only [List.length_cons, List.length_nil]; omega))⟩ (Nat.le_of_ble_eq_true rfl) dX7_part_2 (fun _ _ _ h => px0 h) ?_
  rintro _ _ ⟨rfl, rfl⟩
  refine V_st (st' := [.ref (qR g rr)]) rfl ?_
  obtain ⟨xr, hra, hrx, hrc⟩ := hR.rw hr
  obtain ⟨hkE, hkL⟩ := hI.k hr
  obtain ⟨hlE, hlL⟩ := hI.l hr
  refine V_astore_n C dX7_part_5 rfl (Nat.le_of_ble_eq_true rfl) [(0, .ref hh), (1, .ref ac), (2, .ref (qR g rr))] [1, 2, 0] rfl ?_
  refine V_aload_n C dX7_part_6 rfl 2 rfl ?_
  refine V_callSN C (c_X1_sizeOf l hl G X N0 M (qR g rr) (kd σ rr) hkL xr hra) cs_X7_25 rfl rfl ⟨Nat.le_of_ble_eq_true rfl, Nat.le_of_ble_eq_true rfl⟩ ⟨(by first | exact Nat.le_of_ble_eq_true rfl | omega | (dsimp only; omega) | (simp only [List.length_cons, List.length_nil]; omega)), (by first | exact Nat.le_of_ble_eq_true rfl | omega | (dsimp only; omega) | (simp only [List.length_cons, List.length_nil]; omega))⟩ (Nat.le_of_ble_eq_true rfl) dX7_part_7 (fun _ _ _ h => px0 h) ?_
  rintro _ _ ⟨rfl, rfl⟩
  refine V_st (st' := [.int (nI xr.1)]) rfl ?_
  refine V_st (st' := [.int (nI (ln σ rr))]) (by rw [hrx.1]) ?_
  refine V_istore_n C dX7_part_10 rfl (Nat.le_of_ble_eq_true rfl) [(0, .ref hh), (1, .ref ac), (2, .ref (qR g rr)), (3, .int (nI (ln σ rr)))] [1, 2, 3, 0] rfl ?_
  refine V_aload_n C dX7_part_11 rfl 1 rfl ?_
  refine V_getN C f_X7_29_3 hac (v := .int i) rfl dX7_part_12 ?_
  refine V_if_lt (tgt := 42) C dX7_part_15 (by decide) (fun c_15 => ?_) (fun c_15 => ?_)
  · exact absurd c_15 (((places_i hI hr).mp hp).1)
  · refine V_aload_n C dX7_part_18 rfl 1 rfl ?_
    refine V_pc (pc1 := 19) rfl ?_
    refine V_getN C f_X7_15_3 hac (v := .int n) rfl dX7_part_19 ?_
    refine V_if_lt (tgt := 42) C dX7_part_22 (by decide) (fun c_22 => ?_) (fun c_22 => ?_)
    · exact absurd c_22 (((places_i hI hr).mp hp).2.1)
    · refine V_aload_n C dX7_part_25 rfl 1 rfl ?_
      refine V_getN C f_X7_29_3 hac (v := .int i) rfl dX7_part_26 ?_
      refine V_i2l (v := i.toInt64) C dX7_part_29 rfl ?_
      refine V_aload_n C dX7_part_30 rfl 1 rfl ?_
      refine V_getN C f_X7_15_3 hac (v := .int n) rfl dX7_part_31 ?_
      refine V_i2l (v := n.toInt64) C dX7_part_34 rfl ?_
      refine V_ladd C dX7_part_35 ?_
      refine V_iload_n C dX7_part_36 rfl 3 rfl ?_
      refine V_i2l (v := (nI (ln σ rr)).toInt64) C dX7_part_37 rfl ?_
      refine V_lcmp C dX7_part_38 ?_
      refine V_pc (pc1 := 39) rfl ?_
      refine V_if_le (tgt := 51) C dX7_part_39 (by decide) (fun c_39 => ?_) (fun c_39 => ?_)
      · refine V_aload_n C dX7_part_51 rfl 2 rfl ?_
        refine V_st (st' := [va_rf (some (qR g rr))]) rfl ?_
        refine V_aret C (by first | exact Or.inl ⟨_, rfl⟩ | exact Or.inr ⟨_, rfl⟩) dX7_part_52 rfl ?_ (by first | exact Nat.le_of_ble_eq_true rfl | omega | (dsimp only; omega) | (simp only [List.length_cons, List.length_nil]; omega)) (by first | exact Nat.le_of_ble_eq_true rfl | omega | (dsimp only; omega) | (simp only [List.length_cons, List.length_nil]; omega))
        exact ⟨rfl, rfl⟩
      · exact absurd (show lg_cmp (i.toInt64 + n.toInt64) (nI (ln σ rr)).toInt64 > 0 from Int32.not_le.mp c_39) (((places_i hI hr).mp hp).2.2)
set_option maxHeartbeats 1000000 in
theorem c_X7_part_x12 (l : Launch) (hl : l.stackTraces = false) (G : hp_G) (X : Nat → Nat) (N0 : Nat) (M : hp_h) (g : RG) (σ : MS) (z : Nat → Int32) (C9 c9 : Nat) (hC : c9 + 1 = C9) (hR : REL G (X 0) g σ z (σ.1 31) C9 M) (hI : MI σ) (hh : Nat) (hhh : M hh = some (.inr (12, [.int 1, .ref (qN g), .int 0, .int 10, .ref (qN g), .ref (qN g), .ref (qN g)]))) (ac : Nat) (x0 : Int32) (rr : Nat) (i b j n : Int32) (hr : rr < nR σ) (hac : M ac = some (.inr (3, [.int x0, .int (nI rr), .int i, .int b, .int j, .int n]))) (hk9 : 0 ≤ kd σ rr ∧ kd σ rr ≤ 10) (hp : ¬ mf_places σ rr i n) : HM l yX7_part (ws_ yX7_part cX7_part 4 (some (.object "java/lang/Object"))) 10 260 1 7 G X N0 [.ref hh, .ref ac] M PFF (FLX G (X 0) g σ z C9 M σ 2) := by
  refine HM.of hl [(0, .ref hh), (1, .ref ac)] (by decide +kernel) rfl (Nat.le_of_ble_eq_true rfl) ?_
  intro p e s m args below meth c C hname
  have hN := hR.N
  refine V_aload_n C dX7_part_0 rfl 0 rfl ?_
  refine V_aload_n C dX7_part_1 rfl 1 rfl ?_
  refine V_callU C (c_X5_row_12 l hl G X N0 M g σ z C9 c9 hC hR hI hh hhh ac x0 rr i b j n hr hac hk9) cs_X7_21_12 hhh (show CLS[12]? = some (RX8, TX8, 7) from rfl) rfl rfl ⟨Nat.le_of_ble_eq_true rfl, Nat.le_of_ble_eq_true rfl⟩ ⟨(by first | exact Nat.le_of_ble_eq_true rfl | omega | (dsimp only; omega) | (simp only [List.length_cons, List.length_nil]; omega)), (by first | exact Nat.le_of_ble_eq_true rfl | omega | (dsimp only; omega) | (simp only [List.length_cons, List.length_nil]; omega))⟩ (Nat.le_of_ble_eq_true rfl) dX7_part_2 (fun _ _ _ h => px0 h) ?_
  rintro _ _ ⟨rfl, rfl⟩
  refine V_st (st' := [.ref (qR g rr)]) rfl ?_
  obtain ⟨xr, hra, hrx, hrc⟩ := hR.rw hr
  obtain ⟨hkE, hkL⟩ := hI.k hr
  obtain ⟨hlE, hlL⟩ := hI.l hr
  refine V_astore_n C dX7_part_5 rfl (Nat.le_of_ble_eq_true rfl) [(0, .ref hh), (1, .ref ac), (2, .ref (qR g rr))] [1, 2, 0] rfl ?_
  refine V_aload_n C dX7_part_6 rfl 2 rfl ?_
  refine V_callSN C (c_X1_sizeOf l hl G X N0 M (qR g rr) (kd σ rr) hkL xr hra) cs_X7_25 rfl rfl ⟨Nat.le_of_ble_eq_true rfl, Nat.le_of_ble_eq_true rfl⟩ ⟨(by first | exact Nat.le_of_ble_eq_true rfl | omega | (dsimp only; omega) | (simp only [List.length_cons, List.length_nil]; omega)), (by first | exact Nat.le_of_ble_eq_true rfl | omega | (dsimp only; omega) | (simp only [List.length_cons, List.length_nil]; omega))⟩ (Nat.le_of_ble_eq_true rfl) dX7_part_7 (fun _ _ _ h => px0 h) ?_
  rintro _ _ ⟨rfl, rfl⟩
  refine V_st (st' := [.int (nI xr.1)]) rfl ?_
  refine V_st (st' := [.int (nI (ln σ rr))]) (by rw [hrx.1]) ?_
  refine V_istore_n C dX7_part_10 rfl (Nat.le_of_ble_eq_true rfl) [(0, .ref hh), (1, .ref ac), (2, .ref (qR g rr)), (3, .int (nI (ln σ rr)))] [1, 2, 3, 0] rfl ?_
  refine V_aload_n C dX7_part_11 rfl 1 rfl ?_
  refine V_getN C f_X7_29_3 hac (v := .int i) rfl dX7_part_12 ?_
  refine V_if_lt (tgt := 42) C dX7_part_15 (by decide) (fun c_15 => ?_) (fun c_15 => ?_)
  · refine V_aload_n C dX7_part_42 rfl 0 rfl ?_
    refine V_pc (pc1 := 43) rfl ?_
    refine V_get C f_X7_3_12 hhh (v := .ref (qN g)) rfl dX7_part_43 ?_
    refine V_iconst (v := 2) C dX7_part_46 rfl ?_
    refine V_callVN C (c_X1_fail l hl G X N0 M (qN g) (qRl g) (qUl g) (qPl g) (qHs g) (qAn g) (σ.1 20) (σ.1 14) (σ.1 11) (σ.1 12) (σ.1 15) (z 0) (z 1) (z 2) (z 3) (z 4) (z 5) (σ.1 31) 2 hN) cs_X7_32_0 hN (show CLS[0]? = some (RX1, TX1, 17) from rfl) rfl rfl ⟨Nat.le_of_ble_eq_true rfl, Nat.le_of_ble_eq_true rfl⟩ ⟨(by first | exact Nat.le_of_ble_eq_true rfl | omega | (dsimp only; omega) | (simp only [List.length_cons, List.length_nil]; omega)), (by first | exact Nat.le_of_ble_eq_true rfl | omega | (dsimp only; omega) | (simp only [List.length_cons, List.length_nil]; omega))⟩ (Nat.le_of_ble_eq_true rfl) dX7_part_47 (fun _ _ _ h => px0 h) ?_
    rintro _ M_3 ⟨q_1, rfl, hq_2, hN_4, hF_5, fr_6, sh_7⟩
    refine V_st (st' := [.ref q_1]) rfl ?_
    refine V_athrow C hF_5 (show CLS[8]? = some (RX26, TX26, 7) from rfl) dX7_part_50 ?_
    exact VX_out C (fun z hz => by cases hz) (FLX.of hR hq_2 hN_4 hF_5 fr_6 sh_7) (by first | exact Nat.le_of_ble_eq_true rfl | omega | (dsimp only; omega) | (simp only [List.length_cons, List.length_nil]; omega)) (by first | exact Nat.le_of_ble_eq_true rfl | omega | (dsimp only; omega) | (simp only [List.length_cons, List.length_nil]; omega))
  · refine V_aload_n C dX7_part_18 rfl 1 rfl ?_
    refine V_pc (pc1 := 19) rfl ?_
    refine V_getN C f_X7_15_3 hac (v := .int n) rfl dX7_part_19 ?_
    refine V_if_lt (tgt := 42) C dX7_part_22 (by decide) (fun c_22 => ?_) (fun c_22 => ?_)
    · refine V_aload_n C dX7_part_42 rfl 0 rfl ?_
      refine V_get C f_X7_3_12 hhh (v := .ref (qN g)) rfl dX7_part_43 ?_
      refine V_iconst (v := 2) C dX7_part_46 rfl ?_
      refine V_callVN C (c_X1_fail l hl G X N0 M (qN g) (qRl g) (qUl g) (qPl g) (qHs g) (qAn g) (σ.1 20) (σ.1 14) (σ.1 11) (σ.1 12) (σ.1 15) (z 0) (z 1) (z 2) (z 3) (z 4) (z 5) (σ.1 31) 2 hN) cs_X7_32_0 hN (show CLS[0]? = some (RX1, TX1, 17) from rfl) rfl rfl ⟨Nat.le_of_ble_eq_true rfl, Nat.le_of_ble_eq_true rfl⟩ ⟨(by first | exact Nat.le_of_ble_eq_true rfl | omega | (dsimp only; omega) | (simp only [List.length_cons, List.length_nil]; omega)), (by first | exact Nat.le_of_ble_eq_true rfl | omega | (dsimp only; omega) | (simp only [List.length_cons, List.length_nil]; omega))⟩ (Nat.le_of_ble_eq_true rfl) dX7_part_47 (fun _ _ _ h => px0 h) ?_
      rintro _ M_10 ⟨q_8, rfl, hq_9, hN_11, hF_12, fr_13, sh_14⟩
      refine V_st (st' := [.ref q_8]) rfl ?_
      refine V_athrow C hF_12 (show CLS[8]? = some (RX26, TX26, 7) from rfl) dX7_part_50 ?_
      exact VX_out C (fun z hz => by cases hz) (FLX.of hR hq_9 hN_11 hF_12 fr_13 sh_14) (by first | exact Nat.le_of_ble_eq_true rfl | omega | (dsimp only; omega) | (simp only [List.length_cons, List.length_nil]; omega)) (by first | exact Nat.le_of_ble_eq_true rfl | omega | (dsimp only; omega) | (simp only [List.length_cons, List.length_nil]; omega))
    · refine V_aload_n C dX7_part_25 rfl 1 rfl ?_
      refine V_getN C f_X7_29_3 hac (v := .int i) rfl dX7_part_26 ?_
      refine V_i2l (v := i.toInt64) C dX7_part_29 rfl ?_
      refine V_aload_n C dX7_part_30 rfl 1 rfl ?_
      refine V_getN C f_X7_15_3 hac (v := .int n) rfl dX7_part_31 ?_
      refine V_i2l (v := n.toInt64) C dX7_part_34 rfl ?_
      refine V_ladd C dX7_part_35 ?_
      refine V_iload_n C dX7_part_36 rfl 3 rfl ?_
      refine V_i2l (v := (nI (ln σ rr)).toInt64) C dX7_part_37 rfl ?_
      refine V_lcmp C dX7_part_38 ?_
      refine V_pc (pc1 := 39) rfl ?_
      refine V_if_le (tgt := 51) C dX7_part_39 (by decide) (fun c_39 => ?_) (fun c_39 => ?_)
      · exact absurd ((places_i hI hr).mpr ⟨c_15, c_22, fun y => absurd y (Int32.not_lt.mpr c_39)⟩) hp
      · refine V_aload_n C dX7_part_42 rfl 0 rfl ?_
        refine V_get C f_X7_3_12 hhh (v := .ref (qN g)) rfl dX7_part_43 ?_
        refine V_iconst (v := 2) C dX7_part_46 rfl ?_
        refine V_callVN C (c_X1_fail l hl G X N0 M (qN g) (qRl g) (qUl g) (qPl g) (qHs g) (qAn g) (σ.1 20) (σ.1 14) (σ.1 11) (σ.1 12) (σ.1 15) (z 0) (z 1) (z 2) (z 3) (z 4) (z 5) (σ.1 31) 2 hN) cs_X7_32_0 hN (show CLS[0]? = some (RX1, TX1, 17) from rfl) rfl rfl ⟨Nat.le_of_ble_eq_true rfl, Nat.le_of_ble_eq_true rfl⟩ ⟨(by first | exact Nat.le_of_ble_eq_true rfl | omega | (dsimp only; omega) | (simp only [List.length_cons, List.length_nil]; omega)), (by first | exact Nat.le_of_ble_eq_true rfl | omega | (dsimp only; omega) | (simp only [List.length_cons, List.length_nil]; omega))⟩ (Nat.le_of_ble_eq_true rfl) dX7_part_47 (fun _ _ _ h => px0 h) ?_
        rintro _ M_17 ⟨q_15, rfl, hq_16, hN_18, hF_19, fr_20, sh_21⟩
        refine V_st (st' := [.ref q_15]) rfl ?_
        refine V_athrow C hF_19 (show CLS[8]? = some (RX26, TX26, 7) from rfl) dX7_part_50 ?_
        exact VX_out C (fun z hz => by cases hz) (FLX.of hR hq_16 hN_18 hF_19 fr_20 sh_21) (by first | exact Nat.le_of_ble_eq_true rfl | omega | (dsimp only; omega) | (simp only [List.length_cons, List.length_nil]; omega)) (by first | exact Nat.le_of_ble_eq_true rfl | omega | (dsimp only; omega) | (simp only [List.length_cons, List.length_nil]; omega))
set_option maxHeartbeats 1000000 in
theorem c_X7_part_17 (l : Launch) (hl : l.stackTraces = false) (G : hp_G) (X : Nat → Nat) (N0 : Nat) (M : hp_h) (g : RG) (σ : MS) (z : Nat → Int32) (C9 c9 : Nat) (hC : c9 + 1 = C9) (hR : REL G (X 0) g σ z (σ.1 31) C9 M) (hI : MI σ) (hh : Nat) (hhh : M hh = some (.inr (17, [.int 1, .ref (qN g), .int 0, .int 10, .ref (qN g), .ref (qN g), .ref (qN g)]))) (ac : Nat) (x0 : Int32) (rr : Nat) (i b j n : Int32) (hr : rr < nR σ) (hac : M ac = some (.inr (3, [.int x0, .int (nI rr), .int i, .int b, .int j, .int n]))) (hk9 : 0 ≤ kd σ rr ∧ kd σ rr ≤ 10) (hp : mf_places σ rr i n) : HM l yX7_part (ws_ yX7_part cX7_part 4 (some (.object "java/lang/Object"))) 10 260 0 0 G X N0 [.ref hh, .ref ac] M (PV (.ref (qR g rr)) M) PX0 := by
  refine HM.of hl [(0, .ref hh), (1, .ref ac)] (by decide +kernel) rfl (Nat.le_of_ble_eq_true rfl) ?_
  intro p e s m args below meth c C hname
  have hN := hR.N
  refine V_aload_n C dX7_part_0 rfl 0 rfl ?_
  refine V_aload_n C dX7_part_1 rfl 1 rfl ?_
  refine V_callU C (c_X5_row_17 l hl G X N0 M g σ z C9 c9 hC hR hI hh hhh ac x0 rr i b j n hr hac hk9) cs_X7_21_17 hhh (show CLS[17]? = some (RX14, TX14, 7) from rfl) rfl rfl ⟨Nat.le_of_ble_eq_true rfl, Nat.le_of_ble_eq_true rfl⟩ ⟨(by first | exact Nat.le_of_ble_eq_true rfl | omega | (dsimp only; omega) | (simp only [List.length_cons, List.length_nil]; omega)), (by first | exact Nat.le_of_ble_eq_true rfl | omega | (dsimp only; omega) | (simp only [List.length_cons, List.length_nil]; omega))⟩ (Nat.le_of_ble_eq_true rfl) dX7_part_2 (fun _ _ _ h => px0 h) ?_
  rintro _ _ ⟨rfl, rfl⟩
  refine V_st (st' := [.ref (qR g rr)]) rfl ?_
  obtain ⟨xr, hra, hrx, hrc⟩ := hR.rw hr
  obtain ⟨hkE, hkL⟩ := hI.k hr
  obtain ⟨hlE, hlL⟩ := hI.l hr
  refine V_astore_n C dX7_part_5 rfl (Nat.le_of_ble_eq_true rfl) [(0, .ref hh), (1, .ref ac), (2, .ref (qR g rr))] [1, 2, 0] rfl ?_
  refine V_aload_n C dX7_part_6 rfl 2 rfl ?_
  refine V_callSN C (c_X1_sizeOf l hl G X N0 M (qR g rr) (kd σ rr) hkL xr hra) cs_X7_25 rfl rfl ⟨Nat.le_of_ble_eq_true rfl, Nat.le_of_ble_eq_true rfl⟩ ⟨(by first | exact Nat.le_of_ble_eq_true rfl | omega | (dsimp only; omega) | (simp only [List.length_cons, List.length_nil]; omega)), (by first | exact Nat.le_of_ble_eq_true rfl | omega | (dsimp only; omega) | (simp only [List.length_cons, List.length_nil]; omega))⟩ (Nat.le_of_ble_eq_true rfl) dX7_part_7 (fun _ _ _ h => px0 h) ?_
  rintro _ _ ⟨rfl, rfl⟩
  refine V_st (st' := [.int (nI xr.1)]) rfl ?_
  refine V_st (st' := [.int (nI (ln σ rr))]) (by rw [hrx.1]) ?_
  refine V_istore_n C dX7_part_10 rfl (Nat.le_of_ble_eq_true rfl) [(0, .ref hh), (1, .ref ac), (2, .ref (qR g rr)), (3, .int (nI (ln σ rr)))] [1, 2, 3, 0] rfl ?_
  refine V_aload_n C dX7_part_11 rfl 1 rfl ?_
  refine V_getN C f_X7_29_3 hac (v := .int i) rfl dX7_part_12 ?_
  refine V_if_lt (tgt := 42) C dX7_part_15 (by decide) (fun c_15 => ?_) (fun c_15 => ?_)
  · exact absurd c_15 (((places_i hI hr).mp hp).1)
  · refine V_aload_n C dX7_part_18 rfl 1 rfl ?_
    refine V_pc (pc1 := 19) rfl ?_
    refine V_getN C f_X7_15_3 hac (v := .int n) rfl dX7_part_19 ?_
    refine V_if_lt (tgt := 42) C dX7_part_22 (by decide) (fun c_22 => ?_) (fun c_22 => ?_)
    · exact absurd c_22 (((places_i hI hr).mp hp).2.1)
    · refine V_aload_n C dX7_part_25 rfl 1 rfl ?_
      refine V_getN C f_X7_29_3 hac (v := .int i) rfl dX7_part_26 ?_
      refine V_i2l (v := i.toInt64) C dX7_part_29 rfl ?_
      refine V_aload_n C dX7_part_30 rfl 1 rfl ?_
      refine V_getN C f_X7_15_3 hac (v := .int n) rfl dX7_part_31 ?_
      refine V_i2l (v := n.toInt64) C dX7_part_34 rfl ?_
      refine V_ladd C dX7_part_35 ?_
      refine V_iload_n C dX7_part_36 rfl 3 rfl ?_
      refine V_i2l (v := (nI (ln σ rr)).toInt64) C dX7_part_37 rfl ?_
      refine V_lcmp C dX7_part_38 ?_
      refine V_pc (pc1 := 39) rfl ?_
      refine V_if_le (tgt := 51) C dX7_part_39 (by decide) (fun c_39 => ?_) (fun c_39 => ?_)
      · refine V_aload_n C dX7_part_51 rfl 2 rfl ?_
        refine V_st (st' := [va_rf (some (qR g rr))]) rfl ?_
        refine V_aret C (by first | exact Or.inl ⟨_, rfl⟩ | exact Or.inr ⟨_, rfl⟩) dX7_part_52 rfl ?_ (by first | exact Nat.le_of_ble_eq_true rfl | omega | (dsimp only; omega) | (simp only [List.length_cons, List.length_nil]; omega)) (by first | exact Nat.le_of_ble_eq_true rfl | omega | (dsimp only; omega) | (simp only [List.length_cons, List.length_nil]; omega))
        exact ⟨rfl, rfl⟩
      · exact absurd (show lg_cmp (i.toInt64 + n.toInt64) (nI (ln σ rr)).toInt64 > 0 from Int32.not_le.mp c_39) (((places_i hI hr).mp hp).2.2)
set_option maxHeartbeats 1000000 in
theorem c_X7_part_x17 (l : Launch) (hl : l.stackTraces = false) (G : hp_G) (X : Nat → Nat) (N0 : Nat) (M : hp_h) (g : RG) (σ : MS) (z : Nat → Int32) (C9 c9 : Nat) (hC : c9 + 1 = C9) (hR : REL G (X 0) g σ z (σ.1 31) C9 M) (hI : MI σ) (hh : Nat) (hhh : M hh = some (.inr (17, [.int 1, .ref (qN g), .int 0, .int 10, .ref (qN g), .ref (qN g), .ref (qN g)]))) (ac : Nat) (x0 : Int32) (rr : Nat) (i b j n : Int32) (hr : rr < nR σ) (hac : M ac = some (.inr (3, [.int x0, .int (nI rr), .int i, .int b, .int j, .int n]))) (hk9 : 0 ≤ kd σ rr ∧ kd σ rr ≤ 10) (hp : ¬ mf_places σ rr i n) : HM l yX7_part (ws_ yX7_part cX7_part 4 (some (.object "java/lang/Object"))) 10 260 1 7 G X N0 [.ref hh, .ref ac] M PFF (FLX G (X 0) g σ z C9 M σ 2) := by
  refine HM.of hl [(0, .ref hh), (1, .ref ac)] (by decide +kernel) rfl (Nat.le_of_ble_eq_true rfl) ?_
  intro p e s m args below meth c C hname
  have hN := hR.N
  refine V_aload_n C dX7_part_0 rfl 0 rfl ?_
  refine V_aload_n C dX7_part_1 rfl 1 rfl ?_
  refine V_callU C (c_X5_row_17 l hl G X N0 M g σ z C9 c9 hC hR hI hh hhh ac x0 rr i b j n hr hac hk9) cs_X7_21_17 hhh (show CLS[17]? = some (RX14, TX14, 7) from rfl) rfl rfl ⟨Nat.le_of_ble_eq_true rfl, Nat.le_of_ble_eq_true rfl⟩ ⟨(by first | exact Nat.le_of_ble_eq_true rfl | omega | (dsimp only; omega) | (simp only [List.length_cons, List.length_nil]; omega)), (by first | exact Nat.le_of_ble_eq_true rfl | omega | (dsimp only; omega) | (simp only [List.length_cons, List.length_nil]; omega))⟩ (Nat.le_of_ble_eq_true rfl) dX7_part_2 (fun _ _ _ h => px0 h) ?_
  rintro _ _ ⟨rfl, rfl⟩
  refine V_st (st' := [.ref (qR g rr)]) rfl ?_
  obtain ⟨xr, hra, hrx, hrc⟩ := hR.rw hr
  obtain ⟨hkE, hkL⟩ := hI.k hr
  obtain ⟨hlE, hlL⟩ := hI.l hr
  refine V_astore_n C dX7_part_5 rfl (Nat.le_of_ble_eq_true rfl) [(0, .ref hh), (1, .ref ac), (2, .ref (qR g rr))] [1, 2, 0] rfl ?_
  refine V_aload_n C dX7_part_6 rfl 2 rfl ?_
  refine V_callSN C (c_X1_sizeOf l hl G X N0 M (qR g rr) (kd σ rr) hkL xr hra) cs_X7_25 rfl rfl ⟨Nat.le_of_ble_eq_true rfl, Nat.le_of_ble_eq_true rfl⟩ ⟨(by first | exact Nat.le_of_ble_eq_true rfl | omega | (dsimp only; omega) | (simp only [List.length_cons, List.length_nil]; omega)), (by first | exact Nat.le_of_ble_eq_true rfl | omega | (dsimp only; omega) | (simp only [List.length_cons, List.length_nil]; omega))⟩ (Nat.le_of_ble_eq_true rfl) dX7_part_7 (fun _ _ _ h => px0 h) ?_
  rintro _ _ ⟨rfl, rfl⟩
  refine V_st (st' := [.int (nI xr.1)]) rfl ?_
  refine V_st (st' := [.int (nI (ln σ rr))]) (by rw [hrx.1]) ?_
  refine V_istore_n C dX7_part_10 rfl (Nat.le_of_ble_eq_true rfl) [(0, .ref hh), (1, .ref ac), (2, .ref (qR g rr)), (3, .int (nI (ln σ rr)))] [1, 2, 3, 0] rfl ?_
  refine V_aload_n C dX7_part_11 rfl 1 rfl ?_
  refine V_getN C f_X7_29_3 hac (v := .int i) rfl dX7_part_12 ?_
  refine V_if_lt (tgt := 42) C dX7_part_15 (by decide) (fun c_15 => ?_) (fun c_15 => ?_)
  · refine V_aload_n C dX7_part_42 rfl 0 rfl ?_
    refine V_pc (pc1 := 43) rfl ?_
    refine V_get C f_X7_3_17 hhh (v := .ref (qN g)) rfl dX7_part_43 ?_
    refine V_iconst (v := 2) C dX7_part_46 rfl ?_
    refine V_callVN C (c_X1_fail l hl G X N0 M (qN g) (qRl g) (qUl g) (qPl g) (qHs g) (qAn g) (σ.1 20) (σ.1 14) (σ.1 11) (σ.1 12) (σ.1 15) (z 0) (z 1) (z 2) (z 3) (z 4) (z 5) (σ.1 31) 2 hN) cs_X7_32_0 hN (show CLS[0]? = some (RX1, TX1, 17) from rfl) rfl rfl ⟨Nat.le_of_ble_eq_true rfl, Nat.le_of_ble_eq_true rfl⟩ ⟨(by first | exact Nat.le_of_ble_eq_true rfl | omega | (dsimp only; omega) | (simp only [List.length_cons, List.length_nil]; omega)), (by first | exact Nat.le_of_ble_eq_true rfl | omega | (dsimp only; omega) | (simp only [List.length_cons, List.length_nil]; omega))⟩ (Nat.le_of_ble_eq_true rfl) dX7_part_47 (fun _ _ _ h => px0 h) ?_
    rintro _ M_3 ⟨q_1, rfl, hq_2, hN_4, hF_5, fr_6, sh_7⟩
    refine V_st (st' := [.ref q_1]) rfl ?_
    refine V_athrow C hF_5 (show CLS[8]? = some (RX26, TX26, 7) from rfl) dX7_part_50 ?_
    exact VX_out C (fun z hz => by cases hz) (FLX.of hR hq_2 hN_4 hF_5 fr_6 sh_7) (by first | exact Nat.le_of_ble_eq_true rfl | omega | (dsimp only; omega) | (simp only [List.length_cons, List.length_nil]; omega)) (by first | exact Nat.le_of_ble_eq_true rfl | omega | (dsimp only; omega) | (simp only [List.length_cons, List.length_nil]; omega))
  · refine V_aload_n C dX7_part_18 rfl 1 rfl ?_
    refine V_pc (pc1 := 19) rfl ?_
    refine V_getN C f_X7_15_3 hac (v := .int n) rfl dX7_part_19 ?_
    refine V_if_lt (tgt := 42) C dX7_part_22 (by decide) (fun c_22 => ?_) (fun c_22 => ?_)
    · refine V_aload_n C dX7_part_42 rfl 0 rfl ?_
      refine V_get C f_X7_3_17 hhh (v := .ref (qN g)) rfl dX7_part_43 ?_
      refine V_iconst (v := 2) C dX7_part_46 rfl ?_
      refine V_callVN C (c_X1_fail l hl G X N0 M (qN g) (qRl g) (qUl g) (qPl g) (qHs g) (qAn g) (σ.1 20) (σ.1 14) (σ.1 11) (σ.1 12) (σ.1 15) (z 0) (z 1) (z 2) (z 3) (z 4) (z 5) (σ.1 31) 2 hN) cs_X7_32_0 hN (show CLS[0]? = some (RX1, TX1, 17) from rfl) rfl rfl ⟨Nat.le_of_ble_eq_true rfl, Nat.le_of_ble_eq_true rfl⟩ ⟨(by first | exact Nat.le_of_ble_eq_true rfl | omega | (dsimp only; omega) | (simp only [List.length_cons, List.length_nil]; omega)), (by first | exact Nat.le_of_ble_eq_true rfl | omega | (dsimp only; omega) | (simp only [List.length_cons, List.length_nil]; omega))⟩ (Nat.le_of_ble_eq_true rfl) dX7_part_47 (fun _ _ _ h => px0 h) ?_
      rintro _ M_10 ⟨q_8, rfl, hq_9, hN_11, hF_12, fr_13, sh_14⟩
      refine V_st (st' := [.ref q_8]) rfl ?_
      refine V_athrow C hF_12 (show CLS[8]? = some (RX26, TX26, 7) from rfl) dX7_part_50 ?_
      exact VX_out C (fun z hz => by cases hz) (FLX.of hR hq_9 hN_11 hF_12 fr_13 sh_14) (by first | exact Nat.le_of_ble_eq_true rfl | omega | (dsimp only; omega) | (simp only [List.length_cons, List.length_nil]; omega)) (by first | exact Nat.le_of_ble_eq_true rfl | omega | (dsimp only; omega) | (simp only [List.length_cons, List.length_nil]; omega))
    · refine V_aload_n C dX7_part_25 rfl 1 rfl ?_
      refine V_getN C f_X7_29_3 hac (v := .int i) rfl dX7_part_26 ?_
      refine V_i2l (v := i.toInt64) C dX7_part_29 rfl ?_
      refine V_aload_n C dX7_part_30 rfl 1 rfl ?_
      refine V_getN C f_X7_15_3 hac (v := .int n) rfl dX7_part_31 ?_
      refine V_i2l (v := n.toInt64) C dX7_part_34 rfl ?_
      refine V_ladd C dX7_part_35 ?_
      refine V_iload_n C dX7_part_36 rfl 3 rfl ?_
      refine V_i2l (v := (nI (ln σ rr)).toInt64) C dX7_part_37 rfl ?_
      refine V_lcmp C dX7_part_38 ?_
      refine V_pc (pc1 := 39) rfl ?_
      refine V_if_le (tgt := 51) C dX7_part_39 (by decide) (fun c_39 => ?_) (fun c_39 => ?_)
      · exact absurd ((places_i hI hr).mpr ⟨c_15, c_22, fun y => absurd y (Int32.not_lt.mpr c_39)⟩) hp
      · refine V_aload_n C dX7_part_42 rfl 0 rfl ?_
        refine V_get C f_X7_3_17 hhh (v := .ref (qN g)) rfl dX7_part_43 ?_
        refine V_iconst (v := 2) C dX7_part_46 rfl ?_
        refine V_callVN C (c_X1_fail l hl G X N0 M (qN g) (qRl g) (qUl g) (qPl g) (qHs g) (qAn g) (σ.1 20) (σ.1 14) (σ.1 11) (σ.1 12) (σ.1 15) (z 0) (z 1) (z 2) (z 3) (z 4) (z 5) (σ.1 31) 2 hN) cs_X7_32_0 hN (show CLS[0]? = some (RX1, TX1, 17) from rfl) rfl rfl ⟨Nat.le_of_ble_eq_true rfl, Nat.le_of_ble_eq_true rfl⟩ ⟨(by first | exact Nat.le_of_ble_eq_true rfl | omega | (dsimp only; omega) | (simp only [List.length_cons, List.length_nil]; omega)), (by first | exact Nat.le_of_ble_eq_true rfl | omega | (dsimp only; omega) | (simp only [List.length_cons, List.length_nil]; omega))⟩ (Nat.le_of_ble_eq_true rfl) dX7_part_47 (fun _ _ _ h => px0 h) ?_
        rintro _ M_17 ⟨q_15, rfl, hq_16, hN_18, hF_19, fr_20, sh_21⟩
        refine V_st (st' := [.ref q_15]) rfl ?_
        refine V_athrow C hF_19 (show CLS[8]? = some (RX26, TX26, 7) from rfl) dX7_part_50 ?_
        exact VX_out C (fun z hz => by cases hz) (FLX.of hR hq_16 hN_18 hF_19 fr_20 sh_21) (by first | exact Nat.le_of_ble_eq_true rfl | omega | (dsimp only; omega) | (simp only [List.length_cons, List.length_nil]; omega)) (by first | exact Nat.le_of_ble_eq_true rfl | omega | (dsimp only; omega) | (simp only [List.length_cons, List.length_nil]; omega))
set_option maxHeartbeats 1000000 in
theorem c_X7_part_18 (l : Launch) (hl : l.stackTraces = false) (G : hp_G) (X : Nat → Nat) (N0 : Nat) (M : hp_h) (g : RG) (σ : MS) (z : Nat → Int32) (C9 c9 : Nat) (hC : c9 + 1 = C9) (hR : REL G (X 0) g σ z (σ.1 31) C9 M) (hI : MI σ) (hh : Nat) (hhh : M hh = some (.inr (18, [.int 2, .ref (qN g), .int 1, .int 7, .ref (qN g), .ref (qN g), .ref (qN g)]))) (ac : Nat) (x0 : Int32) (rr : Nat) (i b j n : Int32) (hr : rr < nR σ) (hac : M ac = some (.inr (3, [.int x0, .int (nI rr), .int i, .int b, .int j, .int n]))) (hk9 : 1 ≤ kd σ rr ∧ kd σ rr ≤ 7) (hp : mf_places σ rr i n) : HM l yX7_part (ws_ yX7_part cX7_part 4 (some (.object "java/lang/Object"))) 10 260 0 0 G X N0 [.ref hh, .ref ac] M (PV (.ref (qR g rr)) M) PX0 := by
  refine HM.of hl [(0, .ref hh), (1, .ref ac)] (by decide +kernel) rfl (Nat.le_of_ble_eq_true rfl) ?_
  intro p e s m args below meth c C hname
  have hN := hR.N
  refine V_aload_n C dX7_part_0 rfl 0 rfl ?_
  refine V_aload_n C dX7_part_1 rfl 1 rfl ?_
  refine V_callU C (c_X5_row_18 l hl G X N0 M g σ z C9 c9 hC hR hI hh hhh ac x0 rr i b j n hr hac hk9) cs_X7_21_18 hhh (show CLS[18]? = some (RX15, TX15, 7) from rfl) rfl rfl ⟨Nat.le_of_ble_eq_true rfl, Nat.le_of_ble_eq_true rfl⟩ ⟨(by first | exact Nat.le_of_ble_eq_true rfl | omega | (dsimp only; omega) | (simp only [List.length_cons, List.length_nil]; omega)), (by first | exact Nat.le_of_ble_eq_true rfl | omega | (dsimp only; omega) | (simp only [List.length_cons, List.length_nil]; omega))⟩ (Nat.le_of_ble_eq_true rfl) dX7_part_2 (fun _ _ _ h => px0 h) ?_
  rintro _ _ ⟨rfl, rfl⟩
  refine V_st (st' := [.ref (qR g rr)]) rfl ?_
  obtain ⟨xr, hra, hrx, hrc⟩ := hR.rw hr
  obtain ⟨hkE, hkL⟩ := hI.k hr
  obtain ⟨hlE, hlL⟩ := hI.l hr
  refine V_astore_n C dX7_part_5 rfl (Nat.le_of_ble_eq_true rfl) [(0, .ref hh), (1, .ref ac), (2, .ref (qR g rr))] [1, 2, 0] rfl ?_
  refine V_aload_n C dX7_part_6 rfl 2 rfl ?_
  refine V_callSN C (c_X1_sizeOf l hl G X N0 M (qR g rr) (kd σ rr) hkL xr hra) cs_X7_25 rfl rfl ⟨Nat.le_of_ble_eq_true rfl, Nat.le_of_ble_eq_true rfl⟩ ⟨(by first | exact Nat.le_of_ble_eq_true rfl | omega | (dsimp only; omega) | (simp only [List.length_cons, List.length_nil]; omega)), (by first | exact Nat.le_of_ble_eq_true rfl | omega | (dsimp only; omega) | (simp only [List.length_cons, List.length_nil]; omega))⟩ (Nat.le_of_ble_eq_true rfl) dX7_part_7 (fun _ _ _ h => px0 h) ?_
  rintro _ _ ⟨rfl, rfl⟩
  refine V_st (st' := [.int (nI xr.1)]) rfl ?_
  refine V_st (st' := [.int (nI (ln σ rr))]) (by rw [hrx.1]) ?_
  refine V_istore_n C dX7_part_10 rfl (Nat.le_of_ble_eq_true rfl) [(0, .ref hh), (1, .ref ac), (2, .ref (qR g rr)), (3, .int (nI (ln σ rr)))] [1, 2, 3, 0] rfl ?_
  refine V_aload_n C dX7_part_11 rfl 1 rfl ?_
  refine V_getN C f_X7_29_3 hac (v := .int i) rfl dX7_part_12 ?_
  refine V_if_lt (tgt := 42) C dX7_part_15 (by decide) (fun c_15 => ?_) (fun c_15 => ?_)
  · exact absurd c_15 (((places_i hI hr).mp hp).1)
  · refine V_aload_n C dX7_part_18 rfl 1 rfl ?_
    refine V_pc (pc1 := 19) rfl ?_
    refine V_getN C f_X7_15_3 hac (v := .int n) rfl dX7_part_19 ?_
    refine V_if_lt (tgt := 42) C dX7_part_22 (by decide) (fun c_22 => ?_) (fun c_22 => ?_)
    · exact absurd c_22 (((places_i hI hr).mp hp).2.1)
    · refine V_aload_n C dX7_part_25 rfl 1 rfl ?_
      refine V_getN C f_X7_29_3 hac (v := .int i) rfl dX7_part_26 ?_
      refine V_i2l (v := i.toInt64) C dX7_part_29 rfl ?_
      refine V_aload_n C dX7_part_30 rfl 1 rfl ?_
      refine V_getN C f_X7_15_3 hac (v := .int n) rfl dX7_part_31 ?_
      refine V_i2l (v := n.toInt64) C dX7_part_34 rfl ?_
      refine V_ladd C dX7_part_35 ?_
      refine V_iload_n C dX7_part_36 rfl 3 rfl ?_
      refine V_i2l (v := (nI (ln σ rr)).toInt64) C dX7_part_37 rfl ?_
      refine V_lcmp C dX7_part_38 ?_
      refine V_pc (pc1 := 39) rfl ?_
      refine V_if_le (tgt := 51) C dX7_part_39 (by decide) (fun c_39 => ?_) (fun c_39 => ?_)
      · refine V_aload_n C dX7_part_51 rfl 2 rfl ?_
        refine V_st (st' := [va_rf (some (qR g rr))]) rfl ?_
        refine V_aret C (by first | exact Or.inl ⟨_, rfl⟩ | exact Or.inr ⟨_, rfl⟩) dX7_part_52 rfl ?_ (by first | exact Nat.le_of_ble_eq_true rfl | omega | (dsimp only; omega) | (simp only [List.length_cons, List.length_nil]; omega)) (by first | exact Nat.le_of_ble_eq_true rfl | omega | (dsimp only; omega) | (simp only [List.length_cons, List.length_nil]; omega))
        exact ⟨rfl, rfl⟩
      · exact absurd (show lg_cmp (i.toInt64 + n.toInt64) (nI (ln σ rr)).toInt64 > 0 from Int32.not_le.mp c_39) (((places_i hI hr).mp hp).2.2)
set_option maxHeartbeats 1000000 in
theorem c_X7_part_x18 (l : Launch) (hl : l.stackTraces = false) (G : hp_G) (X : Nat → Nat) (N0 : Nat) (M : hp_h) (g : RG) (σ : MS) (z : Nat → Int32) (C9 c9 : Nat) (hC : c9 + 1 = C9) (hR : REL G (X 0) g σ z (σ.1 31) C9 M) (hI : MI σ) (hh : Nat) (hhh : M hh = some (.inr (18, [.int 2, .ref (qN g), .int 1, .int 7, .ref (qN g), .ref (qN g), .ref (qN g)]))) (ac : Nat) (x0 : Int32) (rr : Nat) (i b j n : Int32) (hr : rr < nR σ) (hac : M ac = some (.inr (3, [.int x0, .int (nI rr), .int i, .int b, .int j, .int n]))) (hk9 : 1 ≤ kd σ rr ∧ kd σ rr ≤ 7) (hp : ¬ mf_places σ rr i n) : HM l yX7_part (ws_ yX7_part cX7_part 4 (some (.object "java/lang/Object"))) 10 260 1 7 G X N0 [.ref hh, .ref ac] M PFF (FLX G (X 0) g σ z C9 M σ 2) := by
  refine HM.of hl [(0, .ref hh), (1, .ref ac)] (by decide +kernel) rfl (Nat.le_of_ble_eq_true rfl) ?_
  intro p e s m args below meth c C hname
  have hN := hR.N
  refine V_aload_n C dX7_part_0 rfl 0 rfl ?_
  refine V_aload_n C dX7_part_1 rfl 1 rfl ?_
  refine V_callU C (c_X5_row_18 l hl G X N0 M g σ z C9 c9 hC hR hI hh hhh ac x0 rr i b j n hr hac hk9) cs_X7_21_18 hhh (show CLS[18]? = some (RX15, TX15, 7) from rfl) rfl rfl ⟨Nat.le_of_ble_eq_true rfl, Nat.le_of_ble_eq_true rfl⟩ ⟨(by first | exact Nat.le_of_ble_eq_true rfl | omega | (dsimp only; omega) | (simp only [List.length_cons, List.length_nil]; omega)), (by first | exact Nat.le_of_ble_eq_true rfl | omega | (dsimp only; omega) | (simp only [List.length_cons, List.length_nil]; omega))⟩ (Nat.le_of_ble_eq_true rfl) dX7_part_2 (fun _ _ _ h => px0 h) ?_
  rintro _ _ ⟨rfl, rfl⟩
  refine V_st (st' := [.ref (qR g rr)]) rfl ?_
  obtain ⟨xr, hra, hrx, hrc⟩ := hR.rw hr
  obtain ⟨hkE, hkL⟩ := hI.k hr
  obtain ⟨hlE, hlL⟩ := hI.l hr
  refine V_astore_n C dX7_part_5 rfl (Nat.le_of_ble_eq_true rfl) [(0, .ref hh), (1, .ref ac), (2, .ref (qR g rr))] [1, 2, 0] rfl ?_
  refine V_aload_n C dX7_part_6 rfl 2 rfl ?_
  refine V_callSN C (c_X1_sizeOf l hl G X N0 M (qR g rr) (kd σ rr) hkL xr hra) cs_X7_25 rfl rfl ⟨Nat.le_of_ble_eq_true rfl, Nat.le_of_ble_eq_true rfl⟩ ⟨(by first | exact Nat.le_of_ble_eq_true rfl | omega | (dsimp only; omega) | (simp only [List.length_cons, List.length_nil]; omega)), (by first | exact Nat.le_of_ble_eq_true rfl | omega | (dsimp only; omega) | (simp only [List.length_cons, List.length_nil]; omega))⟩ (Nat.le_of_ble_eq_true rfl) dX7_part_7 (fun _ _ _ h => px0 h) ?_
  rintro _ _ ⟨rfl, rfl⟩
  refine V_st (st' := [.int (nI xr.1)]) rfl ?_
  refine V_st (st' := [.int (nI (ln σ rr))]) (by rw [hrx.1]) ?_
  refine V_istore_n C dX7_part_10 rfl (Nat.le_of_ble_eq_true rfl) [(0, .ref hh), (1, .ref ac), (2, .ref (qR g rr)), (3, .int (nI (ln σ rr)))] [1, 2, 3, 0] rfl ?_
  refine V_aload_n C dX7_part_11 rfl 1 rfl ?_
  refine V_getN C f_X7_29_3 hac (v := .int i) rfl dX7_part_12 ?_
  refine V_if_lt (tgt := 42) C dX7_part_15 (by decide) (fun c_15 => ?_) (fun c_15 => ?_)
  · refine V_aload_n C dX7_part_42 rfl 0 rfl ?_
    refine V_pc (pc1 := 43) rfl ?_
    refine V_get C f_X7_3_18 hhh (v := .ref (qN g)) rfl dX7_part_43 ?_
    refine V_iconst (v := 2) C dX7_part_46 rfl ?_
    refine V_callVN C (c_X1_fail l hl G X N0 M (qN g) (qRl g) (qUl g) (qPl g) (qHs g) (qAn g) (σ.1 20) (σ.1 14) (σ.1 11) (σ.1 12) (σ.1 15) (z 0) (z 1) (z 2) (z 3) (z 4) (z 5) (σ.1 31) 2 hN) cs_X7_32_0 hN (show CLS[0]? = some (RX1, TX1, 17) from rfl) rfl rfl ⟨Nat.le_of_ble_eq_true rfl, Nat.le_of_ble_eq_true rfl⟩ ⟨(by first | exact Nat.le_of_ble_eq_true rfl | omega | (dsimp only; omega) | (simp only [List.length_cons, List.length_nil]; omega)), (by first | exact Nat.le_of_ble_eq_true rfl | omega | (dsimp only; omega) | (simp only [List.length_cons, List.length_nil]; omega))⟩ (Nat.le_of_ble_eq_true rfl) dX7_part_47 (fun _ _ _ h => px0 h) ?_
    rintro _ M_3 ⟨q_1, rfl, hq_2, hN_4, hF_5, fr_6, sh_7⟩
    refine V_st (st' := [.ref q_1]) rfl ?_
    refine V_athrow C hF_5 (show CLS[8]? = some (RX26, TX26, 7) from rfl) dX7_part_50 ?_
    exact VX_out C (fun z hz => by cases hz) (FLX.of hR hq_2 hN_4 hF_5 fr_6 sh_7) (by first | exact Nat.le_of_ble_eq_true rfl | omega | (dsimp only; omega) | (simp only [List.length_cons, List.length_nil]; omega)) (by first | exact Nat.le_of_ble_eq_true rfl | omega | (dsimp only; omega) | (simp only [List.length_cons, List.length_nil]; omega))
  · refine V_aload_n C dX7_part_18 rfl 1 rfl ?_
    refine V_pc (pc1 := 19) rfl ?_
    refine V_getN C f_X7_15_3 hac (v := .int n) rfl dX7_part_19 ?_
    refine V_if_lt (tgt := 42) C dX7_part_22 (by decide) (fun c_22 => ?_) (fun c_22 => ?_)
    · refine V_aload_n C dX7_part_42 rfl 0 rfl ?_
      refine V_get C f_X7_3_18 hhh (v := .ref (qN g)) rfl dX7_part_43 ?_
      refine V_iconst (v := 2) C dX7_part_46 rfl ?_
      refine V_callVN C (c_X1_fail l hl G X N0 M (qN g) (qRl g) (qUl g) (qPl g) (qHs g) (qAn g) (σ.1 20) (σ.1 14) (σ.1 11) (σ.1 12) (σ.1 15) (z 0) (z 1) (z 2) (z 3) (z 4) (z 5) (σ.1 31) 2 hN) cs_X7_32_0 hN (show CLS[0]? = some (RX1, TX1, 17) from rfl) rfl rfl ⟨Nat.le_of_ble_eq_true rfl, Nat.le_of_ble_eq_true rfl⟩ ⟨(by first | exact Nat.le_of_ble_eq_true rfl | omega | (dsimp only; omega) | (simp only [List.length_cons, List.length_nil]; omega)), (by first | exact Nat.le_of_ble_eq_true rfl | omega | (dsimp only; omega) | (simp only [List.length_cons, List.length_nil]; omega))⟩ (Nat.le_of_ble_eq_true rfl) dX7_part_47 (fun _ _ _ h => px0 h) ?_
      rintro _ M_10 ⟨q_8, rfl, hq_9, hN_11, hF_12, fr_13, sh_14⟩
      refine V_st (st' := [.ref q_8]) rfl ?_
      refine V_athrow C hF_12 (show CLS[8]? = some (RX26, TX26, 7) from rfl) dX7_part_50 ?_
      exact VX_out C (fun z hz => by cases hz) (FLX.of hR hq_9 hN_11 hF_12 fr_13 sh_14) (by first | exact Nat.le_of_ble_eq_true rfl | omega | (dsimp only; omega) | (simp only [List.length_cons, List.length_nil]; omega)) (by first | exact Nat.le_of_ble_eq_true rfl | omega | (dsimp only; omega) | (simp only [List.length_cons, List.length_nil]; omega))
    · refine V_aload_n C dX7_part_25 rfl 1 rfl ?_
      refine V_getN C f_X7_29_3 hac (v := .int i) rfl dX7_part_26 ?_
      refine V_i2l (v := i.toInt64) C dX7_part_29 rfl ?_
      refine V_aload_n C dX7_part_30 rfl 1 rfl ?_
      refine V_getN C f_X7_15_3 hac (v := .int n) rfl dX7_part_31 ?_
      refine V_i2l (v := n.toInt64) C dX7_part_34 rfl ?_
      refine V_ladd C dX7_part_35 ?_
      refine V_iload_n C dX7_part_36 rfl 3 rfl ?_
      refine V_i2l (v := (nI (ln σ rr)).toInt64) C dX7_part_37 rfl ?_
      refine V_lcmp C dX7_part_38 ?_
      refine V_pc (pc1 := 39) rfl ?_
      refine V_if_le (tgt := 51) C dX7_part_39 (by decide) (fun c_39 => ?_) (fun c_39 => ?_)
      · exact absurd ((places_i hI hr).mpr ⟨c_15, c_22, fun y => absurd y (Int32.not_lt.mpr c_39)⟩) hp
      · refine V_aload_n C dX7_part_42 rfl 0 rfl ?_
        refine V_get C f_X7_3_18 hhh (v := .ref (qN g)) rfl dX7_part_43 ?_
        refine V_iconst (v := 2) C dX7_part_46 rfl ?_
        refine V_callVN C (c_X1_fail l hl G X N0 M (qN g) (qRl g) (qUl g) (qPl g) (qHs g) (qAn g) (σ.1 20) (σ.1 14) (σ.1 11) (σ.1 12) (σ.1 15) (z 0) (z 1) (z 2) (z 3) (z 4) (z 5) (σ.1 31) 2 hN) cs_X7_32_0 hN (show CLS[0]? = some (RX1, TX1, 17) from rfl) rfl rfl ⟨Nat.le_of_ble_eq_true rfl, Nat.le_of_ble_eq_true rfl⟩ ⟨(by first | exact Nat.le_of_ble_eq_true rfl | omega | (dsimp only; omega) | (simp only [List.length_cons, List.length_nil]; omega)), (by first | exact Nat.le_of_ble_eq_true rfl | omega | (dsimp only; omega) | (simp only [List.length_cons, List.length_nil]; omega))⟩ (Nat.le_of_ble_eq_true rfl) dX7_part_47 (fun _ _ _ h => px0 h) ?_
        rintro _ M_17 ⟨q_15, rfl, hq_16, hN_18, hF_19, fr_20, sh_21⟩
        refine V_st (st' := [.ref q_15]) rfl ?_
        refine V_athrow C hF_19 (show CLS[8]? = some (RX26, TX26, 7) from rfl) dX7_part_50 ?_
        exact VX_out C (fun z hz => by cases hz) (FLX.of hR hq_16 hN_18 hF_19 fr_20 sh_21) (by first | exact Nat.le_of_ble_eq_true rfl | omega | (dsimp only; omega) | (simp only [List.length_cons, List.length_nil]; omega)) (by first | exact Nat.le_of_ble_eq_true rfl | omega | (dsimp only; omega) | (simp only [List.length_cons, List.length_nil]; omega))
set_option maxHeartbeats 1000000 in
theorem c_X7_part_k18 (l : Launch) (hl : l.stackTraces = false) (G : hp_G) (X : Nat → Nat) (N0 : Nat) (M : hp_h) (g : RG) (σ : MS) (z : Nat → Int32) (C9 c9 : Nat) (hC : c9 + 1 = C9) (hR : REL G (X 0) g σ z (σ.1 31) C9 M) (hI : MI σ) (hh : Nat) (hhh : M hh = some (.inr (18, [.int 2, .ref (qN g), .int 1, .int 7, .ref (qN g), .ref (qN g), .ref (qN g)]))) (ac : Nat) (x0 : Int32) (rr : Nat) (i b j n : Int32) (hr : rr < nR σ) (hac : M ac = some (.inr (3, [.int x0, .int (nI rr), .int i, .int b, .int j, .int n]))) (hk9 : ¬ (1 ≤ kd σ rr ∧ kd σ rr ≤ 7)) : HM l yX7_part (ws_ yX7_part cX7_part 4 (some (.object "java/lang/Object"))) 10 260 1 7 G X N0 [.ref hh, .ref ac] M PFF (FLX G (X 0) g σ z C9 M σ 4) := by
  refine HM.of hl [(0, .ref hh), (1, .ref ac)] (by decide +kernel) rfl (Nat.le_of_ble_eq_true rfl) ?_
  intro p e s m args below meth c C hname
  have hN := hR.N
  refine V_aload_n C dX7_part_0 rfl 0 rfl ?_
  refine V_aload_n C dX7_part_1 rfl 1 rfl ?_
  refine V_callU C (c_X5_row_x18 l hl G X N0 M g σ z C9 c9 hC hR hI hh hhh ac x0 rr i b j n hr hac hk9) cs_X7_21_18 hhh (show CLS[18]? = some (RX15, TX15, 7) from rfl) rfl rfl ⟨Nat.le_of_ble_eq_true rfl, Nat.le_of_ble_eq_true rfl⟩ ⟨(by first | exact Nat.le_of_ble_eq_true rfl | omega | (dsimp only; omega) | (simp only [List.length_cons, List.length_nil]; omega)), (by first | exact Nat.le_of_ble_eq_true rfl | omega | (dsimp only; omega) | (simp only [List.length_cons, List.length_nil]; omega))⟩ (Nat.le_of_ble_eq_true rfl) dX7_part_2 ?_ (fun _ _ h => h.elim)
  rintro q9 E9 M9 hx9
  obtain rfl := hx9.1
  exact VX_out C (fun z hz => by cases hz) hx9 (by first | exact Nat.le_of_ble_eq_true rfl | omega | (dsimp only; omega) | (simp only [List.length_cons, List.length_nil]; omega)) (by first | exact Nat.le_of_ble_eq_true rfl | omega | (dsimp only; omega) | (simp only [List.length_cons, List.length_nil]; omega))
set_option maxHeartbeats 1000000 in
theorem c_X7_part_19 (l : Launch) (hl : l.stackTraces = false) (G : hp_G) (X : Nat → Nat) (N0 : Nat) (M : hp_h) (g : RG) (σ : MS) (z : Nat → Int32) (C9 c9 : Nat) (hC : c9 + 1 = C9) (hR : REL G (X 0) g σ z (σ.1 31) C9 M) (hI : MI σ) (hh : Nat) (hhh : M hh = some (.inr (19, [.int 1, .ref (qN g), .int 0, .int 7, .ref (qN g), .ref (qN g), .ref (qN g)]))) (ac : Nat) (x0 : Int32) (rr : Nat) (i b j n : Int32) (hr : rr < nR σ) (hac : M ac = some (.inr (3, [.int x0, .int (nI rr), .int i, .int b, .int j, .int n]))) (hk9 : 0 ≤ kd σ rr ∧ kd σ rr ≤ 7) (hp : mf_places σ rr i n) : HM l yX7_part (ws_ yX7_part cX7_part 4 (some (.object "java/lang/Object"))) 10 260 0 0 G X N0 [.ref hh, .ref ac] M (PV (.ref (qR g rr)) M) PX0 := by
  refine HM.of hl [(0, .ref hh), (1, .ref ac)] (by decide +kernel) rfl (Nat.le_of_ble_eq_true rfl) ?_
  intro p e s m args below meth c C hname
  have hN := hR.N
  refine V_aload_n C dX7_part_0 rfl 0 rfl ?_
  refine V_aload_n C dX7_part_1 rfl 1 rfl ?_
  refine V_callU C (c_X5_row_19 l hl G X N0 M g σ z C9 c9 hC hR hI hh hhh ac x0 rr i b j n hr hac hk9) cs_X7_21_19 hhh (show CLS[19]? = some (RX16, TX16, 7) from rfl) rfl rfl ⟨Nat.le_of_ble_eq_true rfl, Nat.le_of_ble_eq_true rfl⟩ ⟨(by first | exact Nat.le_of_ble_eq_true rfl | omega | (dsimp only; omega) | (simp only [List.length_cons, List.length_nil]; omega)), (by first | exact Nat.le_of_ble_eq_true rfl | omega | (dsimp only; omega) | (simp only [List.length_cons, List.length_nil]; omega))⟩ (Nat.le_of_ble_eq_true rfl) dX7_part_2 (fun _ _ _ h => px0 h) ?_
  rintro _ _ ⟨rfl, rfl⟩
  refine V_st (st' := [.ref (qR g rr)]) rfl ?_
  obtain ⟨xr, hra, hrx, hrc⟩ := hR.rw hr
  obtain ⟨hkE, hkL⟩ := hI.k hr
  obtain ⟨hlE, hlL⟩ := hI.l hr
  refine V_astore_n C dX7_part_5 rfl (Nat.le_of_ble_eq_true rfl) [(0, .ref hh), (1, .ref ac), (2, .ref (qR g rr))] [1, 2, 0] rfl ?_
  refine V_aload_n C dX7_part_6 rfl 2 rfl ?_
  refine V_callSN C (c_X1_sizeOf l hl G X N0 M (qR g rr) (kd σ rr) hkL xr hra) cs_X7_25 rfl rfl ⟨Nat.le_of_ble_eq_true rfl, Nat.le_of_ble_eq_true rfl⟩ ⟨(by first | exact Nat.le_of_ble_eq_true rfl | omega | (dsimp only; omega) | (simp only [List.length_cons, List.length_nil]; omega)), (by first | exact Nat.le_of_ble_eq_true rfl | omega | (dsimp only; omega) | (simp only [List.length_cons, List.length_nil]; omega))⟩ (Nat.le_of_ble_eq_true rfl) dX7_part_7 (fun _ _ _ h => px0 h) ?_
  rintro _ _ ⟨rfl, rfl⟩
  refine V_st (st' := [.int (nI xr.1)]) rfl ?_
  refine V_st (st' := [.int (nI (ln σ rr))]) (by rw [hrx.1]) ?_
  refine V_istore_n C dX7_part_10 rfl (Nat.le_of_ble_eq_true rfl) [(0, .ref hh), (1, .ref ac), (2, .ref (qR g rr)), (3, .int (nI (ln σ rr)))] [1, 2, 3, 0] rfl ?_
  refine V_aload_n C dX7_part_11 rfl 1 rfl ?_
  refine V_getN C f_X7_29_3 hac (v := .int i) rfl dX7_part_12 ?_
  refine V_if_lt (tgt := 42) C dX7_part_15 (by decide) (fun c_15 => ?_) (fun c_15 => ?_)
  · exact absurd c_15 (((places_i hI hr).mp hp).1)
  · refine V_aload_n C dX7_part_18 rfl 1 rfl ?_
    refine V_pc (pc1 := 19) rfl ?_
    refine V_getN C f_X7_15_3 hac (v := .int n) rfl dX7_part_19 ?_
    refine V_if_lt (tgt := 42) C dX7_part_22 (by decide) (fun c_22 => ?_) (fun c_22 => ?_)
    · exact absurd c_22 (((places_i hI hr).mp hp).2.1)
    · refine V_aload_n C dX7_part_25 rfl 1 rfl ?_
      refine V_getN C f_X7_29_3 hac (v := .int i) rfl dX7_part_26 ?_
      refine V_i2l (v := i.toInt64) C dX7_part_29 rfl ?_
      refine V_aload_n C dX7_part_30 rfl 1 rfl ?_
      refine V_getN C f_X7_15_3 hac (v := .int n) rfl dX7_part_31 ?_
      refine V_i2l (v := n.toInt64) C dX7_part_34 rfl ?_
      refine V_ladd C dX7_part_35 ?_
      refine V_iload_n C dX7_part_36 rfl 3 rfl ?_
      refine V_i2l (v := (nI (ln σ rr)).toInt64) C dX7_part_37 rfl ?_
      refine V_lcmp C dX7_part_38 ?_
      refine V_pc (pc1 := 39) rfl ?_
      refine V_if_le (tgt := 51) C dX7_part_39 (by decide) (fun c_39 => ?_) (fun c_39 => ?_)
      · refine V_aload_n C dX7_part_51 rfl 2 rfl ?_
        refine V_st (st' := [va_rf (some (qR g rr))]) rfl ?_
        refine V_aret C (by first | exact Or.inl ⟨_, rfl⟩ | exact Or.inr ⟨_, rfl⟩) dX7_part_52 rfl ?_ (by first | exact Nat.le_of_ble_eq_true rfl | omega | (dsimp only; omega) | (simp only [List.length_cons, List.length_nil]; omega)) (by first | exact Nat.le_of_ble_eq_true rfl | omega | (dsimp only; omega) | (simp only [List.length_cons, List.length_nil]; omega))
        exact ⟨rfl, rfl⟩
      · exact absurd (show lg_cmp (i.toInt64 + n.toInt64) (nI (ln σ rr)).toInt64 > 0 from Int32.not_le.mp c_39) (((places_i hI hr).mp hp).2.2)
set_option maxHeartbeats 1000000 in
theorem c_X7_part_x19 (l : Launch) (hl : l.stackTraces = false) (G : hp_G) (X : Nat → Nat) (N0 : Nat) (M : hp_h) (g : RG) (σ : MS) (z : Nat → Int32) (C9 c9 : Nat) (hC : c9 + 1 = C9) (hR : REL G (X 0) g σ z (σ.1 31) C9 M) (hI : MI σ) (hh : Nat) (hhh : M hh = some (.inr (19, [.int 1, .ref (qN g), .int 0, .int 7, .ref (qN g), .ref (qN g), .ref (qN g)]))) (ac : Nat) (x0 : Int32) (rr : Nat) (i b j n : Int32) (hr : rr < nR σ) (hac : M ac = some (.inr (3, [.int x0, .int (nI rr), .int i, .int b, .int j, .int n]))) (hk9 : 0 ≤ kd σ rr ∧ kd σ rr ≤ 7) (hp : ¬ mf_places σ rr i n) : HM l yX7_part (ws_ yX7_part cX7_part 4 (some (.object "java/lang/Object"))) 10 260 1 7 G X N0 [.ref hh, .ref ac] M PFF (FLX G (X 0) g σ z C9 M σ 2) := by
  refine HM.of hl [(0, .ref hh), (1, .ref ac)] (by decide +kernel) rfl (Nat.le_of_ble_eq_true rfl) ?_
  intro p e s m args below meth c C hname
  have hN := hR.N
  refine V_aload_n C dX7_part_0 rfl 0 rfl ?_
  refine V_aload_n C dX7_part_1 rfl 1 rfl ?_
  refine V_callU C (c_X5_row_19 l hl G X N0 M g σ z C9 c9 hC hR hI hh hhh ac x0 rr i b j n hr hac hk9) cs_X7_21_19 hhh (show CLS[19]? = some (RX16, TX16, 7) from rfl) rfl rfl ⟨Nat.le_of_ble_eq_true rfl, Nat.le_of_ble_eq_true rfl⟩ ⟨(by first | exact Nat.le_of_ble_eq_true rfl | omega | (dsimp only; omega) | (simp only [List.length_cons, List.length_nil]; omega)), (by first | exact Nat.le_of_ble_eq_true rfl | omega | (dsimp only; omega) | (simp only [List.length_cons, List.length_nil]; omega))⟩ (Nat.le_of_ble_eq_true rfl) dX7_part_2 (fun _ _ _ h => px0 h) ?_
  rintro _ _ ⟨rfl, rfl⟩
  refine V_st (st' := [.ref (qR g rr)]) rfl ?_
  obtain ⟨xr, hra, hrx, hrc⟩ := hR.rw hr
  obtain ⟨hkE, hkL⟩ := hI.k hr
  obtain ⟨hlE, hlL⟩ := hI.l hr
  refine V_astore_n C dX7_part_5 rfl (Nat.le_of_ble_eq_true rfl) [(0, .ref hh), (1, .ref ac), (2, .ref (qR g rr))] [1, 2, 0] rfl ?_
  refine V_aload_n C dX7_part_6 rfl 2 rfl ?_
  refine V_callSN C (c_X1_sizeOf l hl G X N0 M (qR g rr) (kd σ rr) hkL xr hra) cs_X7_25 rfl rfl ⟨Nat.le_of_ble_eq_true rfl, Nat.le_of_ble_eq_true rfl⟩ ⟨(by first | exact Nat.le_of_ble_eq_true rfl | omega | (dsimp only; omega) | (simp only [List.length_cons, List.length_nil]; omega)), (by first | exact Nat.le_of_ble_eq_true rfl | omega | (dsimp only; omega) | (simp only [List.length_cons, List.length_nil]; omega))⟩ (Nat.le_of_ble_eq_true rfl) dX7_part_7 (fun _ _ _ h => px0 h) ?_
  rintro _ _ ⟨rfl, rfl⟩
  refine V_st (st' := [.int (nI xr.1)]) rfl ?_
  refine V_st (st' := [.int (nI (ln σ rr))]) (by rw [hrx.1]) ?_
  refine V_istore_n C dX7_part_10 rfl (Nat.le_of_ble_eq_true rfl) [(0, .ref hh), (1, .ref ac), (2, .ref (qR g rr)), (3, .int (nI (ln σ rr)))] [1, 2, 3, 0] rfl ?_
  refine V_aload_n C dX7_part_11 rfl 1 rfl ?_
  refine V_getN C f_X7_29_3 hac (v := .int i) rfl dX7_part_12 ?_
  refine V_if_lt (tgt := 42) C dX7_part_15 (by decide) (fun c_15 => ?_) (fun c_15 => ?_)
  · refine V_aload_n C dX7_part_42 rfl 0 rfl ?_
    refine V_pc (pc1 := 43) rfl ?_
    refine V_get C f_X7_3_19 hhh (v := .ref (qN g)) rfl dX7_part_43 ?_
    refine V_iconst (v := 2) C dX7_part_46 rfl ?_
    refine V_callVN C (c_X1_fail l hl G X N0 M (qN g) (qRl g) (qUl g) (qPl g) (qHs g) (qAn g) (σ.1 20) (σ.1 14) (σ.1 11) (σ.1 12) (σ.1 15) (z 0) (z 1) (z 2) (z 3) (z 4) (z 5) (σ.1 31) 2 hN) cs_X7_32_0 hN (show CLS[0]? = some (RX1, TX1, 17) from rfl) rfl rfl ⟨Nat.le_of_ble_eq_true rfl, Nat.le_of_ble_eq_true rfl⟩ ⟨(by first | exact Nat.le_of_ble_eq_true rfl | omega | (dsimp only; omega) | (simp only [List.length_cons, List.length_nil]; omega)), (by first | exact Nat.le_of_ble_eq_true rfl | omega | (dsimp only; omega) | (simp only [List.length_cons, List.length_nil]; omega))⟩ (Nat.le_of_ble_eq_true rfl) dX7_part_47 (fun _ _ _ h => px0 h) ?_
    rintro _ M_3 ⟨q_1, rfl, hq_2, hN_4, hF_5, fr_6, sh_7⟩
    refine V_st (st' := [.ref q_1]) rfl ?_
    refine V_athrow C hF_5 (show CLS[8]? = some (RX26, TX26, 7) from rfl) dX7_part_50 ?_
    exact VX_out C (fun z hz => by cases hz) (FLX.of hR hq_2 hN_4 hF_5 fr_6 sh_7) (by first | exact Nat.le_of_ble_eq_true rfl | omega | (dsimp only; omega) | (simp only [List.length_cons, List.length_nil]; omega)) (by first | exact Nat.le_of_ble_eq_true rfl | omega | (dsimp only; omega) | (simp only [List.length_cons, List.length_nil]; omega))
  · refine V_aload_n C dX7_part_18 rfl 1 rfl ?_
    refine V_pc (pc1 := 19) rfl ?_
    refine V_getN C f_X7_15_3 hac (v := .int n) rfl dX7_part_19 ?_
    refine V_if_lt (tgt := 42) C dX7_part_22 (by decide) (fun c_22 => ?_) (fun c_22 => ?_)
    · refine V_aload_n C dX7_part_42 rfl 0 rfl ?_
      refine V_get C f_X7_3_19 hhh (v := .ref (qN g)) rfl dX7_part_43 ?_
      refine V_iconst (v := 2) C dX7_part_46 rfl ?_
      refine V_callVN C (c_X1_fail l hl G X N0 M (qN g) (qRl g) (qUl g) (qPl g) (qHs g) (qAn g) (σ.1 20) (σ.1 14) (σ.1 11) (σ.1 12) (σ.1 15) (z 0) (z 1) (z 2) (z 3) (z 4) (z 5) (σ.1 31) 2 hN) cs_X7_32_0 hN (show CLS[0]? = some (RX1, TX1, 17) from rfl) rfl rfl ⟨Nat.le_of_ble_eq_true rfl, Nat.le_of_ble_eq_true rfl⟩ ⟨(by first | exact Nat.le_of_ble_eq_true rfl | omega | (dsimp only; omega) | (simp only [List.length_cons, List.length_nil]; omega)), (by first | exact Nat.le_of_ble_eq_true rfl | omega | (dsimp only; omega) | (simp only [List.length_cons, List.length_nil]; omega))⟩ (Nat.le_of_ble_eq_true rfl) dX7_part_47 (fun _ _ _ h => px0 h) ?_
      rintro _ M_10 ⟨q_8, rfl, hq_9, hN_11, hF_12, fr_13, sh_14⟩
      refine V_st (st' := [.ref q_8]) rfl ?_
      refine V_athrow C hF_12 (show CLS[8]? = some (RX26, TX26, 7) from rfl) dX7_part_50 ?_
      exact VX_out C (fun z hz => by cases hz) (FLX.of hR hq_9 hN_11 hF_12 fr_13 sh_14) (by first | exact Nat.le_of_ble_eq_true rfl | omega | (dsimp only; omega) | (simp only [List.length_cons, List.length_nil]; omega)) (by first | exact Nat.le_of_ble_eq_true rfl | omega | (dsimp only; omega) | (simp only [List.length_cons, List.length_nil]; omega))
    · refine V_aload_n C dX7_part_25 rfl 1 rfl ?_
      refine V_getN C f_X7_29_3 hac (v := .int i) rfl dX7_part_26 ?_
      refine V_i2l (v := i.toInt64) C dX7_part_29 rfl ?_
      refine V_aload_n C dX7_part_30 rfl 1 rfl ?_
      refine V_getN C f_X7_15_3 hac (v := .int n) rfl dX7_part_31 ?_
      refine V_i2l (v := n.toInt64) C dX7_part_34 rfl ?_
      refine V_ladd C dX7_part_35 ?_
      refine V_iload_n C dX7_part_36 rfl 3 rfl ?_
      refine V_i2l (v := (nI (ln σ rr)).toInt64) C dX7_part_37 rfl ?_
      refine V_lcmp C dX7_part_38 ?_
      refine V_pc (pc1 := 39) rfl ?_
      refine V_if_le (tgt := 51) C dX7_part_39 (by decide) (fun c_39 => ?_) (fun c_39 => ?_)
      · exact absurd ((places_i hI hr).mpr ⟨c_15, c_22, fun y => absurd y (Int32.not_lt.mpr c_39)⟩) hp
      · refine V_aload_n C dX7_part_42 rfl 0 rfl ?_
        refine V_get C f_X7_3_19 hhh (v := .ref (qN g)) rfl dX7_part_43 ?_
        refine V_iconst (v := 2) C dX7_part_46 rfl ?_
        refine V_callVN C (c_X1_fail l hl G X N0 M (qN g) (qRl g) (qUl g) (qPl g) (qHs g) (qAn g) (σ.1 20) (σ.1 14) (σ.1 11) (σ.1 12) (σ.1 15) (z 0) (z 1) (z 2) (z 3) (z 4) (z 5) (σ.1 31) 2 hN) cs_X7_32_0 hN (show CLS[0]? = some (RX1, TX1, 17) from rfl) rfl rfl ⟨Nat.le_of_ble_eq_true rfl, Nat.le_of_ble_eq_true rfl⟩ ⟨(by first | exact Nat.le_of_ble_eq_true rfl | omega | (dsimp only; omega) | (simp only [List.length_cons, List.length_nil]; omega)), (by first | exact Nat.le_of_ble_eq_true rfl | omega | (dsimp only; omega) | (simp only [List.length_cons, List.length_nil]; omega))⟩ (Nat.le_of_ble_eq_true rfl) dX7_part_47 (fun _ _ _ h => px0 h) ?_
        rintro _ M_17 ⟨q_15, rfl, hq_16, hN_18, hF_19, fr_20, sh_21⟩
        refine V_st (st' := [.ref q_15]) rfl ?_
        refine V_athrow C hF_19 (show CLS[8]? = some (RX26, TX26, 7) from rfl) dX7_part_50 ?_
        exact VX_out C (fun z hz => by cases hz) (FLX.of hR hq_16 hN_18 hF_19 fr_20 sh_21) (by first | exact Nat.le_of_ble_eq_true rfl | omega | (dsimp only; omega) | (simp only [List.length_cons, List.length_nil]; omega)) (by first | exact Nat.le_of_ble_eq_true rfl | omega | (dsimp only; omega) | (simp only [List.length_cons, List.length_nil]; omega))
set_option maxHeartbeats 1000000 in
theorem c_X7_part_k19 (l : Launch) (hl : l.stackTraces = false) (G : hp_G) (X : Nat → Nat) (N0 : Nat) (M : hp_h) (g : RG) (σ : MS) (z : Nat → Int32) (C9 c9 : Nat) (hC : c9 + 1 = C9) (hR : REL G (X 0) g σ z (σ.1 31) C9 M) (hI : MI σ) (hh : Nat) (hhh : M hh = some (.inr (19, [.int 1, .ref (qN g), .int 0, .int 7, .ref (qN g), .ref (qN g), .ref (qN g)]))) (ac : Nat) (x0 : Int32) (rr : Nat) (i b j n : Int32) (hr : rr < nR σ) (hac : M ac = some (.inr (3, [.int x0, .int (nI rr), .int i, .int b, .int j, .int n]))) (hk9 : ¬ (0 ≤ kd σ rr ∧ kd σ rr ≤ 7)) : HM l yX7_part (ws_ yX7_part cX7_part 4 (some (.object "java/lang/Object"))) 10 260 1 7 G X N0 [.ref hh, .ref ac] M PFF (FLX G (X 0) g σ z C9 M σ 4) := by
  refine HM.of hl [(0, .ref hh), (1, .ref ac)] (by decide +kernel) rfl (Nat.le_of_ble_eq_true rfl) ?_
  intro p e s m args below meth c C hname
  have hN := hR.N
  refine V_aload_n C dX7_part_0 rfl 0 rfl ?_
  refine V_aload_n C dX7_part_1 rfl 1 rfl ?_
  refine V_callU C (c_X5_row_x19 l hl G X N0 M g σ z C9 c9 hC hR hI hh hhh ac x0 rr i b j n hr hac hk9) cs_X7_21_19 hhh (show CLS[19]? = some (RX16, TX16, 7) from rfl) rfl rfl ⟨Nat.le_of_ble_eq_true rfl, Nat.le_of_ble_eq_true rfl⟩ ⟨(by first | exact Nat.le_of_ble_eq_true rfl | omega | (dsimp only; omega) | (simp only [List.length_cons, List.length_nil]; omega)), (by first | exact Nat.le_of_ble_eq_true rfl | omega | (dsimp only; omega) | (simp only [List.length_cons, List.length_nil]; omega))⟩ (Nat.le_of_ble_eq_true rfl) dX7_part_2 ?_ (fun _ _ h => h.elim)
  rintro q9 E9 M9 hx9
  obtain rfl := hx9.1
  exact VX_out C (fun z hz => by cases hz) hx9 (by first | exact Nat.le_of_ble_eq_true rfl | omega | (dsimp only; omega) | (simp only [List.length_cons, List.length_nil]; omega)) (by first | exact Nat.le_of_ble_eq_true rfl | omega | (dsimp only; omega) | (simp only [List.length_cons, List.length_nil]; omega))
theorem nI_ltN9 {a b : Nat} (ha : a < 2 ^ 31) (hb : b < 2 ^ 31) (h : ¬ nI b ≤ nI a) : a < b := Nat.not_le.mp (fun y => h ((nI_leI hb ha).mpr y))
theorem nI_inj9 {a b : Nat} (ha : a < 2 ^ 31) (hb : b < 2 ^ 31) (h : nI a = nI b) : a = b := (nI_eq ha hb).mp h
set_option maxHeartbeats 1000000 in
theorem c_X25_has (l : Launch) (hl : l.stackTraces = false) (G : hp_G) (X : Nat → Nat) (N0 : Nat) (M : hp_h) (g : RG) (σ : MS) (z : Nat → Int32) (C9 c9 : Nat) (hC : c9 + 1 = C9) (hR : REL G (X 0) g σ z (σ.1 31) C9 M) (hI : MI σ) (r : Nat) (hr : r < 60) : HM l yX25_has (ws_ yX25_has cX25_has 4 (some .boolean)) 1 20 0 0 G X N0 [.ref (qC g c9), .int (nI r)] M (fun v9 M' => M = M' ∧ ∃ w, v9 = some (.int w) ∧ (w = 0 ∨ w = 1) ∧ (w = 0 ↔ ∀ i, i < kn g c9 → wh g c9 i ≠ r)) PX0 := by
  refine HM.of hl [(0, .ref (qC g c9)), (1, .int (nI r))] (by decide +kernel) rfl (Nat.le_of_ble_eq_true rfl) ?_
  intro p e s m args below meth c C hname
  have hcC : c9 < C9 := by omega
  have hCc := hR.Cc hcC
  obtain ⟨mdK, hKl⟩ := hR.Kl hcC
  obtain ⟨fK, hKs, hKf⟩ := hR.Kls hcC
  obtain ⟨fW, hW, hWf⟩ := hR.W hcC
  refine V_iconst (v := 0) C dX25_has_0 rfl ?_
  refine V_istore_n C dX25_has_1 rfl (Nat.le_of_ble_eq_true rfl) [(0, .ref (qC g c9)), (1, .int (nI r)), (2, .int 0)] [1, 2, 0] rfl ?_
  refine V_iconst (v := 0) C dX25_has_2 rfl ?_
  refine V_istore_n C dX25_has_3 rfl (Nat.le_of_ble_eq_true rfl) [(0, .ref (qC g c9)), (1, .int (nI r)), (2, .int 0), (3, .int 0)] [1, 2, 3, 0] rfl ?_
  have hkn := hR.knR hcC
  have hR60 := hI.R.2
  have lp_4 : ∀ (fu9 : Nat) (q : Nat) (v2 : Int32), kn g c9 - q < fu9 → (q ≤ kn g c9) → (v2 = 0 ∨ v2 = 1) → (v2 = 0 ↔ ∀ i, i < q → wh g c9 i ≠ r) → V p l e { frames := 1, cells := 0, slots := 0, locals := 20 } s m args below meth c G N0 4 (QV below G N0 ((fun v9 M' => M = M' ∧ ∃ w, v9 = some (.int w) ∧ (w = 0 ∨ w = 1) ∧ (w = 0 ↔ ∀ i, i < kn g c9 → wh g c9 i ≠ r))) PX0 args s (0) (0)) (0) (0) M 4 [(0, .ref (qC g c9)), (1, .int (nI r)), (2, .int v2), (3, .int (nI q))] [] := by
    intro fu9
    induction fu9 with
    | zero => intro q v2  hfu9; exact absurd hfu9 (Nat.not_lt_zero _)
    | succ fu9 ih4 =>
      intro q v2  hfu9 hq hv01 hvw
      refine V_iload_n C dX25_has_4 rfl 3 rfl ?_
      refine V_aload_n C dX25_has_5 rfl 0 rfl ?_
      refine V_get C f_X25_18_4 hCc (v := .ref (qKl g c9)) rfl dX25_has_6 ?_
      refine V_callV C (c_J2_size l hl G X N0 M (qKl g c9) (qKe g c9) (kn g c9) mdK hKl) cs_X25_33_1 hKl (show CLS[1]? = some (RJ2, TJ2, 3) from rfl) rfl rfl ⟨Nat.le_of_ble_eq_true rfl, Nat.le_of_ble_eq_true rfl⟩ ⟨(by first | exact Nat.le_of_ble_eq_true rfl | omega | (dsimp only; omega) | (simp only [List.length_cons, List.length_nil]; omega)), (by first | exact Nat.le_of_ble_eq_true rfl | omega | (dsimp only; omega) | (simp only [List.length_cons, List.length_nil]; omega))⟩ (Nat.le_of_ble_eq_true rfl) dX25_has_9 (fun _ _ _ h => px0 h) ?_
      rintro _ _ ⟨rfl, rfl⟩
      refine V_st (st' := [.int (nI (kn g c9)), .int (nI q)]) rfl ?_
      refine V_icmp_ge (tgt := 41) C dX25_has_12 (by decide) (fun c_12 => ?_) (fun c_12 => ?_)
      · have hq3 : q = kn g c9 := by
          have := (nI_leI (by omega) (by omega)).mp c_12
          omega
        subst hq3
        obtain rfl | rfl := hv01
        · skip
          refine V_iload_n C dX25_has_41 rfl 2 rfl ?_
          refine V_zret C rfl dX25_has_42 rfl ?_ (by first | exact Nat.le_of_ble_eq_true rfl | omega | (dsimp only; omega) | (simp only [List.length_cons, List.length_nil]; omega)) (by first | exact Nat.le_of_ble_eq_true rfl | omega | (dsimp only; omega) | (simp only [List.length_cons, List.length_nil]; omega))
          exact ⟨rfl, _, rfl, Or.inl rfl, hvw⟩
        · skip
          refine V_iload_n C dX25_has_41 rfl 2 rfl ?_
          refine V_zret C rfl dX25_has_42 rfl ?_ (by first | exact Nat.le_of_ble_eq_true rfl | omega | (dsimp only; omega) | (simp only [List.length_cons, List.length_nil]; omega)) (by first | exact Nat.le_of_ble_eq_true rfl | omega | (dsimp only; omega) | (simp only [List.length_cons, List.length_nil]; omega))
          exact ⟨rfl, _, rfl, Or.inr rfl, hvw⟩
      · refine V_iload_n C dX25_has_15 rfl 2 rfl ?_
        refine V_if_ne (tgt := 29) C dX25_has_16 (by decide) (fun c_16 => ?_) (fun c_16 => ?_)
        · refine V_pc (pc1 := 29) rfl ?_
          refine V_iconst (v := 1) C dX25_has_29 rfl ?_
          refine V_goto (tgt := 34) C dX25_has_30 (by decide) ?_
          refine V_istore_n C dX25_has_34 rfl (Nat.le_of_ble_eq_true rfl) [(0, .ref (qC g c9)), (1, .int (nI r)), (2, .int 1), (3, .int (nI q))] [1, 2, 0, 3] rfl ?_
          refine V_iinc (v := nI (q + 1)) C dX25_has_35 (k := 3) rfl (nI_add q 1) (Nat.le_of_ble_eq_true rfl) [(0, .ref (qC g c9)), (1, .int (nI r)), (2, .int 1), (3, .int (nI (q + 1)))] [1, 2, 3, 0] rfl ?_
          refine V_goto (tgt := 4) C dX25_has_38 (by decide) ?_
          have hq2 : q < kn g c9 := (nI_ltN9 (by omega) (by omega) c_12)
          have hv1 : v2 = 1 := hv01.resolve_left c_16
          exact ih4 (q + 1) 1  (by omega) (by omega) (Or.inr rfl) (⟨fun y => absurd y (by decide), fun y => absurd (hvw.mpr (fun i hi => y i (by omega))) c_16⟩)
        · refine V_pc (pc1 := 19) rfl ?_
          refine V_aload_n C dX25_has_19 rfl 0 rfl ?_
          refine V_get C f_X25_22_4 hCc (v := .ref (qW g c9)) rfl dX25_has_20 ?_
          refine V_iload_n C dX25_has_23 rfl 3 rfl ?_
          refine V_iald C hW (vp_in_nI (show q < 60 by have := nI_ltN9 (a := q) (b := kn g c9) (by omega) (by omega) c_12; omega) (by omega)) dX25_has_24 ?_
          refine V_st (st' := [.int (fW q)]) (by rw [nI_clamp (by omega)]) ?_
          refine V_iload_n C dX25_has_25 rfl 1 rfl ?_
          refine V_icmp_ne (tgt := 33) C dX25_has_26 (by decide) (fun c_26 => ?_) (fun c_26 => ?_)
          · refine V_iconst (v := 0) C dX25_has_33 rfl ?_
            refine V_istore_n C dX25_has_34 rfl (Nat.le_of_ble_eq_true rfl) [(0, .ref (qC g c9)), (1, .int (nI r)), (2, .int 0), (3, .int (nI q))] [1, 2, 0, 3] rfl ?_
            refine V_iinc (v := nI (q + 1)) C dX25_has_35 (k := 3) rfl (nI_add q 1) (Nat.le_of_ble_eq_true rfl) [(0, .ref (qC g c9)), (1, .int (nI r)), (2, .int 0), (3, .int (nI (q + 1)))] [1, 2, 3, 0] rfl ?_
            refine V_goto (tgt := 4) C dX25_has_38 (by decide) ?_
            have hq2 : q < kn g c9 := (nI_ltN9 (by omega) (by omega) c_12)
            have hw9 : wh g c9 q ≠ r := fun y => c_26 ((hWf q hq2).trans (by rw [y]))
            exact ih4 (q + 1) 0  (by omega) (by omega) (Or.inl rfl) (⟨fun _ i hi => by by_cases e : i = q; { rw [e]; exact hw9 }; exact hvw.mp c_16 i (by omega), fun _ => rfl⟩)
          · refine V_iconst (v := 1) C dX25_has_29 rfl ?_
            refine V_goto (tgt := 34) C dX25_has_30 (by decide) ?_
            refine V_istore_n C dX25_has_34 rfl (Nat.le_of_ble_eq_true rfl) [(0, .ref (qC g c9)), (1, .int (nI r)), (2, .int 1), (3, .int (nI q))] [1, 2, 0, 3] rfl ?_
            refine V_iinc (v := nI (q + 1)) C dX25_has_35 (k := 3) rfl (nI_add q 1) (Nat.le_of_ble_eq_true rfl) [(0, .ref (qC g c9)), (1, .int (nI r)), (2, .int 1), (3, .int (nI (q + 1)))] [1, 2, 3, 0] rfl ?_
            refine V_goto (tgt := 4) C dX25_has_38 (by decide) ?_
            have hq2 : q < kn g c9 := (nI_ltN9 (by omega) (by omega) c_12)
            have hw9 : wh g c9 q = r := nI_inj9 (by have := (hR.2.2.2 c9 hcC).1 q hq2; omega) (by omega) ((hWf q hq2).symm.trans c_26)
            exact ih4 (q + 1) 1  (by omega) (by omega) (Or.inr rfl) (⟨fun y => absurd y (by decide), fun y => absurd hw9 (y q (by omega))⟩)
  refine V_loc (L' := [(0, .ref (qC g c9)), (1, .int (nI r)), (2, .int 0), (3, .int 0)]) [0, 1, 2, 3] rfl ?_
  exact lp_4 _ 0 0  (Nat.lt_succ_self _) (Nat.zero_le _) (Or.inl rfl) (⟨fun _ i hi => absurd hi (Nat.not_lt_zero i), fun _ => rfl⟩)
section K43
variable {G : hp_G} {E0 : Nat} {g : RG} {σ σ' : MS} {z z' : Nat → Int32} {ca ca' : Int32} {C : Nat} {Y : Nat → Prop} {M M1 M' : hp_h}
theorem RD.gK {c r e' q cap' t i j : Nat} (h : RD σ (gK g c r e' q cap') C t i j) : (RD σ g C t i j ∧ (gK g c r e' q cap').1 t i j = g.1 t i j) ∨ (t = 19 ∧ i = c ∧ j = kn g c) ∨ (t = 17 ∧ i = c ∧ j = 0) := by
  by_cases h5 : t = 19 ∧ i = c ∧ j = kn g c
  · exact Or.inr (Or.inl h5)
  · by_cases h2 : t = 17 ∧ i = c ∧ j = 0
    · exact Or.inr (Or.inr h2)
    · refine Or.inl ⟨?_, gK_o h2 h5⟩
      unfold RD at h ⊢
      split at h <;> (try dsimp only) <;> first | exact h | skip
      · refine ⟨h.1, h.2.1, ?_⟩
        have h3 := h.2.2
        by_cases hi : i = c
        · exact absurd ⟨rfl, hi, h.2.1⟩ h2
        · rwa [show gcp (_root_.Jvm.Pilot.CNativeSubsetLaw_law_r3584_2ddaea.gK g c r e' q cap') 17 i = gcp g 17 i from gK_cn (by simp [hi])] at h3
      · refine ⟨h.1, ?_⟩
        have h3 := h.2
        by_cases hi : i = c
        · subst hi
          rw [gK_k] at h3
          have : j ≠ kn g i := fun y => h5 ⟨rfl, rfl, y⟩
          omega
        · rwa [gK_kn hi] at h3
/-- a row's clone is kept -/
theorem RELY.kept (h : RELY G E0 g σ z ca C Y M) (hI : MI σ) (hm : MW σ) {c r n : Nat} (hc : c + 1 = C) (hr : r < nR σ) (hnew : ∀ i, i < kn g c → wh g c i ≠ r) {q e' cap' : Nat} {f f' : Nat → Option Nat} {x x' : vp_A} {fW : Nat → Int32}
    (hf1 : hp_fr (fun b => b = qW g c) M M1) (hs1 : hp_sh M M1) (hW1 : M1 (qW g c) = some (.inl (G.2 4, 60, .inl (upd fW (kn g c) (nI r))))) (hfW : ∀ k, k < kn g c → fW k = nI (wh g c k)) (hq : M q = none) (hq1 : M1 q = some (.inl (G.2 (kd σ r), x'))) (hx' : XT (kd σ r) (ln σ r) x')
    (hcv : ∀ i, i < ln σ r → cv x'.2 i = cv x.2 i) (hx : ∀ k, k < ln σ r → CE (nU σ) (nJ σ) (fun u => qU g u) (fun y => qJ g y) (kd σ r) x k (el σ r k)) (hY : ¬ Y r) (hL : LAd G E0 M1 M' (qKl g c) (qKe g c) (gcp g 17 c) (kn g c) q f e' cap' f') (hf : ∀ i, i < kn g c → f i = some (qK g c i)) (hs : hp_sh M1 M') :
    ∃ g', (∀ t i j, t ≠ 17 → t ≠ 19 → g'.1 t i j = g.1 t i j) ∧ RELY G E0 g' σ z ca C (fun r' => Y r' ∧ r' ≠ r) M' ∧ (∃ i, i < kn g' c ∧ wh g' c i = r) ∧ RKp n σ g C M σ g' C M' := by
  obtain ⟨l1, l2, l3, l4, l5⟩ := hL
  have hcC : c < C := by omega
  have d16 : RD σ g C 16 c 0 := ⟨hcC, rfl⟩
  have d18 : RD σ g C 18 c 0 := ⟨hcC, rfl⟩
  have hqr := h.fresh hq
  have nW : qKl g c ≠ qW g c := h.ne d16 d18 (by simp)
  have hfr : hp_fr (fun b => b = qKl g c ∨ (gcp g 17 c ≠ 0 ∧ b = qKe g c) ∨ b = qW g c) M M' := (hf1.weak (fun a y => Or.inr (Or.inr y))).trans (l5.weak (fun a y => y.elim Or.inl (fun y => Or.inr (Or.inl y))))
  have hnk : ∀ b, ¬ (b = qKl g c ∨ (gcp g 17 c ≠ 0 ∧ b = qKe g c)) → ∀ e, M1 b = some e → M' b = some e := fun b hb e he => l5 b e hb he
  have hq' : M' q = some (.inl (G.2 (kd σ r), x')) := hnk q (by
    rintro (y | ⟨y1, y2⟩)
    · exact hqr _ _ _ d16 y.symm
    · exact hqr 17 c 0 ⟨hcC, rfl, y1⟩ y2.symm) _ hq1
  have hW' : M' (qW g c) = some (.inl (G.2 4, 60, .inl (upd fW (kn g c) (nI r)))) := hnk _ (by
    rintro (y | ⟨y1, y2⟩)
    · exact nW y.symm
    · exact h.ne d18 (t' := 17) (i' := c) (j' := 0) ⟨hcC, rfl, y1⟩ (by simp) y2) _ hW1
  have he : (e' = qKe g c ∧ gcp g 17 c ≠ 0) ∨ (M e' = none ∧ e' ≠ q) := by
    rcases l4 with y | y
    · exact Or.inl y
    · refine Or.inr ⟨?_, fun e => ?_⟩
      · cases hm9 : M e' with
        | none => rfl
        | some w =>
          by_cases e9 : e' = qW g c
          · rw [e9, hW1] at y; cases y
          · have := hf1 _ _ e9 hm9; rw [y] at this; cases this
      · rw [e] at y; rw [y] at hq1; cases hq1
  have he2 : (e' = qKe g c ∧ gcp g 17 c ≠ 0) ∨ ((∀ t i j, RD σ g C t i j → g.1 t i j ≠ e') ∧ e' ≠ q) := he.imp id (fun y => ⟨h.fresh y.1, y.2⟩)
  have hx3 : r < kr σ c → ∀ k, k < ln σ r → el σ r k = sn σ c r k := fun hrk k hk => by
    obtain ⟨-, -, -, -, b5⟩ := h.2.2.2 c hcC
    have := b5 r hrk hnew (fun y => hY y.2) k hk
    rw [if_neg (by omega)] at this
    exact this.symm
  refine ⟨_, fun t i j h17 h19 => gK_o (fun y => h17 y.1) (fun y => h19 y.1), h.keep (q := q) (e := fun k => el σ r k) (fw := upd fW (kn g c) (nI r)) (f := f) hc hr hnew hqr l1 (fun i hi => by rw [l2 i hi]; exact hf i hi) l3 he2 hW' (fun i hi => (if_neg (Nat.ne_of_lt hi)).trans (hfW i hi)) (if_pos rfl) hq' hx' (fun k hk => (hx k hk).at_ (hcv k hk)) hx3 (hm r hr) hfr, ⟨kn g c, by rw [gK_k]; omega, gK_w⟩, RKp.mk9 ?_ hfr ?_ ?_ (hs1.trans hs)⟩
  · intro t i j h2 h4 h17 h19 hd h5 h15
    exact gK_o (fun y => h17 y.1) (fun y => h19 y.1)
  · rintro a (rfl | ⟨y, rfl⟩ | rfl)
    · exact ⟨16, c, 0, d16, rfl⟩
    · exact ⟨17, c, 0, ⟨hcC, rfl, y⟩, rfl⟩
    · exact ⟨18, c, 0, d18, rfl⟩
  · intro t i j hd
    rcases RD.gK hd with y | ⟨rfl, rfl, rfl⟩ | ⟨rfl, rfl, rfl⟩
    · exact Or.inl y
    · right; rw [gK_19]; exact hq
    · rw [gK_17]
      rcases he with ⟨y1, y2⟩ | ⟨y, -⟩
      · exact Or.inl ⟨⟨hcC, rfl, y2⟩, y1⟩
      · exact Or.inr y
end K43
theorem hp_sh_none {M M' : hp_h} (h : hp_sh M M') {q : Nat} (hq : M' q = none) : M q = none := by
  cases hm : M q with
  | none => rfl
  | some e => obtain ⟨e', h1, -⟩ := h q e hm; rw [hq] at h1; cases h1
set_option maxHeartbeats 1000000 in
theorem c_X25_keep (l : Launch) (hl : l.stackTraces = false) (G : hp_G) (X : Nat → Nat) (N0 : Nat) (M : hp_h) (g : RG) (σ : MS) (z : Nat → Int32) (C9 c9 : Nat) (hC : c9 + 1 = C9) (hR : REL G (X 0) g σ z (σ.1 31) C9 M) (hI : MI σ) (hm : MW σ) (r : Nat) (hr : r < nR σ) : HM l yX25_keep (ws_ yX25_keep cX25_keep 2 none) 7 161 2 130 G X N0 [.ref (qC g c9), .int (nI r)] M (fun v9 M' => v9 = none ∧ ∃ g', (∀ t i j, t ≠ 17 → t ≠ 19 → g'.1 t i j = g.1 t i j) ∧ REL G (X 0) g' σ z (σ.1 31) C9 M' ∧ (∃ i, i < kn g' c9 ∧ wh g' c9 i = r) ∧ RKp (nR σ) σ g C9 M σ g' C9 M') PX0 := by
  refine HM.of hl [(0, .ref (qC g c9)), (1, .int (nI r))] (by decide +kernel) rfl (Nat.le_of_ble_eq_true rfl) ?_
  intro p e s m args below meth c C hname
  have hcC : c9 < C9 := by omega
  have hCc := hR.Cc hcC
  obtain ⟨mdK, hKl⟩ := hR.Kl hcC
  obtain ⟨fK, hKs, hKf⟩ := hR.Kls hcC
  obtain ⟨fW, hW, hWf⟩ := hR.W hcC
  have hN := hR.N
  obtain ⟨mdR, hRl⟩ := hR.Rl
  obtain ⟨fR, hRs, hRf⟩ := hR.Rls
  refine V_aload_n C dX25_keep_0 rfl 0 rfl ?_
  refine V_iload_n C dX25_keep_1 rfl 1 rfl ?_
  refine V_callV C (c_X25_has l hl G X N0 M g σ z C9 c9 hC hR hI r (by have := hI.R.2; omega)) cs_X25_42_4 hCc (show CLS[4]? = some (RX25, TX25, 8) from rfl) rfl rfl ⟨Nat.le_of_ble_eq_true rfl, Nat.le_of_ble_eq_true rfl⟩ ⟨(by first | exact Nat.le_of_ble_eq_true rfl | omega | (dsimp only; omega) | (simp only [List.length_cons, List.length_nil]; omega)), (by first | exact Nat.le_of_ble_eq_true rfl | omega | (dsimp only; omega) | (simp only [List.length_cons, List.length_nil]; omega))⟩ (Nat.le_of_ble_eq_true rfl) dX25_keep_2 (fun _ _ _ h => px0 h) ?_
  rintro _ _ ⟨rfl, w9, rfl, hw01, hww⟩
  refine V_st (st' := [.int w9]) rfl ?_
  refine V_if_ne (tgt := 43) C dX25_keep_5 (by decide) (fun c_5 => ?_) (fun c_5 => ?_)
  · refine V_vret C dX25_keep_43 rfl ?_ (by first | exact Nat.le_of_ble_eq_true rfl | omega | (dsimp only; omega) | (simp only [List.length_cons, List.length_nil]; omega)) (by first | exact Nat.le_of_ble_eq_true rfl | omega | (dsimp only; omega) | (simp only [List.length_cons, List.length_nil]; omega))
    refine ⟨rfl, g, fun _ _ _ _ _ => rfl, hR, Classical.byContradiction (fun y => c_5 (hww.mpr (fun i hi e => y ⟨i, hi, e⟩))), RKp.rf⟩
  · have hnew := hww.mp c_5
    have hknr := hR.knr hcC hr hnew
    have hR60 := hI.R.2
    have hfr : hp_fr (fun b => b = qW g c9) M M := hp_fr.rf
    have hsh : hp_sh M M := hp_sh.rf
    obtain ⟨xr, hra, hrx, hrc⟩ := hR.rw hr
    obtain ⟨hkE, hkL⟩ := hI.k hr
    obtain ⟨hlE, hlL⟩ := hI.l hr
    have hneRW : qR g r ≠ qW g c9 := hR.ne (t := 5) (i := r) (j := 0) (t' := 18) (i' := c9) (j' := 0) ⟨hr, rfl⟩ ⟨hcC, rfl⟩ (by simp)
    refine V_aload_n C dX25_keep_8 rfl 0 rfl ?_
    refine V_get C f_X25_22_4 hCc (v := .ref (qW g c9)) rfl dX25_keep_9 ?_
    refine V_aload_n C dX25_keep_12 rfl 0 rfl ?_
    refine V_get C f_X25_18_4 hCc (v := .ref (qKl g c9)) rfl dX25_keep_13 ?_
    refine V_callV C (c_J2_size l hl G X N0 M (qKl g c9) (qKe g c9) (kn g c9) mdK hKl) cs_X25_33_1 hKl (show CLS[1]? = some (RJ2, TJ2, 3) from rfl) rfl rfl ⟨Nat.le_of_ble_eq_true rfl, Nat.le_of_ble_eq_true rfl⟩ ⟨(by first | exact Nat.le_of_ble_eq_true rfl | omega | (dsimp only; omega) | (simp only [List.length_cons, List.length_nil]; omega)), (by first | exact Nat.le_of_ble_eq_true rfl | omega | (dsimp only; omega) | (simp only [List.length_cons, List.length_nil]; omega))⟩ (Nat.le_of_ble_eq_true rfl) dX25_keep_16 (fun _ _ _ h => px0 h) ?_
    rintro _ _ ⟨rfl, rfl⟩
    refine V_st (st' := [.int (nI (kn g c9)), .ref (qW g c9)]) rfl ?_
    refine V_iload_n C dX25_keep_19 rfl 1 rfl ?_
    refine V_iast C hW (vp_in_nI (show kn g c9 < 60 by omega) (by omega)) dX25_keep_20 ?_
    refine V_heap (M' := hp_up M (qW g c9) (.inl (G.2 4, 60, .inl (upd fW (kn g c9) (nI r))))) (by rw [nI_clamp (by omega)]) ?_
    obtain ⟨M_1, eM_2⟩ : ∃ z, z = hp_up M (qW g c9) (.inl (G.2 4, 60, .inl (upd fW (kn g c9) (nI r)))) := ⟨_, rfl⟩
    refine V_heap (M' := M_1) eM_2.symm ?_
    have ho_3 : M_1 (qN g) = some (.inr (0, [.ref (qRl g), .ref (qUl g), .ref (qPl g), .ref (qHs g), .int (σ.1 20), .int (σ.1 14), .int (σ.1 11), .int (σ.1 12), .int (σ.1 15), .int (z 0), .int (z 1), .int (z 2), .int (z 3), .int (z 4), .int (z 5), .int (σ.1 31), .ref (qAn g)])) := by rw [eM_2, hp_up_n (hp_ne hN hW (by simp))]; exact hN
    have ho_4 : M_1 (qRl g) = some (.inr (1, [.int mdR, .ref (qRe g), .int (nI (nR σ))])) := by rw [eM_2, hp_up_n (hp_ne hRl hW (by simp))]; exact hRl
    have ho_5 : M_1 (qC g c9) = some (.inr (4, [.int (σ.2.1 21 c9), .int (σ.2.1 25 c9), .ref (qKl g c9), .ref (qW g c9), .int (σ.2.1 24 c9), .int (σ.2.1 23 c9 - σ.2.1 24 c9), .int (σ.2.1 22 c9), .ref (qN g)])) := by rw [eM_2, hp_up_n (hp_ne hCc hW (by simp))]; exact hCc
    have ho_6 : M_1 (qKl g c9) = some (.inr (1, [.int mdK, .ref (qKe g c9), .int (nI (kn g c9))])) := by rw [eM_2, hp_up_n (hp_ne hKl hW (by simp))]; exact hKl
    have ha_7 : M_1 (qR g r) = some (.inl (G.2 (kd σ r), xr)) := by rw [eM_2, hp_up_n hneRW]; exact hra
    have eM_2_s : M_1 (qW g c9) = some (.inl (G.2 4, 60, .inl (upd fW (kn g c9) (nI r)))) := by rw [eM_2]; exact hp_up_s
    have fr_8 := hp_fr.set hfr (Or.inl rfl) eM_2
    have sh_9 := hp_sh.set hsh hW eM_2 rfl
    have hRs2 := hRs.fr fr_8 (hR.ne (t := 1) (i := 0) (j := 0) (t' := 18) (i' := c9) (j' := 0) ⟨by decide, rfl, rfl⟩ ⟨hcC, rfl⟩ (by simp)) (fun y => hR.ne (t := 2) (i := 0) (j := 0) (t' := 18) (i' := c9) (j' := 0) ⟨rfl, rfl, y⟩ ⟨hcC, rfl⟩ (by simp))
    refine V_pc (pc1 := 21) rfl ?_
    refine V_aload_n C dX25_keep_21 rfl 0 rfl ?_
    refine V_get C f_X25_18_4 ho_5 (v := .ref (qKl g c9)) rfl dX25_keep_22 ?_
    refine V_aload_n C dX25_keep_25 rfl 0 rfl ?_
    refine V_get C f_X25_3_4 ho_5 (v := .ref (qN g)) rfl dX25_keep_26 ?_
    refine V_getN C f_X25_30_0 ho_3 (v := .ref (qRl g)) rfl dX25_keep_29 ?_
    refine V_iload_n C dX25_keep_32 rfl 1 rfl ?_
    refine V_callV C (c_J2_get l hl G X N0 M_1 (qRl g) (qRe g) (nR σ) (gcp g 2 0) mdR fR ho_4 (hRs2.2.2.1 (by have := hRs2.2.2.2.1; omega)) (by have := hRs2.2.2.2.2; omega) hRs2.2.2.2.1 r (qR g r) hr (hRf r hr)) cs_X25_46_1 ho_4 (show CLS[1]? = some (RJ2, TJ2, 3) from rfl) rfl rfl ⟨Nat.le_of_ble_eq_true rfl, Nat.le_of_ble_eq_true rfl⟩ ⟨(by first | exact Nat.le_of_ble_eq_true rfl | omega | (dsimp only; omega) | (simp only [List.length_cons, List.length_nil]; omega)), (by first | exact Nat.le_of_ble_eq_true rfl | omega | (dsimp only; omega) | (simp only [List.length_cons, List.length_nil]; omega))⟩ (Nat.le_of_ble_eq_true rfl) dX25_keep_33 (fun _ _ _ h => px0 h) ?_
    rintro _ _ ⟨rfl, rfl⟩
    refine V_st (st' := [.ref (qR g r), .ref (qKl g c9)]) rfl ?_
    refine V_callSN C (c_X1_cloneOf l hl G X N0 M_1 (qR g r) (kd σ r) (ln σ r) xr hkL ha_7 hrx (by omega) (fun i hi => (hR.ev hI hrc (hm r hr) i hi).sh sh_9)) cs_X25_50 rfl rfl ⟨Nat.le_of_ble_eq_true rfl, Nat.le_of_ble_eq_true rfl⟩ ⟨(by first | exact Nat.le_of_ble_eq_true rfl | omega | (dsimp only; omega) | (simp only [List.length_cons, List.length_nil]; omega)), (by first | exact Nat.le_of_ble_eq_true rfl | omega | (dsimp only; omega) | (simp only [List.length_cons, List.length_nil]; omega))⟩ (Nat.le_of_ble_eq_true rfl) dX25_keep_36 (fun _ _ _ h => px0 h) ?_
    rintro _ M_17 ⟨q_10, x_11, rfl, hq_12, hn_13, hx_14, hcv_15, frC_16⟩
    refine V_st (st' := [.ref q_10, .ref (qKl g c9)]) rfl ?_
    have ho_18 : M_17 (qN g) = some (.inr (0, [.ref (qRl g), .ref (qUl g), .ref (qPl g), .ref (qHs g), .int (σ.1 20), .int (σ.1 14), .int (σ.1 11), .int (σ.1 12), .int (σ.1 15), .int (z 0), .int (z 1), .int (z 2), .int (z 3), .int (z 4), .int (z 5), .int (σ.1 31), .ref (qAn g)])) := frC_16 _ _ (fun y => y) ho_3
    have ho_19 : M_17 (qRl g) = some (.inr (1, [.int mdR, .ref (qRe g), .int (nI (nR σ))])) := frC_16 _ _ (fun y => y) ho_4
    have ho_20 : M_17 (qC g c9) = some (.inr (4, [.int (σ.2.1 21 c9), .int (σ.2.1 25 c9), .ref (qKl g c9), .ref (qW g c9), .int (σ.2.1 24 c9), .int (σ.2.1 23 c9 - σ.2.1 24 c9), .int (σ.2.1 22 c9), .ref (qN g)])) := frC_16 _ _ (fun y => y) ho_5
    have ho_21 : M_17 (qKl g c9) = some (.inr (1, [.int mdK, .ref (qKe g c9), .int (nI (kn g c9))])) := frC_16 _ _ (fun y => y) ho_6
    have ha_22 : M_17 (qW g c9) = some (.inl (G.2 4, 60, .inl (upd fW (kn g c9) (nI r)))) := frC_16 _ _ (fun y => y) eM_2_s
    have ha_23 : M_17 (qR g r) = some (.inl (G.2 (kd σ r), xr)) := frC_16 _ _ (fun y => y) ha_7
    have fr_24 := fr_8.trans (frC_16.weak (fun _ y => y.elim))
    have sh_25 := sh_9.trans (hp_sh.of frC_16)
    have hqM_26 : M q_10 = none := hp_sh_none sh_9 hq_12
    obtain ⟨zc, zs, hzc, hzs, bc, bs9⟩ := add_z (kn g c9) (gcp g 17 c9)
    have bs := bs9 (by omega)
    have hS_28 := hKs.fr fr_24 (hR.ne (t := 16) (i := c9) (j := 0) (t' := 18) (i' := c9) (j' := 0) ⟨hcC, rfl⟩ ⟨hcC, rfl⟩ (by simp)) (fun y => hR.ne (t := 17) (i := c9) (j := 0) (t' := 18) (i' := c9) (j' := 0) ⟨hcC, rfl, y⟩ ⟨hcC, rfl⟩ (by simp))
    refine V_callV C (c_J2_addZ (X := X) (N0 := N0) l hl (qKl g c9) (qKe g c9) (gcp g 17 c9) (kn g c9) q_10 zc zs fK hzc hzs hS_28 (by omega) (AS_row hkL hn_13) (fun i hi y hy => (hR.elK hI hcC hKf i hi y hy).sh0 sh_25)) cs_X25_54_1 ho_21 (show CLS[1]? = some (RJ2, TJ2, 3) from rfl) rfl rfl ⟨Nat.le_of_ble_eq_true rfl, Nat.le_of_ble_eq_true rfl⟩ ⟨(by first | exact Nat.le_of_ble_eq_true rfl | omega | (dsimp only; omega) | (simp only [List.length_cons, List.length_nil]; omega)), (by first | exact Nat.le_of_ble_eq_true rfl | omega | (dsimp only; omega) | (simp only [List.length_cons, List.length_nil]; omega))⟩ (Nat.le_of_ble_eq_true rfl) dX25_keep_39 (fun _ _ _ h => px0 h) ?_
    rintro _ M_27 ⟨rfl, e', cap', f', hLA, hshA⟩
    refine V_st (st' := [.int 1]) rfl ?_
    refine V_pop C dX25_keep_42 rfl ?_
    refine V_vret C dX25_keep_43 rfl ?_ (by first | exact Nat.le_of_ble_eq_true rfl | omega | (dsimp only; omega) | (simp only [List.length_cons, List.length_nil]; omega)) (by first | exact Nat.le_of_ble_eq_true rfl | omega | (dsimp only; omega) | (simp only [List.length_cons, List.length_nil]; omega))
    obtain ⟨g', k1, k2, k3, k4⟩ := hR.kept (n := nR σ) hI hm hC hr hnew fr_24 sh_25 ha_22 hWf hqM_26 hn_13 hx_14 hcv_15 hrc (fun y => y) hLA hKf hshA
    rw [show (fun r' : Nat => False ∧ r' ≠ r) = (fun _ => False) from funext (fun _ => by simp)] at k2
    exact ⟨rfl, g', k1, k2, k3, k4⟩
