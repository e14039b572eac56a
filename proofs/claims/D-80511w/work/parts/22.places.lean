set_option maxRecDepth 100000
/-- the type of the ints of kind k -/
def KTY (k : Nat) : FieldType := if k = 0 then .boolean else if k = 1 then .byte else if k = 2 then .char else if k = 3 then .short else .int
/-- place i of the array x of kind k tells b: units' and rows of ints' addresses ua, ja, so many of each -/
def CE (U J : Nat) (ua ja : Nat → Nat) (k : Nat) (x : vp_A) (i : Nat) (b : Int64) : Prop :=
  (k ≤ 4 ∧ ∃ f, x.2 = .inl f ∧ b = (f i).toInt64 ∧ fits (KTY k) (.int (f i)) = true) ∨ (k = 5 ∧ ∃ f, x.2 = .inr (.inl f) ∧ b = f i) ∨ (k = 6 ∧ ∃ f, x.2 = .inr (.inr (.inl f)) ∧ b = mfB (f i) ∧ f i = mfO b.toInt32) ∨
  (k = 7 ∧ ∃ f, x.2 = .inr (.inr (.inr (.inl f))) ∧ b = mdB (f i) ∧ f i = mdO b) ∨ ((k = 8 ∨ k = 9) ∧ ∃ f, x.2 = .inr (.inr (.inr (.inr f))) ∧ ((b = -1 ∧ f i = none) ∨ ∃ u, u < U ∧ b = lN u ∧ f i = some (ua u))) ∨
  (k = 10 ∧ ∃ f, x.2 = .inr (.inr (.inr (.inr f))) ∧ ((b = -1 ∧ f i = none) ∨ ∃ j, j < J ∧ b = lN j ∧ f i = some (ja j)))
/-- the units lie where ua says -/
def UH (M : hp_h) (ua : Nat → Nat) (U : Nat) : Prop := U ≤ 30 ∧ ∀ u, u < U → ∃ ci y, (ci = 5 ∨ ci = 6 ∨ ci = 7) ∧ M (ua u) = some (.inr (ci, [.int (nI u), .int y]))
theorem CE.k0 {U J : Nat} {ua ja : Nat → Nat} {k : Nat} {x : vp_A} {i : Nat} {b : Int64} (h : CE U J ua ja k x i b) (hk : k ≤ 4) : ∃ f, x.2 = .inl f ∧ b = (f i).toInt64 ∧ fits (KTY k) (.int (f i)) = true := by
  rcases h with h | h | h | h | h | h
  · exact h.2
  all_goals (have := h.1; omega)
theorem CE.k5 {U J : Nat} {ua ja : Nat → Nat} {x : vp_A} {i : Nat} {b : Int64} (h : CE U J ua ja 5 x i b) : ∃ f, x.2 = .inr (.inl f) ∧ b = f i := by
  rcases h with h | h | h | h | h | h
  · have := h.1; omega
  · exact h.2
  all_goals (have := h.1; omega)
theorem CE.k6 {U J : Nat} {ua ja : Nat → Nat} {x : vp_A} {i : Nat} {b : Int64} (h : CE U J ua ja 6 x i b) : ∃ f, x.2 = .inr (.inr (.inl f)) ∧ b = mfB (f i) ∧ f i = mfO b.toInt32 := by
  rcases h with h | h | h | h | h | h
  · have := h.1; omega
  · have := h.1; omega
  · exact h.2
  all_goals (have := h.1; omega)
theorem CE.k7 {U J : Nat} {ua ja : Nat → Nat} {x : vp_A} {i : Nat} {b : Int64} (h : CE U J ua ja 7 x i b) : ∃ f, x.2 = .inr (.inr (.inr (.inl f))) ∧ b = mdB (f i) ∧ f i = mdO b := by
  rcases h with h | h | h | h | h | h
  · have := h.1; omega
  · have := h.1; omega
  · have := h.1; omega
  · exact h.2
  all_goals (have := h.1; omega)
theorem CE.k8 {U J : Nat} {ua ja : Nat → Nat} {k : Nat} {x : vp_A} {i : Nat} {b : Int64} (h : CE U J ua ja k x i b) (hk : k = 8 ∨ k = 9) : ∃ f, x.2 = .inr (.inr (.inr (.inr f))) ∧ ((b = -1 ∧ f i = none) ∨ ∃ u, u < U ∧ b = lN u ∧ f i = some (ua u)) := by
  rcases h with h | h | h | h | h | h
  · have := h.1; omega
  · have := h.1; omega
  · have := h.1; omega
  · have := h.1; omega
  · exact h.2
  · have := h.1; omega
theorem CE.k10 {U J : Nat} {ua ja : Nat → Nat} {x : vp_A} {i : Nat} {b : Int64} (h : CE U J ua ja 10 x i b) : ∃ f, x.2 = .inr (.inr (.inr (.inr f))) ∧ ((b = -1 ∧ f i = none) ∨ ∃ j, j < J ∧ b = lN j ∧ f i = some (ja j)) := by
  rcases h with h | h | h | h | h | h
  · have := h.1; omega
  · have := h.1; omega
  · have := h.1; omega
  · have := h.1; omega
  · have := h.1; omega
  · exact h.2
theorem mfB_mfI (v : UInt32) : (mfI v).toInt64 = mfB v := by
  unfold mfI mfB
  split <;> rfl
theorem vp_eta {x : vp_A} {n : Nat} {c} (h1 : x.1 = n) (h2 : x.2 = c) : x = (n, c) := by subst h1; subst h2; rfl
def mRe (k : Nat) (b : Int64) : UInt64 := if k = 6 then mWide (mfO b.toInt32) else mdO b
theorem mf_order_real {k : Nat} (hk : k = 6 ∨ k = 7) (p q : Int64) : mf_order (nI k) p q = mf_oD (mRe k p) (mRe k q) := by
  rcases hk with rfl | rfl
  · unfold mf_order mf_oF mf_oD mRe
    rw [if_pos (show nI 6 = 6 from rfl), if_pos (show (6 : Nat) = 6 from rfl), if_pos (show (6 : Nat) = 6 from rfl), wide_cmp]
  · rfl
theorem mf_order_bits {k : Nat} (hk : k ≤ 10) (h : ¬ (k = 6 ∨ k = 7)) (p q : Int64) : mf_order (nI k) p q = if p < q then -1 else if q < p then 1 else 0 := by
  have h6 : ¬ nI k = 6 := fun z => h (Or.inl ((nI_eq (b := 6) (by omega) (by omega)).mp z))
  have h7 : ¬ nI k = 7 := fun z => h (Or.inr ((nI_eq (b := 7) (by omega) (by omega)).mp z))
  unfold mf_order
  rw [if_neg h6, if_neg h7]
theorem mf_eq_real {σ : MS} {k : Nat} (hk : k = 6 ∨ k = 7) (p q : Int64) : mf_eq σ (nI k) p q ↔ FP.dcmp (mRe k p) (mRe k q) = some .eq := by
  rcases hk with rfl | rfl
  · unfold mRe
    rw [if_pos rfl, if_pos rfl, wide_cmp]
    unfold mf_eq
    constructor
    · rintro (h | h | h | h)
      · exact h.2
      · exact absurd h.1 (by decide)
      · exact absurd rfl h.1
      · exact absurd h.1 (by decide)
    · exact fun h => Or.inl ⟨rfl, h⟩
  · unfold mRe
    unfold mf_eq
    constructor
    · rintro (h | h | h | h)
      · exact absurd h.1 (by decide)
      · exact h.2
      · exact absurd rfl h.2.1
      · exact absurd h.1 (by decide)
    · exact fun h => Or.inr (Or.inl ⟨rfl, h⟩)
theorem mf_eq_bits {σ : MS} {k : Nat} (hk : k ≤ 9) (h : ¬ (k = 6 ∨ k = 7)) (p q : Int64) : mf_eq σ (nI k) p q ↔ p = q := by
  have h6 : ¬ nI k = 6 := fun z => h (Or.inl ((nI_eq (b := 6) (by omega) (by omega)).mp z))
  have h7 : ¬ nI k = 7 := fun z => h (Or.inr ((nI_eq (b := 7) (by omega) (by omega)).mp z))
  have h10 : ¬ nI k = 10 := fun z => absurd ((nI_eq (b := 10) (by omega) (by omega)).mp z) (by omega)
  unfold mf_eq
  constructor
  · rintro (z | z | z | z)
    · exact absurd z.1 h6
    · exact absurd z.1 h7
    · exact z.2.2.2
    · exact absurd z.1 h10
  · exact fun z => Or.inr (Or.inr (Or.inl ⟨h6, h7, Or.inl h10, z⟩))
theorem c_X1_get {U J : Nat} {ua ja : Nat → Nat} (l : Launch) (hl : l.stackTraces = false) (G : hp_G) (X : Nat → Nat) (N0 : Nat) (M : hp_h) (a k i : Nat) (x : vp_A) (b : Int64) (hk : k ≤ 9) (ha : M a = some (.inl (G.2 k, x))) (hn : x.1 ≤ 60000000) (hi : i < x.1) (hc : CE U J ua ja k x i b) (hu : UH M ua U) : HM l yX1_get (ws_ yX1_get cX1_get 4 (some .long)) 4 90 0 0 G X N0 [.ref a, .int (nI i)] M (PV (.long b) M) PX0 := by
  match k, hk with
  | 0, _ =>
    obtain ⟨f, h1, h2, h3⟩ := hc.k0 (by omega)
    obtain ⟨n, y⟩ := x
    subst h1; subst h2
    have h3 : f i = 0 ∨ f i = 1 := by simpa [KTY, fits] using h3
    have e : (f i).toInt64 = if f i = 0 then 0 else 1 := by rcases h3 with z | z <;> rw [z] <;> rfl
    rw [e]
    exact c_X1_get_0 l hl G X N0 M a n i f ha hn hi
  | 1, _ =>
    obtain ⟨f, h1, h2, h3⟩ := hc.k0 (by omega)
    obtain ⟨n, y⟩ := x
    subst h1; subst h2
    exact c_X1_get_1 l hl G X N0 M a n i f ha hn hi
  | 2, _ =>
    obtain ⟨f, h1, h2, h3⟩ := hc.k0 (by omega)
    obtain ⟨n, y⟩ := x
    subst h1; subst h2
    exact c_X1_get_2 l hl G X N0 M a n i f ha hn hi
  | 3, _ =>
    obtain ⟨f, h1, h2, h3⟩ := hc.k0 (by omega)
    obtain ⟨n, y⟩ := x
    subst h1; subst h2
    exact c_X1_get_3 l hl G X N0 M a n i f ha hn hi
  | 4, _ =>
    obtain ⟨f, h1, h2, h3⟩ := hc.k0 (by omega)
    obtain ⟨n, y⟩ := x
    subst h1; subst h2
    exact c_X1_get_4 l hl G X N0 M a n i f ha hn hi
  | 5, _ =>
    obtain ⟨f, h1, h2⟩ := hc.k5
    obtain ⟨n, y⟩ := x
    subst h1; subst h2
    exact c_X1_get_5 l hl G X N0 M a n i f ha hn hi
  | 6, _ =>
    obtain ⟨f, h1, h2, h3⟩ := hc.k6
    obtain ⟨n, y⟩ := x
    subst h1; rw [h2, ← mfB_mfI]
    exact c_X1_get_6 l hl G X N0 M a n i f ha hn hi
  | 7, _ =>
    obtain ⟨f, h1, h2, h3⟩ := hc.k7
    obtain ⟨n, y⟩ := x
    subst h1; rw [h2]
    exact c_X1_get_7 l hl G X N0 M a n i f ha hn hi
  | 8, _ =>
    obtain ⟨f, h1, ⟨h2, h3⟩ | ⟨u, h2, h3, h4⟩⟩ := hc.k8 (by omega)
    · obtain ⟨n, y⟩ := x
      subst h1; rw [h2]
      exact c_X1_get_8n l hl G X N0 M a n i f ha hn hi h3
    · obtain ⟨n, y⟩ := x
      subst h1; rw [h3, ← nI_l (by have := hu.1; omega)]
      obtain ⟨ci, v, hci, hM⟩ := hu.2 u h2
      rcases hci with rfl | rfl | rfl
      · exact c_X1_get_8_5 l hl G X N0 M a n i f ha hn hi _ _ _ h4 hM
      · exact c_X1_get_8_6 l hl G X N0 M a n i f ha hn hi _ _ _ h4 hM
      · exact c_X1_get_8_7 l hl G X N0 M a n i f ha hn hi _ _ _ h4 hM
  | 9, _ =>
    obtain ⟨f, h1, ⟨h2, h3⟩ | ⟨u, h2, h3, h4⟩⟩ := hc.k8 (by omega)
    · obtain ⟨n, y⟩ := x
      subst h1; rw [h2]
      exact c_X1_get_9n l hl G X N0 M a n i f ha hn hi h3
    · obtain ⟨n, y⟩ := x
      subst h1; rw [h3, ← nI_l (by have := hu.1; omega)]
      obtain ⟨ci, v, hci, hM⟩ := hu.2 u h2
      rcases hci with rfl | rfl | rfl
      · exact c_X1_get_9_5 l hl G X N0 M a n i f ha hn hi _ _ _ h4 hM
      · exact c_X1_get_9_6 l hl G X N0 M a n i f ha hn hi _ _ _ h4 hM
      · exact c_X1_get_9_7 l hl G X N0 M a n i f ha hn hi _ _ _ h4 hM
  | n + 10, h => exact absurd h (by omega)
set_option maxHeartbeats 1000000 in
theorem c_X1_real_6 (l : Launch) (hl : l.stackTraces = false) (G : hp_G) (X : Nat → Nat) (N0 : Nat) (M : hp_h) (a n i : Nat) (f : Nat → UInt32) (ha : M a = some (.inl (G.2 6, n, .inr (.inr (.inl f))))) (hn : n ≤ 60000000) (hi : i < n) : HM l yX1_real (ws_ yX1_real cX1_real 3 (some .double)) 1 30 0 0 G X N0 [.ref a, .int (nI i)] M (PV (.double (mWide (f i))) M) PX0 := by
  refine HM.of hl [(0, .ref a), (1, .int (nI i))] (by decide +kernel) rfl (Nat.le_of_ble_eq_true rfl) ?_
  intro p e s m args below meth c C hname
  refine V_aload_n C dX1_real_0 rfl 0 rfl ?_
  refine V_instAY C (j := 6) (by decide) q612 (Or.inl rfl) ha dX1_real_1 ?_
  refine V_if_eq (tgt := 29) C dX1_real_4 (by decide) (fun c_4 => ?_) (fun c_4 => ?_)
  · exact absurd c_4 (by decide)
  · refine V_aload_n C dX1_real_7 rfl 0 rfl ?_
    refine V_castA C (j := 6) (by decide) q612 (Or.inl rfl) ha dX1_real_8 ?_
    refine V_iload_n C dX1_real_11 rfl 1 rfl ?_
    refine V_fald C ha (vp_in_nI (by omega) (by omega)) dX1_real_12 ?_
    refine V_st (st' := [.float (f i)]) (by rw [nI_clamp (by omega)]) ?_
    refine V_fstore_n C dX1_real_13 rfl (Nat.le_of_ble_eq_true rfl) [(0, .ref a), (1, .int (nI i)), (2, .float (f i))] [1, 2, 0] rfl ?_
    refine V_fload_n C dX1_real_14 rfl 2 rfl ?_
    refine V_fload_n C dX1_real_15 rfl 2 rfl ?_
    refine V_fcmp C dX1_real_16 ?_
    refine V_pc (pc1 := 17) rfl ?_
    refine V_if_eq (tgt := 26) C dX1_real_17 (by decide) (fun c_17 => ?_) (fun c_17 => ?_)
    · have hv : ¬ fN (f i) := (fN_cmp (f i)).mp c_17
      refine V_fload_n C dX1_real_26 rfl 2 rfl ?_
      refine V_f2d C dX1_real_27 (wide_num hv) ?_
      refine V_dret C dX1_real_28 rfl ?_ (by first | exact Nat.le_of_ble_eq_true rfl | omega | (dsimp only; omega)) (by first | exact Nat.le_of_ble_eq_true rfl | omega | (dsimp only; omega))
      refine ⟨congrArg (fun z => some (Value.double z)) ?_, rfl⟩
      unfold mWide
      rw [if_neg hv]
    · refine V_ldc2d (v := 9221120237041090560) C (C.w q1179) dX1_real_20 ?_
      refine V_goto (tgt := 28) C dX1_real_23 (by decide) ?_
      refine V_dret C dX1_real_28 rfl ?_ (by first | exact Nat.le_of_ble_eq_true rfl | omega | (dsimp only; omega)) (by first | exact Nat.le_of_ble_eq_true rfl | omega | (dsimp only; omega))
      refine ⟨congrArg (fun z => some (Value.double z)) ?_, rfl⟩
      unfold mWide
      rw [fN_cmp, Classical.not_not] at c_17
      rw [if_pos c_17]
set_option maxHeartbeats 1000000 in
theorem c_X1_real_7 (l : Launch) (hl : l.stackTraces = false) (G : hp_G) (X : Nat → Nat) (N0 : Nat) (M : hp_h) (a n i : Nat) (f : Nat → UInt64) (ha : M a = some (.inl (G.2 7, n, .inr (.inr (.inr (.inl f)))))) (hn : n ≤ 60000000) (hi : i < n) : HM l yX1_real (ws_ yX1_real cX1_real 3 (some .double)) 1 30 0 0 G X N0 [.ref a, .int (nI i)] M (PV (.double (f i)) M) PX0 := by
  refine HM.of hl [(0, .ref a), (1, .int (nI i))] (by decide +kernel) rfl (Nat.le_of_ble_eq_true rfl) ?_
  intro p e s m args below meth c C hname
  refine V_aload_n C dX1_real_0 rfl 0 rfl ?_
  refine V_instAN C (j := 7) (nm := "[F") (by decide) q612 (List.mem_of_getElem? (i := 76) rfl) ha dX1_real_1 ?_
  refine V_if_eq (tgt := 29) C dX1_real_4 (by decide) (fun c_4 => ?_) (fun c_4 => ?_)
  · refine V_aload_n C dX1_real_29 rfl 0 rfl ?_
    refine V_castA C (j := 7) (by decide) q613 (Or.inl rfl) ha dX1_real_30 ?_
    refine V_iload_n C dX1_real_33 rfl 1 rfl ?_
    refine V_dald C ha (vp_in_nI (by omega) (by omega)) dX1_real_34 ?_
    refine V_st (st' := [.double (f i)]) (by rw [nI_clamp (by omega)]) ?_
    refine V_dret C dX1_real_35 rfl ?_ (by first | exact Nat.le_of_ble_eq_true rfl | omega | (dsimp only; omega)) (by first | exact Nat.le_of_ble_eq_true rfl | omega | (dsimp only; omega))
    exact ⟨rfl, rfl⟩
  · exact absurd c_4 (by decide)
theorem c_X1_real {U J : Nat} {ua ja : Nat → Nat} (l : Launch) (hl : l.stackTraces = false) (G : hp_G) (X : Nat → Nat) (N0 : Nat) (M : hp_h) (a k i : Nat) (x : vp_A) (b : Int64) (hk : k = 6 ∨ k = 7) (ha : M a = some (.inl (G.2 k, x))) (hn : x.1 ≤ 60000000) (hi : i < x.1) (hc : CE U J ua ja k x i b) : HM l yX1_real (ws_ yX1_real cX1_real 3 (some .double)) 1 30 0 0 G X N0 [.ref a, .int (nI i)] M (PV (.double (mRe k b)) M) PX0 := by
  obtain ⟨n, y⟩ := x
  rcases hk with rfl | rfl
  · obtain ⟨f, h1, h2, h3⟩ := hc.k6
    subst h1
    unfold mRe
    rw [if_pos rfl, ← h3]
    exact c_X1_real_6 l hl G X N0 M a n i f ha hn hi
  · obtain ⟨f, h1, h2, h3⟩ := hc.k7
    subst h1
    unfold mRe
    rw [if_neg (by decide), ← h3]
    exact c_X1_real_7 l hl G X N0 M a n i f ha hn hi
set_option maxHeartbeats 1000000 in
theorem c_X1_isBelow (l : Launch) (hl : l.stackTraces = false) (G : hp_G) (X : Nat → Nat) (N0 : Nat) (M : hp_h) {U J : Nat} {ua ja : Nat → Nat} (a b k i j : Nat) (xa xb : vp_A) (p9 q9 : Int64) (hk : k ≤ 9) (ha : M a = some (.inl (G.2 k, xa))) (hna : xa.1 ≤ 60000000) (hi : i < xa.1) (hca : CE U J ua ja k xa i p9) (hb : M b = some (.inl (G.2 k, xb))) (hnb : xb.1 ≤ 60000000) (hj : j < xb.1) (hcb : CE U J ua ja k xb j q9) (hu : UH M ua U) : HM l yX1_isBelow (ws_ yX1_isBelow cX1_isBelow 4 (some .boolean)) 5 113 0 0 G X N0 [.ref a, .int (nI i), .ref b, .int (nI j)] M (PV (.int (bI (mf_order (nI k) p9 q9 < 0))) M) PX0 := by
  refine HM.of hl [(0, .ref a), (1, .int (nI i)), (2, .ref b), (3, .int (nI j))] (by decide +kernel) rfl (Nat.le_of_ble_eq_true rfl) ?_
  intro p e s m args below meth c C hname
  refine V_aload_n C dX1_isBelow_0 rfl 0 rfl ?_
  refine V_callS C (c_X1_isReal l hl G X N0 M a k (by omega) xa ha) cs_X1_83 rfl rfl ⟨Nat.le_of_ble_eq_true rfl, Nat.le_of_ble_eq_true rfl⟩ ⟨(by first | exact Nat.le_of_ble_eq_true rfl | omega | (dsimp only; omega)), (by first | exact Nat.le_of_ble_eq_true rfl | omega | (dsimp only; omega))⟩ (Nat.le_of_ble_eq_true rfl) dX1_isBelow_1 (fun _ _ _ h => px0 h) ?_
  rintro _ _ ⟨rfl, rfl⟩
  refine V_st (st' := [.int (bI (k = 6 ∨ k = 7))]) rfl ?_
  refine V_if_eq (tgt := 29) C dX1_isBelow_4 (by decide) (fun c_4 => ?_) (fun c_4 => ?_)
  · refine V_aload_n C dX1_isBelow_29 rfl 0 rfl ?_
    refine V_iload_n C dX1_isBelow_30 rfl 1 rfl ?_
    refine V_callS C (c_X1_get l hl G X N0 M a k i xa p9 hk ha hna hi hca hu) cs_X1_91 rfl rfl ⟨Nat.le_of_ble_eq_true rfl, Nat.le_of_ble_eq_true rfl⟩ ⟨(by first | exact Nat.le_of_ble_eq_true rfl | omega | (dsimp only; omega)), (by first | exact Nat.le_of_ble_eq_true rfl | omega | (dsimp only; omega))⟩ (Nat.le_of_ble_eq_true rfl) dX1_isBelow_31 (fun _ _ _ h => px0 h) ?_
    rintro _ _ ⟨rfl, rfl⟩
    refine V_st (st' := [.long p9]) rfl ?_
    refine V_aload_n C dX1_isBelow_34 rfl 2 rfl ?_
    refine V_iload_n C dX1_isBelow_35 rfl 3 rfl ?_
    refine V_callS C (c_X1_get l hl G X N0 M b k j xb q9 hk hb hnb hj hcb hu) cs_X1_91 rfl rfl ⟨Nat.le_of_ble_eq_true rfl, Nat.le_of_ble_eq_true rfl⟩ ⟨(by first | exact Nat.le_of_ble_eq_true rfl | omega | (dsimp only; omega)), (by first | exact Nat.le_of_ble_eq_true rfl | omega | (dsimp only; omega))⟩ (Nat.le_of_ble_eq_true rfl) dX1_isBelow_36 (fun _ _ _ h => px0 h) ?_
    rintro _ _ ⟨rfl, rfl⟩
    refine V_st (st' := [.long q9, .long p9]) rfl ?_
    refine V_lcmp C dX1_isBelow_39 ?_
    refine V_if_ge (tgt := 47) C dX1_isBelow_40 (by decide) (fun c_40 => ?_) (fun c_40 => ?_)
    · refine V_pc (pc1 := 47) rfl ?_
      refine V_iconst (v := 0) C dX1_isBelow_47 rfl ?_
      refine V_zret C rfl dX1_isBelow_48 rfl ?_ (by first | exact Nat.le_of_ble_eq_true rfl | omega | (dsimp only; omega)) (by first | exact Nat.le_of_ble_eq_true rfl | omega | (dsimp only; omega))
      refine ⟨congrArg (fun z => some (Value.int z)) (bI_f ?_), rfl⟩
      simp only [lg_cmp_lt, lg_cmp_gt, lg_cmp_ge, lg_cmp_le, lg_cmp_eq] at c_40
      rw [mf_order_bits (by omega) (bI_0.mp c_4)]
      rw [if_neg (Int64.not_lt.mpr c_40)]
      split <;> decide
    · refine V_pc (pc1 := 43) rfl ?_
      refine V_iconst (v := 1) C dX1_isBelow_43 rfl ?_
      refine V_goto (tgt := 48) C dX1_isBelow_44 (by decide) ?_
      refine V_zret C rfl dX1_isBelow_48 rfl ?_ (by first | exact Nat.le_of_ble_eq_true rfl | omega | (dsimp only; omega)) (by first | exact Nat.le_of_ble_eq_true rfl | omega | (dsimp only; omega))
      refine ⟨congrArg (fun z => some (Value.int z)) (bI_t ?_), rfl⟩
      simp only [lg_cmp_lt, lg_cmp_gt, lg_cmp_ge, lg_cmp_le, lg_cmp_eq] at c_40
      rw [mf_order_bits (by omega) (bI_0.mp c_4)]
      rw [if_pos (Int64.not_le.mp c_40)]; decide
  · have hk67 : k = 6 ∨ k = 7 := bI_n.mp c_4
    refine V_aload_n C dX1_isBelow_7 rfl 0 rfl ?_
    refine V_iload_n C dX1_isBelow_8 rfl 1 rfl ?_
    refine V_callS C (c_X1_real l hl G X N0 M a k i xa p9 hk67 ha hna hi hca) cs_X1_87 rfl rfl ⟨Nat.le_of_ble_eq_true rfl, Nat.le_of_ble_eq_true rfl⟩ ⟨(by first | exact Nat.le_of_ble_eq_true rfl | omega | (dsimp only; omega)), (by first | exact Nat.le_of_ble_eq_true rfl | omega | (dsimp only; omega))⟩ (Nat.le_of_ble_eq_true rfl) dX1_isBelow_9 (fun _ _ _ h => px0 h) ?_
    rintro _ _ ⟨rfl, rfl⟩
    refine V_st (st' := [.double (mRe k p9)]) rfl ?_
    refine V_aload_n C dX1_isBelow_12 rfl 2 rfl ?_
    refine V_iload_n C dX1_isBelow_13 rfl 3 rfl ?_
    refine V_callS C (c_X1_real l hl G X N0 M b k j xb q9 hk67 hb hnb hj hcb) cs_X1_87 rfl rfl ⟨Nat.le_of_ble_eq_true rfl, Nat.le_of_ble_eq_true rfl⟩ ⟨(by first | exact Nat.le_of_ble_eq_true rfl | omega | (dsimp only; omega)), (by first | exact Nat.le_of_ble_eq_true rfl | omega | (dsimp only; omega))⟩ (Nat.le_of_ble_eq_true rfl) dX1_isBelow_14 (fun _ _ _ h => px0 h) ?_
    rintro _ _ ⟨rfl, rfl⟩
    refine V_st (st' := [.double (mRe k q9), .double (mRe k p9)]) rfl ?_
    refine V_dcmp C dX1_isBelow_17 ?_
    refine V_if_ge (tgt := 25) C dX1_isBelow_18 (by decide) (fun c_18 => ?_) (fun c_18 => ?_)
    · refine V_pc (pc1 := 25) rfl ?_
      refine V_iconst (v := 0) C dX1_isBelow_25 rfl ?_
      refine V_goto (tgt := 48) C dX1_isBelow_26 (by decide) ?_
      refine V_zret C rfl dX1_isBelow_48 rfl ?_ (by first | exact Nat.le_of_ble_eq_true rfl | omega | (dsimp only; omega)) (by first | exact Nat.le_of_ble_eq_true rfl | omega | (dsimp only; omega))
      refine ⟨congrArg (fun z => some (Value.int z)) (bI_f ?_), rfl⟩
      simp only [cv_lt'] at c_18
      rw [mf_order_real hk67]
      unfold mf_oD
      rw [if_neg c_18]
      split <;> decide
    · refine V_pc (pc1 := 21) rfl ?_
      refine V_iconst (v := 1) C dX1_isBelow_21 rfl ?_
      refine V_goto (tgt := 48) C dX1_isBelow_22 (by decide) ?_
      refine V_zret C rfl dX1_isBelow_48 rfl ?_ (by first | exact Nat.le_of_ble_eq_true rfl | omega | (dsimp only; omega)) (by first | exact Nat.le_of_ble_eq_true rfl | omega | (dsimp only; omega))
      refine ⟨congrArg (fun z => some (Value.int z)) (bI_t ?_), rfl⟩
      simp only [cv_lt'] at c_18
      rw [mf_order_real hk67]
      unfold mf_oD
      rw [if_pos (Classical.not_not.mp c_18)]; decide
set_option maxHeartbeats 1000000 in
theorem c_X1_isEqual (l : Launch) (hl : l.stackTraces = false) (G : hp_G) (X : Nat → Nat) (N0 : Nat) (M : hp_h) {U J : Nat} {ua ja : Nat → Nat} (σ : MS) (a b k i : Nat) (xa xb : vp_A) (p9 q9 : Int64) (hk : k ≤ 9) (ha : M a = some (.inl (G.2 k, xa))) (hna : xa.1 ≤ 60000000) (hi : i < xa.1) (hca : CE U J ua ja k xa i p9) (hb : M b = some (.inl (G.2 k, xb))) (hnb : xb.1 ≤ 60000000) (hj : i < xb.1) (hcb : CE U J ua ja k xb i q9) (hu : UH M ua U) : HM l yX1_isEqual (ws_ yX1_isEqual cX1_isEqual 7 (some .boolean)) 5 113 0 0 G X N0 [.ref a, .ref b, .int (nI i)] M (PV (.int (bI (mf_eq σ (nI k) p9 q9))) M) PX0 := by
  refine HM.of hl [(0, .ref a), (1, .ref b), (2, .int (nI i))] (by decide +kernel) rfl (Nat.le_of_ble_eq_true rfl) ?_
  intro p e s m args below meth c C hname
  refine V_aload_n C dX1_isEqual_0 rfl 0 rfl ?_
  refine V_callS C (c_X1_isReal l hl G X N0 M a k (by omega) xa ha) cs_X1_83 rfl rfl ⟨Nat.le_of_ble_eq_true rfl, Nat.le_of_ble_eq_true rfl⟩ ⟨(by first | exact Nat.le_of_ble_eq_true rfl | omega | (dsimp only; omega)), (by first | exact Nat.le_of_ble_eq_true rfl | omega | (dsimp only; omega))⟩ (Nat.le_of_ble_eq_true rfl) dX1_isEqual_1 (fun _ _ _ h => px0 h) ?_
  rintro _ _ ⟨rfl, rfl⟩
  refine V_st (st' := [.int (bI (k = 6 ∨ k = 7))]) rfl ?_
  refine V_if_eq (tgt := 27) C dX1_isEqual_4 (by decide) (fun c_4 => ?_) (fun c_4 => ?_)
  · refine V_aload_n C dX1_isEqual_27 rfl 0 rfl ?_
    have hni : (ANM k, "[[I") ∈ NCL := by
      match k, hk with
      | 0, _ => exact List.mem_of_getElem? (i := 9) rfl
      | 1, _ => exact List.mem_of_getElem? (i := 19) rfl
      | 2, _ => exact List.mem_of_getElem? (i := 29) rfl
      | 3, _ => exact List.mem_of_getElem? (i := 39) rfl
      | 4, _ => exact List.mem_of_getElem? (i := 49) rfl
      | 5, _ => exact List.mem_of_getElem? (i := 59) rfl
      | 6, _ => exact List.mem_of_getElem? (i := 69) rfl
      | 7, _ => exact List.mem_of_getElem? (i := 79) rfl
      | 8, _ => exact List.mem_of_getElem? (i := 89) rfl
      | 9, _ => exact List.mem_of_getElem? (i := 98) rfl
      | n + 10, h => exact absurd h (by omega)
    refine V_instAN C (j := k) (nm := "[[I") (by omega) q617 hni ha dX1_isEqual_28 ?_
    refine V_if_ne (tgt := 54) C dX1_isEqual_31 (by decide) (fun c_31 => ?_) (fun c_31 => ?_)
    · exact absurd c_31 (by decide)
    · refine V_aload_n C dX1_isEqual_34 rfl 0 rfl ?_
      refine V_iload_n C dX1_isEqual_35 rfl 2 rfl ?_
      refine V_callS C (c_X1_get l hl G X N0 M a k i xa p9 hk ha hna hi hca hu) cs_X1_91 rfl rfl ⟨Nat.le_of_ble_eq_true rfl, Nat.le_of_ble_eq_true rfl⟩ ⟨(by first | exact Nat.le_of_ble_eq_true rfl | omega | (dsimp only; omega)), (by first | exact Nat.le_of_ble_eq_true rfl | omega | (dsimp only; omega))⟩ (Nat.le_of_ble_eq_true rfl) dX1_isEqual_36 (fun _ _ _ h => px0 h) ?_
      rintro _ _ ⟨rfl, rfl⟩
      refine V_st (st' := [.long p9]) rfl ?_
      refine V_aload_n C dX1_isEqual_39 rfl 1 rfl ?_
      refine V_iload_n C dX1_isEqual_40 rfl 2 rfl ?_
      refine V_callS C (c_X1_get l hl G X N0 M b k i xb q9 hk hb hnb hj hcb hu) cs_X1_91 rfl rfl ⟨Nat.le_of_ble_eq_true rfl, Nat.le_of_ble_eq_true rfl⟩ ⟨(by first | exact Nat.le_of_ble_eq_true rfl | omega | (dsimp only; omega)), (by first | exact Nat.le_of_ble_eq_true rfl | omega | (dsimp only; omega))⟩ (Nat.le_of_ble_eq_true rfl) dX1_isEqual_41 (fun _ _ _ h => px0 h) ?_
      rintro _ _ ⟨rfl, rfl⟩
      refine V_st (st' := [.long q9, .long p9]) rfl ?_
      refine V_pc (pc1 := 44) rfl ?_
      refine V_lcmp C dX1_isEqual_44 ?_
      refine V_if_ne (tgt := 52) C dX1_isEqual_45 (by decide) (fun c_45 => ?_) (fun c_45 => ?_)
      · refine V_iconst (v := 0) C dX1_isEqual_52 rfl ?_
        refine V_zret C rfl dX1_isEqual_53 rfl ?_ (by first | exact Nat.le_of_ble_eq_true rfl | omega | (dsimp only; omega)) (by first | exact Nat.le_of_ble_eq_true rfl | omega | (dsimp only; omega))
        refine ⟨congrArg (fun z => some (Value.int z)) (bI_f ?_), rfl⟩
        simp only [lg_cmp_lt, lg_cmp_gt, lg_cmp_ge, lg_cmp_le, lg_cmp_eq] at c_45
        rw [mf_eq_bits hk (bI_0.mp c_4)]
        exact c_45
      · refine V_iconst (v := 1) C dX1_isEqual_48 rfl ?_
        refine V_goto (tgt := 53) C dX1_isEqual_49 (by decide) ?_
        refine V_zret C rfl dX1_isEqual_53 rfl ?_ (by first | exact Nat.le_of_ble_eq_true rfl | omega | (dsimp only; omega)) (by first | exact Nat.le_of_ble_eq_true rfl | omega | (dsimp only; omega))
        refine ⟨congrArg (fun z => some (Value.int z)) (bI_t ?_), rfl⟩
        simp only [lg_cmp_lt, lg_cmp_gt, lg_cmp_ge, lg_cmp_le, lg_cmp_eq] at c_45
        rw [mf_eq_bits hk (bI_0.mp c_4)]
        exact c_45
  · have hk67 : k = 6 ∨ k = 7 := bI_n.mp c_4
    refine V_aload_n C dX1_isEqual_7 rfl 0 rfl ?_
    refine V_iload_n C dX1_isEqual_8 rfl 2 rfl ?_
    refine V_callS C (c_X1_real l hl G X N0 M a k i xa p9 hk67 ha hna hi hca) cs_X1_87 rfl rfl ⟨Nat.le_of_ble_eq_true rfl, Nat.le_of_ble_eq_true rfl⟩ ⟨(by first | exact Nat.le_of_ble_eq_true rfl | omega | (dsimp only; omega)), (by first | exact Nat.le_of_ble_eq_true rfl | omega | (dsimp only; omega))⟩ (Nat.le_of_ble_eq_true rfl) dX1_isEqual_9 (fun _ _ _ h => px0 h) ?_
    rintro _ _ ⟨rfl, rfl⟩
    refine V_st (st' := [.double (mRe k p9)]) rfl ?_
    refine V_aload_n C dX1_isEqual_12 rfl 1 rfl ?_
    refine V_iload_n C dX1_isEqual_13 rfl 2 rfl ?_
    refine V_callS C (c_X1_real l hl G X N0 M b k i xb q9 hk67 hb hnb hj hcb) cs_X1_87 rfl rfl ⟨Nat.le_of_ble_eq_true rfl, Nat.le_of_ble_eq_true rfl⟩ ⟨(by first | exact Nat.le_of_ble_eq_true rfl | omega | (dsimp only; omega)), (by first | exact Nat.le_of_ble_eq_true rfl | omega | (dsimp only; omega))⟩ (Nat.le_of_ble_eq_true rfl) dX1_isEqual_14 (fun _ _ _ h => px0 h) ?_
    rintro _ _ ⟨rfl, rfl⟩
    refine V_st (st' := [.double (mRe k q9), .double (mRe k p9)]) rfl ?_
    refine V_dcmp C dX1_isEqual_17 ?_
    refine V_if_ne (tgt := 25) C dX1_isEqual_18 (by decide) (fun c_18 => ?_) (fun c_18 => ?_)
    · refine V_pc (pc1 := 25) rfl ?_
      refine V_iconst (v := 0) C dX1_isEqual_25 rfl ?_
      refine V_zret C rfl dX1_isEqual_26 rfl ?_ (by first | exact Nat.le_of_ble_eq_true rfl | omega | (dsimp only; omega)) (by first | exact Nat.le_of_ble_eq_true rfl | omega | (dsimp only; omega))
      refine ⟨congrArg (fun z => some (Value.int z)) (bI_f ?_), rfl⟩
      simp only [cv_eq] at c_18
      rw [mf_eq_real hk67]
      exact c_18
    · refine V_pc (pc1 := 21) rfl ?_
      refine V_iconst (v := 1) C dX1_isEqual_21 rfl ?_
      refine V_goto (tgt := 26) C dX1_isEqual_22 (by decide) ?_
      refine V_zret C rfl dX1_isEqual_26 rfl ?_ (by first | exact Nat.le_of_ble_eq_true rfl | omega | (dsimp only; omega)) (by first | exact Nat.le_of_ble_eq_true rfl | omega | (dsimp only; omega))
      refine ⟨congrArg (fun z => some (Value.int z)) (bI_t ?_), rfl⟩
      simp only [cv_eq] at c_18
      rw [mf_eq_real hk67]
      exact c_18
/-- the content of a new row of kind k -/
def ZK (k : Nat) : (Nat → Int32) ⊕ (Nat → Int64) ⊕ (Nat → UInt32) ⊕ (Nat → UInt64) ⊕ (Nat → Option Nat) := if k ≤ 4 then .inl (fun _ => 0) else if k = 5 then .inr (.inl (fun _ => 0)) else if k = 6 then .inr (.inr (.inl (fun _ => 0))) else if k = 7 then .inr (.inr (.inr (.inl (fun _ => 0)))) else .inr (.inr (.inr (.inr (fun _ => none))))
def PN (M : hp_h) (E : va_E) : Option Value → hp_h → Prop := fun v M' => ∃ q, v = some (.ref q) ∧ M q = none ∧ M' = hp_up M q E
theorem CE.new {U J : Nat} {ua ja : Nat → Nat} {k n i : Nat} (hk : k ≤ 10) : CE U J ua ja k (n, ZK k) i (if nI k < 8 then 0 else -1) := by
  match k, hk with
  | 0, _ => exact Or.inl ⟨by decide, fun _ => 0, rfl, rfl, (by decide : fits (KTY 0) (.int 0) = true)⟩
  | 1, _ => exact Or.inl ⟨by decide, fun _ => 0, rfl, rfl, (by decide : fits (KTY 1) (.int 0) = true)⟩
  | 2, _ => exact Or.inl ⟨by decide, fun _ => 0, rfl, rfl, (by decide : fits (KTY 2) (.int 0) = true)⟩
  | 3, _ => exact Or.inl ⟨by decide, fun _ => 0, rfl, rfl, (by decide : fits (KTY 3) (.int 0) = true)⟩
  | 4, _ => exact Or.inl ⟨by decide, fun _ => 0, rfl, rfl, (by decide : fits (KTY 4) (.int 0) = true)⟩
  | 5, _ => exact Or.inr (Or.inl ⟨rfl, fun _ => 0, rfl, rfl⟩)
  | 6, _ => exact Or.inr (Or.inr (Or.inl ⟨rfl, fun _ => 0, rfl, (by decide +kernel : (if nI 6 < 8 then (0 : Int64) else -1) = mfB 0), (by decide +kernel : (0 : UInt32) = mfO (if nI 6 < 8 then (0 : Int64) else -1).toInt32)⟩))
  | 7, _ => exact Or.inr (Or.inr (Or.inr (Or.inl ⟨rfl, fun _ => 0, rfl, (by decide +kernel : (if nI 7 < 8 then (0 : Int64) else -1) = mdB 0), (by decide +kernel : (0 : UInt64) = mdO (if nI 7 < 8 then (0 : Int64) else -1))⟩)))
  | 8, _ => exact Or.inr (Or.inr (Or.inr (Or.inr (Or.inl ⟨Or.inl rfl, fun _ => none, rfl, Or.inl ⟨rfl, rfl⟩⟩))))
  | 9, _ => exact Or.inr (Or.inr (Or.inr (Or.inr (Or.inl ⟨Or.inr rfl, fun _ => none, rfl, Or.inl ⟨rfl, rfl⟩⟩))))
  | 10, _ => exact Or.inr (Or.inr (Or.inr (Or.inr (Or.inr ⟨rfl, fun _ => none, rfl, Or.inl ⟨rfl, rfl⟩⟩))))
  | n + 11, h => exact absurd h (by omega)
set_option maxHeartbeats 1000000 in
theorem c_X1_made_0 (l : Launch) (hl : l.stackTraces = false) (G : hp_G) (X : Nat → Nat) (N0 : Nat) (M : hp_h) (n : Nat) (hn : n ≤ 60000000) : HM l yX1_made (ws_ yX1_made cX1_made 2 (some (.object "java/lang/Object"))) 1 25 1 n G X N0 [.int 0, .int (nI n)] M (PN M (.inl (G.2 0, n, ZK 0))) PX0 := by
  refine HM.of hl [(0, .int 0), (1, .int (nI n))] (by decide +kernel) rfl (Nat.le_of_ble_eq_true rfl) ?_
  intro p e s m args below meth c C hname
  refine V_iload_n C dX1_made_0 rfl 0 rfl ?_
  refine V_tableIn (tgt := 56) (off := 55) C dX1_made_1 (by decide) (by decide) (by decide) (by decide) ?_
  refine V_iload_n C dX1_made_56 rfl 1 rfl ?_
  refine V_new_z C q535 (N' := n) (nI_pos (by omega)) (nI_clamp (by omega)) (by omega) (by first | exact Nat.le_of_ble_eq_true rfl | omega | (dsimp only; omega)) (by first | exact Nat.le_of_ble_eq_true rfl | omega | (dsimp only; omega)) dX1_made_57 (fun q_1 hq_2 => ?_)
  obtain ⟨M_3, eM_4⟩ : ∃ z, z = hp_up M q_1 ((.inl (G.2 0, n, .inl (fun _ => 0)))) := ⟨_, rfl⟩
  refine V_heap (M' := M_3) eM_4.symm ?_
  have ho_5 : M_3 q_1 = some ((.inl (G.2 0, n, .inl (fun _ => 0)))) := by rw [eM_4]; exact hp_up_s
  refine V_st (st' := [va_rf (some q_1)]) rfl ?_
  refine V_aret C (by first | exact Or.inl ⟨_, rfl⟩ | exact Or.inr ⟨_, rfl⟩) dX1_made_59 rfl ?_ (by first | exact Nat.le_of_ble_eq_true rfl | omega | (dsimp only; omega)) (by first | exact Nat.le_of_ble_eq_true rfl | omega | (dsimp only; omega))
  exact ⟨q_1, rfl, hq_2, eM_4⟩
set_option maxHeartbeats 1000000 in
theorem c_X1_made_1 (l : Launch) (hl : l.stackTraces = false) (G : hp_G) (X : Nat → Nat) (N0 : Nat) (M : hp_h) (n : Nat) (hn : n ≤ 60000000) : HM l yX1_made (ws_ yX1_made cX1_made 2 (some (.object "java/lang/Object"))) 1 25 1 n G X N0 [.int 1, .int (nI n)] M (PN M (.inl (G.2 1, n, ZK 1))) PX0 := by
  refine HM.of hl [(0, .int 1), (1, .int (nI n))] (by decide +kernel) rfl (Nat.le_of_ble_eq_true rfl) ?_
  intro p e s m args below meth c C hname
  refine V_iload_n C dX1_made_0 rfl 0 rfl ?_
  refine V_tableIn (tgt := 60) (off := 59) C dX1_made_1 (by decide) (by decide) (by decide) (by decide) ?_
  refine V_iload_n C dX1_made_60 rfl 1 rfl ?_
  refine V_new_b C q536 (N' := n) (nI_pos (by omega)) (nI_clamp (by omega)) (by omega) (by first | exact Nat.le_of_ble_eq_true rfl | omega | (dsimp only; omega)) (by first | exact Nat.le_of_ble_eq_true rfl | omega | (dsimp only; omega)) dX1_made_61 (fun q_1 hq_2 => ?_)
  obtain ⟨M_3, eM_4⟩ : ∃ z, z = hp_up M q_1 ((.inl (G.2 1, n, .inl (fun _ => 0)))) := ⟨_, rfl⟩
  refine V_heap (M' := M_3) eM_4.symm ?_
  have ho_5 : M_3 q_1 = some ((.inl (G.2 1, n, .inl (fun _ => 0)))) := by rw [eM_4]; exact hp_up_s
  refine V_st (st' := [va_rf (some q_1)]) rfl ?_
  refine V_aret C (by first | exact Or.inl ⟨_, rfl⟩ | exact Or.inr ⟨_, rfl⟩) dX1_made_63 rfl ?_ (by first | exact Nat.le_of_ble_eq_true rfl | omega | (dsimp only; omega)) (by first | exact Nat.le_of_ble_eq_true rfl | omega | (dsimp only; omega))
  exact ⟨q_1, rfl, hq_2, eM_4⟩
set_option maxHeartbeats 1000000 in
theorem c_X1_made_2 (l : Launch) (hl : l.stackTraces = false) (G : hp_G) (X : Nat → Nat) (N0 : Nat) (M : hp_h) (n : Nat) (hn : n ≤ 60000000) : HM l yX1_made (ws_ yX1_made cX1_made 2 (some (.object "java/lang/Object"))) 1 25 1 n G X N0 [.int 2, .int (nI n)] M (PN M (.inl (G.2 2, n, ZK 2))) PX0 := by
  refine HM.of hl [(0, .int 2), (1, .int (nI n))] (by decide +kernel) rfl (Nat.le_of_ble_eq_true rfl) ?_
  intro p e s m args below meth c C hname
  refine V_iload_n C dX1_made_0 rfl 0 rfl ?_
  refine V_tableIn (tgt := 64) (off := 63) C dX1_made_1 (by decide) (by decide) (by decide) (by decide) ?_
  refine V_iload_n C dX1_made_64 rfl 1 rfl ?_
  refine V_new_c C q537 (N' := n) (nI_pos (by omega)) (nI_clamp (by omega)) (by omega) (by first | exact Nat.le_of_ble_eq_true rfl | omega | (dsimp only; omega)) (by first | exact Nat.le_of_ble_eq_true rfl | omega | (dsimp only; omega)) dX1_made_65 (fun q_1 hq_2 => ?_)
  obtain ⟨M_3, eM_4⟩ : ∃ z, z = hp_up M q_1 ((.inl (G.2 2, n, .inl (fun _ => 0)))) := ⟨_, rfl⟩
  refine V_heap (M' := M_3) eM_4.symm ?_
  have ho_5 : M_3 q_1 = some ((.inl (G.2 2, n, .inl (fun _ => 0)))) := by rw [eM_4]; exact hp_up_s
  refine V_st (st' := [va_rf (some q_1)]) rfl ?_
  refine V_aret C (by first | exact Or.inl ⟨_, rfl⟩ | exact Or.inr ⟨_, rfl⟩) dX1_made_67 rfl ?_ (by first | exact Nat.le_of_ble_eq_true rfl | omega | (dsimp only; omega)) (by first | exact Nat.le_of_ble_eq_true rfl | omega | (dsimp only; omega))
  exact ⟨q_1, rfl, hq_2, eM_4⟩
set_option maxHeartbeats 1000000 in
theorem c_X1_made_3 (l : Launch) (hl : l.stackTraces = false) (G : hp_G) (X : Nat → Nat) (N0 : Nat) (M : hp_h) (n : Nat) (hn : n ≤ 60000000) : HM l yX1_made (ws_ yX1_made cX1_made 2 (some (.object "java/lang/Object"))) 1 25 1 n G X N0 [.int 3, .int (nI n)] M (PN M (.inl (G.2 3, n, ZK 3))) PX0 := by
  refine HM.of hl [(0, .int 3), (1, .int (nI n))] (by decide +kernel) rfl (Nat.le_of_ble_eq_true rfl) ?_
  intro p e s m args below meth c C hname
  refine V_iload_n C dX1_made_0 rfl 0 rfl ?_
  refine V_tableIn (tgt := 68) (off := 67) C dX1_made_1 (by decide) (by decide) (by decide) (by decide) ?_
  refine V_iload_n C dX1_made_68 rfl 1 rfl ?_
  refine V_new_s C q538 (N' := n) (nI_pos (by omega)) (nI_clamp (by omega)) (by omega) (by first | exact Nat.le_of_ble_eq_true rfl | omega | (dsimp only; omega)) (by first | exact Nat.le_of_ble_eq_true rfl | omega | (dsimp only; omega)) dX1_made_69 (fun q_1 hq_2 => ?_)
  obtain ⟨M_3, eM_4⟩ : ∃ z, z = hp_up M q_1 ((.inl (G.2 3, n, .inl (fun _ => 0)))) := ⟨_, rfl⟩
  refine V_heap (M' := M_3) eM_4.symm ?_
  have ho_5 : M_3 q_1 = some ((.inl (G.2 3, n, .inl (fun _ => 0)))) := by rw [eM_4]; exact hp_up_s
  refine V_st (st' := [va_rf (some q_1)]) rfl ?_
  refine V_aret C (by first | exact Or.inl ⟨_, rfl⟩ | exact Or.inr ⟨_, rfl⟩) dX1_made_71 rfl ?_ (by first | exact Nat.le_of_ble_eq_true rfl | omega | (dsimp only; omega)) (by first | exact Nat.le_of_ble_eq_true rfl | omega | (dsimp only; omega))
  exact ⟨q_1, rfl, hq_2, eM_4⟩
set_option maxHeartbeats 1000000 in
theorem c_X1_made_4 (l : Launch) (hl : l.stackTraces = false) (G : hp_G) (X : Nat → Nat) (N0 : Nat) (M : hp_h) (n : Nat) (hn : n ≤ 60000000) : HM l yX1_made (ws_ yX1_made cX1_made 2 (some (.object "java/lang/Object"))) 1 25 1 n G X N0 [.int 4, .int (nI n)] M (PN M (.inl (G.2 4, n, ZK 4))) PX0 := by
  refine HM.of hl [(0, .int 4), (1, .int (nI n))] (by decide +kernel) rfl (Nat.le_of_ble_eq_true rfl) ?_
  intro p e s m args below meth c C hname
  refine V_iload_n C dX1_made_0 rfl 0 rfl ?_
  refine V_tableIn (tgt := 72) (off := 71) C dX1_made_1 (by decide) (by decide) (by decide) (by decide) ?_
  refine V_iload_n C dX1_made_72 rfl 1 rfl ?_
  refine V_new_i C q539 (N' := n) (nI_pos (by omega)) (nI_clamp (by omega)) (by omega) (by first | exact Nat.le_of_ble_eq_true rfl | omega | (dsimp only; omega)) (by first | exact Nat.le_of_ble_eq_true rfl | omega | (dsimp only; omega)) dX1_made_73 (fun q_1 hq_2 => ?_)
  obtain ⟨M_3, eM_4⟩ : ∃ z, z = hp_up M q_1 ((.inl (G.2 4, n, .inl (fun _ => 0)))) := ⟨_, rfl⟩
  refine V_heap (M' := M_3) eM_4.symm ?_
  have ho_5 : M_3 q_1 = some ((.inl (G.2 4, n, .inl (fun _ => 0)))) := by rw [eM_4]; exact hp_up_s
  refine V_st (st' := [va_rf (some q_1)]) rfl ?_
  refine V_aret C (by first | exact Or.inl ⟨_, rfl⟩ | exact Or.inr ⟨_, rfl⟩) dX1_made_75 rfl ?_ (by first | exact Nat.le_of_ble_eq_true rfl | omega | (dsimp only; omega)) (by first | exact Nat.le_of_ble_eq_true rfl | omega | (dsimp only; omega))
  exact ⟨q_1, rfl, hq_2, eM_4⟩
set_option maxHeartbeats 1000000 in
theorem c_X1_made_5 (l : Launch) (hl : l.stackTraces = false) (G : hp_G) (X : Nat → Nat) (N0 : Nat) (M : hp_h) (n : Nat) (hn : n ≤ 60000000) : HM l yX1_made (ws_ yX1_made cX1_made 2 (some (.object "java/lang/Object"))) 1 25 1 n G X N0 [.int 5, .int (nI n)] M (PN M (.inl (G.2 5, n, ZK 5))) PX0 := by
  refine HM.of hl [(0, .int 5), (1, .int (nI n))] (by decide +kernel) rfl (Nat.le_of_ble_eq_true rfl) ?_
  intro p e s m args below meth c C hname
  refine V_iload_n C dX1_made_0 rfl 0 rfl ?_
  refine V_tableIn (tgt := 76) (off := 75) C dX1_made_1 (by decide) (by decide) (by decide) (by decide) ?_
  refine V_iload_n C dX1_made_76 rfl 1 rfl ?_
  refine V_new_l C q442 (N' := n) (nI_pos (by omega)) (nI_clamp (by omega)) (by omega) (by first | exact Nat.le_of_ble_eq_true rfl | omega | (dsimp only; omega)) (by first | exact Nat.le_of_ble_eq_true rfl | omega | (dsimp only; omega)) dX1_made_77 (fun q_1 hq_2 => ?_)
  obtain ⟨M_3, eM_4⟩ : ∃ z, z = hp_up M q_1 ((.inl (G.2 5, n, .inr (.inl (fun _ => 0))))) := ⟨_, rfl⟩
  refine V_heap (M' := M_3) eM_4.symm ?_
  have ho_5 : M_3 q_1 = some ((.inl (G.2 5, n, .inr (.inl (fun _ => 0))))) := by rw [eM_4]; exact hp_up_s
  refine V_st (st' := [va_rf (some q_1)]) rfl ?_
  refine V_aret C (by first | exact Or.inl ⟨_, rfl⟩ | exact Or.inr ⟨_, rfl⟩) dX1_made_79 rfl ?_ (by first | exact Nat.le_of_ble_eq_true rfl | omega | (dsimp only; omega)) (by first | exact Nat.le_of_ble_eq_true rfl | omega | (dsimp only; omega))
  exact ⟨q_1, rfl, hq_2, eM_4⟩
set_option maxHeartbeats 1000000 in
theorem c_X1_made_6 (l : Launch) (hl : l.stackTraces = false) (G : hp_G) (X : Nat → Nat) (N0 : Nat) (M : hp_h) (n : Nat) (hn : n ≤ 60000000) : HM l yX1_made (ws_ yX1_made cX1_made 2 (some (.object "java/lang/Object"))) 1 25 1 n G X N0 [.int 6, .int (nI n)] M (PN M (.inl (G.2 6, n, ZK 6))) PX0 := by
  refine HM.of hl [(0, .int 6), (1, .int (nI n))] (by decide +kernel) rfl (Nat.le_of_ble_eq_true rfl) ?_
  intro p e s m args below meth c C hname
  refine V_iload_n C dX1_made_0 rfl 0 rfl ?_
  refine V_tableIn (tgt := 80) (off := 79) C dX1_made_1 (by decide) (by decide) (by decide) (by decide) ?_
  refine V_iload_n C dX1_made_80 rfl 1 rfl ?_
  refine V_new_f C q540 (N' := n) (nI_pos (by omega)) (nI_clamp (by omega)) (by omega) (by first | exact Nat.le_of_ble_eq_true rfl | omega | (dsimp only; omega)) (by first | exact Nat.le_of_ble_eq_true rfl | omega | (dsimp only; omega)) dX1_made_81 (fun q_1 hq_2 => ?_)
  obtain ⟨M_3, eM_4⟩ : ∃ z, z = hp_up M q_1 ((.inl (G.2 6, n, .inr (.inr (.inl (fun _ => 0)))))) := ⟨_, rfl⟩
  refine V_heap (M' := M_3) eM_4.symm ?_
  have ho_5 : M_3 q_1 = some ((.inl (G.2 6, n, .inr (.inr (.inl (fun _ => 0)))))) := by rw [eM_4]; exact hp_up_s
  refine V_st (st' := [va_rf (some q_1)]) rfl ?_
  refine V_aret C (by first | exact Or.inl ⟨_, rfl⟩ | exact Or.inr ⟨_, rfl⟩) dX1_made_83 rfl ?_ (by first | exact Nat.le_of_ble_eq_true rfl | omega | (dsimp only; omega)) (by first | exact Nat.le_of_ble_eq_true rfl | omega | (dsimp only; omega))
  exact ⟨q_1, rfl, hq_2, eM_4⟩
set_option maxHeartbeats 1000000 in
theorem c_X1_made_7 (l : Launch) (hl : l.stackTraces = false) (G : hp_G) (X : Nat → Nat) (N0 : Nat) (M : hp_h) (n : Nat) (hn : n ≤ 60000000) : HM l yX1_made (ws_ yX1_made cX1_made 2 (some (.object "java/lang/Object"))) 1 25 1 n G X N0 [.int 7, .int (nI n)] M (PN M (.inl (G.2 7, n, ZK 7))) PX0 := by
  refine HM.of hl [(0, .int 7), (1, .int (nI n))] (by decide +kernel) rfl (Nat.le_of_ble_eq_true rfl) ?_
  intro p e s m args below meth c C hname
  refine V_iload_n C dX1_made_0 rfl 0 rfl ?_
  refine V_tableIn (tgt := 84) (off := 83) C dX1_made_1 (by decide) (by decide) (by decide) (by decide) ?_
  refine V_iload_n C dX1_made_84 rfl 1 rfl ?_
  refine V_new_d C q541 (N' := n) (nI_pos (by omega)) (nI_clamp (by omega)) (by omega) (by first | exact Nat.le_of_ble_eq_true rfl | omega | (dsimp only; omega)) (by first | exact Nat.le_of_ble_eq_true rfl | omega | (dsimp only; omega)) dX1_made_85 (fun q_1 hq_2 => ?_)
  obtain ⟨M_3, eM_4⟩ : ∃ z, z = hp_up M q_1 ((.inl (G.2 7, n, .inr (.inr (.inr (.inl (fun _ => 0))))))) := ⟨_, rfl⟩
  refine V_heap (M' := M_3) eM_4.symm ?_
  have ho_5 : M_3 q_1 = some ((.inl (G.2 7, n, .inr (.inr (.inr (.inl (fun _ => 0))))))) := by rw [eM_4]; exact hp_up_s
  refine V_st (st' := [va_rf (some q_1)]) rfl ?_
  refine V_aret C (by first | exact Or.inl ⟨_, rfl⟩ | exact Or.inr ⟨_, rfl⟩) dX1_made_87 rfl ?_ (by first | exact Nat.le_of_ble_eq_true rfl | omega | (dsimp only; omega)) (by first | exact Nat.le_of_ble_eq_true rfl | omega | (dsimp only; omega))
  exact ⟨q_1, rfl, hq_2, eM_4⟩
set_option maxHeartbeats 1000000 in
theorem c_X1_made_8 (l : Launch) (hl : l.stackTraces = false) (G : hp_G) (X : Nat → Nat) (N0 : Nat) (M : hp_h) (n : Nat) (hn : n ≤ 60000000) : HM l yX1_made (ws_ yX1_made cX1_made 2 (some (.object "java/lang/Object"))) 1 25 1 n G X N0 [.int 8, .int (nI n)] M (PN M (.inl (G.2 8, n, ZK 8))) PX0 := by
  refine HM.of hl [(0, .int 8), (1, .int (nI n))] (by decide +kernel) rfl (Nat.le_of_ble_eq_true rfl) ?_
  intro p e s m args below meth c C hname
  refine V_iload_n C dX1_made_0 rfl 0 rfl ?_
  refine V_tableIn (tgt := 88) (off := 87) C dX1_made_1 (by decide) (by decide) (by decide) (by decide) ?_
  refine V_iload_n C dX1_made_88 rfl 1 rfl ?_
  refine V_new_q (j := 8) C rfl q454 (List.mem_of_getElem? (i := 3) rfl) (N' := n) (nI_pos (by omega)) (nI_clamp (by omega)) (by omega) (by first | exact Nat.le_of_ble_eq_true rfl | omega | (dsimp only; omega)) (by first | exact Nat.le_of_ble_eq_true rfl | omega | (dsimp only; omega)) dX1_made_89 (fun q_1 hq_2 => ?_)
  obtain ⟨M_3, eM_4⟩ : ∃ z, z = hp_up M q_1 ((.inl (G.2 8, n, .inr (.inr (.inr (.inr (fun _ => none))))))) := ⟨_, rfl⟩
  refine V_heap (M' := M_3) eM_4.symm ?_
  have ho_5 : M_3 q_1 = some ((.inl (G.2 8, n, .inr (.inr (.inr (.inr (fun _ => none))))))) := by rw [eM_4]; exact hp_up_s
  refine V_st (st' := [va_rf (some q_1)]) rfl ?_
  refine V_aret C (by first | exact Or.inl ⟨_, rfl⟩ | exact Or.inr ⟨_, rfl⟩) dX1_made_92 rfl ?_ (by first | exact Nat.le_of_ble_eq_true rfl | omega | (dsimp only; omega)) (by first | exact Nat.le_of_ble_eq_true rfl | omega | (dsimp only; omega))
  exact ⟨q_1, rfl, hq_2, eM_4⟩
set_option maxHeartbeats 1000000 in
theorem c_X1_made_9 (l : Launch) (hl : l.stackTraces = false) (G : hp_G) (X : Nat → Nat) (N0 : Nat) (M : hp_h) (n : Nat) (hn : n ≤ 60000000) : HM l yX1_made (ws_ yX1_made cX1_made 2 (some (.object "java/lang/Object"))) 1 25 1 n G X N0 [.int 9, .int (nI n)] M (PN M (.inl (G.2 9, n, ZK 9))) PX0 := by
  refine HM.of hl [(0, .int 9), (1, .int (nI n))] (by decide +kernel) rfl (Nat.le_of_ble_eq_true rfl) ?_
  intro p e s m args below meth c C hname
  refine V_iload_n C dX1_made_0 rfl 0 rfl ?_
  refine V_tableIn (tgt := 93) (off := 92) C dX1_made_1 (by decide) (by decide) (by decide) (by decide) ?_
  refine V_iload_n C dX1_made_93 rfl 1 rfl ?_
  refine V_new_q (j := 9) C rfl q456 (List.mem_of_getElem? (i := 4) rfl) (N' := n) (nI_pos (by omega)) (nI_clamp (by omega)) (by omega) (by first | exact Nat.le_of_ble_eq_true rfl | omega | (dsimp only; omega)) (by first | exact Nat.le_of_ble_eq_true rfl | omega | (dsimp only; omega)) dX1_made_94 (fun q_1 hq_2 => ?_)
  obtain ⟨M_3, eM_4⟩ : ∃ z, z = hp_up M q_1 ((.inl (G.2 9, n, .inr (.inr (.inr (.inr (fun _ => none))))))) := ⟨_, rfl⟩
  refine V_heap (M' := M_3) eM_4.symm ?_
  have ho_5 : M_3 q_1 = some ((.inl (G.2 9, n, .inr (.inr (.inr (.inr (fun _ => none))))))) := by rw [eM_4]; exact hp_up_s
  refine V_st (st' := [va_rf (some q_1)]) rfl ?_
  refine V_aret C (by first | exact Or.inl ⟨_, rfl⟩ | exact Or.inr ⟨_, rfl⟩) dX1_made_97 rfl ?_ (by first | exact Nat.le_of_ble_eq_true rfl | omega | (dsimp only; omega)) (by first | exact Nat.le_of_ble_eq_true rfl | omega | (dsimp only; omega))
  exact ⟨q_1, rfl, hq_2, eM_4⟩
set_option maxHeartbeats 1000000 in
theorem c_X1_made_10 (l : Launch) (hl : l.stackTraces = false) (G : hp_G) (X : Nat → Nat) (N0 : Nat) (M : hp_h) (n : Nat) (hn : n ≤ 60000000) : HM l yX1_made (ws_ yX1_made cX1_made 2 (some (.object "java/lang/Object"))) 1 25 1 n G X N0 [.int 10, .int (nI n)] M (PN M (.inl (G.2 10, n, ZK 10))) PX0 := by
  refine HM.of hl [(0, .int 10), (1, .int (nI n))] (by decide +kernel) rfl (Nat.le_of_ble_eq_true rfl) ?_
  intro p e s m args below meth c C hname
  refine V_iload_n C dX1_made_0 rfl 0 rfl ?_
  refine V_tableOut (tgt := 98) C dX1_made_1 (by decide) (by decide) ?_
  refine V_iload_n C dX1_made_98 rfl 1 rfl ?_
  refine V_new_A C q458 (N' := n) (nI_pos (by omega)) (nI_clamp (by omega)) (by omega) (by first | exact Nat.le_of_ble_eq_true rfl | omega | (dsimp only; omega)) (by first | exact Nat.le_of_ble_eq_true rfl | omega | (dsimp only; omega)) dX1_made_99 (fun q_1 hq_2 => ?_)
  obtain ⟨M_3, eM_4⟩ : ∃ z, z = hp_up M q_1 ((.inl (G.2 10, n, .inr (.inr (.inr (.inr (fun _ => none))))))) := ⟨_, rfl⟩
  refine V_heap (M' := M_3) eM_4.symm ?_
  have ho_5 : M_3 q_1 = some ((.inl (G.2 10, n, .inr (.inr (.inr (.inr (fun _ => none))))))) := by rw [eM_4]; exact hp_up_s
  refine V_st (st' := [va_rf (some q_1)]) rfl ?_
  refine V_aret C (by first | exact Or.inl ⟨_, rfl⟩ | exact Or.inr ⟨_, rfl⟩) dX1_made_102 rfl ?_ (by first | exact Nat.le_of_ble_eq_true rfl | omega | (dsimp only; omega)) (by first | exact Nat.le_of_ble_eq_true rfl | omega | (dsimp only; omega))
  exact ⟨q_1, rfl, hq_2, eM_4⟩
theorem c_X1_made (l : Launch) (hl : l.stackTraces = false) (G : hp_G) (X : Nat → Nat) (N0 : Nat) (M : hp_h) (k n : Nat) (hk : k ≤ 10) (hn : n ≤ 60000000) : HM l yX1_made (ws_ yX1_made cX1_made 2 (some (.object "java/lang/Object"))) 1 25 1 n G X N0 [.int (nI k), .int (nI n)] M (PN M (.inl (G.2 k, n, ZK k))) PX0 := by
  match k, hk with
  | 0, _ => exact c_X1_made_0 l hl G X N0 M n hn
  | 1, _ => exact c_X1_made_1 l hl G X N0 M n hn
  | 2, _ => exact c_X1_made_2 l hl G X N0 M n hn
  | 3, _ => exact c_X1_made_3 l hl G X N0 M n hn
  | 4, _ => exact c_X1_made_4 l hl G X N0 M n hn
  | 5, _ => exact c_X1_made_5 l hl G X N0 M n hn
  | 6, _ => exact c_X1_made_6 l hl G X N0 M n hn
  | 7, _ => exact c_X1_made_7 l hl G X N0 M n hn
  | 8, _ => exact c_X1_made_8 l hl G X N0 M n hn
  | 9, _ => exact c_X1_made_9 l hl G X N0 M n hn
  | 10, _ => exact c_X1_made_10 l hl G X N0 M n hn
  | n + 11, h => exact absurd h (by omega)
