set_option maxRecDepth 100000
set_option linter.unusedVariables false
set_option maxRecDepth 100000
section S50
variable {σ σ' σ'' : MS}
abbrev pl (σ : MS) (c : Nat) : Nat := (σ.2.1 21 c).toNatClampNeg
abbrev atc (σ : MS) (c : Nat) : Nat := (σ.2.1 22 c).toNatClampNeg
abbrev lf (σ : MS) (c : Nat) : Nat := (σ.2.1 24 c).toNatClampNeg
abbrev nac (σ : MS) : Nat := (σ.1 11).toNatClampNeg
/-- what the calls' copies tell is right -/
def SV (C : Nat) (σ : MS) : Prop := ∀ c, c < C → (∀ d, c < d → d < C → kr σ c ≤ kr σ d) ∧ kr σ c ≤ nR σ ∧ ∀ r i, r < kr σ c → i < ln σ r → EO σ (kd σ r) (sn σ c r i)
/-- the calls' fuel, given and left -/
def FU (C : Nat) (σ : MS) : Prop := ∀ d, d < C → ∃ L H, L ≤ H ∧ H ≤ 5000 ∧ σ.2.1 24 d = nI L ∧ σ.2.1 23 d = nI H
/-- within a run, C calls in each other -/
def RVn (C : Nat) (σ : MS) : Prop := MQ9 σ ∧ MK C σ ∧ SV C σ ∧ FU C σ ∧ σ.1 30 = σ.2.1 22 0 ∧ ∃ n, σ.1 11 = nI n
/-- what acts of call c leave, what they take: P fuel, N acts, J rows of ints -/
def FRx (c P N J : Nat) (σ σ' : MS) : Prop :=
  ((∀ d, d < c → ∀ k, k = 21 ∨ k = 22 ∨ k = 23 ∨ k = 24 ∨ k = 25 → σ'.2.1 k d = σ.2.1 k d) ∧ (∀ k, k = 21 ∨ k = 23 ∨ k = 25 → σ'.2.1 k c = σ.2.1 k c) ∧ (∀ k, k = 6 ∨ k = 7 ∨ k = 16 ∨ k = 17 → σ'.2.1 k = σ.2.1 k) ∧ σ'.1 5 = σ.1 5) ∧
  (∀ d r i, d ≤ c → r < kr σ d → i < ln σ r → sn σ' d r i = sn σ d r i) ∧ nR σ ≤ nR σ' ∧ (∀ r, r < nR σ → kd σ' r = kd σ r ∧ ln σ' r = ln σ r) ∧
  (lf σ' c + P = lf σ c ∧ σ'.1 13 = σ.1 13 + nI P ∧ σ'.1 28 = σ.1 28 + nI P) ∧ (σ'.1 11 = σ.1 11 + nI N ∧ σ'.1 29 = σ.1 29 + nI N) ∧ nJ σ' = nJ σ + J
theorem RVn.sub {C : Nat} (h : RVn C σ) {c : Nat} (hc : c < C) : kr σ c ≤ nR σ := (h.2.2.1 c hc).2.1
theorem i32_a (x y z : Int32) : x + y + z = x + (y + z) := Int32.add_assoc x y z
theorem FRx.rf {c : Nat} : FRx c 0 0 0 σ σ :=
  ⟨⟨fun _ _ _ _ => rfl, fun _ _ => rfl, fun _ _ => rfl, rfl⟩, fun _ _ _ _ _ _ => rfl, Nat.le_refl _, fun _ _ => ⟨rfl, rfl⟩, ⟨rfl, (Int32.add_zero _).symm, (Int32.add_zero _).symm⟩, ⟨(Int32.add_zero _).symm, (Int32.add_zero _).symm⟩, rfl⟩
theorem FRx.trans {c P N J P' N' J' : Nat} (hs : ∀ d, d ≤ c → kr σ d ≤ nR σ) (h : FRx c P N J σ σ') (h' : FRx c P' N' J' σ' σ'') : FRx c (P + P') (N + N') (J + J') σ σ'' := by
  obtain ⟨⟨a1, a2, a3, a4⟩, a5, a6, a7, ⟨a8, a9, b1⟩, ⟨b2, b3⟩, b4⟩ := h
  obtain ⟨⟨c1, c2, c3, c4⟩, c5, c6, c7, ⟨c8, c9, d1⟩, ⟨d2, d3⟩, d4⟩ := h'
  have hkr : ∀ d, d ≤ c → kr σ' d = kr σ d := fun d hd => by
    unfold kr
    rcases Nat.lt_or_ge d c with y | y
    · rw [a1 d y 25 (by decide)]
    · obtain rfl : d = c := by omega
      rw [a2 25 (by decide)]
  refine ⟨⟨fun d hd k hk => (c1 d hd k hk).trans (a1 d hd k hk), fun k hk => (c2 k hk).trans (a2 k hk), fun k hk => (c3 k hk).trans (a3 k hk), c4.trans a4⟩, fun d r i hd hr hi => ?_, Nat.le_trans a6 c6, fun r hr => ?_, ⟨by omega, ?_, ?_⟩, ⟨?_, ?_⟩, by omega⟩
  · rw [c5 d r i hd (by rw [hkr d hd]; exact hr) (by rw [(a7 r (Nat.lt_of_lt_of_le hr (hs d hd))).2]; exact hi)]
    exact a5 d r i hd hr hi
  · have h1 := a7 r hr
    have h2 := c7 r (by omega)
    exact ⟨h2.1.trans h1.1, h2.2.trans h1.2⟩
  · rw [c9, a9, i32_a, nI_add]
  · rw [d1, b1, i32_a, nI_add]
  · rw [d2, b2, i32_a, nI_add]
  · rw [d3, b3, i32_a, nI_add]
theorem MQ9.kdln (h : MQ9 σ) {r : Nat} (hr : r < nR σ) : ln σ r ≤ 40 := (h.1.l hr).2
/-- a change that leaves rows and the calls' tables alone but for one -/
theorem RVn.same {C : Nat} (h : RVn C σ) (hq : MQ9 σ') (hk : MK C σ') (hf : FU C σ') (h30 : σ'.1 30 = σ'.2.1 22 0) (h11 : ∃ n, σ'.1 11 = nI n) (hR : nR σ ≤ nR σ') (hJ : nJ σ ≤ nJ σ') (h5 : σ'.1 5 = σ.1 5) (h6 : σ'.2.1 6 = σ.2.1 6) (h25 : ∀ d, d < C → σ'.2.1 25 d = σ.2.1 25 d) (hkl : ∀ r, r < nR σ → kd σ' r = kd σ r ∧ ln σ' r = ln σ r) (hsn : ∀ d r i, d < C → r < kr σ d → i < ln σ r → sn σ' d r i = sn σ d r i) : RVn C σ' := by
  refine ⟨hq, hk, fun c hc => ?_, hf, h30, h11⟩
  obtain ⟨s1, s2, s3⟩ := h.2.2.1 c hc
  have hkr : ∀ d, d < C → kr σ' d = kr σ d := fun d hd => by unfold kr; rw [h25 d hd]
  refine ⟨fun d h1 h2 => by rw [hkr c hc, hkr d h2]; exact s1 d h1 h2, by rw [hkr c hc]; omega, fun r i hr hi => ?_⟩
  rw [hkr c hc] at hr
  have hl := hkl r (by omega)
  rw [hl.2] at hi
  rw [hl.1, hsn c r i hc hr hi]
  exact (s3 r i hr hi).to (by unfold nU; rw [h5]) hJ h6
theorem nI_mul9 (a b : Nat) : nI a * nI b = nI (a * b) := by
  unfold nI
  exact (Int32.ofNat_mul a b).symm
theorem some_n (σ : MS) (n : Int32) : ∃ m, m ≤ 40 ∧ mf_some n = nI m ∧ (0 < n → 1 ≤ m) := by
  unfold mf_some
  by_cases h0 : n < 0
  · rw [if_pos h0]; exact ⟨0, by decide, rfl, fun y => absurd y (Int32.lt_asymm h0)⟩
  · rw [if_neg h0]
    by_cases h4 : 40 < n
    · rw [if_pos h4]; exact ⟨40, by decide, rfl, fun _ => by decide⟩
    · rw [if_neg h4]
      obtain ⟨m, hm, rfl⟩ := (isRow_n (σ := sz σ 1 (nI 41)) (R := 41) (r := n) rfl (by decide)).mp ⟨h0, by
        show n < nI 41
        have e : (nI 41).toInt = 41 := rfl
        have e4 : (40 : Int32).toInt = 40 := rfl
        rw [Int32.lt_iff_toInt_lt] at h4 ⊢
        omega⟩
      exact ⟨m, by omega, rfl, fun y => by
        have := (nI_ltI (a := 0) (by decide) (by omega)).mp y
        omega⟩
/-- the price of an act -/
theorem price_n (h : MQ9 σ) {x0 : Nat} {a b n : Int32} (hx : x0 ≤ 12) (hr : mf_hasRows σ (nI x0) a b) : ∃ P, 1 ≤ P ∧ P ≤ 7000 ∧ mf_priceOf σ (nI x0) a b n = nI P ∧ (x0 = 2 → kd σ a.toNatClampNeg = 10 → 0 < n → 8 ≤ P) := by
  have ne : ∀ y : Nat, y < 2 ^ 31 → (nI x0 = nI y ↔ x0 = y) := fun y hy => nI_eq (by omega) hy
  have e10 : (nI x0 = 10 ↔ x0 = 10) := ne 10 (by decide)
  have e11 : (nI x0 = 11 ↔ x0 = 11) := ne 11 (by decide)
  have e0 : (nI x0 = 0 ↔ x0 = 0) := ne 0 (by decide)
  have e1 : (nI x0 = 1 ↔ x0 = 1) := ne 1 (by decide)
  have e3 : (nI x0 = 3 ↔ x0 = 3) := ne 3 (by decide)
  have e4 : (nI x0 = 4 ↔ x0 = 4) := ne 4 (by decide)
  have e5 : (nI x0 = 5 ↔ x0 = 5) := ne 5 (by decide)
  have e6 : (nI x0 = 6 ↔ x0 = 6) := ne 6 (by decide)
  have e8 : (nI x0 = 8 ↔ x0 = 8) := ne 8 (by decide)
  have e12 : (nI x0 = 12 ↔ x0 = 12) := ne 12 (by decide)
  have hb : ∃ B, 1 ≤ B ∧ B ≤ 5 ∧ mf_base (nI x0) = nI B := by
    unfold mf_base
    split
    · exact ⟨2, by decide, by decide, rfl⟩
    split
    · exact ⟨3, by decide, by decide, rfl⟩
    split
    · exact ⟨5, by decide, by decide, rfl⟩
    · exact ⟨1, by decide, by decide, rfl⟩
  obtain ⟨B, b1, b2, b3⟩ := hb
  unfold mf_priceOf
  by_cases hc : x0 = 10 ∨ x0 = 11
  · rw [if_pos (hc.imp e10.mpr e11.mpr)]
    exact ⟨B, b1, by omega, b3, fun y => by omega⟩
  · rw [if_neg (fun y => hc (y.imp e10.mp e11.mp))]
    have ha : a.toNatClampNeg < nR σ := has_i h (hr.1.resolve_left (fun y => hc (y.imp e10.mp e11.mp)))
    have hla := h.1.l ha
    have hka := h.1.k ha
    obtain ⟨s, s1, s2, s3⟩ := some_n σ n
    have hm : ∃ m, m ≤ 1600 ∧ mf_many σ (nI x0) a.toNatClampNeg b.toNatClampNeg n = nI m ∧ (x0 = 2 → m = s) := by
      unfold mf_many
      split
      · next y =>
        rw [s2, nI_mul9]
        refine ⟨s * s, ?_, rfl, fun z => ?_⟩
        · exact Nat.le_trans (Nat.mul_le_mul s1 s1) (by decide)
        · have := e8.mp y; omega
      split
      · next y => exact ⟨ln σ a.toNatClampNeg, by omega, hla.1, fun z => by rw [e1, e5, e6, e12] at y; omega⟩
      split
      · next y =>
        rw [e3, e4] at y
        have hb9 : b.toNatClampNeg < nR σ := has_i h (hr.2.resolve_left (fun z => z (by rcases y with y | y; exact Or.inr (Or.inl (e3.mpr y)); exact Or.inr (Or.inr (e4.mpr y)))))
        have hlb := h.1.l hb9
        split
        · exact ⟨ln σ a.toNatClampNeg, by omega, hla.1, fun z => by omega⟩
        · exact ⟨ln σ b.toNatClampNeg, by omega, hlb.1, fun z => by omega⟩
      · exact ⟨s, by omega, s2, fun _ => rfl⟩
    obtain ⟨m, m1, m2, m3⟩ := hm
    have hw : ∃ w, 1 ≤ w ∧ w ≤ 4 ∧ mf_wt (σ.2.1 2 a.toNatClampNeg) = nI w ∧ (kd σ a.toNatClampNeg = 10 → w = 4) := by
      have hz : kd σ a.toNatClampNeg = 10 → σ.2.1 2 a.toNatClampNeg = 10 := fun y => by rw [hka.1, y]; rfl
      unfold mf_wt
      split
      · next y => exact ⟨2, by decide, by decide, rfl, fun z => by rw [hz z] at y; exact absurd y (by decide)⟩
      split
      · exact ⟨4, by decide, by decide, rfl, fun _ => rfl⟩
      split
      · next y _ => exact ⟨3, by decide, by decide, rfl, fun z => absurd (hz z) y⟩
      · next y _ => exact ⟨1, by decide, by decide, rfl, fun z => absurd (hz z) y⟩
    obtain ⟨w, w1, w2, w3, w4⟩ := hw
    rw [b3, m2, w3, nI_add, nI_mul9]
    refine ⟨(B + m) * w, ?_, ?_, rfl, fun y1 y2 y3 => ?_⟩
    · exact Nat.le_trans (show 1 ≤ 1 * 1 by decide) (Nat.mul_le_mul (by omega) w1)
    · exact Nat.le_trans (Nat.mul_le_mul (show B + m ≤ 1605 by omega) w2) (by decide)
    · rw [w4 y2, m3 y1]
      have := s3 y3
      omega
end S50
section S50b
variable {σ σ' σ'' : MS}
theorem MK.top {C c : Nat} (h : MK C σ) (hc : c < C) : ∃ P, P < 6 ∧ pl σ c = P ∧ σ.2.1 21 c = nI P ∧ σ.2.1 22 c = nI (atc σ c) ∧ atc σ c ≤ psz σ P ∧ (c + 1 < C → atc σ c < psz σ P) := by
  obtain ⟨⟨P, h1, h2, A, h3, h4, h5⟩, -⟩ := h.2 c hc
  refine ⟨P, h1, by unfold pl; rw [h2, nI_clamp (by omega)], h2, ?_⟩
  have hA : A < 2 ^ 31 := by
    by_cases e : c + 1 < C
    · have := h5 e
      unfold psz at this
      have h9 : ∀ v : Int32, v.toNatClampNeg < 2 ^ 31 := fun v => Int32.toNatClampNeg_lt v
      have := h9 (σ.2.1 16 P)
      omega
    · have h9 : ∀ v : Int32, v.toNatClampNeg < 2 ^ 31 := fun v => Int32.toNatClampNeg_lt v
      have := h9 (σ.2.1 16 P)
      unfold psz at h3
      omega
  have e : atc σ c = A := by unfold atc; rw [h4, nI_clamp hA]
  rw [e]
  exact ⟨h4, h3, h5⟩
/-- numbers of the top call but for its place change -/
theorem MK.num {C : Nat} (h : MK C σ) (h20 : σ'.1 20 = σ.1 20) (hR : nR σ ≤ nR σ') (h16 : σ'.2.1 16 = σ.2.1 16) (h2 : ∀ k, k = 21 ∨ k = 22 ∨ k = 25 → σ'.2.1 k = σ.2.1 k) : MK C σ' := by
  have hp : ∀ P, psz σ' P = psz σ P := fun P => by unfold psz; rw [h16]
  refine ⟨⟨h20.trans h.1.1, h.1.2⟩, fun d hd => ?_⟩
  obtain ⟨⟨P, a1, a2, A, a3, a4, a5⟩, R, a6, a7⟩ := h.2 d hd
  rw [h2 21 (by decide), h2 22 (by decide), h2 25 (by decide)]
  exact ⟨⟨P, a1, a2, A, by rw [hp]; exact a3, a4, fun y => by rw [hp]; exact a5 y⟩, R, by omega, a7⟩
/-- an act is paid -/
theorem RVn.pay {c P : Nat} (h : RVn (c + 1) σ) (hP : P ≤ lf σ c) : RVn (c + 1) (mf_pay c (nI P) σ) ∧ FRx c P 1 0 σ (mf_pay c (nI P) σ) := by
  obtain ⟨L, H, f1, f2, f3, f4⟩ := h.2.2.2.1 c (Nat.lt_succ_self c)
  have eL : lf σ c = L := by unfold lf; rw [f3, nI_clamp (by omega)]
  have e24 : ∀ d, (mf_pay c (nI P) σ).2.1 24 d = va_up (σ.2.1 24) c (σ.2.1 24 c - nI P) d := fun _ => rfl
  have e24c : (mf_pay c (nI P) σ).2.1 24 c = nI (L - P) := by rw [e24, va_up_s, f3]; exact nI_sub (by omega)
  have e2 : ∀ k, k ≠ 24 → (mf_pay c (nI P) σ).2.1 k = σ.2.1 k := fun k hk => va_up_n hk
  have q : MQ9 (mf_pay c (nI P) σ) := h.1.same rfl rfl rfl (fun k hk => e2 k (by omega)) rfl
  constructor
  · refine h.same q (h.2.1.num rfl (Nat.le_refl _) (e2 16 (by decide)) (fun k hk => e2 k (by omega))) (fun d hd => ?_) h.2.2.2.2.1 ?_ (Nat.le_refl _) (Nat.le_refl _) rfl (e2 6 (by decide)) (fun d _ => by rw [e2 25 (by decide)]) (fun r _ => ⟨by unfold kd; rw [e2 2 (by decide)], by unfold ln; rw [e2 3 (by decide)]⟩) (fun _ _ _ _ _ _ => rfl)
    · by_cases e : d = c
      · subst e
        exact ⟨L - P, H, by omega, f2, e24c, by rw [e2 23 (by decide)]; exact f4⟩
      · rw [e24, va_up_n e, e2 23 (by decide)]
        exact h.2.2.2.1 d hd
    · obtain ⟨n, hn⟩ := h.2.2.2.2.2
      exact ⟨n + 1, by show σ.1 11 + 1 = _; rw [hn, show (1 : Int32) = nI 1 from rfl, nI_add]⟩
  · refine ⟨⟨fun d hd k hk => ?_, fun k hk => by rw [e2 k (by omega)], fun k hk => e2 k (by omega), rfl⟩, fun _ _ _ _ _ _ => rfl, Nat.le_refl _, fun r _ => ⟨by unfold kd; rw [e2 2 (by decide)], by unfold ln; rw [e2 3 (by decide)]⟩, ⟨?_, rfl, rfl⟩, ⟨rfl, rfl⟩, rfl⟩
    · by_cases e : k = 24
      · subst e; rw [e24, va_up_n (by omega)]
      · rw [e2 k e]
    · unfold lf
      rw [e24c, nI_clamp (by omega), f3, nI_clamp (by omega)]
      omega
/-- an act that is no call is done -/
theorem RVn.done {c x0 : Nat} {a i b j n : Int32} (h : RVn (c + 1) σ) (hJ : nJ σ < 8000) (hx : x0 ≤ 12) (hr : mf_hasRows σ (nI x0) a b) : RVn (c + 1) (mf_done σ x0 a i b j n).2 ∧ ∃ J, J ≤ 1 ∧ (J ≠ 0 → x0 = 2 ∧ kd σ a.toNatClampNeg = 10 ∧ 0 < n) ∧ FRx c 0 0 J σ (mf_done σ x0 a i b j n).2 ∧ (mf_done σ x0 a i b j n).2.2.1 22 = σ.2.1 22 := by
  have kp := Kp.done (σ := σ) (x0 := x0) (a := a) (i := i) (b := b) (j := j) (n := n)
  have dn := DN.done (i := i) (j := j) (n := n) h.1 hJ hx hr
  obtain ⟨τ, hτ⟩ : ∃ τ, τ = (mf_done σ x0 a i b j n).2 := ⟨_, rfl⟩
  rw [← hτ] at kp dn ⊢
  obtain ⟨⟨q, d1, d2, d3, d4⟩, d5⟩ := dn
  obtain ⟨k1, k2, k3⟩ := kp
  have e26 : τ.2.2.1 26 = σ.2.2.1 26 := k3 26 (by decide) (by decide)
  have hsn : ∀ d r i, sn τ d r i = sn σ d r i := fun d r i => by unfold sn; rw [e26]
  have z2 : ∀ k, k ≠ 2 ∧ k ≠ 3 ∧ k ≠ 9 ∧ k ≠ 10 → τ.2.1 k = σ.2.1 k := fun k hk => k2 k hk.1 hk.2.1 hk.2.2.1 hk.2.2.2
  refine ⟨h.same q (h.2.1.num (k1 20 (by decide) (by decide)) d1 (z2 16 (by decide)) (fun k hk => z2 k (by omega))) (fun d hd => ?_) ?_ ?_ d1 d2 (k1 5 (by decide) (by decide)) (z2 6 (by decide)) (fun d _ => by rw [z2 25 (by decide)]) d4 (fun d r i _ _ _ => hsn d r i), nJ τ - nJ σ, by omega, fun y => d5 (by omega), ?_, z2 22 (by decide)⟩
  · rw [z2 24 (by decide), z2 23 (by decide)]; exact h.2.2.2.1 d hd
  · rw [k1 30 (by decide) (by decide), z2 22 (by decide)]; exact h.2.2.2.2.1
  · rw [k1 11 (by decide) (by decide)]; exact h.2.2.2.2.2
  · refine ⟨⟨fun d hd k hk => by rw [z2 k (by omega)], fun k hk => by rw [z2 k (by omega)], fun k hk => z2 k (by omega), k1 5 (by decide) (by decide)⟩, fun d r i _ _ _ => hsn d r i, d1, d4, ⟨by unfold lf; rw [z2 24 (by decide)]; rfl, ?_, ?_⟩, ⟨?_, ?_⟩, by omega⟩
    · rw [k1 13 (by decide) (by decide)]; exact (Int32.add_zero _).symm
    · rw [k1 28 (by decide) (by decide)]; exact (Int32.add_zero _).symm
    · rw [k1 11 (by decide) (by decide)]; exact (Int32.add_zero _).symm
    · rw [k1 29 (by decide) (by decide)]; exact (Int32.add_zero _).symm
theorem RVn.flt {C : Nat} (h : RVn C σ) : RVn C (mf_flt σ) := by
  have e1 : ∀ k, k ≠ 15 → (mf_flt σ).1 k = σ.1 k := fun k hk => va_up_n hk
  refine h.same (h.1.same (e1 1 (by decide)) (e1 5 (by decide)) (e1 8 (by decide)) (fun _ _ => rfl) rfl) (h.2.1.num (e1 20 (by decide)) (by unfold nR; rw [e1 1 (by decide)]; exact Nat.le_refl _) rfl (fun _ _ => rfl)) h.2.2.2.1 ?_ ?_ (by unfold nR; rw [e1 1 (by decide)]; exact Nat.le_refl _) (by unfold nJ; rw [e1 8 (by decide)]; exact Nat.le_refl _) (e1 5 (by decide)) rfl (fun _ _ => rfl) (fun _ _ => ⟨rfl, rfl⟩) (fun _ _ _ _ _ _ => rfl)
  · rw [e1 30 (by decide)]; exact h.2.2.2.2.1
  · rw [e1 11 (by decide)]; exact h.2.2.2.2.2
theorem FRx.flt {c P N J : Nat} (h : FRx c P N J σ σ') : FRx c P N J σ (mf_flt σ') := by
  have e1 : ∀ k, k ≠ 15 → (mf_flt σ').1 k = σ'.1 k := fun k hk => va_up_n hk
  obtain ⟨⟨a1, a2, a3, a4⟩, a5, a6, a7, ⟨a8, a9, b1⟩, ⟨b2, b3⟩, b4⟩ := h
  refine ⟨⟨a1, a2, a3, by rw [e1 5 (by decide)]; exact a4⟩, a5, by unfold nR at a6 ⊢; rw [e1 1 (by decide)]; exact a6, a7, ⟨a8, by rw [e1 13 (by decide)]; exact a9, by rw [e1 28 (by decide)]; exact b1⟩, ⟨by rw [e1 11 (by decide)]; exact b2, by rw [e1 29 (by decide)]; exact b3⟩, by unfold nJ at b4 ⊢; rw [e1 8 (by decide)]; exact b4⟩
theorem fuel_n {n : Int32} {L : Nat} (hL : L ≤ 5000) : ∃ f, f ≤ L ∧ mf_fuel n (nI L) = nI f := by
  unfold mf_fuel
  by_cases h0 : n < 0
  · rw [if_pos h0]; exact ⟨0, Nat.zero_le _, rfl⟩
  · rw [if_neg h0]
    by_cases h1 : nI L < n
    · rw [if_pos h1]; exact ⟨L, Nat.le_refl _, rfl⟩
    · rw [if_neg h1]
      have e : 0 ≤ n.toInt := by rw [Int32.lt_iff_toInt_lt] at h0; have e0 : (0 : Int32).toInt = 0 := rfl; omega
      have e2 : n.toInt ≤ L := by rw [Int32.lt_iff_toInt_lt, nI_toInt (by omega)] at h1; omega
      refine ⟨n.toInt.toNat, by omega, Int32.toInt_inj.mp ?_⟩
      rw [nI_toInt (by omega)]
      omega
/-- a call is begun -/
theorem RVn.enter {c q f : Nat} (h : RVn (c + 1) σ) (hc : c < 5) (hA : atc σ c < psz σ (pl σ c)) (hq : q < 6) (hf : f ≤ 5000) : RVn (c + 2) (mf_enter (c + 1) (nI q) (nI f) σ) ∧ atc (mf_enter (c + 1) (nI q) (nI f) σ) (c + 1) = 0 ∧ pl (mf_enter (c + 1) (nI q) (nI f) σ) (c + 1) = q ∧ lf (mf_enter (c + 1) (nI q) (nI f) σ) (c + 1) = f := by
  obtain ⟨τ, hτ⟩ : ∃ τ, τ = mf_enter (c + 1) (nI q) (nI f) σ := ⟨_, rfl⟩
  have t1 : ∀ k, k ≠ 14 → k ≠ 20 → τ.1 k = σ.1 k := fun k h1 h2 => by rw [hτ]; exact (va_up_n h1).trans (va_up_n h2)
  have t20 : τ.1 20 = nI (c + 1 + 1) := by rw [hτ]; rfl
  have t2 : ∀ k, k ≠ 21 → k ≠ 22 → k ≠ 23 → k ≠ 24 → k ≠ 25 → τ.2.1 k = σ.2.1 k := fun k h1 h2 h3 h4 h5 => by
    rw [hτ]
    exact (va_up_n h5).trans ((va_up_n h4).trans ((va_up_n h3).trans ((va_up_n h2).trans (va_up_n h1))))
  have t21 : τ.2.1 21 = va_up (σ.2.1 21) (c + 1) (nI q) := by rw [hτ]; rfl
  have t22 : τ.2.1 22 = va_up (σ.2.1 22) (c + 1) 0 := by rw [hτ]; rfl
  have t23 : τ.2.1 23 = va_up (σ.2.1 23) (c + 1) (nI f) := by rw [hτ]; rfl
  have t24 : τ.2.1 24 = va_up (σ.2.1 24) (c + 1) (nI f) := by rw [hτ]; rfl
  have t25 : τ.2.1 25 = va_up (σ.2.1 25) (c + 1) (σ.1 1) := by rw [hτ]; rfl
  have t26 : τ.2.2.1 26 = mfill (σ.2.2.1 26) (2400 * (c + 1)) (40 * nR σ) (fun k => σ.2.2.1 4 k) := by rw [hτ]; rfl
  have t4 : τ.2.2.1 4 = σ.2.2.1 4 := by rw [hτ]; rfl
  rw [← hτ]
  have hR := h.1.1.R
  have n1 : nR τ = nR σ := by unfold nR; rw [t1 1 (by decide) (by decide)]
  have n5 : nU τ = nU σ := by unfold nU; rw [t1 5 (by decide) (by decide)]
  have n8 : nJ τ = nJ σ := by unfold nJ; rw [t1 8 (by decide) (by decide)]
  have hkd : ∀ r, kd τ r = kd σ r := fun r => by unfold kd; rw [t2 2 (by decide) (by decide) (by decide) (by decide) (by decide)]
  have hln : ∀ r, ln τ r = ln σ r := fun r => by unfold ln; rw [t2 3 (by decide) (by decide) (by decide) (by decide) (by decide)]
  have hps : ∀ r, psz τ r = psz σ r := fun r => by unfold psz; rw [t2 16 (by decide) (by decide) (by decide) (by decide) (by decide)]
  have hkr : ∀ d, d ≠ c + 1 → kr τ d = kr σ d := fun d hd => by unfold kr; rw [t25, va_up_n hd]
  have hkrc : kr τ (c + 1) = nR σ := by unfold kr; rw [t25, va_up_s]
  have hEO : ∀ k b, EO σ k b → EO τ k b := fun k b y => y.to n5 (by omega) (t2 6 (by decide) (by decide) (by decide) (by decide) (by decide))
  obtain ⟨P, p1, p2, p3, p4, p5, -⟩ := h.2.1.top (Nat.lt_succ_self c)
  refine ⟨⟨h.1.same (t1 1 (by decide) (by decide)) (t1 5 (by decide) (by decide)) (t1 8 (by decide) (by decide)) (fun k hk => t2 k (by omega) (by omega) (by omega) (by omega) (by omega)) t4, ?_, ?_, ?_, ?_, ?_⟩, ?_, ?_, ?_⟩
  · refine ⟨⟨t20, by omega⟩, fun d hd => ?_⟩
    by_cases e : d = c + 1
    · subst e
      rw [t21, t22, t25, va_up_s, va_up_s, va_up_s]
      exact ⟨⟨q, hq, rfl, 0, Nat.zero_le _, rfl, fun y => by omega⟩, nR σ, by omega, hR.1⟩
    · rw [t21, t22, t25, va_up_n e, va_up_n e, va_up_n e]
      by_cases e2 : d = c
      · subst e2
        obtain ⟨-, R, r1, r2⟩ := h.2.1.2 d (by omega)
        rw [p2] at hA
        exact ⟨⟨P, p1, p3, atc σ d, by rw [hps]; omega, p4, fun _ => by rw [hps]; exact hA⟩, R, by omega, r2⟩
      · obtain ⟨⟨P', a1, a2, A, a3, a4, a5⟩, R, a6, a7⟩ := h.2.1.2 d (by omega)
        exact ⟨⟨P', a1, a2, A, by rw [hps]; exact a3, a4, fun _ => by rw [hps]; exact a5 (by omega)⟩, R, by omega, a7⟩
  · intro d hd
    by_cases e : d = c + 1
    · subst e
      rw [hkrc]
      refine ⟨fun d h1 h2 => by omega, by omega, fun r i hr hi => ?_⟩
      rw [hln] at hi
      have l9 := h.1.kdln hr
      rw [hkd]
      refine hEO _ _ ?_
      have e9 : sn τ (c + 1) r i = el σ r i := by unfold sn el; rw [t26, mfill_in (by omega)]
      rw [e9]
      exact h.1.e hr hi
    · obtain ⟨s1, s2, s3⟩ := h.2.2.1 d (by omega)
      rw [hkr d e]
      refine ⟨fun d' h1 h2 => ?_, by omega, fun r i hr hi => ?_⟩
      · by_cases e2 : d' = c + 1
        · subst e2; rw [hkrc]; exact s2
        · rw [hkr d' e2]; exact s1 d' h1 (by omega)
      · rw [hln] at hi
        have l9 := h.1.kdln (r := r) (by omega)
        have e9 : sn τ d r i = sn σ d r i := by unfold sn; rw [t26, mfill_out (by omega)]
        rw [hkd, e9]
        exact hEO _ _ (s3 r i hr hi)
  · intro d hd
    by_cases e : d = c + 1
    · subst e
      rw [t23, t24, va_up_s, va_up_s]
      exact ⟨f, f, Nat.le_refl _, hf, rfl, rfl⟩
    · rw [t23, t24, va_up_n e, va_up_n e]
      exact h.2.2.2.1 d (by omega)
  · rw [t1 30 (by decide) (by decide), t22, va_up_n (by omega)]; exact h.2.2.2.2.1
  · rw [t1 11 (by decide) (by decide)]; exact h.2.2.2.2.2
  · unfold atc; rw [t22, va_up_s]; rfl
  · unfold pl; rw [t21, va_up_s, nI_clamp (by omega)]
  · unfold lf; rw [t24, va_up_s, nI_clamp (by omega)]
end S50b
/-- call c + 1 has come to its end: what is left of its fuel goes back -/
def mf_ret9 (c : Nat) (σ : MS) : MS := si (sz σ 20 (nI (c + 1))) 24 (va_up (σ.2.1 24) c (σ.2.1 24 c - (σ.2.1 23 (c + 1) - σ.2.1 24 (c + 1))))
theorem ret_9 {c : Nat} {σ : MS} : mf_ret (c + 1) σ = mf_end c 0 (mf_ret9 c σ) := by
  unfold mf_ret
  rw [if_neg (by omega)]
  rfl
/-- fault, value, state -/
abbrev BRT : Type := Int32 × Int64 × MS
def mf_callB (r : Int32 × MS) (c : Nat) (i : Int32) : BRT := if r.1 = 0 then (0, 0, mf_ret9 c r.2) else if i = 1 then (0, r.1.toInt64, sz (mf_pop (c + 1) r.2) 31 (r.2.1 31 + 1)) else (r.1, 0, mf_pop (c + 1) r.2)
def mf_callR (go : Nat → MS → Int32 × MS) (c : Nat) (σ : MS) (a i n : Int32) : BRT := if c = 5 then (7, 0, mf_flt σ) else mf_callB (go (c + 1) (mf_enter (c + 1) a (mf_fuel n (σ.2.1 24 c)) σ)) c i
def mf_dr (d : Int32 × MS) : BRT := if d.1 = 0 then (0, d.2.2.2.2, d.2) else (d.1, 0, mf_flt d.2)
def mf_workR (go : Nat → MS → Int32 × MS) (c : Nat) (σ : MS) (x0 : Nat) (a i b j n : Int32) : BRT := if x0 = 10 then mf_callR go c σ a i n else mf_dr (mf_done σ x0 a i b j n)
def mf_actR (go : Nat → MS → Int32 × MS) (c : Nat) (σ : MS) : BRT :=
  if ¬ mf_hasRows σ (mf_act σ c 0) (mf_act σ c 1) (mf_act σ c 3) then (1, 0, mf_flt σ) else if σ.2.1 24 c < mf_prc σ c then (8, 0, mf_flt σ)
  else mf_workR go c (mf_pay c (mf_prc σ c) σ) (mf_act σ c 0).toNatClampNeg (mf_act σ c 1) (mf_act σ c 2) (mf_act σ c 3) (mf_act σ c 4) (mf_act σ c 5)
def mf_acts (go : Nat → MS → Int32 × MS) (c : Nat) : Nat → MS → Int32 × MS
  | 0, σ => (0, σ)
  | n + 1, σ => if (mf_actR go c σ).1 = 0 then mf_acts go c n (mf_end c (mf_actR go c σ).2.1 (mf_actR go c σ).2.2) else ((mf_actR go c σ).1, (mf_actR go c σ).2.2)
/-- call c with all its acts, D calls deep at most behind it -/
def mf_go : Nat → Nat → MS → Int32 × MS
  | 0, c, σ => mf_acts (fun _ τ => (0, τ)) c (psz σ (pl σ c)) σ
  | D + 1, c, σ => mf_acts (mf_go D) c (psz σ (pl σ c)) σ
def Tks (σ : MS) (l : Int32) (σE : MS) (lE : Int32) : Prop := ∃ n, Tk n σ l σE lE
section S50c
variable {σ σ' σ'' σE : MS} {lE : Int32}
/-- what the acts of call c come to -/
def GS (c : Nat) (σ : MS) (r : Int32 × MS) : Prop :=
  (0 ≤ r.1 ∧ RVn (c + 1) r.2 ∧ ∃ P N J, N ≤ P ∧ 8 * J ≤ P ∧ J ≤ N ∧ FRx c P N J σ r.2) ∧
  (r.1 = 0 → atc r.2 c = psz r.2 (pl r.2 c) ∧ ∀ σE lE, Tks r.2 0 σE lE → Tks σ 0 σE lE) ∧
  (r.1 ≠ 0 → ∀ σE lE, Tks (mf_fail r.1 (c + 1) r.2).2 (mf_fail r.1 (c + 1) r.2).1 σE lE → Tks σ 0 σE lE)
/-- the same of one act -/
def AS (c : Nat) (σ : MS) (b : BRT) : Prop :=
  (0 ≤ b.1 ∧ RVn (c + 1) b.2.2 ∧ b.2.2.2.1 22 c = σ.2.1 22 c ∧ ∃ P N J, N ≤ P ∧ 8 * J ≤ P ∧ J ≤ N ∧ (b.1 = 0 → 1 ≤ N) ∧ FRx c P N J σ b.2.2) ∧
  (b.1 = 0 → ∀ σE lE, Tks (mf_end c b.2.1 b.2.2) 0 σE lE → Tks σ 0 σE lE) ∧
  (b.1 ≠ 0 → ∀ σE lE, Tks (mf_fail b.1 (c + 1) b.2.2).2 (mf_fail b.1 (c + 1) b.2.2).1 σE lE → Tks σ 0 σE lE)
/-- room for what comes -/
def BG (c : Nat) (σ : MS) : Prop := 8 * nJ σ + lf σ c < 64000
theorem RVn.FK {C : Nat} (h : RVn C σ) : FK C σ := by
  refine ⟨h.2.1.1.1, h.2.1.1.2, fun d hd => ?_, fun d hd => ?_⟩
  · obtain ⟨-, R, r1, r2⟩ := h.2.1.2 d hd
    have := h.1.1.R.2
    exact ⟨R, by omega, r2⟩
  · obtain ⟨P, p1, p2, p3, p4, p5, p6⟩ := h.2.1.top (c := d) (by omega)
    have := p6 hd
    have := (h.1.1.p p1).2
    exact ⟨P, atc σ d, p1, by omega, p3, p4⟩
/-- a step without a fault -/
theorem Tks.step {c : Nat} (h : RVn (c + 1) σ) (hJ : nJ σ < 8000) {σ1 : MS} (hs : mf_step c σ = (0, σ1)) {l : Int32} (ht : Tks σ1 l σE lE) : Tks σ l σE lE := by
  obtain ⟨n, hn⟩ := ht
  exact ⟨n + 1, c, h.1.1, h.2.1, hJ, Or.inl ⟨by rw [hs], by rw [hs]; exact hn⟩⟩
/-- a step with one -/
theorem Tks.flt {c : Nat} (h : RVn (c + 1) σ) (hJ : nJ σ < 8000) {σ1 : MS} {f : Int32} (hf : 0 < f) (hs : mf_step c σ = (f, σ1)) (h1 : RVn (c + 1) (mf_flt σ1)) {l : Int32} (ht : Tks (mf_fail f (c + 1) (mf_flt σ1)).2 (mf_fail f (c + 1) (mf_flt σ1)).1 σE lE) : Tks σ l σE lE := by
  obtain ⟨n, hn⟩ := ht
  exact ⟨n + 1, c, h.1.1, h.2.1, hJ, Or.inr ⟨by rw [hs]; exact hf, c + 1, by rw [hs]; exact h1.FK, by rw [hs]; exact hn⟩⟩
/-- behind a call that came to its end -/
theorem RVn.ret {c P N J f : Nat} (h : RVn (c + 1) σ) (h' : RVn (c + 2) σ') (hf : f ≤ lf σ c) (hA : atc σ c < psz σ (pl σ c)) {q : Nat} (hF : FRx (c + 1) P N J (mf_enter (c + 1) (nI q) (nI f) σ) σ') : RVn (c + 1) (mf_ret9 c σ') ∧ FRx c P N J σ (mf_ret9 c σ') ∧ (mf_ret9 c σ').2.1 22 c = σ.2.1 22 c := by
  obtain ⟨τ, hτ⟩ : ∃ τ, τ = mf_enter (c + 1) (nI q) (nI f) σ := ⟨_, rfl⟩
  have t1 : ∀ k, k ≠ 14 → k ≠ 20 → τ.1 k = σ.1 k := fun k h1 h2 => by rw [hτ]; exact (va_up_n h1).trans (va_up_n h2)
  have t2 : ∀ k, k ≠ 21 → k ≠ 22 → k ≠ 23 → k ≠ 24 → k ≠ 25 → τ.2.1 k = σ.2.1 k := fun k h1 h2 h3 h4 h5 => by
    rw [hτ]
    exact (va_up_n h5).trans ((va_up_n h4).trans ((va_up_n h3).trans ((va_up_n h2).trans (va_up_n h1))))
  have tl : ∀ k d, d ≠ c + 1 → k = 21 ∨ k = 22 ∨ k = 23 ∨ k = 24 ∨ k = 25 → τ.2.1 k d = σ.2.1 k d := fun k d hd hk => by
    rw [hτ]
    rcases hk with rfl | rfl | rfl | rfl | rfl <;> exact va_up_n hd
  have t24 : τ.2.1 24 (c + 1) = nI f := by rw [hτ]; exact va_up_s
  have t23 : τ.2.1 23 (c + 1) = nI f := by rw [hτ]; exact va_up_s
  have t26 : τ.2.2.1 26 = mfill (σ.2.2.1 26) (2400 * (c + 1)) (40 * nR σ) (fun k => σ.2.2.1 4 k) := by rw [hτ]; rfl
  rw [← hτ] at hF
  obtain ⟨⟨a1, a2, a3, a4⟩, a5, a6, a7, ⟨a8, a9, b1⟩, ⟨b2, b3⟩, b4⟩ := hF
  have n1 : nR τ = nR σ := by unfold nR; rw [t1 1 (by decide) (by decide)]
  have hR := h.1.1.R
  obtain ⟨L, H, f1, f2, f3, f4⟩ := h.2.2.2.1 c (Nat.lt_succ_self c)
  have eL : lf σ c = L := by unfold lf; rw [f3, nI_clamp (by omega)]
  obtain ⟨L', H', g1, g2, g3, g4⟩ := h'.2.2.2.1 (c + 1) (Nat.lt_succ_self _)
  have eL' : lf σ' (c + 1) = L' := by unfold lf; rw [g3, nI_clamp (by omega)]
  have eT : lf τ (c + 1) = f := by unfold lf; rw [t24, nI_clamp (by omega)]
  rw [eL', eT] at a8
  obtain ⟨ρ, hρ⟩ : ∃ ρ, ρ = mf_ret9 c σ' := ⟨_, rfl⟩
  have r1 : ∀ k, k ≠ 20 → ρ.1 k = σ'.1 k := fun k hk => by rw [hρ]; exact va_up_n hk
  have r20 : ρ.1 20 = nI (c + 1) := by rw [hρ]; rfl
  have r2 : ∀ k, k ≠ 24 → ρ.2.1 k = σ'.2.1 k := fun k hk => by rw [hρ]; exact va_up_n hk
  have r24 : ∀ d, d ≠ c → ρ.2.1 24 d = σ'.2.1 24 d := fun d hd => by rw [hρ]; exact va_up_n hd
  have r3 : ρ.2.2.1 = σ'.2.2.1 := by rw [hρ]; rfl
  have hlow : ∀ d, d ≤ c → ∀ k, k = 21 ∨ k = 22 ∨ k = 23 ∨ k = 24 ∨ k = 25 → σ'.2.1 k d = σ.2.1 k d := fun d hd k hk => (a1 d (by omega) k hk).trans (tl k d (by omega) hk)
  have r24c : ρ.2.1 24 c = nI (L - P) := by
    rw [hρ]
    refine va_up_s.trans ?_
    rw [hlow c (Nat.le_refl _) 24 (by decide), a2 23 (by decide), t23, g3, f3, nI_sub (by omega), show f - L' = P by omega]
    exact nI_sub (by omega)
  have hq : MQ9 ρ := h'.1.same (r1 1 (by decide)) (r1 5 (by decide)) (r1 8 (by decide)) (fun k hk => r2 k (by omega)) (by rw [r3])
  have m1 : nR ρ = nR σ' := by unfold nR; rw [r1 1 (by decide)]
  have m8 : nJ ρ = nJ σ' := by unfold nJ; rw [r1 8 (by decide)]
  have m5 : nU ρ = nU σ' := by unfold nU; rw [r1 5 (by decide)]
  have hkl : ∀ r, kd ρ r = kd σ' r ∧ ln ρ r = ln σ' r := fun r => ⟨by unfold kd; rw [r2 2 (by decide)], by unfold ln; rw [r2 3 (by decide)]⟩
  have hkl2 : ∀ r, r < nR σ → kd ρ r = kd σ r ∧ ln ρ r = ln σ r := fun r hr => by
    have y := a7 r (by omega)
    rw [(hkl r).1, (hkl r).2, y.1, y.2]
    exact ⟨by unfold kd; rw [t2 2 (by decide) (by decide) (by decide) (by decide) (by decide)], by unfold ln; rw [t2 3 (by decide) (by decide) (by decide) (by decide) (by decide)]⟩
  have hsn : ∀ d r i, d ≤ c → r < kr σ d → i < ln σ r → sn ρ d r i = sn σ d r i := fun d r i hd hr hi => by
    have hkr : kr τ d = kr σ d := by unfold kr; rw [tl 25 d (by omega) (by decide)]
    have hln : ln τ r = ln σ r := by unfold ln; rw [t2 3 (by decide) (by decide) (by decide) (by decide) (by decide)]
    have hrn := h.sub (c := d) (by omega)
    have l9 := h.1.kdln (r := r) (by omega)
    have e1 : sn ρ d r i = sn σ' d r i := by unfold sn; rw [r3]
    rw [e1, a5 d r i (by omega) (by rw [hkr]; exact hr) (by rw [hln]; exact hi)]
    unfold sn
    rw [t26, mfill_out (by omega)]
  have e16 : ρ.2.1 16 = σ.2.1 16 := by rw [r2 16 (by decide), a3 16 (by decide)]; exact t2 16 (by decide) (by decide) (by decide) (by decide) (by decide)
  have hlo : ∀ d, d ≤ c → ∀ k, k = 21 ∨ k = 22 ∨ k = 23 ∨ k = 25 → ρ.2.1 k d = σ.2.1 k d := fun d hd k hk => by rw [r2 k (by omega)]; exact hlow d hd k (by omega)
  have e5 : ρ.1 5 = σ.1 5 := by rw [r1 5 (by decide), a4]; exact t1 5 (by decide) (by decide)
  have e6 : ρ.2.1 6 = σ.2.1 6 := by rw [r2 6 (by decide), a3 6 (by decide)]; exact t2 6 (by decide) (by decide) (by decide) (by decide) (by decide)
  have nJt : nJ τ = nJ σ := by unfold nJ; rw [t1 8 (by decide) (by decide)]
  rw [← hρ]
  refine ⟨h.same hq ⟨⟨r20, by have := h.2.1.1.2; omega⟩, fun d hd => ?_⟩ (fun d hd => ?_) ?_ ?_ (by omega) (by omega) e5 e6 (fun d hd => hlo d (by omega) 25 (by decide)) hkl2 (fun d r i hd hr hi => hsn d r i (by omega) hr hi), ⟨⟨fun d hd k hk => ?_, fun k hk => hlo c (Nat.le_refl _) k (by omega), fun k hk => ?_, e5⟩, hsn, by omega, hkl2, ⟨?_, ?_, ?_⟩, ⟨?_, ?_⟩, by omega⟩, hlo c (Nat.le_refl _) 22 (by decide)⟩
  · obtain ⟨⟨P9, p1, p2, A, p3, p4, p5⟩, R, p6, p7⟩ := h.2.1.2 d hd
    rw [hlo d (by omega) 21 (by decide), hlo d (by omega) 22 (by decide), hlo d (by omega) 25 (by decide)]
    have hp : psz ρ P9 = psz σ P9 := by unfold psz; rw [e16]
    exact ⟨⟨P9, p1, p2, A, by rw [hp]; exact p3, p4, fun y => by rw [hp]; exact p5 y⟩, R, by omega, p7⟩
  · by_cases e : d = c
    · subst e
      exact ⟨L - P, H, by omega, f2, r24c, by rw [hlo d (Nat.le_refl _) 23 (by decide)]; exact f4⟩
    · rw [r24 d e, hlow d (by omega) 24 (by decide), hlo d (by omega) 23 (by decide)]
      exact h.2.2.2.1 d hd
  · have h30 := h'.2.2.2.2.1
    rw [r1 30 (by decide), r2 22 (by decide)]; exact h30
  · rw [r1 11 (by decide)]; exact h'.2.2.2.2.2
  · by_cases e : k = 24
    · subst e; rw [r24 d (by omega)]; exact hlow d (by omega) 24 (by decide)
    · rw [r2 k e]; exact hlow d (by omega) k hk
  · rw [r2 k (by omega), a3 k hk]; exact t2 k (by omega) (by omega) (by omega) (by omega) (by omega)
  · unfold lf; rw [r24c, nI_clamp (by omega), f3, nI_clamp (by omega)]; omega
  · rw [r1 13 (by decide), a9, t1 13 (by decide) (by decide)]
  · rw [r1 28 (by decide), b1, t1 28 (by decide) (by decide)]
  · rw [r1 11 (by decide), b2, t1 11 (by decide) (by decide)]
  · rw [r1 29 (by decide), b3, t1 29 (by decide) (by decide)]
/-- behind a call that failed -/
theorem RVn.pop {c P N J f : Nat} (h : RVn (c + 1) σ) (h' : RVn (c + 2) σ') (hf : f ≤ lf σ c) (hA : atc σ c < psz σ (pl σ c)) {q : Nat} (hF : FRx (c + 1) P N J (mf_enter (c + 1) (nI q) (nI f) σ) σ') : RVn (c + 1) (mf_pop (c + 1) σ') ∧ FRx c P N J σ (mf_pop (c + 1) σ') ∧ (mf_pop (c + 1) σ').2.1 22 c = σ.2.1 22 c := by
  obtain ⟨τ, hτ⟩ : ∃ τ, τ = mf_enter (c + 1) (nI q) (nI f) σ := ⟨_, rfl⟩
  have t1 : ∀ k, k ≠ 14 → k ≠ 20 → τ.1 k = σ.1 k := fun k h1 h2 => by rw [hτ]; exact (va_up_n h1).trans (va_up_n h2)
  have t2 : ∀ k, k ≠ 21 → k ≠ 22 → k ≠ 23 → k ≠ 24 → k ≠ 25 → τ.2.1 k = σ.2.1 k := fun k h1 h2 h3 h4 h5 => by
    rw [hτ]
    exact (va_up_n h5).trans ((va_up_n h4).trans ((va_up_n h3).trans ((va_up_n h2).trans (va_up_n h1))))
  have tl : ∀ k d, d ≠ c + 1 → k = 21 ∨ k = 22 ∨ k = 23 ∨ k = 24 ∨ k = 25 → τ.2.1 k d = σ.2.1 k d := fun k d hd hk => by
    rw [hτ]
    rcases hk with rfl | rfl | rfl | rfl | rfl <;> exact va_up_n hd
  have t24 : τ.2.1 24 (c + 1) = nI f := by rw [hτ]; exact va_up_s
  have t23 : τ.2.1 23 (c + 1) = nI f := by rw [hτ]; exact va_up_s
  have t26 : τ.2.2.1 26 = mfill (σ.2.2.1 26) (2400 * (c + 1)) (40 * nR σ) (fun k => σ.2.2.1 4 k) := by rw [hτ]; rfl
  rw [← hτ] at hF
  obtain ⟨⟨a1, a2, a3, a4⟩, a5, a6, a7, ⟨a8, a9, b1⟩, ⟨b2, b3⟩, b4⟩ := hF
  have n1 : nR τ = nR σ := by unfold nR; rw [t1 1 (by decide) (by decide)]
  have hR := h.1.1.R
  obtain ⟨L, H, f1, f2, f3, f4⟩ := h.2.2.2.1 c (Nat.lt_succ_self c)
  have eL : lf σ c = L := by unfold lf; rw [f3, nI_clamp (by omega)]
  obtain ⟨L', H', g1, g2, g3, g4⟩ := h'.2.2.2.1 (c + 1) (Nat.lt_succ_self _)
  have eL' : lf σ' (c + 1) = L' := by unfold lf; rw [g3, nI_clamp (by omega)]
  have eT : lf τ (c + 1) = f := by unfold lf; rw [t24, nI_clamp (by omega)]
  rw [eL', eT] at a8
  obtain ⟨ρ, hρ⟩ : ∃ ρ, ρ = mf_pop (c + 1) σ' := ⟨_, rfl⟩
  have hkrc : kr σ' (c + 1) = nR σ := by
    unfold kr
    rw [a2 25 (by decide), hτ]
    exact congrArg Int32.toNatClampNeg va_up_s
  have ep : mf_pop (c + 1) σ' = si (sz (mf_undo (c + 1) (nR σ) σ') 20 (nI (c + 1))) 24 (va_up (σ'.2.1 24) c (σ'.2.1 24 c - (σ'.2.1 23 (c + 1) - σ'.2.1 24 (c + 1)))) := by
    unfold mf_pop
    rw [if_neg (by omega)]
    show si (sz (mf_undo (c + 1) (kr σ' (c + 1)) σ') 20 (nI (c + 1))) 24 _ = _
    rw [hkrc]
    rfl
  rw [ep] at hρ ⊢
  have r1 : ∀ k, k ≠ 1 → k ≠ 12 → k ≠ 20 → ρ.1 k = σ'.1 k := fun k h1 h2 hk => by rw [hρ]; exact (va_up_n hk).trans ((va_up_n h2).trans (va_up_n h1))
  have r11 : ρ.1 1 = nI (nR σ) := by rw [hρ]; rfl
  have r20 : ρ.1 20 = nI (c + 1) := by rw [hρ]; rfl
  have r2 : ∀ k, k ≠ 24 → ρ.2.1 k = σ'.2.1 k := fun k hk => by rw [hρ]; exact va_up_n hk
  have r24 : ∀ d, d ≠ c → ρ.2.1 24 d = σ'.2.1 24 d := fun d hd => by rw [hρ]; exact va_up_n hd
  have r3 : ∀ k, k ≠ 4 → ρ.2.2.1 k = σ'.2.2.1 k := fun k hk => by rw [hρ]; exact va_up_n hk
  have r4 : ρ.2.2.1 4 = mfill (σ'.2.2.1 4) 0 (40 * nR σ) (fun k => σ'.2.2.1 26 (2400 * (c + 1) + k)) := by rw [hρ]; rfl
  have hlow : ∀ d, d ≤ c → ∀ k, k = 21 ∨ k = 22 ∨ k = 23 ∨ k = 24 ∨ k = 25 → σ'.2.1 k d = σ.2.1 k d := fun d hd k hk => (a1 d (by omega) k hk).trans (tl k d (by omega) hk)
  have r24c : ρ.2.1 24 c = nI (L - P) := by
    rw [hρ]
    refine va_up_s.trans ?_
    rw [hlow c (Nat.le_refl _) 24 (by decide), a2 23 (by decide), t23, g3, f3, nI_sub (by omega), show f - L' = P by omega]
    exact nI_sub (by omega)
  have m1 : nR ρ = nR σ := by unfold nR; rw [r11, nI_clamp (by omega)]
  have m8 : nJ ρ = nJ σ' := by unfold nJ; rw [r1 8 (by decide) (by decide) (by decide)]
  have m5 : nU ρ = nU σ' := by unfold nU; rw [r1 5 (by decide) (by decide) (by decide)]
  have hkl : ∀ r, kd ρ r = kd σ' r ∧ ln ρ r = ln σ' r := fun r => ⟨by unfold kd; rw [r2 2 (by decide)], by unfold ln; rw [r2 3 (by decide)]⟩
  have hkl2 : ∀ r, r < nR σ → kd ρ r = kd σ r ∧ ln ρ r = ln σ r := fun r hr => by
    have y := a7 r (by omega)
    rw [(hkl r).1, (hkl r).2, y.1, y.2]
    exact ⟨by unfold kd; rw [t2 2 (by decide) (by decide) (by decide) (by decide) (by decide)], by unfold ln; rw [t2 3 (by decide) (by decide) (by decide) (by decide) (by decide)]⟩
  have hsn : ∀ d r i, d ≤ c → r < kr σ d → i < ln σ r → sn ρ d r i = sn σ d r i := fun d r i hd hr hi => by
    have hkr : kr τ d = kr σ d := by unfold kr; rw [tl 25 d (by omega) (by decide)]
    have hln : ln τ r = ln σ r := by unfold ln; rw [t2 3 (by decide) (by decide) (by decide) (by decide) (by decide)]
    have hrn := h.sub (c := d) (by omega)
    have l9 := h.1.kdln (r := r) (by omega)
    have e1 : sn ρ d r i = sn σ' d r i := by unfold sn; rw [r3 26 (by decide)]
    rw [e1, a5 d r i (by omega) (by rw [hkr]; exact hr) (by rw [hln]; exact hi)]
    unfold sn
    rw [t26, mfill_out (by omega)]
  have e16 : ρ.2.1 16 = σ.2.1 16 := by rw [r2 16 (by decide), a3 16 (by decide)]; exact t2 16 (by decide) (by decide) (by decide) (by decide) (by decide)
  have hlo : ∀ d, d ≤ c → ∀ k, k = 21 ∨ k = 22 ∨ k = 23 ∨ k = 25 → ρ.2.1 k d = σ.2.1 k d := fun d hd k hk => by rw [r2 k (by omega)]; exact hlow d hd k (by omega)
  have e5 : ρ.1 5 = σ.1 5 := by rw [r1 5 (by decide) (by decide) (by decide), a4]; exact t1 5 (by decide) (by decide)
  have e6 : ρ.2.1 6 = σ.2.1 6 := by rw [r2 6 (by decide), a3 6 (by decide)]; exact t2 6 (by decide) (by decide) (by decide) (by decide) (by decide)
  have nJt : nJ τ = nJ σ := by unfold nJ; rw [t1 8 (by decide) (by decide)]
  have hq : MQ9 ρ := by
    refine h'.1.to (R' := nR σ) (J' := nJ σ') (r1 5 (by decide) (by decide) (by decide)) r11 hR.2 ((r1 8 (by decide) (by decide) (by decide)).trans h'.1.1.J.1) h'.1.1.J.2 (r2 6 (by decide)) (r2 16 (by decide)) (r2 17 (by decide)) (fun r hr => ?_) (fun y hy => ?_) (fun r i hr hi => ?_)
    · have hr' : r < nR σ' := by omega
      rw [(hkl r).1, (hkl r).2, r2 2 (by decide), r2 3 (by decide)]
      exact ⟨h'.1.1.k hr', h'.1.1.l hr'⟩
    · unfold iln; rw [r2 9 (by decide)]; exact h'.1.1.il hy
    · have hr' : r < nR σ' := by omega
      rw [(hkl r).2] at hi
      have l9 := h'.1.kdln hr'
      have s3 := (h'.2.2.1 (c + 1) (Nat.lt_succ_self _)).2.2 r i (by rw [hkrc]; exact hr) hi
      have e9 : el ρ r i = sn σ' (c + 1) r i := by
        unfold el sn
        rw [r4]
        exact mfill_in0 (by omega)
      rw [(hkl r).1, e9]
      exact s3.to m5 (by omega) (r2 6 (by decide))
  rw [← hρ]
  refine ⟨h.same hq ⟨⟨r20, by have := h.2.1.1.2; omega⟩, fun d hd => ?_⟩ (fun d hd => ?_) ?_ ?_ (by omega) (by omega) e5 e6 (fun d hd => hlo d (by omega) 25 (by decide)) hkl2 (fun d r i hd hr hi => hsn d r i (by omega) hr hi), ⟨⟨fun d hd k hk => ?_, fun k hk => hlo c (Nat.le_refl _) k (by omega), fun k hk => ?_, e5⟩, hsn, by omega, hkl2, ⟨?_, ?_, ?_⟩, ⟨?_, ?_⟩, by omega⟩, hlo c (Nat.le_refl _) 22 (by decide)⟩
  · obtain ⟨⟨P9, p1, p2, A, p3, p4, p5⟩, R, p6, p7⟩ := h.2.1.2 d hd
    rw [hlo d (by omega) 21 (by decide), hlo d (by omega) 22 (by decide), hlo d (by omega) 25 (by decide)]
    have hp : psz ρ P9 = psz σ P9 := by unfold psz; rw [e16]
    exact ⟨⟨P9, p1, p2, A, by rw [hp]; exact p3, p4, fun y => by rw [hp]; exact p5 y⟩, R, by omega, p7⟩
  · by_cases e : d = c
    · subst e
      exact ⟨L - P, H, by omega, f2, r24c, by rw [hlo d (Nat.le_refl _) 23 (by decide)]; exact f4⟩
    · rw [r24 d e, hlow d (by omega) 24 (by decide), hlo d (by omega) 23 (by decide)]
      exact h.2.2.2.1 d hd
  · have h30 := h'.2.2.2.2.1
    rw [r1 30 (by decide) (by decide) (by decide), r2 22 (by decide)]; exact h30
  · rw [r1 11 (by decide) (by decide) (by decide)]; exact h'.2.2.2.2.2
  · by_cases e : k = 24
    · subst e; rw [r24 d (by omega)]; exact hlow d (by omega) 24 (by decide)
    · rw [r2 k e]; exact hlow d (by omega) k hk
  · rw [r2 k (by omega), a3 k hk]; exact t2 k (by omega) (by omega) (by omega) (by omega) (by omega)
  · unfold lf; rw [r24c, nI_clamp (by omega), f3, nI_clamp (by omega)]; omega
  · rw [r1 13 (by decide) (by decide) (by decide), a9, t1 13 (by decide) (by decide)]
  · rw [r1 28 (by decide) (by decide) (by decide), b1, t1 28 (by decide) (by decide)]
  · rw [r1 11 (by decide) (by decide) (by decide), b2, t1 11 (by decide) (by decide)]
  · rw [r1 29 (by decide) (by decide) (by decide), b3, t1 29 (by decide) (by decide)]
end S50c
section S50d
variable {σ σ' σ'' σE : MS} {lE : Int32}
theorem ip0 : (0 : Int32) ≤ 0 := by decide
theorem ip1 : (0 : Int32) ≤ 1 := by decide
theorem ip2 : (0 : Int32) ≤ 2 := by decide
theorem ip3 : (0 : Int32) ≤ 3 := by decide
theorem ip4 : (0 : Int32) ≤ 4 := by decide
theorem ip5 : (0 : Int32) ≤ 5 := by decide
theorem ip6 : (0 : Int32) ≤ 6 := by decide
theorem done_pos {x0 : Nat} {a i b j n : Int32} : 0 ≤ (mf_done σ x0 a i b j n).1 := by
  obtain ⟨r, hr9⟩ : ∃ r, r = mf_done σ x0 a i b j n := ⟨_, rfl⟩
  rw [← hr9]
  unfold mf_done at hr9
  repeat' split at hr9
  · rw [hr9]; unfold mf_copy mf_copyA; split; · (first | exact ip0 | exact ip2 | exact ip3 | exact ip4 | exact ip5 | exact ip6)
    split; · (first | exact ip0 | exact ip2 | exact ip3 | exact ip4 | exact ip5 | exact ip6)
    · show 0 ≤ (if _ then (3 : Int32) else 0); split <;> (first | exact ip0 | exact ip2 | exact ip3 | exact ip4 | exact ip5 | exact ip6)
  · rw [hr9]; unfold mf_copyRow; split <;> (first | exact ip0 | exact ip2 | exact ip3 | exact ip4 | exact ip5 | exact ip6)
  · rw [hr9]; unfold mf_fill; split; · (first | exact ip0 | exact ip2 | exact ip3 | exact ip4 | exact ip5 | exact ip6)
    split; · (first | exact ip0 | exact ip2 | exact ip3 | exact ip4 | exact ip5 | exact ip6)
    split <;> (first | exact ip0 | exact ip2 | exact ip3 | exact ip4 | exact ip5 | exact ip6)
  · rw [hr9]; unfold mf_equal; (first | exact ip0 | exact ip2 | exact ip3 | exact ip4 | exact ip5 | exact ip6)
  · rw [hr9]; unfold mf_orderRows; split <;> (first | exact ip0 | exact ip2 | exact ip3 | exact ip4 | exact ip5 | exact ip6)
  · rw [hr9]; unfold mf_sum; (first | exact ip0 | exact ip2 | exact ip3 | exact ip4 | exact ip5 | exact ip6)
  · rw [hr9]; unfold mf_greatest; split; · (first | exact ip0 | exact ip2 | exact ip3 | exact ip4 | exact ip5 | exact ip6)
    split <;> (first | exact ip0 | exact ip2 | exact ip3 | exact ip4 | exact ip5 | exact ip6)
  · rw [hr9]; unfold mf_turn; split <;> (first | exact ip0 | exact ip2 | exact ip3 | exact ip4 | exact ip5 | exact ip6)
  · rw [hr9]; unfold mf_sort; split; · (first | exact ip0 | exact ip2 | exact ip3 | exact ip4 | exact ip5 | exact ip6)
    split <;> (first | exact ip0 | exact ip2 | exact ip3 | exact ip4 | exact ip5 | exact ip6)
  · rw [hr9]; unfold mf_findIn; split; · (first | exact ip0 | exact ip2 | exact ip3 | exact ip4 | exact ip5 | exact ip6)
    split <;> (first | exact ip0 | exact ip2 | exact ip3 | exact ip4 | exact ip5 | exact ip6)
  · rw [hr9]; unfold mf_fees; split <;> (first | exact ip0 | exact ip2 | exact ip3 | exact ip4 | exact ip5 | exact ip6)
  · rw [hr9]; (first | exact ip0 | exact ip2 | exact ip3 | exact ip4 | exact ip5 | exact ip6)
theorem pos_of {x : Int32} (h : 0 ≤ x) (h0 : x ≠ 0) : 0 < x := by
  rw [Int32.le_iff_toInt_le] at h
  rw [Int32.lt_iff_toInt_lt]
  have e : x.toInt ≠ (0 : Int32).toInt := fun y => h0 (Int32.toInt_inj.mp y)
  omega
/-- one more is caught -/
theorem RVn.sz31 {C : Nat} {v : Int32} (h : RVn C σ) : RVn C (sz σ 31 v) := by
  have e1 : ∀ k, k ≠ 31 → (sz σ 31 v).1 k = σ.1 k := fun k hk => va_up_n hk
  refine h.same (h.1.same (e1 1 (by decide)) (e1 5 (by decide)) (e1 8 (by decide)) (fun _ _ => rfl) rfl) (h.2.1.num (e1 20 (by decide)) (by unfold nR; rw [e1 1 (by decide)]; exact Nat.le_refl _) rfl (fun _ _ => rfl)) h.2.2.2.1 ?_ ?_ (by unfold nR; rw [e1 1 (by decide)]; exact Nat.le_refl _) (by unfold nJ; rw [e1 8 (by decide)]; exact Nat.le_refl _) (e1 5 (by decide)) rfl (fun _ _ => rfl) (fun _ _ => ⟨rfl, rfl⟩) (fun _ _ _ _ _ _ => rfl)
  · rw [e1 30 (by decide)]; exact h.2.2.2.2.1
  · rw [e1 11 (by decide)]; exact h.2.2.2.2.2
theorem FRx.sz31 {c P N J : Nat} {v : Int32} (h : FRx c P N J σ σ') : FRx c P N J σ (sz σ' 31 v) := by
  have e1 : ∀ k, k ≠ 31 → (sz σ' 31 v).1 k = σ'.1 k := fun k hk => va_up_n hk
  obtain ⟨⟨a1, a2, a3, a4⟩, a5, a6, a7, ⟨a8, a9, b1⟩, ⟨b2, b3⟩, b4⟩ := h
  refine ⟨⟨a1, a2, a3, by rw [e1 5 (by decide)]; exact a4⟩, a5, by unfold nR at a6 ⊢; rw [e1 1 (by decide)]; exact a6, a7, ⟨a8, by rw [e1 13 (by decide)]; exact a9, by rw [e1 28 (by decide)]; exact b1⟩, ⟨by rw [e1 11 (by decide)]; exact b2, by rw [e1 29 (by decide)]; exact b3⟩, by unfold nJ at b4 ⊢; rw [e1 8 (by decide)]; exact b4⟩
/-- an act came to its end -/
theorem RVn.end_ {c : Nat} {w : Int64} (h : RVn (c + 1) σ) (hA : atc σ c < psz σ (pl σ c)) : RVn (c + 1) (mf_end c w σ) ∧ FRx c 0 0 0 σ (mf_end c w σ) ∧ atc (mf_end c w σ) c = atc σ c + 1 ∧ pl (mf_end c w σ) c = pl σ c ∧ psz (mf_end c w σ) (pl σ c) = psz σ (pl σ c) := by
  obtain ⟨τ, hτ⟩ : ∃ τ, τ = mf_end c w σ := ⟨_, rfl⟩
  have t1 : ∀ k, k ≠ 30 → τ.1 k = σ.1 k := fun k hk => by
    rw [hτ]; unfold mf_end
    split
    · exact va_up_n hk
    · rfl
  have t2 : ∀ k, k ≠ 22 → τ.2.1 k = σ.2.1 k := fun k hk => by
    rw [hτ]; unfold mf_end
    split
    · exact va_up_n hk
    · exact va_up_n hk
  have t22 : τ.2.1 22 = va_up (σ.2.1 22) c (σ.2.1 22 c + 1) := by
    rw [hτ]; unfold mf_end
    split <;> rfl
  have t3 : ∀ k, k ≠ 32 → τ.2.2.1 k = σ.2.2.1 k := fun k hk => by
    rw [hτ]; unfold mf_end
    split
    · exact va_up_n hk
    · rfl
  have t30 : τ.1 30 = τ.2.1 22 0 := by
    rw [t22]
    by_cases e : c = 0
    · subst e
      rw [va_up_s, hτ, ← h.2.2.2.2.1]
      rfl
    · rw [va_up_n (Ne.symm e), hτ, ← h.2.2.2.2.1]
      unfold mf_end
      rw [if_neg e]
      rfl
  obtain ⟨P, p1, p2, p3, p4, p5, -⟩ := h.2.1.top (Nat.lt_succ_self c)
  have hp9 := (h.1.1.p p1).2
  rw [p2] at hA
  have hAt : τ.2.1 22 c = nI (atc σ c + 1) := by rw [t22, va_up_s, p4, show (1 : Int32) = nI 1 from rfl, nI_add]
  have ha9 : atc τ c = atc σ c + 1 := by show (τ.2.1 22 c).toNatClampNeg = _; rw [hAt, nI_clamp (show atc σ c + 1 < 2 ^ 31 by omega)]
  have e16 := t2 16 (by decide)
  have hps : ∀ p, psz τ p = psz σ p := fun p => by unfold psz; rw [e16]
  have hq : MQ9 τ := h.1.same (t1 1 (by decide)) (t1 5 (by decide)) (t1 8 (by decide)) (fun k hk => t2 k (by omega)) (t3 4 (by decide))
  have n1 : nR τ = nR σ := by unfold nR; rw [t1 1 (by decide)]
  have n8 : nJ τ = nJ σ := by unfold nJ; rw [t1 8 (by decide)]
  have hsn : ∀ d r i, sn τ d r i = sn σ d r i := fun d r i => by unfold sn; rw [t3 26 (by decide)]
  have hkl : ∀ r, kd τ r = kd σ r ∧ ln τ r = ln σ r := fun r => ⟨by unfold kd; rw [t2 2 (by decide)], by unfold ln; rw [t2 3 (by decide)]⟩
  rw [← hτ]
  refine ⟨h.same hq ⟨⟨(t1 20 (by decide)).trans h.2.1.1.1, h.2.1.1.2⟩, fun d hd => ?_⟩ (fun d hd => by rw [t2 24 (by decide), t2 23 (by decide)]; exact h.2.2.2.1 d hd) t30 (by rw [t1 11 (by decide)]; exact h.2.2.2.2.2) (by omega) (by omega) (t1 5 (by decide)) (t2 6 (by decide)) (fun d _ => by rw [t2 25 (by decide)]) (fun r _ => hkl r) (fun d r i _ _ _ => hsn d r i), ⟨⟨fun d hd k hk => ?_, fun k hk => by rw [t2 k (by omega)], fun k hk => t2 k (by omega), t1 5 (by decide)⟩, fun d r i _ _ _ => hsn d r i, by omega, fun r _ => hkl r, ⟨by unfold lf; rw [t2 24 (by decide)]; rfl, ?_, ?_⟩, ⟨?_, ?_⟩, by omega⟩, ha9, by unfold pl; rw [t2 21 (by decide)], hps _⟩
  · rw [t2 21 (by decide), t2 25 (by decide)]
    obtain ⟨⟨P9, a1, a2, A, a3, a4, a5⟩, R, a6, a7⟩ := h.2.1.2 d hd
    refine ⟨⟨P9, a1, a2, ?_⟩, R, by omega, a7⟩
    by_cases e : d = c
    · subst e
      have e9 : P9 = P := by
        have := a2.symm.trans p3
        exact (nI_eq (by omega) (by omega)).mp this
      subst e9
      exact ⟨atc σ d + 1, by rw [hps]; omega, hAt, fun y => by omega⟩
    · rw [t22, va_up_n e]
      exact ⟨A, by rw [hps]; exact a3, a4, fun y => by rw [hps]; exact a5 y⟩
  · by_cases e : k = 22
    · subst e; rw [t22, va_up_n (by omega)]
    · rw [t2 k e]
  · rw [t1 13 (by decide)]; exact (Int32.add_zero _).symm
  · rw [t1 28 (by decide)]; exact (Int32.add_zero _).symm
  · rw [t1 11 (by decide)]; exact (Int32.add_zero _).symm
  · rw [t1 29 (by decide)]; exact (Int32.add_zero _).symm
theorem FRx.bg {c P N J : Nat} (h : FRx c P N J σ σ') (h8 : 8 * J ≤ P) (hb : BG c σ) : BG c σ' := by
  obtain ⟨-, -, -, -, ⟨a8, -, -⟩, -, b4⟩ := h
  unfold BG at hb ⊢
  omega
theorem AS.flt {c : Nat} {f : Int32} (h : RVn (c + 1) σ) (hJ : nJ σ < 8000) {P N J : Nat} (hN : N ≤ P) (h8 : 8 * J ≤ P) (hJN : J ≤ N) (h' : RVn (c + 1) σ') (hF : FRx c P N J σ σ') (h22 : σ'.2.1 22 c = σ.2.1 22 c) (hf : 0 < f) (hs : mf_step c σ = (f, σ')) : AS c σ (f, 0, mf_flt σ') :=
  ⟨⟨Int32.le_of_lt hf, h'.flt, h22, P, N, J, hN, h8, hJN, fun y => absurd hf (by show ¬ 0 < f; rw [show f = 0 from y]; decide), hF.flt⟩, fun y => absurd hf (by show ¬ 0 < f; rw [show f = 0 from y]; decide), fun _ σE lE ht => Tks.flt h hJ hf hs h'.flt ht⟩
/-- one act, from what the calls within come to -/
theorem actR_AS {go : Nat → MS → Int32 × MS} {c : Nat} (h : RVn (c + 1) σ) (hA : atc σ c < psz σ (pl σ c)) (hB : BG c σ) (hgo : c < 5 → ∀ τ, RVn (c + 2) τ → atc τ (c + 1) = 0 → BG (c + 1) τ → GS (c + 1) τ (go (c + 1) τ)) : AS c σ (mf_actR go c σ) := by
  have hJ : nJ σ < 8000 := by unfold BG at hB; omega
  obtain ⟨P0, p1, p2, p3, p4, p5, -⟩ := h.2.1.top (Nat.lt_succ_self c)
  have hps := h.1.1.p p1
  have hne : ¬ σ.2.1 22 c = σ.2.1 16 (σ.2.1 21 c).toNatClampNeg := by
    show ¬ σ.2.1 22 c = σ.2.1 16 (pl σ c)
    rw [p2] at hA ⊢
    rw [p4, hps.1]
    exact fun y => by have := (nI_eq (by omega) (by omega)).mp y; omega
  have hA0 : atc σ c < psz σ P0 := by rw [p2] at hA; exact hA
  obtain ⟨x0, x1, x2, x3⟩ := h.1.1.a p1 hA0
  have ha : ∀ k, mf_act σ c k = σ.2.1 17 (6 * (12 * P0 + atc σ c) + k) := fun k => by
    show σ.2.1 17 (6 * (12 * pl σ c + atc σ c) + k) = _
    rw [p2]
  have ha0 : mf_act σ c 0 = nI x0 := (ha 0).trans x2
  unfold mf_actR
  by_cases c1 : ¬ mf_hasRows σ (mf_act σ c 0) (mf_act σ c 1) (mf_act σ c 3)
  · rw [if_pos c1]
    exact AS.flt h hJ (Nat.le_refl 0) (Nat.le_refl 0) (Nat.le_refl 0) h FRx.rf rfl (by decide) (by unfold mf_step; rw [if_neg hne, if_pos c1])
  rw [if_neg c1]
  have hr := Classical.not_not.mp c1
  rw [ha0] at hr
  by_cases c2 : σ.2.1 24 c < mf_prc σ c
  · rw [if_pos c2]
    exact AS.flt h hJ (Nat.le_refl 0) (Nat.le_refl 0) (Nat.le_refl 0) h FRx.rf rfl (by decide) (by unfold mf_step; rw [if_neg hne, if_neg c1, if_pos c2])
  rw [if_neg c2]
  obtain ⟨Pr, r1, r2, r3, r4⟩ := price_n (n := mf_act σ c 5) h.1 x1 hr
  have hprc : mf_prc σ c = nI Pr := by unfold mf_prc; rw [ha0]; exact r3
  obtain ⟨L, H, f1, f2, f3, f4⟩ := h.2.2.2.1 c (Nat.lt_succ_self c)
  have eL : lf σ c = L := by unfold lf; rw [f3, nI_clamp (by omega)]
  have hP : Pr ≤ lf σ c := by
    rw [hprc, f3] at c2
    rw [eL]
    exact Nat.not_lt.mp (fun y => c2 ((nI_ltI (by omega) (by omega)).mpr y))
  have hst : mf_step c σ = mf_doAct c (mf_pay c (nI Pr) σ) x0 (mf_act σ c 1) (mf_act σ c 2) (mf_act σ c 3) (mf_act σ c 4) (mf_act σ c 5) := by
    unfold mf_step
    rw [if_neg hne, if_neg c1, if_neg c2, hprc, ha0, nI_clamp (by omega)]
  rw [hprc, ha0, nI_clamp (by omega)]
  obtain ⟨hp, fp⟩ := h.pay hP
  obtain ⟨τ, hτ⟩ : ∃ τ, τ = mf_pay c (nI Pr) σ := ⟨_, rfl⟩
  have e22 : τ.2.1 22 = σ.2.1 22 := by rw [hτ]; rfl
  have hAτ : atc τ c < psz τ (pl τ c) := by rw [hτ]; exact hA
  have hrτ : mf_hasRows τ (nI x0) (mf_act σ c 1) (mf_act σ c 3) := by rw [hτ]; exact hr
  have hkdτ : ∀ r, kd τ r = kd σ r := fun r => by rw [hτ]; rfl
  rw [← hτ] at hst hp fp ⊢
  have hBτ := fp.bg (Nat.zero_le _) hB
  have hJτ : nJ τ < 8000 := by unfold BG at hBτ; omega
  have hsub : ∀ d, d ≤ c → kr σ d ≤ nR σ := fun d hd => h.sub (by omega)
  unfold mf_workR
  by_cases c3 : x0 = 10
  · rw [if_pos c3]
    unfold mf_callR
    by_cases c4 : c = 5
    · rw [if_pos c4]
      exact AS.flt h hJ r1 (Nat.zero_le _) (Nat.zero_le _) hp fp (by rw [e22]) (by decide) (by rw [hst]; unfold mf_doAct; rw [if_pos c3, if_pos c4])
    · rw [if_neg c4]
      have hc5 : c < 5 := by have := h.2.1.1.2; omega
      obtain ⟨⟨q, q1, q2⟩, q3⟩ := x3 c3
      obtain ⟨L', H', g1, g2, g3, g4⟩ := hp.2.2.2.1 c (Nat.lt_succ_self c)
      have eL' : lf τ c = L' := by unfold lf; rw [g3, nI_clamp (by omega)]
      obtain ⟨f, z1, z2⟩ := fuel_n (n := mf_act σ c 5) (L := L') (by omega)
      have hq1 : mf_act σ c 1 = nI q := (ha 1).trans q2
      rw [g3, z2, hq1]
      obtain ⟨he, hea, hep, hef⟩ := hp.enter (q := q) (f := f) hc5 hAτ q1 (by omega)
      have hst2 : mf_step c σ = (0, mf_enter (c + 1) (nI q) (nI f) τ) := by
        rw [hst]
        unfold mf_doAct
        rw [if_pos c3, if_neg c4, g3, z2, hq1]
      have hBe : BG (c + 1) (mf_enter (c + 1) (nI q) (nI f) τ) := by
        unfold BG at hBτ ⊢
        rw [hef]
        show 8 * nJ τ + f < _
        omega
      have G := hgo hc5 _ he hea hBe
      obtain ⟨σe, hσe⟩ : ∃ s, s = mf_enter (c + 1) (nI q) (nI f) τ := ⟨_, rfl⟩
      obtain ⟨r, hrr⟩ : ∃ r, r = go (c + 1) σe := ⟨_, rfl⟩
      have goF := fun P N J (y : FRx (c + 1) P N J (mf_enter (c + 1) (nI q) (nI f) τ) r.2) (hR : RVn (c + 2) r.2) => hp.ret hR (by omega) hAτ y
      have goX := fun P N J (y : FRx (c + 1) P N J (mf_enter (c + 1) (nI q) (nI f) τ) r.2) (hR : RVn (c + 2) r.2) => hp.pop hR (by omega) hAτ y
      rw [← hσe] at G he hea hep hef hst2 hBe goF goX ⊢
      rw [← hrr] at G ⊢
      obtain ⟨⟨G1, G2, P', N', J', G3, G4, GJ, G5⟩, G6, G7⟩ := G
      have hBr := G5.bg G4 hBe
      have hJr : nJ r.2 < 8000 := by unfold BG at hBr; omega
      unfold mf_callB
      by_cases c5 : r.1 = 0
      · rw [if_pos c5]
        obtain ⟨k1, k2, k3⟩ := goF _ _ _ G5 G2
        obtain ⟨G6a, G6b⟩ := G6 c5
        refine ⟨⟨ip0, k1, k3.trans (by rw [e22]), Pr + P', 1 + N', 0 + J', by omega, by omega, by omega, fun _ => by omega, fp.trans hsub k2⟩, fun _ σE lE ht => ?_, fun y => absurd rfl y⟩
        refine Tks.step h hJ hst2 (G6b σE lE (Tks.step G2 hJr (σ1 := mf_ret (c + 1) r.2) ?_ (by rw [ret_9]; exact ht)))
        unfold mf_step
        refine if_pos ?_
        obtain ⟨P9, y1, y2, y3, y4, y5, -⟩ := G2.2.1.top (c := c + 1) (Nat.lt_succ_self _)
        show r.2.2.1 22 (c + 1) = r.2.2.1 16 (pl r.2 (c + 1))
        rw [y4, G6a, y2, (G2.1.1.p y1).1]
      · rw [if_neg c5]
        obtain ⟨k1, k2, k3⟩ := goX _ _ _ G5 G2
        have k4 : mf_act (mf_pop (c + 1) r.2) c 2 = mf_act σ c 2 := by
          have u1 := k2.1.2.1 21 (by decide)
          have u2 := k2.1.2.2.1 17 (by decide)
          have v1 := fp.1.2.1 21 (by decide)
          have v2 := fp.1.2.2.1 17 (by decide)
          unfold mf_act
          rw [k3, u1, u2, v1, v2, e22]
        by_cases c6 : mf_act σ c 2 = 1
        · rw [if_pos c6]
          refine ⟨⟨ip0, k1.sz31, k3.trans (by rw [e22]), Pr + P', 1 + N', 0 + J', by omega, by omega, by omega, fun _ => by omega, (fp.trans hsub k2).sz31⟩, fun _ σE lE ht => ?_, fun y => absurd rfl y⟩
          refine Tks.step h hJ hst2 (G7 c5 σE lE ?_)
          have e9 : mf_fail r.1 (c + 1 + 1) r.2 = (0, mf_end c r.1.toInt64 (sz (mf_pop (c + 1) r.2) 31 (r.2.1 31 + 1))) := if_pos ⟨by omega, by rw [Nat.add_sub_cancel, k4]; exact c6⟩
          rw [e9]
          exact ht
        · rw [if_neg c6]
          refine ⟨⟨G1, k1, k3.trans (by rw [e22]), Pr + P', 1 + N', 0 + J', by omega, by omega, by omega, fun _ => by omega, fp.trans hsub k2⟩, fun y => absurd y c5, fun _ σE lE ht => ?_⟩
          refine Tks.step h hJ hst2 (G7 c5 σE lE ?_)
          have e9 : mf_fail r.1 (c + 1 + 1) r.2 = mf_fail r.1 (c + 1) (mf_pop (c + 1) r.2) := if_neg (fun y => c6 (by rw [← k4]; have := y.2; rw [Nat.add_sub_cancel] at this; exact this))
          rw [e9]
          exact ht
  · rw [if_neg c3]
    obtain ⟨d1, J, d2, d3, d4, d5⟩ := RVn.done (i := mf_act σ c 2) (j := mf_act σ c 4) (n := mf_act σ c 5) hp hJτ x1 hrτ
    have hJ8 : 8 * (0 + J) ≤ Pr + 0 := by
      by_cases e : J = 0
      · omega
      · obtain ⟨y1, y2, y3⟩ := d3 e
        have := r4 y1 (by rw [← hkdτ]; exact y2) y3
        omega
    have hpos := done_pos (σ := τ) (x0 := x0) (a := mf_act σ c 1) (i := mf_act σ c 2) (b := mf_act σ c 3) (j := mf_act σ c 4) (n := mf_act σ c 5)
    have hst3 : mf_step c σ = if (mf_done τ x0 (mf_act σ c 1) (mf_act σ c 2) (mf_act σ c 3) (mf_act σ c 4) (mf_act σ c 5)).1 = 0 then (0, mf_end c (mf_done τ x0 (mf_act σ c 1) (mf_act σ c 2) (mf_act σ c 3) (mf_act σ c 4) (mf_act σ c 5)).2.2.2.2 (mf_done τ x0 (mf_act σ c 1) (mf_act σ c 2) (mf_act σ c 3) (mf_act σ c 4) (mf_act σ c 5)).2) else mf_done τ x0 (mf_act σ c 1) (mf_act σ c 2) (mf_act σ c 3) (mf_act σ c 4) (mf_act σ c 5) := by
      rw [hst]
      unfold mf_doAct
      rw [if_neg c3]
    obtain ⟨d, hd⟩ : ∃ d, d = mf_done τ x0 (mf_act σ c 1) (mf_act σ c 2) (mf_act σ c 3) (mf_act σ c 4) (mf_act σ c 5) := ⟨_, rfl⟩
    rw [← hd] at d1 d4 d5 hpos hst3 ⊢
    have hF := fp.trans hsub d4
    unfold mf_dr
    by_cases c5 : d.1 = 0
    · rw [if_pos c5] at hst3 ⊢
      exact ⟨⟨ip0, d1, by rw [d5, e22], _, _, _, by omega, hJ8, by omega, fun _ => by omega, hF⟩, fun _ σE lE ht => Tks.step h hJ hst3 ht, fun y => absurd rfl y⟩
    · rw [if_neg c5] at hst3 ⊢
      exact AS.flt h hJ (by omega) hJ8 (by omega) d1 hF (by rw [d5, e22]) (pos_of hpos c5) hst3
/-- all acts of a call from its place on -/
theorem acts_GS {go : Nat → MS → Int32 × MS} {c : Nat} (hgo : c < 5 → ∀ τ, RVn (c + 2) τ → atc τ (c + 1) = 0 → BG (c + 1) τ → GS (c + 1) τ (go (c + 1) τ)) : ∀ (n : Nat) (σ : MS), RVn (c + 1) σ → atc σ c + n = psz σ (pl σ c) → BG c σ → GS c σ (mf_acts go c n σ)
  | 0, σ, h, hn, hB => ⟨⟨ip0, h, 0, 0, 0, Nat.le_refl _, Nat.le_refl _, Nat.le_refl _, FRx.rf⟩, fun _ => ⟨hn, fun _ _ y => y⟩, fun y => absurd rfl y⟩
  | n + 1, σ, h, hn, hB => by
    have A := actR_AS h (by omega) hB hgo
    unfold mf_acts
    obtain ⟨b, hb⟩ : ∃ b, b = mf_actR go c σ := ⟨_, rfl⟩
    rw [← hb] at A ⊢
    obtain ⟨⟨A1, A2, A3, P, N, J, A4, A5, AJ, AN, A6⟩, A7, A8⟩ := A
    by_cases c1 : b.1 = 0
    · rw [if_pos c1]
      have hpl : pl b.2.2 c = pl σ c := by unfold pl; rw [A6.1.2.1 21 (by decide)]
      have hps : ∀ p, psz b.2.2 p = psz σ p := fun p => by unfold psz; rw [A6.1.2.2.1 16 (by decide)]
      have hat : atc b.2.2 c = atc σ c := by unfold atc; rw [A3]
      obtain ⟨e1, e2, e3, e4, e5⟩ := A2.end_ (w := b.2.1) (by rw [hpl, hps, hat]; omega)
      have hF := A6.trans (fun d hd => h.sub (by omega)) e2
      have G := acts_GS hgo n (mf_end c b.2.1 b.2.2) e1 (by rw [e3, e4, e5, hat, hpl, hps]; omega) (hF.bg (by omega) hB)
      obtain ⟨⟨G1, G2, P', N', J', G3, G4, GJ, G5⟩, G6, G7⟩ := G
      exact ⟨⟨G1, G2, _, _, _, by omega, by omega, by omega, hF.trans (fun d hd => h.sub (by omega)) G5⟩, fun y => ⟨(G6 y).1, fun σE lE ht => A7 c1 σE lE ((G6 y).2 σE lE ht)⟩, fun y σE lE ht => A7 c1 σE lE (G7 y σE lE ht)⟩
    · rw [if_neg c1]
      exact ⟨⟨A1, A2, P, N, J, A4, A5, AJ, A6⟩, fun y => absurd y c1, A8⟩
/-- a call with all its acts -/
theorem go_GS : ∀ (D c : Nat), c + D = 5 → ∀ σ, RVn (c + 1) σ → atc σ c = 0 → BG c σ → GS c σ (mf_go D c σ)
  | 0, c, hc, σ, h, h0, hB => acts_GS (fun y => by omega) _ σ h (by rw [h0, Nat.zero_add]) hB
  | D + 1, c, hc, σ, h, h0, hB => acts_GS (fun _ τ h1 h2 h3 => go_GS D (c + 1) (by omega) τ h1 h2 h3) _ σ h (by rw [h0, Nat.zero_add]) hB
end S50d
section S51
variable {σ σ' : MS}
def mf_runE (r : Int32 × MS) : MS := if r.1 = 0 then sz r.2 20 (nI 0) else mf_pop 0 r.2
/-- the outermost call is begun -/
theorem RVn.begin {q f A : Nat} (h : MQ9 σ) (hA : σ.1 11 = nI A) (hq : q < 6) (hf : f ≤ 5000) : RVn 1 (mf_begin (nI q) (nI f) σ) ∧ atc (mf_begin (nI q) (nI f) σ) 0 = 0 ∧ pl (mf_begin (nI q) (nI f) σ) 0 = q ∧ lf (mf_begin (nI q) (nI f) σ) 0 = f := by
  obtain ⟨τ, hτ⟩ : ∃ τ, τ = mf_begin (nI q) (nI f) σ := ⟨_, rfl⟩
  have t1 : ∀ k, k < 14 → τ.1 k = σ.1 k := fun k h1 => by
    rw [hτ]
    exact (va_up_n (by omega)).trans ((va_up_n (by omega)).trans ((va_up_n (by omega)).trans ((va_up_n (by omega)).trans ((va_up_n (by omega)).trans ((va_up_n (by omega)).trans (va_up_n (by omega)))))))
  have t20 : τ.1 20 = nI (0 + 1) := by rw [hτ]; rfl
  have t30 : τ.1 30 = 0 := by rw [hτ]; rfl
  have t2 : ∀ k, k ≠ 21 → k ≠ 22 → k ≠ 23 → k ≠ 24 → k ≠ 25 → τ.2.1 k = σ.2.1 k := fun k h1 h2 h3 h4 h5 => by
    rw [hτ]
    exact (va_up_n h5).trans ((va_up_n h4).trans ((va_up_n h3).trans ((va_up_n h2).trans (va_up_n h1))))
  have t21 : τ.2.1 21 = va_up (σ.2.1 21) 0 (nI q) := by rw [hτ]; rfl
  have t22 : τ.2.1 22 = va_up (σ.2.1 22) 0 0 := by rw [hτ]; rfl
  have t23 : τ.2.1 23 = va_up (σ.2.1 23) 0 (nI f) := by rw [hτ]; rfl
  have t24 : τ.2.1 24 = va_up (σ.2.1 24) 0 (nI f) := by rw [hτ]; rfl
  have t25 : τ.2.1 25 = va_up (σ.2.1 25) 0 (σ.1 1) := by rw [hτ]; rfl
  have t26 : τ.2.2.1 26 = mfill (σ.2.2.1 26) (2400 * 0) (40 * nR σ) (fun k => σ.2.2.1 4 k) := by rw [hτ]; rfl
  have t4 : τ.2.2.1 4 = σ.2.2.1 4 := by rw [hτ]; rfl
  rw [← hτ]
  have hR := h.1.R
  have n1 : nR τ = nR σ := by unfold nR; rw [t1 1 (by decide)]
  have hkrc : kr τ 0 = nR σ := by unfold kr; rw [t25, va_up_s]
  have hq9 : MQ9 τ := h.same (t1 1 (by decide)) (t1 5 (by decide)) (t1 8 (by decide)) (fun k hk => t2 k (by omega) (by omega) (by omega) (by omega) (by omega)) t4
  refine ⟨⟨hq9, ⟨⟨t20, by decide⟩, fun d hd => ?_⟩, fun d hd => ?_, fun d hd => ?_, ?_, A, ?_⟩, ?_, ?_, ?_⟩
  · obtain rfl : d = 0 := by omega
    rw [t21, t22, t25, va_up_s, va_up_s, va_up_s]
    exact ⟨⟨q, hq, rfl, 0, Nat.zero_le _, rfl, fun y => by omega⟩, nR σ, by omega, hR.1⟩
  · obtain rfl : d = 0 := by omega
    rw [hkrc]
    refine ⟨fun d h1 h2 => by omega, by omega, fun r i hr hi => ?_⟩
    have hln : ln τ r = ln σ r := by unfold ln; rw [t2 3 (by decide) (by decide) (by decide) (by decide) (by decide)]
    have l9 := hq9.kdln (r := r) (by omega)
    have e9 : sn τ 0 r i = el τ r i := by unfold sn el; rw [t26, t4, mfill_in (by omega)]
    rw [e9]
    exact hq9.e (by omega) hi
  · obtain rfl : d = 0 := by omega
    rw [t23, t24, va_up_s, va_up_s]
    exact ⟨f, f, Nat.le_refl _, hf, rfl, rfl⟩
  · rw [t30, t22, va_up_s]
  · rw [t1 11 (by decide)]; exact hA
  · unfold atc; rw [t22, va_up_s]; rfl
  · unfold pl; rw [t21, va_up_s, nI_clamp (by omega)]
  · unfold lf; rw [t24, va_up_s, nI_clamp (by omega)]
/-- between two calls of the law: n of them done -/
def LI (n : Nat) (σ : MS) : Prop := MQ9 σ ∧ ∃ A, σ.1 11 = nI A ∧ A ≤ 11000 ∧ nJ σ ≤ n + A
theorem MQ9.pop0 {R : Nat} (h : RVn 1 σ) (hR : R = kr σ 0) : MQ9 (sz (mf_undo 0 R σ) 20 (nI 0)) := by
  subst hR
  have s := h.2.2.1 0 (by decide)
  have hR9 := h.1.1.R.2
  refine h.1.to (R' := kr σ 0) (J' := nJ σ) rfl rfl (by omega) h.1.1.J.1 h.1.1.J.2 rfl rfl rfl (fun r hr => ⟨h.1.1.k (by omega), h.1.1.l (by omega)⟩) (fun j hj => h.1.1.il hj) (fun r i hr hi => ?_)
  have hi' : i < ln σ r := hi
  have l9 := h.1.kdln (r := r) (by omega)
  have e9 : el (sz (mf_undo 0 (kr σ 0) σ) 20 (nI 0)) r i = sn σ 0 r i := by
    have e0 : (sz (mf_undo 0 (kr σ 0) σ) 20 (nI 0)).2.2.1 4 = mfill (σ.2.2.1 4) 0 (40 * kr σ 0) (fun k => σ.2.2.1 26 (2400 * 0 + k)) := rfl
    unfold el sn
    rw [e0]
    exact mfill_in0 (by omega)
  rw [e9]
  exact (s.2.2 r i hr hi').to rfl (Nat.le_refl _) rfl
/-- a run of the reference -/
theorem run_T {q f n : Nat} (h : LI n σ) (hn : n ≤ 64) (hq : q < 6) (hf : f ≤ 5000) (hac : σ.1 11 < 6000) {r : Int32 × MS} (hr : r = mf_go 5 0 (mf_begin (nI q) (nI f) σ)) :
    Tks (mf_begin (nI q) (nI f) σ) 0 (mf_runE r) r.1 ∧ GS 0 (mf_begin (nI q) (nI f) σ) r ∧ LI n (sz (mf_runE r) 27 r.1) := by
  obtain ⟨hq9, A, hA, hA2, hJ⟩ := h
  have hA6 : A < 6000 := by rw [hA] at hac; exact (nI_ltI (b := 6000) (by omega) (by decide)).mp hac
  obtain ⟨b1, b2, b3, b4⟩ := RVn.begin hq9 hA hq hf
  have e11 : (mf_begin (nI q) (nI f) σ).1 11 = nI A := hA
  have e8 : nJ (mf_begin (nI q) (nI f) σ) = nJ σ := rfl
  have hB : BG 0 (mf_begin (nI q) (nI f) σ) := by unfold BG; rw [b4, e8]; omega
  have G := go_GS 5 0 rfl _ b1 b2 hB
  rw [← hr] at G
  obtain ⟨σb, hσb⟩ : ∃ s, s = mf_begin (nI q) (nI f) σ := ⟨_, rfl⟩
  rw [← hσb] at G b1 b2 b3 b4 e11 e8 hB ⊢
  have G0 := G
  obtain ⟨⟨G1, G2, P', N', J', G3, G4, GJ, G5⟩, G6, G7⟩ := G
  have hBr := G5.bg G4 hB
  obtain ⟨-, -, -, -, ⟨a8, -, -⟩, ⟨a1, -⟩, a4⟩ := G5
  have hac9 : r.2.1 11 = nI (A + N') := by rw [a1, e11, nI_add]
  have hJr : nJ r.2 < 8000 := by unfold BG at hBr; omega
  refine ⟨?_, G0, ?_⟩
  · unfold mf_runE
    by_cases c1 : r.1 = 0
    · rw [if_pos c1, c1]
      obtain ⟨G6a, G6b⟩ := G6 c1
      refine G6b _ _ (Tks.step G2 hJr (σ1 := mf_ret 0 r.2) ?_ ?_)
      · unfold mf_step
        refine if_pos ?_
        obtain ⟨P9, y1, y2, y3, y4, y5, -⟩ := G2.2.1.top (c := 0) (by decide)
        show r.2.2.1 22 0 = r.2.2.1 16 (pl r.2 0)
        rw [y4, G6a, y2, (G2.1.1.p y1).1]
      · exact ⟨0, rfl, rfl, rfl⟩
    · rw [if_neg c1]
      refine G7 c1 _ _ ?_
      have e9 : mf_fail r.1 (0 + 1) r.2 = (r.1, mf_pop 0 r.2) := if_neg (fun y => absurd y.1 (by decide))
      rw [e9]
      exact ⟨0, rfl, rfl, rfl⟩
  · have hm : MQ9 (mf_runE r) ∧ (mf_runE r).1 11 = r.2.1 11 ∧ nJ (mf_runE r) = nJ r.2 := by
      unfold mf_runE
      by_cases c1 : r.1 = 0
      · rw [if_pos c1]
        exact ⟨G2.1.same rfl rfl rfl (fun _ _ => rfl) rfl, rfl, rfl⟩
      · rw [if_neg c1]
        unfold mf_pop
        rw [if_pos rfl]
        exact ⟨MQ9.pop0 G2 rfl, rfl, rfl⟩
    obtain ⟨m1, m2, m3⟩ := hm
    refine ⟨m1.same rfl rfl rfl (fun _ _ => rfl) rfl, A + N', ?_, by omega, ?_⟩
    · show (mf_runE r).1 11 = _
      rw [m2, hac9]
    · show nJ (mf_runE r) ≤ _
      rw [m3]
      omega
end S51
