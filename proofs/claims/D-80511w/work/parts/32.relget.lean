set_option maxRecDepth 100000
set_option linter.unusedVariables false
section R32
variable {G : hp_G} {E0 : Nat} {g : RG} {σ : MS} {z : Nat → Int32} {ca : Int32} {C : Nat} {Y : Nat → Prop} {M : hp_h}
theorem RELY.N (h : RELY G E0 g σ z ca C Y M) : M (qN g) = some (.inr (0, [.ref (qRl g), .ref (qUl g), .ref (qPl g), .ref (qHs g), .int (σ.1 20), .int (σ.1 14), .int (σ.1 11), .int (σ.1 12), .int (σ.1 15), .int (z 0), .int (z 1), .int (z 2), .int (z 3), .int (z 4), .int (z 5), .int ca, .ref (qAn g)])) := by
  obtain ⟨E, h1, h2⟩ := h.1 0 0 0 ⟨by decide, rfl, rfl⟩
  rw [h1]
  exact congrArg some h2
theorem RELY.Rl (h : RELY G E0 g σ z ca C Y M) : ∃ md, M (qRl g) = some (.inr (1, [.int md, .ref (qRe g), .int (nI (nR σ))])) := by
  obtain ⟨E, h1, md, h2⟩ := h.1 1 0 0 ⟨by decide, rfl, rfl⟩
  exact ⟨md, h1.trans (congrArg some h2)⟩
theorem RELY.Ul (h : RELY G E0 g σ z ca C Y M) : ∃ md, M (qUl g) = some (.inr (1, [.int md, .ref (qUe g), .int (nI (nU σ))])) := by
  obtain ⟨E, h1, md, h2⟩ := h.1 3 0 0 ⟨by decide, rfl, rfl⟩
  exact ⟨md, h1.trans (congrArg some h2)⟩
theorem RELY.Rls (h : RELY G E0 g σ z ca C Y M) : ∃ f, LSt G E0 M (qRl g) (qRe g) (gcp g 2 0) (nR σ) f ∧ ∀ r, r < nR σ → f r = some (qR g r) := by
  obtain ⟨b1, b2, b3⟩ := h.2.2.1
  by_cases hc : gcp g 2 0 = 0
  · exact ⟨fun _ => none, ⟨h.Rl, b1.2.2, fun z => absurd hc z, b1.1, b1.2.1⟩, fun r hr => by have := b1.1; omega⟩
  · obtain ⟨E, h1, f, h2, h3⟩ := h.1 2 0 0 ⟨rfl, rfl, hc⟩
    exact ⟨f, ⟨h.Rl, b1.2.2, fun _ => h1.trans (congrArg some h2), b1.1, b1.2.1⟩, h3⟩
theorem RELY.Uls (h : RELY G E0 g σ z ca C Y M) : ∃ f, LSt G E0 M (qUl g) (qUe g) (gcp g 4 0) (nU σ) f ∧ ∀ u, u < nU σ → f u = some (qU g u) := by
  obtain ⟨b1, b2, b3⟩ := h.2.2.1
  by_cases hc : gcp g 4 0 = 0
  · exact ⟨fun _ => none, ⟨h.Ul, b2.2.2, fun z => absurd hc z, b2.1, b2.2.1⟩, fun r hr => by have := b2.1; omega⟩
  · obtain ⟨E, h1, f, h2, h3⟩ := h.1 4 0 0 ⟨rfl, rfl, hc⟩
    exact ⟨f, ⟨h.Ul, b2.2.2, fun _ => h1.trans (congrArg some h2), b2.1, b2.2.1⟩, h3⟩
theorem RELY.rw (h : RELY G E0 g σ z ca C Y M) {r : Nat} (hr : r < nR σ) : ∃ x, M (qR g r) = some (.inl (G.2 (kd σ r), x)) ∧ XT (kd σ r) (ln σ r) x ∧ ∀ k, k < ln σ r → CE (nU σ) (nJ σ) (fun u => qU g u) (fun y => qJ g y) (kd σ r) x k (el σ r k) := by
  obtain ⟨E, h1, x, h2, h3, h4⟩ := h.1 5 r 0 ⟨hr, rfl⟩
  exact ⟨x, h1.trans (congrArg some h2), h3, h4⟩
theorem RELY.un (h : RELY G E0 g σ z ca C Y M) {u : Nat} (hu : u < nU σ) : M (qU g u) = some (.inr (5 + (σ.2.1 6 u).toNatClampNeg, [.int (nI u), .int (σ.2.1 7 u)])) := by
  obtain ⟨E, h1, h2⟩ := h.1 6 u 0 ⟨hu, rfl⟩
  exact h1.trans (congrArg some h2)
theorem MI.cN {σ : MS} (h : MI σ) {u : Nat} (hu : u < nU σ) : (σ.2.1 6 u).toNatClampNeg ≤ 2 ∧ σ.2.1 6 u = nI (σ.2.1 6 u).toNatClampNeg := by
  obtain ⟨c, hc, e⟩ := h.c hu
  rw [e, nI_clamp (by omega)]
  exact ⟨hc, rfl⟩
theorem RELY.UH (h : RELY G E0 g σ z ca C Y M) (hI : MI σ) : UH M (fun u => qU g u) (nU σ) := by
  refine ⟨hI.U.2, fun u hu => ⟨_, _, ?_, h.un hu⟩⟩
  have := (hI.cN hu).1
  omega
theorem RELY.ji (h : RELY G E0 g σ z ca C Y M) {j : Nat} (hj : j < nJ σ) : ∃ f, M (qJ g j) = some (.inl (G.2 4, iln σ j, .inl f)) ∧ ∀ k, k < iln σ j → f k = σ.2.1 10 (40 * j + k) := by
  obtain ⟨E, h1, f, h2, h3⟩ := h.1 7 j 0 ⟨hj, rfl⟩
  exact ⟨f, h1.trans (congrArg some h2), h3⟩
theorem RELY.JH (h : RELY G E0 g σ z ca C Y M) : JH G M (fun y => qJ g y) (nJ σ) := fun j hj => by
  obtain ⟨f, h1, -⟩ := h.ji hj
  exact ⟨_, h1⟩
theorem RELY.Pl (h : RELY G E0 g σ z ca C Y M) : ∃ f, M (qPl g) = some (.inl (G.2 12, 6, RV f)) ∧ ∀ p, p < 6 → f p = some (qP g p) := by
  obtain ⟨E, h1, f, h2, h3⟩ := h.1 8 0 0 ⟨by decide, rfl, rfl⟩
  exact ⟨f, h1.trans (congrArg some h2), h3⟩
theorem RELY.P (h : RELY G E0 g σ z ca C Y M) {p : Nat} (hp : p < 6) : M (qP g p) = some (.inr (2, [.ref (qPa g p), .int (σ.2.1 16 p)])) := by
  obtain ⟨E, h1, h2⟩ := h.1 9 p 0 ⟨hp, rfl⟩
  exact h1.trans (congrArg some h2)
theorem RELY.Pa (h : RELY G E0 g σ z ca C Y M) {p : Nat} (hp : p < 6) : ∃ f, M (qPa g p) = some (.inl (G.2 13, 12, RV f)) ∧ ∀ k, k < psz σ p → f k = some (qA g p k) := by
  obtain ⟨E, h1, f, h2, h3⟩ := h.1 10 p 0 ⟨hp, rfl⟩
  exact ⟨f, h1.trans (congrArg some h2), h3⟩
theorem RELY.A (h : RELY G E0 g σ z ca C Y M) {p k : Nat} (hp : p < 6) (hk : k < psz σ p) : M (qA g p k) = some (.inr (3, [.int (aw σ p k 0), .int (aw σ p k 1), .int (aw σ p k 2), .int (aw σ p k 3), .int (aw σ p k 4), .int (aw σ p k 5)])) := by
  obtain ⟨E, h1, h2⟩ := h.1 11 p k ⟨hp, hk⟩
  exact h1.trans (congrArg some h2)
theorem RELY.Hs (h : RELY G E0 g σ z ca C Y M) : ∃ f, M (qHs g) = some (.inl (G.2 14, 13, RV f)) ∧ ∀ p, p < 13 → f p = some (qH g p) := by
  obtain ⟨E, h1, f, h2, h3⟩ := h.1 12 0 0 ⟨by decide, rfl, rfl⟩
  exact ⟨f, h1.trans (congrArg some h2), h3⟩
theorem RELY.H (h : RELY G E0 g σ z ca C Y M) {p : Nat} (hp : p < 13) : M (qH g p) = some (.inr (10 + p, HF p (qN g))) := by
  obtain ⟨E, h1, h2⟩ := h.1 13 p 0 ⟨hp, rfl⟩
  exact h1.trans (congrArg some h2)
theorem RELY.An (h : RELY G E0 g σ z ca C Y M) : ∃ f, M (qAn g) = some (.inl (G.2 5, 12, .inr (.inl f))) ∧ ∀ k, k < 12 → f k = σ.2.2.1 32 k := by
  obtain ⟨E, h1, f, h2, h3⟩ := h.1 14 0 0 ⟨by decide, rfl, rfl⟩
  exact ⟨f, h1.trans (congrArg some h2), h3⟩
theorem RELY.Cc (h : RELY G E0 g σ z ca C Y M) {c : Nat} (hc : c < C) : M (qC g c) = some (.inr (4, [.int (σ.2.1 21 c), .int (σ.2.1 25 c), .ref (qKl g c), .ref (qW g c), .int (σ.2.1 24 c), .int (σ.2.1 23 c - σ.2.1 24 c), .int (σ.2.1 22 c), .ref (qN g)])) := by
  obtain ⟨E, h1, h2⟩ := h.1 15 c 0 ⟨hc, rfl⟩
  exact h1.trans (congrArg some h2)
theorem RELY.Kl (h : RELY G E0 g σ z ca C Y M) {c : Nat} (hc : c < C) : ∃ md, M (qKl g c) = some (.inr (1, [.int md, .ref (qKe g c), .int (nI (kn g c))])) := by
  obtain ⟨E, h1, md, h2⟩ := h.1 16 c 0 ⟨hc, rfl⟩
  exact ⟨md, h1.trans (congrArg some h2)⟩
theorem RELY.Kls (h : RELY G E0 g σ z ca C Y M) {c : Nat} (hc : c < C) : ∃ f, LSt G E0 M (qKl g c) (qKe g c) (gcp g 17 c) (kn g c) f ∧ ∀ i, i < kn g c → f i = some (qK g c i) := by
  obtain ⟨b1, b2, b3⟩ := h.2.2.1
  have b3 := b3 c hc
  by_cases hz : gcp g 17 c = 0
  · exact ⟨fun _ => none, ⟨h.Kl hc, b3.2.2, fun z => absurd hz z, b3.1, b3.2.1⟩, fun r hr => by have := b3.1; omega⟩
  · obtain ⟨E, h1, f, h2, h3⟩ := h.1 17 c 0 ⟨hc, rfl, hz⟩
    exact ⟨f, ⟨h.Kl hc, b3.2.2, fun _ => h1.trans (congrArg some h2), b3.1, b3.2.1⟩, h3⟩
theorem RELY.W (h : RELY G E0 g σ z ca C Y M) {c : Nat} (hc : c < C) : ∃ f, M (qW g c) = some (.inl (G.2 4, 60, .inl f)) ∧ ∀ k, k < kn g c → f k = nI (wh g c k) := by
  obtain ⟨E, h1, f, h2, h3⟩ := h.1 18 c 0 ⟨hc, rfl⟩
  exact ⟨f, h1.trans (congrArg some h2), h3⟩
theorem RELY.K (h : RELY G E0 g σ z ca C Y M) {c i : Nat} (hc : c < C) (hi : i < kn g c) : ∃ x, M (qK g c i) = some (.inl (G.2 (kd σ (wh g c i)), x)) ∧ XT (kd σ (wh g c i)) (ln σ (wh g c i)) x ∧ ∃ e : Nat → Int64, (∀ k, k < ln σ (wh g c i) → CE (nU σ) (nJ σ) (fun u => qU g u) (fun y => qJ g y) (kd σ (wh g c i)) x k (e k)) ∧ (wh g c i < kr σ c → ∀ k, k < ln σ (wh g c i) → e k = sn σ c (wh g c i) k) ∧ CQ (nU σ) (σ.2.1 6) (kd σ (wh g c i)) (ln σ (wh g c i)) e := by
  obtain ⟨E, h1, x, h2, h3⟩ := h.1 19 c i ⟨hc, hi⟩
  exact ⟨x, h1.trans (congrArg some h2), h3⟩
/-- an address that a role has -/
def IsR (σ : MS) (g : RG) (C : Nat) (a : Nat) : Prop := ∃ t i j, RD σ g C t i j ∧ g.1 t i j = a
end R32
/-- what a method of the system owes to its caller: the fixed addresses stay, cells that are none of the system's are left alone -/
def RKp (n : Nat) (σ : MS) (g : RG) (C : Nat) (M : hp_h) (σ' : MS) (g' : RG) (C' : Nat) (M' : hp_h) : Prop :=
  (∀ t i j, t ≠ 2 → t ≠ 4 → t ≠ 17 → t ≠ 19 → RD σ g C t i j → (t = 5 → i < n) → (15 ≤ t → i < C') → g'.1 t i j = g.1 t i j) ∧ (∀ a e, M a = some e → ¬ IsR σ g C a → M' a = some e ∧ ¬ IsR σ' g' C' a) ∧ hp_sh M M'
theorem RKp.rf {n : Nat} {σ : MS} {g : RG} {C : Nat} {M : hp_h} : RKp n σ g C M σ g C M := ⟨fun _ _ _ _ _ _ _ _ _ _ => rfl, fun _ _ h h' => ⟨h, h'⟩, hp_sh.rf⟩
