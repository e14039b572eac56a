set_option maxRecDepth 100000
set_option linter.unusedVariables false
/-! ===== the system's heap tied to the reference's state ===== -/
/-- addresses by role (which, i, j), capacities of lists, of an active call: how many rows are kept, which -/
abbrev RG : Type := (Nat → Nat → Nat → Nat) × (Nat → Nat → Nat) × (Nat → Nat) × (Nat → Nat → Nat)
abbrev qN (g : RG) : Nat := g.1 0 0 0
abbrev qRl (g : RG) : Nat := g.1 1 0 0
abbrev qRe (g : RG) : Nat := g.1 2 0 0
abbrev qUl (g : RG) : Nat := g.1 3 0 0
abbrev qUe (g : RG) : Nat := g.1 4 0 0
abbrev qR (g : RG) (r : Nat) : Nat := g.1 5 r 0
abbrev qU (g : RG) (u : Nat) : Nat := g.1 6 u 0
abbrev qJ (g : RG) (j : Nat) : Nat := g.1 7 j 0
abbrev qPl (g : RG) : Nat := g.1 8 0 0
abbrev qP (g : RG) (p : Nat) : Nat := g.1 9 p 0
abbrev qPa (g : RG) (p : Nat) : Nat := g.1 10 p 0
abbrev qA (g : RG) (p k : Nat) : Nat := g.1 11 p k
abbrev qHs (g : RG) : Nat := g.1 12 0 0
abbrev qH (g : RG) (h : Nat) : Nat := g.1 13 h 0
abbrev qAn (g : RG) : Nat := g.1 14 0 0
abbrev qC (g : RG) (c : Nat) : Nat := g.1 15 c 0
abbrev qKl (g : RG) (c : Nat) : Nat := g.1 16 c 0
abbrev qKe (g : RG) (c : Nat) : Nat := g.1 17 c 0
abbrev qW (g : RG) (c : Nat) : Nat := g.1 18 c 0
abbrev qK (g : RG) (c i : Nat) : Nat := g.1 19 c i
abbrev gcp (g : RG) (t i : Nat) : Nat := g.2.1 t i
abbrev kn (g : RG) (c : Nat) : Nat := g.2.2.1 c
abbrev wh (g : RG) (c i : Nat) : Nat := g.2.2.2 c i
abbrev kr (σ : MS) (c : Nat) : Nat := (σ.2.1 25 c).toNatClampNeg
abbrev sn (σ : MS) (c r k : Nat) : Int64 := σ.2.2.1 26 (2400 * c + (40 * r + k))
abbrev aw (σ : MS) (p k x : Nat) : Int32 := σ.2.1 17 (6 * (12 * p + k) + x)
def NF (g : RG) (σ : MS) (z : Nat → Int32) (ca : Int32) : List Value := [.ref (qRl g), .ref (qUl g), .ref (qPl g), .ref (qHs g), .int (σ.1 20), .int (σ.1 14), .int (σ.1 11), .int (σ.1 12), .int (σ.1 15), .int (z 0), .int (z 1), .int (z 2), .int (z 3), .int (z 4), .int (z 5), .int ca, .ref (qAn g)]
def AF (σ : MS) (p k : Nat) : List Value := [.int (aw σ p k 0), .int (aw σ p k 1), .int (aw σ p k 2), .int (aw σ p k 3), .int (aw σ p k 4), .int (aw σ p k 5)]
def CF (g : RG) (σ : MS) (c : Nat) : List Value := [.int (σ.2.1 21 c), .int (σ.2.1 25 c), .ref (qKl g c), .ref (qW g c), .int (σ.2.1 24 c), .int (σ.2.1 23 c - σ.2.1 24 c), .int (σ.2.1 22 c), .ref (qN g)]
def HF (h n : Nat) : List Value :=
  if h = 0 then [.int 2, .ref n, .ref n] else if h = 1 then [.int 3, .ref n, .int 0, .int 10, .ref n, .ref n] else if h = 2 then [.int 1, .ref n, .int 0, .int 10, .ref n, .ref n, .ref n] else if h = 3 then [.int 1, .ref n, .int 0, .int 10, .ref n, .ref n, .ref n] else if h = 4 then [.int 1, .ref n, .int 1, .int 7, .ref n, .ref n, .ref n] else if h = 5 then [.int 1, .ref n, .int 0, .int 10, .ref n, .ref n] else if h = 6 then [.int 1, .ref n, .int 1, .int 7, .ref n, .ref n] else if h = 7 then [.int 1, .ref n, .int 0, .int 10, .ref n, .ref n, .ref n] else if h = 8 then [.int 2, .ref n, .int 1, .int 7, .ref n, .ref n, .ref n] else if h = 9 then [.int 1, .ref n, .int 0, .int 7, .ref n, .ref n, .ref n] else if h = 10 then [.int 5, .ref n, .ref n] else if h = 11 then [.int 1, .ref n, .ref n] else [.int 1, .ref n, .int 8, .int 9, .ref n, .ref n]
abbrev RV (f : Nat → Option Nat) : (Nat → Int32) ⊕ (Nat → Int64) ⊕ (Nat → UInt32) ⊕ (Nat → UInt64) ⊕ (Nat → Option Nat) := .inr (.inr (.inr (.inr f)))
/-- the content of a row is of its kind's form -/
def CT (k : Nat) (y : (Nat → Int32) ⊕ (Nat → Int64) ⊕ (Nat → UInt32) ⊕ (Nat → UInt64) ⊕ (Nat → Option Nat)) : Prop := (k ≤ 4 ∧ ∃ f, y = .inl f) ∨ (k = 5 ∧ ∃ f, y = .inr (.inl f)) ∨ (k = 6 ∧ ∃ f, y = .inr (.inr (.inl f))) ∨ (k = 7 ∧ ∃ f, y = .inr (.inr (.inr (.inl f)))) ∨ ((k = 8 ∨ k = 9 ∨ k = 10) ∧ ∃ f, y = .inr (.inr (.inr (.inr f))))
def XT (k n : Nat) (x : vp_A) : Prop := x.1 = n ∧ CT k x.2
/-- a row of cards has only cards -/
def CQ (U : Nat) (c6 : Nat → Int32) (k n : Nat) (e : Nat → Int64) : Prop := k = 9 → ∀ i, i < n → e i = -1 ∨ ∃ u, u < U ∧ e i = lN u ∧ (c6 u).toNatClampNeg ≠ 0
theorem CQ.to {U U' : Nat} {c6 c6' : Nat → Int32} {k n : Nat} {e : Nat → Int64} (h : CQ U c6 k n e) (hU : U ≤ U') (hc : ∀ u, u < U → c6' u = c6 u) : CQ U' c6' k n e := fun hk i hi => by
  rcases h hk i hi with z | ⟨u, h1, h2, h3⟩
  · exact Or.inl z
  · exact Or.inr ⟨u, Nat.lt_of_lt_of_le h1 hU, h2, by rw [hc u h1]; exact h3⟩
/-- the roles there are -/
def RD (σ : MS) (g : RG) (C t i j : Nat) : Prop := match t with
  | 2 => i = 0 ∧ j = 0 ∧ gcp g 2 0 ≠ 0
  | 4 => i = 0 ∧ j = 0 ∧ gcp g 4 0 ≠ 0
  | 5 => i < nR σ ∧ j = 0
  | 6 => i < nU σ ∧ j = 0
  | 7 => i < nJ σ ∧ j = 0
  | 9 => i < 6 ∧ j = 0
  | 10 => i < 6 ∧ j = 0
  | 11 => i < 6 ∧ j < psz σ i
  | 13 => i < 13 ∧ j = 0
  | 15 => i < C ∧ j = 0
  | 16 => i < C ∧ j = 0
  | 17 => i < C ∧ j = 0 ∧ gcp g 17 i ≠ 0
  | 18 => i < C ∧ j = 0
  | 19 => i < C ∧ j < kn g i
  | t => t < 20 ∧ i = 0 ∧ j = 0
/-- what lies where a role is played -/
def EX (G : hp_G) (g : RG) (σ : MS) (z : Nat → Int32) (ca : Int32) (t i j : Nat) (E : va_E) : Prop := match t with
  | 0 => E = .inr (0, NF g σ z ca)
  | 1 => ∃ md, E = .inr (1, [.int md, .ref (qRe g), .int (nI (nR σ))])
  | 2 => ∃ f, E = .inl (G.2 11, gcp g 2 0, RV f) ∧ ∀ r, r < nR σ → f r = some (qR g r)
  | 3 => ∃ md, E = .inr (1, [.int md, .ref (qUe g), .int (nI (nU σ))])
  | 4 => ∃ f, E = .inl (G.2 11, gcp g 4 0, RV f) ∧ ∀ u, u < nU σ → f u = some (qU g u)
  | 5 => ∃ x, E = .inl (G.2 (kd σ i), x) ∧ XT (kd σ i) (ln σ i) x ∧ ∀ k, k < ln σ i → CE (nU σ) (nJ σ) (fun u => qU g u) (fun y => qJ g y) (kd σ i) x k (el σ i k)
  | 6 => E = .inr (5 + (σ.2.1 6 i).toNatClampNeg, [.int (nI i), .int (σ.2.1 7 i)])
  | 7 => ∃ f, E = .inl (G.2 4, iln σ i, .inl f) ∧ ∀ k, k < iln σ i → f k = σ.2.1 10 (40 * i + k)
  | 8 => ∃ f, E = .inl (G.2 12, 6, RV f) ∧ ∀ p, p < 6 → f p = some (qP g p)
  | 9 => E = .inr (2, [.ref (qPa g i), .int (σ.2.1 16 i)])
  | 10 => ∃ f, E = .inl (G.2 13, 12, RV f) ∧ ∀ k, k < psz σ i → f k = some (qA g i k)
  | 11 => E = .inr (3, AF σ i j)
  | 12 => ∃ f, E = .inl (G.2 14, 13, RV f) ∧ ∀ h, h < 13 → f h = some (qH g h)
  | 13 => E = .inr (10 + i, HF i (qN g))
  | 14 => ∃ f, E = .inl (G.2 5, 12, .inr (.inl f)) ∧ ∀ k, k < 12 → f k = σ.2.2.1 32 k
  | 15 => E = .inr (4, CF g σ i)
  | 16 => ∃ md, E = .inr (1, [.int md, .ref (qKe g i), .int (nI (kn g i))])
  | 17 => ∃ f, E = .inl (G.2 11, gcp g 17 i, RV f) ∧ ∀ k, k < kn g i → f k = some (qK g i k)
  | 18 => ∃ f, E = .inl (G.2 4, 60, .inl f) ∧ ∀ k, k < kn g i → f k = nI (wh g i k)
  | 19 => ∃ x, E = .inl (G.2 (kd σ (wh g i j)), x) ∧ XT (kd σ (wh g i j)) (ln σ (wh g i j)) x ∧ ∃ e : Nat → Int64, (∀ k, k < ln σ (wh g i j) → CE (nU σ) (nJ σ) (fun u => qU g u) (fun y => qJ g y) (kd σ (wh g i j)) x k (e k)) ∧ (wh g i j < kr σ i → ∀ k, k < ln σ (wh g i j) → e k = sn σ i (wh g i j) k) ∧ CQ (nU σ) (σ.2.1 6) (kd σ (wh g i j)) (ln σ (wh g i j)) e
  | _ => False
/-- the lists' capacities, with the empty list's shared array E0 -/
def RL (E0 : Nat) (g : RG) (σ : MS) (C : Nat) : Prop :=
  (nR σ ≤ gcp g 2 0 ∧ gcp g 2 0 ≤ 90 ∧ (gcp g 2 0 = 0 → qRe g = E0)) ∧ (nU σ ≤ gcp g 4 0 ∧ gcp g 4 0 ≤ 90 ∧ (gcp g 4 0 = 0 → qUe g = E0)) ∧ ∀ c, c < C → kn g c ≤ gcp g 17 c ∧ gcp g 17 c ≤ 90 ∧ (gcp g 17 c = 0 → qKe g c = E0)
/-- what is kept -/
def RK (g : RG) (σ : MS) (C : Nat) (Y : Nat → Prop) : Prop := ∀ c, c < C →
  (∀ i, i < kn g c → wh g c i < nR σ ∧ ∀ d, c < d → d < C → wh g c i < kr σ d) ∧ (∀ i j, i < kn g c → j < kn g c → wh g c i = wh g c j → i = j) ∧ kr σ c ≤ nR σ ∧ (∀ d, c < d → d < C → kr σ c ≤ kr σ d) ∧
  ∀ r, r < kr σ c → (∀ i, i < kn g c → wh g c i ≠ r) → ¬ (c + 1 = C ∧ Y r) → ∀ k, k < ln σ r → sn σ c r k = if c + 1 < C then sn σ (c + 1) r k else el σ r k
def RI (g : RG) (σ : MS) (C : Nat) : Prop := ∀ t i j t' i' j', RD σ g C t i j → RD σ g C t' i' j' → g.1 t i j = g.1 t' i' j' → t = t' ∧ i = i' ∧ j = j'
def RELY (G : hp_G) (E0 : Nat) (g : RG) (σ : MS) (z : Nat → Int32) (ca : Int32) (C : Nat) (Y : Nat → Prop) (M : hp_h) : Prop :=
  (∀ t i j, RD σ g C t i j → ∃ E, M (g.1 t i j) = some E ∧ EX G g σ z ca t i j E) ∧ RI g σ C ∧ RL E0 g σ C ∧ RK g σ C Y
abbrev REL (G : hp_G) (E0 : Nat) (g : RG) (σ : MS) (z : Nat → Int32) (ca : Int32) (C : Nat) (M : hp_h) : Prop := RELY G E0 g σ z ca C (fun _ => False) M
theorem CE.mono {U J U' J' : Nat} {ua ja ua' ja' : Nat → Nat} {k : Nat} {x : vp_A} {i : Nat} {b : Int64} (h : CE U J ua ja k x i b) (hU : U ≤ U') (hJ : J ≤ J') (hu : ∀ u, u < U → ua' u = ua u) (hj : ∀ j, j < J → ja' j = ja j) : CE U' J' ua' ja' k x i b := by
  rcases h with h | h | h | h | ⟨h, f, h1, h2⟩ | ⟨h, f, h1, h2⟩
  · exact Or.inl h
  · exact Or.inr (Or.inl h)
  · exact Or.inr (Or.inr (Or.inl h))
  · exact Or.inr (Or.inr (Or.inr (Or.inl h)))
  · refine Or.inr (Or.inr (Or.inr (Or.inr (Or.inl ⟨h, f, h1, ?_⟩))))
    rcases h2 with h2 | ⟨u, a1, a2, a3⟩
    · exact Or.inl h2
    · exact Or.inr ⟨u, by omega, a2, by rw [hu u a1]; exact a3⟩
  · refine Or.inr (Or.inr (Or.inr (Or.inr (Or.inr ⟨h, f, h1, ?_⟩))))
    rcases h2 with h2 | ⟨u, a1, a2, a3⟩
    · exact Or.inl h2
    · exact Or.inr ⟨u, by omega, a2, by rw [hj u a1]; exact a3⟩
/-- no cell of the system is touched -/
theorem RELY.heap {G : hp_G} {Y : Nat → Prop} {E0 : Nat} {g : RG} {σ : MS} {z : Nat → Int32} {ca : Int32} {C : Nat} {M M' : hp_h} (h : RELY G E0 g σ z ca C Y M) (hk : ∀ a e, M a = some e → (∃ t i j, RD σ g C t i j ∧ g.1 t i j = a) → M' a = some e) : RELY G E0 g σ z ca C Y M' :=
  ⟨fun t i j hd => by obtain ⟨E, h1, h2⟩ := h.1 t i j hd; exact ⟨E, hk _ _ h1 ⟨t, i, j, hd, rfl⟩, h2⟩, h.2⟩
theorem RELY.ne0 {G : hp_G} {Y : Nat → Prop} {E0 : Nat} {g : RG} {σ : MS} {z : Nat → Int32} {ca : Int32} {C : Nat} {M : hp_h} (h : RELY G E0 g σ z ca C Y M) {t i j : Nat} (hd : RD σ g C t i j) : M (g.1 t i j) ≠ none := by
  obtain ⟨E, h1, -⟩ := h.1 t i j hd
  rw [h1]
  exact fun z => by cases z
/-- a change of one role's cell -/
theorem RELY.set {G : hp_G} {Y : Nat → Prop} {E0 : Nat} {g : RG} {σ σ' : MS} {z z' : Nat → Int32} {ca ca' : Int32} {C : Nat} {M : hp_h} {E' : va_E} (h : RELY G E0 g σ z ca C Y M) (t0 i0 j0 : Nat) (h0 : RD σ g C t0 i0 j0)
    (hd : ∀ t i j, RD σ' g C t i j ↔ RD σ g C t i j) (hs : EX G g σ' z' ca' t0 i0 j0 E') (ho : ∀ t i j E, RD σ g C t i j → ¬ (t = t0 ∧ i = i0 ∧ j = j0) → EX G g σ z ca t i j E → EX G g σ' z' ca' t i j E) (hl : RL E0 g σ' C) (hk : RK g σ' C Y) : RELY G E0 g σ' z' ca' C Y (hp_up M (g.1 t0 i0 j0) E') := by
  refine ⟨fun t i j hd' => ?_, fun t i j t' i' j' a1 a2 a3 => h.2.1 t i j t' i' j' ((hd _ _ _).mp a1) ((hd _ _ _).mp a2) a3, hl, hk⟩
  have hd' := (hd _ _ _).mp hd'
  by_cases e : t = t0 ∧ i = i0 ∧ j = j0
  · obtain ⟨rfl, rfl, rfl⟩ := e
    exact ⟨E', hp_up_s, hs⟩
  · obtain ⟨E, h1, h2⟩ := h.1 t i j hd'
    refine ⟨E, ?_, ho t i j E hd' e h2⟩
    rw [hp_up_n]
    · exact h1
    · exact fun z => e (h.2.1 t i j t0 i0 j0 hd' h0 z)
/-- numbers of the system -/
theorem RELY.num {G : hp_G} {Y : Nat → Prop} {E0 : Nat} {g : RG} {σ σ' : MS} {z z' : Nat → Int32} {ca ca' : Int32} {C : Nat} {M : hp_h} (h : RELY G E0 g σ z ca C Y M) (h1 : σ'.1 1 = σ.1 1) (h5 : σ'.1 5 = σ.1 5) (h8 : σ'.1 8 = σ.1 8) (h2 : σ'.2.1 = σ.2.1) (h3 : σ'.2.2.1 = σ.2.2.1) : RELY G E0 g σ' z' ca' C Y (hp_up M (qN g) (.inr (0, NF g σ' z' ca'))) := by
  obtain ⟨a, b, c, d⟩ := σ
  obtain ⟨a', b', c', d'⟩ := σ'
  dsimp only at h1 h5 h8 h2 h3
  subst h2 h3
  have n1 : nR (a', b', c', d') = nR (a, b', c', d) := by show (a' 1).toNatClampNeg = _; rw [h1]
  have n5 : nU (a', b', c', d') = nU (a, b', c', d) := by show (a' 5).toNatClampNeg = _; rw [h5]
  have n8 : nJ (a', b', c', d') = nJ (a, b', c', d) := by show (a' 8).toNatClampNeg = _; rw [h8]
  refine h.set 0 0 0 ⟨by decide, rfl, rfl⟩ (fun t i j => ?_) rfl (fun t i j E hd hn hE => ?_) ?_ ?_
  · unfold RD; rw [n1, n5, n8]
  · unfold EX at hE ⊢
    rw [n1, n5, n8]
    split at hE <;> first | exact hE | (exfalso; revert hn hd; unfold RD; intro hd hn; first | exact hn ⟨rfl, hd.2.1, hd.2.2⟩ | omega)
  · have := h.2.2.1; unfold RL at this ⊢; rw [n1, n5]; exact this
  · have := h.2.2.2; unfold RK at this ⊢; rw [n1]; exact this
/-- the parts of the reference's state that the system shows, alike -/
def VW (σ σ' : MS) : Prop :=
  (∀ k, k = 1 ∨ k = 5 ∨ k = 8 ∨ k = 20 ∨ k = 14 ∨ k = 11 ∨ k = 12 ∨ k = 15 → σ'.1 k = σ.1 k) ∧ (∀ r, r < nR σ → σ'.2.1 2 r = σ.2.1 2 r ∧ σ'.2.1 3 r = σ.2.1 3 r) ∧
  (∀ k, k = 6 ∨ k = 7 ∨ k = 9 ∨ k = 10 ∨ k = 16 ∨ k = 17 ∨ k = 21 ∨ k = 22 ∨ k = 23 ∨ k = 24 ∨ k = 25 → σ'.2.1 k = σ.2.1 k) ∧ (∀ k, k < 12 → σ'.2.2.1 32 k = σ.2.2.1 32 k) ∧ σ'.2.2.1 26 = σ.2.2.1 26 ∧ ∀ r k, r < nR σ → k < ln σ r → el σ' r k = el σ r k
theorem VW.rf {σ : MS} : VW σ σ := ⟨fun _ _ => rfl, fun _ _ => ⟨rfl, rfl⟩, fun _ _ => rfl, fun _ _ => rfl, rfl, fun _ _ _ _ => rfl⟩
theorem RELY.view {G : hp_G} {Y : Nat → Prop} {E0 : Nat} {g : RG} {σ σ' : MS} {z : Nat → Int32} {ca : Int32} {C : Nat} {M : hp_h} (h : RELY G E0 g σ z ca C Y M) (hv : VW σ σ') : RELY G E0 g σ' z ca C Y M := by
  obtain ⟨v1, v2, v3, v4, v5, v6⟩ := hv
  have n1 : nR σ' = nR σ := by unfold nR; rw [v1 1 (by simp)]
  have n5 : nU σ' = nU σ := by unfold nU; rw [v1 5 (by simp)]
  have n8 : nJ σ' = nJ σ := by unfold nJ; rw [v1 8 (by simp)]
  have kk : ∀ r, r < nR σ → kd σ' r = kd σ r ∧ ln σ' r = ln σ r := fun r hr => by unfold kd ln; rw [(v2 r hr).1, (v2 r hr).2]; exact ⟨rfl, rfl⟩
  have hD : ∀ t i j, RD σ' g C t i j ↔ RD σ g C t i j := fun t i j => by
    unfold RD psz; rw [n1, n5, n8, v3 16 (by simp)]
  have kr' : ∀ c, kr σ' c = kr σ c := fun c => by unfold kr; rw [v3 25 (by simp)]
  have sn' : ∀ c r k, sn σ' c r k = sn σ c r k := fun c r k => by unfold sn; rw [v5]
  obtain ⟨h1, h2, h3, h4⟩ := h
  refine ⟨fun t i j hd => ?_, fun t i j t' i' j' a1 a2 a3 => h2 t i j t' i' j' ((hD _ _ _).mp a1) ((hD _ _ _).mp a2) a3, ?_, ?_⟩
  · have hd := (hD _ _ _).mp hd
    obtain ⟨E, a1, a2⟩ := h1 t i j hd
    refine ⟨E, a1, ?_⟩
    unfold EX at a2 ⊢
    split at a2
    · unfold NF at a2 ⊢; rw [v1 20 (by simp), v1 14 (by simp), v1 11 (by simp), v1 12 (by simp), v1 15 (by simp)]; exact a2
    · (try dsimp only); rw [n1]; exact a2
    · (try dsimp only); rw [n1]; exact a2
    · (try dsimp only); rw [n5]; exact a2
    · (try dsimp only); rw [n5]; exact a2
    · have hr : _ < nR σ := hd.1
      (try dsimp only)
      rw [n5, n8, (kk _ hr).1, (kk _ hr).2]
      obtain ⟨x, b1, b2, b3⟩ := a2
      exact ⟨x, b1, b2, fun k hk => by rw [v6 _ _ hr hk]; exact b3 k hk⟩
    · (try dsimp only); rw [v3 6 (by simp), v3 7 (by simp)]; exact a2
    · (try dsimp only); unfold iln; rw [v3 9 (by simp), v3 10 (by simp)]; exact a2
    · exact a2
    · (try dsimp only); rw [v3 16 (by simp)]; exact a2
    · (try dsimp only); unfold psz; rw [v3 16 (by simp)]; exact a2
    · (try dsimp only); unfold AF aw at a2 ⊢; rw [v3 17 (by simp)]; exact a2
    · exact a2
    · exact a2
    · obtain ⟨f, b1, b2⟩ := a2
      exact ⟨f, b1, fun k hk => by rw [v4 k hk]; exact b2 k hk⟩
    · (try dsimp only); unfold CF at a2 ⊢; rw [v3 21 (by simp), v3 22 (by simp), v3 23 (by simp), v3 24 (by simp), v3 25 (by simp)]; exact a2
    · exact a2
    · exact a2
    · exact a2
    · have hr : wh g i j < nR σ := ((h4 i hd.1).1 j hd.2).1
      (try dsimp only)
      rw [n5, n8, (kk _ hr).1, (kk _ hr).2, kr']
      obtain ⟨x, b1, b2, e, b3, b4, b5⟩ := a2
      exact ⟨x, b1, b2, e, b3, fun hw k hk => by rw [sn']; exact b4 hw k hk, by rw [v3 6 (by simp)]; exact b5⟩
    · exact a2
  · unfold RL at h3 ⊢; rw [n1, n5]; exact h3
  · intro c hc
    obtain ⟨b1, b2, b3, b4, b5⟩ := h4 c hc
    rw [n1, kr']
    refine ⟨fun i hi => ⟨(b1 i hi).1, fun d hd hd' => by rw [kr']; exact (b1 i hi).2 d hd hd'⟩, b2, b3, fun d hd hd' => by rw [kr']; exact b4 d hd hd', fun r hr hn hy k hk => ?_⟩
    have hr' : r < nR σ := Nat.lt_of_lt_of_le hr b3
    rw [(kk r hr').2] at hk
    rw [sn', sn', v6 r k hr' hk]
    exact b5 r hr hn hy k hk
/-- a number of an active call -/
theorem RELY.call {G : hp_G} {Y : Nat → Prop} {E0 : Nat} {g : RG} {σ σ' : MS} {z : Nat → Int32} {ca : Int32} {C : Nat} {M : hp_h} (h : RELY G E0 g σ z ca C Y M) {c : Nat} (hc : c < C) (s1 : σ'.1 = σ.1) (s2 : ∀ k, k ≠ 22 → k ≠ 23 → k ≠ 24 → σ'.2.1 k = σ.2.1 k) (s3 : σ'.2.2.1 = σ.2.2.1) (s4 : ∀ d, d ≠ c → σ'.2.1 22 d = σ.2.1 22 d ∧ σ'.2.1 23 d = σ.2.1 23 d ∧ σ'.2.1 24 d = σ.2.1 24 d) : RELY G E0 g σ' z ca C Y (hp_up M (qC g c) (.inr (4, CF g σ' c))) := by
  obtain ⟨a, b, e, f⟩ := σ
  obtain ⟨a', b', e', f'⟩ := σ'
  dsimp only at s1 s2 s3 s4
  subst s1 s3
  have hD : ∀ t i j, RD (a', b', e', f') g C t i j ↔ RD (a', b, e', f) g C t i j := fun t i j => by unfold RD psz; dsimp only; rw [s2 16 (by decide) (by decide) (by decide)]
  refine h.set 15 c 0 ⟨hc, rfl⟩ hD rfl (fun t i j E hd hn hE => ?_) h.2.2.1 ?_
  · unfold EX at hE ⊢
    split at hE
    · exact hE
    · exact hE
    · exact hE
    · exact hE
    · exact hE
    · (try dsimp only at hE ⊢); unfold kd ln at hE ⊢; (try dsimp only at hE ⊢); rw [s2 2 (by decide) (by decide) (by decide), s2 3 (by decide) (by decide) (by decide)]; exact hE
    · (try dsimp only at hE ⊢); rw [s2 6 (by decide) (by decide) (by decide), s2 7 (by decide) (by decide) (by decide)]; exact hE
    · (try dsimp only at hE ⊢); unfold iln at hE ⊢; (try dsimp only at hE ⊢); rw [s2 9 (by decide) (by decide) (by decide), s2 10 (by decide) (by decide) (by decide)]; exact hE
    · exact hE
    · (try dsimp only at hE ⊢); rw [s2 16 (by decide) (by decide) (by decide)]; exact hE
    · (try dsimp only at hE ⊢); unfold psz at hE ⊢; (try dsimp only at hE ⊢); rw [s2 16 (by decide) (by decide) (by decide)]; exact hE
    · (try dsimp only at hE ⊢); unfold AF aw at hE ⊢; (try dsimp only at hE ⊢); rw [s2 17 (by decide) (by decide) (by decide)]; exact hE
    · exact hE
    · exact hE
    · exact hE
    · have hne : i ≠ c := fun z => hn ⟨rfl, z, hd.2⟩
      obtain ⟨q1, q2, q3⟩ := s4 i hne
      (try dsimp only at hE ⊢); unfold CF at hE ⊢; (try dsimp only at hE ⊢); rw [q1, q2, q3, s2 21 (by decide) (by decide) (by decide), s2 25 (by decide) (by decide) (by decide)]; exact hE
    · exact hE
    · exact hE
    · exact hE
    · (try dsimp only at hE ⊢); unfold kd ln kr at hE ⊢; (try dsimp only at hE ⊢); rw [s2 2 (by decide) (by decide) (by decide), s2 3 (by decide) (by decide) (by decide), s2 25 (by decide) (by decide) (by decide), s2 6 (by decide) (by decide) (by decide)]; exact hE
    · exact hE
  · have h4 := h.2.2.2
    unfold RK kr ln at h4 ⊢
    dsimp only at h4 ⊢
    rw [s2 3 (by decide) (by decide) (by decide), s2 25 (by decide) (by decide) (by decide)]
    exact h4
/-- a row's content -/
theorem RELY.row {G : hp_G} {Y : Nat → Prop} {E0 : Nat} {g : RG} {σ : MS} {z : Nat → Int32} {ca : Int32} {C : Nat} {M : hp_h} (h : RELY G E0 g σ z ca C Y M) {r : Nat} (hr : r < nR σ) {f' : Nat → Int64} {x' : vp_A} (hx : XT (kd σ r) (ln σ r) x') (hc : ∀ k, k < ln σ r → CE (nU σ) (nJ σ) (fun u => qU g u) (fun y => qJ g y) (kd σ r) x' k (f' (40 * r + k)))
    (hf : ∀ r' k, r' < nR σ → r' ≠ r → k < ln σ r' → f' (40 * r' + k) = el σ r' k) (hk : ∀ c, c + 1 = C → (∃ i, i < kn g c ∧ wh g c i = r) ∨ kr σ c ≤ r) : RELY G E0 g (sl σ 4 f') z ca C Y (hp_up M (qR g r) (.inl (G.2 (kd σ r), x'))) := by
  have e4 : ∀ r k, el (sl σ 4 f') r k = f' (40 * r + k) := fun r k => rfl
  refine h.set 5 r 0 ⟨hr, rfl⟩ (fun t i j => Iff.rfl) ⟨x', rfl, hx, hc⟩ (fun t i j E hd hn hE => ?_) h.2.2.1 ?_
  · unfold EX at hE ⊢
    split at hE <;> first | exact hE | skip
    obtain ⟨x, b1, b2, b3⟩ := hE
    refine ⟨x, b1, b2, fun k hk => ?_⟩
    rw [e4, hf i k hd.1 (fun z => hn ⟨rfl, z, hd.2⟩) hk]
    exact b3 k hk
  · intro c hc'
    obtain ⟨b1, b2, b3, b4, b5⟩ := h.2.2.2 c hc'
    refine ⟨b1, b2, b3, b4, fun r' hr' hn hy k hk' => ?_⟩
    have h9 := b5 r' hr' hn hy k hk'
    rw [e4]
    show sn σ c r' k = _
    rw [h9]
    by_cases hC : c + 1 < C
    · rw [if_pos hC, if_pos hC]; rfl
    · rw [if_neg hC, if_neg hC]
      have hr9 : r' ≠ r := by
        rintro rfl
        rcases hk c (by omega) with ⟨i, hi, z⟩ | z
        · exact hn i hi z
        · exact absurd (show r' < kr σ c from hr') (by omega)
      exact (hf r' k (Nat.lt_of_lt_of_le hr' b3) hr9 hk').symm
/-- one role's address -/
def ru (a : Nat → Nat → Nat → Nat) (t0 i0 j0 q : Nat) : Nat → Nat → Nat → Nat := fun t i j => if t = t0 then (if i = i0 ∧ j = j0 then q else a t i j) else a t i j
theorem ru_s {a : Nat → Nat → Nat → Nat} {t i j q : Nat} : ru a t i j q t i j = q := by simp [ru]
theorem ru_t {a : Nat → Nat → Nat → Nat} {t0 i0 j0 q t i j : Nat} (h : t ≠ t0) : ru a t0 i0 j0 q t i j = a t i j := by simp [ru, h]
theorem ru_i {a : Nat → Nat → Nat → Nat} {t0 i0 j0 q i j : Nat} (h : i ≠ i0) : ru a t0 i0 j0 q t0 i j = a t0 i j := by simp [ru, h]
theorem ru_j {a : Nat → Nat → Nat → Nat} {t0 i0 j0 q i j : Nat} (h : j ≠ j0) : ru a t0 i0 j0 q t0 i j = a t0 i j := by simp [ru, h]
theorem ru_n {a : Nat → Nat → Nat → Nat} {t0 i0 j0 q t i j : Nat} (h : ¬ (t = t0 ∧ i = i0 ∧ j = j0)) : ru a t0 i0 j0 q t i j = a t i j := by
  unfold ru
  by_cases h1 : t = t0
  · rw [if_pos h1, if_neg (fun z => h ⟨h1, z⟩)]
  · rw [if_neg h1]
/-- injectivity where roles are old with their address, or new at an address that no role has -/
theorem RI.ext {g g' : RG} {σ σ' : MS} {C C' : Nat} (h : RI g σ C) (N : Nat → Nat → Nat → Prop)
    (hc : ∀ t i j, RD σ' g' C' t i j → (RD σ g C t i j ∧ g'.1 t i j = g.1 t i j ∧ ¬ N t i j) ∨ (N t i j ∧ ∀ t' i' j', RD σ g C t' i' j' → g.1 t' i' j' ≠ g'.1 t i j)) (hN : ∀ t i j t' i' j', N t i j → N t' i' j' → g'.1 t i j = g'.1 t' i' j' → t = t' ∧ i = i' ∧ j = j') : RI g' σ' C' := by
  intro t i j t' i' j' d1 d2 e
  rcases hc _ _ _ d1 with ⟨a1, a2, -⟩ | ⟨a1, a2⟩ <;> rcases hc _ _ _ d2 with ⟨b1, b2, -⟩ | ⟨b1, b2⟩
  · exact h _ _ _ _ _ _ a1 b1 (by rw [← a2, ← b2, e])
  · exact absurd (by rw [← a2, e]) (b2 _ _ _ a1)
  · exact absurd (by rw [← b2, ← e]) (a2 _ _ _ b1)
  · exact hN _ _ _ _ _ _ a1 b1 e
theorem RELY.fresh {G : hp_G} {E0 : Nat} {g : RG} {σ : MS} {z : Nat → Int32} {ca : Int32} {C : Nat} {Y : Nat → Prop} {M : hp_h} (h : RELY G E0 g σ z ca C Y M) {q : Nat} (hq : M q = none) : ∀ t i j, RD σ g C t i j → g.1 t i j ≠ q := fun t i j hd e => h.ne0 hd (by rw [e]; exact hq)
/-- a rebuilding: old roles, new roles -/
theorem RELY.ext {G : hp_G} {E0 : Nat} {g g' : RG} {σ σ' : MS} {z z' : Nat → Int32} {ca ca' : Int32} {C C' : Nat} {Y Y' : Nat → Prop} {M M' : hp_h} (h : RELY G E0 g σ z ca C Y M) (N : Nat → Nat → Nat → Prop)
    (hD : ∀ t i j, RD σ' g' C' t i j → (RD σ g C t i j ∧ g'.1 t i j = g.1 t i j ∧ ¬ N t i j) ∨ N t i j) (hq : ∀ t i j, N t i j → ∀ t' i' j', RD σ g C t' i' j' → g.1 t' i' j' ≠ g'.1 t i j)
    (hN : ∀ t i j t' i' j', N t i j → N t' i' j' → g'.1 t i j = g'.1 t' i' j' → t = t' ∧ i = i' ∧ j = j')
    (ho : ∀ t i j E, RD σ g C t i j → RD σ' g' C' t i j → ¬ N t i j → M (g.1 t i j) = some E → EX G g σ z ca t i j E → ∃ E', M' (g.1 t i j) = some E' ∧ EX G g' σ' z' ca' t i j E')
    (hn : ∀ t i j, RD σ' g' C' t i j → N t i j → ∃ E', M' (g'.1 t i j) = some E' ∧ EX G g' σ' z' ca' t i j E') (hl : RL E0 g' σ' C') (hk : RK g' σ' C' Y') : RELY G E0 g' σ' z' ca' C' Y' M' := by
  refine ⟨fun t i j hd => ?_, RI.ext h.2.1 N (fun t i j hd => ?_) hN, hl, hk⟩
  · rcases hD t i j hd with ⟨a1, a2, a3⟩ | a1
    · obtain ⟨E, b1, b2⟩ := h.1 t i j a1
      rw [a2]
      exact ho t i j E a1 hd a3 b1 b2
    · exact hn t i j hd a1
  · rcases hD t i j hd with a | a
    · exact Or.inl a
    · exact Or.inr ⟨a, hq t i j a⟩
/-- a list object, and what it holds -/
def LSt (G : hp_G) (E0 : Nat) (M : hp_h) (a e cap n : Nat) (f : Nat → Option Nat) : Prop := (∃ md, M a = some (.inr (1, [.int md, .ref e, .int (nI n)]))) ∧ (cap = 0 → e = E0) ∧ (cap ≠ 0 → M e = some (.inl (G.2 11, cap, RV f))) ∧ n ≤ cap ∧ cap ≤ 90
/-- one element is added at the end -/
def LAd (G : hp_G) (E0 : Nat) (M M' : hp_h) (a e cap n v : Nat) (f : Nat → Option Nat) (e' cap' : Nat) (f' : Nat → Option Nat) : Prop := LSt G E0 M' a e' cap' (n + 1) f' ∧ (∀ i, i < n → f' i = f i) ∧ f' n = some v ∧ ((e' = e ∧ cap ≠ 0) ∨ M e' = none) ∧ hp_fr (fun b => b = a ∨ (cap ≠ 0 ∧ b = e)) M M'
/-- rows of ints, a new one -/
abbrev gJ (g : RG) (j q : Nat) : RG := (ru g.1 7 j 0 q, g.2)
theorem RELY.inner {G : hp_G} {Y : Nat → Prop} {E0 : Nat} {g : RG} {σ σ' : MS} {z : Nat → Int32} {ca : Int32} {C n : Nat} {M : hp_h} (h : RELY G E0 g σ z ca C Y M) (hn : n ≤ 40) {q : Nat} (hq : M q = none) (s1 : ∀ k, k ≠ 8 → σ'.1 k = σ.1 k) (s8 : nJ σ' = nJ σ + 1) (s2 : ∀ k, k ≠ 9 → k ≠ 10 → σ'.2.1 k = σ.2.1 k) (s3 : σ'.2.2.1 = σ.2.2.1)
    (s9 : ∀ j, j < nJ σ → iln σ' j = iln σ j) (s9' : iln σ' (nJ σ) = n) (s10 : ∀ j k, j < nJ σ → k < iln σ j → σ'.2.1 10 (40 * j + k) = σ.2.1 10 (40 * j + k)) (s10' : ∀ k, k < n → σ'.2.1 10 (40 * nJ σ + k) = 0) : RELY G E0 (gJ g (nJ σ) q) σ' z ca C Y (hp_up M q (.inl (G.2 4, n, .inl (fun _ => 0)))) := by
  have n1 : nR σ' = nR σ := by unfold nR; rw [s1 1 (by decide)]
  have n5 : nU σ' = nU σ := by unfold nU; rw [s1 5 (by decide)]
  have hD : ∀ t i j, RD σ' (gJ g (nJ σ) q) C t i j → (RD σ g C t i j ∧ (gJ g (nJ σ) q).1 t i j = g.1 t i j ∧ ¬ (t = 7 ∧ i = nJ σ ∧ j = 0)) ∨ (t = 7 ∧ i = nJ σ ∧ j = 0) := by
    intro t i j hd
    by_cases e : t = 7 ∧ i = nJ σ ∧ j = 0
    · exact Or.inr e
    · refine Or.inl ⟨?_, ru_n e, e⟩
      unfold RD at hd ⊢
      unfold psz at hd
      rw [n1, n5, s8, s2 16 (by decide) (by decide)] at hd
      split at hd <;> first | exact hd | skip
      have : i ≠ nJ σ := fun z => e ⟨rfl, z, hd.2⟩
      exact ⟨by omega, hd.2⟩
  have hne : ∀ t i j, RD σ g C t i j → g.1 t i j ≠ q := fun t i j hd e => h.ne0 hd (by rw [e]; exact hq)
  have hkd : ∀ r, kd σ' r = kd σ r := fun r => by unfold kd; rw [s2 2 (by decide) (by decide)]
  have hln : ∀ r, ln σ' r = ln σ r := fun r => by unfold ln; rw [s2 3 (by decide) (by decide)]
  have hkr : ∀ r, kr σ' r = kr σ r := fun r => by unfold kr; rw [s2 25 (by decide) (by decide)]
  have hce : ∀ {k x i b}, CE (nU σ) (nJ σ) (fun u => qU g u) (fun y => qJ g y) k x i b → CE (nU σ') (nJ σ') (fun u => qU (gJ g (nJ σ) q) u) (fun y => qJ (gJ g (nJ σ) q) y) k x i b := fun hc => hc.mono (by omega) (by omega) (fun _ _ => rfl) (fun y hy => show ru g.1 7 (nJ σ) 0 q 7 y 0 = _ from ru_i (Nat.ne_of_lt hy))
  have g0 : ∀ t i j, t ≠ 7 → (gJ g (nJ σ) q).1 t i j = g.1 t i j := fun t i j ht => ru_t ht
  refine ⟨fun t i j hd => ?_, RI.ext h.2.1 (fun t i j => t = 7 ∧ i = nJ σ ∧ j = 0) (fun t i j hd => ?_) (fun t i j t' i' j' a b _ => ⟨a.1.trans b.1.symm, a.2.1.trans b.2.1.symm, a.2.2.trans b.2.2.symm⟩), ?_, ?_⟩
  · rcases hD t i j hd with ⟨hd0, ha, hnn⟩ | ⟨rfl, rfl, rfl⟩
    · obtain ⟨E, h1, h2⟩ := h.1 t i j hd0
      refine ⟨E, by rw [ha, hp_up_n (hne _ _ _ hd0)]; exact h1, ?_⟩
      unfold EX at h2 ⊢
      split at h2 <;> (try dsimp only)
      · unfold NF at h2 ⊢; rw [s1 20 (by decide), s1 14 (by decide), s1 11 (by decide), s1 12 (by decide), s1 15 (by decide)]; exact h2
      · rw [n1]; exact h2
      · rw [n1]; exact h2
      · rw [n5]; exact h2
      · rw [n5]; exact h2
      · rw [hkd, hln]
        obtain ⟨x, b1, b2, b3⟩ := h2
        exact ⟨x, b1, b2, fun k hk => hce (by unfold el; rw [s3]; exact b3 k hk)⟩
      · rw [s2 6 (by decide) (by decide), s2 7 (by decide) (by decide)]; exact h2
      · have hi : i < nJ σ := hd0.1
        rw [s9 i hi]
        obtain ⟨f, b1, b2⟩ := h2
        exact ⟨f, b1, fun k hk => by rw [s10 i k hi hk]; exact b2 k hk⟩
      · exact h2
      · rw [s2 16 (by decide) (by decide)]; exact h2
      · unfold psz; rw [s2 16 (by decide) (by decide)]; exact h2
      · unfold AF aw at h2 ⊢; rw [s2 17 (by decide) (by decide)]; exact h2
      · exact h2
      · exact h2
      · rw [s3]; exact h2
      · unfold CF at h2 ⊢; rw [s2 21 (by decide) (by decide), s2 22 (by decide) (by decide), s2 23 (by decide) (by decide), s2 24 (by decide) (by decide), s2 25 (by decide) (by decide)]; exact h2
      · exact h2
      · exact h2
      · exact h2
      · obtain ⟨x, b1, b2, e, b3, b4, b5⟩ := h2
        have w0 : ∀ c i, wh (gJ g (nJ σ) q) c i = wh g c i := fun _ _ => rfl
        rw [w0, hkd, hln, hkr]
        exact ⟨x, b1, b2, e, fun k hk => hce (b3 k hk), fun hw k hk => by unfold sn; rw [s3]; exact b4 hw k hk, b5.to (by omega) (fun u _ => by rw [s2 6 (by decide) (by decide)])⟩
      · exact h2
    · refine ⟨_, by rw [show (gJ g (nJ σ) q).1 7 (nJ σ) 0 = q from (ru_s : ru g.1 7 (nJ σ) 0 q 7 (nJ σ) 0 = q)]; exact hp_up_s, ?_⟩
      show ∃ f, _ = _ ∧ _
      rw [s9']
      exact ⟨_, rfl, fun k hk => (s10' k hk).symm⟩
  · rcases hD t i j hd with hd0 | hd0
    · exact Or.inl hd0
    · refine Or.inr ⟨hd0, ?_⟩
      obtain ⟨rfl, rfl, rfl⟩ := hd0
      rw [show (gJ g (nJ σ) q).1 7 (nJ σ) 0 = q from (ru_s : ru g.1 7 (nJ σ) 0 q 7 (nJ σ) 0 = q)]
      exact h.fresh hq
  · have := h.2.2.1
    unfold RL at this ⊢
    rw [n1, n5]
    exact this
  · intro c hc
    obtain ⟨b1, b2, b3, b4, b5⟩ := h.2.2.2 c hc
    rw [n1, hkr]
    refine ⟨fun i hi => ⟨(b1 i hi).1, fun d hd hd' => by rw [hkr]; exact (b1 i hi).2 d hd hd'⟩, b2, b3, fun d hd hd' => by rw [hkr]; exact b4 d hd hd', fun r hr hnn hy k hk => ?_⟩
    rw [hln] at hk
    unfold sn el
    rw [s3]
    exact b5 r hr hnn hy k hk
/-- capacities, kept rows by call -/
def rc {α : Type} (f : Nat → Nat → α) (t0 i0 : Nat) (v : α) : Nat → Nat → α := fun t i => if t = t0 then (if i = i0 then v else f t i) else f t i
theorem rc_s {α : Type} {f : Nat → Nat → α} {t i : Nat} {v : α} : rc f t i v t i = v := by simp [rc]
theorem rc_t {α : Type} {f : Nat → Nat → α} {t0 i0 t i : Nat} {v : α} (h : t ≠ t0) : rc f t0 i0 v t i = f t i := by simp [rc, h]
theorem rc_i {α : Type} {f : Nat → Nat → α} {t0 i0 i : Nat} {v : α} (h : i ≠ i0) : rc f t0 i0 v t0 i = f t0 i := by simp [rc, h]
theorem kp_of {σ σ' : MS} (s1 : ∀ k, k = 1 ∨ k = 5 ∨ k = 8 → σ'.1 k = σ.1 k) : nR σ' = nR σ ∧ nU σ' = nU σ ∧ nJ σ' = nJ σ := by
  unfold nR nU nJ
  rw [s1 1 (by simp), s1 5 (by simp), s1 8 (by simp)]
  exact ⟨rfl, rfl, rfl⟩
/-- a row is added -/
def gR (g : RG) (R e' q cap' : Nat) : RG := (ru (ru g.1 2 0 0 e') 5 R 0 q, rc g.2.1 2 0 cap', g.2.2)
theorem gR_5 {g : RG} {R e' q cap' : Nat} : (gR g R e' q cap').1 5 R 0 = q := by simp [gR, ru]
theorem gR_2 {g : RG} {R e' q cap' : Nat} : (gR g R e' q cap').1 2 0 0 = e' := by simp [gR, ru]
theorem gR_c {g : RG} {R e' q cap' : Nat} : (gR g R e' q cap').2.1 2 0 = cap' := by simp [gR, rc]
theorem gR_o {g : RG} {R e' q cap' t i j : Nat} (h2 : t ≠ 2) (h5 : ¬ (t = 5 ∧ i = R ∧ j = 0)) : (gR g R e' q cap').1 t i j = g.1 t i j := (ru_n h5).trans (ru_t h2)
theorem RELY.addRow {G : hp_G} {E0 : Nat} {g : RG} {σ σ' : MS} {z : Nat → Int32} {ca : Int32} {C : Nat} {Y : Nat → Prop} {M M' : hp_h} (h : RELY G E0 g σ z ca C Y M) {q e' cap' : Nat} {f f' : Nat → Option Nat} {x : vp_A}
    (s1 : ∀ k, k ≠ 1 → σ'.1 k = σ.1 k) (sR : nR σ' = nR σ + 1) (s2 : ∀ k, k ≠ 2 → k ≠ 3 → σ'.2.1 k = σ.2.1 k) (sk : ∀ r, r < nR σ → kd σ' r = kd σ r ∧ ln σ' r = ln σ r) (s3 : ∀ k, k ≠ 4 → k ≠ 19 → σ'.2.2.1 k = σ.2.2.1 k) (s4 : ∀ r k, r < nR σ → k < ln σ r → el σ' r k = el σ r k)
    (hq : M q = none) (hL : LSt G E0 M' (qRl g) e' cap' (nR σ + 1) f') (hf : ∀ r, r < nR σ → f' r = some (qR g r)) (hfq : f' (nR σ) = some q) (he : (e' = qRe g ∧ gcp g 2 0 ≠ 0) ∨ (M e' = none ∧ e' ≠ q))
    (hx : M' q = some (.inl (G.2 (kd σ' (nR σ)), x))) (hx1 : XT (kd σ' (nR σ)) (ln σ' (nR σ)) x) (hx2 : ∀ k, k < ln σ' (nR σ) → CE (nU σ) (nJ σ) (fun u => qU g u) (fun y => qJ g y) (kd σ' (nR σ)) x k (el σ' (nR σ) k))
    (hfr : hp_fr (fun b => b = qRl g ∨ (gcp g 2 0 ≠ 0 ∧ b = qRe g)) M M') : RELY G E0 (gR g (nR σ) e' q cap') σ' z ca C Y M' := by
  have n5 : nU σ' = nU σ := by unfold nU; rw [s1 5 (by decide)]
  have n8 : nJ σ' = nJ σ := by unfold nJ; rw [s1 8 (by decide)]
  have hcap : cap' ≠ 0 := by have := hL.2.2.2.1; omega
  have hkr : ∀ c, kr σ' c = kr σ c := fun c => by unfold kr; rw [s2 25 (by decide) (by decide)]
  have a0 : ∀ t i j, t ≠ 2 → ¬ (t = 5 ∧ i = nR σ ∧ j = 0) → (gR g (nR σ) e' q cap').1 t i j = g.1 t i j := fun t i j h1 h2 => gR_o h1 h2
  have a5 : (gR g (nR σ) e' q cap').1 5 (nR σ) 0  = q := gR_5
  have a2 : (gR g (nR σ) e' q cap').1 2 0 0 = e' := gR_2
  have hce : ∀ {k x i b}, CE (nU σ) (nJ σ) (fun u => qU g u) (fun y => qJ g y) k x i b → CE (nU σ') (nJ σ') (fun u => qU (gR g (nR σ) e' q cap') u) (fun y => qJ (gR g (nR σ) e' q cap') y) k x i b := fun hc => hc.mono (by omega) (by omega) (fun u _ => a0 6 u 0 (by decide) (by simp)) (fun y _ => a0 7 y 0 (by decide) (by simp))
  have oRl : RD σ g C 1 0 0 := ⟨by decide, rfl, rfl⟩
  refine h.ext (fun t i j => (t = 5 ∧ i = nR σ ∧ j = 0) ∨ (t = 2 ∧ i = 0 ∧ j = 0 ∧ M e' = none)) (fun t i j hd => ?_) (fun t i j hn => ?_) (fun t i j t' i' j' hn hn' e => ?_) (fun t i j E hd hd' hn hE hX => ?_) (fun t i j hd hn => ?_) ?_ ?_
  · by_cases hn : (t = 5 ∧ i = nR σ ∧ j = 0) ∨ (t = 2 ∧ i = 0 ∧ j = 0 ∧ M e' = none)
    · exact Or.inr hn
    · refine Or.inl ⟨?_, ?_, hn⟩
      · unfold RD psz at hd ⊢
        rw [sR, n5, n8, s2 16 (by decide) (by decide)] at hd
        split at hd <;> first | exact hd | skip
        · refine ⟨hd.1, hd.2.1, ?_⟩
          rcases he with he | he
          · exact he.2
          · exact absurd (Or.inr ⟨rfl, hd.1, hd.2.1, he.1⟩) hn
        · have : i ≠ nR σ := fun z => hn (Or.inl ⟨rfl, z, hd.2⟩)
          exact ⟨by omega, hd.2⟩
      · by_cases ht : t = 2
        · subst ht
          have hd2 : i = 0 ∧ j = 0 := ⟨hd.1, hd.2.1⟩
          obtain ⟨rfl, rfl⟩ := hd2
          rw [a2]
          rcases he with he | he
          · exact he.1
          · exact absurd (Or.inr ⟨rfl, rfl, rfl, he.1⟩) hn
        · exact a0 t i j ht (fun z => hn (Or.inl z))
  · rcases hn with ⟨rfl, rfl, rfl⟩ | ⟨rfl, rfl, rfl, hn⟩
    · rw [a5]; exact h.fresh hq
    · rw [a2]; exact h.fresh hn
  · rcases hn with ⟨rfl, rfl, rfl⟩ | ⟨rfl, rfl, rfl, hn⟩ <;> rcases hn' with ⟨rfl, rfl, rfl⟩ | ⟨rfl, rfl, rfl, hn'⟩
    · exact ⟨rfl, rfl, rfl⟩
    · rw [a5, a2] at e
      rcases he with he | he
      · exact absurd (by rw [he.1] at hn'; exact hn') (h.ne0 (t := 2) (i := 0) (j := 0) ⟨rfl, rfl, he.2⟩)
      · exact absurd e.symm he.2
    · rw [a5, a2] at e
      rcases he with he | he
      · exact absurd (by rw [he.1] at hn; exact hn) (h.ne0 (t := 2) (i := 0) (j := 0) ⟨rfl, rfl, he.2⟩)
      · exact absurd e he.2
    · exact ⟨rfl, rfl, rfl⟩
  · -- old roles
    have keep : t ≠ 1 → t ≠ 2 → M' (g.1 t i j) = some E := fun h1 h2 => hfr _ _ (fun zz => by
      rcases zz with zz | ⟨zc, zz⟩
      · exact h1 (h.2.1 _ _ _ _ _ _ hd oRl zz).1
      · exact h2 (h.2.1 _ _ _ _ _ _ hd (show RD σ g C 2 0 0 from ⟨rfl, rfl, zc⟩) zz).1) hE
    by_cases h1 : t = 1
    · subst h1
      have hd1 : i = 0 ∧ j = 0 := ⟨hd.2.1, hd.2.2⟩
      obtain ⟨rfl, rfl⟩ := hd1
      obtain ⟨md, hm⟩ := hL.1
      refine ⟨_, hm, md, ?_⟩
      rw [show qRe (gR g (nR σ) e' q cap') = e' from a2, sR]
    · by_cases h2 : t = 2
      · subst h2
        have hd1 : i = 0 ∧ j = 0 := ⟨hd.1, hd.2.1⟩
        obtain ⟨rfl, rfl⟩ := hd1
        rcases he with he | he
        · refine ⟨_, by rw [show g.1 2 0 0 = e' from he.1.symm]; exact hL.2.2.1 hcap, f', by rw [show gcp (gR g (nR σ) e' q cap') 2 0 = cap' from gR_c], fun r hr => ?_⟩
          rw [sR] at hr
          by_cases hr9 : r = nR σ
          · subst hr9; rw [hfq]; exact congrArg some a5.symm
          · rw [hf r (by omega)]; exact congrArg some (a0 5 r 0 (by decide) (by simp [hr9])).symm
        · exact absurd (Or.inr ⟨rfl, rfl, rfl, he.1⟩) hn
      · refine ⟨E, keep h1 h2, ?_⟩
        unfold EX at hX ⊢
        split at hX <;> (try dsimp only)
        · have e9 : NF (gR g (nR σ) e' q cap') σ' z ca = NF g σ z ca := by
            unfold NF; rw [s1 20 (by decide), s1 14 (by decide), s1 11 (by decide), s1 12 (by decide), s1 15 (by decide)]; rfl
          rw [e9]; exact hX
        · exact absurd rfl h1
        · exact absurd rfl h2
        · rw [n5]; exact hX
        · rw [n5]; exact hX
        · have hr : i < nR σ := hd.1
          rw [(sk i hr).1, (sk i hr).2]
          obtain ⟨x, b1, b2, b3⟩ := hX
          exact ⟨x, b1, b2, fun k hk => hce (by rw [s4 i k hr hk]; exact b3 k hk)⟩
        · rw [s2 6 (by decide) (by decide), s2 7 (by decide) (by decide)]; exact hX
        · unfold iln; rw [s2 9 (by decide) (by decide), s2 10 (by decide) (by decide)]; exact hX
        · exact hX
        · rw [s2 16 (by decide) (by decide)]; exact hX
        · unfold psz; rw [s2 16 (by decide) (by decide)]; exact hX
        · unfold AF aw at hX ⊢; rw [s2 17 (by decide) (by decide)]; exact hX
        · exact hX
        · exact hX
        · rw [s3 32 (by decide) (by decide)]; exact hX
        · have e9 : CF (gR g (nR σ) e' q cap') σ' i = CF g σ i := by
            unfold CF; rw [s2 21 (by decide) (by decide), s2 22 (by decide) (by decide), s2 23 (by decide) (by decide), s2 24 (by decide) (by decide), s2 25 (by decide) (by decide)]; rfl
          rw [e9]; exact hX
        · exact hX
        · exact hX
        · exact hX
        · obtain ⟨x, b1, b2, e, b3, b4, b5⟩ := hX
          have w0 : ∀ c i, wh (gR g (nR σ) e' q cap') c i = wh g c i := fun _ _ => rfl
          have hw := ((h.2.2.2 i hd.1).1 j hd.2).1
          rw [w0, (sk _ hw).1, (sk _ hw).2, hkr]
          exact ⟨x, b1, b2, e, fun k hk => hce (b3 k hk), fun hw k hk => by unfold sn; rw [s3 26 (by decide) (by decide)]; exact b4 hw k hk, b5.to (by omega) (fun u _ => by rw [s2 6 (by decide) (by decide)])⟩
        · exact hX
  · rcases hn with ⟨rfl, rfl, rfl⟩ | ⟨rfl, rfl, rfl, hn⟩
    · rw [a5]
      refine ⟨_, hx, x, rfl, hx1, fun k hk => hce (hx2 k hk)⟩
    · rw [a2]
      refine ⟨_, hL.2.2.1 hcap, f', by rw [show gcp (gR g (nR σ) e' q cap') 2 0 = cap' from gR_c], fun r hr => ?_⟩
      rw [sR] at hr
      by_cases hr9 : r = nR σ
      · subst hr9; rw [hfq]; exact congrArg some a5.symm
      · rw [hf r (by omega)]; exact congrArg some (a0 5 r 0 (by decide) (by simp [hr9])).symm
  · obtain ⟨b1, b2, b3⟩ := h.2.2.1
    refine ⟨?_, ?_, b3⟩
    · rw [sR, show gcp (gR g (nR σ) e' q cap') 2 0 = cap' from gR_c]
      exact ⟨hL.2.2.2.1, hL.2.2.2.2, fun z => absurd z hcap⟩
    · rw [n5]; exact b2
  · intro c hc
    obtain ⟨b1, b2, b3, b4, b5⟩ := h.2.2.2 c hc
    rw [sR, hkr]
    refine ⟨fun i hi => ⟨Nat.lt_succ_of_lt (b1 i hi).1, fun d hd hd' => by rw [hkr]; exact (b1 i hi).2 d hd hd'⟩, b2, Nat.le_succ_of_le b3, fun d hd hd' => by rw [hkr]; exact b4 d hd hd', fun r hr hnn hy k hk => ?_⟩
    have hr' : r < nR σ := Nat.lt_of_lt_of_le hr b3
    rw [(sk r hr').2] at hk
    rw [s4 r k hr' hk]
    unfold sn
    rw [s3 26 (by decide) (by decide)]
    exact b5 r hr hnn hy k hk
/-- a row is kept by the innermost call: its clone lies at q -/
def gK (g : RG) (c r e' q cap' : Nat) : RG := (ru (ru g.1 17 c 0 e') 19 c (g.2.2.1 c) q, rc g.2.1 17 c cap', va_up g.2.2.1 c (g.2.2.1 c + 1), rc g.2.2.2 c (g.2.2.1 c) r)
theorem gK_19 {g : RG} {c r e' q cap' : Nat} : (gK g c r e' q cap').1 19 c (kn g c) = q := by simp [gK, ru]
theorem gK_17 {g : RG} {c r e' q cap' : Nat} : (gK g c r e' q cap').1 17 c 0 = e' := by simp [gK, ru]
theorem gK_c {g : RG} {c r e' q cap' : Nat} : (gK g c r e' q cap').2.1 17 c = cap' := by simp [gK, rc]
theorem gK_cn {g : RG} {c r e' q cap' t i : Nat} (h : ¬ (t = 17 ∧ i = c)) : (gK g c r e' q cap').2.1 t i = g.2.1 t i := by
  simp only [gK, rc]
  split
  · rename_i h1; rw [if_neg (fun z => h ⟨h1, z⟩)]
  · rfl
theorem gK_k {g : RG} {c r e' q cap' : Nat} : kn (gK g c r e' q cap') c = kn g c + 1 := by simp [gK, kn, va_up]
theorem gK_kn {g : RG} {c r e' q cap' d : Nat} (h : d ≠ c) : kn (gK g c r e' q cap') d = kn g d := by simp [gK, kn, va_up, h]
theorem gK_w {g : RG} {c r e' q cap' : Nat} : wh (gK g c r e' q cap') c (kn g c) = r := by simp [gK, wh, kn, rc]
theorem gK_wn {g : RG} {c r e' q cap' d i : Nat} (h : ¬ (d = c ∧ i = kn g c)) : wh (gK g c r e' q cap') d i = wh g d i := by
  simp only [gK, wh, rc]
  split
  · rename_i h1; rw [if_neg (fun z => h ⟨h1, z⟩)]
  · rfl
theorem gK_o {g : RG} {c r e' q cap' t i j : Nat} (h2 : ¬ (t = 17 ∧ i = c ∧ j = 0)) (h5 : ¬ (t = 19 ∧ i = c ∧ j = kn g c)) : (gK g c r e' q cap').1 t i j = g.1 t i j := (ru_n h5).trans (ru_n h2)
theorem RELY.keep {G : hp_G} {E0 : Nat} {g : RG} {σ : MS} {z : Nat → Int32} {ca : Int32} {C : Nat} {Y : Nat → Prop} {M M' : hp_h} (h : RELY G E0 g σ z ca C Y M) {c r q e' cap' : Nat} {f f' : Nat → Option Nat} {x : vp_A} {fw : Nat → Int32} {e : Nat → Int64} (hc : c + 1 = C) (hr : r < nR σ) (hnew : ∀ i, i < kn g c → wh g c i ≠ r)
    (hq : ∀ t i j, RD σ g C t i j → g.1 t i j ≠ q) (hL : LSt G E0 M' (qKl g c) e' cap' (kn g c + 1) f') (hf : ∀ i, i < kn g c → f' i = some (qK g c i)) (hfq : f' (kn g c) = some q) (he : (e' = qKe g c ∧ gcp g 17 c ≠ 0) ∨ ((∀ t i j, RD σ g C t i j → g.1 t i j ≠ e') ∧ e' ≠ q))
    (hW : M' (qW g c) = some (.inl (G.2 4, 60, .inl fw))) (hfw : ∀ i, i < kn g c → fw i = nI (wh g c i)) (hfw' : fw (kn g c) = nI r)
    (hx : M' q = some (.inl (G.2 (kd σ r), x))) (hx1 : XT (kd σ r) (ln σ r) x) (hx2 : ∀ k, k < ln σ r → CE (nU σ) (nJ σ) (fun u => qU g u) (fun y => qJ g y) (kd σ r) x k (e k)) (hx3 : r < kr σ c → ∀ k, k < ln σ r → e k = sn σ c r k) (hx4 : CQ (nU σ) (σ.2.1 6) (kd σ r) (ln σ r) e)
    (hfr : hp_fr (fun b => b = qKl g c ∨ (gcp g 17 c ≠ 0 ∧ b = qKe g c) ∨ b = qW g c) M M') : RELY G E0 (gK g c r e' q cap') σ z ca C (fun r' => Y r' ∧ r' ≠ r) M' := by
  have hcap : cap' ≠ 0 := by have := hL.2.2.2.1; omega
  have hcC : c < C := by omega
  have oL : RD σ g C 16 c 0 := ⟨hcC, rfl⟩
  have oW : RD σ g C 18 c 0 := ⟨hcC, rfl⟩
  have aA : ∀ t i j, t ≠ 17 → t ≠ 19 → (gK g c r e' q cap').1 t i j = g.1 t i j := fun t i j h1 h2 => gK_o (fun z => h1 z.1) (fun z => h2 z.1)
  have eU : (fun u => qU (gK g c r e' q cap') u) = fun u => qU g u := funext fun u => aA 6 u 0 (by decide) (by decide)
  have eJ : (fun u => qJ (gK g c r e' q cap') u) = fun u => qJ g u := funext fun u => aA 7 u 0 (by decide) (by decide)
  have h17 : ∀ i, i < C → i ≠ c → RD σ g C 17 i 0 → RD σ g C 17 i 0 := fun _ _ _ h => h
  refine h.ext (fun t i j => (t = 19 ∧ i = c ∧ j = kn g c) ∨ (t = 17 ∧ i = c ∧ j = 0 ∧ ¬ (e' = qKe g c ∧ gcp g 17 c ≠ 0))) (fun t i j hd => ?_) (fun t i j hn => ?_) (fun t i j t' i' j' hn hn' e => ?_) (fun t i j E hd hd' hn hE hX => ?_) (fun t i j hd hn => ?_) ?_ ?_
  · by_cases hn : (t = 19 ∧ i = c ∧ j = kn g c) ∨ (t = 17 ∧ i = c ∧ j = 0 ∧ ¬ (e' = qKe g c ∧ gcp g 17 c ≠ 0))
    · exact Or.inr hn
    · refine Or.inl ⟨?_, ?_, hn⟩
      · unfold RD at hd ⊢
        split at hd <;> first | exact hd | skip
        · refine ⟨hd.1, hd.2.1, ?_⟩
          by_cases hi : i = c
          · subst hi
            exact Classical.byContradiction fun z => hn (Or.inr ⟨rfl, rfl, hd.2.1, fun y => z y.2⟩)
          · have := hd.2.2; unfold gcp at this; rw [gK_cn (t := 17) (i := i) (by simp [hi])] at this; exact this
        · refine ⟨hd.1, ?_⟩
          by_cases hi : i = c
          · subst hi
            have h2 := hd.2
            rw [gK_k] at h2
            have : j ≠ kn g i := fun z => hn (Or.inl ⟨rfl, rfl, z⟩)
            omega
          · have h2 := hd.2; rw [gK_kn hi] at h2; exact h2
      · by_cases ht : t = 17 ∧ i = c ∧ j = 0
        · obtain ⟨rfl, rfl, rfl⟩ := ht
          rw [gK_17]
          exact (Classical.byContradiction fun z => hn (Or.inr ⟨rfl, rfl, rfl, z⟩) : e' = qKe g i ∧ gcp g 17 i ≠ 0).1
        · exact gK_o ht (fun z => hn (Or.inl z))
  · rcases hn with ⟨rfl, rfl, rfl⟩ | ⟨rfl, rfl, rfl, hn⟩
    · rw [gK_19]; exact hq
    · rw [gK_17]; exact (he.resolve_left hn).1
  · rcases hn with ⟨rfl, rfl, rfl⟩ | ⟨rfl, rfl, rfl, hn⟩ <;> rcases hn' with ⟨rfl, rfl, rfl⟩ | ⟨rfl, rfl, rfl, hn'⟩
    · exact ⟨rfl, rfl, rfl⟩
    · rw [gK_19, gK_17] at e; exact absurd e.symm (he.resolve_left hn').2
    · rw [gK_19, gK_17] at e; exact absurd e (he.resolve_left hn).2
    · exact ⟨rfl, rfl, rfl⟩
  · have keep : ¬ (t = 16 ∧ i = c ∧ j = 0) → ¬ (t = 17 ∧ i = c ∧ j = 0) → ¬ (t = 18 ∧ i = c ∧ j = 0) → M' (g.1 t i j) = some E := fun h1 h2 h3 => hfr _ _ (fun zz => by
      rcases zz with zz | ⟨zc, zz⟩ | zz
      · exact h1 (h.2.1 _ _ _ _ _ _ hd oL zz)
      · exact h2 (h.2.1 _ _ _ _ _ _ hd (show RD σ g C 17 c 0 from ⟨hcC, rfl, zc⟩) zz)
      · exact h3 (h.2.1 _ _ _ _ _ _ hd oW zz)) hE
    have same17 : ∀ i, i ≠ c → qKe (gK g c r e' q cap') i = qKe g i := fun i hi => gK_o (by simp [hi]) (by simp)
    by_cases h16 : t = 16 ∧ i = c ∧ j = 0
    · obtain ⟨rfl, rfl, rfl⟩ := h16
      obtain ⟨md, hm⟩ := hL.1
      refine ⟨_, hm, md, ?_⟩
      rw [show qKe (gK g i r e' q cap') i = e' from gK_17, gK_k]
    · by_cases h17 : t = 17 ∧ i = c ∧ j = 0
      · obtain ⟨rfl, rfl, rfl⟩ := h17
        have he' : e' = qKe g i ∧ gcp g 17 i ≠ 0 := Classical.byContradiction fun z => hn (Or.inr ⟨rfl, rfl, rfl, z⟩)
        refine ⟨_, by rw [show g.1 17 i 0 = e' from he'.1.symm]; exact hL.2.2.1 hcap, f', by rw [show gcp (gK g i r e' q cap') 17 i = cap' from gK_c], fun k hk => ?_⟩
        rw [gK_k] at hk
        by_cases hk9 : k = kn g i
        · subst hk9; rw [hfq]; exact congrArg some gK_19.symm
        · rw [hf k (by omega)]; exact congrArg some (gK_o (by simp) (by simp [hk9])).symm
      · by_cases h18 : t = 18 ∧ i = c ∧ j = 0
        · obtain ⟨rfl, rfl, rfl⟩ := h18
          refine ⟨_, hW, fw, rfl, fun k hk => ?_⟩
          rw [gK_k] at hk
          by_cases hk9 : k = kn g i
          · subst hk9; rw [hfw', gK_w]
          · rw [hfw k (by omega), gK_wn (d := i) (i := k) (by simp [hk9])]
        · refine ⟨E, keep h16 h17 h18, ?_⟩
          unfold EX at hX ⊢
          split at hX <;> (try dsimp only)
          · have e9 : NF (gK g c r e' q cap') σ z ca = NF g σ z ca := by
              unfold NF qRl qUl qPl qHs qAn; rw [aA 1 0 0 (by decide) (by decide), aA 3 0 0 (by decide) (by decide), aA 8 0 0 (by decide) (by decide), aA 12 0 0 (by decide) (by decide), aA 14 0 0 (by decide) (by decide)]
            rw [e9]; exact hX
          · rw [show qRe (gK g c r e' q cap') = qRe g from aA 2 0 0 (by decide) (by decide)]; exact hX
          · rw [show gcp (gK g c r e' q cap') 2 0 = gcp g 2 0 from gK_cn (by simp)]
            obtain ⟨f, b1, b2⟩ := hX
            exact ⟨f, b1, fun k hk => by rw [b2 k hk]; exact congrArg some (aA 5 k 0 (by decide) (by decide)).symm⟩
          · rw [show qUe (gK g c r e' q cap') = qUe g from aA 4 0 0 (by decide) (by decide)]; exact hX
          · rw [show gcp (gK g c r e' q cap') 4 0 = gcp g 4 0 from gK_cn (by simp)]
            obtain ⟨f, b1, b2⟩ := hX
            exact ⟨f, b1, fun k hk => by rw [b2 k hk]; exact congrArg some (aA 6 k 0 (by decide) (by decide)).symm⟩
          · rw [eU, eJ]; exact hX
          · exact hX
          · exact hX
          · obtain ⟨f, b1, b2⟩ := hX
            exact ⟨f, b1, fun k hk => by rw [b2 k hk]; exact congrArg some (aA 9 k 0 (by decide) (by decide)).symm⟩
          · rw [show qPa (gK g c r e' q cap') i = qPa g i from aA 10 i 0 (by decide) (by decide)]; exact hX
          · obtain ⟨f, b1, b2⟩ := hX
            exact ⟨f, b1, fun k hk => by rw [b2 k hk]; exact congrArg some (aA 11 i k (by decide) (by decide)).symm⟩
          · exact hX
          · obtain ⟨f, b1, b2⟩ := hX
            exact ⟨f, b1, fun k hk => by rw [b2 k hk]; exact congrArg some (aA 13 k 0 (by decide) (by decide)).symm⟩
          · rw [show qN (gK g c r e' q cap') = qN g from aA 0 0 0 (by decide) (by decide)]; exact hX
          · exact hX
          · have e9 : CF (gK g c r e' q cap') σ i = CF g σ i := by
              unfold CF qKl qW qN; rw [aA 16 i 0 (by decide) (by decide), aA 18 i 0 (by decide) (by decide), aA 0 0 0 (by decide) (by decide)]
            rw [e9]; exact hX
          · have hi : i ≠ c := fun y => h16 ⟨rfl, y, hd.2⟩
            rw [same17 i hi, gK_kn hi]; exact hX
          · have hi : i ≠ c := fun y => h17 ⟨rfl, y, hd.2.1⟩
            rw [show gcp (gK g c r e' q cap') 17 i = gcp g 17 i from gK_cn (by simp [hi]), gK_kn hi]
            obtain ⟨f, b1, b2⟩ := hX
            exact ⟨f, b1, fun k hk => by rw [b2 k hk]; exact congrArg some (gK_o (by simp) (by simp [hi])).symm⟩
          · have hi : i ≠ c := fun y => h18 ⟨rfl, y, hd.2⟩
            rw [gK_kn hi]
            obtain ⟨f, b1, b2⟩ := hX
            exact ⟨f, b1, fun k hk => by rw [b2 k hk, gK_wn (d := i) (i := k) (by simp [hi])]⟩
          · rw [gK_wn (fun y => hn (Or.inl ⟨rfl, y⟩)), eU, eJ]; exact hX
          · exact hX
  · rcases hn with ⟨rfl, rfl, rfl⟩ | ⟨rfl, rfl, rfl, hn⟩
    · rw [gK_19]
      refine ⟨_, hx, ?_⟩
      show ∃ x, _
      rw [gK_w, eU, eJ]
      exact ⟨x, rfl, hx1, e, hx2, hx3, hx4⟩
    · rw [gK_17]
      refine ⟨_, hL.2.2.1 hcap, f', by rw [show gcp (gK g i r e' q cap') 17 i = cap' from gK_c], fun k hk => ?_⟩
      rw [gK_k] at hk
      by_cases hk9 : k = kn g i
      · subst hk9; rw [hfq]; exact congrArg some gK_19.symm
      · rw [hf k (by omega)]; exact congrArg some (gK_o (by simp) (by simp [hk9])).symm
  · obtain ⟨b1, b2, b3⟩ := h.2.2.1
    refine ⟨?_, ?_, fun d hd => ?_⟩
    · rw [show gcp (gK g c r e' q cap') 2 0 = gcp g 2 0 from gK_cn (by simp), show qRe (gK g c r e' q cap') = qRe g from aA 2 0 0 (by decide) (by decide)]; exact b1
    · rw [show gcp (gK g c r e' q cap') 4 0 = gcp g 4 0 from gK_cn (by simp), show qUe (gK g c r e' q cap') = qUe g from aA 4 0 0 (by decide) (by decide)]; exact b2
    · by_cases hdc : d = c
      · subst hdc
        rw [show gcp (gK g d r e' q cap') 17 d = cap' from gK_c, gK_k]
        exact ⟨hL.2.2.2.1, hL.2.2.2.2, fun z => absurd z hcap⟩
      · rw [show gcp (gK g c r e' q cap') 17 d = gcp g 17 d from gK_cn (by simp [hdc]), gK_kn hdc, show qKe (gK g c r e' q cap') d = qKe g d from gK_o (by simp [hdc]) (by simp)]
        exact b3 d hd
  · intro d hd
    obtain ⟨b1, b2, b3, b4, b5⟩ := h.2.2.2 d hd
    by_cases hdc : d = c
    · subst hdc
      refine ⟨fun i hi => ?_, fun i j hi hj hij => ?_, b3, b4, fun r' hr' hnn hy k hk => ?_⟩
      · rw [gK_k] at hi
        by_cases hi9 : i = kn g d
        · subst hi9; rw [gK_w]; exact ⟨hr, fun d' h1 h2 => by omega⟩
        · rw [gK_wn (d := d) (i := i) (by simp [hi9])]; exact b1 i (by omega)
      · rw [gK_k] at hi hj
        by_cases hi9 : i = kn g d
        · by_cases hj9 : j = kn g d
          · omega
          · rw [hi9, gK_w, gK_wn (d := d) (i := j) (by simp [hj9])] at hij
            exact absurd hij.symm (hnew j (by omega))
        · by_cases hj9 : j = kn g d
          · rw [hj9, gK_w, gK_wn (d := d) (i := i) (by simp [hi9])] at hij
            exact absurd hij (hnew i (by omega))
          · rw [gK_wn (d := d) (i := i) (by simp [hi9]), gK_wn (d := d) (i := j) (by simp [hj9])] at hij
            exact b2 i j (by omega) (by omega) hij
      · have hne : r' ≠ r := fun z => hnn (kn g d) (by rw [gK_k]; omega) (by rw [gK_w]; exact z.symm)
        refine b5 r' hr' (fun i hi => ?_) (fun z => hy ⟨z.1, z.2, hne⟩) k hk
        have := hnn i (by rw [gK_k]; omega)
        rw [gK_wn (d := d) (i := i) (by simp [Nat.ne_of_lt hi])] at this
        exact this
    · refine ⟨fun i hi => ?_, fun i j hi hj hij => ?_, b3, b4, fun r' hr' hnn hy k hk => ?_⟩
      · rw [gK_kn hdc] at hi
        rw [gK_wn (d := d) (i := i) (by simp [hdc])]
        exact b1 i hi
      · rw [gK_kn hdc] at hi hj
        rw [gK_wn (d := d) (i := i) (by simp [hdc]), gK_wn (d := d) (i := j) (by simp [hdc])] at hij
        exact b2 i j hi hj hij
      · refine b5 r' hr' (fun i hi => ?_) (fun z => by omega) k hk
        have := hnn i (by rw [gK_kn hdc]; exact hi)
        rw [gK_wn (d := d) (i := i) (by simp [hdc])] at this
        exact this
/-- the innermost call is not looked at any more -/
theorem RELY.leave {G : hp_G} {E0 : Nat} {g : RG} {σ : MS} {z : Nat → Int32} {ca : Int32} {C : Nat} {Y Y' : Nat → Prop} {M : hp_h} (h : RELY G E0 g σ z ca (C + 1) Y M) (hk : ∀ c, c + 1 = C → ∀ r, r < kr σ c → (∀ i, i < kn g c → wh g c i ≠ r) → ¬ Y' r → ∀ k, k < ln σ r → sn σ c r k = el σ r k) : RELY G E0 g σ z ca C Y' M := by
  have hD : ∀ t i j, RD σ g C t i j → RD σ g (C + 1) t i j := by
    intro t i j hd
    unfold RD at hd ⊢
    split at hd <;> first | exact hd | exact ⟨Nat.lt_succ_of_lt hd.1, hd.2⟩
  refine ⟨fun t i j hd => h.1 t i j (hD t i j hd), fun t i j t' i' j' a b e => h.2.1 t i j t' i' j' (hD _ _ _ a) (hD _ _ _ b) e, ?_, fun c hc => ?_⟩
  · obtain ⟨b1, b2, b3⟩ := h.2.2.1
    exact ⟨b1, b2, fun c hc => b3 c (Nat.lt_succ_of_lt hc)⟩
  · obtain ⟨b1, b2, b3, b4, b5⟩ := h.2.2.2 c (Nat.lt_succ_of_lt hc)
    refine ⟨fun i hi => ⟨(b1 i hi).1, fun d hd hd' => (b1 i hi).2 d hd (Nat.lt_succ_of_lt hd')⟩, b2, b3, fun d hd hd' => b4 d hd (Nat.lt_succ_of_lt hd'), fun r hr hnn hy k hk' => ?_⟩
    by_cases hC : c + 1 < C
    · rw [if_pos hC]
      have := b5 r hr hnn (fun z => by omega) k hk'
      rw [if_pos (by omega)] at this
      exact this
    · rw [if_neg hC]
      exact hk c (by omega) r hr hnn (fun z => hy ⟨by omega, z⟩) k hk'
/-- the last row goes -/
theorem RELY.dropRow {G : hp_G} {E0 : Nat} {g : RG} {σ : MS} {z : Nat → Int32} {ca : Int32} {C : Nat} {Y : Nat → Prop} {M M' : hp_h} (h : RELY G E0 g σ z ca C Y M) {n : Nat} {f f' : Nat → Option Nat} (hn : nR σ = n + 1) (hn60 : n ≤ 60) (hL : LSt G E0 M' (qRl g) (qRe g) (gcp g 2 0) n f') (hf : ∀ r, r < n → f' r = some (qR g r))
    (hfr : hp_fr (fun b => b = qRl g ∨ b = qRe g) M M') (hkr : ∀ c, c < C → kr σ c ≤ n ∧ ∀ i, i < kn g c → wh g c i < n) : RELY G E0 g (sz σ 1 (nI n)) z ca C Y M' := by
  have nn : nR (sz σ 1 (nI n)) = n := by
    show (nI n).toNatClampNeg = n
    rw [nI_clamp (by omega)]
  have hcap : gcp g 2 0 ≠ 0 := by have := h.2.2.1.1.1; omega
  have hD : ∀ t i j, RD (sz σ 1 (nI n)) g C t i j → RD σ g C t i j := by
    intro t i j hd
    unfold RD at hd ⊢
    rw [nn] at hd
    split at hd <;> first | exact hd | exact ⟨by omega, hd.2⟩
  refine ⟨fun t i j hd => ?_, fun t i j t' i' j' a b e => h.2.1 t i j t' i' j' (hD _ _ _ a) (hD _ _ _ b) e, ?_, fun c hc => ?_⟩
  · obtain ⟨E, b1, b2⟩ := h.1 t i j (hD _ _ _ hd)
    by_cases h1 : t = 1 ∧ i = 0 ∧ j = 0
    · obtain ⟨rfl, rfl, rfl⟩ := h1
      obtain ⟨md, hm⟩ := hL.1
      exact ⟨_, hm, md, by rw [nn]⟩
    · by_cases h2 : t = 2 ∧ i = 0 ∧ j = 0
      · obtain ⟨rfl, rfl, rfl⟩ := h2
        exact ⟨_, hL.2.2.1 hcap, f', rfl, fun r hr => hf r (by rw [nn] at hr; exact hr)⟩
      · refine ⟨E, hfr _ _ (fun zz => ?_) b1, ?_⟩
        · rcases zz with zz | zz
          · exact h1 (h.2.1 _ _ _ _ _ _ (hD _ _ _ hd) (show RD σ g C 1 0 0 from ⟨by decide, rfl, rfl⟩) zz)
          · exact h2 (h.2.1 _ _ _ _ _ _ (hD _ _ _ hd) (show RD σ g C 2 0 0 from ⟨rfl, rfl, hcap⟩) zz)
        · unfold EX at b2 ⊢
          split at b2 <;> (try dsimp only) <;> first | exact b2 | exact absurd ⟨rfl, hd.2⟩ h1 | exact absurd ⟨rfl, hd.1, hd.2.1⟩ h2
  · obtain ⟨b1, b2, b3⟩ := h.2.2.1
    refine ⟨?_, b2, b3⟩
    rw [nn]
    exact ⟨hL.2.2.2.1, b1.2.1, b1.2.2⟩
  · obtain ⟨b1, b2, b3, b4, b5⟩ := h.2.2.2 c hc
    rw [nn]
    exact ⟨fun i hi => ⟨(hkr c hc).2 i hi, (b1 i hi).2⟩, b2, (hkr c hc).1, b4, b5⟩
/-- an answer -/
theorem RELY.ans {G : hp_G} {E0 : Nat} {g : RG} {σ : MS} {z : Nat → Int32} {ca : Int32} {C : Nat} {Y : Nat → Prop} {M : hp_h} (h : RELY G E0 g σ z ca C Y M) {f f' : Nat → Int64} (hf : ∀ k, k < 12 → f' k = f k) : RELY G E0 g (sl σ 32 f) z ca C Y (hp_up M (qAn g) (.inl (G.2 5, 12, .inr (.inl f')))) := by
  refine h.set 14 0 0 ⟨by decide, rfl, rfl⟩ (fun t i j => Iff.rfl) ⟨f', rfl, hf⟩ (fun t i j E hd hn hE => ?_) h.2.2.1 h.2.2.2
  unfold EX at hE ⊢
  split at hE <;> first | exact hE | exact absurd ⟨rfl, hd.2⟩ hn
/-- an int of a row of ints -/
theorem RELY.innerSet {G : hp_G} {E0 : Nat} {g : RG} {σ : MS} {z : Nat → Int32} {ca : Int32} {C : Nat} {Y : Nat → Prop} {M : hp_h} (h : RELY G E0 g σ z ca C Y M) {j0 : Nat} (hj : j0 < nJ σ) {f f' : Nat → Int32} (hf : ∀ k, k < iln σ j0 → f' k = f (40 * j0 + k)) (ho : ∀ j k, j < nJ σ → j ≠ j0 → k < iln σ j → f (40 * j + k) = σ.2.1 10 (40 * j + k)) : RELY G E0 g (si σ 10 f) z ca C Y (hp_up M (qJ g j0) (.inl (G.2 4, iln σ j0, .inl f'))) := by
  refine h.set 7 j0 0 ⟨hj, rfl⟩ (fun t i j => Iff.rfl) ⟨f', rfl, hf⟩ (fun t i j E hd hn hE => ?_) h.2.2.1 h.2.2.2
  unfold EX at hE ⊢
  split at hE <;> first | exact hE | skip
  obtain ⟨f9, b1, b2⟩ := hE
  refine ⟨f9, b1, fun k hk => ?_⟩
  rw [b2 k hk]
  exact (ho i k hd.1 (fun y => hn ⟨rfl, y, hd.2⟩) hk).symm
/-- a plan loses its acts -/
theorem RELY.drop {G : hp_G} {E0 : Nat} {g : RG} {σ : MS} {z : Nat → Int32} {ca : Int32} {C : Nat} {Y : Nat → Prop} {M : hp_h} (h : RELY G E0 g σ z ca C Y M) {p : Nat} (hp : p < 6) : RELY G E0 g (si σ 16 (va_up (σ.2.1 16) p 0)) z ca C Y (hp_up M (qP g p) (.inr (2, [.ref (qPa g p), .int 0]))) := by
  have e0 : ∀ i, (si σ 16 (va_up (σ.2.1 16) p 0)).2.1 16 i = if i = p then 0 else σ.2.1 16 i := fun i => rfl
  have hps : ∀ i, psz (si σ 16 (va_up (σ.2.1 16) p 0)) i = if i = p then 0 else psz σ i := fun i => by
    unfold psz; rw [e0]; split <;> rfl
  have hD : ∀ t i j, RD (si σ 16 (va_up (σ.2.1 16) p 0)) g C t i j → RD σ g C t i j := by
    intro t i j hd
    unfold RD at hd ⊢
    split at hd <;> first | exact hd | skip
    have h2 := hd.2
    rw [hps] at h2
    split at h2
    · omega
    · exact ⟨hd.1, h2⟩
  refine ⟨fun t i j hd => ?_, fun t i j t' i' j' a b e => h.2.1 t i j t' i' j' (hD _ _ _ a) (hD _ _ _ b) e, h.2.2.1, h.2.2.2⟩
  by_cases e : t = 9 ∧ i = p ∧ j = 0
  · obtain ⟨rfl, rfl, rfl⟩ := e
    refine ⟨_, hp_up_s, ?_⟩
    show _ = _
    rw [e0, if_pos rfl]
  · obtain ⟨E, b1, b2⟩ := h.1 t i j (hD _ _ _ hd)
    refine ⟨E, ?_, ?_⟩
    · rw [hp_up_n]
      · exact b1
      · exact fun y => e (h.2.1 t i j 9 p 0 (hD _ _ _ hd) ⟨hp, rfl⟩ y)
    · unfold EX at b2 ⊢
      split at b2 <;> first | exact b2 | skip
      · have hi : i ≠ p := fun y => e ⟨rfl, y, hd.2⟩
        show _ = _
        rw [e0, if_neg hi]
        exact b2
      · obtain ⟨f, c1, c2⟩ := b2
        refine ⟨f, c1, fun k hk => c2 k ?_⟩
        rw [hps] at hk
        split at hk
        · omega
        · exact hk
/-- a unit is added -/
def gU (g : RG) (U e' q cap' : Nat) : RG := (ru (ru g.1 4 0 0 e') 6 U 0 q, rc g.2.1 4 0 cap', g.2.2)
theorem gU_6 {g : RG} {R e' q cap' : Nat} : (gU g R e' q cap').1 6 R 0 = q := by simp [gU, ru]
theorem gU_4 {g : RG} {R e' q cap' : Nat} : (gU g R e' q cap').1 4 0 0 = e' := by simp [gU, ru]
theorem gU_c {g : RG} {R e' q cap' : Nat} : (gU g R e' q cap').2.1 4 0 = cap' := by simp [gU, rc]
theorem gU_o {g : RG} {R e' q cap' t i j : Nat} (h2 : t ≠ 4) (h5 : ¬ (t = 6 ∧ i = R ∧ j = 0)) : (gU g R e' q cap').1 t i j = g.1 t i j := (ru_n h5).trans (ru_t h2)
theorem RELY.addUnit {G : hp_G} {E0 : Nat} {g : RG} {σ σ' : MS} {z : Nat → Int32} {ca : Int32} {C : Nat} {Y : Nat → Prop} {M M' : hp_h} (h : RELY G E0 g σ z ca C Y M) {q e' cap' : Nat} {f' : Nat → Option Nat}
    (s1 : ∀ k, k ≠ 5 → σ'.1 k = σ.1 k) (sU : nU σ' = nU σ + 1) (s2 : ∀ k, k ≠ 6 → k ≠ 7 → σ'.2.1 k = σ.2.1 k) (sk : ∀ u, u < nU σ → σ'.2.1 6 u = σ.2.1 6 u ∧ σ'.2.1 7 u = σ.2.1 7 u) (s3 : σ'.2.2.1 = σ.2.2.1)
    (hq : M q = none) (hL : LSt G E0 M' (qUl g) e' cap' (nU σ + 1) f') (hf : ∀ r, r < nU σ → f' r = some (qU g r)) (hfq : f' (nU σ) = some q) (he : (e' = qUe g ∧ gcp g 4 0 ≠ 0) ∨ (M e' = none ∧ e' ≠ q))
    (hx : M' q = some (.inr (5 + (σ'.2.1 6 (nU σ)).toNatClampNeg, [.int (nI (nU σ)), .int (σ'.2.1 7 (nU σ))])))
    (hfr : hp_fr (fun b => b = qUl g ∨ (gcp g 4 0 ≠ 0 ∧ b = qUe g)) M M') : RELY G E0 (gU g (nU σ) e' q cap') σ' z ca C Y M' := by
  have n1 : nR σ' = nR σ := by unfold nR; rw [s1 1 (by decide)]
  have n8 : nJ σ' = nJ σ := by unfold nJ; rw [s1 8 (by decide)]
  have hcap : cap' ≠ 0 := by have := hL.2.2.2.1; omega
  have hkr : ∀ c, kr σ' c = kr σ c := fun c => by unfold kr; rw [s2 25 (by decide) (by decide)]
  have hkd : ∀ r, kd σ' r = kd σ r := fun r => by unfold kd; rw [s2 2 (by decide) (by decide)]
  have hln : ∀ r, ln σ' r = ln σ r := fun r => by unfold ln; rw [s2 3 (by decide) (by decide)]
  have a0 : ∀ t i j, t ≠ 4 → ¬ (t = 6 ∧ i = nU σ ∧ j = 0) → (gU g (nU σ) e' q cap').1 t i j = g.1 t i j := fun t i j h1 h2 => gU_o h1 h2
  have a5 : (gU g (nU σ) e' q cap').1 6 (nU σ) 0 = q := gU_6
  have a2 : (gU g (nU σ) e' q cap').1 4 0 0 = e' := gU_4
  have hce : ∀ {k x i b}, CE (nU σ) (nJ σ) (fun u => qU g u) (fun y => qJ g y) k x i b → CE (nU σ') (nJ σ') (fun u => qU (gU g (nU σ) e' q cap') u) (fun y => qJ (gU g (nU σ) e' q cap') y) k x i b := fun hc => hc.mono (by omega) (by omega) (fun u hu => a0 6 u 0 (by decide) (by simp [Nat.ne_of_lt hu])) (fun y _ => a0 7 y 0 (by decide) (by simp))
  have oRl : RD σ g C 3 0 0 := ⟨by decide, rfl, rfl⟩
  refine h.ext (fun t i j => (t = 6 ∧ i = nU σ ∧ j = 0) ∨ (t = 4 ∧ i = 0 ∧ j = 0 ∧ M e' = none)) (fun t i j hd => ?_) (fun t i j hn => ?_) (fun t i j t' i' j' hn hn' e => ?_) (fun t i j E hd hd' hn hE hX => ?_) (fun t i j hd hn => ?_) ?_ ?_
  · by_cases hn : (t = 6 ∧ i = nU σ ∧ j = 0) ∨ (t = 4 ∧ i = 0 ∧ j = 0 ∧ M e' = none)
    · exact Or.inr hn
    · refine Or.inl ⟨?_, ?_, hn⟩
      · unfold RD psz at hd ⊢
        rw [sU, n1, n8, s2 16 (by decide) (by decide)] at hd
        split at hd <;> first | exact hd | skip
        · refine ⟨hd.1, hd.2.1, ?_⟩
          rcases he with he | he
          · exact he.2
          · exact absurd (Or.inr ⟨rfl, hd.1, hd.2.1, he.1⟩) hn
        · have : i ≠ nU σ := fun z => hn (Or.inl ⟨rfl, z, hd.2⟩)
          exact ⟨by omega, hd.2⟩
      · by_cases ht : t = 4
        · subst ht
          have hd2 : i = 0 ∧ j = 0 := ⟨hd.1, hd.2.1⟩
          obtain ⟨rfl, rfl⟩ := hd2
          rw [a2]
          rcases he with he | he
          · exact he.1
          · exact absurd (Or.inr ⟨rfl, rfl, rfl, he.1⟩) hn
        · exact a0 t i j ht (fun z => hn (Or.inl z))
  · rcases hn with ⟨rfl, rfl, rfl⟩ | ⟨rfl, rfl, rfl, hn⟩
    · rw [a5]; exact h.fresh hq
    · rw [a2]; exact h.fresh hn
  · rcases hn with ⟨rfl, rfl, rfl⟩ | ⟨rfl, rfl, rfl, hn⟩ <;> rcases hn' with ⟨rfl, rfl, rfl⟩ | ⟨rfl, rfl, rfl, hn'⟩
    · exact ⟨rfl, rfl, rfl⟩
    · rw [a5, a2] at e
      rcases he with he | he
      · exact absurd (by rw [he.1] at hn'; exact hn') (h.ne0 (t := 4) (i := 0) (j := 0) ⟨rfl, rfl, he.2⟩)
      · exact absurd e.symm he.2
    · rw [a5, a2] at e
      rcases he with he | he
      · exact absurd (by rw [he.1] at hn; exact hn) (h.ne0 (t := 4) (i := 0) (j := 0) ⟨rfl, rfl, he.2⟩)
      · exact absurd e he.2
    · exact ⟨rfl, rfl, rfl⟩
  · have keep : t ≠ 3 → t ≠ 4 → M' (g.1 t i j) = some E := fun h1 h2 => hfr _ _ (fun zz => by
      rcases zz with zz | ⟨zc, zz⟩
      · exact h1 (h.2.1 _ _ _ _ _ _ hd oRl zz).1
      · exact h2 (h.2.1 _ _ _ _ _ _ hd (show RD σ g C 4 0 0 from ⟨rfl, rfl, zc⟩) zz).1) hE
    by_cases h1 : t = 3
    · subst h1
      have hd1 : i = 0 ∧ j = 0 := ⟨hd.2.1, hd.2.2⟩
      obtain ⟨rfl, rfl⟩ := hd1
      obtain ⟨md, hm⟩ := hL.1
      refine ⟨_, hm, md, ?_⟩
      rw [show qUe (gU g (nU σ) e' q cap') = e' from a2, sU]
    · by_cases h2 : t = 4
      · subst h2
        have hd1 : i = 0 ∧ j = 0 := ⟨hd.1, hd.2.1⟩
        obtain ⟨rfl, rfl⟩ := hd1
        rcases he with he | he
        · refine ⟨_, by rw [show g.1 4 0 0 = e' from he.1.symm]; exact hL.2.2.1 hcap, f', by rw [show gcp (gU g (nU σ) e' q cap') 4 0 = cap' from gU_c], fun r hr => ?_⟩
          rw [sU] at hr
          by_cases hr9 : r = nU σ
          · subst hr9; rw [hfq]; exact congrArg some a5.symm
          · rw [hf r (by omega)]; exact congrArg some (a0 6 r 0 (by decide) (by simp [hr9])).symm
        · exact absurd (Or.inr ⟨rfl, rfl, rfl, he.1⟩) hn
      · refine ⟨E, keep h1 h2, ?_⟩
        unfold EX at hX ⊢
        split at hX <;> (try dsimp only)
        · have e9 : NF (gU g (nU σ) e' q cap') σ' z ca = NF g σ z ca := by
            unfold NF; rw [s1 20 (by decide), s1 14 (by decide), s1 11 (by decide), s1 12 (by decide), s1 15 (by decide)]; rfl
          rw [e9]; exact hX
        · rw [n1]; exact hX
        · rw [n1]; exact hX
        · exact absurd rfl h1
        · exact absurd rfl h2
        · rw [hkd, hln]
          obtain ⟨x, b1, b2, b3⟩ := hX
          exact ⟨x, b1, b2, fun k hk => hce (by unfold el; rw [s3]; exact b3 k hk)⟩
        · have hi : i < nU σ := hd.1
          rw [(sk i hi).1, (sk i hi).2]; exact hX
        · unfold iln; rw [s2 9 (by decide) (by decide), s2 10 (by decide) (by decide)]; exact hX
        · exact hX
        · rw [s2 16 (by decide) (by decide)]; exact hX
        · unfold psz; rw [s2 16 (by decide) (by decide)]; exact hX
        · unfold AF aw at hX ⊢; rw [s2 17 (by decide) (by decide)]; exact hX
        · exact hX
        · exact hX
        · rw [s3]; exact hX
        · have e9 : CF (gU g (nU σ) e' q cap') σ' i = CF g σ i := by
            unfold CF; rw [s2 21 (by decide) (by decide), s2 22 (by decide) (by decide), s2 23 (by decide) (by decide), s2 24 (by decide) (by decide), s2 25 (by decide) (by decide)]; rfl
          rw [e9]; exact hX
        · exact hX
        · exact hX
        · exact hX
        · obtain ⟨x, b1, b2, e, b3, b4, b5⟩ := hX
          have w0 : ∀ c i, wh (gU g (nU σ) e' q cap') c i = wh g c i := fun _ _ => rfl
          rw [w0, hkd, hln, hkr]
          exact ⟨x, b1, b2, e, fun k hk => hce (b3 k hk), fun hw k hk => by unfold sn; rw [s3]; exact b4 hw k hk, b5.to (by omega) (fun u hu => (sk u hu).1)⟩
        · exact hX
  · rcases hn with ⟨rfl, rfl, rfl⟩ | ⟨rfl, rfl, rfl, hn⟩
    · rw [a5]
      exact ⟨_, hx, rfl⟩
    · rw [a2]
      refine ⟨_, hL.2.2.1 hcap, f', by rw [show gcp (gU g (nU σ) e' q cap') 4 0 = cap' from gU_c], fun r hr => ?_⟩
      rw [sU] at hr
      by_cases hr9 : r = nU σ
      · subst hr9; rw [hfq]; exact congrArg some a5.symm
      · rw [hf r (by omega)]; exact congrArg some (a0 6 r 0 (by decide) (by simp [hr9])).symm
  · obtain ⟨b1, b2, b3⟩ := h.2.2.1
    refine ⟨?_, ?_, b3⟩
    · rw [n1]; exact b1
    · rw [sU, show gcp (gU g (nU σ) e' q cap') 4 0 = cap' from gU_c]
      exact ⟨hL.2.2.2.1, hL.2.2.2.2, fun z => absurd z hcap⟩
  · intro c hc
    obtain ⟨b1, b2, b3, b4, b5⟩ := h.2.2.2 c hc
    rw [n1, hkr]
    refine ⟨fun i hi => ⟨(b1 i hi).1, fun d hd hd' => by rw [hkr]; exact (b1 i hi).2 d hd hd'⟩, b2, b3, fun d hd hd' => by rw [hkr]; exact b4 d hd hd', fun r hr hnn hy k hk => ?_⟩
    rw [hln] at hk
    unfold sn el
    rw [s3]
    exact b5 r hr hnn hy k hk
/-- an act is added to a plan -/
def gA (g : RG) (p k q : Nat) : RG := (ru g.1 11 p k q, g.2)
theorem gA_o {g : RG} {p k q t i j : Nat} (h : ¬ (t = 11 ∧ i = p ∧ j = k)) : (gA g p k q).1 t i j = g.1 t i j := ru_n h
theorem gA_s {g : RG} {p k q : Nat} : (gA g p k q).1 11 p k = q := by simp [gA, ru]
theorem RELY.plan {G : hp_G} {E0 : Nat} {g : RG} {σ σ' : MS} {z : Nat → Int32} {ca : Int32} {C : Nat} {Y : Nat → Prop} {M M' : hp_h} (h : RELY G E0 g σ z ca C Y M) {p q : Nat} {f' : Nat → Option Nat} (hp : p < 6)
    (s1 : σ'.1 = σ.1) (s2 : ∀ k, k ≠ 16 → k ≠ 17 → σ'.2.1 k = σ.2.1 k) (s3 : σ'.2.2.1 = σ.2.2.1) (s16 : ∀ i, i ≠ p → σ'.2.1 16 i = σ.2.1 16 i) (s16p : psz σ' p = psz σ p + 1) (s17 : ∀ i k x, i < 6 → k < psz σ i → x < 6 → aw σ' i k x = aw σ i k x)
    (hq : M q = none) (hx : M' q = some (.inr (3, AF σ' p (psz σ p)))) (hP : M' (qP g p) = some (.inr (2, [.ref (qPa g p), .int (σ'.2.1 16 p)]))) (hA : M' (qPa g p) = some (.inl (G.2 13, 12, RV f'))) (hf : ∀ k, k < psz σ p → f' k = some (qA g p k)) (hfq : f' (psz σ p) = some q)
    (hfr : hp_fr (fun b => b = qP g p ∨ b = qPa g p) M M') : RELY G E0 (gA g p (psz σ p) q) σ' z ca C Y M' := by
  have n1 : nR σ' = nR σ := by unfold nR; rw [s1]
  have n5 : nU σ' = nU σ := by unfold nU; rw [s1]
  have n8 : nJ σ' = nJ σ := by unfold nJ; rw [s1]
  have hps : ∀ i, i ≠ p → psz σ' i = psz σ i := fun i hi => by unfold psz; rw [s16 i hi]
  have hkr : ∀ c, kr σ' c = kr σ c := fun c => by unfold kr; rw [s2 25 (by decide) (by decide)]
  have hkd : ∀ r, kd σ' r = kd σ r := fun r => by unfold kd; rw [s2 2 (by decide) (by decide)]
  have hln : ∀ r, ln σ' r = ln σ r := fun r => by unfold ln; rw [s2 3 (by decide) (by decide)]
  refine h.ext (fun t i j => t = 11 ∧ i = p ∧ j = psz σ p) (fun t i j hd => ?_) (fun t i j hn => ?_) (fun t i j t' i' j' hn hn' e => ⟨hn.1.trans hn'.1.symm, hn.2.1.trans hn'.2.1.symm, hn.2.2.trans hn'.2.2.symm⟩) (fun t i j E hd hd' hn hE hX => ?_) (fun t i j hd hn => ?_) ?_ ?_
  · by_cases hn : t = 11 ∧ i = p ∧ j = psz σ p
    · exact Or.inr hn
    · refine Or.inl ⟨?_, gA_o hn, hn⟩
      unfold RD at hd ⊢
      rw [n1, n5, n8] at hd
      split at hd <;> first | exact hd | skip
      by_cases hi : i = p
      · subst hi
        have h2 := hd.2
        rw [s16p] at h2
        have : j ≠ psz σ i := fun y => hn ⟨rfl, rfl, y⟩
        exact ⟨hd.1, by omega⟩
      · have h2 := hd.2
        rw [hps i hi] at h2
        exact ⟨hd.1, h2⟩
  · obtain ⟨rfl, rfl, rfl⟩ := hn
    rw [gA_s]; exact h.fresh hq
  · have keep : ¬ (t = 9 ∧ i = p ∧ j = 0) → ¬ (t = 10 ∧ i = p ∧ j = 0) → M' (g.1 t i j) = some E := fun h1 h2 => hfr _ _ (fun zz => by
      rcases zz with zz | zz
      · exact h1 (h.2.1 _ _ _ _ _ _ hd (show RD σ g C 9 p 0 from ⟨hp, rfl⟩) zz)
      · exact h2 (h.2.1 _ _ _ _ _ _ hd (show RD σ g C 10 p 0 from ⟨hp, rfl⟩) zz)) hE
    by_cases h1 : t = 9 ∧ i = p ∧ j = 0
    · obtain ⟨rfl, rfl, rfl⟩ := h1
      exact ⟨_, hP, rfl⟩
    · by_cases h2 : t = 10 ∧ i = p ∧ j = 0
      · obtain ⟨rfl, rfl, rfl⟩ := h2
        refine ⟨_, hA, f', rfl, fun k hk => ?_⟩
        rw [s16p] at hk
        by_cases hk9 : k = psz σ i
        · subst hk9; rw [hfq]; exact congrArg some gA_s.symm
        · rw [hf k (by omega)]; exact congrArg some (gA_o (by simp [hk9])).symm
      · refine ⟨E, keep h1 h2, ?_⟩
        unfold EX at hX ⊢
        split at hX <;> (try dsimp only)
        · have e9 : NF (gA g p (psz σ p) q) σ' z ca = NF g σ z ca := by
            unfold NF; rw [s1]; rfl
          rw [e9]; exact hX
        · rw [n1]; exact hX
        · rw [n1]; exact hX
        · rw [n5]; exact hX
        · rw [n5]; exact hX
        · rw [hkd, hln, n5, n8]
          obtain ⟨x, b1, b2, b3⟩ := hX
          exact ⟨x, b1, b2, fun k hk => by unfold el; rw [s3]; exact b3 k hk⟩
        · rw [s2 6 (by decide) (by decide), s2 7 (by decide) (by decide)]; exact hX
        · unfold iln; rw [s2 9 (by decide) (by decide), s2 10 (by decide) (by decide)]; exact hX
        · exact hX
        · have hi : i ≠ p := fun y => h1 ⟨rfl, y, hd.2⟩
          rw [s16 i hi]; exact hX
        · have hi : i ≠ p := fun y => h2 ⟨rfl, y, hd.2⟩
          rw [hps i hi]
          obtain ⟨f, c1, c2⟩ := hX
          exact ⟨f, c1, fun k hk => (c2 k hk).trans (congrArg some (gA_o (by simp [hi])).symm)⟩
        · have e9 : AF σ' i j = AF σ i j := by
            unfold AF
            rw [s17 i j 0 hd.1 hd.2 (by decide), s17 i j 1 hd.1 hd.2 (by decide), s17 i j 2 hd.1 hd.2 (by decide), s17 i j 3 hd.1 hd.2 (by decide), s17 i j 4 hd.1 hd.2 (by decide), s17 i j 5 hd.1 hd.2 (by decide)]
          rw [e9]; exact hX
        · exact hX
        · exact hX
        · rw [s3]; exact hX
        · have e9 : CF (gA g p (psz σ p) q) σ' i = CF g σ i := by
            unfold CF; rw [s2 21 (by decide) (by decide), s2 22 (by decide) (by decide), s2 23 (by decide) (by decide), s2 24 (by decide) (by decide), s2 25 (by decide) (by decide)]; rfl
          rw [e9]; exact hX
        · exact hX
        · exact hX
        · exact hX
        · obtain ⟨x, b1, b2, e, b3, b4, b5⟩ := hX
          have w0 : ∀ c i, wh (gA g p (psz σ p) q) c i = wh g c i := fun _ _ => rfl
          rw [w0, hkd, hln, hkr, n5, n8]
          exact ⟨x, b1, b2, e, b3, fun hw k hk => by unfold sn; rw [s3]; exact b4 hw k hk, b5.to (by omega) (fun u _ => by rw [s2 6 (by decide) (by decide)])⟩
        · exact hX
  · obtain ⟨rfl, rfl, rfl⟩ := hn
    rw [gA_s]
    exact ⟨_, hx, rfl⟩
  · have := h.2.2.1
    unfold RL at this ⊢
    rw [n1, n5]
    exact this
  · intro c hc
    obtain ⟨b1, b2, b3, b4, b5⟩ := h.2.2.2 c hc
    rw [n1, hkr]
    refine ⟨fun i hi => ⟨(b1 i hi).1, fun d hd hd' => by rw [hkr]; exact (b1 i hi).2 d hd hd'⟩, b2, b3, fun d hd hd' => by rw [hkr]; exact b4 d hd hd', fun r hr hnn hy k hk => ?_⟩
    rw [hln] at hk
    unfold sn el
    rw [s3]
    exact b5 r hr hnn hy k hk
/-- a call is begun: object, list of kept rows, array of which -/
def gC (g : RG) (C qc ql qw E0 : Nat) : RG := (ru (ru (ru (ru g.1 15 C 0 qc) 16 C 0 ql) 17 C 0 E0) 18 C 0 qw, rc g.2.1 17 C 0, va_up g.2.2.1 C 0, g.2.2.2)
theorem gC_15 {g : RG} {C qc ql qw E0 : Nat} : (gC g C qc ql qw E0).1 15 C 0 = qc := by simp [gC, ru]
theorem gC_16 {g : RG} {C qc ql qw E0 : Nat} : (gC g C qc ql qw E0).1 16 C 0 = ql := by simp [gC, ru]
theorem gC_17 {g : RG} {C qc ql qw E0 : Nat} : (gC g C qc ql qw E0).1 17 C 0 = E0 := by simp [gC, ru]
theorem gC_18 {g : RG} {C qc ql qw E0 : Nat} : (gC g C qc ql qw E0).1 18 C 0 = qw := by simp [gC, ru]
theorem gC_o {g : RG} {C qc ql qw E0 t i j : Nat} (h : ¬ ((t = 15 ∨ t = 16 ∨ t = 17 ∨ t = 18) ∧ i = C ∧ j = 0)) : (gC g C qc ql qw E0).1 t i j = g.1 t i j := by
  have e : ∀ {a : Nat → Nat → Nat → Nat} {t0 q : Nat}, (t0 = 15 ∨ t0 = 16 ∨ t0 = 17 ∨ t0 = 18) → ru a t0 C 0 q t i j = a t i j := fun ht => ru_n (fun z => h ⟨by rw [z.1]; exact ht, z.2⟩)
  show ru (ru (ru (ru g.1 15 C 0 qc) 16 C 0 ql) 17 C 0 E0) 18 C 0 qw t i j = _
  rw [e (by simp), e (by simp), e (by simp), e (by simp)]
theorem gC_c {g : RG} {C qc ql qw E0 t i : Nat} (h : ¬ (t = 17 ∧ i = C)) : (gC g C qc ql qw E0).2.1 t i = g.2.1 t i := by
  simp only [gC, rc]
  split
  · rename_i h1; rw [if_neg (fun z => h ⟨h1, z⟩)]
  · rfl
theorem gC_cs {g : RG} {C qc ql qw E0 : Nat} : (gC g C qc ql qw E0).2.1 17 C = 0 := by simp [gC, rc]
theorem gC_k {g : RG} {C qc ql qw E0 : Nat} : kn (gC g C qc ql qw E0) C = 0 := by simp [gC, kn, va_up]
theorem gC_kn {g : RG} {C qc ql qw E0 c : Nat} (h : c ≠ C) : kn (gC g C qc ql qw E0) c = kn g c := by simp [gC, kn, va_up, h]
theorem gC_w {g : RG} {C qc ql qw E0 c i : Nat} : wh (gC g C qc ql qw E0) c i = wh g c i := rfl
theorem RELY.enter {G : hp_G} {E0 : Nat} {g : RG} {σ σ' : MS} {z : Nat → Int32} {ca : Int32} {C : Nat} {M M' : hp_h} (h : REL G E0 g σ z ca C M) {qc ql qw : Nat} {md : Int32} {fw : Nat → Int32}
    (s1 : σ'.1 = σ.1) (s2 : ∀ k, k ≠ 21 → k ≠ 22 → k ≠ 23 → k ≠ 24 → k ≠ 25 → σ'.2.1 k = σ.2.1 k) (s3 : ∀ k, k ≠ 26 → σ'.2.2.1 k = σ.2.2.1 k)
    (sc : ∀ c, c < C → σ'.2.1 21 c = σ.2.1 21 c ∧ σ'.2.1 22 c = σ.2.1 22 c ∧ σ'.2.1 23 c = σ.2.1 23 c ∧ σ'.2.1 24 c = σ.2.1 24 c ∧ σ'.2.1 25 c = σ.2.1 25 c) (sC : kr σ' C = nR σ) (ss : ∀ c r k, c < C → r < nR σ → k < ln σ r → sn σ' c r k = sn σ c r k) (sS : ∀ r k, r < nR σ → k < ln σ r → sn σ' C r k = el σ r k)
    (hq1 : M qc = none) (hq2 : M ql = none) (hq3 : M qw = none) (hn1 : qc ≠ ql) (hn2 : qc ≠ qw) (hn3 : ql ≠ qw)
    (hc : M' qc = some (.inr (4, [.int (σ'.2.1 21 C), .int (σ'.2.1 25 C), .ref ql, .ref qw, .int (σ'.2.1 24 C), .int (σ'.2.1 23 C - σ'.2.1 24 C), .int (σ'.2.1 22 C), .ref (qN g)]))) (hl : M' ql = some (.inr (1, [.int md, .ref E0, .int 0]))) (hw : M' qw = some (.inl (G.2 4, 60, .inl fw)))
    (hfr : hp_fr (fun _ => False) M M') : REL G E0 (gC g C qc ql qw E0) σ' z ca (C + 1) M' := by
  have n1 : nR σ' = nR σ := by unfold nR; rw [s1]
  have n5 : nU σ' = nU σ := by unfold nU; rw [s1]
  have n8 : nJ σ' = nJ σ := by unfold nJ; rw [s1]
  have hps : ∀ i, psz σ' i = psz σ i := fun i => by unfold psz; rw [s2 16 (by decide) (by decide) (by decide) (by decide) (by decide)]
  have hkd : ∀ r, kd σ' r = kd σ r := fun r => by unfold kd; rw [s2 2 (by decide) (by decide) (by decide) (by decide) (by decide)]
  have hln : ∀ r, ln σ' r = ln σ r := fun r => by unfold ln; rw [s2 3 (by decide) (by decide) (by decide) (by decide) (by decide)]
  have hkr : ∀ c, c < C → kr σ' c = kr σ c := fun c hc => by unfold kr; rw [(sc c hc).2.2.2.2]
  have hel : ∀ r k, el σ' r k = el σ r k := fun r k => by unfold el; rw [s3 4 (by decide)]
  refine h.ext (fun t i j => (t = 15 ∨ t = 16 ∨ t = 18) ∧ i = C ∧ j = 0) (fun t i j hd => ?_) (fun t i j hn => ?_) (fun t i j t' i' j' hn hn' e => ?_) (fun t i j E hd hd' hn hE hX => ?_) (fun t i j hd hn => ?_) ?_ ?_
  · by_cases hn : (t = 15 ∨ t = 16 ∨ t = 18) ∧ i = C ∧ j = 0
    · exact Or.inr hn
    · have hd0 : RD σ g C t i j ∧ ¬ (t = 17 ∧ i = C ∧ j = 0) := by
        unfold RD at hd ⊢
        rw [n1, n5, n8] at hd
        split at hd <;> (try dsimp only)
        · exact ⟨hd, by simp⟩
        · exact ⟨hd, by simp⟩
        · exact ⟨hd, by simp⟩
        · exact ⟨hd, by simp⟩
        · exact ⟨hd, by simp⟩
        · exact ⟨hd, by simp⟩
        · exact ⟨hd, by simp⟩
        · rw [hps] at hd; exact ⟨hd, by simp⟩
        · exact ⟨hd, by simp⟩
        · have : i ≠ C := fun y => hn ⟨by simp, y, hd.2⟩
          exact ⟨⟨by omega, hd.2⟩, by simp⟩
        · have : i ≠ C := fun y => hn ⟨by simp, y, hd.2⟩
          exact ⟨⟨by omega, hd.2⟩, by simp⟩
        · have hi : i ≠ C := fun y => hd.2.2 (by subst y; exact gC_cs)
          refine ⟨⟨by omega, hd.2.1, ?_⟩, by simp [hi]⟩
          have h2 := hd.2.2
          rw [show gcp (gC g C qc ql qw E0) 17 i = gcp g 17 i from gC_c (by simp [hi])] at h2
          exact h2
        · have : i ≠ C := fun y => hn ⟨by simp, y, hd.2⟩
          exact ⟨⟨by omega, hd.2⟩, by simp⟩
        · have hi : i ≠ C := fun y => by subst y; have h2 := hd.2; rw [gC_k] at h2; omega
          have h2 := hd.2
          rw [gC_kn hi] at h2
          exact ⟨⟨by omega, h2⟩, by simp⟩
        · refine ⟨hd, fun y => ?_⟩
          rename_i h17 _ _
          exact absurd y.1 h17
      exact Or.inl ⟨hd0.1, gC_o (fun y => y.1.elim (fun y1 => hn ⟨Or.inl y1, y.2⟩) (fun y2 => y2.elim (fun y1 => hn ⟨Or.inr (Or.inl y1), y.2⟩) (fun y3 => y3.elim (fun y1 => hd0.2 ⟨y1, y.2⟩) (fun y1 => hn ⟨Or.inr (Or.inr y1), y.2⟩)))), hn⟩
  · obtain ⟨ht, rfl, rfl⟩ := hn
    rcases ht with rfl | rfl | rfl
    · rw [gC_15]; exact RELY.fresh h hq1
    · rw [gC_16]; exact RELY.fresh h hq2
    · rw [gC_18]; exact RELY.fresh h hq3
  · obtain ⟨ht, rfl, rfl⟩ := hn
    obtain ⟨ht', rfl, rfl⟩ := hn'
    rcases ht with rfl | rfl | rfl <;> rcases ht' with rfl | rfl | rfl <;> first | exact ⟨rfl, rfl, rfl⟩ | (exfalso; simp only [gC_15, gC_16, gC_18] at e; first | exact hn1 e | exact hn1 e.symm | exact hn2 e | exact hn2 e.symm | exact hn3 e | exact hn3 e.symm)
  · have aA : ∀ t i j, t < 15 ∨ t = 19 → (gC g C qc ql qw E0).1 t i j = g.1 t i j := fun t i j ht => gC_o (fun y => by omega)
    have aC : ∀ t i, i < C → (gC g C qc ql qw E0).1 t i 0 = g.1 t i 0 := fun t i hi => gC_o (fun y => by omega)
    have eU : (fun u => qU (gC g C qc ql qw E0) u) = fun u => qU g u := funext fun u => aA 6 u 0 (by decide)
    have eJ : (fun u => qJ (gC g C qc ql qw E0) u) = fun u => qJ g u := funext fun u => aA 7 u 0 (by decide)
    refine ⟨E, hfr _ _ (fun y => y) hE, ?_⟩
    unfold EX at hX ⊢
    split at hX <;> (try dsimp only)
    · have e9 : NF (gC g C qc ql qw E0) σ' z ca = NF g σ z ca := by
        unfold NF qRl qUl qPl qHs qAn; rw [aA 1 0 0 (by decide), aA 3 0 0 (by decide), aA 8 0 0 (by decide), aA 12 0 0 (by decide), aA 14 0 0 (by decide), s1]
      rw [e9]; exact hX
    · rw [show qRe (gC g C qc ql qw E0) = qRe g from aA 2 0 0 (by decide), n1]; exact hX
    · rw [show gcp (gC g C qc ql qw E0) 2 0 = gcp g 2 0 from gC_c (by simp), n1]
      obtain ⟨f, b1, b2⟩ := hX
      exact ⟨f, b1, fun k hk => by rw [b2 k hk]; exact congrArg some (aA 5 k 0 (by decide)).symm⟩
    · rw [show qUe (gC g C qc ql qw E0) = qUe g from aA 4 0 0 (by decide), n5]; exact hX
    · rw [show gcp (gC g C qc ql qw E0) 4 0 = gcp g 4 0 from gC_c (by simp), n5]
      obtain ⟨f, b1, b2⟩ := hX
      exact ⟨f, b1, fun k hk => by rw [b2 k hk]; exact congrArg some (aA 6 k 0 (by decide)).symm⟩
    · rw [eU, eJ, hkd, hln, n5, n8]
      obtain ⟨x, b1, b2, b3⟩ := hX
      exact ⟨x, b1, b2, fun k hk => by rw [hel]; exact b3 k hk⟩
    · rw [s2 6 (by decide) (by decide) (by decide) (by decide) (by decide), s2 7 (by decide) (by decide) (by decide) (by decide) (by decide)]; exact hX
    · unfold iln; rw [s2 9 (by decide) (by decide) (by decide) (by decide) (by decide), s2 10 (by decide) (by decide) (by decide) (by decide) (by decide)]; exact hX
    · obtain ⟨f, b1, b2⟩ := hX
      exact ⟨f, b1, fun k hk => by rw [b2 k hk]; exact congrArg some (aA 9 k 0 (by decide)).symm⟩
    · rw [show qPa (gC g C qc ql qw E0) i = qPa g i from aA 10 i 0 (by decide), s2 16 (by decide) (by decide) (by decide) (by decide) (by decide)]; exact hX
    · rw [hps]
      obtain ⟨f, b1, b2⟩ := hX
      exact ⟨f, b1, fun k hk => by rw [b2 k hk]; exact congrArg some (aA 11 i k (by decide)).symm⟩
    · unfold AF aw at hX ⊢; rw [s2 17 (by decide) (by decide) (by decide) (by decide) (by decide)]; exact hX
    · obtain ⟨f, b1, b2⟩ := hX
      exact ⟨f, b1, fun k hk => by rw [b2 k hk]; exact congrArg some (aA 13 k 0 (by decide)).symm⟩
    · rw [show qN (gC g C qc ql qw E0) = qN g from aA 0 0 0 (by decide)]; exact hX
    · rw [s3 32 (by decide)]; exact hX
    · have hi : i < C := hd.1
      have e9 : CF (gC g C qc ql qw E0) σ' i = CF g σ i := by
        obtain ⟨e1, e2, e3, e4, e5⟩ := sc i hi
        unfold CF qKl qW qN; rw [aC 16 i hi, aC 18 i hi, aA 0 0 0 (by decide), e1, e2, e3, e4, e5]
      rw [e9]; exact hX
    · have hi : i < C := hd.1
      rw [show qKe (gC g C qc ql qw E0) i = qKe g i from aC 17 i hi, gC_kn (Nat.ne_of_lt hi)]; exact hX
    · have hi : i < C := hd.1
      rw [show gcp (gC g C qc ql qw E0) 17 i = gcp g 17 i from gC_c (by simp [Nat.ne_of_lt hi]), gC_kn (Nat.ne_of_lt hi)]
      obtain ⟨f, b1, b2⟩ := hX
      exact ⟨f, b1, fun k hk => by rw [b2 k hk]; exact congrArg some (aA 19 i k (by decide)).symm⟩
    · have hi : i < C := hd.1
      rw [gC_kn (Nat.ne_of_lt hi)]; exact hX
    · have hi : i < C := hd.1
      have hw9 := ((h.2.2.2 i hi).1 j hd.2).1
      rw [gC_w, eU, eJ, hkd, hln, n5, n8, hkr i hi]
      obtain ⟨x, b1, b2, e, b3, b4, b5⟩ := hX
      exact ⟨x, b1, b2, e, b3, fun hw k hk => by rw [ss i _ k hi hw9 hk]; exact b4 hw k hk, b5.to (by omega) (fun u _ => by rw [s2 6 (by decide) (by decide) (by decide) (by decide) (by decide)])⟩
    · exact hX
  · obtain ⟨ht, rfl, rfl⟩ := hn
    have e0 : qN (gC g i qc ql qw E0) = qN g := gC_o (by simp)
    rcases ht with rfl | rfl | rfl
    · rw [gC_15]
      refine ⟨_, hc, ?_⟩
      show _ = Sum.inr (4, CF _ _ _)
      unfold CF
      rw [show qKl (gC g i qc ql qw E0) i = ql from gC_16, show qW (gC g i qc ql qw E0) i = qw from gC_18, e0]
    · rw [gC_16]
      refine ⟨_, hl, md, ?_⟩
      rw [show qKe (gC g i qc ql qw E0) i = E0 from gC_17, gC_k]; rfl
    · rw [gC_18]
      exact ⟨_, hw, fw, rfl, fun k hk => by rw [gC_k] at hk; omega⟩
  · obtain ⟨b1, b2, b3⟩ := h.2.2.1
    refine ⟨?_, ?_, fun c hc => ?_⟩
    · rw [n1, show gcp (gC g C qc ql qw E0) 2 0 = gcp g 2 0 from gC_c (by simp), show qRe (gC g C qc ql qw E0) = qRe g from gC_o (by simp)]; exact b1
    · rw [n5, show gcp (gC g C qc ql qw E0) 4 0 = gcp g 4 0 from gC_c (by simp), show qUe (gC g C qc ql qw E0) = qUe g from gC_o (by simp)]; exact b2
    · by_cases hcC : c = C
      · subst hcC
        rw [gC_k, show gcp (gC g c qc ql qw E0) 17 c = 0 from gC_cs]
        exact ⟨Nat.le_refl _, Nat.zero_le _, fun _ => gC_17⟩
      · rw [gC_kn hcC, show gcp (gC g C qc ql qw E0) 17 c = gcp g 17 c from gC_c (by simp [hcC]), show qKe (gC g C qc ql qw E0) c = qKe g c from gC_o (by simp [hcC])]
        exact b3 c (by omega)
  · intro c hc
    by_cases hcC : c = C
    · subst hcC
      refine ⟨fun i hi => by rw [gC_k] at hi; omega, fun i j hi => by rw [gC_k] at hi; omega, by rw [sC, n1]; exact Nat.le_refl _, fun d hd hd' => by omega, fun r hr hnn hy k hk => ?_⟩
      rw [sC] at hr
      rw [hln] at hk
      rw [if_neg (by omega), sS r k hr hk, hel]
    · have hc9 : c < C := by omega
      obtain ⟨b1, b2, b3, b4, b5⟩ := h.2.2.2 c hc9
      have krd : ∀ d, c < d → d < C + 1 → kr σ c ≤ kr σ' d := fun d h1 h2 => by
        by_cases hdC : d = C
        · subst hdC; rw [sC]; exact b3
        · rw [hkr d (by omega)]; exact b4 d h1 (by omega)
      rw [gC_kn hcC, n1, hkr c hc9]
      refine ⟨fun i hi => ⟨(b1 i hi).1, fun d hd hd' => ?_⟩, fun i j hi hj => b2 i j hi hj, b3, krd, fun r hr hnn hy k hk => ?_⟩
      · by_cases hdC : d = C
        · subst hdC; rw [sC]; exact (b1 i hi).1
        · rw [hkr d (by omega)]; exact (b1 i hi).2 d hd (by omega)
      · have hr' : r < nR σ := Nat.lt_of_lt_of_le hr b3
        rw [hln] at hk
        have h9 := b5 r hr hnn (fun y => y.2) k hk
        rw [if_pos (by omega), ss c r k hc9 hr' hk, h9]
        by_cases hC2 : c + 1 < C
        · rw [if_pos hC2, ss (c + 1) r k hC2 hr' hk]
        · have : c + 1 = C := by omega
          rw [if_neg hC2, this, sS r k hr' hk]
