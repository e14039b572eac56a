set_option maxRecDepth 100000
section R39
variable {G : hp_G} {E0 : Nat} {g : RG} {σ σ' : MS} {z z' : Nat → Int32} {ca ca' : Int32} {C : Nat} {Y : Nat → Prop} {M M' : hp_h}
theorem AS_row {k a : Nat} {x : vp_A} (hk : k ≤ 10) (h : M a = some (.inl (G.2 k, x))) : hp_AS G M (.object "java/lang/Object") a := by
  refine Or.inr (Or.inl ⟨_, k, x, rfl, by omega, h, ?_⟩)
  match k, hk with
  | 0, _ => exact q1890
  | 1, _ => exact q1891
  | 2, _ => exact q1892
  | 3, _ => exact q1893
  | 4, _ => exact q1894
  | 5, _ => exact q1885
  | 6, _ => exact q1895
  | 7, _ => exact q1896
  | 8, _ => exact q1886
  | 9, _ => exact q1887
  | 10, _ => exact q1888
  | n + 11, h => exact absurd h (by omega)
theorem AS_unit {k a : Nat} {fs : List Value} (hk : k = 5 ∨ k = 6 ∨ k = 7) (h : M a = some (.inr (k, fs))) : hp_AS G M (.object "java/lang/Object") a := by
  rcases hk with rfl | rfl | rfl
  · exact Or.inl ⟨_, 5, _, (RX21, TX21, 2), rfl, h, rfl, Or.inr q1837⟩
  · exact Or.inl ⟨_, 6, _, (RX22, TX22, 2), rfl, h, rfl, Or.inr q1838⟩
  · exact Or.inl ⟨_, 7, _, (RX23, TX23, 2), rfl, h, rfl, Or.inr q1855⟩
theorem RELY.elR (h : RELY G E0 g σ z ca C Y M) (hI : MI σ) {f : Nat → Option Nat} (hf : ∀ r, r < nR σ → f r = some (qR g r)) : ∀ i, i < nR σ → ∀ y, f i = some y → hp_AS G M (.object "java/lang/Object") y := fun i hi y hy => by
  rw [hf i hi] at hy
  cases hy
  obtain ⟨x, h1, -⟩ := h.rw hi
  exact AS_row (hI.k hi).2 h1
theorem RELY.elU (h : RELY G E0 g σ z ca C Y M) (hI : MI σ) {f : Nat → Option Nat} (hf : ∀ r, r < nU σ → f r = some (qU g r)) : ∀ i, i < nU σ → ∀ y, f i = some y → hp_AS G M (.object "java/lang/Object") y := fun i hi y hy => by
  rw [hf i hi] at hy
  cases hy
  have := (hI.cN hi).1
  exact AS_unit (by omega) (h.un hi)
theorem RELY.elK (h : RELY G E0 g σ z ca C Y M) (hI : MI σ) {c : Nat} (hc : c < C) {f : Nat → Option Nat} (hf : ∀ r, r < kn g c → f r = some (qK g c r)) : ∀ i, i < kn g c → ∀ y, f i = some y → hp_AS G M (.object "java/lang/Object") y := fun i hi y hy => by
  rw [hf i hi] at hy
  cases hy
  obtain ⟨x, h1, -⟩ := h.K hc hi
  exact AS_row (hI.k ((h.2.2.2 c hc).1 i hi).1).2 h1
theorem LSt.fr {a e cap n : Nat} {f : Nat → Option Nat} {Z : Nat → Prop} (h : LSt G E0 M a e cap n f) (hf : hp_fr Z M M') (ha : ¬ Z a) (he : cap ≠ 0 → ¬ Z e) : LSt G E0 M' a e cap n f := by
  obtain ⟨⟨md, h1⟩, h2, h3, h4⟩ := h
  exact ⟨⟨md, hf _ _ ha h1⟩, h2, fun hc => hf _ _ (he hc) (h3 hc), h4⟩
theorem hp_AS.sh0 {ty : FieldType} {y : Nat} (h : hp_AS G M ty y) (hf : hp_sh M M') : hp_AS G M' ty y := hp_AS.sh h hf
/-- what an answer and a change of the system's state are -/
def SP (G : hp_G) (E0 : Nat) (g : RG) (σ : MS) (C : Nat) (M : hp_h) (v : Option Value) (σ' : MS) (z' : Nat → Int32) (ca' : Int32) : Option Value → hp_h → Prop := fun v' M' => v' = v ∧ ∃ g', REL G E0 g' σ' z' ca' C M' ∧ RKp (nR σ) σ g C M σ' g' C M'
theorem SP.same (h : REL G E0 g σ z ca C M) {v : Option Value} : SP G E0 g σ C M v σ z ca v M := ⟨rfl, g, h, RKp.rf⟩
theorem RKp.mk9 {n C' : Nat} {g' : RG} {Z : Nat → Prop} (hg : ∀ t i j, t ≠ 2 → t ≠ 4 → t ≠ 17 → t ≠ 19 → RD σ g C t i j → (t = 5 → i < n) → (15 ≤ t → i < C') → g'.1 t i j = g.1 t i j) (hfr : hp_fr Z M M') (hZ : ∀ a, Z a → IsR σ g C a) (hN : ∀ t i j, RD σ' g' C' t i j → (RD σ g C t i j ∧ g'.1 t i j = g.1 t i j) ∨ M (g'.1 t i j) = none) (hs : hp_sh M M') : RKp n σ g C M σ' g' C' M' := by
  refine ⟨hg, fun a e ha hn => ⟨hfr a e (fun y => hn (hZ a y)) ha, ?_⟩, hs⟩
  rintro ⟨t, i, j, hd, rfl⟩
  rcases hN t i j hd with ⟨h1, h2⟩ | h1
  · exact hn ⟨t, i, j, h1, h2.symm⟩
  · rw [h1] at ha; cases ha
theorem RKp.trans {n m C1 C' : Nat} {σ1 : MS} {g1 g' : RG} {M1 : hp_h} (h : RKp n σ g C M σ1 g1 C1 M1) (h' : RKp m σ1 g1 C1 M1 σ' g' C' M') (hC : C' ≤ C1) (hn : n ≤ m) (hD : ∀ t i j, t ≠ 2 → t ≠ 4 → t ≠ 17 → t ≠ 19 → RD σ g C t i j → (t = 5 → i < n) → (15 ≤ t → i < C') → RD σ1 g1 C1 t i j) : RKp n σ g C M σ' g' C' M' := by
  obtain ⟨a1, a2, a3⟩ := h
  obtain ⟨b1, b2, b3⟩ := h'
  refine ⟨fun t i j h2 h4 h17 h19 hd h5 h15 => ?_, fun a e ha hr => ?_, a3.trans b3⟩
  · rw [b1 t i j h2 h4 h17 h19 (hD t i j h2 h4 h17 h19 hd h5 h15) (fun y => Nat.lt_of_lt_of_le (h5 y) hn) h15]
    exact a1 t i j h2 h4 h17 h19 hd h5 (fun y => Nat.lt_of_lt_of_le (h15 y) hC)
  · obtain ⟨c1, c2⟩ := a2 a e ha hr
    exact b2 a e c1 c2
/-- one role's cell is set -/
theorem RKp.set1 {n : Nat} {t0 i0 j0 : Nat} {E E' : va_E} (hd : RD σ g C t0 i0 j0) (hD : ∀ t i j, RD σ' g C t i j → RD σ g C t i j) (ha : M (g.1 t0 i0 j0) = some E) (hs : hp_sm E E') (e : M' = hp_up M (g.1 t0 i0 j0) E') : RKp n σ g C M σ' g C M' :=
  RKp.mk9 (Z := fun b => b = g.1 t0 i0 j0) (fun _ _ _ _ _ _ _ _ _ _ => rfl) (hp_fr.rf.set (Or.inl rfl) e) (fun a h => ⟨t0, i0, j0, hd, h.symm⟩) (fun t i j h => Or.inl ⟨hD t i j h, rfl⟩) (hp_sh.rf.set ha e hs)
theorem RD.gR {e' q cap' t i j : Nat} (s1 : nR σ' = nR σ + 1) (n5 : nU σ' = nU σ) (n8 : nJ σ' = nJ σ) (h16 : σ'.2.1 16 = σ.2.1 16) (h : RD σ' (gR g (nR σ) e' q cap') C t i j) : (RD σ g C t i j ∧ (gR g (nR σ) e' q cap').1 t i j = g.1 t i j) ∨ (t = 5 ∧ i = nR σ ∧ j = 0) ∨ (t = 2 ∧ i = 0 ∧ j = 0) := by
  by_cases h5 : t = 5 ∧ i = nR σ ∧ j = 0
  · exact Or.inr (Or.inl h5)
  · by_cases h2 : t = 2
    · subst h2; exact Or.inr (Or.inr ⟨rfl, h.1, h.2.1⟩)
    · refine Or.inl ⟨?_, gR_o h2 h5⟩
      unfold RD psz at h ⊢
      rw [s1, n5, n8, h16] at h
      split at h <;> (try dsimp only) <;> first | exact h | exact absurd rfl h2 | exact ⟨Nat.lt_of_le_of_ne (Nat.le_of_lt_succ h.1) (fun y => h5 ⟨rfl, y, h.2⟩), h.2⟩
theorem RD.gU {e' q cap' t i j : Nat} (s1 : nU σ' = nU σ + 1) (n5 : nR σ' = nR σ) (n8 : nJ σ' = nJ σ) (h16 : σ'.2.1 16 = σ.2.1 16) (h : RD σ' (gU g (nU σ) e' q cap') C t i j) : (RD σ g C t i j ∧ (gU g (nU σ) e' q cap').1 t i j = g.1 t i j) ∨ (t = 6 ∧ i = nU σ ∧ j = 0) ∨ (t = 4 ∧ i = 0 ∧ j = 0) := by
  by_cases h5 : t = 6 ∧ i = nU σ ∧ j = 0
  · exact Or.inr (Or.inl h5)
  · by_cases h2 : t = 4
    · subst h2; exact Or.inr (Or.inr ⟨rfl, h.1, h.2.1⟩)
    · refine Or.inl ⟨?_, gU_o h2 h5⟩
      unfold RD psz at h ⊢
      rw [s1, n5, n8, h16] at h
      split at h <;> (try dsimp only) <;> first | exact h | exact absurd rfl h2 | exact ⟨Nat.lt_of_le_of_ne (Nat.le_of_lt_succ h.1) (fun y => h5 ⟨rfl, y, h.2⟩), h.2⟩
theorem RD.gJ {q t i j : Nat} (s1 : nJ σ' = nJ σ + 1) (n5 : nR σ' = nR σ) (n8 : nU σ' = nU σ) (h16 : σ'.2.1 16 = σ.2.1 16) (h : RD σ' (gJ g (nJ σ) q) C t i j) : (RD σ g C t i j ∧ (gJ g (nJ σ) q).1 t i j = g.1 t i j) ∨ (t = 7 ∧ i = nJ σ ∧ j = 0) := by
  by_cases h5 : t = 7 ∧ i = nJ σ ∧ j = 0
  · exact Or.inr h5
  · refine Or.inl ⟨?_, ru_n h5⟩
    unfold RD psz at h ⊢
    rw [s1, n5, n8, h16] at h
    split at h <;> (try dsimp only) <;> first | exact h | exact ⟨Nat.lt_of_le_of_ne (Nat.le_of_lt_succ h.1) (fun y => h5 ⟨rfl, y, h.2⟩), h.2⟩
theorem RD.gA {p q t i j : Nat} (s1 : nR σ' = nR σ) (n5 : nU σ' = nU σ) (n8 : nJ σ' = nJ σ) (h16 : ∀ i, i ≠ p → psz σ' i = psz σ i) (h16p : psz σ' p = psz σ p + 1) (h : RD σ' (gA g p (psz σ p) q) C t i j) : (RD σ g C t i j ∧ (gA g p (psz σ p) q).1 t i j = g.1 t i j) ∨ (t = 11 ∧ i = p ∧ j = psz σ p) := by
  by_cases h5 : t = 11 ∧ i = p ∧ j = psz σ p
  · exact Or.inr h5
  · refine Or.inl ⟨?_, gA_o h5⟩
    unfold RD at h ⊢
    rw [s1, n5, n8] at h
    split at h <;> (try dsimp only) <;> first | exact h | skip
    refine ⟨h.1, ?_⟩
    have h2 := h.2
    by_cases hi : i = p
    · subst hi
      rw [h16p] at h2
      have : j ≠ psz σ i := fun y => h5 ⟨rfl, rfl, y⟩
      omega
    · rw [h16 i hi] at h2; exact h2
end R39
section A39
variable {G : hp_G} {X : Nat → Nat} {N0 : Nat} {M : hp_h}
theorem c_J2_addZ (l : Launch) (hl : l.stackTraces = false) (a e0 cap n v zc zs : Nat) (f : Nat → Option Nat) (hzc : (if n < cap then 0 else 1) = zc) (hzs : (if n < cap then 0 else gcap cap) = zs) (h : LSt G (X 0) M a e0 cap n f) (hn : n < 60) (hv : hp_AS G M (.object "java/lang/Object") v) (hel : ∀ i, i < n → ∀ y, f i = some y → hp_AS G M (.object "java/lang/Object") y) : HM l yJ2_add (ws_ yJ2_add cJ2_add 2 (some .boolean)) 6 140 zc zs G X N0 [.ref a, .ref v] M (fun v9 M' => v9 = some (.int 1) ∧ ∃ e' cap' f', LAd G (X 0) M M' a e0 cap n v f e' cap' f' ∧ hp_sh M M') PX0 := by
  subst hzc hzs
  exact c_J2_add l hl G X N0 M a e0 cap n v f h hn hv hel
theorem add_z (n cap : Nat) : ∃ zc zs, (if n < cap then 0 else 1) = zc ∧ (if n < cap then 0 else gcap cap) = zs ∧ zc ≤ 1 ∧ (n < 60 → zs ≤ 88) := by
  refine ⟨_, _, rfl, rfl, ?_, ?_⟩
  · split <;> omega
  · intro h
    split
    · omega
    · unfold gcap gm
      split
      · omega
      · split <;> omega
end A39
section N39
variable {σ : MS} {R N : Nat} {k : Int32}
theorem newRow_1 {j : Nat} (h : j ≠ 1) : (mf_newRow R N k σ).1 j = σ.1 j := by simp [mf_newRow, sz, si, sl, va_up, h]
theorem newRow_R : (mf_newRow R N k σ).1 1 = nI (R + 1) := by simp [mf_newRow, sz, va_up]
theorem newRow_2 {j : Nat} (h : j ≠ 2) (h3 : j ≠ 3) : (mf_newRow R N k σ).2.1 j = σ.2.1 j := by simp [mf_newRow, sz, si, sl, va_up, h, h3]
theorem newRow_3 {j : Nat} (h : j ≠ 4) : (mf_newRow R N k σ).2.2.1 j = σ.2.2.1 j := by simp [mf_newRow, sz, si, sl, va_up, h]
theorem newRow_k {r : Nat} (h : r ≠ R) : (mf_newRow R N k σ).2.1 2 r = σ.2.1 2 r ∧ (mf_newRow R N k σ).2.1 3 r = σ.2.1 3 r := by simp [mf_newRow, sz, si, sl, va_up, h]
theorem newRow_kR : (mf_newRow R N k σ).2.1 2 R = k ∧ (mf_newRow R N k σ).2.1 3 R = nI N := by simp [mf_newRow, sz, si, sl, va_up]
theorem newRow_4 : (mf_newRow R N k σ).2.2.1 4 = mfill (σ.2.2.1 4) (40 * R) N (fun _ => if k < 8 then 0 else -1) := by simp [mf_newRow, sz, si, sl, va_up]
theorem newRow_el {r j : Nat} (h : r < R) (hj : j < 40) : el (mf_newRow R N k σ) r j = el σ r j := by
  unfold el
  rw [newRow_4, mfill_out (by omega)]
theorem newRow_elR {j : Nat} (hj : j < N) : el (mf_newRow R N k σ) R j = if k < 8 then 0 else -1 := by
  unfold el
  rw [newRow_4, mfill_in hj]
end N39
theorem rngI {k : Int32} {m : Nat} (hm : m < 2 ^ 20) (h1 : ¬ k < 0) (h2 : k ≤ nI m) : ∃ a, a ≤ m ∧ k = nI a := by
  refine ⟨k.toInt.toNat, ?_, ?_⟩
  · have h3 := Int32.le_iff_toInt_le.mp h2
    rw [nI_toInt (by omega)] at h3
    have h4 := Int32.le_iff_toInt_le.mp (Int32.not_lt.mp h1)
    have e0 : (0 : Int32).toInt = 0 := rfl
    omega
  · have h3 := Int32.le_iff_toInt_le.mp h2
    rw [nI_toInt (by omega)] at h3
    have h4 := Int32.le_iff_toInt_le.mp (Int32.not_lt.mp h1)
    have e0 : (0 : Int32).toInt = 0 := rfl
    refine Int32.toInt_inj.mp ?_
    rw [nI_toInt (by omega)]
    omega
theorem rngN {k : Int32} {m : Nat} (hm : m < 2 ^ 20) (h : k < 0 ∨ nI m < k) : ¬ (0 ≤ k.toInt64 ∧ k.toInt64 ≤ lN m) := by
  intro z
  obtain ⟨n, hn, rfl⟩ := (in64 (by omega)).mp z
  rcases h with h | h
  · exact nI_pos (by omega) h
  · have := (nI_ltI (by omega) (by omega)).mp h
    omega
theorem rngY {a m : Nat} (hm : m < 2 ^ 20) (h : a ≤ m) : 0 ≤ (nI a).toInt64 ∧ (nI a).toInt64 ≤ lN m := (in64 (by omega)).mpr ⟨a, h, rfl⟩
theorem RELY.ne {G : hp_G} {E0 : Nat} {g : RG} {σ : MS} {z : Nat → Int32} {ca : Int32} {C : Nat} {Y : Nat → Prop} {M : hp_h} (h : RELY G E0 g σ z ca C Y M) {t i j t' i' j' : Nat} (h1 : RD σ g C t i j) (h2 : RD σ g C t' i' j') (hn : ¬ (t = t' ∧ i = i' ∧ j = j')) : g.1 t i j ≠ g.1 t' i' j' := fun e => hn (h.2.1 _ _ _ _ _ _ h1 h2 e)
/-- a row is added -/
theorem SP.addRow {G : hp_G} {E0 : Nat} {g : RG} {σ σ' : MS} {z : Nat → Int32} {ca : Int32} {C : Nat} {M M1 M' : hp_h} (h : REL G E0 g σ z ca C M) (hI : MI σ) {q e' cap' : Nat} {f f' : Nat → Option Nat} {x : vp_A} {v : Option Value}
    (s1 : ∀ k, k ≠ 1 → σ'.1 k = σ.1 k) (sR : nR σ' = nR σ + 1) (s2 : ∀ k, k ≠ 2 → k ≠ 3 → σ'.2.1 k = σ.2.1 k) (sk : ∀ r, r < nR σ → kd σ' r = kd σ r ∧ ln σ' r = ln σ r) (s3 : ∀ k, k ≠ 4 → k ≠ 19 → σ'.2.2.1 k = σ.2.2.1 k) (s4 : ∀ r k, r < nR σ → k < ln σ r → el σ' r k = el σ r k)
    (hq : M q = none) (hf1 : hp_fr (fun _ => False) M M1) (hq1 : M1 q = some (.inl (G.2 (kd σ' (nR σ)), x))) (hs1 : hp_sh M M1) (hL : LAd G E0 M1 M' (qRl g) (qRe g) (gcp g 2 0) (nR σ) q f e' cap' f') (hf : ∀ r, r < nR σ → f r = some (qR g r)) (hs : hp_sh M1 M')
    (hx1 : XT (kd σ' (nR σ)) (ln σ' (nR σ)) x) (hx2 : ∀ k, k < ln σ' (nR σ) → CE (nU σ) (nJ σ) (fun u => qU g u) (fun y => qJ g y) (kd σ' (nR σ)) x k (el σ' (nR σ) k)) : SP G E0 g σ C M v σ' z ca v M' := by
  obtain ⟨l1, l2, l3, l4, l5⟩ := hL
  have hd1 : RD σ g C 1 0 0 := ⟨by decide, rfl, rfl⟩
  have hfr : hp_fr (fun b => b = qRl g ∨ (gcp g 2 0 ≠ 0 ∧ b = qRe g)) M M' := (hf1.weak (fun _ y => y.elim)).trans l5
  have hqr := h.fresh hq
  have he : (e' = qRe g ∧ gcp g 2 0 ≠ 0) ∨ (M e' = none ∧ e' ≠ q) := by
    rcases l4 with y | y
    · exact Or.inl y
    · refine Or.inr ⟨?_, fun e => ?_⟩
      · cases hm : M e' with
        | none => rfl
        | some w => have := hf1 _ _ (fun z => z) hm; rw [y] at this; cases this
      · rw [e] at y; rw [y] at hq1; cases hq1
  have hq' : M' q = some (.inl (G.2 (kd σ' (nR σ)), x)) := l5 _ _ (by
    rintro (y | ⟨y1, y2⟩)
    · exact hqr _ _ _ hd1 y.symm
    · exact hqr 2 0 0 ⟨rfl, rfl, y1⟩ y2.symm) hq1
  have hZ : ∀ a, (a = qRl g ∨ (gcp g 2 0 ≠ 0 ∧ a = qRe g)) → IsR σ g C a := by
    rintro a (rfl | ⟨y, rfl⟩)
    · exact ⟨1, 0, 0, hd1, rfl⟩
    · exact ⟨2, 0, 0, ⟨rfl, rfl, y⟩, rfl⟩
  refine ⟨rfl, _, h.addRow (f := f) s1 sR s2 sk s3 s4 hq l1 (fun r hr => by rw [l2 r hr]; exact hf r hr) l3 he hq' hx1 hx2 hfr, RKp.mk9 ?_ hfr hZ ?_ (hs1.trans hs)⟩
  · intro t i j h2 h4 h17 h19 hd h5 _
    refine gR_o h2 ?_
    rintro ⟨rfl, rfl, rfl⟩
    exact absurd (h5 rfl) (Nat.lt_irrefl _)
  · intro t i j hd
    rcases RD.gR sR (by unfold nU; rw [s1 5 (by decide)]) (by unfold nJ; rw [s1 8 (by decide)]) (s2 16 (by decide) (by decide)) hd with y | ⟨rfl, rfl, rfl⟩ | ⟨rfl, rfl, rfl⟩
    · exact Or.inl y
    · right; rw [gR_5]; exact hq
    · rw [gR_2]
      rcases he with ⟨y1, y2⟩ | ⟨y, -⟩
      · exact Or.inl ⟨⟨rfl, rfl, y2⟩, y1⟩
      · exact Or.inr y
/-- a unit is added -/
theorem SP.addUnit {G : hp_G} {E0 : Nat} {g : RG} {σ σ' : MS} {z : Nat → Int32} {ca : Int32} {C : Nat} {M M1 M' : hp_h} (h : REL G E0 g σ z ca C M) {q e' cap' : Nat} {f f' : Nat → Option Nat} {v : Option Value}
    (s1 : ∀ k, k ≠ 5 → σ'.1 k = σ.1 k) (sU : nU σ' = nU σ + 1) (s2 : ∀ k, k ≠ 6 → k ≠ 7 → σ'.2.1 k = σ.2.1 k) (sk : ∀ u, u < nU σ → σ'.2.1 6 u = σ.2.1 6 u ∧ σ'.2.1 7 u = σ.2.1 7 u) (s3 : σ'.2.2.1 = σ.2.2.1)
    (hq : M q = none) (hf1 : hp_fr (fun _ => False) M M1) (hq1 : M1 q = some (.inr (5 + (σ'.2.1 6 (nU σ)).toNatClampNeg, [.int (nI (nU σ)), .int (σ'.2.1 7 (nU σ))]))) (hs1 : hp_sh M M1) (hL : LAd G E0 M1 M' (qUl g) (qUe g) (gcp g 4 0) (nU σ) q f e' cap' f') (hf : ∀ r, r < nU σ → f r = some (qU g r)) (hs : hp_sh M1 M') : SP G E0 g σ C M v σ' z ca v M' := by
  obtain ⟨l1, l2, l3, l4, l5⟩ := hL
  have hd1 : RD σ g C 3 0 0 := ⟨by decide, rfl, rfl⟩
  have hfr : hp_fr (fun b => b = qUl g ∨ (gcp g 4 0 ≠ 0 ∧ b = qUe g)) M M' := (hf1.weak (fun _ y => y.elim)).trans l5
  have hqr := h.fresh hq
  have he : (e' = qUe g ∧ gcp g 4 0 ≠ 0) ∨ (M e' = none ∧ e' ≠ q) := by
    rcases l4 with y | y
    · exact Or.inl y
    · refine Or.inr ⟨?_, fun e => ?_⟩
      · cases hm : M e' with
        | none => rfl
        | some w => have := hf1 _ _ (fun z => z) hm; rw [y] at this; cases this
      · rw [e] at y; rw [y] at hq1; cases hq1
  have hq' : M' q = some (.inr (5 + (σ'.2.1 6 (nU σ)).toNatClampNeg, [.int (nI (nU σ)), .int (σ'.2.1 7 (nU σ))])) := l5 _ _ (by
    rintro (y | ⟨y1, y2⟩)
    · exact hqr _ _ _ hd1 y.symm
    · exact hqr 4 0 0 ⟨rfl, rfl, y1⟩ y2.symm) hq1
  have hZ : ∀ a, (a = qUl g ∨ (gcp g 4 0 ≠ 0 ∧ a = qUe g)) → IsR σ g C a := by
    rintro a (rfl | ⟨y, rfl⟩)
    · exact ⟨3, 0, 0, hd1, rfl⟩
    · exact ⟨4, 0, 0, ⟨rfl, rfl, y⟩, rfl⟩
  refine ⟨rfl, _, h.addUnit s1 sU s2 sk s3 hq l1 (fun r hr => by rw [l2 r hr]; exact hf r hr) l3 he hq' hfr, RKp.mk9 ?_ hfr hZ ?_ (hs1.trans hs)⟩
  · intro t i j h2 h4 h17 h19 hd h5 _
    refine gU_o h4 ?_
    rintro ⟨rfl, rfl, rfl⟩
    exact absurd hd.1 (Nat.lt_irrefl _)
  · intro t i j hd
    rcases RD.gU sU (by unfold nR; rw [s1 1 (by decide)]) (by unfold nJ; rw [s1 8 (by decide)]) (s2 16 (by decide) (by decide)) hd with y | ⟨rfl, rfl, rfl⟩ | ⟨rfl, rfl, rfl⟩
    · exact Or.inl y
    · right; rw [gU_6]; exact hq
    · rw [gU_4]
      rcases he with ⟨y1, y2⟩ | ⟨y, -⟩
      · exact Or.inl ⟨⟨rfl, rfl, y2⟩, y1⟩
      · exact Or.inr y
theorem le6 {k : Int32} (h : ¬ k < 6) : nI 5 < k := by
  rw [Int32.lt_iff_toInt_lt] at *
  have e0 : (6 : Int32).toInt = 6 := rfl
  have e1 : (nI 5).toInt = 5 := rfl
  omega
set_option maxHeartbeats 1000000 in
theorem c_X1_drop (l : Launch) (hl : l.stackTraces = false) (G : hp_G) (X : Nat → Nat) (N0 : Nat) (M : hp_h) (g : RG) (σ : MS) (z : Nat → Int32) (ca : Int32) (C9 : Nat) (hR : REL G (X 0) g σ z ca C9 M) (hI : MI σ) (pl : Int32) : HM l yX1_drop (ws_ yX1_drop cX1_drop 3 (some .int)) 0 0 0 0 G X N0 [.ref (qN g), .int pl] M (SP G (X 0) g σ C9 M (some (.int (mf_drop pl σ).1)) (mf_drop pl σ).2 z ca) PX0 := by
  refine HM.of hl [(0, .ref (qN g)), (1, .int pl)] (by decide +kernel) rfl (Nat.le_of_ble_eq_true rfl) ?_
  intro p e s m args below meth c C hname
  have hN := hR.N
  obtain ⟨fP, hPl, hPf⟩ := hR.Pl
  refine V_iload_n C dX1_drop_0 rfl 1 rfl ?_
  refine V_if_lt (tgt := 10) C dX1_drop_1 (by decide) (fun c_1 => ?_) (fun c_1 => ?_)
  · refine V_bipush (v := -101) C dX1_drop_10 rfl ?_
    refine V_iret C dX1_drop_12 rfl ?_ (by first | exact Nat.le_of_ble_eq_true rfl | omega | (dsimp only; omega) | (simp only [List.length_cons, List.length_nil]; omega)) (by first | exact Nat.le_of_ble_eq_true rfl | omega | (dsimp only; omega) | (simp only [List.length_cons, List.length_nil]; omega))
    rw [show mf_drop pl σ = (-101, σ) from if_pos (rngN (m := 5) (by decide) (Or.inl c_1))]
    exact SP.same hR
  · refine V_iload_n C dX1_drop_4 rfl 1 rfl ?_
    refine V_bipush (v := 6) C dX1_drop_5 rfl ?_
    refine V_icmp_lt (tgt := 13) C dX1_drop_7 (by decide) (fun c_7 => ?_) (fun c_7 => ?_)
    · obtain ⟨p, hp, rfl⟩ := (isRow_n (σ := sz σ 1 (nI 6)) (R := 6) (r := pl) rfl (by decide)).mp ⟨c_1, c_7⟩
      have hP9 := hR.P hp
      refine V_aload_n C dX1_drop_13 rfl 0 rfl ?_
      refine V_get C f_X1_126_0 hN (v := .ref (qPl g)) rfl dX1_drop_14 ?_
      refine V_iload_n C dX1_drop_17 rfl 1 rfl ?_
      refine V_aald C (j := 12) rfl rfl hPl (vp_in_nI (by omega) (by omega)) dX1_drop_18 ?_
      refine V_st (st' := [.ref (qP g p)]) (by rw [nI_clamp (by omega), (hPf p hp)]; rfl) ?_
      refine V_getN C f_X1_270_2 hP9 (v := .int (σ.2.1 16 p)) rfl dX1_drop_19 ?_
      refine V_istore_n C dX1_drop_22 rfl (Nat.le_of_ble_eq_true rfl) [(0, .ref (qN g)), (1, .int (nI p)), (2, .int (σ.2.1 16 p))] [1, 2, 0] rfl ?_
      refine V_pc (pc1 := 23) rfl ?_
      refine V_aload_n C dX1_drop_23 rfl 0 rfl ?_
      refine V_get C f_X1_126_0 hN (v := .ref (qPl g)) rfl dX1_drop_24 ?_
      refine V_iload_n C dX1_drop_27 rfl 1 rfl ?_
      refine V_aald C (j := 12) rfl rfl hPl (vp_in_nI (by omega) (by omega)) dX1_drop_28 ?_
      refine V_st (st' := [.ref (qP g p)]) (by rw [nI_clamp (by omega), (hPf p hp)]; rfl) ?_
      refine V_iconst (v := 0) C dX1_drop_29 rfl ?_
      refine V_putN C f_X1_270_2 hP9 rfl rfl (Nat.le_of_ble_eq_true rfl) dX1_drop_30 ?_
      obtain ⟨M_1, eM_2⟩ : ∃ z, z = hp_up M (qP g p) (.inr (2, [.ref (qPa g p), .int 0])) := ⟨_, rfl⟩
      refine V_heap (M' := M_1) eM_2.symm ?_
      have ho_3 : M_1 (qN g) = some (.inr (0, [.ref (qRl g), .ref (qUl g), .ref (qPl g), .ref (qHs g), .int (σ.1 20), .int (σ.1 14), .int (σ.1 11), .int (σ.1 12), .int (σ.1 15), .int (z 0), .int (z 1), .int (z 2), .int (z 3), .int (z 4), .int (z 5), .int ca, .ref (qAn g)])) := by rw [eM_2, hp_up_n (hp_ne hN hP9 (by simp))]; exact hN
      have ha_4 : M_1 (qPl g) = some (.inl (G.2 12, 6, .inr (.inr (.inr (.inr fP))))) := by rw [eM_2, hp_up_n (hp_ne hPl hP9 (by simp))]; exact hPl
      have eM_2_s : M_1 (qP g p) = some (.inr (2, [.ref (qPa g p), .int 0])) := by rw [eM_2]; exact hp_up_s
      refine V_iload_n C dX1_drop_33 rfl 2 rfl ?_
      refine V_iret C dX1_drop_34 rfl ?_ (by first | exact Nat.le_of_ble_eq_true rfl | omega | (dsimp only; omega) | (simp only [List.length_cons, List.length_nil]; omega)) (by first | exact Nat.le_of_ble_eq_true rfl | omega | (dsimp only; omega) | (simp only [List.length_cons, List.length_nil]; omega))
      have e9 : mf_drop (nI p) σ = (σ.2.1 16 p, si σ 16 (va_up (σ.2.1 16) p 0)) := by
        unfold mf_drop
        rw [if_neg (not_not_intro (show 0 ≤ (nI p).toInt64 ∧ (nI p).toInt64 ≤ 5 from rngY (m := 5) (by decide) (by omega))), nI_clamp (by omega)]
      rw [e9]
      refine ⟨rfl, g, ?_, RKp.set1 (t0 := 9) (i0 := p) (j0 := 0) (E' := .inr (2, [.ref (qPa g p), .int 0])) ⟨hp, rfl⟩ ?_ (hR.P hp) (show hp_sm (.inr (2, _)) (.inr (2, _)) from rfl) eM_2⟩
      · rw [eM_2]; exact hR.drop hp
      · intro t i j hd
        have h16 : ∀ i, psz (si σ 16 (va_up (σ.2.1 16) p 0)) i ≤ psz σ i := fun i => by
          unfold psz
          rw [si_g]
          by_cases h : i = p
          · subst h; rw [va_up_s]; exact Nat.zero_le _
          · rw [va_up_n h]; exact Nat.le_refl _
        unfold RD at hd ⊢
        split at hd <;> first | exact hd | exact ⟨hd.1, Nat.lt_of_lt_of_le hd.2 (h16 _)⟩
    · refine V_bipush (v := -101) C dX1_drop_10 rfl ?_
      refine V_iret C dX1_drop_12 rfl ?_ (by first | exact Nat.le_of_ble_eq_true rfl | omega | (dsimp only; omega) | (simp only [List.length_cons, List.length_nil]; omega)) (by first | exact Nat.le_of_ble_eq_true rfl | omega | (dsimp only; omega) | (simp only [List.length_cons, List.length_nil]; omega))
      rw [show mf_drop pl σ = (-101, σ) from if_pos (rngN (m := 5) (by decide) (Or.inr (le6 c_7)))]
      exact SP.same hR
set_option maxHeartbeats 1000000 in
theorem c_X1_row (l : Launch) (hl : l.stackTraces = false) (G : hp_G) (X : Nat → Nat) (N0 : Nat) (M : hp_h) (g : RG) (σ : MS) (z : Nat → Int32) (ca : Int32) (C9 : Nat) (hR : REL G (X 0) g σ z ca C9 M) (hI : MI σ) (k n : Int32) : HM l yX1_row (ws_ yX1_row cX1_row 3 (some .int)) 7 161 2 128 G X N0 [.ref (qN g), .int k, .int n] M (SP G (X 0) g σ C9 M (some (.int (mf_row (nR σ) k n σ).1)) (mf_row (nR σ) k n σ).2 z ca) PX0 := by
  refine HM.of hl [(0, .ref (qN g)), (1, .int k), (2, .int n)] (by decide +kernel) rfl (Nat.le_of_ble_eq_true rfl) ?_
  intro p e s m args below meth c C hname
  have hN := hR.N
  obtain ⟨mdR, hRl⟩ := hR.Rl
  obtain ⟨fR, hRs, hRf⟩ := hR.Rls
  refine V_iload_n C dX1_row_0 rfl 1 rfl ?_
  refine V_if_lt (tgt := 20) C dX1_row_1 (by decide) (fun c_1 => ?_) (fun c_1 => ?_)
  · refine V_bipush (v := -102) C dX1_row_20 rfl ?_
    refine V_iret C dX1_row_22 rfl ?_ (by first | exact Nat.le_of_ble_eq_true rfl | omega | (dsimp only; omega) | (simp only [List.length_cons, List.length_nil]; omega)) (by first | exact Nat.le_of_ble_eq_true rfl | omega | (dsimp only; omega) | (simp only [List.length_cons, List.length_nil]; omega))
    rw [show mf_row (nR σ) k n σ = (-102, σ) from if_neg (fun y => rngN (m := 10) (by decide) (Or.inl c_1) y.1)]
    exact SP.same hR
  · refine V_iload_n C dX1_row_4 rfl 1 rfl ?_
    refine V_bipush (v := 10) C dX1_row_5 rfl ?_
    refine V_icmp_gt (tgt := 20) C dX1_row_7 (by decide) (fun c_7 => ?_) (fun c_7 => ?_)
    · refine V_bipush (v := -102) C dX1_row_20 rfl ?_
      refine V_iret C dX1_row_22 rfl ?_ (by first | exact Nat.le_of_ble_eq_true rfl | omega | (dsimp only; omega) | (simp only [List.length_cons, List.length_nil]; omega)) (by first | exact Nat.le_of_ble_eq_true rfl | omega | (dsimp only; omega) | (simp only [List.length_cons, List.length_nil]; omega))
      rw [show mf_row (nR σ) k n σ = (-102, σ) from if_neg (fun y => rngN (m := 10) (by decide) (Or.inr c_7) y.1)]
      exact SP.same hR
    · refine V_iload_n C dX1_row_10 rfl 2 rfl ?_
      refine V_if_lt (tgt := 20) C dX1_row_11 (by decide) (fun c_11 => ?_) (fun c_11 => ?_)
      · refine V_bipush (v := -102) C dX1_row_20 rfl ?_
        refine V_iret C dX1_row_22 rfl ?_ (by first | exact Nat.le_of_ble_eq_true rfl | omega | (dsimp only; omega) | (simp only [List.length_cons, List.length_nil]; omega)) (by first | exact Nat.le_of_ble_eq_true rfl | omega | (dsimp only; omega) | (simp only [List.length_cons, List.length_nil]; omega))
        rw [show mf_row (nR σ) k n σ = (-102, σ) from if_neg (fun y => rngN (m := 40) (by decide) (Or.inl c_11) y.2)]
        exact SP.same hR
      · refine V_iload_n C dX1_row_14 rfl 2 rfl ?_
        refine V_bipush (v := 40) C dX1_row_15 rfl ?_
        refine V_icmp_le (tgt := 23) C dX1_row_17 (by decide) (fun c_17 => ?_) (fun c_17 => ?_)
        · obtain ⟨kk, hk, rfl⟩ := rngI (m := 10) (by decide) c_1 (Int32.not_lt.mp c_7)
          obtain ⟨nn, hn, rfl⟩ := rngI (m := 40) (by decide) c_11 c_17
          have hR60 := hI.R.2
          refine V_aload_n C dX1_row_23 rfl 0 rfl ?_
          refine V_pc (pc1 := 24) rfl ?_
          refine V_get C f_X1_115_0 hN (v := .ref (qRl g)) rfl dX1_row_24 ?_
          refine V_callV C (c_J2_size l hl G X N0 M (qRl g) (qRe g) (nR σ) mdR hRl) cs_X1_180_1 hRl (show CLS[1]? = some (RJ2, TJ2, 3) from rfl) rfl rfl ⟨Nat.le_of_ble_eq_true rfl, Nat.le_of_ble_eq_true rfl⟩ ⟨(by first | exact Nat.le_of_ble_eq_true rfl | omega | (dsimp only; omega) | (simp only [List.length_cons, List.length_nil]; omega)), (by first | exact Nat.le_of_ble_eq_true rfl | omega | (dsimp only; omega) | (simp only [List.length_cons, List.length_nil]; omega))⟩ (Nat.le_of_ble_eq_true rfl) dX1_row_27 (fun _ _ _ h => px0 h) ?_
          rintro _ _ ⟨rfl, rfl⟩
          refine V_st (st' := [.int (nI (nR σ))]) rfl ?_
          refine V_bipush (v := 60) C dX1_row_30 rfl ?_
          refine V_icmp_ne (tgt := 38) C dX1_row_32 (by decide) (fun c_32 => ?_) (fun c_32 => ?_)
          · have hR59 : nR σ < 60 := by
                have := hI.R.2
                have hne : nR σ ≠ 60 := fun y => c_32 (by rw [y]; rfl)
                omega
            refine V_aload_n C dX1_row_38 rfl 0 rfl ?_
            refine V_get C f_X1_115_0 hN (v := .ref (qRl g)) rfl dX1_row_39 ?_
            refine V_iload_n C dX1_row_42 rfl 1 rfl ?_
            refine V_iload_n C dX1_row_43 rfl 2 rfl ?_
            have hfr : hp_fr (fun _ => False) M M := hp_fr.rf
            have hsh : hp_sh M M := hp_sh.rf
            refine V_callS C (c_X1_made l hl G X N0 M kk nn hk (by omega)) cs_X1_38 rfl rfl ⟨Nat.le_of_ble_eq_true rfl, Nat.le_of_ble_eq_true rfl⟩ ⟨(by first | exact Nat.le_of_ble_eq_true rfl | omega | (dsimp only; omega) | (simp only [List.length_cons, List.length_nil]; omega)), (by first | exact Nat.le_of_ble_eq_true rfl | omega | (dsimp only; omega) | (simp only [List.length_cons, List.length_nil]; omega))⟩ (Nat.le_of_ble_eq_true rfl) dX1_row_44 (fun _ _ _ h => px0 h) ?_
            rintro _ M_3 ⟨q_1, rfl, hq_2, eM_4⟩
            refine V_st (st' := [.ref q_1, .ref (qRl g)]) rfl ?_
            have ne_5 : (qN g) ≠ q_1 := hp_ne0 hN hq_2
            have ho_6 : M_3 (qN g) = some (.inr (0, [.ref (qRl g), .ref (qUl g), .ref (qPl g), .ref (qHs g), .int (σ.1 20), .int (σ.1 14), .int (σ.1 11), .int (σ.1 12), .int (σ.1 15), .int (z 0), .int (z 1), .int (z 2), .int (z 3), .int (z 4), .int (z 5), .int ca, .ref (qAn g)])) := by rw [eM_4, hp_up_n ne_5]; exact hN
            have ne_7 : (qRl g) ≠ q_1 := hp_ne0 hRl hq_2
            have ho_8 : M_3 (qRl g) = some (.inr (1, [.int mdR, .ref (qRe g), .int (nI (nR σ))])) := by rw [eM_4, hp_up_n ne_7]; exact hRl
            have hn_9 : M_3 q_1 = some (.inl (G.2 kk, (nn, ZK kk))) := by rw [eM_4]; exact hp_up_s
            have fr_10 := hp_fr.new hfr hq_2 eM_4
            have nn_11 := hp_fr.nn hfr hq_2
            have sh_12 := hp_sh.new hsh hq_2 eM_4
            obtain ⟨zc, zs, hzc, hzs, bc, bs9⟩ := add_z (nR σ) (gcp g 2 0)
            have bs := bs9 (by omega)
            have hS_14 := hRs.fr fr_10 (fun z => z) (fun _ z => z)
            refine V_callV C (c_J2_addZ (X := X) (N0 := N0) l hl (qRl g) (qRe g) (gcp g 2 0) (nR σ) q_1 zc zs fR hzc hzs hS_14 (by omega) (AS_row hk hn_9) (fun i hi y hy => (hR.elR hI hRf i hi y hy).sh0 sh_12)) cs_X1_214_1 ho_8 (show CLS[1]? = some (RJ2, TJ2, 3) from rfl) rfl rfl ⟨Nat.le_of_ble_eq_true rfl, Nat.le_of_ble_eq_true rfl⟩ ⟨(by first | exact Nat.le_of_ble_eq_true rfl | omega | (dsimp only; omega) | (simp only [List.length_cons, List.length_nil]; omega)), (by first | exact Nat.le_of_ble_eq_true rfl | omega | (dsimp only; omega) | (simp only [List.length_cons, List.length_nil]; omega))⟩ (Nat.le_of_ble_eq_true rfl) dX1_row_47 (fun _ _ _ h => px0 h) ?_
            rintro _ M_13 ⟨rfl, e', cap', f', hLA, hshA⟩
            refine V_st (st' := [.int 1]) rfl ?_
            obtain ⟨mdA, hLo⟩ := hLA.1.1
            have ho_15 : M_13 (qN g) = some (.inr (0, [.ref (qRl g), .ref (qUl g), .ref (qPl g), .ref (qHs g), .int (σ.1 20), .int (σ.1 14), .int (σ.1 11), .int (σ.1 12), .int (σ.1 15), .int (z 0), .int (z 1), .int (z 2), .int (z 3), .int (z 4), .int (z 5), .int ca, .ref (qAn g)])) := hLA.2.2.2.2 _ _ (fun y => y.elim (fun y => hR.ne (t := 0) (i := 0) (j := 0) (t' := 1) (i' := 0) (j' := 0) ⟨by decide, rfl, rfl⟩ ⟨by decide, rfl, rfl⟩ (by simp) y) (fun y => hR.ne (t := 0) (i := 0) (j := 0) (t' := 2) (i' := 0) (j' := 0) ⟨by decide, rfl, rfl⟩ ⟨rfl, rfl, y.1⟩ (by simp) y.2)) ho_6
            refine V_pop C dX1_row_50 rfl ?_
            refine V_aload_n C dX1_row_51 rfl 0 rfl ?_
            refine V_pc (pc1 := 52) rfl ?_
            refine V_get C f_X1_115_0 ho_15 (v := .ref (qRl g)) rfl dX1_row_52 ?_
            refine V_callV C (c_J2_size l hl G X N0 M_13 (qRl g) e' (nR σ + 1) mdA hLo) cs_X1_180_1 hLo (show CLS[1]? = some (RJ2, TJ2, 3) from rfl) rfl rfl ⟨Nat.le_of_ble_eq_true rfl, Nat.le_of_ble_eq_true rfl⟩ ⟨(by first | exact Nat.le_of_ble_eq_true rfl | omega | (dsimp only; omega) | (simp only [List.length_cons, List.length_nil]; omega)), (by first | exact Nat.le_of_ble_eq_true rfl | omega | (dsimp only; omega) | (simp only [List.length_cons, List.length_nil]; omega))⟩ (Nat.le_of_ble_eq_true rfl) dX1_row_55 (fun _ _ _ h => px0 h) ?_
            rintro _ _ ⟨rfl, rfl⟩
            refine V_st (st' := [.int (nI (nR σ + 1))]) rfl ?_
            refine V_iconst (v := 1) C dX1_row_58 rfl ?_
            refine V_isub C dX1_row_59 ?_
            refine V_iret C dX1_row_60 rfl ?_ (by first | exact Nat.le_of_ble_eq_true rfl | omega | (dsimp only; omega) | (simp only [List.length_cons, List.length_nil]; omega)) (by first | exact Nat.le_of_ble_eq_true rfl | omega | (dsimp only; omega) | (simp only [List.length_cons, List.length_nil]; omega))
            have e9 : mf_row (nR σ) (nI kk) (nI nn) σ = (nI (nR σ), mf_newRow (nR σ) nn (nI kk) σ) := by
              unfold mf_row
              rw [if_pos (show (0 ≤ (nI kk).toInt64 ∧ (nI kk).toInt64 ≤ 10) ∧ (0 ≤ (nI nn).toInt64 ∧ (nI nn).toInt64 ≤ 40) from ⟨rngY (m := 10) (by decide) hk, rngY (m := 40) (by decide) hn⟩), if_neg (show ¬ nR σ = 60 by omega), nI_clamp (n := nn) (by omega)]
            rw [e9, show nI (nR σ + 1) - 1 = nI (nR σ) from nI_pred _]
            have k1 : kd (mf_newRow (nR σ) nn (nI kk) σ) (nR σ) = kk := by unfold kd; rw [newRow_kR.1, nI_clamp (by omega)]
            have k2 : ln (mf_newRow (nR σ) nn (nI kk) σ) (nR σ) = nn := by unfold ln; rw [newRow_kR.2, nI_clamp (by omega)]
            exact SP.addRow hR hI (x := (nn, ZK kk)) (fun k hk => newRow_1 hk) (by unfold nR; rw [newRow_R, nI_clamp (show nR σ + 1 < 2 ^ 31 by omega)]) (fun k h h3 => newRow_2 h h3) (fun r hr => by have := newRow_k (σ := σ) (R := nR σ) (N := nn) (k := nI kk) (Nat.ne_of_lt hr); unfold kd ln; rw [this.1, this.2]; exact ⟨rfl, rfl⟩) (fun k h _ => newRow_3 h) (fun r k hr hk => newRow_el hr (by have := (hI.l hr).2; omega)) hq_2 fr_10 (by rw [k1]; exact hn_9) sh_12 hLA hRf hshA (by rw [k1, k2]; exact ⟨rfl, CT_ZK hk⟩) (fun k hk2 => by rw [k2] at hk2; rw [k1, newRow_elR hk2]; exact CE.new hk)
          · refine V_bipush (v := -104) C dX1_row_35 rfl ?_
            refine V_iret C dX1_row_37 rfl ?_ (by first | exact Nat.le_of_ble_eq_true rfl | omega | (dsimp only; omega) | (simp only [List.length_cons, List.length_nil]; omega)) (by first | exact Nat.le_of_ble_eq_true rfl | omega | (dsimp only; omega) | (simp only [List.length_cons, List.length_nil]; omega))
            have hR60 : nR σ = 60 := (nI_eq (b := 60) (by omega) (by decide)).mp c_32
            rw [show mf_row (nR σ) (nI kk) (nI nn) σ = (-104, σ) from by unfold mf_row; rw [if_pos (show (0 ≤ (nI kk).toInt64 ∧ (nI kk).toInt64 ≤ 10) ∧ (0 ≤ (nI nn).toInt64 ∧ (nI nn).toInt64 ≤ 40) from ⟨rngY (m := 10) (by decide) hk, rngY (m := 40) (by decide) hn⟩), if_pos hR60]]
            exact SP.same hR
        · refine V_bipush (v := -102) C dX1_row_20 rfl ?_
          refine V_pc (pc1 := 22) rfl ?_
          refine V_iret C dX1_row_22 rfl ?_ (by first | exact Nat.le_of_ble_eq_true rfl | omega | (dsimp only; omega) | (simp only [List.length_cons, List.length_nil]; omega)) (by first | exact Nat.le_of_ble_eq_true rfl | omega | (dsimp only; omega) | (simp only [List.length_cons, List.length_nil]; omega))
          rw [show mf_row (nR σ) k n σ = (-102, σ) from if_neg (fun y => rngN (m := 40) (by decide) (Or.inr (Int32.not_le.mp c_17)) y.2)]
          exact SP.same hR
set_option maxHeartbeats 1000000 in
theorem c_X21_init_5 (l : Launch) (hl : l.stackTraces = false) (G : hp_G) (X : Nat → Nat) (N0 : Nat) (M : hp_h) (a : Nat) (ha : M a = some (.inr (5, [.int 0, .int 0]))) (k1 : Int32) (v1 : Int32) : HM l yX21_init (ws_ yX21_init cX21_init 3 none) 1 24 0 0 G X N0 [.ref a, .int k1, .int v1] M (fun v9 M' => v9 = none ∧ M' a = some (.inr (5, [.int k1, .int v1])) ∧ hp_fr (fun b => b = a) M M' ∧ hp_sh M M') PX0 := by
  refine HM.of hl [(0, .ref a), (1, .int k1), (2, .int v1)] (by decide +kernel) rfl (Nat.le_of_ble_eq_true rfl) ?_
  intro p e s m args below meth c C hname
  have hfr : hp_fr (fun b => b = a) M M := hp_fr.rf
  have hsh : hp_sh M M := hp_sh.rf
  refine V_aload_n C dX21_init_0 rfl 0 rfl ?_
  refine V_obj C cs_X21_1 ⟨Nat.le_of_ble_eq_true rfl, Nat.le_of_ble_eq_true rfl⟩ dX21_init_1 ?_
  refine V_aload_n C dX21_init_4 rfl 0 rfl ?_
  refine V_iload_n C dX21_init_5 rfl 1 rfl ?_
  refine V_putF C hname f_X21_7_5 ha rfl rfl (Nat.le_of_ble_eq_true rfl) dX21_init_6 ?_
  obtain ⟨M_1, eM_2⟩ : ∃ z, z = hp_up M a (.inr (5, [.int k1, .int 0])) := ⟨_, rfl⟩
  refine V_heap (M' := M_1) eM_2.symm ?_
  have eM_2_s : M_1 a = some (.inr (5, [.int k1, .int 0])) := by rw [eM_2]; exact hp_up_s
  have fr_3 := hp_fr.set hfr (Or.inl rfl) eM_2
  have sh_4 := hp_sh.set hsh ha eM_2 rfl
  refine V_aload_n C dX21_init_9 rfl 0 rfl ?_
  refine V_iload_n C dX21_init_10 rfl 2 rfl ?_
  refine V_putF C hname f_X21_13_5 eM_2_s rfl rfl (Nat.le_of_ble_eq_true rfl) dX21_init_11 ?_
  obtain ⟨M_5, eM_6⟩ : ∃ z, z = hp_up M_1 a (.inr (5, [.int k1, .int v1])) := ⟨_, rfl⟩
  refine V_heap (M' := M_5) eM_6.symm ?_
  have eM_6_s : M_5 a = some (.inr (5, [.int k1, .int v1])) := by rw [eM_6]; exact hp_up_s
  have fr_7 := hp_fr.set fr_3 (Or.inl rfl) eM_6
  have sh_8 := hp_sh.set sh_4 eM_2_s eM_6 rfl
  refine V_vret C dX21_init_14 rfl ?_ (by first | exact Nat.le_of_ble_eq_true rfl | omega | (dsimp only; omega) | (simp only [List.length_cons, List.length_nil]; omega)) (by first | exact Nat.le_of_ble_eq_true rfl | omega | (dsimp only; omega) | (simp only [List.length_cons, List.length_nil]; omega))
  exact ⟨rfl, eM_6_s, fr_7, sh_8⟩
set_option maxHeartbeats 1000000 in
theorem c_X21_init_6 (l : Launch) (hl : l.stackTraces = false) (G : hp_G) (X : Nat → Nat) (N0 : Nat) (M : hp_h) (a : Nat) (ha : M a = some (.inr (6, [.int 0, .int 0]))) (k1 : Int32) (v1 : Int32) : HM l yX21_init (ws_ yX21_init cX21_init 3 none) 1 24 0 0 G X N0 [.ref a, .int k1, .int v1] M (fun v9 M' => v9 = none ∧ M' a = some (.inr (6, [.int k1, .int v1])) ∧ hp_fr (fun b => b = a) M M' ∧ hp_sh M M') PX0 := by
  refine HM.of hl [(0, .ref a), (1, .int k1), (2, .int v1)] (by decide +kernel) rfl (Nat.le_of_ble_eq_true rfl) ?_
  intro p e s m args below meth c C hname
  have hfr : hp_fr (fun b => b = a) M M := hp_fr.rf
  have hsh : hp_sh M M := hp_sh.rf
  refine V_aload_n C dX21_init_0 rfl 0 rfl ?_
  refine V_obj C cs_X21_1 ⟨Nat.le_of_ble_eq_true rfl, Nat.le_of_ble_eq_true rfl⟩ dX21_init_1 ?_
  refine V_aload_n C dX21_init_4 rfl 0 rfl ?_
  refine V_iload_n C dX21_init_5 rfl 1 rfl ?_
  refine V_putF C hname f_X21_7_6 ha rfl rfl (Nat.le_of_ble_eq_true rfl) dX21_init_6 ?_
  obtain ⟨M_1, eM_2⟩ : ∃ z, z = hp_up M a (.inr (6, [.int k1, .int 0])) := ⟨_, rfl⟩
  refine V_heap (M' := M_1) eM_2.symm ?_
  have eM_2_s : M_1 a = some (.inr (6, [.int k1, .int 0])) := by rw [eM_2]; exact hp_up_s
  have fr_3 := hp_fr.set hfr (Or.inl rfl) eM_2
  have sh_4 := hp_sh.set hsh ha eM_2 rfl
  refine V_aload_n C dX21_init_9 rfl 0 rfl ?_
  refine V_iload_n C dX21_init_10 rfl 2 rfl ?_
  refine V_putF C hname f_X21_13_6 eM_2_s rfl rfl (Nat.le_of_ble_eq_true rfl) dX21_init_11 ?_
  obtain ⟨M_5, eM_6⟩ : ∃ z, z = hp_up M_1 a (.inr (6, [.int k1, .int v1])) := ⟨_, rfl⟩
  refine V_heap (M' := M_5) eM_6.symm ?_
  have eM_6_s : M_5 a = some (.inr (6, [.int k1, .int v1])) := by rw [eM_6]; exact hp_up_s
  have fr_7 := hp_fr.set fr_3 (Or.inl rfl) eM_6
  have sh_8 := hp_sh.set sh_4 eM_2_s eM_6 rfl
  refine V_vret C dX21_init_14 rfl ?_ (by first | exact Nat.le_of_ble_eq_true rfl | omega | (dsimp only; omega) | (simp only [List.length_cons, List.length_nil]; omega)) (by first | exact Nat.le_of_ble_eq_true rfl | omega | (dsimp only; omega) | (simp only [List.length_cons, List.length_nil]; omega))
  exact ⟨rfl, eM_6_s, fr_7, sh_8⟩
set_option maxHeartbeats 1000000 in
theorem c_X21_init_7 (l : Launch) (hl : l.stackTraces = false) (G : hp_G) (X : Nat → Nat) (N0 : Nat) (M : hp_h) (a : Nat) (ha : M a = some (.inr (7, [.int 0, .int 0]))) (k1 : Int32) (v1 : Int32) : HM l yX21_init (ws_ yX21_init cX21_init 3 none) 1 24 0 0 G X N0 [.ref a, .int k1, .int v1] M (fun v9 M' => v9 = none ∧ M' a = some (.inr (7, [.int k1, .int v1])) ∧ hp_fr (fun b => b = a) M M' ∧ hp_sh M M') PX0 := by
  refine HM.of hl [(0, .ref a), (1, .int k1), (2, .int v1)] (by decide +kernel) rfl (Nat.le_of_ble_eq_true rfl) ?_
  intro p e s m args below meth c C hname
  have hfr : hp_fr (fun b => b = a) M M := hp_fr.rf
  have hsh : hp_sh M M := hp_sh.rf
  refine V_aload_n C dX21_init_0 rfl 0 rfl ?_
  refine V_obj C cs_X21_1 ⟨Nat.le_of_ble_eq_true rfl, Nat.le_of_ble_eq_true rfl⟩ dX21_init_1 ?_
  refine V_aload_n C dX21_init_4 rfl 0 rfl ?_
  refine V_iload_n C dX21_init_5 rfl 1 rfl ?_
  refine V_putF C hname f_X21_7_7 ha rfl rfl (Nat.le_of_ble_eq_true rfl) dX21_init_6 ?_
  obtain ⟨M_1, eM_2⟩ : ∃ z, z = hp_up M a (.inr (7, [.int k1, .int 0])) := ⟨_, rfl⟩
  refine V_heap (M' := M_1) eM_2.symm ?_
  have eM_2_s : M_1 a = some (.inr (7, [.int k1, .int 0])) := by rw [eM_2]; exact hp_up_s
  have fr_3 := hp_fr.set hfr (Or.inl rfl) eM_2
  have sh_4 := hp_sh.set hsh ha eM_2 rfl
  refine V_aload_n C dX21_init_9 rfl 0 rfl ?_
  refine V_iload_n C dX21_init_10 rfl 2 rfl ?_
  refine V_putF C hname f_X21_13_7 eM_2_s rfl rfl (Nat.le_of_ble_eq_true rfl) dX21_init_11 ?_
  obtain ⟨M_5, eM_6⟩ : ∃ z, z = hp_up M_1 a (.inr (7, [.int k1, .int v1])) := ⟨_, rfl⟩
  refine V_heap (M' := M_5) eM_6.symm ?_
  have eM_6_s : M_5 a = some (.inr (7, [.int k1, .int v1])) := by rw [eM_6]; exact hp_up_s
  have fr_7 := hp_fr.set fr_3 (Or.inl rfl) eM_6
  have sh_8 := hp_sh.set sh_4 eM_2_s eM_6 rfl
  refine V_vret C dX21_init_14 rfl ?_ (by first | exact Nat.le_of_ble_eq_true rfl | omega | (dsimp only; omega) | (simp only [List.length_cons, List.length_nil]; omega)) (by first | exact Nat.le_of_ble_eq_true rfl | omega | (dsimp only; omega) | (simp only [List.length_cons, List.length_nil]; omega))
  exact ⟨rfl, eM_6_s, fr_7, sh_8⟩
set_option maxHeartbeats 1000000 in
theorem c_X22_init_6 (l : Launch) (hl : l.stackTraces = false) (G : hp_G) (X : Nat → Nat) (N0 : Nat) (M : hp_h) (a : Nat) (ha : M a = some (.inr (6, [.int 0, .int 0]))) (k1 : Int32) (v1 : Int32) : HM l yX22_init (ws_ yX22_init cX22_init 3 none) 2 46 0 0 G X N0 [.ref a, .int k1, .int v1] M (fun v9 M' => v9 = none ∧ M' a = some (.inr (6, [.int k1, .int v1])) ∧ hp_fr (fun b => b = a) M M' ∧ hp_sh M M') PX0 := by
  refine HM.of hl [(0, .ref a), (1, .int k1), (2, .int v1)] (by decide +kernel) rfl (Nat.le_of_ble_eq_true rfl) ?_
  intro p e s m args below meth c C hname
  have hfr : hp_fr (fun b => b = a) M M := hp_fr.rf
  have hsh : hp_sh M M := hp_sh.rf
  refine V_aload_n C dX22_init_0 rfl 0 rfl ?_
  refine V_iload_n C dX22_init_1 rfl 1 rfl ?_
  refine V_iload_n C dX22_init_2 rfl 2 rfl ?_
  refine V_callI C (c_X21_init_6 l hl G X N0 M a ha k1 v1) cs_X22_1 rfl rfl ⟨Nat.le_of_ble_eq_true rfl, Nat.le_of_ble_eq_true rfl⟩ ⟨(by first | exact Nat.le_of_ble_eq_true rfl | omega | (dsimp only; omega) | (simp only [List.length_cons, List.length_nil]; omega)), (by first | exact Nat.le_of_ble_eq_true rfl | omega | (dsimp only; omega) | (simp only [List.length_cons, List.length_nil]; omega))⟩ (Nat.le_of_ble_eq_true rfl) dX22_init_3 (fun _ _ _ h => px0 h) ?_
  rintro _ M_1 ⟨rfl, ho_2, fr_3, sh_4⟩
  refine V_st (st' := []) rfl ?_
  have fr_5 := hp_fr.after hfr fr_3 (Or.inl rfl)
  have sh_6 := hsh.trans sh_4
  refine V_vret C dX22_init_6 rfl ?_ (by first | exact Nat.le_of_ble_eq_true rfl | omega | (dsimp only; omega) | (simp only [List.length_cons, List.length_nil]; omega)) (by first | exact Nat.le_of_ble_eq_true rfl | omega | (dsimp only; omega) | (simp only [List.length_cons, List.length_nil]; omega))
  exact ⟨rfl, ho_2, fr_5, sh_6⟩
set_option maxHeartbeats 1000000 in
theorem c_X22_init_7 (l : Launch) (hl : l.stackTraces = false) (G : hp_G) (X : Nat → Nat) (N0 : Nat) (M : hp_h) (a : Nat) (ha : M a = some (.inr (7, [.int 0, .int 0]))) (k1 : Int32) (v1 : Int32) : HM l yX22_init (ws_ yX22_init cX22_init 3 none) 2 46 0 0 G X N0 [.ref a, .int k1, .int v1] M (fun v9 M' => v9 = none ∧ M' a = some (.inr (7, [.int k1, .int v1])) ∧ hp_fr (fun b => b = a) M M' ∧ hp_sh M M') PX0 := by
  refine HM.of hl [(0, .ref a), (1, .int k1), (2, .int v1)] (by decide +kernel) rfl (Nat.le_of_ble_eq_true rfl) ?_
  intro p e s m args below meth c C hname
  have hfr : hp_fr (fun b => b = a) M M := hp_fr.rf
  have hsh : hp_sh M M := hp_sh.rf
  refine V_aload_n C dX22_init_0 rfl 0 rfl ?_
  refine V_iload_n C dX22_init_1 rfl 1 rfl ?_
  refine V_iload_n C dX22_init_2 rfl 2 rfl ?_
  refine V_callI C (c_X21_init_7 l hl G X N0 M a ha k1 v1) cs_X22_1 rfl rfl ⟨Nat.le_of_ble_eq_true rfl, Nat.le_of_ble_eq_true rfl⟩ ⟨(by first | exact Nat.le_of_ble_eq_true rfl | omega | (dsimp only; omega) | (simp only [List.length_cons, List.length_nil]; omega)), (by first | exact Nat.le_of_ble_eq_true rfl | omega | (dsimp only; omega) | (simp only [List.length_cons, List.length_nil]; omega))⟩ (Nat.le_of_ble_eq_true rfl) dX22_init_3 (fun _ _ _ h => px0 h) ?_
  rintro _ M_1 ⟨rfl, ho_2, fr_3, sh_4⟩
  refine V_st (st' := []) rfl ?_
  have fr_5 := hp_fr.after hfr fr_3 (Or.inl rfl)
  have sh_6 := hsh.trans sh_4
  refine V_vret C dX22_init_6 rfl ?_ (by first | exact Nat.le_of_ble_eq_true rfl | omega | (dsimp only; omega) | (simp only [List.length_cons, List.length_nil]; omega)) (by first | exact Nat.le_of_ble_eq_true rfl | omega | (dsimp only; omega) | (simp only [List.length_cons, List.length_nil]; omega))
  exact ⟨rfl, ho_2, fr_5, sh_6⟩
set_option maxHeartbeats 1000000 in
theorem c_X23_init_7 (l : Launch) (hl : l.stackTraces = false) (G : hp_G) (X : Nat → Nat) (N0 : Nat) (M : hp_h) (a : Nat) (ha : M a = some (.inr (7, [.int 0, .int 0]))) (k1 : Int32) (v1 : Int32) : HM l yX23_init (ws_ yX23_init cX23_init 3 none) 3 68 0 0 G X N0 [.ref a, .int k1, .int v1] M (fun v9 M' => v9 = none ∧ M' a = some (.inr (7, [.int k1, .int v1])) ∧ hp_fr (fun b => b = a) M M' ∧ hp_sh M M') PX0 := by
  refine HM.of hl [(0, .ref a), (1, .int k1), (2, .int v1)] (by decide +kernel) rfl (Nat.le_of_ble_eq_true rfl) ?_
  intro p e s m args below meth c C hname
  have hfr : hp_fr (fun b => b = a) M M := hp_fr.rf
  have hsh : hp_sh M M := hp_sh.rf
  refine V_aload_n C dX23_init_0 rfl 0 rfl ?_
  refine V_iload_n C dX23_init_1 rfl 1 rfl ?_
  refine V_iload_n C dX23_init_2 rfl 2 rfl ?_
  refine V_callI C (c_X22_init_7 l hl G X N0 M a ha k1 v1) cs_X23_1 rfl rfl ⟨Nat.le_of_ble_eq_true rfl, Nat.le_of_ble_eq_true rfl⟩ ⟨(by first | exact Nat.le_of_ble_eq_true rfl | omega | (dsimp only; omega) | (simp only [List.length_cons, List.length_nil]; omega)), (by first | exact Nat.le_of_ble_eq_true rfl | omega | (dsimp only; omega) | (simp only [List.length_cons, List.length_nil]; omega))⟩ (Nat.le_of_ble_eq_true rfl) dX23_init_3 (fun _ _ _ h => px0 h) ?_
  rintro _ M_1 ⟨rfl, ho_2, fr_3, sh_4⟩
  refine V_st (st' := []) rfl ?_
  have fr_5 := hp_fr.after hfr fr_3 (Or.inl rfl)
  have sh_6 := hsh.trans sh_4
  refine V_vret C dX23_init_6 rfl ?_ (by first | exact Nat.le_of_ble_eq_true rfl | omega | (dsimp only; omega) | (simp only [List.length_cons, List.length_nil]; omega)) (by first | exact Nat.le_of_ble_eq_true rfl | omega | (dsimp only; omega) | (simp only [List.length_cons, List.length_nil]; omega))
  exact ⟨rfl, ho_2, fr_5, sh_6⟩
set_option maxHeartbeats 1000000 in
theorem c_X1_unit (l : Launch) (hl : l.stackTraces = false) (G : hp_G) (X : Nat → Nat) (N0 : Nat) (M : hp_h) (g : RG) (σ : MS) (z : Nat → Int32) (ca : Int32) (C9 : Nat) (hR : REL G (X 0) g σ z ca C9 M) (hI : MI σ) (c0 n : Int32) : HM l yX1_unit (ws_ yX1_unit cX1_unit 4 (some .int)) 7 161 2 90 G X N0 [.ref (qN g), .int c0, .int n] M (SP G (X 0) g σ C9 M (some (.int (mf_unit (nU σ) c0 n σ).1)) (mf_unit (nU σ) c0 n σ).2 z ca) PX0 := by
  refine HM.of hl [(0, .ref (qN g)), (1, .int c0), (2, .int n)] (by decide +kernel) rfl (Nat.le_of_ble_eq_true rfl) ?_
  intro p e s m args below meth c C hname
  have hN := hR.N
  obtain ⟨mdU, hUl⟩ := hR.Ul
  obtain ⟨fU, hUs, hUf⟩ := hR.Uls
  refine V_iload_n C dX1_unit_0 rfl 1 rfl ?_
  refine V_if_lt (tgt := 9) C dX1_unit_1 (by decide) (fun c_1 => ?_) (fun c_1 => ?_)
  · refine V_bipush (v := -102) C dX1_unit_9 rfl ?_
    refine V_iret C dX1_unit_11 rfl ?_ (by first | exact Nat.le_of_ble_eq_true rfl | omega | (dsimp only; omega) | (simp only [List.length_cons, List.length_nil]; omega)) (by first | exact Nat.le_of_ble_eq_true rfl | omega | (dsimp only; omega) | (simp only [List.length_cons, List.length_nil]; omega))
    rw [show mf_unit (nU σ) c0 n σ = (-102, σ) from if_neg (rngN (m := 2) (by decide) (Or.inl c_1))]
    exact SP.same hR
  · refine V_iload_n C dX1_unit_4 rfl 1 rfl ?_
    refine V_iconst (v := 2) C dX1_unit_5 rfl ?_
    refine V_icmp_le (tgt := 12) C dX1_unit_6 (by decide) (fun c_6 => ?_) (fun c_6 => ?_)
    · obtain ⟨cc, hc, rfl⟩ := rngI (m := 2) (by decide) c_1 c_6
      have hU30 := hI.U.2
      refine V_aload_n C dX1_unit_12 rfl 0 rfl ?_
      refine V_get C f_X1_119_0 hN (v := .ref (qUl g)) rfl dX1_unit_13 ?_
      refine V_callV C (c_J2_size l hl G X N0 M (qUl g) (qUe g) (nU σ) mdU hUl) cs_X1_180_1 hUl (show CLS[1]? = some (RJ2, TJ2, 3) from rfl) rfl rfl ⟨Nat.le_of_ble_eq_true rfl, Nat.le_of_ble_eq_true rfl⟩ ⟨(by first | exact Nat.le_of_ble_eq_true rfl | omega | (dsimp only; omega) | (simp only [List.length_cons, List.length_nil]; omega)), (by first | exact Nat.le_of_ble_eq_true rfl | omega | (dsimp only; omega) | (simp only [List.length_cons, List.length_nil]; omega))⟩ (Nat.le_of_ble_eq_true rfl) dX1_unit_16 (fun _ _ _ h => px0 h) ?_
      rintro _ _ ⟨rfl, rfl⟩
      refine V_st (st' := [.int (nI (nU σ))]) rfl ?_
      refine V_bipush (v := 30) C dX1_unit_19 rfl ?_
      refine V_icmp_ne (tgt := 27) C dX1_unit_21 (by decide) (fun c_21 => ?_) (fun c_21 => ?_)
      · have hU29 : nU σ < 30 := by
          have hne : nU σ ≠ 30 := fun y => c_21 (by rw [y]; rfl)
          omega
        have hU60 : nU σ < 60 := by omega
        refine V_aload_n C dX1_unit_27 rfl 0 rfl ?_
        refine V_pc (pc1 := 28) rfl ?_
        refine V_get C f_X1_119_0 hN (v := .ref (qUl g)) rfl dX1_unit_28 ?_
        refine V_callV C (c_J2_size l hl G X N0 M (qUl g) (qUe g) (nU σ) mdU hUl) cs_X1_180_1 hUl (show CLS[1]? = some (RJ2, TJ2, 3) from rfl) rfl rfl ⟨Nat.le_of_ble_eq_true rfl, Nat.le_of_ble_eq_true rfl⟩ ⟨(by first | exact Nat.le_of_ble_eq_true rfl | omega | (dsimp only; omega) | (simp only [List.length_cons, List.length_nil]; omega)), (by first | exact Nat.le_of_ble_eq_true rfl | omega | (dsimp only; omega) | (simp only [List.length_cons, List.length_nil]; omega))⟩ (Nat.le_of_ble_eq_true rfl) dX1_unit_31 (fun _ _ _ h => px0 h) ?_
        rintro _ _ ⟨rfl, rfl⟩
        refine V_st (st' := [.int (nI (nU σ))]) rfl ?_
        refine V_istore_n C dX1_unit_34 rfl (Nat.le_of_ble_eq_true rfl) [(0, .ref (qN g)), (1, .int (nI cc)), (2, .int n), (3, .int (nI (nU σ)))] [1, 2, 3, 0] rfl ?_
        refine V_aload_n C dX1_unit_35 rfl 0 rfl ?_
        refine V_get C f_X1_119_0 hN (v := .ref (qUl g)) rfl dX1_unit_36 ?_
        obtain rfl | rfl | rfl : cc = 0 ∨ cc = 1 ∨ cc = 2 := by omega
        · have hfr : hp_fr (fun _ => False) M M := hp_fr.rf
          have hsh : hp_sh M M := hp_sh.rf
          refine V_iload_n C dX1_unit_39 rfl 1 rfl ?_
          refine V_if_ne (tgt := 55) C dX1_unit_40 (by decide) (fun c_40 => ?_) (fun c_40 => ?_)
          · exact absurd c_40 (by decide)
          · refine V_new C n_X1_31 rfl (by first | exact Nat.le_of_ble_eq_true rfl | omega | (dsimp only; omega) | (simp only [List.length_cons, List.length_nil]; omega)) (by first | exact Nat.le_of_ble_eq_true rfl | omega | (dsimp only; omega) | (simp only [List.length_cons, List.length_nil]; omega)) dX1_unit_43 (fun q_1 hq_2 => ?_)
            have ne_3 : (qN g) ≠ q_1 := hp_ne0 hN hq_2
            have ne_4 : (qUl g) ≠ q_1 := hp_ne0 hUl hq_2
            obtain ⟨M_5, eM_6⟩ : ∃ z, z = hp_up M q_1 (.inr (5, [.int 0, .int 0])) := ⟨_, rfl⟩
            refine V_heap (M' := M_5) eM_6.symm ?_
            have ho_7 : M_5 (qN g) = some (.inr (0, [.ref (qRl g), .ref (qUl g), .ref (qPl g), .ref (qHs g), .int (σ.1 20), .int (σ.1 14), .int (σ.1 11), .int (σ.1 12), .int (σ.1 15), .int (z 0), .int (z 1), .int (z 2), .int (z 3), .int (z 4), .int (z 5), .int ca, .ref (qAn g)])) := by rw [eM_6, hp_up_n (hp_ne0 hN hq_2)]; exact hN
            have ho_8 : M_5 (qUl g) = some (.inr (1, [.int mdU, .ref (qUe g), .int (nI (nU σ))])) := by rw [eM_6, hp_up_n (hp_ne0 hUl hq_2)]; exact hUl
            have ho_9 : M_5 q_1 = some (.inr (5, [.int 0, .int 0])) := by rw [eM_6]; exact hp_up_s
            have fr_10 := hp_fr.new hfr hq_2 eM_6
            have nn_11 := hp_fr.nn hfr hq_2
            have sh_12 := hp_sh.new hsh hq_2 eM_6
            refine V_dup C dX1_unit_46 rfl ?_
            refine V_iload_n C dX1_unit_47 rfl 3 rfl ?_
            refine V_iload_n C dX1_unit_48 rfl 2 rfl ?_
            refine V_callI C (c_X21_init_5 l hl G X N0 M_5 q_1 ho_9 (nI (nU σ)) n) cs_X1_217 rfl rfl ⟨Nat.le_of_ble_eq_true rfl, Nat.le_of_ble_eq_true rfl⟩ ⟨(by first | exact Nat.le_of_ble_eq_true rfl | omega | (dsimp only; omega) | (simp only [List.length_cons, List.length_nil]; omega)), (by first | exact Nat.le_of_ble_eq_true rfl | omega | (dsimp only; omega) | (simp only [List.length_cons, List.length_nil]; omega))⟩ (Nat.le_of_ble_eq_true rfl) dX1_unit_49 (fun _ _ _ h => px0 h) ?_
            rintro _ M_13 ⟨rfl, ho_14, fr_15, sh_16⟩
            refine V_st (st' := [.ref q_1, .ref (qUl g)]) rfl ?_
            have ho_17 : M_13 (qN g) = some (.inr (0, [.ref (qRl g), .ref (qUl g), .ref (qPl g), .ref (qHs g), .int (σ.1 20), .int (σ.1 14), .int (σ.1 11), .int (σ.1 12), .int (σ.1 15), .int (z 0), .int (z 1), .int (z 2), .int (z 3), .int (z 4), .int (z 5), .int ca, .ref (qAn g)])) := fr_15 _ _ ne_3 ho_7
            have ho_18 : M_13 (qUl g) = some (.inr (1, [.int mdU, .ref (qUe g), .int (nI (nU σ))])) := fr_15 _ _ ne_4 ho_8
            have fr_19 := hp_fr.after fr_10 fr_15 nn_11
            have sh_20 := sh_12.trans sh_16
            refine V_pc (pc1 := 52) rfl ?_
            refine V_goto (tgt := 81) C dX1_unit_52 (by decide) ?_
            obtain ⟨zc, zs, hzc, hzs, bc, bs9⟩ := add_z (nU σ) (gcp g 4 0)
            have bs := bs9 (by omega)
            have hS_22 := hUs.fr fr_19 (fun z => z) (fun _ z => z)
            refine V_callV C (c_J2_addZ (X := X) (N0 := N0) l hl (qUl g) (qUe g) (gcp g 4 0) (nU σ) q_1 zc zs fU hzc hzs hS_22 (by omega) (AS_unit (by simp) ho_14) (fun i hi y hy => (hR.elU hI hUf i hi y hy).sh0 sh_20)) cs_X1_214_1 ho_18 (show CLS[1]? = some (RJ2, TJ2, 3) from rfl) rfl rfl ⟨Nat.le_of_ble_eq_true rfl, Nat.le_of_ble_eq_true rfl⟩ ⟨(by first | exact Nat.le_of_ble_eq_true rfl | omega | (dsimp only; omega) | (simp only [List.length_cons, List.length_nil]; omega)), (by first | exact Nat.le_of_ble_eq_true rfl | omega | (dsimp only; omega) | (simp only [List.length_cons, List.length_nil]; omega))⟩ (Nat.le_of_ble_eq_true rfl) dX1_unit_81 (fun _ _ _ h => px0 h) ?_
            rintro _ M_21 ⟨rfl, e', cap', f', hLA, hshA⟩
            refine V_st (st' := [.int 1]) rfl ?_
            obtain ⟨mdA, hLo⟩ := hLA.1.1
            have ho_23 : M_21 (qN g) = some (.inr (0, [.ref (qRl g), .ref (qUl g), .ref (qPl g), .ref (qHs g), .int (σ.1 20), .int (σ.1 14), .int (σ.1 11), .int (σ.1 12), .int (σ.1 15), .int (z 0), .int (z 1), .int (z 2), .int (z 3), .int (z 4), .int (z 5), .int ca, .ref (qAn g)])) := hLA.2.2.2.2 _ _ (fun y => y.elim (fun y => hR.ne (t := 0) (i := 0) (j := 0) (t' := 3) (i' := 0) (j' := 0) ⟨by decide, rfl, rfl⟩ ⟨by decide, rfl, rfl⟩ (by simp) y) (fun y => hR.ne (t := 0) (i := 0) (j := 0) (t' := 4) (i' := 0) (j' := 0) ⟨by decide, rfl, rfl⟩ ⟨rfl, rfl, y.1⟩ (by simp) y.2)) ho_17
            refine V_pop C dX1_unit_84 rfl ?_
            refine V_iload_n C dX1_unit_85 rfl 3 rfl ?_
            refine V_iret C dX1_unit_86 rfl ?_ (by first | exact Nat.le_of_ble_eq_true rfl | omega | (dsimp only; omega) | (simp only [List.length_cons, List.length_nil]; omega)) (by first | exact Nat.le_of_ble_eq_true rfl | omega | (dsimp only; omega) | (simp only [List.length_cons, List.length_nil]; omega))
            have e9 : mf_unit (nU σ) (nI 0) n σ = (nI (nU σ), sz (si (si σ 6 (va_up (σ.2.1 6) (nU σ) (nI 0))) 7 (va_up (σ.2.1 7) (nU σ) n)) 5 (nI (nU σ + 1))) := by
              unfold mf_unit
              rw [if_pos (show 0 ≤ (nI 0).toInt64 ∧ (nI 0).toInt64 ≤ 2 from by decide), if_neg (show ¬ nU σ = 30 by omega)]
            rw [e9]
            exact SP.addUnit hR (q := q_1) (f := fU) (fun k hk => by simp [sz, si, va_up, hk]) (by show (nI (nU σ + 1)).toNatClampNeg = _; rw [nI_clamp (show nU σ + 1 < 2 ^ 31 by omega)]) (fun k h6 h7 => by simp [sz, si, va_up, h6, h7]) (fun u hu => by simp [sz, si, va_up, Nat.ne_of_lt hu]) rfl hq_2 fr_19 (by simpa [sz, si, va_up, nI_clamp] using ho_14) sh_20 hLA hUf hshA
        · have hfr : hp_fr (fun _ => False) M M := hp_fr.rf
          have hsh : hp_sh M M := hp_sh.rf
          refine V_iload_n C dX1_unit_39 rfl 1 rfl ?_
          refine V_if_ne (tgt := 55) C dX1_unit_40 (by decide) (fun c_40_2 => ?_) (fun c_40_2 => ?_)
          · refine V_iload_n C dX1_unit_55 rfl 1 rfl ?_
            refine V_iconst (v := 1) C dX1_unit_56 rfl ?_
            refine V_icmp_ne (tgt := 72) C dX1_unit_57 (by decide) (fun c_57 => ?_) (fun c_57 => ?_)
            · exact absurd c_57 (by decide)
            · refine V_new C n_X1_33 rfl (by first | exact Nat.le_of_ble_eq_true rfl | omega | (dsimp only; omega) | (simp only [List.length_cons, List.length_nil]; omega)) (by first | exact Nat.le_of_ble_eq_true rfl | omega | (dsimp only; omega) | (simp only [List.length_cons, List.length_nil]; omega)) dX1_unit_60 (fun q_24 hq_25 => ?_)
              have ne_26 : (qN g) ≠ q_24 := hp_ne0 hN hq_25
              have ne_27 : (qUl g) ≠ q_24 := hp_ne0 hUl hq_25
              obtain ⟨M_28, eM_29⟩ : ∃ z, z = hp_up M q_24 (.inr (6, [.int 0, .int 0])) := ⟨_, rfl⟩
              refine V_heap (M' := M_28) eM_29.symm ?_
              have ho_30 : M_28 (qN g) = some (.inr (0, [.ref (qRl g), .ref (qUl g), .ref (qPl g), .ref (qHs g), .int (σ.1 20), .int (σ.1 14), .int (σ.1 11), .int (σ.1 12), .int (σ.1 15), .int (z 0), .int (z 1), .int (z 2), .int (z 3), .int (z 4), .int (z 5), .int ca, .ref (qAn g)])) := by rw [eM_29, hp_up_n (hp_ne0 hN hq_25)]; exact hN
              have ho_31 : M_28 (qUl g) = some (.inr (1, [.int mdU, .ref (qUe g), .int (nI (nU σ))])) := by rw [eM_29, hp_up_n (hp_ne0 hUl hq_25)]; exact hUl
              have ho_32 : M_28 q_24 = some (.inr (6, [.int 0, .int 0])) := by rw [eM_29]; exact hp_up_s
              have fr_33 := hp_fr.new hfr hq_25 eM_29
              have nn_34 := hp_fr.nn hfr hq_25
              have sh_35 := hp_sh.new hsh hq_25 eM_29
              refine V_dup C dX1_unit_63 rfl ?_
              refine V_pc (pc1 := 64) rfl ?_
              refine V_iload_n C dX1_unit_64 rfl 3 rfl ?_
              refine V_iload_n C dX1_unit_65 rfl 2 rfl ?_
              refine V_callI C (c_X22_init_6 l hl G X N0 M_28 q_24 ho_32 (nI (nU σ)) n) cs_X1_220 rfl rfl ⟨Nat.le_of_ble_eq_true rfl, Nat.le_of_ble_eq_true rfl⟩ ⟨(by first | exact Nat.le_of_ble_eq_true rfl | omega | (dsimp only; omega) | (simp only [List.length_cons, List.length_nil]; omega)), (by first | exact Nat.le_of_ble_eq_true rfl | omega | (dsimp only; omega) | (simp only [List.length_cons, List.length_nil]; omega))⟩ (Nat.le_of_ble_eq_true rfl) dX1_unit_66 (fun _ _ _ h => px0 h) ?_
              rintro _ M_36 ⟨rfl, ho_37, fr_38, sh_39⟩
              refine V_st (st' := [.ref q_24, .ref (qUl g)]) rfl ?_
              have ho_40 : M_36 (qN g) = some (.inr (0, [.ref (qRl g), .ref (qUl g), .ref (qPl g), .ref (qHs g), .int (σ.1 20), .int (σ.1 14), .int (σ.1 11), .int (σ.1 12), .int (σ.1 15), .int (z 0), .int (z 1), .int (z 2), .int (z 3), .int (z 4), .int (z 5), .int ca, .ref (qAn g)])) := fr_38 _ _ ne_26 ho_30
              have ho_41 : M_36 (qUl g) = some (.inr (1, [.int mdU, .ref (qUe g), .int (nI (nU σ))])) := fr_38 _ _ ne_27 ho_31
              have fr_42 := hp_fr.after fr_33 fr_38 nn_34
              have sh_43 := sh_35.trans sh_39
              refine V_goto (tgt := 81) C dX1_unit_69 (by decide) ?_
              obtain ⟨zc, zs, hzc, hzs, bc, bs9⟩ := add_z (nU σ) (gcp g 4 0)
              have bs := bs9 (by omega)
              have hS_45 := hUs.fr fr_42 (fun z => z) (fun _ z => z)
              refine V_callV C (c_J2_addZ (X := X) (N0 := N0) l hl (qUl g) (qUe g) (gcp g 4 0) (nU σ) q_24 zc zs fU hzc hzs hS_45 (by omega) (AS_unit (by simp) ho_37) (fun i hi y hy => (hR.elU hI hUf i hi y hy).sh0 sh_43)) cs_X1_214_1 ho_41 (show CLS[1]? = some (RJ2, TJ2, 3) from rfl) rfl rfl ⟨Nat.le_of_ble_eq_true rfl, Nat.le_of_ble_eq_true rfl⟩ ⟨(by first | exact Nat.le_of_ble_eq_true rfl | omega | (dsimp only; omega) | (simp only [List.length_cons, List.length_nil]; omega)), (by first | exact Nat.le_of_ble_eq_true rfl | omega | (dsimp only; omega) | (simp only [List.length_cons, List.length_nil]; omega))⟩ (Nat.le_of_ble_eq_true rfl) dX1_unit_81 (fun _ _ _ h => px0 h) ?_
              rintro _ M_44 ⟨rfl, e', cap', f', hLA, hshA⟩
              refine V_st (st' := [.int 1]) rfl ?_
              obtain ⟨mdA, hLo⟩ := hLA.1.1
              have ho_46 : M_44 (qN g) = some (.inr (0, [.ref (qRl g), .ref (qUl g), .ref (qPl g), .ref (qHs g), .int (σ.1 20), .int (σ.1 14), .int (σ.1 11), .int (σ.1 12), .int (σ.1 15), .int (z 0), .int (z 1), .int (z 2), .int (z 3), .int (z 4), .int (z 5), .int ca, .ref (qAn g)])) := hLA.2.2.2.2 _ _ (fun y => y.elim (fun y => hR.ne (t := 0) (i := 0) (j := 0) (t' := 3) (i' := 0) (j' := 0) ⟨by decide, rfl, rfl⟩ ⟨by decide, rfl, rfl⟩ (by simp) y) (fun y => hR.ne (t := 0) (i := 0) (j := 0) (t' := 4) (i' := 0) (j' := 0) ⟨by decide, rfl, rfl⟩ ⟨rfl, rfl, y.1⟩ (by simp) y.2)) ho_40
              refine V_pop C dX1_unit_84 rfl ?_
              refine V_iload_n C dX1_unit_85 rfl 3 rfl ?_
              refine V_iret C dX1_unit_86 rfl ?_ (by first | exact Nat.le_of_ble_eq_true rfl | omega | (dsimp only; omega) | (simp only [List.length_cons, List.length_nil]; omega)) (by first | exact Nat.le_of_ble_eq_true rfl | omega | (dsimp only; omega) | (simp only [List.length_cons, List.length_nil]; omega))
              have e9 : mf_unit (nU σ) (nI 1) n σ = (nI (nU σ), sz (si (si σ 6 (va_up (σ.2.1 6) (nU σ) (nI 1))) 7 (va_up (σ.2.1 7) (nU σ) n)) 5 (nI (nU σ + 1))) := by
                unfold mf_unit
                rw [if_pos (show 0 ≤ (nI 1).toInt64 ∧ (nI 1).toInt64 ≤ 2 from by decide), if_neg (show ¬ nU σ = 30 by omega)]
              rw [e9]
              exact SP.addUnit hR (q := q_24) (f := fU) (fun k hk => by simp [sz, si, va_up, hk]) (by show (nI (nU σ + 1)).toNatClampNeg = _; rw [nI_clamp (show nU σ + 1 < 2 ^ 31 by omega)]) (fun k h6 h7 => by simp [sz, si, va_up, h6, h7]) (fun u hu => by simp [sz, si, va_up, Nat.ne_of_lt hu]) rfl hq_25 fr_42 (by simpa [sz, si, va_up, nI_clamp] using ho_37) sh_43 hLA hUf hshA
          · exact absurd c_40_2 (by decide)
        · have hfr : hp_fr (fun _ => False) M M := hp_fr.rf
          have hsh : hp_sh M M := hp_sh.rf
          refine V_iload_n C dX1_unit_39 rfl 1 rfl ?_
          refine V_if_ne (tgt := 55) C dX1_unit_40 (by decide) (fun c_40_3 => ?_) (fun c_40_3 => ?_)
          · refine V_iload_n C dX1_unit_55 rfl 1 rfl ?_
            refine V_iconst (v := 1) C dX1_unit_56 rfl ?_
            refine V_icmp_ne (tgt := 72) C dX1_unit_57 (by decide) (fun c_57_2 => ?_) (fun c_57_2 => ?_)
            · refine V_new C n_X1_221 rfl (by first | exact Nat.le_of_ble_eq_true rfl | omega | (dsimp only; omega) | (simp only [List.length_cons, List.length_nil]; omega)) (by first | exact Nat.le_of_ble_eq_true rfl | omega | (dsimp only; omega) | (simp only [List.length_cons, List.length_nil]; omega)) dX1_unit_72 (fun q_47 hq_48 => ?_)
              have ne_49 : (qN g) ≠ q_47 := hp_ne0 hN hq_48
              have ne_50 : (qUl g) ≠ q_47 := hp_ne0 hUl hq_48
              obtain ⟨M_51, eM_52⟩ : ∃ z, z = hp_up M q_47 (.inr (7, [.int 0, .int 0])) := ⟨_, rfl⟩
              refine V_heap (M' := M_51) eM_52.symm ?_
              have ho_53 : M_51 (qN g) = some (.inr (0, [.ref (qRl g), .ref (qUl g), .ref (qPl g), .ref (qHs g), .int (σ.1 20), .int (σ.1 14), .int (σ.1 11), .int (σ.1 12), .int (σ.1 15), .int (z 0), .int (z 1), .int (z 2), .int (z 3), .int (z 4), .int (z 5), .int ca, .ref (qAn g)])) := by rw [eM_52, hp_up_n (hp_ne0 hN hq_48)]; exact hN
              have ho_54 : M_51 (qUl g) = some (.inr (1, [.int mdU, .ref (qUe g), .int (nI (nU σ))])) := by rw [eM_52, hp_up_n (hp_ne0 hUl hq_48)]; exact hUl
              have ho_55 : M_51 q_47 = some (.inr (7, [.int 0, .int 0])) := by rw [eM_52]; exact hp_up_s
              have fr_56 := hp_fr.new hfr hq_48 eM_52
              have nn_57 := hp_fr.nn hfr hq_48
              have sh_58 := hp_sh.new hsh hq_48 eM_52
              refine V_dup C dX1_unit_75 rfl ?_
              refine V_pc (pc1 := 76) rfl ?_
              refine V_iload_n C dX1_unit_76 rfl 3 rfl ?_
              refine V_iload_n C dX1_unit_77 rfl 2 rfl ?_
              refine V_callI C (c_X23_init_7 l hl G X N0 M_51 q_47 ho_55 (nI (nU σ)) n) cs_X1_223 rfl rfl ⟨Nat.le_of_ble_eq_true rfl, Nat.le_of_ble_eq_true rfl⟩ ⟨(by first | exact Nat.le_of_ble_eq_true rfl | omega | (dsimp only; omega) | (simp only [List.length_cons, List.length_nil]; omega)), (by first | exact Nat.le_of_ble_eq_true rfl | omega | (dsimp only; omega) | (simp only [List.length_cons, List.length_nil]; omega))⟩ (Nat.le_of_ble_eq_true rfl) dX1_unit_78 (fun _ _ _ h => px0 h) ?_
              rintro _ M_59 ⟨rfl, ho_60, fr_61, sh_62⟩
              refine V_st (st' := [.ref q_47, .ref (qUl g)]) rfl ?_
              have ho_63 : M_59 (qN g) = some (.inr (0, [.ref (qRl g), .ref (qUl g), .ref (qPl g), .ref (qHs g), .int (σ.1 20), .int (σ.1 14), .int (σ.1 11), .int (σ.1 12), .int (σ.1 15), .int (z 0), .int (z 1), .int (z 2), .int (z 3), .int (z 4), .int (z 5), .int ca, .ref (qAn g)])) := fr_61 _ _ ne_49 ho_53
              have ho_64 : M_59 (qUl g) = some (.inr (1, [.int mdU, .ref (qUe g), .int (nI (nU σ))])) := fr_61 _ _ ne_50 ho_54
              have fr_65 := hp_fr.after fr_56 fr_61 nn_57
              have sh_66 := sh_58.trans sh_62
              obtain ⟨zc, zs, hzc, hzs, bc, bs9⟩ := add_z (nU σ) (gcp g 4 0)
              have bs := bs9 (by omega)
              have hS_68 := hUs.fr fr_65 (fun z => z) (fun _ z => z)
              refine V_callV C (c_J2_addZ (X := X) (N0 := N0) l hl (qUl g) (qUe g) (gcp g 4 0) (nU σ) q_47 zc zs fU hzc hzs hS_68 (by omega) (AS_unit (by simp) ho_60) (fun i hi y hy => (hR.elU hI hUf i hi y hy).sh0 sh_66)) cs_X1_214_1 ho_64 (show CLS[1]? = some (RJ2, TJ2, 3) from rfl) rfl rfl ⟨Nat.le_of_ble_eq_true rfl, Nat.le_of_ble_eq_true rfl⟩ ⟨(by first | exact Nat.le_of_ble_eq_true rfl | omega | (dsimp only; omega) | (simp only [List.length_cons, List.length_nil]; omega)), (by first | exact Nat.le_of_ble_eq_true rfl | omega | (dsimp only; omega) | (simp only [List.length_cons, List.length_nil]; omega))⟩ (Nat.le_of_ble_eq_true rfl) dX1_unit_81 (fun _ _ _ h => px0 h) ?_
              rintro _ M_67 ⟨rfl, e', cap', f', hLA, hshA⟩
              refine V_st (st' := [.int 1]) rfl ?_
              obtain ⟨mdA, hLo⟩ := hLA.1.1
              have ho_69 : M_67 (qN g) = some (.inr (0, [.ref (qRl g), .ref (qUl g), .ref (qPl g), .ref (qHs g), .int (σ.1 20), .int (σ.1 14), .int (σ.1 11), .int (σ.1 12), .int (σ.1 15), .int (z 0), .int (z 1), .int (z 2), .int (z 3), .int (z 4), .int (z 5), .int ca, .ref (qAn g)])) := hLA.2.2.2.2 _ _ (fun y => y.elim (fun y => hR.ne (t := 0) (i := 0) (j := 0) (t' := 3) (i' := 0) (j' := 0) ⟨by decide, rfl, rfl⟩ ⟨by decide, rfl, rfl⟩ (by simp) y) (fun y => hR.ne (t := 0) (i := 0) (j := 0) (t' := 4) (i' := 0) (j' := 0) ⟨by decide, rfl, rfl⟩ ⟨rfl, rfl, y.1⟩ (by simp) y.2)) ho_63
              refine V_pop C dX1_unit_84 rfl ?_
              refine V_iload_n C dX1_unit_85 rfl 3 rfl ?_
              refine V_iret C dX1_unit_86 rfl ?_ (by first | exact Nat.le_of_ble_eq_true rfl | omega | (dsimp only; omega) | (simp only [List.length_cons, List.length_nil]; omega)) (by first | exact Nat.le_of_ble_eq_true rfl | omega | (dsimp only; omega) | (simp only [List.length_cons, List.length_nil]; omega))
              have e9 : mf_unit (nU σ) (nI 2) n σ = (nI (nU σ), sz (si (si σ 6 (va_up (σ.2.1 6) (nU σ) (nI 2))) 7 (va_up (σ.2.1 7) (nU σ) n)) 5 (nI (nU σ + 1))) := by
                unfold mf_unit
                rw [if_pos (show 0 ≤ (nI 2).toInt64 ∧ (nI 2).toInt64 ≤ 2 from by decide), if_neg (show ¬ nU σ = 30 by omega)]
              rw [e9]
              exact SP.addUnit hR (q := q_47) (f := fU) (fun k hk => by simp [sz, si, va_up, hk]) (by show (nI (nU σ + 1)).toNatClampNeg = _; rw [nI_clamp (show nU σ + 1 < 2 ^ 31 by omega)]) (fun k h6 h7 => by simp [sz, si, va_up, h6, h7]) (fun u hu => by simp [sz, si, va_up, Nat.ne_of_lt hu]) rfl hq_48 fr_65 (by simpa [sz, si, va_up, nI_clamp] using ho_60) sh_66 hLA hUf hshA
            · exact absurd c_57_2 (by decide)
          · exact absurd c_40_3 (by decide)
      · refine V_bipush (v := -104) C dX1_unit_24 rfl ?_
        refine V_pc (pc1 := 26) rfl ?_
        refine V_iret C dX1_unit_26 rfl ?_ (by first | exact Nat.le_of_ble_eq_true rfl | omega | (dsimp only; omega) | (simp only [List.length_cons, List.length_nil]; omega)) (by first | exact Nat.le_of_ble_eq_true rfl | omega | (dsimp only; omega) | (simp only [List.length_cons, List.length_nil]; omega))
        have hU30 : nU σ = 30 := (nI_eq (b := 30) (by omega) (by decide)).mp c_21
        rw [show mf_unit (nU σ) (nI cc) n σ = (-104, σ) from by unfold mf_unit; rw [if_pos (show 0 ≤ (nI cc).toInt64 ∧ (nI cc).toInt64 ≤ 2 from rngY (m := 2) (by decide) hc), if_pos hU30]]
        exact SP.same hR
    · refine V_bipush (v := -102) C dX1_unit_9 rfl ?_
      refine V_iret C dX1_unit_11 rfl ?_ (by first | exact Nat.le_of_ble_eq_true rfl | omega | (dsimp only; omega) | (simp only [List.length_cons, List.length_nil]; omega)) (by first | exact Nat.le_of_ble_eq_true rfl | omega | (dsimp only; omega) | (simp only [List.length_cons, List.length_nil]; omega))
      rw [show mf_unit (nU σ) c0 n σ = (-102, σ) from if_neg (rngN (m := 2) (by decide) (Or.inr (Int32.not_le.mp c_6)))]
      exact SP.same hR
theorem rngI9 {x : Int32} {m : Nat} (hm : m < 2 ^ 20) : (0 ≤ x.toInt64 ∧ x.toInt64 ≤ lN m) ↔ (¬ x < 0 ∧ ¬ nI (m + 1) ≤ x) := by
  constructor
  · intro h
    obtain ⟨n, hn, rfl⟩ := (in64 (by omega)).mp h
    exact ⟨nI_pos (by omega), fun z => by have := (nI_leI (by omega) (by omega)).mp z; omega⟩
  · rintro ⟨h1, h2⟩
    refine (in64 (by omega)).mpr ?_
    obtain ⟨n, hn, rfl⟩ := (isRow_n (σ := sz mf_init 1 (nI (m + 1))) (R := m + 1) (r := x) rfl (by omega)).mp ⟨h1, Int32.not_le.mp h2⟩
    exact ⟨n, by omega, rfl⟩
theorem plan_p {pl x0 a i b j n : Int32} {σ : MS} (h : pl < 0 ∨ ¬ pl < 6) : mf_plan pl x0 a i b j n σ = (-101, σ) := by
  refine if_pos (fun z => ?_)
  obtain ⟨z1, z2⟩ := (rngI9 (m := 5) (by decide)).mp z
  rcases h with h | h
  · exact z1 h
  · exact z2 (Int32.not_lt.mp h)
theorem plan_i {x : Int32} : (0 ≤ x.toInt64 ∧ x.toInt64 ≤ 1) ↔ (x = 0 ∨ x = 1) := by
  constructor
  · intro h
    obtain ⟨n, hn, rfl⟩ := (in64 (k := 1) (by decide)).mp h
    obtain rfl | rfl : n = 0 ∨ n = 1 := by omega
    · exact Or.inl rfl
    · exact Or.inr rfl
  · rintro (rfl | rfl) <;> decide
theorem plan_c {p : Nat} {x0 a i b j n : Int32} {σ : MS} (hp : p < 6) : mf_plan (nI p) x0 a i b j n σ = if (¬ x0 < 0 ∧ ¬ 13 ≤ x0) ∧ (x0 = 10 → (¬ a < 0 ∧ ¬ 6 ≤ a) ∧ (i = 0 ∨ i = 1)) then mf_planA p x0 a i b j n σ else (-102, σ) := by
  have e1 := rngI9 (x := x0) (m := 12) (by decide)
  have e2 := rngI9 (x := a) (m := 5) (by decide)
  have e3 := plan_i (x := i)
  unfold mf_plan
  rw [if_neg (not_not_intro (show 0 ≤ (nI p).toInt64 ∧ (nI p).toInt64 ≤ 5 from rngY (m := 5) (by decide) (by omega))), nI_clamp (by omega)]
  have e4 : (nI (12 + 1)) = 13 := rfl
  have e5 : (nI (5 + 1)) = 6 := rfl
  rw [e4] at e1
  rw [e5] at e2
  have e6 : (0 ≤ x0.toInt64 ∧ x0.toInt64 ≤ 12) ↔ (¬ x0 < 0 ∧ ¬ 13 ≤ x0) := e1
  have e7 : (0 ≤ a.toInt64 ∧ a.toInt64 ≤ 5) ↔ (¬ a < 0 ∧ ¬ 6 ≤ a) := e2
  by_cases h : (¬ x0 < 0 ∧ ¬ 13 ≤ x0) ∧ (x0 = 10 → (¬ a < 0 ∧ ¬ 6 ≤ a) ∧ (i = 0 ∨ i = 1))
  · rw [if_pos h, if_neg]
    rintro (y | ⟨y1, y | y⟩)
    · exact y (e6.mpr h.1)
    · exact y (e7.mpr (h.2 y1).1)
    · exact y (e3.mpr (h.2 y1).2)
  · rw [if_neg h, if_pos]
    refine Classical.byContradiction fun y => h ⟨?_, fun hx => ⟨?_, ?_⟩⟩
    · exact e6.mp (Classical.byContradiction fun w => y (Or.inl w))
    · exact e7.mp (Classical.byContradiction fun w => y (Or.inr ⟨hx, Or.inl w⟩))
    · exact e3.mp (Classical.byContradiction fun w => y (Or.inr ⟨hx, Or.inr w⟩))
set_option maxHeartbeats 1000000 in
theorem c_X1_plan (l : Launch) (hl : l.stackTraces = false) (G : hp_G) (X : Nat → Nat) (N0 : Nat) (M : hp_h) (g : RG) (σ : MS) (z : Nat → Int32) (ca : Int32) (C9 : Nat) (hR : REL G (X 0) g σ z ca C9 M) (hI : MI σ) (pl x0 a i b j n : Int32) : HM l yX1_plan (ws_ yX1_plan cX1_plan 10 (some .int)) 2 50 1 6 G X N0 [.ref (qN g), .int pl, .int x0, .int a, .int i, .int b, .int j, .int n] M (SP G (X 0) g σ C9 M (some (.int (mf_plan pl x0 a i b j n σ).1)) (mf_plan pl x0 a i b j n σ).2 z ca) PX0 := by
  refine HM.of hl [(0, .ref (qN g)), (1, .int pl), (2, .int x0), (3, .int a), (4, .int i), (5, .int b), (6, .int j), (7, .int n)] (by decide +kernel) rfl (Nat.le_of_ble_eq_true rfl) ?_
  intro p e s m args below meth c C hname
  have hN := hR.N
  obtain ⟨fP, hPl, hPf⟩ := hR.Pl
  obtain ⟨fH, hHs, hHf⟩ := hR.Hs
  refine V_iload_n C dX1_plan_0 rfl 1 rfl ?_
  refine V_if_lt (tgt := 10) C dX1_plan_1 (by decide) (fun c_1 => ?_) (fun c_1 => ?_)
  · refine V_bipush (v := -101) C dX1_plan_10 rfl ?_
    refine V_iret C dX1_plan_12 rfl ?_ (by first | exact Nat.le_of_ble_eq_true rfl | omega | (dsimp only; omega) | (simp only [List.length_cons, List.length_nil]; omega)) (by first | exact Nat.le_of_ble_eq_true rfl | omega | (dsimp only; omega) | (simp only [List.length_cons, List.length_nil]; omega))
    rw [plan_p (Or.inl c_1)]
    exact SP.same hR
  · refine V_iload_n C dX1_plan_4 rfl 1 rfl ?_
    refine V_bipush (v := 6) C dX1_plan_5 rfl ?_
    refine V_icmp_lt (tgt := 13) C dX1_plan_7 (by decide) (fun c_7 => ?_) (fun c_7 => ?_)
    · obtain ⟨p, hp, rfl⟩ := (isRow_n (σ := sz σ 1 (nI 6)) (R := 6) (r := pl) rfl (by decide)).mp ⟨c_1, c_7⟩
      refine V_iload_n C dX1_plan_13 rfl 2 rfl ?_
      refine V_if_lt (tgt := 57) C dX1_plan_14 (by decide) (fun c_14 => ?_) (fun c_14 => ?_)
      · refine V_iconst (v := 0) C dX1_plan_57 rfl ?_
        refine V_istore C dX1_plan_58 (Nat.le_of_ble_eq_true rfl) [(0, .ref (qN g)), (1, .int (nI p)), (2, .int x0), (3, .int a), (4, .int i), (5, .int b), (6, .int j), (7, .int n), (8, .int 0)] [1, 2, 3, 4, 5, 6, 7, 8, 0] rfl ?_
        refine V_iload C dX1_plan_60 8 rfl ?_
        refine V_if_ne (tgt := 68) C dX1_plan_62 (by decide) (fun c_62 => ?_) (fun c_62 => ?_)
        · exact absurd c_62 (by decide)
        · refine V_pc (pc1 := 65) rfl ?_
          refine V_bipush (v := -102) C dX1_plan_65 rfl ?_
          refine V_iret C dX1_plan_67 rfl ?_ (by first | exact Nat.le_of_ble_eq_true rfl | omega | (dsimp only; omega) | (simp only [List.length_cons, List.length_nil]; omega)) (by first | exact Nat.le_of_ble_eq_true rfl | omega | (dsimp only; omega) | (simp only [List.length_cons, List.length_nil]; omega))
          (try simp only [lg_cmp_lt, lg_cmp_gt, lg_cmp_ge, lg_cmp_le, lg_cmp_eq, Classical.not_not] at c_14 c_62)
          have hno : ¬ ((¬ x0 < 0 ∧ ¬ 13 ≤ x0) ∧ (x0 = 10 → (¬ a < 0 ∧ ¬ 6 ≤ a) ∧ (i = 0 ∨ i = 1))) := by
            have e13 : nI 13 = 13 := rfl
            clear C hR hN hPl hHs
            grind
          rw [plan_c hp, if_neg hno]
          exact SP.same hR
      · refine V_iload_n C dX1_plan_17 rfl 2 rfl ?_
        refine V_aload_n C dX1_plan_18 rfl 0 rfl ?_
        refine V_get C f_X1_173_0 hN (v := .ref (qHs g)) rfl dX1_plan_19 ?_
        refine V_alen (j := 14) C rfl hHs (v := nI 13) rfl dX1_plan_22 ?_
        refine V_pc (pc1 := 23) rfl ?_
        refine V_icmp_ge (tgt := 57) C dX1_plan_23 (by decide) (fun c_23 => ?_) (fun c_23 => ?_)
        · refine V_iconst (v := 0) C dX1_plan_57 rfl ?_
          refine V_istore C dX1_plan_58 (Nat.le_of_ble_eq_true rfl) [(0, .ref (qN g)), (1, .int (nI p)), (2, .int x0), (3, .int a), (4, .int i), (5, .int b), (6, .int j), (7, .int n), (8, .int 0)] [1, 2, 3, 4, 5, 6, 7, 8, 0] rfl ?_
          refine V_iload C dX1_plan_60 8 rfl ?_
          refine V_if_ne (tgt := 68) C dX1_plan_62 (by decide) (fun c_62_2 => ?_) (fun c_62_2 => ?_)
          · exact absurd c_62_2 (by decide)
          · refine V_bipush (v := -102) C dX1_plan_65 rfl ?_
            refine V_iret C dX1_plan_67 rfl ?_ (by first | exact Nat.le_of_ble_eq_true rfl | omega | (dsimp only; omega) | (simp only [List.length_cons, List.length_nil]; omega)) (by first | exact Nat.le_of_ble_eq_true rfl | omega | (dsimp only; omega) | (simp only [List.length_cons, List.length_nil]; omega))
            (try simp only [lg_cmp_lt, lg_cmp_gt, lg_cmp_ge, lg_cmp_le, lg_cmp_eq, Classical.not_not] at c_14 c_23 c_62_2)
            have hno : ¬ ((¬ x0 < 0 ∧ ¬ 13 ≤ x0) ∧ (x0 = 10 → (¬ a < 0 ∧ ¬ 6 ≤ a) ∧ (i = 0 ∨ i = 1))) := by
              have e13 : nI 13 = 13 := rfl
              clear C hR hN hPl hHs
              grind
            rw [plan_c hp, if_neg hno]
            exact SP.same hR
        · refine V_iload_n C dX1_plan_26 rfl 2 rfl ?_
          refine V_bipush (v := 10) C dX1_plan_27 rfl ?_
          refine V_icmp_ne (tgt := 53) C dX1_plan_29 (by decide) (fun c_29 => ?_) (fun c_29 => ?_)
          · refine V_iconst (v := 1) C dX1_plan_53 rfl ?_
            refine V_goto (tgt := 58) C dX1_plan_54 (by decide) ?_
            refine V_istore C dX1_plan_58 (Nat.le_of_ble_eq_true rfl) [(0, .ref (qN g)), (1, .int (nI p)), (2, .int x0), (3, .int a), (4, .int i), (5, .int b), (6, .int j), (7, .int n), (8, .int 1)] [1, 2, 3, 4, 5, 6, 7, 8, 0] rfl ?_
            refine V_iload C dX1_plan_60 8 rfl ?_
            refine V_if_ne (tgt := 68) C dX1_plan_62 (by decide) (fun c_62_3 => ?_) (fun c_62_3 => ?_)
            · obtain ⟨hpE, hpL⟩ := hI.p hp
              have hP9 := hR.P hp
              rw [hpE] at hP9
              obtain ⟨fp, hPa, hPaf⟩ := hR.Pa hp
              have hfr : hp_fr (fun b => b = qP g p ∨ b = qPa g p) M M := hp_fr.rf
              have hsh : hp_sh M M := hp_sh.rf
              refine V_aload_n C dX1_plan_68 rfl 0 rfl ?_
              refine V_get C f_X1_126_0 hN (v := .ref (qPl g)) rfl dX1_plan_69 ?_
              refine V_iload_n C dX1_plan_72 rfl 1 rfl ?_
              refine V_pc (pc1 := 73) rfl ?_
              refine V_aald C (j := 12) rfl rfl hPl (vp_in_nI (by omega) (by omega)) dX1_plan_73 ?_
              refine V_st (st' := [.ref (qP g p)]) (by rw [nI_clamp (by omega), (hPf p hp)]; rfl) ?_
              refine V_astore C dX1_plan_74 (Nat.le_of_ble_eq_true rfl) [(0, .ref (qN g)), (1, .int (nI p)), (2, .int x0), (3, .int a), (4, .int i), (5, .int b), (6, .int j), (7, .int n), (8, .int 1), (9, .ref (qP g p))] [1, 2, 3, 4, 5, 6, 7, 8, 9, 0] rfl ?_
              refine V_aload C dX1_plan_76 9 rfl ?_
              refine V_getN C f_X1_270_2 hP9 (v := .int (nI (psz σ p))) rfl dX1_plan_78 ?_
              refine V_bipush (v := 12) C dX1_plan_81 rfl ?_
              refine V_icmp_ne (tgt := 89) C dX1_plan_83 (by decide) (fun c_83 => ?_) (fun c_83 => ?_)
              · have hp12 : psz σ p < 12 := by
                  have hne : psz σ p ≠ 12 := fun y => c_83 (by rw [y]; rfl)
                  omega
                refine V_aload C dX1_plan_89 9 rfl ?_
                refine V_getN C f_X1_272_2 hP9 (v := .ref (qPa g p)) rfl dX1_plan_91 ?_
                refine V_aload C dX1_plan_94 9 rfl ?_
                refine V_dup C dX1_plan_96 rfl ?_
                refine V_getN C f_X1_270_2 hP9 (v := .int (nI (psz σ p))) rfl dX1_plan_97 ?_
                refine V_dup_x1 C dX1_plan_100 rfl rfl ?_
                refine V_pc (pc1 := 101) rfl ?_
                refine V_iconst (v := 1) C dX1_plan_101 rfl ?_
                refine V_iadd C dX1_plan_102 ?_
                refine V_st (st' := [.int (nI ((psz σ p) + 1)), .ref (qP g p), .int (nI (psz σ p)), .ref (qPa g p)]) (by rw [show ((nI (psz σ p)) + 1) = (nI ((psz σ p) + 1)) from nI_add (psz σ p) 1]) ?_
                refine V_putN C f_X1_270_2 hP9 rfl rfl (Nat.le_of_ble_eq_true rfl) dX1_plan_103 ?_
                obtain ⟨M_1, eM_2⟩ : ∃ z, z = hp_up M (qP g p) (.inr (2, [.ref (qPa g p), .int (nI ((psz σ p) + 1))])) := ⟨_, rfl⟩
                refine V_heap (M' := M_1) eM_2.symm ?_
                have ho_3 : M_1 (qN g) = some (.inr (0, [.ref (qRl g), .ref (qUl g), .ref (qPl g), .ref (qHs g), .int (σ.1 20), .int (σ.1 14), .int (σ.1 11), .int (σ.1 12), .int (σ.1 15), .int (z 0), .int (z 1), .int (z 2), .int (z 3), .int (z 4), .int (z 5), .int ca, .ref (qAn g)])) := by rw [eM_2, hp_up_n (hp_ne hN hP9 (by simp))]; exact hN
                have ha_4 : M_1 (qPl g) = some (.inl (G.2 12, 6, .inr (.inr (.inr (.inr fP))))) := by rw [eM_2, hp_up_n (hp_ne hPl hP9 (by simp))]; exact hPl
                have ha_5 : M_1 (qHs g) = some (.inl (G.2 14, 13, .inr (.inr (.inr (.inr fH))))) := by rw [eM_2, hp_up_n (hp_ne hHs hP9 (by simp))]; exact hHs
                have ha_6 : M_1 (qPa g p) = some (.inl (G.2 13, 12, .inr (.inr (.inr (.inr fp))))) := by rw [eM_2, hp_up_n (hp_ne hPa hP9 (by simp))]; exact hPa
                have eM_2_s : M_1 (qP g p) = some (.inr (2, [.ref (qPa g p), .int (nI ((psz σ p) + 1))])) := by rw [eM_2]; exact hp_up_s
                have fr_7 := hp_fr.set hfr (Or.inl (Or.inl rfl)) eM_2
                have sh_8 := hp_sh.set hsh hP9 eM_2 rfl
                refine V_new C n_X1_190 rfl (by first | exact Nat.le_of_ble_eq_true rfl | omega | (dsimp only; omega) | (simp only [List.length_cons, List.length_nil]; omega)) (by first | exact Nat.le_of_ble_eq_true rfl | omega | (dsimp only; omega) | (simp only [List.length_cons, List.length_nil]; omega)) dX1_plan_106 (fun q_9 hq_10 => ?_)
                have ne_11 : (qN g) ≠ q_9 := hp_ne0 ho_3 hq_10
                have ne_12 : (qP g p) ≠ q_9 := hp_ne0 eM_2_s hq_10
                have ne_13 : (qPl g) ≠ q_9 := hp_ne0 ha_4 hq_10
                have ne_14 : (qHs g) ≠ q_9 := hp_ne0 ha_5 hq_10
                have ne_15 : (qPa g p) ≠ q_9 := hp_ne0 ha_6 hq_10
                obtain ⟨M_16, eM_17⟩ : ∃ z, z = hp_up M_1 q_9 (.inr (3, [.int 0, .int 0, .int 0, .int 0, .int 0, .int 0])) := ⟨_, rfl⟩
                refine V_heap (M' := M_16) eM_17.symm ?_
                have ho_18 : M_16 (qN g) = some (.inr (0, [.ref (qRl g), .ref (qUl g), .ref (qPl g), .ref (qHs g), .int (σ.1 20), .int (σ.1 14), .int (σ.1 11), .int (σ.1 12), .int (σ.1 15), .int (z 0), .int (z 1), .int (z 2), .int (z 3), .int (z 4), .int (z 5), .int ca, .ref (qAn g)])) := by rw [eM_17, hp_up_n (hp_ne0 ho_3 hq_10)]; exact ho_3
                have ho_19 : M_16 (qP g p) = some (.inr (2, [.ref (qPa g p), .int (nI ((psz σ p) + 1))])) := by rw [eM_17, hp_up_n (hp_ne0 eM_2_s hq_10)]; exact eM_2_s
                have ha_20 : M_16 (qPl g) = some (.inl (G.2 12, 6, .inr (.inr (.inr (.inr fP))))) := by rw [eM_17, hp_up_n (hp_ne0 ha_4 hq_10)]; exact ha_4
                have ha_21 : M_16 (qHs g) = some (.inl (G.2 14, 13, .inr (.inr (.inr (.inr fH))))) := by rw [eM_17, hp_up_n (hp_ne0 ha_5 hq_10)]; exact ha_5
                have ha_22 : M_16 (qPa g p) = some (.inl (G.2 13, 12, .inr (.inr (.inr (.inr fp))))) := by rw [eM_17, hp_up_n (hp_ne0 ha_6 hq_10)]; exact ha_6
                have ho_23 : M_16 q_9 = some (.inr (3, [.int 0, .int 0, .int 0, .int 0, .int 0, .int 0])) := by rw [eM_17]; exact hp_up_s
                have fr_24 := hp_fr.new fr_7 hq_10 eM_17
                have nn_25 := hp_fr.nn fr_7 hq_10
                have sh_26 := hp_sh.new sh_8 hq_10 eM_17
                refine V_dup C dX1_plan_109 rfl ?_
                refine V_iload_n C dX1_plan_110 rfl 2 rfl ?_
                refine V_iload_n C dX1_plan_111 rfl 3 rfl ?_
                refine V_iload C dX1_plan_112 4 rfl ?_
                refine V_iload C dX1_plan_114 5 rfl ?_
                refine V_iload C dX1_plan_116 6 rfl ?_
                refine V_iload C dX1_plan_118 7 rfl ?_
                refine V_callI C (c_X24_init_3 l hl G X N0 M_16 q_9 ho_23 x0 a i b j n) cs_X1_275 rfl rfl ⟨Nat.le_of_ble_eq_true rfl, Nat.le_of_ble_eq_true rfl⟩ ⟨(by first | exact Nat.le_of_ble_eq_true rfl | omega | (dsimp only; omega) | (simp only [List.length_cons, List.length_nil]; omega)), (by first | exact Nat.le_of_ble_eq_true rfl | omega | (dsimp only; omega) | (simp only [List.length_cons, List.length_nil]; omega))⟩ (Nat.le_of_ble_eq_true rfl) dX1_plan_120 (fun _ _ _ h => px0 h) ?_
                rintro _ M_27 ⟨rfl, ho_28, fr_29, sh_30⟩
                refine V_st (st' := [.ref q_9, .int (nI (psz σ p)), .ref (qPa g p)]) rfl ?_
                have ho_31 : M_27 (qN g) = some (.inr (0, [.ref (qRl g), .ref (qUl g), .ref (qPl g), .ref (qHs g), .int (σ.1 20), .int (σ.1 14), .int (σ.1 11), .int (σ.1 12), .int (σ.1 15), .int (z 0), .int (z 1), .int (z 2), .int (z 3), .int (z 4), .int (z 5), .int ca, .ref (qAn g)])) := fr_29 _ _ ne_11 ho_18
                have ho_32 : M_27 (qP g p) = some (.inr (2, [.ref (qPa g p), .int (nI ((psz σ p) + 1))])) := fr_29 _ _ ne_12 ho_19
                have ha_33 : M_27 (qPl g) = some (.inl (G.2 12, 6, .inr (.inr (.inr (.inr fP))))) := fr_29 _ _ ne_13 ha_20
                have ha_34 : M_27 (qHs g) = some (.inl (G.2 14, 13, .inr (.inr (.inr (.inr fH))))) := fr_29 _ _ ne_14 ha_21
                have ha_35 : M_27 (qPa g p) = some (.inl (G.2 13, 12, .inr (.inr (.inr (.inr fp))))) := fr_29 _ _ ne_15 ha_22
                have fr_36 := hp_fr.after fr_24 fr_29 nn_25
                have sh_37 := sh_26.trans sh_30
                refine V_pc (pc1 := 123) rfl ?_
                refine V_aastM C (j := 13) rfl rfl ha_35 (Or.inl ⟨_, 3, _, (RX24, TX24, 6), rfl, ho_28, rfl, Or.inl rfl⟩) (vp_in_nI (by omega) (by omega)) dX1_plan_123 ?_
                refine V_heap (M' := hp_up M_27 (qPa g p) (.inl (G.2 13, 12, .inr (.inr (.inr (.inr (va_up fp (psz σ p) (some q_9)))))))) (by rw [nI_clamp (by omega)]) ?_
                obtain ⟨M_38, eM_39⟩ : ∃ z, z = hp_up M_27 (qPa g p) (.inl (G.2 13, 12, .inr (.inr (.inr (.inr (va_up fp (psz σ p) (some q_9))))))) := ⟨_, rfl⟩
                refine V_heap (M' := M_38) eM_39.symm ?_
                have ho_40 : M_38 (qN g) = some (.inr (0, [.ref (qRl g), .ref (qUl g), .ref (qPl g), .ref (qHs g), .int (σ.1 20), .int (σ.1 14), .int (σ.1 11), .int (σ.1 12), .int (σ.1 15), .int (z 0), .int (z 1), .int (z 2), .int (z 3), .int (z 4), .int (z 5), .int ca, .ref (qAn g)])) := by rw [eM_39, hp_up_n (hp_ne ho_31 ha_35 (by simp))]; exact ho_31
                have ho_41 : M_38 (qP g p) = some (.inr (2, [.ref (qPa g p), .int (nI ((psz σ p) + 1))])) := by rw [eM_39, hp_up_n (hp_ne ho_32 ha_35 (by simp))]; exact ho_32
                have ho_42 : M_38 q_9 = some (.inr (3, [.int x0, .int a, .int i, .int b, .int j, .int n])) := by rw [eM_39, hp_up_n (Ne.symm ne_15)]; exact ho_28
                have ha_43 : M_38 (qPl g) = some (.inl (G.2 12, 6, .inr (.inr (.inr (.inr fP))))) := by rw [eM_39, hp_up_n (hp_ne ha_33 ha_35 (by simp))]; exact ha_33
                have ha_44 : M_38 (qHs g) = some (.inl (G.2 14, 13, .inr (.inr (.inr (.inr fH))))) := by rw [eM_39, hp_up_n (hp_ne ha_34 ha_35 (by simp))]; exact ha_34
                have eM_39_s : M_38 (qPa g p) = some (.inl (G.2 13, 12, .inr (.inr (.inr (.inr (va_up fp (psz σ p) (some q_9))))))) := by rw [eM_39]; exact hp_up_s
                have fr_45 := hp_fr.set fr_36 (Or.inl (Or.inr rfl)) eM_39
                have sh_46 := hp_sh.set sh_37 ha_35 eM_39 rfl
                refine V_aload C dX1_plan_124 9 rfl ?_
                refine V_getN C f_X1_270_2 ho_41 (v := .int (nI ((psz σ p) + 1))) rfl dX1_plan_126 ?_
                refine V_iret C dX1_plan_129 rfl ?_ (by first | exact Nat.le_of_ble_eq_true rfl | omega | (dsimp only; omega) | (simp only [List.length_cons, List.length_nil]; omega)) (by first | exact Nat.le_of_ble_eq_true rfl | omega | (dsimp only; omega) | (simp only [List.length_cons, List.length_nil]; omega))
                (try simp only [lg_cmp_lt, lg_cmp_gt, lg_cmp_ge, lg_cmp_le, lg_cmp_eq, Classical.not_not] at c_14 c_23 c_29 c_62_3 c_83)
                have hyes : (¬ x0 < 0 ∧ ¬ 13 ≤ x0) ∧ (x0 = 10 → (¬ a < 0 ∧ ¬ 6 ≤ a) ∧ (i = 0 ∨ i = 1)) := by
                  have e13 : nI 13 = 13 := rfl
                  clear C hR hN hPl hHs
                  grind
                rw [plan_c hp, if_pos hyes]
                unfold mf_planA
                rw [if_neg (by rw [hpE]; intro y; exact absurd ((nI_eq (b := 12) (by omega) (by decide)).mp y) (by omega))]
                obtain ⟨σ', hσ⟩ : ∃ σ', σ' = si (si σ 17 (va_up (va_up (va_up (va_up (va_up (va_up (σ.2.1 17) (6 * (12 * p + psz σ p)) x0) (6 * (12 * p + psz σ p) + 1) a) (6 * (12 * p + psz σ p) + 2) i) (6 * (12 * p + psz σ p) + 3) b) (6 * (12 * p + psz σ p) + 4) j) (6 * (12 * p + psz σ p) + 5) n)) 16 (va_up (σ.2.1 16) p (nI (psz σ p + 1))) := ⟨_, rfl⟩
                rw [← hσ]
                have h16 : σ'.2.1 16 = va_up (σ.2.1 16) p (nI (psz σ p + 1)) := by rw [hσ, si_g]
                have h16n : ∀ i, i ≠ p → σ'.2.1 16 i = σ.2.1 16 i := fun i hi => by rw [h16, va_up_n hi]
                have h16p : psz σ' p = psz σ p + 1 := by unfold psz; rw [h16, va_up_s, nI_clamp (show (psz σ p + 1) < 2 ^ 31 by omega)]
                have hq0 : M q_9 = none := hp_up_none eM_2 hq_10
                have hAF : AF σ' p (psz σ p) = [.int x0, .int a, .int i, .int b, .int j, .int n] := by rw [hσ]; simp [AF, aw, si, va_up]
                refine ⟨rfl, _, hR.plan (σ' := σ') (q := q_9) (f' := va_up fp (psz σ p) (some q_9)) hp (by rw [hσ]; rfl) (fun k h1 h2 => by rw [hσ]; simp [si, va_up, h1, h2]) (by rw [hσ]; rfl) h16n h16p (fun i' k x hi hk hx => by have h12 := (hI.p hi).2; have hkp : i' ≠ p ∨ k < psz σ p := (Classical.em (i' = p)).elim (fun y => Or.inr (y ▸ hk)) (fun y => Or.inl y); rw [hσ]; unfold aw; simp only [si, va_up]; rw [if_neg (by decide), if_pos trivial, va_up_n (by omega), va_up_n (by omega), va_up_n (by omega), va_up_n (by omega), va_up_n (by omega), va_up_n (by omega)]) hq0 (by rw [hAF]; exact ho_42) (by rw [h16, va_up_s]; exact ho_41) eM_39_s (fun k hk => by rw [va_up_n (Nat.ne_of_lt hk)]; exact hPaf k hk) va_up_s fr_45, RKp.mk9 ?_ fr_45 ?_ ?_ sh_46⟩
                · intro t i j h2 h4 h17 h19 hd h5 _
                  refine gA_o ?_
                  rintro ⟨rfl, rfl, rfl⟩
                  exact absurd hd.2 (Nat.lt_irrefl _)
                · rintro a (rfl | rfl)
                  · exact ⟨9, p, 0, ⟨hp, rfl⟩, rfl⟩
                  · exact ⟨10, p, 0, ⟨hp, rfl⟩, rfl⟩
                · intro t i j hd
                  rcases RD.gA (σ' := σ') (by rw [hσ]; rfl) (by rw [hσ]; rfl) (by rw [hσ]; rfl) (fun i hi => by unfold psz; rw [h16n i hi]) h16p hd with y | ⟨rfl, rfl, rfl⟩
                  · exact Or.inl y
                  · right; rw [gA_s]; exact hq0
              · refine V_bipush (v := -104) C dX1_plan_86 rfl ?_
                refine V_iret C dX1_plan_88 rfl ?_ (by first | exact Nat.le_of_ble_eq_true rfl | omega | (dsimp only; omega) | (simp only [List.length_cons, List.length_nil]; omega)) (by first | exact Nat.le_of_ble_eq_true rfl | omega | (dsimp only; omega) | (simp only [List.length_cons, List.length_nil]; omega))
                have hp12 := c_83
                (try simp only [lg_cmp_lt, lg_cmp_gt, lg_cmp_ge, lg_cmp_le, lg_cmp_eq, Classical.not_not] at c_14 c_23 c_29 c_62_3 c_83)
                have hyes : (¬ x0 < 0 ∧ ¬ 13 ≤ x0) ∧ (x0 = 10 → (¬ a < 0 ∧ ¬ 6 ≤ a) ∧ (i = 0 ∨ i = 1)) := by
                  have e13 : nI 13 = 13 := rfl
                  clear C hR hN hPl hHs
                  grind
                rw [plan_c hp, if_pos hyes]
                unfold mf_planA
                rw [hpE, if_pos hp12]
                exact SP.same hR
            · exact absurd c_62_3 (by decide)
          · refine V_iload_n C dX1_plan_32 rfl 3 rfl ?_
            refine V_if_lt (tgt := 57) C dX1_plan_33 (by decide) (fun c_33 => ?_) (fun c_33 => ?_)
            · refine V_iconst (v := 0) C dX1_plan_57 rfl ?_
              refine V_istore C dX1_plan_58 (Nat.le_of_ble_eq_true rfl) [(0, .ref (qN g)), (1, .int (nI p)), (2, .int x0), (3, .int a), (4, .int i), (5, .int b), (6, .int j), (7, .int n), (8, .int 0)] [1, 2, 3, 4, 5, 6, 7, 8, 0] rfl ?_
              refine V_iload C dX1_plan_60 8 rfl ?_
              refine V_if_ne (tgt := 68) C dX1_plan_62 (by decide) (fun c_62_4 => ?_) (fun c_62_4 => ?_)
              · exact absurd c_62_4 (by decide)
              · refine V_bipush (v := -102) C dX1_plan_65 rfl ?_
                refine V_iret C dX1_plan_67 rfl ?_ (by first | exact Nat.le_of_ble_eq_true rfl | omega | (dsimp only; omega) | (simp only [List.length_cons, List.length_nil]; omega)) (by first | exact Nat.le_of_ble_eq_true rfl | omega | (dsimp only; omega) | (simp only [List.length_cons, List.length_nil]; omega))
                (try simp only [lg_cmp_lt, lg_cmp_gt, lg_cmp_ge, lg_cmp_le, lg_cmp_eq, Classical.not_not] at c_14 c_23 c_29 c_33 c_62_4)
                have hno : ¬ ((¬ x0 < 0 ∧ ¬ 13 ≤ x0) ∧ (x0 = 10 → (¬ a < 0 ∧ ¬ 6 ≤ a) ∧ (i = 0 ∨ i = 1))) := by
                  have e13 : nI 13 = 13 := rfl
                  clear C hR hN hPl hHs
                  grind
                rw [plan_c hp, if_neg hno]
                exact SP.same hR
            · refine V_iload_n C dX1_plan_36 rfl 3 rfl ?_
              refine V_bipush (v := 6) C dX1_plan_37 rfl ?_
              refine V_icmp_ge (tgt := 57) C dX1_plan_39 (by decide) (fun c_39 => ?_) (fun c_39 => ?_)
              · refine V_iconst (v := 0) C dX1_plan_57 rfl ?_
                refine V_istore C dX1_plan_58 (Nat.le_of_ble_eq_true rfl) [(0, .ref (qN g)), (1, .int (nI p)), (2, .int x0), (3, .int a), (4, .int i), (5, .int b), (6, .int j), (7, .int n), (8, .int 0)] [1, 2, 3, 4, 5, 6, 7, 8, 0] rfl ?_
                refine V_iload C dX1_plan_60 8 rfl ?_
                refine V_pc (pc1 := 62) rfl ?_
                refine V_if_ne (tgt := 68) C dX1_plan_62 (by decide) (fun c_62_5 => ?_) (fun c_62_5 => ?_)
                · exact absurd c_62_5 (by decide)
                · refine V_bipush (v := -102) C dX1_plan_65 rfl ?_
                  refine V_iret C dX1_plan_67 rfl ?_ (by first | exact Nat.le_of_ble_eq_true rfl | omega | (dsimp only; omega) | (simp only [List.length_cons, List.length_nil]; omega)) (by first | exact Nat.le_of_ble_eq_true rfl | omega | (dsimp only; omega) | (simp only [List.length_cons, List.length_nil]; omega))
                  (try simp only [lg_cmp_lt, lg_cmp_gt, lg_cmp_ge, lg_cmp_le, lg_cmp_eq, Classical.not_not] at c_14 c_23 c_29 c_33 c_39 c_62_5)
                  have hno : ¬ ((¬ x0 < 0 ∧ ¬ 13 ≤ x0) ∧ (x0 = 10 → (¬ a < 0 ∧ ¬ 6 ≤ a) ∧ (i = 0 ∨ i = 1))) := by
                    have e13 : nI 13 = 13 := rfl
                    clear C hR hN hPl hHs
                    grind
                  rw [plan_c hp, if_neg hno]
                  exact SP.same hR
              · refine V_iload C dX1_plan_42 4 rfl ?_
                refine V_if_eq (tgt := 53) C dX1_plan_44 (by decide) (fun c_44 => ?_) (fun c_44 => ?_)
                · refine V_iconst (v := 1) C dX1_plan_53 rfl ?_
                  refine V_pc (pc1 := 54) rfl ?_
                  refine V_goto (tgt := 58) C dX1_plan_54 (by decide) ?_
                  refine V_istore C dX1_plan_58 (Nat.le_of_ble_eq_true rfl) [(0, .ref (qN g)), (1, .int (nI p)), (2, .int x0), (3, .int a), (4, .int i), (5, .int b), (6, .int j), (7, .int n), (8, .int 1)] [1, 2, 3, 4, 5, 6, 7, 8, 0] rfl ?_
                  refine V_iload C dX1_plan_60 8 rfl ?_
                  refine V_if_ne (tgt := 68) C dX1_plan_62 (by decide) (fun c_62_6 => ?_) (fun c_62_6 => ?_)
                  · obtain ⟨hpE, hpL⟩ := hI.p hp
                    have hP9 := hR.P hp
                    rw [hpE] at hP9
                    obtain ⟨fp, hPa, hPaf⟩ := hR.Pa hp
                    have hfr : hp_fr (fun b => b = qP g p ∨ b = qPa g p) M M := hp_fr.rf
                    have hsh : hp_sh M M := hp_sh.rf
                    refine V_aload_n C dX1_plan_68 rfl 0 rfl ?_
                    refine V_get C f_X1_126_0 hN (v := .ref (qPl g)) rfl dX1_plan_69 ?_
                    refine V_iload_n C dX1_plan_72 rfl 1 rfl ?_
                    refine V_aald C (j := 12) rfl rfl hPl (vp_in_nI (by omega) (by omega)) dX1_plan_73 ?_
                    refine V_st (st' := [.ref (qP g p)]) (by rw [nI_clamp (by omega), (hPf p hp)]; rfl) ?_
                    refine V_astore C dX1_plan_74 (Nat.le_of_ble_eq_true rfl) [(0, .ref (qN g)), (1, .int (nI p)), (2, .int x0), (3, .int a), (4, .int i), (5, .int b), (6, .int j), (7, .int n), (8, .int 1), (9, .ref (qP g p))] [1, 2, 3, 4, 5, 6, 7, 8, 9, 0] rfl ?_
                    refine V_aload C dX1_plan_76 9 rfl ?_
                    refine V_getN C f_X1_270_2 hP9 (v := .int (nI (psz σ p))) rfl dX1_plan_78 ?_
                    refine V_bipush (v := 12) C dX1_plan_81 rfl ?_
                    refine V_pc (pc1 := 83) rfl ?_
                    refine V_icmp_ne (tgt := 89) C dX1_plan_83 (by decide) (fun c_83_2 => ?_) (fun c_83_2 => ?_)
                    · have hp12 : psz σ p < 12 := by
                        have hne : psz σ p ≠ 12 := fun y => c_83_2 (by rw [y]; rfl)
                        omega
                      refine V_aload C dX1_plan_89 9 rfl ?_
                      refine V_getN C f_X1_272_2 hP9 (v := .ref (qPa g p)) rfl dX1_plan_91 ?_
                      refine V_aload C dX1_plan_94 9 rfl ?_
                      refine V_dup C dX1_plan_96 rfl ?_
                      refine V_getN C f_X1_270_2 hP9 (v := .int (nI (psz σ p))) rfl dX1_plan_97 ?_
                      refine V_dup_x1 C dX1_plan_100 rfl rfl ?_
                      refine V_iconst (v := 1) C dX1_plan_101 rfl ?_
                      refine V_iadd C dX1_plan_102 ?_
                      refine V_st (st' := [.int (nI ((psz σ p) + 1)), .ref (qP g p), .int (nI (psz σ p)), .ref (qPa g p)]) (by rw [show ((nI (psz σ p)) + 1) = (nI ((psz σ p) + 1)) from nI_add (psz σ p) 1]) ?_
                      refine V_putN C f_X1_270_2 hP9 rfl rfl (Nat.le_of_ble_eq_true rfl) dX1_plan_103 ?_
                      obtain ⟨M_47, eM_48⟩ : ∃ z, z = hp_up M (qP g p) (.inr (2, [.ref (qPa g p), .int (nI ((psz σ p) + 1))])) := ⟨_, rfl⟩
                      refine V_heap (M' := M_47) eM_48.symm ?_
                      have ho_49 : M_47 (qN g) = some (.inr (0, [.ref (qRl g), .ref (qUl g), .ref (qPl g), .ref (qHs g), .int (σ.1 20), .int (σ.1 14), .int (σ.1 11), .int (σ.1 12), .int (σ.1 15), .int (z 0), .int (z 1), .int (z 2), .int (z 3), .int (z 4), .int (z 5), .int ca, .ref (qAn g)])) := by rw [eM_48, hp_up_n (hp_ne hN hP9 (by simp))]; exact hN
                      have ha_50 : M_47 (qPl g) = some (.inl (G.2 12, 6, .inr (.inr (.inr (.inr fP))))) := by rw [eM_48, hp_up_n (hp_ne hPl hP9 (by simp))]; exact hPl
                      have ha_51 : M_47 (qHs g) = some (.inl (G.2 14, 13, .inr (.inr (.inr (.inr fH))))) := by rw [eM_48, hp_up_n (hp_ne hHs hP9 (by simp))]; exact hHs
                      have ha_52 : M_47 (qPa g p) = some (.inl (G.2 13, 12, .inr (.inr (.inr (.inr fp))))) := by rw [eM_48, hp_up_n (hp_ne hPa hP9 (by simp))]; exact hPa
                      have eM_48_s : M_47 (qP g p) = some (.inr (2, [.ref (qPa g p), .int (nI ((psz σ p) + 1))])) := by rw [eM_48]; exact hp_up_s
                      have fr_53 := hp_fr.set hfr (Or.inl (Or.inl rfl)) eM_48
                      have sh_54 := hp_sh.set hsh hP9 eM_48 rfl
                      refine V_new C n_X1_190 rfl (by first | exact Nat.le_of_ble_eq_true rfl | omega | (dsimp only; omega) | (simp only [List.length_cons, List.length_nil]; omega)) (by first | exact Nat.le_of_ble_eq_true rfl | omega | (dsimp only; omega) | (simp only [List.length_cons, List.length_nil]; omega)) dX1_plan_106 (fun q_55 hq_56 => ?_)
                      have ne_57 : (qN g) ≠ q_55 := hp_ne0 ho_49 hq_56
                      have ne_58 : (qP g p) ≠ q_55 := hp_ne0 eM_48_s hq_56
                      have ne_59 : (qPl g) ≠ q_55 := hp_ne0 ha_50 hq_56
                      have ne_60 : (qHs g) ≠ q_55 := hp_ne0 ha_51 hq_56
                      have ne_61 : (qPa g p) ≠ q_55 := hp_ne0 ha_52 hq_56
                      obtain ⟨M_62, eM_63⟩ : ∃ z, z = hp_up M_47 q_55 (.inr (3, [.int 0, .int 0, .int 0, .int 0, .int 0, .int 0])) := ⟨_, rfl⟩
                      refine V_heap (M' := M_62) eM_63.symm ?_
                      have ho_64 : M_62 (qN g) = some (.inr (0, [.ref (qRl g), .ref (qUl g), .ref (qPl g), .ref (qHs g), .int (σ.1 20), .int (σ.1 14), .int (σ.1 11), .int (σ.1 12), .int (σ.1 15), .int (z 0), .int (z 1), .int (z 2), .int (z 3), .int (z 4), .int (z 5), .int ca, .ref (qAn g)])) := by rw [eM_63, hp_up_n (hp_ne0 ho_49 hq_56)]; exact ho_49
                      have ho_65 : M_62 (qP g p) = some (.inr (2, [.ref (qPa g p), .int (nI ((psz σ p) + 1))])) := by rw [eM_63, hp_up_n (hp_ne0 eM_48_s hq_56)]; exact eM_48_s
                      have ha_66 : M_62 (qPl g) = some (.inl (G.2 12, 6, .inr (.inr (.inr (.inr fP))))) := by rw [eM_63, hp_up_n (hp_ne0 ha_50 hq_56)]; exact ha_50
                      have ha_67 : M_62 (qHs g) = some (.inl (G.2 14, 13, .inr (.inr (.inr (.inr fH))))) := by rw [eM_63, hp_up_n (hp_ne0 ha_51 hq_56)]; exact ha_51
                      have ha_68 : M_62 (qPa g p) = some (.inl (G.2 13, 12, .inr (.inr (.inr (.inr fp))))) := by rw [eM_63, hp_up_n (hp_ne0 ha_52 hq_56)]; exact ha_52
                      have ho_69 : M_62 q_55 = some (.inr (3, [.int 0, .int 0, .int 0, .int 0, .int 0, .int 0])) := by rw [eM_63]; exact hp_up_s
                      have fr_70 := hp_fr.new fr_53 hq_56 eM_63
                      have nn_71 := hp_fr.nn fr_53 hq_56
                      have sh_72 := hp_sh.new sh_54 hq_56 eM_63
                      refine V_dup C dX1_plan_109 rfl ?_
                      refine V_pc (pc1 := 110) rfl ?_
                      refine V_iload_n C dX1_plan_110 rfl 2 rfl ?_
                      refine V_iload_n C dX1_plan_111 rfl 3 rfl ?_
                      refine V_iload C dX1_plan_112 4 rfl ?_
                      refine V_iload C dX1_plan_114 5 rfl ?_
                      refine V_iload C dX1_plan_116 6 rfl ?_
                      refine V_iload C dX1_plan_118 7 rfl ?_
                      refine V_callI C (c_X24_init_3 l hl G X N0 M_62 q_55 ho_69 x0 a i b j n) cs_X1_275 rfl rfl ⟨Nat.le_of_ble_eq_true rfl, Nat.le_of_ble_eq_true rfl⟩ ⟨(by first | exact Nat.le_of_ble_eq_true rfl | omega | (dsimp only; omega) | (simp only [List.length_cons, List.length_nil]; omega)), (by first | exact Nat.le_of_ble_eq_true rfl | omega | (dsimp only; omega) | (simp only [List.length_cons, List.length_nil]; omega))⟩ (Nat.le_of_ble_eq_true rfl) dX1_plan_120 (fun _ _ _ h => px0 h) ?_
                      rintro _ M_73 ⟨rfl, ho_74, fr_75, sh_76⟩
                      refine V_st (st' := [.ref q_55, .int (nI (psz σ p)), .ref (qPa g p)]) rfl ?_
                      have ho_77 : M_73 (qN g) = some (.inr (0, [.ref (qRl g), .ref (qUl g), .ref (qPl g), .ref (qHs g), .int (σ.1 20), .int (σ.1 14), .int (σ.1 11), .int (σ.1 12), .int (σ.1 15), .int (z 0), .int (z 1), .int (z 2), .int (z 3), .int (z 4), .int (z 5), .int ca, .ref (qAn g)])) := fr_75 _ _ ne_57 ho_64
                      have ho_78 : M_73 (qP g p) = some (.inr (2, [.ref (qPa g p), .int (nI ((psz σ p) + 1))])) := fr_75 _ _ ne_58 ho_65
                      have ha_79 : M_73 (qPl g) = some (.inl (G.2 12, 6, .inr (.inr (.inr (.inr fP))))) := fr_75 _ _ ne_59 ha_66
                      have ha_80 : M_73 (qHs g) = some (.inl (G.2 14, 13, .inr (.inr (.inr (.inr fH))))) := fr_75 _ _ ne_60 ha_67
                      have ha_81 : M_73 (qPa g p) = some (.inl (G.2 13, 12, .inr (.inr (.inr (.inr fp))))) := fr_75 _ _ ne_61 ha_68
                      have fr_82 := hp_fr.after fr_70 fr_75 nn_71
                      have sh_83 := sh_72.trans sh_76
                      refine V_aastM C (j := 13) rfl rfl ha_81 (Or.inl ⟨_, 3, _, (RX24, TX24, 6), rfl, ho_74, rfl, Or.inl rfl⟩) (vp_in_nI (by omega) (by omega)) dX1_plan_123 ?_
                      refine V_heap (M' := hp_up M_73 (qPa g p) (.inl (G.2 13, 12, .inr (.inr (.inr (.inr (va_up fp (psz σ p) (some q_55)))))))) (by rw [nI_clamp (by omega)]) ?_
                      obtain ⟨M_84, eM_85⟩ : ∃ z, z = hp_up M_73 (qPa g p) (.inl (G.2 13, 12, .inr (.inr (.inr (.inr (va_up fp (psz σ p) (some q_55))))))) := ⟨_, rfl⟩
                      refine V_heap (M' := M_84) eM_85.symm ?_
                      have ho_86 : M_84 (qN g) = some (.inr (0, [.ref (qRl g), .ref (qUl g), .ref (qPl g), .ref (qHs g), .int (σ.1 20), .int (σ.1 14), .int (σ.1 11), .int (σ.1 12), .int (σ.1 15), .int (z 0), .int (z 1), .int (z 2), .int (z 3), .int (z 4), .int (z 5), .int ca, .ref (qAn g)])) := by rw [eM_85, hp_up_n (hp_ne ho_77 ha_81 (by simp))]; exact ho_77
                      have ho_87 : M_84 (qP g p) = some (.inr (2, [.ref (qPa g p), .int (nI ((psz σ p) + 1))])) := by rw [eM_85, hp_up_n (hp_ne ho_78 ha_81 (by simp))]; exact ho_78
                      have ho_88 : M_84 q_55 = some (.inr (3, [.int x0, .int a, .int i, .int b, .int j, .int n])) := by rw [eM_85, hp_up_n (Ne.symm ne_61)]; exact ho_74
                      have ha_89 : M_84 (qPl g) = some (.inl (G.2 12, 6, .inr (.inr (.inr (.inr fP))))) := by rw [eM_85, hp_up_n (hp_ne ha_79 ha_81 (by simp))]; exact ha_79
                      have ha_90 : M_84 (qHs g) = some (.inl (G.2 14, 13, .inr (.inr (.inr (.inr fH))))) := by rw [eM_85, hp_up_n (hp_ne ha_80 ha_81 (by simp))]; exact ha_80
                      have eM_85_s : M_84 (qPa g p) = some (.inl (G.2 13, 12, .inr (.inr (.inr (.inr (va_up fp (psz σ p) (some q_55))))))) := by rw [eM_85]; exact hp_up_s
                      have fr_91 := hp_fr.set fr_82 (Or.inl (Or.inr rfl)) eM_85
                      have sh_92 := hp_sh.set sh_83 ha_81 eM_85 rfl
                      refine V_aload C dX1_plan_124 9 rfl ?_
                      refine V_getN C f_X1_270_2 ho_87 (v := .int (nI ((psz σ p) + 1))) rfl dX1_plan_126 ?_
                      refine V_iret C dX1_plan_129 rfl ?_ (by first | exact Nat.le_of_ble_eq_true rfl | omega | (dsimp only; omega) | (simp only [List.length_cons, List.length_nil]; omega)) (by first | exact Nat.le_of_ble_eq_true rfl | omega | (dsimp only; omega) | (simp only [List.length_cons, List.length_nil]; omega))
                      (try simp only [lg_cmp_lt, lg_cmp_gt, lg_cmp_ge, lg_cmp_le, lg_cmp_eq, Classical.not_not] at c_14 c_23 c_29 c_33 c_39 c_44 c_62_6 c_83_2)
                      have hyes : (¬ x0 < 0 ∧ ¬ 13 ≤ x0) ∧ (x0 = 10 → (¬ a < 0 ∧ ¬ 6 ≤ a) ∧ (i = 0 ∨ i = 1)) := by
                        have e13 : nI 13 = 13 := rfl
                        clear C hR hN hPl hHs
                        grind
                      rw [plan_c hp, if_pos hyes]
                      unfold mf_planA
                      rw [if_neg (by rw [hpE]; intro y; exact absurd ((nI_eq (b := 12) (by omega) (by decide)).mp y) (by omega))]
                      obtain ⟨σ', hσ⟩ : ∃ σ', σ' = si (si σ 17 (va_up (va_up (va_up (va_up (va_up (va_up (σ.2.1 17) (6 * (12 * p + psz σ p)) x0) (6 * (12 * p + psz σ p) + 1) a) (6 * (12 * p + psz σ p) + 2) i) (6 * (12 * p + psz σ p) + 3) b) (6 * (12 * p + psz σ p) + 4) j) (6 * (12 * p + psz σ p) + 5) n)) 16 (va_up (σ.2.1 16) p (nI (psz σ p + 1))) := ⟨_, rfl⟩
                      rw [← hσ]
                      have h16 : σ'.2.1 16 = va_up (σ.2.1 16) p (nI (psz σ p + 1)) := by rw [hσ, si_g]
                      have h16n : ∀ i, i ≠ p → σ'.2.1 16 i = σ.2.1 16 i := fun i hi => by rw [h16, va_up_n hi]
                      have h16p : psz σ' p = psz σ p + 1 := by unfold psz; rw [h16, va_up_s, nI_clamp (show (psz σ p + 1) < 2 ^ 31 by omega)]
                      have hq0 : M q_55 = none := hp_up_none eM_48 hq_56
                      have hAF : AF σ' p (psz σ p) = [.int x0, .int a, .int i, .int b, .int j, .int n] := by rw [hσ]; simp [AF, aw, si, va_up]
                      refine ⟨rfl, _, hR.plan (σ' := σ') (q := q_55) (f' := va_up fp (psz σ p) (some q_55)) hp (by rw [hσ]; rfl) (fun k h1 h2 => by rw [hσ]; simp [si, va_up, h1, h2]) (by rw [hσ]; rfl) h16n h16p (fun i' k x hi hk hx => by have h12 := (hI.p hi).2; have hkp : i' ≠ p ∨ k < psz σ p := (Classical.em (i' = p)).elim (fun y => Or.inr (y ▸ hk)) (fun y => Or.inl y); rw [hσ]; unfold aw; simp only [si, va_up]; rw [if_neg (by decide), if_pos trivial, va_up_n (by omega), va_up_n (by omega), va_up_n (by omega), va_up_n (by omega), va_up_n (by omega), va_up_n (by omega)]) hq0 (by rw [hAF]; exact ho_88) (by rw [h16, va_up_s]; exact ho_87) eM_85_s (fun k hk => by rw [va_up_n (Nat.ne_of_lt hk)]; exact hPaf k hk) va_up_s fr_91, RKp.mk9 ?_ fr_91 ?_ ?_ sh_92⟩
                      · intro t i j h2 h4 h17 h19 hd h5 _
                        refine gA_o ?_
                        rintro ⟨rfl, rfl, rfl⟩
                        exact absurd hd.2 (Nat.lt_irrefl _)
                      · rintro a (rfl | rfl)
                        · exact ⟨9, p, 0, ⟨hp, rfl⟩, rfl⟩
                        · exact ⟨10, p, 0, ⟨hp, rfl⟩, rfl⟩
                      · intro t i j hd
                        rcases RD.gA (σ' := σ') (by rw [hσ]; rfl) (by rw [hσ]; rfl) (by rw [hσ]; rfl) (fun i hi => by unfold psz; rw [h16n i hi]) h16p hd with y | ⟨rfl, rfl, rfl⟩
                        · exact Or.inl y
                        · right; rw [gA_s]; exact hq0
                    · refine V_bipush (v := -104) C dX1_plan_86 rfl ?_
                      refine V_iret C dX1_plan_88 rfl ?_ (by first | exact Nat.le_of_ble_eq_true rfl | omega | (dsimp only; omega) | (simp only [List.length_cons, List.length_nil]; omega)) (by first | exact Nat.le_of_ble_eq_true rfl | omega | (dsimp only; omega) | (simp only [List.length_cons, List.length_nil]; omega))
                      have hp12 := c_83_2
                      (try simp only [lg_cmp_lt, lg_cmp_gt, lg_cmp_ge, lg_cmp_le, lg_cmp_eq, Classical.not_not] at c_14 c_23 c_29 c_33 c_39 c_44 c_62_6 c_83_2)
                      have hyes : (¬ x0 < 0 ∧ ¬ 13 ≤ x0) ∧ (x0 = 10 → (¬ a < 0 ∧ ¬ 6 ≤ a) ∧ (i = 0 ∨ i = 1)) := by
                        have e13 : nI 13 = 13 := rfl
                        clear C hR hN hPl hHs
                        grind
                      rw [plan_c hp, if_pos hyes]
                      unfold mf_planA
                      rw [hpE, if_pos hp12]
                      exact SP.same hR
                  · exact absurd c_62_6 (by decide)
                · refine V_iload C dX1_plan_47 4 rfl ?_
                  refine V_pc (pc1 := 49) rfl ?_
                  refine V_iconst (v := 1) C dX1_plan_49 rfl ?_
                  refine V_icmp_ne (tgt := 57) C dX1_plan_50 (by decide) (fun c_50 => ?_) (fun c_50 => ?_)
                  · refine V_iconst (v := 0) C dX1_plan_57 rfl ?_
                    refine V_istore C dX1_plan_58 (Nat.le_of_ble_eq_true rfl) [(0, .ref (qN g)), (1, .int (nI p)), (2, .int x0), (3, .int a), (4, .int i), (5, .int b), (6, .int j), (7, .int n), (8, .int 0)] [1, 2, 3, 4, 5, 6, 7, 8, 0] rfl ?_
                    refine V_iload C dX1_plan_60 8 rfl ?_
                    refine V_if_ne (tgt := 68) C dX1_plan_62 (by decide) (fun c_62_7 => ?_) (fun c_62_7 => ?_)
                    · exact absurd c_62_7 (by decide)
                    · refine V_bipush (v := -102) C dX1_plan_65 rfl ?_
                      refine V_iret C dX1_plan_67 rfl ?_ (by first | exact Nat.le_of_ble_eq_true rfl | omega | (dsimp only; omega) | (simp only [List.length_cons, List.length_nil]; omega)) (by first | exact Nat.le_of_ble_eq_true rfl | omega | (dsimp only; omega) | (simp only [List.length_cons, List.length_nil]; omega))
                      (try simp only [lg_cmp_lt, lg_cmp_gt, lg_cmp_ge, lg_cmp_le, lg_cmp_eq, Classical.not_not] at c_14 c_23 c_29 c_33 c_39 c_44 c_50 c_62_7)
                      have hno : ¬ ((¬ x0 < 0 ∧ ¬ 13 ≤ x0) ∧ (x0 = 10 → (¬ a < 0 ∧ ¬ 6 ≤ a) ∧ (i = 0 ∨ i = 1))) := by
                        have e13 : nI 13 = 13 := rfl
                        clear C hR hN hPl hHs
                        grind
                      rw [plan_c hp, if_neg hno]
                      exact SP.same hR
                  · refine V_iconst (v := 1) C dX1_plan_53 rfl ?_
                    refine V_goto (tgt := 58) C dX1_plan_54 (by decide) ?_
                    refine V_istore C dX1_plan_58 (Nat.le_of_ble_eq_true rfl) [(0, .ref (qN g)), (1, .int (nI p)), (2, .int x0), (3, .int a), (4, .int i), (5, .int b), (6, .int j), (7, .int n), (8, .int 1)] [1, 2, 3, 4, 5, 6, 7, 8, 0] rfl ?_
                    refine V_iload C dX1_plan_60 8 rfl ?_
                    refine V_if_ne (tgt := 68) C dX1_plan_62 (by decide) (fun c_62_8 => ?_) (fun c_62_8 => ?_)
                    · obtain ⟨hpE, hpL⟩ := hI.p hp
                      have hP9 := hR.P hp
                      rw [hpE] at hP9
                      obtain ⟨fp, hPa, hPaf⟩ := hR.Pa hp
                      have hfr : hp_fr (fun b => b = qP g p ∨ b = qPa g p) M M := hp_fr.rf
                      have hsh : hp_sh M M := hp_sh.rf
                      refine V_aload_n C dX1_plan_68 rfl 0 rfl ?_
                      refine V_get C f_X1_126_0 hN (v := .ref (qPl g)) rfl dX1_plan_69 ?_
                      refine V_iload_n C dX1_plan_72 rfl 1 rfl ?_
                      refine V_aald C (j := 12) rfl rfl hPl (vp_in_nI (by omega) (by omega)) dX1_plan_73 ?_
                      refine V_st (st' := [.ref (qP g p)]) (by rw [nI_clamp (by omega), (hPf p hp)]; rfl) ?_
                      refine V_astore C dX1_plan_74 (Nat.le_of_ble_eq_true rfl) [(0, .ref (qN g)), (1, .int (nI p)), (2, .int x0), (3, .int a), (4, .int i), (5, .int b), (6, .int j), (7, .int n), (8, .int 1), (9, .ref (qP g p))] [1, 2, 3, 4, 5, 6, 7, 8, 9, 0] rfl ?_
                      refine V_pc (pc1 := 76) rfl ?_
                      refine V_aload C dX1_plan_76 9 rfl ?_
                      refine V_getN C f_X1_270_2 hP9 (v := .int (nI (psz σ p))) rfl dX1_plan_78 ?_
                      refine V_bipush (v := 12) C dX1_plan_81 rfl ?_
                      refine V_icmp_ne (tgt := 89) C dX1_plan_83 (by decide) (fun c_83_3 => ?_) (fun c_83_3 => ?_)
                      · have hp12 : psz σ p < 12 := by
                          have hne : psz σ p ≠ 12 := fun y => c_83_3 (by rw [y]; rfl)
                          omega
                        refine V_aload C dX1_plan_89 9 rfl ?_
                        refine V_getN C f_X1_272_2 hP9 (v := .ref (qPa g p)) rfl dX1_plan_91 ?_
                        refine V_aload C dX1_plan_94 9 rfl ?_
                        refine V_dup C dX1_plan_96 rfl ?_
                        refine V_getN C f_X1_270_2 hP9 (v := .int (nI (psz σ p))) rfl dX1_plan_97 ?_
                        refine V_dup_x1 C dX1_plan_100 rfl rfl ?_
                        refine V_iconst (v := 1) C dX1_plan_101 rfl ?_
                        refine V_iadd C dX1_plan_102 ?_
                        refine V_st (st' := [.int (nI ((psz σ p) + 1)), .ref (qP g p), .int (nI (psz σ p)), .ref (qPa g p)]) (by rw [show ((nI (psz σ p)) + 1) = (nI ((psz σ p) + 1)) from nI_add (psz σ p) 1]) ?_
                        refine V_pc (pc1 := 103) rfl ?_
                        refine V_putN C f_X1_270_2 hP9 rfl rfl (Nat.le_of_ble_eq_true rfl) dX1_plan_103 ?_
                        obtain ⟨M_93, eM_94⟩ : ∃ z, z = hp_up M (qP g p) (.inr (2, [.ref (qPa g p), .int (nI ((psz σ p) + 1))])) := ⟨_, rfl⟩
                        refine V_heap (M' := M_93) eM_94.symm ?_
                        have ho_95 : M_93 (qN g) = some (.inr (0, [.ref (qRl g), .ref (qUl g), .ref (qPl g), .ref (qHs g), .int (σ.1 20), .int (σ.1 14), .int (σ.1 11), .int (σ.1 12), .int (σ.1 15), .int (z 0), .int (z 1), .int (z 2), .int (z 3), .int (z 4), .int (z 5), .int ca, .ref (qAn g)])) := by rw [eM_94, hp_up_n (hp_ne hN hP9 (by simp))]; exact hN
                        have ha_96 : M_93 (qPl g) = some (.inl (G.2 12, 6, .inr (.inr (.inr (.inr fP))))) := by rw [eM_94, hp_up_n (hp_ne hPl hP9 (by simp))]; exact hPl
                        have ha_97 : M_93 (qHs g) = some (.inl (G.2 14, 13, .inr (.inr (.inr (.inr fH))))) := by rw [eM_94, hp_up_n (hp_ne hHs hP9 (by simp))]; exact hHs
                        have ha_98 : M_93 (qPa g p) = some (.inl (G.2 13, 12, .inr (.inr (.inr (.inr fp))))) := by rw [eM_94, hp_up_n (hp_ne hPa hP9 (by simp))]; exact hPa
                        have eM_94_s : M_93 (qP g p) = some (.inr (2, [.ref (qPa g p), .int (nI ((psz σ p) + 1))])) := by rw [eM_94]; exact hp_up_s
                        have fr_99 := hp_fr.set hfr (Or.inl (Or.inl rfl)) eM_94
                        have sh_100 := hp_sh.set hsh hP9 eM_94 rfl
                        refine V_new C n_X1_190 rfl (by first | exact Nat.le_of_ble_eq_true rfl | omega | (dsimp only; omega) | (simp only [List.length_cons, List.length_nil]; omega)) (by first | exact Nat.le_of_ble_eq_true rfl | omega | (dsimp only; omega) | (simp only [List.length_cons, List.length_nil]; omega)) dX1_plan_106 (fun q_101 hq_102 => ?_)
                        have ne_103 : (qN g) ≠ q_101 := hp_ne0 ho_95 hq_102
                        have ne_104 : (qP g p) ≠ q_101 := hp_ne0 eM_94_s hq_102
                        have ne_105 : (qPl g) ≠ q_101 := hp_ne0 ha_96 hq_102
                        have ne_106 : (qHs g) ≠ q_101 := hp_ne0 ha_97 hq_102
                        have ne_107 : (qPa g p) ≠ q_101 := hp_ne0 ha_98 hq_102
                        obtain ⟨M_108, eM_109⟩ : ∃ z, z = hp_up M_93 q_101 (.inr (3, [.int 0, .int 0, .int 0, .int 0, .int 0, .int 0])) := ⟨_, rfl⟩
                        refine V_heap (M' := M_108) eM_109.symm ?_
                        have ho_110 : M_108 (qN g) = some (.inr (0, [.ref (qRl g), .ref (qUl g), .ref (qPl g), .ref (qHs g), .int (σ.1 20), .int (σ.1 14), .int (σ.1 11), .int (σ.1 12), .int (σ.1 15), .int (z 0), .int (z 1), .int (z 2), .int (z 3), .int (z 4), .int (z 5), .int ca, .ref (qAn g)])) := by rw [eM_109, hp_up_n (hp_ne0 ho_95 hq_102)]; exact ho_95
                        have ho_111 : M_108 (qP g p) = some (.inr (2, [.ref (qPa g p), .int (nI ((psz σ p) + 1))])) := by rw [eM_109, hp_up_n (hp_ne0 eM_94_s hq_102)]; exact eM_94_s
                        have ha_112 : M_108 (qPl g) = some (.inl (G.2 12, 6, .inr (.inr (.inr (.inr fP))))) := by rw [eM_109, hp_up_n (hp_ne0 ha_96 hq_102)]; exact ha_96
                        have ha_113 : M_108 (qHs g) = some (.inl (G.2 14, 13, .inr (.inr (.inr (.inr fH))))) := by rw [eM_109, hp_up_n (hp_ne0 ha_97 hq_102)]; exact ha_97
                        have ha_114 : M_108 (qPa g p) = some (.inl (G.2 13, 12, .inr (.inr (.inr (.inr fp))))) := by rw [eM_109, hp_up_n (hp_ne0 ha_98 hq_102)]; exact ha_98
                        have ho_115 : M_108 q_101 = some (.inr (3, [.int 0, .int 0, .int 0, .int 0, .int 0, .int 0])) := by rw [eM_109]; exact hp_up_s
                        have fr_116 := hp_fr.new fr_99 hq_102 eM_109
                        have nn_117 := hp_fr.nn fr_99 hq_102
                        have sh_118 := hp_sh.new sh_100 hq_102 eM_109
                        refine V_dup C dX1_plan_109 rfl ?_
                        refine V_iload_n C dX1_plan_110 rfl 2 rfl ?_
                        refine V_iload_n C dX1_plan_111 rfl 3 rfl ?_
                        refine V_iload C dX1_plan_112 4 rfl ?_
                        refine V_iload C dX1_plan_114 5 rfl ?_
                        refine V_iload C dX1_plan_116 6 rfl ?_
                        refine V_iload C dX1_plan_118 7 rfl ?_
                        refine V_callI C (c_X24_init_3 l hl G X N0 M_108 q_101 ho_115 x0 a i b j n) cs_X1_275 rfl rfl ⟨Nat.le_of_ble_eq_true rfl, Nat.le_of_ble_eq_true rfl⟩ ⟨(by first | exact Nat.le_of_ble_eq_true rfl | omega | (dsimp only; omega) | (simp only [List.length_cons, List.length_nil]; omega)), (by first | exact Nat.le_of_ble_eq_true rfl | omega | (dsimp only; omega) | (simp only [List.length_cons, List.length_nil]; omega))⟩ (Nat.le_of_ble_eq_true rfl) dX1_plan_120 (fun _ _ _ h => px0 h) ?_
                        rintro _ M_119 ⟨rfl, ho_120, fr_121, sh_122⟩
                        refine V_st (st' := [.ref q_101, .int (nI (psz σ p)), .ref (qPa g p)]) rfl ?_
                        have ho_123 : M_119 (qN g) = some (.inr (0, [.ref (qRl g), .ref (qUl g), .ref (qPl g), .ref (qHs g), .int (σ.1 20), .int (σ.1 14), .int (σ.1 11), .int (σ.1 12), .int (σ.1 15), .int (z 0), .int (z 1), .int (z 2), .int (z 3), .int (z 4), .int (z 5), .int ca, .ref (qAn g)])) := fr_121 _ _ ne_103 ho_110
                        have ho_124 : M_119 (qP g p) = some (.inr (2, [.ref (qPa g p), .int (nI ((psz σ p) + 1))])) := fr_121 _ _ ne_104 ho_111
                        have ha_125 : M_119 (qPl g) = some (.inl (G.2 12, 6, .inr (.inr (.inr (.inr fP))))) := fr_121 _ _ ne_105 ha_112
                        have ha_126 : M_119 (qHs g) = some (.inl (G.2 14, 13, .inr (.inr (.inr (.inr fH))))) := fr_121 _ _ ne_106 ha_113
                        have ha_127 : M_119 (qPa g p) = some (.inl (G.2 13, 12, .inr (.inr (.inr (.inr fp))))) := fr_121 _ _ ne_107 ha_114
                        have fr_128 := hp_fr.after fr_116 fr_121 nn_117
                        have sh_129 := sh_118.trans sh_122
                        refine V_aastM C (j := 13) rfl rfl ha_127 (Or.inl ⟨_, 3, _, (RX24, TX24, 6), rfl, ho_120, rfl, Or.inl rfl⟩) (vp_in_nI (by omega) (by omega)) dX1_plan_123 ?_
                        refine V_heap (M' := hp_up M_119 (qPa g p) (.inl (G.2 13, 12, .inr (.inr (.inr (.inr (va_up fp (psz σ p) (some q_101)))))))) (by rw [nI_clamp (by omega)]) ?_
                        obtain ⟨M_130, eM_131⟩ : ∃ z, z = hp_up M_119 (qPa g p) (.inl (G.2 13, 12, .inr (.inr (.inr (.inr (va_up fp (psz σ p) (some q_101))))))) := ⟨_, rfl⟩
                        refine V_heap (M' := M_130) eM_131.symm ?_
                        have ho_132 : M_130 (qN g) = some (.inr (0, [.ref (qRl g), .ref (qUl g), .ref (qPl g), .ref (qHs g), .int (σ.1 20), .int (σ.1 14), .int (σ.1 11), .int (σ.1 12), .int (σ.1 15), .int (z 0), .int (z 1), .int (z 2), .int (z 3), .int (z 4), .int (z 5), .int ca, .ref (qAn g)])) := by rw [eM_131, hp_up_n (hp_ne ho_123 ha_127 (by simp))]; exact ho_123
                        have ho_133 : M_130 (qP g p) = some (.inr (2, [.ref (qPa g p), .int (nI ((psz σ p) + 1))])) := by rw [eM_131, hp_up_n (hp_ne ho_124 ha_127 (by simp))]; exact ho_124
                        have ho_134 : M_130 q_101 = some (.inr (3, [.int x0, .int a, .int i, .int b, .int j, .int n])) := by rw [eM_131, hp_up_n (Ne.symm ne_107)]; exact ho_120
                        have ha_135 : M_130 (qPl g) = some (.inl (G.2 12, 6, .inr (.inr (.inr (.inr fP))))) := by rw [eM_131, hp_up_n (hp_ne ha_125 ha_127 (by simp))]; exact ha_125
                        have ha_136 : M_130 (qHs g) = some (.inl (G.2 14, 13, .inr (.inr (.inr (.inr fH))))) := by rw [eM_131, hp_up_n (hp_ne ha_126 ha_127 (by simp))]; exact ha_126
                        have eM_131_s : M_130 (qPa g p) = some (.inl (G.2 13, 12, .inr (.inr (.inr (.inr (va_up fp (psz σ p) (some q_101))))))) := by rw [eM_131]; exact hp_up_s
                        have fr_137 := hp_fr.set fr_128 (Or.inl (Or.inr rfl)) eM_131
                        have sh_138 := hp_sh.set sh_129 ha_127 eM_131 rfl
                        refine V_aload C dX1_plan_124 9 rfl ?_
                        refine V_pc (pc1 := 126) rfl ?_
                        refine V_getN C f_X1_270_2 ho_133 (v := .int (nI ((psz σ p) + 1))) rfl dX1_plan_126 ?_
                        refine V_iret C dX1_plan_129 rfl ?_ (by first | exact Nat.le_of_ble_eq_true rfl | omega | (dsimp only; omega) | (simp only [List.length_cons, List.length_nil]; omega)) (by first | exact Nat.le_of_ble_eq_true rfl | omega | (dsimp only; omega) | (simp only [List.length_cons, List.length_nil]; omega))
                        (try simp only [lg_cmp_lt, lg_cmp_gt, lg_cmp_ge, lg_cmp_le, lg_cmp_eq, Classical.not_not] at c_14 c_23 c_29 c_33 c_39 c_44 c_50 c_62_8 c_83_3)
                        have hyes : (¬ x0 < 0 ∧ ¬ 13 ≤ x0) ∧ (x0 = 10 → (¬ a < 0 ∧ ¬ 6 ≤ a) ∧ (i = 0 ∨ i = 1)) := by
                          have e13 : nI 13 = 13 := rfl
                          clear C hR hN hPl hHs
                          grind
                        rw [plan_c hp, if_pos hyes]
                        unfold mf_planA
                        rw [if_neg (by rw [hpE]; intro y; exact absurd ((nI_eq (b := 12) (by omega) (by decide)).mp y) (by omega))]
                        obtain ⟨σ', hσ⟩ : ∃ σ', σ' = si (si σ 17 (va_up (va_up (va_up (va_up (va_up (va_up (σ.2.1 17) (6 * (12 * p + psz σ p)) x0) (6 * (12 * p + psz σ p) + 1) a) (6 * (12 * p + psz σ p) + 2) i) (6 * (12 * p + psz σ p) + 3) b) (6 * (12 * p + psz σ p) + 4) j) (6 * (12 * p + psz σ p) + 5) n)) 16 (va_up (σ.2.1 16) p (nI (psz σ p + 1))) := ⟨_, rfl⟩
                        rw [← hσ]
                        have h16 : σ'.2.1 16 = va_up (σ.2.1 16) p (nI (psz σ p + 1)) := by rw [hσ, si_g]
                        have h16n : ∀ i, i ≠ p → σ'.2.1 16 i = σ.2.1 16 i := fun i hi => by rw [h16, va_up_n hi]
                        have h16p : psz σ' p = psz σ p + 1 := by unfold psz; rw [h16, va_up_s, nI_clamp (show (psz σ p + 1) < 2 ^ 31 by omega)]
                        have hq0 : M q_101 = none := hp_up_none eM_94 hq_102
                        have hAF : AF σ' p (psz σ p) = [.int x0, .int a, .int i, .int b, .int j, .int n] := by rw [hσ]; simp [AF, aw, si, va_up]
                        refine ⟨rfl, _, hR.plan (σ' := σ') (q := q_101) (f' := va_up fp (psz σ p) (some q_101)) hp (by rw [hσ]; rfl) (fun k h1 h2 => by rw [hσ]; simp [si, va_up, h1, h2]) (by rw [hσ]; rfl) h16n h16p (fun i' k x hi hk hx => by have h12 := (hI.p hi).2; have hkp : i' ≠ p ∨ k < psz σ p := (Classical.em (i' = p)).elim (fun y => Or.inr (y ▸ hk)) (fun y => Or.inl y); rw [hσ]; unfold aw; simp only [si, va_up]; rw [if_neg (by decide), if_pos trivial, va_up_n (by omega), va_up_n (by omega), va_up_n (by omega), va_up_n (by omega), va_up_n (by omega), va_up_n (by omega)]) hq0 (by rw [hAF]; exact ho_134) (by rw [h16, va_up_s]; exact ho_133) eM_131_s (fun k hk => by rw [va_up_n (Nat.ne_of_lt hk)]; exact hPaf k hk) va_up_s fr_137, RKp.mk9 ?_ fr_137 ?_ ?_ sh_138⟩
                        · intro t i j h2 h4 h17 h19 hd h5 _
                          refine gA_o ?_
                          rintro ⟨rfl, rfl, rfl⟩
                          exact absurd hd.2 (Nat.lt_irrefl _)
                        · rintro a (rfl | rfl)
                          · exact ⟨9, p, 0, ⟨hp, rfl⟩, rfl⟩
                          · exact ⟨10, p, 0, ⟨hp, rfl⟩, rfl⟩
                        · intro t i j hd
                          rcases RD.gA (σ' := σ') (by rw [hσ]; rfl) (by rw [hσ]; rfl) (by rw [hσ]; rfl) (fun i hi => by unfold psz; rw [h16n i hi]) h16p hd with y | ⟨rfl, rfl, rfl⟩
                          · exact Or.inl y
                          · right; rw [gA_s]; exact hq0
                      · refine V_bipush (v := -104) C dX1_plan_86 rfl ?_
                        refine V_iret C dX1_plan_88 rfl ?_ (by first | exact Nat.le_of_ble_eq_true rfl | omega | (dsimp only; omega) | (simp only [List.length_cons, List.length_nil]; omega)) (by first | exact Nat.le_of_ble_eq_true rfl | omega | (dsimp only; omega) | (simp only [List.length_cons, List.length_nil]; omega))
                        have hp12 := c_83_3
                        (try simp only [lg_cmp_lt, lg_cmp_gt, lg_cmp_ge, lg_cmp_le, lg_cmp_eq, Classical.not_not] at c_14 c_23 c_29 c_33 c_39 c_44 c_50 c_62_8 c_83_3)
                        have hyes : (¬ x0 < 0 ∧ ¬ 13 ≤ x0) ∧ (x0 = 10 → (¬ a < 0 ∧ ¬ 6 ≤ a) ∧ (i = 0 ∨ i = 1)) := by
                          have e13 : nI 13 = 13 := rfl
                          clear C hR hN hPl hHs
                          grind
                        rw [plan_c hp, if_pos hyes]
                        unfold mf_planA
                        rw [hpE, if_pos hp12]
                        exact SP.same hR
                    · exact absurd c_62_8 (by decide)
    · refine V_bipush (v := -101) C dX1_plan_10 rfl ?_
      refine V_iret C dX1_plan_12 rfl ?_ (by first | exact Nat.le_of_ble_eq_true rfl | omega | (dsimp only; omega) | (simp only [List.length_cons, List.length_nil]; omega)) (by first | exact Nat.le_of_ble_eq_true rfl | omega | (dsimp only; omega) | (simp only [List.length_cons, List.length_nil]; omega))
      rw [plan_p (Or.inr c_7)]
      exact SP.same hR
