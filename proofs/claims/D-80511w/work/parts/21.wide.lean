set_option maxRecDepth 100000
theorem b32_t : FP.Core.b32.tails = 8388608 := by decide
theorem b32_e : FP.Core.b32.exps = 256 := by decide
theorem b32_q : FP.Core.b32.qmin = -149 := by decide
theorem dec_fin32 {a : UInt32} {s : Bool} {c : Nat} {q : Int} (h : fD a = .fin s c q) : c < 16777216 ∧ -149 ≤ q ∧ q ≤ 104 := by
  have hl := a.toNat_lt
  unfold fD FP.Core.decode FP.Core.fieldE FP.Core.fieldT FP.Core.fieldS at h
  simp only [b32_t, b32_e, b32_q] at h
  split at h
  · split at h <;> cases h
  · split at h <;> cases h <;> omega
/-- a float's number, rounded to a double, is the same number -/
theorem rnd32 (s : Bool) (c : Nat) (q : Int) (hc : c < 16777216) (h0 : c ≠ 0) (h1 : -149 ≤ q) (h2 : q ≤ 104) :
    ∃ a : Nat, a ≤ 52 ∧ FP.Core.round FP.Core.b64 (.fin s c q) = .fin s (c * 2 ^ a) (q - a) ∧ c * 2 ^ a < 9007199254740992 ∧ 4503599627370496 ≤ c * 2 ^ a := by
  have l1 : 2 ^ c.log2 ≤ c := Nat.log2_self_le h0
  have l2 : c < 2 ^ (c.log2 + 1) := Nat.lt_log2_self
  have l3 : c.log2 < 24 := (Nat.pow_lt_pow_iff_right (by decide : 1 < 2)).mp (Nat.lt_of_le_of_lt l1 (show c < 2 ^ 24 from hc))
  have e53 : (2 : Nat) ^ (c.log2 + 1) * 2 ^ (52 - c.log2) = 9007199254740992 := by
    rw [← Nat.pow_add, show c.log2 + 1 + (52 - c.log2) = 53 by omega]
  have e52 : (2 : Nat) ^ c.log2 * 2 ^ (52 - c.log2) = 4503599627370496 := by
    rw [← Nat.pow_add, show c.log2 + (52 - c.log2) = 52 by omega]
  have hN : c * 2 ^ (52 - c.log2) < 9007199254740992 := by
    rw [← e53]; exact Nat.mul_lt_mul_of_pos_right l2 (Nat.two_pow_pos _)
  have hM : 4503599627370496 ≤ c * 2 ^ (52 - c.log2) := by
    rw [← e52]; exact Nat.mul_le_mul_right _ l1
  refine ⟨52 - c.log2, by omega, ?_, hN, hM⟩
  have hlead : FP.Core.leading c 1 = (c.log2 : Int) := by
    unfold FP.Core.leading
    simp only [show Nat.log2 1 = 0 from by decide]
    rw [if_pos]
    · omega
    · rw [show ((c.log2 : Int) - ((0 : Nat) : Int)).toNat = c.log2 by omega, show (-((c.log2 : Int) - ((0 : Nat) : Int))).toNat = 0 by omega]
      omega
  have hq : FP.Core.quantum FP.Core.b64 c 1 q = (c.log2 : Int) + q - 52 := by
    unfold FP.Core.quantum
    rw [hlead, b64_q, show (FP.Core.b64.p : Int) = 53 from by decide]
    omega
  unfold FP.Core.round FP.Core.roundRatio
  simp only [if_neg h0]
  unfold FP.Core.roundAt
  rw [hq]
  unfold FP.Core.unitsNum FP.Core.unitsDen
  rw [show (q - ((c.log2 : Int) + q - 52)).toNat = 52 - c.log2 by omega, show ((c.log2 : Int) + q - 52 - q).toNat = 0 by omega]
  have hn : FP.Core.nearest (c * 2 ^ (52 - c.log2)) (1 * 2 ^ 0) = c * 2 ^ (52 - c.log2) := by
    unfold FP.Core.nearest
    rw [Nat.pow_zero, Nat.mul_one, Nat.mod_one, Nat.div_one]
    rfl
  rw [hn]
  unfold FP.Core.settle
  rw [b64_p, if_pos hN]
  unfold FP.Core.bound
  rw [b64_m, if_pos (by omega)]
  congr 1
  omega
theorem dec_enc (s : Bool) (N : Nat) (Q : Int) (h1 : N < 9007199254740992) (h2 : 4503599627370496 ≤ N) (h3 : -1074 ≤ Q) (h4 : Q ≤ 971) : dD (.ofNat (FP.Core.encode FP.Core.b64 (.fin s N Q))) = .fin s N Q := by
  have hb := enc_fin s N Q h1 h4
  unfold dD
  rw [UInt64.toNat_ofNat_of_lt' hb.1]
  have he : FP.Core.encode FP.Core.b64 (.fin s N Q) = FP.Core.assemble FP.Core.b64 s ((Q - -1074).toNat + 1) (N - 4503599627370496) := by
    show (if N < FP.Core.b64.tails then _ else _) = _
    rw [b64_t, if_neg (by omega), b64_q]
  rw [he]
  obtain ⟨E, hE⟩ : ∃ E : Nat, (Q - -1074).toNat + 1 = E := ⟨_, rfl⟩
  have hE2 : E ≤ 2046 := by omega
  have hE1 : 1 ≤ E := by omega
  rw [hE]
  unfold FP.Core.decode FP.Core.fieldE FP.Core.fieldT FP.Core.fieldS FP.Core.assemble
  simp only [b64_t, b64_e, b64_q]
  have e1 : ((s.toNat * 2048 + E) * 4503599627370496 + (N - 4503599627370496)) / 4503599627370496 = s.toNat * 2048 + E := by omega
  have e2 : ((s.toNat * 2048 + E) * 4503599627370496 + (N - 4503599627370496)) % 4503599627370496 = N - 4503599627370496 := by omega
  rw [e1, e2, if_neg (by omega), if_neg (by omega)]
  have e3 : (s.toNat * 2048 + E) / 2048 = s.toNat := by omega
  have e4 : (s.toNat * 2048 + E) % 2048 = E := by omega
  rw [e3, e4, show (s.toNat % 2 == 1) = s from by cases s <;> rfl, show 4503599627370496 + (N - 4503599627370496) = N by omega, show -1074 + ((E : Int) - 1) = Q by omega]
theorem dec_enc0 (s : Bool) : dD (.ofNat (FP.Core.encode FP.Core.b64 (.fin s 0 (-1074)))) = .fin s 0 (-1074) := by
  cases s <;> decide +kernel
theorem dec_encI (s : Bool) : dD (.ofNat (FP.Core.encode FP.Core.b64 (.inf s))) = .inf s := by
  cases s <;> decide +kernel
/-- a float's number as a double: what it decodes to -/
theorem wide_val {a : UInt32} (h : ¬ fN a) : (∃ s, fD a = .inf s ∧ dD (FP.f2d a) = .inf s) ∨ ∃ (s : Bool) (c : Nat) (q : Int) (k : Nat) (Q : Int), fD a = .fin s c q ∧ dD (FP.f2d a) = .fin s (c * 2 ^ k) Q ∧ -1074 ≤ Q ∧ ((c = 0 ∧ k = 0 ∧ Q = -1074) ∨ Q = q - k) ∧ -149 ≤ q := by
  rw [f2d_num h]
  cases hd : fD a with
  | nan => exact absurd ((fN_iff a).mpr hd) h
  | inf s => exact Or.inl ⟨s, rfl, dec_encI s⟩
  | fin s c q =>
    obtain ⟨h1, h2, h3⟩ := dec_fin32 hd
    refine Or.inr ⟨s, c, q, ?_⟩
    by_cases h0 : c = 0
    · have e : FP.Core.round FP.Core.b64 (.fin s c q) = .fin s 0 (-1074) := by
        unfold FP.Core.round FP.Core.roundRatio
        simp only [if_pos h0]
        rw [b64_q]
      rw [e]
      subst h0
      refine ⟨0, -1074, rfl, ?_, by omega, Or.inl ⟨rfl, rfl, rfl⟩, h2⟩
      exact dec_enc0 s
    · obtain ⟨k, hk, e, e1, e2⟩ := rnd32 s c q h1 h0 h2 h3
      rw [e]
      exact ⟨k, q - k, rfl, dec_enc s _ _ e1 e2 (by omega) (by omega), by omega, Or.inr rfl, h2⟩
theorem cmp_mul {x y : Int} {K : Nat} (h : 0 < K) : compare (x * K) (y * K) = compare x y := by
  have hk : (0 : Int) < K := by omega
  rcases Int.lt_trichotomy x y with z | z | z
  · rw [Int.compare_eq_lt.mpr z, Int.compare_eq_lt.mpr (Int.mul_lt_mul_of_pos_right z hk)]
  · subst z; rw [Int.compare_eq_eq.mpr rfl, Int.compare_eq_eq.mpr rfl]
  · rw [Int.compare_eq_gt.mpr z, Int.compare_eq_gt.mpr (Int.mul_lt_mul_of_pos_right z hk)]
theorem sgn_mul (s : Bool) (c K : Nat) : FP.Core.signed s (c * K) = FP.Core.signed s c * K := by
  unfold FP.Core.signed
  cases s <;> simp [Int.natCast_mul, Int.neg_mul]
/-- in units of a lesser exponent the order is the same -/
theorem ord_units (s t : Bool) (c d : Nat) (q r e : Int) (h : e ≤ min q r) : compare (FP.Core.signed s (c * 2 ^ (q - e).toNat)) (FP.Core.signed t (d * 2 ^ (r - e).toNat)) = compare (FP.Core.signed s (c * 2 ^ (q - min q r).toNat)) (FP.Core.signed t (d * 2 ^ (r - min q r).toNat)) := by
  have e1 : c * 2 ^ (q - e).toNat = c * 2 ^ (q - min q r).toNat * 2 ^ (min q r - e).toNat := by
    rw [Nat.mul_assoc, ← Nat.pow_add]; congr 2; omega
  have e2 : d * 2 ^ (r - e).toNat = d * 2 ^ (r - min q r).toNat * 2 ^ (min q r - e).toNat := by
    rw [Nat.mul_assoc, ← Nat.pow_add]; congr 2; omega
  rw [e1, e2, sgn_mul s (c * 2 ^ (q - min q r).toNat), sgn_mul t (d * 2 ^ (r - min q r).toNat)]
  exact cmp_mul (K := 2 ^ (min q r - e).toNat) (Nat.two_pow_pos _)
theorem wide_units {c k : Nat} {q Q e : Int} (h : (c = 0 ∧ k = 0 ∧ Q = -1074) ∨ Q = q - k) (he : e ≤ Q) (he2 : e ≤ q) : c * 2 ^ k * 2 ^ (Q - e).toNat = c * 2 ^ (q - e).toNat := by
  rcases h with ⟨h0, h1, h2⟩ | h
  · subst h0; simp
  · rw [Nat.mul_assoc, ← Nat.pow_add]; congr 2; omega
theorem wide_cmpN {x y : UInt32} (hx : ¬ fN x) (hy : ¬ fN y) : FP.dcmp (FP.f2d x) (FP.f2d y) = FP.fcmp x y := by
  show FP.Core.order (dD (FP.f2d x)) (dD (FP.f2d y)) = FP.Core.order (fD x) (fD y)
  rcases wide_val hx with ⟨s, a1, a2⟩ | ⟨s, c, q, k, Q, a1, a2, a3, a4, a5⟩ <;> rcases wide_val hy with ⟨t, b1, b2⟩ | ⟨t, d, r, j, P, b1, b2, b3, b4, b5⟩ <;> rw [a1, a2, b1, b2]
  · rfl
  · rfl
  · show some (compare (FP.Core.signed s (c * 2 ^ k * 2 ^ (Q - min Q P).toNat)) (FP.Core.signed t (d * 2 ^ j * 2 ^ (P - min Q P).toNat))) = some (compare (FP.Core.signed s (c * 2 ^ (q - min q r).toNat)) (FP.Core.signed t (d * 2 ^ (r - min q r).toNat)))
    congr 1
    rw [← ord_units s t (c * 2 ^ k) (d * 2 ^ j) Q P (-1074) (by omega), ← ord_units s t c d q r (-1074) (by omega), wide_units a4 a3 (by omega), wide_units b4 b3 (by omega)]
theorem nan_dN : dN 9221120237041090560 := by rw [dN_iff]; decide +kernel
/-- the order of two floats, as doubles -/
theorem wide_cmp (x y : UInt32) : FP.dcmp (mWide x) (mWide y) = FP.fcmp x y := by
  unfold mWide
  by_cases hx : fN x
  · rw [if_pos hx, dcmp_nan (Or.inl nan_dN)]
    exact (ord_nan (Or.inl ((fN_iff x).mp hx))).symm
  · by_cases hy : fN y
    · rw [if_pos hy, dcmp_nan (Or.inr nan_dN)]
      exact (ord_nan (Or.inr ((fN_iff y).mp hy))).symm
    · rw [if_neg hx, if_neg hy]
      exact wide_cmpN hx hy
