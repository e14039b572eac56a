set_option maxRecDepth 100000
set_option linter.unusedVariables false
set_option maxRecDepth 100000
section S49
variable {σ σ' : MS}
/-- an element that a row of kind k may have -/
def EO (σ : MS) (k : Nat) (b : Int64) : Prop := (k = 8 ∨ k = 9 → b = -1 ∨ ∃ u, u < nU σ ∧ b = lN u) ∧ (k = 10 → b = -1 ∨ ∃ j, j < nJ σ ∧ b = lN j) ∧ (k = 9 → b = -1 ∨ ∃ u, u < nU σ ∧ b = lN u ∧ (σ.2.1 6 u).toNatClampNeg ≠ 0)
def MQ9 (σ : MS) : Prop := MI σ ∧ MW σ
theorem MQ9.e (h : MQ9 σ) {r i : Nat} (hr : r < nR σ) (hi : i < ln σ r) : EO σ (kd σ r) (el σ r i) :=
  ⟨fun hk => h.1.eu hr hi hk, fun hk => h.1.ej hr hi hk, fun hk => h.2 r hr hk i hi⟩
theorem EO.to {k : Nat} {b : Int64} (h : EO σ k b) (hU : nU σ' = nU σ) (hJ : nJ σ ≤ nJ σ') (h6 : σ'.2.1 6 = σ.2.1 6) : EO σ' k b := by
  obtain ⟨h1, h2, h3⟩ := h
  refine ⟨fun hk => ?_, fun hk => ?_, fun hk => ?_⟩
  · rw [hU]; exact h1 hk
  · rcases h2 hk with y | ⟨j, y1, y2⟩
    · exact Or.inl y
    · exact Or.inr ⟨j, by omega, y2⟩
  · rw [hU, h6]; exact h3 hk
theorem EO.lo {k : Nat} {b : Int64} (h : k ≤ 7) : EO σ k b := ⟨fun _ => by omega, fun _ => by omega, fun _ => by omega⟩
theorem EO.m1 {k : Nat} : EO σ k (-1) := ⟨fun _ => Or.inl rfl, fun _ => Or.inl rfl, fun _ => Or.inl rfl⟩
/-- rows, elements and rows of ints may change, units and plans not -/
theorem MQ9.to (h : MQ9 σ) {R' J' : Nat} (hU : σ'.1 5 = σ.1 5) (hR : σ'.1 1 = nI R') (hR60 : R' ≤ 60) (hJ : σ'.1 8 = nI J') (hJ8 : J' ≤ 8000) (h6 : σ'.2.1 6 = σ.2.1 6) (h16 : σ'.2.1 16 = σ.2.1 16) (h17 : σ'.2.1 17 = σ.2.1 17)
    (hk : ∀ r, r < R' → (σ'.2.1 2 r = nI (kd σ' r) ∧ kd σ' r ≤ 10) ∧ (σ'.2.1 3 r = nI (ln σ' r) ∧ ln σ' r ≤ 40)) (h9 : ∀ j, j < J' → σ'.2.1 9 j = nI (iln σ' j) ∧ iln σ' j ≤ 40) (he : ∀ r i, r < R' → i < ln σ' r → EO σ' (kd σ' r) (el σ' r i)) : MQ9 σ' := by
  have nR' : nR σ' = R' := by unfold nR; rw [hR, nI_clamp (by omega)]
  have nJ' : nJ σ' = J' := by unfold nJ; rw [hJ, nI_clamp (by omega)]
  have nU' : nU σ' = nU σ := by unfold nU; rw [hU]
  have hps : ∀ p, psz σ' p = psz σ p := fun p => by unfold psz; rw [h16]
  refine ⟨⟨?_, ?_, ?_, ?_, ?_, ?_, ?_, ?_, ?_, ?_⟩, ?_⟩
  · rw [nR']; exact ⟨hR, hR60⟩
  · rw [nU', hU]; exact h.1.U
  · rw [nJ']; exact ⟨hJ, hJ8⟩
  · rw [nR']; exact fun r hr => (hk r hr).1
  · rw [nR']; exact fun r hr => (hk r hr).2
  · rw [nU', h6]; exact fun u hu => h.1.c hu
  · rw [nJ']; exact h9
  · rw [nR']; exact fun r i hr hi => ⟨fun y => (he r i hr hi).1 y, fun y => (he r i hr hi).2.1 y⟩
  · intro p hp; rw [hps, h16]; exact h.1.p hp
  · intro p k hp hk; rw [hps] at hk; rw [h17]; exact h.1.a hp hk
  · intro r hr hk9 i hi
    rw [nR'] at hr
    exact (he r i hr hi).2.2 hk9
/-- nothing of what is asked changes -/
theorem MQ9.same (h : MQ9 σ) (h1 : σ'.1 1 = σ.1 1) (h5 : σ'.1 5 = σ.1 5) (h8 : σ'.1 8 = σ.1 8) (h2 : ∀ k, k = 2 ∨ k = 3 ∨ k = 6 ∨ k = 9 ∨ k = 16 ∨ k = 17 → σ'.2.1 k = σ.2.1 k) (h4 : σ'.2.2.1 4 = σ.2.2.1 4) : MQ9 σ' := by
  have hkd : ∀ r, kd σ' r = kd σ r := fun r => by unfold kd; rw [h2 2 (by decide)]
  have hln : ∀ r, ln σ' r = ln σ r := fun r => by unfold ln; rw [h2 3 (by decide)]
  refine h.to (R' := nR σ) (J' := nJ σ) h5 (h1.trans h.1.R.1) h.1.R.2 (h8.trans h.1.J.1) h.1.J.2 (h2 6 (by decide)) (h2 16 (by decide)) (h2 17 (by decide)) (fun r hr => ?_) (fun j hj => ?_) (fun r i hr hi => ?_)
  · rw [hkd, hln, h2 2 (by decide), h2 3 (by decide)]; exact ⟨h.1.k hr, h.1.l hr⟩
  · unfold iln; rw [h2 9 (by decide)]; exact h.1.il hj
  · rw [hln] at hi
    rw [hkd]
    unfold el
    rw [h4]
    exact (h.e hr hi).to (by unfold nU; rw [h5]) (by unfold nJ; rw [h8]; exact Nat.le_refl _) (h2 6 (by decide))
/-- elements of row b change -/
theorem MQ9.els (h : MQ9 σ) {b J N : Nat} {w : Nat → Int64} (hb : b < nR σ) (hJN : J + N ≤ ln σ b) (hw : ∀ i, i < N → EO σ (kd σ b) (w i)) : MQ9 (sl σ 4 (mfill (σ.2.2.1 4) (40 * b + J) N w)) := by
  refine h.to (R' := nR σ) (J' := nJ σ) rfl h.1.R.1 h.1.R.2 h.1.J.1 h.1.J.2 rfl rfl rfl (fun r hr => ⟨h.1.k hr, h.1.l hr⟩) (fun j hj => h.1.il hj) (fun r i hr hi => ?_)
  show EO σ (kd σ r) (mfill (σ.2.2.1 4) (40 * b + J) N w (40 * r + i))
  have l1 := (h.1.l hr).2
  have l2 := (h.1.l hb).2
  have hi' : i < ln σ r := hi
  by_cases e : r = b ∧ J ≤ i ∧ i < J + N
  · obtain ⟨rfl, e1, e2⟩ := e
    rw [show 40 * r + i = 40 * r + J + (i - J) by omega, mfill_in (by omega)]
    exact hw _ (by omega)
  · rw [mfill_out (by omega)]
    exact h.e hr hi
theorem MQ9.sl19 (h : MQ9 σ) {f : Nat → Int64} : MQ9 (sl σ 19 f) := h.same rfl rfl rfl (fun _ _ => rfl) rfl
theorem MQ9.sa9 (h : MQ9 σ) {v : Int64} : MQ9 (sa σ v) := h.same rfl rfl rfl (fun _ _ => rfl) rfl
/-- what an act may do to rows and rows of ints -/
def DN (σ σ' : MS) : Prop := MQ9 σ' ∧ nR σ ≤ nR σ' ∧ nJ σ ≤ nJ σ' ∧ nJ σ' ≤ nJ σ + 1 ∧ ∀ r, r < nR σ → kd σ' r = kd σ r ∧ ln σ' r = ln σ r
theorem DN.els (h : MQ9 σ) (hq : MQ9 σ') (h1 : σ'.1 = σ.1) (h2 : σ'.2.1 = σ.2.1) : DN σ σ' := by
  have n1 : nR σ' = nR σ := by unfold nR; rw [h1]
  have n8 : nJ σ' = nJ σ := by unfold nJ; rw [h1]
  exact ⟨hq, by omega, by omega, by omega, fun r _ => ⟨by unfold kd; rw [h2], by unfold ln; rw [h2]⟩⟩
theorem DN.rf (h : MQ9 σ) : DN σ σ := DN.els h h rfl rfl
theorem mf_pre_no {bad : Nat → Bool} : ∀ {N q : Nat}, q < mf_pre bad N → bad q = false
  | 0, q, h => absurd h (Nat.not_lt_zero _)
  | N + 1, q, h => by
    unfold mf_pre at h
    by_cases e : mf_pre bad N < N
    · rw [if_pos e] at h; exact mf_pre_no h
    · rw [if_neg e] at h
      have hle : ∀ M, mf_pre bad M ≤ M := fun M => by
        induction M with
        | zero => exact Nat.le_refl _
        | succ M ih => unfold mf_pre; split <;> (try split) <;> omega
      have := hle N
      have e3 : mf_pre bad N = N := by omega
      by_cases e2 : bad N = true
      · rw [if_pos e2] at h
        exact mf_pre_no (N := N) (by omega)
      · rw [if_neg e2] at h
        by_cases e4 : q = N
        · subst e4; exact Bool.eq_false_iff.mpr e2
        · exact mf_pre_no (N := N) (by omega)
theorem mf_pre_le {bad : Nat → Bool} : ∀ N, mf_pre bad N ≤ N
  | 0 => Nat.le_refl _
  | N + 1 => by have := mf_pre_le (bad := bad) N; unfold mf_pre; split <;> (try split) <;> omega
theorem pos_ne {x : Int32} (h : 0 < x) : x.toNatClampNeg ≠ 0 := fun e => by
  rw [Int32.lt_iff_toInt_lt] at h
  have e0 : (0 : Int32).toInt = 0 := rfl
  unfold Int32.toNatClampNeg at e
  omega
theorem DN.copy (h : MQ9 σ) {a b : Nat} {i j n : Int32} (ha : a < nR σ) (hb : b < nR σ) : DN σ (mf_copy σ a i b j n).2 := by
  unfold mf_copy
  split
  · exact DN.rf h
  split
  · exact DN.rf h
  · next hk hp =>
    have hp := Classical.not_not.mp hp
    obtain ⟨I, N, rfl, rfl, h1⟩ := places_n (h.1.l ha) hp.1
    obtain ⟨J, N', rfl, e2, h2⟩ := places_n (h.1.l hb) hp.2
    have la := (h.1.l ha).2
    have lb := (h.1.l hb).2
    have e2 := (nI_eq (by omega) (by omega)).mp e2
    subst e2
    rw [nI_clamp (by omega), nI_clamp (by omega), nI_clamp (by omega)]
    have hle := mf_pre_le (bad := fun p => mf_bad σ b (el σ a (I + p))) N
    refine DN.els h ?_ rfl rfl
    refine MQ9.els (σ := mf_hold σ a I N) h.sl19 hb (by show J + _ ≤ ln σ b; omega) (fun q hq => ?_)
    show EO σ (kd σ b) _
    have hno := mf_pre_no hq
    have h0 := h.e ha (i := I + q) (by omega)
    by_cases e : kd σ a = kd σ b
    · rw [← e]; exact h0
    · have hk2 : (kd σ a = 8 ∨ kd σ a = 9) ∧ (kd σ b = 8 ∨ kd σ b = 9) := by
        by_cases e1 : σ.2.1 2 a = σ.2.1 2 b
        · exact absurd (by unfold kd; rw [e1]) e
        · have hk3 := Classical.not_not.mp (fun y => hk ⟨e1, y⟩)
          unfold mf_two at hk3
          unfold kd
          refine ⟨hk3.1.imp (fun y => ?_) (fun y => ?_), hk3.2.imp (fun y => ?_) (fun y => ?_)⟩ <;> rw [y] <;> rfl
      refine ⟨fun _ => h0.1 hk2.1, fun y => by omega, fun y => ?_⟩
      have hb9 : σ.2.1 2 b = 9 := by rw [(h.1.k hb).1, y]; rfl
      have hc := of_decide_eq_false hno
      have hc : mf_isCard σ (el σ a (I + q)) := Classical.not_not.mp (fun z => hc ⟨hb9, z⟩)
      rcases hc with z | z
      · exact Or.inl z
      · rcases h0.1 hk2.1 with y1 | ⟨u, y1, y2⟩
        · exact Or.inl y1
        · refine Or.inr ⟨u, y1, y2, ?_⟩
          have hU := h.1.U.2
          rw [y2, lN_i, nI_clamp (by omega)] at z
          exact pos_ne z
theorem DN.turn (h : MQ9 σ) {a : Nat} {i n : Int32} (ha : a < nR σ) : DN σ (mf_turn σ a i n).2 := by
  unfold mf_turn
  split
  · exact DN.rf h
  · next hp =>
    obtain ⟨I, N, rfl, rfl, h1⟩ := places_n (h.1.l ha) (Classical.not_not.mp hp)
    have la := (h.1.l ha).2
    rw [nI_clamp (by omega), nI_clamp (by omega)]
    refine DN.els h ?_ rfl rfl
    exact MQ9.els (σ := mf_hold σ a I N) h.sl19 ha (by show I + N ≤ ln σ a; omega) (fun q hq => h.e ha (i := I + (N - 1 - q)) (by omega))
theorem DN.sort (h : MQ9 σ) {a : Nat} {i n : Int32} (ha : a < nR σ) : DN σ (mf_sort σ a i n).2 := by
  unfold mf_sort
  split
  · exact DN.rf h
  split
  · exact DN.rf h
  · next hr hp =>
    obtain ⟨I, N, rfl, rfl, h1⟩ := places_n (h.1.l ha) (Classical.not_not.mp hp)
    have la := (h.1.l ha).2
    rw [nI_clamp (by omega), nI_clamp (by omega)]
    refine DN.els h ?_ rfl rfl
    refine MQ9.els h ha h1 (fun q hq => EO.lo ?_)
    have h2 := (Classical.not_not.mp hr).2
    have hk := (h.1.k ha).2
    rw [(h.1.k ha).1, nI_l (by omega)] at h2
    exact (lN_le (by omega) (b := 7) (by decide)).mp h2
theorem DN.copyRow (h : MQ9 σ) {a : Nat} (ha : a < nR σ) : DN σ (mf_copyRow σ a).2 := by
  unfold mf_copyRow
  split
  · exact DN.rf h
  · next h60 =>
    have hR := h.1.R
    have hl := h.1.l ha
    have hk := h.1.k ha
    obtain ⟨τ, hτ⟩ : ∃ τ, τ = sa (sl (mf_newRow (nR σ) (ln σ a) (σ.2.1 2 a) σ) 4 (mfill (σ.2.2.1 4) (40 * nR σ) (ln σ a) (fun p => el σ a p))) (lN (nR σ)) := ⟨_, rfl⟩
    show DN σ (sa (sl (mf_newRow (nR σ) (ln σ a) (σ.2.1 2 a) σ) 4 (mfill (σ.2.2.1 4) (40 * nR σ) (ln σ a) (fun p => el σ a p))) (lN (nR σ)))
    rw [← hτ]
    have t1 : ∀ k, k ≠ 1 → τ.1 k = σ.1 k := fun k hk => by rw [hτ]; exact newRow_1 hk
    have tR : τ.1 1 = nI (nR σ + 1) := by rw [hτ]; exact newRow_R (σ := σ) (R := nR σ) (N := ln σ a) (k := σ.2.1 2 a)
    have t2 : ∀ k, k ≠ 2 → k ≠ 3 → τ.2.1 k = σ.2.1 k := fun k h2 h3 => by rw [hτ]; exact newRow_2 h2 h3
    have tk : ∀ r, r ≠ nR σ → τ.2.1 2 r = σ.2.1 2 r ∧ τ.2.1 3 r = σ.2.1 3 r := fun r hr => by rw [hτ]; exact newRow_k hr
    have tkR : τ.2.1 2 (nR σ) = σ.2.1 2 a ∧ τ.2.1 3 (nR σ) = nI (ln σ a) := by rw [hτ]; exact newRow_kR (σ := σ) (R := nR σ) (N := ln σ a) (k := σ.2.1 2 a)
    have te : τ.2.2.1 4 = mfill (σ.2.2.1 4) (40 * nR σ) (ln σ a) (fun p => el σ a p) := by rw [hτ]; exact sl_g (σ := mf_newRow (nR σ) (ln σ a) (σ.2.1 2 a) σ) (k := 4)
    have nRt : nR τ = nR σ + 1 := by unfold nR; rw [tR, nI_clamp (by omega)]
    have n8 : τ.1 8 = σ.1 8 := t1 8 (by decide)
    have nJt : nJ τ = nJ σ := by unfold nJ; rw [n8]
    refine ⟨?_, by omega, by omega, by omega, fun r hr => ?_⟩
    · refine h.to (R' := nR σ + 1) (J' := nJ σ) (t1 5 (by decide)) tR (by omega) (n8.trans h.1.J.1) h.1.J.2 (t2 6 (by decide) (by decide)) (t2 16 (by decide) (by decide)) (t2 17 (by decide) (by decide)) (fun r hr => ?_) (fun j hj => ?_) (fun r i hr hi => ?_)
      · by_cases e : r = nR σ
        · subst e
          unfold kd ln
          rw [tkR.1, tkR.2, nI_clamp (show ln σ a < 2 ^ 31 by omega)]
          exact ⟨hk, rfl, hl.2⟩
        · unfold kd ln
          rw [(tk r e).1, (tk r e).2]
          exact ⟨h.1.k (by omega), h.1.l (by omega)⟩
      · unfold iln; rw [t2 9 (by decide) (by decide)]; exact h.1.il hj
      · have hg : ∀ k b, EO σ k b → EO τ k b := fun k b y => y.to (by unfold nU; rw [t1 5 (by decide)]) (by omega) (t2 6 (by decide) (by decide))
        by_cases e : r = nR σ
        · subst e
          unfold ln at hi
          rw [tkR.2, nI_clamp (show ln σ a < 2 ^ 31 by omega)] at hi
          unfold kd el
          rw [tkR.1, te, mfill_in hi]
          exact hg _ _ (h.e ha hi)
        · unfold ln at hi
          rw [(tk r e).2] at hi
          have hr' : r < nR σ := by omega
          have hi : i < ln σ r := hi
          have := (h.1.l hr').2
          unfold kd el
          rw [(tk r e).1, te, mfill_out (by omega)]
          exact hg _ _ (h.e hr' hi)
    · have := tk r (by omega)
      unfold kd ln
      rw [this.1, this.2]
      exact ⟨rfl, rfl⟩
end S49
section S49b
variable {σ σ' : MS}
theorem MQ9.newInner (h : MQ9 σ) (hJ : nJ σ < 8000) {m : Nat} (hm : m ≤ 40) : MQ9 (mf_newInner (nJ σ) (nI m) σ) := by
  have e8 : (mf_newInner (nJ σ) (nI m) σ).1 8 = nI (nJ σ + 1) := rfl
  have n8 : nJ (mf_newInner (nJ σ) (nI m) σ) = nJ σ + 1 := by unfold nJ; rw [e8, nI_clamp (by omega)]
  refine h.to (R' := nR σ) (J' := nJ σ + 1) rfl h.1.R.1 h.1.R.2 e8 (by omega) rfl rfl rfl (fun r hr => ⟨h.1.k hr, h.1.l hr⟩) (fun j hj => ?_) (fun r i hr hi => ?_)
  · have e9 : ∀ j, (mf_newInner (nJ σ) (nI m) σ).2.1 9 j = va_up (σ.2.1 9) (nJ σ) (nI m) j := fun _ => rfl
    unfold iln
    rw [e9]
    by_cases e : j = nJ σ
    · subst e; rw [va_up_s, nI_clamp (by omega)]; exact ⟨rfl, hm⟩
    · rw [va_up_n e]; exact h.1.il (by omega)
  · exact (h.e hr hi).to rfl (by omega) rfl
theorem asE_q (h : MQ9 σ) (hJ : nJ σ < 8000) {k : Nat} (hk : k ≤ 10) {b : Int64} (hg : mf_goes σ (nI k) b) (hc : k = 9 → mf_isCard σ b) :
    EO (mf_asE (nI k) b σ).2 k (mf_asE (nI k) b σ).1 ∧ ((mf_asE (nI k) b σ).2 = σ ∨ (k = 10 ∧ ∃ m, m ≤ 40 ∧ (mf_asE (nI k) b σ).2 = mf_newInner (nJ σ) (nI m) σ)) := by
  have h10 : ∀ j, j < 2 ^ 31 → (nI k = nI j ↔ k = j) := fun j hj => nI_eq (by omega) hj
  by_cases k10 : k = 10
  · subst k10
    have e1 : mf_asE (nI 10) b σ = if b = -1 then (-1, σ) else (lN (nJ σ), mf_newInner (nJ σ) b.toInt32 σ) := rfl
    rw [e1]
    have hb : b = -1 ∨ ∃ j : Nat, j < 41 ∧ b = lN j := by
      rcases hg with y | y | y
      · exact absurd y (by decide)
      · exact (inUn (b := b) (x := nI 41) (n := 41) rfl (by decide)).mp y.2
      · exact absurd rfl y.1
    by_cases hb1 : b = -1
    · rw [if_pos hb1]
      exact ⟨EO.m1, Or.inl rfl⟩
    · rw [if_neg hb1]
      obtain ⟨j, hj, rfl⟩ := hb.resolve_left hb1
      rw [lN_i]
      refine ⟨⟨fun _ => by omega, fun _ => Or.inr ⟨nJ σ, ?_, rfl⟩, fun _ => by omega⟩, Or.inr ⟨rfl, j, by omega, rfl⟩⟩
      show nJ σ < (nI (nJ σ + 1)).toNatClampNeg
      rw [nI_clamp (by omega)]
      omega
  · have e2 : (mf_asE (nI k) b σ).2 = σ := asE_2 (fun y => k10 ((h10 10 (by decide)).mp y))
    rw [e2]
    refine ⟨?_, Or.inl rfl⟩
    by_cases k7 : k ≤ 7
    · exact EO.lo k7
    · have hv : (mf_asE (nI k) b σ).1 = b := by
        unfold mf_asE
        have hn : ∀ j : Nat, j ≤ 7 ∨ j = 10 → ¬ nI k = nI j := fun j hj y => by have := (h10 j (by omega)).mp y; omega
        rw [if_neg (show ¬ nI k = (0 : Int32) from hn 0 (by decide)), if_neg (show ¬ nI k = (1 : Int32) from hn 1 (by decide)), if_neg (show ¬ nI k = (2 : Int32) from hn 2 (by decide)), if_neg (show ¬ nI k = (3 : Int32) from hn 3 (by decide)), if_neg (show ¬ nI k = (4 : Int32) from hn 4 (by decide)), if_neg (show ¬ nI k = (6 : Int32) from hn 6 (by decide)), if_neg (show ¬ nI k = (7 : Int32) from hn 7 (by decide)), if_neg (show ¬ nI k = (10 : Int32) from hn 10 (by decide))]
      rw [hv]
      have hb : b = -1 ∨ ∃ u : Nat, u < nU σ ∧ b = lN u := by
        rcases hg with y | y | y
        · exact absurd ((nI_ltI (b := 8) (by omega) (by decide)).mp y) (by omega)
        · exact absurd y.1 (fun z => k10 ((h10 10 (by decide)).mp z))
        · exact (inUn h.1.U.1 (by have := h.1.U.2; omega)).mp y.2
      refine ⟨fun _ => hb, fun _ => by omega, fun y => ?_⟩
      rcases hc y with z | z
      · exact Or.inl z
      · rcases hb with z1 | ⟨u, hu, rfl⟩
        · exact Or.inl z1
        · have hU := h.1.U.2
          rw [lN_i, nI_clamp (by omega)] at z
          exact Or.inr ⟨u, hu, rfl, pos_ne z⟩
theorem newInner_kl {J : Nat} {n : Int32} (r : Nat) : kd (mf_newInner J n σ) r = kd σ r ∧ ln (mf_newInner J n σ) r = ln σ r := ⟨rfl, rfl⟩
theorem DN.fill (h : MQ9 σ) (hJ : nJ σ < 8000) {a : Nat} {i j n : Int32} (ha : a < nR σ) : DN σ (mf_fill σ a i j n).2 ∧ (nJ (mf_fill σ a i j n).2 ≠ nJ σ → kd σ a = 10 ∧ 0 < n) := by
  unfold mf_fill
  split
  · exact ⟨DN.rf h, fun y => absurd rfl y⟩
  split
  · exact ⟨DN.rf h, fun y => absurd rfl y⟩
  split
  · exact ⟨DN.rf h, fun y => absurd rfl y⟩
  · next hg hp hc =>
    have hg := Classical.not_not.mp hg
    obtain ⟨I, N, rfl, rfl, h1⟩ := places_n (h.1.l ha) (Classical.not_not.mp hp)
    have la := (h.1.l ha).2
    rw [nI_clamp (by omega), nI_clamp (by omega)]
    unfold mf_fillA mf_fillV
    by_cases hN : 0 < nI N
    · rw [if_pos hN]
      rw [(h.1.k ha).1] at hg ⊢
      have hq := asE_q h hJ (h.1.k ha).2 hg (fun y => Classical.byContradiction (fun z => hc ⟨by rw [(h.1.k ha).1, y]; rfl, hN, z⟩))
      obtain ⟨q1, q2⟩ := hq
      have q4 := asE_e (nI (kd σ a)) j.toInt64 σ
      obtain ⟨V, hV⟩ : ∃ V, V = mf_asE (nI (kd σ a)) j.toInt64 σ := ⟨_, rfl⟩
      show DN σ (sl (mf_asE (nI (kd σ a)) j.toInt64 σ).2 4 (mfill (σ.2.2.1 4) (40 * a + I) N (fun _ => (mf_asE (nI (kd σ a)) j.toInt64 σ).1))) ∧ _
      rw [← hV] at q1 q2 q4 ⊢
      have main : MQ9 V.2 ∧ nR V.2 = nR σ ∧ (∀ r, kd V.2 r = kd σ r ∧ ln V.2 r = ln σ r) ∧ nJ σ ≤ nJ V.2 ∧ nJ V.2 ≤ nJ σ + 1 ∧ (nJ V.2 ≠ nJ σ → kd σ a = 10) := by
        rcases q2 with e | ⟨e1, m, hm, e⟩
        · rw [e]; exact ⟨h, rfl, fun _ => ⟨rfl, rfl⟩, Nat.le_refl _, Nat.le_succ _, fun y => absurd rfl y⟩
        · rw [e]
          have n8 : nJ (mf_newInner (nJ σ) (nI m) σ) = nJ σ + 1 := by
            show (nI (nJ σ + 1)).toNatClampNeg = _
            rw [nI_clamp (by omega)]
          exact ⟨h.newInner hJ hm, rfl, fun r => newInner_kl r, by omega, by omega, fun _ => e1⟩
      obtain ⟨m1, m2, m3, m4, m5, m6⟩ := main
      refine ⟨⟨?_, ?_, m4, m5, fun r _ => m3 r⟩, fun y => ⟨m6 y, hN⟩⟩
      · rw [← q4]
        exact MQ9.els m1 (by rw [m2]; exact ha) (by rw [(m3 a).2]; exact h1) (fun q _ => by rw [(m3 a).1]; exact q1)
      · show nR σ ≤ nR V.2
        omega
    · rw [if_neg hN]
      have hN0 : N = 0 := by
        rcases Nat.eq_zero_or_pos N with y | y
        · exact y
        · exact absurd ((nI_ltI (a := 0) (by decide) (by omega)).mpr y) hN
      subst hN0
      refine ⟨?_, fun y => absurd rfl y⟩
      show DN σ (sl σ 4 (mfill (σ.2.2.1 4) (40 * a + I) 0 (fun _ => (0, σ).1)))
      rw [mfill_0, sl_id]
      exact DN.rf h
theorem DN.sa9 (h : DN σ σ') {v : Int64} : DN σ (sa σ' v) := ⟨h.1.sa9, h.2.1, h.2.2.1, h.2.2.2.1, h.2.2.2.2⟩
theorem has_i {a : Int32} (h : MQ9 σ) (ha : ¬ a < 0 ∧ a < σ.1 1) : a.toNatClampNeg < nR σ := by
  obtain ⟨r, hr, rfl⟩ := h.1.row ha
  have := h.1.R.2
  rw [nI_clamp (by omega)]
  exact hr
theorem copy_8 {a b : Nat} {i j n : Int32} : nJ (mf_copy σ a i b j n).2 = nJ σ := by
  unfold mf_copy
  split
  · rfl
  split
  · rfl
  · rfl
theorem copyRow_8 {a : Nat} : nJ (mf_copyRow σ a).2 = nJ σ := by
  unfold mf_copyRow
  split
  · rfl
  · rfl
theorem turn_8 {a : Nat} {i n : Int32} : nJ (mf_turn σ a i n).2 = nJ σ := by
  unfold mf_turn
  split
  · rfl
  · rfl
theorem sort_8 {a : Nat} {i n : Int32} : nJ (mf_sort σ a i n).2 = nJ σ := by
  unfold mf_sort
  split
  · rfl
  split
  · rfl
  · rfl
/-- an act that only asks -/
def AK (σ : MS) (r : Int32 × MS) : Prop := r.2 = σ ∨ ∃ v, r.2 = sa σ v
theorem AK.orderRows {a b : Nat} : AK σ (mf_orderRows σ a b) := by
  unfold mf_orderRows
  split
  · exact Or.inl rfl
  · exact Or.inr ⟨_, rfl⟩
theorem AK.greatest {a : Nat} : AK σ (mf_greatest σ a) := by
  unfold mf_greatest
  split
  · exact Or.inl rfl
  split
  · exact Or.inl rfl
  · exact Or.inr ⟨_, rfl⟩
theorem AK.findIn {a : Nat} {i j n : Int32} : AK σ (mf_findIn σ a i j n) := by
  unfold mf_findIn
  split
  · exact Or.inl rfl
  split
  · exact Or.inl rfl
  · exact Or.inr ⟨_, rfl⟩
theorem AK.fees {a : Nat} : AK σ (mf_fees σ a) := by
  unfold mf_fees
  split
  · exact Or.inl rfl
  · exact Or.inr ⟨_, rfl⟩
theorem AK.dn (h : MQ9 σ) {r : Int32 × MS} (hr : AK σ r) : DN σ r.2 ∧ nJ r.2 = nJ σ := by
  rcases hr with e | ⟨v, e⟩ <;> rw [e]
  · exact ⟨DN.rf h, rfl⟩
  · exact ⟨(DN.rf h).sa9, rfl⟩
/-- an act that is no call -/
theorem DN.done (h : MQ9 σ) (hJ : nJ σ < 8000) {x0 : Nat} {a i b j n : Int32} (hx : x0 ≤ 12) (hr : mf_hasRows σ (nI x0) a b) : DN σ (mf_done σ x0 a i b j n).2 ∧ (nJ (mf_done σ x0 a i b j n).2 ≠ nJ σ → x0 = 2 ∧ kd σ a.toNatClampNeg = 10 ∧ 0 < n) := by
  have h0 : MQ9 (sa σ 0) := h.sa9
  have ne : ∀ y : Nat, y < 2 ^ 31 → x0 ≠ y → ¬ nI x0 = nI y := fun y hy e z => e ((nI_eq (by omega) hy).mp z)
  have ha : x0 ≠ 10 → x0 ≠ 11 → a.toNatClampNeg < nR (sa σ 0) := fun e1 e2 => has_i h (hr.1.resolve_left (fun y => y.elim (ne 10 (by decide) e1) (ne 11 (by decide) e2)))
  have hb : x0 = 0 ∨ x0 = 3 ∨ x0 = 4 → b.toNatClampNeg < nR (sa σ 0) := fun e1 => has_i h (hr.2.resolve_left (fun y => y (by rcases e1 with rfl | rfl | rfl <;> decide)))
  have same : ∀ τ : Int32 × MS, DN (sa σ 0) τ.2 → nJ τ.2 = nJ (sa σ 0) → DN σ τ.2 ∧ (nJ τ.2 ≠ nJ σ → x0 = 2 ∧ kd σ a.toNatClampNeg = 10 ∧ 0 < n) := fun τ q e => ⟨q, fun y => absurd e y⟩
  obtain ⟨r, hr9⟩ : ∃ r, r = mf_done σ x0 a i b j n := ⟨_, rfl⟩
  rw [← hr9]
  have ask : AK (sa σ 0) r → DN σ r.2 ∧ (nJ r.2 ≠ nJ σ → x0 = 2 ∧ kd σ a.toNatClampNeg = 10 ∧ 0 < n) := fun q => same r (q.dn h0).1 (q.dn h0).2
  unfold mf_done at hr9
  by_cases e : x0 = 0
  · rw [if_pos e] at hr9
    rw [hr9]
    exact same _ (DN.copy h0 (ha (by omega) (by omega)) (hb (Or.inl e))) copy_8
  rw [if_neg e] at hr9
  by_cases e : x0 = 1
  · rw [if_pos e] at hr9
    rw [hr9]
    exact same _ (DN.copyRow h0 (ha (by omega) (by omega))) copyRow_8
  rw [if_neg e] at hr9
  by_cases e : x0 = 2
  · rw [if_pos e] at hr9
    rw [hr9]
    have q := DN.fill h0 hJ (i := i) (j := j) (n := n) (ha (by omega) (by omega))
    exact ⟨q.1, fun y => ⟨e, q.2 y⟩⟩
  rw [if_neg e] at hr9
  by_cases e : x0 = 3
  · rw [if_pos e] at hr9
    exact ask (by rw [hr9]; exact Or.inr ⟨_, rfl⟩)
  rw [if_neg e] at hr9
  by_cases e : x0 = 4
  · rw [if_pos e] at hr9
    exact ask (by rw [hr9]; exact AK.orderRows)
  rw [if_neg e] at hr9
  by_cases e : x0 = 5
  · rw [if_pos e] at hr9
    exact ask (by rw [hr9]; exact Or.inr ⟨_, rfl⟩)
  rw [if_neg e] at hr9
  by_cases e : x0 = 6
  · rw [if_pos e] at hr9
    exact ask (by rw [hr9]; exact AK.greatest)
  rw [if_neg e] at hr9
  by_cases e : x0 = 7
  · rw [if_pos e] at hr9
    rw [hr9]
    exact same _ (DN.turn h0 (ha (by omega) (by omega))) turn_8
  rw [if_neg e] at hr9
  by_cases e : x0 = 8
  · rw [if_pos e] at hr9
    rw [hr9]
    exact same _ (DN.sort h0 (ha (by omega) (by omega))) sort_8
  rw [if_neg e] at hr9
  by_cases e : x0 = 9
  · rw [if_pos e] at hr9
    exact ask (by rw [hr9]; exact AK.findIn)
  rw [if_neg e] at hr9
  by_cases e : x0 = 12
  · rw [if_pos e] at hr9
    exact ask (by rw [hr9]; exact AK.fees)
  rw [if_neg e] at hr9
  exact ask (by rw [hr9]; exact Or.inl rfl)
end S49b
