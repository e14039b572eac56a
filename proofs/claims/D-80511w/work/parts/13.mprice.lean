set_option maxRecDepth 100000
theorem ord_none (x : FP.Core.Datum) : FP.Core.order x x = none ↔ x = .nan := by
  cases x <;> simp [FP.Core.order]
theorem ord_nan {x y : FP.Core.Datum} (h : x = .nan ∨ y = .nan) : FP.Core.order x y = none := by
  rcases h with rfl | rfl
  · rfl
  · cases x <;> rfl
abbrev dD (a : UInt64) : FP.Core.Datum := FP.Core.decode FP.Core.b64 a.toNat
abbrev fD (a : UInt32) : FP.Core.Datum := FP.Core.decode FP.Core.b32 a.toNat
theorem dN_iff (a : UInt64) : dN a ↔ dD a = .nan := ord_none _
theorem fN_iff (a : UInt32) : fN a ↔ fD a = .nan := ord_none _
theorem dcmp_nan {a b : UInt64} (h : dN a ∨ dN b) : FP.dcmp a b = none := ord_nan (h.imp (dN_iff a).mp (dN_iff b).mp)
theorem b64_t : FP.Core.b64.tails = 4503599627370496 := by decide
theorem b64_e : FP.Core.b64.exps = 2048 := by decide
theorem b64_q : FP.Core.b64.qmin = -1074 := by decide
theorem b64_m : FP.Core.b64.qmax = 971 := by decide
theorem b64_p : 2 ^ FP.Core.b64.p = 9007199254740992 := by decide
theorem enc_fin (s : Bool) (c : Nat) (q : Int) (h1 : c < 9007199254740992) (h2 : q ≤ 971) : FP.Core.encode FP.Core.b64 (.fin s c q) < 2 ^ 64 ∧ FP.Core.encode FP.Core.b64 (.fin s c q) % 2 ^ 63 ≤ 9218868437227405312 := by
  unfold FP.Core.encode FP.Core.assemble
  simp only [b64_t, b64_e, b64_q]
  split <;> cases s <;> simp only [Bool.toNat_true, Bool.toNat_false] <;> constructor <;> omega
theorem enc_inf (s : Bool) : FP.Core.encode FP.Core.b64 (.inf s) < 2 ^ 64 ∧ FP.Core.encode FP.Core.b64 (.inf s) % 2 ^ 63 ≤ 9218868437227405312 := by
  cases s <;> decide
theorem bnd_shape (s : Bool) (c : Nat) (q : Int) (h : c < 9007199254740992) : (∃ s', FP.Core.bound FP.Core.b64 s c q = .inf s') ∨ ∃ s' c' q', FP.Core.bound FP.Core.b64 s c q = .fin s' c' q' ∧ c' < 9007199254740992 ∧ q' ≤ 971 := by
  unfold FP.Core.bound
  rw [b64_m]
  split
  · exact Or.inr ⟨s, c, q, rfl, h, by assumption⟩
  · exact Or.inl ⟨s, rfl⟩
theorem rnd_shape {d : FP.Core.Datum} (h : d ≠ .nan) : (∃ s', FP.Core.round FP.Core.b64 d = .inf s') ∨ ∃ s' c' q', FP.Core.round FP.Core.b64 d = .fin s' c' q' ∧ c' < 9007199254740992 ∧ q' ≤ 971 := by
  cases d with
  | nan => exact absurd rfl h
  | inf s => exact Or.inl ⟨s, rfl⟩
  | fin s c q =>
    unfold FP.Core.round FP.Core.roundRatio
    by_cases h0 : c = 0
    · simp only [if_pos h0]
      exact Or.inr ⟨s, 0, _, rfl, by decide, by rw [b64_q]; decide⟩
    · simp only [if_neg h0]
      unfold FP.Core.roundAt FP.Core.settle
      rw [b64_p]
      split
      · exact bnd_shape _ _ _ (by assumption)
      · exact bnd_shape _ _ _ (by rw [b64_t]; decide)
theorem rnd_num {d : FP.Core.Datum} (h : d ≠ .nan) : vf_n64 (.ofNat (FP.Core.encode FP.Core.b64 (FP.Core.round FP.Core.b64 d))) := by
  have hb : FP.Core.encode FP.Core.b64 (FP.Core.round FP.Core.b64 d) < 2 ^ 64 ∧ FP.Core.encode FP.Core.b64 (FP.Core.round FP.Core.b64 d) % 2 ^ 63 ≤ 9218868437227405312 := by
    rcases rnd_shape h with ⟨s', e⟩ | ⟨s', c', q', e, h1, h2⟩
    · rw [e]; exact enc_inf s'
    · rw [e]; exact enc_fin s' c' q' h1 h2
  unfold vf_n64
  rw [UInt64.le_iff_toNat_le, UInt64.toNat_and, show (0x7fffffffffffffff : UInt64).toNat = 2 ^ 63 - 1 from rfl, Nat.and_two_pow_sub_one_eq_mod, UInt64.toNat_ofNat_of_lt' hb.1]
  exact hb.2
theorem sum_num {x y : FP.Core.Datum} (hx : x ≠ .nan) (hy : y ≠ .nan) (h : ¬ ∃ s, x = .inf s ∧ y = .inf (!s)) : FP.Core.exactSum x y ≠ .nan := by
  cases x with
  | nan => exact absurd rfl hx
  | inf s => cases y with
    | nan => exact absurd rfl hy
    | inf t =>
      by_cases e : s = t
      · subst e; simp [FP.Core.exactSum]
      · exact absurd ⟨s, rfl, by cases s <;> cases t <;> simp_all⟩ h
    | fin _ _ _ => exact fun z => by cases z
  | fin _ _ _ => cases y with
    | nan => exact absurd rfl hy
    | inf t => exact fun z => by cases z
    | fin _ _ _ => exact fun z => by cases z
theorem dec_inf {a : UInt64} {s : Bool} (h : dD a = .inf s) : a = if s then 18442240474082181120 else 9218868437227405312 := by
  have hl := a.toNat_lt
  unfold dD FP.Core.decode FP.Core.fieldE FP.Core.fieldT FP.Core.fieldS at h
  simp only [b64_t, b64_e] at h
  split at h
  · split at h
    · cases h
      refine UInt64.toNat_inj.mp ?_
      by_cases hz : a.toNat / 4503599627370496 / 2048 % 2 = 1
      · simp only [hz, beq_self_eq_true, if_true]
        show _ = 18442240474082181120
        omega
      · simp only [beq_iff_eq, hz, if_false]
        show _ = 9218868437227405312
        omega
    · cases h
  · split at h <;> cases h
theorem dec_fin {a : UInt64} {s : Bool} {c : Nat} {q : Int} (h : dD a = .fin s c q) : c < 9007199254740992 ∧ -1074 ≤ q ∧ q ≤ 971 := by
  have hl := a.toNat_lt
  unfold dD FP.Core.decode FP.Core.fieldE FP.Core.fieldT FP.Core.fieldS at h
  simp only [b64_t, b64_e, b64_q] at h
  split at h
  · split at h <;> cases h
  · split at h <;> cases h <;> omega
theorem cv_gt {o : Option Ordering} : ¬ Op.cmpValue o .l ≤ 0 ↔ o = some .gt := by
  rcases o with _ | (_ | _ | _) <;> decide
theorem cv_lt {o : Option Ordering} : ¬ (0 : Int32) ≤ Op.cmpValue o .g ↔ o = some .lt := by
  rcases o with _ | (_ | _ | _) <;> decide
theorem cv_gt' {o : Option Ordering} : Op.cmpValue o .l ≤ 0 ↔ ¬ o = some .gt := by rw [← cv_gt]; exact Classical.not_not.symm
theorem cv_lt' {o : Option Ordering} : (0 : Int32) ≤ Op.cmpValue o .g ↔ ¬ o = some .lt := by rw [← cv_lt]; exact Classical.not_not.symm
theorem cv_eq {o : Option Ordering} : Op.cmpValue o .l = 0 ↔ o = some .eq := by
  rcases o with _ | (_ | _ | _) <;> decide
theorem cv_ltZ {o : Option Ordering} : Op.cmpValue o .g < 0 ↔ o = some .lt := by
  rcases o with _ | (_ | _ | _) <;> decide
theorem cv_gtZ {o : Option Ordering} : 0 < Op.cmpValue o .l ↔ o = some .gt := by
  rcases o with _ | (_ | _ | _) <;> decide
abbrev dINF : UInt64 := 9218868437227405312
abbrev dNIN : UInt64 := 18442240474082181120
abbrev dEnd (v : UInt64) : Prop := v = dINF ∨ v = dNIN
theorem dEnd_gt {v : UInt64} : FP.dcmp v 9218868437227405311 = some .gt ↔ v = dINF := by
  have hM : dD 9218868437227405311 = .fin false 9007199254740991 971 := by decide +kernel
  constructor
  · intro z
    have z1 : FP.Core.order (dD v) (dD 9218868437227405311) = some .gt := z
    rw [hM] at z1
    cases hv : dD v with
    | nan => rw [hv] at z1; cases z1
    | inf s =>
      have := dec_inf hv
      cases s
      · exact this
      · rw [hv] at z1
        exact absurd z1 (by decide)
    | fin s c q =>
      rw [hv] at z1
      obtain ⟨h1, h2, h3⟩ := dec_fin hv
      unfold FP.Core.order at z1
      have z2 := Int.compare_eq_gt.mp (Option.some.inj z1)
      unfold FP.Core.signed FP.Core.inUnits at z2
      rw [show min q 971 = q by omega] at z2
      simp only [Bool.false_eq_true, if_false, Int.sub_self, Int.toNat_zero, Nat.pow_zero, Nat.mul_one] at z2
      have hp : 1 ≤ 2 ^ (971 - q).toNat := Nat.one_le_two_pow
      have hp2 : 9007199254740991 * 1 ≤ 9007199254740991 * 2 ^ (971 - q).toNat := Nat.mul_le_mul_left _ hp
      split at z2 <;> omega
  · rintro rfl
    decide +kernel
theorem dEnd_lt {v : UInt64} : FP.dcmp v 18442240474082181119 = some .lt ↔ v = dNIN := by
  have hM : dD 18442240474082181119 = .fin true 9007199254740991 971 := by decide +kernel
  constructor
  · intro z
    have z1 : FP.Core.order (dD v) (dD 18442240474082181119) = some .lt := z
    rw [hM] at z1
    cases hv : dD v with
    | nan => rw [hv] at z1; cases z1
    | inf s =>
      have := dec_inf hv
      cases s
      · rw [hv] at z1
        exact absurd z1 (by decide)
      · exact this
    | fin s c q =>
      rw [hv] at z1
      obtain ⟨h1, h2, h3⟩ := dec_fin hv
      unfold FP.Core.order at z1
      have z2 := Int.compare_eq_lt.mp (Option.some.inj z1)
      unfold FP.Core.signed FP.Core.inUnits at z2
      rw [show min q 971 = q by omega] at z2
      simp only [if_true, Int.sub_self, Int.toNat_zero, Nat.pow_zero, Nat.mul_one] at z2
      have hp : 1 ≤ 2 ^ (971 - q).toNat := Nat.one_le_two_pow
      have hp2 : 9007199254740991 * 1 ≤ 9007199254740991 * 2 ^ (971 - q).toNat := Nat.mul_le_mul_left _ hp
      split at z2 <;> omega
  · rintro rfl
    decide +kernel
def mPlus (a b : UInt64) : UInt64 := if dN a ∨ dN b ∨ (a = dINF ∧ b = dNIN) ∨ (a = dNIN ∧ b = dINF) then 9221120237041090560 else FP.dadd a b
theorem plus_num {a b : UInt64} (h : ¬ (dN a ∨ dN b ∨ (a = dINF ∧ b = dNIN) ∨ (a = dNIN ∧ b = dINF))) : vf_n64 (FP.dadd a b) := by
  refine rnd_num (sum_num (x := dD a) (y := dD b) ?_ ?_ ?_)
  · exact fun z => h (Or.inl ((dN_iff a).mpr z))
  · exact fun z => h (Or.inr (Or.inl ((dN_iff b).mpr z)))
  · rintro ⟨t, h1, h2⟩
    have e1 := dec_inf h1
    have e2 := dec_inf h2
    cases t
    · exact h (Or.inr (Or.inr (Or.inl ⟨e1, e2⟩)))
    · exact h (Or.inr (Or.inr (Or.inr ⟨e1, e2⟩)))
def mWide (v : UInt32) : UInt64 := if fN v then 9221120237041090560 else FP.f2d v
theorem f2d_num {a : UInt32} (h : ¬ fN a) : FP.f2d a = .ofNat (FP.Core.encode FP.Core.b64 (FP.Core.round FP.Core.b64 (fD a))) := by
  have e : FP.Core.fIsNaN a = false := decide_eq_false (fun z => h ((fN_iff a).mpr z))
  unfold FP.f2d
  rw [e]
  rfl
theorem wide_num {a : UInt32} (h : ¬ fN a) : vf_n64 (FP.f2d a) := by
  rw [f2d_num h]
  exact rnd_num (fun z => h ((fN_iff a).mpr z))
def mf_some (n : Int32) : Int32 := if n < 0 then 0 else if 40 < n then 40 else n
def mf_base (h : Int32) : Int32 := if h = 0 ∨ h = 8 then 2 else if h = 1 then 3 else if h = 10 then 5 else 1
def mf_wt (k : Int32) : Int32 := if k = 5 ∨ k = 7 then 2 else if k = 10 then 4 else if 8 ≤ k then 3 else 1
def mf_many (σ : MS) (h : Int32) (a b : Nat) (n : Int32) : Int32 := if h = 8 then mf_some n * mf_some n else if h = 1 ∨ h = 5 ∨ h = 6 ∨ h = 12 then σ.2.1 3 a else if h = 3 ∨ h = 4 then (if σ.2.1 3 a < σ.2.1 3 b then σ.2.1 3 a else σ.2.1 3 b) else mf_some n
def mf_priceOf (σ : MS) (h a b n : Int32) : Int32 := if h = 10 ∨ h = 11 then mf_base h else (mf_base h + mf_many σ h a.toNatClampNeg b.toNatClampNeg n) * mf_wt (σ.2.1 2 a.toNatClampNeg)
def mf_price (σ : MS) (h a b n : Int32) : Int64 := if (0 ≤ h.toInt64 ∧ h.toInt64 ≤ 12) ∧ mf_hasRows σ h a b then (mf_priceOf σ h a b n).toInt64 else -9223372036854775808
def mf_oF (x y : UInt32) : Int32 := if FP.fcmp x y = some .lt then -1 else if FP.fcmp x y = some .gt then 1 else 0
def mf_oD (x y : UInt64) : Int32 := if FP.dcmp x y = some .lt then -1 else if FP.dcmp x y = some .gt then 1 else 0
def mf_order (k : Int32) (a b : Int64) : Int32 := if k = 6 then mf_oF (mfO a.toInt32) (mfO b.toInt32) else if k = 7 then mf_oD (mdO a) (mdO b) else if a < b then -1 else if b < a then 1 else 0
/-- the rows of ints x, y are equal -/
abbrev mf_eqI (σ : MS) (x y : Nat) : Prop := σ.2.1 9 x = σ.2.1 9 y ∧ ∀ i, i < iln σ x → σ.2.1 10 (40 * x + i) = σ.2.1 10 (40 * y + i)
abbrev mf_eq (σ : MS) (k : Int32) (a b : Int64) : Prop := (k = 6 ∧ FP.fcmp (mfO a.toInt32) (mfO b.toInt32) = some .eq) ∨ (k = 7 ∧ FP.dcmp (mdO a) (mdO b) = some .eq) ∨ (¬ k = 6 ∧ ¬ k = 7 ∧ (¬ k = 10 ∨ a < 0 ∨ b < 0) ∧ a = b) ∨ (k = 10 ∧ ¬ a < 0 ∧ ¬ b < 0 ∧ mf_eqI σ a.toInt32.toNatClampNeg b.toInt32.toNatClampNeg)
set_option maxHeartbeats 1000000 in
theorem c_X20_isEndless (l : Launch) (hl : l.stackTraces = false) (G : hp_G) (X : Nat → Nat) (N0 : Nat) (M : hp_h) (v : UInt64) : HM l yX20_isEndless (ws_ yX20_isEndless cX20_isEndless 2 (some .boolean)) 0 0 0 0 G X N0 [.double v] M (PV (.int (bI (dEnd v))) M) PX0 := by
  refine HM.of hl [(0, .double v)] (by decide +kernel) rfl (Nat.le_of_ble_eq_true rfl) ?_
  intro p e s m args below meth c C hname
  refine V_dload_n C dX20_isEndless_0 rfl 0 rfl ?_
  refine V_ldc2d (v := 9218868437227405311) C (C.w q1783) dX20_isEndless_1 ?_
  refine V_dcmp C dX20_isEndless_4 ?_
  refine V_if_gt (tgt := 16) C dX20_isEndless_5 (by decide) (fun c_5 => ?_) (fun c_5 => ?_)
  · refine V_iconst (v := 1) C dX20_isEndless_16 rfl ?_
    refine V_goto (tgt := 21) C dX20_isEndless_17 (by decide) ?_
    refine V_zret C rfl dX20_isEndless_21 rfl ?_ (by first | exact Nat.le_of_ble_eq_true rfl | omega | (dsimp only; omega)) (by first | exact Nat.le_of_ble_eq_true rfl | omega | (dsimp only; omega))
    refine ⟨congrArg (fun z => some (Value.int z)) (bI_t ?_), rfl⟩
    (try simp only [cv_gtZ, cv_ltZ, cv_gt', cv_lt', cv_eq, dN_cmp, fN_cmp, dEnd_gt, dEnd_lt, Classical.not_not, bI_0, bI_n, lg_cmp_lt, lg_cmp_gt, lg_cmp_ge, lg_cmp_le, lg_cmp_eq] at c_5)
    clear C
    grind
  · refine V_dload_n C dX20_isEndless_8 rfl 0 rfl ?_
    refine V_ldc2d (v := 18442240474082181119) C (C.w q1784) dX20_isEndless_9 ?_
    refine V_dcmp C dX20_isEndless_12 ?_
    refine V_if_ge (tgt := 20) C dX20_isEndless_13 (by decide) (fun c_13 => ?_) (fun c_13 => ?_)
    · refine V_iconst (v := 0) C dX20_isEndless_20 rfl ?_
      refine V_zret C rfl dX20_isEndless_21 rfl ?_ (by first | exact Nat.le_of_ble_eq_true rfl | omega | (dsimp only; omega)) (by first | exact Nat.le_of_ble_eq_true rfl | omega | (dsimp only; omega))
      refine ⟨congrArg (fun z => some (Value.int z)) (bI_f ?_), rfl⟩
      (try simp only [cv_gtZ, cv_ltZ, cv_gt', cv_lt', cv_eq, dN_cmp, fN_cmp, dEnd_gt, dEnd_lt, Classical.not_not, bI_0, bI_n, lg_cmp_lt, lg_cmp_gt, lg_cmp_ge, lg_cmp_le, lg_cmp_eq] at c_5 c_13)
      clear C
      grind
    · refine V_iconst (v := 1) C dX20_isEndless_16 rfl ?_
      refine V_goto (tgt := 21) C dX20_isEndless_17 (by decide) ?_
      refine V_zret C rfl dX20_isEndless_21 rfl ?_ (by first | exact Nat.le_of_ble_eq_true rfl | omega | (dsimp only; omega)) (by first | exact Nat.le_of_ble_eq_true rfl | omega | (dsimp only; omega))
      refine ⟨congrArg (fun z => some (Value.int z)) (bI_t ?_), rfl⟩
      (try simp only [cv_gtZ, cv_ltZ, cv_gt', cv_lt', cv_eq, dN_cmp, fN_cmp, dEnd_gt, dEnd_lt, Classical.not_not, bI_0, bI_n, lg_cmp_lt, lg_cmp_gt, lg_cmp_ge, lg_cmp_le, lg_cmp_eq] at c_5 c_13)
      clear C
      grind
theorem inf_ne : ¬ dINF = dNIN := by decide
theorem dcmp_inf : FP.dcmp dINF dNIN = some .gt ∧ FP.dcmp dNIN dINF = some .lt := by decide +kernel
theorem plus_ok1 {a b : UInt64} (h1 : ¬ dN a) (h2 : ¬ dN b) (h3 : ¬ dEnd a) : ¬ (dN a ∨ dN b ∨ (a = dINF ∧ b = dNIN) ∨ (a = dNIN ∧ b = dINF)) := by
  rintro (h | h | h | h)
  · exact h1 h
  · exact h2 h
  · exact h3 (Or.inl h.1)
  · exact h3 (Or.inr h.1)
theorem plus_ok2 {a b : UInt64} (h1 : ¬ dN a) (h2 : ¬ dN b) (h3 : ¬ dEnd b) : ¬ (dN a ∨ dN b ∨ (a = dINF ∧ b = dNIN) ∨ (a = dNIN ∧ b = dINF)) := by
  rintro (h | h | h | h)
  · exact h1 h
  · exact h2 h
  · exact h3 (Or.inr h.2)
  · exact h3 (Or.inl h.2)
theorem plus_ok3 {a b : UInt64} (h1 : ¬ dN a) (h2 : ¬ dN b) (h3 : FP.dcmp a b = some .eq) : ¬ (dN a ∨ dN b ∨ (a = dINF ∧ b = dNIN) ∨ (a = dNIN ∧ b = dINF)) := by
  rintro (h | h | ⟨rfl, rfl⟩ | ⟨rfl, rfl⟩)
  · exact h1 h
  · exact h2 h
  · rw [dcmp_inf.1] at h3; cases h3
  · rw [dcmp_inf.2] at h3; cases h3
theorem plus_no {a b : UInt64} (h1 : ¬ dN a) (h2 : ¬ dN b) (h3 : dEnd a) (h4 : dEnd b) (h5 : ¬ FP.dcmp a b = some .eq) : dN a ∨ dN b ∨ (a = dINF ∧ b = dNIN) ∨ (a = dNIN ∧ b = dINF) := by
  have hq : ∀ v : UInt64, ¬ dN v → FP.dcmp v v = some .eq := fun v hv => (ord_self (dD v)).resolve_left hv
  rcases h3 with rfl | rfl <;> rcases h4 with rfl | rfl
  · exact absurd (hq _ h1) h5
  · exact Or.inr (Or.inr (Or.inl ⟨rfl, rfl⟩))
  · exact Or.inr (Or.inr (Or.inr ⟨rfl, rfl⟩))
  · exact absurd (hq _ h1) h5
set_option maxHeartbeats 1000000 in
theorem c_X20_plus (l : Launch) (hl : l.stackTraces = false) (G : hp_G) (X : Nat → Nat) (N0 : Nat) (M : hp_h) (a b : UInt64) : HM l yX20_plus (ws_ yX20_plus cX20_plus 4 (some .double)) 1 21 0 0 G X N0 [.double a, .double b] M (PV (.double (mPlus a b)) M) PX0 := by
  refine HM.of hl [(0, .double a), (2, .double b)] (by decide +kernel) rfl (Nat.le_of_ble_eq_true rfl) ?_
  intro p e s m args below meth c C hname
  refine V_dload_n C dX20_plus_0 rfl 0 rfl ?_
  refine V_dload_n C dX20_plus_1 rfl 0 rfl ?_
  refine V_dcmp C dX20_plus_2 ?_
  refine V_if_ne (tgt := 32) C dX20_plus_3 (by decide) (fun c_3 => ?_) (fun c_3 => ?_)
  · refine V_callS C (c_X20_none l hl G X N0 M ) cs_X20_240 rfl rfl ⟨Nat.le_of_ble_eq_true rfl, Nat.le_of_ble_eq_true rfl⟩ ⟨(by first | exact Nat.le_of_ble_eq_true rfl | omega | (dsimp only; omega)), (by first | exact Nat.le_of_ble_eq_true rfl | omega | (dsimp only; omega))⟩ (Nat.le_of_ble_eq_true rfl) dX20_plus_32 (fun _ _ _ h => px0 h) ?_
    rintro _ _ ⟨rfl, rfl⟩
    refine V_st (st' := [.double 9221120237041090560]) rfl ?_
    refine V_goto (tgt := 41) C dX20_plus_35 (by decide) ?_
    refine V_dret C dX20_plus_41 rfl ?_ (by first | exact Nat.le_of_ble_eq_true rfl | omega | (dsimp only; omega)) (by first | exact Nat.le_of_ble_eq_true rfl | omega | (dsimp only; omega))
    refine ⟨congrArg (fun z => some (Value.double z)) ?_, rfl⟩
    unfold mPlus
    (try simp only [dN_cmp, Classical.not_not] at c_3)
    (try simp only [cv_gtZ, cv_ltZ, cv_gt', cv_lt', cv_eq, dN_cmp, fN_cmp, dEnd_gt, dEnd_lt, Classical.not_not, bI_0, bI_n] at c_3)
    have hpl : dN a ∨ dN b ∨ (a = dINF ∧ b = dNIN) ∨ (a = dNIN ∧ b = dINF) := by
      first | exact Or.inl c_3 | exact Or.inr (Or.inl c_9) | exact plus_no c_3 c_9 c_16 c_23 c_29
    rw [if_pos hpl]
  · refine V_dload_n C dX20_plus_6 rfl 1 rfl ?_
    refine V_dload_n C dX20_plus_7 rfl 1 rfl ?_
    refine V_dcmp C dX20_plus_8 ?_
    refine V_if_ne (tgt := 32) C dX20_plus_9 (by decide) (fun c_9 => ?_) (fun c_9 => ?_)
    · refine V_callS C (c_X20_none l hl G X N0 M ) cs_X20_240 rfl rfl ⟨Nat.le_of_ble_eq_true rfl, Nat.le_of_ble_eq_true rfl⟩ ⟨(by first | exact Nat.le_of_ble_eq_true rfl | omega | (dsimp only; omega)), (by first | exact Nat.le_of_ble_eq_true rfl | omega | (dsimp only; omega))⟩ (Nat.le_of_ble_eq_true rfl) dX20_plus_32 (fun _ _ _ h => px0 h) ?_
      rintro _ _ ⟨rfl, rfl⟩
      refine V_st (st' := [.double 9221120237041090560]) rfl ?_
      refine V_goto (tgt := 41) C dX20_plus_35 (by decide) ?_
      refine V_dret C dX20_plus_41 rfl ?_ (by first | exact Nat.le_of_ble_eq_true rfl | omega | (dsimp only; omega)) (by first | exact Nat.le_of_ble_eq_true rfl | omega | (dsimp only; omega))
      refine ⟨congrArg (fun z => some (Value.double z)) ?_, rfl⟩
      unfold mPlus
      (try simp only [dN_cmp, Classical.not_not] at c_3)
      (try simp only [dN_cmp, Classical.not_not] at c_9)
      (try simp only [cv_gtZ, cv_ltZ, cv_gt', cv_lt', cv_eq, dN_cmp, fN_cmp, dEnd_gt, dEnd_lt, Classical.not_not, bI_0, bI_n] at c_3 c_9)
      have hpl : dN a ∨ dN b ∨ (a = dINF ∧ b = dNIN) ∨ (a = dNIN ∧ b = dINF) := by
        first | exact Or.inl c_3 | exact Or.inr (Or.inl c_9) | exact plus_no c_3 c_9 c_16 c_23 c_29
      rw [if_pos hpl]
    · refine V_dload_n C dX20_plus_12 rfl 0 rfl ?_
      refine V_callS C (c_X20_isEndless l hl G X N0 M a) cs_X20_236 rfl rfl ⟨Nat.le_of_ble_eq_true rfl, Nat.le_of_ble_eq_true rfl⟩ ⟨(by first | exact Nat.le_of_ble_eq_true rfl | omega | (dsimp only; omega)), (by first | exact Nat.le_of_ble_eq_true rfl | omega | (dsimp only; omega))⟩ (Nat.le_of_ble_eq_true rfl) dX20_plus_13 (fun _ _ _ h => px0 h) ?_
      rintro _ _ ⟨rfl, rfl⟩
      refine V_st (st' := [.int (bI (dEnd a))]) rfl ?_
      refine V_if_eq (tgt := 38) C dX20_plus_16 (by decide) (fun c_16 => ?_) (fun c_16 => ?_)
      · (try simp only [dN_cmp, Classical.not_not] at c_3)
        (try simp only [dN_cmp, Classical.not_not] at c_9)
        (try simp only [cv_gtZ, cv_ltZ, cv_gt', cv_lt', cv_eq, dN_cmp, fN_cmp, dEnd_gt, dEnd_lt, Classical.not_not, bI_0, bI_n] at c_3 c_9 c_16)
        have hpl : ¬ (dN a ∨ dN b ∨ (a = dINF ∧ b = dNIN) ∨ (a = dNIN ∧ b = dINF)) := plus_ok1 c_3 c_9 c_16
        refine V_pc (pc1 := 38) rfl ?_
        refine V_dload_n C dX20_plus_38 rfl 0 rfl ?_
        refine V_dload_n C dX20_plus_39 rfl 1 rfl ?_
        refine V_dadd C dX20_plus_40 (plus_num hpl) ?_
        refine V_dret C dX20_plus_41 rfl ?_ (by first | exact Nat.le_of_ble_eq_true rfl | omega | (dsimp only; omega)) (by first | exact Nat.le_of_ble_eq_true rfl | omega | (dsimp only; omega))
        refine ⟨congrArg (fun z => some (Value.double z)) ?_, rfl⟩
        unfold mPlus
        rw [if_neg hpl]
      · refine V_pc (pc1 := 19) rfl ?_
        refine V_dload_n C dX20_plus_19 rfl 1 rfl ?_
        refine V_callS C (c_X20_isEndless l hl G X N0 M b) cs_X20_236 rfl rfl ⟨Nat.le_of_ble_eq_true rfl, Nat.le_of_ble_eq_true rfl⟩ ⟨(by first | exact Nat.le_of_ble_eq_true rfl | omega | (dsimp only; omega)), (by first | exact Nat.le_of_ble_eq_true rfl | omega | (dsimp only; omega))⟩ (Nat.le_of_ble_eq_true rfl) dX20_plus_20 (fun _ _ _ h => px0 h) ?_
        rintro _ _ ⟨rfl, rfl⟩
        refine V_st (st' := [.int (bI (dEnd b))]) rfl ?_
        refine V_if_eq (tgt := 38) C dX20_plus_23 (by decide) (fun c_23 => ?_) (fun c_23 => ?_)
        · (try simp only [dN_cmp, Classical.not_not] at c_3)
          (try simp only [dN_cmp, Classical.not_not] at c_9)
          (try simp only [cv_gtZ, cv_ltZ, cv_gt', cv_lt', cv_eq, dN_cmp, fN_cmp, dEnd_gt, dEnd_lt, Classical.not_not, bI_0, bI_n] at c_3 c_9 c_16 c_23)
          have hpl : ¬ (dN a ∨ dN b ∨ (a = dINF ∧ b = dNIN) ∨ (a = dNIN ∧ b = dINF)) := plus_ok2 c_3 c_9 c_23
          refine V_dload_n C dX20_plus_38 rfl 0 rfl ?_
          refine V_dload_n C dX20_plus_39 rfl 1 rfl ?_
          refine V_dadd C dX20_plus_40 (plus_num hpl) ?_
          refine V_dret C dX20_plus_41 rfl ?_ (by first | exact Nat.le_of_ble_eq_true rfl | omega | (dsimp only; omega)) (by first | exact Nat.le_of_ble_eq_true rfl | omega | (dsimp only; omega))
          refine ⟨congrArg (fun z => some (Value.double z)) ?_, rfl⟩
          unfold mPlus
          rw [if_neg hpl]
        · refine V_dload_n C dX20_plus_26 rfl 0 rfl ?_
          refine V_dload_n C dX20_plus_27 rfl 1 rfl ?_
          refine V_dcmp C dX20_plus_28 ?_
          refine V_if_eq (tgt := 38) C dX20_plus_29 (by decide) (fun c_29 => ?_) (fun c_29 => ?_)
          · (try simp only [dN_cmp, Classical.not_not] at c_3)
            (try simp only [dN_cmp, Classical.not_not] at c_9)
            (try simp only [cv_gtZ, cv_ltZ, cv_gt', cv_lt', cv_eq, dN_cmp, fN_cmp, dEnd_gt, dEnd_lt, Classical.not_not, bI_0, bI_n] at c_3 c_9 c_16 c_23 c_29)
            have hpl : ¬ (dN a ∨ dN b ∨ (a = dINF ∧ b = dNIN) ∨ (a = dNIN ∧ b = dINF)) := plus_ok3 c_3 c_9 c_29
            refine V_dload_n C dX20_plus_38 rfl 0 rfl ?_
            refine V_dload_n C dX20_plus_39 rfl 1 rfl ?_
            refine V_dadd C dX20_plus_40 (plus_num hpl) ?_
            refine V_dret C dX20_plus_41 rfl ?_ (by first | exact Nat.le_of_ble_eq_true rfl | omega | (dsimp only; omega)) (by first | exact Nat.le_of_ble_eq_true rfl | omega | (dsimp only; omega))
            refine ⟨congrArg (fun z => some (Value.double z)) ?_, rfl⟩
            unfold mPlus
            rw [if_neg hpl]
          · refine V_callS C (c_X20_none l hl G X N0 M ) cs_X20_240 rfl rfl ⟨Nat.le_of_ble_eq_true rfl, Nat.le_of_ble_eq_true rfl⟩ ⟨(by first | exact Nat.le_of_ble_eq_true rfl | omega | (dsimp only; omega)), (by first | exact Nat.le_of_ble_eq_true rfl | omega | (dsimp only; omega))⟩ (Nat.le_of_ble_eq_true rfl) dX20_plus_32 (fun _ _ _ h => px0 h) ?_
            rintro _ _ ⟨rfl, rfl⟩
            refine V_st (st' := [.double 9221120237041090560]) rfl ?_
            refine V_goto (tgt := 41) C dX20_plus_35 (by decide) ?_
            refine V_dret C dX20_plus_41 rfl ?_ (by first | exact Nat.le_of_ble_eq_true rfl | omega | (dsimp only; omega)) (by first | exact Nat.le_of_ble_eq_true rfl | omega | (dsimp only; omega))
            refine ⟨congrArg (fun z => some (Value.double z)) ?_, rfl⟩
            unfold mPlus
            (try simp only [dN_cmp, Classical.not_not] at c_3)
            (try simp only [dN_cmp, Classical.not_not] at c_9)
            (try simp only [cv_gtZ, cv_ltZ, cv_gt', cv_lt', cv_eq, dN_cmp, fN_cmp, dEnd_gt, dEnd_lt, Classical.not_not, bI_0, bI_n] at c_3 c_9 c_16 c_23 c_29)
            have hpl : dN a ∨ dN b ∨ (a = dINF ∧ b = dNIN) ∨ (a = dNIN ∧ b = dINF) := by
              first | exact Or.inl c_3 | exact Or.inr (Or.inl c_9) | exact plus_no c_3 c_9 c_16 c_23 c_29
            rw [if_pos hpl]
set_option maxHeartbeats 1000000 in
theorem c_X20_wide (l : Launch) (hl : l.stackTraces = false) (G : hp_G) (X : Nat → Nat) (N0 : Nat) (M : hp_h) (v : UInt32) : HM l yX20_wide (ws_ yX20_wide cX20_wide 1 (some .double)) 1 19 0 0 G X N0 [.float v] M (PV (.double (mWide v)) M) PX0 := by
  refine HM.of hl [(0, .float v)] (by decide +kernel) rfl (Nat.le_of_ble_eq_true rfl) ?_
  intro p e s m args below meth c C hname
  refine V_fload_n C dX20_wide_0 rfl 0 rfl ?_
  refine V_fload_n C dX20_wide_1 rfl 0 rfl ?_
  refine V_fcmp C dX20_wide_2 ?_
  refine V_if_eq (tgt := 12) C dX20_wide_3 (by decide) (fun c_3 => ?_) (fun c_3 => ?_)
  · have hv : ¬ fN v := (fN_cmp v).mp c_3
    refine V_fload_n C dX20_wide_12 rfl 0 rfl ?_
    refine V_f2d C dX20_wide_13 (wide_num hv) ?_
    refine V_dret C dX20_wide_14 rfl ?_ (by first | exact Nat.le_of_ble_eq_true rfl | omega | (dsimp only; omega)) (by first | exact Nat.le_of_ble_eq_true rfl | omega | (dsimp only; omega))
    refine ⟨congrArg (fun z => some (Value.double z)) ?_, rfl⟩
    unfold mWide
    rw [if_neg hv]
  · refine V_callS C (c_X20_none l hl G X N0 M ) cs_X20_240 rfl rfl ⟨Nat.le_of_ble_eq_true rfl, Nat.le_of_ble_eq_true rfl⟩ ⟨(by first | exact Nat.le_of_ble_eq_true rfl | omega | (dsimp only; omega)), (by first | exact Nat.le_of_ble_eq_true rfl | omega | (dsimp only; omega))⟩ (Nat.le_of_ble_eq_true rfl) dX20_wide_6 (fun _ _ _ h => px0 h) ?_
    rintro _ _ ⟨rfl, rfl⟩
    refine V_st (st' := [.double 9221120237041090560]) rfl ?_
    refine V_goto (tgt := 14) C dX20_wide_9 (by decide) ?_
    refine V_dret C dX20_wide_14 rfl ?_ (by first | exact Nat.le_of_ble_eq_true rfl | omega | (dsimp only; omega)) (by first | exact Nat.le_of_ble_eq_true rfl | omega | (dsimp only; omega))
    refine ⟨congrArg (fun z => some (Value.double z)) ?_, rfl⟩
    unfold mWide
    rw [fN_cmp, Classical.not_not] at c_3
    rw [if_pos c_3]
set_option maxHeartbeats 1000000 in
theorem c_X20_order (l : Launch) (hl : l.stackTraces = false) (G : hp_G) (X : Nat → Nat) (N0 : Nat) (M : hp_h) (k : Int32) (a b : Int64) : HM l yX20_order (ws_ yX20_order cX20_order 9 (some .int)) 3 64 0 0 G X N0 [.int k, .long a, .long b] M (PV (.int (mf_order k a b)) M) PX0 := by
  refine HM.of hl [(0, .int k), (1, .long a), (3, .long b)] (by decide +kernel) rfl (Nat.le_of_ble_eq_true rfl) ?_
  intro p e s m args below meth c C hname
  refine V_iload_n C dX20_order_0 rfl 0 rfl ?_
  refine V_bipush (v := 6) C dX20_order_1 rfl ?_
  refine V_icmp_ne (tgt := 44) C dX20_order_3 (by decide) (fun c_3 => ?_) (fun c_3 => ?_)
  · refine V_iload_n C dX20_order_44 rfl 0 rfl ?_
    refine V_bipush (v := 7) C dX20_order_45 rfl ?_
    refine V_icmp_ne (tgt := 88) C dX20_order_47 (by decide) (fun c_47 => ?_) (fun c_47 => ?_)
    · refine V_lload_n C dX20_order_88 rfl 1 rfl ?_
      refine V_lload_n C dX20_order_89 rfl 2 rfl ?_
      refine V_lcmp C dX20_order_90 ?_
      refine V_if_ge (tgt := 98) C dX20_order_91 (by decide) (fun c_91 => ?_) (fun c_91 => ?_)
      · refine V_lload_n C dX20_order_98 rfl 1 rfl ?_
        refine V_pc (pc1 := 99) rfl ?_
        refine V_lload_n C dX20_order_99 rfl 2 rfl ?_
        refine V_lcmp C dX20_order_100 ?_
        refine V_if_le (tgt := 108) C dX20_order_101 (by decide) (fun c_101 => ?_) (fun c_101 => ?_)
        · refine V_iconst (v := 0) C dX20_order_108 rfl ?_
          refine V_iret C dX20_order_109 rfl ?_ (by first | exact Nat.le_of_ble_eq_true rfl | omega | (dsimp only; omega)) (by first | exact Nat.le_of_ble_eq_true rfl | omega | (dsimp only; omega))
          refine ⟨congrArg (fun z => some (Value.int z)) ?_, rfl⟩
          (try simp only [cv_gtZ, cv_ltZ, cv_gt', cv_lt', cv_eq, dN_cmp, fN_cmp, dEnd_gt, dEnd_lt, Classical.not_not, bI_0, bI_n, lg_cmp_lt, lg_cmp_gt, lg_cmp_ge, lg_cmp_le, lg_cmp_eq] at c_3 c_47 c_91 c_101)
          unfold mf_order mf_oF mf_oD
          clear C
          grind
        · refine V_iconst (v := 1) C dX20_order_104 rfl ?_
          refine V_goto (tgt := 109) C dX20_order_105 (by decide) ?_
          refine V_iret C dX20_order_109 rfl ?_ (by first | exact Nat.le_of_ble_eq_true rfl | omega | (dsimp only; omega)) (by first | exact Nat.le_of_ble_eq_true rfl | omega | (dsimp only; omega))
          refine ⟨congrArg (fun z => some (Value.int z)) ?_, rfl⟩
          (try simp only [cv_gtZ, cv_ltZ, cv_gt', cv_lt', cv_eq, dN_cmp, fN_cmp, dEnd_gt, dEnd_lt, Classical.not_not, bI_0, bI_n, lg_cmp_lt, lg_cmp_gt, lg_cmp_ge, lg_cmp_le, lg_cmp_eq] at c_3 c_47 c_91 c_101)
          unfold mf_order mf_oF mf_oD
          clear C
          grind
      · refine V_iconst (v := -1) C dX20_order_94 rfl ?_
        refine V_pc (pc1 := 95) rfl ?_
        refine V_goto (tgt := 109) C dX20_order_95 (by decide) ?_
        refine V_iret C dX20_order_109 rfl ?_ (by first | exact Nat.le_of_ble_eq_true rfl | omega | (dsimp only; omega)) (by first | exact Nat.le_of_ble_eq_true rfl | omega | (dsimp only; omega))
        refine ⟨congrArg (fun z => some (Value.int z)) ?_, rfl⟩
        (try simp only [cv_gtZ, cv_ltZ, cv_gt', cv_lt', cv_eq, dN_cmp, fN_cmp, dEnd_gt, dEnd_lt, Classical.not_not, bI_0, bI_n, lg_cmp_lt, lg_cmp_gt, lg_cmp_ge, lg_cmp_le, lg_cmp_eq] at c_3 c_47 c_91)
        unfold mf_order mf_oF mf_oD
        clear C
        grind
    · refine V_lload_n C dX20_order_50 rfl 1 rfl ?_
      refine V_callS C (c_X20_realOfBits l hl G X N0 M a) cs_X20_148 rfl rfl ⟨Nat.le_of_ble_eq_true rfl, Nat.le_of_ble_eq_true rfl⟩ ⟨(by first | exact Nat.le_of_ble_eq_true rfl | omega | (dsimp only; omega)), (by first | exact Nat.le_of_ble_eq_true rfl | omega | (dsimp only; omega))⟩ (Nat.le_of_ble_eq_true rfl) dX20_order_51 (fun _ _ _ h => px0 h) ?_
      rintro _ _ ⟨rfl, rfl⟩
      refine V_st (st' := [.double (mdO a)]) rfl ?_
      refine V_dstore C dX20_order_54 (Nat.le_of_ble_eq_true rfl) [(0, .int k), (1, .long a), (3, .long b), (5, .double (mdO a))] [1, 2, 3, 0] rfl ?_
      refine V_lload_n C dX20_order_56 rfl 2 rfl ?_
      refine V_callS C (c_X20_realOfBits l hl G X N0 M b) cs_X20_148 rfl rfl ⟨Nat.le_of_ble_eq_true rfl, Nat.le_of_ble_eq_true rfl⟩ ⟨(by first | exact Nat.le_of_ble_eq_true rfl | omega | (dsimp only; omega)), (by first | exact Nat.le_of_ble_eq_true rfl | omega | (dsimp only; omega))⟩ (Nat.le_of_ble_eq_true rfl) dX20_order_57 (fun _ _ _ h => px0 h) ?_
      rintro _ _ ⟨rfl, rfl⟩
      refine V_st (st' := [.double (mdO b)]) rfl ?_
      refine V_pc (pc1 := 60) rfl ?_
      refine V_dstore C dX20_order_60 (Nat.le_of_ble_eq_true rfl) [(0, .int k), (1, .long a), (3, .long b), (5, .double (mdO a)), (7, .double (mdO b))] [1, 2, 3, 4, 0] rfl ?_
      refine V_dload C dX20_order_62 3 rfl ?_
      refine V_dload C dX20_order_64 4 rfl ?_
      refine V_dcmp C dX20_order_66 ?_
      refine V_if_ge (tgt := 74) C dX20_order_67 (by decide) (fun c_67 => ?_) (fun c_67 => ?_)
      · refine V_dload C dX20_order_74 3 rfl ?_
        refine V_dload C dX20_order_76 4 rfl ?_
        refine V_dcmp C dX20_order_78 ?_
        refine V_if_le (tgt := 86) C dX20_order_79 (by decide) (fun c_79 => ?_) (fun c_79 => ?_)
        · refine V_iconst (v := 0) C dX20_order_86 rfl ?_
          refine V_iret C dX20_order_87 rfl ?_ (by first | exact Nat.le_of_ble_eq_true rfl | omega | (dsimp only; omega)) (by first | exact Nat.le_of_ble_eq_true rfl | omega | (dsimp only; omega))
          refine ⟨congrArg (fun z => some (Value.int z)) ?_, rfl⟩
          (try simp only [cv_gtZ, cv_ltZ, cv_gt', cv_lt', cv_eq, dN_cmp, fN_cmp, dEnd_gt, dEnd_lt, Classical.not_not, bI_0, bI_n, lg_cmp_lt, lg_cmp_gt, lg_cmp_ge, lg_cmp_le, lg_cmp_eq] at c_3 c_47 c_67 c_79)
          unfold mf_order mf_oF mf_oD
          clear C
          grind
        · refine V_iconst (v := 1) C dX20_order_82 rfl ?_
          refine V_goto (tgt := 87) C dX20_order_83 (by decide) ?_
          refine V_iret C dX20_order_87 rfl ?_ (by first | exact Nat.le_of_ble_eq_true rfl | omega | (dsimp only; omega)) (by first | exact Nat.le_of_ble_eq_true rfl | omega | (dsimp only; omega))
          refine ⟨congrArg (fun z => some (Value.int z)) ?_, rfl⟩
          (try simp only [cv_gtZ, cv_ltZ, cv_gt', cv_lt', cv_eq, dN_cmp, fN_cmp, dEnd_gt, dEnd_lt, Classical.not_not, bI_0, bI_n, lg_cmp_lt, lg_cmp_gt, lg_cmp_ge, lg_cmp_le, lg_cmp_eq] at c_3 c_47 c_67 c_79)
          unfold mf_order mf_oF mf_oD
          clear C
          grind
      · refine V_iconst (v := -1) C dX20_order_70 rfl ?_
        refine V_goto (tgt := 87) C dX20_order_71 (by decide) ?_
        refine V_iret C dX20_order_87 rfl ?_ (by first | exact Nat.le_of_ble_eq_true rfl | omega | (dsimp only; omega)) (by first | exact Nat.le_of_ble_eq_true rfl | omega | (dsimp only; omega))
        refine ⟨congrArg (fun z => some (Value.int z)) ?_, rfl⟩
        (try simp only [cv_gtZ, cv_ltZ, cv_gt', cv_lt', cv_eq, dN_cmp, fN_cmp, dEnd_gt, dEnd_lt, Classical.not_not, bI_0, bI_n, lg_cmp_lt, lg_cmp_gt, lg_cmp_ge, lg_cmp_le, lg_cmp_eq] at c_3 c_47 c_67)
        unfold mf_order mf_oF mf_oD
        clear C
        grind
  · refine V_lload_n C dX20_order_6 rfl 1 rfl ?_
    refine V_callS C (c_X20_floatOf l hl G X N0 M a) cs_X20_140 rfl rfl ⟨Nat.le_of_ble_eq_true rfl, Nat.le_of_ble_eq_true rfl⟩ ⟨(by first | exact Nat.le_of_ble_eq_true rfl | omega | (dsimp only; omega)), (by first | exact Nat.le_of_ble_eq_true rfl | omega | (dsimp only; omega))⟩ (Nat.le_of_ble_eq_true rfl) dX20_order_7 (fun _ _ _ h => px0 h) ?_
    rintro _ _ ⟨rfl, rfl⟩
    refine V_st (st' := [.float (mfO a.toInt32)]) rfl ?_
    refine V_fstore C dX20_order_10 (Nat.le_of_ble_eq_true rfl) [(0, .int k), (1, .long a), (3, .long b), (5, .float (mfO a.toInt32))] [1, 2, 3, 0] rfl ?_
    refine V_lload_n C dX20_order_12 rfl 2 rfl ?_
    refine V_callS C (c_X20_floatOf l hl G X N0 M b) cs_X20_140 rfl rfl ⟨Nat.le_of_ble_eq_true rfl, Nat.le_of_ble_eq_true rfl⟩ ⟨(by first | exact Nat.le_of_ble_eq_true rfl | omega | (dsimp only; omega)), (by first | exact Nat.le_of_ble_eq_true rfl | omega | (dsimp only; omega))⟩ (Nat.le_of_ble_eq_true rfl) dX20_order_13 (fun _ _ _ h => px0 h) ?_
    rintro _ _ ⟨rfl, rfl⟩
    refine V_st (st' := [.float (mfO b.toInt32)]) rfl ?_
    refine V_fstore C dX20_order_16 (Nat.le_of_ble_eq_true rfl) [(0, .int k), (1, .long a), (3, .long b), (5, .float (mfO a.toInt32)), (6, .float (mfO b.toInt32))] [1, 2, 3, 4, 0] rfl ?_
    refine V_fload C dX20_order_18 3 rfl ?_
    refine V_fload C dX20_order_20 4 rfl ?_
    refine V_pc (pc1 := 22) rfl ?_
    refine V_fcmp C dX20_order_22 ?_
    refine V_if_ge (tgt := 30) C dX20_order_23 (by decide) (fun c_23 => ?_) (fun c_23 => ?_)
    · refine V_fload C dX20_order_30 3 rfl ?_
      refine V_fload C dX20_order_32 4 rfl ?_
      refine V_fcmp C dX20_order_34 ?_
      refine V_if_le (tgt := 42) C dX20_order_35 (by decide) (fun c_35 => ?_) (fun c_35 => ?_)
      · refine V_iconst (v := 0) C dX20_order_42 rfl ?_
        refine V_iret C dX20_order_43 rfl ?_ (by first | exact Nat.le_of_ble_eq_true rfl | omega | (dsimp only; omega)) (by first | exact Nat.le_of_ble_eq_true rfl | omega | (dsimp only; omega))
        refine ⟨congrArg (fun z => some (Value.int z)) ?_, rfl⟩
        (try simp only [cv_gtZ, cv_ltZ, cv_gt', cv_lt', cv_eq, dN_cmp, fN_cmp, dEnd_gt, dEnd_lt, Classical.not_not, bI_0, bI_n, lg_cmp_lt, lg_cmp_gt, lg_cmp_ge, lg_cmp_le, lg_cmp_eq] at c_3 c_23 c_35)
        unfold mf_order mf_oF mf_oD
        clear C
        grind
      · refine V_iconst (v := 1) C dX20_order_38 rfl ?_
        refine V_goto (tgt := 43) C dX20_order_39 (by decide) ?_
        refine V_iret C dX20_order_43 rfl ?_ (by first | exact Nat.le_of_ble_eq_true rfl | omega | (dsimp only; omega)) (by first | exact Nat.le_of_ble_eq_true rfl | omega | (dsimp only; omega))
        refine ⟨congrArg (fun z => some (Value.int z)) ?_, rfl⟩
        (try simp only [cv_gtZ, cv_ltZ, cv_gt', cv_lt', cv_eq, dN_cmp, fN_cmp, dEnd_gt, dEnd_lt, Classical.not_not, bI_0, bI_n, lg_cmp_lt, lg_cmp_gt, lg_cmp_ge, lg_cmp_le, lg_cmp_eq] at c_3 c_23 c_35)
        unfold mf_order mf_oF mf_oD
        clear C
        grind
    · refine V_iconst (v := -1) C dX20_order_26 rfl ?_
      refine V_goto (tgt := 43) C dX20_order_27 (by decide) ?_
      refine V_iret C dX20_order_43 rfl ?_ (by first | exact Nat.le_of_ble_eq_true rfl | omega | (dsimp only; omega)) (by first | exact Nat.le_of_ble_eq_true rfl | omega | (dsimp only; omega))
      refine ⟨congrArg (fun z => some (Value.int z)) ?_, rfl⟩
      (try simp only [cv_gtZ, cv_ltZ, cv_gt', cv_lt', cv_eq, dN_cmp, fN_cmp, dEnd_gt, dEnd_lt, Classical.not_not, bI_0, bI_n, lg_cmp_lt, lg_cmp_gt, lg_cmp_ge, lg_cmp_le, lg_cmp_eq] at c_3 c_23)
      unfold mf_order mf_oF mf_oD
      clear C
      grind
theorem row_ix {σ : MS} (hI : MI σ) {a : Int32} (h : ¬ a < 0 ∧ a < σ.1 1) : a.toNatClampNeg < 60 ∧ a = nI a.toNatClampNeg := by
  obtain ⟨k, hk, rfl⟩ := hI.row h
  have := hI.R.2
  rw [nI_clamp (by omega)]
  exact ⟨by omega, rfl⟩
set_option maxHeartbeats 1000000 in
theorem c_X20_priceOf (l : Launch) (hl : l.stackTraces = false) (G : hp_G) (X : Nat → Nat) (N0 : Nat) (mo : Nat) (ad : Nat → Nat) (σ : MS) (M : hp_h) (hM : MH G mo ad σ M) (x0 a b n : Int32) (hI : MI σ) (hr : mf_hasRows σ x0 a b) : HM l yX20_priceOf (ws_ yX20_priceOf cX20_priceOf 10 (some .int)) 1 20 0 0 G X N0 [.ref mo, .int x0, .int a, .int b, .int n] M (PV (.int (mf_priceOf σ x0 a b n)) M) PX0 := by
  refine HM.of hl [(0, .ref mo), (1, .int x0), (2, .int a), (3, .int b), (4, .int n)] (by decide +kernel) rfl (Nat.le_of_ble_eq_true rfl) ?_
  intro p e s m args below meth c C hname
  have hF : MFr mo ad M M := MFr.rf
  have jn_23_1 : ∀ (x23 : Int32), x23 = mf_some n → V p l e { frames := 1, cells := 0, slots := 0, locals := 20 } s m args below meth c G N0 10 (QV below G N0 (PV (.int (mf_priceOf σ x0 a b n)) M) PX0 args s (0) (0)) (0) (0) M 23 [(0, .ref mo), (1, .int x0), (2, .int a), (3, .int b), (4, .int n)] [.int x23] := by
    intro x23 hjn_23_1
    refine V_istore C dX20_priceOf_23 (Nat.le_of_ble_eq_true rfl) [(0, .ref mo), (1, .int x0), (2, .int a), (3, .int b), (4, .int n), (5, .int x23)] [1, 2, 3, 4, 5, 0] rfl ?_
    have jn_59_2 : ∀ (x59 : Int32), x59 = mf_base x0 → V p l e { frames := 1, cells := 0, slots := 0, locals := 20 } s m args below meth c G N0 10 (QV below G N0 (PV (.int (mf_priceOf σ x0 a b n)) M) PX0 args s (0) (0)) (0) (0) M 59 [(0, .ref mo), (1, .int x0), (2, .int a), (3, .int b), (4, .int n), (5, .int x23)] [.int x59] := by
      intro x59 hjn_59_2
      refine V_istore C dX20_priceOf_59 (Nat.le_of_ble_eq_true rfl) [(0, .ref mo), (1, .int x0), (2, .int a), (3, .int b), (4, .int n), (5, .int x23), (6, .int x59)] [1, 2, 3, 4, 5, 6, 0] rfl ?_
      refine V_iload_n C dX20_priceOf_61 rfl 1 rfl ?_
      refine V_callS C (c_X20_needsRow l hl G X N0 M x0) cs_X20_201 rfl rfl ⟨Nat.le_of_ble_eq_true rfl, Nat.le_of_ble_eq_true rfl⟩ ⟨(by first | exact Nat.le_of_ble_eq_true rfl | omega | (dsimp only; omega)), (by first | exact Nat.le_of_ble_eq_true rfl | omega | (dsimp only; omega))⟩ (Nat.le_of_ble_eq_true rfl) dX20_priceOf_62 (fun _ _ _ h => px0 h) ?_
      rintro _ _ ⟨rfl, rfl⟩
      refine V_st (st' := [.int (bI (x0 ≠ 10 ∧ x0 ≠ 11))]) rfl ?_
      refine V_if_ne (tgt := 71) C dX20_priceOf_65 (by decide) (fun c_65 => ?_) (fun c_65 => ?_)
      · have hnr : ¬ (x0 = 10 ∨ x0 = 11) := by have := bI_n.mp c_65; grind
        have ha2 : ¬ a < 0 ∧ a < σ.1 1 := by have := hr.1; grind
        have ha3 : a.toNatClampNeg < 60 ∧ a = nI a.toNatClampNeg := row_ix hI ha2
        have jn_166_3 : ∀ (x166 : Int32), x166 = mf_many σ x0 a.toNatClampNeg b.toNatClampNeg n → V p l e { frames := 1, cells := 0, slots := 0, locals := 20 } s m args below meth c G N0 10 (QV below G N0 (PV (.int (mf_priceOf σ x0 a b n)) M) PX0 args s (0) (0)) (0) (0) M 166 [(0, .ref mo), (1, .int x0), (2, .int a), (3, .int b), (4, .int n), (5, .int x23), (6, .int x59), (7, .int x166)] [] := by
          intro x166 hjn_166_3
          refine V_aload_n C dX20_priceOf_166 rfl 0 rfl ?_
          refine M_get C hM (.ref (ad 2)) f_X20_7_9 rfl dX20_priceOf_167 ?_
          refine V_iload_n C dX20_priceOf_170 rfl 2 rfl ?_
          refine M_iald C hM 2 a.toNatClampNeg rfl ha3.2 ha3.1 dX20_priceOf_171 ?_
          refine V_istore C dX20_priceOf_172 (Nat.le_of_ble_eq_true rfl) [(0, .ref mo), (1, .int x0), (2, .int a), (3, .int b), (4, .int n), (5, .int x23), (6, .int x59), (7, .int x166), (8, .int (σ.2.1 2 a.toNatClampNeg))] [1, 2, 3, 4, 5, 6, 7, 8, 0] rfl ?_
          have jn_214_4 : ∀ (x214 : Int32), x214 = mf_wt (σ.2.1 2 a.toNatClampNeg) → V p l e { frames := 1, cells := 0, slots := 0, locals := 20 } s m args below meth c G N0 10 (QV below G N0 (PV (.int (mf_priceOf σ x0 a b n)) M) PX0 args s (0) (0)) (0) (0) M 214 [(0, .ref mo), (1, .int x0), (2, .int a), (3, .int b), (4, .int n), (5, .int x23), (6, .int x59), (7, .int x166), (8, .int (σ.2.1 2 a.toNatClampNeg))] [.int x214] := by
            intro x214 hjn_214_4
            refine V_istore C dX20_priceOf_214 (Nat.le_of_ble_eq_true rfl) [(0, .ref mo), (1, .int x0), (2, .int a), (3, .int b), (4, .int n), (5, .int x23), (6, .int x59), (7, .int x166), (8, .int (σ.2.1 2 a.toNatClampNeg)), (9, .int x214)] [1, 2, 3, 4, 5, 6, 7, 8, 9, 0] rfl ?_
            refine V_pc (pc1 := 216) rfl ?_
            refine V_iload C dX20_priceOf_216 6 rfl ?_
            refine V_iload C dX20_priceOf_218 7 rfl ?_
            refine V_iadd C dX20_priceOf_220 ?_
            refine V_iload C dX20_priceOf_221 9 rfl ?_
            refine V_imul C dX20_priceOf_223 ?_
            refine V_iret C dX20_priceOf_224 rfl ?_ (by first | exact Nat.le_of_ble_eq_true rfl | omega | (dsimp only; omega)) (by first | exact Nat.le_of_ble_eq_true rfl | omega | (dsimp only; omega))
            refine ⟨congrArg (fun z => some (Value.int z)) ?_, rfl⟩
            unfold mf_priceOf
            rw [if_neg hnr]; subst_vars; rfl
          refine V_iload C dX20_priceOf_174 8 rfl ?_
          refine V_pc (pc1 := 176) rfl ?_
          refine V_iconst (v := 5) C dX20_priceOf_176 rfl ?_
          refine V_icmp_eq (tgt := 187) C dX20_priceOf_177 (by decide) (fun c_177 => ?_) (fun c_177 => ?_)
          · refine V_iconst (v := 2) C dX20_priceOf_187 rfl ?_
            refine V_goto (tgt := 214) C dX20_priceOf_188 (by decide) ?_
            refine V_loc (L' := [(0, .ref mo), (1, .int x0), (2, .int a), (3, .int b), (4, .int n), (5, .int x23), (6, .int x59), (7, .int x166), (8, .int (σ.2.1 2 a.toNatClampNeg))]) [0, 1, 2, 3, 4, 5, 6, 7, 8] rfl ?_
            exact jn_214_4 2 (by unfold mf_wt; grind)
          · refine V_iload C dX20_priceOf_180 8 rfl ?_
            refine V_bipush (v := 7) C dX20_priceOf_182 rfl ?_
            refine V_icmp_ne (tgt := 191) C dX20_priceOf_184 (by decide) (fun c_184 => ?_) (fun c_184 => ?_)
            · refine V_iload C dX20_priceOf_191 8 rfl ?_
              refine V_bipush (v := 10) C dX20_priceOf_193 rfl ?_
              refine V_icmp_ne (tgt := 202) C dX20_priceOf_195 (by decide) (fun c_195 => ?_) (fun c_195 => ?_)
              · refine V_iload C dX20_priceOf_202 8 rfl ?_
                refine V_bipush (v := 8) C dX20_priceOf_204 rfl ?_
                refine V_icmp_lt (tgt := 213) C dX20_priceOf_206 (by decide) (fun c_206 => ?_) (fun c_206 => ?_)
                · refine V_iconst (v := 1) C dX20_priceOf_213 rfl ?_
                  refine V_loc (L' := [(0, .ref mo), (1, .int x0), (2, .int a), (3, .int b), (4, .int n), (5, .int x23), (6, .int x59), (7, .int x166), (8, .int (σ.2.1 2 a.toNatClampNeg))]) [0, 1, 2, 3, 4, 5, 6, 7, 8] rfl ?_
                  exact jn_214_4 1 (by unfold mf_wt; grind)
                · refine V_iconst (v := 3) C dX20_priceOf_209 rfl ?_
                  refine V_pc (pc1 := 210) rfl ?_
                  refine V_goto (tgt := 214) C dX20_priceOf_210 (by decide) ?_
                  refine V_loc (L' := [(0, .ref mo), (1, .int x0), (2, .int a), (3, .int b), (4, .int n), (5, .int x23), (6, .int x59), (7, .int x166), (8, .int (σ.2.1 2 a.toNatClampNeg))]) [0, 1, 2, 3, 4, 5, 6, 7, 8] rfl ?_
                  exact jn_214_4 3 (by unfold mf_wt; grind)
              · refine V_iconst (v := 4) C dX20_priceOf_198 rfl ?_
                refine V_goto (tgt := 214) C dX20_priceOf_199 (by decide) ?_
                refine V_loc (L' := [(0, .ref mo), (1, .int x0), (2, .int a), (3, .int b), (4, .int n), (5, .int x23), (6, .int x59), (7, .int x166), (8, .int (σ.2.1 2 a.toNatClampNeg))]) [0, 1, 2, 3, 4, 5, 6, 7, 8] rfl ?_
                exact jn_214_4 4 (by unfold mf_wt; grind)
            · refine V_iconst (v := 2) C dX20_priceOf_187 rfl ?_
              refine V_goto (tgt := 214) C dX20_priceOf_188 (by decide) ?_
              refine V_loc (L' := [(0, .ref mo), (1, .int x0), (2, .int a), (3, .int b), (4, .int n), (5, .int x23), (6, .int x59), (7, .int x166), (8, .int (σ.2.1 2 a.toNatClampNeg))]) [0, 1, 2, 3, 4, 5, 6, 7, 8] rfl ?_
              exact jn_214_4 2 (by unfold mf_wt; grind)
        refine V_iload C dX20_priceOf_71 5 rfl ?_
        refine V_istore C dX20_priceOf_73 (Nat.le_of_ble_eq_true rfl) [(0, .ref mo), (1, .int x0), (2, .int a), (3, .int b), (4, .int n), (5, .int x23), (6, .int x59), (7, .int x23)] [1, 2, 3, 4, 5, 6, 7, 0] rfl ?_
        refine V_iload_n C dX20_priceOf_75 rfl 1 rfl ?_
        refine V_bipush (v := 8) C dX20_priceOf_76 rfl ?_
        refine V_icmp_ne (tgt := 91) C dX20_priceOf_78 (by decide) (fun c_78 => ?_) (fun c_78 => ?_)
        · refine V_iload_n C dX20_priceOf_91 rfl 1 rfl ?_
          refine V_pc (pc1 := 92) rfl ?_
          refine V_iconst (v := 1) C dX20_priceOf_92 rfl ?_
          refine V_icmp_eq (tgt := 113) C dX20_priceOf_93 (by decide) (fun c_93 => ?_) (fun c_93 => ?_)
          · refine V_aload_n C dX20_priceOf_113 rfl 0 rfl ?_
            refine M_get C hM (.ref (ad 3)) f_X20_13_9 rfl dX20_priceOf_114 ?_
            refine V_iload_n C dX20_priceOf_117 rfl 2 rfl ?_
            refine M_iald C hM 3 a.toNatClampNeg rfl ha3.2 ha3.1 dX20_priceOf_118 ?_
            refine V_istore C dX20_priceOf_119 (Nat.le_of_ble_eq_true rfl) [(0, .ref mo), (1, .int x0), (2, .int a), (3, .int b), (4, .int n), (5, .int x23), (6, .int x59), (7, .int (σ.2.1 3 a.toNatClampNeg))] [1, 2, 3, 4, 5, 6, 7, 0] rfl ?_
            refine V_goto (tgt := 166) C dX20_priceOf_121 (by decide) ?_
            refine V_loc (L' := [(0, .ref mo), (1, .int x0), (2, .int a), (3, .int b), (4, .int n), (5, .int x23), (6, .int x59), (7, .int (σ.2.1 3 a.toNatClampNeg))]) [0, 1, 2, 3, 4, 5, 6, 7] rfl ?_
            exact jn_166_3 (σ.2.1 3 a.toNatClampNeg) (by unfold mf_many; grind)
          · refine V_iload_n C dX20_priceOf_96 rfl 1 rfl ?_
            refine V_iconst (v := 5) C dX20_priceOf_97 rfl ?_
            refine V_icmp_eq (tgt := 113) C dX20_priceOf_98 (by decide) (fun c_98 => ?_) (fun c_98 => ?_)
            · refine V_aload_n C dX20_priceOf_113 rfl 0 rfl ?_
              refine M_get C hM (.ref (ad 3)) f_X20_13_9 rfl dX20_priceOf_114 ?_
              refine V_iload_n C dX20_priceOf_117 rfl 2 rfl ?_
              refine M_iald C hM 3 a.toNatClampNeg rfl ha3.2 ha3.1 dX20_priceOf_118 ?_
              refine V_istore C dX20_priceOf_119 (Nat.le_of_ble_eq_true rfl) [(0, .ref mo), (1, .int x0), (2, .int a), (3, .int b), (4, .int n), (5, .int x23), (6, .int x59), (7, .int (σ.2.1 3 a.toNatClampNeg))] [1, 2, 3, 4, 5, 6, 7, 0] rfl ?_
              refine V_goto (tgt := 166) C dX20_priceOf_121 (by decide) ?_
              refine V_loc (L' := [(0, .ref mo), (1, .int x0), (2, .int a), (3, .int b), (4, .int n), (5, .int x23), (6, .int x59), (7, .int (σ.2.1 3 a.toNatClampNeg))]) [0, 1, 2, 3, 4, 5, 6, 7] rfl ?_
              exact jn_166_3 (σ.2.1 3 a.toNatClampNeg) (by unfold mf_many; grind)
            · refine V_iload_n C dX20_priceOf_101 rfl 1 rfl ?_
              refine V_bipush (v := 6) C dX20_priceOf_102 rfl ?_
              refine V_icmp_eq (tgt := 113) C dX20_priceOf_104 (by decide) (fun c_104 => ?_) (fun c_104 => ?_)
              · refine V_aload_n C dX20_priceOf_113 rfl 0 rfl ?_
                refine M_get C hM (.ref (ad 3)) f_X20_13_9 rfl dX20_priceOf_114 ?_
                refine V_iload_n C dX20_priceOf_117 rfl 2 rfl ?_
                refine M_iald C hM 3 a.toNatClampNeg rfl ha3.2 ha3.1 dX20_priceOf_118 ?_
                refine V_pc (pc1 := 119) rfl ?_
                refine V_istore C dX20_priceOf_119 (Nat.le_of_ble_eq_true rfl) [(0, .ref mo), (1, .int x0), (2, .int a), (3, .int b), (4, .int n), (5, .int x23), (6, .int x59), (7, .int (σ.2.1 3 a.toNatClampNeg))] [1, 2, 3, 4, 5, 6, 7, 0] rfl ?_
                refine V_goto (tgt := 166) C dX20_priceOf_121 (by decide) ?_
                refine V_loc (L' := [(0, .ref mo), (1, .int x0), (2, .int a), (3, .int b), (4, .int n), (5, .int x23), (6, .int x59), (7, .int (σ.2.1 3 a.toNatClampNeg))]) [0, 1, 2, 3, 4, 5, 6, 7] rfl ?_
                exact jn_166_3 (σ.2.1 3 a.toNatClampNeg) (by unfold mf_many; grind)
              · refine V_iload_n C dX20_priceOf_107 rfl 1 rfl ?_
                refine V_bipush (v := 12) C dX20_priceOf_108 rfl ?_
                refine V_icmp_ne (tgt := 124) C dX20_priceOf_110 (by decide) (fun c_110 => ?_) (fun c_110 => ?_)
                · refine V_iload_n C dX20_priceOf_124 rfl 1 rfl ?_
                  refine V_pc (pc1 := 125) rfl ?_
                  refine V_iconst (v := 3) C dX20_priceOf_125 rfl ?_
                  refine V_icmp_eq (tgt := 134) C dX20_priceOf_126 (by decide) (fun c_126 => ?_) (fun c_126 => ?_)
                  · have hb2 : ¬ b < 0 ∧ b < σ.1 1 := by have := hr.2; grind
                    have hb3 : b.toNatClampNeg < 60 ∧ b = nI b.toNatClampNeg := row_ix hI hb2
                    refine V_aload_n C dX20_priceOf_134 rfl 0 rfl ?_
                    refine M_get C hM (.ref (ad 3)) f_X20_13_9 rfl dX20_priceOf_135 ?_
                    refine V_iload_n C dX20_priceOf_138 rfl 2 rfl ?_
                    refine M_iald C hM 3 a.toNatClampNeg rfl ha3.2 ha3.1 dX20_priceOf_139 ?_
                    refine V_aload_n C dX20_priceOf_140 rfl 0 rfl ?_
                    refine M_get C hM (.ref (ad 3)) f_X20_13_9 rfl dX20_priceOf_141 ?_
                    refine V_iload_n C dX20_priceOf_144 rfl 3 rfl ?_
                    refine M_iald C hM 3 b.toNatClampNeg rfl hb3.2 hb3.1 dX20_priceOf_145 ?_
                    refine V_icmp_ge (tgt := 158) C dX20_priceOf_146 (by decide) (fun c_146 => ?_) (fun c_146 => ?_)
                    · refine V_aload_n C dX20_priceOf_158 rfl 0 rfl ?_
                      refine V_pc (pc1 := 159) rfl ?_
                      refine M_get C hM (.ref (ad 3)) f_X20_13_9 rfl dX20_priceOf_159 ?_
                      refine V_iload_n C dX20_priceOf_162 rfl 3 rfl ?_
                      refine M_iald C hM 3 b.toNatClampNeg rfl hb3.2 hb3.1 dX20_priceOf_163 ?_
                      refine V_istore C dX20_priceOf_164 (Nat.le_of_ble_eq_true rfl) [(0, .ref mo), (1, .int x0), (2, .int a), (3, .int b), (4, .int n), (5, .int x23), (6, .int x59), (7, .int (σ.2.1 3 b.toNatClampNeg))] [1, 2, 3, 4, 5, 6, 7, 0] rfl ?_
                      refine V_loc (L' := [(0, .ref mo), (1, .int x0), (2, .int a), (3, .int b), (4, .int n), (5, .int x23), (6, .int x59), (7, .int (σ.2.1 3 b.toNatClampNeg))]) [0, 1, 2, 3, 4, 5, 6, 7] rfl ?_
                      exact jn_166_3 (σ.2.1 3 b.toNatClampNeg) (by unfold mf_many; grind)
                    · refine V_aload_n C dX20_priceOf_149 rfl 0 rfl ?_
                      refine V_pc (pc1 := 150) rfl ?_
                      refine M_get C hM (.ref (ad 3)) f_X20_13_9 rfl dX20_priceOf_150 ?_
                      refine V_iload_n C dX20_priceOf_153 rfl 2 rfl ?_
                      refine M_iald C hM 3 a.toNatClampNeg rfl ha3.2 ha3.1 dX20_priceOf_154 ?_
                      refine V_goto (tgt := 164) C dX20_priceOf_155 (by decide) ?_
                      refine V_istore C dX20_priceOf_164 (Nat.le_of_ble_eq_true rfl) [(0, .ref mo), (1, .int x0), (2, .int a), (3, .int b), (4, .int n), (5, .int x23), (6, .int x59), (7, .int (σ.2.1 3 a.toNatClampNeg))] [1, 2, 3, 4, 5, 6, 7, 0] rfl ?_
                      refine V_loc (L' := [(0, .ref mo), (1, .int x0), (2, .int a), (3, .int b), (4, .int n), (5, .int x23), (6, .int x59), (7, .int (σ.2.1 3 a.toNatClampNeg))]) [0, 1, 2, 3, 4, 5, 6, 7] rfl ?_
                      exact jn_166_3 (σ.2.1 3 a.toNatClampNeg) (by unfold mf_many; grind)
                  · refine V_iload_n C dX20_priceOf_129 rfl 1 rfl ?_
                    refine V_iconst (v := 4) C dX20_priceOf_130 rfl ?_
                    refine V_icmp_ne (tgt := 166) C dX20_priceOf_131 (by decide) (fun c_131 => ?_) (fun c_131 => ?_)
                    · refine V_loc (L' := [(0, .ref mo), (1, .int x0), (2, .int a), (3, .int b), (4, .int n), (5, .int x23), (6, .int x59), (7, .int x23)]) [0, 1, 2, 3, 4, 5, 6, 7] rfl ?_
                      exact jn_166_3 x23 (by unfold mf_many; grind)
                    · have hb2 : ¬ b < 0 ∧ b < σ.1 1 := by have := hr.2; grind
                      have hb3 : b.toNatClampNeg < 60 ∧ b = nI b.toNatClampNeg := row_ix hI hb2
                      refine V_aload_n C dX20_priceOf_134 rfl 0 rfl ?_
                      refine M_get C hM (.ref (ad 3)) f_X20_13_9 rfl dX20_priceOf_135 ?_
                      refine V_iload_n C dX20_priceOf_138 rfl 2 rfl ?_
                      refine M_iald C hM 3 a.toNatClampNeg rfl ha3.2 ha3.1 dX20_priceOf_139 ?_
                      refine V_aload_n C dX20_priceOf_140 rfl 0 rfl ?_
                      refine M_get C hM (.ref (ad 3)) f_X20_13_9 rfl dX20_priceOf_141 ?_
                      refine V_iload_n C dX20_priceOf_144 rfl 3 rfl ?_
                      refine V_pc (pc1 := 145) rfl ?_
                      refine M_iald C hM 3 b.toNatClampNeg rfl hb3.2 hb3.1 dX20_priceOf_145 ?_
                      refine V_icmp_ge (tgt := 158) C dX20_priceOf_146 (by decide) (fun c_146_2 => ?_) (fun c_146_2 => ?_)
                      · refine V_aload_n C dX20_priceOf_158 rfl 0 rfl ?_
                        refine M_get C hM (.ref (ad 3)) f_X20_13_9 rfl dX20_priceOf_159 ?_
                        refine V_iload_n C dX20_priceOf_162 rfl 3 rfl ?_
                        refine M_iald C hM 3 b.toNatClampNeg rfl hb3.2 hb3.1 dX20_priceOf_163 ?_
                        refine V_istore C dX20_priceOf_164 (Nat.le_of_ble_eq_true rfl) [(0, .ref mo), (1, .int x0), (2, .int a), (3, .int b), (4, .int n), (5, .int x23), (6, .int x59), (7, .int (σ.2.1 3 b.toNatClampNeg))] [1, 2, 3, 4, 5, 6, 7, 0] rfl ?_
                        refine V_loc (L' := [(0, .ref mo), (1, .int x0), (2, .int a), (3, .int b), (4, .int n), (5, .int x23), (6, .int x59), (7, .int (σ.2.1 3 b.toNatClampNeg))]) [0, 1, 2, 3, 4, 5, 6, 7] rfl ?_
                        exact jn_166_3 (σ.2.1 3 b.toNatClampNeg) (by unfold mf_many; grind)
                      · refine V_aload_n C dX20_priceOf_149 rfl 0 rfl ?_
                        refine M_get C hM (.ref (ad 3)) f_X20_13_9 rfl dX20_priceOf_150 ?_
                        refine V_iload_n C dX20_priceOf_153 rfl 2 rfl ?_
                        refine M_iald C hM 3 a.toNatClampNeg rfl ha3.2 ha3.1 dX20_priceOf_154 ?_
                        refine V_goto (tgt := 164) C dX20_priceOf_155 (by decide) ?_
                        refine V_istore C dX20_priceOf_164 (Nat.le_of_ble_eq_true rfl) [(0, .ref mo), (1, .int x0), (2, .int a), (3, .int b), (4, .int n), (5, .int x23), (6, .int x59), (7, .int (σ.2.1 3 a.toNatClampNeg))] [1, 2, 3, 4, 5, 6, 7, 0] rfl ?_
                        refine V_loc (L' := [(0, .ref mo), (1, .int x0), (2, .int a), (3, .int b), (4, .int n), (5, .int x23), (6, .int x59), (7, .int (σ.2.1 3 a.toNatClampNeg))]) [0, 1, 2, 3, 4, 5, 6, 7] rfl ?_
                        exact jn_166_3 (σ.2.1 3 a.toNatClampNeg) (by unfold mf_many; grind)
                · refine V_aload_n C dX20_priceOf_113 rfl 0 rfl ?_
                  refine V_pc (pc1 := 114) rfl ?_
                  refine M_get C hM (.ref (ad 3)) f_X20_13_9 rfl dX20_priceOf_114 ?_
                  refine V_iload_n C dX20_priceOf_117 rfl 2 rfl ?_
                  refine M_iald C hM 3 a.toNatClampNeg rfl ha3.2 ha3.1 dX20_priceOf_118 ?_
                  refine V_istore C dX20_priceOf_119 (Nat.le_of_ble_eq_true rfl) [(0, .ref mo), (1, .int x0), (2, .int a), (3, .int b), (4, .int n), (5, .int x23), (6, .int x59), (7, .int (σ.2.1 3 a.toNatClampNeg))] [1, 2, 3, 4, 5, 6, 7, 0] rfl ?_
                  refine V_goto (tgt := 166) C dX20_priceOf_121 (by decide) ?_
                  refine V_loc (L' := [(0, .ref mo), (1, .int x0), (2, .int a), (3, .int b), (4, .int n), (5, .int x23), (6, .int x59), (7, .int (σ.2.1 3 a.toNatClampNeg))]) [0, 1, 2, 3, 4, 5, 6, 7] rfl ?_
                  exact jn_166_3 (σ.2.1 3 a.toNatClampNeg) (by unfold mf_many; grind)
        · refine V_iload C dX20_priceOf_81 5 rfl ?_
          refine V_pc (pc1 := 83) rfl ?_
          refine V_iload C dX20_priceOf_83 5 rfl ?_
          refine V_imul C dX20_priceOf_85 ?_
          refine V_istore C dX20_priceOf_86 (Nat.le_of_ble_eq_true rfl) [(0, .ref mo), (1, .int x0), (2, .int a), (3, .int b), (4, .int n), (5, .int x23), (6, .int x59), (7, .int (x23 * x23))] [1, 2, 3, 4, 5, 6, 7, 0] rfl ?_
          refine V_goto (tgt := 166) C dX20_priceOf_88 (by decide) ?_
          refine V_loc (L' := [(0, .ref mo), (1, .int x0), (2, .int a), (3, .int b), (4, .int n), (5, .int x23), (6, .int x59), (7, .int (x23 * x23))]) [0, 1, 2, 3, 4, 5, 6, 7] rfl ?_
          exact jn_166_3 (x23 * x23) (by unfold mf_many; grind)
      · refine V_iload C dX20_priceOf_68 6 rfl ?_
        refine V_iret C dX20_priceOf_70 rfl ?_ (by first | exact Nat.le_of_ble_eq_true rfl | omega | (dsimp only; omega)) (by first | exact Nat.le_of_ble_eq_true rfl | omega | (dsimp only; omega))
        refine ⟨congrArg (fun z => some (Value.int z)) ?_, rfl⟩
        unfold mf_priceOf
        rw [if_pos (by have := bI_0.mp c_65; grind)]; assumption
    refine V_iload_n C dX20_priceOf_25 rfl 1 rfl ?_
    refine V_if_eq (tgt := 35) C dX20_priceOf_26 (by decide) (fun c_26 => ?_) (fun c_26 => ?_)
    · refine V_iconst (v := 2) C dX20_priceOf_35 rfl ?_
      refine V_goto (tgt := 59) C dX20_priceOf_36 (by decide) ?_
      refine V_loc (L' := [(0, .ref mo), (1, .int x0), (2, .int a), (3, .int b), (4, .int n), (5, .int x23)]) [0, 1, 2, 3, 4, 5] rfl ?_
      exact jn_59_2 2 (by unfold mf_base; grind)
    · refine V_iload_n C dX20_priceOf_29 rfl 1 rfl ?_
      refine V_bipush (v := 8) C dX20_priceOf_30 rfl ?_
      refine V_icmp_ne (tgt := 39) C dX20_priceOf_32 (by decide) (fun c_32 => ?_) (fun c_32 => ?_)
      · refine V_iload_n C dX20_priceOf_39 rfl 1 rfl ?_
        refine V_iconst (v := 1) C dX20_priceOf_40 rfl ?_
        refine V_icmp_ne (tgt := 48) C dX20_priceOf_41 (by decide) (fun c_41 => ?_) (fun c_41 => ?_)
        · refine V_iload_n C dX20_priceOf_48 rfl 1 rfl ?_
          refine V_bipush (v := 10) C dX20_priceOf_49 rfl ?_
          refine V_pc (pc1 := 51) rfl ?_
          refine V_icmp_ne (tgt := 58) C dX20_priceOf_51 (by decide) (fun c_51 => ?_) (fun c_51 => ?_)
          · refine V_iconst (v := 1) C dX20_priceOf_58 rfl ?_
            refine V_loc (L' := [(0, .ref mo), (1, .int x0), (2, .int a), (3, .int b), (4, .int n), (5, .int x23)]) [0, 1, 2, 3, 4, 5] rfl ?_
            exact jn_59_2 1 (by unfold mf_base; grind)
          · refine V_iconst (v := 5) C dX20_priceOf_54 rfl ?_
            refine V_goto (tgt := 59) C dX20_priceOf_55 (by decide) ?_
            refine V_loc (L' := [(0, .ref mo), (1, .int x0), (2, .int a), (3, .int b), (4, .int n), (5, .int x23)]) [0, 1, 2, 3, 4, 5] rfl ?_
            exact jn_59_2 5 (by unfold mf_base; grind)
        · refine V_iconst (v := 3) C dX20_priceOf_44 rfl ?_
          refine V_goto (tgt := 59) C dX20_priceOf_45 (by decide) ?_
          refine V_loc (L' := [(0, .ref mo), (1, .int x0), (2, .int a), (3, .int b), (4, .int n), (5, .int x23)]) [0, 1, 2, 3, 4, 5] rfl ?_
          exact jn_59_2 3 (by unfold mf_base; grind)
      · refine V_iconst (v := 2) C dX20_priceOf_35 rfl ?_
        refine V_goto (tgt := 59) C dX20_priceOf_36 (by decide) ?_
        refine V_loc (L' := [(0, .ref mo), (1, .int x0), (2, .int a), (3, .int b), (4, .int n), (5, .int x23)]) [0, 1, 2, 3, 4, 5] rfl ?_
        exact jn_59_2 2 (by unfold mf_base; grind)
  refine V_iload C dX20_priceOf_0 4 rfl ?_
  refine V_if_ge (tgt := 9) C dX20_priceOf_2 (by decide) (fun c_2 => ?_) (fun c_2 => ?_)
  · refine V_iload C dX20_priceOf_9 4 rfl ?_
    refine V_bipush (v := 40) C dX20_priceOf_11 rfl ?_
    refine V_icmp_le (tgt := 21) C dX20_priceOf_13 (by decide) (fun c_13 => ?_) (fun c_13 => ?_)
    · refine V_iload C dX20_priceOf_21 4 rfl ?_
      refine V_loc (L' := [(0, .ref mo), (1, .int x0), (2, .int a), (3, .int b), (4, .int n)]) [0, 1, 2, 3, 4] rfl ?_
      exact jn_23_1 n (by unfold mf_some; grind)
    · refine V_bipush (v := 40) C dX20_priceOf_16 rfl ?_
      refine V_goto (tgt := 23) C dX20_priceOf_18 (by decide) ?_
      refine V_loc (L' := [(0, .ref mo), (1, .int x0), (2, .int a), (3, .int b), (4, .int n)]) [0, 1, 2, 3, 4] rfl ?_
      exact jn_23_1 40 (by unfold mf_some; grind)
  · refine V_iconst (v := 0) C dX20_priceOf_5 rfl ?_
    refine V_goto (tgt := 23) C dX20_priceOf_6 (by decide) ?_
    refine V_loc (L' := [(0, .ref mo), (1, .int x0), (2, .int a), (3, .int b), (4, .int n)]) [0, 1, 2, 3, 4] rfl ?_
    exact jn_23_1 0 (by unfold mf_some; grind)
set_option maxHeartbeats 1000000 in
theorem c_X20_price (l : Launch) (hl : l.stackTraces = false) (G : hp_G) (X : Nat → Nat) (N0 : Nat) (mo : Nat) (ad : Nat → Nat) (σ : MS) (M : hp_h) (hM : MH G mo ad σ M) (x0 a b n : Int32) (hI : MI σ) : HM l yX20_price (ws_ yX20_price cX20_price 5 (some .long)) 2 49 0 0 G X N0 [.ref mo, .int x0, .int a, .int b, .int n] M (PV (.long (mf_price σ x0 a b n)) M) PX0 := by
  refine HM.of hl [(0, .ref mo), (1, .int x0), (2, .int a), (3, .int b), (4, .int n)] (by decide +kernel) rfl (Nat.le_of_ble_eq_true rfl) ?_
  intro p e s m args below meth c C hname
  have hF : MFr mo ad M M := MFr.rf
  refine V_iload_n C dX20_price_0 rfl 1 rfl ?_
  refine V_i2l (v := x0.toInt64) C dX20_price_1 rfl ?_
  refine V_lconst (v := 0) C dX20_price_2 rfl ?_
  refine V_ldc2 (v := 12) C (C.w q1687) dX20_price_3 ?_
  refine V_callS C (c_X20_in l hl G X N0 M x0.toInt64 0 12) cs_X20_123 rfl rfl ⟨Nat.le_of_ble_eq_true rfl, Nat.le_of_ble_eq_true rfl⟩ ⟨(by first | exact Nat.le_of_ble_eq_true rfl | omega | (dsimp only; omega)), (by first | exact Nat.le_of_ble_eq_true rfl | omega | (dsimp only; omega))⟩ (Nat.le_of_ble_eq_true rfl) dX20_price_6 (fun _ _ _ h => px0 h) ?_
  rintro _ _ ⟨rfl, rfl⟩
  refine V_st (st' := [.int (bI (0 ≤ x0.toInt64 ∧ x0.toInt64 ≤ 12))]) rfl ?_
  refine V_if_eq (tgt := 22) C dX20_price_9 (by decide) (fun c_9 => ?_) (fun c_9 => ?_)
  · refine V_ldc2 (v := -9223372036854775808) C (C.w q1673) dX20_price_22 ?_
    refine V_lret C dX20_price_25 rfl ?_ (by first | exact Nat.le_of_ble_eq_true rfl | omega | (dsimp only; omega)) (by first | exact Nat.le_of_ble_eq_true rfl | omega | (dsimp only; omega))
    refine ⟨congrArg (fun z => some (Value.long z)) ?_, rfl⟩
    unfold mf_price
    rw [if_neg (fun z => bI_0.mp c_9 z.1)]
  · refine V_aload_n C dX20_price_12 rfl 0 rfl ?_
    refine V_iload_n C dX20_price_13 rfl 1 rfl ?_
    refine V_iload_n C dX20_price_14 rfl 2 rfl ?_
    refine V_iload_n C dX20_price_15 rfl 3 rfl ?_
    refine V_callV C (c_X20_hasRows l hl G X N0 mo ad σ M hM x0 a b ) cs_X20_207_9 hM.1 (show CLS[9]? = some (RX20, TX20, 33) from rfl) rfl rfl ⟨Nat.le_of_ble_eq_true rfl, Nat.le_of_ble_eq_true rfl⟩ ⟨(by first | exact Nat.le_of_ble_eq_true rfl | omega | (dsimp only; omega)), (by first | exact Nat.le_of_ble_eq_true rfl | omega | (dsimp only; omega))⟩ (Nat.le_of_ble_eq_true rfl) dX20_price_16 (fun _ _ _ h => px0 h) ?_
    rintro _ _ ⟨rfl, rfl⟩
    refine V_st (st' := [.int (bI (mf_hasRows σ x0 a b))]) rfl ?_
    refine V_pc (pc1 := 19) rfl ?_
    refine V_if_ne (tgt := 26) C dX20_price_19 (by decide) (fun c_19 => ?_) (fun c_19 => ?_)
    · refine V_aload_n C dX20_price_26 rfl 0 rfl ?_
      refine V_iload_n C dX20_price_27 rfl 1 rfl ?_
      refine V_iload_n C dX20_price_28 rfl 2 rfl ?_
      refine V_iload_n C dX20_price_29 rfl 3 rfl ?_
      refine V_iload C dX20_price_30 4 rfl ?_
      refine V_callV C (c_X20_priceOf l hl G X N0 mo ad σ M hM x0 a b n hI (bI_n.mp c_19) ) cs_X20_211_9 hM.1 (show CLS[9]? = some (RX20, TX20, 33) from rfl) rfl rfl ⟨Nat.le_of_ble_eq_true rfl, Nat.le_of_ble_eq_true rfl⟩ ⟨(by first | exact Nat.le_of_ble_eq_true rfl | omega | (dsimp only; omega)), (by first | exact Nat.le_of_ble_eq_true rfl | omega | (dsimp only; omega))⟩ (Nat.le_of_ble_eq_true rfl) dX20_price_32 (fun _ _ _ h => px0 h) ?_
      rintro _ _ ⟨rfl, rfl⟩
      refine V_st (st' := [.int (mf_priceOf σ x0 a b n)]) rfl ?_
      refine V_i2l (v := (mf_priceOf σ x0 a b n).toInt64) C dX20_price_35 rfl ?_
      refine V_lret C dX20_price_36 rfl ?_ (by first | exact Nat.le_of_ble_eq_true rfl | omega | (dsimp only; omega)) (by first | exact Nat.le_of_ble_eq_true rfl | omega | (dsimp only; omega))
      refine ⟨congrArg (fun z => some (Value.long z)) ?_, rfl⟩
      unfold mf_price
      rw [if_pos ⟨bI_n.mp c_9, bI_n.mp c_19⟩]
    · refine V_ldc2 (v := -9223372036854775808) C (C.w q1673) dX20_price_22 ?_
      refine V_lret C dX20_price_25 rfl ?_ (by first | exact Nat.le_of_ble_eq_true rfl | omega | (dsimp only; omega)) (by first | exact Nat.le_of_ble_eq_true rfl | omega | (dsimp only; omega))
      refine ⟨congrArg (fun z => some (Value.long z)) ?_, rfl⟩
      unfold mf_price
      rw [if_neg (fun z => bI_0.mp c_19 z.2)]
