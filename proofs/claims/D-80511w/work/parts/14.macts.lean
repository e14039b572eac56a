set_option maxRecDepth 100000
theorem bal_t {P : Prop} {R : Nat → Prop} {i : Nat} [Decidable P] [DecidablePred R] (e : ¬ bI (P ∧ ∀ q, q < i → R q) = 0) (h : R i) : (1 : Int32) = bI (P ∧ ∀ q, q < i + 1 → R q) := by
  obtain ⟨h1, h2⟩ := bI_n.mp e
  refine bI_t ⟨h1, fun q hq => ?_⟩
  rcases Nat.lt_or_ge q i with z | z
  · exact h2 q z
  · rw [show q = i by omega]; exact h
theorem bal_f {P : Prop} {R : Nat → Prop} {i : Nat} [Decidable P] [DecidablePred R] (h : ¬ R i) : (0 : Int32) = bI (P ∧ ∀ q, q < i + 1 → R q) := bI_f fun z => h (z.2 i (by omega))
theorem bI_cg {P Q : Prop} [Decidable P] [Decidable Q] (h : P ↔ Q) : bI P = bI Q := by
  unfold bI
  by_cases hp : P
  · rw [if_pos hp, if_pos (h.mp hp)]
  · rw [if_neg hp, if_neg (fun z => hp (h.mpr z))]
theorem lN_nneg {x : Nat} (h : x < 2 ^ 31) : ¬ lN x < 0 := fun z => absurd ((lN_lt h (by omega) (b := 0)).mp z) (Nat.not_lt_zero _)
theorem eq_10 {σ : MS} {x y : Nat} (hx : x < 2 ^ 31) (hy : y < 2 ^ 31) : mf_eq σ 10 (lN x) (lN y) ↔ mf_eqI σ x y := by
  unfold mf_eq
  rw [lN_i, lN_i, nI_clamp hx, nI_clamp hy]
  constructor
  · rintro (⟨h, -⟩ | ⟨h, -⟩ | ⟨-, -, h | h | h, -⟩ | ⟨-, -, -, h⟩)
    · exact absurd h (by decide)
    · exact absurd h (by decide)
    · exact absurd rfl h
    · exact absurd h (lN_nneg hx)
    · exact absurd h (lN_nneg hy)
    · exact h
  · exact fun h => Or.inr (Or.inr (Or.inr ⟨rfl, lN_nneg hx, lN_nneg hy, h⟩))
theorem mfill_in {α : Type} {g : Nat → α} {b n : Nat} {w : Nat → α} {k : Nat} (h : k < n) : mfill g b n w (b + k) = w k := by
  unfold mfill
  rw [if_pos (by omega)]
  congr 1
  omega
theorem mfill_in0 {α : Type} {g : Nat → α} {n : Nat} {w : Nat → α} {k : Nat} (h : k < n) : mfill g 0 n w k = w k := by
  have := mfill_in (g := g) (b := 0) (w := w) h
  rwa [Nat.zero_add] at this
theorem mfill_out {α : Type} {g : Nat → α} {b n : Nat} {w : Nat → α} {k : Nat} (h : k < b ∨ b + n ≤ k) : mfill g b n w k = g k := by
  unfold mfill
  rw [if_neg (by omega)]
/-- the places i .. i + n - 1 of row a are there -/
theorem places_n {σ : MS} {a : Nat} {i n : Int32} (hl : σ.2.1 3 a = nI (ln σ a) ∧ ln σ a ≤ 40) (h : mf_places σ a i n) : ∃ I N : Nat, i = nI I ∧ n = nI N ∧ I + N ≤ ln σ a := by
  obtain ⟨h1, h2, h3⟩ := h
  obtain ⟨I, hI, rfl⟩ := nI_of h1
  obtain ⟨N, hN, rfl⟩ := nI_of h2
  refine ⟨I, N, rfl, rfl, ?_⟩
  rw [hl.1, nI_l hI, nI_l hN, nI_l (by omega), Int64.le_iff_toInt_le, Int64.toInt_add, lN_toInt hI, lN_toInt hN, lN_toInt (by omega)] at h3
  rw [Int.bmod_eq_of_le (by omega) (by omega)] at h3
  omega
/-- the least k < N with bad k; N, if there is none -/
def mf_pre (bad : Nat → Bool) : Nat → Nat
  | 0 => 0
  | N + 1 => if mf_pre bad N < N then mf_pre bad N else if bad N then N else N + 1
theorem mf_pre_eq {bad : Nat → Bool} : ∀ {N k : Nat}, k ≤ N → (∀ q, q < k → bad q = false) → (k < N → bad k = true) → mf_pre bad N = k
  | 0, k, h1, h2, h3 => by unfold mf_pre; omega
  | N + 1, k, h1, h2, h3 => by
    unfold mf_pre
    by_cases e : k < N
    · rw [mf_pre_eq (by omega) h2 (fun _ => h3 (by omega)), if_pos e]
    · rw [mf_pre_eq (N := N) (k := N) (Nat.le_refl _) (fun q hq => h2 q (by omega)) (fun z => absurd z (Nat.lt_irrefl _)), if_neg (Nat.lt_irrefl _)]
      by_cases e2 : k = N
      · subst e2
        rw [h3 (by omega), if_pos rfl]
      · have e3 : k = N + 1 := by omega
        subst e3
        rw [h2 N (by omega)]
        rfl
def mf_hold (σ : MS) (a I N : Nat) : MS := sl σ 19 (mfill (σ.2.2.1 19) 0 N (fun p => el σ a (I + p)))
abbrev mf_bad (σ : MS) (b : Nat) (x : Int64) : Bool := decide (σ.2.1 2 b = 9 ∧ ¬ mf_isCard σ x)
abbrev mf_two (k l : Int32) : Prop := (k = 8 ∨ k = 9) ∧ (l = 8 ∨ l = 9)
def mf_copyA (σ : MS) (a I b J N : Nat) : Int32 × MS := (if mf_pre (fun p => mf_bad σ b (el σ a (I + p))) N < N then 3 else 0, sl (mf_hold σ a I N) 4 (mfill (σ.2.2.1 4) (40 * b + J) (mf_pre (fun p => mf_bad σ b (el σ a (I + p))) N) (fun p => el σ a (I + p))))
def mf_copy (σ : MS) (a : Nat) (i : Int32) (b : Nat) (j n : Int32) : Int32 × MS :=
  if ¬ σ.2.1 2 a = σ.2.1 2 b ∧ ¬ mf_two (σ.2.1 2 a) (σ.2.1 2 b) then (3, σ) else if ¬ (mf_places σ a i n ∧ mf_places σ b j n) then (2, σ) else mf_copyA σ a i.toNatClampNeg b j.toNatClampNeg n.toNatClampNeg
def mf_copyRow (σ : MS) (a : Nat) : Int32 × MS :=
  if nR σ = 60 then (5, σ) else (0, sa (sl (mf_newRow (nR σ) (ln σ a) (σ.2.1 2 a) σ) 4 (mfill (σ.2.2.1 4) (40 * nR σ) (ln σ a) (fun p => el σ a p))) (lN (nR σ)))
def mf_fillV (σ : MS) (k : Int32) (j n : Int32) : Int64 × MS := if 0 < n then mf_asE k j.toInt64 σ else (0, σ)
def mf_fillA (σ : MS) (a I : Nat) (j : Int32) (N : Nat) : MS := sl (mf_fillV σ (σ.2.1 2 a) j (nI N)).2 4 (mfill (σ.2.2.1 4) (40 * a + I) N (fun _ => (mf_fillV σ (σ.2.1 2 a) j (nI N)).1))
def mf_fill (σ : MS) (a : Nat) (i j n : Int32) : Int32 × MS :=
  if ¬ mf_goes σ (σ.2.1 2 a) j.toInt64 then (4, σ) else if ¬ mf_places σ a i n then (2, σ) else if σ.2.1 2 a = 9 ∧ 0 < n ∧ ¬ mf_isCard σ j.toInt64 then (3, σ) else (0, mf_fillA σ a i.toNatClampNeg j n.toNatClampNeg)
def mf_turnA (σ : MS) (a I N : Nat) : MS := sl (mf_hold σ a I N) 4 (mfill (σ.2.2.1 4) (40 * a + I) N (fun p => el σ a (I + (N - 1 - p))))
def mf_turn (σ : MS) (a : Nat) (i n : Int32) : Int32 × MS := if ¬ mf_places σ a i n then (2, σ) else (0, mf_turnA σ a i.toNatClampNeg n.toNatClampNeg)
theorem nI_sub {a b : Nat} (h : b ≤ a) : nI a - nI b = nI (a - b) := by
  have e : nI a = nI (a - b) + nI b := by rw [nI_add]; congr 1; omega
  rw [e]; exact Int32.add_sub_cancel _ _
theorem mfill_mfill {α : Type} {g : Nat → α} {b n : Nat} {w w' : Nat → α} : mfill (mfill g b n w) b n w' = mfill g b n w' := by
  funext j
  unfold mfill
  split <;> rfl
theorem kind_of {σ : MS} {a : Nat} (h : σ.2.1 2 a = nI (kd σ a) ∧ kd σ a ≤ 10) {k : Nat} (hk : k < 2 ^ 31) : σ.2.1 2 a = nI k ↔ kd σ a = k := by
  rw [h.1]; exact nI_eq (by omega) hk
theorem isCard_el {σ : MS} (hI : MI σ) {a i : Nat} (ha : a < nR σ) (hi : i < ln σ a) (h : σ.2.1 2 a = 8 ∨ σ.2.1 2 a = 9) : el σ a i = -1 ∨ ∃ n : Nat, n < 30 ∧ el σ a i = lN n := by
  rcases hI.eu ha hi (h.imp (kind_of (hI.k ha) (by decide)).mp (kind_of (hI.k ha) (by decide)).mp) with z | ⟨u, hu, z⟩
  · exact Or.inl z
  · exact Or.inr ⟨u, by have := hI.U.2; omega, z⟩
theorem copy_ok {σ : MS} {a b I J N : Nat} (hok : ¬ (¬ σ.2.1 2 a = σ.2.1 2 b ∧ ¬ mf_two (σ.2.1 2 a) (σ.2.1 2 b))) (h1 : mf_places σ a (nI I) (nI N)) (h2 : mf_places σ b (nI J) (nI N)) (hI : I < 41) (hJ : J < 41) (hN : N < 41) : mf_copy σ a (nI I) b (nI J) (nI N) = mf_copyA σ a I b J N := by
  unfold mf_copy
  rw [if_neg hok, if_neg (fun z => z ⟨h1, h2⟩), nI_clamp (by omega), nI_clamp (by omega), nI_clamp (by omega)]
theorem copyA_at {σ : MS} {a b I J N k : Nat} (h1 : k ≤ N) (h2 : ∀ q, q < k → mf_bad σ b (el σ a (I + q)) = false) (h3 : k < N → mf_bad σ b (el σ a (I + k)) = true) : mf_copyA σ a I b J N = (if k < N then 3 else 0, sl (mf_hold σ a I N) 4 (mfill (σ.2.2.1 4) (40 * b + J) k (fun p => el σ a (I + p)))) := by
  unfold mf_copyA
  rw [mf_pre_eq h1 h2 h3]
theorem newRow_e {σ : MS} {R N : Nat} {k : Int32} : (mf_newRow R N k σ).2.2.1 4 = mfill (σ.2.2.1 4) (40 * R) N (fun _ => if k < 8 then 0 else -1) := by
  simp [mf_newRow, sz, sl, va_up]
theorem newRow_l {σ : MS} {R N a : Nat} {k : Int32} (h : a ≠ R) : (mf_newRow R N k σ).2.1 3 a = σ.2.1 3 a := by
  simp [mf_newRow, sz, sl, si, va_up, h]
theorem asE_e (k : Int32) (b : Int64) (σ : MS) : (mf_asE k b σ).2.2.2.1 4 = σ.2.2.1 4 := by
  unfold mf_asE
  repeat' split
  all_goals rfl
set_option maxHeartbeats 1000000 in
theorem c_X20_areEqual (l : Launch) (hl : l.stackTraces = false) (G : hp_G) (X : Nat → Nat) (N0 : Nat) (mo : Nat) (ad : Nat → Nat) (σ : MS) (M : hp_h) (hM : MH G mo ad σ M) (k : Int32) (a b : Int64) (hI : MI σ) (hab : k = 10 → (a = -1 ∨ ∃ j, j < nJ σ ∧ a = lN j) ∧ (b = -1 ∨ ∃ j, j < nJ σ ∧ b = lN j)) : HM l yX20_areEqual (ws_ yX20_areEqual cX20_areEqual 10 (some .boolean)) 3 64 0 0 G X N0 [.ref mo, .int k, .long a, .long b] M (PV (.int (bI (mf_eq σ k a b))) M) PX0 := by
  refine HM.of hl [(0, .ref mo), (1, .int k), (2, .long a), (4, .long b)] (by decide +kernel) rfl (Nat.le_of_ble_eq_true rfl) ?_
  intro p e s m args below meth c C hname
  have hF : MFr mo ad M M := MFr.rf
  refine V_iload_n C dX20_areEqual_0 rfl 1 rfl ?_
  refine V_bipush (v := 6) C dX20_areEqual_1 rfl ?_
  refine V_icmp_ne (tgt := 25) C dX20_areEqual_3 (by decide) (fun c_3 => ?_) (fun c_3 => ?_)
  · refine V_iload_n C dX20_areEqual_25 rfl 1 rfl ?_
    refine V_bipush (v := 7) C dX20_areEqual_26 rfl ?_
    refine V_icmp_ne (tgt := 50) C dX20_areEqual_28 (by decide) (fun c_28 => ?_) (fun c_28 => ?_)
    · refine V_iload_n C dX20_areEqual_50 rfl 1 rfl ?_
      refine V_bipush (v := 10) C dX20_areEqual_51 rfl ?_
      refine V_icmp_ne (tgt := 69) C dX20_areEqual_53 (by decide) (fun c_53 => ?_) (fun c_53 => ?_)
      · refine V_lload_n C dX20_areEqual_69 rfl 2 rfl ?_
        refine V_lload C dX20_areEqual_70 3 rfl ?_
        refine V_pc (pc1 := 72) rfl ?_
        refine V_lcmp C dX20_areEqual_72 ?_
        refine V_if_ne (tgt := 80) C dX20_areEqual_73 (by decide) (fun c_73 => ?_) (fun c_73 => ?_)
        · refine V_iconst (v := 0) C dX20_areEqual_80 rfl ?_
          refine V_zret C rfl dX20_areEqual_81 rfl ?_ (by first | exact Nat.le_of_ble_eq_true rfl | omega | (dsimp only; omega)) (by first | exact Nat.le_of_ble_eq_true rfl | omega | (dsimp only; omega))
          refine ⟨congrArg (fun z => some (Value.int z)) (bI_f ?_), rfl⟩
          (try simp only [cv_gtZ, cv_ltZ, cv_gt', cv_lt', cv_eq, dN_cmp, fN_cmp, dEnd_gt, dEnd_lt, Classical.not_not, bI_0, bI_n, lg_cmp_lt, lg_cmp_gt, lg_cmp_ge, lg_cmp_le, lg_cmp_eq] at c_3 c_28 c_53 c_73)
          unfold mf_eq
          clear C hM hI
          grind
        · refine V_iconst (v := 1) C dX20_areEqual_76 rfl ?_
          refine V_goto (tgt := 81) C dX20_areEqual_77 (by decide) ?_
          refine V_zret C rfl dX20_areEqual_81 rfl ?_ (by first | exact Nat.le_of_ble_eq_true rfl | omega | (dsimp only; omega)) (by first | exact Nat.le_of_ble_eq_true rfl | omega | (dsimp only; omega))
          refine ⟨congrArg (fun z => some (Value.int z)) (bI_t ?_), rfl⟩
          (try simp only [cv_gtZ, cv_ltZ, cv_gt', cv_lt', cv_eq, dN_cmp, fN_cmp, dEnd_gt, dEnd_lt, Classical.not_not, bI_0, bI_n, lg_cmp_lt, lg_cmp_gt, lg_cmp_ge, lg_cmp_le, lg_cmp_eq] at c_3 c_28 c_53 c_73)
          unfold mf_eq
          clear C hM hI
          grind
      · refine V_lload_n C dX20_areEqual_56 rfl 2 rfl ?_
        refine V_lconst (v := 0) C dX20_areEqual_57 rfl ?_
        refine V_pc (pc1 := 58) rfl ?_
        refine V_lcmp C dX20_areEqual_58 ?_
        refine V_if_lt (tgt := 69) C dX20_areEqual_59 (by decide) (fun c_59 => ?_) (fun c_59 => ?_)
        · refine V_lload_n C dX20_areEqual_69 rfl 2 rfl ?_
          refine V_lload C dX20_areEqual_70 3 rfl ?_
          refine V_lcmp C dX20_areEqual_72 ?_
          refine V_if_ne (tgt := 80) C dX20_areEqual_73 (by decide) (fun c_73_2 => ?_) (fun c_73_2 => ?_)
          · refine V_iconst (v := 0) C dX20_areEqual_80 rfl ?_
            refine V_zret C rfl dX20_areEqual_81 rfl ?_ (by first | exact Nat.le_of_ble_eq_true rfl | omega | (dsimp only; omega)) (by first | exact Nat.le_of_ble_eq_true rfl | omega | (dsimp only; omega))
            refine ⟨congrArg (fun z => some (Value.int z)) (bI_f ?_), rfl⟩
            (try simp only [cv_gtZ, cv_ltZ, cv_gt', cv_lt', cv_eq, dN_cmp, fN_cmp, dEnd_gt, dEnd_lt, Classical.not_not, bI_0, bI_n, lg_cmp_lt, lg_cmp_gt, lg_cmp_ge, lg_cmp_le, lg_cmp_eq] at c_3 c_28 c_53 c_59 c_73_2)
            unfold mf_eq
            clear C hM hI
            grind
          · refine V_iconst (v := 1) C dX20_areEqual_76 rfl ?_
            refine V_goto (tgt := 81) C dX20_areEqual_77 (by decide) ?_
            refine V_zret C rfl dX20_areEqual_81 rfl ?_ (by first | exact Nat.le_of_ble_eq_true rfl | omega | (dsimp only; omega)) (by first | exact Nat.le_of_ble_eq_true rfl | omega | (dsimp only; omega))
            refine ⟨congrArg (fun z => some (Value.int z)) (bI_t ?_), rfl⟩
            (try simp only [cv_gtZ, cv_ltZ, cv_gt', cv_lt', cv_eq, dN_cmp, fN_cmp, dEnd_gt, dEnd_lt, Classical.not_not, bI_0, bI_n, lg_cmp_lt, lg_cmp_gt, lg_cmp_ge, lg_cmp_le, lg_cmp_eq] at c_3 c_28 c_53 c_59 c_73_2)
            unfold mf_eq
            clear C hM hI
            grind
        · refine V_lload C dX20_areEqual_62 3 rfl ?_
          refine V_lconst (v := 0) C dX20_areEqual_64 rfl ?_
          refine V_lcmp C dX20_areEqual_65 ?_
          refine V_if_ge (tgt := 82) C dX20_areEqual_66 (by decide) (fun c_66 => ?_) (fun c_66 => ?_)
          · have h10 : k = 10 := by first | exact c_53 | exact Classical.not_not.mp c_53
            obtain ⟨x, hx, ex⟩ : ∃ j, j < nJ σ ∧ a = lN j := by
              simp only [lg_cmp_lt, lg_cmp_gt, lg_cmp_ge, lg_cmp_le, lg_cmp_eq, bI_0, bI_n, Classical.not_not] at c_59
              rcases (hab h10).1 with z | z
              · exact absurd c_59 (by rw [z]; decide)
              · exact z
            obtain ⟨y, hy, ey⟩ : ∃ j, j < nJ σ ∧ b = lN j := by
              simp only [lg_cmp_lt, lg_cmp_gt, lg_cmp_ge, lg_cmp_le, lg_cmp_eq, bI_0, bI_n, Classical.not_not] at c_66
              rcases (hab h10).2 with z | z
              · exact absurd c_66 (by rw [z]; decide)
              · exact z
            have hx8 := hI.il hx
            have hy8 := hI.il hy
            have hJ6 := hI.J
            refine V_lload_n C dX20_areEqual_82 rfl 2 rfl ?_
            refine V_l2i (v := a.toInt32) C dX20_areEqual_83 rfl ?_
            refine V_st (st' := [.int (nI x)]) (by rw [show a.toInt32 = (nI x) from (show a.toInt32 = nI x from by rw [ex]; exact lN_i x)]) ?_
            refine V_istore C dX20_areEqual_84 (Nat.le_of_ble_eq_true rfl) [(0, .ref mo), (1, .int k), (2, .long a), (4, .long b), (6, .int (nI x))] [1, 2, 3, 4, 0] rfl ?_
            refine V_lload C dX20_areEqual_86 3 rfl ?_
            refine V_l2i (v := b.toInt32) C dX20_areEqual_88 rfl ?_
            refine V_st (st' := [.int (nI y)]) (by rw [show b.toInt32 = (nI y) from (show b.toInt32 = nI y from by rw [ey]; exact lN_i y)]) ?_
            refine V_istore C dX20_areEqual_89 (Nat.le_of_ble_eq_true rfl) [(0, .ref mo), (1, .int k), (2, .long a), (4, .long b), (6, .int (nI x)), (7, .int (nI y))] [1, 2, 3, 4, 5, 0] rfl ?_
            have jn_113_1 : ∀ (x113 : Int32), x113 = bI (σ.2.1 9 x = σ.2.1 9 y) → V p l e { frames := 3, cells := 0, slots := 0, locals := 64 } s m args below meth c G N0 10 (QV below G N0 (PV (.int (bI (mf_eq σ k a b))) M) PX0 args s (0) (0)) (0) (0) M 113 [(0, .ref mo), (1, .int k), (2, .long a), (4, .long b), (6, .int (nI x)), (7, .int (nI y))] [.int x113] := by
              intro x113 hjn_113_1
              refine V_pc (pc1 := 113) rfl ?_
              refine V_istore C dX20_areEqual_113 (Nat.le_of_ble_eq_true rfl) [(0, .ref mo), (1, .int k), (2, .long a), (4, .long b), (6, .int (nI x)), (7, .int (nI y)), (8, .int x113)] [1, 2, 3, 4, 5, 6, 0] rfl ?_
              refine V_iconst (v := 0) C dX20_areEqual_115 rfl ?_
              refine V_istore C dX20_areEqual_116 (Nat.le_of_ble_eq_true rfl) [(0, .ref mo), (1, .int k), (2, .long a), (4, .long b), (6, .int (nI x)), (7, .int (nI y)), (8, .int x113), (9, .int 0)] [1, 2, 3, 4, 5, 6, 7, 0] rfl ?_
              have lp_118 : ∀ (fu9 : Nat) (i : Nat) (e8 : Int32), iln σ x - i < fu9 → (i ≤ iln σ x) → (e8 = bI (σ.2.1 9 x = σ.2.1 9 y ∧ ∀ q, q < i → σ.2.1 10 (40 * x + q) = σ.2.1 10 (40 * y + q))) → V p l e { frames := 3, cells := 0, slots := 0, locals := 64 } s m args below meth c G N0 10 (QV below G N0 (PV (.int (bI (mf_eq σ k a b))) M) PX0 args s (0) (0)) (0) (0) M 118 [(0, .ref mo), (1, .int k), (2, .long a), (4, .long b), (6, .int (nI x)), (7, .int (nI y)), (8, .int e8), (9, .int (nI i))] [] := by
                intro fu9
                induction fu9 with
                | zero => intro i e8  hfu9; exact absurd hfu9 (Nat.not_lt_zero _)
                | succ fu9 ih118 =>
                  intro i e8  hfu9 hi he
                  refine V_iload C dX20_areEqual_118 7 rfl ?_
                  refine V_aload_n C dX20_areEqual_120 rfl 0 rfl ?_
                  refine M_get C hM (.ref (ad 9)) f_X20_26_9 rfl dX20_areEqual_121 ?_
                  refine V_iload C dX20_areEqual_124 4 rfl ?_
                  refine M_iald C hM 9 x rfl rfl (show x < 8000 from by first | omega | (have := hI.R.2; omega) | (have := hI.U.2; omega) | (have := hI.J.2; omega)) dX20_areEqual_126 ?_
                  refine V_st (st' := [.int (nI (iln σ x)), .int (nI i)]) (by rw [show (σ.2.1 9 x) = (nI (iln σ x)) from hx8.1]) ?_
                  refine V_icmp_ge (tgt := 177) C dX20_areEqual_127 (by decide) (fun c_127 => ?_) (fun c_127 => ?_)
                  · refine V_iload C dX20_areEqual_177 6 rfl ?_
                    refine V_zret C (by rw [he]; unfold bI; split <;> rfl) dX20_areEqual_179 rfl ?_ (by first | exact Nat.le_of_ble_eq_true rfl | omega | (dsimp only; omega)) (by first | exact Nat.le_of_ble_eq_true rfl | omega | (dsimp only; omega))
                    refine ⟨congrArg (fun z => some (Value.int z)) ?_, rfl⟩
                    have hfin : e8 = bI (mf_eqI σ x y) := by
                      rw [show i = iln σ x by have := (nI_leI (by omega) (by omega)).mp c_127; omega] at he; exact he
                    rw [hfin, ex, ey, h10]
                    exact bI_cg (eq_10 (by omega) (by omega)).symm
                  · have hlt : i < iln σ x := nI_ltN c_127 (by omega) (by omega)
                    refine V_iload C dX20_areEqual_130 6 rfl ?_
                    refine V_if_eq (tgt := 177) C dX20_areEqual_132 (by decide) (fun c_132 => ?_) (fun c_132 => ?_)
                    · refine V_iload C dX20_areEqual_177 6 rfl ?_
                      refine V_pc (pc1 := 179) rfl ?_
                      refine V_zret C (by rw [he]; unfold bI; split <;> rfl) dX20_areEqual_179 rfl ?_ (by first | exact Nat.le_of_ble_eq_true rfl | omega | (dsimp only; omega)) (by first | exact Nat.le_of_ble_eq_true rfl | omega | (dsimp only; omega))
                      refine ⟨congrArg (fun z => some (Value.int z)) ?_, rfl⟩
                      have hfin : e8 = bI (mf_eqI σ x y) := by
                        rw [he]; rw [c_132] at he; rw [← he]; exact bI_f (fun z => bI_0.mp he.symm ⟨z.1, fun q hq => z.2 q (by omega)⟩)
                      rw [hfin, ex, ey, h10]
                      exact bI_cg (eq_10 (by omega) (by omega)).symm
                    · refine V_aload_n C dX20_areEqual_135 rfl 0 rfl ?_
                      refine V_pc (pc1 := 136) rfl ?_
                      refine M_get C hM (.ref (ad 10)) f_X20_30_9 rfl dX20_areEqual_136 ?_
                      refine V_bipush (v := 40) C dX20_areEqual_139 rfl ?_
                      refine V_iload C dX20_areEqual_141 4 rfl ?_
                      refine V_imul C dX20_areEqual_143 ?_
                      refine V_st (st' := [.int (nI (40 * x)), .ref (ad 10)]) (by rw [show (40 * (nI x)) = (nI (40 * x)) from pk_mul 40 x]) ?_
                      refine V_iload C dX20_areEqual_144 7 rfl ?_
                      refine V_iadd C dX20_areEqual_146 ?_
                      refine V_st (st' := [.int (nI ((40 * x) + i)), .ref (ad 10)]) (by rw [show ((nI (40 * x)) + (nI i)) = (nI ((40 * x) + i)) from nI_add (40 * x) i]) ?_
                      refine M_iald C hM 10 (40 * x + i) rfl rfl (show 40 * x + i < 320000 from by have := nI_ltN c_127 (by omega) (by omega); omega) dX20_areEqual_147 ?_
                      refine V_aload_n C dX20_areEqual_148 rfl 0 rfl ?_
                      refine M_get C hM (.ref (ad 10)) f_X20_30_9 rfl dX20_areEqual_149 ?_
                      refine V_bipush (v := 40) C dX20_areEqual_152 rfl ?_
                      refine V_iload C dX20_areEqual_154 5 rfl ?_
                      refine V_imul C dX20_areEqual_156 ?_
                      refine V_st (st' := [.int (nI (40 * y)), .ref (ad 10), .int (σ.2.1 10 (40 * x + i))]) (by rw [show (40 * (nI y)) = (nI (40 * y)) from pk_mul 40 y]) ?_
                      refine V_pc (pc1 := 157) rfl ?_
                      refine V_iload C dX20_areEqual_157 7 rfl ?_
                      refine V_iadd C dX20_areEqual_159 ?_
                      refine V_st (st' := [.int (nI ((40 * y) + i)), .ref (ad 10), .int (σ.2.1 10 (40 * x + i))]) (by rw [show ((nI (40 * y)) + (nI i)) = (nI ((40 * y) + i)) from nI_add (40 * y) i]) ?_
                      refine M_iald C hM 10 (40 * y + i) rfl rfl (show 40 * y + i < 320000 from by have := nI_ltN c_127 (by omega) (by omega); omega) dX20_areEqual_160 ?_
                      refine V_icmp_ne (tgt := 168) C dX20_areEqual_161 (by decide) (fun c_161 => ?_) (fun c_161 => ?_)
                      · refine V_iconst (v := 0) C dX20_areEqual_168 rfl ?_
                        refine V_istore C dX20_areEqual_169 (Nat.le_of_ble_eq_true rfl) [(0, .ref mo), (1, .int k), (2, .long a), (4, .long b), (6, .int (nI x)), (7, .int (nI y)), (8, .int 0), (9, .int (nI i))] [1, 2, 3, 4, 5, 6, 0, 7] rfl ?_
                        refine V_iinc (v := nI (i + 1)) C dX20_areEqual_171 (k := 7) rfl (nI_add i 1) (Nat.le_of_ble_eq_true rfl) [(0, .ref mo), (1, .int k), (2, .long a), (4, .long b), (6, .int (nI x)), (7, .int (nI y)), (8, .int 0), (9, .int (nI (i + 1)))] [1, 2, 3, 4, 5, 6, 7, 0] rfl ?_
                        refine V_goto (tgt := 118) C dX20_areEqual_174 (by decide) ?_
                        exact ih118 (i + 1) 0  (by omega) (by omega) (by subst he; first | exact bal_t c_132 (by first | exact c_161 | exact Classical.not_not.mp c_161) | exact bal_f c_161)
                      · refine V_iconst (v := 1) C dX20_areEqual_164 rfl ?_
                        refine V_goto (tgt := 169) C dX20_areEqual_165 (by decide) ?_
                        refine V_istore C dX20_areEqual_169 (Nat.le_of_ble_eq_true rfl) [(0, .ref mo), (1, .int k), (2, .long a), (4, .long b), (6, .int (nI x)), (7, .int (nI y)), (8, .int 1), (9, .int (nI i))] [1, 2, 3, 4, 5, 6, 0, 7] rfl ?_
                        refine V_iinc (v := nI (i + 1)) C dX20_areEqual_171 (k := 7) rfl (nI_add i 1) (Nat.le_of_ble_eq_true rfl) [(0, .ref mo), (1, .int k), (2, .long a), (4, .long b), (6, .int (nI x)), (7, .int (nI y)), (8, .int 1), (9, .int (nI (i + 1)))] [1, 2, 3, 4, 5, 6, 7, 0] rfl ?_
                        refine V_goto (tgt := 118) C dX20_areEqual_174 (by decide) ?_
                        exact ih118 (i + 1) 1  (by omega) (by omega) (by subst he; first | exact bal_t c_132 (by first | exact c_161 | exact Classical.not_not.mp c_161) | exact bal_f c_161)
              refine V_loc (L' := [(0, .ref mo), (1, .int k), (2, .long a), (4, .long b), (6, .int (nI x)), (7, .int (nI y)), (8, .int x113), (9, .int 0)]) [0, 1, 2, 3, 4, 5, 6, 7] rfl ?_
              exact lp_118 _ 0 x113  (Nat.lt_succ_self _) (Nat.zero_le _) (by rw [hjn_113_1]; exact bI_cg ⟨fun h => ⟨h, fun q hq => absurd hq (Nat.not_lt_zero q)⟩, fun h => h.1⟩)
            refine V_pc (pc1 := 91) rfl ?_
            refine V_aload_n C dX20_areEqual_91 rfl 0 rfl ?_
            refine M_get C hM (.ref (ad 9)) f_X20_26_9 rfl dX20_areEqual_92 ?_
            refine V_iload C dX20_areEqual_95 4 rfl ?_
            refine M_iald C hM 9 x rfl rfl (show x < 8000 from by first | omega | (have := hI.R.2; omega) | (have := hI.U.2; omega) | (have := hI.J.2; omega)) dX20_areEqual_97 ?_
            refine V_aload_n C dX20_areEqual_98 rfl 0 rfl ?_
            refine M_get C hM (.ref (ad 9)) f_X20_26_9 rfl dX20_areEqual_99 ?_
            refine V_iload C dX20_areEqual_102 5 rfl ?_
            refine M_iald C hM 9 y rfl rfl (show y < 8000 from by first | omega | (have := hI.R.2; omega) | (have := hI.U.2; omega) | (have := hI.J.2; omega)) dX20_areEqual_104 ?_
            refine V_icmp_ne (tgt := 112) C dX20_areEqual_105 (by decide) (fun c_105 => ?_) (fun c_105 => ?_)
            · refine V_iconst (v := 0) C dX20_areEqual_112 rfl ?_
              refine V_loc (L' := [(0, .ref mo), (1, .int k), (2, .long a), (4, .long b), (6, .int (nI x)), (7, .int (nI y))]) [0, 1, 2, 3, 4, 5] rfl ?_
              exact jn_113_1 0 (by first | exact bI_t c_105 | exact bI_f c_105)
            · refine V_iconst (v := 1) C dX20_areEqual_108 rfl ?_
              refine V_goto (tgt := 113) C dX20_areEqual_109 (by decide) ?_
              refine V_loc (L' := [(0, .ref mo), (1, .int k), (2, .long a), (4, .long b), (6, .int (nI x)), (7, .int (nI y))]) [0, 1, 2, 3, 4, 5] rfl ?_
              exact jn_113_1 1 (by first | exact bI_t c_105 | exact bI_f c_105)
          · refine V_lload_n C dX20_areEqual_69 rfl 2 rfl ?_
            refine V_lload C dX20_areEqual_70 3 rfl ?_
            refine V_lcmp C dX20_areEqual_72 ?_
            refine V_if_ne (tgt := 80) C dX20_areEqual_73 (by decide) (fun c_73_3 => ?_) (fun c_73_3 => ?_)
            · refine V_iconst (v := 0) C dX20_areEqual_80 rfl ?_
              refine V_zret C rfl dX20_areEqual_81 rfl ?_ (by first | exact Nat.le_of_ble_eq_true rfl | omega | (dsimp only; omega)) (by first | exact Nat.le_of_ble_eq_true rfl | omega | (dsimp only; omega))
              refine ⟨congrArg (fun z => some (Value.int z)) (bI_f ?_), rfl⟩
              (try simp only [cv_gtZ, cv_ltZ, cv_gt', cv_lt', cv_eq, dN_cmp, fN_cmp, dEnd_gt, dEnd_lt, Classical.not_not, bI_0, bI_n, lg_cmp_lt, lg_cmp_gt, lg_cmp_ge, lg_cmp_le, lg_cmp_eq] at c_3 c_28 c_53 c_59 c_66 c_73_3)
              unfold mf_eq
              clear C hM hI
              grind
            · refine V_iconst (v := 1) C dX20_areEqual_76 rfl ?_
              refine V_goto (tgt := 81) C dX20_areEqual_77 (by decide) ?_
              refine V_pc (pc1 := 81) rfl ?_
              refine V_zret C rfl dX20_areEqual_81 rfl ?_ (by first | exact Nat.le_of_ble_eq_true rfl | omega | (dsimp only; omega)) (by first | exact Nat.le_of_ble_eq_true rfl | omega | (dsimp only; omega))
              refine ⟨congrArg (fun z => some (Value.int z)) (bI_t ?_), rfl⟩
              (try simp only [cv_gtZ, cv_ltZ, cv_gt', cv_lt', cv_eq, dN_cmp, fN_cmp, dEnd_gt, dEnd_lt, Classical.not_not, bI_0, bI_n, lg_cmp_lt, lg_cmp_gt, lg_cmp_ge, lg_cmp_le, lg_cmp_eq] at c_3 c_28 c_53 c_59 c_66 c_73_3)
              unfold mf_eq
              clear C hM hI
              grind
    · refine V_lload_n C dX20_areEqual_31 rfl 2 rfl ?_
      refine V_callS C (c_X20_realOfBits l hl G X N0 M a) cs_X20_148 rfl rfl ⟨Nat.le_of_ble_eq_true rfl, Nat.le_of_ble_eq_true rfl⟩ ⟨(by first | exact Nat.le_of_ble_eq_true rfl | omega | (dsimp only; omega)), (by first | exact Nat.le_of_ble_eq_true rfl | omega | (dsimp only; omega))⟩ (Nat.le_of_ble_eq_true rfl) dX20_areEqual_32 (fun _ _ _ h => px0 h) ?_
      rintro _ _ ⟨rfl, rfl⟩
      refine V_st (st' := [.double (mdO a)]) rfl ?_
      refine V_lload C dX20_areEqual_35 3 rfl ?_
      refine V_callS C (c_X20_realOfBits l hl G X N0 M b) cs_X20_148 rfl rfl ⟨Nat.le_of_ble_eq_true rfl, Nat.le_of_ble_eq_true rfl⟩ ⟨(by first | exact Nat.le_of_ble_eq_true rfl | omega | (dsimp only; omega)), (by first | exact Nat.le_of_ble_eq_true rfl | omega | (dsimp only; omega))⟩ (Nat.le_of_ble_eq_true rfl) dX20_areEqual_37 (fun _ _ _ h => px0 h) ?_
      rintro _ _ ⟨rfl, rfl⟩
      refine V_st (st' := [.double (mdO b), .double (mdO a)]) rfl ?_
      refine V_dcmp C dX20_areEqual_40 ?_
      refine V_pc (pc1 := 41) rfl ?_
      refine V_if_ne (tgt := 48) C dX20_areEqual_41 (by decide) (fun c_41 => ?_) (fun c_41 => ?_)
      · refine V_iconst (v := 0) C dX20_areEqual_48 rfl ?_
        refine V_zret C rfl dX20_areEqual_49 rfl ?_ (by first | exact Nat.le_of_ble_eq_true rfl | omega | (dsimp only; omega)) (by first | exact Nat.le_of_ble_eq_true rfl | omega | (dsimp only; omega))
        refine ⟨congrArg (fun z => some (Value.int z)) (bI_f ?_), rfl⟩
        (try simp only [cv_gtZ, cv_ltZ, cv_gt', cv_lt', cv_eq, dN_cmp, fN_cmp, dEnd_gt, dEnd_lt, Classical.not_not, bI_0, bI_n, lg_cmp_lt, lg_cmp_gt, lg_cmp_ge, lg_cmp_le, lg_cmp_eq] at c_3 c_28 c_41)
        unfold mf_eq
        clear C hM hI
        grind
      · refine V_iconst (v := 1) C dX20_areEqual_44 rfl ?_
        refine V_goto (tgt := 49) C dX20_areEqual_45 (by decide) ?_
        refine V_zret C rfl dX20_areEqual_49 rfl ?_ (by first | exact Nat.le_of_ble_eq_true rfl | omega | (dsimp only; omega)) (by first | exact Nat.le_of_ble_eq_true rfl | omega | (dsimp only; omega))
        refine ⟨congrArg (fun z => some (Value.int z)) (bI_t ?_), rfl⟩
        (try simp only [cv_gtZ, cv_ltZ, cv_gt', cv_lt', cv_eq, dN_cmp, fN_cmp, dEnd_gt, dEnd_lt, Classical.not_not, bI_0, bI_n, lg_cmp_lt, lg_cmp_gt, lg_cmp_ge, lg_cmp_le, lg_cmp_eq] at c_3 c_28 c_41)
        unfold mf_eq
        clear C hM hI
        grind
  · refine V_lload_n C dX20_areEqual_6 rfl 2 rfl ?_
    refine V_callS C (c_X20_floatOf l hl G X N0 M a) cs_X20_140 rfl rfl ⟨Nat.le_of_ble_eq_true rfl, Nat.le_of_ble_eq_true rfl⟩ ⟨(by first | exact Nat.le_of_ble_eq_true rfl | omega | (dsimp only; omega)), (by first | exact Nat.le_of_ble_eq_true rfl | omega | (dsimp only; omega))⟩ (Nat.le_of_ble_eq_true rfl) dX20_areEqual_7 (fun _ _ _ h => px0 h) ?_
    rintro _ _ ⟨rfl, rfl⟩
    refine V_st (st' := [.float (mfO a.toInt32)]) rfl ?_
    refine V_lload C dX20_areEqual_10 3 rfl ?_
    refine V_callS C (c_X20_floatOf l hl G X N0 M b) cs_X20_140 rfl rfl ⟨Nat.le_of_ble_eq_true rfl, Nat.le_of_ble_eq_true rfl⟩ ⟨(by first | exact Nat.le_of_ble_eq_true rfl | omega | (dsimp only; omega)), (by first | exact Nat.le_of_ble_eq_true rfl | omega | (dsimp only; omega))⟩ (Nat.le_of_ble_eq_true rfl) dX20_areEqual_12 (fun _ _ _ h => px0 h) ?_
    rintro _ _ ⟨rfl, rfl⟩
    refine V_st (st' := [.float (mfO b.toInt32), .float (mfO a.toInt32)]) rfl ?_
    refine V_fcmp C dX20_areEqual_15 ?_
    refine V_if_ne (tgt := 23) C dX20_areEqual_16 (by decide) (fun c_16 => ?_) (fun c_16 => ?_)
    · refine V_iconst (v := 0) C dX20_areEqual_23 rfl ?_
      refine V_zret C rfl dX20_areEqual_24 rfl ?_ (by first | exact Nat.le_of_ble_eq_true rfl | omega | (dsimp only; omega)) (by first | exact Nat.le_of_ble_eq_true rfl | omega | (dsimp only; omega))
      refine ⟨congrArg (fun z => some (Value.int z)) (bI_f ?_), rfl⟩
      (try simp only [cv_gtZ, cv_ltZ, cv_gt', cv_lt', cv_eq, dN_cmp, fN_cmp, dEnd_gt, dEnd_lt, Classical.not_not, bI_0, bI_n, lg_cmp_lt, lg_cmp_gt, lg_cmp_ge, lg_cmp_le, lg_cmp_eq] at c_3 c_16)
      unfold mf_eq
      clear C hM hI
      grind
    · refine V_iconst (v := 1) C dX20_areEqual_19 rfl ?_
      refine V_goto (tgt := 24) C dX20_areEqual_20 (by decide) ?_
      refine V_pc (pc1 := 24) rfl ?_
      refine V_zret C rfl dX20_areEqual_24 rfl ?_ (by first | exact Nat.le_of_ble_eq_true rfl | omega | (dsimp only; omega)) (by first | exact Nat.le_of_ble_eq_true rfl | omega | (dsimp only; omega))
      refine ⟨congrArg (fun z => some (Value.int z)) (bI_t ?_), rfl⟩
      (try simp only [cv_gtZ, cv_ltZ, cv_gt', cv_lt', cv_eq, dN_cmp, fN_cmp, dEnd_gt, dEnd_lt, Classical.not_not, bI_0, bI_n, lg_cmp_lt, lg_cmp_gt, lg_cmp_ge, lg_cmp_le, lg_cmp_eq] at c_3 c_16)
      unfold mf_eq
      clear C hM hI
      grind
set_option maxHeartbeats 1000000 in
theorem c_X20_copy (l : Launch) (hl : l.stackTraces = false) (G : hp_G) (X : Nat → Nat) (N0 : Nat) (mo : Nat) (ad : Nat → Nat) (σ : MS) (M : hp_h) (hM : MH G mo ad σ M) (a b : Nat) (i j n : Int32) (hI : MI σ) (ha : a < nR σ) (hb : b < nR σ) : HM l yX20_copy (ws_ yX20_copy cX20_copy 10 (some .int)) 1 23 0 0 G X N0 [.ref mo, .int (nI a), .int i, .int (nI b), .int j, .int n] M (PM G mo ad M (some (.int (mf_copy σ a i b j n).1)) (mf_copy σ a i b j n).2) PX0 := by
  refine HM.of hl [(0, .ref mo), (1, .int (nI a)), (2, .int i), (3, .int (nI b)), (4, .int j), (5, .int n)] (by decide +kernel) rfl (Nat.le_of_ble_eq_true rfl) ?_
  intro p e s m args below meth c C hname
  have hF : MFr mo ad M M := MFr.rf
  have hR6 := hI.R
  have hk_a := hI.k ha
  have hl_a := hI.l ha
  have hk_b := hI.k hb
  have hl_b := hI.l hb
  refine V_aload_n C dX20_copy_0 rfl 0 rfl ?_
  refine M_get C hM (.ref (ad 2)) f_X20_7_9 rfl dX20_copy_1 ?_
  refine V_iload_n C dX20_copy_4 rfl 1 rfl ?_
  refine M_iald C hM 2 a rfl rfl (show a < 60 from by first | omega | (have := hI.R.2; omega) | (have := hI.U.2; omega) | (have := hI.J.2; omega)) dX20_copy_5 ?_
  refine V_istore C dX20_copy_6 (Nat.le_of_ble_eq_true rfl) [(0, .ref mo), (1, .int (nI a)), (2, .int i), (3, .int (nI b)), (4, .int j), (5, .int n), (6, .int (σ.2.1 2 a))] [1, 2, 3, 4, 5, 6, 0] rfl ?_
  refine V_aload_n C dX20_copy_8 rfl 0 rfl ?_
  refine M_get C hM (.ref (ad 2)) f_X20_7_9 rfl dX20_copy_9 ?_
  refine V_iload_n C dX20_copy_12 rfl 3 rfl ?_
  refine M_iald C hM 2 b rfl rfl (show b < 60 from by first | omega | (have := hI.R.2; omega) | (have := hI.U.2; omega) | (have := hI.J.2; omega)) dX20_copy_13 ?_
  refine V_istore C dX20_copy_14 (Nat.le_of_ble_eq_true rfl) [(0, .ref mo), (1, .int (nI a)), (2, .int i), (3, .int (nI b)), (4, .int j), (5, .int n), (6, .int (σ.2.1 2 a)), (7, .int (σ.2.1 2 b))] [1, 2, 3, 4, 5, 6, 7, 0] rfl ?_
  have jn_49_1 : ∀ (x49 : Int32), x49 = bI (mf_two (σ.2.1 2 a) (σ.2.1 2 b)) → V p l e { frames := 1, cells := 0, slots := 0, locals := 23 } s m args below meth c G N0 10 (QV below G N0 (PM G mo ad M (some (.int (mf_copy σ a i b j n).1)) (mf_copy σ a i b j n).2) PX0 args s (0) (0)) (0) (0) M 49 [(0, .ref mo), (1, .int (nI a)), (2, .int i), (3, .int (nI b)), (4, .int j), (5, .int n), (6, .int (σ.2.1 2 a)), (7, .int (σ.2.1 2 b))] [.int x49] := by
    intro x49 hjn_49_1
    refine V_istore C dX20_copy_49 (Nat.le_of_ble_eq_true rfl) [(0, .ref mo), (1, .int (nI a)), (2, .int i), (3, .int (nI b)), (4, .int j), (5, .int n), (6, .int (σ.2.1 2 a)), (7, .int (σ.2.1 2 b)), (8, .int x49)] [1, 2, 3, 4, 5, 6, 7, 8, 0] rfl ?_
    have jn_65_2 : ∀ (z65 : Nat), ¬ (¬ σ.2.1 2 a = σ.2.1 2 b ∧ ¬ mf_two (σ.2.1 2 a) (σ.2.1 2 b)) → V p l e { frames := 1, cells := 0, slots := 0, locals := 23 } s m args below meth c G N0 10 (QV below G N0 (PM G mo ad M (some (.int (mf_copy σ a i b j n).1)) (mf_copy σ a i b j n).2) PX0 args s (0) (0)) (0) (0) M 65 [(0, .ref mo), (1, .int (nI a)), (2, .int i), (3, .int (nI b)), (4, .int j), (5, .int n), (6, .int (σ.2.1 2 a)), (7, .int (σ.2.1 2 b)), (8, .int x49)] [] := by
      intro z65 hjn_65_2
      refine V_pc (pc1 := 65) rfl ?_
      refine V_aload_n C dX20_copy_65 rfl 0 rfl ?_
      refine V_iload_n C dX20_copy_66 rfl 1 rfl ?_
      refine V_iload_n C dX20_copy_67 rfl 2 rfl ?_
      refine V_iload C dX20_copy_68 5 rfl ?_
      refine V_callV C (c_X20_hasPlaces l hl G X N0 mo ad σ M hM a (by omega) i n ) cs_X20_215_9 hM.1 (show CLS[9]? = some (RX20, TX20, 33) from rfl) rfl rfl ⟨Nat.le_of_ble_eq_true rfl, Nat.le_of_ble_eq_true rfl⟩ ⟨(by first | exact Nat.le_of_ble_eq_true rfl | omega | (dsimp only; omega)), (by first | exact Nat.le_of_ble_eq_true rfl | omega | (dsimp only; omega))⟩ (Nat.le_of_ble_eq_true rfl) dX20_copy_70 (fun _ _ _ h => px0 h) ?_
      rintro _ _ ⟨rfl, rfl⟩
      refine V_st (st' := [.int (bI (mf_places σ a i n))]) rfl ?_
      refine V_if_eq (tgt := 88) C dX20_copy_73 (by decide) (fun c_73 => ?_) (fun c_73 => ?_)
      · refine V_iconst (v := 2) C dX20_copy_88 rfl ?_
        refine V_iret C dX20_copy_89 rfl ?_ (by first | exact Nat.le_of_ble_eq_true rfl | omega | (dsimp only; omega)) (by first | exact Nat.le_of_ble_eq_true rfl | omega | (dsimp only; omega))
        have e9 : mf_copy σ a i b j n = (2, σ) := by
          unfold mf_copy
          rw [if_neg hjn_65_2, if_pos (fun z => bI_0.mp c_73 z.1)]
        rw [e9]; exact ⟨rfl, hM, hF⟩
      · refine V_aload_n C dX20_copy_76 rfl 0 rfl ?_
        refine V_iload_n C dX20_copy_77 rfl 3 rfl ?_
        refine V_iload C dX20_copy_78 4 rfl ?_
        refine V_iload C dX20_copy_80 5 rfl ?_
        refine V_callV C (c_X20_hasPlaces l hl G X N0 mo ad σ M hM b (by omega) j n ) cs_X20_215_9 hM.1 (show CLS[9]? = some (RX20, TX20, 33) from rfl) rfl rfl ⟨Nat.le_of_ble_eq_true rfl, Nat.le_of_ble_eq_true rfl⟩ ⟨(by first | exact Nat.le_of_ble_eq_true rfl | omega | (dsimp only; omega)), (by first | exact Nat.le_of_ble_eq_true rfl | omega | (dsimp only; omega))⟩ (Nat.le_of_ble_eq_true rfl) dX20_copy_82 (fun _ _ _ h => px0 h) ?_
        rintro _ _ ⟨rfl, rfl⟩
        refine V_st (st' := [.int (bI (mf_places σ b j n))]) rfl ?_
        refine V_if_ne (tgt := 90) C dX20_copy_85 (by decide) (fun c_85 => ?_) (fun c_85 => ?_)
        · obtain ⟨I, N, rfl, rfl, hIN⟩ := places_n hl_a (bI_n.mp c_73)
          obtain ⟨J, N2, rfl, e2, hJN2⟩ := places_n hl_b (bI_n.mp c_85)
          have e3 : N = N2 := (nI_eq (by omega) (by omega)).mp e2
          subst e3
          have eok := copy_ok hjn_65_2 (bI_n.mp c_73) (bI_n.mp c_85) (by omega) (by omega) (by omega)
          refine V_pc (pc1 := 90) rfl ?_
          refine V_iconst (v := 0) C dX20_copy_90 rfl ?_
          refine V_istore C dX20_copy_91 (Nat.le_of_ble_eq_true rfl) [(0, .ref mo), (1, .int (nI a)), (2, .int (nI I)), (3, .int (nI b)), (4, .int (nI J)), (5, .int (nI N)), (6, .int (σ.2.1 2 a)), (7, .int (σ.2.1 2 b)), (8, .int x49), (9, .int 0)] [1, 2, 3, 4, 5, 6, 7, 8, 9, 0] rfl ?_
          have lp_93 : ∀ (fu9 : Nat) (p1 : Nat) (M93 : hp_h), N - p1 < fu9 → (p1 ≤ N) → MH G mo ad (sl σ 19 (mfill (σ.2.2.1 19) 0 p1 (fun q => el σ a (I + q)))) M93 → MFr mo ad M M93 → V p l e { frames := 1, cells := 0, slots := 0, locals := 23 } s m args below meth c G N0 10 (QV below G N0 (PM G mo ad M (some (.int (mf_copy σ a (nI I) b (nI J) (nI N)).1)) (mf_copy σ a (nI I) b (nI J) (nI N)).2) PX0 args s (0) (0)) (0) (0) M93 93 [(0, .ref mo), (1, .int (nI a)), (2, .int (nI I)), (3, .int (nI b)), (4, .int (nI J)), (5, .int (nI N)), (6, .int (σ.2.1 2 a)), (7, .int (σ.2.1 2 b)), (8, .int x49), (9, .int (nI p1))] [] := by
            intro fu9
            induction fu9 with
            | zero => intro p1 M93 hfu9; exact absurd hfu9 (Nat.not_lt_zero _)
            | succ fu9 ih93 =>
              intro p1 M93 hfu9 hp1 hM93 hF93
              refine V_iload C dX20_copy_93 9 rfl ?_
              refine V_iload C dX20_copy_95 5 rfl ?_
              refine V_icmp_ge (tgt := 127) C dX20_copy_97 (by decide) (fun c_97 => ?_) (fun c_97 => ?_)
              · refine V_iconst (v := 0) C dX20_copy_127 rfl ?_
                refine V_istore C dX20_copy_128 (Nat.le_of_ble_eq_true rfl) [(0, .ref mo), (1, .int (nI a)), (2, .int (nI I)), (3, .int (nI b)), (4, .int (nI J)), (5, .int (nI N)), (6, .int (σ.2.1 2 a)), (7, .int (σ.2.1 2 b)), (8, .int x49), (9, .int 0)] [1, 2, 3, 4, 5, 6, 7, 8, 9, 0] rfl ?_
                have hpN : p1 = N := by have := (nI_leI (by omega) (by omega)).mp c_97; omega
                have lp_130 : ∀ (fu9 : Nat) (p2 : Nat) (M130 : hp_h), N - p2 < fu9 → (p2 ≤ N) → (∀ q, q < p2 → mf_bad σ b (el σ a (I + q)) = false) → MH G mo ad (sl (mf_hold σ a I N) 4 (mfill (σ.2.2.1 4) (40 * b + J) p2 (fun q => el σ a (I + q)))) M130 → MFr mo ad M M130 → V p l e { frames := 1, cells := 0, slots := 0, locals := 23 } s m args below meth c G N0 10 (QV below G N0 (PM G mo ad M (some (.int (mf_copy σ a (nI I) b (nI J) (nI N)).1)) (mf_copy σ a (nI I) b (nI J) (nI N)).2) PX0 args s (0) (0)) (0) (0) M130 130 [(0, .ref mo), (1, .int (nI a)), (2, .int (nI I)), (3, .int (nI b)), (4, .int (nI J)), (5, .int (nI N)), (6, .int (σ.2.1 2 a)), (7, .int (σ.2.1 2 b)), (8, .int x49), (9, .int (nI p2))] [] := by
                  intro fu9
                  induction fu9 with
                  | zero => intro p2 M130 hfu9; exact absurd hfu9 (Nat.not_lt_zero _)
                  | succ fu9 ih130 =>
                    intro p2 M130 hfu9 hp2 hbad hM130 hF130
                    refine V_iload C dX20_copy_130 9 rfl ?_
                    refine V_iload C dX20_copy_132 5 rfl ?_
                    refine V_icmp_ge (tgt := 188) C dX20_copy_134 (by decide) (fun c_134 => ?_) (fun c_134 => ?_)
                    · refine V_iconst (v := 0) C dX20_copy_188 rfl ?_
                      refine V_iret C dX20_copy_189 rfl ?_ (by first | exact Nat.le_of_ble_eq_true rfl | omega | (dsimp only; omega)) (by first | exact Nat.le_of_ble_eq_true rfl | omega | (dsimp only; omega))
                      have hpE : p2 = N := by have := (nI_leI (by omega) (by omega)).mp c_134; omega
                      have e9 : mf_copy σ a (nI I) b (nI J) (nI N) = (0, (sl (mf_hold σ a I N) 4 (mfill (σ.2.2.1 4) (40 * b + J) p2 (fun q => el σ a (I + q))))) := by
                        rw [eok, copyA_at hp2 hbad (fun z => absurd z (by omega)), if_neg (by omega)]
                      rw [e9]; exact ⟨rfl, hM130, hF130⟩
                    · have hlt : p2 < N := nI_ltN c_134 (by omega) (by omega)
                      refine V_iload C dX20_copy_137 7 rfl ?_
                      refine V_bipush (v := 9) C dX20_copy_139 rfl ?_
                      refine V_pc (pc1 := 141) rfl ?_
                      refine V_icmp_ne (tgt := 160) C dX20_copy_141 (by decide) (fun c_141 => ?_) (fun c_141 => ?_)
                      · refine V_aload_n C dX20_copy_160 rfl 0 rfl ?_
                        refine M_get C hM130 (.ref (ad 4)) f_X20_16_9 rfl dX20_copy_161 ?_
                        refine V_bipush (v := 40) C dX20_copy_164 rfl ?_
                        refine V_iload_n C dX20_copy_166 rfl 3 rfl ?_
                        refine V_imul C dX20_copy_167 ?_
                        refine V_st (st' := [.int (nI (40 * b)), .ref (ad 4)]) (by rw [show (40 * (nI b)) = (nI (40 * b)) from pk_mul 40 b]) ?_
                        refine V_iload C dX20_copy_168 4 rfl ?_
                        refine V_iadd C dX20_copy_170 ?_
                        refine V_st (st' := [.int (nI ((40 * b) + J)), .ref (ad 4)]) (by rw [show ((nI (40 * b)) + (nI J)) = (nI ((40 * b) + J)) from nI_add (40 * b) J]) ?_
                        refine V_iload C dX20_copy_171 9 rfl ?_
                        refine V_iadd C dX20_copy_173 ?_
                        refine V_st (st' := [.int (nI (((40 * b) + J) + p2)), .ref (ad 4)]) (by rw [show ((nI ((40 * b) + J)) + (nI p2)) = (nI (((40 * b) + J) + p2)) from nI_add ((40 * b) + J) p2]) ?_
                        refine V_aload_n C dX20_copy_174 rfl 0 rfl ?_
                        refine M_get C hM130 (.ref (ad 19)) f_X20_39_9 rfl dX20_copy_175 ?_
                        refine V_pc (pc1 := 178) rfl ?_
                        refine V_iload C dX20_copy_178 9 rfl ?_
                        refine M_lald C hM130 19 p2 rfl rfl (show p2 < 40 from by omega) dX20_copy_180 ?_
                        refine V_st (st' := [.long ((mf_hold σ a I N).2.2.1 19 p2), .int (nI (((40 * b) + J) + p2)), .ref (ad 4)]) rfl ?_
                        refine V_st (st' := [.long (el σ a (I + p2)), .int (nI (((40 * b) + J) + p2)), .ref (ad 4)]) (by rw [show ((mf_hold σ a I N).2.2.1 19 p2) = (el σ a (I + p2)) from (by unfold mf_hold; rw [sl_g]; exact mfill_in0 hlt)]) ?_
                        refine M_last C hM130 hF130 4 (40 * b + J + p2) rfl rfl (show 40 * b + J + p2 < 2400 from by omega) dX20_copy_181 (fun M_5 hM_6 hF_7 => ?_)
                        have hM_8 : MH G mo ad (sl (mf_hold σ a I N) 4 (va_up (mfill (σ.2.2.1 4) (40 * b + J) p2 (fun q => el σ a (I + q))) (40 * b + J + p2) (el σ a (I + p2)))) M_5 := MH.cg hM_6 (by rw [sl_sl, sl_g])
                        refine V_iinc (v := nI (p2 + 1)) C dX20_copy_182 (k := 9) rfl (nI_add p2 1) (Nat.le_of_ble_eq_true rfl) [(0, .ref mo), (1, .int (nI a)), (2, .int (nI I)), (3, .int (nI b)), (4, .int (nI J)), (5, .int (nI N)), (6, .int (σ.2.1 2 a)), (7, .int (σ.2.1 2 b)), (8, .int x49), (9, .int (nI (p2 + 1)))] [1, 2, 3, 4, 5, 6, 7, 8, 9, 0] rfl ?_
                        refine V_goto (tgt := 130) C dX20_copy_185 (by decide) ?_
                        exact ih130 (p2 + 1) _ (by omega) (by omega) (fun q hq => by rcases Nat.lt_or_ge q p2 with z | z; (exact hbad q z); rw [show q = p2 by omega]; first | exact decide_eq_false (fun z => c_141 z.1) | exact decide_eq_false (fun z => z.2 (bI_n.mp c_155))) (MH.cg hM_8 (by rw [mfill_s rfl])) hF_7
                      · have hab9 : σ.2.1 2 a = 8 ∨ σ.2.1 2 a = 9 := by
                          rcases Classical.em (σ.2.1 2 a = σ.2.1 2 b) with z | z
                          · exact Or.inr (z.trans c_141)
                          · exact (Classical.not_not.mp (fun y => hjn_65_2 ⟨z, y⟩)).1
                        refine V_aload_n C dX20_copy_144 rfl 0 rfl ?_
                        refine V_aload_n C dX20_copy_145 rfl 0 rfl ?_
                        refine M_get C hM130 (.ref (ad 19)) f_X20_39_9 rfl dX20_copy_146 ?_
                        refine V_iload C dX20_copy_149 9 rfl ?_
                        refine M_lald C hM130 19 p2 rfl rfl (show p2 < 40 from by omega) dX20_copy_151 ?_
                        refine V_st (st' := [.long ((mf_hold σ a I N).2.2.1 19 p2), .ref mo]) rfl ?_
                        refine V_st (st' := [.long (el σ a (I + p2)), .ref mo]) (by rw [show ((mf_hold σ a I N).2.2.1 19 p2) = (el σ a (I + p2)) from (by unfold mf_hold; rw [sl_g]; exact mfill_in0 hlt)]) ?_
                        refine V_callV C (c_X20_isCard l hl G X N0 mo ad (sl (mf_hold σ a I N) 4 (mfill (σ.2.2.1 4) (40 * b + J) p2 (fun q => el σ a (I + q)))) M130 hM130 (el σ a (I + p2)) (isCard_el hI ha (by omega) hab9) ) cs_X20_169_9 hM130.1 (show CLS[9]? = some (RX20, TX20, 33) from rfl) rfl rfl ⟨Nat.le_of_ble_eq_true rfl, Nat.le_of_ble_eq_true rfl⟩ ⟨(by first | exact Nat.le_of_ble_eq_true rfl | omega | (dsimp only; omega)), (by first | exact Nat.le_of_ble_eq_true rfl | omega | (dsimp only; omega))⟩ (Nat.le_of_ble_eq_true rfl) dX20_copy_152 (fun _ _ _ h => px0 h) ?_
                        rintro _ _ ⟨rfl, rfl⟩
                        refine V_st (st' := [.int (bI (mf_isCard σ (el σ a (I + p2))))]) rfl ?_
                        refine V_if_ne (tgt := 160) C dX20_copy_155 (by decide) (fun c_155 => ?_) (fun c_155 => ?_)
                        · refine V_aload_n C dX20_copy_160 rfl 0 rfl ?_
                          refine M_get C hM130 (.ref (ad 4)) f_X20_16_9 rfl dX20_copy_161 ?_
                          refine V_bipush (v := 40) C dX20_copy_164 rfl ?_
                          refine V_iload_n C dX20_copy_166 rfl 3 rfl ?_
                          refine V_pc (pc1 := 167) rfl ?_
                          refine V_imul C dX20_copy_167 ?_
                          refine V_st (st' := [.int (nI (40 * b)), .ref (ad 4)]) (by rw [show (40 * (nI b)) = (nI (40 * b)) from pk_mul 40 b]) ?_
                          refine V_iload C dX20_copy_168 4 rfl ?_
                          refine V_iadd C dX20_copy_170 ?_
                          refine V_st (st' := [.int (nI ((40 * b) + J)), .ref (ad 4)]) (by rw [show ((nI (40 * b)) + (nI J)) = (nI ((40 * b) + J)) from nI_add (40 * b) J]) ?_
                          refine V_iload C dX20_copy_171 9 rfl ?_
                          refine V_iadd C dX20_copy_173 ?_
                          refine V_st (st' := [.int (nI (((40 * b) + J) + p2)), .ref (ad 4)]) (by rw [show ((nI ((40 * b) + J)) + (nI p2)) = (nI (((40 * b) + J) + p2)) from nI_add ((40 * b) + J) p2]) ?_
                          refine V_aload_n C dX20_copy_174 rfl 0 rfl ?_
                          refine M_get C hM130 (.ref (ad 19)) f_X20_39_9 rfl dX20_copy_175 ?_
                          refine V_iload C dX20_copy_178 9 rfl ?_
                          refine M_lald C hM130 19 p2 rfl rfl (show p2 < 40 from by omega) dX20_copy_180 ?_
                          refine V_st (st' := [.long ((mf_hold σ a I N).2.2.1 19 p2), .int (nI (((40 * b) + J) + p2)), .ref (ad 4)]) rfl ?_
                          refine V_st (st' := [.long (el σ a (I + p2)), .int (nI (((40 * b) + J) + p2)), .ref (ad 4)]) (by rw [show ((mf_hold σ a I N).2.2.1 19 p2) = (el σ a (I + p2)) from (by unfold mf_hold; rw [sl_g]; exact mfill_in0 hlt)]) ?_
                          refine M_last C hM130 hF130 4 (40 * b + J + p2) rfl rfl (show 40 * b + J + p2 < 2400 from by omega) dX20_copy_181 (fun M_9 hM_10 hF_11 => ?_)
                          have hM_12 : MH G mo ad (sl (mf_hold σ a I N) 4 (va_up (mfill (σ.2.2.1 4) (40 * b + J) p2 (fun q => el σ a (I + q))) (40 * b + J + p2) (el σ a (I + p2)))) M_9 := MH.cg hM_10 (by rw [sl_sl, sl_g])
                          refine V_iinc (v := nI (p2 + 1)) C dX20_copy_182 (k := 9) rfl (nI_add p2 1) (Nat.le_of_ble_eq_true rfl) [(0, .ref mo), (1, .int (nI a)), (2, .int (nI I)), (3, .int (nI b)), (4, .int (nI J)), (5, .int (nI N)), (6, .int (σ.2.1 2 a)), (7, .int (σ.2.1 2 b)), (8, .int x49), (9, .int (nI (p2 + 1)))] [1, 2, 3, 4, 5, 6, 7, 8, 9, 0] rfl ?_
                          refine V_goto (tgt := 130) C dX20_copy_185 (by decide) ?_
                          exact ih130 (p2 + 1) _ (by omega) (by omega) (fun q hq => by rcases Nat.lt_or_ge q p2 with z | z; (exact hbad q z); rw [show q = p2 by omega]; first | exact decide_eq_false (fun z => c_141 z.1) | exact decide_eq_false (fun z => z.2 (bI_n.mp c_155))) (MH.cg hM_12 (by rw [mfill_s rfl])) hF_11
                        · refine V_iconst (v := 3) C dX20_copy_158 rfl ?_
                          refine V_iret C dX20_copy_159 rfl ?_ (by first | exact Nat.le_of_ble_eq_true rfl | omega | (dsimp only; omega)) (by first | exact Nat.le_of_ble_eq_true rfl | omega | (dsimp only; omega))
                          have e9 : mf_copy σ a (nI I) b (nI J) (nI N) = (3, (sl (mf_hold σ a I N) 4 (mfill (σ.2.2.1 4) (40 * b + J) p2 (fun q => el σ a (I + q))))) := by
                            rw [eok, copyA_at hp2 hbad (fun _ => decide_eq_true ⟨c_141, bI_0.mp c_155⟩), if_pos hlt]
                          rw [e9]; exact ⟨rfl, hM130, hF130⟩
                refine V_loc (L' := [(0, .ref mo), (1, .int (nI a)), (2, .int (nI I)), (3, .int (nI b)), (4, .int (nI J)), (5, .int (nI N)), (6, .int (σ.2.1 2 a)), (7, .int (σ.2.1 2 b)), (8, .int x49), (9, .int 0)]) [0, 1, 2, 3, 4, 5, 6, 7, 8, 9] rfl ?_
                exact lp_130 _ 0 _ (Nat.lt_succ_self _) (Nat.zero_le _) (fun q hq => absurd hq (Nat.not_lt_zero q)) (MH.cg hM93 (by rw [mfill_0, hpN]; exact (sl_id (mf_hold σ a I N) 4).symm)) hF93
              · have hlt : p1 < N := nI_ltN c_97 (by omega) (by omega)
                refine V_aload_n C dX20_copy_100 rfl 0 rfl ?_
                refine M_get C hM93 (.ref (ad 19)) f_X20_39_9 rfl dX20_copy_101 ?_
                refine V_iload C dX20_copy_104 9 rfl ?_
                refine V_aload_n C dX20_copy_106 rfl 0 rfl ?_
                refine M_get C hM93 (.ref (ad 4)) f_X20_16_9 rfl dX20_copy_107 ?_
                refine V_bipush (v := 40) C dX20_copy_110 rfl ?_
                refine V_iload_n C dX20_copy_112 rfl 1 rfl ?_
                refine V_pc (pc1 := 113) rfl ?_
                refine V_imul C dX20_copy_113 ?_
                refine V_st (st' := [.int (nI (40 * a)), .ref (ad 4), .int (nI p1), .ref (ad 19)]) (by rw [show (40 * (nI a)) = (nI (40 * a)) from pk_mul 40 a]) ?_
                refine V_iload_n C dX20_copy_114 rfl 2 rfl ?_
                refine V_iadd C dX20_copy_115 ?_
                refine V_st (st' := [.int (nI ((40 * a) + I)), .ref (ad 4), .int (nI p1), .ref (ad 19)]) (by rw [show ((nI (40 * a)) + (nI I)) = (nI ((40 * a) + I)) from nI_add (40 * a) I]) ?_
                refine V_iload C dX20_copy_116 9 rfl ?_
                refine V_iadd C dX20_copy_118 ?_
                refine V_st (st' := [.int (nI (((40 * a) + I) + p1)), .ref (ad 4), .int (nI p1), .ref (ad 19)]) (by rw [show ((nI ((40 * a) + I)) + (nI p1)) = (nI (((40 * a) + I) + p1)) from nI_add ((40 * a) + I) p1]) ?_
                refine M_lald C hM93 4 (40 * a + (I + p1)) rfl (congrArg nI (by omega)) (show 40 * a + (I + p1) < 2400 from by omega) dX20_copy_119 ?_
                refine V_st (st' := [.long (σ.2.2.1 4 (40 * a + (I + p1))), .int (nI p1), .ref (ad 19)]) rfl ?_
                refine M_last C hM93 hF93 19 (0 + p1) rfl (congrArg nI (by omega)) (show 0 + p1 < 40 from by omega) dX20_copy_120 (fun M_13 hM_14 hF_15 => ?_)
                have hM_16 : MH G mo ad (sl σ 19 (va_up (mfill (σ.2.2.1 19) 0 p1 (fun q => el σ a (I + q))) (0 + p1) (σ.2.2.1 4 (40 * a + (I + p1))))) M_13 := MH.cg hM_14 (by rw [sl_sl, sl_g])
                refine V_iinc (v := nI (p1 + 1)) C dX20_copy_121 (k := 9) rfl (nI_add p1 1) (Nat.le_of_ble_eq_true rfl) [(0, .ref mo), (1, .int (nI a)), (2, .int (nI I)), (3, .int (nI b)), (4, .int (nI J)), (5, .int (nI N)), (6, .int (σ.2.1 2 a)), (7, .int (σ.2.1 2 b)), (8, .int x49), (9, .int (nI (p1 + 1)))] [1, 2, 3, 4, 5, 6, 7, 8, 9, 0] rfl ?_
                refine V_goto (tgt := 93) C dX20_copy_124 (by decide) ?_
                exact ih93 (p1 + 1) _ (by omega) (by omega) (MH.cg hM_16 (by rw [mfill_s rfl])) hF_15
          refine V_loc (L' := [(0, .ref mo), (1, .int (nI a)), (2, .int (nI I)), (3, .int (nI b)), (4, .int (nI J)), (5, .int (nI N)), (6, .int (σ.2.1 2 a)), (7, .int (σ.2.1 2 b)), (8, .int x49), (9, .int 0)]) [0, 1, 2, 3, 4, 5, 6, 7, 8, 9] rfl ?_
          exact lp_93 _ 0 _ (Nat.lt_succ_self _) (Nat.zero_le _) (MH.cg hM (by rw [mfill_0]; exact (sl_id _ _).symm)) hF
        · refine V_pc (pc1 := 88) rfl ?_
          refine V_iconst (v := 2) C dX20_copy_88 rfl ?_
          refine V_iret C dX20_copy_89 rfl ?_ (by first | exact Nat.le_of_ble_eq_true rfl | omega | (dsimp only; omega)) (by first | exact Nat.le_of_ble_eq_true rfl | omega | (dsimp only; omega))
          have e9 : mf_copy σ a i b j n = (2, σ) := by
            unfold mf_copy
            rw [if_neg hjn_65_2, if_pos (fun z => bI_0.mp c_85 z.2)]
          rw [e9]; exact ⟨rfl, hM, hF⟩
    refine V_pc (pc1 := 51) rfl ?_
    refine V_iload C dX20_copy_51 6 rfl ?_
    refine V_iload C dX20_copy_53 7 rfl ?_
    refine V_icmp_eq (tgt := 65) C dX20_copy_55 (by decide) (fun c_55 => ?_) (fun c_55 => ?_)
    · refine V_loc (L' := [(0, .ref mo), (1, .int (nI a)), (2, .int i), (3, .int (nI b)), (4, .int j), (5, .int n), (6, .int (σ.2.1 2 a)), (7, .int (σ.2.1 2 b)), (8, .int x49)]) [0, 1, 2, 3, 4, 5, 6, 7, 8] rfl ?_
      exact jn_65_2 0 (by first | exact (fun z => z.1 c_55) | exact (fun z => z.2 (bI_n.mp (by rw [← hjn_49_1]; exact c_60))))
    · refine V_iload C dX20_copy_58 8 rfl ?_
      refine V_if_ne (tgt := 65) C dX20_copy_60 (by decide) (fun c_60 => ?_) (fun c_60 => ?_)
      · refine V_loc (L' := [(0, .ref mo), (1, .int (nI a)), (2, .int i), (3, .int (nI b)), (4, .int j), (5, .int n), (6, .int (σ.2.1 2 a)), (7, .int (σ.2.1 2 b)), (8, .int x49)]) [0, 1, 2, 3, 4, 5, 6, 7, 8] rfl ?_
        exact jn_65_2 0 (by first | exact (fun z => z.1 c_55) | exact (fun z => z.2 (bI_n.mp (by rw [← hjn_49_1]; exact c_60))))
      · refine V_iconst (v := 3) C dX20_copy_63 rfl ?_
        refine V_iret C dX20_copy_64 rfl ?_ (by first | exact Nat.le_of_ble_eq_true rfl | omega | (dsimp only; omega)) (by first | exact Nat.le_of_ble_eq_true rfl | omega | (dsimp only; omega))
        have e9 : mf_copy σ a i b j n = (3, σ) := by
          unfold mf_copy
          rw [if_pos ⟨c_55, bI_0.mp (by rw [← hjn_49_1]; exact c_60)⟩]
        rw [e9]; exact ⟨rfl, hM, hF⟩
  refine V_iload C dX20_copy_16 6 rfl ?_
  refine V_pc (pc1 := 18) rfl ?_
  refine V_bipush (v := 8) C dX20_copy_18 rfl ?_
  refine V_icmp_eq (tgt := 30) C dX20_copy_20 (by decide) (fun c_20 => ?_) (fun c_20 => ?_)
  · refine V_iload C dX20_copy_30 7 rfl ?_
    refine V_bipush (v := 8) C dX20_copy_32 rfl ?_
    refine V_icmp_eq (tgt := 44) C dX20_copy_34 (by decide) (fun c_34 => ?_) (fun c_34 => ?_)
    · refine V_iconst (v := 1) C dX20_copy_44 rfl ?_
      refine V_goto (tgt := 49) C dX20_copy_45 (by decide) ?_
      refine V_loc (L' := [(0, .ref mo), (1, .int (nI a)), (2, .int i), (3, .int (nI b)), (4, .int j), (5, .int n), (6, .int (σ.2.1 2 a)), (7, .int (σ.2.1 2 b))]) [0, 1, 2, 3, 4, 5, 6, 7] rfl ?_
      exact jn_49_1 1 (by first | exact bI_t (by unfold mf_two; grind) | exact bI_f (by unfold mf_two; grind))
    · refine V_iload C dX20_copy_37 7 rfl ?_
      refine V_bipush (v := 9) C dX20_copy_39 rfl ?_
      refine V_icmp_ne (tgt := 48) C dX20_copy_41 (by decide) (fun c_41 => ?_) (fun c_41 => ?_)
      · refine V_iconst (v := 0) C dX20_copy_48 rfl ?_
        refine V_loc (L' := [(0, .ref mo), (1, .int (nI a)), (2, .int i), (3, .int (nI b)), (4, .int j), (5, .int n), (6, .int (σ.2.1 2 a)), (7, .int (σ.2.1 2 b))]) [0, 1, 2, 3, 4, 5, 6, 7] rfl ?_
        exact jn_49_1 0 (by first | exact bI_t (by unfold mf_two; grind) | exact bI_f (by unfold mf_two; grind))
      · refine V_iconst (v := 1) C dX20_copy_44 rfl ?_
        refine V_goto (tgt := 49) C dX20_copy_45 (by decide) ?_
        refine V_loc (L' := [(0, .ref mo), (1, .int (nI a)), (2, .int i), (3, .int (nI b)), (4, .int j), (5, .int n), (6, .int (σ.2.1 2 a)), (7, .int (σ.2.1 2 b))]) [0, 1, 2, 3, 4, 5, 6, 7] rfl ?_
        exact jn_49_1 1 (by first | exact bI_t (by unfold mf_two; grind) | exact bI_f (by unfold mf_two; grind))
  · refine V_iload C dX20_copy_23 6 rfl ?_
    refine V_bipush (v := 9) C dX20_copy_25 rfl ?_
    refine V_icmp_ne (tgt := 48) C dX20_copy_27 (by decide) (fun c_27 => ?_) (fun c_27 => ?_)
    · refine V_iconst (v := 0) C dX20_copy_48 rfl ?_
      refine V_loc (L' := [(0, .ref mo), (1, .int (nI a)), (2, .int i), (3, .int (nI b)), (4, .int j), (5, .int n), (6, .int (σ.2.1 2 a)), (7, .int (σ.2.1 2 b))]) [0, 1, 2, 3, 4, 5, 6, 7] rfl ?_
      exact jn_49_1 0 (by first | exact bI_t (by unfold mf_two; grind) | exact bI_f (by unfold mf_two; grind))
    · refine V_iload C dX20_copy_30 7 rfl ?_
      refine V_bipush (v := 8) C dX20_copy_32 rfl ?_
      refine V_icmp_eq (tgt := 44) C dX20_copy_34 (by decide) (fun c_34_2 => ?_) (fun c_34_2 => ?_)
      · refine V_iconst (v := 1) C dX20_copy_44 rfl ?_
        refine V_goto (tgt := 49) C dX20_copy_45 (by decide) ?_
        refine V_loc (L' := [(0, .ref mo), (1, .int (nI a)), (2, .int i), (3, .int (nI b)), (4, .int j), (5, .int n), (6, .int (σ.2.1 2 a)), (7, .int (σ.2.1 2 b))]) [0, 1, 2, 3, 4, 5, 6, 7] rfl ?_
        exact jn_49_1 1 (by first | exact bI_t (by unfold mf_two; grind) | exact bI_f (by unfold mf_two; grind))
      · refine V_iload C dX20_copy_37 7 rfl ?_
        refine V_bipush (v := 9) C dX20_copy_39 rfl ?_
        refine V_icmp_ne (tgt := 48) C dX20_copy_41 (by decide) (fun c_41_2 => ?_) (fun c_41_2 => ?_)
        · refine V_iconst (v := 0) C dX20_copy_48 rfl ?_
          refine V_loc (L' := [(0, .ref mo), (1, .int (nI a)), (2, .int i), (3, .int (nI b)), (4, .int j), (5, .int n), (6, .int (σ.2.1 2 a)), (7, .int (σ.2.1 2 b))]) [0, 1, 2, 3, 4, 5, 6, 7] rfl ?_
          exact jn_49_1 0 (by first | exact bI_t (by unfold mf_two; grind) | exact bI_f (by unfold mf_two; grind))
        · refine V_iconst (v := 1) C dX20_copy_44 rfl ?_
          refine V_pc (pc1 := 45) rfl ?_
          refine V_goto (tgt := 49) C dX20_copy_45 (by decide) ?_
          refine V_loc (L' := [(0, .ref mo), (1, .int (nI a)), (2, .int i), (3, .int (nI b)), (4, .int j), (5, .int n), (6, .int (σ.2.1 2 a)), (7, .int (σ.2.1 2 b))]) [0, 1, 2, 3, 4, 5, 6, 7] rfl ?_
          exact jn_49_1 1 (by first | exact bI_t (by unfold mf_two; grind) | exact bI_f (by unfold mf_two; grind))
set_option maxHeartbeats 1000000 in
theorem c_X20_copyRow (l : Launch) (hl : l.stackTraces = false) (G : hp_G) (X : Nat → Nat) (N0 : Nat) (mo : Nat) (ad : Nat → Nat) (σ : MS) (M : hp_h) (hM : MH G mo ad σ M) (a : Nat) (hI : MI σ) (ha : a < nR σ) : HM l yX20_copyRow (ws_ yX20_copyRow cX20_copyRow 4 (some .int)) 1 23 0 0 G X N0 [.ref mo, .int (nI a)] M (PM G mo ad M (some (.int (mf_copyRow σ a).1)) (mf_copyRow σ a).2) PX0 := by
  refine HM.of hl [(0, .ref mo), (1, .int (nI a))] (by decide +kernel) rfl (Nat.le_of_ble_eq_true rfl) ?_
  intro p e s m args below meth c C hname
  have hF : MFr mo ad M M := MFr.rf
  have hR6 := hI.R
  have hk_a := hI.k ha
  have hl_a := hI.l ha
  refine V_aload_n C dX20_copyRow_0 rfl 0 rfl ?_
  refine M_get C hM (.int (nI (nR σ))) f_X20_103_9 (congrArg (fun z => some (Value.int z)) hI.R.1) dX20_copyRow_1 ?_
  refine V_bipush (v := 60) C dX20_copyRow_4 rfl ?_
  refine V_icmp_ne (tgt := 11) C dX20_copyRow_6 (by decide) (fun c_6 => ?_) (fun c_6 => ?_)
  · have h60 : nR σ < 60 := by rcases Nat.lt_or_ge (nR σ) 60 with z | z; (exact z); exact absurd (show nI (nR σ) = 60 from by rw [show nR σ = 60 by omega]; rfl) c_6
    refine V_aload_n C dX20_copyRow_11 rfl 0 rfl ?_
    refine V_aload_n C dX20_copyRow_12 rfl 0 rfl ?_
    refine M_get C hM (.ref (ad 2)) f_X20_7_9 rfl dX20_copyRow_13 ?_
    refine V_iload_n C dX20_copyRow_16 rfl 1 rfl ?_
    refine M_iald C hM 2 a rfl rfl (show a < 60 from by first | omega | (have := hI.R.2; omega) | (have := hI.U.2; omega) | (have := hI.J.2; omega)) dX20_copyRow_17 ?_
    refine V_aload_n C dX20_copyRow_18 rfl 0 rfl ?_
    refine M_get C hM (.ref (ad 3)) f_X20_13_9 rfl dX20_copyRow_19 ?_
    refine V_pc (pc1 := 22) rfl ?_
    refine V_iload_n C dX20_copyRow_22 rfl 1 rfl ?_
    refine M_iald C hM 3 a rfl rfl (show a < 60 from by first | omega | (have := hI.R.2; omega) | (have := hI.U.2; omega) | (have := hI.J.2; omega)) dX20_copyRow_23 ?_
    refine V_callV C (c_X20_newRow l hl G X N0 mo ad σ M hM (nR σ) (ln σ a) (σ.2.1 2 a) (σ.2.1 3 a) hl_a.1 hI.R.1 h60 hl_a.2) cs_X20_129_9 hM.1 (show CLS[9]? = some (RX20, TX20, 33) from rfl) rfl rfl ⟨Nat.le_of_ble_eq_true rfl, Nat.le_of_ble_eq_true rfl⟩ ⟨(by first | exact Nat.le_of_ble_eq_true rfl | omega | (dsimp only; omega)), (by first | exact Nat.le_of_ble_eq_true rfl | omega | (dsimp only; omega))⟩ (Nat.le_of_ble_eq_true rfl) dX20_copyRow_24 (fun _ _ _ h => px0 h) ?_
    rintro _ M_1 ⟨rfl, hM_2, hF_3⟩
    refine V_st (st' := [.int (nI (nR σ))]) rfl ?_
    have hF_4 := hF.trans hF_3
    refine V_istore_n C dX20_copyRow_27 rfl (Nat.le_of_ble_eq_true rfl) [(0, .ref mo), (1, .int (nI a)), (2, .int (nI (nR σ)))] [1, 2, 0] rfl ?_
    refine V_iconst (v := 0) C dX20_copyRow_28 rfl ?_
    refine V_istore_n C dX20_copyRow_29 rfl (Nat.le_of_ble_eq_true rfl) [(0, .ref mo), (1, .int (nI a)), (2, .int (nI (nR σ))), (3, .int 0)] [1, 2, 3, 0] rfl ?_
    have lp_30 : ∀ (fu9 : Nat) (p1 : Nat) (M30 : hp_h), ln σ a - p1 < fu9 → (p1 ≤ ln σ a) → MH G mo ad (sl (mf_newRow (nR σ) (ln σ a) (σ.2.1 2 a) σ) 4 (mfill ((mf_newRow (nR σ) (ln σ a) (σ.2.1 2 a) σ).2.2.1 4) (40 * nR σ) p1 (fun q => el σ a q))) M30 → MFr mo ad M M30 → V p l e { frames := 1, cells := 0, slots := 0, locals := 23 } s m args below meth c G N0 4 (QV below G N0 (PM G mo ad M (some (.int (mf_copyRow σ a).1)) (mf_copyRow σ a).2) PX0 args s (0) (0)) (0) (0) M30 30 [(0, .ref mo), (1, .int (nI a)), (2, .int (nI (nR σ))), (3, .int (nI p1))] [] := by
      intro fu9
      induction fu9 with
      | zero => intro p1 M30 hfu9; exact absurd hfu9 (Nat.not_lt_zero _)
      | succ fu9 ih30 =>
        intro p1 M30 hfu9 hp1 hM30 hF30
        refine V_iload_n C dX20_copyRow_30 rfl 3 rfl ?_
        refine V_aload_n C dX20_copyRow_31 rfl 0 rfl ?_
        refine M_get C hM30 (.ref (ad 3)) f_X20_13_9 rfl dX20_copyRow_32 ?_
        refine V_iload_n C dX20_copyRow_35 rfl 1 rfl ?_
        refine M_iald C hM30 3 a rfl rfl (show a < 60 from by first | omega | (have := hI.R.2; omega) | (have := hI.U.2; omega) | (have := hI.J.2; omega)) dX20_copyRow_36 ?_
        refine V_st (st' := [.int ((mf_newRow (nR σ) (ln σ a) (σ.2.1 2 a) σ).2.1 3 a), .int (nI p1)]) rfl ?_
        refine V_st (st' := [.int (nI (ln σ a)), .int (nI p1)]) (by rw [show ((mf_newRow (nR σ) (ln σ a) (σ.2.1 2 a) σ).2.1 3 a) = (nI (ln σ a)) from ((newRow_l (by omega)).trans hl_a.1)]) ?_
        refine V_icmp_ge (tgt := 68) C dX20_copyRow_37 (by decide) (fun c_37 => ?_) (fun c_37 => ?_)
        · refine V_pc (pc1 := 68) rfl ?_
          refine V_aload_n C dX20_copyRow_68 rfl 0 rfl ?_
          refine V_iload_n C dX20_copyRow_69 rfl 2 rfl ?_
          refine V_i2l (v := (nI (nR σ)).toInt64) C dX20_copyRow_70 rfl ?_
          refine V_st (st' := [.long (lN (nR σ)), .ref mo]) (by rw [show ((nI (nR σ)).toInt64) = (lN (nR σ)) from nI_l (by omega)]) ?_
          refine M_putl C hM30 hF30 f_X20_218_9 mF_18 dX20_copyRow_71 (fun M_6 hM_7 hF_8 => ?_)
          refine V_iconst (v := 0) C dX20_copyRow_74 rfl ?_
          refine V_iret C dX20_copyRow_75 rfl ?_ (by first | exact Nat.le_of_ble_eq_true rfl | omega | (dsimp only; omega)) (by first | exact Nat.le_of_ble_eq_true rfl | omega | (dsimp only; omega))
          have hpN : p1 = ln σ a := by have := (nI_leI (by omega) (by omega)).mp c_37; omega
          have e9 : mf_copyRow σ a = (0, (sa (sl (mf_newRow (nR σ) (ln σ a) (σ.2.1 2 a) σ) 4 (mfill ((mf_newRow (nR σ) (ln σ a) (σ.2.1 2 a) σ).2.2.1 4) (40 * nR σ) p1 (fun q => el σ a q))) (lN (nR σ)))) := by
            unfold mf_copyRow
            rw [if_neg (by omega), hpN, newRow_e, mfill_mfill]
          rw [e9]; exact ⟨rfl, hM_7, hF_8⟩
        · have hlt : p1 < ln σ a := nI_ltN c_37 (by omega) (by omega)
          refine V_pc (pc1 := 40) rfl ?_
          refine V_aload_n C dX20_copyRow_40 rfl 0 rfl ?_
          refine M_get C hM30 (.ref (ad 4)) f_X20_16_9 rfl dX20_copyRow_41 ?_
          refine V_bipush (v := 40) C dX20_copyRow_44 rfl ?_
          refine V_iload_n C dX20_copyRow_46 rfl 2 rfl ?_
          refine V_imul C dX20_copyRow_47 ?_
          refine V_st (st' := [.int (nI (40 * (nR σ))), .ref (ad 4)]) (by rw [show (40 * (nI (nR σ))) = (nI (40 * (nR σ))) from pk_mul 40 (nR σ)]) ?_
          refine V_iload_n C dX20_copyRow_48 rfl 3 rfl ?_
          refine V_iadd C dX20_copyRow_49 ?_
          refine V_st (st' := [.int (nI ((40 * (nR σ)) + p1)), .ref (ad 4)]) (by rw [show ((nI (40 * (nR σ))) + (nI p1)) = (nI ((40 * (nR σ)) + p1)) from nI_add (40 * (nR σ)) p1]) ?_
          refine V_aload_n C dX20_copyRow_50 rfl 0 rfl ?_
          refine M_get C hM30 (.ref (ad 4)) f_X20_16_9 rfl dX20_copyRow_51 ?_
          refine V_bipush (v := 40) C dX20_copyRow_54 rfl ?_
          refine V_iload_n C dX20_copyRow_56 rfl 1 rfl ?_
          refine V_imul C dX20_copyRow_57 ?_
          refine V_st (st' := [.int (nI (40 * a)), .ref (ad 4), .int (nI ((40 * (nR σ)) + p1)), .ref (ad 4)]) (by rw [show (40 * (nI a)) = (nI (40 * a)) from pk_mul 40 a]) ?_
          refine V_pc (pc1 := 58) rfl ?_
          refine V_iload_n C dX20_copyRow_58 rfl 3 rfl ?_
          refine V_iadd C dX20_copyRow_59 ?_
          refine V_st (st' := [.int (nI ((40 * a) + p1)), .ref (ad 4), .int (nI ((40 * (nR σ)) + p1)), .ref (ad 4)]) (by rw [show ((nI (40 * a)) + (nI p1)) = (nI ((40 * a) + p1)) from nI_add (40 * a) p1]) ?_
          refine M_lald C hM30 4 (40 * a + p1) rfl rfl (show 40 * a + p1 < 2400 from by omega) dX20_copyRow_60 ?_
          refine V_st (st' := [.long ((mfill ((mf_newRow (nR σ) (ln σ a) (σ.2.1 2 a) σ).2.2.1 4) (40 * nR σ) p1 (fun q => el σ a q)) (40 * a + p1)), .int (nI ((40 * (nR σ)) + p1)), .ref (ad 4)]) rfl ?_
          refine V_st (st' := [.long (el σ a p1), .int (nI ((40 * (nR σ)) + p1)), .ref (ad 4)]) (by rw [show ((mfill ((mf_newRow (nR σ) (ln σ a) (σ.2.1 2 a) σ).2.2.1 4) (40 * nR σ) p1 (fun q => el σ a q)) (40 * a + p1)) = (el σ a p1) from (by rw [newRow_e, mfill_out (by omega), mfill_out (by omega)])]) ?_
          refine M_last C hM30 hF30 4 (40 * nR σ + p1) rfl rfl (show 40 * nR σ + p1 < 2400 from by omega) dX20_copyRow_61 (fun M_9 hM_10 hF_11 => ?_)
          have hM_12 : MH G mo ad (sl (mf_newRow (nR σ) (ln σ a) (σ.2.1 2 a) σ) 4 (va_up (mfill ((mf_newRow (nR σ) (ln σ a) (σ.2.1 2 a) σ).2.2.1 4) (40 * nR σ) p1 (fun q => el σ a q)) (40 * nR σ + p1) (el σ a p1))) M_9 := MH.cg hM_10 (by rw [sl_sl, sl_g])
          refine V_iinc (v := nI (p1 + 1)) C dX20_copyRow_62 (k := 3) rfl (nI_add p1 1) (Nat.le_of_ble_eq_true rfl) [(0, .ref mo), (1, .int (nI a)), (2, .int (nI (nR σ))), (3, .int (nI (p1 + 1)))] [1, 2, 3, 0] rfl ?_
          refine V_goto (tgt := 30) C dX20_copyRow_65 (by decide) ?_
          exact ih30 (p1 + 1) _ (by omega) (by omega) (MH.cg hM_12 (by rw [mfill_s rfl])) hF_11
    refine V_loc (L' := [(0, .ref mo), (1, .int (nI a)), (2, .int (nI (nR σ))), (3, .int 0)]) [0, 1, 2, 3] rfl ?_
    exact lp_30 _ 0 _ (Nat.lt_succ_self _) (Nat.zero_le _) (MH.cg hM_2 (by rw [mfill_0]; exact (sl_id _ _).symm)) hF_4
  · have h60 : nR σ = 60 := (nI_eq (a := nR σ) (b := 60) (by omega) (by omega)).mp c_6
    refine V_iconst (v := 5) C dX20_copyRow_9 rfl ?_
    refine V_iret C dX20_copyRow_10 rfl ?_ (by first | exact Nat.le_of_ble_eq_true rfl | omega | (dsimp only; omega)) (by first | exact Nat.le_of_ble_eq_true rfl | omega | (dsimp only; omega))
    have e9 : mf_copyRow σ a = (5, σ) := by
      unfold mf_copyRow
      rw [if_pos h60]
    rw [e9]; exact ⟨rfl, hM, hF⟩
set_option maxHeartbeats 1000000 in
theorem c_X20_turn (l : Launch) (hl : l.stackTraces = false) (G : hp_G) (X : Nat → Nat) (N0 : Nat) (mo : Nat) (ad : Nat → Nat) (σ : MS) (M : hp_h) (hM : MH G mo ad σ M) (a : Nat) (i n : Int32) (hI : MI σ) (ha : a < nR σ) : HM l yX20_turn (ws_ yX20_turn cX20_turn 5 (some .int)) 1 23 0 0 G X N0 [.ref mo, .int (nI a), .int i, .int n] M (PM G mo ad M (some (.int (mf_turn σ a i n).1)) (mf_turn σ a i n).2) PX0 := by
  refine HM.of hl [(0, .ref mo), (1, .int (nI a)), (2, .int i), (3, .int n)] (by decide +kernel) rfl (Nat.le_of_ble_eq_true rfl) ?_
  intro p e s m args below meth c C hname
  have hF : MFr mo ad M M := MFr.rf
  have hR6 := hI.R
  have hk_a := hI.k ha
  have hl_a := hI.l ha
  refine V_aload_n C dX20_turn_0 rfl 0 rfl ?_
  refine V_iload_n C dX20_turn_1 rfl 1 rfl ?_
  refine V_iload_n C dX20_turn_2 rfl 2 rfl ?_
  refine V_iload_n C dX20_turn_3 rfl 3 rfl ?_
  refine V_callV C (c_X20_hasPlaces l hl G X N0 mo ad σ M hM a (by omega) i n ) cs_X20_215_9 hM.1 (show CLS[9]? = some (RX20, TX20, 33) from rfl) rfl rfl ⟨Nat.le_of_ble_eq_true rfl, Nat.le_of_ble_eq_true rfl⟩ ⟨(by first | exact Nat.le_of_ble_eq_true rfl | omega | (dsimp only; omega)), (by first | exact Nat.le_of_ble_eq_true rfl | omega | (dsimp only; omega))⟩ (Nat.le_of_ble_eq_true rfl) dX20_turn_4 (fun _ _ _ h => px0 h) ?_
  rintro _ _ ⟨rfl, rfl⟩
  refine V_st (st' := [.int (bI (mf_places σ a i n))]) rfl ?_
  refine V_if_ne (tgt := 12) C dX20_turn_7 (by decide) (fun c_7 => ?_) (fun c_7 => ?_)
  · obtain ⟨I, N, rfl, rfl, hIN⟩ := places_n hl_a (bI_n.mp c_7)
    refine V_iconst (v := 0) C dX20_turn_12 rfl ?_
    refine V_istore C dX20_turn_13 (Nat.le_of_ble_eq_true rfl) [(0, .ref mo), (1, .int (nI a)), (2, .int (nI I)), (3, .int (nI N)), (4, .int 0)] [1, 2, 3, 4, 0] rfl ?_
    have lp_15 : ∀ (fu9 : Nat) (p1 : Nat) (M15 : hp_h), N - p1 < fu9 → (p1 ≤ N) → MH G mo ad (sl σ 19 (mfill (σ.2.2.1 19) 0 p1 (fun q => el σ a (I + q)))) M15 → MFr mo ad M M15 → V p l e { frames := 1, cells := 0, slots := 0, locals := 23 } s m args below meth c G N0 5 (QV below G N0 (PM G mo ad M (some (.int (mf_turn σ a (nI I) (nI N)).1)) (mf_turn σ a (nI I) (nI N)).2) PX0 args s (0) (0)) (0) (0) M15 15 [(0, .ref mo), (1, .int (nI a)), (2, .int (nI I)), (3, .int (nI N)), (4, .int (nI p1))] [] := by
      intro fu9
      induction fu9 with
      | zero => intro p1 M15 hfu9; exact absurd hfu9 (Nat.not_lt_zero _)
      | succ fu9 ih15 =>
        intro p1 M15 hfu9 hp1 hM15 hF15
        refine V_iload C dX20_turn_15 4 rfl ?_
        refine V_iload_n C dX20_turn_17 rfl 3 rfl ?_
        refine V_icmp_ge (tgt := 48) C dX20_turn_18 (by decide) (fun c_18 => ?_) (fun c_18 => ?_)
        · refine V_pc (pc1 := 48) rfl ?_
          refine V_iconst (v := 0) C dX20_turn_48 rfl ?_
          refine V_istore C dX20_turn_49 (Nat.le_of_ble_eq_true rfl) [(0, .ref mo), (1, .int (nI a)), (2, .int (nI I)), (3, .int (nI N)), (4, .int 0)] [1, 2, 3, 4, 0] rfl ?_
          have hpN : p1 = N := by have := (nI_leI (by omega) (by omega)).mp c_18; omega
          have lp_51 : ∀ (fu9 : Nat) (p2 : Nat) (M51 : hp_h), N - p2 < fu9 → (p2 ≤ N) → MH G mo ad (sl (mf_hold σ a I N) 4 (mfill (σ.2.2.1 4) (40 * a + I) p2 (fun q => el σ a (I + (N - 1 - q))))) M51 → MFr mo ad M M51 → V p l e { frames := 1, cells := 0, slots := 0, locals := 23 } s m args below meth c G N0 5 (QV below G N0 (PM G mo ad M (some (.int (mf_turn σ a (nI I) (nI N)).1)) (mf_turn σ a (nI I) (nI N)).2) PX0 args s (0) (0)) (0) (0) M51 51 [(0, .ref mo), (1, .int (nI a)), (2, .int (nI I)), (3, .int (nI N)), (4, .int (nI p2))] [] := by
            intro fu9
            induction fu9 with
            | zero => intro p2 M51 hfu9; exact absurd hfu9 (Nat.not_lt_zero _)
            | succ fu9 ih51 =>
              intro p2 M51 hfu9 hp2 hM51 hF51
              refine V_iload C dX20_turn_51 4 rfl ?_
              refine V_iload_n C dX20_turn_53 rfl 3 rfl ?_
              refine V_icmp_ge (tgt := 88) C dX20_turn_54 (by decide) (fun c_54 => ?_) (fun c_54 => ?_)
              · refine V_iconst (v := 0) C dX20_turn_88 rfl ?_
                refine V_iret C dX20_turn_89 rfl ?_ (by first | exact Nat.le_of_ble_eq_true rfl | omega | (dsimp only; omega)) (by first | exact Nat.le_of_ble_eq_true rfl | omega | (dsimp only; omega))
                have hpE : p2 = N := by have := (nI_leI (by omega) (by omega)).mp c_54; omega
                have e9 : mf_turn σ a (nI I) (nI N) = (0, (sl (mf_hold σ a I N) 4 (mfill (σ.2.2.1 4) (40 * a + I) p2 (fun q => el σ a (I + (N - 1 - q)))))) := by
                  unfold mf_turn
                  rw [if_neg (fun z => z (bI_n.mp c_7)), nI_clamp (by omega), nI_clamp (by omega), hpE]
                  rfl
                rw [e9]; exact ⟨rfl, hM51, hF51⟩
              · have hlt : p2 < N := nI_ltN c_54 (by omega) (by omega)
                refine V_aload_n C dX20_turn_57 rfl 0 rfl ?_
                refine M_get C hM51 (.ref (ad 4)) f_X20_16_9 rfl dX20_turn_58 ?_
                refine V_bipush (v := 40) C dX20_turn_61 rfl ?_
                refine V_iload_n C dX20_turn_63 rfl 1 rfl ?_
                refine V_imul C dX20_turn_64 ?_
                refine V_st (st' := [.int (nI (40 * a)), .ref (ad 4)]) (by rw [show (40 * (nI a)) = (nI (40 * a)) from pk_mul 40 a]) ?_
                refine V_iload_n C dX20_turn_65 rfl 2 rfl ?_
                refine V_iadd C dX20_turn_66 ?_
                refine V_st (st' := [.int (nI ((40 * a) + I)), .ref (ad 4)]) (by rw [show ((nI (40 * a)) + (nI I)) = (nI ((40 * a) + I)) from nI_add (40 * a) I]) ?_
                refine V_pc (pc1 := 67) rfl ?_
                refine V_iload C dX20_turn_67 4 rfl ?_
                refine V_iadd C dX20_turn_69 ?_
                refine V_st (st' := [.int (nI (((40 * a) + I) + p2)), .ref (ad 4)]) (by rw [show ((nI ((40 * a) + I)) + (nI p2)) = (nI (((40 * a) + I) + p2)) from nI_add ((40 * a) + I) p2]) ?_
                refine V_aload_n C dX20_turn_70 rfl 0 rfl ?_
                refine M_get C hM51 (.ref (ad 19)) f_X20_39_9 rfl dX20_turn_71 ?_
                refine V_iload_n C dX20_turn_74 rfl 3 rfl ?_
                refine V_iconst (v := 1) C dX20_turn_75 rfl ?_
                refine V_isub C dX20_turn_76 ?_
                refine V_st (st' := [.int (nI (N - 1)), .ref (ad 19), .int (nI (((40 * a) + I) + p2)), .ref (ad 4)]) (by rw [show ((nI N) - 1) = (nI (N - 1)) from nI_sub (b := 1) (by omega)]) ?_
                refine V_iload C dX20_turn_77 4 rfl ?_
                refine V_isub C dX20_turn_79 ?_
                refine V_st (st' := [.int (nI (N - 1 - p2)), .ref (ad 19), .int (nI (((40 * a) + I) + p2)), .ref (ad 4)]) (by rw [show ((nI (N - 1)) - (nI p2)) = (nI (N - 1 - p2)) from nI_sub (by omega)]) ?_
                refine M_lald C hM51 19 (N - 1 - p2) rfl rfl (show N - 1 - p2 < 40 from by omega) dX20_turn_80 ?_
                refine V_st (st' := [.long ((mf_hold σ a I N).2.2.1 19 (N - 1 - p2)), .int (nI (((40 * a) + I) + p2)), .ref (ad 4)]) rfl ?_
                refine V_st (st' := [.long (el σ a (I + (N - 1 - p2))), .int (nI (((40 * a) + I) + p2)), .ref (ad 4)]) (by rw [show ((mf_hold σ a I N).2.2.1 19 (N - 1 - p2)) = (el σ a (I + (N - 1 - p2))) from (by unfold mf_hold; rw [sl_g]; exact mfill_in0 (by omega))]) ?_
                refine M_last C hM51 hF51 4 (40 * a + I + p2) rfl rfl (show 40 * a + I + p2 < 2400 from by omega) dX20_turn_81 (fun M_3 hM_4 hF_5 => ?_)
                have hM_6 : MH G mo ad (sl (mf_hold σ a I N) 4 (va_up (mfill (σ.2.2.1 4) (40 * a + I) p2 (fun q => el σ a (I + (N - 1 - q)))) (40 * a + I + p2) (el σ a (I + (N - 1 - p2))))) M_3 := MH.cg hM_4 (by rw [sl_sl, sl_g])
                refine V_iinc (v := nI (p2 + 1)) C dX20_turn_82 (k := 4) rfl (nI_add p2 1) (Nat.le_of_ble_eq_true rfl) [(0, .ref mo), (1, .int (nI a)), (2, .int (nI I)), (3, .int (nI N)), (4, .int (nI (p2 + 1)))] [1, 2, 3, 4, 0] rfl ?_
                refine V_pc (pc1 := 85) rfl ?_
                refine V_goto (tgt := 51) C dX20_turn_85 (by decide) ?_
                exact ih51 (p2 + 1) _ (by omega) (by omega) (MH.cg hM_6 (by rw [mfill_s rfl])) hF_5
          refine V_loc (L' := [(0, .ref mo), (1, .int (nI a)), (2, .int (nI I)), (3, .int (nI N)), (4, .int 0)]) [0, 1, 2, 3, 4] rfl ?_
          exact lp_51 _ 0 _ (Nat.lt_succ_self _) (Nat.zero_le _) (MH.cg hM15 (by rw [mfill_0, hpN]; exact (sl_id (mf_hold σ a I N) 4).symm)) hF15
        · have hlt : p1 < N := nI_ltN c_18 (by omega) (by omega)
          refine V_pc (pc1 := 21) rfl ?_
          refine V_aload_n C dX20_turn_21 rfl 0 rfl ?_
          refine M_get C hM15 (.ref (ad 19)) f_X20_39_9 rfl dX20_turn_22 ?_
          refine V_iload C dX20_turn_25 4 rfl ?_
          refine V_aload_n C dX20_turn_27 rfl 0 rfl ?_
          refine M_get C hM15 (.ref (ad 4)) f_X20_16_9 rfl dX20_turn_28 ?_
          refine V_bipush (v := 40) C dX20_turn_31 rfl ?_
          refine V_iload_n C dX20_turn_33 rfl 1 rfl ?_
          refine V_imul C dX20_turn_34 ?_
          refine V_st (st' := [.int (nI (40 * a)), .ref (ad 4), .int (nI p1), .ref (ad 19)]) (by rw [show (40 * (nI a)) = (nI (40 * a)) from pk_mul 40 a]) ?_
          refine V_iload_n C dX20_turn_35 rfl 2 rfl ?_
          refine V_iadd C dX20_turn_36 ?_
          refine V_st (st' := [.int (nI ((40 * a) + I)), .ref (ad 4), .int (nI p1), .ref (ad 19)]) (by rw [show ((nI (40 * a)) + (nI I)) = (nI ((40 * a) + I)) from nI_add (40 * a) I]) ?_
          refine V_iload C dX20_turn_37 4 rfl ?_
          refine V_iadd C dX20_turn_39 ?_
          refine V_st (st' := [.int (nI (((40 * a) + I) + p1)), .ref (ad 4), .int (nI p1), .ref (ad 19)]) (by rw [show ((nI ((40 * a) + I)) + (nI p1)) = (nI (((40 * a) + I) + p1)) from nI_add ((40 * a) + I) p1]) ?_
          refine V_pc (pc1 := 40) rfl ?_
          refine M_lald C hM15 4 (40 * a + (I + p1)) rfl (congrArg nI (by omega)) (show 40 * a + (I + p1) < 2400 from by omega) dX20_turn_40 ?_
          refine V_st (st' := [.long (σ.2.2.1 4 (40 * a + (I + p1))), .int (nI p1), .ref (ad 19)]) rfl ?_
          refine M_last C hM15 hF15 19 (0 + p1) rfl (congrArg nI (by omega)) (show 0 + p1 < 40 from by omega) dX20_turn_41 (fun M_7 hM_8 hF_9 => ?_)
          have hM_10 : MH G mo ad (sl σ 19 (va_up (mfill (σ.2.2.1 19) 0 p1 (fun q => el σ a (I + q))) (0 + p1) (σ.2.2.1 4 (40 * a + (I + p1))))) M_7 := MH.cg hM_8 (by rw [sl_sl, sl_g])
          refine V_iinc (v := nI (p1 + 1)) C dX20_turn_42 (k := 4) rfl (nI_add p1 1) (Nat.le_of_ble_eq_true rfl) [(0, .ref mo), (1, .int (nI a)), (2, .int (nI I)), (3, .int (nI N)), (4, .int (nI (p1 + 1)))] [1, 2, 3, 4, 0] rfl ?_
          refine V_goto (tgt := 15) C dX20_turn_45 (by decide) ?_
          exact ih15 (p1 + 1) _ (by omega) (by omega) (MH.cg hM_10 (by rw [mfill_s rfl])) hF_9
    refine V_loc (L' := [(0, .ref mo), (1, .int (nI a)), (2, .int (nI I)), (3, .int (nI N)), (4, .int 0)]) [0, 1, 2, 3, 4] rfl ?_
    exact lp_15 _ 0 _ (Nat.lt_succ_self _) (Nat.zero_le _) (MH.cg hM (by rw [mfill_0]; exact (sl_id _ _).symm)) hF
  · refine V_iconst (v := 2) C dX20_turn_10 rfl ?_
    refine V_iret C dX20_turn_11 rfl ?_ (by first | exact Nat.le_of_ble_eq_true rfl | omega | (dsimp only; omega)) (by first | exact Nat.le_of_ble_eq_true rfl | omega | (dsimp only; omega))
    have e9 : mf_turn σ a i n = (2, σ) := by
      unfold mf_turn
      rw [if_pos (bI_0.mp c_7)]
    rw [e9]; exact ⟨rfl, hM, hF⟩
set_option maxHeartbeats 1000000 in
theorem c_X20_fill (l : Launch) (hl : l.stackTraces = false) (G : hp_G) (X : Nat → Nat) (N0 : Nat) (mo : Nat) (ad : Nat → Nat) (σ : MS) (M : hp_h) (hM : MH G mo ad σ M) (a : Nat) (i j n : Int32) (hI : MI σ) (ha : a < nR σ) (hJ8 : nJ σ < 8000) : HM l yX20_fill (ws_ yX20_fill cX20_fill 9 (some .int)) 4 88 0 0 G X N0 [.ref mo, .int (nI a), .int i, .int j, .int n] M (PM G mo ad M (some (.int (mf_fill σ a i j n).1)) (mf_fill σ a i j n).2) PX0 := by
  refine HM.of hl [(0, .ref mo), (1, .int (nI a)), (2, .int i), (3, .int j), (4, .int n)] (by decide +kernel) rfl (Nat.le_of_ble_eq_true rfl) ?_
  intro p e s m args below meth c C hname
  have hF : MFr mo ad M M := MFr.rf
  have hR6 := hI.R
  have hk_a := hI.k ha
  have hl_a := hI.l ha
  refine V_aload_n C dX20_fill_0 rfl 0 rfl ?_
  refine M_get C hM (.ref (ad 2)) f_X20_7_9 rfl dX20_fill_1 ?_
  refine V_iload_n C dX20_fill_4 rfl 1 rfl ?_
  refine M_iald C hM 2 a rfl rfl (show a < 60 from by first | omega | (have := hI.R.2; omega) | (have := hI.U.2; omega) | (have := hI.J.2; omega)) dX20_fill_5 ?_
  refine V_st (st' := [.int (nI (kd σ a))]) (by rw [show (σ.2.1 2 a) = (nI (kd σ a)) from hk_a.1]) ?_
  refine V_istore C dX20_fill_6 (Nat.le_of_ble_eq_true rfl) [(0, .ref mo), (1, .int (nI a)), (2, .int i), (3, .int j), (4, .int n), (5, .int (nI (kd σ a)))] [1, 2, 3, 4, 5, 0] rfl ?_
  refine V_aload_n C dX20_fill_8 rfl 0 rfl ?_
  refine V_iload C dX20_fill_9 5 rfl ?_
  refine V_iload_n C dX20_fill_11 rfl 3 rfl ?_
  refine V_i2l (v := j.toInt64) C dX20_fill_12 rfl ?_
  refine V_callV C (c_X20_goes l hl G X N0 mo ad σ M hM (nI (kd σ a)) j.toInt64 ) cs_X20_165_9 hM.1 (show CLS[9]? = some (RX20, TX20, 33) from rfl) rfl rfl ⟨Nat.le_of_ble_eq_true rfl, Nat.le_of_ble_eq_true rfl⟩ ⟨(by first | exact Nat.le_of_ble_eq_true rfl | omega | (dsimp only; omega)), (by first | exact Nat.le_of_ble_eq_true rfl | omega | (dsimp only; omega))⟩ (Nat.le_of_ble_eq_true rfl) dX20_fill_13 (fun _ _ _ h => px0 h) ?_
  rintro _ _ ⟨rfl, rfl⟩
  refine V_st (st' := [.int (bI (mf_goes σ (nI (kd σ a)) j.toInt64))]) rfl ?_
  refine V_if_ne (tgt := 21) C dX20_fill_16 (by decide) (fun c_16 => ?_) (fun c_16 => ?_)
  · refine V_pc (pc1 := 21) rfl ?_
    refine V_aload_n C dX20_fill_21 rfl 0 rfl ?_
    refine V_iload_n C dX20_fill_22 rfl 1 rfl ?_
    refine V_iload_n C dX20_fill_23 rfl 2 rfl ?_
    refine V_iload C dX20_fill_24 4 rfl ?_
    refine V_callV C (c_X20_hasPlaces l hl G X N0 mo ad σ M hM a (by omega) i n ) cs_X20_215_9 hM.1 (show CLS[9]? = some (RX20, TX20, 33) from rfl) rfl rfl ⟨Nat.le_of_ble_eq_true rfl, Nat.le_of_ble_eq_true rfl⟩ ⟨(by first | exact Nat.le_of_ble_eq_true rfl | omega | (dsimp only; omega)), (by first | exact Nat.le_of_ble_eq_true rfl | omega | (dsimp only; omega))⟩ (Nat.le_of_ble_eq_true rfl) dX20_fill_26 (fun _ _ _ h => px0 h) ?_
    rintro _ _ ⟨rfl, rfl⟩
    refine V_st (st' := [.int (bI (mf_places σ a i n))]) rfl ?_
    refine V_if_ne (tgt := 34) C dX20_fill_29 (by decide) (fun c_29 => ?_) (fun c_29 => ?_)
    · have jn_57_1 : ∀ (z57 : Nat), ¬ (nI (kd σ a) = 9 ∧ 0 < n ∧ ¬ mf_isCard σ j.toInt64) → V p l e { frames := 4, cells := 0, slots := 0, locals := 88 } s m args below meth c G N0 9 (QV below G N0 (PM G mo ad M (some (.int (mf_fill σ a i j n).1)) (mf_fill σ a i j n).2) PX0 args s (0) (0)) (0) (0) M 57 [(0, .ref mo), (1, .int (nI a)), (2, .int i), (3, .int j), (4, .int n), (5, .int (nI (kd σ a)))] [] := by
        intro z57 hjn_57_1
        refine V_iload C dX20_fill_57 4 rfl ?_
        refine V_if_le (tgt := 73) C dX20_fill_59 (by decide) (fun c_59 => ?_) (fun c_59 => ?_)
        · refine V_lconst (v := 0) C dX20_fill_73 rfl ?_
          refine V_lstore C dX20_fill_74 (Nat.le_of_ble_eq_true rfl) [(0, .ref mo), (1, .int (nI a)), (2, .int i), (3, .int j), (4, .int n), (5, .int (nI (kd σ a))), (6, .long 0)] [1, 2, 3, 4, 5, 6, 0] rfl ?_
          obtain ⟨I, N, rfl, rfl, hIN⟩ := places_n hl_a (bI_n.mp c_29)
          refine V_iconst (v := 0) C dX20_fill_76 rfl ?_
          refine V_istore C dX20_fill_77 (Nat.le_of_ble_eq_true rfl) [(0, .ref mo), (1, .int (nI a)), (2, .int (nI I)), (3, .int j), (4, .int (nI N)), (5, .int (nI (kd σ a))), (6, .long 0), (8, .int 0)] [1, 2, 3, 4, 5, 6, 7, 0] rfl ?_
          have hN0 : N = 0 := by have := (nI_leI (a := N) (b := 0) (by omega) (by omega)).mp c_59; omega
          subst hN0
          refine V_pc (pc1 := 79) rfl ?_
          refine V_iload C dX20_fill_79 7 rfl ?_
          refine V_iload C dX20_fill_81 4 rfl ?_
          refine V_icmp_ge (tgt := 108) C dX20_fill_83 (by decide) (fun c_83 => ?_) (fun c_83 => ?_)
          · refine V_iconst (v := 0) C dX20_fill_108 rfl ?_
            refine V_iret C dX20_fill_109 rfl ?_ (by first | exact Nat.le_of_ble_eq_true rfl | omega | (dsimp only; omega)) (by first | exact Nat.le_of_ble_eq_true rfl | omega | (dsimp only; omega))
            have e9 : mf_fill σ a (nI I) j (nI 0) = (0, σ) := by
              unfold mf_fill
              rw [hk_a.1, if_neg (fun z => z (bI_n.mp c_16)), if_neg (fun z => z (bI_n.mp c_29)), if_neg hjn_57_1]
              unfold mf_fillA mf_fillV
              rw [nI_clamp (by omega), nI_clamp (by omega), if_neg (by decide), mfill_0]
              exact congrArg (Prod.mk 0) (sl_id σ 4)
            rw [e9]; exact ⟨rfl, hM, hF⟩
          · exact absurd (by decide) c_83
        · refine V_aload_n C dX20_fill_62 rfl 0 rfl ?_
          refine V_iload C dX20_fill_63 5 rfl ?_
          refine V_iload_n C dX20_fill_65 rfl 3 rfl ?_
          refine V_i2l (v := j.toInt64) C dX20_fill_66 rfl ?_
          refine V_pc (pc1 := 67) rfl ?_
          refine V_callV C (c_X20_asElement l hl G X N0 mo ad σ M hM (kd σ a) hk_a.2 j.toInt64 (nJ σ) hI.J.1 hJ8) cs_X20_173_9 hM.1 (show CLS[9]? = some (RX20, TX20, 33) from rfl) rfl rfl ⟨Nat.le_of_ble_eq_true rfl, Nat.le_of_ble_eq_true rfl⟩ ⟨(by first | exact Nat.le_of_ble_eq_true rfl | omega | (dsimp only; omega)), (by first | exact Nat.le_of_ble_eq_true rfl | omega | (dsimp only; omega))⟩ (Nat.le_of_ble_eq_true rfl) dX20_fill_67 (fun _ _ _ h => px0 h) ?_
          rintro _ M_2 ⟨rfl, hM_3, hF_4⟩
          refine V_st (st' := [.long ((mf_asE (nI (kd σ a)) j.toInt64 σ).1)]) rfl ?_
          have hF_5 := hF.trans hF_4
          refine V_goto (tgt := 74) C dX20_fill_70 (by decide) ?_
          refine V_lstore C dX20_fill_74 (Nat.le_of_ble_eq_true rfl) [(0, .ref mo), (1, .int (nI a)), (2, .int i), (3, .int j), (4, .int n), (5, .int (nI (kd σ a))), (6, .long ((mf_asE (nI (kd σ a)) j.toInt64 σ).1))] [1, 2, 3, 4, 5, 6, 0] rfl ?_
          obtain ⟨I, N, rfl, rfl, hIN⟩ := places_n hl_a (bI_n.mp c_29)
          refine V_iconst (v := 0) C dX20_fill_76 rfl ?_
          refine V_istore C dX20_fill_77 (Nat.le_of_ble_eq_true rfl) [(0, .ref mo), (1, .int (nI a)), (2, .int (nI I)), (3, .int j), (4, .int (nI N)), (5, .int (nI (kd σ a))), (6, .long ((mf_asE (nI (kd σ a)) j.toInt64 σ).1)), (8, .int 0)] [1, 2, 3, 4, 5, 6, 7, 0] rfl ?_
          have hN0 : 0 < nI N := Int32.not_le.mp c_59
          have eV : mf_fillV σ (nI (kd σ a)) j (nI N) = mf_asE (nI (kd σ a)) j.toInt64 σ := if_pos hN0
          have lp_79 : ∀ (fu9 : Nat) (p1 : Nat) (M79 : hp_h), N - p1 < fu9 → (p1 ≤ N) → MH G mo ad (sl (mf_asE (nI (kd σ a)) j.toInt64 σ).2 4 (mfill (σ.2.2.1 4) (40 * a + I) p1 (fun _ => (mf_asE (nI (kd σ a)) j.toInt64 σ).1))) M79 → MFr mo ad M M79 → V p l e { frames := 4, cells := 0, slots := 0, locals := 88 } s m args below meth c G N0 9 (QV below G N0 (PM G mo ad M (some (.int (mf_fill σ a (nI I) j (nI N)).1)) (mf_fill σ a (nI I) j (nI N)).2) PX0 args s (0) (0)) (0) (0) M79 79 [(0, .ref mo), (1, .int (nI a)), (2, .int (nI I)), (3, .int j), (4, .int (nI N)), (5, .int (nI (kd σ a))), (6, .long ((mf_asE (nI (kd σ a)) j.toInt64 σ).1)), (8, .int (nI p1))] [] := by
            intro fu9
            induction fu9 with
            | zero => intro p1 M79 hfu9; exact absurd hfu9 (Nat.not_lt_zero _)
            | succ fu9 ih79 =>
              intro p1 M79 hfu9 hp1 hM79 hF79
              refine V_iload C dX20_fill_79 7 rfl ?_
              refine V_iload C dX20_fill_81 4 rfl ?_
              refine V_icmp_ge (tgt := 108) C dX20_fill_83 (by decide) (fun c_83_2 => ?_) (fun c_83_2 => ?_)
              · refine V_iconst (v := 0) C dX20_fill_108 rfl ?_
                refine V_iret C dX20_fill_109 rfl ?_ (by first | exact Nat.le_of_ble_eq_true rfl | omega | (dsimp only; omega)) (by first | exact Nat.le_of_ble_eq_true rfl | omega | (dsimp only; omega))
                have hpE : p1 = N := by have := (nI_leI (by omega) (by omega)).mp c_83_2; omega
                have e9 : mf_fill σ a (nI I) j (nI N) = (0, (sl (mf_asE (nI (kd σ a)) j.toInt64 σ).2 4 (mfill (σ.2.2.1 4) (40 * a + I) p1 (fun _ => (mf_asE (nI (kd σ a)) j.toInt64 σ).1)))) := by
                  unfold mf_fill
                  rw [hk_a.1, if_neg (fun z => z (bI_n.mp c_16)), if_neg (fun z => z (bI_n.mp c_29)), if_neg hjn_57_1]
                  unfold mf_fillA
                  rw [nI_clamp (by omega), nI_clamp (by omega), hk_a.1, eV, hpE]
                rw [e9]; exact ⟨rfl, hM79, hF79⟩
              · have hlt : p1 < N := nI_ltN c_83_2 (by omega) (by omega)
                refine V_aload_n C dX20_fill_86 rfl 0 rfl ?_
                refine M_get C hM79 (.ref (ad 4)) f_X20_16_9 rfl dX20_fill_87 ?_
                refine V_bipush (v := 40) C dX20_fill_90 rfl ?_
                refine V_iload_n C dX20_fill_92 rfl 1 rfl ?_
                refine V_pc (pc1 := 93) rfl ?_
                refine V_imul C dX20_fill_93 ?_
                refine V_st (st' := [.int (nI (40 * a)), .ref (ad 4)]) (by rw [show (40 * (nI a)) = (nI (40 * a)) from pk_mul 40 a]) ?_
                refine V_iload_n C dX20_fill_94 rfl 2 rfl ?_
                refine V_iadd C dX20_fill_95 ?_
                refine V_st (st' := [.int (nI ((40 * a) + I)), .ref (ad 4)]) (by rw [show ((nI (40 * a)) + (nI I)) = (nI ((40 * a) + I)) from nI_add (40 * a) I]) ?_
                refine V_iload C dX20_fill_96 7 rfl ?_
                refine V_iadd C dX20_fill_98 ?_
                refine V_st (st' := [.int (nI (((40 * a) + I) + p1)), .ref (ad 4)]) (by rw [show ((nI ((40 * a) + I)) + (nI p1)) = (nI (((40 * a) + I) + p1)) from nI_add ((40 * a) + I) p1]) ?_
                refine V_lload C dX20_fill_99 6 rfl ?_
                refine M_last C hM79 hF79 4 (40 * a + I + p1) rfl rfl (show 40 * a + I + p1 < 2400 from by omega) dX20_fill_101 (fun M_7 hM_8 hF_9 => ?_)
                have hM_10 : MH G mo ad (sl (mf_asE (nI (kd σ a)) j.toInt64 σ).2 4 (va_up (mfill (σ.2.2.1 4) (40 * a + I) p1 (fun _ => (mf_asE (nI (kd σ a)) j.toInt64 σ).1)) (40 * a + I + p1) ((mf_asE (nI (kd σ a)) j.toInt64 σ).1))) M_7 := MH.cg hM_8 (by rw [sl_sl, sl_g])
                refine V_iinc (v := nI (p1 + 1)) C dX20_fill_102 (k := 7) rfl (nI_add p1 1) (Nat.le_of_ble_eq_true rfl) [(0, .ref mo), (1, .int (nI a)), (2, .int (nI I)), (3, .int j), (4, .int (nI N)), (5, .int (nI (kd σ a))), (6, .long ((mf_asE (nI (kd σ a)) j.toInt64 σ).1)), (8, .int (nI (p1 + 1)))] [1, 2, 3, 4, 5, 6, 7, 0] rfl ?_
                refine V_goto (tgt := 79) C dX20_fill_105 (by decide) ?_
                exact ih79 (p1 + 1) _ (by omega) (by omega) (MH.cg hM_10 (by rw [mfill_s rfl])) hF_9
          refine V_loc (L' := [(0, .ref mo), (1, .int (nI a)), (2, .int (nI I)), (3, .int j), (4, .int (nI N)), (5, .int (nI (kd σ a))), (6, .long ((mf_asE (nI (kd σ a)) j.toInt64 σ).1)), (8, .int 0)]) [0, 1, 2, 3, 4, 5, 6, 7] rfl ?_
          exact lp_79 _ 0 _ (Nat.lt_succ_self _) (Nat.zero_le _) (MH.cg hM_3 (by rw [mfill_0, ← asE_e (nI (kd σ a)) j.toInt64 σ]; exact (sl_id _ _).symm)) hF_5
      refine V_iload C dX20_fill_34 5 rfl ?_
      refine V_bipush (v := 9) C dX20_fill_36 rfl ?_
      refine V_icmp_ne (tgt := 57) C dX20_fill_38 (by decide) (fun c_38 => ?_) (fun c_38 => ?_)
      · refine V_loc (L' := [(0, .ref mo), (1, .int (nI a)), (2, .int i), (3, .int j), (4, .int n), (5, .int (nI (kd σ a)))]) [0, 1, 2, 3, 4, 5] rfl ?_
        exact jn_57_1 0 (by first | exact (fun z => c_38 z.1) | exact (fun z => absurd z.2.1 (Int32.not_lt.mpr c_43)) | exact (fun z => z.2.2 (bI_n.mp c_52)))
      · refine V_iload C dX20_fill_41 4 rfl ?_
        refine V_if_le (tgt := 57) C dX20_fill_43 (by decide) (fun c_43 => ?_) (fun c_43 => ?_)
        · refine V_loc (L' := [(0, .ref mo), (1, .int (nI a)), (2, .int i), (3, .int j), (4, .int n), (5, .int (nI (kd σ a)))]) [0, 1, 2, 3, 4, 5] rfl ?_
          exact jn_57_1 0 (by first | exact (fun z => c_38 z.1) | exact (fun z => absurd z.2.1 (Int32.not_lt.mpr c_43)) | exact (fun z => z.2.2 (bI_n.mp c_52)))
        · refine V_aload_n C dX20_fill_46 rfl 0 rfl ?_
          refine V_pc (pc1 := 47) rfl ?_
          refine V_iload_n C dX20_fill_47 rfl 3 rfl ?_
          refine V_i2l (v := j.toInt64) C dX20_fill_48 rfl ?_
          refine V_callV C (c_X20_isCard l hl G X N0 mo ad σ M hM j.toInt64 (isCard9 hI (bI_n.mp c_16) c_38) ) cs_X20_169_9 hM.1 (show CLS[9]? = some (RX20, TX20, 33) from rfl) rfl rfl ⟨Nat.le_of_ble_eq_true rfl, Nat.le_of_ble_eq_true rfl⟩ ⟨(by first | exact Nat.le_of_ble_eq_true rfl | omega | (dsimp only; omega)), (by first | exact Nat.le_of_ble_eq_true rfl | omega | (dsimp only; omega))⟩ (Nat.le_of_ble_eq_true rfl) dX20_fill_49 (fun _ _ _ h => px0 h) ?_
          rintro _ _ ⟨rfl, rfl⟩
          refine V_st (st' := [.int (bI (mf_isCard σ j.toInt64))]) rfl ?_
          refine V_if_ne (tgt := 57) C dX20_fill_52 (by decide) (fun c_52 => ?_) (fun c_52 => ?_)
          · refine V_loc (L' := [(0, .ref mo), (1, .int (nI a)), (2, .int i), (3, .int j), (4, .int n), (5, .int (nI (kd σ a)))]) [0, 1, 2, 3, 4, 5] rfl ?_
            exact jn_57_1 0 (by first | exact (fun z => c_38 z.1) | exact (fun z => absurd z.2.1 (Int32.not_lt.mpr c_43)) | exact (fun z => z.2.2 (bI_n.mp c_52)))
          · refine V_iconst (v := 3) C dX20_fill_55 rfl ?_
            refine V_iret C dX20_fill_56 rfl ?_ (by first | exact Nat.le_of_ble_eq_true rfl | omega | (dsimp only; omega)) (by first | exact Nat.le_of_ble_eq_true rfl | omega | (dsimp only; omega))
            have e9 : mf_fill σ a i j n = (3, σ) := by
              unfold mf_fill
              rw [hk_a.1]
              rw [if_neg (fun z => z (bI_n.mp c_16)), if_neg (fun z => z (bI_n.mp c_29)), if_pos ⟨c_38, Int32.not_le.mp c_43, bI_0.mp c_52⟩]
            rw [e9]; exact ⟨rfl, hM, hF⟩
    · refine V_iconst (v := 2) C dX20_fill_32 rfl ?_
      refine V_iret C dX20_fill_33 rfl ?_ (by first | exact Nat.le_of_ble_eq_true rfl | omega | (dsimp only; omega)) (by first | exact Nat.le_of_ble_eq_true rfl | omega | (dsimp only; omega))
      have e9 : mf_fill σ a i j n = (2, σ) := by
        unfold mf_fill
        rw [hk_a.1]
        rw [if_neg (fun z => z (bI_n.mp c_16)), if_pos (bI_0.mp c_29)]
      rw [e9]; exact ⟨rfl, hM, hF⟩
  · refine V_pc (pc1 := 19) rfl ?_
    refine V_iconst (v := 4) C dX20_fill_19 rfl ?_
    refine V_iret C dX20_fill_20 rfl ?_ (by first | exact Nat.le_of_ble_eq_true rfl | omega | (dsimp only; omega)) (by first | exact Nat.le_of_ble_eq_true rfl | omega | (dsimp only; omega))
    have e9 : mf_fill σ a i j n = (4, σ) := by
      unfold mf_fill
      rw [hk_a.1]
      rw [if_pos (bI_0.mp c_16)]
    rw [e9]; exact ⟨rfl, hM, hF⟩
