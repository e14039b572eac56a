set_option maxRecDepth 100000
section R41
variable {G : hp_G} {E0 : Nat} {g : RG} {σ σ' : MS} {z z' : Nat → Int32} {ca ca' : Int32} {C : Nat} {Y : Nat → Prop} {M M' : hp_h}
theorem RELY.r10 (h : RELY G E0 g σ z ca C Y M) {r : Nat} (hr : r < nR σ) (hk : kd σ r = 10) : ∃ f, M (qR g r) = some (.inl (G.2 10, ln σ r, RV f)) ∧ ∀ i, i < ln σ r → (el σ r i = -1 ∧ f i = none) ∨ ∃ j, j < nJ σ ∧ el σ r i = lN j ∧ f i = some (qJ g j) := by
  obtain ⟨⟨n, y⟩, h1, h2, h3⟩ := h.rw hr
  rw [hk] at h1 h2 h3
  obtain ⟨h4, h5⟩ := h2
  have h4n : n = ln σ r := h4
  have h5 : CT 10 y := h5
  rcases h5 with w | w | w | w | ⟨-, f, rfl⟩
  · omega
  · omega
  · omega
  · omega
  · refine ⟨f, by rw [h1, h4n], fun i hi => ?_⟩
    rcases h3 i hi with w | w | w | w | w | ⟨-, f', e1, e2⟩
    · omega
    · omega
    · omega
    · omega
    · omega
    · cases e1
      rcases e2 with e2 | ⟨j, a1, a2, a3⟩
      · exact Or.inl e2
      · exact Or.inr ⟨j, a1, a2, a3⟩
theorem RELY.r89 (h : RELY G E0 g σ z ca C Y M) {r : Nat} (hr : r < nR σ) (hk : kd σ r = 8 ∨ kd σ r = 9) : ∃ f, M (qR g r) = some (.inl (G.2 (kd σ r), ln σ r, RV f)) ∧ ∀ i, i < ln σ r → (el σ r i = -1 ∧ f i = none) ∨ ∃ u, u < nU σ ∧ el σ r i = lN u ∧ f i = some (qU g u) := by
  obtain ⟨⟨n, y⟩, h1, h2, h3⟩ := h.rw hr
  obtain ⟨h4, h5⟩ := h2
  have h4n : n = ln σ r := h4
  have h5 : CT (kd σ r) y := h5
  rcases h5 with w | w | w | w | ⟨-, f, rfl⟩
  · omega
  · omega
  · omega
  · omega
  · refine ⟨f, by rw [h1, h4n], fun i hi => ?_⟩
    rcases h3 i hi with w | w | w | w | ⟨-, f', e1, e2⟩ | w
    · omega
    · omega
    · omega
    · omega
    · cases e1
      rcases e2 with e2 | ⟨j, a1, a2, a3⟩
      · exact Or.inl e2
      · exact Or.inr ⟨j, a1, a2, a3⟩
    · omega
theorem VW.s0 {v : Int32} : VW σ (sz σ 0 v) := by
  refine ⟨fun k hk => ?_, fun r hr => ⟨rfl, rfl⟩, fun k hk => rfl, fun k hk => rfl, rfl, fun r k hr hk => rfl⟩
  show va_up σ.1 0 v k = σ.1 k
  rw [va_up_n (by omega)]
theorem VW.s0l {v : Int32} {f : Nat → Int64} : VW (sl σ 4 f) (sl (sz σ 0 v) 4 f) := by
  refine ⟨fun k hk => ?_, fun r hr => ⟨rfl, rfl⟩, fun k hk => rfl, fun k hk => rfl, rfl, fun r k hr hk => rfl⟩
  show va_up σ.1 0 v k = σ.1 k
  rw [va_up_n (by omega)]
/-- one place of a row is set -/
theorem RELY.put1 (h : RELY G E0 g σ z ca C Y M) (hI : MI σ) {r i : Nat} (hr : r < nR σ) (hi : i < ln σ r) {x x' : vp_A} {w : Int64} (hc : ∀ k, k < ln σ r → CE (nU σ) (nJ σ) (fun u => qU g u) (fun y => qJ g y) (kd σ r) x k (el σ r k)) (hx' : XT (kd σ r) (ln σ r) x') (ho : ∀ j, j ≠ i → cv x'.2 j = cv x.2 j) (hw : CE (nU σ) (nJ σ) (fun u => qU g u) (fun y => qJ g y) (kd σ r) x' i w) (hk : ∀ c, c + 1 = C → (∃ i, i < kn g c ∧ wh g c i = r) ∨ kr σ c ≤ r) : RELY G E0 g (sl σ 4 (va_up (σ.2.2.1 4) (40 * r + i) w)) z ca C Y (hp_up M (qR g r) (.inl (G.2 (kd σ r), x'))) := by
  refine h.row hr hx' (fun k hk => ?_) (fun r' k hr' hn hk => ?_) hk
  · by_cases e : k = i
    · subst e; rw [va_up_s]; exact hw
    · rw [va_up_n (by omega)]; exact (hc k hk).at_ (ho k e)
  · have := (hI.l hr).2
    have := (hI.l hr').2
    rw [va_up_n (by omega)]
/-- the heap grows by things that the system does not know -/
theorem RELY.grow (h : RELY G E0 g σ z ca C Y M) (hf : hp_fr (fun _ => False) M M') : RELY G E0 g σ z ca C Y M' := h.heap (fun a e ha _ => hf a e (fun y => y) ha)
theorem RKp.grow {n : Nat} (hD : ∀ t i j, RD σ' g C t i j → RD σ g C t i j) (hf : hp_fr (fun _ => False) M M') : RKp n σ g C M σ' g C M' :=
  RKp.mk9 (fun _ _ _ _ _ _ _ _ _ _ => rfl) hf (fun _ y => y.elim) (fun t i j hd => Or.inl ⟨hD t i j hd, rfl⟩) (hp_sh.of hf)
/-- an exception of the system's put, at, inner: the reference has told which -/
def SX (G : hp_G) (E0 : Nat) (g : RG) (σ : MS) (C : Nat) (M : hp_h) (E9 : String) (σ' : MS) (z' : Nat → Int32) (ca' : Int32) : Nat → String → hp_h → Prop := fun _ E M' => E = E9 ∧ REL G E0 g σ' z' ca' C M' ∧ RKp (nR σ) σ g C M σ' g C M'
theorem SX.of (h : REL G E0 g σ z ca C M) {E9 : String} {v : Int32} {q : Nat} (hf : hp_fr (fun _ => False) M M') : SX G E0 g σ C M E9 (sz σ 0 v) z ca q E9 M' :=
  ⟨rfl, (h.grow hf).view VW.s0, RKp.grow (fun t i j hd => hd) hf⟩
theorem inN {k : Int32} {n : Nat} (hn : n ≤ 40) : (0 ≤ k.toInt64 ∧ k.toInt64 ≤ (nI n - 1).toInt64) ↔ vp_in k n := by
  have e0 : (0 : Int32).toInt = 0 := rfl
  have e1 : (0 : Int64).toInt = 0 := rfl
  have e2 : (nI n - 1).toInt = (n : Int) - 1 := by
    by_cases h0 : n = 0
    · subst h0; rfl
    · obtain ⟨m, rfl⟩ : ∃ m, n = m + 1 := ⟨n - 1, by omega⟩
      rw [nI_pred, nI_toInt (by omega)]; omega
  have e3 : k.toNatClampNeg = k.toInt.toNat := rfl
  unfold vp_in
  rw [Int64.le_iff_toInt_le, Int64.le_iff_toInt_le, Int32.toInt_toInt64, Int32.toInt_toInt64, Int32.lt_iff_toInt_lt, e0, e1, e2, e3]
  omega
theorem vp_ix {k : Int32} {n : Nat} (h : vp_in k n) : ∃ i, i < n ∧ k = nI i := by
  unfold vp_in at h
  have e0 : (0 : Int32).toInt = 0 := rfl
  have e3 : k.toNatClampNeg = k.toInt.toNat := rfl
  rw [Int32.lt_iff_toInt_lt, e0, e3] at h
  refine ⟨k.toInt.toNat, by omega, ?_⟩
  refine Int32.toInt_inj.mp ?_
  have h1 := Int32.toInt_lt k
  rw [nI_toInt (by omega)]
  omega
/-- the reference: at -/
theorem at_no {r k : Int32} (h : ¬ (¬ r < 0 ∧ r < σ.1 1)) : mf_at r k σ = (0, sz σ 0 1) := if_neg h
theorem at_out (hI : MI σ) {r : Nat} (hr : r < nR σ) {k : Int32} (h : ¬ vp_in k (ln σ r)) : mf_at (nI r) k σ = (0, sz σ 0 2) := by
  unfold mf_at
  rw [if_pos (isRow9 hI hr), nI_clamp (by have := hI.R.2; omega)]
  unfold mf_atA
  rw [(hI.l hr).1, if_pos (fun y => h ((inN (hI.l hr).2).mp y))]
theorem at_in (hI : MI σ) {r i : Nat} (hr : r < nR σ) (hi : i < ln σ r) : mf_at (nI r) (nI i) σ = (if σ.2.1 2 r = 10 ∧ ¬ el σ r i < 0 then (σ.2.1 9 (el σ r i).toInt32.toNatClampNeg).toInt64 else el σ r i, sz σ 0 0) := by
  have hl := (hI.l hr).2
  unfold mf_at
  rw [if_pos (isRow9 hI hr), nI_clamp (n := r) (by have := hI.R.2; omega)]
  unfold mf_atA
  rw [(hI.l hr).1, if_neg (not_not_intro ((inN hl).mpr (vp_in_nI hi (by omega)))), nI_clamp (n := i) (by omega)]
/-- the reference: put -/
theorem put_no {r k : Int32} {b : Int64} (h : ¬ (¬ r < 0 ∧ r < σ.1 1)) : mf_put r k b σ = (0, sz σ 0 1) := if_neg h
theorem put_bad (hI : MI σ) {r : Nat} (hr : r < nR σ) {k : Int32} {b : Int64} (h : ¬ mf_goes σ (nI (kd σ r)) b) : mf_put (nI r) k b σ = (0, sz σ 0 2) := by
  unfold mf_put
  rw [if_pos (isRow9 hI hr), nI_clamp (by have := hI.R.2; omega)]
  unfold mf_putA
  rw [(hI.k hr).1, if_pos h]
theorem put_out (hI : MI σ) {r : Nat} (hr : r < nR σ) {k : Int32} {b : Int64} (hg : mf_goes σ (nI (kd σ r)) b) (h : ¬ vp_in k (ln σ r)) : mf_put (nI r) k b σ = (0, sz σ 0 3) := by
  unfold mf_put
  rw [if_pos (isRow9 hI hr), nI_clamp (by have := hI.R.2; omega)]
  unfold mf_putA
  rw [(hI.k hr).1, if_neg (not_not_intro hg), (hI.l hr).1, if_pos (fun y => h ((inN (hI.l hr).2).mp y))]
theorem put_ase (hI : MI σ) {r i : Nat} (hr : r < nR σ) {b : Int64} (hg : mf_goes σ (nI (kd σ r)) b) (hi : i < ln σ r) (hk : kd σ r = 9) (hc : ¬ mf_isCard σ b) : mf_put (nI r) (nI i) b σ = (0, sz σ 0 4) := by
  have hl := (hI.l hr).2
  unfold mf_put
  rw [if_pos (isRow9 hI hr), nI_clamp (n := r) (by have := hI.R.2; omega)]
  unfold mf_putA
  rw [(hI.k hr).1, if_neg (not_not_intro hg), (hI.l hr).1, if_neg (not_not_intro ((inN hl).mpr (vp_in_nI hi (by omega)))), if_pos ⟨by rw [hk]; rfl, hc⟩]
theorem put_in (hI : MI σ) {r i : Nat} (hr : r < nR σ) {b : Int64} (hg : mf_goes σ (nI (kd σ r)) b) (hi : i < ln σ r) (hc : kd σ r = 9 → mf_isCard σ b) : mf_put (nI r) (nI i) b σ = (1, sl (mf_asE (nI (kd σ r)) b (sz σ 0 0)).2 4 (va_up ((mf_asE (nI (kd σ r)) b (sz σ 0 0)).2.2.2.1 4) (40 * r + i) (mf_asE (nI (kd σ r)) b (sz σ 0 0)).1)) := by
  have hl := (hI.l hr).2
  unfold mf_put
  rw [if_pos (isRow9 hI hr), nI_clamp (n := r) (by have := hI.R.2; omega)]
  unfold mf_putA
  rw [(hI.k hr).1, if_neg (not_not_intro hg), (hI.l hr).1, if_neg (not_not_intro ((inN hl).mpr (vp_in_nI hi (by omega)))), if_neg (fun y => y.2 (hc ((nI_eq (b := 9) (by have := (hI.k hr).2; omega) (by decide)).mp y.1))), nI_clamp (n := i) (by omega)]
end R41
theorem lN_n1 {u : Nat} (h : u < 2 ^ 31) : (-1 : Int64) ≠ lN u := fun e => by
  have e1 := congrArg Int64.toInt e
  rw [lN_toInt (by omega)] at e1
  have e2 : (-1 : Int64).toInt = -1 := rfl
  omega
theorem lN_inj {a b : Nat} (ha : a < 2 ^ 31) (hb : b < 2 ^ 31) (e : lN a = lN b) : a = b := by
  have e1 := congrArg Int64.toInt e
  rw [lN_toInt (by omega), lN_toInt (by omega)] at e1
  omega
theorem lN_neg {u : Nat} (h : u < 2 ^ 31) : ¬ lN u < 0 := fun e => by
  rw [Int64.lt_iff_toInt_lt, lN_toInt (by omega)] at e
  have e2 : (0 : Int64).toInt = 0 := rfl
  omega
theorem isCard_lN {σ : MS} (hI : MI σ) {u : Nat} (hu : u < nU σ) (h : (σ.2.1 6 u).toNatClampNeg ≠ 0) : 0 < σ.2.1 6 (lN u).toInt32.toNatClampNeg := by
  have hU := hI.U.2
  rw [lN_i, nI_clamp (by omega), (hI.cN hu).2]
  have := (hI.cN hu).1
  exact (nI_ltI (a := 0) (by decide) (by omega)).mpr (by omega)
set_option maxHeartbeats 1000000 in
theorem c_X1_at_1 (l : Launch) (hl : l.stackTraces = false) (G : hp_G) (X : Nat → Nat) (N0 : Nat) (M : hp_h) (g : RG) (σ : MS) (z : Nat → Int32) (ca : Int32) (C9 : Nat) (hR : REL G (X 0) g σ z ca C9 M) (hI : MI σ) (r k : Int32) (hr : ¬ (¬ r < 0 ∧ r < σ.1 1)) : HM l yX1_at (ws_ yX1_at cX1_at 3 (some .long)) 12 10500 3 70 G X N0 [.ref (qN g), .int r, .int k] M PFF (SX G (X 0) g σ C9 M "java/lang/NullPointerException" (sz σ 0 1) z ca) := by
  refine HM.of hl [(0, .ref (qN g)), (1, .int r), (2, .int k)] (by decide +kernel) rfl (Nat.le_of_ble_eq_true rfl) ?_
  intro p e s m args below meth c C hname
  have hN := hR.N
  refine V_aload_n C dX1_at_0 rfl 0 rfl ?_
  refine V_iload_n C dX1_at_1 rfl 1 rfl ?_
  refine V_callV C (c_X1_rowOrNull_n l hl G X N0 M g σ z ca C9 hR hI r hr) cs_X1_227_0 hN (show CLS[0]? = some (RX1, TX1, 17) from rfl) rfl rfl ⟨Nat.le_of_ble_eq_true rfl, Nat.le_of_ble_eq_true rfl⟩ ⟨(by first | exact Nat.le_of_ble_eq_true rfl | omega | (dsimp only; omega) | (simp only [List.length_cons, List.length_nil]; omega)), (by first | exact Nat.le_of_ble_eq_true rfl | omega | (dsimp only; omega) | (simp only [List.length_cons, List.length_nil]; omega))⟩ (Nat.le_of_ble_eq_true rfl) dX1_at_2 (fun _ _ _ h => px0 h) ?_
  rintro _ _ ⟨rfl, rfl⟩
  refine V_st (st' := [.null]) rfl ?_
  refine V_iload_n C dX1_at_5 rfl 2 rfl ?_
  refine V_callS C (c_X1_get_n l hl G X N0 M k) cs_X1_91 rfl rfl ⟨Nat.le_of_ble_eq_true rfl, Nat.le_of_ble_eq_true rfl⟩ ⟨(by first | exact Nat.le_of_ble_eq_true rfl | omega | (dsimp only; omega) | (simp only [List.length_cons, List.length_nil]; omega)), (by first | exact Nat.le_of_ble_eq_true rfl | omega | (dsimp only; omega) | (simp only [List.length_cons, List.length_nil]; omega))⟩ (Nat.le_of_ble_eq_true rfl) dX1_at_6 ?_ (fun _ _ h => h.elim)
  rintro q9 _ _ ⟨rfl, rfl⟩
  exact VX_out C (fun z hz => by cases hz) (SX.of hR hp_fr.rf) (by first | exact Nat.le_of_ble_eq_true rfl | omega | (dsimp only; omega) | (simp only [List.length_cons, List.length_nil]; omega)) (by first | exact Nat.le_of_ble_eq_true rfl | omega | (dsimp only; omega) | (simp only [List.length_cons, List.length_nil]; omega))
set_option maxHeartbeats 1000000 in
theorem c_X1_at_2 (l : Launch) (hl : l.stackTraces = false) (G : hp_G) (X : Nat → Nat) (N0 : Nat) (M : hp_h) (g : RG) (σ : MS) (z : Nat → Int32) (ca : Int32) (C9 : Nat) (hR : REL G (X 0) g σ z ca C9 M) (hI : MI σ) (r : Nat) (k : Int32) (hr : r < nR σ) (hout : ¬ vp_in k (ln σ r)) : HM l yX1_at (ws_ yX1_at cX1_at 3 (some .long)) 12 10500 3 70 G X N0 [.ref (qN g), .int (nI r), .int k] M PFF (SX G (X 0) g σ C9 M "java/lang/ArrayIndexOutOfBoundsException" (sz σ 0 2) z ca) := by
  refine HM.of hl [(0, .ref (qN g)), (1, .int (nI r)), (2, .int k)] (by decide +kernel) rfl (Nat.le_of_ble_eq_true rfl) ?_
  intro p e s m args below meth c C hname
  have hN := hR.N
  refine V_aload_n C dX1_at_0 rfl 0 rfl ?_
  refine V_iload_n C dX1_at_1 rfl 1 rfl ?_
  refine V_callV C (c_X1_rowOrNull_r l hl G X N0 M g σ z ca C9 hR hI r hr) cs_X1_227_0 hN (show CLS[0]? = some (RX1, TX1, 17) from rfl) rfl rfl ⟨Nat.le_of_ble_eq_true rfl, Nat.le_of_ble_eq_true rfl⟩ ⟨(by first | exact Nat.le_of_ble_eq_true rfl | omega | (dsimp only; omega) | (simp only [List.length_cons, List.length_nil]; omega)), (by first | exact Nat.le_of_ble_eq_true rfl | omega | (dsimp only; omega) | (simp only [List.length_cons, List.length_nil]; omega))⟩ (Nat.le_of_ble_eq_true rfl) dX1_at_2 (fun _ _ _ h => px0 h) ?_
  rintro _ _ ⟨rfl, rfl⟩
  refine V_st (st' := [.ref (qR g r)]) rfl ?_
  obtain ⟨xr, hra, hrx, hrc⟩ := hR.rw hr
  obtain ⟨hkE, hkL⟩ := hI.k hr
  obtain ⟨hlE, hlL⟩ := hI.l hr
  refine V_iload_n C dX1_at_5 rfl 2 rfl ?_
  refine V_callS C (c_X1_get_out l hl G X N0 M (qR g r) (kd σ r) (ln σ r) k xr hra hrx (by omega) hout) cs_X1_91 rfl rfl ⟨Nat.le_of_ble_eq_true rfl, Nat.le_of_ble_eq_true rfl⟩ ⟨(by first | exact Nat.le_of_ble_eq_true rfl | omega | (dsimp only; omega) | (simp only [List.length_cons, List.length_nil]; omega)), (by first | exact Nat.le_of_ble_eq_true rfl | omega | (dsimp only; omega) | (simp only [List.length_cons, List.length_nil]; omega))⟩ (Nat.le_of_ble_eq_true rfl) dX1_at_6 ?_ (fun _ _ h => h.elim)
  rintro q9 _ _ ⟨rfl, rfl⟩
  exact VX_out C (fun z hz => by cases hz) (SX.of hR hp_fr.rf) (by first | exact Nat.le_of_ble_eq_true rfl | omega | (dsimp only; omega) | (simp only [List.length_cons, List.length_nil]; omega)) (by first | exact Nat.le_of_ble_eq_true rfl | omega | (dsimp only; omega) | (simp only [List.length_cons, List.length_nil]; omega))
set_option maxHeartbeats 1000000 in
theorem c_X1_at_k (l : Launch) (hl : l.stackTraces = false) (G : hp_G) (X : Nat → Nat) (N0 : Nat) (M : hp_h) (g : RG) (σ : MS) (z : Nat → Int32) (ca : Int32) (C9 : Nat) (hR : REL G (X 0) g σ z ca C9 M) (hI : MI σ) (r i : Nat) (hr : r < nR σ) (hi : i < ln σ r) (hk9 : kd σ r ≤ 9) : HM l yX1_at (ws_ yX1_at cX1_at 3 (some .long)) 12 10500 3 70 G X N0 [.ref (qN g), .int (nI r), .int (nI i)] M (PV (.long (el σ r i)) M) PX0 := by
  refine HM.of hl [(0, .ref (qN g)), (1, .int (nI r)), (2, .int (nI i))] (by decide +kernel) rfl (Nat.le_of_ble_eq_true rfl) ?_
  intro p e s m args below meth c C hname
  have hN := hR.N
  refine V_aload_n C dX1_at_0 rfl 0 rfl ?_
  refine V_iload_n C dX1_at_1 rfl 1 rfl ?_
  refine V_callV C (c_X1_rowOrNull_r l hl G X N0 M g σ z ca C9 hR hI r hr) cs_X1_227_0 hN (show CLS[0]? = some (RX1, TX1, 17) from rfl) rfl rfl ⟨Nat.le_of_ble_eq_true rfl, Nat.le_of_ble_eq_true rfl⟩ ⟨(by first | exact Nat.le_of_ble_eq_true rfl | omega | (dsimp only; omega) | (simp only [List.length_cons, List.length_nil]; omega)), (by first | exact Nat.le_of_ble_eq_true rfl | omega | (dsimp only; omega) | (simp only [List.length_cons, List.length_nil]; omega))⟩ (Nat.le_of_ble_eq_true rfl) dX1_at_2 (fun _ _ _ h => px0 h) ?_
  rintro _ _ ⟨rfl, rfl⟩
  refine V_st (st' := [.ref (qR g r)]) rfl ?_
  obtain ⟨xr, hra, hrx, hrc⟩ := hR.rw hr
  obtain ⟨hkE, hkL⟩ := hI.k hr
  obtain ⟨hlE, hlL⟩ := hI.l hr
  refine V_iload_n C dX1_at_5 rfl 2 rfl ?_
  refine V_callS C (c_X1_get l hl G X N0 M (qR g r) (kd σ r) i xr (el σ r i) hk9 hra (by rw [hrx.1]; omega) (by rw [hrx.1]; exact hi) (hrc i hi) (hR.UH hI)) cs_X1_91 rfl rfl ⟨Nat.le_of_ble_eq_true rfl, Nat.le_of_ble_eq_true rfl⟩ ⟨(by first | exact Nat.le_of_ble_eq_true rfl | omega | (dsimp only; omega) | (simp only [List.length_cons, List.length_nil]; omega)), (by first | exact Nat.le_of_ble_eq_true rfl | omega | (dsimp only; omega) | (simp only [List.length_cons, List.length_nil]; omega))⟩ (Nat.le_of_ble_eq_true rfl) dX1_at_6 (fun _ _ _ h => px0 h) ?_
  rintro _ _ ⟨rfl, rfl⟩
  refine V_st (st' := [.long (el σ r i)]) rfl ?_
  refine V_lret C dX1_at_9 rfl ?_ (by first | exact Nat.le_of_ble_eq_true rfl | omega | (dsimp only; omega) | (simp only [List.length_cons, List.length_nil]; omega)) (by first | exact Nat.le_of_ble_eq_true rfl | omega | (dsimp only; omega) | (simp only [List.length_cons, List.length_nil]; omega))
  exact ⟨rfl, rfl⟩
set_option maxHeartbeats 1000000 in
theorem c_X1_at_n (l : Launch) (hl : l.stackTraces = false) (G : hp_G) (X : Nat → Nat) (N0 : Nat) (M : hp_h) (g : RG) (σ : MS) (z : Nat → Int32) (ca : Int32) (C9 : Nat) (hR : REL G (X 0) g σ z ca C9 M) (hI : MI σ) (r i : Nat) (hr : r < nR σ) (hi : i < ln σ r) (hk9 : kd σ r = 10) (he : el σ r i = -1) : HM l yX1_at (ws_ yX1_at cX1_at 3 (some .long)) 12 10500 3 70 G X N0 [.ref (qN g), .int (nI r), .int (nI i)] M (PV (.long (-1)) M) PX0 := by
  refine HM.of hl [(0, .ref (qN g)), (1, .int (nI r)), (2, .int (nI i))] (by decide +kernel) rfl (Nat.le_of_ble_eq_true rfl) ?_
  intro p e s m args below meth c C hname
  have hN := hR.N
  refine V_aload_n C dX1_at_0 rfl 0 rfl ?_
  refine V_iload_n C dX1_at_1 rfl 1 rfl ?_
  refine V_callV C (c_X1_rowOrNull_r l hl G X N0 M g σ z ca C9 hR hI r hr) cs_X1_227_0 hN (show CLS[0]? = some (RX1, TX1, 17) from rfl) rfl rfl ⟨Nat.le_of_ble_eq_true rfl, Nat.le_of_ble_eq_true rfl⟩ ⟨(by first | exact Nat.le_of_ble_eq_true rfl | omega | (dsimp only; omega) | (simp only [List.length_cons, List.length_nil]; omega)), (by first | exact Nat.le_of_ble_eq_true rfl | omega | (dsimp only; omega) | (simp only [List.length_cons, List.length_nil]; omega))⟩ (Nat.le_of_ble_eq_true rfl) dX1_at_2 (fun _ _ _ h => px0 h) ?_
  rintro _ _ ⟨rfl, rfl⟩
  refine V_st (st' := [.ref (qR g r)]) rfl ?_
  obtain ⟨xr, hra, hrx, hrc⟩ := hR.rw hr
  obtain ⟨hkE, hkL⟩ := hI.k hr
  obtain ⟨hlE, hlL⟩ := hI.l hr
  obtain ⟨f10, hf1, hf2⟩ := hR.r10 hr hk9
  have hfi : f10 i = none := by
    rcases hf2 i hi with y | ⟨j, h1, h2, h3⟩
    · exact y.2
    · exact absurd (he.symm.trans h2) (lN_n1 (by have := hI.J.2; omega))
  refine V_iload_n C dX1_at_5 rfl 2 rfl ?_
  refine V_callS C (c_X1_get_10n l hl G X N0 M (qR g r) (ln σ r) i f10 hf1 (by omega) hi hfi) cs_X1_91 rfl rfl ⟨Nat.le_of_ble_eq_true rfl, Nat.le_of_ble_eq_true rfl⟩ ⟨(by first | exact Nat.le_of_ble_eq_true rfl | omega | (dsimp only; omega) | (simp only [List.length_cons, List.length_nil]; omega)), (by first | exact Nat.le_of_ble_eq_true rfl | omega | (dsimp only; omega) | (simp only [List.length_cons, List.length_nil]; omega))⟩ (Nat.le_of_ble_eq_true rfl) dX1_at_6 (fun _ _ _ h => px0 h) ?_
  rintro _ _ ⟨rfl, rfl⟩
  refine V_st (st' := [.long (-1)]) rfl ?_
  refine V_lret C dX1_at_9 rfl ?_ (by first | exact Nat.le_of_ble_eq_true rfl | omega | (dsimp only; omega) | (simp only [List.length_cons, List.length_nil]; omega)) (by first | exact Nat.le_of_ble_eq_true rfl | omega | (dsimp only; omega) | (simp only [List.length_cons, List.length_nil]; omega))
  exact ⟨rfl, rfl⟩
set_option maxHeartbeats 1000000 in
theorem c_X1_at_s (l : Launch) (hl : l.stackTraces = false) (G : hp_G) (X : Nat → Nat) (N0 : Nat) (M : hp_h) (g : RG) (σ : MS) (z : Nat → Int32) (ca : Int32) (C9 : Nat) (hR : REL G (X 0) g σ z ca C9 M) (hI : MI σ) (r i : Nat) (hr : r < nR σ) (hi : i < ln σ r) (j : Nat) (hj : j < nJ σ) (hk9 : kd σ r = 10) (he : el σ r i = lN j) : HM l yX1_at (ws_ yX1_at cX1_at 3 (some .long)) 12 10500 3 70 G X N0 [.ref (qN g), .int (nI r), .int (nI i)] M (PV (.long (lN (iln σ j))) M) PX0 := by
  refine HM.of hl [(0, .ref (qN g)), (1, .int (nI r)), (2, .int (nI i))] (by decide +kernel) rfl (Nat.le_of_ble_eq_true rfl) ?_
  intro p e s m args below meth c C hname
  have hN := hR.N
  refine V_aload_n C dX1_at_0 rfl 0 rfl ?_
  refine V_iload_n C dX1_at_1 rfl 1 rfl ?_
  refine V_callV C (c_X1_rowOrNull_r l hl G X N0 M g σ z ca C9 hR hI r hr) cs_X1_227_0 hN (show CLS[0]? = some (RX1, TX1, 17) from rfl) rfl rfl ⟨Nat.le_of_ble_eq_true rfl, Nat.le_of_ble_eq_true rfl⟩ ⟨(by first | exact Nat.le_of_ble_eq_true rfl | omega | (dsimp only; omega) | (simp only [List.length_cons, List.length_nil]; omega)), (by first | exact Nat.le_of_ble_eq_true rfl | omega | (dsimp only; omega) | (simp only [List.length_cons, List.length_nil]; omega))⟩ (Nat.le_of_ble_eq_true rfl) dX1_at_2 (fun _ _ _ h => px0 h) ?_
  rintro _ _ ⟨rfl, rfl⟩
  refine V_st (st' := [.ref (qR g r)]) rfl ?_
  obtain ⟨xr, hra, hrx, hrc⟩ := hR.rw hr
  obtain ⟨hkE, hkL⟩ := hI.k hr
  obtain ⟨hlE, hlL⟩ := hI.l hr
  obtain ⟨f10, hf1, hf2⟩ := hR.r10 hr hk9
  have hfi : f10 i = some (qJ g j) := by
    rcases hf2 i hi with y | ⟨j, h1, h2, h3⟩
    · exact absurd (y.1.symm.trans he) (lN_n1 (by have := hI.J.2; omega))
    · rw [h3, lN_inj (by have := hI.J.2; omega) (by have := hI.J.2; omega) (he.symm.trans h2)]
  obtain ⟨fj, hj1, hj2⟩ := hR.ji hj
  have hjl := (hI.il hj).2
  refine V_iload_n C dX1_at_5 rfl 2 rfl ?_
  refine V_callS C (c_X1_get_10s l hl G X N0 M (qR g r) (ln σ r) i f10 hf1 (by omega) hi (qJ g j) (iln σ j) fj hfi hj1 (by omega)) cs_X1_91 rfl rfl ⟨Nat.le_of_ble_eq_true rfl, Nat.le_of_ble_eq_true rfl⟩ ⟨(by first | exact Nat.le_of_ble_eq_true rfl | omega | (dsimp only; omega) | (simp only [List.length_cons, List.length_nil]; omega)), (by first | exact Nat.le_of_ble_eq_true rfl | omega | (dsimp only; omega) | (simp only [List.length_cons, List.length_nil]; omega))⟩ (Nat.le_of_ble_eq_true rfl) dX1_at_6 (fun _ _ _ h => px0 h) ?_
  rintro _ _ ⟨rfl, rfl⟩
  refine V_st (st' := [.long (lN (iln σ j))]) rfl ?_
  refine V_lret C dX1_at_9 rfl ?_ (by first | exact Nat.le_of_ble_eq_true rfl | omega | (dsimp only; omega) | (simp only [List.length_cons, List.length_nil]; omega)) (by first | exact Nat.le_of_ble_eq_true rfl | omega | (dsimp only; omega) | (simp only [List.length_cons, List.length_nil]; omega))
  exact ⟨rfl, rfl⟩
theorem c_X1_at_0 (l : Launch) (hl : l.stackTraces = false) (G : hp_G) (X : Nat → Nat) (N0 : Nat) (M : hp_h) (g : RG) (σ : MS) (z : Nat → Int32) (ca : Int32) (C9 : Nat) (hR : REL G (X 0) g σ z ca C9 M) (hI : MI σ) (r i : Nat) (hr : r < nR σ) (hi : i < ln σ r) : HM l yX1_at (ws_ yX1_at cX1_at 3 (some .long)) 12 10500 3 70 G X N0 [.ref (qN g), .int (nI r), .int (nI i)] M (PV (.long (mf_at (nI r) (nI i) σ).1) M) PX0 := by
  rw [at_in hI hr hi]
  by_cases hk9 : kd σ r = 10
  · have hk : σ.2.1 2 r = 10 := by rw [(hI.k hr).1, hk9]; rfl
    rcases hI.ej hr hi hk9 with he | ⟨j, hj, he⟩
    · have := c_X1_at_n l hl G X N0 M g σ z ca C9 hR hI r i hr hi hk9 he
      rw [if_neg (fun y => y.2 (by rw [he]; decide)), he]
      exact this
    · have := c_X1_at_s l hl G X N0 M g σ z ca C9 hR hI r i hr hi j hj hk9 he
      have hj8 := hI.J.2
      rw [if_pos ⟨hk, by rw [he]; exact lN_neg (by omega)⟩, he, lN_i, nI_clamp (by omega), (hI.il hj).1, nI_l (by have := (hI.il hj).2; omega)]
      exact this
  · have hk : ¬ σ.2.1 2 r = 10 := fun y => hk9 (by have h1 := (hI.k hr).1; rw [y] at h1; exact ((nI_eq (b := 10) (by have := (hI.k hr).2; omega) (by decide)).mp h1.symm))
    rw [if_neg (fun y => hk y.1)]
    exact c_X1_at_k l hl G X N0 M g σ z ca C9 hR hI r i hr hi (by have := (hI.k hr).2; omega)
set_option maxHeartbeats 1000000 in
theorem c_X1_put2_1 (l : Launch) (hl : l.stackTraces = false) (G : hp_G) (X : Nat → Nat) (N0 : Nat) (M : hp_h) (g : RG) (σ : MS) (z : Nat → Int32) (ca : Int32) (C9 : Nat) (hR : REL G (X 0) g σ z ca C9 M) (hI : MI σ) (r k : Int32) (b : Int64) (hr : ¬ (¬ r < 0 ∧ r < σ.1 1)) : HM l yX1_put_2 (ws_ yX1_put_2 cX1_put_2 9 (some .int)) 14 10800 4 110 G X N0 [.ref (qN g), .int r, .int k, .long b] M PFF (SX G (X 0) g σ C9 M "java/lang/NullPointerException" (sz σ 0 1) z ca) := by
  refine HM.of hl [(0, .ref (qN g)), (1, .int r), (2, .int k), (3, .long b)] (by decide +kernel) rfl (Nat.le_of_ble_eq_true rfl) ?_
  intro p e s m args below meth c C hname
  have hN := hR.N
  refine V_aload_n C dX1_put_2_0 rfl 0 rfl ?_
  refine V_iload_n C dX1_put_2_1 rfl 1 rfl ?_
  refine V_callV C (c_X1_rowOrNull_n l hl G X N0 M g σ z ca C9 hR hI r hr) cs_X1_227_0 hN (show CLS[0]? = some (RX1, TX1, 17) from rfl) rfl rfl ⟨Nat.le_of_ble_eq_true rfl, Nat.le_of_ble_eq_true rfl⟩ ⟨(by first | exact Nat.le_of_ble_eq_true rfl | omega | (dsimp only; omega) | (simp only [List.length_cons, List.length_nil]; omega)), (by first | exact Nat.le_of_ble_eq_true rfl | omega | (dsimp only; omega) | (simp only [List.length_cons, List.length_nil]; omega))⟩ (Nat.le_of_ble_eq_true rfl) dX1_put_2_2 (fun _ _ _ h => px0 h) ?_
  rintro _ _ ⟨rfl, rfl⟩
  refine V_st (st' := [.null]) rfl ?_
  refine V_astoreN C dX1_put_2_5 (Nat.le_of_ble_eq_true rfl) [(0, .ref (qN g)), (1, .int r), (2, .int k), (3, .long b), (5, .null)] [1, 2, 3, 4, 0] rfl ?_
  refine V_aloadN C dX1_put_2_7 4 rfl ?_
  refine V_callS C (c_X1_sizeOf_n l hl G X N0 M) cs_X1_35 rfl rfl ⟨Nat.le_of_ble_eq_true rfl, Nat.le_of_ble_eq_true rfl⟩ ⟨(by first | exact Nat.le_of_ble_eq_true rfl | omega | (dsimp only; omega) | (simp only [List.length_cons, List.length_nil]; omega)), (by first | exact Nat.le_of_ble_eq_true rfl | omega | (dsimp only; omega) | (simp only [List.length_cons, List.length_nil]; omega))⟩ (Nat.le_of_ble_eq_true rfl) dX1_put_2_9 ?_ (fun _ _ h => h.elim)
  rintro q9 _ _ ⟨rfl, rfl⟩
  exact VX_out C (fun z hz => by cases hz) (SX.of hR hp_fr.rf) (by first | exact Nat.le_of_ble_eq_true rfl | omega | (dsimp only; omega) | (simp only [List.length_cons, List.length_nil]; omega)) (by first | exact Nat.le_of_ble_eq_true rfl | omega | (dsimp only; omega) | (simp only [List.length_cons, List.length_nil]; omega))
set_option maxHeartbeats 1000000 in
theorem c_X1_put2_2 (l : Launch) (hl : l.stackTraces = false) (G : hp_G) (X : Nat → Nat) (N0 : Nat) (M : hp_h) (g : RG) (σ : MS) (z : Nat → Int32) (ca : Int32) (C9 : Nat) (hR : REL G (X 0) g σ z ca C9 M) (hI : MI σ) (r : Nat) (k : Int32) (b : Int64) (hr : r < nR σ) (hg : ¬ mf_goes σ (nI (kd σ r)) b) : HM l yX1_put_2 (ws_ yX1_put_2 cX1_put_2 9 (some .int)) 14 10800 4 110 G X N0 [.ref (qN g), .int (nI r), .int k, .long b] M PFF (SX G (X 0) g σ C9 M "java/lang/IllegalArgumentException" (sz σ 0 2) z ca) := by
  refine HM.of hl [(0, .ref (qN g)), (1, .int (nI r)), (2, .int k), (3, .long b)] (by decide +kernel) rfl (Nat.le_of_ble_eq_true rfl) ?_
  intro p e s m args below meth c C hname
  have hN := hR.N
  refine V_aload_n C dX1_put_2_0 rfl 0 rfl ?_
  refine V_iload_n C dX1_put_2_1 rfl 1 rfl ?_
  refine V_callV C (c_X1_rowOrNull_r l hl G X N0 M g σ z ca C9 hR hI r hr) cs_X1_227_0 hN (show CLS[0]? = some (RX1, TX1, 17) from rfl) rfl rfl ⟨Nat.le_of_ble_eq_true rfl, Nat.le_of_ble_eq_true rfl⟩ ⟨(by first | exact Nat.le_of_ble_eq_true rfl | omega | (dsimp only; omega) | (simp only [List.length_cons, List.length_nil]; omega)), (by first | exact Nat.le_of_ble_eq_true rfl | omega | (dsimp only; omega) | (simp only [List.length_cons, List.length_nil]; omega))⟩ (Nat.le_of_ble_eq_true rfl) dX1_put_2_2 (fun _ _ _ h => px0 h) ?_
  rintro _ _ ⟨rfl, rfl⟩
  refine V_st (st' := [.ref (qR g r)]) rfl ?_
  obtain ⟨xr, hra, hrx, hrc⟩ := hR.rw hr
  obtain ⟨hkE, hkL⟩ := hI.k hr
  obtain ⟨hlE, hlL⟩ := hI.l hr
  refine V_astore C dX1_put_2_5 (Nat.le_of_ble_eq_true rfl) [(0, .ref (qN g)), (1, .int (nI r)), (2, .int k), (3, .long b), (5, .ref (qR g r))] [1, 2, 3, 4, 0] rfl ?_
  refine V_aload C dX1_put_2_7 4 rfl ?_
  refine V_callS C (c_X1_sizeOf l hl G X N0 M (qR g r) (kd σ r) hkL xr hra) cs_X1_35 rfl rfl ⟨Nat.le_of_ble_eq_true rfl, Nat.le_of_ble_eq_true rfl⟩ ⟨(by first | exact Nat.le_of_ble_eq_true rfl | omega | (dsimp only; omega) | (simp only [List.length_cons, List.length_nil]; omega)), (by first | exact Nat.le_of_ble_eq_true rfl | omega | (dsimp only; omega) | (simp only [List.length_cons, List.length_nil]; omega))⟩ (Nat.le_of_ble_eq_true rfl) dX1_put_2_9 (fun _ _ _ h => px0 h) ?_
  rintro _ _ ⟨rfl, rfl⟩
  refine V_st (st' := [.int (nI xr.1)]) rfl ?_
  refine V_st (st' := [.int (nI (ln σ r))]) (by rw [hrx.1]) ?_
  refine V_istore C dX1_put_2_12 (Nat.le_of_ble_eq_true rfl) [(0, .ref (qN g)), (1, .int (nI r)), (2, .int k), (3, .long b), (5, .ref (qR g r)), (6, .int (nI (ln σ r)))] [1, 2, 3, 4, 5, 0] rfl ?_
  refine V_aload C dX1_put_2_14 4 rfl ?_
  refine V_callS C (c_X1_kindOf l hl G X N0 M (qR g r) (kd σ r) hkL xr hra) cs_X1_25 rfl rfl ⟨Nat.le_of_ble_eq_true rfl, Nat.le_of_ble_eq_true rfl⟩ ⟨(by first | exact Nat.le_of_ble_eq_true rfl | omega | (dsimp only; omega) | (simp only [List.length_cons, List.length_nil]; omega)), (by first | exact Nat.le_of_ble_eq_true rfl | omega | (dsimp only; omega) | (simp only [List.length_cons, List.length_nil]; omega))⟩ (Nat.le_of_ble_eq_true rfl) dX1_put_2_16 (fun _ _ _ h => px0 h) ?_
  rintro _ _ ⟨rfl, rfl⟩
  refine V_st (st' := [.int (nI (kd σ r))]) rfl ?_
  refine V_istore C dX1_put_2_19 (Nat.le_of_ble_eq_true rfl) [(0, .ref (qN g)), (1, .int (nI r)), (2, .int k), (3, .long b), (5, .ref (qR g r)), (6, .int (nI (ln σ r))), (7, .int (nI (kd σ r)))] [1, 2, 3, 4, 5, 6, 0] rfl ?_
  refine V_iload C dX1_put_2_21 5 rfl ?_
  refine V_pc (pc1 := 23) rfl ?_
  refine V_if_lt (tgt := 36) C dX1_put_2_23 (by decide) (fun c_23 => ?_) (fun c_23 => ?_)
  · exact absurd c_23 (nI_pos (by omega))
  · refine V_aload_n C dX1_put_2_26 rfl 0 rfl ?_
    refine V_iload C dX1_put_2_27 6 rfl ?_
    refine V_lload_n C dX1_put_2_29 rfl 3 rfl ?_
    refine V_callV C (c_X1_goes l hl G X N0 M g σ z ca C9 hR hI (kd σ r) b hkL) cs_X1_230_0 hN (show CLS[0]? = some (RX1, TX1, 17) from rfl) rfl rfl ⟨Nat.le_of_ble_eq_true rfl, Nat.le_of_ble_eq_true rfl⟩ ⟨(by first | exact Nat.le_of_ble_eq_true rfl | omega | (dsimp only; omega) | (simp only [List.length_cons, List.length_nil]; omega)), (by first | exact Nat.le_of_ble_eq_true rfl | omega | (dsimp only; omega) | (simp only [List.length_cons, List.length_nil]; omega))⟩ (Nat.le_of_ble_eq_true rfl) dX1_put_2_30 (fun _ _ _ h => px0 h) ?_
    rintro _ _ ⟨rfl, rfl⟩
    refine V_st (st' := [.int (bI (mf_goes σ (nI (kd σ r)) b))]) rfl ?_
    refine V_if_ne (tgt := 44) C dX1_put_2_33 (by decide) (fun c_33 => ?_) (fun c_33 => ?_)
    · exact absurd (bI_n.mp c_33) hg
    · exact V_throwIAE C q1427 q90 dX1_put_2_36 dX1_put_2_39 dX1_put_2_40 dX1_put_2_43 ⟨Nat.le_of_ble_eq_true rfl, Nat.le_of_ble_eq_true rfl⟩ ⟨(by first | exact Nat.le_of_ble_eq_true rfl | omega | (dsimp only; omega) | (simp only [List.length_cons, List.length_nil]; omega)), (by first | exact Nat.le_of_ble_eq_true rfl | omega | (dsimp only; omega) | (simp only [List.length_cons, List.length_nil]; omega))⟩ (fun q9 => SX.of hR hp_fr.rf) ⟨(by first | exact Nat.le_of_ble_eq_true rfl | omega | (dsimp only; omega) | (simp only [List.length_cons, List.length_nil]; omega)), (by first | exact Nat.le_of_ble_eq_true rfl | omega | (dsimp only; omega) | (simp only [List.length_cons, List.length_nil]; omega))⟩
theorem RELY.asU {G : hp_G} {E0 : Nat} {g : RG} {σ : MS} {z : Nat → Int32} {ca : Int32} {C : Nat} {Y : Nat → Prop} {M : hp_h} (h : RELY G E0 g σ z ca C Y M) (hI : MI σ) {u : Nat} (hu : u < nU σ) : hp_AS G M (KTZ 8) (qU g u) := by
  obtain ⟨ci, h1, h2⟩ := h.unc hI hu
  rcases h1 with rfl | rfl | rfl
  · exact Or.inl ⟨_, 5, _, (RX21, TX21, 2), rfl, h2, rfl, Or.inl rfl⟩
  · exact Or.inl ⟨_, 6, _, (RX22, TX22, 2), rfl, h2, rfl, Or.inr q1832⟩
  · exact Or.inl ⟨_, 7, _, (RX23, TX23, 2), rfl, h2, rfl, Or.inr q1833⟩
theorem RELY.asC {G : hp_G} {E0 : Nat} {g : RG} {σ : MS} {z : Nat → Int32} {ca : Int32} {C : Nat} {Y : Nat → Prop} {M : hp_h} (h : RELY G E0 g σ z ca C Y M) (hI : MI σ) {u : Nat} (hu : u < nU σ) (hc : (σ.2.1 6 u).toNatClampNeg ≠ 0) : hp_AS G M (KTZ 9) (qU g u) := by
  have h2 := h.un hu
  have h3 := (hI.cN hu).1
  obtain h4 | h4 : (σ.2.1 6 u).toNatClampNeg = 1 ∨ (σ.2.1 6 u).toNatClampNeg = 2 := by omega
  · rw [h4] at h2; exact Or.inl ⟨_, 6, _, (RX22, TX22, 2), rfl, h2, rfl, Or.inl rfl⟩
  · rw [h4] at h2; exact Or.inl ⟨_, 7, _, (RX23, TX23, 2), rfl, h2, rfl, Or.inr q1878⟩
theorem lN_c0 {m : Nat} (h : m < 2 ^ 31) : ¬ lg_cmp (lN m) 0 < 0 := fun e => by
  simp only [lg_cmp_lt, lg_cmp_gt, lg_cmp_ge, lg_cmp_le, lg_cmp_eq] at e
  exact lN_neg h e
set_option maxHeartbeats 1000000 in
theorem c_X1_put2_3A (l : Launch) (hl : l.stackTraces = false) (G : hp_G) (X : Nat → Nat) (N0 : Nat) (M : hp_h) (g : RG) (σ : MS) (z : Nat → Int32) (ca : Int32) (C9 : Nat) (hR : REL G (X 0) g σ z ca C9 M) (hI : MI σ) (r : Nat) (k : Int32) (hr : r < nR σ) (hout : ¬ vp_in k (ln σ r)) (hk7 : kd σ r ≤ 7) (b : Int64) (hg : mf_goes σ (nI (kd σ r)) b) : HM l yX1_put_2 (ws_ yX1_put_2 cX1_put_2 9 (some .int)) 14 10800 4 110 G X N0 [.ref (qN g), .int (nI r), .int k, .long b] M PFF (SX G (X 0) g σ C9 M "java/lang/ArrayIndexOutOfBoundsException" (sz σ 0 3) z ca) := by
  refine HM.of hl [(0, .ref (qN g)), (1, .int (nI r)), (2, .int k), (3, .long b)] (by decide +kernel) rfl (Nat.le_of_ble_eq_true rfl) ?_
  intro p e s m args below meth c C hname
  have hN := hR.N
  obtain ⟨mdU, hUl⟩ := hR.Ul
  obtain ⟨fU, hUs, hUf⟩ := hR.Uls
  refine V_aload_n C dX1_put_2_0 rfl 0 rfl ?_
  refine V_iload_n C dX1_put_2_1 rfl 1 rfl ?_
  refine V_callV C (c_X1_rowOrNull_r l hl G X N0 M g σ z ca C9 hR hI r hr) cs_X1_227_0 hN (show CLS[0]? = some (RX1, TX1, 17) from rfl) rfl rfl ⟨Nat.le_of_ble_eq_true rfl, Nat.le_of_ble_eq_true rfl⟩ ⟨(by first | exact Nat.le_of_ble_eq_true rfl | omega | (dsimp only; omega) | (simp only [List.length_cons, List.length_nil]; omega)), (by first | exact Nat.le_of_ble_eq_true rfl | omega | (dsimp only; omega) | (simp only [List.length_cons, List.length_nil]; omega))⟩ (Nat.le_of_ble_eq_true rfl) dX1_put_2_2 (fun _ _ _ h => px0 h) ?_
  rintro _ _ ⟨rfl, rfl⟩
  refine V_st (st' := [.ref (qR g r)]) rfl ?_
  obtain ⟨xr, hra, hrx, hrc⟩ := hR.rw hr
  obtain ⟨hkE, hkL⟩ := hI.k hr
  obtain ⟨hlE, hlL⟩ := hI.l hr
  refine V_astore C dX1_put_2_5 (Nat.le_of_ble_eq_true rfl) [(0, .ref (qN g)), (1, .int (nI r)), (2, .int k), (3, .long b), (5, .ref (qR g r))] [1, 2, 3, 4, 0] rfl ?_
  refine V_aload C dX1_put_2_7 4 rfl ?_
  refine V_callS C (c_X1_sizeOf l hl G X N0 M (qR g r) (kd σ r) (show kd σ r ≤ 10 by omega) xr hra) cs_X1_35 rfl rfl ⟨Nat.le_of_ble_eq_true rfl, Nat.le_of_ble_eq_true rfl⟩ ⟨(by first | exact Nat.le_of_ble_eq_true rfl | omega | (dsimp only; omega) | (simp only [List.length_cons, List.length_nil]; omega)), (by first | exact Nat.le_of_ble_eq_true rfl | omega | (dsimp only; omega) | (simp only [List.length_cons, List.length_nil]; omega))⟩ (Nat.le_of_ble_eq_true rfl) dX1_put_2_9 (fun _ _ _ h => px0 h) ?_
  rintro _ _ ⟨rfl, rfl⟩
  refine V_st (st' := [.int (nI xr.1)]) rfl ?_
  refine V_st (st' := [.int (nI (ln σ r))]) (by rw [hrx.1]) ?_
  refine V_istore C dX1_put_2_12 (Nat.le_of_ble_eq_true rfl) [(0, .ref (qN g)), (1, .int (nI r)), (2, .int k), (3, .long b), (5, .ref (qR g r)), (6, .int (nI (ln σ r)))] [1, 2, 3, 4, 5, 0] rfl ?_
  refine V_aload C dX1_put_2_14 4 rfl ?_
  refine V_callS C (c_X1_kindOf l hl G X N0 M (qR g r) (kd σ r) (show kd σ r ≤ 10 by omega) xr hra) cs_X1_25 rfl rfl ⟨Nat.le_of_ble_eq_true rfl, Nat.le_of_ble_eq_true rfl⟩ ⟨(by first | exact Nat.le_of_ble_eq_true rfl | omega | (dsimp only; omega) | (simp only [List.length_cons, List.length_nil]; omega)), (by first | exact Nat.le_of_ble_eq_true rfl | omega | (dsimp only; omega) | (simp only [List.length_cons, List.length_nil]; omega))⟩ (Nat.le_of_ble_eq_true rfl) dX1_put_2_16 (fun _ _ _ h => px0 h) ?_
  rintro _ _ ⟨rfl, rfl⟩
  refine V_st (st' := [.int (nI (kd σ r))]) rfl ?_
  refine V_istore C dX1_put_2_19 (Nat.le_of_ble_eq_true rfl) [(0, .ref (qN g)), (1, .int (nI r)), (2, .int k), (3, .long b), (5, .ref (qR g r)), (6, .int (nI (ln σ r))), (7, .int (nI (kd σ r)))] [1, 2, 3, 4, 5, 6, 0] rfl ?_
  refine V_iload C dX1_put_2_21 5 rfl ?_
  refine V_pc (pc1 := 23) rfl ?_
  refine V_if_lt (tgt := 36) C dX1_put_2_23 (by decide) (fun c_23 => ?_) (fun c_23 => ?_)
  · exact absurd c_23 (nI_pos (by omega))
  · refine V_aload_n C dX1_put_2_26 rfl 0 rfl ?_
    refine V_iload C dX1_put_2_27 6 rfl ?_
    refine V_lload_n C dX1_put_2_29 rfl 3 rfl ?_
    refine V_callV C (c_X1_goes l hl G X N0 M g σ z ca C9 hR hI (kd σ r) b (show kd σ r ≤ 10 by omega)) cs_X1_230_0 hN (show CLS[0]? = some (RX1, TX1, 17) from rfl) rfl rfl ⟨Nat.le_of_ble_eq_true rfl, Nat.le_of_ble_eq_true rfl⟩ ⟨(by first | exact Nat.le_of_ble_eq_true rfl | omega | (dsimp only; omega) | (simp only [List.length_cons, List.length_nil]; omega)), (by first | exact Nat.le_of_ble_eq_true rfl | omega | (dsimp only; omega) | (simp only [List.length_cons, List.length_nil]; omega))⟩ (Nat.le_of_ble_eq_true rfl) dX1_put_2_30 (fun _ _ _ h => px0 h) ?_
    rintro _ _ ⟨rfl, rfl⟩
    refine V_st (st' := [.int (bI (mf_goes σ (nI (kd σ r)) b))]) rfl ?_
    refine V_if_ne (tgt := 44) C dX1_put_2_33 (by decide) (fun c_33 => ?_) (fun c_33 => ?_)
    · refine V_iload C dX1_put_2_44 6 rfl ?_
      refine V_bipush (v := 8) C dX1_put_2_46 rfl ?_
      refine V_icmp_eq (tgt := 58) C dX1_put_2_48 (by decide) (fun c_48 => ?_) (fun c_48 => ?_)
      · exact absurd ((nI_eq (b := 8) (by omega) (by decide)).mp c_48) (by omega)
      · refine V_iload C dX1_put_2_51 6 rfl ?_
        refine V_bipush (v := 9) C dX1_put_2_53 rfl ?_
        refine V_icmp_ne (tgt := 66) C dX1_put_2_55 (by decide) (fun c_55 => ?_) (fun c_55 => ?_)
        · refine V_pc (pc1 := 66) rfl ?_
          refine V_null C dX1_put_2_66 ?_
          refine V_astoreN C dX1_put_2_67 (Nat.le_of_ble_eq_true rfl) [(0, .ref (qN g)), (1, .int (nI r)), (2, .int k), (3, .long b), (5, .ref (qR g r)), (6, .int (nI (ln σ r))), (7, .int (nI (kd σ r))), (8, .null)] [1, 2, 3, 4, 5, 6, 7, 0] rfl ?_
          refine V_aload C dX1_put_2_69 4 rfl ?_
          refine V_iload_n C dX1_put_2_71 rfl 2 rfl ?_
          refine V_lload_n C dX1_put_2_72 rfl 3 rfl ?_
          refine V_aloadN C dX1_put_2_73 7 rfl ?_
          refine V_iload C dX1_put_2_75 6 rfl ?_
          refine V_bipush (v := 10) C dX1_put_2_77 rfl ?_
          refine V_icmp_ne (tgt := 95) C dX1_put_2_79 (by decide) (fun c_79 => ?_) (fun c_79 => ?_)
          · refine V_null C dX1_put_2_95 ?_
            refine V_callS C (c_X1_put_out l hl G X N0 M (qR g r) (kd σ r) (ln σ r) k xr hra hrx (by omega) hout b none none) cs_X1_241 rfl rfl ⟨Nat.le_of_ble_eq_true rfl, Nat.le_of_ble_eq_true rfl⟩ ⟨(by first | exact Nat.le_of_ble_eq_true rfl | omega | (dsimp only; omega) | (simp only [List.length_cons, List.length_nil]; omega)), (by first | exact Nat.le_of_ble_eq_true rfl | omega | (dsimp only; omega) | (simp only [List.length_cons, List.length_nil]; omega))⟩ (Nat.le_of_ble_eq_true rfl) dX1_put_2_96 ?_ (fun _ _ h => h.elim)
            rintro q9 _ _ ⟨rfl, rfl⟩
            exact VX_out C (fun z hz => by cases hz) (SX.of hR hp_fr.rf) (by first | exact Nat.le_of_ble_eq_true rfl | omega | (dsimp only; omega) | (simp only [List.length_cons, List.length_nil]; omega)) (by first | exact Nat.le_of_ble_eq_true rfl | omega | (dsimp only; omega) | (simp only [List.length_cons, List.length_nil]; omega))
          · exact absurd ((nI_eq (b := 10) (by omega) (by decide)).mp c_79) (by omega)
        · exact absurd ((nI_eq (b := 9) (by omega) (by decide)).mp c_55) (by omega)
    · exact absurd hg (bI_0.mp c_33)
set_option maxHeartbeats 1000000 in
theorem c_X1_put2_3B8n (l : Launch) (hl : l.stackTraces = false) (G : hp_G) (X : Nat → Nat) (N0 : Nat) (M : hp_h) (g : RG) (σ : MS) (z : Nat → Int32) (ca : Int32) (C9 : Nat) (hR : REL G (X 0) g σ z ca C9 M) (hI : MI σ) (r : Nat) (k : Int32) (hr : r < nR σ) (hout : ¬ vp_in k (ln σ r)) (hkk : kd σ r = 8)  (hg : mf_goes σ (nI (kd σ r)) (-1)) : HM l yX1_put_2 (ws_ yX1_put_2 cX1_put_2 9 (some .int)) 14 10800 4 110 G X N0 [.ref (qN g), .int (nI r), .int k, .long (-1)] M PFF (SX G (X 0) g σ C9 M "java/lang/ArrayIndexOutOfBoundsException" (sz σ 0 3) z ca) := by
  refine HM.of hl [(0, .ref (qN g)), (1, .int (nI r)), (2, .int k), (3, .long (-1))] (by decide +kernel) rfl (Nat.le_of_ble_eq_true rfl) ?_
  intro p e s m args below meth c C hname
  have hN := hR.N
  obtain ⟨mdU, hUl⟩ := hR.Ul
  obtain ⟨fU, hUs, hUf⟩ := hR.Uls
  refine V_aload_n C dX1_put_2_0 rfl 0 rfl ?_
  refine V_iload_n C dX1_put_2_1 rfl 1 rfl ?_
  refine V_callV C (c_X1_rowOrNull_r l hl G X N0 M g σ z ca C9 hR hI r hr) cs_X1_227_0 hN (show CLS[0]? = some (RX1, TX1, 17) from rfl) rfl rfl ⟨Nat.le_of_ble_eq_true rfl, Nat.le_of_ble_eq_true rfl⟩ ⟨(by first | exact Nat.le_of_ble_eq_true rfl | omega | (dsimp only; omega) | (simp only [List.length_cons, List.length_nil]; omega)), (by first | exact Nat.le_of_ble_eq_true rfl | omega | (dsimp only; omega) | (simp only [List.length_cons, List.length_nil]; omega))⟩ (Nat.le_of_ble_eq_true rfl) dX1_put_2_2 (fun _ _ _ h => px0 h) ?_
  rintro _ _ ⟨rfl, rfl⟩
  refine V_st (st' := [.ref (qR g r)]) rfl ?_
  obtain ⟨xr, hra, hrx, hrc⟩ := hR.rw hr
  obtain ⟨hkE, hkL⟩ := hI.k hr
  obtain ⟨hlE, hlL⟩ := hI.l hr
  rw [hkk] at hra hrx hrc hg
  refine V_astore C dX1_put_2_5 (Nat.le_of_ble_eq_true rfl) [(0, .ref (qN g)), (1, .int (nI r)), (2, .int k), (3, .long (-1)), (5, .ref (qR g r))] [1, 2, 3, 4, 0] rfl ?_
  refine V_aload C dX1_put_2_7 4 rfl ?_
  refine V_callS C (c_X1_sizeOf l hl G X N0 M (qR g r) 8 (by decide) xr hra) cs_X1_35 rfl rfl ⟨Nat.le_of_ble_eq_true rfl, Nat.le_of_ble_eq_true rfl⟩ ⟨(by first | exact Nat.le_of_ble_eq_true rfl | omega | (dsimp only; omega) | (simp only [List.length_cons, List.length_nil]; omega)), (by first | exact Nat.le_of_ble_eq_true rfl | omega | (dsimp only; omega) | (simp only [List.length_cons, List.length_nil]; omega))⟩ (Nat.le_of_ble_eq_true rfl) dX1_put_2_9 (fun _ _ _ h => px0 h) ?_
  rintro _ _ ⟨rfl, rfl⟩
  refine V_st (st' := [.int (nI xr.1)]) rfl ?_
  refine V_st (st' := [.int (nI (ln σ r))]) (by rw [hrx.1]) ?_
  refine V_istore C dX1_put_2_12 (Nat.le_of_ble_eq_true rfl) [(0, .ref (qN g)), (1, .int (nI r)), (2, .int k), (3, .long (-1)), (5, .ref (qR g r)), (6, .int (nI (ln σ r)))] [1, 2, 3, 4, 5, 0] rfl ?_
  refine V_aload C dX1_put_2_14 4 rfl ?_
  refine V_callS C (c_X1_kindOf l hl G X N0 M (qR g r) 8 (by decide) xr hra) cs_X1_25 rfl rfl ⟨Nat.le_of_ble_eq_true rfl, Nat.le_of_ble_eq_true rfl⟩ ⟨(by first | exact Nat.le_of_ble_eq_true rfl | omega | (dsimp only; omega) | (simp only [List.length_cons, List.length_nil]; omega)), (by first | exact Nat.le_of_ble_eq_true rfl | omega | (dsimp only; omega) | (simp only [List.length_cons, List.length_nil]; omega))⟩ (Nat.le_of_ble_eq_true rfl) dX1_put_2_16 (fun _ _ _ h => px0 h) ?_
  rintro _ _ ⟨rfl, rfl⟩
  refine V_st (st' := [.int (nI 8)]) rfl ?_
  refine V_istore C dX1_put_2_19 (Nat.le_of_ble_eq_true rfl) [(0, .ref (qN g)), (1, .int (nI r)), (2, .int k), (3, .long (-1)), (5, .ref (qR g r)), (6, .int (nI (ln σ r))), (7, .int (nI 8))] [1, 2, 3, 4, 5, 6, 0] rfl ?_
  refine V_iload C dX1_put_2_21 5 rfl ?_
  refine V_pc (pc1 := 23) rfl ?_
  refine V_if_lt (tgt := 36) C dX1_put_2_23 (by decide) (fun c_23 => ?_) (fun c_23 => ?_)
  · exact absurd c_23 (nI_pos (by omega))
  · refine V_aload_n C dX1_put_2_26 rfl 0 rfl ?_
    refine V_iload C dX1_put_2_27 6 rfl ?_
    refine V_lload_n C dX1_put_2_29 rfl 3 rfl ?_
    refine V_callV C (c_X1_goes l hl G X N0 M g σ z ca C9 hR hI 8 (-1) (by decide)) cs_X1_230_0 hN (show CLS[0]? = some (RX1, TX1, 17) from rfl) rfl rfl ⟨Nat.le_of_ble_eq_true rfl, Nat.le_of_ble_eq_true rfl⟩ ⟨(by first | exact Nat.le_of_ble_eq_true rfl | omega | (dsimp only; omega) | (simp only [List.length_cons, List.length_nil]; omega)), (by first | exact Nat.le_of_ble_eq_true rfl | omega | (dsimp only; omega) | (simp only [List.length_cons, List.length_nil]; omega))⟩ (Nat.le_of_ble_eq_true rfl) dX1_put_2_30 (fun _ _ _ h => px0 h) ?_
    rintro _ _ ⟨rfl, rfl⟩
    refine V_st (st' := [.int (bI (mf_goes σ (nI 8) (-1)))]) rfl ?_
    refine V_if_ne (tgt := 44) C dX1_put_2_33 (by decide) (fun c_33 => ?_) (fun c_33 => ?_)
    · refine V_iload C dX1_put_2_44 6 rfl ?_
      refine V_bipush (v := 8) C dX1_put_2_46 rfl ?_
      refine V_icmp_eq (tgt := 58) C dX1_put_2_48 (by decide) (fun c_48 => ?_) (fun c_48 => ?_)
      · refine V_aload_n C dX1_put_2_58 rfl 0 rfl ?_
        refine V_lload_n C dX1_put_2_59 rfl 3 rfl ?_
        refine V_callV C (c_X1_unitOf_n l hl G X N0 M g σ z ca C9 hR hI (-1) (by decide)) cs_X1_237_0 hN (show CLS[0]? = some (RX1, TX1, 17) from rfl) rfl rfl ⟨Nat.le_of_ble_eq_true rfl, Nat.le_of_ble_eq_true rfl⟩ ⟨(by first | exact Nat.le_of_ble_eq_true rfl | omega | (dsimp only; omega) | (simp only [List.length_cons, List.length_nil]; omega)), (by first | exact Nat.le_of_ble_eq_true rfl | omega | (dsimp only; omega) | (simp only [List.length_cons, List.length_nil]; omega))⟩ (Nat.le_of_ble_eq_true rfl) dX1_put_2_60 (fun _ _ _ h => px0 h) ?_
        rintro _ _ ⟨rfl, rfl⟩
        refine V_st (st' := [.null]) rfl ?_
        refine V_pc (pc1 := 63) rfl ?_
        refine V_goto (tgt := 67) C dX1_put_2_63 (by decide) ?_
        refine V_astoreN C dX1_put_2_67 (Nat.le_of_ble_eq_true rfl) [(0, .ref (qN g)), (1, .int (nI r)), (2, .int k), (3, .long (-1)), (5, .ref (qR g r)), (6, .int (nI (ln σ r))), (7, .int (nI 8)), (8, .null)] [1, 2, 3, 4, 5, 6, 7, 0] rfl ?_
        refine V_aload C dX1_put_2_69 4 rfl ?_
        refine V_iload_n C dX1_put_2_71 rfl 2 rfl ?_
        refine V_lload_n C dX1_put_2_72 rfl 3 rfl ?_
        refine V_aloadN C dX1_put_2_73 7 rfl ?_
        refine V_iload C dX1_put_2_75 6 rfl ?_
        refine V_bipush (v := 10) C dX1_put_2_77 rfl ?_
        refine V_icmp_ne (tgt := 95) C dX1_put_2_79 (by decide) (fun c_79 => ?_) (fun c_79 => ?_)
        · refine V_null C dX1_put_2_95 ?_
          refine V_callS C (c_X1_put_out l hl G X N0 M (qR g r) 8 (ln σ r) k xr hra hrx (by omega) hout (-1) none none) cs_X1_241 rfl rfl ⟨Nat.le_of_ble_eq_true rfl, Nat.le_of_ble_eq_true rfl⟩ ⟨(by first | exact Nat.le_of_ble_eq_true rfl | omega | (dsimp only; omega) | (simp only [List.length_cons, List.length_nil]; omega)), (by first | exact Nat.le_of_ble_eq_true rfl | omega | (dsimp only; omega) | (simp only [List.length_cons, List.length_nil]; omega))⟩ (Nat.le_of_ble_eq_true rfl) dX1_put_2_96 ?_ (fun _ _ h => h.elim)
          rintro q9 _ _ ⟨rfl, rfl⟩
          exact VX_out C (fun z hz => by cases hz) (SX.of hR hp_fr.rf) (by first | exact Nat.le_of_ble_eq_true rfl | omega | (dsimp only; omega) | (simp only [List.length_cons, List.length_nil]; omega)) (by first | exact Nat.le_of_ble_eq_true rfl | omega | (dsimp only; omega) | (simp only [List.length_cons, List.length_nil]; omega))
        · exact absurd c_79 (by decide)
      · exact absurd c_48 (by decide)
    · exact absurd hg (bI_0.mp c_33)
set_option maxHeartbeats 1000000 in
theorem c_X1_put2_3B8u (l : Launch) (hl : l.stackTraces = false) (G : hp_G) (X : Nat → Nat) (N0 : Nat) (M : hp_h) (g : RG) (σ : MS) (z : Nat → Int32) (ca : Int32) (C9 : Nat) (hR : REL G (X 0) g σ z ca C9 M) (hI : MI σ) (r : Nat) (k : Int32) (hr : r < nR σ) (hout : ¬ vp_in k (ln σ r)) (hkk : kd σ r = 8) (u : Nat) (hu : u < nU σ)  (hg : mf_goes σ (nI (kd σ r)) (lN u)) : HM l yX1_put_2 (ws_ yX1_put_2 cX1_put_2 9 (some .int)) 14 10800 4 110 G X N0 [.ref (qN g), .int (nI r), .int k, .long (lN u)] M PFF (SX G (X 0) g σ C9 M "java/lang/ArrayIndexOutOfBoundsException" (sz σ 0 3) z ca) := by
  refine HM.of hl [(0, .ref (qN g)), (1, .int (nI r)), (2, .int k), (3, .long (lN u))] (by decide +kernel) rfl (Nat.le_of_ble_eq_true rfl) ?_
  intro p e s m args below meth c C hname
  have hN := hR.N
  obtain ⟨mdU, hUl⟩ := hR.Ul
  obtain ⟨fU, hUs, hUf⟩ := hR.Uls
  refine V_aload_n C dX1_put_2_0 rfl 0 rfl ?_
  refine V_iload_n C dX1_put_2_1 rfl 1 rfl ?_
  refine V_callV C (c_X1_rowOrNull_r l hl G X N0 M g σ z ca C9 hR hI r hr) cs_X1_227_0 hN (show CLS[0]? = some (RX1, TX1, 17) from rfl) rfl rfl ⟨Nat.le_of_ble_eq_true rfl, Nat.le_of_ble_eq_true rfl⟩ ⟨(by first | exact Nat.le_of_ble_eq_true rfl | omega | (dsimp only; omega) | (simp only [List.length_cons, List.length_nil]; omega)), (by first | exact Nat.le_of_ble_eq_true rfl | omega | (dsimp only; omega) | (simp only [List.length_cons, List.length_nil]; omega))⟩ (Nat.le_of_ble_eq_true rfl) dX1_put_2_2 (fun _ _ _ h => px0 h) ?_
  rintro _ _ ⟨rfl, rfl⟩
  refine V_st (st' := [.ref (qR g r)]) rfl ?_
  obtain ⟨xr, hra, hrx, hrc⟩ := hR.rw hr
  obtain ⟨hkE, hkL⟩ := hI.k hr
  obtain ⟨hlE, hlL⟩ := hI.l hr
  rw [hkk] at hra hrx hrc hg
  refine V_astore C dX1_put_2_5 (Nat.le_of_ble_eq_true rfl) [(0, .ref (qN g)), (1, .int (nI r)), (2, .int k), (3, .long (lN u)), (5, .ref (qR g r))] [1, 2, 3, 4, 0] rfl ?_
  refine V_aload C dX1_put_2_7 4 rfl ?_
  refine V_callS C (c_X1_sizeOf l hl G X N0 M (qR g r) 8 (by decide) xr hra) cs_X1_35 rfl rfl ⟨Nat.le_of_ble_eq_true rfl, Nat.le_of_ble_eq_true rfl⟩ ⟨(by first | exact Nat.le_of_ble_eq_true rfl | omega | (dsimp only; omega) | (simp only [List.length_cons, List.length_nil]; omega)), (by first | exact Nat.le_of_ble_eq_true rfl | omega | (dsimp only; omega) | (simp only [List.length_cons, List.length_nil]; omega))⟩ (Nat.le_of_ble_eq_true rfl) dX1_put_2_9 (fun _ _ _ h => px0 h) ?_
  rintro _ _ ⟨rfl, rfl⟩
  refine V_st (st' := [.int (nI xr.1)]) rfl ?_
  refine V_st (st' := [.int (nI (ln σ r))]) (by rw [hrx.1]) ?_
  refine V_istore C dX1_put_2_12 (Nat.le_of_ble_eq_true rfl) [(0, .ref (qN g)), (1, .int (nI r)), (2, .int k), (3, .long (lN u)), (5, .ref (qR g r)), (6, .int (nI (ln σ r)))] [1, 2, 3, 4, 5, 0] rfl ?_
  refine V_aload C dX1_put_2_14 4 rfl ?_
  refine V_callS C (c_X1_kindOf l hl G X N0 M (qR g r) 8 (by decide) xr hra) cs_X1_25 rfl rfl ⟨Nat.le_of_ble_eq_true rfl, Nat.le_of_ble_eq_true rfl⟩ ⟨(by first | exact Nat.le_of_ble_eq_true rfl | omega | (dsimp only; omega) | (simp only [List.length_cons, List.length_nil]; omega)), (by first | exact Nat.le_of_ble_eq_true rfl | omega | (dsimp only; omega) | (simp only [List.length_cons, List.length_nil]; omega))⟩ (Nat.le_of_ble_eq_true rfl) dX1_put_2_16 (fun _ _ _ h => px0 h) ?_
  rintro _ _ ⟨rfl, rfl⟩
  refine V_st (st' := [.int (nI 8)]) rfl ?_
  refine V_istore C dX1_put_2_19 (Nat.le_of_ble_eq_true rfl) [(0, .ref (qN g)), (1, .int (nI r)), (2, .int k), (3, .long (lN u)), (5, .ref (qR g r)), (6, .int (nI (ln σ r))), (7, .int (nI 8))] [1, 2, 3, 4, 5, 6, 0] rfl ?_
  refine V_iload C dX1_put_2_21 5 rfl ?_
  refine V_pc (pc1 := 23) rfl ?_
  refine V_if_lt (tgt := 36) C dX1_put_2_23 (by decide) (fun c_23 => ?_) (fun c_23 => ?_)
  · exact absurd c_23 (nI_pos (by omega))
  · refine V_aload_n C dX1_put_2_26 rfl 0 rfl ?_
    refine V_iload C dX1_put_2_27 6 rfl ?_
    refine V_lload_n C dX1_put_2_29 rfl 3 rfl ?_
    refine V_callV C (c_X1_goes l hl G X N0 M g σ z ca C9 hR hI 8 (lN u) (by decide)) cs_X1_230_0 hN (show CLS[0]? = some (RX1, TX1, 17) from rfl) rfl rfl ⟨Nat.le_of_ble_eq_true rfl, Nat.le_of_ble_eq_true rfl⟩ ⟨(by first | exact Nat.le_of_ble_eq_true rfl | omega | (dsimp only; omega) | (simp only [List.length_cons, List.length_nil]; omega)), (by first | exact Nat.le_of_ble_eq_true rfl | omega | (dsimp only; omega) | (simp only [List.length_cons, List.length_nil]; omega))⟩ (Nat.le_of_ble_eq_true rfl) dX1_put_2_30 (fun _ _ _ h => px0 h) ?_
    rintro _ _ ⟨rfl, rfl⟩
    refine V_st (st' := [.int (bI (mf_goes σ (nI 8) (lN u)))]) rfl ?_
    refine V_if_ne (tgt := 44) C dX1_put_2_33 (by decide) (fun c_33 => ?_) (fun c_33 => ?_)
    · refine V_iload C dX1_put_2_44 6 rfl ?_
      refine V_bipush (v := 8) C dX1_put_2_46 rfl ?_
      refine V_icmp_eq (tgt := 58) C dX1_put_2_48 (by decide) (fun c_48 => ?_) (fun c_48 => ?_)
      · refine V_aload_n C dX1_put_2_58 rfl 0 rfl ?_
        refine V_lload_n C dX1_put_2_59 rfl 3 rfl ?_
        refine V_callV C (c_X1_unitOf_u l hl G X N0 M g σ z ca C9 hR hI u hu) cs_X1_237_0 hN (show CLS[0]? = some (RX1, TX1, 17) from rfl) rfl rfl ⟨Nat.le_of_ble_eq_true rfl, Nat.le_of_ble_eq_true rfl⟩ ⟨(by first | exact Nat.le_of_ble_eq_true rfl | omega | (dsimp only; omega) | (simp only [List.length_cons, List.length_nil]; omega)), (by first | exact Nat.le_of_ble_eq_true rfl | omega | (dsimp only; omega) | (simp only [List.length_cons, List.length_nil]; omega))⟩ (Nat.le_of_ble_eq_true rfl) dX1_put_2_60 (fun _ _ _ h => px0 h) ?_
        rintro _ _ ⟨rfl, rfl⟩
        refine V_st (st' := [.ref (qU g u)]) rfl ?_
        refine V_pc (pc1 := 63) rfl ?_
        refine V_goto (tgt := 67) C dX1_put_2_63 (by decide) ?_
        refine V_astore C dX1_put_2_67 (Nat.le_of_ble_eq_true rfl) [(0, .ref (qN g)), (1, .int (nI r)), (2, .int k), (3, .long (lN u)), (5, .ref (qR g r)), (6, .int (nI (ln σ r))), (7, .int (nI 8)), (8, .ref (qU g u))] [1, 2, 3, 4, 5, 6, 7, 0] rfl ?_
        refine V_aload C dX1_put_2_69 4 rfl ?_
        refine V_iload_n C dX1_put_2_71 rfl 2 rfl ?_
        refine V_lload_n C dX1_put_2_72 rfl 3 rfl ?_
        refine V_aload C dX1_put_2_73 7 rfl ?_
        refine V_iload C dX1_put_2_75 6 rfl ?_
        refine V_bipush (v := 10) C dX1_put_2_77 rfl ?_
        refine V_icmp_ne (tgt := 95) C dX1_put_2_79 (by decide) (fun c_79 => ?_) (fun c_79 => ?_)
        · refine V_null C dX1_put_2_95 ?_
          refine V_callS C (c_X1_put_out l hl G X N0 M (qR g r) 8 (ln σ r) k xr hra hrx (by omega) hout (lN u) (some (qU g u)) none) cs_X1_241 rfl rfl ⟨Nat.le_of_ble_eq_true rfl, Nat.le_of_ble_eq_true rfl⟩ ⟨(by first | exact Nat.le_of_ble_eq_true rfl | omega | (dsimp only; omega) | (simp only [List.length_cons, List.length_nil]; omega)), (by first | exact Nat.le_of_ble_eq_true rfl | omega | (dsimp only; omega) | (simp only [List.length_cons, List.length_nil]; omega))⟩ (Nat.le_of_ble_eq_true rfl) dX1_put_2_96 ?_ (fun _ _ h => h.elim)
          rintro q9 _ _ ⟨rfl, rfl⟩
          exact VX_out C (fun z hz => by cases hz) (SX.of hR hp_fr.rf) (by first | exact Nat.le_of_ble_eq_true rfl | omega | (dsimp only; omega) | (simp only [List.length_cons, List.length_nil]; omega)) (by first | exact Nat.le_of_ble_eq_true rfl | omega | (dsimp only; omega) | (simp only [List.length_cons, List.length_nil]; omega))
        · exact absurd c_79 (by decide)
      · exact absurd c_48 (by decide)
    · exact absurd hg (bI_0.mp c_33)
set_option maxHeartbeats 1000000 in
theorem c_X1_put2_3B9n (l : Launch) (hl : l.stackTraces = false) (G : hp_G) (X : Nat → Nat) (N0 : Nat) (M : hp_h) (g : RG) (σ : MS) (z : Nat → Int32) (ca : Int32) (C9 : Nat) (hR : REL G (X 0) g σ z ca C9 M) (hI : MI σ) (r : Nat) (k : Int32) (hr : r < nR σ) (hout : ¬ vp_in k (ln σ r)) (hkk : kd σ r = 9)  (hg : mf_goes σ (nI (kd σ r)) (-1)) : HM l yX1_put_2 (ws_ yX1_put_2 cX1_put_2 9 (some .int)) 14 10800 4 110 G X N0 [.ref (qN g), .int (nI r), .int k, .long (-1)] M PFF (SX G (X 0) g σ C9 M "java/lang/ArrayIndexOutOfBoundsException" (sz σ 0 3) z ca) := by
  refine HM.of hl [(0, .ref (qN g)), (1, .int (nI r)), (2, .int k), (3, .long (-1))] (by decide +kernel) rfl (Nat.le_of_ble_eq_true rfl) ?_
  intro p e s m args below meth c C hname
  have hN := hR.N
  obtain ⟨mdU, hUl⟩ := hR.Ul
  obtain ⟨fU, hUs, hUf⟩ := hR.Uls
  refine V_aload_n C dX1_put_2_0 rfl 0 rfl ?_
  refine V_iload_n C dX1_put_2_1 rfl 1 rfl ?_
  refine V_callV C (c_X1_rowOrNull_r l hl G X N0 M g σ z ca C9 hR hI r hr) cs_X1_227_0 hN (show CLS[0]? = some (RX1, TX1, 17) from rfl) rfl rfl ⟨Nat.le_of_ble_eq_true rfl, Nat.le_of_ble_eq_true rfl⟩ ⟨(by first | exact Nat.le_of_ble_eq_true rfl | omega | (dsimp only; omega) | (simp only [List.length_cons, List.length_nil]; omega)), (by first | exact Nat.le_of_ble_eq_true rfl | omega | (dsimp only; omega) | (simp only [List.length_cons, List.length_nil]; omega))⟩ (Nat.le_of_ble_eq_true rfl) dX1_put_2_2 (fun _ _ _ h => px0 h) ?_
  rintro _ _ ⟨rfl, rfl⟩
  refine V_st (st' := [.ref (qR g r)]) rfl ?_
  obtain ⟨xr, hra, hrx, hrc⟩ := hR.rw hr
  obtain ⟨hkE, hkL⟩ := hI.k hr
  obtain ⟨hlE, hlL⟩ := hI.l hr
  rw [hkk] at hra hrx hrc hg
  refine V_astore C dX1_put_2_5 (Nat.le_of_ble_eq_true rfl) [(0, .ref (qN g)), (1, .int (nI r)), (2, .int k), (3, .long (-1)), (5, .ref (qR g r))] [1, 2, 3, 4, 0] rfl ?_
  refine V_aload C dX1_put_2_7 4 rfl ?_
  refine V_callS C (c_X1_sizeOf l hl G X N0 M (qR g r) 9 (by decide) xr hra) cs_X1_35 rfl rfl ⟨Nat.le_of_ble_eq_true rfl, Nat.le_of_ble_eq_true rfl⟩ ⟨(by first | exact Nat.le_of_ble_eq_true rfl | omega | (dsimp only; omega) | (simp only [List.length_cons, List.length_nil]; omega)), (by first | exact Nat.le_of_ble_eq_true rfl | omega | (dsimp only; omega) | (simp only [List.length_cons, List.length_nil]; omega))⟩ (Nat.le_of_ble_eq_true rfl) dX1_put_2_9 (fun _ _ _ h => px0 h) ?_
  rintro _ _ ⟨rfl, rfl⟩
  refine V_st (st' := [.int (nI xr.1)]) rfl ?_
  refine V_st (st' := [.int (nI (ln σ r))]) (by rw [hrx.1]) ?_
  refine V_istore C dX1_put_2_12 (Nat.le_of_ble_eq_true rfl) [(0, .ref (qN g)), (1, .int (nI r)), (2, .int k), (3, .long (-1)), (5, .ref (qR g r)), (6, .int (nI (ln σ r)))] [1, 2, 3, 4, 5, 0] rfl ?_
  refine V_aload C dX1_put_2_14 4 rfl ?_
  refine V_callS C (c_X1_kindOf l hl G X N0 M (qR g r) 9 (by decide) xr hra) cs_X1_25 rfl rfl ⟨Nat.le_of_ble_eq_true rfl, Nat.le_of_ble_eq_true rfl⟩ ⟨(by first | exact Nat.le_of_ble_eq_true rfl | omega | (dsimp only; omega) | (simp only [List.length_cons, List.length_nil]; omega)), (by first | exact Nat.le_of_ble_eq_true rfl | omega | (dsimp only; omega) | (simp only [List.length_cons, List.length_nil]; omega))⟩ (Nat.le_of_ble_eq_true rfl) dX1_put_2_16 (fun _ _ _ h => px0 h) ?_
  rintro _ _ ⟨rfl, rfl⟩
  refine V_st (st' := [.int (nI 9)]) rfl ?_
  refine V_istore C dX1_put_2_19 (Nat.le_of_ble_eq_true rfl) [(0, .ref (qN g)), (1, .int (nI r)), (2, .int k), (3, .long (-1)), (5, .ref (qR g r)), (6, .int (nI (ln σ r))), (7, .int (nI 9))] [1, 2, 3, 4, 5, 6, 0] rfl ?_
  refine V_iload C dX1_put_2_21 5 rfl ?_
  refine V_pc (pc1 := 23) rfl ?_
  refine V_if_lt (tgt := 36) C dX1_put_2_23 (by decide) (fun c_23 => ?_) (fun c_23 => ?_)
  · exact absurd c_23 (nI_pos (by omega))
  · refine V_aload_n C dX1_put_2_26 rfl 0 rfl ?_
    refine V_iload C dX1_put_2_27 6 rfl ?_
    refine V_lload_n C dX1_put_2_29 rfl 3 rfl ?_
    refine V_callV C (c_X1_goes l hl G X N0 M g σ z ca C9 hR hI 9 (-1) (by decide)) cs_X1_230_0 hN (show CLS[0]? = some (RX1, TX1, 17) from rfl) rfl rfl ⟨Nat.le_of_ble_eq_true rfl, Nat.le_of_ble_eq_true rfl⟩ ⟨(by first | exact Nat.le_of_ble_eq_true rfl | omega | (dsimp only; omega) | (simp only [List.length_cons, List.length_nil]; omega)), (by first | exact Nat.le_of_ble_eq_true rfl | omega | (dsimp only; omega) | (simp only [List.length_cons, List.length_nil]; omega))⟩ (Nat.le_of_ble_eq_true rfl) dX1_put_2_30 (fun _ _ _ h => px0 h) ?_
    rintro _ _ ⟨rfl, rfl⟩
    refine V_st (st' := [.int (bI (mf_goes σ (nI 9) (-1)))]) rfl ?_
    refine V_if_ne (tgt := 44) C dX1_put_2_33 (by decide) (fun c_33 => ?_) (fun c_33 => ?_)
    · refine V_iload C dX1_put_2_44 6 rfl ?_
      refine V_bipush (v := 8) C dX1_put_2_46 rfl ?_
      refine V_icmp_eq (tgt := 58) C dX1_put_2_48 (by decide) (fun c_48 => ?_) (fun c_48 => ?_)
      · exact absurd c_48 (by decide)
      · refine V_iload C dX1_put_2_51 6 rfl ?_
        refine V_bipush (v := 9) C dX1_put_2_53 rfl ?_
        refine V_icmp_ne (tgt := 66) C dX1_put_2_55 (by decide) (fun c_55 => ?_) (fun c_55 => ?_)
        · exact absurd c_55 (by decide)
        · refine V_pc (pc1 := 58) rfl ?_
          refine V_aload_n C dX1_put_2_58 rfl 0 rfl ?_
          refine V_lload_n C dX1_put_2_59 rfl 3 rfl ?_
          refine V_callV C (c_X1_unitOf_n l hl G X N0 M g σ z ca C9 hR hI (-1) (by decide)) cs_X1_237_0 hN (show CLS[0]? = some (RX1, TX1, 17) from rfl) rfl rfl ⟨Nat.le_of_ble_eq_true rfl, Nat.le_of_ble_eq_true rfl⟩ ⟨(by first | exact Nat.le_of_ble_eq_true rfl | omega | (dsimp only; omega) | (simp only [List.length_cons, List.length_nil]; omega)), (by first | exact Nat.le_of_ble_eq_true rfl | omega | (dsimp only; omega) | (simp only [List.length_cons, List.length_nil]; omega))⟩ (Nat.le_of_ble_eq_true rfl) dX1_put_2_60 (fun _ _ _ h => px0 h) ?_
          rintro _ _ ⟨rfl, rfl⟩
          refine V_st (st' := [.null]) rfl ?_
          refine V_goto (tgt := 67) C dX1_put_2_63 (by decide) ?_
          refine V_astoreN C dX1_put_2_67 (Nat.le_of_ble_eq_true rfl) [(0, .ref (qN g)), (1, .int (nI r)), (2, .int k), (3, .long (-1)), (5, .ref (qR g r)), (6, .int (nI (ln σ r))), (7, .int (nI 9)), (8, .null)] [1, 2, 3, 4, 5, 6, 7, 0] rfl ?_
          refine V_aload C dX1_put_2_69 4 rfl ?_
          refine V_iload_n C dX1_put_2_71 rfl 2 rfl ?_
          refine V_lload_n C dX1_put_2_72 rfl 3 rfl ?_
          refine V_aloadN C dX1_put_2_73 7 rfl ?_
          refine V_iload C dX1_put_2_75 6 rfl ?_
          refine V_bipush (v := 10) C dX1_put_2_77 rfl ?_
          refine V_icmp_ne (tgt := 95) C dX1_put_2_79 (by decide) (fun c_79 => ?_) (fun c_79 => ?_)
          · refine V_pc (pc1 := 95) rfl ?_
            refine V_null C dX1_put_2_95 ?_
            refine V_callS C (c_X1_put_out l hl G X N0 M (qR g r) 9 (ln σ r) k xr hra hrx (by omega) hout (-1) none none) cs_X1_241 rfl rfl ⟨Nat.le_of_ble_eq_true rfl, Nat.le_of_ble_eq_true rfl⟩ ⟨(by first | exact Nat.le_of_ble_eq_true rfl | omega | (dsimp only; omega) | (simp only [List.length_cons, List.length_nil]; omega)), (by first | exact Nat.le_of_ble_eq_true rfl | omega | (dsimp only; omega) | (simp only [List.length_cons, List.length_nil]; omega))⟩ (Nat.le_of_ble_eq_true rfl) dX1_put_2_96 ?_ (fun _ _ h => h.elim)
            rintro q9 _ _ ⟨rfl, rfl⟩
            exact VX_out C (fun z hz => by cases hz) (SX.of hR hp_fr.rf) (by first | exact Nat.le_of_ble_eq_true rfl | omega | (dsimp only; omega) | (simp only [List.length_cons, List.length_nil]; omega)) (by first | exact Nat.le_of_ble_eq_true rfl | omega | (dsimp only; omega) | (simp only [List.length_cons, List.length_nil]; omega))
          · exact absurd c_79 (by decide)
    · exact absurd hg (bI_0.mp c_33)
set_option maxHeartbeats 1000000 in
theorem c_X1_put2_3B9u (l : Launch) (hl : l.stackTraces = false) (G : hp_G) (X : Nat → Nat) (N0 : Nat) (M : hp_h) (g : RG) (σ : MS) (z : Nat → Int32) (ca : Int32) (C9 : Nat) (hR : REL G (X 0) g σ z ca C9 M) (hI : MI σ) (r : Nat) (k : Int32) (hr : r < nR σ) (hout : ¬ vp_in k (ln σ r)) (hkk : kd σ r = 9) (u : Nat) (hu : u < nU σ)  (hg : mf_goes σ (nI (kd σ r)) (lN u)) : HM l yX1_put_2 (ws_ yX1_put_2 cX1_put_2 9 (some .int)) 14 10800 4 110 G X N0 [.ref (qN g), .int (nI r), .int k, .long (lN u)] M PFF (SX G (X 0) g σ C9 M "java/lang/ArrayIndexOutOfBoundsException" (sz σ 0 3) z ca) := by
  refine HM.of hl [(0, .ref (qN g)), (1, .int (nI r)), (2, .int k), (3, .long (lN u))] (by decide +kernel) rfl (Nat.le_of_ble_eq_true rfl) ?_
  intro p e s m args below meth c C hname
  have hN := hR.N
  obtain ⟨mdU, hUl⟩ := hR.Ul
  obtain ⟨fU, hUs, hUf⟩ := hR.Uls
  refine V_aload_n C dX1_put_2_0 rfl 0 rfl ?_
  refine V_iload_n C dX1_put_2_1 rfl 1 rfl ?_
  refine V_callV C (c_X1_rowOrNull_r l hl G X N0 M g σ z ca C9 hR hI r hr) cs_X1_227_0 hN (show CLS[0]? = some (RX1, TX1, 17) from rfl) rfl rfl ⟨Nat.le_of_ble_eq_true rfl, Nat.le_of_ble_eq_true rfl⟩ ⟨(by first | exact Nat.le_of_ble_eq_true rfl | omega | (dsimp only; omega) | (simp only [List.length_cons, List.length_nil]; omega)), (by first | exact Nat.le_of_ble_eq_true rfl | omega | (dsimp only; omega) | (simp only [List.length_cons, List.length_nil]; omega))⟩ (Nat.le_of_ble_eq_true rfl) dX1_put_2_2 (fun _ _ _ h => px0 h) ?_
  rintro _ _ ⟨rfl, rfl⟩
  refine V_st (st' := [.ref (qR g r)]) rfl ?_
  obtain ⟨xr, hra, hrx, hrc⟩ := hR.rw hr
  obtain ⟨hkE, hkL⟩ := hI.k hr
  obtain ⟨hlE, hlL⟩ := hI.l hr
  rw [hkk] at hra hrx hrc hg
  refine V_astore C dX1_put_2_5 (Nat.le_of_ble_eq_true rfl) [(0, .ref (qN g)), (1, .int (nI r)), (2, .int k), (3, .long (lN u)), (5, .ref (qR g r))] [1, 2, 3, 4, 0] rfl ?_
  refine V_aload C dX1_put_2_7 4 rfl ?_
  refine V_callS C (c_X1_sizeOf l hl G X N0 M (qR g r) 9 (by decide) xr hra) cs_X1_35 rfl rfl ⟨Nat.le_of_ble_eq_true rfl, Nat.le_of_ble_eq_true rfl⟩ ⟨(by first | exact Nat.le_of_ble_eq_true rfl | omega | (dsimp only; omega) | (simp only [List.length_cons, List.length_nil]; omega)), (by first | exact Nat.le_of_ble_eq_true rfl | omega | (dsimp only; omega) | (simp only [List.length_cons, List.length_nil]; omega))⟩ (Nat.le_of_ble_eq_true rfl) dX1_put_2_9 (fun _ _ _ h => px0 h) ?_
  rintro _ _ ⟨rfl, rfl⟩
  refine V_st (st' := [.int (nI xr.1)]) rfl ?_
  refine V_st (st' := [.int (nI (ln σ r))]) (by rw [hrx.1]) ?_
  refine V_istore C dX1_put_2_12 (Nat.le_of_ble_eq_true rfl) [(0, .ref (qN g)), (1, .int (nI r)), (2, .int k), (3, .long (lN u)), (5, .ref (qR g r)), (6, .int (nI (ln σ r)))] [1, 2, 3, 4, 5, 0] rfl ?_
  refine V_aload C dX1_put_2_14 4 rfl ?_
  refine V_callS C (c_X1_kindOf l hl G X N0 M (qR g r) 9 (by decide) xr hra) cs_X1_25 rfl rfl ⟨Nat.le_of_ble_eq_true rfl, Nat.le_of_ble_eq_true rfl⟩ ⟨(by first | exact Nat.le_of_ble_eq_true rfl | omega | (dsimp only; omega) | (simp only [List.length_cons, List.length_nil]; omega)), (by first | exact Nat.le_of_ble_eq_true rfl | omega | (dsimp only; omega) | (simp only [List.length_cons, List.length_nil]; omega))⟩ (Nat.le_of_ble_eq_true rfl) dX1_put_2_16 (fun _ _ _ h => px0 h) ?_
  rintro _ _ ⟨rfl, rfl⟩
  refine V_st (st' := [.int (nI 9)]) rfl ?_
  refine V_istore C dX1_put_2_19 (Nat.le_of_ble_eq_true rfl) [(0, .ref (qN g)), (1, .int (nI r)), (2, .int k), (3, .long (lN u)), (5, .ref (qR g r)), (6, .int (nI (ln σ r))), (7, .int (nI 9))] [1, 2, 3, 4, 5, 6, 0] rfl ?_
  refine V_iload C dX1_put_2_21 5 rfl ?_
  refine V_pc (pc1 := 23) rfl ?_
  refine V_if_lt (tgt := 36) C dX1_put_2_23 (by decide) (fun c_23 => ?_) (fun c_23 => ?_)
  · exact absurd c_23 (nI_pos (by omega))
  · refine V_aload_n C dX1_put_2_26 rfl 0 rfl ?_
    refine V_iload C dX1_put_2_27 6 rfl ?_
    refine V_lload_n C dX1_put_2_29 rfl 3 rfl ?_
    refine V_callV C (c_X1_goes l hl G X N0 M g σ z ca C9 hR hI 9 (lN u) (by decide)) cs_X1_230_0 hN (show CLS[0]? = some (RX1, TX1, 17) from rfl) rfl rfl ⟨Nat.le_of_ble_eq_true rfl, Nat.le_of_ble_eq_true rfl⟩ ⟨(by first | exact Nat.le_of_ble_eq_true rfl | omega | (dsimp only; omega) | (simp only [List.length_cons, List.length_nil]; omega)), (by first | exact Nat.le_of_ble_eq_true rfl | omega | (dsimp only; omega) | (simp only [List.length_cons, List.length_nil]; omega))⟩ (Nat.le_of_ble_eq_true rfl) dX1_put_2_30 (fun _ _ _ h => px0 h) ?_
    rintro _ _ ⟨rfl, rfl⟩
    refine V_st (st' := [.int (bI (mf_goes σ (nI 9) (lN u)))]) rfl ?_
    refine V_if_ne (tgt := 44) C dX1_put_2_33 (by decide) (fun c_33 => ?_) (fun c_33 => ?_)
    · refine V_iload C dX1_put_2_44 6 rfl ?_
      refine V_bipush (v := 8) C dX1_put_2_46 rfl ?_
      refine V_icmp_eq (tgt := 58) C dX1_put_2_48 (by decide) (fun c_48 => ?_) (fun c_48 => ?_)
      · exact absurd c_48 (by decide)
      · refine V_iload C dX1_put_2_51 6 rfl ?_
        refine V_bipush (v := 9) C dX1_put_2_53 rfl ?_
        refine V_icmp_ne (tgt := 66) C dX1_put_2_55 (by decide) (fun c_55 => ?_) (fun c_55 => ?_)
        · exact absurd c_55 (by decide)
        · refine V_pc (pc1 := 58) rfl ?_
          refine V_aload_n C dX1_put_2_58 rfl 0 rfl ?_
          refine V_lload_n C dX1_put_2_59 rfl 3 rfl ?_
          refine V_callV C (c_X1_unitOf_u l hl G X N0 M g σ z ca C9 hR hI u hu) cs_X1_237_0 hN (show CLS[0]? = some (RX1, TX1, 17) from rfl) rfl rfl ⟨Nat.le_of_ble_eq_true rfl, Nat.le_of_ble_eq_true rfl⟩ ⟨(by first | exact Nat.le_of_ble_eq_true rfl | omega | (dsimp only; omega) | (simp only [List.length_cons, List.length_nil]; omega)), (by first | exact Nat.le_of_ble_eq_true rfl | omega | (dsimp only; omega) | (simp only [List.length_cons, List.length_nil]; omega))⟩ (Nat.le_of_ble_eq_true rfl) dX1_put_2_60 (fun _ _ _ h => px0 h) ?_
          rintro _ _ ⟨rfl, rfl⟩
          refine V_st (st' := [.ref (qU g u)]) rfl ?_
          refine V_goto (tgt := 67) C dX1_put_2_63 (by decide) ?_
          refine V_astore C dX1_put_2_67 (Nat.le_of_ble_eq_true rfl) [(0, .ref (qN g)), (1, .int (nI r)), (2, .int k), (3, .long (lN u)), (5, .ref (qR g r)), (6, .int (nI (ln σ r))), (7, .int (nI 9)), (8, .ref (qU g u))] [1, 2, 3, 4, 5, 6, 7, 0] rfl ?_
          refine V_aload C dX1_put_2_69 4 rfl ?_
          refine V_iload_n C dX1_put_2_71 rfl 2 rfl ?_
          refine V_lload_n C dX1_put_2_72 rfl 3 rfl ?_
          refine V_aload C dX1_put_2_73 7 rfl ?_
          refine V_iload C dX1_put_2_75 6 rfl ?_
          refine V_bipush (v := 10) C dX1_put_2_77 rfl ?_
          refine V_icmp_ne (tgt := 95) C dX1_put_2_79 (by decide) (fun c_79 => ?_) (fun c_79 => ?_)
          · refine V_pc (pc1 := 95) rfl ?_
            refine V_null C dX1_put_2_95 ?_
            refine V_callS C (c_X1_put_out l hl G X N0 M (qR g r) 9 (ln σ r) k xr hra hrx (by omega) hout (lN u) (some (qU g u)) none) cs_X1_241 rfl rfl ⟨Nat.le_of_ble_eq_true rfl, Nat.le_of_ble_eq_true rfl⟩ ⟨(by first | exact Nat.le_of_ble_eq_true rfl | omega | (dsimp only; omega) | (simp only [List.length_cons, List.length_nil]; omega)), (by first | exact Nat.le_of_ble_eq_true rfl | omega | (dsimp only; omega) | (simp only [List.length_cons, List.length_nil]; omega))⟩ (Nat.le_of_ble_eq_true rfl) dX1_put_2_96 ?_ (fun _ _ h => h.elim)
            rintro q9 _ _ ⟨rfl, rfl⟩
            exact VX_out C (fun z hz => by cases hz) (SX.of hR hp_fr.rf) (by first | exact Nat.le_of_ble_eq_true rfl | omega | (dsimp only; omega) | (simp only [List.length_cons, List.length_nil]; omega)) (by first | exact Nat.le_of_ble_eq_true rfl | omega | (dsimp only; omega) | (simp only [List.length_cons, List.length_nil]; omega))
          · exact absurd c_79 (by decide)
    · exact absurd hg (bI_0.mp c_33)
set_option maxHeartbeats 1000000 in
theorem c_X1_put2_3Cn (l : Launch) (hl : l.stackTraces = false) (G : hp_G) (X : Nat → Nat) (N0 : Nat) (M : hp_h) (g : RG) (σ : MS) (z : Nat → Int32) (ca : Int32) (C9 : Nat) (hR : REL G (X 0) g σ z ca C9 M) (hI : MI σ) (r : Nat) (k : Int32) (hr : r < nR σ) (hout : ¬ vp_in k (ln σ r)) (hkk : kd σ r = 10)  (hg : mf_goes σ (nI (kd σ r)) (-1)) : HM l yX1_put_2 (ws_ yX1_put_2 cX1_put_2 9 (some .int)) 14 10800 4 110 G X N0 [.ref (qN g), .int (nI r), .int k, .long (-1)] M PFF (SX G (X 0) g σ C9 M "java/lang/ArrayIndexOutOfBoundsException" (sz σ 0 3) z ca) := by
  refine HM.of hl [(0, .ref (qN g)), (1, .int (nI r)), (2, .int k), (3, .long (-1))] (by decide +kernel) rfl (Nat.le_of_ble_eq_true rfl) ?_
  intro p e s m args below meth c C hname
  have hN := hR.N
  obtain ⟨mdU, hUl⟩ := hR.Ul
  obtain ⟨fU, hUs, hUf⟩ := hR.Uls
  refine V_aload_n C dX1_put_2_0 rfl 0 rfl ?_
  refine V_iload_n C dX1_put_2_1 rfl 1 rfl ?_
  refine V_callV C (c_X1_rowOrNull_r l hl G X N0 M g σ z ca C9 hR hI r hr) cs_X1_227_0 hN (show CLS[0]? = some (RX1, TX1, 17) from rfl) rfl rfl ⟨Nat.le_of_ble_eq_true rfl, Nat.le_of_ble_eq_true rfl⟩ ⟨(by first | exact Nat.le_of_ble_eq_true rfl | omega | (dsimp only; omega) | (simp only [List.length_cons, List.length_nil]; omega)), (by first | exact Nat.le_of_ble_eq_true rfl | omega | (dsimp only; omega) | (simp only [List.length_cons, List.length_nil]; omega))⟩ (Nat.le_of_ble_eq_true rfl) dX1_put_2_2 (fun _ _ _ h => px0 h) ?_
  rintro _ _ ⟨rfl, rfl⟩
  refine V_st (st' := [.ref (qR g r)]) rfl ?_
  obtain ⟨xr, hra, hrx, hrc⟩ := hR.rw hr
  obtain ⟨hkE, hkL⟩ := hI.k hr
  obtain ⟨hlE, hlL⟩ := hI.l hr
  rw [hkk] at hra hrx hrc hg
  refine V_astore C dX1_put_2_5 (Nat.le_of_ble_eq_true rfl) [(0, .ref (qN g)), (1, .int (nI r)), (2, .int k), (3, .long (-1)), (5, .ref (qR g r))] [1, 2, 3, 4, 0] rfl ?_
  refine V_aload C dX1_put_2_7 4 rfl ?_
  refine V_callS C (c_X1_sizeOf l hl G X N0 M (qR g r) 10 (by decide) xr hra) cs_X1_35 rfl rfl ⟨Nat.le_of_ble_eq_true rfl, Nat.le_of_ble_eq_true rfl⟩ ⟨(by first | exact Nat.le_of_ble_eq_true rfl | omega | (dsimp only; omega) | (simp only [List.length_cons, List.length_nil]; omega)), (by first | exact Nat.le_of_ble_eq_true rfl | omega | (dsimp only; omega) | (simp only [List.length_cons, List.length_nil]; omega))⟩ (Nat.le_of_ble_eq_true rfl) dX1_put_2_9 (fun _ _ _ h => px0 h) ?_
  rintro _ _ ⟨rfl, rfl⟩
  refine V_st (st' := [.int (nI xr.1)]) rfl ?_
  refine V_st (st' := [.int (nI (ln σ r))]) (by rw [hrx.1]) ?_
  refine V_istore C dX1_put_2_12 (Nat.le_of_ble_eq_true rfl) [(0, .ref (qN g)), (1, .int (nI r)), (2, .int k), (3, .long (-1)), (5, .ref (qR g r)), (6, .int (nI (ln σ r)))] [1, 2, 3, 4, 5, 0] rfl ?_
  refine V_aload C dX1_put_2_14 4 rfl ?_
  refine V_callS C (c_X1_kindOf l hl G X N0 M (qR g r) 10 (by decide) xr hra) cs_X1_25 rfl rfl ⟨Nat.le_of_ble_eq_true rfl, Nat.le_of_ble_eq_true rfl⟩ ⟨(by first | exact Nat.le_of_ble_eq_true rfl | omega | (dsimp only; omega) | (simp only [List.length_cons, List.length_nil]; omega)), (by first | exact Nat.le_of_ble_eq_true rfl | omega | (dsimp only; omega) | (simp only [List.length_cons, List.length_nil]; omega))⟩ (Nat.le_of_ble_eq_true rfl) dX1_put_2_16 (fun _ _ _ h => px0 h) ?_
  rintro _ _ ⟨rfl, rfl⟩
  refine V_st (st' := [.int (nI 10)]) rfl ?_
  refine V_istore C dX1_put_2_19 (Nat.le_of_ble_eq_true rfl) [(0, .ref (qN g)), (1, .int (nI r)), (2, .int k), (3, .long (-1)), (5, .ref (qR g r)), (6, .int (nI (ln σ r))), (7, .int (nI 10))] [1, 2, 3, 4, 5, 6, 0] rfl ?_
  refine V_iload C dX1_put_2_21 5 rfl ?_
  refine V_pc (pc1 := 23) rfl ?_
  refine V_if_lt (tgt := 36) C dX1_put_2_23 (by decide) (fun c_23 => ?_) (fun c_23 => ?_)
  · exact absurd c_23 (nI_pos (by omega))
  · refine V_aload_n C dX1_put_2_26 rfl 0 rfl ?_
    refine V_iload C dX1_put_2_27 6 rfl ?_
    refine V_lload_n C dX1_put_2_29 rfl 3 rfl ?_
    refine V_callV C (c_X1_goes l hl G X N0 M g σ z ca C9 hR hI 10 (-1) (by decide)) cs_X1_230_0 hN (show CLS[0]? = some (RX1, TX1, 17) from rfl) rfl rfl ⟨Nat.le_of_ble_eq_true rfl, Nat.le_of_ble_eq_true rfl⟩ ⟨(by first | exact Nat.le_of_ble_eq_true rfl | omega | (dsimp only; omega) | (simp only [List.length_cons, List.length_nil]; omega)), (by first | exact Nat.le_of_ble_eq_true rfl | omega | (dsimp only; omega) | (simp only [List.length_cons, List.length_nil]; omega))⟩ (Nat.le_of_ble_eq_true rfl) dX1_put_2_30 (fun _ _ _ h => px0 h) ?_
    rintro _ _ ⟨rfl, rfl⟩
    refine V_st (st' := [.int (bI (mf_goes σ (nI 10) (-1)))]) rfl ?_
    refine V_if_ne (tgt := 44) C dX1_put_2_33 (by decide) (fun c_33 => ?_) (fun c_33 => ?_)
    · refine V_iload C dX1_put_2_44 6 rfl ?_
      refine V_bipush (v := 8) C dX1_put_2_46 rfl ?_
      refine V_icmp_eq (tgt := 58) C dX1_put_2_48 (by decide) (fun c_48 => ?_) (fun c_48 => ?_)
      · exact absurd c_48 (by decide)
      · refine V_iload C dX1_put_2_51 6 rfl ?_
        refine V_bipush (v := 9) C dX1_put_2_53 rfl ?_
        refine V_icmp_ne (tgt := 66) C dX1_put_2_55 (by decide) (fun c_55 => ?_) (fun c_55 => ?_)
        · refine V_pc (pc1 := 66) rfl ?_
          refine V_null C dX1_put_2_66 ?_
          refine V_astoreN C dX1_put_2_67 (Nat.le_of_ble_eq_true rfl) [(0, .ref (qN g)), (1, .int (nI r)), (2, .int k), (3, .long (-1)), (5, .ref (qR g r)), (6, .int (nI (ln σ r))), (7, .int (nI 10)), (8, .null)] [1, 2, 3, 4, 5, 6, 7, 0] rfl ?_
          refine V_aload C dX1_put_2_69 4 rfl ?_
          refine V_iload_n C dX1_put_2_71 rfl 2 rfl ?_
          refine V_lload_n C dX1_put_2_72 rfl 3 rfl ?_
          refine V_aloadN C dX1_put_2_73 7 rfl ?_
          refine V_iload C dX1_put_2_75 6 rfl ?_
          refine V_bipush (v := 10) C dX1_put_2_77 rfl ?_
          refine V_icmp_ne (tgt := 95) C dX1_put_2_79 (by decide) (fun c_79 => ?_) (fun c_79 => ?_)
          · exact absurd c_79 (by decide)
          · refine V_lload_n C dX1_put_2_82 rfl 3 rfl ?_
            refine V_lconst (v := 0) C dX1_put_2_83 rfl ?_
            refine V_lcmp C dX1_put_2_84 ?_
            refine V_pc (pc1 := 85) rfl ?_
            refine V_if_lt (tgt := 95) C dX1_put_2_85 (by decide) (fun c_85 => ?_) (fun c_85 => ?_)
            · refine V_null C dX1_put_2_95 ?_
              refine V_callS C (c_X1_put_out l hl G X N0 M (qR g r) 10 (ln σ r) k xr hra hrx (by omega) hout (-1) none none) cs_X1_241 rfl rfl ⟨Nat.le_of_ble_eq_true rfl, Nat.le_of_ble_eq_true rfl⟩ ⟨(by first | exact Nat.le_of_ble_eq_true rfl | omega | (dsimp only; omega) | (simp only [List.length_cons, List.length_nil]; omega)), (by first | exact Nat.le_of_ble_eq_true rfl | omega | (dsimp only; omega) | (simp only [List.length_cons, List.length_nil]; omega))⟩ (Nat.le_of_ble_eq_true rfl) dX1_put_2_96 ?_ (fun _ _ h => h.elim)
              rintro q9 _ _ ⟨rfl, rfl⟩
              exact VX_out C (fun z hz => by cases hz) (SX.of hR hp_fr.rf) (by first | exact Nat.le_of_ble_eq_true rfl | omega | (dsimp only; omega) | (simp only [List.length_cons, List.length_nil]; omega)) (by first | exact Nat.le_of_ble_eq_true rfl | omega | (dsimp only; omega) | (simp only [List.length_cons, List.length_nil]; omega))
            · exact absurd c_85 (by decide)
        · exact absurd c_55 (by decide)
    · exact absurd hg (bI_0.mp c_33)
set_option maxHeartbeats 1000000 in
theorem c_X1_put2_3Cs (l : Launch) (hl : l.stackTraces = false) (G : hp_G) (X : Nat → Nat) (N0 : Nat) (M : hp_h) (g : RG) (σ : MS) (z : Nat → Int32) (ca : Int32) (C9 : Nat) (hR : REL G (X 0) g σ z ca C9 M) (hI : MI σ) (r : Nat) (k : Int32) (hr : r < nR σ) (hout : ¬ vp_in k (ln σ r)) (hkk : kd σ r = 10) (m9 : Nat) (hm9 : m9 ≤ 40)  (hg : mf_goes σ (nI (kd σ r)) (lN m9)) : HM l yX1_put_2 (ws_ yX1_put_2 cX1_put_2 9 (some .int)) 14 10800 4 110 G X N0 [.ref (qN g), .int (nI r), .int k, .long (lN m9)] M PFF (SX G (X 0) g σ C9 M "java/lang/ArrayIndexOutOfBoundsException" (sz σ 0 3) z ca) := by
  refine HM.of hl [(0, .ref (qN g)), (1, .int (nI r)), (2, .int k), (3, .long (lN m9))] (by decide +kernel) rfl (Nat.le_of_ble_eq_true rfl) ?_
  intro p e s m args below meth c C hname
  have hN := hR.N
  obtain ⟨mdU, hUl⟩ := hR.Ul
  obtain ⟨fU, hUs, hUf⟩ := hR.Uls
  refine V_aload_n C dX1_put_2_0 rfl 0 rfl ?_
  refine V_iload_n C dX1_put_2_1 rfl 1 rfl ?_
  refine V_callV C (c_X1_rowOrNull_r l hl G X N0 M g σ z ca C9 hR hI r hr) cs_X1_227_0 hN (show CLS[0]? = some (RX1, TX1, 17) from rfl) rfl rfl ⟨Nat.le_of_ble_eq_true rfl, Nat.le_of_ble_eq_true rfl⟩ ⟨(by first | exact Nat.le_of_ble_eq_true rfl | omega | (dsimp only; omega) | (simp only [List.length_cons, List.length_nil]; omega)), (by first | exact Nat.le_of_ble_eq_true rfl | omega | (dsimp only; omega) | (simp only [List.length_cons, List.length_nil]; omega))⟩ (Nat.le_of_ble_eq_true rfl) dX1_put_2_2 (fun _ _ _ h => px0 h) ?_
  rintro _ _ ⟨rfl, rfl⟩
  refine V_st (st' := [.ref (qR g r)]) rfl ?_
  obtain ⟨xr, hra, hrx, hrc⟩ := hR.rw hr
  obtain ⟨hkE, hkL⟩ := hI.k hr
  obtain ⟨hlE, hlL⟩ := hI.l hr
  rw [hkk] at hra hrx hrc hg
  refine V_astore C dX1_put_2_5 (Nat.le_of_ble_eq_true rfl) [(0, .ref (qN g)), (1, .int (nI r)), (2, .int k), (3, .long (lN m9)), (5, .ref (qR g r))] [1, 2, 3, 4, 0] rfl ?_
  refine V_aload C dX1_put_2_7 4 rfl ?_
  refine V_callS C (c_X1_sizeOf l hl G X N0 M (qR g r) 10 (by decide) xr hra) cs_X1_35 rfl rfl ⟨Nat.le_of_ble_eq_true rfl, Nat.le_of_ble_eq_true rfl⟩ ⟨(by first | exact Nat.le_of_ble_eq_true rfl | omega | (dsimp only; omega) | (simp only [List.length_cons, List.length_nil]; omega)), (by first | exact Nat.le_of_ble_eq_true rfl | omega | (dsimp only; omega) | (simp only [List.length_cons, List.length_nil]; omega))⟩ (Nat.le_of_ble_eq_true rfl) dX1_put_2_9 (fun _ _ _ h => px0 h) ?_
  rintro _ _ ⟨rfl, rfl⟩
  refine V_st (st' := [.int (nI xr.1)]) rfl ?_
  refine V_st (st' := [.int (nI (ln σ r))]) (by rw [hrx.1]) ?_
  refine V_istore C dX1_put_2_12 (Nat.le_of_ble_eq_true rfl) [(0, .ref (qN g)), (1, .int (nI r)), (2, .int k), (3, .long (lN m9)), (5, .ref (qR g r)), (6, .int (nI (ln σ r)))] [1, 2, 3, 4, 5, 0] rfl ?_
  refine V_aload C dX1_put_2_14 4 rfl ?_
  refine V_callS C (c_X1_kindOf l hl G X N0 M (qR g r) 10 (by decide) xr hra) cs_X1_25 rfl rfl ⟨Nat.le_of_ble_eq_true rfl, Nat.le_of_ble_eq_true rfl⟩ ⟨(by first | exact Nat.le_of_ble_eq_true rfl | omega | (dsimp only; omega) | (simp only [List.length_cons, List.length_nil]; omega)), (by first | exact Nat.le_of_ble_eq_true rfl | omega | (dsimp only; omega) | (simp only [List.length_cons, List.length_nil]; omega))⟩ (Nat.le_of_ble_eq_true rfl) dX1_put_2_16 (fun _ _ _ h => px0 h) ?_
  rintro _ _ ⟨rfl, rfl⟩
  refine V_st (st' := [.int (nI 10)]) rfl ?_
  refine V_istore C dX1_put_2_19 (Nat.le_of_ble_eq_true rfl) [(0, .ref (qN g)), (1, .int (nI r)), (2, .int k), (3, .long (lN m9)), (5, .ref (qR g r)), (6, .int (nI (ln σ r))), (7, .int (nI 10))] [1, 2, 3, 4, 5, 6, 0] rfl ?_
  refine V_iload C dX1_put_2_21 5 rfl ?_
  refine V_pc (pc1 := 23) rfl ?_
  refine V_if_lt (tgt := 36) C dX1_put_2_23 (by decide) (fun c_23 => ?_) (fun c_23 => ?_)
  · exact absurd c_23 (nI_pos (by omega))
  · refine V_aload_n C dX1_put_2_26 rfl 0 rfl ?_
    refine V_iload C dX1_put_2_27 6 rfl ?_
    refine V_lload_n C dX1_put_2_29 rfl 3 rfl ?_
    refine V_callV C (c_X1_goes l hl G X N0 M g σ z ca C9 hR hI 10 (lN m9) (by decide)) cs_X1_230_0 hN (show CLS[0]? = some (RX1, TX1, 17) from rfl) rfl rfl ⟨Nat.le_of_ble_eq_true rfl, Nat.le_of_ble_eq_true rfl⟩ ⟨(by first | exact Nat.le_of_ble_eq_true rfl | omega | (dsimp only; omega) | (simp only [List.length_cons, List.length_nil]; omega)), (by first | exact Nat.le_of_ble_eq_true rfl | omega | (dsimp only; omega) | (simp only [List.length_cons, List.length_nil]; omega))⟩ (Nat.le_of_ble_eq_true rfl) dX1_put_2_30 (fun _ _ _ h => px0 h) ?_
    rintro _ _ ⟨rfl, rfl⟩
    refine V_st (st' := [.int (bI (mf_goes σ (nI 10) (lN m9)))]) rfl ?_
    refine V_if_ne (tgt := 44) C dX1_put_2_33 (by decide) (fun c_33 => ?_) (fun c_33 => ?_)
    · refine V_iload C dX1_put_2_44 6 rfl ?_
      refine V_bipush (v := 8) C dX1_put_2_46 rfl ?_
      refine V_icmp_eq (tgt := 58) C dX1_put_2_48 (by decide) (fun c_48 => ?_) (fun c_48 => ?_)
      · exact absurd c_48 (by decide)
      · refine V_iload C dX1_put_2_51 6 rfl ?_
        refine V_bipush (v := 9) C dX1_put_2_53 rfl ?_
        refine V_icmp_ne (tgt := 66) C dX1_put_2_55 (by decide) (fun c_55 => ?_) (fun c_55 => ?_)
        · refine V_pc (pc1 := 66) rfl ?_
          refine V_null C dX1_put_2_66 ?_
          refine V_astoreN C dX1_put_2_67 (Nat.le_of_ble_eq_true rfl) [(0, .ref (qN g)), (1, .int (nI r)), (2, .int k), (3, .long (lN m9)), (5, .ref (qR g r)), (6, .int (nI (ln σ r))), (7, .int (nI 10)), (8, .null)] [1, 2, 3, 4, 5, 6, 7, 0] rfl ?_
          refine V_aload C dX1_put_2_69 4 rfl ?_
          refine V_iload_n C dX1_put_2_71 rfl 2 rfl ?_
          refine V_lload_n C dX1_put_2_72 rfl 3 rfl ?_
          refine V_aloadN C dX1_put_2_73 7 rfl ?_
          refine V_iload C dX1_put_2_75 6 rfl ?_
          refine V_bipush (v := 10) C dX1_put_2_77 rfl ?_
          refine V_icmp_ne (tgt := 95) C dX1_put_2_79 (by decide) (fun c_79 => ?_) (fun c_79 => ?_)
          · exact absurd c_79 (by decide)
          · refine V_lload_n C dX1_put_2_82 rfl 3 rfl ?_
            refine V_lconst (v := 0) C dX1_put_2_83 rfl ?_
            refine V_lcmp C dX1_put_2_84 ?_
            refine V_pc (pc1 := 85) rfl ?_
            refine V_if_lt (tgt := 95) C dX1_put_2_85 (by decide) (fun c_85 => ?_) (fun c_85 => ?_)
            · exact absurd c_85 (lN_c0 (by omega))
            · refine V_lload_n C dX1_put_2_88 rfl 3 rfl ?_
              refine V_l2i (v := (lN m9).toInt32) C dX1_put_2_89 rfl ?_
              refine V_st (st' := [.int (nI m9), .null, .long (lN m9), .int k, .ref (qR g r)]) (by rw [show ((lN m9).toInt32) = (nI m9) from (lN_i m9)]) ?_
              have hfr : hp_fr (fun _ => False) M M := hp_fr.rf
              have hsh : hp_sh M M := hp_sh.rf
              refine V_new_i C q539 (N' := m9) (nI_pos (by omega)) (nI_clamp (by omega)) (by omega) (by first | exact Nat.le_of_ble_eq_true rfl | omega | (dsimp only; omega) | (simp only [List.length_cons, List.length_nil]; omega)) (by first | exact Nat.le_of_ble_eq_true rfl | omega | (dsimp only; omega) | (simp only [List.length_cons, List.length_nil]; omega)) dX1_put_2_90 (fun q_1 hq_2 => ?_)
              have ne_3 : (qN g) ≠ q_1 := hp_ne0 hN hq_2
              have ne_4 : (qUl g) ≠ q_1 := hp_ne0 hUl hq_2
              have ne_5 : (qR g r) ≠ q_1 := hp_ne0 hra hq_2
              obtain ⟨M_6, eM_7⟩ : ∃ z, z = hp_up M q_1 ((.inl (G.2 4, m9, .inl (fun _ => 0)))) := ⟨_, rfl⟩
              refine V_heap (M' := M_6) eM_7.symm ?_
              have ho_8 : M_6 (qN g) = some (.inr (0, [.ref (qRl g), .ref (qUl g), .ref (qPl g), .ref (qHs g), .int (σ.1 20), .int (σ.1 14), .int (σ.1 11), .int (σ.1 12), .int (σ.1 15), .int (z 0), .int (z 1), .int (z 2), .int (z 3), .int (z 4), .int (z 5), .int ca, .ref (qAn g)])) := by rw [eM_7, hp_up_n (hp_ne0 hN hq_2)]; exact hN
              have ho_9 : M_6 (qUl g) = some (.inr (1, [.int mdU, .ref (qUe g), .int (nI (nU σ))])) := by rw [eM_7, hp_up_n (hp_ne0 hUl hq_2)]; exact hUl
              have ha_10 : M_6 (qR g r) = some (.inl (G.2 10, xr)) := by rw [eM_7, hp_up_n (hp_ne0 hra hq_2)]; exact hra
              have ho_11 : M_6 q_1 = some ((.inl (G.2 4, m9, .inl (fun _ => 0)))) := by rw [eM_7]; exact hp_up_s
              have fr_12 := hp_fr.new hfr hq_2 eM_7
              have nn_13 := hp_fr.nn hfr hq_2
              have sh_14 := hp_sh.new hsh hq_2 eM_7
              refine V_goto (tgt := 96) C dX1_put_2_92 (by decide) ?_
              refine V_callS C (c_X1_put_out l hl G X N0 M_6 (qR g r) 10 (ln σ r) k xr ha_10 hrx (by omega) hout (lN m9) none (some q_1)) cs_X1_241 rfl rfl ⟨Nat.le_of_ble_eq_true rfl, Nat.le_of_ble_eq_true rfl⟩ ⟨(by first | exact Nat.le_of_ble_eq_true rfl | omega | (dsimp only; omega) | (simp only [List.length_cons, List.length_nil]; omega)), (by first | exact Nat.le_of_ble_eq_true rfl | omega | (dsimp only; omega) | (simp only [List.length_cons, List.length_nil]; omega))⟩ (Nat.le_of_ble_eq_true rfl) dX1_put_2_96 ?_ (fun _ _ h => h.elim)
              rintro q9 _ _ ⟨rfl, rfl⟩
              exact VX_out C (fun z hz => by cases hz) (SX.of hR fr_12) (by first | exact Nat.le_of_ble_eq_true rfl | omega | (dsimp only; omega) | (simp only [List.length_cons, List.length_nil]; omega)) (by first | exact Nat.le_of_ble_eq_true rfl | omega | (dsimp only; omega) | (simp only [List.length_cons, List.length_nil]; omega))
        · exact absurd c_55 (by decide)
    · exact absurd hg (bI_0.mp c_33)
section P41
variable {G : hp_G} {E0 : Nat} {g : RG} {σ σ' : MS} {z z' : Nat → Int32} {ca ca' : Int32} {C : Nat} {Y : Nat → Prop} {M M' : hp_h}
theorem MI.s0 (h : MI σ) {v : Int32} : MI (sz σ 0 v) := by
  have e : ∀ k, k ≠ 0 → (sz σ 0 v).1 k = σ.1 k := fun k hk => va_up_n hk
  have e1 : nR (sz σ 0 v) = nR σ := by unfold nR; rw [e 1 (by decide)]
  have e5 : nU (sz σ 0 v) = nU σ := by unfold nU; rw [e 5 (by decide)]
  have e8 : nJ (sz σ 0 v) = nJ σ := by unfold nJ; rw [e 8 (by decide)]
  unfold MI at h ⊢
  rw [e1, e5, e8, e 1 (by decide), e 5 (by decide), e 8 (by decide)]
  exact h
theorem SP.put (h : REL G E0 g σ z ca C M) (hC : C = 0) (hI : MI σ) {r i : Nat} (hr : r < nR σ) (hi : i < ln σ r) {x x' : vp_A} {w b : Int64} (hx : M (qR g r) = some (.inl (G.2 (kd σ r), x))) (hc : ∀ k, k < ln σ r → CE (nU σ) (nJ σ) (fun u => qU g u) (fun y => qJ g y) (kd σ r) x k (el σ r k)) (hx' : XT (kd σ r) (ln σ r) x') (ho : ∀ j, j ≠ i → cv x'.2 j = cv x.2 j) (hw : CE (nU σ) (nJ σ) (fun u => qU g u) (fun y => qJ g y) (kd σ r) x' i w)
    (hg : mf_goes σ (nI (kd σ r)) b) (hcd : kd σ r = 9 → mf_isCard σ b) (hm : mf_asE (nI (kd σ r)) b (sz σ 0 0) = (w, sz σ 0 0)) : SP G E0 g σ C M (some (.int (mf_put (nI r) (nI i) b σ).1)) (mf_put (nI r) (nI i) b σ).2 z ca (some (.int 1)) (hp_up M (qR g r) (.inl (G.2 (kd σ r), x'))) := by
  rw [put_in hI hr hg hi hcd, hm]
  exact ⟨rfl, g, (h.put1 hI hr hi hc hx' ho hw (fun c hc => by omega)).view VW.s0l, RKp.set1 (t0 := 5) (i0 := r) (j0 := 0) ⟨hr, rfl⟩ (fun t i j hd => hd) hx (show hp_sm (.inl _) (.inl (G.2 (kd σ r), x')) from rfl) rfl⟩
section NI
variable {J : Nat} {n : Int32}
theorem newInner_1 {k : Nat} (h : k ≠ 8) : (mf_newInner J n σ).1 k = σ.1 k := by simp [mf_newInner, sz, si, va_up, h]
theorem newInner_8 : (mf_newInner J n σ).1 8 = nI (J + 1) := by simp [mf_newInner, sz, va_up]
theorem newInner_2 {k : Nat} (h : k ≠ 9) (h2 : k ≠ 10) : (mf_newInner J n σ).2.1 k = σ.2.1 k := by simp [mf_newInner, sz, si, va_up, h, h2]
theorem newInner_9 {j : Nat} : (mf_newInner J n σ).2.1 9 j = if j = J then n else σ.2.1 9 j := by simp [mf_newInner, sz, si, va_up]
theorem newInner_10 : (mf_newInner J n σ).2.1 10 = mfill (σ.2.1 10) (40 * J) 40 (fun _ => 0) := by simp [mf_newInner, sz, si, va_up]
theorem newInner_3 : (mf_newInner J n σ).2.2 = σ.2.2 := by simp [mf_newInner, sz, si]
end NI
/-- a new row of ints, of m -/
theorem RELY.newInner (h : RELY G E0 g σ z ca C Y M) (hI : MI σ) (hJ : nJ σ < 8000) {m q : Nat} (hm : m ≤ 40) (hq : M q = none) : RELY G E0 (gJ g (nJ σ) q) (mf_newInner (nJ σ) (nI m) σ) z ca C Y (hp_up M q (.inl (G.2 4, m, .inl (fun _ => 0)))) := by
  refine h.inner hm hq (fun k hk => newInner_1 hk) (by show ((mf_newInner (nJ σ) (nI m) σ).1 8).toNatClampNeg = _; rw [newInner_8, nI_clamp (by omega)]) (fun k h1 h2 => newInner_2 h1 h2) (by rw [newInner_3]) (fun j hj => ?_) ?_ (fun j k hj hk => ?_) (fun k hk => ?_)
  · unfold iln; rw [newInner_9, if_neg (Nat.ne_of_lt hj)]
  · unfold iln; rw [newInner_9, if_pos rfl, nI_clamp (by omega)]
  · have := (hI.il hj).2
    rw [newInner_10, mfill_out (by omega)]
  · rw [newInner_10, mfill_in (by omega)]
theorem MI.newInner (hI : MI σ) (hJ : nJ σ < 8000) {m : Nat} (hm : m ≤ 40) : MI (mf_newInner (nJ σ) (nI m) σ) := by
  have e1 : nR (mf_newInner (nJ σ) (nI m) σ) = nR σ := by unfold nR; rw [newInner_1 (by decide)]
  have e5 : nU (mf_newInner (nJ σ) (nI m) σ) = nU σ := by unfold nU; rw [newInner_1 (by decide)]
  have e8 : nJ (mf_newInner (nJ σ) (nI m) σ) = nJ σ + 1 := by unfold nJ; rw [newInner_8, nI_clamp (show nJ σ + 1 < 2 ^ 31 by omega)]
  obtain ⟨h1, h2, h3, h4, h5, h6, h7, h8, h9, h10⟩ := hI
  refine ⟨by rw [e1, newInner_1 (by decide)]; exact h1, by rw [e5, newInner_1 (by decide)]; exact h2, by rw [e8, newInner_8]; exact ⟨rfl, by omega⟩, ?_, ?_, ?_, ?_, ?_, ?_, ?_⟩
  · rw [e1]; unfold kd; rw [newInner_2 (by decide) (by decide)]; exact h4
  · rw [e1]; unfold ln; rw [newInner_2 (by decide) (by decide)]; exact h5
  · rw [e5, newInner_2 (by decide) (by decide)]; exact h6
  · rw [e8]
    intro j hj
    unfold iln
    rw [newInner_9]
    by_cases e : j = nJ σ
    · rw [if_pos e, nI_clamp (by omega)]; exact ⟨rfl, hm⟩
    · rw [if_neg e]; exact h7 j (by omega)
  · rw [e1, e5, e8]
    unfold kd ln el
    rw [newInner_2 (by decide) (by decide), newInner_2 (by decide) (by decide), newInner_3]
    intro r i hr hi
    refine ⟨(h8 r i hr hi).1, fun hk => ?_⟩
    rcases (h8 r i hr hi).2 hk with y | ⟨j, a, b⟩
    · exact Or.inl y
    · exact Or.inr ⟨j, by omega, b⟩
  · unfold psz; rw [newInner_2 (by decide) (by decide)]; exact h9
  · unfold psz; rw [newInner_2 (by decide) (by decide), newInner_2 (by decide) (by decide)]; exact h10
/-- a new row of ints is put -/
theorem SP.putJ (h : REL G E0 g σ z ca C M) (hC : C = 0) (hI : MI σ) (hJ : nJ σ < 8000) {r i m q : Nat} (hm : m ≤ 40) (hr : r < nR σ) (hi : i < ln σ r) (hk : kd σ r = 10) {x x' : vp_A} (hq : M q = none) (hx : M (qR g r) = some (.inl (G.2 10, x))) (hx' : XT 10 (ln σ r) x') (ho : ∀ j, j ≠ i → cv x'.2 j = cv x.2 j) (hw : CE (nU σ) (nJ σ + 1) (fun u => qU g u) (fun y => qJ (gJ g (nJ σ) q) y) 10 x' i (lN (nJ σ)))
    (hg : mf_goes σ (nI (kd σ r)) (lN m)) : SP G E0 g σ C M (some (.int (mf_put (nI r) (nI i) (lN m) σ).1)) (mf_put (nI r) (nI i) (lN m) σ).2 z ca (some (.int 1)) (hp_up (hp_up M q (.inl (G.2 4, m, .inl (fun _ => 0)))) (qR g r) (.inl (G.2 10, x'))) := by
  have e9 : mf_asE (nI (kd σ r)) (lN m) (sz σ 0 0) = (lN (nJ σ), mf_newInner (nJ σ) (nI m) (sz σ 0 0)) := by
    rw [hk]
    show (if lN m = -1 then _ else _) = _
    rw [if_neg (lN_n1 (by omega)).symm, lN_i]
    rfl
  rw [put_in hI hr hg hi (fun y => by omega), e9]
  have hR1 : RELY G E0 (gJ g (nJ σ) q) (mf_newInner (nJ σ) (nI m) (sz σ 0 0)) z ca C (fun _ => False) (hp_up M q (.inl (G.2 4, m, .inl (fun _ => 0)))) := (h.view (VW.s0 (v := 0))).newInner hI.s0 hJ hm hq
  have hI1 : MI (mf_newInner (nJ σ) (nI m) (sz σ 0 0)) := hI.s0.newInner hJ hm
  have e1 : nR (mf_newInner (nJ σ) (nI m) (sz σ 0 0)) = nR σ := by unfold nR; rw [newInner_1 (by decide)]; rfl
  have e5 : nU (mf_newInner (nJ σ) (nI m) (sz σ 0 0)) = nU σ := by unfold nU; rw [newInner_1 (by decide)]; rfl
  have e8 : nJ (mf_newInner (nJ σ) (nI m) (sz σ 0 0)) = nJ σ + 1 := by unfold nJ; rw [newInner_8, nI_clamp (show nJ σ + 1 < 2 ^ 31 by omega)]
  have ek : kd (mf_newInner (nJ σ) (nI m) (sz σ 0 0)) r = 10 := by unfold kd; rw [newInner_2 (by decide) (by decide)]; exact hk
  have el' : ln (mf_newInner (nJ σ) (nI m) (sz σ 0 0)) r = ln σ r := by unfold ln; rw [newInner_2 (by decide) (by decide)]; rfl
  have hr1 : r < nR (mf_newInner (nJ σ) (nI m) (sz σ 0 0)) := by rw [e1]; exact hr
  obtain ⟨x1, b1, b2, b3⟩ := hR1.rw hr1
  rw [ek] at b1
  have hne : qR g r ≠ q := fun y => by rw [← y] at hq; rw [hx] at hq; cases hq
  have b1' : hp_up M q (.inl (G.2 4, m, .inl (fun _ => 0))) (qR g r) = some (.inl (G.2 10, x1)) := b1
  rw [hp_up_n hne, hx] at b1'
  cases b1'
  have hP := hR1.put1 (i := i) (x' := x') (w := lN (nJ σ)) hI1 hr1 (by rw [el']; exact hi) b3 (by rw [ek, el']; exact hx') ho (by rw [ek, e5, e8]; exact hw) (fun c hc => by omega)
  rw [ek] at hP
  refine ⟨rfl, _, hP, RKp.mk9 (Z := fun b => b = qR g r) (fun t i j h2 h4 h17 h19 hd h5 h15 => ?_) ?_ ?_ ?_ ?_⟩
  · refine ru_n ?_
    rintro ⟨rfl, rfl, rfl⟩
    exact absurd hd.1 (Nat.lt_irrefl _)
  · exact (hp_fr.rf.new hq rfl).set (Or.inl rfl) rfl
  · rintro a rfl
    exact ⟨5, r, 0, ⟨hr, rfl⟩, rfl⟩
  · intro t i' j hd
    rcases RD.gJ (σ := σ) (σ' := sl (mf_newInner (nJ σ) (nI m) (sz σ 0 0)) 4 (va_up ((mf_newInner (nJ σ) (nI m) (sz σ 0 0)).2.2.1 4) (40 * r + i) (lN (nJ σ)))) e8 e1 e5 (show (mf_newInner (nJ σ) (nI m) (sz σ 0 0)).2.1 16 = σ.2.1 16 from newInner_2 (by decide) (by decide)) hd with y | ⟨rfl, rfl, rfl⟩
    · exact Or.inl y
    · right
      rw [show (gJ g (nJ σ) q).1 7 (nJ σ) 0 = q from (ru_s : ru g.1 7 (nJ σ) 0 q 7 (nJ σ) 0 = q)]
      exact hq
  · refine (hp_sh.rf.new hq rfl).set (E := .inl (G.2 10, x)) ?_ rfl rfl
    rw [hp_up_n hne]; exact hx
end P41
set_option maxHeartbeats 1000000 in
theorem c_X1_put2_4 (l : Launch) (hl : l.stackTraces = false) (G : hp_G) (X : Nat → Nat) (N0 : Nat) (M : hp_h) (g : RG) (σ : MS) (z : Nat → Int32) (ca : Int32) (C9 : Nat) (hR : REL G (X 0) g σ z ca C9 M) (hI : MI σ) (r i : Nat) (hr : r < nR σ) (hi : i < ln σ r) (hkk : kd σ r = 9) (u : Nat) (hu : u < nU σ) (hcd0 : (σ.2.1 6 u).toNatClampNeg = 0) (hg : mf_goes σ (nI (kd σ r)) (lN u)) : HM l yX1_put_2 (ws_ yX1_put_2 cX1_put_2 9 (some .int)) 14 10800 4 110 G X N0 [.ref (qN g), .int (nI r), .int (nI i), .long (lN u)] M PFF (SX G (X 0) g σ C9 M "java/lang/ArrayStoreException" (sz σ 0 4) z ca) := by
  refine HM.of hl [(0, .ref (qN g)), (1, .int (nI r)), (2, .int (nI i)), (3, .long (lN u))] (by decide +kernel) rfl (Nat.le_of_ble_eq_true rfl) ?_
  intro p e s m args below meth c C hname
  have hN := hR.N
  obtain ⟨mdU, hUl⟩ := hR.Ul
  obtain ⟨fU, hUs, hUf⟩ := hR.Uls
  refine V_aload_n C dX1_put_2_0 rfl 0 rfl ?_
  refine V_iload_n C dX1_put_2_1 rfl 1 rfl ?_
  refine V_callV C (c_X1_rowOrNull_r l hl G X N0 M g σ z ca C9 hR hI r hr) cs_X1_227_0 hN (show CLS[0]? = some (RX1, TX1, 17) from rfl) rfl rfl ⟨Nat.le_of_ble_eq_true rfl, Nat.le_of_ble_eq_true rfl⟩ ⟨(by first | exact Nat.le_of_ble_eq_true rfl | omega | (dsimp only; omega) | (simp only [List.length_cons, List.length_nil]; omega)), (by first | exact Nat.le_of_ble_eq_true rfl | omega | (dsimp only; omega) | (simp only [List.length_cons, List.length_nil]; omega))⟩ (Nat.le_of_ble_eq_true rfl) dX1_put_2_2 (fun _ _ _ h => px0 h) ?_
  rintro _ _ ⟨rfl, rfl⟩
  refine V_st (st' := [.ref (qR g r)]) rfl ?_
  obtain ⟨xr, hra, hrx, hrc⟩ := hR.rw hr
  obtain ⟨hkE, hkL⟩ := hI.k hr
  obtain ⟨hlE, hlL⟩ := hI.l hr
  rw [hkk] at hra hrx hrc hg
  obtain ⟨f9, hf1, -⟩ := hR.r89 hr (Or.inr hkk)
  rw [hkk] at hf1
  have hv9 := hR.un hu
  rw [hcd0] at hv9
  refine V_astore C dX1_put_2_5 (Nat.le_of_ble_eq_true rfl) [(0, .ref (qN g)), (1, .int (nI r)), (2, .int (nI i)), (3, .long (lN u)), (5, .ref (qR g r))] [1, 2, 3, 4, 0] rfl ?_
  refine V_aload C dX1_put_2_7 4 rfl ?_
  refine V_callS C (c_X1_sizeOf l hl G X N0 M (qR g r) 9 (by decide) xr hra) cs_X1_35 rfl rfl ⟨Nat.le_of_ble_eq_true rfl, Nat.le_of_ble_eq_true rfl⟩ ⟨(by first | exact Nat.le_of_ble_eq_true rfl | omega | (dsimp only; omega) | (simp only [List.length_cons, List.length_nil]; omega)), (by first | exact Nat.le_of_ble_eq_true rfl | omega | (dsimp only; omega) | (simp only [List.length_cons, List.length_nil]; omega))⟩ (Nat.le_of_ble_eq_true rfl) dX1_put_2_9 (fun _ _ _ h => px0 h) ?_
  rintro _ _ ⟨rfl, rfl⟩
  refine V_st (st' := [.int (nI xr.1)]) rfl ?_
  refine V_st (st' := [.int (nI (ln σ r))]) (by rw [hrx.1]) ?_
  refine V_istore C dX1_put_2_12 (Nat.le_of_ble_eq_true rfl) [(0, .ref (qN g)), (1, .int (nI r)), (2, .int (nI i)), (3, .long (lN u)), (5, .ref (qR g r)), (6, .int (nI (ln σ r)))] [1, 2, 3, 4, 5, 0] rfl ?_
  refine V_aload C dX1_put_2_14 4 rfl ?_
  refine V_callS C (c_X1_kindOf l hl G X N0 M (qR g r) 9 (by decide) xr hra) cs_X1_25 rfl rfl ⟨Nat.le_of_ble_eq_true rfl, Nat.le_of_ble_eq_true rfl⟩ ⟨(by first | exact Nat.le_of_ble_eq_true rfl | omega | (dsimp only; omega) | (simp only [List.length_cons, List.length_nil]; omega)), (by first | exact Nat.le_of_ble_eq_true rfl | omega | (dsimp only; omega) | (simp only [List.length_cons, List.length_nil]; omega))⟩ (Nat.le_of_ble_eq_true rfl) dX1_put_2_16 (fun _ _ _ h => px0 h) ?_
  rintro _ _ ⟨rfl, rfl⟩
  refine V_st (st' := [.int (nI 9)]) rfl ?_
  refine V_istore C dX1_put_2_19 (Nat.le_of_ble_eq_true rfl) [(0, .ref (qN g)), (1, .int (nI r)), (2, .int (nI i)), (3, .long (lN u)), (5, .ref (qR g r)), (6, .int (nI (ln σ r))), (7, .int (nI 9))] [1, 2, 3, 4, 5, 6, 0] rfl ?_
  refine V_iload C dX1_put_2_21 5 rfl ?_
  refine V_pc (pc1 := 23) rfl ?_
  refine V_if_lt (tgt := 36) C dX1_put_2_23 (by decide) (fun c_23 => ?_) (fun c_23 => ?_)
  · exact absurd c_23 (nI_pos (by omega))
  · refine V_aload_n C dX1_put_2_26 rfl 0 rfl ?_
    refine V_iload C dX1_put_2_27 6 rfl ?_
    refine V_lload_n C dX1_put_2_29 rfl 3 rfl ?_
    refine V_callV C (c_X1_goes l hl G X N0 M g σ z ca C9 hR hI 9 (lN u) (by decide)) cs_X1_230_0 hN (show CLS[0]? = some (RX1, TX1, 17) from rfl) rfl rfl ⟨Nat.le_of_ble_eq_true rfl, Nat.le_of_ble_eq_true rfl⟩ ⟨(by first | exact Nat.le_of_ble_eq_true rfl | omega | (dsimp only; omega) | (simp only [List.length_cons, List.length_nil]; omega)), (by first | exact Nat.le_of_ble_eq_true rfl | omega | (dsimp only; omega) | (simp only [List.length_cons, List.length_nil]; omega))⟩ (Nat.le_of_ble_eq_true rfl) dX1_put_2_30 (fun _ _ _ h => px0 h) ?_
    rintro _ _ ⟨rfl, rfl⟩
    refine V_st (st' := [.int (bI (mf_goes σ (nI 9) (lN u)))]) rfl ?_
    refine V_if_ne (tgt := 44) C dX1_put_2_33 (by decide) (fun c_33 => ?_) (fun c_33 => ?_)
    · refine V_iload C dX1_put_2_44 6 rfl ?_
      refine V_bipush (v := 8) C dX1_put_2_46 rfl ?_
      refine V_icmp_eq (tgt := 58) C dX1_put_2_48 (by decide) (fun c_48 => ?_) (fun c_48 => ?_)
      · exact absurd c_48 (by decide)
      · refine V_iload C dX1_put_2_51 6 rfl ?_
        refine V_bipush (v := 9) C dX1_put_2_53 rfl ?_
        refine V_icmp_ne (tgt := 66) C dX1_put_2_55 (by decide) (fun c_55 => ?_) (fun c_55 => ?_)
        · exact absurd c_55 (by decide)
        · refine V_pc (pc1 := 58) rfl ?_
          refine V_aload_n C dX1_put_2_58 rfl 0 rfl ?_
          refine V_lload_n C dX1_put_2_59 rfl 3 rfl ?_
          refine V_callV C (c_X1_unitOf_u l hl G X N0 M g σ z ca C9 hR hI u hu) cs_X1_237_0 hN (show CLS[0]? = some (RX1, TX1, 17) from rfl) rfl rfl ⟨Nat.le_of_ble_eq_true rfl, Nat.le_of_ble_eq_true rfl⟩ ⟨(by first | exact Nat.le_of_ble_eq_true rfl | omega | (dsimp only; omega) | (simp only [List.length_cons, List.length_nil]; omega)), (by first | exact Nat.le_of_ble_eq_true rfl | omega | (dsimp only; omega) | (simp only [List.length_cons, List.length_nil]; omega))⟩ (Nat.le_of_ble_eq_true rfl) dX1_put_2_60 (fun _ _ _ h => px0 h) ?_
          rintro _ _ ⟨rfl, rfl⟩
          refine V_st (st' := [.ref (qU g u)]) rfl ?_
          refine V_goto (tgt := 67) C dX1_put_2_63 (by decide) ?_
          refine V_astore C dX1_put_2_67 (Nat.le_of_ble_eq_true rfl) [(0, .ref (qN g)), (1, .int (nI r)), (2, .int (nI i)), (3, .long (lN u)), (5, .ref (qR g r)), (6, .int (nI (ln σ r))), (7, .int (nI 9)), (8, .ref (qU g u))] [1, 2, 3, 4, 5, 6, 7, 0] rfl ?_
          refine V_aload C dX1_put_2_69 4 rfl ?_
          refine V_iload_n C dX1_put_2_71 rfl 2 rfl ?_
          refine V_lload_n C dX1_put_2_72 rfl 3 rfl ?_
          refine V_aload C dX1_put_2_73 7 rfl ?_
          refine V_iload C dX1_put_2_75 6 rfl ?_
          refine V_bipush (v := 10) C dX1_put_2_77 rfl ?_
          refine V_icmp_ne (tgt := 95) C dX1_put_2_79 (by decide) (fun c_79 => ?_) (fun c_79 => ?_)
          · refine V_pc (pc1 := 95) rfl ?_
            refine V_null C dX1_put_2_95 ?_
            refine V_callS C (c_X1_put_ase l hl G X N0 M (qR g r) (ln σ r) (qU g u) (nI i) f9 hf1 (vp_in_nI hi (by omega)) _ hv9 (lN u) none) cs_X1_241 rfl rfl ⟨Nat.le_of_ble_eq_true rfl, Nat.le_of_ble_eq_true rfl⟩ ⟨(by first | exact Nat.le_of_ble_eq_true rfl | omega | (dsimp only; omega) | (simp only [List.length_cons, List.length_nil]; omega)), (by first | exact Nat.le_of_ble_eq_true rfl | omega | (dsimp only; omega) | (simp only [List.length_cons, List.length_nil]; omega))⟩ (Nat.le_of_ble_eq_true rfl) dX1_put_2_96 ?_ (fun _ _ h => h.elim)
            rintro q9 _ _ ⟨rfl, rfl⟩
            exact VX_out C (fun z hz => by cases hz) (SX.of hR hp_fr.rf) (by first | exact Nat.le_of_ble_eq_true rfl | omega | (dsimp only; omega) | (simp only [List.length_cons, List.length_nil]; omega)) (by first | exact Nat.le_of_ble_eq_true rfl | omega | (dsimp only; omega) | (simp only [List.length_cons, List.length_nil]; omega))
          · exact absurd c_79 (by decide)
    · exact absurd hg (bI_0.mp c_33)
set_option maxHeartbeats 1000000 in
theorem c_X1_put2_0A (l : Launch) (hl : l.stackTraces = false) (G : hp_G) (X : Nat → Nat) (N0 : Nat) (M : hp_h) (g : RG) (σ : MS) (z : Nat → Int32) (ca : Int32) (C9 : Nat) (hR : REL G (X 0) g σ z ca C9 M) (hI : MI σ) (hC : C9 = 0) (r i : Nat) (hr : r < nR σ) (hi : i < ln σ r) (hk7 : kd σ r ≤ 7) (b : Int64) (hg : mf_goes σ (nI (kd σ r)) b) : HM l yX1_put_2 (ws_ yX1_put_2 cX1_put_2 9 (some .int)) 14 10800 4 110 G X N0 [.ref (qN g), .int (nI r), .int (nI i), .long b] M (SP G (X 0) g σ C9 M (some (.int (mf_put (nI r) (nI i) b σ).1)) (mf_put (nI r) (nI i) b σ).2 z ca) PX0 := by
  refine HM.of hl [(0, .ref (qN g)), (1, .int (nI r)), (2, .int (nI i)), (3, .long b)] (by decide +kernel) rfl (Nat.le_of_ble_eq_true rfl) ?_
  intro p e s m args below meth c C hname
  have hN := hR.N
  obtain ⟨mdU, hUl⟩ := hR.Ul
  obtain ⟨fU, hUs, hUf⟩ := hR.Uls
  refine V_aload_n C dX1_put_2_0 rfl 0 rfl ?_
  refine V_iload_n C dX1_put_2_1 rfl 1 rfl ?_
  refine V_callV C (c_X1_rowOrNull_r l hl G X N0 M g σ z ca C9 hR hI r hr) cs_X1_227_0 hN (show CLS[0]? = some (RX1, TX1, 17) from rfl) rfl rfl ⟨Nat.le_of_ble_eq_true rfl, Nat.le_of_ble_eq_true rfl⟩ ⟨(by first | exact Nat.le_of_ble_eq_true rfl | omega | (dsimp only; omega) | (simp only [List.length_cons, List.length_nil]; omega)), (by first | exact Nat.le_of_ble_eq_true rfl | omega | (dsimp only; omega) | (simp only [List.length_cons, List.length_nil]; omega))⟩ (Nat.le_of_ble_eq_true rfl) dX1_put_2_2 (fun _ _ _ h => px0 h) ?_
  rintro _ _ ⟨rfl, rfl⟩
  refine V_st (st' := [.ref (qR g r)]) rfl ?_
  obtain ⟨xr, hra, hrx, hrc⟩ := hR.rw hr
  obtain ⟨hkE, hkL⟩ := hI.k hr
  obtain ⟨hlE, hlL⟩ := hI.l hr
  refine V_astore C dX1_put_2_5 (Nat.le_of_ble_eq_true rfl) [(0, .ref (qN g)), (1, .int (nI r)), (2, .int (nI i)), (3, .long b), (5, .ref (qR g r))] [1, 2, 3, 4, 0] rfl ?_
  refine V_aload C dX1_put_2_7 4 rfl ?_
  refine V_callS C (c_X1_sizeOf l hl G X N0 M (qR g r) (kd σ r) (show kd σ r ≤ 10 by omega) xr hra) cs_X1_35 rfl rfl ⟨Nat.le_of_ble_eq_true rfl, Nat.le_of_ble_eq_true rfl⟩ ⟨(by first | exact Nat.le_of_ble_eq_true rfl | omega | (dsimp only; omega) | (simp only [List.length_cons, List.length_nil]; omega)), (by first | exact Nat.le_of_ble_eq_true rfl | omega | (dsimp only; omega) | (simp only [List.length_cons, List.length_nil]; omega))⟩ (Nat.le_of_ble_eq_true rfl) dX1_put_2_9 (fun _ _ _ h => px0 h) ?_
  rintro _ _ ⟨rfl, rfl⟩
  refine V_st (st' := [.int (nI xr.1)]) rfl ?_
  refine V_st (st' := [.int (nI (ln σ r))]) (by rw [hrx.1]) ?_
  refine V_istore C dX1_put_2_12 (Nat.le_of_ble_eq_true rfl) [(0, .ref (qN g)), (1, .int (nI r)), (2, .int (nI i)), (3, .long b), (5, .ref (qR g r)), (6, .int (nI (ln σ r)))] [1, 2, 3, 4, 5, 0] rfl ?_
  refine V_aload C dX1_put_2_14 4 rfl ?_
  refine V_callS C (c_X1_kindOf l hl G X N0 M (qR g r) (kd σ r) (show kd σ r ≤ 10 by omega) xr hra) cs_X1_25 rfl rfl ⟨Nat.le_of_ble_eq_true rfl, Nat.le_of_ble_eq_true rfl⟩ ⟨(by first | exact Nat.le_of_ble_eq_true rfl | omega | (dsimp only; omega) | (simp only [List.length_cons, List.length_nil]; omega)), (by first | exact Nat.le_of_ble_eq_true rfl | omega | (dsimp only; omega) | (simp only [List.length_cons, List.length_nil]; omega))⟩ (Nat.le_of_ble_eq_true rfl) dX1_put_2_16 (fun _ _ _ h => px0 h) ?_
  rintro _ _ ⟨rfl, rfl⟩
  refine V_st (st' := [.int (nI (kd σ r))]) rfl ?_
  refine V_istore C dX1_put_2_19 (Nat.le_of_ble_eq_true rfl) [(0, .ref (qN g)), (1, .int (nI r)), (2, .int (nI i)), (3, .long b), (5, .ref (qR g r)), (6, .int (nI (ln σ r))), (7, .int (nI (kd σ r)))] [1, 2, 3, 4, 5, 6, 0] rfl ?_
  refine V_iload C dX1_put_2_21 5 rfl ?_
  refine V_pc (pc1 := 23) rfl ?_
  refine V_if_lt (tgt := 36) C dX1_put_2_23 (by decide) (fun c_23 => ?_) (fun c_23 => ?_)
  · exact absurd c_23 (nI_pos (by omega))
  · refine V_aload_n C dX1_put_2_26 rfl 0 rfl ?_
    refine V_iload C dX1_put_2_27 6 rfl ?_
    refine V_lload_n C dX1_put_2_29 rfl 3 rfl ?_
    refine V_callV C (c_X1_goes l hl G X N0 M g σ z ca C9 hR hI (kd σ r) b (show kd σ r ≤ 10 by omega)) cs_X1_230_0 hN (show CLS[0]? = some (RX1, TX1, 17) from rfl) rfl rfl ⟨Nat.le_of_ble_eq_true rfl, Nat.le_of_ble_eq_true rfl⟩ ⟨(by first | exact Nat.le_of_ble_eq_true rfl | omega | (dsimp only; omega) | (simp only [List.length_cons, List.length_nil]; omega)), (by first | exact Nat.le_of_ble_eq_true rfl | omega | (dsimp only; omega) | (simp only [List.length_cons, List.length_nil]; omega))⟩ (Nat.le_of_ble_eq_true rfl) dX1_put_2_30 (fun _ _ _ h => px0 h) ?_
    rintro _ _ ⟨rfl, rfl⟩
    refine V_st (st' := [.int (bI (mf_goes σ (nI (kd σ r)) b))]) rfl ?_
    refine V_if_ne (tgt := 44) C dX1_put_2_33 (by decide) (fun c_33 => ?_) (fun c_33 => ?_)
    · refine V_iload C dX1_put_2_44 6 rfl ?_
      refine V_bipush (v := 8) C dX1_put_2_46 rfl ?_
      refine V_icmp_eq (tgt := 58) C dX1_put_2_48 (by decide) (fun c_48 => ?_) (fun c_48 => ?_)
      · exact absurd ((nI_eq (b := 8) (by omega) (by decide)).mp c_48) (by omega)
      · refine V_iload C dX1_put_2_51 6 rfl ?_
        refine V_bipush (v := 9) C dX1_put_2_53 rfl ?_
        refine V_icmp_ne (tgt := 66) C dX1_put_2_55 (by decide) (fun c_55 => ?_) (fun c_55 => ?_)
        · refine V_pc (pc1 := 66) rfl ?_
          refine V_null C dX1_put_2_66 ?_
          refine V_astoreN C dX1_put_2_67 (Nat.le_of_ble_eq_true rfl) [(0, .ref (qN g)), (1, .int (nI r)), (2, .int (nI i)), (3, .long b), (5, .ref (qR g r)), (6, .int (nI (ln σ r))), (7, .int (nI (kd σ r))), (8, .null)] [1, 2, 3, 4, 5, 6, 7, 0] rfl ?_
          refine V_aload C dX1_put_2_69 4 rfl ?_
          refine V_iload_n C dX1_put_2_71 rfl 2 rfl ?_
          refine V_lload_n C dX1_put_2_72 rfl 3 rfl ?_
          refine V_aloadN C dX1_put_2_73 7 rfl ?_
          refine V_iload C dX1_put_2_75 6 rfl ?_
          refine V_bipush (v := 10) C dX1_put_2_77 rfl ?_
          refine V_icmp_ne (tgt := 95) C dX1_put_2_79 (by decide) (fun c_79 => ?_) (fun c_79 => ?_)
          · refine V_null C dX1_put_2_95 ?_
            refine V_callS C (c_X1_put l hl G X N0 M (U := nU σ) (J := nJ σ) (ua := fun u => qU g u) (ja := fun y => qJ g y) (qR g r) (kd σ r) (ln σ r) i xr hra hrx (by omega) hi b (asV (kd σ r) b) none none (Or.inl ⟨hk7, rfl⟩)) cs_X1_241 rfl rfl ⟨Nat.le_of_ble_eq_true rfl, Nat.le_of_ble_eq_true rfl⟩ ⟨(by first | exact Nat.le_of_ble_eq_true rfl | omega | (dsimp only; omega) | (simp only [List.length_cons, List.length_nil]; omega)), (by first | exact Nat.le_of_ble_eq_true rfl | omega | (dsimp only; omega) | (simp only [List.length_cons, List.length_nil]; omega))⟩ (Nat.le_of_ble_eq_true rfl) dX1_put_2_96 (fun _ _ _ h => px0 h) ?_
            rintro _ M_1 ⟨rfl, x9, eP, hx9, ho9, hw9⟩
            refine V_st (st' := []) rfl ?_
            subst eP
            refine V_iconst (v := 1) C dX1_put_2_99 rfl ?_
            refine V_pc (pc1 := 100) rfl ?_
            refine V_iret C dX1_put_2_100 rfl ?_ (by first | exact Nat.le_of_ble_eq_true rfl | omega | (dsimp only; omega) | (simp only [List.length_cons, List.length_nil]; omega)) (by first | exact Nat.le_of_ble_eq_true rfl | omega | (dsimp only; omega) | (simp only [List.length_cons, List.length_nil]; omega))
            exact SP.put hR hC hI hr hi hra hrc hx9 ho9 hw9 hg (fun y => by omega) (asE_V (by omega) b)
          · exact absurd ((nI_eq (b := 10) (by omega) (by decide)).mp c_79) (by omega)
        · exact absurd ((nI_eq (b := 9) (by omega) (by decide)).mp c_55) (by omega)
    · exact absurd hg (bI_0.mp c_33)
set_option maxHeartbeats 1000000 in
theorem c_X1_put2_0B8n (l : Launch) (hl : l.stackTraces = false) (G : hp_G) (X : Nat → Nat) (N0 : Nat) (M : hp_h) (g : RG) (σ : MS) (z : Nat → Int32) (ca : Int32) (C9 : Nat) (hR : REL G (X 0) g σ z ca C9 M) (hI : MI σ) (hC : C9 = 0) (r i : Nat) (hr : r < nR σ) (hi : i < ln σ r) (hkk : kd σ r = 8)  (hg : mf_goes σ (nI (kd σ r)) (-1)) : HM l yX1_put_2 (ws_ yX1_put_2 cX1_put_2 9 (some .int)) 14 10800 4 110 G X N0 [.ref (qN g), .int (nI r), .int (nI i), .long (-1)] M (SP G (X 0) g σ C9 M (some (.int (mf_put (nI r) (nI i) (-1) σ).1)) (mf_put (nI r) (nI i) (-1) σ).2 z ca) PX0 := by
  refine HM.of hl [(0, .ref (qN g)), (1, .int (nI r)), (2, .int (nI i)), (3, .long (-1))] (by decide +kernel) rfl (Nat.le_of_ble_eq_true rfl) ?_
  intro p e s m args below meth c C hname
  have hN := hR.N
  obtain ⟨mdU, hUl⟩ := hR.Ul
  obtain ⟨fU, hUs, hUf⟩ := hR.Uls
  refine V_aload_n C dX1_put_2_0 rfl 0 rfl ?_
  refine V_iload_n C dX1_put_2_1 rfl 1 rfl ?_
  refine V_callV C (c_X1_rowOrNull_r l hl G X N0 M g σ z ca C9 hR hI r hr) cs_X1_227_0 hN (show CLS[0]? = some (RX1, TX1, 17) from rfl) rfl rfl ⟨Nat.le_of_ble_eq_true rfl, Nat.le_of_ble_eq_true rfl⟩ ⟨(by first | exact Nat.le_of_ble_eq_true rfl | omega | (dsimp only; omega) | (simp only [List.length_cons, List.length_nil]; omega)), (by first | exact Nat.le_of_ble_eq_true rfl | omega | (dsimp only; omega) | (simp only [List.length_cons, List.length_nil]; omega))⟩ (Nat.le_of_ble_eq_true rfl) dX1_put_2_2 (fun _ _ _ h => px0 h) ?_
  rintro _ _ ⟨rfl, rfl⟩
  refine V_st (st' := [.ref (qR g r)]) rfl ?_
  obtain ⟨xr, hra, hrx, hrc⟩ := hR.rw hr
  obtain ⟨hkE, hkL⟩ := hI.k hr
  obtain ⟨hlE, hlL⟩ := hI.l hr
  rw [hkk] at hra hrx hrc hg
  refine V_astore C dX1_put_2_5 (Nat.le_of_ble_eq_true rfl) [(0, .ref (qN g)), (1, .int (nI r)), (2, .int (nI i)), (3, .long (-1)), (5, .ref (qR g r))] [1, 2, 3, 4, 0] rfl ?_
  refine V_aload C dX1_put_2_7 4 rfl ?_
  refine V_callS C (c_X1_sizeOf l hl G X N0 M (qR g r) 8 (by decide) xr hra) cs_X1_35 rfl rfl ⟨Nat.le_of_ble_eq_true rfl, Nat.le_of_ble_eq_true rfl⟩ ⟨(by first | exact Nat.le_of_ble_eq_true rfl | omega | (dsimp only; omega) | (simp only [List.length_cons, List.length_nil]; omega)), (by first | exact Nat.le_of_ble_eq_true rfl | omega | (dsimp only; omega) | (simp only [List.length_cons, List.length_nil]; omega))⟩ (Nat.le_of_ble_eq_true rfl) dX1_put_2_9 (fun _ _ _ h => px0 h) ?_
  rintro _ _ ⟨rfl, rfl⟩
  refine V_st (st' := [.int (nI xr.1)]) rfl ?_
  refine V_st (st' := [.int (nI (ln σ r))]) (by rw [hrx.1]) ?_
  refine V_istore C dX1_put_2_12 (Nat.le_of_ble_eq_true rfl) [(0, .ref (qN g)), (1, .int (nI r)), (2, .int (nI i)), (3, .long (-1)), (5, .ref (qR g r)), (6, .int (nI (ln σ r)))] [1, 2, 3, 4, 5, 0] rfl ?_
  refine V_aload C dX1_put_2_14 4 rfl ?_
  refine V_callS C (c_X1_kindOf l hl G X N0 M (qR g r) 8 (by decide) xr hra) cs_X1_25 rfl rfl ⟨Nat.le_of_ble_eq_true rfl, Nat.le_of_ble_eq_true rfl⟩ ⟨(by first | exact Nat.le_of_ble_eq_true rfl | omega | (dsimp only; omega) | (simp only [List.length_cons, List.length_nil]; omega)), (by first | exact Nat.le_of_ble_eq_true rfl | omega | (dsimp only; omega) | (simp only [List.length_cons, List.length_nil]; omega))⟩ (Nat.le_of_ble_eq_true rfl) dX1_put_2_16 (fun _ _ _ h => px0 h) ?_
  rintro _ _ ⟨rfl, rfl⟩
  refine V_st (st' := [.int (nI 8)]) rfl ?_
  refine V_istore C dX1_put_2_19 (Nat.le_of_ble_eq_true rfl) [(0, .ref (qN g)), (1, .int (nI r)), (2, .int (nI i)), (3, .long (-1)), (5, .ref (qR g r)), (6, .int (nI (ln σ r))), (7, .int (nI 8))] [1, 2, 3, 4, 5, 6, 0] rfl ?_
  refine V_iload C dX1_put_2_21 5 rfl ?_
  refine V_pc (pc1 := 23) rfl ?_
  refine V_if_lt (tgt := 36) C dX1_put_2_23 (by decide) (fun c_23 => ?_) (fun c_23 => ?_)
  · exact absurd c_23 (nI_pos (by omega))
  · refine V_aload_n C dX1_put_2_26 rfl 0 rfl ?_
    refine V_iload C dX1_put_2_27 6 rfl ?_
    refine V_lload_n C dX1_put_2_29 rfl 3 rfl ?_
    refine V_callV C (c_X1_goes l hl G X N0 M g σ z ca C9 hR hI 8 (-1) (by decide)) cs_X1_230_0 hN (show CLS[0]? = some (RX1, TX1, 17) from rfl) rfl rfl ⟨Nat.le_of_ble_eq_true rfl, Nat.le_of_ble_eq_true rfl⟩ ⟨(by first | exact Nat.le_of_ble_eq_true rfl | omega | (dsimp only; omega) | (simp only [List.length_cons, List.length_nil]; omega)), (by first | exact Nat.le_of_ble_eq_true rfl | omega | (dsimp only; omega) | (simp only [List.length_cons, List.length_nil]; omega))⟩ (Nat.le_of_ble_eq_true rfl) dX1_put_2_30 (fun _ _ _ h => px0 h) ?_
    rintro _ _ ⟨rfl, rfl⟩
    refine V_st (st' := [.int (bI (mf_goes σ (nI 8) (-1)))]) rfl ?_
    refine V_if_ne (tgt := 44) C dX1_put_2_33 (by decide) (fun c_33 => ?_) (fun c_33 => ?_)
    · refine V_iload C dX1_put_2_44 6 rfl ?_
      refine V_bipush (v := 8) C dX1_put_2_46 rfl ?_
      refine V_icmp_eq (tgt := 58) C dX1_put_2_48 (by decide) (fun c_48 => ?_) (fun c_48 => ?_)
      · refine V_aload_n C dX1_put_2_58 rfl 0 rfl ?_
        refine V_lload_n C dX1_put_2_59 rfl 3 rfl ?_
        refine V_callV C (c_X1_unitOf_n l hl G X N0 M g σ z ca C9 hR hI (-1) (by decide)) cs_X1_237_0 hN (show CLS[0]? = some (RX1, TX1, 17) from rfl) rfl rfl ⟨Nat.le_of_ble_eq_true rfl, Nat.le_of_ble_eq_true rfl⟩ ⟨(by first | exact Nat.le_of_ble_eq_true rfl | omega | (dsimp only; omega) | (simp only [List.length_cons, List.length_nil]; omega)), (by first | exact Nat.le_of_ble_eq_true rfl | omega | (dsimp only; omega) | (simp only [List.length_cons, List.length_nil]; omega))⟩ (Nat.le_of_ble_eq_true rfl) dX1_put_2_60 (fun _ _ _ h => px0 h) ?_
        rintro _ _ ⟨rfl, rfl⟩
        refine V_st (st' := [.null]) rfl ?_
        refine V_pc (pc1 := 63) rfl ?_
        refine V_goto (tgt := 67) C dX1_put_2_63 (by decide) ?_
        refine V_astoreN C dX1_put_2_67 (Nat.le_of_ble_eq_true rfl) [(0, .ref (qN g)), (1, .int (nI r)), (2, .int (nI i)), (3, .long (-1)), (5, .ref (qR g r)), (6, .int (nI (ln σ r))), (7, .int (nI 8)), (8, .null)] [1, 2, 3, 4, 5, 6, 7, 0] rfl ?_
        refine V_aload C dX1_put_2_69 4 rfl ?_
        refine V_iload_n C dX1_put_2_71 rfl 2 rfl ?_
        refine V_lload_n C dX1_put_2_72 rfl 3 rfl ?_
        refine V_aloadN C dX1_put_2_73 7 rfl ?_
        refine V_iload C dX1_put_2_75 6 rfl ?_
        refine V_bipush (v := 10) C dX1_put_2_77 rfl ?_
        refine V_icmp_ne (tgt := 95) C dX1_put_2_79 (by decide) (fun c_79 => ?_) (fun c_79 => ?_)
        · refine V_null C dX1_put_2_95 ?_
          refine V_callS C (c_X1_put l hl G X N0 M (U := nU σ) (J := nJ σ) (ua := fun u => qU g u) (ja := fun y => qJ g y) (qR g r) 8 (ln σ r) i xr hra hrx (by omega) hi (-1) (-1) none none (Or.inr (Or.inl ⟨by simp, rfl, Or.inl ⟨rfl, rfl⟩⟩))) cs_X1_241 rfl rfl ⟨Nat.le_of_ble_eq_true rfl, Nat.le_of_ble_eq_true rfl⟩ ⟨(by first | exact Nat.le_of_ble_eq_true rfl | omega | (dsimp only; omega) | (simp only [List.length_cons, List.length_nil]; omega)), (by first | exact Nat.le_of_ble_eq_true rfl | omega | (dsimp only; omega) | (simp only [List.length_cons, List.length_nil]; omega))⟩ (Nat.le_of_ble_eq_true rfl) dX1_put_2_96 (fun _ _ _ h => px0 h) ?_
          rintro _ M_1 ⟨rfl, x9, eP, hx9, ho9, hw9⟩
          refine V_st (st' := []) rfl ?_
          subst eP
          refine V_iconst (v := 1) C dX1_put_2_99 rfl ?_
          refine V_pc (pc1 := 100) rfl ?_
          refine V_iret C dX1_put_2_100 rfl ?_ (by first | exact Nat.le_of_ble_eq_true rfl | omega | (dsimp only; omega) | (simp only [List.length_cons, List.length_nil]; omega)) (by first | exact Nat.le_of_ble_eq_true rfl | omega | (dsimp only; omega) | (simp only [List.length_cons, List.length_nil]; omega))
          have hS := SP.put (b := -1) (x := xr) (x' := x9) (i := i) (w := -1) hR hC hI hr hi (by rw [hkk]; exact hra) (by rw [hkk]; exact hrc) (by rw [hkk]; exact hx9) ho9 (by rw [hkk]; exact hw9) (by rw [hkk]; exact hg) (fun y => by omega) (by rw [hkk]; exact asE_V (k := 8) (by decide) _)
          rw [hkk] at hS
          exact hS
        · exact absurd c_79 (by decide)
      · exact absurd c_48 (by decide)
    · exact absurd hg (bI_0.mp c_33)
set_option maxHeartbeats 1000000 in
theorem c_X1_put2_0B8u (l : Launch) (hl : l.stackTraces = false) (G : hp_G) (X : Nat → Nat) (N0 : Nat) (M : hp_h) (g : RG) (σ : MS) (z : Nat → Int32) (ca : Int32) (C9 : Nat) (hR : REL G (X 0) g σ z ca C9 M) (hI : MI σ) (hC : C9 = 0) (r i : Nat) (hr : r < nR σ) (hi : i < ln σ r) (hkk : kd σ r = 8) (u : Nat) (hu : u < nU σ)  (hg : mf_goes σ (nI (kd σ r)) (lN u)) : HM l yX1_put_2 (ws_ yX1_put_2 cX1_put_2 9 (some .int)) 14 10800 4 110 G X N0 [.ref (qN g), .int (nI r), .int (nI i), .long (lN u)] M (SP G (X 0) g σ C9 M (some (.int (mf_put (nI r) (nI i) (lN u) σ).1)) (mf_put (nI r) (nI i) (lN u) σ).2 z ca) PX0 := by
  refine HM.of hl [(0, .ref (qN g)), (1, .int (nI r)), (2, .int (nI i)), (3, .long (lN u))] (by decide +kernel) rfl (Nat.le_of_ble_eq_true rfl) ?_
  intro p e s m args below meth c C hname
  have hN := hR.N
  obtain ⟨mdU, hUl⟩ := hR.Ul
  obtain ⟨fU, hUs, hUf⟩ := hR.Uls
  refine V_aload_n C dX1_put_2_0 rfl 0 rfl ?_
  refine V_iload_n C dX1_put_2_1 rfl 1 rfl ?_
  refine V_callV C (c_X1_rowOrNull_r l hl G X N0 M g σ z ca C9 hR hI r hr) cs_X1_227_0 hN (show CLS[0]? = some (RX1, TX1, 17) from rfl) rfl rfl ⟨Nat.le_of_ble_eq_true rfl, Nat.le_of_ble_eq_true rfl⟩ ⟨(by first | exact Nat.le_of_ble_eq_true rfl | omega | (dsimp only; omega) | (simp only [List.length_cons, List.length_nil]; omega)), (by first | exact Nat.le_of_ble_eq_true rfl | omega | (dsimp only; omega) | (simp only [List.length_cons, List.length_nil]; omega))⟩ (Nat.le_of_ble_eq_true rfl) dX1_put_2_2 (fun _ _ _ h => px0 h) ?_
  rintro _ _ ⟨rfl, rfl⟩
  refine V_st (st' := [.ref (qR g r)]) rfl ?_
  obtain ⟨xr, hra, hrx, hrc⟩ := hR.rw hr
  obtain ⟨hkE, hkL⟩ := hI.k hr
  obtain ⟨hlE, hlL⟩ := hI.l hr
  rw [hkk] at hra hrx hrc hg
  refine V_astore C dX1_put_2_5 (Nat.le_of_ble_eq_true rfl) [(0, .ref (qN g)), (1, .int (nI r)), (2, .int (nI i)), (3, .long (lN u)), (5, .ref (qR g r))] [1, 2, 3, 4, 0] rfl ?_
  refine V_aload C dX1_put_2_7 4 rfl ?_
  refine V_callS C (c_X1_sizeOf l hl G X N0 M (qR g r) 8 (by decide) xr hra) cs_X1_35 rfl rfl ⟨Nat.le_of_ble_eq_true rfl, Nat.le_of_ble_eq_true rfl⟩ ⟨(by first | exact Nat.le_of_ble_eq_true rfl | omega | (dsimp only; omega) | (simp only [List.length_cons, List.length_nil]; omega)), (by first | exact Nat.le_of_ble_eq_true rfl | omega | (dsimp only; omega) | (simp only [List.length_cons, List.length_nil]; omega))⟩ (Nat.le_of_ble_eq_true rfl) dX1_put_2_9 (fun _ _ _ h => px0 h) ?_
  rintro _ _ ⟨rfl, rfl⟩
  refine V_st (st' := [.int (nI xr.1)]) rfl ?_
  refine V_st (st' := [.int (nI (ln σ r))]) (by rw [hrx.1]) ?_
  refine V_istore C dX1_put_2_12 (Nat.le_of_ble_eq_true rfl) [(0, .ref (qN g)), (1, .int (nI r)), (2, .int (nI i)), (3, .long (lN u)), (5, .ref (qR g r)), (6, .int (nI (ln σ r)))] [1, 2, 3, 4, 5, 0] rfl ?_
  refine V_aload C dX1_put_2_14 4 rfl ?_
  refine V_callS C (c_X1_kindOf l hl G X N0 M (qR g r) 8 (by decide) xr hra) cs_X1_25 rfl rfl ⟨Nat.le_of_ble_eq_true rfl, Nat.le_of_ble_eq_true rfl⟩ ⟨(by first | exact Nat.le_of_ble_eq_true rfl | omega | (dsimp only; omega) | (simp only [List.length_cons, List.length_nil]; omega)), (by first | exact Nat.le_of_ble_eq_true rfl | omega | (dsimp only; omega) | (simp only [List.length_cons, List.length_nil]; omega))⟩ (Nat.le_of_ble_eq_true rfl) dX1_put_2_16 (fun _ _ _ h => px0 h) ?_
  rintro _ _ ⟨rfl, rfl⟩
  refine V_st (st' := [.int (nI 8)]) rfl ?_
  refine V_istore C dX1_put_2_19 (Nat.le_of_ble_eq_true rfl) [(0, .ref (qN g)), (1, .int (nI r)), (2, .int (nI i)), (3, .long (lN u)), (5, .ref (qR g r)), (6, .int (nI (ln σ r))), (7, .int (nI 8))] [1, 2, 3, 4, 5, 6, 0] rfl ?_
  refine V_iload C dX1_put_2_21 5 rfl ?_
  refine V_pc (pc1 := 23) rfl ?_
  refine V_if_lt (tgt := 36) C dX1_put_2_23 (by decide) (fun c_23 => ?_) (fun c_23 => ?_)
  · exact absurd c_23 (nI_pos (by omega))
  · refine V_aload_n C dX1_put_2_26 rfl 0 rfl ?_
    refine V_iload C dX1_put_2_27 6 rfl ?_
    refine V_lload_n C dX1_put_2_29 rfl 3 rfl ?_
    refine V_callV C (c_X1_goes l hl G X N0 M g σ z ca C9 hR hI 8 (lN u) (by decide)) cs_X1_230_0 hN (show CLS[0]? = some (RX1, TX1, 17) from rfl) rfl rfl ⟨Nat.le_of_ble_eq_true rfl, Nat.le_of_ble_eq_true rfl⟩ ⟨(by first | exact Nat.le_of_ble_eq_true rfl | omega | (dsimp only; omega) | (simp only [List.length_cons, List.length_nil]; omega)), (by first | exact Nat.le_of_ble_eq_true rfl | omega | (dsimp only; omega) | (simp only [List.length_cons, List.length_nil]; omega))⟩ (Nat.le_of_ble_eq_true rfl) dX1_put_2_30 (fun _ _ _ h => px0 h) ?_
    rintro _ _ ⟨rfl, rfl⟩
    refine V_st (st' := [.int (bI (mf_goes σ (nI 8) (lN u)))]) rfl ?_
    refine V_if_ne (tgt := 44) C dX1_put_2_33 (by decide) (fun c_33 => ?_) (fun c_33 => ?_)
    · refine V_iload C dX1_put_2_44 6 rfl ?_
      refine V_bipush (v := 8) C dX1_put_2_46 rfl ?_
      refine V_icmp_eq (tgt := 58) C dX1_put_2_48 (by decide) (fun c_48 => ?_) (fun c_48 => ?_)
      · refine V_aload_n C dX1_put_2_58 rfl 0 rfl ?_
        refine V_lload_n C dX1_put_2_59 rfl 3 rfl ?_
        refine V_callV C (c_X1_unitOf_u l hl G X N0 M g σ z ca C9 hR hI u hu) cs_X1_237_0 hN (show CLS[0]? = some (RX1, TX1, 17) from rfl) rfl rfl ⟨Nat.le_of_ble_eq_true rfl, Nat.le_of_ble_eq_true rfl⟩ ⟨(by first | exact Nat.le_of_ble_eq_true rfl | omega | (dsimp only; omega) | (simp only [List.length_cons, List.length_nil]; omega)), (by first | exact Nat.le_of_ble_eq_true rfl | omega | (dsimp only; omega) | (simp only [List.length_cons, List.length_nil]; omega))⟩ (Nat.le_of_ble_eq_true rfl) dX1_put_2_60 (fun _ _ _ h => px0 h) ?_
        rintro _ _ ⟨rfl, rfl⟩
        refine V_st (st' := [.ref (qU g u)]) rfl ?_
        refine V_pc (pc1 := 63) rfl ?_
        refine V_goto (tgt := 67) C dX1_put_2_63 (by decide) ?_
        refine V_astore C dX1_put_2_67 (Nat.le_of_ble_eq_true rfl) [(0, .ref (qN g)), (1, .int (nI r)), (2, .int (nI i)), (3, .long (lN u)), (5, .ref (qR g r)), (6, .int (nI (ln σ r))), (7, .int (nI 8)), (8, .ref (qU g u))] [1, 2, 3, 4, 5, 6, 7, 0] rfl ?_
        refine V_aload C dX1_put_2_69 4 rfl ?_
        refine V_iload_n C dX1_put_2_71 rfl 2 rfl ?_
        refine V_lload_n C dX1_put_2_72 rfl 3 rfl ?_
        refine V_aload C dX1_put_2_73 7 rfl ?_
        refine V_iload C dX1_put_2_75 6 rfl ?_
        refine V_bipush (v := 10) C dX1_put_2_77 rfl ?_
        refine V_icmp_ne (tgt := 95) C dX1_put_2_79 (by decide) (fun c_79 => ?_) (fun c_79 => ?_)
        · refine V_null C dX1_put_2_95 ?_
          refine V_callS C (c_X1_put l hl G X N0 M (U := nU σ) (J := nJ σ) (ua := fun u => qU g u) (ja := fun y => qJ g y) (qR g r) 8 (ln σ r) i xr hra hrx (by omega) hi (lN u) (lN u) (some (qU g u)) none (Or.inr (Or.inl ⟨by simp, rfl, Or.inr ⟨u, hu, rfl, rfl, hR.asU hI hu⟩⟩))) cs_X1_241 rfl rfl ⟨Nat.le_of_ble_eq_true rfl, Nat.le_of_ble_eq_true rfl⟩ ⟨(by first | exact Nat.le_of_ble_eq_true rfl | omega | (dsimp only; omega) | (simp only [List.length_cons, List.length_nil]; omega)), (by first | exact Nat.le_of_ble_eq_true rfl | omega | (dsimp only; omega) | (simp only [List.length_cons, List.length_nil]; omega))⟩ (Nat.le_of_ble_eq_true rfl) dX1_put_2_96 (fun _ _ _ h => px0 h) ?_
          rintro _ M_1 ⟨rfl, x9, eP, hx9, ho9, hw9⟩
          refine V_st (st' := []) rfl ?_
          subst eP
          refine V_iconst (v := 1) C dX1_put_2_99 rfl ?_
          refine V_pc (pc1 := 100) rfl ?_
          refine V_iret C dX1_put_2_100 rfl ?_ (by first | exact Nat.le_of_ble_eq_true rfl | omega | (dsimp only; omega) | (simp only [List.length_cons, List.length_nil]; omega)) (by first | exact Nat.le_of_ble_eq_true rfl | omega | (dsimp only; omega) | (simp only [List.length_cons, List.length_nil]; omega))
          have hS := SP.put (b := lN u) (x := xr) (x' := x9) (i := i) (w := lN u) hR hC hI hr hi (by rw [hkk]; exact hra) (by rw [hkk]; exact hrc) (by rw [hkk]; exact hx9) ho9 (by rw [hkk]; exact hw9) (by rw [hkk]; exact hg) (fun y => by omega) (by rw [hkk]; exact asE_V (k := 8) (by decide) _)
          rw [hkk] at hS
          exact hS
        · exact absurd c_79 (by decide)
      · exact absurd c_48 (by decide)
    · exact absurd hg (bI_0.mp c_33)
set_option maxHeartbeats 1000000 in
theorem c_X1_put2_0B9n (l : Launch) (hl : l.stackTraces = false) (G : hp_G) (X : Nat → Nat) (N0 : Nat) (M : hp_h) (g : RG) (σ : MS) (z : Nat → Int32) (ca : Int32) (C9 : Nat) (hR : REL G (X 0) g σ z ca C9 M) (hI : MI σ) (hC : C9 = 0) (r i : Nat) (hr : r < nR σ) (hi : i < ln σ r) (hkk : kd σ r = 9)  (hg : mf_goes σ (nI (kd σ r)) (-1)) : HM l yX1_put_2 (ws_ yX1_put_2 cX1_put_2 9 (some .int)) 14 10800 4 110 G X N0 [.ref (qN g), .int (nI r), .int (nI i), .long (-1)] M (SP G (X 0) g σ C9 M (some (.int (mf_put (nI r) (nI i) (-1) σ).1)) (mf_put (nI r) (nI i) (-1) σ).2 z ca) PX0 := by
  refine HM.of hl [(0, .ref (qN g)), (1, .int (nI r)), (2, .int (nI i)), (3, .long (-1))] (by decide +kernel) rfl (Nat.le_of_ble_eq_true rfl) ?_
  intro p e s m args below meth c C hname
  have hN := hR.N
  obtain ⟨mdU, hUl⟩ := hR.Ul
  obtain ⟨fU, hUs, hUf⟩ := hR.Uls
  refine V_aload_n C dX1_put_2_0 rfl 0 rfl ?_
  refine V_iload_n C dX1_put_2_1 rfl 1 rfl ?_
  refine V_callV C (c_X1_rowOrNull_r l hl G X N0 M g σ z ca C9 hR hI r hr) cs_X1_227_0 hN (show CLS[0]? = some (RX1, TX1, 17) from rfl) rfl rfl ⟨Nat.le_of_ble_eq_true rfl, Nat.le_of_ble_eq_true rfl⟩ ⟨(by first | exact Nat.le_of_ble_eq_true rfl | omega | (dsimp only; omega) | (simp only [List.length_cons, List.length_nil]; omega)), (by first | exact Nat.le_of_ble_eq_true rfl | omega | (dsimp only; omega) | (simp only [List.length_cons, List.length_nil]; omega))⟩ (Nat.le_of_ble_eq_true rfl) dX1_put_2_2 (fun _ _ _ h => px0 h) ?_
  rintro _ _ ⟨rfl, rfl⟩
  refine V_st (st' := [.ref (qR g r)]) rfl ?_
  obtain ⟨xr, hra, hrx, hrc⟩ := hR.rw hr
  obtain ⟨hkE, hkL⟩ := hI.k hr
  obtain ⟨hlE, hlL⟩ := hI.l hr
  rw [hkk] at hra hrx hrc hg
  refine V_astore C dX1_put_2_5 (Nat.le_of_ble_eq_true rfl) [(0, .ref (qN g)), (1, .int (nI r)), (2, .int (nI i)), (3, .long (-1)), (5, .ref (qR g r))] [1, 2, 3, 4, 0] rfl ?_
  refine V_aload C dX1_put_2_7 4 rfl ?_
  refine V_callS C (c_X1_sizeOf l hl G X N0 M (qR g r) 9 (by decide) xr hra) cs_X1_35 rfl rfl ⟨Nat.le_of_ble_eq_true rfl, Nat.le_of_ble_eq_true rfl⟩ ⟨(by first | exact Nat.le_of_ble_eq_true rfl | omega | (dsimp only; omega) | (simp only [List.length_cons, List.length_nil]; omega)), (by first | exact Nat.le_of_ble_eq_true rfl | omega | (dsimp only; omega) | (simp only [List.length_cons, List.length_nil]; omega))⟩ (Nat.le_of_ble_eq_true rfl) dX1_put_2_9 (fun _ _ _ h => px0 h) ?_
  rintro _ _ ⟨rfl, rfl⟩
  refine V_st (st' := [.int (nI xr.1)]) rfl ?_
  refine V_st (st' := [.int (nI (ln σ r))]) (by rw [hrx.1]) ?_
  refine V_istore C dX1_put_2_12 (Nat.le_of_ble_eq_true rfl) [(0, .ref (qN g)), (1, .int (nI r)), (2, .int (nI i)), (3, .long (-1)), (5, .ref (qR g r)), (6, .int (nI (ln σ r)))] [1, 2, 3, 4, 5, 0] rfl ?_
  refine V_aload C dX1_put_2_14 4 rfl ?_
  refine V_callS C (c_X1_kindOf l hl G X N0 M (qR g r) 9 (by decide) xr hra) cs_X1_25 rfl rfl ⟨Nat.le_of_ble_eq_true rfl, Nat.le_of_ble_eq_true rfl⟩ ⟨(by first | exact Nat.le_of_ble_eq_true rfl | omega | (dsimp only; omega) | (simp only [List.length_cons, List.length_nil]; omega)), (by first | exact Nat.le_of_ble_eq_true rfl | omega | (dsimp only; omega) | (simp only [List.length_cons, List.length_nil]; omega))⟩ (Nat.le_of_ble_eq_true rfl) dX1_put_2_16 (fun _ _ _ h => px0 h) ?_
  rintro _ _ ⟨rfl, rfl⟩
  refine V_st (st' := [.int (nI 9)]) rfl ?_
  refine V_istore C dX1_put_2_19 (Nat.le_of_ble_eq_true rfl) [(0, .ref (qN g)), (1, .int (nI r)), (2, .int (nI i)), (3, .long (-1)), (5, .ref (qR g r)), (6, .int (nI (ln σ r))), (7, .int (nI 9))] [1, 2, 3, 4, 5, 6, 0] rfl ?_
  refine V_iload C dX1_put_2_21 5 rfl ?_
  refine V_pc (pc1 := 23) rfl ?_
  refine V_if_lt (tgt := 36) C dX1_put_2_23 (by decide) (fun c_23 => ?_) (fun c_23 => ?_)
  · exact absurd c_23 (nI_pos (by omega))
  · refine V_aload_n C dX1_put_2_26 rfl 0 rfl ?_
    refine V_iload C dX1_put_2_27 6 rfl ?_
    refine V_lload_n C dX1_put_2_29 rfl 3 rfl ?_
    refine V_callV C (c_X1_goes l hl G X N0 M g σ z ca C9 hR hI 9 (-1) (by decide)) cs_X1_230_0 hN (show CLS[0]? = some (RX1, TX1, 17) from rfl) rfl rfl ⟨Nat.le_of_ble_eq_true rfl, Nat.le_of_ble_eq_true rfl⟩ ⟨(by first | exact Nat.le_of_ble_eq_true rfl | omega | (dsimp only; omega) | (simp only [List.length_cons, List.length_nil]; omega)), (by first | exact Nat.le_of_ble_eq_true rfl | omega | (dsimp only; omega) | (simp only [List.length_cons, List.length_nil]; omega))⟩ (Nat.le_of_ble_eq_true rfl) dX1_put_2_30 (fun _ _ _ h => px0 h) ?_
    rintro _ _ ⟨rfl, rfl⟩
    refine V_st (st' := [.int (bI (mf_goes σ (nI 9) (-1)))]) rfl ?_
    refine V_if_ne (tgt := 44) C dX1_put_2_33 (by decide) (fun c_33 => ?_) (fun c_33 => ?_)
    · refine V_iload C dX1_put_2_44 6 rfl ?_
      refine V_bipush (v := 8) C dX1_put_2_46 rfl ?_
      refine V_icmp_eq (tgt := 58) C dX1_put_2_48 (by decide) (fun c_48 => ?_) (fun c_48 => ?_)
      · exact absurd c_48 (by decide)
      · refine V_iload C dX1_put_2_51 6 rfl ?_
        refine V_bipush (v := 9) C dX1_put_2_53 rfl ?_
        refine V_icmp_ne (tgt := 66) C dX1_put_2_55 (by decide) (fun c_55 => ?_) (fun c_55 => ?_)
        · exact absurd c_55 (by decide)
        · refine V_pc (pc1 := 58) rfl ?_
          refine V_aload_n C dX1_put_2_58 rfl 0 rfl ?_
          refine V_lload_n C dX1_put_2_59 rfl 3 rfl ?_
          refine V_callV C (c_X1_unitOf_n l hl G X N0 M g σ z ca C9 hR hI (-1) (by decide)) cs_X1_237_0 hN (show CLS[0]? = some (RX1, TX1, 17) from rfl) rfl rfl ⟨Nat.le_of_ble_eq_true rfl, Nat.le_of_ble_eq_true rfl⟩ ⟨(by first | exact Nat.le_of_ble_eq_true rfl | omega | (dsimp only; omega) | (simp only [List.length_cons, List.length_nil]; omega)), (by first | exact Nat.le_of_ble_eq_true rfl | omega | (dsimp only; omega) | (simp only [List.length_cons, List.length_nil]; omega))⟩ (Nat.le_of_ble_eq_true rfl) dX1_put_2_60 (fun _ _ _ h => px0 h) ?_
          rintro _ _ ⟨rfl, rfl⟩
          refine V_st (st' := [.null]) rfl ?_
          refine V_goto (tgt := 67) C dX1_put_2_63 (by decide) ?_
          refine V_astoreN C dX1_put_2_67 (Nat.le_of_ble_eq_true rfl) [(0, .ref (qN g)), (1, .int (nI r)), (2, .int (nI i)), (3, .long (-1)), (5, .ref (qR g r)), (6, .int (nI (ln σ r))), (7, .int (nI 9)), (8, .null)] [1, 2, 3, 4, 5, 6, 7, 0] rfl ?_
          refine V_aload C dX1_put_2_69 4 rfl ?_
          refine V_iload_n C dX1_put_2_71 rfl 2 rfl ?_
          refine V_lload_n C dX1_put_2_72 rfl 3 rfl ?_
          refine V_aloadN C dX1_put_2_73 7 rfl ?_
          refine V_iload C dX1_put_2_75 6 rfl ?_
          refine V_bipush (v := 10) C dX1_put_2_77 rfl ?_
          refine V_icmp_ne (tgt := 95) C dX1_put_2_79 (by decide) (fun c_79 => ?_) (fun c_79 => ?_)
          · refine V_pc (pc1 := 95) rfl ?_
            refine V_null C dX1_put_2_95 ?_
            refine V_callS C (c_X1_put l hl G X N0 M (U := nU σ) (J := nJ σ) (ua := fun u => qU g u) (ja := fun y => qJ g y) (qR g r) 9 (ln σ r) i xr hra hrx (by omega) hi (-1) (-1) none none (Or.inr (Or.inl ⟨by simp, rfl, Or.inl ⟨rfl, rfl⟩⟩))) cs_X1_241 rfl rfl ⟨Nat.le_of_ble_eq_true rfl, Nat.le_of_ble_eq_true rfl⟩ ⟨(by first | exact Nat.le_of_ble_eq_true rfl | omega | (dsimp only; omega) | (simp only [List.length_cons, List.length_nil]; omega)), (by first | exact Nat.le_of_ble_eq_true rfl | omega | (dsimp only; omega) | (simp only [List.length_cons, List.length_nil]; omega))⟩ (Nat.le_of_ble_eq_true rfl) dX1_put_2_96 (fun _ _ _ h => px0 h) ?_
            rintro _ M_1 ⟨rfl, x9, eP, hx9, ho9, hw9⟩
            refine V_st (st' := []) rfl ?_
            subst eP
            refine V_iconst (v := 1) C dX1_put_2_99 rfl ?_
            refine V_iret C dX1_put_2_100 rfl ?_ (by first | exact Nat.le_of_ble_eq_true rfl | omega | (dsimp only; omega) | (simp only [List.length_cons, List.length_nil]; omega)) (by first | exact Nat.le_of_ble_eq_true rfl | omega | (dsimp only; omega) | (simp only [List.length_cons, List.length_nil]; omega))
            have hS := SP.put (b := -1) (x := xr) (x' := x9) (i := i) (w := -1) hR hC hI hr hi (by rw [hkk]; exact hra) (by rw [hkk]; exact hrc) (by rw [hkk]; exact hx9) ho9 (by rw [hkk]; exact hw9) (by rw [hkk]; exact hg) (fun _ => Or.inl rfl) (by rw [hkk]; exact asE_V (k := 9) (by decide) _)
            rw [hkk] at hS
            exact hS
          · exact absurd c_79 (by decide)
    · exact absurd hg (bI_0.mp c_33)
set_option maxHeartbeats 1000000 in
theorem c_X1_put2_0B9u (l : Launch) (hl : l.stackTraces = false) (G : hp_G) (X : Nat → Nat) (N0 : Nat) (M : hp_h) (g : RG) (σ : MS) (z : Nat → Int32) (ca : Int32) (C9 : Nat) (hR : REL G (X 0) g σ z ca C9 M) (hI : MI σ) (hC : C9 = 0) (r i : Nat) (hr : r < nR σ) (hi : i < ln σ r) (hkk : kd σ r = 9) (u : Nat) (hu : u < nU σ)  (hcd : (σ.2.1 6 u).toNatClampNeg ≠ 0) (hg : mf_goes σ (nI (kd σ r)) (lN u)) : HM l yX1_put_2 (ws_ yX1_put_2 cX1_put_2 9 (some .int)) 14 10800 4 110 G X N0 [.ref (qN g), .int (nI r), .int (nI i), .long (lN u)] M (SP G (X 0) g σ C9 M (some (.int (mf_put (nI r) (nI i) (lN u) σ).1)) (mf_put (nI r) (nI i) (lN u) σ).2 z ca) PX0 := by
  refine HM.of hl [(0, .ref (qN g)), (1, .int (nI r)), (2, .int (nI i)), (3, .long (lN u))] (by decide +kernel) rfl (Nat.le_of_ble_eq_true rfl) ?_
  intro p e s m args below meth c C hname
  have hN := hR.N
  obtain ⟨mdU, hUl⟩ := hR.Ul
  obtain ⟨fU, hUs, hUf⟩ := hR.Uls
  refine V_aload_n C dX1_put_2_0 rfl 0 rfl ?_
  refine V_iload_n C dX1_put_2_1 rfl 1 rfl ?_
  refine V_callV C (c_X1_rowOrNull_r l hl G X N0 M g σ z ca C9 hR hI r hr) cs_X1_227_0 hN (show CLS[0]? = some (RX1, TX1, 17) from rfl) rfl rfl ⟨Nat.le_of_ble_eq_true rfl, Nat.le_of_ble_eq_true rfl⟩ ⟨(by first | exact Nat.le_of_ble_eq_true rfl | omega | (dsimp only; omega) | (simp only [List.length_cons, List.length_nil]; omega)), (by first | exact Nat.le_of_ble_eq_true rfl | omega | (dsimp only; omega) | (simp only [List.length_cons, List.length_nil]; omega))⟩ (Nat.le_of_ble_eq_true rfl) dX1_put_2_2 (fun _ _ _ h => px0 h) ?_
  rintro _ _ ⟨rfl, rfl⟩
  refine V_st (st' := [.ref (qR g r)]) rfl ?_
  obtain ⟨xr, hra, hrx, hrc⟩ := hR.rw hr
  obtain ⟨hkE, hkL⟩ := hI.k hr
  obtain ⟨hlE, hlL⟩ := hI.l hr
  rw [hkk] at hra hrx hrc hg
  refine V_astore C dX1_put_2_5 (Nat.le_of_ble_eq_true rfl) [(0, .ref (qN g)), (1, .int (nI r)), (2, .int (nI i)), (3, .long (lN u)), (5, .ref (qR g r))] [1, 2, 3, 4, 0] rfl ?_
  refine V_aload C dX1_put_2_7 4 rfl ?_
  refine V_callS C (c_X1_sizeOf l hl G X N0 M (qR g r) 9 (by decide) xr hra) cs_X1_35 rfl rfl ⟨Nat.le_of_ble_eq_true rfl, Nat.le_of_ble_eq_true rfl⟩ ⟨(by first | exact Nat.le_of_ble_eq_true rfl | omega | (dsimp only; omega) | (simp only [List.length_cons, List.length_nil]; omega)), (by first | exact Nat.le_of_ble_eq_true rfl | omega | (dsimp only; omega) | (simp only [List.length_cons, List.length_nil]; omega))⟩ (Nat.le_of_ble_eq_true rfl) dX1_put_2_9 (fun _ _ _ h => px0 h) ?_
  rintro _ _ ⟨rfl, rfl⟩
  refine V_st (st' := [.int (nI xr.1)]) rfl ?_
  refine V_st (st' := [.int (nI (ln σ r))]) (by rw [hrx.1]) ?_
  refine V_istore C dX1_put_2_12 (Nat.le_of_ble_eq_true rfl) [(0, .ref (qN g)), (1, .int (nI r)), (2, .int (nI i)), (3, .long (lN u)), (5, .ref (qR g r)), (6, .int (nI (ln σ r)))] [1, 2, 3, 4, 5, 0] rfl ?_
  refine V_aload C dX1_put_2_14 4 rfl ?_
  refine V_callS C (c_X1_kindOf l hl G X N0 M (qR g r) 9 (by decide) xr hra) cs_X1_25 rfl rfl ⟨Nat.le_of_ble_eq_true rfl, Nat.le_of_ble_eq_true rfl⟩ ⟨(by first | exact Nat.le_of_ble_eq_true rfl | omega | (dsimp only; omega) | (simp only [List.length_cons, List.length_nil]; omega)), (by first | exact Nat.le_of_ble_eq_true rfl | omega | (dsimp only; omega) | (simp only [List.length_cons, List.length_nil]; omega))⟩ (Nat.le_of_ble_eq_true rfl) dX1_put_2_16 (fun _ _ _ h => px0 h) ?_
  rintro _ _ ⟨rfl, rfl⟩
  refine V_st (st' := [.int (nI 9)]) rfl ?_
  refine V_istore C dX1_put_2_19 (Nat.le_of_ble_eq_true rfl) [(0, .ref (qN g)), (1, .int (nI r)), (2, .int (nI i)), (3, .long (lN u)), (5, .ref (qR g r)), (6, .int (nI (ln σ r))), (7, .int (nI 9))] [1, 2, 3, 4, 5, 6, 0] rfl ?_
  refine V_iload C dX1_put_2_21 5 rfl ?_
  refine V_pc (pc1 := 23) rfl ?_
  refine V_if_lt (tgt := 36) C dX1_put_2_23 (by decide) (fun c_23 => ?_) (fun c_23 => ?_)
  · exact absurd c_23 (nI_pos (by omega))
  · refine V_aload_n C dX1_put_2_26 rfl 0 rfl ?_
    refine V_iload C dX1_put_2_27 6 rfl ?_
    refine V_lload_n C dX1_put_2_29 rfl 3 rfl ?_
    refine V_callV C (c_X1_goes l hl G X N0 M g σ z ca C9 hR hI 9 (lN u) (by decide)) cs_X1_230_0 hN (show CLS[0]? = some (RX1, TX1, 17) from rfl) rfl rfl ⟨Nat.le_of_ble_eq_true rfl, Nat.le_of_ble_eq_true rfl⟩ ⟨(by first | exact Nat.le_of_ble_eq_true rfl | omega | (dsimp only; omega) | (simp only [List.length_cons, List.length_nil]; omega)), (by first | exact Nat.le_of_ble_eq_true rfl | omega | (dsimp only; omega) | (simp only [List.length_cons, List.length_nil]; omega))⟩ (Nat.le_of_ble_eq_true rfl) dX1_put_2_30 (fun _ _ _ h => px0 h) ?_
    rintro _ _ ⟨rfl, rfl⟩
    refine V_st (st' := [.int (bI (mf_goes σ (nI 9) (lN u)))]) rfl ?_
    refine V_if_ne (tgt := 44) C dX1_put_2_33 (by decide) (fun c_33 => ?_) (fun c_33 => ?_)
    · refine V_iload C dX1_put_2_44 6 rfl ?_
      refine V_bipush (v := 8) C dX1_put_2_46 rfl ?_
      refine V_icmp_eq (tgt := 58) C dX1_put_2_48 (by decide) (fun c_48 => ?_) (fun c_48 => ?_)
      · exact absurd c_48 (by decide)
      · refine V_iload C dX1_put_2_51 6 rfl ?_
        refine V_bipush (v := 9) C dX1_put_2_53 rfl ?_
        refine V_icmp_ne (tgt := 66) C dX1_put_2_55 (by decide) (fun c_55 => ?_) (fun c_55 => ?_)
        · exact absurd c_55 (by decide)
        · refine V_pc (pc1 := 58) rfl ?_
          refine V_aload_n C dX1_put_2_58 rfl 0 rfl ?_
          refine V_lload_n C dX1_put_2_59 rfl 3 rfl ?_
          refine V_callV C (c_X1_unitOf_u l hl G X N0 M g σ z ca C9 hR hI u hu) cs_X1_237_0 hN (show CLS[0]? = some (RX1, TX1, 17) from rfl) rfl rfl ⟨Nat.le_of_ble_eq_true rfl, Nat.le_of_ble_eq_true rfl⟩ ⟨(by first | exact Nat.le_of_ble_eq_true rfl | omega | (dsimp only; omega) | (simp only [List.length_cons, List.length_nil]; omega)), (by first | exact Nat.le_of_ble_eq_true rfl | omega | (dsimp only; omega) | (simp only [List.length_cons, List.length_nil]; omega))⟩ (Nat.le_of_ble_eq_true rfl) dX1_put_2_60 (fun _ _ _ h => px0 h) ?_
          rintro _ _ ⟨rfl, rfl⟩
          refine V_st (st' := [.ref (qU g u)]) rfl ?_
          refine V_goto (tgt := 67) C dX1_put_2_63 (by decide) ?_
          refine V_astore C dX1_put_2_67 (Nat.le_of_ble_eq_true rfl) [(0, .ref (qN g)), (1, .int (nI r)), (2, .int (nI i)), (3, .long (lN u)), (5, .ref (qR g r)), (6, .int (nI (ln σ r))), (7, .int (nI 9)), (8, .ref (qU g u))] [1, 2, 3, 4, 5, 6, 7, 0] rfl ?_
          refine V_aload C dX1_put_2_69 4 rfl ?_
          refine V_iload_n C dX1_put_2_71 rfl 2 rfl ?_
          refine V_lload_n C dX1_put_2_72 rfl 3 rfl ?_
          refine V_aload C dX1_put_2_73 7 rfl ?_
          refine V_iload C dX1_put_2_75 6 rfl ?_
          refine V_bipush (v := 10) C dX1_put_2_77 rfl ?_
          refine V_icmp_ne (tgt := 95) C dX1_put_2_79 (by decide) (fun c_79 => ?_) (fun c_79 => ?_)
          · refine V_pc (pc1 := 95) rfl ?_
            refine V_null C dX1_put_2_95 ?_
            refine V_callS C (c_X1_put l hl G X N0 M (U := nU σ) (J := nJ σ) (ua := fun u => qU g u) (ja := fun y => qJ g y) (qR g r) 9 (ln σ r) i xr hra hrx (by omega) hi (lN u) (lN u) (some (qU g u)) none (Or.inr (Or.inl ⟨by simp, rfl, Or.inr ⟨u, hu, rfl, rfl, hR.asC hI hu hcd⟩⟩))) cs_X1_241 rfl rfl ⟨Nat.le_of_ble_eq_true rfl, Nat.le_of_ble_eq_true rfl⟩ ⟨(by first | exact Nat.le_of_ble_eq_true rfl | omega | (dsimp only; omega) | (simp only [List.length_cons, List.length_nil]; omega)), (by first | exact Nat.le_of_ble_eq_true rfl | omega | (dsimp only; omega) | (simp only [List.length_cons, List.length_nil]; omega))⟩ (Nat.le_of_ble_eq_true rfl) dX1_put_2_96 (fun _ _ _ h => px0 h) ?_
            rintro _ M_1 ⟨rfl, x9, eP, hx9, ho9, hw9⟩
            refine V_st (st' := []) rfl ?_
            subst eP
            refine V_iconst (v := 1) C dX1_put_2_99 rfl ?_
            refine V_iret C dX1_put_2_100 rfl ?_ (by first | exact Nat.le_of_ble_eq_true rfl | omega | (dsimp only; omega) | (simp only [List.length_cons, List.length_nil]; omega)) (by first | exact Nat.le_of_ble_eq_true rfl | omega | (dsimp only; omega) | (simp only [List.length_cons, List.length_nil]; omega))
            have hS := SP.put (b := lN u) (x := xr) (x' := x9) (i := i) (w := lN u) hR hC hI hr hi (by rw [hkk]; exact hra) (by rw [hkk]; exact hrc) (by rw [hkk]; exact hx9) ho9 (by rw [hkk]; exact hw9) (by rw [hkk]; exact hg) (fun _ => Or.inr (isCard_lN hI hu hcd)) (by rw [hkk]; exact asE_V (k := 9) (by decide) _)
            rw [hkk] at hS
            exact hS
          · exact absurd c_79 (by decide)
    · exact absurd hg (bI_0.mp c_33)
set_option maxHeartbeats 1000000 in
theorem c_X1_put2_0Cn (l : Launch) (hl : l.stackTraces = false) (G : hp_G) (X : Nat → Nat) (N0 : Nat) (M : hp_h) (g : RG) (σ : MS) (z : Nat → Int32) (ca : Int32) (C9 : Nat) (hR : REL G (X 0) g σ z ca C9 M) (hI : MI σ) (hC : C9 = 0) (r i : Nat) (hr : r < nR σ) (hi : i < ln σ r) (hkk : kd σ r = 10)  (hg : mf_goes σ (nI (kd σ r)) (-1)) : HM l yX1_put_2 (ws_ yX1_put_2 cX1_put_2 9 (some .int)) 14 10800 4 110 G X N0 [.ref (qN g), .int (nI r), .int (nI i), .long (-1)] M (SP G (X 0) g σ C9 M (some (.int (mf_put (nI r) (nI i) (-1) σ).1)) (mf_put (nI r) (nI i) (-1) σ).2 z ca) PX0 := by
  refine HM.of hl [(0, .ref (qN g)), (1, .int (nI r)), (2, .int (nI i)), (3, .long (-1))] (by decide +kernel) rfl (Nat.le_of_ble_eq_true rfl) ?_
  intro p e s m args below meth c C hname
  have hN := hR.N
  obtain ⟨mdU, hUl⟩ := hR.Ul
  obtain ⟨fU, hUs, hUf⟩ := hR.Uls
  refine V_aload_n C dX1_put_2_0 rfl 0 rfl ?_
  refine V_iload_n C dX1_put_2_1 rfl 1 rfl ?_
  refine V_callV C (c_X1_rowOrNull_r l hl G X N0 M g σ z ca C9 hR hI r hr) cs_X1_227_0 hN (show CLS[0]? = some (RX1, TX1, 17) from rfl) rfl rfl ⟨Nat.le_of_ble_eq_true rfl, Nat.le_of_ble_eq_true rfl⟩ ⟨(by first | exact Nat.le_of_ble_eq_true rfl | omega | (dsimp only; omega) | (simp only [List.length_cons, List.length_nil]; omega)), (by first | exact Nat.le_of_ble_eq_true rfl | omega | (dsimp only; omega) | (simp only [List.length_cons, List.length_nil]; omega))⟩ (Nat.le_of_ble_eq_true rfl) dX1_put_2_2 (fun _ _ _ h => px0 h) ?_
  rintro _ _ ⟨rfl, rfl⟩
  refine V_st (st' := [.ref (qR g r)]) rfl ?_
  obtain ⟨xr, hra, hrx, hrc⟩ := hR.rw hr
  obtain ⟨hkE, hkL⟩ := hI.k hr
  obtain ⟨hlE, hlL⟩ := hI.l hr
  rw [hkk] at hra hrx hrc hg
  refine V_astore C dX1_put_2_5 (Nat.le_of_ble_eq_true rfl) [(0, .ref (qN g)), (1, .int (nI r)), (2, .int (nI i)), (3, .long (-1)), (5, .ref (qR g r))] [1, 2, 3, 4, 0] rfl ?_
  refine V_aload C dX1_put_2_7 4 rfl ?_
  refine V_callS C (c_X1_sizeOf l hl G X N0 M (qR g r) 10 (by decide) xr hra) cs_X1_35 rfl rfl ⟨Nat.le_of_ble_eq_true rfl, Nat.le_of_ble_eq_true rfl⟩ ⟨(by first | exact Nat.le_of_ble_eq_true rfl | omega | (dsimp only; omega) | (simp only [List.length_cons, List.length_nil]; omega)), (by first | exact Nat.le_of_ble_eq_true rfl | omega | (dsimp only; omega) | (simp only [List.length_cons, List.length_nil]; omega))⟩ (Nat.le_of_ble_eq_true rfl) dX1_put_2_9 (fun _ _ _ h => px0 h) ?_
  rintro _ _ ⟨rfl, rfl⟩
  refine V_st (st' := [.int (nI xr.1)]) rfl ?_
  refine V_st (st' := [.int (nI (ln σ r))]) (by rw [hrx.1]) ?_
  refine V_istore C dX1_put_2_12 (Nat.le_of_ble_eq_true rfl) [(0, .ref (qN g)), (1, .int (nI r)), (2, .int (nI i)), (3, .long (-1)), (5, .ref (qR g r)), (6, .int (nI (ln σ r)))] [1, 2, 3, 4, 5, 0] rfl ?_
  refine V_aload C dX1_put_2_14 4 rfl ?_
  refine V_callS C (c_X1_kindOf l hl G X N0 M (qR g r) 10 (by decide) xr hra) cs_X1_25 rfl rfl ⟨Nat.le_of_ble_eq_true rfl, Nat.le_of_ble_eq_true rfl⟩ ⟨(by first | exact Nat.le_of_ble_eq_true rfl | omega | (dsimp only; omega) | (simp only [List.length_cons, List.length_nil]; omega)), (by first | exact Nat.le_of_ble_eq_true rfl | omega | (dsimp only; omega) | (simp only [List.length_cons, List.length_nil]; omega))⟩ (Nat.le_of_ble_eq_true rfl) dX1_put_2_16 (fun _ _ _ h => px0 h) ?_
  rintro _ _ ⟨rfl, rfl⟩
  refine V_st (st' := [.int (nI 10)]) rfl ?_
  refine V_istore C dX1_put_2_19 (Nat.le_of_ble_eq_true rfl) [(0, .ref (qN g)), (1, .int (nI r)), (2, .int (nI i)), (3, .long (-1)), (5, .ref (qR g r)), (6, .int (nI (ln σ r))), (7, .int (nI 10))] [1, 2, 3, 4, 5, 6, 0] rfl ?_
  refine V_iload C dX1_put_2_21 5 rfl ?_
  refine V_pc (pc1 := 23) rfl ?_
  refine V_if_lt (tgt := 36) C dX1_put_2_23 (by decide) (fun c_23 => ?_) (fun c_23 => ?_)
  · exact absurd c_23 (nI_pos (by omega))
  · refine V_aload_n C dX1_put_2_26 rfl 0 rfl ?_
    refine V_iload C dX1_put_2_27 6 rfl ?_
    refine V_lload_n C dX1_put_2_29 rfl 3 rfl ?_
    refine V_callV C (c_X1_goes l hl G X N0 M g σ z ca C9 hR hI 10 (-1) (by decide)) cs_X1_230_0 hN (show CLS[0]? = some (RX1, TX1, 17) from rfl) rfl rfl ⟨Nat.le_of_ble_eq_true rfl, Nat.le_of_ble_eq_true rfl⟩ ⟨(by first | exact Nat.le_of_ble_eq_true rfl | omega | (dsimp only; omega) | (simp only [List.length_cons, List.length_nil]; omega)), (by first | exact Nat.le_of_ble_eq_true rfl | omega | (dsimp only; omega) | (simp only [List.length_cons, List.length_nil]; omega))⟩ (Nat.le_of_ble_eq_true rfl) dX1_put_2_30 (fun _ _ _ h => px0 h) ?_
    rintro _ _ ⟨rfl, rfl⟩
    refine V_st (st' := [.int (bI (mf_goes σ (nI 10) (-1)))]) rfl ?_
    refine V_if_ne (tgt := 44) C dX1_put_2_33 (by decide) (fun c_33 => ?_) (fun c_33 => ?_)
    · refine V_iload C dX1_put_2_44 6 rfl ?_
      refine V_bipush (v := 8) C dX1_put_2_46 rfl ?_
      refine V_icmp_eq (tgt := 58) C dX1_put_2_48 (by decide) (fun c_48 => ?_) (fun c_48 => ?_)
      · exact absurd c_48 (by decide)
      · refine V_iload C dX1_put_2_51 6 rfl ?_
        refine V_bipush (v := 9) C dX1_put_2_53 rfl ?_
        refine V_icmp_ne (tgt := 66) C dX1_put_2_55 (by decide) (fun c_55 => ?_) (fun c_55 => ?_)
        · refine V_pc (pc1 := 66) rfl ?_
          refine V_null C dX1_put_2_66 ?_
          refine V_astoreN C dX1_put_2_67 (Nat.le_of_ble_eq_true rfl) [(0, .ref (qN g)), (1, .int (nI r)), (2, .int (nI i)), (3, .long (-1)), (5, .ref (qR g r)), (6, .int (nI (ln σ r))), (7, .int (nI 10)), (8, .null)] [1, 2, 3, 4, 5, 6, 7, 0] rfl ?_
          refine V_aload C dX1_put_2_69 4 rfl ?_
          refine V_iload_n C dX1_put_2_71 rfl 2 rfl ?_
          refine V_lload_n C dX1_put_2_72 rfl 3 rfl ?_
          refine V_aloadN C dX1_put_2_73 7 rfl ?_
          refine V_iload C dX1_put_2_75 6 rfl ?_
          refine V_bipush (v := 10) C dX1_put_2_77 rfl ?_
          refine V_icmp_ne (tgt := 95) C dX1_put_2_79 (by decide) (fun c_79 => ?_) (fun c_79 => ?_)
          · exact absurd c_79 (by decide)
          · refine V_lload_n C dX1_put_2_82 rfl 3 rfl ?_
            refine V_lconst (v := 0) C dX1_put_2_83 rfl ?_
            refine V_lcmp C dX1_put_2_84 ?_
            refine V_pc (pc1 := 85) rfl ?_
            refine V_if_lt (tgt := 95) C dX1_put_2_85 (by decide) (fun c_85 => ?_) (fun c_85 => ?_)
            · refine V_null C dX1_put_2_95 ?_
              refine V_callS C (c_X1_put l hl G X N0 M (U := nU σ) (J := nJ σ) (ua := fun u => qU g u) (ja := fun y => qJ g y) (qR g r) 10 (ln σ r) i xr hra hrx (by omega) hi (-1) (-1) none none (Or.inr (Or.inr ⟨rfl, Or.inl ⟨rfl, rfl⟩⟩))) cs_X1_241 rfl rfl ⟨Nat.le_of_ble_eq_true rfl, Nat.le_of_ble_eq_true rfl⟩ ⟨(by first | exact Nat.le_of_ble_eq_true rfl | omega | (dsimp only; omega) | (simp only [List.length_cons, List.length_nil]; omega)), (by first | exact Nat.le_of_ble_eq_true rfl | omega | (dsimp only; omega) | (simp only [List.length_cons, List.length_nil]; omega))⟩ (Nat.le_of_ble_eq_true rfl) dX1_put_2_96 (fun _ _ _ h => px0 h) ?_
              rintro _ M_1 ⟨rfl, x9, eP, hx9, ho9, hw9⟩
              refine V_st (st' := []) rfl ?_
              subst eP
              refine V_iconst (v := 1) C dX1_put_2_99 rfl ?_
              refine V_iret C dX1_put_2_100 rfl ?_ (by first | exact Nat.le_of_ble_eq_true rfl | omega | (dsimp only; omega) | (simp only [List.length_cons, List.length_nil]; omega)) (by first | exact Nat.le_of_ble_eq_true rfl | omega | (dsimp only; omega) | (simp only [List.length_cons, List.length_nil]; omega))
              have hS := SP.put (b := -1) (x := xr) (x' := x9) (i := i) (w := -1) hR hC hI hr hi (by rw [hkk]; exact hra) (by rw [hkk]; exact hrc) (by rw [hkk]; exact hx9) ho9 (by rw [hkk]; exact hw9) (by rw [hkk]; exact hg) (fun y => by omega) (by rw [hkk]; rfl)
              rw [hkk] at hS
              exact hS
            · exact absurd c_85 (by decide)
        · exact absurd c_55 (by decide)
    · exact absurd hg (bI_0.mp c_33)
set_option maxHeartbeats 1000000 in
theorem c_X1_put2_0Cs (l : Launch) (hl : l.stackTraces = false) (G : hp_G) (X : Nat → Nat) (N0 : Nat) (M : hp_h) (g : RG) (σ : MS) (z : Nat → Int32) (ca : Int32) (C9 : Nat) (hR : REL G (X 0) g σ z ca C9 M) (hI : MI σ) (hC : C9 = 0) (r i : Nat) (hr : r < nR σ) (hi : i < ln σ r) (hkk : kd σ r = 10) (m9 : Nat) (hm9 : m9 ≤ 40)  (hJ : nJ σ < 8000) (hg : mf_goes σ (nI (kd σ r)) (lN m9)) : HM l yX1_put_2 (ws_ yX1_put_2 cX1_put_2 9 (some .int)) 14 10800 4 110 G X N0 [.ref (qN g), .int (nI r), .int (nI i), .long (lN m9)] M (SP G (X 0) g σ C9 M (some (.int (mf_put (nI r) (nI i) (lN m9) σ).1)) (mf_put (nI r) (nI i) (lN m9) σ).2 z ca) PX0 := by
  refine HM.of hl [(0, .ref (qN g)), (1, .int (nI r)), (2, .int (nI i)), (3, .long (lN m9))] (by decide +kernel) rfl (Nat.le_of_ble_eq_true rfl) ?_
  intro p e s m args below meth c C hname
  have hN := hR.N
  obtain ⟨mdU, hUl⟩ := hR.Ul
  obtain ⟨fU, hUs, hUf⟩ := hR.Uls
  refine V_aload_n C dX1_put_2_0 rfl 0 rfl ?_
  refine V_iload_n C dX1_put_2_1 rfl 1 rfl ?_
  refine V_callV C (c_X1_rowOrNull_r l hl G X N0 M g σ z ca C9 hR hI r hr) cs_X1_227_0 hN (show CLS[0]? = some (RX1, TX1, 17) from rfl) rfl rfl ⟨Nat.le_of_ble_eq_true rfl, Nat.le_of_ble_eq_true rfl⟩ ⟨(by first | exact Nat.le_of_ble_eq_true rfl | omega | (dsimp only; omega) | (simp only [List.length_cons, List.length_nil]; omega)), (by first | exact Nat.le_of_ble_eq_true rfl | omega | (dsimp only; omega) | (simp only [List.length_cons, List.length_nil]; omega))⟩ (Nat.le_of_ble_eq_true rfl) dX1_put_2_2 (fun _ _ _ h => px0 h) ?_
  rintro _ _ ⟨rfl, rfl⟩
  refine V_st (st' := [.ref (qR g r)]) rfl ?_
  obtain ⟨xr, hra, hrx, hrc⟩ := hR.rw hr
  obtain ⟨hkE, hkL⟩ := hI.k hr
  obtain ⟨hlE, hlL⟩ := hI.l hr
  rw [hkk] at hra hrx hrc hg
  refine V_astore C dX1_put_2_5 (Nat.le_of_ble_eq_true rfl) [(0, .ref (qN g)), (1, .int (nI r)), (2, .int (nI i)), (3, .long (lN m9)), (5, .ref (qR g r))] [1, 2, 3, 4, 0] rfl ?_
  refine V_aload C dX1_put_2_7 4 rfl ?_
  refine V_callS C (c_X1_sizeOf l hl G X N0 M (qR g r) 10 (by decide) xr hra) cs_X1_35 rfl rfl ⟨Nat.le_of_ble_eq_true rfl, Nat.le_of_ble_eq_true rfl⟩ ⟨(by first | exact Nat.le_of_ble_eq_true rfl | omega | (dsimp only; omega) | (simp only [List.length_cons, List.length_nil]; omega)), (by first | exact Nat.le_of_ble_eq_true rfl | omega | (dsimp only; omega) | (simp only [List.length_cons, List.length_nil]; omega))⟩ (Nat.le_of_ble_eq_true rfl) dX1_put_2_9 (fun _ _ _ h => px0 h) ?_
  rintro _ _ ⟨rfl, rfl⟩
  refine V_st (st' := [.int (nI xr.1)]) rfl ?_
  refine V_st (st' := [.int (nI (ln σ r))]) (by rw [hrx.1]) ?_
  refine V_istore C dX1_put_2_12 (Nat.le_of_ble_eq_true rfl) [(0, .ref (qN g)), (1, .int (nI r)), (2, .int (nI i)), (3, .long (lN m9)), (5, .ref (qR g r)), (6, .int (nI (ln σ r)))] [1, 2, 3, 4, 5, 0] rfl ?_
  refine V_aload C dX1_put_2_14 4 rfl ?_
  refine V_callS C (c_X1_kindOf l hl G X N0 M (qR g r) 10 (by decide) xr hra) cs_X1_25 rfl rfl ⟨Nat.le_of_ble_eq_true rfl, Nat.le_of_ble_eq_true rfl⟩ ⟨(by first | exact Nat.le_of_ble_eq_true rfl | omega | (dsimp only; omega) | (simp only [List.length_cons, List.length_nil]; omega)), (by first | exact Nat.le_of_ble_eq_true rfl | omega | (dsimp only; omega) | (simp only [List.length_cons, List.length_nil]; omega))⟩ (Nat.le_of_ble_eq_true rfl) dX1_put_2_16 (fun _ _ _ h => px0 h) ?_
  rintro _ _ ⟨rfl, rfl⟩
  refine V_st (st' := [.int (nI 10)]) rfl ?_
  refine V_istore C dX1_put_2_19 (Nat.le_of_ble_eq_true rfl) [(0, .ref (qN g)), (1, .int (nI r)), (2, .int (nI i)), (3, .long (lN m9)), (5, .ref (qR g r)), (6, .int (nI (ln σ r))), (7, .int (nI 10))] [1, 2, 3, 4, 5, 6, 0] rfl ?_
  refine V_iload C dX1_put_2_21 5 rfl ?_
  refine V_pc (pc1 := 23) rfl ?_
  refine V_if_lt (tgt := 36) C dX1_put_2_23 (by decide) (fun c_23 => ?_) (fun c_23 => ?_)
  · exact absurd c_23 (nI_pos (by omega))
  · refine V_aload_n C dX1_put_2_26 rfl 0 rfl ?_
    refine V_iload C dX1_put_2_27 6 rfl ?_
    refine V_lload_n C dX1_put_2_29 rfl 3 rfl ?_
    refine V_callV C (c_X1_goes l hl G X N0 M g σ z ca C9 hR hI 10 (lN m9) (by decide)) cs_X1_230_0 hN (show CLS[0]? = some (RX1, TX1, 17) from rfl) rfl rfl ⟨Nat.le_of_ble_eq_true rfl, Nat.le_of_ble_eq_true rfl⟩ ⟨(by first | exact Nat.le_of_ble_eq_true rfl | omega | (dsimp only; omega) | (simp only [List.length_cons, List.length_nil]; omega)), (by first | exact Nat.le_of_ble_eq_true rfl | omega | (dsimp only; omega) | (simp only [List.length_cons, List.length_nil]; omega))⟩ (Nat.le_of_ble_eq_true rfl) dX1_put_2_30 (fun _ _ _ h => px0 h) ?_
    rintro _ _ ⟨rfl, rfl⟩
    refine V_st (st' := [.int (bI (mf_goes σ (nI 10) (lN m9)))]) rfl ?_
    refine V_if_ne (tgt := 44) C dX1_put_2_33 (by decide) (fun c_33 => ?_) (fun c_33 => ?_)
    · refine V_iload C dX1_put_2_44 6 rfl ?_
      refine V_bipush (v := 8) C dX1_put_2_46 rfl ?_
      refine V_icmp_eq (tgt := 58) C dX1_put_2_48 (by decide) (fun c_48 => ?_) (fun c_48 => ?_)
      · exact absurd c_48 (by decide)
      · refine V_iload C dX1_put_2_51 6 rfl ?_
        refine V_bipush (v := 9) C dX1_put_2_53 rfl ?_
        refine V_icmp_ne (tgt := 66) C dX1_put_2_55 (by decide) (fun c_55 => ?_) (fun c_55 => ?_)
        · refine V_pc (pc1 := 66) rfl ?_
          refine V_null C dX1_put_2_66 ?_
          refine V_astoreN C dX1_put_2_67 (Nat.le_of_ble_eq_true rfl) [(0, .ref (qN g)), (1, .int (nI r)), (2, .int (nI i)), (3, .long (lN m9)), (5, .ref (qR g r)), (6, .int (nI (ln σ r))), (7, .int (nI 10)), (8, .null)] [1, 2, 3, 4, 5, 6, 7, 0] rfl ?_
          refine V_aload C dX1_put_2_69 4 rfl ?_
          refine V_iload_n C dX1_put_2_71 rfl 2 rfl ?_
          refine V_lload_n C dX1_put_2_72 rfl 3 rfl ?_
          refine V_aloadN C dX1_put_2_73 7 rfl ?_
          refine V_iload C dX1_put_2_75 6 rfl ?_
          refine V_bipush (v := 10) C dX1_put_2_77 rfl ?_
          refine V_icmp_ne (tgt := 95) C dX1_put_2_79 (by decide) (fun c_79 => ?_) (fun c_79 => ?_)
          · exact absurd c_79 (by decide)
          · refine V_lload_n C dX1_put_2_82 rfl 3 rfl ?_
            refine V_lconst (v := 0) C dX1_put_2_83 rfl ?_
            refine V_lcmp C dX1_put_2_84 ?_
            refine V_pc (pc1 := 85) rfl ?_
            refine V_if_lt (tgt := 95) C dX1_put_2_85 (by decide) (fun c_85 => ?_) (fun c_85 => ?_)
            · exact absurd c_85 (lN_c0 (by omega))
            · refine V_lload_n C dX1_put_2_88 rfl 3 rfl ?_
              refine V_l2i (v := (lN m9).toInt32) C dX1_put_2_89 rfl ?_
              refine V_st (st' := [.int (nI m9), .null, .long (lN m9), .int (nI i), .ref (qR g r)]) (by rw [show ((lN m9).toInt32) = (nI m9) from (lN_i m9)]) ?_
              have hfr : hp_fr (fun _ => False) M M := hp_fr.rf
              have hsh : hp_sh M M := hp_sh.rf
              refine V_new_i C q539 (N' := m9) (nI_pos (by omega)) (nI_clamp (by omega)) (by omega) (by first | exact Nat.le_of_ble_eq_true rfl | omega | (dsimp only; omega) | (simp only [List.length_cons, List.length_nil]; omega)) (by first | exact Nat.le_of_ble_eq_true rfl | omega | (dsimp only; omega) | (simp only [List.length_cons, List.length_nil]; omega)) dX1_put_2_90 (fun q_1 hq_2 => ?_)
              have ne_3 : (qN g) ≠ q_1 := hp_ne0 hN hq_2
              have ne_4 : (qUl g) ≠ q_1 := hp_ne0 hUl hq_2
              have ne_5 : (qR g r) ≠ q_1 := hp_ne0 hra hq_2
              obtain ⟨M_6, eM_7⟩ : ∃ z, z = hp_up M q_1 ((.inl (G.2 4, m9, .inl (fun _ => 0)))) := ⟨_, rfl⟩
              refine V_heap (M' := M_6) eM_7.symm ?_
              have ho_8 : M_6 (qN g) = some (.inr (0, [.ref (qRl g), .ref (qUl g), .ref (qPl g), .ref (qHs g), .int (σ.1 20), .int (σ.1 14), .int (σ.1 11), .int (σ.1 12), .int (σ.1 15), .int (z 0), .int (z 1), .int (z 2), .int (z 3), .int (z 4), .int (z 5), .int ca, .ref (qAn g)])) := by rw [eM_7, hp_up_n (hp_ne0 hN hq_2)]; exact hN
              have ho_9 : M_6 (qUl g) = some (.inr (1, [.int mdU, .ref (qUe g), .int (nI (nU σ))])) := by rw [eM_7, hp_up_n (hp_ne0 hUl hq_2)]; exact hUl
              have ha_10 : M_6 (qR g r) = some (.inl (G.2 10, xr)) := by rw [eM_7, hp_up_n (hp_ne0 hra hq_2)]; exact hra
              have ho_11 : M_6 q_1 = some ((.inl (G.2 4, m9, .inl (fun _ => 0)))) := by rw [eM_7]; exact hp_up_s
              have fr_12 := hp_fr.new hfr hq_2 eM_7
              have nn_13 := hp_fr.nn hfr hq_2
              have sh_14 := hp_sh.new hsh hq_2 eM_7
              refine V_goto (tgt := 96) C dX1_put_2_92 (by decide) ?_
              have hju : qJ (gJ g (nJ σ) q_1) (nJ σ) = q_1 := (ru_s : ru g.1 7 (nJ σ) 0 q_1 7 (nJ σ) 0 = q_1)
              refine V_callS C (c_X1_put l hl G X N0 M_6 (U := nU σ) (J := nJ σ + 1) (ua := fun u => qU g u) (ja := fun y => qJ (gJ g (nJ σ) q_1) y) (qR g r) 10 (ln σ r) i xr ha_10 hrx (by omega) hi (lN m9) (lN (nJ σ)) none (some q_1) (Or.inr (Or.inr ⟨rfl, Or.inr ⟨nJ σ, by omega, rfl, congrArg some hju.symm, by show hp_AS _ _ _ (qJ (gJ g (nJ σ) q_1) (nJ σ)); rw [hju]; exact Or.inr (Or.inr ⟨rfl, _, ho_11⟩)⟩⟩))) cs_X1_241 rfl rfl ⟨Nat.le_of_ble_eq_true rfl, Nat.le_of_ble_eq_true rfl⟩ ⟨(by first | exact Nat.le_of_ble_eq_true rfl | omega | (dsimp only; omega) | (simp only [List.length_cons, List.length_nil]; omega)), (by first | exact Nat.le_of_ble_eq_true rfl | omega | (dsimp only; omega) | (simp only [List.length_cons, List.length_nil]; omega))⟩ (Nat.le_of_ble_eq_true rfl) dX1_put_2_96 (fun _ _ _ h => px0 h) ?_
              rintro _ M_15 ⟨rfl, x9, eP, hx9, ho9, hw9⟩
              refine V_st (st' := []) rfl ?_
              subst eP
              refine V_iconst (v := 1) C dX1_put_2_99 rfl ?_
              refine V_iret C dX1_put_2_100 rfl ?_ (by first | exact Nat.le_of_ble_eq_true rfl | omega | (dsimp only; omega) | (simp only [List.length_cons, List.length_nil]; omega)) (by first | exact Nat.le_of_ble_eq_true rfl | omega | (dsimp only; omega) | (simp only [List.length_cons, List.length_nil]; omega))
              rw [eM_7]
              exact SP.putJ hR hC hI hJ hm9 hr hi hkk hq_2 hra hx9 ho9 hw9 (by rw [hkk]; exact hg)
        · exact absurd c_55 (by decide)
    · exact absurd hg (bI_0.mp c_33)
