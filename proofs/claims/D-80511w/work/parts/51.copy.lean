set_option maxRecDepth 100000
section V51
variable {p : Program} {l : Launch} {e : Env} {R : Room} {s : State} {m : MethodId} {args : Array Value} {below : List Frame} {meth : Method} {c : Code} {cc : ByteArray} {own : String} {nL : Nat} {ret : Option FieldType} {hh : List (Nat × Nat × Nat × Nat)} {G : hp_G} {X : Nat → Nat} {N0 : Nat} {Q : State → Prop} {cells slots : Nat} {M : hp_h} {pc : Nat} {L : List (Nat × Value)} {rest : List Value} {idx : Nat}
/-- instanceof int[][] of a row of kind k -/
theorem V_instR (C : Cx p l s m args meth c cc own nL ret hh G X N0) {a k : Nat} {x : vp_A} (hk : k ≤ 10) (hcl : Cond.classLink own idx "[[I" ∈ lw_all) (ha : M a = some (.inl (G.2 k, x))) (hdg : decode cc pc = .ok (.instanceof idx, 3)) (kk : V p l e R s m args below meth c G N0 nL Q cells slots M (pc + 3) L (.int (bI (k = 10)) :: rest)) : V p l e R s m args below meth c G N0 nL Q cells slots M pc L (.ref a :: rest) := by
  by_cases h10 : k = 10
  · subst h10
    exact V_instAY C (j := 10) (by decide) hcl (Or.inl rfl) ha hdg kk
  · rw [← bI_f h10] at kk
    match k, hk with
    | 0, _ => exact V_instAN C (j := 0) (nm := "[[I") (by decide) hcl (List.mem_of_getElem? (i := 9) rfl) ha hdg kk
    | 1, _ => exact V_instAN C (j := 1) (nm := "[[I") (by decide) hcl (List.mem_of_getElem? (i := 19) rfl) ha hdg kk
    | 2, _ => exact V_instAN C (j := 2) (nm := "[[I") (by decide) hcl (List.mem_of_getElem? (i := 29) rfl) ha hdg kk
    | 3, _ => exact V_instAN C (j := 3) (nm := "[[I") (by decide) hcl (List.mem_of_getElem? (i := 39) rfl) ha hdg kk
    | 4, _ => exact V_instAN C (j := 4) (nm := "[[I") (by decide) hcl (List.mem_of_getElem? (i := 49) rfl) ha hdg kk
    | 5, _ => exact V_instAN C (j := 5) (nm := "[[I") (by decide) hcl (List.mem_of_getElem? (i := 59) rfl) ha hdg kk
    | 6, _ => exact V_instAN C (j := 6) (nm := "[[I") (by decide) hcl (List.mem_of_getElem? (i := 69) rfl) ha hdg kk
    | 7, _ => exact V_instAN C (j := 7) (nm := "[[I") (by decide) hcl (List.mem_of_getElem? (i := 79) rfl) ha hdg kk
    | 8, _ => exact V_instAN C (j := 8) (nm := "[[I") (by decide) hcl (List.mem_of_getElem? (i := 89) rfl) ha hdg kk
    | 9, _ => exact V_instAN C (j := 9) (nm := "[[I") (by decide) hcl (List.mem_of_getElem? (i := 98) rfl) ha hdg kk
    | 10, _ => exact absurd rfl h10
    | n + 11, h => exact absurd h (by omega)
end V51
theorem bI_iff {P Q : Prop} [Decidable P] [Decidable Q] : bI P = bI Q ↔ (P ↔ Q) := by
  unfold bI
  by_cases h1 : P <;> by_cases h2 : Q <;> simp [h1, h2]
def ktB (a b : Nat) : Bool := (refKind (KTZ a) != refKind (KTZ b)) || (!refKind (KTZ a) && KTZ a != KTZ b)
theorem kt_all : ((List.range 11).all fun a => (List.range 11).all fun b => ktB a b == !(a == b || ((a == 8 || a == 9) && (b == 8 || b == 9)) || (a == 10 && (b == 8 || b == 9)) || (b == 10 && (a == 8 || a == 9)))) = true := by decide +kernel
theorem kt_at {a b : Nat} (ha : a < 11) (hb : b < 11) : ktB a b = !(a == b || ((a == 8 || a == 9) && (b == 8 || b == 9)) || (a == 10 && (b == 8 || b == 9)) || (b == 10 && (a == 8 || a == 9))) :=
  beq_iff_eq.mp (List.all_eq_true.mp (List.all_eq_true.mp kt_all a (List.mem_range.mpr ha)) b (List.mem_range.mpr hb))
theorem kt_ne {a b : Nat} (ha : a < 11) (hb : b < 11) (h1 : ¬ (a = b ∨ ((a = 8 ∨ a = 9) ∧ (b = 8 ∨ b = 9)))) (h2 : a = 10 ↔ b = 10) : ((refKind (KTZ a) != refKind (KTZ b)) || (!refKind (KTZ a) && KTZ a != KTZ b)) = true := by
  refine (kt_at ha hb).trans ?_
  simp only [Bool.not_eq_true', Bool.or_eq_false_iff, Bool.and_eq_false_iff, beq_eq_false_iff_ne]
  omega
theorem kt_eq {a b : Nat} (ha : a < 11) (hb : b < 11) (h1 : a = b ∨ ((a = 8 ∨ a = 9) ∧ (b = 8 ∨ b = 9))) : ((refKind (KTZ a) != refKind (KTZ b)) || (!refKind (KTZ a) && KTZ a != KTZ b)) = false := by
  refine (kt_at ha hb).trans ?_
  simp only [Bool.not_eq_false', Bool.or_eq_true, Bool.and_eq_true, beq_iff_eq]
  omega
theorem places_z {σ : MS} {a : Nat} {i n : Int32} (hl : σ.2.1 3 a = nI (ln σ a) ∧ ln σ a ≤ 40) : mf_places σ a i n ↔ ¬ i < 0 ∧ ¬ n < 0 ∧ ¬ i.toInt + n.toInt > (ln σ a : Int) := by
  unfold mf_places
  rw [hl.1, nI_l (by omega), Int64.le_iff_toInt_le, Int64.toInt_add, Int32.toInt_toInt64, Int32.toInt_toInt64, lN_toInt (by omega)]
  have h1 := Int32.toInt_lt i
  have h2 := Int32.le_toInt i
  have h3 := Int32.toInt_lt n
  have h4 := Int32.le_toInt n
  rw [Int.bmod_eq_of_le (by omega) (by omega)]
  refine and_congr Iff.rfl (and_congr Iff.rfl ?_)
  omega
section F51
variable {G : hp_G} {E0 : Nat} {g g1 : RG} {σ σ' : MS} {z : Nat → Int32} {C : Nat} {M M1 M3 M' : hp_h}
theorem FLX.keep {f : Int32} {q : Nat} {E : String} (hKp : RKp (nR σ) σ g C M σ g1 C M3) (h : FLX G E0 g1 σ z C M3 σ f q E M') : FLX G E0 g σ z C M σ f q E M' :=
  FLX.after hKp (Nat.le_refl _) (fun _ _ _ h2 h4 h17 h19 hd _ _ => RD.gg h2 h4 h17 h19 hd) h
theorem FLX.row {f : Int32} {q : Nat} {E : String} (h1 : σ'.1 = σ.1) (h2 : σ'.2.1 = σ.2.1) (hKp : RKp (nR σ) σ g C M σ' g1 C M3) (h : FLX G E0 g1 σ' z C M3 σ' f q E M') : FLX G E0 g σ z C M σ' f q E M' :=
  FLX.after hKp (by unfold nR; rw [h1]; exact Nat.le_refl _) (fun t i j a2 a4 a17 a19 hd _ _ => RD.gg a2 a4 a17 a19 (by unfold RD nR nU nJ psz at hd ⊢; rw [h1, h2]; exact hd)) h
theorem CE.k89 {U J : Nat} {ua ja : Nat → Nat} {k k' : Nat} {x : vp_A} {i : Nat} {b : Int64} (h : CE U J ua ja k x i b) (hk : k = k' ∨ ((k = 8 ∨ k = 9) ∧ (k' = 8 ∨ k' = 9))) : CE U J ua ja k' x i b := by
  rcases hk with rfl | ⟨h1, h2⟩
  · exact h
  · rcases h with ⟨y, -⟩ | ⟨y, -⟩ | ⟨y, -⟩ | ⟨y, -⟩ | ⟨-, y⟩ | ⟨y, -⟩ <;> first | omega | skip
    exact Or.inr (Or.inr (Or.inr (Or.inr (Or.inl ⟨h2, y⟩))))
end F51
theorem copy_t {σ : MS} (hI : MI σ) {a b : Nat} (ha : a < nR σ) (hb : b < nR σ) : (¬ σ.2.1 2 a = σ.2.1 2 b ∧ ¬ mf_two (σ.2.1 2 a) (σ.2.1 2 b)) ↔ ¬ (kd σ a = kd σ b ∨ ((kd σ a = 8 ∨ kd σ a = 9) ∧ (kd σ b = 8 ∨ kd σ b = 9))) := by
  have h1 := hI.k ha
  have h2 := hI.k hb
  unfold mf_two
  rw [h1.1, h2.1]
  have e : ∀ x y : Nat, x ≤ 10 → y ≤ 10 → (nI x = nI y ↔ x = y) := fun x y hx hy => nI_eq (by omega) (by omega)
  have a8 := e (kd σ a) 8 h1.2 (by decide)
  have a9 := e (kd σ a) 9 h1.2 (by decide)
  have b8 := e (kd σ b) 8 h2.2 (by decide)
  have b9 := e (kd σ b) 9 h2.2 (by decide)
  rw [e _ _ h1.2 h2.2, show (8 : Int32) = nI 8 from rfl, show (9 : Int32) = nI 9 from rfl, a8, a9, b8, b9, not_or]
set_option maxHeartbeats 1000000 in
theorem c_X4_work_1 (l : Launch) (hl : l.stackTraces = false) (G : hp_G) (X : Nat → Nat) (N0 : Nat) (M : hp_h) (g : RG) (σ : MS) (z : Nat → Int32) (C9 c9 : Nat) (hC : c9 + 1 = C9) (hR : REL G (X 0) g σ z (σ.1 31) C9 M) (hI : MI σ) (P9 K9 rr rs : Nat) (x0 i j n : Int32) (hP9 : P9 < 6) (hK9 : K9 < psz σ P9) (hr : rr < nR σ) (hs : rs < nR σ) (hAF : AF σ P9 K9 = [.int x0, .int (nI rr), .int i, .int (nI rs), .int j, .int n]) (h10 : ¬ (kd σ rr = 10 ↔ kd σ rs = 10)) : HM l yX4_work (wsW_ yX4_work cX4_work 6 (some .long) [(60, 78, 81, 61), (60, 78, 92, 63)]) 24 11400 8 320 G X N0 [.ref (qH g 0), .ref (qA g P9 K9), .ref (qC g c9)] M PFF (WX G (X 0) g σ z C9 M (mf_copy σ rr i rs j n)) := by
  refine HM.ofH hl [(0, .ref (qH g 0)), (1, .ref (qA g P9 K9)), (2, .ref (qC g c9))] (by decide +kernel) rfl (Nat.le_of_ble_eq_true rfl) ?_
  intro p e s m args below meth c C hname
  have hN := hR.N
  obtain ⟨mdR, hRl⟩ := hR.Rl
  obtain ⟨fR, hRs, hRf⟩ := hR.Rls
  have hH9 : M (qH g 0) = some (.inr (10, [.int 2, .ref (qN g), .ref (qN g)])) := hR.H (by decide)
  have hac : M (qA g P9 K9) = some (.inr (3, [.int x0, .int (nI rr), .int i, .int (nI rs), .int j, .int n])) := (hR.A hP9 hK9).trans (congrArg (fun y => some (Sum.inr (3, y))) hAF)
  refine V_aload_n C dX4_work_0 rfl 0 rfl ?_
  refine V_get C f_X4_3_10 hH9 (v := .ref (qN g)) rfl dX4_work_1 ?_
  refine V_getN C f_X4_15_0 hN (v := .ref (qRl g)) rfl dX4_work_4 ?_
  refine V_aload_n C dX4_work_7 rfl 1 rfl ?_
  refine V_getN C f_X4_19_3 hac (v := .int (nI rr)) rfl dX4_work_8 ?_
  refine V_callV C (c_J2_get l hl G X N0 M (qRl g) (qRe g) (nR σ) (gcp g 2 0) mdR fR hRl (hRs.2.2.1 (by have := hRs.2.2.2.1; omega)) (by have := hRs.2.2.2.2; omega) hRs.2.2.2.1 rr (qR g rr) hr (hRf rr hr)) cs_X4_25_1 hRl (show CLS[1]? = some (RJ2, TJ2, 3) from rfl) rfl rfl ⟨Nat.le_of_ble_eq_true rfl, Nat.le_of_ble_eq_true rfl⟩ ⟨(by first | exact Nat.le_of_ble_eq_true rfl | omega | (dsimp only; omega) | (simp only [List.length_cons, List.length_nil]; omega)), (by first | exact Nat.le_of_ble_eq_true rfl | omega | (dsimp only; omega) | (simp only [List.length_cons, List.length_nil]; omega))⟩ (Nat.le_of_ble_eq_true rfl) dX4_work_11 (fun _ _ _ h => px0 h) ?_
  rintro _ _ ⟨rfl, rfl⟩
  refine V_st (st' := [.ref (qR g rr)]) rfl ?_
  refine V_astore_n C dX4_work_14 rfl (Nat.le_of_ble_eq_true rfl) [(0, .ref (qH g 0)), (1, .ref (qA g P9 K9)), (2, .ref (qC g c9)), (3, .ref (qR g rr))] [1, 2, 3, 0] rfl ?_
  refine V_aload_n C dX4_work_15 rfl 0 rfl ?_
  refine V_get C f_X4_3_10 hH9 (v := .ref (qN g)) rfl dX4_work_16 ?_
  refine V_getN C f_X4_15_0 hN (v := .ref (qRl g)) rfl dX4_work_19 ?_
  refine V_aload_n C dX4_work_22 rfl 1 rfl ?_
  refine V_pc (pc1 := 23) rfl ?_
  refine V_getN C f_X4_31_3 hac (v := .int (nI rs)) rfl dX4_work_23 ?_
  refine V_callV C (c_J2_get l hl G X N0 M (qRl g) (qRe g) (nR σ) (gcp g 2 0) mdR fR hRl (hRs.2.2.1 (by have := hRs.2.2.2.1; omega)) (by have := hRs.2.2.2.2; omega) hRs.2.2.2.1 rs (qR g rs) hs (hRf rs hs)) cs_X4_25_1 hRl (show CLS[1]? = some (RJ2, TJ2, 3) from rfl) rfl rfl ⟨Nat.le_of_ble_eq_true rfl, Nat.le_of_ble_eq_true rfl⟩ ⟨(by first | exact Nat.le_of_ble_eq_true rfl | omega | (dsimp only; omega) | (simp only [List.length_cons, List.length_nil]; omega)), (by first | exact Nat.le_of_ble_eq_true rfl | omega | (dsimp only; omega) | (simp only [List.length_cons, List.length_nil]; omega))⟩ (Nat.le_of_ble_eq_true rfl) dX4_work_26 (fun _ _ _ h => px0 h) ?_
  rintro _ _ ⟨rfl, rfl⟩
  refine V_st (st' := [.ref (qR g rs)]) rfl ?_
  refine V_astore C dX4_work_29 (Nat.le_of_ble_eq_true rfl) [(0, .ref (qH g 0)), (1, .ref (qA g P9 K9)), (2, .ref (qC g c9)), (3, .ref (qR g rr)), (4, .ref (qR g rs))] [1, 2, 3, 4, 0] rfl ?_
  refine V_aload_n C dX4_work_31 rfl 3 rfl ?_
  have hkL := (hI.k hr).2
  have hkS := (hI.k hs).2
  have hlr := hI.l hr
  have hls := hI.l hs
  obtain ⟨xr, hra, hrx, hrc⟩ := hR.rw hr
  obtain ⟨xrB, hraB, hrxB, hrcB⟩ := hR.rw hs
  refine V_instR C hkL q1156 hra dX4_work_32 ?_
  refine V_aload C dX4_work_35 4 rfl ?_
  refine V_instR C hkS q1156 hraB dX4_work_37 ?_
  refine V_icmp_eq (tgt := 52) C dX4_work_40 (by decide) (fun c_40 => ?_) (fun c_40 => ?_)
  · exact absurd (bI_iff.mp c_40) h10
  · refine V_aload_n C dX4_work_43 rfl 0 rfl ?_
    refine V_get C f_X4_3_10 hH9 (v := .ref (qN g)) rfl dX4_work_44 ?_
    refine V_iconst (v := 3) C dX4_work_47 rfl ?_
    refine V_callVN C (c_X1_fail l hl G X N0 M (qN g) (qRl g) (qUl g) (qPl g) (qHs g) (qAn g) (σ.1 20) (σ.1 14) (σ.1 11) (σ.1 12) (σ.1 15) (z 0) (z 1) (z 2) (z 3) (z 4) (z 5) (σ.1 31) 3 hN) cs_X4_36_0 hN (show CLS[0]? = some (RX1, TX1, 17) from rfl) rfl rfl ⟨Nat.le_of_ble_eq_true rfl, Nat.le_of_ble_eq_true rfl⟩ ⟨(by first | exact Nat.le_of_ble_eq_true rfl | omega | (dsimp only; omega) | (simp only [List.length_cons, List.length_nil]; omega)), (by first | exact Nat.le_of_ble_eq_true rfl | omega | (dsimp only; omega) | (simp only [List.length_cons, List.length_nil]; omega))⟩ (Nat.le_of_ble_eq_true rfl) dX4_work_48 (fun _ _ _ h => px0 h) ?_
    rintro _ M_3 ⟨q_1, rfl, hq_2, hN_4, hF_5, fr_6, sh_7⟩
    refine V_st (st' := [.ref q_1]) rfl ?_
    refine V_athrow C hF_5 (show CLS[8]? = some (RX26, TX26, 7) from rfl) dX4_work_51 ?_
    exact VX_out C (fun z9 hz => by have hz : z9 ∈ ([⟨60, 78, 81, 61⟩, ⟨60, 78, 92, 63⟩] : List ExceptionTableEntry) := hz; simp only [List.mem_cons, List.not_mem_nil, or_false] at hz; rcases hz with rfl | rfl <;> first | exact Or.inl rfl) (WX.at0 (if_pos ((copy_t hI hr hs).mpr (by omega))) (by decide) (FLX.of hR hq_2 hN_4 hF_5 fr_6 sh_7)) (by first | exact Nat.le_of_ble_eq_true rfl | omega | (dsimp only; omega) | (simp only [List.length_cons, List.length_nil]; omega)) (by first | exact Nat.le_of_ble_eq_true rfl | omega | (dsimp only; omega) | (simp only [List.length_cons, List.length_nil]; omega))
set_option maxHeartbeats 1000000 in
theorem c_X4_work_2 (l : Launch) (hl : l.stackTraces = false) (G : hp_G) (X : Nat → Nat) (N0 : Nat) (M : hp_h) (g : RG) (σ : MS) (z : Nat → Int32) (C9 c9 : Nat) (hC : c9 + 1 = C9) (hR : REL G (X 0) g σ z (σ.1 31) C9 M) (hI : MI σ) (P9 K9 rr rs : Nat) (x0 i j n : Int32) (hP9 : P9 < 6) (hK9 : K9 < psz σ P9) (hr : rr < nR σ) (hs : rs < nR σ) (hAF : AF σ P9 K9 = [.int x0, .int (nI rr), .int i, .int (nI rs), .int j, .int n]) (h10 : kd σ rr = 10 ↔ kd σ rs = 10) (hkk : ¬ (kd σ rr = kd σ rs ∨ ((kd σ rr = 8 ∨ kd σ rr = 9) ∧ (kd σ rs = 8 ∨ kd σ rs = 9)))) (hm : MW σ) : HM l yX4_work (wsW_ yX4_work cX4_work 6 (some .long) [(60, 78, 81, 61), (60, 78, 92, 63)]) 24 11400 8 320 G X N0 [.ref (qH g 0), .ref (qA g P9 K9), .ref (qC g c9)] M PFF (WX G (X 0) g σ z C9 M (mf_copy σ rr i rs j n)) := by
  refine HM.ofH hl [(0, .ref (qH g 0)), (1, .ref (qA g P9 K9)), (2, .ref (qC g c9))] (by decide +kernel) rfl (Nat.le_of_ble_eq_true rfl) ?_
  intro p e s m args below meth c C hname
  have hN := hR.N
  obtain ⟨mdR, hRl⟩ := hR.Rl
  obtain ⟨fR, hRs, hRf⟩ := hR.Rls
  have hH9 : M (qH g 0) = some (.inr (10, [.int 2, .ref (qN g), .ref (qN g)])) := hR.H (by decide)
  have hac : M (qA g P9 K9) = some (.inr (3, [.int x0, .int (nI rr), .int i, .int (nI rs), .int j, .int n])) := (hR.A hP9 hK9).trans (congrArg (fun y => some (Sum.inr (3, y))) hAF)
  have hcC : c9 < C9 := by omega
  have hCc := hR.Cc hcC
  refine V_aload_n C dX4_work_0 rfl 0 rfl ?_
  refine V_get C f_X4_3_10 hH9 (v := .ref (qN g)) rfl dX4_work_1 ?_
  refine V_getN C f_X4_15_0 hN (v := .ref (qRl g)) rfl dX4_work_4 ?_
  refine V_aload_n C dX4_work_7 rfl 1 rfl ?_
  refine V_getN C f_X4_19_3 hac (v := .int (nI rr)) rfl dX4_work_8 ?_
  refine V_callV C (c_J2_get l hl G X N0 M (qRl g) (qRe g) (nR σ) (gcp g 2 0) mdR fR hRl (hRs.2.2.1 (by have := hRs.2.2.2.1; omega)) (by have := hRs.2.2.2.2; omega) hRs.2.2.2.1 rr (qR g rr) hr (hRf rr hr)) cs_X4_25_1 hRl (show CLS[1]? = some (RJ2, TJ2, 3) from rfl) rfl rfl ⟨Nat.le_of_ble_eq_true rfl, Nat.le_of_ble_eq_true rfl⟩ ⟨(by first | exact Nat.le_of_ble_eq_true rfl | omega | (dsimp only; omega) | (simp only [List.length_cons, List.length_nil]; omega)), (by first | exact Nat.le_of_ble_eq_true rfl | omega | (dsimp only; omega) | (simp only [List.length_cons, List.length_nil]; omega))⟩ (Nat.le_of_ble_eq_true rfl) dX4_work_11 (fun _ _ _ h => px0 h) ?_
  rintro _ _ ⟨rfl, rfl⟩
  refine V_st (st' := [.ref (qR g rr)]) rfl ?_
  refine V_astore_n C dX4_work_14 rfl (Nat.le_of_ble_eq_true rfl) [(0, .ref (qH g 0)), (1, .ref (qA g P9 K9)), (2, .ref (qC g c9)), (3, .ref (qR g rr))] [1, 2, 3, 0] rfl ?_
  refine V_aload_n C dX4_work_15 rfl 0 rfl ?_
  refine V_get C f_X4_3_10 hH9 (v := .ref (qN g)) rfl dX4_work_16 ?_
  refine V_getN C f_X4_15_0 hN (v := .ref (qRl g)) rfl dX4_work_19 ?_
  refine V_aload_n C dX4_work_22 rfl 1 rfl ?_
  refine V_pc (pc1 := 23) rfl ?_
  refine V_getN C f_X4_31_3 hac (v := .int (nI rs)) rfl dX4_work_23 ?_
  refine V_callV C (c_J2_get l hl G X N0 M (qRl g) (qRe g) (nR σ) (gcp g 2 0) mdR fR hRl (hRs.2.2.1 (by have := hRs.2.2.2.1; omega)) (by have := hRs.2.2.2.2; omega) hRs.2.2.2.1 rs (qR g rs) hs (hRf rs hs)) cs_X4_25_1 hRl (show CLS[1]? = some (RJ2, TJ2, 3) from rfl) rfl rfl ⟨Nat.le_of_ble_eq_true rfl, Nat.le_of_ble_eq_true rfl⟩ ⟨(by first | exact Nat.le_of_ble_eq_true rfl | omega | (dsimp only; omega) | (simp only [List.length_cons, List.length_nil]; omega)), (by first | exact Nat.le_of_ble_eq_true rfl | omega | (dsimp only; omega) | (simp only [List.length_cons, List.length_nil]; omega))⟩ (Nat.le_of_ble_eq_true rfl) dX4_work_26 (fun _ _ _ h => px0 h) ?_
  rintro _ _ ⟨rfl, rfl⟩
  refine V_st (st' := [.ref (qR g rs)]) rfl ?_
  refine V_astore C dX4_work_29 (Nat.le_of_ble_eq_true rfl) [(0, .ref (qH g 0)), (1, .ref (qA g P9 K9)), (2, .ref (qC g c9)), (3, .ref (qR g rr)), (4, .ref (qR g rs))] [1, 2, 3, 4, 0] rfl ?_
  refine V_aload_n C dX4_work_31 rfl 3 rfl ?_
  have hkL := (hI.k hr).2
  have hkS := (hI.k hs).2
  have hlr := hI.l hr
  have hls := hI.l hs
  obtain ⟨xr, hra, hrx, hrc⟩ := hR.rw hr
  obtain ⟨xrB, hraB, hrxB, hrcB⟩ := hR.rw hs
  refine V_instR C hkL q1156 hra dX4_work_32 ?_
  refine V_aload C dX4_work_35 4 rfl ?_
  refine V_instR C hkS q1156 hraB dX4_work_37 ?_
  refine V_icmp_eq (tgt := 52) C dX4_work_40 (by decide) (fun c_40 => ?_) (fun c_40 => ?_)
  · refine V_aload_n C dX4_work_52 rfl 2 rfl ?_
    refine V_aload_n C dX4_work_53 rfl 1 rfl ?_
    refine V_getN C f_X4_31_3 hac (v := .int (nI rs)) rfl dX4_work_54 ?_
    have hfr : hp_fr (fun _ => False) M M := hp_fr.rf
    have hsh : hp_sh M M := hp_sh.rf
    refine V_callV C (c_X25_keep l hl G X N0 M g σ z C9 c9 hC hR hI hm rs hs) cs_X4_40_4 hCc (show CLS[4]? = some (RX25, TX25, 8) from rfl) rfl rfl ⟨Nat.le_of_ble_eq_true rfl, Nat.le_of_ble_eq_true rfl⟩ ⟨(by first | exact Nat.le_of_ble_eq_true rfl | omega | (dsimp only; omega) | (simp only [List.length_cons, List.length_nil]; omega)), (by first | exact Nat.le_of_ble_eq_true rfl | omega | (dsimp only; omega) | (simp only [List.length_cons, List.length_nil]; omega))⟩ (Nat.le_of_ble_eq_true rfl) dX4_work_57 (fun _ _ _ h => px0 h) ?_
    rintro _ M_1 ⟨rfl, g1, hk1, hR1, hkw1, hKp1⟩
    refine V_st (st' := []) rfl ?_
    have eg_2 : (qH g1 0) = (qH g 0) := hk1 13 0 0 (by decide) (by decide)
    have eg_3 : (qA g1 P9 K9) = (qA g P9 K9) := hk1 11 P9 K9 (by decide) (by decide)
    have eg_4 : (qC g1 c9) = (qC g c9) := hk1 15 c9 0 (by decide) (by decide)
    have eg_5 : (qR g1 rr) = (qR g rr) := hk1 5 rr 0 (by decide) (by decide)
    have eg_6 : (qR g1 rs) = (qR g rs) := hk1 5 rs 0 (by decide) (by decide)
    refine V_loc (L' := [(0, .ref (qH g1 0)), (1, .ref (qA g1 P9 K9)), (2, .ref (qC g1 c9)), (3, .ref (qR g1 rr)), (4, .ref (qR g1 rs))]) [0, 1, 2, 3, 4] (by rw [eg_2, eg_3, eg_4, eg_5, eg_6]; rfl) ?_
    have hac1 : M_1 (qA g1 P9 K9) = some (.inr (3, [.int x0, .int (nI rr), .int i, .int (nI rs), .int j, .int n])) := (hR1.A hP9 hK9).trans (congrArg (fun y => some (Sum.inr (3, y))) hAF)
    have hH1 : M_1 (qH g1 0) = some (.inr (10, [.int 2, .ref (qN g1), .ref (qN g1)])) := hR1.H (by decide)
    have hN1 := hR1.N
    have sh_7 := hsh.trans hKp1.2.2
    obtain ⟨xr1, hra1, hrx1, hrc1⟩ := hR1.rw hr
    obtain ⟨xr1B, hra1B, hrx1B, hrc1B⟩ := hR1.rw hs
    refine V_aload_n C dX4_work_60 rfl 3 rfl ?_
    refine V_aload_n C dX4_work_61 rfl 1 rfl ?_
    refine V_pc (pc1 := 62) rfl ?_
    refine V_getN C f_X4_46_3 hac1 (v := .int i) rfl dX4_work_62 ?_
    refine V_aload C dX4_work_65 4 rfl ?_
    refine V_aload_n C dX4_work_67 rfl 1 rfl ?_
    refine V_getN C f_X4_49_3 hac1 (v := .int j) rfl dX4_work_68 ?_
    refine V_aload_n C dX4_work_71 rfl 1 rfl ?_
    refine V_getN C f_X4_52_3 hac1 (v := .int n) rfl dX4_work_72 ?_
    refine V_copyT C ⟨q1163, q532, q531, q76⟩ (KTZ_ok hkL) (KTZ_ok hkS) (kt_ne (by omega) (by omega) hkk h10) hra1 hra1B ⟨Nat.le_of_ble_eq_true rfl, Nat.le_of_ble_eq_true rfl⟩ ⟨(by first | exact Nat.le_of_ble_eq_true rfl | omega | (dsimp only; omega) | (simp only [List.length_cons, List.length_nil]; omega)), (by first | exact Nat.le_of_ble_eq_true rfl | omega | (dsimp only; omega) | (simp only [List.length_cons, List.length_nil]; omega))⟩ dX4_work_75 (fun q9 => VX_catch C [] ⟨60, 78, 81, 61⟩ _ rfl (fun z hz => by cases hz) rfl (by decide) q1109 q1129 ?_)
    refine V_astore C dX4_work_81 (Nat.le_of_ble_eq_true rfl) [(0, .ref (qH g1 0)), (1, .ref (qA g1 P9 K9)), (2, .ref (qC g1 c9)), (3, .ref (qR g1 rr)), (4, .ref (qR g1 rs)), (5, .ref q9)] [1, 2, 3, 4, 5, 0] rfl ?_
    refine V_aload_n C dX4_work_83 rfl 0 rfl ?_
    refine V_get C f_X4_3_10 hH1 (v := .ref (qN g1)) rfl dX4_work_84 ?_
    refine V_iconst (v := 3) C dX4_work_87 rfl ?_
    refine V_callVN C (c_X1_fail l hl G X N0 M_1 (qN g1) (qRl g1) (qUl g1) (qPl g1) (qHs g1) (qAn g1) (σ.1 20) (σ.1 14) (σ.1 11) (σ.1 12) (σ.1 15) (z 0) (z 1) (z 2) (z 3) (z 4) (z 5) (σ.1 31) 3 hN1) cs_X4_36_0 hN1 (show CLS[0]? = some (RX1, TX1, 17) from rfl) rfl rfl ⟨Nat.le_of_ble_eq_true rfl, Nat.le_of_ble_eq_true rfl⟩ ⟨(by first | exact Nat.le_of_ble_eq_true rfl | omega | (dsimp only; omega) | (simp only [List.length_cons, List.length_nil]; omega)), (by first | exact Nat.le_of_ble_eq_true rfl | omega | (dsimp only; omega) | (simp only [List.length_cons, List.length_nil]; omega))⟩ (Nat.le_of_ble_eq_true rfl) dX4_work_88 (fun _ _ _ h => px0 h) ?_
    rintro _ M_10 ⟨q_8, rfl, hq_9, hN_11, hF_12, fr_13, sh_14⟩
    refine V_st (st' := [.ref q_8]) rfl ?_
    refine V_pc (pc1 := 91) rfl ?_
    refine V_athrow C hF_12 (show CLS[8]? = some (RX26, TX26, 7) from rfl) dX4_work_91 ?_
    exact VX_out C (fun z9 hz => by have hz : z9 ∈ ([⟨60, 78, 81, 61⟩, ⟨60, 78, 92, 63⟩] : List ExceptionTableEntry) := hz; simp only [List.mem_cons, List.not_mem_nil, or_false] at hz; rcases hz with rfl | rfl <;> first | exact Or.inl rfl) (WX.at0 (if_pos ((copy_t hI hr hs).mpr (by omega))) (by decide) (FLX.keep hKp1 (FLX.of hR1 hq_9 hN_11 hF_12 fr_13 sh_14))) (by first | exact Nat.le_of_ble_eq_true rfl | omega | (dsimp only; omega) | (simp only [List.length_cons, List.length_nil]; omega)) (by first | exact Nat.le_of_ble_eq_true rfl | omega | (dsimp only; omega) | (simp only [List.length_cons, List.length_nil]; omega))
  · exact absurd (bI_iff.mpr (by omega)) c_40
set_option maxHeartbeats 1000000 in
theorem c_X4_work_3 (l : Launch) (hl : l.stackTraces = false) (G : hp_G) (X : Nat → Nat) (N0 : Nat) (M : hp_h) (g : RG) (σ : MS) (z : Nat → Int32) (C9 c9 : Nat) (hC : c9 + 1 = C9) (hR : REL G (X 0) g σ z (σ.1 31) C9 M) (hI : MI σ) (P9 K9 rr rs : Nat) (x0 i j n : Int32) (hP9 : P9 < 6) (hK9 : K9 < psz σ P9) (hr : rr < nR σ) (hs : rs < nR σ) (hAF : AF σ P9 K9 = [.int x0, .int (nI rr), .int i, .int (nI rs), .int j, .int n]) (hkk : kd σ rr = kd σ rs ∨ ((kd σ rr = 8 ∨ kd σ rr = 9) ∧ (kd σ rs = 8 ∨ kd σ rs = 9))) (hm : MW σ) (hp : ¬ (mf_places σ rr i n ∧ mf_places σ rs j n)) : HM l yX4_work (wsW_ yX4_work cX4_work 6 (some .long) [(60, 78, 81, 61), (60, 78, 92, 63)]) 24 11400 8 320 G X N0 [.ref (qH g 0), .ref (qA g P9 K9), .ref (qC g c9)] M PFF (WX G (X 0) g σ z C9 M (mf_copy σ rr i rs j n)) := by
  refine HM.ofH hl [(0, .ref (qH g 0)), (1, .ref (qA g P9 K9)), (2, .ref (qC g c9))] (by decide +kernel) rfl (Nat.le_of_ble_eq_true rfl) ?_
  intro p e s m args below meth c C hname
  have hN := hR.N
  obtain ⟨mdR, hRl⟩ := hR.Rl
  obtain ⟨fR, hRs, hRf⟩ := hR.Rls
  have hH9 : M (qH g 0) = some (.inr (10, [.int 2, .ref (qN g), .ref (qN g)])) := hR.H (by decide)
  have hac : M (qA g P9 K9) = some (.inr (3, [.int x0, .int (nI rr), .int i, .int (nI rs), .int j, .int n])) := (hR.A hP9 hK9).trans (congrArg (fun y => some (Sum.inr (3, y))) hAF)
  have hcC : c9 < C9 := by omega
  have hCc := hR.Cc hcC
  refine V_aload_n C dX4_work_0 rfl 0 rfl ?_
  refine V_get C f_X4_3_10 hH9 (v := .ref (qN g)) rfl dX4_work_1 ?_
  refine V_getN C f_X4_15_0 hN (v := .ref (qRl g)) rfl dX4_work_4 ?_
  refine V_aload_n C dX4_work_7 rfl 1 rfl ?_
  refine V_getN C f_X4_19_3 hac (v := .int (nI rr)) rfl dX4_work_8 ?_
  refine V_callV C (c_J2_get l hl G X N0 M (qRl g) (qRe g) (nR σ) (gcp g 2 0) mdR fR hRl (hRs.2.2.1 (by have := hRs.2.2.2.1; omega)) (by have := hRs.2.2.2.2; omega) hRs.2.2.2.1 rr (qR g rr) hr (hRf rr hr)) cs_X4_25_1 hRl (show CLS[1]? = some (RJ2, TJ2, 3) from rfl) rfl rfl ⟨Nat.le_of_ble_eq_true rfl, Nat.le_of_ble_eq_true rfl⟩ ⟨(by first | exact Nat.le_of_ble_eq_true rfl | omega | (dsimp only; omega) | (simp only [List.length_cons, List.length_nil]; omega)), (by first | exact Nat.le_of_ble_eq_true rfl | omega | (dsimp only; omega) | (simp only [List.length_cons, List.length_nil]; omega))⟩ (Nat.le_of_ble_eq_true rfl) dX4_work_11 (fun _ _ _ h => px0 h) ?_
  rintro _ _ ⟨rfl, rfl⟩
  refine V_st (st' := [.ref (qR g rr)]) rfl ?_
  refine V_astore_n C dX4_work_14 rfl (Nat.le_of_ble_eq_true rfl) [(0, .ref (qH g 0)), (1, .ref (qA g P9 K9)), (2, .ref (qC g c9)), (3, .ref (qR g rr))] [1, 2, 3, 0] rfl ?_
  refine V_aload_n C dX4_work_15 rfl 0 rfl ?_
  refine V_get C f_X4_3_10 hH9 (v := .ref (qN g)) rfl dX4_work_16 ?_
  refine V_getN C f_X4_15_0 hN (v := .ref (qRl g)) rfl dX4_work_19 ?_
  refine V_aload_n C dX4_work_22 rfl 1 rfl ?_
  refine V_pc (pc1 := 23) rfl ?_
  refine V_getN C f_X4_31_3 hac (v := .int (nI rs)) rfl dX4_work_23 ?_
  refine V_callV C (c_J2_get l hl G X N0 M (qRl g) (qRe g) (nR σ) (gcp g 2 0) mdR fR hRl (hRs.2.2.1 (by have := hRs.2.2.2.1; omega)) (by have := hRs.2.2.2.2; omega) hRs.2.2.2.1 rs (qR g rs) hs (hRf rs hs)) cs_X4_25_1 hRl (show CLS[1]? = some (RJ2, TJ2, 3) from rfl) rfl rfl ⟨Nat.le_of_ble_eq_true rfl, Nat.le_of_ble_eq_true rfl⟩ ⟨(by first | exact Nat.le_of_ble_eq_true rfl | omega | (dsimp only; omega) | (simp only [List.length_cons, List.length_nil]; omega)), (by first | exact Nat.le_of_ble_eq_true rfl | omega | (dsimp only; omega) | (simp only [List.length_cons, List.length_nil]; omega))⟩ (Nat.le_of_ble_eq_true rfl) dX4_work_26 (fun _ _ _ h => px0 h) ?_
  rintro _ _ ⟨rfl, rfl⟩
  refine V_st (st' := [.ref (qR g rs)]) rfl ?_
  refine V_astore C dX4_work_29 (Nat.le_of_ble_eq_true rfl) [(0, .ref (qH g 0)), (1, .ref (qA g P9 K9)), (2, .ref (qC g c9)), (3, .ref (qR g rr)), (4, .ref (qR g rs))] [1, 2, 3, 4, 0] rfl ?_
  refine V_aload_n C dX4_work_31 rfl 3 rfl ?_
  have hkL := (hI.k hr).2
  have hkS := (hI.k hs).2
  have hlr := hI.l hr
  have hls := hI.l hs
  obtain ⟨xr, hra, hrx, hrc⟩ := hR.rw hr
  obtain ⟨xrB, hraB, hrxB, hrcB⟩ := hR.rw hs
  refine V_instR C hkL q1156 hra dX4_work_32 ?_
  refine V_aload C dX4_work_35 4 rfl ?_
  refine V_instR C hkS q1156 hraB dX4_work_37 ?_
  refine V_icmp_eq (tgt := 52) C dX4_work_40 (by decide) (fun c_40 => ?_) (fun c_40 => ?_)
  · refine V_aload_n C dX4_work_52 rfl 2 rfl ?_
    refine V_aload_n C dX4_work_53 rfl 1 rfl ?_
    refine V_getN C f_X4_31_3 hac (v := .int (nI rs)) rfl dX4_work_54 ?_
    have hfr : hp_fr (fun _ => False) M M := hp_fr.rf
    have hsh : hp_sh M M := hp_sh.rf
    refine V_callV C (c_X25_keep l hl G X N0 M g σ z C9 c9 hC hR hI hm rs hs) cs_X4_40_4 hCc (show CLS[4]? = some (RX25, TX25, 8) from rfl) rfl rfl ⟨Nat.le_of_ble_eq_true rfl, Nat.le_of_ble_eq_true rfl⟩ ⟨(by first | exact Nat.le_of_ble_eq_true rfl | omega | (dsimp only; omega) | (simp only [List.length_cons, List.length_nil]; omega)), (by first | exact Nat.le_of_ble_eq_true rfl | omega | (dsimp only; omega) | (simp only [List.length_cons, List.length_nil]; omega))⟩ (Nat.le_of_ble_eq_true rfl) dX4_work_57 (fun _ _ _ h => px0 h) ?_
    rintro _ M_1 ⟨rfl, g1, hk1, hR1, hkw1, hKp1⟩
    refine V_st (st' := []) rfl ?_
    have eg_2 : (qH g1 0) = (qH g 0) := hk1 13 0 0 (by decide) (by decide)
    have eg_3 : (qA g1 P9 K9) = (qA g P9 K9) := hk1 11 P9 K9 (by decide) (by decide)
    have eg_4 : (qC g1 c9) = (qC g c9) := hk1 15 c9 0 (by decide) (by decide)
    have eg_5 : (qR g1 rr) = (qR g rr) := hk1 5 rr 0 (by decide) (by decide)
    have eg_6 : (qR g1 rs) = (qR g rs) := hk1 5 rs 0 (by decide) (by decide)
    refine V_loc (L' := [(0, .ref (qH g1 0)), (1, .ref (qA g1 P9 K9)), (2, .ref (qC g1 c9)), (3, .ref (qR g1 rr)), (4, .ref (qR g1 rs))]) [0, 1, 2, 3, 4] (by rw [eg_2, eg_3, eg_4, eg_5, eg_6]; rfl) ?_
    have hac1 : M_1 (qA g1 P9 K9) = some (.inr (3, [.int x0, .int (nI rr), .int i, .int (nI rs), .int j, .int n])) := (hR1.A hP9 hK9).trans (congrArg (fun y => some (Sum.inr (3, y))) hAF)
    have hH1 : M_1 (qH g1 0) = some (.inr (10, [.int 2, .ref (qN g1), .ref (qN g1)])) := hR1.H (by decide)
    have hN1 := hR1.N
    have sh_7 := hsh.trans hKp1.2.2
    obtain ⟨xr1, hra1, hrx1, hrc1⟩ := hR1.rw hr
    obtain ⟨xr1B, hra1B, hrx1B, hrc1B⟩ := hR1.rw hs
    refine V_aload_n C dX4_work_60 rfl 3 rfl ?_
    refine V_aload_n C dX4_work_61 rfl 1 rfl ?_
    refine V_pc (pc1 := 62) rfl ?_
    refine V_getN C f_X4_46_3 hac1 (v := .int i) rfl dX4_work_62 ?_
    refine V_aload C dX4_work_65 4 rfl ?_
    refine V_aload_n C dX4_work_67 rfl 1 rfl ?_
    refine V_getN C f_X4_49_3 hac1 (v := .int j) rfl dX4_work_68 ?_
    refine V_aload_n C dX4_work_71 rfl 1 rfl ?_
    refine V_getN C f_X4_52_3 hac1 (v := .int n) rfl dX4_work_72 ?_
    refine V_copyB C ⟨q1163, q532, q531, q76⟩ (KTZ_ok hkL) (KTZ_ok hkS) (kt_eq (by omega) (by omega) hkk) hra1 hra1B (by rw [hrx1.1]; omega) (by rw [hrx1B.1]; omega) (fun y => hp (by rw [hrx1.1, hrx1B.1] at y; exact ⟨(places_z hlr).mpr ⟨y.1, y.2.2.1, y.2.2.2.1⟩, (places_z hls).mpr ⟨y.2.1, y.2.2.1, y.2.2.2.2⟩⟩)) ⟨Nat.le_of_ble_eq_true rfl, Nat.le_of_ble_eq_true rfl⟩ ⟨(by first | exact Nat.le_of_ble_eq_true rfl | omega | (dsimp only; omega) | (simp only [List.length_cons, List.length_nil]; omega)), (by first | exact Nat.le_of_ble_eq_true rfl | omega | (dsimp only; omega) | (simp only [List.length_cons, List.length_nil]; omega))⟩ dX4_work_75 (fun q9 => VX_catch C [⟨60, 78, 81, 61⟩] ⟨60, 78, 92, 63⟩ _ rfl (fun z hz => by obtain rfl := List.mem_singleton.mp hz; exact Or.inr ⟨by decide, "java/lang/ArrayStoreException", q1109, List.mem_of_getElem? (i := 123) rfl⟩) rfl (by decide) q1136 q1831 ?_)
    refine V_astore C dX4_work_92 (Nat.le_of_ble_eq_true rfl) [(0, .ref (qH g1 0)), (1, .ref (qA g1 P9 K9)), (2, .ref (qC g1 c9)), (3, .ref (qR g1 rr)), (4, .ref (qR g1 rs)), (5, .ref q9)] [1, 2, 3, 4, 5, 0] rfl ?_
    refine V_aload_n C dX4_work_94 rfl 0 rfl ?_
    refine V_get C f_X4_3_10 hH1 (v := .ref (qN g1)) rfl dX4_work_95 ?_
    refine V_iconst (v := 2) C dX4_work_98 rfl ?_
    refine V_callVN C (c_X1_fail l hl G X N0 M_1 (qN g1) (qRl g1) (qUl g1) (qPl g1) (qHs g1) (qAn g1) (σ.1 20) (σ.1 14) (σ.1 11) (σ.1 12) (σ.1 15) (z 0) (z 1) (z 2) (z 3) (z 4) (z 5) (σ.1 31) 2 hN1) cs_X4_36_0 hN1 (show CLS[0]? = some (RX1, TX1, 17) from rfl) rfl rfl ⟨Nat.le_of_ble_eq_true rfl, Nat.le_of_ble_eq_true rfl⟩ ⟨(by first | exact Nat.le_of_ble_eq_true rfl | omega | (dsimp only; omega) | (simp only [List.length_cons, List.length_nil]; omega)), (by first | exact Nat.le_of_ble_eq_true rfl | omega | (dsimp only; omega) | (simp only [List.length_cons, List.length_nil]; omega))⟩ (Nat.le_of_ble_eq_true rfl) dX4_work_99 (fun _ _ _ h => px0 h) ?_
    rintro _ M_10 ⟨q_8, rfl, hq_9, hN_11, hF_12, fr_13, sh_14⟩
    refine V_st (st' := [.ref q_8]) rfl ?_
    refine V_pc (pc1 := 102) rfl ?_
    refine V_athrow C hF_12 (show CLS[8]? = some (RX26, TX26, 7) from rfl) dX4_work_102 ?_
    exact VX_out C (fun z9 hz => by have hz : z9 ∈ ([⟨60, 78, 81, 61⟩, ⟨60, 78, 92, 63⟩] : List ExceptionTableEntry) := hz; simp only [List.mem_cons, List.not_mem_nil, or_false] at hz; rcases hz with rfl | rfl <;> first | exact Or.inl rfl) (WX.at0 ((if_neg (fun y => (copy_t hI hr hs).mp y hkk)).trans (if_pos hp)) (by decide) (FLX.keep hKp1 (FLX.of hR1 hq_9 hN_11 hF_12 fr_13 sh_14))) (by first | exact Nat.le_of_ble_eq_true rfl | omega | (dsimp only; omega) | (simp only [List.length_cons, List.length_nil]; omega)) (by first | exact Nat.le_of_ble_eq_true rfl | omega | (dsimp only; omega) | (simp only [List.length_cons, List.length_nil]; omega))
  · exact absurd (bI_iff.mpr (by omega)) c_40
theorem copy_go {σ : MS} (hI : MI σ) {a b I J N : Nat} (ha : a < nR σ) (hb : b < nR σ) (hk : kd σ a = kd σ b ∨ ((kd σ a = 8 ∨ kd σ a = 9) ∧ (kd σ b = 8 ∨ kd σ b = 9))) (h1 : I + N ≤ ln σ a) (h2 : J + N ≤ ln σ b) : mf_copy σ a (nI I) b (nI J) (nI N) = mf_copyA σ a I b J N := by
  have la := hI.l ha
  have lb := hI.l hb
  have e : ∀ x : Nat, x ≤ 40 → (nI x).toInt = x := fun x hx => nI_toInt (by omega)
  unfold mf_copy
  rw [if_neg (fun y => (copy_t hI ha hb).mp y hk), if_neg (not_not_intro ⟨(places_z la).mpr ⟨nI_pos (by omega), nI_pos (by omega), by rw [e I (by omega), e N (by omega)]; omega⟩, (places_z lb).mpr ⟨nI_pos (by omega), nI_pos (by omega), by rw [e J (by omega), e N (by omega)]; omega⟩⟩), nI_clamp (by omega), nI_clamp (by omega), nI_clamp (by omega)]
/-- an element that is not refused may be laid into row b -/
theorem copy_ev {G : hp_G} {E0 : Nat} {g : RG} {σ : MS} {z : Nat → Int32} {ca : Int32} {C : Nat} {Y : Nat → Prop} {M : hp_h} (h : RELY G E0 g σ z ca C Y M) (hI : MI σ) {a b i : Nat} (ha : a < nR σ) (hb : b < nR σ) (hk : kd σ a = kd σ b ∨ ((kd σ a = 8 ∨ kd σ a = 9) ∧ (kd σ b = 8 ∨ kd σ b = 9))) {x : vp_A} (hc : CE (nU σ) (nJ σ) (fun u => qU g u) (fun y => qJ g y) (kd σ a) x i (el σ a i)) (hno : mf_bad σ b (el σ a i) = false) : EV G M (kd σ b) (cv x.2 i) := by
  refine (hc.k89 hk).ev (h.UH hI) h.JH (fun h9 => ?_)
  have hb9 : σ.2.1 2 b = 9 := by rw [(hI.k hb).1, h9]; rfl
  have hc9 : mf_isCard σ (el σ a i) := Classical.byContradiction (fun y => of_decide_eq_false hno ⟨hb9, y⟩)
  rcases hc9 with y | y
  · exact Or.inl y
  · refine Or.inr (fun u e1 hu => ?_)
    have hU := hI.U.2
    rw [e1, lN_i, nI_clamp (by omega)] at y
    have h6 := (hI.cN hu).1
    have h7 : (σ.2.1 6 u).toNatClampNeg ≠ 0 := fun z9 => by rw [Int32.lt_iff_toInt_lt] at y; have e0 : (0 : Int32).toInt = 0 := rfl; unfold Int32.toNatClampNeg at z9; omega
    exact ⟨_, _, by omega, h.un hu⟩
set_option maxHeartbeats 1000000 in
theorem c_X4_work (l : Launch) (hl : l.stackTraces = false) (G : hp_G) (X : Nat → Nat) (N0 : Nat) (M : hp_h) (g : RG) (σ : MS) (z : Nat → Int32) (C9 c9 : Nat) (hC : c9 + 1 = C9) (hR : REL G (X 0) g σ z (σ.1 31) C9 M) (hI : MI σ) (P9 K9 rr rs : Nat) (x0 i j n : Int32) (hP9 : P9 < 6) (hK9 : K9 < psz σ P9) (hr : rr < nR σ) (hs : rs < nR σ) (hAF : AF σ P9 K9 = [.int x0, .int (nI rr), .int i, .int (nI rs), .int j, .int n]) (hkk : kd σ rr = kd σ rs ∨ ((kd σ rr = 8 ∨ kd σ rr = 9) ∧ (kd σ rs = 8 ∨ kd σ rs = 9))) (hm : MW σ) (I J N : Nat) (hi : i = nI I) (hj : j = nI J) (hn : n = nI N) (h1 : I + N ≤ ln σ rr) (h2 : J + N ≤ ln σ rs) (hbad : ∀ y, y < N → mf_bad σ rs (el σ rr (I + y)) = false) (h0 : σ.2.2.2 = 0) : HM l yX4_work (wsW_ yX4_work cX4_work 6 (some .long) [(60, 78, 81, 61), (60, 78, 92, 63)]) 24 11400 8 320 G X N0 [.ref (qH g 0), .ref (qA g P9 K9), .ref (qC g c9)] M (WP G (X 0) g σ z C9 M (mf_copy σ rr i rs j n)) PX0 := by
  refine HM.ofH hl [(0, .ref (qH g 0)), (1, .ref (qA g P9 K9)), (2, .ref (qC g c9))] (by decide +kernel) rfl (Nat.le_of_ble_eq_true rfl) ?_
  intro p e s m args below meth c C hname
  have hN := hR.N
  obtain ⟨mdR, hRl⟩ := hR.Rl
  obtain ⟨fR, hRs, hRf⟩ := hR.Rls
  have hH9 : M (qH g 0) = some (.inr (10, [.int 2, .ref (qN g), .ref (qN g)])) := hR.H (by decide)
  have hac : M (qA g P9 K9) = some (.inr (3, [.int x0, .int (nI rr), .int i, .int (nI rs), .int j, .int n])) := (hR.A hP9 hK9).trans (congrArg (fun y => some (Sum.inr (3, y))) hAF)
  have hcC : c9 < C9 := by omega
  have hCc := hR.Cc hcC
  subst hi hj hn
  refine V_aload_n C dX4_work_0 rfl 0 rfl ?_
  refine V_get C f_X4_3_10 hH9 (v := .ref (qN g)) rfl dX4_work_1 ?_
  refine V_getN C f_X4_15_0 hN (v := .ref (qRl g)) rfl dX4_work_4 ?_
  refine V_aload_n C dX4_work_7 rfl 1 rfl ?_
  refine V_getN C f_X4_19_3 hac (v := .int (nI rr)) rfl dX4_work_8 ?_
  refine V_callV C (c_J2_get l hl G X N0 M (qRl g) (qRe g) (nR σ) (gcp g 2 0) mdR fR hRl (hRs.2.2.1 (by have := hRs.2.2.2.1; omega)) (by have := hRs.2.2.2.2; omega) hRs.2.2.2.1 rr (qR g rr) hr (hRf rr hr)) cs_X4_25_1 hRl (show CLS[1]? = some (RJ2, TJ2, 3) from rfl) rfl rfl ⟨Nat.le_of_ble_eq_true rfl, Nat.le_of_ble_eq_true rfl⟩ ⟨(by first | exact Nat.le_of_ble_eq_true rfl | omega | (dsimp only; omega) | (simp only [List.length_cons, List.length_nil]; omega)), (by first | exact Nat.le_of_ble_eq_true rfl | omega | (dsimp only; omega) | (simp only [List.length_cons, List.length_nil]; omega))⟩ (Nat.le_of_ble_eq_true rfl) dX4_work_11 (fun _ _ _ h => px0 h) ?_
  rintro _ _ ⟨rfl, rfl⟩
  refine V_st (st' := [.ref (qR g rr)]) rfl ?_
  refine V_astore_n C dX4_work_14 rfl (Nat.le_of_ble_eq_true rfl) [(0, .ref (qH g 0)), (1, .ref (qA g P9 K9)), (2, .ref (qC g c9)), (3, .ref (qR g rr))] [1, 2, 3, 0] rfl ?_
  refine V_aload_n C dX4_work_15 rfl 0 rfl ?_
  refine V_get C f_X4_3_10 hH9 (v := .ref (qN g)) rfl dX4_work_16 ?_
  refine V_getN C f_X4_15_0 hN (v := .ref (qRl g)) rfl dX4_work_19 ?_
  refine V_aload_n C dX4_work_22 rfl 1 rfl ?_
  refine V_pc (pc1 := 23) rfl ?_
  refine V_getN C f_X4_31_3 hac (v := .int (nI rs)) rfl dX4_work_23 ?_
  refine V_callV C (c_J2_get l hl G X N0 M (qRl g) (qRe g) (nR σ) (gcp g 2 0) mdR fR hRl (hRs.2.2.1 (by have := hRs.2.2.2.1; omega)) (by have := hRs.2.2.2.2; omega) hRs.2.2.2.1 rs (qR g rs) hs (hRf rs hs)) cs_X4_25_1 hRl (show CLS[1]? = some (RJ2, TJ2, 3) from rfl) rfl rfl ⟨Nat.le_of_ble_eq_true rfl, Nat.le_of_ble_eq_true rfl⟩ ⟨(by first | exact Nat.le_of_ble_eq_true rfl | omega | (dsimp only; omega) | (simp only [List.length_cons, List.length_nil]; omega)), (by first | exact Nat.le_of_ble_eq_true rfl | omega | (dsimp only; omega) | (simp only [List.length_cons, List.length_nil]; omega))⟩ (Nat.le_of_ble_eq_true rfl) dX4_work_26 (fun _ _ _ h => px0 h) ?_
  rintro _ _ ⟨rfl, rfl⟩
  refine V_st (st' := [.ref (qR g rs)]) rfl ?_
  refine V_astore C dX4_work_29 (Nat.le_of_ble_eq_true rfl) [(0, .ref (qH g 0)), (1, .ref (qA g P9 K9)), (2, .ref (qC g c9)), (3, .ref (qR g rr)), (4, .ref (qR g rs))] [1, 2, 3, 4, 0] rfl ?_
  refine V_aload_n C dX4_work_31 rfl 3 rfl ?_
  have hkL := (hI.k hr).2
  have hkS := (hI.k hs).2
  have hlr := hI.l hr
  have hls := hI.l hs
  obtain ⟨xr, hra, hrx, hrc⟩ := hR.rw hr
  obtain ⟨xrB, hraB, hrxB, hrcB⟩ := hR.rw hs
  refine V_instR C hkL q1156 hra dX4_work_32 ?_
  refine V_aload C dX4_work_35 4 rfl ?_
  refine V_instR C hkS q1156 hraB dX4_work_37 ?_
  refine V_icmp_eq (tgt := 52) C dX4_work_40 (by decide) (fun c_40 => ?_) (fun c_40 => ?_)
  · refine V_aload_n C dX4_work_52 rfl 2 rfl ?_
    refine V_aload_n C dX4_work_53 rfl 1 rfl ?_
    refine V_getN C f_X4_31_3 hac (v := .int (nI rs)) rfl dX4_work_54 ?_
    have hfr : hp_fr (fun _ => False) M M := hp_fr.rf
    have hsh : hp_sh M M := hp_sh.rf
    refine V_callV C (c_X25_keep l hl G X N0 M g σ z C9 c9 hC hR hI hm rs hs) cs_X4_40_4 hCc (show CLS[4]? = some (RX25, TX25, 8) from rfl) rfl rfl ⟨Nat.le_of_ble_eq_true rfl, Nat.le_of_ble_eq_true rfl⟩ ⟨(by first | exact Nat.le_of_ble_eq_true rfl | omega | (dsimp only; omega) | (simp only [List.length_cons, List.length_nil]; omega)), (by first | exact Nat.le_of_ble_eq_true rfl | omega | (dsimp only; omega) | (simp only [List.length_cons, List.length_nil]; omega))⟩ (Nat.le_of_ble_eq_true rfl) dX4_work_57 (fun _ _ _ h => px0 h) ?_
    rintro _ M_1 ⟨rfl, g1, hk1, hR1, hkw1, hKp1⟩
    refine V_st (st' := []) rfl ?_
    have eg_2 : (qH g1 0) = (qH g 0) := hk1 13 0 0 (by decide) (by decide)
    have eg_3 : (qA g1 P9 K9) = (qA g P9 K9) := hk1 11 P9 K9 (by decide) (by decide)
    have eg_4 : (qC g1 c9) = (qC g c9) := hk1 15 c9 0 (by decide) (by decide)
    have eg_5 : (qR g1 rr) = (qR g rr) := hk1 5 rr 0 (by decide) (by decide)
    have eg_6 : (qR g1 rs) = (qR g rs) := hk1 5 rs 0 (by decide) (by decide)
    refine V_loc (L' := [(0, .ref (qH g1 0)), (1, .ref (qA g1 P9 K9)), (2, .ref (qC g1 c9)), (3, .ref (qR g1 rr)), (4, .ref (qR g1 rs))]) [0, 1, 2, 3, 4] (by rw [eg_2, eg_3, eg_4, eg_5, eg_6]; rfl) ?_
    have hac1 : M_1 (qA g1 P9 K9) = some (.inr (3, [.int x0, .int (nI rr), .int (nI I), .int (nI rs), .int (nI J), .int (nI N)])) := (hR1.A hP9 hK9).trans (congrArg (fun y => some (Sum.inr (3, y))) hAF)
    have hH1 : M_1 (qH g1 0) = some (.inr (10, [.int 2, .ref (qN g1), .ref (qN g1)])) := hR1.H (by decide)
    have hN1 := hR1.N
    have sh_7 := hsh.trans hKp1.2.2
    obtain ⟨xr1, hra1, hrx1, hrc1⟩ := hR1.rw hr
    obtain ⟨xr1B, hra1B, hrx1B, hrc1B⟩ := hR1.rw hs
    refine V_aload_n C dX4_work_60 rfl 3 rfl ?_
    refine V_aload_n C dX4_work_61 rfl 1 rfl ?_
    refine V_pc (pc1 := 62) rfl ?_
    refine V_getN C f_X4_46_3 hac1 (v := .int (nI I)) rfl dX4_work_62 ?_
    refine V_aload C dX4_work_65 4 rfl ?_
    refine V_aload_n C dX4_work_67 rfl 1 rfl ?_
    refine V_getN C f_X4_49_3 hac1 (v := .int (nI J)) rfl dX4_work_68 ?_
    refine V_aload_n C dX4_work_71 rfl 1 rfl ?_
    refine V_getN C f_X4_52_3 hac1 (v := .int (nI N)) rfl dX4_work_72 ?_
    have hfr3 : hp_fr (fun b => b = qR g1 rs) M_1 M_1 := hp_fr.rf
    have hs3 : hp_sh M_1 M_1 := hp_sh.rf
    have hnRS : rr ≠ rs → qR g1 rr ≠ qR g1 rs := fun y => hR1.ne (t := 5) (i := rr) (j := 0) (t' := 5) (i' := rs) (j' := 0) ⟨hr, rfl⟩ ⟨hs, rfl⟩ (fun z9 => y z9.2.1)
    refine V_st (st' := [.int (nI N), .int (nI J), .ref (qR g1 rs), .int (nI I), .ref (qR g1 rr)]) rfl ?_
    refine V_copyKN C ⟨q1163, q532, q531, q76⟩ hkk hrx1.2 hrx1B.2 hra1 hra1B (sp := I) (dp := J) (n := N) (by rw [hrx1.1]; exact h1) (by rw [hrx1B.1]; exact h2) (by rw [hrx1.1]; omega) (by rw [hrx1B.1]; omega) (fun y hy => copy_ev hR1 hI hr hs hkk (hrc1 _ (by omega)) (hbad y hy)) ⟨Nat.le_of_ble_eq_true rfl, Nat.le_of_ble_eq_true rfl⟩ dX4_work_75 (fun x9 hx9 hcv9 => ?_)
    obtain ⟨M_8, eM_9⟩ : ∃ y, y = hp_up M_1 (qR g1 rs) (.inl (G.2 (kd σ rs), x9)) := ⟨_, rfl⟩
    refine V_heap (M' := M_8) eM_9.symm ?_
    have hf9 : hp_fr (fun b => b = qR g1 rs) M_1 M_8 := hfr3.set (Or.inl rfl) eM_9
    have hs9 : hp_sh M_1 M_8 := hs3.set hra1B eM_9 rfl
    have hM9 : M_8 (qR g1 rs) = some (.inl (G.2 (kd σ rs), x9)) := by rw [eM_9]; exact hp_up_s
    refine V_goto (tgt := 103) C dX4_work_78 (by decide) ?_
    refine V_lconst (v := 0) C dX4_work_103 rfl ?_
    refine V_lret C dX4_work_104 rfl ?_ (by first | exact Nat.le_of_ble_eq_true rfl | omega | (dsimp only; omega) | (simp only [List.length_cons, List.length_nil]; omega)) (by first | exact Nat.le_of_ble_eq_true rfl | omega | (dsimp only; omega) | (simp only [List.length_cons, List.length_nil]; omega))
    refine WP.of9 (σ' := sl (mf_hold σ rr I N) 4 (mfill (σ.2.2.1 4) (40 * rs + J) N (fun y => el σ rr (I + y)))) (ROWK (f' := mfill (σ.2.2.1 4) (40 * rs + J) N (fun y => el σ rr (I + y))) (RKp.rf (n := nR σ)) rfl (fun _ _ _ _ _ _ _ y => y) hR1 hKp1 hs hC hkw1 hM9 hf9 hs9 ⟨hx9.1.trans hrx1B.1, hx9.2⟩ (fun k hk => by
      by_cases e : J ≤ k ∧ k < J + N
      · rw [show 40 * rs + k = 40 * rs + J + (k - J) by omega, mfill_in (by omega)]
        have h9 := hcv9 k
        rw [if_pos e] at h9
        exact ((hrc1 (I + (k - J)) (by omega)).k89 hkk).at_ h9
      · rw [mfill_out (by omega)]
        have h9 := hcv9 k
        rw [if_neg e] at h9
        exact (hrc1B k hk).at_ h9) (fun r' k hr' hn hk => by
      have := (hI.l hr').2
      exact mfill_out (by omega)) ⟨fun _ _ => rfl, fun _ _ => ⟨rfl, rfl⟩, fun _ _ => rfl, fun _ _ => rfl, rfl, fun _ _ _ _ => rfl⟩) ?_ h0 rfl
    rw [copy_go hI hr hs hkk h1 h2]
    have hpre : mf_pre (fun y => mf_bad σ rs (el σ rr (I + y))) N = N := mf_pre_eq (Nat.le_refl _) hbad (fun y => absurd y (Nat.lt_irrefl _))
    unfold mf_copyA
    rw [hpre, if_neg (Nat.lt_irrefl _)]
  · exact absurd (bI_iff.mpr (by omega)) c_40
theorem XT.q {k n : Nat} {x : vp_A} (h : XT k n x) (hk : k = 8 ∨ k = 9) : ∃ f, x = (n, RV f) := by
  obtain ⟨n', y⟩ := x
  obtain ⟨h1, h2⟩ := h
  have h1 : n' = n := h1
  subst h1
  rcases h2 with ⟨h, -⟩ | ⟨h, -⟩ | ⟨h, -⟩ | ⟨h, -⟩ | ⟨h, f, h3⟩ <;> first | omega | skip
  have h3 : y = RV f := h3
  exact ⟨f, by rw [h3]⟩
theorem WX.of9 {G : hp_G} {E0 : Nat} {g : RG} {σ σ' : MS} {z : Nat → Int32} {C : Nat} {M M' : hp_h} {r : Int32 × MS} {f : Int32} {q : Nat} {E : String} (hr : r = (f, σ')) (hf : f ≠ 0) (h : FLX G E0 g σ z C M σ' f q E M') : WX G E0 g σ z C M r q E M' := by
  subst hr
  exact ⟨hf, h⟩
theorem bad_u {G : hp_G} {E0 : Nat} {g : RG} {σ : MS} {z : Nat → Int32} {ca : Int32} {C : Nat} {Y : Nat → Prop} {M : hp_h} (h : RELY G E0 g σ z ca C Y M) (hI : MI σ) {b n i : Nat} {f : Nat → Option Nat} {w : Int64} (hc : CE (nU σ) (nJ σ) (fun u => qU g u) (fun y => qJ g y) 8 (n, RV f) i w) (hb : mf_bad σ b w = true) : ∃ y vs, f i = some y ∧ M y = some (.inr (5, vs)) := by
  have hno : ¬ mf_isCard σ w := (of_decide_eq_true hb).2
  rcases hc with ⟨y, -⟩ | ⟨y, -⟩ | ⟨y, -⟩ | ⟨y, -⟩ | ⟨-, f', h1, h2⟩ | ⟨y, -⟩ <;> first | omega | skip
  have h1 : f = f' := by
    have h1 : RV f = RV f' := h1
    simpa using h1
  subst h1
  rcases h2 with ⟨h2, -⟩ | ⟨u, hu, h2, h3⟩
  · exact absurd (Or.inl h2) hno
  · refine ⟨_, [.int (nI u), .int (σ.2.1 7 u)], h3, ?_⟩
    have hU := hI.U.2
    have h4 := hI.cN hu
    have h5 : (σ.2.1 6 u).toNatClampNeg = 0 := by
      rcases Nat.eq_zero_or_pos (σ.2.1 6 u).toNatClampNeg with y | y
      · exact y
      · exfalso
        refine hno (Or.inr ?_)
        rw [h2, lN_i, nI_clamp (by omega), h4.2]
        exact (nI_ltI (a := 0) (by decide) (by omega)).mpr y
    have h6 := h.un hu
    rw [h5] at h6
    exact h6
set_option maxHeartbeats 1000000 in
theorem c_X4_work_4 (l : Launch) (hl : l.stackTraces = false) (G : hp_G) (X : Nat → Nat) (N0 : Nat) (M : hp_h) (g : RG) (σ : MS) (z : Nat → Int32) (C9 c9 : Nat) (hC : c9 + 1 = C9) (hR : REL G (X 0) g σ z (σ.1 31) C9 M) (hI : MI σ) (P9 K9 rr rs : Nat) (x0 i j n : Int32) (hP9 : P9 < 6) (hK9 : K9 < psz σ P9) (hr : rr < nR σ) (hs : rs < nR σ) (hAF : AF σ P9 K9 = [.int x0, .int (nI rr), .int i, .int (nI rs), .int j, .int n]) (hk8 : kd σ rr = 8) (hk9 : kd σ rs = 9) (hm : MW σ) (I J N k9 : Nat) (hi : i = nI I) (hj : j = nI J) (hn : n = nI N) (h1 : I + N ≤ ln σ rr) (h2 : J + N ≤ ln σ rs) (hk99 : k9 < N) (hbad : ∀ y, y < k9 → mf_bad σ rs (el σ rr (I + y)) = false) (hbk : mf_bad σ rs (el σ rr (I + k9)) = true) : HM l yX4_work (wsW_ yX4_work cX4_work 6 (some .long) [(60, 78, 81, 61), (60, 78, 92, 63)]) 24 11400 8 320 G X N0 [.ref (qH g 0), .ref (qA g P9 K9), .ref (qC g c9)] M PFF (WX G (X 0) g σ z C9 M (mf_copy σ rr i rs j n)) := by
  refine HM.ofH hl [(0, .ref (qH g 0)), (1, .ref (qA g P9 K9)), (2, .ref (qC g c9))] (by decide +kernel) rfl (Nat.le_of_ble_eq_true rfl) ?_
  intro p e s m args below meth c C hname
  have hN := hR.N
  obtain ⟨mdR, hRl⟩ := hR.Rl
  obtain ⟨fR, hRs, hRf⟩ := hR.Rls
  have hH9 : M (qH g 0) = some (.inr (10, [.int 2, .ref (qN g), .ref (qN g)])) := hR.H (by decide)
  have hac : M (qA g P9 K9) = some (.inr (3, [.int x0, .int (nI rr), .int i, .int (nI rs), .int j, .int n])) := (hR.A hP9 hK9).trans (congrArg (fun y => some (Sum.inr (3, y))) hAF)
  have hcC : c9 < C9 := by omega
  have hCc := hR.Cc hcC
  subst hi hj hn
  have hkk : kd σ rr = kd σ rs ∨ ((kd σ rr = 8 ∨ kd σ rr = 9) ∧ (kd σ rs = 8 ∨ kd σ rs = 9)) := Or.inr ⟨Or.inl hk8, Or.inr hk9⟩
  have hcp : mf_copy σ rr (nI I) rs (nI J) (nI N) = (3, sl (mf_hold σ rr I N) 4 (mfill (σ.2.2.1 4) (40 * rs + J) k9 (fun y => el σ rr (I + y)))) := by
    rw [copy_go hI hr hs hkk h1 h2]
    have hpre : mf_pre (fun y => mf_bad σ rs (el σ rr (I + y))) N = k9 := mf_pre_eq (Nat.le_of_lt hk99) hbad (fun _ => hbk)
    unfold mf_copyA
    rw [hpre, if_pos hk99]
  refine V_aload_n C dX4_work_0 rfl 0 rfl ?_
  refine V_get C f_X4_3_10 hH9 (v := .ref (qN g)) rfl dX4_work_1 ?_
  refine V_getN C f_X4_15_0 hN (v := .ref (qRl g)) rfl dX4_work_4 ?_
  refine V_aload_n C dX4_work_7 rfl 1 rfl ?_
  refine V_getN C f_X4_19_3 hac (v := .int (nI rr)) rfl dX4_work_8 ?_
  refine V_callV C (c_J2_get l hl G X N0 M (qRl g) (qRe g) (nR σ) (gcp g 2 0) mdR fR hRl (hRs.2.2.1 (by have := hRs.2.2.2.1; omega)) (by have := hRs.2.2.2.2; omega) hRs.2.2.2.1 rr (qR g rr) hr (hRf rr hr)) cs_X4_25_1 hRl (show CLS[1]? = some (RJ2, TJ2, 3) from rfl) rfl rfl ⟨Nat.le_of_ble_eq_true rfl, Nat.le_of_ble_eq_true rfl⟩ ⟨(by first | exact Nat.le_of_ble_eq_true rfl | omega | (dsimp only; omega) | (simp only [List.length_cons, List.length_nil]; omega)), (by first | exact Nat.le_of_ble_eq_true rfl | omega | (dsimp only; omega) | (simp only [List.length_cons, List.length_nil]; omega))⟩ (Nat.le_of_ble_eq_true rfl) dX4_work_11 (fun _ _ _ h => px0 h) ?_
  rintro _ _ ⟨rfl, rfl⟩
  refine V_st (st' := [.ref (qR g rr)]) rfl ?_
  refine V_astore_n C dX4_work_14 rfl (Nat.le_of_ble_eq_true rfl) [(0, .ref (qH g 0)), (1, .ref (qA g P9 K9)), (2, .ref (qC g c9)), (3, .ref (qR g rr))] [1, 2, 3, 0] rfl ?_
  refine V_aload_n C dX4_work_15 rfl 0 rfl ?_
  refine V_get C f_X4_3_10 hH9 (v := .ref (qN g)) rfl dX4_work_16 ?_
  refine V_getN C f_X4_15_0 hN (v := .ref (qRl g)) rfl dX4_work_19 ?_
  refine V_aload_n C dX4_work_22 rfl 1 rfl ?_
  refine V_pc (pc1 := 23) rfl ?_
  refine V_getN C f_X4_31_3 hac (v := .int (nI rs)) rfl dX4_work_23 ?_
  refine V_callV C (c_J2_get l hl G X N0 M (qRl g) (qRe g) (nR σ) (gcp g 2 0) mdR fR hRl (hRs.2.2.1 (by have := hRs.2.2.2.1; omega)) (by have := hRs.2.2.2.2; omega) hRs.2.2.2.1 rs (qR g rs) hs (hRf rs hs)) cs_X4_25_1 hRl (show CLS[1]? = some (RJ2, TJ2, 3) from rfl) rfl rfl ⟨Nat.le_of_ble_eq_true rfl, Nat.le_of_ble_eq_true rfl⟩ ⟨(by first | exact Nat.le_of_ble_eq_true rfl | omega | (dsimp only; omega) | (simp only [List.length_cons, List.length_nil]; omega)), (by first | exact Nat.le_of_ble_eq_true rfl | omega | (dsimp only; omega) | (simp only [List.length_cons, List.length_nil]; omega))⟩ (Nat.le_of_ble_eq_true rfl) dX4_work_26 (fun _ _ _ h => px0 h) ?_
  rintro _ _ ⟨rfl, rfl⟩
  refine V_st (st' := [.ref (qR g rs)]) rfl ?_
  refine V_astore C dX4_work_29 (Nat.le_of_ble_eq_true rfl) [(0, .ref (qH g 0)), (1, .ref (qA g P9 K9)), (2, .ref (qC g c9)), (3, .ref (qR g rr)), (4, .ref (qR g rs))] [1, 2, 3, 4, 0] rfl ?_
  refine V_aload_n C dX4_work_31 rfl 3 rfl ?_
  have hkL := (hI.k hr).2
  have hkS := (hI.k hs).2
  have hlr := hI.l hr
  have hls := hI.l hs
  obtain ⟨xr, hra, hrx, hrc⟩ := hR.rw hr
  obtain ⟨xrB, hraB, hrxB, hrcB⟩ := hR.rw hs
  refine V_instR C hkL q1156 hra dX4_work_32 ?_
  refine V_aload C dX4_work_35 4 rfl ?_
  refine V_instR C hkS q1156 hraB dX4_work_37 ?_
  refine V_icmp_eq (tgt := 52) C dX4_work_40 (by decide) (fun c_40 => ?_) (fun c_40 => ?_)
  · refine V_aload_n C dX4_work_52 rfl 2 rfl ?_
    refine V_aload_n C dX4_work_53 rfl 1 rfl ?_
    refine V_getN C f_X4_31_3 hac (v := .int (nI rs)) rfl dX4_work_54 ?_
    have hfr : hp_fr (fun _ => False) M M := hp_fr.rf
    have hsh : hp_sh M M := hp_sh.rf
    refine V_callV C (c_X25_keep l hl G X N0 M g σ z C9 c9 hC hR hI hm rs hs) cs_X4_40_4 hCc (show CLS[4]? = some (RX25, TX25, 8) from rfl) rfl rfl ⟨Nat.le_of_ble_eq_true rfl, Nat.le_of_ble_eq_true rfl⟩ ⟨(by first | exact Nat.le_of_ble_eq_true rfl | omega | (dsimp only; omega) | (simp only [List.length_cons, List.length_nil]; omega)), (by first | exact Nat.le_of_ble_eq_true rfl | omega | (dsimp only; omega) | (simp only [List.length_cons, List.length_nil]; omega))⟩ (Nat.le_of_ble_eq_true rfl) dX4_work_57 (fun _ _ _ h => px0 h) ?_
    rintro _ M_1 ⟨rfl, g1, hk1, hR1, hkw1, hKp1⟩
    refine V_st (st' := []) rfl ?_
    have eg_2 : (qH g1 0) = (qH g 0) := hk1 13 0 0 (by decide) (by decide)
    have eg_3 : (qA g1 P9 K9) = (qA g P9 K9) := hk1 11 P9 K9 (by decide) (by decide)
    have eg_4 : (qC g1 c9) = (qC g c9) := hk1 15 c9 0 (by decide) (by decide)
    have eg_5 : (qR g1 rr) = (qR g rr) := hk1 5 rr 0 (by decide) (by decide)
    have eg_6 : (qR g1 rs) = (qR g rs) := hk1 5 rs 0 (by decide) (by decide)
    refine V_loc (L' := [(0, .ref (qH g1 0)), (1, .ref (qA g1 P9 K9)), (2, .ref (qC g1 c9)), (3, .ref (qR g1 rr)), (4, .ref (qR g1 rs))]) [0, 1, 2, 3, 4] (by rw [eg_2, eg_3, eg_4, eg_5, eg_6]; rfl) ?_
    have hac1 : M_1 (qA g1 P9 K9) = some (.inr (3, [.int x0, .int (nI rr), .int (nI I), .int (nI rs), .int (nI J), .int (nI N)])) := (hR1.A hP9 hK9).trans (congrArg (fun y => some (Sum.inr (3, y))) hAF)
    have hH1 : M_1 (qH g1 0) = some (.inr (10, [.int 2, .ref (qN g1), .ref (qN g1)])) := hR1.H (by decide)
    have hN1 := hR1.N
    have sh_7 := hsh.trans hKp1.2.2
    obtain ⟨xr1, hra1, hrx1, hrc1⟩ := hR1.rw hr
    obtain ⟨xr1B, hra1B, hrx1B, hrc1B⟩ := hR1.rw hs
    refine V_aload_n C dX4_work_60 rfl 3 rfl ?_
    refine V_aload_n C dX4_work_61 rfl 1 rfl ?_
    refine V_pc (pc1 := 62) rfl ?_
    refine V_getN C f_X4_46_3 hac1 (v := .int (nI I)) rfl dX4_work_62 ?_
    refine V_aload C dX4_work_65 4 rfl ?_
    refine V_aload_n C dX4_work_67 rfl 1 rfl ?_
    refine V_getN C f_X4_49_3 hac1 (v := .int (nI J)) rfl dX4_work_68 ?_
    refine V_aload_n C dX4_work_71 rfl 1 rfl ?_
    refine V_getN C f_X4_52_3 hac1 (v := .int (nI N)) rfl dX4_work_72 ?_
    have hfr3 : hp_fr (fun b => b = qR g1 rs) M_1 M_1 := hp_fr.rf
    have hs3 : hp_sh M_1 M_1 := hp_sh.rf
    obtain ⟨f8, rfl⟩ := hrx1.q (Or.inl hk8)
    obtain ⟨f9, rfl⟩ := hrx1B.q (Or.inr hk9)
    have hra8 := hra1
    rw [hk8] at hra8
    have hra9 := hra1B
    rw [hk9] at hra9
    obtain ⟨yb, vb, hyb, hvb⟩ := bad_u hR1 hI (hk8 ▸ hrc1 (I + k9) (by omega)) hbk
    refine V_copyR C ⟨q1163, q532, q531, q76⟩ (k := k9) (f := f8) (g := f9) hra8 hra9 (sp := nI I) (dp := nI J) (n := nI N) (nI_pos (by omega)) (nI_pos (by omega)) (nI_pos (by omega)) (by rw [nI_clamp (by omega), nI_clamp (by omega)]; exact h1) (by rw [nI_clamp (by omega), nI_clamp (by omega)]; exact h2) (by rw [nI_clamp (by omega)]; exact hk99) (fun y hy q hq => ?_) (by rw [nI_clamp (by omega)]; exact hyb) hvb ⟨Nat.le_of_ble_eq_true rfl, Nat.le_of_ble_eq_true rfl⟩ ⟨(by first | exact Nat.le_of_ble_eq_true rfl | omega | (dsimp only; omega) | (simp only [List.length_cons, List.length_nil]; omega)), (by first | exact Nat.le_of_ble_eq_true rfl | omega | (dsimp only; omega) | (simp only [List.length_cons, List.length_nil]; omega))⟩ dX4_work_75 (fun q9 => VX_catch C [] ⟨60, 78, 81, 61⟩ _ rfl (fun z hz => by cases hz) rfl (by decide) q1109 q1129 ?_)
    · rw [nI_clamp (by omega)] at hq
      have h9 := copy_ev hR1 hI hr hs hkk (hrc1 _ (by omega)) (hbad y hy)
      rw [hk9] at h9
      unfold EV cv at h9
      dsimp only at h9
      rw [hq] at h9
      exact h9
    obtain ⟨M_8, eM_9⟩ : ∃ y, y = hp_up M_1 (qR g1 rs) (.inl (G.2 (kd σ rs), (ln σ rs, RV (va_cpy f8 f9 I J k9)))) := ⟨_, rfl⟩
    refine V_heap (M' := M_8) (by rw [eM_9, nI_clamp (by omega), nI_clamp (by omega), hk9]) ?_
    have hf9 : hp_fr (fun b => b = qR g1 rs) M_1 M_8 := hfr3.set (Or.inl rfl) eM_9
    have hs9 : hp_sh M_1 M_8 := hs3.set hra1B eM_9 rfl
    have hM9 : M_8 (qR g1 rs) = some (.inl (G.2 (kd σ rs), (ln σ rs, RV (va_cpy f8 f9 I J k9)))) := by rw [eM_9]; exact hp_up_s
    have hcv9 : ∀ y, cv (ln σ rs, RV (va_cpy f8 f9 I J k9)).2 y = if J ≤ y ∧ y < J + k9 then cv (ln σ rr, RV f8).2 (I + (y - J)) else cv (ln σ rs, RV f9).2 y := fun y => by
      show (.inr (.inr (.inr (.inr (va_cpy f8 f9 I J k9 y)))) : Int32 ⊕ Int64 ⊕ UInt32 ⊕ UInt64 ⊕ Option Nat) = _
      unfold va_cpy
      split <;> rfl
    have hx9 : XT (kd σ rs) (ln σ rs) (ln σ rs, RV (va_cpy f8 f9 I J k9)) := ⟨rfl, Or.inr (Or.inr (Or.inr (Or.inr ⟨by omega, _, rfl⟩)))⟩
    have hrow : REL G (X 0) g1 (sl (mf_hold σ rr I N) 4 (mfill (σ.2.2.1 4) (40 * rs + J) k9 (fun y => el σ rr (I + y)))) z (σ.1 31) C9 M_8 ∧ RKp (nR σ) σ g C9 M (sl (mf_hold σ rr I N) 4 (mfill (σ.2.2.1 4) (40 * rs + J) k9 (fun y => el σ rr (I + y)))) g1 C9 M_8 := (ROWK (f' := mfill (σ.2.2.1 4) (40 * rs + J) k9 (fun y => el σ rr (I + y))) (RKp.rf (n := nR σ)) rfl (fun _ _ _ _ _ _ _ y => y) hR1 hKp1 hs hC hkw1 hM9 hf9 hs9 ⟨hx9.1.trans hrx1B.1, hx9.2⟩ (fun k hk => by
      by_cases e : J ≤ k ∧ k < J + k9
      · rw [show 40 * rs + k = 40 * rs + J + (k - J) by omega, mfill_in (by omega)]
        have h9 := hcv9 k
        rw [if_pos e] at h9
        exact ((hrc1 (I + (k - J)) (by omega)).k89 hkk).at_ h9
      · rw [mfill_out (by omega)]
        have h9 := hcv9 k
        rw [if_neg e] at h9
        exact (hrc1B k hk).at_ h9) (fun r' k hr' hn hk => by
      have := (hI.l hr').2
      exact mfill_out (by omega)) ⟨fun _ _ => rfl, fun _ _ => ⟨rfl, rfl⟩, fun _ _ => rfl, fun _ _ => rfl, rfl, fun _ _ _ _ => rfl⟩)
    have hN2 : M_8 (qN g1) = some (.inr (0, [.ref (qRl g1), .ref (qUl g1), .ref (qPl g1), .ref (qHs g1), .int (σ.1 20), .int (σ.1 14), .int (σ.1 11), .int (σ.1 12), .int (σ.1 15), .int (z 0), .int (z 1), .int (z 2), .int (z 3), .int (z 4), .int (z 5), .int (σ.1 31), .ref (qAn g1)])) := hf9 _ _ (hp_ne hN1 hra1B (by simp)) hN1
    have hH2 := hf9 _ _ (hp_ne hH1 hra1B (by simp)) hH1
    refine V_astore C dX4_work_81 (Nat.le_of_ble_eq_true rfl) [(0, .ref (qH g1 0)), (1, .ref (qA g1 P9 K9)), (2, .ref (qC g1 c9)), (3, .ref (qR g1 rr)), (4, .ref (qR g1 rs)), (5, .ref q9)] [1, 2, 3, 4, 5, 0] rfl ?_
    refine V_aload_n C dX4_work_83 rfl 0 rfl ?_
    refine V_get C f_X4_3_10 hH2 (v := .ref (qN g1)) rfl dX4_work_84 ?_
    refine V_iconst (v := 3) C dX4_work_87 rfl ?_
    refine V_callVN C (c_X1_fail l hl G X N0 M_8 (qN g1) (qRl g1) (qUl g1) (qPl g1) (qHs g1) (qAn g1) (σ.1 20) (σ.1 14) (σ.1 11) (σ.1 12) (σ.1 15) (z 0) (z 1) (z 2) (z 3) (z 4) (z 5) (σ.1 31) 3 hN2) cs_X4_36_0 hN2 (show CLS[0]? = some (RX1, TX1, 17) from rfl) rfl rfl ⟨Nat.le_of_ble_eq_true rfl, Nat.le_of_ble_eq_true rfl⟩ ⟨(by first | exact Nat.le_of_ble_eq_true rfl | omega | (dsimp only; omega) | (simp only [List.length_cons, List.length_nil]; omega)), (by first | exact Nat.le_of_ble_eq_true rfl | omega | (dsimp only; omega) | (simp only [List.length_cons, List.length_nil]; omega))⟩ (Nat.le_of_ble_eq_true rfl) dX4_work_88 (fun _ _ _ h => px0 h) ?_
    rintro _ M_12 ⟨q_10, rfl, hq_11, hN_13, hF_14, fr_15, sh_16⟩
    refine V_st (st' := [.ref q_10]) rfl ?_
    refine V_pc (pc1 := 91) rfl ?_
    refine V_athrow C hF_14 (show CLS[8]? = some (RX26, TX26, 7) from rfl) dX4_work_91 ?_
    exact VX_out C (fun z9 hz => by have hz : z9 ∈ ([⟨60, 78, 81, 61⟩, ⟨60, 78, 92, 63⟩] : List ExceptionTableEntry) := hz; simp only [List.mem_cons, List.not_mem_nil, or_false] at hz; rcases hz with rfl | rfl <;> first | exact Or.inl rfl) (WX.of9 hcp (by decide) (FLX.row rfl rfl hrow.2 (FLX.of hrow.1 hq_11 hN_13 hF_14 fr_15 sh_16))) (by first | exact Nat.le_of_ble_eq_true rfl | omega | (dsimp only; omega) | (simp only [List.length_cons, List.length_nil]; omega)) (by first | exact Nat.le_of_ble_eq_true rfl | omega | (dsimp only; omega) | (simp only [List.length_cons, List.length_nil]; omega))
  · exact absurd (bI_iff.mpr (by omega)) c_40
