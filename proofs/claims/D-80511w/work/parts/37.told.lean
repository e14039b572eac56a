set_option maxRecDepth 100000
/-- between two calls of the law: what the system's own numbers are -/
def OUT (σ : MS) (z : Nat → Int32) (ca : Int32) : Prop := z 0 = σ.1 13 ∧ ((z 1 = 0 ∧ σ.1 27 = -1 ∧ σ.1 28 = -1 ∧ σ.1 29 = -1 ∧ σ.1 30 = -1 ∧ σ.1 31 = -1) ∨ (z 1 = 1 ∧ z 2 = σ.1 27 ∧ z 3 = σ.1 28 ∧ z 4 = σ.1 29 ∧ z 5 = σ.1 30 ∧ ca = σ.1 31 ∧ ∃ n, n ≤ 12 ∧ σ.1 30 = nI n))
theorem tout {v : Int32} {n : Nat} (hn : n < 2 ^ 20) (h : ∀ j, j ≤ n → v ≠ nI j) : v.toInt < 0 ∨ (n : Int) < v.toInt := by
  by_cases h0 : v.toInt < 0
  · exact Or.inl h0
  · refine Or.inr (Int.not_le.mp fun h1 => ?_)
    refine h v.toInt.toNat (by omega) ?_
    refine Int32.toInt_inj.mp ?_
    rw [nI_toInt (by omega)]
    omega
theorem nn64 {k : Int32} (h : 0 ≤ k.toInt64) : 0 ≤ k := by
  rw [Int64.le_iff_toInt_le, Int32.toInt_toInt64] at h
  exact Int32.le_iff_toInt_le.mpr h
theorem lt_m1 {k : Int32} (h : k < -1) : k < 0 := by
  rw [Int32.lt_iff_toInt_lt] at *
  have e0 : (0 : Int32).toInt = 0 := rfl
  have e1 : (-1 : Int32).toInt = -1 := rfl
  omega
theorem in11 {j : Nat} (h : j < 12) : 0 ≤ (nI j).toInt64 ∧ (nI j).toInt64 ≤ 11 := (in64 (k := 11) (by decide)).mpr ⟨j, by omega, rfl⟩
set_option maxHeartbeats 1000000 in
theorem c_X1_about (l : Launch) (hl : l.stackTraces = false) (G : hp_G) (X : Nat → Nat) (N0 : Nat) (M : hp_h) (g : RG) (σ : MS) (z : Nat → Int32) (ca : Int32) (C9 : Nat) (hR : REL G (X 0) g σ z ca C9 M) (hI : MI σ) (hO : OUT σ z ca) (w : Int32) : HM l yX1_about (ws_ yX1_about cX1_about 2 (some .int)) 1 20 0 0 G X N0 [.ref (qN g), .int w] M (PV (.int (mf_about σ w)) M) PX0 := by
  refine HM.of hl [(0, .ref (qN g)), (1, .int w)] (by decide +kernel) rfl (Nat.le_of_ble_eq_true rfl) ?_
  intro p e s m args below meth c C hname
  have hN := hR.N
  obtain ⟨mdR, hRl⟩ := hR.Rl
  obtain ⟨fR, hRs, hRf⟩ := hR.Rls
  obtain ⟨mdU, hUl⟩ := hR.Ul
  obtain ⟨fU, hUs, hUf⟩ := hR.Uls
  refine V_iload_n C dX1_about_0 rfl 1 rfl ?_
  by_cases t0 : w = 0
  · refine V_st (st' := [.int 0]) (by rw [t0]) ?_
    refine V_tableIn (tgt := 40) (off := 39) C dX1_about_1 (by decide) (by decide) (by decide) (by decide) ?_
    refine V_aload_n C dX1_about_40 rfl 0 rfl ?_
    refine V_get C f_X1_115_0 hN (v := .ref (qRl g)) rfl dX1_about_41 ?_
    refine V_callV C (c_J2_size l hl G X N0 M (qRl g) (qRe g) (nR σ) mdR hRl) cs_X1_180_1 hRl (show CLS[1]? = some (RJ2, TJ2, 3) from rfl) rfl rfl ⟨Nat.le_of_ble_eq_true rfl, Nat.le_of_ble_eq_true rfl⟩ ⟨(by first | exact Nat.le_of_ble_eq_true rfl | omega | (dsimp only; omega)), (by first | exact Nat.le_of_ble_eq_true rfl | omega | (dsimp only; omega))⟩ (Nat.le_of_ble_eq_true rfl) dX1_about_44 (fun _ _ _ h => px0 h) ?_
    rintro _ _ ⟨rfl, rfl⟩
    refine V_st (st' := [.int (nI (nR σ))]) rfl ?_
    refine V_iret C dX1_about_47 rfl ?_ (by first | exact Nat.le_of_ble_eq_true rfl | omega | (dsimp only; omega)) (by first | exact Nat.le_of_ble_eq_true rfl | omega | (dsimp only; omega))
    obtain ⟨o1, o2⟩ := hO
    have h1 := hI.R.1
    have h5 := hI.U.1
    refine ⟨congrArg (fun z => some (Value.int z)) ?_, rfl⟩
    (try simp only [lg_cmp_lt, lg_cmp_gt, lg_cmp_ge, lg_cmp_le, lg_cmp_eq, bI_0, bI_n, Classical.not_not] at t0)
    unfold mf_about
    clear C hR
    grind
  by_cases t1 : w = 1
  · refine V_st (st' := [.int 1]) (by rw [t1]) ?_
    refine V_tableIn (tgt := 48) (off := 47) C dX1_about_1 (by decide) (by decide) (by decide) (by decide) ?_
    refine V_aload_n C dX1_about_48 rfl 0 rfl ?_
    refine V_get C f_X1_119_0 hN (v := .ref (qUl g)) rfl dX1_about_49 ?_
    refine V_callV C (c_J2_size l hl G X N0 M (qUl g) (qUe g) (nU σ) mdU hUl) cs_X1_180_1 hUl (show CLS[1]? = some (RJ2, TJ2, 3) from rfl) rfl rfl ⟨Nat.le_of_ble_eq_true rfl, Nat.le_of_ble_eq_true rfl⟩ ⟨(by first | exact Nat.le_of_ble_eq_true rfl | omega | (dsimp only; omega)), (by first | exact Nat.le_of_ble_eq_true rfl | omega | (dsimp only; omega))⟩ (Nat.le_of_ble_eq_true rfl) dX1_about_52 (fun _ _ _ h => px0 h) ?_
    rintro _ _ ⟨rfl, rfl⟩
    refine V_st (st' := [.int (nI (nU σ))]) rfl ?_
    refine V_iret C dX1_about_55 rfl ?_ (by first | exact Nat.le_of_ble_eq_true rfl | omega | (dsimp only; omega)) (by first | exact Nat.le_of_ble_eq_true rfl | omega | (dsimp only; omega))
    obtain ⟨o1, o2⟩ := hO
    have h1 := hI.R.1
    have h5 := hI.U.1
    refine ⟨congrArg (fun z => some (Value.int z)) ?_, rfl⟩
    (try simp only [lg_cmp_lt, lg_cmp_gt, lg_cmp_ge, lg_cmp_le, lg_cmp_eq, bI_0, bI_n, Classical.not_not] at t1)
    unfold mf_about
    clear C hR
    grind
  by_cases t2 : w = 2
  · refine V_st (st' := [.int 2]) (by rw [t2]) ?_
    refine V_tableIn (tgt := 56) (off := 55) C dX1_about_1 (by decide) (by decide) (by decide) (by decide) ?_
    refine V_aload_n C dX1_about_56 rfl 0 rfl ?_
    refine V_get C f_X1_245_0 hN (v := .int (σ.1 11)) rfl dX1_about_57 ?_
    refine V_iret C dX1_about_60 rfl ?_ (by first | exact Nat.le_of_ble_eq_true rfl | omega | (dsimp only; omega)) (by first | exact Nat.le_of_ble_eq_true rfl | omega | (dsimp only; omega))
    obtain ⟨o1, o2⟩ := hO
    have h1 := hI.R.1
    have h5 := hI.U.1
    refine ⟨congrArg (fun z => some (Value.int z)) ?_, rfl⟩
    (try simp only [lg_cmp_lt, lg_cmp_gt, lg_cmp_ge, lg_cmp_le, lg_cmp_eq, bI_0, bI_n, Classical.not_not] at t2)
    unfold mf_about
    clear C hR
    grind
  by_cases t3 : w = 3
  · refine V_st (st' := [.int 3]) (by rw [t3]) ?_
    refine V_tableIn (tgt := 61) (off := 60) C dX1_about_1 (by decide) (by decide) (by decide) (by decide) ?_
    refine V_aload_n C dX1_about_61 rfl 0 rfl ?_
    refine V_get C f_X1_248_0 hN (v := .int (σ.1 12)) rfl dX1_about_62 ?_
    refine V_iret C dX1_about_65 rfl ?_ (by first | exact Nat.le_of_ble_eq_true rfl | omega | (dsimp only; omega)) (by first | exact Nat.le_of_ble_eq_true rfl | omega | (dsimp only; omega))
    obtain ⟨o1, o2⟩ := hO
    have h1 := hI.R.1
    have h5 := hI.U.1
    refine ⟨congrArg (fun z => some (Value.int z)) ?_, rfl⟩
    (try simp only [lg_cmp_lt, lg_cmp_gt, lg_cmp_ge, lg_cmp_le, lg_cmp_eq, bI_0, bI_n, Classical.not_not] at t3)
    unfold mf_about
    clear C hR
    grind
  by_cases t4 : w = 4
  · refine V_st (st' := [.int 4]) (by rw [t4]) ?_
    refine V_tableIn (tgt := 66) (off := 65) C dX1_about_1 (by decide) (by decide) (by decide) (by decide) ?_
    refine V_aload_n C dX1_about_66 rfl 0 rfl ?_
    refine V_get C f_X1_251_0 hN (v := .int (z 0)) rfl dX1_about_67 ?_
    refine V_iret C dX1_about_70 rfl ?_ (by first | exact Nat.le_of_ble_eq_true rfl | omega | (dsimp only; omega)) (by first | exact Nat.le_of_ble_eq_true rfl | omega | (dsimp only; omega))
    obtain ⟨o1, o2⟩ := hO
    have h1 := hI.R.1
    have h5 := hI.U.1
    refine ⟨congrArg (fun z => some (Value.int z)) ?_, rfl⟩
    (try simp only [lg_cmp_lt, lg_cmp_gt, lg_cmp_ge, lg_cmp_le, lg_cmp_eq, bI_0, bI_n, Classical.not_not] at t4)
    unfold mf_about
    clear C hR
    grind
  by_cases t5 : w = 5
  · refine V_st (st' := [.int 5]) (by rw [t5]) ?_
    refine V_tableIn (tgt := 71) (off := 70) C dX1_about_1 (by decide) (by decide) (by decide) (by decide) ?_
    refine V_aload_n C dX1_about_71 rfl 0 rfl ?_
    refine V_get C f_X1_254_0 hN (v := .int (σ.1 14)) rfl dX1_about_72 ?_
    refine V_iret C dX1_about_75 rfl ?_ (by first | exact Nat.le_of_ble_eq_true rfl | omega | (dsimp only; omega)) (by first | exact Nat.le_of_ble_eq_true rfl | omega | (dsimp only; omega))
    obtain ⟨o1, o2⟩ := hO
    have h1 := hI.R.1
    have h5 := hI.U.1
    refine ⟨congrArg (fun z => some (Value.int z)) ?_, rfl⟩
    (try simp only [lg_cmp_lt, lg_cmp_gt, lg_cmp_ge, lg_cmp_le, lg_cmp_eq, bI_0, bI_n, Classical.not_not] at t5)
    unfold mf_about
    clear C hR
    grind
  refine V_tableOut (tgt := 76) C dX1_about_1 (tout (n := 5) (by decide) (fun j hj => match j, hj with | 0, _ => t0 | 1, _ => t1 | 2, _ => t2 | 3, _ => t3 | 4, _ => t4 | 5, _ => t5 | _ + 6, h => absurd h (by omega))) (by decide) ?_
  refine V_bipush (v := -102) C dX1_about_76 rfl ?_
  refine V_iret C dX1_about_78 rfl ?_ (by first | exact Nat.le_of_ble_eq_true rfl | omega | (dsimp only; omega)) (by first | exact Nat.le_of_ble_eq_true rfl | omega | (dsimp only; omega))
  obtain ⟨o1, o2⟩ := hO
  have h1 := hI.R.1
  have h5 := hI.U.1
  refine ⟨congrArg (fun z => some (Value.int z)) ?_, rfl⟩
  (try simp only [lg_cmp_lt, lg_cmp_gt, lg_cmp_ge, lg_cmp_le, lg_cmp_eq, bI_0, bI_n, Classical.not_not] at t0 t1 t2 t3 t4 t5)
  unfold mf_about
  clear C hR
  grind
set_option maxHeartbeats 1000000 in
theorem c_X1_told (l : Launch) (hl : l.stackTraces = false) (G : hp_G) (X : Nat → Nat) (N0 : Nat) (M : hp_h) (g : RG) (σ : MS) (z : Nat → Int32) (ca : Int32) (C9 : Nat) (hR : REL G (X 0) g σ z ca C9 M) (hI : MI σ) (hO : OUT σ z ca) (w : Int32) : HM l yX1_told (ws_ yX1_told cX1_told 2 (some .int)) 0 0 0 0 G X N0 [.ref (qN g), .int w] M (PV (.int (mf_told σ w)) M) PX0 := by
  refine HM.of hl [(0, .ref (qN g)), (1, .int w)] (by decide +kernel) rfl (Nat.le_of_ble_eq_true rfl) ?_
  intro p e s m args below meth c C hname
  have hN := hR.N
  refine V_iload_n C dX1_told_0 rfl 1 rfl ?_
  refine V_if_lt (tgt := 9) C dX1_told_1 (by decide) (fun c_1 => ?_) (fun c_1 => ?_)
  · refine V_bipush (v := -102) C dX1_told_9 rfl ?_
    refine V_iret C dX1_told_11 rfl ?_ (by first | exact Nat.le_of_ble_eq_true rfl | omega | (dsimp only; omega)) (by first | exact Nat.le_of_ble_eq_true rfl | omega | (dsimp only; omega))
    obtain ⟨o1, o2⟩ := hO
    refine ⟨congrArg (fun z => some (Value.int z)) ?_, rfl⟩
    (try simp only [lg_cmp_lt, lg_cmp_gt, lg_cmp_ge, lg_cmp_le, lg_cmp_eq, bI_0, bI_n, Classical.not_not] at c_1)
    unfold mf_told
    clear C hR
    grind
  · refine V_iload_n C dX1_told_4 rfl 1 rfl ?_
    refine V_iconst (v := 4) C dX1_told_5 rfl ?_
    refine V_icmp_le (tgt := 12) C dX1_told_6 (by decide) (fun c_6 => ?_) (fun c_6 => ?_)
    · refine V_aload_n C dX1_told_12 rfl 0 rfl ?_
      refine V_get C f_X1_290_0 hN (v := .int (z 1)) rfl dX1_told_13 ?_
      refine V_if_ne (tgt := 21) C dX1_told_16 (by decide) (fun c_16 => ?_) (fun c_16 => ?_)
      · refine V_iload_n C dX1_told_21 rfl 1 rfl ?_
        refine V_if_ne (tgt := 32) C dX1_told_22 (by decide) (fun c_22 => ?_) (fun c_22 => ?_)
        · refine V_iload_n C dX1_told_32 rfl 1 rfl ?_
          refine V_pc (pc1 := 33) rfl ?_
          refine V_iconst (v := 1) C dX1_told_33 rfl ?_
          refine V_icmp_ne (tgt := 44) C dX1_told_34 (by decide) (fun c_34 => ?_) (fun c_34 => ?_)
          · refine V_iload_n C dX1_told_44 rfl 1 rfl ?_
            refine V_iconst (v := 2) C dX1_told_45 rfl ?_
            refine V_icmp_ne (tgt := 56) C dX1_told_46 (by decide) (fun c_46 => ?_) (fun c_46 => ?_)
            · refine V_iload_n C dX1_told_56 rfl 1 rfl ?_
              refine V_iconst (v := 3) C dX1_told_57 rfl ?_
              refine V_icmp_ne (tgt := 68) C dX1_told_58 (by decide) (fun c_58 => ?_) (fun c_58 => ?_)
              · refine V_aload_n C dX1_told_68 rfl 0 rfl ?_
                refine V_get C f_X1_294_0 hN (v := .int ca) rfl dX1_told_69 ?_
                refine V_iret C dX1_told_72 rfl ?_ (by first | exact Nat.le_of_ble_eq_true rfl | omega | (dsimp only; omega)) (by first | exact Nat.le_of_ble_eq_true rfl | omega | (dsimp only; omega))
                obtain ⟨o1, o2⟩ := hO
                refine ⟨congrArg (fun z => some (Value.int z)) ?_, rfl⟩
                (try simp only [lg_cmp_lt, lg_cmp_gt, lg_cmp_ge, lg_cmp_le, lg_cmp_eq, bI_0, bI_n, Classical.not_not] at c_1 c_6 c_16 c_22 c_34 c_46 c_58)
                unfold mf_told
                clear C hR
                grind
              · refine V_aload_n C dX1_told_61 rfl 0 rfl ?_
                refine V_get C f_X1_318_0 hN (v := .int (z 5)) rfl dX1_told_62 ?_
                refine V_goto (tgt := 72) C dX1_told_65 (by decide) ?_
                refine V_iret C dX1_told_72 rfl ?_ (by first | exact Nat.le_of_ble_eq_true rfl | omega | (dsimp only; omega)) (by first | exact Nat.le_of_ble_eq_true rfl | omega | (dsimp only; omega))
                obtain ⟨o1, o2⟩ := hO
                refine ⟨congrArg (fun z => some (Value.int z)) ?_, rfl⟩
                (try simp only [lg_cmp_lt, lg_cmp_gt, lg_cmp_ge, lg_cmp_le, lg_cmp_eq, bI_0, bI_n, Classical.not_not] at c_1 c_6 c_16 c_22 c_34 c_46 c_58)
                unfold mf_told
                clear C hR
                grind
            · refine V_aload_n C dX1_told_49 rfl 0 rfl ?_
              refine V_get C f_X1_312_0 hN (v := .int (z 4)) rfl dX1_told_50 ?_
              refine V_goto (tgt := 72) C dX1_told_53 (by decide) ?_
              refine V_iret C dX1_told_72 rfl ?_ (by first | exact Nat.le_of_ble_eq_true rfl | omega | (dsimp only; omega)) (by first | exact Nat.le_of_ble_eq_true rfl | omega | (dsimp only; omega))
              obtain ⟨o1, o2⟩ := hO
              refine ⟨congrArg (fun z => some (Value.int z)) ?_, rfl⟩
              (try simp only [lg_cmp_lt, lg_cmp_gt, lg_cmp_ge, lg_cmp_le, lg_cmp_eq, bI_0, bI_n, Classical.not_not] at c_1 c_6 c_16 c_22 c_34 c_46)
              unfold mf_told
              clear C hR
              grind
          · refine V_aload_n C dX1_told_37 rfl 0 rfl ?_
            refine V_get C f_X1_309_0 hN (v := .int (z 3)) rfl dX1_told_38 ?_
            refine V_goto (tgt := 72) C dX1_told_41 (by decide) ?_
            refine V_iret C dX1_told_72 rfl ?_ (by first | exact Nat.le_of_ble_eq_true rfl | omega | (dsimp only; omega)) (by first | exact Nat.le_of_ble_eq_true rfl | omega | (dsimp only; omega))
            obtain ⟨o1, o2⟩ := hO
            refine ⟨congrArg (fun z => some (Value.int z)) ?_, rfl⟩
            (try simp only [lg_cmp_lt, lg_cmp_gt, lg_cmp_ge, lg_cmp_le, lg_cmp_eq, bI_0, bI_n, Classical.not_not] at c_1 c_6 c_16 c_22 c_34)
            unfold mf_told
            clear C hR
            grind
        · refine V_aload_n C dX1_told_25 rfl 0 rfl ?_
          refine V_pc (pc1 := 26) rfl ?_
          refine V_get C f_X1_297_0 hN (v := .int (z 2)) rfl dX1_told_26 ?_
          refine V_goto (tgt := 72) C dX1_told_29 (by decide) ?_
          refine V_iret C dX1_told_72 rfl ?_ (by first | exact Nat.le_of_ble_eq_true rfl | omega | (dsimp only; omega)) (by first | exact Nat.le_of_ble_eq_true rfl | omega | (dsimp only; omega))
          obtain ⟨o1, o2⟩ := hO
          refine ⟨congrArg (fun z => some (Value.int z)) ?_, rfl⟩
          (try simp only [lg_cmp_lt, lg_cmp_gt, lg_cmp_ge, lg_cmp_le, lg_cmp_eq, bI_0, bI_n, Classical.not_not] at c_1 c_6 c_16 c_22)
          unfold mf_told
          clear C hR
          grind
      · refine V_iconst (v := -1) C dX1_told_19 rfl ?_
        refine V_iret C dX1_told_20 rfl ?_ (by first | exact Nat.le_of_ble_eq_true rfl | omega | (dsimp only; omega)) (by first | exact Nat.le_of_ble_eq_true rfl | omega | (dsimp only; omega))
        obtain ⟨o1, o2⟩ := hO
        refine ⟨congrArg (fun z => some (Value.int z)) ?_, rfl⟩
        (try simp only [lg_cmp_lt, lg_cmp_gt, lg_cmp_ge, lg_cmp_le, lg_cmp_eq, bI_0, bI_n, Classical.not_not] at c_1 c_6 c_16)
        unfold mf_told
        clear C hR
        grind
    · refine V_bipush (v := -102) C dX1_told_9 rfl ?_
      refine V_iret C dX1_told_11 rfl ?_ (by first | exact Nat.le_of_ble_eq_true rfl | omega | (dsimp only; omega)) (by first | exact Nat.le_of_ble_eq_true rfl | omega | (dsimp only; omega))
      obtain ⟨o1, o2⟩ := hO
      refine ⟨congrArg (fun z => some (Value.int z)) ?_, rfl⟩
      (try simp only [lg_cmp_lt, lg_cmp_gt, lg_cmp_ge, lg_cmp_le, lg_cmp_eq, bI_0, bI_n, Classical.not_not] at c_1 c_6)
      unfold mf_told
      clear C hR
      grind
set_option maxHeartbeats 1000000 in
theorem c_X1_answer (l : Launch) (hl : l.stackTraces = false) (G : hp_G) (X : Nat → Nat) (N0 : Nat) (M : hp_h) (g : RG) (σ : MS) (z : Nat → Int32) (ca : Int32) (C9 : Nat) (hR : REL G (X 0) g σ z ca C9 M) (hI : MI σ) (hO : OUT σ z ca) (k : Int32) : HM l yX1_answer (ws_ yX1_answer cX1_answer 2 (some .long)) 0 0 0 0 G X N0 [.ref (qN g), .int k] M (PV (.long (mf_answer σ k)) M) PX0 := by
  refine HM.of hl [(0, .ref (qN g)), (1, .int k)] (by decide +kernel) rfl (Nat.le_of_ble_eq_true rfl) ?_
  intro p e s m args below meth c C hname
  have hN := hR.N
  obtain ⟨fA, hAn, hAf⟩ := hR.An
  refine V_aload_n C dX1_answer_0 rfl 0 rfl ?_
  refine V_get C f_X1_290_0 hN (v := .int (z 1)) rfl dX1_answer_1 ?_
  refine V_if_eq (tgt := 28) C dX1_answer_4 (by decide) (fun c_4 => ?_) (fun c_4 => ?_)
  · refine V_ldc2 (v := -9223372036854775808) C (C.w q622) dX1_answer_28 ?_
    refine V_lret C dX1_answer_31 rfl ?_ (by first | exact Nat.le_of_ble_eq_true rfl | omega | (dsimp only; omega)) (by first | exact Nat.le_of_ble_eq_true rfl | omega | (dsimp only; omega))
    refine ⟨congrArg (fun z => some (Value.long z)) ?_, rfl⟩
    (try simp only [lg_cmp_lt, lg_cmp_gt, lg_cmp_ge, lg_cmp_le, lg_cmp_eq] at c_4)
    unfold mf_answer
    obtain ⟨o1, o2⟩ := hO
    have i1 : 0 ≤ k.toInt64 → ¬ k < 0 := fun h => Int32.not_lt.mpr (nn64 h)
    have i2 : k < -1 → k < 0 := lt_m1
    clear C hR
    grind
  · refine V_iload_n C dX1_answer_7 rfl 1 rfl ?_
    refine V_if_lt (tgt := 28) C dX1_answer_8 (by decide) (fun c_8 => ?_) (fun c_8 => ?_)
    · refine V_ldc2 (v := -9223372036854775808) C (C.w q622) dX1_answer_28 ?_
      refine V_lret C dX1_answer_31 rfl ?_ (by first | exact Nat.le_of_ble_eq_true rfl | omega | (dsimp only; omega)) (by first | exact Nat.le_of_ble_eq_true rfl | omega | (dsimp only; omega))
      refine ⟨congrArg (fun z => some (Value.long z)) ?_, rfl⟩
      (try simp only [lg_cmp_lt, lg_cmp_gt, lg_cmp_ge, lg_cmp_le, lg_cmp_eq] at c_4 c_8)
      unfold mf_answer
      obtain ⟨o1, o2⟩ := hO
      have i1 : 0 ≤ k.toInt64 → ¬ k < 0 := fun h => Int32.not_lt.mpr (nn64 h)
      have i2 : k < -1 → k < 0 := lt_m1
      clear C hR
      grind
    · refine V_iload_n C dX1_answer_11 rfl 1 rfl ?_
      refine V_aload_n C dX1_answer_12 rfl 0 rfl ?_
      refine V_get C f_X1_318_0 hN (v := .int (z 5)) rfl dX1_answer_13 ?_
      refine V_icmp_ge (tgt := 28) C dX1_answer_16 (by decide) (fun c_16 => ?_) (fun c_16 => ?_)
      · refine V_ldc2 (v := -9223372036854775808) C (C.w q622) dX1_answer_28 ?_
        refine V_lret C dX1_answer_31 rfl ?_ (by first | exact Nat.le_of_ble_eq_true rfl | omega | (dsimp only; omega)) (by first | exact Nat.le_of_ble_eq_true rfl | omega | (dsimp only; omega))
        refine ⟨congrArg (fun z => some (Value.long z)) ?_, rfl⟩
        (try simp only [lg_cmp_lt, lg_cmp_gt, lg_cmp_ge, lg_cmp_le, lg_cmp_eq] at c_4 c_8 c_16)
        unfold mf_answer
        obtain ⟨o1, o2⟩ := hO
        have i1 : 0 ≤ k.toInt64 → ¬ k < 0 := fun h => Int32.not_lt.mpr (nn64 h)
        have i2 : k < -1 → k < 0 := lt_m1
        clear C hR
        grind
      · obtain ⟨o1, o2⟩ := hO
        obtain ⟨h1, h2, h3, h4, h5, h6, n, hn, h7⟩ : z 1 = 1 ∧ z 2 = σ.1 27 ∧ z 3 = σ.1 28 ∧ z 4 = σ.1 29 ∧ z 5 = σ.1 30 ∧ ca = σ.1 31 ∧ ∃ n, n ≤ 12 ∧ σ.1 30 = nI n := by
          rcases o2 with o2 | o2
          · exact absurd o2.1 c_4
          · exact o2
        have c9 := c_16
        rw [h5, h7] at c9
        obtain ⟨j, hj, rfl⟩ := (isRow_n (σ := sz σ 1 (nI n)) (R := n) (r := k) rfl (by omega)).mp ⟨c_8, Int32.not_le.mp c9⟩
        refine V_aload_n C dX1_answer_19 rfl 0 rfl ?_
        refine V_get C f_X1_177_0 hN (v := .ref (qAn g)) rfl dX1_answer_20 ?_
        refine V_pc (pc1 := 23) rfl ?_
        refine V_iload_n C dX1_answer_23 rfl 1 rfl ?_
        refine V_lald C hAn (vp_in_nI (by omega) (by omega)) dX1_answer_24 ?_
        refine V_st (st' := [.long (fA j)]) (by rw [nI_clamp (by omega)]) ?_
        refine V_goto (tgt := 31) C dX1_answer_25 (by decide) ?_
        refine V_lret C dX1_answer_31 rfl ?_ (by first | exact Nat.le_of_ble_eq_true rfl | omega | (dsimp only; omega)) (by first | exact Nat.le_of_ble_eq_true rfl | omega | (dsimp only; omega))
        refine ⟨congrArg (fun z => some (Value.long z)) ?_, rfl⟩
        unfold mf_answer
        rw [if_pos ⟨in11 (by omega), by rw [h7]; exact nI_lt hj (by omega)⟩, nI_clamp (by omega)]
        exact hAf j (by omega)
set_option maxHeartbeats 1000000 in
theorem c_X1_of (l : Launch) (hl : l.stackTraces = false) (G : hp_G) (X : Nat → Nat) (N0 : Nat) (M : hp_h) (g : RG) (σ : MS) (z : Nat → Int32) (ca : Int32) (C9 : Nat) (hR : REL G (X 0) g σ z ca C9 M) (hI : MI σ) (r w : Int32) : HM l yX1_of (ws_ yX1_of cX1_of 3 (some .int)) 3 64 0 0 G X N0 [.ref (qN g), .int r, .int w] M (PV (.int (mf_of r w σ)) M) PX0 := by
  refine HM.of hl [(0, .ref (qN g)), (1, .int r), (2, .int w)] (by decide +kernel) rfl (Nat.le_of_ble_eq_true rfl) ?_
  intro p e s m args below meth c C hname
  have hN := hR.N
  obtain ⟨mdR, hRl⟩ := hR.Rl
  obtain ⟨fR, hRs, hRf⟩ := hR.Rls
  refine V_aload_n C dX1_of_0 rfl 0 rfl ?_
  refine V_iload_n C dX1_of_1 rfl 1 rfl ?_
  refine V_callV C (c_X1_isRow l hl G X N0 M g σ z ca C9 hR hI r) cs_X1_224_0 hN (show CLS[0]? = some (RX1, TX1, 17) from rfl) rfl rfl ⟨Nat.le_of_ble_eq_true rfl, Nat.le_of_ble_eq_true rfl⟩ ⟨(by first | exact Nat.le_of_ble_eq_true rfl | omega | (dsimp only; omega)), (by first | exact Nat.le_of_ble_eq_true rfl | omega | (dsimp only; omega))⟩ (Nat.le_of_ble_eq_true rfl) dX1_of_2 (fun _ _ _ h => px0 h) ?_
  rintro _ _ ⟨rfl, rfl⟩
  refine V_st (st' := [.int (bI (¬ r < 0 ∧ r < σ.1 1))]) rfl ?_
  refine V_if_ne (tgt := 11) C dX1_of_5 (by decide) (fun c_5 => ?_) (fun c_5 => ?_)
  · obtain ⟨rr, hr, rfl⟩ := hI.row (bI_n.mp c_5)
    obtain ⟨xr, hra, hrx, hrc⟩ := hR.rw hr
    obtain ⟨hkE, hkL⟩ := hI.k hr
    obtain ⟨hlE, hlL⟩ := hI.l hr
    refine V_iload_n C dX1_of_11 rfl 2 rfl ?_
    refine V_if_ne (tgt := 29) C dX1_of_12 (by decide) (fun c_12 => ?_) (fun c_12 => ?_)
    · refine V_iload_n C dX1_of_29 rfl 2 rfl ?_
      refine V_iconst (v := 1) C dX1_of_30 rfl ?_
      refine V_icmp_ne (tgt := 48) C dX1_of_31 (by decide) (fun c_31 => ?_) (fun c_31 => ?_)
      · refine V_bipush (v := -102) C dX1_of_48 rfl ?_
        refine V_iret C dX1_of_50 rfl ?_ (by first | exact Nat.le_of_ble_eq_true rfl | omega | (dsimp only; omega)) (by first | exact Nat.le_of_ble_eq_true rfl | omega | (dsimp only; omega))
        refine ⟨congrArg (fun z => some (Value.int z)) ?_, rfl⟩
        (try simp only [lg_cmp_lt, lg_cmp_gt, lg_cmp_ge, lg_cmp_le, lg_cmp_eq, Classical.not_not] at c_12 c_31)
        unfold mf_of
        rw [if_pos (isRow9 hI hr), nI_clamp (by have := hI.R.2; omega), hkE, hlE]
        clear C hR hra hrc hrx
        grind
      · refine V_aload_n C dX1_of_34 rfl 0 rfl ?_
        refine V_get C f_X1_115_0 hN (v := .ref (qRl g)) rfl dX1_of_35 ?_
        refine V_pc (pc1 := 38) rfl ?_
        refine V_iload_n C dX1_of_38 rfl 1 rfl ?_
        refine V_callV C (c_J2_get l hl G X N0 M (qRl g) (qRe g) (nR σ) (gcp g 2 0) mdR fR hRl (hRs.2.2.1 (by have := hRs.2.2.2.1; omega)) (by have := hRs.2.2.2.2; omega) hRs.2.2.2.1 rr (qR g rr) hr (hRf rr hr)) cs_X1_184_1 hRl (show CLS[1]? = some (RJ2, TJ2, 3) from rfl) rfl rfl ⟨Nat.le_of_ble_eq_true rfl, Nat.le_of_ble_eq_true rfl⟩ ⟨(by first | exact Nat.le_of_ble_eq_true rfl | omega | (dsimp only; omega)), (by first | exact Nat.le_of_ble_eq_true rfl | omega | (dsimp only; omega))⟩ (Nat.le_of_ble_eq_true rfl) dX1_of_39 (fun _ _ _ h => px0 h) ?_
        rintro _ _ ⟨rfl, rfl⟩
        refine V_st (st' := [.ref (qR g rr)]) rfl ?_
        refine V_callS C (c_X1_sizeOf l hl G X N0 M (qR g rr) (kd σ rr) hkL xr hra) cs_X1_35 rfl rfl ⟨Nat.le_of_ble_eq_true rfl, Nat.le_of_ble_eq_true rfl⟩ ⟨(by first | exact Nat.le_of_ble_eq_true rfl | omega | (dsimp only; omega)), (by first | exact Nat.le_of_ble_eq_true rfl | omega | (dsimp only; omega))⟩ (Nat.le_of_ble_eq_true rfl) dX1_of_42 (fun _ _ _ h => px0 h) ?_
        rintro _ _ ⟨rfl, rfl⟩
        refine V_st (st' := [.int (nI xr.1)]) rfl ?_
        refine V_st (st' := [.int (nI (ln σ rr))]) (by rw [hrx.1]) ?_
        refine V_goto (tgt := 50) C dX1_of_45 (by decide) ?_
        refine V_iret C dX1_of_50 rfl ?_ (by first | exact Nat.le_of_ble_eq_true rfl | omega | (dsimp only; omega)) (by first | exact Nat.le_of_ble_eq_true rfl | omega | (dsimp only; omega))
        refine ⟨congrArg (fun z => some (Value.int z)) ?_, rfl⟩
        (try simp only [lg_cmp_lt, lg_cmp_gt, lg_cmp_ge, lg_cmp_le, lg_cmp_eq, Classical.not_not] at c_12 c_31)
        unfold mf_of
        rw [if_pos (isRow9 hI hr), nI_clamp (by have := hI.R.2; omega), hkE, hlE]
        clear C hR hra hrc hrx
        grind
    · refine V_aload_n C dX1_of_15 rfl 0 rfl ?_
      refine V_get C f_X1_115_0 hN (v := .ref (qRl g)) rfl dX1_of_16 ?_
      refine V_iload_n C dX1_of_19 rfl 1 rfl ?_
      refine V_callV C (c_J2_get l hl G X N0 M (qRl g) (qRe g) (nR σ) (gcp g 2 0) mdR fR hRl (hRs.2.2.1 (by have := hRs.2.2.2.1; omega)) (by have := hRs.2.2.2.2; omega) hRs.2.2.2.1 rr (qR g rr) hr (hRf rr hr)) cs_X1_184_1 hRl (show CLS[1]? = some (RJ2, TJ2, 3) from rfl) rfl rfl ⟨Nat.le_of_ble_eq_true rfl, Nat.le_of_ble_eq_true rfl⟩ ⟨(by first | exact Nat.le_of_ble_eq_true rfl | omega | (dsimp only; omega)), (by first | exact Nat.le_of_ble_eq_true rfl | omega | (dsimp only; omega))⟩ (Nat.le_of_ble_eq_true rfl) dX1_of_20 (fun _ _ _ h => px0 h) ?_
      rintro _ _ ⟨rfl, rfl⟩
      refine V_st (st' := [.ref (qR g rr)]) rfl ?_
      refine V_callS C (c_X1_kindOf l hl G X N0 M (qR g rr) (kd σ rr) hkL xr hra) cs_X1_25 rfl rfl ⟨Nat.le_of_ble_eq_true rfl, Nat.le_of_ble_eq_true rfl⟩ ⟨(by first | exact Nat.le_of_ble_eq_true rfl | omega | (dsimp only; omega)), (by first | exact Nat.le_of_ble_eq_true rfl | omega | (dsimp only; omega))⟩ (Nat.le_of_ble_eq_true rfl) dX1_of_23 (fun _ _ _ h => px0 h) ?_
      rintro _ _ ⟨rfl, rfl⟩
      refine V_st (st' := [.int (nI (kd σ rr))]) rfl ?_
      refine V_pc (pc1 := 26) rfl ?_
      refine V_goto (tgt := 50) C dX1_of_26 (by decide) ?_
      refine V_iret C dX1_of_50 rfl ?_ (by first | exact Nat.le_of_ble_eq_true rfl | omega | (dsimp only; omega)) (by first | exact Nat.le_of_ble_eq_true rfl | omega | (dsimp only; omega))
      refine ⟨congrArg (fun z => some (Value.int z)) ?_, rfl⟩
      (try simp only [lg_cmp_lt, lg_cmp_gt, lg_cmp_ge, lg_cmp_le, lg_cmp_eq, Classical.not_not] at c_12)
      unfold mf_of
      rw [if_pos (isRow9 hI hr), nI_clamp (by have := hI.R.2; omega), hkE, hlE]
      clear C hR hra hrc hrx
      grind
  · refine V_bipush (v := -101) C dX1_of_8 rfl ?_
    refine V_iret C dX1_of_10 rfl ?_ (by first | exact Nat.le_of_ble_eq_true rfl | omega | (dsimp only; omega)) (by first | exact Nat.le_of_ble_eq_true rfl | omega | (dsimp only; omega))
    refine ⟨congrArg (fun z => some (Value.int z)) ?_, rfl⟩
    unfold mf_of
    rw [if_neg (bI_0.mp c_5)]
