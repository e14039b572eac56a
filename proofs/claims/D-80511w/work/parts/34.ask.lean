set_option maxRecDepth 100000
theorem V_castU {p : Program} {l : Launch} {e : Env} {R : Room} {s : State} {m : MethodId} {args : Array Value} {below : List Frame} {meth : Method} {c : Code} {cc : ByteArray} {own : String} {nL : Nat} {ret : Option FieldType} {hh : List (Nat × Nat × Nat × Nat)} {G : hp_G} {X : Nat → Nat} {N0 : Nat} {Q : State → Prop} {cells slots : Nat} {M : hp_h} {pc : Nat} {L : List (Nat × Value)} {rest : List Value} {idx : Nat} (C : Cx p l s m args meth c cc own nL ret hh G X N0) {a ci : Nat} {fs : List Value} (h : ci = 5 ∨ ci = 6 ∨ ci = 7) (hcl : Cond.classLink own idx "NativeSubset$Unit" ∈ lw_all) (ha : M a = some (.inr (ci, fs))) (hdg : decode cc pc = .ok (.checkcast idx, 3)) (kk : V p l e R s m args below meth c G N0 nL Q cells slots M (pc + 3) L (.ref a :: rest)) : V p l e R s m args below meth c G N0 nL Q cells slots M pc L (.ref a :: rest) := by
  rcases h with rfl | rfl | rfl
  · exact V_castO C hcl (show CLS[5]? = some (RX21, TX21, 2) from rfl) (Or.inl rfl) ha hdg kk
  · exact V_castO C hcl (show CLS[6]? = some (RX22, TX22, 2) from rfl) (Or.inr q1832) ha hdg kk
  · exact V_castO C hcl (show CLS[7]? = some (RX23, TX23, 2) from rfl) (Or.inr q1833) ha hdg kk
theorem RELY.unc {G : hp_G} {E0 : Nat} {g : RG} {σ : MS} {z : Nat → Int32} {ca : Int32} {C : Nat} {Y : Nat → Prop} {M : hp_h} (h : RELY G E0 g σ z ca C Y M) (hI : MI σ) {u : Nat} (hu : u < nU σ) : ∃ ci, (ci = 5 ∨ ci = 6 ∨ ci = 7) ∧ M (qU g u) = some (.inr (ci, [.int (nI u), .int (σ.2.1 7 u)])) := by
  have := (hI.cN hu).1
  exact ⟨_, by omega, h.un hu⟩
theorem goes_U {U : Nat} {b : Int64} (h : U < 2 ^ 20) : b ≤ (nI U - 1).toInt64 ↔ b < lN U := by
  have e : (nI U - 1).toInt64.toInt = (U : Int) - 1 := by
    rw [Int32.toInt_toInt64]
    by_cases h0 : U = 0
    · subst h0; rfl
    · have : nI U - 1 = nI (U - 1) := by
        obtain ⟨k, rfl⟩ : ∃ k, U = k + 1 := ⟨U - 1, by omega⟩
        exact nI_pred k
      rw [this, nI_toInt (by omega)]
      omega
  rw [Int64.le_iff_toInt_le, Int64.lt_iff_toInt_lt, e, lN_toInt (by omega)]
  omega
set_option maxHeartbeats 1000000 in
theorem c_X1_isRow (l : Launch) (hl : l.stackTraces = false) (G : hp_G) (X : Nat → Nat) (N0 : Nat) (M : hp_h) (g : RG) (σ : MS) (z : Nat → Int32) (ca : Int32) (C9 : Nat) (hR : REL G (X 0) g σ z ca C9 M) (hI : MI σ) (r : Int32) : HM l yX1_isRow (ws_ yX1_isRow cX1_isRow 2 (some .boolean)) 1 20 0 0 G X N0 [.ref (qN g), .int r] M (PV (.int (bI (¬ r < 0 ∧ r < σ.1 1))) M) PX0 := by
  refine HM.of hl [(0, .ref (qN g)), (1, .int r)] (by decide +kernel) rfl (Nat.le_of_ble_eq_true rfl) ?_
  intro p e s m args below meth c C hname
  have hN := hR.N
  obtain ⟨mdR, hRl⟩ := hR.Rl
  obtain ⟨fR, hRs, hRf⟩ := hR.Rls
  refine V_iload_n C dX1_isRow_0 rfl 1 rfl ?_
  refine V_if_lt (tgt := 19) C dX1_isRow_1 (by decide) (fun c_1 => ?_) (fun c_1 => ?_)
  · refine V_iconst (v := 0) C dX1_isRow_19 rfl ?_
    refine V_zret C rfl dX1_isRow_20 rfl ?_ (by first | exact Nat.le_of_ble_eq_true rfl | omega | (dsimp only; omega)) (by first | exact Nat.le_of_ble_eq_true rfl | omega | (dsimp only; omega))
    refine ⟨congrArg (fun z => some (Value.int z)) (bI_f ?_), rfl⟩
    (try simp only [lg_cmp_lt, lg_cmp_gt, lg_cmp_ge, lg_cmp_le, lg_cmp_eq, bI_0, bI_n, Classical.not_not] at c_1)
    have h1 := hI.R.1
    clear C hR
    grind
  · refine V_iload_n C dX1_isRow_4 rfl 1 rfl ?_
    refine V_aload_n C dX1_isRow_5 rfl 0 rfl ?_
    refine V_get C f_X1_115_0 hN (v := .ref (qRl g)) rfl dX1_isRow_6 ?_
    refine V_callV C (c_J2_size l hl G X N0 M (qRl g) (qRe g) (nR σ) mdR hRl) cs_X1_180_1 hRl (show CLS[1]? = some (RJ2, TJ2, 3) from rfl) rfl rfl ⟨Nat.le_of_ble_eq_true rfl, Nat.le_of_ble_eq_true rfl⟩ ⟨(by first | exact Nat.le_of_ble_eq_true rfl | omega | (dsimp only; omega)), (by first | exact Nat.le_of_ble_eq_true rfl | omega | (dsimp only; omega))⟩ (Nat.le_of_ble_eq_true rfl) dX1_isRow_9 (fun _ _ _ h => px0 h) ?_
    rintro _ _ ⟨rfl, rfl⟩
    refine V_st (st' := [.int (nI (nR σ)), .int r]) rfl ?_
    refine V_icmp_ge (tgt := 19) C dX1_isRow_12 (by decide) (fun c_12 => ?_) (fun c_12 => ?_)
    · refine V_iconst (v := 0) C dX1_isRow_19 rfl ?_
      refine V_zret C rfl dX1_isRow_20 rfl ?_ (by first | exact Nat.le_of_ble_eq_true rfl | omega | (dsimp only; omega)) (by first | exact Nat.le_of_ble_eq_true rfl | omega | (dsimp only; omega))
      refine ⟨congrArg (fun z => some (Value.int z)) (bI_f ?_), rfl⟩
      (try simp only [lg_cmp_lt, lg_cmp_gt, lg_cmp_ge, lg_cmp_le, lg_cmp_eq, bI_0, bI_n, Classical.not_not] at c_1 c_12)
      have h1 := hI.R.1
      clear C hR
      grind
    · refine V_iconst (v := 1) C dX1_isRow_15 rfl ?_
      refine V_goto (tgt := 20) C dX1_isRow_16 (by decide) ?_
      refine V_zret C rfl dX1_isRow_20 rfl ?_ (by first | exact Nat.le_of_ble_eq_true rfl | omega | (dsimp only; omega)) (by first | exact Nat.le_of_ble_eq_true rfl | omega | (dsimp only; omega))
      refine ⟨congrArg (fun z => some (Value.int z)) (bI_t ?_), rfl⟩
      (try simp only [lg_cmp_lt, lg_cmp_gt, lg_cmp_ge, lg_cmp_le, lg_cmp_eq, bI_0, bI_n, Classical.not_not] at c_1 c_12)
      have h1 := hI.R.1
      clear C hR
      grind
set_option maxHeartbeats 1000000 in
theorem c_X1_goes (l : Launch) (hl : l.stackTraces = false) (G : hp_G) (X : Nat → Nat) (N0 : Nat) (M : hp_h) (g : RG) (σ : MS) (z : Nat → Int32) (ca : Int32) (C9 : Nat) (hR : REL G (X 0) g σ z ca C9 M) (hI : MI σ) (k : Nat) (b : Int64) (hk : k ≤ 10) : HM l yX1_goes (ws_ yX1_goes cX1_goes 4 (some .boolean)) 1 20 0 0 G X N0 [.ref (qN g), .int (nI k), .long b] M (PV (.int (bI (mf_goes σ (nI k) b))) M) PX0 := by
  refine HM.of hl [(0, .ref (qN g)), (1, .int (nI k)), (2, .long b)] (by decide +kernel) rfl (Nat.le_of_ble_eq_true rfl) ?_
  intro p e s m args below meth c C hname
  have hN := hR.N
  obtain ⟨mdU, hUl⟩ := hR.Ul
  obtain ⟨fU, hUs, hUf⟩ := hR.Uls
  refine V_iload_n C dX1_goes_0 rfl 1 rfl ?_
  refine V_bipush (v := 8) C dX1_goes_1 rfl ?_
  refine V_icmp_eq (tgt := 12) C dX1_goes_3 (by decide) (fun c_3 => ?_) (fun c_3 => ?_)
  · refine V_lload_n C dX1_goes_12 rfl 2 rfl ?_
    refine V_ldc2 (v := -1) C (C.w q1206) dX1_goes_13 ?_
    refine V_lcmp C dX1_goes_16 ?_
    refine V_if_lt (tgt := 37) C dX1_goes_17 (by decide) (fun c_17 => ?_) (fun c_17 => ?_)
    · refine V_iconst (v := 0) C dX1_goes_37 rfl ?_
      refine V_zret C rfl dX1_goes_38 rfl ?_ (by first | exact Nat.le_of_ble_eq_true rfl | omega | (dsimp only; omega)) (by first | exact Nat.le_of_ble_eq_true rfl | omega | (dsimp only; omega))
      refine ⟨congrArg (fun z => some (Value.int z)) (bI_f ?_), rfl⟩
      (try simp only [lg_cmp_lt, lg_cmp_gt, lg_cmp_ge, lg_cmp_le, lg_cmp_eq, bI_0, bI_n, Classical.not_not] at c_3 c_17)
      have h5 := hI.U.1
      have hU3 := hI.U.2
      have e5 := goes_U (U := nU σ) (b := b) (by omega)
      rw [← h5] at e5
      unfold mf_goes
      have n8 : nI k = 8 ↔ k = 8 := nI_eq (b := 8) (by omega) (by omega)
      have n9 : nI k = 9 ↔ k = 9 := nI_eq (b := 9) (by omega) (by omega)
      have n10 : nI k = 10 ↔ k = 10 := nI_eq (b := 10) (by omega) (by omega)
      have nl : nI k < 8 ↔ k < 8 := nI_ltI (b := 8) (by omega) (by omega)
      clear C hR
      grind
    · refine V_lload_n C dX1_goes_20 rfl 2 rfl ?_
      refine V_aload_n C dX1_goes_21 rfl 0 rfl ?_
      refine V_get C f_X1_119_0 hN (v := .ref (qUl g)) rfl dX1_goes_22 ?_
      refine V_callV C (c_J2_size l hl G X N0 M (qUl g) (qUe g) (nU σ) mdU hUl) cs_X1_180_1 hUl (show CLS[1]? = some (RJ2, TJ2, 3) from rfl) rfl rfl ⟨Nat.le_of_ble_eq_true rfl, Nat.le_of_ble_eq_true rfl⟩ ⟨(by first | exact Nat.le_of_ble_eq_true rfl | omega | (dsimp only; omega)), (by first | exact Nat.le_of_ble_eq_true rfl | omega | (dsimp only; omega))⟩ (Nat.le_of_ble_eq_true rfl) dX1_goes_25 (fun _ _ _ h => px0 h) ?_
      rintro _ _ ⟨rfl, rfl⟩
      refine V_st (st' := [.int (nI (nU σ)), .long b]) rfl ?_
      refine V_pc (pc1 := 28) rfl ?_
      refine V_i2l (v := (nI (nU σ)).toInt64) C dX1_goes_28 rfl ?_
      refine V_st (st' := [.long (lN (nU σ)), .long b]) (by rw [show ((nI (nU σ)).toInt64) = (lN (nU σ)) from (nI_l (by have := hI.U.2; omega))]) ?_
      refine V_lcmp C dX1_goes_29 ?_
      refine V_if_ge (tgt := 37) C dX1_goes_30 (by decide) (fun c_30 => ?_) (fun c_30 => ?_)
      · refine V_iconst (v := 0) C dX1_goes_37 rfl ?_
        refine V_zret C rfl dX1_goes_38 rfl ?_ (by first | exact Nat.le_of_ble_eq_true rfl | omega | (dsimp only; omega)) (by first | exact Nat.le_of_ble_eq_true rfl | omega | (dsimp only; omega))
        refine ⟨congrArg (fun z => some (Value.int z)) (bI_f ?_), rfl⟩
        (try simp only [lg_cmp_lt, lg_cmp_gt, lg_cmp_ge, lg_cmp_le, lg_cmp_eq, bI_0, bI_n, Classical.not_not] at c_3 c_17 c_30)
        have h5 := hI.U.1
        have hU3 := hI.U.2
        have e5 := goes_U (U := nU σ) (b := b) (by omega)
        rw [← h5] at e5
        unfold mf_goes
        have n8 : nI k = 8 ↔ k = 8 := nI_eq (b := 8) (by omega) (by omega)
        have n9 : nI k = 9 ↔ k = 9 := nI_eq (b := 9) (by omega) (by omega)
        have n10 : nI k = 10 ↔ k = 10 := nI_eq (b := 10) (by omega) (by omega)
        have nl : nI k < 8 ↔ k < 8 := nI_ltI (b := 8) (by omega) (by omega)
        clear C hR
        grind
      · refine V_iconst (v := 1) C dX1_goes_33 rfl ?_
        refine V_goto (tgt := 38) C dX1_goes_34 (by decide) ?_
        refine V_zret C rfl dX1_goes_38 rfl ?_ (by first | exact Nat.le_of_ble_eq_true rfl | omega | (dsimp only; omega)) (by first | exact Nat.le_of_ble_eq_true rfl | omega | (dsimp only; omega))
        refine ⟨congrArg (fun z => some (Value.int z)) (bI_t ?_), rfl⟩
        (try simp only [lg_cmp_lt, lg_cmp_gt, lg_cmp_ge, lg_cmp_le, lg_cmp_eq, bI_0, bI_n, Classical.not_not] at c_3 c_17 c_30)
        have h5 := hI.U.1
        have hU3 := hI.U.2
        have e5 := goes_U (U := nU σ) (b := b) (by omega)
        rw [← h5] at e5
        unfold mf_goes
        have n8 : nI k = 8 ↔ k = 8 := nI_eq (b := 8) (by omega) (by omega)
        have n9 : nI k = 9 ↔ k = 9 := nI_eq (b := 9) (by omega) (by omega)
        have n10 : nI k = 10 ↔ k = 10 := nI_eq (b := 10) (by omega) (by omega)
        have nl : nI k < 8 ↔ k < 8 := nI_ltI (b := 8) (by omega) (by omega)
        clear C hR
        grind
  · refine V_iload_n C dX1_goes_6 rfl 1 rfl ?_
    refine V_bipush (v := 9) C dX1_goes_7 rfl ?_
    refine V_icmp_ne (tgt := 39) C dX1_goes_9 (by decide) (fun c_9 => ?_) (fun c_9 => ?_)
    · refine V_iload_n C dX1_goes_39 rfl 1 rfl ?_
      refine V_bipush (v := 10) C dX1_goes_40 rfl ?_
      refine V_icmp_ne (tgt := 61) C dX1_goes_42 (by decide) (fun c_42 => ?_) (fun c_42 => ?_)
      · refine V_iconst (v := 1) C dX1_goes_61 rfl ?_
        refine V_goto (tgt := 66) C dX1_goes_62 (by decide) ?_
        refine V_pc (pc1 := 66) rfl ?_
        refine V_zret C rfl dX1_goes_66 rfl ?_ (by first | exact Nat.le_of_ble_eq_true rfl | omega | (dsimp only; omega)) (by first | exact Nat.le_of_ble_eq_true rfl | omega | (dsimp only; omega))
        refine ⟨congrArg (fun z => some (Value.int z)) (bI_t ?_), rfl⟩
        (try simp only [lg_cmp_lt, lg_cmp_gt, lg_cmp_ge, lg_cmp_le, lg_cmp_eq, bI_0, bI_n, Classical.not_not] at c_3 c_9 c_42)
        have h5 := hI.U.1
        have hU3 := hI.U.2
        have e5 := goes_U (U := nU σ) (b := b) (by omega)
        rw [← h5] at e5
        unfold mf_goes
        have n8 : nI k = 8 ↔ k = 8 := nI_eq (b := 8) (by omega) (by omega)
        have n9 : nI k = 9 ↔ k = 9 := nI_eq (b := 9) (by omega) (by omega)
        have n10 : nI k = 10 ↔ k = 10 := nI_eq (b := 10) (by omega) (by omega)
        have nl : nI k < 8 ↔ k < 8 := nI_ltI (b := 8) (by omega) (by omega)
        clear C hR
        grind
      · refine V_lload_n C dX1_goes_45 rfl 2 rfl ?_
        refine V_ldc2 (v := -1) C (C.w q1206) dX1_goes_46 ?_
        refine V_pc (pc1 := 49) rfl ?_
        refine V_lcmp C dX1_goes_49 ?_
        refine V_if_lt (tgt := 65) C dX1_goes_50 (by decide) (fun c_50 => ?_) (fun c_50 => ?_)
        · refine V_iconst (v := 0) C dX1_goes_65 rfl ?_
          refine V_zret C rfl dX1_goes_66 rfl ?_ (by first | exact Nat.le_of_ble_eq_true rfl | omega | (dsimp only; omega)) (by first | exact Nat.le_of_ble_eq_true rfl | omega | (dsimp only; omega))
          refine ⟨congrArg (fun z => some (Value.int z)) (bI_f ?_), rfl⟩
          (try simp only [lg_cmp_lt, lg_cmp_gt, lg_cmp_ge, lg_cmp_le, lg_cmp_eq, bI_0, bI_n, Classical.not_not] at c_3 c_9 c_42 c_50)
          have h5 := hI.U.1
          have hU3 := hI.U.2
          have e5 := goes_U (U := nU σ) (b := b) (by omega)
          rw [← h5] at e5
          unfold mf_goes
          have n8 : nI k = 8 ↔ k = 8 := nI_eq (b := 8) (by omega) (by omega)
          have n9 : nI k = 9 ↔ k = 9 := nI_eq (b := 9) (by omega) (by omega)
          have n10 : nI k = 10 ↔ k = 10 := nI_eq (b := 10) (by omega) (by omega)
          have nl : nI k < 8 ↔ k < 8 := nI_ltI (b := 8) (by omega) (by omega)
          clear C hR
          grind
        · refine V_lload_n C dX1_goes_53 rfl 2 rfl ?_
          refine V_ldc2 (v := 40) C (C.w q1231) dX1_goes_54 ?_
          refine V_lcmp C dX1_goes_57 ?_
          refine V_if_gt (tgt := 65) C dX1_goes_58 (by decide) (fun c_58 => ?_) (fun c_58 => ?_)
          · refine V_iconst (v := 0) C dX1_goes_65 rfl ?_
            refine V_zret C rfl dX1_goes_66 rfl ?_ (by first | exact Nat.le_of_ble_eq_true rfl | omega | (dsimp only; omega)) (by first | exact Nat.le_of_ble_eq_true rfl | omega | (dsimp only; omega))
            refine ⟨congrArg (fun z => some (Value.int z)) (bI_f ?_), rfl⟩
            (try simp only [lg_cmp_lt, lg_cmp_gt, lg_cmp_ge, lg_cmp_le, lg_cmp_eq, bI_0, bI_n, Classical.not_not] at c_3 c_9 c_42 c_50 c_58)
            have h5 := hI.U.1
            have hU3 := hI.U.2
            have e5 := goes_U (U := nU σ) (b := b) (by omega)
            rw [← h5] at e5
            unfold mf_goes
            have n8 : nI k = 8 ↔ k = 8 := nI_eq (b := 8) (by omega) (by omega)
            have n9 : nI k = 9 ↔ k = 9 := nI_eq (b := 9) (by omega) (by omega)
            have n10 : nI k = 10 ↔ k = 10 := nI_eq (b := 10) (by omega) (by omega)
            have nl : nI k < 8 ↔ k < 8 := nI_ltI (b := 8) (by omega) (by omega)
            clear C hR
            grind
          · refine V_iconst (v := 1) C dX1_goes_61 rfl ?_
            refine V_goto (tgt := 66) C dX1_goes_62 (by decide) ?_
            refine V_zret C rfl dX1_goes_66 rfl ?_ (by first | exact Nat.le_of_ble_eq_true rfl | omega | (dsimp only; omega)) (by first | exact Nat.le_of_ble_eq_true rfl | omega | (dsimp only; omega))
            refine ⟨congrArg (fun z => some (Value.int z)) (bI_t ?_), rfl⟩
            (try simp only [lg_cmp_lt, lg_cmp_gt, lg_cmp_ge, lg_cmp_le, lg_cmp_eq, bI_0, bI_n, Classical.not_not] at c_3 c_9 c_42 c_50 c_58)
            have h5 := hI.U.1
            have hU3 := hI.U.2
            have e5 := goes_U (U := nU σ) (b := b) (by omega)
            rw [← h5] at e5
            unfold mf_goes
            have n8 : nI k = 8 ↔ k = 8 := nI_eq (b := 8) (by omega) (by omega)
            have n9 : nI k = 9 ↔ k = 9 := nI_eq (b := 9) (by omega) (by omega)
            have n10 : nI k = 10 ↔ k = 10 := nI_eq (b := 10) (by omega) (by omega)
            have nl : nI k < 8 ↔ k < 8 := nI_ltI (b := 8) (by omega) (by omega)
            clear C hR
            grind
    · refine V_lload_n C dX1_goes_12 rfl 2 rfl ?_
      refine V_ldc2 (v := -1) C (C.w q1206) dX1_goes_13 ?_
      refine V_lcmp C dX1_goes_16 ?_
      refine V_if_lt (tgt := 37) C dX1_goes_17 (by decide) (fun c_17_2 => ?_) (fun c_17_2 => ?_)
      · refine V_iconst (v := 0) C dX1_goes_37 rfl ?_
        refine V_pc (pc1 := 38) rfl ?_
        refine V_zret C rfl dX1_goes_38 rfl ?_ (by first | exact Nat.le_of_ble_eq_true rfl | omega | (dsimp only; omega)) (by first | exact Nat.le_of_ble_eq_true rfl | omega | (dsimp only; omega))
        refine ⟨congrArg (fun z => some (Value.int z)) (bI_f ?_), rfl⟩
        (try simp only [lg_cmp_lt, lg_cmp_gt, lg_cmp_ge, lg_cmp_le, lg_cmp_eq, bI_0, bI_n, Classical.not_not] at c_3 c_9 c_17_2)
        have h5 := hI.U.1
        have hU3 := hI.U.2
        have e5 := goes_U (U := nU σ) (b := b) (by omega)
        rw [← h5] at e5
        unfold mf_goes
        have n8 : nI k = 8 ↔ k = 8 := nI_eq (b := 8) (by omega) (by omega)
        have n9 : nI k = 9 ↔ k = 9 := nI_eq (b := 9) (by omega) (by omega)
        have n10 : nI k = 10 ↔ k = 10 := nI_eq (b := 10) (by omega) (by omega)
        have nl : nI k < 8 ↔ k < 8 := nI_ltI (b := 8) (by omega) (by omega)
        clear C hR
        grind
      · refine V_lload_n C dX1_goes_20 rfl 2 rfl ?_
        refine V_pc (pc1 := 21) rfl ?_
        refine V_aload_n C dX1_goes_21 rfl 0 rfl ?_
        refine V_get C f_X1_119_0 hN (v := .ref (qUl g)) rfl dX1_goes_22 ?_
        refine V_callV C (c_J2_size l hl G X N0 M (qUl g) (qUe g) (nU σ) mdU hUl) cs_X1_180_1 hUl (show CLS[1]? = some (RJ2, TJ2, 3) from rfl) rfl rfl ⟨Nat.le_of_ble_eq_true rfl, Nat.le_of_ble_eq_true rfl⟩ ⟨(by first | exact Nat.le_of_ble_eq_true rfl | omega | (dsimp only; omega)), (by first | exact Nat.le_of_ble_eq_true rfl | omega | (dsimp only; omega))⟩ (Nat.le_of_ble_eq_true rfl) dX1_goes_25 (fun _ _ _ h => px0 h) ?_
        rintro _ _ ⟨rfl, rfl⟩
        refine V_st (st' := [.int (nI (nU σ)), .long b]) rfl ?_
        refine V_i2l (v := (nI (nU σ)).toInt64) C dX1_goes_28 rfl ?_
        refine V_st (st' := [.long (lN (nU σ)), .long b]) (by rw [show ((nI (nU σ)).toInt64) = (lN (nU σ)) from (nI_l (by have := hI.U.2; omega))]) ?_
        refine V_lcmp C dX1_goes_29 ?_
        refine V_if_ge (tgt := 37) C dX1_goes_30 (by decide) (fun c_30_2 => ?_) (fun c_30_2 => ?_)
        · refine V_iconst (v := 0) C dX1_goes_37 rfl ?_
          refine V_zret C rfl dX1_goes_38 rfl ?_ (by first | exact Nat.le_of_ble_eq_true rfl | omega | (dsimp only; omega)) (by first | exact Nat.le_of_ble_eq_true rfl | omega | (dsimp only; omega))
          refine ⟨congrArg (fun z => some (Value.int z)) (bI_f ?_), rfl⟩
          (try simp only [lg_cmp_lt, lg_cmp_gt, lg_cmp_ge, lg_cmp_le, lg_cmp_eq, bI_0, bI_n, Classical.not_not] at c_3 c_9 c_17_2 c_30_2)
          have h5 := hI.U.1
          have hU3 := hI.U.2
          have e5 := goes_U (U := nU σ) (b := b) (by omega)
          rw [← h5] at e5
          unfold mf_goes
          have n8 : nI k = 8 ↔ k = 8 := nI_eq (b := 8) (by omega) (by omega)
          have n9 : nI k = 9 ↔ k = 9 := nI_eq (b := 9) (by omega) (by omega)
          have n10 : nI k = 10 ↔ k = 10 := nI_eq (b := 10) (by omega) (by omega)
          have nl : nI k < 8 ↔ k < 8 := nI_ltI (b := 8) (by omega) (by omega)
          clear C hR
          grind
        · refine V_iconst (v := 1) C dX1_goes_33 rfl ?_
          refine V_goto (tgt := 38) C dX1_goes_34 (by decide) ?_
          refine V_zret C rfl dX1_goes_38 rfl ?_ (by first | exact Nat.le_of_ble_eq_true rfl | omega | (dsimp only; omega)) (by first | exact Nat.le_of_ble_eq_true rfl | omega | (dsimp only; omega))
          refine ⟨congrArg (fun z => some (Value.int z)) (bI_t ?_), rfl⟩
          (try simp only [lg_cmp_lt, lg_cmp_gt, lg_cmp_ge, lg_cmp_le, lg_cmp_eq, bI_0, bI_n, Classical.not_not] at c_3 c_9 c_17_2 c_30_2)
          have h5 := hI.U.1
          have hU3 := hI.U.2
          have e5 := goes_U (U := nU σ) (b := b) (by omega)
          rw [← h5] at e5
          unfold mf_goes
          have n8 : nI k = 8 ↔ k = 8 := nI_eq (b := 8) (by omega) (by omega)
          have n9 : nI k = 9 ↔ k = 9 := nI_eq (b := 9) (by omega) (by omega)
          have n10 : nI k = 10 ↔ k = 10 := nI_eq (b := 10) (by omega) (by omega)
          have nl : nI k < 8 ↔ k < 8 := nI_ltI (b := 8) (by omega) (by omega)
          clear C hR
          grind
set_option maxHeartbeats 1000000 in
theorem c_X1_unitOf_n (l : Launch) (hl : l.stackTraces = false) (G : hp_G) (X : Nat → Nat) (N0 : Nat) (M : hp_h) (g : RG) (σ : MS) (z : Nat → Int32) (ca : Int32) (C9 : Nat) (hR : REL G (X 0) g σ z ca C9 M) (hI : MI σ) (b : Int64) (hb : b < 0) : HM l yX1_unitOf (ws_ yX1_unitOf cX1_unitOf 3 (some (.object "NativeSubset$Unit"))) 0 0 0 0 G X N0 [.ref (qN g), .long b] M (PV .null M) PX0 := by
  refine HM.of hl [(0, .ref (qN g)), (1, .long b)] (by decide +kernel) rfl (Nat.le_of_ble_eq_true rfl) ?_
  intro p e s m args below meth c C hname
  have hN := hR.N
  obtain ⟨mdU, hUl⟩ := hR.Ul
  obtain ⟨fU, hUs, hUf⟩ := hR.Uls
  refine V_lload_n C dX1_unitOf_0 rfl 1 rfl ?_
  refine V_lconst (v := 0) C dX1_unitOf_1 rfl ?_
  refine V_lcmp C dX1_unitOf_2 ?_
  refine V_if_ge (tgt := 10) C dX1_unitOf_3 (by decide) (fun c_3 => ?_) (fun c_3 => ?_)
  · simp only [lg_cmp_lt, lg_cmp_gt, lg_cmp_ge, lg_cmp_le, lg_cmp_eq] at c_3; exact absurd hb (Int64.not_lt.mpr c_3)
  · refine V_null C dX1_unitOf_6 ?_
    refine V_goto (tgt := 22) C dX1_unitOf_7 (by decide) ?_
    refine V_st (st' := [va_rf none]) rfl ?_
    refine V_aret C (by first | exact Or.inl ⟨_, rfl⟩ | exact Or.inr ⟨_, rfl⟩) dX1_unitOf_22 rfl ?_ (by first | exact Nat.le_of_ble_eq_true rfl | omega | (dsimp only; omega)) (by first | exact Nat.le_of_ble_eq_true rfl | omega | (dsimp only; omega))
    exact ⟨rfl, rfl⟩
set_option maxHeartbeats 1000000 in
theorem c_X1_unitOf_u (l : Launch) (hl : l.stackTraces = false) (G : hp_G) (X : Nat → Nat) (N0 : Nat) (M : hp_h) (g : RG) (σ : MS) (z : Nat → Int32) (ca : Int32) (C9 : Nat) (hR : REL G (X 0) g σ z ca C9 M) (hI : MI σ) (u : Nat) (hu : u < nU σ) : HM l yX1_unitOf (ws_ yX1_unitOf cX1_unitOf 3 (some (.object "NativeSubset$Unit"))) 3 64 0 0 G X N0 [.ref (qN g), .long (lN u)] M (PV (.ref (qU g u)) M) PX0 := by
  refine HM.of hl [(0, .ref (qN g)), (1, .long (lN u))] (by decide +kernel) rfl (Nat.le_of_ble_eq_true rfl) ?_
  intro p e s m args below meth c C hname
  have hN := hR.N
  obtain ⟨mdU, hUl⟩ := hR.Ul
  obtain ⟨fU, hUs, hUf⟩ := hR.Uls
  have hU3 := hI.U.2
  refine V_lload_n C dX1_unitOf_0 rfl 1 rfl ?_
  refine V_lconst (v := 0) C dX1_unitOf_1 rfl ?_
  refine V_lcmp C dX1_unitOf_2 ?_
  refine V_if_ge (tgt := 10) C dX1_unitOf_3 (by decide) (fun c_3 => ?_) (fun c_3 => ?_)
  · refine V_aload_n C dX1_unitOf_10 rfl 0 rfl ?_
    refine V_get C f_X1_119_0 hN (v := .ref (qUl g)) rfl dX1_unitOf_11 ?_
    refine V_lload_n C dX1_unitOf_14 rfl 1 rfl ?_
    refine V_l2i (v := (lN u).toInt32) C dX1_unitOf_15 rfl ?_
    refine V_st (st' := [.int (nI u), .ref (qUl g)]) (by rw [show ((lN u).toInt32) = (nI u) from (lN_i u)]) ?_
    refine V_callV C (c_J2_get l hl G X N0 M (qUl g) (qUe g) (nU σ) (gcp g 4 0) mdU fU hUl (hUs.2.2.1 (by have := hUs.2.2.2.1; omega)) (by have := hUs.2.2.2.2; omega) hUs.2.2.2.1 u (qU g u) hu (hUf u hu)) cs_X1_184_1 hUl (show CLS[1]? = some (RJ2, TJ2, 3) from rfl) rfl rfl ⟨Nat.le_of_ble_eq_true rfl, Nat.le_of_ble_eq_true rfl⟩ ⟨(by first | exact Nat.le_of_ble_eq_true rfl | omega | (dsimp only; omega)), (by first | exact Nat.le_of_ble_eq_true rfl | omega | (dsimp only; omega))⟩ (Nat.le_of_ble_eq_true rfl) dX1_unitOf_16 (fun _ _ _ h => px0 h) ?_
    rintro _ _ ⟨rfl, rfl⟩
    refine V_st (st' := [.ref (qU g u)]) rfl ?_
    obtain ⟨ciu, hcu, hun0⟩ := hR.unc hI hu
    refine V_castU C hcu q454 hun0 dX1_unitOf_19 ?_
    refine V_st (st' := [va_rf (some (qU g u))]) rfl ?_
    refine V_aret C (by first | exact Or.inl ⟨_, rfl⟩ | exact Or.inr ⟨_, rfl⟩) dX1_unitOf_22 rfl ?_ (by first | exact Nat.le_of_ble_eq_true rfl | omega | (dsimp only; omega)) (by first | exact Nat.le_of_ble_eq_true rfl | omega | (dsimp only; omega))
    exact ⟨rfl, rfl⟩
  · simp only [lg_cmp_lt, lg_cmp_gt, lg_cmp_ge, lg_cmp_le, lg_cmp_eq] at c_3; exact absurd (show (0 : Int64) ≤ lN u from (lN_le (a := 0) (by omega) (by omega)).mpr (Nat.zero_le u)) c_3
set_option maxHeartbeats 1000000 in
theorem c_X1_rowOrNull_n (l : Launch) (hl : l.stackTraces = false) (G : hp_G) (X : Nat → Nat) (N0 : Nat) (M : hp_h) (g : RG) (σ : MS) (z : Nat → Int32) (ca : Int32) (C9 : Nat) (hR : REL G (X 0) g σ z ca C9 M) (hI : MI σ) (r : Int32) (hr : ¬ (¬ r < 0 ∧ r < σ.1 1)) : HM l yX1_rowOrNull (ws_ yX1_rowOrNull cX1_rowOrNull 2 (some (.object "java/lang/Object"))) 2 41 0 0 G X N0 [.ref (qN g), .int r] M (PV .null M) PX0 := by
  refine HM.of hl [(0, .ref (qN g)), (1, .int r)] (by decide +kernel) rfl (Nat.le_of_ble_eq_true rfl) ?_
  intro p e s m args below meth c C hname
  have hN := hR.N
  obtain ⟨mdR, hRl⟩ := hR.Rl
  obtain ⟨fR, hRs, hRf⟩ := hR.Rls
  refine V_aload_n C dX1_rowOrNull_0 rfl 0 rfl ?_
  refine V_iload_n C dX1_rowOrNull_1 rfl 1 rfl ?_
  refine V_callV C (c_X1_isRow l hl G X N0 M g σ z ca C9 hR hI r) cs_X1_224_0 hN (show CLS[0]? = some (RX1, TX1, 17) from rfl) rfl rfl ⟨Nat.le_of_ble_eq_true rfl, Nat.le_of_ble_eq_true rfl⟩ ⟨(by first | exact Nat.le_of_ble_eq_true rfl | omega | (dsimp only; omega)), (by first | exact Nat.le_of_ble_eq_true rfl | omega | (dsimp only; omega))⟩ (Nat.le_of_ble_eq_true rfl) dX1_rowOrNull_2 (fun _ _ _ h => px0 h) ?_
  rintro _ _ ⟨rfl, rfl⟩
  refine V_st (st' := [.int (bI (¬ r < 0 ∧ r < σ.1 1))]) rfl ?_
  refine V_if_eq (tgt := 19) C dX1_rowOrNull_5 (by decide) (fun c_5 => ?_) (fun c_5 => ?_)
  · refine V_null C dX1_rowOrNull_19 ?_
    refine V_st (st' := [va_rf none]) rfl ?_
    refine V_aret C (by first | exact Or.inl ⟨_, rfl⟩ | exact Or.inr ⟨_, rfl⟩) dX1_rowOrNull_20 rfl ?_ (by first | exact Nat.le_of_ble_eq_true rfl | omega | (dsimp only; omega)) (by first | exact Nat.le_of_ble_eq_true rfl | omega | (dsimp only; omega))
    exact ⟨rfl, rfl⟩
  · exact absurd (bI_n.mp c_5) hr
set_option maxHeartbeats 1000000 in
theorem c_X1_rowOrNull_r (l : Launch) (hl : l.stackTraces = false) (G : hp_G) (X : Nat → Nat) (N0 : Nat) (M : hp_h) (g : RG) (σ : MS) (z : Nat → Int32) (ca : Int32) (C9 : Nat) (hR : REL G (X 0) g σ z ca C9 M) (hI : MI σ) (r : Nat) (hr : r < nR σ) : HM l yX1_rowOrNull (ws_ yX1_rowOrNull cX1_rowOrNull 2 (some (.object "java/lang/Object"))) 3 64 0 0 G X N0 [.ref (qN g), .int (nI r)] M (PV (.ref (qR g r)) M) PX0 := by
  refine HM.of hl [(0, .ref (qN g)), (1, .int (nI r))] (by decide +kernel) rfl (Nat.le_of_ble_eq_true rfl) ?_
  intro p e s m args below meth c C hname
  have hN := hR.N
  obtain ⟨mdR, hRl⟩ := hR.Rl
  obtain ⟨fR, hRs, hRf⟩ := hR.Rls
  refine V_aload_n C dX1_rowOrNull_0 rfl 0 rfl ?_
  refine V_iload_n C dX1_rowOrNull_1 rfl 1 rfl ?_
  refine V_callV C (c_X1_isRow l hl G X N0 M g σ z ca C9 hR hI (nI r)) cs_X1_224_0 hN (show CLS[0]? = some (RX1, TX1, 17) from rfl) rfl rfl ⟨Nat.le_of_ble_eq_true rfl, Nat.le_of_ble_eq_true rfl⟩ ⟨(by first | exact Nat.le_of_ble_eq_true rfl | omega | (dsimp only; omega)), (by first | exact Nat.le_of_ble_eq_true rfl | omega | (dsimp only; omega))⟩ (Nat.le_of_ble_eq_true rfl) dX1_rowOrNull_2 (fun _ _ _ h => px0 h) ?_
  rintro _ _ ⟨rfl, rfl⟩
  refine V_st (st' := [.int (bI (¬ (nI r) < 0 ∧ (nI r) < σ.1 1))]) rfl ?_
  refine V_if_eq (tgt := 19) C dX1_rowOrNull_5 (by decide) (fun c_5 => ?_) (fun c_5 => ?_)
  · exact absurd ((isRow_n hI.R.1 (by have := hI.R.2; omega)).mpr ⟨r, hr, rfl⟩) (bI_0.mp c_5)
  · refine V_aload_n C dX1_rowOrNull_8 rfl 0 rfl ?_
    refine V_get C f_X1_115_0 hN (v := .ref (qRl g)) rfl dX1_rowOrNull_9 ?_
    refine V_iload_n C dX1_rowOrNull_12 rfl 1 rfl ?_
    refine V_callV C (c_J2_get l hl G X N0 M (qRl g) (qRe g) (nR σ) (gcp g 2 0) mdR fR hRl (hRs.2.2.1 (by have := hRs.2.2.2.1; omega)) (by have := hRs.2.2.2.2; omega) hRs.2.2.2.1 r (qR g r) hr (hRf r hr)) cs_X1_184_1 hRl (show CLS[1]? = some (RJ2, TJ2, 3) from rfl) rfl rfl ⟨Nat.le_of_ble_eq_true rfl, Nat.le_of_ble_eq_true rfl⟩ ⟨(by first | exact Nat.le_of_ble_eq_true rfl | omega | (dsimp only; omega)), (by first | exact Nat.le_of_ble_eq_true rfl | omega | (dsimp only; omega))⟩ (Nat.le_of_ble_eq_true rfl) dX1_rowOrNull_13 (fun _ _ _ h => px0 h) ?_
    rintro _ _ ⟨rfl, rfl⟩
    refine V_st (st' := [.ref (qR g r)]) rfl ?_
    refine V_goto (tgt := 20) C dX1_rowOrNull_16 (by decide) ?_
    refine V_st (st' := [va_rf (some (qR g r))]) rfl ?_
    refine V_aret C (by first | exact Or.inl ⟨_, rfl⟩ | exact Or.inr ⟨_, rfl⟩) dX1_rowOrNull_20 rfl ?_ (by first | exact Nat.le_of_ble_eq_true rfl | omega | (dsimp only; omega)) (by first | exact Nat.le_of_ble_eq_true rfl | omega | (dsimp only; omega))
    exact ⟨rfl, rfl⟩
set_option maxHeartbeats 1000000 in
theorem c_X21_worth_5 (l : Launch) (hl : l.stackTraces = false) (G : hp_G) (X : Nat → Nat) (N0 : Nat) (M : hp_h) (a : Nat) (n y : Int32) (ha : M a = some (.inr (5, [.int n, .int y]))) : HM l yX21_worth (ws_ yX21_worth cX21_worth 1 (some .int)) 0 0 0 0 G X N0 [.ref a] M (PV (.int (y)) M) PX0 := by
  refine HM.of hl [(0, .ref a)] (by decide +kernel) rfl (Nat.le_of_ble_eq_true rfl) ?_
  intro p e s m args below meth c C hname
  refine V_aload_n C dX21_worth_0 rfl 0 rfl ?_
  refine V_get C f_X21_13_5 ha (v := .int y) rfl dX21_worth_1 ?_
  refine V_iret C dX21_worth_4 rfl ?_ (by first | exact Nat.le_of_ble_eq_true rfl | omega | (dsimp only; omega)) (by first | exact Nat.le_of_ble_eq_true rfl | omega | (dsimp only; omega))
  exact ⟨rfl, rfl⟩
set_option maxHeartbeats 1000000 in
theorem c_X21_worth_6 (l : Launch) (hl : l.stackTraces = false) (G : hp_G) (X : Nat → Nat) (N0 : Nat) (M : hp_h) (a : Nat) (n y : Int32) (ha : M a = some (.inr (6, [.int n, .int y]))) : HM l yX21_worth (ws_ yX21_worth cX21_worth 1 (some .int)) 0 0 0 0 G X N0 [.ref a] M (PV (.int (y)) M) PX0 := by
  refine HM.of hl [(0, .ref a)] (by decide +kernel) rfl (Nat.le_of_ble_eq_true rfl) ?_
  intro p e s m args below meth c C hname
  refine V_aload_n C dX21_worth_0 rfl 0 rfl ?_
  refine V_get C f_X21_13_6 ha (v := .int y) rfl dX21_worth_1 ?_
  refine V_iret C dX21_worth_4 rfl ?_ (by first | exact Nat.le_of_ble_eq_true rfl | omega | (dsimp only; omega)) (by first | exact Nat.le_of_ble_eq_true rfl | omega | (dsimp only; omega))
  exact ⟨rfl, rfl⟩
set_option maxHeartbeats 1000000 in
theorem c_X21_worth_7 (l : Launch) (hl : l.stackTraces = false) (G : hp_G) (X : Nat → Nat) (N0 : Nat) (M : hp_h) (a : Nat) (n y : Int32) (ha : M a = some (.inr (7, [.int n, .int y]))) : HM l yX21_worth (ws_ yX21_worth cX21_worth 1 (some .int)) 0 0 0 0 G X N0 [.ref a] M (PV (.int (y)) M) PX0 := by
  refine HM.of hl [(0, .ref a)] (by decide +kernel) rfl (Nat.le_of_ble_eq_true rfl) ?_
  intro p e s m args below meth c C hname
  refine V_aload_n C dX21_worth_0 rfl 0 rfl ?_
  refine V_get C f_X21_13_7 ha (v := .int y) rfl dX21_worth_1 ?_
  refine V_iret C dX21_worth_4 rfl ?_ (by first | exact Nat.le_of_ble_eq_true rfl | omega | (dsimp only; omega)) (by first | exact Nat.le_of_ble_eq_true rfl | omega | (dsimp only; omega))
  exact ⟨rfl, rfl⟩
set_option maxHeartbeats 1000000 in
theorem c_X22_worth_6 (l : Launch) (hl : l.stackTraces = false) (G : hp_G) (X : Nat → Nat) (N0 : Nat) (M : hp_h) (a : Nat) (n y : Int32) (ha : M a = some (.inr (6, [.int n, .int y]))) : HM l yX22_worth (ws_ yX22_worth cX22_worth 1 (some .int)) 1 20 0 0 G X N0 [.ref a] M (PV (.int (3 * y + 2)) M) PX0 := by
  refine HM.of hl [(0, .ref a)] (by decide +kernel) rfl (Nat.le_of_ble_eq_true rfl) ?_
  intro p e s m args below meth c C hname
  refine V_iconst (v := 3) C dX22_worth_0 rfl ?_
  refine V_aload_n C dX22_worth_1 rfl 0 rfl ?_
  refine V_callSU C (c_X21_worth_6 l hl G X N0 M a n y ha) cs_X22_7 ha (show CLS[6]? = some (RX22, TX22, 2) from rfl) rfl rfl ⟨Nat.le_of_ble_eq_true rfl, Nat.le_of_ble_eq_true rfl⟩ ⟨(by first | exact Nat.le_of_ble_eq_true rfl | omega | (dsimp only; omega)), (by first | exact Nat.le_of_ble_eq_true rfl | omega | (dsimp only; omega))⟩ (Nat.le_of_ble_eq_true rfl) dX22_worth_2 (fun _ _ _ h => px0 h) ?_
  rintro _ _ ⟨rfl, rfl⟩
  refine V_st (st' := [.int y, .int 3]) rfl ?_
  refine V_imul C dX22_worth_5 ?_
  refine V_iconst (v := 2) C dX22_worth_6 rfl ?_
  refine V_iadd C dX22_worth_7 ?_
  refine V_iret C dX22_worth_8 rfl ?_ (by first | exact Nat.le_of_ble_eq_true rfl | omega | (dsimp only; omega)) (by first | exact Nat.le_of_ble_eq_true rfl | omega | (dsimp only; omega))
  exact ⟨rfl, rfl⟩
set_option maxHeartbeats 1000000 in
theorem c_X22_worth_7 (l : Launch) (hl : l.stackTraces = false) (G : hp_G) (X : Nat → Nat) (N0 : Nat) (M : hp_h) (a : Nat) (n y : Int32) (ha : M a = some (.inr (7, [.int n, .int y]))) : HM l yX22_worth (ws_ yX22_worth cX22_worth 1 (some .int)) 1 20 0 0 G X N0 [.ref a] M (PV (.int (3 * y + 2)) M) PX0 := by
  refine HM.of hl [(0, .ref a)] (by decide +kernel) rfl (Nat.le_of_ble_eq_true rfl) ?_
  intro p e s m args below meth c C hname
  refine V_iconst (v := 3) C dX22_worth_0 rfl ?_
  refine V_aload_n C dX22_worth_1 rfl 0 rfl ?_
  refine V_callSU C (c_X21_worth_7 l hl G X N0 M a n y ha) cs_X22_7 ha (show CLS[7]? = some (RX23, TX23, 2) from rfl) rfl rfl ⟨Nat.le_of_ble_eq_true rfl, Nat.le_of_ble_eq_true rfl⟩ ⟨(by first | exact Nat.le_of_ble_eq_true rfl | omega | (dsimp only; omega)), (by first | exact Nat.le_of_ble_eq_true rfl | omega | (dsimp only; omega))⟩ (Nat.le_of_ble_eq_true rfl) dX22_worth_2 (fun _ _ _ h => px0 h) ?_
  rintro _ _ ⟨rfl, rfl⟩
  refine V_st (st' := [.int y, .int 3]) rfl ?_
  refine V_imul C dX22_worth_5 ?_
  refine V_iconst (v := 2) C dX22_worth_6 rfl ?_
  refine V_iadd C dX22_worth_7 ?_
  refine V_iret C dX22_worth_8 rfl ?_ (by first | exact Nat.le_of_ble_eq_true rfl | omega | (dsimp only; omega)) (by first | exact Nat.le_of_ble_eq_true rfl | omega | (dsimp only; omega))
  exact ⟨rfl, rfl⟩
set_option maxHeartbeats 1000000 in
theorem c_X23_worth_7 (l : Launch) (hl : l.stackTraces = false) (G : hp_G) (X : Nat → Nat) (N0 : Nat) (M : hp_h) (a : Nat) (n y : Int32) (ha : M a = some (.inr (7, [.int n, .int y]))) : HM l yX23_worth (ws_ yX23_worth cX23_worth 1 (some .int)) 2 40 0 0 G X N0 [.ref a] M (PV (.int (3 * y + 2 - 5)) M) PX0 := by
  refine HM.of hl [(0, .ref a)] (by decide +kernel) rfl (Nat.le_of_ble_eq_true rfl) ?_
  intro p e s m args below meth c C hname
  refine V_aload_n C dX23_worth_0 rfl 0 rfl ?_
  refine V_callSU C (c_X22_worth_7 l hl G X N0 M a n y ha) cs_X23_7 ha (show CLS[7]? = some (RX23, TX23, 2) from rfl) rfl rfl ⟨Nat.le_of_ble_eq_true rfl, Nat.le_of_ble_eq_true rfl⟩ ⟨(by first | exact Nat.le_of_ble_eq_true rfl | omega | (dsimp only; omega)), (by first | exact Nat.le_of_ble_eq_true rfl | omega | (dsimp only; omega))⟩ (Nat.le_of_ble_eq_true rfl) dX23_worth_1 (fun _ _ _ h => px0 h) ?_
  rintro _ _ ⟨rfl, rfl⟩
  refine V_st (st' := [.int (3 * y + 2)]) rfl ?_
  refine V_iconst (v := 5) C dX23_worth_4 rfl ?_
  refine V_isub C dX23_worth_5 ?_
  refine V_iret C dX23_worth_6 rfl ?_ (by first | exact Nat.le_of_ble_eq_true rfl | omega | (dsimp only; omega)) (by first | exact Nat.le_of_ble_eq_true rfl | omega | (dsimp only; omega))
  exact ⟨rfl, rfl⟩
set_option maxHeartbeats 1000000 in
theorem c_X21_cls_5 (l : Launch) (hl : l.stackTraces = false) (G : hp_G) (X : Nat → Nat) (N0 : Nat) (M : hp_h) (a : Nat) (n y : Int32) (ha : M a = some (.inr (5, [.int n, .int y]))) : HM l yX21_cls (ws_ yX21_cls cX21_cls 1 (some .int)) 0 0 0 0 G X N0 [.ref a] M (PV (.int (0)) M) PX0 := by
  refine HM.of hl [(0, .ref a)] (by decide +kernel) rfl (Nat.le_of_ble_eq_true rfl) ?_
  intro p e s m args below meth c C hname
  refine V_iconst (v := 0) C dX21_cls_0 rfl ?_
  refine V_iret C dX21_cls_1 rfl ?_ (by first | exact Nat.le_of_ble_eq_true rfl | omega | (dsimp only; omega)) (by first | exact Nat.le_of_ble_eq_true rfl | omega | (dsimp only; omega))
  exact ⟨rfl, rfl⟩
set_option maxHeartbeats 1000000 in
theorem c_X21_cls_6 (l : Launch) (hl : l.stackTraces = false) (G : hp_G) (X : Nat → Nat) (N0 : Nat) (M : hp_h) (a : Nat) (n y : Int32) (ha : M a = some (.inr (6, [.int n, .int y]))) : HM l yX21_cls (ws_ yX21_cls cX21_cls 1 (some .int)) 0 0 0 0 G X N0 [.ref a] M (PV (.int (0)) M) PX0 := by
  refine HM.of hl [(0, .ref a)] (by decide +kernel) rfl (Nat.le_of_ble_eq_true rfl) ?_
  intro p e s m args below meth c C hname
  refine V_iconst (v := 0) C dX21_cls_0 rfl ?_
  refine V_iret C dX21_cls_1 rfl ?_ (by first | exact Nat.le_of_ble_eq_true rfl | omega | (dsimp only; omega)) (by first | exact Nat.le_of_ble_eq_true rfl | omega | (dsimp only; omega))
  exact ⟨rfl, rfl⟩
set_option maxHeartbeats 1000000 in
theorem c_X21_cls_7 (l : Launch) (hl : l.stackTraces = false) (G : hp_G) (X : Nat → Nat) (N0 : Nat) (M : hp_h) (a : Nat) (n y : Int32) (ha : M a = some (.inr (7, [.int n, .int y]))) : HM l yX21_cls (ws_ yX21_cls cX21_cls 1 (some .int)) 0 0 0 0 G X N0 [.ref a] M (PV (.int (0)) M) PX0 := by
  refine HM.of hl [(0, .ref a)] (by decide +kernel) rfl (Nat.le_of_ble_eq_true rfl) ?_
  intro p e s m args below meth c C hname
  refine V_iconst (v := 0) C dX21_cls_0 rfl ?_
  refine V_iret C dX21_cls_1 rfl ?_ (by first | exact Nat.le_of_ble_eq_true rfl | omega | (dsimp only; omega)) (by first | exact Nat.le_of_ble_eq_true rfl | omega | (dsimp only; omega))
  exact ⟨rfl, rfl⟩
set_option maxHeartbeats 1000000 in
theorem c_X22_cls_6 (l : Launch) (hl : l.stackTraces = false) (G : hp_G) (X : Nat → Nat) (N0 : Nat) (M : hp_h) (a : Nat) (n y : Int32) (ha : M a = some (.inr (6, [.int n, .int y]))) : HM l yX22_cls (ws_ yX22_cls cX22_cls 1 (some .int)) 1 20 0 0 G X N0 [.ref a] M (PV (.int (1 + 0)) M) PX0 := by
  refine HM.of hl [(0, .ref a)] (by decide +kernel) rfl (Nat.le_of_ble_eq_true rfl) ?_
  intro p e s m args below meth c C hname
  refine V_iconst (v := 1) C dX22_cls_0 rfl ?_
  refine V_aload_n C dX22_cls_1 rfl 0 rfl ?_
  refine V_callSU C (c_X21_cls_6 l hl G X N0 M a n y ha) cs_X22_11 ha (show CLS[6]? = some (RX22, TX22, 2) from rfl) rfl rfl ⟨Nat.le_of_ble_eq_true rfl, Nat.le_of_ble_eq_true rfl⟩ ⟨(by first | exact Nat.le_of_ble_eq_true rfl | omega | (dsimp only; omega)), (by first | exact Nat.le_of_ble_eq_true rfl | omega | (dsimp only; omega))⟩ (Nat.le_of_ble_eq_true rfl) dX22_cls_2 (fun _ _ _ h => px0 h) ?_
  rintro _ _ ⟨rfl, rfl⟩
  refine V_st (st' := [.int 0, .int 1]) rfl ?_
  refine V_iadd C dX22_cls_5 ?_
  refine V_iret C dX22_cls_6 rfl ?_ (by first | exact Nat.le_of_ble_eq_true rfl | omega | (dsimp only; omega)) (by first | exact Nat.le_of_ble_eq_true rfl | omega | (dsimp only; omega))
  exact ⟨rfl, rfl⟩
set_option maxHeartbeats 1000000 in
theorem c_X22_cls_7 (l : Launch) (hl : l.stackTraces = false) (G : hp_G) (X : Nat → Nat) (N0 : Nat) (M : hp_h) (a : Nat) (n y : Int32) (ha : M a = some (.inr (7, [.int n, .int y]))) : HM l yX22_cls (ws_ yX22_cls cX22_cls 1 (some .int)) 1 20 0 0 G X N0 [.ref a] M (PV (.int (1 + 0)) M) PX0 := by
  refine HM.of hl [(0, .ref a)] (by decide +kernel) rfl (Nat.le_of_ble_eq_true rfl) ?_
  intro p e s m args below meth c C hname
  refine V_iconst (v := 1) C dX22_cls_0 rfl ?_
  refine V_aload_n C dX22_cls_1 rfl 0 rfl ?_
  refine V_callSU C (c_X21_cls_7 l hl G X N0 M a n y ha) cs_X22_11 ha (show CLS[7]? = some (RX23, TX23, 2) from rfl) rfl rfl ⟨Nat.le_of_ble_eq_true rfl, Nat.le_of_ble_eq_true rfl⟩ ⟨(by first | exact Nat.le_of_ble_eq_true rfl | omega | (dsimp only; omega)), (by first | exact Nat.le_of_ble_eq_true rfl | omega | (dsimp only; omega))⟩ (Nat.le_of_ble_eq_true rfl) dX22_cls_2 (fun _ _ _ h => px0 h) ?_
  rintro _ _ ⟨rfl, rfl⟩
  refine V_st (st' := [.int 0, .int 1]) rfl ?_
  refine V_iadd C dX22_cls_5 ?_
  refine V_iret C dX22_cls_6 rfl ?_ (by first | exact Nat.le_of_ble_eq_true rfl | omega | (dsimp only; omega)) (by first | exact Nat.le_of_ble_eq_true rfl | omega | (dsimp only; omega))
  exact ⟨rfl, rfl⟩
set_option maxHeartbeats 1000000 in
theorem c_X23_cls_7 (l : Launch) (hl : l.stackTraces = false) (G : hp_G) (X : Nat → Nat) (N0 : Nat) (M : hp_h) (a : Nat) (n y : Int32) (ha : M a = some (.inr (7, [.int n, .int y]))) : HM l yX23_cls (ws_ yX23_cls cX23_cls 1 (some .int)) 2 40 0 0 G X N0 [.ref a] M (PV (.int (1 + (1 + 0))) M) PX0 := by
  refine HM.of hl [(0, .ref a)] (by decide +kernel) rfl (Nat.le_of_ble_eq_true rfl) ?_
  intro p e s m args below meth c C hname
  refine V_iconst (v := 1) C dX23_cls_0 rfl ?_
  refine V_aload_n C dX23_cls_1 rfl 0 rfl ?_
  refine V_callSU C (c_X22_cls_7 l hl G X N0 M a n y ha) cs_X23_11 ha (show CLS[7]? = some (RX23, TX23, 2) from rfl) rfl rfl ⟨Nat.le_of_ble_eq_true rfl, Nat.le_of_ble_eq_true rfl⟩ ⟨(by first | exact Nat.le_of_ble_eq_true rfl | omega | (dsimp only; omega)), (by first | exact Nat.le_of_ble_eq_true rfl | omega | (dsimp only; omega))⟩ (Nat.le_of_ble_eq_true rfl) dX23_cls_2 (fun _ _ _ h => px0 h) ?_
  rintro _ _ ⟨rfl, rfl⟩
  refine V_st (st' := [.int (1 + 0), .int 1]) rfl ?_
  refine V_iadd C dX23_cls_5 ?_
  refine V_iret C dX23_cls_6 rfl ?_ (by first | exact Nat.le_of_ble_eq_true rfl | omega | (dsimp only; omega)) (by first | exact Nat.le_of_ble_eq_true rfl | omega | (dsimp only; omega))
  exact ⟨rfl, rfl⟩
set_option maxHeartbeats 1000000 in
theorem c_X21_least_5 (l : Launch) (hl : l.stackTraces = false) (G : hp_G) (X : Nat → Nat) (N0 : Nat) (M : hp_h) (a : Nat) (n y : Int32) (ha : M a = some (.inr (5, [.int n, .int y]))) : HM l yX21_least (ws_ yX21_least cX21_least 1 (some .int)) 0 0 0 0 G X N0 [.ref a] M (PV (.int (1)) M) PX0 := by
  refine HM.of hl [(0, .ref a)] (by decide +kernel) rfl (Nat.le_of_ble_eq_true rfl) ?_
  intro p e s m args below meth c C hname
  refine V_iconst (v := 1) C dX21_least_0 rfl ?_
  refine V_iret C dX21_least_1 rfl ?_ (by first | exact Nat.le_of_ble_eq_true rfl | omega | (dsimp only; omega)) (by first | exact Nat.le_of_ble_eq_true rfl | omega | (dsimp only; omega))
  exact ⟨rfl, rfl⟩
set_option maxHeartbeats 1000000 in
theorem c_X21_least_6 (l : Launch) (hl : l.stackTraces = false) (G : hp_G) (X : Nat → Nat) (N0 : Nat) (M : hp_h) (a : Nat) (n y : Int32) (ha : M a = some (.inr (6, [.int n, .int y]))) : HM l yX21_least (ws_ yX21_least cX21_least 1 (some .int)) 0 0 0 0 G X N0 [.ref a] M (PV (.int (1)) M) PX0 := by
  refine HM.of hl [(0, .ref a)] (by decide +kernel) rfl (Nat.le_of_ble_eq_true rfl) ?_
  intro p e s m args below meth c C hname
  refine V_iconst (v := 1) C dX21_least_0 rfl ?_
  refine V_iret C dX21_least_1 rfl ?_ (by first | exact Nat.le_of_ble_eq_true rfl | omega | (dsimp only; omega)) (by first | exact Nat.le_of_ble_eq_true rfl | omega | (dsimp only; omega))
  exact ⟨rfl, rfl⟩
set_option maxHeartbeats 1000000 in
theorem c_X21_least_7 (l : Launch) (hl : l.stackTraces = false) (G : hp_G) (X : Nat → Nat) (N0 : Nat) (M : hp_h) (a : Nat) (n y : Int32) (ha : M a = some (.inr (7, [.int n, .int y]))) : HM l yX21_least (ws_ yX21_least cX21_least 1 (some .int)) 0 0 0 0 G X N0 [.ref a] M (PV (.int (1)) M) PX0 := by
  refine HM.of hl [(0, .ref a)] (by decide +kernel) rfl (Nat.le_of_ble_eq_true rfl) ?_
  intro p e s m args below meth c C hname
  refine V_iconst (v := 1) C dX21_least_0 rfl ?_
  refine V_iret C dX21_least_1 rfl ?_ (by first | exact Nat.le_of_ble_eq_true rfl | omega | (dsimp only; omega)) (by first | exact Nat.le_of_ble_eq_true rfl | omega | (dsimp only; omega))
  exact ⟨rfl, rfl⟩
set_option maxHeartbeats 1000000 in
theorem c_X22_least_6 (l : Launch) (hl : l.stackTraces = false) (G : hp_G) (X : Nat → Nat) (N0 : Nat) (M : hp_h) (a : Nat) (n y : Int32) (ha : M a = some (.inr (6, [.int n, .int y]))) : HM l yX22_least (ws_ yX22_least cX22_least 1 (some .int)) 1 20 0 0 G X N0 [.ref a] M (PV (.int (1 + 1)) M) PX0 := by
  refine HM.of hl [(0, .ref a)] (by decide +kernel) rfl (Nat.le_of_ble_eq_true rfl) ?_
  intro p e s m args below meth c C hname
  refine V_iconst (v := 1) C dX22_least_0 rfl ?_
  refine V_aload_n C dX22_least_1 rfl 0 rfl ?_
  refine V_callSU C (c_X21_least_6 l hl G X N0 M a n y ha) cs_X22_14 ha (show CLS[6]? = some (RX22, TX22, 2) from rfl) rfl rfl ⟨Nat.le_of_ble_eq_true rfl, Nat.le_of_ble_eq_true rfl⟩ ⟨(by first | exact Nat.le_of_ble_eq_true rfl | omega | (dsimp only; omega)), (by first | exact Nat.le_of_ble_eq_true rfl | omega | (dsimp only; omega))⟩ (Nat.le_of_ble_eq_true rfl) dX22_least_2 (fun _ _ _ h => px0 h) ?_
  rintro _ _ ⟨rfl, rfl⟩
  refine V_st (st' := [.int 1, .int 1]) rfl ?_
  refine V_iadd C dX22_least_5 ?_
  refine V_iret C dX22_least_6 rfl ?_ (by first | exact Nat.le_of_ble_eq_true rfl | omega | (dsimp only; omega)) (by first | exact Nat.le_of_ble_eq_true rfl | omega | (dsimp only; omega))
  exact ⟨rfl, rfl⟩
set_option maxHeartbeats 1000000 in
theorem c_X22_least_7 (l : Launch) (hl : l.stackTraces = false) (G : hp_G) (X : Nat → Nat) (N0 : Nat) (M : hp_h) (a : Nat) (n y : Int32) (ha : M a = some (.inr (7, [.int n, .int y]))) : HM l yX22_least (ws_ yX22_least cX22_least 1 (some .int)) 1 20 0 0 G X N0 [.ref a] M (PV (.int (1 + 1)) M) PX0 := by
  refine HM.of hl [(0, .ref a)] (by decide +kernel) rfl (Nat.le_of_ble_eq_true rfl) ?_
  intro p e s m args below meth c C hname
  refine V_iconst (v := 1) C dX22_least_0 rfl ?_
  refine V_aload_n C dX22_least_1 rfl 0 rfl ?_
  refine V_callSU C (c_X21_least_7 l hl G X N0 M a n y ha) cs_X22_14 ha (show CLS[7]? = some (RX23, TX23, 2) from rfl) rfl rfl ⟨Nat.le_of_ble_eq_true rfl, Nat.le_of_ble_eq_true rfl⟩ ⟨(by first | exact Nat.le_of_ble_eq_true rfl | omega | (dsimp only; omega)), (by first | exact Nat.le_of_ble_eq_true rfl | omega | (dsimp only; omega))⟩ (Nat.le_of_ble_eq_true rfl) dX22_least_2 (fun _ _ _ h => px0 h) ?_
  rintro _ _ ⟨rfl, rfl⟩
  refine V_st (st' := [.int 1, .int 1]) rfl ?_
  refine V_iadd C dX22_least_5 ?_
  refine V_iret C dX22_least_6 rfl ?_ (by first | exact Nat.le_of_ble_eq_true rfl | omega | (dsimp only; omega)) (by first | exact Nat.le_of_ble_eq_true rfl | omega | (dsimp only; omega))
  exact ⟨rfl, rfl⟩
set_option maxHeartbeats 1000000 in
theorem c_X27_fee_5 (l : Launch) (hl : l.stackTraces = false) (G : hp_G) (X : Nat → Nat) (N0 : Nat) (M : hp_h) (a : Nat) (n y : Int32) (ha : M a = some (.inr (5, [.int n, .int y]))) : HM l yX27_fee (ws_ yX27_fee cX27_fee 1 (some .int)) 2 40 0 0 G X N0 [.ref a] M (PV (.int (1 * 1)) M) PX0 := by
  refine HM.of hl [(0, .ref a)] (by decide +kernel) rfl (Nat.le_of_ble_eq_true rfl) ?_
  intro p e s m args below meth c C hname
  refine V_aload_n C dX27_fee_0 rfl 0 rfl ?_
  refine V_callF C (c_X21_least_5 l hl G X N0 M a n y ha) cs_X27_1_5 ha (show CLS[5]? = some (RX21, TX21, 2) from rfl) rfl rfl ⟨Nat.le_of_ble_eq_true rfl, Nat.le_of_ble_eq_true rfl⟩ ⟨(by first | exact Nat.le_of_ble_eq_true rfl | omega | (dsimp only; omega)), (by first | exact Nat.le_of_ble_eq_true rfl | omega | (dsimp only; omega))⟩ (Nat.le_of_ble_eq_true rfl) dX27_fee_1 (fun _ _ _ h => px0 h) ?_
  rintro _ _ ⟨rfl, rfl⟩
  refine V_st (st' := [.int 1]) rfl ?_
  refine V_aload_n C dX27_fee_6 rfl 0 rfl ?_
  refine V_callF C (c_X21_least_5 l hl G X N0 M a n y ha) cs_X27_1_5 ha (show CLS[5]? = some (RX21, TX21, 2) from rfl) rfl rfl ⟨Nat.le_of_ble_eq_true rfl, Nat.le_of_ble_eq_true rfl⟩ ⟨(by first | exact Nat.le_of_ble_eq_true rfl | omega | (dsimp only; omega)), (by first | exact Nat.le_of_ble_eq_true rfl | omega | (dsimp only; omega))⟩ (Nat.le_of_ble_eq_true rfl) dX27_fee_7 (fun _ _ _ h => px0 h) ?_
  rintro _ _ ⟨rfl, rfl⟩
  refine V_st (st' := [.int 1, .int 1]) rfl ?_
  refine V_imul C dX27_fee_12 ?_
  refine V_iret C dX27_fee_13 rfl ?_ (by first | exact Nat.le_of_ble_eq_true rfl | omega | (dsimp only; omega)) (by first | exact Nat.le_of_ble_eq_true rfl | omega | (dsimp only; omega))
  exact ⟨rfl, rfl⟩
set_option maxHeartbeats 1000000 in
theorem c_X27_fee_6 (l : Launch) (hl : l.stackTraces = false) (G : hp_G) (X : Nat → Nat) (N0 : Nat) (M : hp_h) (a : Nat) (n y : Int32) (ha : M a = some (.inr (6, [.int n, .int y]))) : HM l yX27_fee (ws_ yX27_fee cX27_fee 1 (some .int)) 2 40 0 0 G X N0 [.ref a] M (PV (.int ((1 + 1) * (1 + 1))) M) PX0 := by
  refine HM.of hl [(0, .ref a)] (by decide +kernel) rfl (Nat.le_of_ble_eq_true rfl) ?_
  intro p e s m args below meth c C hname
  refine V_aload_n C dX27_fee_0 rfl 0 rfl ?_
  refine V_callF C (c_X22_least_6 l hl G X N0 M a n y ha) cs_X27_1_6 ha (show CLS[6]? = some (RX22, TX22, 2) from rfl) rfl rfl ⟨Nat.le_of_ble_eq_true rfl, Nat.le_of_ble_eq_true rfl⟩ ⟨(by first | exact Nat.le_of_ble_eq_true rfl | omega | (dsimp only; omega)), (by first | exact Nat.le_of_ble_eq_true rfl | omega | (dsimp only; omega))⟩ (Nat.le_of_ble_eq_true rfl) dX27_fee_1 (fun _ _ _ h => px0 h) ?_
  rintro _ _ ⟨rfl, rfl⟩
  refine V_st (st' := [.int (1 + 1)]) rfl ?_
  refine V_aload_n C dX27_fee_6 rfl 0 rfl ?_
  refine V_callF C (c_X22_least_6 l hl G X N0 M a n y ha) cs_X27_1_6 ha (show CLS[6]? = some (RX22, TX22, 2) from rfl) rfl rfl ⟨Nat.le_of_ble_eq_true rfl, Nat.le_of_ble_eq_true rfl⟩ ⟨(by first | exact Nat.le_of_ble_eq_true rfl | omega | (dsimp only; omega)), (by first | exact Nat.le_of_ble_eq_true rfl | omega | (dsimp only; omega))⟩ (Nat.le_of_ble_eq_true rfl) dX27_fee_7 (fun _ _ _ h => px0 h) ?_
  rintro _ _ ⟨rfl, rfl⟩
  refine V_st (st' := [.int (1 + 1), .int (1 + 1)]) rfl ?_
  refine V_imul C dX27_fee_12 ?_
  refine V_iret C dX27_fee_13 rfl ?_ (by first | exact Nat.le_of_ble_eq_true rfl | omega | (dsimp only; omega)) (by first | exact Nat.le_of_ble_eq_true rfl | omega | (dsimp only; omega))
  exact ⟨rfl, rfl⟩
set_option maxHeartbeats 1000000 in
theorem c_X27_fee_7 (l : Launch) (hl : l.stackTraces = false) (G : hp_G) (X : Nat → Nat) (N0 : Nat) (M : hp_h) (a : Nat) (n y : Int32) (ha : M a = some (.inr (7, [.int n, .int y]))) : HM l yX27_fee (ws_ yX27_fee cX27_fee 1 (some .int)) 2 40 0 0 G X N0 [.ref a] M (PV (.int ((1 + 1) * (1 + 1))) M) PX0 := by
  refine HM.of hl [(0, .ref a)] (by decide +kernel) rfl (Nat.le_of_ble_eq_true rfl) ?_
  intro p e s m args below meth c C hname
  refine V_aload_n C dX27_fee_0 rfl 0 rfl ?_
  refine V_callF C (c_X22_least_7 l hl G X N0 M a n y ha) cs_X27_1_7 ha (show CLS[7]? = some (RX23, TX23, 2) from rfl) rfl rfl ⟨Nat.le_of_ble_eq_true rfl, Nat.le_of_ble_eq_true rfl⟩ ⟨(by first | exact Nat.le_of_ble_eq_true rfl | omega | (dsimp only; omega)), (by first | exact Nat.le_of_ble_eq_true rfl | omega | (dsimp only; omega))⟩ (Nat.le_of_ble_eq_true rfl) dX27_fee_1 (fun _ _ _ h => px0 h) ?_
  rintro _ _ ⟨rfl, rfl⟩
  refine V_st (st' := [.int (1 + 1)]) rfl ?_
  refine V_aload_n C dX27_fee_6 rfl 0 rfl ?_
  refine V_callF C (c_X22_least_7 l hl G X N0 M a n y ha) cs_X27_1_7 ha (show CLS[7]? = some (RX23, TX23, 2) from rfl) rfl rfl ⟨Nat.le_of_ble_eq_true rfl, Nat.le_of_ble_eq_true rfl⟩ ⟨(by first | exact Nat.le_of_ble_eq_true rfl | omega | (dsimp only; omega)), (by first | exact Nat.le_of_ble_eq_true rfl | omega | (dsimp only; omega))⟩ (Nat.le_of_ble_eq_true rfl) dX27_fee_7 (fun _ _ _ h => px0 h) ?_
  rintro _ _ ⟨rfl, rfl⟩
  refine V_st (st' := [.int (1 + 1), .int (1 + 1)]) rfl ?_
  refine V_imul C dX27_fee_12 ?_
  refine V_iret C dX27_fee_13 rfl ?_ (by first | exact Nat.le_of_ble_eq_true rfl | omega | (dsimp only; omega)) (by first | exact Nat.le_of_ble_eq_true rfl | omega | (dsimp only; omega))
  exact ⟨rfl, rfl⟩
theorem worth_in {σ : MS} (hI : MI σ) {u : Nat} (hu : u < nU σ) {w : Int32} (h1 : ¬ w < 0) (h2 : w ≤ 2) : (¬ nI u < 0 ∧ nI u < σ.1 5) ∧ 0 ≤ w.toInt64 ∧ w.toInt64 ≤ 2 := by
  refine ⟨⟨nI_pos (by have := hI.U.2; omega), by rw [hI.U.1]; exact nI_lt hu (by have := hI.U.2; omega)⟩, ?_, ?_⟩
  · rw [Int64.le_iff_toInt_le, Int32.toInt_toInt64]
    have := Int32.le_iff_toInt_le.mp (Int32.not_lt.mp h1)
    exact this
  · rw [Int64.le_iff_toInt_le, Int32.toInt_toInt64]
    have := Int32.le_iff_toInt_le.mp h2
    exact this
theorem worth_g (y : Int32) : 3 * y + 2 - 5 = 3 * y - 3 := by
  rw [Int32.sub_eq_add_neg, Int32.add_assoc, Int32.sub_eq_add_neg]
  rfl
set_option maxHeartbeats 1000000 in
theorem c_X1_worth (l : Launch) (hl : l.stackTraces = false) (G : hp_G) (X : Nat → Nat) (N0 : Nat) (M : hp_h) (g : RG) (σ : MS) (z : Nat → Int32) (ca : Int32) (C9 : Nat) (hR : REL G (X 0) g σ z ca C9 M) (hI : MI σ) (r w : Int32) : HM l yX1_worth (ws_ yX1_worth cX1_worth 5 (some .long)) 3 64 0 0 G X N0 [.ref (qN g), .int r, .int w] M (PV (.long (mf_worthW r w σ)) M) PX0 := by
  refine HM.of hl [(0, .ref (qN g)), (1, .int r), (2, .int w)] (by decide +kernel) rfl (Nat.le_of_ble_eq_true rfl) ?_
  intro p e s m args below meth c C hname
  have hN := hR.N
  obtain ⟨mdU, hUl⟩ := hR.Ul
  obtain ⟨fU, hUs, hUf⟩ := hR.Uls
  refine V_iload_n C dX1_worth_0 rfl 1 rfl ?_
  refine V_if_lt (tgt := 24) C dX1_worth_1 (by decide) (fun c_1 => ?_) (fun c_1 => ?_)
  · refine V_ldc2 (v := -9223372036854775808) C (C.w q622) dX1_worth_24 ?_
    refine V_lret C dX1_worth_27 rfl ?_ (by first | exact Nat.le_of_ble_eq_true rfl | omega | (dsimp only; omega)) (by first | exact Nat.le_of_ble_eq_true rfl | omega | (dsimp only; omega))
    refine ⟨congrArg (fun z => some (Value.long z)) ?_, rfl⟩
    (try simp only [lg_cmp_lt, lg_cmp_gt, lg_cmp_ge, lg_cmp_le, lg_cmp_eq, bI_0, bI_n, Classical.not_not] at c_1)
    unfold mf_worthW
    rw [if_neg]
    clear hR
    have h5 := hI.U.1
    rintro ⟨⟨h1, h2⟩, h3, h4⟩
    rw [h5] at h2
    have h6 := Int64.le_iff_toInt_le.mp h3
    have h7 := Int64.le_iff_toInt_le.mp h4
    rw [Int32.toInt_toInt64] at h6 h7
    simp only [Int32.not_le, Int32.not_lt, Int32.lt_iff_toInt_lt, Int32.le_iff_toInt_le] at *
    have e2 : (2 : Int32).toInt = 2 := rfl
    have e0 : (0 : Int32).toInt = 0 := rfl
    have e3 : (2 : Int64).toInt = 2 := rfl
    have e4 : (0 : Int64).toInt = 0 := rfl
    omega
  · refine V_iload_n C dX1_worth_4 rfl 1 rfl ?_
    refine V_aload_n C dX1_worth_5 rfl 0 rfl ?_
    refine V_get C f_X1_119_0 hN (v := .ref (qUl g)) rfl dX1_worth_6 ?_
    refine V_callV C (c_J2_size l hl G X N0 M (qUl g) (qUe g) (nU σ) mdU hUl) cs_X1_180_1 hUl (show CLS[1]? = some (RJ2, TJ2, 3) from rfl) rfl rfl ⟨Nat.le_of_ble_eq_true rfl, Nat.le_of_ble_eq_true rfl⟩ ⟨(by first | exact Nat.le_of_ble_eq_true rfl | omega | (dsimp only; omega)), (by first | exact Nat.le_of_ble_eq_true rfl | omega | (dsimp only; omega))⟩ (Nat.le_of_ble_eq_true rfl) dX1_worth_9 (fun _ _ _ h => px0 h) ?_
    rintro _ _ ⟨rfl, rfl⟩
    refine V_st (st' := [.int (nI (nU σ)), .int r]) rfl ?_
    refine V_icmp_ge (tgt := 24) C dX1_worth_12 (by decide) (fun c_12 => ?_) (fun c_12 => ?_)
    · refine V_ldc2 (v := -9223372036854775808) C (C.w q622) dX1_worth_24 ?_
      refine V_lret C dX1_worth_27 rfl ?_ (by first | exact Nat.le_of_ble_eq_true rfl | omega | (dsimp only; omega)) (by first | exact Nat.le_of_ble_eq_true rfl | omega | (dsimp only; omega))
      refine ⟨congrArg (fun z => some (Value.long z)) ?_, rfl⟩
      (try simp only [lg_cmp_lt, lg_cmp_gt, lg_cmp_ge, lg_cmp_le, lg_cmp_eq, bI_0, bI_n, Classical.not_not] at c_1 c_12)
      unfold mf_worthW
      rw [if_neg]
      clear hR
      have h5 := hI.U.1
      rintro ⟨⟨h1, h2⟩, h3, h4⟩
      rw [h5] at h2
      have h6 := Int64.le_iff_toInt_le.mp h3
      have h7 := Int64.le_iff_toInt_le.mp h4
      rw [Int32.toInt_toInt64] at h6 h7
      simp only [Int32.not_le, Int32.not_lt, Int32.lt_iff_toInt_lt, Int32.le_iff_toInt_le] at *
      have e2 : (2 : Int32).toInt = 2 := rfl
      have e0 : (0 : Int32).toInt = 0 := rfl
      have e3 : (2 : Int64).toInt = 2 := rfl
      have e4 : (0 : Int64).toInt = 0 := rfl
      omega
    · refine V_iload_n C dX1_worth_15 rfl 2 rfl ?_
      refine V_if_lt (tgt := 24) C dX1_worth_16 (by decide) (fun c_16 => ?_) (fun c_16 => ?_)
      · refine V_ldc2 (v := -9223372036854775808) C (C.w q622) dX1_worth_24 ?_
        refine V_lret C dX1_worth_27 rfl ?_ (by first | exact Nat.le_of_ble_eq_true rfl | omega | (dsimp only; omega)) (by first | exact Nat.le_of_ble_eq_true rfl | omega | (dsimp only; omega))
        refine ⟨congrArg (fun z => some (Value.long z)) ?_, rfl⟩
        (try simp only [lg_cmp_lt, lg_cmp_gt, lg_cmp_ge, lg_cmp_le, lg_cmp_eq, bI_0, bI_n, Classical.not_not] at c_1 c_12 c_16)
        unfold mf_worthW
        rw [if_neg]
        clear hR
        have h5 := hI.U.1
        rintro ⟨⟨h1, h2⟩, h3, h4⟩
        rw [h5] at h2
        have h6 := Int64.le_iff_toInt_le.mp h3
        have h7 := Int64.le_iff_toInt_le.mp h4
        rw [Int32.toInt_toInt64] at h6 h7
        simp only [Int32.not_le, Int32.not_lt, Int32.lt_iff_toInt_lt, Int32.le_iff_toInt_le] at *
        have e2 : (2 : Int32).toInt = 2 := rfl
        have e0 : (0 : Int32).toInt = 0 := rfl
        have e3 : (2 : Int64).toInt = 2 := rfl
        have e4 : (0 : Int64).toInt = 0 := rfl
        omega
      · refine V_iload_n C dX1_worth_19 rfl 2 rfl ?_
        refine V_iconst (v := 2) C dX1_worth_20 rfl ?_
        refine V_pc (pc1 := 21) rfl ?_
        refine V_icmp_le (tgt := 28) C dX1_worth_21 (by decide) (fun c_21 => ?_) (fun c_21 => ?_)
        · obtain ⟨u, hu, rfl⟩ : ∃ u : Nat, u < nU σ ∧ r = nI u := (isRow_n (σ := sz σ 1 (nI (nU σ))) (R := nU σ) rfl (by have := hI.U.2; omega)).mp ⟨c_1, Int32.not_le.mp c_12⟩
          refine V_aload_n C dX1_worth_28 rfl 0 rfl ?_
          refine V_get C f_X1_119_0 hN (v := .ref (qUl g)) rfl dX1_worth_29 ?_
          refine V_iload_n C dX1_worth_32 rfl 1 rfl ?_
          refine V_callV C (c_J2_get l hl G X N0 M (qUl g) (qUe g) (nU σ) (gcp g 4 0) mdU fU hUl (hUs.2.2.1 (by have := hUs.2.2.2.1; omega)) (by have := hUs.2.2.2.2; omega) hUs.2.2.2.1 u (qU g u) hu (hUf u hu)) cs_X1_184_1 hUl (show CLS[1]? = some (RJ2, TJ2, 3) from rfl) rfl rfl ⟨Nat.le_of_ble_eq_true rfl, Nat.le_of_ble_eq_true rfl⟩ ⟨(by first | exact Nat.le_of_ble_eq_true rfl | omega | (dsimp only; omega)), (by first | exact Nat.le_of_ble_eq_true rfl | omega | (dsimp only; omega))⟩ (Nat.le_of_ble_eq_true rfl) dX1_worth_33 (fun _ _ _ h => px0 h) ?_
          rintro _ _ ⟨rfl, rfl⟩
          refine V_st (st' := [.ref (qU g u)]) rfl ?_
          obtain ⟨ciu, hcu, hun0⟩ := hR.unc hI hu
          refine V_castU C hcu q454 hun0 dX1_worth_36 ?_
          refine V_astore_n C dX1_worth_39 rfl (Nat.le_of_ble_eq_true rfl) [(0, .ref (qN g)), (1, .int (nI u)), (2, .int w), (3, .ref (qU g u))] [1, 2, 3, 0] rfl ?_
          refine V_aload_n C dX1_worth_40 rfl 3 rfl ?_
          refine V_astore C dX1_worth_41 (Nat.le_of_ble_eq_true rfl) [(0, .ref (qN g)), (1, .int (nI u)), (2, .int w), (3, .ref (qU g u)), (4, .ref (qU g u))] [1, 2, 3, 4, 0] rfl ?_
          obtain ⟨hc2, hcn⟩ := hI.cN hu
          have hun := hR.un hu
          obtain hc9 | hc9 | hc9 : (σ.2.1 6 u).toNatClampNeg = 0 ∨ (σ.2.1 6 u).toNatClampNeg = 1 ∨ (σ.2.1 6 u).toNatClampNeg = 2 := by omega
          · rw [hc9] at hun hcn
            refine V_iload_n C dX1_worth_43 rfl 2 rfl ?_
            refine V_if_ne (tgt := 55) C dX1_worth_44 (by decide) (fun c_44 => ?_) (fun c_44 => ?_)
            · refine V_iload_n C dX1_worth_55 rfl 2 rfl ?_
              refine V_iconst (v := 1) C dX1_worth_56 rfl ?_
              refine V_pc (pc1 := 57) rfl ?_
              refine V_icmp_ne (tgt := 71) C dX1_worth_57 (by decide) (fun c_57 => ?_) (fun c_57 => ?_)
              · refine V_aload_n C dX1_worth_71 rfl 3 rfl ?_
                refine V_callV C (c_X21_cls_5 l hl G X N0 M (qU g u) (nI u) (σ.2.1 7 u) hun) cs_X1_267_5 hun (show CLS[5]? = some (RX21, TX21, 2) from rfl) rfl rfl ⟨Nat.le_of_ble_eq_true rfl, Nat.le_of_ble_eq_true rfl⟩ ⟨(by first | exact Nat.le_of_ble_eq_true rfl | omega | (dsimp only; omega)), (by first | exact Nat.le_of_ble_eq_true rfl | omega | (dsimp only; omega))⟩ (Nat.le_of_ble_eq_true rfl) dX1_worth_72 (fun _ _ _ h => px0 h) ?_
                rintro _ _ ⟨rfl, rfl⟩
                refine V_st (st' := [.int 0]) rfl ?_
                refine V_i2l (v := (0 : Int32).toInt64) C dX1_worth_75 rfl ?_
                refine V_lret C dX1_worth_76 rfl ?_ (by first | exact Nat.le_of_ble_eq_true rfl | omega | (dsimp only; omega)) (by first | exact Nat.le_of_ble_eq_true rfl | omega | (dsimp only; omega))
                refine ⟨congrArg (fun z => some (Value.long z)) ?_, rfl⟩
                unfold mf_worthW
                have hw : (¬ nI u < 0 ∧ nI u < σ.1 5) ∧ 0 ≤ w.toInt64 ∧ w.toInt64 ≤ 2 := worth_in hI hu c_16 c_21
                rw [if_pos hw, nI_clamp (by have := hI.U.2; omega)]
                unfold mf_worth mf_fee
                rw [hcn]
                rw [if_neg c_44, if_neg c_57]
                rfl
              · refine V_aload C dX1_worth_60 4 rfl ?_
                refine V_callD C (c_X27_fee_5 l hl G X N0 M (qU g u) (nI u) (σ.2.1 7 u) hun) ⟨lw_meth q644, q637, q642, q1829, List.mem_of_getElem? (i := 0) rfl, mh_X27_fee⟩ hun (show CLS[5]? = some (RX21, TX21, 2) from rfl) rfl rfl ⟨Nat.le_of_ble_eq_true rfl, Nat.le_of_ble_eq_true rfl⟩ ⟨by first | exact Nat.le_of_ble_eq_true rfl | omega | (dsimp only; omega), by first | exact Nat.le_of_ble_eq_true rfl | omega | (dsimp only; omega)⟩ (Nat.le_of_ble_eq_true rfl) dX1_worth_62 (fun _ _ _ h => px0 h) ?_
                rintro _ _ ⟨rfl, rfl⟩
                refine V_st (st' := [.int (1 * 1)]) rfl ?_
                refine V_i2l (v := (1 * 1).toInt64) C dX1_worth_67 rfl ?_
                refine V_goto (tgt := 76) C dX1_worth_68 (by decide) ?_
                refine V_lret C dX1_worth_76 rfl ?_ (by first | exact Nat.le_of_ble_eq_true rfl | omega | (dsimp only; omega)) (by first | exact Nat.le_of_ble_eq_true rfl | omega | (dsimp only; omega))
                refine ⟨congrArg (fun z => some (Value.long z)) ?_, rfl⟩
                unfold mf_worthW
                have hw : (¬ nI u < 0 ∧ nI u < σ.1 5) ∧ 0 ≤ w.toInt64 ∧ w.toInt64 ≤ 2 := worth_in hI hu c_16 c_21
                rw [if_pos hw, nI_clamp (by have := hI.U.2; omega)]
                unfold mf_worth mf_fee
                rw [hcn]
                rw [if_neg c_44, if_pos c_57]
                rw [if_pos (show nI 0 = 0 from rfl)]; rfl
            · refine V_aload_n C dX1_worth_47 rfl 3 rfl ?_
              refine V_callV C (c_X21_worth_5 l hl G X N0 M (qU g u) (nI u) (σ.2.1 7 u) hun) cs_X1_259_5 hun (show CLS[5]? = some (RX21, TX21, 2) from rfl) rfl rfl ⟨Nat.le_of_ble_eq_true rfl, Nat.le_of_ble_eq_true rfl⟩ ⟨(by first | exact Nat.le_of_ble_eq_true rfl | omega | (dsimp only; omega)), (by first | exact Nat.le_of_ble_eq_true rfl | omega | (dsimp only; omega))⟩ (Nat.le_of_ble_eq_true rfl) dX1_worth_48 (fun _ _ _ h => px0 h) ?_
              rintro _ _ ⟨rfl, rfl⟩
              refine V_st (st' := [.int (σ.2.1 7 u)]) rfl ?_
              refine V_pc (pc1 := 51) rfl ?_
              refine V_i2l (v := (σ.2.1 7 u).toInt64) C dX1_worth_51 rfl ?_
              refine V_goto (tgt := 76) C dX1_worth_52 (by decide) ?_
              refine V_lret C dX1_worth_76 rfl ?_ (by first | exact Nat.le_of_ble_eq_true rfl | omega | (dsimp only; omega)) (by first | exact Nat.le_of_ble_eq_true rfl | omega | (dsimp only; omega))
              refine ⟨congrArg (fun z => some (Value.long z)) ?_, rfl⟩
              unfold mf_worthW
              have hw : (¬ nI u < 0 ∧ nI u < σ.1 5) ∧ 0 ≤ w.toInt64 ∧ w.toInt64 ≤ 2 := worth_in hI hu c_16 c_21
              rw [if_pos hw, nI_clamp (by have := hI.U.2; omega)]
              unfold mf_worth mf_fee
              rw [hcn]
              rw [if_pos c_44]
              rw [if_pos (show nI 0 = 0 from rfl)]
          · rw [hc9] at hun hcn
            refine V_iload_n C dX1_worth_43 rfl 2 rfl ?_
            refine V_if_ne (tgt := 55) C dX1_worth_44 (by decide) (fun c_44_2 => ?_) (fun c_44_2 => ?_)
            · refine V_iload_n C dX1_worth_55 rfl 2 rfl ?_
              refine V_iconst (v := 1) C dX1_worth_56 rfl ?_
              refine V_pc (pc1 := 57) rfl ?_
              refine V_icmp_ne (tgt := 71) C dX1_worth_57 (by decide) (fun c_57_2 => ?_) (fun c_57_2 => ?_)
              · refine V_aload_n C dX1_worth_71 rfl 3 rfl ?_
                refine V_callO C (c_X22_cls_6 l hl G X N0 M (qU g u) (nI u) (σ.2.1 7 u) hun) cs_X1_267_6 hun (show CLS[6]? = some (RX22, TX22, 2) from rfl) rfl rfl ⟨Nat.le_of_ble_eq_true rfl, Nat.le_of_ble_eq_true rfl⟩ ⟨(by first | exact Nat.le_of_ble_eq_true rfl | omega | (dsimp only; omega)), (by first | exact Nat.le_of_ble_eq_true rfl | omega | (dsimp only; omega))⟩ (Nat.le_of_ble_eq_true rfl) dX1_worth_72 (fun _ _ _ h => px0 h) ?_
                rintro _ _ ⟨rfl, rfl⟩
                refine V_st (st' := [.int (1 + 0)]) rfl ?_
                refine V_i2l (v := (1 + 0).toInt64) C dX1_worth_75 rfl ?_
                refine V_lret C dX1_worth_76 rfl ?_ (by first | exact Nat.le_of_ble_eq_true rfl | omega | (dsimp only; omega)) (by first | exact Nat.le_of_ble_eq_true rfl | omega | (dsimp only; omega))
                refine ⟨congrArg (fun z => some (Value.long z)) ?_, rfl⟩
                unfold mf_worthW
                have hw : (¬ nI u < 0 ∧ nI u < σ.1 5) ∧ 0 ≤ w.toInt64 ∧ w.toInt64 ≤ 2 := worth_in hI hu c_16 c_21
                rw [if_pos hw, nI_clamp (by have := hI.U.2; omega)]
                unfold mf_worth mf_fee
                rw [hcn]
                rw [if_neg c_44_2, if_neg c_57_2]
                rfl
              · refine V_aload C dX1_worth_60 4 rfl ?_
                refine V_callD C (c_X27_fee_6 l hl G X N0 M (qU g u) (nI u) (σ.2.1 7 u) hun) ⟨lw_meth q644, q637, q642, q1829, List.mem_of_getElem? (i := 1) rfl, mh_X27_fee⟩ hun (show CLS[6]? = some (RX22, TX22, 2) from rfl) rfl rfl ⟨Nat.le_of_ble_eq_true rfl, Nat.le_of_ble_eq_true rfl⟩ ⟨by first | exact Nat.le_of_ble_eq_true rfl | omega | (dsimp only; omega), by first | exact Nat.le_of_ble_eq_true rfl | omega | (dsimp only; omega)⟩ (Nat.le_of_ble_eq_true rfl) dX1_worth_62 (fun _ _ _ h => px0 h) ?_
                rintro _ _ ⟨rfl, rfl⟩
                refine V_st (st' := [.int ((1 + 1) * (1 + 1))]) rfl ?_
                refine V_i2l (v := ((1 + 1) * (1 + 1)).toInt64) C dX1_worth_67 rfl ?_
                refine V_goto (tgt := 76) C dX1_worth_68 (by decide) ?_
                refine V_lret C dX1_worth_76 rfl ?_ (by first | exact Nat.le_of_ble_eq_true rfl | omega | (dsimp only; omega)) (by first | exact Nat.le_of_ble_eq_true rfl | omega | (dsimp only; omega))
                refine ⟨congrArg (fun z => some (Value.long z)) ?_, rfl⟩
                unfold mf_worthW
                have hw : (¬ nI u < 0 ∧ nI u < σ.1 5) ∧ 0 ≤ w.toInt64 ∧ w.toInt64 ≤ 2 := worth_in hI hu c_16 c_21
                rw [if_pos hw, nI_clamp (by have := hI.U.2; omega)]
                unfold mf_worth mf_fee
                rw [hcn]
                rw [if_neg c_44_2, if_pos c_57_2]
                rw [if_neg (by decide : ¬ nI 1 = 0)]; rfl
            · refine V_aload_n C dX1_worth_47 rfl 3 rfl ?_
              refine V_callO C (c_X22_worth_6 l hl G X N0 M (qU g u) (nI u) (σ.2.1 7 u) hun) cs_X1_259_6 hun (show CLS[6]? = some (RX22, TX22, 2) from rfl) rfl rfl ⟨Nat.le_of_ble_eq_true rfl, Nat.le_of_ble_eq_true rfl⟩ ⟨(by first | exact Nat.le_of_ble_eq_true rfl | omega | (dsimp only; omega)), (by first | exact Nat.le_of_ble_eq_true rfl | omega | (dsimp only; omega))⟩ (Nat.le_of_ble_eq_true rfl) dX1_worth_48 (fun _ _ _ h => px0 h) ?_
              rintro _ _ ⟨rfl, rfl⟩
              refine V_st (st' := [.int (3 * σ.2.1 7 u + 2)]) rfl ?_
              refine V_pc (pc1 := 51) rfl ?_
              refine V_i2l (v := (3 * σ.2.1 7 u + 2).toInt64) C dX1_worth_51 rfl ?_
              refine V_goto (tgt := 76) C dX1_worth_52 (by decide) ?_
              refine V_lret C dX1_worth_76 rfl ?_ (by first | exact Nat.le_of_ble_eq_true rfl | omega | (dsimp only; omega)) (by first | exact Nat.le_of_ble_eq_true rfl | omega | (dsimp only; omega))
              refine ⟨congrArg (fun z => some (Value.long z)) ?_, rfl⟩
              unfold mf_worthW
              have hw : (¬ nI u < 0 ∧ nI u < σ.1 5) ∧ 0 ≤ w.toInt64 ∧ w.toInt64 ≤ 2 := worth_in hI hu c_16 c_21
              rw [if_pos hw, nI_clamp (by have := hI.U.2; omega)]
              unfold mf_worth mf_fee
              rw [hcn]
              rw [if_pos c_44_2]
              rw [if_neg (by decide : ¬ nI 1 = 0), if_pos (show nI 1 = 1 from rfl)]
          · rw [hc9] at hun hcn
            refine V_iload_n C dX1_worth_43 rfl 2 rfl ?_
            refine V_if_ne (tgt := 55) C dX1_worth_44 (by decide) (fun c_44_3 => ?_) (fun c_44_3 => ?_)
            · refine V_iload_n C dX1_worth_55 rfl 2 rfl ?_
              refine V_iconst (v := 1) C dX1_worth_56 rfl ?_
              refine V_pc (pc1 := 57) rfl ?_
              refine V_icmp_ne (tgt := 71) C dX1_worth_57 (by decide) (fun c_57_3 => ?_) (fun c_57_3 => ?_)
              · refine V_aload_n C dX1_worth_71 rfl 3 rfl ?_
                refine V_callO C (c_X23_cls_7 l hl G X N0 M (qU g u) (nI u) (σ.2.1 7 u) hun) cs_X1_267_7 hun (show CLS[7]? = some (RX23, TX23, 2) from rfl) rfl rfl ⟨Nat.le_of_ble_eq_true rfl, Nat.le_of_ble_eq_true rfl⟩ ⟨(by first | exact Nat.le_of_ble_eq_true rfl | omega | (dsimp only; omega)), (by first | exact Nat.le_of_ble_eq_true rfl | omega | (dsimp only; omega))⟩ (Nat.le_of_ble_eq_true rfl) dX1_worth_72 (fun _ _ _ h => px0 h) ?_
                rintro _ _ ⟨rfl, rfl⟩
                refine V_st (st' := [.int (1 + (1 + 0))]) rfl ?_
                refine V_i2l (v := (1 + (1 + 0)).toInt64) C dX1_worth_75 rfl ?_
                refine V_lret C dX1_worth_76 rfl ?_ (by first | exact Nat.le_of_ble_eq_true rfl | omega | (dsimp only; omega)) (by first | exact Nat.le_of_ble_eq_true rfl | omega | (dsimp only; omega))
                refine ⟨congrArg (fun z => some (Value.long z)) ?_, rfl⟩
                unfold mf_worthW
                have hw : (¬ nI u < 0 ∧ nI u < σ.1 5) ∧ 0 ≤ w.toInt64 ∧ w.toInt64 ≤ 2 := worth_in hI hu c_16 c_21
                rw [if_pos hw, nI_clamp (by have := hI.U.2; omega)]
                unfold mf_worth mf_fee
                rw [hcn]
                rw [if_neg c_44_3, if_neg c_57_3]
                rfl
              · refine V_aload C dX1_worth_60 4 rfl ?_
                refine V_callD C (c_X27_fee_7 l hl G X N0 M (qU g u) (nI u) (σ.2.1 7 u) hun) ⟨lw_meth q644, q637, q642, q1829, List.mem_of_getElem? (i := 2) rfl, mh_X27_fee⟩ hun (show CLS[7]? = some (RX23, TX23, 2) from rfl) rfl rfl ⟨Nat.le_of_ble_eq_true rfl, Nat.le_of_ble_eq_true rfl⟩ ⟨by first | exact Nat.le_of_ble_eq_true rfl | omega | (dsimp only; omega), by first | exact Nat.le_of_ble_eq_true rfl | omega | (dsimp only; omega)⟩ (Nat.le_of_ble_eq_true rfl) dX1_worth_62 (fun _ _ _ h => px0 h) ?_
                rintro _ _ ⟨rfl, rfl⟩
                refine V_st (st' := [.int ((1 + 1) * (1 + 1))]) rfl ?_
                refine V_i2l (v := ((1 + 1) * (1 + 1)).toInt64) C dX1_worth_67 rfl ?_
                refine V_goto (tgt := 76) C dX1_worth_68 (by decide) ?_
                refine V_lret C dX1_worth_76 rfl ?_ (by first | exact Nat.le_of_ble_eq_true rfl | omega | (dsimp only; omega)) (by first | exact Nat.le_of_ble_eq_true rfl | omega | (dsimp only; omega))
                refine ⟨congrArg (fun z => some (Value.long z)) ?_, rfl⟩
                unfold mf_worthW
                have hw : (¬ nI u < 0 ∧ nI u < σ.1 5) ∧ 0 ≤ w.toInt64 ∧ w.toInt64 ≤ 2 := worth_in hI hu c_16 c_21
                rw [if_pos hw, nI_clamp (by have := hI.U.2; omega)]
                unfold mf_worth mf_fee
                rw [hcn]
                rw [if_neg c_44_3, if_pos c_57_3]
                rw [if_neg (by decide : ¬ nI 2 = 0)]; rfl
            · refine V_aload_n C dX1_worth_47 rfl 3 rfl ?_
              refine V_callO C (c_X23_worth_7 l hl G X N0 M (qU g u) (nI u) (σ.2.1 7 u) hun) cs_X1_259_7 hun (show CLS[7]? = some (RX23, TX23, 2) from rfl) rfl rfl ⟨Nat.le_of_ble_eq_true rfl, Nat.le_of_ble_eq_true rfl⟩ ⟨(by first | exact Nat.le_of_ble_eq_true rfl | omega | (dsimp only; omega)), (by first | exact Nat.le_of_ble_eq_true rfl | omega | (dsimp only; omega))⟩ (Nat.le_of_ble_eq_true rfl) dX1_worth_48 (fun _ _ _ h => px0 h) ?_
              rintro _ _ ⟨rfl, rfl⟩
              refine V_st (st' := [.int (3 * σ.2.1 7 u + 2 - 5)]) rfl ?_
              refine V_pc (pc1 := 51) rfl ?_
              refine V_i2l (v := (3 * σ.2.1 7 u + 2 - 5).toInt64) C dX1_worth_51 rfl ?_
              refine V_goto (tgt := 76) C dX1_worth_52 (by decide) ?_
              refine V_lret C dX1_worth_76 rfl ?_ (by first | exact Nat.le_of_ble_eq_true rfl | omega | (dsimp only; omega)) (by first | exact Nat.le_of_ble_eq_true rfl | omega | (dsimp only; omega))
              refine ⟨congrArg (fun z => some (Value.long z)) ?_, rfl⟩
              unfold mf_worthW
              have hw : (¬ nI u < 0 ∧ nI u < σ.1 5) ∧ 0 ≤ w.toInt64 ∧ w.toInt64 ≤ 2 := worth_in hI hu c_16 c_21
              rw [if_pos hw, nI_clamp (by have := hI.U.2; omega)]
              unfold mf_worth mf_fee
              rw [hcn]
              rw [if_pos c_44_3]
              rw [if_neg (by decide : ¬ nI 2 = 0), if_neg (by decide : ¬ nI 2 = 1), worth_g]
        · refine V_ldc2 (v := -9223372036854775808) C (C.w q622) dX1_worth_24 ?_
          refine V_lret C dX1_worth_27 rfl ?_ (by first | exact Nat.le_of_ble_eq_true rfl | omega | (dsimp only; omega)) (by first | exact Nat.le_of_ble_eq_true rfl | omega | (dsimp only; omega))
          refine ⟨congrArg (fun z => some (Value.long z)) ?_, rfl⟩
          (try simp only [lg_cmp_lt, lg_cmp_gt, lg_cmp_ge, lg_cmp_le, lg_cmp_eq, bI_0, bI_n, Classical.not_not] at c_1 c_12 c_16 c_21)
          unfold mf_worthW
          rw [if_neg]
          clear hR
          have h5 := hI.U.1
          rintro ⟨⟨h1, h2⟩, h3, h4⟩
          rw [h5] at h2
          have h6 := Int64.le_iff_toInt_le.mp h3
          have h7 := Int64.le_iff_toInt_le.mp h4
          rw [Int32.toInt_toInt64] at h6 h7
          simp only [Int32.not_le, Int32.not_lt, Int32.lt_iff_toInt_lt, Int32.le_iff_toInt_le] at *
          have e2 : (2 : Int32).toInt = 2 := rfl
          have e0 : (0 : Int32).toInt = 0 := rfl
          have e3 : (2 : Int64).toInt = 2 := rfl
          have e4 : (0 : Int64).toInt = 0 := rfl
          omega
