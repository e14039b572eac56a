set_option maxRecDepth 100000
abbrev nR (σ : MS) : Nat := (σ.1 1).toNatClampNeg
abbrev nU (σ : MS) : Nat := (σ.1 5).toNatClampNeg
abbrev nJ (σ : MS) : Nat := (σ.1 8).toNatClampNeg
theorem in64 {x : Int32} {k : Nat} (hk : k < 2 ^ 31) : (0 ≤ x.toInt64 ∧ x.toInt64 ≤ lN k) ↔ ∃ n : Nat, n ≤ k ∧ x = nI n := by
  constructor
  · rintro ⟨h1, h2⟩
    have h3 := Int64.le_iff_toInt_le.mp h1
    have h4 := Int64.le_iff_toInt_le.mp h2
    rw [Int32.toInt_toInt64, show (0 : Int64).toInt = 0 from rfl] at h3
    rw [Int32.toInt_toInt64, lN_toInt hk] at h4
    refine ⟨x.toInt.toNat, by omega, ?_⟩
    apply Int32.toInt_inj.mp
    rw [nI_toInt (by omega)]
    omega
  · rintro ⟨n, h1, rfl⟩
    have h5 : (nI n).toInt64 = lN n := nI_l (by omega)
    rw [h5]
    exact ⟨(lN_le (a := 0) (by decide) (by omega)).mpr (Nat.zero_le _), (lN_le (by omega) hk).mpr h1⟩
theorem isRow_n {σ : MS} {R : Nat} {r : Int32} (hR : σ.1 1 = nI R) (hb : R < 2 ^ 31) : (¬ r < 0 ∧ r < σ.1 1) ↔ ∃ a : Nat, a < R ∧ r = nI a := by
  constructor
  · rintro ⟨h1, h2⟩
    obtain ⟨j, hj, e⟩ := nI_of h1
    subst e
    rw [hR] at h2
    exact ⟨j, (nI_ltI hj hb).mp h2, rfl⟩
  · rintro ⟨a, ha, rfl⟩
    rw [hR]
    exact ⟨nI_pos (by omega), nI_lt ha hb⟩
/-- a unit's worth, fee -/
def mf_worth (σ : MS) (u : Nat) : Int32 := if σ.2.1 6 u = 0 then σ.2.1 7 u else if σ.2.1 6 u = 1 then 3 * σ.2.1 7 u + 2 else 3 * σ.2.1 7 u - 3
def mf_fee (σ : MS) (u : Nat) : Int32 := if σ.2.1 6 u = 0 then 1 else 4
def mf_about (σ : MS) (w : Int32) : Int32 := if w = 0 then σ.1 1 else if w = 1 then σ.1 5 else if w = 2 then σ.1 11 else if w = 3 then σ.1 12 else if w = 4 then σ.1 13 else if w = 5 then σ.1 14 else -102
def mf_told (σ : MS) (w : Int32) : Int32 := if w = 0 then σ.1 27 else if w = 1 then σ.1 28 else if w = 2 then σ.1 29 else if w = 3 then σ.1 30 else if w = 4 then σ.1 31 else -102
def mf_answer (σ : MS) (k : Int32) : Int64 := if (0 ≤ k.toInt64 ∧ k.toInt64 ≤ 11) ∧ k < σ.1 30 then σ.2.2.1 32 k.toNatClampNeg else -9223372036854775808
abbrev mf_goes (σ : MS) (k : Int32) (b : Int64) : Prop := k < 8 ∨ (k = 10 ∧ -1 ≤ b ∧ b ≤ 40) ∨ (k ≠ 10 ∧ -1 ≤ b ∧ b ≤ (σ.1 5 - 1).toInt64)
abbrev mf_isCard (σ : MS) (b : Int64) : Prop := b = -1 ∨ 0 < σ.2.1 6 b.toInt32.toNatClampNeg
abbrev mf_hasRows (σ : MS) (h a b : Int32) : Prop := ((h = 10 ∨ h = 11) ∨ (¬ a < 0 ∧ a < σ.1 1)) ∧ (¬ (h = 0 ∨ h = 3 ∨ h = 4) ∨ (¬ b < 0 ∧ b < σ.1 1))
abbrev mf_places (σ : MS) (a : Nat) (i n : Int32) : Prop := ¬ i < 0 ∧ ¬ n < 0 ∧ i.toInt64 + n.toInt64 ≤ (σ.2.1 3 a).toInt64
set_option maxHeartbeats 1000000 in
theorem c_X20_about (l : Launch) (hl : l.stackTraces = false) (G : hp_G) (X : Nat → Nat) (N0 : Nat) (mo : Nat) (ad : Nat → Nat) (σ : MS) (M : hp_h) (hM : MH G mo ad σ M) (w : Int32) : HM l yX20_about (ws_ yX20_about cX20_about 2 (some .int)) 0 0 0 0 G X N0 [.ref mo, .int w] M (PV (.int (mf_about σ w)) M) PX0 := by
  refine HM.of hl [(0, .ref mo), (1, .int w)] (by decide +kernel) rfl (Nat.le_of_ble_eq_true rfl) ?_
  intro p e s m args below meth c C hname
  have hF : MFr mo ad M M := MFr.rf
  refine V_iload_n C dX20_about_0 rfl 1 rfl ?_
  refine V_if_ne (tgt := 11) C dX20_about_1 (by decide) (fun c_1 => ?_) (fun c_1 => ?_)
  · refine V_iload_n C dX20_about_11 rfl 1 rfl ?_
    refine V_iconst (v := 1) C dX20_about_12 rfl ?_
    refine V_icmp_ne (tgt := 23) C dX20_about_13 (by decide) (fun c_13 => ?_) (fun c_13 => ?_)
    · refine V_iload_n C dX20_about_23 rfl 1 rfl ?_
      refine V_iconst (v := 2) C dX20_about_24 rfl ?_
      refine V_icmp_ne (tgt := 35) C dX20_about_25 (by decide) (fun c_25 => ?_) (fun c_25 => ?_)
      · refine V_iload_n C dX20_about_35 rfl 1 rfl ?_
        refine V_iconst (v := 3) C dX20_about_36 rfl ?_
        refine V_icmp_ne (tgt := 47) C dX20_about_37 (by decide) (fun c_37 => ?_) (fun c_37 => ?_)
        · refine V_pc (pc1 := 47) rfl ?_
          refine V_iload_n C dX20_about_47 rfl 1 rfl ?_
          refine V_iconst (v := 4) C dX20_about_48 rfl ?_
          refine V_icmp_ne (tgt := 59) C dX20_about_49 (by decide) (fun c_49 => ?_) (fun c_49 => ?_)
          · refine V_iload_n C dX20_about_59 rfl 1 rfl ?_
            refine V_iconst (v := 5) C dX20_about_60 rfl ?_
            refine V_icmp_ne (tgt := 71) C dX20_about_61 (by decide) (fun c_61 => ?_) (fun c_61 => ?_)
            · refine V_bipush (v := -102) C dX20_about_71 rfl ?_
              refine V_iret C dX20_about_73 rfl ?_ (by first | exact Nat.le_of_ble_eq_true rfl | omega | (dsimp only; omega)) (by first | exact Nat.le_of_ble_eq_true rfl | omega | (dsimp only; omega))
              refine ⟨congrArg (fun z => some (Value.int z)) ?_, rfl⟩
              unfold mf_about
              (first | rw [if_pos c_1] | rw [if_neg c_1] | skip)
              (first | rw [if_pos c_13] | rw [if_neg c_13] | skip)
              (first | rw [if_pos c_25] | rw [if_neg c_25] | skip)
              (first | rw [if_pos c_37] | rw [if_neg c_37] | skip)
              (first | rw [if_pos c_49] | rw [if_neg c_49] | skip)
              (first | rw [if_pos c_61] | rw [if_neg c_61] | skip)
              try rfl
            · refine V_aload_n C dX20_about_64 rfl 0 rfl ?_
              refine M_get C hM (.int (σ.1 14)) f_X20_186_9 rfl dX20_about_65 ?_
              refine V_goto (tgt := 73) C dX20_about_68 (by decide) ?_
              refine V_iret C dX20_about_73 rfl ?_ (by first | exact Nat.le_of_ble_eq_true rfl | omega | (dsimp only; omega)) (by first | exact Nat.le_of_ble_eq_true rfl | omega | (dsimp only; omega))
              refine ⟨congrArg (fun z => some (Value.int z)) ?_, rfl⟩
              unfold mf_about
              (first | rw [if_pos c_1] | rw [if_neg c_1] | skip)
              (first | rw [if_pos c_13] | rw [if_neg c_13] | skip)
              (first | rw [if_pos c_25] | rw [if_neg c_25] | skip)
              (first | rw [if_pos c_37] | rw [if_neg c_37] | skip)
              (first | rw [if_pos c_49] | rw [if_neg c_49] | skip)
              (first | rw [if_pos c_61] | rw [if_neg c_61] | skip)
              try rfl
          · refine V_aload_n C dX20_about_52 rfl 0 rfl ?_
            refine M_get C hM (.int (σ.1 13)) f_X20_183_9 rfl dX20_about_53 ?_
            refine V_goto (tgt := 73) C dX20_about_56 (by decide) ?_
            refine V_iret C dX20_about_73 rfl ?_ (by first | exact Nat.le_of_ble_eq_true rfl | omega | (dsimp only; omega)) (by first | exact Nat.le_of_ble_eq_true rfl | omega | (dsimp only; omega))
            refine ⟨congrArg (fun z => some (Value.int z)) ?_, rfl⟩
            unfold mf_about
            (first | rw [if_pos c_1] | rw [if_neg c_1] | skip)
            (first | rw [if_pos c_13] | rw [if_neg c_13] | skip)
            (first | rw [if_pos c_25] | rw [if_neg c_25] | skip)
            (first | rw [if_pos c_37] | rw [if_neg c_37] | skip)
            (first | rw [if_pos c_49] | rw [if_neg c_49] | skip)
            try rfl
        · refine V_pc (pc1 := 40) rfl ?_
          refine V_aload_n C dX20_about_40 rfl 0 rfl ?_
          refine M_get C hM (.int (σ.1 12)) f_X20_180_9 rfl dX20_about_41 ?_
          refine V_goto (tgt := 73) C dX20_about_44 (by decide) ?_
          refine V_iret C dX20_about_73 rfl ?_ (by first | exact Nat.le_of_ble_eq_true rfl | omega | (dsimp only; omega)) (by first | exact Nat.le_of_ble_eq_true rfl | omega | (dsimp only; omega))
          refine ⟨congrArg (fun z => some (Value.int z)) ?_, rfl⟩
          unfold mf_about
          (first | rw [if_pos c_1] | rw [if_neg c_1] | skip)
          (first | rw [if_pos c_13] | rw [if_neg c_13] | skip)
          (first | rw [if_pos c_25] | rw [if_neg c_25] | skip)
          (first | rw [if_pos c_37] | rw [if_neg c_37] | skip)
          try rfl
      · refine V_aload_n C dX20_about_28 rfl 0 rfl ?_
        refine M_get C hM (.int (σ.1 11)) f_X20_177_9 rfl dX20_about_29 ?_
        refine V_goto (tgt := 73) C dX20_about_32 (by decide) ?_
        refine V_pc (pc1 := 73) rfl ?_
        refine V_iret C dX20_about_73 rfl ?_ (by first | exact Nat.le_of_ble_eq_true rfl | omega | (dsimp only; omega)) (by first | exact Nat.le_of_ble_eq_true rfl | omega | (dsimp only; omega))
        refine ⟨congrArg (fun z => some (Value.int z)) ?_, rfl⟩
        unfold mf_about
        (first | rw [if_pos c_1] | rw [if_neg c_1] | skip)
        (first | rw [if_pos c_13] | rw [if_neg c_13] | skip)
        (first | rw [if_pos c_25] | rw [if_neg c_25] | skip)
        try rfl
    · refine V_aload_n C dX20_about_16 rfl 0 rfl ?_
      refine M_get C hM (.int (σ.1 5)) f_X20_137_9 rfl dX20_about_17 ?_
      refine V_goto (tgt := 73) C dX20_about_20 (by decide) ?_
      refine V_iret C dX20_about_73 rfl ?_ (by first | exact Nat.le_of_ble_eq_true rfl | omega | (dsimp only; omega)) (by first | exact Nat.le_of_ble_eq_true rfl | omega | (dsimp only; omega))
      refine ⟨congrArg (fun z => some (Value.int z)) ?_, rfl⟩
      unfold mf_about
      (first | rw [if_pos c_1] | rw [if_neg c_1] | skip)
      (first | rw [if_pos c_13] | rw [if_neg c_13] | skip)
      try rfl
  · refine V_aload_n C dX20_about_4 rfl 0 rfl ?_
    refine M_get C hM (.int (σ.1 1)) f_X20_103_9 rfl dX20_about_5 ?_
    refine V_goto (tgt := 73) C dX20_about_8 (by decide) ?_
    refine V_iret C dX20_about_73 rfl ?_ (by first | exact Nat.le_of_ble_eq_true rfl | omega | (dsimp only; omega)) (by first | exact Nat.le_of_ble_eq_true rfl | omega | (dsimp only; omega))
    refine ⟨congrArg (fun z => some (Value.int z)) ?_, rfl⟩
    unfold mf_about
    (first | rw [if_pos c_1] | rw [if_neg c_1] | skip)
    try rfl
set_option maxHeartbeats 1000000 in
theorem c_X20_told (l : Launch) (hl : l.stackTraces = false) (G : hp_G) (X : Nat → Nat) (N0 : Nat) (mo : Nat) (ad : Nat → Nat) (σ : MS) (M : hp_h) (hM : MH G mo ad σ M) (w : Int32) : HM l yX20_told (ws_ yX20_told cX20_told 2 (some .int)) 0 0 0 0 G X N0 [.ref mo, .int w] M (PV (.int (mf_told σ w)) M) PX0 := by
  refine HM.of hl [(0, .ref mo), (1, .int w)] (by decide +kernel) rfl (Nat.le_of_ble_eq_true rfl) ?_
  intro p e s m args below meth c C hname
  have hF : MFr mo ad M M := MFr.rf
  refine V_iload_n C dX20_told_0 rfl 1 rfl ?_
  refine V_if_ne (tgt := 11) C dX20_told_1 (by decide) (fun c_1 => ?_) (fun c_1 => ?_)
  · refine V_iload_n C dX20_told_11 rfl 1 rfl ?_
    refine V_iconst (v := 1) C dX20_told_12 rfl ?_
    refine V_icmp_ne (tgt := 23) C dX20_told_13 (by decide) (fun c_13 => ?_) (fun c_13 => ?_)
    · refine V_iload_n C dX20_told_23 rfl 1 rfl ?_
      refine V_iconst (v := 2) C dX20_told_24 rfl ?_
      refine V_icmp_ne (tgt := 35) C dX20_told_25 (by decide) (fun c_25 => ?_) (fun c_25 => ?_)
      · refine V_iload_n C dX20_told_35 rfl 1 rfl ?_
        refine V_iconst (v := 3) C dX20_told_36 rfl ?_
        refine V_icmp_ne (tgt := 47) C dX20_told_37 (by decide) (fun c_37 => ?_) (fun c_37 => ?_)
        · refine V_pc (pc1 := 47) rfl ?_
          refine V_iload_n C dX20_told_47 rfl 1 rfl ?_
          refine V_iconst (v := 4) C dX20_told_48 rfl ?_
          refine V_icmp_ne (tgt := 59) C dX20_told_49 (by decide) (fun c_49 => ?_) (fun c_49 => ?_)
          · refine V_bipush (v := -102) C dX20_told_59 rfl ?_
            refine V_iret C dX20_told_61 rfl ?_ (by first | exact Nat.le_of_ble_eq_true rfl | omega | (dsimp only; omega)) (by first | exact Nat.le_of_ble_eq_true rfl | omega | (dsimp only; omega))
            refine ⟨congrArg (fun z => some (Value.int z)) ?_, rfl⟩
            unfold mf_told
            (first | rw [if_pos c_1] | rw [if_neg c_1] | skip)
            (first | rw [if_pos c_13] | rw [if_neg c_13] | skip)
            (first | rw [if_pos c_25] | rw [if_neg c_25] | skip)
            (first | rw [if_pos c_37] | rw [if_neg c_37] | skip)
            (first | rw [if_pos c_49] | rw [if_neg c_49] | skip)
            try rfl
          · refine V_aload_n C dX20_told_52 rfl 0 rfl ?_
            refine M_get C hM (.int (σ.1 31)) f_X20_73_9 rfl dX20_told_53 ?_
            refine V_goto (tgt := 61) C dX20_told_56 (by decide) ?_
            refine V_iret C dX20_told_61 rfl ?_ (by first | exact Nat.le_of_ble_eq_true rfl | omega | (dsimp only; omega)) (by first | exact Nat.le_of_ble_eq_true rfl | omega | (dsimp only; omega))
            refine ⟨congrArg (fun z => some (Value.int z)) ?_, rfl⟩
            unfold mf_told
            (first | rw [if_pos c_1] | rw [if_neg c_1] | skip)
            (first | rw [if_pos c_13] | rw [if_neg c_13] | skip)
            (first | rw [if_pos c_25] | rw [if_neg c_25] | skip)
            (first | rw [if_pos c_37] | rw [if_neg c_37] | skip)
            (first | rw [if_pos c_49] | rw [if_neg c_49] | skip)
            try rfl
        · refine V_pc (pc1 := 40) rfl ?_
          refine V_aload_n C dX20_told_40 rfl 0 rfl ?_
          refine M_get C hM (.int (σ.1 30)) f_X20_70_9 rfl dX20_told_41 ?_
          refine V_goto (tgt := 61) C dX20_told_44 (by decide) ?_
          refine V_iret C dX20_told_61 rfl ?_ (by first | exact Nat.le_of_ble_eq_true rfl | omega | (dsimp only; omega)) (by first | exact Nat.le_of_ble_eq_true rfl | omega | (dsimp only; omega))
          refine ⟨congrArg (fun z => some (Value.int z)) ?_, rfl⟩
          unfold mf_told
          (first | rw [if_pos c_1] | rw [if_neg c_1] | skip)
          (first | rw [if_pos c_13] | rw [if_neg c_13] | skip)
          (first | rw [if_pos c_25] | rw [if_neg c_25] | skip)
          (first | rw [if_pos c_37] | rw [if_neg c_37] | skip)
          try rfl
      · refine V_aload_n C dX20_told_28 rfl 0 rfl ?_
        refine M_get C hM (.int (σ.1 29)) f_X20_67_9 rfl dX20_told_29 ?_
        refine V_goto (tgt := 61) C dX20_told_32 (by decide) ?_
        refine V_pc (pc1 := 61) rfl ?_
        refine V_iret C dX20_told_61 rfl ?_ (by first | exact Nat.le_of_ble_eq_true rfl | omega | (dsimp only; omega)) (by first | exact Nat.le_of_ble_eq_true rfl | omega | (dsimp only; omega))
        refine ⟨congrArg (fun z => some (Value.int z)) ?_, rfl⟩
        unfold mf_told
        (first | rw [if_pos c_1] | rw [if_neg c_1] | skip)
        (first | rw [if_pos c_13] | rw [if_neg c_13] | skip)
        (first | rw [if_pos c_25] | rw [if_neg c_25] | skip)
        try rfl
    · refine V_aload_n C dX20_told_16 rfl 0 rfl ?_
      refine M_get C hM (.int (σ.1 28)) f_X20_64_9 rfl dX20_told_17 ?_
      refine V_goto (tgt := 61) C dX20_told_20 (by decide) ?_
      refine V_iret C dX20_told_61 rfl ?_ (by first | exact Nat.le_of_ble_eq_true rfl | omega | (dsimp only; omega)) (by first | exact Nat.le_of_ble_eq_true rfl | omega | (dsimp only; omega))
      refine ⟨congrArg (fun z => some (Value.int z)) ?_, rfl⟩
      unfold mf_told
      (first | rw [if_pos c_1] | rw [if_neg c_1] | skip)
      (first | rw [if_pos c_13] | rw [if_neg c_13] | skip)
      try rfl
  · refine V_aload_n C dX20_told_4 rfl 0 rfl ?_
    refine M_get C hM (.int (σ.1 27)) f_X20_60_9 rfl dX20_told_5 ?_
    refine V_goto (tgt := 61) C dX20_told_8 (by decide) ?_
    refine V_iret C dX20_told_61 rfl ?_ (by first | exact Nat.le_of_ble_eq_true rfl | omega | (dsimp only; omega)) (by first | exact Nat.le_of_ble_eq_true rfl | omega | (dsimp only; omega))
    refine ⟨congrArg (fun z => some (Value.int z)) ?_, rfl⟩
    unfold mf_told
    (first | rw [if_pos c_1] | rw [if_neg c_1] | skip)
    try rfl
set_option maxHeartbeats 1000000 in
theorem c_X20_worthOf (l : Launch) (hl : l.stackTraces = false) (G : hp_G) (X : Nat → Nat) (N0 : Nat) (mo : Nat) (ad : Nat → Nat) (σ : MS) (M : hp_h) (hM : MH G mo ad σ M) (u : Nat) (hu : u < 30) : HM l yX20_worthOf (ws_ yX20_worthOf cX20_worthOf 4 (some .int)) 0 0 0 0 G X N0 [.ref mo, .int (nI u)] M (PV (.int (mf_worth σ u)) M) PX0 := by
  refine HM.of hl [(0, .ref mo), (1, .int (nI u))] (by decide +kernel) rfl (Nat.le_of_ble_eq_true rfl) ?_
  intro p e s m args below meth c C hname
  have hF : MFr mo ad M M := MFr.rf
  refine V_aload_n C dX20_worthOf_0 rfl 0 rfl ?_
  refine M_get C hM (.ref (ad 7)) f_X20_23_9 rfl dX20_worthOf_1 ?_
  refine V_iload_n C dX20_worthOf_4 rfl 1 rfl ?_
  refine M_iald C hM 7 u rfl rfl hu dX20_worthOf_5 ?_
  refine V_istore_n C dX20_worthOf_6 rfl (Nat.le_of_ble_eq_true rfl) [(0, .ref mo), (1, .int (nI u)), (2, .int (σ.2.1 7 u))] [1, 2, 0] rfl ?_
  refine V_aload_n C dX20_worthOf_7 rfl 0 rfl ?_
  refine M_get C hM (.ref (ad 6)) f_X20_20_9 rfl dX20_worthOf_8 ?_
  refine V_iload_n C dX20_worthOf_11 rfl 1 rfl ?_
  refine M_iald C hM 6 u rfl rfl hu dX20_worthOf_12 ?_
  refine V_istore_n C dX20_worthOf_13 rfl (Nat.le_of_ble_eq_true rfl) [(0, .ref mo), (1, .int (nI u)), (2, .int (σ.2.1 7 u)), (3, .int (σ.2.1 6 u))] [1, 2, 3, 0] rfl ?_
  refine V_iload_n C dX20_worthOf_14 rfl 3 rfl ?_
  refine V_pc (pc1 := 15) rfl ?_
  refine V_if_ne (tgt := 22) C dX20_worthOf_15 (by decide) (fun c_15 => ?_) (fun c_15 => ?_)
  · refine V_iload_n C dX20_worthOf_22 rfl 3 rfl ?_
    refine V_iconst (v := 1) C dX20_worthOf_23 rfl ?_
    refine V_icmp_ne (tgt := 35) C dX20_worthOf_24 (by decide) (fun c_24 => ?_) (fun c_24 => ?_)
    · refine V_iconst (v := 3) C dX20_worthOf_35 rfl ?_
      refine V_iload_n C dX20_worthOf_36 rfl 2 rfl ?_
      refine V_imul C dX20_worthOf_37 ?_
      refine V_iconst (v := 3) C dX20_worthOf_38 rfl ?_
      refine V_isub C dX20_worthOf_39 ?_
      refine V_iret C dX20_worthOf_40 rfl ?_ (by first | exact Nat.le_of_ble_eq_true rfl | omega | (dsimp only; omega)) (by first | exact Nat.le_of_ble_eq_true rfl | omega | (dsimp only; omega))
      refine ⟨congrArg (fun z => some (Value.int z)) ?_, rfl⟩
      unfold mf_worth
      (first | rw [if_pos c_15] | rw [if_neg c_15] | skip)
      (first | rw [if_pos c_24] | rw [if_neg c_24] | skip)
      try rfl
    · refine V_iconst (v := 3) C dX20_worthOf_27 rfl ?_
      refine V_iload_n C dX20_worthOf_28 rfl 2 rfl ?_
      refine V_imul C dX20_worthOf_29 ?_
      refine V_iconst (v := 2) C dX20_worthOf_30 rfl ?_
      refine V_iadd C dX20_worthOf_31 ?_
      refine V_goto (tgt := 40) C dX20_worthOf_32 (by decide) ?_
      refine V_iret C dX20_worthOf_40 rfl ?_ (by first | exact Nat.le_of_ble_eq_true rfl | omega | (dsimp only; omega)) (by first | exact Nat.le_of_ble_eq_true rfl | omega | (dsimp only; omega))
      refine ⟨congrArg (fun z => some (Value.int z)) ?_, rfl⟩
      unfold mf_worth
      (first | rw [if_pos c_15] | rw [if_neg c_15] | skip)
      (first | rw [if_pos c_24] | rw [if_neg c_24] | skip)
      try rfl
  · refine V_iload_n C dX20_worthOf_18 rfl 2 rfl ?_
    refine V_goto (tgt := 40) C dX20_worthOf_19 (by decide) ?_
    refine V_iret C dX20_worthOf_40 rfl ?_ (by first | exact Nat.le_of_ble_eq_true rfl | omega | (dsimp only; omega)) (by first | exact Nat.le_of_ble_eq_true rfl | omega | (dsimp only; omega))
    refine ⟨congrArg (fun z => some (Value.int z)) ?_, rfl⟩
    unfold mf_worth
    (first | rw [if_pos c_15] | rw [if_neg c_15] | skip)
    try rfl
set_option maxHeartbeats 1000000 in
theorem c_X20_feeOf (l : Launch) (hl : l.stackTraces = false) (G : hp_G) (X : Nat → Nat) (N0 : Nat) (mo : Nat) (ad : Nat → Nat) (σ : MS) (M : hp_h) (hM : MH G mo ad σ M) (u : Nat) (hu : u < 30) : HM l yX20_feeOf (ws_ yX20_feeOf cX20_feeOf 2 (some .int)) 0 0 0 0 G X N0 [.ref mo, .int (nI u)] M (PV (.int (mf_fee σ u)) M) PX0 := by
  refine HM.of hl [(0, .ref mo), (1, .int (nI u))] (by decide +kernel) rfl (Nat.le_of_ble_eq_true rfl) ?_
  intro p e s m args below meth c C hname
  have hF : MFr mo ad M M := MFr.rf
  refine V_aload_n C dX20_feeOf_0 rfl 0 rfl ?_
  refine M_get C hM (.ref (ad 6)) f_X20_20_9 rfl dX20_feeOf_1 ?_
  refine V_iload_n C dX20_feeOf_4 rfl 1 rfl ?_
  refine M_iald C hM 6 u rfl rfl hu dX20_feeOf_5 ?_
  refine V_if_ne (tgt := 13) C dX20_feeOf_6 (by decide) (fun c_6 => ?_) (fun c_6 => ?_)
  · refine V_iconst (v := 4) C dX20_feeOf_13 rfl ?_
    refine V_iret C dX20_feeOf_14 rfl ?_ (by first | exact Nat.le_of_ble_eq_true rfl | omega | (dsimp only; omega)) (by first | exact Nat.le_of_ble_eq_true rfl | omega | (dsimp only; omega))
    refine ⟨congrArg (fun z => some (Value.int z)) ?_, rfl⟩
    unfold mf_fee
    (first | rw [if_pos c_6] | rw [if_neg c_6] | skip)
    try rfl
  · refine V_iconst (v := 1) C dX20_feeOf_9 rfl ?_
    refine V_goto (tgt := 14) C dX20_feeOf_10 (by decide) ?_
    refine V_iret C dX20_feeOf_14 rfl ?_ (by first | exact Nat.le_of_ble_eq_true rfl | omega | (dsimp only; omega)) (by first | exact Nat.le_of_ble_eq_true rfl | omega | (dsimp only; omega))
    refine ⟨congrArg (fun z => some (Value.int z)) ?_, rfl⟩
    unfold mf_fee
    (first | rw [if_pos c_6] | rw [if_neg c_6] | skip)
    try rfl
set_option maxHeartbeats 1000000 in
theorem c_X20_goes (l : Launch) (hl : l.stackTraces = false) (G : hp_G) (X : Nat → Nat) (N0 : Nat) (mo : Nat) (ad : Nat → Nat) (σ : MS) (M : hp_h) (hM : MH G mo ad σ M) (k : Int32) (b : Int64) : HM l yX20_goes (ws_ yX20_goes cX20_goes 4 (some .boolean)) 1 25 0 0 G X N0 [.ref mo, .int k, .long b] M (PV (.int (bI (mf_goes σ k b))) M) PX0 := by
  refine HM.of hl [(0, .ref mo), (1, .int k), (2, .long b)] (by decide +kernel) rfl (Nat.le_of_ble_eq_true rfl) ?_
  intro p e s m args below meth c C hname
  have hF : MFr mo ad M M := MFr.rf
  refine V_iload_n C dX20_goes_0 rfl 1 rfl ?_
  refine V_bipush (v := 8) C dX20_goes_1 rfl ?_
  refine V_icmp_lt (tgt := 45) C dX20_goes_3 (by decide) (fun c_3 => ?_) (fun c_3 => ?_)
  · refine V_iconst (v := 1) C dX20_goes_45 rfl ?_
    refine V_goto (tgt := 50) C dX20_goes_46 (by decide) ?_
    refine V_zret C rfl dX20_goes_50 rfl ?_ (by first | exact Nat.le_of_ble_eq_true rfl | omega | (dsimp only; omega)) (by first | exact Nat.le_of_ble_eq_true rfl | omega | (dsimp only; omega))
    refine ⟨congrArg (fun z => some (Value.int z)) (bI_t ?_), rfl⟩
    unfold mf_goes
    (try simp only [lg_cmp_lt, lg_cmp_gt, lg_cmp_ge, lg_cmp_le, lg_cmp_eq, bI_0, Classical.not_not] at c_3)
    clear hM hF C
    grind
  · refine V_iload_n C dX20_goes_6 rfl 1 rfl ?_
    refine V_bipush (v := 10) C dX20_goes_7 rfl ?_
    refine V_icmp_ne (tgt := 28) C dX20_goes_9 (by decide) (fun c_9 => ?_) (fun c_9 => ?_)
    · refine V_lload_n C dX20_goes_28 rfl 2 rfl ?_
      refine V_ldc2 (v := -1) C (C.w q1596) dX20_goes_29 ?_
      refine V_aload_n C dX20_goes_32 rfl 0 rfl ?_
      refine M_get C hM (.int (σ.1 5)) f_X20_137_9 rfl dX20_goes_33 ?_
      refine V_iconst (v := 1) C dX20_goes_36 rfl ?_
      refine V_pc (pc1 := 37) rfl ?_
      refine V_isub C dX20_goes_37 ?_
      refine V_i2l (v := ((σ.1 5) - 1).toInt64) C dX20_goes_38 rfl ?_
      refine V_callS C (c_X20_in l hl G X N0 M b (-1) (((σ.1 5) - 1).toInt64)) cs_X20_123 rfl rfl ⟨Nat.le_of_ble_eq_true rfl, Nat.le_of_ble_eq_true rfl⟩ ⟨(by first | exact Nat.le_of_ble_eq_true rfl | omega | (dsimp only; omega)), (by first | exact Nat.le_of_ble_eq_true rfl | omega | (dsimp only; omega))⟩ (Nat.le_of_ble_eq_true rfl) dX20_goes_39 (fun _ _ _ h => px0 h) ?_
      rintro _ _ ⟨rfl, rfl⟩
      refine V_st (st' := [.int (bI ((-1) ≤ b ∧ b ≤ (((σ.1 5) - 1).toInt64)))]) rfl ?_
      refine V_if_eq (tgt := 49) C dX20_goes_42 (by decide) (fun c_42 => ?_) (fun c_42 => ?_)
      · refine V_iconst (v := 0) C dX20_goes_49 rfl ?_
        refine V_zret C rfl dX20_goes_50 rfl ?_ (by first | exact Nat.le_of_ble_eq_true rfl | omega | (dsimp only; omega)) (by first | exact Nat.le_of_ble_eq_true rfl | omega | (dsimp only; omega))
        refine ⟨congrArg (fun z => some (Value.int z)) (bI_f ?_), rfl⟩
        unfold mf_goes
        (try simp only [lg_cmp_lt, lg_cmp_gt, lg_cmp_ge, lg_cmp_le, lg_cmp_eq, bI_0, Classical.not_not] at c_3 c_9 c_42)
        clear hM hF C
        grind
      · refine V_iconst (v := 1) C dX20_goes_45 rfl ?_
        refine V_goto (tgt := 50) C dX20_goes_46 (by decide) ?_
        refine V_zret C rfl dX20_goes_50 rfl ?_ (by first | exact Nat.le_of_ble_eq_true rfl | omega | (dsimp only; omega)) (by first | exact Nat.le_of_ble_eq_true rfl | omega | (dsimp only; omega))
        refine ⟨congrArg (fun z => some (Value.int z)) (bI_t ?_), rfl⟩
        unfold mf_goes
        (try simp only [lg_cmp_lt, lg_cmp_gt, lg_cmp_ge, lg_cmp_le, lg_cmp_eq, bI_0, Classical.not_not] at c_3 c_9 c_42)
        clear hM hF C
        grind
    · refine V_lload_n C dX20_goes_12 rfl 2 rfl ?_
      refine V_ldc2 (v := -1) C (C.w q1596) dX20_goes_13 ?_
      refine V_ldc2 (v := 40) C (C.w q1591) dX20_goes_16 ?_
      refine V_callS C (c_X20_in l hl G X N0 M b (-1) 40) cs_X20_123 rfl rfl ⟨Nat.le_of_ble_eq_true rfl, Nat.le_of_ble_eq_true rfl⟩ ⟨(by first | exact Nat.le_of_ble_eq_true rfl | omega | (dsimp only; omega)), (by first | exact Nat.le_of_ble_eq_true rfl | omega | (dsimp only; omega))⟩ (Nat.le_of_ble_eq_true rfl) dX20_goes_19 (fun _ _ _ h => px0 h) ?_
      rintro _ _ ⟨rfl, rfl⟩
      refine V_st (st' := [.int (bI ((-1) ≤ b ∧ b ≤ 40))]) rfl ?_
      refine V_if_eq (tgt := 49) C dX20_goes_22 (by decide) (fun c_22 => ?_) (fun c_22 => ?_)
      · refine V_pc (pc1 := 49) rfl ?_
        refine V_iconst (v := 0) C dX20_goes_49 rfl ?_
        refine V_zret C rfl dX20_goes_50 rfl ?_ (by first | exact Nat.le_of_ble_eq_true rfl | omega | (dsimp only; omega)) (by first | exact Nat.le_of_ble_eq_true rfl | omega | (dsimp only; omega))
        refine ⟨congrArg (fun z => some (Value.int z)) (bI_f ?_), rfl⟩
        unfold mf_goes
        (try simp only [lg_cmp_lt, lg_cmp_gt, lg_cmp_ge, lg_cmp_le, lg_cmp_eq, bI_0, Classical.not_not] at c_3 c_9 c_22)
        clear hM hF C
        grind
      · refine V_pc (pc1 := 25) rfl ?_
        refine V_goto (tgt := 45) C dX20_goes_25 (by decide) ?_
        refine V_iconst (v := 1) C dX20_goes_45 rfl ?_
        refine V_goto (tgt := 50) C dX20_goes_46 (by decide) ?_
        refine V_zret C rfl dX20_goes_50 rfl ?_ (by first | exact Nat.le_of_ble_eq_true rfl | omega | (dsimp only; omega)) (by first | exact Nat.le_of_ble_eq_true rfl | omega | (dsimp only; omega))
        refine ⟨congrArg (fun z => some (Value.int z)) (bI_t ?_), rfl⟩
        unfold mf_goes
        (try simp only [lg_cmp_lt, lg_cmp_gt, lg_cmp_ge, lg_cmp_le, lg_cmp_eq, bI_0, Classical.not_not] at c_3 c_9 c_22)
        clear hM hF C
        grind
set_option maxHeartbeats 1000000 in
theorem c_X20_isCard (l : Launch) (hl : l.stackTraces = false) (G : hp_G) (X : Nat → Nat) (N0 : Nat) (mo : Nat) (ad : Nat → Nat) (σ : MS) (M : hp_h) (hM : MH G mo ad σ M) (b : Int64) (hb : b = -1 ∨ ∃ n : Nat, n < 30 ∧ b = lN n) : HM l yX20_isCard (ws_ yX20_isCard cX20_isCard 3 (some .boolean)) 0 0 0 0 G X N0 [.ref mo, .long b] M (PV (.int (bI (mf_isCard σ b))) M) PX0 := by
  refine HM.of hl [(0, .ref mo), (1, .long b)] (by decide +kernel) rfl (Nat.le_of_ble_eq_true rfl) ?_
  intro p e s m args below meth c C hname
  have hF : MFr mo ad M M := MFr.rf
  refine V_lload_n C dX20_isCard_0 rfl 1 rfl ?_
  refine V_ldc2 (v := -1) C (C.w q1596) dX20_isCard_1 ?_
  refine V_lcmp C dX20_isCard_4 ?_
  refine V_if_eq (tgt := 18) C dX20_isCard_5 (by decide) (fun c_5 => ?_) (fun c_5 => ?_)
  · refine V_iconst (v := 1) C dX20_isCard_18 rfl ?_
    refine V_goto (tgt := 23) C dX20_isCard_19 (by decide) ?_
    refine V_zret C rfl dX20_isCard_23 rfl ?_ (by first | exact Nat.le_of_ble_eq_true rfl | omega | (dsimp only; omega)) (by first | exact Nat.le_of_ble_eq_true rfl | omega | (dsimp only; omega))
    refine ⟨congrArg (fun z => some (Value.int z)) (bI_t ?_), rfl⟩
    unfold mf_isCard
    (try simp only [lg_cmp_lt, lg_cmp_gt, lg_cmp_ge, lg_cmp_le, lg_cmp_eq, bI_0, Classical.not_not] at c_5)
    clear hM hF C
    grind
  · obtain ⟨hb1, hb2⟩ : b.toInt32 = nI b.toInt32.toNatClampNeg ∧ b.toInt32.toNatClampNeg < 30 := by
      rw [lg_cmp_eq] at c_5
      obtain h | ⟨n, hn, rfl⟩ := hb
      · exact absurd h c_5
      · rw [lN_i, nI_clamp (by omega)]; exact ⟨rfl, hn⟩
    refine V_aload_n C dX20_isCard_8 rfl 0 rfl ?_
    refine M_get C hM (.ref (ad 6)) f_X20_20_9 rfl dX20_isCard_9 ?_
    refine V_lload_n C dX20_isCard_12 rfl 1 rfl ?_
    refine V_l2i (v := b.toInt32) C dX20_isCard_13 rfl ?_
    refine M_iald C hM 6 b.toInt32.toNatClampNeg rfl hb1 hb2 dX20_isCard_14 ?_
    refine V_if_le (tgt := 22) C dX20_isCard_15 (by decide) (fun c_15 => ?_) (fun c_15 => ?_)
    · refine V_iconst (v := 0) C dX20_isCard_22 rfl ?_
      refine V_pc (pc1 := 23) rfl ?_
      refine V_zret C rfl dX20_isCard_23 rfl ?_ (by first | exact Nat.le_of_ble_eq_true rfl | omega | (dsimp only; omega)) (by first | exact Nat.le_of_ble_eq_true rfl | omega | (dsimp only; omega))
      refine ⟨congrArg (fun z => some (Value.int z)) (bI_f ?_), rfl⟩
      unfold mf_isCard
      (try simp only [lg_cmp_lt, lg_cmp_gt, lg_cmp_ge, lg_cmp_le, lg_cmp_eq, bI_0, Classical.not_not] at c_5 c_15)
      clear hM hF C
      grind
    · refine V_iconst (v := 1) C dX20_isCard_18 rfl ?_
      refine V_pc (pc1 := 19) rfl ?_
      refine V_goto (tgt := 23) C dX20_isCard_19 (by decide) ?_
      refine V_zret C rfl dX20_isCard_23 rfl ?_ (by first | exact Nat.le_of_ble_eq_true rfl | omega | (dsimp only; omega)) (by first | exact Nat.le_of_ble_eq_true rfl | omega | (dsimp only; omega))
      refine ⟨congrArg (fun z => some (Value.int z)) (bI_t ?_), rfl⟩
      unfold mf_isCard
      (try simp only [lg_cmp_lt, lg_cmp_gt, lg_cmp_ge, lg_cmp_le, lg_cmp_eq, bI_0, Classical.not_not] at c_5 c_15)
      clear hM hF C
      grind
set_option maxHeartbeats 1000000 in
theorem c_X20_hasRows (l : Launch) (hl : l.stackTraces = false) (G : hp_G) (X : Nat → Nat) (N0 : Nat) (mo : Nat) (ad : Nat → Nat) (σ : MS) (M : hp_h) (hM : MH G mo ad σ M) (h a b : Int32) : HM l yX20_hasRows (ws_ yX20_hasRows cX20_hasRows 4 (some .boolean)) 1 21 0 0 G X N0 [.ref mo, .int h, .int a, .int b] M (PV (.int (bI (mf_hasRows σ h a b))) M) PX0 := by
  refine HM.of hl [(0, .ref mo), (1, .int h), (2, .int a), (3, .int b)] (by decide +kernel) rfl (Nat.le_of_ble_eq_true rfl) ?_
  intro p e s m args below meth c C hname
  have hF : MFr mo ad M M := MFr.rf
  refine V_iload_n C dX20_hasRows_0 rfl 1 rfl ?_
  refine V_callS C (c_X20_needsRow l hl G X N0 M h) cs_X20_201 rfl rfl ⟨Nat.le_of_ble_eq_true rfl, Nat.le_of_ble_eq_true rfl⟩ ⟨(by first | exact Nat.le_of_ble_eq_true rfl | omega | (dsimp only; omega)), (by first | exact Nat.le_of_ble_eq_true rfl | omega | (dsimp only; omega))⟩ (Nat.le_of_ble_eq_true rfl) dX20_hasRows_1 (fun _ _ _ h => px0 h) ?_
  rintro _ _ ⟨rfl, rfl⟩
  refine V_st (st' := [.int (bI (h ≠ 10 ∧ h ≠ 11))]) rfl ?_
  refine V_if_eq (tgt := 15) C dX20_hasRows_4 (by decide) (fun c_4 => ?_) (fun c_4 => ?_)
  · refine V_iload_n C dX20_hasRows_15 rfl 1 rfl ?_
    refine V_callS C (c_X20_needsTwo l hl G X N0 M h) cs_X20_204 rfl rfl ⟨Nat.le_of_ble_eq_true rfl, Nat.le_of_ble_eq_true rfl⟩ ⟨(by first | exact Nat.le_of_ble_eq_true rfl | omega | (dsimp only; omega)), (by first | exact Nat.le_of_ble_eq_true rfl | omega | (dsimp only; omega))⟩ (Nat.le_of_ble_eq_true rfl) dX20_hasRows_16 (fun _ _ _ h => px0 h) ?_
    rintro _ _ ⟨rfl, rfl⟩
    refine V_st (st' := [.int (bI (h = 0 ∨ h = 3 ∨ h = 4))]) rfl ?_
    refine V_if_eq (tgt := 30) C dX20_hasRows_19 (by decide) (fun c_19 => ?_) (fun c_19 => ?_)
    · refine V_iconst (v := 1) C dX20_hasRows_30 rfl ?_
      refine V_goto (tgt := 35) C dX20_hasRows_31 (by decide) ?_
      refine V_zret C rfl dX20_hasRows_35 rfl ?_ (by first | exact Nat.le_of_ble_eq_true rfl | omega | (dsimp only; omega)) (by first | exact Nat.le_of_ble_eq_true rfl | omega | (dsimp only; omega))
      refine ⟨congrArg (fun z => some (Value.int z)) (bI_t ?_), rfl⟩
      unfold mf_hasRows
      (try simp only [lg_cmp_lt, lg_cmp_gt, lg_cmp_ge, lg_cmp_le, lg_cmp_eq, bI_0, Classical.not_not] at c_4 c_19)
      clear hM hF C
      grind
    · refine V_aload_n C dX20_hasRows_22 rfl 0 rfl ?_
      refine V_iload_n C dX20_hasRows_23 rfl 3 rfl ?_
      refine V_callV C (c_X20_isRow l hl G X N0 mo ad σ M hM b ) cs_X20_161_9 hM.1 (show CLS[9]? = some (RX20, TX20, 33) from rfl) rfl rfl ⟨Nat.le_of_ble_eq_true rfl, Nat.le_of_ble_eq_true rfl⟩ ⟨(by first | exact Nat.le_of_ble_eq_true rfl | omega | (dsimp only; omega)), (by first | exact Nat.le_of_ble_eq_true rfl | omega | (dsimp only; omega))⟩ (Nat.le_of_ble_eq_true rfl) dX20_hasRows_24 (fun _ _ _ h => px0 h) ?_
      rintro _ _ ⟨rfl, rfl⟩
      refine V_st (st' := [.int (bI (¬ b < 0 ∧ b < σ.1 1))]) rfl ?_
      refine V_if_eq (tgt := 34) C dX20_hasRows_27 (by decide) (fun c_27 => ?_) (fun c_27 => ?_)
      · refine V_iconst (v := 0) C dX20_hasRows_34 rfl ?_
        refine V_pc (pc1 := 35) rfl ?_
        refine V_zret C rfl dX20_hasRows_35 rfl ?_ (by first | exact Nat.le_of_ble_eq_true rfl | omega | (dsimp only; omega)) (by first | exact Nat.le_of_ble_eq_true rfl | omega | (dsimp only; omega))
        refine ⟨congrArg (fun z => some (Value.int z)) (bI_f ?_), rfl⟩
        unfold mf_hasRows
        (try simp only [lg_cmp_lt, lg_cmp_gt, lg_cmp_ge, lg_cmp_le, lg_cmp_eq, bI_0, Classical.not_not] at c_4 c_19 c_27)
        clear hM hF C
        grind
      · refine V_iconst (v := 1) C dX20_hasRows_30 rfl ?_
        refine V_pc (pc1 := 31) rfl ?_
        refine V_goto (tgt := 35) C dX20_hasRows_31 (by decide) ?_
        refine V_zret C rfl dX20_hasRows_35 rfl ?_ (by first | exact Nat.le_of_ble_eq_true rfl | omega | (dsimp only; omega)) (by first | exact Nat.le_of_ble_eq_true rfl | omega | (dsimp only; omega))
        refine ⟨congrArg (fun z => some (Value.int z)) (bI_t ?_), rfl⟩
        unfold mf_hasRows
        (try simp only [lg_cmp_lt, lg_cmp_gt, lg_cmp_ge, lg_cmp_le, lg_cmp_eq, bI_0, Classical.not_not] at c_4 c_19 c_27)
        clear hM hF C
        grind
  · refine V_aload_n C dX20_hasRows_7 rfl 0 rfl ?_
    refine V_iload_n C dX20_hasRows_8 rfl 2 rfl ?_
    refine V_callV C (c_X20_isRow l hl G X N0 mo ad σ M hM a ) cs_X20_161_9 hM.1 (show CLS[9]? = some (RX20, TX20, 33) from rfl) rfl rfl ⟨Nat.le_of_ble_eq_true rfl, Nat.le_of_ble_eq_true rfl⟩ ⟨(by first | exact Nat.le_of_ble_eq_true rfl | omega | (dsimp only; omega)), (by first | exact Nat.le_of_ble_eq_true rfl | omega | (dsimp only; omega))⟩ (Nat.le_of_ble_eq_true rfl) dX20_hasRows_9 (fun _ _ _ h => px0 h) ?_
    rintro _ _ ⟨rfl, rfl⟩
    refine V_st (st' := [.int (bI (¬ a < 0 ∧ a < σ.1 1))]) rfl ?_
    refine V_if_eq (tgt := 34) C dX20_hasRows_12 (by decide) (fun c_12 => ?_) (fun c_12 => ?_)
    · refine V_iconst (v := 0) C dX20_hasRows_34 rfl ?_
      refine V_zret C rfl dX20_hasRows_35 rfl ?_ (by first | exact Nat.le_of_ble_eq_true rfl | omega | (dsimp only; omega)) (by first | exact Nat.le_of_ble_eq_true rfl | omega | (dsimp only; omega))
      refine ⟨congrArg (fun z => some (Value.int z)) (bI_f ?_), rfl⟩
      unfold mf_hasRows
      (try simp only [lg_cmp_lt, lg_cmp_gt, lg_cmp_ge, lg_cmp_le, lg_cmp_eq, bI_0, Classical.not_not] at c_4 c_12)
      clear hM hF C
      grind
    · refine V_iload_n C dX20_hasRows_15 rfl 1 rfl ?_
      refine V_callS C (c_X20_needsTwo l hl G X N0 M h) cs_X20_204 rfl rfl ⟨Nat.le_of_ble_eq_true rfl, Nat.le_of_ble_eq_true rfl⟩ ⟨(by first | exact Nat.le_of_ble_eq_true rfl | omega | (dsimp only; omega)), (by first | exact Nat.le_of_ble_eq_true rfl | omega | (dsimp only; omega))⟩ (Nat.le_of_ble_eq_true rfl) dX20_hasRows_16 (fun _ _ _ h => px0 h) ?_
      rintro _ _ ⟨rfl, rfl⟩
      refine V_st (st' := [.int (bI (h = 0 ∨ h = 3 ∨ h = 4))]) rfl ?_
      refine V_if_eq (tgt := 30) C dX20_hasRows_19 (by decide) (fun c_19_2 => ?_) (fun c_19_2 => ?_)
      · refine V_iconst (v := 1) C dX20_hasRows_30 rfl ?_
        refine V_pc (pc1 := 31) rfl ?_
        refine V_goto (tgt := 35) C dX20_hasRows_31 (by decide) ?_
        refine V_zret C rfl dX20_hasRows_35 rfl ?_ (by first | exact Nat.le_of_ble_eq_true rfl | omega | (dsimp only; omega)) (by first | exact Nat.le_of_ble_eq_true rfl | omega | (dsimp only; omega))
        refine ⟨congrArg (fun z => some (Value.int z)) (bI_t ?_), rfl⟩
        unfold mf_hasRows
        (try simp only [lg_cmp_lt, lg_cmp_gt, lg_cmp_ge, lg_cmp_le, lg_cmp_eq, bI_0, Classical.not_not] at c_4 c_12 c_19_2)
        clear hM hF C
        grind
      · refine V_aload_n C dX20_hasRows_22 rfl 0 rfl ?_
        refine V_pc (pc1 := 23) rfl ?_
        refine V_iload_n C dX20_hasRows_23 rfl 3 rfl ?_
        refine V_callV C (c_X20_isRow l hl G X N0 mo ad σ M hM b ) cs_X20_161_9 hM.1 (show CLS[9]? = some (RX20, TX20, 33) from rfl) rfl rfl ⟨Nat.le_of_ble_eq_true rfl, Nat.le_of_ble_eq_true rfl⟩ ⟨(by first | exact Nat.le_of_ble_eq_true rfl | omega | (dsimp only; omega)), (by first | exact Nat.le_of_ble_eq_true rfl | omega | (dsimp only; omega))⟩ (Nat.le_of_ble_eq_true rfl) dX20_hasRows_24 (fun _ _ _ h => px0 h) ?_
        rintro _ _ ⟨rfl, rfl⟩
        refine V_st (st' := [.int (bI (¬ b < 0 ∧ b < σ.1 1))]) rfl ?_
        refine V_if_eq (tgt := 34) C dX20_hasRows_27 (by decide) (fun c_27_2 => ?_) (fun c_27_2 => ?_)
        · refine V_iconst (v := 0) C dX20_hasRows_34 rfl ?_
          refine V_zret C rfl dX20_hasRows_35 rfl ?_ (by first | exact Nat.le_of_ble_eq_true rfl | omega | (dsimp only; omega)) (by first | exact Nat.le_of_ble_eq_true rfl | omega | (dsimp only; omega))
          refine ⟨congrArg (fun z => some (Value.int z)) (bI_f ?_), rfl⟩
          unfold mf_hasRows
          (try simp only [lg_cmp_lt, lg_cmp_gt, lg_cmp_ge, lg_cmp_le, lg_cmp_eq, bI_0, Classical.not_not] at c_4 c_12 c_19_2 c_27_2)
          clear hM hF C
          grind
        · refine V_iconst (v := 1) C dX20_hasRows_30 rfl ?_
          refine V_goto (tgt := 35) C dX20_hasRows_31 (by decide) ?_
          refine V_zret C rfl dX20_hasRows_35 rfl ?_ (by first | exact Nat.le_of_ble_eq_true rfl | omega | (dsimp only; omega)) (by first | exact Nat.le_of_ble_eq_true rfl | omega | (dsimp only; omega))
          refine ⟨congrArg (fun z => some (Value.int z)) (bI_t ?_), rfl⟩
          unfold mf_hasRows
          (try simp only [lg_cmp_lt, lg_cmp_gt, lg_cmp_ge, lg_cmp_le, lg_cmp_eq, bI_0, Classical.not_not] at c_4 c_12 c_19_2 c_27_2)
          clear hM hF C
          grind
set_option maxHeartbeats 1000000 in
theorem c_X20_hasPlaces (l : Launch) (hl : l.stackTraces = false) (G : hp_G) (X : Nat → Nat) (N0 : Nat) (mo : Nat) (ad : Nat → Nat) (σ : MS) (M : hp_h) (hM : MH G mo ad σ M) (a : Nat) (ha : a < 60) (i n : Int32) : HM l yX20_hasPlaces (ws_ yX20_hasPlaces cX20_hasPlaces 4 (some .boolean)) 0 0 0 0 G X N0 [.ref mo, .int (nI a), .int i, .int n] M (PV (.int (bI (mf_places σ a i n))) M) PX0 := by
  refine HM.of hl [(0, .ref mo), (1, .int (nI a)), (2, .int i), (3, .int n)] (by decide +kernel) rfl (Nat.le_of_ble_eq_true rfl) ?_
  intro p e s m args below meth c C hname
  have hF : MFr mo ad M M := MFr.rf
  refine V_iload_n C dX20_hasPlaces_0 rfl 2 rfl ?_
  refine V_if_lt (tgt := 28) C dX20_hasPlaces_1 (by decide) (fun c_1 => ?_) (fun c_1 => ?_)
  · refine V_iconst (v := 0) C dX20_hasPlaces_28 rfl ?_
    refine V_zret C rfl dX20_hasPlaces_29 rfl ?_ (by first | exact Nat.le_of_ble_eq_true rfl | omega | (dsimp only; omega)) (by first | exact Nat.le_of_ble_eq_true rfl | omega | (dsimp only; omega))
    refine ⟨congrArg (fun z => some (Value.int z)) (bI_f ?_), rfl⟩
    unfold mf_places
    (try simp only [lg_cmp_lt, lg_cmp_gt, lg_cmp_ge, lg_cmp_le, lg_cmp_eq, bI_0, Classical.not_not] at c_1)
    clear hM hF C
    grind
  · refine V_iload_n C dX20_hasPlaces_4 rfl 3 rfl ?_
    refine V_if_lt (tgt := 28) C dX20_hasPlaces_5 (by decide) (fun c_5 => ?_) (fun c_5 => ?_)
    · refine V_iconst (v := 0) C dX20_hasPlaces_28 rfl ?_
      refine V_zret C rfl dX20_hasPlaces_29 rfl ?_ (by first | exact Nat.le_of_ble_eq_true rfl | omega | (dsimp only; omega)) (by first | exact Nat.le_of_ble_eq_true rfl | omega | (dsimp only; omega))
      refine ⟨congrArg (fun z => some (Value.int z)) (bI_f ?_), rfl⟩
      unfold mf_places
      (try simp only [lg_cmp_lt, lg_cmp_gt, lg_cmp_ge, lg_cmp_le, lg_cmp_eq, bI_0, Classical.not_not] at c_1 c_5)
      clear hM hF C
      grind
    · refine V_iload_n C dX20_hasPlaces_8 rfl 2 rfl ?_
      refine V_i2l (v := i.toInt64) C dX20_hasPlaces_9 rfl ?_
      refine V_iload_n C dX20_hasPlaces_10 rfl 3 rfl ?_
      refine V_i2l (v := n.toInt64) C dX20_hasPlaces_11 rfl ?_
      refine V_ladd C dX20_hasPlaces_12 ?_
      refine V_aload_n C dX20_hasPlaces_13 rfl 0 rfl ?_
      refine M_get C hM (.ref (ad 3)) f_X20_13_9 rfl dX20_hasPlaces_14 ?_
      refine V_pc (pc1 := 17) rfl ?_
      refine V_iload_n C dX20_hasPlaces_17 rfl 1 rfl ?_
      refine M_iald C hM 3 a rfl rfl ha dX20_hasPlaces_18 ?_
      refine V_i2l (v := (σ.2.1 3 a).toInt64) C dX20_hasPlaces_19 rfl ?_
      refine V_lcmp C dX20_hasPlaces_20 ?_
      refine V_if_gt (tgt := 28) C dX20_hasPlaces_21 (by decide) (fun c_21 => ?_) (fun c_21 => ?_)
      · refine V_iconst (v := 0) C dX20_hasPlaces_28 rfl ?_
        refine V_zret C rfl dX20_hasPlaces_29 rfl ?_ (by first | exact Nat.le_of_ble_eq_true rfl | omega | (dsimp only; omega)) (by first | exact Nat.le_of_ble_eq_true rfl | omega | (dsimp only; omega))
        refine ⟨congrArg (fun z => some (Value.int z)) (bI_f ?_), rfl⟩
        unfold mf_places
        (try simp only [lg_cmp_lt, lg_cmp_gt, lg_cmp_ge, lg_cmp_le, lg_cmp_eq, bI_0, Classical.not_not] at c_1 c_5 c_21)
        clear hM hF C
        grind
      · refine V_iconst (v := 1) C dX20_hasPlaces_24 rfl ?_
        refine V_goto (tgt := 29) C dX20_hasPlaces_25 (by decide) ?_
        refine V_zret C rfl dX20_hasPlaces_29 rfl ?_ (by first | exact Nat.le_of_ble_eq_true rfl | omega | (dsimp only; omega)) (by first | exact Nat.le_of_ble_eq_true rfl | omega | (dsimp only; omega))
        refine ⟨congrArg (fun z => some (Value.int z)) (bI_t ?_), rfl⟩
        unfold mf_places
        (try simp only [lg_cmp_lt, lg_cmp_gt, lg_cmp_ge, lg_cmp_le, lg_cmp_eq, bI_0, Classical.not_not] at c_1 c_5 c_21)
        clear hM hF C
        grind
set_option maxHeartbeats 1000000 in
theorem c_X20_answer (l : Launch) (hl : l.stackTraces = false) (G : hp_G) (X : Nat → Nat) (N0 : Nat) (mo : Nat) (ad : Nat → Nat) (σ : MS) (M : hp_h) (hM : MH G mo ad σ M) (k : Int32) : HM l yX20_answer (ws_ yX20_answer cX20_answer 2 (some .long)) 1 25 0 0 G X N0 [.ref mo, .int k] M (PV (.long (mf_answer σ k)) M) PX0 := by
  refine HM.of hl [(0, .ref mo), (1, .int k)] (by decide +kernel) rfl (Nat.le_of_ble_eq_true rfl) ?_
  intro p e s m args below meth c C hname
  have hF : MFr mo ad M M := MFr.rf
  refine V_iload_n C dX20_answer_0 rfl 1 rfl ?_
  refine V_i2l (v := k.toInt64) C dX20_answer_1 rfl ?_
  refine V_lconst (v := 0) C dX20_answer_2 rfl ?_
  refine V_ldc2 (v := 11) C (C.w q1821) dX20_answer_3 ?_
  refine V_callS C (c_X20_in l hl G X N0 M k.toInt64 0 11) cs_X20_123 rfl rfl ⟨Nat.le_of_ble_eq_true rfl, Nat.le_of_ble_eq_true rfl⟩ ⟨(by first | exact Nat.le_of_ble_eq_true rfl | omega | (dsimp only; omega)), (by first | exact Nat.le_of_ble_eq_true rfl | omega | (dsimp only; omega))⟩ (Nat.le_of_ble_eq_true rfl) dX20_answer_6 (fun _ _ _ h => px0 h) ?_
  rintro _ _ ⟨rfl, rfl⟩
  refine V_st (st' := [.int (bI (0 ≤ k.toInt64 ∧ k.toInt64 ≤ 11))]) rfl ?_
  refine V_if_eq (tgt := 29) C dX20_answer_9 (by decide) (fun c_9 => ?_) (fun c_9 => ?_)
  · refine V_ldc2 (v := -9223372036854775808) C (C.w q1673) dX20_answer_29 ?_
    refine V_lret C dX20_answer_32 rfl ?_ (by first | exact Nat.le_of_ble_eq_true rfl | omega | (dsimp only; omega)) (by first | exact Nat.le_of_ble_eq_true rfl | omega | (dsimp only; omega))
    refine ⟨congrArg (fun z => some (Value.long z)) ?_, rfl⟩
    unfold mf_answer
    (try simp only [lg_cmp_lt, lg_cmp_gt, lg_cmp_ge, lg_cmp_le, lg_cmp_eq, bI_0, Classical.not_not] at c_9)
    clear hM hF C
    grind
  · refine V_iload_n C dX20_answer_12 rfl 1 rfl ?_
    refine V_aload_n C dX20_answer_13 rfl 0 rfl ?_
    refine M_get C hM (.int (σ.1 30)) f_X20_70_9 rfl dX20_answer_14 ?_
    refine V_icmp_ge (tgt := 29) C dX20_answer_17 (by decide) (fun c_17 => ?_) (fun c_17 => ?_)
    · refine V_ldc2 (v := -9223372036854775808) C (C.w q1673) dX20_answer_29 ?_
      refine V_pc (pc1 := 32) rfl ?_
      refine V_lret C dX20_answer_32 rfl ?_ (by first | exact Nat.le_of_ble_eq_true rfl | omega | (dsimp only; omega)) (by first | exact Nat.le_of_ble_eq_true rfl | omega | (dsimp only; omega))
      refine ⟨congrArg (fun z => some (Value.long z)) ?_, rfl⟩
      unfold mf_answer
      (try simp only [lg_cmp_lt, lg_cmp_gt, lg_cmp_ge, lg_cmp_le, lg_cmp_eq, bI_0, Classical.not_not] at c_9 c_17)
      clear hM hF C
      grind
    · obtain ⟨hk1, hk2⟩ : k = nI k.toNatClampNeg ∧ k.toNatClampNeg < 12 := by
        simp only [bI_0, Classical.not_not] at c_9
        obtain ⟨n, h1, rfl⟩ := (in64 (k := 11) (by decide)).mp c_9
        rw [nI_clamp (by omega)]; exact ⟨rfl, by omega⟩
      refine V_aload_n C dX20_answer_20 rfl 0 rfl ?_
      refine V_pc (pc1 := 21) rfl ?_
      refine M_get C hM (.ref (ad 32)) f_X20_76_9 rfl dX20_answer_21 ?_
      refine V_iload_n C dX20_answer_24 rfl 1 rfl ?_
      refine M_lald C hM 32 k.toNatClampNeg rfl hk1 hk2 dX20_answer_25 ?_
      refine V_goto (tgt := 32) C dX20_answer_26 (by decide) ?_
      refine V_lret C dX20_answer_32 rfl ?_ (by first | exact Nat.le_of_ble_eq_true rfl | omega | (dsimp only; omega)) (by first | exact Nat.le_of_ble_eq_true rfl | omega | (dsimp only; omega))
      refine ⟨congrArg (fun z => some (Value.long z)) ?_, rfl⟩
      unfold mf_answer
      (try simp only [lg_cmp_lt, lg_cmp_gt, lg_cmp_ge, lg_cmp_le, lg_cmp_eq, bI_0, Classical.not_not] at c_9 c_17)
      clear hM hF C
      grind
