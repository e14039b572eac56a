set_option maxRecDepth 100000
def PV (w : Value) (M : hp_h) : Option Value → hp_h → Prop := fun v M' => v = some w ∧ M = M'
def PM (G : hp_G) (mo : Nat) (ad : Nat → Nat) (M : hp_h) (w : Option Value) (σ' : MS) : Option Value → hp_h → Prop := fun v M' => v = w ∧ MH G mo ad σ' M' ∧ MFr mo ad M M'
theorem px0 {q : Nat} {E : String} {M : hp_h} {P : Prop} (h : PX0 q E M) : P := False.elim h
def bI (P : Prop) [Decidable P] : Int32 := if P then 1 else 0
theorem bI_0 {P : Prop} [Decidable P] : bI P = 0 ↔ ¬ P := by unfold bI; split <;> simp_all
theorem bI_t {P : Prop} [Decidable P] (h : P) : (1 : Int32) = bI P := by simp [bI, h]
theorem bI_f {P : Prop} [Decidable P] (h : ¬ P) : (0 : Int32) = bI P := by simp [bI, h]
set_option maxHeartbeats 1000000 in
theorem c_X20_in (l : Launch) (hl : l.stackTraces = false) (G : hp_G) (X : Nat → Nat) (N0 : Nat) (M : hp_h) (v a b : Int64) : HM l yX20_in (ws_ yX20_in cX20_in 6 (some .boolean)) 0 0 0 0 G X N0 [.long v, .long a, .long b] M (PV (.int (bI (a ≤ v ∧ v ≤ b))) M) PX0 := by
  refine HM.of hl [(0, .long v), (2, .long a), (4, .long b)] (by decide +kernel) rfl (Nat.le_of_ble_eq_true rfl) ?_
  intro p e s m args below meth c C hname
  refine V_lload_n C dX20_in_0 rfl 0 rfl ?_
  refine V_lload_n C dX20_in_1 rfl 1 rfl ?_
  refine V_lcmp C dX20_in_2 ?_
  refine V_if_lt (tgt := 17) C dX20_in_3 (by decide) (fun c_3 => ?_) (fun c_3 => ?_)
  · refine V_iconst (v := 0) C dX20_in_17 rfl ?_
    refine V_zret C rfl dX20_in_18 rfl ?_ (by first | exact Nat.le_of_ble_eq_true rfl | omega | (dsimp only; omega)) (by first | exact Nat.le_of_ble_eq_true rfl | omega | (dsimp only; omega))
    exact ⟨congrArg (fun z => some (Value.int z)) (bI_f (by (try simp only [lg_cmp_lt, lg_cmp_gt, lg_cmp_ge, lg_cmp_le, lg_cmp_eq] at c_3); grind)), rfl⟩
  · refine V_lload_n C dX20_in_6 rfl 0 rfl ?_
    refine V_lload C dX20_in_7 2 rfl ?_
    refine V_lcmp C dX20_in_9 ?_
    refine V_if_gt (tgt := 17) C dX20_in_10 (by decide) (fun c_10 => ?_) (fun c_10 => ?_)
    · refine V_iconst (v := 0) C dX20_in_17 rfl ?_
      refine V_zret C rfl dX20_in_18 rfl ?_ (by first | exact Nat.le_of_ble_eq_true rfl | omega | (dsimp only; omega)) (by first | exact Nat.le_of_ble_eq_true rfl | omega | (dsimp only; omega))
      exact ⟨congrArg (fun z => some (Value.int z)) (bI_f (by (try simp only [lg_cmp_lt, lg_cmp_gt, lg_cmp_ge, lg_cmp_le, lg_cmp_eq] at c_3 c_10); grind)), rfl⟩
    · refine V_iconst (v := 1) C dX20_in_13 rfl ?_
      refine V_goto (tgt := 18) C dX20_in_14 (by decide) ?_
      refine V_zret C rfl dX20_in_18 rfl ?_ (by first | exact Nat.le_of_ble_eq_true rfl | omega | (dsimp only; omega)) (by first | exact Nat.le_of_ble_eq_true rfl | omega | (dsimp only; omega))
      exact ⟨congrArg (fun z => some (Value.int z)) (bI_t (by (try simp only [lg_cmp_lt, lg_cmp_gt, lg_cmp_ge, lg_cmp_le, lg_cmp_eq] at c_3 c_10); grind)), rfl⟩
set_option maxHeartbeats 1000000 in
theorem c_X20_isRow (l : Launch) (hl : l.stackTraces = false) (G : hp_G) (X : Nat → Nat) (N0 : Nat) (mo : Nat) (ad : Nat → Nat) (σ : MS) (M : hp_h) (hM : MH G mo ad σ M) (r : Int32) : HM l yX20_isRow (ws_ yX20_isRow cX20_isRow 2 (some .boolean)) 0 0 0 0 G X N0 [.ref mo, .int r] M (PV (.int (bI (¬ r < 0 ∧ r < σ.1 1))) M) PX0 := by
  refine HM.of hl [(0, .ref mo), (1, .int r)] (by decide +kernel) rfl (Nat.le_of_ble_eq_true rfl) ?_
  intro p e s m args below meth c C hname
  have hF : MFr mo ad M M := MFr.rf
  refine V_iload_n C dX20_isRow_0 rfl 1 rfl ?_
  refine V_if_lt (tgt := 16) C dX20_isRow_1 (by decide) (fun c_1 => ?_) (fun c_1 => ?_)
  · refine V_iconst (v := 0) C dX20_isRow_16 rfl ?_
    refine V_zret C rfl dX20_isRow_17 rfl ?_ (by first | exact Nat.le_of_ble_eq_true rfl | omega | (dsimp only; omega)) (by first | exact Nat.le_of_ble_eq_true rfl | omega | (dsimp only; omega))
    exact ⟨congrArg (fun z => some (Value.int z)) (bI_f (by (try simp only [lg_cmp_lt, lg_cmp_gt, lg_cmp_ge, lg_cmp_le, lg_cmp_eq] at c_1); grind)), rfl⟩
  · refine V_iload_n C dX20_isRow_4 rfl 1 rfl ?_
    refine V_aload_n C dX20_isRow_5 rfl 0 rfl ?_
    refine M_get C hM (.int (σ.1 1)) f_X20_103_9 rfl dX20_isRow_6 ?_
    refine V_icmp_ge (tgt := 16) C dX20_isRow_9 (by decide) (fun c_9 => ?_) (fun c_9 => ?_)
    · refine V_iconst (v := 0) C dX20_isRow_16 rfl ?_
      refine V_zret C rfl dX20_isRow_17 rfl ?_ (by first | exact Nat.le_of_ble_eq_true rfl | omega | (dsimp only; omega)) (by first | exact Nat.le_of_ble_eq_true rfl | omega | (dsimp only; omega))
      exact ⟨congrArg (fun z => some (Value.int z)) (bI_f (by (try simp only [lg_cmp_lt, lg_cmp_gt, lg_cmp_ge, lg_cmp_le, lg_cmp_eq] at c_1 c_9); grind)), rfl⟩
    · refine V_iconst (v := 1) C dX20_isRow_12 rfl ?_
      refine V_goto (tgt := 17) C dX20_isRow_13 (by decide) ?_
      refine V_zret C rfl dX20_isRow_17 rfl ?_ (by first | exact Nat.le_of_ble_eq_true rfl | omega | (dsimp only; omega)) (by first | exact Nat.le_of_ble_eq_true rfl | omega | (dsimp only; omega))
      exact ⟨congrArg (fun z => some (Value.int z)) (bI_t (by (try simp only [lg_cmp_lt, lg_cmp_gt, lg_cmp_ge, lg_cmp_le, lg_cmp_eq] at c_1 c_9); grind)), rfl⟩
set_option maxHeartbeats 1000000 in
theorem c_X20_needsRow (l : Launch) (hl : l.stackTraces = false) (G : hp_G) (X : Nat → Nat) (N0 : Nat) (M : hp_h) (r : Int32) : HM l yX20_needsRow (ws_ yX20_needsRow cX20_needsRow 1 (some .boolean)) 0 0 0 0 G X N0 [.int r] M (PV (.int (bI (r ≠ 10 ∧ r ≠ 11))) M) PX0 := by
  refine HM.of hl [(0, .int r)] (by decide +kernel) rfl (Nat.le_of_ble_eq_true rfl) ?_
  intro p e s m args below meth c C hname
  refine V_iload_n C dX20_needsRow_0 rfl 0 rfl ?_
  refine V_bipush (v := 10) C dX20_needsRow_1 rfl ?_
  refine V_icmp_eq (tgt := 16) C dX20_needsRow_3 (by decide) (fun c_3 => ?_) (fun c_3 => ?_)
  · refine V_iconst (v := 0) C dX20_needsRow_16 rfl ?_
    refine V_zret C rfl dX20_needsRow_17 rfl ?_ (by first | exact Nat.le_of_ble_eq_true rfl | omega | (dsimp only; omega)) (by first | exact Nat.le_of_ble_eq_true rfl | omega | (dsimp only; omega))
    exact ⟨congrArg (fun z => some (Value.int z)) (bI_f (by (try simp only [lg_cmp_lt, lg_cmp_gt, lg_cmp_ge, lg_cmp_le, lg_cmp_eq] at c_3); grind)), rfl⟩
  · refine V_iload_n C dX20_needsRow_6 rfl 0 rfl ?_
    refine V_bipush (v := 11) C dX20_needsRow_7 rfl ?_
    refine V_icmp_eq (tgt := 16) C dX20_needsRow_9 (by decide) (fun c_9 => ?_) (fun c_9 => ?_)
    · refine V_iconst (v := 0) C dX20_needsRow_16 rfl ?_
      refine V_zret C rfl dX20_needsRow_17 rfl ?_ (by first | exact Nat.le_of_ble_eq_true rfl | omega | (dsimp only; omega)) (by first | exact Nat.le_of_ble_eq_true rfl | omega | (dsimp only; omega))
      exact ⟨congrArg (fun z => some (Value.int z)) (bI_f (by (try simp only [lg_cmp_lt, lg_cmp_gt, lg_cmp_ge, lg_cmp_le, lg_cmp_eq] at c_3 c_9); grind)), rfl⟩
    · refine V_iconst (v := 1) C dX20_needsRow_12 rfl ?_
      refine V_goto (tgt := 17) C dX20_needsRow_13 (by decide) ?_
      refine V_zret C rfl dX20_needsRow_17 rfl ?_ (by first | exact Nat.le_of_ble_eq_true rfl | omega | (dsimp only; omega)) (by first | exact Nat.le_of_ble_eq_true rfl | omega | (dsimp only; omega))
      exact ⟨congrArg (fun z => some (Value.int z)) (bI_t (by (try simp only [lg_cmp_lt, lg_cmp_gt, lg_cmp_ge, lg_cmp_le, lg_cmp_eq] at c_3 c_9); grind)), rfl⟩
set_option maxHeartbeats 1000000 in
theorem c_X20_needsTwo (l : Launch) (hl : l.stackTraces = false) (G : hp_G) (X : Nat → Nat) (N0 : Nat) (M : hp_h) (r : Int32) : HM l yX20_needsTwo (ws_ yX20_needsTwo cX20_needsTwo 1 (some .boolean)) 0 0 0 0 G X N0 [.int r] M (PV (.int (bI (r = 0 ∨ r = 3 ∨ r = 4))) M) PX0 := by
  refine HM.of hl [(0, .int r)] (by decide +kernel) rfl (Nat.le_of_ble_eq_true rfl) ?_
  intro p e s m args below meth c C hname
  refine V_iload_n C dX20_needsTwo_0 rfl 0 rfl ?_
  refine V_if_eq (tgt := 14) C dX20_needsTwo_1 (by decide) (fun c_1 => ?_) (fun c_1 => ?_)
  · refine V_iconst (v := 1) C dX20_needsTwo_14 rfl ?_
    refine V_goto (tgt := 19) C dX20_needsTwo_15 (by decide) ?_
    refine V_zret C rfl dX20_needsTwo_19 rfl ?_ (by first | exact Nat.le_of_ble_eq_true rfl | omega | (dsimp only; omega)) (by first | exact Nat.le_of_ble_eq_true rfl | omega | (dsimp only; omega))
    exact ⟨congrArg (fun z => some (Value.int z)) (bI_t (by (try simp only [lg_cmp_lt, lg_cmp_gt, lg_cmp_ge, lg_cmp_le, lg_cmp_eq] at c_1); grind)), rfl⟩
  · refine V_iload_n C dX20_needsTwo_4 rfl 0 rfl ?_
    refine V_iconst (v := 3) C dX20_needsTwo_5 rfl ?_
    refine V_icmp_eq (tgt := 14) C dX20_needsTwo_6 (by decide) (fun c_6 => ?_) (fun c_6 => ?_)
    · refine V_iconst (v := 1) C dX20_needsTwo_14 rfl ?_
      refine V_goto (tgt := 19) C dX20_needsTwo_15 (by decide) ?_
      refine V_zret C rfl dX20_needsTwo_19 rfl ?_ (by first | exact Nat.le_of_ble_eq_true rfl | omega | (dsimp only; omega)) (by first | exact Nat.le_of_ble_eq_true rfl | omega | (dsimp only; omega))
      exact ⟨congrArg (fun z => some (Value.int z)) (bI_t (by (try simp only [lg_cmp_lt, lg_cmp_gt, lg_cmp_ge, lg_cmp_le, lg_cmp_eq] at c_1 c_6); grind)), rfl⟩
    · refine V_iload_n C dX20_needsTwo_9 rfl 0 rfl ?_
      refine V_iconst (v := 4) C dX20_needsTwo_10 rfl ?_
      refine V_icmp_ne (tgt := 18) C dX20_needsTwo_11 (by decide) (fun c_11 => ?_) (fun c_11 => ?_)
      · refine V_iconst (v := 0) C dX20_needsTwo_18 rfl ?_
        refine V_zret C rfl dX20_needsTwo_19 rfl ?_ (by first | exact Nat.le_of_ble_eq_true rfl | omega | (dsimp only; omega)) (by first | exact Nat.le_of_ble_eq_true rfl | omega | (dsimp only; omega))
        exact ⟨congrArg (fun z => some (Value.int z)) (bI_f (by (try simp only [lg_cmp_lt, lg_cmp_gt, lg_cmp_ge, lg_cmp_le, lg_cmp_eq] at c_1 c_6 c_11); grind)), rfl⟩
      · refine V_iconst (v := 1) C dX20_needsTwo_14 rfl ?_
        refine V_goto (tgt := 19) C dX20_needsTwo_15 (by decide) ?_
        refine V_zret C rfl dX20_needsTwo_19 rfl ?_ (by first | exact Nat.le_of_ble_eq_true rfl | omega | (dsimp only; omega)) (by first | exact Nat.le_of_ble_eq_true rfl | omega | (dsimp only; omega))
        exact ⟨congrArg (fun z => some (Value.int z)) (bI_t (by (try simp only [lg_cmp_lt, lg_cmp_gt, lg_cmp_ge, lg_cmp_le, lg_cmp_eq] at c_1 c_6 c_11); grind)), rfl⟩
set_option maxHeartbeats 1000000 in
theorem c_X20_thrown (l : Launch) (hl : l.stackTraces = false) (G : hp_G) (X : Nat → Nat) (N0 : Nat) (mo : Nat) (ad : Nat → Nat) (σ : MS) (M : hp_h) (hM : MH G mo ad σ M)  : HM l yX20_thrown (ws_ yX20_thrown cX20_thrown 1 (some .int)) 0 0 0 0 G X N0 [.ref mo] M (PV (.int (σ.1 0)) M) PX0 := by
  refine HM.of hl [(0, .ref mo)] (by decide +kernel) rfl (Nat.le_of_ble_eq_true rfl) ?_
  intro p e s m args below meth c C hname
  have hF : MFr mo ad M M := MFr.rf
  refine V_aload_n C dX20_thrown_0 rfl 0 rfl ?_
  refine M_get C hM (.int (σ.1 0)) f_X20_100_9 rfl dX20_thrown_1 ?_
  refine V_iret C dX20_thrown_4 rfl ?_ (by first | exact Nat.le_of_ble_eq_true rfl | omega | (dsimp only; omega)) (by first | exact Nat.le_of_ble_eq_true rfl | omega | (dsimp only; omega))
  exact ⟨rfl, rfl⟩
