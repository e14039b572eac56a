set_option maxRecDepth 100000
theorem dcmp_pinf {v : UInt64} : FP.dcmp v 9218868437227405312 = some .eq ↔ v = dINF := by
  constructor
  · intro z
    have hM : dD 9218868437227405312 = .inf false := by decide +kernel
    have z1 : FP.Core.order (dD v) (dD 9218868437227405312) = some .eq := z
    rw [hM] at z1
    cases hv : dD v with
    | nan => rw [hv] at z1; cases z1
    | inf s => have := dec_inf hv; cases s <;> rw [hv] at z1
               · exact this
               · exact absurd z1 (by decide)
    | fin s c q => rw [hv] at z1; exact absurd z1 (show ¬ (some (compare 0 (FP.Core.signed false 1)) = some Ordering.eq) by decide)
  · rintro rfl; decide +kernel
theorem dcmp_ninf {v : UInt64} : FP.dcmp v 18442240474082181120 = some .eq ↔ v = dNIN := by
  constructor
  · intro z
    have hM : dD 18442240474082181120 = .inf true := by decide +kernel
    have z1 : FP.Core.order (dD v) (dD 18442240474082181120) = some .eq := z
    rw [hM] at z1
    cases hv : dD v with
    | nan => rw [hv] at z1; cases z1
    | inf s => have := dec_inf hv; cases s <;> rw [hv] at z1
               · exact absurd z1 (by decide)
               · exact this
    | fin s c q => rw [hv] at z1; exact absurd z1 (show ¬ (some (compare 0 (FP.Core.signed true 1)) = some Ordering.eq) by decide)
  · rintro rfl; decide +kernel
theorem va_ldcwF {p : Program} {l : Launch} {e : Env} {R : Room} {s : State} {m : MethodId} {args : Array Value} {below : List Frame} {meth : Method} {c : Code} {locs : List Loc} {cells slots : Nat} {T : State} (X : Stand p l e R s m args below meth c T locs cells slots) (hexec : p.tables.exec = Jvm.exec) {own : String} {index : Nat} {v : UInt32} (hown : s.vm.findClass own = some m.cls)
    (hconst : (Cond.constantFloat own index v).before args s = true) {g : JFrame} (hg : g.method = m) (hdg : decode c.code g.pc = .ok (.ldc_w index, 3)) :
    ∀ target, Steps p.tables e below (T.setTop { g with pc := g.pc + 3, stack := .float v :: g.stack }) target → Steps p.tables e below (T.setTop g) target := by
  obtain ⟨k, cf, hk, hcf, hcp⟩ := Cond.constantFloat_spec hown hconst
  obtain ⟨k', hk', he⟩ := X.warmed.alike.2.2 _ _ hk
  intro target hrest
  subst hg
  jvm_step X.here [hexec, hdg, ldc_w.wp_float (s := T) (f := g) X.here.top hk' (by rw [he]; exact hcf) hcp]
  exact hrest
theorem V_ldcwF {p : Program} {l : Launch} {e : Env} {R : Room} {s : State} {m : MethodId} {args : Array Value} {below : List Frame} {meth : Method} {c : Code} {cc : ByteArray} {own : String} {nL : Nat} {ret : Option FieldType} {hh : List (Nat × Nat × Nat × Nat)} {G : hp_G} {X : Nat → Nat} {N0 : Nat} {Q : State → Prop} {cells slots : Nat} {M : hp_h} {pc : Nat} {L : List (Nat × Value)} {rest : List Value} (C : Cx p l s m args meth c cc own nL ret hh G X N0) {index : Nat} {v : UInt32} (hconst : (Jvm.Cond.constantFloat own index v).before args s = true) (hdg : decode cc pc = .ok (.ldc_w index, 3)) (k : V p l e R s m args below meth c G N0 nL Q cells slots M (pc + 3) L (.float v :: rest)) : V p l e R s m args below meth c G N0 nL Q cells slots M pc L rest := by
  intro ls H locs hL hP hS T hT X
  obtain ⟨t, a, b⟩ := k ls H locs hL hP hS T hT X
  exact ⟨t, va_ldcwF X C.1 C.2.2.2.1 hconst (g := F0 m pc ls rest) rfl (by rw [C.2.1]; exact hdg) t a, b⟩
theorem dneg_pinf : FP.dneg dINF = dNIN := by decide +kernel
theorem dneg_ninf : FP.dneg dNIN = dINF := by decide +kernel
set_option maxHeartbeats 1000000 in
theorem c_X1_kindOf_0 (l : Launch) (hl : l.stackTraces = false) (G : hp_G) (X : Nat → Nat) (N0 : Nat) (M : hp_h) (a : Nat) (x : vp_A) (ha : M a = some (.inl (G.2 0, x))) : HM l yX1_kindOf (ws_ yX1_kindOf cX1_kindOf 1 (some .int)) 1 21 0 0 G X N0 [.ref a] M (PV (.int 0) M) PX0 := by
  refine HM.of hl [(0, .ref a)] (by decide +kernel) rfl (Nat.le_of_ble_eq_true rfl) ?_
  intro p e s m args below meth c C hname
  refine V_aload_n C dX1_kindOf_0 rfl 0 rfl ?_
  refine V_instAN C (j := 0) (nm := "[LNativeSubset$Unit;") (by decide) q605 (List.mem_of_getElem? (i := 7) rfl) ha dX1_kindOf_1 ?_
  refine V_if_eq (tgt := 22) C dX1_kindOf_4 (by decide) (fun c_4 => ?_) (fun c_4 => ?_)
  · refine V_aload_n C dX1_kindOf_22 rfl 0 rfl ?_
    refine V_instAY C (j := 0) (by decide) q607 (Or.inl rfl) ha dX1_kindOf_23 ?_
    refine V_if_ne (tgt := 36) C dX1_kindOf_26 (by decide) (fun c_26 => ?_) (fun c_26 => ?_)
    · refine V_aload_n C dX1_kindOf_36 rfl 0 rfl ?_
      refine V_instAN C (j := 0) (nm := "[B") (by decide) q608 (List.mem_of_getElem? (i := 0) rfl) ha dX1_kindOf_37 ?_
      refine V_if_eq (tgt := 47) C dX1_kindOf_40 (by decide) (fun c_40 => ?_) (fun c_40 => ?_)
      · refine V_iconst (v := 0) C dX1_kindOf_47 rfl ?_
        refine V_iret C dX1_kindOf_48 rfl ?_ (by first | exact Nat.le_of_ble_eq_true rfl | omega | (dsimp only; omega)) (by first | exact Nat.le_of_ble_eq_true rfl | omega | (dsimp only; omega))
        exact ⟨rfl, rfl⟩
      · exact absurd c_40 (by decide)
    · exact absurd c_26 (by decide)
  · exact absurd c_4 (by decide)
set_option maxHeartbeats 1000000 in
theorem c_X1_kindOf_1 (l : Launch) (hl : l.stackTraces = false) (G : hp_G) (X : Nat → Nat) (N0 : Nat) (M : hp_h) (a : Nat) (x : vp_A) (ha : M a = some (.inl (G.2 1, x))) : HM l yX1_kindOf (ws_ yX1_kindOf cX1_kindOf 1 (some .int)) 1 21 0 0 G X N0 [.ref a] M (PV (.int 1) M) PX0 := by
  refine HM.of hl [(0, .ref a)] (by decide +kernel) rfl (Nat.le_of_ble_eq_true rfl) ?_
  intro p e s m args below meth c C hname
  refine V_aload_n C dX1_kindOf_0 rfl 0 rfl ?_
  refine V_instAN C (j := 1) (nm := "[LNativeSubset$Unit;") (by decide) q605 (List.mem_of_getElem? (i := 17) rfl) ha dX1_kindOf_1 ?_
  refine V_if_eq (tgt := 22) C dX1_kindOf_4 (by decide) (fun c_4 => ?_) (fun c_4 => ?_)
  · refine V_aload_n C dX1_kindOf_22 rfl 0 rfl ?_
    refine V_instAN C (j := 1) (nm := "[Z") (by decide) q607 (List.mem_of_getElem? (i := 10) rfl) ha dX1_kindOf_23 ?_
    refine V_if_ne (tgt := 36) C dX1_kindOf_26 (by decide) (fun c_26 => ?_) (fun c_26 => ?_)
    · exact absurd c_26 (by decide)
    · refine V_aload_n C dX1_kindOf_29 rfl 0 rfl ?_
      refine V_instAY C (j := 1) (by decide) q608 (Or.inl rfl) ha dX1_kindOf_30 ?_
      refine V_if_eq (tgt := 49) C dX1_kindOf_33 (by decide) (fun c_33 => ?_) (fun c_33 => ?_)
      · exact absurd c_33 (by decide)
      · refine V_aload_n C dX1_kindOf_36 rfl 0 rfl ?_
        refine V_instAY C (j := 1) (by decide) q608 (Or.inl rfl) ha dX1_kindOf_37 ?_
        refine V_pc (pc1 := 40) rfl ?_
        refine V_if_eq (tgt := 47) C dX1_kindOf_40 (by decide) (fun c_40 => ?_) (fun c_40 => ?_)
        · exact absurd c_40 (by decide)
        · refine V_iconst (v := 1) C dX1_kindOf_43 rfl ?_
          refine V_goto (tgt := 48) C dX1_kindOf_44 (by decide) ?_
          refine V_iret C dX1_kindOf_48 rfl ?_ (by first | exact Nat.le_of_ble_eq_true rfl | omega | (dsimp only; omega)) (by first | exact Nat.le_of_ble_eq_true rfl | omega | (dsimp only; omega))
          exact ⟨rfl, rfl⟩
  · exact absurd c_4 (by decide)
set_option maxHeartbeats 1000000 in
theorem c_X1_kindOf_2 (l : Launch) (hl : l.stackTraces = false) (G : hp_G) (X : Nat → Nat) (N0 : Nat) (M : hp_h) (a : Nat) (x : vp_A) (ha : M a = some (.inl (G.2 2, x))) : HM l yX1_kindOf (ws_ yX1_kindOf cX1_kindOf 1 (some .int)) 1 21 0 0 G X N0 [.ref a] M (PV (.int 2) M) PX0 := by
  refine HM.of hl [(0, .ref a)] (by decide +kernel) rfl (Nat.le_of_ble_eq_true rfl) ?_
  intro p e s m args below meth c C hname
  refine V_aload_n C dX1_kindOf_0 rfl 0 rfl ?_
  refine V_instAN C (j := 2) (nm := "[LNativeSubset$Unit;") (by decide) q605 (List.mem_of_getElem? (i := 27) rfl) ha dX1_kindOf_1 ?_
  refine V_if_eq (tgt := 22) C dX1_kindOf_4 (by decide) (fun c_4 => ?_) (fun c_4 => ?_)
  · refine V_aload_n C dX1_kindOf_22 rfl 0 rfl ?_
    refine V_instAN C (j := 2) (nm := "[Z") (by decide) q607 (List.mem_of_getElem? (i := 20) rfl) ha dX1_kindOf_23 ?_
    refine V_if_ne (tgt := 36) C dX1_kindOf_26 (by decide) (fun c_26 => ?_) (fun c_26 => ?_)
    · exact absurd c_26 (by decide)
    · refine V_aload_n C dX1_kindOf_29 rfl 0 rfl ?_
      refine V_instAN C (j := 2) (nm := "[B") (by decide) q608 (List.mem_of_getElem? (i := 21) rfl) ha dX1_kindOf_30 ?_
      refine V_if_eq (tgt := 49) C dX1_kindOf_33 (by decide) (fun c_33 => ?_) (fun c_33 => ?_)
      · refine V_aload_n C dX1_kindOf_49 rfl 0 rfl ?_
        refine V_instAY C (j := 2) (by decide) q609 (Or.inl rfl) ha dX1_kindOf_50 ?_
        refine V_pc (pc1 := 53) rfl ?_
        refine V_if_ne (tgt := 63) C dX1_kindOf_53 (by decide) (fun c_53 => ?_) (fun c_53 => ?_)
        · refine V_aload_n C dX1_kindOf_63 rfl 0 rfl ?_
          refine V_instAY C (j := 2) (by decide) q609 (Or.inl rfl) ha dX1_kindOf_64 ?_
          refine V_if_eq (tgt := 74) C dX1_kindOf_67 (by decide) (fun c_67 => ?_) (fun c_67 => ?_)
          · exact absurd c_67 (by decide)
          · refine V_iconst (v := 2) C dX1_kindOf_70 rfl ?_
            refine V_goto (tgt := 75) C dX1_kindOf_71 (by decide) ?_
            refine V_iret C dX1_kindOf_75 rfl ?_ (by first | exact Nat.le_of_ble_eq_true rfl | omega | (dsimp only; omega)) (by first | exact Nat.le_of_ble_eq_true rfl | omega | (dsimp only; omega))
            exact ⟨rfl, rfl⟩
        · exact absurd c_53 (by decide)
      · exact absurd c_33 (by decide)
  · exact absurd c_4 (by decide)
set_option maxHeartbeats 1000000 in
theorem c_X1_kindOf_3 (l : Launch) (hl : l.stackTraces = false) (G : hp_G) (X : Nat → Nat) (N0 : Nat) (M : hp_h) (a : Nat) (x : vp_A) (ha : M a = some (.inl (G.2 3, x))) : HM l yX1_kindOf (ws_ yX1_kindOf cX1_kindOf 1 (some .int)) 1 21 0 0 G X N0 [.ref a] M (PV (.int 3) M) PX0 := by
  refine HM.of hl [(0, .ref a)] (by decide +kernel) rfl (Nat.le_of_ble_eq_true rfl) ?_
  intro p e s m args below meth c C hname
  refine V_aload_n C dX1_kindOf_0 rfl 0 rfl ?_
  refine V_instAN C (j := 3) (nm := "[LNativeSubset$Unit;") (by decide) q605 (List.mem_of_getElem? (i := 37) rfl) ha dX1_kindOf_1 ?_
  refine V_if_eq (tgt := 22) C dX1_kindOf_4 (by decide) (fun c_4 => ?_) (fun c_4 => ?_)
  · refine V_aload_n C dX1_kindOf_22 rfl 0 rfl ?_
    refine V_instAN C (j := 3) (nm := "[Z") (by decide) q607 (List.mem_of_getElem? (i := 30) rfl) ha dX1_kindOf_23 ?_
    refine V_if_ne (tgt := 36) C dX1_kindOf_26 (by decide) (fun c_26 => ?_) (fun c_26 => ?_)
    · exact absurd c_26 (by decide)
    · refine V_aload_n C dX1_kindOf_29 rfl 0 rfl ?_
      refine V_instAN C (j := 3) (nm := "[B") (by decide) q608 (List.mem_of_getElem? (i := 31) rfl) ha dX1_kindOf_30 ?_
      refine V_if_eq (tgt := 49) C dX1_kindOf_33 (by decide) (fun c_33 => ?_) (fun c_33 => ?_)
      · refine V_aload_n C dX1_kindOf_49 rfl 0 rfl ?_
        refine V_instAN C (j := 3) (nm := "[C") (by decide) q609 (List.mem_of_getElem? (i := 32) rfl) ha dX1_kindOf_50 ?_
        refine V_pc (pc1 := 53) rfl ?_
        refine V_if_ne (tgt := 63) C dX1_kindOf_53 (by decide) (fun c_53 => ?_) (fun c_53 => ?_)
        · exact absurd c_53 (by decide)
        · refine V_aload_n C dX1_kindOf_56 rfl 0 rfl ?_
          refine V_instAY C (j := 3) (by decide) q610 (Or.inl rfl) ha dX1_kindOf_57 ?_
          refine V_if_eq (tgt := 76) C dX1_kindOf_60 (by decide) (fun c_60 => ?_) (fun c_60 => ?_)
          · exact absurd c_60 (by decide)
          · refine V_aload_n C dX1_kindOf_63 rfl 0 rfl ?_
            refine V_instAN C (j := 3) (nm := "[C") (by decide) q609 (List.mem_of_getElem? (i := 32) rfl) ha dX1_kindOf_64 ?_
            refine V_if_eq (tgt := 74) C dX1_kindOf_67 (by decide) (fun c_67 => ?_) (fun c_67 => ?_)
            · refine V_iconst (v := 3) C dX1_kindOf_74 rfl ?_
              refine V_iret C dX1_kindOf_75 rfl ?_ (by first | exact Nat.le_of_ble_eq_true rfl | omega | (dsimp only; omega)) (by first | exact Nat.le_of_ble_eq_true rfl | omega | (dsimp only; omega))
              exact ⟨rfl, rfl⟩
            · exact absurd c_67 (by decide)
      · exact absurd c_33 (by decide)
  · exact absurd c_4 (by decide)
set_option maxHeartbeats 1000000 in
theorem c_X1_kindOf_4 (l : Launch) (hl : l.stackTraces = false) (G : hp_G) (X : Nat → Nat) (N0 : Nat) (M : hp_h) (a : Nat) (x : vp_A) (ha : M a = some (.inl (G.2 4, x))) : HM l yX1_kindOf (ws_ yX1_kindOf cX1_kindOf 1 (some .int)) 1 21 0 0 G X N0 [.ref a] M (PV (.int 4) M) PX0 := by
  refine HM.of hl [(0, .ref a)] (by decide +kernel) rfl (Nat.le_of_ble_eq_true rfl) ?_
  intro p e s m args below meth c C hname
  refine V_aload_n C dX1_kindOf_0 rfl 0 rfl ?_
  refine V_instAN C (j := 4) (nm := "[LNativeSubset$Unit;") (by decide) q605 (List.mem_of_getElem? (i := 47) rfl) ha dX1_kindOf_1 ?_
  refine V_if_eq (tgt := 22) C dX1_kindOf_4 (by decide) (fun c_4 => ?_) (fun c_4 => ?_)
  · refine V_aload_n C dX1_kindOf_22 rfl 0 rfl ?_
    refine V_instAN C (j := 4) (nm := "[Z") (by decide) q607 (List.mem_of_getElem? (i := 40) rfl) ha dX1_kindOf_23 ?_
    refine V_if_ne (tgt := 36) C dX1_kindOf_26 (by decide) (fun c_26 => ?_) (fun c_26 => ?_)
    · exact absurd c_26 (by decide)
    · refine V_aload_n C dX1_kindOf_29 rfl 0 rfl ?_
      refine V_instAN C (j := 4) (nm := "[B") (by decide) q608 (List.mem_of_getElem? (i := 41) rfl) ha dX1_kindOf_30 ?_
      refine V_if_eq (tgt := 49) C dX1_kindOf_33 (by decide) (fun c_33 => ?_) (fun c_33 => ?_)
      · refine V_aload_n C dX1_kindOf_49 rfl 0 rfl ?_
        refine V_instAN C (j := 4) (nm := "[C") (by decide) q609 (List.mem_of_getElem? (i := 42) rfl) ha dX1_kindOf_50 ?_
        refine V_pc (pc1 := 53) rfl ?_
        refine V_if_ne (tgt := 63) C dX1_kindOf_53 (by decide) (fun c_53 => ?_) (fun c_53 => ?_)
        · exact absurd c_53 (by decide)
        · refine V_aload_n C dX1_kindOf_56 rfl 0 rfl ?_
          refine V_instAN C (j := 4) (nm := "[S") (by decide) q610 (List.mem_of_getElem? (i := 43) rfl) ha dX1_kindOf_57 ?_
          refine V_if_eq (tgt := 76) C dX1_kindOf_60 (by decide) (fun c_60 => ?_) (fun c_60 => ?_)
          · refine V_aload_n C dX1_kindOf_76 rfl 0 rfl ?_
            refine V_instAY C (j := 4) (by decide) q458 (Or.inl rfl) ha dX1_kindOf_77 ?_
            refine V_if_ne (tgt := 90) C dX1_kindOf_80 (by decide) (fun c_80 => ?_) (fun c_80 => ?_)
            · refine V_aload_n C dX1_kindOf_90 rfl 0 rfl ?_
              refine V_instAY C (j := 4) (by decide) q458 (Or.inl rfl) ha dX1_kindOf_91 ?_
              refine V_if_eq (tgt := 101) C dX1_kindOf_94 (by decide) (fun c_94 => ?_) (fun c_94 => ?_)
              · exact absurd c_94 (by decide)
              · refine V_iconst (v := 4) C dX1_kindOf_97 rfl ?_
                refine V_goto (tgt := 102) C dX1_kindOf_98 (by decide) ?_
                refine V_pc (pc1 := 102) rfl ?_
                refine V_iret C dX1_kindOf_102 rfl ?_ (by first | exact Nat.le_of_ble_eq_true rfl | omega | (dsimp only; omega)) (by first | exact Nat.le_of_ble_eq_true rfl | omega | (dsimp only; omega))
                exact ⟨rfl, rfl⟩
            · exact absurd c_80 (by decide)
          · exact absurd c_60 (by decide)
      · exact absurd c_33 (by decide)
  · exact absurd c_4 (by decide)
set_option maxHeartbeats 1000000 in
theorem c_X1_kindOf_5 (l : Launch) (hl : l.stackTraces = false) (G : hp_G) (X : Nat → Nat) (N0 : Nat) (M : hp_h) (a : Nat) (x : vp_A) (ha : M a = some (.inl (G.2 5, x))) : HM l yX1_kindOf (ws_ yX1_kindOf cX1_kindOf 1 (some .int)) 1 21 0 0 G X N0 [.ref a] M (PV (.int 5) M) PX0 := by
  refine HM.of hl [(0, .ref a)] (by decide +kernel) rfl (Nat.le_of_ble_eq_true rfl) ?_
  intro p e s m args below meth c C hname
  refine V_aload_n C dX1_kindOf_0 rfl 0 rfl ?_
  refine V_instAN C (j := 5) (nm := "[LNativeSubset$Unit;") (by decide) q605 (List.mem_of_getElem? (i := 57) rfl) ha dX1_kindOf_1 ?_
  refine V_if_eq (tgt := 22) C dX1_kindOf_4 (by decide) (fun c_4 => ?_) (fun c_4 => ?_)
  · refine V_aload_n C dX1_kindOf_22 rfl 0 rfl ?_
    refine V_instAN C (j := 5) (nm := "[Z") (by decide) q607 (List.mem_of_getElem? (i := 50) rfl) ha dX1_kindOf_23 ?_
    refine V_if_ne (tgt := 36) C dX1_kindOf_26 (by decide) (fun c_26 => ?_) (fun c_26 => ?_)
    · exact absurd c_26 (by decide)
    · refine V_aload_n C dX1_kindOf_29 rfl 0 rfl ?_
      refine V_instAN C (j := 5) (nm := "[B") (by decide) q608 (List.mem_of_getElem? (i := 51) rfl) ha dX1_kindOf_30 ?_
      refine V_if_eq (tgt := 49) C dX1_kindOf_33 (by decide) (fun c_33 => ?_) (fun c_33 => ?_)
      · refine V_aload_n C dX1_kindOf_49 rfl 0 rfl ?_
        refine V_instAN C (j := 5) (nm := "[C") (by decide) q609 (List.mem_of_getElem? (i := 52) rfl) ha dX1_kindOf_50 ?_
        refine V_pc (pc1 := 53) rfl ?_
        refine V_if_ne (tgt := 63) C dX1_kindOf_53 (by decide) (fun c_53 => ?_) (fun c_53 => ?_)
        · exact absurd c_53 (by decide)
        · refine V_aload_n C dX1_kindOf_56 rfl 0 rfl ?_
          refine V_instAN C (j := 5) (nm := "[S") (by decide) q610 (List.mem_of_getElem? (i := 53) rfl) ha dX1_kindOf_57 ?_
          refine V_if_eq (tgt := 76) C dX1_kindOf_60 (by decide) (fun c_60 => ?_) (fun c_60 => ?_)
          · refine V_aload_n C dX1_kindOf_76 rfl 0 rfl ?_
            refine V_instAN C (j := 5) (nm := "[I") (by decide) q458 (List.mem_of_getElem? (i := 54) rfl) ha dX1_kindOf_77 ?_
            refine V_if_ne (tgt := 90) C dX1_kindOf_80 (by decide) (fun c_80 => ?_) (fun c_80 => ?_)
            · exact absurd c_80 (by decide)
            · refine V_aload_n C dX1_kindOf_83 rfl 0 rfl ?_
              refine V_instAY C (j := 5) (by decide) q611 (Or.inl rfl) ha dX1_kindOf_84 ?_
              refine V_if_eq (tgt := 103) C dX1_kindOf_87 (by decide) (fun c_87 => ?_) (fun c_87 => ?_)
              · exact absurd c_87 (by decide)
              · refine V_aload_n C dX1_kindOf_90 rfl 0 rfl ?_
                refine V_instAN C (j := 5) (nm := "[I") (by decide) q458 (List.mem_of_getElem? (i := 54) rfl) ha dX1_kindOf_91 ?_
                refine V_pc (pc1 := 94) rfl ?_
                refine V_if_eq (tgt := 101) C dX1_kindOf_94 (by decide) (fun c_94 => ?_) (fun c_94 => ?_)
                · refine V_iconst (v := 5) C dX1_kindOf_101 rfl ?_
                  refine V_iret C dX1_kindOf_102 rfl ?_ (by first | exact Nat.le_of_ble_eq_true rfl | omega | (dsimp only; omega)) (by first | exact Nat.le_of_ble_eq_true rfl | omega | (dsimp only; omega))
                  exact ⟨rfl, rfl⟩
                · exact absurd c_94 (by decide)
          · exact absurd c_60 (by decide)
      · exact absurd c_33 (by decide)
  · exact absurd c_4 (by decide)
set_option maxHeartbeats 1000000 in
theorem c_X1_kindOf_6 (l : Launch) (hl : l.stackTraces = false) (G : hp_G) (X : Nat → Nat) (N0 : Nat) (M : hp_h) (a : Nat) (x : vp_A) (ha : M a = some (.inl (G.2 6, x))) : HM l yX1_kindOf (ws_ yX1_kindOf cX1_kindOf 1 (some .int)) 1 21 0 0 G X N0 [.ref a] M (PV (.int 6) M) PX0 := by
  refine HM.of hl [(0, .ref a)] (by decide +kernel) rfl (Nat.le_of_ble_eq_true rfl) ?_
  intro p e s m args below meth c C hname
  refine V_aload_n C dX1_kindOf_0 rfl 0 rfl ?_
  refine V_instAN C (j := 6) (nm := "[LNativeSubset$Unit;") (by decide) q605 (List.mem_of_getElem? (i := 67) rfl) ha dX1_kindOf_1 ?_
  refine V_if_eq (tgt := 22) C dX1_kindOf_4 (by decide) (fun c_4 => ?_) (fun c_4 => ?_)
  · refine V_aload_n C dX1_kindOf_22 rfl 0 rfl ?_
    refine V_instAN C (j := 6) (nm := "[Z") (by decide) q607 (List.mem_of_getElem? (i := 60) rfl) ha dX1_kindOf_23 ?_
    refine V_if_ne (tgt := 36) C dX1_kindOf_26 (by decide) (fun c_26 => ?_) (fun c_26 => ?_)
    · exact absurd c_26 (by decide)
    · refine V_aload_n C dX1_kindOf_29 rfl 0 rfl ?_
      refine V_instAN C (j := 6) (nm := "[B") (by decide) q608 (List.mem_of_getElem? (i := 61) rfl) ha dX1_kindOf_30 ?_
      refine V_if_eq (tgt := 49) C dX1_kindOf_33 (by decide) (fun c_33 => ?_) (fun c_33 => ?_)
      · refine V_aload_n C dX1_kindOf_49 rfl 0 rfl ?_
        refine V_instAN C (j := 6) (nm := "[C") (by decide) q609 (List.mem_of_getElem? (i := 62) rfl) ha dX1_kindOf_50 ?_
        refine V_pc (pc1 := 53) rfl ?_
        refine V_if_ne (tgt := 63) C dX1_kindOf_53 (by decide) (fun c_53 => ?_) (fun c_53 => ?_)
        · exact absurd c_53 (by decide)
        · refine V_aload_n C dX1_kindOf_56 rfl 0 rfl ?_
          refine V_instAN C (j := 6) (nm := "[S") (by decide) q610 (List.mem_of_getElem? (i := 63) rfl) ha dX1_kindOf_57 ?_
          refine V_if_eq (tgt := 76) C dX1_kindOf_60 (by decide) (fun c_60 => ?_) (fun c_60 => ?_)
          · refine V_aload_n C dX1_kindOf_76 rfl 0 rfl ?_
            refine V_instAN C (j := 6) (nm := "[I") (by decide) q458 (List.mem_of_getElem? (i := 64) rfl) ha dX1_kindOf_77 ?_
            refine V_if_ne (tgt := 90) C dX1_kindOf_80 (by decide) (fun c_80 => ?_) (fun c_80 => ?_)
            · exact absurd c_80 (by decide)
            · refine V_aload_n C dX1_kindOf_83 rfl 0 rfl ?_
              refine V_instAN C (j := 6) (nm := "[J") (by decide) q611 (List.mem_of_getElem? (i := 65) rfl) ha dX1_kindOf_84 ?_
              refine V_if_eq (tgt := 103) C dX1_kindOf_87 (by decide) (fun c_87 => ?_) (fun c_87 => ?_)
              · refine V_aload_n C dX1_kindOf_103 rfl 0 rfl ?_
                refine V_instAY C (j := 6) (by decide) q612 (Or.inl rfl) ha dX1_kindOf_104 ?_
                refine V_pc (pc1 := 107) rfl ?_
                refine V_if_eq (tgt := 115) C dX1_kindOf_107 (by decide) (fun c_107 => ?_) (fun c_107 => ?_)
                · exact absurd c_107 (by decide)
                · refine V_bipush (v := 6) C dX1_kindOf_110 rfl ?_
                  refine V_goto (tgt := 129) C dX1_kindOf_112 (by decide) ?_
                  refine V_iret C dX1_kindOf_129 rfl ?_ (by first | exact Nat.le_of_ble_eq_true rfl | omega | (dsimp only; omega)) (by first | exact Nat.le_of_ble_eq_true rfl | omega | (dsimp only; omega))
                  exact ⟨rfl, rfl⟩
              · exact absurd c_87 (by decide)
          · exact absurd c_60 (by decide)
      · exact absurd c_33 (by decide)
  · exact absurd c_4 (by decide)
set_option maxHeartbeats 1000000 in
theorem c_X1_kindOf_7 (l : Launch) (hl : l.stackTraces = false) (G : hp_G) (X : Nat → Nat) (N0 : Nat) (M : hp_h) (a : Nat) (x : vp_A) (ha : M a = some (.inl (G.2 7, x))) : HM l yX1_kindOf (ws_ yX1_kindOf cX1_kindOf 1 (some .int)) 1 21 0 0 G X N0 [.ref a] M (PV (.int 7) M) PX0 := by
  refine HM.of hl [(0, .ref a)] (by decide +kernel) rfl (Nat.le_of_ble_eq_true rfl) ?_
  intro p e s m args below meth c C hname
  refine V_aload_n C dX1_kindOf_0 rfl 0 rfl ?_
  refine V_instAN C (j := 7) (nm := "[LNativeSubset$Unit;") (by decide) q605 (List.mem_of_getElem? (i := 77) rfl) ha dX1_kindOf_1 ?_
  refine V_if_eq (tgt := 22) C dX1_kindOf_4 (by decide) (fun c_4 => ?_) (fun c_4 => ?_)
  · refine V_aload_n C dX1_kindOf_22 rfl 0 rfl ?_
    refine V_instAN C (j := 7) (nm := "[Z") (by decide) q607 (List.mem_of_getElem? (i := 70) rfl) ha dX1_kindOf_23 ?_
    refine V_if_ne (tgt := 36) C dX1_kindOf_26 (by decide) (fun c_26 => ?_) (fun c_26 => ?_)
    · exact absurd c_26 (by decide)
    · refine V_aload_n C dX1_kindOf_29 rfl 0 rfl ?_
      refine V_instAN C (j := 7) (nm := "[B") (by decide) q608 (List.mem_of_getElem? (i := 71) rfl) ha dX1_kindOf_30 ?_
      refine V_if_eq (tgt := 49) C dX1_kindOf_33 (by decide) (fun c_33 => ?_) (fun c_33 => ?_)
      · refine V_aload_n C dX1_kindOf_49 rfl 0 rfl ?_
        refine V_instAN C (j := 7) (nm := "[C") (by decide) q609 (List.mem_of_getElem? (i := 72) rfl) ha dX1_kindOf_50 ?_
        refine V_pc (pc1 := 53) rfl ?_
        refine V_if_ne (tgt := 63) C dX1_kindOf_53 (by decide) (fun c_53 => ?_) (fun c_53 => ?_)
        · exact absurd c_53 (by decide)
        · refine V_aload_n C dX1_kindOf_56 rfl 0 rfl ?_
          refine V_instAN C (j := 7) (nm := "[S") (by decide) q610 (List.mem_of_getElem? (i := 73) rfl) ha dX1_kindOf_57 ?_
          refine V_if_eq (tgt := 76) C dX1_kindOf_60 (by decide) (fun c_60 => ?_) (fun c_60 => ?_)
          · refine V_aload_n C dX1_kindOf_76 rfl 0 rfl ?_
            refine V_instAN C (j := 7) (nm := "[I") (by decide) q458 (List.mem_of_getElem? (i := 74) rfl) ha dX1_kindOf_77 ?_
            refine V_if_ne (tgt := 90) C dX1_kindOf_80 (by decide) (fun c_80 => ?_) (fun c_80 => ?_)
            · exact absurd c_80 (by decide)
            · refine V_aload_n C dX1_kindOf_83 rfl 0 rfl ?_
              refine V_instAN C (j := 7) (nm := "[J") (by decide) q611 (List.mem_of_getElem? (i := 75) rfl) ha dX1_kindOf_84 ?_
              refine V_if_eq (tgt := 103) C dX1_kindOf_87 (by decide) (fun c_87 => ?_) (fun c_87 => ?_)
              · refine V_aload_n C dX1_kindOf_103 rfl 0 rfl ?_
                refine V_instAN C (j := 7) (nm := "[F") (by decide) q612 (List.mem_of_getElem? (i := 76) rfl) ha dX1_kindOf_104 ?_
                refine V_pc (pc1 := 107) rfl ?_
                refine V_if_eq (tgt := 115) C dX1_kindOf_107 (by decide) (fun c_107 => ?_) (fun c_107 => ?_)
                · refine V_aload_n C dX1_kindOf_115 rfl 0 rfl ?_
                  refine V_instAY C (j := 7) (by decide) q613 (Or.inl rfl) ha dX1_kindOf_116 ?_
                  refine V_if_eq (tgt := 127) C dX1_kindOf_119 (by decide) (fun c_119 => ?_) (fun c_119 => ?_)
                  · exact absurd c_119 (by decide)
                  · refine V_bipush (v := 7) C dX1_kindOf_122 rfl ?_
                    refine V_goto (tgt := 129) C dX1_kindOf_124 (by decide) ?_
                    refine V_iret C dX1_kindOf_129 rfl ?_ (by first | exact Nat.le_of_ble_eq_true rfl | omega | (dsimp only; omega)) (by first | exact Nat.le_of_ble_eq_true rfl | omega | (dsimp only; omega))
                    exact ⟨rfl, rfl⟩
                · exact absurd c_107 (by decide)
              · exact absurd c_87 (by decide)
          · exact absurd c_60 (by decide)
      · exact absurd c_33 (by decide)
  · exact absurd c_4 (by decide)
set_option maxHeartbeats 1000000 in
theorem c_X1_kindOf_8 (l : Launch) (hl : l.stackTraces = false) (G : hp_G) (X : Nat → Nat) (N0 : Nat) (M : hp_h) (a : Nat) (x : vp_A) (ha : M a = some (.inl (G.2 8, x))) : HM l yX1_kindOf (ws_ yX1_kindOf cX1_kindOf 1 (some .int)) 1 21 0 0 G X N0 [.ref a] M (PV (.int 8) M) PX0 := by
  refine HM.of hl [(0, .ref a)] (by decide +kernel) rfl (Nat.le_of_ble_eq_true rfl) ?_
  intro p e s m args below meth c C hname
  refine V_aload_n C dX1_kindOf_0 rfl 0 rfl ?_
  refine V_instAY C (j := 8) (by decide) q605 (Or.inl rfl) ha dX1_kindOf_1 ?_
  refine V_if_eq (tgt := 22) C dX1_kindOf_4 (by decide) (fun c_4 => ?_) (fun c_4 => ?_)
  · exact absurd c_4 (by decide)
  · refine V_aload_n C dX1_kindOf_7 rfl 0 rfl ?_
    refine V_instAN C (j := 8) (nm := "[LNativeSubset$Card;") (by decide) q606 (List.mem_of_getElem? (i := 88) rfl) ha dX1_kindOf_8 ?_
    refine V_if_eq (tgt := 19) C dX1_kindOf_11 (by decide) (fun c_11 => ?_) (fun c_11 => ?_)
    · refine V_bipush (v := 8) C dX1_kindOf_19 rfl ?_
      refine V_iret C dX1_kindOf_21 rfl ?_ (by first | exact Nat.le_of_ble_eq_true rfl | omega | (dsimp only; omega)) (by first | exact Nat.le_of_ble_eq_true rfl | omega | (dsimp only; omega))
      exact ⟨rfl, rfl⟩
    · exact absurd c_11 (by decide)
set_option maxHeartbeats 1000000 in
theorem c_X1_kindOf_9 (l : Launch) (hl : l.stackTraces = false) (G : hp_G) (X : Nat → Nat) (N0 : Nat) (M : hp_h) (a : Nat) (x : vp_A) (ha : M a = some (.inl (G.2 9, x))) : HM l yX1_kindOf (ws_ yX1_kindOf cX1_kindOf 1 (some .int)) 1 21 0 0 G X N0 [.ref a] M (PV (.int 9) M) PX0 := by
  refine HM.of hl [(0, .ref a)] (by decide +kernel) rfl (Nat.le_of_ble_eq_true rfl) ?_
  intro p e s m args below meth c C hname
  refine V_aload_n C dX1_kindOf_0 rfl 0 rfl ?_
  refine V_instAY C (j := 9) (by decide) q605 (Or.inr ⟨rfl, rfl⟩) ha dX1_kindOf_1 ?_
  refine V_if_eq (tgt := 22) C dX1_kindOf_4 (by decide) (fun c_4 => ?_) (fun c_4 => ?_)
  · exact absurd c_4 (by decide)
  · refine V_aload_n C dX1_kindOf_7 rfl 0 rfl ?_
    refine V_instAY C (j := 9) (by decide) q606 (Or.inl rfl) ha dX1_kindOf_8 ?_
    refine V_if_eq (tgt := 19) C dX1_kindOf_11 (by decide) (fun c_11 => ?_) (fun c_11 => ?_)
    · exact absurd c_11 (by decide)
    · refine V_bipush (v := 9) C dX1_kindOf_14 rfl ?_
      refine V_goto (tgt := 21) C dX1_kindOf_16 (by decide) ?_
      refine V_iret C dX1_kindOf_21 rfl ?_ (by first | exact Nat.le_of_ble_eq_true rfl | omega | (dsimp only; omega)) (by first | exact Nat.le_of_ble_eq_true rfl | omega | (dsimp only; omega))
      exact ⟨rfl, rfl⟩
set_option maxHeartbeats 1000000 in
theorem c_X1_kindOf_10 (l : Launch) (hl : l.stackTraces = false) (G : hp_G) (X : Nat → Nat) (N0 : Nat) (M : hp_h) (a : Nat) (x : vp_A) (ha : M a = some (.inl (G.2 10, x))) : HM l yX1_kindOf (ws_ yX1_kindOf cX1_kindOf 1 (some .int)) 1 21 0 0 G X N0 [.ref a] M (PV (.int 10) M) PX0 := by
  refine HM.of hl [(0, .ref a)] (by decide +kernel) rfl (Nat.le_of_ble_eq_true rfl) ?_
  intro p e s m args below meth c C hname
  refine V_aload_n C dX1_kindOf_0 rfl 0 rfl ?_
  refine V_instAN C (j := 10) (nm := "[LNativeSubset$Unit;") (by decide) q605 (List.mem_of_getElem? (i := 107) rfl) ha dX1_kindOf_1 ?_
  refine V_if_eq (tgt := 22) C dX1_kindOf_4 (by decide) (fun c_4 => ?_) (fun c_4 => ?_)
  · refine V_aload_n C dX1_kindOf_22 rfl 0 rfl ?_
    refine V_instAN C (j := 10) (nm := "[Z") (by decide) q607 (List.mem_of_getElem? (i := 99) rfl) ha dX1_kindOf_23 ?_
    refine V_if_ne (tgt := 36) C dX1_kindOf_26 (by decide) (fun c_26 => ?_) (fun c_26 => ?_)
    · exact absurd c_26 (by decide)
    · refine V_aload_n C dX1_kindOf_29 rfl 0 rfl ?_
      refine V_instAN C (j := 10) (nm := "[B") (by decide) q608 (List.mem_of_getElem? (i := 100) rfl) ha dX1_kindOf_30 ?_
      refine V_if_eq (tgt := 49) C dX1_kindOf_33 (by decide) (fun c_33 => ?_) (fun c_33 => ?_)
      · refine V_aload_n C dX1_kindOf_49 rfl 0 rfl ?_
        refine V_instAN C (j := 10) (nm := "[C") (by decide) q609 (List.mem_of_getElem? (i := 101) rfl) ha dX1_kindOf_50 ?_
        refine V_pc (pc1 := 53) rfl ?_
        refine V_if_ne (tgt := 63) C dX1_kindOf_53 (by decide) (fun c_53 => ?_) (fun c_53 => ?_)
        · exact absurd c_53 (by decide)
        · refine V_aload_n C dX1_kindOf_56 rfl 0 rfl ?_
          refine V_instAN C (j := 10) (nm := "[S") (by decide) q610 (List.mem_of_getElem? (i := 102) rfl) ha dX1_kindOf_57 ?_
          refine V_if_eq (tgt := 76) C dX1_kindOf_60 (by decide) (fun c_60 => ?_) (fun c_60 => ?_)
          · refine V_aload_n C dX1_kindOf_76 rfl 0 rfl ?_
            refine V_instAN C (j := 10) (nm := "[I") (by decide) q458 (List.mem_of_getElem? (i := 103) rfl) ha dX1_kindOf_77 ?_
            refine V_if_ne (tgt := 90) C dX1_kindOf_80 (by decide) (fun c_80 => ?_) (fun c_80 => ?_)
            · exact absurd c_80 (by decide)
            · refine V_aload_n C dX1_kindOf_83 rfl 0 rfl ?_
              refine V_instAN C (j := 10) (nm := "[J") (by decide) q611 (List.mem_of_getElem? (i := 104) rfl) ha dX1_kindOf_84 ?_
              refine V_if_eq (tgt := 103) C dX1_kindOf_87 (by decide) (fun c_87 => ?_) (fun c_87 => ?_)
              · refine V_aload_n C dX1_kindOf_103 rfl 0 rfl ?_
                refine V_instAN C (j := 10) (nm := "[F") (by decide) q612 (List.mem_of_getElem? (i := 105) rfl) ha dX1_kindOf_104 ?_
                refine V_pc (pc1 := 107) rfl ?_
                refine V_if_eq (tgt := 115) C dX1_kindOf_107 (by decide) (fun c_107 => ?_) (fun c_107 => ?_)
                · refine V_aload_n C dX1_kindOf_115 rfl 0 rfl ?_
                  refine V_instAN C (j := 10) (nm := "[D") (by decide) q613 (List.mem_of_getElem? (i := 106) rfl) ha dX1_kindOf_116 ?_
                  refine V_if_eq (tgt := 127) C dX1_kindOf_119 (by decide) (fun c_119 => ?_) (fun c_119 => ?_)
                  · refine V_bipush (v := 10) C dX1_kindOf_127 rfl ?_
                    refine V_iret C dX1_kindOf_129 rfl ?_ (by first | exact Nat.le_of_ble_eq_true rfl | omega | (dsimp only; omega)) (by first | exact Nat.le_of_ble_eq_true rfl | omega | (dsimp only; omega))
                    exact ⟨rfl, rfl⟩
                  · exact absurd c_119 (by decide)
                · exact absurd c_107 (by decide)
              · exact absurd c_87 (by decide)
          · exact absurd c_60 (by decide)
      · exact absurd c_33 (by decide)
  · exact absurd c_4 (by decide)
set_option maxHeartbeats 1000000 in
theorem c_X1_kindOf_n (l : Launch) (hl : l.stackTraces = false) (G : hp_G) (X : Nat → Nat) (N0 : Nat) (M : hp_h)  : HM l yX1_kindOf (ws_ yX1_kindOf cX1_kindOf 1 (some .int)) 1 21 0 0 G X N0 [.null] M (PV (.int 10) M) PX0 := by
  refine HM.of hl [(0, .null)] (by decide +kernel) rfl (Nat.le_of_ble_eq_true rfl) ?_
  intro p e s m args below meth c C hname
  refine V_aload_nN C dX1_kindOf_0 rfl 0 rfl ?_
  refine V_instN C dX1_kindOf_1 ?_
  refine V_if_eq (tgt := 22) C dX1_kindOf_4 (by decide) (fun c_4 => ?_) (fun c_4 => ?_)
  · refine V_aload_nN C dX1_kindOf_22 rfl 0 rfl ?_
    refine V_instN C dX1_kindOf_23 ?_
    refine V_if_ne (tgt := 36) C dX1_kindOf_26 (by decide) (fun c_26 => ?_) (fun c_26 => ?_)
    · exact absurd c_26 (by decide)
    · refine V_aload_nN C dX1_kindOf_29 rfl 0 rfl ?_
      refine V_instN C dX1_kindOf_30 ?_
      refine V_if_eq (tgt := 49) C dX1_kindOf_33 (by decide) (fun c_33 => ?_) (fun c_33 => ?_)
      · refine V_aload_nN C dX1_kindOf_49 rfl 0 rfl ?_
        refine V_instN C dX1_kindOf_50 ?_
        refine V_pc (pc1 := 53) rfl ?_
        refine V_if_ne (tgt := 63) C dX1_kindOf_53 (by decide) (fun c_53 => ?_) (fun c_53 => ?_)
        · exact absurd c_53 (by decide)
        · refine V_aload_nN C dX1_kindOf_56 rfl 0 rfl ?_
          refine V_instN C dX1_kindOf_57 ?_
          refine V_if_eq (tgt := 76) C dX1_kindOf_60 (by decide) (fun c_60 => ?_) (fun c_60 => ?_)
          · refine V_aload_nN C dX1_kindOf_76 rfl 0 rfl ?_
            refine V_instN C dX1_kindOf_77 ?_
            refine V_if_ne (tgt := 90) C dX1_kindOf_80 (by decide) (fun c_80 => ?_) (fun c_80 => ?_)
            · exact absurd c_80 (by decide)
            · refine V_aload_nN C dX1_kindOf_83 rfl 0 rfl ?_
              refine V_instN C dX1_kindOf_84 ?_
              refine V_if_eq (tgt := 103) C dX1_kindOf_87 (by decide) (fun c_87 => ?_) (fun c_87 => ?_)
              · refine V_aload_nN C dX1_kindOf_103 rfl 0 rfl ?_
                refine V_instN C dX1_kindOf_104 ?_
                refine V_pc (pc1 := 107) rfl ?_
                refine V_if_eq (tgt := 115) C dX1_kindOf_107 (by decide) (fun c_107 => ?_) (fun c_107 => ?_)
                · refine V_aload_nN C dX1_kindOf_115 rfl 0 rfl ?_
                  refine V_instN C dX1_kindOf_116 ?_
                  refine V_if_eq (tgt := 127) C dX1_kindOf_119 (by decide) (fun c_119 => ?_) (fun c_119 => ?_)
                  · refine V_bipush (v := 10) C dX1_kindOf_127 rfl ?_
                    refine V_iret C dX1_kindOf_129 rfl ?_ (by first | exact Nat.le_of_ble_eq_true rfl | omega | (dsimp only; omega)) (by first | exact Nat.le_of_ble_eq_true rfl | omega | (dsimp only; omega))
                    exact ⟨rfl, rfl⟩
                  · exact absurd c_119 (by decide)
                · exact absurd c_107 (by decide)
              · exact absurd c_87 (by decide)
          · exact absurd c_60 (by decide)
      · exact absurd c_33 (by decide)
  · exact absurd c_4 (by decide)
theorem c_X1_kindOf (l : Launch) (hl : l.stackTraces = false) (G : hp_G) (X : Nat → Nat) (N0 : Nat) (M : hp_h) (a : Nat) (k : Nat) (hk : k ≤ 10) (x : vp_A) (ha : M a = some (.inl (G.2 k, x))) : HM l yX1_kindOf (ws_ yX1_kindOf cX1_kindOf 1 (some .int)) 1 21 0 0 G X N0 [.ref a] M (PV (.int (nI k)) M) PX0 := by
  match k, hk with
  | 0, _ => exact c_X1_kindOf_0 l hl G X N0 M a x ha
  | 1, _ => exact c_X1_kindOf_1 l hl G X N0 M a x ha
  | 2, _ => exact c_X1_kindOf_2 l hl G X N0 M a x ha
  | 3, _ => exact c_X1_kindOf_3 l hl G X N0 M a x ha
  | 4, _ => exact c_X1_kindOf_4 l hl G X N0 M a x ha
  | 5, _ => exact c_X1_kindOf_5 l hl G X N0 M a x ha
  | 6, _ => exact c_X1_kindOf_6 l hl G X N0 M a x ha
  | 7, _ => exact c_X1_kindOf_7 l hl G X N0 M a x ha
  | 8, _ => exact c_X1_kindOf_8 l hl G X N0 M a x ha
  | 9, _ => exact c_X1_kindOf_9 l hl G X N0 M a x ha
  | 10, _ => exact c_X1_kindOf_10 l hl G X N0 M a x ha
  | n + 11, h => exact absurd h (by omega)
set_option maxHeartbeats 1000000 in
theorem c_X1_isReal_0 (l : Launch) (hl : l.stackTraces = false) (G : hp_G) (X : Nat → Nat) (N0 : Nat) (M : hp_h) (a : Nat) (x : vp_A) (ha : M a = some (.inl (G.2 0, x))) : HM l yX1_isReal (ws_ yX1_isReal cX1_isReal 1 (some .boolean)) 1 21 0 0 G X N0 [.ref a] M (PV (.int (bI ((0 : Nat) = 6 ∨ (0 : Nat) = 7))) M) PX0 := by
  refine HM.of hl [(0, .ref a)] (by decide +kernel) rfl (Nat.le_of_ble_eq_true rfl) ?_
  intro p e s m args below meth c C hname
  refine V_aload_n C dX1_isReal_0 rfl 0 rfl ?_
  refine V_instAN C (j := 0) (nm := "[F") (by decide) q612 (List.mem_of_getElem? (i := 5) rfl) ha dX1_isReal_1 ?_
  refine V_if_ne (tgt := 14) C dX1_isReal_4 (by decide) (fun c_4 => ?_) (fun c_4 => ?_)
  · exact absurd c_4 (by decide)
  · refine V_aload_n C dX1_isReal_7 rfl 0 rfl ?_
    refine V_instAN C (j := 0) (nm := "[D") (by decide) q613 (List.mem_of_getElem? (i := 6) rfl) ha dX1_isReal_8 ?_
    refine V_if_eq (tgt := 18) C dX1_isReal_11 (by decide) (fun c_11 => ?_) (fun c_11 => ?_)
    · refine V_iconst (v := 0) C dX1_isReal_18 rfl ?_
      refine V_zret C rfl dX1_isReal_19 rfl ?_ (by first | exact Nat.le_of_ble_eq_true rfl | omega | (dsimp only; omega)) (by first | exact Nat.le_of_ble_eq_true rfl | omega | (dsimp only; omega))
      exact ⟨congrArg (fun z => some (Value.int z)) (bI_f (by decide)), rfl⟩
    · exact absurd c_11 (by decide)
set_option maxHeartbeats 1000000 in
theorem c_X1_isReal_1 (l : Launch) (hl : l.stackTraces = false) (G : hp_G) (X : Nat → Nat) (N0 : Nat) (M : hp_h) (a : Nat) (x : vp_A) (ha : M a = some (.inl (G.2 1, x))) : HM l yX1_isReal (ws_ yX1_isReal cX1_isReal 1 (some .boolean)) 1 21 0 0 G X N0 [.ref a] M (PV (.int (bI ((1 : Nat) = 6 ∨ (1 : Nat) = 7))) M) PX0 := by
  refine HM.of hl [(0, .ref a)] (by decide +kernel) rfl (Nat.le_of_ble_eq_true rfl) ?_
  intro p e s m args below meth c C hname
  refine V_aload_n C dX1_isReal_0 rfl 0 rfl ?_
  refine V_instAN C (j := 1) (nm := "[F") (by decide) q612 (List.mem_of_getElem? (i := 15) rfl) ha dX1_isReal_1 ?_
  refine V_if_ne (tgt := 14) C dX1_isReal_4 (by decide) (fun c_4 => ?_) (fun c_4 => ?_)
  · exact absurd c_4 (by decide)
  · refine V_aload_n C dX1_isReal_7 rfl 0 rfl ?_
    refine V_instAN C (j := 1) (nm := "[D") (by decide) q613 (List.mem_of_getElem? (i := 16) rfl) ha dX1_isReal_8 ?_
    refine V_if_eq (tgt := 18) C dX1_isReal_11 (by decide) (fun c_11 => ?_) (fun c_11 => ?_)
    · refine V_iconst (v := 0) C dX1_isReal_18 rfl ?_
      refine V_zret C rfl dX1_isReal_19 rfl ?_ (by first | exact Nat.le_of_ble_eq_true rfl | omega | (dsimp only; omega)) (by first | exact Nat.le_of_ble_eq_true rfl | omega | (dsimp only; omega))
      exact ⟨congrArg (fun z => some (Value.int z)) (bI_f (by decide)), rfl⟩
    · exact absurd c_11 (by decide)
set_option maxHeartbeats 1000000 in
theorem c_X1_isReal_2 (l : Launch) (hl : l.stackTraces = false) (G : hp_G) (X : Nat → Nat) (N0 : Nat) (M : hp_h) (a : Nat) (x : vp_A) (ha : M a = some (.inl (G.2 2, x))) : HM l yX1_isReal (ws_ yX1_isReal cX1_isReal 1 (some .boolean)) 1 21 0 0 G X N0 [.ref a] M (PV (.int (bI ((2 : Nat) = 6 ∨ (2 : Nat) = 7))) M) PX0 := by
  refine HM.of hl [(0, .ref a)] (by decide +kernel) rfl (Nat.le_of_ble_eq_true rfl) ?_
  intro p e s m args below meth c C hname
  refine V_aload_n C dX1_isReal_0 rfl 0 rfl ?_
  refine V_instAN C (j := 2) (nm := "[F") (by decide) q612 (List.mem_of_getElem? (i := 25) rfl) ha dX1_isReal_1 ?_
  refine V_if_ne (tgt := 14) C dX1_isReal_4 (by decide) (fun c_4 => ?_) (fun c_4 => ?_)
  · exact absurd c_4 (by decide)
  · refine V_aload_n C dX1_isReal_7 rfl 0 rfl ?_
    refine V_instAN C (j := 2) (nm := "[D") (by decide) q613 (List.mem_of_getElem? (i := 26) rfl) ha dX1_isReal_8 ?_
    refine V_if_eq (tgt := 18) C dX1_isReal_11 (by decide) (fun c_11 => ?_) (fun c_11 => ?_)
    · refine V_iconst (v := 0) C dX1_isReal_18 rfl ?_
      refine V_zret C rfl dX1_isReal_19 rfl ?_ (by first | exact Nat.le_of_ble_eq_true rfl | omega | (dsimp only; omega)) (by first | exact Nat.le_of_ble_eq_true rfl | omega | (dsimp only; omega))
      exact ⟨congrArg (fun z => some (Value.int z)) (bI_f (by decide)), rfl⟩
    · exact absurd c_11 (by decide)
set_option maxHeartbeats 1000000 in
theorem c_X1_isReal_3 (l : Launch) (hl : l.stackTraces = false) (G : hp_G) (X : Nat → Nat) (N0 : Nat) (M : hp_h) (a : Nat) (x : vp_A) (ha : M a = some (.inl (G.2 3, x))) : HM l yX1_isReal (ws_ yX1_isReal cX1_isReal 1 (some .boolean)) 1 21 0 0 G X N0 [.ref a] M (PV (.int (bI ((3 : Nat) = 6 ∨ (3 : Nat) = 7))) M) PX0 := by
  refine HM.of hl [(0, .ref a)] (by decide +kernel) rfl (Nat.le_of_ble_eq_true rfl) ?_
  intro p e s m args below meth c C hname
  refine V_aload_n C dX1_isReal_0 rfl 0 rfl ?_
  refine V_instAN C (j := 3) (nm := "[F") (by decide) q612 (List.mem_of_getElem? (i := 35) rfl) ha dX1_isReal_1 ?_
  refine V_if_ne (tgt := 14) C dX1_isReal_4 (by decide) (fun c_4 => ?_) (fun c_4 => ?_)
  · exact absurd c_4 (by decide)
  · refine V_aload_n C dX1_isReal_7 rfl 0 rfl ?_
    refine V_instAN C (j := 3) (nm := "[D") (by decide) q613 (List.mem_of_getElem? (i := 36) rfl) ha dX1_isReal_8 ?_
    refine V_if_eq (tgt := 18) C dX1_isReal_11 (by decide) (fun c_11 => ?_) (fun c_11 => ?_)
    · refine V_iconst (v := 0) C dX1_isReal_18 rfl ?_
      refine V_zret C rfl dX1_isReal_19 rfl ?_ (by first | exact Nat.le_of_ble_eq_true rfl | omega | (dsimp only; omega)) (by first | exact Nat.le_of_ble_eq_true rfl | omega | (dsimp only; omega))
      exact ⟨congrArg (fun z => some (Value.int z)) (bI_f (by decide)), rfl⟩
    · exact absurd c_11 (by decide)
set_option maxHeartbeats 1000000 in
theorem c_X1_isReal_4 (l : Launch) (hl : l.stackTraces = false) (G : hp_G) (X : Nat → Nat) (N0 : Nat) (M : hp_h) (a : Nat) (x : vp_A) (ha : M a = some (.inl (G.2 4, x))) : HM l yX1_isReal (ws_ yX1_isReal cX1_isReal 1 (some .boolean)) 1 21 0 0 G X N0 [.ref a] M (PV (.int (bI ((4 : Nat) = 6 ∨ (4 : Nat) = 7))) M) PX0 := by
  refine HM.of hl [(0, .ref a)] (by decide +kernel) rfl (Nat.le_of_ble_eq_true rfl) ?_
  intro p e s m args below meth c C hname
  refine V_aload_n C dX1_isReal_0 rfl 0 rfl ?_
  refine V_instAN C (j := 4) (nm := "[F") (by decide) q612 (List.mem_of_getElem? (i := 45) rfl) ha dX1_isReal_1 ?_
  refine V_if_ne (tgt := 14) C dX1_isReal_4 (by decide) (fun c_4 => ?_) (fun c_4 => ?_)
  · exact absurd c_4 (by decide)
  · refine V_aload_n C dX1_isReal_7 rfl 0 rfl ?_
    refine V_instAN C (j := 4) (nm := "[D") (by decide) q613 (List.mem_of_getElem? (i := 46) rfl) ha dX1_isReal_8 ?_
    refine V_if_eq (tgt := 18) C dX1_isReal_11 (by decide) (fun c_11 => ?_) (fun c_11 => ?_)
    · refine V_iconst (v := 0) C dX1_isReal_18 rfl ?_
      refine V_zret C rfl dX1_isReal_19 rfl ?_ (by first | exact Nat.le_of_ble_eq_true rfl | omega | (dsimp only; omega)) (by first | exact Nat.le_of_ble_eq_true rfl | omega | (dsimp only; omega))
      exact ⟨congrArg (fun z => some (Value.int z)) (bI_f (by decide)), rfl⟩
    · exact absurd c_11 (by decide)
set_option maxHeartbeats 1000000 in
theorem c_X1_isReal_5 (l : Launch) (hl : l.stackTraces = false) (G : hp_G) (X : Nat → Nat) (N0 : Nat) (M : hp_h) (a : Nat) (x : vp_A) (ha : M a = some (.inl (G.2 5, x))) : HM l yX1_isReal (ws_ yX1_isReal cX1_isReal 1 (some .boolean)) 1 21 0 0 G X N0 [.ref a] M (PV (.int (bI ((5 : Nat) = 6 ∨ (5 : Nat) = 7))) M) PX0 := by
  refine HM.of hl [(0, .ref a)] (by decide +kernel) rfl (Nat.le_of_ble_eq_true rfl) ?_
  intro p e s m args below meth c C hname
  refine V_aload_n C dX1_isReal_0 rfl 0 rfl ?_
  refine V_instAN C (j := 5) (nm := "[F") (by decide) q612 (List.mem_of_getElem? (i := 55) rfl) ha dX1_isReal_1 ?_
  refine V_if_ne (tgt := 14) C dX1_isReal_4 (by decide) (fun c_4 => ?_) (fun c_4 => ?_)
  · exact absurd c_4 (by decide)
  · refine V_aload_n C dX1_isReal_7 rfl 0 rfl ?_
    refine V_instAN C (j := 5) (nm := "[D") (by decide) q613 (List.mem_of_getElem? (i := 56) rfl) ha dX1_isReal_8 ?_
    refine V_if_eq (tgt := 18) C dX1_isReal_11 (by decide) (fun c_11 => ?_) (fun c_11 => ?_)
    · refine V_iconst (v := 0) C dX1_isReal_18 rfl ?_
      refine V_zret C rfl dX1_isReal_19 rfl ?_ (by first | exact Nat.le_of_ble_eq_true rfl | omega | (dsimp only; omega)) (by first | exact Nat.le_of_ble_eq_true rfl | omega | (dsimp only; omega))
      exact ⟨congrArg (fun z => some (Value.int z)) (bI_f (by decide)), rfl⟩
    · exact absurd c_11 (by decide)
set_option maxHeartbeats 1000000 in
theorem c_X1_isReal_6 (l : Launch) (hl : l.stackTraces = false) (G : hp_G) (X : Nat → Nat) (N0 : Nat) (M : hp_h) (a : Nat) (x : vp_A) (ha : M a = some (.inl (G.2 6, x))) : HM l yX1_isReal (ws_ yX1_isReal cX1_isReal 1 (some .boolean)) 1 21 0 0 G X N0 [.ref a] M (PV (.int (bI ((6 : Nat) = 6 ∨ (6 : Nat) = 7))) M) PX0 := by
  refine HM.of hl [(0, .ref a)] (by decide +kernel) rfl (Nat.le_of_ble_eq_true rfl) ?_
  intro p e s m args below meth c C hname
  refine V_aload_n C dX1_isReal_0 rfl 0 rfl ?_
  refine V_instAY C (j := 6) (by decide) q612 (Or.inl rfl) ha dX1_isReal_1 ?_
  refine V_if_ne (tgt := 14) C dX1_isReal_4 (by decide) (fun c_4 => ?_) (fun c_4 => ?_)
  · refine V_iconst (v := 1) C dX1_isReal_14 rfl ?_
    refine V_goto (tgt := 19) C dX1_isReal_15 (by decide) ?_
    refine V_zret C rfl dX1_isReal_19 rfl ?_ (by first | exact Nat.le_of_ble_eq_true rfl | omega | (dsimp only; omega)) (by first | exact Nat.le_of_ble_eq_true rfl | omega | (dsimp only; omega))
    exact ⟨congrArg (fun z => some (Value.int z)) (bI_t (by decide)), rfl⟩
  · exact absurd c_4 (by decide)
set_option maxHeartbeats 1000000 in
theorem c_X1_isReal_7 (l : Launch) (hl : l.stackTraces = false) (G : hp_G) (X : Nat → Nat) (N0 : Nat) (M : hp_h) (a : Nat) (x : vp_A) (ha : M a = some (.inl (G.2 7, x))) : HM l yX1_isReal (ws_ yX1_isReal cX1_isReal 1 (some .boolean)) 1 21 0 0 G X N0 [.ref a] M (PV (.int (bI ((7 : Nat) = 6 ∨ (7 : Nat) = 7))) M) PX0 := by
  refine HM.of hl [(0, .ref a)] (by decide +kernel) rfl (Nat.le_of_ble_eq_true rfl) ?_
  intro p e s m args below meth c C hname
  refine V_aload_n C dX1_isReal_0 rfl 0 rfl ?_
  refine V_instAN C (j := 7) (nm := "[F") (by decide) q612 (List.mem_of_getElem? (i := 76) rfl) ha dX1_isReal_1 ?_
  refine V_if_ne (tgt := 14) C dX1_isReal_4 (by decide) (fun c_4 => ?_) (fun c_4 => ?_)
  · exact absurd c_4 (by decide)
  · refine V_aload_n C dX1_isReal_7 rfl 0 rfl ?_
    refine V_instAY C (j := 7) (by decide) q613 (Or.inl rfl) ha dX1_isReal_8 ?_
    refine V_if_eq (tgt := 18) C dX1_isReal_11 (by decide) (fun c_11 => ?_) (fun c_11 => ?_)
    · exact absurd c_11 (by decide)
    · refine V_iconst (v := 1) C dX1_isReal_14 rfl ?_
      refine V_goto (tgt := 19) C dX1_isReal_15 (by decide) ?_
      refine V_zret C rfl dX1_isReal_19 rfl ?_ (by first | exact Nat.le_of_ble_eq_true rfl | omega | (dsimp only; omega)) (by first | exact Nat.le_of_ble_eq_true rfl | omega | (dsimp only; omega))
      exact ⟨congrArg (fun z => some (Value.int z)) (bI_t (by decide)), rfl⟩
set_option maxHeartbeats 1000000 in
theorem c_X1_isReal_8 (l : Launch) (hl : l.stackTraces = false) (G : hp_G) (X : Nat → Nat) (N0 : Nat) (M : hp_h) (a : Nat) (x : vp_A) (ha : M a = some (.inl (G.2 8, x))) : HM l yX1_isReal (ws_ yX1_isReal cX1_isReal 1 (some .boolean)) 1 21 0 0 G X N0 [.ref a] M (PV (.int (bI ((8 : Nat) = 6 ∨ (8 : Nat) = 7))) M) PX0 := by
  refine HM.of hl [(0, .ref a)] (by decide +kernel) rfl (Nat.le_of_ble_eq_true rfl) ?_
  intro p e s m args below meth c C hname
  refine V_aload_n C dX1_isReal_0 rfl 0 rfl ?_
  refine V_instAN C (j := 8) (nm := "[F") (by decide) q612 (List.mem_of_getElem? (i := 86) rfl) ha dX1_isReal_1 ?_
  refine V_if_ne (tgt := 14) C dX1_isReal_4 (by decide) (fun c_4 => ?_) (fun c_4 => ?_)
  · exact absurd c_4 (by decide)
  · refine V_aload_n C dX1_isReal_7 rfl 0 rfl ?_
    refine V_instAN C (j := 8) (nm := "[D") (by decide) q613 (List.mem_of_getElem? (i := 87) rfl) ha dX1_isReal_8 ?_
    refine V_if_eq (tgt := 18) C dX1_isReal_11 (by decide) (fun c_11 => ?_) (fun c_11 => ?_)
    · refine V_iconst (v := 0) C dX1_isReal_18 rfl ?_
      refine V_zret C rfl dX1_isReal_19 rfl ?_ (by first | exact Nat.le_of_ble_eq_true rfl | omega | (dsimp only; omega)) (by first | exact Nat.le_of_ble_eq_true rfl | omega | (dsimp only; omega))
      exact ⟨congrArg (fun z => some (Value.int z)) (bI_f (by decide)), rfl⟩
    · exact absurd c_11 (by decide)
set_option maxHeartbeats 1000000 in
theorem c_X1_isReal_9 (l : Launch) (hl : l.stackTraces = false) (G : hp_G) (X : Nat → Nat) (N0 : Nat) (M : hp_h) (a : Nat) (x : vp_A) (ha : M a = some (.inl (G.2 9, x))) : HM l yX1_isReal (ws_ yX1_isReal cX1_isReal 1 (some .boolean)) 1 21 0 0 G X N0 [.ref a] M (PV (.int (bI ((9 : Nat) = 6 ∨ (9 : Nat) = 7))) M) PX0 := by
  refine HM.of hl [(0, .ref a)] (by decide +kernel) rfl (Nat.le_of_ble_eq_true rfl) ?_
  intro p e s m args below meth c C hname
  refine V_aload_n C dX1_isReal_0 rfl 0 rfl ?_
  refine V_instAN C (j := 9) (nm := "[F") (by decide) q612 (List.mem_of_getElem? (i := 96) rfl) ha dX1_isReal_1 ?_
  refine V_if_ne (tgt := 14) C dX1_isReal_4 (by decide) (fun c_4 => ?_) (fun c_4 => ?_)
  · exact absurd c_4 (by decide)
  · refine V_aload_n C dX1_isReal_7 rfl 0 rfl ?_
    refine V_instAN C (j := 9) (nm := "[D") (by decide) q613 (List.mem_of_getElem? (i := 97) rfl) ha dX1_isReal_8 ?_
    refine V_if_eq (tgt := 18) C dX1_isReal_11 (by decide) (fun c_11 => ?_) (fun c_11 => ?_)
    · refine V_iconst (v := 0) C dX1_isReal_18 rfl ?_
      refine V_zret C rfl dX1_isReal_19 rfl ?_ (by first | exact Nat.le_of_ble_eq_true rfl | omega | (dsimp only; omega)) (by first | exact Nat.le_of_ble_eq_true rfl | omega | (dsimp only; omega))
      exact ⟨congrArg (fun z => some (Value.int z)) (bI_f (by decide)), rfl⟩
    · exact absurd c_11 (by decide)
set_option maxHeartbeats 1000000 in
theorem c_X1_isReal_10 (l : Launch) (hl : l.stackTraces = false) (G : hp_G) (X : Nat → Nat) (N0 : Nat) (M : hp_h) (a : Nat) (x : vp_A) (ha : M a = some (.inl (G.2 10, x))) : HM l yX1_isReal (ws_ yX1_isReal cX1_isReal 1 (some .boolean)) 1 21 0 0 G X N0 [.ref a] M (PV (.int (bI ((10 : Nat) = 6 ∨ (10 : Nat) = 7))) M) PX0 := by
  refine HM.of hl [(0, .ref a)] (by decide +kernel) rfl (Nat.le_of_ble_eq_true rfl) ?_
  intro p e s m args below meth c C hname
  refine V_aload_n C dX1_isReal_0 rfl 0 rfl ?_
  refine V_instAN C (j := 10) (nm := "[F") (by decide) q612 (List.mem_of_getElem? (i := 105) rfl) ha dX1_isReal_1 ?_
  refine V_if_ne (tgt := 14) C dX1_isReal_4 (by decide) (fun c_4 => ?_) (fun c_4 => ?_)
  · exact absurd c_4 (by decide)
  · refine V_aload_n C dX1_isReal_7 rfl 0 rfl ?_
    refine V_instAN C (j := 10) (nm := "[D") (by decide) q613 (List.mem_of_getElem? (i := 106) rfl) ha dX1_isReal_8 ?_
    refine V_if_eq (tgt := 18) C dX1_isReal_11 (by decide) (fun c_11 => ?_) (fun c_11 => ?_)
    · refine V_iconst (v := 0) C dX1_isReal_18 rfl ?_
      refine V_zret C rfl dX1_isReal_19 rfl ?_ (by first | exact Nat.le_of_ble_eq_true rfl | omega | (dsimp only; omega)) (by first | exact Nat.le_of_ble_eq_true rfl | omega | (dsimp only; omega))
      exact ⟨congrArg (fun z => some (Value.int z)) (bI_f (by decide)), rfl⟩
    · exact absurd c_11 (by decide)
theorem c_X1_isReal (l : Launch) (hl : l.stackTraces = false) (G : hp_G) (X : Nat → Nat) (N0 : Nat) (M : hp_h) (a : Nat) (k : Nat) (hk : k ≤ 10) (x : vp_A) (ha : M a = some (.inl (G.2 k, x))) : HM l yX1_isReal (ws_ yX1_isReal cX1_isReal 1 (some .boolean)) 1 21 0 0 G X N0 [.ref a] M (PV (.int (bI (k = 6 ∨ k = 7))) M) PX0 := by
  match k, hk with
  | 0, _ => exact c_X1_isReal_0 l hl G X N0 M a x ha
  | 1, _ => exact c_X1_isReal_1 l hl G X N0 M a x ha
  | 2, _ => exact c_X1_isReal_2 l hl G X N0 M a x ha
  | 3, _ => exact c_X1_isReal_3 l hl G X N0 M a x ha
  | 4, _ => exact c_X1_isReal_4 l hl G X N0 M a x ha
  | 5, _ => exact c_X1_isReal_5 l hl G X N0 M a x ha
  | 6, _ => exact c_X1_isReal_6 l hl G X N0 M a x ha
  | 7, _ => exact c_X1_isReal_7 l hl G X N0 M a x ha
  | 8, _ => exact c_X1_isReal_8 l hl G X N0 M a x ha
  | 9, _ => exact c_X1_isReal_9 l hl G X N0 M a x ha
  | 10, _ => exact c_X1_isReal_10 l hl G X N0 M a x ha
  | n + 11, h => exact absurd h (by omega)
set_option maxHeartbeats 1000000 in
theorem c_X1_sizeOf_0 (l : Launch) (hl : l.stackTraces = false) (G : hp_G) (X : Nat → Nat) (N0 : Nat) (M : hp_h) (a : Nat) (x : vp_A) (ha : M a = some (.inl (G.2 0, x))) : HM l yX1_sizeOf (ws_ yX1_sizeOf cX1_sizeOf 1 (some .int)) 2 41 0 0 G X N0 [.ref a] M (PV (.int (nI x.1)) M) PX0 := by
  refine HM.of hl [(0, .ref a)] (by decide +kernel) rfl (Nat.le_of_ble_eq_true rfl) ?_
  intro p e s m args below meth c C hname
  refine V_aload_n C dX1_sizeOf_0 rfl 0 rfl ?_
  refine V_callS C (c_X1_kindOf_0 l hl G X N0 M a x ha) cs_X1_25 rfl rfl ⟨Nat.le_of_ble_eq_true rfl, Nat.le_of_ble_eq_true rfl⟩ ⟨(by first | exact Nat.le_of_ble_eq_true rfl | omega | (dsimp only; omega)), (by first | exact Nat.le_of_ble_eq_true rfl | omega | (dsimp only; omega))⟩ (Nat.le_of_ble_eq_true rfl) dX1_sizeOf_1 (fun _ _ _ h => px0 h) ?_
  rintro _ _ ⟨rfl, rfl⟩
  refine V_st (st' := [.int 0]) rfl ?_
  refine V_tableIn (tgt := 64) (off := 60) C dX1_sizeOf_4 (by decide) (by decide) (by decide) (by decide) ?_
  refine V_aload_n C dX1_sizeOf_64 rfl 0 rfl ?_
  refine V_castA C (j := 0) (by decide) q607 (Or.inl rfl) ha dX1_sizeOf_65 ?_
  refine V_alen (j := 0) C rfl ha (v := nI x.1) rfl dX1_sizeOf_68 ?_
  refine V_iret C dX1_sizeOf_69 rfl ?_ (by first | exact Nat.le_of_ble_eq_true rfl | omega | (dsimp only; omega)) (by first | exact Nat.le_of_ble_eq_true rfl | omega | (dsimp only; omega))
  exact ⟨rfl, rfl⟩
set_option maxHeartbeats 1000000 in
theorem c_X1_sizeOf_1 (l : Launch) (hl : l.stackTraces = false) (G : hp_G) (X : Nat → Nat) (N0 : Nat) (M : hp_h) (a : Nat) (x : vp_A) (ha : M a = some (.inl (G.2 1, x))) : HM l yX1_sizeOf (ws_ yX1_sizeOf cX1_sizeOf 1 (some .int)) 2 41 0 0 G X N0 [.ref a] M (PV (.int (nI x.1)) M) PX0 := by
  refine HM.of hl [(0, .ref a)] (by decide +kernel) rfl (Nat.le_of_ble_eq_true rfl) ?_
  intro p e s m args below meth c C hname
  refine V_aload_n C dX1_sizeOf_0 rfl 0 rfl ?_
  refine V_callS C (c_X1_kindOf_1 l hl G X N0 M a x ha) cs_X1_25 rfl rfl ⟨Nat.le_of_ble_eq_true rfl, Nat.le_of_ble_eq_true rfl⟩ ⟨(by first | exact Nat.le_of_ble_eq_true rfl | omega | (dsimp only; omega)), (by first | exact Nat.le_of_ble_eq_true rfl | omega | (dsimp only; omega))⟩ (Nat.le_of_ble_eq_true rfl) dX1_sizeOf_1 (fun _ _ _ h => px0 h) ?_
  rintro _ _ ⟨rfl, rfl⟩
  refine V_st (st' := [.int 1]) rfl ?_
  refine V_tableIn (tgt := 70) (off := 66) C dX1_sizeOf_4 (by decide) (by decide) (by decide) (by decide) ?_
  refine V_aload_n C dX1_sizeOf_70 rfl 0 rfl ?_
  refine V_castA C (j := 1) (by decide) q608 (Or.inl rfl) ha dX1_sizeOf_71 ?_
  refine V_alen (j := 1) C rfl ha (v := nI x.1) rfl dX1_sizeOf_74 ?_
  refine V_iret C dX1_sizeOf_75 rfl ?_ (by first | exact Nat.le_of_ble_eq_true rfl | omega | (dsimp only; omega)) (by first | exact Nat.le_of_ble_eq_true rfl | omega | (dsimp only; omega))
  exact ⟨rfl, rfl⟩
set_option maxHeartbeats 1000000 in
theorem c_X1_sizeOf_2 (l : Launch) (hl : l.stackTraces = false) (G : hp_G) (X : Nat → Nat) (N0 : Nat) (M : hp_h) (a : Nat) (x : vp_A) (ha : M a = some (.inl (G.2 2, x))) : HM l yX1_sizeOf (ws_ yX1_sizeOf cX1_sizeOf 1 (some .int)) 2 41 0 0 G X N0 [.ref a] M (PV (.int (nI x.1)) M) PX0 := by
  refine HM.of hl [(0, .ref a)] (by decide +kernel) rfl (Nat.le_of_ble_eq_true rfl) ?_
  intro p e s m args below meth c C hname
  refine V_aload_n C dX1_sizeOf_0 rfl 0 rfl ?_
  refine V_callS C (c_X1_kindOf_2 l hl G X N0 M a x ha) cs_X1_25 rfl rfl ⟨Nat.le_of_ble_eq_true rfl, Nat.le_of_ble_eq_true rfl⟩ ⟨(by first | exact Nat.le_of_ble_eq_true rfl | omega | (dsimp only; omega)), (by first | exact Nat.le_of_ble_eq_true rfl | omega | (dsimp only; omega))⟩ (Nat.le_of_ble_eq_true rfl) dX1_sizeOf_1 (fun _ _ _ h => px0 h) ?_
  rintro _ _ ⟨rfl, rfl⟩
  refine V_st (st' := [.int 2]) rfl ?_
  refine V_tableIn (tgt := 76) (off := 72) C dX1_sizeOf_4 (by decide) (by decide) (by decide) (by decide) ?_
  refine V_aload_n C dX1_sizeOf_76 rfl 0 rfl ?_
  refine V_castA C (j := 2) (by decide) q609 (Or.inl rfl) ha dX1_sizeOf_77 ?_
  refine V_alen (j := 2) C rfl ha (v := nI x.1) rfl dX1_sizeOf_80 ?_
  refine V_iret C dX1_sizeOf_81 rfl ?_ (by first | exact Nat.le_of_ble_eq_true rfl | omega | (dsimp only; omega)) (by first | exact Nat.le_of_ble_eq_true rfl | omega | (dsimp only; omega))
  exact ⟨rfl, rfl⟩
set_option maxHeartbeats 1000000 in
theorem c_X1_sizeOf_3 (l : Launch) (hl : l.stackTraces = false) (G : hp_G) (X : Nat → Nat) (N0 : Nat) (M : hp_h) (a : Nat) (x : vp_A) (ha : M a = some (.inl (G.2 3, x))) : HM l yX1_sizeOf (ws_ yX1_sizeOf cX1_sizeOf 1 (some .int)) 2 41 0 0 G X N0 [.ref a] M (PV (.int (nI x.1)) M) PX0 := by
  refine HM.of hl [(0, .ref a)] (by decide +kernel) rfl (Nat.le_of_ble_eq_true rfl) ?_
  intro p e s m args below meth c C hname
  refine V_aload_n C dX1_sizeOf_0 rfl 0 rfl ?_
  refine V_callS C (c_X1_kindOf_3 l hl G X N0 M a x ha) cs_X1_25 rfl rfl ⟨Nat.le_of_ble_eq_true rfl, Nat.le_of_ble_eq_true rfl⟩ ⟨(by first | exact Nat.le_of_ble_eq_true rfl | omega | (dsimp only; omega)), (by first | exact Nat.le_of_ble_eq_true rfl | omega | (dsimp only; omega))⟩ (Nat.le_of_ble_eq_true rfl) dX1_sizeOf_1 (fun _ _ _ h => px0 h) ?_
  rintro _ _ ⟨rfl, rfl⟩
  refine V_st (st' := [.int 3]) rfl ?_
  refine V_tableIn (tgt := 82) (off := 78) C dX1_sizeOf_4 (by decide) (by decide) (by decide) (by decide) ?_
  refine V_aload_n C dX1_sizeOf_82 rfl 0 rfl ?_
  refine V_castA C (j := 3) (by decide) q610 (Or.inl rfl) ha dX1_sizeOf_83 ?_
  refine V_alen (j := 3) C rfl ha (v := nI x.1) rfl dX1_sizeOf_86 ?_
  refine V_iret C dX1_sizeOf_87 rfl ?_ (by first | exact Nat.le_of_ble_eq_true rfl | omega | (dsimp only; omega)) (by first | exact Nat.le_of_ble_eq_true rfl | omega | (dsimp only; omega))
  exact ⟨rfl, rfl⟩
set_option maxHeartbeats 1000000 in
theorem c_X1_sizeOf_4 (l : Launch) (hl : l.stackTraces = false) (G : hp_G) (X : Nat → Nat) (N0 : Nat) (M : hp_h) (a : Nat) (x : vp_A) (ha : M a = some (.inl (G.2 4, x))) : HM l yX1_sizeOf (ws_ yX1_sizeOf cX1_sizeOf 1 (some .int)) 2 41 0 0 G X N0 [.ref a] M (PV (.int (nI x.1)) M) PX0 := by
  refine HM.of hl [(0, .ref a)] (by decide +kernel) rfl (Nat.le_of_ble_eq_true rfl) ?_
  intro p e s m args below meth c C hname
  refine V_aload_n C dX1_sizeOf_0 rfl 0 rfl ?_
  refine V_callS C (c_X1_kindOf_4 l hl G X N0 M a x ha) cs_X1_25 rfl rfl ⟨Nat.le_of_ble_eq_true rfl, Nat.le_of_ble_eq_true rfl⟩ ⟨(by first | exact Nat.le_of_ble_eq_true rfl | omega | (dsimp only; omega)), (by first | exact Nat.le_of_ble_eq_true rfl | omega | (dsimp only; omega))⟩ (Nat.le_of_ble_eq_true rfl) dX1_sizeOf_1 (fun _ _ _ h => px0 h) ?_
  rintro _ _ ⟨rfl, rfl⟩
  refine V_st (st' := [.int 4]) rfl ?_
  refine V_tableIn (tgt := 88) (off := 84) C dX1_sizeOf_4 (by decide) (by decide) (by decide) (by decide) ?_
  refine V_aload_n C dX1_sizeOf_88 rfl 0 rfl ?_
  refine V_castA C (j := 4) (by decide) q458 (Or.inl rfl) ha dX1_sizeOf_89 ?_
  refine V_alen (j := 4) C rfl ha (v := nI x.1) rfl dX1_sizeOf_92 ?_
  refine V_iret C dX1_sizeOf_93 rfl ?_ (by first | exact Nat.le_of_ble_eq_true rfl | omega | (dsimp only; omega)) (by first | exact Nat.le_of_ble_eq_true rfl | omega | (dsimp only; omega))
  exact ⟨rfl, rfl⟩
set_option maxHeartbeats 1000000 in
theorem c_X1_sizeOf_5 (l : Launch) (hl : l.stackTraces = false) (G : hp_G) (X : Nat → Nat) (N0 : Nat) (M : hp_h) (a : Nat) (x : vp_A) (ha : M a = some (.inl (G.2 5, x))) : HM l yX1_sizeOf (ws_ yX1_sizeOf cX1_sizeOf 1 (some .int)) 2 41 0 0 G X N0 [.ref a] M (PV (.int (nI x.1)) M) PX0 := by
  refine HM.of hl [(0, .ref a)] (by decide +kernel) rfl (Nat.le_of_ble_eq_true rfl) ?_
  intro p e s m args below meth c C hname
  refine V_aload_n C dX1_sizeOf_0 rfl 0 rfl ?_
  refine V_callS C (c_X1_kindOf_5 l hl G X N0 M a x ha) cs_X1_25 rfl rfl ⟨Nat.le_of_ble_eq_true rfl, Nat.le_of_ble_eq_true rfl⟩ ⟨(by first | exact Nat.le_of_ble_eq_true rfl | omega | (dsimp only; omega)), (by first | exact Nat.le_of_ble_eq_true rfl | omega | (dsimp only; omega))⟩ (Nat.le_of_ble_eq_true rfl) dX1_sizeOf_1 (fun _ _ _ h => px0 h) ?_
  rintro _ _ ⟨rfl, rfl⟩
  refine V_st (st' := [.int 5]) rfl ?_
  refine V_tableIn (tgt := 94) (off := 90) C dX1_sizeOf_4 (by decide) (by decide) (by decide) (by decide) ?_
  refine V_aload_n C dX1_sizeOf_94 rfl 0 rfl ?_
  refine V_castA C (j := 5) (by decide) q611 (Or.inl rfl) ha dX1_sizeOf_95 ?_
  refine V_alen (j := 5) C rfl ha (v := nI x.1) rfl dX1_sizeOf_98 ?_
  refine V_iret C dX1_sizeOf_99 rfl ?_ (by first | exact Nat.le_of_ble_eq_true rfl | omega | (dsimp only; omega)) (by first | exact Nat.le_of_ble_eq_true rfl | omega | (dsimp only; omega))
  exact ⟨rfl, rfl⟩
set_option maxHeartbeats 1000000 in
theorem c_X1_sizeOf_6 (l : Launch) (hl : l.stackTraces = false) (G : hp_G) (X : Nat → Nat) (N0 : Nat) (M : hp_h) (a : Nat) (x : vp_A) (ha : M a = some (.inl (G.2 6, x))) : HM l yX1_sizeOf (ws_ yX1_sizeOf cX1_sizeOf 1 (some .int)) 2 41 0 0 G X N0 [.ref a] M (PV (.int (nI x.1)) M) PX0 := by
  refine HM.of hl [(0, .ref a)] (by decide +kernel) rfl (Nat.le_of_ble_eq_true rfl) ?_
  intro p e s m args below meth c C hname
  refine V_aload_n C dX1_sizeOf_0 rfl 0 rfl ?_
  refine V_callS C (c_X1_kindOf_6 l hl G X N0 M a x ha) cs_X1_25 rfl rfl ⟨Nat.le_of_ble_eq_true rfl, Nat.le_of_ble_eq_true rfl⟩ ⟨(by first | exact Nat.le_of_ble_eq_true rfl | omega | (dsimp only; omega)), (by first | exact Nat.le_of_ble_eq_true rfl | omega | (dsimp only; omega))⟩ (Nat.le_of_ble_eq_true rfl) dX1_sizeOf_1 (fun _ _ _ h => px0 h) ?_
  rintro _ _ ⟨rfl, rfl⟩
  refine V_st (st' := [.int 6]) rfl ?_
  refine V_tableIn (tgt := 100) (off := 96) C dX1_sizeOf_4 (by decide) (by decide) (by decide) (by decide) ?_
  refine V_aload_n C dX1_sizeOf_100 rfl 0 rfl ?_
  refine V_castA C (j := 6) (by decide) q612 (Or.inl rfl) ha dX1_sizeOf_101 ?_
  refine V_alen (j := 6) C rfl ha (v := nI x.1) rfl dX1_sizeOf_104 ?_
  refine V_iret C dX1_sizeOf_105 rfl ?_ (by first | exact Nat.le_of_ble_eq_true rfl | omega | (dsimp only; omega)) (by first | exact Nat.le_of_ble_eq_true rfl | omega | (dsimp only; omega))
  exact ⟨rfl, rfl⟩
set_option maxHeartbeats 1000000 in
theorem c_X1_sizeOf_7 (l : Launch) (hl : l.stackTraces = false) (G : hp_G) (X : Nat → Nat) (N0 : Nat) (M : hp_h) (a : Nat) (x : vp_A) (ha : M a = some (.inl (G.2 7, x))) : HM l yX1_sizeOf (ws_ yX1_sizeOf cX1_sizeOf 1 (some .int)) 2 41 0 0 G X N0 [.ref a] M (PV (.int (nI x.1)) M) PX0 := by
  refine HM.of hl [(0, .ref a)] (by decide +kernel) rfl (Nat.le_of_ble_eq_true rfl) ?_
  intro p e s m args below meth c C hname
  refine V_aload_n C dX1_sizeOf_0 rfl 0 rfl ?_
  refine V_callS C (c_X1_kindOf_7 l hl G X N0 M a x ha) cs_X1_25 rfl rfl ⟨Nat.le_of_ble_eq_true rfl, Nat.le_of_ble_eq_true rfl⟩ ⟨(by first | exact Nat.le_of_ble_eq_true rfl | omega | (dsimp only; omega)), (by first | exact Nat.le_of_ble_eq_true rfl | omega | (dsimp only; omega))⟩ (Nat.le_of_ble_eq_true rfl) dX1_sizeOf_1 (fun _ _ _ h => px0 h) ?_
  rintro _ _ ⟨rfl, rfl⟩
  refine V_st (st' := [.int 7]) rfl ?_
  refine V_tableIn (tgt := 106) (off := 102) C dX1_sizeOf_4 (by decide) (by decide) (by decide) (by decide) ?_
  refine V_aload_n C dX1_sizeOf_106 rfl 0 rfl ?_
  refine V_castA C (j := 7) (by decide) q613 (Or.inl rfl) ha dX1_sizeOf_107 ?_
  refine V_alen (j := 7) C rfl ha (v := nI x.1) rfl dX1_sizeOf_110 ?_
  refine V_iret C dX1_sizeOf_111 rfl ?_ (by first | exact Nat.le_of_ble_eq_true rfl | omega | (dsimp only; omega)) (by first | exact Nat.le_of_ble_eq_true rfl | omega | (dsimp only; omega))
  exact ⟨rfl, rfl⟩
set_option maxHeartbeats 1000000 in
theorem c_X1_sizeOf_8 (l : Launch) (hl : l.stackTraces = false) (G : hp_G) (X : Nat → Nat) (N0 : Nat) (M : hp_h) (a : Nat) (x : vp_A) (ha : M a = some (.inl (G.2 8, x))) : HM l yX1_sizeOf (ws_ yX1_sizeOf cX1_sizeOf 1 (some .int)) 2 41 0 0 G X N0 [.ref a] M (PV (.int (nI x.1)) M) PX0 := by
  refine HM.of hl [(0, .ref a)] (by decide +kernel) rfl (Nat.le_of_ble_eq_true rfl) ?_
  intro p e s m args below meth c C hname
  refine V_aload_n C dX1_sizeOf_0 rfl 0 rfl ?_
  refine V_callS C (c_X1_kindOf_8 l hl G X N0 M a x ha) cs_X1_25 rfl rfl ⟨Nat.le_of_ble_eq_true rfl, Nat.le_of_ble_eq_true rfl⟩ ⟨(by first | exact Nat.le_of_ble_eq_true rfl | omega | (dsimp only; omega)), (by first | exact Nat.le_of_ble_eq_true rfl | omega | (dsimp only; omega))⟩ (Nat.le_of_ble_eq_true rfl) dX1_sizeOf_1 (fun _ _ _ h => px0 h) ?_
  rintro _ _ ⟨rfl, rfl⟩
  refine V_st (st' := [.int 8]) rfl ?_
  refine V_tableIn (tgt := 118) (off := 114) C dX1_sizeOf_4 (by decide) (by decide) (by decide) (by decide) ?_
  refine V_aload_n C dX1_sizeOf_118 rfl 0 rfl ?_
  refine V_castA C (j := 8) (by decide) q605 (Or.inl rfl) ha dX1_sizeOf_119 ?_
  refine V_alen (j := 8) C rfl ha (v := nI x.1) rfl dX1_sizeOf_122 ?_
  refine V_iret C dX1_sizeOf_123 rfl ?_ (by first | exact Nat.le_of_ble_eq_true rfl | omega | (dsimp only; omega)) (by first | exact Nat.le_of_ble_eq_true rfl | omega | (dsimp only; omega))
  exact ⟨rfl, rfl⟩
set_option maxHeartbeats 1000000 in
theorem c_X1_sizeOf_9 (l : Launch) (hl : l.stackTraces = false) (G : hp_G) (X : Nat → Nat) (N0 : Nat) (M : hp_h) (a : Nat) (x : vp_A) (ha : M a = some (.inl (G.2 9, x))) : HM l yX1_sizeOf (ws_ yX1_sizeOf cX1_sizeOf 1 (some .int)) 2 41 0 0 G X N0 [.ref a] M (PV (.int (nI x.1)) M) PX0 := by
  refine HM.of hl [(0, .ref a)] (by decide +kernel) rfl (Nat.le_of_ble_eq_true rfl) ?_
  intro p e s m args below meth c C hname
  refine V_aload_n C dX1_sizeOf_0 rfl 0 rfl ?_
  refine V_callS C (c_X1_kindOf_9 l hl G X N0 M a x ha) cs_X1_25 rfl rfl ⟨Nat.le_of_ble_eq_true rfl, Nat.le_of_ble_eq_true rfl⟩ ⟨(by first | exact Nat.le_of_ble_eq_true rfl | omega | (dsimp only; omega)), (by first | exact Nat.le_of_ble_eq_true rfl | omega | (dsimp only; omega))⟩ (Nat.le_of_ble_eq_true rfl) dX1_sizeOf_1 (fun _ _ _ h => px0 h) ?_
  rintro _ _ ⟨rfl, rfl⟩
  refine V_st (st' := [.int 9]) rfl ?_
  refine V_tableIn (tgt := 118) (off := 114) C dX1_sizeOf_4 (by decide) (by decide) (by decide) (by decide) ?_
  refine V_aload_n C dX1_sizeOf_118 rfl 0 rfl ?_
  refine V_castA C (j := 9) (by decide) q605 (Or.inr ⟨rfl, rfl⟩) ha dX1_sizeOf_119 ?_
  refine V_alen (j := 9) C rfl ha (v := nI x.1) rfl dX1_sizeOf_122 ?_
  refine V_iret C dX1_sizeOf_123 rfl ?_ (by first | exact Nat.le_of_ble_eq_true rfl | omega | (dsimp only; omega)) (by first | exact Nat.le_of_ble_eq_true rfl | omega | (dsimp only; omega))
  exact ⟨rfl, rfl⟩
set_option maxHeartbeats 1000000 in
theorem c_X1_sizeOf_10 (l : Launch) (hl : l.stackTraces = false) (G : hp_G) (X : Nat → Nat) (N0 : Nat) (M : hp_h) (a : Nat) (x : vp_A) (ha : M a = some (.inl (G.2 10, x))) : HM l yX1_sizeOf (ws_ yX1_sizeOf cX1_sizeOf 1 (some .int)) 2 41 0 0 G X N0 [.ref a] M (PV (.int (nI x.1)) M) PX0 := by
  refine HM.of hl [(0, .ref a)] (by decide +kernel) rfl (Nat.le_of_ble_eq_true rfl) ?_
  intro p e s m args below meth c C hname
  refine V_aload_n C dX1_sizeOf_0 rfl 0 rfl ?_
  refine V_callS C (c_X1_kindOf_10 l hl G X N0 M a x ha) cs_X1_25 rfl rfl ⟨Nat.le_of_ble_eq_true rfl, Nat.le_of_ble_eq_true rfl⟩ ⟨(by first | exact Nat.le_of_ble_eq_true rfl | omega | (dsimp only; omega)), (by first | exact Nat.le_of_ble_eq_true rfl | omega | (dsimp only; omega))⟩ (Nat.le_of_ble_eq_true rfl) dX1_sizeOf_1 (fun _ _ _ h => px0 h) ?_
  rintro _ _ ⟨rfl, rfl⟩
  refine V_st (st' := [.int 10]) rfl ?_
  refine V_tableIn (tgt := 112) (off := 108) C dX1_sizeOf_4 (by decide) (by decide) (by decide) (by decide) ?_
  refine V_aload_n C dX1_sizeOf_112 rfl 0 rfl ?_
  refine V_castA C (j := 10) (by decide) q617 (Or.inl rfl) ha dX1_sizeOf_113 ?_
  refine V_alen (j := 10) C rfl ha (v := nI x.1) rfl dX1_sizeOf_116 ?_
  refine V_iret C dX1_sizeOf_117 rfl ?_ (by first | exact Nat.le_of_ble_eq_true rfl | omega | (dsimp only; omega)) (by first | exact Nat.le_of_ble_eq_true rfl | omega | (dsimp only; omega))
  exact ⟨rfl, rfl⟩
theorem c_X1_sizeOf (l : Launch) (hl : l.stackTraces = false) (G : hp_G) (X : Nat → Nat) (N0 : Nat) (M : hp_h) (a : Nat) (k : Nat) (hk : k ≤ 10) (x : vp_A) (ha : M a = some (.inl (G.2 k, x))) : HM l yX1_sizeOf (ws_ yX1_sizeOf cX1_sizeOf 1 (some .int)) 2 41 0 0 G X N0 [.ref a] M (PV (.int (nI x.1)) M) PX0 := by
  match k, hk with
  | 0, _ => exact c_X1_sizeOf_0 l hl G X N0 M a x ha
  | 1, _ => exact c_X1_sizeOf_1 l hl G X N0 M a x ha
  | 2, _ => exact c_X1_sizeOf_2 l hl G X N0 M a x ha
  | 3, _ => exact c_X1_sizeOf_3 l hl G X N0 M a x ha
  | 4, _ => exact c_X1_sizeOf_4 l hl G X N0 M a x ha
  | 5, _ => exact c_X1_sizeOf_5 l hl G X N0 M a x ha
  | 6, _ => exact c_X1_sizeOf_6 l hl G X N0 M a x ha
  | 7, _ => exact c_X1_sizeOf_7 l hl G X N0 M a x ha
  | 8, _ => exact c_X1_sizeOf_8 l hl G X N0 M a x ha
  | 9, _ => exact c_X1_sizeOf_9 l hl G X N0 M a x ha
  | 10, _ => exact c_X1_sizeOf_10 l hl G X N0 M a x ha
  | n + 11, h => exact absurd h (by omega)
set_option maxHeartbeats 1000000 in
theorem c_X1_needsRow (l : Launch) (hl : l.stackTraces = false) (G : hp_G) (X : Nat → Nat) (N0 : Nat) (M : hp_h) (r : Int32) : HM l yX1_needsRow (ws_ yX1_needsRow cX1_needsRow 1 (some .boolean)) 0 0 0 0 G X N0 [.int r] M (PV (.int (bI (r ≠ 10 ∧ r ≠ 11))) M) PX0 := by
  refine HM.of hl [(0, .int r)] (by decide +kernel) rfl (Nat.le_of_ble_eq_true rfl) ?_
  intro p e s m args below meth c C hname
  refine V_iload_n C dX1_needsRow_0 rfl 0 rfl ?_
  refine V_bipush (v := 10) C dX1_needsRow_1 rfl ?_
  refine V_icmp_lt (tgt := 12) C dX1_needsRow_3 (by decide) (fun c_3 => ?_) (fun c_3 => ?_)
  · refine V_iconst (v := 1) C dX1_needsRow_12 rfl ?_
    refine V_goto (tgt := 17) C dX1_needsRow_13 (by decide) ?_
    refine V_zret C rfl dX1_needsRow_17 rfl ?_ (by first | exact Nat.le_of_ble_eq_true rfl | omega | (dsimp only; omega)) (by first | exact Nat.le_of_ble_eq_true rfl | omega | (dsimp only; omega))
    refine ⟨congrArg (fun z => some (Value.int z)) (bI_t ?_), rfl⟩
    clear C
    grind
  · refine V_iload_n C dX1_needsRow_6 rfl 0 rfl ?_
    refine V_bipush (v := 11) C dX1_needsRow_7 rfl ?_
    refine V_icmp_le (tgt := 16) C dX1_needsRow_9 (by decide) (fun c_9 => ?_) (fun c_9 => ?_)
    · refine V_iconst (v := 0) C dX1_needsRow_16 rfl ?_
      refine V_zret C rfl dX1_needsRow_17 rfl ?_ (by first | exact Nat.le_of_ble_eq_true rfl | omega | (dsimp only; omega)) (by first | exact Nat.le_of_ble_eq_true rfl | omega | (dsimp only; omega))
      refine ⟨congrArg (fun z => some (Value.int z)) (bI_f ?_), rfl⟩
      clear C
      grind
    · refine V_iconst (v := 1) C dX1_needsRow_12 rfl ?_
      refine V_goto (tgt := 17) C dX1_needsRow_13 (by decide) ?_
      refine V_zret C rfl dX1_needsRow_17 rfl ?_ (by first | exact Nat.le_of_ble_eq_true rfl | omega | (dsimp only; omega)) (by first | exact Nat.le_of_ble_eq_true rfl | omega | (dsimp only; omega))
      refine ⟨congrArg (fun z => some (Value.int z)) (bI_t ?_), rfl⟩
      clear C
      grind
set_option maxHeartbeats 1000000 in
theorem c_X1_bitsOf (l : Launch) (hl : l.stackTraces = false) (G : hp_G) (X : Nat → Nat) (N0 : Nat) (M : hp_h) (v : UInt64) : HM l yX1_bitsOf (ws_ yX1_bitsOf cX1_bitsOf 2 (some .long)) 2 44 0 0 G X N0 [.double v] M (PV (.long (mdB v)) M) PX0 := by
  refine HM.of hl [(0, .double v)] (by decide +kernel) rfl (Nat.le_of_ble_eq_true rfl) ?_
  intro p e s m args below meth c C hname
  refine V_dload_n C dX1_bitsOf_0 rfl 0 rfl ?_
  refine V_callS C (c_J18_doubleToLongBits l hl G X N0 M v) cs_X1_48 rfl rfl ⟨Nat.le_of_ble_eq_true rfl, Nat.le_of_ble_eq_true rfl⟩ ⟨(by first | exact Nat.le_of_ble_eq_true rfl | omega | (dsimp only; omega)), (by first | exact Nat.le_of_ble_eq_true rfl | omega | (dsimp only; omega))⟩ (Nat.le_of_ble_eq_true rfl) dX1_bitsOf_1 (fun _ _ _ h => px0 h) ?_
  rintro _ _ ⟨rfl, rfl⟩
  refine V_st (st' := [.long (mdB v)]) rfl ?_
  refine V_lret C dX1_bitsOf_4 rfl ?_ (by first | exact Nat.le_of_ble_eq_true rfl | omega | (dsimp only; omega)) (by first | exact Nat.le_of_ble_eq_true rfl | omega | (dsimp only; omega))
  exact ⟨rfl, rfl⟩
set_option maxHeartbeats 1000000 in
theorem c_X1_numberBits (l : Launch) (hl : l.stackTraces = false) (G : hp_G) (X : Nat → Nat) (N0 : Nat) (M : hp_h) (b : Int64) : HM l yX1_numberBits (ws_ yX1_numberBits cX1_numberBits 2 (some .double)) 1 23 0 0 G X N0 [.long b] M (PV (.double (mdO b)) M) PX0 := by
  refine HM.of hl [(0, .long b)] (by decide +kernel) rfl (Nat.le_of_ble_eq_true rfl) ?_
  intro p e s m args below meth c C hname
  refine V_lload_n C dX1_numberBits_0 rfl 0 rfl ?_
  refine V_ldc2 (v := 9223372036854775807) C (C.w q1267) dX1_numberBits_1 ?_
  refine V_land C dX1_numberBits_4 ?_
  refine V_ldc2 (v := 9218868437227405312) C (C.w q1268) dX1_numberBits_5 ?_
  refine V_lcmp C dX1_numberBits_8 ?_
  refine V_if_le (tgt := 18) C dX1_numberBits_9 (by decide) (fun c_9 => ?_) (fun c_9 => ?_)
  · refine V_lload_n C dX1_numberBits_18 rfl 0 rfl ?_
    refine V_l2d C ⟨q1269, q1271, q1270, q93⟩ (snl2d_of ((lg_cmp_le _ _).mp c_9)) ⟨Nat.le_of_ble_eq_true rfl, Nat.le_of_ble_eq_true rfl⟩ dX1_numberBits_19 ?_
    refine V_dret C dX1_numberBits_22 rfl ?_ (by first | exact Nat.le_of_ble_eq_true rfl | omega | (dsimp only; omega)) (by first | exact Nat.le_of_ble_eq_true rfl | omega | (dsimp only; omega))
    refine ⟨congrArg (fun z => some (Value.double z)) ?_, rfl⟩
    rw [lg_cmp_le] at c_9
    unfold mdO
    first | rw [if_pos c_9] | rw [if_neg c_9]
  · refine V_ldc2d (v := 9221120237041090560) C (C.w q1179) dX1_numberBits_12 ?_
    refine V_goto (tgt := 22) C dX1_numberBits_15 (by decide) ?_
    refine V_dret C dX1_numberBits_22 rfl ?_ (by first | exact Nat.le_of_ble_eq_true rfl | omega | (dsimp only; omega)) (by first | exact Nat.le_of_ble_eq_true rfl | omega | (dsimp only; omega))
    refine ⟨congrArg (fun z => some (Value.double z)) ?_, rfl⟩
    rw [lg_cmp_le] at c_9
    unfold mdO
    first | rw [if_pos c_9] | rw [if_neg c_9]
set_option maxHeartbeats 1000000 in
theorem c_X1_singleBits (l : Launch) (hl : l.stackTraces = false) (G : hp_G) (X : Nat → Nat) (N0 : Nat) (M : hp_h) (b : Int32) : HM l yX1_singleBits (ws_ yX1_singleBits cX1_singleBits 1 (some .float)) 1 23 0 0 G X N0 [.int b] M (PV (.float (mfO b)) M) PX0 := by
  refine HM.of hl [(0, .int b)] (by decide +kernel) rfl (Nat.le_of_ble_eq_true rfl) ?_
  intro p e s m args below meth c C hname
  refine V_iload_n C dX1_singleBits_0 rfl 0 rfl ?_
  refine V_ldcw (v := 2147483647) C (C.w q1258) dX1_singleBits_1 ?_
  refine V_iand C dX1_singleBits_4 ?_
  refine V_ldcw (v := 2139095040) C (C.w q1259) dX1_singleBits_5 ?_
  refine V_icmp_le (tgt := 17) C dX1_singleBits_8 (by decide) (fun c_8 => ?_) (fun c_8 => ?_)
  · refine V_iload_n C dX1_singleBits_17 rfl 0 rfl ?_
    refine V_i2f C ⟨q1261, q1263, q1262, q92⟩ (sni2f_of c_8) ⟨Nat.le_of_ble_eq_true rfl, Nat.le_of_ble_eq_true rfl⟩ dX1_singleBits_18 ?_
    refine V_fret C dX1_singleBits_21 rfl ?_ (by first | exact Nat.le_of_ble_eq_true rfl | omega | (dsimp only; omega)) (by first | exact Nat.le_of_ble_eq_true rfl | omega | (dsimp only; omega))
    refine ⟨congrArg (fun z => some (Value.float z)) ?_, rfl⟩
    unfold mfO
    first | rw [if_pos c_8] | rw [if_neg c_8]
  · refine V_ldcwF (v := 2143289344) C (C.w q1260) dX1_singleBits_11 ?_
    refine V_goto (tgt := 21) C dX1_singleBits_14 (by decide) ?_
    refine V_fret C dX1_singleBits_21 rfl ?_ (by first | exact Nat.le_of_ble_eq_true rfl | omega | (dsimp only; omega)) (by first | exact Nat.le_of_ble_eq_true rfl | omega | (dsimp only; omega))
    refine ⟨congrArg (fun z => some (Value.float z)) ?_, rfl⟩
    unfold mfO
    first | rw [if_pos c_8] | rw [if_neg c_8]
set_option maxHeartbeats 1000000 in
theorem c_X1_plus (l : Launch) (hl : l.stackTraces = false) (G : hp_G) (X : Nat → Nat) (N0 : Nat) (M : hp_h) (a b : UInt64) : HM l yX1_plus (ws_ yX1_plus cX1_plus 5 (some .double)) 0 0 0 0 G X N0 [.double a, .double b] M (PV (.double (mPlus a b)) M) PX0 := by
  refine HM.of hl [(0, .double a), (2, .double b)] (by decide +kernel) rfl (Nat.le_of_ble_eq_true rfl) ?_
  intro p e s m args below meth c C hname
  have jn_21_1 : ∀ (x21 : Int32), x21 = bI (dEnd a) → V p l e { frames := 0, cells := 0, slots := 0, locals := 0 } s m args below meth c G N0 5 (QV below G N0 (PV (.double (mPlus a b)) M) PX0 args s (0) (0)) (0) (0) M 21 [(0, .double a), (2, .double b)] [.int x21] := by
    intro x21 hjn_21_1
    refine V_istore C dX1_plus_21 (Nat.le_of_ble_eq_true rfl) [(0, .double a), (2, .double b), (4, .int x21)] [1, 2, 0] rfl ?_
    refine V_dload_n C dX1_plus_23 rfl 0 rfl ?_
    refine V_dload_n C dX1_plus_24 rfl 0 rfl ?_
    refine V_dcmp C dX1_plus_25 ?_
    refine V_if_ne (tgt := 47) C dX1_plus_26 (by decide) (fun c_26 => ?_) (fun c_26 => ?_)
    · refine V_ldc2d (v := 9221120237041090560) C (C.w q1179) dX1_plus_47 ?_
      refine V_goto (tgt := 56) C dX1_plus_50 (by decide) ?_
      refine V_dret C dX1_plus_56 rfl ?_ (by first | exact Nat.le_of_ble_eq_true rfl | omega | (dsimp only; omega)) (by first | exact Nat.le_of_ble_eq_true rfl | omega | (dsimp only; omega))
      refine ⟨congrArg (fun z => some (Value.double z)) ?_, rfl⟩
      unfold mPlus
      have hpl : dN a ∨ dN b ∨ (a = dINF ∧ b = dNIN) ∨ (a = dNIN ∧ b = dINF) := by
        simp only [dN_cmp, Classical.not_not] at c_26
        exact Or.inl c_26
      rw [if_pos hpl]
    · refine V_dload_n C dX1_plus_29 rfl 1 rfl ?_
      refine V_dload_n C dX1_plus_30 rfl 1 rfl ?_
      refine V_dcmp C dX1_plus_31 ?_
      refine V_if_ne (tgt := 47) C dX1_plus_32 (by decide) (fun c_32 => ?_) (fun c_32 => ?_)
      · refine V_ldc2d (v := 9221120237041090560) C (C.w q1179) dX1_plus_47 ?_
        refine V_goto (tgt := 56) C dX1_plus_50 (by decide) ?_
        refine V_pc (pc1 := 56) rfl ?_
        refine V_dret C dX1_plus_56 rfl ?_ (by first | exact Nat.le_of_ble_eq_true rfl | omega | (dsimp only; omega)) (by first | exact Nat.le_of_ble_eq_true rfl | omega | (dsimp only; omega))
        refine ⟨congrArg (fun z => some (Value.double z)) ?_, rfl⟩
        unfold mPlus
        have hpl : dN a ∨ dN b ∨ (a = dINF ∧ b = dNIN) ∨ (a = dNIN ∧ b = dINF) := by
          simp only [dN_cmp, Classical.not_not] at c_26
          simp only [dN_cmp, Classical.not_not] at c_32
          exact Or.inr (Or.inl c_32)
        rw [if_pos hpl]
      · refine V_iload C dX1_plus_35 2 rfl ?_
        refine V_if_eq (tgt := 53) C dX1_plus_37 (by decide) (fun c_37 => ?_) (fun c_37 => ?_)
        · have hpl : ¬ (dN a ∨ dN b ∨ (a = dINF ∧ b = dNIN) ∨ (a = dNIN ∧ b = dINF)) := by
            simp only [dN_cmp, Classical.not_not] at c_26
            simp only [dN_cmp, Classical.not_not] at c_32
            exact plus_ok1 c_26 c_32 (bI_0.mp (hjn_21_1.symm.trans c_37))
          refine V_pc (pc1 := 53) rfl ?_
          refine V_dload_n C dX1_plus_53 rfl 0 rfl ?_
          refine V_dload_n C dX1_plus_54 rfl 1 rfl ?_
          refine V_dadd C dX1_plus_55 (plus_num hpl) ?_
          refine V_dret C dX1_plus_56 rfl ?_ (by first | exact Nat.le_of_ble_eq_true rfl | omega | (dsimp only; omega)) (by first | exact Nat.le_of_ble_eq_true rfl | omega | (dsimp only; omega))
          refine ⟨congrArg (fun z => some (Value.double z)) ?_, rfl⟩
          unfold mPlus
          rw [if_neg hpl]
        · refine V_pc (pc1 := 40) rfl ?_
          refine V_dload_n C dX1_plus_40 rfl 1 rfl ?_
          refine V_dload_n C dX1_plus_41 rfl 0 rfl ?_
          refine V_dneg C dX1_plus_42 ?_
          refine V_dcmp C dX1_plus_43 ?_
          refine V_if_ne (tgt := 53) C dX1_plus_44 (by decide) (fun c_44 => ?_) (fun c_44 => ?_)
          · have hpl : ¬ (dN a ∨ dN b ∨ (a = dINF ∧ b = dNIN) ∨ (a = dNIN ∧ b = dINF)) := by
              simp only [dN_cmp, Classical.not_not] at c_26
              simp only [dN_cmp, Classical.not_not] at c_32
              have he := bI_n.mp (show ¬ bI (dEnd a) = 0 from fun z => c_37 (hjn_21_1.trans z))
              simp only [cv_eq] at c_44
              rintro (h | h | ⟨rfl, rfl⟩ | ⟨rfl, rfl⟩)
              · exact c_26 h
              · exact c_32 h
              · exact c_44 (by decide +kernel)
              · exact c_44 (by decide +kernel)
            refine V_dload_n C dX1_plus_53 rfl 0 rfl ?_
            refine V_dload_n C dX1_plus_54 rfl 1 rfl ?_
            refine V_dadd C dX1_plus_55 (plus_num hpl) ?_
            refine V_dret C dX1_plus_56 rfl ?_ (by first | exact Nat.le_of_ble_eq_true rfl | omega | (dsimp only; omega)) (by first | exact Nat.le_of_ble_eq_true rfl | omega | (dsimp only; omega))
            refine ⟨congrArg (fun z => some (Value.double z)) ?_, rfl⟩
            unfold mPlus
            rw [if_neg hpl]
          · refine V_ldc2d (v := 9221120237041090560) C (C.w q1179) dX1_plus_47 ?_
            refine V_goto (tgt := 56) C dX1_plus_50 (by decide) ?_
            refine V_dret C dX1_plus_56 rfl ?_ (by first | exact Nat.le_of_ble_eq_true rfl | omega | (dsimp only; omega)) (by first | exact Nat.le_of_ble_eq_true rfl | omega | (dsimp only; omega))
            refine ⟨congrArg (fun z => some (Value.double z)) ?_, rfl⟩
            unfold mPlus
            have hpl : dN a ∨ dN b ∨ (a = dINF ∧ b = dNIN) ∨ (a = dNIN ∧ b = dINF) := by
              simp only [dN_cmp, Classical.not_not] at c_26
              simp only [dN_cmp, Classical.not_not] at c_32
              have he := bI_n.mp (show ¬ bI (dEnd a) = 0 from fun z => c_37 (hjn_21_1.trans z))
              simp only [cv_eq] at c_44
              rcases he with rfl | rfl
              · rw [dneg_pinf] at c_44
                exact Or.inr (Or.inr (Or.inl ⟨rfl, dcmp_ninf.mp c_44⟩))
              · rw [dneg_ninf] at c_44
                exact Or.inr (Or.inr (Or.inr ⟨rfl, dcmp_pinf.mp c_44⟩))
            rw [if_pos hpl]
  refine V_dload_n C dX1_plus_0 rfl 0 rfl ?_
  refine V_ldc2d (v := 9218868437227405312) C (C.w q1340) dX1_plus_1 ?_
  refine V_dcmp C dX1_plus_4 ?_
  refine V_if_eq (tgt := 16) C dX1_plus_5 (by decide) (fun c_5 => ?_) (fun c_5 => ?_)
  · refine V_iconst (v := 1) C dX1_plus_16 rfl ?_
    refine V_goto (tgt := 21) C dX1_plus_17 (by decide) ?_
    refine V_loc (L' := [(0, .double a), (2, .double b)]) [0, 1] rfl ?_
    exact jn_21_1 1 (by (try simp only [cv_eq, dcmp_pinf, dcmp_ninf] at c_5); first | exact bI_t (Or.inl c_5) | exact bI_t (Or.inr c_5) | exact bI_f (fun z => z.elim c_5 c_5))
  · refine V_dload_n C dX1_plus_8 rfl 0 rfl ?_
    refine V_ldc2d (v := 18442240474082181120) C (C.w q1341) dX1_plus_9 ?_
    refine V_dcmp C dX1_plus_12 ?_
    refine V_if_ne (tgt := 20) C dX1_plus_13 (by decide) (fun c_13 => ?_) (fun c_13 => ?_)
    · refine V_iconst (v := 0) C dX1_plus_20 rfl ?_
      refine V_loc (L' := [(0, .double a), (2, .double b)]) [0, 1] rfl ?_
      exact jn_21_1 0 (by (try simp only [cv_eq, dcmp_pinf, dcmp_ninf] at c_5 c_13); first | exact bI_t (Or.inl c_5) | exact bI_t (Or.inr c_13) | exact bI_f (fun z => z.elim c_5 c_13))
    · refine V_iconst (v := 1) C dX1_plus_16 rfl ?_
      refine V_goto (tgt := 21) C dX1_plus_17 (by decide) ?_
      refine V_loc (L' := [(0, .double a), (2, .double b)]) [0, 1] rfl ?_
      exact jn_21_1 1 (by (try simp only [cv_eq, dcmp_pinf, dcmp_ninf] at c_5 c_13); first | exact bI_t (Or.inl c_5) | exact bI_t (Or.inr c_13) | exact bI_f (fun z => z.elim c_5 c_13))
theorem ifz {x : Int32} : (if x = 0 then (0 : Int64) else 1) = (if x = 0 then 0 else 1) := rfl
set_option maxHeartbeats 1000000 in
theorem c_X1_get_0 (l : Launch) (hl : l.stackTraces = false) (G : hp_G) (X : Nat → Nat) (N0 : Nat) (M : hp_h) (a n i : Nat) (f : Nat → Int32) (ha : M a = some (.inl (G.2 0, n, .inl f))) (hn : n ≤ 60000000) (hi : i < n) : HM l yX1_get (ws_ yX1_get cX1_get 4 (some .long)) 4 90 0 0 G X N0 [.ref a, .int (nI i)] M (PV (.long (if f i = 0 then 0 else 1)) M) PX0 := by
  refine HM.of hl [(0, .ref a), (1, .int (nI i))] (by decide +kernel) rfl (Nat.le_of_ble_eq_true rfl) ?_
  intro p e s m args below meth c C hname
  refine V_aload_n C dX1_get_0 rfl 0 rfl ?_
  refine V_callS C (c_X1_kindOf l hl G X N0 M a 0 (by decide) _ ha) cs_X1_25 rfl rfl ⟨Nat.le_of_ble_eq_true rfl, Nat.le_of_ble_eq_true rfl⟩ ⟨(by first | exact Nat.le_of_ble_eq_true rfl | omega | (dsimp only; omega)), (by first | exact Nat.le_of_ble_eq_true rfl | omega | (dsimp only; omega))⟩ (Nat.le_of_ble_eq_true rfl) dX1_get_1 (fun _ _ _ h => px0 h) ?_
  rintro _ _ ⟨rfl, rfl⟩
  refine V_st (st' := [.int (nI 0)]) rfl ?_
  refine V_tableIn (tgt := 64) (off := 60) C dX1_get_4 (by decide) (by decide) (by decide) (by decide) ?_
  refine V_aload_n C dX1_get_64 rfl 0 rfl ?_
  refine V_castA C (j := 0) (by decide) q607 (Or.inl rfl) ha dX1_get_65 ?_
  refine V_iload_n C dX1_get_68 rfl 1 rfl ?_
  refine V_zald C ha (vp_in_nI (by omega) (by omega)) dX1_get_69 ?_
  refine V_st (st' := [.int (f i)]) (by rw [nI_clamp (by omega)]) ?_
  refine V_if_eq (tgt := 77) C dX1_get_70 (by decide) (fun c_70 => ?_) (fun c_70 => ?_)
  · refine V_lconst (v := 0) C dX1_get_77 rfl ?_
    refine V_lret C dX1_get_78 rfl ?_ (by first | exact Nat.le_of_ble_eq_true rfl | omega | (dsimp only; omega)) (by first | exact Nat.le_of_ble_eq_true rfl | omega | (dsimp only; omega))
    refine ⟨congrArg (fun z => some (Value.long z)) ?_, rfl⟩
    first | rw [if_pos c_70] | rw [if_neg c_70]
  · refine V_lconst (v := 1) C dX1_get_73 rfl ?_
    refine V_goto (tgt := 78) C dX1_get_74 (by decide) ?_
    refine V_lret C dX1_get_78 rfl ?_ (by first | exact Nat.le_of_ble_eq_true rfl | omega | (dsimp only; omega)) (by first | exact Nat.le_of_ble_eq_true rfl | omega | (dsimp only; omega))
    refine ⟨congrArg (fun z => some (Value.long z)) ?_, rfl⟩
    first | rw [if_pos c_70] | rw [if_neg c_70]
set_option maxHeartbeats 1000000 in
theorem c_X1_get_1 (l : Launch) (hl : l.stackTraces = false) (G : hp_G) (X : Nat → Nat) (N0 : Nat) (M : hp_h) (a n i : Nat) (f : Nat → Int32) (ha : M a = some (.inl (G.2 1, n, .inl f))) (hn : n ≤ 60000000) (hi : i < n) : HM l yX1_get (ws_ yX1_get cX1_get 4 (some .long)) 4 90 0 0 G X N0 [.ref a, .int (nI i)] M (PV (.long (f i).toInt64) M) PX0 := by
  refine HM.of hl [(0, .ref a), (1, .int (nI i))] (by decide +kernel) rfl (Nat.le_of_ble_eq_true rfl) ?_
  intro p e s m args below meth c C hname
  refine V_aload_n C dX1_get_0 rfl 0 rfl ?_
  refine V_callS C (c_X1_kindOf l hl G X N0 M a 1 (by decide) _ ha) cs_X1_25 rfl rfl ⟨Nat.le_of_ble_eq_true rfl, Nat.le_of_ble_eq_true rfl⟩ ⟨(by first | exact Nat.le_of_ble_eq_true rfl | omega | (dsimp only; omega)), (by first | exact Nat.le_of_ble_eq_true rfl | omega | (dsimp only; omega))⟩ (Nat.le_of_ble_eq_true rfl) dX1_get_1 (fun _ _ _ h => px0 h) ?_
  rintro _ _ ⟨rfl, rfl⟩
  refine V_st (st' := [.int (nI 1)]) rfl ?_
  refine V_tableIn (tgt := 79) (off := 75) C dX1_get_4 (by decide) (by decide) (by decide) (by decide) ?_
  refine V_aload_n C dX1_get_79 rfl 0 rfl ?_
  refine V_castA C (j := 1) (by decide) q608 (Or.inl rfl) ha dX1_get_80 ?_
  refine V_iload_n C dX1_get_83 rfl 1 rfl ?_
  refine V_bald C ha (vp_in_nI (by omega) (by omega)) dX1_get_84 ?_
  refine V_st (st' := [.int (f i)]) (by rw [nI_clamp (by omega)]) ?_
  refine V_i2l (v := (f i).toInt64) C dX1_get_85 rfl ?_
  refine V_lret C dX1_get_86 rfl ?_ (by first | exact Nat.le_of_ble_eq_true rfl | omega | (dsimp only; omega)) (by first | exact Nat.le_of_ble_eq_true rfl | omega | (dsimp only; omega))
  exact ⟨rfl, rfl⟩
set_option maxHeartbeats 1000000 in
theorem c_X1_get_2 (l : Launch) (hl : l.stackTraces = false) (G : hp_G) (X : Nat → Nat) (N0 : Nat) (M : hp_h) (a n i : Nat) (f : Nat → Int32) (ha : M a = some (.inl (G.2 2, n, .inl f))) (hn : n ≤ 60000000) (hi : i < n) : HM l yX1_get (ws_ yX1_get cX1_get 4 (some .long)) 4 90 0 0 G X N0 [.ref a, .int (nI i)] M (PV (.long (f i).toInt64) M) PX0 := by
  refine HM.of hl [(0, .ref a), (1, .int (nI i))] (by decide +kernel) rfl (Nat.le_of_ble_eq_true rfl) ?_
  intro p e s m args below meth c C hname
  refine V_aload_n C dX1_get_0 rfl 0 rfl ?_
  refine V_callS C (c_X1_kindOf l hl G X N0 M a 2 (by decide) _ ha) cs_X1_25 rfl rfl ⟨Nat.le_of_ble_eq_true rfl, Nat.le_of_ble_eq_true rfl⟩ ⟨(by first | exact Nat.le_of_ble_eq_true rfl | omega | (dsimp only; omega)), (by first | exact Nat.le_of_ble_eq_true rfl | omega | (dsimp only; omega))⟩ (Nat.le_of_ble_eq_true rfl) dX1_get_1 (fun _ _ _ h => px0 h) ?_
  rintro _ _ ⟨rfl, rfl⟩
  refine V_st (st' := [.int (nI 2)]) rfl ?_
  refine V_tableIn (tgt := 87) (off := 83) C dX1_get_4 (by decide) (by decide) (by decide) (by decide) ?_
  refine V_aload_n C dX1_get_87 rfl 0 rfl ?_
  refine V_castA C (j := 2) (by decide) q609 (Or.inl rfl) ha dX1_get_88 ?_
  refine V_iload_n C dX1_get_91 rfl 1 rfl ?_
  refine V_cald C ha (vp_in_nI (by omega) (by omega)) dX1_get_92 ?_
  refine V_st (st' := [.int (f i)]) (by rw [nI_clamp (by omega)]) ?_
  refine V_i2l (v := (f i).toInt64) C dX1_get_93 rfl ?_
  refine V_lret C dX1_get_94 rfl ?_ (by first | exact Nat.le_of_ble_eq_true rfl | omega | (dsimp only; omega)) (by first | exact Nat.le_of_ble_eq_true rfl | omega | (dsimp only; omega))
  exact ⟨rfl, rfl⟩
set_option maxHeartbeats 1000000 in
theorem c_X1_get_3 (l : Launch) (hl : l.stackTraces = false) (G : hp_G) (X : Nat → Nat) (N0 : Nat) (M : hp_h) (a n i : Nat) (f : Nat → Int32) (ha : M a = some (.inl (G.2 3, n, .inl f))) (hn : n ≤ 60000000) (hi : i < n) : HM l yX1_get (ws_ yX1_get cX1_get 4 (some .long)) 4 90 0 0 G X N0 [.ref a, .int (nI i)] M (PV (.long (f i).toInt64) M) PX0 := by
  refine HM.of hl [(0, .ref a), (1, .int (nI i))] (by decide +kernel) rfl (Nat.le_of_ble_eq_true rfl) ?_
  intro p e s m args below meth c C hname
  refine V_aload_n C dX1_get_0 rfl 0 rfl ?_
  refine V_callS C (c_X1_kindOf l hl G X N0 M a 3 (by decide) _ ha) cs_X1_25 rfl rfl ⟨Nat.le_of_ble_eq_true rfl, Nat.le_of_ble_eq_true rfl⟩ ⟨(by first | exact Nat.le_of_ble_eq_true rfl | omega | (dsimp only; omega)), (by first | exact Nat.le_of_ble_eq_true rfl | omega | (dsimp only; omega))⟩ (Nat.le_of_ble_eq_true rfl) dX1_get_1 (fun _ _ _ h => px0 h) ?_
  rintro _ _ ⟨rfl, rfl⟩
  refine V_st (st' := [.int (nI 3)]) rfl ?_
  refine V_tableIn (tgt := 95) (off := 91) C dX1_get_4 (by decide) (by decide) (by decide) (by decide) ?_
  refine V_aload_n C dX1_get_95 rfl 0 rfl ?_
  refine V_castA C (j := 3) (by decide) q610 (Or.inl rfl) ha dX1_get_96 ?_
  refine V_iload_n C dX1_get_99 rfl 1 rfl ?_
  refine V_sald C ha (vp_in_nI (by omega) (by omega)) dX1_get_100 ?_
  refine V_st (st' := [.int (f i)]) (by rw [nI_clamp (by omega)]) ?_
  refine V_i2l (v := (f i).toInt64) C dX1_get_101 rfl ?_
  refine V_lret C dX1_get_102 rfl ?_ (by first | exact Nat.le_of_ble_eq_true rfl | omega | (dsimp only; omega)) (by first | exact Nat.le_of_ble_eq_true rfl | omega | (dsimp only; omega))
  exact ⟨rfl, rfl⟩
set_option maxHeartbeats 1000000 in
theorem c_X1_get_4 (l : Launch) (hl : l.stackTraces = false) (G : hp_G) (X : Nat → Nat) (N0 : Nat) (M : hp_h) (a n i : Nat) (f : Nat → Int32) (ha : M a = some (.inl (G.2 4, n, .inl f))) (hn : n ≤ 60000000) (hi : i < n) : HM l yX1_get (ws_ yX1_get cX1_get 4 (some .long)) 4 90 0 0 G X N0 [.ref a, .int (nI i)] M (PV (.long (f i).toInt64) M) PX0 := by
  refine HM.of hl [(0, .ref a), (1, .int (nI i))] (by decide +kernel) rfl (Nat.le_of_ble_eq_true rfl) ?_
  intro p e s m args below meth c C hname
  refine V_aload_n C dX1_get_0 rfl 0 rfl ?_
  refine V_callS C (c_X1_kindOf l hl G X N0 M a 4 (by decide) _ ha) cs_X1_25 rfl rfl ⟨Nat.le_of_ble_eq_true rfl, Nat.le_of_ble_eq_true rfl⟩ ⟨(by first | exact Nat.le_of_ble_eq_true rfl | omega | (dsimp only; omega)), (by first | exact Nat.le_of_ble_eq_true rfl | omega | (dsimp only; omega))⟩ (Nat.le_of_ble_eq_true rfl) dX1_get_1 (fun _ _ _ h => px0 h) ?_
  rintro _ _ ⟨rfl, rfl⟩
  refine V_st (st' := [.int (nI 4)]) rfl ?_
  refine V_tableIn (tgt := 103) (off := 99) C dX1_get_4 (by decide) (by decide) (by decide) (by decide) ?_
  refine V_aload_n C dX1_get_103 rfl 0 rfl ?_
  refine V_castA C (j := 4) (by decide) q458 (Or.inl rfl) ha dX1_get_104 ?_
  refine V_iload_n C dX1_get_107 rfl 1 rfl ?_
  refine V_iald C ha (vp_in_nI (by omega) (by omega)) dX1_get_108 ?_
  refine V_st (st' := [.int (f i)]) (by rw [nI_clamp (by omega)]) ?_
  refine V_i2l (v := (f i).toInt64) C dX1_get_109 rfl ?_
  refine V_lret C dX1_get_110 rfl ?_ (by first | exact Nat.le_of_ble_eq_true rfl | omega | (dsimp only; omega)) (by first | exact Nat.le_of_ble_eq_true rfl | omega | (dsimp only; omega))
  exact ⟨rfl, rfl⟩
set_option maxHeartbeats 1000000 in
theorem c_X1_get_5 (l : Launch) (hl : l.stackTraces = false) (G : hp_G) (X : Nat → Nat) (N0 : Nat) (M : hp_h) (a n i : Nat) (f : Nat → Int64) (ha : M a = some (.inl (G.2 5, n, .inr (.inl f)))) (hn : n ≤ 60000000) (hi : i < n) : HM l yX1_get (ws_ yX1_get cX1_get 4 (some .long)) 4 90 0 0 G X N0 [.ref a, .int (nI i)] M (PV (.long (f i)) M) PX0 := by
  refine HM.of hl [(0, .ref a), (1, .int (nI i))] (by decide +kernel) rfl (Nat.le_of_ble_eq_true rfl) ?_
  intro p e s m args below meth c C hname
  refine V_aload_n C dX1_get_0 rfl 0 rfl ?_
  refine V_callS C (c_X1_kindOf l hl G X N0 M a 5 (by decide) _ ha) cs_X1_25 rfl rfl ⟨Nat.le_of_ble_eq_true rfl, Nat.le_of_ble_eq_true rfl⟩ ⟨(by first | exact Nat.le_of_ble_eq_true rfl | omega | (dsimp only; omega)), (by first | exact Nat.le_of_ble_eq_true rfl | omega | (dsimp only; omega))⟩ (Nat.le_of_ble_eq_true rfl) dX1_get_1 (fun _ _ _ h => px0 h) ?_
  rintro _ _ ⟨rfl, rfl⟩
  refine V_st (st' := [.int (nI 5)]) rfl ?_
  refine V_tableIn (tgt := 111) (off := 107) C dX1_get_4 (by decide) (by decide) (by decide) (by decide) ?_
  refine V_aload_n C dX1_get_111 rfl 0 rfl ?_
  refine V_castA C (j := 5) (by decide) q611 (Or.inl rfl) ha dX1_get_112 ?_
  refine V_iload_n C dX1_get_115 rfl 1 rfl ?_
  refine V_lald C ha (vp_in_nI (by omega) (by omega)) dX1_get_116 ?_
  refine V_st (st' := [.long (f i)]) (by rw [nI_clamp (by omega)]) ?_
  refine V_lret C dX1_get_117 rfl ?_ (by first | exact Nat.le_of_ble_eq_true rfl | omega | (dsimp only; omega)) (by first | exact Nat.le_of_ble_eq_true rfl | omega | (dsimp only; omega))
  exact ⟨rfl, rfl⟩
set_option maxHeartbeats 1000000 in
theorem c_X1_get_6 (l : Launch) (hl : l.stackTraces = false) (G : hp_G) (X : Nat → Nat) (N0 : Nat) (M : hp_h) (a n i : Nat) (f : Nat → UInt32) (ha : M a = some (.inl (G.2 6, n, .inr (.inr (.inl f))))) (hn : n ≤ 60000000) (hi : i < n) : HM l yX1_get (ws_ yX1_get cX1_get 4 (some .long)) 4 90 0 0 G X N0 [.ref a, .int (nI i)] M (PV (.long (mfI (f i)).toInt64) M) PX0 := by
  refine HM.of hl [(0, .ref a), (1, .int (nI i))] (by decide +kernel) rfl (Nat.le_of_ble_eq_true rfl) ?_
  intro p e s m args below meth c C hname
  refine V_aload_n C dX1_get_0 rfl 0 rfl ?_
  refine V_callS C (c_X1_kindOf l hl G X N0 M a 6 (by decide) _ ha) cs_X1_25 rfl rfl ⟨Nat.le_of_ble_eq_true rfl, Nat.le_of_ble_eq_true rfl⟩ ⟨(by first | exact Nat.le_of_ble_eq_true rfl | omega | (dsimp only; omega)), (by first | exact Nat.le_of_ble_eq_true rfl | omega | (dsimp only; omega))⟩ (Nat.le_of_ble_eq_true rfl) dX1_get_1 (fun _ _ _ h => px0 h) ?_
  rintro _ _ ⟨rfl, rfl⟩
  refine V_st (st' := [.int (nI 6)]) rfl ?_
  refine V_tableIn (tgt := 118) (off := 114) C dX1_get_4 (by decide) (by decide) (by decide) (by decide) ?_
  refine V_aload_n C dX1_get_118 rfl 0 rfl ?_
  refine V_castA C (j := 6) (by decide) q612 (Or.inl rfl) ha dX1_get_119 ?_
  refine V_iload_n C dX1_get_122 rfl 1 rfl ?_
  refine V_fald C ha (vp_in_nI (by omega) (by omega)) dX1_get_123 ?_
  refine V_st (st' := [.float (f i)]) (by rw [nI_clamp (by omega)]) ?_
  refine V_callS C (c_J17_floatToIntBits l hl G X N0 M (f i)) cs_X1_54 rfl rfl ⟨Nat.le_of_ble_eq_true rfl, Nat.le_of_ble_eq_true rfl⟩ ⟨(by first | exact Nat.le_of_ble_eq_true rfl | omega | (dsimp only; omega)), (by first | exact Nat.le_of_ble_eq_true rfl | omega | (dsimp only; omega))⟩ (Nat.le_of_ble_eq_true rfl) dX1_get_124 (fun _ _ _ h => px0 h) ?_
  rintro _ _ ⟨rfl, rfl⟩
  refine V_st (st' := [.int (mfI (f i))]) rfl ?_
  refine V_i2l (v := (mfI (f i)).toInt64) C dX1_get_127 rfl ?_
  refine V_lret C dX1_get_128 rfl ?_ (by first | exact Nat.le_of_ble_eq_true rfl | omega | (dsimp only; omega)) (by first | exact Nat.le_of_ble_eq_true rfl | omega | (dsimp only; omega))
  exact ⟨rfl, rfl⟩
set_option maxHeartbeats 1000000 in
theorem c_X1_get_7 (l : Launch) (hl : l.stackTraces = false) (G : hp_G) (X : Nat → Nat) (N0 : Nat) (M : hp_h) (a n i : Nat) (f : Nat → UInt64) (ha : M a = some (.inl (G.2 7, n, .inr (.inr (.inr (.inl f)))))) (hn : n ≤ 60000000) (hi : i < n) : HM l yX1_get (ws_ yX1_get cX1_get 4 (some .long)) 4 90 0 0 G X N0 [.ref a, .int (nI i)] M (PV (.long (mdB (f i))) M) PX0 := by
  refine HM.of hl [(0, .ref a), (1, .int (nI i))] (by decide +kernel) rfl (Nat.le_of_ble_eq_true rfl) ?_
  intro p e s m args below meth c C hname
  refine V_aload_n C dX1_get_0 rfl 0 rfl ?_
  refine V_callS C (c_X1_kindOf l hl G X N0 M a 7 (by decide) _ ha) cs_X1_25 rfl rfl ⟨Nat.le_of_ble_eq_true rfl, Nat.le_of_ble_eq_true rfl⟩ ⟨(by first | exact Nat.le_of_ble_eq_true rfl | omega | (dsimp only; omega)), (by first | exact Nat.le_of_ble_eq_true rfl | omega | (dsimp only; omega))⟩ (Nat.le_of_ble_eq_true rfl) dX1_get_1 (fun _ _ _ h => px0 h) ?_
  rintro _ _ ⟨rfl, rfl⟩
  refine V_st (st' := [.int (nI 7)]) rfl ?_
  refine V_tableIn (tgt := 129) (off := 125) C dX1_get_4 (by decide) (by decide) (by decide) (by decide) ?_
  refine V_aload_n C dX1_get_129 rfl 0 rfl ?_
  refine V_castA C (j := 7) (by decide) q613 (Or.inl rfl) ha dX1_get_130 ?_
  refine V_iload_n C dX1_get_133 rfl 1 rfl ?_
  refine V_dald C ha (vp_in_nI (by omega) (by omega)) dX1_get_134 ?_
  refine V_st (st' := [.double (f i)]) (by rw [nI_clamp (by omega)]) ?_
  refine V_callS C (c_X1_bitsOf l hl G X N0 M (f i)) cs_X1_60 rfl rfl ⟨Nat.le_of_ble_eq_true rfl, Nat.le_of_ble_eq_true rfl⟩ ⟨(by first | exact Nat.le_of_ble_eq_true rfl | omega | (dsimp only; omega)), (by first | exact Nat.le_of_ble_eq_true rfl | omega | (dsimp only; omega))⟩ (Nat.le_of_ble_eq_true rfl) dX1_get_135 (fun _ _ _ h => px0 h) ?_
  rintro _ _ ⟨rfl, rfl⟩
  refine V_st (st' := [.long (mdB (f i))]) rfl ?_
  refine V_lret C dX1_get_138 rfl ?_ (by first | exact Nat.le_of_ble_eq_true rfl | omega | (dsimp only; omega)) (by first | exact Nat.le_of_ble_eq_true rfl | omega | (dsimp only; omega))
  exact ⟨rfl, rfl⟩
set_option maxHeartbeats 1000000 in
theorem c_X1_get_8n (l : Launch) (hl : l.stackTraces = false) (G : hp_G) (X : Nat → Nat) (N0 : Nat) (M : hp_h) (a n i : Nat) (f : Nat → Option Nat) (ha : M a = some (.inl (G.2 8, n, .inr (.inr (.inr (.inr f)))))) (hn : n ≤ 60000000) (hi : i < n) (hf : f i = none) : HM l yX1_get (ws_ yX1_get cX1_get 4 (some .long)) 4 90 0 0 G X N0 [.ref a, .int (nI i)] M (PV (.long (-1)) M) PX0 := by
  refine HM.of hl [(0, .ref a), (1, .int (nI i))] (by decide +kernel) rfl (Nat.le_of_ble_eq_true rfl) ?_
  intro p e s m args below meth c C hname
  refine V_aload_n C dX1_get_0 rfl 0 rfl ?_
  refine V_callS C (c_X1_kindOf l hl G X N0 M a 8 (by decide) _ ha) cs_X1_25 rfl rfl ⟨Nat.le_of_ble_eq_true rfl, Nat.le_of_ble_eq_true rfl⟩ ⟨(by first | exact Nat.le_of_ble_eq_true rfl | omega | (dsimp only; omega)), (by first | exact Nat.le_of_ble_eq_true rfl | omega | (dsimp only; omega))⟩ (Nat.le_of_ble_eq_true rfl) dX1_get_1 (fun _ _ _ h => px0 h) ?_
  rintro _ _ ⟨rfl, rfl⟩
  refine V_st (st' := [.int (nI 8)]) rfl ?_
  refine V_tableIn (tgt := 160) (off := 156) C dX1_get_4 (by decide) (by decide) (by decide) (by decide) ?_
  refine V_aload_n C dX1_get_160 rfl 0 rfl ?_
  refine V_castA C (j := 8) (by decide) q605 (Or.inl rfl) ha dX1_get_161 ?_
  refine V_iload_n C dX1_get_164 rfl 1 rfl ?_
  refine V_aald C (j := 8) rfl rfl ha (vp_in_nI (by omega) (by omega)) dX1_get_165 ?_
  refine V_st (st' := [.null]) (by rw [nI_clamp (by omega), hf]; rfl) ?_
  refine V_astore_nN C dX1_get_166 rfl (Nat.le_of_ble_eq_true rfl) [(0, .ref a), (1, .int (nI i)), (3, .null)] [1, 2, 0] rfl ?_
  refine V_aload_nN C dX1_get_167 rfl 2 rfl ?_
  refine V_ifnonnullN C dX1_get_168 ?_
  refine V_ldc2 (v := -1) C (C.w q1206) dX1_get_171 ?_
  refine V_pc (pc1 := 174) rfl ?_
  refine V_goto (tgt := 182) C dX1_get_174 (by decide) ?_
  refine V_lret C dX1_get_182 rfl ?_ (by first | exact Nat.le_of_ble_eq_true rfl | omega | (dsimp only; omega)) (by first | exact Nat.le_of_ble_eq_true rfl | omega | (dsimp only; omega))
  exact ⟨rfl, rfl⟩
set_option maxHeartbeats 1000000 in
theorem c_X1_get_8_5 (l : Launch) (hl : l.stackTraces = false) (G : hp_G) (X : Nat → Nat) (N0 : Nat) (M : hp_h) (a n i : Nat) (f : Nat → Option Nat) (ha : M a = some (.inl (G.2 8, n, .inr (.inr (.inr (.inr f)))))) (hn : n ≤ 60000000) (hi : i < n) (u : Nat) (x y : Int32) (hf : f i = some u) (hu : M u = some (.inr (5, [.int x, .int y]))) : HM l yX1_get (ws_ yX1_get cX1_get 4 (some .long)) 4 90 0 0 G X N0 [.ref a, .int (nI i)] M (PV (.long x.toInt64) M) PX0 := by
  refine HM.of hl [(0, .ref a), (1, .int (nI i))] (by decide +kernel) rfl (Nat.le_of_ble_eq_true rfl) ?_
  intro p e s m args below meth c C hname
  refine V_aload_n C dX1_get_0 rfl 0 rfl ?_
  refine V_callS C (c_X1_kindOf l hl G X N0 M a 8 (by decide) _ ha) cs_X1_25 rfl rfl ⟨Nat.le_of_ble_eq_true rfl, Nat.le_of_ble_eq_true rfl⟩ ⟨(by first | exact Nat.le_of_ble_eq_true rfl | omega | (dsimp only; omega)), (by first | exact Nat.le_of_ble_eq_true rfl | omega | (dsimp only; omega))⟩ (Nat.le_of_ble_eq_true rfl) dX1_get_1 (fun _ _ _ h => px0 h) ?_
  rintro _ _ ⟨rfl, rfl⟩
  refine V_st (st' := [.int (nI 8)]) rfl ?_
  refine V_tableIn (tgt := 160) (off := 156) C dX1_get_4 (by decide) (by decide) (by decide) (by decide) ?_
  refine V_aload_n C dX1_get_160 rfl 0 rfl ?_
  refine V_castA C (j := 8) (by decide) q605 (Or.inl rfl) ha dX1_get_161 ?_
  refine V_iload_n C dX1_get_164 rfl 1 rfl ?_
  refine V_aald C (j := 8) rfl rfl ha (vp_in_nI (by omega) (by omega)) dX1_get_165 ?_
  refine V_st (st' := [.ref u]) (by rw [nI_clamp (by omega), hf]; rfl) ?_
  refine V_astore_n C dX1_get_166 rfl (Nat.le_of_ble_eq_true rfl) [(0, .ref a), (1, .int (nI i)), (3, .ref u)] [1, 2, 0] rfl ?_
  refine V_aload_n C dX1_get_167 rfl 2 rfl ?_
  refine V_ifnonnull (tgt := 177) C dX1_get_168 (by decide) ?_
  refine V_aload_n C dX1_get_177 rfl 2 rfl ?_
  refine V_pc (pc1 := 178) rfl ?_
  refine V_getN C f_X1_65_5 hu (v := .int x) rfl dX1_get_178 ?_
  refine V_i2l (v := x.toInt64) C dX1_get_181 rfl ?_
  refine V_lret C dX1_get_182 rfl ?_ (by first | exact Nat.le_of_ble_eq_true rfl | omega | (dsimp only; omega)) (by first | exact Nat.le_of_ble_eq_true rfl | omega | (dsimp only; omega))
  exact ⟨rfl, rfl⟩
set_option maxHeartbeats 1000000 in
theorem c_X1_get_8_6 (l : Launch) (hl : l.stackTraces = false) (G : hp_G) (X : Nat → Nat) (N0 : Nat) (M : hp_h) (a n i : Nat) (f : Nat → Option Nat) (ha : M a = some (.inl (G.2 8, n, .inr (.inr (.inr (.inr f)))))) (hn : n ≤ 60000000) (hi : i < n) (u : Nat) (x y : Int32) (hf : f i = some u) (hu : M u = some (.inr (6, [.int x, .int y]))) : HM l yX1_get (ws_ yX1_get cX1_get 4 (some .long)) 4 90 0 0 G X N0 [.ref a, .int (nI i)] M (PV (.long x.toInt64) M) PX0 := by
  refine HM.of hl [(0, .ref a), (1, .int (nI i))] (by decide +kernel) rfl (Nat.le_of_ble_eq_true rfl) ?_
  intro p e s m args below meth c C hname
  refine V_aload_n C dX1_get_0 rfl 0 rfl ?_
  refine V_callS C (c_X1_kindOf l hl G X N0 M a 8 (by decide) _ ha) cs_X1_25 rfl rfl ⟨Nat.le_of_ble_eq_true rfl, Nat.le_of_ble_eq_true rfl⟩ ⟨(by first | exact Nat.le_of_ble_eq_true rfl | omega | (dsimp only; omega)), (by first | exact Nat.le_of_ble_eq_true rfl | omega | (dsimp only; omega))⟩ (Nat.le_of_ble_eq_true rfl) dX1_get_1 (fun _ _ _ h => px0 h) ?_
  rintro _ _ ⟨rfl, rfl⟩
  refine V_st (st' := [.int (nI 8)]) rfl ?_
  refine V_tableIn (tgt := 160) (off := 156) C dX1_get_4 (by decide) (by decide) (by decide) (by decide) ?_
  refine V_aload_n C dX1_get_160 rfl 0 rfl ?_
  refine V_castA C (j := 8) (by decide) q605 (Or.inl rfl) ha dX1_get_161 ?_
  refine V_iload_n C dX1_get_164 rfl 1 rfl ?_
  refine V_aald C (j := 8) rfl rfl ha (vp_in_nI (by omega) (by omega)) dX1_get_165 ?_
  refine V_st (st' := [.ref u]) (by rw [nI_clamp (by omega), hf]; rfl) ?_
  refine V_astore_n C dX1_get_166 rfl (Nat.le_of_ble_eq_true rfl) [(0, .ref a), (1, .int (nI i)), (3, .ref u)] [1, 2, 0] rfl ?_
  refine V_aload_n C dX1_get_167 rfl 2 rfl ?_
  refine V_ifnonnull (tgt := 177) C dX1_get_168 (by decide) ?_
  refine V_aload_n C dX1_get_177 rfl 2 rfl ?_
  refine V_pc (pc1 := 178) rfl ?_
  refine V_getN C f_X1_65_6 hu (v := .int x) rfl dX1_get_178 ?_
  refine V_i2l (v := x.toInt64) C dX1_get_181 rfl ?_
  refine V_lret C dX1_get_182 rfl ?_ (by first | exact Nat.le_of_ble_eq_true rfl | omega | (dsimp only; omega)) (by first | exact Nat.le_of_ble_eq_true rfl | omega | (dsimp only; omega))
  exact ⟨rfl, rfl⟩
set_option maxHeartbeats 1000000 in
theorem c_X1_get_8_7 (l : Launch) (hl : l.stackTraces = false) (G : hp_G) (X : Nat → Nat) (N0 : Nat) (M : hp_h) (a n i : Nat) (f : Nat → Option Nat) (ha : M a = some (.inl (G.2 8, n, .inr (.inr (.inr (.inr f)))))) (hn : n ≤ 60000000) (hi : i < n) (u : Nat) (x y : Int32) (hf : f i = some u) (hu : M u = some (.inr (7, [.int x, .int y]))) : HM l yX1_get (ws_ yX1_get cX1_get 4 (some .long)) 4 90 0 0 G X N0 [.ref a, .int (nI i)] M (PV (.long x.toInt64) M) PX0 := by
  refine HM.of hl [(0, .ref a), (1, .int (nI i))] (by decide +kernel) rfl (Nat.le_of_ble_eq_true rfl) ?_
  intro p e s m args below meth c C hname
  refine V_aload_n C dX1_get_0 rfl 0 rfl ?_
  refine V_callS C (c_X1_kindOf l hl G X N0 M a 8 (by decide) _ ha) cs_X1_25 rfl rfl ⟨Nat.le_of_ble_eq_true rfl, Nat.le_of_ble_eq_true rfl⟩ ⟨(by first | exact Nat.le_of_ble_eq_true rfl | omega | (dsimp only; omega)), (by first | exact Nat.le_of_ble_eq_true rfl | omega | (dsimp only; omega))⟩ (Nat.le_of_ble_eq_true rfl) dX1_get_1 (fun _ _ _ h => px0 h) ?_
  rintro _ _ ⟨rfl, rfl⟩
  refine V_st (st' := [.int (nI 8)]) rfl ?_
  refine V_tableIn (tgt := 160) (off := 156) C dX1_get_4 (by decide) (by decide) (by decide) (by decide) ?_
  refine V_aload_n C dX1_get_160 rfl 0 rfl ?_
  refine V_castA C (j := 8) (by decide) q605 (Or.inl rfl) ha dX1_get_161 ?_
  refine V_iload_n C dX1_get_164 rfl 1 rfl ?_
  refine V_aald C (j := 8) rfl rfl ha (vp_in_nI (by omega) (by omega)) dX1_get_165 ?_
  refine V_st (st' := [.ref u]) (by rw [nI_clamp (by omega), hf]; rfl) ?_
  refine V_astore_n C dX1_get_166 rfl (Nat.le_of_ble_eq_true rfl) [(0, .ref a), (1, .int (nI i)), (3, .ref u)] [1, 2, 0] rfl ?_
  refine V_aload_n C dX1_get_167 rfl 2 rfl ?_
  refine V_ifnonnull (tgt := 177) C dX1_get_168 (by decide) ?_
  refine V_aload_n C dX1_get_177 rfl 2 rfl ?_
  refine V_pc (pc1 := 178) rfl ?_
  refine V_getN C f_X1_65_7 hu (v := .int x) rfl dX1_get_178 ?_
  refine V_i2l (v := x.toInt64) C dX1_get_181 rfl ?_
  refine V_lret C dX1_get_182 rfl ?_ (by first | exact Nat.le_of_ble_eq_true rfl | omega | (dsimp only; omega)) (by first | exact Nat.le_of_ble_eq_true rfl | omega | (dsimp only; omega))
  exact ⟨rfl, rfl⟩
set_option maxHeartbeats 1000000 in
theorem c_X1_get_9n (l : Launch) (hl : l.stackTraces = false) (G : hp_G) (X : Nat → Nat) (N0 : Nat) (M : hp_h) (a n i : Nat) (f : Nat → Option Nat) (ha : M a = some (.inl (G.2 9, n, .inr (.inr (.inr (.inr f)))))) (hn : n ≤ 60000000) (hi : i < n) (hf : f i = none) : HM l yX1_get (ws_ yX1_get cX1_get 4 (some .long)) 4 90 0 0 G X N0 [.ref a, .int (nI i)] M (PV (.long (-1)) M) PX0 := by
  refine HM.of hl [(0, .ref a), (1, .int (nI i))] (by decide +kernel) rfl (Nat.le_of_ble_eq_true rfl) ?_
  intro p e s m args below meth c C hname
  refine V_aload_n C dX1_get_0 rfl 0 rfl ?_
  refine V_callS C (c_X1_kindOf l hl G X N0 M a 9 (by decide) _ ha) cs_X1_25 rfl rfl ⟨Nat.le_of_ble_eq_true rfl, Nat.le_of_ble_eq_true rfl⟩ ⟨(by first | exact Nat.le_of_ble_eq_true rfl | omega | (dsimp only; omega)), (by first | exact Nat.le_of_ble_eq_true rfl | omega | (dsimp only; omega))⟩ (Nat.le_of_ble_eq_true rfl) dX1_get_1 (fun _ _ _ h => px0 h) ?_
  rintro _ _ ⟨rfl, rfl⟩
  refine V_st (st' := [.int (nI 9)]) rfl ?_
  refine V_tableIn (tgt := 160) (off := 156) C dX1_get_4 (by decide) (by decide) (by decide) (by decide) ?_
  refine V_aload_n C dX1_get_160 rfl 0 rfl ?_
  refine V_castA C (j := 9) (by decide) q605 (Or.inr ⟨rfl, rfl⟩) ha dX1_get_161 ?_
  refine V_iload_n C dX1_get_164 rfl 1 rfl ?_
  refine V_aald C (j := 9) rfl rfl ha (vp_in_nI (by omega) (by omega)) dX1_get_165 ?_
  refine V_st (st' := [.null]) (by rw [nI_clamp (by omega), hf]; rfl) ?_
  refine V_astore_nN C dX1_get_166 rfl (Nat.le_of_ble_eq_true rfl) [(0, .ref a), (1, .int (nI i)), (3, .null)] [1, 2, 0] rfl ?_
  refine V_aload_nN C dX1_get_167 rfl 2 rfl ?_
  refine V_ifnonnullN C dX1_get_168 ?_
  refine V_ldc2 (v := -1) C (C.w q1206) dX1_get_171 ?_
  refine V_pc (pc1 := 174) rfl ?_
  refine V_goto (tgt := 182) C dX1_get_174 (by decide) ?_
  refine V_lret C dX1_get_182 rfl ?_ (by first | exact Nat.le_of_ble_eq_true rfl | omega | (dsimp only; omega)) (by first | exact Nat.le_of_ble_eq_true rfl | omega | (dsimp only; omega))
  exact ⟨rfl, rfl⟩
set_option maxHeartbeats 1000000 in
theorem c_X1_get_9_5 (l : Launch) (hl : l.stackTraces = false) (G : hp_G) (X : Nat → Nat) (N0 : Nat) (M : hp_h) (a n i : Nat) (f : Nat → Option Nat) (ha : M a = some (.inl (G.2 9, n, .inr (.inr (.inr (.inr f)))))) (hn : n ≤ 60000000) (hi : i < n) (u : Nat) (x y : Int32) (hf : f i = some u) (hu : M u = some (.inr (5, [.int x, .int y]))) : HM l yX1_get (ws_ yX1_get cX1_get 4 (some .long)) 4 90 0 0 G X N0 [.ref a, .int (nI i)] M (PV (.long x.toInt64) M) PX0 := by
  refine HM.of hl [(0, .ref a), (1, .int (nI i))] (by decide +kernel) rfl (Nat.le_of_ble_eq_true rfl) ?_
  intro p e s m args below meth c C hname
  refine V_aload_n C dX1_get_0 rfl 0 rfl ?_
  refine V_callS C (c_X1_kindOf l hl G X N0 M a 9 (by decide) _ ha) cs_X1_25 rfl rfl ⟨Nat.le_of_ble_eq_true rfl, Nat.le_of_ble_eq_true rfl⟩ ⟨(by first | exact Nat.le_of_ble_eq_true rfl | omega | (dsimp only; omega)), (by first | exact Nat.le_of_ble_eq_true rfl | omega | (dsimp only; omega))⟩ (Nat.le_of_ble_eq_true rfl) dX1_get_1 (fun _ _ _ h => px0 h) ?_
  rintro _ _ ⟨rfl, rfl⟩
  refine V_st (st' := [.int (nI 9)]) rfl ?_
  refine V_tableIn (tgt := 160) (off := 156) C dX1_get_4 (by decide) (by decide) (by decide) (by decide) ?_
  refine V_aload_n C dX1_get_160 rfl 0 rfl ?_
  refine V_castA C (j := 9) (by decide) q605 (Or.inr ⟨rfl, rfl⟩) ha dX1_get_161 ?_
  refine V_iload_n C dX1_get_164 rfl 1 rfl ?_
  refine V_aald C (j := 9) rfl rfl ha (vp_in_nI (by omega) (by omega)) dX1_get_165 ?_
  refine V_st (st' := [.ref u]) (by rw [nI_clamp (by omega), hf]; rfl) ?_
  refine V_astore_n C dX1_get_166 rfl (Nat.le_of_ble_eq_true rfl) [(0, .ref a), (1, .int (nI i)), (3, .ref u)] [1, 2, 0] rfl ?_
  refine V_aload_n C dX1_get_167 rfl 2 rfl ?_
  refine V_ifnonnull (tgt := 177) C dX1_get_168 (by decide) ?_
  refine V_aload_n C dX1_get_177 rfl 2 rfl ?_
  refine V_pc (pc1 := 178) rfl ?_
  refine V_getN C f_X1_65_5 hu (v := .int x) rfl dX1_get_178 ?_
  refine V_i2l (v := x.toInt64) C dX1_get_181 rfl ?_
  refine V_lret C dX1_get_182 rfl ?_ (by first | exact Nat.le_of_ble_eq_true rfl | omega | (dsimp only; omega)) (by first | exact Nat.le_of_ble_eq_true rfl | omega | (dsimp only; omega))
  exact ⟨rfl, rfl⟩
set_option maxHeartbeats 1000000 in
theorem c_X1_get_9_6 (l : Launch) (hl : l.stackTraces = false) (G : hp_G) (X : Nat → Nat) (N0 : Nat) (M : hp_h) (a n i : Nat) (f : Nat → Option Nat) (ha : M a = some (.inl (G.2 9, n, .inr (.inr (.inr (.inr f)))))) (hn : n ≤ 60000000) (hi : i < n) (u : Nat) (x y : Int32) (hf : f i = some u) (hu : M u = some (.inr (6, [.int x, .int y]))) : HM l yX1_get (ws_ yX1_get cX1_get 4 (some .long)) 4 90 0 0 G X N0 [.ref a, .int (nI i)] M (PV (.long x.toInt64) M) PX0 := by
  refine HM.of hl [(0, .ref a), (1, .int (nI i))] (by decide +kernel) rfl (Nat.le_of_ble_eq_true rfl) ?_
  intro p e s m args below meth c C hname
  refine V_aload_n C dX1_get_0 rfl 0 rfl ?_
  refine V_callS C (c_X1_kindOf l hl G X N0 M a 9 (by decide) _ ha) cs_X1_25 rfl rfl ⟨Nat.le_of_ble_eq_true rfl, Nat.le_of_ble_eq_true rfl⟩ ⟨(by first | exact Nat.le_of_ble_eq_true rfl | omega | (dsimp only; omega)), (by first | exact Nat.le_of_ble_eq_true rfl | omega | (dsimp only; omega))⟩ (Nat.le_of_ble_eq_true rfl) dX1_get_1 (fun _ _ _ h => px0 h) ?_
  rintro _ _ ⟨rfl, rfl⟩
  refine V_st (st' := [.int (nI 9)]) rfl ?_
  refine V_tableIn (tgt := 160) (off := 156) C dX1_get_4 (by decide) (by decide) (by decide) (by decide) ?_
  refine V_aload_n C dX1_get_160 rfl 0 rfl ?_
  refine V_castA C (j := 9) (by decide) q605 (Or.inr ⟨rfl, rfl⟩) ha dX1_get_161 ?_
  refine V_iload_n C dX1_get_164 rfl 1 rfl ?_
  refine V_aald C (j := 9) rfl rfl ha (vp_in_nI (by omega) (by omega)) dX1_get_165 ?_
  refine V_st (st' := [.ref u]) (by rw [nI_clamp (by omega), hf]; rfl) ?_
  refine V_astore_n C dX1_get_166 rfl (Nat.le_of_ble_eq_true rfl) [(0, .ref a), (1, .int (nI i)), (3, .ref u)] [1, 2, 0] rfl ?_
  refine V_aload_n C dX1_get_167 rfl 2 rfl ?_
  refine V_ifnonnull (tgt := 177) C dX1_get_168 (by decide) ?_
  refine V_aload_n C dX1_get_177 rfl 2 rfl ?_
  refine V_pc (pc1 := 178) rfl ?_
  refine V_getN C f_X1_65_6 hu (v := .int x) rfl dX1_get_178 ?_
  refine V_i2l (v := x.toInt64) C dX1_get_181 rfl ?_
  refine V_lret C dX1_get_182 rfl ?_ (by first | exact Nat.le_of_ble_eq_true rfl | omega | (dsimp only; omega)) (by first | exact Nat.le_of_ble_eq_true rfl | omega | (dsimp only; omega))
  exact ⟨rfl, rfl⟩
set_option maxHeartbeats 1000000 in
theorem c_X1_get_9_7 (l : Launch) (hl : l.stackTraces = false) (G : hp_G) (X : Nat → Nat) (N0 : Nat) (M : hp_h) (a n i : Nat) (f : Nat → Option Nat) (ha : M a = some (.inl (G.2 9, n, .inr (.inr (.inr (.inr f)))))) (hn : n ≤ 60000000) (hi : i < n) (u : Nat) (x y : Int32) (hf : f i = some u) (hu : M u = some (.inr (7, [.int x, .int y]))) : HM l yX1_get (ws_ yX1_get cX1_get 4 (some .long)) 4 90 0 0 G X N0 [.ref a, .int (nI i)] M (PV (.long x.toInt64) M) PX0 := by
  refine HM.of hl [(0, .ref a), (1, .int (nI i))] (by decide +kernel) rfl (Nat.le_of_ble_eq_true rfl) ?_
  intro p e s m args below meth c C hname
  refine V_aload_n C dX1_get_0 rfl 0 rfl ?_
  refine V_callS C (c_X1_kindOf l hl G X N0 M a 9 (by decide) _ ha) cs_X1_25 rfl rfl ⟨Nat.le_of_ble_eq_true rfl, Nat.le_of_ble_eq_true rfl⟩ ⟨(by first | exact Nat.le_of_ble_eq_true rfl | omega | (dsimp only; omega)), (by first | exact Nat.le_of_ble_eq_true rfl | omega | (dsimp only; omega))⟩ (Nat.le_of_ble_eq_true rfl) dX1_get_1 (fun _ _ _ h => px0 h) ?_
  rintro _ _ ⟨rfl, rfl⟩
  refine V_st (st' := [.int (nI 9)]) rfl ?_
  refine V_tableIn (tgt := 160) (off := 156) C dX1_get_4 (by decide) (by decide) (by decide) (by decide) ?_
  refine V_aload_n C dX1_get_160 rfl 0 rfl ?_
  refine V_castA C (j := 9) (by decide) q605 (Or.inr ⟨rfl, rfl⟩) ha dX1_get_161 ?_
  refine V_iload_n C dX1_get_164 rfl 1 rfl ?_
  refine V_aald C (j := 9) rfl rfl ha (vp_in_nI (by omega) (by omega)) dX1_get_165 ?_
  refine V_st (st' := [.ref u]) (by rw [nI_clamp (by omega), hf]; rfl) ?_
  refine V_astore_n C dX1_get_166 rfl (Nat.le_of_ble_eq_true rfl) [(0, .ref a), (1, .int (nI i)), (3, .ref u)] [1, 2, 0] rfl ?_
  refine V_aload_n C dX1_get_167 rfl 2 rfl ?_
  refine V_ifnonnull (tgt := 177) C dX1_get_168 (by decide) ?_
  refine V_aload_n C dX1_get_177 rfl 2 rfl ?_
  refine V_pc (pc1 := 178) rfl ?_
  refine V_getN C f_X1_65_7 hu (v := .int x) rfl dX1_get_178 ?_
  refine V_i2l (v := x.toInt64) C dX1_get_181 rfl ?_
  refine V_lret C dX1_get_182 rfl ?_ (by first | exact Nat.le_of_ble_eq_true rfl | omega | (dsimp only; omega)) (by first | exact Nat.le_of_ble_eq_true rfl | omega | (dsimp only; omega))
  exact ⟨rfl, rfl⟩
set_option maxHeartbeats 1000000 in
theorem c_X1_get_10n (l : Launch) (hl : l.stackTraces = false) (G : hp_G) (X : Nat → Nat) (N0 : Nat) (M : hp_h) (a n i : Nat) (f : Nat → Option Nat) (ha : M a = some (.inl (G.2 10, n, .inr (.inr (.inr (.inr f)))))) (hn : n ≤ 60000000) (hi : i < n) (hf : f i = none) : HM l yX1_get (ws_ yX1_get cX1_get 4 (some .long)) 4 90 0 0 G X N0 [.ref a, .int (nI i)] M (PV (.long (-1)) M) PX0 := by
  refine HM.of hl [(0, .ref a), (1, .int (nI i))] (by decide +kernel) rfl (Nat.le_of_ble_eq_true rfl) ?_
  intro p e s m args below meth c C hname
  refine V_aload_n C dX1_get_0 rfl 0 rfl ?_
  refine V_callS C (c_X1_kindOf l hl G X N0 M a 10 (by decide) _ ha) cs_X1_25 rfl rfl ⟨Nat.le_of_ble_eq_true rfl, Nat.le_of_ble_eq_true rfl⟩ ⟨(by first | exact Nat.le_of_ble_eq_true rfl | omega | (dsimp only; omega)), (by first | exact Nat.le_of_ble_eq_true rfl | omega | (dsimp only; omega))⟩ (Nat.le_of_ble_eq_true rfl) dX1_get_1 (fun _ _ _ h => px0 h) ?_
  rintro _ _ ⟨rfl, rfl⟩
  refine V_st (st' := [.int (nI 10)]) rfl ?_
  refine V_tableIn (tgt := 139) (off := 135) C dX1_get_4 (by decide) (by decide) (by decide) (by decide) ?_
  refine V_aload_n C dX1_get_139 rfl 0 rfl ?_
  refine V_castA C (j := 10) (by decide) q617 (Or.inl rfl) ha dX1_get_140 ?_
  refine V_iload_n C dX1_get_143 rfl 1 rfl ?_
  refine V_aald C (j := 10) rfl rfl ha (vp_in_nI (by omega) (by omega)) dX1_get_144 ?_
  refine V_st (st' := [.null]) (by rw [nI_clamp (by omega), hf]; rfl) ?_
  refine V_astore_nN C dX1_get_145 rfl (Nat.le_of_ble_eq_true rfl) [(0, .ref a), (1, .int (nI i)), (2, .null)] [1, 2, 0] rfl ?_
  refine V_aload_nN C dX1_get_146 rfl 2 rfl ?_
  refine V_ifnonnullN C dX1_get_147 ?_
  refine V_ldc2 (v := -1) C (C.w q1206) dX1_get_150 ?_
  refine V_pc (pc1 := 153) rfl ?_
  refine V_goto (tgt := 159) C dX1_get_153 (by decide) ?_
  refine V_lret C dX1_get_159 rfl ?_ (by first | exact Nat.le_of_ble_eq_true rfl | omega | (dsimp only; omega)) (by first | exact Nat.le_of_ble_eq_true rfl | omega | (dsimp only; omega))
  exact ⟨rfl, rfl⟩
set_option maxHeartbeats 1000000 in
theorem c_X1_get_10s (l : Launch) (hl : l.stackTraces = false) (G : hp_G) (X : Nat → Nat) (N0 : Nat) (M : hp_h) (a n i : Nat) (f : Nat → Option Nat) (ha : M a = some (.inl (G.2 10, n, .inr (.inr (.inr (.inr f)))))) (hn : n ≤ 60000000) (hi : i < n) (u n1 : Nat) (y : Nat → Int32) (hf : f i = some u) (hu : M u = some (.inl (G.2 4, n1, .inl y))) (hn1 : n1 < 2 ^ 31) : HM l yX1_get (ws_ yX1_get cX1_get 4 (some .long)) 4 90 0 0 G X N0 [.ref a, .int (nI i)] M (PV (.long (lN n1)) M) PX0 := by
  refine HM.of hl [(0, .ref a), (1, .int (nI i))] (by decide +kernel) rfl (Nat.le_of_ble_eq_true rfl) ?_
  intro p e s m args below meth c C hname
  refine V_aload_n C dX1_get_0 rfl 0 rfl ?_
  refine V_callS C (c_X1_kindOf l hl G X N0 M a 10 (by decide) _ ha) cs_X1_25 rfl rfl ⟨Nat.le_of_ble_eq_true rfl, Nat.le_of_ble_eq_true rfl⟩ ⟨(by first | exact Nat.le_of_ble_eq_true rfl | omega | (dsimp only; omega)), (by first | exact Nat.le_of_ble_eq_true rfl | omega | (dsimp only; omega))⟩ (Nat.le_of_ble_eq_true rfl) dX1_get_1 (fun _ _ _ h => px0 h) ?_
  rintro _ _ ⟨rfl, rfl⟩
  refine V_st (st' := [.int (nI 10)]) rfl ?_
  refine V_tableIn (tgt := 139) (off := 135) C dX1_get_4 (by decide) (by decide) (by decide) (by decide) ?_
  refine V_aload_n C dX1_get_139 rfl 0 rfl ?_
  refine V_castA C (j := 10) (by decide) q617 (Or.inl rfl) ha dX1_get_140 ?_
  refine V_iload_n C dX1_get_143 rfl 1 rfl ?_
  refine V_aald C (j := 10) rfl rfl ha (vp_in_nI (by omega) (by omega)) dX1_get_144 ?_
  refine V_st (st' := [.ref u]) (by rw [nI_clamp (by omega), hf]; rfl) ?_
  refine V_astore_n C dX1_get_145 rfl (Nat.le_of_ble_eq_true rfl) [(0, .ref a), (1, .int (nI i)), (2, .ref u)] [1, 2, 0] rfl ?_
  refine V_aload_n C dX1_get_146 rfl 2 rfl ?_
  refine V_ifnonnull (tgt := 156) C dX1_get_147 (by decide) ?_
  refine V_aload_n C dX1_get_156 rfl 2 rfl ?_
  refine V_pc (pc1 := 157) rfl ?_
  refine V_alen (j := 4) C rfl hu (v := nI n1) rfl dX1_get_157 ?_
  refine V_i2l (v := (nI n1).toInt64) C dX1_get_158 rfl ?_
  refine V_lret C dX1_get_159 rfl ?_ (by first | exact Nat.le_of_ble_eq_true rfl | omega | (dsimp only; omega)) (by first | exact Nat.le_of_ble_eq_true rfl | omega | (dsimp only; omega))
  exact ⟨congrArg (fun z => some (Value.long z)) (nI_l hn1), rfl⟩
