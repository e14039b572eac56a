set_option maxRecDepth 100000
set_option linter.unusedVariables false
section V28
variable {p : Program} {l : Launch} {e : Env} {R : Room} {s : State} {m : MethodId} {args : Array Value} {below : List Frame} {meth : Method} {c : Code} {cc : ByteArray} {own : String} {nL : Nat} {ret : Option FieldType} {hh : List (Nat × Nat × Nat × Nat)} {G : hp_G} {X : Nat → Nat} {N0 : Nat} {Q : State → Prop} {cells slots : Nat} {M : hp_h} {pc : Nat} {L : List (Nat × Value)} {rest : List Value} {idx : Nat}
/-- the object or array at y may lie in an array over ty -/
def hp_AS (G : hp_G) (M : hp_h) (ty : FieldType) (y : Nat) : Prop :=
  (∃ (E : String) (ci : Nat) (fs : List Value) (r : vw_C), ty = .object E ∧ M y = some (.inr (ci, fs)) ∧ CLS[ci]? = some r ∧ (r.1 = E ∨ Cond.castable r.1 E ∈ lw_tbl)) ∨
  (∃ (E : String) (j : Nat) (x : vp_A), ty = .object E ∧ j < 15 ∧ M y = some (.inl (G.2 j, x)) ∧ Cond.castable (ANM j) E ∈ lw_tbl) ∨ (ty = .array .int ∧ ∃ x, M y = some (.inl (G.2 4, x)))
theorem vp_cell_at (cA : ClassId) (x : vp_A) : (vp_cell cA x).slots.size = x.1 ∧ (vp_cell cA x).cls = cA ∧ (vp_cell cA x).vm = .none := by
  obtain ⟨n, y⟩ := x
  rcases y with f | f | f | f | f <;> exact ⟨arrV_size .., rfl, rfl⟩
theorem hp_acell (C : Cx p l s m args meth c cc own nL ret hh G X N0) {H : Heap} (hP : hp_P G (hp_A N0) M H) {a j : Nat} {x : vp_A} {ty : FieldType} (ht : (TYS G.2)[j]? = some (G.2 j, ty)) (ha : M a = some (.inl (G.2 j, x))) : H[a]? = some (vp_cell (G.2 j) x) ∧ hp_A N0 a ∧ ∃ k cm, s.vm.classes[G.2 j]? = some k ∧ k.kind = .array cm ty := by
  have hA := hP.in ha
  obtain ⟨ws, h1, h2, h3⟩ := hP
  obtain ⟨q0, hq⟩ := (h3 _ _).mp ha
  obtain ⟨-, k0, hk0, cm0, hkk0⟩ := (C.2.2.2.2.2.2.2.2.1.1.1.2 j _ ht).1 0 (fun _ => .null)
  exact ⟨h1 q0 _ hq, hA, k0, cm0, hk0, hkk0⟩
theorem hp_AS.ok (C : Cx p l s m args meth c cc own nL ret hh G X N0) {H : Heap} (hP : hp_P G (hp_A N0) M H) {y j : Nat} {ty : FieldType} (h : hp_AS G M ty y) (ht : (TYS G.2)[j]? = some (G.2 j, ty)) {k : Class} {comp : ClassId} (hk : s.vm.classes[G.2 j]? = some k) (hkind : k.kind = .array comp ty) :
    ∃ cellV : Cell, H[y]? = some cellV ∧ cellV.vm.isStatics = false ∧ (∃ kC : Class, s.vm.classes[cellV.cls]? = some kC) ∧ (∃ kE : Class, s.vm.classes[comp]? = some kE) ∧ s.vm.assignable cellV.cls comp = true := by
  have self : ∀ {n : String} {cl : ClassId} {kC : Class}, s.vm.findClass n = some cl → s.vm.classes[cl]? = some kC → s.vm.assignable cl cl = true := fun _ _ => by
    show s.vm.assignableAux (255 + 1) _ _ = true
    rw [Vm.assignableAux]
    simp only [beq_self_eq_true, Bool.true_or]
  rcases h with ⟨E, ci, fs, r, rfl, hy, hci, hr⟩ | ⟨E, j', x, rfl, hj', hy, hr⟩ | ⟨rfl, x, hy⟩
  · obtain ⟨cell, g1, g2, g3⟩ := hp_recv (C := C) (Cn := r.1) (T := r.2.1) (NN := r.2.2) hP hy hci
    obtain ⟨kC, hkC, -⟩ := Vm.findClass_spec g3
    obtain ⟨kA, comp', r1, r2, r3, -⟩ := (C.2.2.2.2.2.2.2.2.1.1.1.2 j _ ht).2
    cases hk.symm.trans r1
    cases hkind.symm.trans r2
    obtain ⟨kE, hkE, -⟩ := Vm.findClass_spec r3
    refine ⟨cell, g1, g2, ⟨kC, hkC⟩, ⟨kE, hkE⟩, ?_⟩
    rcases hr with hr | hr
    · rw [hr] at g3
      cases g3.symm.trans r3
      exact self g3 hkC
    · obtain ⟨c1, t1, f1, f2, f3⟩ := Cond.castable_spec ((C.2.2.2.2.2.2.2.2.1.1.2.1 _ hr rfl).use (A := args) rfl)
      cases f1.symm.trans g3
      cases f2.symm.trans r3
      exact f3
  · obtain ⟨cell, g1, g2, g3⟩ := hp_arr C hj' hP hy
    obtain ⟨kC, hkC, -⟩ := Vm.findClass_spec g3
    obtain ⟨kA, comp', r1, r2, r3, -⟩ := (C.2.2.2.2.2.2.2.2.1.1.1.2 j _ ht).2
    cases hk.symm.trans r1
    cases hkind.symm.trans r2
    obtain ⟨kE, hkE, -⟩ := Vm.findClass_spec r3
    refine ⟨cell, g1, g2, ⟨kC, hkC⟩, ⟨kE, hkE⟩, ?_⟩
    obtain ⟨c1, t1, f1, f2, f3⟩ := Cond.castable_spec ((C.2.2.2.2.2.2.2.2.1.1.2.1 _ hr rfl).use (A := args) rfl)
    cases f1.symm.trans g3
    cases f2.symm.trans r3
    exact f3
  · obtain ⟨cell, g1, g2, g3⟩ := hp_arr C (by decide) hP hy
    obtain ⟨kC, hkC, -⟩ := Vm.findClass_spec g3
    have hcm : comp = cell.cls := by
      obtain ⟨comp', cA, kA, q1, -, q3, q4, q5⟩ := arrayOverA_spec (show (Cond.arrayOver (.array .int)).before args s = true from C.2.2.2.2.2.2.2.2.1.1.2.2.1.2)
      have h5 : s.vm.findClass ("[" ++ (FieldType.array .int).toString) = some (G.2 j) := (C.2.2.2.2.2.2.2.2.1.1.1.2 j _ ht).2
      cases q5.symm.trans h5
      cases q3.symm.trans hk
      cases q4.symm.trans hkind
      exact Option.some.inj (q1.symm.trans g3)
    subst hcm
    exact ⟨cell, g1, g2, ⟨kC, hkC⟩, ⟨kC, hkC⟩, self g3 hkC⟩
theorem V_copy_q (C : Cx p l s m args meth c cc own nL ret hh G X N0) (hI : ACI own idx) {a0 a j0 j1 n0 n1 : Nat} {ty0 ty1 : FieldType} {f g : Nat → Option Nat} (ht0 : (TYS G.2)[j0]? = some (G.2 j0, ty0)) (ht1 : (TYS G.2)[j1]? = some (G.2 j1, ty1)) (hr0 : refKind ty0 = true) (hr1 : refKind ty1 = true) (ha0 : M a0 = some (.inl (G.2 j0, n0, .inr (.inr (.inr (.inr f)))))) (ha : M a = some (.inl (G.2 j1, n1, .inr (.inr (.inr (.inr g)))))) {sp dp n : Int32} (h1 : ¬ sp < 0) (h2 : ¬ dp < 0) (h3 : ¬ n < 0) (h4 : sp.toNatClampNeg + n.toNatClampNeg ≤ n0) (h5 : dp.toNatClampNeg + n.toNatClampNeg ≤ n1) (hel : ∀ i, i < n.toNatClampNeg → ∀ y, f (sp.toNatClampNeg + i) = some y → hp_AS G M ty1 y) (hR : 1 ≤ R.frames ∧ (rest.map fun v => v.category).sum + (nativeFrameWords "java/lang/System" "arraycopy" 5 + 11) ≤ R.locals) (hdg : decode cc pc = .ok (.invokestatic idx, 3)) (kk : V p l e R s m args below meth c G N0 nL Q cells slots (hp_up M a (.inl (G.2 j1, n1, .inr (.inr (.inr (.inr (va_cpy f g sp.toNatClampNeg dp.toNatClampNeg n.toNatClampNeg))))))) (pc + 3) L rest) : V p l e R s m args below meth c G N0 nL Q cells slots M pc L (.int n :: .int dp :: .ref a :: .int sp :: .ref a0 :: rest) := by
  have nn : ∀ z : Int32, ¬ z < 0 → z.toInt = (z.toNatClampNeg : Int) := fun z hz => (toNatClampNeg_of_not_neg32 z hz).symm
  intro ls H locs hL hP hS T hT X
  obtain ⟨e0, -, k0, cm0, hk0, hkk0⟩ := hp_acell C hP ht0 ha0
  obtain ⟨e1, A1, k1, cm1, hk1, hkk1⟩ := hp_acell C hP ht1 ha
  have hel' := fun i hi y hy => (hel i hi y hy).ok C hP ht1 hk1 hkk1
  obtain ⟨ws, g1, g2, g3⟩ := hP
  obtain ⟨q1, hq1⟩ := (g3 _ _).mp ha
  obtain ⟨vm', X', step⟩ := X.arraycopy C.1 C.2.2.2.1 (C.w hI.1) (C.w hI.2.1) (C.w hI.2.2.1) (C.w hI.2.2.2) (src := a0) (dst := a) (cs := vp_cell (G.2 j0) (n0, .inr (.inr (.inr (.inr f))))) (cd := vp_cell (G.2 j1) (n1, .inr (.inr (.inr (.inr g))))) (srcPos := sp) (destPos := dp) (n := n) (by rw [hT]; exact e0) (by rw [hT]; exact e1)
    (fun _ h => by cases h) (fun _ h => by cases h) (fun h => by cases h) (fun h => by cases h) hk0 hk1 hkk0 hkk1 (by rw [hr0, hr1]; rfl) h1 h2 h3
    (by rw [nn sp h1, nn n h3]; show ¬ _ > ((arrV (G.2 j0) n0 (fun j => va_rf (f j))).slots.size : Int); rw [arrV_size]; omega)
    (by rw [nn dp h2, nn n h3]; show ¬ _ > ((arrV (G.2 j1) n1 (fun j => va_rf (g j))).slots.size : Int); rw [arrV_size]; omega)
    (fun vm₁ hal i hi => by
      have e : (vp_cell (G.2 j0) (n0, .inr (.inr (.inr (.inr f))))).slots.getD (sp.toNatClampNeg + i) .null = va_rf (f (sp.toNatClampNeg + i)) := by
        show (arrV (G.2 j0) n0 (fun j => va_rf (f j))).slots.getD _ _ = _
        rw [Array.getD_eq_getD_getElem?, arrV_read _ _ (by omega)]
        rfl
      rw [e]
      have hfit : ∀ v : Option Nat, fits ty1 (va_rf v) = true := fun v => by cases ty1 <;> first | (simp [refKind] at hr1; done) | (cases v <;> rfl)
      cases hy : f (sp.toNatClampNeg + i) with
      | none => exact ⟨hfit none, trivial⟩
      | some y =>
        obtain ⟨cellV, y1, y2, ⟨kC, hkC⟩, ⟨kE, hkE⟩, hasg⟩ := hel' i hi y hy
        obtain ⟨kC', hkC', -⟩ := hal.2.2 _ _ hkC
        obtain ⟨kE', hkE', -⟩ := hal.2.2 _ _ hkE
        refine ⟨hfit (some y), cellV, (show T.heap[y]? = some cellV by rw [hT]; exact y1), (fun q h => by rw [h] at y2; cases y2), ⟨kC', hkC'⟩, ⟨kE', hkE'⟩, ?_⟩
        show vm₁.assignable _ _ = true
        rw [hal.assignable]
        exact hasg)
    (g := F0 m pc ls (.int n :: .int dp :: .ref a :: .int sp :: .ref a0 :: rest)) rfl (hL.1.trans C.2.2.1.symm) (rest := rest) rfl (by rw [C.2.1]; exact hdg) hR.1 (by show 2 * 0 + _ + _ ≤ _; have := hR.2; omega)
  have e2 : copied (vp_cell (G.2 j0) (n0, .inr (.inr (.inr (.inr f))))) (vp_cell (G.2 j1) (n1, .inr (.inr (.inr (.inr g))))) sp dp n = vp_cell (G.2 j1) (n1, .inr (.inr (.inr (.inr (va_cpy f g sp.toNatClampNeg dp.toNatClampNeg n.toNatClampNeg))))) := by
    rw [vp_cell_q, vp_cell_q, vp_cell_q]
    exact va_copied (fun z => va_rf z) (G.2 j0) (G.2 j1) f g h4
  rw [e2] at X' step
  have hl : a < H.size := (Array.getElem?_eq_some_iff.mp e1).1
  generalize hnew : vp_cell (G.2 j1) (n1, .inr (.inr (.inr (.inr (va_cpy f g sp.toNatClampNeg dp.toNatClampNeg n.toNatClampNeg))))) = cN at *
  have hheap : ((T.setVm vm').setCell a cN).heap = H.setIfInBounds a cN := by rw [← hT]; rfl
  have oq : ∀ q : Nat, q ≠ a → (H.setIfInBounds a cN)[q]? = H[q]? := fun q hq => by simp [Array.getElem?_setIfInBounds, Ne.symm hq]
  obtain ⟨t, a1, b1⟩ := kk ls (H.setIfInBounds a cN) _ hL ⟨ws.set q1 (a, .inl (G.2 j1, n1, .inr (.inr (.inr (.inr (va_cpy f g sp.toNatClampNeg dp.toNatClampNeg n.toNatClampNeg)))))), g1.set g2 hq1 (show (H.setIfInBounds a cN)[a]? = some (vp_cell (G.2 j1) (n1, .inr (.inr (.inr (.inr (va_cpy f g sp.toNatClampNeg dp.toNatClampNeg n.toNatClampNeg)))))) by rw [hnew]; simp [Array.getElem?_setIfInBounds, hl]) oq, g2.set hq1, hp_iff_set g2 g3 hq1⟩ ⟨by simp; exact hS.1, fun q x1 x2 => by
      rw [oq q (fun e => x2 (by rw [e]; exact A1))]
      exact hS.2.1 q x1 x2, fun q hq => by
      rcases List.mem_append.mp hq with h | h
      · exact hS.2.2 q h
      · obtain ⟨z, -, hz⟩ := List.mem_map.mp h
        rw [← hz]
        exact A1⟩ _ hheap X'
  exact ⟨t, step t a1, b1⟩
/-- the arrays' types do not go together -/
theorem V_copyT (C : Cx p l s m args meth c cc own nL ret hh G X N0) (hI : ACI own idx) {a0 a j0 j1 : Nat} {ty0 ty1 : FieldType} {x0 x1 : vp_A} (ht0 : (TYS G.2)[j0]? = some (G.2 j0, ty0)) (ht1 : (TYS G.2)[j1]? = some (G.2 j1, ty1)) (hne : ((refKind ty0 != refKind ty1) || (!refKind ty0 && ty0 != ty1)) = true) (ha0 : M a0 = some (.inl (G.2 j0, x0))) (ha : M a = some (.inl (G.2 j1, x1))) {sp dp n : Int32} (hR : 8 ≤ R.frames ∧ (rest.map fun v => v.category).sum + 10240 ≤ R.locals) (hcs : cells + 3 ≤ R.cells ∧ slots + 108 ≤ R.slots) (hdg : decode cc pc = .ok (.invokestatic idx, 3)) (kx : ∀ q : Nat, VX p l e R s m args below meth c G N0 nL Q (cells + 3) (slots + 108) M pc L q "java/lang/ArrayStoreException") : V p l e R s m args below meth c G N0 nL Q cells slots M pc L (.int n :: .int dp :: .ref a :: .int sp :: .ref a0 :: rest) := by
  intro ls H locs hL hP hS
  obtain ⟨e0, -, k0, cm0, hk0, hkk0⟩ := hp_acell C hP ht0 ha0
  obtain ⟨e1, A1, k1, cm1, hk1, hkk1⟩ := hp_acell C hP ht1 ha
  obtain ⟨w1, w2⟩ := C.tb tb_ASE tg_ASE
  obtain ⟨-, -, f3, f4⟩ := C.2.2.2.2.2.2.2.2.1.2
  refine vx_copyX (cs := vp_cell (G.2 j0) x0) (j := 0) (names := ["java/lang/RuntimeException", "java/lang/Exception"]) (nb := 98) C.1 C.2.1 (C.2.2.1.trans hL.1.symm) C.2.2.2.2.2.2.2.2.2.2 C.2.2.2.1 (C.w hI.1) (C.w hI.2.1) (C.w hI.2.2.1) (C.w hI.2.2.2) (by decide) (by decide) (by decide) (by decide) w1 w2 f3 f4 hS (SA.types ty0 ty1).2 (SA.types ty0 ty1).1.size (by decide) hR.1 hR.2 (by decide) hcs.1 hcs.2 C.2.2.2.2.2.2.1 e1 A1 (fun U hU hal fs E hE => ?_) hdg (fun H1 locs1 q9 ce z1 z2 z3 z4 z5 z6 z7 => kx q9 ls H1 locs1 rest ce hL (hP.kept (fun q hq _ => by
    by_cases hqa : q = a
    · subst hqa; rw [z2, e1]; rfl
    · exact z3 q hq hqa)) z4 z5 z6 z7)
  · obtain ⟨k0', hk0', he0⟩ := hal.2.2 _ _ hk0
    obtain ⟨k1', hk1', he1⟩ := hal.2.2 _ _ hk1
    have c0 := vp_cell_at (G.2 j0) x0
    have c1 := vp_cell_at (G.2 j1) x1
    have hE0 := hE []
    rw [show (vp_cell (G.2 j1) x1).storeRun dp.toNatClampNeg ((vp_cell (G.2 j0) x0).stretch sp.toNatClampNeg 0) = vp_cell (G.2 j1) x1 from rfl, State.setCell_held (show (U.setFrames fs).heap[a]? = some _ from (by show U.heap[a]? = _; rw [hU]; exact e1))] at hE0
    exact Jvm.W.arraycopy_types (s := U.setFrames fs) (show U.heap[a0]? = _ by rw [hU]; exact e0) (show U.heap[a]? = _ by rw [hU]; exact e1) (fun k z => by rw [c0.2.2] at z; cases z) (fun k z => by rw [c1.2.2] at z; cases z) (show U.vm.classes[(vp_cell (G.2 j0) x0).cls]? = some k0' by rw [c0.2.1]; exact hk0') (show U.vm.classes[(vp_cell (G.2 j1) x1).cls]? = some k1' by rw [c1.2.1]; exact hk1') (by rw [he0]; exact hkk0) (by rw [he1]; exact hkk1) hne hE0
/-- out of bounds -/
theorem V_copyB (C : Cx p l s m args meth c cc own nL ret hh G X N0) (hI : ACI own idx) {a0 a j0 j1 : Nat} {ty0 ty1 : FieldType} {x0 x1 : vp_A} (ht0 : (TYS G.2)[j0]? = some (G.2 j0, ty0)) (ht1 : (TYS G.2)[j1]? = some (G.2 j1, ty1)) (hty : ((refKind ty0 != refKind ty1) || (!refKind ty0 && ty0 != ty1)) = false) (ha0 : M a0 = some (.inl (G.2 j0, x0))) (ha : M a = some (.inl (G.2 j1, x1))) (hx0 : x0.1 < 10 ^ 9) (hx1 : x1.1 < 10 ^ 9) {sp dp n : Int32} (hout : ¬ (¬ sp < 0 ∧ ¬ dp < 0 ∧ ¬ n < 0 ∧ ¬ sp.toInt + n.toInt > x0.1 ∧ ¬ dp.toInt + n.toInt > x1.1)) (hR : 9 ≤ R.frames ∧ (rest.map fun v => v.category).sum + 10240 ≤ R.locals) (hcs : cells + 3 ≤ R.cells ∧ slots + 108 ≤ R.slots) (hdg : decode cc pc = .ok (.invokestatic idx, 3)) (kx : ∀ q : Nat, VX p l e R s m args below meth c G N0 nL Q (cells + 3) (slots + 108) M pc L q "java/lang/ArrayIndexOutOfBoundsException") : V p l e R s m args below meth c G N0 nL Q cells slots M pc L (.int n :: .int dp :: .ref a :: .int sp :: .ref a0 :: rest) := by
  intro ls H locs hL hP hS
  obtain ⟨e0, -, k0, cm0, hk0, hkk0⟩ := hp_acell C hP ht0 ha0
  obtain ⟨e1, A1, k1, cm1, hk1, hkk1⟩ := hp_acell C hP ht1 ha
  obtain ⟨w1, w2⟩ := C.tb tb_IOOBE tg_IOOBE
  obtain ⟨-, -, f3, f4⟩ := C.2.2.2.2.2.2.2.2.1.2
  obtain ⟨what, hwhat⟩ : ∃ what, copyFault ty0 ty1 x0.1 x1.1 sp dp n = some what := by
    cases h : copyFault ty0 ty1 x0.1 x1.1 sp dp n with
    | none => exact absurd (copyFault_no h) hout
    | some w => exact ⟨w, rfl⟩
  obtain ⟨t1, t2⟩ := SA.fault hx0 hx1 hwhat
  refine vx_copyX (cs := vp_cell (G.2 j0) x0) (j := 0) (names := ["java/lang/IndexOutOfBoundsException", "java/lang/RuntimeException", "java/lang/Exception"]) (nb := 98) C.1 C.2.1 (C.2.2.1.trans hL.1.symm) C.2.2.2.2.2.2.2.2.2.2 C.2.2.2.1 (C.w hI.1) (C.w hI.2.1) (C.w hI.2.2.1) (C.w hI.2.2.2) (by decide) (by decide) (by decide) (by decide) w1 w2 f3 f4 hS t2 t1.size (by decide) hR.1 hR.2 (by decide) hcs.1 hcs.2 C.2.2.2.2.2.2.1 e1 A1 (fun U hU hal fs E hE => ?_) hdg (fun H1 locs1 q9 ce z1 z2 z3 z4 z5 z6 z7 => kx q9 ls H1 locs1 rest ce hL (hP.kept (fun q hq _ => by
    by_cases hqa : q = a
    · subst hqa; rw [z2, e1]; rfl
    · exact z3 q hq hqa)) z4 z5 z6 z7)
  · obtain ⟨k0', hk0', he0⟩ := hal.2.2 _ _ hk0
    obtain ⟨k1', hk1', he1⟩ := hal.2.2 _ _ hk1
    have c0 := vp_cell_at (G.2 j0) x0
    have c1 := vp_cell_at (G.2 j1) x1
    have hE0 := hE []
    rw [show (vp_cell (G.2 j1) x1).storeRun dp.toNatClampNeg ((vp_cell (G.2 j0) x0).stretch sp.toNatClampNeg 0) = vp_cell (G.2 j1) x1 from rfl, State.setCell_held (show (U.setFrames fs).heap[a]? = some _ from (by show U.heap[a]? = _; rw [hU]; exact e1))] at hE0
    exact Jvm.W.arraycopy_bounds (s := U.setFrames fs) (show U.heap[a0]? = _ by rw [hU]; exact e0) (show U.heap[a]? = _ by rw [hU]; exact e1) (fun k z => by rw [c0.2.2] at z; cases z) (fun k z => by rw [c1.2.2] at z; cases z) (show U.vm.classes[(vp_cell (G.2 j0) x0).cls]? = some k0' by rw [c0.2.1]; exact hk0') (show U.vm.classes[(vp_cell (G.2 j1) x1).cls]? = some k1' by rw [c1.2.1]; exact hk1') (by rw [he0]; exact hkk0) (by rw [he1]; exact hkk1) hty (by rw [c0.1, c1.1]; exact hwhat) hE0
end V28
theorem fc_shown {vm : Vm} {n : String} {c : ClassId} {k : Class} (h : vm.findClass n = some c) (hk : vm.classes[c]? = some k) : k.shown = dotted n := by
  obtain ⟨hlt, hp, -⟩ := Array.findIdx?_eq_some_iff_getElem.mp h
  have e : vm.classes[c] = k := (Array.getElem?_eq_some_iff.mp hk).2
  simp only [Bool.and_eq_true, beq_iff_eq, Option.isNone_iff_eq_none] at hp
  rw [e] at hp
  unfold Class.shown
  rw [hp.1.1.2, hp.1.1.1]
theorem rf_text (vm : Vm) {sc dc : ClassId} {kS kD : Class} (hS : kS.shown = "NativeSubset$Unit") (hD : kD.shown = "NativeSubset$Card") : SA 150 (copyRefused vm sc dc kS kD) ∧ (copyRefused vm sc dc kS kD == notModelled) = false := by
  unfold copyRefused
  rw [hS, hD]
  cases vm.assignable dc sc with
  | true =>
    have e : Native.java_lang_System.arraycopy.knownWithin 1999 "arraycopy: element type mismatch: can not cast one of the elements of NativeSubset$Unit[] to the type of the destination array, NativeSubset$Card" = "arraycopy: element type mismatch: can not cast one of the elements of NativeSubset$Unit[] to the type of the destination array, NativeSubset$Card" := by decide +kernel
    have h : SA 150 "arraycopy: element type mismatch: can not cast one of the elements of NativeSubset$Unit[] to the type of the destination array, NativeSubset$Card" := ⟨by decide +kernel, by decide +kernel⟩
    have h2 : ("arraycopy: element type mismatch: can not cast one of the elements of NativeSubset$Unit[] to the type of the destination array, NativeSubset$Card" == notModelled) = false := by decide +kernel
    exact (show SA 150 (Native.java_lang_System.arraycopy.knownWithin 1999 "arraycopy: element type mismatch: can not cast one of the elements of NativeSubset$Unit[] to the type of the destination array, NativeSubset$Card") ∧ (Native.java_lang_System.arraycopy.knownWithin 1999 "arraycopy: element type mismatch: can not cast one of the elements of NativeSubset$Unit[] to the type of the destination array, NativeSubset$Card" == notModelled) = false by rw [e]; exact ⟨h, h2⟩)
  | false =>
    have e : Native.java_lang_System.arraycopy.knownWithin 1999 "arraycopy: type mismatch: can not copy NativeSubset$Unit[] into NativeSubset$Card[]" = "arraycopy: type mismatch: can not copy NativeSubset$Unit[] into NativeSubset$Card[]" := by decide +kernel
    have h : SA 150 "arraycopy: type mismatch: can not copy NativeSubset$Unit[] into NativeSubset$Card[]" := ⟨by decide +kernel, by decide +kernel⟩
    have h2 : ("arraycopy: type mismatch: can not copy NativeSubset$Unit[] into NativeSubset$Card[]" == notModelled) = false := by decide +kernel
    exact (show SA 150 (Native.java_lang_System.arraycopy.knownWithin 1999 "arraycopy: type mismatch: can not copy NativeSubset$Unit[] into NativeSubset$Card[]") ∧ (Native.java_lang_System.arraycopy.knownWithin 1999 "arraycopy: type mismatch: can not copy NativeSubset$Unit[] into NativeSubset$Card[]" == notModelled) = false by rw [e]; exact ⟨h, h2⟩)
section V28R
variable {p : Program} {l : Launch} {e : Env} {R : Room} {s : State} {m : MethodId} {args : Array Value} {below : List Frame} {meth : Method} {c : Code} {cc : ByteArray} {own : String} {nL : Nat} {ret : Option FieldType} {hh : List (Nat × Nat × Nat × Nat)} {G : hp_G} {X : Nat → Nat} {N0 : Nat} {Q : State → Prop} {cells slots : Nat} {M : hp_h} {pc : Nat} {L : List (Nat × Value)} {rest : List Value} {idx : Nat}
/-- a unit that is no card stops a copy into cards, behind k values -/
theorem V_copyR (C : Cx p l s m args meth c cc own nL ret hh G X N0) (hI : ACI own idx) {a0 a n0 n1 k bad : Nat} {f g : Nat → Option Nat} {bs : List Value} (ha0 : M a0 = some (.inl (G.2 8, n0, .inr (.inr (.inr (.inr f)))))) (ha : M a = some (.inl (G.2 9, n1, .inr (.inr (.inr (.inr g)))))) {sp dp n : Int32} (h1 : ¬ sp < 0) (h2 : ¬ dp < 0) (h3 : ¬ n < 0) (h4 : sp.toNatClampNeg + n.toNatClampNeg ≤ n0) (h5 : dp.toNatClampNeg + n.toNatClampNeg ≤ n1) (hk : k < n.toNatClampNeg) (hel : ∀ i, i < k → ∀ y, f (sp.toNatClampNeg + i) = some y → hp_AS G M (.object RX22) y) (hbad : f (sp.toNatClampNeg + k) = some bad) (hb : M bad = some (.inr (5, bs))) (hR : 8 ≤ R.frames ∧ (rest.map fun v => v.category).sum + 10240 ≤ R.locals) (hcs : cells + 3 ≤ R.cells ∧ slots + 160 ≤ R.slots) (hdg : decode cc pc = .ok (.invokestatic idx, 3))
    (kx : ∀ q : Nat, VX p l e R s m args below meth c G N0 nL Q (cells + 3) (slots + 160) (hp_up M a (.inl (G.2 9, n1, .inr (.inr (.inr (.inr (va_cpy f g sp.toNatClampNeg dp.toNatClampNeg k))))))) pc L q "java/lang/ArrayStoreException") : V p l e R s m args below meth c G N0 nL Q cells slots M pc L (.int n :: .int dp :: .ref a :: .int sp :: .ref a0 :: rest) := by
  have nn : ∀ z : Int32, ¬ z < 0 → z.toInt = (z.toNatClampNeg : Int) := fun z hz => (toNatClampNeg_of_not_neg32 z hz).symm
  intro ls H locs hL hP hS
  have ht0 : (TYS G.2)[8]? = some (G.2 8, .object RX21) := rfl
  have ht1 : (TYS G.2)[9]? = some (G.2 9, .object RX22) := rfl
  obtain ⟨e0, -, k0, cm0, hk0, hkk0⟩ := hp_acell C hP ht0 ha0
  obtain ⟨e1, A1, k1, cm1, hk1, hkk1⟩ := hp_acell C hP ht1 ha
  obtain ⟨w1, w2⟩ := C.tb tb_ASE tg_ASE
  obtain ⟨-, -, f3, f4⟩ := C.2.2.2.2.2.2.2.2.1.2
  obtain ⟨kA0, comp0, r1, r2, r3, -⟩ := (C.2.2.2.2.2.2.2.2.1.1.1.2 8 _ ht0).2
  cases hk0.symm.trans r1
  cases hkk0.symm.trans r2
  obtain ⟨kA1, comp1, s1, s2, s3, -⟩ := (C.2.2.2.2.2.2.2.2.1.1.1.2 9 _ ht1).2
  cases hk1.symm.trans s1
  cases hkk1.symm.trans s2
  obtain ⟨kS, hkS, -⟩ := Vm.findClass_spec r3
  obtain ⟨kD, hkD, -⟩ := Vm.findClass_spec s3
  obtain ⟨cb, b1, b2, b3⟩ := hp_recv (C := C) (Cn := RX21) (T := TX21) (NN := 2) hP hb rfl
  have hel' := fun i hi y hy => (hel i hi y hy).ok C hP ht1 hk1 hkk1
  have hno : s.vm.assignable cm0 cm1 = false := by
    obtain ⟨c9, t9, x1, x2, x3⟩ := C.2.2.2.2.2.2.2.2.1.1.2.2.2.2.2.1.1 ("NativeSubset$Unit", "NativeSubset$Card") (List.mem_of_getElem? (i := NCL.length - 1) rfl)
    cases x1.symm.trans r3
    cases x2.symm.trans s3
    exact x3
  have hbc : cb.cls = cm0 := Option.some.inj (b3.symm.trans r3)
  have hrd : ∀ i, i < n.toNatClampNeg → (vp_cell (G.2 8) (n0, .inr (.inr (.inr (.inr f))))).slots.getD (sp.toNatClampNeg + i) .null = va_rf (f (sp.toNatClampNeg + i)) := fun i hi => by
    show (arrV (G.2 8) n0 (fun j => va_rf (f j))).slots.getD _ _ = _
    rw [Array.getD_eq_getD_getElem?, arrV_read _ _ (by omega)]
    rfl
  have hsz0 : (vp_cell (G.2 8) (n0, .inr (.inr (.inr (.inr f))))).slots.size = n0 := (vp_cell_at _ _).1
  have hsz1 : (vp_cell (G.2 9) (n1, .inr (.inr (.inr (.inr g))))).slots.size = n1 := (vp_cell_at _ _).1
  have hcp : (vp_cell (G.2 9) (n1, .inr (.inr (.inr (.inr g))))).storeRun dp.toNatClampNeg ((vp_cell (G.2 8) (n0, .inr (.inr (.inr (.inr f))))).stretch sp.toNatClampNeg k) = vp_cell (G.2 9) (n1, .inr (.inr (.inr (.inr (va_cpy f g sp.toNatClampNeg dp.toNatClampNeg k))))) := by
    rw [vp_cell_q, vp_cell_q, vp_cell_q]
    exact va_copied (fun z => va_rf z) (G.2 8) (G.2 9) f g (by omega)
  -- the texts do not hang on the machine's tables as they are warmed: the text at s
  have htx := rf_text s.vm (sc := cm0) (dc := cm1) (kS := kS) (kD := kD) (by rw [fc_shown r3 hkS]; decide +kernel) (by rw [fc_shown s3 hkD]; decide +kernel)
  obtain ⟨ws, g1, g2, g3⟩ := hP
  obtain ⟨q1, hq1⟩ := (g3 _ _).mp ha
  refine vx_copyX (cs := vp_cell (G.2 8) (n0, .inr (.inr (.inr (.inr f))))) (j := k) (text := copyRefused s.vm cm0 cm1 kS kD) (names := ["java/lang/RuntimeException", "java/lang/Exception"]) (nb := 150) C.1 C.2.1 (C.2.2.1.trans hL.1.symm) C.2.2.2.2.2.2.2.2.2.2 C.2.2.2.1 (C.w hI.1) (C.w hI.2.1) (C.w hI.2.2.1) (C.w hI.2.2.2) (by decide) (by decide) (by decide) (by decide) w1 w2 f3 f4 hS htx.2 htx.1.size (by decide) hR.1 hR.2 (by decide) hcs.1 hcs.2 C.2.2.2.2.2.2.1 e1 A1 (fun U hU hal fs E hE => ?_) hdg (fun H1 locs1 q9 ce z1 z2 z3 z4 z5 z6 z7 => kx q9 ls H1 locs1 rest ce hL ⟨ws.set q1 (a, .inl (G.2 9, n1, .inr (.inr (.inr (.inr (va_cpy f g sp.toNatClampNeg dp.toNatClampNeg k)))))), ?_, g2.set hq1, hp_iff_set g2 g3 hq1⟩ z4 z5 z6 z7)
  · obtain ⟨k0', hk0', he0⟩ := hal.2.2 _ _ hk0
    obtain ⟨k1', hk1', he1⟩ := hal.2.2 _ _ hk1
    obtain ⟨kS', hkS', heS⟩ := hal.2.2 _ _ hkS
    obtain ⟨kD', hkD', heD⟩ := hal.2.2 _ _ hkD
    have etx : copyRefused U.vm cm0 cm1 kS' kD' = copyRefused s.vm cm0 cm1 kS kD := by
      have f1 : kS'.shown = kS.shown := by rw [heS]; rfl
      have f2 : kD'.shown = kD.shown := by rw [heD]; rfl
      unfold copyRefused
      rw [f1, f2, hal.assignable]
    refine Jvm.W.arraycopy_refused (s := U.setFrames fs) (j := k) (bad := bad) (cb := cb) (show U.heap[a0]? = _ by rw [hU]; exact e0) (show U.heap[a]? = _ by rw [hU]; exact e1) (fun _ z => by cases z) (fun _ z => by cases z) (fun z => by cases z) (fun z => by cases z) (show U.vm.classes[G.2 8]? = some k0' from hk0') (show U.vm.classes[G.2 9]? = some k1' from hk1') (by rw [he0]; exact hkk0) (by rw [he1]; exact hkk1) rfl h1 h2 h3 (by rw [hsz0, nn sp h1, nn n h3]; omega) (by rw [hsz1, nn dp h2, nn n h3]; omega) (fun i hi => by rw [hsz0]; have := List.mem_range.mp hi; omega) hk (fun i hi => ?_) (by rw [hrd k hk, hbad]; rfl) (show U.heap[bad]? = _ by rw [hU]; exact b1) (fun _ z => by rw [z] at b2; cases b2) (show ∃ kx, U.vm.classes[cb.cls]? = some kx from ⟨kS', by rw [hbc]; exact hkS'⟩) (show U.vm.classes[cm0]? = _ from hkS') (show U.vm.classes[cm1]? = _ from hkD') (show U.vm.assignable cb.cls cm1 = false by rw [hal.assignable, hbc]; exact hno) (fun acts' => ?_)
    · refine ⟨by rw [hsz1]; omega, ?_, ?_⟩
      · rw [hrd i (by omega)]
        have hk1k : k1'.kind = .array cm1 (.object RX22) := by rw [he1]; exact hkk1
        have hfit : fits (.object RX22) (va_rf (f (sp.toNatClampNeg + i))) = true := by cases f (sp.toNatClampNeg + i) <;> rfl
        show (U.setFrames fs).fitsSlot (G.2 9) .none _ _ = true
        simpa [State.fitsSlot, State.slotType?, show U.vm.classes[G.2 9]? = some k1' from hk1', hk1k] using hfit
      · rw [hrd i (by omega)]
        cases hy : f (sp.toNatClampNeg + i) with
        | none => exact trivial
        | some y =>
          obtain ⟨cellV, y1, y2, ⟨kC, hkC⟩, ⟨kE, hkE⟩, hasg⟩ := hel' i hi y hy
          obtain ⟨kC', hkC', -⟩ := hal.2.2 _ _ hkC
          obtain ⟨kE', hkE', -⟩ := hal.2.2 _ _ hkE
          refine ⟨cellV, (show U.heap[y]? = some cellV by rw [hU]; exact y1), (fun q h => by rw [h] at y2; cases y2), ⟨kC', hkC'⟩, ⟨kE', hkE'⟩, ?_⟩
          show U.vm.assignable _ _ = true
          rw [hal.assignable]
          exact hasg
    · show E (.throwNew _ (some (copyRefused U.vm cm0 cm1 kS' kD'))) acts' _
      rw [etx]
      exact hE acts'
  · rw [hcp] at z2
    intro k9 x9 hx9
    by_cases hkq : k9 = q1
    · subst hkq
      rw [List.getElem?_set_self (List.getElem?_eq_some_iff.mp hq1).1] at hx9
      cases hx9
      exact z2
    · rw [List.getElem?_set_ne (Ne.symm hkq)] at hx9
      exact (g1 k9 x9 hx9).kept (z3 x9.1 ((g1 k9 x9 hx9).lt) (fun e => hkq (g2.1 k9 q1 _ _ hx9 hq1 e)))
end V28R
