set_option maxRecDepth 100000
set_option linter.unusedVariables false
section ST29
variable {p : Program} {l : Launch} {e : Env} {R : Room} {s : State} {m : MethodId} {args : Array Value} {below : List Frame} {meth : Method} {c : Code} {locs : List Loc} {cells slots : Nat} {T : State}
theorem st_aastX (X : Stand p l e R s m args below meth c T locs cells slots) (hexec : p.tables.exec = Jvm.exec) {cc : ByteArray} (hb : c.code = cc) {pc : Nat} {ls : Array Slot} {rest : List Value} (hdg : decode cc pc = .ok (.aastore, 1)) {a v : Nat} {i : Int32} {cell cb : Cell} (hcell : T.heap[a]? = some cell) (hcb : T.heap[v]? = some cb) (hcs : cb.vm.isStatics = false) (harr : T.isArray cell) (hin : ¬ (i < 0 ∨ cell.slots.size ≤ i.toNatClampNeg)) {k kS kD : Class} {comp : ClassId} {ty : FieldType} (hk : T.vm.classes[cell.cls]? = some k) (hkind : k.kind = .array comp ty) (hkS : T.vm.classes[cb.cls]? = some kS) (hkD : T.vm.classes[comp]? = some kD) (hno : T.vm.assignable cb.cls comp = false) {tx : String} (hsh : kS.shown = tx) :
    ∀ target, Steps p.tables e below ((T.setTop (F0 m pc ls rest)).pushFrame (.throwNew "java/lang/ArrayStoreException" (some tx) none)) target → Steps p.tables e below (T.setTop (F0 m pc ls (.ref v :: .int i :: .ref a :: rest))) target := by
  intro target hrest
  have hobj : ∀ k, cb.vm ≠ .statics k := fun k z => by rw [z] at hcs; cases hcs
  have hobj2 : ∀ k, cell.vm ≠ .statics k := harr.1
  subst hb
  have hst : (F0 m pc ls (.ref v :: .int i :: .ref a :: rest)).stack = .ref v :: .int i :: .ref a :: rest := rfl
  jvm_step X.here [hexec, hdg, aastore.sem, hst, hcell, harr]
  rw [if_neg hin]
  refine ⟨hobj2, k, hk, ?_⟩
  simp only [hkind]
  simp [hcb, hobj, hkS, hkD, hno, hsh]
  intro acts
  simp only [afterInstr]
  exact hrest
end ST29
section V29
variable {p : Program} {l : Launch} {e : Env} {R : Room} {s : State} {m : MethodId} {args : Array Value} {below : List Frame} {meth : Method} {c : Code} {cc : ByteArray} {own : String} {nL : Nat} {ret : Option FieldType} {hh : List (Nat × Nat × Nat × Nat)} {G : hp_G} {X : Nat → Nat} {N0 : Nat} {Q : State → Prop} {cells slots : Nat} {M : hp_h} {pc : Nat} {L : List (Nat × Value)} {rest : List Value} {idx : Nat}
theorem V_getE (C : Cx p l s m args meth c cc own nL ret hh G X N0) (h : Cond.fieldLink own idx "java/util/ArrayList" "DEFAULTCAPACITY_EMPTY_ELEMENTDATA" "[Ljava/lang/Object;" ∈ lw_all) (hdg : decode cc pc = .ok (.getstatic idx, 3)) (kk : V p l e R s m args below meth c G N0 nL Q cells slots M (pc + 3) L (.ref (X 0) :: rest)) : V p l e R s m args below meth c G N0 nL Q cells slots M pc L rest := fun ls H locs hL hP hS => va_gets C.1 C.2.1 C.2.2.2.2.2.2.2.2.1.2.1 hS C.2.2.2.1 (C.w h) (fun _ h => h) hdg (kk ls H locs hL hP hS)
theorem V_alenE (C : Cx p l s m args meth c cc own nL ret hh G X N0) (hdg : decode cc pc = .ok (.arraylength, 1)) (kk : V p l e R s m args below meth c G N0 nL Q cells slots M (pc + 1) L (.int 0 :: rest)) : V p l e R s m args below meth c G N0 nL Q cells slots M pc L (.ref (X 0) :: rest) := fun ls H locs hL hP hS => va_tlen C.1 C.2.1 C.2.2.2.2.2.2.2.2.1.2.2.1 hS rfl hdg (kk ls H locs hL hP hS)
/-- a static of Throwable: null or an object -/
theorem V_getT (C : Cx p l s m args meth c cc own nL ret hh G X N0) {n d : String} (hz : (n = "UNASSIGNED_STACK" ∧ d = Bundle.steD) ∨ (n = "SUPPRESSED_SENTINEL" ∧ d = Bundle.listD)) (h : Cond.fieldLink own idx Bundle.tN n d ∈ lw_all) (hdg : decode cc pc = .ok (.getstatic idx, 3)) (kk : ∀ r : Option Nat, V p l e R s m args below meth c G N0 nL Q cells slots M (pc + 3) L (va_rf r :: rest)) : V p l e R s m args below meth c G N0 nL Q cells slots M pc L rest := by
  intro ls H locs hL hP hS
  have hq : va_Zq Bundle.tN n d (hp_A N0) s s.heap := by
    rcases hz with ⟨rfl, rfl⟩ | ⟨rfl, rfl⟩
    · exact C.2.2.2.2.2.2.2.2.1.2.2.2.1.1
    · exact C.2.2.2.2.2.2.2.2.1.2.2.2.2.1
  rcases hq with hq | ⟨t, hq⟩
  · exact va_gets C.1 C.2.1 hq hS C.2.2.2.1 (C.w h) (fun _ h => h) hdg (kk none ls H locs hL hP hS)
  · exact va_gets C.1 C.2.1 hq hS C.2.2.2.1 (C.w h) (fun _ h => h) hdg (kk (some t) ls H locs hL hP hS)
theorem V_getC (C : Cx p l s m args meth c cc own nL ret hh G X N0) {a : Nat} {x : vp_A} (h : Cond.methodLink own idx ⟨"java/lang/Object", "getClass", "()Ljava/lang/Class;"⟩ ∈ lw_all ∧ Cond.selects "[Ljava/lang/Object;" ⟨"java/lang/Object", "getClass", "()Ljava/lang/Class;"⟩ ⟨"java/lang/Object", "getClass", "()Ljava/lang/Class;"⟩ ∈ lw_all ∧ Cond.instanceMethod ⟨"java/lang/Object", "getClass", "()Ljava/lang/Class;"⟩ ∈ lw_all ∧ Cond.native ⟨"java/lang/Object", "getClass", "()Ljava/lang/Class;"⟩ ∈ lw_all) (ha : M a = some (.inl (G.2 11, x))) (hR : 1 ≤ R.frames ∧ (rest.map fun v => v.category).sum + 14 ≤ R.locals) (hdg : decode cc pc = .ok (.invokevirtual idx, 3)) (kk : V p l e R s m args below meth c G N0 nL Q cells slots M (pc + 3) L (.ref (X 1) :: rest)) : V p l e R s m args below meth c G N0 nL Q cells slots M pc L (.ref a :: rest) := fun ls H locs hL hP hS => va_getC (C := "[Ljava/lang/Object;") C.1 C.2.1 (C.2.2.1.trans hL.1.symm) C.2.2.2.1 (C.w h.1) (va_Dc.use C.2.2.2.2.2.2.2.2.1.1.2.2.2.2.2.2.1) (C.w h.2.1) (C.w h.2.2.1) (C.w h.2.2.2) C.2.2.2.2.2.2.2.2.1.1.2.2.2.2.2.2.2.1 (hp_arr (j := 11) C (by decide) hP ha) hR.1 hR.2 hdg (kk ls H locs hL hP hS)
theorem V_ldcM (C : Cx p l s m args meth c cc own nL ret hh G X N0) (h : Cond.classLink own idx "[Ljava/lang/Object;" ∈ lw_all) (hdg : decode cc pc = .ok (.ldc idx, 2)) (kk : V p l e R s m args below meth c G N0 nL Q cells slots M (pc + 2) L (.ref (X 1) :: rest)) : V p l e R s m args below meth c G N0 nL Q cells slots M pc L rest := fun ls H locs hL hP hS => va_ldcM C.1 C.2.1 C.2.2.2.1 (C.w h) C.2.2.2.2.2.2.2.2.1.1.2.2.2.2.2.2.2.1 hdg (kk ls H locs hL hP hS)
/-- a store into an array of references -/
theorem V_aastM (C : Cx p l s m args meth c cc own nL ret hh G X N0) {a j n v : Nat} {ty : FieldType} {f : Nat → Option Nat} (ht : (TYS G.2)[j]? = some (G.2 j, ty)) (hr : ty.isReference = true) (ha : M a = some (.inl (G.2 j, n, .inr (.inr (.inr (.inr f)))))) (hv : hp_AS G M ty v) {i : Int32} (hin : vp_in i n) (hdg : decode cc pc = .ok (.aastore, 1)) (kk : V p l e R s m args below meth c G N0 nL Q cells slots (hp_up M a (.inl (G.2 j, n, .inr (.inr (.inr (.inr (va_up f i.toNatClampNeg (some v)))))))) (pc + 1) L rest) : V p l e R s m args below meth c G N0 nL Q cells slots M pc L (.ref v :: .int i :: .ref a :: rest) := by
  intro ls H locs hL hP hS
  obtain ⟨e1, A1, k1, cm1, hk1, hkk1⟩ := hp_acell C hP ht ha
  obtain ⟨cellV, y1, y2, ⟨kC, hkC⟩, ⟨kE, hkE⟩, hasg⟩ := hv.ok C hP ht hk1 hkk1
  obtain ⟨ws, g1, g2, g3⟩ := hP
  obtain ⟨q1, hq1⟩ := (g3 _ _).mp ha
  have hlt : i.toNatClampNeg < n := Nat.not_le.mp fun q => hin (Or.inr q)
  have h0 : ¬ i < 0 := fun q => hin (Or.inl q)
  refine W.aast C.1 C.2.1 e1 (fun q h => by cases h) (fun h => by cases h) hk1 hkk1 hr hkE ⟨h0, by show _ < (arrV _ _ _).slots.size; rw [arrV_size]; exact hlt⟩ y1 (fun q h => by rw [h] at y2; cases y2) hkC hasg rfl rfl hdg fun H1 e z oq => ?_
  refine kk ls H1 _ hL ⟨ws.set q1 (a, .inl (G.2 j, n, .inr (.inr (.inr (.inr (va_up f i.toNatClampNeg (some v))))))), g1.set g2 hq1 (show H1[a]? = some (vp_cell (G.2 j) (n, .inr (.inr (.inr (.inr (va_up f i.toNatClampNeg (some v))))))) from ?_) oq, g2.set hq1, hp_iff_set g2 g3 hq1⟩ (hS.put z oq A1)
  rw [e, vp_cell_q, vp_cell_q, arrV_store]
  congr 2
  funext q
  by_cases hq : q = i.toNatClampNeg
  · subst hq
    simp [updV, va_up, va_rf]
  · simp [updV, va_up, hq]
theorem V_aastMN (C : Cx p l s m args meth c cc own nL ret hh G X N0) {a j n : Nat} {ty : FieldType} {f : Nat → Option Nat} (ht : (TYS G.2)[j]? = some (G.2 j, ty)) (hr : ty.isReference = true) (ha : M a = some (.inl (G.2 j, n, .inr (.inr (.inr (.inr f)))))) {i : Int32} (hin : vp_in i n) (hdg : decode cc pc = .ok (.aastore, 1)) (kk : V p l e R s m args below meth c G N0 nL Q cells slots (hp_up M a (.inl (G.2 j, n, .inr (.inr (.inr (.inr (va_up f i.toNatClampNeg none))))))) (pc + 1) L rest) : V p l e R s m args below meth c G N0 nL Q cells slots M pc L (.null :: .int i :: .ref a :: rest) := by
  intro ls H locs hL hP hS T hT XX
  obtain ⟨e1, A1, k1, cm1, hk1, hkk1⟩ := hp_acell C hP ht ha
  obtain ⟨ws, g1, g2, g3⟩ := hP
  obtain ⟨q1, hq1⟩ := (g3 _ _).mp ha
  have hlt : i.toNatClampNeg < n := Nat.not_le.mp fun q => hin (Or.inr q)
  have h0 : ¬ i < 0 := fun q => hin (Or.inl q)
  have hT' : T.heap[a]? = some (vp_cell (G.2 j) (n, .inr (.inr (.inr (.inr f))))) := by rw [hT]; exact e1
  obtain ⟨X', st⟩ := XX.aastoreNullIn C.1 hT' (fun q h => by cases h) (fun h => by cases h) hk1 hkk1 hr ⟨h0, by show _ < (arrV _ _ _).slots.size; rw [arrV_size]; exact hlt⟩ (g := F0 m pc ls (.null :: .int i :: .ref a :: rest)) rfl rfl (by rw [C.2.1]; exact hdg)
  have hl : a < T.heap.size := (Array.getElem?_eq_some_iff.mp hT').1
  have e2 : (vp_cell (G.2 j) (n, .inr (.inr (.inr (.inr f))))).setSlot i.toNatClampNeg .null = vp_cell (G.2 j) (n, .inr (.inr (.inr (.inr (va_up f i.toNatClampNeg none))))) := by
    rw [vp_cell_q, vp_cell_q, arrV_store]
    congr 2
    funext q
    by_cases hq : q = i.toNatClampNeg
    · subst hq
      simp [updV, va_up, va_rf]
    · simp [updV, va_up, hq]
  rw [e2] at X' st
  obtain ⟨t, a1, b1⟩ := kk ls _ _ hL ⟨ws.set q1 (a, .inl (G.2 j, n, .inr (.inr (.inr (.inr (va_up f i.toNatClampNeg none)))))), g1.set g2 hq1 (show (T.setCell a (vp_cell (G.2 j) (n, .inr (.inr (.inr (.inr (va_up f i.toNatClampNeg none))))))).heap[a]? = some (vp_cell (G.2 j) (n, .inr (.inr (.inr (.inr (va_up f i.toNatClampNeg none)))))) from heapAt_setCell_self _ hl) (fun q hq => by rw [heapAt_setCell_ne _ (Ne.symm hq), hT]), g2.set hq1, hp_iff_set g2 g3 hq1⟩ (hS.put (by rw [size_setCell, hT]) (fun q hq => by rw [heapAt_setCell_ne _ (Ne.symm hq), hT]) A1) _ rfl X'
  exact ⟨t, st t a1, b1⟩
/-- athrow of an object of ours -/
theorem V_athrow (C : Cx p l s m args meth c cc own nL ret hh G X N0) {a ci : Nat} {fs : List Value} {Cn : String} {T : u_T} {NN : Nat} (ha : M a = some (.inr (ci, fs))) (hci : CLS[ci]? = some (Cn, T, NN)) (hdg : decode cc pc = .ok (.athrow, 1)) (kx : VX p l e R s m args below meth c G N0 nL Q cells slots M pc L a Cn) : V p l e R s m args below meth c G N0 nL Q cells slots M pc L (.ref a :: rest) := by
  intro ls H locs hL hP hS
  obtain ⟨ws, g1, g2, g3⟩ := id hP
  obtain ⟨q0, hq⟩ := (g3 _ _).mp ha
  obtain ⟨q', h1, cell, x1, x2, x3, -⟩ := g1 q0 _ hq
  cases h1.symm.trans hci
  exact vx_athrow C.1 C.2.1 hdg (kx ls H locs rest cell hL hP hS x1 x3 (by rw [x2]; exact (C.2.2.2.2.2.2.2.2.1.1.1.1 ci _ hci).2.1))
/-- a handler of all that is thrown -/
theorem VX_any (C : Cx p l s m args meth c cc own nL ret hh G X N0) {q : Nat} {E : String} (pre : List ExceptionTableEntry) (x : ExceptionTableEntry) (suf : List ExceptionTableEntry) (hsplit : tableOf hh = pre ++ x :: suf) (hpass : ∀ z ∈ pre, covers z pc = false) (hx : covers x pc = true) (h0 : x.catchType = 0)
    (kk : V p l e R s m args below meth c G N0 nL Q cells slots M x.handlerPc L [.ref q]) : VX p l e R s m args below meth c G N0 nL Q cells slots M pc L q E := by
  intro ls H locs rest ce hL hP hS hce hcv hcl T hT XX
  have hsp : c.exceptionTable.toList = pre ++ x :: suf := C.2.2.2.2.2.2.2.1.trans hsplit
  obtain ⟨vm', X', st⟩ := XX.thenCaughtThrough q (g := F0 m pc ls rest) rfl (Steps.refl _) (by rw [hT]; exact hce) (by rw [hcv]; rfl) (by obtain ⟨k9, h9, -⟩ := Vm.findClass_spec hcl; exact ⟨k9, h9⟩) pre x suf hsp (fun z hz => Or.inl (hpass z hz)) hx (Or.inl h0)
  obtain ⟨t, a1, b1⟩ := kk ls H locs hL hP hS (T.setVm vm') hT X'
  exact ⟨t, st.trans a1, b1⟩
/-- out of bounds of an array of references -/
theorem V_aaldZ (C : Cx p l s m args meth c cc own nL ret hh G X N0) {a j n : Nat} {ty : FieldType} {f : Nat → Option Nat} (ht : (TYS G.2)[j]? = some (G.2 j, ty)) (ha : M a = some (.inl (G.2 j, n, .inr (.inr (.inr (.inr f)))))) {i : Int32} (hout : ¬ vp_in i n) (hdg : decode cc pc = .ok (.aaload, 1)) (hw : (rest.map fun v => v.category).sum ≤ 16) (kx : ∀ tx : String, tx = (toString "Index " ++ toString i ++ toString " out of bounds for length " ++ toString n : String) → VN p l e R s m args below meth c G N0 nL Q cells slots M pc L "java/lang/ArrayIndexOutOfBoundsException" tx) : V p l e R s m args below meth c G N0 nL Q cells slots M pc L (.int i :: .ref a :: rest) := by
  intro ls H locs hL hP hS T hT XX
  have kx := kx _ rfl ls H locs rest hL hP hS hw T hT XX
  obtain ⟨e1, A1, -⟩ := hp_acell C hP ht ha
  obtain ⟨t, st, q⟩ := kx
  refine ⟨t, ?_, q⟩
  have h1 := XX.aaloadOut C.1 (by rw [hT]; exact e1) ((C.2.2.2.2.2.2.2.2.1.1.1.2 j _ ht).1 n (fun j => va_rf (f j))) (j := i) (by show (i < 0 ∨ (arrV _ _ _).slots.size ≤ _); rw [arrV_size]; exact Classical.byContradiction hout) (g := F0 m pc ls (.int i :: .ref a :: rest)) rfl (rest := rest) rfl (by rw [C.2.1]; exact hdg) t
  simp only [arrV_size] at h1
  exact h1 st
theorem V_aastZ (C : Cx p l s m args meth c cc own nL ret hh G X N0) {a j n : Nat} {ty : FieldType} {f : Nat → Option Nat} (ht : (TYS G.2)[j]? = some (G.2 j, ty)) (ha : M a = some (.inl (G.2 j, n, .inr (.inr (.inr (.inr f)))))) {i : Int32} {v : Value} (hv : v.isRef = true) (hout : ¬ vp_in i n) (hdg : decode cc pc = .ok (.aastore, 1)) (hw : (rest.map fun v => v.category).sum ≤ 16) (kx : ∀ tx : String, tx = (toString "Index " ++ toString i ++ toString " out of bounds for length " ++ toString n : String) → VN p l e R s m args below meth c G N0 nL Q cells slots M pc L "java/lang/ArrayIndexOutOfBoundsException" tx) : V p l e R s m args below meth c G N0 nL Q cells slots M pc L (v :: .int i :: .ref a :: rest) := by
  intro ls H locs hL hP hS T hT XX
  have kx := kx _ rfl ls H locs rest hL hP hS hw T hT XX
  obtain ⟨e1, A1, -⟩ := hp_acell C hP ht ha
  obtain ⟨t, st, q⟩ := kx
  refine ⟨t, ?_, q⟩
  have h1 := XX.aastoreOut C.1 hv (by rw [hT]; exact e1) ((C.2.2.2.2.2.2.2.2.1.1.1.2 j _ ht).1 n (fun j => va_rf (f j))) (j := i) (by show (i < 0 ∨ (arrV _ _ _).slots.size ≤ _); rw [arrV_size]; exact Classical.byContradiction hout) (g := F0 m pc ls (v :: .int i :: .ref a :: rest)) rfl (rest := rest) rfl (by rw [C.2.1]; exact hdg) t
  simp only [arrV_size] at h1
  exact h1 st
/-- a unit that is no card into a row of cards -/
theorem V_aastX (C : Cx p l s m args meth c cc own nL ret hh G X N0) {a n v : Nat} {f : Nat → Option Nat} {vs : List Value} (ha : M a = some (.inl (G.2 9, n, .inr (.inr (.inr (.inr f)))))) (hv : M v = some (.inr (5, vs))) {i : Int32} (hin : vp_in i n) (hdg : decode cc pc = .ok (.aastore, 1)) (hw : (rest.map fun v => v.category).sum ≤ 16) (kx : VN p l e R s m args below meth c G N0 nL Q cells slots M pc L "java/lang/ArrayStoreException" "NativeSubset$Unit") : V p l e R s m args below meth c G N0 nL Q cells slots M pc L (.ref v :: .int i :: .ref a :: rest) := by
  intro ls H locs hL hP hS T hT XX
  have kx := kx ls H locs rest hL hP hS hw T hT XX
  have ht1 : (TYS G.2)[9]? = some (G.2 9, .object RX22) := rfl
  obtain ⟨e1, A1, k1, cm1, hk1, hkk1⟩ := hp_acell C hP ht1 ha
  obtain ⟨kA1, comp1, s1, s2, s3, -⟩ := (C.2.2.2.2.2.2.2.2.1.1.1.2 9 _ ht1).2
  cases hk1.symm.trans s1
  cases hkk1.symm.trans s2
  obtain ⟨kD, hkD, -⟩ := Vm.findClass_spec s3
  obtain ⟨cb, b1, b2, b3⟩ := hp_recv (C := C) (Cn := RX21) (T := TX21) (NN := 2) hP hv rfl
  obtain ⟨kS, hkS, -⟩ := Vm.findClass_spec b3
  have hno : s.vm.assignable cb.cls cm1 = false := by
    obtain ⟨c9, t9, x1, x2, x3⟩ := C.2.2.2.2.2.2.2.2.1.1.2.2.2.2.2.1.1 ("NativeSubset$Unit", "NativeSubset$Card") (List.mem_of_getElem? (i := NCL.length - 1) rfl)
    cases x1.symm.trans b3
    cases x2.symm.trans s3
    exact x3
  have hal : s.vm.Alike T.vm := XX.warmed.alike
  obtain ⟨k1', hk1', he1⟩ := hal.2.2 _ _ hk1
  obtain ⟨kS', hkS', heS⟩ := hal.2.2 _ _ hkS
  obtain ⟨kD', hkD', -⟩ := hal.2.2 _ _ hkD
  have hsh : kS'.shown = "NativeSubset$Unit" := by
    have f1 : kS'.shown = kS.shown := by rw [heS]; rfl
    rw [f1, fc_shown b3 hkS]
    decide +kernel
  obtain ⟨t, st, q⟩ := kx
  refine ⟨t, ?_, q⟩
  have e1' : T.heap[a]? = some (vp_cell (G.2 9) (n, .inr (.inr (.inr (.inr f))))) := by rw [hT]; exact e1
  have b1' : T.heap[v]? = some cb := by rw [hT]; exact b1
  have hT2 := (State.isArrayOf_alike hal ((C.2.2.2.2.2.2.2.2.1.1.1.2 9 _ ht1).1 n (fun j => va_rf (f j)))).isArray
  have hin2 : ¬ (i < 0 ∨ (vp_cell (G.2 9) (n, .inr (.inr (.inr (.inr f))))).slots.size ≤ i.toNatClampNeg) := by
    rw [(vp_cell_at _ _).1]; exact hin
  have hno2 : T.vm.assignable cb.cls cm1 = false := by rw [hal.assignable]; exact hno
  exact st_aastX XX C.1 C.2.1 hdg e1' b1' b2 hT2 hin2 (show T.vm.classes[(vp_cell (G.2 9) (n, .inr (.inr (.inr (.inr f))))).cls]? = some k1' from hk1') (by rw [he1]; exact hkk1) hkS' hkD' hno2 hsh t st
end V29
theorem fc_facts {vm : Vm} {n : String} {c : ClassId} {k : Class} (h : vm.findClass n = some c) (hk : vm.classes[c]? = some k) : k.shown = dotted n ∧ k.name = n ∧ k.loader = none := by
  refine ⟨fc_shown h hk, ?_⟩
  obtain ⟨hlt, hp, -⟩ := Array.findIdx?_eq_some_iff_getElem.mp h
  have e : vm.classes[c] = k := (Array.getElem?_eq_some_iff.mp hk).2
  simp only [Bool.and_eq_true, beq_iff_eq, Option.isNone_iff_eq_none] at hp
  rw [e] at hp
  exact ⟨hp.1.1.1, by simpa using hp.2⟩
theorem SA.home {U : State} (hm : modulesRight_1 U = true) {k : Class} (hl : k.loader = none) (hp : castPackages_1.contains (packageOf k.name) = true) : SA 46 (U.vm.home k) := by
  have h1 : SA 16 "unnamed module" := ⟨by decide, by decide⟩
  have h2 : SA 11 " of loader " := ⟨by decide, by decide⟩
  have h3 : SA 11 (U.vm.loaderName k.loader) := by rw [hl]; exact (⟨by decide, by decide⟩ : SA 11 "'bootstrap'")
  have hmod : ∀ m, U.vm.moduleOf k = some m → m.name = "java.base" := by
    intro m h
    unfold Vm.moduleOf at h
    split at h
    · have := List.find?_some h
      simpa using this
    · have h4 := List.find?_some h
      have h5 := List.mem_of_find?_eq_some h
      unfold modulesRight_1 at hm
      rw [List.all_eq_true] at hm
      have h6 := hm m h5
      simp only [Bool.and_eq_true, beq_iff_eq] at h4
      rw [h4.1, hl] at h6
      simp only [Option.isSome_none, Bool.false_or, Bool.or_eq_true, beq_iff_eq, Bool.not_eq_true', List.any_eq_false] at h6
      rcases h6 with h6 | h6
      · exact h6
      · exact absurd h4.2 (by simpa using h6 _ (by simpa using hp))
  unfold Vm.home
  cases h : U.vm.moduleOf k with
  | none => exact ((h1.app h2).app h3).mono (b := 46) (by decide)
  | some m =>
    have h4 : SA 16 ("module " ++ m.name) := by rw [hmod m h]; exact (⟨by decide, by decide⟩ : SA 16 "module java.base")
    exact ((h4.app h2).app h3).mono (b := 46) (by decide)
theorem SA.cce {U : State} (hm : modulesRight_1 U = true) {ks kt : Class} (h1 : SA 30 ks.shown) (h2 : SA 30 kt.shown) (hl1 : ks.loader = none) (hl2 : kt.loader = none) (hp1 : castPackages_1.contains (packageOf ks.name) = true) (hp2 : castPackages_1.contains (packageOf kt.name) = true) : SA 290 (checkcast.message U.vm ks kt) ∧ (checkcast.message U.vm ks kt == notModelled) = false := by
  have a1 := SA.home hm hl1 hp1
  have a2 := SA.home hm hl2 hp2
  have p1 : SA 6 "class " := ⟨by decide, by decide⟩
  have p2 : SA 25 " cannot be cast to class " := ⟨by decide, by decide⟩
  have p3 : SA 2 " (" := ⟨by decide, by decide⟩
  have p4 : SA 1 ")" := ⟨by decide, by decide⟩
  have p5 : SA 5 " and " := ⟨by decide, by decide⟩
  have p6 : SA 8 " are in " := ⟨by decide, by decide⟩
  have p7 : SA 7 " is in " := ⟨by decide, by decide⟩
  have p8 : SA 2 "; " := ⟨by decide, by decide⟩
  have hh : SA 170 (U.vm.homes ks kt) := by
    unfold Vm.homes
    split
    · exact (((((h1.app p5).app h2).app p6).app a1)).mono (b := 170) (by decide)
    · exact (((((((h1.app p7).app a1).app p8).app h2).app p7).app a2)).mono (b := 170) (by decide)
  exact ⟨((((((p1.app h1).app p2).app h2).app p3).app hh).app p4).mono (b := 290) (by decide), nm_no (c := 'c') (nm_app (nm_app (nm_app (nm_app (nm_app (nm_app rfl)))))) (by decide)⟩
def anm_ok (n : String) : Bool := castPackages_1.contains (packageOf n) && decide ((dotted n).toList.length ≤ 30) && (dotted n).toList.all (fun c => decide (c.toNat < 256))
theorem anm_all : (List.range 11).all (fun j => anm_ok (ANM j)) = true := by decide +kernel
theorem SA.anm {vm : Vm} {j : Nat} (hj : j < 11) {c : ClassId} {k : Class} (h : vm.findClass (ANM j) = some c) (hk : vm.classes[c]? = some k) : SA 30 k.shown ∧ k.loader = none ∧ castPackages_1.contains (packageOf k.name) = true := by
  obtain ⟨a1, a2, a3⟩ := fc_facts h hk
  have h1 := List.all_eq_true.mp anm_all j (List.mem_range.mpr hj)
  simp only [anm_ok, Bool.and_eq_true, decide_eq_true_eq] at h1
  refine ⟨?_, a3, by rw [a2]; exact h1.1.1⟩
  rw [a1]
  refine ⟨h1.1.2, fun x hx => ?_⟩
  have := List.all_eq_true.mp h1.2 x hx
  simpa using this
section ST29B
variable {p : Program} {l : Launch} {e : Env} {R : Room} {s : State} {m : MethodId} {args : Array Value} {below : List Frame} {meth : Method} {c : Code} {locs : List Loc} {cells slots : Nat} {T : State}
theorem st_castX (X : Stand p l e R s m args below meth c T locs cells slots) (hexec : p.tables.exec = Jvm.exec)
    {own name : String} {index : Nat} (hown : s.vm.findClass own = some m.cls) (hlink : (Cond.classLink own index name).before args s = true)
    {a : Addr} {cell : Cell} {cT : ClassId} {ks kt : Class} (hcell : T.heap[a]? = some cell) (hobj : ∀ k, cell.vm ≠ .statics k) (hks : s.vm.classes[cell.cls]? = some ks) (hkt : s.vm.classes[cT]? = some kt)
    (hcT : s.vm.findClass name = some cT) (hasg : s.vm.assignable cell.cls cT = false)
    {g : JFrame} (hg : g.method = m) {rest : List Value} (hstack : g.stack = .ref a :: rest) (hdg : decode c.code g.pc = .ok (.checkcast index, 3)) :
    ∃ vm' ks' kt', Stand p l e R s m args below meth c (T.setVm vm') locs cells slots ∧ vm'.classes[cell.cls]? = some ks' ∧ vm'.classes[cT]? = some kt' ∧ s.vm.Alike vm' ∧
      ∀ target, Steps p.tables e below (((T.setVm vm').setTop g).pushFrame (.throwNew "java/lang/ClassCastException" (some (checkcast.message vm' ks' kt')) none)) target → Steps p.tables e below (T.setTop g) target := by
  have hpl : e.platform.magicAccessors = ({} : Platform).magicAccessors := by rw [X.admits.platform]
  obtain ⟨c', hc', hcl⟩ := Cond.classLink_spec hown hlink e.platform hpl
  cases hcT.symm.trans hc'
  obtain ⟨dk, _, _, kt0, hd, _, _, _, _, hkt0, _, hopen⟩ := hcl.here
  have hcl₀ := X.warmed.classLinks hcl
  have hW' : s.WarmedH (T.vm.noted m.cls index (.cls cT)) := X.warmed.noted hd hopen (State.rightAt_cls hcl)
  obtain ⟨ks', hks', -⟩ := hW'.alike.2.2 _ _ hks
  obtain ⟨kt', hkt', -⟩ := hW'.alike.2.2 _ _ hkt
  refine ⟨_, ks', kt', X.noted hW', hks', hkt', hW'.alike, fun target hrest => ?_⟩
  subst hg
  jvm_step X.here [hexec, hdg, checkcast.wp_cold (e := e) (s := T) (f := g) X.here.top hstack (resolveClass_links e.toSetting hcl₀) hcl₀.ready,
    checkcast.wp_ready (e := e) (s := T.setVm (T.vm.noted g.method.cls index (.cls cT))) (f := g) X.here.top hcl₀.ready hstack]
  refine ⟨cell, hcell, hobj, ks', hks', kt', hkt', ?_⟩
  rw [if_neg (by rw [hW'.alike.assignable, hasg]; decide)]
  exact hrest
end ST29B
section V29B
variable {p : Program} {l : Launch} {e : Env} {R : Room} {s : State} {m : MethodId} {args : Array Value} {below : List Frame} {meth : Method} {c : Code} {cc : ByteArray} {own : String} {nL : Nat} {ret : Option FieldType} {hh : List (Nat × Nat × Nat × Nat)} {G : hp_G} {X : Nat → Nat} {N0 : Nat} {Q : State → Prop} {cells slots : Nat} {M : hp_h} {pc : Nat} {L : List (Nat × Value)} {rest : List Value} {idx : Nat}
/-- a cast to int[][] of another row -/
theorem V_castX (C : Cx p l s m args meth c cc own nL ret hh G X N0) {a j : Nat} {x : vp_A} (hj : j < 10) (ha : M a = some (.inl (G.2 j, x))) (hcl : Cond.classLink own idx "[[I" ∈ lw_all) (hdg : decode cc pc = .ok (.checkcast idx, 3)) (hw : (rest.map fun v => v.category).sum ≤ 15) (kx : ∀ tx : String, SA 290 tx → (tx == notModelled) = false → VN p l e R s m args below meth c G N0 nL Q cells slots M pc L "java/lang/ClassCastException" tx) : V p l e R s m args below meth c G N0 nL Q cells slots M pc L (.ref a :: rest) := by
  intro ls H locs hL hP hS T hT XX
  have hncl : (ANM j, "[[I") ∈ NCL := by
    match j, hj with
    | 0, _ => exact List.mem_of_getElem? (i := 9) rfl
    | 1, _ => exact List.mem_of_getElem? (i := 19) rfl
    | 2, _ => exact List.mem_of_getElem? (i := 29) rfl
    | 3, _ => exact List.mem_of_getElem? (i := 39) rfl
    | 4, _ => exact List.mem_of_getElem? (i := 49) rfl
    | 5, _ => exact List.mem_of_getElem? (i := 59) rfl
    | 6, _ => exact List.mem_of_getElem? (i := 69) rfl
    | 7, _ => exact List.mem_of_getElem? (i := 79) rfl
    | 8, _ => exact List.mem_of_getElem? (i := 89) rfl
    | 9, _ => exact List.mem_of_getElem? (i := 98) rfl
    | n + 10, h => exact absurd h (by omega)
  obtain ⟨cell, x1, x2, x3⟩ := hp_arr C (by omega) hP ha
  obtain ⟨c9, t9, y1, y2, y3⟩ := C.2.2.2.2.2.2.2.2.1.1.2.2.2.2.2.1.1 (ANM j, "[[I") hncl
  cases y1.symm.trans x3
  obtain ⟨ks, hks, -⟩ := Vm.findClass_spec x3
  obtain ⟨kt, hkt, -⟩ := Vm.findClass_spec y2
  obtain ⟨vm', ks', kt', X', g1, g2, hal, st⟩ := st_castX XX C.1 C.2.2.2.1 (C.w hcl) (by rw [hT]; exact x1) (fun q h => by rw [h] at x2; cases x2) hks hkt y2 y3 (g := F0 m pc ls (.ref a :: rest)) rfl rfl (by rw [C.2.1]; exact hdg)
  have hm : modulesRight_1 (T.setVm vm') = true := by
    have h9 := C.2.2.2.2.2.2.2.2.1.1.2.2.2.2.2.2.2.2
    have e9 : vm'.modules = s.vm.modules := by rw [hal.1]
    unfold modulesRight_1 at h9 ⊢
    show vm'.modules.all _ = true
    rw [e9]
    exact h9
  have f1 : vm'.findClass (ANM j) = some cell.cls := by rw [hal.findClass]; exact x3
  have f2 : vm'.findClass (ANM 10) = some t9 := by rw [hal.findClass]; exact y2
  obtain ⟨b1, b2, b3⟩ := SA.anm (by omega) f1 g1
  obtain ⟨d1, d2, d3⟩ := SA.anm (by decide) f2 g2
  obtain ⟨z1, z2⟩ := SA.cce hm b1 d1 b2 d2 b3 d3
  obtain ⟨t, st2, q⟩ := kx _ z1 z2 ls H locs (.ref a :: rest) hL hP hS (by simp only [List.map_cons, List.sum_cons]; show 1 + _ ≤ 16; omega) (T.setVm vm') hT X'
  exact ⟨t, st t st2, q⟩
end V29B
