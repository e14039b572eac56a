set_option maxRecDepth 100000
section VSUI
variable {p : Program} {l : Launch} {e : Env} {R : Room} {s : State} {m : MethodId} {args : Array Value} {below : List Frame} {meth : Method} {c : Code} {locs : List Loc} {cells slots : Nat}
/-- a superclass's method that it inherits itself, two steps up -/
theorem vx_callSUi {T : State} (X : Stand p l e R s m args below meth c T locs cells slots) (hexec : p.tables.exec = Jvm.exec) {own W1 W2 : String} {index : Nat} {y : MethodName} {bytes : ByteArray} {maxL : Nat} {ret : Option FieldType}
    (hown : s.vm.findClass own = some m.cls) (hlink : (Cond.methodLink own index ⟨W1, y.name, y.desc⟩).before args s = true) (hsame : (Cond.sameMethod W1 y.cls y.name y.desc).before args s = true) (hsup : (Cond.superclass own W1).before args s = true)
    (hsup2 : (Cond.superclass W1 W2).before args s = true) (hsup3 : (Cond.superclass W2 y.cls).before args s = true)
    (hinst : (Cond.instanceMethod y).before args s = true) (hcode : (Cond.code y bytes maxL ret).before args s = true) (hno : y.name ≠ "<init>")
    {W : Nat} {Pre : Pt → Array Value → Prop} {Post : Pt → Array Value → Option Value → Pt → Prop} {PostX : Pt → Array Value → Addr → Pt → Prop} (hK : vx_Back l R p e below s args y 3 W Pre Post PostX)
    {b : Addr} {cellB : Cell} {kB : Class} (hcell : T.heap[b]? = some cellB) (hobj : cellB.vm.isStatics = false) (hkB : s.vm.classes[cellB.cls]? = some kB)
    {g : JFrame} (hg : g.method = m) (hsize : g.locals.size = c.maxLocals) {argsL rest : List Value} (hlen : ∀ sig, parseMethodDescriptor y.desc = some sig → argsL.length = sig.parameters.length)
    (hstack : g.stack = argsL.reverse ++ .ref b :: rest) (hW : 2 * g.monitorRoom + (rest.map fun v => v.category).sum ≤ W) (hdg : decode c.code g.pc = .ok (.invokespecial index, 3))
    (hpre : ∀ vm₁, s.WarmedH vm₁ → Pre ⟨T.setVm vm₁, locs, cells, slots⟩ (Value.ref b :: argsL).toArray) :
    (∃ (v : Option Value) (vm₁ : Vm) (B : Pt), s.WarmedH vm₁ ∧ Stand p l e R s m args below meth c B.U B.locs B.cells B.slots ∧ Post ⟨T.setVm vm₁, locs, cells, slots⟩ (Value.ref b :: argsL).toArray v B ∧
      ∀ target, Steps p.tables e below (B.U.setTop { g with pc := g.pc + 3, stack := v.toList ++ rest }) target → Steps p.tables e below (T.setTop g) target) ∨
    (∃ (q : Addr) (vm₁ : Vm) (B : Pt), s.WarmedH vm₁ ∧ Stand p l e R s m args below meth c B.U B.locs B.cells B.slots ∧ PostX ⟨T.setVm vm₁, locs, cells, slots⟩ (Value.ref b :: argsL).toArray q B ∧
      Steps p.tables e below (T.setTop g) ((B.U.setTop { g with stack := rest }).pushFrame (.throwing q))) := by
  obtain ⟨mk, methM, hnamed, hmethM, hstM, habM⟩ := Cond.instanceMethod_spec hinst
  obtain ⟨methM', cM, hmethM', -, -, -, -, -, -, hsigM⟩ := Cond.code_spec hnamed hcode
  cases hmethM.symm.trans hmethM'
  obtain ⟨ps, dk, kp, hps, hdk, hkp, hsuper, -, -, hnid⟩ := Cond.superclass_spec hown hsup
  obtain ⟨ps2, dk2, kp2, hps2, hdk2, hkp2, hsuper2, -⟩ := Cond.superclass_spec hps hsup2
  obtain ⟨ps3, dk3, kp3, hps3, hdk3, hkp3, hsuper3, -⟩ := Cond.superclass_spec hps2 hsup3
  have hn : s.methodNamed? ⟨y.cls, y.name, y.desc⟩ = some mk := hnamed
  have hpm : ps3 = mk.cls := Option.some.inj (hps3.symm.trans (findClass_of_methodNamed hnamed))
  have hsub : s.vm.isSubclass ps mk.cls = true := by
    rw [← hpm]
    have e1 := (Array.getElem?_eq_some_iff.mp hdk2).1
    have e2 := (Array.getElem?_eq_some_iff.mp hdk3).1
    have e3 := (Array.getElem?_eq_some_iff.mp hkp3).1
    unfold Vm.isSubclass
    generalize hz : s.vm.classes.size = z at *
    match z, e1, e2, e3 with
    | 1, e1, e2, e3 =>
      have : ps = ps3 := (Nat.lt_one_iff.mp e1).trans (Nat.lt_one_iff.mp e3).symm
      subst this
      simp [Vm.isSubclassAux]
    | z + 2, e1, e2, e3 => simp [Vm.isSubclassAux, hdk2, hsuper2, hdk3, hsuper3]
  obtain ⟨vm₁, X₁, hstep₁⟩ := X.invokespecialUp (x := ⟨W1, y.name, y.desc⟩) (owner := y.cls) hexec hown hlink hsame hn hmethM hstM habM hno hdk hnid hps hsuper hsub (a := b) (cell := cellB) hcell
    (fun z h => by rw [h] at hobj; cases hobj) hkB (g := g) hg (argsL := argsL) (rest := rest) (hlen _ hsigM) hstack hdg
  rcases hK m meth c ⟨T.setVm vm₁, locs, cells, slots⟩ { g with stack := rest } (.invokespecial index) mk (Value.ref b :: argsL).toArray X₁ hg hsize hdg hW (X₁.named hnamed) (hpre vm₁ X₁.warmed) with ⟨v, B, X', hpost, hsteps⟩ | ⟨q, B, X', hpost, hsteps⟩
  · exact Or.inl ⟨v, vm₁, B, X₁.warmed, X', hpost, fun target h => hstep₁ _ (by rw [doInvoke_state]; exact hsteps.trans h)⟩
  · exact Or.inr ⟨q, vm₁, B, X₁.warmed, X', hpost, hstep₁ _ (by rw [doInvoke_state]; exact hsteps)⟩
end VSUI
section VSUI2
variable {p : Program} {l : Launch} {e : Env} {R : Room} {s : State} {m : MethodId} {args : Array Value} {below : List Frame} {meth : Method} {c : Code} {cc : ByteArray} {own : String} {nL : Nat} {ret : Option FieldType} {hh : List (Nat × Nat × Nat × Nat)} {G : hp_G} {X : Nat → Nat} {N0 : Nat} {Q : State → Prop} {cells slots : Nat} {M : hp_h} {pc : Nat} {L : List (Nat × Value)} {rest : List Value} {idx : Nat}
variable {st st0 : List Value} {y : MethodName} {b : ByteArray} {r : Option FieldType} {n mL mc ms fr lo ci a : Nat} {As : List Value} {fs : List Value} {Cn : String} {T : u_T} {NN : Nat} {Post : Option Value → hp_h → Prop} {PX : Nat → String → hp_h → Prop}
theorem V_callUU (C : Cx p l s m args meth c cc own nL ret hh G X N0) (hM : HM l y (ws_ y b mL r) fr lo mc ms G X N0 (.ref a :: As) M Post PX) {W1 W2 : String} (hI : GoodIn lw_all (ws_ y b mL r) ∧ Cond.methodLink own idx ⟨W1, y.name, y.desc⟩ ∈ lw_all ∧ Cond.sameMethod W1 y.cls y.name y.desc ∈ lw_all ∧ Cond.superclass own W1 ∈ lw_all ∧ Cond.superclass W1 W2 ∈ lw_all ∧ Cond.superclass W2 y.cls ∈ lw_all ∧ Cond.instanceMethod y ∈ lw_all ∧ Cond.initialized y.cls ∈ lw_all ∧ y.name ≠ "<init>" ∧ (parseMethodDescriptor y.desc).map (fun d => d.parameters.length) = some n) (ha : M a = some (.inr (ci, fs))) (hci : CLS[ci]? = some (Cn, T, NN)) (hn : As.length = n) (hst : st0 = As.reverse ++ .ref a :: rest) (hR : fr + 1 ≤ R.frames ∧ 8 + (mL + 11) + lo ≤ R.locals) (hcs : cells + mc ≤ R.cells ∧ slots + ms ≤ R.slots) (hW : (rest.map fun v => v.category).sum ≤ 8) (hdg : decode cc pc = .ok (.invokespecial idx, 3)) (kx : ∀ (q : Nat) (E : String) (M' : hp_h), PX q E M' → VX p l e R s m args below meth c G N0 nL Q (cells + mc) (slots + ms) M' pc L q E) (kk : ∀ (v : Option Value) (M' : hp_h), Post v M' → V p l e R s m args below meth c G N0 nL Q (cells + mc) (slots + ms) M' (pc + 3) L (v.toList ++ rest)) : V p l e R s m args below meth c G N0 nL Q cells slots M pc L st0 := by
  refine V_run (ar := (Value.ref a :: As).toArray) (fun ls H locs hL hP hS => ?_) kx kk
  obtain ⟨i1, i2, i3, i4, i5, i6, i7, i8, i9, i10⟩ := hI
  obtain ⟨cellB, hcB, hoB, hclB⟩ := hp_recv (C := C) hP ha hci
  obtain ⟨kB, hkB, -⟩ := Vm.findClass_spec hclB
  have hcd : Cond.code y b mL r ∈ lw_all := (i1 _ List.mem_cons_self).1
  have hK : vx_Back l R p e below s args y 3 8 (PreOf R mc ms (HPre G X N0 (.ref a :: As) M)) (PostOf (HPost G N0 Post) mc ms (hp_A N0)) (vx_Post (HXP G N0 PX) mc ms (hp_A N0)) := vx_back (bytes := b) (maxL := mL) (ret := r) hM HPre.blind rfl rfl hR.1 hR.2 (pay_in (fun w h => C.w h) i1) List.mem_cons_self (fun a' U hW => word_at hW (Or.inl (by first | rfl | simp [Cond.onTables, Cond.keeps, Cond.steady])) (C.w i8))
  intro T0 hT X0
  rcases vx_callSUi X0 C.1 (y := y) (W1 := W1) (W2 := W2) (bytes := b) (maxL := mL) (ret := r) C.2.2.2.1 (C.w i2) (C.w i3) (C.w i4) (C.w i5) (C.w i6) (C.w i7) (C.w hcd) i9 hK (by rw [hT]; exact hcB) hoB hkB (g := F0 m pc ls st0) rfl (hL.1.trans C.2.2.1.symm) (argsL := As) (rest := rest) (fun sig h => by rw [h] at i10; exact hn.trans (Option.some.inj i10).symm) hst (lv_room hW) (by rw [C.2.1]; exact hdg)
    (fun vm₁ hW₁ => ⟨hcs.1, hcs.2, HPre.at (C := C) (av := .ref a :: As) hP hS (T0.setVm vm₁) hT hW₁⟩) with ⟨v, vm₁, ⟨U', l2, c2, s2⟩, hW₁, X', ⟨g', mk, t, L9, e1, e2, hq, h1, hL9, h2, h3⟩, st⟩ | ⟨q, vm₁, ⟨U', l2, c2, s2⟩, hW₁, X', ⟨g', mk, t, L9, E, ce, e1, e2, hq, hce, hcv, hcl, h1, hL9, h2, h3⟩, st⟩
  · dsimp only [Pt.U, Pt.locs, Pt.cells, Pt.slots] at X' e1 e2 h1 h2 h3 st
    subst h1; subst h2; subst h3
    exact Or.inl ⟨v, (T0.setVm vm₁).calling g' mk (Value.ref a :: As).toArray, t, U', L9, hT, X', hL9, e1, e2, hq, st⟩
  · dsimp only [Pt.U, Pt.locs, Pt.cells, Pt.slots] at X' e1 e2 h1 h2 h3 st hcl
    subst h1; subst h2; subst h3
    exact Or.inr ⟨q, (T0.setVm vm₁).calling g' mk (Value.ref a :: As).toArray, t, U', L9, E, ce, hT, X', hL9, e1, e2, hq, hce, hcv, vx_cls hW₁ hcl, st⟩
end VSUI2
theorem some_of (k : Int32) : (if 0 < (if k < 40 then k else 40) then (if k < 40 then k else 40) else 0) = mf_some k := by
  unfold mf_some
  grind
theorem some_nI {n : Nat} (h : n ≤ 40) : mf_some (nI n) = nI n := by
  unfold mf_some
  rw [if_neg (nI_pos (by omega)), if_neg]
  intro z
  exact absurd ((nI_ltI (a := 40) (by decide) (by omega)).mp z) (by omega)
theorem some_ite {x y : Nat} (h : x ≤ 40) (h2 : y ≤ 40) : mf_some (if nI x < nI y then nI x else nI y) = if nI x < nI y then nI x else nI y := by
  split
  · exact some_nI h
  · exact some_nI h2
set_option maxHeartbeats 1000000 in
theorem c_X3_base_10 (l : Launch) (hl : l.stackTraces = false) (G : hp_G) (X : Nat → Nat) (N0 : Nat) (M : hp_h) (hh n9 : Nat) (hhh : M hh = some (.inr (10, [.int 2, .ref n9, .ref n9])))  : HM l yX3_base (ws_ yX3_base cX3_base 1 (some .int)) 0 0 0 0 G X N0 [.ref hh] M (PV (.int 2) M) PX0 := by
  refine HM.of hl [(0, .ref hh)] (by decide +kernel) rfl (Nat.le_of_ble_eq_true rfl) ?_
  intro p e s m args below meth c C hname
  refine V_aload_n C dX3_base_0 rfl 0 rfl ?_
  refine V_get C f_X3_13_10 hhh (v := .int 2) rfl dX3_base_1 ?_
  refine V_iret C dX3_base_4 rfl ?_ (by first | exact Nat.le_of_ble_eq_true rfl | omega | (dsimp only; omega)) (by first | exact Nat.le_of_ble_eq_true rfl | omega | (dsimp only; omega))
  exact ⟨rfl, rfl⟩
set_option maxHeartbeats 1000000 in
theorem c_X3_base_11 (l : Launch) (hl : l.stackTraces = false) (G : hp_G) (X : Nat → Nat) (N0 : Nat) (M : hp_h) (hh n9 : Nat) (hhh : M hh = some (.inr (11, [.int 3, .ref n9, .int 0, .int 10, .ref n9, .ref n9])))  : HM l yX3_base (ws_ yX3_base cX3_base 1 (some .int)) 0 0 0 0 G X N0 [.ref hh] M (PV (.int 3) M) PX0 := by
  refine HM.of hl [(0, .ref hh)] (by decide +kernel) rfl (Nat.le_of_ble_eq_true rfl) ?_
  intro p e s m args below meth c C hname
  refine V_aload_n C dX3_base_0 rfl 0 rfl ?_
  refine V_get C f_X3_13_11 hhh (v := .int 3) rfl dX3_base_1 ?_
  refine V_iret C dX3_base_4 rfl ?_ (by first | exact Nat.le_of_ble_eq_true rfl | omega | (dsimp only; omega)) (by first | exact Nat.le_of_ble_eq_true rfl | omega | (dsimp only; omega))
  exact ⟨rfl, rfl⟩
set_option maxHeartbeats 1000000 in
theorem c_X3_base_12 (l : Launch) (hl : l.stackTraces = false) (G : hp_G) (X : Nat → Nat) (N0 : Nat) (M : hp_h) (hh n9 : Nat) (hhh : M hh = some (.inr (12, [.int 1, .ref n9, .int 0, .int 10, .ref n9, .ref n9, .ref n9])))  : HM l yX3_base (ws_ yX3_base cX3_base 1 (some .int)) 0 0 0 0 G X N0 [.ref hh] M (PV (.int 1) M) PX0 := by
  refine HM.of hl [(0, .ref hh)] (by decide +kernel) rfl (Nat.le_of_ble_eq_true rfl) ?_
  intro p e s m args below meth c C hname
  refine V_aload_n C dX3_base_0 rfl 0 rfl ?_
  refine V_get C f_X3_13_12 hhh (v := .int 1) rfl dX3_base_1 ?_
  refine V_iret C dX3_base_4 rfl ?_ (by first | exact Nat.le_of_ble_eq_true rfl | omega | (dsimp only; omega)) (by first | exact Nat.le_of_ble_eq_true rfl | omega | (dsimp only; omega))
  exact ⟨rfl, rfl⟩
set_option maxHeartbeats 1000000 in
theorem c_X3_base_13 (l : Launch) (hl : l.stackTraces = false) (G : hp_G) (X : Nat → Nat) (N0 : Nat) (M : hp_h) (hh n9 : Nat) (hhh : M hh = some (.inr (13, [.int 1, .ref n9, .int 0, .int 10, .ref n9, .ref n9, .ref n9])))  : HM l yX3_base (ws_ yX3_base cX3_base 1 (some .int)) 0 0 0 0 G X N0 [.ref hh] M (PV (.int 1) M) PX0 := by
  refine HM.of hl [(0, .ref hh)] (by decide +kernel) rfl (Nat.le_of_ble_eq_true rfl) ?_
  intro p e s m args below meth c C hname
  refine V_aload_n C dX3_base_0 rfl 0 rfl ?_
  refine V_get C f_X3_13_13 hhh (v := .int 1) rfl dX3_base_1 ?_
  refine V_iret C dX3_base_4 rfl ?_ (by first | exact Nat.le_of_ble_eq_true rfl | omega | (dsimp only; omega)) (by first | exact Nat.le_of_ble_eq_true rfl | omega | (dsimp only; omega))
  exact ⟨rfl, rfl⟩
set_option maxHeartbeats 1000000 in
theorem c_X3_base_14 (l : Launch) (hl : l.stackTraces = false) (G : hp_G) (X : Nat → Nat) (N0 : Nat) (M : hp_h) (hh n9 : Nat) (hhh : M hh = some (.inr (14, [.int 1, .ref n9, .int 1, .int 7, .ref n9, .ref n9, .ref n9])))  : HM l yX3_base (ws_ yX3_base cX3_base 1 (some .int)) 0 0 0 0 G X N0 [.ref hh] M (PV (.int 1) M) PX0 := by
  refine HM.of hl [(0, .ref hh)] (by decide +kernel) rfl (Nat.le_of_ble_eq_true rfl) ?_
  intro p e s m args below meth c C hname
  refine V_aload_n C dX3_base_0 rfl 0 rfl ?_
  refine V_get C f_X3_13_14 hhh (v := .int 1) rfl dX3_base_1 ?_
  refine V_iret C dX3_base_4 rfl ?_ (by first | exact Nat.le_of_ble_eq_true rfl | omega | (dsimp only; omega)) (by first | exact Nat.le_of_ble_eq_true rfl | omega | (dsimp only; omega))
  exact ⟨rfl, rfl⟩
set_option maxHeartbeats 1000000 in
theorem c_X3_base_15 (l : Launch) (hl : l.stackTraces = false) (G : hp_G) (X : Nat → Nat) (N0 : Nat) (M : hp_h) (hh n9 : Nat) (hhh : M hh = some (.inr (15, [.int 1, .ref n9, .int 0, .int 10, .ref n9, .ref n9])))  : HM l yX3_base (ws_ yX3_base cX3_base 1 (some .int)) 0 0 0 0 G X N0 [.ref hh] M (PV (.int 1) M) PX0 := by
  refine HM.of hl [(0, .ref hh)] (by decide +kernel) rfl (Nat.le_of_ble_eq_true rfl) ?_
  intro p e s m args below meth c C hname
  refine V_aload_n C dX3_base_0 rfl 0 rfl ?_
  refine V_get C f_X3_13_15 hhh (v := .int 1) rfl dX3_base_1 ?_
  refine V_iret C dX3_base_4 rfl ?_ (by first | exact Nat.le_of_ble_eq_true rfl | omega | (dsimp only; omega)) (by first | exact Nat.le_of_ble_eq_true rfl | omega | (dsimp only; omega))
  exact ⟨rfl, rfl⟩
set_option maxHeartbeats 1000000 in
theorem c_X3_base_16 (l : Launch) (hl : l.stackTraces = false) (G : hp_G) (X : Nat → Nat) (N0 : Nat) (M : hp_h) (hh n9 : Nat) (hhh : M hh = some (.inr (16, [.int 1, .ref n9, .int 1, .int 7, .ref n9, .ref n9])))  : HM l yX3_base (ws_ yX3_base cX3_base 1 (some .int)) 0 0 0 0 G X N0 [.ref hh] M (PV (.int 1) M) PX0 := by
  refine HM.of hl [(0, .ref hh)] (by decide +kernel) rfl (Nat.le_of_ble_eq_true rfl) ?_
  intro p e s m args below meth c C hname
  refine V_aload_n C dX3_base_0 rfl 0 rfl ?_
  refine V_get C f_X3_13_16 hhh (v := .int 1) rfl dX3_base_1 ?_
  refine V_iret C dX3_base_4 rfl ?_ (by first | exact Nat.le_of_ble_eq_true rfl | omega | (dsimp only; omega)) (by first | exact Nat.le_of_ble_eq_true rfl | omega | (dsimp only; omega))
  exact ⟨rfl, rfl⟩
set_option maxHeartbeats 1000000 in
theorem c_X3_base_17 (l : Launch) (hl : l.stackTraces = false) (G : hp_G) (X : Nat → Nat) (N0 : Nat) (M : hp_h) (hh n9 : Nat) (hhh : M hh = some (.inr (17, [.int 1, .ref n9, .int 0, .int 10, .ref n9, .ref n9, .ref n9])))  : HM l yX3_base (ws_ yX3_base cX3_base 1 (some .int)) 0 0 0 0 G X N0 [.ref hh] M (PV (.int 1) M) PX0 := by
  refine HM.of hl [(0, .ref hh)] (by decide +kernel) rfl (Nat.le_of_ble_eq_true rfl) ?_
  intro p e s m args below meth c C hname
  refine V_aload_n C dX3_base_0 rfl 0 rfl ?_
  refine V_get C f_X3_13_17 hhh (v := .int 1) rfl dX3_base_1 ?_
  refine V_iret C dX3_base_4 rfl ?_ (by first | exact Nat.le_of_ble_eq_true rfl | omega | (dsimp only; omega)) (by first | exact Nat.le_of_ble_eq_true rfl | omega | (dsimp only; omega))
  exact ⟨rfl, rfl⟩
set_option maxHeartbeats 1000000 in
theorem c_X3_base_18 (l : Launch) (hl : l.stackTraces = false) (G : hp_G) (X : Nat → Nat) (N0 : Nat) (M : hp_h) (hh n9 : Nat) (hhh : M hh = some (.inr (18, [.int 2, .ref n9, .int 1, .int 7, .ref n9, .ref n9, .ref n9])))  : HM l yX3_base (ws_ yX3_base cX3_base 1 (some .int)) 0 0 0 0 G X N0 [.ref hh] M (PV (.int 2) M) PX0 := by
  refine HM.of hl [(0, .ref hh)] (by decide +kernel) rfl (Nat.le_of_ble_eq_true rfl) ?_
  intro p e s m args below meth c C hname
  refine V_aload_n C dX3_base_0 rfl 0 rfl ?_
  refine V_get C f_X3_13_18 hhh (v := .int 2) rfl dX3_base_1 ?_
  refine V_iret C dX3_base_4 rfl ?_ (by first | exact Nat.le_of_ble_eq_true rfl | omega | (dsimp only; omega)) (by first | exact Nat.le_of_ble_eq_true rfl | omega | (dsimp only; omega))
  exact ⟨rfl, rfl⟩
set_option maxHeartbeats 1000000 in
theorem c_X3_base_19 (l : Launch) (hl : l.stackTraces = false) (G : hp_G) (X : Nat → Nat) (N0 : Nat) (M : hp_h) (hh n9 : Nat) (hhh : M hh = some (.inr (19, [.int 1, .ref n9, .int 0, .int 7, .ref n9, .ref n9, .ref n9])))  : HM l yX3_base (ws_ yX3_base cX3_base 1 (some .int)) 0 0 0 0 G X N0 [.ref hh] M (PV (.int 1) M) PX0 := by
  refine HM.of hl [(0, .ref hh)] (by decide +kernel) rfl (Nat.le_of_ble_eq_true rfl) ?_
  intro p e s m args below meth c C hname
  refine V_aload_n C dX3_base_0 rfl 0 rfl ?_
  refine V_get C f_X3_13_19 hhh (v := .int 1) rfl dX3_base_1 ?_
  refine V_iret C dX3_base_4 rfl ?_ (by first | exact Nat.le_of_ble_eq_true rfl | omega | (dsimp only; omega)) (by first | exact Nat.le_of_ble_eq_true rfl | omega | (dsimp only; omega))
  exact ⟨rfl, rfl⟩
set_option maxHeartbeats 1000000 in
theorem c_X3_base_20 (l : Launch) (hl : l.stackTraces = false) (G : hp_G) (X : Nat → Nat) (N0 : Nat) (M : hp_h) (hh n9 : Nat) (hhh : M hh = some (.inr (20, [.int 5, .ref n9, .ref n9])))  : HM l yX3_base (ws_ yX3_base cX3_base 1 (some .int)) 0 0 0 0 G X N0 [.ref hh] M (PV (.int 5) M) PX0 := by
  refine HM.of hl [(0, .ref hh)] (by decide +kernel) rfl (Nat.le_of_ble_eq_true rfl) ?_
  intro p e s m args below meth c C hname
  refine V_aload_n C dX3_base_0 rfl 0 rfl ?_
  refine V_get C f_X3_13_20 hhh (v := .int 5) rfl dX3_base_1 ?_
  refine V_iret C dX3_base_4 rfl ?_ (by first | exact Nat.le_of_ble_eq_true rfl | omega | (dsimp only; omega)) (by first | exact Nat.le_of_ble_eq_true rfl | omega | (dsimp only; omega))
  exact ⟨rfl, rfl⟩
set_option maxHeartbeats 1000000 in
theorem c_X3_base_21 (l : Launch) (hl : l.stackTraces = false) (G : hp_G) (X : Nat → Nat) (N0 : Nat) (M : hp_h) (hh n9 : Nat) (hhh : M hh = some (.inr (21, [.int 1, .ref n9, .ref n9])))  : HM l yX3_base (ws_ yX3_base cX3_base 1 (some .int)) 0 0 0 0 G X N0 [.ref hh] M (PV (.int 1) M) PX0 := by
  refine HM.of hl [(0, .ref hh)] (by decide +kernel) rfl (Nat.le_of_ble_eq_true rfl) ?_
  intro p e s m args below meth c C hname
  refine V_aload_n C dX3_base_0 rfl 0 rfl ?_
  refine V_get C f_X3_13_21 hhh (v := .int 1) rfl dX3_base_1 ?_
  refine V_iret C dX3_base_4 rfl ?_ (by first | exact Nat.le_of_ble_eq_true rfl | omega | (dsimp only; omega)) (by first | exact Nat.le_of_ble_eq_true rfl | omega | (dsimp only; omega))
  exact ⟨rfl, rfl⟩
set_option maxHeartbeats 1000000 in
theorem c_X3_base_22 (l : Launch) (hl : l.stackTraces = false) (G : hp_G) (X : Nat → Nat) (N0 : Nat) (M : hp_h) (hh n9 : Nat) (hhh : M hh = some (.inr (22, [.int 1, .ref n9, .int 8, .int 9, .ref n9, .ref n9])))  : HM l yX3_base (ws_ yX3_base cX3_base 1 (some .int)) 0 0 0 0 G X N0 [.ref hh] M (PV (.int 1) M) PX0 := by
  refine HM.of hl [(0, .ref hh)] (by decide +kernel) rfl (Nat.le_of_ble_eq_true rfl) ?_
  intro p e s m args below meth c C hname
  refine V_aload_n C dX3_base_0 rfl 0 rfl ?_
  refine V_get C f_X3_13_22 hhh (v := .int 1) rfl dX3_base_1 ?_
  refine V_iret C dX3_base_4 rfl ?_ (by first | exact Nat.le_of_ble_eq_true rfl | omega | (dsimp only; omega)) (by first | exact Nat.le_of_ble_eq_true rfl | omega | (dsimp only; omega))
  exact ⟨rfl, rfl⟩
set_option maxHeartbeats 1000000 in
theorem c_X3_length_10 (l : Launch) (hl : l.stackTraces = false) (G : hp_G) (X : Nat → Nat) (N0 : Nat) (M : hp_h) (hh n9 : Nat) (hhh : M hh = some (.inr (10, [.int 2, .ref n9, .ref n9]))) (k : Int32) : HM l yX3_length (ws_ yX3_length cX3_length 2 (some .int)) 0 0 0 0 G X N0 [.ref hh, .int k] M (PV (.int k) M) PX0 := by
  refine HM.of hl [(0, .ref hh), (1, .int k)] (by decide +kernel) rfl (Nat.le_of_ble_eq_true rfl) ?_
  intro p e s m args below meth c C hname
  refine V_iload_n C dX3_length_0 rfl 1 rfl ?_
  refine V_iret C dX3_length_1 rfl ?_ (by first | exact Nat.le_of_ble_eq_true rfl | omega | (dsimp only; omega)) (by first | exact Nat.le_of_ble_eq_true rfl | omega | (dsimp only; omega))
  exact ⟨rfl, rfl⟩
set_option maxHeartbeats 1000000 in
theorem c_X3_length_11 (l : Launch) (hl : l.stackTraces = false) (G : hp_G) (X : Nat → Nat) (N0 : Nat) (M : hp_h) (hh n9 : Nat) (hhh : M hh = some (.inr (11, [.int 3, .ref n9, .int 0, .int 10, .ref n9, .ref n9]))) (k : Int32) : HM l yX3_length (ws_ yX3_length cX3_length 2 (some .int)) 0 0 0 0 G X N0 [.ref hh, .int k] M (PV (.int k) M) PX0 := by
  refine HM.of hl [(0, .ref hh), (1, .int k)] (by decide +kernel) rfl (Nat.le_of_ble_eq_true rfl) ?_
  intro p e s m args below meth c C hname
  refine V_iload_n C dX3_length_0 rfl 1 rfl ?_
  refine V_iret C dX3_length_1 rfl ?_ (by first | exact Nat.le_of_ble_eq_true rfl | omega | (dsimp only; omega)) (by first | exact Nat.le_of_ble_eq_true rfl | omega | (dsimp only; omega))
  exact ⟨rfl, rfl⟩
set_option maxHeartbeats 1000000 in
theorem c_X3_length_12 (l : Launch) (hl : l.stackTraces = false) (G : hp_G) (X : Nat → Nat) (N0 : Nat) (M : hp_h) (hh n9 : Nat) (hhh : M hh = some (.inr (12, [.int 1, .ref n9, .int 0, .int 10, .ref n9, .ref n9, .ref n9]))) (k : Int32) : HM l yX3_length (ws_ yX3_length cX3_length 2 (some .int)) 0 0 0 0 G X N0 [.ref hh, .int k] M (PV (.int k) M) PX0 := by
  refine HM.of hl [(0, .ref hh), (1, .int k)] (by decide +kernel) rfl (Nat.le_of_ble_eq_true rfl) ?_
  intro p e s m args below meth c C hname
  refine V_iload_n C dX3_length_0 rfl 1 rfl ?_
  refine V_iret C dX3_length_1 rfl ?_ (by first | exact Nat.le_of_ble_eq_true rfl | omega | (dsimp only; omega)) (by first | exact Nat.le_of_ble_eq_true rfl | omega | (dsimp only; omega))
  exact ⟨rfl, rfl⟩
set_option maxHeartbeats 1000000 in
theorem c_X3_length_13 (l : Launch) (hl : l.stackTraces = false) (G : hp_G) (X : Nat → Nat) (N0 : Nat) (M : hp_h) (hh n9 : Nat) (hhh : M hh = some (.inr (13, [.int 1, .ref n9, .int 0, .int 10, .ref n9, .ref n9, .ref n9]))) (k : Int32) : HM l yX3_length (ws_ yX3_length cX3_length 2 (some .int)) 0 0 0 0 G X N0 [.ref hh, .int k] M (PV (.int k) M) PX0 := by
  refine HM.of hl [(0, .ref hh), (1, .int k)] (by decide +kernel) rfl (Nat.le_of_ble_eq_true rfl) ?_
  intro p e s m args below meth c C hname
  refine V_iload_n C dX3_length_0 rfl 1 rfl ?_
  refine V_iret C dX3_length_1 rfl ?_ (by first | exact Nat.le_of_ble_eq_true rfl | omega | (dsimp only; omega)) (by first | exact Nat.le_of_ble_eq_true rfl | omega | (dsimp only; omega))
  exact ⟨rfl, rfl⟩
set_option maxHeartbeats 1000000 in
theorem c_X3_length_14 (l : Launch) (hl : l.stackTraces = false) (G : hp_G) (X : Nat → Nat) (N0 : Nat) (M : hp_h) (hh n9 : Nat) (hhh : M hh = some (.inr (14, [.int 1, .ref n9, .int 1, .int 7, .ref n9, .ref n9, .ref n9]))) (k : Int32) : HM l yX3_length (ws_ yX3_length cX3_length 2 (some .int)) 0 0 0 0 G X N0 [.ref hh, .int k] M (PV (.int k) M) PX0 := by
  refine HM.of hl [(0, .ref hh), (1, .int k)] (by decide +kernel) rfl (Nat.le_of_ble_eq_true rfl) ?_
  intro p e s m args below meth c C hname
  refine V_iload_n C dX3_length_0 rfl 1 rfl ?_
  refine V_iret C dX3_length_1 rfl ?_ (by first | exact Nat.le_of_ble_eq_true rfl | omega | (dsimp only; omega)) (by first | exact Nat.le_of_ble_eq_true rfl | omega | (dsimp only; omega))
  exact ⟨rfl, rfl⟩
set_option maxHeartbeats 1000000 in
theorem c_X3_length_15 (l : Launch) (hl : l.stackTraces = false) (G : hp_G) (X : Nat → Nat) (N0 : Nat) (M : hp_h) (hh n9 : Nat) (hhh : M hh = some (.inr (15, [.int 1, .ref n9, .int 0, .int 10, .ref n9, .ref n9]))) (k : Int32) : HM l yX3_length (ws_ yX3_length cX3_length 2 (some .int)) 0 0 0 0 G X N0 [.ref hh, .int k] M (PV (.int k) M) PX0 := by
  refine HM.of hl [(0, .ref hh), (1, .int k)] (by decide +kernel) rfl (Nat.le_of_ble_eq_true rfl) ?_
  intro p e s m args below meth c C hname
  refine V_iload_n C dX3_length_0 rfl 1 rfl ?_
  refine V_iret C dX3_length_1 rfl ?_ (by first | exact Nat.le_of_ble_eq_true rfl | omega | (dsimp only; omega)) (by first | exact Nat.le_of_ble_eq_true rfl | omega | (dsimp only; omega))
  exact ⟨rfl, rfl⟩
set_option maxHeartbeats 1000000 in
theorem c_X3_length_16 (l : Launch) (hl : l.stackTraces = false) (G : hp_G) (X : Nat → Nat) (N0 : Nat) (M : hp_h) (hh n9 : Nat) (hhh : M hh = some (.inr (16, [.int 1, .ref n9, .int 1, .int 7, .ref n9, .ref n9]))) (k : Int32) : HM l yX3_length (ws_ yX3_length cX3_length 2 (some .int)) 0 0 0 0 G X N0 [.ref hh, .int k] M (PV (.int k) M) PX0 := by
  refine HM.of hl [(0, .ref hh), (1, .int k)] (by decide +kernel) rfl (Nat.le_of_ble_eq_true rfl) ?_
  intro p e s m args below meth c C hname
  refine V_iload_n C dX3_length_0 rfl 1 rfl ?_
  refine V_iret C dX3_length_1 rfl ?_ (by first | exact Nat.le_of_ble_eq_true rfl | omega | (dsimp only; omega)) (by first | exact Nat.le_of_ble_eq_true rfl | omega | (dsimp only; omega))
  exact ⟨rfl, rfl⟩
set_option maxHeartbeats 1000000 in
theorem c_X3_length_17 (l : Launch) (hl : l.stackTraces = false) (G : hp_G) (X : Nat → Nat) (N0 : Nat) (M : hp_h) (hh n9 : Nat) (hhh : M hh = some (.inr (17, [.int 1, .ref n9, .int 0, .int 10, .ref n9, .ref n9, .ref n9]))) (k : Int32) : HM l yX3_length (ws_ yX3_length cX3_length 2 (some .int)) 0 0 0 0 G X N0 [.ref hh, .int k] M (PV (.int k) M) PX0 := by
  refine HM.of hl [(0, .ref hh), (1, .int k)] (by decide +kernel) rfl (Nat.le_of_ble_eq_true rfl) ?_
  intro p e s m args below meth c C hname
  refine V_iload_n C dX3_length_0 rfl 1 rfl ?_
  refine V_iret C dX3_length_1 rfl ?_ (by first | exact Nat.le_of_ble_eq_true rfl | omega | (dsimp only; omega)) (by first | exact Nat.le_of_ble_eq_true rfl | omega | (dsimp only; omega))
  exact ⟨rfl, rfl⟩
set_option maxHeartbeats 1000000 in
theorem c_X3_length_18 (l : Launch) (hl : l.stackTraces = false) (G : hp_G) (X : Nat → Nat) (N0 : Nat) (M : hp_h) (hh n9 : Nat) (hhh : M hh = some (.inr (18, [.int 2, .ref n9, .int 1, .int 7, .ref n9, .ref n9, .ref n9]))) (k : Int32) : HM l yX3_length (ws_ yX3_length cX3_length 2 (some .int)) 0 0 0 0 G X N0 [.ref hh, .int k] M (PV (.int k) M) PX0 := by
  refine HM.of hl [(0, .ref hh), (1, .int k)] (by decide +kernel) rfl (Nat.le_of_ble_eq_true rfl) ?_
  intro p e s m args below meth c C hname
  refine V_iload_n C dX3_length_0 rfl 1 rfl ?_
  refine V_iret C dX3_length_1 rfl ?_ (by first | exact Nat.le_of_ble_eq_true rfl | omega | (dsimp only; omega)) (by first | exact Nat.le_of_ble_eq_true rfl | omega | (dsimp only; omega))
  exact ⟨rfl, rfl⟩
set_option maxHeartbeats 1000000 in
theorem c_X3_length_19 (l : Launch) (hl : l.stackTraces = false) (G : hp_G) (X : Nat → Nat) (N0 : Nat) (M : hp_h) (hh n9 : Nat) (hhh : M hh = some (.inr (19, [.int 1, .ref n9, .int 0, .int 7, .ref n9, .ref n9, .ref n9]))) (k : Int32) : HM l yX3_length (ws_ yX3_length cX3_length 2 (some .int)) 0 0 0 0 G X N0 [.ref hh, .int k] M (PV (.int k) M) PX0 := by
  refine HM.of hl [(0, .ref hh), (1, .int k)] (by decide +kernel) rfl (Nat.le_of_ble_eq_true rfl) ?_
  intro p e s m args below meth c C hname
  refine V_iload_n C dX3_length_0 rfl 1 rfl ?_
  refine V_iret C dX3_length_1 rfl ?_ (by first | exact Nat.le_of_ble_eq_true rfl | omega | (dsimp only; omega)) (by first | exact Nat.le_of_ble_eq_true rfl | omega | (dsimp only; omega))
  exact ⟨rfl, rfl⟩
set_option maxHeartbeats 1000000 in
theorem c_X3_length_20 (l : Launch) (hl : l.stackTraces = false) (G : hp_G) (X : Nat → Nat) (N0 : Nat) (M : hp_h) (hh n9 : Nat) (hhh : M hh = some (.inr (20, [.int 5, .ref n9, .ref n9]))) (k : Int32) : HM l yX3_length (ws_ yX3_length cX3_length 2 (some .int)) 0 0 0 0 G X N0 [.ref hh, .int k] M (PV (.int k) M) PX0 := by
  refine HM.of hl [(0, .ref hh), (1, .int k)] (by decide +kernel) rfl (Nat.le_of_ble_eq_true rfl) ?_
  intro p e s m args below meth c C hname
  refine V_iload_n C dX3_length_0 rfl 1 rfl ?_
  refine V_iret C dX3_length_1 rfl ?_ (by first | exact Nat.le_of_ble_eq_true rfl | omega | (dsimp only; omega)) (by first | exact Nat.le_of_ble_eq_true rfl | omega | (dsimp only; omega))
  exact ⟨rfl, rfl⟩
set_option maxHeartbeats 1000000 in
theorem c_X3_length_21 (l : Launch) (hl : l.stackTraces = false) (G : hp_G) (X : Nat → Nat) (N0 : Nat) (M : hp_h) (hh n9 : Nat) (hhh : M hh = some (.inr (21, [.int 1, .ref n9, .ref n9]))) (k : Int32) : HM l yX3_length (ws_ yX3_length cX3_length 2 (some .int)) 0 0 0 0 G X N0 [.ref hh, .int k] M (PV (.int k) M) PX0 := by
  refine HM.of hl [(0, .ref hh), (1, .int k)] (by decide +kernel) rfl (Nat.le_of_ble_eq_true rfl) ?_
  intro p e s m args below meth c C hname
  refine V_iload_n C dX3_length_0 rfl 1 rfl ?_
  refine V_iret C dX3_length_1 rfl ?_ (by first | exact Nat.le_of_ble_eq_true rfl | omega | (dsimp only; omega)) (by first | exact Nat.le_of_ble_eq_true rfl | omega | (dsimp only; omega))
  exact ⟨rfl, rfl⟩
set_option maxHeartbeats 1000000 in
theorem c_X3_length_22 (l : Launch) (hl : l.stackTraces = false) (G : hp_G) (X : Nat → Nat) (N0 : Nat) (M : hp_h) (hh n9 : Nat) (hhh : M hh = some (.inr (22, [.int 1, .ref n9, .int 8, .int 9, .ref n9, .ref n9]))) (k : Int32) : HM l yX3_length (ws_ yX3_length cX3_length 2 (some .int)) 0 0 0 0 G X N0 [.ref hh, .int k] M (PV (.int k) M) PX0 := by
  refine HM.of hl [(0, .ref hh), (1, .int k)] (by decide +kernel) rfl (Nat.le_of_ble_eq_true rfl) ?_
  intro p e s m args below meth c C hname
  refine V_iload_n C dX3_length_0 rfl 1 rfl ?_
  refine V_iret C dX3_length_1 rfl ?_ (by first | exact Nat.le_of_ble_eq_true rfl | omega | (dsimp only; omega)) (by first | exact Nat.le_of_ble_eq_true rfl | omega | (dsimp only; omega))
  exact ⟨rfl, rfl⟩
set_option maxHeartbeats 1000000 in
theorem c_X15_length_18 (l : Launch) (hl : l.stackTraces = false) (G : hp_G) (X : Nat → Nat) (N0 : Nat) (M : hp_h) (hh n9 : Nat) (hhh : M hh = some (.inr (18, [.int 2, .ref n9, .int 1, .int 7, .ref n9, .ref n9, .ref n9]))) (k : Int32) : HM l yX15_length (ws_ yX15_length cX15_length 2 (some .int)) 1 21 0 0 G X N0 [.ref hh, .int k] M (PV (.int (k * k)) M) PX0 := by
  refine HM.of hl [(0, .ref hh), (1, .int k)] (by decide +kernel) rfl (Nat.le_of_ble_eq_true rfl) ?_
  intro p e s m args below meth c C hname
  refine V_iload_n C dX15_length_0 rfl 1 rfl ?_
  refine V_aload_n C dX15_length_1 rfl 0 rfl ?_
  refine V_iload_n C dX15_length_2 rfl 1 rfl ?_
  refine V_callUU C (c_X3_length_18 l hl G X N0 M hh n9 hhh k) ⟨lw_meth q881, q905, q906, q318, q908, q909, q879, q55, by decide, (show (parseMethodDescriptor yX3_length.desc).map (fun d => d.parameters.length) = some 1 from by decide)⟩ hhh (show CLS[18]? = some (RX15, TX15, 7) from rfl) rfl rfl ⟨Nat.le_of_ble_eq_true rfl, Nat.le_of_ble_eq_true rfl⟩ ⟨by exact Nat.le_of_ble_eq_true rfl, by exact Nat.le_of_ble_eq_true rfl⟩ (Nat.le_of_ble_eq_true rfl) dX15_length_3 (fun _ _ _ h => px0 h) ?_
  rintro _ _ ⟨rfl, rfl⟩
  refine V_st (st' := [.int k, .int k]) rfl ?_
  refine V_imul C dX15_length_6 ?_
  refine V_iret C dX15_length_7 rfl ?_ (by first | exact Nat.le_of_ble_eq_true rfl | omega | (dsimp only; omega)) (by first | exact Nat.le_of_ble_eq_true rfl | omega | (dsimp only; omega))
  exact ⟨rfl, rfl⟩
set_option maxHeartbeats 1000000 in
theorem c_X28_price_10 (l : Launch) (hl : l.stackTraces = false) (G : hp_G) (X : Nat → Nat) (N0 : Nat) (M : hp_h) (hh n9 : Nat) (hhh : M hh = some (.inr (10, [.int 2, .ref n9, .ref n9]))) (k w : Int32) : HM l yX28_price (ws_ yX28_price cX28_price 3 (some .int)) 2 42 0 0 G X N0 [.ref hh, .int k, .int w] M (PV (.int ((2 + mf_some k) * w)) M) PX0 := by
  refine HM.of hl [(0, .ref hh), (1, .int k), (2, .int w)] (by decide +kernel) rfl (Nat.le_of_ble_eq_true rfl) ?_
  intro p e s m args below meth c C hname
  refine V_aload_n C dX28_price_0 rfl 0 rfl ?_
  refine V_callF C (c_X3_base_10 l hl G X N0 M hh n9 hhh) cs_X28_3_10 hhh (show CLS[10]? = some (RX4, TX4, 3) from rfl) rfl rfl ⟨Nat.le_of_ble_eq_true rfl, Nat.le_of_ble_eq_true rfl⟩ ⟨(by first | exact Nat.le_of_ble_eq_true rfl | omega | (dsimp only; omega)), (by first | exact Nat.le_of_ble_eq_true rfl | omega | (dsimp only; omega))⟩ (Nat.le_of_ble_eq_true rfl) dX28_price_1 (fun _ _ _ h => px0 h) ?_
  rintro _ _ ⟨rfl, rfl⟩
  refine V_st (st' := [.int 2]) rfl ?_
  refine V_aload_n C dX28_price_6 rfl 0 rfl ?_
  refine V_iconst (v := 0) C dX28_price_7 rfl ?_
  refine V_bipush (v := 40) C dX28_price_8 rfl ?_
  refine V_iload_n C dX28_price_10 rfl 1 rfl ?_
  refine V_mmin C cs_X28_9 ⟨Nat.le_of_ble_eq_true rfl, Nat.le_of_ble_eq_true rfl⟩ ⟨by first | exact Nat.le_of_ble_eq_true rfl | omega | (dsimp only; omega), by first | exact Nat.le_of_ble_eq_true rfl | omega | (dsimp only; omega)⟩ dX28_price_11 ?_
  refine V_mmax C cs_X28_15 ⟨Nat.le_of_ble_eq_true rfl, Nat.le_of_ble_eq_true rfl⟩ ⟨by first | exact Nat.le_of_ble_eq_true rfl | omega | (dsimp only; omega), by first | exact Nat.le_of_ble_eq_true rfl | omega | (dsimp only; omega)⟩ dX28_price_14 ?_
  refine V_st (st' := [.int (mf_some k), .ref hh, .int 2]) (by rw [show (if 0 < if k < 40 then k else 40 then if k < 40 then k else 40 else 0) = (mf_some k) from (some_of k)]) ?_
  refine V_callF C (c_X3_length_10 l hl G X N0 M hh n9 hhh (mf_some k)) cs_X28_18_10 hhh (show CLS[10]? = some (RX4, TX4, 3) from rfl) rfl rfl ⟨Nat.le_of_ble_eq_true rfl, Nat.le_of_ble_eq_true rfl⟩ ⟨(by first | exact Nat.le_of_ble_eq_true rfl | omega | (dsimp only; omega)), (by first | exact Nat.le_of_ble_eq_true rfl | omega | (dsimp only; omega))⟩ (Nat.le_of_ble_eq_true rfl) dX28_price_17 (fun _ _ _ h => px0 h) ?_
  rintro _ _ ⟨rfl, rfl⟩
  refine V_st (st' := [.int (mf_some k), .int 2]) rfl ?_
  refine V_iadd C dX28_price_22 ?_
  refine V_iload_n C dX28_price_23 rfl 2 rfl ?_
  refine V_pc (pc1 := 24) rfl ?_
  refine V_imul C dX28_price_24 ?_
  refine V_iret C dX28_price_25 rfl ?_ (by first | exact Nat.le_of_ble_eq_true rfl | omega | (dsimp only; omega)) (by first | exact Nat.le_of_ble_eq_true rfl | omega | (dsimp only; omega))
  exact ⟨rfl, rfl⟩
set_option maxHeartbeats 1000000 in
theorem c_X28_price_11 (l : Launch) (hl : l.stackTraces = false) (G : hp_G) (X : Nat → Nat) (N0 : Nat) (M : hp_h) (hh n9 : Nat) (hhh : M hh = some (.inr (11, [.int 3, .ref n9, .int 0, .int 10, .ref n9, .ref n9]))) (k w : Int32) : HM l yX28_price (ws_ yX28_price cX28_price 3 (some .int)) 2 42 0 0 G X N0 [.ref hh, .int k, .int w] M (PV (.int ((3 + mf_some k) * w)) M) PX0 := by
  refine HM.of hl [(0, .ref hh), (1, .int k), (2, .int w)] (by decide +kernel) rfl (Nat.le_of_ble_eq_true rfl) ?_
  intro p e s m args below meth c C hname
  refine V_aload_n C dX28_price_0 rfl 0 rfl ?_
  refine V_callF C (c_X3_base_11 l hl G X N0 M hh n9 hhh) cs_X28_3_11 hhh (show CLS[11]? = some (RX6, TX6, 6) from rfl) rfl rfl ⟨Nat.le_of_ble_eq_true rfl, Nat.le_of_ble_eq_true rfl⟩ ⟨(by first | exact Nat.le_of_ble_eq_true rfl | omega | (dsimp only; omega)), (by first | exact Nat.le_of_ble_eq_true rfl | omega | (dsimp only; omega))⟩ (Nat.le_of_ble_eq_true rfl) dX28_price_1 (fun _ _ _ h => px0 h) ?_
  rintro _ _ ⟨rfl, rfl⟩
  refine V_st (st' := [.int 3]) rfl ?_
  refine V_aload_n C dX28_price_6 rfl 0 rfl ?_
  refine V_iconst (v := 0) C dX28_price_7 rfl ?_
  refine V_bipush (v := 40) C dX28_price_8 rfl ?_
  refine V_iload_n C dX28_price_10 rfl 1 rfl ?_
  refine V_mmin C cs_X28_9 ⟨Nat.le_of_ble_eq_true rfl, Nat.le_of_ble_eq_true rfl⟩ ⟨by first | exact Nat.le_of_ble_eq_true rfl | omega | (dsimp only; omega), by first | exact Nat.le_of_ble_eq_true rfl | omega | (dsimp only; omega)⟩ dX28_price_11 ?_
  refine V_mmax C cs_X28_15 ⟨Nat.le_of_ble_eq_true rfl, Nat.le_of_ble_eq_true rfl⟩ ⟨by first | exact Nat.le_of_ble_eq_true rfl | omega | (dsimp only; omega), by first | exact Nat.le_of_ble_eq_true rfl | omega | (dsimp only; omega)⟩ dX28_price_14 ?_
  refine V_st (st' := [.int (mf_some k), .ref hh, .int 3]) (by rw [show (if 0 < if k < 40 then k else 40 then if k < 40 then k else 40 else 0) = (mf_some k) from (some_of k)]) ?_
  refine V_callF C (c_X3_length_11 l hl G X N0 M hh n9 hhh (mf_some k)) cs_X28_18_11 hhh (show CLS[11]? = some (RX6, TX6, 6) from rfl) rfl rfl ⟨Nat.le_of_ble_eq_true rfl, Nat.le_of_ble_eq_true rfl⟩ ⟨(by first | exact Nat.le_of_ble_eq_true rfl | omega | (dsimp only; omega)), (by first | exact Nat.le_of_ble_eq_true rfl | omega | (dsimp only; omega))⟩ (Nat.le_of_ble_eq_true rfl) dX28_price_17 (fun _ _ _ h => px0 h) ?_
  rintro _ _ ⟨rfl, rfl⟩
  refine V_st (st' := [.int (mf_some k), .int 3]) rfl ?_
  refine V_iadd C dX28_price_22 ?_
  refine V_iload_n C dX28_price_23 rfl 2 rfl ?_
  refine V_pc (pc1 := 24) rfl ?_
  refine V_imul C dX28_price_24 ?_
  refine V_iret C dX28_price_25 rfl ?_ (by first | exact Nat.le_of_ble_eq_true rfl | omega | (dsimp only; omega)) (by first | exact Nat.le_of_ble_eq_true rfl | omega | (dsimp only; omega))
  exact ⟨rfl, rfl⟩
set_option maxHeartbeats 1000000 in
theorem c_X28_price_12 (l : Launch) (hl : l.stackTraces = false) (G : hp_G) (X : Nat → Nat) (N0 : Nat) (M : hp_h) (hh n9 : Nat) (hhh : M hh = some (.inr (12, [.int 1, .ref n9, .int 0, .int 10, .ref n9, .ref n9, .ref n9]))) (k w : Int32) : HM l yX28_price (ws_ yX28_price cX28_price 3 (some .int)) 2 42 0 0 G X N0 [.ref hh, .int k, .int w] M (PV (.int ((1 + mf_some k) * w)) M) PX0 := by
  refine HM.of hl [(0, .ref hh), (1, .int k), (2, .int w)] (by decide +kernel) rfl (Nat.le_of_ble_eq_true rfl) ?_
  intro p e s m args below meth c C hname
  refine V_aload_n C dX28_price_0 rfl 0 rfl ?_
  refine V_callF C (c_X3_base_12 l hl G X N0 M hh n9 hhh) cs_X28_3_12 hhh (show CLS[12]? = some (RX8, TX8, 7) from rfl) rfl rfl ⟨Nat.le_of_ble_eq_true rfl, Nat.le_of_ble_eq_true rfl⟩ ⟨(by first | exact Nat.le_of_ble_eq_true rfl | omega | (dsimp only; omega)), (by first | exact Nat.le_of_ble_eq_true rfl | omega | (dsimp only; omega))⟩ (Nat.le_of_ble_eq_true rfl) dX28_price_1 (fun _ _ _ h => px0 h) ?_
  rintro _ _ ⟨rfl, rfl⟩
  refine V_st (st' := [.int 1]) rfl ?_
  refine V_aload_n C dX28_price_6 rfl 0 rfl ?_
  refine V_iconst (v := 0) C dX28_price_7 rfl ?_
  refine V_bipush (v := 40) C dX28_price_8 rfl ?_
  refine V_iload_n C dX28_price_10 rfl 1 rfl ?_
  refine V_mmin C cs_X28_9 ⟨Nat.le_of_ble_eq_true rfl, Nat.le_of_ble_eq_true rfl⟩ ⟨by first | exact Nat.le_of_ble_eq_true rfl | omega | (dsimp only; omega), by first | exact Nat.le_of_ble_eq_true rfl | omega | (dsimp only; omega)⟩ dX28_price_11 ?_
  refine V_mmax C cs_X28_15 ⟨Nat.le_of_ble_eq_true rfl, Nat.le_of_ble_eq_true rfl⟩ ⟨by first | exact Nat.le_of_ble_eq_true rfl | omega | (dsimp only; omega), by first | exact Nat.le_of_ble_eq_true rfl | omega | (dsimp only; omega)⟩ dX28_price_14 ?_
  refine V_st (st' := [.int (mf_some k), .ref hh, .int 1]) (by rw [show (if 0 < if k < 40 then k else 40 then if k < 40 then k else 40 else 0) = (mf_some k) from (some_of k)]) ?_
  refine V_callF C (c_X3_length_12 l hl G X N0 M hh n9 hhh (mf_some k)) cs_X28_18_12 hhh (show CLS[12]? = some (RX8, TX8, 7) from rfl) rfl rfl ⟨Nat.le_of_ble_eq_true rfl, Nat.le_of_ble_eq_true rfl⟩ ⟨(by first | exact Nat.le_of_ble_eq_true rfl | omega | (dsimp only; omega)), (by first | exact Nat.le_of_ble_eq_true rfl | omega | (dsimp only; omega))⟩ (Nat.le_of_ble_eq_true rfl) dX28_price_17 (fun _ _ _ h => px0 h) ?_
  rintro _ _ ⟨rfl, rfl⟩
  refine V_st (st' := [.int (mf_some k), .int 1]) rfl ?_
  refine V_iadd C dX28_price_22 ?_
  refine V_iload_n C dX28_price_23 rfl 2 rfl ?_
  refine V_pc (pc1 := 24) rfl ?_
  refine V_imul C dX28_price_24 ?_
  refine V_iret C dX28_price_25 rfl ?_ (by first | exact Nat.le_of_ble_eq_true rfl | omega | (dsimp only; omega)) (by first | exact Nat.le_of_ble_eq_true rfl | omega | (dsimp only; omega))
  exact ⟨rfl, rfl⟩
set_option maxHeartbeats 1000000 in
theorem c_X28_price_13 (l : Launch) (hl : l.stackTraces = false) (G : hp_G) (X : Nat → Nat) (N0 : Nat) (M : hp_h) (hh n9 : Nat) (hhh : M hh = some (.inr (13, [.int 1, .ref n9, .int 0, .int 10, .ref n9, .ref n9, .ref n9]))) (k w : Int32) : HM l yX28_price (ws_ yX28_price cX28_price 3 (some .int)) 2 42 0 0 G X N0 [.ref hh, .int k, .int w] M (PV (.int ((1 + mf_some k) * w)) M) PX0 := by
  refine HM.of hl [(0, .ref hh), (1, .int k), (2, .int w)] (by decide +kernel) rfl (Nat.le_of_ble_eq_true rfl) ?_
  intro p e s m args below meth c C hname
  refine V_aload_n C dX28_price_0 rfl 0 rfl ?_
  refine V_callF C (c_X3_base_13 l hl G X N0 M hh n9 hhh) cs_X28_3_13 hhh (show CLS[13]? = some (RX10, TX10, 7) from rfl) rfl rfl ⟨Nat.le_of_ble_eq_true rfl, Nat.le_of_ble_eq_true rfl⟩ ⟨(by first | exact Nat.le_of_ble_eq_true rfl | omega | (dsimp only; omega)), (by first | exact Nat.le_of_ble_eq_true rfl | omega | (dsimp only; omega))⟩ (Nat.le_of_ble_eq_true rfl) dX28_price_1 (fun _ _ _ h => px0 h) ?_
  rintro _ _ ⟨rfl, rfl⟩
  refine V_st (st' := [.int 1]) rfl ?_
  refine V_aload_n C dX28_price_6 rfl 0 rfl ?_
  refine V_iconst (v := 0) C dX28_price_7 rfl ?_
  refine V_bipush (v := 40) C dX28_price_8 rfl ?_
  refine V_iload_n C dX28_price_10 rfl 1 rfl ?_
  refine V_mmin C cs_X28_9 ⟨Nat.le_of_ble_eq_true rfl, Nat.le_of_ble_eq_true rfl⟩ ⟨by first | exact Nat.le_of_ble_eq_true rfl | omega | (dsimp only; omega), by first | exact Nat.le_of_ble_eq_true rfl | omega | (dsimp only; omega)⟩ dX28_price_11 ?_
  refine V_mmax C cs_X28_15 ⟨Nat.le_of_ble_eq_true rfl, Nat.le_of_ble_eq_true rfl⟩ ⟨by first | exact Nat.le_of_ble_eq_true rfl | omega | (dsimp only; omega), by first | exact Nat.le_of_ble_eq_true rfl | omega | (dsimp only; omega)⟩ dX28_price_14 ?_
  refine V_st (st' := [.int (mf_some k), .ref hh, .int 1]) (by rw [show (if 0 < if k < 40 then k else 40 then if k < 40 then k else 40 else 0) = (mf_some k) from (some_of k)]) ?_
  refine V_callF C (c_X3_length_13 l hl G X N0 M hh n9 hhh (mf_some k)) cs_X28_18_13 hhh (show CLS[13]? = some (RX10, TX10, 7) from rfl) rfl rfl ⟨Nat.le_of_ble_eq_true rfl, Nat.le_of_ble_eq_true rfl⟩ ⟨(by first | exact Nat.le_of_ble_eq_true rfl | omega | (dsimp only; omega)), (by first | exact Nat.le_of_ble_eq_true rfl | omega | (dsimp only; omega))⟩ (Nat.le_of_ble_eq_true rfl) dX28_price_17 (fun _ _ _ h => px0 h) ?_
  rintro _ _ ⟨rfl, rfl⟩
  refine V_st (st' := [.int (mf_some k), .int 1]) rfl ?_
  refine V_iadd C dX28_price_22 ?_
  refine V_iload_n C dX28_price_23 rfl 2 rfl ?_
  refine V_pc (pc1 := 24) rfl ?_
  refine V_imul C dX28_price_24 ?_
  refine V_iret C dX28_price_25 rfl ?_ (by first | exact Nat.le_of_ble_eq_true rfl | omega | (dsimp only; omega)) (by first | exact Nat.le_of_ble_eq_true rfl | omega | (dsimp only; omega))
  exact ⟨rfl, rfl⟩
set_option maxHeartbeats 1000000 in
theorem c_X28_price_14 (l : Launch) (hl : l.stackTraces = false) (G : hp_G) (X : Nat → Nat) (N0 : Nat) (M : hp_h) (hh n9 : Nat) (hhh : M hh = some (.inr (14, [.int 1, .ref n9, .int 1, .int 7, .ref n9, .ref n9, .ref n9]))) (k w : Int32) : HM l yX28_price (ws_ yX28_price cX28_price 3 (some .int)) 2 42 0 0 G X N0 [.ref hh, .int k, .int w] M (PV (.int ((1 + mf_some k) * w)) M) PX0 := by
  refine HM.of hl [(0, .ref hh), (1, .int k), (2, .int w)] (by decide +kernel) rfl (Nat.le_of_ble_eq_true rfl) ?_
  intro p e s m args below meth c C hname
  refine V_aload_n C dX28_price_0 rfl 0 rfl ?_
  refine V_callF C (c_X3_base_14 l hl G X N0 M hh n9 hhh) cs_X28_3_14 hhh (show CLS[14]? = some (RX11, TX11, 7) from rfl) rfl rfl ⟨Nat.le_of_ble_eq_true rfl, Nat.le_of_ble_eq_true rfl⟩ ⟨(by first | exact Nat.le_of_ble_eq_true rfl | omega | (dsimp only; omega)), (by first | exact Nat.le_of_ble_eq_true rfl | omega | (dsimp only; omega))⟩ (Nat.le_of_ble_eq_true rfl) dX28_price_1 (fun _ _ _ h => px0 h) ?_
  rintro _ _ ⟨rfl, rfl⟩
  refine V_st (st' := [.int 1]) rfl ?_
  refine V_aload_n C dX28_price_6 rfl 0 rfl ?_
  refine V_iconst (v := 0) C dX28_price_7 rfl ?_
  refine V_bipush (v := 40) C dX28_price_8 rfl ?_
  refine V_iload_n C dX28_price_10 rfl 1 rfl ?_
  refine V_mmin C cs_X28_9 ⟨Nat.le_of_ble_eq_true rfl, Nat.le_of_ble_eq_true rfl⟩ ⟨by first | exact Nat.le_of_ble_eq_true rfl | omega | (dsimp only; omega), by first | exact Nat.le_of_ble_eq_true rfl | omega | (dsimp only; omega)⟩ dX28_price_11 ?_
  refine V_mmax C cs_X28_15 ⟨Nat.le_of_ble_eq_true rfl, Nat.le_of_ble_eq_true rfl⟩ ⟨by first | exact Nat.le_of_ble_eq_true rfl | omega | (dsimp only; omega), by first | exact Nat.le_of_ble_eq_true rfl | omega | (dsimp only; omega)⟩ dX28_price_14 ?_
  refine V_st (st' := [.int (mf_some k), .ref hh, .int 1]) (by rw [show (if 0 < if k < 40 then k else 40 then if k < 40 then k else 40 else 0) = (mf_some k) from (some_of k)]) ?_
  refine V_callF C (c_X3_length_14 l hl G X N0 M hh n9 hhh (mf_some k)) cs_X28_18_14 hhh (show CLS[14]? = some (RX11, TX11, 7) from rfl) rfl rfl ⟨Nat.le_of_ble_eq_true rfl, Nat.le_of_ble_eq_true rfl⟩ ⟨(by first | exact Nat.le_of_ble_eq_true rfl | omega | (dsimp only; omega)), (by first | exact Nat.le_of_ble_eq_true rfl | omega | (dsimp only; omega))⟩ (Nat.le_of_ble_eq_true rfl) dX28_price_17 (fun _ _ _ h => px0 h) ?_
  rintro _ _ ⟨rfl, rfl⟩
  refine V_st (st' := [.int (mf_some k), .int 1]) rfl ?_
  refine V_iadd C dX28_price_22 ?_
  refine V_iload_n C dX28_price_23 rfl 2 rfl ?_
  refine V_pc (pc1 := 24) rfl ?_
  refine V_imul C dX28_price_24 ?_
  refine V_iret C dX28_price_25 rfl ?_ (by first | exact Nat.le_of_ble_eq_true rfl | omega | (dsimp only; omega)) (by first | exact Nat.le_of_ble_eq_true rfl | omega | (dsimp only; omega))
  exact ⟨rfl, rfl⟩
set_option maxHeartbeats 1000000 in
theorem c_X28_price_15 (l : Launch) (hl : l.stackTraces = false) (G : hp_G) (X : Nat → Nat) (N0 : Nat) (M : hp_h) (hh n9 : Nat) (hhh : M hh = some (.inr (15, [.int 1, .ref n9, .int 0, .int 10, .ref n9, .ref n9]))) (k w : Int32) : HM l yX28_price (ws_ yX28_price cX28_price 3 (some .int)) 2 42 0 0 G X N0 [.ref hh, .int k, .int w] M (PV (.int ((1 + mf_some k) * w)) M) PX0 := by
  refine HM.of hl [(0, .ref hh), (1, .int k), (2, .int w)] (by decide +kernel) rfl (Nat.le_of_ble_eq_true rfl) ?_
  intro p e s m args below meth c C hname
  refine V_aload_n C dX28_price_0 rfl 0 rfl ?_
  refine V_callF C (c_X3_base_15 l hl G X N0 M hh n9 hhh) cs_X28_3_15 hhh (show CLS[15]? = some (RX12, TX12, 6) from rfl) rfl rfl ⟨Nat.le_of_ble_eq_true rfl, Nat.le_of_ble_eq_true rfl⟩ ⟨(by first | exact Nat.le_of_ble_eq_true rfl | omega | (dsimp only; omega)), (by first | exact Nat.le_of_ble_eq_true rfl | omega | (dsimp only; omega))⟩ (Nat.le_of_ble_eq_true rfl) dX28_price_1 (fun _ _ _ h => px0 h) ?_
  rintro _ _ ⟨rfl, rfl⟩
  refine V_st (st' := [.int 1]) rfl ?_
  refine V_aload_n C dX28_price_6 rfl 0 rfl ?_
  refine V_iconst (v := 0) C dX28_price_7 rfl ?_
  refine V_bipush (v := 40) C dX28_price_8 rfl ?_
  refine V_iload_n C dX28_price_10 rfl 1 rfl ?_
  refine V_mmin C cs_X28_9 ⟨Nat.le_of_ble_eq_true rfl, Nat.le_of_ble_eq_true rfl⟩ ⟨by first | exact Nat.le_of_ble_eq_true rfl | omega | (dsimp only; omega), by first | exact Nat.le_of_ble_eq_true rfl | omega | (dsimp only; omega)⟩ dX28_price_11 ?_
  refine V_mmax C cs_X28_15 ⟨Nat.le_of_ble_eq_true rfl, Nat.le_of_ble_eq_true rfl⟩ ⟨by first | exact Nat.le_of_ble_eq_true rfl | omega | (dsimp only; omega), by first | exact Nat.le_of_ble_eq_true rfl | omega | (dsimp only; omega)⟩ dX28_price_14 ?_
  refine V_st (st' := [.int (mf_some k), .ref hh, .int 1]) (by rw [show (if 0 < if k < 40 then k else 40 then if k < 40 then k else 40 else 0) = (mf_some k) from (some_of k)]) ?_
  refine V_callF C (c_X3_length_15 l hl G X N0 M hh n9 hhh (mf_some k)) cs_X28_18_15 hhh (show CLS[15]? = some (RX12, TX12, 6) from rfl) rfl rfl ⟨Nat.le_of_ble_eq_true rfl, Nat.le_of_ble_eq_true rfl⟩ ⟨(by first | exact Nat.le_of_ble_eq_true rfl | omega | (dsimp only; omega)), (by first | exact Nat.le_of_ble_eq_true rfl | omega | (dsimp only; omega))⟩ (Nat.le_of_ble_eq_true rfl) dX28_price_17 (fun _ _ _ h => px0 h) ?_
  rintro _ _ ⟨rfl, rfl⟩
  refine V_st (st' := [.int (mf_some k), .int 1]) rfl ?_
  refine V_iadd C dX28_price_22 ?_
  refine V_iload_n C dX28_price_23 rfl 2 rfl ?_
  refine V_pc (pc1 := 24) rfl ?_
  refine V_imul C dX28_price_24 ?_
  refine V_iret C dX28_price_25 rfl ?_ (by first | exact Nat.le_of_ble_eq_true rfl | omega | (dsimp only; omega)) (by first | exact Nat.le_of_ble_eq_true rfl | omega | (dsimp only; omega))
  exact ⟨rfl, rfl⟩
set_option maxHeartbeats 1000000 in
theorem c_X28_price_16 (l : Launch) (hl : l.stackTraces = false) (G : hp_G) (X : Nat → Nat) (N0 : Nat) (M : hp_h) (hh n9 : Nat) (hhh : M hh = some (.inr (16, [.int 1, .ref n9, .int 1, .int 7, .ref n9, .ref n9]))) (k w : Int32) : HM l yX28_price (ws_ yX28_price cX28_price 3 (some .int)) 2 42 0 0 G X N0 [.ref hh, .int k, .int w] M (PV (.int ((1 + mf_some k) * w)) M) PX0 := by
  refine HM.of hl [(0, .ref hh), (1, .int k), (2, .int w)] (by decide +kernel) rfl (Nat.le_of_ble_eq_true rfl) ?_
  intro p e s m args below meth c C hname
  refine V_aload_n C dX28_price_0 rfl 0 rfl ?_
  refine V_callF C (c_X3_base_16 l hl G X N0 M hh n9 hhh) cs_X28_3_16 hhh (show CLS[16]? = some (RX13, TX13, 6) from rfl) rfl rfl ⟨Nat.le_of_ble_eq_true rfl, Nat.le_of_ble_eq_true rfl⟩ ⟨(by first | exact Nat.le_of_ble_eq_true rfl | omega | (dsimp only; omega)), (by first | exact Nat.le_of_ble_eq_true rfl | omega | (dsimp only; omega))⟩ (Nat.le_of_ble_eq_true rfl) dX28_price_1 (fun _ _ _ h => px0 h) ?_
  rintro _ _ ⟨rfl, rfl⟩
  refine V_st (st' := [.int 1]) rfl ?_
  refine V_aload_n C dX28_price_6 rfl 0 rfl ?_
  refine V_iconst (v := 0) C dX28_price_7 rfl ?_
  refine V_bipush (v := 40) C dX28_price_8 rfl ?_
  refine V_iload_n C dX28_price_10 rfl 1 rfl ?_
  refine V_mmin C cs_X28_9 ⟨Nat.le_of_ble_eq_true rfl, Nat.le_of_ble_eq_true rfl⟩ ⟨by first | exact Nat.le_of_ble_eq_true rfl | omega | (dsimp only; omega), by first | exact Nat.le_of_ble_eq_true rfl | omega | (dsimp only; omega)⟩ dX28_price_11 ?_
  refine V_mmax C cs_X28_15 ⟨Nat.le_of_ble_eq_true rfl, Nat.le_of_ble_eq_true rfl⟩ ⟨by first | exact Nat.le_of_ble_eq_true rfl | omega | (dsimp only; omega), by first | exact Nat.le_of_ble_eq_true rfl | omega | (dsimp only; omega)⟩ dX28_price_14 ?_
  refine V_st (st' := [.int (mf_some k), .ref hh, .int 1]) (by rw [show (if 0 < if k < 40 then k else 40 then if k < 40 then k else 40 else 0) = (mf_some k) from (some_of k)]) ?_
  refine V_callF C (c_X3_length_16 l hl G X N0 M hh n9 hhh (mf_some k)) cs_X28_18_16 hhh (show CLS[16]? = some (RX13, TX13, 6) from rfl) rfl rfl ⟨Nat.le_of_ble_eq_true rfl, Nat.le_of_ble_eq_true rfl⟩ ⟨(by first | exact Nat.le_of_ble_eq_true rfl | omega | (dsimp only; omega)), (by first | exact Nat.le_of_ble_eq_true rfl | omega | (dsimp only; omega))⟩ (Nat.le_of_ble_eq_true rfl) dX28_price_17 (fun _ _ _ h => px0 h) ?_
  rintro _ _ ⟨rfl, rfl⟩
  refine V_st (st' := [.int (mf_some k), .int 1]) rfl ?_
  refine V_iadd C dX28_price_22 ?_
  refine V_iload_n C dX28_price_23 rfl 2 rfl ?_
  refine V_pc (pc1 := 24) rfl ?_
  refine V_imul C dX28_price_24 ?_
  refine V_iret C dX28_price_25 rfl ?_ (by first | exact Nat.le_of_ble_eq_true rfl | omega | (dsimp only; omega)) (by first | exact Nat.le_of_ble_eq_true rfl | omega | (dsimp only; omega))
  exact ⟨rfl, rfl⟩
set_option maxHeartbeats 1000000 in
theorem c_X28_price_17 (l : Launch) (hl : l.stackTraces = false) (G : hp_G) (X : Nat → Nat) (N0 : Nat) (M : hp_h) (hh n9 : Nat) (hhh : M hh = some (.inr (17, [.int 1, .ref n9, .int 0, .int 10, .ref n9, .ref n9, .ref n9]))) (k w : Int32) : HM l yX28_price (ws_ yX28_price cX28_price 3 (some .int)) 2 42 0 0 G X N0 [.ref hh, .int k, .int w] M (PV (.int ((1 + mf_some k) * w)) M) PX0 := by
  refine HM.of hl [(0, .ref hh), (1, .int k), (2, .int w)] (by decide +kernel) rfl (Nat.le_of_ble_eq_true rfl) ?_
  intro p e s m args below meth c C hname
  refine V_aload_n C dX28_price_0 rfl 0 rfl ?_
  refine V_callF C (c_X3_base_17 l hl G X N0 M hh n9 hhh) cs_X28_3_17 hhh (show CLS[17]? = some (RX14, TX14, 7) from rfl) rfl rfl ⟨Nat.le_of_ble_eq_true rfl, Nat.le_of_ble_eq_true rfl⟩ ⟨(by first | exact Nat.le_of_ble_eq_true rfl | omega | (dsimp only; omega)), (by first | exact Nat.le_of_ble_eq_true rfl | omega | (dsimp only; omega))⟩ (Nat.le_of_ble_eq_true rfl) dX28_price_1 (fun _ _ _ h => px0 h) ?_
  rintro _ _ ⟨rfl, rfl⟩
  refine V_st (st' := [.int 1]) rfl ?_
  refine V_aload_n C dX28_price_6 rfl 0 rfl ?_
  refine V_iconst (v := 0) C dX28_price_7 rfl ?_
  refine V_bipush (v := 40) C dX28_price_8 rfl ?_
  refine V_iload_n C dX28_price_10 rfl 1 rfl ?_
  refine V_mmin C cs_X28_9 ⟨Nat.le_of_ble_eq_true rfl, Nat.le_of_ble_eq_true rfl⟩ ⟨by first | exact Nat.le_of_ble_eq_true rfl | omega | (dsimp only; omega), by first | exact Nat.le_of_ble_eq_true rfl | omega | (dsimp only; omega)⟩ dX28_price_11 ?_
  refine V_mmax C cs_X28_15 ⟨Nat.le_of_ble_eq_true rfl, Nat.le_of_ble_eq_true rfl⟩ ⟨by first | exact Nat.le_of_ble_eq_true rfl | omega | (dsimp only; omega), by first | exact Nat.le_of_ble_eq_true rfl | omega | (dsimp only; omega)⟩ dX28_price_14 ?_
  refine V_st (st' := [.int (mf_some k), .ref hh, .int 1]) (by rw [show (if 0 < if k < 40 then k else 40 then if k < 40 then k else 40 else 0) = (mf_some k) from (some_of k)]) ?_
  refine V_callF C (c_X3_length_17 l hl G X N0 M hh n9 hhh (mf_some k)) cs_X28_18_17 hhh (show CLS[17]? = some (RX14, TX14, 7) from rfl) rfl rfl ⟨Nat.le_of_ble_eq_true rfl, Nat.le_of_ble_eq_true rfl⟩ ⟨(by first | exact Nat.le_of_ble_eq_true rfl | omega | (dsimp only; omega)), (by first | exact Nat.le_of_ble_eq_true rfl | omega | (dsimp only; omega))⟩ (Nat.le_of_ble_eq_true rfl) dX28_price_17 (fun _ _ _ h => px0 h) ?_
  rintro _ _ ⟨rfl, rfl⟩
  refine V_st (st' := [.int (mf_some k), .int 1]) rfl ?_
  refine V_iadd C dX28_price_22 ?_
  refine V_iload_n C dX28_price_23 rfl 2 rfl ?_
  refine V_pc (pc1 := 24) rfl ?_
  refine V_imul C dX28_price_24 ?_
  refine V_iret C dX28_price_25 rfl ?_ (by first | exact Nat.le_of_ble_eq_true rfl | omega | (dsimp only; omega)) (by first | exact Nat.le_of_ble_eq_true rfl | omega | (dsimp only; omega))
  exact ⟨rfl, rfl⟩
set_option maxHeartbeats 1000000 in
theorem c_X28_price_18 (l : Launch) (hl : l.stackTraces = false) (G : hp_G) (X : Nat → Nat) (N0 : Nat) (M : hp_h) (hh n9 : Nat) (hhh : M hh = some (.inr (18, [.int 2, .ref n9, .int 1, .int 7, .ref n9, .ref n9, .ref n9]))) (k w : Int32) : HM l yX28_price (ws_ yX28_price cX28_price 3 (some .int)) 2 42 0 0 G X N0 [.ref hh, .int k, .int w] M (PV (.int ((2 + (mf_some k) * (mf_some k)) * w)) M) PX0 := by
  refine HM.of hl [(0, .ref hh), (1, .int k), (2, .int w)] (by decide +kernel) rfl (Nat.le_of_ble_eq_true rfl) ?_
  intro p e s m args below meth c C hname
  refine V_aload_n C dX28_price_0 rfl 0 rfl ?_
  refine V_callF C (c_X3_base_18 l hl G X N0 M hh n9 hhh) cs_X28_3_18 hhh (show CLS[18]? = some (RX15, TX15, 7) from rfl) rfl rfl ⟨Nat.le_of_ble_eq_true rfl, Nat.le_of_ble_eq_true rfl⟩ ⟨(by first | exact Nat.le_of_ble_eq_true rfl | omega | (dsimp only; omega)), (by first | exact Nat.le_of_ble_eq_true rfl | omega | (dsimp only; omega))⟩ (Nat.le_of_ble_eq_true rfl) dX28_price_1 (fun _ _ _ h => px0 h) ?_
  rintro _ _ ⟨rfl, rfl⟩
  refine V_st (st' := [.int 2]) rfl ?_
  refine V_aload_n C dX28_price_6 rfl 0 rfl ?_
  refine V_iconst (v := 0) C dX28_price_7 rfl ?_
  refine V_bipush (v := 40) C dX28_price_8 rfl ?_
  refine V_iload_n C dX28_price_10 rfl 1 rfl ?_
  refine V_mmin C cs_X28_9 ⟨Nat.le_of_ble_eq_true rfl, Nat.le_of_ble_eq_true rfl⟩ ⟨by first | exact Nat.le_of_ble_eq_true rfl | omega | (dsimp only; omega), by first | exact Nat.le_of_ble_eq_true rfl | omega | (dsimp only; omega)⟩ dX28_price_11 ?_
  refine V_mmax C cs_X28_15 ⟨Nat.le_of_ble_eq_true rfl, Nat.le_of_ble_eq_true rfl⟩ ⟨by first | exact Nat.le_of_ble_eq_true rfl | omega | (dsimp only; omega), by first | exact Nat.le_of_ble_eq_true rfl | omega | (dsimp only; omega)⟩ dX28_price_14 ?_
  refine V_st (st' := [.int (mf_some k), .ref hh, .int 2]) (by rw [show (if 0 < if k < 40 then k else 40 then if k < 40 then k else 40 else 0) = (mf_some k) from (some_of k)]) ?_
  refine V_callF C (c_X15_length_18 l hl G X N0 M hh n9 hhh (mf_some k)) cs_X28_18_18 hhh (show CLS[18]? = some (RX15, TX15, 7) from rfl) rfl rfl ⟨Nat.le_of_ble_eq_true rfl, Nat.le_of_ble_eq_true rfl⟩ ⟨(by first | exact Nat.le_of_ble_eq_true rfl | omega | (dsimp only; omega)), (by first | exact Nat.le_of_ble_eq_true rfl | omega | (dsimp only; omega))⟩ (Nat.le_of_ble_eq_true rfl) dX28_price_17 (fun _ _ _ h => px0 h) ?_
  rintro _ _ ⟨rfl, rfl⟩
  refine V_st (st' := [.int ((mf_some k) * (mf_some k)), .int 2]) rfl ?_
  refine V_iadd C dX28_price_22 ?_
  refine V_iload_n C dX28_price_23 rfl 2 rfl ?_
  refine V_pc (pc1 := 24) rfl ?_
  refine V_imul C dX28_price_24 ?_
  refine V_iret C dX28_price_25 rfl ?_ (by first | exact Nat.le_of_ble_eq_true rfl | omega | (dsimp only; omega)) (by first | exact Nat.le_of_ble_eq_true rfl | omega | (dsimp only; omega))
  exact ⟨rfl, rfl⟩
set_option maxHeartbeats 1000000 in
theorem c_X28_price_19 (l : Launch) (hl : l.stackTraces = false) (G : hp_G) (X : Nat → Nat) (N0 : Nat) (M : hp_h) (hh n9 : Nat) (hhh : M hh = some (.inr (19, [.int 1, .ref n9, .int 0, .int 7, .ref n9, .ref n9, .ref n9]))) (k w : Int32) : HM l yX28_price (ws_ yX28_price cX28_price 3 (some .int)) 2 42 0 0 G X N0 [.ref hh, .int k, .int w] M (PV (.int ((1 + mf_some k) * w)) M) PX0 := by
  refine HM.of hl [(0, .ref hh), (1, .int k), (2, .int w)] (by decide +kernel) rfl (Nat.le_of_ble_eq_true rfl) ?_
  intro p e s m args below meth c C hname
  refine V_aload_n C dX28_price_0 rfl 0 rfl ?_
  refine V_callF C (c_X3_base_19 l hl G X N0 M hh n9 hhh) cs_X28_3_19 hhh (show CLS[19]? = some (RX16, TX16, 7) from rfl) rfl rfl ⟨Nat.le_of_ble_eq_true rfl, Nat.le_of_ble_eq_true rfl⟩ ⟨(by first | exact Nat.le_of_ble_eq_true rfl | omega | (dsimp only; omega)), (by first | exact Nat.le_of_ble_eq_true rfl | omega | (dsimp only; omega))⟩ (Nat.le_of_ble_eq_true rfl) dX28_price_1 (fun _ _ _ h => px0 h) ?_
  rintro _ _ ⟨rfl, rfl⟩
  refine V_st (st' := [.int 1]) rfl ?_
  refine V_aload_n C dX28_price_6 rfl 0 rfl ?_
  refine V_iconst (v := 0) C dX28_price_7 rfl ?_
  refine V_bipush (v := 40) C dX28_price_8 rfl ?_
  refine V_iload_n C dX28_price_10 rfl 1 rfl ?_
  refine V_mmin C cs_X28_9 ⟨Nat.le_of_ble_eq_true rfl, Nat.le_of_ble_eq_true rfl⟩ ⟨by first | exact Nat.le_of_ble_eq_true rfl | omega | (dsimp only; omega), by first | exact Nat.le_of_ble_eq_true rfl | omega | (dsimp only; omega)⟩ dX28_price_11 ?_
  refine V_mmax C cs_X28_15 ⟨Nat.le_of_ble_eq_true rfl, Nat.le_of_ble_eq_true rfl⟩ ⟨by first | exact Nat.le_of_ble_eq_true rfl | omega | (dsimp only; omega), by first | exact Nat.le_of_ble_eq_true rfl | omega | (dsimp only; omega)⟩ dX28_price_14 ?_
  refine V_st (st' := [.int (mf_some k), .ref hh, .int 1]) (by rw [show (if 0 < if k < 40 then k else 40 then if k < 40 then k else 40 else 0) = (mf_some k) from (some_of k)]) ?_
  refine V_callF C (c_X3_length_19 l hl G X N0 M hh n9 hhh (mf_some k)) cs_X28_18_19 hhh (show CLS[19]? = some (RX16, TX16, 7) from rfl) rfl rfl ⟨Nat.le_of_ble_eq_true rfl, Nat.le_of_ble_eq_true rfl⟩ ⟨(by first | exact Nat.le_of_ble_eq_true rfl | omega | (dsimp only; omega)), (by first | exact Nat.le_of_ble_eq_true rfl | omega | (dsimp only; omega))⟩ (Nat.le_of_ble_eq_true rfl) dX28_price_17 (fun _ _ _ h => px0 h) ?_
  rintro _ _ ⟨rfl, rfl⟩
  refine V_st (st' := [.int (mf_some k), .int 1]) rfl ?_
  refine V_iadd C dX28_price_22 ?_
  refine V_iload_n C dX28_price_23 rfl 2 rfl ?_
  refine V_pc (pc1 := 24) rfl ?_
  refine V_imul C dX28_price_24 ?_
  refine V_iret C dX28_price_25 rfl ?_ (by first | exact Nat.le_of_ble_eq_true rfl | omega | (dsimp only; omega)) (by first | exact Nat.le_of_ble_eq_true rfl | omega | (dsimp only; omega))
  exact ⟨rfl, rfl⟩
set_option maxHeartbeats 1000000 in
theorem c_X28_price_20 (l : Launch) (hl : l.stackTraces = false) (G : hp_G) (X : Nat → Nat) (N0 : Nat) (M : hp_h) (hh n9 : Nat) (hhh : M hh = some (.inr (20, [.int 5, .ref n9, .ref n9]))) (k w : Int32) : HM l yX28_price (ws_ yX28_price cX28_price 3 (some .int)) 2 42 0 0 G X N0 [.ref hh, .int k, .int w] M (PV (.int ((5 + mf_some k) * w)) M) PX0 := by
  refine HM.of hl [(0, .ref hh), (1, .int k), (2, .int w)] (by decide +kernel) rfl (Nat.le_of_ble_eq_true rfl) ?_
  intro p e s m args below meth c C hname
  refine V_aload_n C dX28_price_0 rfl 0 rfl ?_
  refine V_callF C (c_X3_base_20 l hl G X N0 M hh n9 hhh) cs_X28_3_20 hhh (show CLS[20]? = some (RX17, TX17, 3) from rfl) rfl rfl ⟨Nat.le_of_ble_eq_true rfl, Nat.le_of_ble_eq_true rfl⟩ ⟨(by first | exact Nat.le_of_ble_eq_true rfl | omega | (dsimp only; omega)), (by first | exact Nat.le_of_ble_eq_true rfl | omega | (dsimp only; omega))⟩ (Nat.le_of_ble_eq_true rfl) dX28_price_1 (fun _ _ _ h => px0 h) ?_
  rintro _ _ ⟨rfl, rfl⟩
  refine V_st (st' := [.int 5]) rfl ?_
  refine V_aload_n C dX28_price_6 rfl 0 rfl ?_
  refine V_iconst (v := 0) C dX28_price_7 rfl ?_
  refine V_bipush (v := 40) C dX28_price_8 rfl ?_
  refine V_iload_n C dX28_price_10 rfl 1 rfl ?_
  refine V_mmin C cs_X28_9 ⟨Nat.le_of_ble_eq_true rfl, Nat.le_of_ble_eq_true rfl⟩ ⟨by first | exact Nat.le_of_ble_eq_true rfl | omega | (dsimp only; omega), by first | exact Nat.le_of_ble_eq_true rfl | omega | (dsimp only; omega)⟩ dX28_price_11 ?_
  refine V_mmax C cs_X28_15 ⟨Nat.le_of_ble_eq_true rfl, Nat.le_of_ble_eq_true rfl⟩ ⟨by first | exact Nat.le_of_ble_eq_true rfl | omega | (dsimp only; omega), by first | exact Nat.le_of_ble_eq_true rfl | omega | (dsimp only; omega)⟩ dX28_price_14 ?_
  refine V_st (st' := [.int (mf_some k), .ref hh, .int 5]) (by rw [show (if 0 < if k < 40 then k else 40 then if k < 40 then k else 40 else 0) = (mf_some k) from (some_of k)]) ?_
  refine V_callF C (c_X3_length_20 l hl G X N0 M hh n9 hhh (mf_some k)) cs_X28_18_20 hhh (show CLS[20]? = some (RX17, TX17, 3) from rfl) rfl rfl ⟨Nat.le_of_ble_eq_true rfl, Nat.le_of_ble_eq_true rfl⟩ ⟨(by first | exact Nat.le_of_ble_eq_true rfl | omega | (dsimp only; omega)), (by first | exact Nat.le_of_ble_eq_true rfl | omega | (dsimp only; omega))⟩ (Nat.le_of_ble_eq_true rfl) dX28_price_17 (fun _ _ _ h => px0 h) ?_
  rintro _ _ ⟨rfl, rfl⟩
  refine V_st (st' := [.int (mf_some k), .int 5]) rfl ?_
  refine V_iadd C dX28_price_22 ?_
  refine V_iload_n C dX28_price_23 rfl 2 rfl ?_
  refine V_pc (pc1 := 24) rfl ?_
  refine V_imul C dX28_price_24 ?_
  refine V_iret C dX28_price_25 rfl ?_ (by first | exact Nat.le_of_ble_eq_true rfl | omega | (dsimp only; omega)) (by first | exact Nat.le_of_ble_eq_true rfl | omega | (dsimp only; omega))
  exact ⟨rfl, rfl⟩
set_option maxHeartbeats 1000000 in
theorem c_X28_price_21 (l : Launch) (hl : l.stackTraces = false) (G : hp_G) (X : Nat → Nat) (N0 : Nat) (M : hp_h) (hh n9 : Nat) (hhh : M hh = some (.inr (21, [.int 1, .ref n9, .ref n9]))) (k w : Int32) : HM l yX28_price (ws_ yX28_price cX28_price 3 (some .int)) 2 42 0 0 G X N0 [.ref hh, .int k, .int w] M (PV (.int ((1 + mf_some k) * w)) M) PX0 := by
  refine HM.of hl [(0, .ref hh), (1, .int k), (2, .int w)] (by decide +kernel) rfl (Nat.le_of_ble_eq_true rfl) ?_
  intro p e s m args below meth c C hname
  refine V_aload_n C dX28_price_0 rfl 0 rfl ?_
  refine V_callF C (c_X3_base_21 l hl G X N0 M hh n9 hhh) cs_X28_3_21 hhh (show CLS[21]? = some (RX18, TX18, 3) from rfl) rfl rfl ⟨Nat.le_of_ble_eq_true rfl, Nat.le_of_ble_eq_true rfl⟩ ⟨(by first | exact Nat.le_of_ble_eq_true rfl | omega | (dsimp only; omega)), (by first | exact Nat.le_of_ble_eq_true rfl | omega | (dsimp only; omega))⟩ (Nat.le_of_ble_eq_true rfl) dX28_price_1 (fun _ _ _ h => px0 h) ?_
  rintro _ _ ⟨rfl, rfl⟩
  refine V_st (st' := [.int 1]) rfl ?_
  refine V_aload_n C dX28_price_6 rfl 0 rfl ?_
  refine V_iconst (v := 0) C dX28_price_7 rfl ?_
  refine V_bipush (v := 40) C dX28_price_8 rfl ?_
  refine V_iload_n C dX28_price_10 rfl 1 rfl ?_
  refine V_mmin C cs_X28_9 ⟨Nat.le_of_ble_eq_true rfl, Nat.le_of_ble_eq_true rfl⟩ ⟨by first | exact Nat.le_of_ble_eq_true rfl | omega | (dsimp only; omega), by first | exact Nat.le_of_ble_eq_true rfl | omega | (dsimp only; omega)⟩ dX28_price_11 ?_
  refine V_mmax C cs_X28_15 ⟨Nat.le_of_ble_eq_true rfl, Nat.le_of_ble_eq_true rfl⟩ ⟨by first | exact Nat.le_of_ble_eq_true rfl | omega | (dsimp only; omega), by first | exact Nat.le_of_ble_eq_true rfl | omega | (dsimp only; omega)⟩ dX28_price_14 ?_
  refine V_st (st' := [.int (mf_some k), .ref hh, .int 1]) (by rw [show (if 0 < if k < 40 then k else 40 then if k < 40 then k else 40 else 0) = (mf_some k) from (some_of k)]) ?_
  refine V_callF C (c_X3_length_21 l hl G X N0 M hh n9 hhh (mf_some k)) cs_X28_18_21 hhh (show CLS[21]? = some (RX18, TX18, 3) from rfl) rfl rfl ⟨Nat.le_of_ble_eq_true rfl, Nat.le_of_ble_eq_true rfl⟩ ⟨(by first | exact Nat.le_of_ble_eq_true rfl | omega | (dsimp only; omega)), (by first | exact Nat.le_of_ble_eq_true rfl | omega | (dsimp only; omega))⟩ (Nat.le_of_ble_eq_true rfl) dX28_price_17 (fun _ _ _ h => px0 h) ?_
  rintro _ _ ⟨rfl, rfl⟩
  refine V_st (st' := [.int (mf_some k), .int 1]) rfl ?_
  refine V_iadd C dX28_price_22 ?_
  refine V_iload_n C dX28_price_23 rfl 2 rfl ?_
  refine V_pc (pc1 := 24) rfl ?_
  refine V_imul C dX28_price_24 ?_
  refine V_iret C dX28_price_25 rfl ?_ (by first | exact Nat.le_of_ble_eq_true rfl | omega | (dsimp only; omega)) (by first | exact Nat.le_of_ble_eq_true rfl | omega | (dsimp only; omega))
  exact ⟨rfl, rfl⟩
set_option maxHeartbeats 1000000 in
theorem c_X28_price_22 (l : Launch) (hl : l.stackTraces = false) (G : hp_G) (X : Nat → Nat) (N0 : Nat) (M : hp_h) (hh n9 : Nat) (hhh : M hh = some (.inr (22, [.int 1, .ref n9, .int 8, .int 9, .ref n9, .ref n9]))) (k w : Int32) : HM l yX28_price (ws_ yX28_price cX28_price 3 (some .int)) 2 42 0 0 G X N0 [.ref hh, .int k, .int w] M (PV (.int ((1 + mf_some k) * w)) M) PX0 := by
  refine HM.of hl [(0, .ref hh), (1, .int k), (2, .int w)] (by decide +kernel) rfl (Nat.le_of_ble_eq_true rfl) ?_
  intro p e s m args below meth c C hname
  refine V_aload_n C dX28_price_0 rfl 0 rfl ?_
  refine V_callF C (c_X3_base_22 l hl G X N0 M hh n9 hhh) cs_X28_3_22 hhh (show CLS[22]? = some (RX19, TX19, 6) from rfl) rfl rfl ⟨Nat.le_of_ble_eq_true rfl, Nat.le_of_ble_eq_true rfl⟩ ⟨(by first | exact Nat.le_of_ble_eq_true rfl | omega | (dsimp only; omega)), (by first | exact Nat.le_of_ble_eq_true rfl | omega | (dsimp only; omega))⟩ (Nat.le_of_ble_eq_true rfl) dX28_price_1 (fun _ _ _ h => px0 h) ?_
  rintro _ _ ⟨rfl, rfl⟩
  refine V_st (st' := [.int 1]) rfl ?_
  refine V_aload_n C dX28_price_6 rfl 0 rfl ?_
  refine V_iconst (v := 0) C dX28_price_7 rfl ?_
  refine V_bipush (v := 40) C dX28_price_8 rfl ?_
  refine V_iload_n C dX28_price_10 rfl 1 rfl ?_
  refine V_mmin C cs_X28_9 ⟨Nat.le_of_ble_eq_true rfl, Nat.le_of_ble_eq_true rfl⟩ ⟨by first | exact Nat.le_of_ble_eq_true rfl | omega | (dsimp only; omega), by first | exact Nat.le_of_ble_eq_true rfl | omega | (dsimp only; omega)⟩ dX28_price_11 ?_
  refine V_mmax C cs_X28_15 ⟨Nat.le_of_ble_eq_true rfl, Nat.le_of_ble_eq_true rfl⟩ ⟨by first | exact Nat.le_of_ble_eq_true rfl | omega | (dsimp only; omega), by first | exact Nat.le_of_ble_eq_true rfl | omega | (dsimp only; omega)⟩ dX28_price_14 ?_
  refine V_st (st' := [.int (mf_some k), .ref hh, .int 1]) (by rw [show (if 0 < if k < 40 then k else 40 then if k < 40 then k else 40 else 0) = (mf_some k) from (some_of k)]) ?_
  refine V_callF C (c_X3_length_22 l hl G X N0 M hh n9 hhh (mf_some k)) cs_X28_18_22 hhh (show CLS[22]? = some (RX19, TX19, 6) from rfl) rfl rfl ⟨Nat.le_of_ble_eq_true rfl, Nat.le_of_ble_eq_true rfl⟩ ⟨(by first | exact Nat.le_of_ble_eq_true rfl | omega | (dsimp only; omega)), (by first | exact Nat.le_of_ble_eq_true rfl | omega | (dsimp only; omega))⟩ (Nat.le_of_ble_eq_true rfl) dX28_price_17 (fun _ _ _ h => px0 h) ?_
  rintro _ _ ⟨rfl, rfl⟩
  refine V_st (st' := [.int (mf_some k), .int 1]) rfl ?_
  refine V_iadd C dX28_price_22 ?_
  refine V_iload_n C dX28_price_23 rfl 2 rfl ?_
  refine V_pc (pc1 := 24) rfl ?_
  refine V_imul C dX28_price_24 ?_
  refine V_iret C dX28_price_25 rfl ?_ (by first | exact Nat.le_of_ble_eq_true rfl | omega | (dsimp only; omega)) (by first | exact Nat.le_of_ble_eq_true rfl | omega | (dsimp only; omega))
  exact ⟨rfl, rfl⟩
set_option maxHeartbeats 1000000 in
theorem c_X1_weightOf (l : Launch) (hl : l.stackTraces = false) (G : hp_G) (X : Nat → Nat) (N0 : Nat) (M : hp_h) (g : RG) (σ : MS) (z : Nat → Int32) (ca : Int32) (C9 : Nat) (hR : REL G (X 0) g σ z ca C9 M) (hI : MI σ) (ac : Nat) (x0 a i b j n : Int32) (hac : M ac = some (.inr (3, [.int x0, .int a, .int i, .int b, .int j, .int n]))) (hrw : (x0 = 10 ∨ x0 = 11) ∨ (¬ a < 0 ∧ a < σ.1 1)) : HM l yX1_weightOf (ws_ yX1_weightOf cX1_weightOf 3 (some .int)) 3 64 0 0 G X N0 [.ref (qN g), .ref ac] M (PV (.int (if x0 = 10 ∨ x0 = 11 then 1 else mf_wt (σ.2.1 2 a.toNatClampNeg))) M) PX0 := by
  refine HM.of hl [(0, .ref (qN g)), (1, .ref ac)] (by decide +kernel) rfl (Nat.le_of_ble_eq_true rfl) ?_
  intro p e s m args below meth c C hname
  have hN := hR.N
  obtain ⟨mdR, hRl⟩ := hR.Rl
  obtain ⟨fR, hRs, hRf⟩ := hR.Rls
  refine V_aload_n C dX1_weightOf_0 rfl 1 rfl ?_
  refine V_getN C f_X1_189_3 hac (v := .int x0) rfl dX1_weightOf_1 ?_
  refine V_callS C (c_X1_needsRow l hl G X N0 M x0) cs_X1_194 rfl rfl ⟨Nat.le_of_ble_eq_true rfl, Nat.le_of_ble_eq_true rfl⟩ ⟨(by first | exact Nat.le_of_ble_eq_true rfl | omega | (dsimp only; omega)), (by first | exact Nat.le_of_ble_eq_true rfl | omega | (dsimp only; omega))⟩ (Nat.le_of_ble_eq_true rfl) dX1_weightOf_4 (fun _ _ _ h => px0 h) ?_
  rintro _ _ ⟨rfl, rfl⟩
  refine V_st (st' := [.int (bI (x0 ≠ 10 ∧ x0 ≠ 11))]) rfl ?_
  refine V_if_ne (tgt := 12) C dX1_weightOf_7 (by decide) (fun c_7 => ?_) (fun c_7 => ?_)
  · have c7 := bI_n.mp c_7
    obtain ⟨rr, hr, rfl⟩ := hI.row (hrw.resolve_left (fun z => z.elim c7.1 c7.2))
    obtain ⟨xr, hra, hrx, hrc⟩ := hR.rw hr
    obtain ⟨hkE, hkL⟩ := hI.k hr
    obtain ⟨hlE, hlL⟩ := hI.l hr
    refine V_aload_n C dX1_weightOf_12 rfl 0 rfl ?_
    refine V_get C f_X1_115_0 hN (v := .ref (qRl g)) rfl dX1_weightOf_13 ?_
    refine V_aload_n C dX1_weightOf_16 rfl 1 rfl ?_
    refine V_getN C f_X1_198_3 hac (v := .int (nI rr)) rfl dX1_weightOf_17 ?_
    refine V_callV C (c_J2_get l hl G X N0 M (qRl g) (qRe g) (nR σ) (gcp g 2 0) mdR fR hRl (hRs.2.2.1 (by have := hRs.2.2.2.1; omega)) (by have := hRs.2.2.2.2; omega) hRs.2.2.2.1 rr (qR g rr) hr (hRf rr hr)) cs_X1_184_1 hRl (show CLS[1]? = some (RJ2, TJ2, 3) from rfl) rfl rfl ⟨Nat.le_of_ble_eq_true rfl, Nat.le_of_ble_eq_true rfl⟩ ⟨(by first | exact Nat.le_of_ble_eq_true rfl | omega | (dsimp only; omega)), (by first | exact Nat.le_of_ble_eq_true rfl | omega | (dsimp only; omega))⟩ (Nat.le_of_ble_eq_true rfl) dX1_weightOf_20 (fun _ _ _ h => px0 h) ?_
    rintro _ _ ⟨rfl, rfl⟩
    refine V_st (st' := [.ref (qR g rr)]) rfl ?_
    refine V_callS C (c_X1_kindOf l hl G X N0 M (qR g rr) (kd σ rr) hkL xr hra) cs_X1_25 rfl rfl ⟨Nat.le_of_ble_eq_true rfl, Nat.le_of_ble_eq_true rfl⟩ ⟨(by first | exact Nat.le_of_ble_eq_true rfl | omega | (dsimp only; omega)), (by first | exact Nat.le_of_ble_eq_true rfl | omega | (dsimp only; omega))⟩ (Nat.le_of_ble_eq_true rfl) dX1_weightOf_23 (fun _ _ _ h => px0 h) ?_
    rintro _ _ ⟨rfl, rfl⟩
    refine V_st (st' := [.int (nI (kd σ rr))]) rfl ?_
    refine V_istore_n C dX1_weightOf_26 rfl (Nat.le_of_ble_eq_true rfl) [(0, .ref (qN g)), (1, .ref ac), (2, .int (nI (kd σ rr)))] [1, 2, 0] rfl ?_
    refine V_pc (pc1 := 27) rfl ?_
    refine V_iload_n C dX1_weightOf_27 rfl 2 rfl ?_
    refine V_bipush (v := 10) C dX1_weightOf_28 rfl ?_
    refine V_icmp_ne (tgt := 37) C dX1_weightOf_30 (by decide) (fun c_30 => ?_) (fun c_30 => ?_)
    · refine V_iload_n C dX1_weightOf_37 rfl 2 rfl ?_
      refine V_bipush (v := 8) C dX1_weightOf_38 rfl ?_
      refine V_icmp_lt (tgt := 47) C dX1_weightOf_40 (by decide) (fun c_40 => ?_) (fun c_40 => ?_)
      · refine V_iload_n C dX1_weightOf_47 rfl 2 rfl ?_
        refine V_iconst (v := 5) C dX1_weightOf_48 rfl ?_
        refine V_icmp_eq (tgt := 58) C dX1_weightOf_49 (by decide) (fun c_49 => ?_) (fun c_49 => ?_)
        · refine V_iconst (v := 2) C dX1_weightOf_58 rfl ?_
          refine V_goto (tgt := 63) C dX1_weightOf_59 (by decide) ?_
          refine V_iret C dX1_weightOf_63 rfl ?_ (by first | exact Nat.le_of_ble_eq_true rfl | omega | (dsimp only; omega)) (by first | exact Nat.le_of_ble_eq_true rfl | omega | (dsimp only; omega))
          refine ⟨congrArg (fun z => some (Value.int z)) ?_, rfl⟩
          have c7 := bI_n.mp c_7
          (try simp only [lg_cmp_lt, lg_cmp_gt, lg_cmp_ge, lg_cmp_le, lg_cmp_eq, Classical.not_not] at c_30 c_40 c_49)
          rw [if_neg (fun z => z.elim c7.1 c7.2), nI_clamp (by have := hI.R.2; omega), hkE]
          unfold mf_wt
          clear C hR hra hrc hrx hac
          grind
        · refine V_iload_n C dX1_weightOf_52 rfl 2 rfl ?_
          refine V_bipush (v := 7) C dX1_weightOf_53 rfl ?_
          refine V_icmp_ne (tgt := 62) C dX1_weightOf_55 (by decide) (fun c_55 => ?_) (fun c_55 => ?_)
          · refine V_pc (pc1 := 62) rfl ?_
            refine V_iconst (v := 1) C dX1_weightOf_62 rfl ?_
            refine V_iret C dX1_weightOf_63 rfl ?_ (by first | exact Nat.le_of_ble_eq_true rfl | omega | (dsimp only; omega)) (by first | exact Nat.le_of_ble_eq_true rfl | omega | (dsimp only; omega))
            refine ⟨congrArg (fun z => some (Value.int z)) ?_, rfl⟩
            have c7 := bI_n.mp c_7
            (try simp only [lg_cmp_lt, lg_cmp_gt, lg_cmp_ge, lg_cmp_le, lg_cmp_eq, Classical.not_not] at c_30 c_40 c_49 c_55)
            rw [if_neg (fun z => z.elim c7.1 c7.2), nI_clamp (by have := hI.R.2; omega), hkE]
            unfold mf_wt
            clear C hR hra hrc hrx hac
            grind
          · refine V_pc (pc1 := 58) rfl ?_
            refine V_iconst (v := 2) C dX1_weightOf_58 rfl ?_
            refine V_goto (tgt := 63) C dX1_weightOf_59 (by decide) ?_
            refine V_iret C dX1_weightOf_63 rfl ?_ (by first | exact Nat.le_of_ble_eq_true rfl | omega | (dsimp only; omega)) (by first | exact Nat.le_of_ble_eq_true rfl | omega | (dsimp only; omega))
            refine ⟨congrArg (fun z => some (Value.int z)) ?_, rfl⟩
            have c7 := bI_n.mp c_7
            (try simp only [lg_cmp_lt, lg_cmp_gt, lg_cmp_ge, lg_cmp_le, lg_cmp_eq, Classical.not_not] at c_30 c_40 c_49 c_55)
            rw [if_neg (fun z => z.elim c7.1 c7.2), nI_clamp (by have := hI.R.2; omega), hkE]
            unfold mf_wt
            clear C hR hra hrc hrx hac
            grind
      · refine V_iconst (v := 3) C dX1_weightOf_43 rfl ?_
        refine V_goto (tgt := 63) C dX1_weightOf_44 (by decide) ?_
        refine V_iret C dX1_weightOf_63 rfl ?_ (by first | exact Nat.le_of_ble_eq_true rfl | omega | (dsimp only; omega)) (by first | exact Nat.le_of_ble_eq_true rfl | omega | (dsimp only; omega))
        refine ⟨congrArg (fun z => some (Value.int z)) ?_, rfl⟩
        have c7 := bI_n.mp c_7
        (try simp only [lg_cmp_lt, lg_cmp_gt, lg_cmp_ge, lg_cmp_le, lg_cmp_eq, Classical.not_not] at c_30 c_40)
        rw [if_neg (fun z => z.elim c7.1 c7.2), nI_clamp (by have := hI.R.2; omega), hkE]
        unfold mf_wt
        clear C hR hra hrc hrx hac
        grind
    · refine V_iconst (v := 4) C dX1_weightOf_33 rfl ?_
      refine V_goto (tgt := 63) C dX1_weightOf_34 (by decide) ?_
      refine V_iret C dX1_weightOf_63 rfl ?_ (by first | exact Nat.le_of_ble_eq_true rfl | omega | (dsimp only; omega)) (by first | exact Nat.le_of_ble_eq_true rfl | omega | (dsimp only; omega))
      refine ⟨congrArg (fun z => some (Value.int z)) ?_, rfl⟩
      have c7 := bI_n.mp c_7
      (try simp only [lg_cmp_lt, lg_cmp_gt, lg_cmp_ge, lg_cmp_le, lg_cmp_eq, Classical.not_not] at c_30)
      rw [if_neg (fun z => z.elim c7.1 c7.2), nI_clamp (by have := hI.R.2; omega), hkE]
      unfold mf_wt
      clear C hR hra hrc hrx hac
      grind
  · refine V_iconst (v := 1) C dX1_weightOf_10 rfl ?_
    refine V_iret C dX1_weightOf_11 rfl ?_ (by first | exact Nat.le_of_ble_eq_true rfl | omega | (dsimp only; omega)) (by first | exact Nat.le_of_ble_eq_true rfl | omega | (dsimp only; omega))
    have c7 := bI_0.mp c_7
    exact ⟨by rw [if_pos (Classical.byContradiction fun z => c7 ⟨fun y => z (Or.inl y), fun y => z (Or.inr y)⟩)], rfl⟩
set_option maxHeartbeats 1000000 in
theorem c_X3_many_10 (l : Launch) (hl : l.stackTraces = false) (G : hp_G) (X : Nat → Nat) (N0 : Nat) (M : hp_h) (g : RG) (σ : MS) (z : Nat → Int32) (ca : Int32) (C9 : Nat) (hR : REL G (X 0) g σ z ca C9 M) (hI : MI σ) (hh : Nat) (hhh : M hh = some (.inr (10, [.int 2, .ref (qN g), .ref (qN g)]))) (ac : Nat) (x0 a i b j n : Int32) (hac : M ac = some (.inr (3, [.int x0, .int a, .int i, .int b, .int j, .int n])))  : HM l yX3_many (ws_ yX3_many cX3_many 2 (some .int)) 0 0 0 0 G X N0 [.ref hh, .ref ac] M (PV (.int n) M) PX0 := by
  refine HM.of hl [(0, .ref hh), (1, .ref ac)] (by decide +kernel) rfl (Nat.le_of_ble_eq_true rfl) ?_
  intro p e s m args below meth c C hname
  have hN := hR.N
  obtain ⟨mdR, hRl⟩ := hR.Rl
  obtain ⟨fR, hRs, hRf⟩ := hR.Rls
  refine V_aload_n C dX3_many_0 rfl 1 rfl ?_
  refine V_getN C f_X3_17_3 hac (v := .int n) rfl dX3_many_1 ?_
  refine V_iret C dX3_many_4 rfl ?_ (by first | exact Nat.le_of_ble_eq_true rfl | omega | (dsimp only; omega)) (by first | exact Nat.le_of_ble_eq_true rfl | omega | (dsimp only; omega))
  exact ⟨rfl, rfl⟩
set_option maxHeartbeats 1000000 in
theorem c_X7_many_12 (l : Launch) (hl : l.stackTraces = false) (G : hp_G) (X : Nat → Nat) (N0 : Nat) (M : hp_h) (g : RG) (σ : MS) (z : Nat → Int32) (ca : Int32) (C9 : Nat) (hR : REL G (X 0) g σ z ca C9 M) (hI : MI σ) (hh : Nat) (hhh : M hh = some (.inr (12, [.int 1, .ref (qN g), .int 0, .int 10, .ref (qN g), .ref (qN g), .ref (qN g)]))) (ac : Nat) (x0 a i b j n : Int32) (hac : M ac = some (.inr (3, [.int x0, .int a, .int i, .int b, .int j, .int n])))  : HM l yX7_many (ws_ yX7_many cX7_many 2 (some .int)) 0 0 0 0 G X N0 [.ref hh, .ref ac] M (PV (.int n) M) PX0 := by
  refine HM.of hl [(0, .ref hh), (1, .ref ac)] (by decide +kernel) rfl (Nat.le_of_ble_eq_true rfl) ?_
  intro p e s m args below meth c C hname
  have hN := hR.N
  obtain ⟨mdR, hRl⟩ := hR.Rl
  obtain ⟨fR, hRs, hRf⟩ := hR.Rls
  refine V_aload_n C dX7_many_0 rfl 1 rfl ?_
  refine V_getN C f_X7_15_3 hac (v := .int n) rfl dX7_many_1 ?_
  refine V_iret C dX7_many_4 rfl ?_ (by first | exact Nat.le_of_ble_eq_true rfl | omega | (dsimp only; omega)) (by first | exact Nat.le_of_ble_eq_true rfl | omega | (dsimp only; omega))
  exact ⟨rfl, rfl⟩
set_option maxHeartbeats 1000000 in
theorem c_X7_many_17 (l : Launch) (hl : l.stackTraces = false) (G : hp_G) (X : Nat → Nat) (N0 : Nat) (M : hp_h) (g : RG) (σ : MS) (z : Nat → Int32) (ca : Int32) (C9 : Nat) (hR : REL G (X 0) g σ z ca C9 M) (hI : MI σ) (hh : Nat) (hhh : M hh = some (.inr (17, [.int 1, .ref (qN g), .int 0, .int 10, .ref (qN g), .ref (qN g), .ref (qN g)]))) (ac : Nat) (x0 a i b j n : Int32) (hac : M ac = some (.inr (3, [.int x0, .int a, .int i, .int b, .int j, .int n])))  : HM l yX7_many (ws_ yX7_many cX7_many 2 (some .int)) 0 0 0 0 G X N0 [.ref hh, .ref ac] M (PV (.int n) M) PX0 := by
  refine HM.of hl [(0, .ref hh), (1, .ref ac)] (by decide +kernel) rfl (Nat.le_of_ble_eq_true rfl) ?_
  intro p e s m args below meth c C hname
  have hN := hR.N
  obtain ⟨mdR, hRl⟩ := hR.Rl
  obtain ⟨fR, hRs, hRf⟩ := hR.Rls
  refine V_aload_n C dX7_many_0 rfl 1 rfl ?_
  refine V_getN C f_X7_15_3 hac (v := .int n) rfl dX7_many_1 ?_
  refine V_iret C dX7_many_4 rfl ?_ (by first | exact Nat.le_of_ble_eq_true rfl | omega | (dsimp only; omega)) (by first | exact Nat.le_of_ble_eq_true rfl | omega | (dsimp only; omega))
  exact ⟨rfl, rfl⟩
set_option maxHeartbeats 1000000 in
theorem c_X7_many_18 (l : Launch) (hl : l.stackTraces = false) (G : hp_G) (X : Nat → Nat) (N0 : Nat) (M : hp_h) (g : RG) (σ : MS) (z : Nat → Int32) (ca : Int32) (C9 : Nat) (hR : REL G (X 0) g σ z ca C9 M) (hI : MI σ) (hh : Nat) (hhh : M hh = some (.inr (18, [.int 2, .ref (qN g), .int 1, .int 7, .ref (qN g), .ref (qN g), .ref (qN g)]))) (ac : Nat) (x0 a i b j n : Int32) (hac : M ac = some (.inr (3, [.int x0, .int a, .int i, .int b, .int j, .int n])))  : HM l yX7_many (ws_ yX7_many cX7_many 2 (some .int)) 0 0 0 0 G X N0 [.ref hh, .ref ac] M (PV (.int n) M) PX0 := by
  refine HM.of hl [(0, .ref hh), (1, .ref ac)] (by decide +kernel) rfl (Nat.le_of_ble_eq_true rfl) ?_
  intro p e s m args below meth c C hname
  have hN := hR.N
  obtain ⟨mdR, hRl⟩ := hR.Rl
  obtain ⟨fR, hRs, hRf⟩ := hR.Rls
  refine V_aload_n C dX7_many_0 rfl 1 rfl ?_
  refine V_getN C f_X7_15_3 hac (v := .int n) rfl dX7_many_1 ?_
  refine V_iret C dX7_many_4 rfl ?_ (by first | exact Nat.le_of_ble_eq_true rfl | omega | (dsimp only; omega)) (by first | exact Nat.le_of_ble_eq_true rfl | omega | (dsimp only; omega))
  exact ⟨rfl, rfl⟩
set_option maxHeartbeats 1000000 in
theorem c_X7_many_19 (l : Launch) (hl : l.stackTraces = false) (G : hp_G) (X : Nat → Nat) (N0 : Nat) (M : hp_h) (g : RG) (σ : MS) (z : Nat → Int32) (ca : Int32) (C9 : Nat) (hR : REL G (X 0) g σ z ca C9 M) (hI : MI σ) (hh : Nat) (hhh : M hh = some (.inr (19, [.int 1, .ref (qN g), .int 0, .int 7, .ref (qN g), .ref (qN g), .ref (qN g)]))) (ac : Nat) (x0 a i b j n : Int32) (hac : M ac = some (.inr (3, [.int x0, .int a, .int i, .int b, .int j, .int n])))  : HM l yX7_many (ws_ yX7_many cX7_many 2 (some .int)) 0 0 0 0 G X N0 [.ref hh, .ref ac] M (PV (.int n) M) PX0 := by
  refine HM.of hl [(0, .ref hh), (1, .ref ac)] (by decide +kernel) rfl (Nat.le_of_ble_eq_true rfl) ?_
  intro p e s m args below meth c C hname
  have hN := hR.N
  obtain ⟨mdR, hRl⟩ := hR.Rl
  obtain ⟨fR, hRs, hRf⟩ := hR.Rls
  refine V_aload_n C dX7_many_0 rfl 1 rfl ?_
  refine V_getN C f_X7_15_3 hac (v := .int n) rfl dX7_many_1 ?_
  refine V_iret C dX7_many_4 rfl ?_ (by first | exact Nat.le_of_ble_eq_true rfl | omega | (dsimp only; omega)) (by first | exact Nat.le_of_ble_eq_true rfl | omega | (dsimp only; omega))
  exact ⟨rfl, rfl⟩
set_option maxHeartbeats 1000000 in
theorem c_X17_many_20 (l : Launch) (hl : l.stackTraces = false) (G : hp_G) (X : Nat → Nat) (N0 : Nat) (M : hp_h) (g : RG) (σ : MS) (z : Nat → Int32) (ca : Int32) (C9 : Nat) (hR : REL G (X 0) g σ z ca C9 M) (hI : MI σ) (hh : Nat) (hhh : M hh = some (.inr (20, [.int 5, .ref (qN g), .ref (qN g)]))) (ac : Nat) (x0 a i b j n : Int32) (hac : M ac = some (.inr (3, [.int x0, .int a, .int i, .int b, .int j, .int n])))  : HM l yX17_many (ws_ yX17_many cX17_many 2 (some .int)) 0 0 0 0 G X N0 [.ref hh, .ref ac] M (PV (.int 0) M) PX0 := by
  refine HM.of hl [(0, .ref hh), (1, .ref ac)] (by decide +kernel) rfl (Nat.le_of_ble_eq_true rfl) ?_
  intro p e s m args below meth c C hname
  have hN := hR.N
  obtain ⟨mdR, hRl⟩ := hR.Rl
  obtain ⟨fR, hRs, hRf⟩ := hR.Rls
  refine V_iconst (v := 0) C dX17_many_0 rfl ?_
  refine V_iret C dX17_many_1 rfl ?_ (by first | exact Nat.le_of_ble_eq_true rfl | omega | (dsimp only; omega)) (by first | exact Nat.le_of_ble_eq_true rfl | omega | (dsimp only; omega))
  exact ⟨rfl, rfl⟩
set_option maxHeartbeats 1000000 in
theorem c_X18_many_21 (l : Launch) (hl : l.stackTraces = false) (G : hp_G) (X : Nat → Nat) (N0 : Nat) (M : hp_h) (g : RG) (σ : MS) (z : Nat → Int32) (ca : Int32) (C9 : Nat) (hR : REL G (X 0) g σ z ca C9 M) (hI : MI σ) (hh : Nat) (hhh : M hh = some (.inr (21, [.int 1, .ref (qN g), .ref (qN g)]))) (ac : Nat) (x0 a i b j n : Int32) (hac : M ac = some (.inr (3, [.int x0, .int a, .int i, .int b, .int j, .int n])))  : HM l yX18_many (ws_ yX18_many cX18_many 2 (some .int)) 0 0 0 0 G X N0 [.ref hh, .ref ac] M (PV (.int 0) M) PX0 := by
  refine HM.of hl [(0, .ref hh), (1, .ref ac)] (by decide +kernel) rfl (Nat.le_of_ble_eq_true rfl) ?_
  intro p e s m args below meth c C hname
  have hN := hR.N
  obtain ⟨mdR, hRl⟩ := hR.Rl
  obtain ⟨fR, hRs, hRf⟩ := hR.Rls
  refine V_iconst (v := 0) C dX18_many_0 rfl ?_
  refine V_iret C dX18_many_1 rfl ?_ (by first | exact Nat.le_of_ble_eq_true rfl | omega | (dsimp only; omega)) (by first | exact Nat.le_of_ble_eq_true rfl | omega | (dsimp only; omega))
  exact ⟨rfl, rfl⟩
set_option maxHeartbeats 1000000 in
theorem c_X5_many_11 (l : Launch) (hl : l.stackTraces = false) (G : hp_G) (X : Nat → Nat) (N0 : Nat) (M : hp_h) (g : RG) (σ : MS) (z : Nat → Int32) (ca : Int32) (C9 : Nat) (hR : REL G (X 0) g σ z ca C9 M) (hI : MI σ) (hh : Nat) (hhh : M hh = some (.inr (11, [.int 3, .ref (qN g), .int 0, .int 10, .ref (qN g), .ref (qN g)]))) (ac : Nat) (x0 a i b j n : Int32) (hac : M ac = some (.inr (3, [.int x0, .int a, .int i, .int b, .int j, .int n]))) (hrw : ¬ a < 0 ∧ a < σ.1 1) : HM l yX5_many (ws_ yX5_many cX5_many 2 (some .int)) 3 64 0 0 G X N0 [.ref hh, .ref ac] M (PV (.int (σ.2.1 3 a.toNatClampNeg)) M) PX0 := by
  refine HM.of hl [(0, .ref hh), (1, .ref ac)] (by decide +kernel) rfl (Nat.le_of_ble_eq_true rfl) ?_
  intro p e s m args below meth c C hname
  have hN := hR.N
  obtain ⟨mdR, hRl⟩ := hR.Rl
  obtain ⟨fR, hRs, hRf⟩ := hR.Rls
  obtain ⟨rr, hr, rfl⟩ := hI.row hrw
  obtain ⟨xr, hra, hrx, hrc⟩ := hR.rw hr
  obtain ⟨hkE, hkL⟩ := hI.k hr
  obtain ⟨hlE, hlL⟩ := hI.l hr
  refine V_aload_n C dX5_many_0 rfl 0 rfl ?_
  refine V_get C f_X5_3_11 hhh (v := .ref (qN g)) rfl dX5_many_1 ?_
  refine V_getN C f_X5_22_0 hN (v := .ref (qRl g)) rfl dX5_many_4 ?_
  refine V_aload_n C dX5_many_7 rfl 1 rfl ?_
  refine V_getN C f_X5_26_3 hac (v := .int (nI rr)) rfl dX5_many_8 ?_
  refine V_callV C (c_J2_get l hl G X N0 M (qRl g) (qRe g) (nR σ) (gcp g 2 0) mdR fR hRl (hRs.2.2.1 (by have := hRs.2.2.2.1; omega)) (by have := hRs.2.2.2.2; omega) hRs.2.2.2.1 rr (qR g rr) hr (hRf rr hr)) cs_X5_31_1 hRl (show CLS[1]? = some (RJ2, TJ2, 3) from rfl) rfl rfl ⟨Nat.le_of_ble_eq_true rfl, Nat.le_of_ble_eq_true rfl⟩ ⟨(by first | exact Nat.le_of_ble_eq_true rfl | omega | (dsimp only; omega)), (by first | exact Nat.le_of_ble_eq_true rfl | omega | (dsimp only; omega))⟩ (Nat.le_of_ble_eq_true rfl) dX5_many_11 (fun _ _ _ h => px0 h) ?_
  rintro _ _ ⟨rfl, rfl⟩
  refine V_st (st' := [.ref (qR g rr)]) rfl ?_
  refine V_callSN C (c_X1_sizeOf l hl G X N0 M (qR g rr) (kd σ rr) hkL xr hra) cs_X5_37 rfl rfl ⟨Nat.le_of_ble_eq_true rfl, Nat.le_of_ble_eq_true rfl⟩ ⟨(by first | exact Nat.le_of_ble_eq_true rfl | omega | (dsimp only; omega)), (by first | exact Nat.le_of_ble_eq_true rfl | omega | (dsimp only; omega))⟩ (Nat.le_of_ble_eq_true rfl) dX5_many_14 (fun _ _ _ h => px0 h) ?_
  rintro _ _ ⟨rfl, rfl⟩
  refine V_st (st' := [.int (nI xr.1)]) rfl ?_
  refine V_st (st' := [.int (nI (ln σ rr))]) (by rw [hrx.1]) ?_
  refine V_iret C dX5_many_17 rfl ?_ (by first | exact Nat.le_of_ble_eq_true rfl | omega | (dsimp only; omega)) (by first | exact Nat.le_of_ble_eq_true rfl | omega | (dsimp only; omega))
  exact ⟨by rw [nI_clamp (by have := hI.R.2; omega), hlE], rfl⟩
set_option maxHeartbeats 1000000 in
theorem c_X5_many_13 (l : Launch) (hl : l.stackTraces = false) (G : hp_G) (X : Nat → Nat) (N0 : Nat) (M : hp_h) (g : RG) (σ : MS) (z : Nat → Int32) (ca : Int32) (C9 : Nat) (hR : REL G (X 0) g σ z ca C9 M) (hI : MI σ) (hh : Nat) (hhh : M hh = some (.inr (13, [.int 1, .ref (qN g), .int 0, .int 10, .ref (qN g), .ref (qN g), .ref (qN g)]))) (ac : Nat) (x0 a i b j n : Int32) (hac : M ac = some (.inr (3, [.int x0, .int a, .int i, .int b, .int j, .int n]))) (hrw : ¬ a < 0 ∧ a < σ.1 1) : HM l yX5_many (ws_ yX5_many cX5_many 2 (some .int)) 3 64 0 0 G X N0 [.ref hh, .ref ac] M (PV (.int (σ.2.1 3 a.toNatClampNeg)) M) PX0 := by
  refine HM.of hl [(0, .ref hh), (1, .ref ac)] (by decide +kernel) rfl (Nat.le_of_ble_eq_true rfl) ?_
  intro p e s m args below meth c C hname
  have hN := hR.N
  obtain ⟨mdR, hRl⟩ := hR.Rl
  obtain ⟨fR, hRs, hRf⟩ := hR.Rls
  obtain ⟨rr, hr, rfl⟩ := hI.row hrw
  obtain ⟨xr, hra, hrx, hrc⟩ := hR.rw hr
  obtain ⟨hkE, hkL⟩ := hI.k hr
  obtain ⟨hlE, hlL⟩ := hI.l hr
  refine V_aload_n C dX5_many_0 rfl 0 rfl ?_
  refine V_get C f_X5_3_13 hhh (v := .ref (qN g)) rfl dX5_many_1 ?_
  refine V_getN C f_X5_22_0 hN (v := .ref (qRl g)) rfl dX5_many_4 ?_
  refine V_aload_n C dX5_many_7 rfl 1 rfl ?_
  refine V_getN C f_X5_26_3 hac (v := .int (nI rr)) rfl dX5_many_8 ?_
  refine V_callV C (c_J2_get l hl G X N0 M (qRl g) (qRe g) (nR σ) (gcp g 2 0) mdR fR hRl (hRs.2.2.1 (by have := hRs.2.2.2.1; omega)) (by have := hRs.2.2.2.2; omega) hRs.2.2.2.1 rr (qR g rr) hr (hRf rr hr)) cs_X5_31_1 hRl (show CLS[1]? = some (RJ2, TJ2, 3) from rfl) rfl rfl ⟨Nat.le_of_ble_eq_true rfl, Nat.le_of_ble_eq_true rfl⟩ ⟨(by first | exact Nat.le_of_ble_eq_true rfl | omega | (dsimp only; omega)), (by first | exact Nat.le_of_ble_eq_true rfl | omega | (dsimp only; omega))⟩ (Nat.le_of_ble_eq_true rfl) dX5_many_11 (fun _ _ _ h => px0 h) ?_
  rintro _ _ ⟨rfl, rfl⟩
  refine V_st (st' := [.ref (qR g rr)]) rfl ?_
  refine V_callSN C (c_X1_sizeOf l hl G X N0 M (qR g rr) (kd σ rr) hkL xr hra) cs_X5_37 rfl rfl ⟨Nat.le_of_ble_eq_true rfl, Nat.le_of_ble_eq_true rfl⟩ ⟨(by first | exact Nat.le_of_ble_eq_true rfl | omega | (dsimp only; omega)), (by first | exact Nat.le_of_ble_eq_true rfl | omega | (dsimp only; omega))⟩ (Nat.le_of_ble_eq_true rfl) dX5_many_14 (fun _ _ _ h => px0 h) ?_
  rintro _ _ ⟨rfl, rfl⟩
  refine V_st (st' := [.int (nI xr.1)]) rfl ?_
  refine V_st (st' := [.int (nI (ln σ rr))]) (by rw [hrx.1]) ?_
  refine V_iret C dX5_many_17 rfl ?_ (by first | exact Nat.le_of_ble_eq_true rfl | omega | (dsimp only; omega)) (by first | exact Nat.le_of_ble_eq_true rfl | omega | (dsimp only; omega))
  exact ⟨by rw [nI_clamp (by have := hI.R.2; omega), hlE], rfl⟩
set_option maxHeartbeats 1000000 in
theorem c_X5_many_14 (l : Launch) (hl : l.stackTraces = false) (G : hp_G) (X : Nat → Nat) (N0 : Nat) (M : hp_h) (g : RG) (σ : MS) (z : Nat → Int32) (ca : Int32) (C9 : Nat) (hR : REL G (X 0) g σ z ca C9 M) (hI : MI σ) (hh : Nat) (hhh : M hh = some (.inr (14, [.int 1, .ref (qN g), .int 1, .int 7, .ref (qN g), .ref (qN g), .ref (qN g)]))) (ac : Nat) (x0 a i b j n : Int32) (hac : M ac = some (.inr (3, [.int x0, .int a, .int i, .int b, .int j, .int n]))) (hrw : ¬ a < 0 ∧ a < σ.1 1) : HM l yX5_many (ws_ yX5_many cX5_many 2 (some .int)) 3 64 0 0 G X N0 [.ref hh, .ref ac] M (PV (.int (σ.2.1 3 a.toNatClampNeg)) M) PX0 := by
  refine HM.of hl [(0, .ref hh), (1, .ref ac)] (by decide +kernel) rfl (Nat.le_of_ble_eq_true rfl) ?_
  intro p e s m args below meth c C hname
  have hN := hR.N
  obtain ⟨mdR, hRl⟩ := hR.Rl
  obtain ⟨fR, hRs, hRf⟩ := hR.Rls
  obtain ⟨rr, hr, rfl⟩ := hI.row hrw
  obtain ⟨xr, hra, hrx, hrc⟩ := hR.rw hr
  obtain ⟨hkE, hkL⟩ := hI.k hr
  obtain ⟨hlE, hlL⟩ := hI.l hr
  refine V_aload_n C dX5_many_0 rfl 0 rfl ?_
  refine V_get C f_X5_3_14 hhh (v := .ref (qN g)) rfl dX5_many_1 ?_
  refine V_getN C f_X5_22_0 hN (v := .ref (qRl g)) rfl dX5_many_4 ?_
  refine V_aload_n C dX5_many_7 rfl 1 rfl ?_
  refine V_getN C f_X5_26_3 hac (v := .int (nI rr)) rfl dX5_many_8 ?_
  refine V_callV C (c_J2_get l hl G X N0 M (qRl g) (qRe g) (nR σ) (gcp g 2 0) mdR fR hRl (hRs.2.2.1 (by have := hRs.2.2.2.1; omega)) (by have := hRs.2.2.2.2; omega) hRs.2.2.2.1 rr (qR g rr) hr (hRf rr hr)) cs_X5_31_1 hRl (show CLS[1]? = some (RJ2, TJ2, 3) from rfl) rfl rfl ⟨Nat.le_of_ble_eq_true rfl, Nat.le_of_ble_eq_true rfl⟩ ⟨(by first | exact Nat.le_of_ble_eq_true rfl | omega | (dsimp only; omega)), (by first | exact Nat.le_of_ble_eq_true rfl | omega | (dsimp only; omega))⟩ (Nat.le_of_ble_eq_true rfl) dX5_many_11 (fun _ _ _ h => px0 h) ?_
  rintro _ _ ⟨rfl, rfl⟩
  refine V_st (st' := [.ref (qR g rr)]) rfl ?_
  refine V_callSN C (c_X1_sizeOf l hl G X N0 M (qR g rr) (kd σ rr) hkL xr hra) cs_X5_37 rfl rfl ⟨Nat.le_of_ble_eq_true rfl, Nat.le_of_ble_eq_true rfl⟩ ⟨(by first | exact Nat.le_of_ble_eq_true rfl | omega | (dsimp only; omega)), (by first | exact Nat.le_of_ble_eq_true rfl | omega | (dsimp only; omega))⟩ (Nat.le_of_ble_eq_true rfl) dX5_many_14 (fun _ _ _ h => px0 h) ?_
  rintro _ _ ⟨rfl, rfl⟩
  refine V_st (st' := [.int (nI xr.1)]) rfl ?_
  refine V_st (st' := [.int (nI (ln σ rr))]) (by rw [hrx.1]) ?_
  refine V_iret C dX5_many_17 rfl ?_ (by first | exact Nat.le_of_ble_eq_true rfl | omega | (dsimp only; omega)) (by first | exact Nat.le_of_ble_eq_true rfl | omega | (dsimp only; omega))
  exact ⟨by rw [nI_clamp (by have := hI.R.2; omega), hlE], rfl⟩
set_option maxHeartbeats 1000000 in
theorem c_X5_many_15 (l : Launch) (hl : l.stackTraces = false) (G : hp_G) (X : Nat → Nat) (N0 : Nat) (M : hp_h) (g : RG) (σ : MS) (z : Nat → Int32) (ca : Int32) (C9 : Nat) (hR : REL G (X 0) g σ z ca C9 M) (hI : MI σ) (hh : Nat) (hhh : M hh = some (.inr (15, [.int 1, .ref (qN g), .int 0, .int 10, .ref (qN g), .ref (qN g)]))) (ac : Nat) (x0 a i b j n : Int32) (hac : M ac = some (.inr (3, [.int x0, .int a, .int i, .int b, .int j, .int n]))) (hrw : ¬ a < 0 ∧ a < σ.1 1) : HM l yX5_many (ws_ yX5_many cX5_many 2 (some .int)) 3 64 0 0 G X N0 [.ref hh, .ref ac] M (PV (.int (σ.2.1 3 a.toNatClampNeg)) M) PX0 := by
  refine HM.of hl [(0, .ref hh), (1, .ref ac)] (by decide +kernel) rfl (Nat.le_of_ble_eq_true rfl) ?_
  intro p e s m args below meth c C hname
  have hN := hR.N
  obtain ⟨mdR, hRl⟩ := hR.Rl
  obtain ⟨fR, hRs, hRf⟩ := hR.Rls
  obtain ⟨rr, hr, rfl⟩ := hI.row hrw
  obtain ⟨xr, hra, hrx, hrc⟩ := hR.rw hr
  obtain ⟨hkE, hkL⟩ := hI.k hr
  obtain ⟨hlE, hlL⟩ := hI.l hr
  refine V_aload_n C dX5_many_0 rfl 0 rfl ?_
  refine V_get C f_X5_3_15 hhh (v := .ref (qN g)) rfl dX5_many_1 ?_
  refine V_getN C f_X5_22_0 hN (v := .ref (qRl g)) rfl dX5_many_4 ?_
  refine V_aload_n C dX5_many_7 rfl 1 rfl ?_
  refine V_getN C f_X5_26_3 hac (v := .int (nI rr)) rfl dX5_many_8 ?_
  refine V_callV C (c_J2_get l hl G X N0 M (qRl g) (qRe g) (nR σ) (gcp g 2 0) mdR fR hRl (hRs.2.2.1 (by have := hRs.2.2.2.1; omega)) (by have := hRs.2.2.2.2; omega) hRs.2.2.2.1 rr (qR g rr) hr (hRf rr hr)) cs_X5_31_1 hRl (show CLS[1]? = some (RJ2, TJ2, 3) from rfl) rfl rfl ⟨Nat.le_of_ble_eq_true rfl, Nat.le_of_ble_eq_true rfl⟩ ⟨(by first | exact Nat.le_of_ble_eq_true rfl | omega | (dsimp only; omega)), (by first | exact Nat.le_of_ble_eq_true rfl | omega | (dsimp only; omega))⟩ (Nat.le_of_ble_eq_true rfl) dX5_many_11 (fun _ _ _ h => px0 h) ?_
  rintro _ _ ⟨rfl, rfl⟩
  refine V_st (st' := [.ref (qR g rr)]) rfl ?_
  refine V_callSN C (c_X1_sizeOf l hl G X N0 M (qR g rr) (kd σ rr) hkL xr hra) cs_X5_37 rfl rfl ⟨Nat.le_of_ble_eq_true rfl, Nat.le_of_ble_eq_true rfl⟩ ⟨(by first | exact Nat.le_of_ble_eq_true rfl | omega | (dsimp only; omega)), (by first | exact Nat.le_of_ble_eq_true rfl | omega | (dsimp only; omega))⟩ (Nat.le_of_ble_eq_true rfl) dX5_many_14 (fun _ _ _ h => px0 h) ?_
  rintro _ _ ⟨rfl, rfl⟩
  refine V_st (st' := [.int (nI xr.1)]) rfl ?_
  refine V_st (st' := [.int (nI (ln σ rr))]) (by rw [hrx.1]) ?_
  refine V_iret C dX5_many_17 rfl ?_ (by first | exact Nat.le_of_ble_eq_true rfl | omega | (dsimp only; omega)) (by first | exact Nat.le_of_ble_eq_true rfl | omega | (dsimp only; omega))
  exact ⟨by rw [nI_clamp (by have := hI.R.2; omega), hlE], rfl⟩
set_option maxHeartbeats 1000000 in
theorem c_X5_many_16 (l : Launch) (hl : l.stackTraces = false) (G : hp_G) (X : Nat → Nat) (N0 : Nat) (M : hp_h) (g : RG) (σ : MS) (z : Nat → Int32) (ca : Int32) (C9 : Nat) (hR : REL G (X 0) g σ z ca C9 M) (hI : MI σ) (hh : Nat) (hhh : M hh = some (.inr (16, [.int 1, .ref (qN g), .int 1, .int 7, .ref (qN g), .ref (qN g)]))) (ac : Nat) (x0 a i b j n : Int32) (hac : M ac = some (.inr (3, [.int x0, .int a, .int i, .int b, .int j, .int n]))) (hrw : ¬ a < 0 ∧ a < σ.1 1) : HM l yX5_many (ws_ yX5_many cX5_many 2 (some .int)) 3 64 0 0 G X N0 [.ref hh, .ref ac] M (PV (.int (σ.2.1 3 a.toNatClampNeg)) M) PX0 := by
  refine HM.of hl [(0, .ref hh), (1, .ref ac)] (by decide +kernel) rfl (Nat.le_of_ble_eq_true rfl) ?_
  intro p e s m args below meth c C hname
  have hN := hR.N
  obtain ⟨mdR, hRl⟩ := hR.Rl
  obtain ⟨fR, hRs, hRf⟩ := hR.Rls
  obtain ⟨rr, hr, rfl⟩ := hI.row hrw
  obtain ⟨xr, hra, hrx, hrc⟩ := hR.rw hr
  obtain ⟨hkE, hkL⟩ := hI.k hr
  obtain ⟨hlE, hlL⟩ := hI.l hr
  refine V_aload_n C dX5_many_0 rfl 0 rfl ?_
  refine V_get C f_X5_3_16 hhh (v := .ref (qN g)) rfl dX5_many_1 ?_
  refine V_getN C f_X5_22_0 hN (v := .ref (qRl g)) rfl dX5_many_4 ?_
  refine V_aload_n C dX5_many_7 rfl 1 rfl ?_
  refine V_getN C f_X5_26_3 hac (v := .int (nI rr)) rfl dX5_many_8 ?_
  refine V_callV C (c_J2_get l hl G X N0 M (qRl g) (qRe g) (nR σ) (gcp g 2 0) mdR fR hRl (hRs.2.2.1 (by have := hRs.2.2.2.1; omega)) (by have := hRs.2.2.2.2; omega) hRs.2.2.2.1 rr (qR g rr) hr (hRf rr hr)) cs_X5_31_1 hRl (show CLS[1]? = some (RJ2, TJ2, 3) from rfl) rfl rfl ⟨Nat.le_of_ble_eq_true rfl, Nat.le_of_ble_eq_true rfl⟩ ⟨(by first | exact Nat.le_of_ble_eq_true rfl | omega | (dsimp only; omega)), (by first | exact Nat.le_of_ble_eq_true rfl | omega | (dsimp only; omega))⟩ (Nat.le_of_ble_eq_true rfl) dX5_many_11 (fun _ _ _ h => px0 h) ?_
  rintro _ _ ⟨rfl, rfl⟩
  refine V_st (st' := [.ref (qR g rr)]) rfl ?_
  refine V_callSN C (c_X1_sizeOf l hl G X N0 M (qR g rr) (kd σ rr) hkL xr hra) cs_X5_37 rfl rfl ⟨Nat.le_of_ble_eq_true rfl, Nat.le_of_ble_eq_true rfl⟩ ⟨(by first | exact Nat.le_of_ble_eq_true rfl | omega | (dsimp only; omega)), (by first | exact Nat.le_of_ble_eq_true rfl | omega | (dsimp only; omega))⟩ (Nat.le_of_ble_eq_true rfl) dX5_many_14 (fun _ _ _ h => px0 h) ?_
  rintro _ _ ⟨rfl, rfl⟩
  refine V_st (st' := [.int (nI xr.1)]) rfl ?_
  refine V_st (st' := [.int (nI (ln σ rr))]) (by rw [hrx.1]) ?_
  refine V_iret C dX5_many_17 rfl ?_ (by first | exact Nat.le_of_ble_eq_true rfl | omega | (dsimp only; omega)) (by first | exact Nat.le_of_ble_eq_true rfl | omega | (dsimp only; omega))
  exact ⟨by rw [nI_clamp (by have := hI.R.2; omega), hlE], rfl⟩
set_option maxHeartbeats 1000000 in
theorem c_X5_many_22 (l : Launch) (hl : l.stackTraces = false) (G : hp_G) (X : Nat → Nat) (N0 : Nat) (M : hp_h) (g : RG) (σ : MS) (z : Nat → Int32) (ca : Int32) (C9 : Nat) (hR : REL G (X 0) g σ z ca C9 M) (hI : MI σ) (hh : Nat) (hhh : M hh = some (.inr (22, [.int 1, .ref (qN g), .int 8, .int 9, .ref (qN g), .ref (qN g)]))) (ac : Nat) (x0 a i b j n : Int32) (hac : M ac = some (.inr (3, [.int x0, .int a, .int i, .int b, .int j, .int n]))) (hrw : ¬ a < 0 ∧ a < σ.1 1) : HM l yX5_many (ws_ yX5_many cX5_many 2 (some .int)) 3 64 0 0 G X N0 [.ref hh, .ref ac] M (PV (.int (σ.2.1 3 a.toNatClampNeg)) M) PX0 := by
  refine HM.of hl [(0, .ref hh), (1, .ref ac)] (by decide +kernel) rfl (Nat.le_of_ble_eq_true rfl) ?_
  intro p e s m args below meth c C hname
  have hN := hR.N
  obtain ⟨mdR, hRl⟩ := hR.Rl
  obtain ⟨fR, hRs, hRf⟩ := hR.Rls
  obtain ⟨rr, hr, rfl⟩ := hI.row hrw
  obtain ⟨xr, hra, hrx, hrc⟩ := hR.rw hr
  obtain ⟨hkE, hkL⟩ := hI.k hr
  obtain ⟨hlE, hlL⟩ := hI.l hr
  refine V_aload_n C dX5_many_0 rfl 0 rfl ?_
  refine V_get C f_X5_3_22 hhh (v := .ref (qN g)) rfl dX5_many_1 ?_
  refine V_getN C f_X5_22_0 hN (v := .ref (qRl g)) rfl dX5_many_4 ?_
  refine V_aload_n C dX5_many_7 rfl 1 rfl ?_
  refine V_getN C f_X5_26_3 hac (v := .int (nI rr)) rfl dX5_many_8 ?_
  refine V_callV C (c_J2_get l hl G X N0 M (qRl g) (qRe g) (nR σ) (gcp g 2 0) mdR fR hRl (hRs.2.2.1 (by have := hRs.2.2.2.1; omega)) (by have := hRs.2.2.2.2; omega) hRs.2.2.2.1 rr (qR g rr) hr (hRf rr hr)) cs_X5_31_1 hRl (show CLS[1]? = some (RJ2, TJ2, 3) from rfl) rfl rfl ⟨Nat.le_of_ble_eq_true rfl, Nat.le_of_ble_eq_true rfl⟩ ⟨(by first | exact Nat.le_of_ble_eq_true rfl | omega | (dsimp only; omega)), (by first | exact Nat.le_of_ble_eq_true rfl | omega | (dsimp only; omega))⟩ (Nat.le_of_ble_eq_true rfl) dX5_many_11 (fun _ _ _ h => px0 h) ?_
  rintro _ _ ⟨rfl, rfl⟩
  refine V_st (st' := [.ref (qR g rr)]) rfl ?_
  refine V_callSN C (c_X1_sizeOf l hl G X N0 M (qR g rr) (kd σ rr) hkL xr hra) cs_X5_37 rfl rfl ⟨Nat.le_of_ble_eq_true rfl, Nat.le_of_ble_eq_true rfl⟩ ⟨(by first | exact Nat.le_of_ble_eq_true rfl | omega | (dsimp only; omega)), (by first | exact Nat.le_of_ble_eq_true rfl | omega | (dsimp only; omega))⟩ (Nat.le_of_ble_eq_true rfl) dX5_many_14 (fun _ _ _ h => px0 h) ?_
  rintro _ _ ⟨rfl, rfl⟩
  refine V_st (st' := [.int (nI xr.1)]) rfl ?_
  refine V_st (st' := [.int (nI (ln σ rr))]) (by rw [hrx.1]) ?_
  refine V_iret C dX5_many_17 rfl ?_ (by first | exact Nat.le_of_ble_eq_true rfl | omega | (dsimp only; omega)) (by first | exact Nat.le_of_ble_eq_true rfl | omega | (dsimp only; omega))
  exact ⟨by rw [nI_clamp (by have := hI.R.2; omega), hlE], rfl⟩
set_option maxHeartbeats 1000000 in
theorem c_X9_many_13 (l : Launch) (hl : l.stackTraces = false) (G : hp_G) (X : Nat → Nat) (N0 : Nat) (M : hp_h) (g : RG) (σ : MS) (z : Nat → Int32) (ca : Int32) (C9 : Nat) (hR : REL G (X 0) g σ z ca C9 M) (hI : MI σ) (hh : Nat) (hhh : M hh = some (.inr (13, [.int 1, .ref (qN g), .int 0, .int 10, .ref (qN g), .ref (qN g), .ref (qN g)]))) (ac : Nat) (x0 a i b j n : Int32) (hac : M ac = some (.inr (3, [.int x0, .int a, .int i, .int b, .int j, .int n]))) (hrw : ¬ a < 0 ∧ a < σ.1 1) (hrw2 : ¬ b < 0 ∧ b < σ.1 1) : HM l yX9_many (ws_ yX9_many cX9_many 2 (some .int)) 4 85 0 0 G X N0 [.ref hh, .ref ac] M (PV (.int (if σ.2.1 3 a.toNatClampNeg < σ.2.1 3 b.toNatClampNeg then σ.2.1 3 a.toNatClampNeg else σ.2.1 3 b.toNatClampNeg)) M) PX0 := by
  refine HM.of hl [(0, .ref hh), (1, .ref ac)] (by decide +kernel) rfl (Nat.le_of_ble_eq_true rfl) ?_
  intro p e s m args below meth c C hname
  have hN := hR.N
  obtain ⟨mdR, hRl⟩ := hR.Rl
  obtain ⟨fR, hRs, hRf⟩ := hR.Rls
  refine V_aload_n C dX9_many_0 rfl 0 rfl ?_
  refine V_aload_n C dX9_many_1 rfl 1 rfl ?_
  refine V_callSU C (c_X5_many_13 l hl G X N0 M g σ z ca C9 hR hI hh hhh ac x0 a i b j n hac hrw) cs_X9_13 hhh (show CLS[13]? = some (RX10, TX10, 7) from rfl) rfl rfl ⟨Nat.le_of_ble_eq_true rfl, Nat.le_of_ble_eq_true rfl⟩ ⟨(by first | exact Nat.le_of_ble_eq_true rfl | omega | (dsimp only; omega)), (by first | exact Nat.le_of_ble_eq_true rfl | omega | (dsimp only; omega))⟩ (Nat.le_of_ble_eq_true rfl) dX9_many_2 (fun _ _ _ h => px0 h) ?_
  rintro _ _ ⟨rfl, rfl⟩
  refine V_st (st' := [.int (σ.2.1 3 a.toNatClampNeg)]) rfl ?_
  obtain ⟨rrB, hrB, rfl⟩ := hI.row hrw2
  obtain ⟨xrB, hraB, hrxB, hrcB⟩ := hR.rw hrB
  obtain ⟨hkEB, hkLB⟩ := hI.k hrB
  obtain ⟨hlEB, hlLB⟩ := hI.l hrB
  refine V_aload_n C dX9_many_5 rfl 0 rfl ?_
  refine V_get C f_X9_1_13 hhh (v := .ref (qN g)) rfl dX9_many_6 ?_
  refine V_getN C f_X9_17_0 hN (v := .ref (qRl g)) rfl dX9_many_9 ?_
  refine V_aload_n C dX9_many_12 rfl 1 rfl ?_
  refine V_getN C f_X9_23_3 hac (v := .int (nI rrB)) rfl dX9_many_13 ?_
  refine V_callV C (c_J2_get l hl G X N0 M (qRl g) (qRe g) (nR σ) (gcp g 2 0) mdR fR hRl (hRs.2.2.1 (by have := hRs.2.2.2.1; omega)) (by have := hRs.2.2.2.2; omega) hRs.2.2.2.1 rrB (qR g rrB) hrB (hRf rrB hrB)) cs_X9_29_1 hRl (show CLS[1]? = some (RJ2, TJ2, 3) from rfl) rfl rfl ⟨Nat.le_of_ble_eq_true rfl, Nat.le_of_ble_eq_true rfl⟩ ⟨(by first | exact Nat.le_of_ble_eq_true rfl | omega | (dsimp only; omega)), (by first | exact Nat.le_of_ble_eq_true rfl | omega | (dsimp only; omega))⟩ (Nat.le_of_ble_eq_true rfl) dX9_many_16 (fun _ _ _ h => px0 h) ?_
  rintro _ _ ⟨rfl, rfl⟩
  refine V_st (st' := [.ref (qR g rrB), .int (σ.2.1 3 a.toNatClampNeg)]) rfl ?_
  refine V_callSN C (c_X1_sizeOf l hl G X N0 M (qR g rrB) (kd σ rrB) hkLB xrB hraB) cs_X9_35 rfl rfl ⟨Nat.le_of_ble_eq_true rfl, Nat.le_of_ble_eq_true rfl⟩ ⟨(by first | exact Nat.le_of_ble_eq_true rfl | omega | (dsimp only; omega)), (by first | exact Nat.le_of_ble_eq_true rfl | omega | (dsimp only; omega))⟩ (Nat.le_of_ble_eq_true rfl) dX9_many_19 (fun _ _ _ h => px0 h) ?_
  rintro _ _ ⟨rfl, rfl⟩
  refine V_st (st' := [.int (nI xrB.1), .int (σ.2.1 3 a.toNatClampNeg)]) rfl ?_
  refine V_st (st' := [.int (nI (ln σ rrB)), .int (σ.2.1 3 a.toNatClampNeg)]) (by rw [hrxB.1]) ?_
  refine V_mmin C cs_X9_39 ⟨Nat.le_of_ble_eq_true rfl, Nat.le_of_ble_eq_true rfl⟩ ⟨by first | exact Nat.le_of_ble_eq_true rfl | omega | (dsimp only; omega), by first | exact Nat.le_of_ble_eq_true rfl | omega | (dsimp only; omega)⟩ dX9_many_22 ?_
  refine V_pc (pc1 := 25) rfl ?_
  refine V_iret C dX9_many_25 rfl ?_ (by first | exact Nat.le_of_ble_eq_true rfl | omega | (dsimp only; omega)) (by first | exact Nat.le_of_ble_eq_true rfl | omega | (dsimp only; omega))
  refine ⟨congrArg (fun z => some (Value.int z)) ?_, rfl⟩
  rw [nI_clamp (n := rrB) (by have := hI.R.2; omega), hlEB]
  clear C hR hraB hrcB hrxB hac hhh
  grind
set_option maxHeartbeats 1000000 in
theorem c_X9_many_14 (l : Launch) (hl : l.stackTraces = false) (G : hp_G) (X : Nat → Nat) (N0 : Nat) (M : hp_h) (g : RG) (σ : MS) (z : Nat → Int32) (ca : Int32) (C9 : Nat) (hR : REL G (X 0) g σ z ca C9 M) (hI : MI σ) (hh : Nat) (hhh : M hh = some (.inr (14, [.int 1, .ref (qN g), .int 1, .int 7, .ref (qN g), .ref (qN g), .ref (qN g)]))) (ac : Nat) (x0 a i b j n : Int32) (hac : M ac = some (.inr (3, [.int x0, .int a, .int i, .int b, .int j, .int n]))) (hrw : ¬ a < 0 ∧ a < σ.1 1) (hrw2 : ¬ b < 0 ∧ b < σ.1 1) : HM l yX9_many (ws_ yX9_many cX9_many 2 (some .int)) 4 85 0 0 G X N0 [.ref hh, .ref ac] M (PV (.int (if σ.2.1 3 a.toNatClampNeg < σ.2.1 3 b.toNatClampNeg then σ.2.1 3 a.toNatClampNeg else σ.2.1 3 b.toNatClampNeg)) M) PX0 := by
  refine HM.of hl [(0, .ref hh), (1, .ref ac)] (by decide +kernel) rfl (Nat.le_of_ble_eq_true rfl) ?_
  intro p e s m args below meth c C hname
  have hN := hR.N
  obtain ⟨mdR, hRl⟩ := hR.Rl
  obtain ⟨fR, hRs, hRf⟩ := hR.Rls
  refine V_aload_n C dX9_many_0 rfl 0 rfl ?_
  refine V_aload_n C dX9_many_1 rfl 1 rfl ?_
  refine V_callSU C (c_X5_many_14 l hl G X N0 M g σ z ca C9 hR hI hh hhh ac x0 a i b j n hac hrw) cs_X9_13 hhh (show CLS[14]? = some (RX11, TX11, 7) from rfl) rfl rfl ⟨Nat.le_of_ble_eq_true rfl, Nat.le_of_ble_eq_true rfl⟩ ⟨(by first | exact Nat.le_of_ble_eq_true rfl | omega | (dsimp only; omega)), (by first | exact Nat.le_of_ble_eq_true rfl | omega | (dsimp only; omega))⟩ (Nat.le_of_ble_eq_true rfl) dX9_many_2 (fun _ _ _ h => px0 h) ?_
  rintro _ _ ⟨rfl, rfl⟩
  refine V_st (st' := [.int (σ.2.1 3 a.toNatClampNeg)]) rfl ?_
  obtain ⟨rrB, hrB, rfl⟩ := hI.row hrw2
  obtain ⟨xrB, hraB, hrxB, hrcB⟩ := hR.rw hrB
  obtain ⟨hkEB, hkLB⟩ := hI.k hrB
  obtain ⟨hlEB, hlLB⟩ := hI.l hrB
  refine V_aload_n C dX9_many_5 rfl 0 rfl ?_
  refine V_get C f_X9_1_14 hhh (v := .ref (qN g)) rfl dX9_many_6 ?_
  refine V_getN C f_X9_17_0 hN (v := .ref (qRl g)) rfl dX9_many_9 ?_
  refine V_aload_n C dX9_many_12 rfl 1 rfl ?_
  refine V_getN C f_X9_23_3 hac (v := .int (nI rrB)) rfl dX9_many_13 ?_
  refine V_callV C (c_J2_get l hl G X N0 M (qRl g) (qRe g) (nR σ) (gcp g 2 0) mdR fR hRl (hRs.2.2.1 (by have := hRs.2.2.2.1; omega)) (by have := hRs.2.2.2.2; omega) hRs.2.2.2.1 rrB (qR g rrB) hrB (hRf rrB hrB)) cs_X9_29_1 hRl (show CLS[1]? = some (RJ2, TJ2, 3) from rfl) rfl rfl ⟨Nat.le_of_ble_eq_true rfl, Nat.le_of_ble_eq_true rfl⟩ ⟨(by first | exact Nat.le_of_ble_eq_true rfl | omega | (dsimp only; omega)), (by first | exact Nat.le_of_ble_eq_true rfl | omega | (dsimp only; omega))⟩ (Nat.le_of_ble_eq_true rfl) dX9_many_16 (fun _ _ _ h => px0 h) ?_
  rintro _ _ ⟨rfl, rfl⟩
  refine V_st (st' := [.ref (qR g rrB), .int (σ.2.1 3 a.toNatClampNeg)]) rfl ?_
  refine V_callSN C (c_X1_sizeOf l hl G X N0 M (qR g rrB) (kd σ rrB) hkLB xrB hraB) cs_X9_35 rfl rfl ⟨Nat.le_of_ble_eq_true rfl, Nat.le_of_ble_eq_true rfl⟩ ⟨(by first | exact Nat.le_of_ble_eq_true rfl | omega | (dsimp only; omega)), (by first | exact Nat.le_of_ble_eq_true rfl | omega | (dsimp only; omega))⟩ (Nat.le_of_ble_eq_true rfl) dX9_many_19 (fun _ _ _ h => px0 h) ?_
  rintro _ _ ⟨rfl, rfl⟩
  refine V_st (st' := [.int (nI xrB.1), .int (σ.2.1 3 a.toNatClampNeg)]) rfl ?_
  refine V_st (st' := [.int (nI (ln σ rrB)), .int (σ.2.1 3 a.toNatClampNeg)]) (by rw [hrxB.1]) ?_
  refine V_mmin C cs_X9_39 ⟨Nat.le_of_ble_eq_true rfl, Nat.le_of_ble_eq_true rfl⟩ ⟨by first | exact Nat.le_of_ble_eq_true rfl | omega | (dsimp only; omega), by first | exact Nat.le_of_ble_eq_true rfl | omega | (dsimp only; omega)⟩ dX9_many_22 ?_
  refine V_pc (pc1 := 25) rfl ?_
  refine V_iret C dX9_many_25 rfl ?_ (by first | exact Nat.le_of_ble_eq_true rfl | omega | (dsimp only; omega)) (by first | exact Nat.le_of_ble_eq_true rfl | omega | (dsimp only; omega))
  refine ⟨congrArg (fun z => some (Value.int z)) ?_, rfl⟩
  rw [nI_clamp (n := rrB) (by have := hI.R.2; omega), hlEB]
  clear C hR hraB hrcB hrxB hac hhh
  grind
set_option maxHeartbeats 1000000 in
theorem c_X3_hasOther_11 (l : Launch) (hl : l.stackTraces = false) (G : hp_G) (X : Nat → Nat) (N0 : Nat) (M : hp_h) (hh n9 : Nat) (hhh : M hh = some (.inr (11, [.int 3, .ref n9, .int 0, .int 10, .ref n9, .ref n9])))  : HM l yX3_hasOther (ws_ yX3_hasOther cX3_hasOther 1 (some .boolean)) 0 0 0 0 G X N0 [.ref hh] M (PV (.int 0) M) PX0 := by
  refine HM.of hl [(0, .ref hh)] (by decide +kernel) rfl (Nat.le_of_ble_eq_true rfl) ?_
  intro p e s m args below meth c C hname
  refine V_iconst (v := 0) C dX3_hasOther_0 rfl ?_
  refine V_zret C rfl dX3_hasOther_1 rfl ?_ (by first | exact Nat.le_of_ble_eq_true rfl | omega | (dsimp only; omega)) (by first | exact Nat.le_of_ble_eq_true rfl | omega | (dsimp only; omega))
  exact ⟨rfl, rfl⟩
set_option maxHeartbeats 1000000 in
theorem c_X3_hasOther_12 (l : Launch) (hl : l.stackTraces = false) (G : hp_G) (X : Nat → Nat) (N0 : Nat) (M : hp_h) (hh n9 : Nat) (hhh : M hh = some (.inr (12, [.int 1, .ref n9, .int 0, .int 10, .ref n9, .ref n9, .ref n9])))  : HM l yX3_hasOther (ws_ yX3_hasOther cX3_hasOther 1 (some .boolean)) 0 0 0 0 G X N0 [.ref hh] M (PV (.int 0) M) PX0 := by
  refine HM.of hl [(0, .ref hh)] (by decide +kernel) rfl (Nat.le_of_ble_eq_true rfl) ?_
  intro p e s m args below meth c C hname
  refine V_iconst (v := 0) C dX3_hasOther_0 rfl ?_
  refine V_zret C rfl dX3_hasOther_1 rfl ?_ (by first | exact Nat.le_of_ble_eq_true rfl | omega | (dsimp only; omega)) (by first | exact Nat.le_of_ble_eq_true rfl | omega | (dsimp only; omega))
  exact ⟨rfl, rfl⟩
set_option maxHeartbeats 1000000 in
theorem c_X3_hasOther_15 (l : Launch) (hl : l.stackTraces = false) (G : hp_G) (X : Nat → Nat) (N0 : Nat) (M : hp_h) (hh n9 : Nat) (hhh : M hh = some (.inr (15, [.int 1, .ref n9, .int 0, .int 10, .ref n9, .ref n9])))  : HM l yX3_hasOther (ws_ yX3_hasOther cX3_hasOther 1 (some .boolean)) 0 0 0 0 G X N0 [.ref hh] M (PV (.int 0) M) PX0 := by
  refine HM.of hl [(0, .ref hh)] (by decide +kernel) rfl (Nat.le_of_ble_eq_true rfl) ?_
  intro p e s m args below meth c C hname
  refine V_iconst (v := 0) C dX3_hasOther_0 rfl ?_
  refine V_zret C rfl dX3_hasOther_1 rfl ?_ (by first | exact Nat.le_of_ble_eq_true rfl | omega | (dsimp only; omega)) (by first | exact Nat.le_of_ble_eq_true rfl | omega | (dsimp only; omega))
  exact ⟨rfl, rfl⟩
set_option maxHeartbeats 1000000 in
theorem c_X3_hasOther_16 (l : Launch) (hl : l.stackTraces = false) (G : hp_G) (X : Nat → Nat) (N0 : Nat) (M : hp_h) (hh n9 : Nat) (hhh : M hh = some (.inr (16, [.int 1, .ref n9, .int 1, .int 7, .ref n9, .ref n9])))  : HM l yX3_hasOther (ws_ yX3_hasOther cX3_hasOther 1 (some .boolean)) 0 0 0 0 G X N0 [.ref hh] M (PV (.int 0) M) PX0 := by
  refine HM.of hl [(0, .ref hh)] (by decide +kernel) rfl (Nat.le_of_ble_eq_true rfl) ?_
  intro p e s m args below meth c C hname
  refine V_iconst (v := 0) C dX3_hasOther_0 rfl ?_
  refine V_zret C rfl dX3_hasOther_1 rfl ?_ (by first | exact Nat.le_of_ble_eq_true rfl | omega | (dsimp only; omega)) (by first | exact Nat.le_of_ble_eq_true rfl | omega | (dsimp only; omega))
  exact ⟨rfl, rfl⟩
set_option maxHeartbeats 1000000 in
theorem c_X3_hasOther_17 (l : Launch) (hl : l.stackTraces = false) (G : hp_G) (X : Nat → Nat) (N0 : Nat) (M : hp_h) (hh n9 : Nat) (hhh : M hh = some (.inr (17, [.int 1, .ref n9, .int 0, .int 10, .ref n9, .ref n9, .ref n9])))  : HM l yX3_hasOther (ws_ yX3_hasOther cX3_hasOther 1 (some .boolean)) 0 0 0 0 G X N0 [.ref hh] M (PV (.int 0) M) PX0 := by
  refine HM.of hl [(0, .ref hh)] (by decide +kernel) rfl (Nat.le_of_ble_eq_true rfl) ?_
  intro p e s m args below meth c C hname
  refine V_iconst (v := 0) C dX3_hasOther_0 rfl ?_
  refine V_zret C rfl dX3_hasOther_1 rfl ?_ (by first | exact Nat.le_of_ble_eq_true rfl | omega | (dsimp only; omega)) (by first | exact Nat.le_of_ble_eq_true rfl | omega | (dsimp only; omega))
  exact ⟨rfl, rfl⟩
set_option maxHeartbeats 1000000 in
theorem c_X3_hasOther_18 (l : Launch) (hl : l.stackTraces = false) (G : hp_G) (X : Nat → Nat) (N0 : Nat) (M : hp_h) (hh n9 : Nat) (hhh : M hh = some (.inr (18, [.int 2, .ref n9, .int 1, .int 7, .ref n9, .ref n9, .ref n9])))  : HM l yX3_hasOther (ws_ yX3_hasOther cX3_hasOther 1 (some .boolean)) 0 0 0 0 G X N0 [.ref hh] M (PV (.int 0) M) PX0 := by
  refine HM.of hl [(0, .ref hh)] (by decide +kernel) rfl (Nat.le_of_ble_eq_true rfl) ?_
  intro p e s m args below meth c C hname
  refine V_iconst (v := 0) C dX3_hasOther_0 rfl ?_
  refine V_zret C rfl dX3_hasOther_1 rfl ?_ (by first | exact Nat.le_of_ble_eq_true rfl | omega | (dsimp only; omega)) (by first | exact Nat.le_of_ble_eq_true rfl | omega | (dsimp only; omega))
  exact ⟨rfl, rfl⟩
set_option maxHeartbeats 1000000 in
theorem c_X3_hasOther_19 (l : Launch) (hl : l.stackTraces = false) (G : hp_G) (X : Nat → Nat) (N0 : Nat) (M : hp_h) (hh n9 : Nat) (hhh : M hh = some (.inr (19, [.int 1, .ref n9, .int 0, .int 7, .ref n9, .ref n9, .ref n9])))  : HM l yX3_hasOther (ws_ yX3_hasOther cX3_hasOther 1 (some .boolean)) 0 0 0 0 G X N0 [.ref hh] M (PV (.int 0) M) PX0 := by
  refine HM.of hl [(0, .ref hh)] (by decide +kernel) rfl (Nat.le_of_ble_eq_true rfl) ?_
  intro p e s m args below meth c C hname
  refine V_iconst (v := 0) C dX3_hasOther_0 rfl ?_
  refine V_zret C rfl dX3_hasOther_1 rfl ?_ (by first | exact Nat.le_of_ble_eq_true rfl | omega | (dsimp only; omega)) (by first | exact Nat.le_of_ble_eq_true rfl | omega | (dsimp only; omega))
  exact ⟨rfl, rfl⟩
set_option maxHeartbeats 1000000 in
theorem c_X3_hasOther_20 (l : Launch) (hl : l.stackTraces = false) (G : hp_G) (X : Nat → Nat) (N0 : Nat) (M : hp_h) (hh n9 : Nat) (hhh : M hh = some (.inr (20, [.int 5, .ref n9, .ref n9])))  : HM l yX3_hasOther (ws_ yX3_hasOther cX3_hasOther 1 (some .boolean)) 0 0 0 0 G X N0 [.ref hh] M (PV (.int 0) M) PX0 := by
  refine HM.of hl [(0, .ref hh)] (by decide +kernel) rfl (Nat.le_of_ble_eq_true rfl) ?_
  intro p e s m args below meth c C hname
  refine V_iconst (v := 0) C dX3_hasOther_0 rfl ?_
  refine V_zret C rfl dX3_hasOther_1 rfl ?_ (by first | exact Nat.le_of_ble_eq_true rfl | omega | (dsimp only; omega)) (by first | exact Nat.le_of_ble_eq_true rfl | omega | (dsimp only; omega))
  exact ⟨rfl, rfl⟩
set_option maxHeartbeats 1000000 in
theorem c_X3_hasOther_21 (l : Launch) (hl : l.stackTraces = false) (G : hp_G) (X : Nat → Nat) (N0 : Nat) (M : hp_h) (hh n9 : Nat) (hhh : M hh = some (.inr (21, [.int 1, .ref n9, .ref n9])))  : HM l yX3_hasOther (ws_ yX3_hasOther cX3_hasOther 1 (some .boolean)) 0 0 0 0 G X N0 [.ref hh] M (PV (.int 0) M) PX0 := by
  refine HM.of hl [(0, .ref hh)] (by decide +kernel) rfl (Nat.le_of_ble_eq_true rfl) ?_
  intro p e s m args below meth c C hname
  refine V_iconst (v := 0) C dX3_hasOther_0 rfl ?_
  refine V_zret C rfl dX3_hasOther_1 rfl ?_ (by first | exact Nat.le_of_ble_eq_true rfl | omega | (dsimp only; omega)) (by first | exact Nat.le_of_ble_eq_true rfl | omega | (dsimp only; omega))
  exact ⟨rfl, rfl⟩
set_option maxHeartbeats 1000000 in
theorem c_X3_hasOther_22 (l : Launch) (hl : l.stackTraces = false) (G : hp_G) (X : Nat → Nat) (N0 : Nat) (M : hp_h) (hh n9 : Nat) (hhh : M hh = some (.inr (22, [.int 1, .ref n9, .int 8, .int 9, .ref n9, .ref n9])))  : HM l yX3_hasOther (ws_ yX3_hasOther cX3_hasOther 1 (some .boolean)) 0 0 0 0 G X N0 [.ref hh] M (PV (.int 0) M) PX0 := by
  refine HM.of hl [(0, .ref hh)] (by decide +kernel) rfl (Nat.le_of_ble_eq_true rfl) ?_
  intro p e s m args below meth c C hname
  refine V_iconst (v := 0) C dX3_hasOther_0 rfl ?_
  refine V_zret C rfl dX3_hasOther_1 rfl ?_ (by first | exact Nat.le_of_ble_eq_true rfl | omega | (dsimp only; omega)) (by first | exact Nat.le_of_ble_eq_true rfl | omega | (dsimp only; omega))
  exact ⟨rfl, rfl⟩
set_option maxHeartbeats 1000000 in
theorem c_X4_hasOther_10 (l : Launch) (hl : l.stackTraces = false) (G : hp_G) (X : Nat → Nat) (N0 : Nat) (M : hp_h) (hh n9 : Nat) (hhh : M hh = some (.inr (10, [.int 2, .ref n9, .ref n9])))  : HM l yX4_hasOther (ws_ yX4_hasOther cX4_hasOther 1 (some .boolean)) 0 0 0 0 G X N0 [.ref hh] M (PV (.int 1) M) PX0 := by
  refine HM.of hl [(0, .ref hh)] (by decide +kernel) rfl (Nat.le_of_ble_eq_true rfl) ?_
  intro p e s m args below meth c C hname
  refine V_iconst (v := 1) C dX4_hasOther_0 rfl ?_
  refine V_zret C rfl dX4_hasOther_1 rfl ?_ (by first | exact Nat.le_of_ble_eq_true rfl | omega | (dsimp only; omega)) (by first | exact Nat.le_of_ble_eq_true rfl | omega | (dsimp only; omega))
  exact ⟨rfl, rfl⟩
set_option maxHeartbeats 1000000 in
theorem c_X9_hasOther_13 (l : Launch) (hl : l.stackTraces = false) (G : hp_G) (X : Nat → Nat) (N0 : Nat) (M : hp_h) (hh n9 : Nat) (hhh : M hh = some (.inr (13, [.int 1, .ref n9, .int 0, .int 10, .ref n9, .ref n9, .ref n9])))  : HM l yX9_hasOther (ws_ yX9_hasOther cX9_hasOther 1 (some .boolean)) 0 0 0 0 G X N0 [.ref hh] M (PV (.int 1) M) PX0 := by
  refine HM.of hl [(0, .ref hh)] (by decide +kernel) rfl (Nat.le_of_ble_eq_true rfl) ?_
  intro p e s m args below meth c C hname
  refine V_iconst (v := 1) C dX9_hasOther_0 rfl ?_
  refine V_zret C rfl dX9_hasOther_1 rfl ?_ (by first | exact Nat.le_of_ble_eq_true rfl | omega | (dsimp only; omega)) (by first | exact Nat.le_of_ble_eq_true rfl | omega | (dsimp only; omega))
  exact ⟨rfl, rfl⟩
set_option maxHeartbeats 1000000 in
theorem c_X9_hasOther_14 (l : Launch) (hl : l.stackTraces = false) (G : hp_G) (X : Nat → Nat) (N0 : Nat) (M : hp_h) (hh n9 : Nat) (hhh : M hh = some (.inr (14, [.int 1, .ref n9, .int 1, .int 7, .ref n9, .ref n9, .ref n9])))  : HM l yX9_hasOther (ws_ yX9_hasOther cX9_hasOther 1 (some .boolean)) 0 0 0 0 G X N0 [.ref hh] M (PV (.int 1) M) PX0 := by
  refine HM.of hl [(0, .ref hh)] (by decide +kernel) rfl (Nat.le_of_ble_eq_true rfl) ?_
  intro p e s m args below meth c C hname
  refine V_iconst (v := 1) C dX9_hasOther_0 rfl ?_
  refine V_zret C rfl dX9_hasOther_1 rfl ?_ (by first | exact Nat.le_of_ble_eq_true rfl | omega | (dsimp only; omega)) (by first | exact Nat.le_of_ble_eq_true rfl | omega | (dsimp only; omega))
  exact ⟨rfl, rfl⟩
set_option maxHeartbeats 1000000 in
theorem c_X1_priceOf_0 (l : Launch) (hl : l.stackTraces = false) (G : hp_G) (X : Nat → Nat) (N0 : Nat) (M : hp_h) (g : RG) (σ : MS) (z : Nat → Int32) (ca : Int32) (C9 : Nat) (hR : REL G (X 0) g σ z ca C9 M) (hI : MI σ) (ac : Nat) (a i b j n : Int32) (hac : M ac = some (.inr (3, [.int 0, .int a, .int i, .int b, .int j, .int n]))) (hrw : mf_hasRows σ 0 a b) : HM l yX1_priceOf (ws_ yX1_priceOf cX1_priceOf 4 (some .int)) 5 140 0 0 G X N0 [.ref (qN g), .ref ac] M (PV (.int (mf_priceOf σ 0 a b n)) M) PX0 := by
  refine HM.of hl [(0, .ref (qN g)), (1, .ref ac)] (by decide +kernel) rfl (Nat.le_of_ble_eq_true rfl) ?_
  intro p e s m args below meth c C hname
  have hN := hR.N
  obtain ⟨fH, hHs, hHf⟩ := hR.Hs
  have hH9 : M (qH g 0) = some (.inr (10, [.int 2, .ref (qN g), .ref (qN g)])) := hR.H (by decide)
  refine V_aload_n C dX1_priceOf_0 rfl 0 rfl ?_
  refine V_get C f_X1_173_0 hN (v := .ref (qHs g)) rfl dX1_priceOf_1 ?_
  refine V_aload_n C dX1_priceOf_4 rfl 1 rfl ?_
  refine V_getN C f_X1_189_3 hac (v := .int 0) rfl dX1_priceOf_5 ?_
  refine V_st (st' := [.int (nI 0), .ref (qHs g)]) (by rw [show 0 = nI 0 from rfl]) ?_
  refine V_aald C (j := 14) rfl rfl hHs (vp_in_nI (by omega) (by omega)) dX1_priceOf_8 ?_
  refine V_st (st' := [.ref (qH g 0)]) (by rw [nI_clamp (by omega), (hHf 0 (by decide))]; rfl) ?_
  refine V_astore_n C dX1_priceOf_9 rfl (Nat.le_of_ble_eq_true rfl) [(0, .ref (qN g)), (1, .ref ac), (2, .ref (qH g 0))] [1, 2, 0] rfl ?_
  refine V_aload_n C dX1_priceOf_10 rfl 2 rfl ?_
  refine V_astore_n C dX1_priceOf_11 rfl (Nat.le_of_ble_eq_true rfl) [(0, .ref (qN g)), (1, .ref ac), (2, .ref (qH g 0)), (3, .ref (qH g 0))] [1, 2, 3, 0] rfl ?_
  refine V_aload_n C dX1_priceOf_12 rfl 3 rfl ?_
  refine V_aload_n C dX1_priceOf_13 rfl 2 rfl ?_
  refine V_aload_n C dX1_priceOf_14 rfl 1 rfl ?_
  refine V_pc (pc1 := 15) rfl ?_
  refine V_callU C (c_X3_many_10 l hl G X N0 M g σ z ca C9 hR hI (qH g 0) hH9 ac 0 a i b j n hac) cs_X1_201_10 hH9 (show CLS[10]? = some (RX4, TX4, 3) from rfl) rfl rfl ⟨Nat.le_of_ble_eq_true rfl, Nat.le_of_ble_eq_true rfl⟩ ⟨(by first | exact Nat.le_of_ble_eq_true rfl | omega | (dsimp only; omega)), (by first | exact Nat.le_of_ble_eq_true rfl | omega | (dsimp only; omega))⟩ (Nat.le_of_ble_eq_true rfl) dX1_priceOf_15 (fun _ _ _ h => px0 h) ?_
  rintro _ _ ⟨rfl, rfl⟩
  refine V_st (st' := [.int n, .ref (qH g 0)]) rfl ?_
  refine V_aload_n C dX1_priceOf_18 rfl 0 rfl ?_
  refine V_aload_n C dX1_priceOf_19 rfl 1 rfl ?_
  refine V_callV C (c_X1_weightOf l hl G X N0 M g σ z ca C9 hR hI ac 0 a i b j n hac (by exact Or.inr (hrw.1.resolve_left (by decide)))) cs_X1_205_0 hN (show CLS[0]? = some (RX1, TX1, 17) from rfl) rfl rfl ⟨Nat.le_of_ble_eq_true rfl, Nat.le_of_ble_eq_true rfl⟩ ⟨(by first | exact Nat.le_of_ble_eq_true rfl | omega | (dsimp only; omega)), (by first | exact Nat.le_of_ble_eq_true rfl | omega | (dsimp only; omega))⟩ (Nat.le_of_ble_eq_true rfl) dX1_priceOf_20 (fun _ _ _ h => px0 h) ?_
  rintro _ _ ⟨rfl, rfl⟩
  refine V_st (st' := [.int (if (0 : Int32) = 10 ∨ (0 : Int32) = 11 then 1 else mf_wt (σ.2.1 2 a.toNatClampNeg)), .int n, .ref (qH g 0)]) rfl ?_
  refine V_callD C (c_X28_price_10 l hl G X N0 M (qH g 0) (qN g) hH9 n (if (0 : Int32) = 10 ∨ (0 : Int32) = 11 then 1 else mf_wt (σ.2.1 2 a.toNatClampNeg))) ⟨lw_meth q825, q818, q823, q1830, List.mem_of_getElem? (i := 3) rfl, mh_X28_price⟩ hH9 (show CLS[10]? = some (RX4, TX4, 3) from rfl) rfl rfl ⟨Nat.le_of_ble_eq_true rfl, Nat.le_of_ble_eq_true rfl⟩ ⟨by first | exact Nat.le_of_ble_eq_true rfl | omega | (dsimp only; omega), by first | exact Nat.le_of_ble_eq_true rfl | omega | (dsimp only; omega)⟩ (Nat.le_of_ble_eq_true rfl) dX1_priceOf_23 (fun _ _ _ h => px0 h) ?_
  rintro _ _ ⟨rfl, rfl⟩
  refine V_st (st' := [.int ((2 + mf_some n) * (if (0 : Int32) = 10 ∨ (0 : Int32) = 11 then 1 else mf_wt (σ.2.1 2 a.toNatClampNeg)))]) rfl ?_
  refine V_iret C dX1_priceOf_28 rfl ?_ (by first | exact Nat.le_of_ble_eq_true rfl | omega | (dsimp only; omega)) (by first | exact Nat.le_of_ble_eq_true rfl | omega | (dsimp only; omega))
  refine ⟨congrArg (fun z => some (Value.int z)) ?_, rfl⟩
  simp [mf_priceOf, mf_base, mf_many]
set_option maxHeartbeats 1000000 in
theorem c_X1_priceOf_1 (l : Launch) (hl : l.stackTraces = false) (G : hp_G) (X : Nat → Nat) (N0 : Nat) (M : hp_h) (g : RG) (σ : MS) (z : Nat → Int32) (ca : Int32) (C9 : Nat) (hR : REL G (X 0) g σ z ca C9 M) (hI : MI σ) (ac : Nat) (a i b j n : Int32) (hac : M ac = some (.inr (3, [.int 1, .int a, .int i, .int b, .int j, .int n]))) (hrw : mf_hasRows σ 1 a b) : HM l yX1_priceOf (ws_ yX1_priceOf cX1_priceOf 4 (some .int)) 5 140 0 0 G X N0 [.ref (qN g), .ref ac] M (PV (.int (mf_priceOf σ 1 a b n)) M) PX0 := by
  refine HM.of hl [(0, .ref (qN g)), (1, .ref ac)] (by decide +kernel) rfl (Nat.le_of_ble_eq_true rfl) ?_
  intro p e s m args below meth c C hname
  have hN := hR.N
  obtain ⟨fH, hHs, hHf⟩ := hR.Hs
  have hH9 : M (qH g 1) = some (.inr (11, [.int 3, .ref (qN g), .int 0, .int 10, .ref (qN g), .ref (qN g)])) := hR.H (by decide)
  refine V_aload_n C dX1_priceOf_0 rfl 0 rfl ?_
  refine V_get C f_X1_173_0 hN (v := .ref (qHs g)) rfl dX1_priceOf_1 ?_
  refine V_aload_n C dX1_priceOf_4 rfl 1 rfl ?_
  refine V_getN C f_X1_189_3 hac (v := .int 1) rfl dX1_priceOf_5 ?_
  refine V_st (st' := [.int (nI 1), .ref (qHs g)]) (by rw [show 1 = nI 1 from rfl]) ?_
  refine V_aald C (j := 14) rfl rfl hHs (vp_in_nI (by omega) (by omega)) dX1_priceOf_8 ?_
  refine V_st (st' := [.ref (qH g 1)]) (by rw [nI_clamp (by omega), (hHf 1 (by decide))]; rfl) ?_
  refine V_astore_n C dX1_priceOf_9 rfl (Nat.le_of_ble_eq_true rfl) [(0, .ref (qN g)), (1, .ref ac), (2, .ref (qH g 1))] [1, 2, 0] rfl ?_
  refine V_aload_n C dX1_priceOf_10 rfl 2 rfl ?_
  refine V_astore_n C dX1_priceOf_11 rfl (Nat.le_of_ble_eq_true rfl) [(0, .ref (qN g)), (1, .ref ac), (2, .ref (qH g 1)), (3, .ref (qH g 1))] [1, 2, 3, 0] rfl ?_
  refine V_aload_n C dX1_priceOf_12 rfl 3 rfl ?_
  refine V_aload_n C dX1_priceOf_13 rfl 2 rfl ?_
  refine V_aload_n C dX1_priceOf_14 rfl 1 rfl ?_
  refine V_pc (pc1 := 15) rfl ?_
  refine V_callO C (c_X5_many_11 l hl G X N0 M g σ z ca C9 hR hI (qH g 1) hH9 ac 1 a i b j n hac (hrw.1.resolve_left (by decide))) cs_X1_201_11 hH9 (show CLS[11]? = some (RX6, TX6, 6) from rfl) rfl rfl ⟨Nat.le_of_ble_eq_true rfl, Nat.le_of_ble_eq_true rfl⟩ ⟨(by first | exact Nat.le_of_ble_eq_true rfl | omega | (dsimp only; omega)), (by first | exact Nat.le_of_ble_eq_true rfl | omega | (dsimp only; omega))⟩ (Nat.le_of_ble_eq_true rfl) dX1_priceOf_15 (fun _ _ _ h => px0 h) ?_
  rintro _ _ ⟨rfl, rfl⟩
  refine V_st (st' := [.int (σ.2.1 3 a.toNatClampNeg), .ref (qH g 1)]) rfl ?_
  refine V_aload_n C dX1_priceOf_18 rfl 0 rfl ?_
  refine V_aload_n C dX1_priceOf_19 rfl 1 rfl ?_
  refine V_callV C (c_X1_weightOf l hl G X N0 M g σ z ca C9 hR hI ac 1 a i b j n hac (by exact Or.inr (hrw.1.resolve_left (by decide)))) cs_X1_205_0 hN (show CLS[0]? = some (RX1, TX1, 17) from rfl) rfl rfl ⟨Nat.le_of_ble_eq_true rfl, Nat.le_of_ble_eq_true rfl⟩ ⟨(by first | exact Nat.le_of_ble_eq_true rfl | omega | (dsimp only; omega)), (by first | exact Nat.le_of_ble_eq_true rfl | omega | (dsimp only; omega))⟩ (Nat.le_of_ble_eq_true rfl) dX1_priceOf_20 (fun _ _ _ h => px0 h) ?_
  rintro _ _ ⟨rfl, rfl⟩
  refine V_st (st' := [.int (if (1 : Int32) = 10 ∨ (1 : Int32) = 11 then 1 else mf_wt (σ.2.1 2 a.toNatClampNeg)), .int (σ.2.1 3 a.toNatClampNeg), .ref (qH g 1)]) rfl ?_
  refine V_callD C (c_X28_price_11 l hl G X N0 M (qH g 1) (qN g) hH9 (σ.2.1 3 a.toNatClampNeg) (if (1 : Int32) = 10 ∨ (1 : Int32) = 11 then 1 else mf_wt (σ.2.1 2 a.toNatClampNeg))) ⟨lw_meth q825, q818, q823, q1830, List.mem_of_getElem? (i := 4) rfl, mh_X28_price⟩ hH9 (show CLS[11]? = some (RX6, TX6, 6) from rfl) rfl rfl ⟨Nat.le_of_ble_eq_true rfl, Nat.le_of_ble_eq_true rfl⟩ ⟨by first | exact Nat.le_of_ble_eq_true rfl | omega | (dsimp only; omega), by first | exact Nat.le_of_ble_eq_true rfl | omega | (dsimp only; omega)⟩ (Nat.le_of_ble_eq_true rfl) dX1_priceOf_23 (fun _ _ _ h => px0 h) ?_
  rintro _ _ ⟨rfl, rfl⟩
  refine V_st (st' := [.int ((3 + mf_some (σ.2.1 3 a.toNatClampNeg)) * (if (1 : Int32) = 10 ∨ (1 : Int32) = 11 then 1 else mf_wt (σ.2.1 2 a.toNatClampNeg)))]) rfl ?_
  refine V_iret C dX1_priceOf_28 rfl ?_ (by first | exact Nat.le_of_ble_eq_true rfl | omega | (dsimp only; omega)) (by first | exact Nat.le_of_ble_eq_true rfl | omega | (dsimp only; omega))
  refine ⟨congrArg (fun z => some (Value.int z)) ?_, rfl⟩
  obtain ⟨rr, hr, rfl⟩ := hI.row (hrw.1.resolve_left (by decide))
  obtain ⟨hlE, hlL⟩ := hI.l hr
  rw [nI_clamp (n := rr) (by have := hI.R.2; omega), hlE, some_nI hlL]
  simp [mf_priceOf, mf_base, mf_many, nI_clamp (n := rr) (show rr < 2 ^ 31 by have := hI.R.2; omega), hlE]
set_option maxHeartbeats 1000000 in
theorem c_X1_priceOf_2 (l : Launch) (hl : l.stackTraces = false) (G : hp_G) (X : Nat → Nat) (N0 : Nat) (M : hp_h) (g : RG) (σ : MS) (z : Nat → Int32) (ca : Int32) (C9 : Nat) (hR : REL G (X 0) g σ z ca C9 M) (hI : MI σ) (ac : Nat) (a i b j n : Int32) (hac : M ac = some (.inr (3, [.int 2, .int a, .int i, .int b, .int j, .int n]))) (hrw : mf_hasRows σ 2 a b) : HM l yX1_priceOf (ws_ yX1_priceOf cX1_priceOf 4 (some .int)) 5 140 0 0 G X N0 [.ref (qN g), .ref ac] M (PV (.int (mf_priceOf σ 2 a b n)) M) PX0 := by
  refine HM.of hl [(0, .ref (qN g)), (1, .ref ac)] (by decide +kernel) rfl (Nat.le_of_ble_eq_true rfl) ?_
  intro p e s m args below meth c C hname
  have hN := hR.N
  obtain ⟨fH, hHs, hHf⟩ := hR.Hs
  have hH9 : M (qH g 2) = some (.inr (12, [.int 1, .ref (qN g), .int 0, .int 10, .ref (qN g), .ref (qN g), .ref (qN g)])) := hR.H (by decide)
  refine V_aload_n C dX1_priceOf_0 rfl 0 rfl ?_
  refine V_get C f_X1_173_0 hN (v := .ref (qHs g)) rfl dX1_priceOf_1 ?_
  refine V_aload_n C dX1_priceOf_4 rfl 1 rfl ?_
  refine V_getN C f_X1_189_3 hac (v := .int 2) rfl dX1_priceOf_5 ?_
  refine V_st (st' := [.int (nI 2), .ref (qHs g)]) (by rw [show 2 = nI 2 from rfl]) ?_
  refine V_aald C (j := 14) rfl rfl hHs (vp_in_nI (by omega) (by omega)) dX1_priceOf_8 ?_
  refine V_st (st' := [.ref (qH g 2)]) (by rw [nI_clamp (by omega), (hHf 2 (by decide))]; rfl) ?_
  refine V_astore_n C dX1_priceOf_9 rfl (Nat.le_of_ble_eq_true rfl) [(0, .ref (qN g)), (1, .ref ac), (2, .ref (qH g 2))] [1, 2, 0] rfl ?_
  refine V_aload_n C dX1_priceOf_10 rfl 2 rfl ?_
  refine V_astore_n C dX1_priceOf_11 rfl (Nat.le_of_ble_eq_true rfl) [(0, .ref (qN g)), (1, .ref ac), (2, .ref (qH g 2)), (3, .ref (qH g 2))] [1, 2, 3, 0] rfl ?_
  refine V_aload_n C dX1_priceOf_12 rfl 3 rfl ?_
  refine V_aload_n C dX1_priceOf_13 rfl 2 rfl ?_
  refine V_aload_n C dX1_priceOf_14 rfl 1 rfl ?_
  refine V_pc (pc1 := 15) rfl ?_
  refine V_callO C (c_X7_many_12 l hl G X N0 M g σ z ca C9 hR hI (qH g 2) hH9 ac 2 a i b j n hac) cs_X1_201_12 hH9 (show CLS[12]? = some (RX8, TX8, 7) from rfl) rfl rfl ⟨Nat.le_of_ble_eq_true rfl, Nat.le_of_ble_eq_true rfl⟩ ⟨(by first | exact Nat.le_of_ble_eq_true rfl | omega | (dsimp only; omega)), (by first | exact Nat.le_of_ble_eq_true rfl | omega | (dsimp only; omega))⟩ (Nat.le_of_ble_eq_true rfl) dX1_priceOf_15 (fun _ _ _ h => px0 h) ?_
  rintro _ _ ⟨rfl, rfl⟩
  refine V_st (st' := [.int n, .ref (qH g 2)]) rfl ?_
  refine V_aload_n C dX1_priceOf_18 rfl 0 rfl ?_
  refine V_aload_n C dX1_priceOf_19 rfl 1 rfl ?_
  refine V_callV C (c_X1_weightOf l hl G X N0 M g σ z ca C9 hR hI ac 2 a i b j n hac (by exact Or.inr (hrw.1.resolve_left (by decide)))) cs_X1_205_0 hN (show CLS[0]? = some (RX1, TX1, 17) from rfl) rfl rfl ⟨Nat.le_of_ble_eq_true rfl, Nat.le_of_ble_eq_true rfl⟩ ⟨(by first | exact Nat.le_of_ble_eq_true rfl | omega | (dsimp only; omega)), (by first | exact Nat.le_of_ble_eq_true rfl | omega | (dsimp only; omega))⟩ (Nat.le_of_ble_eq_true rfl) dX1_priceOf_20 (fun _ _ _ h => px0 h) ?_
  rintro _ _ ⟨rfl, rfl⟩
  refine V_st (st' := [.int (if (2 : Int32) = 10 ∨ (2 : Int32) = 11 then 1 else mf_wt (σ.2.1 2 a.toNatClampNeg)), .int n, .ref (qH g 2)]) rfl ?_
  refine V_callD C (c_X28_price_12 l hl G X N0 M (qH g 2) (qN g) hH9 n (if (2 : Int32) = 10 ∨ (2 : Int32) = 11 then 1 else mf_wt (σ.2.1 2 a.toNatClampNeg))) ⟨lw_meth q825, q818, q823, q1830, List.mem_of_getElem? (i := 5) rfl, mh_X28_price⟩ hH9 (show CLS[12]? = some (RX8, TX8, 7) from rfl) rfl rfl ⟨Nat.le_of_ble_eq_true rfl, Nat.le_of_ble_eq_true rfl⟩ ⟨by first | exact Nat.le_of_ble_eq_true rfl | omega | (dsimp only; omega), by first | exact Nat.le_of_ble_eq_true rfl | omega | (dsimp only; omega)⟩ (Nat.le_of_ble_eq_true rfl) dX1_priceOf_23 (fun _ _ _ h => px0 h) ?_
  rintro _ _ ⟨rfl, rfl⟩
  refine V_st (st' := [.int ((1 + mf_some n) * (if (2 : Int32) = 10 ∨ (2 : Int32) = 11 then 1 else mf_wt (σ.2.1 2 a.toNatClampNeg)))]) rfl ?_
  refine V_iret C dX1_priceOf_28 rfl ?_ (by first | exact Nat.le_of_ble_eq_true rfl | omega | (dsimp only; omega)) (by first | exact Nat.le_of_ble_eq_true rfl | omega | (dsimp only; omega))
  refine ⟨congrArg (fun z => some (Value.int z)) ?_, rfl⟩
  simp [mf_priceOf, mf_base, mf_many]
set_option maxHeartbeats 1000000 in
theorem c_X1_priceOf_3 (l : Launch) (hl : l.stackTraces = false) (G : hp_G) (X : Nat → Nat) (N0 : Nat) (M : hp_h) (g : RG) (σ : MS) (z : Nat → Int32) (ca : Int32) (C9 : Nat) (hR : REL G (X 0) g σ z ca C9 M) (hI : MI σ) (ac : Nat) (a i b j n : Int32) (hac : M ac = some (.inr (3, [.int 3, .int a, .int i, .int b, .int j, .int n]))) (hrw : mf_hasRows σ 3 a b) : HM l yX1_priceOf (ws_ yX1_priceOf cX1_priceOf 4 (some .int)) 5 140 0 0 G X N0 [.ref (qN g), .ref ac] M (PV (.int (mf_priceOf σ 3 a b n)) M) PX0 := by
  refine HM.of hl [(0, .ref (qN g)), (1, .ref ac)] (by decide +kernel) rfl (Nat.le_of_ble_eq_true rfl) ?_
  intro p e s m args below meth c C hname
  have hN := hR.N
  obtain ⟨fH, hHs, hHf⟩ := hR.Hs
  have hH9 : M (qH g 3) = some (.inr (13, [.int 1, .ref (qN g), .int 0, .int 10, .ref (qN g), .ref (qN g), .ref (qN g)])) := hR.H (by decide)
  refine V_aload_n C dX1_priceOf_0 rfl 0 rfl ?_
  refine V_get C f_X1_173_0 hN (v := .ref (qHs g)) rfl dX1_priceOf_1 ?_
  refine V_aload_n C dX1_priceOf_4 rfl 1 rfl ?_
  refine V_getN C f_X1_189_3 hac (v := .int 3) rfl dX1_priceOf_5 ?_
  refine V_st (st' := [.int (nI 3), .ref (qHs g)]) (by rw [show 3 = nI 3 from rfl]) ?_
  refine V_aald C (j := 14) rfl rfl hHs (vp_in_nI (by omega) (by omega)) dX1_priceOf_8 ?_
  refine V_st (st' := [.ref (qH g 3)]) (by rw [nI_clamp (by omega), (hHf 3 (by decide))]; rfl) ?_
  refine V_astore_n C dX1_priceOf_9 rfl (Nat.le_of_ble_eq_true rfl) [(0, .ref (qN g)), (1, .ref ac), (2, .ref (qH g 3))] [1, 2, 0] rfl ?_
  refine V_aload_n C dX1_priceOf_10 rfl 2 rfl ?_
  refine V_astore_n C dX1_priceOf_11 rfl (Nat.le_of_ble_eq_true rfl) [(0, .ref (qN g)), (1, .ref ac), (2, .ref (qH g 3)), (3, .ref (qH g 3))] [1, 2, 3, 0] rfl ?_
  refine V_aload_n C dX1_priceOf_12 rfl 3 rfl ?_
  refine V_aload_n C dX1_priceOf_13 rfl 2 rfl ?_
  refine V_aload_n C dX1_priceOf_14 rfl 1 rfl ?_
  refine V_pc (pc1 := 15) rfl ?_
  refine V_callO C (c_X9_many_13 l hl G X N0 M g σ z ca C9 hR hI (qH g 3) hH9 ac 3 a i b j n hac (hrw.1.resolve_left (by decide)) (hrw.2.resolve_left (by decide))) cs_X1_201_13 hH9 (show CLS[13]? = some (RX10, TX10, 7) from rfl) rfl rfl ⟨Nat.le_of_ble_eq_true rfl, Nat.le_of_ble_eq_true rfl⟩ ⟨(by first | exact Nat.le_of_ble_eq_true rfl | omega | (dsimp only; omega)), (by first | exact Nat.le_of_ble_eq_true rfl | omega | (dsimp only; omega))⟩ (Nat.le_of_ble_eq_true rfl) dX1_priceOf_15 (fun _ _ _ h => px0 h) ?_
  rintro _ _ ⟨rfl, rfl⟩
  refine V_st (st' := [.int (if σ.2.1 3 a.toNatClampNeg < σ.2.1 3 b.toNatClampNeg then σ.2.1 3 a.toNatClampNeg else σ.2.1 3 b.toNatClampNeg), .ref (qH g 3)]) rfl ?_
  refine V_aload_n C dX1_priceOf_18 rfl 0 rfl ?_
  refine V_aload_n C dX1_priceOf_19 rfl 1 rfl ?_
  refine V_callV C (c_X1_weightOf l hl G X N0 M g σ z ca C9 hR hI ac 3 a i b j n hac (by exact Or.inr (hrw.1.resolve_left (by decide)))) cs_X1_205_0 hN (show CLS[0]? = some (RX1, TX1, 17) from rfl) rfl rfl ⟨Nat.le_of_ble_eq_true rfl, Nat.le_of_ble_eq_true rfl⟩ ⟨(by first | exact Nat.le_of_ble_eq_true rfl | omega | (dsimp only; omega)), (by first | exact Nat.le_of_ble_eq_true rfl | omega | (dsimp only; omega))⟩ (Nat.le_of_ble_eq_true rfl) dX1_priceOf_20 (fun _ _ _ h => px0 h) ?_
  rintro _ _ ⟨rfl, rfl⟩
  refine V_st (st' := [.int (if (3 : Int32) = 10 ∨ (3 : Int32) = 11 then 1 else mf_wt (σ.2.1 2 a.toNatClampNeg)), .int (if σ.2.1 3 a.toNatClampNeg < σ.2.1 3 b.toNatClampNeg then σ.2.1 3 a.toNatClampNeg else σ.2.1 3 b.toNatClampNeg), .ref (qH g 3)]) rfl ?_
  refine V_callD C (c_X28_price_13 l hl G X N0 M (qH g 3) (qN g) hH9 (if σ.2.1 3 a.toNatClampNeg < σ.2.1 3 b.toNatClampNeg then σ.2.1 3 a.toNatClampNeg else σ.2.1 3 b.toNatClampNeg) (if (3 : Int32) = 10 ∨ (3 : Int32) = 11 then 1 else mf_wt (σ.2.1 2 a.toNatClampNeg))) ⟨lw_meth q825, q818, q823, q1830, List.mem_of_getElem? (i := 6) rfl, mh_X28_price⟩ hH9 (show CLS[13]? = some (RX10, TX10, 7) from rfl) rfl rfl ⟨Nat.le_of_ble_eq_true rfl, Nat.le_of_ble_eq_true rfl⟩ ⟨by first | exact Nat.le_of_ble_eq_true rfl | omega | (dsimp only; omega), by first | exact Nat.le_of_ble_eq_true rfl | omega | (dsimp only; omega)⟩ (Nat.le_of_ble_eq_true rfl) dX1_priceOf_23 (fun _ _ _ h => px0 h) ?_
  rintro _ _ ⟨rfl, rfl⟩
  refine V_st (st' := [.int ((1 + mf_some (if σ.2.1 3 a.toNatClampNeg < σ.2.1 3 b.toNatClampNeg then σ.2.1 3 a.toNatClampNeg else σ.2.1 3 b.toNatClampNeg)) * (if (3 : Int32) = 10 ∨ (3 : Int32) = 11 then 1 else mf_wt (σ.2.1 2 a.toNatClampNeg)))]) rfl ?_
  refine V_iret C dX1_priceOf_28 rfl ?_ (by first | exact Nat.le_of_ble_eq_true rfl | omega | (dsimp only; omega)) (by first | exact Nat.le_of_ble_eq_true rfl | omega | (dsimp only; omega))
  refine ⟨congrArg (fun z => some (Value.int z)) ?_, rfl⟩
  obtain ⟨rr, hr, rfl⟩ := hI.row (hrw.1.resolve_left (by decide))
  obtain ⟨hlE, hlL⟩ := hI.l hr
  obtain ⟨rs, hs, rfl⟩ := hI.row (hrw.2.resolve_left (by decide))
  obtain ⟨hmE, hmL⟩ := hI.l hs
  simp only [nI_clamp (n := rr) (show rr < 2 ^ 31 by have := hI.R.2; omega), nI_clamp (n := rs) (show rs < 2 ^ 31 by have := hI.R.2; omega), hlE, hmE]
  rw [some_ite hlL hmL]
  simp [mf_priceOf, mf_base, mf_many, nI_clamp (n := rr) (show rr < 2 ^ 31 by have := hI.R.2; omega), nI_clamp (n := rs) (show rs < 2 ^ 31 by have := hI.R.2; omega), hlE, hmE]
set_option maxHeartbeats 1000000 in
theorem c_X1_priceOf_4 (l : Launch) (hl : l.stackTraces = false) (G : hp_G) (X : Nat → Nat) (N0 : Nat) (M : hp_h) (g : RG) (σ : MS) (z : Nat → Int32) (ca : Int32) (C9 : Nat) (hR : REL G (X 0) g σ z ca C9 M) (hI : MI σ) (ac : Nat) (a i b j n : Int32) (hac : M ac = some (.inr (3, [.int 4, .int a, .int i, .int b, .int j, .int n]))) (hrw : mf_hasRows σ 4 a b) : HM l yX1_priceOf (ws_ yX1_priceOf cX1_priceOf 4 (some .int)) 5 140 0 0 G X N0 [.ref (qN g), .ref ac] M (PV (.int (mf_priceOf σ 4 a b n)) M) PX0 := by
  refine HM.of hl [(0, .ref (qN g)), (1, .ref ac)] (by decide +kernel) rfl (Nat.le_of_ble_eq_true rfl) ?_
  intro p e s m args below meth c C hname
  have hN := hR.N
  obtain ⟨fH, hHs, hHf⟩ := hR.Hs
  have hH9 : M (qH g 4) = some (.inr (14, [.int 1, .ref (qN g), .int 1, .int 7, .ref (qN g), .ref (qN g), .ref (qN g)])) := hR.H (by decide)
  refine V_aload_n C dX1_priceOf_0 rfl 0 rfl ?_
  refine V_get C f_X1_173_0 hN (v := .ref (qHs g)) rfl dX1_priceOf_1 ?_
  refine V_aload_n C dX1_priceOf_4 rfl 1 rfl ?_
  refine V_getN C f_X1_189_3 hac (v := .int 4) rfl dX1_priceOf_5 ?_
  refine V_st (st' := [.int (nI 4), .ref (qHs g)]) (by rw [show 4 = nI 4 from rfl]) ?_
  refine V_aald C (j := 14) rfl rfl hHs (vp_in_nI (by omega) (by omega)) dX1_priceOf_8 ?_
  refine V_st (st' := [.ref (qH g 4)]) (by rw [nI_clamp (by omega), (hHf 4 (by decide))]; rfl) ?_
  refine V_astore_n C dX1_priceOf_9 rfl (Nat.le_of_ble_eq_true rfl) [(0, .ref (qN g)), (1, .ref ac), (2, .ref (qH g 4))] [1, 2, 0] rfl ?_
  refine V_aload_n C dX1_priceOf_10 rfl 2 rfl ?_
  refine V_astore_n C dX1_priceOf_11 rfl (Nat.le_of_ble_eq_true rfl) [(0, .ref (qN g)), (1, .ref ac), (2, .ref (qH g 4)), (3, .ref (qH g 4))] [1, 2, 3, 0] rfl ?_
  refine V_aload_n C dX1_priceOf_12 rfl 3 rfl ?_
  refine V_aload_n C dX1_priceOf_13 rfl 2 rfl ?_
  refine V_aload_n C dX1_priceOf_14 rfl 1 rfl ?_
  refine V_pc (pc1 := 15) rfl ?_
  refine V_callO C (c_X9_many_14 l hl G X N0 M g σ z ca C9 hR hI (qH g 4) hH9 ac 4 a i b j n hac (hrw.1.resolve_left (by decide)) (hrw.2.resolve_left (by decide))) cs_X1_201_14 hH9 (show CLS[14]? = some (RX11, TX11, 7) from rfl) rfl rfl ⟨Nat.le_of_ble_eq_true rfl, Nat.le_of_ble_eq_true rfl⟩ ⟨(by first | exact Nat.le_of_ble_eq_true rfl | omega | (dsimp only; omega)), (by first | exact Nat.le_of_ble_eq_true rfl | omega | (dsimp only; omega))⟩ (Nat.le_of_ble_eq_true rfl) dX1_priceOf_15 (fun _ _ _ h => px0 h) ?_
  rintro _ _ ⟨rfl, rfl⟩
  refine V_st (st' := [.int (if σ.2.1 3 a.toNatClampNeg < σ.2.1 3 b.toNatClampNeg then σ.2.1 3 a.toNatClampNeg else σ.2.1 3 b.toNatClampNeg), .ref (qH g 4)]) rfl ?_
  refine V_aload_n C dX1_priceOf_18 rfl 0 rfl ?_
  refine V_aload_n C dX1_priceOf_19 rfl 1 rfl ?_
  refine V_callV C (c_X1_weightOf l hl G X N0 M g σ z ca C9 hR hI ac 4 a i b j n hac (by exact Or.inr (hrw.1.resolve_left (by decide)))) cs_X1_205_0 hN (show CLS[0]? = some (RX1, TX1, 17) from rfl) rfl rfl ⟨Nat.le_of_ble_eq_true rfl, Nat.le_of_ble_eq_true rfl⟩ ⟨(by first | exact Nat.le_of_ble_eq_true rfl | omega | (dsimp only; omega)), (by first | exact Nat.le_of_ble_eq_true rfl | omega | (dsimp only; omega))⟩ (Nat.le_of_ble_eq_true rfl) dX1_priceOf_20 (fun _ _ _ h => px0 h) ?_
  rintro _ _ ⟨rfl, rfl⟩
  refine V_st (st' := [.int (if (4 : Int32) = 10 ∨ (4 : Int32) = 11 then 1 else mf_wt (σ.2.1 2 a.toNatClampNeg)), .int (if σ.2.1 3 a.toNatClampNeg < σ.2.1 3 b.toNatClampNeg then σ.2.1 3 a.toNatClampNeg else σ.2.1 3 b.toNatClampNeg), .ref (qH g 4)]) rfl ?_
  refine V_callD C (c_X28_price_14 l hl G X N0 M (qH g 4) (qN g) hH9 (if σ.2.1 3 a.toNatClampNeg < σ.2.1 3 b.toNatClampNeg then σ.2.1 3 a.toNatClampNeg else σ.2.1 3 b.toNatClampNeg) (if (4 : Int32) = 10 ∨ (4 : Int32) = 11 then 1 else mf_wt (σ.2.1 2 a.toNatClampNeg))) ⟨lw_meth q825, q818, q823, q1830, List.mem_of_getElem? (i := 7) rfl, mh_X28_price⟩ hH9 (show CLS[14]? = some (RX11, TX11, 7) from rfl) rfl rfl ⟨Nat.le_of_ble_eq_true rfl, Nat.le_of_ble_eq_true rfl⟩ ⟨by first | exact Nat.le_of_ble_eq_true rfl | omega | (dsimp only; omega), by first | exact Nat.le_of_ble_eq_true rfl | omega | (dsimp only; omega)⟩ (Nat.le_of_ble_eq_true rfl) dX1_priceOf_23 (fun _ _ _ h => px0 h) ?_
  rintro _ _ ⟨rfl, rfl⟩
  refine V_st (st' := [.int ((1 + mf_some (if σ.2.1 3 a.toNatClampNeg < σ.2.1 3 b.toNatClampNeg then σ.2.1 3 a.toNatClampNeg else σ.2.1 3 b.toNatClampNeg)) * (if (4 : Int32) = 10 ∨ (4 : Int32) = 11 then 1 else mf_wt (σ.2.1 2 a.toNatClampNeg)))]) rfl ?_
  refine V_iret C dX1_priceOf_28 rfl ?_ (by first | exact Nat.le_of_ble_eq_true rfl | omega | (dsimp only; omega)) (by first | exact Nat.le_of_ble_eq_true rfl | omega | (dsimp only; omega))
  refine ⟨congrArg (fun z => some (Value.int z)) ?_, rfl⟩
  obtain ⟨rr, hr, rfl⟩ := hI.row (hrw.1.resolve_left (by decide))
  obtain ⟨hlE, hlL⟩ := hI.l hr
  obtain ⟨rs, hs, rfl⟩ := hI.row (hrw.2.resolve_left (by decide))
  obtain ⟨hmE, hmL⟩ := hI.l hs
  simp only [nI_clamp (n := rr) (show rr < 2 ^ 31 by have := hI.R.2; omega), nI_clamp (n := rs) (show rs < 2 ^ 31 by have := hI.R.2; omega), hlE, hmE]
  rw [some_ite hlL hmL]
  simp [mf_priceOf, mf_base, mf_many, nI_clamp (n := rr) (show rr < 2 ^ 31 by have := hI.R.2; omega), nI_clamp (n := rs) (show rs < 2 ^ 31 by have := hI.R.2; omega), hlE, hmE]
set_option maxHeartbeats 1000000 in
theorem c_X1_priceOf_5 (l : Launch) (hl : l.stackTraces = false) (G : hp_G) (X : Nat → Nat) (N0 : Nat) (M : hp_h) (g : RG) (σ : MS) (z : Nat → Int32) (ca : Int32) (C9 : Nat) (hR : REL G (X 0) g σ z ca C9 M) (hI : MI σ) (ac : Nat) (a i b j n : Int32) (hac : M ac = some (.inr (3, [.int 5, .int a, .int i, .int b, .int j, .int n]))) (hrw : mf_hasRows σ 5 a b) : HM l yX1_priceOf (ws_ yX1_priceOf cX1_priceOf 4 (some .int)) 5 140 0 0 G X N0 [.ref (qN g), .ref ac] M (PV (.int (mf_priceOf σ 5 a b n)) M) PX0 := by
  refine HM.of hl [(0, .ref (qN g)), (1, .ref ac)] (by decide +kernel) rfl (Nat.le_of_ble_eq_true rfl) ?_
  intro p e s m args below meth c C hname
  have hN := hR.N
  obtain ⟨fH, hHs, hHf⟩ := hR.Hs
  have hH9 : M (qH g 5) = some (.inr (15, [.int 1, .ref (qN g), .int 0, .int 10, .ref (qN g), .ref (qN g)])) := hR.H (by decide)
  refine V_aload_n C dX1_priceOf_0 rfl 0 rfl ?_
  refine V_get C f_X1_173_0 hN (v := .ref (qHs g)) rfl dX1_priceOf_1 ?_
  refine V_aload_n C dX1_priceOf_4 rfl 1 rfl ?_
  refine V_getN C f_X1_189_3 hac (v := .int 5) rfl dX1_priceOf_5 ?_
  refine V_st (st' := [.int (nI 5), .ref (qHs g)]) (by rw [show 5 = nI 5 from rfl]) ?_
  refine V_aald C (j := 14) rfl rfl hHs (vp_in_nI (by omega) (by omega)) dX1_priceOf_8 ?_
  refine V_st (st' := [.ref (qH g 5)]) (by rw [nI_clamp (by omega), (hHf 5 (by decide))]; rfl) ?_
  refine V_astore_n C dX1_priceOf_9 rfl (Nat.le_of_ble_eq_true rfl) [(0, .ref (qN g)), (1, .ref ac), (2, .ref (qH g 5))] [1, 2, 0] rfl ?_
  refine V_aload_n C dX1_priceOf_10 rfl 2 rfl ?_
  refine V_astore_n C dX1_priceOf_11 rfl (Nat.le_of_ble_eq_true rfl) [(0, .ref (qN g)), (1, .ref ac), (2, .ref (qH g 5)), (3, .ref (qH g 5))] [1, 2, 3, 0] rfl ?_
  refine V_aload_n C dX1_priceOf_12 rfl 3 rfl ?_
  refine V_aload_n C dX1_priceOf_13 rfl 2 rfl ?_
  refine V_aload_n C dX1_priceOf_14 rfl 1 rfl ?_
  refine V_pc (pc1 := 15) rfl ?_
  refine V_callO C (c_X5_many_15 l hl G X N0 M g σ z ca C9 hR hI (qH g 5) hH9 ac 5 a i b j n hac (hrw.1.resolve_left (by decide))) cs_X1_201_15 hH9 (show CLS[15]? = some (RX12, TX12, 6) from rfl) rfl rfl ⟨Nat.le_of_ble_eq_true rfl, Nat.le_of_ble_eq_true rfl⟩ ⟨(by first | exact Nat.le_of_ble_eq_true rfl | omega | (dsimp only; omega)), (by first | exact Nat.le_of_ble_eq_true rfl | omega | (dsimp only; omega))⟩ (Nat.le_of_ble_eq_true rfl) dX1_priceOf_15 (fun _ _ _ h => px0 h) ?_
  rintro _ _ ⟨rfl, rfl⟩
  refine V_st (st' := [.int (σ.2.1 3 a.toNatClampNeg), .ref (qH g 5)]) rfl ?_
  refine V_aload_n C dX1_priceOf_18 rfl 0 rfl ?_
  refine V_aload_n C dX1_priceOf_19 rfl 1 rfl ?_
  refine V_callV C (c_X1_weightOf l hl G X N0 M g σ z ca C9 hR hI ac 5 a i b j n hac (by exact Or.inr (hrw.1.resolve_left (by decide)))) cs_X1_205_0 hN (show CLS[0]? = some (RX1, TX1, 17) from rfl) rfl rfl ⟨Nat.le_of_ble_eq_true rfl, Nat.le_of_ble_eq_true rfl⟩ ⟨(by first | exact Nat.le_of_ble_eq_true rfl | omega | (dsimp only; omega)), (by first | exact Nat.le_of_ble_eq_true rfl | omega | (dsimp only; omega))⟩ (Nat.le_of_ble_eq_true rfl) dX1_priceOf_20 (fun _ _ _ h => px0 h) ?_
  rintro _ _ ⟨rfl, rfl⟩
  refine V_st (st' := [.int (if (5 : Int32) = 10 ∨ (5 : Int32) = 11 then 1 else mf_wt (σ.2.1 2 a.toNatClampNeg)), .int (σ.2.1 3 a.toNatClampNeg), .ref (qH g 5)]) rfl ?_
  refine V_callD C (c_X28_price_15 l hl G X N0 M (qH g 5) (qN g) hH9 (σ.2.1 3 a.toNatClampNeg) (if (5 : Int32) = 10 ∨ (5 : Int32) = 11 then 1 else mf_wt (σ.2.1 2 a.toNatClampNeg))) ⟨lw_meth q825, q818, q823, q1830, List.mem_of_getElem? (i := 8) rfl, mh_X28_price⟩ hH9 (show CLS[15]? = some (RX12, TX12, 6) from rfl) rfl rfl ⟨Nat.le_of_ble_eq_true rfl, Nat.le_of_ble_eq_true rfl⟩ ⟨by first | exact Nat.le_of_ble_eq_true rfl | omega | (dsimp only; omega), by first | exact Nat.le_of_ble_eq_true rfl | omega | (dsimp only; omega)⟩ (Nat.le_of_ble_eq_true rfl) dX1_priceOf_23 (fun _ _ _ h => px0 h) ?_
  rintro _ _ ⟨rfl, rfl⟩
  refine V_st (st' := [.int ((1 + mf_some (σ.2.1 3 a.toNatClampNeg)) * (if (5 : Int32) = 10 ∨ (5 : Int32) = 11 then 1 else mf_wt (σ.2.1 2 a.toNatClampNeg)))]) rfl ?_
  refine V_iret C dX1_priceOf_28 rfl ?_ (by first | exact Nat.le_of_ble_eq_true rfl | omega | (dsimp only; omega)) (by first | exact Nat.le_of_ble_eq_true rfl | omega | (dsimp only; omega))
  refine ⟨congrArg (fun z => some (Value.int z)) ?_, rfl⟩
  obtain ⟨rr, hr, rfl⟩ := hI.row (hrw.1.resolve_left (by decide))
  obtain ⟨hlE, hlL⟩ := hI.l hr
  rw [nI_clamp (n := rr) (by have := hI.R.2; omega), hlE, some_nI hlL]
  simp [mf_priceOf, mf_base, mf_many, nI_clamp (n := rr) (show rr < 2 ^ 31 by have := hI.R.2; omega), hlE]
set_option maxHeartbeats 1000000 in
theorem c_X1_priceOf_6 (l : Launch) (hl : l.stackTraces = false) (G : hp_G) (X : Nat → Nat) (N0 : Nat) (M : hp_h) (g : RG) (σ : MS) (z : Nat → Int32) (ca : Int32) (C9 : Nat) (hR : REL G (X 0) g σ z ca C9 M) (hI : MI σ) (ac : Nat) (a i b j n : Int32) (hac : M ac = some (.inr (3, [.int 6, .int a, .int i, .int b, .int j, .int n]))) (hrw : mf_hasRows σ 6 a b) : HM l yX1_priceOf (ws_ yX1_priceOf cX1_priceOf 4 (some .int)) 5 140 0 0 G X N0 [.ref (qN g), .ref ac] M (PV (.int (mf_priceOf σ 6 a b n)) M) PX0 := by
  refine HM.of hl [(0, .ref (qN g)), (1, .ref ac)] (by decide +kernel) rfl (Nat.le_of_ble_eq_true rfl) ?_
  intro p e s m args below meth c C hname
  have hN := hR.N
  obtain ⟨fH, hHs, hHf⟩ := hR.Hs
  have hH9 : M (qH g 6) = some (.inr (16, [.int 1, .ref (qN g), .int 1, .int 7, .ref (qN g), .ref (qN g)])) := hR.H (by decide)
  refine V_aload_n C dX1_priceOf_0 rfl 0 rfl ?_
  refine V_get C f_X1_173_0 hN (v := .ref (qHs g)) rfl dX1_priceOf_1 ?_
  refine V_aload_n C dX1_priceOf_4 rfl 1 rfl ?_
  refine V_getN C f_X1_189_3 hac (v := .int 6) rfl dX1_priceOf_5 ?_
  refine V_st (st' := [.int (nI 6), .ref (qHs g)]) (by rw [show 6 = nI 6 from rfl]) ?_
  refine V_aald C (j := 14) rfl rfl hHs (vp_in_nI (by omega) (by omega)) dX1_priceOf_8 ?_
  refine V_st (st' := [.ref (qH g 6)]) (by rw [nI_clamp (by omega), (hHf 6 (by decide))]; rfl) ?_
  refine V_astore_n C dX1_priceOf_9 rfl (Nat.le_of_ble_eq_true rfl) [(0, .ref (qN g)), (1, .ref ac), (2, .ref (qH g 6))] [1, 2, 0] rfl ?_
  refine V_aload_n C dX1_priceOf_10 rfl 2 rfl ?_
  refine V_astore_n C dX1_priceOf_11 rfl (Nat.le_of_ble_eq_true rfl) [(0, .ref (qN g)), (1, .ref ac), (2, .ref (qH g 6)), (3, .ref (qH g 6))] [1, 2, 3, 0] rfl ?_
  refine V_aload_n C dX1_priceOf_12 rfl 3 rfl ?_
  refine V_aload_n C dX1_priceOf_13 rfl 2 rfl ?_
  refine V_aload_n C dX1_priceOf_14 rfl 1 rfl ?_
  refine V_pc (pc1 := 15) rfl ?_
  refine V_callO C (c_X5_many_16 l hl G X N0 M g σ z ca C9 hR hI (qH g 6) hH9 ac 6 a i b j n hac (hrw.1.resolve_left (by decide))) cs_X1_201_16 hH9 (show CLS[16]? = some (RX13, TX13, 6) from rfl) rfl rfl ⟨Nat.le_of_ble_eq_true rfl, Nat.le_of_ble_eq_true rfl⟩ ⟨(by first | exact Nat.le_of_ble_eq_true rfl | omega | (dsimp only; omega)), (by first | exact Nat.le_of_ble_eq_true rfl | omega | (dsimp only; omega))⟩ (Nat.le_of_ble_eq_true rfl) dX1_priceOf_15 (fun _ _ _ h => px0 h) ?_
  rintro _ _ ⟨rfl, rfl⟩
  refine V_st (st' := [.int (σ.2.1 3 a.toNatClampNeg), .ref (qH g 6)]) rfl ?_
  refine V_aload_n C dX1_priceOf_18 rfl 0 rfl ?_
  refine V_aload_n C dX1_priceOf_19 rfl 1 rfl ?_
  refine V_callV C (c_X1_weightOf l hl G X N0 M g σ z ca C9 hR hI ac 6 a i b j n hac (by exact Or.inr (hrw.1.resolve_left (by decide)))) cs_X1_205_0 hN (show CLS[0]? = some (RX1, TX1, 17) from rfl) rfl rfl ⟨Nat.le_of_ble_eq_true rfl, Nat.le_of_ble_eq_true rfl⟩ ⟨(by first | exact Nat.le_of_ble_eq_true rfl | omega | (dsimp only; omega)), (by first | exact Nat.le_of_ble_eq_true rfl | omega | (dsimp only; omega))⟩ (Nat.le_of_ble_eq_true rfl) dX1_priceOf_20 (fun _ _ _ h => px0 h) ?_
  rintro _ _ ⟨rfl, rfl⟩
  refine V_st (st' := [.int (if (6 : Int32) = 10 ∨ (6 : Int32) = 11 then 1 else mf_wt (σ.2.1 2 a.toNatClampNeg)), .int (σ.2.1 3 a.toNatClampNeg), .ref (qH g 6)]) rfl ?_
  refine V_callD C (c_X28_price_16 l hl G X N0 M (qH g 6) (qN g) hH9 (σ.2.1 3 a.toNatClampNeg) (if (6 : Int32) = 10 ∨ (6 : Int32) = 11 then 1 else mf_wt (σ.2.1 2 a.toNatClampNeg))) ⟨lw_meth q825, q818, q823, q1830, List.mem_of_getElem? (i := 9) rfl, mh_X28_price⟩ hH9 (show CLS[16]? = some (RX13, TX13, 6) from rfl) rfl rfl ⟨Nat.le_of_ble_eq_true rfl, Nat.le_of_ble_eq_true rfl⟩ ⟨by first | exact Nat.le_of_ble_eq_true rfl | omega | (dsimp only; omega), by first | exact Nat.le_of_ble_eq_true rfl | omega | (dsimp only; omega)⟩ (Nat.le_of_ble_eq_true rfl) dX1_priceOf_23 (fun _ _ _ h => px0 h) ?_
  rintro _ _ ⟨rfl, rfl⟩
  refine V_st (st' := [.int ((1 + mf_some (σ.2.1 3 a.toNatClampNeg)) * (if (6 : Int32) = 10 ∨ (6 : Int32) = 11 then 1 else mf_wt (σ.2.1 2 a.toNatClampNeg)))]) rfl ?_
  refine V_iret C dX1_priceOf_28 rfl ?_ (by first | exact Nat.le_of_ble_eq_true rfl | omega | (dsimp only; omega)) (by first | exact Nat.le_of_ble_eq_true rfl | omega | (dsimp only; omega))
  refine ⟨congrArg (fun z => some (Value.int z)) ?_, rfl⟩
  obtain ⟨rr, hr, rfl⟩ := hI.row (hrw.1.resolve_left (by decide))
  obtain ⟨hlE, hlL⟩ := hI.l hr
  rw [nI_clamp (n := rr) (by have := hI.R.2; omega), hlE, some_nI hlL]
  simp [mf_priceOf, mf_base, mf_many, nI_clamp (n := rr) (show rr < 2 ^ 31 by have := hI.R.2; omega), hlE]
set_option maxHeartbeats 1000000 in
theorem c_X1_priceOf_7 (l : Launch) (hl : l.stackTraces = false) (G : hp_G) (X : Nat → Nat) (N0 : Nat) (M : hp_h) (g : RG) (σ : MS) (z : Nat → Int32) (ca : Int32) (C9 : Nat) (hR : REL G (X 0) g σ z ca C9 M) (hI : MI σ) (ac : Nat) (a i b j n : Int32) (hac : M ac = some (.inr (3, [.int 7, .int a, .int i, .int b, .int j, .int n]))) (hrw : mf_hasRows σ 7 a b) : HM l yX1_priceOf (ws_ yX1_priceOf cX1_priceOf 4 (some .int)) 5 140 0 0 G X N0 [.ref (qN g), .ref ac] M (PV (.int (mf_priceOf σ 7 a b n)) M) PX0 := by
  refine HM.of hl [(0, .ref (qN g)), (1, .ref ac)] (by decide +kernel) rfl (Nat.le_of_ble_eq_true rfl) ?_
  intro p e s m args below meth c C hname
  have hN := hR.N
  obtain ⟨fH, hHs, hHf⟩ := hR.Hs
  have hH9 : M (qH g 7) = some (.inr (17, [.int 1, .ref (qN g), .int 0, .int 10, .ref (qN g), .ref (qN g), .ref (qN g)])) := hR.H (by decide)
  refine V_aload_n C dX1_priceOf_0 rfl 0 rfl ?_
  refine V_get C f_X1_173_0 hN (v := .ref (qHs g)) rfl dX1_priceOf_1 ?_
  refine V_aload_n C dX1_priceOf_4 rfl 1 rfl ?_
  refine V_getN C f_X1_189_3 hac (v := .int 7) rfl dX1_priceOf_5 ?_
  refine V_st (st' := [.int (nI 7), .ref (qHs g)]) (by rw [show 7 = nI 7 from rfl]) ?_
  refine V_aald C (j := 14) rfl rfl hHs (vp_in_nI (by omega) (by omega)) dX1_priceOf_8 ?_
  refine V_st (st' := [.ref (qH g 7)]) (by rw [nI_clamp (by omega), (hHf 7 (by decide))]; rfl) ?_
  refine V_astore_n C dX1_priceOf_9 rfl (Nat.le_of_ble_eq_true rfl) [(0, .ref (qN g)), (1, .ref ac), (2, .ref (qH g 7))] [1, 2, 0] rfl ?_
  refine V_aload_n C dX1_priceOf_10 rfl 2 rfl ?_
  refine V_astore_n C dX1_priceOf_11 rfl (Nat.le_of_ble_eq_true rfl) [(0, .ref (qN g)), (1, .ref ac), (2, .ref (qH g 7)), (3, .ref (qH g 7))] [1, 2, 3, 0] rfl ?_
  refine V_aload_n C dX1_priceOf_12 rfl 3 rfl ?_
  refine V_aload_n C dX1_priceOf_13 rfl 2 rfl ?_
  refine V_aload_n C dX1_priceOf_14 rfl 1 rfl ?_
  refine V_pc (pc1 := 15) rfl ?_
  refine V_callO C (c_X7_many_17 l hl G X N0 M g σ z ca C9 hR hI (qH g 7) hH9 ac 7 a i b j n hac) cs_X1_201_17 hH9 (show CLS[17]? = some (RX14, TX14, 7) from rfl) rfl rfl ⟨Nat.le_of_ble_eq_true rfl, Nat.le_of_ble_eq_true rfl⟩ ⟨(by first | exact Nat.le_of_ble_eq_true rfl | omega | (dsimp only; omega)), (by first | exact Nat.le_of_ble_eq_true rfl | omega | (dsimp only; omega))⟩ (Nat.le_of_ble_eq_true rfl) dX1_priceOf_15 (fun _ _ _ h => px0 h) ?_
  rintro _ _ ⟨rfl, rfl⟩
  refine V_st (st' := [.int n, .ref (qH g 7)]) rfl ?_
  refine V_aload_n C dX1_priceOf_18 rfl 0 rfl ?_
  refine V_aload_n C dX1_priceOf_19 rfl 1 rfl ?_
  refine V_callV C (c_X1_weightOf l hl G X N0 M g σ z ca C9 hR hI ac 7 a i b j n hac (by exact Or.inr (hrw.1.resolve_left (by decide)))) cs_X1_205_0 hN (show CLS[0]? = some (RX1, TX1, 17) from rfl) rfl rfl ⟨Nat.le_of_ble_eq_true rfl, Nat.le_of_ble_eq_true rfl⟩ ⟨(by first | exact Nat.le_of_ble_eq_true rfl | omega | (dsimp only; omega)), (by first | exact Nat.le_of_ble_eq_true rfl | omega | (dsimp only; omega))⟩ (Nat.le_of_ble_eq_true rfl) dX1_priceOf_20 (fun _ _ _ h => px0 h) ?_
  rintro _ _ ⟨rfl, rfl⟩
  refine V_st (st' := [.int (if (7 : Int32) = 10 ∨ (7 : Int32) = 11 then 1 else mf_wt (σ.2.1 2 a.toNatClampNeg)), .int n, .ref (qH g 7)]) rfl ?_
  refine V_callD C (c_X28_price_17 l hl G X N0 M (qH g 7) (qN g) hH9 n (if (7 : Int32) = 10 ∨ (7 : Int32) = 11 then 1 else mf_wt (σ.2.1 2 a.toNatClampNeg))) ⟨lw_meth q825, q818, q823, q1830, List.mem_of_getElem? (i := 10) rfl, mh_X28_price⟩ hH9 (show CLS[17]? = some (RX14, TX14, 7) from rfl) rfl rfl ⟨Nat.le_of_ble_eq_true rfl, Nat.le_of_ble_eq_true rfl⟩ ⟨by first | exact Nat.le_of_ble_eq_true rfl | omega | (dsimp only; omega), by first | exact Nat.le_of_ble_eq_true rfl | omega | (dsimp only; omega)⟩ (Nat.le_of_ble_eq_true rfl) dX1_priceOf_23 (fun _ _ _ h => px0 h) ?_
  rintro _ _ ⟨rfl, rfl⟩
  refine V_st (st' := [.int ((1 + mf_some n) * (if (7 : Int32) = 10 ∨ (7 : Int32) = 11 then 1 else mf_wt (σ.2.1 2 a.toNatClampNeg)))]) rfl ?_
  refine V_iret C dX1_priceOf_28 rfl ?_ (by first | exact Nat.le_of_ble_eq_true rfl | omega | (dsimp only; omega)) (by first | exact Nat.le_of_ble_eq_true rfl | omega | (dsimp only; omega))
  refine ⟨congrArg (fun z => some (Value.int z)) ?_, rfl⟩
  simp [mf_priceOf, mf_base, mf_many]
set_option maxHeartbeats 1000000 in
theorem c_X1_priceOf_8 (l : Launch) (hl : l.stackTraces = false) (G : hp_G) (X : Nat → Nat) (N0 : Nat) (M : hp_h) (g : RG) (σ : MS) (z : Nat → Int32) (ca : Int32) (C9 : Nat) (hR : REL G (X 0) g σ z ca C9 M) (hI : MI σ) (ac : Nat) (a i b j n : Int32) (hac : M ac = some (.inr (3, [.int 8, .int a, .int i, .int b, .int j, .int n]))) (hrw : mf_hasRows σ 8 a b) : HM l yX1_priceOf (ws_ yX1_priceOf cX1_priceOf 4 (some .int)) 5 140 0 0 G X N0 [.ref (qN g), .ref ac] M (PV (.int (mf_priceOf σ 8 a b n)) M) PX0 := by
  refine HM.of hl [(0, .ref (qN g)), (1, .ref ac)] (by decide +kernel) rfl (Nat.le_of_ble_eq_true rfl) ?_
  intro p e s m args below meth c C hname
  have hN := hR.N
  obtain ⟨fH, hHs, hHf⟩ := hR.Hs
  have hH9 : M (qH g 8) = some (.inr (18, [.int 2, .ref (qN g), .int 1, .int 7, .ref (qN g), .ref (qN g), .ref (qN g)])) := hR.H (by decide)
  refine V_aload_n C dX1_priceOf_0 rfl 0 rfl ?_
  refine V_get C f_X1_173_0 hN (v := .ref (qHs g)) rfl dX1_priceOf_1 ?_
  refine V_aload_n C dX1_priceOf_4 rfl 1 rfl ?_
  refine V_getN C f_X1_189_3 hac (v := .int 8) rfl dX1_priceOf_5 ?_
  refine V_st (st' := [.int (nI 8), .ref (qHs g)]) (by rw [show 8 = nI 8 from rfl]) ?_
  refine V_aald C (j := 14) rfl rfl hHs (vp_in_nI (by omega) (by omega)) dX1_priceOf_8 ?_
  refine V_st (st' := [.ref (qH g 8)]) (by rw [nI_clamp (by omega), (hHf 8 (by decide))]; rfl) ?_
  refine V_astore_n C dX1_priceOf_9 rfl (Nat.le_of_ble_eq_true rfl) [(0, .ref (qN g)), (1, .ref ac), (2, .ref (qH g 8))] [1, 2, 0] rfl ?_
  refine V_aload_n C dX1_priceOf_10 rfl 2 rfl ?_
  refine V_astore_n C dX1_priceOf_11 rfl (Nat.le_of_ble_eq_true rfl) [(0, .ref (qN g)), (1, .ref ac), (2, .ref (qH g 8)), (3, .ref (qH g 8))] [1, 2, 3, 0] rfl ?_
  refine V_aload_n C dX1_priceOf_12 rfl 3 rfl ?_
  refine V_aload_n C dX1_priceOf_13 rfl 2 rfl ?_
  refine V_aload_n C dX1_priceOf_14 rfl 1 rfl ?_
  refine V_pc (pc1 := 15) rfl ?_
  refine V_callO C (c_X7_many_18 l hl G X N0 M g σ z ca C9 hR hI (qH g 8) hH9 ac 8 a i b j n hac) cs_X1_201_18 hH9 (show CLS[18]? = some (RX15, TX15, 7) from rfl) rfl rfl ⟨Nat.le_of_ble_eq_true rfl, Nat.le_of_ble_eq_true rfl⟩ ⟨(by first | exact Nat.le_of_ble_eq_true rfl | omega | (dsimp only; omega)), (by first | exact Nat.le_of_ble_eq_true rfl | omega | (dsimp only; omega))⟩ (Nat.le_of_ble_eq_true rfl) dX1_priceOf_15 (fun _ _ _ h => px0 h) ?_
  rintro _ _ ⟨rfl, rfl⟩
  refine V_st (st' := [.int n, .ref (qH g 8)]) rfl ?_
  refine V_aload_n C dX1_priceOf_18 rfl 0 rfl ?_
  refine V_aload_n C dX1_priceOf_19 rfl 1 rfl ?_
  refine V_callV C (c_X1_weightOf l hl G X N0 M g σ z ca C9 hR hI ac 8 a i b j n hac (by exact Or.inr (hrw.1.resolve_left (by decide)))) cs_X1_205_0 hN (show CLS[0]? = some (RX1, TX1, 17) from rfl) rfl rfl ⟨Nat.le_of_ble_eq_true rfl, Nat.le_of_ble_eq_true rfl⟩ ⟨(by first | exact Nat.le_of_ble_eq_true rfl | omega | (dsimp only; omega)), (by first | exact Nat.le_of_ble_eq_true rfl | omega | (dsimp only; omega))⟩ (Nat.le_of_ble_eq_true rfl) dX1_priceOf_20 (fun _ _ _ h => px0 h) ?_
  rintro _ _ ⟨rfl, rfl⟩
  refine V_st (st' := [.int (if (8 : Int32) = 10 ∨ (8 : Int32) = 11 then 1 else mf_wt (σ.2.1 2 a.toNatClampNeg)), .int n, .ref (qH g 8)]) rfl ?_
  refine V_callD C (c_X28_price_18 l hl G X N0 M (qH g 8) (qN g) hH9 n (if (8 : Int32) = 10 ∨ (8 : Int32) = 11 then 1 else mf_wt (σ.2.1 2 a.toNatClampNeg))) ⟨lw_meth q825, q818, q823, q1830, List.mem_of_getElem? (i := 11) rfl, mh_X28_price⟩ hH9 (show CLS[18]? = some (RX15, TX15, 7) from rfl) rfl rfl ⟨Nat.le_of_ble_eq_true rfl, Nat.le_of_ble_eq_true rfl⟩ ⟨by first | exact Nat.le_of_ble_eq_true rfl | omega | (dsimp only; omega), by first | exact Nat.le_of_ble_eq_true rfl | omega | (dsimp only; omega)⟩ (Nat.le_of_ble_eq_true rfl) dX1_priceOf_23 (fun _ _ _ h => px0 h) ?_
  rintro _ _ ⟨rfl, rfl⟩
  refine V_st (st' := [.int ((2 + (mf_some n) * (mf_some n)) * (if (8 : Int32) = 10 ∨ (8 : Int32) = 11 then 1 else mf_wt (σ.2.1 2 a.toNatClampNeg)))]) rfl ?_
  refine V_iret C dX1_priceOf_28 rfl ?_ (by first | exact Nat.le_of_ble_eq_true rfl | omega | (dsimp only; omega)) (by first | exact Nat.le_of_ble_eq_true rfl | omega | (dsimp only; omega))
  refine ⟨congrArg (fun z => some (Value.int z)) ?_, rfl⟩
  simp [mf_priceOf, mf_base, mf_many]
set_option maxHeartbeats 1000000 in
theorem c_X1_priceOf_9 (l : Launch) (hl : l.stackTraces = false) (G : hp_G) (X : Nat → Nat) (N0 : Nat) (M : hp_h) (g : RG) (σ : MS) (z : Nat → Int32) (ca : Int32) (C9 : Nat) (hR : REL G (X 0) g σ z ca C9 M) (hI : MI σ) (ac : Nat) (a i b j n : Int32) (hac : M ac = some (.inr (3, [.int 9, .int a, .int i, .int b, .int j, .int n]))) (hrw : mf_hasRows σ 9 a b) : HM l yX1_priceOf (ws_ yX1_priceOf cX1_priceOf 4 (some .int)) 5 140 0 0 G X N0 [.ref (qN g), .ref ac] M (PV (.int (mf_priceOf σ 9 a b n)) M) PX0 := by
  refine HM.of hl [(0, .ref (qN g)), (1, .ref ac)] (by decide +kernel) rfl (Nat.le_of_ble_eq_true rfl) ?_
  intro p e s m args below meth c C hname
  have hN := hR.N
  obtain ⟨fH, hHs, hHf⟩ := hR.Hs
  have hH9 : M (qH g 9) = some (.inr (19, [.int 1, .ref (qN g), .int 0, .int 7, .ref (qN g), .ref (qN g), .ref (qN g)])) := hR.H (by decide)
  refine V_aload_n C dX1_priceOf_0 rfl 0 rfl ?_
  refine V_get C f_X1_173_0 hN (v := .ref (qHs g)) rfl dX1_priceOf_1 ?_
  refine V_aload_n C dX1_priceOf_4 rfl 1 rfl ?_
  refine V_getN C f_X1_189_3 hac (v := .int 9) rfl dX1_priceOf_5 ?_
  refine V_st (st' := [.int (nI 9), .ref (qHs g)]) (by rw [show 9 = nI 9 from rfl]) ?_
  refine V_aald C (j := 14) rfl rfl hHs (vp_in_nI (by omega) (by omega)) dX1_priceOf_8 ?_
  refine V_st (st' := [.ref (qH g 9)]) (by rw [nI_clamp (by omega), (hHf 9 (by decide))]; rfl) ?_
  refine V_astore_n C dX1_priceOf_9 rfl (Nat.le_of_ble_eq_true rfl) [(0, .ref (qN g)), (1, .ref ac), (2, .ref (qH g 9))] [1, 2, 0] rfl ?_
  refine V_aload_n C dX1_priceOf_10 rfl 2 rfl ?_
  refine V_astore_n C dX1_priceOf_11 rfl (Nat.le_of_ble_eq_true rfl) [(0, .ref (qN g)), (1, .ref ac), (2, .ref (qH g 9)), (3, .ref (qH g 9))] [1, 2, 3, 0] rfl ?_
  refine V_aload_n C dX1_priceOf_12 rfl 3 rfl ?_
  refine V_aload_n C dX1_priceOf_13 rfl 2 rfl ?_
  refine V_aload_n C dX1_priceOf_14 rfl 1 rfl ?_
  refine V_pc (pc1 := 15) rfl ?_
  refine V_callO C (c_X7_many_19 l hl G X N0 M g σ z ca C9 hR hI (qH g 9) hH9 ac 9 a i b j n hac) cs_X1_201_19 hH9 (show CLS[19]? = some (RX16, TX16, 7) from rfl) rfl rfl ⟨Nat.le_of_ble_eq_true rfl, Nat.le_of_ble_eq_true rfl⟩ ⟨(by first | exact Nat.le_of_ble_eq_true rfl | omega | (dsimp only; omega)), (by first | exact Nat.le_of_ble_eq_true rfl | omega | (dsimp only; omega))⟩ (Nat.le_of_ble_eq_true rfl) dX1_priceOf_15 (fun _ _ _ h => px0 h) ?_
  rintro _ _ ⟨rfl, rfl⟩
  refine V_st (st' := [.int n, .ref (qH g 9)]) rfl ?_
  refine V_aload_n C dX1_priceOf_18 rfl 0 rfl ?_
  refine V_aload_n C dX1_priceOf_19 rfl 1 rfl ?_
  refine V_callV C (c_X1_weightOf l hl G X N0 M g σ z ca C9 hR hI ac 9 a i b j n hac (by exact Or.inr (hrw.1.resolve_left (by decide)))) cs_X1_205_0 hN (show CLS[0]? = some (RX1, TX1, 17) from rfl) rfl rfl ⟨Nat.le_of_ble_eq_true rfl, Nat.le_of_ble_eq_true rfl⟩ ⟨(by first | exact Nat.le_of_ble_eq_true rfl | omega | (dsimp only; omega)), (by first | exact Nat.le_of_ble_eq_true rfl | omega | (dsimp only; omega))⟩ (Nat.le_of_ble_eq_true rfl) dX1_priceOf_20 (fun _ _ _ h => px0 h) ?_
  rintro _ _ ⟨rfl, rfl⟩
  refine V_st (st' := [.int (if (9 : Int32) = 10 ∨ (9 : Int32) = 11 then 1 else mf_wt (σ.2.1 2 a.toNatClampNeg)), .int n, .ref (qH g 9)]) rfl ?_
  refine V_callD C (c_X28_price_19 l hl G X N0 M (qH g 9) (qN g) hH9 n (if (9 : Int32) = 10 ∨ (9 : Int32) = 11 then 1 else mf_wt (σ.2.1 2 a.toNatClampNeg))) ⟨lw_meth q825, q818, q823, q1830, List.mem_of_getElem? (i := 12) rfl, mh_X28_price⟩ hH9 (show CLS[19]? = some (RX16, TX16, 7) from rfl) rfl rfl ⟨Nat.le_of_ble_eq_true rfl, Nat.le_of_ble_eq_true rfl⟩ ⟨by first | exact Nat.le_of_ble_eq_true rfl | omega | (dsimp only; omega), by first | exact Nat.le_of_ble_eq_true rfl | omega | (dsimp only; omega)⟩ (Nat.le_of_ble_eq_true rfl) dX1_priceOf_23 (fun _ _ _ h => px0 h) ?_
  rintro _ _ ⟨rfl, rfl⟩
  refine V_st (st' := [.int ((1 + mf_some n) * (if (9 : Int32) = 10 ∨ (9 : Int32) = 11 then 1 else mf_wt (σ.2.1 2 a.toNatClampNeg)))]) rfl ?_
  refine V_iret C dX1_priceOf_28 rfl ?_ (by first | exact Nat.le_of_ble_eq_true rfl | omega | (dsimp only; omega)) (by first | exact Nat.le_of_ble_eq_true rfl | omega | (dsimp only; omega))
  refine ⟨congrArg (fun z => some (Value.int z)) ?_, rfl⟩
  simp [mf_priceOf, mf_base, mf_many]
set_option maxHeartbeats 1000000 in
theorem c_X1_priceOf_10 (l : Launch) (hl : l.stackTraces = false) (G : hp_G) (X : Nat → Nat) (N0 : Nat) (M : hp_h) (g : RG) (σ : MS) (z : Nat → Int32) (ca : Int32) (C9 : Nat) (hR : REL G (X 0) g σ z ca C9 M) (hI : MI σ) (ac : Nat) (a i b j n : Int32) (hac : M ac = some (.inr (3, [.int 10, .int a, .int i, .int b, .int j, .int n]))) (hrw : mf_hasRows σ 10 a b) : HM l yX1_priceOf (ws_ yX1_priceOf cX1_priceOf 4 (some .int)) 5 140 0 0 G X N0 [.ref (qN g), .ref ac] M (PV (.int (mf_priceOf σ 10 a b n)) M) PX0 := by
  refine HM.of hl [(0, .ref (qN g)), (1, .ref ac)] (by decide +kernel) rfl (Nat.le_of_ble_eq_true rfl) ?_
  intro p e s m args below meth c C hname
  have hN := hR.N
  obtain ⟨fH, hHs, hHf⟩ := hR.Hs
  have hH9 : M (qH g 10) = some (.inr (20, [.int 5, .ref (qN g), .ref (qN g)])) := hR.H (by decide)
  refine V_aload_n C dX1_priceOf_0 rfl 0 rfl ?_
  refine V_get C f_X1_173_0 hN (v := .ref (qHs g)) rfl dX1_priceOf_1 ?_
  refine V_aload_n C dX1_priceOf_4 rfl 1 rfl ?_
  refine V_getN C f_X1_189_3 hac (v := .int 10) rfl dX1_priceOf_5 ?_
  refine V_st (st' := [.int (nI 10), .ref (qHs g)]) (by rw [show 10 = nI 10 from rfl]) ?_
  refine V_aald C (j := 14) rfl rfl hHs (vp_in_nI (by omega) (by omega)) dX1_priceOf_8 ?_
  refine V_st (st' := [.ref (qH g 10)]) (by rw [nI_clamp (by omega), (hHf 10 (by decide))]; rfl) ?_
  refine V_astore_n C dX1_priceOf_9 rfl (Nat.le_of_ble_eq_true rfl) [(0, .ref (qN g)), (1, .ref ac), (2, .ref (qH g 10))] [1, 2, 0] rfl ?_
  refine V_aload_n C dX1_priceOf_10 rfl 2 rfl ?_
  refine V_astore_n C dX1_priceOf_11 rfl (Nat.le_of_ble_eq_true rfl) [(0, .ref (qN g)), (1, .ref ac), (2, .ref (qH g 10)), (3, .ref (qH g 10))] [1, 2, 3, 0] rfl ?_
  refine V_aload_n C dX1_priceOf_12 rfl 3 rfl ?_
  refine V_aload_n C dX1_priceOf_13 rfl 2 rfl ?_
  refine V_aload_n C dX1_priceOf_14 rfl 1 rfl ?_
  refine V_pc (pc1 := 15) rfl ?_
  refine V_callO C (c_X17_many_20 l hl G X N0 M g σ z ca C9 hR hI (qH g 10) hH9 ac 10 a i b j n hac) cs_X1_201_20 hH9 (show CLS[20]? = some (RX17, TX17, 3) from rfl) rfl rfl ⟨Nat.le_of_ble_eq_true rfl, Nat.le_of_ble_eq_true rfl⟩ ⟨(by first | exact Nat.le_of_ble_eq_true rfl | omega | (dsimp only; omega)), (by first | exact Nat.le_of_ble_eq_true rfl | omega | (dsimp only; omega))⟩ (Nat.le_of_ble_eq_true rfl) dX1_priceOf_15 (fun _ _ _ h => px0 h) ?_
  rintro _ _ ⟨rfl, rfl⟩
  refine V_st (st' := [.int 0, .ref (qH g 10)]) rfl ?_
  refine V_aload_n C dX1_priceOf_18 rfl 0 rfl ?_
  refine V_aload_n C dX1_priceOf_19 rfl 1 rfl ?_
  refine V_callV C (c_X1_weightOf l hl G X N0 M g σ z ca C9 hR hI ac 10 a i b j n hac (by exact Or.inl (by decide))) cs_X1_205_0 hN (show CLS[0]? = some (RX1, TX1, 17) from rfl) rfl rfl ⟨Nat.le_of_ble_eq_true rfl, Nat.le_of_ble_eq_true rfl⟩ ⟨(by first | exact Nat.le_of_ble_eq_true rfl | omega | (dsimp only; omega)), (by first | exact Nat.le_of_ble_eq_true rfl | omega | (dsimp only; omega))⟩ (Nat.le_of_ble_eq_true rfl) dX1_priceOf_20 (fun _ _ _ h => px0 h) ?_
  rintro _ _ ⟨rfl, rfl⟩
  refine V_st (st' := [.int (if (10 : Int32) = 10 ∨ (10 : Int32) = 11 then 1 else mf_wt (σ.2.1 2 a.toNatClampNeg)), .int 0, .ref (qH g 10)]) rfl ?_
  refine V_callD C (c_X28_price_20 l hl G X N0 M (qH g 10) (qN g) hH9 0 (if (10 : Int32) = 10 ∨ (10 : Int32) = 11 then 1 else mf_wt (σ.2.1 2 a.toNatClampNeg))) ⟨lw_meth q825, q818, q823, q1830, List.mem_of_getElem? (i := 13) rfl, mh_X28_price⟩ hH9 (show CLS[20]? = some (RX17, TX17, 3) from rfl) rfl rfl ⟨Nat.le_of_ble_eq_true rfl, Nat.le_of_ble_eq_true rfl⟩ ⟨by first | exact Nat.le_of_ble_eq_true rfl | omega | (dsimp only; omega), by first | exact Nat.le_of_ble_eq_true rfl | omega | (dsimp only; omega)⟩ (Nat.le_of_ble_eq_true rfl) dX1_priceOf_23 (fun _ _ _ h => px0 h) ?_
  rintro _ _ ⟨rfl, rfl⟩
  refine V_st (st' := [.int ((5 + mf_some 0) * (if (10 : Int32) = 10 ∨ (10 : Int32) = 11 then 1 else mf_wt (σ.2.1 2 a.toNatClampNeg)))]) rfl ?_
  refine V_iret C dX1_priceOf_28 rfl ?_ (by first | exact Nat.le_of_ble_eq_true rfl | omega | (dsimp only; omega)) (by first | exact Nat.le_of_ble_eq_true rfl | omega | (dsimp only; omega))
  refine ⟨congrArg (fun z => some (Value.int z)) ?_, rfl⟩
  simp [mf_priceOf, mf_base]
  decide
set_option maxHeartbeats 1000000 in
theorem c_X1_priceOf_11 (l : Launch) (hl : l.stackTraces = false) (G : hp_G) (X : Nat → Nat) (N0 : Nat) (M : hp_h) (g : RG) (σ : MS) (z : Nat → Int32) (ca : Int32) (C9 : Nat) (hR : REL G (X 0) g σ z ca C9 M) (hI : MI σ) (ac : Nat) (a i b j n : Int32) (hac : M ac = some (.inr (3, [.int 11, .int a, .int i, .int b, .int j, .int n]))) (hrw : mf_hasRows σ 11 a b) : HM l yX1_priceOf (ws_ yX1_priceOf cX1_priceOf 4 (some .int)) 5 140 0 0 G X N0 [.ref (qN g), .ref ac] M (PV (.int (mf_priceOf σ 11 a b n)) M) PX0 := by
  refine HM.of hl [(0, .ref (qN g)), (1, .ref ac)] (by decide +kernel) rfl (Nat.le_of_ble_eq_true rfl) ?_
  intro p e s m args below meth c C hname
  have hN := hR.N
  obtain ⟨fH, hHs, hHf⟩ := hR.Hs
  have hH9 : M (qH g 11) = some (.inr (21, [.int 1, .ref (qN g), .ref (qN g)])) := hR.H (by decide)
  refine V_aload_n C dX1_priceOf_0 rfl 0 rfl ?_
  refine V_get C f_X1_173_0 hN (v := .ref (qHs g)) rfl dX1_priceOf_1 ?_
  refine V_aload_n C dX1_priceOf_4 rfl 1 rfl ?_
  refine V_getN C f_X1_189_3 hac (v := .int 11) rfl dX1_priceOf_5 ?_
  refine V_st (st' := [.int (nI 11), .ref (qHs g)]) (by rw [show 11 = nI 11 from rfl]) ?_
  refine V_aald C (j := 14) rfl rfl hHs (vp_in_nI (by omega) (by omega)) dX1_priceOf_8 ?_
  refine V_st (st' := [.ref (qH g 11)]) (by rw [nI_clamp (by omega), (hHf 11 (by decide))]; rfl) ?_
  refine V_astore_n C dX1_priceOf_9 rfl (Nat.le_of_ble_eq_true rfl) [(0, .ref (qN g)), (1, .ref ac), (2, .ref (qH g 11))] [1, 2, 0] rfl ?_
  refine V_aload_n C dX1_priceOf_10 rfl 2 rfl ?_
  refine V_astore_n C dX1_priceOf_11 rfl (Nat.le_of_ble_eq_true rfl) [(0, .ref (qN g)), (1, .ref ac), (2, .ref (qH g 11)), (3, .ref (qH g 11))] [1, 2, 3, 0] rfl ?_
  refine V_aload_n C dX1_priceOf_12 rfl 3 rfl ?_
  refine V_aload_n C dX1_priceOf_13 rfl 2 rfl ?_
  refine V_aload_n C dX1_priceOf_14 rfl 1 rfl ?_
  refine V_pc (pc1 := 15) rfl ?_
  refine V_callO C (c_X18_many_21 l hl G X N0 M g σ z ca C9 hR hI (qH g 11) hH9 ac 11 a i b j n hac) cs_X1_201_21 hH9 (show CLS[21]? = some (RX18, TX18, 3) from rfl) rfl rfl ⟨Nat.le_of_ble_eq_true rfl, Nat.le_of_ble_eq_true rfl⟩ ⟨(by first | exact Nat.le_of_ble_eq_true rfl | omega | (dsimp only; omega)), (by first | exact Nat.le_of_ble_eq_true rfl | omega | (dsimp only; omega))⟩ (Nat.le_of_ble_eq_true rfl) dX1_priceOf_15 (fun _ _ _ h => px0 h) ?_
  rintro _ _ ⟨rfl, rfl⟩
  refine V_st (st' := [.int 0, .ref (qH g 11)]) rfl ?_
  refine V_aload_n C dX1_priceOf_18 rfl 0 rfl ?_
  refine V_aload_n C dX1_priceOf_19 rfl 1 rfl ?_
  refine V_callV C (c_X1_weightOf l hl G X N0 M g σ z ca C9 hR hI ac 11 a i b j n hac (by exact Or.inl (by decide))) cs_X1_205_0 hN (show CLS[0]? = some (RX1, TX1, 17) from rfl) rfl rfl ⟨Nat.le_of_ble_eq_true rfl, Nat.le_of_ble_eq_true rfl⟩ ⟨(by first | exact Nat.le_of_ble_eq_true rfl | omega | (dsimp only; omega)), (by first | exact Nat.le_of_ble_eq_true rfl | omega | (dsimp only; omega))⟩ (Nat.le_of_ble_eq_true rfl) dX1_priceOf_20 (fun _ _ _ h => px0 h) ?_
  rintro _ _ ⟨rfl, rfl⟩
  refine V_st (st' := [.int (if (11 : Int32) = 10 ∨ (11 : Int32) = 11 then 1 else mf_wt (σ.2.1 2 a.toNatClampNeg)), .int 0, .ref (qH g 11)]) rfl ?_
  refine V_callD C (c_X28_price_21 l hl G X N0 M (qH g 11) (qN g) hH9 0 (if (11 : Int32) = 10 ∨ (11 : Int32) = 11 then 1 else mf_wt (σ.2.1 2 a.toNatClampNeg))) ⟨lw_meth q825, q818, q823, q1830, List.mem_of_getElem? (i := 14) rfl, mh_X28_price⟩ hH9 (show CLS[21]? = some (RX18, TX18, 3) from rfl) rfl rfl ⟨Nat.le_of_ble_eq_true rfl, Nat.le_of_ble_eq_true rfl⟩ ⟨by first | exact Nat.le_of_ble_eq_true rfl | omega | (dsimp only; omega), by first | exact Nat.le_of_ble_eq_true rfl | omega | (dsimp only; omega)⟩ (Nat.le_of_ble_eq_true rfl) dX1_priceOf_23 (fun _ _ _ h => px0 h) ?_
  rintro _ _ ⟨rfl, rfl⟩
  refine V_st (st' := [.int ((1 + mf_some 0) * (if (11 : Int32) = 10 ∨ (11 : Int32) = 11 then 1 else mf_wt (σ.2.1 2 a.toNatClampNeg)))]) rfl ?_
  refine V_iret C dX1_priceOf_28 rfl ?_ (by first | exact Nat.le_of_ble_eq_true rfl | omega | (dsimp only; omega)) (by first | exact Nat.le_of_ble_eq_true rfl | omega | (dsimp only; omega))
  refine ⟨congrArg (fun z => some (Value.int z)) ?_, rfl⟩
  simp [mf_priceOf, mf_base]
  decide
set_option maxHeartbeats 1000000 in
theorem c_X1_priceOf_12 (l : Launch) (hl : l.stackTraces = false) (G : hp_G) (X : Nat → Nat) (N0 : Nat) (M : hp_h) (g : RG) (σ : MS) (z : Nat → Int32) (ca : Int32) (C9 : Nat) (hR : REL G (X 0) g σ z ca C9 M) (hI : MI σ) (ac : Nat) (a i b j n : Int32) (hac : M ac = some (.inr (3, [.int 12, .int a, .int i, .int b, .int j, .int n]))) (hrw : mf_hasRows σ 12 a b) : HM l yX1_priceOf (ws_ yX1_priceOf cX1_priceOf 4 (some .int)) 5 140 0 0 G X N0 [.ref (qN g), .ref ac] M (PV (.int (mf_priceOf σ 12 a b n)) M) PX0 := by
  refine HM.of hl [(0, .ref (qN g)), (1, .ref ac)] (by decide +kernel) rfl (Nat.le_of_ble_eq_true rfl) ?_
  intro p e s m args below meth c C hname
  have hN := hR.N
  obtain ⟨fH, hHs, hHf⟩ := hR.Hs
  have hH9 : M (qH g 12) = some (.inr (22, [.int 1, .ref (qN g), .int 8, .int 9, .ref (qN g), .ref (qN g)])) := hR.H (by decide)
  refine V_aload_n C dX1_priceOf_0 rfl 0 rfl ?_
  refine V_get C f_X1_173_0 hN (v := .ref (qHs g)) rfl dX1_priceOf_1 ?_
  refine V_aload_n C dX1_priceOf_4 rfl 1 rfl ?_
  refine V_getN C f_X1_189_3 hac (v := .int 12) rfl dX1_priceOf_5 ?_
  refine V_st (st' := [.int (nI 12), .ref (qHs g)]) (by rw [show 12 = nI 12 from rfl]) ?_
  refine V_aald C (j := 14) rfl rfl hHs (vp_in_nI (by omega) (by omega)) dX1_priceOf_8 ?_
  refine V_st (st' := [.ref (qH g 12)]) (by rw [nI_clamp (by omega), (hHf 12 (by decide))]; rfl) ?_
  refine V_astore_n C dX1_priceOf_9 rfl (Nat.le_of_ble_eq_true rfl) [(0, .ref (qN g)), (1, .ref ac), (2, .ref (qH g 12))] [1, 2, 0] rfl ?_
  refine V_aload_n C dX1_priceOf_10 rfl 2 rfl ?_
  refine V_astore_n C dX1_priceOf_11 rfl (Nat.le_of_ble_eq_true rfl) [(0, .ref (qN g)), (1, .ref ac), (2, .ref (qH g 12)), (3, .ref (qH g 12))] [1, 2, 3, 0] rfl ?_
  refine V_aload_n C dX1_priceOf_12 rfl 3 rfl ?_
  refine V_aload_n C dX1_priceOf_13 rfl 2 rfl ?_
  refine V_aload_n C dX1_priceOf_14 rfl 1 rfl ?_
  refine V_pc (pc1 := 15) rfl ?_
  refine V_callO C (c_X5_many_22 l hl G X N0 M g σ z ca C9 hR hI (qH g 12) hH9 ac 12 a i b j n hac (hrw.1.resolve_left (by decide))) cs_X1_201_22 hH9 (show CLS[22]? = some (RX19, TX19, 6) from rfl) rfl rfl ⟨Nat.le_of_ble_eq_true rfl, Nat.le_of_ble_eq_true rfl⟩ ⟨(by first | exact Nat.le_of_ble_eq_true rfl | omega | (dsimp only; omega)), (by first | exact Nat.le_of_ble_eq_true rfl | omega | (dsimp only; omega))⟩ (Nat.le_of_ble_eq_true rfl) dX1_priceOf_15 (fun _ _ _ h => px0 h) ?_
  rintro _ _ ⟨rfl, rfl⟩
  refine V_st (st' := [.int (σ.2.1 3 a.toNatClampNeg), .ref (qH g 12)]) rfl ?_
  refine V_aload_n C dX1_priceOf_18 rfl 0 rfl ?_
  refine V_aload_n C dX1_priceOf_19 rfl 1 rfl ?_
  refine V_callV C (c_X1_weightOf l hl G X N0 M g σ z ca C9 hR hI ac 12 a i b j n hac (by exact Or.inr (hrw.1.resolve_left (by decide)))) cs_X1_205_0 hN (show CLS[0]? = some (RX1, TX1, 17) from rfl) rfl rfl ⟨Nat.le_of_ble_eq_true rfl, Nat.le_of_ble_eq_true rfl⟩ ⟨(by first | exact Nat.le_of_ble_eq_true rfl | omega | (dsimp only; omega)), (by first | exact Nat.le_of_ble_eq_true rfl | omega | (dsimp only; omega))⟩ (Nat.le_of_ble_eq_true rfl) dX1_priceOf_20 (fun _ _ _ h => px0 h) ?_
  rintro _ _ ⟨rfl, rfl⟩
  refine V_st (st' := [.int (if (12 : Int32) = 10 ∨ (12 : Int32) = 11 then 1 else mf_wt (σ.2.1 2 a.toNatClampNeg)), .int (σ.2.1 3 a.toNatClampNeg), .ref (qH g 12)]) rfl ?_
  refine V_callD C (c_X28_price_22 l hl G X N0 M (qH g 12) (qN g) hH9 (σ.2.1 3 a.toNatClampNeg) (if (12 : Int32) = 10 ∨ (12 : Int32) = 11 then 1 else mf_wt (σ.2.1 2 a.toNatClampNeg))) ⟨lw_meth q825, q818, q823, q1830, List.mem_of_getElem? (i := 15) rfl, mh_X28_price⟩ hH9 (show CLS[22]? = some (RX19, TX19, 6) from rfl) rfl rfl ⟨Nat.le_of_ble_eq_true rfl, Nat.le_of_ble_eq_true rfl⟩ ⟨by first | exact Nat.le_of_ble_eq_true rfl | omega | (dsimp only; omega), by first | exact Nat.le_of_ble_eq_true rfl | omega | (dsimp only; omega)⟩ (Nat.le_of_ble_eq_true rfl) dX1_priceOf_23 (fun _ _ _ h => px0 h) ?_
  rintro _ _ ⟨rfl, rfl⟩
  refine V_st (st' := [.int ((1 + mf_some (σ.2.1 3 a.toNatClampNeg)) * (if (12 : Int32) = 10 ∨ (12 : Int32) = 11 then 1 else mf_wt (σ.2.1 2 a.toNatClampNeg)))]) rfl ?_
  refine V_iret C dX1_priceOf_28 rfl ?_ (by first | exact Nat.le_of_ble_eq_true rfl | omega | (dsimp only; omega)) (by first | exact Nat.le_of_ble_eq_true rfl | omega | (dsimp only; omega))
  refine ⟨congrArg (fun z => some (Value.int z)) ?_, rfl⟩
  obtain ⟨rr, hr, rfl⟩ := hI.row (hrw.1.resolve_left (by decide))
  obtain ⟨hlE, hlL⟩ := hI.l hr
  rw [nI_clamp (n := rr) (by have := hI.R.2; omega), hlE, some_nI hlL]
  simp [mf_priceOf, mf_base, mf_many, nI_clamp (n := rr) (show rr < 2 ^ 31 by have := hI.R.2; omega), hlE]
theorem c_X1_priceOf (l : Launch) (hl : l.stackTraces = false) (G : hp_G) (X : Nat → Nat) (N0 : Nat) (M : hp_h) (g : RG) (σ : MS) (z : Nat → Int32) (ca : Int32) (C9 : Nat) (hR : REL G (X 0) g σ z ca C9 M) (hI : MI σ) (ac h : Nat) (hh12 : h ≤ 12) (x0 a i b j n : Int32) (hx0 : x0 = nI h) (hac : M ac = some (.inr (3, [.int x0, .int a, .int i, .int b, .int j, .int n]))) (hrw : mf_hasRows σ x0 a b) : HM l yX1_priceOf (ws_ yX1_priceOf cX1_priceOf 4 (some .int)) 5 140 0 0 G X N0 [.ref (qN g), .ref ac] M (PV (.int (mf_priceOf σ x0 a b n)) M) PX0 := by
  match h, hh12, hx0 with
  | 0, _, hx0 =>
    obtain rfl : x0 = 0 := hx0.trans (by decide)
    exact c_X1_priceOf_0 l hl G X N0 M g σ z ca C9 hR hI ac a i b j n hac hrw
  | 1, _, hx0 =>
    obtain rfl : x0 = 1 := hx0.trans (by decide)
    exact c_X1_priceOf_1 l hl G X N0 M g σ z ca C9 hR hI ac a i b j n hac hrw
  | 2, _, hx0 =>
    obtain rfl : x0 = 2 := hx0.trans (by decide)
    exact c_X1_priceOf_2 l hl G X N0 M g σ z ca C9 hR hI ac a i b j n hac hrw
  | 3, _, hx0 =>
    obtain rfl : x0 = 3 := hx0.trans (by decide)
    exact c_X1_priceOf_3 l hl G X N0 M g σ z ca C9 hR hI ac a i b j n hac hrw
  | 4, _, hx0 =>
    obtain rfl : x0 = 4 := hx0.trans (by decide)
    exact c_X1_priceOf_4 l hl G X N0 M g σ z ca C9 hR hI ac a i b j n hac hrw
  | 5, _, hx0 =>
    obtain rfl : x0 = 5 := hx0.trans (by decide)
    exact c_X1_priceOf_5 l hl G X N0 M g σ z ca C9 hR hI ac a i b j n hac hrw
  | 6, _, hx0 =>
    obtain rfl : x0 = 6 := hx0.trans (by decide)
    exact c_X1_priceOf_6 l hl G X N0 M g σ z ca C9 hR hI ac a i b j n hac hrw
  | 7, _, hx0 =>
    obtain rfl : x0 = 7 := hx0.trans (by decide)
    exact c_X1_priceOf_7 l hl G X N0 M g σ z ca C9 hR hI ac a i b j n hac hrw
  | 8, _, hx0 =>
    obtain rfl : x0 = 8 := hx0.trans (by decide)
    exact c_X1_priceOf_8 l hl G X N0 M g σ z ca C9 hR hI ac a i b j n hac hrw
  | 9, _, hx0 =>
    obtain rfl : x0 = 9 := hx0.trans (by decide)
    exact c_X1_priceOf_9 l hl G X N0 M g σ z ca C9 hR hI ac a i b j n hac hrw
  | 10, _, hx0 =>
    obtain rfl : x0 = 10 := hx0.trans (by decide)
    exact c_X1_priceOf_10 l hl G X N0 M g σ z ca C9 hR hI ac a i b j n hac hrw
  | 11, _, hx0 =>
    obtain rfl : x0 = 11 := hx0.trans (by decide)
    exact c_X1_priceOf_11 l hl G X N0 M g σ z ca C9 hR hI ac a i b j n hac hrw
  | 12, _, hx0 =>
    obtain rfl : x0 = 12 := hx0.trans (by decide)
    exact c_X1_priceOf_12 l hl G X N0 M g σ z ca C9 hR hI ac a i b j n hac hrw
  | k + 13, h, _ => exact absurd h (by omega)
set_option maxHeartbeats 1000000 in
theorem c_X24_init_3 (l : Launch) (hl : l.stackTraces = false) (G : hp_G) (X : Nat → Nat) (N0 : Nat) (M : hp_h) (a : Nat) (ha : M a = some (.inr (3, [.int 0, .int 0, .int 0, .int 0, .int 0, .int 0]))) (x0 : Int32) (a1 : Int32) (i1 : Int32) (b1 : Int32) (j1 : Int32) (n1 : Int32) : HM l yX24_init (ws_ yX24_init cX24_init 7 none) 1 24 0 0 G X N0 [.ref a, .int x0, .int a1, .int i1, .int b1, .int j1, .int n1] M (fun v9 M' => v9 = none ∧ M' a = some (.inr (3, [.int x0, .int a1, .int i1, .int b1, .int j1, .int n1])) ∧ hp_fr (fun b => b = a) M M' ∧ hp_sh M M') PX0 := by
  refine HM.of hl [(0, .ref a), (1, .int x0), (2, .int a1), (3, .int i1), (4, .int b1), (5, .int j1), (6, .int n1)] (by decide +kernel) rfl (Nat.le_of_ble_eq_true rfl) ?_
  intro p e s m args below meth c C hname
  have hfr : hp_fr (fun b => b = a) M M := hp_fr.rf
  have hsh : hp_sh M M := hp_sh.rf
  refine V_aload_n C dX24_init_0 rfl 0 rfl ?_
  refine V_obj C cs_X24_1 ⟨Nat.le_of_ble_eq_true rfl, Nat.le_of_ble_eq_true rfl⟩ dX24_init_1 ?_
  refine V_aload_n C dX24_init_4 rfl 0 rfl ?_
  refine V_iload_n C dX24_init_5 rfl 1 rfl ?_
  refine V_putF C hname f_X24_7_3 ha rfl rfl (Nat.le_of_ble_eq_true rfl) dX24_init_6 ?_
  obtain ⟨M_1, eM_2⟩ : ∃ z, z = hp_up M a (.inr (3, [.int x0, .int 0, .int 0, .int 0, .int 0, .int 0])) := ⟨_, rfl⟩
  refine V_heap (M' := M_1) eM_2.symm ?_
  have eM_2_s : M_1 a = some (.inr (3, [.int x0, .int 0, .int 0, .int 0, .int 0, .int 0])) := by rw [eM_2]; exact hp_up_s
  have fr_3 := hp_fr.set hfr (Or.inl rfl) eM_2
  have sh_4 := hp_sh.set hsh ha eM_2 rfl
  refine V_aload_n C dX24_init_9 rfl 0 rfl ?_
  refine V_iload_n C dX24_init_10 rfl 2 rfl ?_
  refine V_putF C hname f_X24_13_3 eM_2_s rfl rfl (Nat.le_of_ble_eq_true rfl) dX24_init_11 ?_
  obtain ⟨M_5, eM_6⟩ : ∃ z, z = hp_up M_1 a (.inr (3, [.int x0, .int a1, .int 0, .int 0, .int 0, .int 0])) := ⟨_, rfl⟩
  refine V_heap (M' := M_5) eM_6.symm ?_
  have eM_6_s : M_5 a = some (.inr (3, [.int x0, .int a1, .int 0, .int 0, .int 0, .int 0])) := by rw [eM_6]; exact hp_up_s
  have fr_7 := hp_fr.set fr_3 (Or.inl rfl) eM_6
  have sh_8 := hp_sh.set sh_4 eM_2_s eM_6 rfl
  refine V_aload_n C dX24_init_14 rfl 0 rfl ?_
  refine V_iload_n C dX24_init_15 rfl 3 rfl ?_
  refine V_putF C hname f_X24_16_3 eM_6_s rfl rfl (Nat.le_of_ble_eq_true rfl) dX24_init_16 ?_
  obtain ⟨M_9, eM_10⟩ : ∃ z, z = hp_up M_5 a (.inr (3, [.int x0, .int a1, .int i1, .int 0, .int 0, .int 0])) := ⟨_, rfl⟩
  refine V_heap (M' := M_9) eM_10.symm ?_
  have eM_10_s : M_9 a = some (.inr (3, [.int x0, .int a1, .int i1, .int 0, .int 0, .int 0])) := by rw [eM_10]; exact hp_up_s
  have fr_11 := hp_fr.set fr_7 (Or.inl rfl) eM_10
  have sh_12 := hp_sh.set sh_8 eM_6_s eM_10 rfl
  refine V_pc (pc1 := 19) rfl ?_
  refine V_aload_n C dX24_init_19 rfl 0 rfl ?_
  refine V_iload C dX24_init_20 4 rfl ?_
  refine V_putF C hname f_X24_19_3 eM_10_s rfl rfl (Nat.le_of_ble_eq_true rfl) dX24_init_22 ?_
  obtain ⟨M_13, eM_14⟩ : ∃ z, z = hp_up M_9 a (.inr (3, [.int x0, .int a1, .int i1, .int b1, .int 0, .int 0])) := ⟨_, rfl⟩
  refine V_heap (M' := M_13) eM_14.symm ?_
  have eM_14_s : M_13 a = some (.inr (3, [.int x0, .int a1, .int i1, .int b1, .int 0, .int 0])) := by rw [eM_14]; exact hp_up_s
  have fr_15 := hp_fr.set fr_11 (Or.inl rfl) eM_14
  have sh_16 := hp_sh.set sh_12 eM_10_s eM_14 rfl
  refine V_aload_n C dX24_init_25 rfl 0 rfl ?_
  refine V_iload C dX24_init_26 5 rfl ?_
  refine V_putF C hname f_X24_22_3 eM_14_s rfl rfl (Nat.le_of_ble_eq_true rfl) dX24_init_28 ?_
  obtain ⟨M_17, eM_18⟩ : ∃ z, z = hp_up M_13 a (.inr (3, [.int x0, .int a1, .int i1, .int b1, .int j1, .int 0])) := ⟨_, rfl⟩
  refine V_heap (M' := M_17) eM_18.symm ?_
  have eM_18_s : M_17 a = some (.inr (3, [.int x0, .int a1, .int i1, .int b1, .int j1, .int 0])) := by rw [eM_18]; exact hp_up_s
  have fr_19 := hp_fr.set fr_15 (Or.inl rfl) eM_18
  have sh_20 := hp_sh.set sh_16 eM_14_s eM_18 rfl
  refine V_aload_n C dX24_init_31 rfl 0 rfl ?_
  refine V_iload C dX24_init_32 6 rfl ?_
  refine V_putF C hname f_X24_25_3 eM_18_s rfl rfl (Nat.le_of_ble_eq_true rfl) dX24_init_34 ?_
  obtain ⟨M_21, eM_22⟩ : ∃ z, z = hp_up M_17 a (.inr (3, [.int x0, .int a1, .int i1, .int b1, .int j1, .int n1])) := ⟨_, rfl⟩
  refine V_heap (M' := M_21) eM_22.symm ?_
  have eM_22_s : M_21 a = some (.inr (3, [.int x0, .int a1, .int i1, .int b1, .int j1, .int n1])) := by rw [eM_22]; exact hp_up_s
  have fr_23 := hp_fr.set fr_19 (Or.inl rfl) eM_22
  have sh_24 := hp_sh.set sh_20 eM_18_s eM_22 rfl
  refine V_vret C dX24_init_37 rfl ?_ (by first | exact Nat.le_of_ble_eq_true rfl | omega | (dsimp only; omega)) (by first | exact Nat.le_of_ble_eq_true rfl | omega | (dsimp only; omega))
  exact ⟨rfl, eM_22_s, fr_23, sh_24⟩
theorem rows_no {σ : MS} {h : Nat} {a b : Int32} (z : ¬ (nI h ≠ 10 ∧ nI h ≠ 11)) : mf_hasRows σ (nI h) a b := by
  have e : nI h = 10 ∨ nI h = 11 := Classical.byContradiction fun w => z ⟨fun y => w (Or.inl y), fun y => w (Or.inr y)⟩
  refine ⟨Or.inl e, Or.inl ?_⟩
  rcases e with e | e <;> rw [e] <;> decide
set_option maxHeartbeats 1000000 in
theorem c_X1_price (l : Launch) (hl : l.stackTraces = false) (G : hp_G) (X : Nat → Nat) (N0 : Nat) (M : hp_h) (g : RG) (σ : MS) (z : Nat → Int32) (ca : Int32) (C9 : Nat) (hR : REL G (X 0) g σ z ca C9 M) (hI : MI σ) (x0 a b n : Int32) : HM l yX1_price (ws_ yX1_price cX1_price 5 (some .long)) 6 163 1 6 G X N0 [.ref (qN g), .int x0, .int a, .int b, .int n] M (fun v9 M' => v9 = some (.long (mf_price σ x0 a b n)) ∧ hp_fr (fun _ => False) M M' ∧ hp_sh M M') PX0 := by
  refine HM.of hl [(0, .ref (qN g)), (1, .int x0), (2, .int a), (3, .int b), (4, .int n)] (by decide +kernel) rfl (Nat.le_of_ble_eq_true rfl) ?_
  intro p e s m args below meth c C hname
  have hN := hR.N
  obtain ⟨fH, hHs, hHf⟩ := hR.Hs
  refine V_iload_n C dX1_price_0 rfl 1 rfl ?_
  refine V_if_lt (tgt := 48) C dX1_price_1 (by decide) (fun c_1 => ?_) (fun c_1 => ?_)
  · refine V_ldc2 (v := -9223372036854775808) C (C.w q622) dX1_price_48 ?_
    refine V_lret C dX1_price_51 rfl ?_ (by first | exact Nat.le_of_ble_eq_true rfl | omega | (dsimp only; omega)) (by first | exact Nat.le_of_ble_eq_true rfl | omega | (dsimp only; omega))
    refine ⟨congrArg (fun z => some (Value.long z)) ?_, hp_fr.rf, hp_sh.rf⟩
    unfold mf_price
    rw [if_neg]
    rintro ⟨k1, k2, k3⟩
    exact absurd (nn64 k1.1) (Int32.not_le.mpr c_1)
  · refine V_iload_n C dX1_price_4 rfl 1 rfl ?_
    refine V_aload_n C dX1_price_5 rfl 0 rfl ?_
    refine V_get C f_X1_173_0 hN (v := .ref (qHs g)) rfl dX1_price_6 ?_
    refine V_alen (j := 14) C rfl hHs (v := nI 13) rfl dX1_price_9 ?_
    refine V_icmp_ge (tgt := 48) C dX1_price_10 (by decide) (fun c_10 => ?_) (fun c_10 => ?_)
    · refine V_ldc2 (v := -9223372036854775808) C (C.w q622) dX1_price_48 ?_
      refine V_lret C dX1_price_51 rfl ?_ (by first | exact Nat.le_of_ble_eq_true rfl | omega | (dsimp only; omega)) (by first | exact Nat.le_of_ble_eq_true rfl | omega | (dsimp only; omega))
      refine ⟨congrArg (fun z => some (Value.long z)) ?_, hp_fr.rf, hp_sh.rf⟩
      unfold mf_price
      rw [if_neg]
      rintro ⟨k1, k2, k3⟩
      obtain ⟨h, hh, rfl⟩ := (in64 (k := 12) (by decide)).mp k1
      exact absurd ((nI_leI (a := 13) (by decide) (by omega)).mp c_10) (by omega)
    · obtain ⟨h9, hh9, rfl⟩ := (isRow_n (σ := sz σ 1 (nI 13)) (R := 13) (r := x0) rfl (by decide)).mp ⟨c_1, Int32.not_le.mp c_10⟩
      refine V_iload_n C dX1_price_13 rfl 1 rfl ?_
      refine V_callS C (c_X1_needsRow l hl G X N0 M (nI h9)) cs_X1_194 rfl rfl ⟨Nat.le_of_ble_eq_true rfl, Nat.le_of_ble_eq_true rfl⟩ ⟨(by first | exact Nat.le_of_ble_eq_true rfl | omega | (dsimp only; omega)), (by first | exact Nat.le_of_ble_eq_true rfl | omega | (dsimp only; omega))⟩ (Nat.le_of_ble_eq_true rfl) dX1_price_14 (fun _ _ _ h => px0 h) ?_
      rintro _ _ ⟨rfl, rfl⟩
      refine V_st (st' := [.int (bI ((nI h9) ≠ 10 ∧ (nI h9) ≠ 11))]) rfl ?_
      refine V_if_eq (tgt := 52) C dX1_price_17 (by decide) (fun c_17 => ?_) (fun c_17 => ?_)
      · refine V_aload_n C dX1_price_52 rfl 0 rfl ?_
        have hfr : hp_fr (fun _ => False) M M := hp_fr.rf
        have hsh : hp_sh M M := hp_sh.rf
        have hrw9 : mf_hasRows σ (nI h9) a b := rows_no (bI_0.mp c_17)
        refine V_pc (pc1 := 53) rfl ?_
        refine V_new C n_X1_190 rfl (by first | exact Nat.le_of_ble_eq_true rfl | omega | (dsimp only; omega)) (by first | exact Nat.le_of_ble_eq_true rfl | omega | (dsimp only; omega)) dX1_price_53 (fun q_1 hq_2 => ?_)
        have ne_3 : (qN g) ≠ q_1 := hp_ne0 hN hq_2
        have ne_4 : (qHs g) ≠ q_1 := hp_ne0 hHs hq_2
        obtain ⟨M_5, eM_6⟩ : ∃ z, z = hp_up M q_1 (.inr (3, [.int 0, .int 0, .int 0, .int 0, .int 0, .int 0])) := ⟨_, rfl⟩
        refine V_heap (M' := M_5) eM_6.symm ?_
        have ho_7 : M_5 (qN g) = some (.inr (0, [.ref (qRl g), .ref (qUl g), .ref (qPl g), .ref (qHs g), .int (σ.1 20), .int (σ.1 14), .int (σ.1 11), .int (σ.1 12), .int (σ.1 15), .int (z 0), .int (z 1), .int (z 2), .int (z 3), .int (z 4), .int (z 5), .int ca, .ref (qAn g)])) := by rw [eM_6, hp_up_n (hp_ne0 hN hq_2)]; exact hN
        have ha_8 : M_5 (qHs g) = some (.inl (G.2 14, 13, .inr (.inr (.inr (.inr fH))))) := by rw [eM_6, hp_up_n (hp_ne0 hHs hq_2)]; exact hHs
        have ho_9 : M_5 q_1 = some (.inr (3, [.int 0, .int 0, .int 0, .int 0, .int 0, .int 0])) := by rw [eM_6]; exact hp_up_s
        have fr_10 := hp_fr.new hfr hq_2 eM_6
        have nn_11 := hp_fr.nn hfr hq_2
        have sh_12 := hp_sh.new hsh hq_2 eM_6
        refine V_dup C dX1_price_56 rfl ?_
        refine V_iload_n C dX1_price_57 rfl 1 rfl ?_
        refine V_iload_n C dX1_price_58 rfl 2 rfl ?_
        refine V_iconst (v := 0) C dX1_price_59 rfl ?_
        refine V_iload_n C dX1_price_60 rfl 3 rfl ?_
        refine V_iconst (v := 0) C dX1_price_61 rfl ?_
        refine V_iload C dX1_price_62 4 rfl ?_
        refine V_callI C (c_X24_init_3 l hl G X N0 M_5 q_1 ho_9 (nI h9) a 0 b 0 n) cs_X1_275 rfl rfl ⟨Nat.le_of_ble_eq_true rfl, Nat.le_of_ble_eq_true rfl⟩ ⟨(by first | exact Nat.le_of_ble_eq_true rfl | omega | (dsimp only; omega)), (by first | exact Nat.le_of_ble_eq_true rfl | omega | (dsimp only; omega))⟩ (Nat.le_of_ble_eq_true rfl) dX1_price_64 (fun _ _ _ h => px0 h) ?_
        rintro _ M_13 ⟨rfl, ho_14, fr_15, sh_16⟩
        refine V_st (st' := [.ref q_1, .ref (qN g)]) rfl ?_
        have ho_17 : M_13 (qN g) = some (.inr (0, [.ref (qRl g), .ref (qUl g), .ref (qPl g), .ref (qHs g), .int (σ.1 20), .int (σ.1 14), .int (σ.1 11), .int (σ.1 12), .int (σ.1 15), .int (z 0), .int (z 1), .int (z 2), .int (z 3), .int (z 4), .int (z 5), .int ca, .ref (qAn g)])) := fr_15 _ _ ne_3 ho_7
        have ha_18 : M_13 (qHs g) = some (.inl (G.2 14, 13, .inr (.inr (.inr (.inr fH))))) := fr_15 _ _ ne_4 ha_8
        have fr_19 := hp_fr.after fr_10 fr_15 nn_11
        have sh_20 := sh_12.trans sh_16
        have hRn : REL G (X 0) g σ z ca C9 M_13 := hR.heap (fun a e h _ => fr_19 a e (fun z => z) h)
        refine V_callV C (c_X1_priceOf l hl G X N0 M_13 g σ z ca C9 hRn hI q_1 h9 (by omega) (nI h9) a 0 b 0 n rfl ho_14 hrw9) cs_X1_282_0 ho_17 (show CLS[0]? = some (RX1, TX1, 17) from rfl) rfl rfl ⟨Nat.le_of_ble_eq_true rfl, Nat.le_of_ble_eq_true rfl⟩ ⟨(by first | exact Nat.le_of_ble_eq_true rfl | omega | (dsimp only; omega)), (by first | exact Nat.le_of_ble_eq_true rfl | omega | (dsimp only; omega))⟩ (Nat.le_of_ble_eq_true rfl) dX1_price_67 (fun _ _ _ h => px0 h) ?_
        rintro _ _ ⟨rfl, rfl⟩
        refine V_st (st' := [.int (mf_priceOf σ (nI h9) a b n)]) rfl ?_
        refine V_i2l (v := (mf_priceOf σ (nI h9) a b n).toInt64) C dX1_price_70 rfl ?_
        refine V_lret C dX1_price_71 rfl ?_ (by first | exact Nat.le_of_ble_eq_true rfl | omega | (dsimp only; omega)) (by first | exact Nat.le_of_ble_eq_true rfl | omega | (dsimp only; omega))
        refine ⟨congrArg (fun z => some (Value.long z)) ?_, fr_19, sh_20⟩
        unfold mf_price
        rw [if_pos ⟨(in64 (k := 12) (by decide)).mpr ⟨h9, by omega, rfl⟩, hrw9⟩]
      · refine V_aload_n C dX1_price_20 rfl 0 rfl ?_
        refine V_pc (pc1 := 21) rfl ?_
        refine V_iload_n C dX1_price_21 rfl 2 rfl ?_
        refine V_callV C (c_X1_isRow l hl G X N0 M g σ z ca C9 hR hI a) cs_X1_224_0 hN (show CLS[0]? = some (RX1, TX1, 17) from rfl) rfl rfl ⟨Nat.le_of_ble_eq_true rfl, Nat.le_of_ble_eq_true rfl⟩ ⟨(by first | exact Nat.le_of_ble_eq_true rfl | omega | (dsimp only; omega)), (by first | exact Nat.le_of_ble_eq_true rfl | omega | (dsimp only; omega))⟩ (Nat.le_of_ble_eq_true rfl) dX1_price_22 (fun _ _ _ h => px0 h) ?_
        rintro _ _ ⟨rfl, rfl⟩
        refine V_st (st' := [.int (bI (¬ a < 0 ∧ a < σ.1 1))]) rfl ?_
        refine V_if_eq (tgt := 48) C dX1_price_25 (by decide) (fun c_25 => ?_) (fun c_25 => ?_)
        · refine V_ldc2 (v := -9223372036854775808) C (C.w q622) dX1_price_48 ?_
          refine V_lret C dX1_price_51 rfl ?_ (by first | exact Nat.le_of_ble_eq_true rfl | omega | (dsimp only; omega)) (by first | exact Nat.le_of_ble_eq_true rfl | omega | (dsimp only; omega))
          refine ⟨congrArg (fun z => some (Value.long z)) ?_, hp_fr.rf, hp_sh.rf⟩
          unfold mf_price
          rw [if_neg]
          rintro ⟨k1, k2, k3⟩
          exact k2.elim (fun z => z.elim (bI_n.mp c_17).1 (bI_n.mp c_17).2) (bI_0.mp c_25)
        · obtain rfl | rfl | rfl | rfl | rfl | rfl | rfl | rfl | rfl | rfl | rfl | rfl | rfl : h9 = 0 ∨ h9 = 1 ∨ h9 = 2 ∨ h9 = 3 ∨ h9 = 4 ∨ h9 = 5 ∨ h9 = 6 ∨ h9 = 7 ∨ h9 = 8 ∨ h9 = 9 ∨ h9 = 10 ∨ h9 = 11 ∨ h9 = 12 := by omega
          · have hH9 : M (qH g 0) = some (.inr (10, [.int 2, .ref (qN g), .ref (qN g)])) := hR.H (by decide)
            refine V_aload_n C dX1_price_28 rfl 0 rfl ?_
            refine V_get C f_X1_173_0 hN (v := .ref (qHs g)) rfl dX1_price_29 ?_
            refine V_iload_n C dX1_price_32 rfl 1 rfl ?_
            refine V_aald C (j := 14) rfl rfl hHs (vp_in_nI (by omega) (by omega)) dX1_price_33 ?_
            refine V_st (st' := [.ref (qH g 0)]) (by rw [nI_clamp (by omega), (hHf 0 (by decide))]; rfl) ?_
            refine V_callO C (c_X4_hasOther_10 l hl G X N0 M (qH g 0) (qN g) hH9) cs_X1_278_10 hH9 (show CLS[10]? = some (RX4, TX4, 3) from rfl) rfl rfl ⟨Nat.le_of_ble_eq_true rfl, Nat.le_of_ble_eq_true rfl⟩ ⟨(by first | exact Nat.le_of_ble_eq_true rfl | omega | (dsimp only; omega)), (by first | exact Nat.le_of_ble_eq_true rfl | omega | (dsimp only; omega))⟩ (Nat.le_of_ble_eq_true rfl) dX1_price_34 (fun _ _ _ h => px0 h) ?_
            rintro _ _ ⟨rfl, rfl⟩
            refine V_st (st' := [.int 1]) rfl ?_
            refine V_if_eq (tgt := 52) C dX1_price_37 (by decide) (fun c_37 => ?_) (fun c_37 => ?_)
            · exact absurd c_37 (by decide)
            · refine V_aload_n C dX1_price_40 rfl 0 rfl ?_
              refine V_iload_n C dX1_price_41 rfl 3 rfl ?_
              refine V_callV C (c_X1_isRow l hl G X N0 M g σ z ca C9 hR hI b) cs_X1_224_0 hN (show CLS[0]? = some (RX1, TX1, 17) from rfl) rfl rfl ⟨Nat.le_of_ble_eq_true rfl, Nat.le_of_ble_eq_true rfl⟩ ⟨(by first | exact Nat.le_of_ble_eq_true rfl | omega | (dsimp only; omega)), (by first | exact Nat.le_of_ble_eq_true rfl | omega | (dsimp only; omega))⟩ (Nat.le_of_ble_eq_true rfl) dX1_price_42 (fun _ _ _ h => px0 h) ?_
              rintro _ _ ⟨rfl, rfl⟩
              refine V_st (st' := [.int (bI (¬ b < 0 ∧ b < σ.1 1))]) rfl ?_
              refine V_pc (pc1 := 45) rfl ?_
              refine V_if_ne (tgt := 52) C dX1_price_45 (by decide) (fun c_45 => ?_) (fun c_45 => ?_)
              · refine V_aload_n C dX1_price_52 rfl 0 rfl ?_
                have hfr : hp_fr (fun _ => False) M M := hp_fr.rf
                have hsh : hp_sh M M := hp_sh.rf
                have hrw9 : mf_hasRows σ (nI 0) a b := ⟨Or.inr (bI_n.mp c_25), Or.inr (bI_n.mp c_45)⟩
                refine V_new C n_X1_190 rfl (by first | exact Nat.le_of_ble_eq_true rfl | omega | (dsimp only; omega)) (by first | exact Nat.le_of_ble_eq_true rfl | omega | (dsimp only; omega)) dX1_price_53 (fun q_21 hq_22 => ?_)
                have ne_23 : (qN g) ≠ q_21 := hp_ne0 hN hq_22
                have ne_24 : (qH g 0) ≠ q_21 := hp_ne0 hH9 hq_22
                have ne_25 : (qHs g) ≠ q_21 := hp_ne0 hHs hq_22
                obtain ⟨M_26, eM_27⟩ : ∃ z, z = hp_up M q_21 (.inr (3, [.int 0, .int 0, .int 0, .int 0, .int 0, .int 0])) := ⟨_, rfl⟩
                refine V_heap (M' := M_26) eM_27.symm ?_
                have ho_28 : M_26 (qN g) = some (.inr (0, [.ref (qRl g), .ref (qUl g), .ref (qPl g), .ref (qHs g), .int (σ.1 20), .int (σ.1 14), .int (σ.1 11), .int (σ.1 12), .int (σ.1 15), .int (z 0), .int (z 1), .int (z 2), .int (z 3), .int (z 4), .int (z 5), .int ca, .ref (qAn g)])) := by rw [eM_27, hp_up_n (hp_ne0 hN hq_22)]; exact hN
                have ho_29 : M_26 (qH g 0) = some (.inr (10, [.int 2, .ref (qN g), .ref (qN g)])) := by rw [eM_27, hp_up_n (hp_ne0 hH9 hq_22)]; exact hH9
                have ha_30 : M_26 (qHs g) = some (.inl (G.2 14, 13, .inr (.inr (.inr (.inr fH))))) := by rw [eM_27, hp_up_n (hp_ne0 hHs hq_22)]; exact hHs
                have ho_31 : M_26 q_21 = some (.inr (3, [.int 0, .int 0, .int 0, .int 0, .int 0, .int 0])) := by rw [eM_27]; exact hp_up_s
                have fr_32 := hp_fr.new hfr hq_22 eM_27
                have nn_33 := hp_fr.nn hfr hq_22
                have sh_34 := hp_sh.new hsh hq_22 eM_27
                refine V_dup C dX1_price_56 rfl ?_
                refine V_iload_n C dX1_price_57 rfl 1 rfl ?_
                refine V_iload_n C dX1_price_58 rfl 2 rfl ?_
                refine V_iconst (v := 0) C dX1_price_59 rfl ?_
                refine V_iload_n C dX1_price_60 rfl 3 rfl ?_
                refine V_iconst (v := 0) C dX1_price_61 rfl ?_
                refine V_iload C dX1_price_62 4 rfl ?_
                refine V_callI C (c_X24_init_3 l hl G X N0 M_26 q_21 ho_31 (nI 0) a 0 b 0 n) cs_X1_275 rfl rfl ⟨Nat.le_of_ble_eq_true rfl, Nat.le_of_ble_eq_true rfl⟩ ⟨(by first | exact Nat.le_of_ble_eq_true rfl | omega | (dsimp only; omega)), (by first | exact Nat.le_of_ble_eq_true rfl | omega | (dsimp only; omega))⟩ (Nat.le_of_ble_eq_true rfl) dX1_price_64 (fun _ _ _ h => px0 h) ?_
                rintro _ M_35 ⟨rfl, ho_36, fr_37, sh_38⟩
                refine V_st (st' := [.ref q_21, .ref (qN g)]) rfl ?_
                have ho_39 : M_35 (qN g) = some (.inr (0, [.ref (qRl g), .ref (qUl g), .ref (qPl g), .ref (qHs g), .int (σ.1 20), .int (σ.1 14), .int (σ.1 11), .int (σ.1 12), .int (σ.1 15), .int (z 0), .int (z 1), .int (z 2), .int (z 3), .int (z 4), .int (z 5), .int ca, .ref (qAn g)])) := fr_37 _ _ ne_23 ho_28
                have ho_40 : M_35 (qH g 0) = some (.inr (10, [.int 2, .ref (qN g), .ref (qN g)])) := fr_37 _ _ ne_24 ho_29
                have ha_41 : M_35 (qHs g) = some (.inl (G.2 14, 13, .inr (.inr (.inr (.inr fH))))) := fr_37 _ _ ne_25 ha_30
                have fr_42 := hp_fr.after fr_32 fr_37 nn_33
                have sh_43 := sh_34.trans sh_38
                have hRn : REL G (X 0) g σ z ca C9 M_35 := hR.heap (fun a e h _ => fr_42 a e (fun z => z) h)
                refine V_callV C (c_X1_priceOf l hl G X N0 M_35 g σ z ca C9 hRn hI q_21 0 (by omega) (nI 0) a 0 b 0 n rfl ho_36 hrw9) cs_X1_282_0 ho_39 (show CLS[0]? = some (RX1, TX1, 17) from rfl) rfl rfl ⟨Nat.le_of_ble_eq_true rfl, Nat.le_of_ble_eq_true rfl⟩ ⟨(by first | exact Nat.le_of_ble_eq_true rfl | omega | (dsimp only; omega)), (by first | exact Nat.le_of_ble_eq_true rfl | omega | (dsimp only; omega))⟩ (Nat.le_of_ble_eq_true rfl) dX1_price_67 (fun _ _ _ h => px0 h) ?_
                rintro _ _ ⟨rfl, rfl⟩
                refine V_st (st' := [.int (mf_priceOf σ (nI 0) a b n)]) rfl ?_
                refine V_pc (pc1 := 70) rfl ?_
                refine V_i2l (v := (mf_priceOf σ (nI 0) a b n).toInt64) C dX1_price_70 rfl ?_
                refine V_lret C dX1_price_71 rfl ?_ (by first | exact Nat.le_of_ble_eq_true rfl | omega | (dsimp only; omega)) (by first | exact Nat.le_of_ble_eq_true rfl | omega | (dsimp only; omega))
                refine ⟨congrArg (fun z => some (Value.long z)) ?_, fr_42, sh_43⟩
                unfold mf_price
                rw [if_pos ⟨(in64 (k := 12) (by decide)).mpr ⟨0, by omega, rfl⟩, hrw9⟩]
              · refine V_ldc2 (v := -9223372036854775808) C (C.w q622) dX1_price_48 ?_
                refine V_lret C dX1_price_51 rfl ?_ (by first | exact Nat.le_of_ble_eq_true rfl | omega | (dsimp only; omega)) (by first | exact Nat.le_of_ble_eq_true rfl | omega | (dsimp only; omega))
                refine ⟨congrArg (fun z => some (Value.long z)) ?_, hp_fr.rf, hp_sh.rf⟩
                unfold mf_price
                rw [if_neg]
                rintro ⟨k1, k2, k3⟩
                exact k3.elim (fun z => z (by decide)) (bI_0.mp c_45)
          · have hH9 : M (qH g 1) = some (.inr (11, [.int 3, .ref (qN g), .int 0, .int 10, .ref (qN g), .ref (qN g)])) := hR.H (by decide)
            refine V_aload_n C dX1_price_28 rfl 0 rfl ?_
            refine V_get C f_X1_173_0 hN (v := .ref (qHs g)) rfl dX1_price_29 ?_
            refine V_iload_n C dX1_price_32 rfl 1 rfl ?_
            refine V_aald C (j := 14) rfl rfl hHs (vp_in_nI (by omega) (by omega)) dX1_price_33 ?_
            refine V_st (st' := [.ref (qH g 1)]) (by rw [nI_clamp (by omega), (hHf 1 (by decide))]; rfl) ?_
            refine V_callU C (c_X3_hasOther_11 l hl G X N0 M (qH g 1) (qN g) hH9) cs_X1_278_11 hH9 (show CLS[11]? = some (RX6, TX6, 6) from rfl) rfl rfl ⟨Nat.le_of_ble_eq_true rfl, Nat.le_of_ble_eq_true rfl⟩ ⟨(by first | exact Nat.le_of_ble_eq_true rfl | omega | (dsimp only; omega)), (by first | exact Nat.le_of_ble_eq_true rfl | omega | (dsimp only; omega))⟩ (Nat.le_of_ble_eq_true rfl) dX1_price_34 (fun _ _ _ h => px0 h) ?_
            rintro _ _ ⟨rfl, rfl⟩
            refine V_st (st' := [.int 0]) rfl ?_
            refine V_if_eq (tgt := 52) C dX1_price_37 (by decide) (fun c_37_2 => ?_) (fun c_37_2 => ?_)
            · refine V_aload_n C dX1_price_52 rfl 0 rfl ?_
              have hfr : hp_fr (fun _ => False) M M := hp_fr.rf
              have hsh : hp_sh M M := hp_sh.rf
              have hrw9 : mf_hasRows σ (nI 1) a b := ⟨Or.inr (bI_n.mp c_25), Or.inl (by decide)⟩
              refine V_new C n_X1_190 rfl (by first | exact Nat.le_of_ble_eq_true rfl | omega | (dsimp only; omega)) (by first | exact Nat.le_of_ble_eq_true rfl | omega | (dsimp only; omega)) dX1_price_53 (fun q_44 hq_45 => ?_)
              have ne_46 : (qN g) ≠ q_44 := hp_ne0 hN hq_45
              have ne_47 : (qH g 1) ≠ q_44 := hp_ne0 hH9 hq_45
              have ne_48 : (qHs g) ≠ q_44 := hp_ne0 hHs hq_45
              obtain ⟨M_49, eM_50⟩ : ∃ z, z = hp_up M q_44 (.inr (3, [.int 0, .int 0, .int 0, .int 0, .int 0, .int 0])) := ⟨_, rfl⟩
              refine V_heap (M' := M_49) eM_50.symm ?_
              have ho_51 : M_49 (qN g) = some (.inr (0, [.ref (qRl g), .ref (qUl g), .ref (qPl g), .ref (qHs g), .int (σ.1 20), .int (σ.1 14), .int (σ.1 11), .int (σ.1 12), .int (σ.1 15), .int (z 0), .int (z 1), .int (z 2), .int (z 3), .int (z 4), .int (z 5), .int ca, .ref (qAn g)])) := by rw [eM_50, hp_up_n (hp_ne0 hN hq_45)]; exact hN
              have ho_52 : M_49 (qH g 1) = some (.inr (11, [.int 3, .ref (qN g), .int 0, .int 10, .ref (qN g), .ref (qN g)])) := by rw [eM_50, hp_up_n (hp_ne0 hH9 hq_45)]; exact hH9
              have ha_53 : M_49 (qHs g) = some (.inl (G.2 14, 13, .inr (.inr (.inr (.inr fH))))) := by rw [eM_50, hp_up_n (hp_ne0 hHs hq_45)]; exact hHs
              have ho_54 : M_49 q_44 = some (.inr (3, [.int 0, .int 0, .int 0, .int 0, .int 0, .int 0])) := by rw [eM_50]; exact hp_up_s
              have fr_55 := hp_fr.new hfr hq_45 eM_50
              have nn_56 := hp_fr.nn hfr hq_45
              have sh_57 := hp_sh.new hsh hq_45 eM_50
              refine V_dup C dX1_price_56 rfl ?_
              refine V_pc (pc1 := 57) rfl ?_
              refine V_iload_n C dX1_price_57 rfl 1 rfl ?_
              refine V_iload_n C dX1_price_58 rfl 2 rfl ?_
              refine V_iconst (v := 0) C dX1_price_59 rfl ?_
              refine V_iload_n C dX1_price_60 rfl 3 rfl ?_
              refine V_iconst (v := 0) C dX1_price_61 rfl ?_
              refine V_iload C dX1_price_62 4 rfl ?_
              refine V_callI C (c_X24_init_3 l hl G X N0 M_49 q_44 ho_54 (nI 1) a 0 b 0 n) cs_X1_275 rfl rfl ⟨Nat.le_of_ble_eq_true rfl, Nat.le_of_ble_eq_true rfl⟩ ⟨(by first | exact Nat.le_of_ble_eq_true rfl | omega | (dsimp only; omega)), (by first | exact Nat.le_of_ble_eq_true rfl | omega | (dsimp only; omega))⟩ (Nat.le_of_ble_eq_true rfl) dX1_price_64 (fun _ _ _ h => px0 h) ?_
              rintro _ M_58 ⟨rfl, ho_59, fr_60, sh_61⟩
              refine V_st (st' := [.ref q_44, .ref (qN g)]) rfl ?_
              have ho_62 : M_58 (qN g) = some (.inr (0, [.ref (qRl g), .ref (qUl g), .ref (qPl g), .ref (qHs g), .int (σ.1 20), .int (σ.1 14), .int (σ.1 11), .int (σ.1 12), .int (σ.1 15), .int (z 0), .int (z 1), .int (z 2), .int (z 3), .int (z 4), .int (z 5), .int ca, .ref (qAn g)])) := fr_60 _ _ ne_46 ho_51
              have ho_63 : M_58 (qH g 1) = some (.inr (11, [.int 3, .ref (qN g), .int 0, .int 10, .ref (qN g), .ref (qN g)])) := fr_60 _ _ ne_47 ho_52
              have ha_64 : M_58 (qHs g) = some (.inl (G.2 14, 13, .inr (.inr (.inr (.inr fH))))) := fr_60 _ _ ne_48 ha_53
              have fr_65 := hp_fr.after fr_55 fr_60 nn_56
              have sh_66 := sh_57.trans sh_61
              have hRn : REL G (X 0) g σ z ca C9 M_58 := hR.heap (fun a e h _ => fr_65 a e (fun z => z) h)
              refine V_callV C (c_X1_priceOf l hl G X N0 M_58 g σ z ca C9 hRn hI q_44 1 (by omega) (nI 1) a 0 b 0 n rfl ho_59 hrw9) cs_X1_282_0 ho_62 (show CLS[0]? = some (RX1, TX1, 17) from rfl) rfl rfl ⟨Nat.le_of_ble_eq_true rfl, Nat.le_of_ble_eq_true rfl⟩ ⟨(by first | exact Nat.le_of_ble_eq_true rfl | omega | (dsimp only; omega)), (by first | exact Nat.le_of_ble_eq_true rfl | omega | (dsimp only; omega))⟩ (Nat.le_of_ble_eq_true rfl) dX1_price_67 (fun _ _ _ h => px0 h) ?_
              rintro _ _ ⟨rfl, rfl⟩
              refine V_st (st' := [.int (mf_priceOf σ (nI 1) a b n)]) rfl ?_
              refine V_i2l (v := (mf_priceOf σ (nI 1) a b n).toInt64) C dX1_price_70 rfl ?_
              refine V_lret C dX1_price_71 rfl ?_ (by first | exact Nat.le_of_ble_eq_true rfl | omega | (dsimp only; omega)) (by first | exact Nat.le_of_ble_eq_true rfl | omega | (dsimp only; omega))
              refine ⟨congrArg (fun z => some (Value.long z)) ?_, fr_65, sh_66⟩
              unfold mf_price
              rw [if_pos ⟨(in64 (k := 12) (by decide)).mpr ⟨1, by omega, rfl⟩, hrw9⟩]
            · exact absurd c_37_2 (by decide)
          · have hH9 : M (qH g 2) = some (.inr (12, [.int 1, .ref (qN g), .int 0, .int 10, .ref (qN g), .ref (qN g), .ref (qN g)])) := hR.H (by decide)
            refine V_aload_n C dX1_price_28 rfl 0 rfl ?_
            refine V_get C f_X1_173_0 hN (v := .ref (qHs g)) rfl dX1_price_29 ?_
            refine V_iload_n C dX1_price_32 rfl 1 rfl ?_
            refine V_aald C (j := 14) rfl rfl hHs (vp_in_nI (by omega) (by omega)) dX1_price_33 ?_
            refine V_st (st' := [.ref (qH g 2)]) (by rw [nI_clamp (by omega), (hHf 2 (by decide))]; rfl) ?_
            refine V_callU C (c_X3_hasOther_12 l hl G X N0 M (qH g 2) (qN g) hH9) cs_X1_278_12 hH9 (show CLS[12]? = some (RX8, TX8, 7) from rfl) rfl rfl ⟨Nat.le_of_ble_eq_true rfl, Nat.le_of_ble_eq_true rfl⟩ ⟨(by first | exact Nat.le_of_ble_eq_true rfl | omega | (dsimp only; omega)), (by first | exact Nat.le_of_ble_eq_true rfl | omega | (dsimp only; omega))⟩ (Nat.le_of_ble_eq_true rfl) dX1_price_34 (fun _ _ _ h => px0 h) ?_
            rintro _ _ ⟨rfl, rfl⟩
            refine V_st (st' := [.int 0]) rfl ?_
            refine V_if_eq (tgt := 52) C dX1_price_37 (by decide) (fun c_37_3 => ?_) (fun c_37_3 => ?_)
            · refine V_aload_n C dX1_price_52 rfl 0 rfl ?_
              have hfr : hp_fr (fun _ => False) M M := hp_fr.rf
              have hsh : hp_sh M M := hp_sh.rf
              have hrw9 : mf_hasRows σ (nI 2) a b := ⟨Or.inr (bI_n.mp c_25), Or.inl (by decide)⟩
              refine V_new C n_X1_190 rfl (by first | exact Nat.le_of_ble_eq_true rfl | omega | (dsimp only; omega)) (by first | exact Nat.le_of_ble_eq_true rfl | omega | (dsimp only; omega)) dX1_price_53 (fun q_67 hq_68 => ?_)
              have ne_69 : (qN g) ≠ q_67 := hp_ne0 hN hq_68
              have ne_70 : (qH g 2) ≠ q_67 := hp_ne0 hH9 hq_68
              have ne_71 : (qHs g) ≠ q_67 := hp_ne0 hHs hq_68
              obtain ⟨M_72, eM_73⟩ : ∃ z, z = hp_up M q_67 (.inr (3, [.int 0, .int 0, .int 0, .int 0, .int 0, .int 0])) := ⟨_, rfl⟩
              refine V_heap (M' := M_72) eM_73.symm ?_
              have ho_74 : M_72 (qN g) = some (.inr (0, [.ref (qRl g), .ref (qUl g), .ref (qPl g), .ref (qHs g), .int (σ.1 20), .int (σ.1 14), .int (σ.1 11), .int (σ.1 12), .int (σ.1 15), .int (z 0), .int (z 1), .int (z 2), .int (z 3), .int (z 4), .int (z 5), .int ca, .ref (qAn g)])) := by rw [eM_73, hp_up_n (hp_ne0 hN hq_68)]; exact hN
              have ho_75 : M_72 (qH g 2) = some (.inr (12, [.int 1, .ref (qN g), .int 0, .int 10, .ref (qN g), .ref (qN g), .ref (qN g)])) := by rw [eM_73, hp_up_n (hp_ne0 hH9 hq_68)]; exact hH9
              have ha_76 : M_72 (qHs g) = some (.inl (G.2 14, 13, .inr (.inr (.inr (.inr fH))))) := by rw [eM_73, hp_up_n (hp_ne0 hHs hq_68)]; exact hHs
              have ho_77 : M_72 q_67 = some (.inr (3, [.int 0, .int 0, .int 0, .int 0, .int 0, .int 0])) := by rw [eM_73]; exact hp_up_s
              have fr_78 := hp_fr.new hfr hq_68 eM_73
              have nn_79 := hp_fr.nn hfr hq_68
              have sh_80 := hp_sh.new hsh hq_68 eM_73
              refine V_dup C dX1_price_56 rfl ?_
              refine V_pc (pc1 := 57) rfl ?_
              refine V_iload_n C dX1_price_57 rfl 1 rfl ?_
              refine V_iload_n C dX1_price_58 rfl 2 rfl ?_
              refine V_iconst (v := 0) C dX1_price_59 rfl ?_
              refine V_iload_n C dX1_price_60 rfl 3 rfl ?_
              refine V_iconst (v := 0) C dX1_price_61 rfl ?_
              refine V_iload C dX1_price_62 4 rfl ?_
              refine V_callI C (c_X24_init_3 l hl G X N0 M_72 q_67 ho_77 (nI 2) a 0 b 0 n) cs_X1_275 rfl rfl ⟨Nat.le_of_ble_eq_true rfl, Nat.le_of_ble_eq_true rfl⟩ ⟨(by first | exact Nat.le_of_ble_eq_true rfl | omega | (dsimp only; omega)), (by first | exact Nat.le_of_ble_eq_true rfl | omega | (dsimp only; omega))⟩ (Nat.le_of_ble_eq_true rfl) dX1_price_64 (fun _ _ _ h => px0 h) ?_
              rintro _ M_81 ⟨rfl, ho_82, fr_83, sh_84⟩
              refine V_st (st' := [.ref q_67, .ref (qN g)]) rfl ?_
              have ho_85 : M_81 (qN g) = some (.inr (0, [.ref (qRl g), .ref (qUl g), .ref (qPl g), .ref (qHs g), .int (σ.1 20), .int (σ.1 14), .int (σ.1 11), .int (σ.1 12), .int (σ.1 15), .int (z 0), .int (z 1), .int (z 2), .int (z 3), .int (z 4), .int (z 5), .int ca, .ref (qAn g)])) := fr_83 _ _ ne_69 ho_74
              have ho_86 : M_81 (qH g 2) = some (.inr (12, [.int 1, .ref (qN g), .int 0, .int 10, .ref (qN g), .ref (qN g), .ref (qN g)])) := fr_83 _ _ ne_70 ho_75
              have ha_87 : M_81 (qHs g) = some (.inl (G.2 14, 13, .inr (.inr (.inr (.inr fH))))) := fr_83 _ _ ne_71 ha_76
              have fr_88 := hp_fr.after fr_78 fr_83 nn_79
              have sh_89 := sh_80.trans sh_84
              have hRn : REL G (X 0) g σ z ca C9 M_81 := hR.heap (fun a e h _ => fr_88 a e (fun z => z) h)
              refine V_callV C (c_X1_priceOf l hl G X N0 M_81 g σ z ca C9 hRn hI q_67 2 (by omega) (nI 2) a 0 b 0 n rfl ho_82 hrw9) cs_X1_282_0 ho_85 (show CLS[0]? = some (RX1, TX1, 17) from rfl) rfl rfl ⟨Nat.le_of_ble_eq_true rfl, Nat.le_of_ble_eq_true rfl⟩ ⟨(by first | exact Nat.le_of_ble_eq_true rfl | omega | (dsimp only; omega)), (by first | exact Nat.le_of_ble_eq_true rfl | omega | (dsimp only; omega))⟩ (Nat.le_of_ble_eq_true rfl) dX1_price_67 (fun _ _ _ h => px0 h) ?_
              rintro _ _ ⟨rfl, rfl⟩
              refine V_st (st' := [.int (mf_priceOf σ (nI 2) a b n)]) rfl ?_
              refine V_i2l (v := (mf_priceOf σ (nI 2) a b n).toInt64) C dX1_price_70 rfl ?_
              refine V_lret C dX1_price_71 rfl ?_ (by first | exact Nat.le_of_ble_eq_true rfl | omega | (dsimp only; omega)) (by first | exact Nat.le_of_ble_eq_true rfl | omega | (dsimp only; omega))
              refine ⟨congrArg (fun z => some (Value.long z)) ?_, fr_88, sh_89⟩
              unfold mf_price
              rw [if_pos ⟨(in64 (k := 12) (by decide)).mpr ⟨2, by omega, rfl⟩, hrw9⟩]
            · exact absurd c_37_3 (by decide)
          · have hH9 : M (qH g 3) = some (.inr (13, [.int 1, .ref (qN g), .int 0, .int 10, .ref (qN g), .ref (qN g), .ref (qN g)])) := hR.H (by decide)
            refine V_aload_n C dX1_price_28 rfl 0 rfl ?_
            refine V_get C f_X1_173_0 hN (v := .ref (qHs g)) rfl dX1_price_29 ?_
            refine V_iload_n C dX1_price_32 rfl 1 rfl ?_
            refine V_aald C (j := 14) rfl rfl hHs (vp_in_nI (by omega) (by omega)) dX1_price_33 ?_
            refine V_st (st' := [.ref (qH g 3)]) (by rw [nI_clamp (by omega), (hHf 3 (by decide))]; rfl) ?_
            refine V_callO C (c_X9_hasOther_13 l hl G X N0 M (qH g 3) (qN g) hH9) cs_X1_278_13 hH9 (show CLS[13]? = some (RX10, TX10, 7) from rfl) rfl rfl ⟨Nat.le_of_ble_eq_true rfl, Nat.le_of_ble_eq_true rfl⟩ ⟨(by first | exact Nat.le_of_ble_eq_true rfl | omega | (dsimp only; omega)), (by first | exact Nat.le_of_ble_eq_true rfl | omega | (dsimp only; omega))⟩ (Nat.le_of_ble_eq_true rfl) dX1_price_34 (fun _ _ _ h => px0 h) ?_
            rintro _ _ ⟨rfl, rfl⟩
            refine V_st (st' := [.int 1]) rfl ?_
            refine V_if_eq (tgt := 52) C dX1_price_37 (by decide) (fun c_37_4 => ?_) (fun c_37_4 => ?_)
            · exact absurd c_37_4 (by decide)
            · refine V_aload_n C dX1_price_40 rfl 0 rfl ?_
              refine V_iload_n C dX1_price_41 rfl 3 rfl ?_
              refine V_callV C (c_X1_isRow l hl G X N0 M g σ z ca C9 hR hI b) cs_X1_224_0 hN (show CLS[0]? = some (RX1, TX1, 17) from rfl) rfl rfl ⟨Nat.le_of_ble_eq_true rfl, Nat.le_of_ble_eq_true rfl⟩ ⟨(by first | exact Nat.le_of_ble_eq_true rfl | omega | (dsimp only; omega)), (by first | exact Nat.le_of_ble_eq_true rfl | omega | (dsimp only; omega))⟩ (Nat.le_of_ble_eq_true rfl) dX1_price_42 (fun _ _ _ h => px0 h) ?_
              rintro _ _ ⟨rfl, rfl⟩
              refine V_st (st' := [.int (bI (¬ b < 0 ∧ b < σ.1 1))]) rfl ?_
              refine V_pc (pc1 := 45) rfl ?_
              refine V_if_ne (tgt := 52) C dX1_price_45 (by decide) (fun c_45_2 => ?_) (fun c_45_2 => ?_)
              · refine V_aload_n C dX1_price_52 rfl 0 rfl ?_
                have hfr : hp_fr (fun _ => False) M M := hp_fr.rf
                have hsh : hp_sh M M := hp_sh.rf
                have hrw9 : mf_hasRows σ (nI 3) a b := ⟨Or.inr (bI_n.mp c_25), Or.inr (bI_n.mp c_45_2)⟩
                refine V_new C n_X1_190 rfl (by first | exact Nat.le_of_ble_eq_true rfl | omega | (dsimp only; omega)) (by first | exact Nat.le_of_ble_eq_true rfl | omega | (dsimp only; omega)) dX1_price_53 (fun q_90 hq_91 => ?_)
                have ne_92 : (qN g) ≠ q_90 := hp_ne0 hN hq_91
                have ne_93 : (qH g 3) ≠ q_90 := hp_ne0 hH9 hq_91
                have ne_94 : (qHs g) ≠ q_90 := hp_ne0 hHs hq_91
                obtain ⟨M_95, eM_96⟩ : ∃ z, z = hp_up M q_90 (.inr (3, [.int 0, .int 0, .int 0, .int 0, .int 0, .int 0])) := ⟨_, rfl⟩
                refine V_heap (M' := M_95) eM_96.symm ?_
                have ho_97 : M_95 (qN g) = some (.inr (0, [.ref (qRl g), .ref (qUl g), .ref (qPl g), .ref (qHs g), .int (σ.1 20), .int (σ.1 14), .int (σ.1 11), .int (σ.1 12), .int (σ.1 15), .int (z 0), .int (z 1), .int (z 2), .int (z 3), .int (z 4), .int (z 5), .int ca, .ref (qAn g)])) := by rw [eM_96, hp_up_n (hp_ne0 hN hq_91)]; exact hN
                have ho_98 : M_95 (qH g 3) = some (.inr (13, [.int 1, .ref (qN g), .int 0, .int 10, .ref (qN g), .ref (qN g), .ref (qN g)])) := by rw [eM_96, hp_up_n (hp_ne0 hH9 hq_91)]; exact hH9
                have ha_99 : M_95 (qHs g) = some (.inl (G.2 14, 13, .inr (.inr (.inr (.inr fH))))) := by rw [eM_96, hp_up_n (hp_ne0 hHs hq_91)]; exact hHs
                have ho_100 : M_95 q_90 = some (.inr (3, [.int 0, .int 0, .int 0, .int 0, .int 0, .int 0])) := by rw [eM_96]; exact hp_up_s
                have fr_101 := hp_fr.new hfr hq_91 eM_96
                have nn_102 := hp_fr.nn hfr hq_91
                have sh_103 := hp_sh.new hsh hq_91 eM_96
                refine V_dup C dX1_price_56 rfl ?_
                refine V_iload_n C dX1_price_57 rfl 1 rfl ?_
                refine V_iload_n C dX1_price_58 rfl 2 rfl ?_
                refine V_iconst (v := 0) C dX1_price_59 rfl ?_
                refine V_iload_n C dX1_price_60 rfl 3 rfl ?_
                refine V_iconst (v := 0) C dX1_price_61 rfl ?_
                refine V_iload C dX1_price_62 4 rfl ?_
                refine V_callI C (c_X24_init_3 l hl G X N0 M_95 q_90 ho_100 (nI 3) a 0 b 0 n) cs_X1_275 rfl rfl ⟨Nat.le_of_ble_eq_true rfl, Nat.le_of_ble_eq_true rfl⟩ ⟨(by first | exact Nat.le_of_ble_eq_true rfl | omega | (dsimp only; omega)), (by first | exact Nat.le_of_ble_eq_true rfl | omega | (dsimp only; omega))⟩ (Nat.le_of_ble_eq_true rfl) dX1_price_64 (fun _ _ _ h => px0 h) ?_
                rintro _ M_104 ⟨rfl, ho_105, fr_106, sh_107⟩
                refine V_st (st' := [.ref q_90, .ref (qN g)]) rfl ?_
                have ho_108 : M_104 (qN g) = some (.inr (0, [.ref (qRl g), .ref (qUl g), .ref (qPl g), .ref (qHs g), .int (σ.1 20), .int (σ.1 14), .int (σ.1 11), .int (σ.1 12), .int (σ.1 15), .int (z 0), .int (z 1), .int (z 2), .int (z 3), .int (z 4), .int (z 5), .int ca, .ref (qAn g)])) := fr_106 _ _ ne_92 ho_97
                have ho_109 : M_104 (qH g 3) = some (.inr (13, [.int 1, .ref (qN g), .int 0, .int 10, .ref (qN g), .ref (qN g), .ref (qN g)])) := fr_106 _ _ ne_93 ho_98
                have ha_110 : M_104 (qHs g) = some (.inl (G.2 14, 13, .inr (.inr (.inr (.inr fH))))) := fr_106 _ _ ne_94 ha_99
                have fr_111 := hp_fr.after fr_101 fr_106 nn_102
                have sh_112 := sh_103.trans sh_107
                have hRn : REL G (X 0) g σ z ca C9 M_104 := hR.heap (fun a e h _ => fr_111 a e (fun z => z) h)
                refine V_callV C (c_X1_priceOf l hl G X N0 M_104 g σ z ca C9 hRn hI q_90 3 (by omega) (nI 3) a 0 b 0 n rfl ho_105 hrw9) cs_X1_282_0 ho_108 (show CLS[0]? = some (RX1, TX1, 17) from rfl) rfl rfl ⟨Nat.le_of_ble_eq_true rfl, Nat.le_of_ble_eq_true rfl⟩ ⟨(by first | exact Nat.le_of_ble_eq_true rfl | omega | (dsimp only; omega)), (by first | exact Nat.le_of_ble_eq_true rfl | omega | (dsimp only; omega))⟩ (Nat.le_of_ble_eq_true rfl) dX1_price_67 (fun _ _ _ h => px0 h) ?_
                rintro _ _ ⟨rfl, rfl⟩
                refine V_st (st' := [.int (mf_priceOf σ (nI 3) a b n)]) rfl ?_
                refine V_pc (pc1 := 70) rfl ?_
                refine V_i2l (v := (mf_priceOf σ (nI 3) a b n).toInt64) C dX1_price_70 rfl ?_
                refine V_lret C dX1_price_71 rfl ?_ (by first | exact Nat.le_of_ble_eq_true rfl | omega | (dsimp only; omega)) (by first | exact Nat.le_of_ble_eq_true rfl | omega | (dsimp only; omega))
                refine ⟨congrArg (fun z => some (Value.long z)) ?_, fr_111, sh_112⟩
                unfold mf_price
                rw [if_pos ⟨(in64 (k := 12) (by decide)).mpr ⟨3, by omega, rfl⟩, hrw9⟩]
              · refine V_ldc2 (v := -9223372036854775808) C (C.w q622) dX1_price_48 ?_
                refine V_lret C dX1_price_51 rfl ?_ (by first | exact Nat.le_of_ble_eq_true rfl | omega | (dsimp only; omega)) (by first | exact Nat.le_of_ble_eq_true rfl | omega | (dsimp only; omega))
                refine ⟨congrArg (fun z => some (Value.long z)) ?_, hp_fr.rf, hp_sh.rf⟩
                unfold mf_price
                rw [if_neg]
                rintro ⟨k1, k2, k3⟩
                exact k3.elim (fun z => z (by decide)) (bI_0.mp c_45_2)
          · have hH9 : M (qH g 4) = some (.inr (14, [.int 1, .ref (qN g), .int 1, .int 7, .ref (qN g), .ref (qN g), .ref (qN g)])) := hR.H (by decide)
            refine V_aload_n C dX1_price_28 rfl 0 rfl ?_
            refine V_get C f_X1_173_0 hN (v := .ref (qHs g)) rfl dX1_price_29 ?_
            refine V_iload_n C dX1_price_32 rfl 1 rfl ?_
            refine V_aald C (j := 14) rfl rfl hHs (vp_in_nI (by omega) (by omega)) dX1_price_33 ?_
            refine V_st (st' := [.ref (qH g 4)]) (by rw [nI_clamp (by omega), (hHf 4 (by decide))]; rfl) ?_
            refine V_callO C (c_X9_hasOther_14 l hl G X N0 M (qH g 4) (qN g) hH9) cs_X1_278_14 hH9 (show CLS[14]? = some (RX11, TX11, 7) from rfl) rfl rfl ⟨Nat.le_of_ble_eq_true rfl, Nat.le_of_ble_eq_true rfl⟩ ⟨(by first | exact Nat.le_of_ble_eq_true rfl | omega | (dsimp only; omega)), (by first | exact Nat.le_of_ble_eq_true rfl | omega | (dsimp only; omega))⟩ (Nat.le_of_ble_eq_true rfl) dX1_price_34 (fun _ _ _ h => px0 h) ?_
            rintro _ _ ⟨rfl, rfl⟩
            refine V_st (st' := [.int 1]) rfl ?_
            refine V_if_eq (tgt := 52) C dX1_price_37 (by decide) (fun c_37_5 => ?_) (fun c_37_5 => ?_)
            · exact absurd c_37_5 (by decide)
            · refine V_aload_n C dX1_price_40 rfl 0 rfl ?_
              refine V_iload_n C dX1_price_41 rfl 3 rfl ?_
              refine V_callV C (c_X1_isRow l hl G X N0 M g σ z ca C9 hR hI b) cs_X1_224_0 hN (show CLS[0]? = some (RX1, TX1, 17) from rfl) rfl rfl ⟨Nat.le_of_ble_eq_true rfl, Nat.le_of_ble_eq_true rfl⟩ ⟨(by first | exact Nat.le_of_ble_eq_true rfl | omega | (dsimp only; omega)), (by first | exact Nat.le_of_ble_eq_true rfl | omega | (dsimp only; omega))⟩ (Nat.le_of_ble_eq_true rfl) dX1_price_42 (fun _ _ _ h => px0 h) ?_
              rintro _ _ ⟨rfl, rfl⟩
              refine V_st (st' := [.int (bI (¬ b < 0 ∧ b < σ.1 1))]) rfl ?_
              refine V_pc (pc1 := 45) rfl ?_
              refine V_if_ne (tgt := 52) C dX1_price_45 (by decide) (fun c_45_3 => ?_) (fun c_45_3 => ?_)
              · refine V_aload_n C dX1_price_52 rfl 0 rfl ?_
                have hfr : hp_fr (fun _ => False) M M := hp_fr.rf
                have hsh : hp_sh M M := hp_sh.rf
                have hrw9 : mf_hasRows σ (nI 4) a b := ⟨Or.inr (bI_n.mp c_25), Or.inr (bI_n.mp c_45_3)⟩
                refine V_new C n_X1_190 rfl (by first | exact Nat.le_of_ble_eq_true rfl | omega | (dsimp only; omega)) (by first | exact Nat.le_of_ble_eq_true rfl | omega | (dsimp only; omega)) dX1_price_53 (fun q_113 hq_114 => ?_)
                have ne_115 : (qN g) ≠ q_113 := hp_ne0 hN hq_114
                have ne_116 : (qH g 4) ≠ q_113 := hp_ne0 hH9 hq_114
                have ne_117 : (qHs g) ≠ q_113 := hp_ne0 hHs hq_114
                obtain ⟨M_118, eM_119⟩ : ∃ z, z = hp_up M q_113 (.inr (3, [.int 0, .int 0, .int 0, .int 0, .int 0, .int 0])) := ⟨_, rfl⟩
                refine V_heap (M' := M_118) eM_119.symm ?_
                have ho_120 : M_118 (qN g) = some (.inr (0, [.ref (qRl g), .ref (qUl g), .ref (qPl g), .ref (qHs g), .int (σ.1 20), .int (σ.1 14), .int (σ.1 11), .int (σ.1 12), .int (σ.1 15), .int (z 0), .int (z 1), .int (z 2), .int (z 3), .int (z 4), .int (z 5), .int ca, .ref (qAn g)])) := by rw [eM_119, hp_up_n (hp_ne0 hN hq_114)]; exact hN
                have ho_121 : M_118 (qH g 4) = some (.inr (14, [.int 1, .ref (qN g), .int 1, .int 7, .ref (qN g), .ref (qN g), .ref (qN g)])) := by rw [eM_119, hp_up_n (hp_ne0 hH9 hq_114)]; exact hH9
                have ha_122 : M_118 (qHs g) = some (.inl (G.2 14, 13, .inr (.inr (.inr (.inr fH))))) := by rw [eM_119, hp_up_n (hp_ne0 hHs hq_114)]; exact hHs
                have ho_123 : M_118 q_113 = some (.inr (3, [.int 0, .int 0, .int 0, .int 0, .int 0, .int 0])) := by rw [eM_119]; exact hp_up_s
                have fr_124 := hp_fr.new hfr hq_114 eM_119
                have nn_125 := hp_fr.nn hfr hq_114
                have sh_126 := hp_sh.new hsh hq_114 eM_119
                refine V_dup C dX1_price_56 rfl ?_
                refine V_iload_n C dX1_price_57 rfl 1 rfl ?_
                refine V_iload_n C dX1_price_58 rfl 2 rfl ?_
                refine V_iconst (v := 0) C dX1_price_59 rfl ?_
                refine V_iload_n C dX1_price_60 rfl 3 rfl ?_
                refine V_iconst (v := 0) C dX1_price_61 rfl ?_
                refine V_iload C dX1_price_62 4 rfl ?_
                refine V_callI C (c_X24_init_3 l hl G X N0 M_118 q_113 ho_123 (nI 4) a 0 b 0 n) cs_X1_275 rfl rfl ⟨Nat.le_of_ble_eq_true rfl, Nat.le_of_ble_eq_true rfl⟩ ⟨(by first | exact Nat.le_of_ble_eq_true rfl | omega | (dsimp only; omega)), (by first | exact Nat.le_of_ble_eq_true rfl | omega | (dsimp only; omega))⟩ (Nat.le_of_ble_eq_true rfl) dX1_price_64 (fun _ _ _ h => px0 h) ?_
                rintro _ M_127 ⟨rfl, ho_128, fr_129, sh_130⟩
                refine V_st (st' := [.ref q_113, .ref (qN g)]) rfl ?_
                have ho_131 : M_127 (qN g) = some (.inr (0, [.ref (qRl g), .ref (qUl g), .ref (qPl g), .ref (qHs g), .int (σ.1 20), .int (σ.1 14), .int (σ.1 11), .int (σ.1 12), .int (σ.1 15), .int (z 0), .int (z 1), .int (z 2), .int (z 3), .int (z 4), .int (z 5), .int ca, .ref (qAn g)])) := fr_129 _ _ ne_115 ho_120
                have ho_132 : M_127 (qH g 4) = some (.inr (14, [.int 1, .ref (qN g), .int 1, .int 7, .ref (qN g), .ref (qN g), .ref (qN g)])) := fr_129 _ _ ne_116 ho_121
                have ha_133 : M_127 (qHs g) = some (.inl (G.2 14, 13, .inr (.inr (.inr (.inr fH))))) := fr_129 _ _ ne_117 ha_122
                have fr_134 := hp_fr.after fr_124 fr_129 nn_125
                have sh_135 := sh_126.trans sh_130
                have hRn : REL G (X 0) g σ z ca C9 M_127 := hR.heap (fun a e h _ => fr_134 a e (fun z => z) h)
                refine V_callV C (c_X1_priceOf l hl G X N0 M_127 g σ z ca C9 hRn hI q_113 4 (by omega) (nI 4) a 0 b 0 n rfl ho_128 hrw9) cs_X1_282_0 ho_131 (show CLS[0]? = some (RX1, TX1, 17) from rfl) rfl rfl ⟨Nat.le_of_ble_eq_true rfl, Nat.le_of_ble_eq_true rfl⟩ ⟨(by first | exact Nat.le_of_ble_eq_true rfl | omega | (dsimp only; omega)), (by first | exact Nat.le_of_ble_eq_true rfl | omega | (dsimp only; omega))⟩ (Nat.le_of_ble_eq_true rfl) dX1_price_67 (fun _ _ _ h => px0 h) ?_
                rintro _ _ ⟨rfl, rfl⟩
                refine V_st (st' := [.int (mf_priceOf σ (nI 4) a b n)]) rfl ?_
                refine V_pc (pc1 := 70) rfl ?_
                refine V_i2l (v := (mf_priceOf σ (nI 4) a b n).toInt64) C dX1_price_70 rfl ?_
                refine V_lret C dX1_price_71 rfl ?_ (by first | exact Nat.le_of_ble_eq_true rfl | omega | (dsimp only; omega)) (by first | exact Nat.le_of_ble_eq_true rfl | omega | (dsimp only; omega))
                refine ⟨congrArg (fun z => some (Value.long z)) ?_, fr_134, sh_135⟩
                unfold mf_price
                rw [if_pos ⟨(in64 (k := 12) (by decide)).mpr ⟨4, by omega, rfl⟩, hrw9⟩]
              · refine V_ldc2 (v := -9223372036854775808) C (C.w q622) dX1_price_48 ?_
                refine V_lret C dX1_price_51 rfl ?_ (by first | exact Nat.le_of_ble_eq_true rfl | omega | (dsimp only; omega)) (by first | exact Nat.le_of_ble_eq_true rfl | omega | (dsimp only; omega))
                refine ⟨congrArg (fun z => some (Value.long z)) ?_, hp_fr.rf, hp_sh.rf⟩
                unfold mf_price
                rw [if_neg]
                rintro ⟨k1, k2, k3⟩
                exact k3.elim (fun z => z (by decide)) (bI_0.mp c_45_3)
          · have hH9 : M (qH g 5) = some (.inr (15, [.int 1, .ref (qN g), .int 0, .int 10, .ref (qN g), .ref (qN g)])) := hR.H (by decide)
            refine V_aload_n C dX1_price_28 rfl 0 rfl ?_
            refine V_get C f_X1_173_0 hN (v := .ref (qHs g)) rfl dX1_price_29 ?_
            refine V_iload_n C dX1_price_32 rfl 1 rfl ?_
            refine V_aald C (j := 14) rfl rfl hHs (vp_in_nI (by omega) (by omega)) dX1_price_33 ?_
            refine V_st (st' := [.ref (qH g 5)]) (by rw [nI_clamp (by omega), (hHf 5 (by decide))]; rfl) ?_
            refine V_callU C (c_X3_hasOther_15 l hl G X N0 M (qH g 5) (qN g) hH9) cs_X1_278_15 hH9 (show CLS[15]? = some (RX12, TX12, 6) from rfl) rfl rfl ⟨Nat.le_of_ble_eq_true rfl, Nat.le_of_ble_eq_true rfl⟩ ⟨(by first | exact Nat.le_of_ble_eq_true rfl | omega | (dsimp only; omega)), (by first | exact Nat.le_of_ble_eq_true rfl | omega | (dsimp only; omega))⟩ (Nat.le_of_ble_eq_true rfl) dX1_price_34 (fun _ _ _ h => px0 h) ?_
            rintro _ _ ⟨rfl, rfl⟩
            refine V_st (st' := [.int 0]) rfl ?_
            refine V_if_eq (tgt := 52) C dX1_price_37 (by decide) (fun c_37_6 => ?_) (fun c_37_6 => ?_)
            · refine V_aload_n C dX1_price_52 rfl 0 rfl ?_
              have hfr : hp_fr (fun _ => False) M M := hp_fr.rf
              have hsh : hp_sh M M := hp_sh.rf
              have hrw9 : mf_hasRows σ (nI 5) a b := ⟨Or.inr (bI_n.mp c_25), Or.inl (by decide)⟩
              refine V_new C n_X1_190 rfl (by first | exact Nat.le_of_ble_eq_true rfl | omega | (dsimp only; omega)) (by first | exact Nat.le_of_ble_eq_true rfl | omega | (dsimp only; omega)) dX1_price_53 (fun q_136 hq_137 => ?_)
              have ne_138 : (qN g) ≠ q_136 := hp_ne0 hN hq_137
              have ne_139 : (qH g 5) ≠ q_136 := hp_ne0 hH9 hq_137
              have ne_140 : (qHs g) ≠ q_136 := hp_ne0 hHs hq_137
              obtain ⟨M_141, eM_142⟩ : ∃ z, z = hp_up M q_136 (.inr (3, [.int 0, .int 0, .int 0, .int 0, .int 0, .int 0])) := ⟨_, rfl⟩
              refine V_heap (M' := M_141) eM_142.symm ?_
              have ho_143 : M_141 (qN g) = some (.inr (0, [.ref (qRl g), .ref (qUl g), .ref (qPl g), .ref (qHs g), .int (σ.1 20), .int (σ.1 14), .int (σ.1 11), .int (σ.1 12), .int (σ.1 15), .int (z 0), .int (z 1), .int (z 2), .int (z 3), .int (z 4), .int (z 5), .int ca, .ref (qAn g)])) := by rw [eM_142, hp_up_n (hp_ne0 hN hq_137)]; exact hN
              have ho_144 : M_141 (qH g 5) = some (.inr (15, [.int 1, .ref (qN g), .int 0, .int 10, .ref (qN g), .ref (qN g)])) := by rw [eM_142, hp_up_n (hp_ne0 hH9 hq_137)]; exact hH9
              have ha_145 : M_141 (qHs g) = some (.inl (G.2 14, 13, .inr (.inr (.inr (.inr fH))))) := by rw [eM_142, hp_up_n (hp_ne0 hHs hq_137)]; exact hHs
              have ho_146 : M_141 q_136 = some (.inr (3, [.int 0, .int 0, .int 0, .int 0, .int 0, .int 0])) := by rw [eM_142]; exact hp_up_s
              have fr_147 := hp_fr.new hfr hq_137 eM_142
              have nn_148 := hp_fr.nn hfr hq_137
              have sh_149 := hp_sh.new hsh hq_137 eM_142
              refine V_dup C dX1_price_56 rfl ?_
              refine V_pc (pc1 := 57) rfl ?_
              refine V_iload_n C dX1_price_57 rfl 1 rfl ?_
              refine V_iload_n C dX1_price_58 rfl 2 rfl ?_
              refine V_iconst (v := 0) C dX1_price_59 rfl ?_
              refine V_iload_n C dX1_price_60 rfl 3 rfl ?_
              refine V_iconst (v := 0) C dX1_price_61 rfl ?_
              refine V_iload C dX1_price_62 4 rfl ?_
              refine V_callI C (c_X24_init_3 l hl G X N0 M_141 q_136 ho_146 (nI 5) a 0 b 0 n) cs_X1_275 rfl rfl ⟨Nat.le_of_ble_eq_true rfl, Nat.le_of_ble_eq_true rfl⟩ ⟨(by first | exact Nat.le_of_ble_eq_true rfl | omega | (dsimp only; omega)), (by first | exact Nat.le_of_ble_eq_true rfl | omega | (dsimp only; omega))⟩ (Nat.le_of_ble_eq_true rfl) dX1_price_64 (fun _ _ _ h => px0 h) ?_
              rintro _ M_150 ⟨rfl, ho_151, fr_152, sh_153⟩
              refine V_st (st' := [.ref q_136, .ref (qN g)]) rfl ?_
              have ho_154 : M_150 (qN g) = some (.inr (0, [.ref (qRl g), .ref (qUl g), .ref (qPl g), .ref (qHs g), .int (σ.1 20), .int (σ.1 14), .int (σ.1 11), .int (σ.1 12), .int (σ.1 15), .int (z 0), .int (z 1), .int (z 2), .int (z 3), .int (z 4), .int (z 5), .int ca, .ref (qAn g)])) := fr_152 _ _ ne_138 ho_143
              have ho_155 : M_150 (qH g 5) = some (.inr (15, [.int 1, .ref (qN g), .int 0, .int 10, .ref (qN g), .ref (qN g)])) := fr_152 _ _ ne_139 ho_144
              have ha_156 : M_150 (qHs g) = some (.inl (G.2 14, 13, .inr (.inr (.inr (.inr fH))))) := fr_152 _ _ ne_140 ha_145
              have fr_157 := hp_fr.after fr_147 fr_152 nn_148
              have sh_158 := sh_149.trans sh_153
              have hRn : REL G (X 0) g σ z ca C9 M_150 := hR.heap (fun a e h _ => fr_157 a e (fun z => z) h)
              refine V_callV C (c_X1_priceOf l hl G X N0 M_150 g σ z ca C9 hRn hI q_136 5 (by omega) (nI 5) a 0 b 0 n rfl ho_151 hrw9) cs_X1_282_0 ho_154 (show CLS[0]? = some (RX1, TX1, 17) from rfl) rfl rfl ⟨Nat.le_of_ble_eq_true rfl, Nat.le_of_ble_eq_true rfl⟩ ⟨(by first | exact Nat.le_of_ble_eq_true rfl | omega | (dsimp only; omega)), (by first | exact Nat.le_of_ble_eq_true rfl | omega | (dsimp only; omega))⟩ (Nat.le_of_ble_eq_true rfl) dX1_price_67 (fun _ _ _ h => px0 h) ?_
              rintro _ _ ⟨rfl, rfl⟩
              refine V_st (st' := [.int (mf_priceOf σ (nI 5) a b n)]) rfl ?_
              refine V_i2l (v := (mf_priceOf σ (nI 5) a b n).toInt64) C dX1_price_70 rfl ?_
              refine V_lret C dX1_price_71 rfl ?_ (by first | exact Nat.le_of_ble_eq_true rfl | omega | (dsimp only; omega)) (by first | exact Nat.le_of_ble_eq_true rfl | omega | (dsimp only; omega))
              refine ⟨congrArg (fun z => some (Value.long z)) ?_, fr_157, sh_158⟩
              unfold mf_price
              rw [if_pos ⟨(in64 (k := 12) (by decide)).mpr ⟨5, by omega, rfl⟩, hrw9⟩]
            · exact absurd c_37_6 (by decide)
          · have hH9 : M (qH g 6) = some (.inr (16, [.int 1, .ref (qN g), .int 1, .int 7, .ref (qN g), .ref (qN g)])) := hR.H (by decide)
            refine V_aload_n C dX1_price_28 rfl 0 rfl ?_
            refine V_get C f_X1_173_0 hN (v := .ref (qHs g)) rfl dX1_price_29 ?_
            refine V_iload_n C dX1_price_32 rfl 1 rfl ?_
            refine V_aald C (j := 14) rfl rfl hHs (vp_in_nI (by omega) (by omega)) dX1_price_33 ?_
            refine V_st (st' := [.ref (qH g 6)]) (by rw [nI_clamp (by omega), (hHf 6 (by decide))]; rfl) ?_
            refine V_callU C (c_X3_hasOther_16 l hl G X N0 M (qH g 6) (qN g) hH9) cs_X1_278_16 hH9 (show CLS[16]? = some (RX13, TX13, 6) from rfl) rfl rfl ⟨Nat.le_of_ble_eq_true rfl, Nat.le_of_ble_eq_true rfl⟩ ⟨(by first | exact Nat.le_of_ble_eq_true rfl | omega | (dsimp only; omega)), (by first | exact Nat.le_of_ble_eq_true rfl | omega | (dsimp only; omega))⟩ (Nat.le_of_ble_eq_true rfl) dX1_price_34 (fun _ _ _ h => px0 h) ?_
            rintro _ _ ⟨rfl, rfl⟩
            refine V_st (st' := [.int 0]) rfl ?_
            refine V_if_eq (tgt := 52) C dX1_price_37 (by decide) (fun c_37_7 => ?_) (fun c_37_7 => ?_)
            · refine V_aload_n C dX1_price_52 rfl 0 rfl ?_
              have hfr : hp_fr (fun _ => False) M M := hp_fr.rf
              have hsh : hp_sh M M := hp_sh.rf
              have hrw9 : mf_hasRows σ (nI 6) a b := ⟨Or.inr (bI_n.mp c_25), Or.inl (by decide)⟩
              refine V_new C n_X1_190 rfl (by first | exact Nat.le_of_ble_eq_true rfl | omega | (dsimp only; omega)) (by first | exact Nat.le_of_ble_eq_true rfl | omega | (dsimp only; omega)) dX1_price_53 (fun q_159 hq_160 => ?_)
              have ne_161 : (qN g) ≠ q_159 := hp_ne0 hN hq_160
              have ne_162 : (qH g 6) ≠ q_159 := hp_ne0 hH9 hq_160
              have ne_163 : (qHs g) ≠ q_159 := hp_ne0 hHs hq_160
              obtain ⟨M_164, eM_165⟩ : ∃ z, z = hp_up M q_159 (.inr (3, [.int 0, .int 0, .int 0, .int 0, .int 0, .int 0])) := ⟨_, rfl⟩
              refine V_heap (M' := M_164) eM_165.symm ?_
              have ho_166 : M_164 (qN g) = some (.inr (0, [.ref (qRl g), .ref (qUl g), .ref (qPl g), .ref (qHs g), .int (σ.1 20), .int (σ.1 14), .int (σ.1 11), .int (σ.1 12), .int (σ.1 15), .int (z 0), .int (z 1), .int (z 2), .int (z 3), .int (z 4), .int (z 5), .int ca, .ref (qAn g)])) := by rw [eM_165, hp_up_n (hp_ne0 hN hq_160)]; exact hN
              have ho_167 : M_164 (qH g 6) = some (.inr (16, [.int 1, .ref (qN g), .int 1, .int 7, .ref (qN g), .ref (qN g)])) := by rw [eM_165, hp_up_n (hp_ne0 hH9 hq_160)]; exact hH9
              have ha_168 : M_164 (qHs g) = some (.inl (G.2 14, 13, .inr (.inr (.inr (.inr fH))))) := by rw [eM_165, hp_up_n (hp_ne0 hHs hq_160)]; exact hHs
              have ho_169 : M_164 q_159 = some (.inr (3, [.int 0, .int 0, .int 0, .int 0, .int 0, .int 0])) := by rw [eM_165]; exact hp_up_s
              have fr_170 := hp_fr.new hfr hq_160 eM_165
              have nn_171 := hp_fr.nn hfr hq_160
              have sh_172 := hp_sh.new hsh hq_160 eM_165
              refine V_dup C dX1_price_56 rfl ?_
              refine V_pc (pc1 := 57) rfl ?_
              refine V_iload_n C dX1_price_57 rfl 1 rfl ?_
              refine V_iload_n C dX1_price_58 rfl 2 rfl ?_
              refine V_iconst (v := 0) C dX1_price_59 rfl ?_
              refine V_iload_n C dX1_price_60 rfl 3 rfl ?_
              refine V_iconst (v := 0) C dX1_price_61 rfl ?_
              refine V_iload C dX1_price_62 4 rfl ?_
              refine V_callI C (c_X24_init_3 l hl G X N0 M_164 q_159 ho_169 (nI 6) a 0 b 0 n) cs_X1_275 rfl rfl ⟨Nat.le_of_ble_eq_true rfl, Nat.le_of_ble_eq_true rfl⟩ ⟨(by first | exact Nat.le_of_ble_eq_true rfl | omega | (dsimp only; omega)), (by first | exact Nat.le_of_ble_eq_true rfl | omega | (dsimp only; omega))⟩ (Nat.le_of_ble_eq_true rfl) dX1_price_64 (fun _ _ _ h => px0 h) ?_
              rintro _ M_173 ⟨rfl, ho_174, fr_175, sh_176⟩
              refine V_st (st' := [.ref q_159, .ref (qN g)]) rfl ?_
              have ho_177 : M_173 (qN g) = some (.inr (0, [.ref (qRl g), .ref (qUl g), .ref (qPl g), .ref (qHs g), .int (σ.1 20), .int (σ.1 14), .int (σ.1 11), .int (σ.1 12), .int (σ.1 15), .int (z 0), .int (z 1), .int (z 2), .int (z 3), .int (z 4), .int (z 5), .int ca, .ref (qAn g)])) := fr_175 _ _ ne_161 ho_166
              have ho_178 : M_173 (qH g 6) = some (.inr (16, [.int 1, .ref (qN g), .int 1, .int 7, .ref (qN g), .ref (qN g)])) := fr_175 _ _ ne_162 ho_167
              have ha_179 : M_173 (qHs g) = some (.inl (G.2 14, 13, .inr (.inr (.inr (.inr fH))))) := fr_175 _ _ ne_163 ha_168
              have fr_180 := hp_fr.after fr_170 fr_175 nn_171
              have sh_181 := sh_172.trans sh_176
              have hRn : REL G (X 0) g σ z ca C9 M_173 := hR.heap (fun a e h _ => fr_180 a e (fun z => z) h)
              refine V_callV C (c_X1_priceOf l hl G X N0 M_173 g σ z ca C9 hRn hI q_159 6 (by omega) (nI 6) a 0 b 0 n rfl ho_174 hrw9) cs_X1_282_0 ho_177 (show CLS[0]? = some (RX1, TX1, 17) from rfl) rfl rfl ⟨Nat.le_of_ble_eq_true rfl, Nat.le_of_ble_eq_true rfl⟩ ⟨(by first | exact Nat.le_of_ble_eq_true rfl | omega | (dsimp only; omega)), (by first | exact Nat.le_of_ble_eq_true rfl | omega | (dsimp only; omega))⟩ (Nat.le_of_ble_eq_true rfl) dX1_price_67 (fun _ _ _ h => px0 h) ?_
              rintro _ _ ⟨rfl, rfl⟩
              refine V_st (st' := [.int (mf_priceOf σ (nI 6) a b n)]) rfl ?_
              refine V_i2l (v := (mf_priceOf σ (nI 6) a b n).toInt64) C dX1_price_70 rfl ?_
              refine V_lret C dX1_price_71 rfl ?_ (by first | exact Nat.le_of_ble_eq_true rfl | omega | (dsimp only; omega)) (by first | exact Nat.le_of_ble_eq_true rfl | omega | (dsimp only; omega))
              refine ⟨congrArg (fun z => some (Value.long z)) ?_, fr_180, sh_181⟩
              unfold mf_price
              rw [if_pos ⟨(in64 (k := 12) (by decide)).mpr ⟨6, by omega, rfl⟩, hrw9⟩]
            · exact absurd c_37_7 (by decide)
          · have hH9 : M (qH g 7) = some (.inr (17, [.int 1, .ref (qN g), .int 0, .int 10, .ref (qN g), .ref (qN g), .ref (qN g)])) := hR.H (by decide)
            refine V_aload_n C dX1_price_28 rfl 0 rfl ?_
            refine V_get C f_X1_173_0 hN (v := .ref (qHs g)) rfl dX1_price_29 ?_
            refine V_iload_n C dX1_price_32 rfl 1 rfl ?_
            refine V_aald C (j := 14) rfl rfl hHs (vp_in_nI (by omega) (by omega)) dX1_price_33 ?_
            refine V_st (st' := [.ref (qH g 7)]) (by rw [nI_clamp (by omega), (hHf 7 (by decide))]; rfl) ?_
            refine V_callU C (c_X3_hasOther_17 l hl G X N0 M (qH g 7) (qN g) hH9) cs_X1_278_17 hH9 (show CLS[17]? = some (RX14, TX14, 7) from rfl) rfl rfl ⟨Nat.le_of_ble_eq_true rfl, Nat.le_of_ble_eq_true rfl⟩ ⟨(by first | exact Nat.le_of_ble_eq_true rfl | omega | (dsimp only; omega)), (by first | exact Nat.le_of_ble_eq_true rfl | omega | (dsimp only; omega))⟩ (Nat.le_of_ble_eq_true rfl) dX1_price_34 (fun _ _ _ h => px0 h) ?_
            rintro _ _ ⟨rfl, rfl⟩
            refine V_st (st' := [.int 0]) rfl ?_
            refine V_if_eq (tgt := 52) C dX1_price_37 (by decide) (fun c_37_8 => ?_) (fun c_37_8 => ?_)
            · refine V_aload_n C dX1_price_52 rfl 0 rfl ?_
              have hfr : hp_fr (fun _ => False) M M := hp_fr.rf
              have hsh : hp_sh M M := hp_sh.rf
              have hrw9 : mf_hasRows σ (nI 7) a b := ⟨Or.inr (bI_n.mp c_25), Or.inl (by decide)⟩
              refine V_new C n_X1_190 rfl (by first | exact Nat.le_of_ble_eq_true rfl | omega | (dsimp only; omega)) (by first | exact Nat.le_of_ble_eq_true rfl | omega | (dsimp only; omega)) dX1_price_53 (fun q_182 hq_183 => ?_)
              have ne_184 : (qN g) ≠ q_182 := hp_ne0 hN hq_183
              have ne_185 : (qH g 7) ≠ q_182 := hp_ne0 hH9 hq_183
              have ne_186 : (qHs g) ≠ q_182 := hp_ne0 hHs hq_183
              obtain ⟨M_187, eM_188⟩ : ∃ z, z = hp_up M q_182 (.inr (3, [.int 0, .int 0, .int 0, .int 0, .int 0, .int 0])) := ⟨_, rfl⟩
              refine V_heap (M' := M_187) eM_188.symm ?_
              have ho_189 : M_187 (qN g) = some (.inr (0, [.ref (qRl g), .ref (qUl g), .ref (qPl g), .ref (qHs g), .int (σ.1 20), .int (σ.1 14), .int (σ.1 11), .int (σ.1 12), .int (σ.1 15), .int (z 0), .int (z 1), .int (z 2), .int (z 3), .int (z 4), .int (z 5), .int ca, .ref (qAn g)])) := by rw [eM_188, hp_up_n (hp_ne0 hN hq_183)]; exact hN
              have ho_190 : M_187 (qH g 7) = some (.inr (17, [.int 1, .ref (qN g), .int 0, .int 10, .ref (qN g), .ref (qN g), .ref (qN g)])) := by rw [eM_188, hp_up_n (hp_ne0 hH9 hq_183)]; exact hH9
              have ha_191 : M_187 (qHs g) = some (.inl (G.2 14, 13, .inr (.inr (.inr (.inr fH))))) := by rw [eM_188, hp_up_n (hp_ne0 hHs hq_183)]; exact hHs
              have ho_192 : M_187 q_182 = some (.inr (3, [.int 0, .int 0, .int 0, .int 0, .int 0, .int 0])) := by rw [eM_188]; exact hp_up_s
              have fr_193 := hp_fr.new hfr hq_183 eM_188
              have nn_194 := hp_fr.nn hfr hq_183
              have sh_195 := hp_sh.new hsh hq_183 eM_188
              refine V_dup C dX1_price_56 rfl ?_
              refine V_pc (pc1 := 57) rfl ?_
              refine V_iload_n C dX1_price_57 rfl 1 rfl ?_
              refine V_iload_n C dX1_price_58 rfl 2 rfl ?_
              refine V_iconst (v := 0) C dX1_price_59 rfl ?_
              refine V_iload_n C dX1_price_60 rfl 3 rfl ?_
              refine V_iconst (v := 0) C dX1_price_61 rfl ?_
              refine V_iload C dX1_price_62 4 rfl ?_
              refine V_callI C (c_X24_init_3 l hl G X N0 M_187 q_182 ho_192 (nI 7) a 0 b 0 n) cs_X1_275 rfl rfl ⟨Nat.le_of_ble_eq_true rfl, Nat.le_of_ble_eq_true rfl⟩ ⟨(by first | exact Nat.le_of_ble_eq_true rfl | omega | (dsimp only; omega)), (by first | exact Nat.le_of_ble_eq_true rfl | omega | (dsimp only; omega))⟩ (Nat.le_of_ble_eq_true rfl) dX1_price_64 (fun _ _ _ h => px0 h) ?_
              rintro _ M_196 ⟨rfl, ho_197, fr_198, sh_199⟩
              refine V_st (st' := [.ref q_182, .ref (qN g)]) rfl ?_
              have ho_200 : M_196 (qN g) = some (.inr (0, [.ref (qRl g), .ref (qUl g), .ref (qPl g), .ref (qHs g), .int (σ.1 20), .int (σ.1 14), .int (σ.1 11), .int (σ.1 12), .int (σ.1 15), .int (z 0), .int (z 1), .int (z 2), .int (z 3), .int (z 4), .int (z 5), .int ca, .ref (qAn g)])) := fr_198 _ _ ne_184 ho_189
              have ho_201 : M_196 (qH g 7) = some (.inr (17, [.int 1, .ref (qN g), .int 0, .int 10, .ref (qN g), .ref (qN g), .ref (qN g)])) := fr_198 _ _ ne_185 ho_190
              have ha_202 : M_196 (qHs g) = some (.inl (G.2 14, 13, .inr (.inr (.inr (.inr fH))))) := fr_198 _ _ ne_186 ha_191
              have fr_203 := hp_fr.after fr_193 fr_198 nn_194
              have sh_204 := sh_195.trans sh_199
              have hRn : REL G (X 0) g σ z ca C9 M_196 := hR.heap (fun a e h _ => fr_203 a e (fun z => z) h)
              refine V_callV C (c_X1_priceOf l hl G X N0 M_196 g σ z ca C9 hRn hI q_182 7 (by omega) (nI 7) a 0 b 0 n rfl ho_197 hrw9) cs_X1_282_0 ho_200 (show CLS[0]? = some (RX1, TX1, 17) from rfl) rfl rfl ⟨Nat.le_of_ble_eq_true rfl, Nat.le_of_ble_eq_true rfl⟩ ⟨(by first | exact Nat.le_of_ble_eq_true rfl | omega | (dsimp only; omega)), (by first | exact Nat.le_of_ble_eq_true rfl | omega | (dsimp only; omega))⟩ (Nat.le_of_ble_eq_true rfl) dX1_price_67 (fun _ _ _ h => px0 h) ?_
              rintro _ _ ⟨rfl, rfl⟩
              refine V_st (st' := [.int (mf_priceOf σ (nI 7) a b n)]) rfl ?_
              refine V_i2l (v := (mf_priceOf σ (nI 7) a b n).toInt64) C dX1_price_70 rfl ?_
              refine V_lret C dX1_price_71 rfl ?_ (by first | exact Nat.le_of_ble_eq_true rfl | omega | (dsimp only; omega)) (by first | exact Nat.le_of_ble_eq_true rfl | omega | (dsimp only; omega))
              refine ⟨congrArg (fun z => some (Value.long z)) ?_, fr_203, sh_204⟩
              unfold mf_price
              rw [if_pos ⟨(in64 (k := 12) (by decide)).mpr ⟨7, by omega, rfl⟩, hrw9⟩]
            · exact absurd c_37_8 (by decide)
          · have hH9 : M (qH g 8) = some (.inr (18, [.int 2, .ref (qN g), .int 1, .int 7, .ref (qN g), .ref (qN g), .ref (qN g)])) := hR.H (by decide)
            refine V_aload_n C dX1_price_28 rfl 0 rfl ?_
            refine V_get C f_X1_173_0 hN (v := .ref (qHs g)) rfl dX1_price_29 ?_
            refine V_iload_n C dX1_price_32 rfl 1 rfl ?_
            refine V_aald C (j := 14) rfl rfl hHs (vp_in_nI (by omega) (by omega)) dX1_price_33 ?_
            refine V_st (st' := [.ref (qH g 8)]) (by rw [nI_clamp (by omega), (hHf 8 (by decide))]; rfl) ?_
            refine V_callU C (c_X3_hasOther_18 l hl G X N0 M (qH g 8) (qN g) hH9) cs_X1_278_18 hH9 (show CLS[18]? = some (RX15, TX15, 7) from rfl) rfl rfl ⟨Nat.le_of_ble_eq_true rfl, Nat.le_of_ble_eq_true rfl⟩ ⟨(by first | exact Nat.le_of_ble_eq_true rfl | omega | (dsimp only; omega)), (by first | exact Nat.le_of_ble_eq_true rfl | omega | (dsimp only; omega))⟩ (Nat.le_of_ble_eq_true rfl) dX1_price_34 (fun _ _ _ h => px0 h) ?_
            rintro _ _ ⟨rfl, rfl⟩
            refine V_st (st' := [.int 0]) rfl ?_
            refine V_if_eq (tgt := 52) C dX1_price_37 (by decide) (fun c_37_9 => ?_) (fun c_37_9 => ?_)
            · refine V_aload_n C dX1_price_52 rfl 0 rfl ?_
              have hfr : hp_fr (fun _ => False) M M := hp_fr.rf
              have hsh : hp_sh M M := hp_sh.rf
              have hrw9 : mf_hasRows σ (nI 8) a b := ⟨Or.inr (bI_n.mp c_25), Or.inl (by decide)⟩
              refine V_new C n_X1_190 rfl (by first | exact Nat.le_of_ble_eq_true rfl | omega | (dsimp only; omega)) (by first | exact Nat.le_of_ble_eq_true rfl | omega | (dsimp only; omega)) dX1_price_53 (fun q_205 hq_206 => ?_)
              have ne_207 : (qN g) ≠ q_205 := hp_ne0 hN hq_206
              have ne_208 : (qH g 8) ≠ q_205 := hp_ne0 hH9 hq_206
              have ne_209 : (qHs g) ≠ q_205 := hp_ne0 hHs hq_206
              obtain ⟨M_210, eM_211⟩ : ∃ z, z = hp_up M q_205 (.inr (3, [.int 0, .int 0, .int 0, .int 0, .int 0, .int 0])) := ⟨_, rfl⟩
              refine V_heap (M' := M_210) eM_211.symm ?_
              have ho_212 : M_210 (qN g) = some (.inr (0, [.ref (qRl g), .ref (qUl g), .ref (qPl g), .ref (qHs g), .int (σ.1 20), .int (σ.1 14), .int (σ.1 11), .int (σ.1 12), .int (σ.1 15), .int (z 0), .int (z 1), .int (z 2), .int (z 3), .int (z 4), .int (z 5), .int ca, .ref (qAn g)])) := by rw [eM_211, hp_up_n (hp_ne0 hN hq_206)]; exact hN
              have ho_213 : M_210 (qH g 8) = some (.inr (18, [.int 2, .ref (qN g), .int 1, .int 7, .ref (qN g), .ref (qN g), .ref (qN g)])) := by rw [eM_211, hp_up_n (hp_ne0 hH9 hq_206)]; exact hH9
              have ha_214 : M_210 (qHs g) = some (.inl (G.2 14, 13, .inr (.inr (.inr (.inr fH))))) := by rw [eM_211, hp_up_n (hp_ne0 hHs hq_206)]; exact hHs
              have ho_215 : M_210 q_205 = some (.inr (3, [.int 0, .int 0, .int 0, .int 0, .int 0, .int 0])) := by rw [eM_211]; exact hp_up_s
              have fr_216 := hp_fr.new hfr hq_206 eM_211
              have nn_217 := hp_fr.nn hfr hq_206
              have sh_218 := hp_sh.new hsh hq_206 eM_211
              refine V_dup C dX1_price_56 rfl ?_
              refine V_pc (pc1 := 57) rfl ?_
              refine V_iload_n C dX1_price_57 rfl 1 rfl ?_
              refine V_iload_n C dX1_price_58 rfl 2 rfl ?_
              refine V_iconst (v := 0) C dX1_price_59 rfl ?_
              refine V_iload_n C dX1_price_60 rfl 3 rfl ?_
              refine V_iconst (v := 0) C dX1_price_61 rfl ?_
              refine V_iload C dX1_price_62 4 rfl ?_
              refine V_callI C (c_X24_init_3 l hl G X N0 M_210 q_205 ho_215 (nI 8) a 0 b 0 n) cs_X1_275 rfl rfl ⟨Nat.le_of_ble_eq_true rfl, Nat.le_of_ble_eq_true rfl⟩ ⟨(by first | exact Nat.le_of_ble_eq_true rfl | omega | (dsimp only; omega)), (by first | exact Nat.le_of_ble_eq_true rfl | omega | (dsimp only; omega))⟩ (Nat.le_of_ble_eq_true rfl) dX1_price_64 (fun _ _ _ h => px0 h) ?_
              rintro _ M_219 ⟨rfl, ho_220, fr_221, sh_222⟩
              refine V_st (st' := [.ref q_205, .ref (qN g)]) rfl ?_
              have ho_223 : M_219 (qN g) = some (.inr (0, [.ref (qRl g), .ref (qUl g), .ref (qPl g), .ref (qHs g), .int (σ.1 20), .int (σ.1 14), .int (σ.1 11), .int (σ.1 12), .int (σ.1 15), .int (z 0), .int (z 1), .int (z 2), .int (z 3), .int (z 4), .int (z 5), .int ca, .ref (qAn g)])) := fr_221 _ _ ne_207 ho_212
              have ho_224 : M_219 (qH g 8) = some (.inr (18, [.int 2, .ref (qN g), .int 1, .int 7, .ref (qN g), .ref (qN g), .ref (qN g)])) := fr_221 _ _ ne_208 ho_213
              have ha_225 : M_219 (qHs g) = some (.inl (G.2 14, 13, .inr (.inr (.inr (.inr fH))))) := fr_221 _ _ ne_209 ha_214
              have fr_226 := hp_fr.after fr_216 fr_221 nn_217
              have sh_227 := sh_218.trans sh_222
              have hRn : REL G (X 0) g σ z ca C9 M_219 := hR.heap (fun a e h _ => fr_226 a e (fun z => z) h)
              refine V_callV C (c_X1_priceOf l hl G X N0 M_219 g σ z ca C9 hRn hI q_205 8 (by omega) (nI 8) a 0 b 0 n rfl ho_220 hrw9) cs_X1_282_0 ho_223 (show CLS[0]? = some (RX1, TX1, 17) from rfl) rfl rfl ⟨Nat.le_of_ble_eq_true rfl, Nat.le_of_ble_eq_true rfl⟩ ⟨(by first | exact Nat.le_of_ble_eq_true rfl | omega | (dsimp only; omega)), (by first | exact Nat.le_of_ble_eq_true rfl | omega | (dsimp only; omega))⟩ (Nat.le_of_ble_eq_true rfl) dX1_price_67 (fun _ _ _ h => px0 h) ?_
              rintro _ _ ⟨rfl, rfl⟩
              refine V_st (st' := [.int (mf_priceOf σ (nI 8) a b n)]) rfl ?_
              refine V_i2l (v := (mf_priceOf σ (nI 8) a b n).toInt64) C dX1_price_70 rfl ?_
              refine V_lret C dX1_price_71 rfl ?_ (by first | exact Nat.le_of_ble_eq_true rfl | omega | (dsimp only; omega)) (by first | exact Nat.le_of_ble_eq_true rfl | omega | (dsimp only; omega))
              refine ⟨congrArg (fun z => some (Value.long z)) ?_, fr_226, sh_227⟩
              unfold mf_price
              rw [if_pos ⟨(in64 (k := 12) (by decide)).mpr ⟨8, by omega, rfl⟩, hrw9⟩]
            · exact absurd c_37_9 (by decide)
          · have hH9 : M (qH g 9) = some (.inr (19, [.int 1, .ref (qN g), .int 0, .int 7, .ref (qN g), .ref (qN g), .ref (qN g)])) := hR.H (by decide)
            refine V_aload_n C dX1_price_28 rfl 0 rfl ?_
            refine V_get C f_X1_173_0 hN (v := .ref (qHs g)) rfl dX1_price_29 ?_
            refine V_iload_n C dX1_price_32 rfl 1 rfl ?_
            refine V_aald C (j := 14) rfl rfl hHs (vp_in_nI (by omega) (by omega)) dX1_price_33 ?_
            refine V_st (st' := [.ref (qH g 9)]) (by rw [nI_clamp (by omega), (hHf 9 (by decide))]; rfl) ?_
            refine V_callU C (c_X3_hasOther_19 l hl G X N0 M (qH g 9) (qN g) hH9) cs_X1_278_19 hH9 (show CLS[19]? = some (RX16, TX16, 7) from rfl) rfl rfl ⟨Nat.le_of_ble_eq_true rfl, Nat.le_of_ble_eq_true rfl⟩ ⟨(by first | exact Nat.le_of_ble_eq_true rfl | omega | (dsimp only; omega)), (by first | exact Nat.le_of_ble_eq_true rfl | omega | (dsimp only; omega))⟩ (Nat.le_of_ble_eq_true rfl) dX1_price_34 (fun _ _ _ h => px0 h) ?_
            rintro _ _ ⟨rfl, rfl⟩
            refine V_st (st' := [.int 0]) rfl ?_
            refine V_if_eq (tgt := 52) C dX1_price_37 (by decide) (fun c_37_10 => ?_) (fun c_37_10 => ?_)
            · refine V_aload_n C dX1_price_52 rfl 0 rfl ?_
              have hfr : hp_fr (fun _ => False) M M := hp_fr.rf
              have hsh : hp_sh M M := hp_sh.rf
              have hrw9 : mf_hasRows σ (nI 9) a b := ⟨Or.inr (bI_n.mp c_25), Or.inl (by decide)⟩
              refine V_new C n_X1_190 rfl (by first | exact Nat.le_of_ble_eq_true rfl | omega | (dsimp only; omega)) (by first | exact Nat.le_of_ble_eq_true rfl | omega | (dsimp only; omega)) dX1_price_53 (fun q_228 hq_229 => ?_)
              have ne_230 : (qN g) ≠ q_228 := hp_ne0 hN hq_229
              have ne_231 : (qH g 9) ≠ q_228 := hp_ne0 hH9 hq_229
              have ne_232 : (qHs g) ≠ q_228 := hp_ne0 hHs hq_229
              obtain ⟨M_233, eM_234⟩ : ∃ z, z = hp_up M q_228 (.inr (3, [.int 0, .int 0, .int 0, .int 0, .int 0, .int 0])) := ⟨_, rfl⟩
              refine V_heap (M' := M_233) eM_234.symm ?_
              have ho_235 : M_233 (qN g) = some (.inr (0, [.ref (qRl g), .ref (qUl g), .ref (qPl g), .ref (qHs g), .int (σ.1 20), .int (σ.1 14), .int (σ.1 11), .int (σ.1 12), .int (σ.1 15), .int (z 0), .int (z 1), .int (z 2), .int (z 3), .int (z 4), .int (z 5), .int ca, .ref (qAn g)])) := by rw [eM_234, hp_up_n (hp_ne0 hN hq_229)]; exact hN
              have ho_236 : M_233 (qH g 9) = some (.inr (19, [.int 1, .ref (qN g), .int 0, .int 7, .ref (qN g), .ref (qN g), .ref (qN g)])) := by rw [eM_234, hp_up_n (hp_ne0 hH9 hq_229)]; exact hH9
              have ha_237 : M_233 (qHs g) = some (.inl (G.2 14, 13, .inr (.inr (.inr (.inr fH))))) := by rw [eM_234, hp_up_n (hp_ne0 hHs hq_229)]; exact hHs
              have ho_238 : M_233 q_228 = some (.inr (3, [.int 0, .int 0, .int 0, .int 0, .int 0, .int 0])) := by rw [eM_234]; exact hp_up_s
              have fr_239 := hp_fr.new hfr hq_229 eM_234
              have nn_240 := hp_fr.nn hfr hq_229
              have sh_241 := hp_sh.new hsh hq_229 eM_234
              refine V_dup C dX1_price_56 rfl ?_
              refine V_pc (pc1 := 57) rfl ?_
              refine V_iload_n C dX1_price_57 rfl 1 rfl ?_
              refine V_iload_n C dX1_price_58 rfl 2 rfl ?_
              refine V_iconst (v := 0) C dX1_price_59 rfl ?_
              refine V_iload_n C dX1_price_60 rfl 3 rfl ?_
              refine V_iconst (v := 0) C dX1_price_61 rfl ?_
              refine V_iload C dX1_price_62 4 rfl ?_
              refine V_callI C (c_X24_init_3 l hl G X N0 M_233 q_228 ho_238 (nI 9) a 0 b 0 n) cs_X1_275 rfl rfl ⟨Nat.le_of_ble_eq_true rfl, Nat.le_of_ble_eq_true rfl⟩ ⟨(by first | exact Nat.le_of_ble_eq_true rfl | omega | (dsimp only; omega)), (by first | exact Nat.le_of_ble_eq_true rfl | omega | (dsimp only; omega))⟩ (Nat.le_of_ble_eq_true rfl) dX1_price_64 (fun _ _ _ h => px0 h) ?_
              rintro _ M_242 ⟨rfl, ho_243, fr_244, sh_245⟩
              refine V_st (st' := [.ref q_228, .ref (qN g)]) rfl ?_
              have ho_246 : M_242 (qN g) = some (.inr (0, [.ref (qRl g), .ref (qUl g), .ref (qPl g), .ref (qHs g), .int (σ.1 20), .int (σ.1 14), .int (σ.1 11), .int (σ.1 12), .int (σ.1 15), .int (z 0), .int (z 1), .int (z 2), .int (z 3), .int (z 4), .int (z 5), .int ca, .ref (qAn g)])) := fr_244 _ _ ne_230 ho_235
              have ho_247 : M_242 (qH g 9) = some (.inr (19, [.int 1, .ref (qN g), .int 0, .int 7, .ref (qN g), .ref (qN g), .ref (qN g)])) := fr_244 _ _ ne_231 ho_236
              have ha_248 : M_242 (qHs g) = some (.inl (G.2 14, 13, .inr (.inr (.inr (.inr fH))))) := fr_244 _ _ ne_232 ha_237
              have fr_249 := hp_fr.after fr_239 fr_244 nn_240
              have sh_250 := sh_241.trans sh_245
              have hRn : REL G (X 0) g σ z ca C9 M_242 := hR.heap (fun a e h _ => fr_249 a e (fun z => z) h)
              refine V_callV C (c_X1_priceOf l hl G X N0 M_242 g σ z ca C9 hRn hI q_228 9 (by omega) (nI 9) a 0 b 0 n rfl ho_243 hrw9) cs_X1_282_0 ho_246 (show CLS[0]? = some (RX1, TX1, 17) from rfl) rfl rfl ⟨Nat.le_of_ble_eq_true rfl, Nat.le_of_ble_eq_true rfl⟩ ⟨(by first | exact Nat.le_of_ble_eq_true rfl | omega | (dsimp only; omega)), (by first | exact Nat.le_of_ble_eq_true rfl | omega | (dsimp only; omega))⟩ (Nat.le_of_ble_eq_true rfl) dX1_price_67 (fun _ _ _ h => px0 h) ?_
              rintro _ _ ⟨rfl, rfl⟩
              refine V_st (st' := [.int (mf_priceOf σ (nI 9) a b n)]) rfl ?_
              refine V_i2l (v := (mf_priceOf σ (nI 9) a b n).toInt64) C dX1_price_70 rfl ?_
              refine V_lret C dX1_price_71 rfl ?_ (by first | exact Nat.le_of_ble_eq_true rfl | omega | (dsimp only; omega)) (by first | exact Nat.le_of_ble_eq_true rfl | omega | (dsimp only; omega))
              refine ⟨congrArg (fun z => some (Value.long z)) ?_, fr_249, sh_250⟩
              unfold mf_price
              rw [if_pos ⟨(in64 (k := 12) (by decide)).mpr ⟨9, by omega, rfl⟩, hrw9⟩]
            · exact absurd c_37_10 (by decide)
          · have hH9 : M (qH g 10) = some (.inr (20, [.int 5, .ref (qN g), .ref (qN g)])) := hR.H (by decide)
            refine V_aload_n C dX1_price_28 rfl 0 rfl ?_
            refine V_get C f_X1_173_0 hN (v := .ref (qHs g)) rfl dX1_price_29 ?_
            refine V_iload_n C dX1_price_32 rfl 1 rfl ?_
            refine V_aald C (j := 14) rfl rfl hHs (vp_in_nI (by omega) (by omega)) dX1_price_33 ?_
            refine V_st (st' := [.ref (qH g 10)]) (by rw [nI_clamp (by omega), (hHf 10 (by decide))]; rfl) ?_
            refine V_callU C (c_X3_hasOther_20 l hl G X N0 M (qH g 10) (qN g) hH9) cs_X1_278_20 hH9 (show CLS[20]? = some (RX17, TX17, 3) from rfl) rfl rfl ⟨Nat.le_of_ble_eq_true rfl, Nat.le_of_ble_eq_true rfl⟩ ⟨(by first | exact Nat.le_of_ble_eq_true rfl | omega | (dsimp only; omega)), (by first | exact Nat.le_of_ble_eq_true rfl | omega | (dsimp only; omega))⟩ (Nat.le_of_ble_eq_true rfl) dX1_price_34 (fun _ _ _ h => px0 h) ?_
            rintro _ _ ⟨rfl, rfl⟩
            refine V_st (st' := [.int 0]) rfl ?_
            refine V_if_eq (tgt := 52) C dX1_price_37 (by decide) (fun c_37_11 => ?_) (fun c_37_11 => ?_)
            · refine V_aload_n C dX1_price_52 rfl 0 rfl ?_
              have hfr : hp_fr (fun _ => False) M M := hp_fr.rf
              have hsh : hp_sh M M := hp_sh.rf
              have hrw9 : mf_hasRows σ (nI 10) a b := ⟨Or.inr (bI_n.mp c_25), Or.inl (by decide)⟩
              refine V_new C n_X1_190 rfl (by first | exact Nat.le_of_ble_eq_true rfl | omega | (dsimp only; omega)) (by first | exact Nat.le_of_ble_eq_true rfl | omega | (dsimp only; omega)) dX1_price_53 (fun q_251 hq_252 => ?_)
              have ne_253 : (qN g) ≠ q_251 := hp_ne0 hN hq_252
              have ne_254 : (qH g 10) ≠ q_251 := hp_ne0 hH9 hq_252
              have ne_255 : (qHs g) ≠ q_251 := hp_ne0 hHs hq_252
              obtain ⟨M_256, eM_257⟩ : ∃ z, z = hp_up M q_251 (.inr (3, [.int 0, .int 0, .int 0, .int 0, .int 0, .int 0])) := ⟨_, rfl⟩
              refine V_heap (M' := M_256) eM_257.symm ?_
              have ho_258 : M_256 (qN g) = some (.inr (0, [.ref (qRl g), .ref (qUl g), .ref (qPl g), .ref (qHs g), .int (σ.1 20), .int (σ.1 14), .int (σ.1 11), .int (σ.1 12), .int (σ.1 15), .int (z 0), .int (z 1), .int (z 2), .int (z 3), .int (z 4), .int (z 5), .int ca, .ref (qAn g)])) := by rw [eM_257, hp_up_n (hp_ne0 hN hq_252)]; exact hN
              have ho_259 : M_256 (qH g 10) = some (.inr (20, [.int 5, .ref (qN g), .ref (qN g)])) := by rw [eM_257, hp_up_n (hp_ne0 hH9 hq_252)]; exact hH9
              have ha_260 : M_256 (qHs g) = some (.inl (G.2 14, 13, .inr (.inr (.inr (.inr fH))))) := by rw [eM_257, hp_up_n (hp_ne0 hHs hq_252)]; exact hHs
              have ho_261 : M_256 q_251 = some (.inr (3, [.int 0, .int 0, .int 0, .int 0, .int 0, .int 0])) := by rw [eM_257]; exact hp_up_s
              have fr_262 := hp_fr.new hfr hq_252 eM_257
              have nn_263 := hp_fr.nn hfr hq_252
              have sh_264 := hp_sh.new hsh hq_252 eM_257
              refine V_dup C dX1_price_56 rfl ?_
              refine V_pc (pc1 := 57) rfl ?_
              refine V_iload_n C dX1_price_57 rfl 1 rfl ?_
              refine V_iload_n C dX1_price_58 rfl 2 rfl ?_
              refine V_iconst (v := 0) C dX1_price_59 rfl ?_
              refine V_iload_n C dX1_price_60 rfl 3 rfl ?_
              refine V_iconst (v := 0) C dX1_price_61 rfl ?_
              refine V_iload C dX1_price_62 4 rfl ?_
              refine V_callI C (c_X24_init_3 l hl G X N0 M_256 q_251 ho_261 (nI 10) a 0 b 0 n) cs_X1_275 rfl rfl ⟨Nat.le_of_ble_eq_true rfl, Nat.le_of_ble_eq_true rfl⟩ ⟨(by first | exact Nat.le_of_ble_eq_true rfl | omega | (dsimp only; omega)), (by first | exact Nat.le_of_ble_eq_true rfl | omega | (dsimp only; omega))⟩ (Nat.le_of_ble_eq_true rfl) dX1_price_64 (fun _ _ _ h => px0 h) ?_
              rintro _ M_265 ⟨rfl, ho_266, fr_267, sh_268⟩
              refine V_st (st' := [.ref q_251, .ref (qN g)]) rfl ?_
              have ho_269 : M_265 (qN g) = some (.inr (0, [.ref (qRl g), .ref (qUl g), .ref (qPl g), .ref (qHs g), .int (σ.1 20), .int (σ.1 14), .int (σ.1 11), .int (σ.1 12), .int (σ.1 15), .int (z 0), .int (z 1), .int (z 2), .int (z 3), .int (z 4), .int (z 5), .int ca, .ref (qAn g)])) := fr_267 _ _ ne_253 ho_258
              have ho_270 : M_265 (qH g 10) = some (.inr (20, [.int 5, .ref (qN g), .ref (qN g)])) := fr_267 _ _ ne_254 ho_259
              have ha_271 : M_265 (qHs g) = some (.inl (G.2 14, 13, .inr (.inr (.inr (.inr fH))))) := fr_267 _ _ ne_255 ha_260
              have fr_272 := hp_fr.after fr_262 fr_267 nn_263
              have sh_273 := sh_264.trans sh_268
              have hRn : REL G (X 0) g σ z ca C9 M_265 := hR.heap (fun a e h _ => fr_272 a e (fun z => z) h)
              refine V_callV C (c_X1_priceOf l hl G X N0 M_265 g σ z ca C9 hRn hI q_251 10 (by omega) (nI 10) a 0 b 0 n rfl ho_266 hrw9) cs_X1_282_0 ho_269 (show CLS[0]? = some (RX1, TX1, 17) from rfl) rfl rfl ⟨Nat.le_of_ble_eq_true rfl, Nat.le_of_ble_eq_true rfl⟩ ⟨(by first | exact Nat.le_of_ble_eq_true rfl | omega | (dsimp only; omega)), (by first | exact Nat.le_of_ble_eq_true rfl | omega | (dsimp only; omega))⟩ (Nat.le_of_ble_eq_true rfl) dX1_price_67 (fun _ _ _ h => px0 h) ?_
              rintro _ _ ⟨rfl, rfl⟩
              refine V_st (st' := [.int (mf_priceOf σ (nI 10) a b n)]) rfl ?_
              refine V_i2l (v := (mf_priceOf σ (nI 10) a b n).toInt64) C dX1_price_70 rfl ?_
              refine V_lret C dX1_price_71 rfl ?_ (by first | exact Nat.le_of_ble_eq_true rfl | omega | (dsimp only; omega)) (by first | exact Nat.le_of_ble_eq_true rfl | omega | (dsimp only; omega))
              refine ⟨congrArg (fun z => some (Value.long z)) ?_, fr_272, sh_273⟩
              unfold mf_price
              rw [if_pos ⟨(in64 (k := 12) (by decide)).mpr ⟨10, by omega, rfl⟩, hrw9⟩]
            · exact absurd c_37_11 (by decide)
          · have hH9 : M (qH g 11) = some (.inr (21, [.int 1, .ref (qN g), .ref (qN g)])) := hR.H (by decide)
            refine V_aload_n C dX1_price_28 rfl 0 rfl ?_
            refine V_get C f_X1_173_0 hN (v := .ref (qHs g)) rfl dX1_price_29 ?_
            refine V_iload_n C dX1_price_32 rfl 1 rfl ?_
            refine V_aald C (j := 14) rfl rfl hHs (vp_in_nI (by omega) (by omega)) dX1_price_33 ?_
            refine V_st (st' := [.ref (qH g 11)]) (by rw [nI_clamp (by omega), (hHf 11 (by decide))]; rfl) ?_
            refine V_callU C (c_X3_hasOther_21 l hl G X N0 M (qH g 11) (qN g) hH9) cs_X1_278_21 hH9 (show CLS[21]? = some (RX18, TX18, 3) from rfl) rfl rfl ⟨Nat.le_of_ble_eq_true rfl, Nat.le_of_ble_eq_true rfl⟩ ⟨(by first | exact Nat.le_of_ble_eq_true rfl | omega | (dsimp only; omega)), (by first | exact Nat.le_of_ble_eq_true rfl | omega | (dsimp only; omega))⟩ (Nat.le_of_ble_eq_true rfl) dX1_price_34 (fun _ _ _ h => px0 h) ?_
            rintro _ _ ⟨rfl, rfl⟩
            refine V_st (st' := [.int 0]) rfl ?_
            refine V_if_eq (tgt := 52) C dX1_price_37 (by decide) (fun c_37_12 => ?_) (fun c_37_12 => ?_)
            · refine V_aload_n C dX1_price_52 rfl 0 rfl ?_
              have hfr : hp_fr (fun _ => False) M M := hp_fr.rf
              have hsh : hp_sh M M := hp_sh.rf
              have hrw9 : mf_hasRows σ (nI 11) a b := ⟨Or.inr (bI_n.mp c_25), Or.inl (by decide)⟩
              refine V_new C n_X1_190 rfl (by first | exact Nat.le_of_ble_eq_true rfl | omega | (dsimp only; omega)) (by first | exact Nat.le_of_ble_eq_true rfl | omega | (dsimp only; omega)) dX1_price_53 (fun q_274 hq_275 => ?_)
              have ne_276 : (qN g) ≠ q_274 := hp_ne0 hN hq_275
              have ne_277 : (qH g 11) ≠ q_274 := hp_ne0 hH9 hq_275
              have ne_278 : (qHs g) ≠ q_274 := hp_ne0 hHs hq_275
              obtain ⟨M_279, eM_280⟩ : ∃ z, z = hp_up M q_274 (.inr (3, [.int 0, .int 0, .int 0, .int 0, .int 0, .int 0])) := ⟨_, rfl⟩
              refine V_heap (M' := M_279) eM_280.symm ?_
              have ho_281 : M_279 (qN g) = some (.inr (0, [.ref (qRl g), .ref (qUl g), .ref (qPl g), .ref (qHs g), .int (σ.1 20), .int (σ.1 14), .int (σ.1 11), .int (σ.1 12), .int (σ.1 15), .int (z 0), .int (z 1), .int (z 2), .int (z 3), .int (z 4), .int (z 5), .int ca, .ref (qAn g)])) := by rw [eM_280, hp_up_n (hp_ne0 hN hq_275)]; exact hN
              have ho_282 : M_279 (qH g 11) = some (.inr (21, [.int 1, .ref (qN g), .ref (qN g)])) := by rw [eM_280, hp_up_n (hp_ne0 hH9 hq_275)]; exact hH9
              have ha_283 : M_279 (qHs g) = some (.inl (G.2 14, 13, .inr (.inr (.inr (.inr fH))))) := by rw [eM_280, hp_up_n (hp_ne0 hHs hq_275)]; exact hHs
              have ho_284 : M_279 q_274 = some (.inr (3, [.int 0, .int 0, .int 0, .int 0, .int 0, .int 0])) := by rw [eM_280]; exact hp_up_s
              have fr_285 := hp_fr.new hfr hq_275 eM_280
              have nn_286 := hp_fr.nn hfr hq_275
              have sh_287 := hp_sh.new hsh hq_275 eM_280
              refine V_dup C dX1_price_56 rfl ?_
              refine V_pc (pc1 := 57) rfl ?_
              refine V_iload_n C dX1_price_57 rfl 1 rfl ?_
              refine V_iload_n C dX1_price_58 rfl 2 rfl ?_
              refine V_iconst (v := 0) C dX1_price_59 rfl ?_
              refine V_iload_n C dX1_price_60 rfl 3 rfl ?_
              refine V_iconst (v := 0) C dX1_price_61 rfl ?_
              refine V_iload C dX1_price_62 4 rfl ?_
              refine V_callI C (c_X24_init_3 l hl G X N0 M_279 q_274 ho_284 (nI 11) a 0 b 0 n) cs_X1_275 rfl rfl ⟨Nat.le_of_ble_eq_true rfl, Nat.le_of_ble_eq_true rfl⟩ ⟨(by first | exact Nat.le_of_ble_eq_true rfl | omega | (dsimp only; omega)), (by first | exact Nat.le_of_ble_eq_true rfl | omega | (dsimp only; omega))⟩ (Nat.le_of_ble_eq_true rfl) dX1_price_64 (fun _ _ _ h => px0 h) ?_
              rintro _ M_288 ⟨rfl, ho_289, fr_290, sh_291⟩
              refine V_st (st' := [.ref q_274, .ref (qN g)]) rfl ?_
              have ho_292 : M_288 (qN g) = some (.inr (0, [.ref (qRl g), .ref (qUl g), .ref (qPl g), .ref (qHs g), .int (σ.1 20), .int (σ.1 14), .int (σ.1 11), .int (σ.1 12), .int (σ.1 15), .int (z 0), .int (z 1), .int (z 2), .int (z 3), .int (z 4), .int (z 5), .int ca, .ref (qAn g)])) := fr_290 _ _ ne_276 ho_281
              have ho_293 : M_288 (qH g 11) = some (.inr (21, [.int 1, .ref (qN g), .ref (qN g)])) := fr_290 _ _ ne_277 ho_282
              have ha_294 : M_288 (qHs g) = some (.inl (G.2 14, 13, .inr (.inr (.inr (.inr fH))))) := fr_290 _ _ ne_278 ha_283
              have fr_295 := hp_fr.after fr_285 fr_290 nn_286
              have sh_296 := sh_287.trans sh_291
              have hRn : REL G (X 0) g σ z ca C9 M_288 := hR.heap (fun a e h _ => fr_295 a e (fun z => z) h)
              refine V_callV C (c_X1_priceOf l hl G X N0 M_288 g σ z ca C9 hRn hI q_274 11 (by omega) (nI 11) a 0 b 0 n rfl ho_289 hrw9) cs_X1_282_0 ho_292 (show CLS[0]? = some (RX1, TX1, 17) from rfl) rfl rfl ⟨Nat.le_of_ble_eq_true rfl, Nat.le_of_ble_eq_true rfl⟩ ⟨(by first | exact Nat.le_of_ble_eq_true rfl | omega | (dsimp only; omega)), (by first | exact Nat.le_of_ble_eq_true rfl | omega | (dsimp only; omega))⟩ (Nat.le_of_ble_eq_true rfl) dX1_price_67 (fun _ _ _ h => px0 h) ?_
              rintro _ _ ⟨rfl, rfl⟩
              refine V_st (st' := [.int (mf_priceOf σ (nI 11) a b n)]) rfl ?_
              refine V_i2l (v := (mf_priceOf σ (nI 11) a b n).toInt64) C dX1_price_70 rfl ?_
              refine V_lret C dX1_price_71 rfl ?_ (by first | exact Nat.le_of_ble_eq_true rfl | omega | (dsimp only; omega)) (by first | exact Nat.le_of_ble_eq_true rfl | omega | (dsimp only; omega))
              refine ⟨congrArg (fun z => some (Value.long z)) ?_, fr_295, sh_296⟩
              unfold mf_price
              rw [if_pos ⟨(in64 (k := 12) (by decide)).mpr ⟨11, by omega, rfl⟩, hrw9⟩]
            · exact absurd c_37_12 (by decide)
          · have hH9 : M (qH g 12) = some (.inr (22, [.int 1, .ref (qN g), .int 8, .int 9, .ref (qN g), .ref (qN g)])) := hR.H (by decide)
            refine V_aload_n C dX1_price_28 rfl 0 rfl ?_
            refine V_get C f_X1_173_0 hN (v := .ref (qHs g)) rfl dX1_price_29 ?_
            refine V_iload_n C dX1_price_32 rfl 1 rfl ?_
            refine V_aald C (j := 14) rfl rfl hHs (vp_in_nI (by omega) (by omega)) dX1_price_33 ?_
            refine V_st (st' := [.ref (qH g 12)]) (by rw [nI_clamp (by omega), (hHf 12 (by decide))]; rfl) ?_
            refine V_callU C (c_X3_hasOther_22 l hl G X N0 M (qH g 12) (qN g) hH9) cs_X1_278_22 hH9 (show CLS[22]? = some (RX19, TX19, 6) from rfl) rfl rfl ⟨Nat.le_of_ble_eq_true rfl, Nat.le_of_ble_eq_true rfl⟩ ⟨(by first | exact Nat.le_of_ble_eq_true rfl | omega | (dsimp only; omega)), (by first | exact Nat.le_of_ble_eq_true rfl | omega | (dsimp only; omega))⟩ (Nat.le_of_ble_eq_true rfl) dX1_price_34 (fun _ _ _ h => px0 h) ?_
            rintro _ _ ⟨rfl, rfl⟩
            refine V_st (st' := [.int 0]) rfl ?_
            refine V_if_eq (tgt := 52) C dX1_price_37 (by decide) (fun c_37_13 => ?_) (fun c_37_13 => ?_)
            · refine V_aload_n C dX1_price_52 rfl 0 rfl ?_
              have hfr : hp_fr (fun _ => False) M M := hp_fr.rf
              have hsh : hp_sh M M := hp_sh.rf
              have hrw9 : mf_hasRows σ (nI 12) a b := ⟨Or.inr (bI_n.mp c_25), Or.inl (by decide)⟩
              refine V_new C n_X1_190 rfl (by first | exact Nat.le_of_ble_eq_true rfl | omega | (dsimp only; omega)) (by first | exact Nat.le_of_ble_eq_true rfl | omega | (dsimp only; omega)) dX1_price_53 (fun q_297 hq_298 => ?_)
              have ne_299 : (qN g) ≠ q_297 := hp_ne0 hN hq_298
              have ne_300 : (qH g 12) ≠ q_297 := hp_ne0 hH9 hq_298
              have ne_301 : (qHs g) ≠ q_297 := hp_ne0 hHs hq_298
              obtain ⟨M_302, eM_303⟩ : ∃ z, z = hp_up M q_297 (.inr (3, [.int 0, .int 0, .int 0, .int 0, .int 0, .int 0])) := ⟨_, rfl⟩
              refine V_heap (M' := M_302) eM_303.symm ?_
              have ho_304 : M_302 (qN g) = some (.inr (0, [.ref (qRl g), .ref (qUl g), .ref (qPl g), .ref (qHs g), .int (σ.1 20), .int (σ.1 14), .int (σ.1 11), .int (σ.1 12), .int (σ.1 15), .int (z 0), .int (z 1), .int (z 2), .int (z 3), .int (z 4), .int (z 5), .int ca, .ref (qAn g)])) := by rw [eM_303, hp_up_n (hp_ne0 hN hq_298)]; exact hN
              have ho_305 : M_302 (qH g 12) = some (.inr (22, [.int 1, .ref (qN g), .int 8, .int 9, .ref (qN g), .ref (qN g)])) := by rw [eM_303, hp_up_n (hp_ne0 hH9 hq_298)]; exact hH9
              have ha_306 : M_302 (qHs g) = some (.inl (G.2 14, 13, .inr (.inr (.inr (.inr fH))))) := by rw [eM_303, hp_up_n (hp_ne0 hHs hq_298)]; exact hHs
              have ho_307 : M_302 q_297 = some (.inr (3, [.int 0, .int 0, .int 0, .int 0, .int 0, .int 0])) := by rw [eM_303]; exact hp_up_s
              have fr_308 := hp_fr.new hfr hq_298 eM_303
              have nn_309 := hp_fr.nn hfr hq_298
              have sh_310 := hp_sh.new hsh hq_298 eM_303
              refine V_dup C dX1_price_56 rfl ?_
              refine V_pc (pc1 := 57) rfl ?_
              refine V_iload_n C dX1_price_57 rfl 1 rfl ?_
              refine V_iload_n C dX1_price_58 rfl 2 rfl ?_
              refine V_iconst (v := 0) C dX1_price_59 rfl ?_
              refine V_iload_n C dX1_price_60 rfl 3 rfl ?_
              refine V_iconst (v := 0) C dX1_price_61 rfl ?_
              refine V_iload C dX1_price_62 4 rfl ?_
              refine V_callI C (c_X24_init_3 l hl G X N0 M_302 q_297 ho_307 (nI 12) a 0 b 0 n) cs_X1_275 rfl rfl ⟨Nat.le_of_ble_eq_true rfl, Nat.le_of_ble_eq_true rfl⟩ ⟨(by first | exact Nat.le_of_ble_eq_true rfl | omega | (dsimp only; omega)), (by first | exact Nat.le_of_ble_eq_true rfl | omega | (dsimp only; omega))⟩ (Nat.le_of_ble_eq_true rfl) dX1_price_64 (fun _ _ _ h => px0 h) ?_
              rintro _ M_311 ⟨rfl, ho_312, fr_313, sh_314⟩
              refine V_st (st' := [.ref q_297, .ref (qN g)]) rfl ?_
              have ho_315 : M_311 (qN g) = some (.inr (0, [.ref (qRl g), .ref (qUl g), .ref (qPl g), .ref (qHs g), .int (σ.1 20), .int (σ.1 14), .int (σ.1 11), .int (σ.1 12), .int (σ.1 15), .int (z 0), .int (z 1), .int (z 2), .int (z 3), .int (z 4), .int (z 5), .int ca, .ref (qAn g)])) := fr_313 _ _ ne_299 ho_304
              have ho_316 : M_311 (qH g 12) = some (.inr (22, [.int 1, .ref (qN g), .int 8, .int 9, .ref (qN g), .ref (qN g)])) := fr_313 _ _ ne_300 ho_305
              have ha_317 : M_311 (qHs g) = some (.inl (G.2 14, 13, .inr (.inr (.inr (.inr fH))))) := fr_313 _ _ ne_301 ha_306
              have fr_318 := hp_fr.after fr_308 fr_313 nn_309
              have sh_319 := sh_310.trans sh_314
              have hRn : REL G (X 0) g σ z ca C9 M_311 := hR.heap (fun a e h _ => fr_318 a e (fun z => z) h)
              refine V_callV C (c_X1_priceOf l hl G X N0 M_311 g σ z ca C9 hRn hI q_297 12 (by omega) (nI 12) a 0 b 0 n rfl ho_312 hrw9) cs_X1_282_0 ho_315 (show CLS[0]? = some (RX1, TX1, 17) from rfl) rfl rfl ⟨Nat.le_of_ble_eq_true rfl, Nat.le_of_ble_eq_true rfl⟩ ⟨(by first | exact Nat.le_of_ble_eq_true rfl | omega | (dsimp only; omega)), (by first | exact Nat.le_of_ble_eq_true rfl | omega | (dsimp only; omega))⟩ (Nat.le_of_ble_eq_true rfl) dX1_price_67 (fun _ _ _ h => px0 h) ?_
              rintro _ _ ⟨rfl, rfl⟩
              refine V_st (st' := [.int (mf_priceOf σ (nI 12) a b n)]) rfl ?_
              refine V_i2l (v := (mf_priceOf σ (nI 12) a b n).toInt64) C dX1_price_70 rfl ?_
              refine V_lret C dX1_price_71 rfl ?_ (by first | exact Nat.le_of_ble_eq_true rfl | omega | (dsimp only; omega)) (by first | exact Nat.le_of_ble_eq_true rfl | omega | (dsimp only; omega))
              refine ⟨congrArg (fun z => some (Value.long z)) ?_, fr_318, sh_319⟩
              unfold mf_price
              rw [if_pos ⟨(in64 (k := 12) (by decide)).mpr ⟨12, by omega, rfl⟩, hrw9⟩]
            · exact absurd c_37_13 (by decide)
