set_option maxRecDepth 100000
set_option linter.unusedVariables false
section VCD
variable {p : Program} {l : Launch} {e : Env} {R : Room} {s : State} {m : MethodId} {args : Array Value} {below : List Frame} {meth : Method} {c : Code} {locs : List Loc} {cells slots : Nat}
theorem vx_callID {T : State} (X : Stand p l e R s m args below meth c T locs cells slots) (hexec : p.tables.exec = Jvm.exec) {own C : String} {index count : Nat} {x y : MethodName} {bytes : ByteArray} {maxL : Nat} {ret : Option FieldType}
    (hown : s.vm.findClass own = some m.cls) (hlink : (Cond.methodLink own index x).before args s = true) (hdecl : (Cond.declares x).before args s = true) (hface : (Cond.interfaceMethod x.cls x.cls x.name x.desc).before args s = true)
    (hsel : (Cond.landsInDefault C x y).before args s = true) (hinst : (Cond.instanceMethod y).before args s = true) (hpub : (Cond.publicMethod y).before args s = true)
    (hcast : (Cond.castable C x.cls).before args s = true) (hcode : (Cond.code y bytes maxL ret).before args s = true) (hx : x.cls ≠ "java/lang/invoke/MethodHandle" ∧ x.cls ≠ "java/lang/invoke/VarHandle")
    {W9 : Nat} {Pre : Pt → Array Value → Prop} {Post : Pt → Array Value → Option Value → Pt → Prop} {PostX : Pt → Array Value → Addr → Pt → Prop} (hK : vx_Back l R p e below s args y 5 W9 Pre Post PostX)
    {b : Addr} {cellB : Cell} {kB : Class} (hcell : T.heap[b]? = some cellB) (hobj : cellB.vm.isStatics = false) (hcls : s.vm.findClass C = some cellB.cls) (hkB : s.vm.classes[cellB.cls]? = some kB)
    {g : JFrame} (hg : g.method = m) (hsize : g.locals.size = c.maxLocals) {argsL rest : List Value} (hlen : ∀ sig, parseMethodDescriptor x.desc = some sig → argsL.length = sig.parameters.length)
    (hstack : g.stack = argsL.reverse ++ .ref b :: rest) (hW : 2 * g.monitorRoom + (rest.map fun v => v.category).sum ≤ W9) (hdg : decode c.code g.pc = .ok (.invokeinterface index count, 5))
    (hpre : ∀ vm₁, s.WarmedH vm₁ → Pre ⟨T.setVm vm₁, locs, cells, slots⟩ (Value.ref b :: argsL).toArray) :
    (∃ (v : Option Value) (vm₁ : Vm) (B : Pt), s.WarmedH vm₁ ∧ Stand p l e R s m args below meth c B.U B.locs B.cells B.slots ∧ Post ⟨T.setVm vm₁, locs, cells, slots⟩ (Value.ref b :: argsL).toArray v B ∧
      ∀ target, Steps p.tables e below (B.U.setTop { g with pc := g.pc + 5, stack := v.toList ++ rest }) target → Steps p.tables e below (T.setTop g) target) ∨
    (∃ (q : Addr) (vm₁ : Vm) (B : Pt), s.WarmedH vm₁ ∧ Stand p l e R s m args below meth c B.U B.locs B.cells B.slots ∧ PostX ⟨T.setVm vm₁, locs, cells, slots⟩ (Value.ref b :: argsL).toArray q B ∧
      Steps p.tables e below (T.setTop g) ((B.U.setTop { g with stack := rest }).pushFrame (.throwing q))) := by
  obtain ⟨r0, r, hn, hrm, hstR, hsigR⟩ := Cond.declares_spec hdecl
  obtain ⟨cL, kL, r1, hcL, hkL, hiL, hfoundL, hn1⟩ := Cond.interfaceMethod_spec hface
  cases hn.symm.trans hn1
  have hr0cls : r0.cls = cL := Option.some.inj ((findClass_of_methodNamed hn).symm.trans hcL)
  obtain ⟨hnameR, hdescR⟩ := name_of_methodNamed hn hrm
  obtain ⟨mk, methM, hnamed, hmethM, -, habM⟩ := Cond.instanceMethod_spec hinst
  obtain ⟨c2, r2, m2, rm, q1, q2, q3, q5, q4, -, q6, -⟩ := Cond.landsInDefault_spec hsel
  cases hcls.symm.trans q1
  cases hfoundL.symm.trans q2
  cases hnamed.symm.trans q3
  cases hrm.symm.trans q5
  have hselP : selectMethod e.platform s.vm cellB.cls r0 = .method mk := by rw [Launch.admits_selectMethod X.admits]; exact q4
  have hpubM : hasFlag methM.accessFlags Acc.public_ = true := Cond.publicMethod_spec hnamed hmethM hpub
  have hway : ((cellB.cls :: s.vm.superclasses cellB.cls).any fun k => (declaredIn s.vm r.name r.desc k).any fun (_, z) => z.isPrivate || z.isStatic) = false := q6
  obtain ⟨c3, t3, w1, w2, w3⟩ := Cond.castable_spec hcast
  cases hcls.symm.trans w1
  cases hcL.symm.trans w2
  obtain ⟨vm₁, X₁, hstep₁⟩ := X.invokeinterface hexec hown hlink hn hrm hstR (by rw [hr0cls]; exact hkL) hiL hx (a := b) (cell := cellB) (kcell := kB) hcell
    (fun z h => by rw [h] at hobj; cases hobj) hkB (by rw [hr0cls]; exact w3) hselP hmethM hway hpubM habM (g := g) hg (argsL := argsL) (rest := rest) (hlen _ hsigR) hstack hdg
  rcases hK m meth c ⟨T.setVm vm₁, locs, cells, slots⟩ { g with stack := rest } (.invokeinterface index count) mk (Value.ref b :: argsL).toArray X₁ hg hsize hdg hW (X₁.named hnamed) (hpre vm₁ X₁.warmed) with ⟨v, B, X', hpost, hsteps⟩ | ⟨q, B, X', hpost, hsteps⟩
  · exact Or.inl ⟨v, vm₁, B, X₁.warmed, X', hpost, fun target h => hstep₁ _ fun acts => by rw [doInvoke_state]; exact hsteps.trans h⟩
  · exact Or.inr ⟨q, vm₁, B, X₁.warmed, X', hpost, hstep₁ _ fun acts => by rw [doInvoke_state]; exact hsteps⟩
end VCD
section VCD2
variable {p : Program} {l : Launch} {e : Env} {R : Room} {s : State} {m : MethodId} {args : Array Value} {below : List Frame} {meth : Method} {c : Code} {cc : ByteArray} {own : String} {nL : Nat} {ret : Option FieldType} {hh : List (Nat × Nat × Nat × Nat)} {G : hp_G} {X : Nat → Nat} {N0 : Nat} {Q : State → Prop} {cells slots : Nat} {M : hp_h} {pc : Nat} {L : List (Nat × Value)} {rest : List Value} {idx : Nat}
variable {st st0 : List Value} {y : MethodName} {b : ByteArray} {r : Option FieldType} {n mL mc ms fr lo ci a : Nat} {As : List Value} {fs : List Value} {Cn : String} {T : u_T} {NN : Nat} {Post : Option Value → hp_h → Prop} {PX : Nat → String → hp_h → Prop}
/-- a default method of an interface -/
theorem V_callD (C : Cx p l s m args meth c cc own nL ret hh G X N0) (hM : HM l y (ws_ y b mL r) fr lo mc ms G X N0 (.ref a :: As) M Post PX) {cnt : Nat} (hI : GoodIn lw_all (ws_ y b mL r) ∧ Cond.methodLink own idx y ∈ lw_all ∧ Cond.instanceMethod y ∈ lw_all ∧ Cond.initialized y.cls ∈ lw_all ∧ (Cn, y) ∈ DFS ∧ y.cls ≠ "java/lang/invoke/MethodHandle" ∧ y.cls ≠ "java/lang/invoke/VarHandle" ∧ (parseMethodDescriptor y.desc).map (fun d => d.parameters.length) = some n) (ha : M a = some (.inr (ci, fs))) (hci : CLS[ci]? = some (Cn, T, NN)) (hn : As.length = n) (hst : st0 = As.reverse ++ .ref a :: rest) (hR : fr + 1 ≤ R.frames ∧ 8 + (mL + 11) + lo ≤ R.locals) (hcs : cells + mc ≤ R.cells ∧ slots + ms ≤ R.slots) (hW : (rest.map fun v => v.category).sum ≤ 8) (hdg : decode cc pc = .ok (.invokeinterface idx cnt, 5)) (kx : ∀ (q : Nat) (E : String) (M' : hp_h), PX q E M' → VX p l e R s m args below meth c G N0 nL Q (cells + mc) (slots + ms) M' pc L q E) (kk : ∀ (v : Option Value) (M' : hp_h), Post v M' → V p l e R s m args below meth c G N0 nL Q (cells + mc) (slots + ms) M' (pc + 5) L (v.toList ++ rest)) : V p l e R s m args below meth c G N0 nL Q cells slots M pc L st0 := by
  refine V_run5 (ar := (Value.ref a :: As).toArray) (fun ls H locs hL hP hS => ?_) kx kk
  obtain ⟨i1, i2, i3, i4, i5, i6, i7, i8⟩ := hI
  obtain ⟨cellB, hcB, hoB, hclB⟩ := hp_recv (C := C) hP ha hci
  obtain ⟨kB, hkB, -⟩ := Vm.findClass_spec hclB
  have hcd : Cond.code y b mL r ∈ lw_all := (i1 _ List.mem_cons_self).1
  have hK : vx_Back l R p e below s args y 5 8 (PreOf R mc ms (HPre G X N0 (.ref a :: As) M)) (PostOf (HPost G N0 Post) mc ms (hp_A N0)) (vx_Post (HXP G N0 PX) mc ms (hp_A N0)) := vx_back (bytes := b) (maxL := mL) (ret := r) hM HPre.blind rfl rfl hR.1 hR.2 (pay_in (fun w h => C.w h) i1) List.mem_cons_self (fun a' U hW => word_at hW (Or.inl (by first | rfl | simp [Cond.onTables, Cond.keeps, Cond.steady])) (C.w i4))
  obtain ⟨d1, d2, d3, d4, d5⟩ := C.2.2.2.2.2.2.2.2.1.1.2.2.2.2.1 (Cn, y) i5
  have any : ∀ {w : Cond}, w.onTables = true → w.before #[] s = true → w.before args s = true := fun hw h => va_any hw h
  intro T0 hT X0
  rcases vx_callID X0 C.1 (C := Cn) (x := y) (y := y) (bytes := b) (maxL := mL) (ret := r) C.2.2.2.1 (C.w i2) (any rfl d1) (any rfl d2) ((Cond.landsInDefault_setVm (s := s) (vm' := s.vm) (args := args) (args' := #[]) (cls := Cn) (x := y) (y := y) (Vm.Alike.refl _) rfl).symm.trans d3) (C.w i3) (any rfl d4) (any rfl d5) (C.w hcd) ⟨i6, i7⟩ hK (by rw [hT]; exact hcB) hoB hclB hkB (g := F0 m pc ls st0) rfl (hL.1.trans C.2.2.1.symm) (argsL := As) (rest := rest) (fun sig h => by rw [h] at i8; exact hn.trans (Option.some.inj i8).symm) hst (lv_room hW) (by rw [C.2.1]; exact hdg)
    (fun vm₁ hW₁ => ⟨hcs.1, hcs.2, HPre.at (C := C) (av := .ref a :: As) hP hS (T0.setVm vm₁) hT hW₁⟩) with ⟨v, vm₁, ⟨U', l2, c2, s2⟩, hW₁, X', ⟨g', mk, t, L9, e1, e2, hq, h1, hL9, h2, h3⟩, st⟩ | ⟨q, vm₁, ⟨U', l2, c2, s2⟩, hW₁, X', ⟨g', mk, t, L9, E, ce, e1, e2, hq, hce, hcv, hcl, h1, hL9, h2, h3⟩, st⟩
  · dsimp only [Pt.U, Pt.locs, Pt.cells, Pt.slots] at X' e1 e2 h1 h2 h3 st
    subst h1; subst h2; subst h3
    exact Or.inl ⟨v, (T0.setVm vm₁).calling g' mk (Value.ref a :: As).toArray, t, U', L9, hT, X', hL9, e1, e2, hq, st⟩
  · dsimp only [Pt.U, Pt.locs, Pt.cells, Pt.slots] at X' e1 e2 h1 h2 h3 st hcl
    subst h1; subst h2; subst h3
    exact Or.inr ⟨q, (T0.setVm vm₁).calling g' mk (Value.ref a :: As).toArray, t, U', L9, E, ce, hT, X', hL9, e1, e2, hq, hce, hcv, vx_cls hW₁ hcl, st⟩
end VCD2
