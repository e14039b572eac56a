set_option maxRecDepth 100000
section B58
variable {G : hp_G} {E0 : Nat} {g g' : RG} {σ σ' τ : MS} {z : Nat → Int32} {ca : Int32} {C c : Nat} {M M1 M' : hp_h}
/-- an act is done: r tells fault, value, state -/
def WB (G : hp_G) (E0 : Nat) (g : RG) (σ : MS) (z : Nat → Int32) (C : Nat) (M : hp_h) (r : BRT) : Option Value → hp_h → Prop := fun v M' => r.1 = 0 ∧ v = some (.long r.2.1) ∧ ∃ g', REL G E0 g' r.2.2 z (r.2.2.1 31) C M' ∧ RKp (nR σ) σ g C M r.2.2 g' C M'
/-- or it fails -/
def XB (G : hp_G) (E0 : Nat) (g : RG) (σ : MS) (z : Nat → Int32) (C : Nat) (M : hp_h) (r : BRT) : Nat → String → hp_h → Prop := fun q E M' => r.1 ≠ 0 ∧ E = RX26 ∧ ∃ g', REL G E0 g' r.2.2 z (r.2.2.1 31) C M' ∧ RKp (nR σ) σ g C M r.2.2 g' C M' ∧ M' q = some (.inr (8, [.null, .null, .null, .null, .null, .int 0, .int r.1])) ∧ ¬ IsR r.2.2 g' C q
theorem WP.dr {d : Int32 × MS} {v : Option Value} (h : WP G E0 g σ z C M d v M') : WB G E0 g σ z C M (mf_dr d) v M' := by
  obtain ⟨h1, h2, h3⟩ := h
  unfold mf_dr
  rw [if_pos h1]
  exact ⟨rfl, h2, h3⟩
theorem WX.dr {d : Int32 × MS} {q : Nat} {E : String} (h : WX G E0 g σ z C M d q E M') : XB G E0 g σ z C M (mf_dr d) q E M' := by
  obtain ⟨h1, h2, h3⟩ := h
  unfold mf_dr
  rw [if_neg h1]
  exact ⟨h1, h2, h3⟩
theorem FLX.xb {f : Int32} {q : Nat} {E : String} (h : FLX G E0 g σ z C M σ f q E M') {r : BRT} (hr : r = (f, 0, mf_flt σ)) (hf : f ≠ 0) : XB G E0 g σ z C M r q E M' := by
  subst hr
  exact ⟨hf, h⟩
theorem RD.eq9 (h1 : σ'.1 1 = σ.1 1) (h5 : σ'.1 5 = σ.1 5) (h8 : σ'.1 8 = σ.1 8) (h16 : σ'.2.1 16 = σ.2.1 16) {t i j : Nat} : RD σ' g C t i j ↔ RD σ g C t i j := by
  unfold _root_.Jvm.Pilot.CNativeSubsetLaw_law_r3584_2ddaea.RD nR nU nJ psz
  rw [h1, h5, h8, h16]
theorem WB.pre {r : BRT} {v : Option Value} (hK : RKp (nR σ) σ g C M τ g C M1) (h1 : τ.1 1 = σ.1 1) (h5 : τ.1 5 = σ.1 5) (h8 : τ.1 8 = σ.1 8) (h16 : τ.2.1 16 = σ.2.1 16) (h : WB G E0 g τ z C M1 r v M') : WB G E0 g σ z C M r v M' := by
  obtain ⟨a1, a2, g', a3, a4⟩ := h
  exact ⟨a1, a2, g', a3, hK.trans a4 (Nat.le_refl _) (by unfold nR; rw [h1]; exact Nat.le_refl _) (fun _ _ _ _ _ _ _ hd _ _ => (RD.eq9 h1 h5 h8 h16).mpr hd)⟩
theorem XB.pre {r : BRT} {q : Nat} {E : String} (hK : RKp (nR σ) σ g C M τ g C M1) (h1 : τ.1 1 = σ.1 1) (h5 : τ.1 5 = σ.1 5) (h8 : τ.1 8 = σ.1 8) (h16 : τ.2.1 16 = σ.2.1 16) (h : XB G E0 g τ z C M1 r q E M') : XB G E0 g σ z C M r q E M' := by
  obtain ⟨a1, a2, g', a3, a4, a5, a6⟩ := h
  exact ⟨a1, a2, g', a3, hK.trans a4 (Nat.le_refl _) (by unfold nR; rw [h1]; exact Nat.le_refl _) (fun _ _ _ _ _ _ _ hd _ _ => (RD.eq9 h1 h5 h8 h16).mpr hd), a5, a6⟩
theorem i32_pay (x y p : Int32) : x - y + p = x - (y - p) := by
  simp only [Int32.sub_eq_add_neg, Int32.neg_add, Int32.neg_neg, Int32.add_assoc]
/-- an act is paid -/
theorem RELY.pay (h : REL G E0 g σ z ca C M) (hc : c < C) {pr : Int32} (hC' : M' (qC g c) = some (.inr (4, [.int (σ.2.1 21 c), .int (σ.2.1 25 c), .ref (qKl g c), .ref (qW g c), .int (σ.2.1 24 c - pr), .int (σ.2.1 23 c - σ.2.1 24 c + pr), .int (σ.2.1 22 c), .ref (qN g)])))
    (hN' : M' (qN g) = some (.inr (0, [.ref (qRl g), .ref (qUl g), .ref (qPl g), .ref (qHs g), .int (σ.1 20), .int (σ.1 14), .int (σ.1 11 + 1), .int (σ.1 12), .int (σ.1 15), .int (z 0), .int (z 1), .int (z 2), .int (z 3), .int (z 4), .int (z 5), .int ca, .ref (qAn g)]))) (hf : hp_fr (fun b => b = qC g c ∨ b = qN g) M M') (hs : hp_sh M M') : REL G E0 g (mf_pay c pr σ) z ca C M' ∧ RKp (nR σ) σ g C M (mf_pay c pr σ) g C M' := by
  have d15 : RD σ g C 15 c 0 := ⟨hc, rfl⟩
  have d0 : RD σ g C 0 0 0 := ⟨by decide, rfl, rfl⟩
  have hne : qC g c ≠ qN g := h.ne d15 d0 (by simp)
  have hcf : CF g (si σ 24 (va_up (σ.2.1 24) c (σ.2.1 24 c - pr))) c = [.int (σ.2.1 21 c), .int (σ.2.1 25 c), .ref (qKl g c), .ref (qW g c), .int (σ.2.1 24 c - pr), .int (σ.2.1 23 c - σ.2.1 24 c + pr), .int (σ.2.1 22 c), .ref (qN g)] := by
    have e24 : (si σ 24 (va_up (σ.2.1 24) c (σ.2.1 24 c - pr))).2.1 24 c = σ.2.1 24 c - pr := va_up_s
    unfold CF
    rw [e24, i32_pay]
    rfl
  have h1 := h.call (σ' := si σ 24 (va_up (σ.2.1 24) c (σ.2.1 24 c - pr))) hc rfl (fun k _ _ hk => va_up_n hk) rfl (fun d hd => ⟨rfl, rfl, va_up_n hd⟩)
  rw [hcf] at h1
  have h2 := h1.num (σ' := sz (si σ 24 (va_up (σ.2.1 24) c (σ.2.1 24 c - pr))) 11 (σ.1 11 + 1)) (z' := z) (ca' := ca) rfl rfl rfl rfl rfl
  have h3 : REL G E0 g (sz (si σ 24 (va_up (σ.2.1 24) c (σ.2.1 24 c - pr))) 11 (σ.1 11 + 1)) z ca C M' := h2.heap (fun a e ha _ => by
    by_cases e1 : a = qN g
    · subst e1
      rw [hp_up_s] at ha
      cases ha
      exact hN'
    · rw [hp_up_n e1] at ha
      by_cases e2 : a = qC g c
      · subst e2
        rw [hp_up_s] at ha
        cases ha
        exact hC'
      · rw [hp_up_n e2] at ha
        exact hf a e (fun y => y.elim e2 e1) ha)
  refine ⟨h3.view ⟨fun k hk => ?_, fun _ _ => ⟨rfl, rfl⟩, fun _ _ => rfl, fun _ _ => rfl, rfl, fun _ _ _ _ => rfl⟩, RKp.mk9 (fun _ _ _ _ _ _ _ _ _ _ => rfl) hf ?_ (fun t i j hd => Or.inl ⟨(RD.eq9 (σ := σ) (σ' := mf_pay c pr σ) rfl rfl rfl rfl).mp hd, rfl⟩) hs⟩
  · rcases hk with rfl | rfl | rfl | rfl | rfl | rfl | rfl | rfl <;> rfl
  · rintro a (rfl | rfl)
    · exact ⟨15, c, 0, d15, rfl⟩
    · exact ⟨0, 0, 0, d0, rfl⟩
end B58
section A58
variable {go : Nat → MS → Int32 × MS} {c : Nat} {σ : MS} {x0 a i b j n : Int32}
def AH9 (σ : MS) (c : Nat) (x0 a i b j n : Int32) : Prop := mf_act σ c 0 = x0 ∧ mf_act σ c 1 = a ∧ mf_act σ c 2 = i ∧ mf_act σ c 3 = b ∧ mf_act σ c 4 = j ∧ mf_act σ c 5 = n
theorem act_1 (h : AH9 σ c x0 a i b j n) (hn : ¬ mf_hasRows σ x0 a b) : mf_actR go c σ = (1, 0, mf_flt σ) := by
  obtain ⟨h0, h1, h2, h3, h4, h5⟩ := h
  unfold mf_actR
  rw [h0, h1, h3, if_pos hn]
theorem act_8 (h : AH9 σ c x0 a i b j n) (hr : mf_hasRows σ x0 a b) (hlt : σ.2.1 24 c < mf_priceOf σ x0 a b n) : mf_actR go c σ = (8, 0, mf_flt σ) := by
  obtain ⟨h0, h1, h2, h3, h4, h5⟩ := h
  unfold mf_actR mf_prc
  rw [h0, h1, h3, h5, if_neg (not_not_intro hr), if_pos hlt]
theorem act_w (h : AH9 σ c x0 a i b j n) (hr : mf_hasRows σ x0 a b) (hge : ¬ σ.2.1 24 c < mf_priceOf σ x0 a b n) : mf_actR go c σ = mf_workR go c (mf_pay c (mf_priceOf σ x0 a b n) σ) x0.toNatClampNeg a i b j n := by
  obtain ⟨h0, h1, h2, h3, h4, h5⟩ := h
  unfold mf_actR mf_prc
  rw [h0, h1, h2, h3, h4, h5, if_neg (not_not_intro hr), if_neg hge]
end A58
section AX58
variable {p : Program} {l : Launch} {e : Env} {R : Room} {s : State} {m : MethodId} {args : Array Value} {below : List Frame} {meth : Method} {c : Code} {H : Heap} {locs : List Loc} {cells slots : Nat}
theorem vx_callVUX {T : State} {locs : List Loc} {cells slots : Nat} (X : Stand p l e R s m args below meth c T locs cells slots) (hexec : p.tables.exec = Jvm.exec) {own C owner : String} {index : Nat} {x y : MethodName} 
    (hown : s.vm.findClass own = some m.cls) (hlink : (Cond.methodLink own index x).before args s = true) (hsame : (Cond.sameMethod x.cls owner x.name x.desc).before args s = true)
    (hd0 : va_Decl s ⟨owner, x.name, x.desc⟩) (howner : owner ≠ "java/lang/invoke/MethodHandle" ∧ owner ≠ "java/lang/invoke/VarHandle")
    (hsel : (Cond.selects C x y).before args s = true) (hinst : (Cond.instanceMethod y).before args s = true)
    {W : Nat} {Pre : Pt → Array Value → Prop} {Post : Pt → Array Value → Option Value → Pt → Prop} {PostX : Pt → Array Value → Addr → Pt → Prop} (hK : vx_Back l R p e below s args y 3 W Pre Post PostX)
    {b : Addr} {cellB : Cell} (hcell : T.heap[b]? = some cellB) (hobj : cellB.vm.isStatics = false) (hcls : s.vm.findClass C = some cellB.cls)
    {g : JFrame} (hg : g.method = m) (hsize : g.locals.size = c.maxLocals) {argsL rest : List Value} (hlen : ∀ sig, parseMethodDescriptor x.desc = some sig → argsL.length = sig.parameters.length)
    (hstack : g.stack = argsL.reverse ++ .ref b :: rest) (hW : 2 * g.monitorRoom + (rest.map fun v => v.category).sum ≤ W) (hdg : decode c.code g.pc = .ok (.invokevirtual index, 3))
    (hpre : ∀ vm₁, s.WarmedH vm₁ → Pre ⟨T.setVm vm₁, locs, cells, slots⟩ (Value.ref b :: argsL).toArray) :
    (∃ (v : Option Value) (vm₁ : Vm) (B : Pt), s.WarmedH vm₁ ∧ Stand p l e R s m args below meth c B.U B.locs B.cells B.slots ∧ Post ⟨T.setVm vm₁, locs, cells, slots⟩ (Value.ref b :: argsL).toArray v B ∧
      ∀ target, Steps p.tables e below (B.U.setTop { g with pc := g.pc + 3, stack := v.toList ++ rest }) target → Steps p.tables e below (T.setTop g) target) ∨
    (∃ (q : Addr) (vm₁ : Vm) (B : Pt), s.WarmedH vm₁ ∧ Stand p l e R s m args below meth c B.U B.locs B.cells B.slots ∧ PostX ⟨T.setVm vm₁, locs, cells, slots⟩ (Value.ref b :: argsL).toArray q B ∧
      Steps p.tables e below (T.setTop g) ((B.U.setTop { g with stack := rest }).pushFrame (.throwing q))) := by
  obtain ⟨r0, r, hn, hrm, hstR, hsigR⟩ := hd0
  obtain ⟨cn, ck, r1, hcn, hck, hni, hf, hn1⟩ := Cond.sameMethod_found hsame
  cases hn.symm.trans hn1
  obtain ⟨mk, methM, hnamed, hmethM, -, habM⟩ := Cond.instanceMethod_spec hinst
  obtain ⟨c2, r2, m2, q1, q2, q3, q4, kP, hkP, hkPi⟩ := Cond.selects_spec hsel
  cases hcls.symm.trans q1
  cases hf.symm.trans q2
  cases hnamed.symm.trans q3
  have hselP : selectMethod e.platform s.vm cellB.cls r0 = .method mk := by rw [Launch.admits_selectMethod X.admits]; exact q4
  obtain ⟨vm₁, X₁, hstep₁⟩ := X.invokevirtualUp hexec hown hlink hsame howner hn hrm hstR (a := b) (cell := cellB) hcell
    (fun z h => by rw [h] at hobj; cases hobj) hselP hmethM habM hkP hkPi (g := g) hg (argsL := argsL) (rest := rest) (hlen _ hsigR) hstack hdg
  rcases hK m meth c ⟨T.setVm vm₁, locs, cells, slots⟩ { g with stack := rest } (.invokevirtual index) mk (Value.ref b :: argsL).toArray X₁ hg hsize hdg hW (X₁.named hnamed) (hpre vm₁ X₁.warmed) with ⟨v, B, X', hpost, hsteps⟩ | ⟨q, B, X', hpost, hsteps⟩
  · exact Or.inl ⟨v, vm₁, B, X₁.warmed, X', hpost, fun target h => hstep₁ _ fun acts => by rw [doInvoke_state]; exact hsteps.trans h⟩
  · exact Or.inr ⟨q, vm₁, B, X₁.warmed, X', hpost, hstep₁ _ fun acts => by rw [doInvoke_state]; exact hsteps⟩
theorem vx_runAX {x y : MethodName} {bytes cc : ByteArray} {maxL nL mc ms n index : Nat} {ret : Option FieldType} {hh : List (Nat × Nat × Nat × Nat)} {ws ws' : List Cond} {rm : Room} {Pc : Array Value → State → Prop} {Qc : Array Value → State → Outcome → State → Prop} {XC : Addr → String → State → State → Prop} {free : Addr → Prop} {Ts : List Cond} {own C owner : String} {b : Addr} {As rest : List Value} {g : JFrame}
    (S : CallFix p m c cc nL s args Ts own) (hM : vx_Met l y ws rm Pc Qc XC mc ms free) (ht : ∀ w ∈ Ts, w.before args s = true) (hT : GoodIn Ts (va_wsU own index C owner x y ws)) (hw : ws = Cond.codeWith y bytes maxL ret hh :: ws') (hrc : rm.cells = mc) (hrs : rm.slots = ms) (hz : va_Nw (.declares ⟨owner, x.name, x.desc⟩) s) (hd : owner ≠ "java/lang/invoke/MethodHandle" ∧ owner ≠ "java/lang/invoke/VarHandle" ∧ (parseMethodDescriptor x.desc).map (fun d => d.parameters.length) = some n) (hR : rm.frames + 1 ≤ R.frames ∧ 8 + (maxL + 11) + rm.locals ≤ R.locals) (hp : PreV s H C b Pc As)
    (hg : g.method = m) (hn : As.length = n) (hsize : g.locals.size = nL) (hstack : g.stack = As.reverse ++ .ref b :: rest) (hW : 2 * g.monitorRoom + (rest.map fun v => v.category).sum ≤ 8) (hdg : decode cc g.pc = .ok (.invokevirtual index, 3)) (hf : cells + mc ≤ R.cells ∧ slots + ms ≤ R.slots) :
    vx_Run p l e R s m args below meth c H locs cells slots mc ms g rest (Qc (Value.ref b :: As).toArray) XC free := by
  have ok : ∀ w ∈ va_wsU own index C owner x y ws, w.before args s = true := fun w h => ht w (hT w h).1
  have hG : GoodIn Ts ws := fun w h => hT w (by unfold va_wsU; exact List.mem_append_right _ h)
  have hcw : Cond.codeWith y bytes maxL ret hh ∈ ws := by rw [hw]; exact List.mem_cons_self
  have hini : (Cond.initialized y.cls).before args s = true := ok _ (by simp [va_wsU])
  have hlen : ∀ sig, parseMethodDescriptor x.desc = some sig → n = sig.parameters.length := fun sig h => by
    have h2 := hd.2.2
    rw [h] at h2
    exact (Option.some.inj h2).symm
  have hK : vx_Back l R p e below s args y 3 8 (PreOf R mc ms Pc) (PostOf Qc mc ms free) (vx_Post XC mc ms free) := vx_backW (hh := hh) (bytes := bytes) (maxL := maxL) (ret := ret) hM hp.1 hrc hrs hR.1 hR.2 (pay_in ht hG) hcw (fun a' U hW => word_at hW (Or.inl (by first | rfl | simp [Cond.onTables, Cond.keeps, Cond.steady])) hini)
  obtain ⟨hx, hb, hml, ho, -⟩ := S
  obtain ⟨-, ⟨cellB, hcB, hoB, hclB⟩, hPc⟩ := hp
  intro T hT X
  rcases vx_callVUX X hx (own := own) (index := index) (x := x) (y := y) (C := C) (owner := owner) ho (ok _ (by simp [va_wsU])) (ok _ (by simp [va_wsU])) (va_Decl.abs hz) ⟨hd.1, hd.2.1⟩ (ok _ (by simp [va_wsU])) (ok _ (by simp [va_wsU])) hK (by rw [hT]; exact hcB) hoB hclB hg (hsize.trans hml.symm) (argsL := As) (rest := rest) (fun sig h => hn.trans (hlen sig h)) hstack hW (by rw [hb]; exact hdg)
    (fun vm₁ hW₁ => ⟨hf.1, hf.2, hPc (T.setVm vm₁) hT hW₁⟩) with ⟨v, vm₁, ⟨U', l2, c2, s2⟩, hW₁, X', ⟨g', mk, t, L, e1, e2, hq, h1, hL, h2, h3⟩, st⟩ | ⟨q, vm₁, ⟨U', l2, c2, s2⟩, hW₁, X', ⟨g', mk, t, L, E, ce, e1, e2, hq, hce, hcv, hcl, h1, hL, h2, h3⟩, st⟩
  · dsimp only [Pt.U, Pt.locs, Pt.cells, Pt.slots] at X' e1 e2 h1 h2 h3 st
    subst h1; subst h2; subst h3
    exact Or.inl ⟨v, (T.setVm vm₁).calling g' mk (Value.ref b :: As).toArray, t, U', L, hT, X', hL, e1, e2, hq, st⟩
  · dsimp only [Pt.U, Pt.locs, Pt.cells, Pt.slots] at X' e1 e2 h1 h2 h3 st hcl
    subst h1; subst h2; subst h3
    exact Or.inr ⟨q, (T.setVm vm₁).calling g' mk (Value.ref b :: As).toArray, t, U', L, E, ce, hT, X', hL, e1, e2, hq, hce, hcv, vx_cls hW₁ hcl, st⟩
end AX58
section AX58b
variable {p : Program} {l : Launch} {e : Env} {R : Room} {s : State} {m : MethodId} {args : Array Value} {below : List Frame} {meth : Method} {c : Code} {cc : ByteArray} {own : String} {nL : Nat} {ret : Option FieldType} {hh : List (Nat × Nat × Nat × Nat)} {G : hp_G} {X : Nat → Nat} {N0 : Nat} {Q : State → Prop} {cells slots : Nat} {M : hp_h} {pc : Nat} {L : List (Nat × Value)} {rest st st0 : List Value}
variable {y x : MethodName} {b : ByteArray} {r : Option FieldType} {idx n mL mc ms fr lo ci a : Nat} {As : List Value} {fs : List Value} {Cn : String} {T : u_T} {NN : Nat} {Post : Option Value → hp_h → Prop} {PX : Nat → String → hp_h → Prop}
theorem V_callAX {owner : String} {h2 : List (Nat × Nat × Nat × Nat)} (C : Cx p l s m args meth c cc own nL ret hh G X N0) (hM : HM l y (wsW_ y b mL r h2) fr lo mc ms G X N0 (.ref a :: As) M Post PX) (hI : GoodIn lw_all (va_wsU own idx Cn owner x y (wsW_ y b mL r h2)) ∧ Cond.declares ⟨owner, x.name, x.desc⟩ ∈ lw_tbl ∧ owner ≠ "java/lang/invoke/MethodHandle" ∧ owner ≠ "java/lang/invoke/VarHandle" ∧ (parseMethodDescriptor x.desc).map (fun d => d.parameters.length) = some n) (ha : M a = some (.inr (ci, fs))) (hci : CLS[ci]? = some (Cn, T, NN)) (hn : As.length = n) (hst : st0 = As.reverse ++ .ref a :: rest) (hR : fr + 1 ≤ R.frames ∧ 8 + (mL + 11) + lo ≤ R.locals) (hcs : cells + mc ≤ R.cells ∧ slots + ms ≤ R.slots) (hW : (rest.map fun v => v.category).sum ≤ 8) (hdg : decode cc pc = .ok (.invokevirtual idx, 3)) (kx : ∀ (q : Nat) (E : String) (M' : hp_h), PX q E M' → VX p l e R s m args below meth c G N0 nL Q (cells + mc) (slots + ms) M' pc L q E) (kk : ∀ (v : Option Value) (M' : hp_h), Post v M' → V p l e R s m args below meth c G N0 nL Q (cells + mc) (slots + ms) M' (pc + 3) L (v.toList ++ rest)) : V p l e R s m args below meth c G N0 nL Q cells slots M pc L st0 :=
  V_run (fun ls H locs hL hP hS => vx_runAX (n := n) ⟨C.1, C.2.1, C.2.2.1, C.2.2.2.1, C.2.2.2.2.1⟩ hM C.2.2.2.2.1 hI.1 (hh := h2) (bytes := b) (maxL := mL) (ret := r) rfl rfl rfl (C.2.2.2.2.2.2.2.2.1.1.2.1 _ hI.2.1 rfl) hI.2.2 hR ⟨HPre.blind, hp_recv (C := C) hP ha hci, HPre.at (C := C) hP hS⟩ rfl hn hL.1 hst (lv_room hW) hdg hcs) kx kk
end AX58b
set_option maxHeartbeats 1000000 in
theorem c_X25_act_0_1 (l : Launch) (hl : l.stackTraces = false) (G : hp_G) (X : Nat → Nat) (N0 : Nat) (M : hp_h) (go : Nat → MS → Int32 × MS) (g : RG) (σ : MS) (z : Nat → Int32) (c9 : Nat) (hR : REL G (X 0) g σ z (σ.1 31) (c9 + 1) M) (hI : MI σ) (P9 K9 : Nat) (a i b j n : Int32) (hP9 : P9 < 6) (hK9 : K9 < psz σ P9) (hAF : AF σ P9 K9 = [.int (nI 0), .int a, .int i, .int b, .int j, .int n]) (hAH : AH9 σ c9 (nI 0) a i b j n) (hn : ¬ mf_hasRows σ (nI 0) a b) : HM l yX25_act (ws_ yX25_act cX25_act 4 (some .long)) 29 11440 1 7 G X N0 [.ref (qC g c9), .ref (qA g P9 K9)] M PFF (XB G (X 0) g σ z (c9 + 1) M (mf_actR go c9 σ)) := by
  refine HM.of hl [(0, .ref (qC g c9)), (1, .ref (qA g P9 K9))] (by decide +kernel) rfl (Nat.le_of_ble_eq_true rfl) ?_
  intro p e s m args below meth c C hname
  have hN := hR.N
  obtain ⟨fH, hHs, hHf⟩ := hR.Hs
  have hCc : M (qC g c9) = some (.inr (4, [.int (σ.2.1 21 c9), .int (σ.2.1 25 c9), .ref (qKl g c9), .ref (qW g c9), .int (σ.2.1 24 c9), .int (σ.2.1 23 c9 - σ.2.1 24 c9), .int (σ.2.1 22 c9), .ref (qN g)])) := hR.Cc (Nat.lt_succ_self c9)
  have hac : M (qA g P9 K9) = some (.inr (3, [.int (nI 0), .int a, .int i, .int b, .int j, .int n])) := (hR.A hP9 hK9).trans (congrArg (fun y => some (Sum.inr (3, y))) hAF)
  have hH9 : M (qH g 0) = some (.inr (10, [.int 2, .ref (qN g), .ref (qN g)])) := hR.H (by decide)
  refine V_aload_n C dX25_act_0 rfl 0 rfl ?_
  refine V_get C f_X25_3_4 hCc (v := .ref (qN g)) rfl dX25_act_1 ?_
  refine V_getN C f_X25_111_0 hN (v := .ref (qHs g)) rfl dX25_act_4 ?_
  refine V_aload_n C dX25_act_7 rfl 1 rfl ?_
  refine V_getN C f_X25_115_3 hac (v := .int (nI 0)) rfl dX25_act_8 ?_
  refine V_aald C (j := 14) rfl rfl hHs (vp_in_nI (by omega) (by omega)) dX25_act_11 ?_
  refine V_st (st' := [.ref (qH g 0)]) (by rw [nI_clamp (by omega), (hHf 0 (by decide))]; rfl) ?_
  refine V_astore_n C dX25_act_12 rfl (Nat.le_of_ble_eq_true rfl) [(0, .ref (qC g c9)), (1, .ref (qA g P9 K9)), (2, .ref (qH g 0))] [1, 2, 0] rfl ?_
  refine V_aload_n C dX25_act_13 rfl 1 rfl ?_
  refine V_getN C f_X25_115_3 hac (v := .int (nI 0)) rfl dX25_act_14 ?_
  refine V_callSN C (c_X1_needsRow l hl G X N0 M (nI 0)) cs_X25_120 rfl rfl ⟨Nat.le_of_ble_eq_true rfl, Nat.le_of_ble_eq_true rfl⟩ ⟨(by first | exact Nat.le_of_ble_eq_true rfl | omega | (dsimp only; omega) | (simp only [List.length_cons, List.length_nil]; omega)), (by first | exact Nat.le_of_ble_eq_true rfl | omega | (dsimp only; omega) | (simp only [List.length_cons, List.length_nil]; omega))⟩ (Nat.le_of_ble_eq_true rfl) dX25_act_17 (fun _ _ _ h => px0 h) ?_
  rintro _ _ ⟨rfl, rfl⟩
  refine V_st (st' := [.int (bI ((nI 0) ≠ 10 ∧ (nI 0) ≠ 11))]) rfl ?_
  refine V_if_eq (tgt := 67) C dX25_act_20 (by decide) (fun c_20 => ?_) (fun c_20 => ?_)
  · exact absurd (bI_0.mp c_20) (not_not_intro ⟨by decide, by decide⟩)
  · refine V_pc (pc1 := 23) rfl ?_
    refine V_aload_n C dX25_act_23 rfl 0 rfl ?_
    refine V_get C f_X25_3_4 hCc (v := .ref (qN g)) rfl dX25_act_24 ?_
    refine V_aload_n C dX25_act_27 rfl 1 rfl ?_
    refine V_getN C f_X25_123_3 hac (v := .int a) rfl dX25_act_28 ?_
    refine V_callVN C (c_X1_isRow l hl G X N0 M g σ z (σ.1 31) (c9 + 1) hR hI a) cs_X25_126_0 hN (show CLS[0]? = some (RX1, TX1, 17) from rfl) rfl rfl ⟨Nat.le_of_ble_eq_true rfl, Nat.le_of_ble_eq_true rfl⟩ ⟨(by first | exact Nat.le_of_ble_eq_true rfl | omega | (dsimp only; omega) | (simp only [List.length_cons, List.length_nil]; omega)), (by first | exact Nat.le_of_ble_eq_true rfl | omega | (dsimp only; omega) | (simp only [List.length_cons, List.length_nil]; omega))⟩ (Nat.le_of_ble_eq_true rfl) dX25_act_31 (fun _ _ _ h => px0 h) ?_
    rintro _ _ ⟨rfl, rfl⟩
    refine V_st (st' := [.int (bI (¬ a < 0 ∧ a < σ.1 1))]) rfl ?_
    refine V_if_eq (tgt := 58) C dX25_act_34 (by decide) (fun c_34 => ?_) (fun c_34 => ?_)
    · refine V_aload_n C dX25_act_58 rfl 0 rfl ?_
      refine V_get C f_X25_3_4 hCc (v := .ref (qN g)) rfl dX25_act_59 ?_
      refine V_iconst (v := 1) C dX25_act_62 rfl ?_
      refine V_callVN C (c_X1_fail l hl G X N0 M (qN g) (qRl g) (qUl g) (qPl g) (qHs g) (qAn g) (σ.1 20) (σ.1 14) (σ.1 11) (σ.1 12) (σ.1 15) (z 0) (z 1) (z 2) (z 3) (z 4) (z 5) (σ.1 31) 1 hN) cs_X25_138_0 hN (show CLS[0]? = some (RX1, TX1, 17) from rfl) rfl rfl ⟨Nat.le_of_ble_eq_true rfl, Nat.le_of_ble_eq_true rfl⟩ ⟨(by first | exact Nat.le_of_ble_eq_true rfl | omega | (dsimp only; omega) | (simp only [List.length_cons, List.length_nil]; omega)), (by first | exact Nat.le_of_ble_eq_true rfl | omega | (dsimp only; omega) | (simp only [List.length_cons, List.length_nil]; omega))⟩ (Nat.le_of_ble_eq_true rfl) dX25_act_63 (fun _ _ _ h => px0 h) ?_
      rintro _ M_3 ⟨q_1, rfl, hq_2, hN_4, hF_5, fr_6, sh_7⟩
      refine V_st (st' := [.ref q_1]) rfl ?_
      refine V_athrow C hF_5 (show CLS[8]? = some (RX26, TX26, 7) from rfl) dX25_act_66 ?_
      exact VX_out C (fun z hz => by cases hz) (FLX.xb (FLX.of hR hq_2 hN_4 hF_5 fr_6 sh_7) (act_1 hAH hn) (by decide)) (by first | exact Nat.le_of_ble_eq_true rfl | omega | (dsimp only; omega) | (simp only [List.length_cons, List.length_nil]; omega)) (by first | exact Nat.le_of_ble_eq_true rfl | omega | (dsimp only; omega) | (simp only [List.length_cons, List.length_nil]; omega))
    · refine V_aload_n C dX25_act_37 rfl 2 rfl ?_
      refine V_callO C (c_X4_hasOther_10 l hl G X N0 M (qH g 0) (qN g) hH9) cs_X25_129_10 hH9 (show CLS[10]? = some (RX4, TX4, 3) from rfl) rfl rfl ⟨Nat.le_of_ble_eq_true rfl, Nat.le_of_ble_eq_true rfl⟩ ⟨(by first | exact Nat.le_of_ble_eq_true rfl | omega | (dsimp only; omega) | (simp only [List.length_cons, List.length_nil]; omega)), (by first | exact Nat.le_of_ble_eq_true rfl | omega | (dsimp only; omega) | (simp only [List.length_cons, List.length_nil]; omega))⟩ (Nat.le_of_ble_eq_true rfl) dX25_act_38 (fun _ _ _ h => px0 h) ?_
      rintro _ _ ⟨rfl, rfl⟩
      refine V_st (st' := [.int 1]) rfl ?_
      refine V_if_eq (tgt := 67) C dX25_act_41 (by decide) (fun c_41 => ?_) (fun c_41 => ?_)
      · exact absurd c_41 (by decide)
      · refine V_aload_n C dX25_act_44 rfl 0 rfl ?_
        refine V_get C f_X25_3_4 hCc (v := .ref (qN g)) rfl dX25_act_45 ?_
        refine V_aload_n C dX25_act_48 rfl 1 rfl ?_
        refine V_pc (pc1 := 49) rfl ?_
        refine V_getN C f_X25_135_3 hac (v := .int b) rfl dX25_act_49 ?_
        refine V_callVN C (c_X1_isRow l hl G X N0 M g σ z (σ.1 31) (c9 + 1) hR hI b) cs_X25_126_0 hN (show CLS[0]? = some (RX1, TX1, 17) from rfl) rfl rfl ⟨Nat.le_of_ble_eq_true rfl, Nat.le_of_ble_eq_true rfl⟩ ⟨(by first | exact Nat.le_of_ble_eq_true rfl | omega | (dsimp only; omega) | (simp only [List.length_cons, List.length_nil]; omega)), (by first | exact Nat.le_of_ble_eq_true rfl | omega | (dsimp only; omega) | (simp only [List.length_cons, List.length_nil]; omega))⟩ (Nat.le_of_ble_eq_true rfl) dX25_act_52 (fun _ _ _ h => px0 h) ?_
        rintro _ _ ⟨rfl, rfl⟩
        refine V_st (st' := [.int (bI (¬ b < 0 ∧ b < σ.1 1))]) rfl ?_
        refine V_if_ne (tgt := 67) C dX25_act_55 (by decide) (fun c_55 => ?_) (fun c_55 => ?_)
        · exact absurd (show mf_hasRows σ (nI 0) a b from ⟨Or.inr (bI_n.mp c_34), Or.inr (bI_n.mp c_55)⟩) hn
        · refine V_aload_n C dX25_act_58 rfl 0 rfl ?_
          refine V_get C f_X25_3_4 hCc (v := .ref (qN g)) rfl dX25_act_59 ?_
          refine V_iconst (v := 1) C dX25_act_62 rfl ?_
          refine V_callVN C (c_X1_fail l hl G X N0 M (qN g) (qRl g) (qUl g) (qPl g) (qHs g) (qAn g) (σ.1 20) (σ.1 14) (σ.1 11) (σ.1 12) (σ.1 15) (z 0) (z 1) (z 2) (z 3) (z 4) (z 5) (σ.1 31) 1 hN) cs_X25_138_0 hN (show CLS[0]? = some (RX1, TX1, 17) from rfl) rfl rfl ⟨Nat.le_of_ble_eq_true rfl, Nat.le_of_ble_eq_true rfl⟩ ⟨(by first | exact Nat.le_of_ble_eq_true rfl | omega | (dsimp only; omega) | (simp only [List.length_cons, List.length_nil]; omega)), (by first | exact Nat.le_of_ble_eq_true rfl | omega | (dsimp only; omega) | (simp only [List.length_cons, List.length_nil]; omega))⟩ (Nat.le_of_ble_eq_true rfl) dX25_act_63 (fun _ _ _ h => px0 h) ?_
          rintro _ M_10 ⟨q_8, rfl, hq_9, hN_11, hF_12, fr_13, sh_14⟩
          refine V_st (st' := [.ref q_8]) rfl ?_
          refine V_athrow C hF_12 (show CLS[8]? = some (RX26, TX26, 7) from rfl) dX25_act_66 ?_
          exact VX_out C (fun z hz => by cases hz) (FLX.xb (FLX.of hR hq_9 hN_11 hF_12 fr_13 sh_14) (act_1 hAH hn) (by decide)) (by first | exact Nat.le_of_ble_eq_true rfl | omega | (dsimp only; omega) | (simp only [List.length_cons, List.length_nil]; omega)) (by first | exact Nat.le_of_ble_eq_true rfl | omega | (dsimp only; omega) | (simp only [List.length_cons, List.length_nil]; omega))
set_option maxHeartbeats 1000000 in
theorem c_X25_act_0_8 (l : Launch) (hl : l.stackTraces = false) (G : hp_G) (X : Nat → Nat) (N0 : Nat) (M : hp_h) (go : Nat → MS → Int32 × MS) (g : RG) (σ : MS) (z : Nat → Int32) (c9 : Nat) (hR : REL G (X 0) g σ z (σ.1 31) (c9 + 1) M) (hI : MI σ) (P9 K9 : Nat) (a i b j n : Int32) (hP9 : P9 < 6) (hK9 : K9 < psz σ P9) (hAF : AF σ P9 K9 = [.int (nI 0), .int a, .int i, .int b, .int j, .int n]) (hAH : AH9 σ c9 (nI 0) a i b j n) (hrw : mf_hasRows σ (nI 0) a b) (hlt : σ.2.1 24 c9 < mf_priceOf σ (nI 0) a b n) : HM l yX25_act (ws_ yX25_act cX25_act 4 (some .long)) 29 11440 1 7 G X N0 [.ref (qC g c9), .ref (qA g P9 K9)] M PFF (XB G (X 0) g σ z (c9 + 1) M (mf_actR go c9 σ)) := by
  refine HM.of hl [(0, .ref (qC g c9)), (1, .ref (qA g P9 K9))] (by decide +kernel) rfl (Nat.le_of_ble_eq_true rfl) ?_
  intro p e s m args below meth c C hname
  have hN := hR.N
  obtain ⟨fH, hHs, hHf⟩ := hR.Hs
  have hCc : M (qC g c9) = some (.inr (4, [.int (σ.2.1 21 c9), .int (σ.2.1 25 c9), .ref (qKl g c9), .ref (qW g c9), .int (σ.2.1 24 c9), .int (σ.2.1 23 c9 - σ.2.1 24 c9), .int (σ.2.1 22 c9), .ref (qN g)])) := hR.Cc (Nat.lt_succ_self c9)
  have hac : M (qA g P9 K9) = some (.inr (3, [.int (nI 0), .int a, .int i, .int b, .int j, .int n])) := (hR.A hP9 hK9).trans (congrArg (fun y => some (Sum.inr (3, y))) hAF)
  have hH9 : M (qH g 0) = some (.inr (10, [.int 2, .ref (qN g), .ref (qN g)])) := hR.H (by decide)
  refine V_aload_n C dX25_act_0 rfl 0 rfl ?_
  refine V_get C f_X25_3_4 hCc (v := .ref (qN g)) rfl dX25_act_1 ?_
  refine V_getN C f_X25_111_0 hN (v := .ref (qHs g)) rfl dX25_act_4 ?_
  refine V_aload_n C dX25_act_7 rfl 1 rfl ?_
  refine V_getN C f_X25_115_3 hac (v := .int (nI 0)) rfl dX25_act_8 ?_
  refine V_aald C (j := 14) rfl rfl hHs (vp_in_nI (by omega) (by omega)) dX25_act_11 ?_
  refine V_st (st' := [.ref (qH g 0)]) (by rw [nI_clamp (by omega), (hHf 0 (by decide))]; rfl) ?_
  refine V_astore_n C dX25_act_12 rfl (Nat.le_of_ble_eq_true rfl) [(0, .ref (qC g c9)), (1, .ref (qA g P9 K9)), (2, .ref (qH g 0))] [1, 2, 0] rfl ?_
  refine V_aload_n C dX25_act_13 rfl 1 rfl ?_
  refine V_getN C f_X25_115_3 hac (v := .int (nI 0)) rfl dX25_act_14 ?_
  refine V_callSN C (c_X1_needsRow l hl G X N0 M (nI 0)) cs_X25_120 rfl rfl ⟨Nat.le_of_ble_eq_true rfl, Nat.le_of_ble_eq_true rfl⟩ ⟨(by first | exact Nat.le_of_ble_eq_true rfl | omega | (dsimp only; omega) | (simp only [List.length_cons, List.length_nil]; omega)), (by first | exact Nat.le_of_ble_eq_true rfl | omega | (dsimp only; omega) | (simp only [List.length_cons, List.length_nil]; omega))⟩ (Nat.le_of_ble_eq_true rfl) dX25_act_17 (fun _ _ _ h => px0 h) ?_
  rintro _ _ ⟨rfl, rfl⟩
  refine V_st (st' := [.int (bI ((nI 0) ≠ 10 ∧ (nI 0) ≠ 11))]) rfl ?_
  refine V_if_eq (tgt := 67) C dX25_act_20 (by decide) (fun c_20 => ?_) (fun c_20 => ?_)
  · exact absurd (bI_0.mp c_20) (not_not_intro ⟨by decide, by decide⟩)
  · refine V_pc (pc1 := 23) rfl ?_
    refine V_aload_n C dX25_act_23 rfl 0 rfl ?_
    refine V_get C f_X25_3_4 hCc (v := .ref (qN g)) rfl dX25_act_24 ?_
    refine V_aload_n C dX25_act_27 rfl 1 rfl ?_
    refine V_getN C f_X25_123_3 hac (v := .int a) rfl dX25_act_28 ?_
    refine V_callVN C (c_X1_isRow l hl G X N0 M g σ z (σ.1 31) (c9 + 1) hR hI a) cs_X25_126_0 hN (show CLS[0]? = some (RX1, TX1, 17) from rfl) rfl rfl ⟨Nat.le_of_ble_eq_true rfl, Nat.le_of_ble_eq_true rfl⟩ ⟨(by first | exact Nat.le_of_ble_eq_true rfl | omega | (dsimp only; omega) | (simp only [List.length_cons, List.length_nil]; omega)), (by first | exact Nat.le_of_ble_eq_true rfl | omega | (dsimp only; omega) | (simp only [List.length_cons, List.length_nil]; omega))⟩ (Nat.le_of_ble_eq_true rfl) dX25_act_31 (fun _ _ _ h => px0 h) ?_
    rintro _ _ ⟨rfl, rfl⟩
    refine V_st (st' := [.int (bI (¬ a < 0 ∧ a < σ.1 1))]) rfl ?_
    refine V_if_eq (tgt := 58) C dX25_act_34 (by decide) (fun c_34 => ?_) (fun c_34 => ?_)
    · exact absurd (hrw.1.resolve_left (by decide)) (bI_0.mp c_34)
    · refine V_aload_n C dX25_act_37 rfl 2 rfl ?_
      refine V_callO C (c_X4_hasOther_10 l hl G X N0 M (qH g 0) (qN g) hH9) cs_X25_129_10 hH9 (show CLS[10]? = some (RX4, TX4, 3) from rfl) rfl rfl ⟨Nat.le_of_ble_eq_true rfl, Nat.le_of_ble_eq_true rfl⟩ ⟨(by first | exact Nat.le_of_ble_eq_true rfl | omega | (dsimp only; omega) | (simp only [List.length_cons, List.length_nil]; omega)), (by first | exact Nat.le_of_ble_eq_true rfl | omega | (dsimp only; omega) | (simp only [List.length_cons, List.length_nil]; omega))⟩ (Nat.le_of_ble_eq_true rfl) dX25_act_38 (fun _ _ _ h => px0 h) ?_
      rintro _ _ ⟨rfl, rfl⟩
      refine V_st (st' := [.int 1]) rfl ?_
      refine V_if_eq (tgt := 67) C dX25_act_41 (by decide) (fun c_41 => ?_) (fun c_41 => ?_)
      · exact absurd c_41 (by decide)
      · refine V_aload_n C dX25_act_44 rfl 0 rfl ?_
        refine V_get C f_X25_3_4 hCc (v := .ref (qN g)) rfl dX25_act_45 ?_
        refine V_aload_n C dX25_act_48 rfl 1 rfl ?_
        refine V_pc (pc1 := 49) rfl ?_
        refine V_getN C f_X25_135_3 hac (v := .int b) rfl dX25_act_49 ?_
        refine V_callVN C (c_X1_isRow l hl G X N0 M g σ z (σ.1 31) (c9 + 1) hR hI b) cs_X25_126_0 hN (show CLS[0]? = some (RX1, TX1, 17) from rfl) rfl rfl ⟨Nat.le_of_ble_eq_true rfl, Nat.le_of_ble_eq_true rfl⟩ ⟨(by first | exact Nat.le_of_ble_eq_true rfl | omega | (dsimp only; omega) | (simp only [List.length_cons, List.length_nil]; omega)), (by first | exact Nat.le_of_ble_eq_true rfl | omega | (dsimp only; omega) | (simp only [List.length_cons, List.length_nil]; omega))⟩ (Nat.le_of_ble_eq_true rfl) dX25_act_52 (fun _ _ _ h => px0 h) ?_
        rintro _ _ ⟨rfl, rfl⟩
        refine V_st (st' := [.int (bI (¬ b < 0 ∧ b < σ.1 1))]) rfl ?_
        refine V_if_ne (tgt := 67) C dX25_act_55 (by decide) (fun c_55 => ?_) (fun c_55 => ?_)
        · refine V_aload_n C dX25_act_67 rfl 0 rfl ?_
          refine V_get C f_X25_3_4 hCc (v := .ref (qN g)) rfl dX25_act_68 ?_
          refine V_aload_n C dX25_act_71 rfl 1 rfl ?_
          refine V_callVN C (c_X1_priceOf l hl G X N0 M g σ z (σ.1 31) (c9 + 1) hR hI (qA g P9 K9) 0 (by decide) (nI 0) a i b j n rfl hac hrw) cs_X25_142_0 hN (show CLS[0]? = some (RX1, TX1, 17) from rfl) rfl rfl ⟨Nat.le_of_ble_eq_true rfl, Nat.le_of_ble_eq_true rfl⟩ ⟨(by first | exact Nat.le_of_ble_eq_true rfl | omega | (dsimp only; omega) | (simp only [List.length_cons, List.length_nil]; omega)), (by first | exact Nat.le_of_ble_eq_true rfl | omega | (dsimp only; omega) | (simp only [List.length_cons, List.length_nil]; omega))⟩ (Nat.le_of_ble_eq_true rfl) dX25_act_72 (fun _ _ _ h => px0 h) ?_
          rintro _ _ ⟨rfl, rfl⟩
          refine V_st (st' := [.int (mf_priceOf σ (nI 0) a b n)]) rfl ?_
          refine V_istore_n C dX25_act_75 rfl (Nat.le_of_ble_eq_true rfl) [(0, .ref (qC g c9)), (1, .ref (qA g P9 K9)), (2, .ref (qH g 0)), (3, .int (mf_priceOf σ (nI 0) a b n))] [1, 2, 3, 0] rfl ?_
          refine V_aload_n C dX25_act_76 rfl 0 rfl ?_
          refine V_get C f_X25_39_4 hCc (v := .int (σ.2.1 24 c9)) rfl dX25_act_77 ?_
          refine V_iload_n C dX25_act_80 rfl 3 rfl ?_
          refine V_icmp_ge (tgt := 94) C dX25_act_81 (by decide) (fun c_81 => ?_) (fun c_81 => ?_)
          · exact absurd hlt (Int32.not_lt.mpr c_81)
          · refine V_pc (pc1 := 84) rfl ?_
            refine V_aload_n C dX25_act_84 rfl 0 rfl ?_
            refine V_get C f_X25_3_4 hCc (v := .ref (qN g)) rfl dX25_act_85 ?_
            refine V_bipush (v := 8) C dX25_act_88 rfl ?_
            refine V_callVN C (c_X1_fail l hl G X N0 M (qN g) (qRl g) (qUl g) (qPl g) (qHs g) (qAn g) (σ.1 20) (σ.1 14) (σ.1 11) (σ.1 12) (σ.1 15) (z 0) (z 1) (z 2) (z 3) (z 4) (z 5) (σ.1 31) 8 hN) cs_X25_138_0 hN (show CLS[0]? = some (RX1, TX1, 17) from rfl) rfl rfl ⟨Nat.le_of_ble_eq_true rfl, Nat.le_of_ble_eq_true rfl⟩ ⟨(by first | exact Nat.le_of_ble_eq_true rfl | omega | (dsimp only; omega) | (simp only [List.length_cons, List.length_nil]; omega)), (by first | exact Nat.le_of_ble_eq_true rfl | omega | (dsimp only; omega) | (simp only [List.length_cons, List.length_nil]; omega))⟩ (Nat.le_of_ble_eq_true rfl) dX25_act_90 (fun _ _ _ h => px0 h) ?_
            rintro _ M_3 ⟨q_1, rfl, hq_2, hN_4, hF_5, fr_6, sh_7⟩
            refine V_st (st' := [.ref q_1]) rfl ?_
            refine V_athrow C hF_5 (show CLS[8]? = some (RX26, TX26, 7) from rfl) dX25_act_93 ?_
            exact VX_out C (fun z hz => by cases hz) (FLX.xb (FLX.of hR hq_2 hN_4 hF_5 fr_6 sh_7) (act_8 hAH hrw hlt) (by decide)) (by first | exact Nat.le_of_ble_eq_true rfl | omega | (dsimp only; omega) | (simp only [List.length_cons, List.length_nil]; omega)) (by first | exact Nat.le_of_ble_eq_true rfl | omega | (dsimp only; omega) | (simp only [List.length_cons, List.length_nil]; omega))
        · exact absurd (hrw.2.resolve_left (fun y => y (by decide))) (bI_0.mp c_55)
set_option maxHeartbeats 1000000 in
theorem c_X25_act_0_w (l : Launch) (hl : l.stackTraces = false) (G : hp_G) (X : Nat → Nat) (N0 : Nat) (M : hp_h) (go : Nat → MS → Int32 × MS) (g : RG) (σ : MS) (z : Nat → Int32) (c9 : Nat) (hR : REL G (X 0) g σ z (σ.1 31) (c9 + 1) M) (hI : MI σ) (P9 K9 : Nat) (a i b j n : Int32) (hP9 : P9 < 6) (hK9 : K9 < psz σ P9) (hAF : AF σ P9 K9 = [.int (nI 0), .int a, .int i, .int b, .int j, .int n]) (hAH : AH9 σ c9 (nI 0) a i b j n) (hrw : mf_hasRows σ (nI 0) a b) (hge : ¬ σ.2.1 24 c9 < mf_priceOf σ (nI 0) a b n) (hm : MW σ) (hJ8 : nJ σ < 8000) : HM l yX25_act (ws_ yX25_act cX25_act 4 (some .long)) 29 11440 9 320 G X N0 [.ref (qC g c9), .ref (qA g P9 K9)] M (WB G (X 0) g σ z (c9 + 1) M (mf_actR go c9 σ)) (XB G (X 0) g σ z (c9 + 1) M (mf_actR go c9 σ)) := by
  refine HM.of hl [(0, .ref (qC g c9)), (1, .ref (qA g P9 K9))] (by decide +kernel) rfl (Nat.le_of_ble_eq_true rfl) ?_
  intro p e s m args below meth c C hname
  have hN := hR.N
  obtain ⟨fH, hHs, hHf⟩ := hR.Hs
  have hCc : M (qC g c9) = some (.inr (4, [.int (σ.2.1 21 c9), .int (σ.2.1 25 c9), .ref (qKl g c9), .ref (qW g c9), .int (σ.2.1 24 c9), .int (σ.2.1 23 c9 - σ.2.1 24 c9), .int (σ.2.1 22 c9), .ref (qN g)])) := hR.Cc (Nat.lt_succ_self c9)
  have hac : M (qA g P9 K9) = some (.inr (3, [.int (nI 0), .int a, .int i, .int b, .int j, .int n])) := (hR.A hP9 hK9).trans (congrArg (fun y => some (Sum.inr (3, y))) hAF)
  have hH9 : M (qH g 0) = some (.inr (10, [.int 2, .ref (qN g), .ref (qN g)])) := hR.H (by decide)
  refine V_aload_n C dX25_act_0 rfl 0 rfl ?_
  refine V_get C f_X25_3_4 hCc (v := .ref (qN g)) rfl dX25_act_1 ?_
  refine V_getN C f_X25_111_0 hN (v := .ref (qHs g)) rfl dX25_act_4 ?_
  refine V_aload_n C dX25_act_7 rfl 1 rfl ?_
  refine V_getN C f_X25_115_3 hac (v := .int (nI 0)) rfl dX25_act_8 ?_
  refine V_aald C (j := 14) rfl rfl hHs (vp_in_nI (by omega) (by omega)) dX25_act_11 ?_
  refine V_st (st' := [.ref (qH g 0)]) (by rw [nI_clamp (by omega), (hHf 0 (by decide))]; rfl) ?_
  refine V_astore_n C dX25_act_12 rfl (Nat.le_of_ble_eq_true rfl) [(0, .ref (qC g c9)), (1, .ref (qA g P9 K9)), (2, .ref (qH g 0))] [1, 2, 0] rfl ?_
  refine V_aload_n C dX25_act_13 rfl 1 rfl ?_
  refine V_getN C f_X25_115_3 hac (v := .int (nI 0)) rfl dX25_act_14 ?_
  refine V_callSN C (c_X1_needsRow l hl G X N0 M (nI 0)) cs_X25_120 rfl rfl ⟨Nat.le_of_ble_eq_true rfl, Nat.le_of_ble_eq_true rfl⟩ ⟨(by first | exact Nat.le_of_ble_eq_true rfl | omega | (dsimp only; omega) | (simp only [List.length_cons, List.length_nil]; omega)), (by first | exact Nat.le_of_ble_eq_true rfl | omega | (dsimp only; omega) | (simp only [List.length_cons, List.length_nil]; omega))⟩ (Nat.le_of_ble_eq_true rfl) dX25_act_17 (fun _ _ _ h => px0 h) ?_
  rintro _ _ ⟨rfl, rfl⟩
  refine V_st (st' := [.int (bI ((nI 0) ≠ 10 ∧ (nI 0) ≠ 11))]) rfl ?_
  refine V_if_eq (tgt := 67) C dX25_act_20 (by decide) (fun c_20 => ?_) (fun c_20 => ?_)
  · exact absurd (bI_0.mp c_20) (not_not_intro ⟨by decide, by decide⟩)
  · refine V_pc (pc1 := 23) rfl ?_
    refine V_aload_n C dX25_act_23 rfl 0 rfl ?_
    refine V_get C f_X25_3_4 hCc (v := .ref (qN g)) rfl dX25_act_24 ?_
    refine V_aload_n C dX25_act_27 rfl 1 rfl ?_
    refine V_getN C f_X25_123_3 hac (v := .int a) rfl dX25_act_28 ?_
    refine V_callVN C (c_X1_isRow l hl G X N0 M g σ z (σ.1 31) (c9 + 1) hR hI a) cs_X25_126_0 hN (show CLS[0]? = some (RX1, TX1, 17) from rfl) rfl rfl ⟨Nat.le_of_ble_eq_true rfl, Nat.le_of_ble_eq_true rfl⟩ ⟨(by first | exact Nat.le_of_ble_eq_true rfl | omega | (dsimp only; omega) | (simp only [List.length_cons, List.length_nil]; omega)), (by first | exact Nat.le_of_ble_eq_true rfl | omega | (dsimp only; omega) | (simp only [List.length_cons, List.length_nil]; omega))⟩ (Nat.le_of_ble_eq_true rfl) dX25_act_31 (fun _ _ _ h => px0 h) ?_
    rintro _ _ ⟨rfl, rfl⟩
    refine V_st (st' := [.int (bI (¬ a < 0 ∧ a < σ.1 1))]) rfl ?_
    refine V_if_eq (tgt := 58) C dX25_act_34 (by decide) (fun c_34 => ?_) (fun c_34 => ?_)
    · exact absurd (hrw.1.resolve_left (by decide)) (bI_0.mp c_34)
    · refine V_aload_n C dX25_act_37 rfl 2 rfl ?_
      refine V_callO C (c_X4_hasOther_10 l hl G X N0 M (qH g 0) (qN g) hH9) cs_X25_129_10 hH9 (show CLS[10]? = some (RX4, TX4, 3) from rfl) rfl rfl ⟨Nat.le_of_ble_eq_true rfl, Nat.le_of_ble_eq_true rfl⟩ ⟨(by first | exact Nat.le_of_ble_eq_true rfl | omega | (dsimp only; omega) | (simp only [List.length_cons, List.length_nil]; omega)), (by first | exact Nat.le_of_ble_eq_true rfl | omega | (dsimp only; omega) | (simp only [List.length_cons, List.length_nil]; omega))⟩ (Nat.le_of_ble_eq_true rfl) dX25_act_38 (fun _ _ _ h => px0 h) ?_
      rintro _ _ ⟨rfl, rfl⟩
      refine V_st (st' := [.int 1]) rfl ?_
      refine V_if_eq (tgt := 67) C dX25_act_41 (by decide) (fun c_41 => ?_) (fun c_41 => ?_)
      · exact absurd c_41 (by decide)
      · refine V_aload_n C dX25_act_44 rfl 0 rfl ?_
        refine V_get C f_X25_3_4 hCc (v := .ref (qN g)) rfl dX25_act_45 ?_
        refine V_aload_n C dX25_act_48 rfl 1 rfl ?_
        refine V_pc (pc1 := 49) rfl ?_
        refine V_getN C f_X25_135_3 hac (v := .int b) rfl dX25_act_49 ?_
        refine V_callVN C (c_X1_isRow l hl G X N0 M g σ z (σ.1 31) (c9 + 1) hR hI b) cs_X25_126_0 hN (show CLS[0]? = some (RX1, TX1, 17) from rfl) rfl rfl ⟨Nat.le_of_ble_eq_true rfl, Nat.le_of_ble_eq_true rfl⟩ ⟨(by first | exact Nat.le_of_ble_eq_true rfl | omega | (dsimp only; omega) | (simp only [List.length_cons, List.length_nil]; omega)), (by first | exact Nat.le_of_ble_eq_true rfl | omega | (dsimp only; omega) | (simp only [List.length_cons, List.length_nil]; omega))⟩ (Nat.le_of_ble_eq_true rfl) dX25_act_52 (fun _ _ _ h => px0 h) ?_
        rintro _ _ ⟨rfl, rfl⟩
        refine V_st (st' := [.int (bI (¬ b < 0 ∧ b < σ.1 1))]) rfl ?_
        refine V_if_ne (tgt := 67) C dX25_act_55 (by decide) (fun c_55 => ?_) (fun c_55 => ?_)
        · refine V_aload_n C dX25_act_67 rfl 0 rfl ?_
          refine V_get C f_X25_3_4 hCc (v := .ref (qN g)) rfl dX25_act_68 ?_
          refine V_aload_n C dX25_act_71 rfl 1 rfl ?_
          refine V_callVN C (c_X1_priceOf l hl G X N0 M g σ z (σ.1 31) (c9 + 1) hR hI (qA g P9 K9) 0 (by decide) (nI 0) a i b j n rfl hac hrw) cs_X25_142_0 hN (show CLS[0]? = some (RX1, TX1, 17) from rfl) rfl rfl ⟨Nat.le_of_ble_eq_true rfl, Nat.le_of_ble_eq_true rfl⟩ ⟨(by first | exact Nat.le_of_ble_eq_true rfl | omega | (dsimp only; omega) | (simp only [List.length_cons, List.length_nil]; omega)), (by first | exact Nat.le_of_ble_eq_true rfl | omega | (dsimp only; omega) | (simp only [List.length_cons, List.length_nil]; omega))⟩ (Nat.le_of_ble_eq_true rfl) dX25_act_72 (fun _ _ _ h => px0 h) ?_
          rintro _ _ ⟨rfl, rfl⟩
          refine V_st (st' := [.int (mf_priceOf σ (nI 0) a b n)]) rfl ?_
          refine V_istore_n C dX25_act_75 rfl (Nat.le_of_ble_eq_true rfl) [(0, .ref (qC g c9)), (1, .ref (qA g P9 K9)), (2, .ref (qH g 0)), (3, .int (mf_priceOf σ (nI 0) a b n))] [1, 2, 3, 0] rfl ?_
          refine V_aload_n C dX25_act_76 rfl 0 rfl ?_
          refine V_get C f_X25_39_4 hCc (v := .int (σ.2.1 24 c9)) rfl dX25_act_77 ?_
          refine V_iload_n C dX25_act_80 rfl 3 rfl ?_
          refine V_icmp_ge (tgt := 94) C dX25_act_81 (by decide) (fun c_81 => ?_) (fun c_81 => ?_)
          · obtain ⟨pr, hpr⟩ : ∃ y, y = mf_priceOf σ (nI 0) a b n := ⟨_, rfl⟩
            refine V_loc (L' := [(0, .ref (qC g c9)), (1, .ref (qA g P9 K9)), (2, .ref (qH g 0)), (3, .int pr)]) [0, 1, 2, 3] (by rw [hpr]; rfl) ?_
            have hfrP : hp_fr (fun b => b = qC g c9 ∨ b = qN g) M M := hp_fr.rf
            have hshP : hp_sh M M := hp_sh.rf
            have hneP : qC g c9 ≠ qN g := hR.ne (t := 15) (i := c9) (j := 0) (t' := 0) (i' := 0) (j' := 0) ⟨Nat.lt_succ_self c9, rfl⟩ ⟨by decide, rfl, rfl⟩ (by simp)
            refine V_pc (pc1 := 94) rfl ?_
            refine V_aload_n C dX25_act_94 rfl 0 rfl ?_
            refine V_dup C dX25_act_95 rfl ?_
            refine V_get C f_X25_39_4 hCc (v := .int (σ.2.1 24 c9)) rfl dX25_act_96 ?_
            refine V_iload_n C dX25_act_99 rfl 3 rfl ?_
            refine V_isub C dX25_act_100 ?_
            refine V_put C f_X25_39_4 hCc rfl rfl (Nat.le_of_ble_eq_true rfl) dX25_act_101 ?_
            obtain ⟨M_1, eM_2⟩ : ∃ z, z = hp_up M (qC g c9) (.inr (4, [.int (σ.2.1 21 c9), .int (σ.2.1 25 c9), .ref (qKl g c9), .ref (qW g c9), .int ((σ.2.1 24 c9) - pr), .int (σ.2.1 23 c9 - σ.2.1 24 c9), .int (σ.2.1 22 c9), .ref (qN g)])) := ⟨_, rfl⟩
            refine V_heap (M' := M_1) eM_2.symm ?_
            have ho_3 : M_1 (qN g) = some (.inr (0, [.ref (qRl g), .ref (qUl g), .ref (qPl g), .ref (qHs g), .int (σ.1 20), .int (σ.1 14), .int (σ.1 11), .int (σ.1 12), .int (σ.1 15), .int (z 0), .int (z 1), .int (z 2), .int (z 3), .int (z 4), .int (z 5), .int (σ.1 31), .ref (qAn g)])) := by rw [eM_2, hp_up_n (Ne.symm hneP)]; exact hN
            have ho_4 : M_1 (qA g P9 K9) = some (.inr (3, [.int (nI 0), .int a, .int i, .int b, .int j, .int n])) := by rw [eM_2, hp_up_n (hp_ne hac hCc (by simp))]; exact hac
            have ho_5 : M_1 (qH g 0) = some (.inr (10, [.int 2, .ref (qN g), .ref (qN g)])) := by rw [eM_2, hp_up_n (hp_ne hH9 hCc (by simp))]; exact hH9
            have ha_6 : M_1 (qHs g) = some (.inl (G.2 14, 13, .inr (.inr (.inr (.inr fH))))) := by rw [eM_2, hp_up_n (hp_ne hHs hCc (by simp))]; exact hHs
            have eM_2_s : M_1 (qC g c9) = some (.inr (4, [.int (σ.2.1 21 c9), .int (σ.2.1 25 c9), .ref (qKl g c9), .ref (qW g c9), .int ((σ.2.1 24 c9) - pr), .int (σ.2.1 23 c9 - σ.2.1 24 c9), .int (σ.2.1 22 c9), .ref (qN g)])) := by rw [eM_2]; exact hp_up_s
            have fr_7 := hp_fr.set hfrP (Or.inl (Or.inl rfl)) eM_2
            have sh_8 := hp_sh.set hshP hCc eM_2 rfl
            refine V_aload_n C dX25_act_104 rfl 0 rfl ?_
            refine V_dup C dX25_act_105 rfl ?_
            refine V_get C f_X25_146_4 eM_2_s (v := .int (σ.2.1 23 c9 - σ.2.1 24 c9)) rfl dX25_act_106 ?_
            refine V_iload_n C dX25_act_109 rfl 3 rfl ?_
            refine V_iadd C dX25_act_110 ?_
            refine V_put C f_X25_146_4 eM_2_s rfl rfl (Nat.le_of_ble_eq_true rfl) dX25_act_111 ?_
            obtain ⟨M_9, eM_10⟩ : ∃ z, z = hp_up M_1 (qC g c9) (.inr (4, [.int (σ.2.1 21 c9), .int (σ.2.1 25 c9), .ref (qKl g c9), .ref (qW g c9), .int ((σ.2.1 24 c9) - pr), .int ((σ.2.1 23 c9 - σ.2.1 24 c9) + pr), .int (σ.2.1 22 c9), .ref (qN g)])) := ⟨_, rfl⟩
            refine V_heap (M' := M_9) eM_10.symm ?_
            have ho_11 : M_9 (qN g) = some (.inr (0, [.ref (qRl g), .ref (qUl g), .ref (qPl g), .ref (qHs g), .int (σ.1 20), .int (σ.1 14), .int (σ.1 11), .int (σ.1 12), .int (σ.1 15), .int (z 0), .int (z 1), .int (z 2), .int (z 3), .int (z 4), .int (z 5), .int (σ.1 31), .ref (qAn g)])) := by rw [eM_10, hp_up_n (Ne.symm hneP)]; exact ho_3
            have ho_12 : M_9 (qA g P9 K9) = some (.inr (3, [.int (nI 0), .int a, .int i, .int b, .int j, .int n])) := by rw [eM_10, hp_up_n (hp_ne ho_4 eM_2_s (by simp))]; exact ho_4
            have ho_13 : M_9 (qH g 0) = some (.inr (10, [.int 2, .ref (qN g), .ref (qN g)])) := by rw [eM_10, hp_up_n (hp_ne ho_5 eM_2_s (by simp))]; exact ho_5
            have ha_14 : M_9 (qHs g) = some (.inl (G.2 14, 13, .inr (.inr (.inr (.inr fH))))) := by rw [eM_10, hp_up_n (hp_ne ha_6 eM_2_s (by simp))]; exact ha_6
            have eM_10_s : M_9 (qC g c9) = some (.inr (4, [.int (σ.2.1 21 c9), .int (σ.2.1 25 c9), .ref (qKl g c9), .ref (qW g c9), .int ((σ.2.1 24 c9) - pr), .int ((σ.2.1 23 c9 - σ.2.1 24 c9) + pr), .int (σ.2.1 22 c9), .ref (qN g)])) := by rw [eM_10]; exact hp_up_s
            have fr_15 := hp_fr.set fr_7 (Or.inl (Or.inl rfl)) eM_10
            have sh_16 := hp_sh.set sh_8 eM_2_s eM_10 rfl
            refine V_pc (pc1 := 114) rfl ?_
            refine V_aload_n C dX25_act_114 rfl 0 rfl ?_
            refine V_get C f_X25_3_4 eM_10_s (v := .ref (qN g)) rfl dX25_act_115 ?_
            refine V_dup C dX25_act_118 rfl ?_
            refine V_getN C f_X25_149_0 ho_11 (v := .int (σ.1 11)) rfl dX25_act_119 ?_
            refine V_iconst (v := 1) C dX25_act_122 rfl ?_
            refine V_iadd C dX25_act_123 ?_
            refine V_putN C f_X25_149_0 ho_11 rfl rfl (Nat.le_of_ble_eq_true rfl) dX25_act_124 ?_
            obtain ⟨M_17, eM_18⟩ : ∃ z9, z9 = hp_up M_9 (qN g) (.inr (0, [.ref (qRl g), .ref (qUl g), .ref (qPl g), .ref (qHs g), .int (σ.1 20), .int (σ.1 14), .int ((σ.1 11) + 1), .int (σ.1 12), .int (σ.1 15), .int (z 0), .int (z 1), .int (z 2), .int (z 3), .int (z 4), .int (z 5), .int (σ.1 31), .ref (qAn g)])) := ⟨_, rfl⟩
            refine V_heap (M' := M_17) eM_18.symm ?_
            have ho_19 : M_17 (qC g c9) = some (.inr (4, [.int (σ.2.1 21 c9), .int (σ.2.1 25 c9), .ref (qKl g c9), .ref (qW g c9), .int ((σ.2.1 24 c9) - pr), .int ((σ.2.1 23 c9 - σ.2.1 24 c9) + pr), .int (σ.2.1 22 c9), .ref (qN g)])) := by rw [eM_18, hp_up_n hneP]; exact eM_10_s
            have ho_20 : M_17 (qA g P9 K9) = some (.inr (3, [.int (nI 0), .int a, .int i, .int b, .int j, .int n])) := by rw [eM_18, hp_up_n (hp_ne ho_12 ho_11 (by simp))]; exact ho_12
            have ho_21 : M_17 (qH g 0) = some (.inr (10, [.int 2, .ref (qN g), .ref (qN g)])) := by rw [eM_18, hp_up_n (hp_ne ho_13 ho_11 (by simp))]; exact ho_13
            have ha_22 : M_17 (qHs g) = some (.inl (G.2 14, 13, .inr (.inr (.inr (.inr fH))))) := by rw [eM_18, hp_up_n (hp_ne ha_14 ho_11 (by simp))]; exact ha_14
            have eM_18_s : M_17 (qN g) = some (.inr (0, [.ref (qRl g), .ref (qUl g), .ref (qPl g), .ref (qHs g), .int (σ.1 20), .int (σ.1 14), .int ((σ.1 11) + 1), .int (σ.1 12), .int (σ.1 15), .int (z 0), .int (z 1), .int (z 2), .int (z 3), .int (z 4), .int (z 5), .int (σ.1 31), .ref (qAn g)])) := by rw [eM_18]; exact hp_up_s
            have fr_23 := hp_fr.set fr_15 (Or.inl (Or.inr rfl)) eM_18
            have sh_24 := hp_sh.set sh_16 ho_11 eM_18 rfl
            have hpay := hR.pay (pr := pr) (Nat.lt_succ_self c9) ho_19 eM_18_s fr_23 sh_24
            have hact : mf_actR go c9 σ = mf_workR go c9 (mf_pay c9 pr σ) 0 a i b j n := by rw [hpr]; exact act_w hAH hrw hge
            refine V_aload_n C dX25_act_127 rfl 2 rfl ?_
            refine V_aload_n C dX25_act_128 rfl 1 rfl ?_
            refine V_aload_n C dX25_act_129 rfl 0 rfl ?_
            have hRs : REL G (X 0) g (sa (mf_pay c9 pr σ) 0) z ((sa (mf_pay c9 pr σ) 0).1 31) (c9 + 1) M_17 := hpay.1.view VW.sa
            have hIs : MI (sa (mf_pay c9 pr σ) 0) := (MQ9.same (σ := σ) ⟨hI, hm⟩ rfl rfl rfl (fun k hk => by rcases hk with rfl | rfl | rfl | rfl | rfl | rfl <;> rfl) rfl).1
            have hms : MW (sa (mf_pay c9 pr σ) 0) := (MQ9.same (σ := σ) ⟨hI, hm⟩ rfl rfl rfl (fun k hk => by rcases hk with rfl | rfl | rfl | rfl | rfl | rfl <;> rfl) rfl).2
            obtain ⟨rr, hr, hra⟩ := hI.row (hrw.1.resolve_left (by decide))
            obtain ⟨rs, hs, hsb⟩ := hI.row (hrw.2.resolve_left (fun y => y (by decide)))
            have hdn : mf_actR go c9 σ = mf_dr (mf_copy (sa (mf_pay c9 pr σ) 0) rr i rs j n) := by
              rw [hact, hra, hsb]
              show mf_dr (mf_done (mf_pay c9 pr σ) 0 (nI rr) i (nI rs) j n) = _
              have hR60 := hI.R.2
              have e1 : (nI rr).toNatClampNeg = rr := nI_clamp (by omega)
              have e2 : (nI rs).toNatClampNeg = rs := nI_clamp (by omega)
              unfold mf_done
              rw [if_pos rfl, e1, e2]
            refine V_callAX C (c_work_0 l hl G X N0 M_17 g (sa (mf_pay c9 pr σ) 0) z (c9 + 1) c9 rfl hRs hIs P9 K9 rr rs (nI 0) i j n hP9 hK9 hr hs (show AF (sa (mf_pay c9 pr σ) 0) P9 K9 = [.int (nI 0), .int (nI rr), .int i, .int (nI rs), .int j, .int n] from by rw [← hra, ← hsb]; exact hAF) hms rfl hJ8) cs_X25_151_10 ho_21 (show CLS[10]? = some (RX4, TX4, 3) from rfl) rfl rfl ⟨Nat.le_of_ble_eq_true rfl, Nat.le_of_ble_eq_true rfl⟩ ⟨(by first | exact Nat.le_of_ble_eq_true rfl | omega | (dsimp only; omega) | (simp only [List.length_cons, List.length_nil]; omega)), (by first | exact Nat.le_of_ble_eq_true rfl | omega | (dsimp only; omega) | (simp only [List.length_cons, List.length_nil]; omega))⟩ (Nat.le_of_ble_eq_true rfl) dX25_act_130 (fun q9 E9 M9 h9 => by have h8 : XB G (X 0) g σ z (c9 + 1) M (mf_actR go c9 σ) q9 E9 M9 := by { rw [hdn]; exact XB.pre (σ := σ) (τ := (sa (mf_pay c9 pr σ) 0)) (hpay.2.view VW.sa) rfl rfl rfl rfl (WX.dr h9) }; obtain rfl := h8.2.1; exact VX_out C (fun z hz => by cases hz) h8 (by first | exact Nat.le_of_ble_eq_true rfl | omega | (dsimp only; omega) | (simp only [List.length_cons, List.length_nil]; omega)) (by first | exact Nat.le_of_ble_eq_true rfl | omega | (dsimp only; omega) | (simp only [List.length_cons, List.length_nil]; omega))) ?_
            rintro v9 M_25 hv9
            have hwb : WB G (X 0) g σ z (c9 + 1) M (mf_actR go c9 σ) v9 M_25 := by rw [hdn]; exact WB.pre (σ := σ) (τ := (sa (mf_pay c9 pr σ) 0)) (hpay.2.view VW.sa) rfl rfl rfl rfl (WP.dr hv9)
            obtain rfl := hv9.2.1
            refine V_st (st' := [.long ((mf_copy (sa (mf_pay c9 pr σ) 0) rr i rs j n).2.2.2.2)]) rfl ?_
            refine V_lret C dX25_act_133 rfl ?_ (by first | exact Nat.le_of_ble_eq_true rfl | omega | (dsimp only; omega) | (simp only [List.length_cons, List.length_nil]; omega)) (by first | exact Nat.le_of_ble_eq_true rfl | omega | (dsimp only; omega) | (simp only [List.length_cons, List.length_nil]; omega))
            exact hwb
          · exact absurd (Int32.not_le.mp c_81) hge
        · exact absurd (hrw.2.resolve_left (fun y => y (by decide))) (bI_0.mp c_55)
set_option maxHeartbeats 1000000 in
theorem c_X25_act_1_1 (l : Launch) (hl : l.stackTraces = false) (G : hp_G) (X : Nat → Nat) (N0 : Nat) (M : hp_h) (go : Nat → MS → Int32 × MS) (g : RG) (σ : MS) (z : Nat → Int32) (c9 : Nat) (hR : REL G (X 0) g σ z (σ.1 31) (c9 + 1) M) (hI : MI σ) (P9 K9 : Nat) (a i b j n : Int32) (hP9 : P9 < 6) (hK9 : K9 < psz σ P9) (hAF : AF σ P9 K9 = [.int (nI 1), .int a, .int i, .int b, .int j, .int n]) (hAH : AH9 σ c9 (nI 1) a i b j n) (hn : ¬ mf_hasRows σ (nI 1) a b) : HM l yX25_act (ws_ yX25_act cX25_act 4 (some .long)) 29 11440 1 7 G X N0 [.ref (qC g c9), .ref (qA g P9 K9)] M PFF (XB G (X 0) g σ z (c9 + 1) M (mf_actR go c9 σ)) := by
  refine HM.of hl [(0, .ref (qC g c9)), (1, .ref (qA g P9 K9))] (by decide +kernel) rfl (Nat.le_of_ble_eq_true rfl) ?_
  intro p e s m args below meth c C hname
  have hN := hR.N
  obtain ⟨fH, hHs, hHf⟩ := hR.Hs
  have hCc : M (qC g c9) = some (.inr (4, [.int (σ.2.1 21 c9), .int (σ.2.1 25 c9), .ref (qKl g c9), .ref (qW g c9), .int (σ.2.1 24 c9), .int (σ.2.1 23 c9 - σ.2.1 24 c9), .int (σ.2.1 22 c9), .ref (qN g)])) := hR.Cc (Nat.lt_succ_self c9)
  have hac : M (qA g P9 K9) = some (.inr (3, [.int (nI 1), .int a, .int i, .int b, .int j, .int n])) := (hR.A hP9 hK9).trans (congrArg (fun y => some (Sum.inr (3, y))) hAF)
  have hH9 : M (qH g 1) = some (.inr (11, [.int 3, .ref (qN g), .int 0, .int 10, .ref (qN g), .ref (qN g)])) := hR.H (by decide)
  refine V_aload_n C dX25_act_0 rfl 0 rfl ?_
  refine V_get C f_X25_3_4 hCc (v := .ref (qN g)) rfl dX25_act_1 ?_
  refine V_getN C f_X25_111_0 hN (v := .ref (qHs g)) rfl dX25_act_4 ?_
  refine V_aload_n C dX25_act_7 rfl 1 rfl ?_
  refine V_getN C f_X25_115_3 hac (v := .int (nI 1)) rfl dX25_act_8 ?_
  refine V_aald C (j := 14) rfl rfl hHs (vp_in_nI (by omega) (by omega)) dX25_act_11 ?_
  refine V_st (st' := [.ref (qH g 1)]) (by rw [nI_clamp (by omega), (hHf 1 (by decide))]; rfl) ?_
  refine V_astore_n C dX25_act_12 rfl (Nat.le_of_ble_eq_true rfl) [(0, .ref (qC g c9)), (1, .ref (qA g P9 K9)), (2, .ref (qH g 1))] [1, 2, 0] rfl ?_
  refine V_aload_n C dX25_act_13 rfl 1 rfl ?_
  refine V_getN C f_X25_115_3 hac (v := .int (nI 1)) rfl dX25_act_14 ?_
  refine V_callSN C (c_X1_needsRow l hl G X N0 M (nI 1)) cs_X25_120 rfl rfl ⟨Nat.le_of_ble_eq_true rfl, Nat.le_of_ble_eq_true rfl⟩ ⟨(by first | exact Nat.le_of_ble_eq_true rfl | omega | (dsimp only; omega) | (simp only [List.length_cons, List.length_nil]; omega)), (by first | exact Nat.le_of_ble_eq_true rfl | omega | (dsimp only; omega) | (simp only [List.length_cons, List.length_nil]; omega))⟩ (Nat.le_of_ble_eq_true rfl) dX25_act_17 (fun _ _ _ h => px0 h) ?_
  rintro _ _ ⟨rfl, rfl⟩
  refine V_st (st' := [.int (bI ((nI 1) ≠ 10 ∧ (nI 1) ≠ 11))]) rfl ?_
  refine V_if_eq (tgt := 67) C dX25_act_20 (by decide) (fun c_20 => ?_) (fun c_20 => ?_)
  · exact absurd (bI_0.mp c_20) (not_not_intro ⟨by decide, by decide⟩)
  · refine V_pc (pc1 := 23) rfl ?_
    refine V_aload_n C dX25_act_23 rfl 0 rfl ?_
    refine V_get C f_X25_3_4 hCc (v := .ref (qN g)) rfl dX25_act_24 ?_
    refine V_aload_n C dX25_act_27 rfl 1 rfl ?_
    refine V_getN C f_X25_123_3 hac (v := .int a) rfl dX25_act_28 ?_
    refine V_callVN C (c_X1_isRow l hl G X N0 M g σ z (σ.1 31) (c9 + 1) hR hI a) cs_X25_126_0 hN (show CLS[0]? = some (RX1, TX1, 17) from rfl) rfl rfl ⟨Nat.le_of_ble_eq_true rfl, Nat.le_of_ble_eq_true rfl⟩ ⟨(by first | exact Nat.le_of_ble_eq_true rfl | omega | (dsimp only; omega) | (simp only [List.length_cons, List.length_nil]; omega)), (by first | exact Nat.le_of_ble_eq_true rfl | omega | (dsimp only; omega) | (simp only [List.length_cons, List.length_nil]; omega))⟩ (Nat.le_of_ble_eq_true rfl) dX25_act_31 (fun _ _ _ h => px0 h) ?_
    rintro _ _ ⟨rfl, rfl⟩
    refine V_st (st' := [.int (bI (¬ a < 0 ∧ a < σ.1 1))]) rfl ?_
    refine V_if_eq (tgt := 58) C dX25_act_34 (by decide) (fun c_34 => ?_) (fun c_34 => ?_)
    · refine V_aload_n C dX25_act_58 rfl 0 rfl ?_
      refine V_get C f_X25_3_4 hCc (v := .ref (qN g)) rfl dX25_act_59 ?_
      refine V_iconst (v := 1) C dX25_act_62 rfl ?_
      refine V_callVN C (c_X1_fail l hl G X N0 M (qN g) (qRl g) (qUl g) (qPl g) (qHs g) (qAn g) (σ.1 20) (σ.1 14) (σ.1 11) (σ.1 12) (σ.1 15) (z 0) (z 1) (z 2) (z 3) (z 4) (z 5) (σ.1 31) 1 hN) cs_X25_138_0 hN (show CLS[0]? = some (RX1, TX1, 17) from rfl) rfl rfl ⟨Nat.le_of_ble_eq_true rfl, Nat.le_of_ble_eq_true rfl⟩ ⟨(by first | exact Nat.le_of_ble_eq_true rfl | omega | (dsimp only; omega) | (simp only [List.length_cons, List.length_nil]; omega)), (by first | exact Nat.le_of_ble_eq_true rfl | omega | (dsimp only; omega) | (simp only [List.length_cons, List.length_nil]; omega))⟩ (Nat.le_of_ble_eq_true rfl) dX25_act_63 (fun _ _ _ h => px0 h) ?_
      rintro _ M_3 ⟨q_1, rfl, hq_2, hN_4, hF_5, fr_6, sh_7⟩
      refine V_st (st' := [.ref q_1]) rfl ?_
      refine V_athrow C hF_5 (show CLS[8]? = some (RX26, TX26, 7) from rfl) dX25_act_66 ?_
      exact VX_out C (fun z hz => by cases hz) (FLX.xb (FLX.of hR hq_2 hN_4 hF_5 fr_6 sh_7) (act_1 hAH hn) (by decide)) (by first | exact Nat.le_of_ble_eq_true rfl | omega | (dsimp only; omega) | (simp only [List.length_cons, List.length_nil]; omega)) (by first | exact Nat.le_of_ble_eq_true rfl | omega | (dsimp only; omega) | (simp only [List.length_cons, List.length_nil]; omega))
    · refine V_aload_n C dX25_act_37 rfl 2 rfl ?_
      refine V_callU C (c_X3_hasOther_11 l hl G X N0 M (qH g 1) (qN g) hH9) cs_X25_129_11 hH9 (show CLS[11]? = some (RX6, TX6, 6) from rfl) rfl rfl ⟨Nat.le_of_ble_eq_true rfl, Nat.le_of_ble_eq_true rfl⟩ ⟨(by first | exact Nat.le_of_ble_eq_true rfl | omega | (dsimp only; omega) | (simp only [List.length_cons, List.length_nil]; omega)), (by first | exact Nat.le_of_ble_eq_true rfl | omega | (dsimp only; omega) | (simp only [List.length_cons, List.length_nil]; omega))⟩ (Nat.le_of_ble_eq_true rfl) dX25_act_38 (fun _ _ _ h => px0 h) ?_
      rintro _ _ ⟨rfl, rfl⟩
      refine V_st (st' := [.int 0]) rfl ?_
      refine V_if_eq (tgt := 67) C dX25_act_41 (by decide) (fun c_41 => ?_) (fun c_41 => ?_)
      · exact absurd (show mf_hasRows σ (nI 1) a b from ⟨Or.inr (bI_n.mp c_34), Or.inl (by decide)⟩) hn
      · exact absurd c_41 (by decide)
set_option maxHeartbeats 1000000 in
theorem c_X25_act_1_8 (l : Launch) (hl : l.stackTraces = false) (G : hp_G) (X : Nat → Nat) (N0 : Nat) (M : hp_h) (go : Nat → MS → Int32 × MS) (g : RG) (σ : MS) (z : Nat → Int32) (c9 : Nat) (hR : REL G (X 0) g σ z (σ.1 31) (c9 + 1) M) (hI : MI σ) (P9 K9 : Nat) (a i b j n : Int32) (hP9 : P9 < 6) (hK9 : K9 < psz σ P9) (hAF : AF σ P9 K9 = [.int (nI 1), .int a, .int i, .int b, .int j, .int n]) (hAH : AH9 σ c9 (nI 1) a i b j n) (hrw : mf_hasRows σ (nI 1) a b) (hlt : σ.2.1 24 c9 < mf_priceOf σ (nI 1) a b n) : HM l yX25_act (ws_ yX25_act cX25_act 4 (some .long)) 29 11440 1 7 G X N0 [.ref (qC g c9), .ref (qA g P9 K9)] M PFF (XB G (X 0) g σ z (c9 + 1) M (mf_actR go c9 σ)) := by
  refine HM.of hl [(0, .ref (qC g c9)), (1, .ref (qA g P9 K9))] (by decide +kernel) rfl (Nat.le_of_ble_eq_true rfl) ?_
  intro p e s m args below meth c C hname
  have hN := hR.N
  obtain ⟨fH, hHs, hHf⟩ := hR.Hs
  have hCc : M (qC g c9) = some (.inr (4, [.int (σ.2.1 21 c9), .int (σ.2.1 25 c9), .ref (qKl g c9), .ref (qW g c9), .int (σ.2.1 24 c9), .int (σ.2.1 23 c9 - σ.2.1 24 c9), .int (σ.2.1 22 c9), .ref (qN g)])) := hR.Cc (Nat.lt_succ_self c9)
  have hac : M (qA g P9 K9) = some (.inr (3, [.int (nI 1), .int a, .int i, .int b, .int j, .int n])) := (hR.A hP9 hK9).trans (congrArg (fun y => some (Sum.inr (3, y))) hAF)
  have hH9 : M (qH g 1) = some (.inr (11, [.int 3, .ref (qN g), .int 0, .int 10, .ref (qN g), .ref (qN g)])) := hR.H (by decide)
  refine V_aload_n C dX25_act_0 rfl 0 rfl ?_
  refine V_get C f_X25_3_4 hCc (v := .ref (qN g)) rfl dX25_act_1 ?_
  refine V_getN C f_X25_111_0 hN (v := .ref (qHs g)) rfl dX25_act_4 ?_
  refine V_aload_n C dX25_act_7 rfl 1 rfl ?_
  refine V_getN C f_X25_115_3 hac (v := .int (nI 1)) rfl dX25_act_8 ?_
  refine V_aald C (j := 14) rfl rfl hHs (vp_in_nI (by omega) (by omega)) dX25_act_11 ?_
  refine V_st (st' := [.ref (qH g 1)]) (by rw [nI_clamp (by omega), (hHf 1 (by decide))]; rfl) ?_
  refine V_astore_n C dX25_act_12 rfl (Nat.le_of_ble_eq_true rfl) [(0, .ref (qC g c9)), (1, .ref (qA g P9 K9)), (2, .ref (qH g 1))] [1, 2, 0] rfl ?_
  refine V_aload_n C dX25_act_13 rfl 1 rfl ?_
  refine V_getN C f_X25_115_3 hac (v := .int (nI 1)) rfl dX25_act_14 ?_
  refine V_callSN C (c_X1_needsRow l hl G X N0 M (nI 1)) cs_X25_120 rfl rfl ⟨Nat.le_of_ble_eq_true rfl, Nat.le_of_ble_eq_true rfl⟩ ⟨(by first | exact Nat.le_of_ble_eq_true rfl | omega | (dsimp only; omega) | (simp only [List.length_cons, List.length_nil]; omega)), (by first | exact Nat.le_of_ble_eq_true rfl | omega | (dsimp only; omega) | (simp only [List.length_cons, List.length_nil]; omega))⟩ (Nat.le_of_ble_eq_true rfl) dX25_act_17 (fun _ _ _ h => px0 h) ?_
  rintro _ _ ⟨rfl, rfl⟩
  refine V_st (st' := [.int (bI ((nI 1) ≠ 10 ∧ (nI 1) ≠ 11))]) rfl ?_
  refine V_if_eq (tgt := 67) C dX25_act_20 (by decide) (fun c_20 => ?_) (fun c_20 => ?_)
  · exact absurd (bI_0.mp c_20) (not_not_intro ⟨by decide, by decide⟩)
  · refine V_pc (pc1 := 23) rfl ?_
    refine V_aload_n C dX25_act_23 rfl 0 rfl ?_
    refine V_get C f_X25_3_4 hCc (v := .ref (qN g)) rfl dX25_act_24 ?_
    refine V_aload_n C dX25_act_27 rfl 1 rfl ?_
    refine V_getN C f_X25_123_3 hac (v := .int a) rfl dX25_act_28 ?_
    refine V_callVN C (c_X1_isRow l hl G X N0 M g σ z (σ.1 31) (c9 + 1) hR hI a) cs_X25_126_0 hN (show CLS[0]? = some (RX1, TX1, 17) from rfl) rfl rfl ⟨Nat.le_of_ble_eq_true rfl, Nat.le_of_ble_eq_true rfl⟩ ⟨(by first | exact Nat.le_of_ble_eq_true rfl | omega | (dsimp only; omega) | (simp only [List.length_cons, List.length_nil]; omega)), (by first | exact Nat.le_of_ble_eq_true rfl | omega | (dsimp only; omega) | (simp only [List.length_cons, List.length_nil]; omega))⟩ (Nat.le_of_ble_eq_true rfl) dX25_act_31 (fun _ _ _ h => px0 h) ?_
    rintro _ _ ⟨rfl, rfl⟩
    refine V_st (st' := [.int (bI (¬ a < 0 ∧ a < σ.1 1))]) rfl ?_
    refine V_if_eq (tgt := 58) C dX25_act_34 (by decide) (fun c_34 => ?_) (fun c_34 => ?_)
    · exact absurd (hrw.1.resolve_left (by decide)) (bI_0.mp c_34)
    · refine V_aload_n C dX25_act_37 rfl 2 rfl ?_
      refine V_callU C (c_X3_hasOther_11 l hl G X N0 M (qH g 1) (qN g) hH9) cs_X25_129_11 hH9 (show CLS[11]? = some (RX6, TX6, 6) from rfl) rfl rfl ⟨Nat.le_of_ble_eq_true rfl, Nat.le_of_ble_eq_true rfl⟩ ⟨(by first | exact Nat.le_of_ble_eq_true rfl | omega | (dsimp only; omega) | (simp only [List.length_cons, List.length_nil]; omega)), (by first | exact Nat.le_of_ble_eq_true rfl | omega | (dsimp only; omega) | (simp only [List.length_cons, List.length_nil]; omega))⟩ (Nat.le_of_ble_eq_true rfl) dX25_act_38 (fun _ _ _ h => px0 h) ?_
      rintro _ _ ⟨rfl, rfl⟩
      refine V_st (st' := [.int 0]) rfl ?_
      refine V_if_eq (tgt := 67) C dX25_act_41 (by decide) (fun c_41 => ?_) (fun c_41 => ?_)
      · refine V_aload_n C dX25_act_67 rfl 0 rfl ?_
        refine V_get C f_X25_3_4 hCc (v := .ref (qN g)) rfl dX25_act_68 ?_
        refine V_aload_n C dX25_act_71 rfl 1 rfl ?_
        refine V_pc (pc1 := 72) rfl ?_
        refine V_callVN C (c_X1_priceOf l hl G X N0 M g σ z (σ.1 31) (c9 + 1) hR hI (qA g P9 K9) 1 (by decide) (nI 1) a i b j n rfl hac hrw) cs_X25_142_0 hN (show CLS[0]? = some (RX1, TX1, 17) from rfl) rfl rfl ⟨Nat.le_of_ble_eq_true rfl, Nat.le_of_ble_eq_true rfl⟩ ⟨(by first | exact Nat.le_of_ble_eq_true rfl | omega | (dsimp only; omega) | (simp only [List.length_cons, List.length_nil]; omega)), (by first | exact Nat.le_of_ble_eq_true rfl | omega | (dsimp only; omega) | (simp only [List.length_cons, List.length_nil]; omega))⟩ (Nat.le_of_ble_eq_true rfl) dX25_act_72 (fun _ _ _ h => px0 h) ?_
        rintro _ _ ⟨rfl, rfl⟩
        refine V_st (st' := [.int (mf_priceOf σ (nI 1) a b n)]) rfl ?_
        refine V_istore_n C dX25_act_75 rfl (Nat.le_of_ble_eq_true rfl) [(0, .ref (qC g c9)), (1, .ref (qA g P9 K9)), (2, .ref (qH g 1)), (3, .int (mf_priceOf σ (nI 1) a b n))] [1, 2, 3, 0] rfl ?_
        refine V_aload_n C dX25_act_76 rfl 0 rfl ?_
        refine V_get C f_X25_39_4 hCc (v := .int (σ.2.1 24 c9)) rfl dX25_act_77 ?_
        refine V_iload_n C dX25_act_80 rfl 3 rfl ?_
        refine V_icmp_ge (tgt := 94) C dX25_act_81 (by decide) (fun c_81 => ?_) (fun c_81 => ?_)
        · exact absurd hlt (Int32.not_lt.mpr c_81)
        · refine V_aload_n C dX25_act_84 rfl 0 rfl ?_
          refine V_get C f_X25_3_4 hCc (v := .ref (qN g)) rfl dX25_act_85 ?_
          refine V_bipush (v := 8) C dX25_act_88 rfl ?_
          refine V_callVN C (c_X1_fail l hl G X N0 M (qN g) (qRl g) (qUl g) (qPl g) (qHs g) (qAn g) (σ.1 20) (σ.1 14) (σ.1 11) (σ.1 12) (σ.1 15) (z 0) (z 1) (z 2) (z 3) (z 4) (z 5) (σ.1 31) 8 hN) cs_X25_138_0 hN (show CLS[0]? = some (RX1, TX1, 17) from rfl) rfl rfl ⟨Nat.le_of_ble_eq_true rfl, Nat.le_of_ble_eq_true rfl⟩ ⟨(by first | exact Nat.le_of_ble_eq_true rfl | omega | (dsimp only; omega) | (simp only [List.length_cons, List.length_nil]; omega)), (by first | exact Nat.le_of_ble_eq_true rfl | omega | (dsimp only; omega) | (simp only [List.length_cons, List.length_nil]; omega))⟩ (Nat.le_of_ble_eq_true rfl) dX25_act_90 (fun _ _ _ h => px0 h) ?_
          rintro _ M_3 ⟨q_1, rfl, hq_2, hN_4, hF_5, fr_6, sh_7⟩
          refine V_st (st' := [.ref q_1]) rfl ?_
          refine V_athrow C hF_5 (show CLS[8]? = some (RX26, TX26, 7) from rfl) dX25_act_93 ?_
          exact VX_out C (fun z hz => by cases hz) (FLX.xb (FLX.of hR hq_2 hN_4 hF_5 fr_6 sh_7) (act_8 hAH hrw hlt) (by decide)) (by first | exact Nat.le_of_ble_eq_true rfl | omega | (dsimp only; omega) | (simp only [List.length_cons, List.length_nil]; omega)) (by first | exact Nat.le_of_ble_eq_true rfl | omega | (dsimp only; omega) | (simp only [List.length_cons, List.length_nil]; omega))
      · exact absurd c_41 (by decide)
set_option maxHeartbeats 1000000 in
theorem c_X25_act_1_w (l : Launch) (hl : l.stackTraces = false) (G : hp_G) (X : Nat → Nat) (N0 : Nat) (M : hp_h) (go : Nat → MS → Int32 × MS) (g : RG) (σ : MS) (z : Nat → Int32) (c9 : Nat) (hR : REL G (X 0) g σ z (σ.1 31) (c9 + 1) M) (hI : MI σ) (P9 K9 : Nat) (a i b j n : Int32) (hP9 : P9 < 6) (hK9 : K9 < psz σ P9) (hAF : AF σ P9 K9 = [.int (nI 1), .int a, .int i, .int b, .int j, .int n]) (hAH : AH9 σ c9 (nI 1) a i b j n) (hrw : mf_hasRows σ (nI 1) a b) (hge : ¬ σ.2.1 24 c9 < mf_priceOf σ (nI 1) a b n) (hm : MW σ) (hJ8 : nJ σ < 8000) : HM l yX25_act (ws_ yX25_act cX25_act 4 (some .long)) 29 11440 9 320 G X N0 [.ref (qC g c9), .ref (qA g P9 K9)] M (WB G (X 0) g σ z (c9 + 1) M (mf_actR go c9 σ)) (XB G (X 0) g σ z (c9 + 1) M (mf_actR go c9 σ)) := by
  refine HM.of hl [(0, .ref (qC g c9)), (1, .ref (qA g P9 K9))] (by decide +kernel) rfl (Nat.le_of_ble_eq_true rfl) ?_
  intro p e s m args below meth c C hname
  have hN := hR.N
  obtain ⟨fH, hHs, hHf⟩ := hR.Hs
  have hCc : M (qC g c9) = some (.inr (4, [.int (σ.2.1 21 c9), .int (σ.2.1 25 c9), .ref (qKl g c9), .ref (qW g c9), .int (σ.2.1 24 c9), .int (σ.2.1 23 c9 - σ.2.1 24 c9), .int (σ.2.1 22 c9), .ref (qN g)])) := hR.Cc (Nat.lt_succ_self c9)
  have hac : M (qA g P9 K9) = some (.inr (3, [.int (nI 1), .int a, .int i, .int b, .int j, .int n])) := (hR.A hP9 hK9).trans (congrArg (fun y => some (Sum.inr (3, y))) hAF)
  have hH9 : M (qH g 1) = some (.inr (11, [.int 3, .ref (qN g), .int 0, .int 10, .ref (qN g), .ref (qN g)])) := hR.H (by decide)
  refine V_aload_n C dX25_act_0 rfl 0 rfl ?_
  refine V_get C f_X25_3_4 hCc (v := .ref (qN g)) rfl dX25_act_1 ?_
  refine V_getN C f_X25_111_0 hN (v := .ref (qHs g)) rfl dX25_act_4 ?_
  refine V_aload_n C dX25_act_7 rfl 1 rfl ?_
  refine V_getN C f_X25_115_3 hac (v := .int (nI 1)) rfl dX25_act_8 ?_
  refine V_aald C (j := 14) rfl rfl hHs (vp_in_nI (by omega) (by omega)) dX25_act_11 ?_
  refine V_st (st' := [.ref (qH g 1)]) (by rw [nI_clamp (by omega), (hHf 1 (by decide))]; rfl) ?_
  refine V_astore_n C dX25_act_12 rfl (Nat.le_of_ble_eq_true rfl) [(0, .ref (qC g c9)), (1, .ref (qA g P9 K9)), (2, .ref (qH g 1))] [1, 2, 0] rfl ?_
  refine V_aload_n C dX25_act_13 rfl 1 rfl ?_
  refine V_getN C f_X25_115_3 hac (v := .int (nI 1)) rfl dX25_act_14 ?_
  refine V_callSN C (c_X1_needsRow l hl G X N0 M (nI 1)) cs_X25_120 rfl rfl ⟨Nat.le_of_ble_eq_true rfl, Nat.le_of_ble_eq_true rfl⟩ ⟨(by first | exact Nat.le_of_ble_eq_true rfl | omega | (dsimp only; omega) | (simp only [List.length_cons, List.length_nil]; omega)), (by first | exact Nat.le_of_ble_eq_true rfl | omega | (dsimp only; omega) | (simp only [List.length_cons, List.length_nil]; omega))⟩ (Nat.le_of_ble_eq_true rfl) dX25_act_17 (fun _ _ _ h => px0 h) ?_
  rintro _ _ ⟨rfl, rfl⟩
  refine V_st (st' := [.int (bI ((nI 1) ≠ 10 ∧ (nI 1) ≠ 11))]) rfl ?_
  refine V_if_eq (tgt := 67) C dX25_act_20 (by decide) (fun c_20 => ?_) (fun c_20 => ?_)
  · exact absurd (bI_0.mp c_20) (not_not_intro ⟨by decide, by decide⟩)
  · refine V_pc (pc1 := 23) rfl ?_
    refine V_aload_n C dX25_act_23 rfl 0 rfl ?_
    refine V_get C f_X25_3_4 hCc (v := .ref (qN g)) rfl dX25_act_24 ?_
    refine V_aload_n C dX25_act_27 rfl 1 rfl ?_
    refine V_getN C f_X25_123_3 hac (v := .int a) rfl dX25_act_28 ?_
    refine V_callVN C (c_X1_isRow l hl G X N0 M g σ z (σ.1 31) (c9 + 1) hR hI a) cs_X25_126_0 hN (show CLS[0]? = some (RX1, TX1, 17) from rfl) rfl rfl ⟨Nat.le_of_ble_eq_true rfl, Nat.le_of_ble_eq_true rfl⟩ ⟨(by first | exact Nat.le_of_ble_eq_true rfl | omega | (dsimp only; omega) | (simp only [List.length_cons, List.length_nil]; omega)), (by first | exact Nat.le_of_ble_eq_true rfl | omega | (dsimp only; omega) | (simp only [List.length_cons, List.length_nil]; omega))⟩ (Nat.le_of_ble_eq_true rfl) dX25_act_31 (fun _ _ _ h => px0 h) ?_
    rintro _ _ ⟨rfl, rfl⟩
    refine V_st (st' := [.int (bI (¬ a < 0 ∧ a < σ.1 1))]) rfl ?_
    refine V_if_eq (tgt := 58) C dX25_act_34 (by decide) (fun c_34 => ?_) (fun c_34 => ?_)
    · exact absurd (hrw.1.resolve_left (by decide)) (bI_0.mp c_34)
    · refine V_aload_n C dX25_act_37 rfl 2 rfl ?_
      refine V_callU C (c_X3_hasOther_11 l hl G X N0 M (qH g 1) (qN g) hH9) cs_X25_129_11 hH9 (show CLS[11]? = some (RX6, TX6, 6) from rfl) rfl rfl ⟨Nat.le_of_ble_eq_true rfl, Nat.le_of_ble_eq_true rfl⟩ ⟨(by first | exact Nat.le_of_ble_eq_true rfl | omega | (dsimp only; omega) | (simp only [List.length_cons, List.length_nil]; omega)), (by first | exact Nat.le_of_ble_eq_true rfl | omega | (dsimp only; omega) | (simp only [List.length_cons, List.length_nil]; omega))⟩ (Nat.le_of_ble_eq_true rfl) dX25_act_38 (fun _ _ _ h => px0 h) ?_
      rintro _ _ ⟨rfl, rfl⟩
      refine V_st (st' := [.int 0]) rfl ?_
      refine V_if_eq (tgt := 67) C dX25_act_41 (by decide) (fun c_41 => ?_) (fun c_41 => ?_)
      · refine V_aload_n C dX25_act_67 rfl 0 rfl ?_
        refine V_get C f_X25_3_4 hCc (v := .ref (qN g)) rfl dX25_act_68 ?_
        refine V_aload_n C dX25_act_71 rfl 1 rfl ?_
        refine V_pc (pc1 := 72) rfl ?_
        refine V_callVN C (c_X1_priceOf l hl G X N0 M g σ z (σ.1 31) (c9 + 1) hR hI (qA g P9 K9) 1 (by decide) (nI 1) a i b j n rfl hac hrw) cs_X25_142_0 hN (show CLS[0]? = some (RX1, TX1, 17) from rfl) rfl rfl ⟨Nat.le_of_ble_eq_true rfl, Nat.le_of_ble_eq_true rfl⟩ ⟨(by first | exact Nat.le_of_ble_eq_true rfl | omega | (dsimp only; omega) | (simp only [List.length_cons, List.length_nil]; omega)), (by first | exact Nat.le_of_ble_eq_true rfl | omega | (dsimp only; omega) | (simp only [List.length_cons, List.length_nil]; omega))⟩ (Nat.le_of_ble_eq_true rfl) dX25_act_72 (fun _ _ _ h => px0 h) ?_
        rintro _ _ ⟨rfl, rfl⟩
        refine V_st (st' := [.int (mf_priceOf σ (nI 1) a b n)]) rfl ?_
        refine V_istore_n C dX25_act_75 rfl (Nat.le_of_ble_eq_true rfl) [(0, .ref (qC g c9)), (1, .ref (qA g P9 K9)), (2, .ref (qH g 1)), (3, .int (mf_priceOf σ (nI 1) a b n))] [1, 2, 3, 0] rfl ?_
        refine V_aload_n C dX25_act_76 rfl 0 rfl ?_
        refine V_get C f_X25_39_4 hCc (v := .int (σ.2.1 24 c9)) rfl dX25_act_77 ?_
        refine V_iload_n C dX25_act_80 rfl 3 rfl ?_
        refine V_icmp_ge (tgt := 94) C dX25_act_81 (by decide) (fun c_81 => ?_) (fun c_81 => ?_)
        · obtain ⟨pr, hpr⟩ : ∃ y, y = mf_priceOf σ (nI 1) a b n := ⟨_, rfl⟩
          refine V_loc (L' := [(0, .ref (qC g c9)), (1, .ref (qA g P9 K9)), (2, .ref (qH g 1)), (3, .int pr)]) [0, 1, 2, 3] (by rw [hpr]; rfl) ?_
          have hfrP : hp_fr (fun b => b = qC g c9 ∨ b = qN g) M M := hp_fr.rf
          have hshP : hp_sh M M := hp_sh.rf
          have hneP : qC g c9 ≠ qN g := hR.ne (t := 15) (i := c9) (j := 0) (t' := 0) (i' := 0) (j' := 0) ⟨Nat.lt_succ_self c9, rfl⟩ ⟨by decide, rfl, rfl⟩ (by simp)
          refine V_aload_n C dX25_act_94 rfl 0 rfl ?_
          refine V_dup C dX25_act_95 rfl ?_
          refine V_get C f_X25_39_4 hCc (v := .int (σ.2.1 24 c9)) rfl dX25_act_96 ?_
          refine V_iload_n C dX25_act_99 rfl 3 rfl ?_
          refine V_isub C dX25_act_100 ?_
          refine V_put C f_X25_39_4 hCc rfl rfl (Nat.le_of_ble_eq_true rfl) dX25_act_101 ?_
          obtain ⟨M_1, eM_2⟩ : ∃ z, z = hp_up M (qC g c9) (.inr (4, [.int (σ.2.1 21 c9), .int (σ.2.1 25 c9), .ref (qKl g c9), .ref (qW g c9), .int ((σ.2.1 24 c9) - pr), .int (σ.2.1 23 c9 - σ.2.1 24 c9), .int (σ.2.1 22 c9), .ref (qN g)])) := ⟨_, rfl⟩
          refine V_heap (M' := M_1) eM_2.symm ?_
          have ho_3 : M_1 (qN g) = some (.inr (0, [.ref (qRl g), .ref (qUl g), .ref (qPl g), .ref (qHs g), .int (σ.1 20), .int (σ.1 14), .int (σ.1 11), .int (σ.1 12), .int (σ.1 15), .int (z 0), .int (z 1), .int (z 2), .int (z 3), .int (z 4), .int (z 5), .int (σ.1 31), .ref (qAn g)])) := by rw [eM_2, hp_up_n (Ne.symm hneP)]; exact hN
          have ho_4 : M_1 (qA g P9 K9) = some (.inr (3, [.int (nI 1), .int a, .int i, .int b, .int j, .int n])) := by rw [eM_2, hp_up_n (hp_ne hac hCc (by simp))]; exact hac
          have ho_5 : M_1 (qH g 1) = some (.inr (11, [.int 3, .ref (qN g), .int 0, .int 10, .ref (qN g), .ref (qN g)])) := by rw [eM_2, hp_up_n (hp_ne hH9 hCc (by simp))]; exact hH9
          have ha_6 : M_1 (qHs g) = some (.inl (G.2 14, 13, .inr (.inr (.inr (.inr fH))))) := by rw [eM_2, hp_up_n (hp_ne hHs hCc (by simp))]; exact hHs
          have eM_2_s : M_1 (qC g c9) = some (.inr (4, [.int (σ.2.1 21 c9), .int (σ.2.1 25 c9), .ref (qKl g c9), .ref (qW g c9), .int ((σ.2.1 24 c9) - pr), .int (σ.2.1 23 c9 - σ.2.1 24 c9), .int (σ.2.1 22 c9), .ref (qN g)])) := by rw [eM_2]; exact hp_up_s
          have fr_7 := hp_fr.set hfrP (Or.inl (Or.inl rfl)) eM_2
          have sh_8 := hp_sh.set hshP hCc eM_2 rfl
          refine V_pc (pc1 := 104) rfl ?_
          refine V_aload_n C dX25_act_104 rfl 0 rfl ?_
          refine V_dup C dX25_act_105 rfl ?_
          refine V_get C f_X25_146_4 eM_2_s (v := .int (σ.2.1 23 c9 - σ.2.1 24 c9)) rfl dX25_act_106 ?_
          refine V_iload_n C dX25_act_109 rfl 3 rfl ?_
          refine V_iadd C dX25_act_110 ?_
          refine V_put C f_X25_146_4 eM_2_s rfl rfl (Nat.le_of_ble_eq_true rfl) dX25_act_111 ?_
          obtain ⟨M_9, eM_10⟩ : ∃ z, z = hp_up M_1 (qC g c9) (.inr (4, [.int (σ.2.1 21 c9), .int (σ.2.1 25 c9), .ref (qKl g c9), .ref (qW g c9), .int ((σ.2.1 24 c9) - pr), .int ((σ.2.1 23 c9 - σ.2.1 24 c9) + pr), .int (σ.2.1 22 c9), .ref (qN g)])) := ⟨_, rfl⟩
          refine V_heap (M' := M_9) eM_10.symm ?_
          have ho_11 : M_9 (qN g) = some (.inr (0, [.ref (qRl g), .ref (qUl g), .ref (qPl g), .ref (qHs g), .int (σ.1 20), .int (σ.1 14), .int (σ.1 11), .int (σ.1 12), .int (σ.1 15), .int (z 0), .int (z 1), .int (z 2), .int (z 3), .int (z 4), .int (z 5), .int (σ.1 31), .ref (qAn g)])) := by rw [eM_10, hp_up_n (Ne.symm hneP)]; exact ho_3
          have ho_12 : M_9 (qA g P9 K9) = some (.inr (3, [.int (nI 1), .int a, .int i, .int b, .int j, .int n])) := by rw [eM_10, hp_up_n (hp_ne ho_4 eM_2_s (by simp))]; exact ho_4
          have ho_13 : M_9 (qH g 1) = some (.inr (11, [.int 3, .ref (qN g), .int 0, .int 10, .ref (qN g), .ref (qN g)])) := by rw [eM_10, hp_up_n (hp_ne ho_5 eM_2_s (by simp))]; exact ho_5
          have ha_14 : M_9 (qHs g) = some (.inl (G.2 14, 13, .inr (.inr (.inr (.inr fH))))) := by rw [eM_10, hp_up_n (hp_ne ha_6 eM_2_s (by simp))]; exact ha_6
          have eM_10_s : M_9 (qC g c9) = some (.inr (4, [.int (σ.2.1 21 c9), .int (σ.2.1 25 c9), .ref (qKl g c9), .ref (qW g c9), .int ((σ.2.1 24 c9) - pr), .int ((σ.2.1 23 c9 - σ.2.1 24 c9) + pr), .int (σ.2.1 22 c9), .ref (qN g)])) := by rw [eM_10]; exact hp_up_s
          have fr_15 := hp_fr.set fr_7 (Or.inl (Or.inl rfl)) eM_10
          have sh_16 := hp_sh.set sh_8 eM_2_s eM_10 rfl
          refine V_aload_n C dX25_act_114 rfl 0 rfl ?_
          refine V_get C f_X25_3_4 eM_10_s (v := .ref (qN g)) rfl dX25_act_115 ?_
          refine V_dup C dX25_act_118 rfl ?_
          refine V_getN C f_X25_149_0 ho_11 (v := .int (σ.1 11)) rfl dX25_act_119 ?_
          refine V_iconst (v := 1) C dX25_act_122 rfl ?_
          refine V_iadd C dX25_act_123 ?_
          refine V_pc (pc1 := 124) rfl ?_
          refine V_putN C f_X25_149_0 ho_11 rfl rfl (Nat.le_of_ble_eq_true rfl) dX25_act_124 ?_
          obtain ⟨M_17, eM_18⟩ : ∃ z9, z9 = hp_up M_9 (qN g) (.inr (0, [.ref (qRl g), .ref (qUl g), .ref (qPl g), .ref (qHs g), .int (σ.1 20), .int (σ.1 14), .int ((σ.1 11) + 1), .int (σ.1 12), .int (σ.1 15), .int (z 0), .int (z 1), .int (z 2), .int (z 3), .int (z 4), .int (z 5), .int (σ.1 31), .ref (qAn g)])) := ⟨_, rfl⟩
          refine V_heap (M' := M_17) eM_18.symm ?_
          have ho_19 : M_17 (qC g c9) = some (.inr (4, [.int (σ.2.1 21 c9), .int (σ.2.1 25 c9), .ref (qKl g c9), .ref (qW g c9), .int ((σ.2.1 24 c9) - pr), .int ((σ.2.1 23 c9 - σ.2.1 24 c9) + pr), .int (σ.2.1 22 c9), .ref (qN g)])) := by rw [eM_18, hp_up_n hneP]; exact eM_10_s
          have ho_20 : M_17 (qA g P9 K9) = some (.inr (3, [.int (nI 1), .int a, .int i, .int b, .int j, .int n])) := by rw [eM_18, hp_up_n (hp_ne ho_12 ho_11 (by simp))]; exact ho_12
          have ho_21 : M_17 (qH g 1) = some (.inr (11, [.int 3, .ref (qN g), .int 0, .int 10, .ref (qN g), .ref (qN g)])) := by rw [eM_18, hp_up_n (hp_ne ho_13 ho_11 (by simp))]; exact ho_13
          have ha_22 : M_17 (qHs g) = some (.inl (G.2 14, 13, .inr (.inr (.inr (.inr fH))))) := by rw [eM_18, hp_up_n (hp_ne ha_14 ho_11 (by simp))]; exact ha_14
          have eM_18_s : M_17 (qN g) = some (.inr (0, [.ref (qRl g), .ref (qUl g), .ref (qPl g), .ref (qHs g), .int (σ.1 20), .int (σ.1 14), .int ((σ.1 11) + 1), .int (σ.1 12), .int (σ.1 15), .int (z 0), .int (z 1), .int (z 2), .int (z 3), .int (z 4), .int (z 5), .int (σ.1 31), .ref (qAn g)])) := by rw [eM_18]; exact hp_up_s
          have fr_23 := hp_fr.set fr_15 (Or.inl (Or.inr rfl)) eM_18
          have sh_24 := hp_sh.set sh_16 ho_11 eM_18 rfl
          have hpay := hR.pay (pr := pr) (Nat.lt_succ_self c9) ho_19 eM_18_s fr_23 sh_24
          have hact : mf_actR go c9 σ = mf_workR go c9 (mf_pay c9 pr σ) 1 a i b j n := by rw [hpr]; exact act_w hAH hrw hge
          refine V_aload_n C dX25_act_127 rfl 2 rfl ?_
          refine V_aload_n C dX25_act_128 rfl 1 rfl ?_
          refine V_aload_n C dX25_act_129 rfl 0 rfl ?_
          have hRs : REL G (X 0) g (sa (mf_pay c9 pr σ) 0) z ((sa (mf_pay c9 pr σ) 0).1 31) (c9 + 1) M_17 := hpay.1.view VW.sa
          have hIs : MI (sa (mf_pay c9 pr σ) 0) := (MQ9.same (σ := σ) ⟨hI, hm⟩ rfl rfl rfl (fun k hk => by rcases hk with rfl | rfl | rfl | rfl | rfl | rfl <;> rfl) rfl).1
          have hms : MW (sa (mf_pay c9 pr σ) 0) := (MQ9.same (σ := σ) ⟨hI, hm⟩ rfl rfl rfl (fun k hk => by rcases hk with rfl | rfl | rfl | rfl | rfl | rfl <;> rfl) rfl).2
          obtain ⟨rr, hr, hra⟩ := hI.row (hrw.1.resolve_left (by decide))
          have hdn : mf_actR go c9 σ = mf_dr (mf_copyRow (sa (mf_pay c9 pr σ) 0) rr) := by
            rw [hact, hra]
            show mf_dr (mf_done (mf_pay c9 pr σ) 1 (nI rr) i b j n) = _
            have hR60 := hI.R.2
            have e1 : (nI rr).toNatClampNeg = rr := nI_clamp (by omega)
            unfold mf_done
            rw [if_neg (by decide), if_pos rfl, e1]
          refine V_callA C (c_work_1 l hl G X N0 M_17 g (sa (mf_pay c9 pr σ) 0) z (c9 + 1) c9 rfl hRs hIs P9 K9 rr (nI 1) i b j n hP9 hK9 hr (show AF (sa (mf_pay c9 pr σ) 0) P9 K9 = [.int (nI 1), .int (nI rr), .int i, .int b, .int j, .int n] from by rw [← hra]; exact hAF) hms rfl hJ8) cs_X25_151_11 ho_21 (show CLS[11]? = some (RX6, TX6, 6) from rfl) rfl rfl ⟨Nat.le_of_ble_eq_true rfl, Nat.le_of_ble_eq_true rfl⟩ ⟨(by first | exact Nat.le_of_ble_eq_true rfl | omega | (dsimp only; omega) | (simp only [List.length_cons, List.length_nil]; omega)), (by first | exact Nat.le_of_ble_eq_true rfl | omega | (dsimp only; omega) | (simp only [List.length_cons, List.length_nil]; omega))⟩ (Nat.le_of_ble_eq_true rfl) dX25_act_130 (fun q9 E9 M9 h9 => by have h8 : XB G (X 0) g σ z (c9 + 1) M (mf_actR go c9 σ) q9 E9 M9 := by { rw [hdn]; exact XB.pre (σ := σ) (τ := (sa (mf_pay c9 pr σ) 0)) (hpay.2.view VW.sa) rfl rfl rfl rfl (WX.dr h9) }; obtain rfl := h8.2.1; exact VX_out C (fun z hz => by cases hz) h8 (by first | exact Nat.le_of_ble_eq_true rfl | omega | (dsimp only; omega) | (simp only [List.length_cons, List.length_nil]; omega)) (by first | exact Nat.le_of_ble_eq_true rfl | omega | (dsimp only; omega) | (simp only [List.length_cons, List.length_nil]; omega))) ?_
          rintro v9 M_25 hv9
          have hwb : WB G (X 0) g σ z (c9 + 1) M (mf_actR go c9 σ) v9 M_25 := by rw [hdn]; exact WB.pre (σ := σ) (τ := (sa (mf_pay c9 pr σ) 0)) (hpay.2.view VW.sa) rfl rfl rfl rfl (WP.dr hv9)
          obtain rfl := hv9.2.1
          refine V_st (st' := [.long ((mf_copyRow (sa (mf_pay c9 pr σ) 0) rr).2.2.2.2)]) rfl ?_
          refine V_lret C dX25_act_133 rfl ?_ (by first | exact Nat.le_of_ble_eq_true rfl | omega | (dsimp only; omega) | (simp only [List.length_cons, List.length_nil]; omega)) (by first | exact Nat.le_of_ble_eq_true rfl | omega | (dsimp only; omega) | (simp only [List.length_cons, List.length_nil]; omega))
          exact hwb
        · exact absurd (Int32.not_le.mp c_81) hge
      · exact absurd c_41 (by decide)
set_option maxHeartbeats 1000000 in
theorem c_X25_act_2_1 (l : Launch) (hl : l.stackTraces = false) (G : hp_G) (X : Nat → Nat) (N0 : Nat) (M : hp_h) (go : Nat → MS → Int32 × MS) (g : RG) (σ : MS) (z : Nat → Int32) (c9 : Nat) (hR : REL G (X 0) g σ z (σ.1 31) (c9 + 1) M) (hI : MI σ) (P9 K9 : Nat) (a i b j n : Int32) (hP9 : P9 < 6) (hK9 : K9 < psz σ P9) (hAF : AF σ P9 K9 = [.int (nI 2), .int a, .int i, .int b, .int j, .int n]) (hAH : AH9 σ c9 (nI 2) a i b j n) (hn : ¬ mf_hasRows σ (nI 2) a b) : HM l yX25_act (ws_ yX25_act cX25_act 4 (some .long)) 29 11440 1 7 G X N0 [.ref (qC g c9), .ref (qA g P9 K9)] M PFF (XB G (X 0) g σ z (c9 + 1) M (mf_actR go c9 σ)) := by
  refine HM.of hl [(0, .ref (qC g c9)), (1, .ref (qA g P9 K9))] (by decide +kernel) rfl (Nat.le_of_ble_eq_true rfl) ?_
  intro p e s m args below meth c C hname
  have hN := hR.N
  obtain ⟨fH, hHs, hHf⟩ := hR.Hs
  have hCc : M (qC g c9) = some (.inr (4, [.int (σ.2.1 21 c9), .int (σ.2.1 25 c9), .ref (qKl g c9), .ref (qW g c9), .int (σ.2.1 24 c9), .int (σ.2.1 23 c9 - σ.2.1 24 c9), .int (σ.2.1 22 c9), .ref (qN g)])) := hR.Cc (Nat.lt_succ_self c9)
  have hac : M (qA g P9 K9) = some (.inr (3, [.int (nI 2), .int a, .int i, .int b, .int j, .int n])) := (hR.A hP9 hK9).trans (congrArg (fun y => some (Sum.inr (3, y))) hAF)
  have hH9 : M (qH g 2) = some (.inr (12, [.int 1, .ref (qN g), .int 0, .int 10, .ref (qN g), .ref (qN g), .ref (qN g)])) := hR.H (by decide)
  refine V_aload_n C dX25_act_0 rfl 0 rfl ?_
  refine V_get C f_X25_3_4 hCc (v := .ref (qN g)) rfl dX25_act_1 ?_
  refine V_getN C f_X25_111_0 hN (v := .ref (qHs g)) rfl dX25_act_4 ?_
  refine V_aload_n C dX25_act_7 rfl 1 rfl ?_
  refine V_getN C f_X25_115_3 hac (v := .int (nI 2)) rfl dX25_act_8 ?_
  refine V_aald C (j := 14) rfl rfl hHs (vp_in_nI (by omega) (by omega)) dX25_act_11 ?_
  refine V_st (st' := [.ref (qH g 2)]) (by rw [nI_clamp (by omega), (hHf 2 (by decide))]; rfl) ?_
  refine V_astore_n C dX25_act_12 rfl (Nat.le_of_ble_eq_true rfl) [(0, .ref (qC g c9)), (1, .ref (qA g P9 K9)), (2, .ref (qH g 2))] [1, 2, 0] rfl ?_
  refine V_aload_n C dX25_act_13 rfl 1 rfl ?_
  refine V_getN C f_X25_115_3 hac (v := .int (nI 2)) rfl dX25_act_14 ?_
  refine V_callSN C (c_X1_needsRow l hl G X N0 M (nI 2)) cs_X25_120 rfl rfl ⟨Nat.le_of_ble_eq_true rfl, Nat.le_of_ble_eq_true rfl⟩ ⟨(by first | exact Nat.le_of_ble_eq_true rfl | omega | (dsimp only; omega) | (simp only [List.length_cons, List.length_nil]; omega)), (by first | exact Nat.le_of_ble_eq_true rfl | omega | (dsimp only; omega) | (simp only [List.length_cons, List.length_nil]; omega))⟩ (Nat.le_of_ble_eq_true rfl) dX25_act_17 (fun _ _ _ h => px0 h) ?_
  rintro _ _ ⟨rfl, rfl⟩
  refine V_st (st' := [.int (bI ((nI 2) ≠ 10 ∧ (nI 2) ≠ 11))]) rfl ?_
  refine V_if_eq (tgt := 67) C dX25_act_20 (by decide) (fun c_20 => ?_) (fun c_20 => ?_)
  · exact absurd (bI_0.mp c_20) (not_not_intro ⟨by decide, by decide⟩)
  · refine V_pc (pc1 := 23) rfl ?_
    refine V_aload_n C dX25_act_23 rfl 0 rfl ?_
    refine V_get C f_X25_3_4 hCc (v := .ref (qN g)) rfl dX25_act_24 ?_
    refine V_aload_n C dX25_act_27 rfl 1 rfl ?_
    refine V_getN C f_X25_123_3 hac (v := .int a) rfl dX25_act_28 ?_
    refine V_callVN C (c_X1_isRow l hl G X N0 M g σ z (σ.1 31) (c9 + 1) hR hI a) cs_X25_126_0 hN (show CLS[0]? = some (RX1, TX1, 17) from rfl) rfl rfl ⟨Nat.le_of_ble_eq_true rfl, Nat.le_of_ble_eq_true rfl⟩ ⟨(by first | exact Nat.le_of_ble_eq_true rfl | omega | (dsimp only; omega) | (simp only [List.length_cons, List.length_nil]; omega)), (by first | exact Nat.le_of_ble_eq_true rfl | omega | (dsimp only; omega) | (simp only [List.length_cons, List.length_nil]; omega))⟩ (Nat.le_of_ble_eq_true rfl) dX25_act_31 (fun _ _ _ h => px0 h) ?_
    rintro _ _ ⟨rfl, rfl⟩
    refine V_st (st' := [.int (bI (¬ a < 0 ∧ a < σ.1 1))]) rfl ?_
    refine V_if_eq (tgt := 58) C dX25_act_34 (by decide) (fun c_34 => ?_) (fun c_34 => ?_)
    · refine V_aload_n C dX25_act_58 rfl 0 rfl ?_
      refine V_get C f_X25_3_4 hCc (v := .ref (qN g)) rfl dX25_act_59 ?_
      refine V_iconst (v := 1) C dX25_act_62 rfl ?_
      refine V_callVN C (c_X1_fail l hl G X N0 M (qN g) (qRl g) (qUl g) (qPl g) (qHs g) (qAn g) (σ.1 20) (σ.1 14) (σ.1 11) (σ.1 12) (σ.1 15) (z 0) (z 1) (z 2) (z 3) (z 4) (z 5) (σ.1 31) 1 hN) cs_X25_138_0 hN (show CLS[0]? = some (RX1, TX1, 17) from rfl) rfl rfl ⟨Nat.le_of_ble_eq_true rfl, Nat.le_of_ble_eq_true rfl⟩ ⟨(by first | exact Nat.le_of_ble_eq_true rfl | omega | (dsimp only; omega) | (simp only [List.length_cons, List.length_nil]; omega)), (by first | exact Nat.le_of_ble_eq_true rfl | omega | (dsimp only; omega) | (simp only [List.length_cons, List.length_nil]; omega))⟩ (Nat.le_of_ble_eq_true rfl) dX25_act_63 (fun _ _ _ h => px0 h) ?_
      rintro _ M_3 ⟨q_1, rfl, hq_2, hN_4, hF_5, fr_6, sh_7⟩
      refine V_st (st' := [.ref q_1]) rfl ?_
      refine V_athrow C hF_5 (show CLS[8]? = some (RX26, TX26, 7) from rfl) dX25_act_66 ?_
      exact VX_out C (fun z hz => by cases hz) (FLX.xb (FLX.of hR hq_2 hN_4 hF_5 fr_6 sh_7) (act_1 hAH hn) (by decide)) (by first | exact Nat.le_of_ble_eq_true rfl | omega | (dsimp only; omega) | (simp only [List.length_cons, List.length_nil]; omega)) (by first | exact Nat.le_of_ble_eq_true rfl | omega | (dsimp only; omega) | (simp only [List.length_cons, List.length_nil]; omega))
    · refine V_aload_n C dX25_act_37 rfl 2 rfl ?_
      refine V_callU C (c_X3_hasOther_12 l hl G X N0 M (qH g 2) (qN g) hH9) cs_X25_129_12 hH9 (show CLS[12]? = some (RX8, TX8, 7) from rfl) rfl rfl ⟨Nat.le_of_ble_eq_true rfl, Nat.le_of_ble_eq_true rfl⟩ ⟨(by first | exact Nat.le_of_ble_eq_true rfl | omega | (dsimp only; omega) | (simp only [List.length_cons, List.length_nil]; omega)), (by first | exact Nat.le_of_ble_eq_true rfl | omega | (dsimp only; omega) | (simp only [List.length_cons, List.length_nil]; omega))⟩ (Nat.le_of_ble_eq_true rfl) dX25_act_38 (fun _ _ _ h => px0 h) ?_
      rintro _ _ ⟨rfl, rfl⟩
      refine V_st (st' := [.int 0]) rfl ?_
      refine V_if_eq (tgt := 67) C dX25_act_41 (by decide) (fun c_41 => ?_) (fun c_41 => ?_)
      · exact absurd (show mf_hasRows σ (nI 2) a b from ⟨Or.inr (bI_n.mp c_34), Or.inl (by decide)⟩) hn
      · exact absurd c_41 (by decide)
set_option maxHeartbeats 1000000 in
theorem c_X25_act_2_8 (l : Launch) (hl : l.stackTraces = false) (G : hp_G) (X : Nat → Nat) (N0 : Nat) (M : hp_h) (go : Nat → MS → Int32 × MS) (g : RG) (σ : MS) (z : Nat → Int32) (c9 : Nat) (hR : REL G (X 0) g σ z (σ.1 31) (c9 + 1) M) (hI : MI σ) (P9 K9 : Nat) (a i b j n : Int32) (hP9 : P9 < 6) (hK9 : K9 < psz σ P9) (hAF : AF σ P9 K9 = [.int (nI 2), .int a, .int i, .int b, .int j, .int n]) (hAH : AH9 σ c9 (nI 2) a i b j n) (hrw : mf_hasRows σ (nI 2) a b) (hlt : σ.2.1 24 c9 < mf_priceOf σ (nI 2) a b n) : HM l yX25_act (ws_ yX25_act cX25_act 4 (some .long)) 29 11440 1 7 G X N0 [.ref (qC g c9), .ref (qA g P9 K9)] M PFF (XB G (X 0) g σ z (c9 + 1) M (mf_actR go c9 σ)) := by
  refine HM.of hl [(0, .ref (qC g c9)), (1, .ref (qA g P9 K9))] (by decide +kernel) rfl (Nat.le_of_ble_eq_true rfl) ?_
  intro p e s m args below meth c C hname
  have hN := hR.N
  obtain ⟨fH, hHs, hHf⟩ := hR.Hs
  have hCc : M (qC g c9) = some (.inr (4, [.int (σ.2.1 21 c9), .int (σ.2.1 25 c9), .ref (qKl g c9), .ref (qW g c9), .int (σ.2.1 24 c9), .int (σ.2.1 23 c9 - σ.2.1 24 c9), .int (σ.2.1 22 c9), .ref (qN g)])) := hR.Cc (Nat.lt_succ_self c9)
  have hac : M (qA g P9 K9) = some (.inr (3, [.int (nI 2), .int a, .int i, .int b, .int j, .int n])) := (hR.A hP9 hK9).trans (congrArg (fun y => some (Sum.inr (3, y))) hAF)
  have hH9 : M (qH g 2) = some (.inr (12, [.int 1, .ref (qN g), .int 0, .int 10, .ref (qN g), .ref (qN g), .ref (qN g)])) := hR.H (by decide)
  refine V_aload_n C dX25_act_0 rfl 0 rfl ?_
  refine V_get C f_X25_3_4 hCc (v := .ref (qN g)) rfl dX25_act_1 ?_
  refine V_getN C f_X25_111_0 hN (v := .ref (qHs g)) rfl dX25_act_4 ?_
  refine V_aload_n C dX25_act_7 rfl 1 rfl ?_
  refine V_getN C f_X25_115_3 hac (v := .int (nI 2)) rfl dX25_act_8 ?_
  refine V_aald C (j := 14) rfl rfl hHs (vp_in_nI (by omega) (by omega)) dX25_act_11 ?_
  refine V_st (st' := [.ref (qH g 2)]) (by rw [nI_clamp (by omega), (hHf 2 (by decide))]; rfl) ?_
  refine V_astore_n C dX25_act_12 rfl (Nat.le_of_ble_eq_true rfl) [(0, .ref (qC g c9)), (1, .ref (qA g P9 K9)), (2, .ref (qH g 2))] [1, 2, 0] rfl ?_
  refine V_aload_n C dX25_act_13 rfl 1 rfl ?_
  refine V_getN C f_X25_115_3 hac (v := .int (nI 2)) rfl dX25_act_14 ?_
  refine V_callSN C (c_X1_needsRow l hl G X N0 M (nI 2)) cs_X25_120 rfl rfl ⟨Nat.le_of_ble_eq_true rfl, Nat.le_of_ble_eq_true rfl⟩ ⟨(by first | exact Nat.le_of_ble_eq_true rfl | omega | (dsimp only; omega) | (simp only [List.length_cons, List.length_nil]; omega)), (by first | exact Nat.le_of_ble_eq_true rfl | omega | (dsimp only; omega) | (simp only [List.length_cons, List.length_nil]; omega))⟩ (Nat.le_of_ble_eq_true rfl) dX25_act_17 (fun _ _ _ h => px0 h) ?_
  rintro _ _ ⟨rfl, rfl⟩
  refine V_st (st' := [.int (bI ((nI 2) ≠ 10 ∧ (nI 2) ≠ 11))]) rfl ?_
  refine V_if_eq (tgt := 67) C dX25_act_20 (by decide) (fun c_20 => ?_) (fun c_20 => ?_)
  · exact absurd (bI_0.mp c_20) (not_not_intro ⟨by decide, by decide⟩)
  · refine V_pc (pc1 := 23) rfl ?_
    refine V_aload_n C dX25_act_23 rfl 0 rfl ?_
    refine V_get C f_X25_3_4 hCc (v := .ref (qN g)) rfl dX25_act_24 ?_
    refine V_aload_n C dX25_act_27 rfl 1 rfl ?_
    refine V_getN C f_X25_123_3 hac (v := .int a) rfl dX25_act_28 ?_
    refine V_callVN C (c_X1_isRow l hl G X N0 M g σ z (σ.1 31) (c9 + 1) hR hI a) cs_X25_126_0 hN (show CLS[0]? = some (RX1, TX1, 17) from rfl) rfl rfl ⟨Nat.le_of_ble_eq_true rfl, Nat.le_of_ble_eq_true rfl⟩ ⟨(by first | exact Nat.le_of_ble_eq_true rfl | omega | (dsimp only; omega) | (simp only [List.length_cons, List.length_nil]; omega)), (by first | exact Nat.le_of_ble_eq_true rfl | omega | (dsimp only; omega) | (simp only [List.length_cons, List.length_nil]; omega))⟩ (Nat.le_of_ble_eq_true rfl) dX25_act_31 (fun _ _ _ h => px0 h) ?_
    rintro _ _ ⟨rfl, rfl⟩
    refine V_st (st' := [.int (bI (¬ a < 0 ∧ a < σ.1 1))]) rfl ?_
    refine V_if_eq (tgt := 58) C dX25_act_34 (by decide) (fun c_34 => ?_) (fun c_34 => ?_)
    · exact absurd (hrw.1.resolve_left (by decide)) (bI_0.mp c_34)
    · refine V_aload_n C dX25_act_37 rfl 2 rfl ?_
      refine V_callU C (c_X3_hasOther_12 l hl G X N0 M (qH g 2) (qN g) hH9) cs_X25_129_12 hH9 (show CLS[12]? = some (RX8, TX8, 7) from rfl) rfl rfl ⟨Nat.le_of_ble_eq_true rfl, Nat.le_of_ble_eq_true rfl⟩ ⟨(by first | exact Nat.le_of_ble_eq_true rfl | omega | (dsimp only; omega) | (simp only [List.length_cons, List.length_nil]; omega)), (by first | exact Nat.le_of_ble_eq_true rfl | omega | (dsimp only; omega) | (simp only [List.length_cons, List.length_nil]; omega))⟩ (Nat.le_of_ble_eq_true rfl) dX25_act_38 (fun _ _ _ h => px0 h) ?_
      rintro _ _ ⟨rfl, rfl⟩
      refine V_st (st' := [.int 0]) rfl ?_
      refine V_if_eq (tgt := 67) C dX25_act_41 (by decide) (fun c_41 => ?_) (fun c_41 => ?_)
      · refine V_aload_n C dX25_act_67 rfl 0 rfl ?_
        refine V_get C f_X25_3_4 hCc (v := .ref (qN g)) rfl dX25_act_68 ?_
        refine V_aload_n C dX25_act_71 rfl 1 rfl ?_
        refine V_pc (pc1 := 72) rfl ?_
        refine V_callVN C (c_X1_priceOf l hl G X N0 M g σ z (σ.1 31) (c9 + 1) hR hI (qA g P9 K9) 2 (by decide) (nI 2) a i b j n rfl hac hrw) cs_X25_142_0 hN (show CLS[0]? = some (RX1, TX1, 17) from rfl) rfl rfl ⟨Nat.le_of_ble_eq_true rfl, Nat.le_of_ble_eq_true rfl⟩ ⟨(by first | exact Nat.le_of_ble_eq_true rfl | omega | (dsimp only; omega) | (simp only [List.length_cons, List.length_nil]; omega)), (by first | exact Nat.le_of_ble_eq_true rfl | omega | (dsimp only; omega) | (simp only [List.length_cons, List.length_nil]; omega))⟩ (Nat.le_of_ble_eq_true rfl) dX25_act_72 (fun _ _ _ h => px0 h) ?_
        rintro _ _ ⟨rfl, rfl⟩
        refine V_st (st' := [.int (mf_priceOf σ (nI 2) a b n)]) rfl ?_
        refine V_istore_n C dX25_act_75 rfl (Nat.le_of_ble_eq_true rfl) [(0, .ref (qC g c9)), (1, .ref (qA g P9 K9)), (2, .ref (qH g 2)), (3, .int (mf_priceOf σ (nI 2) a b n))] [1, 2, 3, 0] rfl ?_
        refine V_aload_n C dX25_act_76 rfl 0 rfl ?_
        refine V_get C f_X25_39_4 hCc (v := .int (σ.2.1 24 c9)) rfl dX25_act_77 ?_
        refine V_iload_n C dX25_act_80 rfl 3 rfl ?_
        refine V_icmp_ge (tgt := 94) C dX25_act_81 (by decide) (fun c_81 => ?_) (fun c_81 => ?_)
        · exact absurd hlt (Int32.not_lt.mpr c_81)
        · refine V_aload_n C dX25_act_84 rfl 0 rfl ?_
          refine V_get C f_X25_3_4 hCc (v := .ref (qN g)) rfl dX25_act_85 ?_
          refine V_bipush (v := 8) C dX25_act_88 rfl ?_
          refine V_callVN C (c_X1_fail l hl G X N0 M (qN g) (qRl g) (qUl g) (qPl g) (qHs g) (qAn g) (σ.1 20) (σ.1 14) (σ.1 11) (σ.1 12) (σ.1 15) (z 0) (z 1) (z 2) (z 3) (z 4) (z 5) (σ.1 31) 8 hN) cs_X25_138_0 hN (show CLS[0]? = some (RX1, TX1, 17) from rfl) rfl rfl ⟨Nat.le_of_ble_eq_true rfl, Nat.le_of_ble_eq_true rfl⟩ ⟨(by first | exact Nat.le_of_ble_eq_true rfl | omega | (dsimp only; omega) | (simp only [List.length_cons, List.length_nil]; omega)), (by first | exact Nat.le_of_ble_eq_true rfl | omega | (dsimp only; omega) | (simp only [List.length_cons, List.length_nil]; omega))⟩ (Nat.le_of_ble_eq_true rfl) dX25_act_90 (fun _ _ _ h => px0 h) ?_
          rintro _ M_3 ⟨q_1, rfl, hq_2, hN_4, hF_5, fr_6, sh_7⟩
          refine V_st (st' := [.ref q_1]) rfl ?_
          refine V_athrow C hF_5 (show CLS[8]? = some (RX26, TX26, 7) from rfl) dX25_act_93 ?_
          exact VX_out C (fun z hz => by cases hz) (FLX.xb (FLX.of hR hq_2 hN_4 hF_5 fr_6 sh_7) (act_8 hAH hrw hlt) (by decide)) (by first | exact Nat.le_of_ble_eq_true rfl | omega | (dsimp only; omega) | (simp only [List.length_cons, List.length_nil]; omega)) (by first | exact Nat.le_of_ble_eq_true rfl | omega | (dsimp only; omega) | (simp only [List.length_cons, List.length_nil]; omega))
      · exact absurd c_41 (by decide)
set_option maxHeartbeats 1000000 in
theorem c_X25_act_2_w (l : Launch) (hl : l.stackTraces = false) (G : hp_G) (X : Nat → Nat) (N0 : Nat) (M : hp_h) (go : Nat → MS → Int32 × MS) (g : RG) (σ : MS) (z : Nat → Int32) (c9 : Nat) (hR : REL G (X 0) g σ z (σ.1 31) (c9 + 1) M) (hI : MI σ) (P9 K9 : Nat) (a i b j n : Int32) (hP9 : P9 < 6) (hK9 : K9 < psz σ P9) (hAF : AF σ P9 K9 = [.int (nI 2), .int a, .int i, .int b, .int j, .int n]) (hAH : AH9 σ c9 (nI 2) a i b j n) (hrw : mf_hasRows σ (nI 2) a b) (hge : ¬ σ.2.1 24 c9 < mf_priceOf σ (nI 2) a b n) (hm : MW σ) (hJ8 : nJ σ < 8000) : HM l yX25_act (ws_ yX25_act cX25_act 4 (some .long)) 29 11440 9 320 G X N0 [.ref (qC g c9), .ref (qA g P9 K9)] M (WB G (X 0) g σ z (c9 + 1) M (mf_actR go c9 σ)) (XB G (X 0) g σ z (c9 + 1) M (mf_actR go c9 σ)) := by
  refine HM.of hl [(0, .ref (qC g c9)), (1, .ref (qA g P9 K9))] (by decide +kernel) rfl (Nat.le_of_ble_eq_true rfl) ?_
  intro p e s m args below meth c C hname
  have hN := hR.N
  obtain ⟨fH, hHs, hHf⟩ := hR.Hs
  have hCc : M (qC g c9) = some (.inr (4, [.int (σ.2.1 21 c9), .int (σ.2.1 25 c9), .ref (qKl g c9), .ref (qW g c9), .int (σ.2.1 24 c9), .int (σ.2.1 23 c9 - σ.2.1 24 c9), .int (σ.2.1 22 c9), .ref (qN g)])) := hR.Cc (Nat.lt_succ_self c9)
  have hac : M (qA g P9 K9) = some (.inr (3, [.int (nI 2), .int a, .int i, .int b, .int j, .int n])) := (hR.A hP9 hK9).trans (congrArg (fun y => some (Sum.inr (3, y))) hAF)
  have hH9 : M (qH g 2) = some (.inr (12, [.int 1, .ref (qN g), .int 0, .int 10, .ref (qN g), .ref (qN g), .ref (qN g)])) := hR.H (by decide)
  refine V_aload_n C dX25_act_0 rfl 0 rfl ?_
  refine V_get C f_X25_3_4 hCc (v := .ref (qN g)) rfl dX25_act_1 ?_
  refine V_getN C f_X25_111_0 hN (v := .ref (qHs g)) rfl dX25_act_4 ?_
  refine V_aload_n C dX25_act_7 rfl 1 rfl ?_
  refine V_getN C f_X25_115_3 hac (v := .int (nI 2)) rfl dX25_act_8 ?_
  refine V_aald C (j := 14) rfl rfl hHs (vp_in_nI (by omega) (by omega)) dX25_act_11 ?_
  refine V_st (st' := [.ref (qH g 2)]) (by rw [nI_clamp (by omega), (hHf 2 (by decide))]; rfl) ?_
  refine V_astore_n C dX25_act_12 rfl (Nat.le_of_ble_eq_true rfl) [(0, .ref (qC g c9)), (1, .ref (qA g P9 K9)), (2, .ref (qH g 2))] [1, 2, 0] rfl ?_
  refine V_aload_n C dX25_act_13 rfl 1 rfl ?_
  refine V_getN C f_X25_115_3 hac (v := .int (nI 2)) rfl dX25_act_14 ?_
  refine V_callSN C (c_X1_needsRow l hl G X N0 M (nI 2)) cs_X25_120 rfl rfl ⟨Nat.le_of_ble_eq_true rfl, Nat.le_of_ble_eq_true rfl⟩ ⟨(by first | exact Nat.le_of_ble_eq_true rfl | omega | (dsimp only; omega) | (simp only [List.length_cons, List.length_nil]; omega)), (by first | exact Nat.le_of_ble_eq_true rfl | omega | (dsimp only; omega) | (simp only [List.length_cons, List.length_nil]; omega))⟩ (Nat.le_of_ble_eq_true rfl) dX25_act_17 (fun _ _ _ h => px0 h) ?_
  rintro _ _ ⟨rfl, rfl⟩
  refine V_st (st' := [.int (bI ((nI 2) ≠ 10 ∧ (nI 2) ≠ 11))]) rfl ?_
  refine V_if_eq (tgt := 67) C dX25_act_20 (by decide) (fun c_20 => ?_) (fun c_20 => ?_)
  · exact absurd (bI_0.mp c_20) (not_not_intro ⟨by decide, by decide⟩)
  · refine V_pc (pc1 := 23) rfl ?_
    refine V_aload_n C dX25_act_23 rfl 0 rfl ?_
    refine V_get C f_X25_3_4 hCc (v := .ref (qN g)) rfl dX25_act_24 ?_
    refine V_aload_n C dX25_act_27 rfl 1 rfl ?_
    refine V_getN C f_X25_123_3 hac (v := .int a) rfl dX25_act_28 ?_
    refine V_callVN C (c_X1_isRow l hl G X N0 M g σ z (σ.1 31) (c9 + 1) hR hI a) cs_X25_126_0 hN (show CLS[0]? = some (RX1, TX1, 17) from rfl) rfl rfl ⟨Nat.le_of_ble_eq_true rfl, Nat.le_of_ble_eq_true rfl⟩ ⟨(by first | exact Nat.le_of_ble_eq_true rfl | omega | (dsimp only; omega) | (simp only [List.length_cons, List.length_nil]; omega)), (by first | exact Nat.le_of_ble_eq_true rfl | omega | (dsimp only; omega) | (simp only [List.length_cons, List.length_nil]; omega))⟩ (Nat.le_of_ble_eq_true rfl) dX25_act_31 (fun _ _ _ h => px0 h) ?_
    rintro _ _ ⟨rfl, rfl⟩
    refine V_st (st' := [.int (bI (¬ a < 0 ∧ a < σ.1 1))]) rfl ?_
    refine V_if_eq (tgt := 58) C dX25_act_34 (by decide) (fun c_34 => ?_) (fun c_34 => ?_)
    · exact absurd (hrw.1.resolve_left (by decide)) (bI_0.mp c_34)
    · refine V_aload_n C dX25_act_37 rfl 2 rfl ?_
      refine V_callU C (c_X3_hasOther_12 l hl G X N0 M (qH g 2) (qN g) hH9) cs_X25_129_12 hH9 (show CLS[12]? = some (RX8, TX8, 7) from rfl) rfl rfl ⟨Nat.le_of_ble_eq_true rfl, Nat.le_of_ble_eq_true rfl⟩ ⟨(by first | exact Nat.le_of_ble_eq_true rfl | omega | (dsimp only; omega) | (simp only [List.length_cons, List.length_nil]; omega)), (by first | exact Nat.le_of_ble_eq_true rfl | omega | (dsimp only; omega) | (simp only [List.length_cons, List.length_nil]; omega))⟩ (Nat.le_of_ble_eq_true rfl) dX25_act_38 (fun _ _ _ h => px0 h) ?_
      rintro _ _ ⟨rfl, rfl⟩
      refine V_st (st' := [.int 0]) rfl ?_
      refine V_if_eq (tgt := 67) C dX25_act_41 (by decide) (fun c_41 => ?_) (fun c_41 => ?_)
      · refine V_aload_n C dX25_act_67 rfl 0 rfl ?_
        refine V_get C f_X25_3_4 hCc (v := .ref (qN g)) rfl dX25_act_68 ?_
        refine V_aload_n C dX25_act_71 rfl 1 rfl ?_
        refine V_pc (pc1 := 72) rfl ?_
        refine V_callVN C (c_X1_priceOf l hl G X N0 M g σ z (σ.1 31) (c9 + 1) hR hI (qA g P9 K9) 2 (by decide) (nI 2) a i b j n rfl hac hrw) cs_X25_142_0 hN (show CLS[0]? = some (RX1, TX1, 17) from rfl) rfl rfl ⟨Nat.le_of_ble_eq_true rfl, Nat.le_of_ble_eq_true rfl⟩ ⟨(by first | exact Nat.le_of_ble_eq_true rfl | omega | (dsimp only; omega) | (simp only [List.length_cons, List.length_nil]; omega)), (by first | exact Nat.le_of_ble_eq_true rfl | omega | (dsimp only; omega) | (simp only [List.length_cons, List.length_nil]; omega))⟩ (Nat.le_of_ble_eq_true rfl) dX25_act_72 (fun _ _ _ h => px0 h) ?_
        rintro _ _ ⟨rfl, rfl⟩
        refine V_st (st' := [.int (mf_priceOf σ (nI 2) a b n)]) rfl ?_
        refine V_istore_n C dX25_act_75 rfl (Nat.le_of_ble_eq_true rfl) [(0, .ref (qC g c9)), (1, .ref (qA g P9 K9)), (2, .ref (qH g 2)), (3, .int (mf_priceOf σ (nI 2) a b n))] [1, 2, 3, 0] rfl ?_
        refine V_aload_n C dX25_act_76 rfl 0 rfl ?_
        refine V_get C f_X25_39_4 hCc (v := .int (σ.2.1 24 c9)) rfl dX25_act_77 ?_
        refine V_iload_n C dX25_act_80 rfl 3 rfl ?_
        refine V_icmp_ge (tgt := 94) C dX25_act_81 (by decide) (fun c_81 => ?_) (fun c_81 => ?_)
        · obtain ⟨pr, hpr⟩ : ∃ y, y = mf_priceOf σ (nI 2) a b n := ⟨_, rfl⟩
          refine V_loc (L' := [(0, .ref (qC g c9)), (1, .ref (qA g P9 K9)), (2, .ref (qH g 2)), (3, .int pr)]) [0, 1, 2, 3] (by rw [hpr]; rfl) ?_
          have hfrP : hp_fr (fun b => b = qC g c9 ∨ b = qN g) M M := hp_fr.rf
          have hshP : hp_sh M M := hp_sh.rf
          have hneP : qC g c9 ≠ qN g := hR.ne (t := 15) (i := c9) (j := 0) (t' := 0) (i' := 0) (j' := 0) ⟨Nat.lt_succ_self c9, rfl⟩ ⟨by decide, rfl, rfl⟩ (by simp)
          refine V_aload_n C dX25_act_94 rfl 0 rfl ?_
          refine V_dup C dX25_act_95 rfl ?_
          refine V_get C f_X25_39_4 hCc (v := .int (σ.2.1 24 c9)) rfl dX25_act_96 ?_
          refine V_iload_n C dX25_act_99 rfl 3 rfl ?_
          refine V_isub C dX25_act_100 ?_
          refine V_put C f_X25_39_4 hCc rfl rfl (Nat.le_of_ble_eq_true rfl) dX25_act_101 ?_
          obtain ⟨M_1, eM_2⟩ : ∃ z, z = hp_up M (qC g c9) (.inr (4, [.int (σ.2.1 21 c9), .int (σ.2.1 25 c9), .ref (qKl g c9), .ref (qW g c9), .int ((σ.2.1 24 c9) - pr), .int (σ.2.1 23 c9 - σ.2.1 24 c9), .int (σ.2.1 22 c9), .ref (qN g)])) := ⟨_, rfl⟩
          refine V_heap (M' := M_1) eM_2.symm ?_
          have ho_3 : M_1 (qN g) = some (.inr (0, [.ref (qRl g), .ref (qUl g), .ref (qPl g), .ref (qHs g), .int (σ.1 20), .int (σ.1 14), .int (σ.1 11), .int (σ.1 12), .int (σ.1 15), .int (z 0), .int (z 1), .int (z 2), .int (z 3), .int (z 4), .int (z 5), .int (σ.1 31), .ref (qAn g)])) := by rw [eM_2, hp_up_n (Ne.symm hneP)]; exact hN
          have ho_4 : M_1 (qA g P9 K9) = some (.inr (3, [.int (nI 2), .int a, .int i, .int b, .int j, .int n])) := by rw [eM_2, hp_up_n (hp_ne hac hCc (by simp))]; exact hac
          have ho_5 : M_1 (qH g 2) = some (.inr (12, [.int 1, .ref (qN g), .int 0, .int 10, .ref (qN g), .ref (qN g), .ref (qN g)])) := by rw [eM_2, hp_up_n (hp_ne hH9 hCc (by simp))]; exact hH9
          have ha_6 : M_1 (qHs g) = some (.inl (G.2 14, 13, .inr (.inr (.inr (.inr fH))))) := by rw [eM_2, hp_up_n (hp_ne hHs hCc (by simp))]; exact hHs
          have eM_2_s : M_1 (qC g c9) = some (.inr (4, [.int (σ.2.1 21 c9), .int (σ.2.1 25 c9), .ref (qKl g c9), .ref (qW g c9), .int ((σ.2.1 24 c9) - pr), .int (σ.2.1 23 c9 - σ.2.1 24 c9), .int (σ.2.1 22 c9), .ref (qN g)])) := by rw [eM_2]; exact hp_up_s
          have fr_7 := hp_fr.set hfrP (Or.inl (Or.inl rfl)) eM_2
          have sh_8 := hp_sh.set hshP hCc eM_2 rfl
          refine V_pc (pc1 := 104) rfl ?_
          refine V_aload_n C dX25_act_104 rfl 0 rfl ?_
          refine V_dup C dX25_act_105 rfl ?_
          refine V_get C f_X25_146_4 eM_2_s (v := .int (σ.2.1 23 c9 - σ.2.1 24 c9)) rfl dX25_act_106 ?_
          refine V_iload_n C dX25_act_109 rfl 3 rfl ?_
          refine V_iadd C dX25_act_110 ?_
          refine V_put C f_X25_146_4 eM_2_s rfl rfl (Nat.le_of_ble_eq_true rfl) dX25_act_111 ?_
          obtain ⟨M_9, eM_10⟩ : ∃ z, z = hp_up M_1 (qC g c9) (.inr (4, [.int (σ.2.1 21 c9), .int (σ.2.1 25 c9), .ref (qKl g c9), .ref (qW g c9), .int ((σ.2.1 24 c9) - pr), .int ((σ.2.1 23 c9 - σ.2.1 24 c9) + pr), .int (σ.2.1 22 c9), .ref (qN g)])) := ⟨_, rfl⟩
          refine V_heap (M' := M_9) eM_10.symm ?_
          have ho_11 : M_9 (qN g) = some (.inr (0, [.ref (qRl g), .ref (qUl g), .ref (qPl g), .ref (qHs g), .int (σ.1 20), .int (σ.1 14), .int (σ.1 11), .int (σ.1 12), .int (σ.1 15), .int (z 0), .int (z 1), .int (z 2), .int (z 3), .int (z 4), .int (z 5), .int (σ.1 31), .ref (qAn g)])) := by rw [eM_10, hp_up_n (Ne.symm hneP)]; exact ho_3
          have ho_12 : M_9 (qA g P9 K9) = some (.inr (3, [.int (nI 2), .int a, .int i, .int b, .int j, .int n])) := by rw [eM_10, hp_up_n (hp_ne ho_4 eM_2_s (by simp))]; exact ho_4
          have ho_13 : M_9 (qH g 2) = some (.inr (12, [.int 1, .ref (qN g), .int 0, .int 10, .ref (qN g), .ref (qN g), .ref (qN g)])) := by rw [eM_10, hp_up_n (hp_ne ho_5 eM_2_s (by simp))]; exact ho_5
          have ha_14 : M_9 (qHs g) = some (.inl (G.2 14, 13, .inr (.inr (.inr (.inr fH))))) := by rw [eM_10, hp_up_n (hp_ne ha_6 eM_2_s (by simp))]; exact ha_6
          have eM_10_s : M_9 (qC g c9) = some (.inr (4, [.int (σ.2.1 21 c9), .int (σ.2.1 25 c9), .ref (qKl g c9), .ref (qW g c9), .int ((σ.2.1 24 c9) - pr), .int ((σ.2.1 23 c9 - σ.2.1 24 c9) + pr), .int (σ.2.1 22 c9), .ref (qN g)])) := by rw [eM_10]; exact hp_up_s
          have fr_15 := hp_fr.set fr_7 (Or.inl (Or.inl rfl)) eM_10
          have sh_16 := hp_sh.set sh_8 eM_2_s eM_10 rfl
          refine V_aload_n C dX25_act_114 rfl 0 rfl ?_
          refine V_get C f_X25_3_4 eM_10_s (v := .ref (qN g)) rfl dX25_act_115 ?_
          refine V_dup C dX25_act_118 rfl ?_
          refine V_getN C f_X25_149_0 ho_11 (v := .int (σ.1 11)) rfl dX25_act_119 ?_
          refine V_iconst (v := 1) C dX25_act_122 rfl ?_
          refine V_iadd C dX25_act_123 ?_
          refine V_pc (pc1 := 124) rfl ?_
          refine V_putN C f_X25_149_0 ho_11 rfl rfl (Nat.le_of_ble_eq_true rfl) dX25_act_124 ?_
          obtain ⟨M_17, eM_18⟩ : ∃ z9, z9 = hp_up M_9 (qN g) (.inr (0, [.ref (qRl g), .ref (qUl g), .ref (qPl g), .ref (qHs g), .int (σ.1 20), .int (σ.1 14), .int ((σ.1 11) + 1), .int (σ.1 12), .int (σ.1 15), .int (z 0), .int (z 1), .int (z 2), .int (z 3), .int (z 4), .int (z 5), .int (σ.1 31), .ref (qAn g)])) := ⟨_, rfl⟩
          refine V_heap (M' := M_17) eM_18.symm ?_
          have ho_19 : M_17 (qC g c9) = some (.inr (4, [.int (σ.2.1 21 c9), .int (σ.2.1 25 c9), .ref (qKl g c9), .ref (qW g c9), .int ((σ.2.1 24 c9) - pr), .int ((σ.2.1 23 c9 - σ.2.1 24 c9) + pr), .int (σ.2.1 22 c9), .ref (qN g)])) := by rw [eM_18, hp_up_n hneP]; exact eM_10_s
          have ho_20 : M_17 (qA g P9 K9) = some (.inr (3, [.int (nI 2), .int a, .int i, .int b, .int j, .int n])) := by rw [eM_18, hp_up_n (hp_ne ho_12 ho_11 (by simp))]; exact ho_12
          have ho_21 : M_17 (qH g 2) = some (.inr (12, [.int 1, .ref (qN g), .int 0, .int 10, .ref (qN g), .ref (qN g), .ref (qN g)])) := by rw [eM_18, hp_up_n (hp_ne ho_13 ho_11 (by simp))]; exact ho_13
          have ha_22 : M_17 (qHs g) = some (.inl (G.2 14, 13, .inr (.inr (.inr (.inr fH))))) := by rw [eM_18, hp_up_n (hp_ne ha_14 ho_11 (by simp))]; exact ha_14
          have eM_18_s : M_17 (qN g) = some (.inr (0, [.ref (qRl g), .ref (qUl g), .ref (qPl g), .ref (qHs g), .int (σ.1 20), .int (σ.1 14), .int ((σ.1 11) + 1), .int (σ.1 12), .int (σ.1 15), .int (z 0), .int (z 1), .int (z 2), .int (z 3), .int (z 4), .int (z 5), .int (σ.1 31), .ref (qAn g)])) := by rw [eM_18]; exact hp_up_s
          have fr_23 := hp_fr.set fr_15 (Or.inl (Or.inr rfl)) eM_18
          have sh_24 := hp_sh.set sh_16 ho_11 eM_18 rfl
          have hpay := hR.pay (pr := pr) (Nat.lt_succ_self c9) ho_19 eM_18_s fr_23 sh_24
          have hact : mf_actR go c9 σ = mf_workR go c9 (mf_pay c9 pr σ) 2 a i b j n := by rw [hpr]; exact act_w hAH hrw hge
          refine V_aload_n C dX25_act_127 rfl 2 rfl ?_
          refine V_aload_n C dX25_act_128 rfl 1 rfl ?_
          refine V_aload_n C dX25_act_129 rfl 0 rfl ?_
          have hRs : REL G (X 0) g (sa (mf_pay c9 pr σ) 0) z ((sa (mf_pay c9 pr σ) 0).1 31) (c9 + 1) M_17 := hpay.1.view VW.sa
          have hIs : MI (sa (mf_pay c9 pr σ) 0) := (MQ9.same (σ := σ) ⟨hI, hm⟩ rfl rfl rfl (fun k hk => by rcases hk with rfl | rfl | rfl | rfl | rfl | rfl <;> rfl) rfl).1
          have hms : MW (sa (mf_pay c9 pr σ) 0) := (MQ9.same (σ := σ) ⟨hI, hm⟩ rfl rfl rfl (fun k hk => by rcases hk with rfl | rfl | rfl | rfl | rfl | rfl <;> rfl) rfl).2
          obtain ⟨rr, hr, hra⟩ := hI.row (hrw.1.resolve_left (by decide))
          have hdn : mf_actR go c9 σ = mf_dr (mf_fill (sa (mf_pay c9 pr σ) 0) rr i j n) := by
            rw [hact, hra]
            show mf_dr (mf_done (mf_pay c9 pr σ) 2 (nI rr) i b j n) = _
            have hR60 := hI.R.2
            have e1 : (nI rr).toNatClampNeg = rr := nI_clamp (by omega)
            unfold mf_done
            rw [if_neg (by decide), if_neg (by decide), if_pos rfl, e1]
          refine V_callAX C (c_work_2 l hl G X N0 M_17 g (sa (mf_pay c9 pr σ) 0) z (c9 + 1) c9 rfl hRs hIs P9 K9 rr (nI 2) i b j n hP9 hK9 hr (show AF (sa (mf_pay c9 pr σ) 0) P9 K9 = [.int (nI 2), .int (nI rr), .int i, .int b, .int j, .int n] from by rw [← hra]; exact hAF) hms rfl hJ8) cs_X25_151_12 ho_21 (show CLS[12]? = some (RX8, TX8, 7) from rfl) rfl rfl ⟨Nat.le_of_ble_eq_true rfl, Nat.le_of_ble_eq_true rfl⟩ ⟨(by first | exact Nat.le_of_ble_eq_true rfl | omega | (dsimp only; omega) | (simp only [List.length_cons, List.length_nil]; omega)), (by first | exact Nat.le_of_ble_eq_true rfl | omega | (dsimp only; omega) | (simp only [List.length_cons, List.length_nil]; omega))⟩ (Nat.le_of_ble_eq_true rfl) dX25_act_130 (fun q9 E9 M9 h9 => by have h8 : XB G (X 0) g σ z (c9 + 1) M (mf_actR go c9 σ) q9 E9 M9 := by { rw [hdn]; exact XB.pre (σ := σ) (τ := (sa (mf_pay c9 pr σ) 0)) (hpay.2.view VW.sa) rfl rfl rfl rfl (WX.dr h9) }; obtain rfl := h8.2.1; exact VX_out C (fun z hz => by cases hz) h8 (by first | exact Nat.le_of_ble_eq_true rfl | omega | (dsimp only; omega) | (simp only [List.length_cons, List.length_nil]; omega)) (by first | exact Nat.le_of_ble_eq_true rfl | omega | (dsimp only; omega) | (simp only [List.length_cons, List.length_nil]; omega))) ?_
          rintro v9 M_25 hv9
          have hwb : WB G (X 0) g σ z (c9 + 1) M (mf_actR go c9 σ) v9 M_25 := by rw [hdn]; exact WB.pre (σ := σ) (τ := (sa (mf_pay c9 pr σ) 0)) (hpay.2.view VW.sa) rfl rfl rfl rfl (WP.dr hv9)
          obtain rfl := hv9.2.1
          refine V_st (st' := [.long ((mf_fill (sa (mf_pay c9 pr σ) 0) rr i j n).2.2.2.2)]) rfl ?_
          refine V_lret C dX25_act_133 rfl ?_ (by first | exact Nat.le_of_ble_eq_true rfl | omega | (dsimp only; omega) | (simp only [List.length_cons, List.length_nil]; omega)) (by first | exact Nat.le_of_ble_eq_true rfl | omega | (dsimp only; omega) | (simp only [List.length_cons, List.length_nil]; omega))
          exact hwb
        · exact absurd (Int32.not_le.mp c_81) hge
      · exact absurd c_41 (by decide)
set_option maxHeartbeats 1000000 in
theorem c_X25_act_3_1 (l : Launch) (hl : l.stackTraces = false) (G : hp_G) (X : Nat → Nat) (N0 : Nat) (M : hp_h) (go : Nat → MS → Int32 × MS) (g : RG) (σ : MS) (z : Nat → Int32) (c9 : Nat) (hR : REL G (X 0) g σ z (σ.1 31) (c9 + 1) M) (hI : MI σ) (P9 K9 : Nat) (a i b j n : Int32) (hP9 : P9 < 6) (hK9 : K9 < psz σ P9) (hAF : AF σ P9 K9 = [.int (nI 3), .int a, .int i, .int b, .int j, .int n]) (hAH : AH9 σ c9 (nI 3) a i b j n) (hn : ¬ mf_hasRows σ (nI 3) a b) : HM l yX25_act (ws_ yX25_act cX25_act 4 (some .long)) 29 11440 1 7 G X N0 [.ref (qC g c9), .ref (qA g P9 K9)] M PFF (XB G (X 0) g σ z (c9 + 1) M (mf_actR go c9 σ)) := by
  refine HM.of hl [(0, .ref (qC g c9)), (1, .ref (qA g P9 K9))] (by decide +kernel) rfl (Nat.le_of_ble_eq_true rfl) ?_
  intro p e s m args below meth c C hname
  have hN := hR.N
  obtain ⟨fH, hHs, hHf⟩ := hR.Hs
  have hCc : M (qC g c9) = some (.inr (4, [.int (σ.2.1 21 c9), .int (σ.2.1 25 c9), .ref (qKl g c9), .ref (qW g c9), .int (σ.2.1 24 c9), .int (σ.2.1 23 c9 - σ.2.1 24 c9), .int (σ.2.1 22 c9), .ref (qN g)])) := hR.Cc (Nat.lt_succ_self c9)
  have hac : M (qA g P9 K9) = some (.inr (3, [.int (nI 3), .int a, .int i, .int b, .int j, .int n])) := (hR.A hP9 hK9).trans (congrArg (fun y => some (Sum.inr (3, y))) hAF)
  have hH9 : M (qH g 3) = some (.inr (13, [.int 1, .ref (qN g), .int 0, .int 10, .ref (qN g), .ref (qN g), .ref (qN g)])) := hR.H (by decide)
  refine V_aload_n C dX25_act_0 rfl 0 rfl ?_
  refine V_get C f_X25_3_4 hCc (v := .ref (qN g)) rfl dX25_act_1 ?_
  refine V_getN C f_X25_111_0 hN (v := .ref (qHs g)) rfl dX25_act_4 ?_
  refine V_aload_n C dX25_act_7 rfl 1 rfl ?_
  refine V_getN C f_X25_115_3 hac (v := .int (nI 3)) rfl dX25_act_8 ?_
  refine V_aald C (j := 14) rfl rfl hHs (vp_in_nI (by omega) (by omega)) dX25_act_11 ?_
  refine V_st (st' := [.ref (qH g 3)]) (by rw [nI_clamp (by omega), (hHf 3 (by decide))]; rfl) ?_
  refine V_astore_n C dX25_act_12 rfl (Nat.le_of_ble_eq_true rfl) [(0, .ref (qC g c9)), (1, .ref (qA g P9 K9)), (2, .ref (qH g 3))] [1, 2, 0] rfl ?_
  refine V_aload_n C dX25_act_13 rfl 1 rfl ?_
  refine V_getN C f_X25_115_3 hac (v := .int (nI 3)) rfl dX25_act_14 ?_
  refine V_callSN C (c_X1_needsRow l hl G X N0 M (nI 3)) cs_X25_120 rfl rfl ⟨Nat.le_of_ble_eq_true rfl, Nat.le_of_ble_eq_true rfl⟩ ⟨(by first | exact Nat.le_of_ble_eq_true rfl | omega | (dsimp only; omega) | (simp only [List.length_cons, List.length_nil]; omega)), (by first | exact Nat.le_of_ble_eq_true rfl | omega | (dsimp only; omega) | (simp only [List.length_cons, List.length_nil]; omega))⟩ (Nat.le_of_ble_eq_true rfl) dX25_act_17 (fun _ _ _ h => px0 h) ?_
  rintro _ _ ⟨rfl, rfl⟩
  refine V_st (st' := [.int (bI ((nI 3) ≠ 10 ∧ (nI 3) ≠ 11))]) rfl ?_
  refine V_if_eq (tgt := 67) C dX25_act_20 (by decide) (fun c_20 => ?_) (fun c_20 => ?_)
  · exact absurd (bI_0.mp c_20) (not_not_intro ⟨by decide, by decide⟩)
  · refine V_pc (pc1 := 23) rfl ?_
    refine V_aload_n C dX25_act_23 rfl 0 rfl ?_
    refine V_get C f_X25_3_4 hCc (v := .ref (qN g)) rfl dX25_act_24 ?_
    refine V_aload_n C dX25_act_27 rfl 1 rfl ?_
    refine V_getN C f_X25_123_3 hac (v := .int a) rfl dX25_act_28 ?_
    refine V_callVN C (c_X1_isRow l hl G X N0 M g σ z (σ.1 31) (c9 + 1) hR hI a) cs_X25_126_0 hN (show CLS[0]? = some (RX1, TX1, 17) from rfl) rfl rfl ⟨Nat.le_of_ble_eq_true rfl, Nat.le_of_ble_eq_true rfl⟩ ⟨(by first | exact Nat.le_of_ble_eq_true rfl | omega | (dsimp only; omega) | (simp only [List.length_cons, List.length_nil]; omega)), (by first | exact Nat.le_of_ble_eq_true rfl | omega | (dsimp only; omega) | (simp only [List.length_cons, List.length_nil]; omega))⟩ (Nat.le_of_ble_eq_true rfl) dX25_act_31 (fun _ _ _ h => px0 h) ?_
    rintro _ _ ⟨rfl, rfl⟩
    refine V_st (st' := [.int (bI (¬ a < 0 ∧ a < σ.1 1))]) rfl ?_
    refine V_if_eq (tgt := 58) C dX25_act_34 (by decide) (fun c_34 => ?_) (fun c_34 => ?_)
    · refine V_aload_n C dX25_act_58 rfl 0 rfl ?_
      refine V_get C f_X25_3_4 hCc (v := .ref (qN g)) rfl dX25_act_59 ?_
      refine V_iconst (v := 1) C dX25_act_62 rfl ?_
      refine V_callVN C (c_X1_fail l hl G X N0 M (qN g) (qRl g) (qUl g) (qPl g) (qHs g) (qAn g) (σ.1 20) (σ.1 14) (σ.1 11) (σ.1 12) (σ.1 15) (z 0) (z 1) (z 2) (z 3) (z 4) (z 5) (σ.1 31) 1 hN) cs_X25_138_0 hN (show CLS[0]? = some (RX1, TX1, 17) from rfl) rfl rfl ⟨Nat.le_of_ble_eq_true rfl, Nat.le_of_ble_eq_true rfl⟩ ⟨(by first | exact Nat.le_of_ble_eq_true rfl | omega | (dsimp only; omega) | (simp only [List.length_cons, List.length_nil]; omega)), (by first | exact Nat.le_of_ble_eq_true rfl | omega | (dsimp only; omega) | (simp only [List.length_cons, List.length_nil]; omega))⟩ (Nat.le_of_ble_eq_true rfl) dX25_act_63 (fun _ _ _ h => px0 h) ?_
      rintro _ M_3 ⟨q_1, rfl, hq_2, hN_4, hF_5, fr_6, sh_7⟩
      refine V_st (st' := [.ref q_1]) rfl ?_
      refine V_athrow C hF_5 (show CLS[8]? = some (RX26, TX26, 7) from rfl) dX25_act_66 ?_
      exact VX_out C (fun z hz => by cases hz) (FLX.xb (FLX.of hR hq_2 hN_4 hF_5 fr_6 sh_7) (act_1 hAH hn) (by decide)) (by first | exact Nat.le_of_ble_eq_true rfl | omega | (dsimp only; omega) | (simp only [List.length_cons, List.length_nil]; omega)) (by first | exact Nat.le_of_ble_eq_true rfl | omega | (dsimp only; omega) | (simp only [List.length_cons, List.length_nil]; omega))
    · refine V_aload_n C dX25_act_37 rfl 2 rfl ?_
      refine V_callO C (c_X9_hasOther_13 l hl G X N0 M (qH g 3) (qN g) hH9) cs_X25_129_13 hH9 (show CLS[13]? = some (RX10, TX10, 7) from rfl) rfl rfl ⟨Nat.le_of_ble_eq_true rfl, Nat.le_of_ble_eq_true rfl⟩ ⟨(by first | exact Nat.le_of_ble_eq_true rfl | omega | (dsimp only; omega) | (simp only [List.length_cons, List.length_nil]; omega)), (by first | exact Nat.le_of_ble_eq_true rfl | omega | (dsimp only; omega) | (simp only [List.length_cons, List.length_nil]; omega))⟩ (Nat.le_of_ble_eq_true rfl) dX25_act_38 (fun _ _ _ h => px0 h) ?_
      rintro _ _ ⟨rfl, rfl⟩
      refine V_st (st' := [.int 1]) rfl ?_
      refine V_if_eq (tgt := 67) C dX25_act_41 (by decide) (fun c_41 => ?_) (fun c_41 => ?_)
      · exact absurd c_41 (by decide)
      · refine V_aload_n C dX25_act_44 rfl 0 rfl ?_
        refine V_get C f_X25_3_4 hCc (v := .ref (qN g)) rfl dX25_act_45 ?_
        refine V_aload_n C dX25_act_48 rfl 1 rfl ?_
        refine V_pc (pc1 := 49) rfl ?_
        refine V_getN C f_X25_135_3 hac (v := .int b) rfl dX25_act_49 ?_
        refine V_callVN C (c_X1_isRow l hl G X N0 M g σ z (σ.1 31) (c9 + 1) hR hI b) cs_X25_126_0 hN (show CLS[0]? = some (RX1, TX1, 17) from rfl) rfl rfl ⟨Nat.le_of_ble_eq_true rfl, Nat.le_of_ble_eq_true rfl⟩ ⟨(by first | exact Nat.le_of_ble_eq_true rfl | omega | (dsimp only; omega) | (simp only [List.length_cons, List.length_nil]; omega)), (by first | exact Nat.le_of_ble_eq_true rfl | omega | (dsimp only; omega) | (simp only [List.length_cons, List.length_nil]; omega))⟩ (Nat.le_of_ble_eq_true rfl) dX25_act_52 (fun _ _ _ h => px0 h) ?_
        rintro _ _ ⟨rfl, rfl⟩
        refine V_st (st' := [.int (bI (¬ b < 0 ∧ b < σ.1 1))]) rfl ?_
        refine V_if_ne (tgt := 67) C dX25_act_55 (by decide) (fun c_55 => ?_) (fun c_55 => ?_)
        · exact absurd (show mf_hasRows σ (nI 3) a b from ⟨Or.inr (bI_n.mp c_34), Or.inr (bI_n.mp c_55)⟩) hn
        · refine V_aload_n C dX25_act_58 rfl 0 rfl ?_
          refine V_get C f_X25_3_4 hCc (v := .ref (qN g)) rfl dX25_act_59 ?_
          refine V_iconst (v := 1) C dX25_act_62 rfl ?_
          refine V_callVN C (c_X1_fail l hl G X N0 M (qN g) (qRl g) (qUl g) (qPl g) (qHs g) (qAn g) (σ.1 20) (σ.1 14) (σ.1 11) (σ.1 12) (σ.1 15) (z 0) (z 1) (z 2) (z 3) (z 4) (z 5) (σ.1 31) 1 hN) cs_X25_138_0 hN (show CLS[0]? = some (RX1, TX1, 17) from rfl) rfl rfl ⟨Nat.le_of_ble_eq_true rfl, Nat.le_of_ble_eq_true rfl⟩ ⟨(by first | exact Nat.le_of_ble_eq_true rfl | omega | (dsimp only; omega) | (simp only [List.length_cons, List.length_nil]; omega)), (by first | exact Nat.le_of_ble_eq_true rfl | omega | (dsimp only; omega) | (simp only [List.length_cons, List.length_nil]; omega))⟩ (Nat.le_of_ble_eq_true rfl) dX25_act_63 (fun _ _ _ h => px0 h) ?_
          rintro _ M_10 ⟨q_8, rfl, hq_9, hN_11, hF_12, fr_13, sh_14⟩
          refine V_st (st' := [.ref q_8]) rfl ?_
          refine V_athrow C hF_12 (show CLS[8]? = some (RX26, TX26, 7) from rfl) dX25_act_66 ?_
          exact VX_out C (fun z hz => by cases hz) (FLX.xb (FLX.of hR hq_9 hN_11 hF_12 fr_13 sh_14) (act_1 hAH hn) (by decide)) (by first | exact Nat.le_of_ble_eq_true rfl | omega | (dsimp only; omega) | (simp only [List.length_cons, List.length_nil]; omega)) (by first | exact Nat.le_of_ble_eq_true rfl | omega | (dsimp only; omega) | (simp only [List.length_cons, List.length_nil]; omega))
set_option maxHeartbeats 1000000 in
theorem c_X25_act_3_8 (l : Launch) (hl : l.stackTraces = false) (G : hp_G) (X : Nat → Nat) (N0 : Nat) (M : hp_h) (go : Nat → MS → Int32 × MS) (g : RG) (σ : MS) (z : Nat → Int32) (c9 : Nat) (hR : REL G (X 0) g σ z (σ.1 31) (c9 + 1) M) (hI : MI σ) (P9 K9 : Nat) (a i b j n : Int32) (hP9 : P9 < 6) (hK9 : K9 < psz σ P9) (hAF : AF σ P9 K9 = [.int (nI 3), .int a, .int i, .int b, .int j, .int n]) (hAH : AH9 σ c9 (nI 3) a i b j n) (hrw : mf_hasRows σ (nI 3) a b) (hlt : σ.2.1 24 c9 < mf_priceOf σ (nI 3) a b n) : HM l yX25_act (ws_ yX25_act cX25_act 4 (some .long)) 29 11440 1 7 G X N0 [.ref (qC g c9), .ref (qA g P9 K9)] M PFF (XB G (X 0) g σ z (c9 + 1) M (mf_actR go c9 σ)) := by
  refine HM.of hl [(0, .ref (qC g c9)), (1, .ref (qA g P9 K9))] (by decide +kernel) rfl (Nat.le_of_ble_eq_true rfl) ?_
  intro p e s m args below meth c C hname
  have hN := hR.N
  obtain ⟨fH, hHs, hHf⟩ := hR.Hs
  have hCc : M (qC g c9) = some (.inr (4, [.int (σ.2.1 21 c9), .int (σ.2.1 25 c9), .ref (qKl g c9), .ref (qW g c9), .int (σ.2.1 24 c9), .int (σ.2.1 23 c9 - σ.2.1 24 c9), .int (σ.2.1 22 c9), .ref (qN g)])) := hR.Cc (Nat.lt_succ_self c9)
  have hac : M (qA g P9 K9) = some (.inr (3, [.int (nI 3), .int a, .int i, .int b, .int j, .int n])) := (hR.A hP9 hK9).trans (congrArg (fun y => some (Sum.inr (3, y))) hAF)
  have hH9 : M (qH g 3) = some (.inr (13, [.int 1, .ref (qN g), .int 0, .int 10, .ref (qN g), .ref (qN g), .ref (qN g)])) := hR.H (by decide)
  refine V_aload_n C dX25_act_0 rfl 0 rfl ?_
  refine V_get C f_X25_3_4 hCc (v := .ref (qN g)) rfl dX25_act_1 ?_
  refine V_getN C f_X25_111_0 hN (v := .ref (qHs g)) rfl dX25_act_4 ?_
  refine V_aload_n C dX25_act_7 rfl 1 rfl ?_
  refine V_getN C f_X25_115_3 hac (v := .int (nI 3)) rfl dX25_act_8 ?_
  refine V_aald C (j := 14) rfl rfl hHs (vp_in_nI (by omega) (by omega)) dX25_act_11 ?_
  refine V_st (st' := [.ref (qH g 3)]) (by rw [nI_clamp (by omega), (hHf 3 (by decide))]; rfl) ?_
  refine V_astore_n C dX25_act_12 rfl (Nat.le_of_ble_eq_true rfl) [(0, .ref (qC g c9)), (1, .ref (qA g P9 K9)), (2, .ref (qH g 3))] [1, 2, 0] rfl ?_
  refine V_aload_n C dX25_act_13 rfl 1 rfl ?_
  refine V_getN C f_X25_115_3 hac (v := .int (nI 3)) rfl dX25_act_14 ?_
  refine V_callSN C (c_X1_needsRow l hl G X N0 M (nI 3)) cs_X25_120 rfl rfl ⟨Nat.le_of_ble_eq_true rfl, Nat.le_of_ble_eq_true rfl⟩ ⟨(by first | exact Nat.le_of_ble_eq_true rfl | omega | (dsimp only; omega) | (simp only [List.length_cons, List.length_nil]; omega)), (by first | exact Nat.le_of_ble_eq_true rfl | omega | (dsimp only; omega) | (simp only [List.length_cons, List.length_nil]; omega))⟩ (Nat.le_of_ble_eq_true rfl) dX25_act_17 (fun _ _ _ h => px0 h) ?_
  rintro _ _ ⟨rfl, rfl⟩
  refine V_st (st' := [.int (bI ((nI 3) ≠ 10 ∧ (nI 3) ≠ 11))]) rfl ?_
  refine V_if_eq (tgt := 67) C dX25_act_20 (by decide) (fun c_20 => ?_) (fun c_20 => ?_)
  · exact absurd (bI_0.mp c_20) (not_not_intro ⟨by decide, by decide⟩)
  · refine V_pc (pc1 := 23) rfl ?_
    refine V_aload_n C dX25_act_23 rfl 0 rfl ?_
    refine V_get C f_X25_3_4 hCc (v := .ref (qN g)) rfl dX25_act_24 ?_
    refine V_aload_n C dX25_act_27 rfl 1 rfl ?_
    refine V_getN C f_X25_123_3 hac (v := .int a) rfl dX25_act_28 ?_
    refine V_callVN C (c_X1_isRow l hl G X N0 M g σ z (σ.1 31) (c9 + 1) hR hI a) cs_X25_126_0 hN (show CLS[0]? = some (RX1, TX1, 17) from rfl) rfl rfl ⟨Nat.le_of_ble_eq_true rfl, Nat.le_of_ble_eq_true rfl⟩ ⟨(by first | exact Nat.le_of_ble_eq_true rfl | omega | (dsimp only; omega) | (simp only [List.length_cons, List.length_nil]; omega)), (by first | exact Nat.le_of_ble_eq_true rfl | omega | (dsimp only; omega) | (simp only [List.length_cons, List.length_nil]; omega))⟩ (Nat.le_of_ble_eq_true rfl) dX25_act_31 (fun _ _ _ h => px0 h) ?_
    rintro _ _ ⟨rfl, rfl⟩
    refine V_st (st' := [.int (bI (¬ a < 0 ∧ a < σ.1 1))]) rfl ?_
    refine V_if_eq (tgt := 58) C dX25_act_34 (by decide) (fun c_34 => ?_) (fun c_34 => ?_)
    · exact absurd (hrw.1.resolve_left (by decide)) (bI_0.mp c_34)
    · refine V_aload_n C dX25_act_37 rfl 2 rfl ?_
      refine V_callO C (c_X9_hasOther_13 l hl G X N0 M (qH g 3) (qN g) hH9) cs_X25_129_13 hH9 (show CLS[13]? = some (RX10, TX10, 7) from rfl) rfl rfl ⟨Nat.le_of_ble_eq_true rfl, Nat.le_of_ble_eq_true rfl⟩ ⟨(by first | exact Nat.le_of_ble_eq_true rfl | omega | (dsimp only; omega) | (simp only [List.length_cons, List.length_nil]; omega)), (by first | exact Nat.le_of_ble_eq_true rfl | omega | (dsimp only; omega) | (simp only [List.length_cons, List.length_nil]; omega))⟩ (Nat.le_of_ble_eq_true rfl) dX25_act_38 (fun _ _ _ h => px0 h) ?_
      rintro _ _ ⟨rfl, rfl⟩
      refine V_st (st' := [.int 1]) rfl ?_
      refine V_if_eq (tgt := 67) C dX25_act_41 (by decide) (fun c_41 => ?_) (fun c_41 => ?_)
      · exact absurd c_41 (by decide)
      · refine V_aload_n C dX25_act_44 rfl 0 rfl ?_
        refine V_get C f_X25_3_4 hCc (v := .ref (qN g)) rfl dX25_act_45 ?_
        refine V_aload_n C dX25_act_48 rfl 1 rfl ?_
        refine V_pc (pc1 := 49) rfl ?_
        refine V_getN C f_X25_135_3 hac (v := .int b) rfl dX25_act_49 ?_
        refine V_callVN C (c_X1_isRow l hl G X N0 M g σ z (σ.1 31) (c9 + 1) hR hI b) cs_X25_126_0 hN (show CLS[0]? = some (RX1, TX1, 17) from rfl) rfl rfl ⟨Nat.le_of_ble_eq_true rfl, Nat.le_of_ble_eq_true rfl⟩ ⟨(by first | exact Nat.le_of_ble_eq_true rfl | omega | (dsimp only; omega) | (simp only [List.length_cons, List.length_nil]; omega)), (by first | exact Nat.le_of_ble_eq_true rfl | omega | (dsimp only; omega) | (simp only [List.length_cons, List.length_nil]; omega))⟩ (Nat.le_of_ble_eq_true rfl) dX25_act_52 (fun _ _ _ h => px0 h) ?_
        rintro _ _ ⟨rfl, rfl⟩
        refine V_st (st' := [.int (bI (¬ b < 0 ∧ b < σ.1 1))]) rfl ?_
        refine V_if_ne (tgt := 67) C dX25_act_55 (by decide) (fun c_55 => ?_) (fun c_55 => ?_)
        · refine V_aload_n C dX25_act_67 rfl 0 rfl ?_
          refine V_get C f_X25_3_4 hCc (v := .ref (qN g)) rfl dX25_act_68 ?_
          refine V_aload_n C dX25_act_71 rfl 1 rfl ?_
          refine V_callVN C (c_X1_priceOf l hl G X N0 M g σ z (σ.1 31) (c9 + 1) hR hI (qA g P9 K9) 3 (by decide) (nI 3) a i b j n rfl hac hrw) cs_X25_142_0 hN (show CLS[0]? = some (RX1, TX1, 17) from rfl) rfl rfl ⟨Nat.le_of_ble_eq_true rfl, Nat.le_of_ble_eq_true rfl⟩ ⟨(by first | exact Nat.le_of_ble_eq_true rfl | omega | (dsimp only; omega) | (simp only [List.length_cons, List.length_nil]; omega)), (by first | exact Nat.le_of_ble_eq_true rfl | omega | (dsimp only; omega) | (simp only [List.length_cons, List.length_nil]; omega))⟩ (Nat.le_of_ble_eq_true rfl) dX25_act_72 (fun _ _ _ h => px0 h) ?_
          rintro _ _ ⟨rfl, rfl⟩
          refine V_st (st' := [.int (mf_priceOf σ (nI 3) a b n)]) rfl ?_
          refine V_istore_n C dX25_act_75 rfl (Nat.le_of_ble_eq_true rfl) [(0, .ref (qC g c9)), (1, .ref (qA g P9 K9)), (2, .ref (qH g 3)), (3, .int (mf_priceOf σ (nI 3) a b n))] [1, 2, 3, 0] rfl ?_
          refine V_aload_n C dX25_act_76 rfl 0 rfl ?_
          refine V_get C f_X25_39_4 hCc (v := .int (σ.2.1 24 c9)) rfl dX25_act_77 ?_
          refine V_iload_n C dX25_act_80 rfl 3 rfl ?_
          refine V_icmp_ge (tgt := 94) C dX25_act_81 (by decide) (fun c_81 => ?_) (fun c_81 => ?_)
          · exact absurd hlt (Int32.not_lt.mpr c_81)
          · refine V_pc (pc1 := 84) rfl ?_
            refine V_aload_n C dX25_act_84 rfl 0 rfl ?_
            refine V_get C f_X25_3_4 hCc (v := .ref (qN g)) rfl dX25_act_85 ?_
            refine V_bipush (v := 8) C dX25_act_88 rfl ?_
            refine V_callVN C (c_X1_fail l hl G X N0 M (qN g) (qRl g) (qUl g) (qPl g) (qHs g) (qAn g) (σ.1 20) (σ.1 14) (σ.1 11) (σ.1 12) (σ.1 15) (z 0) (z 1) (z 2) (z 3) (z 4) (z 5) (σ.1 31) 8 hN) cs_X25_138_0 hN (show CLS[0]? = some (RX1, TX1, 17) from rfl) rfl rfl ⟨Nat.le_of_ble_eq_true rfl, Nat.le_of_ble_eq_true rfl⟩ ⟨(by first | exact Nat.le_of_ble_eq_true rfl | omega | (dsimp only; omega) | (simp only [List.length_cons, List.length_nil]; omega)), (by first | exact Nat.le_of_ble_eq_true rfl | omega | (dsimp only; omega) | (simp only [List.length_cons, List.length_nil]; omega))⟩ (Nat.le_of_ble_eq_true rfl) dX25_act_90 (fun _ _ _ h => px0 h) ?_
            rintro _ M_3 ⟨q_1, rfl, hq_2, hN_4, hF_5, fr_6, sh_7⟩
            refine V_st (st' := [.ref q_1]) rfl ?_
            refine V_athrow C hF_5 (show CLS[8]? = some (RX26, TX26, 7) from rfl) dX25_act_93 ?_
            exact VX_out C (fun z hz => by cases hz) (FLX.xb (FLX.of hR hq_2 hN_4 hF_5 fr_6 sh_7) (act_8 hAH hrw hlt) (by decide)) (by first | exact Nat.le_of_ble_eq_true rfl | omega | (dsimp only; omega) | (simp only [List.length_cons, List.length_nil]; omega)) (by first | exact Nat.le_of_ble_eq_true rfl | omega | (dsimp only; omega) | (simp only [List.length_cons, List.length_nil]; omega))
        · exact absurd (hrw.2.resolve_left (fun y => y (by decide))) (bI_0.mp c_55)
set_option maxHeartbeats 1000000 in
theorem c_X25_act_3_w (l : Launch) (hl : l.stackTraces = false) (G : hp_G) (X : Nat → Nat) (N0 : Nat) (M : hp_h) (go : Nat → MS → Int32 × MS) (g : RG) (σ : MS) (z : Nat → Int32) (c9 : Nat) (hR : REL G (X 0) g σ z (σ.1 31) (c9 + 1) M) (hI : MI σ) (P9 K9 : Nat) (a i b j n : Int32) (hP9 : P9 < 6) (hK9 : K9 < psz σ P9) (hAF : AF σ P9 K9 = [.int (nI 3), .int a, .int i, .int b, .int j, .int n]) (hAH : AH9 σ c9 (nI 3) a i b j n) (hrw : mf_hasRows σ (nI 3) a b) (hge : ¬ σ.2.1 24 c9 < mf_priceOf σ (nI 3) a b n) (hm : MW σ) (hJ8 : nJ σ < 8000) : HM l yX25_act (ws_ yX25_act cX25_act 4 (some .long)) 29 11440 9 320 G X N0 [.ref (qC g c9), .ref (qA g P9 K9)] M (WB G (X 0) g σ z (c9 + 1) M (mf_actR go c9 σ)) (XB G (X 0) g σ z (c9 + 1) M (mf_actR go c9 σ)) := by
  refine HM.of hl [(0, .ref (qC g c9)), (1, .ref (qA g P9 K9))] (by decide +kernel) rfl (Nat.le_of_ble_eq_true rfl) ?_
  intro p e s m args below meth c C hname
  have hN := hR.N
  obtain ⟨fH, hHs, hHf⟩ := hR.Hs
  have hCc : M (qC g c9) = some (.inr (4, [.int (σ.2.1 21 c9), .int (σ.2.1 25 c9), .ref (qKl g c9), .ref (qW g c9), .int (σ.2.1 24 c9), .int (σ.2.1 23 c9 - σ.2.1 24 c9), .int (σ.2.1 22 c9), .ref (qN g)])) := hR.Cc (Nat.lt_succ_self c9)
  have hac : M (qA g P9 K9) = some (.inr (3, [.int (nI 3), .int a, .int i, .int b, .int j, .int n])) := (hR.A hP9 hK9).trans (congrArg (fun y => some (Sum.inr (3, y))) hAF)
  have hH9 : M (qH g 3) = some (.inr (13, [.int 1, .ref (qN g), .int 0, .int 10, .ref (qN g), .ref (qN g), .ref (qN g)])) := hR.H (by decide)
  refine V_aload_n C dX25_act_0 rfl 0 rfl ?_
  refine V_get C f_X25_3_4 hCc (v := .ref (qN g)) rfl dX25_act_1 ?_
  refine V_getN C f_X25_111_0 hN (v := .ref (qHs g)) rfl dX25_act_4 ?_
  refine V_aload_n C dX25_act_7 rfl 1 rfl ?_
  refine V_getN C f_X25_115_3 hac (v := .int (nI 3)) rfl dX25_act_8 ?_
  refine V_aald C (j := 14) rfl rfl hHs (vp_in_nI (by omega) (by omega)) dX25_act_11 ?_
  refine V_st (st' := [.ref (qH g 3)]) (by rw [nI_clamp (by omega), (hHf 3 (by decide))]; rfl) ?_
  refine V_astore_n C dX25_act_12 rfl (Nat.le_of_ble_eq_true rfl) [(0, .ref (qC g c9)), (1, .ref (qA g P9 K9)), (2, .ref (qH g 3))] [1, 2, 0] rfl ?_
  refine V_aload_n C dX25_act_13 rfl 1 rfl ?_
  refine V_getN C f_X25_115_3 hac (v := .int (nI 3)) rfl dX25_act_14 ?_
  refine V_callSN C (c_X1_needsRow l hl G X N0 M (nI 3)) cs_X25_120 rfl rfl ⟨Nat.le_of_ble_eq_true rfl, Nat.le_of_ble_eq_true rfl⟩ ⟨(by first | exact Nat.le_of_ble_eq_true rfl | omega | (dsimp only; omega) | (simp only [List.length_cons, List.length_nil]; omega)), (by first | exact Nat.le_of_ble_eq_true rfl | omega | (dsimp only; omega) | (simp only [List.length_cons, List.length_nil]; omega))⟩ (Nat.le_of_ble_eq_true rfl) dX25_act_17 (fun _ _ _ h => px0 h) ?_
  rintro _ _ ⟨rfl, rfl⟩
  refine V_st (st' := [.int (bI ((nI 3) ≠ 10 ∧ (nI 3) ≠ 11))]) rfl ?_
  refine V_if_eq (tgt := 67) C dX25_act_20 (by decide) (fun c_20 => ?_) (fun c_20 => ?_)
  · exact absurd (bI_0.mp c_20) (not_not_intro ⟨by decide, by decide⟩)
  · refine V_pc (pc1 := 23) rfl ?_
    refine V_aload_n C dX25_act_23 rfl 0 rfl ?_
    refine V_get C f_X25_3_4 hCc (v := .ref (qN g)) rfl dX25_act_24 ?_
    refine V_aload_n C dX25_act_27 rfl 1 rfl ?_
    refine V_getN C f_X25_123_3 hac (v := .int a) rfl dX25_act_28 ?_
    refine V_callVN C (c_X1_isRow l hl G X N0 M g σ z (σ.1 31) (c9 + 1) hR hI a) cs_X25_126_0 hN (show CLS[0]? = some (RX1, TX1, 17) from rfl) rfl rfl ⟨Nat.le_of_ble_eq_true rfl, Nat.le_of_ble_eq_true rfl⟩ ⟨(by first | exact Nat.le_of_ble_eq_true rfl | omega | (dsimp only; omega) | (simp only [List.length_cons, List.length_nil]; omega)), (by first | exact Nat.le_of_ble_eq_true rfl | omega | (dsimp only; omega) | (simp only [List.length_cons, List.length_nil]; omega))⟩ (Nat.le_of_ble_eq_true rfl) dX25_act_31 (fun _ _ _ h => px0 h) ?_
    rintro _ _ ⟨rfl, rfl⟩
    refine V_st (st' := [.int (bI (¬ a < 0 ∧ a < σ.1 1))]) rfl ?_
    refine V_if_eq (tgt := 58) C dX25_act_34 (by decide) (fun c_34 => ?_) (fun c_34 => ?_)
    · exact absurd (hrw.1.resolve_left (by decide)) (bI_0.mp c_34)
    · refine V_aload_n C dX25_act_37 rfl 2 rfl ?_
      refine V_callO C (c_X9_hasOther_13 l hl G X N0 M (qH g 3) (qN g) hH9) cs_X25_129_13 hH9 (show CLS[13]? = some (RX10, TX10, 7) from rfl) rfl rfl ⟨Nat.le_of_ble_eq_true rfl, Nat.le_of_ble_eq_true rfl⟩ ⟨(by first | exact Nat.le_of_ble_eq_true rfl | omega | (dsimp only; omega) | (simp only [List.length_cons, List.length_nil]; omega)), (by first | exact Nat.le_of_ble_eq_true rfl | omega | (dsimp only; omega) | (simp only [List.length_cons, List.length_nil]; omega))⟩ (Nat.le_of_ble_eq_true rfl) dX25_act_38 (fun _ _ _ h => px0 h) ?_
      rintro _ _ ⟨rfl, rfl⟩
      refine V_st (st' := [.int 1]) rfl ?_
      refine V_if_eq (tgt := 67) C dX25_act_41 (by decide) (fun c_41 => ?_) (fun c_41 => ?_)
      · exact absurd c_41 (by decide)
      · refine V_aload_n C dX25_act_44 rfl 0 rfl ?_
        refine V_get C f_X25_3_4 hCc (v := .ref (qN g)) rfl dX25_act_45 ?_
        refine V_aload_n C dX25_act_48 rfl 1 rfl ?_
        refine V_pc (pc1 := 49) rfl ?_
        refine V_getN C f_X25_135_3 hac (v := .int b) rfl dX25_act_49 ?_
        refine V_callVN C (c_X1_isRow l hl G X N0 M g σ z (σ.1 31) (c9 + 1) hR hI b) cs_X25_126_0 hN (show CLS[0]? = some (RX1, TX1, 17) from rfl) rfl rfl ⟨Nat.le_of_ble_eq_true rfl, Nat.le_of_ble_eq_true rfl⟩ ⟨(by first | exact Nat.le_of_ble_eq_true rfl | omega | (dsimp only; omega) | (simp only [List.length_cons, List.length_nil]; omega)), (by first | exact Nat.le_of_ble_eq_true rfl | omega | (dsimp only; omega) | (simp only [List.length_cons, List.length_nil]; omega))⟩ (Nat.le_of_ble_eq_true rfl) dX25_act_52 (fun _ _ _ h => px0 h) ?_
        rintro _ _ ⟨rfl, rfl⟩
        refine V_st (st' := [.int (bI (¬ b < 0 ∧ b < σ.1 1))]) rfl ?_
        refine V_if_ne (tgt := 67) C dX25_act_55 (by decide) (fun c_55 => ?_) (fun c_55 => ?_)
        · refine V_aload_n C dX25_act_67 rfl 0 rfl ?_
          refine V_get C f_X25_3_4 hCc (v := .ref (qN g)) rfl dX25_act_68 ?_
          refine V_aload_n C dX25_act_71 rfl 1 rfl ?_
          refine V_callVN C (c_X1_priceOf l hl G X N0 M g σ z (σ.1 31) (c9 + 1) hR hI (qA g P9 K9) 3 (by decide) (nI 3) a i b j n rfl hac hrw) cs_X25_142_0 hN (show CLS[0]? = some (RX1, TX1, 17) from rfl) rfl rfl ⟨Nat.le_of_ble_eq_true rfl, Nat.le_of_ble_eq_true rfl⟩ ⟨(by first | exact Nat.le_of_ble_eq_true rfl | omega | (dsimp only; omega) | (simp only [List.length_cons, List.length_nil]; omega)), (by first | exact Nat.le_of_ble_eq_true rfl | omega | (dsimp only; omega) | (simp only [List.length_cons, List.length_nil]; omega))⟩ (Nat.le_of_ble_eq_true rfl) dX25_act_72 (fun _ _ _ h => px0 h) ?_
          rintro _ _ ⟨rfl, rfl⟩
          refine V_st (st' := [.int (mf_priceOf σ (nI 3) a b n)]) rfl ?_
          refine V_istore_n C dX25_act_75 rfl (Nat.le_of_ble_eq_true rfl) [(0, .ref (qC g c9)), (1, .ref (qA g P9 K9)), (2, .ref (qH g 3)), (3, .int (mf_priceOf σ (nI 3) a b n))] [1, 2, 3, 0] rfl ?_
          refine V_aload_n C dX25_act_76 rfl 0 rfl ?_
          refine V_get C f_X25_39_4 hCc (v := .int (σ.2.1 24 c9)) rfl dX25_act_77 ?_
          refine V_iload_n C dX25_act_80 rfl 3 rfl ?_
          refine V_icmp_ge (tgt := 94) C dX25_act_81 (by decide) (fun c_81 => ?_) (fun c_81 => ?_)
          · obtain ⟨pr, hpr⟩ : ∃ y, y = mf_priceOf σ (nI 3) a b n := ⟨_, rfl⟩
            refine V_loc (L' := [(0, .ref (qC g c9)), (1, .ref (qA g P9 K9)), (2, .ref (qH g 3)), (3, .int pr)]) [0, 1, 2, 3] (by rw [hpr]; rfl) ?_
            have hfrP : hp_fr (fun b => b = qC g c9 ∨ b = qN g) M M := hp_fr.rf
            have hshP : hp_sh M M := hp_sh.rf
            have hneP : qC g c9 ≠ qN g := hR.ne (t := 15) (i := c9) (j := 0) (t' := 0) (i' := 0) (j' := 0) ⟨Nat.lt_succ_self c9, rfl⟩ ⟨by decide, rfl, rfl⟩ (by simp)
            refine V_pc (pc1 := 94) rfl ?_
            refine V_aload_n C dX25_act_94 rfl 0 rfl ?_
            refine V_dup C dX25_act_95 rfl ?_
            refine V_get C f_X25_39_4 hCc (v := .int (σ.2.1 24 c9)) rfl dX25_act_96 ?_
            refine V_iload_n C dX25_act_99 rfl 3 rfl ?_
            refine V_isub C dX25_act_100 ?_
            refine V_put C f_X25_39_4 hCc rfl rfl (Nat.le_of_ble_eq_true rfl) dX25_act_101 ?_
            obtain ⟨M_1, eM_2⟩ : ∃ z, z = hp_up M (qC g c9) (.inr (4, [.int (σ.2.1 21 c9), .int (σ.2.1 25 c9), .ref (qKl g c9), .ref (qW g c9), .int ((σ.2.1 24 c9) - pr), .int (σ.2.1 23 c9 - σ.2.1 24 c9), .int (σ.2.1 22 c9), .ref (qN g)])) := ⟨_, rfl⟩
            refine V_heap (M' := M_1) eM_2.symm ?_
            have ho_3 : M_1 (qN g) = some (.inr (0, [.ref (qRl g), .ref (qUl g), .ref (qPl g), .ref (qHs g), .int (σ.1 20), .int (σ.1 14), .int (σ.1 11), .int (σ.1 12), .int (σ.1 15), .int (z 0), .int (z 1), .int (z 2), .int (z 3), .int (z 4), .int (z 5), .int (σ.1 31), .ref (qAn g)])) := by rw [eM_2, hp_up_n (Ne.symm hneP)]; exact hN
            have ho_4 : M_1 (qA g P9 K9) = some (.inr (3, [.int (nI 3), .int a, .int i, .int b, .int j, .int n])) := by rw [eM_2, hp_up_n (hp_ne hac hCc (by simp))]; exact hac
            have ho_5 : M_1 (qH g 3) = some (.inr (13, [.int 1, .ref (qN g), .int 0, .int 10, .ref (qN g), .ref (qN g), .ref (qN g)])) := by rw [eM_2, hp_up_n (hp_ne hH9 hCc (by simp))]; exact hH9
            have ha_6 : M_1 (qHs g) = some (.inl (G.2 14, 13, .inr (.inr (.inr (.inr fH))))) := by rw [eM_2, hp_up_n (hp_ne hHs hCc (by simp))]; exact hHs
            have eM_2_s : M_1 (qC g c9) = some (.inr (4, [.int (σ.2.1 21 c9), .int (σ.2.1 25 c9), .ref (qKl g c9), .ref (qW g c9), .int ((σ.2.1 24 c9) - pr), .int (σ.2.1 23 c9 - σ.2.1 24 c9), .int (σ.2.1 22 c9), .ref (qN g)])) := by rw [eM_2]; exact hp_up_s
            have fr_7 := hp_fr.set hfrP (Or.inl (Or.inl rfl)) eM_2
            have sh_8 := hp_sh.set hshP hCc eM_2 rfl
            refine V_aload_n C dX25_act_104 rfl 0 rfl ?_
            refine V_dup C dX25_act_105 rfl ?_
            refine V_get C f_X25_146_4 eM_2_s (v := .int (σ.2.1 23 c9 - σ.2.1 24 c9)) rfl dX25_act_106 ?_
            refine V_iload_n C dX25_act_109 rfl 3 rfl ?_
            refine V_iadd C dX25_act_110 ?_
            refine V_put C f_X25_146_4 eM_2_s rfl rfl (Nat.le_of_ble_eq_true rfl) dX25_act_111 ?_
            obtain ⟨M_9, eM_10⟩ : ∃ z, z = hp_up M_1 (qC g c9) (.inr (4, [.int (σ.2.1 21 c9), .int (σ.2.1 25 c9), .ref (qKl g c9), .ref (qW g c9), .int ((σ.2.1 24 c9) - pr), .int ((σ.2.1 23 c9 - σ.2.1 24 c9) + pr), .int (σ.2.1 22 c9), .ref (qN g)])) := ⟨_, rfl⟩
            refine V_heap (M' := M_9) eM_10.symm ?_
            have ho_11 : M_9 (qN g) = some (.inr (0, [.ref (qRl g), .ref (qUl g), .ref (qPl g), .ref (qHs g), .int (σ.1 20), .int (σ.1 14), .int (σ.1 11), .int (σ.1 12), .int (σ.1 15), .int (z 0), .int (z 1), .int (z 2), .int (z 3), .int (z 4), .int (z 5), .int (σ.1 31), .ref (qAn g)])) := by rw [eM_10, hp_up_n (Ne.symm hneP)]; exact ho_3
            have ho_12 : M_9 (qA g P9 K9) = some (.inr (3, [.int (nI 3), .int a, .int i, .int b, .int j, .int n])) := by rw [eM_10, hp_up_n (hp_ne ho_4 eM_2_s (by simp))]; exact ho_4
            have ho_13 : M_9 (qH g 3) = some (.inr (13, [.int 1, .ref (qN g), .int 0, .int 10, .ref (qN g), .ref (qN g), .ref (qN g)])) := by rw [eM_10, hp_up_n (hp_ne ho_5 eM_2_s (by simp))]; exact ho_5
            have ha_14 : M_9 (qHs g) = some (.inl (G.2 14, 13, .inr (.inr (.inr (.inr fH))))) := by rw [eM_10, hp_up_n (hp_ne ha_6 eM_2_s (by simp))]; exact ha_6
            have eM_10_s : M_9 (qC g c9) = some (.inr (4, [.int (σ.2.1 21 c9), .int (σ.2.1 25 c9), .ref (qKl g c9), .ref (qW g c9), .int ((σ.2.1 24 c9) - pr), .int ((σ.2.1 23 c9 - σ.2.1 24 c9) + pr), .int (σ.2.1 22 c9), .ref (qN g)])) := by rw [eM_10]; exact hp_up_s
            have fr_15 := hp_fr.set fr_7 (Or.inl (Or.inl rfl)) eM_10
            have sh_16 := hp_sh.set sh_8 eM_2_s eM_10 rfl
            refine V_pc (pc1 := 114) rfl ?_
            refine V_aload_n C dX25_act_114 rfl 0 rfl ?_
            refine V_get C f_X25_3_4 eM_10_s (v := .ref (qN g)) rfl dX25_act_115 ?_
            refine V_dup C dX25_act_118 rfl ?_
            refine V_getN C f_X25_149_0 ho_11 (v := .int (σ.1 11)) rfl dX25_act_119 ?_
            refine V_iconst (v := 1) C dX25_act_122 rfl ?_
            refine V_iadd C dX25_act_123 ?_
            refine V_putN C f_X25_149_0 ho_11 rfl rfl (Nat.le_of_ble_eq_true rfl) dX25_act_124 ?_
            obtain ⟨M_17, eM_18⟩ : ∃ z9, z9 = hp_up M_9 (qN g) (.inr (0, [.ref (qRl g), .ref (qUl g), .ref (qPl g), .ref (qHs g), .int (σ.1 20), .int (σ.1 14), .int ((σ.1 11) + 1), .int (σ.1 12), .int (σ.1 15), .int (z 0), .int (z 1), .int (z 2), .int (z 3), .int (z 4), .int (z 5), .int (σ.1 31), .ref (qAn g)])) := ⟨_, rfl⟩
            refine V_heap (M' := M_17) eM_18.symm ?_
            have ho_19 : M_17 (qC g c9) = some (.inr (4, [.int (σ.2.1 21 c9), .int (σ.2.1 25 c9), .ref (qKl g c9), .ref (qW g c9), .int ((σ.2.1 24 c9) - pr), .int ((σ.2.1 23 c9 - σ.2.1 24 c9) + pr), .int (σ.2.1 22 c9), .ref (qN g)])) := by rw [eM_18, hp_up_n hneP]; exact eM_10_s
            have ho_20 : M_17 (qA g P9 K9) = some (.inr (3, [.int (nI 3), .int a, .int i, .int b, .int j, .int n])) := by rw [eM_18, hp_up_n (hp_ne ho_12 ho_11 (by simp))]; exact ho_12
            have ho_21 : M_17 (qH g 3) = some (.inr (13, [.int 1, .ref (qN g), .int 0, .int 10, .ref (qN g), .ref (qN g), .ref (qN g)])) := by rw [eM_18, hp_up_n (hp_ne ho_13 ho_11 (by simp))]; exact ho_13
            have ha_22 : M_17 (qHs g) = some (.inl (G.2 14, 13, .inr (.inr (.inr (.inr fH))))) := by rw [eM_18, hp_up_n (hp_ne ha_14 ho_11 (by simp))]; exact ha_14
            have eM_18_s : M_17 (qN g) = some (.inr (0, [.ref (qRl g), .ref (qUl g), .ref (qPl g), .ref (qHs g), .int (σ.1 20), .int (σ.1 14), .int ((σ.1 11) + 1), .int (σ.1 12), .int (σ.1 15), .int (z 0), .int (z 1), .int (z 2), .int (z 3), .int (z 4), .int (z 5), .int (σ.1 31), .ref (qAn g)])) := by rw [eM_18]; exact hp_up_s
            have fr_23 := hp_fr.set fr_15 (Or.inl (Or.inr rfl)) eM_18
            have sh_24 := hp_sh.set sh_16 ho_11 eM_18 rfl
            have hpay := hR.pay (pr := pr) (Nat.lt_succ_self c9) ho_19 eM_18_s fr_23 sh_24
            have hact : mf_actR go c9 σ = mf_workR go c9 (mf_pay c9 pr σ) 3 a i b j n := by rw [hpr]; exact act_w hAH hrw hge
            refine V_aload_n C dX25_act_127 rfl 2 rfl ?_
            refine V_aload_n C dX25_act_128 rfl 1 rfl ?_
            refine V_aload_n C dX25_act_129 rfl 0 rfl ?_
            have hRs : REL G (X 0) g (sa (mf_pay c9 pr σ) 0) z ((sa (mf_pay c9 pr σ) 0).1 31) (c9 + 1) M_17 := hpay.1.view VW.sa
            have hIs : MI (sa (mf_pay c9 pr σ) 0) := (MQ9.same (σ := σ) ⟨hI, hm⟩ rfl rfl rfl (fun k hk => by rcases hk with rfl | rfl | rfl | rfl | rfl | rfl <;> rfl) rfl).1
            have hms : MW (sa (mf_pay c9 pr σ) 0) := (MQ9.same (σ := σ) ⟨hI, hm⟩ rfl rfl rfl (fun k hk => by rcases hk with rfl | rfl | rfl | rfl | rfl | rfl <;> rfl) rfl).2
            obtain ⟨rr, hr, hra⟩ := hI.row (hrw.1.resolve_left (by decide))
            obtain ⟨rs, hs, hsb⟩ := hI.row (hrw.2.resolve_left (fun y => y (by decide)))
            have hdn : mf_actR go c9 σ = mf_dr (mf_equal (sa (mf_pay c9 pr σ) 0) rr rs) := by
              rw [hact, hra, hsb]
              show mf_dr (mf_done (mf_pay c9 pr σ) 3 (nI rr) i (nI rs) j n) = _
              have hR60 := hI.R.2
              have e1 : (nI rr).toNatClampNeg = rr := nI_clamp (by omega)
              have e2 : (nI rs).toNatClampNeg = rs := nI_clamp (by omega)
              unfold mf_done
              rw [if_neg (by decide), if_neg (by decide), if_neg (by decide), if_pos rfl, e1, e2]
            refine V_callA C (c_work_3 l hl G X N0 M_17 g (sa (mf_pay c9 pr σ) 0) z (c9 + 1) c9 rfl hRs hIs P9 K9 rr rs (nI 3) i j n hP9 hK9 hr hs (show AF (sa (mf_pay c9 pr σ) 0) P9 K9 = [.int (nI 3), .int (nI rr), .int i, .int (nI rs), .int j, .int n] from by rw [← hra, ← hsb]; exact hAF) hms rfl hJ8) cs_X25_151_13 ho_21 (show CLS[13]? = some (RX10, TX10, 7) from rfl) rfl rfl ⟨Nat.le_of_ble_eq_true rfl, Nat.le_of_ble_eq_true rfl⟩ ⟨(by first | exact Nat.le_of_ble_eq_true rfl | omega | (dsimp only; omega) | (simp only [List.length_cons, List.length_nil]; omega)), (by first | exact Nat.le_of_ble_eq_true rfl | omega | (dsimp only; omega) | (simp only [List.length_cons, List.length_nil]; omega))⟩ (Nat.le_of_ble_eq_true rfl) dX25_act_130 (fun q9 E9 M9 h9 => by have h8 : XB G (X 0) g σ z (c9 + 1) M (mf_actR go c9 σ) q9 E9 M9 := by { rw [hdn]; exact XB.pre (σ := σ) (τ := (sa (mf_pay c9 pr σ) 0)) (hpay.2.view VW.sa) rfl rfl rfl rfl (WX.dr h9) }; obtain rfl := h8.2.1; exact VX_out C (fun z hz => by cases hz) h8 (by first | exact Nat.le_of_ble_eq_true rfl | omega | (dsimp only; omega) | (simp only [List.length_cons, List.length_nil]; omega)) (by first | exact Nat.le_of_ble_eq_true rfl | omega | (dsimp only; omega) | (simp only [List.length_cons, List.length_nil]; omega))) ?_
            rintro v9 M_25 hv9
            have hwb : WB G (X 0) g σ z (c9 + 1) M (mf_actR go c9 σ) v9 M_25 := by rw [hdn]; exact WB.pre (σ := σ) (τ := (sa (mf_pay c9 pr σ) 0)) (hpay.2.view VW.sa) rfl rfl rfl rfl (WP.dr hv9)
            obtain rfl := hv9.2.1
            refine V_st (st' := [.long ((mf_equal (sa (mf_pay c9 pr σ) 0) rr rs).2.2.2.2)]) rfl ?_
            refine V_lret C dX25_act_133 rfl ?_ (by first | exact Nat.le_of_ble_eq_true rfl | omega | (dsimp only; omega) | (simp only [List.length_cons, List.length_nil]; omega)) (by first | exact Nat.le_of_ble_eq_true rfl | omega | (dsimp only; omega) | (simp only [List.length_cons, List.length_nil]; omega))
            exact hwb
          · exact absurd (Int32.not_le.mp c_81) hge
        · exact absurd (hrw.2.resolve_left (fun y => y (by decide))) (bI_0.mp c_55)
set_option maxHeartbeats 1000000 in
theorem c_X25_act_4_1 (l : Launch) (hl : l.stackTraces = false) (G : hp_G) (X : Nat → Nat) (N0 : Nat) (M : hp_h) (go : Nat → MS → Int32 × MS) (g : RG) (σ : MS) (z : Nat → Int32) (c9 : Nat) (hR : REL G (X 0) g σ z (σ.1 31) (c9 + 1) M) (hI : MI σ) (P9 K9 : Nat) (a i b j n : Int32) (hP9 : P9 < 6) (hK9 : K9 < psz σ P9) (hAF : AF σ P9 K9 = [.int (nI 4), .int a, .int i, .int b, .int j, .int n]) (hAH : AH9 σ c9 (nI 4) a i b j n) (hn : ¬ mf_hasRows σ (nI 4) a b) : HM l yX25_act (ws_ yX25_act cX25_act 4 (some .long)) 29 11440 1 7 G X N0 [.ref (qC g c9), .ref (qA g P9 K9)] M PFF (XB G (X 0) g σ z (c9 + 1) M (mf_actR go c9 σ)) := by
  refine HM.of hl [(0, .ref (qC g c9)), (1, .ref (qA g P9 K9))] (by decide +kernel) rfl (Nat.le_of_ble_eq_true rfl) ?_
  intro p e s m args below meth c C hname
  have hN := hR.N
  obtain ⟨fH, hHs, hHf⟩ := hR.Hs
  have hCc : M (qC g c9) = some (.inr (4, [.int (σ.2.1 21 c9), .int (σ.2.1 25 c9), .ref (qKl g c9), .ref (qW g c9), .int (σ.2.1 24 c9), .int (σ.2.1 23 c9 - σ.2.1 24 c9), .int (σ.2.1 22 c9), .ref (qN g)])) := hR.Cc (Nat.lt_succ_self c9)
  have hac : M (qA g P9 K9) = some (.inr (3, [.int (nI 4), .int a, .int i, .int b, .int j, .int n])) := (hR.A hP9 hK9).trans (congrArg (fun y => some (Sum.inr (3, y))) hAF)
  have hH9 : M (qH g 4) = some (.inr (14, [.int 1, .ref (qN g), .int 1, .int 7, .ref (qN g), .ref (qN g), .ref (qN g)])) := hR.H (by decide)
  refine V_aload_n C dX25_act_0 rfl 0 rfl ?_
  refine V_get C f_X25_3_4 hCc (v := .ref (qN g)) rfl dX25_act_1 ?_
  refine V_getN C f_X25_111_0 hN (v := .ref (qHs g)) rfl dX25_act_4 ?_
  refine V_aload_n C dX25_act_7 rfl 1 rfl ?_
  refine V_getN C f_X25_115_3 hac (v := .int (nI 4)) rfl dX25_act_8 ?_
  refine V_aald C (j := 14) rfl rfl hHs (vp_in_nI (by omega) (by omega)) dX25_act_11 ?_
  refine V_st (st' := [.ref (qH g 4)]) (by rw [nI_clamp (by omega), (hHf 4 (by decide))]; rfl) ?_
  refine V_astore_n C dX25_act_12 rfl (Nat.le_of_ble_eq_true rfl) [(0, .ref (qC g c9)), (1, .ref (qA g P9 K9)), (2, .ref (qH g 4))] [1, 2, 0] rfl ?_
  refine V_aload_n C dX25_act_13 rfl 1 rfl ?_
  refine V_getN C f_X25_115_3 hac (v := .int (nI 4)) rfl dX25_act_14 ?_
  refine V_callSN C (c_X1_needsRow l hl G X N0 M (nI 4)) cs_X25_120 rfl rfl ⟨Nat.le_of_ble_eq_true rfl, Nat.le_of_ble_eq_true rfl⟩ ⟨(by first | exact Nat.le_of_ble_eq_true rfl | omega | (dsimp only; omega) | (simp only [List.length_cons, List.length_nil]; omega)), (by first | exact Nat.le_of_ble_eq_true rfl | omega | (dsimp only; omega) | (simp only [List.length_cons, List.length_nil]; omega))⟩ (Nat.le_of_ble_eq_true rfl) dX25_act_17 (fun _ _ _ h => px0 h) ?_
  rintro _ _ ⟨rfl, rfl⟩
  refine V_st (st' := [.int (bI ((nI 4) ≠ 10 ∧ (nI 4) ≠ 11))]) rfl ?_
  refine V_if_eq (tgt := 67) C dX25_act_20 (by decide) (fun c_20 => ?_) (fun c_20 => ?_)
  · exact absurd (bI_0.mp c_20) (not_not_intro ⟨by decide, by decide⟩)
  · refine V_pc (pc1 := 23) rfl ?_
    refine V_aload_n C dX25_act_23 rfl 0 rfl ?_
    refine V_get C f_X25_3_4 hCc (v := .ref (qN g)) rfl dX25_act_24 ?_
    refine V_aload_n C dX25_act_27 rfl 1 rfl ?_
    refine V_getN C f_X25_123_3 hac (v := .int a) rfl dX25_act_28 ?_
    refine V_callVN C (c_X1_isRow l hl G X N0 M g σ z (σ.1 31) (c9 + 1) hR hI a) cs_X25_126_0 hN (show CLS[0]? = some (RX1, TX1, 17) from rfl) rfl rfl ⟨Nat.le_of_ble_eq_true rfl, Nat.le_of_ble_eq_true rfl⟩ ⟨(by first | exact Nat.le_of_ble_eq_true rfl | omega | (dsimp only; omega) | (simp only [List.length_cons, List.length_nil]; omega)), (by first | exact Nat.le_of_ble_eq_true rfl | omega | (dsimp only; omega) | (simp only [List.length_cons, List.length_nil]; omega))⟩ (Nat.le_of_ble_eq_true rfl) dX25_act_31 (fun _ _ _ h => px0 h) ?_
    rintro _ _ ⟨rfl, rfl⟩
    refine V_st (st' := [.int (bI (¬ a < 0 ∧ a < σ.1 1))]) rfl ?_
    refine V_if_eq (tgt := 58) C dX25_act_34 (by decide) (fun c_34 => ?_) (fun c_34 => ?_)
    · refine V_aload_n C dX25_act_58 rfl 0 rfl ?_
      refine V_get C f_X25_3_4 hCc (v := .ref (qN g)) rfl dX25_act_59 ?_
      refine V_iconst (v := 1) C dX25_act_62 rfl ?_
      refine V_callVN C (c_X1_fail l hl G X N0 M (qN g) (qRl g) (qUl g) (qPl g) (qHs g) (qAn g) (σ.1 20) (σ.1 14) (σ.1 11) (σ.1 12) (σ.1 15) (z 0) (z 1) (z 2) (z 3) (z 4) (z 5) (σ.1 31) 1 hN) cs_X25_138_0 hN (show CLS[0]? = some (RX1, TX1, 17) from rfl) rfl rfl ⟨Nat.le_of_ble_eq_true rfl, Nat.le_of_ble_eq_true rfl⟩ ⟨(by first | exact Nat.le_of_ble_eq_true rfl | omega | (dsimp only; omega) | (simp only [List.length_cons, List.length_nil]; omega)), (by first | exact Nat.le_of_ble_eq_true rfl | omega | (dsimp only; omega) | (simp only [List.length_cons, List.length_nil]; omega))⟩ (Nat.le_of_ble_eq_true rfl) dX25_act_63 (fun _ _ _ h => px0 h) ?_
      rintro _ M_3 ⟨q_1, rfl, hq_2, hN_4, hF_5, fr_6, sh_7⟩
      refine V_st (st' := [.ref q_1]) rfl ?_
      refine V_athrow C hF_5 (show CLS[8]? = some (RX26, TX26, 7) from rfl) dX25_act_66 ?_
      exact VX_out C (fun z hz => by cases hz) (FLX.xb (FLX.of hR hq_2 hN_4 hF_5 fr_6 sh_7) (act_1 hAH hn) (by decide)) (by first | exact Nat.le_of_ble_eq_true rfl | omega | (dsimp only; omega) | (simp only [List.length_cons, List.length_nil]; omega)) (by first | exact Nat.le_of_ble_eq_true rfl | omega | (dsimp only; omega) | (simp only [List.length_cons, List.length_nil]; omega))
    · refine V_aload_n C dX25_act_37 rfl 2 rfl ?_
      refine V_callO C (c_X9_hasOther_14 l hl G X N0 M (qH g 4) (qN g) hH9) cs_X25_129_14 hH9 (show CLS[14]? = some (RX11, TX11, 7) from rfl) rfl rfl ⟨Nat.le_of_ble_eq_true rfl, Nat.le_of_ble_eq_true rfl⟩ ⟨(by first | exact Nat.le_of_ble_eq_true rfl | omega | (dsimp only; omega) | (simp only [List.length_cons, List.length_nil]; omega)), (by first | exact Nat.le_of_ble_eq_true rfl | omega | (dsimp only; omega) | (simp only [List.length_cons, List.length_nil]; omega))⟩ (Nat.le_of_ble_eq_true rfl) dX25_act_38 (fun _ _ _ h => px0 h) ?_
      rintro _ _ ⟨rfl, rfl⟩
      refine V_st (st' := [.int 1]) rfl ?_
      refine V_if_eq (tgt := 67) C dX25_act_41 (by decide) (fun c_41 => ?_) (fun c_41 => ?_)
      · exact absurd c_41 (by decide)
      · refine V_aload_n C dX25_act_44 rfl 0 rfl ?_
        refine V_get C f_X25_3_4 hCc (v := .ref (qN g)) rfl dX25_act_45 ?_
        refine V_aload_n C dX25_act_48 rfl 1 rfl ?_
        refine V_pc (pc1 := 49) rfl ?_
        refine V_getN C f_X25_135_3 hac (v := .int b) rfl dX25_act_49 ?_
        refine V_callVN C (c_X1_isRow l hl G X N0 M g σ z (σ.1 31) (c9 + 1) hR hI b) cs_X25_126_0 hN (show CLS[0]? = some (RX1, TX1, 17) from rfl) rfl rfl ⟨Nat.le_of_ble_eq_true rfl, Nat.le_of_ble_eq_true rfl⟩ ⟨(by first | exact Nat.le_of_ble_eq_true rfl | omega | (dsimp only; omega) | (simp only [List.length_cons, List.length_nil]; omega)), (by first | exact Nat.le_of_ble_eq_true rfl | omega | (dsimp only; omega) | (simp only [List.length_cons, List.length_nil]; omega))⟩ (Nat.le_of_ble_eq_true rfl) dX25_act_52 (fun _ _ _ h => px0 h) ?_
        rintro _ _ ⟨rfl, rfl⟩
        refine V_st (st' := [.int (bI (¬ b < 0 ∧ b < σ.1 1))]) rfl ?_
        refine V_if_ne (tgt := 67) C dX25_act_55 (by decide) (fun c_55 => ?_) (fun c_55 => ?_)
        · exact absurd (show mf_hasRows σ (nI 4) a b from ⟨Or.inr (bI_n.mp c_34), Or.inr (bI_n.mp c_55)⟩) hn
        · refine V_aload_n C dX25_act_58 rfl 0 rfl ?_
          refine V_get C f_X25_3_4 hCc (v := .ref (qN g)) rfl dX25_act_59 ?_
          refine V_iconst (v := 1) C dX25_act_62 rfl ?_
          refine V_callVN C (c_X1_fail l hl G X N0 M (qN g) (qRl g) (qUl g) (qPl g) (qHs g) (qAn g) (σ.1 20) (σ.1 14) (σ.1 11) (σ.1 12) (σ.1 15) (z 0) (z 1) (z 2) (z 3) (z 4) (z 5) (σ.1 31) 1 hN) cs_X25_138_0 hN (show CLS[0]? = some (RX1, TX1, 17) from rfl) rfl rfl ⟨Nat.le_of_ble_eq_true rfl, Nat.le_of_ble_eq_true rfl⟩ ⟨(by first | exact Nat.le_of_ble_eq_true rfl | omega | (dsimp only; omega) | (simp only [List.length_cons, List.length_nil]; omega)), (by first | exact Nat.le_of_ble_eq_true rfl | omega | (dsimp only; omega) | (simp only [List.length_cons, List.length_nil]; omega))⟩ (Nat.le_of_ble_eq_true rfl) dX25_act_63 (fun _ _ _ h => px0 h) ?_
          rintro _ M_10 ⟨q_8, rfl, hq_9, hN_11, hF_12, fr_13, sh_14⟩
          refine V_st (st' := [.ref q_8]) rfl ?_
          refine V_athrow C hF_12 (show CLS[8]? = some (RX26, TX26, 7) from rfl) dX25_act_66 ?_
          exact VX_out C (fun z hz => by cases hz) (FLX.xb (FLX.of hR hq_9 hN_11 hF_12 fr_13 sh_14) (act_1 hAH hn) (by decide)) (by first | exact Nat.le_of_ble_eq_true rfl | omega | (dsimp only; omega) | (simp only [List.length_cons, List.length_nil]; omega)) (by first | exact Nat.le_of_ble_eq_true rfl | omega | (dsimp only; omega) | (simp only [List.length_cons, List.length_nil]; omega))
set_option maxHeartbeats 1000000 in
theorem c_X25_act_4_8 (l : Launch) (hl : l.stackTraces = false) (G : hp_G) (X : Nat → Nat) (N0 : Nat) (M : hp_h) (go : Nat → MS → Int32 × MS) (g : RG) (σ : MS) (z : Nat → Int32) (c9 : Nat) (hR : REL G (X 0) g σ z (σ.1 31) (c9 + 1) M) (hI : MI σ) (P9 K9 : Nat) (a i b j n : Int32) (hP9 : P9 < 6) (hK9 : K9 < psz σ P9) (hAF : AF σ P9 K9 = [.int (nI 4), .int a, .int i, .int b, .int j, .int n]) (hAH : AH9 σ c9 (nI 4) a i b j n) (hrw : mf_hasRows σ (nI 4) a b) (hlt : σ.2.1 24 c9 < mf_priceOf σ (nI 4) a b n) : HM l yX25_act (ws_ yX25_act cX25_act 4 (some .long)) 29 11440 1 7 G X N0 [.ref (qC g c9), .ref (qA g P9 K9)] M PFF (XB G (X 0) g σ z (c9 + 1) M (mf_actR go c9 σ)) := by
  refine HM.of hl [(0, .ref (qC g c9)), (1, .ref (qA g P9 K9))] (by decide +kernel) rfl (Nat.le_of_ble_eq_true rfl) ?_
  intro p e s m args below meth c C hname
  have hN := hR.N
  obtain ⟨fH, hHs, hHf⟩ := hR.Hs
  have hCc : M (qC g c9) = some (.inr (4, [.int (σ.2.1 21 c9), .int (σ.2.1 25 c9), .ref (qKl g c9), .ref (qW g c9), .int (σ.2.1 24 c9), .int (σ.2.1 23 c9 - σ.2.1 24 c9), .int (σ.2.1 22 c9), .ref (qN g)])) := hR.Cc (Nat.lt_succ_self c9)
  have hac : M (qA g P9 K9) = some (.inr (3, [.int (nI 4), .int a, .int i, .int b, .int j, .int n])) := (hR.A hP9 hK9).trans (congrArg (fun y => some (Sum.inr (3, y))) hAF)
  have hH9 : M (qH g 4) = some (.inr (14, [.int 1, .ref (qN g), .int 1, .int 7, .ref (qN g), .ref (qN g), .ref (qN g)])) := hR.H (by decide)
  refine V_aload_n C dX25_act_0 rfl 0 rfl ?_
  refine V_get C f_X25_3_4 hCc (v := .ref (qN g)) rfl dX25_act_1 ?_
  refine V_getN C f_X25_111_0 hN (v := .ref (qHs g)) rfl dX25_act_4 ?_
  refine V_aload_n C dX25_act_7 rfl 1 rfl ?_
  refine V_getN C f_X25_115_3 hac (v := .int (nI 4)) rfl dX25_act_8 ?_
  refine V_aald C (j := 14) rfl rfl hHs (vp_in_nI (by omega) (by omega)) dX25_act_11 ?_
  refine V_st (st' := [.ref (qH g 4)]) (by rw [nI_clamp (by omega), (hHf 4 (by decide))]; rfl) ?_
  refine V_astore_n C dX25_act_12 rfl (Nat.le_of_ble_eq_true rfl) [(0, .ref (qC g c9)), (1, .ref (qA g P9 K9)), (2, .ref (qH g 4))] [1, 2, 0] rfl ?_
  refine V_aload_n C dX25_act_13 rfl 1 rfl ?_
  refine V_getN C f_X25_115_3 hac (v := .int (nI 4)) rfl dX25_act_14 ?_
  refine V_callSN C (c_X1_needsRow l hl G X N0 M (nI 4)) cs_X25_120 rfl rfl ⟨Nat.le_of_ble_eq_true rfl, Nat.le_of_ble_eq_true rfl⟩ ⟨(by first | exact Nat.le_of_ble_eq_true rfl | omega | (dsimp only; omega) | (simp only [List.length_cons, List.length_nil]; omega)), (by first | exact Nat.le_of_ble_eq_true rfl | omega | (dsimp only; omega) | (simp only [List.length_cons, List.length_nil]; omega))⟩ (Nat.le_of_ble_eq_true rfl) dX25_act_17 (fun _ _ _ h => px0 h) ?_
  rintro _ _ ⟨rfl, rfl⟩
  refine V_st (st' := [.int (bI ((nI 4) ≠ 10 ∧ (nI 4) ≠ 11))]) rfl ?_
  refine V_if_eq (tgt := 67) C dX25_act_20 (by decide) (fun c_20 => ?_) (fun c_20 => ?_)
  · exact absurd (bI_0.mp c_20) (not_not_intro ⟨by decide, by decide⟩)
  · refine V_pc (pc1 := 23) rfl ?_
    refine V_aload_n C dX25_act_23 rfl 0 rfl ?_
    refine V_get C f_X25_3_4 hCc (v := .ref (qN g)) rfl dX25_act_24 ?_
    refine V_aload_n C dX25_act_27 rfl 1 rfl ?_
    refine V_getN C f_X25_123_3 hac (v := .int a) rfl dX25_act_28 ?_
    refine V_callVN C (c_X1_isRow l hl G X N0 M g σ z (σ.1 31) (c9 + 1) hR hI a) cs_X25_126_0 hN (show CLS[0]? = some (RX1, TX1, 17) from rfl) rfl rfl ⟨Nat.le_of_ble_eq_true rfl, Nat.le_of_ble_eq_true rfl⟩ ⟨(by first | exact Nat.le_of_ble_eq_true rfl | omega | (dsimp only; omega) | (simp only [List.length_cons, List.length_nil]; omega)), (by first | exact Nat.le_of_ble_eq_true rfl | omega | (dsimp only; omega) | (simp only [List.length_cons, List.length_nil]; omega))⟩ (Nat.le_of_ble_eq_true rfl) dX25_act_31 (fun _ _ _ h => px0 h) ?_
    rintro _ _ ⟨rfl, rfl⟩
    refine V_st (st' := [.int (bI (¬ a < 0 ∧ a < σ.1 1))]) rfl ?_
    refine V_if_eq (tgt := 58) C dX25_act_34 (by decide) (fun c_34 => ?_) (fun c_34 => ?_)
    · exact absurd (hrw.1.resolve_left (by decide)) (bI_0.mp c_34)
    · refine V_aload_n C dX25_act_37 rfl 2 rfl ?_
      refine V_callO C (c_X9_hasOther_14 l hl G X N0 M (qH g 4) (qN g) hH9) cs_X25_129_14 hH9 (show CLS[14]? = some (RX11, TX11, 7) from rfl) rfl rfl ⟨Nat.le_of_ble_eq_true rfl, Nat.le_of_ble_eq_true rfl⟩ ⟨(by first | exact Nat.le_of_ble_eq_true rfl | omega | (dsimp only; omega) | (simp only [List.length_cons, List.length_nil]; omega)), (by first | exact Nat.le_of_ble_eq_true rfl | omega | (dsimp only; omega) | (simp only [List.length_cons, List.length_nil]; omega))⟩ (Nat.le_of_ble_eq_true rfl) dX25_act_38 (fun _ _ _ h => px0 h) ?_
      rintro _ _ ⟨rfl, rfl⟩
      refine V_st (st' := [.int 1]) rfl ?_
      refine V_if_eq (tgt := 67) C dX25_act_41 (by decide) (fun c_41 => ?_) (fun c_41 => ?_)
      · exact absurd c_41 (by decide)
      · refine V_aload_n C dX25_act_44 rfl 0 rfl ?_
        refine V_get C f_X25_3_4 hCc (v := .ref (qN g)) rfl dX25_act_45 ?_
        refine V_aload_n C dX25_act_48 rfl 1 rfl ?_
        refine V_pc (pc1 := 49) rfl ?_
        refine V_getN C f_X25_135_3 hac (v := .int b) rfl dX25_act_49 ?_
        refine V_callVN C (c_X1_isRow l hl G X N0 M g σ z (σ.1 31) (c9 + 1) hR hI b) cs_X25_126_0 hN (show CLS[0]? = some (RX1, TX1, 17) from rfl) rfl rfl ⟨Nat.le_of_ble_eq_true rfl, Nat.le_of_ble_eq_true rfl⟩ ⟨(by first | exact Nat.le_of_ble_eq_true rfl | omega | (dsimp only; omega) | (simp only [List.length_cons, List.length_nil]; omega)), (by first | exact Nat.le_of_ble_eq_true rfl | omega | (dsimp only; omega) | (simp only [List.length_cons, List.length_nil]; omega))⟩ (Nat.le_of_ble_eq_true rfl) dX25_act_52 (fun _ _ _ h => px0 h) ?_
        rintro _ _ ⟨rfl, rfl⟩
        refine V_st (st' := [.int (bI (¬ b < 0 ∧ b < σ.1 1))]) rfl ?_
        refine V_if_ne (tgt := 67) C dX25_act_55 (by decide) (fun c_55 => ?_) (fun c_55 => ?_)
        · refine V_aload_n C dX25_act_67 rfl 0 rfl ?_
          refine V_get C f_X25_3_4 hCc (v := .ref (qN g)) rfl dX25_act_68 ?_
          refine V_aload_n C dX25_act_71 rfl 1 rfl ?_
          refine V_callVN C (c_X1_priceOf l hl G X N0 M g σ z (σ.1 31) (c9 + 1) hR hI (qA g P9 K9) 4 (by decide) (nI 4) a i b j n rfl hac hrw) cs_X25_142_0 hN (show CLS[0]? = some (RX1, TX1, 17) from rfl) rfl rfl ⟨Nat.le_of_ble_eq_true rfl, Nat.le_of_ble_eq_true rfl⟩ ⟨(by first | exact Nat.le_of_ble_eq_true rfl | omega | (dsimp only; omega) | (simp only [List.length_cons, List.length_nil]; omega)), (by first | exact Nat.le_of_ble_eq_true rfl | omega | (dsimp only; omega) | (simp only [List.length_cons, List.length_nil]; omega))⟩ (Nat.le_of_ble_eq_true rfl) dX25_act_72 (fun _ _ _ h => px0 h) ?_
          rintro _ _ ⟨rfl, rfl⟩
          refine V_st (st' := [.int (mf_priceOf σ (nI 4) a b n)]) rfl ?_
          refine V_istore_n C dX25_act_75 rfl (Nat.le_of_ble_eq_true rfl) [(0, .ref (qC g c9)), (1, .ref (qA g P9 K9)), (2, .ref (qH g 4)), (3, .int (mf_priceOf σ (nI 4) a b n))] [1, 2, 3, 0] rfl ?_
          refine V_aload_n C dX25_act_76 rfl 0 rfl ?_
          refine V_get C f_X25_39_4 hCc (v := .int (σ.2.1 24 c9)) rfl dX25_act_77 ?_
          refine V_iload_n C dX25_act_80 rfl 3 rfl ?_
          refine V_icmp_ge (tgt := 94) C dX25_act_81 (by decide) (fun c_81 => ?_) (fun c_81 => ?_)
          · exact absurd hlt (Int32.not_lt.mpr c_81)
          · refine V_pc (pc1 := 84) rfl ?_
            refine V_aload_n C dX25_act_84 rfl 0 rfl ?_
            refine V_get C f_X25_3_4 hCc (v := .ref (qN g)) rfl dX25_act_85 ?_
            refine V_bipush (v := 8) C dX25_act_88 rfl ?_
            refine V_callVN C (c_X1_fail l hl G X N0 M (qN g) (qRl g) (qUl g) (qPl g) (qHs g) (qAn g) (σ.1 20) (σ.1 14) (σ.1 11) (σ.1 12) (σ.1 15) (z 0) (z 1) (z 2) (z 3) (z 4) (z 5) (σ.1 31) 8 hN) cs_X25_138_0 hN (show CLS[0]? = some (RX1, TX1, 17) from rfl) rfl rfl ⟨Nat.le_of_ble_eq_true rfl, Nat.le_of_ble_eq_true rfl⟩ ⟨(by first | exact Nat.le_of_ble_eq_true rfl | omega | (dsimp only; omega) | (simp only [List.length_cons, List.length_nil]; omega)), (by first | exact Nat.le_of_ble_eq_true rfl | omega | (dsimp only; omega) | (simp only [List.length_cons, List.length_nil]; omega))⟩ (Nat.le_of_ble_eq_true rfl) dX25_act_90 (fun _ _ _ h => px0 h) ?_
            rintro _ M_3 ⟨q_1, rfl, hq_2, hN_4, hF_5, fr_6, sh_7⟩
            refine V_st (st' := [.ref q_1]) rfl ?_
            refine V_athrow C hF_5 (show CLS[8]? = some (RX26, TX26, 7) from rfl) dX25_act_93 ?_
            exact VX_out C (fun z hz => by cases hz) (FLX.xb (FLX.of hR hq_2 hN_4 hF_5 fr_6 sh_7) (act_8 hAH hrw hlt) (by decide)) (by first | exact Nat.le_of_ble_eq_true rfl | omega | (dsimp only; omega) | (simp only [List.length_cons, List.length_nil]; omega)) (by first | exact Nat.le_of_ble_eq_true rfl | omega | (dsimp only; omega) | (simp only [List.length_cons, List.length_nil]; omega))
        · exact absurd (hrw.2.resolve_left (fun y => y (by decide))) (bI_0.mp c_55)
set_option maxHeartbeats 1000000 in
theorem c_X25_act_4_w (l : Launch) (hl : l.stackTraces = false) (G : hp_G) (X : Nat → Nat) (N0 : Nat) (M : hp_h) (go : Nat → MS → Int32 × MS) (g : RG) (σ : MS) (z : Nat → Int32) (c9 : Nat) (hR : REL G (X 0) g σ z (σ.1 31) (c9 + 1) M) (hI : MI σ) (P9 K9 : Nat) (a i b j n : Int32) (hP9 : P9 < 6) (hK9 : K9 < psz σ P9) (hAF : AF σ P9 K9 = [.int (nI 4), .int a, .int i, .int b, .int j, .int n]) (hAH : AH9 σ c9 (nI 4) a i b j n) (hrw : mf_hasRows σ (nI 4) a b) (hge : ¬ σ.2.1 24 c9 < mf_priceOf σ (nI 4) a b n) (hm : MW σ) (hJ8 : nJ σ < 8000) : HM l yX25_act (ws_ yX25_act cX25_act 4 (some .long)) 29 11440 9 320 G X N0 [.ref (qC g c9), .ref (qA g P9 K9)] M (WB G (X 0) g σ z (c9 + 1) M (mf_actR go c9 σ)) (XB G (X 0) g σ z (c9 + 1) M (mf_actR go c9 σ)) := by
  refine HM.of hl [(0, .ref (qC g c9)), (1, .ref (qA g P9 K9))] (by decide +kernel) rfl (Nat.le_of_ble_eq_true rfl) ?_
  intro p e s m args below meth c C hname
  have hN := hR.N
  obtain ⟨fH, hHs, hHf⟩ := hR.Hs
  have hCc : M (qC g c9) = some (.inr (4, [.int (σ.2.1 21 c9), .int (σ.2.1 25 c9), .ref (qKl g c9), .ref (qW g c9), .int (σ.2.1 24 c9), .int (σ.2.1 23 c9 - σ.2.1 24 c9), .int (σ.2.1 22 c9), .ref (qN g)])) := hR.Cc (Nat.lt_succ_self c9)
  have hac : M (qA g P9 K9) = some (.inr (3, [.int (nI 4), .int a, .int i, .int b, .int j, .int n])) := (hR.A hP9 hK9).trans (congrArg (fun y => some (Sum.inr (3, y))) hAF)
  have hH9 : M (qH g 4) = some (.inr (14, [.int 1, .ref (qN g), .int 1, .int 7, .ref (qN g), .ref (qN g), .ref (qN g)])) := hR.H (by decide)
  refine V_aload_n C dX25_act_0 rfl 0 rfl ?_
  refine V_get C f_X25_3_4 hCc (v := .ref (qN g)) rfl dX25_act_1 ?_
  refine V_getN C f_X25_111_0 hN (v := .ref (qHs g)) rfl dX25_act_4 ?_
  refine V_aload_n C dX25_act_7 rfl 1 rfl ?_
  refine V_getN C f_X25_115_3 hac (v := .int (nI 4)) rfl dX25_act_8 ?_
  refine V_aald C (j := 14) rfl rfl hHs (vp_in_nI (by omega) (by omega)) dX25_act_11 ?_
  refine V_st (st' := [.ref (qH g 4)]) (by rw [nI_clamp (by omega), (hHf 4 (by decide))]; rfl) ?_
  refine V_astore_n C dX25_act_12 rfl (Nat.le_of_ble_eq_true rfl) [(0, .ref (qC g c9)), (1, .ref (qA g P9 K9)), (2, .ref (qH g 4))] [1, 2, 0] rfl ?_
  refine V_aload_n C dX25_act_13 rfl 1 rfl ?_
  refine V_getN C f_X25_115_3 hac (v := .int (nI 4)) rfl dX25_act_14 ?_
  refine V_callSN C (c_X1_needsRow l hl G X N0 M (nI 4)) cs_X25_120 rfl rfl ⟨Nat.le_of_ble_eq_true rfl, Nat.le_of_ble_eq_true rfl⟩ ⟨(by first | exact Nat.le_of_ble_eq_true rfl | omega | (dsimp only; omega) | (simp only [List.length_cons, List.length_nil]; omega)), (by first | exact Nat.le_of_ble_eq_true rfl | omega | (dsimp only; omega) | (simp only [List.length_cons, List.length_nil]; omega))⟩ (Nat.le_of_ble_eq_true rfl) dX25_act_17 (fun _ _ _ h => px0 h) ?_
  rintro _ _ ⟨rfl, rfl⟩
  refine V_st (st' := [.int (bI ((nI 4) ≠ 10 ∧ (nI 4) ≠ 11))]) rfl ?_
  refine V_if_eq (tgt := 67) C dX25_act_20 (by decide) (fun c_20 => ?_) (fun c_20 => ?_)
  · exact absurd (bI_0.mp c_20) (not_not_intro ⟨by decide, by decide⟩)
  · refine V_pc (pc1 := 23) rfl ?_
    refine V_aload_n C dX25_act_23 rfl 0 rfl ?_
    refine V_get C f_X25_3_4 hCc (v := .ref (qN g)) rfl dX25_act_24 ?_
    refine V_aload_n C dX25_act_27 rfl 1 rfl ?_
    refine V_getN C f_X25_123_3 hac (v := .int a) rfl dX25_act_28 ?_
    refine V_callVN C (c_X1_isRow l hl G X N0 M g σ z (σ.1 31) (c9 + 1) hR hI a) cs_X25_126_0 hN (show CLS[0]? = some (RX1, TX1, 17) from rfl) rfl rfl ⟨Nat.le_of_ble_eq_true rfl, Nat.le_of_ble_eq_true rfl⟩ ⟨(by first | exact Nat.le_of_ble_eq_true rfl | omega | (dsimp only; omega) | (simp only [List.length_cons, List.length_nil]; omega)), (by first | exact Nat.le_of_ble_eq_true rfl | omega | (dsimp only; omega) | (simp only [List.length_cons, List.length_nil]; omega))⟩ (Nat.le_of_ble_eq_true rfl) dX25_act_31 (fun _ _ _ h => px0 h) ?_
    rintro _ _ ⟨rfl, rfl⟩
    refine V_st (st' := [.int (bI (¬ a < 0 ∧ a < σ.1 1))]) rfl ?_
    refine V_if_eq (tgt := 58) C dX25_act_34 (by decide) (fun c_34 => ?_) (fun c_34 => ?_)
    · exact absurd (hrw.1.resolve_left (by decide)) (bI_0.mp c_34)
    · refine V_aload_n C dX25_act_37 rfl 2 rfl ?_
      refine V_callO C (c_X9_hasOther_14 l hl G X N0 M (qH g 4) (qN g) hH9) cs_X25_129_14 hH9 (show CLS[14]? = some (RX11, TX11, 7) from rfl) rfl rfl ⟨Nat.le_of_ble_eq_true rfl, Nat.le_of_ble_eq_true rfl⟩ ⟨(by first | exact Nat.le_of_ble_eq_true rfl | omega | (dsimp only; omega) | (simp only [List.length_cons, List.length_nil]; omega)), (by first | exact Nat.le_of_ble_eq_true rfl | omega | (dsimp only; omega) | (simp only [List.length_cons, List.length_nil]; omega))⟩ (Nat.le_of_ble_eq_true rfl) dX25_act_38 (fun _ _ _ h => px0 h) ?_
      rintro _ _ ⟨rfl, rfl⟩
      refine V_st (st' := [.int 1]) rfl ?_
      refine V_if_eq (tgt := 67) C dX25_act_41 (by decide) (fun c_41 => ?_) (fun c_41 => ?_)
      · exact absurd c_41 (by decide)
      · refine V_aload_n C dX25_act_44 rfl 0 rfl ?_
        refine V_get C f_X25_3_4 hCc (v := .ref (qN g)) rfl dX25_act_45 ?_
        refine V_aload_n C dX25_act_48 rfl 1 rfl ?_
        refine V_pc (pc1 := 49) rfl ?_
        refine V_getN C f_X25_135_3 hac (v := .int b) rfl dX25_act_49 ?_
        refine V_callVN C (c_X1_isRow l hl G X N0 M g σ z (σ.1 31) (c9 + 1) hR hI b) cs_X25_126_0 hN (show CLS[0]? = some (RX1, TX1, 17) from rfl) rfl rfl ⟨Nat.le_of_ble_eq_true rfl, Nat.le_of_ble_eq_true rfl⟩ ⟨(by first | exact Nat.le_of_ble_eq_true rfl | omega | (dsimp only; omega) | (simp only [List.length_cons, List.length_nil]; omega)), (by first | exact Nat.le_of_ble_eq_true rfl | omega | (dsimp only; omega) | (simp only [List.length_cons, List.length_nil]; omega))⟩ (Nat.le_of_ble_eq_true rfl) dX25_act_52 (fun _ _ _ h => px0 h) ?_
        rintro _ _ ⟨rfl, rfl⟩
        refine V_st (st' := [.int (bI (¬ b < 0 ∧ b < σ.1 1))]) rfl ?_
        refine V_if_ne (tgt := 67) C dX25_act_55 (by decide) (fun c_55 => ?_) (fun c_55 => ?_)
        · refine V_aload_n C dX25_act_67 rfl 0 rfl ?_
          refine V_get C f_X25_3_4 hCc (v := .ref (qN g)) rfl dX25_act_68 ?_
          refine V_aload_n C dX25_act_71 rfl 1 rfl ?_
          refine V_callVN C (c_X1_priceOf l hl G X N0 M g σ z (σ.1 31) (c9 + 1) hR hI (qA g P9 K9) 4 (by decide) (nI 4) a i b j n rfl hac hrw) cs_X25_142_0 hN (show CLS[0]? = some (RX1, TX1, 17) from rfl) rfl rfl ⟨Nat.le_of_ble_eq_true rfl, Nat.le_of_ble_eq_true rfl⟩ ⟨(by first | exact Nat.le_of_ble_eq_true rfl | omega | (dsimp only; omega) | (simp only [List.length_cons, List.length_nil]; omega)), (by first | exact Nat.le_of_ble_eq_true rfl | omega | (dsimp only; omega) | (simp only [List.length_cons, List.length_nil]; omega))⟩ (Nat.le_of_ble_eq_true rfl) dX25_act_72 (fun _ _ _ h => px0 h) ?_
          rintro _ _ ⟨rfl, rfl⟩
          refine V_st (st' := [.int (mf_priceOf σ (nI 4) a b n)]) rfl ?_
          refine V_istore_n C dX25_act_75 rfl (Nat.le_of_ble_eq_true rfl) [(0, .ref (qC g c9)), (1, .ref (qA g P9 K9)), (2, .ref (qH g 4)), (3, .int (mf_priceOf σ (nI 4) a b n))] [1, 2, 3, 0] rfl ?_
          refine V_aload_n C dX25_act_76 rfl 0 rfl ?_
          refine V_get C f_X25_39_4 hCc (v := .int (σ.2.1 24 c9)) rfl dX25_act_77 ?_
          refine V_iload_n C dX25_act_80 rfl 3 rfl ?_
          refine V_icmp_ge (tgt := 94) C dX25_act_81 (by decide) (fun c_81 => ?_) (fun c_81 => ?_)
          · obtain ⟨pr, hpr⟩ : ∃ y, y = mf_priceOf σ (nI 4) a b n := ⟨_, rfl⟩
            refine V_loc (L' := [(0, .ref (qC g c9)), (1, .ref (qA g P9 K9)), (2, .ref (qH g 4)), (3, .int pr)]) [0, 1, 2, 3] (by rw [hpr]; rfl) ?_
            have hfrP : hp_fr (fun b => b = qC g c9 ∨ b = qN g) M M := hp_fr.rf
            have hshP : hp_sh M M := hp_sh.rf
            have hneP : qC g c9 ≠ qN g := hR.ne (t := 15) (i := c9) (j := 0) (t' := 0) (i' := 0) (j' := 0) ⟨Nat.lt_succ_self c9, rfl⟩ ⟨by decide, rfl, rfl⟩ (by simp)
            refine V_pc (pc1 := 94) rfl ?_
            refine V_aload_n C dX25_act_94 rfl 0 rfl ?_
            refine V_dup C dX25_act_95 rfl ?_
            refine V_get C f_X25_39_4 hCc (v := .int (σ.2.1 24 c9)) rfl dX25_act_96 ?_
            refine V_iload_n C dX25_act_99 rfl 3 rfl ?_
            refine V_isub C dX25_act_100 ?_
            refine V_put C f_X25_39_4 hCc rfl rfl (Nat.le_of_ble_eq_true rfl) dX25_act_101 ?_
            obtain ⟨M_1, eM_2⟩ : ∃ z, z = hp_up M (qC g c9) (.inr (4, [.int (σ.2.1 21 c9), .int (σ.2.1 25 c9), .ref (qKl g c9), .ref (qW g c9), .int ((σ.2.1 24 c9) - pr), .int (σ.2.1 23 c9 - σ.2.1 24 c9), .int (σ.2.1 22 c9), .ref (qN g)])) := ⟨_, rfl⟩
            refine V_heap (M' := M_1) eM_2.symm ?_
            have ho_3 : M_1 (qN g) = some (.inr (0, [.ref (qRl g), .ref (qUl g), .ref (qPl g), .ref (qHs g), .int (σ.1 20), .int (σ.1 14), .int (σ.1 11), .int (σ.1 12), .int (σ.1 15), .int (z 0), .int (z 1), .int (z 2), .int (z 3), .int (z 4), .int (z 5), .int (σ.1 31), .ref (qAn g)])) := by rw [eM_2, hp_up_n (Ne.symm hneP)]; exact hN
            have ho_4 : M_1 (qA g P9 K9) = some (.inr (3, [.int (nI 4), .int a, .int i, .int b, .int j, .int n])) := by rw [eM_2, hp_up_n (hp_ne hac hCc (by simp))]; exact hac
            have ho_5 : M_1 (qH g 4) = some (.inr (14, [.int 1, .ref (qN g), .int 1, .int 7, .ref (qN g), .ref (qN g), .ref (qN g)])) := by rw [eM_2, hp_up_n (hp_ne hH9 hCc (by simp))]; exact hH9
            have ha_6 : M_1 (qHs g) = some (.inl (G.2 14, 13, .inr (.inr (.inr (.inr fH))))) := by rw [eM_2, hp_up_n (hp_ne hHs hCc (by simp))]; exact hHs
            have eM_2_s : M_1 (qC g c9) = some (.inr (4, [.int (σ.2.1 21 c9), .int (σ.2.1 25 c9), .ref (qKl g c9), .ref (qW g c9), .int ((σ.2.1 24 c9) - pr), .int (σ.2.1 23 c9 - σ.2.1 24 c9), .int (σ.2.1 22 c9), .ref (qN g)])) := by rw [eM_2]; exact hp_up_s
            have fr_7 := hp_fr.set hfrP (Or.inl (Or.inl rfl)) eM_2
            have sh_8 := hp_sh.set hshP hCc eM_2 rfl
            refine V_aload_n C dX25_act_104 rfl 0 rfl ?_
            refine V_dup C dX25_act_105 rfl ?_
            refine V_get C f_X25_146_4 eM_2_s (v := .int (σ.2.1 23 c9 - σ.2.1 24 c9)) rfl dX25_act_106 ?_
            refine V_iload_n C dX25_act_109 rfl 3 rfl ?_
            refine V_iadd C dX25_act_110 ?_
            refine V_put C f_X25_146_4 eM_2_s rfl rfl (Nat.le_of_ble_eq_true rfl) dX25_act_111 ?_
            obtain ⟨M_9, eM_10⟩ : ∃ z, z = hp_up M_1 (qC g c9) (.inr (4, [.int (σ.2.1 21 c9), .int (σ.2.1 25 c9), .ref (qKl g c9), .ref (qW g c9), .int ((σ.2.1 24 c9) - pr), .int ((σ.2.1 23 c9 - σ.2.1 24 c9) + pr), .int (σ.2.1 22 c9), .ref (qN g)])) := ⟨_, rfl⟩
            refine V_heap (M' := M_9) eM_10.symm ?_
            have ho_11 : M_9 (qN g) = some (.inr (0, [.ref (qRl g), .ref (qUl g), .ref (qPl g), .ref (qHs g), .int (σ.1 20), .int (σ.1 14), .int (σ.1 11), .int (σ.1 12), .int (σ.1 15), .int (z 0), .int (z 1), .int (z 2), .int (z 3), .int (z 4), .int (z 5), .int (σ.1 31), .ref (qAn g)])) := by rw [eM_10, hp_up_n (Ne.symm hneP)]; exact ho_3
            have ho_12 : M_9 (qA g P9 K9) = some (.inr (3, [.int (nI 4), .int a, .int i, .int b, .int j, .int n])) := by rw [eM_10, hp_up_n (hp_ne ho_4 eM_2_s (by simp))]; exact ho_4
            have ho_13 : M_9 (qH g 4) = some (.inr (14, [.int 1, .ref (qN g), .int 1, .int 7, .ref (qN g), .ref (qN g), .ref (qN g)])) := by rw [eM_10, hp_up_n (hp_ne ho_5 eM_2_s (by simp))]; exact ho_5
            have ha_14 : M_9 (qHs g) = some (.inl (G.2 14, 13, .inr (.inr (.inr (.inr fH))))) := by rw [eM_10, hp_up_n (hp_ne ha_6 eM_2_s (by simp))]; exact ha_6
            have eM_10_s : M_9 (qC g c9) = some (.inr (4, [.int (σ.2.1 21 c9), .int (σ.2.1 25 c9), .ref (qKl g c9), .ref (qW g c9), .int ((σ.2.1 24 c9) - pr), .int ((σ.2.1 23 c9 - σ.2.1 24 c9) + pr), .int (σ.2.1 22 c9), .ref (qN g)])) := by rw [eM_10]; exact hp_up_s
            have fr_15 := hp_fr.set fr_7 (Or.inl (Or.inl rfl)) eM_10
            have sh_16 := hp_sh.set sh_8 eM_2_s eM_10 rfl
            refine V_pc (pc1 := 114) rfl ?_
            refine V_aload_n C dX25_act_114 rfl 0 rfl ?_
            refine V_get C f_X25_3_4 eM_10_s (v := .ref (qN g)) rfl dX25_act_115 ?_
            refine V_dup C dX25_act_118 rfl ?_
            refine V_getN C f_X25_149_0 ho_11 (v := .int (σ.1 11)) rfl dX25_act_119 ?_
            refine V_iconst (v := 1) C dX25_act_122 rfl ?_
            refine V_iadd C dX25_act_123 ?_
            refine V_putN C f_X25_149_0 ho_11 rfl rfl (Nat.le_of_ble_eq_true rfl) dX25_act_124 ?_
            obtain ⟨M_17, eM_18⟩ : ∃ z9, z9 = hp_up M_9 (qN g) (.inr (0, [.ref (qRl g), .ref (qUl g), .ref (qPl g), .ref (qHs g), .int (σ.1 20), .int (σ.1 14), .int ((σ.1 11) + 1), .int (σ.1 12), .int (σ.1 15), .int (z 0), .int (z 1), .int (z 2), .int (z 3), .int (z 4), .int (z 5), .int (σ.1 31), .ref (qAn g)])) := ⟨_, rfl⟩
            refine V_heap (M' := M_17) eM_18.symm ?_
            have ho_19 : M_17 (qC g c9) = some (.inr (4, [.int (σ.2.1 21 c9), .int (σ.2.1 25 c9), .ref (qKl g c9), .ref (qW g c9), .int ((σ.2.1 24 c9) - pr), .int ((σ.2.1 23 c9 - σ.2.1 24 c9) + pr), .int (σ.2.1 22 c9), .ref (qN g)])) := by rw [eM_18, hp_up_n hneP]; exact eM_10_s
            have ho_20 : M_17 (qA g P9 K9) = some (.inr (3, [.int (nI 4), .int a, .int i, .int b, .int j, .int n])) := by rw [eM_18, hp_up_n (hp_ne ho_12 ho_11 (by simp))]; exact ho_12
            have ho_21 : M_17 (qH g 4) = some (.inr (14, [.int 1, .ref (qN g), .int 1, .int 7, .ref (qN g), .ref (qN g), .ref (qN g)])) := by rw [eM_18, hp_up_n (hp_ne ho_13 ho_11 (by simp))]; exact ho_13
            have ha_22 : M_17 (qHs g) = some (.inl (G.2 14, 13, .inr (.inr (.inr (.inr fH))))) := by rw [eM_18, hp_up_n (hp_ne ha_14 ho_11 (by simp))]; exact ha_14
            have eM_18_s : M_17 (qN g) = some (.inr (0, [.ref (qRl g), .ref (qUl g), .ref (qPl g), .ref (qHs g), .int (σ.1 20), .int (σ.1 14), .int ((σ.1 11) + 1), .int (σ.1 12), .int (σ.1 15), .int (z 0), .int (z 1), .int (z 2), .int (z 3), .int (z 4), .int (z 5), .int (σ.1 31), .ref (qAn g)])) := by rw [eM_18]; exact hp_up_s
            have fr_23 := hp_fr.set fr_15 (Or.inl (Or.inr rfl)) eM_18
            have sh_24 := hp_sh.set sh_16 ho_11 eM_18 rfl
            have hpay := hR.pay (pr := pr) (Nat.lt_succ_self c9) ho_19 eM_18_s fr_23 sh_24
            have hact : mf_actR go c9 σ = mf_workR go c9 (mf_pay c9 pr σ) 4 a i b j n := by rw [hpr]; exact act_w hAH hrw hge
            refine V_aload_n C dX25_act_127 rfl 2 rfl ?_
            refine V_aload_n C dX25_act_128 rfl 1 rfl ?_
            refine V_aload_n C dX25_act_129 rfl 0 rfl ?_
            have hRs : REL G (X 0) g (sa (mf_pay c9 pr σ) 0) z ((sa (mf_pay c9 pr σ) 0).1 31) (c9 + 1) M_17 := hpay.1.view VW.sa
            have hIs : MI (sa (mf_pay c9 pr σ) 0) := (MQ9.same (σ := σ) ⟨hI, hm⟩ rfl rfl rfl (fun k hk => by rcases hk with rfl | rfl | rfl | rfl | rfl | rfl <;> rfl) rfl).1
            have hms : MW (sa (mf_pay c9 pr σ) 0) := (MQ9.same (σ := σ) ⟨hI, hm⟩ rfl rfl rfl (fun k hk => by rcases hk with rfl | rfl | rfl | rfl | rfl | rfl <;> rfl) rfl).2
            obtain ⟨rr, hr, hra⟩ := hI.row (hrw.1.resolve_left (by decide))
            obtain ⟨rs, hs, hsb⟩ := hI.row (hrw.2.resolve_left (fun y => y (by decide)))
            have hdn : mf_actR go c9 σ = mf_dr (mf_orderRows (sa (mf_pay c9 pr σ) 0) rr rs) := by
              rw [hact, hra, hsb]
              show mf_dr (mf_done (mf_pay c9 pr σ) 4 (nI rr) i (nI rs) j n) = _
              have hR60 := hI.R.2
              have e1 : (nI rr).toNatClampNeg = rr := nI_clamp (by omega)
              have e2 : (nI rs).toNatClampNeg = rs := nI_clamp (by omega)
              unfold mf_done
              rw [if_neg (by decide), if_neg (by decide), if_neg (by decide), if_neg (by decide), if_pos rfl, e1, e2]
            refine V_callA C (c_work_4 l hl G X N0 M_17 g (sa (mf_pay c9 pr σ) 0) z (c9 + 1) c9 rfl hRs hIs P9 K9 rr rs (nI 4) i j n hP9 hK9 hr hs (show AF (sa (mf_pay c9 pr σ) 0) P9 K9 = [.int (nI 4), .int (nI rr), .int i, .int (nI rs), .int j, .int n] from by rw [← hra, ← hsb]; exact hAF) hms rfl hJ8) cs_X25_151_14 ho_21 (show CLS[14]? = some (RX11, TX11, 7) from rfl) rfl rfl ⟨Nat.le_of_ble_eq_true rfl, Nat.le_of_ble_eq_true rfl⟩ ⟨(by first | exact Nat.le_of_ble_eq_true rfl | omega | (dsimp only; omega) | (simp only [List.length_cons, List.length_nil]; omega)), (by first | exact Nat.le_of_ble_eq_true rfl | omega | (dsimp only; omega) | (simp only [List.length_cons, List.length_nil]; omega))⟩ (Nat.le_of_ble_eq_true rfl) dX25_act_130 (fun q9 E9 M9 h9 => by have h8 : XB G (X 0) g σ z (c9 + 1) M (mf_actR go c9 σ) q9 E9 M9 := by { rw [hdn]; exact XB.pre (σ := σ) (τ := (sa (mf_pay c9 pr σ) 0)) (hpay.2.view VW.sa) rfl rfl rfl rfl (WX.dr h9) }; obtain rfl := h8.2.1; exact VX_out C (fun z hz => by cases hz) h8 (by first | exact Nat.le_of_ble_eq_true rfl | omega | (dsimp only; omega) | (simp only [List.length_cons, List.length_nil]; omega)) (by first | exact Nat.le_of_ble_eq_true rfl | omega | (dsimp only; omega) | (simp only [List.length_cons, List.length_nil]; omega))) ?_
            rintro v9 M_25 hv9
            have hwb : WB G (X 0) g σ z (c9 + 1) M (mf_actR go c9 σ) v9 M_25 := by rw [hdn]; exact WB.pre (σ := σ) (τ := (sa (mf_pay c9 pr σ) 0)) (hpay.2.view VW.sa) rfl rfl rfl rfl (WP.dr hv9)
            obtain rfl := hv9.2.1
            refine V_st (st' := [.long ((mf_orderRows (sa (mf_pay c9 pr σ) 0) rr rs).2.2.2.2)]) rfl ?_
            refine V_lret C dX25_act_133 rfl ?_ (by first | exact Nat.le_of_ble_eq_true rfl | omega | (dsimp only; omega) | (simp only [List.length_cons, List.length_nil]; omega)) (by first | exact Nat.le_of_ble_eq_true rfl | omega | (dsimp only; omega) | (simp only [List.length_cons, List.length_nil]; omega))
            exact hwb
          · exact absurd (Int32.not_le.mp c_81) hge
        · exact absurd (hrw.2.resolve_left (fun y => y (by decide))) (bI_0.mp c_55)
set_option maxHeartbeats 1000000 in
theorem c_X25_act_5_1 (l : Launch) (hl : l.stackTraces = false) (G : hp_G) (X : Nat → Nat) (N0 : Nat) (M : hp_h) (go : Nat → MS → Int32 × MS) (g : RG) (σ : MS) (z : Nat → Int32) (c9 : Nat) (hR : REL G (X 0) g σ z (σ.1 31) (c9 + 1) M) (hI : MI σ) (P9 K9 : Nat) (a i b j n : Int32) (hP9 : P9 < 6) (hK9 : K9 < psz σ P9) (hAF : AF σ P9 K9 = [.int (nI 5), .int a, .int i, .int b, .int j, .int n]) (hAH : AH9 σ c9 (nI 5) a i b j n) (hn : ¬ mf_hasRows σ (nI 5) a b) : HM l yX25_act (ws_ yX25_act cX25_act 4 (some .long)) 29 11440 1 7 G X N0 [.ref (qC g c9), .ref (qA g P9 K9)] M PFF (XB G (X 0) g σ z (c9 + 1) M (mf_actR go c9 σ)) := by
  refine HM.of hl [(0, .ref (qC g c9)), (1, .ref (qA g P9 K9))] (by decide +kernel) rfl (Nat.le_of_ble_eq_true rfl) ?_
  intro p e s m args below meth c C hname
  have hN := hR.N
  obtain ⟨fH, hHs, hHf⟩ := hR.Hs
  have hCc : M (qC g c9) = some (.inr (4, [.int (σ.2.1 21 c9), .int (σ.2.1 25 c9), .ref (qKl g c9), .ref (qW g c9), .int (σ.2.1 24 c9), .int (σ.2.1 23 c9 - σ.2.1 24 c9), .int (σ.2.1 22 c9), .ref (qN g)])) := hR.Cc (Nat.lt_succ_self c9)
  have hac : M (qA g P9 K9) = some (.inr (3, [.int (nI 5), .int a, .int i, .int b, .int j, .int n])) := (hR.A hP9 hK9).trans (congrArg (fun y => some (Sum.inr (3, y))) hAF)
  have hH9 : M (qH g 5) = some (.inr (15, [.int 1, .ref (qN g), .int 0, .int 10, .ref (qN g), .ref (qN g)])) := hR.H (by decide)
  refine V_aload_n C dX25_act_0 rfl 0 rfl ?_
  refine V_get C f_X25_3_4 hCc (v := .ref (qN g)) rfl dX25_act_1 ?_
  refine V_getN C f_X25_111_0 hN (v := .ref (qHs g)) rfl dX25_act_4 ?_
  refine V_aload_n C dX25_act_7 rfl 1 rfl ?_
  refine V_getN C f_X25_115_3 hac (v := .int (nI 5)) rfl dX25_act_8 ?_
  refine V_aald C (j := 14) rfl rfl hHs (vp_in_nI (by omega) (by omega)) dX25_act_11 ?_
  refine V_st (st' := [.ref (qH g 5)]) (by rw [nI_clamp (by omega), (hHf 5 (by decide))]; rfl) ?_
  refine V_astore_n C dX25_act_12 rfl (Nat.le_of_ble_eq_true rfl) [(0, .ref (qC g c9)), (1, .ref (qA g P9 K9)), (2, .ref (qH g 5))] [1, 2, 0] rfl ?_
  refine V_aload_n C dX25_act_13 rfl 1 rfl ?_
  refine V_getN C f_X25_115_3 hac (v := .int (nI 5)) rfl dX25_act_14 ?_
  refine V_callSN C (c_X1_needsRow l hl G X N0 M (nI 5)) cs_X25_120 rfl rfl ⟨Nat.le_of_ble_eq_true rfl, Nat.le_of_ble_eq_true rfl⟩ ⟨(by first | exact Nat.le_of_ble_eq_true rfl | omega | (dsimp only; omega) | (simp only [List.length_cons, List.length_nil]; omega)), (by first | exact Nat.le_of_ble_eq_true rfl | omega | (dsimp only; omega) | (simp only [List.length_cons, List.length_nil]; omega))⟩ (Nat.le_of_ble_eq_true rfl) dX25_act_17 (fun _ _ _ h => px0 h) ?_
  rintro _ _ ⟨rfl, rfl⟩
  refine V_st (st' := [.int (bI ((nI 5) ≠ 10 ∧ (nI 5) ≠ 11))]) rfl ?_
  refine V_if_eq (tgt := 67) C dX25_act_20 (by decide) (fun c_20 => ?_) (fun c_20 => ?_)
  · exact absurd (bI_0.mp c_20) (not_not_intro ⟨by decide, by decide⟩)
  · refine V_pc (pc1 := 23) rfl ?_
    refine V_aload_n C dX25_act_23 rfl 0 rfl ?_
    refine V_get C f_X25_3_4 hCc (v := .ref (qN g)) rfl dX25_act_24 ?_
    refine V_aload_n C dX25_act_27 rfl 1 rfl ?_
    refine V_getN C f_X25_123_3 hac (v := .int a) rfl dX25_act_28 ?_
    refine V_callVN C (c_X1_isRow l hl G X N0 M g σ z (σ.1 31) (c9 + 1) hR hI a) cs_X25_126_0 hN (show CLS[0]? = some (RX1, TX1, 17) from rfl) rfl rfl ⟨Nat.le_of_ble_eq_true rfl, Nat.le_of_ble_eq_true rfl⟩ ⟨(by first | exact Nat.le_of_ble_eq_true rfl | omega | (dsimp only; omega) | (simp only [List.length_cons, List.length_nil]; omega)), (by first | exact Nat.le_of_ble_eq_true rfl | omega | (dsimp only; omega) | (simp only [List.length_cons, List.length_nil]; omega))⟩ (Nat.le_of_ble_eq_true rfl) dX25_act_31 (fun _ _ _ h => px0 h) ?_
    rintro _ _ ⟨rfl, rfl⟩
    refine V_st (st' := [.int (bI (¬ a < 0 ∧ a < σ.1 1))]) rfl ?_
    refine V_if_eq (tgt := 58) C dX25_act_34 (by decide) (fun c_34 => ?_) (fun c_34 => ?_)
    · refine V_aload_n C dX25_act_58 rfl 0 rfl ?_
      refine V_get C f_X25_3_4 hCc (v := .ref (qN g)) rfl dX25_act_59 ?_
      refine V_iconst (v := 1) C dX25_act_62 rfl ?_
      refine V_callVN C (c_X1_fail l hl G X N0 M (qN g) (qRl g) (qUl g) (qPl g) (qHs g) (qAn g) (σ.1 20) (σ.1 14) (σ.1 11) (σ.1 12) (σ.1 15) (z 0) (z 1) (z 2) (z 3) (z 4) (z 5) (σ.1 31) 1 hN) cs_X25_138_0 hN (show CLS[0]? = some (RX1, TX1, 17) from rfl) rfl rfl ⟨Nat.le_of_ble_eq_true rfl, Nat.le_of_ble_eq_true rfl⟩ ⟨(by first | exact Nat.le_of_ble_eq_true rfl | omega | (dsimp only; omega) | (simp only [List.length_cons, List.length_nil]; omega)), (by first | exact Nat.le_of_ble_eq_true rfl | omega | (dsimp only; omega) | (simp only [List.length_cons, List.length_nil]; omega))⟩ (Nat.le_of_ble_eq_true rfl) dX25_act_63 (fun _ _ _ h => px0 h) ?_
      rintro _ M_3 ⟨q_1, rfl, hq_2, hN_4, hF_5, fr_6, sh_7⟩
      refine V_st (st' := [.ref q_1]) rfl ?_
      refine V_athrow C hF_5 (show CLS[8]? = some (RX26, TX26, 7) from rfl) dX25_act_66 ?_
      exact VX_out C (fun z hz => by cases hz) (FLX.xb (FLX.of hR hq_2 hN_4 hF_5 fr_6 sh_7) (act_1 hAH hn) (by decide)) (by first | exact Nat.le_of_ble_eq_true rfl | omega | (dsimp only; omega) | (simp only [List.length_cons, List.length_nil]; omega)) (by first | exact Nat.le_of_ble_eq_true rfl | omega | (dsimp only; omega) | (simp only [List.length_cons, List.length_nil]; omega))
    · refine V_aload_n C dX25_act_37 rfl 2 rfl ?_
      refine V_callU C (c_X3_hasOther_15 l hl G X N0 M (qH g 5) (qN g) hH9) cs_X25_129_15 hH9 (show CLS[15]? = some (RX12, TX12, 6) from rfl) rfl rfl ⟨Nat.le_of_ble_eq_true rfl, Nat.le_of_ble_eq_true rfl⟩ ⟨(by first | exact Nat.le_of_ble_eq_true rfl | omega | (dsimp only; omega) | (simp only [List.length_cons, List.length_nil]; omega)), (by first | exact Nat.le_of_ble_eq_true rfl | omega | (dsimp only; omega) | (simp only [List.length_cons, List.length_nil]; omega))⟩ (Nat.le_of_ble_eq_true rfl) dX25_act_38 (fun _ _ _ h => px0 h) ?_
      rintro _ _ ⟨rfl, rfl⟩
      refine V_st (st' := [.int 0]) rfl ?_
      refine V_if_eq (tgt := 67) C dX25_act_41 (by decide) (fun c_41 => ?_) (fun c_41 => ?_)
      · exact absurd (show mf_hasRows σ (nI 5) a b from ⟨Or.inr (bI_n.mp c_34), Or.inl (by decide)⟩) hn
      · exact absurd c_41 (by decide)
set_option maxHeartbeats 1000000 in
theorem c_X25_act_5_8 (l : Launch) (hl : l.stackTraces = false) (G : hp_G) (X : Nat → Nat) (N0 : Nat) (M : hp_h) (go : Nat → MS → Int32 × MS) (g : RG) (σ : MS) (z : Nat → Int32) (c9 : Nat) (hR : REL G (X 0) g σ z (σ.1 31) (c9 + 1) M) (hI : MI σ) (P9 K9 : Nat) (a i b j n : Int32) (hP9 : P9 < 6) (hK9 : K9 < psz σ P9) (hAF : AF σ P9 K9 = [.int (nI 5), .int a, .int i, .int b, .int j, .int n]) (hAH : AH9 σ c9 (nI 5) a i b j n) (hrw : mf_hasRows σ (nI 5) a b) (hlt : σ.2.1 24 c9 < mf_priceOf σ (nI 5) a b n) : HM l yX25_act (ws_ yX25_act cX25_act 4 (some .long)) 29 11440 1 7 G X N0 [.ref (qC g c9), .ref (qA g P9 K9)] M PFF (XB G (X 0) g σ z (c9 + 1) M (mf_actR go c9 σ)) := by
  refine HM.of hl [(0, .ref (qC g c9)), (1, .ref (qA g P9 K9))] (by decide +kernel) rfl (Nat.le_of_ble_eq_true rfl) ?_
  intro p e s m args below meth c C hname
  have hN := hR.N
  obtain ⟨fH, hHs, hHf⟩ := hR.Hs
  have hCc : M (qC g c9) = some (.inr (4, [.int (σ.2.1 21 c9), .int (σ.2.1 25 c9), .ref (qKl g c9), .ref (qW g c9), .int (σ.2.1 24 c9), .int (σ.2.1 23 c9 - σ.2.1 24 c9), .int (σ.2.1 22 c9), .ref (qN g)])) := hR.Cc (Nat.lt_succ_self c9)
  have hac : M (qA g P9 K9) = some (.inr (3, [.int (nI 5), .int a, .int i, .int b, .int j, .int n])) := (hR.A hP9 hK9).trans (congrArg (fun y => some (Sum.inr (3, y))) hAF)
  have hH9 : M (qH g 5) = some (.inr (15, [.int 1, .ref (qN g), .int 0, .int 10, .ref (qN g), .ref (qN g)])) := hR.H (by decide)
  refine V_aload_n C dX25_act_0 rfl 0 rfl ?_
  refine V_get C f_X25_3_4 hCc (v := .ref (qN g)) rfl dX25_act_1 ?_
  refine V_getN C f_X25_111_0 hN (v := .ref (qHs g)) rfl dX25_act_4 ?_
  refine V_aload_n C dX25_act_7 rfl 1 rfl ?_
  refine V_getN C f_X25_115_3 hac (v := .int (nI 5)) rfl dX25_act_8 ?_
  refine V_aald C (j := 14) rfl rfl hHs (vp_in_nI (by omega) (by omega)) dX25_act_11 ?_
  refine V_st (st' := [.ref (qH g 5)]) (by rw [nI_clamp (by omega), (hHf 5 (by decide))]; rfl) ?_
  refine V_astore_n C dX25_act_12 rfl (Nat.le_of_ble_eq_true rfl) [(0, .ref (qC g c9)), (1, .ref (qA g P9 K9)), (2, .ref (qH g 5))] [1, 2, 0] rfl ?_
  refine V_aload_n C dX25_act_13 rfl 1 rfl ?_
  refine V_getN C f_X25_115_3 hac (v := .int (nI 5)) rfl dX25_act_14 ?_
  refine V_callSN C (c_X1_needsRow l hl G X N0 M (nI 5)) cs_X25_120 rfl rfl ⟨Nat.le_of_ble_eq_true rfl, Nat.le_of_ble_eq_true rfl⟩ ⟨(by first | exact Nat.le_of_ble_eq_true rfl | omega | (dsimp only; omega) | (simp only [List.length_cons, List.length_nil]; omega)), (by first | exact Nat.le_of_ble_eq_true rfl | omega | (dsimp only; omega) | (simp only [List.length_cons, List.length_nil]; omega))⟩ (Nat.le_of_ble_eq_true rfl) dX25_act_17 (fun _ _ _ h => px0 h) ?_
  rintro _ _ ⟨rfl, rfl⟩
  refine V_st (st' := [.int (bI ((nI 5) ≠ 10 ∧ (nI 5) ≠ 11))]) rfl ?_
  refine V_if_eq (tgt := 67) C dX25_act_20 (by decide) (fun c_20 => ?_) (fun c_20 => ?_)
  · exact absurd (bI_0.mp c_20) (not_not_intro ⟨by decide, by decide⟩)
  · refine V_pc (pc1 := 23) rfl ?_
    refine V_aload_n C dX25_act_23 rfl 0 rfl ?_
    refine V_get C f_X25_3_4 hCc (v := .ref (qN g)) rfl dX25_act_24 ?_
    refine V_aload_n C dX25_act_27 rfl 1 rfl ?_
    refine V_getN C f_X25_123_3 hac (v := .int a) rfl dX25_act_28 ?_
    refine V_callVN C (c_X1_isRow l hl G X N0 M g σ z (σ.1 31) (c9 + 1) hR hI a) cs_X25_126_0 hN (show CLS[0]? = some (RX1, TX1, 17) from rfl) rfl rfl ⟨Nat.le_of_ble_eq_true rfl, Nat.le_of_ble_eq_true rfl⟩ ⟨(by first | exact Nat.le_of_ble_eq_true rfl | omega | (dsimp only; omega) | (simp only [List.length_cons, List.length_nil]; omega)), (by first | exact Nat.le_of_ble_eq_true rfl | omega | (dsimp only; omega) | (simp only [List.length_cons, List.length_nil]; omega))⟩ (Nat.le_of_ble_eq_true rfl) dX25_act_31 (fun _ _ _ h => px0 h) ?_
    rintro _ _ ⟨rfl, rfl⟩
    refine V_st (st' := [.int (bI (¬ a < 0 ∧ a < σ.1 1))]) rfl ?_
    refine V_if_eq (tgt := 58) C dX25_act_34 (by decide) (fun c_34 => ?_) (fun c_34 => ?_)
    · exact absurd (hrw.1.resolve_left (by decide)) (bI_0.mp c_34)
    · refine V_aload_n C dX25_act_37 rfl 2 rfl ?_
      refine V_callU C (c_X3_hasOther_15 l hl G X N0 M (qH g 5) (qN g) hH9) cs_X25_129_15 hH9 (show CLS[15]? = some (RX12, TX12, 6) from rfl) rfl rfl ⟨Nat.le_of_ble_eq_true rfl, Nat.le_of_ble_eq_true rfl⟩ ⟨(by first | exact Nat.le_of_ble_eq_true rfl | omega | (dsimp only; omega) | (simp only [List.length_cons, List.length_nil]; omega)), (by first | exact Nat.le_of_ble_eq_true rfl | omega | (dsimp only; omega) | (simp only [List.length_cons, List.length_nil]; omega))⟩ (Nat.le_of_ble_eq_true rfl) dX25_act_38 (fun _ _ _ h => px0 h) ?_
      rintro _ _ ⟨rfl, rfl⟩
      refine V_st (st' := [.int 0]) rfl ?_
      refine V_if_eq (tgt := 67) C dX25_act_41 (by decide) (fun c_41 => ?_) (fun c_41 => ?_)
      · refine V_aload_n C dX25_act_67 rfl 0 rfl ?_
        refine V_get C f_X25_3_4 hCc (v := .ref (qN g)) rfl dX25_act_68 ?_
        refine V_aload_n C dX25_act_71 rfl 1 rfl ?_
        refine V_pc (pc1 := 72) rfl ?_
        refine V_callVN C (c_X1_priceOf l hl G X N0 M g σ z (σ.1 31) (c9 + 1) hR hI (qA g P9 K9) 5 (by decide) (nI 5) a i b j n rfl hac hrw) cs_X25_142_0 hN (show CLS[0]? = some (RX1, TX1, 17) from rfl) rfl rfl ⟨Nat.le_of_ble_eq_true rfl, Nat.le_of_ble_eq_true rfl⟩ ⟨(by first | exact Nat.le_of_ble_eq_true rfl | omega | (dsimp only; omega) | (simp only [List.length_cons, List.length_nil]; omega)), (by first | exact Nat.le_of_ble_eq_true rfl | omega | (dsimp only; omega) | (simp only [List.length_cons, List.length_nil]; omega))⟩ (Nat.le_of_ble_eq_true rfl) dX25_act_72 (fun _ _ _ h => px0 h) ?_
        rintro _ _ ⟨rfl, rfl⟩
        refine V_st (st' := [.int (mf_priceOf σ (nI 5) a b n)]) rfl ?_
        refine V_istore_n C dX25_act_75 rfl (Nat.le_of_ble_eq_true rfl) [(0, .ref (qC g c9)), (1, .ref (qA g P9 K9)), (2, .ref (qH g 5)), (3, .int (mf_priceOf σ (nI 5) a b n))] [1, 2, 3, 0] rfl ?_
        refine V_aload_n C dX25_act_76 rfl 0 rfl ?_
        refine V_get C f_X25_39_4 hCc (v := .int (σ.2.1 24 c9)) rfl dX25_act_77 ?_
        refine V_iload_n C dX25_act_80 rfl 3 rfl ?_
        refine V_icmp_ge (tgt := 94) C dX25_act_81 (by decide) (fun c_81 => ?_) (fun c_81 => ?_)
        · exact absurd hlt (Int32.not_lt.mpr c_81)
        · refine V_aload_n C dX25_act_84 rfl 0 rfl ?_
          refine V_get C f_X25_3_4 hCc (v := .ref (qN g)) rfl dX25_act_85 ?_
          refine V_bipush (v := 8) C dX25_act_88 rfl ?_
          refine V_callVN C (c_X1_fail l hl G X N0 M (qN g) (qRl g) (qUl g) (qPl g) (qHs g) (qAn g) (σ.1 20) (σ.1 14) (σ.1 11) (σ.1 12) (σ.1 15) (z 0) (z 1) (z 2) (z 3) (z 4) (z 5) (σ.1 31) 8 hN) cs_X25_138_0 hN (show CLS[0]? = some (RX1, TX1, 17) from rfl) rfl rfl ⟨Nat.le_of_ble_eq_true rfl, Nat.le_of_ble_eq_true rfl⟩ ⟨(by first | exact Nat.le_of_ble_eq_true rfl | omega | (dsimp only; omega) | (simp only [List.length_cons, List.length_nil]; omega)), (by first | exact Nat.le_of_ble_eq_true rfl | omega | (dsimp only; omega) | (simp only [List.length_cons, List.length_nil]; omega))⟩ (Nat.le_of_ble_eq_true rfl) dX25_act_90 (fun _ _ _ h => px0 h) ?_
          rintro _ M_3 ⟨q_1, rfl, hq_2, hN_4, hF_5, fr_6, sh_7⟩
          refine V_st (st' := [.ref q_1]) rfl ?_
          refine V_athrow C hF_5 (show CLS[8]? = some (RX26, TX26, 7) from rfl) dX25_act_93 ?_
          exact VX_out C (fun z hz => by cases hz) (FLX.xb (FLX.of hR hq_2 hN_4 hF_5 fr_6 sh_7) (act_8 hAH hrw hlt) (by decide)) (by first | exact Nat.le_of_ble_eq_true rfl | omega | (dsimp only; omega) | (simp only [List.length_cons, List.length_nil]; omega)) (by first | exact Nat.le_of_ble_eq_true rfl | omega | (dsimp only; omega) | (simp only [List.length_cons, List.length_nil]; omega))
      · exact absurd c_41 (by decide)
set_option maxHeartbeats 1000000 in
theorem c_X25_act_5_w (l : Launch) (hl : l.stackTraces = false) (G : hp_G) (X : Nat → Nat) (N0 : Nat) (M : hp_h) (go : Nat → MS → Int32 × MS) (g : RG) (σ : MS) (z : Nat → Int32) (c9 : Nat) (hR : REL G (X 0) g σ z (σ.1 31) (c9 + 1) M) (hI : MI σ) (P9 K9 : Nat) (a i b j n : Int32) (hP9 : P9 < 6) (hK9 : K9 < psz σ P9) (hAF : AF σ P9 K9 = [.int (nI 5), .int a, .int i, .int b, .int j, .int n]) (hAH : AH9 σ c9 (nI 5) a i b j n) (hrw : mf_hasRows σ (nI 5) a b) (hge : ¬ σ.2.1 24 c9 < mf_priceOf σ (nI 5) a b n) (hm : MW σ) (hJ8 : nJ σ < 8000) : HM l yX25_act (ws_ yX25_act cX25_act 4 (some .long)) 29 11440 9 320 G X N0 [.ref (qC g c9), .ref (qA g P9 K9)] M (WB G (X 0) g σ z (c9 + 1) M (mf_actR go c9 σ)) (XB G (X 0) g σ z (c9 + 1) M (mf_actR go c9 σ)) := by
  refine HM.of hl [(0, .ref (qC g c9)), (1, .ref (qA g P9 K9))] (by decide +kernel) rfl (Nat.le_of_ble_eq_true rfl) ?_
  intro p e s m args below meth c C hname
  have hN := hR.N
  obtain ⟨fH, hHs, hHf⟩ := hR.Hs
  have hCc : M (qC g c9) = some (.inr (4, [.int (σ.2.1 21 c9), .int (σ.2.1 25 c9), .ref (qKl g c9), .ref (qW g c9), .int (σ.2.1 24 c9), .int (σ.2.1 23 c9 - σ.2.1 24 c9), .int (σ.2.1 22 c9), .ref (qN g)])) := hR.Cc (Nat.lt_succ_self c9)
  have hac : M (qA g P9 K9) = some (.inr (3, [.int (nI 5), .int a, .int i, .int b, .int j, .int n])) := (hR.A hP9 hK9).trans (congrArg (fun y => some (Sum.inr (3, y))) hAF)
  have hH9 : M (qH g 5) = some (.inr (15, [.int 1, .ref (qN g), .int 0, .int 10, .ref (qN g), .ref (qN g)])) := hR.H (by decide)
  refine V_aload_n C dX25_act_0 rfl 0 rfl ?_
  refine V_get C f_X25_3_4 hCc (v := .ref (qN g)) rfl dX25_act_1 ?_
  refine V_getN C f_X25_111_0 hN (v := .ref (qHs g)) rfl dX25_act_4 ?_
  refine V_aload_n C dX25_act_7 rfl 1 rfl ?_
  refine V_getN C f_X25_115_3 hac (v := .int (nI 5)) rfl dX25_act_8 ?_
  refine V_aald C (j := 14) rfl rfl hHs (vp_in_nI (by omega) (by omega)) dX25_act_11 ?_
  refine V_st (st' := [.ref (qH g 5)]) (by rw [nI_clamp (by omega), (hHf 5 (by decide))]; rfl) ?_
  refine V_astore_n C dX25_act_12 rfl (Nat.le_of_ble_eq_true rfl) [(0, .ref (qC g c9)), (1, .ref (qA g P9 K9)), (2, .ref (qH g 5))] [1, 2, 0] rfl ?_
  refine V_aload_n C dX25_act_13 rfl 1 rfl ?_
  refine V_getN C f_X25_115_3 hac (v := .int (nI 5)) rfl dX25_act_14 ?_
  refine V_callSN C (c_X1_needsRow l hl G X N0 M (nI 5)) cs_X25_120 rfl rfl ⟨Nat.le_of_ble_eq_true rfl, Nat.le_of_ble_eq_true rfl⟩ ⟨(by first | exact Nat.le_of_ble_eq_true rfl | omega | (dsimp only; omega) | (simp only [List.length_cons, List.length_nil]; omega)), (by first | exact Nat.le_of_ble_eq_true rfl | omega | (dsimp only; omega) | (simp only [List.length_cons, List.length_nil]; omega))⟩ (Nat.le_of_ble_eq_true rfl) dX25_act_17 (fun _ _ _ h => px0 h) ?_
  rintro _ _ ⟨rfl, rfl⟩
  refine V_st (st' := [.int (bI ((nI 5) ≠ 10 ∧ (nI 5) ≠ 11))]) rfl ?_
  refine V_if_eq (tgt := 67) C dX25_act_20 (by decide) (fun c_20 => ?_) (fun c_20 => ?_)
  · exact absurd (bI_0.mp c_20) (not_not_intro ⟨by decide, by decide⟩)
  · refine V_pc (pc1 := 23) rfl ?_
    refine V_aload_n C dX25_act_23 rfl 0 rfl ?_
    refine V_get C f_X25_3_4 hCc (v := .ref (qN g)) rfl dX25_act_24 ?_
    refine V_aload_n C dX25_act_27 rfl 1 rfl ?_
    refine V_getN C f_X25_123_3 hac (v := .int a) rfl dX25_act_28 ?_
    refine V_callVN C (c_X1_isRow l hl G X N0 M g σ z (σ.1 31) (c9 + 1) hR hI a) cs_X25_126_0 hN (show CLS[0]? = some (RX1, TX1, 17) from rfl) rfl rfl ⟨Nat.le_of_ble_eq_true rfl, Nat.le_of_ble_eq_true rfl⟩ ⟨(by first | exact Nat.le_of_ble_eq_true rfl | omega | (dsimp only; omega) | (simp only [List.length_cons, List.length_nil]; omega)), (by first | exact Nat.le_of_ble_eq_true rfl | omega | (dsimp only; omega) | (simp only [List.length_cons, List.length_nil]; omega))⟩ (Nat.le_of_ble_eq_true rfl) dX25_act_31 (fun _ _ _ h => px0 h) ?_
    rintro _ _ ⟨rfl, rfl⟩
    refine V_st (st' := [.int (bI (¬ a < 0 ∧ a < σ.1 1))]) rfl ?_
    refine V_if_eq (tgt := 58) C dX25_act_34 (by decide) (fun c_34 => ?_) (fun c_34 => ?_)
    · exact absurd (hrw.1.resolve_left (by decide)) (bI_0.mp c_34)
    · refine V_aload_n C dX25_act_37 rfl 2 rfl ?_
      refine V_callU C (c_X3_hasOther_15 l hl G X N0 M (qH g 5) (qN g) hH9) cs_X25_129_15 hH9 (show CLS[15]? = some (RX12, TX12, 6) from rfl) rfl rfl ⟨Nat.le_of_ble_eq_true rfl, Nat.le_of_ble_eq_true rfl⟩ ⟨(by first | exact Nat.le_of_ble_eq_true rfl | omega | (dsimp only; omega) | (simp only [List.length_cons, List.length_nil]; omega)), (by first | exact Nat.le_of_ble_eq_true rfl | omega | (dsimp only; omega) | (simp only [List.length_cons, List.length_nil]; omega))⟩ (Nat.le_of_ble_eq_true rfl) dX25_act_38 (fun _ _ _ h => px0 h) ?_
      rintro _ _ ⟨rfl, rfl⟩
      refine V_st (st' := [.int 0]) rfl ?_
      refine V_if_eq (tgt := 67) C dX25_act_41 (by decide) (fun c_41 => ?_) (fun c_41 => ?_)
      · refine V_aload_n C dX25_act_67 rfl 0 rfl ?_
        refine V_get C f_X25_3_4 hCc (v := .ref (qN g)) rfl dX25_act_68 ?_
        refine V_aload_n C dX25_act_71 rfl 1 rfl ?_
        refine V_pc (pc1 := 72) rfl ?_
        refine V_callVN C (c_X1_priceOf l hl G X N0 M g σ z (σ.1 31) (c9 + 1) hR hI (qA g P9 K9) 5 (by decide) (nI 5) a i b j n rfl hac hrw) cs_X25_142_0 hN (show CLS[0]? = some (RX1, TX1, 17) from rfl) rfl rfl ⟨Nat.le_of_ble_eq_true rfl, Nat.le_of_ble_eq_true rfl⟩ ⟨(by first | exact Nat.le_of_ble_eq_true rfl | omega | (dsimp only; omega) | (simp only [List.length_cons, List.length_nil]; omega)), (by first | exact Nat.le_of_ble_eq_true rfl | omega | (dsimp only; omega) | (simp only [List.length_cons, List.length_nil]; omega))⟩ (Nat.le_of_ble_eq_true rfl) dX25_act_72 (fun _ _ _ h => px0 h) ?_
        rintro _ _ ⟨rfl, rfl⟩
        refine V_st (st' := [.int (mf_priceOf σ (nI 5) a b n)]) rfl ?_
        refine V_istore_n C dX25_act_75 rfl (Nat.le_of_ble_eq_true rfl) [(0, .ref (qC g c9)), (1, .ref (qA g P9 K9)), (2, .ref (qH g 5)), (3, .int (mf_priceOf σ (nI 5) a b n))] [1, 2, 3, 0] rfl ?_
        refine V_aload_n C dX25_act_76 rfl 0 rfl ?_
        refine V_get C f_X25_39_4 hCc (v := .int (σ.2.1 24 c9)) rfl dX25_act_77 ?_
        refine V_iload_n C dX25_act_80 rfl 3 rfl ?_
        refine V_icmp_ge (tgt := 94) C dX25_act_81 (by decide) (fun c_81 => ?_) (fun c_81 => ?_)
        · obtain ⟨pr, hpr⟩ : ∃ y, y = mf_priceOf σ (nI 5) a b n := ⟨_, rfl⟩
          refine V_loc (L' := [(0, .ref (qC g c9)), (1, .ref (qA g P9 K9)), (2, .ref (qH g 5)), (3, .int pr)]) [0, 1, 2, 3] (by rw [hpr]; rfl) ?_
          have hfrP : hp_fr (fun b => b = qC g c9 ∨ b = qN g) M M := hp_fr.rf
          have hshP : hp_sh M M := hp_sh.rf
          have hneP : qC g c9 ≠ qN g := hR.ne (t := 15) (i := c9) (j := 0) (t' := 0) (i' := 0) (j' := 0) ⟨Nat.lt_succ_self c9, rfl⟩ ⟨by decide, rfl, rfl⟩ (by simp)
          refine V_aload_n C dX25_act_94 rfl 0 rfl ?_
          refine V_dup C dX25_act_95 rfl ?_
          refine V_get C f_X25_39_4 hCc (v := .int (σ.2.1 24 c9)) rfl dX25_act_96 ?_
          refine V_iload_n C dX25_act_99 rfl 3 rfl ?_
          refine V_isub C dX25_act_100 ?_
          refine V_put C f_X25_39_4 hCc rfl rfl (Nat.le_of_ble_eq_true rfl) dX25_act_101 ?_
          obtain ⟨M_1, eM_2⟩ : ∃ z, z = hp_up M (qC g c9) (.inr (4, [.int (σ.2.1 21 c9), .int (σ.2.1 25 c9), .ref (qKl g c9), .ref (qW g c9), .int ((σ.2.1 24 c9) - pr), .int (σ.2.1 23 c9 - σ.2.1 24 c9), .int (σ.2.1 22 c9), .ref (qN g)])) := ⟨_, rfl⟩
          refine V_heap (M' := M_1) eM_2.symm ?_
          have ho_3 : M_1 (qN g) = some (.inr (0, [.ref (qRl g), .ref (qUl g), .ref (qPl g), .ref (qHs g), .int (σ.1 20), .int (σ.1 14), .int (σ.1 11), .int (σ.1 12), .int (σ.1 15), .int (z 0), .int (z 1), .int (z 2), .int (z 3), .int (z 4), .int (z 5), .int (σ.1 31), .ref (qAn g)])) := by rw [eM_2, hp_up_n (Ne.symm hneP)]; exact hN
          have ho_4 : M_1 (qA g P9 K9) = some (.inr (3, [.int (nI 5), .int a, .int i, .int b, .int j, .int n])) := by rw [eM_2, hp_up_n (hp_ne hac hCc (by simp))]; exact hac
          have ho_5 : M_1 (qH g 5) = some (.inr (15, [.int 1, .ref (qN g), .int 0, .int 10, .ref (qN g), .ref (qN g)])) := by rw [eM_2, hp_up_n (hp_ne hH9 hCc (by simp))]; exact hH9
          have ha_6 : M_1 (qHs g) = some (.inl (G.2 14, 13, .inr (.inr (.inr (.inr fH))))) := by rw [eM_2, hp_up_n (hp_ne hHs hCc (by simp))]; exact hHs
          have eM_2_s : M_1 (qC g c9) = some (.inr (4, [.int (σ.2.1 21 c9), .int (σ.2.1 25 c9), .ref (qKl g c9), .ref (qW g c9), .int ((σ.2.1 24 c9) - pr), .int (σ.2.1 23 c9 - σ.2.1 24 c9), .int (σ.2.1 22 c9), .ref (qN g)])) := by rw [eM_2]; exact hp_up_s
          have fr_7 := hp_fr.set hfrP (Or.inl (Or.inl rfl)) eM_2
          have sh_8 := hp_sh.set hshP hCc eM_2 rfl
          refine V_pc (pc1 := 104) rfl ?_
          refine V_aload_n C dX25_act_104 rfl 0 rfl ?_
          refine V_dup C dX25_act_105 rfl ?_
          refine V_get C f_X25_146_4 eM_2_s (v := .int (σ.2.1 23 c9 - σ.2.1 24 c9)) rfl dX25_act_106 ?_
          refine V_iload_n C dX25_act_109 rfl 3 rfl ?_
          refine V_iadd C dX25_act_110 ?_
          refine V_put C f_X25_146_4 eM_2_s rfl rfl (Nat.le_of_ble_eq_true rfl) dX25_act_111 ?_
          obtain ⟨M_9, eM_10⟩ : ∃ z, z = hp_up M_1 (qC g c9) (.inr (4, [.int (σ.2.1 21 c9), .int (σ.2.1 25 c9), .ref (qKl g c9), .ref (qW g c9), .int ((σ.2.1 24 c9) - pr), .int ((σ.2.1 23 c9 - σ.2.1 24 c9) + pr), .int (σ.2.1 22 c9), .ref (qN g)])) := ⟨_, rfl⟩
          refine V_heap (M' := M_9) eM_10.symm ?_
          have ho_11 : M_9 (qN g) = some (.inr (0, [.ref (qRl g), .ref (qUl g), .ref (qPl g), .ref (qHs g), .int (σ.1 20), .int (σ.1 14), .int (σ.1 11), .int (σ.1 12), .int (σ.1 15), .int (z 0), .int (z 1), .int (z 2), .int (z 3), .int (z 4), .int (z 5), .int (σ.1 31), .ref (qAn g)])) := by rw [eM_10, hp_up_n (Ne.symm hneP)]; exact ho_3
          have ho_12 : M_9 (qA g P9 K9) = some (.inr (3, [.int (nI 5), .int a, .int i, .int b, .int j, .int n])) := by rw [eM_10, hp_up_n (hp_ne ho_4 eM_2_s (by simp))]; exact ho_4
          have ho_13 : M_9 (qH g 5) = some (.inr (15, [.int 1, .ref (qN g), .int 0, .int 10, .ref (qN g), .ref (qN g)])) := by rw [eM_10, hp_up_n (hp_ne ho_5 eM_2_s (by simp))]; exact ho_5
          have ha_14 : M_9 (qHs g) = some (.inl (G.2 14, 13, .inr (.inr (.inr (.inr fH))))) := by rw [eM_10, hp_up_n (hp_ne ha_6 eM_2_s (by simp))]; exact ha_6
          have eM_10_s : M_9 (qC g c9) = some (.inr (4, [.int (σ.2.1 21 c9), .int (σ.2.1 25 c9), .ref (qKl g c9), .ref (qW g c9), .int ((σ.2.1 24 c9) - pr), .int ((σ.2.1 23 c9 - σ.2.1 24 c9) + pr), .int (σ.2.1 22 c9), .ref (qN g)])) := by rw [eM_10]; exact hp_up_s
          have fr_15 := hp_fr.set fr_7 (Or.inl (Or.inl rfl)) eM_10
          have sh_16 := hp_sh.set sh_8 eM_2_s eM_10 rfl
          refine V_aload_n C dX25_act_114 rfl 0 rfl ?_
          refine V_get C f_X25_3_4 eM_10_s (v := .ref (qN g)) rfl dX25_act_115 ?_
          refine V_dup C dX25_act_118 rfl ?_
          refine V_getN C f_X25_149_0 ho_11 (v := .int (σ.1 11)) rfl dX25_act_119 ?_
          refine V_iconst (v := 1) C dX25_act_122 rfl ?_
          refine V_iadd C dX25_act_123 ?_
          refine V_pc (pc1 := 124) rfl ?_
          refine V_putN C f_X25_149_0 ho_11 rfl rfl (Nat.le_of_ble_eq_true rfl) dX25_act_124 ?_
          obtain ⟨M_17, eM_18⟩ : ∃ z9, z9 = hp_up M_9 (qN g) (.inr (0, [.ref (qRl g), .ref (qUl g), .ref (qPl g), .ref (qHs g), .int (σ.1 20), .int (σ.1 14), .int ((σ.1 11) + 1), .int (σ.1 12), .int (σ.1 15), .int (z 0), .int (z 1), .int (z 2), .int (z 3), .int (z 4), .int (z 5), .int (σ.1 31), .ref (qAn g)])) := ⟨_, rfl⟩
          refine V_heap (M' := M_17) eM_18.symm ?_
          have ho_19 : M_17 (qC g c9) = some (.inr (4, [.int (σ.2.1 21 c9), .int (σ.2.1 25 c9), .ref (qKl g c9), .ref (qW g c9), .int ((σ.2.1 24 c9) - pr), .int ((σ.2.1 23 c9 - σ.2.1 24 c9) + pr), .int (σ.2.1 22 c9), .ref (qN g)])) := by rw [eM_18, hp_up_n hneP]; exact eM_10_s
          have ho_20 : M_17 (qA g P9 K9) = some (.inr (3, [.int (nI 5), .int a, .int i, .int b, .int j, .int n])) := by rw [eM_18, hp_up_n (hp_ne ho_12 ho_11 (by simp))]; exact ho_12
          have ho_21 : M_17 (qH g 5) = some (.inr (15, [.int 1, .ref (qN g), .int 0, .int 10, .ref (qN g), .ref (qN g)])) := by rw [eM_18, hp_up_n (hp_ne ho_13 ho_11 (by simp))]; exact ho_13
          have ha_22 : M_17 (qHs g) = some (.inl (G.2 14, 13, .inr (.inr (.inr (.inr fH))))) := by rw [eM_18, hp_up_n (hp_ne ha_14 ho_11 (by simp))]; exact ha_14
          have eM_18_s : M_17 (qN g) = some (.inr (0, [.ref (qRl g), .ref (qUl g), .ref (qPl g), .ref (qHs g), .int (σ.1 20), .int (σ.1 14), .int ((σ.1 11) + 1), .int (σ.1 12), .int (σ.1 15), .int (z 0), .int (z 1), .int (z 2), .int (z 3), .int (z 4), .int (z 5), .int (σ.1 31), .ref (qAn g)])) := by rw [eM_18]; exact hp_up_s
          have fr_23 := hp_fr.set fr_15 (Or.inl (Or.inr rfl)) eM_18
          have sh_24 := hp_sh.set sh_16 ho_11 eM_18 rfl
          have hpay := hR.pay (pr := pr) (Nat.lt_succ_self c9) ho_19 eM_18_s fr_23 sh_24
          have hact : mf_actR go c9 σ = mf_workR go c9 (mf_pay c9 pr σ) 5 a i b j n := by rw [hpr]; exact act_w hAH hrw hge
          refine V_aload_n C dX25_act_127 rfl 2 rfl ?_
          refine V_aload_n C dX25_act_128 rfl 1 rfl ?_
          refine V_aload_n C dX25_act_129 rfl 0 rfl ?_
          have hRs : REL G (X 0) g (sa (mf_pay c9 pr σ) 0) z ((sa (mf_pay c9 pr σ) 0).1 31) (c9 + 1) M_17 := hpay.1.view VW.sa
          have hIs : MI (sa (mf_pay c9 pr σ) 0) := (MQ9.same (σ := σ) ⟨hI, hm⟩ rfl rfl rfl (fun k hk => by rcases hk with rfl | rfl | rfl | rfl | rfl | rfl <;> rfl) rfl).1
          have hms : MW (sa (mf_pay c9 pr σ) 0) := (MQ9.same (σ := σ) ⟨hI, hm⟩ rfl rfl rfl (fun k hk => by rcases hk with rfl | rfl | rfl | rfl | rfl | rfl <;> rfl) rfl).2
          obtain ⟨rr, hr, hra⟩ := hI.row (hrw.1.resolve_left (by decide))
          have hdn : mf_actR go c9 σ = mf_dr (mf_sum (sa (mf_pay c9 pr σ) 0) rr) := by
            rw [hact, hra]
            show mf_dr (mf_done (mf_pay c9 pr σ) 5 (nI rr) i b j n) = _
            have hR60 := hI.R.2
            have e1 : (nI rr).toNatClampNeg = rr := nI_clamp (by omega)
            unfold mf_done
            rw [if_neg (by decide), if_neg (by decide), if_neg (by decide), if_neg (by decide), if_neg (by decide), if_pos rfl, e1]
          refine V_callA C (c_work_5 l hl G X N0 M_17 g (sa (mf_pay c9 pr σ) 0) z (c9 + 1) c9 rfl hRs hIs P9 K9 rr (nI 5) i b j n hP9 hK9 hr (show AF (sa (mf_pay c9 pr σ) 0) P9 K9 = [.int (nI 5), .int (nI rr), .int i, .int b, .int j, .int n] from by rw [← hra]; exact hAF) hms rfl hJ8) cs_X25_151_15 ho_21 (show CLS[15]? = some (RX12, TX12, 6) from rfl) rfl rfl ⟨Nat.le_of_ble_eq_true rfl, Nat.le_of_ble_eq_true rfl⟩ ⟨(by first | exact Nat.le_of_ble_eq_true rfl | omega | (dsimp only; omega) | (simp only [List.length_cons, List.length_nil]; omega)), (by first | exact Nat.le_of_ble_eq_true rfl | omega | (dsimp only; omega) | (simp only [List.length_cons, List.length_nil]; omega))⟩ (Nat.le_of_ble_eq_true rfl) dX25_act_130 (fun q9 E9 M9 h9 => by have h8 : XB G (X 0) g σ z (c9 + 1) M (mf_actR go c9 σ) q9 E9 M9 := by { rw [hdn]; exact XB.pre (σ := σ) (τ := (sa (mf_pay c9 pr σ) 0)) (hpay.2.view VW.sa) rfl rfl rfl rfl (WX.dr h9) }; obtain rfl := h8.2.1; exact VX_out C (fun z hz => by cases hz) h8 (by first | exact Nat.le_of_ble_eq_true rfl | omega | (dsimp only; omega) | (simp only [List.length_cons, List.length_nil]; omega)) (by first | exact Nat.le_of_ble_eq_true rfl | omega | (dsimp only; omega) | (simp only [List.length_cons, List.length_nil]; omega))) ?_
          rintro v9 M_25 hv9
          have hwb : WB G (X 0) g σ z (c9 + 1) M (mf_actR go c9 σ) v9 M_25 := by rw [hdn]; exact WB.pre (σ := σ) (τ := (sa (mf_pay c9 pr σ) 0)) (hpay.2.view VW.sa) rfl rfl rfl rfl (WP.dr hv9)
          obtain rfl := hv9.2.1
          refine V_st (st' := [.long ((mf_sum (sa (mf_pay c9 pr σ) 0) rr).2.2.2.2)]) rfl ?_
          refine V_lret C dX25_act_133 rfl ?_ (by first | exact Nat.le_of_ble_eq_true rfl | omega | (dsimp only; omega) | (simp only [List.length_cons, List.length_nil]; omega)) (by first | exact Nat.le_of_ble_eq_true rfl | omega | (dsimp only; omega) | (simp only [List.length_cons, List.length_nil]; omega))
          exact hwb
        · exact absurd (Int32.not_le.mp c_81) hge
      · exact absurd c_41 (by decide)
set_option maxHeartbeats 1000000 in
theorem c_X25_act_6_1 (l : Launch) (hl : l.stackTraces = false) (G : hp_G) (X : Nat → Nat) (N0 : Nat) (M : hp_h) (go : Nat → MS → Int32 × MS) (g : RG) (σ : MS) (z : Nat → Int32) (c9 : Nat) (hR : REL G (X 0) g σ z (σ.1 31) (c9 + 1) M) (hI : MI σ) (P9 K9 : Nat) (a i b j n : Int32) (hP9 : P9 < 6) (hK9 : K9 < psz σ P9) (hAF : AF σ P9 K9 = [.int (nI 6), .int a, .int i, .int b, .int j, .int n]) (hAH : AH9 σ c9 (nI 6) a i b j n) (hn : ¬ mf_hasRows σ (nI 6) a b) : HM l yX25_act (ws_ yX25_act cX25_act 4 (some .long)) 29 11440 1 7 G X N0 [.ref (qC g c9), .ref (qA g P9 K9)] M PFF (XB G (X 0) g σ z (c9 + 1) M (mf_actR go c9 σ)) := by
  refine HM.of hl [(0, .ref (qC g c9)), (1, .ref (qA g P9 K9))] (by decide +kernel) rfl (Nat.le_of_ble_eq_true rfl) ?_
  intro p e s m args below meth c C hname
  have hN := hR.N
  obtain ⟨fH, hHs, hHf⟩ := hR.Hs
  have hCc : M (qC g c9) = some (.inr (4, [.int (σ.2.1 21 c9), .int (σ.2.1 25 c9), .ref (qKl g c9), .ref (qW g c9), .int (σ.2.1 24 c9), .int (σ.2.1 23 c9 - σ.2.1 24 c9), .int (σ.2.1 22 c9), .ref (qN g)])) := hR.Cc (Nat.lt_succ_self c9)
  have hac : M (qA g P9 K9) = some (.inr (3, [.int (nI 6), .int a, .int i, .int b, .int j, .int n])) := (hR.A hP9 hK9).trans (congrArg (fun y => some (Sum.inr (3, y))) hAF)
  have hH9 : M (qH g 6) = some (.inr (16, [.int 1, .ref (qN g), .int 1, .int 7, .ref (qN g), .ref (qN g)])) := hR.H (by decide)
  refine V_aload_n C dX25_act_0 rfl 0 rfl ?_
  refine V_get C f_X25_3_4 hCc (v := .ref (qN g)) rfl dX25_act_1 ?_
  refine V_getN C f_X25_111_0 hN (v := .ref (qHs g)) rfl dX25_act_4 ?_
  refine V_aload_n C dX25_act_7 rfl 1 rfl ?_
  refine V_getN C f_X25_115_3 hac (v := .int (nI 6)) rfl dX25_act_8 ?_
  refine V_aald C (j := 14) rfl rfl hHs (vp_in_nI (by omega) (by omega)) dX25_act_11 ?_
  refine V_st (st' := [.ref (qH g 6)]) (by rw [nI_clamp (by omega), (hHf 6 (by decide))]; rfl) ?_
  refine V_astore_n C dX25_act_12 rfl (Nat.le_of_ble_eq_true rfl) [(0, .ref (qC g c9)), (1, .ref (qA g P9 K9)), (2, .ref (qH g 6))] [1, 2, 0] rfl ?_
  refine V_aload_n C dX25_act_13 rfl 1 rfl ?_
  refine V_getN C f_X25_115_3 hac (v := .int (nI 6)) rfl dX25_act_14 ?_
  refine V_callSN C (c_X1_needsRow l hl G X N0 M (nI 6)) cs_X25_120 rfl rfl ⟨Nat.le_of_ble_eq_true rfl, Nat.le_of_ble_eq_true rfl⟩ ⟨(by first | exact Nat.le_of_ble_eq_true rfl | omega | (dsimp only; omega) | (simp only [List.length_cons, List.length_nil]; omega)), (by first | exact Nat.le_of_ble_eq_true rfl | omega | (dsimp only; omega) | (simp only [List.length_cons, List.length_nil]; omega))⟩ (Nat.le_of_ble_eq_true rfl) dX25_act_17 (fun _ _ _ h => px0 h) ?_
  rintro _ _ ⟨rfl, rfl⟩
  refine V_st (st' := [.int (bI ((nI 6) ≠ 10 ∧ (nI 6) ≠ 11))]) rfl ?_
  refine V_if_eq (tgt := 67) C dX25_act_20 (by decide) (fun c_20 => ?_) (fun c_20 => ?_)
  · exact absurd (bI_0.mp c_20) (not_not_intro ⟨by decide, by decide⟩)
  · refine V_pc (pc1 := 23) rfl ?_
    refine V_aload_n C dX25_act_23 rfl 0 rfl ?_
    refine V_get C f_X25_3_4 hCc (v := .ref (qN g)) rfl dX25_act_24 ?_
    refine V_aload_n C dX25_act_27 rfl 1 rfl ?_
    refine V_getN C f_X25_123_3 hac (v := .int a) rfl dX25_act_28 ?_
    refine V_callVN C (c_X1_isRow l hl G X N0 M g σ z (σ.1 31) (c9 + 1) hR hI a) cs_X25_126_0 hN (show CLS[0]? = some (RX1, TX1, 17) from rfl) rfl rfl ⟨Nat.le_of_ble_eq_true rfl, Nat.le_of_ble_eq_true rfl⟩ ⟨(by first | exact Nat.le_of_ble_eq_true rfl | omega | (dsimp only; omega) | (simp only [List.length_cons, List.length_nil]; omega)), (by first | exact Nat.le_of_ble_eq_true rfl | omega | (dsimp only; omega) | (simp only [List.length_cons, List.length_nil]; omega))⟩ (Nat.le_of_ble_eq_true rfl) dX25_act_31 (fun _ _ _ h => px0 h) ?_
    rintro _ _ ⟨rfl, rfl⟩
    refine V_st (st' := [.int (bI (¬ a < 0 ∧ a < σ.1 1))]) rfl ?_
    refine V_if_eq (tgt := 58) C dX25_act_34 (by decide) (fun c_34 => ?_) (fun c_34 => ?_)
    · refine V_aload_n C dX25_act_58 rfl 0 rfl ?_
      refine V_get C f_X25_3_4 hCc (v := .ref (qN g)) rfl dX25_act_59 ?_
      refine V_iconst (v := 1) C dX25_act_62 rfl ?_
      refine V_callVN C (c_X1_fail l hl G X N0 M (qN g) (qRl g) (qUl g) (qPl g) (qHs g) (qAn g) (σ.1 20) (σ.1 14) (σ.1 11) (σ.1 12) (σ.1 15) (z 0) (z 1) (z 2) (z 3) (z 4) (z 5) (σ.1 31) 1 hN) cs_X25_138_0 hN (show CLS[0]? = some (RX1, TX1, 17) from rfl) rfl rfl ⟨Nat.le_of_ble_eq_true rfl, Nat.le_of_ble_eq_true rfl⟩ ⟨(by first | exact Nat.le_of_ble_eq_true rfl | omega | (dsimp only; omega) | (simp only [List.length_cons, List.length_nil]; omega)), (by first | exact Nat.le_of_ble_eq_true rfl | omega | (dsimp only; omega) | (simp only [List.length_cons, List.length_nil]; omega))⟩ (Nat.le_of_ble_eq_true rfl) dX25_act_63 (fun _ _ _ h => px0 h) ?_
      rintro _ M_3 ⟨q_1, rfl, hq_2, hN_4, hF_5, fr_6, sh_7⟩
      refine V_st (st' := [.ref q_1]) rfl ?_
      refine V_athrow C hF_5 (show CLS[8]? = some (RX26, TX26, 7) from rfl) dX25_act_66 ?_
      exact VX_out C (fun z hz => by cases hz) (FLX.xb (FLX.of hR hq_2 hN_4 hF_5 fr_6 sh_7) (act_1 hAH hn) (by decide)) (by first | exact Nat.le_of_ble_eq_true rfl | omega | (dsimp only; omega) | (simp only [List.length_cons, List.length_nil]; omega)) (by first | exact Nat.le_of_ble_eq_true rfl | omega | (dsimp only; omega) | (simp only [List.length_cons, List.length_nil]; omega))
    · refine V_aload_n C dX25_act_37 rfl 2 rfl ?_
      refine V_callU C (c_X3_hasOther_16 l hl G X N0 M (qH g 6) (qN g) hH9) cs_X25_129_16 hH9 (show CLS[16]? = some (RX13, TX13, 6) from rfl) rfl rfl ⟨Nat.le_of_ble_eq_true rfl, Nat.le_of_ble_eq_true rfl⟩ ⟨(by first | exact Nat.le_of_ble_eq_true rfl | omega | (dsimp only; omega) | (simp only [List.length_cons, List.length_nil]; omega)), (by first | exact Nat.le_of_ble_eq_true rfl | omega | (dsimp only; omega) | (simp only [List.length_cons, List.length_nil]; omega))⟩ (Nat.le_of_ble_eq_true rfl) dX25_act_38 (fun _ _ _ h => px0 h) ?_
      rintro _ _ ⟨rfl, rfl⟩
      refine V_st (st' := [.int 0]) rfl ?_
      refine V_if_eq (tgt := 67) C dX25_act_41 (by decide) (fun c_41 => ?_) (fun c_41 => ?_)
      · exact absurd (show mf_hasRows σ (nI 6) a b from ⟨Or.inr (bI_n.mp c_34), Or.inl (by decide)⟩) hn
      · exact absurd c_41 (by decide)
set_option maxHeartbeats 1000000 in
theorem c_X25_act_6_8 (l : Launch) (hl : l.stackTraces = false) (G : hp_G) (X : Nat → Nat) (N0 : Nat) (M : hp_h) (go : Nat → MS → Int32 × MS) (g : RG) (σ : MS) (z : Nat → Int32) (c9 : Nat) (hR : REL G (X 0) g σ z (σ.1 31) (c9 + 1) M) (hI : MI σ) (P9 K9 : Nat) (a i b j n : Int32) (hP9 : P9 < 6) (hK9 : K9 < psz σ P9) (hAF : AF σ P9 K9 = [.int (nI 6), .int a, .int i, .int b, .int j, .int n]) (hAH : AH9 σ c9 (nI 6) a i b j n) (hrw : mf_hasRows σ (nI 6) a b) (hlt : σ.2.1 24 c9 < mf_priceOf σ (nI 6) a b n) : HM l yX25_act (ws_ yX25_act cX25_act 4 (some .long)) 29 11440 1 7 G X N0 [.ref (qC g c9), .ref (qA g P9 K9)] M PFF (XB G (X 0) g σ z (c9 + 1) M (mf_actR go c9 σ)) := by
  refine HM.of hl [(0, .ref (qC g c9)), (1, .ref (qA g P9 K9))] (by decide +kernel) rfl (Nat.le_of_ble_eq_true rfl) ?_
  intro p e s m args below meth c C hname
  have hN := hR.N
  obtain ⟨fH, hHs, hHf⟩ := hR.Hs
  have hCc : M (qC g c9) = some (.inr (4, [.int (σ.2.1 21 c9), .int (σ.2.1 25 c9), .ref (qKl g c9), .ref (qW g c9), .int (σ.2.1 24 c9), .int (σ.2.1 23 c9 - σ.2.1 24 c9), .int (σ.2.1 22 c9), .ref (qN g)])) := hR.Cc (Nat.lt_succ_self c9)
  have hac : M (qA g P9 K9) = some (.inr (3, [.int (nI 6), .int a, .int i, .int b, .int j, .int n])) := (hR.A hP9 hK9).trans (congrArg (fun y => some (Sum.inr (3, y))) hAF)
  have hH9 : M (qH g 6) = some (.inr (16, [.int 1, .ref (qN g), .int 1, .int 7, .ref (qN g), .ref (qN g)])) := hR.H (by decide)
  refine V_aload_n C dX25_act_0 rfl 0 rfl ?_
  refine V_get C f_X25_3_4 hCc (v := .ref (qN g)) rfl dX25_act_1 ?_
  refine V_getN C f_X25_111_0 hN (v := .ref (qHs g)) rfl dX25_act_4 ?_
  refine V_aload_n C dX25_act_7 rfl 1 rfl ?_
  refine V_getN C f_X25_115_3 hac (v := .int (nI 6)) rfl dX25_act_8 ?_
  refine V_aald C (j := 14) rfl rfl hHs (vp_in_nI (by omega) (by omega)) dX25_act_11 ?_
  refine V_st (st' := [.ref (qH g 6)]) (by rw [nI_clamp (by omega), (hHf 6 (by decide))]; rfl) ?_
  refine V_astore_n C dX25_act_12 rfl (Nat.le_of_ble_eq_true rfl) [(0, .ref (qC g c9)), (1, .ref (qA g P9 K9)), (2, .ref (qH g 6))] [1, 2, 0] rfl ?_
  refine V_aload_n C dX25_act_13 rfl 1 rfl ?_
  refine V_getN C f_X25_115_3 hac (v := .int (nI 6)) rfl dX25_act_14 ?_
  refine V_callSN C (c_X1_needsRow l hl G X N0 M (nI 6)) cs_X25_120 rfl rfl ⟨Nat.le_of_ble_eq_true rfl, Nat.le_of_ble_eq_true rfl⟩ ⟨(by first | exact Nat.le_of_ble_eq_true rfl | omega | (dsimp only; omega) | (simp only [List.length_cons, List.length_nil]; omega)), (by first | exact Nat.le_of_ble_eq_true rfl | omega | (dsimp only; omega) | (simp only [List.length_cons, List.length_nil]; omega))⟩ (Nat.le_of_ble_eq_true rfl) dX25_act_17 (fun _ _ _ h => px0 h) ?_
  rintro _ _ ⟨rfl, rfl⟩
  refine V_st (st' := [.int (bI ((nI 6) ≠ 10 ∧ (nI 6) ≠ 11))]) rfl ?_
  refine V_if_eq (tgt := 67) C dX25_act_20 (by decide) (fun c_20 => ?_) (fun c_20 => ?_)
  · exact absurd (bI_0.mp c_20) (not_not_intro ⟨by decide, by decide⟩)
  · refine V_pc (pc1 := 23) rfl ?_
    refine V_aload_n C dX25_act_23 rfl 0 rfl ?_
    refine V_get C f_X25_3_4 hCc (v := .ref (qN g)) rfl dX25_act_24 ?_
    refine V_aload_n C dX25_act_27 rfl 1 rfl ?_
    refine V_getN C f_X25_123_3 hac (v := .int a) rfl dX25_act_28 ?_
    refine V_callVN C (c_X1_isRow l hl G X N0 M g σ z (σ.1 31) (c9 + 1) hR hI a) cs_X25_126_0 hN (show CLS[0]? = some (RX1, TX1, 17) from rfl) rfl rfl ⟨Nat.le_of_ble_eq_true rfl, Nat.le_of_ble_eq_true rfl⟩ ⟨(by first | exact Nat.le_of_ble_eq_true rfl | omega | (dsimp only; omega) | (simp only [List.length_cons, List.length_nil]; omega)), (by first | exact Nat.le_of_ble_eq_true rfl | omega | (dsimp only; omega) | (simp only [List.length_cons, List.length_nil]; omega))⟩ (Nat.le_of_ble_eq_true rfl) dX25_act_31 (fun _ _ _ h => px0 h) ?_
    rintro _ _ ⟨rfl, rfl⟩
    refine V_st (st' := [.int (bI (¬ a < 0 ∧ a < σ.1 1))]) rfl ?_
    refine V_if_eq (tgt := 58) C dX25_act_34 (by decide) (fun c_34 => ?_) (fun c_34 => ?_)
    · exact absurd (hrw.1.resolve_left (by decide)) (bI_0.mp c_34)
    · refine V_aload_n C dX25_act_37 rfl 2 rfl ?_
      refine V_callU C (c_X3_hasOther_16 l hl G X N0 M (qH g 6) (qN g) hH9) cs_X25_129_16 hH9 (show CLS[16]? = some (RX13, TX13, 6) from rfl) rfl rfl ⟨Nat.le_of_ble_eq_true rfl, Nat.le_of_ble_eq_true rfl⟩ ⟨(by first | exact Nat.le_of_ble_eq_true rfl | omega | (dsimp only; omega) | (simp only [List.length_cons, List.length_nil]; omega)), (by first | exact Nat.le_of_ble_eq_true rfl | omega | (dsimp only; omega) | (simp only [List.length_cons, List.length_nil]; omega))⟩ (Nat.le_of_ble_eq_true rfl) dX25_act_38 (fun _ _ _ h => px0 h) ?_
      rintro _ _ ⟨rfl, rfl⟩
      refine V_st (st' := [.int 0]) rfl ?_
      refine V_if_eq (tgt := 67) C dX25_act_41 (by decide) (fun c_41 => ?_) (fun c_41 => ?_)
      · refine V_aload_n C dX25_act_67 rfl 0 rfl ?_
        refine V_get C f_X25_3_4 hCc (v := .ref (qN g)) rfl dX25_act_68 ?_
        refine V_aload_n C dX25_act_71 rfl 1 rfl ?_
        refine V_pc (pc1 := 72) rfl ?_
        refine V_callVN C (c_X1_priceOf l hl G X N0 M g σ z (σ.1 31) (c9 + 1) hR hI (qA g P9 K9) 6 (by decide) (nI 6) a i b j n rfl hac hrw) cs_X25_142_0 hN (show CLS[0]? = some (RX1, TX1, 17) from rfl) rfl rfl ⟨Nat.le_of_ble_eq_true rfl, Nat.le_of_ble_eq_true rfl⟩ ⟨(by first | exact Nat.le_of_ble_eq_true rfl | omega | (dsimp only; omega) | (simp only [List.length_cons, List.length_nil]; omega)), (by first | exact Nat.le_of_ble_eq_true rfl | omega | (dsimp only; omega) | (simp only [List.length_cons, List.length_nil]; omega))⟩ (Nat.le_of_ble_eq_true rfl) dX25_act_72 (fun _ _ _ h => px0 h) ?_
        rintro _ _ ⟨rfl, rfl⟩
        refine V_st (st' := [.int (mf_priceOf σ (nI 6) a b n)]) rfl ?_
        refine V_istore_n C dX25_act_75 rfl (Nat.le_of_ble_eq_true rfl) [(0, .ref (qC g c9)), (1, .ref (qA g P9 K9)), (2, .ref (qH g 6)), (3, .int (mf_priceOf σ (nI 6) a b n))] [1, 2, 3, 0] rfl ?_
        refine V_aload_n C dX25_act_76 rfl 0 rfl ?_
        refine V_get C f_X25_39_4 hCc (v := .int (σ.2.1 24 c9)) rfl dX25_act_77 ?_
        refine V_iload_n C dX25_act_80 rfl 3 rfl ?_
        refine V_icmp_ge (tgt := 94) C dX25_act_81 (by decide) (fun c_81 => ?_) (fun c_81 => ?_)
        · exact absurd hlt (Int32.not_lt.mpr c_81)
        · refine V_aload_n C dX25_act_84 rfl 0 rfl ?_
          refine V_get C f_X25_3_4 hCc (v := .ref (qN g)) rfl dX25_act_85 ?_
          refine V_bipush (v := 8) C dX25_act_88 rfl ?_
          refine V_callVN C (c_X1_fail l hl G X N0 M (qN g) (qRl g) (qUl g) (qPl g) (qHs g) (qAn g) (σ.1 20) (σ.1 14) (σ.1 11) (σ.1 12) (σ.1 15) (z 0) (z 1) (z 2) (z 3) (z 4) (z 5) (σ.1 31) 8 hN) cs_X25_138_0 hN (show CLS[0]? = some (RX1, TX1, 17) from rfl) rfl rfl ⟨Nat.le_of_ble_eq_true rfl, Nat.le_of_ble_eq_true rfl⟩ ⟨(by first | exact Nat.le_of_ble_eq_true rfl | omega | (dsimp only; omega) | (simp only [List.length_cons, List.length_nil]; omega)), (by first | exact Nat.le_of_ble_eq_true rfl | omega | (dsimp only; omega) | (simp only [List.length_cons, List.length_nil]; omega))⟩ (Nat.le_of_ble_eq_true rfl) dX25_act_90 (fun _ _ _ h => px0 h) ?_
          rintro _ M_3 ⟨q_1, rfl, hq_2, hN_4, hF_5, fr_6, sh_7⟩
          refine V_st (st' := [.ref q_1]) rfl ?_
          refine V_athrow C hF_5 (show CLS[8]? = some (RX26, TX26, 7) from rfl) dX25_act_93 ?_
          exact VX_out C (fun z hz => by cases hz) (FLX.xb (FLX.of hR hq_2 hN_4 hF_5 fr_6 sh_7) (act_8 hAH hrw hlt) (by decide)) (by first | exact Nat.le_of_ble_eq_true rfl | omega | (dsimp only; omega) | (simp only [List.length_cons, List.length_nil]; omega)) (by first | exact Nat.le_of_ble_eq_true rfl | omega | (dsimp only; omega) | (simp only [List.length_cons, List.length_nil]; omega))
      · exact absurd c_41 (by decide)
set_option maxHeartbeats 1000000 in
theorem c_X25_act_6_w (l : Launch) (hl : l.stackTraces = false) (G : hp_G) (X : Nat → Nat) (N0 : Nat) (M : hp_h) (go : Nat → MS → Int32 × MS) (g : RG) (σ : MS) (z : Nat → Int32) (c9 : Nat) (hR : REL G (X 0) g σ z (σ.1 31) (c9 + 1) M) (hI : MI σ) (P9 K9 : Nat) (a i b j n : Int32) (hP9 : P9 < 6) (hK9 : K9 < psz σ P9) (hAF : AF σ P9 K9 = [.int (nI 6), .int a, .int i, .int b, .int j, .int n]) (hAH : AH9 σ c9 (nI 6) a i b j n) (hrw : mf_hasRows σ (nI 6) a b) (hge : ¬ σ.2.1 24 c9 < mf_priceOf σ (nI 6) a b n) (hm : MW σ) (hJ8 : nJ σ < 8000) : HM l yX25_act (ws_ yX25_act cX25_act 4 (some .long)) 29 11440 9 320 G X N0 [.ref (qC g c9), .ref (qA g P9 K9)] M (WB G (X 0) g σ z (c9 + 1) M (mf_actR go c9 σ)) (XB G (X 0) g σ z (c9 + 1) M (mf_actR go c9 σ)) := by
  refine HM.of hl [(0, .ref (qC g c9)), (1, .ref (qA g P9 K9))] (by decide +kernel) rfl (Nat.le_of_ble_eq_true rfl) ?_
  intro p e s m args below meth c C hname
  have hN := hR.N
  obtain ⟨fH, hHs, hHf⟩ := hR.Hs
  have hCc : M (qC g c9) = some (.inr (4, [.int (σ.2.1 21 c9), .int (σ.2.1 25 c9), .ref (qKl g c9), .ref (qW g c9), .int (σ.2.1 24 c9), .int (σ.2.1 23 c9 - σ.2.1 24 c9), .int (σ.2.1 22 c9), .ref (qN g)])) := hR.Cc (Nat.lt_succ_self c9)
  have hac : M (qA g P9 K9) = some (.inr (3, [.int (nI 6), .int a, .int i, .int b, .int j, .int n])) := (hR.A hP9 hK9).trans (congrArg (fun y => some (Sum.inr (3, y))) hAF)
  have hH9 : M (qH g 6) = some (.inr (16, [.int 1, .ref (qN g), .int 1, .int 7, .ref (qN g), .ref (qN g)])) := hR.H (by decide)
  refine V_aload_n C dX25_act_0 rfl 0 rfl ?_
  refine V_get C f_X25_3_4 hCc (v := .ref (qN g)) rfl dX25_act_1 ?_
  refine V_getN C f_X25_111_0 hN (v := .ref (qHs g)) rfl dX25_act_4 ?_
  refine V_aload_n C dX25_act_7 rfl 1 rfl ?_
  refine V_getN C f_X25_115_3 hac (v := .int (nI 6)) rfl dX25_act_8 ?_
  refine V_aald C (j := 14) rfl rfl hHs (vp_in_nI (by omega) (by omega)) dX25_act_11 ?_
  refine V_st (st' := [.ref (qH g 6)]) (by rw [nI_clamp (by omega), (hHf 6 (by decide))]; rfl) ?_
  refine V_astore_n C dX25_act_12 rfl (Nat.le_of_ble_eq_true rfl) [(0, .ref (qC g c9)), (1, .ref (qA g P9 K9)), (2, .ref (qH g 6))] [1, 2, 0] rfl ?_
  refine V_aload_n C dX25_act_13 rfl 1 rfl ?_
  refine V_getN C f_X25_115_3 hac (v := .int (nI 6)) rfl dX25_act_14 ?_
  refine V_callSN C (c_X1_needsRow l hl G X N0 M (nI 6)) cs_X25_120 rfl rfl ⟨Nat.le_of_ble_eq_true rfl, Nat.le_of_ble_eq_true rfl⟩ ⟨(by first | exact Nat.le_of_ble_eq_true rfl | omega | (dsimp only; omega) | (simp only [List.length_cons, List.length_nil]; omega)), (by first | exact Nat.le_of_ble_eq_true rfl | omega | (dsimp only; omega) | (simp only [List.length_cons, List.length_nil]; omega))⟩ (Nat.le_of_ble_eq_true rfl) dX25_act_17 (fun _ _ _ h => px0 h) ?_
  rintro _ _ ⟨rfl, rfl⟩
  refine V_st (st' := [.int (bI ((nI 6) ≠ 10 ∧ (nI 6) ≠ 11))]) rfl ?_
  refine V_if_eq (tgt := 67) C dX25_act_20 (by decide) (fun c_20 => ?_) (fun c_20 => ?_)
  · exact absurd (bI_0.mp c_20) (not_not_intro ⟨by decide, by decide⟩)
  · refine V_pc (pc1 := 23) rfl ?_
    refine V_aload_n C dX25_act_23 rfl 0 rfl ?_
    refine V_get C f_X25_3_4 hCc (v := .ref (qN g)) rfl dX25_act_24 ?_
    refine V_aload_n C dX25_act_27 rfl 1 rfl ?_
    refine V_getN C f_X25_123_3 hac (v := .int a) rfl dX25_act_28 ?_
    refine V_callVN C (c_X1_isRow l hl G X N0 M g σ z (σ.1 31) (c9 + 1) hR hI a) cs_X25_126_0 hN (show CLS[0]? = some (RX1, TX1, 17) from rfl) rfl rfl ⟨Nat.le_of_ble_eq_true rfl, Nat.le_of_ble_eq_true rfl⟩ ⟨(by first | exact Nat.le_of_ble_eq_true rfl | omega | (dsimp only; omega) | (simp only [List.length_cons, List.length_nil]; omega)), (by first | exact Nat.le_of_ble_eq_true rfl | omega | (dsimp only; omega) | (simp only [List.length_cons, List.length_nil]; omega))⟩ (Nat.le_of_ble_eq_true rfl) dX25_act_31 (fun _ _ _ h => px0 h) ?_
    rintro _ _ ⟨rfl, rfl⟩
    refine V_st (st' := [.int (bI (¬ a < 0 ∧ a < σ.1 1))]) rfl ?_
    refine V_if_eq (tgt := 58) C dX25_act_34 (by decide) (fun c_34 => ?_) (fun c_34 => ?_)
    · exact absurd (hrw.1.resolve_left (by decide)) (bI_0.mp c_34)
    · refine V_aload_n C dX25_act_37 rfl 2 rfl ?_
      refine V_callU C (c_X3_hasOther_16 l hl G X N0 M (qH g 6) (qN g) hH9) cs_X25_129_16 hH9 (show CLS[16]? = some (RX13, TX13, 6) from rfl) rfl rfl ⟨Nat.le_of_ble_eq_true rfl, Nat.le_of_ble_eq_true rfl⟩ ⟨(by first | exact Nat.le_of_ble_eq_true rfl | omega | (dsimp only; omega) | (simp only [List.length_cons, List.length_nil]; omega)), (by first | exact Nat.le_of_ble_eq_true rfl | omega | (dsimp only; omega) | (simp only [List.length_cons, List.length_nil]; omega))⟩ (Nat.le_of_ble_eq_true rfl) dX25_act_38 (fun _ _ _ h => px0 h) ?_
      rintro _ _ ⟨rfl, rfl⟩
      refine V_st (st' := [.int 0]) rfl ?_
      refine V_if_eq (tgt := 67) C dX25_act_41 (by decide) (fun c_41 => ?_) (fun c_41 => ?_)
      · refine V_aload_n C dX25_act_67 rfl 0 rfl ?_
        refine V_get C f_X25_3_4 hCc (v := .ref (qN g)) rfl dX25_act_68 ?_
        refine V_aload_n C dX25_act_71 rfl 1 rfl ?_
        refine V_pc (pc1 := 72) rfl ?_
        refine V_callVN C (c_X1_priceOf l hl G X N0 M g σ z (σ.1 31) (c9 + 1) hR hI (qA g P9 K9) 6 (by decide) (nI 6) a i b j n rfl hac hrw) cs_X25_142_0 hN (show CLS[0]? = some (RX1, TX1, 17) from rfl) rfl rfl ⟨Nat.le_of_ble_eq_true rfl, Nat.le_of_ble_eq_true rfl⟩ ⟨(by first | exact Nat.le_of_ble_eq_true rfl | omega | (dsimp only; omega) | (simp only [List.length_cons, List.length_nil]; omega)), (by first | exact Nat.le_of_ble_eq_true rfl | omega | (dsimp only; omega) | (simp only [List.length_cons, List.length_nil]; omega))⟩ (Nat.le_of_ble_eq_true rfl) dX25_act_72 (fun _ _ _ h => px0 h) ?_
        rintro _ _ ⟨rfl, rfl⟩
        refine V_st (st' := [.int (mf_priceOf σ (nI 6) a b n)]) rfl ?_
        refine V_istore_n C dX25_act_75 rfl (Nat.le_of_ble_eq_true rfl) [(0, .ref (qC g c9)), (1, .ref (qA g P9 K9)), (2, .ref (qH g 6)), (3, .int (mf_priceOf σ (nI 6) a b n))] [1, 2, 3, 0] rfl ?_
        refine V_aload_n C dX25_act_76 rfl 0 rfl ?_
        refine V_get C f_X25_39_4 hCc (v := .int (σ.2.1 24 c9)) rfl dX25_act_77 ?_
        refine V_iload_n C dX25_act_80 rfl 3 rfl ?_
        refine V_icmp_ge (tgt := 94) C dX25_act_81 (by decide) (fun c_81 => ?_) (fun c_81 => ?_)
        · obtain ⟨pr, hpr⟩ : ∃ y, y = mf_priceOf σ (nI 6) a b n := ⟨_, rfl⟩
          refine V_loc (L' := [(0, .ref (qC g c9)), (1, .ref (qA g P9 K9)), (2, .ref (qH g 6)), (3, .int pr)]) [0, 1, 2, 3] (by rw [hpr]; rfl) ?_
          have hfrP : hp_fr (fun b => b = qC g c9 ∨ b = qN g) M M := hp_fr.rf
          have hshP : hp_sh M M := hp_sh.rf
          have hneP : qC g c9 ≠ qN g := hR.ne (t := 15) (i := c9) (j := 0) (t' := 0) (i' := 0) (j' := 0) ⟨Nat.lt_succ_self c9, rfl⟩ ⟨by decide, rfl, rfl⟩ (by simp)
          refine V_aload_n C dX25_act_94 rfl 0 rfl ?_
          refine V_dup C dX25_act_95 rfl ?_
          refine V_get C f_X25_39_4 hCc (v := .int (σ.2.1 24 c9)) rfl dX25_act_96 ?_
          refine V_iload_n C dX25_act_99 rfl 3 rfl ?_
          refine V_isub C dX25_act_100 ?_
          refine V_put C f_X25_39_4 hCc rfl rfl (Nat.le_of_ble_eq_true rfl) dX25_act_101 ?_
          obtain ⟨M_1, eM_2⟩ : ∃ z, z = hp_up M (qC g c9) (.inr (4, [.int (σ.2.1 21 c9), .int (σ.2.1 25 c9), .ref (qKl g c9), .ref (qW g c9), .int ((σ.2.1 24 c9) - pr), .int (σ.2.1 23 c9 - σ.2.1 24 c9), .int (σ.2.1 22 c9), .ref (qN g)])) := ⟨_, rfl⟩
          refine V_heap (M' := M_1) eM_2.symm ?_
          have ho_3 : M_1 (qN g) = some (.inr (0, [.ref (qRl g), .ref (qUl g), .ref (qPl g), .ref (qHs g), .int (σ.1 20), .int (σ.1 14), .int (σ.1 11), .int (σ.1 12), .int (σ.1 15), .int (z 0), .int (z 1), .int (z 2), .int (z 3), .int (z 4), .int (z 5), .int (σ.1 31), .ref (qAn g)])) := by rw [eM_2, hp_up_n (Ne.symm hneP)]; exact hN
          have ho_4 : M_1 (qA g P9 K9) = some (.inr (3, [.int (nI 6), .int a, .int i, .int b, .int j, .int n])) := by rw [eM_2, hp_up_n (hp_ne hac hCc (by simp))]; exact hac
          have ho_5 : M_1 (qH g 6) = some (.inr (16, [.int 1, .ref (qN g), .int 1, .int 7, .ref (qN g), .ref (qN g)])) := by rw [eM_2, hp_up_n (hp_ne hH9 hCc (by simp))]; exact hH9
          have ha_6 : M_1 (qHs g) = some (.inl (G.2 14, 13, .inr (.inr (.inr (.inr fH))))) := by rw [eM_2, hp_up_n (hp_ne hHs hCc (by simp))]; exact hHs
          have eM_2_s : M_1 (qC g c9) = some (.inr (4, [.int (σ.2.1 21 c9), .int (σ.2.1 25 c9), .ref (qKl g c9), .ref (qW g c9), .int ((σ.2.1 24 c9) - pr), .int (σ.2.1 23 c9 - σ.2.1 24 c9), .int (σ.2.1 22 c9), .ref (qN g)])) := by rw [eM_2]; exact hp_up_s
          have fr_7 := hp_fr.set hfrP (Or.inl (Or.inl rfl)) eM_2
          have sh_8 := hp_sh.set hshP hCc eM_2 rfl
          refine V_pc (pc1 := 104) rfl ?_
          refine V_aload_n C dX25_act_104 rfl 0 rfl ?_
          refine V_dup C dX25_act_105 rfl ?_
          refine V_get C f_X25_146_4 eM_2_s (v := .int (σ.2.1 23 c9 - σ.2.1 24 c9)) rfl dX25_act_106 ?_
          refine V_iload_n C dX25_act_109 rfl 3 rfl ?_
          refine V_iadd C dX25_act_110 ?_
          refine V_put C f_X25_146_4 eM_2_s rfl rfl (Nat.le_of_ble_eq_true rfl) dX25_act_111 ?_
          obtain ⟨M_9, eM_10⟩ : ∃ z, z = hp_up M_1 (qC g c9) (.inr (4, [.int (σ.2.1 21 c9), .int (σ.2.1 25 c9), .ref (qKl g c9), .ref (qW g c9), .int ((σ.2.1 24 c9) - pr), .int ((σ.2.1 23 c9 - σ.2.1 24 c9) + pr), .int (σ.2.1 22 c9), .ref (qN g)])) := ⟨_, rfl⟩
          refine V_heap (M' := M_9) eM_10.symm ?_
          have ho_11 : M_9 (qN g) = some (.inr (0, [.ref (qRl g), .ref (qUl g), .ref (qPl g), .ref (qHs g), .int (σ.1 20), .int (σ.1 14), .int (σ.1 11), .int (σ.1 12), .int (σ.1 15), .int (z 0), .int (z 1), .int (z 2), .int (z 3), .int (z 4), .int (z 5), .int (σ.1 31), .ref (qAn g)])) := by rw [eM_10, hp_up_n (Ne.symm hneP)]; exact ho_3
          have ho_12 : M_9 (qA g P9 K9) = some (.inr (3, [.int (nI 6), .int a, .int i, .int b, .int j, .int n])) := by rw [eM_10, hp_up_n (hp_ne ho_4 eM_2_s (by simp))]; exact ho_4
          have ho_13 : M_9 (qH g 6) = some (.inr (16, [.int 1, .ref (qN g), .int 1, .int 7, .ref (qN g), .ref (qN g)])) := by rw [eM_10, hp_up_n (hp_ne ho_5 eM_2_s (by simp))]; exact ho_5
          have ha_14 : M_9 (qHs g) = some (.inl (G.2 14, 13, .inr (.inr (.inr (.inr fH))))) := by rw [eM_10, hp_up_n (hp_ne ha_6 eM_2_s (by simp))]; exact ha_6
          have eM_10_s : M_9 (qC g c9) = some (.inr (4, [.int (σ.2.1 21 c9), .int (σ.2.1 25 c9), .ref (qKl g c9), .ref (qW g c9), .int ((σ.2.1 24 c9) - pr), .int ((σ.2.1 23 c9 - σ.2.1 24 c9) + pr), .int (σ.2.1 22 c9), .ref (qN g)])) := by rw [eM_10]; exact hp_up_s
          have fr_15 := hp_fr.set fr_7 (Or.inl (Or.inl rfl)) eM_10
          have sh_16 := hp_sh.set sh_8 eM_2_s eM_10 rfl
          refine V_aload_n C dX25_act_114 rfl 0 rfl ?_
          refine V_get C f_X25_3_4 eM_10_s (v := .ref (qN g)) rfl dX25_act_115 ?_
          refine V_dup C dX25_act_118 rfl ?_
          refine V_getN C f_X25_149_0 ho_11 (v := .int (σ.1 11)) rfl dX25_act_119 ?_
          refine V_iconst (v := 1) C dX25_act_122 rfl ?_
          refine V_iadd C dX25_act_123 ?_
          refine V_pc (pc1 := 124) rfl ?_
          refine V_putN C f_X25_149_0 ho_11 rfl rfl (Nat.le_of_ble_eq_true rfl) dX25_act_124 ?_
          obtain ⟨M_17, eM_18⟩ : ∃ z9, z9 = hp_up M_9 (qN g) (.inr (0, [.ref (qRl g), .ref (qUl g), .ref (qPl g), .ref (qHs g), .int (σ.1 20), .int (σ.1 14), .int ((σ.1 11) + 1), .int (σ.1 12), .int (σ.1 15), .int (z 0), .int (z 1), .int (z 2), .int (z 3), .int (z 4), .int (z 5), .int (σ.1 31), .ref (qAn g)])) := ⟨_, rfl⟩
          refine V_heap (M' := M_17) eM_18.symm ?_
          have ho_19 : M_17 (qC g c9) = some (.inr (4, [.int (σ.2.1 21 c9), .int (σ.2.1 25 c9), .ref (qKl g c9), .ref (qW g c9), .int ((σ.2.1 24 c9) - pr), .int ((σ.2.1 23 c9 - σ.2.1 24 c9) + pr), .int (σ.2.1 22 c9), .ref (qN g)])) := by rw [eM_18, hp_up_n hneP]; exact eM_10_s
          have ho_20 : M_17 (qA g P9 K9) = some (.inr (3, [.int (nI 6), .int a, .int i, .int b, .int j, .int n])) := by rw [eM_18, hp_up_n (hp_ne ho_12 ho_11 (by simp))]; exact ho_12
          have ho_21 : M_17 (qH g 6) = some (.inr (16, [.int 1, .ref (qN g), .int 1, .int 7, .ref (qN g), .ref (qN g)])) := by rw [eM_18, hp_up_n (hp_ne ho_13 ho_11 (by simp))]; exact ho_13
          have ha_22 : M_17 (qHs g) = some (.inl (G.2 14, 13, .inr (.inr (.inr (.inr fH))))) := by rw [eM_18, hp_up_n (hp_ne ha_14 ho_11 (by simp))]; exact ha_14
          have eM_18_s : M_17 (qN g) = some (.inr (0, [.ref (qRl g), .ref (qUl g), .ref (qPl g), .ref (qHs g), .int (σ.1 20), .int (σ.1 14), .int ((σ.1 11) + 1), .int (σ.1 12), .int (σ.1 15), .int (z 0), .int (z 1), .int (z 2), .int (z 3), .int (z 4), .int (z 5), .int (σ.1 31), .ref (qAn g)])) := by rw [eM_18]; exact hp_up_s
          have fr_23 := hp_fr.set fr_15 (Or.inl (Or.inr rfl)) eM_18
          have sh_24 := hp_sh.set sh_16 ho_11 eM_18 rfl
          have hpay := hR.pay (pr := pr) (Nat.lt_succ_self c9) ho_19 eM_18_s fr_23 sh_24
          have hact : mf_actR go c9 σ = mf_workR go c9 (mf_pay c9 pr σ) 6 a i b j n := by rw [hpr]; exact act_w hAH hrw hge
          refine V_aload_n C dX25_act_127 rfl 2 rfl ?_
          refine V_aload_n C dX25_act_128 rfl 1 rfl ?_
          refine V_aload_n C dX25_act_129 rfl 0 rfl ?_
          have hRs : REL G (X 0) g (sa (mf_pay c9 pr σ) 0) z ((sa (mf_pay c9 pr σ) 0).1 31) (c9 + 1) M_17 := hpay.1.view VW.sa
          have hIs : MI (sa (mf_pay c9 pr σ) 0) := (MQ9.same (σ := σ) ⟨hI, hm⟩ rfl rfl rfl (fun k hk => by rcases hk with rfl | rfl | rfl | rfl | rfl | rfl <;> rfl) rfl).1
          have hms : MW (sa (mf_pay c9 pr σ) 0) := (MQ9.same (σ := σ) ⟨hI, hm⟩ rfl rfl rfl (fun k hk => by rcases hk with rfl | rfl | rfl | rfl | rfl | rfl <;> rfl) rfl).2
          obtain ⟨rr, hr, hra⟩ := hI.row (hrw.1.resolve_left (by decide))
          have hdn : mf_actR go c9 σ = mf_dr (mf_greatest (sa (mf_pay c9 pr σ) 0) rr) := by
            rw [hact, hra]
            show mf_dr (mf_done (mf_pay c9 pr σ) 6 (nI rr) i b j n) = _
            have hR60 := hI.R.2
            have e1 : (nI rr).toNatClampNeg = rr := nI_clamp (by omega)
            unfold mf_done
            rw [if_neg (by decide), if_neg (by decide), if_neg (by decide), if_neg (by decide), if_neg (by decide), if_neg (by decide), if_pos rfl, e1]
          refine V_callA C (c_work_6 l hl G X N0 M_17 g (sa (mf_pay c9 pr σ) 0) z (c9 + 1) c9 rfl hRs hIs P9 K9 rr (nI 6) i b j n hP9 hK9 hr (show AF (sa (mf_pay c9 pr σ) 0) P9 K9 = [.int (nI 6), .int (nI rr), .int i, .int b, .int j, .int n] from by rw [← hra]; exact hAF) hms rfl hJ8) cs_X25_151_16 ho_21 (show CLS[16]? = some (RX13, TX13, 6) from rfl) rfl rfl ⟨Nat.le_of_ble_eq_true rfl, Nat.le_of_ble_eq_true rfl⟩ ⟨(by first | exact Nat.le_of_ble_eq_true rfl | omega | (dsimp only; omega) | (simp only [List.length_cons, List.length_nil]; omega)), (by first | exact Nat.le_of_ble_eq_true rfl | omega | (dsimp only; omega) | (simp only [List.length_cons, List.length_nil]; omega))⟩ (Nat.le_of_ble_eq_true rfl) dX25_act_130 (fun q9 E9 M9 h9 => by have h8 : XB G (X 0) g σ z (c9 + 1) M (mf_actR go c9 σ) q9 E9 M9 := by { rw [hdn]; exact XB.pre (σ := σ) (τ := (sa (mf_pay c9 pr σ) 0)) (hpay.2.view VW.sa) rfl rfl rfl rfl (WX.dr h9) }; obtain rfl := h8.2.1; exact VX_out C (fun z hz => by cases hz) h8 (by first | exact Nat.le_of_ble_eq_true rfl | omega | (dsimp only; omega) | (simp only [List.length_cons, List.length_nil]; omega)) (by first | exact Nat.le_of_ble_eq_true rfl | omega | (dsimp only; omega) | (simp only [List.length_cons, List.length_nil]; omega))) ?_
          rintro v9 M_25 hv9
          have hwb : WB G (X 0) g σ z (c9 + 1) M (mf_actR go c9 σ) v9 M_25 := by rw [hdn]; exact WB.pre (σ := σ) (τ := (sa (mf_pay c9 pr σ) 0)) (hpay.2.view VW.sa) rfl rfl rfl rfl (WP.dr hv9)
          obtain rfl := hv9.2.1
          refine V_st (st' := [.long ((mf_greatest (sa (mf_pay c9 pr σ) 0) rr).2.2.2.2)]) rfl ?_
          refine V_lret C dX25_act_133 rfl ?_ (by first | exact Nat.le_of_ble_eq_true rfl | omega | (dsimp only; omega) | (simp only [List.length_cons, List.length_nil]; omega)) (by first | exact Nat.le_of_ble_eq_true rfl | omega | (dsimp only; omega) | (simp only [List.length_cons, List.length_nil]; omega))
          exact hwb
        · exact absurd (Int32.not_le.mp c_81) hge
      · exact absurd c_41 (by decide)
set_option maxHeartbeats 1000000 in
theorem c_X25_act_7_1 (l : Launch) (hl : l.stackTraces = false) (G : hp_G) (X : Nat → Nat) (N0 : Nat) (M : hp_h) (go : Nat → MS → Int32 × MS) (g : RG) (σ : MS) (z : Nat → Int32) (c9 : Nat) (hR : REL G (X 0) g σ z (σ.1 31) (c9 + 1) M) (hI : MI σ) (P9 K9 : Nat) (a i b j n : Int32) (hP9 : P9 < 6) (hK9 : K9 < psz σ P9) (hAF : AF σ P9 K9 = [.int (nI 7), .int a, .int i, .int b, .int j, .int n]) (hAH : AH9 σ c9 (nI 7) a i b j n) (hn : ¬ mf_hasRows σ (nI 7) a b) : HM l yX25_act (ws_ yX25_act cX25_act 4 (some .long)) 29 11440 1 7 G X N0 [.ref (qC g c9), .ref (qA g P9 K9)] M PFF (XB G (X 0) g σ z (c9 + 1) M (mf_actR go c9 σ)) := by
  refine HM.of hl [(0, .ref (qC g c9)), (1, .ref (qA g P9 K9))] (by decide +kernel) rfl (Nat.le_of_ble_eq_true rfl) ?_
  intro p e s m args below meth c C hname
  have hN := hR.N
  obtain ⟨fH, hHs, hHf⟩ := hR.Hs
  have hCc : M (qC g c9) = some (.inr (4, [.int (σ.2.1 21 c9), .int (σ.2.1 25 c9), .ref (qKl g c9), .ref (qW g c9), .int (σ.2.1 24 c9), .int (σ.2.1 23 c9 - σ.2.1 24 c9), .int (σ.2.1 22 c9), .ref (qN g)])) := hR.Cc (Nat.lt_succ_self c9)
  have hac : M (qA g P9 K9) = some (.inr (3, [.int (nI 7), .int a, .int i, .int b, .int j, .int n])) := (hR.A hP9 hK9).trans (congrArg (fun y => some (Sum.inr (3, y))) hAF)
  have hH9 : M (qH g 7) = some (.inr (17, [.int 1, .ref (qN g), .int 0, .int 10, .ref (qN g), .ref (qN g), .ref (qN g)])) := hR.H (by decide)
  refine V_aload_n C dX25_act_0 rfl 0 rfl ?_
  refine V_get C f_X25_3_4 hCc (v := .ref (qN g)) rfl dX25_act_1 ?_
  refine V_getN C f_X25_111_0 hN (v := .ref (qHs g)) rfl dX25_act_4 ?_
  refine V_aload_n C dX25_act_7 rfl 1 rfl ?_
  refine V_getN C f_X25_115_3 hac (v := .int (nI 7)) rfl dX25_act_8 ?_
  refine V_aald C (j := 14) rfl rfl hHs (vp_in_nI (by omega) (by omega)) dX25_act_11 ?_
  refine V_st (st' := [.ref (qH g 7)]) (by rw [nI_clamp (by omega), (hHf 7 (by decide))]; rfl) ?_
  refine V_astore_n C dX25_act_12 rfl (Nat.le_of_ble_eq_true rfl) [(0, .ref (qC g c9)), (1, .ref (qA g P9 K9)), (2, .ref (qH g 7))] [1, 2, 0] rfl ?_
  refine V_aload_n C dX25_act_13 rfl 1 rfl ?_
  refine V_getN C f_X25_115_3 hac (v := .int (nI 7)) rfl dX25_act_14 ?_
  refine V_callSN C (c_X1_needsRow l hl G X N0 M (nI 7)) cs_X25_120 rfl rfl ⟨Nat.le_of_ble_eq_true rfl, Nat.le_of_ble_eq_true rfl⟩ ⟨(by first | exact Nat.le_of_ble_eq_true rfl | omega | (dsimp only; omega) | (simp only [List.length_cons, List.length_nil]; omega)), (by first | exact Nat.le_of_ble_eq_true rfl | omega | (dsimp only; omega) | (simp only [List.length_cons, List.length_nil]; omega))⟩ (Nat.le_of_ble_eq_true rfl) dX25_act_17 (fun _ _ _ h => px0 h) ?_
  rintro _ _ ⟨rfl, rfl⟩
  refine V_st (st' := [.int (bI ((nI 7) ≠ 10 ∧ (nI 7) ≠ 11))]) rfl ?_
  refine V_if_eq (tgt := 67) C dX25_act_20 (by decide) (fun c_20 => ?_) (fun c_20 => ?_)
  · exact absurd (bI_0.mp c_20) (not_not_intro ⟨by decide, by decide⟩)
  · refine V_pc (pc1 := 23) rfl ?_
    refine V_aload_n C dX25_act_23 rfl 0 rfl ?_
    refine V_get C f_X25_3_4 hCc (v := .ref (qN g)) rfl dX25_act_24 ?_
    refine V_aload_n C dX25_act_27 rfl 1 rfl ?_
    refine V_getN C f_X25_123_3 hac (v := .int a) rfl dX25_act_28 ?_
    refine V_callVN C (c_X1_isRow l hl G X N0 M g σ z (σ.1 31) (c9 + 1) hR hI a) cs_X25_126_0 hN (show CLS[0]? = some (RX1, TX1, 17) from rfl) rfl rfl ⟨Nat.le_of_ble_eq_true rfl, Nat.le_of_ble_eq_true rfl⟩ ⟨(by first | exact Nat.le_of_ble_eq_true rfl | omega | (dsimp only; omega) | (simp only [List.length_cons, List.length_nil]; omega)), (by first | exact Nat.le_of_ble_eq_true rfl | omega | (dsimp only; omega) | (simp only [List.length_cons, List.length_nil]; omega))⟩ (Nat.le_of_ble_eq_true rfl) dX25_act_31 (fun _ _ _ h => px0 h) ?_
    rintro _ _ ⟨rfl, rfl⟩
    refine V_st (st' := [.int (bI (¬ a < 0 ∧ a < σ.1 1))]) rfl ?_
    refine V_if_eq (tgt := 58) C dX25_act_34 (by decide) (fun c_34 => ?_) (fun c_34 => ?_)
    · refine V_aload_n C dX25_act_58 rfl 0 rfl ?_
      refine V_get C f_X25_3_4 hCc (v := .ref (qN g)) rfl dX25_act_59 ?_
      refine V_iconst (v := 1) C dX25_act_62 rfl ?_
      refine V_callVN C (c_X1_fail l hl G X N0 M (qN g) (qRl g) (qUl g) (qPl g) (qHs g) (qAn g) (σ.1 20) (σ.1 14) (σ.1 11) (σ.1 12) (σ.1 15) (z 0) (z 1) (z 2) (z 3) (z 4) (z 5) (σ.1 31) 1 hN) cs_X25_138_0 hN (show CLS[0]? = some (RX1, TX1, 17) from rfl) rfl rfl ⟨Nat.le_of_ble_eq_true rfl, Nat.le_of_ble_eq_true rfl⟩ ⟨(by first | exact Nat.le_of_ble_eq_true rfl | omega | (dsimp only; omega) | (simp only [List.length_cons, List.length_nil]; omega)), (by first | exact Nat.le_of_ble_eq_true rfl | omega | (dsimp only; omega) | (simp only [List.length_cons, List.length_nil]; omega))⟩ (Nat.le_of_ble_eq_true rfl) dX25_act_63 (fun _ _ _ h => px0 h) ?_
      rintro _ M_3 ⟨q_1, rfl, hq_2, hN_4, hF_5, fr_6, sh_7⟩
      refine V_st (st' := [.ref q_1]) rfl ?_
      refine V_athrow C hF_5 (show CLS[8]? = some (RX26, TX26, 7) from rfl) dX25_act_66 ?_
      exact VX_out C (fun z hz => by cases hz) (FLX.xb (FLX.of hR hq_2 hN_4 hF_5 fr_6 sh_7) (act_1 hAH hn) (by decide)) (by first | exact Nat.le_of_ble_eq_true rfl | omega | (dsimp only; omega) | (simp only [List.length_cons, List.length_nil]; omega)) (by first | exact Nat.le_of_ble_eq_true rfl | omega | (dsimp only; omega) | (simp only [List.length_cons, List.length_nil]; omega))
    · refine V_aload_n C dX25_act_37 rfl 2 rfl ?_
      refine V_callU C (c_X3_hasOther_17 l hl G X N0 M (qH g 7) (qN g) hH9) cs_X25_129_17 hH9 (show CLS[17]? = some (RX14, TX14, 7) from rfl) rfl rfl ⟨Nat.le_of_ble_eq_true rfl, Nat.le_of_ble_eq_true rfl⟩ ⟨(by first | exact Nat.le_of_ble_eq_true rfl | omega | (dsimp only; omega) | (simp only [List.length_cons, List.length_nil]; omega)), (by first | exact Nat.le_of_ble_eq_true rfl | omega | (dsimp only; omega) | (simp only [List.length_cons, List.length_nil]; omega))⟩ (Nat.le_of_ble_eq_true rfl) dX25_act_38 (fun _ _ _ h => px0 h) ?_
      rintro _ _ ⟨rfl, rfl⟩
      refine V_st (st' := [.int 0]) rfl ?_
      refine V_if_eq (tgt := 67) C dX25_act_41 (by decide) (fun c_41 => ?_) (fun c_41 => ?_)
      · exact absurd (show mf_hasRows σ (nI 7) a b from ⟨Or.inr (bI_n.mp c_34), Or.inl (by decide)⟩) hn
      · exact absurd c_41 (by decide)
set_option maxHeartbeats 1000000 in
theorem c_X25_act_7_8 (l : Launch) (hl : l.stackTraces = false) (G : hp_G) (X : Nat → Nat) (N0 : Nat) (M : hp_h) (go : Nat → MS → Int32 × MS) (g : RG) (σ : MS) (z : Nat → Int32) (c9 : Nat) (hR : REL G (X 0) g σ z (σ.1 31) (c9 + 1) M) (hI : MI σ) (P9 K9 : Nat) (a i b j n : Int32) (hP9 : P9 < 6) (hK9 : K9 < psz σ P9) (hAF : AF σ P9 K9 = [.int (nI 7), .int a, .int i, .int b, .int j, .int n]) (hAH : AH9 σ c9 (nI 7) a i b j n) (hrw : mf_hasRows σ (nI 7) a b) (hlt : σ.2.1 24 c9 < mf_priceOf σ (nI 7) a b n) : HM l yX25_act (ws_ yX25_act cX25_act 4 (some .long)) 29 11440 1 7 G X N0 [.ref (qC g c9), .ref (qA g P9 K9)] M PFF (XB G (X 0) g σ z (c9 + 1) M (mf_actR go c9 σ)) := by
  refine HM.of hl [(0, .ref (qC g c9)), (1, .ref (qA g P9 K9))] (by decide +kernel) rfl (Nat.le_of_ble_eq_true rfl) ?_
  intro p e s m args below meth c C hname
  have hN := hR.N
  obtain ⟨fH, hHs, hHf⟩ := hR.Hs
  have hCc : M (qC g c9) = some (.inr (4, [.int (σ.2.1 21 c9), .int (σ.2.1 25 c9), .ref (qKl g c9), .ref (qW g c9), .int (σ.2.1 24 c9), .int (σ.2.1 23 c9 - σ.2.1 24 c9), .int (σ.2.1 22 c9), .ref (qN g)])) := hR.Cc (Nat.lt_succ_self c9)
  have hac : M (qA g P9 K9) = some (.inr (3, [.int (nI 7), .int a, .int i, .int b, .int j, .int n])) := (hR.A hP9 hK9).trans (congrArg (fun y => some (Sum.inr (3, y))) hAF)
  have hH9 : M (qH g 7) = some (.inr (17, [.int 1, .ref (qN g), .int 0, .int 10, .ref (qN g), .ref (qN g), .ref (qN g)])) := hR.H (by decide)
  refine V_aload_n C dX25_act_0 rfl 0 rfl ?_
  refine V_get C f_X25_3_4 hCc (v := .ref (qN g)) rfl dX25_act_1 ?_
  refine V_getN C f_X25_111_0 hN (v := .ref (qHs g)) rfl dX25_act_4 ?_
  refine V_aload_n C dX25_act_7 rfl 1 rfl ?_
  refine V_getN C f_X25_115_3 hac (v := .int (nI 7)) rfl dX25_act_8 ?_
  refine V_aald C (j := 14) rfl rfl hHs (vp_in_nI (by omega) (by omega)) dX25_act_11 ?_
  refine V_st (st' := [.ref (qH g 7)]) (by rw [nI_clamp (by omega), (hHf 7 (by decide))]; rfl) ?_
  refine V_astore_n C dX25_act_12 rfl (Nat.le_of_ble_eq_true rfl) [(0, .ref (qC g c9)), (1, .ref (qA g P9 K9)), (2, .ref (qH g 7))] [1, 2, 0] rfl ?_
  refine V_aload_n C dX25_act_13 rfl 1 rfl ?_
  refine V_getN C f_X25_115_3 hac (v := .int (nI 7)) rfl dX25_act_14 ?_
  refine V_callSN C (c_X1_needsRow l hl G X N0 M (nI 7)) cs_X25_120 rfl rfl ⟨Nat.le_of_ble_eq_true rfl, Nat.le_of_ble_eq_true rfl⟩ ⟨(by first | exact Nat.le_of_ble_eq_true rfl | omega | (dsimp only; omega) | (simp only [List.length_cons, List.length_nil]; omega)), (by first | exact Nat.le_of_ble_eq_true rfl | omega | (dsimp only; omega) | (simp only [List.length_cons, List.length_nil]; omega))⟩ (Nat.le_of_ble_eq_true rfl) dX25_act_17 (fun _ _ _ h => px0 h) ?_
  rintro _ _ ⟨rfl, rfl⟩
  refine V_st (st' := [.int (bI ((nI 7) ≠ 10 ∧ (nI 7) ≠ 11))]) rfl ?_
  refine V_if_eq (tgt := 67) C dX25_act_20 (by decide) (fun c_20 => ?_) (fun c_20 => ?_)
  · exact absurd (bI_0.mp c_20) (not_not_intro ⟨by decide, by decide⟩)
  · refine V_pc (pc1 := 23) rfl ?_
    refine V_aload_n C dX25_act_23 rfl 0 rfl ?_
    refine V_get C f_X25_3_4 hCc (v := .ref (qN g)) rfl dX25_act_24 ?_
    refine V_aload_n C dX25_act_27 rfl 1 rfl ?_
    refine V_getN C f_X25_123_3 hac (v := .int a) rfl dX25_act_28 ?_
    refine V_callVN C (c_X1_isRow l hl G X N0 M g σ z (σ.1 31) (c9 + 1) hR hI a) cs_X25_126_0 hN (show CLS[0]? = some (RX1, TX1, 17) from rfl) rfl rfl ⟨Nat.le_of_ble_eq_true rfl, Nat.le_of_ble_eq_true rfl⟩ ⟨(by first | exact Nat.le_of_ble_eq_true rfl | omega | (dsimp only; omega) | (simp only [List.length_cons, List.length_nil]; omega)), (by first | exact Nat.le_of_ble_eq_true rfl | omega | (dsimp only; omega) | (simp only [List.length_cons, List.length_nil]; omega))⟩ (Nat.le_of_ble_eq_true rfl) dX25_act_31 (fun _ _ _ h => px0 h) ?_
    rintro _ _ ⟨rfl, rfl⟩
    refine V_st (st' := [.int (bI (¬ a < 0 ∧ a < σ.1 1))]) rfl ?_
    refine V_if_eq (tgt := 58) C dX25_act_34 (by decide) (fun c_34 => ?_) (fun c_34 => ?_)
    · exact absurd (hrw.1.resolve_left (by decide)) (bI_0.mp c_34)
    · refine V_aload_n C dX25_act_37 rfl 2 rfl ?_
      refine V_callU C (c_X3_hasOther_17 l hl G X N0 M (qH g 7) (qN g) hH9) cs_X25_129_17 hH9 (show CLS[17]? = some (RX14, TX14, 7) from rfl) rfl rfl ⟨Nat.le_of_ble_eq_true rfl, Nat.le_of_ble_eq_true rfl⟩ ⟨(by first | exact Nat.le_of_ble_eq_true rfl | omega | (dsimp only; omega) | (simp only [List.length_cons, List.length_nil]; omega)), (by first | exact Nat.le_of_ble_eq_true rfl | omega | (dsimp only; omega) | (simp only [List.length_cons, List.length_nil]; omega))⟩ (Nat.le_of_ble_eq_true rfl) dX25_act_38 (fun _ _ _ h => px0 h) ?_
      rintro _ _ ⟨rfl, rfl⟩
      refine V_st (st' := [.int 0]) rfl ?_
      refine V_if_eq (tgt := 67) C dX25_act_41 (by decide) (fun c_41 => ?_) (fun c_41 => ?_)
      · refine V_aload_n C dX25_act_67 rfl 0 rfl ?_
        refine V_get C f_X25_3_4 hCc (v := .ref (qN g)) rfl dX25_act_68 ?_
        refine V_aload_n C dX25_act_71 rfl 1 rfl ?_
        refine V_pc (pc1 := 72) rfl ?_
        refine V_callVN C (c_X1_priceOf l hl G X N0 M g σ z (σ.1 31) (c9 + 1) hR hI (qA g P9 K9) 7 (by decide) (nI 7) a i b j n rfl hac hrw) cs_X25_142_0 hN (show CLS[0]? = some (RX1, TX1, 17) from rfl) rfl rfl ⟨Nat.le_of_ble_eq_true rfl, Nat.le_of_ble_eq_true rfl⟩ ⟨(by first | exact Nat.le_of_ble_eq_true rfl | omega | (dsimp only; omega) | (simp only [List.length_cons, List.length_nil]; omega)), (by first | exact Nat.le_of_ble_eq_true rfl | omega | (dsimp only; omega) | (simp only [List.length_cons, List.length_nil]; omega))⟩ (Nat.le_of_ble_eq_true rfl) dX25_act_72 (fun _ _ _ h => px0 h) ?_
        rintro _ _ ⟨rfl, rfl⟩
        refine V_st (st' := [.int (mf_priceOf σ (nI 7) a b n)]) rfl ?_
        refine V_istore_n C dX25_act_75 rfl (Nat.le_of_ble_eq_true rfl) [(0, .ref (qC g c9)), (1, .ref (qA g P9 K9)), (2, .ref (qH g 7)), (3, .int (mf_priceOf σ (nI 7) a b n))] [1, 2, 3, 0] rfl ?_
        refine V_aload_n C dX25_act_76 rfl 0 rfl ?_
        refine V_get C f_X25_39_4 hCc (v := .int (σ.2.1 24 c9)) rfl dX25_act_77 ?_
        refine V_iload_n C dX25_act_80 rfl 3 rfl ?_
        refine V_icmp_ge (tgt := 94) C dX25_act_81 (by decide) (fun c_81 => ?_) (fun c_81 => ?_)
        · exact absurd hlt (Int32.not_lt.mpr c_81)
        · refine V_aload_n C dX25_act_84 rfl 0 rfl ?_
          refine V_get C f_X25_3_4 hCc (v := .ref (qN g)) rfl dX25_act_85 ?_
          refine V_bipush (v := 8) C dX25_act_88 rfl ?_
          refine V_callVN C (c_X1_fail l hl G X N0 M (qN g) (qRl g) (qUl g) (qPl g) (qHs g) (qAn g) (σ.1 20) (σ.1 14) (σ.1 11) (σ.1 12) (σ.1 15) (z 0) (z 1) (z 2) (z 3) (z 4) (z 5) (σ.1 31) 8 hN) cs_X25_138_0 hN (show CLS[0]? = some (RX1, TX1, 17) from rfl) rfl rfl ⟨Nat.le_of_ble_eq_true rfl, Nat.le_of_ble_eq_true rfl⟩ ⟨(by first | exact Nat.le_of_ble_eq_true rfl | omega | (dsimp only; omega) | (simp only [List.length_cons, List.length_nil]; omega)), (by first | exact Nat.le_of_ble_eq_true rfl | omega | (dsimp only; omega) | (simp only [List.length_cons, List.length_nil]; omega))⟩ (Nat.le_of_ble_eq_true rfl) dX25_act_90 (fun _ _ _ h => px0 h) ?_
          rintro _ M_3 ⟨q_1, rfl, hq_2, hN_4, hF_5, fr_6, sh_7⟩
          refine V_st (st' := [.ref q_1]) rfl ?_
          refine V_athrow C hF_5 (show CLS[8]? = some (RX26, TX26, 7) from rfl) dX25_act_93 ?_
          exact VX_out C (fun z hz => by cases hz) (FLX.xb (FLX.of hR hq_2 hN_4 hF_5 fr_6 sh_7) (act_8 hAH hrw hlt) (by decide)) (by first | exact Nat.le_of_ble_eq_true rfl | omega | (dsimp only; omega) | (simp only [List.length_cons, List.length_nil]; omega)) (by first | exact Nat.le_of_ble_eq_true rfl | omega | (dsimp only; omega) | (simp only [List.length_cons, List.length_nil]; omega))
      · exact absurd c_41 (by decide)
set_option maxHeartbeats 1000000 in
theorem c_X25_act_7_w (l : Launch) (hl : l.stackTraces = false) (G : hp_G) (X : Nat → Nat) (N0 : Nat) (M : hp_h) (go : Nat → MS → Int32 × MS) (g : RG) (σ : MS) (z : Nat → Int32) (c9 : Nat) (hR : REL G (X 0) g σ z (σ.1 31) (c9 + 1) M) (hI : MI σ) (P9 K9 : Nat) (a i b j n : Int32) (hP9 : P9 < 6) (hK9 : K9 < psz σ P9) (hAF : AF σ P9 K9 = [.int (nI 7), .int a, .int i, .int b, .int j, .int n]) (hAH : AH9 σ c9 (nI 7) a i b j n) (hrw : mf_hasRows σ (nI 7) a b) (hge : ¬ σ.2.1 24 c9 < mf_priceOf σ (nI 7) a b n) (hm : MW σ) (hJ8 : nJ σ < 8000) : HM l yX25_act (ws_ yX25_act cX25_act 4 (some .long)) 29 11440 9 320 G X N0 [.ref (qC g c9), .ref (qA g P9 K9)] M (WB G (X 0) g σ z (c9 + 1) M (mf_actR go c9 σ)) (XB G (X 0) g σ z (c9 + 1) M (mf_actR go c9 σ)) := by
  refine HM.of hl [(0, .ref (qC g c9)), (1, .ref (qA g P9 K9))] (by decide +kernel) rfl (Nat.le_of_ble_eq_true rfl) ?_
  intro p e s m args below meth c C hname
  have hN := hR.N
  obtain ⟨fH, hHs, hHf⟩ := hR.Hs
  have hCc : M (qC g c9) = some (.inr (4, [.int (σ.2.1 21 c9), .int (σ.2.1 25 c9), .ref (qKl g c9), .ref (qW g c9), .int (σ.2.1 24 c9), .int (σ.2.1 23 c9 - σ.2.1 24 c9), .int (σ.2.1 22 c9), .ref (qN g)])) := hR.Cc (Nat.lt_succ_self c9)
  have hac : M (qA g P9 K9) = some (.inr (3, [.int (nI 7), .int a, .int i, .int b, .int j, .int n])) := (hR.A hP9 hK9).trans (congrArg (fun y => some (Sum.inr (3, y))) hAF)
  have hH9 : M (qH g 7) = some (.inr (17, [.int 1, .ref (qN g), .int 0, .int 10, .ref (qN g), .ref (qN g), .ref (qN g)])) := hR.H (by decide)
  refine V_aload_n C dX25_act_0 rfl 0 rfl ?_
  refine V_get C f_X25_3_4 hCc (v := .ref (qN g)) rfl dX25_act_1 ?_
  refine V_getN C f_X25_111_0 hN (v := .ref (qHs g)) rfl dX25_act_4 ?_
  refine V_aload_n C dX25_act_7 rfl 1 rfl ?_
  refine V_getN C f_X25_115_3 hac (v := .int (nI 7)) rfl dX25_act_8 ?_
  refine V_aald C (j := 14) rfl rfl hHs (vp_in_nI (by omega) (by omega)) dX25_act_11 ?_
  refine V_st (st' := [.ref (qH g 7)]) (by rw [nI_clamp (by omega), (hHf 7 (by decide))]; rfl) ?_
  refine V_astore_n C dX25_act_12 rfl (Nat.le_of_ble_eq_true rfl) [(0, .ref (qC g c9)), (1, .ref (qA g P9 K9)), (2, .ref (qH g 7))] [1, 2, 0] rfl ?_
  refine V_aload_n C dX25_act_13 rfl 1 rfl ?_
  refine V_getN C f_X25_115_3 hac (v := .int (nI 7)) rfl dX25_act_14 ?_
  refine V_callSN C (c_X1_needsRow l hl G X N0 M (nI 7)) cs_X25_120 rfl rfl ⟨Nat.le_of_ble_eq_true rfl, Nat.le_of_ble_eq_true rfl⟩ ⟨(by first | exact Nat.le_of_ble_eq_true rfl | omega | (dsimp only; omega) | (simp only [List.length_cons, List.length_nil]; omega)), (by first | exact Nat.le_of_ble_eq_true rfl | omega | (dsimp only; omega) | (simp only [List.length_cons, List.length_nil]; omega))⟩ (Nat.le_of_ble_eq_true rfl) dX25_act_17 (fun _ _ _ h => px0 h) ?_
  rintro _ _ ⟨rfl, rfl⟩
  refine V_st (st' := [.int (bI ((nI 7) ≠ 10 ∧ (nI 7) ≠ 11))]) rfl ?_
  refine V_if_eq (tgt := 67) C dX25_act_20 (by decide) (fun c_20 => ?_) (fun c_20 => ?_)
  · exact absurd (bI_0.mp c_20) (not_not_intro ⟨by decide, by decide⟩)
  · refine V_pc (pc1 := 23) rfl ?_
    refine V_aload_n C dX25_act_23 rfl 0 rfl ?_
    refine V_get C f_X25_3_4 hCc (v := .ref (qN g)) rfl dX25_act_24 ?_
    refine V_aload_n C dX25_act_27 rfl 1 rfl ?_
    refine V_getN C f_X25_123_3 hac (v := .int a) rfl dX25_act_28 ?_
    refine V_callVN C (c_X1_isRow l hl G X N0 M g σ z (σ.1 31) (c9 + 1) hR hI a) cs_X25_126_0 hN (show CLS[0]? = some (RX1, TX1, 17) from rfl) rfl rfl ⟨Nat.le_of_ble_eq_true rfl, Nat.le_of_ble_eq_true rfl⟩ ⟨(by first | exact Nat.le_of_ble_eq_true rfl | omega | (dsimp only; omega) | (simp only [List.length_cons, List.length_nil]; omega)), (by first | exact Nat.le_of_ble_eq_true rfl | omega | (dsimp only; omega) | (simp only [List.length_cons, List.length_nil]; omega))⟩ (Nat.le_of_ble_eq_true rfl) dX25_act_31 (fun _ _ _ h => px0 h) ?_
    rintro _ _ ⟨rfl, rfl⟩
    refine V_st (st' := [.int (bI (¬ a < 0 ∧ a < σ.1 1))]) rfl ?_
    refine V_if_eq (tgt := 58) C dX25_act_34 (by decide) (fun c_34 => ?_) (fun c_34 => ?_)
    · exact absurd (hrw.1.resolve_left (by decide)) (bI_0.mp c_34)
    · refine V_aload_n C dX25_act_37 rfl 2 rfl ?_
      refine V_callU C (c_X3_hasOther_17 l hl G X N0 M (qH g 7) (qN g) hH9) cs_X25_129_17 hH9 (show CLS[17]? = some (RX14, TX14, 7) from rfl) rfl rfl ⟨Nat.le_of_ble_eq_true rfl, Nat.le_of_ble_eq_true rfl⟩ ⟨(by first | exact Nat.le_of_ble_eq_true rfl | omega | (dsimp only; omega) | (simp only [List.length_cons, List.length_nil]; omega)), (by first | exact Nat.le_of_ble_eq_true rfl | omega | (dsimp only; omega) | (simp only [List.length_cons, List.length_nil]; omega))⟩ (Nat.le_of_ble_eq_true rfl) dX25_act_38 (fun _ _ _ h => px0 h) ?_
      rintro _ _ ⟨rfl, rfl⟩
      refine V_st (st' := [.int 0]) rfl ?_
      refine V_if_eq (tgt := 67) C dX25_act_41 (by decide) (fun c_41 => ?_) (fun c_41 => ?_)
      · refine V_aload_n C dX25_act_67 rfl 0 rfl ?_
        refine V_get C f_X25_3_4 hCc (v := .ref (qN g)) rfl dX25_act_68 ?_
        refine V_aload_n C dX25_act_71 rfl 1 rfl ?_
        refine V_pc (pc1 := 72) rfl ?_
        refine V_callVN C (c_X1_priceOf l hl G X N0 M g σ z (σ.1 31) (c9 + 1) hR hI (qA g P9 K9) 7 (by decide) (nI 7) a i b j n rfl hac hrw) cs_X25_142_0 hN (show CLS[0]? = some (RX1, TX1, 17) from rfl) rfl rfl ⟨Nat.le_of_ble_eq_true rfl, Nat.le_of_ble_eq_true rfl⟩ ⟨(by first | exact Nat.le_of_ble_eq_true rfl | omega | (dsimp only; omega) | (simp only [List.length_cons, List.length_nil]; omega)), (by first | exact Nat.le_of_ble_eq_true rfl | omega | (dsimp only; omega) | (simp only [List.length_cons, List.length_nil]; omega))⟩ (Nat.le_of_ble_eq_true rfl) dX25_act_72 (fun _ _ _ h => px0 h) ?_
        rintro _ _ ⟨rfl, rfl⟩
        refine V_st (st' := [.int (mf_priceOf σ (nI 7) a b n)]) rfl ?_
        refine V_istore_n C dX25_act_75 rfl (Nat.le_of_ble_eq_true rfl) [(0, .ref (qC g c9)), (1, .ref (qA g P9 K9)), (2, .ref (qH g 7)), (3, .int (mf_priceOf σ (nI 7) a b n))] [1, 2, 3, 0] rfl ?_
        refine V_aload_n C dX25_act_76 rfl 0 rfl ?_
        refine V_get C f_X25_39_4 hCc (v := .int (σ.2.1 24 c9)) rfl dX25_act_77 ?_
        refine V_iload_n C dX25_act_80 rfl 3 rfl ?_
        refine V_icmp_ge (tgt := 94) C dX25_act_81 (by decide) (fun c_81 => ?_) (fun c_81 => ?_)
        · obtain ⟨pr, hpr⟩ : ∃ y, y = mf_priceOf σ (nI 7) a b n := ⟨_, rfl⟩
          refine V_loc (L' := [(0, .ref (qC g c9)), (1, .ref (qA g P9 K9)), (2, .ref (qH g 7)), (3, .int pr)]) [0, 1, 2, 3] (by rw [hpr]; rfl) ?_
          have hfrP : hp_fr (fun b => b = qC g c9 ∨ b = qN g) M M := hp_fr.rf
          have hshP : hp_sh M M := hp_sh.rf
          have hneP : qC g c9 ≠ qN g := hR.ne (t := 15) (i := c9) (j := 0) (t' := 0) (i' := 0) (j' := 0) ⟨Nat.lt_succ_self c9, rfl⟩ ⟨by decide, rfl, rfl⟩ (by simp)
          refine V_aload_n C dX25_act_94 rfl 0 rfl ?_
          refine V_dup C dX25_act_95 rfl ?_
          refine V_get C f_X25_39_4 hCc (v := .int (σ.2.1 24 c9)) rfl dX25_act_96 ?_
          refine V_iload_n C dX25_act_99 rfl 3 rfl ?_
          refine V_isub C dX25_act_100 ?_
          refine V_put C f_X25_39_4 hCc rfl rfl (Nat.le_of_ble_eq_true rfl) dX25_act_101 ?_
          obtain ⟨M_1, eM_2⟩ : ∃ z, z = hp_up M (qC g c9) (.inr (4, [.int (σ.2.1 21 c9), .int (σ.2.1 25 c9), .ref (qKl g c9), .ref (qW g c9), .int ((σ.2.1 24 c9) - pr), .int (σ.2.1 23 c9 - σ.2.1 24 c9), .int (σ.2.1 22 c9), .ref (qN g)])) := ⟨_, rfl⟩
          refine V_heap (M' := M_1) eM_2.symm ?_
          have ho_3 : M_1 (qN g) = some (.inr (0, [.ref (qRl g), .ref (qUl g), .ref (qPl g), .ref (qHs g), .int (σ.1 20), .int (σ.1 14), .int (σ.1 11), .int (σ.1 12), .int (σ.1 15), .int (z 0), .int (z 1), .int (z 2), .int (z 3), .int (z 4), .int (z 5), .int (σ.1 31), .ref (qAn g)])) := by rw [eM_2, hp_up_n (Ne.symm hneP)]; exact hN
          have ho_4 : M_1 (qA g P9 K9) = some (.inr (3, [.int (nI 7), .int a, .int i, .int b, .int j, .int n])) := by rw [eM_2, hp_up_n (hp_ne hac hCc (by simp))]; exact hac
          have ho_5 : M_1 (qH g 7) = some (.inr (17, [.int 1, .ref (qN g), .int 0, .int 10, .ref (qN g), .ref (qN g), .ref (qN g)])) := by rw [eM_2, hp_up_n (hp_ne hH9 hCc (by simp))]; exact hH9
          have ha_6 : M_1 (qHs g) = some (.inl (G.2 14, 13, .inr (.inr (.inr (.inr fH))))) := by rw [eM_2, hp_up_n (hp_ne hHs hCc (by simp))]; exact hHs
          have eM_2_s : M_1 (qC g c9) = some (.inr (4, [.int (σ.2.1 21 c9), .int (σ.2.1 25 c9), .ref (qKl g c9), .ref (qW g c9), .int ((σ.2.1 24 c9) - pr), .int (σ.2.1 23 c9 - σ.2.1 24 c9), .int (σ.2.1 22 c9), .ref (qN g)])) := by rw [eM_2]; exact hp_up_s
          have fr_7 := hp_fr.set hfrP (Or.inl (Or.inl rfl)) eM_2
          have sh_8 := hp_sh.set hshP hCc eM_2 rfl
          refine V_pc (pc1 := 104) rfl ?_
          refine V_aload_n C dX25_act_104 rfl 0 rfl ?_
          refine V_dup C dX25_act_105 rfl ?_
          refine V_get C f_X25_146_4 eM_2_s (v := .int (σ.2.1 23 c9 - σ.2.1 24 c9)) rfl dX25_act_106 ?_
          refine V_iload_n C dX25_act_109 rfl 3 rfl ?_
          refine V_iadd C dX25_act_110 ?_
          refine V_put C f_X25_146_4 eM_2_s rfl rfl (Nat.le_of_ble_eq_true rfl) dX25_act_111 ?_
          obtain ⟨M_9, eM_10⟩ : ∃ z, z = hp_up M_1 (qC g c9) (.inr (4, [.int (σ.2.1 21 c9), .int (σ.2.1 25 c9), .ref (qKl g c9), .ref (qW g c9), .int ((σ.2.1 24 c9) - pr), .int ((σ.2.1 23 c9 - σ.2.1 24 c9) + pr), .int (σ.2.1 22 c9), .ref (qN g)])) := ⟨_, rfl⟩
          refine V_heap (M' := M_9) eM_10.symm ?_
          have ho_11 : M_9 (qN g) = some (.inr (0, [.ref (qRl g), .ref (qUl g), .ref (qPl g), .ref (qHs g), .int (σ.1 20), .int (σ.1 14), .int (σ.1 11), .int (σ.1 12), .int (σ.1 15), .int (z 0), .int (z 1), .int (z 2), .int (z 3), .int (z 4), .int (z 5), .int (σ.1 31), .ref (qAn g)])) := by rw [eM_10, hp_up_n (Ne.symm hneP)]; exact ho_3
          have ho_12 : M_9 (qA g P9 K9) = some (.inr (3, [.int (nI 7), .int a, .int i, .int b, .int j, .int n])) := by rw [eM_10, hp_up_n (hp_ne ho_4 eM_2_s (by simp))]; exact ho_4
          have ho_13 : M_9 (qH g 7) = some (.inr (17, [.int 1, .ref (qN g), .int 0, .int 10, .ref (qN g), .ref (qN g), .ref (qN g)])) := by rw [eM_10, hp_up_n (hp_ne ho_5 eM_2_s (by simp))]; exact ho_5
          have ha_14 : M_9 (qHs g) = some (.inl (G.2 14, 13, .inr (.inr (.inr (.inr fH))))) := by rw [eM_10, hp_up_n (hp_ne ha_6 eM_2_s (by simp))]; exact ha_6
          have eM_10_s : M_9 (qC g c9) = some (.inr (4, [.int (σ.2.1 21 c9), .int (σ.2.1 25 c9), .ref (qKl g c9), .ref (qW g c9), .int ((σ.2.1 24 c9) - pr), .int ((σ.2.1 23 c9 - σ.2.1 24 c9) + pr), .int (σ.2.1 22 c9), .ref (qN g)])) := by rw [eM_10]; exact hp_up_s
          have fr_15 := hp_fr.set fr_7 (Or.inl (Or.inl rfl)) eM_10
          have sh_16 := hp_sh.set sh_8 eM_2_s eM_10 rfl
          refine V_aload_n C dX25_act_114 rfl 0 rfl ?_
          refine V_get C f_X25_3_4 eM_10_s (v := .ref (qN g)) rfl dX25_act_115 ?_
          refine V_dup C dX25_act_118 rfl ?_
          refine V_getN C f_X25_149_0 ho_11 (v := .int (σ.1 11)) rfl dX25_act_119 ?_
          refine V_iconst (v := 1) C dX25_act_122 rfl ?_
          refine V_iadd C dX25_act_123 ?_
          refine V_pc (pc1 := 124) rfl ?_
          refine V_putN C f_X25_149_0 ho_11 rfl rfl (Nat.le_of_ble_eq_true rfl) dX25_act_124 ?_
          obtain ⟨M_17, eM_18⟩ : ∃ z9, z9 = hp_up M_9 (qN g) (.inr (0, [.ref (qRl g), .ref (qUl g), .ref (qPl g), .ref (qHs g), .int (σ.1 20), .int (σ.1 14), .int ((σ.1 11) + 1), .int (σ.1 12), .int (σ.1 15), .int (z 0), .int (z 1), .int (z 2), .int (z 3), .int (z 4), .int (z 5), .int (σ.1 31), .ref (qAn g)])) := ⟨_, rfl⟩
          refine V_heap (M' := M_17) eM_18.symm ?_
          have ho_19 : M_17 (qC g c9) = some (.inr (4, [.int (σ.2.1 21 c9), .int (σ.2.1 25 c9), .ref (qKl g c9), .ref (qW g c9), .int ((σ.2.1 24 c9) - pr), .int ((σ.2.1 23 c9 - σ.2.1 24 c9) + pr), .int (σ.2.1 22 c9), .ref (qN g)])) := by rw [eM_18, hp_up_n hneP]; exact eM_10_s
          have ho_20 : M_17 (qA g P9 K9) = some (.inr (3, [.int (nI 7), .int a, .int i, .int b, .int j, .int n])) := by rw [eM_18, hp_up_n (hp_ne ho_12 ho_11 (by simp))]; exact ho_12
          have ho_21 : M_17 (qH g 7) = some (.inr (17, [.int 1, .ref (qN g), .int 0, .int 10, .ref (qN g), .ref (qN g), .ref (qN g)])) := by rw [eM_18, hp_up_n (hp_ne ho_13 ho_11 (by simp))]; exact ho_13
          have ha_22 : M_17 (qHs g) = some (.inl (G.2 14, 13, .inr (.inr (.inr (.inr fH))))) := by rw [eM_18, hp_up_n (hp_ne ha_14 ho_11 (by simp))]; exact ha_14
          have eM_18_s : M_17 (qN g) = some (.inr (0, [.ref (qRl g), .ref (qUl g), .ref (qPl g), .ref (qHs g), .int (σ.1 20), .int (σ.1 14), .int ((σ.1 11) + 1), .int (σ.1 12), .int (σ.1 15), .int (z 0), .int (z 1), .int (z 2), .int (z 3), .int (z 4), .int (z 5), .int (σ.1 31), .ref (qAn g)])) := by rw [eM_18]; exact hp_up_s
          have fr_23 := hp_fr.set fr_15 (Or.inl (Or.inr rfl)) eM_18
          have sh_24 := hp_sh.set sh_16 ho_11 eM_18 rfl
          have hpay := hR.pay (pr := pr) (Nat.lt_succ_self c9) ho_19 eM_18_s fr_23 sh_24
          have hact : mf_actR go c9 σ = mf_workR go c9 (mf_pay c9 pr σ) 7 a i b j n := by rw [hpr]; exact act_w hAH hrw hge
          refine V_aload_n C dX25_act_127 rfl 2 rfl ?_
          refine V_aload_n C dX25_act_128 rfl 1 rfl ?_
          refine V_aload_n C dX25_act_129 rfl 0 rfl ?_
          have hRs : REL G (X 0) g (sa (mf_pay c9 pr σ) 0) z ((sa (mf_pay c9 pr σ) 0).1 31) (c9 + 1) M_17 := hpay.1.view VW.sa
          have hIs : MI (sa (mf_pay c9 pr σ) 0) := (MQ9.same (σ := σ) ⟨hI, hm⟩ rfl rfl rfl (fun k hk => by rcases hk with rfl | rfl | rfl | rfl | rfl | rfl <;> rfl) rfl).1
          have hms : MW (sa (mf_pay c9 pr σ) 0) := (MQ9.same (σ := σ) ⟨hI, hm⟩ rfl rfl rfl (fun k hk => by rcases hk with rfl | rfl | rfl | rfl | rfl | rfl <;> rfl) rfl).2
          obtain ⟨rr, hr, hra⟩ := hI.row (hrw.1.resolve_left (by decide))
          have hdn : mf_actR go c9 σ = mf_dr (mf_turn (sa (mf_pay c9 pr σ) 0) rr i n) := by
            rw [hact, hra]
            show mf_dr (mf_done (mf_pay c9 pr σ) 7 (nI rr) i b j n) = _
            have hR60 := hI.R.2
            have e1 : (nI rr).toNatClampNeg = rr := nI_clamp (by omega)
            unfold mf_done
            rw [if_neg (by decide), if_neg (by decide), if_neg (by decide), if_neg (by decide), if_neg (by decide), if_neg (by decide), if_neg (by decide), if_pos rfl, e1]
          refine V_callA C (c_work_7 l hl G X N0 M_17 g (sa (mf_pay c9 pr σ) 0) z (c9 + 1) c9 rfl hRs hIs P9 K9 rr (nI 7) i b j n hP9 hK9 hr (show AF (sa (mf_pay c9 pr σ) 0) P9 K9 = [.int (nI 7), .int (nI rr), .int i, .int b, .int j, .int n] from by rw [← hra]; exact hAF) hms rfl hJ8) cs_X25_151_17 ho_21 (show CLS[17]? = some (RX14, TX14, 7) from rfl) rfl rfl ⟨Nat.le_of_ble_eq_true rfl, Nat.le_of_ble_eq_true rfl⟩ ⟨(by first | exact Nat.le_of_ble_eq_true rfl | omega | (dsimp only; omega) | (simp only [List.length_cons, List.length_nil]; omega)), (by first | exact Nat.le_of_ble_eq_true rfl | omega | (dsimp only; omega) | (simp only [List.length_cons, List.length_nil]; omega))⟩ (Nat.le_of_ble_eq_true rfl) dX25_act_130 (fun q9 E9 M9 h9 => by have h8 : XB G (X 0) g σ z (c9 + 1) M (mf_actR go c9 σ) q9 E9 M9 := by { rw [hdn]; exact XB.pre (σ := σ) (τ := (sa (mf_pay c9 pr σ) 0)) (hpay.2.view VW.sa) rfl rfl rfl rfl (WX.dr h9) }; obtain rfl := h8.2.1; exact VX_out C (fun z hz => by cases hz) h8 (by first | exact Nat.le_of_ble_eq_true rfl | omega | (dsimp only; omega) | (simp only [List.length_cons, List.length_nil]; omega)) (by first | exact Nat.le_of_ble_eq_true rfl | omega | (dsimp only; omega) | (simp only [List.length_cons, List.length_nil]; omega))) ?_
          rintro v9 M_25 hv9
          have hwb : WB G (X 0) g σ z (c9 + 1) M (mf_actR go c9 σ) v9 M_25 := by rw [hdn]; exact WB.pre (σ := σ) (τ := (sa (mf_pay c9 pr σ) 0)) (hpay.2.view VW.sa) rfl rfl rfl rfl (WP.dr hv9)
          obtain rfl := hv9.2.1
          refine V_st (st' := [.long ((mf_turn (sa (mf_pay c9 pr σ) 0) rr i n).2.2.2.2)]) rfl ?_
          refine V_lret C dX25_act_133 rfl ?_ (by first | exact Nat.le_of_ble_eq_true rfl | omega | (dsimp only; omega) | (simp only [List.length_cons, List.length_nil]; omega)) (by first | exact Nat.le_of_ble_eq_true rfl | omega | (dsimp only; omega) | (simp only [List.length_cons, List.length_nil]; omega))
          exact hwb
        · exact absurd (Int32.not_le.mp c_81) hge
      · exact absurd c_41 (by decide)
set_option maxHeartbeats 1000000 in
theorem c_X25_act_8_1 (l : Launch) (hl : l.stackTraces = false) (G : hp_G) (X : Nat → Nat) (N0 : Nat) (M : hp_h) (go : Nat → MS → Int32 × MS) (g : RG) (σ : MS) (z : Nat → Int32) (c9 : Nat) (hR : REL G (X 0) g σ z (σ.1 31) (c9 + 1) M) (hI : MI σ) (P9 K9 : Nat) (a i b j n : Int32) (hP9 : P9 < 6) (hK9 : K9 < psz σ P9) (hAF : AF σ P9 K9 = [.int (nI 8), .int a, .int i, .int b, .int j, .int n]) (hAH : AH9 σ c9 (nI 8) a i b j n) (hn : ¬ mf_hasRows σ (nI 8) a b) : HM l yX25_act (ws_ yX25_act cX25_act 4 (some .long)) 29 11440 1 7 G X N0 [.ref (qC g c9), .ref (qA g P9 K9)] M PFF (XB G (X 0) g σ z (c9 + 1) M (mf_actR go c9 σ)) := by
  refine HM.of hl [(0, .ref (qC g c9)), (1, .ref (qA g P9 K9))] (by decide +kernel) rfl (Nat.le_of_ble_eq_true rfl) ?_
  intro p e s m args below meth c C hname
  have hN := hR.N
  obtain ⟨fH, hHs, hHf⟩ := hR.Hs
  have hCc : M (qC g c9) = some (.inr (4, [.int (σ.2.1 21 c9), .int (σ.2.1 25 c9), .ref (qKl g c9), .ref (qW g c9), .int (σ.2.1 24 c9), .int (σ.2.1 23 c9 - σ.2.1 24 c9), .int (σ.2.1 22 c9), .ref (qN g)])) := hR.Cc (Nat.lt_succ_self c9)
  have hac : M (qA g P9 K9) = some (.inr (3, [.int (nI 8), .int a, .int i, .int b, .int j, .int n])) := (hR.A hP9 hK9).trans (congrArg (fun y => some (Sum.inr (3, y))) hAF)
  have hH9 : M (qH g 8) = some (.inr (18, [.int 2, .ref (qN g), .int 1, .int 7, .ref (qN g), .ref (qN g), .ref (qN g)])) := hR.H (by decide)
  refine V_aload_n C dX25_act_0 rfl 0 rfl ?_
  refine V_get C f_X25_3_4 hCc (v := .ref (qN g)) rfl dX25_act_1 ?_
  refine V_getN C f_X25_111_0 hN (v := .ref (qHs g)) rfl dX25_act_4 ?_
  refine V_aload_n C dX25_act_7 rfl 1 rfl ?_
  refine V_getN C f_X25_115_3 hac (v := .int (nI 8)) rfl dX25_act_8 ?_
  refine V_aald C (j := 14) rfl rfl hHs (vp_in_nI (by omega) (by omega)) dX25_act_11 ?_
  refine V_st (st' := [.ref (qH g 8)]) (by rw [nI_clamp (by omega), (hHf 8 (by decide))]; rfl) ?_
  refine V_astore_n C dX25_act_12 rfl (Nat.le_of_ble_eq_true rfl) [(0, .ref (qC g c9)), (1, .ref (qA g P9 K9)), (2, .ref (qH g 8))] [1, 2, 0] rfl ?_
  refine V_aload_n C dX25_act_13 rfl 1 rfl ?_
  refine V_getN C f_X25_115_3 hac (v := .int (nI 8)) rfl dX25_act_14 ?_
  refine V_callSN C (c_X1_needsRow l hl G X N0 M (nI 8)) cs_X25_120 rfl rfl ⟨Nat.le_of_ble_eq_true rfl, Nat.le_of_ble_eq_true rfl⟩ ⟨(by first | exact Nat.le_of_ble_eq_true rfl | omega | (dsimp only; omega) | (simp only [List.length_cons, List.length_nil]; omega)), (by first | exact Nat.le_of_ble_eq_true rfl | omega | (dsimp only; omega) | (simp only [List.length_cons, List.length_nil]; omega))⟩ (Nat.le_of_ble_eq_true rfl) dX25_act_17 (fun _ _ _ h => px0 h) ?_
  rintro _ _ ⟨rfl, rfl⟩
  refine V_st (st' := [.int (bI ((nI 8) ≠ 10 ∧ (nI 8) ≠ 11))]) rfl ?_
  refine V_if_eq (tgt := 67) C dX25_act_20 (by decide) (fun c_20 => ?_) (fun c_20 => ?_)
  · exact absurd (bI_0.mp c_20) (not_not_intro ⟨by decide, by decide⟩)
  · refine V_pc (pc1 := 23) rfl ?_
    refine V_aload_n C dX25_act_23 rfl 0 rfl ?_
    refine V_get C f_X25_3_4 hCc (v := .ref (qN g)) rfl dX25_act_24 ?_
    refine V_aload_n C dX25_act_27 rfl 1 rfl ?_
    refine V_getN C f_X25_123_3 hac (v := .int a) rfl dX25_act_28 ?_
    refine V_callVN C (c_X1_isRow l hl G X N0 M g σ z (σ.1 31) (c9 + 1) hR hI a) cs_X25_126_0 hN (show CLS[0]? = some (RX1, TX1, 17) from rfl) rfl rfl ⟨Nat.le_of_ble_eq_true rfl, Nat.le_of_ble_eq_true rfl⟩ ⟨(by first | exact Nat.le_of_ble_eq_true rfl | omega | (dsimp only; omega) | (simp only [List.length_cons, List.length_nil]; omega)), (by first | exact Nat.le_of_ble_eq_true rfl | omega | (dsimp only; omega) | (simp only [List.length_cons, List.length_nil]; omega))⟩ (Nat.le_of_ble_eq_true rfl) dX25_act_31 (fun _ _ _ h => px0 h) ?_
    rintro _ _ ⟨rfl, rfl⟩
    refine V_st (st' := [.int (bI (¬ a < 0 ∧ a < σ.1 1))]) rfl ?_
    refine V_if_eq (tgt := 58) C dX25_act_34 (by decide) (fun c_34 => ?_) (fun c_34 => ?_)
    · refine V_aload_n C dX25_act_58 rfl 0 rfl ?_
      refine V_get C f_X25_3_4 hCc (v := .ref (qN g)) rfl dX25_act_59 ?_
      refine V_iconst (v := 1) C dX25_act_62 rfl ?_
      refine V_callVN C (c_X1_fail l hl G X N0 M (qN g) (qRl g) (qUl g) (qPl g) (qHs g) (qAn g) (σ.1 20) (σ.1 14) (σ.1 11) (σ.1 12) (σ.1 15) (z 0) (z 1) (z 2) (z 3) (z 4) (z 5) (σ.1 31) 1 hN) cs_X25_138_0 hN (show CLS[0]? = some (RX1, TX1, 17) from rfl) rfl rfl ⟨Nat.le_of_ble_eq_true rfl, Nat.le_of_ble_eq_true rfl⟩ ⟨(by first | exact Nat.le_of_ble_eq_true rfl | omega | (dsimp only; omega) | (simp only [List.length_cons, List.length_nil]; omega)), (by first | exact Nat.le_of_ble_eq_true rfl | omega | (dsimp only; omega) | (simp only [List.length_cons, List.length_nil]; omega))⟩ (Nat.le_of_ble_eq_true rfl) dX25_act_63 (fun _ _ _ h => px0 h) ?_
      rintro _ M_3 ⟨q_1, rfl, hq_2, hN_4, hF_5, fr_6, sh_7⟩
      refine V_st (st' := [.ref q_1]) rfl ?_
      refine V_athrow C hF_5 (show CLS[8]? = some (RX26, TX26, 7) from rfl) dX25_act_66 ?_
      exact VX_out C (fun z hz => by cases hz) (FLX.xb (FLX.of hR hq_2 hN_4 hF_5 fr_6 sh_7) (act_1 hAH hn) (by decide)) (by first | exact Nat.le_of_ble_eq_true rfl | omega | (dsimp only; omega) | (simp only [List.length_cons, List.length_nil]; omega)) (by first | exact Nat.le_of_ble_eq_true rfl | omega | (dsimp only; omega) | (simp only [List.length_cons, List.length_nil]; omega))
    · refine V_aload_n C dX25_act_37 rfl 2 rfl ?_
      refine V_callU C (c_X3_hasOther_18 l hl G X N0 M (qH g 8) (qN g) hH9) cs_X25_129_18 hH9 (show CLS[18]? = some (RX15, TX15, 7) from rfl) rfl rfl ⟨Nat.le_of_ble_eq_true rfl, Nat.le_of_ble_eq_true rfl⟩ ⟨(by first | exact Nat.le_of_ble_eq_true rfl | omega | (dsimp only; omega) | (simp only [List.length_cons, List.length_nil]; omega)), (by first | exact Nat.le_of_ble_eq_true rfl | omega | (dsimp only; omega) | (simp only [List.length_cons, List.length_nil]; omega))⟩ (Nat.le_of_ble_eq_true rfl) dX25_act_38 (fun _ _ _ h => px0 h) ?_
      rintro _ _ ⟨rfl, rfl⟩
      refine V_st (st' := [.int 0]) rfl ?_
      refine V_if_eq (tgt := 67) C dX25_act_41 (by decide) (fun c_41 => ?_) (fun c_41 => ?_)
      · exact absurd (show mf_hasRows σ (nI 8) a b from ⟨Or.inr (bI_n.mp c_34), Or.inl (by decide)⟩) hn
      · exact absurd c_41 (by decide)
set_option maxHeartbeats 1000000 in
theorem c_X25_act_8_8 (l : Launch) (hl : l.stackTraces = false) (G : hp_G) (X : Nat → Nat) (N0 : Nat) (M : hp_h) (go : Nat → MS → Int32 × MS) (g : RG) (σ : MS) (z : Nat → Int32) (c9 : Nat) (hR : REL G (X 0) g σ z (σ.1 31) (c9 + 1) M) (hI : MI σ) (P9 K9 : Nat) (a i b j n : Int32) (hP9 : P9 < 6) (hK9 : K9 < psz σ P9) (hAF : AF σ P9 K9 = [.int (nI 8), .int a, .int i, .int b, .int j, .int n]) (hAH : AH9 σ c9 (nI 8) a i b j n) (hrw : mf_hasRows σ (nI 8) a b) (hlt : σ.2.1 24 c9 < mf_priceOf σ (nI 8) a b n) : HM l yX25_act (ws_ yX25_act cX25_act 4 (some .long)) 29 11440 1 7 G X N0 [.ref (qC g c9), .ref (qA g P9 K9)] M PFF (XB G (X 0) g σ z (c9 + 1) M (mf_actR go c9 σ)) := by
  refine HM.of hl [(0, .ref (qC g c9)), (1, .ref (qA g P9 K9))] (by decide +kernel) rfl (Nat.le_of_ble_eq_true rfl) ?_
  intro p e s m args below meth c C hname
  have hN := hR.N
  obtain ⟨fH, hHs, hHf⟩ := hR.Hs
  have hCc : M (qC g c9) = some (.inr (4, [.int (σ.2.1 21 c9), .int (σ.2.1 25 c9), .ref (qKl g c9), .ref (qW g c9), .int (σ.2.1 24 c9), .int (σ.2.1 23 c9 - σ.2.1 24 c9), .int (σ.2.1 22 c9), .ref (qN g)])) := hR.Cc (Nat.lt_succ_self c9)
  have hac : M (qA g P9 K9) = some (.inr (3, [.int (nI 8), .int a, .int i, .int b, .int j, .int n])) := (hR.A hP9 hK9).trans (congrArg (fun y => some (Sum.inr (3, y))) hAF)
  have hH9 : M (qH g 8) = some (.inr (18, [.int 2, .ref (qN g), .int 1, .int 7, .ref (qN g), .ref (qN g), .ref (qN g)])) := hR.H (by decide)
  refine V_aload_n C dX25_act_0 rfl 0 rfl ?_
  refine V_get C f_X25_3_4 hCc (v := .ref (qN g)) rfl dX25_act_1 ?_
  refine V_getN C f_X25_111_0 hN (v := .ref (qHs g)) rfl dX25_act_4 ?_
  refine V_aload_n C dX25_act_7 rfl 1 rfl ?_
  refine V_getN C f_X25_115_3 hac (v := .int (nI 8)) rfl dX25_act_8 ?_
  refine V_aald C (j := 14) rfl rfl hHs (vp_in_nI (by omega) (by omega)) dX25_act_11 ?_
  refine V_st (st' := [.ref (qH g 8)]) (by rw [nI_clamp (by omega), (hHf 8 (by decide))]; rfl) ?_
  refine V_astore_n C dX25_act_12 rfl (Nat.le_of_ble_eq_true rfl) [(0, .ref (qC g c9)), (1, .ref (qA g P9 K9)), (2, .ref (qH g 8))] [1, 2, 0] rfl ?_
  refine V_aload_n C dX25_act_13 rfl 1 rfl ?_
  refine V_getN C f_X25_115_3 hac (v := .int (nI 8)) rfl dX25_act_14 ?_
  refine V_callSN C (c_X1_needsRow l hl G X N0 M (nI 8)) cs_X25_120 rfl rfl ⟨Nat.le_of_ble_eq_true rfl, Nat.le_of_ble_eq_true rfl⟩ ⟨(by first | exact Nat.le_of_ble_eq_true rfl | omega | (dsimp only; omega) | (simp only [List.length_cons, List.length_nil]; omega)), (by first | exact Nat.le_of_ble_eq_true rfl | omega | (dsimp only; omega) | (simp only [List.length_cons, List.length_nil]; omega))⟩ (Nat.le_of_ble_eq_true rfl) dX25_act_17 (fun _ _ _ h => px0 h) ?_
  rintro _ _ ⟨rfl, rfl⟩
  refine V_st (st' := [.int (bI ((nI 8) ≠ 10 ∧ (nI 8) ≠ 11))]) rfl ?_
  refine V_if_eq (tgt := 67) C dX25_act_20 (by decide) (fun c_20 => ?_) (fun c_20 => ?_)
  · exact absurd (bI_0.mp c_20) (not_not_intro ⟨by decide, by decide⟩)
  · refine V_pc (pc1 := 23) rfl ?_
    refine V_aload_n C dX25_act_23 rfl 0 rfl ?_
    refine V_get C f_X25_3_4 hCc (v := .ref (qN g)) rfl dX25_act_24 ?_
    refine V_aload_n C dX25_act_27 rfl 1 rfl ?_
    refine V_getN C f_X25_123_3 hac (v := .int a) rfl dX25_act_28 ?_
    refine V_callVN C (c_X1_isRow l hl G X N0 M g σ z (σ.1 31) (c9 + 1) hR hI a) cs_X25_126_0 hN (show CLS[0]? = some (RX1, TX1, 17) from rfl) rfl rfl ⟨Nat.le_of_ble_eq_true rfl, Nat.le_of_ble_eq_true rfl⟩ ⟨(by first | exact Nat.le_of_ble_eq_true rfl | omega | (dsimp only; omega) | (simp only [List.length_cons, List.length_nil]; omega)), (by first | exact Nat.le_of_ble_eq_true rfl | omega | (dsimp only; omega) | (simp only [List.length_cons, List.length_nil]; omega))⟩ (Nat.le_of_ble_eq_true rfl) dX25_act_31 (fun _ _ _ h => px0 h) ?_
    rintro _ _ ⟨rfl, rfl⟩
    refine V_st (st' := [.int (bI (¬ a < 0 ∧ a < σ.1 1))]) rfl ?_
    refine V_if_eq (tgt := 58) C dX25_act_34 (by decide) (fun c_34 => ?_) (fun c_34 => ?_)
    · exact absurd (hrw.1.resolve_left (by decide)) (bI_0.mp c_34)
    · refine V_aload_n C dX25_act_37 rfl 2 rfl ?_
      refine V_callU C (c_X3_hasOther_18 l hl G X N0 M (qH g 8) (qN g) hH9) cs_X25_129_18 hH9 (show CLS[18]? = some (RX15, TX15, 7) from rfl) rfl rfl ⟨Nat.le_of_ble_eq_true rfl, Nat.le_of_ble_eq_true rfl⟩ ⟨(by first | exact Nat.le_of_ble_eq_true rfl | omega | (dsimp only; omega) | (simp only [List.length_cons, List.length_nil]; omega)), (by first | exact Nat.le_of_ble_eq_true rfl | omega | (dsimp only; omega) | (simp only [List.length_cons, List.length_nil]; omega))⟩ (Nat.le_of_ble_eq_true rfl) dX25_act_38 (fun _ _ _ h => px0 h) ?_
      rintro _ _ ⟨rfl, rfl⟩
      refine V_st (st' := [.int 0]) rfl ?_
      refine V_if_eq (tgt := 67) C dX25_act_41 (by decide) (fun c_41 => ?_) (fun c_41 => ?_)
      · refine V_aload_n C dX25_act_67 rfl 0 rfl ?_
        refine V_get C f_X25_3_4 hCc (v := .ref (qN g)) rfl dX25_act_68 ?_
        refine V_aload_n C dX25_act_71 rfl 1 rfl ?_
        refine V_pc (pc1 := 72) rfl ?_
        refine V_callVN C (c_X1_priceOf l hl G X N0 M g σ z (σ.1 31) (c9 + 1) hR hI (qA g P9 K9) 8 (by decide) (nI 8) a i b j n rfl hac hrw) cs_X25_142_0 hN (show CLS[0]? = some (RX1, TX1, 17) from rfl) rfl rfl ⟨Nat.le_of_ble_eq_true rfl, Nat.le_of_ble_eq_true rfl⟩ ⟨(by first | exact Nat.le_of_ble_eq_true rfl | omega | (dsimp only; omega) | (simp only [List.length_cons, List.length_nil]; omega)), (by first | exact Nat.le_of_ble_eq_true rfl | omega | (dsimp only; omega) | (simp only [List.length_cons, List.length_nil]; omega))⟩ (Nat.le_of_ble_eq_true rfl) dX25_act_72 (fun _ _ _ h => px0 h) ?_
        rintro _ _ ⟨rfl, rfl⟩
        refine V_st (st' := [.int (mf_priceOf σ (nI 8) a b n)]) rfl ?_
        refine V_istore_n C dX25_act_75 rfl (Nat.le_of_ble_eq_true rfl) [(0, .ref (qC g c9)), (1, .ref (qA g P9 K9)), (2, .ref (qH g 8)), (3, .int (mf_priceOf σ (nI 8) a b n))] [1, 2, 3, 0] rfl ?_
        refine V_aload_n C dX25_act_76 rfl 0 rfl ?_
        refine V_get C f_X25_39_4 hCc (v := .int (σ.2.1 24 c9)) rfl dX25_act_77 ?_
        refine V_iload_n C dX25_act_80 rfl 3 rfl ?_
        refine V_icmp_ge (tgt := 94) C dX25_act_81 (by decide) (fun c_81 => ?_) (fun c_81 => ?_)
        · exact absurd hlt (Int32.not_lt.mpr c_81)
        · refine V_aload_n C dX25_act_84 rfl 0 rfl ?_
          refine V_get C f_X25_3_4 hCc (v := .ref (qN g)) rfl dX25_act_85 ?_
          refine V_bipush (v := 8) C dX25_act_88 rfl ?_
          refine V_callVN C (c_X1_fail l hl G X N0 M (qN g) (qRl g) (qUl g) (qPl g) (qHs g) (qAn g) (σ.1 20) (σ.1 14) (σ.1 11) (σ.1 12) (σ.1 15) (z 0) (z 1) (z 2) (z 3) (z 4) (z 5) (σ.1 31) 8 hN) cs_X25_138_0 hN (show CLS[0]? = some (RX1, TX1, 17) from rfl) rfl rfl ⟨Nat.le_of_ble_eq_true rfl, Nat.le_of_ble_eq_true rfl⟩ ⟨(by first | exact Nat.le_of_ble_eq_true rfl | omega | (dsimp only; omega) | (simp only [List.length_cons, List.length_nil]; omega)), (by first | exact Nat.le_of_ble_eq_true rfl | omega | (dsimp only; omega) | (simp only [List.length_cons, List.length_nil]; omega))⟩ (Nat.le_of_ble_eq_true rfl) dX25_act_90 (fun _ _ _ h => px0 h) ?_
          rintro _ M_3 ⟨q_1, rfl, hq_2, hN_4, hF_5, fr_6, sh_7⟩
          refine V_st (st' := [.ref q_1]) rfl ?_
          refine V_athrow C hF_5 (show CLS[8]? = some (RX26, TX26, 7) from rfl) dX25_act_93 ?_
          exact VX_out C (fun z hz => by cases hz) (FLX.xb (FLX.of hR hq_2 hN_4 hF_5 fr_6 sh_7) (act_8 hAH hrw hlt) (by decide)) (by first | exact Nat.le_of_ble_eq_true rfl | omega | (dsimp only; omega) | (simp only [List.length_cons, List.length_nil]; omega)) (by first | exact Nat.le_of_ble_eq_true rfl | omega | (dsimp only; omega) | (simp only [List.length_cons, List.length_nil]; omega))
      · exact absurd c_41 (by decide)
set_option maxHeartbeats 1000000 in
theorem c_X25_act_8_w (l : Launch) (hl : l.stackTraces = false) (G : hp_G) (X : Nat → Nat) (N0 : Nat) (M : hp_h) (go : Nat → MS → Int32 × MS) (g : RG) (σ : MS) (z : Nat → Int32) (c9 : Nat) (hR : REL G (X 0) g σ z (σ.1 31) (c9 + 1) M) (hI : MI σ) (P9 K9 : Nat) (a i b j n : Int32) (hP9 : P9 < 6) (hK9 : K9 < psz σ P9) (hAF : AF σ P9 K9 = [.int (nI 8), .int a, .int i, .int b, .int j, .int n]) (hAH : AH9 σ c9 (nI 8) a i b j n) (hrw : mf_hasRows σ (nI 8) a b) (hge : ¬ σ.2.1 24 c9 < mf_priceOf σ (nI 8) a b n) (hm : MW σ) (hJ8 : nJ σ < 8000) : HM l yX25_act (ws_ yX25_act cX25_act 4 (some .long)) 29 11440 9 320 G X N0 [.ref (qC g c9), .ref (qA g P9 K9)] M (WB G (X 0) g σ z (c9 + 1) M (mf_actR go c9 σ)) (XB G (X 0) g σ z (c9 + 1) M (mf_actR go c9 σ)) := by
  refine HM.of hl [(0, .ref (qC g c9)), (1, .ref (qA g P9 K9))] (by decide +kernel) rfl (Nat.le_of_ble_eq_true rfl) ?_
  intro p e s m args below meth c C hname
  have hN := hR.N
  obtain ⟨fH, hHs, hHf⟩ := hR.Hs
  have hCc : M (qC g c9) = some (.inr (4, [.int (σ.2.1 21 c9), .int (σ.2.1 25 c9), .ref (qKl g c9), .ref (qW g c9), .int (σ.2.1 24 c9), .int (σ.2.1 23 c9 - σ.2.1 24 c9), .int (σ.2.1 22 c9), .ref (qN g)])) := hR.Cc (Nat.lt_succ_self c9)
  have hac : M (qA g P9 K9) = some (.inr (3, [.int (nI 8), .int a, .int i, .int b, .int j, .int n])) := (hR.A hP9 hK9).trans (congrArg (fun y => some (Sum.inr (3, y))) hAF)
  have hH9 : M (qH g 8) = some (.inr (18, [.int 2, .ref (qN g), .int 1, .int 7, .ref (qN g), .ref (qN g), .ref (qN g)])) := hR.H (by decide)
  refine V_aload_n C dX25_act_0 rfl 0 rfl ?_
  refine V_get C f_X25_3_4 hCc (v := .ref (qN g)) rfl dX25_act_1 ?_
  refine V_getN C f_X25_111_0 hN (v := .ref (qHs g)) rfl dX25_act_4 ?_
  refine V_aload_n C dX25_act_7 rfl 1 rfl ?_
  refine V_getN C f_X25_115_3 hac (v := .int (nI 8)) rfl dX25_act_8 ?_
  refine V_aald C (j := 14) rfl rfl hHs (vp_in_nI (by omega) (by omega)) dX25_act_11 ?_
  refine V_st (st' := [.ref (qH g 8)]) (by rw [nI_clamp (by omega), (hHf 8 (by decide))]; rfl) ?_
  refine V_astore_n C dX25_act_12 rfl (Nat.le_of_ble_eq_true rfl) [(0, .ref (qC g c9)), (1, .ref (qA g P9 K9)), (2, .ref (qH g 8))] [1, 2, 0] rfl ?_
  refine V_aload_n C dX25_act_13 rfl 1 rfl ?_
  refine V_getN C f_X25_115_3 hac (v := .int (nI 8)) rfl dX25_act_14 ?_
  refine V_callSN C (c_X1_needsRow l hl G X N0 M (nI 8)) cs_X25_120 rfl rfl ⟨Nat.le_of_ble_eq_true rfl, Nat.le_of_ble_eq_true rfl⟩ ⟨(by first | exact Nat.le_of_ble_eq_true rfl | omega | (dsimp only; omega) | (simp only [List.length_cons, List.length_nil]; omega)), (by first | exact Nat.le_of_ble_eq_true rfl | omega | (dsimp only; omega) | (simp only [List.length_cons, List.length_nil]; omega))⟩ (Nat.le_of_ble_eq_true rfl) dX25_act_17 (fun _ _ _ h => px0 h) ?_
  rintro _ _ ⟨rfl, rfl⟩
  refine V_st (st' := [.int (bI ((nI 8) ≠ 10 ∧ (nI 8) ≠ 11))]) rfl ?_
  refine V_if_eq (tgt := 67) C dX25_act_20 (by decide) (fun c_20 => ?_) (fun c_20 => ?_)
  · exact absurd (bI_0.mp c_20) (not_not_intro ⟨by decide, by decide⟩)
  · refine V_pc (pc1 := 23) rfl ?_
    refine V_aload_n C dX25_act_23 rfl 0 rfl ?_
    refine V_get C f_X25_3_4 hCc (v := .ref (qN g)) rfl dX25_act_24 ?_
    refine V_aload_n C dX25_act_27 rfl 1 rfl ?_
    refine V_getN C f_X25_123_3 hac (v := .int a) rfl dX25_act_28 ?_
    refine V_callVN C (c_X1_isRow l hl G X N0 M g σ z (σ.1 31) (c9 + 1) hR hI a) cs_X25_126_0 hN (show CLS[0]? = some (RX1, TX1, 17) from rfl) rfl rfl ⟨Nat.le_of_ble_eq_true rfl, Nat.le_of_ble_eq_true rfl⟩ ⟨(by first | exact Nat.le_of_ble_eq_true rfl | omega | (dsimp only; omega) | (simp only [List.length_cons, List.length_nil]; omega)), (by first | exact Nat.le_of_ble_eq_true rfl | omega | (dsimp only; omega) | (simp only [List.length_cons, List.length_nil]; omega))⟩ (Nat.le_of_ble_eq_true rfl) dX25_act_31 (fun _ _ _ h => px0 h) ?_
    rintro _ _ ⟨rfl, rfl⟩
    refine V_st (st' := [.int (bI (¬ a < 0 ∧ a < σ.1 1))]) rfl ?_
    refine V_if_eq (tgt := 58) C dX25_act_34 (by decide) (fun c_34 => ?_) (fun c_34 => ?_)
    · exact absurd (hrw.1.resolve_left (by decide)) (bI_0.mp c_34)
    · refine V_aload_n C dX25_act_37 rfl 2 rfl ?_
      refine V_callU C (c_X3_hasOther_18 l hl G X N0 M (qH g 8) (qN g) hH9) cs_X25_129_18 hH9 (show CLS[18]? = some (RX15, TX15, 7) from rfl) rfl rfl ⟨Nat.le_of_ble_eq_true rfl, Nat.le_of_ble_eq_true rfl⟩ ⟨(by first | exact Nat.le_of_ble_eq_true rfl | omega | (dsimp only; omega) | (simp only [List.length_cons, List.length_nil]; omega)), (by first | exact Nat.le_of_ble_eq_true rfl | omega | (dsimp only; omega) | (simp only [List.length_cons, List.length_nil]; omega))⟩ (Nat.le_of_ble_eq_true rfl) dX25_act_38 (fun _ _ _ h => px0 h) ?_
      rintro _ _ ⟨rfl, rfl⟩
      refine V_st (st' := [.int 0]) rfl ?_
      refine V_if_eq (tgt := 67) C dX25_act_41 (by decide) (fun c_41 => ?_) (fun c_41 => ?_)
      · refine V_aload_n C dX25_act_67 rfl 0 rfl ?_
        refine V_get C f_X25_3_4 hCc (v := .ref (qN g)) rfl dX25_act_68 ?_
        refine V_aload_n C dX25_act_71 rfl 1 rfl ?_
        refine V_pc (pc1 := 72) rfl ?_
        refine V_callVN C (c_X1_priceOf l hl G X N0 M g σ z (σ.1 31) (c9 + 1) hR hI (qA g P9 K9) 8 (by decide) (nI 8) a i b j n rfl hac hrw) cs_X25_142_0 hN (show CLS[0]? = some (RX1, TX1, 17) from rfl) rfl rfl ⟨Nat.le_of_ble_eq_true rfl, Nat.le_of_ble_eq_true rfl⟩ ⟨(by first | exact Nat.le_of_ble_eq_true rfl | omega | (dsimp only; omega) | (simp only [List.length_cons, List.length_nil]; omega)), (by first | exact Nat.le_of_ble_eq_true rfl | omega | (dsimp only; omega) | (simp only [List.length_cons, List.length_nil]; omega))⟩ (Nat.le_of_ble_eq_true rfl) dX25_act_72 (fun _ _ _ h => px0 h) ?_
        rintro _ _ ⟨rfl, rfl⟩
        refine V_st (st' := [.int (mf_priceOf σ (nI 8) a b n)]) rfl ?_
        refine V_istore_n C dX25_act_75 rfl (Nat.le_of_ble_eq_true rfl) [(0, .ref (qC g c9)), (1, .ref (qA g P9 K9)), (2, .ref (qH g 8)), (3, .int (mf_priceOf σ (nI 8) a b n))] [1, 2, 3, 0] rfl ?_
        refine V_aload_n C dX25_act_76 rfl 0 rfl ?_
        refine V_get C f_X25_39_4 hCc (v := .int (σ.2.1 24 c9)) rfl dX25_act_77 ?_
        refine V_iload_n C dX25_act_80 rfl 3 rfl ?_
        refine V_icmp_ge (tgt := 94) C dX25_act_81 (by decide) (fun c_81 => ?_) (fun c_81 => ?_)
        · obtain ⟨pr, hpr⟩ : ∃ y, y = mf_priceOf σ (nI 8) a b n := ⟨_, rfl⟩
          refine V_loc (L' := [(0, .ref (qC g c9)), (1, .ref (qA g P9 K9)), (2, .ref (qH g 8)), (3, .int pr)]) [0, 1, 2, 3] (by rw [hpr]; rfl) ?_
          have hfrP : hp_fr (fun b => b = qC g c9 ∨ b = qN g) M M := hp_fr.rf
          have hshP : hp_sh M M := hp_sh.rf
          have hneP : qC g c9 ≠ qN g := hR.ne (t := 15) (i := c9) (j := 0) (t' := 0) (i' := 0) (j' := 0) ⟨Nat.lt_succ_self c9, rfl⟩ ⟨by decide, rfl, rfl⟩ (by simp)
          refine V_aload_n C dX25_act_94 rfl 0 rfl ?_
          refine V_dup C dX25_act_95 rfl ?_
          refine V_get C f_X25_39_4 hCc (v := .int (σ.2.1 24 c9)) rfl dX25_act_96 ?_
          refine V_iload_n C dX25_act_99 rfl 3 rfl ?_
          refine V_isub C dX25_act_100 ?_
          refine V_put C f_X25_39_4 hCc rfl rfl (Nat.le_of_ble_eq_true rfl) dX25_act_101 ?_
          obtain ⟨M_1, eM_2⟩ : ∃ z, z = hp_up M (qC g c9) (.inr (4, [.int (σ.2.1 21 c9), .int (σ.2.1 25 c9), .ref (qKl g c9), .ref (qW g c9), .int ((σ.2.1 24 c9) - pr), .int (σ.2.1 23 c9 - σ.2.1 24 c9), .int (σ.2.1 22 c9), .ref (qN g)])) := ⟨_, rfl⟩
          refine V_heap (M' := M_1) eM_2.symm ?_
          have ho_3 : M_1 (qN g) = some (.inr (0, [.ref (qRl g), .ref (qUl g), .ref (qPl g), .ref (qHs g), .int (σ.1 20), .int (σ.1 14), .int (σ.1 11), .int (σ.1 12), .int (σ.1 15), .int (z 0), .int (z 1), .int (z 2), .int (z 3), .int (z 4), .int (z 5), .int (σ.1 31), .ref (qAn g)])) := by rw [eM_2, hp_up_n (Ne.symm hneP)]; exact hN
          have ho_4 : M_1 (qA g P9 K9) = some (.inr (3, [.int (nI 8), .int a, .int i, .int b, .int j, .int n])) := by rw [eM_2, hp_up_n (hp_ne hac hCc (by simp))]; exact hac
          have ho_5 : M_1 (qH g 8) = some (.inr (18, [.int 2, .ref (qN g), .int 1, .int 7, .ref (qN g), .ref (qN g), .ref (qN g)])) := by rw [eM_2, hp_up_n (hp_ne hH9 hCc (by simp))]; exact hH9
          have ha_6 : M_1 (qHs g) = some (.inl (G.2 14, 13, .inr (.inr (.inr (.inr fH))))) := by rw [eM_2, hp_up_n (hp_ne hHs hCc (by simp))]; exact hHs
          have eM_2_s : M_1 (qC g c9) = some (.inr (4, [.int (σ.2.1 21 c9), .int (σ.2.1 25 c9), .ref (qKl g c9), .ref (qW g c9), .int ((σ.2.1 24 c9) - pr), .int (σ.2.1 23 c9 - σ.2.1 24 c9), .int (σ.2.1 22 c9), .ref (qN g)])) := by rw [eM_2]; exact hp_up_s
          have fr_7 := hp_fr.set hfrP (Or.inl (Or.inl rfl)) eM_2
          have sh_8 := hp_sh.set hshP hCc eM_2 rfl
          refine V_pc (pc1 := 104) rfl ?_
          refine V_aload_n C dX25_act_104 rfl 0 rfl ?_
          refine V_dup C dX25_act_105 rfl ?_
          refine V_get C f_X25_146_4 eM_2_s (v := .int (σ.2.1 23 c9 - σ.2.1 24 c9)) rfl dX25_act_106 ?_
          refine V_iload_n C dX25_act_109 rfl 3 rfl ?_
          refine V_iadd C dX25_act_110 ?_
          refine V_put C f_X25_146_4 eM_2_s rfl rfl (Nat.le_of_ble_eq_true rfl) dX25_act_111 ?_
          obtain ⟨M_9, eM_10⟩ : ∃ z, z = hp_up M_1 (qC g c9) (.inr (4, [.int (σ.2.1 21 c9), .int (σ.2.1 25 c9), .ref (qKl g c9), .ref (qW g c9), .int ((σ.2.1 24 c9) - pr), .int ((σ.2.1 23 c9 - σ.2.1 24 c9) + pr), .int (σ.2.1 22 c9), .ref (qN g)])) := ⟨_, rfl⟩
          refine V_heap (M' := M_9) eM_10.symm ?_
          have ho_11 : M_9 (qN g) = some (.inr (0, [.ref (qRl g), .ref (qUl g), .ref (qPl g), .ref (qHs g), .int (σ.1 20), .int (σ.1 14), .int (σ.1 11), .int (σ.1 12), .int (σ.1 15), .int (z 0), .int (z 1), .int (z 2), .int (z 3), .int (z 4), .int (z 5), .int (σ.1 31), .ref (qAn g)])) := by rw [eM_10, hp_up_n (Ne.symm hneP)]; exact ho_3
          have ho_12 : M_9 (qA g P9 K9) = some (.inr (3, [.int (nI 8), .int a, .int i, .int b, .int j, .int n])) := by rw [eM_10, hp_up_n (hp_ne ho_4 eM_2_s (by simp))]; exact ho_4
          have ho_13 : M_9 (qH g 8) = some (.inr (18, [.int 2, .ref (qN g), .int 1, .int 7, .ref (qN g), .ref (qN g), .ref (qN g)])) := by rw [eM_10, hp_up_n (hp_ne ho_5 eM_2_s (by simp))]; exact ho_5
          have ha_14 : M_9 (qHs g) = some (.inl (G.2 14, 13, .inr (.inr (.inr (.inr fH))))) := by rw [eM_10, hp_up_n (hp_ne ha_6 eM_2_s (by simp))]; exact ha_6
          have eM_10_s : M_9 (qC g c9) = some (.inr (4, [.int (σ.2.1 21 c9), .int (σ.2.1 25 c9), .ref (qKl g c9), .ref (qW g c9), .int ((σ.2.1 24 c9) - pr), .int ((σ.2.1 23 c9 - σ.2.1 24 c9) + pr), .int (σ.2.1 22 c9), .ref (qN g)])) := by rw [eM_10]; exact hp_up_s
          have fr_15 := hp_fr.set fr_7 (Or.inl (Or.inl rfl)) eM_10
          have sh_16 := hp_sh.set sh_8 eM_2_s eM_10 rfl
          refine V_aload_n C dX25_act_114 rfl 0 rfl ?_
          refine V_get C f_X25_3_4 eM_10_s (v := .ref (qN g)) rfl dX25_act_115 ?_
          refine V_dup C dX25_act_118 rfl ?_
          refine V_getN C f_X25_149_0 ho_11 (v := .int (σ.1 11)) rfl dX25_act_119 ?_
          refine V_iconst (v := 1) C dX25_act_122 rfl ?_
          refine V_iadd C dX25_act_123 ?_
          refine V_pc (pc1 := 124) rfl ?_
          refine V_putN C f_X25_149_0 ho_11 rfl rfl (Nat.le_of_ble_eq_true rfl) dX25_act_124 ?_
          obtain ⟨M_17, eM_18⟩ : ∃ z9, z9 = hp_up M_9 (qN g) (.inr (0, [.ref (qRl g), .ref (qUl g), .ref (qPl g), .ref (qHs g), .int (σ.1 20), .int (σ.1 14), .int ((σ.1 11) + 1), .int (σ.1 12), .int (σ.1 15), .int (z 0), .int (z 1), .int (z 2), .int (z 3), .int (z 4), .int (z 5), .int (σ.1 31), .ref (qAn g)])) := ⟨_, rfl⟩
          refine V_heap (M' := M_17) eM_18.symm ?_
          have ho_19 : M_17 (qC g c9) = some (.inr (4, [.int (σ.2.1 21 c9), .int (σ.2.1 25 c9), .ref (qKl g c9), .ref (qW g c9), .int ((σ.2.1 24 c9) - pr), .int ((σ.2.1 23 c9 - σ.2.1 24 c9) + pr), .int (σ.2.1 22 c9), .ref (qN g)])) := by rw [eM_18, hp_up_n hneP]; exact eM_10_s
          have ho_20 : M_17 (qA g P9 K9) = some (.inr (3, [.int (nI 8), .int a, .int i, .int b, .int j, .int n])) := by rw [eM_18, hp_up_n (hp_ne ho_12 ho_11 (by simp))]; exact ho_12
          have ho_21 : M_17 (qH g 8) = some (.inr (18, [.int 2, .ref (qN g), .int 1, .int 7, .ref (qN g), .ref (qN g), .ref (qN g)])) := by rw [eM_18, hp_up_n (hp_ne ho_13 ho_11 (by simp))]; exact ho_13
          have ha_22 : M_17 (qHs g) = some (.inl (G.2 14, 13, .inr (.inr (.inr (.inr fH))))) := by rw [eM_18, hp_up_n (hp_ne ha_14 ho_11 (by simp))]; exact ha_14
          have eM_18_s : M_17 (qN g) = some (.inr (0, [.ref (qRl g), .ref (qUl g), .ref (qPl g), .ref (qHs g), .int (σ.1 20), .int (σ.1 14), .int ((σ.1 11) + 1), .int (σ.1 12), .int (σ.1 15), .int (z 0), .int (z 1), .int (z 2), .int (z 3), .int (z 4), .int (z 5), .int (σ.1 31), .ref (qAn g)])) := by rw [eM_18]; exact hp_up_s
          have fr_23 := hp_fr.set fr_15 (Or.inl (Or.inr rfl)) eM_18
          have sh_24 := hp_sh.set sh_16 ho_11 eM_18 rfl
          have hpay := hR.pay (pr := pr) (Nat.lt_succ_self c9) ho_19 eM_18_s fr_23 sh_24
          have hact : mf_actR go c9 σ = mf_workR go c9 (mf_pay c9 pr σ) 8 a i b j n := by rw [hpr]; exact act_w hAH hrw hge
          refine V_aload_n C dX25_act_127 rfl 2 rfl ?_
          refine V_aload_n C dX25_act_128 rfl 1 rfl ?_
          refine V_aload_n C dX25_act_129 rfl 0 rfl ?_
          have hRs : REL G (X 0) g (sa (mf_pay c9 pr σ) 0) z ((sa (mf_pay c9 pr σ) 0).1 31) (c9 + 1) M_17 := hpay.1.view VW.sa
          have hIs : MI (sa (mf_pay c9 pr σ) 0) := (MQ9.same (σ := σ) ⟨hI, hm⟩ rfl rfl rfl (fun k hk => by rcases hk with rfl | rfl | rfl | rfl | rfl | rfl <;> rfl) rfl).1
          have hms : MW (sa (mf_pay c9 pr σ) 0) := (MQ9.same (σ := σ) ⟨hI, hm⟩ rfl rfl rfl (fun k hk => by rcases hk with rfl | rfl | rfl | rfl | rfl | rfl <;> rfl) rfl).2
          obtain ⟨rr, hr, hra⟩ := hI.row (hrw.1.resolve_left (by decide))
          have hdn : mf_actR go c9 σ = mf_dr (mf_sort (sa (mf_pay c9 pr σ) 0) rr i n) := by
            rw [hact, hra]
            show mf_dr (mf_done (mf_pay c9 pr σ) 8 (nI rr) i b j n) = _
            have hR60 := hI.R.2
            have e1 : (nI rr).toNatClampNeg = rr := nI_clamp (by omega)
            unfold mf_done
            rw [if_neg (by decide), if_neg (by decide), if_neg (by decide), if_neg (by decide), if_neg (by decide), if_neg (by decide), if_neg (by decide), if_neg (by decide), if_pos rfl, e1]
          refine V_callA C (c_work_8 l hl G X N0 M_17 g (sa (mf_pay c9 pr σ) 0) z (c9 + 1) c9 rfl hRs hIs P9 K9 rr (nI 8) i b j n hP9 hK9 hr (show AF (sa (mf_pay c9 pr σ) 0) P9 K9 = [.int (nI 8), .int (nI rr), .int i, .int b, .int j, .int n] from by rw [← hra]; exact hAF) hms rfl hJ8) cs_X25_151_18 ho_21 (show CLS[18]? = some (RX15, TX15, 7) from rfl) rfl rfl ⟨Nat.le_of_ble_eq_true rfl, Nat.le_of_ble_eq_true rfl⟩ ⟨(by first | exact Nat.le_of_ble_eq_true rfl | omega | (dsimp only; omega) | (simp only [List.length_cons, List.length_nil]; omega)), (by first | exact Nat.le_of_ble_eq_true rfl | omega | (dsimp only; omega) | (simp only [List.length_cons, List.length_nil]; omega))⟩ (Nat.le_of_ble_eq_true rfl) dX25_act_130 (fun q9 E9 M9 h9 => by have h8 : XB G (X 0) g σ z (c9 + 1) M (mf_actR go c9 σ) q9 E9 M9 := by { rw [hdn]; exact XB.pre (σ := σ) (τ := (sa (mf_pay c9 pr σ) 0)) (hpay.2.view VW.sa) rfl rfl rfl rfl (WX.dr h9) }; obtain rfl := h8.2.1; exact VX_out C (fun z hz => by cases hz) h8 (by first | exact Nat.le_of_ble_eq_true rfl | omega | (dsimp only; omega) | (simp only [List.length_cons, List.length_nil]; omega)) (by first | exact Nat.le_of_ble_eq_true rfl | omega | (dsimp only; omega) | (simp only [List.length_cons, List.length_nil]; omega))) ?_
          rintro v9 M_25 hv9
          have hwb : WB G (X 0) g σ z (c9 + 1) M (mf_actR go c9 σ) v9 M_25 := by rw [hdn]; exact WB.pre (σ := σ) (τ := (sa (mf_pay c9 pr σ) 0)) (hpay.2.view VW.sa) rfl rfl rfl rfl (WP.dr hv9)
          obtain rfl := hv9.2.1
          refine V_st (st' := [.long ((mf_sort (sa (mf_pay c9 pr σ) 0) rr i n).2.2.2.2)]) rfl ?_
          refine V_lret C dX25_act_133 rfl ?_ (by first | exact Nat.le_of_ble_eq_true rfl | omega | (dsimp only; omega) | (simp only [List.length_cons, List.length_nil]; omega)) (by first | exact Nat.le_of_ble_eq_true rfl | omega | (dsimp only; omega) | (simp only [List.length_cons, List.length_nil]; omega))
          exact hwb
        · exact absurd (Int32.not_le.mp c_81) hge
      · exact absurd c_41 (by decide)
set_option maxHeartbeats 1000000 in
theorem c_X25_act_9_1 (l : Launch) (hl : l.stackTraces = false) (G : hp_G) (X : Nat → Nat) (N0 : Nat) (M : hp_h) (go : Nat → MS → Int32 × MS) (g : RG) (σ : MS) (z : Nat → Int32) (c9 : Nat) (hR : REL G (X 0) g σ z (σ.1 31) (c9 + 1) M) (hI : MI σ) (P9 K9 : Nat) (a i b j n : Int32) (hP9 : P9 < 6) (hK9 : K9 < psz σ P9) (hAF : AF σ P9 K9 = [.int (nI 9), .int a, .int i, .int b, .int j, .int n]) (hAH : AH9 σ c9 (nI 9) a i b j n) (hn : ¬ mf_hasRows σ (nI 9) a b) : HM l yX25_act (ws_ yX25_act cX25_act 4 (some .long)) 29 11440 1 7 G X N0 [.ref (qC g c9), .ref (qA g P9 K9)] M PFF (XB G (X 0) g σ z (c9 + 1) M (mf_actR go c9 σ)) := by
  refine HM.of hl [(0, .ref (qC g c9)), (1, .ref (qA g P9 K9))] (by decide +kernel) rfl (Nat.le_of_ble_eq_true rfl) ?_
  intro p e s m args below meth c C hname
  have hN := hR.N
  obtain ⟨fH, hHs, hHf⟩ := hR.Hs
  have hCc : M (qC g c9) = some (.inr (4, [.int (σ.2.1 21 c9), .int (σ.2.1 25 c9), .ref (qKl g c9), .ref (qW g c9), .int (σ.2.1 24 c9), .int (σ.2.1 23 c9 - σ.2.1 24 c9), .int (σ.2.1 22 c9), .ref (qN g)])) := hR.Cc (Nat.lt_succ_self c9)
  have hac : M (qA g P9 K9) = some (.inr (3, [.int (nI 9), .int a, .int i, .int b, .int j, .int n])) := (hR.A hP9 hK9).trans (congrArg (fun y => some (Sum.inr (3, y))) hAF)
  have hH9 : M (qH g 9) = some (.inr (19, [.int 1, .ref (qN g), .int 0, .int 7, .ref (qN g), .ref (qN g), .ref (qN g)])) := hR.H (by decide)
  refine V_aload_n C dX25_act_0 rfl 0 rfl ?_
  refine V_get C f_X25_3_4 hCc (v := .ref (qN g)) rfl dX25_act_1 ?_
  refine V_getN C f_X25_111_0 hN (v := .ref (qHs g)) rfl dX25_act_4 ?_
  refine V_aload_n C dX25_act_7 rfl 1 rfl ?_
  refine V_getN C f_X25_115_3 hac (v := .int (nI 9)) rfl dX25_act_8 ?_
  refine V_aald C (j := 14) rfl rfl hHs (vp_in_nI (by omega) (by omega)) dX25_act_11 ?_
  refine V_st (st' := [.ref (qH g 9)]) (by rw [nI_clamp (by omega), (hHf 9 (by decide))]; rfl) ?_
  refine V_astore_n C dX25_act_12 rfl (Nat.le_of_ble_eq_true rfl) [(0, .ref (qC g c9)), (1, .ref (qA g P9 K9)), (2, .ref (qH g 9))] [1, 2, 0] rfl ?_
  refine V_aload_n C dX25_act_13 rfl 1 rfl ?_
  refine V_getN C f_X25_115_3 hac (v := .int (nI 9)) rfl dX25_act_14 ?_
  refine V_callSN C (c_X1_needsRow l hl G X N0 M (nI 9)) cs_X25_120 rfl rfl ⟨Nat.le_of_ble_eq_true rfl, Nat.le_of_ble_eq_true rfl⟩ ⟨(by first | exact Nat.le_of_ble_eq_true rfl | omega | (dsimp only; omega) | (simp only [List.length_cons, List.length_nil]; omega)), (by first | exact Nat.le_of_ble_eq_true rfl | omega | (dsimp only; omega) | (simp only [List.length_cons, List.length_nil]; omega))⟩ (Nat.le_of_ble_eq_true rfl) dX25_act_17 (fun _ _ _ h => px0 h) ?_
  rintro _ _ ⟨rfl, rfl⟩
  refine V_st (st' := [.int (bI ((nI 9) ≠ 10 ∧ (nI 9) ≠ 11))]) rfl ?_
  refine V_if_eq (tgt := 67) C dX25_act_20 (by decide) (fun c_20 => ?_) (fun c_20 => ?_)
  · exact absurd (bI_0.mp c_20) (not_not_intro ⟨by decide, by decide⟩)
  · refine V_pc (pc1 := 23) rfl ?_
    refine V_aload_n C dX25_act_23 rfl 0 rfl ?_
    refine V_get C f_X25_3_4 hCc (v := .ref (qN g)) rfl dX25_act_24 ?_
    refine V_aload_n C dX25_act_27 rfl 1 rfl ?_
    refine V_getN C f_X25_123_3 hac (v := .int a) rfl dX25_act_28 ?_
    refine V_callVN C (c_X1_isRow l hl G X N0 M g σ z (σ.1 31) (c9 + 1) hR hI a) cs_X25_126_0 hN (show CLS[0]? = some (RX1, TX1, 17) from rfl) rfl rfl ⟨Nat.le_of_ble_eq_true rfl, Nat.le_of_ble_eq_true rfl⟩ ⟨(by first | exact Nat.le_of_ble_eq_true rfl | omega | (dsimp only; omega) | (simp only [List.length_cons, List.length_nil]; omega)), (by first | exact Nat.le_of_ble_eq_true rfl | omega | (dsimp only; omega) | (simp only [List.length_cons, List.length_nil]; omega))⟩ (Nat.le_of_ble_eq_true rfl) dX25_act_31 (fun _ _ _ h => px0 h) ?_
    rintro _ _ ⟨rfl, rfl⟩
    refine V_st (st' := [.int (bI (¬ a < 0 ∧ a < σ.1 1))]) rfl ?_
    refine V_if_eq (tgt := 58) C dX25_act_34 (by decide) (fun c_34 => ?_) (fun c_34 => ?_)
    · refine V_aload_n C dX25_act_58 rfl 0 rfl ?_
      refine V_get C f_X25_3_4 hCc (v := .ref (qN g)) rfl dX25_act_59 ?_
      refine V_iconst (v := 1) C dX25_act_62 rfl ?_
      refine V_callVN C (c_X1_fail l hl G X N0 M (qN g) (qRl g) (qUl g) (qPl g) (qHs g) (qAn g) (σ.1 20) (σ.1 14) (σ.1 11) (σ.1 12) (σ.1 15) (z 0) (z 1) (z 2) (z 3) (z 4) (z 5) (σ.1 31) 1 hN) cs_X25_138_0 hN (show CLS[0]? = some (RX1, TX1, 17) from rfl) rfl rfl ⟨Nat.le_of_ble_eq_true rfl, Nat.le_of_ble_eq_true rfl⟩ ⟨(by first | exact Nat.le_of_ble_eq_true rfl | omega | (dsimp only; omega) | (simp only [List.length_cons, List.length_nil]; omega)), (by first | exact Nat.le_of_ble_eq_true rfl | omega | (dsimp only; omega) | (simp only [List.length_cons, List.length_nil]; omega))⟩ (Nat.le_of_ble_eq_true rfl) dX25_act_63 (fun _ _ _ h => px0 h) ?_
      rintro _ M_3 ⟨q_1, rfl, hq_2, hN_4, hF_5, fr_6, sh_7⟩
      refine V_st (st' := [.ref q_1]) rfl ?_
      refine V_athrow C hF_5 (show CLS[8]? = some (RX26, TX26, 7) from rfl) dX25_act_66 ?_
      exact VX_out C (fun z hz => by cases hz) (FLX.xb (FLX.of hR hq_2 hN_4 hF_5 fr_6 sh_7) (act_1 hAH hn) (by decide)) (by first | exact Nat.le_of_ble_eq_true rfl | omega | (dsimp only; omega) | (simp only [List.length_cons, List.length_nil]; omega)) (by first | exact Nat.le_of_ble_eq_true rfl | omega | (dsimp only; omega) | (simp only [List.length_cons, List.length_nil]; omega))
    · refine V_aload_n C dX25_act_37 rfl 2 rfl ?_
      refine V_callU C (c_X3_hasOther_19 l hl G X N0 M (qH g 9) (qN g) hH9) cs_X25_129_19 hH9 (show CLS[19]? = some (RX16, TX16, 7) from rfl) rfl rfl ⟨Nat.le_of_ble_eq_true rfl, Nat.le_of_ble_eq_true rfl⟩ ⟨(by first | exact Nat.le_of_ble_eq_true rfl | omega | (dsimp only; omega) | (simp only [List.length_cons, List.length_nil]; omega)), (by first | exact Nat.le_of_ble_eq_true rfl | omega | (dsimp only; omega) | (simp only [List.length_cons, List.length_nil]; omega))⟩ (Nat.le_of_ble_eq_true rfl) dX25_act_38 (fun _ _ _ h => px0 h) ?_
      rintro _ _ ⟨rfl, rfl⟩
      refine V_st (st' := [.int 0]) rfl ?_
      refine V_if_eq (tgt := 67) C dX25_act_41 (by decide) (fun c_41 => ?_) (fun c_41 => ?_)
      · exact absurd (show mf_hasRows σ (nI 9) a b from ⟨Or.inr (bI_n.mp c_34), Or.inl (by decide)⟩) hn
      · exact absurd c_41 (by decide)
set_option maxHeartbeats 1000000 in
theorem c_X25_act_9_8 (l : Launch) (hl : l.stackTraces = false) (G : hp_G) (X : Nat → Nat) (N0 : Nat) (M : hp_h) (go : Nat → MS → Int32 × MS) (g : RG) (σ : MS) (z : Nat → Int32) (c9 : Nat) (hR : REL G (X 0) g σ z (σ.1 31) (c9 + 1) M) (hI : MI σ) (P9 K9 : Nat) (a i b j n : Int32) (hP9 : P9 < 6) (hK9 : K9 < psz σ P9) (hAF : AF σ P9 K9 = [.int (nI 9), .int a, .int i, .int b, .int j, .int n]) (hAH : AH9 σ c9 (nI 9) a i b j n) (hrw : mf_hasRows σ (nI 9) a b) (hlt : σ.2.1 24 c9 < mf_priceOf σ (nI 9) a b n) : HM l yX25_act (ws_ yX25_act cX25_act 4 (some .long)) 29 11440 1 7 G X N0 [.ref (qC g c9), .ref (qA g P9 K9)] M PFF (XB G (X 0) g σ z (c9 + 1) M (mf_actR go c9 σ)) := by
  refine HM.of hl [(0, .ref (qC g c9)), (1, .ref (qA g P9 K9))] (by decide +kernel) rfl (Nat.le_of_ble_eq_true rfl) ?_
  intro p e s m args below meth c C hname
  have hN := hR.N
  obtain ⟨fH, hHs, hHf⟩ := hR.Hs
  have hCc : M (qC g c9) = some (.inr (4, [.int (σ.2.1 21 c9), .int (σ.2.1 25 c9), .ref (qKl g c9), .ref (qW g c9), .int (σ.2.1 24 c9), .int (σ.2.1 23 c9 - σ.2.1 24 c9), .int (σ.2.1 22 c9), .ref (qN g)])) := hR.Cc (Nat.lt_succ_self c9)
  have hac : M (qA g P9 K9) = some (.inr (3, [.int (nI 9), .int a, .int i, .int b, .int j, .int n])) := (hR.A hP9 hK9).trans (congrArg (fun y => some (Sum.inr (3, y))) hAF)
  have hH9 : M (qH g 9) = some (.inr (19, [.int 1, .ref (qN g), .int 0, .int 7, .ref (qN g), .ref (qN g), .ref (qN g)])) := hR.H (by decide)
  refine V_aload_n C dX25_act_0 rfl 0 rfl ?_
  refine V_get C f_X25_3_4 hCc (v := .ref (qN g)) rfl dX25_act_1 ?_
  refine V_getN C f_X25_111_0 hN (v := .ref (qHs g)) rfl dX25_act_4 ?_
  refine V_aload_n C dX25_act_7 rfl 1 rfl ?_
  refine V_getN C f_X25_115_3 hac (v := .int (nI 9)) rfl dX25_act_8 ?_
  refine V_aald C (j := 14) rfl rfl hHs (vp_in_nI (by omega) (by omega)) dX25_act_11 ?_
  refine V_st (st' := [.ref (qH g 9)]) (by rw [nI_clamp (by omega), (hHf 9 (by decide))]; rfl) ?_
  refine V_astore_n C dX25_act_12 rfl (Nat.le_of_ble_eq_true rfl) [(0, .ref (qC g c9)), (1, .ref (qA g P9 K9)), (2, .ref (qH g 9))] [1, 2, 0] rfl ?_
  refine V_aload_n C dX25_act_13 rfl 1 rfl ?_
  refine V_getN C f_X25_115_3 hac (v := .int (nI 9)) rfl dX25_act_14 ?_
  refine V_callSN C (c_X1_needsRow l hl G X N0 M (nI 9)) cs_X25_120 rfl rfl ⟨Nat.le_of_ble_eq_true rfl, Nat.le_of_ble_eq_true rfl⟩ ⟨(by first | exact Nat.le_of_ble_eq_true rfl | omega | (dsimp only; omega) | (simp only [List.length_cons, List.length_nil]; omega)), (by first | exact Nat.le_of_ble_eq_true rfl | omega | (dsimp only; omega) | (simp only [List.length_cons, List.length_nil]; omega))⟩ (Nat.le_of_ble_eq_true rfl) dX25_act_17 (fun _ _ _ h => px0 h) ?_
  rintro _ _ ⟨rfl, rfl⟩
  refine V_st (st' := [.int (bI ((nI 9) ≠ 10 ∧ (nI 9) ≠ 11))]) rfl ?_
  refine V_if_eq (tgt := 67) C dX25_act_20 (by decide) (fun c_20 => ?_) (fun c_20 => ?_)
  · exact absurd (bI_0.mp c_20) (not_not_intro ⟨by decide, by decide⟩)
  · refine V_pc (pc1 := 23) rfl ?_
    refine V_aload_n C dX25_act_23 rfl 0 rfl ?_
    refine V_get C f_X25_3_4 hCc (v := .ref (qN g)) rfl dX25_act_24 ?_
    refine V_aload_n C dX25_act_27 rfl 1 rfl ?_
    refine V_getN C f_X25_123_3 hac (v := .int a) rfl dX25_act_28 ?_
    refine V_callVN C (c_X1_isRow l hl G X N0 M g σ z (σ.1 31) (c9 + 1) hR hI a) cs_X25_126_0 hN (show CLS[0]? = some (RX1, TX1, 17) from rfl) rfl rfl ⟨Nat.le_of_ble_eq_true rfl, Nat.le_of_ble_eq_true rfl⟩ ⟨(by first | exact Nat.le_of_ble_eq_true rfl | omega | (dsimp only; omega) | (simp only [List.length_cons, List.length_nil]; omega)), (by first | exact Nat.le_of_ble_eq_true rfl | omega | (dsimp only; omega) | (simp only [List.length_cons, List.length_nil]; omega))⟩ (Nat.le_of_ble_eq_true rfl) dX25_act_31 (fun _ _ _ h => px0 h) ?_
    rintro _ _ ⟨rfl, rfl⟩
    refine V_st (st' := [.int (bI (¬ a < 0 ∧ a < σ.1 1))]) rfl ?_
    refine V_if_eq (tgt := 58) C dX25_act_34 (by decide) (fun c_34 => ?_) (fun c_34 => ?_)
    · exact absurd (hrw.1.resolve_left (by decide)) (bI_0.mp c_34)
    · refine V_aload_n C dX25_act_37 rfl 2 rfl ?_
      refine V_callU C (c_X3_hasOther_19 l hl G X N0 M (qH g 9) (qN g) hH9) cs_X25_129_19 hH9 (show CLS[19]? = some (RX16, TX16, 7) from rfl) rfl rfl ⟨Nat.le_of_ble_eq_true rfl, Nat.le_of_ble_eq_true rfl⟩ ⟨(by first | exact Nat.le_of_ble_eq_true rfl | omega | (dsimp only; omega) | (simp only [List.length_cons, List.length_nil]; omega)), (by first | exact Nat.le_of_ble_eq_true rfl | omega | (dsimp only; omega) | (simp only [List.length_cons, List.length_nil]; omega))⟩ (Nat.le_of_ble_eq_true rfl) dX25_act_38 (fun _ _ _ h => px0 h) ?_
      rintro _ _ ⟨rfl, rfl⟩
      refine V_st (st' := [.int 0]) rfl ?_
      refine V_if_eq (tgt := 67) C dX25_act_41 (by decide) (fun c_41 => ?_) (fun c_41 => ?_)
      · refine V_aload_n C dX25_act_67 rfl 0 rfl ?_
        refine V_get C f_X25_3_4 hCc (v := .ref (qN g)) rfl dX25_act_68 ?_
        refine V_aload_n C dX25_act_71 rfl 1 rfl ?_
        refine V_pc (pc1 := 72) rfl ?_
        refine V_callVN C (c_X1_priceOf l hl G X N0 M g σ z (σ.1 31) (c9 + 1) hR hI (qA g P9 K9) 9 (by decide) (nI 9) a i b j n rfl hac hrw) cs_X25_142_0 hN (show CLS[0]? = some (RX1, TX1, 17) from rfl) rfl rfl ⟨Nat.le_of_ble_eq_true rfl, Nat.le_of_ble_eq_true rfl⟩ ⟨(by first | exact Nat.le_of_ble_eq_true rfl | omega | (dsimp only; omega) | (simp only [List.length_cons, List.length_nil]; omega)), (by first | exact Nat.le_of_ble_eq_true rfl | omega | (dsimp only; omega) | (simp only [List.length_cons, List.length_nil]; omega))⟩ (Nat.le_of_ble_eq_true rfl) dX25_act_72 (fun _ _ _ h => px0 h) ?_
        rintro _ _ ⟨rfl, rfl⟩
        refine V_st (st' := [.int (mf_priceOf σ (nI 9) a b n)]) rfl ?_
        refine V_istore_n C dX25_act_75 rfl (Nat.le_of_ble_eq_true rfl) [(0, .ref (qC g c9)), (1, .ref (qA g P9 K9)), (2, .ref (qH g 9)), (3, .int (mf_priceOf σ (nI 9) a b n))] [1, 2, 3, 0] rfl ?_
        refine V_aload_n C dX25_act_76 rfl 0 rfl ?_
        refine V_get C f_X25_39_4 hCc (v := .int (σ.2.1 24 c9)) rfl dX25_act_77 ?_
        refine V_iload_n C dX25_act_80 rfl 3 rfl ?_
        refine V_icmp_ge (tgt := 94) C dX25_act_81 (by decide) (fun c_81 => ?_) (fun c_81 => ?_)
        · exact absurd hlt (Int32.not_lt.mpr c_81)
        · refine V_aload_n C dX25_act_84 rfl 0 rfl ?_
          refine V_get C f_X25_3_4 hCc (v := .ref (qN g)) rfl dX25_act_85 ?_
          refine V_bipush (v := 8) C dX25_act_88 rfl ?_
          refine V_callVN C (c_X1_fail l hl G X N0 M (qN g) (qRl g) (qUl g) (qPl g) (qHs g) (qAn g) (σ.1 20) (σ.1 14) (σ.1 11) (σ.1 12) (σ.1 15) (z 0) (z 1) (z 2) (z 3) (z 4) (z 5) (σ.1 31) 8 hN) cs_X25_138_0 hN (show CLS[0]? = some (RX1, TX1, 17) from rfl) rfl rfl ⟨Nat.le_of_ble_eq_true rfl, Nat.le_of_ble_eq_true rfl⟩ ⟨(by first | exact Nat.le_of_ble_eq_true rfl | omega | (dsimp only; omega) | (simp only [List.length_cons, List.length_nil]; omega)), (by first | exact Nat.le_of_ble_eq_true rfl | omega | (dsimp only; omega) | (simp only [List.length_cons, List.length_nil]; omega))⟩ (Nat.le_of_ble_eq_true rfl) dX25_act_90 (fun _ _ _ h => px0 h) ?_
          rintro _ M_3 ⟨q_1, rfl, hq_2, hN_4, hF_5, fr_6, sh_7⟩
          refine V_st (st' := [.ref q_1]) rfl ?_
          refine V_athrow C hF_5 (show CLS[8]? = some (RX26, TX26, 7) from rfl) dX25_act_93 ?_
          exact VX_out C (fun z hz => by cases hz) (FLX.xb (FLX.of hR hq_2 hN_4 hF_5 fr_6 sh_7) (act_8 hAH hrw hlt) (by decide)) (by first | exact Nat.le_of_ble_eq_true rfl | omega | (dsimp only; omega) | (simp only [List.length_cons, List.length_nil]; omega)) (by first | exact Nat.le_of_ble_eq_true rfl | omega | (dsimp only; omega) | (simp only [List.length_cons, List.length_nil]; omega))
      · exact absurd c_41 (by decide)
set_option maxHeartbeats 1000000 in
theorem c_X25_act_9_w (l : Launch) (hl : l.stackTraces = false) (G : hp_G) (X : Nat → Nat) (N0 : Nat) (M : hp_h) (go : Nat → MS → Int32 × MS) (g : RG) (σ : MS) (z : Nat → Int32) (c9 : Nat) (hR : REL G (X 0) g σ z (σ.1 31) (c9 + 1) M) (hI : MI σ) (P9 K9 : Nat) (a i b j n : Int32) (hP9 : P9 < 6) (hK9 : K9 < psz σ P9) (hAF : AF σ P9 K9 = [.int (nI 9), .int a, .int i, .int b, .int j, .int n]) (hAH : AH9 σ c9 (nI 9) a i b j n) (hrw : mf_hasRows σ (nI 9) a b) (hge : ¬ σ.2.1 24 c9 < mf_priceOf σ (nI 9) a b n) (hm : MW σ) (hJ8 : nJ σ < 8000) : HM l yX25_act (ws_ yX25_act cX25_act 4 (some .long)) 29 11440 9 320 G X N0 [.ref (qC g c9), .ref (qA g P9 K9)] M (WB G (X 0) g σ z (c9 + 1) M (mf_actR go c9 σ)) (XB G (X 0) g σ z (c9 + 1) M (mf_actR go c9 σ)) := by
  refine HM.of hl [(0, .ref (qC g c9)), (1, .ref (qA g P9 K9))] (by decide +kernel) rfl (Nat.le_of_ble_eq_true rfl) ?_
  intro p e s m args below meth c C hname
  have hN := hR.N
  obtain ⟨fH, hHs, hHf⟩ := hR.Hs
  have hCc : M (qC g c9) = some (.inr (4, [.int (σ.2.1 21 c9), .int (σ.2.1 25 c9), .ref (qKl g c9), .ref (qW g c9), .int (σ.2.1 24 c9), .int (σ.2.1 23 c9 - σ.2.1 24 c9), .int (σ.2.1 22 c9), .ref (qN g)])) := hR.Cc (Nat.lt_succ_self c9)
  have hac : M (qA g P9 K9) = some (.inr (3, [.int (nI 9), .int a, .int i, .int b, .int j, .int n])) := (hR.A hP9 hK9).trans (congrArg (fun y => some (Sum.inr (3, y))) hAF)
  have hH9 : M (qH g 9) = some (.inr (19, [.int 1, .ref (qN g), .int 0, .int 7, .ref (qN g), .ref (qN g), .ref (qN g)])) := hR.H (by decide)
  refine V_aload_n C dX25_act_0 rfl 0 rfl ?_
  refine V_get C f_X25_3_4 hCc (v := .ref (qN g)) rfl dX25_act_1 ?_
  refine V_getN C f_X25_111_0 hN (v := .ref (qHs g)) rfl dX25_act_4 ?_
  refine V_aload_n C dX25_act_7 rfl 1 rfl ?_
  refine V_getN C f_X25_115_3 hac (v := .int (nI 9)) rfl dX25_act_8 ?_
  refine V_aald C (j := 14) rfl rfl hHs (vp_in_nI (by omega) (by omega)) dX25_act_11 ?_
  refine V_st (st' := [.ref (qH g 9)]) (by rw [nI_clamp (by omega), (hHf 9 (by decide))]; rfl) ?_
  refine V_astore_n C dX25_act_12 rfl (Nat.le_of_ble_eq_true rfl) [(0, .ref (qC g c9)), (1, .ref (qA g P9 K9)), (2, .ref (qH g 9))] [1, 2, 0] rfl ?_
  refine V_aload_n C dX25_act_13 rfl 1 rfl ?_
  refine V_getN C f_X25_115_3 hac (v := .int (nI 9)) rfl dX25_act_14 ?_
  refine V_callSN C (c_X1_needsRow l hl G X N0 M (nI 9)) cs_X25_120 rfl rfl ⟨Nat.le_of_ble_eq_true rfl, Nat.le_of_ble_eq_true rfl⟩ ⟨(by first | exact Nat.le_of_ble_eq_true rfl | omega | (dsimp only; omega) | (simp only [List.length_cons, List.length_nil]; omega)), (by first | exact Nat.le_of_ble_eq_true rfl | omega | (dsimp only; omega) | (simp only [List.length_cons, List.length_nil]; omega))⟩ (Nat.le_of_ble_eq_true rfl) dX25_act_17 (fun _ _ _ h => px0 h) ?_
  rintro _ _ ⟨rfl, rfl⟩
  refine V_st (st' := [.int (bI ((nI 9) ≠ 10 ∧ (nI 9) ≠ 11))]) rfl ?_
  refine V_if_eq (tgt := 67) C dX25_act_20 (by decide) (fun c_20 => ?_) (fun c_20 => ?_)
  · exact absurd (bI_0.mp c_20) (not_not_intro ⟨by decide, by decide⟩)
  · refine V_pc (pc1 := 23) rfl ?_
    refine V_aload_n C dX25_act_23 rfl 0 rfl ?_
    refine V_get C f_X25_3_4 hCc (v := .ref (qN g)) rfl dX25_act_24 ?_
    refine V_aload_n C dX25_act_27 rfl 1 rfl ?_
    refine V_getN C f_X25_123_3 hac (v := .int a) rfl dX25_act_28 ?_
    refine V_callVN C (c_X1_isRow l hl G X N0 M g σ z (σ.1 31) (c9 + 1) hR hI a) cs_X25_126_0 hN (show CLS[0]? = some (RX1, TX1, 17) from rfl) rfl rfl ⟨Nat.le_of_ble_eq_true rfl, Nat.le_of_ble_eq_true rfl⟩ ⟨(by first | exact Nat.le_of_ble_eq_true rfl | omega | (dsimp only; omega) | (simp only [List.length_cons, List.length_nil]; omega)), (by first | exact Nat.le_of_ble_eq_true rfl | omega | (dsimp only; omega) | (simp only [List.length_cons, List.length_nil]; omega))⟩ (Nat.le_of_ble_eq_true rfl) dX25_act_31 (fun _ _ _ h => px0 h) ?_
    rintro _ _ ⟨rfl, rfl⟩
    refine V_st (st' := [.int (bI (¬ a < 0 ∧ a < σ.1 1))]) rfl ?_
    refine V_if_eq (tgt := 58) C dX25_act_34 (by decide) (fun c_34 => ?_) (fun c_34 => ?_)
    · exact absurd (hrw.1.resolve_left (by decide)) (bI_0.mp c_34)
    · refine V_aload_n C dX25_act_37 rfl 2 rfl ?_
      refine V_callU C (c_X3_hasOther_19 l hl G X N0 M (qH g 9) (qN g) hH9) cs_X25_129_19 hH9 (show CLS[19]? = some (RX16, TX16, 7) from rfl) rfl rfl ⟨Nat.le_of_ble_eq_true rfl, Nat.le_of_ble_eq_true rfl⟩ ⟨(by first | exact Nat.le_of_ble_eq_true rfl | omega | (dsimp only; omega) | (simp only [List.length_cons, List.length_nil]; omega)), (by first | exact Nat.le_of_ble_eq_true rfl | omega | (dsimp only; omega) | (simp only [List.length_cons, List.length_nil]; omega))⟩ (Nat.le_of_ble_eq_true rfl) dX25_act_38 (fun _ _ _ h => px0 h) ?_
      rintro _ _ ⟨rfl, rfl⟩
      refine V_st (st' := [.int 0]) rfl ?_
      refine V_if_eq (tgt := 67) C dX25_act_41 (by decide) (fun c_41 => ?_) (fun c_41 => ?_)
      · refine V_aload_n C dX25_act_67 rfl 0 rfl ?_
        refine V_get C f_X25_3_4 hCc (v := .ref (qN g)) rfl dX25_act_68 ?_
        refine V_aload_n C dX25_act_71 rfl 1 rfl ?_
        refine V_pc (pc1 := 72) rfl ?_
        refine V_callVN C (c_X1_priceOf l hl G X N0 M g σ z (σ.1 31) (c9 + 1) hR hI (qA g P9 K9) 9 (by decide) (nI 9) a i b j n rfl hac hrw) cs_X25_142_0 hN (show CLS[0]? = some (RX1, TX1, 17) from rfl) rfl rfl ⟨Nat.le_of_ble_eq_true rfl, Nat.le_of_ble_eq_true rfl⟩ ⟨(by first | exact Nat.le_of_ble_eq_true rfl | omega | (dsimp only; omega) | (simp only [List.length_cons, List.length_nil]; omega)), (by first | exact Nat.le_of_ble_eq_true rfl | omega | (dsimp only; omega) | (simp only [List.length_cons, List.length_nil]; omega))⟩ (Nat.le_of_ble_eq_true rfl) dX25_act_72 (fun _ _ _ h => px0 h) ?_
        rintro _ _ ⟨rfl, rfl⟩
        refine V_st (st' := [.int (mf_priceOf σ (nI 9) a b n)]) rfl ?_
        refine V_istore_n C dX25_act_75 rfl (Nat.le_of_ble_eq_true rfl) [(0, .ref (qC g c9)), (1, .ref (qA g P9 K9)), (2, .ref (qH g 9)), (3, .int (mf_priceOf σ (nI 9) a b n))] [1, 2, 3, 0] rfl ?_
        refine V_aload_n C dX25_act_76 rfl 0 rfl ?_
        refine V_get C f_X25_39_4 hCc (v := .int (σ.2.1 24 c9)) rfl dX25_act_77 ?_
        refine V_iload_n C dX25_act_80 rfl 3 rfl ?_
        refine V_icmp_ge (tgt := 94) C dX25_act_81 (by decide) (fun c_81 => ?_) (fun c_81 => ?_)
        · obtain ⟨pr, hpr⟩ : ∃ y, y = mf_priceOf σ (nI 9) a b n := ⟨_, rfl⟩
          refine V_loc (L' := [(0, .ref (qC g c9)), (1, .ref (qA g P9 K9)), (2, .ref (qH g 9)), (3, .int pr)]) [0, 1, 2, 3] (by rw [hpr]; rfl) ?_
          have hfrP : hp_fr (fun b => b = qC g c9 ∨ b = qN g) M M := hp_fr.rf
          have hshP : hp_sh M M := hp_sh.rf
          have hneP : qC g c9 ≠ qN g := hR.ne (t := 15) (i := c9) (j := 0) (t' := 0) (i' := 0) (j' := 0) ⟨Nat.lt_succ_self c9, rfl⟩ ⟨by decide, rfl, rfl⟩ (by simp)
          refine V_aload_n C dX25_act_94 rfl 0 rfl ?_
          refine V_dup C dX25_act_95 rfl ?_
          refine V_get C f_X25_39_4 hCc (v := .int (σ.2.1 24 c9)) rfl dX25_act_96 ?_
          refine V_iload_n C dX25_act_99 rfl 3 rfl ?_
          refine V_isub C dX25_act_100 ?_
          refine V_put C f_X25_39_4 hCc rfl rfl (Nat.le_of_ble_eq_true rfl) dX25_act_101 ?_
          obtain ⟨M_1, eM_2⟩ : ∃ z, z = hp_up M (qC g c9) (.inr (4, [.int (σ.2.1 21 c9), .int (σ.2.1 25 c9), .ref (qKl g c9), .ref (qW g c9), .int ((σ.2.1 24 c9) - pr), .int (σ.2.1 23 c9 - σ.2.1 24 c9), .int (σ.2.1 22 c9), .ref (qN g)])) := ⟨_, rfl⟩
          refine V_heap (M' := M_1) eM_2.symm ?_
          have ho_3 : M_1 (qN g) = some (.inr (0, [.ref (qRl g), .ref (qUl g), .ref (qPl g), .ref (qHs g), .int (σ.1 20), .int (σ.1 14), .int (σ.1 11), .int (σ.1 12), .int (σ.1 15), .int (z 0), .int (z 1), .int (z 2), .int (z 3), .int (z 4), .int (z 5), .int (σ.1 31), .ref (qAn g)])) := by rw [eM_2, hp_up_n (Ne.symm hneP)]; exact hN
          have ho_4 : M_1 (qA g P9 K9) = some (.inr (3, [.int (nI 9), .int a, .int i, .int b, .int j, .int n])) := by rw [eM_2, hp_up_n (hp_ne hac hCc (by simp))]; exact hac
          have ho_5 : M_1 (qH g 9) = some (.inr (19, [.int 1, .ref (qN g), .int 0, .int 7, .ref (qN g), .ref (qN g), .ref (qN g)])) := by rw [eM_2, hp_up_n (hp_ne hH9 hCc (by simp))]; exact hH9
          have ha_6 : M_1 (qHs g) = some (.inl (G.2 14, 13, .inr (.inr (.inr (.inr fH))))) := by rw [eM_2, hp_up_n (hp_ne hHs hCc (by simp))]; exact hHs
          have eM_2_s : M_1 (qC g c9) = some (.inr (4, [.int (σ.2.1 21 c9), .int (σ.2.1 25 c9), .ref (qKl g c9), .ref (qW g c9), .int ((σ.2.1 24 c9) - pr), .int (σ.2.1 23 c9 - σ.2.1 24 c9), .int (σ.2.1 22 c9), .ref (qN g)])) := by rw [eM_2]; exact hp_up_s
          have fr_7 := hp_fr.set hfrP (Or.inl (Or.inl rfl)) eM_2
          have sh_8 := hp_sh.set hshP hCc eM_2 rfl
          refine V_pc (pc1 := 104) rfl ?_
          refine V_aload_n C dX25_act_104 rfl 0 rfl ?_
          refine V_dup C dX25_act_105 rfl ?_
          refine V_get C f_X25_146_4 eM_2_s (v := .int (σ.2.1 23 c9 - σ.2.1 24 c9)) rfl dX25_act_106 ?_
          refine V_iload_n C dX25_act_109 rfl 3 rfl ?_
          refine V_iadd C dX25_act_110 ?_
          refine V_put C f_X25_146_4 eM_2_s rfl rfl (Nat.le_of_ble_eq_true rfl) dX25_act_111 ?_
          obtain ⟨M_9, eM_10⟩ : ∃ z, z = hp_up M_1 (qC g c9) (.inr (4, [.int (σ.2.1 21 c9), .int (σ.2.1 25 c9), .ref (qKl g c9), .ref (qW g c9), .int ((σ.2.1 24 c9) - pr), .int ((σ.2.1 23 c9 - σ.2.1 24 c9) + pr), .int (σ.2.1 22 c9), .ref (qN g)])) := ⟨_, rfl⟩
          refine V_heap (M' := M_9) eM_10.symm ?_
          have ho_11 : M_9 (qN g) = some (.inr (0, [.ref (qRl g), .ref (qUl g), .ref (qPl g), .ref (qHs g), .int (σ.1 20), .int (σ.1 14), .int (σ.1 11), .int (σ.1 12), .int (σ.1 15), .int (z 0), .int (z 1), .int (z 2), .int (z 3), .int (z 4), .int (z 5), .int (σ.1 31), .ref (qAn g)])) := by rw [eM_10, hp_up_n (Ne.symm hneP)]; exact ho_3
          have ho_12 : M_9 (qA g P9 K9) = some (.inr (3, [.int (nI 9), .int a, .int i, .int b, .int j, .int n])) := by rw [eM_10, hp_up_n (hp_ne ho_4 eM_2_s (by simp))]; exact ho_4
          have ho_13 : M_9 (qH g 9) = some (.inr (19, [.int 1, .ref (qN g), .int 0, .int 7, .ref (qN g), .ref (qN g), .ref (qN g)])) := by rw [eM_10, hp_up_n (hp_ne ho_5 eM_2_s (by simp))]; exact ho_5
          have ha_14 : M_9 (qHs g) = some (.inl (G.2 14, 13, .inr (.inr (.inr (.inr fH))))) := by rw [eM_10, hp_up_n (hp_ne ha_6 eM_2_s (by simp))]; exact ha_6
          have eM_10_s : M_9 (qC g c9) = some (.inr (4, [.int (σ.2.1 21 c9), .int (σ.2.1 25 c9), .ref (qKl g c9), .ref (qW g c9), .int ((σ.2.1 24 c9) - pr), .int ((σ.2.1 23 c9 - σ.2.1 24 c9) + pr), .int (σ.2.1 22 c9), .ref (qN g)])) := by rw [eM_10]; exact hp_up_s
          have fr_15 := hp_fr.set fr_7 (Or.inl (Or.inl rfl)) eM_10
          have sh_16 := hp_sh.set sh_8 eM_2_s eM_10 rfl
          refine V_aload_n C dX25_act_114 rfl 0 rfl ?_
          refine V_get C f_X25_3_4 eM_10_s (v := .ref (qN g)) rfl dX25_act_115 ?_
          refine V_dup C dX25_act_118 rfl ?_
          refine V_getN C f_X25_149_0 ho_11 (v := .int (σ.1 11)) rfl dX25_act_119 ?_
          refine V_iconst (v := 1) C dX25_act_122 rfl ?_
          refine V_iadd C dX25_act_123 ?_
          refine V_pc (pc1 := 124) rfl ?_
          refine V_putN C f_X25_149_0 ho_11 rfl rfl (Nat.le_of_ble_eq_true rfl) dX25_act_124 ?_
          obtain ⟨M_17, eM_18⟩ : ∃ z9, z9 = hp_up M_9 (qN g) (.inr (0, [.ref (qRl g), .ref (qUl g), .ref (qPl g), .ref (qHs g), .int (σ.1 20), .int (σ.1 14), .int ((σ.1 11) + 1), .int (σ.1 12), .int (σ.1 15), .int (z 0), .int (z 1), .int (z 2), .int (z 3), .int (z 4), .int (z 5), .int (σ.1 31), .ref (qAn g)])) := ⟨_, rfl⟩
          refine V_heap (M' := M_17) eM_18.symm ?_
          have ho_19 : M_17 (qC g c9) = some (.inr (4, [.int (σ.2.1 21 c9), .int (σ.2.1 25 c9), .ref (qKl g c9), .ref (qW g c9), .int ((σ.2.1 24 c9) - pr), .int ((σ.2.1 23 c9 - σ.2.1 24 c9) + pr), .int (σ.2.1 22 c9), .ref (qN g)])) := by rw [eM_18, hp_up_n hneP]; exact eM_10_s
          have ho_20 : M_17 (qA g P9 K9) = some (.inr (3, [.int (nI 9), .int a, .int i, .int b, .int j, .int n])) := by rw [eM_18, hp_up_n (hp_ne ho_12 ho_11 (by simp))]; exact ho_12
          have ho_21 : M_17 (qH g 9) = some (.inr (19, [.int 1, .ref (qN g), .int 0, .int 7, .ref (qN g), .ref (qN g), .ref (qN g)])) := by rw [eM_18, hp_up_n (hp_ne ho_13 ho_11 (by simp))]; exact ho_13
          have ha_22 : M_17 (qHs g) = some (.inl (G.2 14, 13, .inr (.inr (.inr (.inr fH))))) := by rw [eM_18, hp_up_n (hp_ne ha_14 ho_11 (by simp))]; exact ha_14
          have eM_18_s : M_17 (qN g) = some (.inr (0, [.ref (qRl g), .ref (qUl g), .ref (qPl g), .ref (qHs g), .int (σ.1 20), .int (σ.1 14), .int ((σ.1 11) + 1), .int (σ.1 12), .int (σ.1 15), .int (z 0), .int (z 1), .int (z 2), .int (z 3), .int (z 4), .int (z 5), .int (σ.1 31), .ref (qAn g)])) := by rw [eM_18]; exact hp_up_s
          have fr_23 := hp_fr.set fr_15 (Or.inl (Or.inr rfl)) eM_18
          have sh_24 := hp_sh.set sh_16 ho_11 eM_18 rfl
          have hpay := hR.pay (pr := pr) (Nat.lt_succ_self c9) ho_19 eM_18_s fr_23 sh_24
          have hact : mf_actR go c9 σ = mf_workR go c9 (mf_pay c9 pr σ) 9 a i b j n := by rw [hpr]; exact act_w hAH hrw hge
          refine V_aload_n C dX25_act_127 rfl 2 rfl ?_
          refine V_aload_n C dX25_act_128 rfl 1 rfl ?_
          refine V_aload_n C dX25_act_129 rfl 0 rfl ?_
          have hRs : REL G (X 0) g (sa (mf_pay c9 pr σ) 0) z ((sa (mf_pay c9 pr σ) 0).1 31) (c9 + 1) M_17 := hpay.1.view VW.sa
          have hIs : MI (sa (mf_pay c9 pr σ) 0) := (MQ9.same (σ := σ) ⟨hI, hm⟩ rfl rfl rfl (fun k hk => by rcases hk with rfl | rfl | rfl | rfl | rfl | rfl <;> rfl) rfl).1
          have hms : MW (sa (mf_pay c9 pr σ) 0) := (MQ9.same (σ := σ) ⟨hI, hm⟩ rfl rfl rfl (fun k hk => by rcases hk with rfl | rfl | rfl | rfl | rfl | rfl <;> rfl) rfl).2
          obtain ⟨rr, hr, hra⟩ := hI.row (hrw.1.resolve_left (by decide))
          have hdn : mf_actR go c9 σ = mf_dr (mf_findIn (sa (mf_pay c9 pr σ) 0) rr i j n) := by
            rw [hact, hra]
            show mf_dr (mf_done (mf_pay c9 pr σ) 9 (nI rr) i b j n) = _
            have hR60 := hI.R.2
            have e1 : (nI rr).toNatClampNeg = rr := nI_clamp (by omega)
            unfold mf_done
            rw [if_neg (by decide), if_neg (by decide), if_neg (by decide), if_neg (by decide), if_neg (by decide), if_neg (by decide), if_neg (by decide), if_neg (by decide), if_neg (by decide), if_pos rfl, e1]
          refine V_callA C (c_work_9 l hl G X N0 M_17 g (sa (mf_pay c9 pr σ) 0) z (c9 + 1) c9 rfl hRs hIs P9 K9 rr (nI 9) i b j n hP9 hK9 hr (show AF (sa (mf_pay c9 pr σ) 0) P9 K9 = [.int (nI 9), .int (nI rr), .int i, .int b, .int j, .int n] from by rw [← hra]; exact hAF) hms rfl hJ8) cs_X25_151_19 ho_21 (show CLS[19]? = some (RX16, TX16, 7) from rfl) rfl rfl ⟨Nat.le_of_ble_eq_true rfl, Nat.le_of_ble_eq_true rfl⟩ ⟨(by first | exact Nat.le_of_ble_eq_true rfl | omega | (dsimp only; omega) | (simp only [List.length_cons, List.length_nil]; omega)), (by first | exact Nat.le_of_ble_eq_true rfl | omega | (dsimp only; omega) | (simp only [List.length_cons, List.length_nil]; omega))⟩ (Nat.le_of_ble_eq_true rfl) dX25_act_130 (fun q9 E9 M9 h9 => by have h8 : XB G (X 0) g σ z (c9 + 1) M (mf_actR go c9 σ) q9 E9 M9 := by { rw [hdn]; exact XB.pre (σ := σ) (τ := (sa (mf_pay c9 pr σ) 0)) (hpay.2.view VW.sa) rfl rfl rfl rfl (WX.dr h9) }; obtain rfl := h8.2.1; exact VX_out C (fun z hz => by cases hz) h8 (by first | exact Nat.le_of_ble_eq_true rfl | omega | (dsimp only; omega) | (simp only [List.length_cons, List.length_nil]; omega)) (by first | exact Nat.le_of_ble_eq_true rfl | omega | (dsimp only; omega) | (simp only [List.length_cons, List.length_nil]; omega))) ?_
          rintro v9 M_25 hv9
          have hwb : WB G (X 0) g σ z (c9 + 1) M (mf_actR go c9 σ) v9 M_25 := by rw [hdn]; exact WB.pre (σ := σ) (τ := (sa (mf_pay c9 pr σ) 0)) (hpay.2.view VW.sa) rfl rfl rfl rfl (WP.dr hv9)
          obtain rfl := hv9.2.1
          refine V_st (st' := [.long ((mf_findIn (sa (mf_pay c9 pr σ) 0) rr i j n).2.2.2.2)]) rfl ?_
          refine V_lret C dX25_act_133 rfl ?_ (by first | exact Nat.le_of_ble_eq_true rfl | omega | (dsimp only; omega) | (simp only [List.length_cons, List.length_nil]; omega)) (by first | exact Nat.le_of_ble_eq_true rfl | omega | (dsimp only; omega) | (simp only [List.length_cons, List.length_nil]; omega))
          exact hwb
        · exact absurd (Int32.not_le.mp c_81) hge
      · exact absurd c_41 (by decide)
set_option maxHeartbeats 1000000 in
theorem c_X25_act_10_8 (l : Launch) (hl : l.stackTraces = false) (G : hp_G) (X : Nat → Nat) (N0 : Nat) (M : hp_h) (go : Nat → MS → Int32 × MS) (g : RG) (σ : MS) (z : Nat → Int32) (c9 : Nat) (hR : REL G (X 0) g σ z (σ.1 31) (c9 + 1) M) (hI : MI σ) (P9 K9 : Nat) (a i b j n : Int32) (hP9 : P9 < 6) (hK9 : K9 < psz σ P9) (hAF : AF σ P9 K9 = [.int (nI 10), .int a, .int i, .int b, .int j, .int n]) (hAH : AH9 σ c9 (nI 10) a i b j n) (hrw : mf_hasRows σ (nI 10) a b) (hlt : σ.2.1 24 c9 < mf_priceOf σ (nI 10) a b n) : HM l yX25_act (ws_ yX25_act cX25_act 4 (some .long)) 29 11440 1 7 G X N0 [.ref (qC g c9), .ref (qA g P9 K9)] M PFF (XB G (X 0) g σ z (c9 + 1) M (mf_actR go c9 σ)) := by
  refine HM.of hl [(0, .ref (qC g c9)), (1, .ref (qA g P9 K9))] (by decide +kernel) rfl (Nat.le_of_ble_eq_true rfl) ?_
  intro p e s m args below meth c C hname
  have hN := hR.N
  obtain ⟨fH, hHs, hHf⟩ := hR.Hs
  have hCc : M (qC g c9) = some (.inr (4, [.int (σ.2.1 21 c9), .int (σ.2.1 25 c9), .ref (qKl g c9), .ref (qW g c9), .int (σ.2.1 24 c9), .int (σ.2.1 23 c9 - σ.2.1 24 c9), .int (σ.2.1 22 c9), .ref (qN g)])) := hR.Cc (Nat.lt_succ_self c9)
  have hac : M (qA g P9 K9) = some (.inr (3, [.int (nI 10), .int a, .int i, .int b, .int j, .int n])) := (hR.A hP9 hK9).trans (congrArg (fun y => some (Sum.inr (3, y))) hAF)
  have hH9 : M (qH g 10) = some (.inr (20, [.int 5, .ref (qN g), .ref (qN g)])) := hR.H (by decide)
  refine V_aload_n C dX25_act_0 rfl 0 rfl ?_
  refine V_get C f_X25_3_4 hCc (v := .ref (qN g)) rfl dX25_act_1 ?_
  refine V_getN C f_X25_111_0 hN (v := .ref (qHs g)) rfl dX25_act_4 ?_
  refine V_aload_n C dX25_act_7 rfl 1 rfl ?_
  refine V_getN C f_X25_115_3 hac (v := .int (nI 10)) rfl dX25_act_8 ?_
  refine V_aald C (j := 14) rfl rfl hHs (vp_in_nI (by omega) (by omega)) dX25_act_11 ?_
  refine V_st (st' := [.ref (qH g 10)]) (by rw [nI_clamp (by omega), (hHf 10 (by decide))]; rfl) ?_
  refine V_astore_n C dX25_act_12 rfl (Nat.le_of_ble_eq_true rfl) [(0, .ref (qC g c9)), (1, .ref (qA g P9 K9)), (2, .ref (qH g 10))] [1, 2, 0] rfl ?_
  refine V_aload_n C dX25_act_13 rfl 1 rfl ?_
  refine V_getN C f_X25_115_3 hac (v := .int (nI 10)) rfl dX25_act_14 ?_
  refine V_callSN C (c_X1_needsRow l hl G X N0 M (nI 10)) cs_X25_120 rfl rfl ⟨Nat.le_of_ble_eq_true rfl, Nat.le_of_ble_eq_true rfl⟩ ⟨(by first | exact Nat.le_of_ble_eq_true rfl | omega | (dsimp only; omega) | (simp only [List.length_cons, List.length_nil]; omega)), (by first | exact Nat.le_of_ble_eq_true rfl | omega | (dsimp only; omega) | (simp only [List.length_cons, List.length_nil]; omega))⟩ (Nat.le_of_ble_eq_true rfl) dX25_act_17 (fun _ _ _ h => px0 h) ?_
  rintro _ _ ⟨rfl, rfl⟩
  refine V_st (st' := [.int (bI ((nI 10) ≠ 10 ∧ (nI 10) ≠ 11))]) rfl ?_
  refine V_if_eq (tgt := 67) C dX25_act_20 (by decide) (fun c_20 => ?_) (fun c_20 => ?_)
  · refine V_pc (pc1 := 67) rfl ?_
    refine V_aload_n C dX25_act_67 rfl 0 rfl ?_
    refine V_get C f_X25_3_4 hCc (v := .ref (qN g)) rfl dX25_act_68 ?_
    refine V_aload_n C dX25_act_71 rfl 1 rfl ?_
    refine V_callVN C (c_X1_priceOf l hl G X N0 M g σ z (σ.1 31) (c9 + 1) hR hI (qA g P9 K9) 10 (by decide) (nI 10) a i b j n rfl hac hrw) cs_X25_142_0 hN (show CLS[0]? = some (RX1, TX1, 17) from rfl) rfl rfl ⟨Nat.le_of_ble_eq_true rfl, Nat.le_of_ble_eq_true rfl⟩ ⟨(by first | exact Nat.le_of_ble_eq_true rfl | omega | (dsimp only; omega) | (simp only [List.length_cons, List.length_nil]; omega)), (by first | exact Nat.le_of_ble_eq_true rfl | omega | (dsimp only; omega) | (simp only [List.length_cons, List.length_nil]; omega))⟩ (Nat.le_of_ble_eq_true rfl) dX25_act_72 (fun _ _ _ h => px0 h) ?_
    rintro _ _ ⟨rfl, rfl⟩
    refine V_st (st' := [.int (mf_priceOf σ (nI 10) a b n)]) rfl ?_
    refine V_istore_n C dX25_act_75 rfl (Nat.le_of_ble_eq_true rfl) [(0, .ref (qC g c9)), (1, .ref (qA g P9 K9)), (2, .ref (qH g 10)), (3, .int (mf_priceOf σ (nI 10) a b n))] [1, 2, 3, 0] rfl ?_
    refine V_aload_n C dX25_act_76 rfl 0 rfl ?_
    refine V_get C f_X25_39_4 hCc (v := .int (σ.2.1 24 c9)) rfl dX25_act_77 ?_
    refine V_iload_n C dX25_act_80 rfl 3 rfl ?_
    refine V_icmp_ge (tgt := 94) C dX25_act_81 (by decide) (fun c_81 => ?_) (fun c_81 => ?_)
    · exact absurd hlt (Int32.not_lt.mpr c_81)
    · refine V_aload_n C dX25_act_84 rfl 0 rfl ?_
      refine V_get C f_X25_3_4 hCc (v := .ref (qN g)) rfl dX25_act_85 ?_
      refine V_bipush (v := 8) C dX25_act_88 rfl ?_
      refine V_pc (pc1 := 90) rfl ?_
      refine V_callVN C (c_X1_fail l hl G X N0 M (qN g) (qRl g) (qUl g) (qPl g) (qHs g) (qAn g) (σ.1 20) (σ.1 14) (σ.1 11) (σ.1 12) (σ.1 15) (z 0) (z 1) (z 2) (z 3) (z 4) (z 5) (σ.1 31) 8 hN) cs_X25_138_0 hN (show CLS[0]? = some (RX1, TX1, 17) from rfl) rfl rfl ⟨Nat.le_of_ble_eq_true rfl, Nat.le_of_ble_eq_true rfl⟩ ⟨(by first | exact Nat.le_of_ble_eq_true rfl | omega | (dsimp only; omega) | (simp only [List.length_cons, List.length_nil]; omega)), (by first | exact Nat.le_of_ble_eq_true rfl | omega | (dsimp only; omega) | (simp only [List.length_cons, List.length_nil]; omega))⟩ (Nat.le_of_ble_eq_true rfl) dX25_act_90 (fun _ _ _ h => px0 h) ?_
      rintro _ M_3 ⟨q_1, rfl, hq_2, hN_4, hF_5, fr_6, sh_7⟩
      refine V_st (st' := [.ref q_1]) rfl ?_
      refine V_athrow C hF_5 (show CLS[8]? = some (RX26, TX26, 7) from rfl) dX25_act_93 ?_
      exact VX_out C (fun z hz => by cases hz) (FLX.xb (FLX.of hR hq_2 hN_4 hF_5 fr_6 sh_7) (act_8 hAH hrw hlt) (by decide)) (by first | exact Nat.le_of_ble_eq_true rfl | omega | (dsimp only; omega) | (simp only [List.length_cons, List.length_nil]; omega)) (by first | exact Nat.le_of_ble_eq_true rfl | omega | (dsimp only; omega) | (simp only [List.length_cons, List.length_nil]; omega))
  · exact absurd (bI_n.mp c_20) (by decide)
set_option maxHeartbeats 1000000 in
theorem c_X25_act_11_8 (l : Launch) (hl : l.stackTraces = false) (G : hp_G) (X : Nat → Nat) (N0 : Nat) (M : hp_h) (go : Nat → MS → Int32 × MS) (g : RG) (σ : MS) (z : Nat → Int32) (c9 : Nat) (hR : REL G (X 0) g σ z (σ.1 31) (c9 + 1) M) (hI : MI σ) (P9 K9 : Nat) (a i b j n : Int32) (hP9 : P9 < 6) (hK9 : K9 < psz σ P9) (hAF : AF σ P9 K9 = [.int (nI 11), .int a, .int i, .int b, .int j, .int n]) (hAH : AH9 σ c9 (nI 11) a i b j n) (hrw : mf_hasRows σ (nI 11) a b) (hlt : σ.2.1 24 c9 < mf_priceOf σ (nI 11) a b n) : HM l yX25_act (ws_ yX25_act cX25_act 4 (some .long)) 29 11440 1 7 G X N0 [.ref (qC g c9), .ref (qA g P9 K9)] M PFF (XB G (X 0) g σ z (c9 + 1) M (mf_actR go c9 σ)) := by
  refine HM.of hl [(0, .ref (qC g c9)), (1, .ref (qA g P9 K9))] (by decide +kernel) rfl (Nat.le_of_ble_eq_true rfl) ?_
  intro p e s m args below meth c C hname
  have hN := hR.N
  obtain ⟨fH, hHs, hHf⟩ := hR.Hs
  have hCc : M (qC g c9) = some (.inr (4, [.int (σ.2.1 21 c9), .int (σ.2.1 25 c9), .ref (qKl g c9), .ref (qW g c9), .int (σ.2.1 24 c9), .int (σ.2.1 23 c9 - σ.2.1 24 c9), .int (σ.2.1 22 c9), .ref (qN g)])) := hR.Cc (Nat.lt_succ_self c9)
  have hac : M (qA g P9 K9) = some (.inr (3, [.int (nI 11), .int a, .int i, .int b, .int j, .int n])) := (hR.A hP9 hK9).trans (congrArg (fun y => some (Sum.inr (3, y))) hAF)
  have hH9 : M (qH g 11) = some (.inr (21, [.int 1, .ref (qN g), .ref (qN g)])) := hR.H (by decide)
  refine V_aload_n C dX25_act_0 rfl 0 rfl ?_
  refine V_get C f_X25_3_4 hCc (v := .ref (qN g)) rfl dX25_act_1 ?_
  refine V_getN C f_X25_111_0 hN (v := .ref (qHs g)) rfl dX25_act_4 ?_
  refine V_aload_n C dX25_act_7 rfl 1 rfl ?_
  refine V_getN C f_X25_115_3 hac (v := .int (nI 11)) rfl dX25_act_8 ?_
  refine V_aald C (j := 14) rfl rfl hHs (vp_in_nI (by omega) (by omega)) dX25_act_11 ?_
  refine V_st (st' := [.ref (qH g 11)]) (by rw [nI_clamp (by omega), (hHf 11 (by decide))]; rfl) ?_
  refine V_astore_n C dX25_act_12 rfl (Nat.le_of_ble_eq_true rfl) [(0, .ref (qC g c9)), (1, .ref (qA g P9 K9)), (2, .ref (qH g 11))] [1, 2, 0] rfl ?_
  refine V_aload_n C dX25_act_13 rfl 1 rfl ?_
  refine V_getN C f_X25_115_3 hac (v := .int (nI 11)) rfl dX25_act_14 ?_
  refine V_callSN C (c_X1_needsRow l hl G X N0 M (nI 11)) cs_X25_120 rfl rfl ⟨Nat.le_of_ble_eq_true rfl, Nat.le_of_ble_eq_true rfl⟩ ⟨(by first | exact Nat.le_of_ble_eq_true rfl | omega | (dsimp only; omega) | (simp only [List.length_cons, List.length_nil]; omega)), (by first | exact Nat.le_of_ble_eq_true rfl | omega | (dsimp only; omega) | (simp only [List.length_cons, List.length_nil]; omega))⟩ (Nat.le_of_ble_eq_true rfl) dX25_act_17 (fun _ _ _ h => px0 h) ?_
  rintro _ _ ⟨rfl, rfl⟩
  refine V_st (st' := [.int (bI ((nI 11) ≠ 10 ∧ (nI 11) ≠ 11))]) rfl ?_
  refine V_if_eq (tgt := 67) C dX25_act_20 (by decide) (fun c_20 => ?_) (fun c_20 => ?_)
  · refine V_pc (pc1 := 67) rfl ?_
    refine V_aload_n C dX25_act_67 rfl 0 rfl ?_
    refine V_get C f_X25_3_4 hCc (v := .ref (qN g)) rfl dX25_act_68 ?_
    refine V_aload_n C dX25_act_71 rfl 1 rfl ?_
    refine V_callVN C (c_X1_priceOf l hl G X N0 M g σ z (σ.1 31) (c9 + 1) hR hI (qA g P9 K9) 11 (by decide) (nI 11) a i b j n rfl hac hrw) cs_X25_142_0 hN (show CLS[0]? = some (RX1, TX1, 17) from rfl) rfl rfl ⟨Nat.le_of_ble_eq_true rfl, Nat.le_of_ble_eq_true rfl⟩ ⟨(by first | exact Nat.le_of_ble_eq_true rfl | omega | (dsimp only; omega) | (simp only [List.length_cons, List.length_nil]; omega)), (by first | exact Nat.le_of_ble_eq_true rfl | omega | (dsimp only; omega) | (simp only [List.length_cons, List.length_nil]; omega))⟩ (Nat.le_of_ble_eq_true rfl) dX25_act_72 (fun _ _ _ h => px0 h) ?_
    rintro _ _ ⟨rfl, rfl⟩
    refine V_st (st' := [.int (mf_priceOf σ (nI 11) a b n)]) rfl ?_
    refine V_istore_n C dX25_act_75 rfl (Nat.le_of_ble_eq_true rfl) [(0, .ref (qC g c9)), (1, .ref (qA g P9 K9)), (2, .ref (qH g 11)), (3, .int (mf_priceOf σ (nI 11) a b n))] [1, 2, 3, 0] rfl ?_
    refine V_aload_n C dX25_act_76 rfl 0 rfl ?_
    refine V_get C f_X25_39_4 hCc (v := .int (σ.2.1 24 c9)) rfl dX25_act_77 ?_
    refine V_iload_n C dX25_act_80 rfl 3 rfl ?_
    refine V_icmp_ge (tgt := 94) C dX25_act_81 (by decide) (fun c_81 => ?_) (fun c_81 => ?_)
    · exact absurd hlt (Int32.not_lt.mpr c_81)
    · refine V_aload_n C dX25_act_84 rfl 0 rfl ?_
      refine V_get C f_X25_3_4 hCc (v := .ref (qN g)) rfl dX25_act_85 ?_
      refine V_bipush (v := 8) C dX25_act_88 rfl ?_
      refine V_pc (pc1 := 90) rfl ?_
      refine V_callVN C (c_X1_fail l hl G X N0 M (qN g) (qRl g) (qUl g) (qPl g) (qHs g) (qAn g) (σ.1 20) (σ.1 14) (σ.1 11) (σ.1 12) (σ.1 15) (z 0) (z 1) (z 2) (z 3) (z 4) (z 5) (σ.1 31) 8 hN) cs_X25_138_0 hN (show CLS[0]? = some (RX1, TX1, 17) from rfl) rfl rfl ⟨Nat.le_of_ble_eq_true rfl, Nat.le_of_ble_eq_true rfl⟩ ⟨(by first | exact Nat.le_of_ble_eq_true rfl | omega | (dsimp only; omega) | (simp only [List.length_cons, List.length_nil]; omega)), (by first | exact Nat.le_of_ble_eq_true rfl | omega | (dsimp only; omega) | (simp only [List.length_cons, List.length_nil]; omega))⟩ (Nat.le_of_ble_eq_true rfl) dX25_act_90 (fun _ _ _ h => px0 h) ?_
      rintro _ M_3 ⟨q_1, rfl, hq_2, hN_4, hF_5, fr_6, sh_7⟩
      refine V_st (st' := [.ref q_1]) rfl ?_
      refine V_athrow C hF_5 (show CLS[8]? = some (RX26, TX26, 7) from rfl) dX25_act_93 ?_
      exact VX_out C (fun z hz => by cases hz) (FLX.xb (FLX.of hR hq_2 hN_4 hF_5 fr_6 sh_7) (act_8 hAH hrw hlt) (by decide)) (by first | exact Nat.le_of_ble_eq_true rfl | omega | (dsimp only; omega) | (simp only [List.length_cons, List.length_nil]; omega)) (by first | exact Nat.le_of_ble_eq_true rfl | omega | (dsimp only; omega) | (simp only [List.length_cons, List.length_nil]; omega))
  · exact absurd (bI_n.mp c_20) (by decide)
set_option maxHeartbeats 1000000 in
theorem c_X25_act_11_w (l : Launch) (hl : l.stackTraces = false) (G : hp_G) (X : Nat → Nat) (N0 : Nat) (M : hp_h) (go : Nat → MS → Int32 × MS) (g : RG) (σ : MS) (z : Nat → Int32) (c9 : Nat) (hR : REL G (X 0) g σ z (σ.1 31) (c9 + 1) M) (hI : MI σ) (P9 K9 : Nat) (a i b j n : Int32) (hP9 : P9 < 6) (hK9 : K9 < psz σ P9) (hAF : AF σ P9 K9 = [.int (nI 11), .int a, .int i, .int b, .int j, .int n]) (hAH : AH9 σ c9 (nI 11) a i b j n) (hrw : mf_hasRows σ (nI 11) a b) (hge : ¬ σ.2.1 24 c9 < mf_priceOf σ (nI 11) a b n) (hm : MW σ) (hJ8 : nJ σ < 8000) : HM l yX25_act (ws_ yX25_act cX25_act 4 (some .long)) 29 11440 9 320 G X N0 [.ref (qC g c9), .ref (qA g P9 K9)] M (WB G (X 0) g σ z (c9 + 1) M (mf_actR go c9 σ)) (XB G (X 0) g σ z (c9 + 1) M (mf_actR go c9 σ)) := by
  refine HM.of hl [(0, .ref (qC g c9)), (1, .ref (qA g P9 K9))] (by decide +kernel) rfl (Nat.le_of_ble_eq_true rfl) ?_
  intro p e s m args below meth c C hname
  have hN := hR.N
  obtain ⟨fH, hHs, hHf⟩ := hR.Hs
  have hCc : M (qC g c9) = some (.inr (4, [.int (σ.2.1 21 c9), .int (σ.2.1 25 c9), .ref (qKl g c9), .ref (qW g c9), .int (σ.2.1 24 c9), .int (σ.2.1 23 c9 - σ.2.1 24 c9), .int (σ.2.1 22 c9), .ref (qN g)])) := hR.Cc (Nat.lt_succ_self c9)
  have hac : M (qA g P9 K9) = some (.inr (3, [.int (nI 11), .int a, .int i, .int b, .int j, .int n])) := (hR.A hP9 hK9).trans (congrArg (fun y => some (Sum.inr (3, y))) hAF)
  have hH9 : M (qH g 11) = some (.inr (21, [.int 1, .ref (qN g), .ref (qN g)])) := hR.H (by decide)
  refine V_aload_n C dX25_act_0 rfl 0 rfl ?_
  refine V_get C f_X25_3_4 hCc (v := .ref (qN g)) rfl dX25_act_1 ?_
  refine V_getN C f_X25_111_0 hN (v := .ref (qHs g)) rfl dX25_act_4 ?_
  refine V_aload_n C dX25_act_7 rfl 1 rfl ?_
  refine V_getN C f_X25_115_3 hac (v := .int (nI 11)) rfl dX25_act_8 ?_
  refine V_aald C (j := 14) rfl rfl hHs (vp_in_nI (by omega) (by omega)) dX25_act_11 ?_
  refine V_st (st' := [.ref (qH g 11)]) (by rw [nI_clamp (by omega), (hHf 11 (by decide))]; rfl) ?_
  refine V_astore_n C dX25_act_12 rfl (Nat.le_of_ble_eq_true rfl) [(0, .ref (qC g c9)), (1, .ref (qA g P9 K9)), (2, .ref (qH g 11))] [1, 2, 0] rfl ?_
  refine V_aload_n C dX25_act_13 rfl 1 rfl ?_
  refine V_getN C f_X25_115_3 hac (v := .int (nI 11)) rfl dX25_act_14 ?_
  refine V_callSN C (c_X1_needsRow l hl G X N0 M (nI 11)) cs_X25_120 rfl rfl ⟨Nat.le_of_ble_eq_true rfl, Nat.le_of_ble_eq_true rfl⟩ ⟨(by first | exact Nat.le_of_ble_eq_true rfl | omega | (dsimp only; omega) | (simp only [List.length_cons, List.length_nil]; omega)), (by first | exact Nat.le_of_ble_eq_true rfl | omega | (dsimp only; omega) | (simp only [List.length_cons, List.length_nil]; omega))⟩ (Nat.le_of_ble_eq_true rfl) dX25_act_17 (fun _ _ _ h => px0 h) ?_
  rintro _ _ ⟨rfl, rfl⟩
  refine V_st (st' := [.int (bI ((nI 11) ≠ 10 ∧ (nI 11) ≠ 11))]) rfl ?_
  refine V_if_eq (tgt := 67) C dX25_act_20 (by decide) (fun c_20 => ?_) (fun c_20 => ?_)
  · refine V_pc (pc1 := 67) rfl ?_
    refine V_aload_n C dX25_act_67 rfl 0 rfl ?_
    refine V_get C f_X25_3_4 hCc (v := .ref (qN g)) rfl dX25_act_68 ?_
    refine V_aload_n C dX25_act_71 rfl 1 rfl ?_
    refine V_callVN C (c_X1_priceOf l hl G X N0 M g σ z (σ.1 31) (c9 + 1) hR hI (qA g P9 K9) 11 (by decide) (nI 11) a i b j n rfl hac hrw) cs_X25_142_0 hN (show CLS[0]? = some (RX1, TX1, 17) from rfl) rfl rfl ⟨Nat.le_of_ble_eq_true rfl, Nat.le_of_ble_eq_true rfl⟩ ⟨(by first | exact Nat.le_of_ble_eq_true rfl | omega | (dsimp only; omega) | (simp only [List.length_cons, List.length_nil]; omega)), (by first | exact Nat.le_of_ble_eq_true rfl | omega | (dsimp only; omega) | (simp only [List.length_cons, List.length_nil]; omega))⟩ (Nat.le_of_ble_eq_true rfl) dX25_act_72 (fun _ _ _ h => px0 h) ?_
    rintro _ _ ⟨rfl, rfl⟩
    refine V_st (st' := [.int (mf_priceOf σ (nI 11) a b n)]) rfl ?_
    refine V_istore_n C dX25_act_75 rfl (Nat.le_of_ble_eq_true rfl) [(0, .ref (qC g c9)), (1, .ref (qA g P9 K9)), (2, .ref (qH g 11)), (3, .int (mf_priceOf σ (nI 11) a b n))] [1, 2, 3, 0] rfl ?_
    refine V_aload_n C dX25_act_76 rfl 0 rfl ?_
    refine V_get C f_X25_39_4 hCc (v := .int (σ.2.1 24 c9)) rfl dX25_act_77 ?_
    refine V_iload_n C dX25_act_80 rfl 3 rfl ?_
    refine V_icmp_ge (tgt := 94) C dX25_act_81 (by decide) (fun c_81 => ?_) (fun c_81 => ?_)
    · obtain ⟨pr, hpr⟩ : ∃ y, y = mf_priceOf σ (nI 11) a b n := ⟨_, rfl⟩
      refine V_loc (L' := [(0, .ref (qC g c9)), (1, .ref (qA g P9 K9)), (2, .ref (qH g 11)), (3, .int pr)]) [0, 1, 2, 3] (by rw [hpr]; rfl) ?_
      have hfrP : hp_fr (fun b => b = qC g c9 ∨ b = qN g) M M := hp_fr.rf
      have hshP : hp_sh M M := hp_sh.rf
      have hneP : qC g c9 ≠ qN g := hR.ne (t := 15) (i := c9) (j := 0) (t' := 0) (i' := 0) (j' := 0) ⟨Nat.lt_succ_self c9, rfl⟩ ⟨by decide, rfl, rfl⟩ (by simp)
      refine V_aload_n C dX25_act_94 rfl 0 rfl ?_
      refine V_dup C dX25_act_95 rfl ?_
      refine V_get C f_X25_39_4 hCc (v := .int (σ.2.1 24 c9)) rfl dX25_act_96 ?_
      refine V_pc (pc1 := 99) rfl ?_
      refine V_iload_n C dX25_act_99 rfl 3 rfl ?_
      refine V_isub C dX25_act_100 ?_
      refine V_put C f_X25_39_4 hCc rfl rfl (Nat.le_of_ble_eq_true rfl) dX25_act_101 ?_
      obtain ⟨M_1, eM_2⟩ : ∃ z, z = hp_up M (qC g c9) (.inr (4, [.int (σ.2.1 21 c9), .int (σ.2.1 25 c9), .ref (qKl g c9), .ref (qW g c9), .int ((σ.2.1 24 c9) - pr), .int (σ.2.1 23 c9 - σ.2.1 24 c9), .int (σ.2.1 22 c9), .ref (qN g)])) := ⟨_, rfl⟩
      refine V_heap (M' := M_1) eM_2.symm ?_
      have ho_3 : M_1 (qN g) = some (.inr (0, [.ref (qRl g), .ref (qUl g), .ref (qPl g), .ref (qHs g), .int (σ.1 20), .int (σ.1 14), .int (σ.1 11), .int (σ.1 12), .int (σ.1 15), .int (z 0), .int (z 1), .int (z 2), .int (z 3), .int (z 4), .int (z 5), .int (σ.1 31), .ref (qAn g)])) := by rw [eM_2, hp_up_n (Ne.symm hneP)]; exact hN
      have ho_4 : M_1 (qA g P9 K9) = some (.inr (3, [.int (nI 11), .int a, .int i, .int b, .int j, .int n])) := by rw [eM_2, hp_up_n (hp_ne hac hCc (by simp))]; exact hac
      have ho_5 : M_1 (qH g 11) = some (.inr (21, [.int 1, .ref (qN g), .ref (qN g)])) := by rw [eM_2, hp_up_n (hp_ne hH9 hCc (by simp))]; exact hH9
      have ha_6 : M_1 (qHs g) = some (.inl (G.2 14, 13, .inr (.inr (.inr (.inr fH))))) := by rw [eM_2, hp_up_n (hp_ne hHs hCc (by simp))]; exact hHs
      have eM_2_s : M_1 (qC g c9) = some (.inr (4, [.int (σ.2.1 21 c9), .int (σ.2.1 25 c9), .ref (qKl g c9), .ref (qW g c9), .int ((σ.2.1 24 c9) - pr), .int (σ.2.1 23 c9 - σ.2.1 24 c9), .int (σ.2.1 22 c9), .ref (qN g)])) := by rw [eM_2]; exact hp_up_s
      have fr_7 := hp_fr.set hfrP (Or.inl (Or.inl rfl)) eM_2
      have sh_8 := hp_sh.set hshP hCc eM_2 rfl
      refine V_aload_n C dX25_act_104 rfl 0 rfl ?_
      refine V_dup C dX25_act_105 rfl ?_
      refine V_get C f_X25_146_4 eM_2_s (v := .int (σ.2.1 23 c9 - σ.2.1 24 c9)) rfl dX25_act_106 ?_
      refine V_iload_n C dX25_act_109 rfl 3 rfl ?_
      refine V_iadd C dX25_act_110 ?_
      refine V_put C f_X25_146_4 eM_2_s rfl rfl (Nat.le_of_ble_eq_true rfl) dX25_act_111 ?_
      obtain ⟨M_9, eM_10⟩ : ∃ z, z = hp_up M_1 (qC g c9) (.inr (4, [.int (σ.2.1 21 c9), .int (σ.2.1 25 c9), .ref (qKl g c9), .ref (qW g c9), .int ((σ.2.1 24 c9) - pr), .int ((σ.2.1 23 c9 - σ.2.1 24 c9) + pr), .int (σ.2.1 22 c9), .ref (qN g)])) := ⟨_, rfl⟩
      refine V_heap (M' := M_9) eM_10.symm ?_
      have ho_11 : M_9 (qN g) = some (.inr (0, [.ref (qRl g), .ref (qUl g), .ref (qPl g), .ref (qHs g), .int (σ.1 20), .int (σ.1 14), .int (σ.1 11), .int (σ.1 12), .int (σ.1 15), .int (z 0), .int (z 1), .int (z 2), .int (z 3), .int (z 4), .int (z 5), .int (σ.1 31), .ref (qAn g)])) := by rw [eM_10, hp_up_n (Ne.symm hneP)]; exact ho_3
      have ho_12 : M_9 (qA g P9 K9) = some (.inr (3, [.int (nI 11), .int a, .int i, .int b, .int j, .int n])) := by rw [eM_10, hp_up_n (hp_ne ho_4 eM_2_s (by simp))]; exact ho_4
      have ho_13 : M_9 (qH g 11) = some (.inr (21, [.int 1, .ref (qN g), .ref (qN g)])) := by rw [eM_10, hp_up_n (hp_ne ho_5 eM_2_s (by simp))]; exact ho_5
      have ha_14 : M_9 (qHs g) = some (.inl (G.2 14, 13, .inr (.inr (.inr (.inr fH))))) := by rw [eM_10, hp_up_n (hp_ne ha_6 eM_2_s (by simp))]; exact ha_6
      have eM_10_s : M_9 (qC g c9) = some (.inr (4, [.int (σ.2.1 21 c9), .int (σ.2.1 25 c9), .ref (qKl g c9), .ref (qW g c9), .int ((σ.2.1 24 c9) - pr), .int ((σ.2.1 23 c9 - σ.2.1 24 c9) + pr), .int (σ.2.1 22 c9), .ref (qN g)])) := by rw [eM_10]; exact hp_up_s
      have fr_15 := hp_fr.set fr_7 (Or.inl (Or.inl rfl)) eM_10
      have sh_16 := hp_sh.set sh_8 eM_2_s eM_10 rfl
      refine V_aload_n C dX25_act_114 rfl 0 rfl ?_
      refine V_get C f_X25_3_4 eM_10_s (v := .ref (qN g)) rfl dX25_act_115 ?_
      refine V_dup C dX25_act_118 rfl ?_
      refine V_pc (pc1 := 119) rfl ?_
      refine V_getN C f_X25_149_0 ho_11 (v := .int (σ.1 11)) rfl dX25_act_119 ?_
      refine V_iconst (v := 1) C dX25_act_122 rfl ?_
      refine V_iadd C dX25_act_123 ?_
      refine V_putN C f_X25_149_0 ho_11 rfl rfl (Nat.le_of_ble_eq_true rfl) dX25_act_124 ?_
      obtain ⟨M_17, eM_18⟩ : ∃ z9, z9 = hp_up M_9 (qN g) (.inr (0, [.ref (qRl g), .ref (qUl g), .ref (qPl g), .ref (qHs g), .int (σ.1 20), .int (σ.1 14), .int ((σ.1 11) + 1), .int (σ.1 12), .int (σ.1 15), .int (z 0), .int (z 1), .int (z 2), .int (z 3), .int (z 4), .int (z 5), .int (σ.1 31), .ref (qAn g)])) := ⟨_, rfl⟩
      refine V_heap (M' := M_17) eM_18.symm ?_
      have ho_19 : M_17 (qC g c9) = some (.inr (4, [.int (σ.2.1 21 c9), .int (σ.2.1 25 c9), .ref (qKl g c9), .ref (qW g c9), .int ((σ.2.1 24 c9) - pr), .int ((σ.2.1 23 c9 - σ.2.1 24 c9) + pr), .int (σ.2.1 22 c9), .ref (qN g)])) := by rw [eM_18, hp_up_n hneP]; exact eM_10_s
      have ho_20 : M_17 (qA g P9 K9) = some (.inr (3, [.int (nI 11), .int a, .int i, .int b, .int j, .int n])) := by rw [eM_18, hp_up_n (hp_ne ho_12 ho_11 (by simp))]; exact ho_12
      have ho_21 : M_17 (qH g 11) = some (.inr (21, [.int 1, .ref (qN g), .ref (qN g)])) := by rw [eM_18, hp_up_n (hp_ne ho_13 ho_11 (by simp))]; exact ho_13
      have ha_22 : M_17 (qHs g) = some (.inl (G.2 14, 13, .inr (.inr (.inr (.inr fH))))) := by rw [eM_18, hp_up_n (hp_ne ha_14 ho_11 (by simp))]; exact ha_14
      have eM_18_s : M_17 (qN g) = some (.inr (0, [.ref (qRl g), .ref (qUl g), .ref (qPl g), .ref (qHs g), .int (σ.1 20), .int (σ.1 14), .int ((σ.1 11) + 1), .int (σ.1 12), .int (σ.1 15), .int (z 0), .int (z 1), .int (z 2), .int (z 3), .int (z 4), .int (z 5), .int (σ.1 31), .ref (qAn g)])) := by rw [eM_18]; exact hp_up_s
      have fr_23 := hp_fr.set fr_15 (Or.inl (Or.inr rfl)) eM_18
      have sh_24 := hp_sh.set sh_16 ho_11 eM_18 rfl
      have hpay := hR.pay (pr := pr) (Nat.lt_succ_self c9) ho_19 eM_18_s fr_23 sh_24
      have hact : mf_actR go c9 σ = mf_workR go c9 (mf_pay c9 pr σ) 11 a i b j n := by rw [hpr]; exact act_w hAH hrw hge
      refine V_aload_n C dX25_act_127 rfl 2 rfl ?_
      refine V_aload_n C dX25_act_128 rfl 1 rfl ?_
      refine V_aload_n C dX25_act_129 rfl 0 rfl ?_
      have hRs : REL G (X 0) g (sa (mf_pay c9 pr σ) 0) z ((sa (mf_pay c9 pr σ) 0).1 31) (c9 + 1) M_17 := hpay.1.view VW.sa
      have hIs : MI (sa (mf_pay c9 pr σ) 0) := (MQ9.same (σ := σ) ⟨hI, hm⟩ rfl rfl rfl (fun k hk => by rcases hk with rfl | rfl | rfl | rfl | rfl | rfl <;> rfl) rfl).1
      have hms : MW (sa (mf_pay c9 pr σ) 0) := (MQ9.same (σ := σ) ⟨hI, hm⟩ rfl rfl rfl (fun k hk => by rcases hk with rfl | rfl | rfl | rfl | rfl | rfl <;> rfl) rfl).2
      have hdn : mf_actR go c9 σ = mf_dr (((6 : Int32), (sa (mf_pay c9 pr σ) 0))) := by
        rw [hact]; rfl
      refine V_callA C (c_X18_work l hl G X N0 M_17 g (sa (mf_pay c9 pr σ) 0) z (c9 + 1) c9 rfl hRs hIs (qA g P9 K9)) cs_X25_151_21 ho_21 (show CLS[21]? = some (RX18, TX18, 3) from rfl) rfl rfl ⟨Nat.le_of_ble_eq_true rfl, Nat.le_of_ble_eq_true rfl⟩ ⟨(by first | exact Nat.le_of_ble_eq_true rfl | omega | (dsimp only; omega) | (simp only [List.length_cons, List.length_nil]; omega)), (by first | exact Nat.le_of_ble_eq_true rfl | omega | (dsimp only; omega) | (simp only [List.length_cons, List.length_nil]; omega))⟩ (Nat.le_of_ble_eq_true rfl) dX25_act_130 (fun q9 E9 M9 h9 => by have h8 : XB G (X 0) g σ z (c9 + 1) M (mf_actR go c9 σ) q9 E9 M9 := by { rw [hdn]; exact XB.pre (σ := σ) (τ := (sa (mf_pay c9 pr σ) 0)) (hpay.2.view VW.sa) rfl rfl rfl rfl (WX.dr h9) }; obtain rfl := h8.2.1; exact VX_out C (fun z hz => by cases hz) h8 (by first | exact Nat.le_of_ble_eq_true rfl | omega | (dsimp only; omega) | (simp only [List.length_cons, List.length_nil]; omega)) (by first | exact Nat.le_of_ble_eq_true rfl | omega | (dsimp only; omega) | (simp only [List.length_cons, List.length_nil]; omega))) ?_
      exact fun _ _ y => y.elim
    · exact absurd (Int32.not_le.mp c_81) hge
  · exact absurd (bI_n.mp c_20) (by decide)
set_option maxHeartbeats 1000000 in
theorem c_X25_act_12_1 (l : Launch) (hl : l.stackTraces = false) (G : hp_G) (X : Nat → Nat) (N0 : Nat) (M : hp_h) (go : Nat → MS → Int32 × MS) (g : RG) (σ : MS) (z : Nat → Int32) (c9 : Nat) (hR : REL G (X 0) g σ z (σ.1 31) (c9 + 1) M) (hI : MI σ) (P9 K9 : Nat) (a i b j n : Int32) (hP9 : P9 < 6) (hK9 : K9 < psz σ P9) (hAF : AF σ P9 K9 = [.int (nI 12), .int a, .int i, .int b, .int j, .int n]) (hAH : AH9 σ c9 (nI 12) a i b j n) (hn : ¬ mf_hasRows σ (nI 12) a b) : HM l yX25_act (ws_ yX25_act cX25_act 4 (some .long)) 29 11440 1 7 G X N0 [.ref (qC g c9), .ref (qA g P9 K9)] M PFF (XB G (X 0) g σ z (c9 + 1) M (mf_actR go c9 σ)) := by
  refine HM.of hl [(0, .ref (qC g c9)), (1, .ref (qA g P9 K9))] (by decide +kernel) rfl (Nat.le_of_ble_eq_true rfl) ?_
  intro p e s m args below meth c C hname
  have hN := hR.N
  obtain ⟨fH, hHs, hHf⟩ := hR.Hs
  have hCc : M (qC g c9) = some (.inr (4, [.int (σ.2.1 21 c9), .int (σ.2.1 25 c9), .ref (qKl g c9), .ref (qW g c9), .int (σ.2.1 24 c9), .int (σ.2.1 23 c9 - σ.2.1 24 c9), .int (σ.2.1 22 c9), .ref (qN g)])) := hR.Cc (Nat.lt_succ_self c9)
  have hac : M (qA g P9 K9) = some (.inr (3, [.int (nI 12), .int a, .int i, .int b, .int j, .int n])) := (hR.A hP9 hK9).trans (congrArg (fun y => some (Sum.inr (3, y))) hAF)
  have hH9 : M (qH g 12) = some (.inr (22, [.int 1, .ref (qN g), .int 8, .int 9, .ref (qN g), .ref (qN g)])) := hR.H (by decide)
  refine V_aload_n C dX25_act_0 rfl 0 rfl ?_
  refine V_get C f_X25_3_4 hCc (v := .ref (qN g)) rfl dX25_act_1 ?_
  refine V_getN C f_X25_111_0 hN (v := .ref (qHs g)) rfl dX25_act_4 ?_
  refine V_aload_n C dX25_act_7 rfl 1 rfl ?_
  refine V_getN C f_X25_115_3 hac (v := .int (nI 12)) rfl dX25_act_8 ?_
  refine V_aald C (j := 14) rfl rfl hHs (vp_in_nI (by omega) (by omega)) dX25_act_11 ?_
  refine V_st (st' := [.ref (qH g 12)]) (by rw [nI_clamp (by omega), (hHf 12 (by decide))]; rfl) ?_
  refine V_astore_n C dX25_act_12 rfl (Nat.le_of_ble_eq_true rfl) [(0, .ref (qC g c9)), (1, .ref (qA g P9 K9)), (2, .ref (qH g 12))] [1, 2, 0] rfl ?_
  refine V_aload_n C dX25_act_13 rfl 1 rfl ?_
  refine V_getN C f_X25_115_3 hac (v := .int (nI 12)) rfl dX25_act_14 ?_
  refine V_callSN C (c_X1_needsRow l hl G X N0 M (nI 12)) cs_X25_120 rfl rfl ⟨Nat.le_of_ble_eq_true rfl, Nat.le_of_ble_eq_true rfl⟩ ⟨(by first | exact Nat.le_of_ble_eq_true rfl | omega | (dsimp only; omega) | (simp only [List.length_cons, List.length_nil]; omega)), (by first | exact Nat.le_of_ble_eq_true rfl | omega | (dsimp only; omega) | (simp only [List.length_cons, List.length_nil]; omega))⟩ (Nat.le_of_ble_eq_true rfl) dX25_act_17 (fun _ _ _ h => px0 h) ?_
  rintro _ _ ⟨rfl, rfl⟩
  refine V_st (st' := [.int (bI ((nI 12) ≠ 10 ∧ (nI 12) ≠ 11))]) rfl ?_
  refine V_if_eq (tgt := 67) C dX25_act_20 (by decide) (fun c_20 => ?_) (fun c_20 => ?_)
  · exact absurd (bI_0.mp c_20) (not_not_intro ⟨by decide, by decide⟩)
  · refine V_pc (pc1 := 23) rfl ?_
    refine V_aload_n C dX25_act_23 rfl 0 rfl ?_
    refine V_get C f_X25_3_4 hCc (v := .ref (qN g)) rfl dX25_act_24 ?_
    refine V_aload_n C dX25_act_27 rfl 1 rfl ?_
    refine V_getN C f_X25_123_3 hac (v := .int a) rfl dX25_act_28 ?_
    refine V_callVN C (c_X1_isRow l hl G X N0 M g σ z (σ.1 31) (c9 + 1) hR hI a) cs_X25_126_0 hN (show CLS[0]? = some (RX1, TX1, 17) from rfl) rfl rfl ⟨Nat.le_of_ble_eq_true rfl, Nat.le_of_ble_eq_true rfl⟩ ⟨(by first | exact Nat.le_of_ble_eq_true rfl | omega | (dsimp only; omega) | (simp only [List.length_cons, List.length_nil]; omega)), (by first | exact Nat.le_of_ble_eq_true rfl | omega | (dsimp only; omega) | (simp only [List.length_cons, List.length_nil]; omega))⟩ (Nat.le_of_ble_eq_true rfl) dX25_act_31 (fun _ _ _ h => px0 h) ?_
    rintro _ _ ⟨rfl, rfl⟩
    refine V_st (st' := [.int (bI (¬ a < 0 ∧ a < σ.1 1))]) rfl ?_
    refine V_if_eq (tgt := 58) C dX25_act_34 (by decide) (fun c_34 => ?_) (fun c_34 => ?_)
    · refine V_aload_n C dX25_act_58 rfl 0 rfl ?_
      refine V_get C f_X25_3_4 hCc (v := .ref (qN g)) rfl dX25_act_59 ?_
      refine V_iconst (v := 1) C dX25_act_62 rfl ?_
      refine V_callVN C (c_X1_fail l hl G X N0 M (qN g) (qRl g) (qUl g) (qPl g) (qHs g) (qAn g) (σ.1 20) (σ.1 14) (σ.1 11) (σ.1 12) (σ.1 15) (z 0) (z 1) (z 2) (z 3) (z 4) (z 5) (σ.1 31) 1 hN) cs_X25_138_0 hN (show CLS[0]? = some (RX1, TX1, 17) from rfl) rfl rfl ⟨Nat.le_of_ble_eq_true rfl, Nat.le_of_ble_eq_true rfl⟩ ⟨(by first | exact Nat.le_of_ble_eq_true rfl | omega | (dsimp only; omega) | (simp only [List.length_cons, List.length_nil]; omega)), (by first | exact Nat.le_of_ble_eq_true rfl | omega | (dsimp only; omega) | (simp only [List.length_cons, List.length_nil]; omega))⟩ (Nat.le_of_ble_eq_true rfl) dX25_act_63 (fun _ _ _ h => px0 h) ?_
      rintro _ M_3 ⟨q_1, rfl, hq_2, hN_4, hF_5, fr_6, sh_7⟩
      refine V_st (st' := [.ref q_1]) rfl ?_
      refine V_athrow C hF_5 (show CLS[8]? = some (RX26, TX26, 7) from rfl) dX25_act_66 ?_
      exact VX_out C (fun z hz => by cases hz) (FLX.xb (FLX.of hR hq_2 hN_4 hF_5 fr_6 sh_7) (act_1 hAH hn) (by decide)) (by first | exact Nat.le_of_ble_eq_true rfl | omega | (dsimp only; omega) | (simp only [List.length_cons, List.length_nil]; omega)) (by first | exact Nat.le_of_ble_eq_true rfl | omega | (dsimp only; omega) | (simp only [List.length_cons, List.length_nil]; omega))
    · refine V_aload_n C dX25_act_37 rfl 2 rfl ?_
      refine V_callU C (c_X3_hasOther_22 l hl G X N0 M (qH g 12) (qN g) hH9) cs_X25_129_22 hH9 (show CLS[22]? = some (RX19, TX19, 6) from rfl) rfl rfl ⟨Nat.le_of_ble_eq_true rfl, Nat.le_of_ble_eq_true rfl⟩ ⟨(by first | exact Nat.le_of_ble_eq_true rfl | omega | (dsimp only; omega) | (simp only [List.length_cons, List.length_nil]; omega)), (by first | exact Nat.le_of_ble_eq_true rfl | omega | (dsimp only; omega) | (simp only [List.length_cons, List.length_nil]; omega))⟩ (Nat.le_of_ble_eq_true rfl) dX25_act_38 (fun _ _ _ h => px0 h) ?_
      rintro _ _ ⟨rfl, rfl⟩
      refine V_st (st' := [.int 0]) rfl ?_
      refine V_if_eq (tgt := 67) C dX25_act_41 (by decide) (fun c_41 => ?_) (fun c_41 => ?_)
      · exact absurd (show mf_hasRows σ (nI 12) a b from ⟨Or.inr (bI_n.mp c_34), Or.inl (by decide)⟩) hn
      · exact absurd c_41 (by decide)
set_option maxHeartbeats 1000000 in
theorem c_X25_act_12_8 (l : Launch) (hl : l.stackTraces = false) (G : hp_G) (X : Nat → Nat) (N0 : Nat) (M : hp_h) (go : Nat → MS → Int32 × MS) (g : RG) (σ : MS) (z : Nat → Int32) (c9 : Nat) (hR : REL G (X 0) g σ z (σ.1 31) (c9 + 1) M) (hI : MI σ) (P9 K9 : Nat) (a i b j n : Int32) (hP9 : P9 < 6) (hK9 : K9 < psz σ P9) (hAF : AF σ P9 K9 = [.int (nI 12), .int a, .int i, .int b, .int j, .int n]) (hAH : AH9 σ c9 (nI 12) a i b j n) (hrw : mf_hasRows σ (nI 12) a b) (hlt : σ.2.1 24 c9 < mf_priceOf σ (nI 12) a b n) : HM l yX25_act (ws_ yX25_act cX25_act 4 (some .long)) 29 11440 1 7 G X N0 [.ref (qC g c9), .ref (qA g P9 K9)] M PFF (XB G (X 0) g σ z (c9 + 1) M (mf_actR go c9 σ)) := by
  refine HM.of hl [(0, .ref (qC g c9)), (1, .ref (qA g P9 K9))] (by decide +kernel) rfl (Nat.le_of_ble_eq_true rfl) ?_
  intro p e s m args below meth c C hname
  have hN := hR.N
  obtain ⟨fH, hHs, hHf⟩ := hR.Hs
  have hCc : M (qC g c9) = some (.inr (4, [.int (σ.2.1 21 c9), .int (σ.2.1 25 c9), .ref (qKl g c9), .ref (qW g c9), .int (σ.2.1 24 c9), .int (σ.2.1 23 c9 - σ.2.1 24 c9), .int (σ.2.1 22 c9), .ref (qN g)])) := hR.Cc (Nat.lt_succ_self c9)
  have hac : M (qA g P9 K9) = some (.inr (3, [.int (nI 12), .int a, .int i, .int b, .int j, .int n])) := (hR.A hP9 hK9).trans (congrArg (fun y => some (Sum.inr (3, y))) hAF)
  have hH9 : M (qH g 12) = some (.inr (22, [.int 1, .ref (qN g), .int 8, .int 9, .ref (qN g), .ref (qN g)])) := hR.H (by decide)
  refine V_aload_n C dX25_act_0 rfl 0 rfl ?_
  refine V_get C f_X25_3_4 hCc (v := .ref (qN g)) rfl dX25_act_1 ?_
  refine V_getN C f_X25_111_0 hN (v := .ref (qHs g)) rfl dX25_act_4 ?_
  refine V_aload_n C dX25_act_7 rfl 1 rfl ?_
  refine V_getN C f_X25_115_3 hac (v := .int (nI 12)) rfl dX25_act_8 ?_
  refine V_aald C (j := 14) rfl rfl hHs (vp_in_nI (by omega) (by omega)) dX25_act_11 ?_
  refine V_st (st' := [.ref (qH g 12)]) (by rw [nI_clamp (by omega), (hHf 12 (by decide))]; rfl) ?_
  refine V_astore_n C dX25_act_12 rfl (Nat.le_of_ble_eq_true rfl) [(0, .ref (qC g c9)), (1, .ref (qA g P9 K9)), (2, .ref (qH g 12))] [1, 2, 0] rfl ?_
  refine V_aload_n C dX25_act_13 rfl 1 rfl ?_
  refine V_getN C f_X25_115_3 hac (v := .int (nI 12)) rfl dX25_act_14 ?_
  refine V_callSN C (c_X1_needsRow l hl G X N0 M (nI 12)) cs_X25_120 rfl rfl ⟨Nat.le_of_ble_eq_true rfl, Nat.le_of_ble_eq_true rfl⟩ ⟨(by first | exact Nat.le_of_ble_eq_true rfl | omega | (dsimp only; omega) | (simp only [List.length_cons, List.length_nil]; omega)), (by first | exact Nat.le_of_ble_eq_true rfl | omega | (dsimp only; omega) | (simp only [List.length_cons, List.length_nil]; omega))⟩ (Nat.le_of_ble_eq_true rfl) dX25_act_17 (fun _ _ _ h => px0 h) ?_
  rintro _ _ ⟨rfl, rfl⟩
  refine V_st (st' := [.int (bI ((nI 12) ≠ 10 ∧ (nI 12) ≠ 11))]) rfl ?_
  refine V_if_eq (tgt := 67) C dX25_act_20 (by decide) (fun c_20 => ?_) (fun c_20 => ?_)
  · exact absurd (bI_0.mp c_20) (not_not_intro ⟨by decide, by decide⟩)
  · refine V_pc (pc1 := 23) rfl ?_
    refine V_aload_n C dX25_act_23 rfl 0 rfl ?_
    refine V_get C f_X25_3_4 hCc (v := .ref (qN g)) rfl dX25_act_24 ?_
    refine V_aload_n C dX25_act_27 rfl 1 rfl ?_
    refine V_getN C f_X25_123_3 hac (v := .int a) rfl dX25_act_28 ?_
    refine V_callVN C (c_X1_isRow l hl G X N0 M g σ z (σ.1 31) (c9 + 1) hR hI a) cs_X25_126_0 hN (show CLS[0]? = some (RX1, TX1, 17) from rfl) rfl rfl ⟨Nat.le_of_ble_eq_true rfl, Nat.le_of_ble_eq_true rfl⟩ ⟨(by first | exact Nat.le_of_ble_eq_true rfl | omega | (dsimp only; omega) | (simp only [List.length_cons, List.length_nil]; omega)), (by first | exact Nat.le_of_ble_eq_true rfl | omega | (dsimp only; omega) | (simp only [List.length_cons, List.length_nil]; omega))⟩ (Nat.le_of_ble_eq_true rfl) dX25_act_31 (fun _ _ _ h => px0 h) ?_
    rintro _ _ ⟨rfl, rfl⟩
    refine V_st (st' := [.int (bI (¬ a < 0 ∧ a < σ.1 1))]) rfl ?_
    refine V_if_eq (tgt := 58) C dX25_act_34 (by decide) (fun c_34 => ?_) (fun c_34 => ?_)
    · exact absurd (hrw.1.resolve_left (by decide)) (bI_0.mp c_34)
    · refine V_aload_n C dX25_act_37 rfl 2 rfl ?_
      refine V_callU C (c_X3_hasOther_22 l hl G X N0 M (qH g 12) (qN g) hH9) cs_X25_129_22 hH9 (show CLS[22]? = some (RX19, TX19, 6) from rfl) rfl rfl ⟨Nat.le_of_ble_eq_true rfl, Nat.le_of_ble_eq_true rfl⟩ ⟨(by first | exact Nat.le_of_ble_eq_true rfl | omega | (dsimp only; omega) | (simp only [List.length_cons, List.length_nil]; omega)), (by first | exact Nat.le_of_ble_eq_true rfl | omega | (dsimp only; omega) | (simp only [List.length_cons, List.length_nil]; omega))⟩ (Nat.le_of_ble_eq_true rfl) dX25_act_38 (fun _ _ _ h => px0 h) ?_
      rintro _ _ ⟨rfl, rfl⟩
      refine V_st (st' := [.int 0]) rfl ?_
      refine V_if_eq (tgt := 67) C dX25_act_41 (by decide) (fun c_41 => ?_) (fun c_41 => ?_)
      · refine V_aload_n C dX25_act_67 rfl 0 rfl ?_
        refine V_get C f_X25_3_4 hCc (v := .ref (qN g)) rfl dX25_act_68 ?_
        refine V_aload_n C dX25_act_71 rfl 1 rfl ?_
        refine V_pc (pc1 := 72) rfl ?_
        refine V_callVN C (c_X1_priceOf l hl G X N0 M g σ z (σ.1 31) (c9 + 1) hR hI (qA g P9 K9) 12 (by decide) (nI 12) a i b j n rfl hac hrw) cs_X25_142_0 hN (show CLS[0]? = some (RX1, TX1, 17) from rfl) rfl rfl ⟨Nat.le_of_ble_eq_true rfl, Nat.le_of_ble_eq_true rfl⟩ ⟨(by first | exact Nat.le_of_ble_eq_true rfl | omega | (dsimp only; omega) | (simp only [List.length_cons, List.length_nil]; omega)), (by first | exact Nat.le_of_ble_eq_true rfl | omega | (dsimp only; omega) | (simp only [List.length_cons, List.length_nil]; omega))⟩ (Nat.le_of_ble_eq_true rfl) dX25_act_72 (fun _ _ _ h => px0 h) ?_
        rintro _ _ ⟨rfl, rfl⟩
        refine V_st (st' := [.int (mf_priceOf σ (nI 12) a b n)]) rfl ?_
        refine V_istore_n C dX25_act_75 rfl (Nat.le_of_ble_eq_true rfl) [(0, .ref (qC g c9)), (1, .ref (qA g P9 K9)), (2, .ref (qH g 12)), (3, .int (mf_priceOf σ (nI 12) a b n))] [1, 2, 3, 0] rfl ?_
        refine V_aload_n C dX25_act_76 rfl 0 rfl ?_
        refine V_get C f_X25_39_4 hCc (v := .int (σ.2.1 24 c9)) rfl dX25_act_77 ?_
        refine V_iload_n C dX25_act_80 rfl 3 rfl ?_
        refine V_icmp_ge (tgt := 94) C dX25_act_81 (by decide) (fun c_81 => ?_) (fun c_81 => ?_)
        · exact absurd hlt (Int32.not_lt.mpr c_81)
        · refine V_aload_n C dX25_act_84 rfl 0 rfl ?_
          refine V_get C f_X25_3_4 hCc (v := .ref (qN g)) rfl dX25_act_85 ?_
          refine V_bipush (v := 8) C dX25_act_88 rfl ?_
          refine V_callVN C (c_X1_fail l hl G X N0 M (qN g) (qRl g) (qUl g) (qPl g) (qHs g) (qAn g) (σ.1 20) (σ.1 14) (σ.1 11) (σ.1 12) (σ.1 15) (z 0) (z 1) (z 2) (z 3) (z 4) (z 5) (σ.1 31) 8 hN) cs_X25_138_0 hN (show CLS[0]? = some (RX1, TX1, 17) from rfl) rfl rfl ⟨Nat.le_of_ble_eq_true rfl, Nat.le_of_ble_eq_true rfl⟩ ⟨(by first | exact Nat.le_of_ble_eq_true rfl | omega | (dsimp only; omega) | (simp only [List.length_cons, List.length_nil]; omega)), (by first | exact Nat.le_of_ble_eq_true rfl | omega | (dsimp only; omega) | (simp only [List.length_cons, List.length_nil]; omega))⟩ (Nat.le_of_ble_eq_true rfl) dX25_act_90 (fun _ _ _ h => px0 h) ?_
          rintro _ M_3 ⟨q_1, rfl, hq_2, hN_4, hF_5, fr_6, sh_7⟩
          refine V_st (st' := [.ref q_1]) rfl ?_
          refine V_athrow C hF_5 (show CLS[8]? = some (RX26, TX26, 7) from rfl) dX25_act_93 ?_
          exact VX_out C (fun z hz => by cases hz) (FLX.xb (FLX.of hR hq_2 hN_4 hF_5 fr_6 sh_7) (act_8 hAH hrw hlt) (by decide)) (by first | exact Nat.le_of_ble_eq_true rfl | omega | (dsimp only; omega) | (simp only [List.length_cons, List.length_nil]; omega)) (by first | exact Nat.le_of_ble_eq_true rfl | omega | (dsimp only; omega) | (simp only [List.length_cons, List.length_nil]; omega))
      · exact absurd c_41 (by decide)
set_option maxHeartbeats 1000000 in
theorem c_X25_act_12_w (l : Launch) (hl : l.stackTraces = false) (G : hp_G) (X : Nat → Nat) (N0 : Nat) (M : hp_h) (go : Nat → MS → Int32 × MS) (g : RG) (σ : MS) (z : Nat → Int32) (c9 : Nat) (hR : REL G (X 0) g σ z (σ.1 31) (c9 + 1) M) (hI : MI σ) (P9 K9 : Nat) (a i b j n : Int32) (hP9 : P9 < 6) (hK9 : K9 < psz σ P9) (hAF : AF σ P9 K9 = [.int (nI 12), .int a, .int i, .int b, .int j, .int n]) (hAH : AH9 σ c9 (nI 12) a i b j n) (hrw : mf_hasRows σ (nI 12) a b) (hge : ¬ σ.2.1 24 c9 < mf_priceOf σ (nI 12) a b n) (hm : MW σ) (hJ8 : nJ σ < 8000) : HM l yX25_act (ws_ yX25_act cX25_act 4 (some .long)) 29 11440 9 320 G X N0 [.ref (qC g c9), .ref (qA g P9 K9)] M (WB G (X 0) g σ z (c9 + 1) M (mf_actR go c9 σ)) (XB G (X 0) g σ z (c9 + 1) M (mf_actR go c9 σ)) := by
  refine HM.of hl [(0, .ref (qC g c9)), (1, .ref (qA g P9 K9))] (by decide +kernel) rfl (Nat.le_of_ble_eq_true rfl) ?_
  intro p e s m args below meth c C hname
  have hN := hR.N
  obtain ⟨fH, hHs, hHf⟩ := hR.Hs
  have hCc : M (qC g c9) = some (.inr (4, [.int (σ.2.1 21 c9), .int (σ.2.1 25 c9), .ref (qKl g c9), .ref (qW g c9), .int (σ.2.1 24 c9), .int (σ.2.1 23 c9 - σ.2.1 24 c9), .int (σ.2.1 22 c9), .ref (qN g)])) := hR.Cc (Nat.lt_succ_self c9)
  have hac : M (qA g P9 K9) = some (.inr (3, [.int (nI 12), .int a, .int i, .int b, .int j, .int n])) := (hR.A hP9 hK9).trans (congrArg (fun y => some (Sum.inr (3, y))) hAF)
  have hH9 : M (qH g 12) = some (.inr (22, [.int 1, .ref (qN g), .int 8, .int 9, .ref (qN g), .ref (qN g)])) := hR.H (by decide)
  refine V_aload_n C dX25_act_0 rfl 0 rfl ?_
  refine V_get C f_X25_3_4 hCc (v := .ref (qN g)) rfl dX25_act_1 ?_
  refine V_getN C f_X25_111_0 hN (v := .ref (qHs g)) rfl dX25_act_4 ?_
  refine V_aload_n C dX25_act_7 rfl 1 rfl ?_
  refine V_getN C f_X25_115_3 hac (v := .int (nI 12)) rfl dX25_act_8 ?_
  refine V_aald C (j := 14) rfl rfl hHs (vp_in_nI (by omega) (by omega)) dX25_act_11 ?_
  refine V_st (st' := [.ref (qH g 12)]) (by rw [nI_clamp (by omega), (hHf 12 (by decide))]; rfl) ?_
  refine V_astore_n C dX25_act_12 rfl (Nat.le_of_ble_eq_true rfl) [(0, .ref (qC g c9)), (1, .ref (qA g P9 K9)), (2, .ref (qH g 12))] [1, 2, 0] rfl ?_
  refine V_aload_n C dX25_act_13 rfl 1 rfl ?_
  refine V_getN C f_X25_115_3 hac (v := .int (nI 12)) rfl dX25_act_14 ?_
  refine V_callSN C (c_X1_needsRow l hl G X N0 M (nI 12)) cs_X25_120 rfl rfl ⟨Nat.le_of_ble_eq_true rfl, Nat.le_of_ble_eq_true rfl⟩ ⟨(by first | exact Nat.le_of_ble_eq_true rfl | omega | (dsimp only; omega) | (simp only [List.length_cons, List.length_nil]; omega)), (by first | exact Nat.le_of_ble_eq_true rfl | omega | (dsimp only; omega) | (simp only [List.length_cons, List.length_nil]; omega))⟩ (Nat.le_of_ble_eq_true rfl) dX25_act_17 (fun _ _ _ h => px0 h) ?_
  rintro _ _ ⟨rfl, rfl⟩
  refine V_st (st' := [.int (bI ((nI 12) ≠ 10 ∧ (nI 12) ≠ 11))]) rfl ?_
  refine V_if_eq (tgt := 67) C dX25_act_20 (by decide) (fun c_20 => ?_) (fun c_20 => ?_)
  · exact absurd (bI_0.mp c_20) (not_not_intro ⟨by decide, by decide⟩)
  · refine V_pc (pc1 := 23) rfl ?_
    refine V_aload_n C dX25_act_23 rfl 0 rfl ?_
    refine V_get C f_X25_3_4 hCc (v := .ref (qN g)) rfl dX25_act_24 ?_
    refine V_aload_n C dX25_act_27 rfl 1 rfl ?_
    refine V_getN C f_X25_123_3 hac (v := .int a) rfl dX25_act_28 ?_
    refine V_callVN C (c_X1_isRow l hl G X N0 M g σ z (σ.1 31) (c9 + 1) hR hI a) cs_X25_126_0 hN (show CLS[0]? = some (RX1, TX1, 17) from rfl) rfl rfl ⟨Nat.le_of_ble_eq_true rfl, Nat.le_of_ble_eq_true rfl⟩ ⟨(by first | exact Nat.le_of_ble_eq_true rfl | omega | (dsimp only; omega) | (simp only [List.length_cons, List.length_nil]; omega)), (by first | exact Nat.le_of_ble_eq_true rfl | omega | (dsimp only; omega) | (simp only [List.length_cons, List.length_nil]; omega))⟩ (Nat.le_of_ble_eq_true rfl) dX25_act_31 (fun _ _ _ h => px0 h) ?_
    rintro _ _ ⟨rfl, rfl⟩
    refine V_st (st' := [.int (bI (¬ a < 0 ∧ a < σ.1 1))]) rfl ?_
    refine V_if_eq (tgt := 58) C dX25_act_34 (by decide) (fun c_34 => ?_) (fun c_34 => ?_)
    · exact absurd (hrw.1.resolve_left (by decide)) (bI_0.mp c_34)
    · refine V_aload_n C dX25_act_37 rfl 2 rfl ?_
      refine V_callU C (c_X3_hasOther_22 l hl G X N0 M (qH g 12) (qN g) hH9) cs_X25_129_22 hH9 (show CLS[22]? = some (RX19, TX19, 6) from rfl) rfl rfl ⟨Nat.le_of_ble_eq_true rfl, Nat.le_of_ble_eq_true rfl⟩ ⟨(by first | exact Nat.le_of_ble_eq_true rfl | omega | (dsimp only; omega) | (simp only [List.length_cons, List.length_nil]; omega)), (by first | exact Nat.le_of_ble_eq_true rfl | omega | (dsimp only; omega) | (simp only [List.length_cons, List.length_nil]; omega))⟩ (Nat.le_of_ble_eq_true rfl) dX25_act_38 (fun _ _ _ h => px0 h) ?_
      rintro _ _ ⟨rfl, rfl⟩
      refine V_st (st' := [.int 0]) rfl ?_
      refine V_if_eq (tgt := 67) C dX25_act_41 (by decide) (fun c_41 => ?_) (fun c_41 => ?_)
      · refine V_aload_n C dX25_act_67 rfl 0 rfl ?_
        refine V_get C f_X25_3_4 hCc (v := .ref (qN g)) rfl dX25_act_68 ?_
        refine V_aload_n C dX25_act_71 rfl 1 rfl ?_
        refine V_pc (pc1 := 72) rfl ?_
        refine V_callVN C (c_X1_priceOf l hl G X N0 M g σ z (σ.1 31) (c9 + 1) hR hI (qA g P9 K9) 12 (by decide) (nI 12) a i b j n rfl hac hrw) cs_X25_142_0 hN (show CLS[0]? = some (RX1, TX1, 17) from rfl) rfl rfl ⟨Nat.le_of_ble_eq_true rfl, Nat.le_of_ble_eq_true rfl⟩ ⟨(by first | exact Nat.le_of_ble_eq_true rfl | omega | (dsimp only; omega) | (simp only [List.length_cons, List.length_nil]; omega)), (by first | exact Nat.le_of_ble_eq_true rfl | omega | (dsimp only; omega) | (simp only [List.length_cons, List.length_nil]; omega))⟩ (Nat.le_of_ble_eq_true rfl) dX25_act_72 (fun _ _ _ h => px0 h) ?_
        rintro _ _ ⟨rfl, rfl⟩
        refine V_st (st' := [.int (mf_priceOf σ (nI 12) a b n)]) rfl ?_
        refine V_istore_n C dX25_act_75 rfl (Nat.le_of_ble_eq_true rfl) [(0, .ref (qC g c9)), (1, .ref (qA g P9 K9)), (2, .ref (qH g 12)), (3, .int (mf_priceOf σ (nI 12) a b n))] [1, 2, 3, 0] rfl ?_
        refine V_aload_n C dX25_act_76 rfl 0 rfl ?_
        refine V_get C f_X25_39_4 hCc (v := .int (σ.2.1 24 c9)) rfl dX25_act_77 ?_
        refine V_iload_n C dX25_act_80 rfl 3 rfl ?_
        refine V_icmp_ge (tgt := 94) C dX25_act_81 (by decide) (fun c_81 => ?_) (fun c_81 => ?_)
        · obtain ⟨pr, hpr⟩ : ∃ y, y = mf_priceOf σ (nI 12) a b n := ⟨_, rfl⟩
          refine V_loc (L' := [(0, .ref (qC g c9)), (1, .ref (qA g P9 K9)), (2, .ref (qH g 12)), (3, .int pr)]) [0, 1, 2, 3] (by rw [hpr]; rfl) ?_
          have hfrP : hp_fr (fun b => b = qC g c9 ∨ b = qN g) M M := hp_fr.rf
          have hshP : hp_sh M M := hp_sh.rf
          have hneP : qC g c9 ≠ qN g := hR.ne (t := 15) (i := c9) (j := 0) (t' := 0) (i' := 0) (j' := 0) ⟨Nat.lt_succ_self c9, rfl⟩ ⟨by decide, rfl, rfl⟩ (by simp)
          refine V_aload_n C dX25_act_94 rfl 0 rfl ?_
          refine V_dup C dX25_act_95 rfl ?_
          refine V_get C f_X25_39_4 hCc (v := .int (σ.2.1 24 c9)) rfl dX25_act_96 ?_
          refine V_iload_n C dX25_act_99 rfl 3 rfl ?_
          refine V_isub C dX25_act_100 ?_
          refine V_put C f_X25_39_4 hCc rfl rfl (Nat.le_of_ble_eq_true rfl) dX25_act_101 ?_
          obtain ⟨M_1, eM_2⟩ : ∃ z, z = hp_up M (qC g c9) (.inr (4, [.int (σ.2.1 21 c9), .int (σ.2.1 25 c9), .ref (qKl g c9), .ref (qW g c9), .int ((σ.2.1 24 c9) - pr), .int (σ.2.1 23 c9 - σ.2.1 24 c9), .int (σ.2.1 22 c9), .ref (qN g)])) := ⟨_, rfl⟩
          refine V_heap (M' := M_1) eM_2.symm ?_
          have ho_3 : M_1 (qN g) = some (.inr (0, [.ref (qRl g), .ref (qUl g), .ref (qPl g), .ref (qHs g), .int (σ.1 20), .int (σ.1 14), .int (σ.1 11), .int (σ.1 12), .int (σ.1 15), .int (z 0), .int (z 1), .int (z 2), .int (z 3), .int (z 4), .int (z 5), .int (σ.1 31), .ref (qAn g)])) := by rw [eM_2, hp_up_n (Ne.symm hneP)]; exact hN
          have ho_4 : M_1 (qA g P9 K9) = some (.inr (3, [.int (nI 12), .int a, .int i, .int b, .int j, .int n])) := by rw [eM_2, hp_up_n (hp_ne hac hCc (by simp))]; exact hac
          have ho_5 : M_1 (qH g 12) = some (.inr (22, [.int 1, .ref (qN g), .int 8, .int 9, .ref (qN g), .ref (qN g)])) := by rw [eM_2, hp_up_n (hp_ne hH9 hCc (by simp))]; exact hH9
          have ha_6 : M_1 (qHs g) = some (.inl (G.2 14, 13, .inr (.inr (.inr (.inr fH))))) := by rw [eM_2, hp_up_n (hp_ne hHs hCc (by simp))]; exact hHs
          have eM_2_s : M_1 (qC g c9) = some (.inr (4, [.int (σ.2.1 21 c9), .int (σ.2.1 25 c9), .ref (qKl g c9), .ref (qW g c9), .int ((σ.2.1 24 c9) - pr), .int (σ.2.1 23 c9 - σ.2.1 24 c9), .int (σ.2.1 22 c9), .ref (qN g)])) := by rw [eM_2]; exact hp_up_s
          have fr_7 := hp_fr.set hfrP (Or.inl (Or.inl rfl)) eM_2
          have sh_8 := hp_sh.set hshP hCc eM_2 rfl
          refine V_pc (pc1 := 104) rfl ?_
          refine V_aload_n C dX25_act_104 rfl 0 rfl ?_
          refine V_dup C dX25_act_105 rfl ?_
          refine V_get C f_X25_146_4 eM_2_s (v := .int (σ.2.1 23 c9 - σ.2.1 24 c9)) rfl dX25_act_106 ?_
          refine V_iload_n C dX25_act_109 rfl 3 rfl ?_
          refine V_iadd C dX25_act_110 ?_
          refine V_put C f_X25_146_4 eM_2_s rfl rfl (Nat.le_of_ble_eq_true rfl) dX25_act_111 ?_
          obtain ⟨M_9, eM_10⟩ : ∃ z, z = hp_up M_1 (qC g c9) (.inr (4, [.int (σ.2.1 21 c9), .int (σ.2.1 25 c9), .ref (qKl g c9), .ref (qW g c9), .int ((σ.2.1 24 c9) - pr), .int ((σ.2.1 23 c9 - σ.2.1 24 c9) + pr), .int (σ.2.1 22 c9), .ref (qN g)])) := ⟨_, rfl⟩
          refine V_heap (M' := M_9) eM_10.symm ?_
          have ho_11 : M_9 (qN g) = some (.inr (0, [.ref (qRl g), .ref (qUl g), .ref (qPl g), .ref (qHs g), .int (σ.1 20), .int (σ.1 14), .int (σ.1 11), .int (σ.1 12), .int (σ.1 15), .int (z 0), .int (z 1), .int (z 2), .int (z 3), .int (z 4), .int (z 5), .int (σ.1 31), .ref (qAn g)])) := by rw [eM_10, hp_up_n (Ne.symm hneP)]; exact ho_3
          have ho_12 : M_9 (qA g P9 K9) = some (.inr (3, [.int (nI 12), .int a, .int i, .int b, .int j, .int n])) := by rw [eM_10, hp_up_n (hp_ne ho_4 eM_2_s (by simp))]; exact ho_4
          have ho_13 : M_9 (qH g 12) = some (.inr (22, [.int 1, .ref (qN g), .int 8, .int 9, .ref (qN g), .ref (qN g)])) := by rw [eM_10, hp_up_n (hp_ne ho_5 eM_2_s (by simp))]; exact ho_5
          have ha_14 : M_9 (qHs g) = some (.inl (G.2 14, 13, .inr (.inr (.inr (.inr fH))))) := by rw [eM_10, hp_up_n (hp_ne ha_6 eM_2_s (by simp))]; exact ha_6
          have eM_10_s : M_9 (qC g c9) = some (.inr (4, [.int (σ.2.1 21 c9), .int (σ.2.1 25 c9), .ref (qKl g c9), .ref (qW g c9), .int ((σ.2.1 24 c9) - pr), .int ((σ.2.1 23 c9 - σ.2.1 24 c9) + pr), .int (σ.2.1 22 c9), .ref (qN g)])) := by rw [eM_10]; exact hp_up_s
          have fr_15 := hp_fr.set fr_7 (Or.inl (Or.inl rfl)) eM_10
          have sh_16 := hp_sh.set sh_8 eM_2_s eM_10 rfl
          refine V_aload_n C dX25_act_114 rfl 0 rfl ?_
          refine V_get C f_X25_3_4 eM_10_s (v := .ref (qN g)) rfl dX25_act_115 ?_
          refine V_dup C dX25_act_118 rfl ?_
          refine V_getN C f_X25_149_0 ho_11 (v := .int (σ.1 11)) rfl dX25_act_119 ?_
          refine V_iconst (v := 1) C dX25_act_122 rfl ?_
          refine V_iadd C dX25_act_123 ?_
          refine V_pc (pc1 := 124) rfl ?_
          refine V_putN C f_X25_149_0 ho_11 rfl rfl (Nat.le_of_ble_eq_true rfl) dX25_act_124 ?_
          obtain ⟨M_17, eM_18⟩ : ∃ z9, z9 = hp_up M_9 (qN g) (.inr (0, [.ref (qRl g), .ref (qUl g), .ref (qPl g), .ref (qHs g), .int (σ.1 20), .int (σ.1 14), .int ((σ.1 11) + 1), .int (σ.1 12), .int (σ.1 15), .int (z 0), .int (z 1), .int (z 2), .int (z 3), .int (z 4), .int (z 5), .int (σ.1 31), .ref (qAn g)])) := ⟨_, rfl⟩
          refine V_heap (M' := M_17) eM_18.symm ?_
          have ho_19 : M_17 (qC g c9) = some (.inr (4, [.int (σ.2.1 21 c9), .int (σ.2.1 25 c9), .ref (qKl g c9), .ref (qW g c9), .int ((σ.2.1 24 c9) - pr), .int ((σ.2.1 23 c9 - σ.2.1 24 c9) + pr), .int (σ.2.1 22 c9), .ref (qN g)])) := by rw [eM_18, hp_up_n hneP]; exact eM_10_s
          have ho_20 : M_17 (qA g P9 K9) = some (.inr (3, [.int (nI 12), .int a, .int i, .int b, .int j, .int n])) := by rw [eM_18, hp_up_n (hp_ne ho_12 ho_11 (by simp))]; exact ho_12
          have ho_21 : M_17 (qH g 12) = some (.inr (22, [.int 1, .ref (qN g), .int 8, .int 9, .ref (qN g), .ref (qN g)])) := by rw [eM_18, hp_up_n (hp_ne ho_13 ho_11 (by simp))]; exact ho_13
          have ha_22 : M_17 (qHs g) = some (.inl (G.2 14, 13, .inr (.inr (.inr (.inr fH))))) := by rw [eM_18, hp_up_n (hp_ne ha_14 ho_11 (by simp))]; exact ha_14
          have eM_18_s : M_17 (qN g) = some (.inr (0, [.ref (qRl g), .ref (qUl g), .ref (qPl g), .ref (qHs g), .int (σ.1 20), .int (σ.1 14), .int ((σ.1 11) + 1), .int (σ.1 12), .int (σ.1 15), .int (z 0), .int (z 1), .int (z 2), .int (z 3), .int (z 4), .int (z 5), .int (σ.1 31), .ref (qAn g)])) := by rw [eM_18]; exact hp_up_s
          have fr_23 := hp_fr.set fr_15 (Or.inl (Or.inr rfl)) eM_18
          have sh_24 := hp_sh.set sh_16 ho_11 eM_18 rfl
          have hpay := hR.pay (pr := pr) (Nat.lt_succ_self c9) ho_19 eM_18_s fr_23 sh_24
          have hact : mf_actR go c9 σ = mf_workR go c9 (mf_pay c9 pr σ) 12 a i b j n := by rw [hpr]; exact act_w hAH hrw hge
          refine V_aload_n C dX25_act_127 rfl 2 rfl ?_
          refine V_aload_n C dX25_act_128 rfl 1 rfl ?_
          refine V_aload_n C dX25_act_129 rfl 0 rfl ?_
          have hRs : REL G (X 0) g (sa (mf_pay c9 pr σ) 0) z ((sa (mf_pay c9 pr σ) 0).1 31) (c9 + 1) M_17 := hpay.1.view VW.sa
          have hIs : MI (sa (mf_pay c9 pr σ) 0) := (MQ9.same (σ := σ) ⟨hI, hm⟩ rfl rfl rfl (fun k hk => by rcases hk with rfl | rfl | rfl | rfl | rfl | rfl <;> rfl) rfl).1
          have hms : MW (sa (mf_pay c9 pr σ) 0) := (MQ9.same (σ := σ) ⟨hI, hm⟩ rfl rfl rfl (fun k hk => by rcases hk with rfl | rfl | rfl | rfl | rfl | rfl <;> rfl) rfl).2
          obtain ⟨rr, hr, hra⟩ := hI.row (hrw.1.resolve_left (by decide))
          have hdn : mf_actR go c9 σ = mf_dr (mf_fees (sa (mf_pay c9 pr σ) 0) rr) := by
            rw [hact, hra]
            show mf_dr (mf_done (mf_pay c9 pr σ) 12 (nI rr) i b j n) = _
            have hR60 := hI.R.2
            have e1 : (nI rr).toNatClampNeg = rr := nI_clamp (by omega)
            unfold mf_done
            rw [if_neg (by decide), if_neg (by decide), if_neg (by decide), if_neg (by decide), if_neg (by decide), if_neg (by decide), if_neg (by decide), if_neg (by decide), if_neg (by decide), if_neg (by decide), if_pos rfl, e1]
          refine V_callA C (c_work_12 l hl G X N0 M_17 g (sa (mf_pay c9 pr σ) 0) z (c9 + 1) c9 rfl hRs hIs P9 K9 rr (nI 12) i b j n hP9 hK9 hr (show AF (sa (mf_pay c9 pr σ) 0) P9 K9 = [.int (nI 12), .int (nI rr), .int i, .int b, .int j, .int n] from by rw [← hra]; exact hAF) hms rfl hJ8) cs_X25_151_22 ho_21 (show CLS[22]? = some (RX19, TX19, 6) from rfl) rfl rfl ⟨Nat.le_of_ble_eq_true rfl, Nat.le_of_ble_eq_true rfl⟩ ⟨(by first | exact Nat.le_of_ble_eq_true rfl | omega | (dsimp only; omega) | (simp only [List.length_cons, List.length_nil]; omega)), (by first | exact Nat.le_of_ble_eq_true rfl | omega | (dsimp only; omega) | (simp only [List.length_cons, List.length_nil]; omega))⟩ (Nat.le_of_ble_eq_true rfl) dX25_act_130 (fun q9 E9 M9 h9 => by have h8 : XB G (X 0) g σ z (c9 + 1) M (mf_actR go c9 σ) q9 E9 M9 := by { rw [hdn]; exact XB.pre (σ := σ) (τ := (sa (mf_pay c9 pr σ) 0)) (hpay.2.view VW.sa) rfl rfl rfl rfl (WX.dr h9) }; obtain rfl := h8.2.1; exact VX_out C (fun z hz => by cases hz) h8 (by first | exact Nat.le_of_ble_eq_true rfl | omega | (dsimp only; omega) | (simp only [List.length_cons, List.length_nil]; omega)) (by first | exact Nat.le_of_ble_eq_true rfl | omega | (dsimp only; omega) | (simp only [List.length_cons, List.length_nil]; omega))) ?_
          rintro v9 M_25 hv9
          have hwb : WB G (X 0) g σ z (c9 + 1) M (mf_actR go c9 σ) v9 M_25 := by rw [hdn]; exact WB.pre (σ := σ) (τ := (sa (mf_pay c9 pr σ) 0)) (hpay.2.view VW.sa) rfl rfl rfl rfl (WP.dr hv9)
          obtain rfl := hv9.2.1
          refine V_st (st' := [.long ((mf_fees (sa (mf_pay c9 pr σ) 0) rr).2.2.2.2)]) rfl ?_
          refine V_lret C dX25_act_133 rfl ?_ (by first | exact Nat.le_of_ble_eq_true rfl | omega | (dsimp only; omega) | (simp only [List.length_cons, List.length_nil]; omega)) (by first | exact Nat.le_of_ble_eq_true rfl | omega | (dsimp only; omega) | (simp only [List.length_cons, List.length_nil]; omega))
          exact hwb
        · exact absurd (Int32.not_le.mp c_81) hge
      · exact absurd c_41 (by decide)
