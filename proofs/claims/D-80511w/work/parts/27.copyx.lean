set_option maxRecDepth 100000
set_option linter.unusedVariables false
set_option maxHeartbeats 1000000 in
/-- a native of the machine throws with a message, no traces kept (follows vx_vmAt; nativeThrowsMessageColdBareV called) -/
theorem vx_nvAt {p : Program} {l : Launch} {e : Env} {R : Room} {s : State} {m₀ : MethodId} {args : Array Value} {below : List Frame} {meth : Method} {c : Code} {W : State} {locs : List Loc} {cells slots : Nat}
    (X : Stand p l e R s m₀ args below meth c W locs cells slots) (hexec : p.tables.exec = Jvm.exec) (htr : e.platform.stackTraces = false) {cls : String} {names : List String} {text : String}
    (hcls : Bundle.fit cls = true) (hnames : ∀ n ∈ names, Bundle.fit n = true) (hsoe : (cls == "java/lang/StackOverflowError") = false) (hoom : (cls == "java/lang/OutOfMemoryError") = false)
    (h : ∀ a ∈ Bundle.messageArmAtoms cls names, a.before args s = true)
    (hlocs : ∀ x ∈ locs, ∀ cell, s.heap[x.base]? = some cell → cell.vm.isStatics = false)
    (htext : (text == notModelled) = false) (hlimit : ¬ (stringBytes (stringToUtf16 text)).size > e.platform.arrayLengthLimit) (hheap : ¬ (stringBytes (stringToUtf16 text)).size * componentBytes .byte > e.platform.maxHeapBytes)
    {g : JFrame} {nf : NFrame} (hnf : nf.words = 0) (hg : g.method = m₀) (hsize : g.locals.size = c.maxLocals)
    (hRframes : names.length + 5 < R.frames) (hRlocals : 2 * g.monitorRoom + (g.stack.map fun v => v.category).sum + 10240 ≤ R.locals) (hshort : 13 * names.length + 55 ≤ 10240)
    (hRcells : cells + 3 ≤ R.cells) (hRslots : slots + ((stringBytes (stringToUtf16 text)).size + 4 + 6) ≤ R.slots) (hlocks : meth.locks = false) :
    ∃ (S : State) (q : Addr) (ce : Cell), (W.heap.size ≤ S.heap.size ∧ ∀ a0, a0 < W.heap.size → S.heap[a0]? = W.heap[a0]?) ∧ Steps p.tables e below (W.setFrames (.throwNew cls (some text) none :: .native nf :: .java g :: below)) (S.setFrames (.throwing q :: .native nf :: .java g :: below)) ∧
      Stand p l e R s m₀ args below meth c S locs (cells + 3) (slots + ((stringBytes (stringToUtf16 text)).size + 4 + 6)) ∧ S.heap[q]? = some ce ∧ s.vm.findClass cls = some ce.cls ∧ ce.vm = .none := by
  have howns : e.platform.frameOwnsMonitors = true := by rw [X.admits.platform]
  have hfin : e.platform.finalization = false := by rw [X.admits.platform]
  have hpl : e.platform.magicAccessors = ({} : Platform).magicAccessors := by rw [X.admits.platform]
  have a : ∀ x, x ∈ Bundle.messageArmAtoms cls names → x.holds args s none s [] = true := fun x hx => h x hx
  obtain ⟨T, Z0, L, -, Y⟩ := ThrowableC.of_atoms (args := args) howns hfin hpl (fun x hx => h x (by simp [Bundle.messageArmAtoms, hx]))
  obtain ⟨Z, M, LZ, LM, hnZ⟩ := Init0T.ofS_atoms (args := args) hpl L Y (fun x hx => h x (by simp [Bundle.messageArmAtoms, hx]))
  obtain ⟨P1, Ps, hlen, L1, hL, hP1m, hlink1, hlink⟩ := Bundle.chainS (args := args) hpl hnZ names cls hcls hnames (fun x hx => h x (by simp [Bundle.messageArmAtoms, hx]))
  obtain ⟨Zs, LZs, hn4, hfitv, hfitc⟩ := StringT.of_atoms (args := args) (fun x hx => h x (by simp [Bundle.messageArmAtoms, hx]))
  have hfound : s.vm.findClass cls = some P1.m.cls := findClass_of_methodNamed hP1m
  obtain ⟨c1, kX, hc1, hk, hord, -, -, hn6⟩ := Cond.instantiable_spec (a (.instantiable cls 6) (by simp [Bundle.messageArmAtoms]))
  cases Option.some.inj (hc1.symm.trans hfound)
  have hinit := Cond.initialized_spec hfound hk (a (.initialized cls) (by simp [Bundle.messageArmAtoms]))
  have hctor : kX.findMethod "<init>" "(Ljava/lang/String;)V" = some P1.m.idx := findMethod_of_methodNamed hP1m hk
  have hsel0 : selectMethod e.platform s.vm P1.m.cls T.fill0 = .method T.fill0 := by
    obtain ⟨c2, r2, m2, q1, q2, q3, q4, -⟩ := Cond.selects_spec (a (.selects cls Bundle.tFill0 Bundle.tFill0) (by simp [Bundle.messageArmAtoms]))
    cases Option.some.inj (q1.symm.trans hfound)
    cases Option.some.inj (q2.symm.trans (State.methodFound?_of_named Y.fill0 (by decide)))
    cases Option.some.inj (q3.symm.trans Y.fill0)
    rw [Launch.admits_selectMethod X.admits]; exact q4
  have hselF : selectMethod e.platform s.vm P1.m.cls T.fill = .method T.fill := by
    obtain ⟨c2, r2, m2, q1, q2, q3, q4, -⟩ := Cond.selects_spec (a (.selects cls Bundle.tFill Bundle.tFill) (by simp [Bundle.messageArmAtoms]))
    cases Option.some.inj (q1.symm.trans hfound)
    cases Option.some.inj (q2.symm.trans (State.methodFound?_of_named Y.fill (by decide)))
    cases Option.some.inj (q3.symm.trans Y.fill)
    rw [Launch.admits_selectMethod X.admits]; exact q4
  obtain ⟨cellS0, hcS0, hiss⟩ := Y.statics
  obtain ⟨u0, hu0⟩ := Cond.staticRefV Y.unassigned L.unassignedStatic L.statics hcS0 hiss (a (.isRef (.static Bundle.tN "UNASSIGNED_STACK" Bundle.steD)) (by simp [Bundle.messageArmAtoms]))
  obtain ⟨sen, hsen⟩ := Cond.staticRefV Y.sentinel L.sentinelStatic L.statics hcS0 hiss (a (.isRef (.static Bundle.tN "SUPPRESSED_SENTINEL" Bundle.listD)) (by simp [Bundle.messageArmAtoms]))
  obtain ⟨ci198, i198, fB, hk198, hg198, ha198, hsB, -, hnB, htB, hffB⟩ := Cond.ownField (t := .object "java/lang/Object") Y.found L.cls (by decide +kernel) (a (.fieldLink Bundle.tN 198 Bundle.tN "backtrace" "Ljava/lang/Object;") (by simp [Bundle.messageArmAtoms])) (a (.lays Bundle.tN Bundle.tN "backtrace" "Ljava/lang/Object;") (by simp [Bundle.messageArmAtoms])) e.platform hpl
  obtain ⟨cellS, hcS', heS, -, hkeep⟩ := X.same.2.2.2.2.2 T.aS cellS0 hcS0
  have hcellS : W.heap[T.aS]? = some cellS := hcS'
  have hout' : ∀ i, (⟨T.aS, i⟩ : Loc) ∉ locs := fun i hmem => by
    have := hlocs _ hmem cellS0 hcS0
    rw [hiss] at this; cases this
  have hknownS : cellS.vm ≠ .unknown := by
    rw [heS]; intro hu
    rw [show cellS0.vm = .unknown from hu] at hiss
    cases hiss
  have hvU : cellS.slots[T.fUnassigned.slot]? = some u0.v := by rw [hkeep _ (hout' _)]; exact hu0
  have hvSen : cellS.slots[T.fSentinel.slot]? = some sen.v := by rw [hkeep _ (hout' _)]; exact hsen
  obtain ⟨iM, hffM⟩ := Y.msg
  obtain ⟨tyC, dC, hdC, hdnC⟩ := Cond.laysAt hfound hk Y.cause (a (.lays cls Bundle.tN "cause" "Ljava/lang/Throwable;") (by simp [Bundle.messageArmAtoms]))
  obtain ⟨tyS, dS, hdS, hdnS⟩ := Cond.laysAt hfound hk Y.stack (a (.lays cls Bundle.tN "stackTrace" Bundle.steD) (by simp [Bundle.messageArmAtoms]))
  obtain ⟨tyP, dP, hdP, hdnP⟩ := Cond.laysAt hfound hk Y.supp (a (.lays cls Bundle.tN "suppressedExceptions" Bundle.listD) (by simp [Bundle.messageArmAtoms]))
  obtain ⟨tyM, dM, hdM, hdnM⟩ := Cond.laysAt hfound hk hffM (a (.lays cls Bundle.tN "detailMessage" "Ljava/lang/String;") (by simp [Bundle.messageArmAtoms]))
  obtain ⟨tyB, dB, hdB, hdnB⟩ := Cond.laysAt hfound hk hffB (a (.lays cls Bundle.tN "backtrace" "Ljava/lang/Object;") (by simp [Bundle.messageArmAtoms]))
  have bC := Cond.laysApart hdB hdC hdnB hdnC (by rw [hnB, Y.causeName]; decide)
  have bS := Cond.laysApart hdB hdS hdnB hdnS (by rw [hnB, Y.stackName]; decide)
  have bP := Cond.laysApart hdB hdP hdnB hdnP (by rw [hnB, Y.suppName]; decide)
  have hbk : ((preparedCellV T.toThrowableT (freshCell P1.m.cls kX) (W.heap.size + 2) u0 sen).withEntry W.cur).slots[fB.slot]? = some .null := by
    have := fresh_default (c := P1.m.cls) tyB
    rw [htB] at this
    simpa [preparedCellV, Cell.setSlot, Cell.withEntry, Array.getElem?_setIfInBounds, bC, bS, bP, bC.symm, bS.symm, bP.symm, defaultValue] using this
  have tkC := Takes.of_laid (v := .ref (W.heap.size + 2)) hk hord tyC (by rw [Y.causeType]; rfl)
  have tkS := Takes.of_laid (v := u0.v) hk hord tyS (by rw [Y.stackType]; exact fits_refV_array _ u0)
  have tkP := Takes.of_laid (v := sen.v) hk hord tyP (by rw [Y.suppType]; exact fits_refV_object _ sen)
  have tkM := Takes.of_laid (v := .ref (W.heap.size + 1)) hk hord tyM (by rw [Y.msgType]; rfl)
  have hskip : SkipFacts T e.platform s (fun u => u) u0 ((preparedCellV T.toThrowableT (freshCell P1.m.cls kX) (W.heap.size + 2) u0 sen).withEntry W.cur) := ⟨{ ci198 := ci198, i198 := i198, fBack := fB }, ⟨hk198, hg198, ha198, hsB⟩, hbk, fun _ _ => rfl⟩
  obtain ⟨vm', X5, st, hold⟩ := X.nativeThrowsMessageColdBareV hexec hsize hnf T L Z LZ M LM Zs LZs P1 L1 Ps hL hlink1 hlink hsoe hoom hfound hk hinit hord hctor htext hlimit hheap (hfitv _) (hfitc _) hsel0 hselF hcellS hknownS hvU hvSen tkC tkS tkP tkM Y.objLocals hskip
    (fun _ _ hA hW _ hroom _ hrest => L.nativeOff p htr hA hW hroom hrest) (by omega) hRlocals (by omega) hRcells (by rw [hn4, hn6]; omega)
  obtain ⟨-, -, w3, w4, -, -, -⟩ := withThrown_facts e.platform W Zs text P1.m.cls kX
  have ha : (W.heap.size + 2) < ((withThrown W Zs text P1.m.cls kX).setVm vm').heap.size := by show _ < (withThrown W Zs text P1.m.cls kX).heap.size; rw [w3]; omega
  have b1 : (bytesOf Zs.cB (stringToUtf16 text)).slots.size = (stringBytes (stringToUtf16 text)).size := by
    rw [(Cell.writeAll_facts _ _).2.2]; simp [bytes0]
  have b2 : (stringAt Zs.cS Zs.kS Zs.fv Zs.fc (stringToUtf16 text) W.heap.size).slots.size = 4 := by simp [string0, Cell.setSlot, hn4]
  have b3 : (freshCell P1.m.cls kX).slots.size = 6 := by simp [hn6]
  rw [b1, b2, b3] at X5
  have e9 : slots + (stringBytes (stringToUtf16 text)).size + 4 + 6 = slots + ((stringBytes (stringToUtf16 text)).size + 4 + 6) := by omega
  rw [e9] at X5
  refine ⟨((withThrown W Zs text P1.m.cls kX).setVm vm').setCell (W.heap.size + 2) (plainBareV T.toThrowableT (freshCell P1.m.cls kX) (W.heap.size + 2) u0 sen (.ref (W.heap.size + 1))), W.heap.size + 2, _, ⟨?_, hold⟩, st, X5.forget (fun y hy => ?_), heapAt_setCell_self _ ha, hfound, rfl⟩
  · rw [size_setCell]; show _ ≤ (withThrown W Zs text P1.m.cls kX).heap.size; rw [w3]; omega
  simp only [List.mem_cons, List.not_mem_nil, or_false] at hy
  have hge : s.heap.size ≤ W.heap.size := X.same.2.1
  rcases hy with rfl | rfl | rfl | rfl | rfl <;> exact Nat.le_trans hge (Nat.le_add_right _ 2)
section VNV
variable {p : Program} {l : Launch} {e : Env} {R : Room} {s : State} {m : MethodId} {args : Array Value} {below : List Frame} {meth : Method} {c : Code} {locs : List Loc} {cells slots : Nat}
theorem vx_nv (hexec : p.tables.exec = Jvm.exec) (hl : l.stackTraces = false) {cls text : String} {names : List String} {nb : Nat} {A : Nat → Prop} {T : State} (X : Stand p l e R s m args below meth c T locs cells slots)
    (hcls : Bundle.fit cls = true) (hnames : ∀ n ∈ names, Bundle.fit n = true) (hsoe : (cls == "java/lang/StackOverflowError") = false) (hoom : (cls == "java/lang/OutOfMemoryError") = false)
    (hat : ∀ w ∈ vx_atM cls names, w.before args s = true) (hgood : ∀ w ∈ vx_atM cls names, vx_ot w = true)
    (hU : vx_Zq Bundle.tN "UNASSIGNED_STACK" Bundle.steD A s s.heap) (hN : vx_Zq Bundle.tN "SUPPRESSED_SENTINEL" Bundle.listD A s s.heap) (hS : va_S A s.heap T.heap locs)
    (htext : (text == notModelled) = false) (hnb : (stringBytes (stringToUtf16 text)).size ≤ nb) (hnb1 : nb ≤ 1000) {g : JFrame} {nf : NFrame} (hnf : nf.words = 0) (hg : g.method = m) (hsize : g.locals.size = c.maxLocals)
    (hRframes : names.length + 5 < R.frames) (hRlocals : 2 * g.monitorRoom + (g.stack.map fun v => v.category).sum + 10240 ≤ R.locals) (hshort : 13 * names.length + 55 ≤ 10240) (hRcells : cells + 3 ≤ R.cells) (hRslots : slots + (nb + 10) ≤ R.slots) (hlocks : meth.locks = false) :
    ∃ (S : State) (q : Addr) (ce : Cell), (T.heap.size ≤ S.heap.size ∧ ∀ a0, a0 < T.heap.size → S.heap[a0]? = T.heap[a0]?) ∧ Steps p.tables e below (T.setFrames (.throwNew cls (some text) none :: .native nf :: .java g :: below)) (S.setFrames (.throwing q :: .native nf :: .java g :: below)) ∧
      Stand p l e R s m args below meth c S locs (cells + 3) (slots + (nb + 10)) ∧ S.heap[q]? = some ce ∧ s.vm.findClass cls = some ce.cls ∧ ce.vm = .none := by
  have htr : e.platform.stackTraces = false := (show e.platform.stackTraces = l.stackTraces by rw [X.admits.platform]).trans hl
  have Y := vx_rebase X (R' := { frames := R.frames, locals := R.locals, cells := 3, slots := nb + 10 }) (Nat.le_refl _) (Nat.le_refl _) hRcells hRslots
  have hhp : ((T.setVm s.vm).setFrames (.invoking m args :: below)).heap = T.heap := rfl
  have hW0 : s.WarmedH ((T.setVm s.vm).setFrames (.invoking m args :: below)).vm := State.WarmedH.refl s
  have hat' : ∀ w ∈ vx_atM cls names, w.before args ((T.setVm s.vm).setFrames (.invoking m args :: below)) = true := fun w hw => vx_ot_at hW0 rfl (hgood w hw) (hat w hw)
  have hU' : vx_Zq Bundle.tN "UNASSIGNED_STACK" Bundle.steD A ((T.setVm s.vm).setFrames (.invoking m args :: below)) ((T.setVm s.vm).setFrames (.invoking m args :: below)).heap := vx_Zq.moved hW0.alike (hU.kept hS.2.1)
  have hN' : vx_Zq Bundle.tN "SUPPRESSED_SENTINEL" Bundle.listD A ((T.setVm s.vm).setFrames (.invoking m args :: below)) ((T.setVm s.vm).setFrames (.invoking m args :: below)).heap := vx_Zq.moved hW0.alike (hN.kept hS.2.1)
  obtain ⟨S, q, ce, hh, st, Z, hce, hcl', hv⟩ := vx_nvAt Y hexec htr (cls := cls) (names := names) (text := text) hcls hnames hsoe hoom (vx_own hat' (vx_isRefq hU'.1) (vx_isRefq hN'.1) hU'.2.word hN'.2.word) (fun x hx => nomatch hx) htext
    (by rw [Launch.admits_arrayLengthLimit X.admits]; omega) (by rw [Launch.admits_maxHeapBytes X.admits]; simp only [componentBytes]; omega)
    (g := g) (nf := nf) hnf hg hsize hRframes hRlocals hshort (by show 0 + 3 ≤ 3; omega) (by show 0 + (_ + 4 + 6) ≤ nb + 10; omega) hlocks
  have X5 := vx_back9 X Y Z
  exact ⟨S, q, ce, hh, st, { X5 with same := X5.same.mono (by omega) (by omega) }, hce, hcl', hv⟩
end VNV
section VCT
variable {p : Program} {l : Launch} {e : Env} {R : Room} {s : State} {m : MethodId} {args : Array Value} {below : List Frame} {meth : Method} {c : Code} {H : Heap} {locs : List Loc} {cells slots : Nat} {Q : State → Prop}
variable {cc : ByteArray} {pc : Nat} {ls : Array Slot} {rest : List Value} {A : Nat → Prop}
/-- System.arraycopy throws: behind j values copied -/
theorem vx_copyX (hexec : p.tables.exec = Jvm.exec) (hb : c.code = cc) (hml : c.maxLocals = ls.size) (hl : l.stackTraces = false) {own : String} {index : Nat} (hown : s.vm.findClass own = some m.cls) (hlink : (Cond.methodLink own index arraycopyName).before args s = true) (hnat : (Cond.native arraycopyName).before args s = true) (hstat : (Cond.static arraycopyName).before args s = true) (hini : (Cond.initialized "java/lang/System").before args s = true)
    {a0 a : Addr} {sp dp n : Int32} {cs cd : Cell} {j : Nat} {cls text : String} {names : List String} {nb : Nat}
    (hcls : Bundle.fit cls = true) (hnames : ∀ n ∈ names, Bundle.fit n = true) (hsoe : (cls == "java/lang/StackOverflowError") = false) (hoom : (cls == "java/lang/OutOfMemoryError") = false)
    (hat : ∀ w ∈ vx_atM cls names, w.before args s = true) (hgood : ∀ w ∈ vx_atM cls names, vx_ot w = true)
    (hU : vx_Zq Bundle.tN "UNASSIGNED_STACK" Bundle.steD A s s.heap) (hN : vx_Zq Bundle.tN "SUPPRESSED_SENTINEL" Bundle.listD A s s.heap) (hS : va_S A s.heap H locs)
    (htext : (text == notModelled) = false) (hnb : (stringBytes (stringToUtf16 text)).size ≤ nb) (hnb1 : nb ≤ 1000)
    (hRframes : names.length + 5 < R.frames) (hRlocals : (rest.map fun v => v.category).sum + 10240 ≤ R.locals) (hshort : 13 * names.length + 55 ≤ 10240) (hRcells : cells + 3 ≤ R.cells) (hRslots : slots + (nb + 10) ≤ R.slots) (hlocks : meth.locks = false)
    (hd : H[a]? = some cd) (hA : A a)
    (hwp : ∀ (U : State), U.heap = H → s.vm.Alike U.vm → ∀ (fs : List Frame) (E : CtlPost), (∀ acts', E (.throwNew cls (some text)) acts' ((U.setFrames fs).setCell a (cd.storeRun dp.toNatClampNeg (cs.stretch sp.toNatClampNeg j)))) → wp (Native.java_lang_System.arraycopy.sem #[.ref a0, .int sp, .ref a, .int dp, .int n]) (fun _ _ _ _ => False) E e false [] (U.setFrames fs))
    (hdg : decode cc pc = .ok (.invokestatic index, 3))
    (kk : ∀ (H1 : Heap) (locs1 : List Loc) (q9 : Addr) (ce : Cell), H.size ≤ H1.size → H1[a]? = some (cd.storeRun dp.toNatClampNeg (cs.stretch sp.toNatClampNeg j)) → (∀ q : Nat, q < H.size → q ≠ a → H1[q]? = H[q]?) → va_S A s.heap H1 locs1 → H1[q9]? = some ce → ce.vm = .none → s.vm.findClass cls = some ce.cls → vx_W p l e R s m args below meth c H1 locs1 (cells + 3) (slots + (nb + 10)) Q (F0 m pc ls rest) q9) :
    W p l e R s m args below meth c H locs cells slots Q (F0 m pc ls (.int n :: .int dp :: .ref a :: .int sp :: .ref a0 :: rest)) := by
  intro T hT X
  obtain ⟨r, kS, methS, hnS, hmS, hkS, N⟩ := NativeOf.of_static hnat hstat (ps := [.object "java/lang/Object", .int, .object "java/lang/Object", .int, .int]) (ret := none) (by decide +kernel)
  have hinitS : kS.init = .initialized := Cond.initialized_spec (findClass_of_methodNamed hnS) hkS hini
  obtain ⟨vm', X', step⟩ := X.invokestatic hexec hown hlink hnS hmS N.static hkS hinitS (by decide) (g := F0 m pc ls (.int n :: .int dp :: .ref a :: .int sp :: .ref a0 :: rest)) rfl (argsL := [.ref a0, .int sp, .ref a, .int dp, .int n]) (rest := rest) (by rw [N.sig]; rfl) rfl (by rw [hb]; exact hdg)
  obtain ⟨kS', N'⟩ := N.alike X'.warmed.alike
  have hheap : (T.setVm vm').heap = H := hT
  have hd' : (T.setVm vm').heap[a]? = some cd := by rw [hheap]; exact hd
  have hlt : a < H.size := (Array.getElem?_eq_some_iff.mp hd).1
  generalize hcd : cd.storeRun dp.toNatClampNeg (cs.stretch sp.toNatClampNeg j) = cd' at *
  have X2 : Stand p l e R s m args below meth c ((T.setVm vm').setCell a cd') (locs ++ (cs.stretch sp.toNatClampNeg j).zipIdx.map fun q => ⟨a, dp.toNatClampNeg + q.2⟩) cells slots := by rw [← hcd]; exact X'.storedRun hd' _ _
  have hh2 : ((T.setVm vm').setCell a cd').heap = H.setIfInBounds a cd' := by rw [← hT]; rfl
  have oq : ∀ q : Nat, q ≠ a → (H.setIfInBounds a cd')[q]? = H[q]? := fun q hq => by simp [Array.getElem?_setIfInBounds, Ne.symm hq]
  have hS2 : va_S A s.heap ((T.setVm vm').setCell a cd').heap (locs ++ (cs.stretch sp.toNatClampNeg j).zipIdx.map fun q => ⟨a, dp.toNatClampNeg + q.2⟩) := by
    rw [hh2]
    refine ⟨by simp; exact hS.1, fun q g1 g2 => ?_, fun q hq => ?_⟩
    · rw [oq q (fun e => g2 (by rw [e]; exact hA))]
      exact hS.2.1 q g1 g2
    · rcases List.mem_append.mp hq with h | h
      · exact hS.2.2 q h
      · obtain ⟨z, -, hz⟩ := List.mem_map.mp h
        rw [← hz]
        exact hA
  obtain ⟨S, q, ce, ⟨hh, hold⟩, st, XS, hce, hcl, hv⟩ := vx_nv hexec hl X2 hcls hnames hsoe hoom hat hgood hU hN hS2 htext hnb hnb1 (g := F0 m pc ls rest) (nf := { method := r, args := #[.ref a0, .int sp, .ref a, .int dp, .int n], locked := none }) rfl rfl hml.symm hRframes (by show 2 * 0 + (rest.map fun v => v.category).sum + 10240 ≤ R.locals; omega) hshort hRcells hRslots hlocks
  rw [hh2] at hh hold
  have hsz : (H.setIfInBounds a cd').size = H.size := by simp
  rw [hsz] at hh hold
  obtain ⟨t, tst, tq⟩ := kk S.heap _ q ce hh (by rw [hold a hlt]; simp [Array.getElem?_setIfInBounds, hlt]) (fun b hb hba => by rw [hold b hb]; exact oq b hba) ⟨Nat.le_trans hS.1 hh, fun b g1 g2 => by
      rw [hold b (Nat.lt_of_lt_of_le g1 hS.1)]
      exact hh2 ▸ hS2.2.1 b g1 g2, hS2.2.2⟩ hce hv hcl S rfl XS
  refine ⟨t, step t fun acts => ?_, tq⟩
  have hfe : (((T.setVm vm').setTop (F0 m pc ls rest)).pushFrame (.native { method := r, args := #[.ref a0, .int sp, .ref a, .int dp, .int n], locked := none })) = (T.setVm vm').setFrames (.native { method := r, args := #[.ref a0, .int sp, .ref a, .int dp, .int n], locked := none } :: .java (F0 m pc ls rest) :: below) := by
    obtain ⟨g₀, hfr⟩ := X'.frames_eq
    rw [State.pushFrame, State.frames_setTop _ hfr, State.setTop_of_frames _ hfr, State.setFrames_setFrames]
  have hseen : seenByNative methS #[.ref a0, .int sp, .ref a, .int dp, .int n] = #[.ref a0, .int sp, .ref a, .int dp, .int n] := by simp [seenByNative, N.static, N.sig, narrow]
  refine Steps.nativeThrowsNote (g := F0 m pc ls rest) (row := arraycopyRow) (cls := cls) (msg := some text) (T := fun u => u.setCell a cd') X'.here acts N'.cls N'.meth N'.boot N'.native N'.noCode N'.noLock (by rw [N'.className, N'.name, N'.desc]; exact arraycopy_row p)
    (by rw [N'.className, N'.name]; exact X'.notFull (g := F0 m pc ls rest) hml.symm (vars := nativeFrameWords "java/lang/System" "arraycopy" 5) (by omega) (by show 2 * 0 + (rest.map fun v => v.category).sum + (nativeFrameWords "java/lang/System" "arraycopy" 5 + 11) ≤ R.locals; have hnw : nativeFrameWords "java/lang/System" "arraycopy" 5 ≤ 100 := (by decide); omega)) ?_ ?_
  · intro E hE
    rw [show seenByNative methS [Value.ref a0, .int sp, .ref a, .int dp, .int n].toArray = #[.ref a0, .int sp, .ref a, .int dp, .int n] from hseen, hfe] at hE ⊢
    rw [arraycopyRow_sem]
    exact hwp (T.setVm vm') hheap X'.warmed.alike _ E hE
  · rw [show seenByNative methS [Value.ref a0, .int sp, .ref a, .int dp, .int n].toArray = #[.ref a0, .int sp, .ref a, .int dp, .int n] from hseen, hfe]
    obtain ⟨g₁, hfrB⟩ := XS.frames_eq
    obtain ⟨g₂, hfr2⟩ := X2.frames_eq
    have e1 : (((T.setVm vm').setFrames (.native { method := r, args := #[.ref a0, .int sp, .ref a, .int dp, .int n], locked := none } :: .java (F0 m pc ls rest) :: below)).setCell a cd').pushFrame (.throwNew cls (some text) none) = ((T.setVm vm').setCell a cd').setFrames (.throwNew cls (some text) none :: .native { method := r, args := #[.ref a0, .int sp, .ref a, .int dp, .int n], locked := none } :: .java (F0 m pc ls rest) :: below) := by
      have hcur : ((T.setVm vm').setCell a cd').cur < ((T.setVm vm').setCell a cd').threads.size := State.cur_lt_of_frames hfr2
      show (((T.setVm vm').setCell a cd').setFrames _).pushFrame _ = _
      rw [State.pushFrame, State.frames_setFrames _ hcur, State.setFrames_setFrames]
    show Steps p.tables e below ((((T.setVm vm').setFrames _).setCell a cd').pushFrame _) t
    rw [e1]
    refine st.trans ?_
    refine Steps.throwingLeavesNative ⟨XS.here.running, XS.here.runnable, XS.here.alone⟩ (State.cur_lt_of_frames hfrB) ⟨[.java (F0 m pc ls rest)], rfl⟩ rfl rfl ?_
    have hV : (S.setTop (F0 m pc ls rest)).pushFrame (.throwing q) = S.setFrames (.throwing q :: .java (F0 m pc ls rest) :: below) := by
      rw [State.pushFrame, State.frames_setTop _ hfrB, State.setTop_of_frames _ hfrB, State.setFrames_setFrames]
    rw [← hV]
    exact tst
end VCT
theorem SA.kn (t : FieldType) : SA 12 (Native.java_lang_System.arraycopy.kindName t) := by
  cases t <;> first | exact ⟨by decide, by decide⟩ | exact (⟨by decide, by decide⟩ : SA 12 "object array")
theorem SA.arr (t : FieldType) {n : Nat} (hn : n < 10 ^ 9) : SA 23 (Native.java_lang_System.arraycopy.kindName t ++ "[" ++ toString n ++ "]") := by
  have h1 : SA 1 "[" := ⟨by decide, by decide⟩
  have h2 : SA 1 "]" := ⟨by decide, by decide⟩
  exact (((SA.kn t).app h1).app (SA.nat (k := 9) (by decide) hn)).app h2
theorem SA.fault {t0 t1 : FieldType} {n0 n1 : Nat} {sp dp n : Int32} {what : String} (h0 : n0 < 10 ^ 9) (h1 : n1 < 10 ^ 9) (h : copyFault t0 t1 n0 n1 sp dp n = some what) : SA 98 ("arraycopy: " ++ what) ∧ (("arraycopy: " ++ what) == notModelled) = false := by
  refine ⟨?_, nm_no (c := 'a') (nm_app rfl) (by decide)⟩
  have a0 : SA 11 "arraycopy: " := ⟨by decide, by decide⟩
  have ob : SA 19 " out of bounds for " := ⟨by decide, by decide⟩
  have li : ∀ x y : Int32, SA 11 (toString (x.toInt + y.toInt)) := fun x y => SA.int (k := 10) (by decide) (by
    have h1 := Int32.toInt_lt x
    have h2 := Int32.le_toInt x
    have h3 := Int32.toInt_lt y
    have h4 := Int32.le_toInt y
    omega)
  have sub : SA 87 what → SA 98 ("arraycopy: " ++ what) := fun z => a0.app z
  refine sub ?_
  unfold copyFault at h
  split at h
  · cases h
    have p : SA 13 "source index " := ⟨by decide, by decide⟩
    exact ((((p.app (SA.i32 sp)).app ob).app (SA.arr t0 h0))).mono (b := 87) (by decide)
  split at h
  · cases h
    have p : SA 18 "destination index " := ⟨by decide, by decide⟩
    exact ((((p.app (SA.i32 dp)).app ob).app (SA.arr t1 h1))).mono (b := 87) (by decide)
  split at h
  · cases h
    have p : SA 7 "length " := ⟨by decide, by decide⟩
    have p2 : SA 12 " is negative" := ⟨by decide, by decide⟩
    exact ((p.app (SA.i32 n)).app p2).mono (b := 87) (by decide)
  split at h
  · cases h
    have p : SA 18 "last source index " := ⟨by decide, by decide⟩
    exact ((((p.app (li sp n)).app ob).app (SA.arr t0 h0))).mono (b := 87) (by decide)
  split at h
  · cases h
    have p : SA 23 "last destination index " := ⟨by decide, by decide⟩
    exact ((((p.app (li dp n)).app ob).app (SA.arr t1 h1))).mono (b := 87) (by decide)
  · cases h
theorem SA.types (t0 t1 : FieldType) : SA 98 ("arraycopy: type mismatch: can not copy " ++ Native.java_lang_System.arraycopy.kindName t0 ++ "[] into " ++ Native.java_lang_System.arraycopy.kindName t1 ++ "[]") ∧ (("arraycopy: type mismatch: can not copy " ++ Native.java_lang_System.arraycopy.kindName t0 ++ "[] into " ++ Native.java_lang_System.arraycopy.kindName t1 ++ "[]") == notModelled) = false := by
  have p1 : SA 39 "arraycopy: type mismatch: can not copy " := ⟨by decide, by decide⟩
  have p2 : SA 8 "[] into " := ⟨by decide, by decide⟩
  have p3 : SA 2 "[]" := ⟨by decide, by decide⟩
  exact ⟨((((p1.app (SA.kn t0)).app p2).app (SA.kn t1)).app p3).mono (by decide), nm_no (c := 'a') (nm_app (nm_app (nm_app (nm_app rfl)))) (by decide)⟩
theorem copyFault_no {t0 t1 : FieldType} {n0 n1 : Nat} {sp dp n : Int32} (h : copyFault t0 t1 n0 n1 sp dp n = none) : ¬ sp < 0 ∧ ¬ dp < 0 ∧ ¬ n < 0 ∧ ¬ sp.toInt + n.toInt > n0 ∧ ¬ dp.toInt + n.toInt > n1 := by
  unfold copyFault at h
  split at h
  · cases h
  split at h
  · cases h
  split at h
  · cases h
  split at h
  · cases h
  split at h
  · cases h
  exact ⟨‹_›, ‹_›, ‹_›, ‹_›, ‹_›⟩
