/-! ===== the V layer: the machine's steps over an abstract heap (a partial map from addresses to cells' contents) ===== -/
set_option maxRecDepth 100000
abbrev hp_h : Type := Nat → Option va_E
abbrev hp_G : Type := va_G × (Nat → ClassId)
/-- the classes whose objects the system makes; a class is told by its place here -/
def CLS : List vw_C := [(RX1, TX1, 17), (RJ2, TJ2, 3), (RX2, TX2, 2), (RX24, TX24, 6), (RX25, TX25, 8), (RX21, TX21, 2), (RX22, TX22, 2), (RX23, TX23, 2), (RX26, TX26, 7), (RX20, TX20, 33), (RX4, TX4, 3), (RX6, TX6, 6), (RX8, TX8, 7), (RX10, TX10, 7), (RX11, TX11, 7), (RX12, TX12, 6), (RX13, TX13, 6), (RX14, TX14, 7), (RX15, TX15, 7), (RX16, TX16, 7), (RX17, TX17, 3), (RX18, TX18, 3), (RX19, TX19, 6)]
/-- the array classes: 0 .. 10 as the program numbers its kinds of rows, then Object[], Plan[], Act[], Helper[] -/
def TYS (d : Nat → ClassId) : List (ClassId × FieldType) := [(d 0, .boolean), (d 1, .byte), (d 2, .char), (d 3, .short), (d 4, .int), (d 5, .long), (d 6, .float), (d 7, .double), (d 8, .object RX21), (d 9, .object RX22), (d 10, .array .int), (d 11, .object "java/lang/Object"), (d 12, .object RX2), (d 13, .object RX24), (d 14, .object RX3)]
def hp_A (N0 : Nat) : Nat → Prop := fun q => N0 ≤ q
def hp_P (G : hp_G) (A : Nat → Prop) (h : hp_h) (H : Heap) : Prop := ∃ ws : va_W, va_P G.1 CLS ws H ∧ va_D A ws ∧ ∀ (a : Nat) (e : va_E), h a = some e ↔ ∃ k : Nat, ws[k]? = some (a, e)
def hp_up (h : hp_h) (a : Nat) (e : va_E) : hp_h := fun q => if q = a then some e else h q
theorem hp_up_s {h : hp_h} {a : Nat} {e : va_E} : hp_up h a e a = some e := by simp [hp_up]
theorem hp_up_n {h : hp_h} {a q : Nat} {e : va_E} (n : q ≠ a) : hp_up h a e q = h q := by simp [hp_up, n]
theorem hp_ne {h : hp_h} {a q : Nat} {e e' : va_E} (h1 : h a = some e) (h2 : h q = some e') (n : e ≠ e') : a ≠ q := by
  intro z
  subst z
  rw [h1] at h2
  exact n (Option.some.inj h2)
theorem hp_ne0 {h : hp_h} {a q : Nat} {e : va_E} (h1 : h a = some e) (h2 : h q = none) : a ≠ q := by
  intro z
  subst z
  rw [h1] at h2
  cases h2
theorem hp_iff_set {A : Nat → Prop} {h : hp_h} {ws : va_W} {p a : Nat} {e0 e1 : va_E} (hD : va_D A ws) (hw : ∀ (a : Nat) (e : va_E), h a = some e ↔ ∃ k : Nat, ws[k]? = some (a, e)) (hp : ws[p]? = some (a, e0)) :
    ∀ (b : Nat) (e : va_E), hp_up h a e1 b = some e ↔ ∃ k : Nat, (ws.set p (a, e1))[k]? = some (b, e) := by
  have hl := (List.getElem?_eq_some_iff.mp hp).1
  intro b e
  by_cases hb : b = a
  · subst hb
    rw [hp_up_s]
    constructor
    · intro z
      cases z
      exact ⟨p, List.getElem?_set_self hl⟩
    · rintro ⟨k, hk⟩
      by_cases hkp : k = p
      · subst hkp
        rw [List.getElem?_set_self hl] at hk
        cases hk
        rfl
      · rw [List.getElem?_set_ne (Ne.symm hkp)] at hk
        exact absurd (hD.1 k p _ _ hk hp rfl) hkp
  · rw [hp_up_n hb, hw b e]
    constructor
    · rintro ⟨k, hk⟩
      refine ⟨k, ?_⟩
      rw [List.getElem?_set_ne, hk]
      intro z
      subst z
      rw [hp] at hk
      cases hk
      exact hb rfl
    · rintro ⟨k, hk⟩
      refine ⟨k, ?_⟩
      by_cases hkp : k = p
      · subst hkp
        rw [List.getElem?_set_self hl] at hk
        cases hk
        exact absurd rfl hb
      · rwa [List.getElem?_set_ne (Ne.symm hkp)] at hk
theorem hp_fresh {A : Nat → Prop} {h : hp_h} {ws : va_W} {q : Nat} {e1 : va_E} (hD : va_D A (ws ++ [(q, e1)])) (hw : ∀ (a : Nat) (e : va_E), h a = some e ↔ ∃ k : Nat, ws[k]? = some (a, e)) : h q = none := by
  cases hq : h q with
  | none => rfl
  | some e =>
    obtain ⟨k, hk⟩ := (hw q e).mp hq
    have hl := (List.getElem?_eq_some_iff.mp hk).1
    have h1 : (ws ++ [(q, e1)])[k]? = some (q, e) := by rw [List.getElem?_append_left hl]; exact hk
    have h2 : (ws ++ [(q, e1)])[ws.length]? = some (q, e1) := by simp
    have h3 := hD.1 k ws.length _ _ h1 h2 rfl
    omega
theorem hp_iff_push {A : Nat → Prop} {h : hp_h} {ws : va_W} {q : Nat} {e1 : va_E} (hD : va_D A (ws ++ [(q, e1)])) (hw : ∀ (a : Nat) (e : va_E), h a = some e ↔ ∃ k : Nat, ws[k]? = some (a, e)) :
    ∀ (b : Nat) (e : va_E), hp_up h q e1 b = some e ↔ ∃ k : Nat, (ws ++ [(q, e1)])[k]? = some (b, e) := by
  have hn := hp_fresh hD hw
  intro b e
  by_cases hb : b = q
  · subst hb
    rw [hp_up_s]
    constructor
    · intro z
      cases z
      exact ⟨ws.length, by simp⟩
    · rintro ⟨k, hk⟩
      have h3 := hD.1 k ws.length _ (b, e1) hk (by simp) rfl
      subst h3
      simp at hk
      rw [hk]
  · rw [hp_up_n hb, hw b e]
    constructor
    · rintro ⟨k, hk⟩
      have hl := (List.getElem?_eq_some_iff.mp hk).1
      exact ⟨k, by rw [List.getElem?_append_left hl]; exact hk⟩
    · rintro ⟨k, hk⟩
      refine ⟨k, ?_⟩
      by_cases hl : k < ws.length
      · rwa [List.getElem?_append_left hl] at hk
      · rw [List.getElem?_append_right (by omega)] at hk
        have hz : k - ws.length < 1 := (List.getElem?_eq_some_iff.mp hk).1
        have hk0 : k - ws.length = 0 := by omega
        rw [hk0] at hk
        simp at hk
        exact absurd hk.1.symm hb
theorem hp_P.kept {G : hp_G} {A : Nat → Prop} {h : hp_h} {H H1 : Heap} (hP : hp_P G A h H) (hq : ∀ q : Nat, q < H.size → A q → H1[q]? = H[q]?) : hp_P G A h H1 := by
  obtain ⟨ws, h1, h2, h3⟩ := hP
  exact ⟨ws, h1.kept (fun k q hk => hq q.1 (h1 k q hk).lt (h2.2 k q hk)), h2, h3⟩
theorem hp_P.lt {G : hp_G} {A : Nat → Prop} {h : hp_h} {H : Heap} (hP : hp_P G A h H) {a : Nat} {e : va_E} (ha : h a = some e) : a < H.size := by
  obtain ⟨ws, h1, h2, h3⟩ := hP
  obtain ⟨k, hk⟩ := (h3 a e).mp ha
  exact (h1 k _ hk).lt
theorem hp_P.in {G : hp_G} {A : Nat → Prop} {h : hp_h} {H : Heap} (hP : hp_P G A h H) {a : Nat} {e : va_E} (ha : h a = some e) : A a := by
  obtain ⟨ws, h1, h2, h3⟩ := hP
  obtain ⟨k, hk⟩ := (h3 a e).mp ha
  exact h2.2 k _ hk
/-! words that the tables alone hold, carried by each contract -/
def nw_ok : Cond → Bool
  | .fieldLinkNest .. => true
  | .methodLinkNest .. => true
  | .castable .. => true
  | .declares .. => true
  | _ => false
def NW (U : State) : Prop := ∀ w ∈ lw_tbl, nw_ok w = true → va_Nw w U
theorem NW.warm {s U : State} (hW : s.WarmedH U.vm) (h : NW s) : NW U := by
  intro w hw hk
  have h1 := h w hw hk
  cases w <;> first | (simp [nw_ok] at hk; done) | exact va_Nw.warmF hW h1 | exact va_Nw.warmM hW h1 | exact va_Nw.warmC hW h1 | exact va_Nw.warmD hW h1
/-- arrays over a class -/
def AOS : List String := ["NativeSubset$Plan", "NativeSubset$Act", "NativeSubset$Helper", "NativeSubset$Unit", "NativeSubset$Card", "java/lang/Object"]
def AOK (U : State) : Prop := (∀ C ∈ AOS, va_AO C U) ∧ (Cond.arrayOver (.array .int)).before #[] U = true
theorem AOK.warm {s U : State} (hW : s.WarmedH U.vm) (h : AOK s) : AOK U := ⟨fun C hC => va_AO.moved hW.alike (h.1 C hC), over_moved hW.alike h.2⟩
/-- interface calls: class of the receiver, method named, method that runs -/
def yPb : MethodName := ⟨RX28, "base", "()I"⟩
def yPl : MethodName := ⟨RX28, "length", "(I)I"⟩
def yPp : MethodName := ⟨RX28, "price", "(II)I"⟩
def yQl : MethodName := ⟨RX27, "least", "()I"⟩
def yQf : MethodName := ⟨RX27, "fee", "()I"⟩
def yHb : MethodName := ⟨RX3, "base", "()I"⟩
def yHl : MethodName := ⟨RX3, "length", "(I)I"⟩
def ySl : MethodName := ⟨RX15, "length", "(I)I"⟩
def HLP : List String := [RX4, RX6, RX8, RX10, RX11, RX12, RX13, RX14, RX15, RX16, RX17, RX18, RX19]
def FWS : List (String × MethodName × MethodName) := [(RX21, yQl, ⟨RX21, "least", "()I"⟩), (RX22, yQl, ⟨RX22, "least", "()I"⟩), (RX23, yQl, ⟨RX22, "least", "()I"⟩)] ++ HLP.map (fun C => (C, yPb, yHb)) ++ HLP.map (fun C => (C, yPl, if C = RX15 then ySl else yHl))
def FWok (U : State) : Prop := ∀ t ∈ FWS, va_Fw t.1 t.2.1 t.2.2 U
theorem FWS_ok : ∀ t ∈ FWS, t.2.1.cls ≠ "java/lang/invoke/MethodHandle" ∧ t.2.1.cls ≠ "java/lang/invoke/VarHandle" := by decide +kernel
theorem FWok.warm {s U : State} (hW : s.WarmedH U.vm) (h : FWok s) : FWok U := fun t ht => va_Fw.moved (FWS_ok t ht) hW.alike (h t ht)
/-- default methods: class of the receiver, the method -/
def DFS : List (String × MethodName) := [(RX21, yQf), (RX22, yQf), (RX23, yQf)] ++ HLP.map (fun C => (C, yPp))
def DF (C : String) (x : MethodName) (U : State) : Prop := (Cond.declares x).before #[] U = true ∧ (Cond.interfaceMethod x.cls x.cls x.name x.desc).before #[] U = true ∧ (Cond.landsInDefault C x x).before #[] U = true ∧ (Cond.publicMethod x).before #[] U = true ∧ (Cond.castable C x.cls).before #[] U = true
def DFok (U : State) : Prop := ∀ t ∈ DFS, DF t.1 t.2 U
theorem DF.moved {C : String} {x : MethodName} (hx : x.cls ≠ "java/lang/invoke/MethodHandle" ∧ x.cls ≠ "java/lang/invoke/VarHandle") {u U : State} (hvm : u.vm.Alike U.vm) (h : DF C x u) : DF C x U := by
  obtain ⟨h1, h2, h3, h4, h5⟩ := h
  obtain ⟨r, meth, hn, -⟩ := Cond.declares_spec h1
  have tr : ∀ {c : Cond}, c.onTables = true → c.before #[] (u.setVm U.vm) = true → c.before #[] U = true := by
    intro c hc h
    have e := Cond.onTables_vm (A := #[]) (A' := #[]) (U := u) (U' := U) U.vm c hc
    have hU : U.setVm U.vm = U := rfl
    rw [hU] at e
    rw [← e]
    exact h
  exact ⟨tr rfl (by rw [Cond.declares_setVm hvm]; exact h1), tr rfl (by rw [Cond.interfaceMethod_setVm hvm (r := r) hn hx]; exact h2), (show (Cond.landsInDefault C x x).before #[] (u.setVm U.vm) = true by rw [Cond.landsInDefault_setVm hvm (State.methodFound?_setVm hvm _ _ _)]; exact h3), tr rfl (by rw [Cond.publicMethod_setVm hvm]; exact h4), tr rfl (by rw [Cond.castable_setVm hvm]; exact h5)⟩
theorem DFS_ok : ∀ t ∈ DFS, t.2.cls ≠ "java/lang/invoke/MethodHandle" ∧ t.2.cls ≠ "java/lang/invoke/VarHandle" := by decide +kernel
theorem DFok.warm {s U : State} (hW : s.WarmedH U.vm) (h : DFok s) : DFok U := fun t ht => DF.moved (DFS_ok t ht) hW.alike (h t ht)
/-- pairs of classes, the first not castable to the second -/
def NCL : List (String × String) := [("[Z", "[B"), ("[Z", "[C"), ("[Z", "[S"), ("[Z", "[I"), ("[Z", "[J"), ("[Z", "[F"), ("[Z", "[D"), ("[Z", "[LNativeSubset$Unit;"), ("[Z", "[LNativeSubset$Card;"), ("[Z", "[[I"), ("[B", "[Z"), ("[B", "[C"), ("[B", "[S"), ("[B", "[I"), ("[B", "[J"), ("[B", "[F"), ("[B", "[D"), ("[B", "[LNativeSubset$Unit;"), ("[B", "[LNativeSubset$Card;"), ("[B", "[[I"), ("[C", "[Z"), ("[C", "[B"), ("[C", "[S"), ("[C", "[I"), ("[C", "[J"), ("[C", "[F"), ("[C", "[D"), ("[C", "[LNativeSubset$Unit;"), ("[C", "[LNativeSubset$Card;"), ("[C", "[[I"), ("[S", "[Z"), ("[S", "[B"), ("[S", "[C"), ("[S", "[I"), ("[S", "[J"), ("[S", "[F"), ("[S", "[D"), ("[S", "[LNativeSubset$Unit;"), ("[S", "[LNativeSubset$Card;"), ("[S", "[[I"), ("[I", "[Z"), ("[I", "[B"), ("[I", "[C"), ("[I", "[S"), ("[I", "[J"), ("[I", "[F"), ("[I", "[D"), ("[I", "[LNativeSubset$Unit;"), ("[I", "[LNativeSubset$Card;"), ("[I", "[[I"), ("[J", "[Z"), ("[J", "[B"), ("[J", "[C"), ("[J", "[S"), ("[J", "[I"), ("[J", "[F"), ("[J", "[D"), ("[J", "[LNativeSubset$Unit;"), ("[J", "[LNativeSubset$Card;"), ("[J", "[[I"), ("[F", "[Z"), ("[F", "[B"), ("[F", "[C"), ("[F", "[S"), ("[F", "[I"), ("[F", "[J"), ("[F", "[D"), ("[F", "[LNativeSubset$Unit;"), ("[F", "[LNativeSubset$Card;"), ("[F", "[[I"), ("[D", "[Z"), ("[D", "[B"), ("[D", "[C"), ("[D", "[S"), ("[D", "[I"), ("[D", "[J"), ("[D", "[F"), ("[D", "[LNativeSubset$Unit;"), ("[D", "[LNativeSubset$Card;"), ("[D", "[[I"), ("[LNativeSubset$Unit;", "[Z"), ("[LNativeSubset$Unit;", "[B"), ("[LNativeSubset$Unit;", "[C"), ("[LNativeSubset$Unit;", "[S"), ("[LNativeSubset$Unit;", "[I"), ("[LNativeSubset$Unit;", "[J"), ("[LNativeSubset$Unit;", "[F"), ("[LNativeSubset$Unit;", "[D"), ("[LNativeSubset$Unit;", "[LNativeSubset$Card;"), ("[LNativeSubset$Unit;", "[[I"), ("[LNativeSubset$Card;", "[Z"), ("[LNativeSubset$Card;", "[B"), ("[LNativeSubset$Card;", "[C"), ("[LNativeSubset$Card;", "[S"), ("[LNativeSubset$Card;", "[I"), ("[LNativeSubset$Card;", "[J"), ("[LNativeSubset$Card;", "[F"), ("[LNativeSubset$Card;", "[D"), ("[LNativeSubset$Card;", "[[I"), ("[[I", "[Z"), ("[[I", "[B"), ("[[I", "[C"), ("[[I", "[S"), ("[[I", "[I"), ("[[I", "[J"), ("[[I", "[F"), ("[[I", "[D"), ("[[I", "[LNativeSubset$Unit;"), ("[[I", "[LNativeSubset$Card;"), ("java/lang/NullPointerException", "java/lang/IllegalArgumentException"), ("java/lang/NullPointerException", "java/lang/ArrayIndexOutOfBoundsException"), ("java/lang/NullPointerException", "java/lang/ArrayStoreException"), ("java/lang/NullPointerException", "java/lang/ClassCastException"), ("java/lang/NullPointerException", "java/lang/IndexOutOfBoundsException"), ("java/lang/NullPointerException", "NativeSubset$Failure"), ("java/lang/IllegalArgumentException", "java/lang/NullPointerException"), ("java/lang/IllegalArgumentException", "java/lang/ArrayIndexOutOfBoundsException"), ("java/lang/IllegalArgumentException", "java/lang/ArrayStoreException"), ("java/lang/IllegalArgumentException", "java/lang/ClassCastException"), ("java/lang/IllegalArgumentException", "java/lang/IndexOutOfBoundsException"), ("java/lang/IllegalArgumentException", "NativeSubset$Failure"), ("java/lang/ArrayIndexOutOfBoundsException", "java/lang/NullPointerException"), ("java/lang/ArrayIndexOutOfBoundsException", "java/lang/IllegalArgumentException"), ("java/lang/ArrayIndexOutOfBoundsException", "java/lang/ArrayStoreException"), ("java/lang/ArrayIndexOutOfBoundsException", "java/lang/ClassCastException"), ("java/lang/ArrayIndexOutOfBoundsException", "NativeSubset$Failure"), ("java/lang/ArrayStoreException", "java/lang/NullPointerException"), ("java/lang/ArrayStoreException", "java/lang/IllegalArgumentException"), ("java/lang/ArrayStoreException", "java/lang/ArrayIndexOutOfBoundsException"), ("java/lang/ArrayStoreException", "java/lang/ClassCastException"), ("java/lang/ArrayStoreException", "java/lang/IndexOutOfBoundsException"), ("java/lang/ArrayStoreException", "NativeSubset$Failure"), ("java/lang/ClassCastException", "java/lang/NullPointerException"), ("java/lang/ClassCastException", "java/lang/IllegalArgumentException"), ("java/lang/ClassCastException", "java/lang/ArrayIndexOutOfBoundsException"), ("java/lang/ClassCastException", "java/lang/ArrayStoreException"), ("java/lang/ClassCastException", "java/lang/IndexOutOfBoundsException"), ("java/lang/ClassCastException", "NativeSubset$Failure"), ("NativeSubset$Failure", "java/lang/NullPointerException"), ("NativeSubset$Failure", "java/lang/IllegalArgumentException"), ("NativeSubset$Failure", "java/lang/ArrayIndexOutOfBoundsException"), ("NativeSubset$Failure", "java/lang/ArrayStoreException"), ("NativeSubset$Failure", "java/lang/ClassCastException"), ("NativeSubset$Failure", "java/lang/IndexOutOfBoundsException"), ("NativeSubset$Unit", "NativeSubset$Card")]
def NCok (U : State) : Prop := (∀ q ∈ NCL, va_Nc q.1 q.2 U) ∧ va_Nw (.castable "[LNativeSubset$Card;" "[LNativeSubset$Unit;") U
theorem NCok.warm {s U : State} (hW : s.WarmedH U.vm) (h : NCok s) : NCok U := ⟨fun q hq => (h.1 q hq).moved hW.alike, va_Nw.warmC hW h.2⟩
/-- what lies outside the system's own cells, and stays: the empty array of an ArrayList, two statics of Throwable -/
def SF (E0 : Nat) (A : Nat → Prop) (U : State) (H : Heap) : Prop := va_Z "java/util/ArrayList" "DEFAULTCAPACITY_EMPTY_ELEMENTDATA" "[Ljava/lang/Object;" (.ref E0) A U H ∧ va_T (.object "java/lang/Object") E0 0 (fun _ => .null) A U H ∧ vx_Zq Bundle.tN "UNASSIGNED_STACK" Bundle.steD A U H ∧ vx_Zq Bundle.tN "SUPPRESSED_SENTINEL" Bundle.listD A U H
theorem SF.moved {E0 : Nat} {A : Nat → Prop} {u U : State} {H : Heap} (hvm : u.vm.Alike U.vm) (h : SF E0 A u H) : SF E0 A U H := ⟨va_Z.moved hvm h.1, va_T.moved hvm h.2.1, vx_Zq.moved hvm h.2.2.1, vx_Zq.moved hvm h.2.2.2⟩
theorem SF.kept {E0 : Nat} {A : Nat → Prop} {U : State} {H H1 : Heap} (h : SF E0 A U H) (hq : ∀ a : Nat, a < H.size → ¬ A a → H1[a]? = H[a]?) : SF E0 A U H1 := ⟨h.1.kept hq, h.2.1.kept hq, h.2.2.1.kept hq, h.2.2.2.kept hq⟩
/-- the tables' part: the same all through a run -/
def KT (G : hp_G) (X : Nat → Nat) (U : State) : Prop := va_K G.1 CLS (TYS G.2) U ∧ NW U ∧ AOK U ∧ FWok U ∧ DFok U ∧ NCok U ∧ va_Dc U ∧ va_Mi "[Ljava/lang/Object;" (X 1) U ∧ modulesRight_1 U = true
theorem KT.warm {G : hp_G} {X : Nat → Nat} {s U : State} (hW : s.WarmedH U.vm) (h : KT G X s) : KT G X U := by
  obtain ⟨h1, h2, h3, h4, h5, h6, h7, h8, h9⟩ := h
  refine ⟨va_K.moved hW.alike h1, h2.warm hW, h3.warm hW, h4.warm hW, h5.warm hW, h6.warm hW, h7.moved hW.alike, h8.moved hW.alike, ?_⟩
  have e : U.vm.modules = s.vm.modules := by rw [hW.alike.1]
  unfold modulesRight_1 at h9 ⊢
  rw [e]
  exact h9
theorem KT.call {G : hp_G} {X : Nat → Nat} {U : State} {g : JFrame} {mk : MethodId} {a : Array Value} (h : KT G X U) : KT G X (U.calling g mk a) := h.warm (U := U.calling g mk a) (State.WarmedH.refl U)
def KK (G : hp_G) (X : Nat → Nat) (N0 : Nat) (U : State) (H : Heap) : Prop := KT G X U ∧ SF (X 0) (hp_A N0) U H
/-- what a walk stands on: the machine, the code, the words, the tables, what lies outside -/
def Cx (p : Program) (l : Launch) (s : State) (m : MethodId) (args : Array Value) (meth : Method) (c : Code) (cc : ByteArray) (own : String) (nL : Nat) (ret : Option FieldType) (hh : List (Nat × Nat × Nat × Nat)) (G : hp_G) (X : Nat → Nat) (N0 : Nat) : Prop :=
  p.tables.exec = Jvm.exec ∧ c.code = cc ∧ c.maxLocals = nL ∧ s.vm.findClass own = some m.cls ∧ (∀ w ∈ lw_all, w.before args s = true) ∧ meth.sig.returnType = ret ∧ meth.locks = false ∧ c.exceptionTable.toList = tableOf hh ∧ KK G X N0 s s.heap ∧ N0 ≤ s.heap.size ∧ l.stackTraces = false
theorem Cx.w {p : Program} {l : Launch} {s : State} {m : MethodId} {args : Array Value} {meth : Method} {c : Code} {cc : ByteArray} {own : String} {nL : Nat} {ret : Option FieldType} {hh : List (Nat × Nat × Nat × Nat)} {G : hp_G} {X : Nat → Nat} {N0 : Nat} (C : Cx p l s m args meth c cc own nL ret hh G X N0) {w : Cond} (h : w ∈ lw_all) : w.before args s = true := C.2.2.2.2.1 w h
/-- the walk: at pc, with the locals L, the operand stack st, over the abstract heap h -/
def V (p : Program) (l : Launch) (e : Env) (R : Room) (s : State) (m : MethodId) (args : Array Value) (below : List Frame) (meth : Method) (c : Code) (G : hp_G) (N0 nL : Nat) (Q : State → Prop) (cells slots : Nat) (h : hp_h) (pc : Nat) (L : List (Nat × Value)) (st : List Value) : Prop :=
  ∀ (ls : Array Slot) (H : Heap) (locs : List Loc), lv_has ls nL L → hp_P G (hp_A N0) h H → va_S (hp_A N0) s.heap H locs → W p l e R s m args below meth c H locs cells slots Q (F0 m pc ls st)
/-- .. with q, of class E, thrown there -/
def VX (p : Program) (l : Launch) (e : Env) (R : Room) (s : State) (m : MethodId) (args : Array Value) (below : List Frame) (meth : Method) (c : Code) (G : hp_G) (N0 nL : Nat) (Q : State → Prop) (cells slots : Nat) (h : hp_h) (pc : Nat) (L : List (Nat × Value)) (q : Nat) (E : String) : Prop :=
  ∀ (ls : Array Slot) (H : Heap) (locs : List Loc) (rest : List Value) (ce : Cell), lv_has ls nL L → hp_P G (hp_A N0) h H → va_S (hp_A N0) s.heap H locs → H[q]? = some ce → ce.vm = .none → s.vm.findClass E = some ce.cls → vx_W p l e R s m args below meth c H locs cells slots Q (F0 m pc ls rest) q
section HPP
variable {p : Program} {l : Launch} {e : Env} {R : Room} {s : State} {m : MethodId} {args : Array Value} {below : List Frame} {meth : Method} {c : Code} {H : Heap} {locs : List Loc} {cells slots : Nat} {Q : State → Prop}
variable {cc : ByteArray} {pc : Nat} {ls : Array Slot} {rest : List Value} {D : va_G} {cl : List vw_C} {A : Nat → Prop} {a : Nat} {tys : List (ClassId × FieldType)} {ws : va_W} {H0 : Heap}
theorem hp_final {C O f d O' f' d' : String} (h : (Cond.laysFinal C O f d).before args s = true) (h' : (Cond.laysFinal C O' f' d').before args s = true)
    {cf kf fi fd cf' kf' fi' fd'} (hi : s.fieldFound? O f d = some (cf, kf, fi, fd)) (hi' : s.fieldFound? O' f' d' = some (cf', kf', fi', fd')) (hne : O ≠ O') : fd.slot ≠ fd'.slot := by
  obtain ⟨c1, k1, a1, b1, i1, g1, u1, u2, u3, -, -, -, u4, -, d1, u5, u6, -, -⟩ := Cond.laysFinal_spec h
  obtain ⟨c2, k2, a2, b2, i2, g2, v1, v2, v3, -, -, -, v4, -, d2, v5, v6, -, -⟩ := Cond.laysFinal_spec h'
  cases hi.symm.trans u3
  cases hi'.symm.trans v3
  cases u1.symm.trans v1
  intro z
  rw [z] at u5
  cases u5.symm.trans v5
  obtain ⟨x1, y1, n1⟩ := Vm.findClass_spec u4
  obtain ⟨x2, y2, n2⟩ := Vm.findClass_spec v4
  cases y1.symm.trans (State.fieldFound?_spec hi).1
  cases y2.symm.trans (State.fieldFound?_spec hi').1
  exact hne (n1.symm.trans (u6.symm.trans (v6.trans n2)))
theorem hp_apart {C : String} {T : u_T} {N ci : Nat} {Ts : List Cond} (hts : ∀ w ∈ Ts, w.before args s = true) (hin : ∀ w ∈ u_ws C T N, w ∈ Ts) (ty : Nat → FieldType) (hty : ∀ k, k < N → parseFieldDescriptor (T k).2.2.1 = some (ty k)) (hnm : ∀ a, a < N → ∀ b, b < N → a ≠ b → (T a).2.1 ≠ (T b).2.1 ∨ ((T a).1 ≠ (T b).1 ∧ (T a).2.2.2 = true ∧ (T b).2.2.2 = true)) (hK : va_K D cl tys s) (hc : cl[ci]? = some (C, T, N)) : ∀ x y, x < N → y < N → x ≠ y → (D.2 ci) x ≠ (D.2 ci) y := by
  intro x y hx hy hne
  obtain ⟨hS, -⟩ := hK.1 ci _ hc
  obtain ⟨_, _, _, fa, hia, ea⟩ := hS x hx
  obtain ⟨_, _, _, fb, hib, eb⟩ := hS y hy
  rw [← ea, ← eb]
  rcases hnm x hx y hy hne with h1 | ⟨h1, h2, h3⟩
  · refine u_apart (u_lays hts hin hx) (u_lays hts hin hy) hia hib ?_
    rw [(State.fieldFound?_type hia (hty x hx)).1, (State.fieldFound?_type hib (hty y hy)).1]
    exact h1
  · have l1 := hts _ (hin _ (u_in_lay hx))
    have l2 := hts _ (hin _ (u_in_lay hy))
    unfold u_lay at l1 l2
    rw [if_pos h2] at l1
    rw [if_pos h3] at l2
    exact hp_final l1 l2 hia hib h1
theorem hp_put (hexec : p.tables.exec = Jvm.exec) (hb : c.code = cc) {own ref C : String} {T : u_T} {N ci index : Nat} {Ts : List Cond} (hts : ∀ w ∈ Ts, w.before args s = true) (hin : ∀ w ∈ u_ws C T N, w ∈ Ts) (ty0 : Nat → FieldType) (hty : ∀ k, k < N → parseFieldDescriptor (T k).2.2.1 = some (ty0 k)) (hnm : ∀ a, a < N → ∀ b, b < N → a ≠ b → (T a).2.1 ≠ (T b).2.1 ∨ ((T a).1 ≠ (T b).1 ∧ (T a).2.2.2 = true ∧ (T b).2.2.2 = true)) (hown : s.vm.findClass own = some m.cls) (hK : va_K D cl tys s) (hP : va_P D cl ws H) (hD : va_D A ws) (hS0 : va_S A H0 H locs) (q0 : Nat) {fs : List Value} (he : ws[q0]? = some (a, .inr (ci, fs))) (hc : cl[ci]? = some (C, T, N)) (k : Nat) (hk : k < N) (hlink : (Cond.fieldLink own index ref (T k).2.1 (T k).2.2.1).before args s = true) (hsame : ∀ x, s.fieldFound? (T k).1 (T k).2.1 (T k).2.2.1 = some x → s.fieldFound? ref (T k).2.1 (T k).2.2.1 = some x) (hfin : (T k).2.2.2 = false) {ty : FieldType} {v : Value} (hd : parseFieldDescriptor (T k).2.2.1 = some ty) (hn : narrow ty v = v) (hfit : fits ty v = true) (hl : k < fs.length)
    (hdg : decode cc pc = .ok (.putfield index, 3)) (kk : ∀ (H1 : Heap) (locs1 : List Loc), va_P D cl (ws.set q0 (a, .inr (ci, fs.set k v))) H1 → va_D A (ws.set q0 (a, .inr (ci, fs.set k v))) → va_S A H0 H1 locs1 → W p l e R s m args below meth c H1 locs1 cells slots Q (F0 m (pc + 3) ls rest)) : W p l e R s m args below meth c H locs cells slots Q (F0 m pc ls (v :: .ref a :: rest)) := by
  have hap := hp_apart hts hin ty0 hty hnm hK hc
  obtain ⟨r, h1, cell, q1, q2, q3, q4⟩ := hP q0 _ he
  have hr : r = (C, T, N) := Option.some.inj (h1.symm.trans hc)
  subst hr
  obtain ⟨hS, hfc, kC, hkC, hkind⟩ := hK.1 ci _ hc
  obtain ⟨cf, kf, fi, f, hi, hsl⟩ := hS k hk
  have hlay := hts _ (hin _ (u_in_lay hk))
  unfold u_lay at hlay
  rw [if_neg (by rw [hfin]; decide)] at hlay
  have hst := (u_facts hfc hkC (u_lays hts hin hk) hi).1
  have h6 := u_store hfc hkC hkind hlay hi hd hn hfit
  refine W.putK hexec hb (f := f) ⟨hown, hlink, ⟨_, _, _, hsame _ hi⟩, hst⟩ (by rw [q2]; exact h6) q1 q3 (by rw [hsl]; exact k2_hasslot (q4 k hk)) rfl rfl hdg fun H' e1 e2 e3 => ?_
  rw [hsl] at e1 ⊢
  exact kk H' _ (hP.set hD he ⟨_, hc, t_OB.to (V := updV (vp_V fs) k v) ⟨_, e1, q2, q3, t_set q4 hap hk v⟩ (fun j _ => vp_updV_set hl v j)⟩ e3) (hD.set he) (hS0.put e2 e3 (hD.2 q0 _ he))
theorem hp_putF (hexec : p.tables.exec = Jvm.exec) (hb : c.code = cc) {own ref C : String} {T : u_T} {N ci index : Nat} {Ts : List Cond} (hts : ∀ w ∈ Ts, w.before args s = true) (hin : ∀ w ∈ u_ws C T N, w ∈ Ts) (ty0 : Nat → FieldType) (hty : ∀ k, k < N → parseFieldDescriptor (T k).2.2.1 = some (ty0 k)) (hnm : ∀ a, a < N → ∀ b, b < N → a ≠ b → (T a).2.1 ≠ (T b).2.1 ∨ ((T a).1 ≠ (T b).1 ∧ (T a).2.2.2 = true ∧ (T b).2.2.2 = true)) (hown : s.vm.findClass own = some m.cls) (hK : va_K D cl tys s) (hP : va_P D cl ws H) (hD : va_D A ws) (hS0 : va_S A H0 H locs) (q0 : Nat) {fs : List Value} (he : ws[q0]? = some (a, .inr (ci, fs))) (hc : cl[ci]? = some (C, T, N)) (k : Nat) (hk : k < N) (hlink : (Cond.fieldLink own index ref (T k).2.1 (T k).2.2.1).before args s = true) (hsame : ∀ x, s.fieldFound? (T k).1 (T k).2.1 (T k).2.2.1 = some x → s.fieldFound? ref (T k).2.1 (T k).2.2.1 = some x) (hfin : (T k).2.2.2 = true) (hin2 : meth.name = "<init>") (hdecl : (T k).1 = own) {ty : FieldType} {v : Value} (hd : parseFieldDescriptor (T k).2.2.1 = some ty) (hn : narrow ty v = v) (hfit : fits ty v = true) (hl : k < fs.length)
    (hdg : decode cc pc = .ok (.putfield index, 3)) (kk : ∀ (H1 : Heap) (locs1 : List Loc), va_P D cl (ws.set q0 (a, .inr (ci, fs.set k v))) H1 → va_D A (ws.set q0 (a, .inr (ci, fs.set k v))) → va_S A H0 H1 locs1 → W p l e R s m args below meth c H1 locs1 cells slots Q (F0 m (pc + 3) ls rest)) : W p l e R s m args below meth c H locs cells slots Q (F0 m pc ls (v :: .ref a :: rest)) := by
  have hap := hp_apart hts hin ty0 hty hnm hK hc
  obtain ⟨r, h1, cell, q1, q2, q3, q4⟩ := hP q0 _ he
  have hr : r = (C, T, N) := Option.some.inj (h1.symm.trans hc)
  subst hr
  obtain ⟨hS, hfc, kC, hkC, hkind⟩ := hK.1 ci _ hc
  obtain ⟨cf, kf, fi, f, hi, hsl⟩ := hS k hk
  have hlay := hts _ (hin _ (u_in_lay hk))
  unfold u_lay at hlay
  rw [if_pos hfin] at hlay
  have hst := (u_facts hfc hkC (u_lays hts hin hk) hi).1
  have hcf : m.cls = cf := by
    obtain ⟨_, _, c', _, _, _, -, -, hf', -, -, -, hown2, -⟩ := Cond.laysFinal_spec hlay
    have e1 : c' = cf := by have := hi.symm.trans hf'; simp at this; exact this.1.symm
    rw [hdecl] at hown2
    rw [← e1]; exact Option.some.inj (hown.symm.trans hown2)
  have h6 := u_fits hfc hkC hkind (Or.inr hlay) hi hd hn hfit
  refine W.putFinK hexec hb hown hlink (hsame _ hi) hst hcf hin2 (by rw [q2]; exact h6) q1 q3 (by rw [hsl]; exact k2_hasslot (q4 k hk)) rfl rfl hdg fun H' e1 e2 e3 => ?_
  rw [hsl] at e1 ⊢
  exact kk H' _ (hP.set hD he ⟨_, hc, t_OB.to (V := updV (vp_V fs) k v) ⟨_, e1, q2, q3, t_set q4 hap hk v⟩ (fun j _ => vp_updV_set hl v j)⟩ e3) (hD.set he) (hS0.put e2 e3 (hD.2 q0 _ he))
theorem hp_putN (hexec : p.tables.exec = Jvm.exec) (hb : c.code = cc) {own ref C host : String} {T : u_T} {N ci index : Nat} {Ts : List Cond} (hts : ∀ w ∈ Ts, w.before args s = true) (hin : ∀ w ∈ u_ws C T N, w ∈ Ts) (ty0 : Nat → FieldType) (hty : ∀ k, k < N → parseFieldDescriptor (T k).2.2.1 = some (ty0 k)) (hnm : ∀ a, a < N → ∀ b, b < N → a ≠ b → (T a).2.1 ≠ (T b).2.1 ∨ ((T a).1 ≠ (T b).1 ∧ (T a).2.2.2 = true ∧ (T b).2.2.2 = true)) (hown : s.vm.findClass own = some m.cls) (hK : va_K D cl tys s) (hP : va_P D cl ws H) (hD : va_D A ws) (hS0 : va_S A H0 H locs) (q0 : Nat) {fs : List Value} (he : ws[q0]? = some (a, .inr (ci, fs))) (hc : cl[ci]? = some (C, T, N)) (k : Nat) (hk : k < N) (hlink : (Cond.fieldLinkNest own index ref (T k).2.1 (T k).2.2.1 host).before args s = true) (hsame : ∀ x, s.fieldFound? (T k).1 (T k).2.1 (T k).2.2.1 = some x → s.fieldFound? ref (T k).2.1 (T k).2.2.1 = some x) (hfin : (T k).2.2.2 = false) {ty : FieldType} {v : Value} (hd : parseFieldDescriptor (T k).2.2.1 = some ty) (hn : narrow ty v = v) (hfit : fits ty v = true) (hl : k < fs.length)
    (hdg : decode cc pc = .ok (.putfield index, 3)) (kk : ∀ (H1 : Heap) (locs1 : List Loc), va_P D cl (ws.set q0 (a, .inr (ci, fs.set k v))) H1 → va_D A (ws.set q0 (a, .inr (ci, fs.set k v))) → va_S A H0 H1 locs1 → W p l e R s m args below meth c H1 locs1 cells slots Q (F0 m (pc + 3) ls rest)) : W p l e R s m args below meth c H locs cells slots Q (F0 m pc ls (v :: .ref a :: rest)) := by
  have hap := hp_apart hts hin ty0 hty hnm hK hc
  obtain ⟨r, h1, cell, q1, q2, q3, q4⟩ := hP q0 _ he
  have hr : r = (C, T, N) := Option.some.inj (h1.symm.trans hc)
  subst hr
  obtain ⟨hS, hfc, kC, hkC, hkind⟩ := hK.1 ci _ hc
  obtain ⟨cf, kf, fi, f, hi, hsl⟩ := hS k hk
  have hlay := hts _ (hin _ (u_in_lay hk))
  unfold u_lay at hlay
  rw [if_neg (by rw [hfin]; decide)] at hlay
  have hst := (u_facts hfc hkC (u_lays hts hin hk) hi).1
  have h6 := u_store hfc hkC hkind hlay hi hd hn hfit
  refine va_WputK hexec hb (f := f) hown hlink (hsame _ hi) hst (by rw [q2]; exact h6) q1 q3 (by rw [hsl]; exact k2_hasslot (q4 k hk)) rfl rfl hdg fun H' e1 e2 e3 => ?_
  rw [hsl] at e1 ⊢
  exact kk H' _ (hP.set hD he ⟨_, hc, t_OB.to (V := updV (vp_V fs) k v) ⟨_, e1, q2, q3, t_set q4 hap hk v⟩ (fun j _ => vp_updV_set hl v j)⟩ e3) (hD.set he) (hS0.put e2 e3 (hD.2 q0 _ he))
end HPP
section VRW
variable {p : Program} {l : Launch} {e : Env} {R : Room} {s : State} {m : MethodId} {args : Array Value} {below : List Frame} {meth : Method} {c : Code} {cc : ByteArray} {own : String} {nL : Nat} {ret : Option FieldType} {hh : List (Nat × Nat × Nat × Nat)} {G : hp_G} {X : Nat → Nat} {N0 : Nat} {Q : State → Prop} {cells slots : Nat} {M : hp_h} {pc : Nat} {L : List (Nat × Value)} {rest st : List Value}
theorem V_iconst (C : Cx p l s m args meth c cc own nL ret hh G X N0) {n : Int} {v : Int32} (hdg : decode cc pc = .ok (.iconst n, 1)) (hv : Int32.ofInt n = v) (k : V p l e R s m args below meth c G N0 nL Q cells slots M (pc + 1) L (.int v :: rest)) : V p l e R s m args below meth c G N0 nL Q cells slots M pc L (rest) := fun ls H locs hL hP hS => lv_iconst C.1 C.2.1 hdg hv (k ls H locs hL hP hS)
theorem V_bipush (C : Cx p l s m args meth c cc own nL ret hh G X N0) {n : Int} {v : Int32} (hdg : decode cc pc = .ok (.bipush n, 2)) (hv : (Int8.ofInt n).toInt32 = v) (k : V p l e R s m args below meth c G N0 nL Q cells slots M (pc + 2) L (.int v :: rest)) : V p l e R s m args below meth c G N0 nL Q cells slots M pc L (rest) := fun ls H locs hL hP hS => lv_bipush C.1 C.2.1 hdg hv (k ls H locs hL hP hS)
theorem V_sipush (C : Cx p l s m args meth c cc own nL ret hh G X N0) {n : Int} {v : Int32} (hdg : decode cc pc = .ok (.sipush n, 3)) (hv : (Int16.ofInt n).toInt32 = v) (k : V p l e R s m args below meth c G N0 nL Q cells slots M (pc + 3) L (.int v :: rest)) : V p l e R s m args below meth c G N0 nL Q cells slots M pc L (rest) := fun ls H locs hL hP hS => lv_sipush C.1 C.2.1 hdg hv (k ls H locs hL hP hS)
theorem V_lconst (C : Cx p l s m args meth c cc own nL ret hh G X N0) {n : Fin 2} {v : Int64} (hdg : decode cc pc = .ok (.lconst n, 1)) (hv : Int64.ofNat (n : Nat) = v) (k : V p l e R s m args below meth c G N0 nL Q cells slots M (pc + 1) L (.long v :: rest)) : V p l e R s m args below meth c G N0 nL Q cells slots M pc L (rest) := fun ls H locs hL hP hS => lv_lconst C.1 C.2.1 hdg hv (k ls H locs hL hP hS)
theorem V_iload_n (C : Cx p l s m args meth c cc own nL ret hh G X N0) {k : Fin 4} {i : Nat} {x : Int32} (hdg : decode cc pc = .ok (.iload_n k, 1)) (hi : (k : Nat) = i) (n_ : Nat) (hl : L[n_]? = some (i, (.int x))) (k : V p l e R s m args below meth c G N0 nL Q cells slots M (pc + 1) L (.int x :: rest)) : V p l e R s m args below meth c G N0 nL Q cells slots M pc L (rest) := fun ls H locs hL hP hS => lv_iload_n C.1 C.2.1 hdg hi (lv_at hL n_ hl) (k ls H locs hL hP hS)
theorem V_iload (C : Cx p l s m args meth c cc own nL ret hh G X N0) {i : Nat} {x : Int32} (hdg : decode cc pc = .ok (.iload i, 2)) (n_ : Nat) (hl : L[n_]? = some (i, (.int x))) (k : V p l e R s m args below meth c G N0 nL Q cells slots M (pc + 2) L (.int x :: rest)) : V p l e R s m args below meth c G N0 nL Q cells slots M pc L (rest) := fun ls H locs hL hP hS => lv_iload C.1 C.2.1 hdg (lv_at hL n_ hl) (k ls H locs hL hP hS)
theorem V_lload_n (C : Cx p l s m args meth c cc own nL ret hh G X N0) {k : Fin 4} {i : Nat} {x : Int64} (hdg : decode cc pc = .ok (.lload_n k, 1)) (hi : (k : Nat) = i) (n_ : Nat) (hl : L[n_]? = some (i, (.long x))) (k : V p l e R s m args below meth c G N0 nL Q cells slots M (pc + 1) L (.long x :: rest)) : V p l e R s m args below meth c G N0 nL Q cells slots M pc L (rest) := fun ls H locs hL hP hS => lv_lload_n C.1 C.2.1 hdg hi (lv_at hL n_ hl) (k ls H locs hL hP hS)
theorem V_lload (C : Cx p l s m args meth c cc own nL ret hh G X N0) {i : Nat} {x : Int64} (hdg : decode cc pc = .ok (.lload i, 2)) (n_ : Nat) (hl : L[n_]? = some (i, (.long x))) (k : V p l e R s m args below meth c G N0 nL Q cells slots M (pc + 2) L (.long x :: rest)) : V p l e R s m args below meth c G N0 nL Q cells slots M pc L (rest) := fun ls H locs hL hP hS => lv_lload C.1 C.2.1 hdg (lv_at hL n_ hl) (k ls H locs hL hP hS)
theorem V_aload_n (C : Cx p l s m args meth c cc own nL ret hh G X N0) {k : Fin 4} {i : Nat} {x : Nat} (hdg : decode cc pc = .ok (.aload_n k, 1)) (hi : (k : Nat) = i) (n_ : Nat) (hl : L[n_]? = some (i, (.ref x))) (k : V p l e R s m args below meth c G N0 nL Q cells slots M (pc + 1) L (.ref x :: rest)) : V p l e R s m args below meth c G N0 nL Q cells slots M pc L (rest) := fun ls H locs hL hP hS => lv_aload_n C.1 C.2.1 hdg hi (lv_at hL n_ hl) (k ls H locs hL hP hS)
theorem V_aload (C : Cx p l s m args meth c cc own nL ret hh G X N0) {i : Nat} {x : Nat} (hdg : decode cc pc = .ok (.aload i, 2)) (n_ : Nat) (hl : L[n_]? = some (i, (.ref x))) (k : V p l e R s m args below meth c G N0 nL Q cells slots M (pc + 2) L (.ref x :: rest)) : V p l e R s m args below meth c G N0 nL Q cells slots M pc L (rest) := fun ls H locs hL hP hS => lv_aload C.1 C.2.1 hdg (lv_at hL n_ hl) (k ls H locs hL hP hS)
theorem V_istore_n (C : Cx p l s m args meth c cc own nL ret hh G X N0) {k : Fin 4} {i nL : Nat} {x : Int32}  (hdg : decode cc pc = .ok (.istore_n k, 1)) (hi : (k : Nat) = i) (hn : i < nL) (L1 : List (Nat × Value)) (ks : List Nat) (hl : lv_pick ((i, Value.int x) :: L.filter (fun q => !(q.1 == i) && !(q.1 + 1 == i && q.2.category == 2))) ks = L1) (kk : V p l e R s m args below meth c G N0 nL Q cells slots M (pc + 1) L1 rest) : V p l e R s m args below meth c G N0 nL Q cells slots M pc L (.int x :: rest) := fun ls H locs hL hP hS => lv_istore_n C.1 C.2.1 hdg hi hL hn rfl (fun ls' hL' => kk ls' H locs (lv_sub hL' ks hl) hP hS)
theorem V_istore (C : Cx p l s m args meth c cc own nL ret hh G X N0) {i nL : Nat} {x : Int32}  (hdg : decode cc pc = .ok (.istore i, 2)) (hn : i < nL) (L1 : List (Nat × Value)) (ks : List Nat) (hl : lv_pick ((i, Value.int x) :: L.filter (fun q => !(q.1 == i) && !(q.1 + 1 == i && q.2.category == 2))) ks = L1) (kk : V p l e R s m args below meth c G N0 nL Q cells slots M (pc + 2) L1 rest) : V p l e R s m args below meth c G N0 nL Q cells slots M pc L (.int x :: rest) := fun ls H locs hL hP hS => lv_istore C.1 C.2.1 hdg hL hn rfl (fun ls' hL' => kk ls' H locs (lv_sub hL' ks hl) hP hS)
theorem V_lstore_n (C : Cx p l s m args meth c cc own nL ret hh G X N0) {k : Fin 4} {i nL : Nat} {x : Int64}  (hdg : decode cc pc = .ok (.lstore_n k, 1)) (hi : (k : Nat) = i) (hn : i + 1 < nL) (L1 : List (Nat × Value)) (ks : List Nat) (hl : lv_pick ((i, Value.long x) :: L.filter (fun q => !(q.1 == i) && (!(q.1 == i + 1) && !(q.1 + 1 == i && q.2.category == 2)))) ks = L1) (kk : V p l e R s m args below meth c G N0 nL Q cells slots M (pc + 1) L1 rest) : V p l e R s m args below meth c G N0 nL Q cells slots M pc L (.long x :: rest) := fun ls H locs hL hP hS => lv_lstore_n C.1 C.2.1 hdg hi hL hn rfl (fun ls' hL' => kk ls' H locs (lv_sub hL' ks hl) hP hS)
theorem V_lstore (C : Cx p l s m args meth c cc own nL ret hh G X N0) {i nL : Nat} {x : Int64}  (hdg : decode cc pc = .ok (.lstore i, 2)) (hn : i + 1 < nL) (L1 : List (Nat × Value)) (ks : List Nat) (hl : lv_pick ((i, Value.long x) :: L.filter (fun q => !(q.1 == i) && (!(q.1 == i + 1) && !(q.1 + 1 == i && q.2.category == 2)))) ks = L1) (kk : V p l e R s m args below meth c G N0 nL Q cells slots M (pc + 2) L1 rest) : V p l e R s m args below meth c G N0 nL Q cells slots M pc L (.long x :: rest) := fun ls H locs hL hP hS => lv_lstore C.1 C.2.1 hdg hL hn rfl (fun ls' hL' => kk ls' H locs (lv_sub hL' ks hl) hP hS)
theorem V_astore_n (C : Cx p l s m args meth c cc own nL ret hh G X N0) {k : Fin 4} {i nL : Nat} {x : Nat}  (hdg : decode cc pc = .ok (.astore_n k, 1)) (hi : (k : Nat) = i) (hn : i < nL) (L1 : List (Nat × Value)) (ks : List Nat) (hl : lv_pick ((i, Value.ref x) :: L.filter (fun q => !(q.1 == i) && !(q.1 + 1 == i && q.2.category == 2))) ks = L1) (kk : V p l e R s m args below meth c G N0 nL Q cells slots M (pc + 1) L1 rest) : V p l e R s m args below meth c G N0 nL Q cells slots M pc L (.ref x :: rest) := fun ls H locs hL hP hS => lv_astore_n C.1 C.2.1 hdg hi hL hn rfl (fun ls' hL' => kk ls' H locs (lv_sub hL' ks hl) hP hS)
theorem V_astore (C : Cx p l s m args meth c cc own nL ret hh G X N0) {i nL : Nat} {x : Nat}  (hdg : decode cc pc = .ok (.astore i, 2)) (hn : i < nL) (L1 : List (Nat × Value)) (ks : List Nat) (hl : lv_pick ((i, Value.ref x) :: L.filter (fun q => !(q.1 == i) && !(q.1 + 1 == i && q.2.category == 2))) ks = L1) (kk : V p l e R s m args below meth c G N0 nL Q cells slots M (pc + 2) L1 rest) : V p l e R s m args below meth c G N0 nL Q cells slots M pc L (.ref x :: rest) := fun ls H locs hL hP hS => lv_astore C.1 C.2.1 hdg hL hn rfl (fun ls' hL' => kk ls' H locs (lv_sub hL' ks hl) hP hS)
theorem V_iinc (C : Cx p l s m args meth c cc own nL ret hh G X N0) {i nL k : Nat} {n : Int} {x v : Int32}  (hdg : decode cc pc = .ok (.iinc i n, 3)) (hk : L[k]? = some (i, .int x)) (hv : x + Int32.ofInt n = v) (hn : i < nL) (L1 : List (Nat × Value)) (ks : List Nat) (hl : lv_pick ((i, Value.int v) :: L.filter (fun q => !(q.1 == i) && !(q.1 + 1 == i && q.2.category == 2))) ks = L1) (kk : V p l e R s m args below meth c G N0 nL Q cells slots M (pc + 3) L1 rest) : V p l e R s m args below meth c G N0 nL Q cells slots M pc L rest := fun ls H locs hL hP hS => lv_iinc C.1 C.2.1 hdg hL hk hv hn rfl (fun ls' hL' => kk ls' H locs (lv_sub hL' ks hl) hP hS)
theorem V_iadd (C : Cx p l s m args meth c cc own nL ret hh G X N0) {x y : Int32} (hdg : decode cc pc = .ok (.iadd, 1)) (k : V p l e R s m args below meth c G N0 nL Q cells slots M (pc + 1) L (.int (x + y) :: rest)) : V p l e R s m args below meth c G N0 nL Q cells slots M pc L (.int y :: .int x :: rest) := fun ls H locs hL hP hS => lv_iadd C.1 C.2.1 hdg (k ls H locs hL hP hS)
theorem V_isub (C : Cx p l s m args meth c cc own nL ret hh G X N0) {x y : Int32} (hdg : decode cc pc = .ok (.isub, 1)) (k : V p l e R s m args below meth c G N0 nL Q cells slots M (pc + 1) L (.int (x - y) :: rest)) : V p l e R s m args below meth c G N0 nL Q cells slots M pc L (.int y :: .int x :: rest) := fun ls H locs hL hP hS => lv_isub C.1 C.2.1 hdg (k ls H locs hL hP hS)
theorem V_imul (C : Cx p l s m args meth c cc own nL ret hh G X N0) {x y : Int32} (hdg : decode cc pc = .ok (.imul, 1)) (k : V p l e R s m args below meth c G N0 nL Q cells slots M (pc + 1) L (.int (x * y) :: rest)) : V p l e R s m args below meth c G N0 nL Q cells slots M pc L (.int y :: .int x :: rest) := fun ls H locs hL hP hS => lv_imul C.1 C.2.1 hdg (k ls H locs hL hP hS)
theorem V_iand (C : Cx p l s m args meth c cc own nL ret hh G X N0) {x y : Int32} (hdg : decode cc pc = .ok (.iand, 1)) (k : V p l e R s m args below meth c G N0 nL Q cells slots M (pc + 1) L (.int (x &&& y) :: rest)) : V p l e R s m args below meth c G N0 nL Q cells slots M pc L (.int y :: .int x :: rest) := fun ls H locs hL hP hS => lv_iand C.1 C.2.1 hdg (k ls H locs hL hP hS)
theorem V_ior (C : Cx p l s m args meth c cc own nL ret hh G X N0) {x y : Int32} (hdg : decode cc pc = .ok (.ior, 1)) (k : V p l e R s m args below meth c G N0 nL Q cells slots M (pc + 1) L (.int (x ||| y) :: rest)) : V p l e R s m args below meth c G N0 nL Q cells slots M pc L (.int y :: .int x :: rest) := fun ls H locs hL hP hS => lv_ior C.1 C.2.1 hdg (k ls H locs hL hP hS)
theorem V_ladd (C : Cx p l s m args meth c cc own nL ret hh G X N0) {x y : Int64} (hdg : decode cc pc = .ok (.ladd, 1)) (k : V p l e R s m args below meth c G N0 nL Q cells slots M (pc + 1) L (.long (x + y) :: rest)) : V p l e R s m args below meth c G N0 nL Q cells slots M pc L (.long y :: .long x :: rest) := fun ls H locs hL hP hS => lv_ladd C.1 C.2.1 hdg (k ls H locs hL hP hS)
theorem V_land (C : Cx p l s m args meth c cc own nL ret hh G X N0) {x y : Int64} (hdg : decode cc pc = .ok (.land, 1)) (k : V p l e R s m args below meth c G N0 nL Q cells slots M (pc + 1) L (.long (x &&& y) :: rest)) : V p l e R s m args below meth c G N0 nL Q cells slots M pc L (.long y :: .long x :: rest) := fun ls H locs hL hP hS => lv_land C.1 C.2.1 hdg (k ls H locs hL hP hS)
theorem V_lor (C : Cx p l s m args meth c cc own nL ret hh G X N0) {x y : Int64} (hdg : decode cc pc = .ok (.lor, 1)) (k : V p l e R s m args below meth c G N0 nL Q cells slots M (pc + 1) L (.long (x ||| y) :: rest)) : V p l e R s m args below meth c G N0 nL Q cells slots M pc L (.long y :: .long x :: rest) := fun ls H locs hL hP hS => lv_lor C.1 C.2.1 hdg (k ls H locs hL hP hS)
theorem V_ishl (C : Cx p l s m args meth c cc own nL ret hh G X N0) {x y : Int32} (hdg : decode cc pc = .ok (.ishl, 1)) (k : V p l e R s m args below meth c G N0 nL Q cells slots M (pc + 1) L (.int (x <<< (y &&& 31)) :: rest)) : V p l e R s m args below meth c G N0 nL Q cells slots M pc L (.int y :: .int x :: rest) := fun ls H locs hL hP hS => lv_ishl C.1 C.2.1 hdg (k ls H locs hL hP hS)
theorem V_ishr (C : Cx p l s m args meth c cc own nL ret hh G X N0) {x y : Int32} (hdg : decode cc pc = .ok (.ishr, 1)) (k : V p l e R s m args below meth c G N0 nL Q cells slots M (pc + 1) L (.int (x >>> (y &&& 31)) :: rest)) : V p l e R s m args below meth c G N0 nL Q cells slots M pc L (.int y :: .int x :: rest) := fun ls H locs hL hP hS => lv_ishr C.1 C.2.1 hdg (k ls H locs hL hP hS)
theorem V_i2l (C : Cx p l s m args meth c cc own nL ret hh G X N0) {x : Int32} {v : Int64} (hdg : decode cc pc = .ok (.i2l, 1)) (hv : x.toInt64 = v) (k : V p l e R s m args below meth c G N0 nL Q cells slots M (pc + 1) L (.long v :: rest)) : V p l e R s m args below meth c G N0 nL Q cells slots M pc L (.int x :: rest) := fun ls H locs hL hP hS => lv_i2l C.1 C.2.1 hdg hv (k ls H locs hL hP hS)
theorem V_l2i (C : Cx p l s m args meth c cc own nL ret hh G X N0) {x : Int64} {v : Int32} (hdg : decode cc pc = .ok (.l2i, 1)) (hv : x.toInt32 = v) (k : V p l e R s m args below meth c G N0 nL Q cells slots M (pc + 1) L (.int v :: rest)) : V p l e R s m args below meth c G N0 nL Q cells slots M pc L (.long x :: rest) := fun ls H locs hL hP hS => lv_l2i C.1 C.2.1 hdg hv (k ls H locs hL hP hS)
theorem V_i2b (C : Cx p l s m args meth c cc own nL ret hh G X N0) {x : Int32} {v : Int32} (hdg : decode cc pc = .ok (.i2b, 1)) (hv : x.toInt8.toInt32 = v) (k : V p l e R s m args below meth c G N0 nL Q cells slots M (pc + 1) L (.int v :: rest)) : V p l e R s m args below meth c G N0 nL Q cells slots M pc L (.int x :: rest) := fun ls H locs hL hP hS => lv_i2b C.1 C.2.1 hdg hv (k ls H locs hL hP hS)
theorem V_i2s (C : Cx p l s m args meth c cc own nL ret hh G X N0) {x : Int32} {v : Int32} (hdg : decode cc pc = .ok (.i2s, 1)) (hv : x.toInt16.toInt32 = v) (k : V p l e R s m args below meth c G N0 nL Q cells slots M (pc + 1) L (.int v :: rest)) : V p l e R s m args below meth c G N0 nL Q cells slots M pc L (.int x :: rest) := fun ls H locs hL hP hS => lv_i2s C.1 C.2.1 hdg hv (k ls H locs hL hP hS)
theorem V_i2c (C : Cx p l s m args meth c cc own nL ret hh G X N0) {x : Int32} {v : Int32} (hdg : decode cc pc = .ok (.i2c, 1)) (hv : (x.toUInt32 % 65536).toInt32 = v) (k : V p l e R s m args below meth c G N0 nL Q cells slots M (pc + 1) L (.int v :: rest)) : V p l e R s m args below meth c G N0 nL Q cells slots M pc L (.int x :: rest) := fun ls H locs hL hP hS => lv_i2c C.1 C.2.1 hdg hv (k ls H locs hL hP hS)
theorem V_lshl (C : Cx p l s m args meth c cc own nL ret hh G X N0) {x v : Int64} {y : Int32} (hdg : decode cc pc = .ok (.lshl, 1)) (hv : x <<< (y.toInt64 &&& 63) = v) (k : V p l e R s m args below meth c G N0 nL Q cells slots M (pc + 1) L (.long v :: rest)) : V p l e R s m args below meth c G N0 nL Q cells slots M pc L (.int y :: .long x :: rest) := fun ls H locs hL hP hS => lv_lshl C.1 C.2.1 hdg hv (k ls H locs hL hP hS)
theorem V_dup (C : Cx p l s m args meth c cc own nL ret hh G X N0) {va : Value} (hdg : decode cc pc = .ok (.dup, 1)) (hva : va.category = 1) (k : V p l e R s m args below meth c G N0 nL Q cells slots M (pc + 1) L (va :: va :: rest)) : V p l e R s m args below meth c G N0 nL Q cells slots M pc L (va :: rest) := fun ls H locs hL hP hS => lv_dup C.1 C.2.1 hdg hva (k ls H locs hL hP hS)
theorem V_pop (C : Cx p l s m args meth c cc own nL ret hh G X N0) {va : Value} (hdg : decode cc pc = .ok (.pop, 1)) (hva : va.category = 1) (k : V p l e R s m args below meth c G N0 nL Q cells slots M (pc + 1) L (rest)) : V p l e R s m args below meth c G N0 nL Q cells slots M pc L (va :: rest) := fun ls H locs hL hP hS => lv_pop C.1 C.2.1 hdg hva (k ls H locs hL hP hS)
theorem V_dup_x1 (C : Cx p l s m args meth c cc own nL ret hh G X N0) {va vb : Value} (hdg : decode cc pc = .ok (.dup_x1, 1)) (hva : va.category = 1) (hvb : vb.category = 1) (k : V p l e R s m args below meth c G N0 nL Q cells slots M (pc + 1) L (va :: vb :: va :: rest)) : V p l e R s m args below meth c G N0 nL Q cells slots M pc L (va :: vb :: rest) := fun ls H locs hL hP hS => lv_dup_x1 C.1 C.2.1 hdg hva hvb (k ls H locs hL hP hS)
theorem V_dup2_11 (C : Cx p l s m args meth c cc own nL ret hh G X N0) {va vb : Value} (hdg : decode cc pc = .ok (.dup2, 1)) (hva : va.category = 1) (hvb : vb.category = 1) (k : V p l e R s m args below meth c G N0 nL Q cells slots M (pc + 1) L (va :: vb :: va :: vb :: rest)) : V p l e R s m args below meth c G N0 nL Q cells slots M pc L (va :: vb :: rest) := fun ls H locs hL hP hS => lv_dup2_11 C.1 C.2.1 hdg hva hvb (k ls H locs hL hP hS)
theorem V_dup2_2 (C : Cx p l s m args meth c cc own nL ret hh G X N0) {va : Value} (hdg : decode cc pc = .ok (.dup2, 1)) (hva : va.category = 2) (k : V p l e R s m args below meth c G N0 nL Q cells slots M (pc + 1) L (va :: va :: rest)) : V p l e R s m args below meth c G N0 nL Q cells slots M pc L (va :: rest) := fun ls H locs hL hP hS => lv_dup2_2 C.1 C.2.1 hdg hva (k ls H locs hL hP hS)
theorem V_if_eq (C : Cx p l s m args meth c cc own nL ret hh G X N0) {x : Int32} {off : Int} {tgt : Nat} (hdg : decode cc pc = .ok (.ifCond .eq off, 3)) (ht : (pc : Int) + off = (tgt : Int)) (kt : x = 0 → V p l e R s m args below meth c G N0 nL Q cells slots M tgt L rest) (kf : ¬ x = 0 → V p l e R s m args below meth c G N0 nL Q cells slots M (pc + 3) L rest) : V p l e R s m args below meth c G N0 nL Q cells slots M pc L (.int x :: rest) := fun ls H locs hL hP hS => lv_if_eq C.1 C.2.1 hdg ht (fun z0 => kt z0 ls H locs hL hP hS) (fun z0 => kf z0 ls H locs hL hP hS)
theorem V_icmp_eq (C : Cx p l s m args meth c cc own nL ret hh G X N0) {x y : Int32} {off : Int} {tgt : Nat} (hdg : decode cc pc = .ok (.if_icmp .eq off, 3)) (ht : (pc : Int) + off = (tgt : Int)) (kt : x = y → V p l e R s m args below meth c G N0 nL Q cells slots M tgt L rest) (kf : ¬ x = y → V p l e R s m args below meth c G N0 nL Q cells slots M (pc + 3) L rest) : V p l e R s m args below meth c G N0 nL Q cells slots M pc L (.int y :: .int x :: rest) := fun ls H locs hL hP hS => lv_icmp_eq C.1 C.2.1 hdg ht (fun z0 => kt z0 ls H locs hL hP hS) (fun z0 => kf z0 ls H locs hL hP hS)
theorem V_if_ne (C : Cx p l s m args meth c cc own nL ret hh G X N0) {x : Int32} {off : Int} {tgt : Nat} (hdg : decode cc pc = .ok (.ifCond .ne off, 3)) (ht : (pc : Int) + off = (tgt : Int)) (kt : ¬ x = 0 → V p l e R s m args below meth c G N0 nL Q cells slots M tgt L rest) (kf : x = 0 → V p l e R s m args below meth c G N0 nL Q cells slots M (pc + 3) L rest) : V p l e R s m args below meth c G N0 nL Q cells slots M pc L (.int x :: rest) := fun ls H locs hL hP hS => lv_if_ne C.1 C.2.1 hdg ht (fun z0 => kt z0 ls H locs hL hP hS) (fun z0 => kf z0 ls H locs hL hP hS)
theorem V_icmp_ne (C : Cx p l s m args meth c cc own nL ret hh G X N0) {x y : Int32} {off : Int} {tgt : Nat} (hdg : decode cc pc = .ok (.if_icmp .ne off, 3)) (ht : (pc : Int) + off = (tgt : Int)) (kt : ¬ x = y → V p l e R s m args below meth c G N0 nL Q cells slots M tgt L rest) (kf : x = y → V p l e R s m args below meth c G N0 nL Q cells slots M (pc + 3) L rest) : V p l e R s m args below meth c G N0 nL Q cells slots M pc L (.int y :: .int x :: rest) := fun ls H locs hL hP hS => lv_icmp_ne C.1 C.2.1 hdg ht (fun z0 => kt z0 ls H locs hL hP hS) (fun z0 => kf z0 ls H locs hL hP hS)
theorem V_if_lt (C : Cx p l s m args meth c cc own nL ret hh G X N0) {x : Int32} {off : Int} {tgt : Nat} (hdg : decode cc pc = .ok (.ifCond .lt off, 3)) (ht : (pc : Int) + off = (tgt : Int)) (kt : x < 0 → V p l e R s m args below meth c G N0 nL Q cells slots M tgt L rest) (kf : ¬ x < 0 → V p l e R s m args below meth c G N0 nL Q cells slots M (pc + 3) L rest) : V p l e R s m args below meth c G N0 nL Q cells slots M pc L (.int x :: rest) := fun ls H locs hL hP hS => lv_if_lt C.1 C.2.1 hdg ht (fun z0 => kt z0 ls H locs hL hP hS) (fun z0 => kf z0 ls H locs hL hP hS)
theorem V_icmp_lt (C : Cx p l s m args meth c cc own nL ret hh G X N0) {x y : Int32} {off : Int} {tgt : Nat} (hdg : decode cc pc = .ok (.if_icmp .lt off, 3)) (ht : (pc : Int) + off = (tgt : Int)) (kt : x < y → V p l e R s m args below meth c G N0 nL Q cells slots M tgt L rest) (kf : ¬ x < y → V p l e R s m args below meth c G N0 nL Q cells slots M (pc + 3) L rest) : V p l e R s m args below meth c G N0 nL Q cells slots M pc L (.int y :: .int x :: rest) := fun ls H locs hL hP hS => lv_icmp_lt C.1 C.2.1 hdg ht (fun z0 => kt z0 ls H locs hL hP hS) (fun z0 => kf z0 ls H locs hL hP hS)
theorem V_if_ge (C : Cx p l s m args meth c cc own nL ret hh G X N0) {x : Int32} {off : Int} {tgt : Nat} (hdg : decode cc pc = .ok (.ifCond .ge off, 3)) (ht : (pc : Int) + off = (tgt : Int)) (kt : 0 ≤ x → V p l e R s m args below meth c G N0 nL Q cells slots M tgt L rest) (kf : ¬ 0 ≤ x → V p l e R s m args below meth c G N0 nL Q cells slots M (pc + 3) L rest) : V p l e R s m args below meth c G N0 nL Q cells slots M pc L (.int x :: rest) := fun ls H locs hL hP hS => lv_if_ge C.1 C.2.1 hdg ht (fun z0 => kt z0 ls H locs hL hP hS) (fun z0 => kf z0 ls H locs hL hP hS)
theorem V_icmp_ge (C : Cx p l s m args meth c cc own nL ret hh G X N0) {x y : Int32} {off : Int} {tgt : Nat} (hdg : decode cc pc = .ok (.if_icmp .ge off, 3)) (ht : (pc : Int) + off = (tgt : Int)) (kt : y ≤ x → V p l e R s m args below meth c G N0 nL Q cells slots M tgt L rest) (kf : ¬ y ≤ x → V p l e R s m args below meth c G N0 nL Q cells slots M (pc + 3) L rest) : V p l e R s m args below meth c G N0 nL Q cells slots M pc L (.int y :: .int x :: rest) := fun ls H locs hL hP hS => lv_icmp_ge C.1 C.2.1 hdg ht (fun z0 => kt z0 ls H locs hL hP hS) (fun z0 => kf z0 ls H locs hL hP hS)
theorem V_if_gt (C : Cx p l s m args meth c cc own nL ret hh G X N0) {x : Int32} {off : Int} {tgt : Nat} (hdg : decode cc pc = .ok (.ifCond .gt off, 3)) (ht : (pc : Int) + off = (tgt : Int)) (kt : 0 < x → V p l e R s m args below meth c G N0 nL Q cells slots M tgt L rest) (kf : ¬ 0 < x → V p l e R s m args below meth c G N0 nL Q cells slots M (pc + 3) L rest) : V p l e R s m args below meth c G N0 nL Q cells slots M pc L (.int x :: rest) := fun ls H locs hL hP hS => lv_if_gt C.1 C.2.1 hdg ht (fun z0 => kt z0 ls H locs hL hP hS) (fun z0 => kf z0 ls H locs hL hP hS)
theorem V_icmp_gt (C : Cx p l s m args meth c cc own nL ret hh G X N0) {x y : Int32} {off : Int} {tgt : Nat} (hdg : decode cc pc = .ok (.if_icmp .gt off, 3)) (ht : (pc : Int) + off = (tgt : Int)) (kt : y < x → V p l e R s m args below meth c G N0 nL Q cells slots M tgt L rest) (kf : ¬ y < x → V p l e R s m args below meth c G N0 nL Q cells slots M (pc + 3) L rest) : V p l e R s m args below meth c G N0 nL Q cells slots M pc L (.int y :: .int x :: rest) := fun ls H locs hL hP hS => lv_icmp_gt C.1 C.2.1 hdg ht (fun z0 => kt z0 ls H locs hL hP hS) (fun z0 => kf z0 ls H locs hL hP hS)
theorem V_if_le (C : Cx p l s m args meth c cc own nL ret hh G X N0) {x : Int32} {off : Int} {tgt : Nat} (hdg : decode cc pc = .ok (.ifCond .le off, 3)) (ht : (pc : Int) + off = (tgt : Int)) (kt : x ≤ 0 → V p l e R s m args below meth c G N0 nL Q cells slots M tgt L rest) (kf : ¬ x ≤ 0 → V p l e R s m args below meth c G N0 nL Q cells slots M (pc + 3) L rest) : V p l e R s m args below meth c G N0 nL Q cells slots M pc L (.int x :: rest) := fun ls H locs hL hP hS => lv_if_le C.1 C.2.1 hdg ht (fun z0 => kt z0 ls H locs hL hP hS) (fun z0 => kf z0 ls H locs hL hP hS)
theorem V_icmp_le (C : Cx p l s m args meth c cc own nL ret hh G X N0) {x y : Int32} {off : Int} {tgt : Nat} (hdg : decode cc pc = .ok (.if_icmp .le off, 3)) (ht : (pc : Int) + off = (tgt : Int)) (kt : x ≤ y → V p l e R s m args below meth c G N0 nL Q cells slots M tgt L rest) (kf : ¬ x ≤ y → V p l e R s m args below meth c G N0 nL Q cells slots M (pc + 3) L rest) : V p l e R s m args below meth c G N0 nL Q cells slots M pc L (.int y :: .int x :: rest) := fun ls H locs hL hP hS => lv_icmp_le C.1 C.2.1 hdg ht (fun z0 => kt z0 ls H locs hL hP hS) (fun z0 => kf z0 ls H locs hL hP hS)
theorem V_goto (C : Cx p l s m args meth c cc own nL ret hh G X N0) {off : Int} {tgt : Nat} (hdg : decode cc pc = .ok (.goto off, 3)) (ht : (pc : Int) + off = (tgt : Int)) (k : V p l e R s m args below meth c G N0 nL Q cells slots M tgt L rest) : V p l e R s m args below meth c G N0 nL Q cells slots M pc L rest := fun ls H locs hL hP hS => lv_goto C.1 C.2.1 hdg ht (k ls H locs hL hP hS)
theorem V_dconst0 (C : Cx p l s m args meth c cc own nL ret hh G X N0) (hdg : decode cc pc = .ok (.dconst 0, 1)) (k : V p l e R s m args below meth c G N0 nL Q cells slots M (pc + 1) L (.double FP.dconst0 :: rest)) : V p l e R s m args below meth c G N0 nL Q cells slots M pc L (rest) := fun ls H locs hL hP hS => lv_dconst0 C.1 C.2.1 hdg (k ls H locs hL hP hS)
theorem V_fload_n (C : Cx p l s m args meth c cc own nL ret hh G X N0) {k : Fin 4} {i : Nat} {x : UInt32} (hdg : decode cc pc = .ok (.fload_n k, 1)) (hi : (k : Nat) = i) (n_ : Nat) (hl : L[n_]? = some (i, (.float x))) (k : V p l e R s m args below meth c G N0 nL Q cells slots M (pc + 1) L (.float x :: rest)) : V p l e R s m args below meth c G N0 nL Q cells slots M pc L (rest) := fun ls H locs hL hP hS => lv_fload_n C.1 C.2.1 hdg hi (lv_at hL n_ hl) (k ls H locs hL hP hS)
theorem V_fload (C : Cx p l s m args meth c cc own nL ret hh G X N0) {i : Nat} {x : UInt32} (hdg : decode cc pc = .ok (.fload i, 2)) (n_ : Nat) (hl : L[n_]? = some (i, (.float x))) (k : V p l e R s m args below meth c G N0 nL Q cells slots M (pc + 2) L (.float x :: rest)) : V p l e R s m args below meth c G N0 nL Q cells slots M pc L (rest) := fun ls H locs hL hP hS => lv_fload C.1 C.2.1 hdg (lv_at hL n_ hl) (k ls H locs hL hP hS)
theorem V_fcmp (C : Cx p l s m args meth c cc own nL ret hh G X N0) {x y : UInt32} {op : CmpOp} (hdg : decode cc pc = .ok (.fcmp op, 1)) (k : V p l e R s m args below meth c G N0 nL Q cells slots M (pc + 1) L (.int (Op.cmpValue (FP.fcmp x y) op) :: rest)) : V p l e R s m args below meth c G N0 nL Q cells slots M pc L (.float y :: .float x :: rest) := fun ls H locs hL hP hS => lv_fcmp C.1 C.2.1 hdg (k ls H locs hL hP hS)
theorem V_dload_n (C : Cx p l s m args meth c cc own nL ret hh G X N0) {k : Fin 4} {i : Nat} {x : UInt64} (hdg : decode cc pc = .ok (.dload_n k, 1)) (hi : (k : Nat) = i) (n_ : Nat) (hl : L[n_]? = some (i, (.double x))) (k : V p l e R s m args below meth c G N0 nL Q cells slots M (pc + 1) L (.double x :: rest)) : V p l e R s m args below meth c G N0 nL Q cells slots M pc L (rest) := fun ls H locs hL hP hS => lv_dload_n C.1 C.2.1 hdg hi (lv_at hL n_ hl) (k ls H locs hL hP hS)
theorem V_dload (C : Cx p l s m args meth c cc own nL ret hh G X N0) {i : Nat} {x : UInt64} (hdg : decode cc pc = .ok (.dload i, 2)) (n_ : Nat) (hl : L[n_]? = some (i, (.double x))) (k : V p l e R s m args below meth c G N0 nL Q cells slots M (pc + 2) L (.double x :: rest)) : V p l e R s m args below meth c G N0 nL Q cells slots M pc L (rest) := fun ls H locs hL hP hS => lv_dload C.1 C.2.1 hdg (lv_at hL n_ hl) (k ls H locs hL hP hS)
theorem V_dadd (C : Cx p l s m args meth c cc own nL ret hh G X N0) {x y : UInt64} (hdg : decode cc pc = .ok (.dadd, 1)) (hne : vf_n64 (FP.dadd x y)) (k : V p l e R s m args below meth c G N0 nL Q cells slots M (pc + 1) L (.double (FP.dadd x y) :: rest)) : V p l e R s m args below meth c G N0 nL Q cells slots M pc L (.double y :: .double x :: rest) := fun ls H locs hL hP hS => lv_dadd C.1 C.2.1 hdg hne (k ls H locs hL hP hS)
theorem V_dneg (C : Cx p l s m args meth c cc own nL ret hh G X N0) {x : UInt64} (hdg : decode cc pc = .ok (.dneg, 1)) (k : V p l e R s m args below meth c G N0 nL Q cells slots M (pc + 1) L (.double (FP.dneg x) :: rest)) : V p l e R s m args below meth c G N0 nL Q cells slots M pc L (.double x :: rest) := fun ls H locs hL hP hS => lv_dneg C.1 C.2.1 hdg (k ls H locs hL hP hS)
theorem V_dcmp (C : Cx p l s m args meth c cc own nL ret hh G X N0) {x y : UInt64} {op : CmpOp} (hdg : decode cc pc = .ok (.dcmp op, 1)) (k : V p l e R s m args below meth c G N0 nL Q cells slots M (pc + 1) L (.int (Op.cmpValue (FP.dcmp x y) op) :: rest)) : V p l e R s m args below meth c G N0 nL Q cells slots M pc L (.double y :: .double x :: rest) := fun ls H locs hL hP hS => lv_dcmp C.1 C.2.1 hdg (k ls H locs hL hP hS)
theorem V_f2d (C : Cx p l s m args meth c cc own nL ret hh G X N0) {x : UInt32} (hdg : decode cc pc = .ok (.f2d, 1)) (hne : vf_n64 (FP.f2d x)) (k : V p l e R s m args below meth c G N0 nL Q cells slots M (pc + 1) L (.double (FP.f2d x) :: rest)) : V p l e R s m args below meth c G N0 nL Q cells slots M pc L (.float x :: rest) := fun ls H locs hL hP hS => lv_f2d C.1 C.2.1 hdg hne (k ls H locs hL hP hS)
theorem V_fstore_n (C : Cx p l s m args meth c cc own nL ret hh G X N0) {k : Fin 4} {i nL : Nat} {x : UInt32}  (hdg : decode cc pc = .ok (.fstore_n k, 1)) (hi : (k : Nat) = i) (hn : i < nL) (L1 : List (Nat × Value)) (ks : List Nat) (hl : lv_pick ((i, Value.float x) :: L.filter (fun q => !(q.1 == i) && !(q.1 + 1 == i && q.2.category == 2))) ks = L1) (kk : V p l e R s m args below meth c G N0 nL Q cells slots M (pc + 1) L1 rest) : V p l e R s m args below meth c G N0 nL Q cells slots M pc L (.float x :: rest) := fun ls H locs hL hP hS => lv_fstore_n C.1 C.2.1 hdg hi hL hn rfl (fun ls' hL' => kk ls' H locs (lv_sub hL' ks hl) hP hS)
theorem V_fstore (C : Cx p l s m args meth c cc own nL ret hh G X N0) {i nL : Nat} {x : UInt32}  (hdg : decode cc pc = .ok (.fstore i, 2)) (hn : i < nL) (L1 : List (Nat × Value)) (ks : List Nat) (hl : lv_pick ((i, Value.float x) :: L.filter (fun q => !(q.1 == i) && !(q.1 + 1 == i && q.2.category == 2))) ks = L1) (kk : V p l e R s m args below meth c G N0 nL Q cells slots M (pc + 2) L1 rest) : V p l e R s m args below meth c G N0 nL Q cells slots M pc L (.float x :: rest) := fun ls H locs hL hP hS => lv_fstore C.1 C.2.1 hdg hL hn rfl (fun ls' hL' => kk ls' H locs (lv_sub hL' ks hl) hP hS)
theorem V_dstore_n (C : Cx p l s m args meth c cc own nL ret hh G X N0) {k : Fin 4} {i nL : Nat} {x : UInt64}  (hdg : decode cc pc = .ok (.dstore_n k, 1)) (hi : (k : Nat) = i) (hn : i + 1 < nL) (L1 : List (Nat × Value)) (ks : List Nat) (hl : lv_pick ((i, Value.double x) :: L.filter (fun q => !(q.1 == i) && (!(q.1 == i + 1) && !(q.1 + 1 == i && q.2.category == 2)))) ks = L1) (kk : V p l e R s m args below meth c G N0 nL Q cells slots M (pc + 1) L1 rest) : V p l e R s m args below meth c G N0 nL Q cells slots M pc L (.double x :: rest) := fun ls H locs hL hP hS => lv_dstore_n C.1 C.2.1 hdg hi hL hn rfl (fun ls' hL' => kk ls' H locs (lv_sub hL' ks hl) hP hS)
theorem V_dstore (C : Cx p l s m args meth c cc own nL ret hh G X N0) {i nL : Nat} {x : UInt64}  (hdg : decode cc pc = .ok (.dstore i, 2)) (hn : i + 1 < nL) (L1 : List (Nat × Value)) (ks : List Nat) (hl : lv_pick ((i, Value.double x) :: L.filter (fun q => !(q.1 == i) && (!(q.1 == i + 1) && !(q.1 + 1 == i && q.2.category == 2)))) ks = L1) (kk : V p l e R s m args below meth c G N0 nL Q cells slots M (pc + 2) L1 rest) : V p l e R s m args below meth c G N0 nL Q cells slots M pc L (.double x :: rest) := fun ls H locs hL hP hS => lv_dstore C.1 C.2.1 hdg hL hn rfl (fun ls' hL' => kk ls' H locs (lv_sub hL' ks hl) hP hS)
theorem V_topf  {x : UInt32} (k : ∀ y : UInt32, y = x → V p l e R s m args below meth c G N0 nL Q cells slots M pc L (.float y :: rest)) : V p l e R s m args below meth c G N0 nL Q cells slots M pc L (.float x :: rest) := fun ls H locs hL hP hS => lv_topf (fun y9 z0 => k y9 z0 ls H locs hL hP hS)
theorem V_topd  {x : UInt64} (k : ∀ y : UInt64, y = x → V p l e R s m args below meth c G N0 nL Q cells slots M pc L (.double y :: rest)) : V p l e R s m args below meth c G N0 nL Q cells slots M pc L (.double x :: rest) := fun ls H locs hL hP hS => lv_topd (fun y9 z0 => k y9 z0 ls H locs hL hP hS)
theorem V_topi  {x : Int32} (k : ∀ y : Int32, y = x → V p l e R s m args below meth c G N0 nL Q cells slots M pc L (.int y :: rest)) : V p l e R s m args below meth c G N0 nL Q cells slots M pc L (.int x :: rest) := fun ls H locs hL hP hS => lv_topi (fun y9 z0 => k y9 z0 ls H locs hL hP hS)
theorem V_topl  {x : Int64} (k : ∀ y : Int64, y = x → V p l e R s m args below meth c G N0 nL Q cells slots M pc L (.long y :: rest)) : V p l e R s m args below meth c G N0 nL Q cells slots M pc L (.long x :: rest) := fun ls H locs hL hP hS => lv_topl (fun y9 z0 => k y9 z0 ls H locs hL hP hS)
theorem V_ldcf (C : Cx p l s m args meth c cc own nL ret hh G X N0) {index : Nat} {v : UInt32} (hconst : (Jvm.Cond.constantFloat own index v).before args s = true) (hdg : decode cc pc = .ok (.ldc index, 2)) (k : V p l e R s m args below meth c G N0 nL Q cells slots M (pc + 2) L (.float v :: rest)) : V p l e R s m args below meth c G N0 nL Q cells slots M pc L rest := fun ls H locs hL hP hS => lv_ldcf C.1 C.2.1 C.2.2.2.1 hconst hdg (k ls H locs hL hP hS)
theorem V_ldc2d (C : Cx p l s m args meth c cc own nL ret hh G X N0) {index : Nat} {v : UInt64} (hconst : (Jvm.Cond.constantDouble own index v).before args s = true) (hdg : decode cc pc = .ok (.ldc2_w index, 3)) (k : V p l e R s m args below meth c G N0 nL Q cells slots M (pc + 3) L (.double v :: rest)) : V p l e R s m args below meth c G N0 nL Q cells slots M pc L rest := fun ls H locs hL hP hS => lv_ldc2d C.1 C.2.1 C.2.2.2.1 hconst hdg (k ls H locs hL hP hS)
theorem V_ldc (C : Cx p l s m args meth c cc own nL ret hh G X N0) {index : Nat} {v : Int32} (hconst : (Jvm.Cond.constant own index v).before args s = true) (hdg : decode cc pc = .ok (.ldc index, 2)) (k : V p l e R s m args below meth c G N0 nL Q cells slots M (pc + 2) L (.int v :: rest)) : V p l e R s m args below meth c G N0 nL Q cells slots M pc L rest := fun ls H locs hL hP hS => lv_ldc C.1 C.2.1 C.2.2.2.1 hconst hdg (k ls H locs hL hP hS)
theorem V_ldc2 (C : Cx p l s m args meth c cc own nL ret hh G X N0) {index : Nat} {v : Int64} (hconst : (Jvm.Cond.constantLong own index v).before args s = true) (hdg : decode cc pc = .ok (.ldc2_w index, 3)) (k : V p l e R s m args below meth c G N0 nL Q cells slots M (pc + 3) L (.long v :: rest)) : V p l e R s m args below meth c G N0 nL Q cells slots M pc L rest := fun ls H locs hL hP hS => lv_ldc2 C.1 C.2.1 C.2.2.2.1 hconst hdg (k ls H locs hL hP hS)
theorem V_tableOut (C : Cx p l s m args meth c cc own nL ret hh G X N0) {dflt lo hi : Int} {offs : Array Int} {len : Nat} {x : Int32} {tgt : Nat} (hdg : decode cc pc = .ok (.tableswitch dflt lo hi offs, len)) (h : x.toInt < lo ∨ hi < x.toInt) (ht : (pc : Int) + dflt = (tgt : Int)) (k : V p l e R s m args below meth c G N0 nL Q cells slots M tgt L rest) : V p l e R s m args below meth c G N0 nL Q cells slots M pc L (.int x :: rest) := fun ls H locs hL hP hS => lv_tableOut C.1 C.2.1 hdg h ht (k ls H locs hL hP hS)
theorem V_tableIn (C : Cx p l s m args meth c cc own nL ret hh G X N0) {dflt lo hi : Int} {offs : Array Int} {len : Nat} {x : Int32} {off : Int} {tgt : Nat} (hdg : decode cc pc = .ok (.tableswitch dflt lo hi offs, len)) (h1 : ¬ x.toInt < lo) (h2 : ¬ hi < x.toInt) (ho : offs[(x.toInt - lo).toNat]? = some off) (ht : (pc : Int) + off = (tgt : Int)) (k : V p l e R s m args below meth c G N0 nL Q cells slots M tgt L rest) : V p l e R s m args below meth c G N0 nL Q cells slots M pc L (.int x :: rest) := fun ls H locs hL hP hS => lv_tableIn C.1 C.2.1 hdg h1 h2 ho ht (k ls H locs hL hP hS)
theorem V_ifnonnull (C : Cx p l s m args meth c cc own nL ret hh G X N0) {x : Nat} {off : Int} {tgt : Nat} (hdg : decode cc pc = .ok (.ifnonnull off, 3)) (ht : (pc : Int) + off = (tgt : Int)) (k : V p l e R s m args below meth c G N0 nL Q cells slots M tgt L rest) : V p l e R s m args below meth c G N0 nL Q cells slots M pc L (.ref x :: rest) := fun ls H locs hL hP hS => lv_ifnonnull C.1 C.2.1 hdg ht (k ls H locs hL hP hS)
theorem V_ifnull (C : Cx p l s m args meth c cc own nL ret hh G X N0) {x : Nat} {off : Int} (hdg : decode cc pc = .ok (.ifnull off, 3)) (k : V p l e R s m args below meth c G N0 nL Q cells slots M (pc + 3) L rest) : V p l e R s m args below meth c G N0 nL Q cells slots M pc L (.ref x :: rest) := fun ls H locs hL hP hS => lv_ifnull C.1 C.2.1 hdg (k ls H locs hL hP hS)
theorem V_null (C : Cx p l s m args meth c cc own nL ret hh G X N0) (hdg : decode cc pc = .ok (.aconst_null, 1)) (k : V p l e R s m args below meth c G N0 nL Q cells slots M (pc + 1) L (.null :: rest)) : V p l e R s m args below meth c G N0 nL Q cells slots M pc L rest := fun ls H locs hL hP hS => lv_null C.1 C.2.1 hdg (k ls H locs hL hP hS)
theorem V_ifnullN (C : Cx p l s m args meth c cc own nL ret hh G X N0) {off : Int} {tgt : Nat} (hdg : decode cc pc = .ok (.ifnull off, 3)) (ht : (pc : Int) + off = (tgt : Int)) (k : V p l e R s m args below meth c G N0 nL Q cells slots M tgt L rest) : V p l e R s m args below meth c G N0 nL Q cells slots M pc L (.null :: rest) := fun ls H locs hL hP hS => lv_ifnullN C.1 C.2.1 hdg ht (k ls H locs hL hP hS)
theorem V_ifnonnullN (C : Cx p l s m args meth c cc own nL ret hh G X N0) {off : Int} (hdg : decode cc pc = .ok (.ifnonnull off, 3)) (k : V p l e R s m args below meth c G N0 nL Q cells slots M (pc + 3) L rest) : V p l e R s m args below meth c G N0 nL Q cells slots M pc L (.null :: rest) := fun ls H locs hL hP hS => lv_ifnonnullN C.1 C.2.1 hdg (k ls H locs hL hP hS)
theorem V_aload_nN (C : Cx p l s m args meth c cc own nL ret hh G X N0) {k : Fin 4} {i : Nat} (hdg : decode cc pc = .ok (.aload_n k, 1)) (hi : (k : Nat) = i) (n_ : Nat) (hl : L[n_]? = some (i, (.null))) (k : V p l e R s m args below meth c G N0 nL Q cells slots M (pc + 1) L (.null :: rest)) : V p l e R s m args below meth c G N0 nL Q cells slots M pc L (rest) := fun ls H locs hL hP hS => lv_aload_nN C.1 C.2.1 hdg hi (lv_at hL n_ hl) (k ls H locs hL hP hS)
theorem V_aloadN (C : Cx p l s m args meth c cc own nL ret hh G X N0) {i : Nat} (hdg : decode cc pc = .ok (.aload i, 2)) (n_ : Nat) (hl : L[n_]? = some (i, (.null))) (k : V p l e R s m args below meth c G N0 nL Q cells slots M (pc + 2) L (.null :: rest)) : V p l e R s m args below meth c G N0 nL Q cells slots M pc L (rest) := fun ls H locs hL hP hS => lv_aloadN C.1 C.2.1 hdg (lv_at hL n_ hl) (k ls H locs hL hP hS)
theorem V_astore_nN (C : Cx p l s m args meth c cc own nL ret hh G X N0) {k : Fin 4} {i nL : Nat}  (hdg : decode cc pc = .ok (.astore_n k, 1)) (hi : (k : Nat) = i) (hn : i < nL) (L1 : List (Nat × Value)) (ks : List Nat) (hl : lv_pick ((i, Value.null) :: L.filter (fun q => !(q.1 == i) && !(q.1 + 1 == i && q.2.category == 2))) ks = L1) (kk : V p l e R s m args below meth c G N0 nL Q cells slots M (pc + 1) L1 rest) : V p l e R s m args below meth c G N0 nL Q cells slots M pc L (.null :: rest) := fun ls H locs hL hP hS => lv_astore_nN C.1 C.2.1 hdg hi hL hn rfl (fun ls' hL' => kk ls' H locs (lv_sub hL' ks hl) hP hS)
theorem V_astoreN (C : Cx p l s m args meth c cc own nL ret hh G X N0) {i nL : Nat}  (hdg : decode cc pc = .ok (.astore i, 2)) (hn : i < nL) (L1 : List (Nat × Value)) (ks : List Nat) (hl : lv_pick ((i, Value.null) :: L.filter (fun q => !(q.1 == i) && !(q.1 + 1 == i && q.2.category == 2))) ks = L1) (kk : V p l e R s m args below meth c G N0 nL Q cells slots M (pc + 2) L1 rest) : V p l e R s m args below meth c G N0 nL Q cells slots M pc L (.null :: rest) := fun ls H locs hL hP hS => lv_astoreN C.1 C.2.1 hdg hL hn rfl (fun ls' hL' => kk ls' H locs (lv_sub hL' ks hl) hP hS)
theorem V_acmp_eq (C : Cx p l s m args meth c cc own nL ret hh G X N0) {rx ry : Option Nat} {off : Int} {tgt : Nat} (hdg : decode cc pc = .ok (.if_acmp .eq off, 3)) (ht : (pc : Int) + off = (tgt : Int)) (kt : rx = ry → V p l e R s m args below meth c G N0 nL Q cells slots M tgt L rest) (kf : ¬ rx = ry → V p l e R s m args below meth c G N0 nL Q cells slots M (pc + 3) L rest) : V p l e R s m args below meth c G N0 nL Q cells slots M pc L (va_rf ry :: va_rf rx :: rest) := fun ls H locs hL hP hS => lv_acmp_eq C.1 C.2.1 hdg ht (fun z0 => kt z0 ls H locs hL hP hS) (fun z0 => kf z0 ls H locs hL hP hS)
theorem V_acmp_ne (C : Cx p l s m args meth c cc own nL ret hh G X N0) {rx ry : Option Nat} {off : Int} {tgt : Nat} (hdg : decode cc pc = .ok (.if_acmp .ne off, 3)) (ht : (pc : Int) + off = (tgt : Int)) (kt : ¬ rx = ry → V p l e R s m args below meth c G N0 nL Q cells slots M tgt L rest) (kf : rx = ry → V p l e R s m args below meth c G N0 nL Q cells slots M (pc + 3) L rest) : V p l e R s m args below meth c G N0 nL Q cells slots M pc L (va_rf ry :: va_rf rx :: rest) := fun ls H locs hL hP hS => lv_acmp_ne C.1 C.2.1 hdg ht (fun z0 => kt z0 ls H locs hL hP hS) (fun z0 => kf z0 ls H locs hL hP hS)
theorem V_castN (C : Cx p l s m args meth c cc own nL ret hh G X N0) {index : Nat} (hdg : decode cc pc = .ok (.checkcast index, 3)) (k : V p l e R s m args below meth c G N0 nL Q cells slots M (pc + 3) L (.null :: rest)) : V p l e R s m args below meth c G N0 nL Q cells slots M pc L (.null :: rest) := fun ls H locs hL hP hS => lv_castN C.1 C.2.1 hdg (k ls H locs hL hP hS)
theorem V_instN (C : Cx p l s m args meth c cc own nL ret hh G X N0) {index : Nat} (hdg : decode cc pc = .ok (.instanceof index, 3)) (k : V p l e R s m args below meth c G N0 nL Q cells slots M (pc + 3) L (.int 0 :: rest)) : V p l e R s m args below meth c G N0 nL Q cells slots M pc L (.null :: rest) := fun ls H locs hL hP hS => lv_instN C.1 C.2.1 hdg (k ls H locs hL hP hS)
theorem V_ldcw (C : Cx p l s m args meth c cc own nL ret hh G X N0) {index : Nat} {v : Int32} (hconst : (Jvm.Cond.constant own index v).before args s = true) (hdg : decode cc pc = .ok (.ldc_w index, 3)) (k : V p l e R s m args below meth c G N0 nL Q cells slots M (pc + 3) L (.int v :: rest)) : V p l e R s m args below meth c G N0 nL Q cells slots M pc L rest := fun ls H locs hL hP hS => lv_ldcw C.1 C.2.1 C.2.2.2.1 hconst hdg (k ls H locs hL hP hS)
theorem V_pc {pc1 : Nat} (hp : pc = pc1) (k : V p l e R s m args below meth c G N0 nL Q cells slots M pc1 L st) : V p l e R s m args below meth c G N0 nL Q cells slots M pc L st := by
  subst hp; exact k
theorem V_st {st' : List Value} (hs : st = st') (k : V p l e R s m args below meth c G N0 nL Q cells slots M pc L st') : V p l e R s m args below meth c G N0 nL Q cells slots M pc L st := by
  subst hs; exact k
theorem V_loc {L' : List (Nat × Value)} (ks : List Nat) (hl : lv_pick L ks = L') (k : V p l e R s m args below meth c G N0 nL Q cells slots M pc L' st) : V p l e R s m args below meth c G N0 nL Q cells slots M pc L st := fun ls H locs hL hP hS => k ls H locs (lv_sub hL ks hl) hP hS
theorem V_heap {M' : hp_h} (hm : M = M') (k : V p l e R s m args below meth c G N0 nL Q cells slots M' pc L st) : V p l e R s m args below meth c G N0 nL Q cells slots M pc L st := by
  subst hm; exact k
theorem V_widen {k n : Nat} (h1 : cells ≤ k) (h2 : slots ≤ n) (kk : V p l e R s m args below meth c G N0 nL Q k n M pc L st) : V p l e R s m args below meth c G N0 nL Q cells slots M pc L st := fun ls H locs hL hP hS => W.widen h1 h2 (kk ls H locs hL hP hS)
theorem V_lcmp (C : Cx p l s m args meth c cc own nL ret hh G X N0) {x y : Int64} (hdg : decode cc pc = .ok (.lcmp, 1)) (k : V p l e R s m args below meth c G N0 nL Q cells slots M (pc + 1) L (.int (lg_cmp x y) :: rest)) : V p l e R s m args below meth c G N0 nL Q cells slots M pc L (.long y :: .long x :: rest) := fun ls H locs hL hP hS => W.lcmp C.1 C.2.1 hdg (k ls H locs hL hP hS)
/-- a field of a class of ours, by a number of the reader's pool -/
def FP (own : String) (idx ci k : Nat) (ty : FieldType) (fin : Bool) : Prop := ∃ (C : String) (T : u_T) (N : Nat) (ty0 : Nat → FieldType), CLS[ci]? = some (C, T, N) ∧ k < N ∧ (∀ w ∈ u_ws C T N, w ∈ lw_all) ∧ (∀ j, j < N → parseFieldDescriptor (T j).2.2.1 = some (ty0 j)) ∧ (∀ a, a < N → ∀ b, b < N → a ≠ b → (T a).2.1 ≠ (T b).2.1 ∨ ((T a).1 ≠ (T b).1 ∧ (T a).2.2.2 = true ∧ (T b).2.2.2 = true)) ∧ ty0 k = ty ∧ (T k).2.2.2 = fin ∧
  ∃ ref : String, Cond.fieldLink own idx ref (T k).2.1 (T k).2.2.1 ∈ lw_all ∧ (ref = (T k).1 ∨ Cond.sameField ref (T k).1 (T k).2.1 (T k).2.2.1 ∈ lw_all) ∧ (fin = true → (T k).1 = own)
def FN (own : String) (idx ci k : Nat) (ty : FieldType) (fin : Bool) : Prop := ∃ (C : String) (T : u_T) (N : Nat) (ty0 : Nat → FieldType), CLS[ci]? = some (C, T, N) ∧ k < N ∧ (∀ w ∈ u_ws C T N, w ∈ lw_all) ∧ (∀ j, j < N → parseFieldDescriptor (T j).2.2.1 = some (ty0 j)) ∧ (∀ a, a < N → ∀ b, b < N → a ≠ b → (T a).2.1 ≠ (T b).2.1 ∨ ((T a).1 ≠ (T b).1 ∧ (T a).2.2.2 = true ∧ (T b).2.2.2 = true)) ∧ ty0 k = ty ∧ (T k).2.2.2 = fin ∧
  ∃ host : String, Cond.fieldLinkNest own idx (T k).1 (T k).2.1 (T k).2.2.1 host ∈ lw_tbl
theorem hp_same {ref o n d : String} {args : Array Value} {s : State} (hts : ∀ w ∈ lw_all, w.before args s = true) (h : ref = o ∨ Cond.sameField ref o n d ∈ lw_all) : ∀ x, s.fieldFound? o n d = some x → s.fieldFound? ref n d = some x := by
  rcases h with h | h
  · subst h; exact fun _ h => h
  · exact fun x hx => u_same (hts _ h) x hx
theorem V_get (C : Cx p l s m args meth c cc own nL ret hh G X N0) {idx ci k a : Nat} {ty : FieldType} {fin : Bool} {fs : List Value} {v : Value} (hf : FP own idx ci k ty fin) (ha : M a = some (.inr (ci, fs))) (hv : fs[k]? = some v) (hdg : decode cc pc = .ok (.getfield idx, 3)) (kk : V p l e R s m args below meth c G N0 nL Q cells slots M (pc + 3) L (v :: rest)) : V p l e R s m args below meth c G N0 nL Q cells slots M pc L (.ref a :: rest) := by
  intro ls H locs hL hP hS
  have kk := kk ls H locs hL hP hS
  obtain ⟨ws, h1, h2, h3⟩ := hP
  obtain ⟨q0, hq⟩ := (h3 _ _).mp ha
  obtain ⟨CC, T, N, ty0, f1, f2, f3, f4, f5, f6, f7, ref, f8, f9, -⟩ := hf
  exact va_get C.1 C.2.1 C.2.2.2.2.1 f3 C.2.2.2.1 C.2.2.2.2.2.2.2.2.1.1.1 h1 q0 hq f1 k f2 (C.w f8) (hp_same C.2.2.2.2.1 f9) hv hdg kk
theorem V_getN (C : Cx p l s m args meth c cc own nL ret hh G X N0) {idx ci k a : Nat} {ty : FieldType} {fin : Bool} {fs : List Value} {v : Value} (hf : FN own idx ci k ty fin) (ha : M a = some (.inr (ci, fs))) (hv : fs[k]? = some v) (hdg : decode cc pc = .ok (.getfield idx, 3)) (kk : V p l e R s m args below meth c G N0 nL Q cells slots M (pc + 3) L (v :: rest)) : V p l e R s m args below meth c G N0 nL Q cells slots M pc L (.ref a :: rest) := by
  intro ls H locs hL hP hS
  have kk := kk ls H locs hL hP hS
  obtain ⟨ws, h1, h2, h3⟩ := hP
  obtain ⟨q0, hq⟩ := (h3 _ _).mp ha
  obtain ⟨CC, T, N, ty0, f1, f2, f3, f4, f5, f6, f7, host, f8⟩ := hf
  exact va_getN (host := host) C.1 C.2.1 C.2.2.2.2.1 f3 C.2.2.2.1 C.2.2.2.2.2.2.2.2.1.1.1 h1 q0 hq f1 k f2 ((C.2.2.2.2.2.2.2.2.1.1.2.1 _ f8 rfl).use rfl) (fun _ h => h) hv hdg kk
theorem V_put (C : Cx p l s m args meth c cc own nL ret hh G X N0) {idx ci k a : Nat} {ty : FieldType} {fs : List Value} {v : Value} (hf : FP own idx ci k ty false) (ha : M a = some (.inr (ci, fs))) (hn : narrow ty v = v) (hfit : fits ty v = true) (hl : k < fs.length) (hdg : decode cc pc = .ok (.putfield idx, 3)) (kk : V p l e R s m args below meth c G N0 nL Q cells slots (hp_up M a (.inr (ci, fs.set k v))) (pc + 3) L rest) : V p l e R s m args below meth c G N0 nL Q cells slots M pc L (v :: .ref a :: rest) := by
  intro ls H locs hL hP hS
  obtain ⟨ws, h1, h2, h3⟩ := hP
  obtain ⟨q0, hq⟩ := (h3 _ _).mp ha
  obtain ⟨CC, T, N, ty0, f1, f2, f3, f4, f5, f6, f7, ref, f8, f9, -⟩ := hf
  subst f6
  exact hp_put C.1 C.2.1 C.2.2.2.2.1 f3 ty0 f4 f5 C.2.2.2.1 C.2.2.2.2.2.2.2.2.1.1.1 h1 h2 hS q0 hq f1 k f2 (C.w f8) (hp_same C.2.2.2.2.1 f9) f7 (f4 k f2) hn hfit hl hdg (fun H1 locs1 g1 g2 g3 => kk ls H1 locs1 hL ⟨_, g1, g2, hp_iff_set h2 h3 hq⟩ g3)
theorem V_putN (C : Cx p l s m args meth c cc own nL ret hh G X N0) {idx ci k a : Nat} {ty : FieldType} {fs : List Value} {v : Value} (hf : FN own idx ci k ty false) (ha : M a = some (.inr (ci, fs))) (hn : narrow ty v = v) (hfit : fits ty v = true) (hl : k < fs.length) (hdg : decode cc pc = .ok (.putfield idx, 3)) (kk : V p l e R s m args below meth c G N0 nL Q cells slots (hp_up M a (.inr (ci, fs.set k v))) (pc + 3) L rest) : V p l e R s m args below meth c G N0 nL Q cells slots M pc L (v :: .ref a :: rest) := by
  intro ls H locs hL hP hS
  obtain ⟨ws, h1, h2, h3⟩ := hP
  obtain ⟨q0, hq⟩ := (h3 _ _).mp ha
  obtain ⟨CC, T, N, ty0, f1, f2, f3, f4, f5, f6, f7, host, f8⟩ := hf
  subst f6
  exact hp_putN (host := host) C.1 C.2.1 C.2.2.2.2.1 f3 ty0 f4 f5 C.2.2.2.1 C.2.2.2.2.2.2.2.2.1.1.1 h1 h2 hS q0 hq f1 k f2 ((C.2.2.2.2.2.2.2.2.1.1.2.1 _ f8 rfl).use rfl) (fun _ h => h) f7 (f4 k f2) hn hfit hl hdg (fun H1 locs1 g1 g2 g3 => kk ls H1 locs1 hL ⟨_, g1, g2, hp_iff_set h2 h3 hq⟩ g3)
theorem V_putF (C : Cx p l s m args meth c cc own nL ret hh G X N0) (hin : meth.name = "<init>") {idx ci k a : Nat} {ty : FieldType} {fs : List Value} {v : Value} (hf : FP own idx ci k ty true) (ha : M a = some (.inr (ci, fs))) (hn : narrow ty v = v) (hfit : fits ty v = true) (hl : k < fs.length) (hdg : decode cc pc = .ok (.putfield idx, 3)) (kk : V p l e R s m args below meth c G N0 nL Q cells slots (hp_up M a (.inr (ci, fs.set k v))) (pc + 3) L rest) : V p l e R s m args below meth c G N0 nL Q cells slots M pc L (v :: .ref a :: rest) := by
  intro ls H locs hL hP hS
  obtain ⟨ws, h1, h2, h3⟩ := hP
  obtain ⟨q0, hq⟩ := (h3 _ _).mp ha
  obtain ⟨CC, T, N, ty0, f1, f2, f3, f4, f5, f6, f7, ref, f8, f9, f10⟩ := hf
  subst f6
  exact hp_putF C.1 C.2.1 C.2.2.2.2.1 f3 ty0 f4 f5 C.2.2.2.1 C.2.2.2.2.2.2.2.2.1.1.1 h1 h2 hS q0 hq f1 k f2 (C.w f8) (hp_same C.2.2.2.2.1 f9) f7 hin (f10 rfl) (f4 k f2) hn hfit hl hdg (fun H1 locs1 g1 g2 g3 => kk ls H1 locs1 hL ⟨_, g1, g2, hp_iff_set h2 h3 hq⟩ g3)
/-- a new object: its class by a number of the maker's pool -/
def NO (own : String) (idx ci : Nat) (fs : List Value) : Prop := ∃ (C : String) (T : u_T) (N : Nat) (ty0 : Nat → FieldType), CLS[ci]? = some (C, T, N) ∧ (∀ w ∈ u_ws C T N, w ∈ lw_all) ∧ (∀ j, j < N → parseFieldDescriptor (T j).2.2.1 = some (ty0 j)) ∧ Cond.classLink own idx C ∈ lw_all ∧ Cond.instantiable C N ∈ lw_all ∧ Cond.initialized C ∈ lw_all ∧ (∀ j, j < N → defaultValue (ty0 j) = vp_V fs j) ∧ fs.length = N
theorem V_new (C : Cx p l s m args meth c cc own nL ret hh G X N0) {idx ci n : Nat} {fs : List Value} (hf : NO own idx ci fs) (hn : fs.length = n) (hc : cells + 1 ≤ R.cells) (hs : slots + n ≤ R.slots) (hdg : decode cc pc = .ok (.new idx, 3)) (kk : ∀ q : Nat, M q = none → V p l e R s m args below meth c G N0 nL Q (cells + 1) (slots + n) (hp_up M q (.inr (ci, fs))) (pc + 3) L (.ref q :: rest)) : V p l e R s m args below meth c G N0 nL Q cells slots M pc L rest := by
  intro ls H locs hL hP hS
  obtain ⟨ws, h1, h2, h3⟩ := hP
  obtain ⟨CC, T, N, ty0, f1, f2, f3, f4, f5, f6, f7, f8⟩ := hf
  have e : N = n := f8.symm.trans hn
  subst e
  exact va_new C.1 C.2.1 C.2.2.2.2.1 f2 ty0 f3 C.2.2.2.1 (C.w f4) (C.w f5) (C.w f6) C.2.2.2.2.2.2.2.2.1.1.1 h1 h2 hS (fun q hq => Nat.le_trans C.2.2.2.2.2.2.2.2.2.1 hq) f1 f7 hc hs hdg (fun q H1 g1 g2 g3 => kk q (hp_fresh g2 h3) ls H1 locs hL ⟨_, g1, g2, hp_iff_push g2 h3⟩ g3)
theorem hp_cls {C : Cx p l s m args meth c cc own nL ret hh G X N0} {j : Nat} {cA : ClassId} {ty : FieldType} (hj : (TYS G.2)[j]? = some (G.2 j, ty)) (hp : refKind ty = false) (h : va_RA s cA ty) : cA = G.2 j := by
  have h1 := (C.2.2.2.2.2.2.2.2.1.1.1.2 j _ hj).2
  cases ty <;> first | (simp [refKind] at hp; done) | exact Option.some.inj (h.symm.trans h1)
theorem V_zald (C : Cx p l s m args meth c cc own nL ret hh G X N0) {a n : Nat} {f : Nat → Int32} (ha : M a = some (.inl (G.2 0, n, .inl f))) {i : Int32} (hin : vp_in i n) (hdg : decode cc pc = .ok (.baload, 1)) (kk : V p l e R s m args below meth c G N0 nL Q cells slots M (pc + 1) L (.int (f i.toNatClampNeg) :: rest)) : V p l e R s m args below meth c G N0 nL Q cells slots M pc L (.int i :: .ref a :: rest) := by
  intro ls H locs hL hP hS
  have kk := kk ls H locs hL hP hS
  obtain ⟨ws, h1, h2, h3⟩ := hP
  obtain ⟨q0, hq⟩ := (h3 _ _).mp ha
  exact va_zald C.1 C.2.1 C.2.2.2.2.2.2.2.2.1.1.1 h1 q0 0 hq rfl hin hdg kk
theorem V_zast (C : Cx p l s m args meth c cc own nL ret hh G X N0) {a n : Nat} {f : Nat → Int32} (ha : M a = some (.inl (G.2 0, n, .inl f))) {i : Int32} {x : Int32} (hin : vp_in i n) (hdg : decode cc pc = .ok (.bastore, 1)) (kk : V p l e R s m args below meth c G N0 nL Q cells slots (hp_up M a (.inl (G.2 0, n, .inl (upd f i.toNatClampNeg (vp_nar .boolean x))))) (pc + 1) L rest) : V p l e R s m args below meth c G N0 nL Q cells slots M pc L (.int x :: .int i :: .ref a :: rest) := by
  intro ls H locs hL hP hS
  obtain ⟨ws, h1, h2, h3⟩ := hP
  obtain ⟨q0, hq⟩ := (h3 _ _).mp ha
  exact va_zast C.1 C.2.1 C.2.2.2.2.2.2.2.2.1.1.1 h1 h2 hS q0 0 hq rfl hin hdg (fun H1 locs1 g1 g2 g3 => kk ls H1 locs1 hL ⟨_, g1, g2, hp_iff_set h2 h3 hq⟩ g3)
theorem V_bald (C : Cx p l s m args meth c cc own nL ret hh G X N0) {a n : Nat} {f : Nat → Int32} (ha : M a = some (.inl (G.2 1, n, .inl f))) {i : Int32} (hin : vp_in i n) (hdg : decode cc pc = .ok (.baload, 1)) (kk : V p l e R s m args below meth c G N0 nL Q cells slots M (pc + 1) L (.int (f i.toNatClampNeg) :: rest)) : V p l e R s m args below meth c G N0 nL Q cells slots M pc L (.int i :: .ref a :: rest) := by
  intro ls H locs hL hP hS
  have kk := kk ls H locs hL hP hS
  obtain ⟨ws, h1, h2, h3⟩ := hP
  obtain ⟨q0, hq⟩ := (h3 _ _).mp ha
  exact va_bald C.1 C.2.1 C.2.2.2.2.2.2.2.2.1.1.1 h1 q0 1 hq rfl hin hdg kk
theorem V_bast (C : Cx p l s m args meth c cc own nL ret hh G X N0) {a n : Nat} {f : Nat → Int32} (ha : M a = some (.inl (G.2 1, n, .inl f))) {i : Int32} {x : Int32} (hin : vp_in i n) (hdg : decode cc pc = .ok (.bastore, 1)) (kk : V p l e R s m args below meth c G N0 nL Q cells slots (hp_up M a (.inl (G.2 1, n, .inl (upd f i.toNatClampNeg (vp_nar .byte x))))) (pc + 1) L rest) : V p l e R s m args below meth c G N0 nL Q cells slots M pc L (.int x :: .int i :: .ref a :: rest) := by
  intro ls H locs hL hP hS
  obtain ⟨ws, h1, h2, h3⟩ := hP
  obtain ⟨q0, hq⟩ := (h3 _ _).mp ha
  exact va_bast C.1 C.2.1 C.2.2.2.2.2.2.2.2.1.1.1 h1 h2 hS q0 1 hq rfl hin hdg (fun H1 locs1 g1 g2 g3 => kk ls H1 locs1 hL ⟨_, g1, g2, hp_iff_set h2 h3 hq⟩ g3)
theorem V_cald (C : Cx p l s m args meth c cc own nL ret hh G X N0) {a n : Nat} {f : Nat → Int32} (ha : M a = some (.inl (G.2 2, n, .inl f))) {i : Int32} (hin : vp_in i n) (hdg : decode cc pc = .ok (.caload, 1)) (kk : V p l e R s m args below meth c G N0 nL Q cells slots M (pc + 1) L (.int (f i.toNatClampNeg) :: rest)) : V p l e R s m args below meth c G N0 nL Q cells slots M pc L (.int i :: .ref a :: rest) := by
  intro ls H locs hL hP hS
  have kk := kk ls H locs hL hP hS
  obtain ⟨ws, h1, h2, h3⟩ := hP
  obtain ⟨q0, hq⟩ := (h3 _ _).mp ha
  exact va_cald C.1 C.2.1 C.2.2.2.2.2.2.2.2.1.1.1 h1 q0 2 hq rfl hin hdg kk
theorem V_cast (C : Cx p l s m args meth c cc own nL ret hh G X N0) {a n : Nat} {f : Nat → Int32} (ha : M a = some (.inl (G.2 2, n, .inl f))) {i : Int32} {x : Int32} (hin : vp_in i n) (hdg : decode cc pc = .ok (.castore, 1)) (kk : V p l e R s m args below meth c G N0 nL Q cells slots (hp_up M a (.inl (G.2 2, n, .inl (upd f i.toNatClampNeg (vp_nar .char x))))) (pc + 1) L rest) : V p l e R s m args below meth c G N0 nL Q cells slots M pc L (.int x :: .int i :: .ref a :: rest) := by
  intro ls H locs hL hP hS
  obtain ⟨ws, h1, h2, h3⟩ := hP
  obtain ⟨q0, hq⟩ := (h3 _ _).mp ha
  exact va_cast C.1 C.2.1 C.2.2.2.2.2.2.2.2.1.1.1 h1 h2 hS q0 2 hq rfl hin hdg (fun H1 locs1 g1 g2 g3 => kk ls H1 locs1 hL ⟨_, g1, g2, hp_iff_set h2 h3 hq⟩ g3)
theorem V_sald (C : Cx p l s m args meth c cc own nL ret hh G X N0) {a n : Nat} {f : Nat → Int32} (ha : M a = some (.inl (G.2 3, n, .inl f))) {i : Int32} (hin : vp_in i n) (hdg : decode cc pc = .ok (.saload, 1)) (kk : V p l e R s m args below meth c G N0 nL Q cells slots M (pc + 1) L (.int (f i.toNatClampNeg) :: rest)) : V p l e R s m args below meth c G N0 nL Q cells slots M pc L (.int i :: .ref a :: rest) := by
  intro ls H locs hL hP hS
  have kk := kk ls H locs hL hP hS
  obtain ⟨ws, h1, h2, h3⟩ := hP
  obtain ⟨q0, hq⟩ := (h3 _ _).mp ha
  exact va_sald C.1 C.2.1 C.2.2.2.2.2.2.2.2.1.1.1 h1 q0 3 hq rfl hin hdg kk
theorem V_sast (C : Cx p l s m args meth c cc own nL ret hh G X N0) {a n : Nat} {f : Nat → Int32} (ha : M a = some (.inl (G.2 3, n, .inl f))) {i : Int32} {x : Int32} (hin : vp_in i n) (hdg : decode cc pc = .ok (.sastore, 1)) (kk : V p l e R s m args below meth c G N0 nL Q cells slots (hp_up M a (.inl (G.2 3, n, .inl (upd f i.toNatClampNeg (vp_nar .short x))))) (pc + 1) L rest) : V p l e R s m args below meth c G N0 nL Q cells slots M pc L (.int x :: .int i :: .ref a :: rest) := by
  intro ls H locs hL hP hS
  obtain ⟨ws, h1, h2, h3⟩ := hP
  obtain ⟨q0, hq⟩ := (h3 _ _).mp ha
  exact va_sast C.1 C.2.1 C.2.2.2.2.2.2.2.2.1.1.1 h1 h2 hS q0 3 hq rfl hin hdg (fun H1 locs1 g1 g2 g3 => kk ls H1 locs1 hL ⟨_, g1, g2, hp_iff_set h2 h3 hq⟩ g3)
theorem V_iald (C : Cx p l s m args meth c cc own nL ret hh G X N0) {a n : Nat} {f : Nat → Int32} (ha : M a = some (.inl (G.2 4, n, .inl f))) {i : Int32} (hin : vp_in i n) (hdg : decode cc pc = .ok (.iaload, 1)) (kk : V p l e R s m args below meth c G N0 nL Q cells slots M (pc + 1) L (.int (f i.toNatClampNeg) :: rest)) : V p l e R s m args below meth c G N0 nL Q cells slots M pc L (.int i :: .ref a :: rest) := by
  intro ls H locs hL hP hS
  have kk := kk ls H locs hL hP hS
  obtain ⟨ws, h1, h2, h3⟩ := hP
  obtain ⟨q0, hq⟩ := (h3 _ _).mp ha
  exact va_iald C.1 C.2.1 C.2.2.2.2.2.2.2.2.1.1.1 h1 q0 4 hq rfl hin hdg kk
theorem V_iast (C : Cx p l s m args meth c cc own nL ret hh G X N0) {a n : Nat} {f : Nat → Int32} (ha : M a = some (.inl (G.2 4, n, .inl f))) {i : Int32} {x : Int32} (hin : vp_in i n) (hdg : decode cc pc = .ok (.iastore, 1)) (kk : V p l e R s m args below meth c G N0 nL Q cells slots (hp_up M a (.inl (G.2 4, n, .inl (upd f i.toNatClampNeg x)))) (pc + 1) L rest) : V p l e R s m args below meth c G N0 nL Q cells slots M pc L (.int x :: .int i :: .ref a :: rest) := by
  intro ls H locs hL hP hS
  obtain ⟨ws, h1, h2, h3⟩ := hP
  obtain ⟨q0, hq⟩ := (h3 _ _).mp ha
  exact va_iast C.1 C.2.1 C.2.2.2.2.2.2.2.2.1.1.1 h1 h2 hS q0 4 hq rfl hin hdg (fun H1 locs1 g1 g2 g3 => kk ls H1 locs1 hL ⟨_, g1, g2, hp_iff_set h2 h3 hq⟩ g3)
theorem V_lald (C : Cx p l s m args meth c cc own nL ret hh G X N0) {a n : Nat} {f : Nat → Int64} (ha : M a = some (.inl (G.2 5, n, .inr (.inl f)))) {i : Int32} (hin : vp_in i n) (hdg : decode cc pc = .ok (.laload, 1)) (kk : V p l e R s m args below meth c G N0 nL Q cells slots M (pc + 1) L (.long (f i.toNatClampNeg) :: rest)) : V p l e R s m args below meth c G N0 nL Q cells slots M pc L (.int i :: .ref a :: rest) := by
  intro ls H locs hL hP hS
  have kk := kk ls H locs hL hP hS
  obtain ⟨ws, h1, h2, h3⟩ := hP
  obtain ⟨q0, hq⟩ := (h3 _ _).mp ha
  exact va_lald C.1 C.2.1 C.2.2.2.2.2.2.2.2.1.1.1 h1 q0 5 hq rfl hin hdg kk
theorem V_last (C : Cx p l s m args meth c cc own nL ret hh G X N0) {a n : Nat} {f : Nat → Int64} (ha : M a = some (.inl (G.2 5, n, .inr (.inl f)))) {i : Int32} {x : Int64} (hin : vp_in i n) (hdg : decode cc pc = .ok (.lastore, 1)) (kk : V p l e R s m args below meth c G N0 nL Q cells slots (hp_up M a (.inl (G.2 5, n, .inr (.inl (vp_updL f i.toNatClampNeg x))))) (pc + 1) L rest) : V p l e R s m args below meth c G N0 nL Q cells slots M pc L (.long x :: .int i :: .ref a :: rest) := by
  intro ls H locs hL hP hS
  obtain ⟨ws, h1, h2, h3⟩ := hP
  obtain ⟨q0, hq⟩ := (h3 _ _).mp ha
  exact va_last C.1 C.2.1 C.2.2.2.2.2.2.2.2.1.1.1 h1 h2 hS q0 5 hq rfl hin hdg (fun H1 locs1 g1 g2 g3 => kk ls H1 locs1 hL ⟨_, g1, g2, hp_iff_set h2 h3 hq⟩ g3)
theorem V_fald (C : Cx p l s m args meth c cc own nL ret hh G X N0) {a n : Nat} {f : Nat → UInt32} (ha : M a = some (.inl (G.2 6, n, .inr (.inr (.inl f))))) {i : Int32} (hin : vp_in i n) (hdg : decode cc pc = .ok (.faload, 1)) (kk : V p l e R s m args below meth c G N0 nL Q cells slots M (pc + 1) L (.float (f i.toNatClampNeg) :: rest)) : V p l e R s m args below meth c G N0 nL Q cells slots M pc L (.int i :: .ref a :: rest) := by
  intro ls H locs hL hP hS
  have kk := kk ls H locs hL hP hS
  obtain ⟨ws, h1, h2, h3⟩ := hP
  obtain ⟨q0, hq⟩ := (h3 _ _).mp ha
  exact va_fald C.1 C.2.1 C.2.2.2.2.2.2.2.2.1.1.1 h1 q0 6 hq rfl hin hdg kk
theorem V_fast (C : Cx p l s m args meth c cc own nL ret hh G X N0) {a n : Nat} {f : Nat → UInt32} (ha : M a = some (.inl (G.2 6, n, .inr (.inr (.inl f))))) {i : Int32} {x : UInt32} (hin : vp_in i n) (hdg : decode cc pc = .ok (.fastore, 1)) (kk : V p l e R s m args below meth c G N0 nL Q cells slots (hp_up M a (.inl (G.2 6, n, .inr (.inr (.inl (vf_upd f i.toNatClampNeg x)))))) (pc + 1) L rest) : V p l e R s m args below meth c G N0 nL Q cells slots M pc L (.float x :: .int i :: .ref a :: rest) := by
  intro ls H locs hL hP hS
  obtain ⟨ws, h1, h2, h3⟩ := hP
  obtain ⟨q0, hq⟩ := (h3 _ _).mp ha
  exact va_fast C.1 C.2.1 C.2.2.2.2.2.2.2.2.1.1.1 h1 h2 hS q0 6 hq rfl hin hdg (fun H1 locs1 g1 g2 g3 => kk ls H1 locs1 hL ⟨_, g1, g2, hp_iff_set h2 h3 hq⟩ g3)
theorem V_dald (C : Cx p l s m args meth c cc own nL ret hh G X N0) {a n : Nat} {f : Nat → UInt64} (ha : M a = some (.inl (G.2 7, n, .inr (.inr (.inr (.inl f)))))) {i : Int32} (hin : vp_in i n) (hdg : decode cc pc = .ok (.daload, 1)) (kk : V p l e R s m args below meth c G N0 nL Q cells slots M (pc + 1) L (.double (f i.toNatClampNeg) :: rest)) : V p l e R s m args below meth c G N0 nL Q cells slots M pc L (.int i :: .ref a :: rest) := by
  intro ls H locs hL hP hS
  have kk := kk ls H locs hL hP hS
  obtain ⟨ws, h1, h2, h3⟩ := hP
  obtain ⟨q0, hq⟩ := (h3 _ _).mp ha
  exact va_dald C.1 C.2.1 C.2.2.2.2.2.2.2.2.1.1.1 h1 q0 7 hq rfl hin hdg kk
theorem V_dast (C : Cx p l s m args meth c cc own nL ret hh G X N0) {a n : Nat} {f : Nat → UInt64} (ha : M a = some (.inl (G.2 7, n, .inr (.inr (.inr (.inl f)))))) {i : Int32} {x : UInt64} (hin : vp_in i n) (hdg : decode cc pc = .ok (.dastore, 1)) (kk : V p l e R s m args below meth c G N0 nL Q cells slots (hp_up M a (.inl (G.2 7, n, .inr (.inr (.inr (.inl (vf_upd f i.toNatClampNeg x))))))) (pc + 1) L rest) : V p l e R s m args below meth c G N0 nL Q cells slots M pc L (.double x :: .int i :: .ref a :: rest) := by
  intro ls H locs hL hP hS
  obtain ⟨ws, h1, h2, h3⟩ := hP
  obtain ⟨q0, hq⟩ := (h3 _ _).mp ha
  exact va_dast C.1 C.2.1 C.2.2.2.2.2.2.2.2.1.1.1 h1 h2 hS q0 7 hq rfl hin hdg (fun H1 locs1 g1 g2 g3 => kk ls H1 locs1 hL ⟨_, g1, g2, hp_iff_set h2 h3 hq⟩ g3)
theorem V_alen (C : Cx p l s m args meth c cc own nL ret hh G X N0) {a j : Nat} {x : vp_A} {ty : FieldType} (ht : (TYS G.2)[j]? = some (G.2 j, ty)) (ha : M a = some (.inl (G.2 j, x))) {v : Int32} (hv : Int32.ofNat x.1 = v) (hdg : decode cc pc = .ok (.arraylength, 1)) (kk : V p l e R s m args below meth c G N0 nL Q cells slots M (pc + 1) L (.int v :: rest)) : V p l e R s m args below meth c G N0 nL Q cells slots M pc L (.ref a :: rest) := by
  intro ls H locs hL hP hS
  have kk := kk ls H locs hL hP hS
  obtain ⟨ws, h1, h2, h3⟩ := hP
  obtain ⟨q0, hq⟩ := (h3 _ _).mp ha
  exact va_alen C.1 C.2.1 C.2.2.2.2.2.2.2.2.1.1.1 h1 q0 j hq ht hv hdg kk
theorem V_aald (C : Cx p l s m args meth c cc own nL ret hh G X N0) {a j n : Nat} {ty : FieldType} {f : Nat → Option Nat} (ht : (TYS G.2)[j]? = some (G.2 j, ty)) (hr : refKind ty = true) (ha : M a = some (.inl (G.2 j, n, .inr (.inr (.inr (.inr f)))))) {i : Int32} (hin : vp_in i n) (hdg : decode cc pc = .ok (.aaload, 1)) (kk : V p l e R s m args below meth c G N0 nL Q cells slots M (pc + 1) L (va_rf (f i.toNatClampNeg) :: rest)) : V p l e R s m args below meth c G N0 nL Q cells slots M pc L (.int i :: .ref a :: rest) := by
  intro ls H locs hL hP hS
  have kk := kk ls H locs hL hP hS
  obtain ⟨ws, h1, h2, h3⟩ := hP
  obtain ⟨q0, hq⟩ := (h3 _ _).mp ha
  have hlt : i.toNatClampNeg < n := Nat.not_le.mp fun q => hin (Or.inr q)
  exact W.aald (v := va_rf (f i.toNatClampNeg)) (ty := ty) C.1 C.2.1 (h1 q0 _ hq) ((C.2.2.2.2.2.2.2.2.1.1.1.2 j _ ht).1 n (fun j => va_rf (f j))) hr (fun q => by cases q) (by show ¬ (i < 0 ∨ (arrV _ _ _).slots.size ≤ _); rw [arrV_size]; exact hin) (by show (arrV _ _ _).slots[_]? = _; rw [arrV_read _ _ hlt]) rfl rfl hdg kk
theorem V_aastN (C : Cx p l s m args meth c cc own nL ret hh G X N0) {a j n : Nat} {E : String} {f : Nat → Option Nat} (ht : (TYS G.2)[j]? = some (G.2 j, .object E)) (ha : M a = some (.inl (G.2 j, n, .inr (.inr (.inr (.inr f)))))) {i : Int32} (hin : vp_in i n) (hdg : decode cc pc = .ok (.aastore, 1)) (kk : V p l e R s m args below meth c G N0 nL Q cells slots (hp_up M a (.inl (G.2 j, n, .inr (.inr (.inr (.inr (va_up f i.toNatClampNeg none))))))) (pc + 1) L rest) : V p l e R s m args below meth c G N0 nL Q cells slots M pc L (.null :: .int i :: .ref a :: rest) := by
  intro ls H locs hL hP hS
  obtain ⟨ws, h1, h2, h3⟩ := hP
  obtain ⟨q0, hq⟩ := (h3 _ _).mp ha
  exact va_astqN C.1 C.2.1 C.2.2.2.2.2.2.2.2.1.1.1 h1 h2 hS q0 j hq ht hin hdg (fun H1 locs1 g1 g2 g3 => kk ls H1 locs1 hL ⟨_, g1, g2, hp_iff_set h2 h3 hq⟩ g3)
theorem V_aast (C : Cx p l s m args meth c cc own nL ret hh G X N0) {a j n v ci : Nat} {E : String} {r : vw_C} {vs : List Value} {f : Nat → Option Nat} (ht : (TYS G.2)[j]? = some (G.2 j, .object E)) (ha : M a = some (.inl (G.2 j, n, .inr (.inr (.inr (.inr f)))))) (hv : M v = some (.inr (ci, vs))) (hc : CLS[ci]? = some r) (hca : Cond.castable r.1 E ∈ lw_tbl) {i : Int32} (hin : vp_in i n) (hdg : decode cc pc = .ok (.aastore, 1)) (kk : V p l e R s m args below meth c G N0 nL Q cells slots (hp_up M a (.inl (G.2 j, n, .inr (.inr (.inr (.inr (va_up f i.toNatClampNeg (some v)))))))) (pc + 1) L rest) : V p l e R s m args below meth c G N0 nL Q cells slots M pc L (.ref v :: .int i :: .ref a :: rest) := by
  intro ls H locs hL hP hS
  obtain ⟨ws, h1, h2, h3⟩ := hP
  obtain ⟨q0, hq⟩ := (h3 _ _).mp ha
  obtain ⟨q1, hq1⟩ := (h3 _ _).mp hv
  exact va_astqO C.1 C.2.1 C.2.2.2.2.2.2.2.2.1.1.1 h1 h2 hS q0 j q1 ci hq ht (C.2.2.2.2.2.2.2.2.1.1.2.1 _ hca rfl) hq1 hc hin hdg (fun H1 locs1 g1 g2 g3 => kk ls H1 locs1 hL ⟨_, g1, g2, hp_iff_set h2 h3 hq⟩ g3)
theorem V_aastS (C : Cx p l s m args meth c cc own nL ret hh G X N0) {a j n v ci : Nat} {r : vw_C} {vs : List Value} {f : Nat → Option Nat} (ht : (TYS G.2)[j]? = some (G.2 j, .object r.1)) (ha : M a = some (.inl (G.2 j, n, .inr (.inr (.inr (.inr f)))))) (hv : M v = some (.inr (ci, vs))) (hc : CLS[ci]? = some r) {i : Int32} (hin : vp_in i n) (hdg : decode cc pc = .ok (.aastore, 1)) (kk : V p l e R s m args below meth c G N0 nL Q cells slots (hp_up M a (.inl (G.2 j, n, .inr (.inr (.inr (.inr (va_up f i.toNatClampNeg (some v)))))))) (pc + 1) L rest) : V p l e R s m args below meth c G N0 nL Q cells slots M pc L (.ref v :: .int i :: .ref a :: rest) := by
  intro ls H locs hL hP hS
  obtain ⟨ws, h1, h2, h3⟩ := hP
  obtain ⟨q0, hq⟩ := (h3 _ _).mp ha
  obtain ⟨q1, hq1⟩ := (h3 _ _).mp hv
  exact va_astq C.1 C.2.1 C.2.2.2.2.2.2.2.2.1.1.1 h1 h2 hS q0 j q1 ci hq ht hq1 hc hin hdg (fun H1 locs1 g1 g2 g3 => kk ls H1 locs1 hL ⟨_, g1, g2, hp_iff_set h2 h3 hq⟩ g3)
theorem V_new_z (C : Cx p l s m args meth c cc own nL ret hh G X N0) (harr : Cond.arrayClass .boolean ∈ lw_all) {n : Int32} {N' : Nat} (hn : ¬ n < 0) (hN : n.toNatClampNeg = N') (hb9 : N' ≤ 60000000) (hc : cells + 1 ≤ R.cells) (hs : slots + N' ≤ R.slots) (hdg : decode cc pc = .ok (.newarray .boolean, 2)) (kk : ∀ q : Nat, M q = none → V p l e R s m args below meth c G N0 nL Q (cells + 1) (slots + N') (hp_up M q (.inl (G.2 0, N', .inl (fun _ => 0)))) (pc + 2) L (.ref q :: rest)) : V p l e R s m args below meth c G N0 nL Q cells slots M pc L (.int n :: rest) := by
  intro ls H locs hL hP hS
  obtain ⟨ws, h1, h2, h3⟩ := hP
  refine va_newa (atype := .boolean) (a0 := (N', .inl (fun _ => 0))) (ty := .boolean) C.1 C.2.1 (C.w harr) rfl C.2.2.2.2.2.2.2.2.1.1.1 h1 h2 hS (fun q hq => Nat.le_trans C.2.2.2.2.2.2.2.2.2.1 hq) (fun cA => by rw [vp_cell_i]; rfl) hn hN (by simp only [componentBytes]; omega) hc hs hdg (fun q cA H1 gK g1 g2 g3 => ?_)
  have e : cA = G.2 0 := hp_cls (C := C) (ty := .boolean) rfl rfl (gK.2 15 (cA, .boolean) rfl).2
  subst e
  exact kk q (hp_fresh g2 h3) ls H1 locs hL ⟨_, g1, g2, hp_iff_push g2 h3⟩ g3
theorem V_new_b (C : Cx p l s m args meth c cc own nL ret hh G X N0) (harr : Cond.arrayClass .byte ∈ lw_all) {n : Int32} {N' : Nat} (hn : ¬ n < 0) (hN : n.toNatClampNeg = N') (hb9 : N' ≤ 60000000) (hc : cells + 1 ≤ R.cells) (hs : slots + N' ≤ R.slots) (hdg : decode cc pc = .ok (.newarray .byte, 2)) (kk : ∀ q : Nat, M q = none → V p l e R s m args below meth c G N0 nL Q (cells + 1) (slots + N') (hp_up M q (.inl (G.2 1, N', .inl (fun _ => 0)))) (pc + 2) L (.ref q :: rest)) : V p l e R s m args below meth c G N0 nL Q cells slots M pc L (.int n :: rest) := by
  intro ls H locs hL hP hS
  obtain ⟨ws, h1, h2, h3⟩ := hP
  refine va_newa (atype := .byte) (a0 := (N', .inl (fun _ => 0))) (ty := .byte) C.1 C.2.1 (C.w harr) rfl C.2.2.2.2.2.2.2.2.1.1.1 h1 h2 hS (fun q hq => Nat.le_trans C.2.2.2.2.2.2.2.2.2.1 hq) (fun cA => by rw [vp_cell_i]; rfl) hn hN (by simp only [componentBytes]; omega) hc hs hdg (fun q cA H1 gK g1 g2 g3 => ?_)
  have e : cA = G.2 1 := hp_cls (C := C) (ty := .byte) rfl rfl (gK.2 15 (cA, .byte) rfl).2
  subst e
  exact kk q (hp_fresh g2 h3) ls H1 locs hL ⟨_, g1, g2, hp_iff_push g2 h3⟩ g3
theorem V_new_c (C : Cx p l s m args meth c cc own nL ret hh G X N0) (harr : Cond.arrayClass .char ∈ lw_all) {n : Int32} {N' : Nat} (hn : ¬ n < 0) (hN : n.toNatClampNeg = N') (hb9 : N' ≤ 60000000) (hc : cells + 1 ≤ R.cells) (hs : slots + N' ≤ R.slots) (hdg : decode cc pc = .ok (.newarray .char, 2)) (kk : ∀ q : Nat, M q = none → V p l e R s m args below meth c G N0 nL Q (cells + 1) (slots + N') (hp_up M q (.inl (G.2 2, N', .inl (fun _ => 0)))) (pc + 2) L (.ref q :: rest)) : V p l e R s m args below meth c G N0 nL Q cells slots M pc L (.int n :: rest) := by
  intro ls H locs hL hP hS
  obtain ⟨ws, h1, h2, h3⟩ := hP
  refine va_newa (atype := .char) (a0 := (N', .inl (fun _ => 0))) (ty := .char) C.1 C.2.1 (C.w harr) rfl C.2.2.2.2.2.2.2.2.1.1.1 h1 h2 hS (fun q hq => Nat.le_trans C.2.2.2.2.2.2.2.2.2.1 hq) (fun cA => by rw [vp_cell_i]; rfl) hn hN (by simp only [componentBytes]; omega) hc hs hdg (fun q cA H1 gK g1 g2 g3 => ?_)
  have e : cA = G.2 2 := hp_cls (C := C) (ty := .char) rfl rfl (gK.2 15 (cA, .char) rfl).2
  subst e
  exact kk q (hp_fresh g2 h3) ls H1 locs hL ⟨_, g1, g2, hp_iff_push g2 h3⟩ g3
theorem V_new_s (C : Cx p l s m args meth c cc own nL ret hh G X N0) (harr : Cond.arrayClass .short ∈ lw_all) {n : Int32} {N' : Nat} (hn : ¬ n < 0) (hN : n.toNatClampNeg = N') (hb9 : N' ≤ 60000000) (hc : cells + 1 ≤ R.cells) (hs : slots + N' ≤ R.slots) (hdg : decode cc pc = .ok (.newarray .short, 2)) (kk : ∀ q : Nat, M q = none → V p l e R s m args below meth c G N0 nL Q (cells + 1) (slots + N') (hp_up M q (.inl (G.2 3, N', .inl (fun _ => 0)))) (pc + 2) L (.ref q :: rest)) : V p l e R s m args below meth c G N0 nL Q cells slots M pc L (.int n :: rest) := by
  intro ls H locs hL hP hS
  obtain ⟨ws, h1, h2, h3⟩ := hP
  refine va_newa (atype := .short) (a0 := (N', .inl (fun _ => 0))) (ty := .short) C.1 C.2.1 (C.w harr) rfl C.2.2.2.2.2.2.2.2.1.1.1 h1 h2 hS (fun q hq => Nat.le_trans C.2.2.2.2.2.2.2.2.2.1 hq) (fun cA => by rw [vp_cell_i]; rfl) hn hN (by simp only [componentBytes]; omega) hc hs hdg (fun q cA H1 gK g1 g2 g3 => ?_)
  have e : cA = G.2 3 := hp_cls (C := C) (ty := .short) rfl rfl (gK.2 15 (cA, .short) rfl).2
  subst e
  exact kk q (hp_fresh g2 h3) ls H1 locs hL ⟨_, g1, g2, hp_iff_push g2 h3⟩ g3
theorem V_new_i (C : Cx p l s m args meth c cc own nL ret hh G X N0) (harr : Cond.arrayClass .int ∈ lw_all) {n : Int32} {N' : Nat} (hn : ¬ n < 0) (hN : n.toNatClampNeg = N') (hb9 : N' ≤ 60000000) (hc : cells + 1 ≤ R.cells) (hs : slots + N' ≤ R.slots) (hdg : decode cc pc = .ok (.newarray .int, 2)) (kk : ∀ q : Nat, M q = none → V p l e R s m args below meth c G N0 nL Q (cells + 1) (slots + N') (hp_up M q (.inl (G.2 4, N', .inl (fun _ => 0)))) (pc + 2) L (.ref q :: rest)) : V p l e R s m args below meth c G N0 nL Q cells slots M pc L (.int n :: rest) := by
  intro ls H locs hL hP hS
  obtain ⟨ws, h1, h2, h3⟩ := hP
  refine va_newa (atype := .int) (a0 := (N', .inl (fun _ => 0))) (ty := .int) C.1 C.2.1 (C.w harr) rfl C.2.2.2.2.2.2.2.2.1.1.1 h1 h2 hS (fun q hq => Nat.le_trans C.2.2.2.2.2.2.2.2.2.1 hq) (fun cA => by rw [vp_cell_i]; rfl) hn hN (by simp only [componentBytes]; omega) hc hs hdg (fun q cA H1 gK g1 g2 g3 => ?_)
  have e : cA = G.2 4 := hp_cls (C := C) (ty := .int) rfl rfl (gK.2 15 (cA, .int) rfl).2
  subst e
  exact kk q (hp_fresh g2 h3) ls H1 locs hL ⟨_, g1, g2, hp_iff_push g2 h3⟩ g3
theorem V_new_l (C : Cx p l s m args meth c cc own nL ret hh G X N0) (harr : Cond.arrayClass .long ∈ lw_all) {n : Int32} {N' : Nat} (hn : ¬ n < 0) (hN : n.toNatClampNeg = N') (hb9 : N' ≤ 60000000) (hc : cells + 1 ≤ R.cells) (hs : slots + N' ≤ R.slots) (hdg : decode cc pc = .ok (.newarray .long, 2)) (kk : ∀ q : Nat, M q = none → V p l e R s m args below meth c G N0 nL Q (cells + 1) (slots + N') (hp_up M q (.inl (G.2 5, N', .inr (.inl (fun _ => 0))))) (pc + 2) L (.ref q :: rest)) : V p l e R s m args below meth c G N0 nL Q cells slots M pc L (.int n :: rest) := by
  intro ls H locs hL hP hS
  obtain ⟨ws, h1, h2, h3⟩ := hP
  refine va_newa (atype := .long) (a0 := (N', .inr (.inl (fun _ => 0)))) (ty := .long) C.1 C.2.1 (C.w harr) rfl C.2.2.2.2.2.2.2.2.1.1.1 h1 h2 hS (fun q hq => Nat.le_trans C.2.2.2.2.2.2.2.2.2.1 hq) (fun cA => by rw [vp_cell_l]; rfl) hn hN (by simp only [componentBytes]; omega) hc hs hdg (fun q cA H1 gK g1 g2 g3 => ?_)
  have e : cA = G.2 5 := hp_cls (C := C) (ty := .long) rfl rfl (gK.2 15 (cA, .long) rfl).2
  subst e
  exact kk q (hp_fresh g2 h3) ls H1 locs hL ⟨_, g1, g2, hp_iff_push g2 h3⟩ g3
theorem V_new_f (C : Cx p l s m args meth c cc own nL ret hh G X N0) (harr : Cond.arrayClass .float ∈ lw_all) {n : Int32} {N' : Nat} (hn : ¬ n < 0) (hN : n.toNatClampNeg = N') (hb9 : N' ≤ 60000000) (hc : cells + 1 ≤ R.cells) (hs : slots + N' ≤ R.slots) (hdg : decode cc pc = .ok (.newarray .float, 2)) (kk : ∀ q : Nat, M q = none → V p l e R s m args below meth c G N0 nL Q (cells + 1) (slots + N') (hp_up M q (.inl (G.2 6, N', .inr (.inr (.inl (fun _ => 0)))))) (pc + 2) L (.ref q :: rest)) : V p l e R s m args below meth c G N0 nL Q cells slots M pc L (.int n :: rest) := by
  intro ls H locs hL hP hS
  obtain ⟨ws, h1, h2, h3⟩ := hP
  refine va_newa (atype := .float) (a0 := (N', .inr (.inr (.inl (fun _ => 0))))) (ty := .float) C.1 C.2.1 (C.w harr) rfl C.2.2.2.2.2.2.2.2.1.1.1 h1 h2 hS (fun q hq => Nat.le_trans C.2.2.2.2.2.2.2.2.2.1 hq) (fun cA => by rw [vp_cell_f]; rfl) hn hN (by simp only [componentBytes]; omega) hc hs hdg (fun q cA H1 gK g1 g2 g3 => ?_)
  have e : cA = G.2 6 := hp_cls (C := C) (ty := .float) rfl rfl (gK.2 15 (cA, .float) rfl).2
  subst e
  exact kk q (hp_fresh g2 h3) ls H1 locs hL ⟨_, g1, g2, hp_iff_push g2 h3⟩ g3
theorem V_new_d (C : Cx p l s m args meth c cc own nL ret hh G X N0) (harr : Cond.arrayClass .double ∈ lw_all) {n : Int32} {N' : Nat} (hn : ¬ n < 0) (hN : n.toNatClampNeg = N') (hb9 : N' ≤ 60000000) (hc : cells + 1 ≤ R.cells) (hs : slots + N' ≤ R.slots) (hdg : decode cc pc = .ok (.newarray .double, 2)) (kk : ∀ q : Nat, M q = none → V p l e R s m args below meth c G N0 nL Q (cells + 1) (slots + N') (hp_up M q (.inl (G.2 7, N', .inr (.inr (.inr (.inl (fun _ => 0))))))) (pc + 2) L (.ref q :: rest)) : V p l e R s m args below meth c G N0 nL Q cells slots M pc L (.int n :: rest) := by
  intro ls H locs hL hP hS
  obtain ⟨ws, h1, h2, h3⟩ := hP
  refine va_newa (atype := .double) (a0 := (N', .inr (.inr (.inr (.inl (fun _ => 0)))))) (ty := .double) C.1 C.2.1 (C.w harr) rfl C.2.2.2.2.2.2.2.2.1.1.1 h1 h2 hS (fun q hq => Nat.le_trans C.2.2.2.2.2.2.2.2.2.1 hq) (fun cA => by rw [vp_cell_d]; rfl) hn hN (by simp only [componentBytes]; omega) hc hs hdg (fun q cA H1 gK g1 g2 g3 => ?_)
  have e : cA = G.2 7 := hp_cls (C := C) (ty := .double) rfl rfl (gK.2 15 (cA, .double) rfl).2
  subst e
  exact kk q (hp_fresh g2 h3) ls H1 locs hL ⟨_, g1, g2, hp_iff_push g2 h3⟩ g3
theorem V_new_q (C : Cx p l s m args meth c cc own nL ret hh G X N0) {idx j : Nat} {E : String} (ht : (TYS G.2)[j]? = some (G.2 j, .object E)) (hcl : Cond.classLink own idx E ∈ lw_all) (hE : E ∈ AOS) {n : Int32} {N' : Nat} (hn : ¬ n < 0) (hN : n.toNatClampNeg = N') (hb9 : N' ≤ 60000000) (hc : cells + 1 ≤ R.cells) (hs : slots + N' ≤ R.slots) (hdg : decode cc pc = .ok (.anewarray idx, 3)) (kk : ∀ q : Nat, M q = none → V p l e R s m args below meth c G N0 nL Q (cells + 1) (slots + N') (hp_up M q (.inl (G.2 j, N', .inr (.inr (.inr (.inr (fun _ => none))))))) (pc + 3) L (.ref q :: rest)) : V p l e R s m args below meth c G N0 nL Q cells slots M pc L (.int n :: rest) := by
  intro ls H locs hL hP hS
  obtain ⟨ws, h1, h2, h3⟩ := hP
  refine va_newq C.1 C.2.1 C.2.2.2.1 (C.w hcl) (C.2.2.2.2.2.2.2.2.1.1.2.2.1.1 _ hE) C.2.2.2.2.2.2.2.2.1.1.1 h1 h2 hS (fun q hq => Nat.le_trans C.2.2.2.2.2.2.2.2.2.1 hq) hn hN (by omega) hc hs hdg (fun q cA H1 gK g1 g2 g3 => ?_)
  have e : cA = G.2 j := by
    obtain ⟨-, -, -, -, -, h5⟩ := (C.2.2.2.2.2.2.2.2.1.1.1.2 j _ ht).2
    obtain ⟨-, -, -, -, -, h6⟩ := (gK.2 15 (cA, .object E) rfl).2
    exact Option.some.inj (h6.symm.trans h5)
  subst e
  exact kk q (hp_fresh g2 h3) ls H1 locs hL ⟨_, g1, g2, hp_iff_push g2 h3⟩ g3
theorem V_new_A (C : Cx p l s m args meth c cc own nL ret hh G X N0) {idx : Nat} (hcl : Cond.classLink own idx "[I" ∈ lw_all) {n : Int32} {N' : Nat} (hn : ¬ n < 0) (hN : n.toNatClampNeg = N') (hb9 : N' ≤ 60000000) (hc : cells + 1 ≤ R.cells) (hs : slots + N' ≤ R.slots) (hdg : decode cc pc = .ok (.anewarray idx, 3)) (kk : ∀ q : Nat, M q = none → V p l e R s m args below meth c G N0 nL Q (cells + 1) (slots + N') (hp_up M q (.inl (G.2 10, N', .inr (.inr (.inr (.inr (fun _ => none))))))) (pc + 3) L (.ref q :: rest)) : V p l e R s m args below meth c G N0 nL Q cells slots M pc L (.int n :: rest) := by
  intro ls H locs hL hP hS
  obtain ⟨ws, h1, h2, h3⟩ := hP
  subst hN
  refine W.anewA (t := .int) C.1 C.2.1 C.2.2.2.1 (C.w hcl) (show (Cond.arrayOver (.array .int)).before args s = true from C.2.2.2.2.2.2.2.2.1.1.2.2.1.2) rfl hdg rfl hn (by omega) hc hs fun cA kA comp f1 f2 f3 f4 => ?_
  have e : cA = G.2 10 := by
    have h5 : s.vm.findClass ("[" ++ (FieldType.array .int).toString) = some (G.2 10) := (C.2.2.2.2.2.2.2.2.1.1.1.2 10 _ rfl).2
    exact Option.some.inj (f1.symm.trans h5)
  subst e
  generalize hH1 : H.push ({ cls := G.2 10, slots := Array.replicate n.toNatClampNeg .null, vm := .none } : Cell) = H1
  have z1 : H1.size = H.size + 1 := by rw [← hH1, Array.size_push]
  have e1 : H1[H.size]? = some (arrV (G.2 10) n.toNatClampNeg (fun _ => .null)) := by rw [← hH1, Array.getElem?_push_size, ← arrV_new]
  have o1 : ∀ q : Nat, q < H.size → H1[q]? = H[q]? := fun q hq => by rw [← hH1, Array.getElem?_push, if_neg (Nat.ne_of_lt hq)]
  have hk : ∀ (k : Nat) (x : Nat × va_E), ws[k]? = some x → H1[x.1]? = H[x.1]? := fun k x hx => o1 x.1 ((h1 k x hx).lt)
  have hA : hp_A N0 H.size := Nat.le_trans C.2.2.2.2.2.2.2.2.2.1 hS.1
  have gD : va_D (hp_A N0) (ws ++ [(H.size, .inl (G.2 10, n.toNatClampNeg, .inr (.inr (.inr (.inr (fun _ => none))))))]) := h2.push h1 rfl hA
  refine kk H.size (hp_fresh gD h3) ls H1 locs hL ⟨_, (h1.kept hk).app (fun k x hx => ?_), gD, hp_iff_push gD h3⟩ ⟨Nat.le_trans hS.1 (by omega), fun x h1 h2 => (o1 x (Nat.lt_of_lt_of_le h1 hS.1)).trans (hS.2.1 x h1 h2), hS.2.2⟩
  have hz : k < 1 := (List.getElem?_eq_some_iff.mp hx).1
  rw [show k = 0 by omega] at hx
  cases hx
  show H1[H.size]? = some (vp_cell _ _)
  rw [vp_cell_q]
  exact e1
end VRW
/-! contracts: with the arguments av, over the abstract heap M: it answers v and leaves M' with Post v M', or throws q of class E and leaves M' with PX q E M' -/
def HPre (G : hp_G) (X : Nat → Nat) (N0 : Nat) (av : List Value) (M : hp_h) : Array Value → State → Prop := fun v U => v = av.toArray ∧ N0 ≤ U.heap.size ∧ KK G X N0 U U.heap ∧ hp_P G (hp_A N0) M U.heap
def HPost (G : hp_G) (N0 : Nat) (Post : Option Value → hp_h → Prop) : Array Value → State → Outcome → State → Prop := fun _ st oc t => ∃ (v : Option Value) (M' : hp_h), oc = .returned v ∧ Post v M' ∧ hp_P G (hp_A N0) M' t.heap ∧ va_F (hp_A N0) st t
def HXP (G : hp_G) (N0 : Nat) (PX : Nat → String → hp_h → Prop) : Addr → String → State → State → Prop := fun q E st t => ∃ M' : hp_h, PX q E M' ∧ hp_P G (hp_A N0) M' t.heap ∧ va_F (hp_A N0) st t
def HM (l : Launch) (y : MethodName) (ws : List Cond) (fr lo mc ms : Nat) (G : hp_G) (X : Nat → Nat) (N0 : Nat) (av : List Value) (M : hp_h) (Post : Option Value → hp_h → Prop) (PX : Nat → String → hp_h → Prop) : Prop := vx_Met l y ws { frames := fr, cells := mc, slots := ms, locals := lo } (HPre G X N0 av M) (HPost G N0 Post) (HXP G N0 PX) mc ms (hp_A N0)
def PX0 : Nat → String → hp_h → Prop := fun _ _ _ => False
/-- what a body owes at its end -/
abbrev QV (below : List Frame) (G : hp_G) (N0 : Nat) (Post : Option Value → hp_h → Prop) (PX : Nat → String → hp_h → Prop) (args : Array Value) (s : State) (mc ms : Nat) : State → Prop := vx_MQ below (HPost G N0 Post) (HXP G N0 PX) args s mc ms (hp_A N0)
theorem HPre.blind {G : hp_G} {X : Nat → Nat} {N0 : Nat} {av : List Value} {M : hp_h} : FrameBlind (HPre G X N0 av M) := by
  intro a U g mk h
  obtain ⟨h1, h2, h3, h4⟩ := h
  exact ⟨h1, h2, ⟨h3.1.call, SF.moved (u := U) (U := U.calling g mk a) (Vm.Alike.refl U.vm) h3.2⟩, h4⟩
section VCL
variable {p : Program} {l : Launch} {e : Env} {R : Room} {s : State} {m : MethodId} {args : Array Value} {below : List Frame} {meth : Method} {c : Code} {cc : ByteArray} {own : String} {nL : Nat} {ret : Option FieldType} {hh : List (Nat × Nat × Nat × Nat)} {G : hp_G} {X : Nat → Nat} {N0 : Nat} {Q : State → Prop} {cells slots : Nat} {M : hp_h} {pc : Nat} {L : List (Nat × Value)} {rest st st0 : List Value}
variable {y x : MethodName} {b : ByteArray} {r : Option FieldType} {idx n mL mc ms fr lo ci a : Nat} {As : List Value} {fs : List Value} {Cn : String} {T : u_T} {NN : Nat} {Post : Option Value → hp_h → Prop} {PX : Nat → String → hp_h → Prop}
theorem HPre.at (C : Cx p l s m args meth c cc own nL ret hh G X N0) {av : List Value} {H : Heap} {locs : List Loc} (hP : hp_P G (hp_A N0) M H) (hS : va_S (hp_A N0) s.heap H locs) : ∀ U : State, U.heap = H → s.WarmedH U.vm → HPre G X N0 av M av.toArray U := by
  intro U hU hW
  obtain ⟨-, -, -, -, -, -, -, -, ⟨k1, k2⟩, k3, -⟩ := C
  refine ⟨rfl, by rw [hU]; exact Nat.le_trans k3 hS.1, ⟨k1.warm hW, ?_⟩, by rw [hU]; exact hP⟩
  rw [hU]
  exact SF.moved hW.alike (k2.kept hS.2.1)
theorem hp_recv (C : Cx p l s m args meth c cc own nL ret hh G X N0) {H : Heap} (hP : hp_P G (hp_A N0) M H) (ha : M a = some (.inr (ci, fs))) (hci : CLS[ci]? = some (Cn, T, NN)) : ∃ cell : Cell, H[a]? = some cell ∧ cell.vm.isStatics = false ∧ s.vm.findClass Cn = some cell.cls := by
  obtain ⟨ws, h1, h2, h3⟩ := hP
  obtain ⟨q0, hq⟩ := (h3 _ _).mp ha
  exact va_recv C.2.2.2.2.2.2.2.2.1.1.1 h1 hci hq
theorem V_run {ar : Array Value} (hr : ∀ (ls : Array Slot) (H : Heap) (locs : List Loc), lv_has ls nL L → hp_P G (hp_A N0) M H → va_S (hp_A N0) s.heap H locs → vx_Run p l e R s m args below meth c H locs cells slots mc ms (F0 m pc ls st0) rest (HPost G N0 Post ar) (HXP G N0 PX) (hp_A N0))
    (kx : ∀ (q : Nat) (E : String) (M' : hp_h), PX q E M' → VX p l e R s m args below meth c G N0 nL Q (cells + mc) (slots + ms) M' pc L q E)
    (kk : ∀ (v : Option Value) (M' : hp_h), Post v M' → V p l e R s m args below meth c G N0 nL Q (cells + mc) (slots + ms) M' (pc + 3) L (v.toList ++ rest)) : V p l e R s m args below meth c G N0 nL Q cells slots M pc L st0 := by
  intro ls H locs hL hP hS T9 hT X9
  rcases hr ls H locs hL hP hS T9 hT X9 with ⟨v, st₀, t, T', Lc, h0, X', hLc, e1, e2, ⟨v', M', hv, hp, hP', hF⟩, st⟩ | ⟨q, st₀, t, T', Lc, E, ce, h0, X', hLc, e1, e2, ⟨M', hp, hP', hF⟩, hce, hcv, hcl, st⟩
  · cases hv
    obtain ⟨k1, k2, k3⟩ := vx_keep h0 e1 hS (fun _ _ h => h) (fun _ h => h) hLc hF
    obtain ⟨t2, a1, b1⟩ := kk v M' hp ls T'.heap (locs ++ Lc) hL (by rw [e1]; exact hP') k3 T' rfl X'
    exact ⟨t2, st t2 a1, b1⟩
  · obtain ⟨k1, k2, k3⟩ := vx_keep h0 e1 hS (fun _ _ h => h) (fun _ h => h) hLc hF
    obtain ⟨t2, a1, b1⟩ := kx q E M' hp ls T'.heap (locs ++ Lc) rest ce hL (by rw [e1]; exact hP') k3 (by rw [e1]; exact hce) hcv hcl T' rfl X'
    exact ⟨t2, st.trans a1, b1⟩
theorem V_run5 {ar : Array Value} (hr : ∀ (ls : Array Slot) (H : Heap) (locs : List Loc), lv_has ls nL L → hp_P G (hp_A N0) M H → va_S (hp_A N0) s.heap H locs → vx_Run5 p l e R s m args below meth c H locs cells slots mc ms (F0 m pc ls st0) rest (HPost G N0 Post ar) (HXP G N0 PX) (hp_A N0))
    (kx : ∀ (q : Nat) (E : String) (M' : hp_h), PX q E M' → VX p l e R s m args below meth c G N0 nL Q (cells + mc) (slots + ms) M' pc L q E)
    (kk : ∀ (v : Option Value) (M' : hp_h), Post v M' → V p l e R s m args below meth c G N0 nL Q (cells + mc) (slots + ms) M' (pc + 5) L (v.toList ++ rest)) : V p l e R s m args below meth c G N0 nL Q cells slots M pc L st0 := by
  intro ls H locs hL hP hS T9 hT X9
  rcases hr ls H locs hL hP hS T9 hT X9 with ⟨v, st₀, t, T', Lc, h0, X', hLc, e1, e2, ⟨v', M', hv, hp, hP', hF⟩, st⟩ | ⟨q, st₀, t, T', Lc, E, ce, h0, X', hLc, e1, e2, ⟨M', hp, hP', hF⟩, hce, hcv, hcl, st⟩
  · cases hv
    obtain ⟨k1, k2, k3⟩ := vx_keep h0 e1 hS (fun _ _ h => h) (fun _ h => h) hLc hF
    obtain ⟨t2, a1, b1⟩ := kk v M' hp ls T'.heap (locs ++ Lc) hL (by rw [e1]; exact hP') k3 T' rfl X'
    exact ⟨t2, st t2 a1, b1⟩
  · obtain ⟨k1, k2, k3⟩ := vx_keep h0 e1 hS (fun _ _ h => h) (fun _ h => h) hLc hF
    obtain ⟨t2, a1, b1⟩ := kx q E M' hp ls T'.heap (locs ++ Lc) rest ce hL (by rw [e1]; exact hP') k3 (by rw [e1]; exact hce) hcv hcl T' rfl X'
    exact ⟨t2, st.trans a1, b1⟩
theorem V_callV (C : Cx p l s m args meth c cc own nL ret hh G X N0) (hM : HM l y (ws_ y b mL r) fr lo mc ms G X N0 (.ref a :: As) M Post PX) (hI : GoodIn lw_all (wsV own idx Cn y (ws_ y b mL r)) ∧ y.cls = Cn ∧ y.cls ≠ "java/lang/invoke/MethodHandle" ∧ y.cls ≠ "java/lang/invoke/VarHandle" ∧ (parseMethodDescriptor y.desc).map (fun d => d.parameters.length) = some n) (ha : M a = some (.inr (ci, fs))) (hci : CLS[ci]? = some (Cn, T, NN)) (hn : As.length = n) (hst : st0 = As.reverse ++ .ref a :: rest) (hR : fr + 1 ≤ R.frames ∧ 8 + (mL + 11) + lo ≤ R.locals) (hcs : cells + mc ≤ R.cells ∧ slots + ms ≤ R.slots) (hW : (rest.map fun v => v.category).sum ≤ 8) (hdg : decode cc pc = .ok (.invokevirtual idx, 3)) (kx : ∀ (q : Nat) (E : String) (M' : hp_h), PX q E M' → VX p l e R s m args below meth c G N0 nL Q (cells + mc) (slots + ms) M' pc L q E) (kk : ∀ (v : Option Value) (M' : hp_h), Post v M' → V p l e R s m args below meth c G N0 nL Q (cells + mc) (slots + ms) M' (pc + 3) L (v.toList ++ rest)) : V p l e R s m args below meth c G N0 nL Q cells slots M pc L st0 :=
  V_run (fun ls H locs hL hP hS => vx_runV ⟨C.1, C.2.1, C.2.2.1, C.2.2.2.1, C.2.2.2.2.1⟩ hM (cwV n C.2.2.2.2.1 hI.1 rfl rfl rfl hI.2 hR) ⟨HPre.blind, hp_recv (C := C) hP ha hci, HPre.at (C := C) hP hS⟩ rfl hn hL.1 hst (lv_room hW) hdg hcs) kx kk
theorem V_callVX {h2 : List (Nat × Nat × Nat × Nat)} (C : Cx p l s m args meth c cc own nL ret hh G X N0) (hM : HM l y (wsW_ y b mL r h2) fr lo mc ms G X N0 (.ref a :: As) M Post PX) (hI : GoodIn lw_all (wsV own idx Cn y (wsW_ y b mL r h2)) ∧ y.cls = Cn ∧ y.cls ≠ "java/lang/invoke/MethodHandle" ∧ y.cls ≠ "java/lang/invoke/VarHandle" ∧ (parseMethodDescriptor y.desc).map (fun d => d.parameters.length) = some n) (ha : M a = some (.inr (ci, fs))) (hci : CLS[ci]? = some (Cn, T, NN)) (hn : As.length = n) (hst : st0 = As.reverse ++ .ref a :: rest) (hR : fr + 1 ≤ R.frames ∧ 8 + (mL + 11) + lo ≤ R.locals) (hcs : cells + mc ≤ R.cells ∧ slots + ms ≤ R.slots) (hW : (rest.map fun v => v.category).sum ≤ 8) (hdg : decode cc pc = .ok (.invokevirtual idx, 3)) (kx : ∀ (q : Nat) (E : String) (M' : hp_h), PX q E M' → VX p l e R s m args below meth c G N0 nL Q (cells + mc) (slots + ms) M' pc L q E) (kk : ∀ (v : Option Value) (M' : hp_h), Post v M' → V p l e R s m args below meth c G N0 nL Q (cells + mc) (slots + ms) M' (pc + 3) L (v.toList ++ rest)) : V p l e R s m args below meth c G N0 nL Q cells slots M pc L st0 :=
  V_run (fun ls H locs hL hP hS => vx_runVX ⟨C.1, C.2.1, C.2.2.1, C.2.2.2.1, C.2.2.2.2.1⟩ hM (vx_cwVW n C.2.2.2.2.1 hI.1 rfl rfl rfl hI.2 hR) ⟨HPre.blind, hp_recv (C := C) hP ha hci, HPre.at (C := C) hP hS⟩ rfl hn hL.1 hst (lv_room hW) hdg hcs) kx kk
theorem V_callI (C : Cx p l s m args meth c cc own nL ret hh G X N0) (hM : HM l y (ws_ y b mL none) fr lo mc ms G X N0 (.ref a :: As) M Post PX) (hI : GoodIn lw_all (ws_ y b mL none) ∧ Cond.initialized y.cls ∈ lw_all ∧ Cond.methodLink own idx y ∈ lw_all ∧ Cond.instanceMethod y ∈ lw_all ∧ y.name = "<init>" ∧ y.cls ≠ "java/lang/invoke/MethodHandle" ∧ y.cls ≠ "java/lang/invoke/VarHandle" ∧ (parseMethodDescriptor y.desc).map (fun d => d.parameters.length) = some n) (hn : As.length = n) (hst : st0 = As.reverse ++ .ref a :: rest) (hR : fr + 1 ≤ R.frames ∧ 8 + (mL + 11) + lo ≤ R.locals) (hcs : cells + mc ≤ R.cells ∧ slots + ms ≤ R.slots) (hW : (rest.map fun v => v.category).sum ≤ 8) (hdg : decode cc pc = .ok (.invokespecial idx, 3)) (kx : ∀ (q : Nat) (E : String) (M' : hp_h), PX q E M' → VX p l e R s m args below meth c G N0 nL Q (cells + mc) (slots + ms) M' pc L q E) (kk : ∀ (v : Option Value) (M' : hp_h), Post v M' → V p l e R s m args below meth c G N0 nL Q (cells + mc) (slots + ms) M' (pc + 3) L (v.toList ++ rest)) : V p l e R s m args below meth c G N0 nL Q cells slots M pc L st0 :=
  V_run (fun ls H locs hL hP hS => vx_runI ⟨C.1, C.2.1, C.2.2.1, C.2.2.2.1, C.2.2.2.2.1⟩ hM (cwI n C.2.2.2.2.1 hI.1 rfl rfl rfl (C.w hI.2.1) (C.w hI.2.2.1) (C.w hI.2.2.2.1) hI.2.2.2.2.1 hI.2.2.2.2.2 hR) ⟨HPre.blind, HPre.at (C := C) hP hS⟩ rfl hn hL.1 hst (lv_room hW) hdg hcs) kx kk
theorem V_callS (C : Cx p l s m args meth c cc own nL ret hh G X N0) (hM : HM l y (ws_ y b mL r) fr lo mc ms G X N0 As M Post PX) (hI : GoodIn lw_all (va_wsS own idx y (ws_ y b mL r)) ∧ y.cls ≠ "java/lang/invoke/MethodHandle" ∧ y.cls ≠ "java/lang/invoke/VarHandle" ∧ (parseMethodDescriptor y.desc).map (fun d => d.parameters.length) = some n) (hn : As.length = n) (hst : st0 = As.reverse ++ rest) (hR : fr + 1 ≤ R.frames ∧ 8 + (mL + 11) + lo ≤ R.locals) (hcs : cells + mc ≤ R.cells ∧ slots + ms ≤ R.slots) (hW : (rest.map fun v => v.category).sum ≤ 8) (hdg : decode cc pc = .ok (.invokestatic idx, 3)) (kx : ∀ (q : Nat) (E : String) (M' : hp_h), PX q E M' → VX p l e R s m args below meth c G N0 nL Q (cells + mc) (slots + ms) M' pc L q E) (kk : ∀ (v : Option Value) (M' : hp_h), Post v M' → V p l e R s m args below meth c G N0 nL Q (cells + mc) (slots + ms) M' (pc + 3) L (v.toList ++ rest)) : V p l e R s m args below meth c G N0 nL Q cells slots M pc L st0 :=
  V_run (fun ls H locs hL hP hS => vx_runS ⟨C.1, C.2.1, C.2.2.1, C.2.2.2.1, C.2.2.2.2.1⟩ hM (va_cwS n C.2.2.2.2.1 hI.1 rfl rfl rfl hI.2 hR) ⟨HPre.blind, HPre.at (C := C) hP hS⟩ rfl hn hL.1 hst (lv_room hW) hdg hcs) kx kk
theorem V_callSX {h2 : List (Nat × Nat × Nat × Nat)} (C : Cx p l s m args meth c cc own nL ret hh G X N0) (hM : HM l y (wsW_ y b mL r h2) fr lo mc ms G X N0 As M Post PX) (hI : GoodIn lw_all (va_wsS own idx y (wsW_ y b mL r h2)) ∧ y.cls ≠ "java/lang/invoke/MethodHandle" ∧ y.cls ≠ "java/lang/invoke/VarHandle" ∧ (parseMethodDescriptor y.desc).map (fun d => d.parameters.length) = some n) (hn : As.length = n) (hst : st0 = As.reverse ++ rest) (hR : fr + 1 ≤ R.frames ∧ 8 + (mL + 11) + lo ≤ R.locals) (hcs : cells + mc ≤ R.cells ∧ slots + ms ≤ R.slots) (hW : (rest.map fun v => v.category).sum ≤ 8) (hdg : decode cc pc = .ok (.invokestatic idx, 3)) (kx : ∀ (q : Nat) (E : String) (M' : hp_h), PX q E M' → VX p l e R s m args below meth c G N0 nL Q (cells + mc) (slots + ms) M' pc L q E) (kk : ∀ (v : Option Value) (M' : hp_h), Post v M' → V p l e R s m args below meth c G N0 nL Q (cells + mc) (slots + ms) M' (pc + 3) L (v.toList ++ rest)) : V p l e R s m args below meth c G N0 nL Q cells slots M pc L st0 :=
  V_run (fun ls H locs hL hP hS => vx_runSX ⟨C.1, C.2.1, C.2.2.1, C.2.2.2.1, C.2.2.2.2.1⟩ hM (vx_cwSW n C.2.2.2.2.1 hI.1 rfl rfl rfl hI.2 hR) ⟨HPre.blind, HPre.at (C := C) hP hS⟩ rfl hn hL.1 hst (lv_room hW) hdg hcs) kx kk
theorem V_callA {owner : String} (C : Cx p l s m args meth c cc own nL ret hh G X N0) (hM : HM l y (ws_ y b mL r) fr lo mc ms G X N0 (.ref a :: As) M Post PX) (hI : GoodIn lw_all (va_wsU own idx Cn owner x y (ws_ y b mL r)) ∧ Cond.declares ⟨owner, x.name, x.desc⟩ ∈ lw_tbl ∧ owner ≠ "java/lang/invoke/MethodHandle" ∧ owner ≠ "java/lang/invoke/VarHandle" ∧ (parseMethodDescriptor x.desc).map (fun d => d.parameters.length) = some n) (ha : M a = some (.inr (ci, fs))) (hci : CLS[ci]? = some (Cn, T, NN)) (hn : As.length = n) (hst : st0 = As.reverse ++ .ref a :: rest) (hR : fr + 1 ≤ R.frames ∧ 8 + (mL + 11) + lo ≤ R.locals) (hcs : cells + mc ≤ R.cells ∧ slots + ms ≤ R.slots) (hW : (rest.map fun v => v.category).sum ≤ 8) (hdg : decode cc pc = .ok (.invokevirtual idx, 3)) (kx : ∀ (q : Nat) (E : String) (M' : hp_h), PX q E M' → VX p l e R s m args below meth c G N0 nL Q (cells + mc) (slots + ms) M' pc L q E) (kk : ∀ (v : Option Value) (M' : hp_h), Post v M' → V p l e R s m args below meth c G N0 nL Q (cells + mc) (slots + ms) M' (pc + 3) L (v.toList ++ rest)) : V p l e R s m args below meth c G N0 nL Q cells slots M pc L st0 :=
  V_run (fun ls H locs hL hP hS => vx_runU ⟨C.1, C.2.1, C.2.2.1, C.2.2.2.1, C.2.2.2.2.1⟩ hM (va_cwA n C.2.2.2.2.1 hI.1 rfl rfl rfl (C.2.2.2.2.2.2.2.2.1.1.2.1 _ hI.2.1 rfl) hI.2.2 hR) ⟨HPre.blind, hp_recv (C := C) hP ha hci, HPre.at (C := C) hP hS⟩ rfl hn hL.1 hst (lv_room hW) hdg hcs) kx kk
theorem V_callU {owner : String} (C : Cx p l s m args meth c cc own nL ret hh G X N0) (hM : HM l y (ws_ y b mL r) fr lo mc ms G X N0 (.ref a :: As) M Post PX) (hI : GoodIn lw_all (va_wsU own idx Cn owner x y (ws_ y b mL r)) ∧ y = ⟨owner, x.name, x.desc⟩ ∧ owner ≠ "java/lang/invoke/MethodHandle" ∧ owner ≠ "java/lang/invoke/VarHandle" ∧ (parseMethodDescriptor x.desc).map (fun d => d.parameters.length) = some n) (ha : M a = some (.inr (ci, fs))) (hci : CLS[ci]? = some (Cn, T, NN)) (hn : As.length = n) (hst : st0 = As.reverse ++ .ref a :: rest) (hR : fr + 1 ≤ R.frames ∧ 8 + (mL + 11) + lo ≤ R.locals) (hcs : cells + mc ≤ R.cells ∧ slots + ms ≤ R.slots) (hW : (rest.map fun v => v.category).sum ≤ 8) (hdg : decode cc pc = .ok (.invokevirtual idx, 3)) (kx : ∀ (q : Nat) (E : String) (M' : hp_h), PX q E M' → VX p l e R s m args below meth c G N0 nL Q (cells + mc) (slots + ms) M' pc L q E) (kk : ∀ (v : Option Value) (M' : hp_h), Post v M' → V p l e R s m args below meth c G N0 nL Q (cells + mc) (slots + ms) M' (pc + 3) L (v.toList ++ rest)) : V p l e R s m args below meth c G N0 nL Q cells slots M pc L st0 :=
  V_run (fun ls H locs hL hP hS => vx_runU ⟨C.1, C.2.1, C.2.2.1, C.2.2.2.1, C.2.2.2.2.1⟩ hM (va_cwU n C.2.2.2.2.1 hI.1 rfl rfl rfl hI.2.1 hI.2.2 hR) ⟨HPre.blind, hp_recv (C := C) hP ha hci, HPre.at (C := C) hP hS⟩ rfl hn hL.1 hst (lv_room hW) hdg hcs) kx kk
theorem V_callO {owner : String} (C : Cx p l s m args meth c cc own nL ret hh G X N0) (hM : HM l y (ws_ y b mL r) fr lo mc ms G X N0 (.ref a :: As) M Post PX) {b0 : ByteArray} {m0 : Nat} {r0 : Option FieldType} (hI : GoodIn lw_all (va_wsO own idx Cn owner x y (ws_ y b mL r)) ∧ Cond.code ⟨owner, x.name, x.desc⟩ b0 m0 r0 ∈ lw_all ∧ owner ≠ "java/lang/invoke/MethodHandle" ∧ owner ≠ "java/lang/invoke/VarHandle" ∧ (parseMethodDescriptor x.desc).map (fun d => d.parameters.length) = some n) (ha : M a = some (.inr (ci, fs))) (hci : CLS[ci]? = some (Cn, T, NN)) (hn : As.length = n) (hst : st0 = As.reverse ++ .ref a :: rest) (hR : fr + 1 ≤ R.frames ∧ 8 + (mL + 11) + lo ≤ R.locals) (hcs : cells + mc ≤ R.cells ∧ slots + ms ≤ R.slots) (hW : (rest.map fun v => v.category).sum ≤ 8) (hdg : decode cc pc = .ok (.invokevirtual idx, 3)) (kx : ∀ (q : Nat) (E : String) (M' : hp_h), PX q E M' → VX p l e R s m args below meth c G N0 nL Q (cells + mc) (slots + ms) M' pc L q E) (kk : ∀ (v : Option Value) (M' : hp_h), Post v M' → V p l e R s m args below meth c G N0 nL Q (cells + mc) (slots + ms) M' (pc + 3) L (v.toList ++ rest)) : V p l e R s m args below meth c G N0 nL Q cells slots M pc L st0 :=
  V_run (fun ls H locs hL hP hS => vx_runU ⟨C.1, C.2.1, C.2.2.1, C.2.2.2.1, C.2.2.2.2.1⟩ hM (va_cwO n C.2.2.2.2.1 hI.1 rfl rfl rfl hI.2.1 hI.2.2 hR) ⟨HPre.blind, hp_recv (C := C) hP ha hci, HPre.at (C := C) hP hS⟩ rfl hn hL.1 hst (lv_room hW) hdg hcs) kx kk
theorem V_callSU (C : Cx p l s m args meth c cc own nL ret hh G X N0) (hM : HM l y (ws_ y b mL r) fr lo mc ms G X N0 (.ref a :: As) M Post PX) (hI : GoodIn lw_all (va_wsSU own idx y (ws_ y b mL r)) ∧ y.name ≠ "<init>" ∧ (parseMethodDescriptor y.desc).map (fun d => d.parameters.length) = some n) (ha : M a = some (.inr (ci, fs))) (hci : CLS[ci]? = some (Cn, T, NN)) (hn : As.length = n) (hst : st0 = As.reverse ++ .ref a :: rest) (hR : fr + 1 ≤ R.frames ∧ 8 + (mL + 11) + lo ≤ R.locals) (hcs : cells + mc ≤ R.cells ∧ slots + ms ≤ R.slots) (hW : (rest.map fun v => v.category).sum ≤ 8) (hdg : decode cc pc = .ok (.invokespecial idx, 3)) (kx : ∀ (q : Nat) (E : String) (M' : hp_h), PX q E M' → VX p l e R s m args below meth c G N0 nL Q (cells + mc) (slots + ms) M' pc L q E) (kk : ∀ (v : Option Value) (M' : hp_h), Post v M' → V p l e R s m args below meth c G N0 nL Q (cells + mc) (slots + ms) M' (pc + 3) L (v.toList ++ rest)) : V p l e R s m args below meth c G N0 nL Q cells slots M pc L st0 :=
  V_run (fun ls H locs hL hP hS => vx_runSU (C.2.2.2.2.2.2.2.2.1.1.1.1 ci _ hci).2 ⟨C.1, C.2.1, C.2.2.1, C.2.2.2.1, C.2.2.2.2.1⟩ hM (va_cwSU n C.2.2.2.2.1 hI.1 rfl rfl rfl hI.2 hR) ⟨HPre.blind, hp_recv (C := C) hP ha hci, HPre.at (C := C) hP hS⟩ rfl hn hL.1 hst (lv_room hW) hdg hcs) kx kk
theorem V_callVN (C : Cx p l s m args meth c cc own nL ret hh G X N0) (hM : HM l y (ws_ y b mL r) fr lo mc ms G X N0 (.ref a :: As) M Post PX) {host : String} (hI : GoodIn lw_all (ws_ y b mL r) ∧ Cond.methodLinkNest own idx y host ∈ lw_tbl ∧ Cond.initialized y.cls ∈ lw_all ∧ (Cond.instanceMethod y ∈ lw_all ∧ Cond.selects Cn y y ∈ lw_all) ∧ y.cls ≠ "java/lang/invoke/MethodHandle" ∧ y.cls ≠ "java/lang/invoke/VarHandle" ∧ (parseMethodDescriptor y.desc).map (fun d => d.parameters.length) = some n) (ha : M a = some (.inr (ci, fs))) (hci : CLS[ci]? = some (Cn, T, NN)) (hn : As.length = n) (hst : st0 = As.reverse ++ .ref a :: rest) (hR : fr + 1 ≤ R.frames ∧ 8 + (mL + 11) + lo ≤ R.locals) (hcs : cells + mc ≤ R.cells ∧ slots + ms ≤ R.slots) (hW : (rest.map fun v => v.category).sum ≤ 8) (hdg : decode cc pc = .ok (.invokevirtual idx, 3)) (kx : ∀ (q : Nat) (E : String) (M' : hp_h), PX q E M' → VX p l e R s m args below meth c G N0 nL Q (cells + mc) (slots + ms) M' pc L q E) (kk : ∀ (v : Option Value) (M' : hp_h), Post v M' → V p l e R s m args below meth c G N0 nL Q (cells + mc) (slots + ms) M' (pc + 3) L (v.toList ++ rest)) : V p l e R s m args below meth c G N0 nL Q cells slots M pc L st0 :=
  V_run (fun ls H locs hL hP hS => vx_runVN ⟨C.1, C.2.1, C.2.2.1, C.2.2.2.1, C.2.2.2.2.1⟩ hM ⟨va_cnB n C.2.2.2.2.1 hI.1 rfl rfl rfl (C.2.2.2.2.2.2.2.2.1.1.2.1 _ hI.2.1 rfl) (C.w hI.2.2.1) hI.2.2.2.2 hR, C.w hI.2.2.2.1.1, C.w hI.2.2.2.1.2⟩ ⟨HPre.blind, hp_recv (C := C) hP ha hci, HPre.at (C := C) hP hS⟩ rfl hn hL.1 hst (lv_room hW) hdg hcs) kx kk
theorem V_callSN (C : Cx p l s m args meth c cc own nL ret hh G X N0) (hM : HM l y (ws_ y b mL r) fr lo mc ms G X N0 As M Post PX) {host : String} (hI : GoodIn lw_all (ws_ y b mL r) ∧ Cond.methodLinkNest own idx y host ∈ lw_tbl ∧ Cond.initialized y.cls ∈ lw_all ∧ Cond.static y ∈ lw_all ∧ y.cls ≠ "java/lang/invoke/MethodHandle" ∧ y.cls ≠ "java/lang/invoke/VarHandle" ∧ (parseMethodDescriptor y.desc).map (fun d => d.parameters.length) = some n) (hn : As.length = n) (hst : st0 = As.reverse ++ rest) (hR : fr + 1 ≤ R.frames ∧ 8 + (mL + 11) + lo ≤ R.locals) (hcs : cells + mc ≤ R.cells ∧ slots + ms ≤ R.slots) (hW : (rest.map fun v => v.category).sum ≤ 8) (hdg : decode cc pc = .ok (.invokestatic idx, 3)) (kx : ∀ (q : Nat) (E : String) (M' : hp_h), PX q E M' → VX p l e R s m args below meth c G N0 nL Q (cells + mc) (slots + ms) M' pc L q E) (kk : ∀ (v : Option Value) (M' : hp_h), Post v M' → V p l e R s m args below meth c G N0 nL Q (cells + mc) (slots + ms) M' (pc + 3) L (v.toList ++ rest)) : V p l e R s m args below meth c G N0 nL Q cells slots M pc L st0 :=
  V_run (fun ls H locs hL hP hS => vx_runSN ⟨C.1, C.2.1, C.2.2.1, C.2.2.2.1, C.2.2.2.2.1⟩ hM ⟨va_cnB n C.2.2.2.2.1 hI.1 rfl rfl rfl (C.2.2.2.2.2.2.2.2.1.1.2.1 _ hI.2.1 rfl) (C.w hI.2.2.1) hI.2.2.2.2 hR, C.w hI.2.2.2.1, trivial⟩ ⟨HPre.blind, HPre.at (C := C) hP hS⟩ rfl hn hL.1 hst (lv_room hW) hdg hcs) kx kk
theorem V_callIN (C : Cx p l s m args meth c cc own nL ret hh G X N0) (hM : HM l y (ws_ y b mL none) fr lo mc ms G X N0 (.ref a :: As) M Post PX) {host : String} (hI : GoodIn lw_all (ws_ y b mL none) ∧ Cond.methodLinkNest own idx y host ∈ lw_tbl ∧ Cond.initialized y.cls ∈ lw_all ∧ (y.name = "<init>" ∧ Cond.instanceMethod y ∈ lw_all) ∧ y.cls ≠ "java/lang/invoke/MethodHandle" ∧ y.cls ≠ "java/lang/invoke/VarHandle" ∧ (parseMethodDescriptor y.desc).map (fun d => d.parameters.length) = some n) (hn : As.length = n) (hst : st0 = As.reverse ++ .ref a :: rest) (hR : fr + 1 ≤ R.frames ∧ 8 + (mL + 11) + lo ≤ R.locals) (hcs : cells + mc ≤ R.cells ∧ slots + ms ≤ R.slots) (hW : (rest.map fun v => v.category).sum ≤ 8) (hdg : decode cc pc = .ok (.invokespecial idx, 3)) (kx : ∀ (q : Nat) (E : String) (M' : hp_h), PX q E M' → VX p l e R s m args below meth c G N0 nL Q (cells + mc) (slots + ms) M' pc L q E) (kk : ∀ (v : Option Value) (M' : hp_h), Post v M' → V p l e R s m args below meth c G N0 nL Q (cells + mc) (slots + ms) M' (pc + 3) L (v.toList ++ rest)) : V p l e R s m args below meth c G N0 nL Q cells slots M pc L st0 :=
  V_run (fun ls H locs hL hP hS => vx_runIN ⟨C.1, C.2.1, C.2.2.1, C.2.2.2.1, C.2.2.2.2.1⟩ hM ⟨va_cnB n C.2.2.2.2.1 hI.1 rfl rfl rfl (C.2.2.2.2.2.2.2.2.1.1.2.1 _ hI.2.1 rfl) (C.w hI.2.2.1) hI.2.2.2.2 hR, hI.2.2.2.1.1, C.w hI.2.2.2.1.2⟩ ⟨HPre.blind, HPre.at (C := C) hP hS⟩ rfl hn hL.1 hst (lv_room hW) hdg hcs) kx kk
theorem V_callF (C : Cx p l s m args meth c cc own nL ret hh G X N0) (hM : HM l y (ws_ y b mL r) fr lo mc ms G X N0 (.ref a :: As) M Post PX) {cnt : Nat} (hI : GoodIn lw_all (va_wsF own idx Cn x y (ws_ y b mL r)) ∧ (Cn, x, y) ∈ FWS ∧ x.cls ≠ "java/lang/invoke/MethodHandle" ∧ x.cls ≠ "java/lang/invoke/VarHandle" ∧ (parseMethodDescriptor x.desc).map (fun d => d.parameters.length) = some n) (ha : M a = some (.inr (ci, fs))) (hci : CLS[ci]? = some (Cn, T, NN)) (hn : As.length = n) (hst : st0 = As.reverse ++ .ref a :: rest) (hR : fr + 1 ≤ R.frames ∧ 8 + (mL + 11) + lo ≤ R.locals) (hcs : cells + mc ≤ R.cells ∧ slots + ms ≤ R.slots) (hW : (rest.map fun v => v.category).sum ≤ 8) (hdg : decode cc pc = .ok (.invokeinterface idx cnt, 5)) (kx : ∀ (q : Nat) (E : String) (M' : hp_h), PX q E M' → VX p l e R s m args below meth c G N0 nL Q (cells + mc) (slots + ms) M' pc L q E) (kk : ∀ (v : Option Value) (M' : hp_h), Post v M' → V p l e R s m args below meth c G N0 nL Q (cells + mc) (slots + ms) M' (pc + 5) L (v.toList ++ rest)) : V p l e R s m args below meth c G N0 nL Q cells slots M pc L st0 :=
  V_run5 (fun ls H locs hL hP hS => vx_runF (C.2.2.2.2.2.2.2.2.1.1.1.1 ci _ hci).2 ⟨C.1, C.2.1, C.2.2.1, C.2.2.2.1, C.2.2.2.2.1⟩ hM (va_cwF n C.2.2.2.2.1 hI.1 rfl rfl rfl (C.2.2.2.2.2.2.2.2.1.1.2.2.2.1 _ hI.2.1) hI.2.2 hR) ⟨HPre.blind, hp_recv (C := C) hP ha hci, HPre.at (C := C) hP hS⟩ rfl hn hL.1 hst (lv_room hW) hdg hcs) kx kk
theorem V_iret (C : Cx p l s m args meth c cc own nL ret hh G X N0) {v : Int32} (hdg : decode cc pc = .ok (.ireturn, 1)) (hr : ret = some .int) (hp : Post (some (.int v)) M) (hc : cells ≤ mc) (hs : slots ≤ ms) : V p l e R s m args below meth c G N0 nL (QV below G N0 Post PX args s mc ms) cells slots M pc L [.int v] := fun ls H locs hL hP hS => W.widen hc hs (vx_ret (W.iret C.1 C.2.1 (C.2.2.2.2.2.1.trans hr) (fun t ht hW => ⟨_, M, rfl, hp, by rw [ht]; exact hP, hS.F ht⟩) hS.2.2 hdg C.2.2.2.2.2.2.1))
theorem V_zret (C : Cx p l s m args meth c cc own nL ret hh G X N0) {v : Int32} {ty : FieldType} (hn : narrow ty (.int v) = .int v) (hdg : decode cc pc = .ok (.ireturn, 1)) (hr : ret = some ty) (hp : Post (some (.int v)) M) (hc : cells ≤ mc) (hs : slots ≤ ms) : V p l e R s m args below meth c G N0 nL (QV below G N0 Post PX args s mc ms) cells slots M pc L [.int v] := fun ls H locs hL hP hS => W.widen hc hs (vx_ret (W.zret C.1 C.2.1 (C.2.2.2.2.2.1.trans hr) hn (fun t ht hW => ⟨_, M, rfl, hp, by rw [ht]; exact hP, hS.F ht⟩) hS.2.2 hdg C.2.2.2.2.2.2.1))
theorem V_lret (C : Cx p l s m args meth c cc own nL ret hh G X N0) {v : Int64} (hdg : decode cc pc = .ok (.lreturn, 1)) (hr : ret = some .long) (hp : Post (some (.long v)) M) (hc : cells ≤ mc) (hs : slots ≤ ms) : V p l e R s m args below meth c G N0 nL (QV below G N0 Post PX args s mc ms) cells slots M pc L [.long v] := fun ls H locs hL hP hS => W.widen hc hs (vx_ret (W.lret C.1 C.2.1 (C.2.2.2.2.2.1.trans hr) (fun t ht hW => ⟨_, M, rfl, hp, by rw [ht]; exact hP, hS.F ht⟩) hS.2.2 hdg C.2.2.2.2.2.2.1))
theorem V_fret (C : Cx p l s m args meth c cc own nL ret hh G X N0) {v : UInt32} (hdg : decode cc pc = .ok (.freturn, 1)) (hr : ret = some .float) (hp : Post (some (.float v)) M) (hc : cells ≤ mc) (hs : slots ≤ ms) : V p l e R s m args below meth c G N0 nL (QV below G N0 Post PX args s mc ms) cells slots M pc L [.float v] := fun ls H locs hL hP hS => W.widen hc hs (vx_ret (W.fret C.1 C.2.1 (C.2.2.2.2.2.1.trans hr) (fun t ht hW => ⟨_, M, rfl, hp, by rw [ht]; exact hP, hS.F ht⟩) hS.2.2 hdg C.2.2.2.2.2.2.1))
theorem V_dret (C : Cx p l s m args meth c cc own nL ret hh G X N0) {v : UInt64} (hdg : decode cc pc = .ok (.dreturn, 1)) (hr : ret = some .double) (hp : Post (some (.double v)) M) (hc : cells ≤ mc) (hs : slots ≤ ms) : V p l e R s m args below meth c G N0 nL (QV below G N0 Post PX args s mc ms) cells slots M pc L [.double v] := fun ls H locs hL hP hS => W.widen hc hs (vx_ret (W.dret C.1 C.2.1 (C.2.2.2.2.2.1.trans hr) (fun t ht hW => ⟨_, M, rfl, hp, by rw [ht]; exact hP, hS.F ht⟩) hS.2.2 hdg C.2.2.2.2.2.2.1))
theorem V_aret (C : Cx p l s m args meth c cc own nL ret hh G X N0) {v : Option Nat} {rt : FieldType} (hrt : (∃ n, rt = .object n) ∨ ∃ t, rt = .array t) (hdg : decode cc pc = .ok (.areturn, 1)) (hr : ret = some rt) (hp : Post (some (va_rf v)) M) (hc : cells ≤ mc) (hs : slots ≤ ms) : V p l e R s m args below meth c G N0 nL (QV below G N0 Post PX args s mc ms) cells slots M pc L [va_rf v] := fun ls H locs hL hP hS => W.widen hc hs (vx_ret (W.aret C.1 C.2.1 (C.2.2.2.2.2.1.trans hr) hrt (by cases v with | none => exact Or.inl rfl | some a => exact Or.inr ⟨a, rfl⟩) (fun t ht hW => ⟨_, M, rfl, hp, by rw [ht]; exact hP, hS.F ht⟩) hS.2.2 hdg C.2.2.2.2.2.2.1))
theorem V_vret (C : Cx p l s m args meth c cc own nL ret hh G X N0) (hdg : decode cc pc = .ok (.return_, 1)) (hr : ret = none) (hp : Post none M) (hc : cells ≤ mc) (hs : slots ≤ ms) : V p l e R s m args below meth c G N0 nL (QV below G N0 Post PX args s mc ms) cells slots M pc L [] := fun ls H locs hL hP hS => W.widen hc hs (vx_ret (W.vret C.1 C.2.1 (C.2.2.2.2.2.1.trans hr) (fun t ht hW => ⟨_, M, rfl, hp, by rw [ht]; exact hP, hS.F ht⟩) hS.2.2 hdg C.2.2.2.2.2.2.1))
/-- thrown on to the caller: no row of the table takes it -/
theorem VX_out (C : Cx p l s m args meth c cc own nL ret hh G X N0) {q : Nat} {E : String} (hpass : ∀ z ∈ tableOf hh, covers z pc = false ∨ (z.catchType ≠ 0 ∧ ∃ nm : String, Cond.classLink own z.catchType nm ∈ lw_all ∧ (E, nm) ∈ NCL)) (hp : PX q E M) (hc : cells ≤ mc) (hs : slots ≤ ms) : VX p l e R s m args below meth c G N0 nL (QV below G N0 Post PX args s mc ms) cells slots M pc L q E := by
  intro ls H locs rest ce hL hP hS hce hcv hcl
  refine vx_outP C.2.2.2.1 C.2.2.2.2.2.2.1 (fun z hz => ?_) hce hcv hcl (fun t ht hW => ⟨M, hp, by rw [ht]; exact hP, hS.F ht⟩) hS.2.2 hc hs
  rw [C.2.2.2.2.2.2.2.1] at hz
  rcases hpass z hz with h | ⟨h1, nm, h2, h3⟩
  · exact Or.inl h
  · exact Or.inr ⟨h1, nm, C.w h2, C.2.2.2.2.2.2.2.2.1.1.2.2.2.2.2.1.1 _ h3⟩
theorem VX_catch (C : Cx p l s m args meth c cc own nL ret hh G X N0) {q : Nat} {E nm : String} (pre : List ExceptionTableEntry) (x : ExceptionTableEntry) (suf : List ExceptionTableEntry) (hsplit : tableOf hh = pre ++ x :: suf)
    (hpass : ∀ z ∈ pre, covers z pc = false ∨ (z.catchType ≠ 0 ∧ ∃ nm : String, Cond.classLink own z.catchType nm ∈ lw_all ∧ (E, nm) ∈ NCL)) (hx : covers x pc = true) (h0 : x.catchType ≠ 0) (hlink : Cond.classLink own x.catchType nm ∈ lw_all) (hcast : Cond.castable E nm ∈ lw_tbl)
    (kk : V p l e R s m args below meth c G N0 nL Q cells slots M x.handlerPc L [.ref q]) : VX p l e R s m args below meth c G N0 nL Q cells slots M pc L q E := by
  intro ls H locs rest ce hL hP hS hce hcv hcl
  refine vx_catch C.2.2.2.1 pre x suf (C.2.2.2.2.2.2.2.1.trans hsplit) (fun z hz => ?_) hx h0 (C.w hlink) ((C.2.2.2.2.2.2.2.2.1.1.2.1 _ hcast rfl).use rfl) hce hcv hcl (kk ls H locs hL hP hS)
  rcases hpass z hz with h | ⟨h1, nm, h2, h3⟩
  · exact Or.inl h
  · exact Or.inr ⟨h1, nm, C.w h2, C.2.2.2.2.2.2.2.2.1.1.2.2.2.2.2.1.1 _ h3⟩
theorem VX_widen {q : Nat} {E : String} {k n : Nat} (h1 : cells ≤ k) (h2 : slots ≤ n) (kk : VX p l e R s m args below meth c G N0 nL Q k n M pc L q E) : VX p l e R s m args below meth c G N0 nL Q cells slots M pc L q E := fun ls H locs rest ce hL hP hS a1 a2 a3 => vx_widen h1 h2 (kk ls H locs rest ce hL hP hS a1 a2 a3)
end VCL
/-- a contract out of a walk of the body -/
theorem HM.of {l : Launch} {y : MethodName} {cc : ByteArray} {nL : Nat} {ret : Option FieldType} {fr lo mc ms : Nat} {G : hp_G} {X : Nat → Nat} {N0 : Nat} {av : List Value} {M : hp_h} {Post : Option Value → hp_h → Prop} {PX : Nat → String → hp_h → Prop} (hl : l.stackTraces = false) (L : List (Nat × Value)) (hy : plainFor y = true) (hL : lv_args 0 av = L) (hn : (lg_sl av).length ≤ nL)
    (body : ∀ (p : Program) (e : Env) (s : State) (m : MethodId) (args : Array Value) (below : List Frame) (meth : Method) (c : Code), Cx p l s m args meth c cc y.cls nL ret [] G X N0 → meth.name = y.name → V p l e { frames := fr, cells := mc, slots := ms, locals := lo } s m args below meth c G N0 nL (QV below G N0 Post PX args s mc ms) 0 0 M 0 L []) : HM l y (ws_ y cc nL ret) fr lo mc ms G X N0 av M Post PX := by
  refine vx_ofW hy rfl ?_
  intro p e s m args below meth c s₁ B hml htab hv
  obtain ⟨rfl, hN, hK, hP⟩ := hv
  have hts : ∀ w ∈ lw_all, w.before av.toArray s = true := fun w h => atoms_spec (ws := ws_ y cc nL ret) B.pre w (List.mem_cons_of_mem _ h)
  have ht0 : c.exceptionTable.toList = tableOf [] := by
    cases h : c.exceptionTable.toList with
    | nil => rfl
    | cons x l => exact (htab x (by rw [h]; exact List.mem_cons_self)).elim
  rw [lg_entry_eq]
  exact body p e s m av.toArray below meth c ⟨B.exec, B.bytes, hml, findClass_of_methodNamed B.named, hts, B.returns, B.notSynchronized, ht0, hK, hN, hl⟩ (name_of_methodNamed B.named B.method).1 _ s.heap [] (by rw [← hL]; exact lv_entry av hn) hP va_S.rf
theorem HM.ofH {l : Launch} {y : MethodName} {cc : ByteArray} {nL : Nat} {ret : Option FieldType} {hh : List (Nat × Nat × Nat × Nat)} {fr lo mc ms : Nat} {G : hp_G} {X : Nat → Nat} {N0 : Nat} {av : List Value} {M : hp_h} {Post : Option Value → hp_h → Prop} {PX : Nat → String → hp_h → Prop} (hl : l.stackTraces = false) (L : List (Nat × Value)) (hy : plainFor y = true) (hL : lv_args 0 av = L) (hn : (lg_sl av).length ≤ nL)
    (body : ∀ (p : Program) (e : Env) (s : State) (m : MethodId) (args : Array Value) (below : List Frame) (meth : Method) (c : Code), Cx p l s m args meth c cc y.cls nL ret hh G X N0 → meth.name = y.name → V p l e { frames := fr, cells := mc, slots := ms, locals := lo } s m args below meth c G N0 nL (QV below G N0 Post PX args s mc ms) 0 0 M 0 L []) : HM l y (wsW_ y cc nL ret hh) fr lo mc ms G X N0 av M Post PX := by
  refine vx_ofWH hy rfl ?_
  intro p e s m args below meth c s₁ B hml hv
  obtain ⟨rfl, hN, hK, hP⟩ := hv
  have hts : ∀ w ∈ lw_all, w.before av.toArray s = true := fun w h => atoms_spec (ws := wsW_ y cc nL ret hh) B.pre w (List.mem_cons_of_mem _ h)
  have ht0 : c.exceptionTable.toList = tableOf hh := vx_table (x := y) B (atoms_spec (ws := wsW_ y cc nL ret hh) B.pre _ List.mem_cons_self)
  rw [lg_entry_eq]
  exact body p e s m av.toArray below meth c ⟨B.exec, B.bytes, hml, findClass_of_methodNamed B.named, hts, B.returns, B.notSynchronized, ht0, hK, hN, hl⟩ (name_of_methodNamed B.named B.method).1 _ s.heap [] (by rw [← hL]; exact lv_entry av hn) hP va_S.rf
section VNT
variable {p : Program} {l : Launch} {e : Env} {R : Room} {s : State} {m : MethodId} {args : Array Value} {below : List Frame} {meth : Method} {c : Code} {cc : ByteArray} {own : String} {nL : Nat} {ret : Option FieldType} {hh : List (Nat × Nat × Nat × Nat)} {G : hp_G} {X : Nat → Nat} {N0 : Nat} {Q : State → Prop} {cells slots : Nat} {M : hp_h} {pc : Nat} {L : List (Nat × Value)} {rest st st0 : List Value} {idx : Nat}
theorem V_mmax (C : Cx p l s m args meth c cc own nL ret hh G X N0) (hI : Cond.methodLink own idx Lib.Math.max.name ∈ lw_all ∧ Cond.static Lib.Math.max.name ∈ lw_all ∧ Cond.initialized "java/lang/Math" ∈ lw_all ∧ Cond.code Lib.Math.max.name Lib.Math.max.code 2 (some .int) ∈ lw_all) (hR : 1 ≤ R.frames ∧ (rest.map fun v => v.category).sum + 13 ≤ R.locals) (hcs : cells ≤ R.cells ∧ slots ≤ R.slots) {x y : Int32} (hdg : decode cc pc = .ok (.invokestatic idx, 3)) (kk : V p l e R s m args below meth c G N0 nL Q cells slots M (pc + 3) L (.int (if x < y then y else x) :: rest)) : V p l e R s m args below meth c G N0 nL Q cells slots M pc L (.int y :: .int x :: rest) := fun ls H locs hL hP hS => va_mmax C.1 C.2.1 (C.2.2.1.trans hL.1.symm) C.2.2.2.1 (C.w hI.1) (C.w hI.2.1) (C.w hI.2.2.1) (C.w hI.2.2.2) hR.1 hR.2 hcs.1 hcs.2 hdg (kk ls H locs hL hP hS)
theorem V_mmin (C : Cx p l s m args meth c cc own nL ret hh G X N0) (hI : Cond.methodLink own idx Lib.Math.min.name ∈ lw_all ∧ Cond.static Lib.Math.min.name ∈ lw_all ∧ Cond.initialized "java/lang/Math" ∈ lw_all ∧ Cond.code Lib.Math.min.name Lib.Math.min.code 2 (some .int) ∈ lw_all) (hR : 1 ≤ R.frames ∧ (rest.map fun v => v.category).sum + 13 ≤ R.locals) (hcs : cells ≤ R.cells ∧ slots ≤ R.slots) {x y : Int32} (hdg : decode cc pc = .ok (.invokestatic idx, 3)) (kk : V p l e R s m args below meth c G N0 nL Q cells slots M (pc + 3) L (.int (if y < x then y else x) :: rest)) : V p l e R s m args below meth c G N0 nL Q cells slots M pc L (.int y :: .int x :: rest) := fun ls H locs hL hP hS => va_mmin C.1 C.2.1 (C.2.2.1.trans hL.1.symm) C.2.2.2.1 (C.w hI.1) (C.w hI.2.1) (C.w hI.2.2.1) (C.w hI.2.2.2) hR.1 hR.2 hcs.1 hcs.2 hdg (kk ls H locs hL hP hS)
theorem V_d2l (C : Cx p l s m args meth c cc own nL ret hh G X N0) (hI : Cond.methodLink own idx ⟨"java/lang/Double", "doubleToRawLongBits", "(D)J"⟩ ∈ lw_all ∧ Cond.native ⟨"java/lang/Double", "doubleToRawLongBits", "(D)J"⟩ ∈ lw_all ∧ Cond.static ⟨"java/lang/Double", "doubleToRawLongBits", "(D)J"⟩ ∈ lw_all ∧ Cond.initialized "java/lang/Double" ∈ lw_all) {b : UInt64}  (hR : 1 ≤ R.frames ∧ (rest.map fun v => v.category).sum + 15 ≤ R.locals) (hdg : decode cc pc = .ok (.invokestatic idx, 3)) (kk : V p l e R s m args below meth c G N0 nL Q cells slots M (pc + 3) L (.long b.toInt64 :: rest)) : V p l e R s m args below meth c G N0 nL Q cells slots M pc L (.double b :: rest) := fun ls H locs hL hP hS => vn_d2l C.1 C.2.1 (C.2.2.1.trans hL.1.symm) C.2.2.2.1 (C.w hI.1) (C.w hI.2.1) (C.w hI.2.2.1) (C.w hI.2.2.2) hR.1 hR.2 hdg (kk ls H locs hL hP hS)
theorem V_l2d (C : Cx p l s m args meth c cc own nL ret hh G X N0) (hI : Cond.methodLink own idx ⟨"java/lang/Double", "longBitsToDouble", "(J)D"⟩ ∈ lw_all ∧ Cond.native ⟨"java/lang/Double", "longBitsToDouble", "(J)D"⟩ ∈ lw_all ∧ Cond.static ⟨"java/lang/Double", "longBitsToDouble", "(J)D"⟩ ∈ lw_all ∧ Cond.initialized "java/lang/Double" ∈ lw_all) {b : Int64} (hv : vn_snl2d b = false) (hR : 1 ≤ R.frames ∧ (rest.map fun v => v.category).sum + 15 ≤ R.locals) (hdg : decode cc pc = .ok (.invokestatic idx, 3)) (kk : V p l e R s m args below meth c G N0 nL Q cells slots M (pc + 3) L (.double b.toUInt64 :: rest)) : V p l e R s m args below meth c G N0 nL Q cells slots M pc L (.long b :: rest) := fun ls H locs hL hP hS => vn_l2d C.1 C.2.1 (C.2.2.1.trans hL.1.symm) C.2.2.2.1 (C.w hI.1) (C.w hI.2.1) (C.w hI.2.2.1) (C.w hI.2.2.2) hv hR.1 hR.2 hdg (kk ls H locs hL hP hS)
theorem V_f2i (C : Cx p l s m args meth c cc own nL ret hh G X N0) (hI : Cond.methodLink own idx ⟨"java/lang/Float", "floatToRawIntBits", "(F)I"⟩ ∈ lw_all ∧ Cond.native ⟨"java/lang/Float", "floatToRawIntBits", "(F)I"⟩ ∈ lw_all ∧ Cond.static ⟨"java/lang/Float", "floatToRawIntBits", "(F)I"⟩ ∈ lw_all ∧ Cond.initialized "java/lang/Float" ∈ lw_all) {b : UInt32}  (hR : 1 ≤ R.frames ∧ (rest.map fun v => v.category).sum + 15 ≤ R.locals) (hdg : decode cc pc = .ok (.invokestatic idx, 3)) (kk : V p l e R s m args below meth c G N0 nL Q cells slots M (pc + 3) L (.int b.toInt32 :: rest)) : V p l e R s m args below meth c G N0 nL Q cells slots M pc L (.float b :: rest) := fun ls H locs hL hP hS => vn_f2i C.1 C.2.1 (C.2.2.1.trans hL.1.symm) C.2.2.2.1 (C.w hI.1) (C.w hI.2.1) (C.w hI.2.2.1) (C.w hI.2.2.2) hR.1 hR.2 hdg (kk ls H locs hL hP hS)
theorem V_i2f (C : Cx p l s m args meth c cc own nL ret hh G X N0) (hI : Cond.methodLink own idx ⟨"java/lang/Float", "intBitsToFloat", "(I)F"⟩ ∈ lw_all ∧ Cond.native ⟨"java/lang/Float", "intBitsToFloat", "(I)F"⟩ ∈ lw_all ∧ Cond.static ⟨"java/lang/Float", "intBitsToFloat", "(I)F"⟩ ∈ lw_all ∧ Cond.initialized "java/lang/Float" ∈ lw_all) {b : Int32} (hv : vn_sni2f b = false) (hR : 1 ≤ R.frames ∧ (rest.map fun v => v.category).sum + 15 ≤ R.locals) (hdg : decode cc pc = .ok (.invokestatic idx, 3)) (kk : V p l e R s m args below meth c G N0 nL Q cells slots M (pc + 3) L (.float b.toUInt32 :: rest)) : V p l e R s m args below meth c G N0 nL Q cells slots M pc L (.int b :: rest) := fun ls H locs hL hP hS => vn_i2f C.1 C.2.1 (C.2.2.1.trans hL.1.symm) C.2.2.2.1 (C.w hI.1) (C.w hI.2.1) (C.w hI.2.2.1) (C.w hI.2.2.2) hv hR.1 hR.2 hdg (kk ls H locs hL hP hS)
theorem V_obj (C : Cx p l s m args meth c cc own nL ret hh G X N0) (hI : Cond.methodLink own idx Lib.objectInit ∈ lw_all ∧ Cond.instanceMethod Lib.objectInit ∈ lw_all ∧ Cond.code Lib.objectInit ⟨#[0xb1]⟩ 1 none ∈ lw_all) {a : Nat} (hR : 1 ≤ R.frames ∧ (rest.map fun v => v.category).sum + 12 ≤ R.locals) (hdg : decode cc pc = .ok (.invokespecial idx, 3)) (kk : V p l e R s m args below meth c G N0 nL Q cells slots M (pc + 3) L rest) : V p l e R s m args below meth c G N0 nL Q cells slots M pc L (.ref a :: rest) := fun ls H locs hL hP hS => W.objInit C.1 C.2.1 C.2.2.2.1 (C.w hI.1) (C.w hI.2.1) (C.w hI.2.2) rfl (hL.1.trans C.2.2.1.symm) rfl hdg hR.1 (by show 2 * 0 + _ + 12 ≤ R.locals; have := hR.2; omega) (kk ls H locs hL hP hS)
/-- the names of the array classes -/
def ANM (j : Nat) : String := (["[Z", "[B", "[C", "[S", "[I", "[J", "[F", "[D", "[LNativeSubset$Unit;", "[LNativeSubset$Card;", "[[I", "[Ljava/lang/Object;", "[LNativeSubset$Plan;", "[LNativeSubset$Act;", "[LNativeSubset$Helper;"] : List String).getD j ""
theorem hp_arr (C : Cx p l s m args meth c cc own nL ret hh G X N0) {H : Heap} {a j : Nat} {x : vp_A} (hj : j < 15) (hP : hp_P G (hp_A N0) M H) (ha : M a = some (.inl (G.2 j, x))) : ∃ cell : Cell, H[a]? = some cell ∧ cell.vm.isStatics = false ∧ s.vm.findClass (ANM j) = some cell.cls := by
  obtain ⟨ws, h1, h2, h3⟩ := hP
  obtain ⟨q0, hq⟩ := (h3 _ _).mp ha
  have hc : H[a]? = some (vp_cell (G.2 j) x) := h1 q0 _ hq
  have hv : (vp_cell (G.2 j) x).vm.isStatics = false ∧ (vp_cell (G.2 j) x).cls = G.2 j := by
    obtain ⟨n, f | f | f | f | f⟩ := x <;> exact ⟨rfl, rfl⟩
  refine ⟨_, hc, hv.1, ?_⟩
  rw [hv.2]
  have hK := C.2.2.2.2.2.2.2.2.1.1.1.2 j
  match j, hj with
  | 0, _ => exact (hK _ rfl).2
  | 1, _ => exact (hK _ rfl).2
  | 2, _ => exact (hK _ rfl).2
  | 3, _ => exact (hK _ rfl).2
  | 4, _ => exact (hK _ rfl).2
  | 5, _ => exact (hK _ rfl).2
  | 6, _ => exact (hK _ rfl).2
  | 7, _ => exact (hK _ rfl).2
  | 8, _ => obtain ⟨_, _, _, _, _, h⟩ := (hK _ rfl).2; exact h
  | 9, _ => obtain ⟨_, _, _, _, _, h⟩ := (hK _ rfl).2; exact h
  | 10, _ => exact (hK _ rfl).2
  | 11, _ => obtain ⟨_, _, _, _, _, h⟩ := (hK _ rfl).2; exact h
  | 12, _ => obtain ⟨_, _, _, _, _, h⟩ := (hK _ rfl).2; exact h
  | 13, _ => obtain ⟨_, _, _, _, _, h⟩ := (hK _ rfl).2; exact h
  | 14, _ => obtain ⟨_, _, _, _, _, h⟩ := (hK _ rfl).2; exact h
  | n + 15, h => omega
theorem va_Nw_self {nm : String} {U : State} {cc0 : ClassId} (h : U.vm.findClass nm = some cc0) : va_Nw (.castable nm nm) U := by
  show (Cond.castable nm nm).holds #[] U none U [] = true
  simp [Cond.holds, Cond.value, h, va_asg]
/-- instanceof, checkcast: of an array -/
theorem V_instAY (C : Cx p l s m args meth c cc own nL ret hh G X N0) {a j : Nat} {nm : String} {x : vp_A} (hj : j < 15) (hcl : Cond.classLink own idx nm ∈ lw_all) (hn : ANM j = nm ∨ (ANM j = "[LNativeSubset$Card;" ∧ nm = "[LNativeSubset$Unit;")) (ha : M a = some (.inl (G.2 j, x))) (hdg : decode cc pc = .ok (.instanceof idx, 3)) (kk : V p l e R s m args below meth c G N0 nL Q cells slots M (pc + 3) L (.int 1 :: rest)) : V p l e R s m args below meth c G N0 nL Q cells slots M pc L (.ref a :: rest) := by
  intro ls H locs hL hP hS
  obtain ⟨cell, h1, h2, h3⟩ := hp_arr (C := C) hj hP ha
  refine va_instY C.1 C.2.1 C.2.2.2.1 (C.w hcl) ?_ ⟨cell, h1, h2, h3⟩ hdg (kk ls H locs hL hP hS)
  rcases hn with e | ⟨e1, e2⟩
  · subst e; exact va_Nw_self h3
  · rw [e1, e2]; exact C.2.2.2.2.2.2.2.2.1.1.2.2.2.2.2.1.2
theorem V_instAN (C : Cx p l s m args meth c cc own nL ret hh G X N0) {a j : Nat} {nm : String} {x : vp_A} (hj : j < 15) (hcl : Cond.classLink own idx nm ∈ lw_all) (hn : (ANM j, nm) ∈ NCL) (ha : M a = some (.inl (G.2 j, x))) (hdg : decode cc pc = .ok (.instanceof idx, 3)) (kk : V p l e R s m args below meth c G N0 nL Q cells slots M (pc + 3) L (.int 0 :: rest)) : V p l e R s m args below meth c G N0 nL Q cells slots M pc L (.ref a :: rest) := by
  intro ls H locs hL hP hS
  obtain ⟨cell, h1, h2, h3⟩ := hp_arr (C := C) hj hP ha
  exact va_instNo C.1 C.2.1 C.2.2.2.1 (C.w hcl) (C.2.2.2.2.2.2.2.2.1.1.2.2.2.2.2.1.1 _ hn) ⟨cell, h1, h2, h3⟩ hdg (kk ls H locs hL hP hS)
theorem V_castA (C : Cx p l s m args meth c cc own nL ret hh G X N0) {a j : Nat} {nm : String} {x : vp_A} (hj : j < 15) (hcl : Cond.classLink own idx nm ∈ lw_all) (hn : ANM j = nm ∨ (ANM j = "[LNativeSubset$Card;" ∧ nm = "[LNativeSubset$Unit;")) (ha : M a = some (.inl (G.2 j, x))) (hdg : decode cc pc = .ok (.checkcast idx, 3)) (kk : V p l e R s m args below meth c G N0 nL Q cells slots M (pc + 3) L (.ref a :: rest)) : V p l e R s m args below meth c G N0 nL Q cells slots M pc L (.ref a :: rest) := by
  intro ls H locs hL hP hS
  obtain ⟨cell, h1, h2, h3⟩ := hp_arr (C := C) hj hP ha
  refine va_castY C.1 C.2.1 C.2.2.2.1 (C.w hcl) ?_ ⟨cell, h1, h2, h3⟩ hdg (kk ls H locs hL hP hS)
  rcases hn with e | ⟨e1, e2⟩
  · subst e; exact va_Nw_self h3
  · rw [e1, e2]; exact C.2.2.2.2.2.2.2.2.1.1.2.2.2.2.2.1.2
/-- checkcast of an object of ours: to its own class, or by a word -/
theorem V_castO (C : Cx p l s m args meth c cc own nL ret hh G X N0) {a ci : Nat} {nm : String} {q : vw_C} {fs : List Value} (hcl : Cond.classLink own idx nm ∈ lw_all) (hq : CLS[ci]? = some q) (hn : q.1 = nm ∨ Cond.castable q.1 nm ∈ lw_tbl) (ha : M a = some (.inr (ci, fs))) (hdg : decode cc pc = .ok (.checkcast idx, 3)) (kk : V p l e R s m args below meth c G N0 nL Q cells slots M (pc + 3) L (.ref a :: rest)) : V p l e R s m args below meth c G N0 nL Q cells slots M pc L (.ref a :: rest) := by
  intro ls H locs hL hP hS
  obtain ⟨cell, h1, h2, h3⟩ := hp_recv (C := C) (T := q.2.1) (NN := q.2.2) hP ha hq
  refine va_castY C.1 C.2.1 C.2.2.2.1 (C.w hcl) ?_ ⟨cell, h1, h2, h3⟩ hdg (kk ls H locs hL hP hS)
  rcases hn with e | e
  · subst e; exact va_Nw_self h3
  · exact C.2.2.2.2.2.2.2.2.1.1.2.1 _ e rfl
end VNT
