set_option maxRecDepth 100000
set_option linter.unusedVariables false
/-! texts of exceptions: short, of one byte a character -/
def SA (n : Nat) (s : String) : Prop := s.toList.length ≤ n ∧ ∀ c ∈ s.toList, c.toNat < 256
theorem SA.app {a b : Nat} {s t : String} (h : SA a s) (h' : SA b t) : SA (a + b) (s ++ t) := by
  unfold SA at h h' ⊢
  rw [String.toList_append, List.length_append]
  refine ⟨by omega, fun c hc => ?_⟩
  rcases List.mem_append.mp hc with z | z
  · exact h.2 c z
  · exact h'.2 c z
theorem SA.nat {k n : Nat} (hk : 0 < k) (h : n < 10 ^ k) : SA k (toString n) := by
  unfold SA
  rw [show toString n = n.repr from rfl, Nat.toList_repr]
  refine ⟨(Nat.length_toDigits_le_iff (by decide) hk).mpr h, fun c hc => ?_⟩
  have h1 := Nat.isDigit_of_mem_toDigits (by decide) (by decide) hc
  simp only [Char.isDigit, Bool.and_eq_true, decide_eq_true_eq] at h1
  have h2 : c.val.toNat ≤ 57 := UInt32.le_iff_toNat_le.mp h1.2
  exact Nat.lt_of_le_of_lt h2 (by decide)
theorem SA.mono {a b : Nat} {s : String} (h : SA a s) (hb : a ≤ b) : SA b s := ⟨Nat.le_trans h.1 hb, h.2⟩
theorem SA.int {k : Nat} {i : Int} (hk : 0 < k) (h : i.natAbs < 10 ^ k) : SA (k + 1) (toString i) := by
  cases i with
  | ofNat n => exact (SA.nat hk (show n < 10 ^ k from h)).mono (by omega)
  | negSucc n =>
    have h1 : SA 1 "-" := ⟨by decide, by decide⟩
    rw [show toString (Int.negSucc n) = "-" ++ toString (n + 1) from rfl, Nat.add_comm]
    exact h1.app (SA.nat hk (show n + 1 < 10 ^ k from h))
theorem SA.i32 (i : Int32) : SA 11 (toString i) := by
  refine SA.int (k := 10) (by decide) ?_
  have h1 := Int32.toInt_lt i
  have h2 := Int32.le_toInt i
  omega
theorem su_fold (l : List Char) (acc : Array UInt16) (h : ∀ c ∈ l, c.toNat < 256) (ha : ∀ u ∈ acc, u < 256) :
    (l.foldl (init := acc) fun acc c => if c.toNat < 0x10000 then acc.push c.toNat.toUInt16 else if 0x100000 ≤ c.toNat && c.toNat ≤ 0x1007FF then acc.push (0xD800 + (c.toNat - 0x100000)).toUInt16 else (acc.push (0xD800 + (c.toNat - 0x10000) / 0x400).toUInt16).push (0xDC00 + (c.toNat - 0x10000) % 0x400).toUInt16).size = acc.size + l.length ∧
    ∀ u ∈ (l.foldl (init := acc) fun acc c => if c.toNat < 0x10000 then acc.push c.toNat.toUInt16 else if 0x100000 ≤ c.toNat && c.toNat ≤ 0x1007FF then acc.push (0xD800 + (c.toNat - 0x100000)).toUInt16 else (acc.push (0xD800 + (c.toNat - 0x10000) / 0x400).toUInt16).push (0xDC00 + (c.toNat - 0x10000) % 0x400).toUInt16), u < 256 := by
  induction l generalizing acc with
  | nil => exact ⟨rfl, ha⟩
  | cons c r ih =>
    have hc := h c List.mem_cons_self
    have e : (if c.toNat < 0x10000 then acc.push c.toNat.toUInt16 else if 0x100000 ≤ c.toNat && c.toNat ≤ 0x1007FF then acc.push (0xD800 + (c.toNat - 0x100000)).toUInt16 else (acc.push (0xD800 + (c.toNat - 0x10000) / 0x400).toUInt16).push (0xDC00 + (c.toNat - 0x10000) % 0x400).toUInt16) = acc.push c.toNat.toUInt16 := if_pos (by omega)
    rw [List.foldl_cons, e]
    obtain ⟨a1, a2⟩ := ih (acc.push c.toNat.toUInt16) (fun x hx => h x (List.mem_cons_of_mem _ hx)) (fun u hu => by
      rcases Array.mem_push.mp hu with z | z
      · exact ha u z
      · rw [z]
        refine UInt16.lt_iff_toNat_lt.mpr ?_
        show (c.toNat.toUInt16).toNat < 256
        rw [Nat.toUInt16, UInt16.toNat_ofNat']
        exact Nat.lt_of_le_of_lt (Nat.mod_le _ _) hc)
    refine ⟨?_, a2⟩
    rw [a1, Array.size_push, List.length_cons]
    omega
theorem SA.size {n : Nat} {s : String} (h : SA n s) : (stringBytes (stringToUtf16 s)).size ≤ n := by
  obtain ⟨a1, a2⟩ := su_fold s.toList #[] h.2 (fun u hu => by simp at hu)
  have h1 : (stringToUtf16 s).all (· < 256) = true := by
    rw [Array.all_eq_true']
    intro u hu
    exact decide_eq_true (a2 u hu)
  unfold stringBytes
  rw [if_pos h1, Array.size_map]
  have := h.1
  show (stringToUtf16 s).size ≤ n
  unfold stringToUtf16
  rw [a1]
  simp
  omega
theorem nm_no {c : Char} {s : String} (h : s.toList.head? = some c) (hc : c ≠ '\u0000') : (s == notModelled) = false := by
  refine beq_eq_false_iff_ne.mpr fun z => ?_
  rw [z] at h
  exact hc (Option.some.inj (h.symm.trans rfl))
theorem nm_app {c : Char} {s t : String} (h : s.toList.head? = some c) : (s ++ t).toList.head? = some c := by
  rw [String.toList_append]
  cases hs : s.toList with
  | nil => rw [hs] at h; cases h
  | cons x r => rw [hs] at h; exact h
theorem tb_in {is : List Nat} : ∀ w ∈ is.filterMap (fun i => lw_tbl[i]?), w ∈ lw_tbl := by
  intro w hw
  obtain ⟨i, -, hi⟩ := List.mem_filterMap.mp hw
  exact List.mem_of_getElem? hi
theorem tb_IOOBE : vx_atM "java/lang/ArrayIndexOutOfBoundsException" ["java/lang/IndexOutOfBoundsException", "java/lang/RuntimeException", "java/lang/Exception"] = [80, 1006, 1015, 1035, 1038, 1040, 1007, 1008, 104, 105, 1009, 1014, 1036, 1058, 996, 1059, 998, 1060, 1000, 1010, 1012, 1002, 1120, 1121, 1057, 1002, 1138, 1139, 1140, 1141, 1153, 1141, 1142, 1143, 1114, 988, 1114, 1115, 1116, 1117, 990, 1117, 1118, 1119, 1120, 992, 86, 1131, 536, 1132, 1134, 1133, 1135, 85, 1137, 1151, 1154, 1017, 1146, 1147, 1149, 1145, 1005, 1004, 1144].filterMap (fun i => lw_tbl[i]?) := by decide +kernel
theorem tg_IOOBE : (vx_atM "java/lang/ArrayIndexOutOfBoundsException" ["java/lang/IndexOutOfBoundsException", "java/lang/RuntimeException", "java/lang/Exception"]).all (fun w => vx_ot w && (goodWord w || (nw_ok w && w.onTables))) = true := by decide +kernel
theorem tb_ASE : vx_atM "java/lang/ArrayStoreException" ["java/lang/RuntimeException", "java/lang/Exception"] = [80, 1006, 1015, 1035, 1038, 1040, 1007, 1008, 104, 105, 1009, 1014, 1036, 1058, 996, 1059, 998, 1060, 1000, 1010, 1012, 1002, 1120, 1121, 1057, 1002, 1111, 1112, 1113, 1114, 988, 1114, 1115, 1116, 1117, 990, 1117, 1118, 1119, 1120, 992, 86, 1131, 536, 1132, 1134, 1133, 1135, 87, 1110, 1129, 1130, 1018, 1124, 1125, 1127, 1123, 1005, 1004, 1122].filterMap (fun i => lw_tbl[i]?) := by decide +kernel
theorem tg_ASE : (vx_atM "java/lang/ArrayStoreException" ["java/lang/RuntimeException", "java/lang/Exception"]).all (fun w => vx_ot w && (goodWord w || (nw_ok w && w.onTables))) = true := by decide +kernel
theorem tb_CCE : vx_atM "java/lang/ClassCastException" ["java/lang/RuntimeException", "java/lang/Exception"] = [80, 1006, 1015, 1035, 1038, 1040, 1007, 1008, 104, 105, 1009, 1014, 1036, 1058, 996, 1059, 998, 1060, 1000, 1010, 1012, 1002, 1120, 1121, 1057, 1002, 1456, 1457, 1458, 1114, 988, 1114, 1115, 1116, 1117, 990, 1117, 1118, 1119, 1120, 992, 86, 1131, 536, 1132, 1134, 1133, 1135, 94, 1455, 1466, 1467, 1019, 1461, 1462, 1464, 1460, 1005, 1004, 1459].filterMap (fun i => lw_tbl[i]?) := by decide +kernel
theorem tg_CCE : (vx_atM "java/lang/ClassCastException" ["java/lang/RuntimeException", "java/lang/Exception"]).all (fun w => vx_ot w && (goodWord w || (nw_ok w && w.onTables))) = true := by decide +kernel
theorem tb_NPE : vx_atN 8 = [80, 1006, 1015, 1035, 1038, 1040, 1007, 1008, 104, 105, 1009, 1014, 1036, 1058, 996, 1059, 998, 1060, 1000, 1010, 1012, 1002, 1032, 1022, 1023, 1400, 1402, 1029, 1030, 1414, 1391, 1392, 1393, 1394, 987, 1394, 1395, 1396, 1397, 989, 1397, 1398, 1399, 1007, 991, 83, 1027, 1412, 1413, 1021, 1408, 1409, 1411, 1005, 1004, 1406].filterMap (fun i => lw_tbl[i]?) := by decide +kernel
theorem tg_NPE : (vx_atN 8).all (fun w => vx_ot w && (goodWord w || (nw_ok w && w.onTables))) = true := by decide +kernel
theorem Cx.tb {p : Program} {l : Launch} {s : State} {m : MethodId} {args : Array Value} {meth : Method} {c : Code} {cc : ByteArray} {own : String} {nL : Nat} {ret : Option FieldType} {hh : List (Nat × Nat × Nat × Nat)} {G : hp_G} {X : Nat → Nat} {N0 : Nat} (C : Cx p l s m args meth c cc own nL ret hh G X N0) {ws : List Cond} {is : List Nat} (h : ws = is.filterMap (fun i => lw_tbl[i]?)) (hg : ws.all (fun w => vx_ot w && (goodWord w || (nw_ok w && w.onTables))) = true) : (∀ w ∈ ws, w.before args s = true) ∧ ∀ w ∈ ws, vx_ot w = true := by
  rw [List.all_eq_true] at hg
  refine ⟨fun w hw => ?_, fun w hw => ?_⟩
  · have h1 : w ∈ lw_tbl := tb_in w (by rw [← h]; exact hw)
    have h2 := hg w hw
    simp only [Bool.and_eq_true, Bool.or_eq_true] at h2
    rcases h2.2 with h3 | h3
    · exact C.w (lw_g h1 h3)
    · exact (C.2.2.2.2.2.2.2.2.1.1.2.1 w h1 h3.1).use h3.2
  · have h2 := hg w hw
    simp only [Bool.and_eq_true] at h2
    exact h2.1
section VTH
variable {p : Program} {l : Launch} {e : Env} {R : Room} {s : State} {m : MethodId} {args : Array Value} {below : List Frame} {meth : Method} {c : Code} {cc : ByteArray} {own : String} {nL : Nat} {ret : Option FieldType} {hh : List (Nat × Nat × Nat × Nat)} {G : hp_G} {X : Nat → Nat} {N0 : Nat} {Q : State → Prop} {cells slots : Nat} {M : hp_h} {pc : Nat} {L : List (Nat × Value)} {rest st : List Value}
/-- the machine notes that E is thrown here, with this text -/
def VN (p : Program) (l : Launch) (e : Env) (R : Room) (s : State) (m : MethodId) (args : Array Value) (below : List Frame) (meth : Method) (c : Code) (G : hp_G) (N0 nL : Nat) (Q : State → Prop) (cells slots : Nat) (h : hp_h) (pc : Nat) (L : List (Nat × Value)) (E text : String) : Prop :=
  ∀ (ls : Array Slot) (H : Heap) (locs : List Loc) (rest : List Value), lv_has ls nL L → hp_P G (hp_A N0) h H → va_S (hp_A N0) s.heap H locs → (rest.map fun v => v.category).sum ≤ 16 → vx_Note p l e R s m args below meth c H locs cells slots Q (F0 m pc ls rest) E text
def VNN (p : Program) (l : Launch) (e : Env) (R : Room) (s : State) (m : MethodId) (args : Array Value) (below : List Frame) (meth : Method) (c : Code) (G : hp_G) (N0 nL : Nat) (Q : State → Prop) (cells slots : Nat) (h : hp_h) (pc : Nat) (L : List (Nat × Value)) : Prop :=
  ∀ (ls : Array Slot) (H : Heap) (locs : List Loc) (rest : List Value), lv_has ls nL L → hp_P G (hp_A N0) h H → va_S (hp_A N0) s.heap H locs → (rest.map fun v => v.category).sum ≤ 16 → vx_NoteN p l e R s m args below meth c H locs cells slots Q (F0 m pc ls rest)
theorem VN.of (C : Cx p l s m args meth c cc own nL ret hh G X N0) {cls text : String} {names : List String} {is : List Nat} {nb : Nat} (hb : vx_atM cls names = is.filterMap (fun i => lw_tbl[i]?)) (hg : (vx_atM cls names).all (fun w => vx_ot w && (goodWord w || (nw_ok w && w.onTables))) = true)
    (hcls : Bundle.fit cls = true ∧ (∀ n ∈ names, Bundle.fit n = true) ∧ (cls == "java/lang/StackOverflowError") = false ∧ (cls == "java/lang/OutOfMemoryError") = false) (ht : (text == notModelled) = false) (hs : SA nb text) (hnb : nb ≤ 1000) (hR : names.length + 4 < R.frames ∧ 10256 ≤ R.locals) (hn : names.length ≤ 5) (hcs : cells + 3 ≤ R.cells ∧ slots + (nb + 10) ≤ R.slots)
    (k : ∀ q : Nat, VX p l e R s m args below meth c G N0 nL Q (cells + 3) (slots + (nb + 10)) M pc L q cls) : VN p l e R s m args below meth c G N0 nL Q cells slots M pc L cls text := by
  intro ls H locs rest hL hP hS hr
  obtain ⟨w1, w2⟩ := C.tb hb hg
  obtain ⟨-, -, f3, f4⟩ := C.2.2.2.2.2.2.2.2.1.2
  exact vx_vm C.1 C.2.2.2.2.2.2.2.2.2.2 hcls.1 hcls.2.1 hcls.2.2.1 hcls.2.2.2 w1 w2 f3 f4 hS (hL.1.trans C.2.2.1.symm) ht hs.size hnb hR.1 (by omega) (by omega) hcs.1 hcs.2 C.2.2.2.2.2.2.1 (fun H1 q9 ce g1 g2 g3 g4 g5 g6 => k q9 ls H1 locs rest ce hL (hP.kept (fun q hq _ => g2 q hq)) g3 g4 g5 g6)
theorem VNN.of (C : Cx p l s m args meth c cc own nL ret hh G X N0) (hR : 7 < R.frames ∧ 10256 ≤ R.locals) (hcs : cells + 1 ≤ R.cells ∧ slots + 8 ≤ R.slots)
    (k : ∀ q : Nat, VX p l e R s m args below meth c G N0 nL Q (cells + 1) (slots + 8) M pc L q "java/lang/NullPointerException") : VNN p l e R s m args below meth c G N0 nL Q cells slots M pc L := by
  intro ls H locs rest hL hP hS hr
  obtain ⟨w1, w2⟩ := C.tb tb_NPE tg_NPE
  obtain ⟨-, -, f3, f4⟩ := C.2.2.2.2.2.2.2.2.1.2
  exact vx_npe C.1 C.2.2.2.2.2.2.2.2.2.2 w1 w2 f3 f4 hS (hL.1.trans C.2.2.1.symm) hR.1 (by omega) hcs.1 hcs.2 C.2.2.2.2.2.2.1 (fun H1 q9 ce g1 g2 g3 g4 g5 g6 => k q9 ls H1 locs rest ce hL (hP.kept (fun q hq _ => g2 q hq)) g3 g4 g5 g6)
/-- an index out of bounds -/
theorem VN.ix (C : Cx p l s m args meth c cc own nL ret hh G X N0) {i : Int32} {n : Nat} (hn : n < 10 ^ 9) (hR : 7 < R.frames ∧ 10256 ≤ R.locals) (hcs : cells + 3 ≤ R.cells ∧ slots + 70 ≤ R.slots)
    (k : ∀ q : Nat, VX p l e R s m args below meth c G N0 nL Q (cells + 3) (slots + 70) M pc L q "java/lang/ArrayIndexOutOfBoundsException") : ∀ tx : String, tx = (toString "Index " ++ toString i ++ toString " out of bounds for length " ++ toString n : String) → VN p l e R s m args below meth c G N0 nL Q cells slots M pc L "java/lang/ArrayIndexOutOfBoundsException" tx := by
  rintro tx rfl
  have h1 : SA 6 (toString "Index ") := ⟨by decide, by decide⟩
  have h2 : SA 26 (toString " out of bounds for length ") := ⟨by decide, by decide⟩
  exact VN.of (nb := 60) C tb_IOOBE tg_IOOBE ⟨by decide, by decide, by decide, by decide⟩ (nm_no (c := 'I') (nm_app (nm_app (nm_app rfl))) (by decide)) ((((h1.app (SA.i32 i)).app h2).app (SA.nat (k := 9) (by decide) hn)).mono (by decide)) (by decide) hR (by decide) hcs k
end VTH
section VTZ
variable {p : Program} {l : Launch} {e : Env} {R : Room} {s : State} {m : MethodId} {args : Array Value} {below : List Frame} {meth : Method} {c : Code} {cc : ByteArray} {own : String} {nL : Nat} {ret : Option FieldType} {hh : List (Nat × Nat × Nat × Nat)} {G : hp_G} {X : Nat → Nat} {N0 : Nat} {Q : State → Prop} {cells slots : Nat} {M : hp_h} {pc : Nat} {L : List (Nat × Value)} {rest st : List Value}
theorem V_zaldZ (C : Cx p l s m args meth c cc own nL ret hh G X N0) {a n : Nat} {f : Nat → Int32} (ha : M a = some (.inl (G.2 0, n, .inl f))) {i : Int32} (hout : ¬ vp_in i n) (hdg : decode cc pc = .ok (.baload, 1)) (hw : (rest.map fun v => v.category).sum ≤ 16) (kx : ∀ tx : String, tx = (toString "Index " ++ toString i ++ toString " out of bounds for length " ++ toString n : String) → VN p l e R s m args below meth c G N0 nL Q cells slots M pc L "java/lang/ArrayIndexOutOfBoundsException" tx) : V p l e R s m args below meth c G N0 nL Q cells slots M pc L (.int i :: .ref a :: rest) := by
  intro ls H locs hL hP hS
  have kx := fun tx ht => kx tx ht ls H locs rest hL hP hS hw
  obtain ⟨ws, h1, h2, h3⟩ := hP
  obtain ⟨q0, hq⟩ := (h3 _ _).mp ha
  exact vx_zaldZ C.1 C.2.1 C.2.2.2.2.2.2.2.2.1.1.1 h1 q0 0 hq rfl hout hdg kx
theorem V_zastZ (C : Cx p l s m args meth c cc own nL ret hh G X N0) {a n : Nat} {f : Nat → Int32} (ha : M a = some (.inl (G.2 0, n, .inl f))) {i : Int32} {x : Int32} (hout : ¬ vp_in i n) (hdg : decode cc pc = .ok (.bastore, 1)) (hw : (rest.map fun v => v.category).sum ≤ 16) (kx : ∀ tx : String, tx = (toString "Index " ++ toString i ++ toString " out of bounds for length " ++ toString n : String) → VN p l e R s m args below meth c G N0 nL Q cells slots M pc L "java/lang/ArrayIndexOutOfBoundsException" tx) : V p l e R s m args below meth c G N0 nL Q cells slots M pc L (.int x :: .int i :: .ref a :: rest) := by
  intro ls H locs hL hP hS
  have kx := fun tx ht => kx tx ht ls H locs rest hL hP hS hw
  obtain ⟨ws, h1, h2, h3⟩ := hP
  obtain ⟨q0, hq⟩ := (h3 _ _).mp ha
  exact vx_zastZ C.1 C.2.1 C.2.2.2.2.2.2.2.2.1.1.1 h1 q0 0 hq rfl hout hdg kx
theorem V_baldZ (C : Cx p l s m args meth c cc own nL ret hh G X N0) {a n : Nat} {f : Nat → Int32} (ha : M a = some (.inl (G.2 1, n, .inl f))) {i : Int32} (hout : ¬ vp_in i n) (hdg : decode cc pc = .ok (.baload, 1)) (hw : (rest.map fun v => v.category).sum ≤ 16) (kx : ∀ tx : String, tx = (toString "Index " ++ toString i ++ toString " out of bounds for length " ++ toString n : String) → VN p l e R s m args below meth c G N0 nL Q cells slots M pc L "java/lang/ArrayIndexOutOfBoundsException" tx) : V p l e R s m args below meth c G N0 nL Q cells slots M pc L (.int i :: .ref a :: rest) := by
  intro ls H locs hL hP hS
  have kx := fun tx ht => kx tx ht ls H locs rest hL hP hS hw
  obtain ⟨ws, h1, h2, h3⟩ := hP
  obtain ⟨q0, hq⟩ := (h3 _ _).mp ha
  exact vx_baldZ C.1 C.2.1 C.2.2.2.2.2.2.2.2.1.1.1 h1 q0 1 hq rfl hout hdg kx
theorem V_bastZ (C : Cx p l s m args meth c cc own nL ret hh G X N0) {a n : Nat} {f : Nat → Int32} (ha : M a = some (.inl (G.2 1, n, .inl f))) {i : Int32} {x : Int32} (hout : ¬ vp_in i n) (hdg : decode cc pc = .ok (.bastore, 1)) (hw : (rest.map fun v => v.category).sum ≤ 16) (kx : ∀ tx : String, tx = (toString "Index " ++ toString i ++ toString " out of bounds for length " ++ toString n : String) → VN p l e R s m args below meth c G N0 nL Q cells slots M pc L "java/lang/ArrayIndexOutOfBoundsException" tx) : V p l e R s m args below meth c G N0 nL Q cells slots M pc L (.int x :: .int i :: .ref a :: rest) := by
  intro ls H locs hL hP hS
  have kx := fun tx ht => kx tx ht ls H locs rest hL hP hS hw
  obtain ⟨ws, h1, h2, h3⟩ := hP
  obtain ⟨q0, hq⟩ := (h3 _ _).mp ha
  exact vx_bastZ C.1 C.2.1 C.2.2.2.2.2.2.2.2.1.1.1 h1 q0 1 hq rfl hout hdg kx
theorem V_caldZ (C : Cx p l s m args meth c cc own nL ret hh G X N0) {a n : Nat} {f : Nat → Int32} (ha : M a = some (.inl (G.2 2, n, .inl f))) {i : Int32} (hout : ¬ vp_in i n) (hdg : decode cc pc = .ok (.caload, 1)) (hw : (rest.map fun v => v.category).sum ≤ 16) (kx : ∀ tx : String, tx = (toString "Index " ++ toString i ++ toString " out of bounds for length " ++ toString n : String) → VN p l e R s m args below meth c G N0 nL Q cells slots M pc L "java/lang/ArrayIndexOutOfBoundsException" tx) : V p l e R s m args below meth c G N0 nL Q cells slots M pc L (.int i :: .ref a :: rest) := by
  intro ls H locs hL hP hS
  have kx := fun tx ht => kx tx ht ls H locs rest hL hP hS hw
  obtain ⟨ws, h1, h2, h3⟩ := hP
  obtain ⟨q0, hq⟩ := (h3 _ _).mp ha
  exact vx_caldZ C.1 C.2.1 C.2.2.2.2.2.2.2.2.1.1.1 h1 q0 2 hq rfl hout hdg kx
theorem V_castZ (C : Cx p l s m args meth c cc own nL ret hh G X N0) {a n : Nat} {f : Nat → Int32} (ha : M a = some (.inl (G.2 2, n, .inl f))) {i : Int32} {x : Int32} (hout : ¬ vp_in i n) (hdg : decode cc pc = .ok (.castore, 1)) (hw : (rest.map fun v => v.category).sum ≤ 16) (kx : ∀ tx : String, tx = (toString "Index " ++ toString i ++ toString " out of bounds for length " ++ toString n : String) → VN p l e R s m args below meth c G N0 nL Q cells slots M pc L "java/lang/ArrayIndexOutOfBoundsException" tx) : V p l e R s m args below meth c G N0 nL Q cells slots M pc L (.int x :: .int i :: .ref a :: rest) := by
  intro ls H locs hL hP hS
  have kx := fun tx ht => kx tx ht ls H locs rest hL hP hS hw
  obtain ⟨ws, h1, h2, h3⟩ := hP
  obtain ⟨q0, hq⟩ := (h3 _ _).mp ha
  exact vx_castZ C.1 C.2.1 C.2.2.2.2.2.2.2.2.1.1.1 h1 q0 2 hq rfl hout hdg kx
theorem V_saldZ (C : Cx p l s m args meth c cc own nL ret hh G X N0) {a n : Nat} {f : Nat → Int32} (ha : M a = some (.inl (G.2 3, n, .inl f))) {i : Int32} (hout : ¬ vp_in i n) (hdg : decode cc pc = .ok (.saload, 1)) (hw : (rest.map fun v => v.category).sum ≤ 16) (kx : ∀ tx : String, tx = (toString "Index " ++ toString i ++ toString " out of bounds for length " ++ toString n : String) → VN p l e R s m args below meth c G N0 nL Q cells slots M pc L "java/lang/ArrayIndexOutOfBoundsException" tx) : V p l e R s m args below meth c G N0 nL Q cells slots M pc L (.int i :: .ref a :: rest) := by
  intro ls H locs hL hP hS
  have kx := fun tx ht => kx tx ht ls H locs rest hL hP hS hw
  obtain ⟨ws, h1, h2, h3⟩ := hP
  obtain ⟨q0, hq⟩ := (h3 _ _).mp ha
  exact vx_saldZ C.1 C.2.1 C.2.2.2.2.2.2.2.2.1.1.1 h1 q0 3 hq rfl hout hdg kx
theorem V_sastZ (C : Cx p l s m args meth c cc own nL ret hh G X N0) {a n : Nat} {f : Nat → Int32} (ha : M a = some (.inl (G.2 3, n, .inl f))) {i : Int32} {x : Int32} (hout : ¬ vp_in i n) (hdg : decode cc pc = .ok (.sastore, 1)) (hw : (rest.map fun v => v.category).sum ≤ 16) (kx : ∀ tx : String, tx = (toString "Index " ++ toString i ++ toString " out of bounds for length " ++ toString n : String) → VN p l e R s m args below meth c G N0 nL Q cells slots M pc L "java/lang/ArrayIndexOutOfBoundsException" tx) : V p l e R s m args below meth c G N0 nL Q cells slots M pc L (.int x :: .int i :: .ref a :: rest) := by
  intro ls H locs hL hP hS
  have kx := fun tx ht => kx tx ht ls H locs rest hL hP hS hw
  obtain ⟨ws, h1, h2, h3⟩ := hP
  obtain ⟨q0, hq⟩ := (h3 _ _).mp ha
  exact vx_sastZ C.1 C.2.1 C.2.2.2.2.2.2.2.2.1.1.1 h1 q0 3 hq rfl hout hdg kx
theorem V_ialdZ (C : Cx p l s m args meth c cc own nL ret hh G X N0) {a n : Nat} {f : Nat → Int32} (ha : M a = some (.inl (G.2 4, n, .inl f))) {i : Int32} (hout : ¬ vp_in i n) (hdg : decode cc pc = .ok (.iaload, 1)) (hw : (rest.map fun v => v.category).sum ≤ 16) (kx : ∀ tx : String, tx = (toString "Index " ++ toString i ++ toString " out of bounds for length " ++ toString n : String) → VN p l e R s m args below meth c G N0 nL Q cells slots M pc L "java/lang/ArrayIndexOutOfBoundsException" tx) : V p l e R s m args below meth c G N0 nL Q cells slots M pc L (.int i :: .ref a :: rest) := by
  intro ls H locs hL hP hS
  have kx := fun tx ht => kx tx ht ls H locs rest hL hP hS hw
  obtain ⟨ws, h1, h2, h3⟩ := hP
  obtain ⟨q0, hq⟩ := (h3 _ _).mp ha
  exact vx_ialdZ C.1 C.2.1 C.2.2.2.2.2.2.2.2.1.1.1 h1 q0 4 hq rfl hout hdg kx
theorem V_iastZ (C : Cx p l s m args meth c cc own nL ret hh G X N0) {a n : Nat} {f : Nat → Int32} (ha : M a = some (.inl (G.2 4, n, .inl f))) {i : Int32} {x : Int32} (hout : ¬ vp_in i n) (hdg : decode cc pc = .ok (.iastore, 1)) (hw : (rest.map fun v => v.category).sum ≤ 16) (kx : ∀ tx : String, tx = (toString "Index " ++ toString i ++ toString " out of bounds for length " ++ toString n : String) → VN p l e R s m args below meth c G N0 nL Q cells slots M pc L "java/lang/ArrayIndexOutOfBoundsException" tx) : V p l e R s m args below meth c G N0 nL Q cells slots M pc L (.int x :: .int i :: .ref a :: rest) := by
  intro ls H locs hL hP hS
  have kx := fun tx ht => kx tx ht ls H locs rest hL hP hS hw
  obtain ⟨ws, h1, h2, h3⟩ := hP
  obtain ⟨q0, hq⟩ := (h3 _ _).mp ha
  exact vx_iastZ C.1 C.2.1 C.2.2.2.2.2.2.2.2.1.1.1 h1 q0 4 hq rfl hout hdg kx
theorem V_laldZ (C : Cx p l s m args meth c cc own nL ret hh G X N0) {a n : Nat} {f : Nat → Int64} (ha : M a = some (.inl (G.2 5, n, .inr (.inl f)))) {i : Int32} (hout : ¬ vp_in i n) (hdg : decode cc pc = .ok (.laload, 1)) (hw : (rest.map fun v => v.category).sum ≤ 16) (kx : ∀ tx : String, tx = (toString "Index " ++ toString i ++ toString " out of bounds for length " ++ toString n : String) → VN p l e R s m args below meth c G N0 nL Q cells slots M pc L "java/lang/ArrayIndexOutOfBoundsException" tx) : V p l e R s m args below meth c G N0 nL Q cells slots M pc L (.int i :: .ref a :: rest) := by
  intro ls H locs hL hP hS
  have kx := fun tx ht => kx tx ht ls H locs rest hL hP hS hw
  obtain ⟨ws, h1, h2, h3⟩ := hP
  obtain ⟨q0, hq⟩ := (h3 _ _).mp ha
  exact vx_laldZ C.1 C.2.1 C.2.2.2.2.2.2.2.2.1.1.1 h1 q0 5 hq rfl hout hdg kx
theorem V_lastZ (C : Cx p l s m args meth c cc own nL ret hh G X N0) {a n : Nat} {f : Nat → Int64} (ha : M a = some (.inl (G.2 5, n, .inr (.inl f)))) {i : Int32} {x : Int64} (hout : ¬ vp_in i n) (hdg : decode cc pc = .ok (.lastore, 1)) (hw : (rest.map fun v => v.category).sum ≤ 16) (kx : ∀ tx : String, tx = (toString "Index " ++ toString i ++ toString " out of bounds for length " ++ toString n : String) → VN p l e R s m args below meth c G N0 nL Q cells slots M pc L "java/lang/ArrayIndexOutOfBoundsException" tx) : V p l e R s m args below meth c G N0 nL Q cells slots M pc L (.long x :: .int i :: .ref a :: rest) := by
  intro ls H locs hL hP hS
  have kx := fun tx ht => kx tx ht ls H locs rest hL hP hS hw
  obtain ⟨ws, h1, h2, h3⟩ := hP
  obtain ⟨q0, hq⟩ := (h3 _ _).mp ha
  exact vx_lastZ C.1 C.2.1 C.2.2.2.2.2.2.2.2.1.1.1 h1 q0 5 hq rfl hout hdg kx
theorem V_faldZ (C : Cx p l s m args meth c cc own nL ret hh G X N0) {a n : Nat} {f : Nat → UInt32} (ha : M a = some (.inl (G.2 6, n, .inr (.inr (.inl f))))) {i : Int32} (hout : ¬ vp_in i n) (hdg : decode cc pc = .ok (.faload, 1)) (hw : (rest.map fun v => v.category).sum ≤ 16) (kx : ∀ tx : String, tx = (toString "Index " ++ toString i ++ toString " out of bounds for length " ++ toString n : String) → VN p l e R s m args below meth c G N0 nL Q cells slots M pc L "java/lang/ArrayIndexOutOfBoundsException" tx) : V p l e R s m args below meth c G N0 nL Q cells slots M pc L (.int i :: .ref a :: rest) := by
  intro ls H locs hL hP hS
  have kx := fun tx ht => kx tx ht ls H locs rest hL hP hS hw
  obtain ⟨ws, h1, h2, h3⟩ := hP
  obtain ⟨q0, hq⟩ := (h3 _ _).mp ha
  exact vx_faldZ C.1 C.2.1 C.2.2.2.2.2.2.2.2.1.1.1 h1 q0 6 hq rfl hout hdg kx
theorem V_fastZ (C : Cx p l s m args meth c cc own nL ret hh G X N0) {a n : Nat} {f : Nat → UInt32} (ha : M a = some (.inl (G.2 6, n, .inr (.inr (.inl f))))) {i : Int32} {x : UInt32} (hout : ¬ vp_in i n) (hdg : decode cc pc = .ok (.fastore, 1)) (hw : (rest.map fun v => v.category).sum ≤ 16) (kx : ∀ tx : String, tx = (toString "Index " ++ toString i ++ toString " out of bounds for length " ++ toString n : String) → VN p l e R s m args below meth c G N0 nL Q cells slots M pc L "java/lang/ArrayIndexOutOfBoundsException" tx) : V p l e R s m args below meth c G N0 nL Q cells slots M pc L (.float x :: .int i :: .ref a :: rest) := by
  intro ls H locs hL hP hS
  have kx := fun tx ht => kx tx ht ls H locs rest hL hP hS hw
  obtain ⟨ws, h1, h2, h3⟩ := hP
  obtain ⟨q0, hq⟩ := (h3 _ _).mp ha
  exact vx_fastZ C.1 C.2.1 C.2.2.2.2.2.2.2.2.1.1.1 h1 q0 6 hq rfl hout hdg kx
theorem V_daldZ (C : Cx p l s m args meth c cc own nL ret hh G X N0) {a n : Nat} {f : Nat → UInt64} (ha : M a = some (.inl (G.2 7, n, .inr (.inr (.inr (.inl f)))))) {i : Int32} (hout : ¬ vp_in i n) (hdg : decode cc pc = .ok (.daload, 1)) (hw : (rest.map fun v => v.category).sum ≤ 16) (kx : ∀ tx : String, tx = (toString "Index " ++ toString i ++ toString " out of bounds for length " ++ toString n : String) → VN p l e R s m args below meth c G N0 nL Q cells slots M pc L "java/lang/ArrayIndexOutOfBoundsException" tx) : V p l e R s m args below meth c G N0 nL Q cells slots M pc L (.int i :: .ref a :: rest) := by
  intro ls H locs hL hP hS
  have kx := fun tx ht => kx tx ht ls H locs rest hL hP hS hw
  obtain ⟨ws, h1, h2, h3⟩ := hP
  obtain ⟨q0, hq⟩ := (h3 _ _).mp ha
  exact vx_daldZ C.1 C.2.1 C.2.2.2.2.2.2.2.2.1.1.1 h1 q0 7 hq rfl hout hdg kx
theorem V_dastZ (C : Cx p l s m args meth c cc own nL ret hh G X N0) {a n : Nat} {f : Nat → UInt64} (ha : M a = some (.inl (G.2 7, n, .inr (.inr (.inr (.inl f)))))) {i : Int32} {x : UInt64} (hout : ¬ vp_in i n) (hdg : decode cc pc = .ok (.dastore, 1)) (hw : (rest.map fun v => v.category).sum ≤ 16) (kx : ∀ tx : String, tx = (toString "Index " ++ toString i ++ toString " out of bounds for length " ++ toString n : String) → VN p l e R s m args below meth c G N0 nL Q cells slots M pc L "java/lang/ArrayIndexOutOfBoundsException" tx) : V p l e R s m args below meth c G N0 nL Q cells slots M pc L (.double x :: .int i :: .ref a :: rest) := by
  intro ls H locs hL hP hS
  have kx := fun tx ht => kx tx ht ls H locs rest hL hP hS hw
  obtain ⟨ws, h1, h2, h3⟩ := hP
  obtain ⟨q0, hq⟩ := (h3 _ _).mp ha
  exact vx_dastZ C.1 C.2.1 C.2.2.2.2.2.2.2.2.1.1.1 h1 q0 7 hq rfl hout hdg kx
theorem V_alenN (C : Cx p l s m args meth c cc own nL ret hh G X N0) (hdg : decode cc pc = .ok (.arraylength, 1)) (hw : (rest.map fun v => v.category).sum ≤ 16) (kx : VNN p l e R s m args below meth c G N0 nL Q cells slots M pc L) : V p l e R s m args below meth c G N0 nL Q cells slots M pc L (.null :: rest) := fun ls H locs hL hP hS => vx_arraylengthN C.1 C.2.1 hdg (kx ls H locs rest hL hP hS hw)
theorem V_aaldN (C : Cx p l s m args meth c cc own nL ret hh G X N0) {i : Int32} (hdg : decode cc pc = .ok (.aaload, 1)) (hw : (rest.map fun v => v.category).sum ≤ 16) (kx : VNN p l e R s m args below meth c G N0 nL Q cells slots M pc L) : V p l e R s m args below meth c G N0 nL Q cells slots M pc L (.int i :: .null :: rest) := fun ls H locs hL hP hS => vx_aaloadN C.1 C.2.1 hdg (kx ls H locs rest hL hP hS hw)
theorem V_ialdN (C : Cx p l s m args meth c cc own nL ret hh G X N0) {i : Int32} (hdg : decode cc pc = .ok (.iaload, 1)) (hw : (rest.map fun v => v.category).sum ≤ 16) (kx : VNN p l e R s m args below meth c G N0 nL Q cells slots M pc L) : V p l e R s m args below meth c G N0 nL Q cells slots M pc L (.int i :: .null :: rest) := fun ls H locs hL hP hS => vx_ialoadN C.1 C.2.1 hdg (kx ls H locs rest hL hP hS hw)
end VTZ
