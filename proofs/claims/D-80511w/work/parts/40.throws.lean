set_option maxRecDepth 100000
theorem tb_IAE : vx_at0 "NativeSubset" 236 "java/lang/IllegalArgumentException" ["java/lang/RuntimeException", "java/lang/Exception"] = [80, 1006, 1015, 1035, 1038, 1040, 1007, 1008, 104, 105, 1009, 1014, 1036, 1058, 996, 1059, 998, 1060, 1000, 1010, 1012, 1002, 1437, 1438, 1439, 1394, 987, 1394, 1395, 1396, 1397, 989, 1397, 1398, 1399, 1007, 991, 1436, 1428, 1429, 1430, 1020, 1431, 1432, 1433, 1434, 1005, 1004, 1435].filterMap (fun i => lw_tbl[i]?) := by decide +kernel
theorem tg_IAE : (vx_at0 "NativeSubset" 236 "java/lang/IllegalArgumentException" ["java/lang/RuntimeException", "java/lang/Exception"]).all (fun w => vx_ot w && (goodWord w || (nw_ok w && w.onTables))) = true := by decide +kernel
section V40
variable {p : Program} {l : Launch} {e : Env} {R : Room} {s : State} {m : MethodId} {args : Array Value} {below : List Frame} {meth : Method} {c : Code} {cc : ByteArray} {nL : Nat} {ret : Option FieldType} {G : hp_G} {X : Nat → Nat} {N0 : Nat} {cells slots mc ms : Nat} {M : hp_h} {pc : Nat} {L : List (Nat × Value)} {rest : List Value} {Post : Option Value → hp_h → Prop} {PX : Nat → String → hp_h → Prop}
/-- 'throw new IllegalArgumentException()' in a method without handlers -/
theorem V_throwIAE (C : Cx p l s m args meth c cc "NativeSubset" nL ret [] G X N0) (hk : Cond.classLink "NativeSubset" 234 "java/lang/IllegalArgumentException" ∈ lw_all) (hi : Cond.initialized "java/lang/IllegalArgumentException" ∈ lw_all)
    (d0 : decode cc pc = .ok (.new 234, 3)) (d3 : decode cc (pc + 3) = .ok (.dup, 1)) (d4 : decode cc (pc + 4) = .ok (.invokespecial 236, 3)) (d7 : decode cc (pc + 7) = .ok (.athrow, 1))
    (hR : 5 < R.frames ∧ (rest.map fun v => v.category).sum + 81 ≤ R.locals) (hcs : cells + 1 ≤ R.cells ∧ slots + 6 ≤ R.slots) (hp : ∀ q, PX q "java/lang/IllegalArgumentException" M) (hc : cells + 1 ≤ mc ∧ slots + 6 ≤ ms) : V p l e R s m args below meth c G N0 nL (QV below G N0 Post PX args s mc ms) cells slots M pc L rest := by
  intro ls H locs hL hP hS
  obtain ⟨w1, w2⟩ := C.tb tb_IAE tg_IAE
  obtain ⟨-, -, f3, f4⟩ := C.2.2.2.2.2.2.2.2.1.2
  refine vx_throw0 (names := ["java/lang/RuntimeException", "java/lang/Exception"]) C.1 C.2.1 C.2.2.2.2.2.2.2.2.2.2 C.2.2.2.1 (by decide) (by decide) (C.w hk) (C.w hi) w1 ?_ f3 f4 hS (hL.1.trans C.2.2.1.symm) d0 d3 d4 d7 (fun x hx => ?_) hR.1 hR.2 hcs.1 hcs.2 C.2.2.2.2.2.2.1 (fun q9 t ha h1 h2 => ?_) hS.2.2 hc.1 hc.2
  · intro w hw
    rcases List.mem_cons.mp hw with rfl | hw
    · decide
    · rcases List.mem_cons.mp hw with rfl | hw
      · decide
      · exact w2 w hw
  · rw [C.2.2.2.2.2.2.2.1] at hx
    cases hx
  · have hS' : va_S (hp_A N0) s.heap t.heap locs := ⟨Nat.le_trans hS.1 h1, fun q a b => (h2 q (Nat.lt_of_lt_of_le a hS.1)).trans (hS.2.1 q a b), hS.2.2⟩
    exact ⟨M, hp q9, hP.kept (fun q hq _ => h2 q hq), hS'.F rfl⟩
end V40
/-- E is thrown, the heap stays -/
def PXE (E0 : String) (M : hp_h) : Nat → String → hp_h → Prop := fun _ E M' => E = E0 ∧ M' = M
/-- no return -/
def PFF : Option Value → hp_h → Prop := fun _ _ => False
set_option maxHeartbeats 1000000 in
theorem c_X1_sizeOf_n (l : Launch) (hl : l.stackTraces = false) (G : hp_G) (X : Nat → Nat) (N0 : Nat) (M : hp_h)  : HM l yX1_sizeOf (ws_ yX1_sizeOf cX1_sizeOf 1 (some .int)) 8 10320 1 8 G X N0 [.null] M PFF (PXE "java/lang/NullPointerException" M) := by
  refine HM.of hl [(0, .null)] (by decide +kernel) rfl (Nat.le_of_ble_eq_true rfl) ?_
  intro p e s m args below meth c C hname
  refine V_aload_nN C dX1_sizeOf_0 rfl 0 rfl ?_
  refine V_callS C (c_X1_kindOf_n l hl G X N0 M) cs_X1_25 rfl rfl ⟨Nat.le_of_ble_eq_true rfl, Nat.le_of_ble_eq_true rfl⟩ ⟨(by first | exact Nat.le_of_ble_eq_true rfl | omega | (dsimp only; omega) | (simp only [List.length_cons, List.length_nil]; omega)), (by first | exact Nat.le_of_ble_eq_true rfl | omega | (dsimp only; omega) | (simp only [List.length_cons, List.length_nil]; omega))⟩ (Nat.le_of_ble_eq_true rfl) dX1_sizeOf_1 (fun _ _ _ h => px0 h) ?_
  rintro _ _ ⟨rfl, rfl⟩
  refine V_st (st' := [.int 10]) rfl ?_
  refine V_tableIn (tgt := 112) (off := 108) C dX1_sizeOf_4 (by decide) (by decide) (by decide) (by decide) ?_
  refine V_aload_nN C dX1_sizeOf_112 rfl 0 rfl ?_
  refine V_castN C dX1_sizeOf_113 ?_
  exact V_alenN C dX1_sizeOf_116 (Nat.le_of_ble_eq_true rfl) (VNN.of C ⟨Nat.le_of_ble_eq_true rfl, Nat.le_of_ble_eq_true rfl⟩ ⟨(by first | exact Nat.le_of_ble_eq_true rfl | omega), (by first | exact Nat.le_of_ble_eq_true rfl | omega)⟩ (fun q9 => VX_out C (fun z hz => by cases hz) ⟨rfl, rfl⟩ (by first | exact Nat.le_of_ble_eq_true rfl | omega) (by first | exact Nat.le_of_ble_eq_true rfl | omega)))
set_option maxHeartbeats 1000000 in
theorem c_X1_get_n (l : Launch) (hl : l.stackTraces = false) (G : hp_G) (X : Nat → Nat) (N0 : Nat) (M : hp_h) (i : Int32) : HM l yX1_get (ws_ yX1_get cX1_get 4 (some .long)) 8 10320 1 8 G X N0 [.null, .int i] M PFF (PXE "java/lang/NullPointerException" M) := by
  refine HM.of hl [(0, .null), (1, .int i)] (by decide +kernel) rfl (Nat.le_of_ble_eq_true rfl) ?_
  intro p e s m args below meth c C hname
  refine V_aload_nN C dX1_get_0 rfl 0 rfl ?_
  refine V_callS C (c_X1_kindOf_n l hl G X N0 M) cs_X1_25 rfl rfl ⟨Nat.le_of_ble_eq_true rfl, Nat.le_of_ble_eq_true rfl⟩ ⟨(by first | exact Nat.le_of_ble_eq_true rfl | omega | (dsimp only; omega) | (simp only [List.length_cons, List.length_nil]; omega)), (by first | exact Nat.le_of_ble_eq_true rfl | omega | (dsimp only; omega) | (simp only [List.length_cons, List.length_nil]; omega))⟩ (Nat.le_of_ble_eq_true rfl) dX1_get_1 (fun _ _ _ h => px0 h) ?_
  rintro _ _ ⟨rfl, rfl⟩
  refine V_st (st' := [.int 10]) rfl ?_
  refine V_tableIn (tgt := 139) (off := 135) C dX1_get_4 (by decide) (by decide) (by decide) (by decide) ?_
  refine V_aload_nN C dX1_get_139 rfl 0 rfl ?_
  refine V_castN C dX1_get_140 ?_
  refine V_iload_n C dX1_get_143 rfl 1 rfl ?_
  exact V_aaldN C dX1_get_144 (Nat.le_of_ble_eq_true rfl) (VNN.of C ⟨Nat.le_of_ble_eq_true rfl, Nat.le_of_ble_eq_true rfl⟩ ⟨(by first | exact Nat.le_of_ble_eq_true rfl | omega), (by first | exact Nat.le_of_ble_eq_true rfl | omega)⟩ (fun q9 => VX_out C (fun z hz => by cases hz) ⟨rfl, rfl⟩ (by first | exact Nat.le_of_ble_eq_true rfl | omega) (by first | exact Nat.le_of_ble_eq_true rfl | omega)))
set_option maxHeartbeats 1000000 in
theorem c_X1_get_out_0 (l : Launch) (hl : l.stackTraces = false) (G : hp_G) (X : Nat → Nat) (N0 : Nat) (M : hp_h) (a n : Nat) (i : Int32) (f : Nat → Int32) (ha : M a = some (.inl (G.2 0, n, .inl f))) (hn : n < 10 ^ 9) (hout : ¬ vp_in i n) : HM l yX1_get (ws_ yX1_get cX1_get 4 (some .long)) 8 10320 3 70 G X N0 [.ref a, .int i] M PFF (PXE "java/lang/ArrayIndexOutOfBoundsException" M) := by
  refine HM.of hl [(0, .ref a), (1, .int i)] (by decide +kernel) rfl (Nat.le_of_ble_eq_true rfl) ?_
  intro p e s m args below meth c C hname
  refine V_aload_n C dX1_get_0 rfl 0 rfl ?_
  refine V_callS C (c_X1_kindOf l hl G X N0 M a 0 (by decide) _ ha) cs_X1_25 rfl rfl ⟨Nat.le_of_ble_eq_true rfl, Nat.le_of_ble_eq_true rfl⟩ ⟨(by first | exact Nat.le_of_ble_eq_true rfl | omega | (dsimp only; omega) | (simp only [List.length_cons, List.length_nil]; omega)), (by first | exact Nat.le_of_ble_eq_true rfl | omega | (dsimp only; omega) | (simp only [List.length_cons, List.length_nil]; omega))⟩ (Nat.le_of_ble_eq_true rfl) dX1_get_1 (fun _ _ _ h => px0 h) ?_
  rintro _ _ ⟨rfl, rfl⟩
  refine V_st (st' := [.int (nI 0)]) rfl ?_
  refine V_tableIn (tgt := 64) (off := 60) C dX1_get_4 (by decide) (by decide) (by decide) (by decide) ?_
  refine V_aload_n C dX1_get_64 rfl 0 rfl ?_
  refine V_castA C (j := 0) (by decide) q607 (Or.inl rfl) ha dX1_get_65 ?_
  refine V_iload_n C dX1_get_68 rfl 1 rfl ?_
  exact V_zaldZ C ha hout dX1_get_69 (Nat.le_of_ble_eq_true rfl) (VN.ix C hn ⟨Nat.le_of_ble_eq_true rfl, Nat.le_of_ble_eq_true rfl⟩ ⟨(by first | exact Nat.le_of_ble_eq_true rfl | omega), (by first | exact Nat.le_of_ble_eq_true rfl | omega)⟩ (fun q9 => VX_out C (fun z hz => by cases hz) ⟨rfl, rfl⟩ (by first | exact Nat.le_of_ble_eq_true rfl | omega) (by first | exact Nat.le_of_ble_eq_true rfl | omega)))
set_option maxHeartbeats 1000000 in
theorem c_X1_get_out_1 (l : Launch) (hl : l.stackTraces = false) (G : hp_G) (X : Nat → Nat) (N0 : Nat) (M : hp_h) (a n : Nat) (i : Int32) (f : Nat → Int32) (ha : M a = some (.inl (G.2 1, n, .inl f))) (hn : n < 10 ^ 9) (hout : ¬ vp_in i n) : HM l yX1_get (ws_ yX1_get cX1_get 4 (some .long)) 8 10320 3 70 G X N0 [.ref a, .int i] M PFF (PXE "java/lang/ArrayIndexOutOfBoundsException" M) := by
  refine HM.of hl [(0, .ref a), (1, .int i)] (by decide +kernel) rfl (Nat.le_of_ble_eq_true rfl) ?_
  intro p e s m args below meth c C hname
  refine V_aload_n C dX1_get_0 rfl 0 rfl ?_
  refine V_callS C (c_X1_kindOf l hl G X N0 M a 1 (by decide) _ ha) cs_X1_25 rfl rfl ⟨Nat.le_of_ble_eq_true rfl, Nat.le_of_ble_eq_true rfl⟩ ⟨(by first | exact Nat.le_of_ble_eq_true rfl | omega | (dsimp only; omega) | (simp only [List.length_cons, List.length_nil]; omega)), (by first | exact Nat.le_of_ble_eq_true rfl | omega | (dsimp only; omega) | (simp only [List.length_cons, List.length_nil]; omega))⟩ (Nat.le_of_ble_eq_true rfl) dX1_get_1 (fun _ _ _ h => px0 h) ?_
  rintro _ _ ⟨rfl, rfl⟩
  refine V_st (st' := [.int (nI 1)]) rfl ?_
  refine V_tableIn (tgt := 79) (off := 75) C dX1_get_4 (by decide) (by decide) (by decide) (by decide) ?_
  refine V_aload_n C dX1_get_79 rfl 0 rfl ?_
  refine V_castA C (j := 1) (by decide) q608 (Or.inl rfl) ha dX1_get_80 ?_
  refine V_iload_n C dX1_get_83 rfl 1 rfl ?_
  exact V_baldZ C ha hout dX1_get_84 (Nat.le_of_ble_eq_true rfl) (VN.ix C hn ⟨Nat.le_of_ble_eq_true rfl, Nat.le_of_ble_eq_true rfl⟩ ⟨(by first | exact Nat.le_of_ble_eq_true rfl | omega), (by first | exact Nat.le_of_ble_eq_true rfl | omega)⟩ (fun q9 => VX_out C (fun z hz => by cases hz) ⟨rfl, rfl⟩ (by first | exact Nat.le_of_ble_eq_true rfl | omega) (by first | exact Nat.le_of_ble_eq_true rfl | omega)))
set_option maxHeartbeats 1000000 in
theorem c_X1_get_out_2 (l : Launch) (hl : l.stackTraces = false) (G : hp_G) (X : Nat → Nat) (N0 : Nat) (M : hp_h) (a n : Nat) (i : Int32) (f : Nat → Int32) (ha : M a = some (.inl (G.2 2, n, .inl f))) (hn : n < 10 ^ 9) (hout : ¬ vp_in i n) : HM l yX1_get (ws_ yX1_get cX1_get 4 (some .long)) 8 10320 3 70 G X N0 [.ref a, .int i] M PFF (PXE "java/lang/ArrayIndexOutOfBoundsException" M) := by
  refine HM.of hl [(0, .ref a), (1, .int i)] (by decide +kernel) rfl (Nat.le_of_ble_eq_true rfl) ?_
  intro p e s m args below meth c C hname
  refine V_aload_n C dX1_get_0 rfl 0 rfl ?_
  refine V_callS C (c_X1_kindOf l hl G X N0 M a 2 (by decide) _ ha) cs_X1_25 rfl rfl ⟨Nat.le_of_ble_eq_true rfl, Nat.le_of_ble_eq_true rfl⟩ ⟨(by first | exact Nat.le_of_ble_eq_true rfl | omega | (dsimp only; omega) | (simp only [List.length_cons, List.length_nil]; omega)), (by first | exact Nat.le_of_ble_eq_true rfl | omega | (dsimp only; omega) | (simp only [List.length_cons, List.length_nil]; omega))⟩ (Nat.le_of_ble_eq_true rfl) dX1_get_1 (fun _ _ _ h => px0 h) ?_
  rintro _ _ ⟨rfl, rfl⟩
  refine V_st (st' := [.int (nI 2)]) rfl ?_
  refine V_tableIn (tgt := 87) (off := 83) C dX1_get_4 (by decide) (by decide) (by decide) (by decide) ?_
  refine V_aload_n C dX1_get_87 rfl 0 rfl ?_
  refine V_castA C (j := 2) (by decide) q609 (Or.inl rfl) ha dX1_get_88 ?_
  refine V_iload_n C dX1_get_91 rfl 1 rfl ?_
  exact V_caldZ C ha hout dX1_get_92 (Nat.le_of_ble_eq_true rfl) (VN.ix C hn ⟨Nat.le_of_ble_eq_true rfl, Nat.le_of_ble_eq_true rfl⟩ ⟨(by first | exact Nat.le_of_ble_eq_true rfl | omega), (by first | exact Nat.le_of_ble_eq_true rfl | omega)⟩ (fun q9 => VX_out C (fun z hz => by cases hz) ⟨rfl, rfl⟩ (by first | exact Nat.le_of_ble_eq_true rfl | omega) (by first | exact Nat.le_of_ble_eq_true rfl | omega)))
set_option maxHeartbeats 1000000 in
theorem c_X1_get_out_3 (l : Launch) (hl : l.stackTraces = false) (G : hp_G) (X : Nat → Nat) (N0 : Nat) (M : hp_h) (a n : Nat) (i : Int32) (f : Nat → Int32) (ha : M a = some (.inl (G.2 3, n, .inl f))) (hn : n < 10 ^ 9) (hout : ¬ vp_in i n) : HM l yX1_get (ws_ yX1_get cX1_get 4 (some .long)) 8 10320 3 70 G X N0 [.ref a, .int i] M PFF (PXE "java/lang/ArrayIndexOutOfBoundsException" M) := by
  refine HM.of hl [(0, .ref a), (1, .int i)] (by decide +kernel) rfl (Nat.le_of_ble_eq_true rfl) ?_
  intro p e s m args below meth c C hname
  refine V_aload_n C dX1_get_0 rfl 0 rfl ?_
  refine V_callS C (c_X1_kindOf l hl G X N0 M a 3 (by decide) _ ha) cs_X1_25 rfl rfl ⟨Nat.le_of_ble_eq_true rfl, Nat.le_of_ble_eq_true rfl⟩ ⟨(by first | exact Nat.le_of_ble_eq_true rfl | omega | (dsimp only; omega) | (simp only [List.length_cons, List.length_nil]; omega)), (by first | exact Nat.le_of_ble_eq_true rfl | omega | (dsimp only; omega) | (simp only [List.length_cons, List.length_nil]; omega))⟩ (Nat.le_of_ble_eq_true rfl) dX1_get_1 (fun _ _ _ h => px0 h) ?_
  rintro _ _ ⟨rfl, rfl⟩
  refine V_st (st' := [.int (nI 3)]) rfl ?_
  refine V_tableIn (tgt := 95) (off := 91) C dX1_get_4 (by decide) (by decide) (by decide) (by decide) ?_
  refine V_aload_n C dX1_get_95 rfl 0 rfl ?_
  refine V_castA C (j := 3) (by decide) q610 (Or.inl rfl) ha dX1_get_96 ?_
  refine V_iload_n C dX1_get_99 rfl 1 rfl ?_
  exact V_saldZ C ha hout dX1_get_100 (Nat.le_of_ble_eq_true rfl) (VN.ix C hn ⟨Nat.le_of_ble_eq_true rfl, Nat.le_of_ble_eq_true rfl⟩ ⟨(by first | exact Nat.le_of_ble_eq_true rfl | omega), (by first | exact Nat.le_of_ble_eq_true rfl | omega)⟩ (fun q9 => VX_out C (fun z hz => by cases hz) ⟨rfl, rfl⟩ (by first | exact Nat.le_of_ble_eq_true rfl | omega) (by first | exact Nat.le_of_ble_eq_true rfl | omega)))
set_option maxHeartbeats 1000000 in
theorem c_X1_get_out_4 (l : Launch) (hl : l.stackTraces = false) (G : hp_G) (X : Nat → Nat) (N0 : Nat) (M : hp_h) (a n : Nat) (i : Int32) (f : Nat → Int32) (ha : M a = some (.inl (G.2 4, n, .inl f))) (hn : n < 10 ^ 9) (hout : ¬ vp_in i n) : HM l yX1_get (ws_ yX1_get cX1_get 4 (some .long)) 8 10320 3 70 G X N0 [.ref a, .int i] M PFF (PXE "java/lang/ArrayIndexOutOfBoundsException" M) := by
  refine HM.of hl [(0, .ref a), (1, .int i)] (by decide +kernel) rfl (Nat.le_of_ble_eq_true rfl) ?_
  intro p e s m args below meth c C hname
  refine V_aload_n C dX1_get_0 rfl 0 rfl ?_
  refine V_callS C (c_X1_kindOf l hl G X N0 M a 4 (by decide) _ ha) cs_X1_25 rfl rfl ⟨Nat.le_of_ble_eq_true rfl, Nat.le_of_ble_eq_true rfl⟩ ⟨(by first | exact Nat.le_of_ble_eq_true rfl | omega | (dsimp only; omega) | (simp only [List.length_cons, List.length_nil]; omega)), (by first | exact Nat.le_of_ble_eq_true rfl | omega | (dsimp only; omega) | (simp only [List.length_cons, List.length_nil]; omega))⟩ (Nat.le_of_ble_eq_true rfl) dX1_get_1 (fun _ _ _ h => px0 h) ?_
  rintro _ _ ⟨rfl, rfl⟩
  refine V_st (st' := [.int (nI 4)]) rfl ?_
  refine V_tableIn (tgt := 103) (off := 99) C dX1_get_4 (by decide) (by decide) (by decide) (by decide) ?_
  refine V_aload_n C dX1_get_103 rfl 0 rfl ?_
  refine V_castA C (j := 4) (by decide) q458 (Or.inl rfl) ha dX1_get_104 ?_
  refine V_iload_n C dX1_get_107 rfl 1 rfl ?_
  exact V_ialdZ C ha hout dX1_get_108 (Nat.le_of_ble_eq_true rfl) (VN.ix C hn ⟨Nat.le_of_ble_eq_true rfl, Nat.le_of_ble_eq_true rfl⟩ ⟨(by first | exact Nat.le_of_ble_eq_true rfl | omega), (by first | exact Nat.le_of_ble_eq_true rfl | omega)⟩ (fun q9 => VX_out C (fun z hz => by cases hz) ⟨rfl, rfl⟩ (by first | exact Nat.le_of_ble_eq_true rfl | omega) (by first | exact Nat.le_of_ble_eq_true rfl | omega)))
set_option maxHeartbeats 1000000 in
theorem c_X1_get_out_5 (l : Launch) (hl : l.stackTraces = false) (G : hp_G) (X : Nat → Nat) (N0 : Nat) (M : hp_h) (a n : Nat) (i : Int32) (f : Nat → Int64) (ha : M a = some (.inl (G.2 5, n, .inr (.inl f)))) (hn : n < 10 ^ 9) (hout : ¬ vp_in i n) : HM l yX1_get (ws_ yX1_get cX1_get 4 (some .long)) 8 10320 3 70 G X N0 [.ref a, .int i] M PFF (PXE "java/lang/ArrayIndexOutOfBoundsException" M) := by
  refine HM.of hl [(0, .ref a), (1, .int i)] (by decide +kernel) rfl (Nat.le_of_ble_eq_true rfl) ?_
  intro p e s m args below meth c C hname
  refine V_aload_n C dX1_get_0 rfl 0 rfl ?_
  refine V_callS C (c_X1_kindOf l hl G X N0 M a 5 (by decide) _ ha) cs_X1_25 rfl rfl ⟨Nat.le_of_ble_eq_true rfl, Nat.le_of_ble_eq_true rfl⟩ ⟨(by first | exact Nat.le_of_ble_eq_true rfl | omega | (dsimp only; omega) | (simp only [List.length_cons, List.length_nil]; omega)), (by first | exact Nat.le_of_ble_eq_true rfl | omega | (dsimp only; omega) | (simp only [List.length_cons, List.length_nil]; omega))⟩ (Nat.le_of_ble_eq_true rfl) dX1_get_1 (fun _ _ _ h => px0 h) ?_
  rintro _ _ ⟨rfl, rfl⟩
  refine V_st (st' := [.int (nI 5)]) rfl ?_
  refine V_tableIn (tgt := 111) (off := 107) C dX1_get_4 (by decide) (by decide) (by decide) (by decide) ?_
  refine V_aload_n C dX1_get_111 rfl 0 rfl ?_
  refine V_castA C (j := 5) (by decide) q611 (Or.inl rfl) ha dX1_get_112 ?_
  refine V_iload_n C dX1_get_115 rfl 1 rfl ?_
  exact V_laldZ C ha hout dX1_get_116 (Nat.le_of_ble_eq_true rfl) (VN.ix C hn ⟨Nat.le_of_ble_eq_true rfl, Nat.le_of_ble_eq_true rfl⟩ ⟨(by first | exact Nat.le_of_ble_eq_true rfl | omega), (by first | exact Nat.le_of_ble_eq_true rfl | omega)⟩ (fun q9 => VX_out C (fun z hz => by cases hz) ⟨rfl, rfl⟩ (by first | exact Nat.le_of_ble_eq_true rfl | omega) (by first | exact Nat.le_of_ble_eq_true rfl | omega)))
set_option maxHeartbeats 1000000 in
theorem c_X1_get_out_6 (l : Launch) (hl : l.stackTraces = false) (G : hp_G) (X : Nat → Nat) (N0 : Nat) (M : hp_h) (a n : Nat) (i : Int32) (f : Nat → UInt32) (ha : M a = some (.inl (G.2 6, n, .inr (.inr (.inl f))))) (hn : n < 10 ^ 9) (hout : ¬ vp_in i n) : HM l yX1_get (ws_ yX1_get cX1_get 4 (some .long)) 8 10320 3 70 G X N0 [.ref a, .int i] M PFF (PXE "java/lang/ArrayIndexOutOfBoundsException" M) := by
  refine HM.of hl [(0, .ref a), (1, .int i)] (by decide +kernel) rfl (Nat.le_of_ble_eq_true rfl) ?_
  intro p e s m args below meth c C hname
  refine V_aload_n C dX1_get_0 rfl 0 rfl ?_
  refine V_callS C (c_X1_kindOf l hl G X N0 M a 6 (by decide) _ ha) cs_X1_25 rfl rfl ⟨Nat.le_of_ble_eq_true rfl, Nat.le_of_ble_eq_true rfl⟩ ⟨(by first | exact Nat.le_of_ble_eq_true rfl | omega | (dsimp only; omega) | (simp only [List.length_cons, List.length_nil]; omega)), (by first | exact Nat.le_of_ble_eq_true rfl | omega | (dsimp only; omega) | (simp only [List.length_cons, List.length_nil]; omega))⟩ (Nat.le_of_ble_eq_true rfl) dX1_get_1 (fun _ _ _ h => px0 h) ?_
  rintro _ _ ⟨rfl, rfl⟩
  refine V_st (st' := [.int (nI 6)]) rfl ?_
  refine V_tableIn (tgt := 118) (off := 114) C dX1_get_4 (by decide) (by decide) (by decide) (by decide) ?_
  refine V_aload_n C dX1_get_118 rfl 0 rfl ?_
  refine V_castA C (j := 6) (by decide) q612 (Or.inl rfl) ha dX1_get_119 ?_
  refine V_iload_n C dX1_get_122 rfl 1 rfl ?_
  exact V_faldZ C ha hout dX1_get_123 (Nat.le_of_ble_eq_true rfl) (VN.ix C hn ⟨Nat.le_of_ble_eq_true rfl, Nat.le_of_ble_eq_true rfl⟩ ⟨(by first | exact Nat.le_of_ble_eq_true rfl | omega), (by first | exact Nat.le_of_ble_eq_true rfl | omega)⟩ (fun q9 => VX_out C (fun z hz => by cases hz) ⟨rfl, rfl⟩ (by first | exact Nat.le_of_ble_eq_true rfl | omega) (by first | exact Nat.le_of_ble_eq_true rfl | omega)))
set_option maxHeartbeats 1000000 in
theorem c_X1_get_out_7 (l : Launch) (hl : l.stackTraces = false) (G : hp_G) (X : Nat → Nat) (N0 : Nat) (M : hp_h) (a n : Nat) (i : Int32) (f : Nat → UInt64) (ha : M a = some (.inl (G.2 7, n, .inr (.inr (.inr (.inl f)))))) (hn : n < 10 ^ 9) (hout : ¬ vp_in i n) : HM l yX1_get (ws_ yX1_get cX1_get 4 (some .long)) 8 10320 3 70 G X N0 [.ref a, .int i] M PFF (PXE "java/lang/ArrayIndexOutOfBoundsException" M) := by
  refine HM.of hl [(0, .ref a), (1, .int i)] (by decide +kernel) rfl (Nat.le_of_ble_eq_true rfl) ?_
  intro p e s m args below meth c C hname
  refine V_aload_n C dX1_get_0 rfl 0 rfl ?_
  refine V_callS C (c_X1_kindOf l hl G X N0 M a 7 (by decide) _ ha) cs_X1_25 rfl rfl ⟨Nat.le_of_ble_eq_true rfl, Nat.le_of_ble_eq_true rfl⟩ ⟨(by first | exact Nat.le_of_ble_eq_true rfl | omega | (dsimp only; omega) | (simp only [List.length_cons, List.length_nil]; omega)), (by first | exact Nat.le_of_ble_eq_true rfl | omega | (dsimp only; omega) | (simp only [List.length_cons, List.length_nil]; omega))⟩ (Nat.le_of_ble_eq_true rfl) dX1_get_1 (fun _ _ _ h => px0 h) ?_
  rintro _ _ ⟨rfl, rfl⟩
  refine V_st (st' := [.int (nI 7)]) rfl ?_
  refine V_tableIn (tgt := 129) (off := 125) C dX1_get_4 (by decide) (by decide) (by decide) (by decide) ?_
  refine V_aload_n C dX1_get_129 rfl 0 rfl ?_
  refine V_castA C (j := 7) (by decide) q613 (Or.inl rfl) ha dX1_get_130 ?_
  refine V_iload_n C dX1_get_133 rfl 1 rfl ?_
  exact V_daldZ C ha hout dX1_get_134 (Nat.le_of_ble_eq_true rfl) (VN.ix C hn ⟨Nat.le_of_ble_eq_true rfl, Nat.le_of_ble_eq_true rfl⟩ ⟨(by first | exact Nat.le_of_ble_eq_true rfl | omega), (by first | exact Nat.le_of_ble_eq_true rfl | omega)⟩ (fun q9 => VX_out C (fun z hz => by cases hz) ⟨rfl, rfl⟩ (by first | exact Nat.le_of_ble_eq_true rfl | omega) (by first | exact Nat.le_of_ble_eq_true rfl | omega)))
set_option maxHeartbeats 1000000 in
theorem c_X1_get_out_8 (l : Launch) (hl : l.stackTraces = false) (G : hp_G) (X : Nat → Nat) (N0 : Nat) (M : hp_h) (a n : Nat) (i : Int32) (f : Nat → Option Nat) (ha : M a = some (.inl (G.2 8, n, .inr (.inr (.inr (.inr f)))))) (hn : n < 10 ^ 9) (hout : ¬ vp_in i n) : HM l yX1_get (ws_ yX1_get cX1_get 4 (some .long)) 8 10320 3 70 G X N0 [.ref a, .int i] M PFF (PXE "java/lang/ArrayIndexOutOfBoundsException" M) := by
  refine HM.of hl [(0, .ref a), (1, .int i)] (by decide +kernel) rfl (Nat.le_of_ble_eq_true rfl) ?_
  intro p e s m args below meth c C hname
  refine V_aload_n C dX1_get_0 rfl 0 rfl ?_
  refine V_callS C (c_X1_kindOf l hl G X N0 M a 8 (by decide) _ ha) cs_X1_25 rfl rfl ⟨Nat.le_of_ble_eq_true rfl, Nat.le_of_ble_eq_true rfl⟩ ⟨(by first | exact Nat.le_of_ble_eq_true rfl | omega | (dsimp only; omega) | (simp only [List.length_cons, List.length_nil]; omega)), (by first | exact Nat.le_of_ble_eq_true rfl | omega | (dsimp only; omega) | (simp only [List.length_cons, List.length_nil]; omega))⟩ (Nat.le_of_ble_eq_true rfl) dX1_get_1 (fun _ _ _ h => px0 h) ?_
  rintro _ _ ⟨rfl, rfl⟩
  refine V_st (st' := [.int (nI 8)]) rfl ?_
  refine V_tableIn (tgt := 160) (off := 156) C dX1_get_4 (by decide) (by decide) (by decide) (by decide) ?_
  refine V_aload_n C dX1_get_160 rfl 0 rfl ?_
  refine V_castA C (j := 8) (by decide) q605 (Or.inl rfl) ha dX1_get_161 ?_
  refine V_iload_n C dX1_get_164 rfl 1 rfl ?_
  exact V_aaldZ C (j := 8) rfl ha hout dX1_get_165 (Nat.le_of_ble_eq_true rfl) (VN.ix C hn ⟨Nat.le_of_ble_eq_true rfl, Nat.le_of_ble_eq_true rfl⟩ ⟨(by first | exact Nat.le_of_ble_eq_true rfl | omega), (by first | exact Nat.le_of_ble_eq_true rfl | omega)⟩ (fun q9 => VX_out C (fun z hz => by cases hz) ⟨rfl, rfl⟩ (by first | exact Nat.le_of_ble_eq_true rfl | omega) (by first | exact Nat.le_of_ble_eq_true rfl | omega)))
set_option maxHeartbeats 1000000 in
theorem c_X1_get_out_9 (l : Launch) (hl : l.stackTraces = false) (G : hp_G) (X : Nat → Nat) (N0 : Nat) (M : hp_h) (a n : Nat) (i : Int32) (f : Nat → Option Nat) (ha : M a = some (.inl (G.2 9, n, .inr (.inr (.inr (.inr f)))))) (hn : n < 10 ^ 9) (hout : ¬ vp_in i n) : HM l yX1_get (ws_ yX1_get cX1_get 4 (some .long)) 8 10320 3 70 G X N0 [.ref a, .int i] M PFF (PXE "java/lang/ArrayIndexOutOfBoundsException" M) := by
  refine HM.of hl [(0, .ref a), (1, .int i)] (by decide +kernel) rfl (Nat.le_of_ble_eq_true rfl) ?_
  intro p e s m args below meth c C hname
  refine V_aload_n C dX1_get_0 rfl 0 rfl ?_
  refine V_callS C (c_X1_kindOf l hl G X N0 M a 9 (by decide) _ ha) cs_X1_25 rfl rfl ⟨Nat.le_of_ble_eq_true rfl, Nat.le_of_ble_eq_true rfl⟩ ⟨(by first | exact Nat.le_of_ble_eq_true rfl | omega | (dsimp only; omega) | (simp only [List.length_cons, List.length_nil]; omega)), (by first | exact Nat.le_of_ble_eq_true rfl | omega | (dsimp only; omega) | (simp only [List.length_cons, List.length_nil]; omega))⟩ (Nat.le_of_ble_eq_true rfl) dX1_get_1 (fun _ _ _ h => px0 h) ?_
  rintro _ _ ⟨rfl, rfl⟩
  refine V_st (st' := [.int (nI 9)]) rfl ?_
  refine V_tableIn (tgt := 160) (off := 156) C dX1_get_4 (by decide) (by decide) (by decide) (by decide) ?_
  refine V_aload_n C dX1_get_160 rfl 0 rfl ?_
  refine V_castA C (j := 9) (by decide) q605 (Or.inr ⟨rfl, rfl⟩) ha dX1_get_161 ?_
  refine V_iload_n C dX1_get_164 rfl 1 rfl ?_
  exact V_aaldZ C (j := 9) rfl ha hout dX1_get_165 (Nat.le_of_ble_eq_true rfl) (VN.ix C hn ⟨Nat.le_of_ble_eq_true rfl, Nat.le_of_ble_eq_true rfl⟩ ⟨(by first | exact Nat.le_of_ble_eq_true rfl | omega), (by first | exact Nat.le_of_ble_eq_true rfl | omega)⟩ (fun q9 => VX_out C (fun z hz => by cases hz) ⟨rfl, rfl⟩ (by first | exact Nat.le_of_ble_eq_true rfl | omega) (by first | exact Nat.le_of_ble_eq_true rfl | omega)))
set_option maxHeartbeats 1000000 in
theorem c_X1_get_out_10 (l : Launch) (hl : l.stackTraces = false) (G : hp_G) (X : Nat → Nat) (N0 : Nat) (M : hp_h) (a n : Nat) (i : Int32) (f : Nat → Option Nat) (ha : M a = some (.inl (G.2 10, n, .inr (.inr (.inr (.inr f)))))) (hn : n < 10 ^ 9) (hout : ¬ vp_in i n) : HM l yX1_get (ws_ yX1_get cX1_get 4 (some .long)) 8 10320 3 70 G X N0 [.ref a, .int i] M PFF (PXE "java/lang/ArrayIndexOutOfBoundsException" M) := by
  refine HM.of hl [(0, .ref a), (1, .int i)] (by decide +kernel) rfl (Nat.le_of_ble_eq_true rfl) ?_
  intro p e s m args below meth c C hname
  refine V_aload_n C dX1_get_0 rfl 0 rfl ?_
  refine V_callS C (c_X1_kindOf l hl G X N0 M a 10 (by decide) _ ha) cs_X1_25 rfl rfl ⟨Nat.le_of_ble_eq_true rfl, Nat.le_of_ble_eq_true rfl⟩ ⟨(by first | exact Nat.le_of_ble_eq_true rfl | omega | (dsimp only; omega) | (simp only [List.length_cons, List.length_nil]; omega)), (by first | exact Nat.le_of_ble_eq_true rfl | omega | (dsimp only; omega) | (simp only [List.length_cons, List.length_nil]; omega))⟩ (Nat.le_of_ble_eq_true rfl) dX1_get_1 (fun _ _ _ h => px0 h) ?_
  rintro _ _ ⟨rfl, rfl⟩
  refine V_st (st' := [.int (nI 10)]) rfl ?_
  refine V_tableIn (tgt := 139) (off := 135) C dX1_get_4 (by decide) (by decide) (by decide) (by decide) ?_
  refine V_aload_n C dX1_get_139 rfl 0 rfl ?_
  refine V_castA C (j := 10) (by decide) q617 (Or.inl rfl) ha dX1_get_140 ?_
  refine V_iload_n C dX1_get_143 rfl 1 rfl ?_
  exact V_aaldZ C (j := 10) rfl ha hout dX1_get_144 (Nat.le_of_ble_eq_true rfl) (VN.ix C hn ⟨Nat.le_of_ble_eq_true rfl, Nat.le_of_ble_eq_true rfl⟩ ⟨(by first | exact Nat.le_of_ble_eq_true rfl | omega), (by first | exact Nat.le_of_ble_eq_true rfl | omega)⟩ (fun q9 => VX_out C (fun z hz => by cases hz) ⟨rfl, rfl⟩ (by first | exact Nat.le_of_ble_eq_true rfl | omega) (by first | exact Nat.le_of_ble_eq_true rfl | omega)))
theorem c_X1_get_out (l : Launch) (hl : l.stackTraces = false) (G : hp_G) (X : Nat → Nat) (N0 : Nat) (M : hp_h) (a k n : Nat) (i : Int32) (x : vp_A) (ha : M a = some (.inl (G.2 k, x))) (hx : XT k n x) (hn : n < 10 ^ 9) (hout : ¬ vp_in i n) : HM l yX1_get (ws_ yX1_get cX1_get 4 (some .long)) 8 10320 3 70 G X N0 [.ref a, .int i] M PFF (PXE "java/lang/ArrayIndexOutOfBoundsException" M) := by
  obtain ⟨n', y⟩ := x
  obtain ⟨h1, h2⟩ := hx
  have h1 : n' = n := h1
  subst h1
  have h2 : CT k y := h2
  rcases h2 with ⟨h, f, rfl⟩ | ⟨rfl, f, rfl⟩ | ⟨rfl, f, rfl⟩ | ⟨rfl, f, rfl⟩ | ⟨h, f, rfl⟩
  · match k, h with
    | 0, _ => exact c_X1_get_out_0 l hl G X N0 M a n' i f ha hn hout
    | 1, _ => exact c_X1_get_out_1 l hl G X N0 M a n' i f ha hn hout
    | 2, _ => exact c_X1_get_out_2 l hl G X N0 M a n' i f ha hn hout
    | 3, _ => exact c_X1_get_out_3 l hl G X N0 M a n' i f ha hn hout
    | 4, _ => exact c_X1_get_out_4 l hl G X N0 M a n' i f ha hn hout
    | k + 5, h => exact absurd h (by omega)
  · exact c_X1_get_out_5 l hl G X N0 M a n' i f ha hn hout
  · exact c_X1_get_out_6 l hl G X N0 M a n' i f ha hn hout
  · exact c_X1_get_out_7 l hl G X N0 M a n' i f ha hn hout
  · obtain rfl | rfl | rfl := h
    · exact c_X1_get_out_8 l hl G X N0 M a n' i f ha hn hout
    · exact c_X1_get_out_9 l hl G X N0 M a n' i f ha hn hout
    · exact c_X1_get_out_10 l hl G X N0 M a n' i f ha hn hout
set_option maxHeartbeats 1000000 in
theorem c_X1_put_out_0 (l : Launch) (hl : l.stackTraces = false) (G : hp_G) (X : Nat → Nat) (N0 : Nat) (M : hp_h) (a n : Nat) (i : Int32) (f : Nat → Int32) (ha : M a = some (.inl (G.2 0, n, .inl f))) (hn : n < 10 ^ 9) (hout : ¬ vp_in i n) (b : Int64) (vu vi : Option Nat) : HM l yX1_put (ws_ yX1_put cX1_put 6 none) 8 10320 3 70 G X N0 [.ref a, .int i, .long b, va_rf vu, va_rf vi] M PFF (PXE "java/lang/ArrayIndexOutOfBoundsException" M) := by
  refine HM.of hl [(0, .ref a), (1, .int i), (2, .long b), (4, va_rf vu), (5, va_rf vi)] (by decide +kernel) (by cases vu <;> cases vi <;> rfl) (by cases vu <;> cases vi <;> exact Nat.le_of_ble_eq_true rfl) ?_
  intro p e s m args below meth c C hname
  refine V_aload_n C dX1_put_0 rfl 0 rfl ?_
  refine V_callS C (c_X1_kindOf l hl G X N0 M a 0 (by decide) _ ha) cs_X1_25 rfl rfl ⟨Nat.le_of_ble_eq_true rfl, Nat.le_of_ble_eq_true rfl⟩ ⟨(by first | exact Nat.le_of_ble_eq_true rfl | omega | (dsimp only; omega) | (simp only [List.length_cons, List.length_nil]; omega)), (by first | exact Nat.le_of_ble_eq_true rfl | omega | (dsimp only; omega) | (simp only [List.length_cons, List.length_nil]; omega))⟩ (Nat.le_of_ble_eq_true rfl) dX1_put_1 (fun _ _ _ h => px0 h) ?_
  rintro _ _ ⟨rfl, rfl⟩
  refine V_st (st' := [.int (nI 0)]) rfl ?_
  refine V_tableIn (tgt := 64) (off := 60) C dX1_put_4 (by decide) (by decide) (by decide) (by decide) ?_
  refine V_aload_n C dX1_put_64 rfl 0 rfl ?_
  refine V_castA C (j := 0) (by decide) q607 (Or.inl rfl) ha dX1_put_65 ?_
  refine V_iload_n C dX1_put_68 rfl 1 rfl ?_
  refine V_lload_n C dX1_put_69 rfl 2 rfl ?_
  refine V_lconst (v := 1) C dX1_put_70 rfl ?_
  refine V_land C dX1_put_71 ?_
  refine V_lconst (v := 1) C dX1_put_72 rfl ?_
  refine V_lcmp C dX1_put_73 ?_
  refine V_pc (pc1 := 74) rfl ?_
  refine V_if_ne (tgt := 81) C dX1_put_74 (by decide) (fun c_74 => ?_) (fun c_74 => ?_)
  · refine V_iconst (v := 0) C dX1_put_81 rfl ?_
    exact V_zastZ C ha hout dX1_put_82 (Nat.le_of_ble_eq_true rfl) (VN.ix C hn ⟨Nat.le_of_ble_eq_true rfl, Nat.le_of_ble_eq_true rfl⟩ ⟨(by first | exact Nat.le_of_ble_eq_true rfl | omega), (by first | exact Nat.le_of_ble_eq_true rfl | omega)⟩ (fun q9 => VX_out C (fun z hz => by cases hz) ⟨rfl, rfl⟩ (by first | exact Nat.le_of_ble_eq_true rfl | omega) (by first | exact Nat.le_of_ble_eq_true rfl | omega)))
  · refine V_iconst (v := 1) C dX1_put_77 rfl ?_
    refine V_goto (tgt := 82) C dX1_put_78 (by decide) ?_
    exact V_zastZ C ha hout dX1_put_82 (Nat.le_of_ble_eq_true rfl) (VN.ix C hn ⟨Nat.le_of_ble_eq_true rfl, Nat.le_of_ble_eq_true rfl⟩ ⟨(by first | exact Nat.le_of_ble_eq_true rfl | omega), (by first | exact Nat.le_of_ble_eq_true rfl | omega)⟩ (fun q9 => VX_out C (fun z hz => by cases hz) ⟨rfl, rfl⟩ (by first | exact Nat.le_of_ble_eq_true rfl | omega) (by first | exact Nat.le_of_ble_eq_true rfl | omega)))
set_option maxHeartbeats 1000000 in
theorem c_X1_put_out_1 (l : Launch) (hl : l.stackTraces = false) (G : hp_G) (X : Nat → Nat) (N0 : Nat) (M : hp_h) (a n : Nat) (i : Int32) (f : Nat → Int32) (ha : M a = some (.inl (G.2 1, n, .inl f))) (hn : n < 10 ^ 9) (hout : ¬ vp_in i n) (b : Int64) (vu vi : Option Nat) : HM l yX1_put (ws_ yX1_put cX1_put 6 none) 8 10320 3 70 G X N0 [.ref a, .int i, .long b, va_rf vu, va_rf vi] M PFF (PXE "java/lang/ArrayIndexOutOfBoundsException" M) := by
  refine HM.of hl [(0, .ref a), (1, .int i), (2, .long b), (4, va_rf vu), (5, va_rf vi)] (by decide +kernel) (by cases vu <;> cases vi <;> rfl) (by cases vu <;> cases vi <;> exact Nat.le_of_ble_eq_true rfl) ?_
  intro p e s m args below meth c C hname
  refine V_aload_n C dX1_put_0 rfl 0 rfl ?_
  refine V_callS C (c_X1_kindOf l hl G X N0 M a 1 (by decide) _ ha) cs_X1_25 rfl rfl ⟨Nat.le_of_ble_eq_true rfl, Nat.le_of_ble_eq_true rfl⟩ ⟨(by first | exact Nat.le_of_ble_eq_true rfl | omega | (dsimp only; omega) | (simp only [List.length_cons, List.length_nil]; omega)), (by first | exact Nat.le_of_ble_eq_true rfl | omega | (dsimp only; omega) | (simp only [List.length_cons, List.length_nil]; omega))⟩ (Nat.le_of_ble_eq_true rfl) dX1_put_1 (fun _ _ _ h => px0 h) ?_
  rintro _ _ ⟨rfl, rfl⟩
  refine V_st (st' := [.int (nI 1)]) rfl ?_
  refine V_tableIn (tgt := 86) (off := 82) C dX1_put_4 (by decide) (by decide) (by decide) (by decide) ?_
  refine V_aload_n C dX1_put_86 rfl 0 rfl ?_
  refine V_castA C (j := 1) (by decide) q608 (Or.inl rfl) ha dX1_put_87 ?_
  refine V_iload_n C dX1_put_90 rfl 1 rfl ?_
  refine V_lload_n C dX1_put_91 rfl 2 rfl ?_
  refine V_l2i (v := b.toInt32) C dX1_put_92 rfl ?_
  refine V_i2b (v := b.toInt32.toInt8.toInt32) C dX1_put_93 rfl ?_
  exact V_bastZ C ha hout dX1_put_94 (Nat.le_of_ble_eq_true rfl) (VN.ix C hn ⟨Nat.le_of_ble_eq_true rfl, Nat.le_of_ble_eq_true rfl⟩ ⟨(by first | exact Nat.le_of_ble_eq_true rfl | omega), (by first | exact Nat.le_of_ble_eq_true rfl | omega)⟩ (fun q9 => VX_out C (fun z hz => by cases hz) ⟨rfl, rfl⟩ (by first | exact Nat.le_of_ble_eq_true rfl | omega) (by first | exact Nat.le_of_ble_eq_true rfl | omega)))
set_option maxHeartbeats 1000000 in
theorem c_X1_put_out_2 (l : Launch) (hl : l.stackTraces = false) (G : hp_G) (X : Nat → Nat) (N0 : Nat) (M : hp_h) (a n : Nat) (i : Int32) (f : Nat → Int32) (ha : M a = some (.inl (G.2 2, n, .inl f))) (hn : n < 10 ^ 9) (hout : ¬ vp_in i n) (b : Int64) (vu vi : Option Nat) : HM l yX1_put (ws_ yX1_put cX1_put 6 none) 8 10320 3 70 G X N0 [.ref a, .int i, .long b, va_rf vu, va_rf vi] M PFF (PXE "java/lang/ArrayIndexOutOfBoundsException" M) := by
  refine HM.of hl [(0, .ref a), (1, .int i), (2, .long b), (4, va_rf vu), (5, va_rf vi)] (by decide +kernel) (by cases vu <;> cases vi <;> rfl) (by cases vu <;> cases vi <;> exact Nat.le_of_ble_eq_true rfl) ?_
  intro p e s m args below meth c C hname
  refine V_aload_n C dX1_put_0 rfl 0 rfl ?_
  refine V_callS C (c_X1_kindOf l hl G X N0 M a 2 (by decide) _ ha) cs_X1_25 rfl rfl ⟨Nat.le_of_ble_eq_true rfl, Nat.le_of_ble_eq_true rfl⟩ ⟨(by first | exact Nat.le_of_ble_eq_true rfl | omega | (dsimp only; omega) | (simp only [List.length_cons, List.length_nil]; omega)), (by first | exact Nat.le_of_ble_eq_true rfl | omega | (dsimp only; omega) | (simp only [List.length_cons, List.length_nil]; omega))⟩ (Nat.le_of_ble_eq_true rfl) dX1_put_1 (fun _ _ _ h => px0 h) ?_
  rintro _ _ ⟨rfl, rfl⟩
  refine V_st (st' := [.int (nI 2)]) rfl ?_
  refine V_tableIn (tgt := 98) (off := 94) C dX1_put_4 (by decide) (by decide) (by decide) (by decide) ?_
  refine V_aload_n C dX1_put_98 rfl 0 rfl ?_
  refine V_castA C (j := 2) (by decide) q609 (Or.inl rfl) ha dX1_put_99 ?_
  refine V_iload_n C dX1_put_102 rfl 1 rfl ?_
  refine V_lload_n C dX1_put_103 rfl 2 rfl ?_
  refine V_l2i (v := b.toInt32) C dX1_put_104 rfl ?_
  refine V_i2c (v := (b.toInt32.toUInt32 % 65536).toInt32) C dX1_put_105 rfl ?_
  exact V_castZ C ha hout dX1_put_106 (Nat.le_of_ble_eq_true rfl) (VN.ix C hn ⟨Nat.le_of_ble_eq_true rfl, Nat.le_of_ble_eq_true rfl⟩ ⟨(by first | exact Nat.le_of_ble_eq_true rfl | omega), (by first | exact Nat.le_of_ble_eq_true rfl | omega)⟩ (fun q9 => VX_out C (fun z hz => by cases hz) ⟨rfl, rfl⟩ (by first | exact Nat.le_of_ble_eq_true rfl | omega) (by first | exact Nat.le_of_ble_eq_true rfl | omega)))
set_option maxHeartbeats 1000000 in
theorem c_X1_put_out_3 (l : Launch) (hl : l.stackTraces = false) (G : hp_G) (X : Nat → Nat) (N0 : Nat) (M : hp_h) (a n : Nat) (i : Int32) (f : Nat → Int32) (ha : M a = some (.inl (G.2 3, n, .inl f))) (hn : n < 10 ^ 9) (hout : ¬ vp_in i n) (b : Int64) (vu vi : Option Nat) : HM l yX1_put (ws_ yX1_put cX1_put 6 none) 8 10320 3 70 G X N0 [.ref a, .int i, .long b, va_rf vu, va_rf vi] M PFF (PXE "java/lang/ArrayIndexOutOfBoundsException" M) := by
  refine HM.of hl [(0, .ref a), (1, .int i), (2, .long b), (4, va_rf vu), (5, va_rf vi)] (by decide +kernel) (by cases vu <;> cases vi <;> rfl) (by cases vu <;> cases vi <;> exact Nat.le_of_ble_eq_true rfl) ?_
  intro p e s m args below meth c C hname
  refine V_aload_n C dX1_put_0 rfl 0 rfl ?_
  refine V_callS C (c_X1_kindOf l hl G X N0 M a 3 (by decide) _ ha) cs_X1_25 rfl rfl ⟨Nat.le_of_ble_eq_true rfl, Nat.le_of_ble_eq_true rfl⟩ ⟨(by first | exact Nat.le_of_ble_eq_true rfl | omega | (dsimp only; omega) | (simp only [List.length_cons, List.length_nil]; omega)), (by first | exact Nat.le_of_ble_eq_true rfl | omega | (dsimp only; omega) | (simp only [List.length_cons, List.length_nil]; omega))⟩ (Nat.le_of_ble_eq_true rfl) dX1_put_1 (fun _ _ _ h => px0 h) ?_
  rintro _ _ ⟨rfl, rfl⟩
  refine V_st (st' := [.int (nI 3)]) rfl ?_
  refine V_tableIn (tgt := 110) (off := 106) C dX1_put_4 (by decide) (by decide) (by decide) (by decide) ?_
  refine V_aload_n C dX1_put_110 rfl 0 rfl ?_
  refine V_castA C (j := 3) (by decide) q610 (Or.inl rfl) ha dX1_put_111 ?_
  refine V_iload_n C dX1_put_114 rfl 1 rfl ?_
  refine V_lload_n C dX1_put_115 rfl 2 rfl ?_
  refine V_l2i (v := b.toInt32) C dX1_put_116 rfl ?_
  refine V_i2s (v := b.toInt32.toInt16.toInt32) C dX1_put_117 rfl ?_
  exact V_sastZ C ha hout dX1_put_118 (Nat.le_of_ble_eq_true rfl) (VN.ix C hn ⟨Nat.le_of_ble_eq_true rfl, Nat.le_of_ble_eq_true rfl⟩ ⟨(by first | exact Nat.le_of_ble_eq_true rfl | omega), (by first | exact Nat.le_of_ble_eq_true rfl | omega)⟩ (fun q9 => VX_out C (fun z hz => by cases hz) ⟨rfl, rfl⟩ (by first | exact Nat.le_of_ble_eq_true rfl | omega) (by first | exact Nat.le_of_ble_eq_true rfl | omega)))
set_option maxHeartbeats 1000000 in
theorem c_X1_put_out_4 (l : Launch) (hl : l.stackTraces = false) (G : hp_G) (X : Nat → Nat) (N0 : Nat) (M : hp_h) (a n : Nat) (i : Int32) (f : Nat → Int32) (ha : M a = some (.inl (G.2 4, n, .inl f))) (hn : n < 10 ^ 9) (hout : ¬ vp_in i n) (b : Int64) (vu vi : Option Nat) : HM l yX1_put (ws_ yX1_put cX1_put 6 none) 8 10320 3 70 G X N0 [.ref a, .int i, .long b, va_rf vu, va_rf vi] M PFF (PXE "java/lang/ArrayIndexOutOfBoundsException" M) := by
  refine HM.of hl [(0, .ref a), (1, .int i), (2, .long b), (4, va_rf vu), (5, va_rf vi)] (by decide +kernel) (by cases vu <;> cases vi <;> rfl) (by cases vu <;> cases vi <;> exact Nat.le_of_ble_eq_true rfl) ?_
  intro p e s m args below meth c C hname
  refine V_aload_n C dX1_put_0 rfl 0 rfl ?_
  refine V_callS C (c_X1_kindOf l hl G X N0 M a 4 (by decide) _ ha) cs_X1_25 rfl rfl ⟨Nat.le_of_ble_eq_true rfl, Nat.le_of_ble_eq_true rfl⟩ ⟨(by first | exact Nat.le_of_ble_eq_true rfl | omega | (dsimp only; omega) | (simp only [List.length_cons, List.length_nil]; omega)), (by first | exact Nat.le_of_ble_eq_true rfl | omega | (dsimp only; omega) | (simp only [List.length_cons, List.length_nil]; omega))⟩ (Nat.le_of_ble_eq_true rfl) dX1_put_1 (fun _ _ _ h => px0 h) ?_
  rintro _ _ ⟨rfl, rfl⟩
  refine V_st (st' := [.int (nI 4)]) rfl ?_
  refine V_tableIn (tgt := 122) (off := 118) C dX1_put_4 (by decide) (by decide) (by decide) (by decide) ?_
  refine V_aload_n C dX1_put_122 rfl 0 rfl ?_
  refine V_castA C (j := 4) (by decide) q458 (Or.inl rfl) ha dX1_put_123 ?_
  refine V_iload_n C dX1_put_126 rfl 1 rfl ?_
  refine V_lload_n C dX1_put_127 rfl 2 rfl ?_
  refine V_l2i (v := b.toInt32) C dX1_put_128 rfl ?_
  exact V_iastZ C ha hout dX1_put_129 (Nat.le_of_ble_eq_true rfl) (VN.ix C hn ⟨Nat.le_of_ble_eq_true rfl, Nat.le_of_ble_eq_true rfl⟩ ⟨(by first | exact Nat.le_of_ble_eq_true rfl | omega), (by first | exact Nat.le_of_ble_eq_true rfl | omega)⟩ (fun q9 => VX_out C (fun z hz => by cases hz) ⟨rfl, rfl⟩ (by first | exact Nat.le_of_ble_eq_true rfl | omega) (by first | exact Nat.le_of_ble_eq_true rfl | omega)))
set_option maxHeartbeats 1000000 in
theorem c_X1_put_out_5 (l : Launch) (hl : l.stackTraces = false) (G : hp_G) (X : Nat → Nat) (N0 : Nat) (M : hp_h) (a n : Nat) (i : Int32) (f : Nat → Int64) (ha : M a = some (.inl (G.2 5, n, .inr (.inl f)))) (hn : n < 10 ^ 9) (hout : ¬ vp_in i n) (b : Int64) (vu vi : Option Nat) : HM l yX1_put (ws_ yX1_put cX1_put 6 none) 8 10320 3 70 G X N0 [.ref a, .int i, .long b, va_rf vu, va_rf vi] M PFF (PXE "java/lang/ArrayIndexOutOfBoundsException" M) := by
  refine HM.of hl [(0, .ref a), (1, .int i), (2, .long b), (4, va_rf vu), (5, va_rf vi)] (by decide +kernel) (by cases vu <;> cases vi <;> rfl) (by cases vu <;> cases vi <;> exact Nat.le_of_ble_eq_true rfl) ?_
  intro p e s m args below meth c C hname
  refine V_aload_n C dX1_put_0 rfl 0 rfl ?_
  refine V_callS C (c_X1_kindOf l hl G X N0 M a 5 (by decide) _ ha) cs_X1_25 rfl rfl ⟨Nat.le_of_ble_eq_true rfl, Nat.le_of_ble_eq_true rfl⟩ ⟨(by first | exact Nat.le_of_ble_eq_true rfl | omega | (dsimp only; omega) | (simp only [List.length_cons, List.length_nil]; omega)), (by first | exact Nat.le_of_ble_eq_true rfl | omega | (dsimp only; omega) | (simp only [List.length_cons, List.length_nil]; omega))⟩ (Nat.le_of_ble_eq_true rfl) dX1_put_1 (fun _ _ _ h => px0 h) ?_
  rintro _ _ ⟨rfl, rfl⟩
  refine V_st (st' := [.int (nI 5)]) rfl ?_
  refine V_tableIn (tgt := 133) (off := 129) C dX1_put_4 (by decide) (by decide) (by decide) (by decide) ?_
  refine V_aload_n C dX1_put_133 rfl 0 rfl ?_
  refine V_castA C (j := 5) (by decide) q611 (Or.inl rfl) ha dX1_put_134 ?_
  refine V_iload_n C dX1_put_137 rfl 1 rfl ?_
  refine V_lload_n C dX1_put_138 rfl 2 rfl ?_
  exact V_lastZ C ha hout dX1_put_139 (Nat.le_of_ble_eq_true rfl) (VN.ix C hn ⟨Nat.le_of_ble_eq_true rfl, Nat.le_of_ble_eq_true rfl⟩ ⟨(by first | exact Nat.le_of_ble_eq_true rfl | omega), (by first | exact Nat.le_of_ble_eq_true rfl | omega)⟩ (fun q9 => VX_out C (fun z hz => by cases hz) ⟨rfl, rfl⟩ (by first | exact Nat.le_of_ble_eq_true rfl | omega) (by first | exact Nat.le_of_ble_eq_true rfl | omega)))
set_option maxHeartbeats 1000000 in
theorem c_X1_put_out_6 (l : Launch) (hl : l.stackTraces = false) (G : hp_G) (X : Nat → Nat) (N0 : Nat) (M : hp_h) (a n : Nat) (i : Int32) (f : Nat → UInt32) (ha : M a = some (.inl (G.2 6, n, .inr (.inr (.inl f))))) (hn : n < 10 ^ 9) (hout : ¬ vp_in i n) (b : Int64) (vu vi : Option Nat) : HM l yX1_put (ws_ yX1_put cX1_put 6 none) 8 10320 3 70 G X N0 [.ref a, .int i, .long b, va_rf vu, va_rf vi] M PFF (PXE "java/lang/ArrayIndexOutOfBoundsException" M) := by
  refine HM.of hl [(0, .ref a), (1, .int i), (2, .long b), (4, va_rf vu), (5, va_rf vi)] (by decide +kernel) (by cases vu <;> cases vi <;> rfl) (by cases vu <;> cases vi <;> exact Nat.le_of_ble_eq_true rfl) ?_
  intro p e s m args below meth c C hname
  refine V_aload_n C dX1_put_0 rfl 0 rfl ?_
  refine V_callS C (c_X1_kindOf l hl G X N0 M a 6 (by decide) _ ha) cs_X1_25 rfl rfl ⟨Nat.le_of_ble_eq_true rfl, Nat.le_of_ble_eq_true rfl⟩ ⟨(by first | exact Nat.le_of_ble_eq_true rfl | omega | (dsimp only; omega) | (simp only [List.length_cons, List.length_nil]; omega)), (by first | exact Nat.le_of_ble_eq_true rfl | omega | (dsimp only; omega) | (simp only [List.length_cons, List.length_nil]; omega))⟩ (Nat.le_of_ble_eq_true rfl) dX1_put_1 (fun _ _ _ h => px0 h) ?_
  rintro _ _ ⟨rfl, rfl⟩
  refine V_st (st' := [.int (nI 6)]) rfl ?_
  refine V_tableIn (tgt := 143) (off := 139) C dX1_put_4 (by decide) (by decide) (by decide) (by decide) ?_
  refine V_aload_n C dX1_put_143 rfl 0 rfl ?_
  refine V_castA C (j := 6) (by decide) q612 (Or.inl rfl) ha dX1_put_144 ?_
  refine V_iload_n C dX1_put_147 rfl 1 rfl ?_
  refine V_lload_n C dX1_put_148 rfl 2 rfl ?_
  refine V_l2i (v := b.toInt32) C dX1_put_149 rfl ?_
  refine V_callS C (c_X1_singleBits l hl G X N0 M b.toInt32) cs_X1_69 rfl rfl ⟨Nat.le_of_ble_eq_true rfl, Nat.le_of_ble_eq_true rfl⟩ ⟨(by first | exact Nat.le_of_ble_eq_true rfl | omega | (dsimp only; omega) | (simp only [List.length_cons, List.length_nil]; omega)), (by first | exact Nat.le_of_ble_eq_true rfl | omega | (dsimp only; omega) | (simp only [List.length_cons, List.length_nil]; omega))⟩ (Nat.le_of_ble_eq_true rfl) dX1_put_150 (fun _ _ _ h => px0 h) ?_
  rintro _ _ ⟨rfl, rfl⟩
  refine V_st (st' := [.float (mfO b.toInt32), .int i, .ref a]) rfl ?_
  exact V_fastZ C ha hout dX1_put_153 (Nat.le_of_ble_eq_true rfl) (VN.ix C hn ⟨Nat.le_of_ble_eq_true rfl, Nat.le_of_ble_eq_true rfl⟩ ⟨(by first | exact Nat.le_of_ble_eq_true rfl | omega), (by first | exact Nat.le_of_ble_eq_true rfl | omega)⟩ (fun q9 => VX_out C (fun z hz => by cases hz) ⟨rfl, rfl⟩ (by first | exact Nat.le_of_ble_eq_true rfl | omega) (by first | exact Nat.le_of_ble_eq_true rfl | omega)))
set_option maxHeartbeats 1000000 in
theorem c_X1_put_out_7 (l : Launch) (hl : l.stackTraces = false) (G : hp_G) (X : Nat → Nat) (N0 : Nat) (M : hp_h) (a n : Nat) (i : Int32) (f : Nat → UInt64) (ha : M a = some (.inl (G.2 7, n, .inr (.inr (.inr (.inl f)))))) (hn : n < 10 ^ 9) (hout : ¬ vp_in i n) (b : Int64) (vu vi : Option Nat) : HM l yX1_put (ws_ yX1_put cX1_put 6 none) 8 10320 3 70 G X N0 [.ref a, .int i, .long b, va_rf vu, va_rf vi] M PFF (PXE "java/lang/ArrayIndexOutOfBoundsException" M) := by
  refine HM.of hl [(0, .ref a), (1, .int i), (2, .long b), (4, va_rf vu), (5, va_rf vi)] (by decide +kernel) (by cases vu <;> cases vi <;> rfl) (by cases vu <;> cases vi <;> exact Nat.le_of_ble_eq_true rfl) ?_
  intro p e s m args below meth c C hname
  refine V_aload_n C dX1_put_0 rfl 0 rfl ?_
  refine V_callS C (c_X1_kindOf l hl G X N0 M a 7 (by decide) _ ha) cs_X1_25 rfl rfl ⟨Nat.le_of_ble_eq_true rfl, Nat.le_of_ble_eq_true rfl⟩ ⟨(by first | exact Nat.le_of_ble_eq_true rfl | omega | (dsimp only; omega) | (simp only [List.length_cons, List.length_nil]; omega)), (by first | exact Nat.le_of_ble_eq_true rfl | omega | (dsimp only; omega) | (simp only [List.length_cons, List.length_nil]; omega))⟩ (Nat.le_of_ble_eq_true rfl) dX1_put_1 (fun _ _ _ h => px0 h) ?_
  rintro _ _ ⟨rfl, rfl⟩
  refine V_st (st' := [.int (nI 7)]) rfl ?_
  refine V_tableIn (tgt := 157) (off := 153) C dX1_put_4 (by decide) (by decide) (by decide) (by decide) ?_
  refine V_aload_n C dX1_put_157 rfl 0 rfl ?_
  refine V_castA C (j := 7) (by decide) q613 (Or.inl rfl) ha dX1_put_158 ?_
  refine V_iload_n C dX1_put_161 rfl 1 rfl ?_
  refine V_lload_n C dX1_put_162 rfl 2 rfl ?_
  refine V_callS C (c_X1_numberBits l hl G X N0 M b) cs_X1_73 rfl rfl ⟨Nat.le_of_ble_eq_true rfl, Nat.le_of_ble_eq_true rfl⟩ ⟨(by first | exact Nat.le_of_ble_eq_true rfl | omega | (dsimp only; omega) | (simp only [List.length_cons, List.length_nil]; omega)), (by first | exact Nat.le_of_ble_eq_true rfl | omega | (dsimp only; omega) | (simp only [List.length_cons, List.length_nil]; omega))⟩ (Nat.le_of_ble_eq_true rfl) dX1_put_163 (fun _ _ _ h => px0 h) ?_
  rintro _ _ ⟨rfl, rfl⟩
  refine V_st (st' := [.double (mdO b), .int i, .ref a]) rfl ?_
  exact V_dastZ C ha hout dX1_put_166 (Nat.le_of_ble_eq_true rfl) (VN.ix C hn ⟨Nat.le_of_ble_eq_true rfl, Nat.le_of_ble_eq_true rfl⟩ ⟨(by first | exact Nat.le_of_ble_eq_true rfl | omega), (by first | exact Nat.le_of_ble_eq_true rfl | omega)⟩ (fun q9 => VX_out C (fun z hz => by cases hz) ⟨rfl, rfl⟩ (by first | exact Nat.le_of_ble_eq_true rfl | omega) (by first | exact Nat.le_of_ble_eq_true rfl | omega)))
set_option maxHeartbeats 1000000 in
theorem c_X1_put_out_8n (l : Launch) (hl : l.stackTraces = false) (G : hp_G) (X : Nat → Nat) (N0 : Nat) (M : hp_h) (a n : Nat) (i : Int32) (f : Nat → Option Nat) (ha : M a = some (.inl (G.2 8, n, .inr (.inr (.inr (.inr f)))))) (hn : n < 10 ^ 9) (hout : ¬ vp_in i n) (b : Int64) (vi : Option Nat) : HM l yX1_put (ws_ yX1_put cX1_put 6 none) 8 10320 3 70 G X N0 [.ref a, .int i, .long b, .null, va_rf vi] M PFF (PXE "java/lang/ArrayIndexOutOfBoundsException" M) := by
  refine HM.of hl [(0, .ref a), (1, .int i), (2, .long b), (4, .null), (5, va_rf vi)] (by decide +kernel) (by cases vi <;> rfl) (by cases vi <;> exact Nat.le_of_ble_eq_true rfl) ?_
  intro p e s m args below meth c C hname
  refine V_aload_n C dX1_put_0 rfl 0 rfl ?_
  refine V_callS C (c_X1_kindOf l hl G X N0 M a 8 (by decide) _ ha) cs_X1_25 rfl rfl ⟨Nat.le_of_ble_eq_true rfl, Nat.le_of_ble_eq_true rfl⟩ ⟨(by first | exact Nat.le_of_ble_eq_true rfl | omega | (dsimp only; omega) | (simp only [List.length_cons, List.length_nil]; omega)), (by first | exact Nat.le_of_ble_eq_true rfl | omega | (dsimp only; omega) | (simp only [List.length_cons, List.length_nil]; omega))⟩ (Nat.le_of_ble_eq_true rfl) dX1_put_1 (fun _ _ _ h => px0 h) ?_
  rintro _ _ ⟨rfl, rfl⟩
  refine V_st (st' := [.int (nI 8)]) rfl ?_
  refine V_tableIn (tgt := 181) (off := 177) C dX1_put_4 (by decide) (by decide) (by decide) (by decide) ?_
  refine V_aload_n C dX1_put_181 rfl 0 rfl ?_
  refine V_castA C (j := 8) (by decide) q605 (Or.inl rfl) ha dX1_put_182 ?_
  refine V_iload_n C dX1_put_185 rfl 1 rfl ?_
  refine V_aloadN C dX1_put_186 3 rfl ?_
  exact V_aastZ C (j := 8) rfl ha (by first | rfl | (cases vq <;> rfl)) hout dX1_put_188 (Nat.le_of_ble_eq_true rfl) (VN.ix C hn ⟨Nat.le_of_ble_eq_true rfl, Nat.le_of_ble_eq_true rfl⟩ ⟨(by first | exact Nat.le_of_ble_eq_true rfl | omega), (by first | exact Nat.le_of_ble_eq_true rfl | omega)⟩ (fun q9 => VX_out C (fun z hz => by cases hz) ⟨rfl, rfl⟩ (by first | exact Nat.le_of_ble_eq_true rfl | omega) (by first | exact Nat.le_of_ble_eq_true rfl | omega)))
set_option maxHeartbeats 1000000 in
theorem c_X1_put_out_8u (l : Launch) (hl : l.stackTraces = false) (G : hp_G) (X : Nat → Nat) (N0 : Nat) (M : hp_h) (a n : Nat) (i : Int32) (f : Nat → Option Nat) (ha : M a = some (.inl (G.2 8, n, .inr (.inr (.inr (.inr f)))))) (hn : n < 10 ^ 9) (hout : ¬ vp_in i n) (b : Int64) (vu : Nat) (vi : Option Nat) : HM l yX1_put (ws_ yX1_put cX1_put 6 none) 8 10320 3 70 G X N0 [.ref a, .int i, .long b, .ref vu, va_rf vi] M PFF (PXE "java/lang/ArrayIndexOutOfBoundsException" M) := by
  refine HM.of hl [(0, .ref a), (1, .int i), (2, .long b), (4, .ref vu), (5, va_rf vi)] (by decide +kernel) (by cases vi <;> rfl) (by cases vi <;> exact Nat.le_of_ble_eq_true rfl) ?_
  intro p e s m args below meth c C hname
  refine V_aload_n C dX1_put_0 rfl 0 rfl ?_
  refine V_callS C (c_X1_kindOf l hl G X N0 M a 8 (by decide) _ ha) cs_X1_25 rfl rfl ⟨Nat.le_of_ble_eq_true rfl, Nat.le_of_ble_eq_true rfl⟩ ⟨(by first | exact Nat.le_of_ble_eq_true rfl | omega | (dsimp only; omega) | (simp only [List.length_cons, List.length_nil]; omega)), (by first | exact Nat.le_of_ble_eq_true rfl | omega | (dsimp only; omega) | (simp only [List.length_cons, List.length_nil]; omega))⟩ (Nat.le_of_ble_eq_true rfl) dX1_put_1 (fun _ _ _ h => px0 h) ?_
  rintro _ _ ⟨rfl, rfl⟩
  refine V_st (st' := [.int (nI 8)]) rfl ?_
  refine V_tableIn (tgt := 181) (off := 177) C dX1_put_4 (by decide) (by decide) (by decide) (by decide) ?_
  refine V_aload_n C dX1_put_181 rfl 0 rfl ?_
  refine V_castA C (j := 8) (by decide) q605 (Or.inl rfl) ha dX1_put_182 ?_
  refine V_iload_n C dX1_put_185 rfl 1 rfl ?_
  refine V_aload C dX1_put_186 3 rfl ?_
  exact V_aastZ C (j := 8) rfl ha (by first | rfl | (cases vq <;> rfl)) hout dX1_put_188 (Nat.le_of_ble_eq_true rfl) (VN.ix C hn ⟨Nat.le_of_ble_eq_true rfl, Nat.le_of_ble_eq_true rfl⟩ ⟨(by first | exact Nat.le_of_ble_eq_true rfl | omega), (by first | exact Nat.le_of_ble_eq_true rfl | omega)⟩ (fun q9 => VX_out C (fun z hz => by cases hz) ⟨rfl, rfl⟩ (by first | exact Nat.le_of_ble_eq_true rfl | omega) (by first | exact Nat.le_of_ble_eq_true rfl | omega)))
set_option maxHeartbeats 1000000 in
theorem c_X1_put_out_9n (l : Launch) (hl : l.stackTraces = false) (G : hp_G) (X : Nat → Nat) (N0 : Nat) (M : hp_h) (a n : Nat) (i : Int32) (f : Nat → Option Nat) (ha : M a = some (.inl (G.2 9, n, .inr (.inr (.inr (.inr f)))))) (hn : n < 10 ^ 9) (hout : ¬ vp_in i n) (b : Int64) (vi : Option Nat) : HM l yX1_put (ws_ yX1_put cX1_put 6 none) 8 10320 3 70 G X N0 [.ref a, .int i, .long b, .null, va_rf vi] M PFF (PXE "java/lang/ArrayIndexOutOfBoundsException" M) := by
  refine HM.of hl [(0, .ref a), (1, .int i), (2, .long b), (4, .null), (5, va_rf vi)] (by decide +kernel) (by cases vi <;> rfl) (by cases vi <;> exact Nat.le_of_ble_eq_true rfl) ?_
  intro p e s m args below meth c C hname
  refine V_aload_n C dX1_put_0 rfl 0 rfl ?_
  refine V_callS C (c_X1_kindOf l hl G X N0 M a 9 (by decide) _ ha) cs_X1_25 rfl rfl ⟨Nat.le_of_ble_eq_true rfl, Nat.le_of_ble_eq_true rfl⟩ ⟨(by first | exact Nat.le_of_ble_eq_true rfl | omega | (dsimp only; omega) | (simp only [List.length_cons, List.length_nil]; omega)), (by first | exact Nat.le_of_ble_eq_true rfl | omega | (dsimp only; omega) | (simp only [List.length_cons, List.length_nil]; omega))⟩ (Nat.le_of_ble_eq_true rfl) dX1_put_1 (fun _ _ _ h => px0 h) ?_
  rintro _ _ ⟨rfl, rfl⟩
  refine V_st (st' := [.int (nI 9)]) rfl ?_
  refine V_tableIn (tgt := 181) (off := 177) C dX1_put_4 (by decide) (by decide) (by decide) (by decide) ?_
  refine V_aload_n C dX1_put_181 rfl 0 rfl ?_
  refine V_castA C (j := 9) (by decide) q605 (Or.inr ⟨rfl, rfl⟩) ha dX1_put_182 ?_
  refine V_iload_n C dX1_put_185 rfl 1 rfl ?_
  refine V_aloadN C dX1_put_186 3 rfl ?_
  exact V_aastZ C (j := 9) rfl ha (by first | rfl | (cases vq <;> rfl)) hout dX1_put_188 (Nat.le_of_ble_eq_true rfl) (VN.ix C hn ⟨Nat.le_of_ble_eq_true rfl, Nat.le_of_ble_eq_true rfl⟩ ⟨(by first | exact Nat.le_of_ble_eq_true rfl | omega), (by first | exact Nat.le_of_ble_eq_true rfl | omega)⟩ (fun q9 => VX_out C (fun z hz => by cases hz) ⟨rfl, rfl⟩ (by first | exact Nat.le_of_ble_eq_true rfl | omega) (by first | exact Nat.le_of_ble_eq_true rfl | omega)))
set_option maxHeartbeats 1000000 in
theorem c_X1_put_out_9u (l : Launch) (hl : l.stackTraces = false) (G : hp_G) (X : Nat → Nat) (N0 : Nat) (M : hp_h) (a n : Nat) (i : Int32) (f : Nat → Option Nat) (ha : M a = some (.inl (G.2 9, n, .inr (.inr (.inr (.inr f)))))) (hn : n < 10 ^ 9) (hout : ¬ vp_in i n) (b : Int64) (vu : Nat) (vi : Option Nat) : HM l yX1_put (ws_ yX1_put cX1_put 6 none) 8 10320 3 70 G X N0 [.ref a, .int i, .long b, .ref vu, va_rf vi] M PFF (PXE "java/lang/ArrayIndexOutOfBoundsException" M) := by
  refine HM.of hl [(0, .ref a), (1, .int i), (2, .long b), (4, .ref vu), (5, va_rf vi)] (by decide +kernel) (by cases vi <;> rfl) (by cases vi <;> exact Nat.le_of_ble_eq_true rfl) ?_
  intro p e s m args below meth c C hname
  refine V_aload_n C dX1_put_0 rfl 0 rfl ?_
  refine V_callS C (c_X1_kindOf l hl G X N0 M a 9 (by decide) _ ha) cs_X1_25 rfl rfl ⟨Nat.le_of_ble_eq_true rfl, Nat.le_of_ble_eq_true rfl⟩ ⟨(by first | exact Nat.le_of_ble_eq_true rfl | omega | (dsimp only; omega) | (simp only [List.length_cons, List.length_nil]; omega)), (by first | exact Nat.le_of_ble_eq_true rfl | omega | (dsimp only; omega) | (simp only [List.length_cons, List.length_nil]; omega))⟩ (Nat.le_of_ble_eq_true rfl) dX1_put_1 (fun _ _ _ h => px0 h) ?_
  rintro _ _ ⟨rfl, rfl⟩
  refine V_st (st' := [.int (nI 9)]) rfl ?_
  refine V_tableIn (tgt := 181) (off := 177) C dX1_put_4 (by decide) (by decide) (by decide) (by decide) ?_
  refine V_aload_n C dX1_put_181 rfl 0 rfl ?_
  refine V_castA C (j := 9) (by decide) q605 (Or.inr ⟨rfl, rfl⟩) ha dX1_put_182 ?_
  refine V_iload_n C dX1_put_185 rfl 1 rfl ?_
  refine V_aload C dX1_put_186 3 rfl ?_
  exact V_aastZ C (j := 9) rfl ha (by first | rfl | (cases vq <;> rfl)) hout dX1_put_188 (Nat.le_of_ble_eq_true rfl) (VN.ix C hn ⟨Nat.le_of_ble_eq_true rfl, Nat.le_of_ble_eq_true rfl⟩ ⟨(by first | exact Nat.le_of_ble_eq_true rfl | omega), (by first | exact Nat.le_of_ble_eq_true rfl | omega)⟩ (fun q9 => VX_out C (fun z hz => by cases hz) ⟨rfl, rfl⟩ (by first | exact Nat.le_of_ble_eq_true rfl | omega) (by first | exact Nat.le_of_ble_eq_true rfl | omega)))
set_option maxHeartbeats 1000000 in
theorem c_X1_put_out_10n (l : Launch) (hl : l.stackTraces = false) (G : hp_G) (X : Nat → Nat) (N0 : Nat) (M : hp_h) (a n : Nat) (i : Int32) (f : Nat → Option Nat) (ha : M a = some (.inl (G.2 10, n, .inr (.inr (.inr (.inr f)))))) (hn : n < 10 ^ 9) (hout : ¬ vp_in i n) (b : Int64) (vu : Option Nat) : HM l yX1_put (ws_ yX1_put cX1_put 6 none) 8 10320 3 70 G X N0 [.ref a, .int i, .long b, va_rf vu, .null] M PFF (PXE "java/lang/ArrayIndexOutOfBoundsException" M) := by
  refine HM.of hl [(0, .ref a), (1, .int i), (2, .long b), (4, va_rf vu), (5, .null)] (by decide +kernel) (by cases vu <;> rfl) (by cases vu <;> exact Nat.le_of_ble_eq_true rfl) ?_
  intro p e s m args below meth c C hname
  refine V_aload_n C dX1_put_0 rfl 0 rfl ?_
  refine V_callS C (c_X1_kindOf l hl G X N0 M a 10 (by decide) _ ha) cs_X1_25 rfl rfl ⟨Nat.le_of_ble_eq_true rfl, Nat.le_of_ble_eq_true rfl⟩ ⟨(by first | exact Nat.le_of_ble_eq_true rfl | omega | (dsimp only; omega) | (simp only [List.length_cons, List.length_nil]; omega)), (by first | exact Nat.le_of_ble_eq_true rfl | omega | (dsimp only; omega) | (simp only [List.length_cons, List.length_nil]; omega))⟩ (Nat.le_of_ble_eq_true rfl) dX1_put_1 (fun _ _ _ h => px0 h) ?_
  rintro _ _ ⟨rfl, rfl⟩
  refine V_st (st' := [.int (nI 10)]) rfl ?_
  refine V_tableIn (tgt := 170) (off := 166) C dX1_put_4 (by decide) (by decide) (by decide) (by decide) ?_
  refine V_aload_n C dX1_put_170 rfl 0 rfl ?_
  refine V_castA C (j := 10) (by decide) q617 (Or.inl rfl) ha dX1_put_171 ?_
  refine V_iload_n C dX1_put_174 rfl 1 rfl ?_
  refine V_aloadN C dX1_put_175 4 rfl ?_
  exact V_aastZ C (j := 10) rfl ha (by first | rfl | (cases vq <;> rfl)) hout dX1_put_177 (Nat.le_of_ble_eq_true rfl) (VN.ix C hn ⟨Nat.le_of_ble_eq_true rfl, Nat.le_of_ble_eq_true rfl⟩ ⟨(by first | exact Nat.le_of_ble_eq_true rfl | omega), (by first | exact Nat.le_of_ble_eq_true rfl | omega)⟩ (fun q9 => VX_out C (fun z hz => by cases hz) ⟨rfl, rfl⟩ (by first | exact Nat.le_of_ble_eq_true rfl | omega) (by first | exact Nat.le_of_ble_eq_true rfl | omega)))
set_option maxHeartbeats 1000000 in
theorem c_X1_put_out_10u (l : Launch) (hl : l.stackTraces = false) (G : hp_G) (X : Nat → Nat) (N0 : Nat) (M : hp_h) (a n : Nat) (i : Int32) (f : Nat → Option Nat) (ha : M a = some (.inl (G.2 10, n, .inr (.inr (.inr (.inr f)))))) (hn : n < 10 ^ 9) (hout : ¬ vp_in i n) (b : Int64) (vu : Option Nat) (vi : Nat) : HM l yX1_put (ws_ yX1_put cX1_put 6 none) 8 10320 3 70 G X N0 [.ref a, .int i, .long b, va_rf vu, .ref vi] M PFF (PXE "java/lang/ArrayIndexOutOfBoundsException" M) := by
  refine HM.of hl [(0, .ref a), (1, .int i), (2, .long b), (4, va_rf vu), (5, .ref vi)] (by decide +kernel) (by cases vu <;> rfl) (by cases vu <;> exact Nat.le_of_ble_eq_true rfl) ?_
  intro p e s m args below meth c C hname
  refine V_aload_n C dX1_put_0 rfl 0 rfl ?_
  refine V_callS C (c_X1_kindOf l hl G X N0 M a 10 (by decide) _ ha) cs_X1_25 rfl rfl ⟨Nat.le_of_ble_eq_true rfl, Nat.le_of_ble_eq_true rfl⟩ ⟨(by first | exact Nat.le_of_ble_eq_true rfl | omega | (dsimp only; omega) | (simp only [List.length_cons, List.length_nil]; omega)), (by first | exact Nat.le_of_ble_eq_true rfl | omega | (dsimp only; omega) | (simp only [List.length_cons, List.length_nil]; omega))⟩ (Nat.le_of_ble_eq_true rfl) dX1_put_1 (fun _ _ _ h => px0 h) ?_
  rintro _ _ ⟨rfl, rfl⟩
  refine V_st (st' := [.int (nI 10)]) rfl ?_
  refine V_tableIn (tgt := 170) (off := 166) C dX1_put_4 (by decide) (by decide) (by decide) (by decide) ?_
  refine V_aload_n C dX1_put_170 rfl 0 rfl ?_
  refine V_castA C (j := 10) (by decide) q617 (Or.inl rfl) ha dX1_put_171 ?_
  refine V_iload_n C dX1_put_174 rfl 1 rfl ?_
  refine V_aload C dX1_put_175 4 rfl ?_
  exact V_aastZ C (j := 10) rfl ha (by first | rfl | (cases vq <;> rfl)) hout dX1_put_177 (Nat.le_of_ble_eq_true rfl) (VN.ix C hn ⟨Nat.le_of_ble_eq_true rfl, Nat.le_of_ble_eq_true rfl⟩ ⟨(by first | exact Nat.le_of_ble_eq_true rfl | omega), (by first | exact Nat.le_of_ble_eq_true rfl | omega)⟩ (fun q9 => VX_out C (fun z hz => by cases hz) ⟨rfl, rfl⟩ (by first | exact Nat.le_of_ble_eq_true rfl | omega) (by first | exact Nat.le_of_ble_eq_true rfl | omega)))
theorem c_X1_put_out_8 (l : Launch) (hl : l.stackTraces = false) (G : hp_G) (X : Nat → Nat) (N0 : Nat) (M : hp_h) (a n : Nat) (i : Int32) (f : Nat → Option Nat) (ha : M a = some (.inl (G.2 8, n, .inr (.inr (.inr (.inr f)))))) (hn : n < 10 ^ 9) (hout : ¬ vp_in i n) (b : Int64) (vu vi : Option Nat) : HM l yX1_put (ws_ yX1_put cX1_put 6 none) 8 10320 3 70 G X N0 [.ref a, .int i, .long b, va_rf vu, va_rf vi] M PFF (PXE "java/lang/ArrayIndexOutOfBoundsException" M) := by
  cases vu with
  | none => exact c_X1_put_out_8n l hl G X N0 M a n i f ha hn hout b vi
  | some u => exact c_X1_put_out_8u l hl G X N0 M a n i f ha hn hout b u vi
theorem c_X1_put_out_9 (l : Launch) (hl : l.stackTraces = false) (G : hp_G) (X : Nat → Nat) (N0 : Nat) (M : hp_h) (a n : Nat) (i : Int32) (f : Nat → Option Nat) (ha : M a = some (.inl (G.2 9, n, .inr (.inr (.inr (.inr f)))))) (hn : n < 10 ^ 9) (hout : ¬ vp_in i n) (b : Int64) (vu vi : Option Nat) : HM l yX1_put (ws_ yX1_put cX1_put 6 none) 8 10320 3 70 G X N0 [.ref a, .int i, .long b, va_rf vu, va_rf vi] M PFF (PXE "java/lang/ArrayIndexOutOfBoundsException" M) := by
  cases vu with
  | none => exact c_X1_put_out_9n l hl G X N0 M a n i f ha hn hout b vi
  | some u => exact c_X1_put_out_9u l hl G X N0 M a n i f ha hn hout b u vi
theorem c_X1_put_out_10 (l : Launch) (hl : l.stackTraces = false) (G : hp_G) (X : Nat → Nat) (N0 : Nat) (M : hp_h) (a n : Nat) (i : Int32) (f : Nat → Option Nat) (ha : M a = some (.inl (G.2 10, n, .inr (.inr (.inr (.inr f)))))) (hn : n < 10 ^ 9) (hout : ¬ vp_in i n) (b : Int64) (vu vi : Option Nat) : HM l yX1_put (ws_ yX1_put cX1_put 6 none) 8 10320 3 70 G X N0 [.ref a, .int i, .long b, va_rf vu, va_rf vi] M PFF (PXE "java/lang/ArrayIndexOutOfBoundsException" M) := by
  cases vi with
  | none => exact c_X1_put_out_10n l hl G X N0 M a n i f ha hn hout b vu
  | some u => exact c_X1_put_out_10u l hl G X N0 M a n i f ha hn hout b vu u
theorem c_X1_put_out (l : Launch) (hl : l.stackTraces = false) (G : hp_G) (X : Nat → Nat) (N0 : Nat) (M : hp_h) (a k n : Nat) (i : Int32) (x : vp_A) (ha : M a = some (.inl (G.2 k, x))) (hx : XT k n x) (hn : n < 10 ^ 9) (hout : ¬ vp_in i n) (b : Int64) (vu vi : Option Nat) : HM l yX1_put (ws_ yX1_put cX1_put 6 none) 8 10320 3 70 G X N0 [.ref a, .int i, .long b, va_rf vu, va_rf vi] M PFF (PXE "java/lang/ArrayIndexOutOfBoundsException" M) := by
  obtain ⟨n', y⟩ := x
  obtain ⟨h1, h2⟩ := hx
  have h1 : n' = n := h1
  subst h1
  have h2 : CT k y := h2
  rcases h2 with ⟨h, f, rfl⟩ | ⟨rfl, f, rfl⟩ | ⟨rfl, f, rfl⟩ | ⟨rfl, f, rfl⟩ | ⟨h, f, rfl⟩
  · match k, h with
    | 0, _ => exact c_X1_put_out_0 l hl G X N0 M a n' i f ha hn hout b vu vi
    | 1, _ => exact c_X1_put_out_1 l hl G X N0 M a n' i f ha hn hout b vu vi
    | 2, _ => exact c_X1_put_out_2 l hl G X N0 M a n' i f ha hn hout b vu vi
    | 3, _ => exact c_X1_put_out_3 l hl G X N0 M a n' i f ha hn hout b vu vi
    | 4, _ => exact c_X1_put_out_4 l hl G X N0 M a n' i f ha hn hout b vu vi
    | k + 5, h => exact absurd h (by omega)
  · exact c_X1_put_out_5 l hl G X N0 M a n' i f ha hn hout b vu vi
  · exact c_X1_put_out_6 l hl G X N0 M a n' i f ha hn hout b vu vi
  · exact c_X1_put_out_7 l hl G X N0 M a n' i f ha hn hout b vu vi
  · obtain rfl | rfl | rfl := h
    · exact c_X1_put_out_8 l hl G X N0 M a n' i f ha hn hout b vu vi
    · exact c_X1_put_out_9 l hl G X N0 M a n' i f ha hn hout b vu vi
    · exact c_X1_put_out_10 l hl G X N0 M a n' i f ha hn hout b vu vi
section V41
variable {p : Program} {l : Launch} {e : Env} {R : Room} {s : State} {m : MethodId} {args : Array Value} {below : List Frame} {meth : Method} {c : Code} {cc : ByteArray} {own : String} {nL : Nat} {ret : Option FieldType} {hh : List (Nat × Nat × Nat × Nat)} {G : hp_G} {X : Nat → Nat} {N0 : Nat} {Q : State → Prop} {cells slots : Nat} {M : hp_h} {pc : Nat} {L : List (Nat × Value)}
theorem vn_ASE (C : Cx p l s m args meth c cc own nL ret hh G X N0) (hR : 7 < R.frames ∧ 10256 ≤ R.locals) (hcs : cells + 3 ≤ R.cells ∧ slots + 70 ≤ R.slots) (k : ∀ q : Nat, VX p l e R s m args below meth c G N0 nL Q (cells + 3) (slots + 70) M pc L q "java/lang/ArrayStoreException") : VN p l e R s m args below meth c G N0 nL Q cells slots M pc L "java/lang/ArrayStoreException" "NativeSubset$Unit" :=
  VN.of (nb := 60) C tb_ASE tg_ASE ⟨by decide, by decide, by decide, by decide⟩ (nm_no (c := 'N') rfl (by decide)) ⟨by decide, by decide⟩ (by decide) ⟨by have := hR.1; exact Nat.lt_of_le_of_lt (by decide) hR.1, hR.2⟩ (by decide) hcs k
end V41
set_option maxHeartbeats 1000000 in
theorem c_X1_put_ase (l : Launch) (hl : l.stackTraces = false) (G : hp_G) (X : Nat → Nat) (N0 : Nat) (M : hp_h) (a n u : Nat) (i : Int32) (f : Nat → Option Nat) (ha : M a = some (.inl (G.2 9, n, .inr (.inr (.inr (.inr f)))))) (hin : vp_in i n) (vs : List Value) (hv : M u = some (.inr (5, vs))) (b : Int64) (vi : Option Nat) : HM l yX1_put (ws_ yX1_put cX1_put 6 none) 8 10320 3 70 G X N0 [.ref a, .int i, .long b, .ref u, va_rf vi] M PFF (PXE "java/lang/ArrayStoreException" M) := by
  refine HM.of hl [(0, .ref a), (1, .int i), (2, .long b), (4, .ref u), (5, va_rf vi)] (by decide +kernel) (by cases vi <;> rfl) (by cases vi <;> exact Nat.le_of_ble_eq_true rfl) ?_
  intro p e s m args below meth c C hname
  refine V_aload_n C dX1_put_0 rfl 0 rfl ?_
  refine V_callS C (c_X1_kindOf l hl G X N0 M a 9 (by decide) _ ha) cs_X1_25 rfl rfl ⟨Nat.le_of_ble_eq_true rfl, Nat.le_of_ble_eq_true rfl⟩ ⟨(by first | exact Nat.le_of_ble_eq_true rfl | omega | (dsimp only; omega) | (simp only [List.length_cons, List.length_nil]; omega)), (by first | exact Nat.le_of_ble_eq_true rfl | omega | (dsimp only; omega) | (simp only [List.length_cons, List.length_nil]; omega))⟩ (Nat.le_of_ble_eq_true rfl) dX1_put_1 (fun _ _ _ h => px0 h) ?_
  rintro _ _ ⟨rfl, rfl⟩
  refine V_st (st' := [.int (nI 9)]) rfl ?_
  refine V_tableIn (tgt := 181) (off := 177) C dX1_put_4 (by decide) (by decide) (by decide) (by decide) ?_
  refine V_aload_n C dX1_put_181 rfl 0 rfl ?_
  refine V_castA C (j := 9) (by decide) q605 (Or.inr ⟨rfl, rfl⟩) ha dX1_put_182 ?_
  refine V_iload_n C dX1_put_185 rfl 1 rfl ?_
  refine V_aload C dX1_put_186 3 rfl ?_
  exact V_aastX C ha hv hin dX1_put_188 (Nat.le_of_ble_eq_true rfl) (vn_ASE C ⟨Nat.le_of_ble_eq_true rfl, Nat.le_of_ble_eq_true rfl⟩ ⟨(by first | exact Nat.le_of_ble_eq_true rfl | omega), (by first | exact Nat.le_of_ble_eq_true rfl | omega)⟩ (fun q9 => VX_out C (fun z hz => by cases hz) ⟨rfl, rfl⟩ (by first | exact Nat.le_of_ble_eq_true rfl | omega) (by first | exact Nat.le_of_ble_eq_true rfl | omega)))
