/-! ===== the reference's state: int fields by their numbers, int arrays and long arrays by the numbers of their fields, the long field 'answer' ===== -/
set_option maxRecDepth 100000
abbrev MS : Type := (Nat → Int32) × (Nat → Nat → Int32) × (Nat → Nat → Int64) × Int64
def sz (σ : MS) (k : Nat) (v : Int32) : MS := (va_up σ.1 k v, σ.2)
def si (σ : MS) (k : Nat) (f : Nat → Int32) : MS := (σ.1, va_up σ.2.1 k f, σ.2.2)
def sl (σ : MS) (k : Nat) (f : Nat → Int64) : MS := (σ.1, σ.2.1, va_up σ.2.2.1 k f, σ.2.2.2)
def sa (σ : MS) (v : Int64) : MS := (σ.1, σ.2.1, σ.2.2.1, v)
def mF (ad : Nat → Nat) (σ : MS) : List Value := [.int (σ.1 0), .int (σ.1 1), .ref (ad 2), .ref (ad 3), .ref (ad 4), .int (σ.1 5), .ref (ad 6), .ref (ad 7), .int (σ.1 8), .ref (ad 9), .ref (ad 10), .int (σ.1 11), .int (σ.1 12), .int (σ.1 13), .int (σ.1 14), .int (σ.1 15), .ref (ad 16), .ref (ad 17), .long σ.2.2.2, .ref (ad 19), .int (σ.1 20), .ref (ad 21), .ref (ad 22), .ref (ad 23), .ref (ad 24), .ref (ad 25), .ref (ad 26), .int (σ.1 27), .int (σ.1 28), .int (σ.1 29), .int (σ.1 30), .int (σ.1 31), .ref (ad 32)]
def mk : Nat → Nat := fun k => ([0, 0, 1, 1, 2, 0, 1, 1, 0, 1, 1, 0, 0, 0, 0, 0, 1, 1, 3, 2, 0, 1, 1, 1, 1, 1, 2, 0, 0, 0, 0, 0, 2] : List Nat).getD k 9
def mz : Nat → Nat := fun k => ([0, 0, 60, 60, 2400, 0, 30, 30, 0, 8000, 320000, 0, 0, 0, 0, 0, 6, 432, 0, 40, 0, 7, 7, 7, 7, 7, 16800, 0, 0, 0, 0, 0, 12] : List Nat).getD k 0
def MH (G : hp_G) (mo : Nat) (ad : Nat → Nat) (σ : MS) (M : hp_h) : Prop := M mo = some (.inr (9, mF ad σ)) ∧ (∀ k, mk k = 1 → M (ad k) = some (.inl (G.2 4, mz k, .inl (σ.2.1 k)))) ∧ (∀ k, mk k = 2 → M (ad k) = some (.inl (G.2 5, mz k, .inr (.inl (σ.2.2.1 k))))) ∧ (∀ j k, (mk j = 1 ∨ mk j = 2) → (mk k = 1 ∨ mk k = 2) → ad j = ad k → j = k) ∧ ∀ k, (mk k = 1 ∨ mk k = 2) → ad k ≠ mo
def MC (mo : Nat) (ad : Nat → Nat) (q : Nat) : Prop := q = mo ∨ ∃ k, (mk k = 1 ∨ mk k = 2) ∧ q = ad k
def MFr (mo : Nat) (ad : Nat → Nat) (M M' : hp_h) : Prop := ∀ q, ¬ MC mo ad q → M' q = M q
theorem MFr.rf {mo : Nat} {ad : Nat → Nat} {M : hp_h} : MFr mo ad M M := fun _ _ => rfl
theorem MFr.trans {mo : Nat} {ad : Nat → Nat} {M M' M'' : hp_h} (h : MFr mo ad M M') (h' : MFr mo ad M' M'') : MFr mo ad M M'' := fun q hq => (h' q hq).trans (h q hq)
theorem mz_le : ∀ k, mz k ≤ 320000 := by
  intro k
  by_cases h : k < 33
  · exact (show ∀ k, k < 33 → mz k ≤ 320000 by decide +kernel) k h
  · show List.getD _ k 0 ≤ _
    rw [List.getD_eq_getElem?_getD, List.getElem?_eq_none (by simp only [List.length_cons, List.length_nil]; omega)]
    simp
theorem MH.putz {G : hp_G} {mo : Nat} {ad : Nat → Nat} {σ σ' : MS} {M : hp_h} {fs : List Value} (h : MH G mo ad σ M) (hf : fs = mF ad σ') (h1 : σ'.2.1 = σ.2.1) (h2 : σ'.2.2.1 = σ.2.2.1) : MH G mo ad σ' (hp_up M mo (.inr (9, fs))) ∧ MFr mo ad M (hp_up M mo (.inr (9, fs))) := by
  obtain ⟨a1, a2, a3, a4, a5⟩ := h
  subst hf
  refine ⟨⟨hp_up_s, fun k hk => ?_, fun k hk => ?_, a4, a5⟩, fun q hq => hp_up_n (fun e => hq (Or.inl e))⟩
  · rw [hp_up_n (a5 k (Or.inl hk)), h1]; exact a2 k hk
  · rw [hp_up_n (a5 k (Or.inr hk)), h2]; exact a3 k hk
theorem MH.puti {G : hp_G} {mo : Nat} {ad : Nat → Nat} {σ : MS} {M : hp_h} {k : Nat} {f : Nat → Int32} (h : MH G mo ad σ M) (hk : mk k = 1) : MH G mo ad (si σ k f) (hp_up M (ad k) (.inl (G.2 4, mz k, .inl f))) ∧ MFr mo ad M (hp_up M (ad k) (.inl (G.2 4, mz k, .inl f))) := by
  obtain ⟨a1, a2, a3, a4, a5⟩ := h
  refine ⟨⟨?_, fun j hj => ?_, fun j hj => ?_, a4, a5⟩, fun q hq => hp_up_n (fun e => hq (Or.inr ⟨k, Or.inl hk, e⟩))⟩
  · rw [hp_up_n (Ne.symm (a5 k (Or.inl hk)))]; exact a1
  · by_cases e : j = k
    · subst e
      rw [hp_up_s]
      simp [si, va_up]
    · rw [hp_up_n (fun z => e (a4 j k (Or.inl hj) (Or.inl hk) z))]
      simp only [si, va_up, if_neg e]
      exact a2 j hj
  · rw [hp_up_n (fun z => by have := a4 j k (Or.inr hj) (Or.inl hk) z; subst this; rw [hj] at hk; cases hk)]
    exact a3 j hj
theorem MH.putl {G : hp_G} {mo : Nat} {ad : Nat → Nat} {σ : MS} {M : hp_h} {k : Nat} {f : Nat → Int64} (h : MH G mo ad σ M) (hk : mk k = 2) : MH G mo ad (sl σ k f) (hp_up M (ad k) (.inl (G.2 5, mz k, .inr (.inl f)))) ∧ MFr mo ad M (hp_up M (ad k) (.inl (G.2 5, mz k, .inr (.inl f)))) := by
  obtain ⟨a1, a2, a3, a4, a5⟩ := h
  refine ⟨⟨?_, fun j hj => ?_, fun j hj => ?_, a4, a5⟩, fun q hq => hp_up_n (fun e => hq (Or.inr ⟨k, Or.inr hk, e⟩))⟩
  · rw [hp_up_n (Ne.symm (a5 k (Or.inr hk)))]; exact a1
  · rw [hp_up_n (fun z => by have := a4 j k (Or.inl hj) (Or.inr hk) z; subst this; rw [hj] at hk; cases hk)]
    exact a2 j hj
  · by_cases e : j = k
    · subst e
      rw [hp_up_s]
      simp [sl, va_up]
    · rw [hp_up_n (fun z => e (a4 j k (Or.inr hj) (Or.inr hk) z))]
      simp only [sl, va_up, if_neg e]
      exact a3 j hj
theorem mF_0 {ad : Nat → Nat} {σ : MS} {v : Int32} : (mF ad σ).set 0 (.int v) = mF ad (sz σ 0 v) := by simp [mF, sz, va_up]
theorem mF_1 {ad : Nat → Nat} {σ : MS} {v : Int32} : (mF ad σ).set 1 (.int v) = mF ad (sz σ 1 v) := by simp [mF, sz, va_up]
theorem mF_5 {ad : Nat → Nat} {σ : MS} {v : Int32} : (mF ad σ).set 5 (.int v) = mF ad (sz σ 5 v) := by simp [mF, sz, va_up]
theorem mF_8 {ad : Nat → Nat} {σ : MS} {v : Int32} : (mF ad σ).set 8 (.int v) = mF ad (sz σ 8 v) := by simp [mF, sz, va_up]
theorem mF_11 {ad : Nat → Nat} {σ : MS} {v : Int32} : (mF ad σ).set 11 (.int v) = mF ad (sz σ 11 v) := by simp [mF, sz, va_up]
theorem mF_12 {ad : Nat → Nat} {σ : MS} {v : Int32} : (mF ad σ).set 12 (.int v) = mF ad (sz σ 12 v) := by simp [mF, sz, va_up]
theorem mF_13 {ad : Nat → Nat} {σ : MS} {v : Int32} : (mF ad σ).set 13 (.int v) = mF ad (sz σ 13 v) := by simp [mF, sz, va_up]
theorem mF_14 {ad : Nat → Nat} {σ : MS} {v : Int32} : (mF ad σ).set 14 (.int v) = mF ad (sz σ 14 v) := by simp [mF, sz, va_up]
theorem mF_15 {ad : Nat → Nat} {σ : MS} {v : Int32} : (mF ad σ).set 15 (.int v) = mF ad (sz σ 15 v) := by simp [mF, sz, va_up]
theorem mF_20 {ad : Nat → Nat} {σ : MS} {v : Int32} : (mF ad σ).set 20 (.int v) = mF ad (sz σ 20 v) := by simp [mF, sz, va_up]
theorem mF_27 {ad : Nat → Nat} {σ : MS} {v : Int32} : (mF ad σ).set 27 (.int v) = mF ad (sz σ 27 v) := by simp [mF, sz, va_up]
theorem mF_28 {ad : Nat → Nat} {σ : MS} {v : Int32} : (mF ad σ).set 28 (.int v) = mF ad (sz σ 28 v) := by simp [mF, sz, va_up]
theorem mF_29 {ad : Nat → Nat} {σ : MS} {v : Int32} : (mF ad σ).set 29 (.int v) = mF ad (sz σ 29 v) := by simp [mF, sz, va_up]
theorem mF_30 {ad : Nat → Nat} {σ : MS} {v : Int32} : (mF ad σ).set 30 (.int v) = mF ad (sz σ 30 v) := by simp [mF, sz, va_up]
theorem mF_31 {ad : Nat → Nat} {σ : MS} {v : Int32} : (mF ad σ).set 31 (.int v) = mF ad (sz σ 31 v) := by simp [mF, sz, va_up]
theorem mF_18 {ad : Nat → Nat} {σ : MS} {v : Int64} : (mF ad σ).set 18 (.long v) = mF ad (sa σ v) := by simp [mF, sa]
section MRW
variable {p : Program} {l : Launch} {e : Env} {R : Room} {s : State} {m : MethodId} {args : Array Value} {below : List Frame} {meth : Method} {c : Code} {cc : ByteArray} {own : String} {nL : Nat} {ret : Option FieldType} {hh : List (Nat × Nat × Nat × Nat)} {G : hp_G} {X : Nat → Nat} {N0 : Nat} {Q : State → Prop} {cells slots : Nat} {M M0 : hp_h} {pc : Nat} {L : List (Nat × Value)} {rest : List Value} {mo : Nat} {ad : Nat → Nat} {σ : MS}
theorem M_get (C : Cx p l s m args meth c cc own nL ret hh G X N0) (hM : MH G mo ad σ M) {idx k : Nat} {ty : FieldType} {fin : Bool} (w : Value) (hf : FP own idx 9 k ty fin) (hv : (mF ad σ)[k]? = some w) (hdg : decode cc pc = .ok (.getfield idx, 3)) (kk : V p l e R s m args below meth c G N0 nL Q cells slots M (pc + 3) L (w :: rest)) : V p l e R s m args below meth c G N0 nL Q cells slots M pc L (.ref mo :: rest) := V_get C hf hM.1 hv hdg kk
theorem M_puti (C : Cx p l s m args meth c cc own nL ret hh G X N0) (hM : MH G mo ad σ M) (hF : MFr mo ad M0 M) {idx k : Nat} {v : Int32} (hf : FP own idx 9 k .int false) (hk : k < 33) (hs : (mF ad σ).set k (.int v) = mF ad (sz σ k v)) (hdg : decode cc pc = .ok (.putfield idx, 3)) (kk : ∀ M' : hp_h, MH G mo ad (sz σ k v) M' → MFr mo ad M0 M' → V p l e R s m args below meth c G N0 nL Q cells slots M' (pc + 3) L rest) : V p l e R s m args below meth c G N0 nL Q cells slots M pc L (.int v :: .ref mo :: rest) := by
  obtain ⟨h1, h2⟩ := hM.putz hs rfl rfl
  exact V_put C hf hM.1 rfl rfl (by simpa [mF] using hk) hdg (kk _ h1 (hF.trans h2))
theorem M_putl (C : Cx p l s m args meth c cc own nL ret hh G X N0) (hM : MH G mo ad σ M) (hF : MFr mo ad M0 M) {idx : Nat} {v : Int64} (hf : FP own idx 9 18 .long false) (hs : (mF ad σ).set 18 (.long v) = mF ad (sa σ v)) (hdg : decode cc pc = .ok (.putfield idx, 3)) (kk : ∀ M' : hp_h, MH G mo ad (sa σ v) M' → MFr mo ad M0 M' → V p l e R s m args below meth c G N0 nL Q cells slots M' (pc + 3) L rest) : V p l e R s m args below meth c G N0 nL Q cells slots M pc L (.long v :: .ref mo :: rest) := by
  obtain ⟨h1, h2⟩ := hM.putz hs rfl rfl
  exact V_put C hf hM.1 rfl rfl (by simp [mF]) hdg (kk _ h1 (hF.trans h2))
theorem M_iald (C : Cx p l s m args meth c cc own nL ret hh G X N0) (hM : MH G mo ad σ M) (k n : Nat) (hk : mk k = 1) {i : Int32} (hi : i = nI n) (hn : n < mz k) (hdg : decode cc pc = .ok (.iaload, 1)) (kk : V p l e R s m args below meth c G N0 nL Q cells slots M (pc + 1) L (.int (σ.2.1 k n) :: rest)) : V p l e R s m args below meth c G N0 nL Q cells slots M pc L (.int i :: .ref (ad k) :: rest) := by
  subst hi
  have hb := mz_le k
  refine V_iald C (hM.2.1 k hk) (vp_in_nI hn (by omega)) hdg ?_
  rw [nI_clamp (by omega)]
  exact kk
theorem M_lald (C : Cx p l s m args meth c cc own nL ret hh G X N0) (hM : MH G mo ad σ M) (k n : Nat) (hk : mk k = 2) {i : Int32} (hi : i = nI n) (hn : n < mz k) (hdg : decode cc pc = .ok (.laload, 1)) (kk : V p l e R s m args below meth c G N0 nL Q cells slots M (pc + 1) L (.long (σ.2.2.1 k n) :: rest)) : V p l e R s m args below meth c G N0 nL Q cells slots M pc L (.int i :: .ref (ad k) :: rest) := by
  subst hi
  have hb := mz_le k
  refine V_lald C (hM.2.2.1 k hk) (vp_in_nI hn (by omega)) hdg ?_
  rw [nI_clamp (by omega)]
  exact kk
theorem M_iast (C : Cx p l s m args meth c cc own nL ret hh G X N0) (hM : MH G mo ad σ M) (hF : MFr mo ad M0 M) (k n : Nat) (hk : mk k = 1) {i x : Int32} (hi : i = nI n) (hn : n < mz k) (hdg : decode cc pc = .ok (.iastore, 1)) (kk : ∀ M' : hp_h, MH G mo ad (si σ k (va_up (σ.2.1 k) n x)) M' → MFr mo ad M0 M' → V p l e R s m args below meth c G N0 nL Q cells slots M' (pc + 1) L rest) : V p l e R s m args below meth c G N0 nL Q cells slots M pc L (.int x :: .int i :: .ref (ad k) :: rest) := by
  subst hi
  have hb := mz_le k
  obtain ⟨h1, h2⟩ := hM.puti (k := k) (f := va_up (σ.2.1 k) n x) hk
  refine V_iast C (hM.2.1 k hk) (vp_in_nI hn (by omega)) hdg ?_
  rw [nI_clamp (by omega)]
  exact kk _ h1 (hF.trans h2)
theorem M_last (C : Cx p l s m args meth c cc own nL ret hh G X N0) (hM : MH G mo ad σ M) (hF : MFr mo ad M0 M) (k n : Nat) (hk : mk k = 2) {i : Int32} {x : Int64} (hi : i = nI n) (hn : n < mz k) (hdg : decode cc pc = .ok (.lastore, 1)) (kk : ∀ M' : hp_h, MH G mo ad (sl σ k (va_up (σ.2.2.1 k) n x)) M' → MFr mo ad M0 M' → V p l e R s m args below meth c G N0 nL Q cells slots M' (pc + 1) L rest) : V p l e R s m args below meth c G N0 nL Q cells slots M pc L (.long x :: .int i :: .ref (ad k) :: rest) := by
  subst hi
  have hb := mz_le k
  obtain ⟨h1, h2⟩ := hM.putl (k := k) (f := va_up (σ.2.2.1 k) n x) hk
  refine V_last C (hM.2.2.1 k hk) (vp_in_nI hn (by omega)) hdg ?_
  rw [nI_clamp (by omega)]
  exact kk _ h1 (hF.trans h2)
end MRW
