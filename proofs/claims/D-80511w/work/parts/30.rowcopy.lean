set_option maxRecDepth 100000
set_option linter.unusedVariables false
/-- the value at place i of a row's content -/
def cv (y : (Nat → Int32) ⊕ (Nat → Int64) ⊕ (Nat → UInt32) ⊕ (Nat → UInt64) ⊕ (Nat → Option Nat)) (i : Nat) : Int32 ⊕ Int64 ⊕ UInt32 ⊕ UInt64 ⊕ Option Nat := match y with
  | .inl f => .inl (f i)
  | .inr (.inl f) => .inr (.inl (f i))
  | .inr (.inr (.inl f)) => .inr (.inr (.inl (f i)))
  | .inr (.inr (.inr (.inl f))) => .inr (.inr (.inr (.inl (f i))))
  | .inr (.inr (.inr (.inr f))) => .inr (.inr (.inr (.inr (f i))))
theorem cv_i {y : (Nat → Int32) ⊕ (Nat → Int64) ⊕ (Nat → UInt32) ⊕ (Nat → UInt64) ⊕ (Nat → Option Nat)} {f : Nat → Int32} {i j : Nat} (h : cv y i = cv (.inl f) j) : ∃ g, y = .inl g ∧ g i = f j := by
  rcases y with g | g | g | g | g <;> first | (simp [cv] at h; exact ⟨g, rfl, h⟩) | (simp [cv] at h)
theorem cv_l {y : (Nat → Int32) ⊕ (Nat → Int64) ⊕ (Nat → UInt32) ⊕ (Nat → UInt64) ⊕ (Nat → Option Nat)} {f : Nat → Int64} {i j : Nat} (h : cv y i = cv (.inr (.inl f)) j) : ∃ g, y = .inr (.inl g) ∧ g i = f j := by
  rcases y with g | g | g | g | g <;> first | (simp [cv] at h; exact ⟨g, rfl, h⟩) | (simp [cv] at h)
theorem cv_f {y : (Nat → Int32) ⊕ (Nat → Int64) ⊕ (Nat → UInt32) ⊕ (Nat → UInt64) ⊕ (Nat → Option Nat)} {f : Nat → UInt32} {i j : Nat} (h : cv y i = cv (.inr (.inr (.inl f))) j) : ∃ g, y = .inr (.inr (.inl g)) ∧ g i = f j := by
  rcases y with g | g | g | g | g <;> first | (simp [cv] at h; exact ⟨g, rfl, h⟩) | (simp [cv] at h)
theorem cv_d {y : (Nat → Int32) ⊕ (Nat → Int64) ⊕ (Nat → UInt32) ⊕ (Nat → UInt64) ⊕ (Nat → Option Nat)} {f : Nat → UInt64} {i j : Nat} (h : cv y i = cv (.inr (.inr (.inr (.inl f)))) j) : ∃ g, y = .inr (.inr (.inr (.inl g))) ∧ g i = f j := by
  rcases y with g | g | g | g | g <;> first | (simp [cv] at h; exact ⟨g, rfl, h⟩) | (simp [cv] at h)
theorem cv_q {y : (Nat → Int32) ⊕ (Nat → Int64) ⊕ (Nat → UInt32) ⊕ (Nat → UInt64) ⊕ (Nat → Option Nat)} {f : Nat → Option Nat} {i j : Nat} (h : cv y i = cv (.inr (.inr (.inr (.inr f)))) j) : ∃ g, y = .inr (.inr (.inr (.inr g))) ∧ g i = f j := by
  rcases y with g | g | g | g | g <;> first | (simp [cv] at h; exact ⟨g, rfl, h⟩) | (simp [cv] at h)
theorem CE.at_ {U J : Nat} {ua ja : Nat → Nat} {k : Nat} {x x' : vp_A} {i j : Nat} {b : Int64} (h : CE U J ua ja k x j b) (e : cv x'.2 i = cv x.2 j) : CE U J ua ja k x' i b := by
  rcases h with ⟨h, f, h1, h2, h3⟩ | ⟨h, f, h1, h2⟩ | ⟨h, f, h1, h2, h3⟩ | ⟨h, f, h1, h2, h3⟩ | ⟨h, f, h1, h2⟩ | ⟨h, f, h1, h2⟩ <;> rw [h1] at e
  · obtain ⟨g, g1, g2⟩ := cv_i e
    exact Or.inl ⟨h, g, g1, by rw [g2]; exact h2, by rw [g2]; exact h3⟩
  · obtain ⟨g, g1, g2⟩ := cv_l e
    exact Or.inr (Or.inl ⟨h, g, g1, by rw [g2]; exact h2⟩)
  · obtain ⟨g, g1, g2⟩ := cv_f e
    exact Or.inr (Or.inr (Or.inl ⟨h, g, g1, by rw [g2]; exact h2, by rw [g2]; exact h3⟩))
  · obtain ⟨g, g1, g2⟩ := cv_d e
    exact Or.inr (Or.inr (Or.inr (Or.inl ⟨h, g, g1, by rw [g2]; exact h2, by rw [g2]; exact h3⟩)))
  · obtain ⟨g, g1, g2⟩ := cv_q e
    exact Or.inr (Or.inr (Or.inr (Or.inr (Or.inl ⟨h, g, g1, by rw [g2]; exact h2⟩))))
  · obtain ⟨g, g1, g2⟩ := cv_q e
    exact Or.inr (Or.inr (Or.inr (Or.inr (Or.inr ⟨h, g, g1, by rw [g2]; exact h2⟩))))
/-- the type of the elements of kind k -/
def KTZ (k : Nat) : FieldType := ([.boolean, .byte, .char, .short, .int, .long, .float, .double, .object RX21, .object RX22, .array .int] : List FieldType).getD k .int
theorem KTZ_ok {d : Nat → ClassId} {k : Nat} (hk : k ≤ 10) : (TYS d)[k]? = some (d k, KTZ k) := by
  match k, hk with
  | 0, _ => rfl
  | 1, _ => rfl
  | 2, _ => rfl
  | 3, _ => rfl
  | 4, _ => rfl
  | 5, _ => rfl
  | 6, _ => rfl
  | 7, _ => rfl
  | 8, _ => rfl
  | 9, _ => rfl
  | 10, _ => rfl
  | n + 11, h => exact absurd h (by omega)
/-- a value that may be laid into a row of kind k -/
def EV (G : hp_G) (M : hp_h) (k : Nat) (v : Int32 ⊕ Int64 ⊕ UInt32 ⊕ UInt64 ⊕ Option Nat) : Prop := match v with
  | .inl z => fits (KTZ k) (.int z) = true
  | .inr (.inr (.inr (.inr (some y)))) => hp_AS G M (KTZ k) y
  | _ => True
theorem CT.dom {k : Nat} {y : (Nat → Int32) ⊕ (Nat → Int64) ⊕ (Nat → UInt32) ⊕ (Nat → UInt64) ⊕ (Nat → Option Nat)} (h : CT k y) : k ≤ 10 := by rcases h with h | h | h | h | h <;> have := h.1 <;> omega
section V30
variable {p : Program} {l : Launch} {e : Env} {R : Room} {s : State} {m : MethodId} {args : Array Value} {below : List Frame} {meth : Method} {c : Code} {cc : ByteArray} {own : String} {nL : Nat} {ret : Option FieldType} {hh : List (Nat × Nat × Nat × Nat)} {G : hp_G} {X : Nat → Nat} {N0 : Nat} {Q : State → Prop} {cells slots : Nat} {M : hp_h} {pc : Nat} {L : List (Nat × Value)} {rest : List Value} {idx : Nat}
/-- arraycopy between rows of one kind, or of units both -/
theorem V_copyK (C : Cx p l s m args meth c cc own nL ret hh G X N0) (hI : ACI own idx) {a0 a j0 j1 : Nat} {x0 x1 : vp_A} (hj : j0 = j1 ∨ ((j0 = 8 ∨ j0 = 9) ∧ (j1 = 8 ∨ j1 = 9))) (hc0 : CT j0 x0.2) (hc1 : CT j1 x1.2) (ha0 : M a0 = some (.inl (G.2 j0, x0))) (ha : M a = some (.inl (G.2 j1, x1))) {sp dp n : Int32} (h1 : ¬ sp < 0) (h2 : ¬ dp < 0) (h3 : ¬ n < 0) (h4 : sp.toNatClampNeg + n.toNatClampNeg ≤ x0.1) (h5 : dp.toNatClampNeg + n.toNatClampNeg ≤ x1.1) (hel : ∀ i, i < n.toNatClampNeg → EV G M j1 (cv x0.2 (sp.toNatClampNeg + i))) (hR : 1 ≤ R.frames ∧ (rest.map fun v => v.category).sum + (nativeFrameWords "java/lang/System" "arraycopy" 5 + 11) ≤ R.locals) (hdg : decode cc pc = .ok (.invokestatic idx, 3))
    (kk : ∀ x' : vp_A, XT j1 x1.1 x' → (∀ i, cv x'.2 i = if dp.toNatClampNeg ≤ i ∧ i < dp.toNatClampNeg + n.toNatClampNeg then cv x0.2 (sp.toNatClampNeg + (i - dp.toNatClampNeg)) else cv x1.2 i) → V p l e R s m args below meth c G N0 nL Q cells slots (hp_up M a (.inl (G.2 j1, x'))) (pc + 3) L rest) : V p l e R s m args below meth c G N0 nL Q cells slots M pc L (.int n :: .int dp :: .ref a :: .int sp :: .ref a0 :: rest) := by
  obtain ⟨n0, y0⟩ := x0
  obtain ⟨n1, y1⟩ := x1
  dsimp only at hc0 hc1 h4 h5 hel
  have hsplit : ∀ {α : Type} (f g : Nat → α) (w : α → Int32 ⊕ Int64 ⊕ UInt32 ⊕ UInt64 ⊕ Option Nat) (i : Nat), w (va_cpy f g sp.toNatClampNeg dp.toNatClampNeg n.toNatClampNeg i) = if dp.toNatClampNeg ≤ i ∧ i < dp.toNatClampNeg + n.toNatClampNeg then w (f (sp.toNatClampNeg + (i - dp.toNatClampNeg))) else w (g i) := fun f g w i => by
    unfold va_cpy
    split <;> rfl
  rcases hc0 with ⟨k0, f, rfl⟩ | ⟨k0, f, rfl⟩ | ⟨k0, f, rfl⟩ | ⟨k0, f, rfl⟩ | ⟨k0, f, rfl⟩ <;> rcases hc1 with ⟨k1, g, rfl⟩ | ⟨k1, g, rfl⟩ | ⟨k1, g, rfl⟩ | ⟨k1, g, rfl⟩ | ⟨k1, g, rfl⟩ <;> first | (exfalso; omega) | skip
  · have e : j0 = j1 := by omega
    subst e
    have hp : refKind (KTZ j0) = false := by
      match j0, k0 with
      | 0, _ => rfl
      | 1, _ => rfl
      | 2, _ => rfl
      | 3, _ => rfl
      | 4, _ => rfl
      | n + 5, h => exact absurd h (by omega)
    exact V_copy_i C hI (KTZ_ok (by omega)) hp ha0 ha h1 h2 h3 h4 h5 (fun i hi => hel i hi) hR hdg (kk _ ⟨rfl, Or.inl ⟨k1, _, rfl⟩⟩ (fun i => hsplit f g (fun z => .inl z) i))
  · have e : j0 = j1 := by omega
    subst e; subst k0
    exact V_copy_l C hI (ty := .long) rfl rfl ha0 ha h1 h2 h3 h4 h5 (fun i hi => rfl) hR hdg (kk _ ⟨rfl, Or.inr (Or.inl ⟨rfl, _, rfl⟩)⟩ (fun i => hsplit f g (fun z => .inr (.inl z)) i))
  · have e : j0 = j1 := by omega
    subst e; subst k0
    exact V_copy_f C hI (ty := .float) rfl rfl ha0 ha h1 h2 h3 h4 h5 (fun i hi => rfl) hR hdg (kk _ ⟨rfl, Or.inr (Or.inr (Or.inl ⟨rfl, _, rfl⟩))⟩ (fun i => hsplit f g (fun z => .inr (.inr (.inl z))) i))
  · have e : j0 = j1 := by omega
    subst e; subst k0
    exact V_copy_d C hI (ty := .double) rfl rfl ha0 ha h1 h2 h3 h4 h5 (fun i hi => rfl) hR hdg (kk _ ⟨rfl, Or.inr (Or.inr (Or.inr (Or.inl ⟨rfl, _, rfl⟩)))⟩ (fun i => hsplit f g (fun z => .inr (.inr (.inr (.inl z)))) i))
  · have hr : ∀ j, (j = 8 ∨ j = 9 ∨ j = 10) → refKind (KTZ j) = true := by
      rintro j (rfl | rfl | rfl) <;> rfl
    exact V_copy_q C hI (KTZ_ok (by omega)) (KTZ_ok (by omega)) (hr j0 k0) (hr j1 k1) ha0 ha h1 h2 h3 h4 h5 (fun i hi y hy => by
      have := hel i hi
      unfold EV cv at this
      dsimp only at this
      rw [hy] at this
      exact this) hR hdg (kk _ ⟨rfl, Or.inr (Or.inr (Or.inr (Or.inr ⟨k1, _, rfl⟩)))⟩ (fun i => hsplit f g (fun z => .inr (.inr (.inr (.inr z)))) i))
end V30
/-- the rows of ints lie where ja says -/
def JH (G : hp_G) (M : hp_h) (ja : Nat → Nat) (J : Nat) : Prop := ∀ j, j < J → ∃ x, M (ja j) = some (.inl (G.2 4, x))
theorem KTY_Z {k : Nat} (hk : k ≤ 4) : KTY k = KTZ k := by
  match k, hk with
  | 0, _ => rfl
  | 1, _ => rfl
  | 2, _ => rfl
  | 3, _ => rfl
  | 4, _ => rfl
  | n + 5, h => exact absurd h (by omega)
/-- what tells something may be laid into a row of its kind, and of units into rows of units -/
theorem CE.ev {G : hp_G} {M : hp_h} {U J : Nat} {ua ja : Nat → Nat} {k : Nat} {x : vp_A} {i : Nat} {b : Int64} (h : CE U J ua ja k x i b) (hu : UH M ua U) (hj : JH G M ja J) (hc : k = 9 → b = -1 ∨ ∀ u, b = lN u → u < U → ∃ ci vs, (ci = 6 ∨ ci = 7) ∧ M (ua u) = some (.inr (ci, vs))) : EV G M k (cv x.2 i) := by
  rcases h with ⟨h, f, h1, h2, h3⟩ | ⟨h, f, h1, h2⟩ | ⟨h, f, h1, h2, h3⟩ | ⟨h, f, h1, h2, h3⟩ | ⟨h, f, h1, h2⟩ | ⟨h, f, h1, h2⟩ <;> rw [h1]
  · show fits (KTZ k) _ = true
    rw [← KTY_Z h]
    exact h3
  · trivial
  · trivial
  · trivial
  · show EV G M k (.inr (.inr (.inr (.inr (f i)))))
    rcases h2 with ⟨-, h2⟩ | ⟨u, u1, u2, u3⟩
    · rw [h2]; trivial
    · rw [u3]
      show hp_AS G M (KTZ k) (ua u)
      obtain ⟨ci, y, c1, c2⟩ := hu.2 u u1
      rcases h with rfl | rfl
      · rcases c1 with rfl | rfl | rfl
        · exact Or.inl ⟨_, _, _, (RX21, TX21, 2), rfl, c2, rfl, Or.inl rfl⟩
        · exact Or.inl ⟨_, _, _, (RX22, TX22, 2), rfl, c2, rfl, Or.inr q1832⟩
        · exact Or.inl ⟨_, _, _, (RX23, TX23, 2), rfl, c2, rfl, Or.inr q1833⟩
      · rcases hc rfl with hc | hc
        · rw [u2] at hc
          have hb := hu.1
          exact absurd hc (fun z => by
            have := congrArg Int64.toInt z
            rw [lN_toInt (by omega)] at this
            simp at this)
        · obtain ⟨ci, vs, d1, d2⟩ := hc u u2 u1
          rcases d1 with rfl | rfl
          · exact Or.inl ⟨_, _, _, (RX22, TX22, 2), rfl, d2, rfl, Or.inl rfl⟩
          · exact Or.inl ⟨_, _, _, (RX23, TX23, 2), rfl, d2, rfl, Or.inr q1878⟩
  · show EV G M k (.inr (.inr (.inr (.inr (f i)))))
    rcases h2 with ⟨-, h2⟩ | ⟨u, u1, u2, u3⟩
    · rw [h2]; trivial
    · rw [u3, h]
      exact Or.inr (Or.inr ⟨rfl, hj u u1⟩)
