set_option maxRecDepth 100000
section W54
theorem hasRoom9 {s : State} {pl : Platform} {r r' : Room} (hf : r.frames ≤ r'.frames) (hl : r.locals ≤ r'.locals) (hc : r.cells ≤ r'.cells) (hs : r.slots ≤ r'.slots) (h : s.hasRoom pl r' = true) : s.hasRoom pl r = true := by
  simp only [State.hasRoom, Bool.and_eq_true, decide_eq_true_eq] at h ⊢
  obtain ⟨⟨⟨⟨y, a, b, c, d, e⟩, f⟩, g⟩, i⟩ := h
  exact ⟨⟨⟨⟨by omega, by omega, by omega, by omega, by omega, e⟩, by omega⟩, by omega⟩, i⟩
theorem sbn9 {s s' : State} {locs : List Loc} {c n c' n' : Nat} (h : s.sameButNew s' locs c n) (hc : c ≤ c') (hn : n ≤ n') : s.sameButNew s' locs c' n' := by
  obtain ⟨h1, h2, h3, h4, h5, h6⟩ := h
  exact ⟨h1, h2, by omega, h4, by omega, h6⟩
/-- a contract says less over more room -/
theorem HM.weak {l : Launch} {y : MethodName} {ws : List Cond} {fr lo mc ms fr' lo' mc' ms' : Nat} {G : hp_G} {X : Nat → Nat} {N0 : Nat} {av : List Value} {M : hp_h} {Post Post' : Option Value → hp_h → Prop} {PX PX' : Nat → String → hp_h → Prop}
    (h : HM l y ws fr lo mc ms G X N0 av M Post PX) (hP : ∀ v M', Post v M' → Post' v M') (hX : ∀ q E M', PX q E M' → PX' q E M') (hf : fr ≤ fr' := by first | omega | decide) (hl : lo ≤ lo' := by first | omega | decide) (hc : mc ≤ mc' := by first | omega | decide) (hs : ms ≤ ms' := by first | omega | decide) : HM l y ws fr' lo' mc' ms' G X N0 av M Post' PX' := by
  intro p e ha hcs hk s m args below hfr happ hPr hK
  obtain ⟨a1, a2, a3, a4, a5, a6, a7, a8⟩ := (Spec.appliesLoose_iff hfr).mp happ
  obtain ⟨n, o, b1, b2, b3, b4⟩ := h p e ha hcs hk s m args below hfr ((Spec.appliesLoose_iff hfr).mpr ⟨a1, a2, a3, a4, a5, a6, hasRoom9 (r' := { frames := fr', cells := mc', slots := ms', locals := lo' }) hf hl hc hs a7, a8⟩) hPr hK
  refine ⟨n, o, b1, b2, b3, ?_⟩
  rcases b4 with ⟨⟨v, M', c1, c2, c3⟩, L, ⟨c4, c5, c6⟩, c7⟩ | ⟨q, c1, E, ce, L, ⟨M', c2, c3⟩, c4, c5, c6, c7, c8, c9⟩
  · exact Or.inl ⟨⟨v, M', c1, hP _ _ c2, c3⟩, L, ⟨c4, c5, sbn9 c6 hc hs⟩, c7⟩
  · exact Or.inr ⟨q, c1, E, ce, L, ⟨M', hX _ _ _ c2, c3⟩, c4, c5, c6, c7, sbn9 c8 hc hs, c9⟩
end W54
theorem mf_pre_at {bad : Nat → Bool} : ∀ {N : Nat}, mf_pre bad N < N → bad (mf_pre bad N) = true
  | 0, h => absurd h (Nat.not_lt_zero _)
  | N + 1, h => by
    unfold mf_pre at h ⊢
    by_cases e : mf_pre bad N < N
    · rw [if_pos e]; exact mf_pre_at e
    · rw [if_neg e] at h ⊢
      by_cases e2 : bad N = true
      · rw [if_pos e2]; exact e2
      · rw [if_neg e2] at h; omega
theorem i64_inj {j : Int32} {x : Int32} (h : j.toInt64 = x.toInt64) : j = x := by
  have e := congrArg Int64.toInt h
  rw [Int32.toInt_toInt64, Int32.toInt_toInt64] at e
  exact Int32.toInt_inj.mp e
theorem fill_j10 {σ : MS} {j : Int32} (h : mf_goes σ (nI 10) j.toInt64) : j = -1 ∨ ∃ m, m ≤ 40 ∧ j = nI m := by
  have hb : j.toInt64 = -1 ∨ ∃ m : Nat, m < 41 ∧ j.toInt64 = lN m := by
    rcases h with y | y | y
    · exact absurd y (by decide)
    · exact (inUn (b := j.toInt64) (x := nI 41) (n := 41) rfl (by decide)).mp y.2
    · exact absurd rfl y.1
  rcases hb with y | ⟨m, hm, y⟩
  · exact Or.inl (i64_inj (x := -1) y)
  · exact Or.inr ⟨m, by omega, i64_inj (by rw [y, nI_l (by omega)])⟩
theorem fill_j89 {σ : MS} (hI : MI σ) {k : Nat} (hk : k = 8 ∨ k = 9) {j : Int32} (h : mf_goes σ (nI k) j.toInt64) : j = -1 ∨ ∃ u, u < nU σ ∧ j = nI u := by
  have hU := hI.U.2
  have hb : j.toInt64 = -1 ∨ ∃ m : Nat, m < nU σ ∧ j.toInt64 = lN m := by
    rcases h with y | y | y
    · exact absurd ((nI_ltI (b := 8) (by omega) (by decide)).mp y) (by omega)
    · exact absurd ((nI_eq (b := 10) (by omega) (by decide)).mp y.1) (by omega)
    · exact (inUn hI.U.1 (by omega)).mp y.2
  rcases hb with y | ⟨m, hm, y⟩
  · exact Or.inl (i64_inj (x := -1) y)
  · exact Or.inr ⟨m, hm, i64_inj (by rw [y, nI_l (by omega)])⟩
set_option maxHeartbeats 1000000 in
theorem c_work_0 (l : Launch) (hl : l.stackTraces = false) (G : hp_G) (X : Nat → Nat) (N0 : Nat) (M : hp_h) (g : RG) (σ : MS) (z : Nat → Int32) (C9 c9 : Nat) (hC : c9 + 1 = C9) (hR : REL G (X 0) g σ z (σ.1 31) C9 M) (hI : MI σ) (P9 K9 rr rs : Nat) (x0 i j n : Int32) (hP9 : P9 < 6) (hK9 : K9 < psz σ P9) (hr : rr < nR σ) (hs : rs < nR σ) (hAF : AF σ P9 K9 = [.int x0, .int (nI rr), .int i, .int (nI rs), .int j, .int n]) (hm : MW σ) (h0 : σ.2.2.2 = 0) (hJ8 : nJ σ < 8000) : HM l yX4_work (wsW_ yX4_work cX4_work 6 (some .long) [(60, 78, 81, 61), (60, 78, 92, 63)]) 24 11400 9 320 G X N0 [.ref (qH g 0), .ref (qA g P9 K9), .ref (qC g c9)] M (WP G (X 0) g σ z C9 M (mf_copy σ rr i rs j n)) (WX G (X 0) g σ z C9 M (mf_copy σ rr i rs j n)) := by
  have hkL := (hI.k hr).2
  have hkS := (hI.k hs).2
  have hlr := hI.l hr
  have hls := hI.l hs
  by_cases hkk : kd σ rr = kd σ rs ∨ ((kd σ rr = 8 ∨ kd σ rr = 9) ∧ (kd σ rs = 8 ∨ kd σ rs = 9))
  · by_cases hp : mf_places σ rr i n ∧ mf_places σ rs j n
    · obtain ⟨I, N, rfl, rfl, h1⟩ := places_n hlr hp.1
      obtain ⟨J, N', rfl, e2, h2⟩ := places_n hls hp.2
      have e2 := (nI_eq (by omega) (by omega)).mp e2
      subst e2
      obtain ⟨k9, hk9⟩ : ∃ k, k = mf_pre (fun y => mf_bad σ rs (el σ rr (I + y))) N := ⟨_, rfl⟩
      have hle := mf_pre_le (bad := fun y => mf_bad σ rs (el σ rr (I + y))) N
      have hno : ∀ y, y < k9 → mf_bad σ rs (el σ rr (I + y)) = false := fun y hy => mf_pre_no (N := N) (by rw [← hk9]; exact hy)
      by_cases hlt : k9 < N
      · have hbk := mf_pre_at (bad := fun y => mf_bad σ rs (el σ rr (I + y))) (N := N) (by rw [← hk9]; exact hlt)
        rw [← hk9] at hbk
        have hb := of_decide_eq_true hbk
        have hk9' : kd σ rs = 9 := by
          have := hb.1
          rw [(hI.k hs).1] at this
          exact (nI_eq (b := 9) (by omega) (by decide)).mp this
        have hk8 : kd σ rr = 8 := by
          by_cases e9 : kd σ rr = 9
          · exfalso
            refine hb.2 ?_
            rcases hm rr hr e9 (I + k9) (by omega) with y | ⟨u, y1, y2, y3⟩
            · exact Or.inl y
            · have y2 : el σ rr (I + k9) = lN u := y2
              rw [y2]; exact Or.inr (isCard_lN hI y1 y3)
          · omega
        exact (c_X4_work_4 l hl G X N0 M g σ z C9 c9 hC hR hI P9 K9 rr rs x0 _ _ _ hP9 hK9 hr hs hAF hk8 hk9' hm I J N k9 rfl rfl rfl h1 h2 hlt hno hbk).weak (fun _ _ y => y.elim) (fun _ _ _ y => y)
      · have : k9 = N := by omega
        subst this
        exact (c_X4_work l hl G X N0 M g σ z C9 c9 hC hR hI P9 K9 rr rs x0 _ _ _ hP9 hK9 hr hs hAF hkk hm I J k9 rfl rfl rfl h1 h2 hno h0).weak (fun _ _ y => y) (fun _ _ _ y => y.elim)
    · exact (c_X4_work_3 l hl G X N0 M g σ z C9 c9 hC hR hI P9 K9 rr rs x0 i j n hP9 hK9 hr hs hAF hkk hm hp).weak (fun _ _ y => y.elim) (fun _ _ _ y => y)
  · by_cases h10 : kd σ rr = 10 ↔ kd σ rs = 10
    · exact (c_X4_work_2 l hl G X N0 M g σ z C9 c9 hC hR hI P9 K9 rr rs x0 i j n hP9 hK9 hr hs hAF h10 hkk hm).weak (fun _ _ y => y.elim) (fun _ _ _ y => y)
    · exact (c_X4_work_1 l hl G X N0 M g σ z C9 c9 hC hR hI P9 K9 rr rs x0 i j n hP9 hK9 hr hs hAF h10).weak (fun _ _ y => y.elim) (fun _ _ _ y => y)
set_option maxHeartbeats 1000000 in
theorem c_work_1 (l : Launch) (hl : l.stackTraces = false) (G : hp_G) (X : Nat → Nat) (N0 : Nat) (M : hp_h) (g : RG) (σ : MS) (z : Nat → Int32) (C9 c9 : Nat) (hC : c9 + 1 = C9) (hR : REL G (X 0) g σ z (σ.1 31) C9 M) (hI : MI σ) (P9 K9 rr : Nat) (x0 i b j n : Int32) (hP9 : P9 < 6) (hK9 : K9 < psz σ P9) (hr : rr < nR σ) (hAF : AF σ P9 K9 = [.int x0, .int (nI rr), .int i, .int b, .int j, .int n]) (hm : MW σ) (h0 : σ.2.2.2 = 0) (hJ8 : nJ σ < 8000) : HM l yX6_work (ws_ yX6_work cX6_work 3 (some .long)) 24 11400 9 320 G X N0 [.ref (qH g 1), .ref (qA g P9 K9), .ref (qC g c9)] M (WP G (X 0) g σ z C9 M (mf_copyRow σ rr)) (WX G (X 0) g σ z C9 M (mf_copyRow σ rr)) := by
  by_cases h60 : nR σ = 60
  · exact (c_X6_work_f l hl G X N0 M g σ z C9 c9 hC hR hI P9 K9 rr x0 i b j n hP9 hK9 hr hAF h60).weak (fun _ _ y => y.elim) (fun _ _ _ y => y)
  · exact (c_X6_work l hl G X N0 M g σ z C9 c9 hC hR hI P9 K9 rr x0 i b j n hP9 hK9 hr hAF h60 hm).weak (fun _ _ y => y) (fun _ _ _ y => y.elim)
set_option maxHeartbeats 1000000 in
theorem c_work_2 (l : Launch) (hl : l.stackTraces = false) (G : hp_G) (X : Nat → Nat) (N0 : Nat) (M : hp_h) (g : RG) (σ : MS) (z : Nat → Int32) (C9 c9 : Nat) (hC : c9 + 1 = C9) (hR : REL G (X 0) g σ z (σ.1 31) C9 M) (hI : MI σ) (P9 K9 rr : Nat) (x0 i b j n : Int32) (hP9 : P9 < 6) (hK9 : K9 < psz σ P9) (hr : rr < nR σ) (hAF : AF σ P9 K9 = [.int x0, .int (nI rr), .int i, .int b, .int j, .int n]) (hm : MW σ) (h0 : σ.2.2.2 = 0) (hJ8 : nJ σ < 8000) : HM l yX8_work (wsW_ yX8_work cX8_work 8 (some .long) [(114, 153, 156, 70)]) 24 11400 9 320 G X N0 [.ref (qH g 2), .ref (qA g P9 K9), .ref (qC g c9)] M (WP G (X 0) g σ z C9 M (mf_fill σ rr i j n)) (WX G (X 0) g σ z C9 M (mf_fill σ rr i j n)) := by
  have hkL := (hI.k hr).2
  have hk9 : 0 ≤ kd σ rr ∧ kd σ rr ≤ 10 := ⟨Nat.zero_le _, hkL⟩
  by_cases hg : mf_goes σ (nI (kd σ rr)) j.toInt64
  · by_cases hp : mf_places σ rr i n
    · by_cases hk7 : kd σ rr ≤ 7
      · by_cases hn0 : n = 0
        · exact (c_X8_work_Az l hl G X N0 M g σ z C9 c9 hC hR hI P9 K9 rr x0 i b j n hP9 hK9 hr hAF hk9 hk7 hg hp hm h0 hn0).weak (fun _ _ y => y) (fun _ _ _ y => y.elim)
        · exact (c_X8_work_A l hl G X N0 M g σ z C9 c9 hC hR hI P9 K9 rr x0 i b j n hP9 hK9 hr hAF hk9 hk7 hg hp hm h0 hn0).weak (fun _ _ y => y) (fun _ _ _ y => y.elim)
      · by_cases hkk : kd σ rr = 10
        · rcases fill_j10 (by rw [hkk] at hg; exact hg) with hj | ⟨m9, hm9, hj⟩
          · by_cases hn0 : n = 0
            · exact (c_X8_work_Cnz l hl G X N0 M g σ z C9 c9 hC hR hI P9 K9 rr x0 i b j n hP9 hK9 hr hAF hk9 hkk hj hg hp hm h0 hn0).weak (fun _ _ y => y) (fun _ _ _ y => y.elim)
            · exact (c_X8_work_Cn l hl G X N0 M g σ z C9 c9 hC hR hI P9 K9 rr x0 i b j n hP9 hK9 hr hAF hk9 hkk hj hg hp hm h0 hn0).weak (fun _ _ y => y) (fun _ _ _ y => y.elim)
          · by_cases hn0 : n = 0
            · exact (c_X8_work_Csz l hl G X N0 M g σ z C9 c9 hC hR hI P9 K9 rr x0 i b j n hP9 hK9 hr hAF hk9 hkk m9 hm9 hj hg hp hm h0 hn0).weak (fun _ _ y => y) (fun _ _ _ y => y.elim)
            · exact (c_X8_work_Cs l hl G X N0 M g σ z C9 c9 hC hR hI P9 K9 rr x0 i b j n hP9 hK9 hr hAF hk9 hkk m9 hm9 hj hg hp hm h0 hn0 hJ8).weak (fun _ _ y => y) (fun _ _ _ y => y.elim)
        · have hkk8 : kd σ rr = 8 ∨ kd σ rr = 9 := by omega
          rcases fill_j89 hI hkk8 hg with hj | ⟨u, hu, hj⟩
          · rcases hkk8 with hkk | hkk
            · by_cases hn0 : n = 0
              · exact (c_X8_work_B8nz l hl G X N0 M g σ z C9 c9 hC hR hI P9 K9 rr x0 i b j n hP9 hK9 hr hAF hk9 hkk hj hg hp hm h0 hn0).weak (fun _ _ y => y) (fun _ _ _ y => y.elim)
              · exact (c_X8_work_B8n l hl G X N0 M g σ z C9 c9 hC hR hI P9 K9 rr x0 i b j n hP9 hK9 hr hAF hk9 hkk hj hg hp hm h0 hn0).weak (fun _ _ y => y) (fun _ _ _ y => y.elim)
            · by_cases hn0 : n = 0
              · exact (c_X8_work_B9nz l hl G X N0 M g σ z C9 c9 hC hR hI P9 K9 rr x0 i b j n hP9 hK9 hr hAF hk9 hkk hj hg hp hm h0 hn0).weak (fun _ _ y => y) (fun _ _ _ y => y.elim)
              · exact (c_X8_work_B9n l hl G X N0 M g σ z C9 c9 hC hR hI P9 K9 rr x0 i b j n hP9 hK9 hr hAF hk9 hkk hj hg hp hm h0 hn0).weak (fun _ _ y => y) (fun _ _ _ y => y.elim)
          · rcases hkk8 with hkk | hkk
            · by_cases hn0 : n = 0
              · exact (c_X8_work_B8uz l hl G X N0 M g σ z C9 c9 hC hR hI P9 K9 rr x0 i b j n hP9 hK9 hr hAF hk9 hkk u hu hj hg hp hm h0 hn0).weak (fun _ _ y => y) (fun _ _ _ y => y.elim)
              · exact (c_X8_work_B8u l hl G X N0 M g σ z C9 c9 hC hR hI P9 K9 rr x0 i b j n hP9 hK9 hr hAF hk9 hkk u hu hj hg hp hm h0 hn0).weak (fun _ _ y => y) (fun _ _ _ y => y.elim)
            · by_cases hn0 : n = 0
              · exact (c_X8_work_B9uz l hl G X N0 M g σ z C9 c9 hC hR hI P9 K9 rr x0 i b j n hP9 hK9 hr hAF hk9 hkk u hu hj hg hp hm h0 hn0).weak (fun _ _ y => y) (fun _ _ _ y => y.elim)
              · by_cases hcd : (σ.2.1 6 u).toNatClampNeg = 0
                · exact (c_X8_work_3 l hl G X N0 M g σ z C9 c9 hC hR hI P9 K9 rr x0 i b j n hP9 hK9 hr hAF hk9 hkk u hu hj hg hp hm hcd hn0).weak (fun _ _ y => y.elim) (fun _ _ _ y => y)
                · exact (c_X8_work_B9u l hl G X N0 M g σ z C9 c9 hC hR hI P9 K9 rr x0 i b j n hP9 hK9 hr hAF hk9 hkk u hu hj hg hp hm h0 hn0 hcd).weak (fun _ _ y => y) (fun _ _ _ y => y.elim)
    · exact (c_X8_work_2 l hl G X N0 M g σ z C9 c9 hC hR hI P9 K9 rr x0 i b j n hP9 hK9 hr hAF hk9 hg hp).weak (fun _ _ y => y.elim) (fun _ _ _ y => y)
  · exact (c_X8_work_4 l hl G X N0 M g σ z C9 c9 hC hR hI P9 K9 rr x0 i b j n hP9 hK9 hr hAF hg).weak (fun _ _ y => y.elim) (fun _ _ _ y => y)
set_option maxHeartbeats 1000000 in
theorem c_work_3 (l : Launch) (hl : l.stackTraces = false) (G : hp_G) (X : Nat → Nat) (N0 : Nat) (M : hp_h) (g : RG) (σ : MS) (z : Nat → Int32) (C9 c9 : Nat) (hC : c9 + 1 = C9) (hR : REL G (X 0) g σ z (σ.1 31) C9 M) (hI : MI σ) (P9 K9 rr rs : Nat) (x0 i j n : Int32) (hP9 : P9 < 6) (hK9 : K9 < psz σ P9) (hr : rr < nR σ) (hs : rs < nR σ) (hAF : AF σ P9 K9 = [.int x0, .int (nI rr), .int i, .int (nI rs), .int j, .int n]) (hm : MW σ) (h0 : σ.2.2.2 = 0) (hJ8 : nJ σ < 8000) : HM l yX10_work (ws_ yX10_work cX10_work 7 (some .long)) 24 11400 9 320 G X N0 [.ref (qH g 3), .ref (qA g P9 K9), .ref (qC g c9)] M (WP G (X 0) g σ z C9 M (mf_equal σ rr rs)) (WX G (X 0) g σ z C9 M (mf_equal σ rr rs)) := by
  by_cases hd9 : σ.2.1 2 rr = σ.2.1 2 rs ∧ σ.2.1 3 rr = σ.2.1 3 rs
  · have hke : kd σ rr = kd σ rs := congrArg Int32.toNatClampNeg hd9.1
    have hle : ln σ rr = ln σ rs := congrArg Int32.toNatClampNeg hd9.2
    have hkL := (hI.k hr).2
    by_cases h10 : kd σ rr = 10
    · exact (c_X10_work_10 l hl G X N0 M g σ z C9 c9 hC hR hI P9 K9 rr rs x0 i j n hP9 hK9 hr hs hAF h10 hke hle).weak (fun _ _ y => y) (fun _ _ _ y => y.elim)
    · exact (c_X10_work_9 l hl G X N0 M g σ z C9 c9 hC hR hI P9 K9 rr rs x0 i j n hP9 hK9 hr hs hAF (by omega) hke hle).weak (fun _ _ y => y) (fun _ _ _ y => y.elim)
  · exact (c_X10_work_d l hl G X N0 M g σ z C9 c9 hC hR hI P9 K9 rr rs x0 i j n hP9 hK9 hr hs hAF hd9).weak (fun _ _ y => y) (fun _ _ _ y => y.elim)
set_option maxHeartbeats 1000000 in
theorem c_work_4 (l : Launch) (hl : l.stackTraces = false) (G : hp_G) (X : Nat → Nat) (N0 : Nat) (M : hp_h) (g : RG) (σ : MS) (z : Nat → Int32) (C9 c9 : Nat) (hC : c9 + 1 = C9) (hR : REL G (X 0) g σ z (σ.1 31) C9 M) (hI : MI σ) (P9 K9 rr rs : Nat) (x0 i j n : Int32) (hP9 : P9 < 6) (hK9 : K9 < psz σ P9) (hr : rr < nR σ) (hs : rs < nR σ) (hAF : AF σ P9 K9 = [.int x0, .int (nI rr), .int i, .int (nI rs), .int j, .int n]) (hm : MW σ) (h0 : σ.2.2.2 = 0) (hJ8 : nJ σ < 8000) : HM l yX11_work (ws_ yX11_work cX11_work 8 (some .long)) 24 11400 9 320 G X N0 [.ref (qH g 4), .ref (qA g P9 K9), .ref (qC g c9)] M (WP G (X 0) g σ z C9 M (mf_orderRows σ rr rs)) (WX G (X 0) g σ z C9 M (mf_orderRows σ rr rs)) := by
  by_cases hk9 : 1 ≤ kd σ rr ∧ kd σ rr ≤ 7
  · by_cases hke : kd σ rr = kd σ rs
    · exact (c_X11_work l hl G X N0 M g σ z C9 c9 hC hR hI P9 K9 rr rs x0 i j n hP9 hK9 hr hs hAF hk9 hke).weak (fun _ _ y => y) (fun _ _ _ y => y.elim)
    · exact (c_X11_work_d l hl G X N0 M g σ z C9 c9 hC hR hI P9 K9 rr rs x0 i j n hP9 hK9 hr hs hAF hk9 hke).weak (fun _ _ y => y.elim) (fun _ _ _ y => y)
  · exact (c_X11_work_k l hl G X N0 M g σ z C9 c9 hC hR hI P9 K9 rr rs x0 i j n hP9 hK9 hr hs hAF hk9).weak (fun _ _ y => y.elim) (fun _ _ _ y => y)
set_option maxHeartbeats 1000000 in
theorem c_work_5 (l : Launch) (hl : l.stackTraces = false) (G : hp_G) (X : Nat → Nat) (N0 : Nat) (M : hp_h) (g : RG) (σ : MS) (z : Nat → Int32) (C9 c9 : Nat) (hC : c9 + 1 = C9) (hR : REL G (X 0) g σ z (σ.1 31) C9 M) (hI : MI σ) (P9 K9 rr : Nat) (x0 i b j n : Int32) (hP9 : P9 < 6) (hK9 : K9 < psz σ P9) (hr : rr < nR σ) (hAF : AF σ P9 K9 = [.int x0, .int (nI rr), .int i, .int b, .int j, .int n]) (hm : MW σ) (h0 : σ.2.2.2 = 0) (hJ8 : nJ σ < 8000) : HM l yX12_work (ws_ yX12_work cX12_work 4 (some .long)) 24 11400 9 320 G X N0 [.ref (qH g 5), .ref (qA g P9 K9), .ref (qC g c9)] M (WP G (X 0) g σ z C9 M (mf_sum σ rr)) (WX G (X 0) g σ z C9 M (mf_sum σ rr)) := by
  exact (c_X12_work l hl G X N0 M g σ z C9 c9 hC hR hI P9 K9 rr x0 i b j n hP9 hK9 hr hAF).weak (fun _ _ y => y) (fun _ _ _ y => y.elim)
set_option maxHeartbeats 1000000 in
theorem c_work_6 (l : Launch) (hl : l.stackTraces = false) (G : hp_G) (X : Nat → Nat) (N0 : Nat) (M : hp_h) (g : RG) (σ : MS) (z : Nat → Int32) (C9 c9 : Nat) (hC : c9 + 1 = C9) (hR : REL G (X 0) g σ z (σ.1 31) C9 M) (hI : MI σ) (P9 K9 rr : Nat) (x0 i b j n : Int32) (hP9 : P9 < 6) (hK9 : K9 < psz σ P9) (hr : rr < nR σ) (hAF : AF σ P9 K9 = [.int x0, .int (nI rr), .int i, .int b, .int j, .int n]) (hm : MW σ) (h0 : σ.2.2.2 = 0) (hJ8 : nJ σ < 8000) : HM l yX13_work (ws_ yX13_work cX13_work 6 (some .long)) 24 11400 9 320 G X N0 [.ref (qH g 6), .ref (qA g P9 K9), .ref (qC g c9)] M (WP G (X 0) g σ z C9 M (mf_greatest σ rr)) (WX G (X 0) g σ z C9 M (mf_greatest σ rr)) := by
  by_cases hk9 : 1 ≤ kd σ rr ∧ kd σ rr ≤ 7
  · by_cases hl0 : ln σ rr = 0
    · exact (c_X13_work_0 l hl G X N0 M g σ z C9 c9 hC hR hI P9 K9 rr x0 i b j n hP9 hK9 hr hAF hk9 hl0).weak (fun _ _ y => y.elim) (fun _ _ _ y => y)
    · exact (c_X13_work l hl G X N0 M g σ z C9 c9 hC hR hI P9 K9 rr x0 i b j n hP9 hK9 hr hAF hk9 hl0).weak (fun _ _ y => y) (fun _ _ _ y => y.elim)
  · exact (c_X13_work_k l hl G X N0 M g σ z C9 c9 hC hR hI P9 K9 rr x0 i b j n hP9 hK9 hr hAF hk9).weak (fun _ _ y => y.elim) (fun _ _ _ y => y)
set_option maxHeartbeats 1000000 in
theorem c_work_7 (l : Launch) (hl : l.stackTraces = false) (G : hp_G) (X : Nat → Nat) (N0 : Nat) (M : hp_h) (g : RG) (σ : MS) (z : Nat → Int32) (C9 c9 : Nat) (hC : c9 + 1 = C9) (hR : REL G (X 0) g σ z (σ.1 31) C9 M) (hI : MI σ) (P9 K9 rr : Nat) (x0 i b j n : Int32) (hP9 : P9 < 6) (hK9 : K9 < psz σ P9) (hr : rr < nR σ) (hAF : AF σ P9 K9 = [.int x0, .int (nI rr), .int i, .int b, .int j, .int n]) (hm : MW σ) (h0 : σ.2.2.2 = 0) (hJ8 : nJ σ < 8000) : HM l yX14_work (ws_ yX14_work cX14_work 6 (some .long)) 24 11400 9 320 G X N0 [.ref (qH g 7), .ref (qA g P9 K9), .ref (qC g c9)] M (WP G (X 0) g σ z C9 M (mf_turn σ rr i n)) (WX G (X 0) g σ z C9 M (mf_turn σ rr i n)) := by
  have hk9 : 0 ≤ kd σ rr ∧ kd σ rr ≤ 10 := ⟨Nat.zero_le _, (hI.k hr).2⟩
  by_cases hp : mf_places σ rr i n
  · exact (c_X14_work l hl G X N0 M g σ z C9 c9 hC hR hI P9 K9 rr x0 i b j n hP9 hK9 hr hAF hk9 hp hm h0).weak (fun _ _ y => y) (fun _ _ _ y => y.elim)
  · exact (c_X14_work_p l hl G X N0 M g σ z C9 c9 hC hR hI P9 K9 rr x0 i b j n hP9 hK9 hr hAF hk9 hp).weak (fun _ _ y => y.elim) (fun _ _ _ y => y)
set_option maxHeartbeats 1000000 in
theorem c_work_8 (l : Launch) (hl : l.stackTraces = false) (G : hp_G) (X : Nat → Nat) (N0 : Nat) (M : hp_h) (g : RG) (σ : MS) (z : Nat → Int32) (C9 c9 : Nat) (hC : c9 + 1 = C9) (hR : REL G (X 0) g σ z (σ.1 31) C9 M) (hI : MI σ) (P9 K9 rr : Nat) (x0 i b j n : Int32) (hP9 : P9 < 6) (hK9 : K9 < psz σ P9) (hr : rr < nR σ) (hAF : AF σ P9 K9 = [.int x0, .int (nI rr), .int i, .int b, .int j, .int n]) (hm : MW σ) (h0 : σ.2.2.2 = 0) (hJ8 : nJ σ < 8000) : HM l yX15_work (ws_ yX15_work cX15_work 7 (some .long)) 24 11400 9 320 G X N0 [.ref (qH g 8), .ref (qA g P9 K9), .ref (qC g c9)] M (WP G (X 0) g σ z C9 M (mf_sort σ rr i n)) (WX G (X 0) g σ z C9 M (mf_sort σ rr i n)) := by
  by_cases hk9 : 1 ≤ kd σ rr ∧ kd σ rr ≤ 7
  · by_cases hp : mf_places σ rr i n
    · exact (c_X15_work l hl G X N0 M g σ z C9 c9 hC hR hI P9 K9 rr x0 i b j n hP9 hK9 hr hAF hk9 hp hm h0).weak (fun _ _ y => y) (fun _ _ _ y => y.elim)
    · exact (c_X15_work_p l hl G X N0 M g σ z C9 c9 hC hR hI P9 K9 rr x0 i b j n hP9 hK9 hr hAF hk9 hp).weak (fun _ _ y => y.elim) (fun _ _ _ y => y)
  · exact (c_X15_work_k l hl G X N0 M g σ z C9 c9 hC hR hI P9 K9 rr x0 i b j n hP9 hK9 hr hAF hk9).weak (fun _ _ y => y.elim) (fun _ _ _ y => y)
set_option maxHeartbeats 1000000 in
theorem c_work_9 (l : Launch) (hl : l.stackTraces = false) (G : hp_G) (X : Nat → Nat) (N0 : Nat) (M : hp_h) (g : RG) (σ : MS) (z : Nat → Int32) (C9 c9 : Nat) (hC : c9 + 1 = C9) (hR : REL G (X 0) g σ z (σ.1 31) C9 M) (hI : MI σ) (P9 K9 rr : Nat) (x0 i b j n : Int32) (hP9 : P9 < 6) (hK9 : K9 < psz σ P9) (hr : rr < nR σ) (hAF : AF σ P9 K9 = [.int x0, .int (nI rr), .int i, .int b, .int j, .int n]) (hm : MW σ) (h0 : σ.2.2.2 = 0) (hJ8 : nJ σ < 8000) : HM l yX16_work (ws_ yX16_work cX16_work 7 (some .long)) 24 11400 9 320 G X N0 [.ref (qH g 9), .ref (qA g P9 K9), .ref (qC g c9)] M (WP G (X 0) g σ z C9 M (mf_findIn σ rr i j n)) (WX G (X 0) g σ z C9 M (mf_findIn σ rr i j n)) := by
  by_cases hk9 : 0 ≤ kd σ rr ∧ kd σ rr ≤ 7
  · by_cases hp : mf_places σ rr i n
    · exact (c_X16_work l hl G X N0 M g σ z C9 c9 hC hR hI P9 K9 rr x0 i b j n hP9 hK9 hr hAF hk9 hp).weak (fun _ _ y => y) (fun _ _ _ y => y.elim)
    · exact (c_X16_work_p l hl G X N0 M g σ z C9 c9 hC hR hI P9 K9 rr x0 i b j n hP9 hK9 hr hAF hk9 hp).weak (fun _ _ y => y.elim) (fun _ _ _ y => y)
  · exact (c_X16_work_k l hl G X N0 M g σ z C9 c9 hC hR hI P9 K9 rr x0 i b j n hP9 hK9 hr hAF hk9).weak (fun _ _ y => y.elim) (fun _ _ _ y => y)
set_option maxHeartbeats 1000000 in
theorem c_work_12 (l : Launch) (hl : l.stackTraces = false) (G : hp_G) (X : Nat → Nat) (N0 : Nat) (M : hp_h) (g : RG) (σ : MS) (z : Nat → Int32) (C9 c9 : Nat) (hC : c9 + 1 = C9) (hR : REL G (X 0) g σ z (σ.1 31) C9 M) (hI : MI σ) (P9 K9 rr : Nat) (x0 i b j n : Int32) (hP9 : P9 < 6) (hK9 : K9 < psz σ P9) (hr : rr < nR σ) (hAF : AF σ P9 K9 = [.int x0, .int (nI rr), .int i, .int b, .int j, .int n]) (hm : MW σ) (h0 : σ.2.2.2 = 0) (hJ8 : nJ σ < 8000) : HM l yX19_work (ws_ yX19_work cX19_work 11 (some .long)) 24 11400 9 320 G X N0 [.ref (qH g 12), .ref (qA g P9 K9), .ref (qC g c9)] M (WP G (X 0) g σ z C9 M (mf_fees σ rr)) (WX G (X 0) g σ z C9 M (mf_fees σ rr)) := by
  by_cases hk9 : 8 ≤ kd σ rr ∧ kd σ rr ≤ 9
  · exact (c_X19_work l hl G X N0 M g σ z C9 c9 hC hR hI P9 K9 rr x0 i b j n hP9 hK9 hr hAF hk9 h0).weak (fun _ _ y => y) (fun _ _ _ y => y.elim)
  · exact (c_X19_work_k l hl G X N0 M g σ z C9 c9 hC hR hI P9 K9 rr x0 i b j n hP9 hK9 hr hAF hk9).weak (fun _ _ y => y.elim) (fun _ _ _ y => y)
