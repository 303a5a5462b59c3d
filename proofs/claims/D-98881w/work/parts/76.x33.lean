/-! The row stays well under what is done; a run's cells alike -/
set_option maxRecDepth 100000
theorem Wx.frp {C D : Nat → Int32} {W P Dn : Nat} (hw : Wx C W P Dn) (hf : Fr C D) (hp : ∀ r, r < P → Pp D W r) : Wx D W P Dn := ⟨hw.1.fr hf, hw.2.1.fr hf, hp⟩
theorem says_wx {C : Nat → Int32} {W P Dn p k q : Nat} (hw : Wx C W P Dn) (hp : p < P) (hk : k < W) (hq : q < P) : Wx (mSays C p k q) W P Dn := by
  have hP6 := hw.1.2.1.2
  have hW8 := hw.1.1.2
  refine hw.frp (mSays_fr (by omega) (by omega)) fun r hr => ?_
  unfold mSays
  split
  · next e =>
    have hpq : p ≠ q := by
      unfold mSaysB at e
      simp only [Bool.and_eq_true, decide_eq_true_eq] at e
      exact e.1.1
    exact says_pp hW8 hk (by omega) (by omega) (by omega) hpq (hw.2.2 r hr)
  · exact hw.2.2 r hr
theorem keep_wx {C : Nat → Int32} {W P Dn p k : Nat} (hw : Wx C W P Dn) (hp : p < P) (hk : k < W) : Wx (mKeep C p k) W P Dn := by
  have hP6 := hw.1.2.1.2
  have hW8 := hw.1.1.2
  refine hw.frp (mKeep_fr (by omega) (by omega)) fun r hr => ?_
  unfold mKeep
  split
  · next e =>
    unfold mKeepB at e
    simp only [Bool.and_eq_true] at e
    exact strand_pp hW8 hk (by omega) (by omega) e.1 (hw.2.2 r hr)
  · exact hw.2.2 r hr
theorem cut_pp {C : Nat → Int32} {W p b r : Nat} (hW8 : W ≤ 8) (hp : p < 6) (hb : b < 6) (hr : r < 6) (hpb : p ≠ b) (h : Pp C W r) : Pp (cutX C p b (cutS C p b W) (cutT C p b) W) W r := by
  obtain ⟨m, m1, m2, m3⟩ := cutS_T (C := C) (p := p) (b := b) W hW8
  refine ⟨?_, fun k hk => ?_⟩
  · obtain ⟨s, t, h1, h2, h3, h4, h5, h6, h7⟩ := h.sets hW8
    by_cases e : r = b
    · subst e
      refine ⟨s ||| m, t ||| m, ?_, ?_, or_lt8 h3 m1, fun i hi => ?_⟩
      · unfold cutX; rw [if_neg (by omega), if_pos rfl, h1, m2, nI_or]
      · unfold cutX; rw [if_pos rfl, h2, m2, nI_or]
      · rw [Nat.testBit_or, Bool.or_eq_true] at hi ⊢; exact hi.imp (h7 i) id
    · refine ⟨s, t, ?_, ?_, h3, h7⟩
      · unfold cutX; rw [if_neg (by omega), if_neg (by omega), if_neg (by omega), if_neg (by omega), if_neg (by omega)]; exact h1
      · unfold cutX; rw [if_neg (by omega), if_neg (by omega), if_neg (by omega), if_neg (by omega), if_neg (by omega)]; exact h2
  · obtain ⟨a, n, q1, q2, q3, q4⟩ := h.2 k hk
    by_cases e : r = b ∧ k < W ∧ cutT C p b k = true
    · obtain ⟨rfl, e2, e3⟩ := e
      refine ⟨0, 0, ?_, by omega, ?_, by omega⟩
      · unfold cutX
        rw [if_neg (by omega), if_neg (by omega), if_neg (by omega), if_neg (by omega), if_pos ⟨by omega, by omega, by rw [Nat.add_sub_cancel_left]; exact e3⟩]
      · unfold cutX
        rw [if_neg (by omega), if_neg (by omega), if_neg (by omega), if_pos ⟨by omega, by omega, by rw [Nat.add_sub_cancel_left]; exact e3⟩]
    · have ag : cutX C p b (cutS C p b W) (cutT C p b) W (97 + 8 * r + k) = nI a := by
        unfold cutX
        rw [if_neg (by omega), if_neg (by omega), if_neg (by omega), if_neg (by omega), if_neg (fun z => ?_)]
        · exact q1
        · obtain ⟨z1, z2, z3⟩ := z
          have e1 : r = b := by omega
          subst e1
          rw [Nat.add_sub_cancel_left] at z3
          exact e ⟨rfl, by omega, z3⟩
      by_cases c : r = p ∧ k < W ∧ hs (C (43 + p)) k = true
      · obtain ⟨rfl, c2, c3⟩ := c
        refine ⟨a, 0, ag, q2, ?_, by omega⟩
        unfold cutX
        rw [if_neg (by omega), if_neg (by omega), if_pos ⟨by omega, by omega, by rw [Nat.add_sub_cancel_left]; exact c3⟩]
      · refine ⟨a, n, ag, q2, ?_, q4⟩
        unfold cutX
        rw [if_neg (by omega), if_neg (by omega), if_neg (fun z => ?_), if_neg (fun z => ?_), if_neg (by omega)]
        · exact q3
        · obtain ⟨z1, z2, z3⟩ := z
          have e1 : r = b := by omega
          subst e1
          rw [Nat.add_sub_cancel_left] at z3
          exact e ⟨rfl, by omega, z3⟩
        · obtain ⟨z1, z2, z3⟩ := z
          have e1 : r = p := by omega
          subst e1
          rw [Nat.add_sub_cancel_left] at z3
          exact c ⟨rfl, by omega, z3⟩
theorem cut_wx {C : Nat → Int32} {W P Dn p b : Nat} (hw : Wx C W P Dn) (hp : p < P) (hb : b < P) : Wx (mCut C W p b) W P Dn := by
  have hP6 := hw.1.2.1.2
  have hW8 := hw.1.1.2
  refine hw.frp (mCut_fr hW8 (by omega) (by omega)) fun r hr => ?_
  unfold mCut
  split
  · next e =>
    have hpq : p ≠ b := by
      unfold mCutB at e
      simp only [Bool.and_eq_true, decide_eq_true_eq] at e
      exact e.1
    unfold mCutC
    rw [mCut_X hW8 (by omega) (by omega) hpq]
    exact up_pp (cut_pp hW8 (by omega) (by omega) (by omega) hpq (hw.2.2 r hr)) (nocell (by omega))
  · exact hw.2.2 r hr
theorem say_wx {C V : Nat → Int32} {W P Dn p k q : Nat} (hw : Wx C W P Dn) (hp : p < P) (hk : k < W) (hq : q < P) : Wx (ySay p k q C V).2.1 W P Dn := says_wx hw hp hk hq
theorem yDoes_wx {C V : Nat → Int32} {W P Dn w : Nat} (hw : Wx C W P Dn) (hS : Sw C W P w) : Wx (yDoes W P Dn w C V).2.1 W P Dn := by
  have hP6 := hw.1.2.1.2
  have hW8 := hw.1.1.2
  obtain ⟨s0, s1, s2, s3, -⟩ := hS
  unfold yDoes
  split
  · unfold yDay
    split
    · exact days_wx hw _
    · exact hw
  · split
    · next c =>
      obtain ⟨p, k, hp, hk, ep, ek⟩ := s1 c
      rw [ep, ek, ixn_nI (by omega), ixn_nI (by omega)]
      exact keep_wx hw hp hk
    · split
      · next c =>
        obtain ⟨p, k, q, hp, hk, hq, ep, ek, eq⟩ := s2 c
        rw [ep, ek, eq, ixn_nI (by omega), ixn_nI (by omega), ixn_nI (by omega)]
        exact say_wx hw hp hk hq
      · split
        · next c =>
          obtain ⟨p, q, hp, hq, ep, eq⟩ := s3 c
          rw [ep, eq, ixn_nI (by omega), ixn_nI (by omega)]
          exact cut_wx hw hp hq
        · unfold yAny
          split
          · exact hw
          · next c => exact say_wx hw (Nat.mod_lt _ (by omega)) (Nat.mod_lt _ (by omega)) (Nat.mod_lt _ (by omega))
/-- the cells of the run that both sides have are alike -/
def Vq (U V : Nat → Int32) : Prop := ∀ i, 37 ≤ i → i < 44 → V i = U i
theorem Vq.u {U V : Nat → Int32} (h : Vq U V) {i : Nat} {x y : Int32} (e : y = x) : Vq (up U i x) (up V i y) := fun j h1 h2 => by
  by_cases q : j = i
  · rw [q, up_eq, up_eq, e]
  · rw [up_ne q, up_ne q]; exact h j h1 h2
theorem Vq.u1 {U V : Nat → Int32} (h : Vq U V) {i : Nat} {x : Int32} (hi : i < 37 ∨ 44 ≤ i) : Vq (up U i x) V := fun j h1 h2 => by
  rw [up_ne (by omega)]; exact h j h1 h2
theorem Vq.u2 {U V : Nat → Int32} (h : Vq U V) {i : Nat} {x : Int32} (hi : i < 37 ∨ 44 ≤ i) : Vq U (up V i x) := fun j h1 h2 => by
  rw [up_ne (by omega)]; exact h j h1 h2
theorem Vq.draw {U V : Nat → Int32} (h : Vq U V) : Vq (yDraw U) (yDraw V) := h.u (by rw [h 37 (by decide) (by decide)])
theorem Vq.drawn {U V : Nat → Int32} (h : Vq U V) (n : Nat) : yDrawn V n = yDrawn U n := by unfold yDrawn; rw [h 37 (by decide) (by decide)]
/-- alike cells give alike work, and cells beside are untouched -/
def Ya (U V : Nat → Int32) (o o2 : Bool × (Nat → Int32) × (Nat → Int32)) : Prop := o2.1 = o.1 ∧ o2.2.1 = o.2.1 ∧ Vq o.2.2 o2.2.2 ∧ (∀ i, i < 37 ∨ i = 38 ∨ i = 39 ∨ 43 ≤ i → o.2.2 i = U i) ∧ (∀ i, i < 37 ∨ i = 38 ∨ i = 39 ∨ 43 ≤ i → o2.2.2 i = V i)
theorem ySay_cg {C U V U0 V0 : Nat → Int32} {p k q : Nat} (h : Vq U V) (h1 : ∀ i, i < 37 ∨ i = 38 ∨ i = 39 ∨ 43 ≤ i → U i = U0 i) (h2 : ∀ i, i < 37 ∨ i = 38 ∨ i = 39 ∨ 43 ≤ i → V i = V0 i) : Ya U0 V0 (ySay p k q C U) (ySay p k q C V) := by
  unfold ySay
  refine ⟨rfl, rfl, ?_, fun i hi => ?_, fun i hi => ?_⟩
  · dsimp only
    split
    · exact h.u (by rw [h 41 (by decide) (by decide)])
    · exact h
  · dsimp only
    split
    · rw [up_ne (by omega)]; exact h1 i hi
    · exact h1 i hi
  · dsimp only
    split
    · rw [up_ne (by omega)]; exact h2 i hi
    · exact h2 i hi
theorem yDoes_cg {C U V : Nat → Int32} {W P Dn w : Nat} (h : Vq U V) : Ya U V (yDoes W P Dn w C U) (yDoes W P Dn w C V) := by
  unfold yDoes
  split
  · unfold yDay
    split
    · refine ⟨rfl, rfl, (h.u (by rw [h 41 (by decide) (by decide)])).u (by rw [h 40 (by decide) (by decide)]), fun i hi => ?_, fun i hi => ?_⟩
      · dsimp only; rw [up_ne (by omega), up_ne (by omega)]
      · dsimp only; rw [up_ne (by omega), up_ne (by omega)]
    · exact ⟨rfl, rfl, h, fun _ _ => rfl, fun _ _ => rfl⟩
  · split
    · exact ⟨rfl, rfl, h, fun _ _ => rfl, fun _ _ => rfl⟩
    · split
      · exact ySay_cg h (fun _ _ => rfl) (fun _ _ => rfl)
      · split
        · unfold yCut
          refine ⟨rfl, rfl, ?_, fun i hi => ?_, fun i hi => ?_⟩
          · dsimp only
            split
            · exact h.u (by rw [h 42 (by decide) (by decide)])
            · exact h
          · dsimp only
            split
            · rw [up_ne (by omega)]
            · rfl
          · dsimp only
            split
            · rw [up_ne (by omega)]
            · rfl
        · unfold yAny
          split
          · exact ⟨rfl, rfl, h, fun _ _ => rfl, fun _ _ => rfl⟩
          · rw [h.drawn, h.draw.drawn, h.draw.draw.drawn]
            refine ySay_cg h.draw.draw.draw (fun i hi => ?_) (fun i hi => ?_)
            · unfold yDraw; rw [up_ne (by omega), up_ne (by omega), up_ne (by omega)]
            · unfold yDraw; rw [up_ne (by omega), up_ne (by omega), up_ne (by omega)]
