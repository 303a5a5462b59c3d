/-! X: A PROVINCE's TWIN -/
set_option maxRecDepth 100000
/-- the names -/
def Nm (σ : Sg) (A : Nat → Nat) (W P : Nat) (nw np : Nat → Int64) : Prop := (∀ k, k < W → σ.2.2.1 (A (10 + k)) 0 = nw k) ∧ ∀ p, p < P → σ.2.2.1 (A (20 + p)) 0 = np p
def uj (j i : Nat) : Prop := i < 4 ∨ (20 ≤ i ∧ i < 20 + j) ∨ (30 ≤ i ∧ i < 30 + j) ∨ (40 ≤ i ∧ i < 40 + j)
/-- a twin half made: j people -/
def TwI (ρ : Sg) (A : Nat → Nat) (C : Nat → Int32) (np : Nat → Int64) (j : Nat) (τ : Sg) (A2 : Nat → Nat) : Prop :=
  (∀ i, uj j i → ρ.1 (A2 i) = none) ∧ (∀ i k, uj j i → uj j k → A2 i = A2 k → i = k) ∧ (τ.1 (A2 0) = some (6, 0) ∧ τ.1 (A2 1) = some (26, 8) ∧ τ.1 (A2 2) = some (27, 6) ∧ τ.1 (A2 3) = some (28, 6)) ∧
  (τ.2.2.2 (A2 0) 0 = some (A2 1) ∧ τ.2.2.2 (A2 0) 1 = some (A2 2) ∧ τ.2.2.2 (A2 0) 2 = some (A2 3) ∧ τ.2.2.2 (A2 0) 3 = some (A 4)) ∧ (∀ k, k < 8 → τ.2.2.2 (A2 1) k = ρ.2.2.2 (A 1) k) ∧ (∀ k, τ.2.2.2 (A2 3) k = none) ∧
  (∀ p, p < j → τ.2.2.2 (A2 2) p = some (A2 (20 + p)) ∧ Pr τ (A2 (20 + p)) (A2 (30 + p)) (A2 (40 + p)) p C ∧ τ.2.2.1 (A2 (20 + p)) 0 = np p) ∧ Xt (fun _ => False) ρ τ ∧ (A2 4 = A 4 ∧ ∀ k, k < 8 → A2 (10 + k) = A (10 + k) ∧ A2 (50 + k) = A (50 + k))
theorem Xt.new {ch : Nat → Prop} {σ τ : Sg} (h : Xt ch σ τ) (hc : ∀ a, ¬ ch a) {q : Nat} (hq : τ.1 q = none) : σ.1 q = none := by
  cases e : σ.1 q with
  | none => rfl
  | some x =>
    have := (h q (by rw [e]; simp) (hc q)).1
    rw [hq, e] at this
    cases this
theorem TwI.sh {ρ τ : Sg} {A A2 : Nat → Nat} {C : Nat → Int32} {np : Nat → Int64} {j : Nat} (h : TwI ρ A C np j τ A2) (hj : j ≤ 6) : ∀ i, uj j i → τ.1 (A2 i) ≠ none := by
  obtain ⟨h1, h2, ⟨s0, s1, s2, s3⟩, h4, h5, h6, h7, h8, h9⟩ := h
  intro i hi
  unfold uj at hi
  by_cases q0 : i < 4
  · have : i = 0 ∨ i = 1 ∨ i = 2 ∨ i = 3 := by omega
    rcases this with rfl | rfl | rfl | rfl
    · rw [s0]; simp
    · rw [s1]; simp
    · rw [s2]; simp
    · rw [s3]; simp
  · by_cases q1 : 20 ≤ i ∧ i < 20 + j
    · have := (h7 (i - 20) (by omega)).2.1.1.1
      rw [show 20 + (i - 20) = i by omega] at this
      rw [this]; simp
    · by_cases q2 : 30 ≤ i ∧ i < 30 + j
      · have := (h7 (i - 30) (by omega)).2.1.1.2.1
        rw [show 30 + (i - 30) = i by omega] at this
        rw [this]; simp
      · have := (h7 (i - 40) (by omega)).2.1.1.2.2
        rw [show 40 + (i - 40) = i by omega] at this
        rw [this]; simp
/-- one more -/
theorem TwI.nx {ρ τ τ2 : Sg} {A A2 : Nat → Nat} {C : Nat → Int32} {np : Nat → Int64} {j q q1 q2 : Nat} (h : TwI ρ A C np j τ A2) (hj : j < 6) (n0 : τ.1 q = none) (n1 : τ.1 q1 = none) (n2 : τ.1 q2 = none) (d1 : q ≠ q1) (d2 : q ≠ q2) (d3 : q1 ≠ q2) (hp : Pr τ2 q q1 q2 j C) (hnm : τ2.2.2.1 q 0 = np j) (hx : Xt (fun _ => False) τ τ2) :
    TwI ρ A C np (j + 1) (sR τ2 (A2 2) j (some q)) (up (up (up A2 (20 + j) q) (30 + j) q1) (40 + j) q2) := by
  have hsh := h.sh (by omega)
  obtain ⟨h1, h2, ⟨s0, s1, s2, s3⟩, ⟨r0, r1, r2, r3⟩, h5, h6, h7, h8, h9, h10⟩ := h
  have eA : ∀ i, i ≠ 20 + j → i ≠ 30 + j → i ≠ 40 + j → up (up (up A2 (20 + j) q) (30 + j) q1) (40 + j) q2 i = A2 i := fun i a b c => by rw [up_ne c, up_ne b, up_ne a]
  have e20 : up (up (up A2 (20 + j) q) (30 + j) q1) (40 + j) q2 (20 + j) = q := by rw [up_ne (by omega), up_ne (by omega), up_eq]
  have e30 : up (up (up A2 (20 + j) q) (30 + j) q1) (40 + j) q2 (30 + j) = q1 := by rw [up_ne (by omega), up_eq]
  have e40 : up (up (up A2 (20 + j) q) (30 + j) q1) (40 + j) q2 (40 + j) = q2 := up_eq _ _ _
  have hold : ∀ a, τ.1 a ≠ none → τ2.1 a = τ.1 a ∧ τ2.2.1 a = τ.2.1 a ∧ τ2.2.2.1 a = τ.2.2.1 a ∧ τ2.2.2.2 a = τ.2.2.2 a := fun a ha => hx a ha id
  have hne : ∀ i, uj j i → ∀ x, (x = q ∨ x = q1 ∨ x = q2) → A2 i ≠ x := fun i hi x hx e => by
    have := hsh i hi
    rcases hx with z | z | z
    · rw [e, z, n0] at this; exact this rfl
    · rw [e, z, n1] at this; exact this rfl
    · rw [e, z, n2] at this; exact this rfl
  have hcase : ∀ i, uj (j + 1) i → uj j i ∧ i ≠ 20 + j ∧ i ≠ 30 + j ∧ i ≠ 40 + j ∨ i = 20 + j ∨ i = 30 + j ∨ i = 40 + j := fun i hi => by unfold uj at hi ⊢; omega
  have n2' : A2 2 ≠ q := hne 2 (by unfold uj; omega) q (Or.inl rfl)
  have rold : ∀ b k, b ≠ A2 2 → (sR τ2 (A2 2) j (some q)).2.2.2 b k = τ2.2.2.2 b k := fun b k hb => by rw [sR_n hb]
  have hn2 : ∀ i, uj j i → i ≠ 2 → A2 i ≠ A2 2 := fun i hi h2' e => h2' (h2 i 2 hi (by unfold uj; omega) e)
  have pr2 : ∀ b la aa p, Pr τ2 b la aa p C → b ≠ A2 2 → Pr (sR τ2 (A2 2) j (some q)) b la aa p C := fun b la aa p hz hb => ⟨hz.1, ⟨by rw [sR_n hb]; exact hz.2.1.1, by rw [sR_n hb]; exact hz.2.1.2⟩, hz.2.2⟩
  refine ⟨fun i hi => ?_, fun i k hi hk e => ?_, ?_, ?_, fun k hk => ?_, fun k => ?_, fun p hp' => ?_, ?_, ?_, fun k hk => ?_⟩
  · rcases hcase i hi with ⟨z, a, b, c⟩ | rfl | rfl | rfl
    · rw [eA i a b c]; exact h1 i z
    · rw [e20]; exact h8.new (fun _ => id) n0
    · rw [e30]; exact h8.new (fun _ => id) n1
    · rw [e40]; exact h8.new (fun _ => id) n2
  · rcases hcase i hi with ⟨z, a, b, c⟩ | rfl | rfl | rfl
    · rw [eA i a b c] at e
      rcases hcase k hk with ⟨z2, a2, b2, c2⟩ | rfl | rfl | rfl
      · rw [eA k a2 b2 c2] at e; exact h2 i k z z2 e
      · rw [e20] at e; exact absurd e (hne i z q (Or.inl rfl))
      · rw [e30] at e; exact absurd e (hne i z q1 (Or.inr (Or.inl rfl)))
      · rw [e40] at e; exact absurd e (hne i z q2 (Or.inr (Or.inr rfl)))
    · rw [e20] at e
      rcases hcase k hk with ⟨z2, a2, b2, c2⟩ | rfl | rfl | rfl
      · rw [eA k a2 b2 c2] at e; exact absurd e.symm (hne k z2 q (Or.inl rfl))
      · rfl
      · rw [e30] at e; exact absurd e d1
      · rw [e40] at e; exact absurd e d2
    · rw [e30] at e
      rcases hcase k hk with ⟨z2, a2, b2, c2⟩ | rfl | rfl | rfl
      · rw [eA k a2 b2 c2] at e; exact absurd e.symm (hne k z2 q1 (Or.inr (Or.inl rfl)))
      · rw [e20] at e; exact absurd e.symm d1
      · rfl
      · rw [e40] at e; exact absurd e d3
    · rw [e40] at e
      rcases hcase k hk with ⟨z2, a2, b2, c2⟩ | rfl | rfl | rfl
      · rw [eA k a2 b2 c2] at e; exact absurd e.symm (hne k z2 q2 (Or.inr (Or.inr rfl)))
      · rw [e20] at e; exact absurd e.symm d2
      · rw [e30] at e; exact absurd e.symm d3
      · rfl
  · rw [eA 0 (by omega) (by omega) (by omega), eA 1 (by omega) (by omega) (by omega), eA 2 (by omega) (by omega) (by omega), eA 3 (by omega) (by omega) (by omega)]
    exact ⟨(hold _ (by rw [s0]; simp)).1.trans s0, (hold _ (by rw [s1]; simp)).1.trans s1, (hold _ (by rw [s2]; simp)).1.trans s2, (hold _ (by rw [s3]; simp)).1.trans s3⟩
  · rw [eA 0 (by omega) (by omega) (by omega), eA 1 (by omega) (by omega) (by omega), eA 2 (by omega) (by omega) (by omega), eA 3 (by omega) (by omega) (by omega)]
    have n02 : A2 0 ≠ A2 2 := hn2 0 (by unfold uj; omega) (by omega)
    have z := (hold (A2 0) (by rw [s0]; simp)).2.2.2
    exact ⟨by rw [rold _ _ n02, z]; exact r0, by rw [rold _ _ n02, z]; exact r1, by rw [rold _ _ n02, z]; exact r2, by rw [rold _ _ n02, z]; exact r3⟩
  · rw [eA 1 (by omega) (by omega) (by omega), rold _ _ (hn2 1 (by unfold uj; omega) (by omega)), (hold (A2 1) (by rw [s1]; simp)).2.2.2]
    exact h5 k hk
  · rw [eA 3 (by omega) (by omega) (by omega), rold _ _ (hn2 3 (by unfold uj; omega) (by omega)), (hold (A2 3) (by rw [s3]; simp)).2.2.2]
    exact h6 k
  · by_cases e : p = j
    · subst e
      rw [e20, e30, e40, eA 2 (by omega) (by omega) (by omega)]
      exact ⟨by rw [sR_e, up_eq], pr2 _ _ _ _ hp (Ne.symm n2'), hnm⟩
    · obtain ⟨a1, a2, a3⟩ := h7 p (by omega)
      rw [eA 2 (by omega) (by omega) (by omega), eA (20 + p) (by omega) (by omega) (by omega), eA (30 + p) (by omega) (by omega) (by omega), eA (40 + p) (by omega) (by omega) (by omega)]
      refine ⟨?_, pr2 _ _ _ _ (a2.xt hx id id id) (hn2 (20 + p) (by unfold uj; omega) (by omega)), ?_⟩
      · rw [sR_e, up_ne e, (hold (A2 2) (by rw [s2]; simp)).2.2.2]; exact a1
      · show τ2.2.2.1 (A2 (20 + p)) 0 = _
        rw [(hold _ (by rw [a2.1.1]; simp)).2.2.1]; exact a3
  · intro a ha _
    have hne2 : a ≠ A2 2 := fun e => ha (by rw [e]; exact h1 2 (by unfold uj; omega))
    obtain ⟨x1, x2, x3, x4⟩ := (h8.tr hx) a ha id
    exact ⟨x1, x2, x3, (sR_n hne2).trans x4⟩
  · rw [eA 4 (by omega) (by omega) (by omega)]; exact h9
  · rw [eA (10 + k) (by omega) (by omega) (by omega), eA (50 + k) (by omega) (by omega) (by omega)]; exact h10 k hk
theorem vin_ok {σ : Sg} {q q1 q2 q3 sy : Nat} (h : q ≠ q1) (h2 : q ≠ q2) (h3 : q ≠ q3) (h12 : q1 ≠ q2) (h13 : q1 ≠ q3) (h23 : q2 ≠ q3) : ((vinS σ q q1 q2 q3 sy).1 q = σ.1 q ∧ (vinS σ q q1 q2 q3 sy).1 q1 = some (26, 8) ∧ (vinS σ q q1 q2 q3 sy).1 q2 = some (27, 6) ∧ (vinS σ q q1 q2 q3 sy).1 q3 = some (28, 6)) ∧
    ((vinS σ q q1 q2 q3 sy).2.2.2 q 0 = some q1 ∧ (vinS σ q q1 q2 q3 sy).2.2.2 q 1 = some q2 ∧ (vinS σ q q1 q2 q3 sy).2.2.2 q 2 = some q3 ∧ (vinS σ q q1 q2 q3 sy).2.2.2 q 3 = some sy) ∧ (∀ k, (vinS σ q q1 q2 q3 sy).2.2.2 q3 k = none) ∧ (∀ k, (vinS σ q q1 q2 q3 sy).2.2.2 q2 k = none) ∧ ∀ k, (vinS σ q q1 q2 q3 sy).2.2.2 q1 k = none := by
  have e1 : (vinS σ q q1 q2 q3 sy).1 = up (up (up σ.1 q1 (some (26, 8))) q2 (some (27, 6))) q3 (some (28, 6)) := rfl
  have e2 : (vinS σ q q1 q2 q3 sy).2.2.2 = (sR (sR (sN (sR (sN (sR (sN σ q1 26 8) q 0 (some q1)) q2 27 6) q 1 (some q2)) q3 28 6) q 2 (some q3)) q 3 (some sy)).2.2.2 := rfl
  have n : ∀ (τ : Sg) (a x t m : Nat), a ≠ x → (sN τ x t m).2.2.2 a = τ.2.2.2 a := fun τ a x t m hax => up_ne hax
  have n0 : ∀ (τ : Sg) (x t m : Nat), (sN τ x t m).2.2.2 x = fun _ => none := fun τ x t m => up_eq _ _ _
  refine ⟨⟨?_, ?_, ?_, ?_⟩, ⟨?_, ?_, ?_, ?_⟩, fun k => ?_, fun k => ?_, fun k => ?_⟩
  · rw [e1, up_ne h3, up_ne h2, up_ne h]
  · rw [e1, up_ne h13, up_ne h12, up_eq]
  · rw [e1, up_ne h23, up_eq]
  · rw [e1, up_eq]
  · rw [e2, sR_e, up_ne (by decide), sR_e, up_ne (by decide), n _ _ _ _ _ h3, sR_e, up_ne (by decide), n _ _ _ _ _ h2, sR_e, up_eq]
  · rw [e2, sR_e, up_ne (by decide), sR_e, up_ne (by decide), n _ _ _ _ _ h3, sR_e, up_eq]
  · rw [e2, sR_e, up_ne (by decide), sR_e, up_eq]
  · rw [e2, sR_e, up_eq]
  · rw [e2, sR_n (Ne.symm h3), sR_n (Ne.symm h3), n0]
  · rw [e2, sR_n (Ne.symm h2), sR_n (Ne.symm h2), n _ _ _ _ _ h23, sR_n (Ne.symm h2), n0]
  · rw [e2, sR_n (Ne.symm h), sR_n (Ne.symm h), n _ _ _ _ _ h13, sR_n (Ne.symm h), n _ _ _ _ _ h12, sR_n (Ne.symm h), n0]
theorem vin_x {ch : Nat → Prop} {σ : Sg} {q q1 q2 q3 sy : Nat} (hq : ch q) (h1 : σ.1 q1 = none) (h2 : σ.1 q2 = none) (h3 : σ.1 q3 = none) (h12 : q1 ≠ q2) (h13 : q1 ≠ q3) (h23 : q2 ≠ q3) : Xt ch σ (vinS σ q q1 q2 q3 sy) := by
  unfold vinS
  refine (Xt.n h1).tr ((Xt.r hq).tr ((Xt.n ?_).tr ((Xt.r hq).tr ((Xt.n ?_).tr ((Xt.r hq).tr ((Xt.i hq).tr ((Xt.i hq).tr (Xt.r hq))))))))
  · show up σ.1 q1 _ q2 = none
    rw [up_ne (Ne.symm h12)]; exact h2
  · show up (up σ.1 q1 _) q2 _ q3 = none
    rw [up_ne (Ne.symm h23), up_ne (Ne.symm h13)]; exact h3
/-- what a twin is -/
def TwF (ρ : Sg) (C : Nat → Int32) (W P Dn Hn : Nat) (nw np : Nat → Int64) (A2 : Nat → Nat) (σ2 : Sg) : Prop := Pv σ2 (pL A2 P) A2 C W P Dn Hn ∧ Nm σ2 A2 W P nw np ∧ Ui A2 P ∧ (∀ i, uj P i → ρ.1 (A2 i) = none) ∧ Xt (fun _ => False) ρ (put σ2 (pL A2 P) C)
section X22s
variable {g : Gx} {l : Launch} {σ τ : Sg} {L L2 : Nat → Nat → Option Nat} {A A2 : Nat → Nat} {C D S : Nat → Int32} {W P Dn Hn p : Nat} {nw np : Nat → Int64}
theorem tw_fin (hR : Pv σ L A C W P Dn Hn) (hw : Wx C W P Dn) (hN : Nm σ A W P nw np) (hT : TwI (put σ L C) A C np P τ A2) (hL2 : Linj (pL A2 P)) (hU : Ui A2 P) :
    TwF (put σ L C) C W P Dn Hn nw np A2 (sUR (sI (sI (sI τ (A2 0) 4 (C 0)) (A2 0) 5 (C 1)) (A2 0) 7 (C 3)) (A2 3) (va_cpy (τ.2.2.2 (A 3)) (τ.2.2.2 (A2 3)) 0 0 6)) := by
  obtain ⟨⟨⟨hW, hW8⟩, ⟨hP, hP6⟩, ⟨hD, hD6⟩, hdn⟩, hWv, hPp⟩ := id hw
  obtain ⟨h1, h2, ⟨s0, s1, s2, s3⟩, ⟨r0, r1, r2, r3⟩, h5, h6, h7, h8, h9, h10⟩ := hT
  have hold : ∀ a, σ.1 a ≠ none → τ.1 a = σ.1 a ∧ τ.2.1 a = (put σ L C).2.1 a ∧ τ.2.2.1 a = σ.2.2.1 a ∧ τ.2.2.2 a = σ.2.2.2 a := fun a ha => h8 a ha id
  have hnew : ∀ a, σ.1 a ≠ none → ∀ i, uj P i → a ≠ A2 i := fun a ha i hi e => ha (by rw [e]; exact h1 i hi)
  have hl : ∀ a, σ.1 a ≠ none → ∀ j, pL A2 P a j = none := fun a ha j => by
    cases e : pL A2 P a j with
    | none => rfl
    | some i =>
      obtain ⟨⟨x, x1, x2⟩, -⟩ := pL_u hP6 e
      exact absurd x2 (hnew a ha x (by unfold ui at x1; unfold uj; omega))
  have s3' : σ.1 (A 3) = some (28, 6) := Pv.sd hR (D := C)
  have rD : τ.2.2.2 (A 3) = σ.2.2.2 (A 3) := (hold _ (by rw [s3']; simp)).2.2.2
  have a03 : A2 0 ≠ A2 3 := fun e => by have := h2 0 3 (by unfold uj; omega) (by unfold uj; omega) e; omega
  have a13 : A2 1 ≠ A2 3 := fun e => by have := h2 1 3 (by unfold uj; omega) (by unfold uj; omega) e; omega
  have a23 : A2 2 ≠ A2 3 := fun e => by have := h2 2 3 (by unfold uj; omega) (by unfold uj; omega) e; omega
  have hrr : ∀ b, b ≠ A2 3 → (sUR (sI (sI (sI τ (A2 0) 4 (C 0)) (A2 0) 5 (C 1)) (A2 0) 7 (C 3)) (A2 3) (va_cpy (τ.2.2.2 (A 3)) (τ.2.2.2 (A2 3)) 0 0 6)).2.2.2 b = τ.2.2.2 b := fun b hb => sUR_n hb
  have hii : ∀ b, b ≠ A2 0 → (sUR (sI (sI (sI τ (A2 0) 4 (C 0)) (A2 0) 5 (C 1)) (A2 0) 7 (C 3)) (A2 3) (va_cpy (τ.2.2.2 (A 3)) (τ.2.2.2 (A2 3)) 0 0 6)).2.1 b = τ.2.1 b := fun b hb => (sI_n hb).trans ((sI_n hb).trans (sI_n hb))
  have hcp : ∀ k, k < 6 → (sUR (sI (sI (sI τ (A2 0) 4 (C 0)) (A2 0) 5 (C 1)) (A2 0) 7 (C 3)) (A2 3) (va_cpy (τ.2.2.2 (A 3)) (τ.2.2.2 (A2 3)) 0 0 6)).2.2.2 (A2 3) k = σ.2.2.2 (A 3) k := fun k hk => by
    rw [sUR_e, va_cpy, if_pos (by omega), rD, show 0 + (k - 0) = k by omega]
  obtain ⟨g1, g2, g3, g4, g5, g6, g7, g8, g9, g10, g11⟩ := id hR
  have hA1 : σ.1 (A 1) = some (26, 8) := g2.1
  refine ⟨⟨hL2, ⟨s1, fun k hk => ?_⟩, ⟨s0, s2, s3, ?_⟩, ⟨?_, ?_, ?_, ?_⟩, fun i hi => pL_0 hi, fun k hk => ?_, fun p hp => ?_, fun d hd => ?_, fun a k i h => ?_, fun k y hk hy => ?_, fun k y hk hy => ?_⟩, ⟨fun k hk => ?_, fun p hp => ?_⟩, hU, h1, ?_⟩
  · obtain ⟨w1, w2, w3, w4, w5⟩ := g2.2 k hk
    have e10 := (h10 k (by omega)).1
    dsimp only
    have ho := hold (A (10 + k)) (by rw [w2]; simp)
    have hb0 : A (10 + k) ≠ A2 0 := hnew _ (by rw [w2]; simp) 0 (by unfold uj; omega)
    rw [e10]
    refine ⟨?_, ho.1.trans w2, ?_, ?_, fun j => hl _ (by rw [w2]; simp) j⟩
    · rw [hrr _ a13, h5 k (by omega)]; exact w1
    · rw [hii _ hb0, ho.2.1]; exact Wo.w1 g2 hk
    · rw [hii _ hb0, ho.2.1]; exact Wo.w2 g2 hk
  · rw [h9]; exact (hold _ (by rw [g3.2.2.2]; simp)).1.trans g3.2.2.2
  · rw [hrr _ a03]; exact r0
  · rw [hrr _ a03]; exact r1
  · rw [hrr _ a03]; exact r2
  · rw [hrr _ a03, h9]; exact r3
  · obtain ⟨w1, w2, w3, w4, w5⟩ := g2.2 k hk
    have ho := hold (A (10 + k)) (by rw [w2]; simp)
    have hb0 : A (10 + k) ≠ A2 0 := hnew _ (by rw [w2]; simp) 0 (by unfold uj; omega)
    rw [(h10 k (by omega)).1, hii _ hb0, ho.2.1]
    exact Pv.w3 hR hk
  · obtain ⟨q1, q2, q3⟩ := h7 p hp
    have z : ∀ x, (x = 20 + p ∨ x = 30 + p ∨ x = 40 + p) → A2 x ≠ A2 3 := fun x hx e => by have := h2 x 3 (by unfold uj; omega) (by unfold uj; omega) e; omega
    refine ⟨by rw [hrr _ a23]; exact q1, ?_⟩
    have pe := pL_e (P := P) hU hP6 hp q2
    exact ⟨pe.1, ⟨by rw [hrr _ (z _ (by omega))]; exact pe.2.1.1, by rw [hrr _ (z _ (by omega))]; exact pe.2.1.2⟩, pe.2.2⟩
  · obtain ⟨q1, q2, q3, q4, q5, q6⟩ := g8 d hd
    have ho := hold (A (50 + d)) (by rw [q2]; simp)
    have hb0 : A (50 + d) ≠ A2 0 := hnew _ (by rw [q2]; simp) 0 (by unfold uj; omega)
    rw [(h10 d (by omega)).2]
    refine ⟨by rw [hcp d (by omega)]; exact q1, ho.1.trans q2, ?_, ?_, ?_, fun j => hl _ (by rw [q2]; simp) j⟩
    · rw [hii _ hb0, ho.2.1]; exact Pv.d0 hR hd
    · rw [hii _ hb0, ho.2.1]; exact Pv.d1 hR hd
    · rw [hii _ hb0, ho.2.1]; exact Pv.d2 hR hd
  · rcases pL_c h with ⟨x1, -⟩ | ⟨p, hp, x1⟩
    · rw [x1]; exact Or.inl s0
    · obtain ⟨-, d1⟩ := pe1_c (by omega) x1
      have q2 := (h7 p hp).2.1.1
      rcases d1 with ⟨z, -⟩ | ⟨z, -⟩ | ⟨z, -⟩
      · rw [z]; exact Or.inr (Or.inl q2.1)
      · rw [z]; exact Or.inr (Or.inr q2.2.1)
      · rw [z]; exact Or.inr (Or.inr q2.2.2)
  · rw [hrr _ a13, h5 k hk] at hy
    have := g10 k y hk hy
    exact (hold y (by rw [this]; simp)).1.trans this
  · rw [hcp k hk] at hy
    have := g11 k y hk hy
    exact (hold y (by rw [this]; simp)).1.trans this
  · obtain ⟨w1, w2, -⟩ := g2.2 k hk
    rw [(h10 k (by omega)).1]
    exact (congrFun (hold (A (10 + k)) (by rw [w2]; simp)).2.2.1 0).trans (hN.1 k hk)
  · exact (h7 p hp).2.2
  · intro a ha _
    have ha' : σ.1 a ≠ none := ha
    obtain ⟨x1, x2, x3, x4⟩ := hold a ha'
    refine ⟨x1, funext fun k => ?_, x3, ?_⟩
    · rw [pgn (hl a ha' k), hii a (hnew a ha' 0 (by unfold uj; omega)), x2]
    · show (sUR _ _ _).2.2.2 a = _
      rw [hrr a (hnew a ha' 3 (by unfold uj; omega)), x4]
      rfl
end X22s
