/-! X: DAYS AHEAD -/
set_option maxRecDepth 100000
/-- what is known stays known -/
def KM (C D : Nat → Int32) (P : Nat) : Prop := ∀ p, p < P → ∀ k, k < 8 → hs (C (37 + p)) k = true → hs (D (37 + p)) k = true
theorem KM.tr {C D E : Nat → Int32} {P : Nat} (h1 : KM C D P) (h2 : KM D E P) : KM C E P := fun p hp k hk h => h2 p hp k hk (h1 p hp k hk h)
theorem KM.eq {C D : Nat → Int32} {P : Nat} (h : ∀ p, p < P → D (37 + p) = C (37 + p)) : KM C D P := fun p hp k _ hb => by rw [h p hp]; exact hb
theorem km_dines {C : Nat → Int32} {W P p q : Nat} (hW8 : W ≤ 8) (hP6 : P ≤ 6) (hp : p < 6) (hq : q < 6) (hpq : p ≠ q) (hP : ∀ r, r < P → Pp C W r) (hQ : Pp C W q) : KM C (mDines C W p q) P := by
  unfold mDines
  cases e : mDinesK C W p q with
  | none => exact KM.eq fun _ _ => rfl
  | some k =>
    obtain ⟨h1, h2⟩ := mDinesK_sat hW8 hpq hQ e
    intro r hr j hj hb
    show hs (mSays C p k q (37 + r)) j = true
    unfold mSays
    rw [if_pos h1]
    by_cases z : r = q
    · subst z
      obtain ⟨s, t, e1, e2, e3, e4, e5, e6, -⟩ := hQ.sets hW8
      have h3 : 2 ^ k < 2 ^ 8 := Nat.pow_lt_pow_right (by decide) (by omega)
      unfold mSaysC
      rw [up_ne (by omega), up_eq, e2, bt_nI (by omega), nI_or, hs_nI (or_lt8 (W := 8) e6 h3) (by omega), Nat.testBit_or]
      rw [e2, hs_nI e6 (by omega)] at hb
      rw [hb]
      rfl
    · rw [says_ot (by omega) (by omega)]; exact hb
theorem km_dStep {W P Dn d : Nat} {s : Int32 × (Nat → Int32)} (hw : Wd s.2 W P Dn) (hd : d < Dn) (hP : ∀ p, p < P → Pp s.2 W p) : KM s.2 (dStep W d s).2 P := by
  obtain ⟨a, b, e, q1, q2, q3, q4, q5, -⟩ := hw.2.2.2 d hd
  have hP6 := hw.2.1.2
  unfold dStep
  split
  · dsimp only
    rw [q1, q3, ixn_nI (by omega), ixn_nI (by omega)]
    exact (km_dines hw.1.2 hP6 (by omega) (by omega) q5 hP (hP b q4)).tr (km_dines hw.1.2 hP6 (by omega) (by omega) (Ne.symm q5) (fun r hr => dines_pp hw.1.2 (by omega) (by omega) (by omega) q5 (hP b q4) (hP r hr)) (dines_pp hw.1.2 (by omega) (by omega) (by omega) q5 (hP b q4) (hP a q2)))
  · exact KM.eq fun _ _ => rfl
theorem km_day {C : Nat → Int32} {W P Dn : Nat} (hw : Wx C W P Dn) : KM C (mDay C W P Dn) P := by
  have hP6 := hw.1.2.1.2
  have h1 : ∀ n, n ≤ 6 → ∀ p, p < P → mGrowAll C W n (37 + p) = C (37 + p) := by
    intro n
    induction n with
    | zero => intro _ p _; rfl
    | succ n ih =>
      intro hn p hp
      refine Eq.trans ?_ (ih (by omega) p hp)
      exact grItr_ne W fun k hk => by omega
  have h2 : ∀ n, n ≤ Dn → KM C (itr (dStep W) n (nI 0, mDayG C W P)).2 P := by
    intro n
    induction n with
    | zero =>
      intro _
      exact KM.eq fun p hp => by
        show mDayG C W P (37 + p) = _
        unfold mDayG
        rw [up_ne (by omega)]
        exact h1 P hP6 p hp
    | succ n ih =>
      intro hn
      exact (ih (by omega)).tr (km_dStep (hw.1.fr (mDayS_fr hw.1 n (by omega))) (by omega) (dayS_pp hw n (by omega)))
  exact (h2 Dn (Nat.le_refl _)).tr (KM.eq fun p hp => by
    unfold mDay mDayS
    rw [up_ne (by omega)])
theorem km_days {C : Nat → Int32} {W P Dn : Nat} (hw : Wx C W P Dn) : ∀ n, KM C (mDays C W P Dn n) P := by
  intro n
  induction n with
  | zero => exact KM.eq fun _ _ => rfl
  | succ n ih => exact ih.tr (km_day (days_wx hw n))
theorem out_iff {C D : Nat → Int32} {P k : Nat} (hP6 : P ≤ 6) (hk : k < 8) (h : KM C D P) : decide (szOf (mPeopleWith C P 37 k) < szOf (mPeopleWith D P 37 k)) = !decide (mPeopleWith D P 37 k = mPeopleWith C P 37 k) := by
  obtain ⟨m1, a1, a2, a3⟩ := mPeopleWith_nI (C := C) (r := 37) (k := k) hP6
  obtain ⟨m2, b1, b2, b3⟩ := mPeopleWith_nI (C := D) (r := 37) (k := k) hP6
  have h64 : 2 ^ P ≤ 64 := pw_le (n := 6) hP6
  have hs1 : sub m1 m2 := fun i hi => by
    rw [a3, Bool.and_eq_true, decide_eq_true_eq] at hi
    rw [b3, decide_eq_true hi.1, Bool.true_and]
    exact h i hi.1 k hk hi.2
  rw [a2, b2, sz_pop (by omega), sz_pop (by omega)]
  have p1 := pop_le (s := m1)
  have p2 := pop_le (s := m2)
  by_cases e : m2 = m1
  · subst e
    rw [decide_eq_true rfl, decide_eq_false (fun q => absurd ((nI_ltI (by omega) (by omega)).mp q) (Nat.lt_irrefl _))]
    rfl
  · have hlt : m1 < m2 := Nat.lt_of_le_of_ne (sub_le hs1) (fun q => e q.symm)
    rw [decide_eq_true ((nI_ltI (by omega) (by omega)).mpr (pop_lt2 (by omega) hs1 hlt)), decide_eq_false (fun q => e ((nI_eq (by omega) (by omega)).mp q))]
    rfl
theorem Pv.sr {σ : Sg} {L : Nat → Nat → Option Nat} {A : Nat → Nat} {C : Nat → Int32} {W P Dn Hn a k : Nat} {x : Option Nat} (h : Pv σ L A C W P Dn Hn) (ha : σ.1 a = some (0, 0)) : Pv (sR σ a k x) L A C W P Dn Hn := by
  have n : ∀ b t n, σ.1 b = some (t, n) → t ≠ 0 → (sR σ a k x).2.2.2 b = σ.2.2.2 b := fun b t n hb ht => sR_n (fun e => by rw [e, ha] at hb; cases hb; exact ht rfl)
  have s3 : σ.1 (A 3) = some (28, 6) := Pv.sd h (D := C)
  obtain ⟨h1, h2, h3, h4, h5, h6, h7, h8, h9, h10, h11⟩ := h
  refine ⟨h1, ⟨h2.1, fun j hj => ⟨by rw [n _ _ _ h2.1 (by decide)]; exact (h2.2 j hj).1, (h2.2 j hj).2⟩⟩, h3, ?_, h5, h6, fun p hp => ⟨?_, ?_⟩, fun d hd => ⟨?_, (h8 d hd).2⟩, h9, fun j y hj hy => ?_, fun j y hj hy => ?_⟩
  · rw [n _ _ _ h3.1 (by decide)]; exact h4
  · rw [n _ _ _ h3.2.1 (by decide)]; exact (h7 p hp).1
  · obtain ⟨q1, q2, q3⟩ := (h7 p hp).2
    exact ⟨q1, by rw [n _ _ _ q1.1 (by decide)]; exact q2, q3⟩
  · rw [n _ _ _ s3 (by decide)]; exact (h8 d hd).1
  · rw [n _ _ _ h2.1 (by decide)] at hy; exact h10 j y hj hy
  · rw [n _ _ _ s3 (by decide)] at hy; exact h11 j y hj hy
/-- the face, after what is scratch or new has changed -/
theorem Fa.eqx {σ τ : Sg} {hx : Nat} {B : Nat → Nat} (h : Fa σ hx B) (he : Eqx hx B τ σ) : Fa τ hx B := by
  obtain ⟨h1, h2, h3, h4⟩ := h
  have S : ∀ a x, σ.1 a = some x → τ.1 a = some x := fun a x ha => (he.1 a (by rw [ha]; simp)).trans ha
  have R : ∀ a x k y, σ.1 a = some x → k ≠ 11 → σ.2.2.2 a k = some y → τ.2.2.2 a k = some y := fun a x k y ha hk hy => (he.2.2.2 a k (by rw [ha]; simp) (fun q => hk q.2)).trans hy
  refine ⟨S _ _ h1, fun k t n hk => ⟨R _ _ _ _ h1 (fun e => by subst e; cases hk) (h2 k t n hk).1, S _ _ (h2 k t n hk).2⟩, fun t ht => ⟨R _ _ _ _ (h2 0 _ _ rfl).2 (by omega) (h3 t ht).1, S _ _ (h3 t ht).2⟩, fun i hi => ?_⟩
  obtain ⟨⟨a1, a2, a3, a4, a5, a6⟩, b1, b2, b3, b4, b5, b6⟩ := h4 i hi
  exact ⟨⟨R _ _ _ _ (h2 15 _ _ rfl).2 (by omega) a1, S _ _ a2, S _ _ a3, S _ _ a4, R _ _ _ _ a2 (by decide) a5, R _ _ _ _ a2 (by decide) a6⟩, R _ _ _ _ (h2 16 _ _ rfl).2 (by omega) b1, S _ _ b2, S _ _ b3, S _ _ b4, R _ _ _ _ b2 (by decide) b5, R _ _ _ _ b2 (by decide) b6⟩
theorem gad_sh2 {σ : Sg} {hx : Nat} {B : Nat → Nat} (hf : Fa σ hx B) {b i : Nat} (hi : i < 4) (h : b = B (40 + i) ∨ b = B (50 + i) ∨ b = B (60 + i) ∨ b = B (70 + i) ∨ b = B (80 + i) ∨ b = B (90 + i)) : ∃ x, gi x ∧ b = B x := by
  rcases h with e | e | e | e | e | e
  · exact ⟨40 + i, by unfold gi; omega, e⟩
  · exact ⟨50 + i, by unfold gi; omega, e⟩
  · exact ⟨60 + i, by unfold gi; omega, e⟩
  · exact ⟨70 + i, by unfold gi; omega, e⟩
  · exact ⟨80 + i, by unfold gi; omega, e⟩
  · exact ⟨90 + i, by unfold gi; omega, e⟩
/-- a province stands as before, after what is scratch or new has changed -/
theorem Pv.eqx {σ τ : Sg} {L : Nat → Nat → Option Nat} {A B : Nat → Nat} {C : Nat → Int32} {W P Dn Hn hx : Nat} (h : Pv σ L A C W P Dn Hn) (hf : Fa σ hx B) (hl14 : ∀ k, L (B 14) k = none) (hGL : ∀ x, gi x → ∀ k, L (B x) k = none) (he : Eqx hx B τ (put σ L C)) : Pv τ L A C W P Dn Hn ∧ put τ L C = τ := by
  have S : ∀ a x, σ.1 a = some x → τ.1 a = some x := fun a x ha => (he.1 a (by rw [show (put σ L C).1 a = some x from ha]; simp)).trans ha
  have R : ∀ a t n, σ.1 a = some (t, n) → t ≠ 0 → ∀ k, τ.2.2.2 a k = σ.2.2.2 a k := fun a t n ha ht k => he.2.2.2 a k (by rw [show (put σ L C).1 a = some (t, n) from ha]; simp) (fun q => by rw [q.1, hf.1] at ha; cases ha; exact ht rfl)
  have I : ∀ a t n k, σ.1 a = some (t, n) → (t = 10 ∨ t = 11) → τ.2.1 a k = (put σ L C).2.1 a k := fun a t n k ha ht => he.2.1 a k (by rw [show (put σ L C).1 a = some (t, n) from ha]; simp) (fun q => by
    rcases q with q | q | q | q | q | q | ⟨i, hi, q⟩
    · rw [q, show σ.1 (B 12) = _ from Fa.s12 (L := L) (D := C) hf] at ha; cases ha; omega
    · rw [q, show σ.1 (B 13) = _ from Fa.s13 (L := L) (D := C) hf] at ha; cases ha; omega
    · rw [q, show σ.1 (B 14) = _ from Fa.s14 (L := L) (D := C) hf] at ha; cases ha; omega
    · rw [q, show σ.1 (B 20) = _ from Fa.s20 (L := L) (D := C) hf] at ha; cases ha; omega
    · rw [q.1, hf.1] at ha; cases ha; omega
    · rw [show σ.1 a = _ from q.1] at ha; cases ha; omega
    · obtain ⟨x, x1, x2⟩ := gad_sh2 hf hi q
      rw [x2] at ha
      rcases gad_sh hf x1 with z | z <;> rw [z] at ha <;> cases ha <;> omega)
  have s3 : σ.1 (A 3) = some (28, 6) := Pv.sd h (D := C)
  have hid : put τ L C = τ := put_id fun a k i hi => by
    rw [he.2.1 a k (by
      show σ.1 a ≠ none
      rcases h.dom hi with z | z | z <;> rw [z] <;> simp) (fun q => by
      have nz : ∀ b t n, b = a → σ.1 b = some (t, n) → (t, n) ≠ (6, 0) → (t, n) ≠ (8, 0) → (t, n) ≠ (20, 8) → False := fun b t n e hb n1 n2 n3 => by
        have := h.noL hb n1 n2 n3 k
        rw [e, hi] at this; cases this
      rcases q with q | q | q | q | q | q | ⟨i', hi', q⟩
      · exact nz _ _ _ q.symm (Fa.s12 (L := L) (D := C) hf) (by decide) (by decide) (by decide)
      · exact nz _ _ _ q.symm (Fa.s13 (L := L) (D := C) hf) (by decide) (by decide) (by decide)
      · rw [q, hl14 k] at hi; cases hi
      · exact nz _ _ _ q.symm (Fa.s20 (L := L) (D := C) hf) (by decide) (by decide) (by decide)
      · exact nz _ _ _ q.1.symm hf.1 (by decide) (by decide) (by decide)
      · exact nz a 12 0 rfl q.1 (by decide) (by decide) (by decide)
      · obtain ⟨x, x1, x2⟩ := gad_sh2 hf hi' q
        rw [x2, hGL x x1 k] at hi; cases hi)]
    exact pg hi
  refine ⟨?_, hid⟩
  have hW := fun k hk => Pv.w1 h (k := k) hk (D := C)
  have hW2 := fun k hk => Pv.w2 h (k := k) hk (D := C)
  have hW3 := fun k hk => Pv.w3 h (k := k) hk (D := C)
  have hD0 := fun k hk => Pv.d0 h (d := k) hk (D := C)
  have hD1 := fun k hk => Pv.d1 h (d := k) hk (D := C)
  have hD2 := fun k hk => Pv.d2 h (d := k) hk (D := C)
  obtain ⟨h1, h2, h3, h4, h5, h6, h7, h8, h9, h10, h11⟩ := h
  refine ⟨h1, ⟨S _ _ h2.1, fun k hk => ?_⟩, ⟨S _ _ h3.1, S _ _ h3.2.1, S _ _ h3.2.2.1, S _ _ h3.2.2.2⟩, ?_, h5, fun k hk => ?_, fun p hp => ⟨?_, ?_⟩, fun d hd => ?_, fun a k i hi => ?_, fun k y hk hy => ?_, fun k y hk hy => ?_⟩
  · obtain ⟨q1, q2, q3, q4, q5⟩ := h2.2 k hk
    exact ⟨(R _ _ _ h2.1 (by decide) k).trans q1, S _ _ q2, (I _ _ _ 1 q2 (Or.inl rfl)).trans (hW k hk), (I _ _ _ 2 q2 (Or.inl rfl)).trans (hW2 k hk), q5⟩
  · exact ⟨(R _ _ _ h3.1 (by decide) 0).trans h4.1, (R _ _ _ h3.1 (by decide) 1).trans h4.2.1, (R _ _ _ h3.1 (by decide) 2).trans h4.2.2.1, (R _ _ _ h3.1 (by decide) 3).trans h4.2.2.2⟩
  · exact (I _ _ _ 3 (h2.2 k hk).2.1 (Or.inl rfl)).trans (hW3 k hk)
  · exact (R _ _ _ h3.2.1 (by decide) p).trans (h7 p hp).1
  · obtain ⟨q1, q2, q3⟩ := (h7 p hp).2
    exact ⟨⟨S _ _ q1.1, S _ _ q1.2.1, S _ _ q1.2.2⟩, ⟨(R _ _ _ q1.1 (by decide) 1).trans q2.1, (R _ _ _ q1.1 (by decide) 2).trans q2.2⟩, q3⟩
  · obtain ⟨q1, q2, q3, q4, q5, q6⟩ := h8 d hd
    exact ⟨(R _ _ _ s3 (by decide) d).trans q1, S _ _ q2, (I _ _ _ 0 q2 (Or.inr rfl)).trans (hD0 d hd), (I _ _ _ 1 q2 (Or.inr rfl)).trans (hD1 d hd), (I _ _ _ 2 q2 (Or.inr rfl)).trans (hD2 d hd), q6⟩
  · rcases h9 a k i hi with z | z | z
    · exact Or.inl (S _ _ z)
    · exact Or.inr (Or.inl (S _ _ z))
    · exact Or.inr (Or.inr (S _ _ z))
  · rw [R _ _ _ h2.1 (by decide)] at hy; exact S _ _ (h10 k y hk hy)
  · rw [R _ _ _ s3 (by decide)] at hy; exact S _ _ (h11 k y hk hy)
