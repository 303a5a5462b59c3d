/-! X: A PROVINCE under a lens: what the row says of it, a day -/
set_option maxRecDepth 100000
theorem lgo_sat {C : Nat → Int32} {p : Nat} {set : Int32} : ∀ n k, lgo C p set n = some k → hs (C (43 + p)) k = true ∧ hs set k = true := by
  intro n
  induction n with
  | zero => intro k h; cases h
  | succ n ih =>
    intro k h
    rw [lgo] at h
    split at h
    · next q => cases h; exact ⟨q.1, q.2.1⟩
    · exact ih k h
theorem mDinesK_sat {C : Nat → Int32} {W p q k : Nat} (hW8 : W ≤ 8) (hpq : p ≠ q) (hQ : Pp C W q) (h : mDinesK C W p q = some k) : mSaysB C p k q = true ∧ k < W := by
  unfold mDinesK at h
  split at h
  · obtain ⟨h1, h2⟩ := lgo_sat _ _ h
    have h3 := lgo_lt _ _ h
    obtain ⟨s, t, e1, e2, e3, e4, e5, e6, -⟩ := hQ.sets hW8
    rw [e2, hs_not e6 (by omega)] at h2
    refine ⟨?_, h3⟩
    unfold mSaysB
    rw [h1, e2, hs_nI e6 (by omega), decide_eq_true hpq]
    rw [Bool.not_eq_true'] at h2
    rw [h2]
    rfl
  · cases h
theorem says_ot {C : Nat → Int32} {p k q i : Nat} (h1 : i ≠ 37 + q) (h2 : i ≠ 43 + p) : mSaysC C p k q i = C i := by unfold mSaysC; rw [up_ne h2, up_ne h1]
theorem says_pp {C : Nat → Int32} {W p k q r : Nat} (hW8 : W ≤ 8) (hk : k < W) (hp : p < 6) (hq : q < 6) (hr : r < 6) (hpq : p ≠ q) (h : Pp C W r) : Pp (mSaysC C p k q) W r := by
  refine ⟨?_, fun j hj => ?_⟩
  · obtain ⟨s, t, e1, e2, e3, e4, e5, e6, e7⟩ := h.sets hW8
    have hb : 2 ^ k < 2 ^ W := Nat.pow_lt_pow_right (by decide) hk
    by_cases a : r = p
    · subst a
      refine ⟨dif s (2 ^ k), t, ?_, (says_ot (by omega) (by omega)).trans e2, e3, fun i hi => ?_⟩
      · unfold mSaysC
        rw [up_eq, e1, bt_nI (by omega), nI_dif]
      · rw [dif_bit] at hi
        exact e7 i (Bool.and_eq_true_iff.mp hi).1
    · by_cases c : r = q
      · subst c
        refine ⟨s, t ||| 2 ^ k, (says_ot (by omega) (by omega)).trans e1, ?_, or_lt8 e3 hb, fun i hi => by rw [Nat.testBit_or, e7 i hi]; rfl⟩
        unfold mSaysC
        rw [up_ne (by omega), up_eq, e2, bt_nI (by omega), nI_or]
      · exact ⟨s, t, (says_ot (by omega) (by omega)).trans e1, (says_ot (by omega) (by omega)).trans e2, e3, e7⟩
  · obtain ⟨a, n, q1, q2, q3, q4⟩ := h.2 j hj
    exact ⟨a, n, (says_ot (by omega) (by omega)).trans q1, q2, (says_ot (by omega) (by omega)).trans q3, q4⟩
theorem strand_ot {C : Nat → Int32} {p k i : Nat} (h1 : i ≠ 43 + p) (h2 : i ≠ 49 + 8 * p + k) (h3 : i ≠ 97 + 8 * p + k) : mStrand C p k i = C i := by unfold mStrand; rw [up_ne h3, up_ne h2, up_ne h1]
theorem strand_pp {C : Nat → Int32} {W p k r : Nat} (hW8 : W ≤ 8) (hk : k < W) (hp : p < 6) (hr : r < 6) (hb : hs (C (37 + p)) k = true) (h : Pp C W r) : Pp (mStrand C p k) W r := by
  by_cases a : r = p
  · subst a
    obtain ⟨s, t, e1, e2, e3, e4, e5, e6, e7⟩ := h.sets hW8
    rw [e2, hs_nI e6 (by omega)] at hb
    refine ⟨⟨s ||| 2 ^ k, t, ?_, (strand_ot (by omega) (by omega) (by omega)).trans e2, e3, fun i hi => ?_⟩, fun j hj => ?_⟩
    · unfold mStrand
      rw [up_ne (by omega), up_ne (by omega), up_eq, e1, bt_nI (by omega), nI_or]
    · rw [Nat.testBit_or, Bool.or_eq_true] at hi
      rcases hi with hi | hi
      · exact e7 i hi
      · rw [Nat.testBit_two_pow, decide_eq_true_eq] at hi
        rw [← hi]; exact hb
    · obtain ⟨a, n, q1, q2, q3, q4⟩ := h.2 j hj
      by_cases e : j = k
      · subst e
        exact ⟨0, 0, by unfold mStrand; rw [up_eq], by omega, by unfold mStrand; rw [up_ne (by omega), up_eq], by omega⟩
      · exact ⟨a, n, (strand_ot (by omega) (by omega) (by omega)).trans q1, q2, (strand_ot (by omega) (by omega) (by omega)).trans q3, q4⟩
  · exact h.cg fun i hi => strand_ot (by unfold pcell at hi; omega) (by unfold pcell at hi; omega) (by unfold pcell at hi; omega)
theorem up_pp {C : Nat → Int32} {W r i : Nat} {v : Int32} (h : Pp C W r) (hi : ¬ pcell r i) : Pp (up C i v) W r := h.cg fun j hj => up_ne (fun e => hi (by rw [← e]; exact hj))
theorem nocell {r i : Nat} (h : i < 25) : ¬ pcell r i := by unfold pcell; omega
/-- what holds of a row all through -/
def Wx (C : Nat → Int32) (W P Dn : Nat) : Prop := Wd C W P Dn ∧ Wv C W ∧ ∀ p, p < P → Pp C W p
/-- what a dinner does in x: the words said are counted at once -/
def xDines (C : Nat → Int32) (W p q : Nat) : Nat → Int32 := match mDinesK C W p q with
  | none => C
  | some k => up (mSaysC C p k q) 7 (mSaysC C p k q 7 + nI 1)
theorem mDinesK_7 {C : Nat → Int32} {W p q : Nat} {v : Int32} (hp : p < 6) (hq : q < 6) (hW8 : W ≤ 8) : mDinesK (up C 7 v) W p q = mDinesK C W p q := by
  have hl : ∀ set n, n ≤ 8 → lgo (up C 7 v) p set n = lgo C p set n := by
    intro set n
    induction n with
    | zero => intro _; rfl
    | succ n ih =>
      intro hn
      rw [lgo, lgo, ih (by omega), up_ne (by omega), up_ne (by omega)]
      congr 1
      apply propext
      refine and_congr_right fun _ => and_congr_right fun _ => ?_
      refine forall_congr' fun i => ?_
      constructor
      · intro h e
        have := h e
        rwa [up_ne (by omega)] at this
      · intro h e
        rw [up_ne (by omega)]
        exact h e
  have hh : mHair (up C 7 v) W p = mHair C W p := by
    unfold mHair
    refine sumTo_eq W fun i hi => ?_
    unfold hairF
    rw [up_ne (by omega), up_ne (by omega)]
  unfold mDinesK
  rw [hh, up_ne (by omega), up_ne (by omega)]
  unfold mLongest
  rw [hl _ _ hW8]
theorem xDines_eq {C : Nat → Int32} {W p q : Nat} {v : Int32} (hp : p < 6) (hq : q < 6) (hW8 : W ≤ 8) (hpq : p ≠ q) (hQ : Pp C W q) : xDines (up C 7 v) W p q = up (mDines C W p q) 7 (v + bI (mDinesB C W p q)) := by
  unfold xDines mDines mDinesB
  rw [mDinesK_7 hp hq hW8]
  cases e : mDinesK C W p q with
  | none =>
    dsimp only
    rw [bI_f, nI_0, Int32.add_zero]
  | some k =>
    dsimp only
    have hB := (mDinesK_sat hW8 hpq hQ e).1
    rw [hB, bI_t]
    unfold mSays
    rw [if_pos hB]
    have e1 : mSaysC (up C 7 v) p k q = up (mSaysC C p k q) 7 v := by
      unfold mSaysC
      rw [up_ne (show 37 + q ≠ 7 by omega), up_ne (show 43 + p ≠ 7 by omega), up_comm C (show 7 ≠ 37 + q by omega), up_comm _ (show 7 ≠ 43 + p by omega)]
    rw [e1, up_eq, up_up]
theorem dines_pp {C : Nat → Int32} {W p q r : Nat} (hW8 : W ≤ 8) (hp : p < 6) (hq : q < 6) (hr : r < 6) (hpq : p ≠ q) (hQ : Pp C W q) (h : Pp C W r) : Pp (mDines C W p q) W r := by
  unfold mDines
  cases e : mDinesK C W p q with
  | none => exact h
  | some k =>
    dsimp only
    obtain ⟨h1, h2⟩ := mDinesK_sat hW8 hpq hQ e
    unfold mSays
    rw [if_pos h1]
    exact says_pp hW8 h2 hp hq hr hpq h
theorem growAll_pp {C : Nat → Int32} {W r : Nat} (hW : Wv C W) (hr : r < 6) (h : Pp C W r) : ∀ n, n ≤ 6 → Pp (mGrowAll C W n) W r := by
  intro n
  induction n with
  | zero => intro _; exact h
  | succ n ih =>
    intro hn
    exact grow_pp (hW.fr (mGrowAll_fr hW.1 n (by omega))) (by omega) hr (ih (by omega))
theorem dStep_pp {W P Dn d r : Nat} {s : Int32 × (Nat → Int32)} (hw : Wd s.2 W P Dn) (hd : d < Dn) (hP : ∀ p, p < P → Pp s.2 W p) (hr : r < P) : Pp (dStep W d s).2 W r := by
  obtain ⟨a, b, e, q1, q2, q3, q4, q5, -⟩ := hw.2.2.2 d hd
  have hP6 := hw.2.1.2
  unfold dStep
  split
  · dsimp only
    rw [q1, q3, ixn_nI (by omega), ixn_nI (by omega)]
    exact dines_pp hw.1.2 (by omega) (by omega) (by omega) (Ne.symm q5) (dines_pp hw.1.2 (by omega) (by omega) (by omega) q5 (hP b q4) (hP a q2)) (dines_pp hw.1.2 (by omega) (by omega) (by omega) q5 (hP b q4) (hP r hr))
  · exact hP r hr
theorem dayG_pp {C : Nat → Int32} {W P Dn : Nat} (hw : Wx C W P Dn) : ∀ r, r < P → Pp (mDayG C W P) W r := fun r hr => by
  have hP6 := hw.1.2.1.2
  exact up_pp (growAll_pp hw.2.1 (by omega) (hw.2.2 r hr) P hP6) (nocell (by omega))
theorem dayS_pp {C : Nat → Int32} {W P Dn : Nat} (hw : Wx C W P Dn) : ∀ n, n ≤ Dn → ∀ r, r < P → Pp (itr (dStep W) n (nI 0, mDayG C W P)).2 W r := by
  intro n
  induction n with
  | zero => intro _; exact dayG_pp hw
  | succ n ih =>
    intro hn r hr
    exact dStep_pp (hw.1.fr (mDayS_fr hw.1 n (by omega))) (by omega) (ih (by omega)) hr
theorem day_wx {C : Nat → Int32} {W P Dn : Nat} (hw : Wx C W P Dn) : Wx (mDay C W P Dn) W P Dn :=
  ⟨hw.1.fr (mDay_fr hw.1), hw.2.1.fr (mDay_fr hw.1), fun r hr => up_pp (dayS_pp hw Dn (Nat.le_refl _) r hr) (nocell (by omega))⟩
theorem days_wx {C : Nat → Int32} {W P Dn : Nat} (hw : Wx C W P Dn) : ∀ n, Wx (mDays C W P Dn n) W P Dn := by
  intro n
  induction n with
  | zero => exact hw
  | succ n ih => exact day_wx ih
theorem dStep_7 {W P Dn d : Nat} {s : Int32 × (Nat → Int32)} (hw : Wd s.2 W P Dn) (hd : d < Dn) : (dStep W d s).2 7 = s.2 7 := by
  obtain ⟨a, b, e, q1, q2, q3, q4, q5, -⟩ := hw.2.2.2 d hd
  have hP6 := hw.2.1.2
  have h1 : ∀ D p q, p < 6 → q < 6 → mDines D W p q 7 = D 7 := by
    intro D p q hp hq
    unfold mDines mSays
    cases mDinesK D W p q with
    | none => rfl
    | some k =>
      show (if mSaysB D p k q = true then mSaysC D p k q else D) 7 = D 7
      split
      · exact says_ot (by omega) (by omega)
      · rfl
  unfold dStep
  split
  · dsimp only
    rw [q1, q3, ixn_nI (by omega), ixn_nI (by omega), h1 _ _ _ (by omega) (by omega), h1 _ _ _ (by omega) (by omega)]
  · rfl
/-! the province's cells -/
def Pv (σ : Sg) (L : Nat → Nat → Option Nat) (A : Nat → Nat) (C : Nat → Int32) (W P Dn Hn : Nat) : Prop :=
  Linj L ∧ Wo L σ (A 1) (fun k => A (10 + k)) C W ∧ (σ.1 (A 0) = some (6, 0) ∧ σ.1 (A 2) = some (27, 6) ∧ σ.1 (A 3) = some (28, 6) ∧ σ.1 (A 4) = some (4, 0)) ∧
  (σ.2.2.2 (A 0) 0 = some (A 1) ∧ σ.2.2.2 (A 0) 1 = some (A 2) ∧ σ.2.2.2 (A 0) 2 = some (A 3) ∧ σ.2.2.2 (A 0) 3 = some (A 4)) ∧ (∀ i, i < 9 → L (A 0) (i + 4) = some i) ∧
  (∀ k, k < W → σ.2.1 (A (10 + k)) 3 = mHalvesOf C Hn (nI k)) ∧
  (∀ p, p < P → σ.2.2.2 (A 2) p = some (A (20 + p)) ∧ Pe L σ (A (20 + p)) (A (30 + p)) (A (40 + p)) p) ∧
  (∀ d, d < Dn → σ.2.2.2 (A 3) d = some (A (50 + d)) ∧ σ.1 (A (50 + d)) = some (11, 0) ∧ σ.2.1 (A (50 + d)) 0 = C (145 + d) ∧ σ.2.1 (A (50 + d)) 1 = C (151 + d) ∧ σ.2.1 (A (50 + d)) 2 = C (157 + d) ∧ ∀ j, L (A (50 + d)) j = none) ∧
  (∀ a k i, L a k = some i → σ.1 a = some (6, 0) ∨ σ.1 a = some (8, 0) ∨ σ.1 a = some (20, 8)) ∧
  (∀ k y, k < 8 → σ.2.2.2 (A 1) k = some y → σ.1 y = some (10, 0)) ∧ (∀ k y, k < 6 → σ.2.2.2 (A 3) k = some y → σ.1 y = some (11, 0))
section PV
variable {σ : Sg} {L : Nat → Nat → Option Nat} {A : Nat → Nat} {C D : Nat → Int32} {W P Dn Hn k p d : Nat}
theorem Pv.inj (h : Pv σ L A C W P Dn Hn) : Linj L := h.1
theorem Pv.wo (h : Pv σ L A C W P Dn Hn) : Wo L σ (A 1) (fun k => A (10 + k)) C W := h.2.1
theorem Pv.sh (h : Pv σ L A C W P Dn Hn) : (put σ L D).1 (A 0) = some (6, 0) := h.2.2.1.1
theorem Pv.sw (h : Pv σ L A C W P Dn Hn) : (put σ L D).1 (A 1) = some (26, 8) := h.2.1.1
theorem Pv.sp (h : Pv σ L A C W P Dn Hn) : (put σ L D).1 (A 2) = some (27, 6) := h.2.2.1.2.1
theorem Pv.sd (h : Pv σ L A C W P Dn Hn) : (put σ L D).1 (A 3) = some (28, 6) := h.2.2.1.2.2.1
theorem Pv.sy (h : Pv σ L A C W P Dn Hn) : (put σ L D).1 (A 4) = some (4, 0) := h.2.2.1.2.2.2
theorem Pv.r0 (h : Pv σ L A C W P Dn Hn) : (put σ L D).2.2.2 (A 0) 0 = some (A 1) := h.2.2.2.1.1
theorem Pv.r1 (h : Pv σ L A C W P Dn Hn) : (put σ L D).2.2.2 (A 0) 1 = some (A 2) := h.2.2.2.1.2.1
theorem Pv.r2 (h : Pv σ L A C W P Dn Hn) : (put σ L D).2.2.2 (A 0) 2 = some (A 3) := h.2.2.2.1.2.2.1
theorem Pv.r3 (h : Pv σ L A C W P Dn Hn) : (put σ L D).2.2.2 (A 0) 3 = some (A 4) := h.2.2.2.1.2.2.2
theorem Pv.li (h : Pv σ L A C W P Dn Hn) (k i : Nat) (e : k = i + 4) (hi : i < 9) : L (A 0) k = some i := by rw [e]; exact h.2.2.2.2.1 i hi
theorem Pv.w3 (h : Pv σ L A C W P Dn Hn) (hk : k < W) : (put σ L D).2.1 (A (10 + k)) 3 = mHalvesOf C Hn (nI k) := (pgn ((h.2.1.2 k hk).2.2.2.2 3)).trans (h.2.2.2.2.2.1 k hk)
theorem Pv.w1 (h : Pv σ L A C W P Dn Hn) (hk : k < W) : (put σ L D).2.1 (A (10 + k)) 1 = C (9 + k) := Wo.w1 h.2.1 hk
theorem Pv.w2 (h : Pv σ L A C W P Dn Hn) (hk : k < W) : (put σ L D).2.1 (A (10 + k)) 2 = C (17 + k) := Wo.w2 h.2.1 hk
theorem Pv.ws (h : Pv σ L A C W P Dn Hn) (hk : k < W) : (put σ L D).1 (A (10 + k)) = some (10, 0) := (h.2.1.2 k hk).2.1
theorem Pv.rw (h : Pv σ L A C W P Dn Hn) (hk : k < W) : (put σ L D).2.2.2 (A 1) k = some (A (10 + k)) := (h.2.1.2 k hk).1
theorem Pv.rp (h : Pv σ L A C W P Dn Hn) (hp : p < P) : (put σ L D).2.2.2 (A 2) p = some (A (20 + p)) := (h.2.2.2.2.2.2.1 p hp).1
theorem Pv.pe (h : Pv σ L A C W P Dn Hn) (hp : p < P) : Pe L σ (A (20 + p)) (A (30 + p)) (A (40 + p)) p := (h.2.2.2.2.2.2.1 p hp).2
theorem Pv.rd (h : Pv σ L A C W P Dn Hn) (hd : d < Dn) : (put σ L D).2.2.2 (A 3) d = some (A (50 + d)) := (h.2.2.2.2.2.2.2.1 d hd).1
theorem Pv.ds (h : Pv σ L A C W P Dn Hn) (hd : d < Dn) : (put σ L D).1 (A (50 + d)) = some (11, 0) := (h.2.2.2.2.2.2.2.1 d hd).2.1
theorem Pv.d0 (h : Pv σ L A C W P Dn Hn) (hd : d < Dn) : (put σ L D).2.1 (A (50 + d)) 0 = C (145 + d) := (pgn ((h.2.2.2.2.2.2.2.1 d hd).2.2.2.2.2 0)).trans (h.2.2.2.2.2.2.2.1 d hd).2.2.1
theorem Pv.d1 (h : Pv σ L A C W P Dn Hn) (hd : d < Dn) : (put σ L D).2.1 (A (50 + d)) 1 = C (151 + d) := (pgn ((h.2.2.2.2.2.2.2.1 d hd).2.2.2.2.2 1)).trans (h.2.2.2.2.2.2.2.1 d hd).2.2.2.1
theorem Pv.d2 (h : Pv σ L A C W P Dn Hn) (hd : d < Dn) : (put σ L D).2.1 (A (50 + d)) 2 = C (157 + d) := (pgn ((h.2.2.2.2.2.2.2.1 d hd).2.2.2.2.2 2)).trans (h.2.2.2.2.2.2.2.1 d hd).2.2.2.2.1
theorem Pv.dom (h : Pv σ L A C W P Dn Hn) {a k i : Nat} (q : L a k = some i) : σ.1 a = some (6, 0) ∨ σ.1 a = some (8, 0) ∨ σ.1 a = some (20, 8) := h.2.2.2.2.2.2.2.2.1 a k i q
theorem halves_fr {C D : Nat → Int32} {Hn : Nat} {k : Int32} (f : Fr C D) : ∀ n, orTo (hvF D k) n = orTo (hvF C k) n := by
  intro n
  induction n with
  | zero => rfl
  | succ n ih =>
    rw [orTo, orTo, ih]
    unfold hvF
    rw [f (163 + n) (by omega), f (169 + n) (by omega)]
theorem Wo.fr {L : Nat → Nat → Option Nat} {σ : Sg} {aw W : Nat} {wA : Nat → Nat} (h : Wo L σ aw wA C W) (f : Fr C D) (hW8 : W ≤ 8) : Wo L σ aw wA D W :=
  ⟨h.1, fun k hk => ⟨(h.2 k hk).1, (h.2 k hk).2.1, (h.2 k hk).2.2.1.trans (f _ (by omega)).symm, (h.2 k hk).2.2.2.1.trans (f _ (by omega)).symm, (h.2 k hk).2.2.2.2⟩⟩
theorem Pv.fr (h : Pv σ L A C W P Dn Hn) (f : Fr C D) (hW8 : W ≤ 8) : Pv σ L A D W P Dn Hn := by
  obtain ⟨h1, h2, h3, h4, h5, h6, h7, h8, h9⟩ := h
  refine ⟨h1, h2.fr f hW8, h3, h4, h5, fun k hk => (h6 k hk).trans (halves_fr (Hn := Hn) f Hn).symm, h7, fun d hd => ?_, h9⟩
  obtain ⟨q1, q2, q3, q4, q5, q6⟩ := h8 d hd
  exact ⟨q1, q2, q3.trans (f _ (by omega)).symm, q4.trans (f _ (by omega)).symm, q5.trans (f _ (by omega)).symm, q6⟩
end PV
