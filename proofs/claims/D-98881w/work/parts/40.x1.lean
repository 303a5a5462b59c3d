/-! PLAIN LAWS OF THE ROW: what holds all through; PERSONS, WORDS under a lens -/
set_option maxRecDepth 100000
theorem sumTo_z {f : Nat → Int32} {W : Nat} : ∀ n, W ≤ n → (∀ i, W ≤ i → i < n → f i = nI 0) → sumTo f n = sumTo f W := by
  intro n
  induction n with
  | zero => intro h _; rw [show W = 0 by omega]
  | succ n ih =>
    intro h hz
    by_cases e : W = n + 1
    · rw [e]
    · rw [sumTo, hz n (by omega) (by omega), ih (by omega) (fun i a b => hz i a (by omega)), nI_0, Int32.add_zero]
theorem nI_m1 {n : Nat} (h : n < 2 ^ 31) : ¬ nI n = -1 := by
  intro e
  have := nI_pos h
  rw [e] at this
  exact this (by decide)
/-- keeps lie below W -/
def KW (C : Nat → Int32) (W p : Nat) : Prop := ∀ k, k < 8 → hs (C (43 + p)) k = true → k < W
theorem mHair8 {C : Nat → Int32} {W p : Nat} (hW8 : W ≤ 8) (h : KW C W p) : sumTo (hairF C p) 8 = mHair C W p := by
  refine sumTo_z 8 hW8 fun i h1 h2 => ?_
  unfold hairF
  rw [if_neg]
  intro e
  have := h i h2 e
  omega
theorem lgo8 {C : Nat → Int32} {W p : Nat} {set : Int32} (h : KW C W p) : ∀ n, W ≤ n → n ≤ 8 → lgo C p set n = lgo C p set W := by
  intro n
  induction n with
  | zero => intro a _; rw [show W = 0 by omega]
  | succ n ih =>
    intro a b
    by_cases e : W = n + 1
    · rw [e]
    · rw [lgo, if_neg, ih (by omega) (by omega)]
      intro q
      have := h n (by omega) q.1
      omega
theorem hs_not {t j : Nat} (ht : t < 256) (hj : j < 8) : hs (nI t ^^^ (-1)) j = !t.testBit j := by
  have h : ∀ t, t < 256 → ∀ j, j < 8 → hs (nI t ^^^ (-1)) j = !t.testBit j := by decide +kernel
  exact h t ht j hj
theorem hs_dif {s t j : Nat} (h1 : s < 256) (h2 : t < 256) (hj : j < 8) : hs (nI s &&& (nI t ^^^ (-1))) j = (hs (nI s) j && hs (nI t ^^^ (-1)) j) := by
  rw [nI_dif, hs_nI (Nat.lt_of_le_of_lt (dif_le s t) h1) (by omega), dif_bit, hs_nI h1 (by omega), hs_not h2 hj]
theorem nI_am1 (s : Nat) : nI s &&& (-1) = nI s := by
  have e : (-1 : Int32) = nI 0 ^^^ (-1) := by decide +kernel
  rw [e, nI_dif]
  unfold dif
  rw [Nat.and_zero, Nat.xor_zero]
theorem hs_m1 {s j : Nat} : hs (nI s &&& (-1)) j = (hs (nI s) j && hs (nI s) j) := by rw [nI_am1, Bool.and_self]
theorem or_lt8 {a b W : Nat} (h1 : a < 2 ^ W) (h2 : b < 2 ^ W) : a ||| b < 2 ^ W := Nat.or_lt_two_pow h1 h2
theorem hs_orbt {t k : Nat} (ht : t < 256) (hk : k < 8) : hs (nI t ||| bt k) k = true := by
  have h2 : 2 ^ k < 2 ^ 8 := Nat.pow_lt_pow_right (by decide) hk
  rw [bt_nI hk, nI_or, hs_nI (or_lt8 (W := 8) ht h2) (by omega), Nat.testBit_or, Nat.testBit_two_pow_self, Bool.or_true]
/-- a person's cells are well -/
def Pp (C : Nat → Int32) (W p : Nat) : Prop := (∃ s t, C (43 + p) = nI s ∧ C (37 + p) = nI t ∧ t < 2 ^ W ∧ ∀ i, s.testBit i = true → t.testBit i = true) ∧ ∀ k, k < 8 → ∃ a n, C (97 + 8 * p + k) = nI a ∧ a ≤ 999 ∧ C (49 + 8 * p + k) = nI n ∧ n ≤ 9 * min a 99
/-- the words' cells are well -/
def Wv (C : Nat → Int32) (W : Nat) : Prop := W ≤ 8 ∧ ∀ k, k < W → ∃ r y, C (9 + k) = nI r ∧ r ≤ 9 ∧ C (17 + k) = nI y ∧ y ≤ 99
theorem Wv.fr {C D : Nat → Int32} {W : Nat} (h : Wv C W) (f : Fr C D) : Wv D W := by
  refine ⟨h.1, fun k hk => ?_⟩
  have h8 := h.1
  obtain ⟨r, y, h1, h2, h3, h4⟩ := h.2 k hk
  exact ⟨r, y, (f _ (by omega)).trans h1, h2, (f _ (by omega)).trans h3, h4⟩
theorem tb_lt {t W i : Nat} (ht : t < 2 ^ W) (h : t.testBit i = true) : i < W := by
  rcases Nat.lt_or_ge i W with q | q
  · exact q
  · rw [Nat.testBit_lt_two_pow (Nat.lt_of_lt_of_le ht (Nat.pow_le_pow_right (by decide) q))] at h
    cases h
theorem sub_lt {s t W : Nat} (ht : t < 2 ^ W) (h : ∀ i, s.testBit i = true → t.testBit i = true) : s < 2 ^ W := by
  refine Nat.lt_of_not_le fun q => ?_
  obtain ⟨i, hi, hb⟩ := Nat.exists_ge_and_testBit_of_ge_two_pow q
  have := tb_lt ht (h i hb)
  omega
theorem Pp.sets {C : Nat → Int32} {W p : Nat} (h : Pp C W p) (hW8 : W ≤ 8) : ∃ s t, C (43 + p) = nI s ∧ C (37 + p) = nI t ∧ t < 2 ^ W ∧ s < 2 ^ W ∧ s < 256 ∧ t < 256 ∧ ∀ i, s.testBit i = true → t.testBit i = true := by
  obtain ⟨⟨s, t, h1, h2, h3, h4⟩, -⟩ := h
  have h5 := sub_lt h3 h4
  have := pw8 hW8
  exact ⟨s, t, h1, h2, h3, h5, by omega, by omega, h4⟩
theorem Pp.kw {C : Nat → Int32} {W p : Nat} (h : Pp C W p) (hW8 : W ≤ 8) : KW C W p := by
  intro k hk hb
  obtain ⟨s, t, h1, h2, h3, h4, h5, h6, h7⟩ := h.sets hW8
  rw [h1, hs_nI h5 (by omega)] at hb
  exact tb_lt h4 hb
/-- the cells of person p -/
def pcell (p i : Nat) : Prop := i = 25 + p ∨ i = 31 + p ∨ i = 37 + p ∨ i = 43 + p ∨ (49 + 8 * p ≤ i ∧ i < 57 + 8 * p) ∨ (97 + 8 * p ≤ i ∧ i < 105 + 8 * p)
theorem Pp.cg {C D : Nat → Int32} {W p : Nat} (h : Pp C W p) (e : ∀ i, pcell p i → D i = C i) : Pp D W p := by
  obtain ⟨⟨s, t, h1, h2, h3, h4⟩, h5⟩ := h
  refine ⟨⟨s, t, (e _ (by unfold pcell; omega)).trans h1, (e _ (by unfold pcell; omega)).trans h2, h3, h4⟩, fun k hk => ?_⟩
  obtain ⟨a, n, q1, q2, q3, q4⟩ := h5 k hk
  exact ⟨a, n, (e _ (by unfold pcell; omega)).trans q1, q2, (e _ (by unfold pcell; omega)).trans q3, q4⟩
/-! a day for one person -/
theorem grStep_ne {p k i : Nat} {D : Nat → Int32} (h1 : i ≠ 49 + (8 * p + k)) (h2 : i ≠ 97 + (8 * p + k)) : grStep p k D i = D i := by
  unfold grStep
  split
  · split
    · rw [up_ne h2, up_ne h1]
    · rw [up_ne h2]
  · rfl
theorem grItr_ne {p i : Nat} {D : Nat → Int32} : ∀ n, (∀ k, k < n → i ≠ 49 + (8 * p + k) ∧ i ≠ 97 + (8 * p + k)) → itr (grStep p) n D i = D i := by
  intro n
  induction n with
  | zero => intro _; rfl
  | succ n ih =>
    intro h
    rw [itr, grStep_ne (h n (by omega)).1 (h n (by omega)).2]
    exact ih fun k hk => h k (by omega)
theorem grItr8 {p W : Nat} {C : Nat → Int32} (h : KW C W p) (hp : p < 6) : ∀ n, W ≤ n → n ≤ 8 → itr (grStep p) n C = itr (grStep p) W C := by
  intro n
  induction n with
  | zero => intro a _; rw [show W = 0 by omega]
  | succ n ih =>
    intro a b
    by_cases e : W = n + 1
    · rw [e]
    · rw [itr, ← ih (by omega) (by omega)]
      unfold grStep
      rw [if_neg]
      intro q
      have e2 : itr (grStep p) n C (43 + p) = C (43 + p) := grItr_ne n fun k hk => by omega
      replace q : hs (itr (grStep p) n C (43 + p)) n = true := q
      rw [e2] at q
      have := h n (by omega) q
      omega
theorem mn_nI {a b : Nat} (ha : a < 2 ^ 31) (hb : b < 2 ^ 31) : mn (nI a) (nI b) = nI (min a b) := by
  unfold mn
  by_cases h : b < a
  · rw [if_pos ((nI_ltI hb ha).mpr h), Nat.min_eq_right (by omega)]
  · rw [if_neg (fun q => h ((nI_ltI hb ha).mp q)), Nat.min_eq_left (by omega)]
/-- by how much a strand of the age a grows in a day -/
theorem more1 {r y a : Nat} (hr : r ≤ 9) (hy : y ≤ 99) (ha : a ≤ 999) : nI r * mx (nI 0) (mn (nI 1) (nI y - nI a)) = if a < y then nI r else nI 0 := by
  have h : ∀ y, y ≤ 99 → ∀ a, a ≤ 999 → mx (nI 0) (mn (nI 1) (nI y - nI a)) = if a < y then nI 1 else nI 0 := by
    intro y hy a ha
    by_cases e : a < y
    · rw [if_pos e, nI_sub (by omega), mn_nI (by decide) (by omega), Nat.min_eq_left (by omega)]
      decide +kernel
    · rw [if_neg e]
      have e1 : nI y - nI a = -(nI (a - y)) := by
        rw [← nI_sub (by omega)]
        rw [Int32.neg_sub]
      have e2 : (nI y - nI a).toInt = -((a - y : Nat) : Int) := by
        rw [e1, Int32.toInt_neg, nI_toInt (by omega)]
        apply Int.bmod_eq_of_le <;> omega
      have e3 : nI y - nI a ≤ nI 0 := by
        rw [Int32.le_iff_toInt_le, e2, nI_toInt (by decide)]
        omega
      have e4 : nI y - nI a < nI 1 := by
        rw [Int32.lt_iff_toInt_lt, e2, nI_toInt (by decide)]
        omega
      unfold mn
      rw [if_pos e4]
      unfold mx
      rw [if_neg (Int32.not_lt.mpr e3)]
  rw [h y hy a ha]
  by_cases e : a < y
  · rw [if_pos e, if_pos e, nI_mul, Nat.mul_one]
  · rw [if_neg e, if_neg e, nI_mul, Nat.mul_zero]
theorem grStep_pp {C D : Nat → Int32} {W p k : Nat} (hW : Wv D W) (hp : p < 6) (hk : k < W) (h : Pp D W p) : Pp (grStep p k D) W p := by
  have hW8 := hW.1
  refine ⟨?_, fun j hj => ?_⟩
  · obtain ⟨⟨s, t, h1, h2, h3, h4⟩, -⟩ := h
    exact ⟨s, t, (grStep_ne (by omega) (by omega)).trans h1, (grStep_ne (by omega) (by omega)).trans h2, h3, h4⟩
  · obtain ⟨a, n, q1, q2, q3, q4⟩ := h.2 j hj
    by_cases e : j = k
    · subst e
      obtain ⟨r, y, w1, w2, w3, w4⟩ := hW.2 j hk
      have q1' : D (97 + (8 * p + j)) = nI a := by rw [← Nat.add_assoc]; exact q1
      have q3' : D (49 + (8 * p + j)) = nI n := by rw [← Nat.add_assoc]; exact q3
      unfold grStep
      by_cases hb : hs (D (43 + p)) j = true
      · rw [if_pos hb, q1', q3', w1, w3]
        have e5 : mn (nI 999) (nI a + nI 1) = nI (min 999 (a + 1)) := by rw [nI_add, mn_nI (by decide) (by omega)]
        rw [e5]
        rw [show 97 + 8 * p + j = 97 + (8 * p + j) by omega, show 49 + 8 * p + j = 49 + (8 * p + j) by omega]
        by_cases hlt : nI a < nI y
        · rw [if_pos hlt]
          have hay : a < y := (nI_ltI (by omega) (by omega)).mp hlt
          refine ⟨min 999 (a + 1), n + r, by rw [up_eq], by omega, ?_, by omega⟩
          rw [up_ne (by omega), up_eq, nI_add]
        · rw [if_neg hlt]
          exact ⟨min 999 (a + 1), n, by rw [up_eq], by omega, by rw [up_ne (by omega)]; exact q3', by omega⟩
      · rw [if_neg hb]
        exact ⟨a, n, q1, q2, q3, q4⟩
    · exact ⟨a, n, (grStep_ne (by omega) (by omega)).trans q1, q2, (grStep_ne (by omega) (by omega)).trans q3, q4⟩
theorem grItr_pp {C : Nat → Int32} {W p : Nat} (hW : Wv C W) (hp : p < 6) (h : Pp C W p) : ∀ n, n ≤ W → Pp (itr (grStep p) n C) W p := by
  intro n
  induction n with
  | zero => intro _; exact h
  | succ n ih =>
    intro hn
    exact grStep_pp (C := C) (hW.fr (mGrow_fr hp n (by have := hW.1; omega))) hp (by omega) (ih (by omega))
theorem grow_ot {C : Nat → Int32} {W p i : Nat} (h8 : W ≤ 8) (hi : ¬ pcell p i) : mGrow C W p i = C i := grItr_ne W fun k hk => by
  unfold pcell at hi
  omega
theorem pcell_ne {p q i : Nat} (hp : p < 6) (hq : q < 6) (hpq : p ≠ q) (h : pcell q i) : ¬ pcell p i := by
  unfold pcell at h ⊢
  omega
theorem grow_pp {C : Nat → Int32} {W p q : Nat} (hW : Wv C W) (hp : p < 6) (hq : q < 6) (h : Pp C W q) : Pp (mGrow C W p) W q := by
  by_cases e : p = q
  · subst e; exact grItr_pp hW hp h W (Nat.le_refl _)
  · exact h.cg fun i hi => grow_ot hW.1 (pcell_ne hp hq e hi)
/-! a person under a lens: his object b, his arrays la (lengths), aa (ages) -/
def Pe (L : Nat → Nat → Option Nat) (σ : Sg) (b la aa p : Nat) : Prop := (σ.1 b = some (8, 0) ∧ σ.1 la = some (20, 8) ∧ σ.1 aa = some (20, 8)) ∧ (σ.2.2.2 b 1 = some la ∧ σ.2.2.2 b 2 = some aa) ∧ (L b 3 = some (25 + p) ∧ L b 4 = some (37 + p) ∧ L b 5 = some (43 + p) ∧ L b 6 = some (31 + p)) ∧ (∀ j, j < 8 → L la j = some (49 + 8 * p + j)) ∧ (∀ j, j < 8 → L aa j = some (97 + 8 * p + j))
def Wo (L : Nat → Nat → Option Nat) (σ : Sg) (aw : Nat) (wA : Nat → Nat) (C : Nat → Int32) (W : Nat) : Prop := σ.1 aw = some (26, 8) ∧ ∀ k, k < W → σ.2.2.2 aw k = some (wA k) ∧ σ.1 (wA k) = some (10, 0) ∧ σ.2.1 (wA k) 1 = C (9 + k) ∧ σ.2.1 (wA k) 2 = C (17 + k) ∧ ∀ j, L (wA k) j = none
section PE
variable {L : Nat → Nat → Option Nat} {σ : Sg} {b la aa p k j : Nat} {C D : Nat → Int32} {aw W : Nat} {wA : Nat → Nat}
theorem Pe.sh (h : Pe L σ b la aa p) : (put σ L D).1 b = some (8, 0) := h.1.1
theorem Pe.sl (h : Pe L σ b la aa p) : (put σ L D).1 la = some (20, 8) := h.1.2.1
theorem Pe.sa (h : Pe L σ b la aa p) : (put σ L D).1 aa = some (20, 8) := h.1.2.2
theorem Pe.r1 (h : Pe L σ b la aa p) : (put σ L D).2.2.2 b 1 = some la := h.2.1.1
theorem Pe.r2 (h : Pe L σ b la aa p) : (put σ L D).2.2.2 b 2 = some aa := h.2.1.2
theorem Pe.l3 (h : Pe L σ b la aa p) : L b 3 = some (25 + p) := h.2.2.1.1
theorem Pe.l4 (h : Pe L σ b la aa p) : L b 4 = some (37 + p) := h.2.2.1.2.1
theorem Pe.l5 (h : Pe L σ b la aa p) : L b 5 = some (43 + p) := h.2.2.1.2.2.1
theorem Pe.l6 (h : Pe L σ b la aa p) : L b 6 = some (31 + p) := h.2.2.1.2.2.2
theorem Pe.ll (h : Pe L σ b la aa p) (hj : j < 8) : L la j = some (49 + 8 * p + j) := h.2.2.2.1 j hj
theorem Pe.lg (h : Pe L σ b la aa p) (hj : j < 8) : L aa j = some (97 + 8 * p + j) := h.2.2.2.2 j hj
theorem Pe.mv {τ : Sg} (h : Pe L σ b la aa p) (h1 : ∀ a, σ.1 a ≠ none → τ.1 a = σ.1 a) (h2 : ∀ k, τ.2.2.2 b k = σ.2.2.2 b k) : Pe L τ b la aa p :=
  ⟨⟨(h1 _ (by rw [h.1.1]; simp)).trans h.1.1, (h1 _ (by rw [h.1.2.1]; simp)).trans h.1.2.1, (h1 _ (by rw [h.1.2.2]; simp)).trans h.1.2.2⟩, ⟨(h2 1).trans h.2.1.1, (h2 2).trans h.2.1.2⟩, h.2.2⟩
theorem Wo.a (h : Wo L σ aw wA C W) : (put σ L D).1 aw = some (26, 8) := h.1
theorem Wo.r (h : Wo L σ aw wA C W) (hk : k < W) : (put σ L D).2.2.2 aw k = some (wA k) := (h.2 k hk).1
theorem Wo.s (h : Wo L σ aw wA C W) (hk : k < W) : (put σ L D).1 (wA k) = some (10, 0) := (h.2 k hk).2.1
theorem Wo.w1 (h : Wo L σ aw wA C W) (hk : k < W) : (put σ L D).2.1 (wA k) 1 = C (9 + k) := (pgn ((h.2 k hk).2.2.2.2 1)).trans (h.2 k hk).2.2.1
theorem Wo.w2 (h : Wo L σ aw wA C W) (hk : k < W) : (put σ L D).2.1 (wA k) 2 = C (17 + k) := (pgn ((h.2 k hk).2.2.2.2 2)).trans (h.2 k hk).2.2.2.1
end PE
