/-! HALVES, PARTITIONS: what the two roads to rounds come to -/
set_option maxRecDepth 100000
theorem allB_iff {f : Nat → Bool} : ∀ n, allB f n = true ↔ ∀ i, i < n → f i = true := by
  intro n
  induction n with
  | zero => exact ⟨fun _ i hi => absurd hi (Nat.not_lt_zero i), fun _ => rfl⟩
  | succ n ih =>
    rw [allB, Bool.and_eq_true, ih]
    refine ⟨fun h i hi => ?_, fun h => ⟨fun i hi => h i (by omega), h n (by omega)⟩⟩
    by_cases e : i = n
    · rw [e]; exact h.2
    · exact h.1 i (by omega)
/-- the halves' cells are well -/
def Hv (C : Nat → Int32) (W Hn : Nat) : Prop := C 3 = nI Hn ∧ Hn ≤ 6 ∧ ∀ h, h < Hn → ∃ a b, C (163 + h) = nI a ∧ a < W ∧ C (169 + h) = nI b ∧ b < W ∧ a ≠ b
def orN (g : Nat → Nat) : Nat → Nat
  | 0 => 0
  | n + 1 => orN g n ||| g n
theorem orTo_N {f : Nat → Int32} {g : Nat → Nat} : ∀ n, (∀ i, i < n → f i = nI (g i)) → orTo f n = nI (orN g n) := by
  intro n
  induction n with
  | zero => intro _; rfl
  | succ n ih => intro h; rw [orTo, orN, ih (fun i hi => h i (by omega)), h n (by omega), nI_or]
theorem orN_bit {g : Nat → Nat} : ∀ n i, (orN g n).testBit i = true ↔ ∃ h, h < n ∧ (g h).testBit i = true := by
  intro n i
  induction n with
  | zero => simp [orN]
  | succ n ih =>
    rw [orN, Nat.testBit_or, Bool.or_eq_true, ih]
    constructor
    · rintro (⟨h, h1, h2⟩ | h)
      · exact ⟨h, by omega, h2⟩
      · exact ⟨n, by omega, h⟩
    · rintro ⟨h, h1, h2⟩
      by_cases e : h = n
      · subst e; exact Or.inr h2
      · exact Or.inl ⟨h, by omega, h2⟩
theorem orN_lt {g : Nat → Nat} {W : Nat} : ∀ n, (∀ i, i < n → g i < 2 ^ W) → orN g n < 2 ^ W := by
  intro n
  induction n with
  | zero => intro _; exact Nat.two_pow_pos W
  | succ n ih => intro h; exact Nat.or_lt_two_pow (ih fun i hi => h i (by omega)) (h n (by omega))
theorem nI_z {m : Nat} (h : m < 256) : nI m = 0 ↔ m = 0 := by
  rw [← nI_0]
  exact nI_eq (by omega) (by omega)
theorem and_z {m s : Nat} : m &&& s = 0 ↔ ∀ i, ¬ (m.testBit i = true ∧ s.testBit i = true) := by
  constructor
  · intro h i q
    have := congrArg (fun x => x.testBit i) h
    simp only [Nat.testBit_and, Nat.zero_testBit] at this
    rw [q.1, q.2] at this
    cases this
  · intro h
    apply Nat.eq_of_testBit_eq
    intro i
    rw [Nat.testBit_and, Nat.zero_testBit]
    cases e1 : m.testBit i with
    | false => rfl
    | true =>
      cases e2 : s.testBit i with
      | false => rfl
      | true => exact absurd ⟨e1, e2⟩ (h i)
theorem have_one {C : Nat → Int32} {W Hn s : Nat} (hW8 : W ≤ 8) (hv : Hv C W Hn) (hs : s < 256) : (!xHave C W Hn (nI s)) = allB (mOneF C (nI s)) Hn := by
  obtain ⟨-, h6, hh⟩ := hv
  have hbit : ∀ x, x < 8 → hsI (nI s) (nI x) = s.testBit x := fun x hx => by rw [hsI_nI]; exact hs_nI hs (by omega)
  have hal : ∀ k, k < W → ∃ m, m < 256 ∧ mHalvesOf C Hn (nI k) = nI m ∧ ∀ i, m.testBit i = true ↔ ∃ h a b, h < Hn ∧ C (163 + h) = nI a ∧ C (169 + h) = nI b ∧ a < W ∧ b < W ∧ ((a = k ∧ b = i) ∨ (b = k ∧ a ≠ k ∧ a = i)) := by
    intro k hk
    have hf : ∀ h, h < Hn → hvF C (nI k) h = nI (if ixn (C (163 + h)) = k then 2 ^ ixn (C (169 + h)) else if ixn (C (169 + h)) = k then 2 ^ ixn (C (163 + h)) else 0) := by
      intro h hlt
      obtain ⟨a, b, e1, e2, e3, e4, e5⟩ := hh h hlt
      unfold hvF
      rw [e1, e3, ixn_nI (by omega), ixn_nI (by omega)]
      have i1 : (nI a = nI k) ↔ a = k := nI_eq (by omega) (by omega)
      have i2 : (nI b = nI k) ↔ b = k := nI_eq (by omega) (by omega)
      by_cases q1 : a = k
      · rw [if_pos (i1.mpr q1), if_pos q1]; exact bt_nI (by omega)
      · rw [if_neg (fun z => q1 (i1.mp z)), if_neg q1]
        by_cases q2 : b = k
        · rw [if_pos (i2.mpr q2), if_pos q2]; exact bt_nI (by omega)
        · rw [if_neg (fun z => q2 (i2.mp z)), if_neg q2]
    refine ⟨_, ?_, orTo_N Hn hf, fun i => ?_⟩
    · refine orN_lt (W := 8) Hn fun h hlt => ?_
      obtain ⟨a, b, e1, e2, e3, e4, e5⟩ := hh h hlt
      rw [e1, e3, ixn_nI (by omega), ixn_nI (by omega)]
      split
      · exact Nat.pow_lt_pow_right (by decide) (by omega)
      · split
        · exact Nat.pow_lt_pow_right (by decide) (by omega)
        · decide
    · rw [orN_bit]
      constructor
      · rintro ⟨h, h1, h2⟩
        obtain ⟨a, b, e1, e2, e3, e4, e5⟩ := hh h h1
        rw [e1, e3, ixn_nI (by omega), ixn_nI (by omega)] at h2
        refine ⟨h, a, b, h1, e1, e3, e2, e4, ?_⟩
        split at h2
        · next q =>
          rw [Nat.testBit_two_pow, decide_eq_true_eq] at h2
          exact Or.inl ⟨q, h2⟩
        · next q =>
          split at h2
          · next q2 =>
            rw [Nat.testBit_two_pow, decide_eq_true_eq] at h2
            exact Or.inr ⟨q2, q, h2⟩
          · rw [Nat.zero_testBit] at h2; cases h2
      · rintro ⟨h, a, b, h1, e1, e3, e2, e4, q⟩
        refine ⟨h, h1, ?_⟩
        rw [e1, e3, ixn_nI (by omega), ixn_nI (by omega)]
        rcases q with ⟨q1, q2⟩ | ⟨q1, q2, q3⟩
        · rw [if_pos q1, Nat.testBit_two_pow, decide_eq_true_eq]; exact q2
        · rw [if_neg q2, if_pos q1, Nat.testBit_two_pow, decide_eq_true_eq]; exact q3
  unfold xHave
  rw [Bool.not_not, Bool.eq_iff_iff, allB_iff, allB_iff]
  constructor
  · intro h i hi
    obtain ⟨a, b, e1, e2, e3, e4, e5⟩ := hh i hi
    unfold mOneF
    rw [e1, e3, hbit a (by omega), hbit b (by omega)]
    cases q1 : s.testBit a with
    | false => rfl
    | true =>
      cases q2 : s.testBit b with
      | false => rfl
      | true =>
        have h1 := h a e2
        unfold xHaveB at h1
        obtain ⟨m, m1, m2, m3⟩ := hal a e2
        rw [hs_nI hs (by omega), q1, m2, nI_and] at h1
        have hm : ¬ nI (m &&& s) = 0 := by
          rw [nI_z (Nat.lt_of_le_of_lt Nat.and_le_left m1), and_z]
          intro z
          exact z b ⟨(m3 b).mpr ⟨i, a, b, hi, e1, e3, e2, e4, Or.inl ⟨rfl, rfl⟩⟩, q2⟩
        rw [decide_eq_false hm] at h1
        cases h1
  · intro h k hk
    unfold xHaveB
    obtain ⟨m, m1, m2, m3⟩ := hal k hk
    rw [hs_nI hs (by omega), m2, nI_and]
    cases q1 : s.testBit k with
    | false => rfl
    | true =>
      have hm : nI (m &&& s) = 0 := by
        rw [nI_z (Nat.lt_of_le_of_lt Nat.and_le_left m1), and_z]
        rintro i ⟨z1, z2⟩
        obtain ⟨j, a, b, hj, e1, e3, e2, e4, q⟩ := (m3 i).mp z1
        have h1 := h j hj
        unfold mOneF at h1
        rw [e1, e3, hbit a (by omega), hbit b (by omega)] at h1
        rcases q with ⟨y1, y2⟩ | ⟨y1, y2, y3⟩
        · subst y1; subst y2; rw [q1, z2] at h1; cases h1
        · subst y1; subst y3; rw [q1, z2] at h1; cases h1
      rw [decide_eq_true hm]
      rfl
/-! partitions of a set into n parts that are well -/
def sub (t s : Nat) : Prop := ∀ i, t.testBit i = true → s.testBit i = true
theorem dif_z {t s : Nat} : dif t s = 0 ↔ sub t s := by
  constructor
  · intro h i hi
    have := congrArg (fun x => x.testBit i) h
    simp only [dif_bit, Nat.zero_testBit, hi, Bool.true_and] at this
    rw [Bool.not_eq_false'] at this
    exact this
  · intro h
    apply Nat.eq_of_testBit_eq
    intro i
    rw [dif_bit, Nat.zero_testBit]
    cases e : t.testBit i with
    | false => rfl
    | true => rw [h i e]; rfl
theorem sub_le {t s : Nat} (h : sub t s) : t ≤ s := by
  have : t = s &&& t := by
    apply Nat.eq_of_testBit_eq
    intro i
    rw [Nat.testBit_and]
    cases e : t.testBit i with
    | false => rw [Bool.and_false]
    | true => rw [h i e]; rfl
  rw [this]
  exact Nat.and_le_left
theorem dif_sub {t s : Nat} : sub (dif s t) s := fun i h => by rw [dif_bit] at h; exact (Bool.and_eq_true_iff.mp h).1
theorem nz_bit {t : Nat} (h : t ≠ 0) : ∃ i, t.testBit i = true := Nat.exists_testBit_of_ne_zero h
theorem dif_lt {t s : Nat} (h : sub t s) (h0 : t ≠ 0) : dif s t < s := by
  have h1 := dif_le s t
  rcases Nat.lt_or_eq_of_le h1 with h2 | h2
  · exact h2
  · obtain ⟨i, hi⟩ := nz_bit h0
    have := congrArg (fun x => x.testBit i) h2
    simp only [dif_bit, h i hi, hi] at this
    cases this
def Part (ok : Nat → Bool) : Nat → Nat → Prop
  | 0, s => s = 0
  | n + 1, s => ∃ t, t ≠ 0 ∧ sub t s ∧ ok t = true ∧ Part ok n (dif s t)
theorem Part.le {ok : Nat → Bool} : ∀ n s, Part ok n s → n ≤ s := by
  intro n
  induction n with
  | zero => intro s _; omega
  | succ n ih =>
    rintro s ⟨t, h1, h2, h3, h4⟩
    have := ih _ h4
    have := dif_lt h2 h1
    omega
/-- one of the parts holds the bit b -/
theorem Part.swap {ok : Nat → Bool} : ∀ n s b, s.testBit b = true → Part ok (n + 1) s → ∃ t, t.testBit b = true ∧ sub t s ∧ ok t = true ∧ Part ok n (dif s t) := by
  intro n
  induction n with
  | zero =>
    rintro s b hb ⟨t, h1, h2, h3, h4⟩
    refine ⟨t, ?_, h2, h3, h4⟩
    have h5 : dif s t = 0 := h4
    exact dif_z.mp h5 b hb
  | succ n ih =>
    rintro s b hb ⟨t, h1, h2, h3, h4⟩
    cases e : t.testBit b with
    | true => exact ⟨t, e, h2, h3, h4⟩
    | false =>
      obtain ⟨r, r1, r2, r3, r4⟩ := ih (dif s t) b (by rw [dif_bit, hb, e]; rfl) h4
      refine ⟨r, r1, fun i hi => dif_sub i (r2 i hi), r3, t, h1, fun i hi => ?_, h3, ?_⟩
      · rw [dif_bit, h2 i hi]
        cases z : r.testBit i with
        | false => rfl
        | true =>
          have := r2 i z
          rw [dif_bit, hi, Bool.not_true, Bool.and_false] at this
          cases this
      · have : dif (dif s r) t = dif (dif s t) r := by
          apply Nat.eq_of_testBit_eq
          intro i
          simp only [dif_bit]
          cases s.testBit i <;> cases r.testBit i <;> cases t.testBit i <;> rfl
        rw [this]
        exact r4
/-- x is the least n with Q n; none: -1 -/
def Bst (Q : Nat → Prop) (x : Int32) : Prop := (x = -1 ∧ ∀ n, ¬ Q n) ∨ ∃ n, n ≤ 64 ∧ x = nI n ∧ Q n ∧ ∀ m, Q m → n ≤ m
theorem Bst.cg {Q R : Nat → Prop} {x : Int32} (h : Bst Q x) (e : ∀ n, Q n ↔ R n) : Bst R x := by
  rcases h with ⟨h1, h2⟩ | ⟨n, h0, h1, h2, h3⟩
  · exact Or.inl ⟨h1, fun n q => h2 n ((e n).mpr q)⟩
  · exact Or.inr ⟨n, h0, h1, (e n).mp h2, fun m q => h3 m ((e m).mpr q)⟩
def inQ (ok : Nat → Bool) (s m n : Nat) : Prop := ∃ t k, n = k + 1 ∧ 1 ≤ t ∧ t ≤ m ∧ sub t s ∧ ok t = true ∧ Part ok k (dif s t)
theorem inQ_all {ok : Nat → Bool} {s n : Nat} (h0 : s ≠ 0) : inQ ok s s n ↔ Part ok n s := by
  constructor
  · rintro ⟨t, k, rfl, h1, h2, h3, h4, h5⟩
    exact ⟨t, by omega, h3, h4, h5⟩
  · intro h
    cases n with
    | zero => exact absurd h h0
    | succ k =>
      obtain ⟨t, h1, h2, h3, h4⟩ := h
      exact ⟨t, k, rfl, by omega, sub_le h2, h2, h3, h4⟩
theorem m1_lt : (-1 : Int32) < 0 := by decide
theorem rStep_o {C : Nat → Int32} {P Hn set t i : Nat} {R : Nat → Int32} (h : i ≠ set) : rStep C P Hn set t R i = R i := by
  unfold rStep
  split
  · split
    · exact up_ne h
    · rfl
  · rfl
theorem rStep_b {C : Nat → Int32} {P Hn s m : Nat} {R : Nat → Int32} (hs : s < 64) (hR : ∀ e, e < s → Bst (fun n => Part (fun t => mIsOne C P Hn (nI t)) n e) (R e)) (hb : Bst (inQ (fun t => mIsOne C P Hn (nI t)) s m) (R s)) : Bst (inQ (fun t => mIsOne C P Hn (nI t)) s (m + 1)) (rStep C P Hn s (m + 1) R s) := by
  have ext : ∀ n, inQ (fun t => mIsOne C P Hn (nI t)) s (m + 1) n ↔ inQ (fun t => mIsOne C P Hn (nI t)) s m n ∨ ∃ k, n = k + 1 ∧ sub (m + 1) s ∧ mIsOne C P Hn (nI (m + 1)) = true ∧ Part (fun t => mIsOne C P Hn (nI t)) k (dif s (m + 1)) := by
    intro n
    constructor
    · rintro ⟨t, k, h1, h2, h3, h4, h5, h6⟩
      by_cases e : t = m + 1
      · subst e; exact Or.inr ⟨k, h1, h4, h5, h6⟩
      · exact Or.inl ⟨t, k, h1, h2, by omega, h4, h5, h6⟩
    · rintro (⟨t, k, h1, h2, h3, h4, h5, h6⟩ | ⟨k, h1, h4, h5, h6⟩)
      · exact ⟨t, k, h1, h2, by omega, h4, h5, h6⟩
      · exact ⟨m + 1, k, h1, by omega, by omega, h4, h5, h6⟩
  have none' : (¬ ∃ k, sub (m + 1) s ∧ mIsOne C P Hn (nI (m + 1)) = true ∧ Part (fun t => mIsOne C P Hn (nI t)) k (dif s (m + 1))) → Bst (inQ (fun t => mIsOne C P Hn (nI t)) s (m + 1)) (R s) := fun h => hb.cg fun n => by
    rw [ext]
    exact ⟨Or.inl, fun q => q.elim id (fun ⟨k, _, q2⟩ => absurd ⟨k, q2⟩ h)⟩
  unfold rStep
  by_cases h1 : dif (m + 1) s = 0
  · have hsub := dif_z.mp h1
    by_cases h2 : mIsOne C P Hn (nI (m + 1)) = true
    · have hlt : dif s (m + 1) < s := dif_lt hsub (by omega)
      rcases hR _ hlt with ⟨r1, r2⟩ | ⟨k, r0, r1, r2, r3⟩
      · rw [if_neg (fun q => q.2.2 (by rw [r1]; exact m1_lt))]
        exact none' (fun ⟨k, _, _, q⟩ => r2 k q)
      · rw [if_pos ⟨h1, h2, by rw [r1]; exact nI_pos (by omega)⟩, r1, nI_add]
        have hk := Part.le _ _ r2
        rcases hb with ⟨b1, b2⟩ | ⟨n, b0, b1, b2, b3⟩
        · rw [b1, if_pos (Or.inl m1_lt), up_eq]
          refine Or.inr ⟨k + 1, by omega, rfl, (ext _).mpr (Or.inr ⟨k, rfl, hsub, h2, r2⟩), fun m' hm' => ?_⟩
          rcases (ext m').mp hm' with q | ⟨k', q1, _, _, q2⟩
          · exact absurd q (b2 m')
          · have := r3 k' q2; omega
        · by_cases hlt2 : k + 1 < n
          · rw [if_pos (Or.inr (by rw [b1]; exact (nI_ltI (by omega) (by omega)).mpr hlt2)), up_eq]
            refine Or.inr ⟨k + 1, by omega, rfl, (ext _).mpr (Or.inr ⟨k, rfl, hsub, h2, r2⟩), fun m' hm' => ?_⟩
            rcases (ext m').mp hm' with q | ⟨k', q1, _, _, q2⟩
            · have := b3 m' q; omega
            · have := r3 k' q2; omega
          · rw [if_neg (fun q => q.elim (fun q => by rw [b1] at q; exact nI_pos (by omega) q) (fun q => by rw [b1] at q; exact hlt2 ((nI_ltI (by omega) (by omega)).mp q)))]
            refine Or.inr ⟨n, b0, b1, (ext _).mpr (Or.inl b2), fun m' hm' => ?_⟩
            rcases (ext m').mp hm' with q | ⟨k', q1, _, _, q2⟩
            · exact b3 m' q
            · have := r3 k' q2; omega
    · rw [if_neg (fun q => h2 q.2.1)]
      exact none' (fun ⟨k, _, q, _⟩ => h2 q)
  · rw [if_neg (fun q => h1 q.1)]
    exact none' (fun ⟨k, q, _⟩ => h1 (dif_z.mpr q))
theorem rSet_b {C : Nat → Int32} {P Hn s : Nat} {R : Nat → Int32} (hs : s < 64) (h0 : s ≠ 0) (hR : ∀ e, e < s → Bst (fun n => Part (fun t => mIsOne C P Hn (nI t)) n e) (R e)) : (∀ e, e ≠ s → rSet C P Hn s R e = R e) ∧ Bst (fun n => Part (fun t => mIsOne C P Hn (nI t)) n s) (rSet C P Hn s R s) := by
  have key : ∀ m, m ≤ s → (∀ e, e ≠ s → itr (fun j R => rStep C P Hn s (j + 1) R) m (up R s (-1)) e = R e) ∧ Bst (inQ (fun t => mIsOne C P Hn (nI t)) s m) (itr (fun j R => rStep C P Hn s (j + 1) R) m (up R s (-1)) s) := by
    intro m
    induction m with
    | zero =>
      intro _
      refine ⟨fun e he => up_ne he, Or.inl ⟨up_eq _ _ _, ?_⟩⟩
      rintro n ⟨t, k, h1, h2, h3, -⟩
      omega
    | succ m ih =>
      intro hm
      obtain ⟨h1, h2⟩ := ih (by omega)
      refine ⟨fun e he => by rw [itr, rStep_o he]; exact h1 e he, ?_⟩
      rw [itr]
      exact rStep_b hs (fun e he => by rw [h1 e (by omega)]; exact hR e he) h2
  obtain ⟨h1, h2⟩ := key s (Nat.le_refl _)
  exact ⟨h1, h2.cg fun n => inQ_all h0⟩
theorem rAll_b {C : Nat → Int32} {P Hn : Nat} {R : Nat → Int32} : ∀ s, s < 64 → ∀ e, e ≤ s → Bst (fun n => Part (fun t => mIsOne C P Hn (nI t)) n e) (rAll C P Hn s R e) := by
  intro s
  induction s with
  | zero =>
    intro _ e he
    have : e = 0 := by omega
    subst this
    exact Or.inr ⟨0, by omega, (show up R 0 (nI 0) 0 = nI 0 from up_eq _ _ _), rfl, fun m _ => by omega⟩
  | succ s ih =>
    intro hs e he
    have ih := ih (by omega)
    have st : rAll C P Hn (s + 1) R = rSet C P Hn (s + 1) (rAll C P Hn s R) := rfl
    rw [st]
    obtain ⟨h1, h2⟩ := rSet_b (C := C) (P := P) (Hn := Hn) (R := rAll C P Hn s R) (s := s + 1) hs (by omega) (fun e he => ih e (by omega))
    by_cases q : e = s + 1
    · subst q; exact h2
    · rw [h1 e q]; exact ih e (by omega)
