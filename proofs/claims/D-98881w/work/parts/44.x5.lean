/-! X: CUTS. what the two roads leave is one row -/
set_option maxRecDepth 100000
/-- cell by cell: person p's strands kept are cut, b learns and keeps the words of S, of the first n -/
def cutX (C : Nat → Int32) (p b : Nat) (S : Int32) (T : Nat → Bool) (n : Nat) : Nat → Int32 := fun i =>
  if i = 37 + b then C i ||| S else if i = 43 + b then C i ||| S else if 49 + 8 * p ≤ i ∧ i < 49 + 8 * p + n ∧ hs (C (43 + p)) (i - (49 + 8 * p)) = true then nI 0
  else if 49 + 8 * b ≤ i ∧ i < 49 + 8 * b + n ∧ T (i - (49 + 8 * b)) = true then nI 0 else if 97 + 8 * b ≤ i ∧ i < 97 + 8 * b + n ∧ T (i - (97 + 8 * b)) = true then nI 0 else C i
/-- which words b learns anew -/
def cutT (C : Nat → Int32) (p b : Nat) (j : Nat) : Bool := hs (C (43 + p)) j && !decide (C (49 + 8 * p + j) < C 4) && !hs (C (37 + b)) j
theorem cutS_T {C : Nat → Int32} {p b : Nat} : ∀ n, n ≤ 8 → ∃ m, m < 2 ^ n ∧ cutS C p b n = nI m ∧ ∀ i, m.testBit i = (decide (i < n) && cutT C p b i) := by
  intro n
  induction n with
  | zero => intro _; exact ⟨0, by decide, rfl, fun i => by simp⟩
  | succ n ih =>
    intro hn
    obtain ⟨m, h1, h2, h3⟩ := ih (by omega)
    have hp : 2 ^ n < 2 ^ (n + 1) := Nat.pow_lt_pow_right (by decide) (by omega)
    rw [cutS]
    by_cases e : cutT C p b n = true
    · have e2 : hs (C (43 + p)) n = true ∧ ¬ C (49 + 8 * p + n) < C 4 ∧ hs (C (37 + b)) n = false := by
        unfold cutT at e
        simpa [and_assoc] using e
      rw [if_pos e2, h2, bt_nI (by omega), nI_or]
      refine ⟨m ||| 2 ^ n, Nat.or_lt_two_pow (by omega) hp, rfl, fun i => ?_⟩
      rw [Nat.testBit_or, h3, Nat.testBit_two_pow]
      by_cases q : n = i
      · subst q; simp [e]
      · rw [decide_eq_false q, Bool.or_false]
        congr 1
        rw [decide_eq_decide]; omega
    · have e2 : ¬ (hs (C (43 + p)) n = true ∧ ¬ C (49 + 8 * p + n) < C 4 ∧ hs (C (37 + b)) n = false) := fun q => e (by unfold cutT; simpa [and_assoc] using q)
      rw [if_neg e2]
      refine ⟨m, by omega, h2, fun i => ?_⟩
      rw [h3]
      by_cases q : i = n
      · subst q; simp [e]
      · congr 1
        rw [decide_eq_decide]; omega
theorem cutR_at {C : Nat → Int32} {p : Nat} : ∀ n i, cutR C p n i = if 49 + 8 * p ≤ i ∧ i < 49 + 8 * p + n ∧ hs (C (43 + p)) (i - (49 + 8 * p)) = true then nI 0 else C i := by
  intro n
  induction n with
  | zero => intro i; rw [if_neg (by omega)]; rfl
  | succ n ih =>
    intro i
    rw [cutR]
    by_cases e : hs (C (43 + p)) n = true
    · rw [if_pos e]
      by_cases q : i = 49 + 8 * p + n
      · subst q
        rw [up_eq, if_pos ⟨by omega, by omega, by rw [Nat.add_sub_cancel_left]; exact e⟩]
      · rw [up_ne q, ih i]
        refine ite_congr (propext ⟨fun z => ⟨z.1, by omega, z.2.2⟩, fun z => ⟨z.1, by omega, z.2.2⟩⟩) (fun _ => rfl) (fun _ => rfl)
    · rw [if_neg e, ih i]
      refine ite_congr (propext ⟨fun z => ⟨z.1, by omega, z.2.2⟩, fun z => ⟨z.1, ?_, z.2.2⟩⟩) (fun _ => rfl) (fun _ => rfl)
      have : i - (49 + 8 * p) ≠ n := fun q => e (by rw [← q]; exact z.2.2)
      omega
theorem cutE_at {S : Int32} {b : Nat} {E : Nat → Int32} (hb : b < 6) : ∀ n, n ≤ 8 → ∀ i, cutE S b E n i = if i = 43 + b then E i ||| orTo (fun k => if hs S k = true then bt k else nI 0) n else
    if 49 + 8 * b ≤ i ∧ i < 49 + 8 * b + n ∧ hs S (i - (49 + 8 * b)) = true then nI 0 else if 97 + 8 * b ≤ i ∧ i < 97 + 8 * b + n ∧ hs S (i - (97 + 8 * b)) = true then nI 0 else E i := by
  intro n
  induction n with
  | zero =>
    intro _ i
    rw [if_neg (show ¬ (49 + 8 * b ≤ i ∧ i < 49 + 8 * b + 0 ∧ hs S (i - (49 + 8 * b)) = true) by omega), if_neg (show ¬ (97 + 8 * b ≤ i ∧ i < 97 + 8 * b + 0 ∧ hs S (i - (97 + 8 * b)) = true) by omega)]
    rw [orTo, nI_0, Int32.or_zero, ite_self]
    rfl
  | succ n ih =>
    intro hn i
    have st : cutE S b E (n + 1) = if hs S n = true then mStrand (cutE S b E n) b n else cutE S b E n := rfl
    rw [st, orTo]
    by_cases e : hs S n = true
    · rw [if_pos e]
      by_cases q1 : i = 43 + b
      · subst q1
        unfold mStrand
        rw [up_ne (by omega), up_ne (by omega), up_eq, ih (by omega), if_pos rfl, if_pos rfl, if_pos e, Int32.or_assoc]
      · rw [if_neg q1]
        by_cases q2 : i = 49 + 8 * b + n
        · subst q2
          unfold mStrand
          rw [up_ne (by omega), up_eq, if_pos ⟨by omega, by omega, by rw [Nat.add_sub_cancel_left]; exact e⟩]
        · by_cases q3 : i = 97 + 8 * b + n
          · subst q3
            unfold mStrand
            rw [up_eq, if_neg (by omega), if_pos ⟨by omega, by omega, by rw [Nat.add_sub_cancel_left]; exact e⟩]
          · rw [strand_ot q1 q2 q3, ih (by omega), if_neg q1]
            refine ite_congr (propext ⟨fun z => ⟨z.1, by omega, z.2.2⟩, fun z => ⟨z.1, by omega, z.2.2⟩⟩) (fun _ => rfl) (fun _ => ?_)
            exact ite_congr (propext ⟨fun z => ⟨z.1, by omega, z.2.2⟩, fun z => ⟨z.1, by omega, z.2.2⟩⟩) (fun _ => rfl) (fun _ => rfl)
    · rw [if_neg e, ih (by omega), if_neg e]
      refine ite_congr rfl (fun _ => by rw [nI_0, Int32.or_zero]) (fun _ => ?_)
      refine ite_congr (propext ⟨fun z => ⟨z.1, by omega, z.2.2⟩, fun z => ⟨z.1, ?_, z.2.2⟩⟩) (fun _ => rfl) (fun _ => ?_)
      · have : i - (49 + 8 * b) ≠ n := fun q => e (by rw [← q]; exact z.2.2)
        omega
      refine ite_congr (propext ⟨fun z => ⟨z.1, by omega, z.2.2⟩, fun z => ⟨z.1, ?_, z.2.2⟩⟩) (fun _ => rfl) (fun _ => rfl)
      have : i - (97 + 8 * b) ≠ n := fun q => e (by rw [← q]; exact z.2.2)
      omega
theorem orTo_eq {f f' : Nat → Int32} : ∀ n, (∀ i, i < n → f i = f' i) → orTo f n = orTo f' n := by
  intro n
  induction n with
  | zero => intro _; rfl
  | succ n ih => intro h; rw [orTo, orTo, ih (fun i hi => h i (by omega)), h n (by omega)]
theorem cutS_or {C : Nat → Int32} {p b : Nat} : ∀ n, cutS C p b n = orTo (fun k => if cutT C p b k = true then bt k else nI 0) n := by
  intro n
  induction n with
  | zero => rfl
  | succ n ih =>
    rw [cutS, orTo, ih]
    by_cases e : cutT C p b n = true
    · have e2 : hs (C (43 + p)) n = true ∧ ¬ C (49 + 8 * p + n) < C 4 ∧ hs (C (37 + b)) n = false := by
        unfold cutT at e
        simpa [and_assoc] using e
      rw [if_pos e2, if_pos e]
    · have e2 : ¬ (hs (C (43 + p)) n = true ∧ ¬ C (49 + 8 * p + n) < C 4 ∧ hs (C (37 + b)) n = false) := fun q => e (by unfold cutT; simpa [and_assoc] using q)
      rw [if_neg e2, if_neg e, nI_0, Int32.or_zero]
/-- the Model's row is that -/
theorem mCut_X {C : Nat → Int32} {W p b : Nat} (hW8 : W ≤ 8) (hp : p < 6) (hb : b < 6) (hpb : p ≠ b) : cutE (mCutS C W p b) b (mCutE0 C W p b) W = cutX C p b (cutS C p b W) (cutT C p b) W := by
  obtain ⟨m, h1, h2, h3⟩ := cutS_T (C := C) (p := p) (b := b) W hW8
  have hm8 : m < 256 := Nat.lt_of_lt_of_le h1 (pw8 hW8)
  have hT : ∀ k, k < W → hs (cutS C p b W) k = cutT C p b k := fun k hk => by rw [h2, hs_nI hm8 (by omega), h3, decide_eq_true hk]; rfl
  funext i
  unfold mCutS
  rw [cutE_at hb W hW8]
  have e1 : orTo (fun k => if hs (cutS C p b W) k = true then bt k else nI 0) W = cutS C p b W := by
    rw [cutS_or]
    refine orTo_eq W fun k hk => ?_
    rw [← cutS_or, hT k hk]
  rw [e1]
  unfold cutX
  by_cases q1 : i = 37 + b
  · subst q1
    rw [if_neg (by omega), if_neg (by omega), if_neg (by omega), if_pos rfl]
    unfold mCutE0
    rw [up_eq, cutR_at, if_neg (by omega)]
  · rw [if_neg q1]
    have e2 : mCutE0 C W p b i = if 49 + 8 * p ≤ i ∧ i < 49 + 8 * p + W ∧ hs (C (43 + p)) (i - (49 + 8 * p)) = true then nI 0 else C i := by
      unfold mCutE0
      rw [up_ne q1, cutR_at]
    by_cases q2 : i = 43 + b
    · rw [if_pos q2, if_pos q2, e2, if_neg (by omega)]
    · rw [if_neg q2, if_neg q2, e2]
      by_cases q3 : 49 + 8 * p ≤ i ∧ i < 49 + 8 * p + W ∧ hs (C (43 + p)) (i - (49 + 8 * p)) = true
      · rw [if_neg (show ¬ (49 + 8 * b ≤ i ∧ i < 49 + 8 * b + W ∧ hs (cutS C p b W) (i - (49 + 8 * b)) = true) by omega), if_neg (show ¬ (97 + 8 * b ≤ i ∧ i < 97 + 8 * b + W ∧ hs (cutS C p b W) (i - (97 + 8 * b)) = true) by omega), if_pos q3, if_pos q3]
      · rw [if_neg q3, if_neg q3]
        refine ite_congr (propext ⟨fun z => ⟨z.1, z.2.1, ?_⟩, fun z => ⟨z.1, z.2.1, ?_⟩⟩) (fun _ => rfl) (fun _ => ?_)
        · rw [← hT _ (by omega)]; exact z.2.2
        · rw [hT _ (by omega)]; exact z.2.2
        refine ite_congr (propext ⟨fun z => ⟨z.1, z.2.1, ?_⟩, fun z => ⟨z.1, z.2.1, ?_⟩⟩) (fun _ => rfl) (fun _ => rfl)
        · rw [← hT _ (by omega)]; exact z.2.2
        · rw [hT _ (by omega)]; exact z.2.2
/-- one word more -/
theorem cutX_s0 {C : Nat → Int32} {p b j : Nat} (S : Int32) (h : hs (C (43 + p)) j = false) : cutX C p b S (cutT C p b) (j + 1) = cutX C p b S (cutT C p b) j := by
  have hT : cutT C p b j = false := by unfold cutT; rw [h]; rfl
  funext i
  unfold cutX
  refine ite_congr rfl (fun _ => rfl) (fun _ => ite_congr rfl (fun _ => rfl) (fun _ => ?_))
  refine ite_congr (propext ⟨fun z => ⟨z.1, ?_, z.2.2⟩, fun z => ⟨z.1, by omega, z.2.2⟩⟩) (fun _ => rfl) (fun _ => ?_)
  · have : i - (49 + 8 * p) ≠ j := fun q => by rw [q, h] at z; cases z.2.2
    omega
  refine ite_congr (propext ⟨fun z => ⟨z.1, ?_, z.2.2⟩, fun z => ⟨z.1, by omega, z.2.2⟩⟩) (fun _ => rfl) (fun _ => ?_)
  · have : i - (49 + 8 * b) ≠ j := fun q => by rw [q, hT] at z; cases z.2.2
    omega
  refine ite_congr (propext ⟨fun z => ⟨z.1, ?_, z.2.2⟩, fun z => ⟨z.1, by omega, z.2.2⟩⟩) (fun _ => rfl) (fun _ => rfl)
  have : i - (97 + 8 * b) ≠ j := fun q => by rw [q, hT] at z; cases z.2.2
  omega
theorem cutX_s1 {C : Nat → Int32} {p b j : Nat} (hp : p < 6) (hb : b < 6) (hpb : p ≠ b) (hj : j < 8) (S : Int32) (h : hs (C (43 + p)) j = true) (hT : cutT C p b j = false) : cutX C p b S (cutT C p b) (j + 1) = up (cutX C p b S (cutT C p b) j) (49 + 8 * p + j) (nI 0) := by
  funext i
  by_cases q : i = 49 + 8 * p + j
  · subst q
    rw [up_eq]
    unfold cutX
    rw [if_neg (by omega), if_neg (by omega), if_pos ⟨by omega, by omega, by rw [Nat.add_sub_cancel_left]; exact h⟩]
  · rw [up_ne q]
    unfold cutX
    refine ite_congr rfl (fun _ => rfl) (fun _ => ite_congr rfl (fun _ => rfl) (fun _ => ?_))
    refine ite_congr (propext ⟨fun z => ⟨z.1, by omega, z.2.2⟩, fun z => ⟨z.1, by omega, z.2.2⟩⟩) (fun _ => rfl) (fun _ => ?_)
    refine ite_congr (propext ⟨fun z => ⟨z.1, ?_, z.2.2⟩, fun z => ⟨z.1, by omega, z.2.2⟩⟩) (fun _ => rfl) (fun _ => ?_)
    · have : i - (49 + 8 * b) ≠ j := fun q => by rw [q, hT] at z; cases z.2.2
      omega
    refine ite_congr (propext ⟨fun z => ⟨z.1, ?_, z.2.2⟩, fun z => ⟨z.1, by omega, z.2.2⟩⟩) (fun _ => rfl) (fun _ => rfl)
    have : i - (97 + 8 * b) ≠ j := fun q => by rw [q, hT] at z; cases z.2.2
    omega
theorem cutX_s2 {C : Nat → Int32} {p b j : Nat} (hp : p < 6) (hb : b < 6) (hpb : p ≠ b) (hj : j < 8) (S : Int32) (h : hs (C (43 + p)) j = true) (hT : cutT C p b j = true) : cutX C p b (S ||| bt j) (cutT C p b) (j + 1) = up (mStrand (up (cutX C p b S (cutT C p b) j) (37 + b) (cutX C p b S (cutT C p b) j (37 + b) ||| bt j)) b j) (49 + 8 * p + j) (nI 0) := by
  funext i
  have a37 : cutX C p b S (cutT C p b) j (37 + b) = C (37 + b) ||| S := if_pos rfl
  have a43 : cutX C p b S (cutT C p b) j (43 + b) = C (43 + b) ||| S := by unfold cutX; rw [if_neg (by omega), if_pos rfl]
  by_cases q : i = 49 + 8 * p + j
  · subst q
    rw [up_eq]
    unfold cutX
    rw [if_neg (by omega), if_neg (by omega), if_pos ⟨by omega, by omega, by rw [Nat.add_sub_cancel_left]; exact h⟩]
  · rw [up_ne q]
    by_cases q1 : i = 37 + b
    · subst q1
      rw [strand_ot (by omega) (by omega) (by omega), up_eq, a37]
      unfold cutX
      rw [if_pos rfl, Int32.or_assoc]
    · by_cases q2 : i = 43 + b
      · subst q2
        unfold mStrand
        rw [up_ne (by omega), up_ne (by omega), up_eq, up_ne (by omega), a43]
        unfold cutX
        rw [if_neg (by omega), if_pos rfl, Int32.or_assoc]
      · by_cases q3 : i = 49 + 8 * b + j
        · subst q3
          unfold mStrand
          rw [up_ne (by omega), up_eq]
          unfold cutX
          rw [if_neg (by omega), if_neg (by omega), if_neg (by omega), if_pos ⟨by omega, by omega, by rw [Nat.add_sub_cancel_left]; exact hT⟩]
        · by_cases q4 : i = 97 + 8 * b + j
          · subst q4
            unfold mStrand
            rw [up_eq]
            unfold cutX
            rw [if_neg (by omega), if_neg (by omega), if_neg (by omega), if_neg (by omega), if_pos ⟨by omega, by omega, by rw [Nat.add_sub_cancel_left]; exact hT⟩]
          · rw [strand_ot q2 q3 q4, up_ne q1]
            unfold cutX
            rw [if_neg q1, if_neg q2, if_neg q1, if_neg q2]
            refine ite_congr (propext ⟨fun z => ⟨z.1, by omega, z.2.2⟩, fun z => ⟨z.1, by omega, z.2.2⟩⟩) (fun _ => rfl) (fun _ => ?_)
            refine ite_congr (propext ⟨fun z => ⟨z.1, by omega, z.2.2⟩, fun z => ⟨z.1, by omega, z.2.2⟩⟩) (fun _ => rfl) (fun _ => ?_)
            exact ite_congr (propext ⟨fun z => ⟨z.1, by omega, z.2.2⟩, fun z => ⟨z.1, by omega, z.2.2⟩⟩) (fun _ => rfl) (fun _ => rfl)
theorem cutX_0 {C : Nat → Int32} {p b : Nat} : cutX C p b (nI 0) (cutT C p b) 0 = C := by
  funext i
  unfold cutX
  rw [if_neg (show ¬ (49 + 8 * p ≤ i ∧ i < 49 + 8 * p + 0 ∧ hs (C (43 + p)) (i - (49 + 8 * p)) = true) by omega), if_neg (show ¬ (49 + 8 * b ≤ i ∧ i < 49 + 8 * b + 0 ∧ cutT C p b (i - (49 + 8 * b)) = true) by omega), if_neg (show ¬ (97 + 8 * b ≤ i ∧ i < 97 + 8 * b + 0 ∧ cutT C p b (i - (97 + 8 * b)) = true) by omega), nI_0, Int32.or_zero, ite_self, ite_self]
section X5
variable {g : Gx} {l : Launch} {σ : Sg} {L : Nat → Nat → Option Nat} {A : Nat → Nat} {C : Nat → Int32} {W P Dn Hn k p q : Nat}
theorem x_cuts (hR0 : Pv σ L A C W P Dn Hn) (hw : Wx C W P Dn) (hp6 : p < P) (hq6 : q < P) : Kd g l 2 MX6_cuts [.ref (A 0), .int (nI p), .int (nI q)] (put σ L C) (some (.int (mCutV C W p q))) (put σ L (mCut C W p q)) := by
  have hL := hR0.inj
  obtain ⟨⟨⟨hW, hW8⟩, ⟨hP, hP6⟩, -⟩, hWv, hPp⟩ := id hw
  have hp := hR0.pe hp6
  have hq := hR0.pe hq6
  have hR := hR0
  have f0 : mCutB C p q = false → mCutV C W p q = -1 ∧ put σ L (mCut C W p q) = put σ L C := fun e => by rw [mCutV, mCut, e]; exact ⟨rfl, rfl⟩
  obtain ⟨s2, t2, y1, y2, y3, y4, y5, y6, y7⟩ := (hPp q hq6).sets hW8
  refine Kt.go (Y := MX6_cuts) (ls := [some (.ref (A 0)), some (.int (nI p)), some (.int (nI q)), none, none, none]) (by decide) (Nat.le_of_ble_eq_true rfl) rfl ?_
  have key : mCutB C p q = true → p ≠ q → ∀ j, j ≤ W → ∀ D, D = cutX C p q (cutS C p q j) (cutT C p q) j → Td g l 2 MX6_cuts [.ref (A 0), .int (nI p), .int (nI q)] (put σ L (mCut C W p q)) (some (.int (mCutV C W p q))) 27 [some (.ref (A 0)), some (.int (nI p)), some (.int (nI q)), some (.ref (A (20 + q))), some (.int (cutS C p q j)), some (.int (nI j))] [] (put σ L D) := by
    intro eB hpq
    refine loop_up fun j hj ih => ?_
    intro D hD
    obtain ⟨m, m1, m2, m3⟩ := cutS_T (C := C) (p := p) (b := q) j (by omega)
    have hm8 : m < 256 := Nat.lt_of_lt_of_le m1 (pw8 (by omega))
    have d0 : D 0 = nI W := by rw [hD]; unfold cutX; rw [if_neg (by omega), if_neg (by omega), if_neg (by omega), if_neg (by omega), if_neg (by omega)]; exact hW
    have d4 : D 4 = C 4 := by rw [hD]; unfold cutX; rw [if_neg (by omega), if_neg (by omega), if_neg (by omega), if_neg (by omega), if_neg (by omega)]
    have d43 : D (43 + p) = C (43 + p) := by rw [hD]; unfold cutX; rw [if_neg (by omega), if_neg (by omega), if_neg (by omega), if_neg (by omega), if_neg (by omega)]
    by_cases hjW : j < W
    · have dl : D (49 + 8 * p + j) = C (49 + 8 * p + j) := by rw [hD]; unfold cutX; rw [if_neg (by omega), if_neg (by omega), if_neg (by omega), if_neg (by omega), if_neg (by omega)]
      have d37 : D (37 + q) = nI (t2 ||| m) := by rw [hD]; unfold cutX; rw [if_pos rfl, y2, m2, nI_or]
      have d43q : D (43 + q) = nI (s2 ||| m) := by rw [hD]; unfold cutX; rw [if_neg (by omega), if_pos rfl, y1, m2, nI_or]
      have mj : m.testBit j = false := by rw [m3, decide_eq_false (Nat.lt_irrefl j)]; rfl
      have k37 : hs (D (37 + q)) j = hs (C (37 + q)) j := by rw [d37, y2, hs_nI (or_lt8 (W := 8) y6 hm8) (by omega), hs_nI y6 (by omega), Nat.testBit_or, mj, Bool.or_false]
      refine j_iload dX6_cuts_27 rfl ?_
      first | refine j_aload_n dX6_cuts_29 rfl ?_ | refine j_aload_nN dX6_cuts_29 rfl ?_
      refine j_getI dX6_cuts_30 fl_X6_56 rfl (by first | exact Pv.sh hR | assumption) (by first | exact pg (Pv.li hR 4 0 rfl (by decide)) | assumption) ?_
      rw [d0]
      first | (with_reducible refine j_gNN ?_; refine j_icmp_geN (tgt := 135) dX6_cuts_33 (by decide) (by omega) (by omega) (fun c_33 => ?_) (fun c_33 => ?_)) | refine j_icmp_ge (tgt := 135) dX6_cuts_33 (by decide) (fun c_33 => ?_) (fun c_33 => ?_)
      · exact absurd hjW (Nat.not_lt.mpr c_33)
      · first | refine j_aload_n dX6_cuts_36 rfl ?_ | refine j_aload_nN dX6_cuts_36 rfl ?_
        refine j_getR dX6_cuts_37 fl_X6_19 rfl (by first | exact Pv.sh hR | assumption) (by first | exact Pv.r1 hR | assumption) ?_
        refine j_iload_n dX6_cuts_40 rfl ?_
        refine j_aald (t := 27) dX6_cuts_41 (fun _ => rfl) (by decide) (by first | exact Pe.sl hp | exact Pe.sa hp | exact Pe.sl hq | exact Pe.sa hq | exact Pv.sw hR | exact Pv.sp hR | exact Pv.sd hR | assumption) rfl (by omega) (by decide) (by first | exact Pv.rw hR (by omega) | exact Pv.rp hR (by omega) | exact Pv.rd hR (by omega) | assumption) ?_
        refine j_getI dX6_cuts_42 fl_X6_89 rfl (by first | exact Pe.sh hp | exact Pe.sh hq | assumption) (by first | exact pg (Pe.l5 hp) | exact pg (Pe.l5 hq) | assumption) ?_
        refine j_iload dX6_cuts_45 rfl ?_
        refine j_dSN1 kl_X6_92 (k_isIn _ _ _ _ j) dX6_cuts_47 rfl rfl (Nat.le_of_ble_eq_true rfl) (by first | decide | omega) (by omega) (by omega) ?_
        rw [d43]
        first | (with_reducible refine j_gB ?_; refine j_if_neB (tgt := 56) dX6_cuts_50 (by decide) (fun c_50 => ?_) (fun c_50 => ?_)) | (with_reducible refine j_gC ?_; refine j_if_neC (tgt := 56) dX6_cuts_50 (by decide) (fun c_50 => ?_) (fun c_50 => ?_)) | (with_reducible refine j_gN ?_; refine j_if_neN (tgt := 56) dX6_cuts_50 (by decide) (by omega) (fun c_50 => ?_) (fun c_50 => ?_)) | refine j_if_ne (tgt := 56) dX6_cuts_50 (by decide) (fun c_50 => ?_) (fun c_50 => ?_)
        · first | refine j_aload_n dX6_cuts_56 rfl ?_ | refine j_aload_nN dX6_cuts_56 rfl ?_
          refine j_getR dX6_cuts_57 fl_X6_19 rfl (by first | exact Pv.sh hR | assumption) (by first | exact Pv.r1 hR | assumption) ?_
          refine j_iload_n dX6_cuts_60 rfl ?_
          refine j_aald (t := 27) dX6_cuts_61 (fun _ => rfl) (by decide) (by first | exact Pe.sl hp | exact Pe.sa hp | exact Pe.sl hq | exact Pe.sa hq | exact Pv.sw hR | exact Pv.sp hR | exact Pv.sd hR | assumption) rfl (by omega) (by decide) (by first | exact Pv.rw hR (by omega) | exact Pv.rp hR (by omega) | exact Pv.rd hR (by omega) | assumption) ?_
          refine j_getR dX6_cuts_62 fl_X6_140 rfl (by first | exact Pe.sh hp | exact Pe.sh hq | assumption) (by first | exact Pe.r1 hp | exact Pe.r1 hq | assumption) ?_
          refine j_iload dX6_cuts_65 rfl ?_
          refine j_iald dX6_cuts_67 (by first | exact Pe.sl hp | exact Pe.sa hp | exact Pe.sl hq | exact Pe.sa hq | exact Pv.sw hR | exact Pv.sp hR | exact Pv.sd hR | assumption) rfl (by omega) (by decide) (by first | exact pg (Pe.ll hp (by omega)) | exact pg (Pe.lg hp (by omega)) | exact pg (Pe.ll hq (by omega)) | exact pg (Pe.lg hq (by omega)) | assumption) ?_
          first | refine j_aload_n dX6_cuts_68 rfl ?_ | refine j_aload_nN dX6_cuts_68 rfl ?_
          refine j_getI dX6_cuts_69 fl_X6_29 rfl (by first | exact Pv.sh hR | assumption) (by first | exact pg (Pv.li hR 8 4 rfl (by decide)) | assumption) ?_
          first | (with_reducible refine j_gNN ?_; refine j_icmp_ltN (tgt := 116) dX6_cuts_72 (by decide) (by omega) (by omega) (fun c_72 => ?_) (fun c_72 => ?_)) | refine j_icmp_lt (tgt := 116) dX6_cuts_72 (by decide) (fun c_72 => ?_) (fun c_72 => ?_)
          · first | refine j_aload_n dX6_cuts_116 rfl ?_ | refine j_aload_nN dX6_cuts_116 rfl ?_
            refine j_getR dX6_cuts_117 fl_X6_19 rfl (by first | exact Pv.sh hR | assumption) (by first | exact Pv.r1 hR | assumption) ?_
            refine j_iload_n dX6_cuts_120 rfl ?_
            refine j_aald (t := 27) dX6_cuts_121 (fun _ => rfl) (by decide) (by first | exact Pe.sl hp | exact Pe.sa hp | exact Pe.sl hq | exact Pe.sa hq | exact Pv.sw hR | exact Pv.sp hR | exact Pv.sd hR | assumption) rfl (by omega) (by decide) (by first | exact Pv.rw hR (by omega) | exact Pv.rp hR (by omega) | exact Pv.rd hR (by omega) | assumption) ?_
            refine j_getR dX6_cuts_122 fl_X6_140 rfl (by first | exact Pe.sh hp | exact Pe.sh hq | assumption) (by first | exact Pe.r1 hp | exact Pe.r1 hq | assumption) ?_
            refine j_iload dX6_cuts_125 rfl ?_
            refine j_iconst (v := nI 0) dX6_cuts_127 (by decide +kernel) ?_
            refine j_iast dX6_cuts_128 (by first | exact Pe.sl hp | exact Pe.sa hp | exact Pe.sl hq | exact Pe.sa hq | exact Pv.sw hR | exact Pv.sp hR | exact Pv.sd hR | assumption) rfl (by omega) (by decide) ?_
            first | refine j_sg (put_w hL (Pe.ll hp (by omega))) ?_ | refine j_sg (put_w hL (Pe.ll hq (by omega))) ?_ | refine j_sg (put_w hL (Pe.lg hp (by omega))) ?_ | refine j_sg (put_w hL (Pe.lg hq (by omega))) ?_ | skip
            first
            | (have eS : cutS C p q (j + 1) = cutS C p q j := by rw [cutS, if_neg (fun z => by rw [c_50] at z; cases z.1)]
               have z := ih hjW D (by rw [hD, eS]; exact (cutX_s0 _ c_50).symm)
               rw [eS] at z
               first | refine j_iincN dX6_cuts_129 rfl (by decide) ?_ | refine j_iinc dX6_cuts_129 rfl rfl (by decide) ?_
               refine j_goto (tgt := 27) dX6_cuts_132 (by decide) ?_
               exact z
               )
            | (have eT : cutT C p q j = false := by
                 unfold cutT
                 first
                 | (rw [dl, d4] at c_72; rw [decide_eq_true c_72]; simp)
                 | (rw [← k37, c_84]; simp)
               have eS : cutS C p q (j + 1) = cutS C p q j := by
                 rw [cutS, if_neg]
                 intro z
                 unfold cutT at eT
                 rw [z.1, z.2.2, decide_eq_false z.2.1] at eT
                 cases eT
               have z := ih hjW _ (by rewrite [eS]; exact (cutX_s1 (by omega) (by omega) hpq (by omega) _ c_50 eT).symm)
               rw [eS, ← hD] at z
               first | refine j_iincN dX6_cuts_129 rfl (by decide) ?_ | refine j_iinc dX6_cuts_129 rfl rfl (by decide) ?_
               refine j_goto (tgt := 27) dX6_cuts_132 (by decide) ?_
               exact z
               )
            | (have c72 : ¬ C (49 + 8 * p + j) < C 4 := by rw [dl, d4] at c_72; exact c_72
               have eT : cutT C p q j = true := by
                 unfold cutT
                 rw [c_50, decide_eq_false c72, ← k37, c_84]
                 rfl
               have eS : cutS C p q (j + 1) = cutS C p q j ||| bt j := by rw [cutS, if_pos ⟨c_50, c72, by rw [← k37]; exact c_84⟩]
               have z := ih hjW _ (by rewrite [eS]; exact (cutX_s2 (by omega) (by omega) hpq (by omega) _ c_50 eT).symm)
               rw [eS, ← hD] at z
               have ek : mKeep (up D (37 + q) (D (37 + q) ||| bt j)) q j = mStrand (up D (37 + q) (D (37 + q) ||| bt j)) q j := by
                 unfold mKeep mKeepB
                 have k1 : hs (C (43 + q)) j = false := by
                   cases hb : hs (C (43 + q)) j with
                   | false => rfl
                   | true =>
                     rw [y1, hs_nI y5 (by omega)] at hb
                     have := y7 j hb
                     rw [k37, y2, hs_nI y6 (by omega), this] at c_84
                     cases c_84
                 have k2 : hs (D (43 + q)) j = false := by
                   rw [d43q, hs_nI (or_lt8 (W := 8) y5 hm8) (by omega), Nat.testBit_or, mj, Bool.or_false]
                   rw [y1, hs_nI y5 (by omega)] at k1
                   exact k1
                 have k3 : hs (D (37 + q) ||| bt j) j = true := by rw [d37]; exact hs_orbt (or_lt8 (W := 8) y6 hm8) (by omega)
                 rw [up_eq, up_ne (show 43 + q ≠ 37 + q by omega), k2, k3]
                 rfl
               rw [← ek] at z
               first | refine j_iincN dX6_cuts_129 rfl (by decide) ?_ | refine j_iinc dX6_cuts_129 rfl rfl (by decide) ?_
               refine j_goto (tgt := 27) dX6_cuts_132 (by decide) ?_
               exact z
               )
          · first | refine j_aload_n dX6_cuts_75 rfl ?_ | refine j_aload_nN dX6_cuts_75 rfl ?_
            refine j_getI dX6_cuts_76 fl_X6_86 rfl (by first | exact Pe.sh hp | exact Pe.sh hq | assumption) (by first | exact pg (Pe.l4 hp) | exact pg (Pe.l4 hq) | assumption) ?_
            refine j_iload dX6_cuts_79 rfl ?_
            refine j_dSN1 kl_X6_92 (k_isIn _ _ _ _ j) dX6_cuts_81 rfl rfl (Nat.le_of_ble_eq_true rfl) (by first | decide | omega) (by omega) (by omega) ?_
            first | (with_reducible refine j_gB ?_; refine j_if_neB (tgt := 116) dX6_cuts_84 (by decide) (fun c_84 => ?_) (fun c_84 => ?_)) | (with_reducible refine j_gC ?_; refine j_if_neC (tgt := 116) dX6_cuts_84 (by decide) (fun c_84 => ?_) (fun c_84 => ?_)) | (with_reducible refine j_gN ?_; refine j_if_neN (tgt := 116) dX6_cuts_84 (by decide) (by omega) (fun c_84 => ?_) (fun c_84 => ?_)) | refine j_if_ne (tgt := 116) dX6_cuts_84 (by decide) (fun c_84 => ?_) (fun c_84 => ?_)
            · first | refine j_aload_n dX6_cuts_116 rfl ?_ | refine j_aload_nN dX6_cuts_116 rfl ?_
              refine j_getR dX6_cuts_117 fl_X6_19 rfl (by first | exact Pv.sh hR | assumption) (by first | exact Pv.r1 hR | assumption) ?_
              refine j_iload_n dX6_cuts_120 rfl ?_
              refine j_aald (t := 27) dX6_cuts_121 (fun _ => rfl) (by decide) (by first | exact Pe.sl hp | exact Pe.sa hp | exact Pe.sl hq | exact Pe.sa hq | exact Pv.sw hR | exact Pv.sp hR | exact Pv.sd hR | assumption) rfl (by omega) (by decide) (by first | exact Pv.rw hR (by omega) | exact Pv.rp hR (by omega) | exact Pv.rd hR (by omega) | assumption) ?_
              refine j_getR dX6_cuts_122 fl_X6_140 rfl (by first | exact Pe.sh hp | exact Pe.sh hq | assumption) (by first | exact Pe.r1 hp | exact Pe.r1 hq | assumption) ?_
              refine j_iload dX6_cuts_125 rfl ?_
              refine j_iconst (v := nI 0) dX6_cuts_127 (by decide +kernel) ?_
              refine j_iast dX6_cuts_128 (by first | exact Pe.sl hp | exact Pe.sa hp | exact Pe.sl hq | exact Pe.sa hq | exact Pv.sw hR | exact Pv.sp hR | exact Pv.sd hR | assumption) rfl (by omega) (by decide) ?_
              first | refine j_sg (put_w hL (Pe.ll hp (by omega))) ?_ | refine j_sg (put_w hL (Pe.ll hq (by omega))) ?_ | refine j_sg (put_w hL (Pe.lg hp (by omega))) ?_ | refine j_sg (put_w hL (Pe.lg hq (by omega))) ?_ | skip
              first
              | (have eS : cutS C p q (j + 1) = cutS C p q j := by rw [cutS, if_neg (fun z => by rw [c_50] at z; cases z.1)]
                 have z := ih hjW D (by rw [hD, eS]; exact (cutX_s0 _ c_50).symm)
                 rw [eS] at z
                 first | refine j_iincN dX6_cuts_129 rfl (by decide) ?_ | refine j_iinc dX6_cuts_129 rfl rfl (by decide) ?_
                 refine j_goto (tgt := 27) dX6_cuts_132 (by decide) ?_
                 exact z
                 )
              | (have eT : cutT C p q j = false := by
                   unfold cutT
                   first
                   | (rw [dl, d4] at c_72; rw [decide_eq_true c_72]; simp)
                   | (rw [← k37, c_84]; simp)
                 have eS : cutS C p q (j + 1) = cutS C p q j := by
                   rw [cutS, if_neg]
                   intro z
                   unfold cutT at eT
                   rw [z.1, z.2.2, decide_eq_false z.2.1] at eT
                   cases eT
                 have z := ih hjW _ (by rewrite [eS]; exact (cutX_s1 (by omega) (by omega) hpq (by omega) _ c_50 eT).symm)
                 rw [eS, ← hD] at z
                 first | refine j_iincN dX6_cuts_129 rfl (by decide) ?_ | refine j_iinc dX6_cuts_129 rfl rfl (by decide) ?_
                 refine j_goto (tgt := 27) dX6_cuts_132 (by decide) ?_
                 exact z
                 )
              | (have c72 : ¬ C (49 + 8 * p + j) < C 4 := by rw [dl, d4] at c_72; exact c_72
                 have eT : cutT C p q j = true := by
                   unfold cutT
                   rw [c_50, decide_eq_false c72, ← k37, c_84]
                   rfl
                 have eS : cutS C p q (j + 1) = cutS C p q j ||| bt j := by rw [cutS, if_pos ⟨c_50, c72, by rw [← k37]; exact c_84⟩]
                 have z := ih hjW _ (by rewrite [eS]; exact (cutX_s2 (by omega) (by omega) hpq (by omega) _ c_50 eT).symm)
                 rw [eS, ← hD] at z
                 have ek : mKeep (up D (37 + q) (D (37 + q) ||| bt j)) q j = mStrand (up D (37 + q) (D (37 + q) ||| bt j)) q j := by
                   unfold mKeep mKeepB
                   have k1 : hs (C (43 + q)) j = false := by
                     cases hb : hs (C (43 + q)) j with
                     | false => rfl
                     | true =>
                       rw [y1, hs_nI y5 (by omega)] at hb
                       have := y7 j hb
                       rw [k37, y2, hs_nI y6 (by omega), this] at c_84
                       cases c_84
                   have k2 : hs (D (43 + q)) j = false := by
                     rw [d43q, hs_nI (or_lt8 (W := 8) y5 hm8) (by omega), Nat.testBit_or, mj, Bool.or_false]
                     rw [y1, hs_nI y5 (by omega)] at k1
                     exact k1
                   have k3 : hs (D (37 + q) ||| bt j) j = true := by rw [d37]; exact hs_orbt (or_lt8 (W := 8) y6 hm8) (by omega)
                   rw [up_eq, up_ne (show 43 + q ≠ 37 + q by omega), k2, k3]
                   rfl
                 rw [← ek] at z
                 first | refine j_iincN dX6_cuts_129 rfl (by decide) ?_ | refine j_iinc dX6_cuts_129 rfl rfl (by decide) ?_
                 refine j_goto (tgt := 27) dX6_cuts_132 (by decide) ?_
                 exact z
                 )
            · first | refine j_aload_n dX6_cuts_87 rfl ?_ | refine j_aload_nN dX6_cuts_87 rfl ?_
              refine j_dup dX6_cuts_88 rfl ?_
              refine j_getI dX6_cuts_89 fl_X6_86 rfl (by first | exact Pe.sh hp | exact Pe.sh hq | assumption) (by first | exact pg (Pe.l4 hp) | exact pg (Pe.l4 hq) | assumption) ?_
              refine j_iconst (v := nI 1) dX6_cuts_92 (by decide +kernel) ?_
              refine j_iload dX6_cuts_93 rfl ?_
              refine j_ishl dX6_cuts_95 ?_
              refine j_ior dX6_cuts_96 ?_
              refine j_putI dX6_cuts_97 fl_X6_86 rfl (by first | exact Pe.sh hp | exact Pe.sh hq | assumption) rfl rfl rfl ?_
              first | refine j_sg (put_w hL (Pe.l4 hp)) ?_ | refine j_sg (put_w hL (Pe.l4 hq)) ?_ | skip
              first | refine j_aload_n dX6_cuts_100 rfl ?_ | refine j_aload_nN dX6_cuts_100 rfl ?_
              refine j_iload dX6_cuts_101 rfl ?_
              refine j_dV1 kl_X6_144 (x_keeps hL hq (by omega)) dX6_cuts_103 rfl rfl (by decide) (by first | exact Pe.sh hp | exact Pe.sh hq | assumption) (Nat.le_of_ble_eq_true rfl) (by first | decide | omega) (by omega) (by omega) ?_
              refine j_pop dX6_cuts_106 rfl ?_
              refine j_iload dX6_cuts_107 rfl ?_
              refine j_iconst (v := nI 1) dX6_cuts_109 (by decide +kernel) ?_
              refine j_iload dX6_cuts_110 rfl ?_
              refine j_ishl dX6_cuts_112 ?_
              refine j_ior dX6_cuts_113 ?_
              refine j_istore dX6_cuts_114 (by decide) ?_
              first | refine j_aload_n dX6_cuts_116 rfl ?_ | refine j_aload_nN dX6_cuts_116 rfl ?_
              refine j_getR dX6_cuts_117 fl_X6_19 rfl (by first | exact Pv.sh hR | assumption) (by first | exact Pv.r1 hR | assumption) ?_
              refine j_iload_n dX6_cuts_120 rfl ?_
              refine j_aald (t := 27) dX6_cuts_121 (fun _ => rfl) (by decide) (by first | exact Pe.sl hp | exact Pe.sa hp | exact Pe.sl hq | exact Pe.sa hq | exact Pv.sw hR | exact Pv.sp hR | exact Pv.sd hR | assumption) rfl (by omega) (by decide) (by first | exact Pv.rw hR (by omega) | exact Pv.rp hR (by omega) | exact Pv.rd hR (by omega) | assumption) ?_
              refine j_getR dX6_cuts_122 fl_X6_140 rfl (by first | exact Pe.sh hp | exact Pe.sh hq | assumption) (by first | exact Pe.r1 hp | exact Pe.r1 hq | assumption) ?_
              refine j_iload dX6_cuts_125 rfl ?_
              refine j_iconst (v := nI 0) dX6_cuts_127 (by decide +kernel) ?_
              refine j_iast dX6_cuts_128 (by first | exact Pe.sl hp | exact Pe.sa hp | exact Pe.sl hq | exact Pe.sa hq | exact Pv.sw hR | exact Pv.sp hR | exact Pv.sd hR | assumption) rfl (by omega) (by decide) ?_
              first | refine j_sg (put_w hL (Pe.ll hp (by omega))) ?_ | refine j_sg (put_w hL (Pe.ll hq (by omega))) ?_ | refine j_sg (put_w hL (Pe.lg hp (by omega))) ?_ | refine j_sg (put_w hL (Pe.lg hq (by omega))) ?_ | skip
              first
              | (have eS : cutS C p q (j + 1) = cutS C p q j := by rw [cutS, if_neg (fun z => by rw [c_50] at z; cases z.1)]
                 have z := ih hjW D (by rw [hD, eS]; exact (cutX_s0 _ c_50).symm)
                 rw [eS] at z
                 first | refine j_iincN dX6_cuts_129 rfl (by decide) ?_ | refine j_iinc dX6_cuts_129 rfl rfl (by decide) ?_
                 refine j_goto (tgt := 27) dX6_cuts_132 (by decide) ?_
                 exact z
                 )
              | (have eT : cutT C p q j = false := by
                   unfold cutT
                   first
                   | (rw [dl, d4] at c_72; rw [decide_eq_true c_72]; simp)
                   | (rw [← k37, c_84]; simp)
                 have eS : cutS C p q (j + 1) = cutS C p q j := by
                   rw [cutS, if_neg]
                   intro z
                   unfold cutT at eT
                   rw [z.1, z.2.2, decide_eq_false z.2.1] at eT
                   cases eT
                 have z := ih hjW _ (by rewrite [eS]; exact (cutX_s1 (by omega) (by omega) hpq (by omega) _ c_50 eT).symm)
                 rw [eS, ← hD] at z
                 first | refine j_iincN dX6_cuts_129 rfl (by decide) ?_ | refine j_iinc dX6_cuts_129 rfl rfl (by decide) ?_
                 refine j_goto (tgt := 27) dX6_cuts_132 (by decide) ?_
                 exact z
                 )
              | (have c72 : ¬ C (49 + 8 * p + j) < C 4 := by rw [dl, d4] at c_72; exact c_72
                 have eT : cutT C p q j = true := by
                   unfold cutT
                   rw [c_50, decide_eq_false c72, ← k37, c_84]
                   rfl
                 have eS : cutS C p q (j + 1) = cutS C p q j ||| bt j := by rw [cutS, if_pos ⟨c_50, c72, by rw [← k37]; exact c_84⟩]
                 have z := ih hjW _ (by rewrite [eS]; exact (cutX_s2 (by omega) (by omega) hpq (by omega) _ c_50 eT).symm)
                 rw [eS, ← hD] at z
                 have ek : mKeep (up D (37 + q) (D (37 + q) ||| bt j)) q j = mStrand (up D (37 + q) (D (37 + q) ||| bt j)) q j := by
                   unfold mKeep mKeepB
                   have k1 : hs (C (43 + q)) j = false := by
                     cases hb : hs (C (43 + q)) j with
                     | false => rfl
                     | true =>
                       rw [y1, hs_nI y5 (by omega)] at hb
                       have := y7 j hb
                       rw [k37, y2, hs_nI y6 (by omega), this] at c_84
                       cases c_84
                   have k2 : hs (D (43 + q)) j = false := by
                     rw [d43q, hs_nI (or_lt8 (W := 8) y5 hm8) (by omega), Nat.testBit_or, mj, Bool.or_false]
                     rw [y1, hs_nI y5 (by omega)] at k1
                     exact k1
                   have k3 : hs (D (37 + q) ||| bt j) j = true := by rw [d37]; exact hs_orbt (or_lt8 (W := 8) y6 hm8) (by omega)
                   rw [up_eq, up_ne (show 43 + q ≠ 37 + q by omega), k2, k3]
                   rfl
                 rw [← ek] at z
                 first | refine j_iincN dX6_cuts_129 rfl (by decide) ?_ | refine j_iinc dX6_cuts_129 rfl rfl (by decide) ?_
                 refine j_goto (tgt := 27) dX6_cuts_132 (by decide) ?_
                 exact z
                 )
        · refine j_goto (tgt := 129) dX6_cuts_53 (by decide) ?_
          first
          | (have eS : cutS C p q (j + 1) = cutS C p q j := by rw [cutS, if_neg (fun z => by rw [c_50] at z; cases z.1)]
             have z := ih hjW D (by rw [hD, eS]; exact (cutX_s0 _ c_50).symm)
             rw [eS] at z
             first | refine j_iincN dX6_cuts_129 rfl (by decide) ?_ | refine j_iinc dX6_cuts_129 rfl rfl (by decide) ?_
             refine j_goto (tgt := 27) dX6_cuts_132 (by decide) ?_
             exact z
             )
          | (have eT : cutT C p q j = false := by
               unfold cutT
               first
               | (rw [dl, d4] at c_72; rw [decide_eq_true c_72]; simp)
               | (rw [← k37, c_84]; simp)
             have eS : cutS C p q (j + 1) = cutS C p q j := by
               rw [cutS, if_neg]
               intro z
               unfold cutT at eT
               rw [z.1, z.2.2, decide_eq_false z.2.1] at eT
               cases eT
             have z := ih hjW _ (by rewrite [eS]; exact (cutX_s1 (by omega) (by omega) hpq (by omega) _ c_50 eT).symm)
             rw [eS, ← hD] at z
             first | refine j_iincN dX6_cuts_129 rfl (by decide) ?_ | refine j_iinc dX6_cuts_129 rfl rfl (by decide) ?_
             refine j_goto (tgt := 27) dX6_cuts_132 (by decide) ?_
             exact z
             )
          | (have c72 : ¬ C (49 + 8 * p + j) < C 4 := by rw [dl, d4] at c_72; exact c_72
             have eT : cutT C p q j = true := by
               unfold cutT
               rw [c_50, decide_eq_false c72, ← k37, c_84]
               rfl
             have eS : cutS C p q (j + 1) = cutS C p q j ||| bt j := by rw [cutS, if_pos ⟨c_50, c72, by rw [← k37]; exact c_84⟩]
             have z := ih hjW _ (by rewrite [eS]; exact (cutX_s2 (by omega) (by omega) hpq (by omega) _ c_50 eT).symm)
             rw [eS, ← hD] at z
             have ek : mKeep (up D (37 + q) (D (37 + q) ||| bt j)) q j = mStrand (up D (37 + q) (D (37 + q) ||| bt j)) q j := by
               unfold mKeep mKeepB
               have k1 : hs (C (43 + q)) j = false := by
                 cases hb : hs (C (43 + q)) j with
                 | false => rfl
                 | true =>
                   rw [y1, hs_nI y5 (by omega)] at hb
                   have := y7 j hb
                   rw [k37, y2, hs_nI y6 (by omega), this] at c_84
                   cases c_84
               have k2 : hs (D (43 + q)) j = false := by
                 rw [d43q, hs_nI (or_lt8 (W := 8) y5 hm8) (by omega), Nat.testBit_or, mj, Bool.or_false]
                 rw [y1, hs_nI y5 (by omega)] at k1
                 exact k1
               have k3 : hs (D (37 + q) ||| bt j) j = true := by rw [d37]; exact hs_orbt (or_lt8 (W := 8) y6 hm8) (by omega)
               rw [up_eq, up_ne (show 43 + q ≠ 37 + q by omega), k2, k3]
               rfl
             rw [← ek] at z
             first | refine j_iincN dX6_cuts_129 rfl (by decide) ?_ | refine j_iinc dX6_cuts_129 rfl rfl (by decide) ?_
             refine j_goto (tgt := 27) dX6_cuts_132 (by decide) ?_
             exact z
             )
    · have hje : j = W := by omega
      subst hje
      refine j_iload dX6_cuts_27 rfl ?_
      first | refine j_aload_n dX6_cuts_29 rfl ?_ | refine j_aload_nN dX6_cuts_29 rfl ?_
      refine j_getI dX6_cuts_30 fl_X6_56 rfl (by first | exact Pv.sh hR | assumption) (by first | exact pg (Pv.li hR 4 0 rfl (by decide)) | assumption) ?_
      rw [d0]
      first | (with_reducible refine j_gNN ?_; refine j_icmp_geN (tgt := 135) dX6_cuts_33 (by decide) (by omega) (by omega) (fun c_33 => ?_) (fun c_33 => ?_)) | refine j_icmp_ge (tgt := 135) dX6_cuts_33 (by decide) (fun c_33 => ?_) (fun c_33 => ?_)
      · first | refine j_aload_n dX6_cuts_135 rfl ?_ | refine j_aload_nN dX6_cuts_135 rfl ?_
        refine j_dup dX6_cuts_136 rfl ?_
        refine j_getI dX6_cuts_137 fl_X6_78 rfl (by first | exact Pv.sh hR | assumption) (by first | exact pg (Pv.li hR 12 8 rfl (by decide)) | assumption) ?_
        refine j_iconst (v := nI 1) dX6_cuts_140 (by decide +kernel) ?_
        first | (with_reducible refine j_gNN ?_; refine j_iaddN dX6_cuts_141 ?_) | refine j_iadd dX6_cuts_141 ?_
        refine j_putI dX6_cuts_142 fl_X6_78 rfl (by first | exact Pv.sh hR | assumption) rfl rfl rfl ?_
        first | refine j_sg (put_w hL (Pv.li hR 12 8 rfl (by decide))) ?_ | skip
        refine j_iload dX6_cuts_145 rfl ?_
        refine j_iret dX6_cuts_147 ⟨_, rfl, rfl⟩ (by omega) (by omega) ?_
        have eC : mCut C j p q = up D 8 (D 8 + nI 1) := by
          rw [mCut, eB, if_pos rfl, mCutC, mCut_X hW8 (by omega) (by omega) hpq, ← hD]
        exact ⟨by rw [mCutV, eB, if_pos rfl]; rfl, by rw [eC]⟩
      · exact absurd c_33 hjW
  first | refine j_aload_n dX6_cuts_0 rfl ?_ | refine j_aload_nN dX6_cuts_0 rfl ?_
  refine j_getR dX6_cuts_1 fl_X6_19 rfl (by first | exact Pv.sh hR | assumption) (by first | exact Pv.r1 hR | assumption) ?_
  refine j_iload_n dX6_cuts_4 rfl ?_
  refine j_aald (t := 27) dX6_cuts_5 (fun _ => rfl) (by decide) (by first | exact Pe.sl hp | exact Pe.sa hp | exact Pe.sl hq | exact Pe.sa hq | exact Pv.sw hR | exact Pv.sp hR | exact Pv.sd hR | assumption) rfl (by omega) (by decide) (by first | exact Pv.rw hR (by omega) | exact Pv.rp hR (by omega) | exact Pv.rd hR (by omega) | assumption) ?_
  first | refine j_astore_n dX6_cuts_6 (by decide) ?_ | refine j_astore_nN dX6_cuts_6 (by decide) ?_
  refine j_iload_n dX6_cuts_7 rfl ?_
  refine j_iload_n dX6_cuts_8 rfl ?_
  first | (with_reducible refine j_gNN ?_; refine j_icmp_eqN (tgt := 19) dX6_cuts_9 (by decide) (by omega) (by omega) (fun c_9 => ?_) (fun c_9 => ?_)) | refine j_icmp_eq (tgt := 19) dX6_cuts_9 (by decide) (fun c_9 => ?_) (fun c_9 => ?_)
  · refine j_iconst (v := -1) dX6_cuts_19 (by decide +kernel) ?_
    refine j_iret dX6_cuts_20 ⟨_, rfl, rfl⟩ (by omega) (by omega) ?_
    first
    | exact ⟨by rw [(f0 (by simp [mCutB, *])).1], (f0 (by simp [mCutB, *])).2.symm⟩
    | exact ⟨by rw [(f0 (by rw [mCutB, decide_eq_true c_16, Bool.not_true, Bool.and_false])).1], (f0 (by rw [mCutB, decide_eq_true c_16, Bool.not_true, Bool.and_false])).2.symm⟩
  · first | refine j_aload_n dX6_cuts_12 rfl ?_ | refine j_aload_nN dX6_cuts_12 rfl ?_
    refine j_getI dX6_cuts_13 fl_X6_136 rfl (by first | exact Pe.sh hp | exact Pe.sh hq | assumption) (by first | exact pg (Pe.l6 hp) | exact pg (Pe.l6 hq) | assumption) ?_
    first | (with_reducible refine j_gB ?_; refine j_if_neB (tgt := 21) dX6_cuts_16 (by decide) (fun c_16 => ?_) (fun c_16 => ?_)) | (with_reducible refine j_gC ?_; refine j_if_neC (tgt := 21) dX6_cuts_16 (by decide) (fun c_16 => ?_) (fun c_16 => ?_)) | (with_reducible refine j_gN ?_; refine j_if_neN (tgt := 21) dX6_cuts_16 (by decide) (by omega) (fun c_16 => ?_) (fun c_16 => ?_)) | refine j_if_ne (tgt := 21) dX6_cuts_16 (by decide) (fun c_16 => ?_) (fun c_16 => ?_)
    · refine j_iconst (v := nI 0) dX6_cuts_21 (by decide +kernel) ?_
      refine j_istore dX6_cuts_22 (by decide) ?_
      refine j_iconst (v := nI 0) dX6_cuts_24 (by decide +kernel) ?_
      refine j_istore dX6_cuts_25 (by decide) ?_
      exact key (by rw [mCutB, decide_eq_true (show p ≠ q from c_9), decide_eq_false c_16]; rfl) c_9 0 (by omega) _ cutX_0.symm
    · refine j_iconst (v := -1) dX6_cuts_19 (by decide +kernel) ?_
      refine j_iret dX6_cuts_20 ⟨_, rfl, rfl⟩ (by omega) (by omega) ?_
      first
      | exact ⟨by rw [(f0 (by simp [mCutB, *])).1], (f0 (by simp [mCutB, *])).2.symm⟩
      | exact ⟨by rw [(f0 (by rw [mCutB, decide_eq_true c_16, Bool.not_true, Bool.and_false])).1], (f0 (by rw [mCutB, decide_eq_true c_16, Bool.not_true, Bool.and_false])).2.symm⟩
end X5
