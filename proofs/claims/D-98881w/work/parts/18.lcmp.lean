/-! COMPARES OF LONGS; LOOPS -/
set_option maxRecDepth 100000
theorem lg_lt {x y : Int64} : lg_cmp x y < 0 ↔ x < y := by
  unfold lg_cmp
  by_cases h1 : y < x
  · rw [if_pos h1]
    exact ⟨fun h => absurd h (by decide), fun h => absurd (Int64.lt_trans h h1) (Int64.lt_irrefl)⟩
  · rw [if_neg h1]
    by_cases h2 : x = y
    · rw [if_pos h2]
      exact ⟨fun h => absurd h (by decide), fun h => absurd (h2 ▸ h) (Int64.lt_irrefl)⟩
    · rw [if_neg h2]
      exact ⟨fun _ => (Int64.lt_of_le_of_ne (Int64.not_lt.mp h1) h2), fun _ => by decide⟩
theorem lg_gt {x y : Int64} : 0 < lg_cmp x y ↔ y < x := by
  unfold lg_cmp
  by_cases h1 : y < x
  · rw [if_pos h1]
    exact ⟨fun _ => h1, fun _ => by decide⟩
  · rw [if_neg h1]
    by_cases h2 : x = y
    · rw [if_pos h2]
      exact ⟨fun h => absurd h (by decide), fun h => absurd h h1⟩
    · rw [if_neg h2]
      exact ⟨fun h => absurd h (by decide), fun h => absurd h h1⟩
theorem lg_e0 {x y : Int64} : lg_cmp x y = 0 ↔ x = y := by
  unfold lg_cmp
  by_cases h1 : y < x
  · rw [if_pos h1]
    exact ⟨fun h => absurd h (by decide), fun h => absurd (h ▸ h1) (Int64.lt_irrefl)⟩
  · rw [if_neg h1]
    by_cases h2 : x = y
    · rw [if_pos h2]
      exact ⟨fun _ => h2, fun _ => rfl⟩
    · rw [if_neg h2]
      exact ⟨fun h => absurd h (by decide), fun h => absurd h h2⟩
section TL
variable {g : Gx} {l : Launch} {d : Nat} {Y : Mi} {av : List Value} {mc ms : Nat} {Qr : Option Value → Sg → Prop} {Qx : Nat → String → Sg → Prop} {c0 n0 pc : Nat} {ls : List (Option Value)} {st : List Value} {σ : Sg}
theorem j_gC {x y : Int64} (k : Tj g l d Y av mc ms Qr Qx c0 n0 pc ls (.int (lg_cmp x y) :: st) σ) : Tj g l d Y av mc ms Qr Qx c0 n0 pc ls (.int (lg_cmp x y) :: st) σ := k
theorem j_if_ltC {x y : Int64} {off : Int} {tgt : Nat} (hd : decode Y.2.1 pc = .ok (.ifCond .lt off, 3)) (ht : (pc : Int) + off = (tgt : Int)) (kt : x < y → Tj g l d Y av mc ms Qr Qx c0 n0 tgt ls st σ) (kf : ¬ x < y → Tj g l d Y av mc ms Qr Qx c0 n0 (pc + 3) ls st σ) : Tj g l d Y av mc ms Qr Qx c0 n0 pc ls (.int (lg_cmp x y) :: st) σ :=
  j_if_lt hd ht (fun q => kt (lg_lt.mp q)) (fun q => kf (fun e => q (lg_lt.mpr e)))
theorem j_if_geC {x y : Int64} {off : Int} {tgt : Nat} (hd : decode Y.2.1 pc = .ok (.ifCond .ge off, 3)) (ht : (pc : Int) + off = (tgt : Int)) (kt : ¬ x < y → Tj g l d Y av mc ms Qr Qx c0 n0 tgt ls st σ) (kf : x < y → Tj g l d Y av mc ms Qr Qx c0 n0 (pc + 3) ls st σ) : Tj g l d Y av mc ms Qr Qx c0 n0 pc ls (.int (lg_cmp x y) :: st) σ := by
  by_cases h : x < y
  · exact j_if_ge hd ht (fun q => absurd (lg_lt.mpr h) (Int32.not_lt.mpr q)) (fun _ => kf h)
  · exact j_if_ge hd ht (fun _ => kt h) (fun q => absurd (lg_lt.mp (Int32.not_le.mp q)) h)
theorem j_if_gtC {x y : Int64} {off : Int} {tgt : Nat} (hd : decode Y.2.1 pc = .ok (.ifCond .gt off, 3)) (ht : (pc : Int) + off = (tgt : Int)) (kt : y < x → Tj g l d Y av mc ms Qr Qx c0 n0 tgt ls st σ) (kf : ¬ y < x → Tj g l d Y av mc ms Qr Qx c0 n0 (pc + 3) ls st σ) : Tj g l d Y av mc ms Qr Qx c0 n0 pc ls (.int (lg_cmp x y) :: st) σ :=
  j_if_gt hd ht (fun q => kt (lg_gt.mp q)) (fun q => kf (fun e => q (lg_gt.mpr e)))
theorem j_if_leC {x y : Int64} {off : Int} {tgt : Nat} (hd : decode Y.2.1 pc = .ok (.ifCond .le off, 3)) (ht : (pc : Int) + off = (tgt : Int)) (kt : ¬ y < x → Tj g l d Y av mc ms Qr Qx c0 n0 tgt ls st σ) (kf : y < x → Tj g l d Y av mc ms Qr Qx c0 n0 (pc + 3) ls st σ) : Tj g l d Y av mc ms Qr Qx c0 n0 pc ls (.int (lg_cmp x y) :: st) σ := by
  by_cases h : y < x
  · exact j_if_le hd ht (fun q => absurd (lg_gt.mpr h) (Int32.not_lt.mpr q)) (fun _ => kf h)
  · exact j_if_le hd ht (fun _ => kt h) (fun q => absurd (lg_gt.mp (Int32.not_le.mp q)) h)
theorem j_if_eqC {x y : Int64} {off : Int} {tgt : Nat} (hd : decode Y.2.1 pc = .ok (.ifCond .eq off, 3)) (ht : (pc : Int) + off = (tgt : Int)) (kt : x = y → Tj g l d Y av mc ms Qr Qx c0 n0 tgt ls st σ) (kf : ¬ x = y → Tj g l d Y av mc ms Qr Qx c0 n0 (pc + 3) ls st σ) : Tj g l d Y av mc ms Qr Qx c0 n0 pc ls (.int (lg_cmp x y) :: st) σ :=
  j_if_eq hd ht (fun q => kt (lg_e0.mp q)) (fun q => kf (fun e => q (lg_e0.mpr e)))
theorem j_if_neC {x y : Int64} {off : Int} {tgt : Nat} (hd : decode Y.2.1 pc = .ok (.ifCond .ne off, 3)) (ht : (pc : Int) + off = (tgt : Int)) (kt : ¬ x = y → Tj g l d Y av mc ms Qr Qx c0 n0 tgt ls st σ) (kf : x = y → Tj g l d Y av mc ms Qr Qx c0 n0 (pc + 3) ls st σ) : Tj g l d Y av mc ms Qr Qx c0 n0 pc ls (.int (lg_cmp x y) :: st) σ :=
  j_if_ne hd ht (fun q => kt (fun e => q (lg_e0.mpr e))) (fun q => kf (lg_e0.mp q))
end TL
/-- a loop that counts up to W: from its last state backwards -/
theorem loop_up {W : Nat} {P : Nat → Prop} (step : ∀ j, j ≤ W → (j < W → P (j + 1)) → P j) : ∀ j, j ≤ W → P j := by
  have h : ∀ n j, j + n = W → P j := by
    intro n
    induction n with
    | zero => intro j hj; exact step j (by omega) (fun h => by omega)
    | succ n ih => intro j hj; exact step j (by omega) (fun _ => ih (j + 1) (by omega))
  exact fun j hj => h (W - j) j (by omega)
/-- a loop by a measure that falls -/
theorem loop_dn {P : Nat → Prop} (step : ∀ n, (∀ m, m < n → P m) → P n) : ∀ n, P n := fun n => Nat.strongRecOn n (fun n ih => step n ih)
/-- sums of ints, as a loop adds them up -/
def sumTo (f : Nat → Int32) : Nat → Int32
  | 0 => nI 0
  | n + 1 => sumTo f n + f n
/-- unions of sets -/
def orTo (f : Nat → Int32) : Nat → Int32
  | 0 => nI 0
  | n + 1 => orTo f n ||| f n
/-- v lies in lo .. hi -/
def inL (v lo hi : Int64) : Bool := !decide (v < lo) && !decide (hi < v)
/-- the int p is a number below n -/
def okN (p : Int32) (n : Nat) : Bool := decide (0 ≤ p.toInt) && decide (p.toInt < n)
theorem okN_nI {p : Int32} {n : Nat} (h : okN p n = true) : ∃ k, k < n ∧ p = nI k := by
  unfold okN at h
  rw [Bool.and_eq_true, decide_eq_true_eq, decide_eq_true_eq] at h
  have h1 : ¬ p < 0 := fun q => by
    have := Int32.lt_iff_toInt_lt.mp q
    rw [Int32.toInt_zero] at this
    omega
  obtain ⟨k, hk, rfl⟩ := nI_of h1
  refine ⟨k, ?_, rfl⟩
  have := h.2
  rw [nI_toInt hk] at this
  omega
theorem inL_n {p : Int32} {n : Nat} (hn : n < 2 ^ 30) : inL p.toInt64 0 (nI n - nI 1).toInt64 = okN p n := by
  unfold inL okN
  have e1 : (nI n - nI 1).toInt64.toInt = (n : Int) - 1 := by
    rw [Int32.toInt_toInt64]
    cases n with
    | zero => decide +kernel
    | succ k =>
      rw [nI_sub (by omega), nI_toInt (by omega)]
      omega
  have e2 : p.toInt64.toInt = p.toInt := Int32.toInt_toInt64 p
  rw [← decide_not, ← decide_not]
  congr 1
  · rw [decide_eq_decide, Int64.not_lt, Int64.le_iff_toInt_le, e2]; rfl
  · rw [decide_eq_decide, Int64.not_lt, Int64.le_iff_toInt_le, e2, e1]; omega
