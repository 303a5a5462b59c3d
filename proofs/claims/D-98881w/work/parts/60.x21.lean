/-! X: A PROVINCE TAKES WHAT ANOTHER ONE IS; the lens of a province's own cells -/
set_option maxRecDepth 100000
/-- the lens of the province at A 0, of P people -/
def pL (A : Nat → Nat) (P a k : Nat) : Option Nat := if a = A 0 then (if 4 ≤ k ∧ k < 13 then some (k - 4) else none) else match fUp (fun p => (pe1 (A (20 + p)) (A (30 + p)) (A (40 + p)) p a k).isSome) P with
  | some p => pe1 (A (20 + p)) (A (30 + p)) (A (40 + p)) p a k
  | none => none
def ui (P i : Nat) : Prop := i = 0 ∨ (20 ≤ i ∧ i < 20 + P) ∨ (30 ≤ i ∧ i < 30 + P) ∨ (40 ≤ i ∧ i < 40 + P)
def Ui (A : Nat → Nat) (P : Nat) : Prop := ∀ i j, ui P i → ui P j → A i = A j → i = j
theorem pL_0 {A : Nat → Nat} {P i : Nat} (hi : i < 9) : pL A P (A 0) (i + 4) = some i := by
  unfold pL
  rw [if_pos rfl, if_pos (by omega), Nat.add_sub_cancel]
theorem pL_p {A : Nat → Nat} {P p a k : Nat} (hU : Ui A P) (hP : P ≤ 6) (hp : p < P) (ha : a = A (20 + p) ∨ a = A (30 + p) ∨ a = A (40 + p)) : pL A P a k = pe1 (A (20 + p)) (A (30 + p)) (A (40 + p)) p a k := by
  have h0 : a ≠ A 0 := fun e => by
    rcases ha with z | z | z
    · have := hU (20 + p) 0 (by unfold ui; omega) (by unfold ui; omega) (z.symm.trans e); omega
    · have := hU (30 + p) 0 (by unfold ui; omega) (by unfold ui; omega) (z.symm.trans e); omega
    · have := hU (40 + p) 0 (by unfold ui; omega) (by unfold ui; omega) (z.symm.trans e); omega
  have hne : ∀ t, t < P → t ≠ p → pe1 (A (20 + t)) (A (30 + t)) (A (40 + t)) t a k = none := fun t ht htp => by
    have key : ∀ x y, (x = 20 + p ∨ x = 30 + p ∨ x = 40 + p) → (y = 20 + t ∨ y = 30 + t ∨ y = 40 + t) → A x ≠ A y := fun x y hx hy e => by
      have := hU x y (by unfold ui; omega) (by unfold ui; omega) e
      omega
    rcases ha with z | z | z <;> rw [z] <;> exact pe1_n (key _ _ (by omega) (by omega)) (key _ _ (by omega) (by omega)) (key _ _ (by omega) (by omega))
  unfold pL
  rw [if_neg h0]
  cases e : pe1 (A (20 + p)) (A (30 + p)) (A (40 + p)) p a k with
  | some i =>
    have : fUp (fun p => (pe1 (A (20 + p)) (A (30 + p)) (A (40 + p)) p a k).isSome) P = some p := fUp_first (fun t ht => by rw [hne t (by omega) (by omega)]; rfl) (by rw [e]; rfl) hp
    rw [this]
    exact e
  | none =>
    have : fUp (fun p => (pe1 (A (20 + p)) (A (30 + p)) (A (40 + p)) p a k).isSome) P = none := fUp_all fun t ht => by
      by_cases z : t = p
      · subst z; rw [e]; rfl
      · rw [hne t ht z]; rfl
    rw [this]
theorem pL_c {A : Nat → Nat} {P a k i : Nat} (h : pL A P a k = some i) : (a = A 0 ∧ k = i + 4 ∧ i < 9) ∨ ∃ p, p < P ∧ pe1 (A (20 + p)) (A (30 + p)) (A (40 + p)) p a k = some i := by
  unfold pL at h
  split at h
  · next e =>
    split at h
    · cases h; exact Or.inl ⟨e, by omega, by omega⟩
    · cases h
  · split at h
    · next p hp => exact Or.inr ⟨p, fUp_lt _ _ hp, h⟩
    · cases h
theorem pL_u {A : Nat → Nat} {P a k i : Nat} (hP : P ≤ 6) (h : pL A P a k = some i) : (∃ x, ui P x ∧ a = A x) ∧ (i < 9 ∨ ∃ p, p < P ∧ pcell p i) := by
  rcases pL_c h with ⟨h1, h2, h3⟩ | ⟨p, hp, h1⟩
  · exact ⟨⟨0, Or.inl rfl, h1⟩, Or.inl h3⟩
  · obtain ⟨c1, d1⟩ := pe1_c (by omega) h1
    refine ⟨?_, Or.inr ⟨p, hp, c1⟩⟩
    rcases d1 with ⟨z, -⟩ | ⟨z, -⟩ | ⟨z, -⟩
    · exact ⟨20 + p, by unfold ui; omega, z⟩
    · exact ⟨30 + p, by unfold ui; omega, z⟩
    · exact ⟨40 + p, by unfold ui; omega, z⟩
theorem pL_inj {A : Nat → Nat} {P : Nat} (hU : Ui A P) (hP : P ≤ 6) : Linj (pL A P) := by
  intro a k b j i h1 h2
  rcases pL_c h1 with ⟨a1, a2, a3⟩ | ⟨p, hp, a1⟩
  · rcases pL_c h2 with ⟨b1, b2, b3⟩ | ⟨q, hq, b1⟩
    · exact ⟨a1.trans b1.symm, by omega⟩
    · exact absurd (pe1_c (by omega) b1).1 (nocell (by omega))
  · rcases pL_c h2 with ⟨b1, b2, b3⟩ | ⟨q, hq, b1⟩
    · exact absurd (pe1_c (by omega) a1).1 (nocell (by omega))
    · obtain ⟨c1, d1⟩ := pe1_c (by omega) a1
      obtain ⟨c2, d2⟩ := pe1_c (by omega) b1
      have e : p = q := by
        by_cases z : p = q
        · exact z
        · exact absurd c2 (pcell_ne (p := q) (q := p) (by omega) (by omega) (fun y => z y.symm) c1 |> fun y => y)
      subst e
      have n1 : A (20 + p) ≠ A (30 + p) := fun e => by have := hU _ _ (by unfold ui; omega) (by unfold ui; omega) e; omega
      have n2 : A (20 + p) ≠ A (40 + p) := fun e => by have := hU _ _ (by unfold ui; omega) (by unfold ui; omega) e; omega
      have n3 : A (30 + p) ≠ A (40 + p) := fun e => by have := hU _ _ (by unfold ui; omega) (by unfold ui; omega) e; omega
      exact pe1_inj (by omega) n1 n2 n3 _ _ _ _ _ a1 b1
theorem pL_e {σ : Sg} {A : Nat → Nat} {P p : Nat} {C : Nat → Int32} (hU : Ui A P) (hP : P ≤ 6) (hp : p < P) (h : Pr σ (A (20 + p)) (A (30 + p)) (A (40 + p)) p C) : Pe (pL A P) σ (A (20 + p)) (A (30 + p)) (A (40 + p)) p := by
  have n1 : A (20 + p) ≠ A (30 + p) := fun e => by have := hU _ _ (by unfold ui; omega) (by unfold ui; omega) e; omega
  have n2 : A (20 + p) ≠ A (40 + p) := fun e => by have := hU _ _ (by unfold ui; omega) (by unfold ui; omega) e; omega
  have n3 : A (30 + p) ≠ A (40 + p) := fun e => by have := hU _ _ (by unfold ui; omega) (by unfold ui; omega) e; omega
  have z := pe1_p (p := p) n1 n2 n3 h.1 h.2.1
  refine ⟨h.1, h.2.1, ⟨?_, ?_, ?_, ?_⟩, fun j hj => ?_, fun j hj => ?_⟩
  · rw [pL_p hU hP hp (Or.inl rfl)]; exact z.l3
  · rw [pL_p hU hP hp (Or.inl rfl)]; exact z.l4
  · rw [pL_p hU hP hp (Or.inl rfl)]; exact z.l5
  · rw [pL_p hU hP hp (Or.inl rfl)]; exact z.l6
  · rw [pL_p hU hP hp (Or.inr (Or.inl rfl))]; exact z.ll hj
  · rw [pL_p hU hP hp (Or.inr (Or.inr rfl))]; exact z.lg hj
/-- a province that may take: its cells under a lens of its own -/
def Tg (L : Nat → Nat → Option Nat) (σ : Sg) (A : Nat → Nat) (P : Nat) : Prop := Linj L ∧ (σ.1 (A 0) = some (6, 0) ∧ σ.1 (A 2) = some (27, 6) ∧ σ.1 (A 3) = some (28, 6)) ∧ (σ.2.2.2 (A 0) 1 = some (A 2) ∧ σ.2.2.2 (A 0) 2 = some (A 3)) ∧ (∀ i, i < 9 → L (A 0) (i + 4) = some i) ∧ (∀ p, p < P → σ.2.2.2 (A 2) p = some (A (20 + p)) ∧ Pe L σ (A (20 + p)) (A (30 + p)) (A (40 + p)) p) ∧ ∀ a k i, L a k = some i → i < 9 ∨ ∃ p, p < P ∧ pcell p i
/-- a province that is taken from -/
def So (L : Nat → Nat → Option Nat) (σ : Sg) (A : Nat → Nat) (S : Nat → Int32) (P : Nat) : Prop := (σ.1 (A 0) = some (6, 0) ∧ σ.1 (A 2) = some (27, 6) ∧ σ.1 (A 3) = some (28, 6)) ∧ (σ.2.2.2 (A 0) 1 = some (A 2) ∧ σ.2.2.2 (A 0) 2 = some (A 3)) ∧ (∀ i, i < 9 → σ.2.1 (A 0) (i + 4) = S i) ∧ (∀ j, L (A 0) j = none) ∧ (∀ p, p < P → σ.2.2.2 (A 2) p = some (A (20 + p)) ∧ Ps L σ (A (20 + p)) (A (30 + p)) (A (40 + p)) p S) ∧ ∀ k y, k < 6 → σ.2.2.2 (A 3) k = some y → σ.1 y = some (11, 0)
def tkN (S D : Nat → Int32) (n : Nat) : Nat → Int32 := itr (fun p D => tkP p S D) n D
theorem tkN_o {S D : Nat → Int32} {i : Nat} : ∀ n, (∀ p, p < n → ¬ pcell p i) → tkN S D n i = D i := by
  intro n
  induction n with
  | zero => intro _; rfl
  | succ n ih => intro h; exact (tkP_n (h n (by omega))).trans (ih fun p hp => h p (by omega))
theorem tkN_y {S D : Nat → Int32} {i q : Nat} (hq : pcell q i) : ∀ n, q < n → n ≤ 6 → tkN S D n i = S i := by
  intro n
  induction n with
  | zero => intro h _; omega
  | succ n ih =>
    intro h h6
    by_cases e : q = n
    · subst e; exact tkP_y hq
    · exact (tkP_n (pcell_ne (p := n) (q := q) (by omega) (by omega) (fun z => e z.symm) hq)).trans (ih (by omega) (by omega))
section X21s
variable {g : Gx} {l : Launch} {σ τ : Sg} {L L2 : Nat → Nat → Option Nat} {A A2 : Nat → Nat} {C D S : Nat → Int32} {P p : Nat}
theorem x_ptk (ht : Tg L2 σ A2 P) (hs0 : So L2 σ A S P) (hP : S 1 = nI P) (hP6 : P ≤ 6) (hb : ∀ p, p < P → S (31 + p) = nI 0 ∨ S (31 + p) = nI 1) (d0 : D 0 = S 0) (d1 : D 1 = S 1) (d3 : D 3 = S 3) :
    Kd g l 1 MX6_takes [.ref (A2 0), .ref (A 0)] (put σ L2 D) (some (.ref (A2 0))) (put (sUR σ (A2 3) (va_cpy (σ.2.2.2 (A 3)) (σ.2.2.2 (A2 3)) 0 0 6)) L2 S) := by
  obtain ⟨hL, ⟨t1, t2, t3⟩, ⟨t4, t5⟩, t6, t7, t8⟩ := ht
  obtain ⟨⟨s1, s2, s3⟩, ⟨s4, s5⟩, s6, s7, s8, s9⟩ := hs0
  have z1 : ∀ X, (put σ L2 X).1 (A2 0) = some (6, 0) := fun X => t1
  have z2 : ∀ X, (put σ L2 X).1 (A2 2) = some (27, 6) := fun X => t2
  have z4 : ∀ X, (put σ L2 X).2.2.2 (A2 0) 1 = some (A2 2) := fun X => t4
  have z5 : ∀ X, (put σ L2 X).2.2.2 (A2 0) 2 = some (A2 3) := fun X => t5
  have w1 : ∀ X, (put σ L2 X).1 (A 0) = some (6, 0) := fun X => s1
  have w2 : ∀ X, (put σ L2 X).1 (A 2) = some (27, 6) := fun X => s2
  have w4 : ∀ X, (put σ L2 X).2.2.2 (A 0) 1 = some (A 2) := fun X => s4
  have w5 : ∀ X, (put σ L2 X).2.2.2 (A 0) 2 = some (A 3) := fun X => s5
  refine Kt.go (Y := MX6_takes) (ls := [some (.ref (A2 0)), some (.ref (A 0)), none]) (by decide) (Nat.le_of_ble_eq_true rfl) rfl ?_
  have key : ∀ j, j ≤ P → Td g l 1 MX6_takes [.ref (A2 0), .ref (A 0)] (put (sUR σ (A2 3) (va_cpy (σ.2.2.2 (A 3)) (σ.2.2.2 (A2 3)) 0 0 6)) L2 S) (some (.ref (A2 0))) 2 [some (.ref (A2 0)), some (.ref (A 0)), some (.int (nI j))] [] (put σ L2 (tkN S D j)) := by
    refine loop_up fun j hj ih => ?_
    have e5 : (put σ L2 (tkN S D j)).2.1 (A2 0) 5 = nI P := (pg (t6 1 (by omega))).trans ((tkN_o j (fun p hp => nocell (by omega))).trans (d1.trans hP))
    by_cases hjP : j < P
    · obtain ⟨q1, q2⟩ := t7 j hjP
      obtain ⟨q3, q4⟩ := s8 j hjP
      have r1 : ∀ X, (put σ L2 X).2.2.2 (A2 2) j = some (A2 (20 + j)) := fun X => q1
      have r2 : ∀ X, (put σ L2 X).2.2.2 (A 2) j = some (A (20 + j)) := fun X => q3
      refine j_iload_n dX6_takes_2 rfl ?_
      first | refine j_aload_n dX6_takes_3 rfl ?_ | refine j_aload_nN dX6_takes_3 rfl ?_
      refine j_getI dX6_takes_4 fl_X6_49 rfl (by first | exact z1 _ | exact z2 _ | exact z4 _ | exact w1 _ | exact w2 _ | exact w4 _ | exact r1 _ | exact r2 _ | exact e5 | exact Pe.sh q2 | assumption) (by first | exact z1 _ | exact z2 _ | exact z4 _ | exact w1 _ | exact w2 _ | exact w4 _ | exact r1 _ | exact r2 _ | exact e5 | exact Pe.sh q2 | assumption) ?_
      first | (with_reducible refine j_gNN ?_; refine j_icmp_geN (tgt := 32) dX6_takes_7 (by decide) (by omega) (by omega) (fun c_7 => ?_) (fun c_7 => ?_)) | refine j_icmp_ge (tgt := 32) dX6_takes_7 (by decide) (fun c_7 => ?_) (fun c_7 => ?_)
      · exact absurd hjP (Nat.not_lt.mpr c_7)
      · first | refine j_aload_n dX6_takes_10 rfl ?_ | refine j_aload_nN dX6_takes_10 rfl ?_
        refine j_getR dX6_takes_11 fl_X6_19 rfl (by first | exact z1 _ | exact z2 _ | exact z4 _ | exact w1 _ | exact w2 _ | exact w4 _ | exact r1 _ | exact r2 _ | exact e5 | exact Pe.sh q2 | assumption) (by first | exact z1 _ | exact z2 _ | exact z4 _ | exact w1 _ | exact w2 _ | exact w4 _ | exact r1 _ | exact r2 _ | exact e5 | exact Pe.sh q2 | assumption) ?_
        refine j_iload_n dX6_takes_14 rfl ?_
        refine j_aald (t := 27) dX6_takes_15 (fun _ => rfl) (by decide) (by first | exact z1 _ | exact z2 _ | exact z4 _ | exact w1 _ | exact w2 _ | exact w4 _ | exact r1 _ | exact r2 _ | exact e5 | exact Pe.sh q2 | assumption) rfl (by omega) (by decide) (by first | exact z1 _ | exact z2 _ | exact z4 _ | exact w1 _ | exact w2 _ | exact w4 _ | exact r1 _ | exact r2 _ | exact e5 | exact Pe.sh q2 | assumption) ?_
        first | refine j_aload_n dX6_takes_16 rfl ?_ | refine j_aload_nN dX6_takes_16 rfl ?_
        refine j_getR dX6_takes_17 fl_X6_19 rfl (by first | exact z1 _ | exact z2 _ | exact z4 _ | exact w1 _ | exact w2 _ | exact w4 _ | exact r1 _ | exact r2 _ | exact e5 | exact Pe.sh q2 | assumption) (by first | exact z1 _ | exact z2 _ | exact z4 _ | exact w1 _ | exact w2 _ | exact w4 _ | exact r1 _ | exact r2 _ | exact e5 | exact Pe.sh q2 | assumption) ?_
        refine j_iload_n dX6_takes_20 rfl ?_
        refine j_aald (t := 27) dX6_takes_21 (fun _ => rfl) (by decide) (by first | exact z1 _ | exact z2 _ | exact z4 _ | exact w1 _ | exact w2 _ | exact w4 _ | exact r1 _ | exact r2 _ | exact e5 | exact Pe.sh q2 | assumption) rfl (by omega) (by decide) (by first | exact z1 _ | exact z2 _ | exact z4 _ | exact w1 _ | exact w2 _ | exact w4 _ | exact r1 _ | exact r2 _ | exact e5 | exact Pe.sh q2 | assumption) ?_
        refine j_dV1 kl_X6_66 (x_takes hL q2 q4 (by omega) (hb j hjP)) dX6_takes_22 rfl rfl (by decide) (by first | exact z1 _ | exact z2 _ | exact z4 _ | exact w1 _ | exact w2 _ | exact w4 _ | exact r1 _ | exact r2 _ | exact e5 | exact Pe.sh q2 | assumption) (Nat.le_of_ble_eq_true rfl) (by first | decide | omega) (by omega) (by omega) ?_
        refine j_pop dX6_takes_25 rfl ?_
        first | refine j_iincN dX6_takes_26 rfl (by decide) ?_ | refine j_iinc dX6_takes_26 rfl rfl (by decide) ?_
        refine j_goto (tgt := 2) dX6_takes_29 (by decide) ?_
        exact ih hjP
    · have e : j = P := by omega
      subst e
      have fin : put (sUR σ (A2 3) (va_cpy (σ.2.2.2 (A 3)) (σ.2.2.2 (A2 3)) 0 0 6)) L2 (up (up (up (up (up (up (tkN S D j) 2 (S 2)) 4 (S 4)) 5 (S 5)) 6 (S 6)) 7 (S 7)) 8 (S 8)) = put (sUR σ (A2 3) (va_cpy (σ.2.2.2 (A 3)) (σ.2.2.2 (A2 3)) 0 0 6)) L2 S := put_cg fun a k i h => by
        have hz : i = 0 ∨ i = 1 ∨ i = 2 ∨ i = 3 ∨ i = 4 ∨ i = 5 ∨ i = 6 ∨ i = 7 ∨ i = 8 ∨ 9 ≤ i := by omega
        have hn : i < 9 → tkN S D j i = D i := fun h9 => tkN_o j (fun p hp => nocell (by omega))
        rcases hz with rfl | rfl | rfl | rfl | rfl | rfl | rfl | rfl | rfl | h9
        · exact (hn (by omega)).trans d0
        · exact (hn (by omega)).trans d1
        · rfl
        · exact (hn (by omega)).trans d3
        · rfl
        · rfl
        · rfl
        · rfl
        · rfl
        · rw [up_ne (by omega), up_ne (by omega), up_ne (by omega), up_ne (by omega), up_ne (by omega), up_ne (by omega)]
          rcases t8 a k i h with z | ⟨p, hp, hc⟩
          · omega
          · exact tkN_y hc j hp hP6
      have y1 : ∀ X, (put (sUR σ (A2 3) (va_cpy (σ.2.2.2 (A 3)) (σ.2.2.2 (A2 3)) 0 0 6)) L2 X).1 (A2 0) = some (6, 0) := fun X => t1
      have y2 : ∀ X, (put (sUR σ (A2 3) (va_cpy (σ.2.2.2 (A 3)) (σ.2.2.2 (A2 3)) 0 0 6)) L2 X).1 (A 0) = some (6, 0) := fun X => s1
      have y3 : ∀ X i, i < 9 → (put (sUR σ (A2 3) (va_cpy (σ.2.2.2 (A 3)) (σ.2.2.2 (A2 3)) 0 0 6)) L2 X).2.1 (A 0) (i + 4) = S i := fun X i hi => (pgn (s7 _)).trans (s6 i hi)
      refine j_iload_n dX6_takes_2 rfl ?_
      first | refine j_aload_n dX6_takes_3 rfl ?_ | refine j_aload_nN dX6_takes_3 rfl ?_
      refine j_getI dX6_takes_4 fl_X6_49 rfl (by first | exact z1 _ | exact z4 _ | exact z5 _ | exact w1 _ | exact w5 _ | exact e5 | exact y1 _ | exact y2 _ | exact y3 _ 2 (by decide) | exact y3 _ 4 (by decide) | exact y3 _ 5 (by decide) | exact y3 _ 6 (by decide) | exact y3 _ 7 (by decide) | exact y3 _ 8 (by decide) | assumption) (by first | exact z1 _ | exact z4 _ | exact z5 _ | exact w1 _ | exact w5 _ | exact e5 | exact y1 _ | exact y2 _ | exact y3 _ 2 (by decide) | exact y3 _ 4 (by decide) | exact y3 _ 5 (by decide) | exact y3 _ 6 (by decide) | exact y3 _ 7 (by decide) | exact y3 _ 8 (by decide) | assumption) ?_
      first | (with_reducible refine j_gNN ?_; refine j_icmp_geN (tgt := 32) dX6_takes_7 (by decide) (by omega) (by omega) (fun c_7 => ?_) (fun c_7 => ?_)) | refine j_icmp_ge (tgt := 32) dX6_takes_7 (by decide) (fun c_7 => ?_) (fun c_7 => ?_)
      · first | refine j_aload_n dX6_takes_32 rfl ?_ | refine j_aload_nN dX6_takes_32 rfl ?_
        refine j_getR dX6_takes_33 fl_X6_25 rfl (by first | exact z1 _ | exact z4 _ | exact z5 _ | exact w1 _ | exact w5 _ | exact e5 | exact y1 _ | exact y2 _ | exact y3 _ 2 (by decide) | exact y3 _ 4 (by decide) | exact y3 _ 5 (by decide) | exact y3 _ 6 (by decide) | exact y3 _ 7 (by decide) | exact y3 _ 8 (by decide) | assumption) (by first | exact z1 _ | exact z4 _ | exact z5 _ | exact w1 _ | exact w5 _ | exact e5 | exact y1 _ | exact y2 _ | exact y3 _ 2 (by decide) | exact y3 _ 4 (by decide) | exact y3 _ 5 (by decide) | exact y3 _ 6 (by decide) | exact y3 _ 7 (by decide) | exact y3 _ 8 (by decide) | assumption) ?_
        refine j_iconst (v := nI 0) dX6_takes_36 (by decide +kernel) ?_
        first | refine j_aload_n dX6_takes_37 rfl ?_ | refine j_aload_nN dX6_takes_37 rfl ?_
        refine j_getR dX6_takes_38 fl_X6_25 rfl (by first | exact z1 _ | exact z4 _ | exact z5 _ | exact w1 _ | exact w5 _ | exact e5 | exact y1 _ | exact y2 _ | exact y3 _ 2 (by decide) | exact y3 _ 4 (by decide) | exact y3 _ 5 (by decide) | exact y3 _ 6 (by decide) | exact y3 _ 7 (by decide) | exact y3 _ 8 (by decide) | assumption) (by first | exact z1 _ | exact z4 _ | exact z5 _ | exact w1 _ | exact w5 _ | exact e5 | exact y1 _ | exact y2 _ | exact y3 _ 2 (by decide) | exact y3 _ 4 (by decide) | exact y3 _ 5 (by decide) | exact y3 _ 6 (by decide) | exact y3 _ 7 (by decide) | exact y3 _ 8 (by decide) | assumption) ?_
        refine j_iconst (v := nI 0) dX6_takes_41 (by decide +kernel) ?_
        refine j_bipush (v := nI 6) dX6_takes_42 (by decide +kernel) ?_
        refine j_cpR (t := 28) (ci := 11) (sp := 0) (dp := 0) (n := 6) dX6_takes_44 q1292 (fun _ => rfl) (by decide) (by decide) (show (put σ L2 _).1 (A 3) = _ from s3) (show (put σ L2 _).1 (A2 3) = _ from t3) (fun i hi y hy => s9 i y hi (by rw [Nat.zero_add] at hy; exact hy)) (by decide) (by decide) (by decide) (by decide) (Nat.le_of_ble_eq_true rfl) ?_
        refine j_sg (put_UR (σ := σ) (L := L2) (C := tkN S D j)) ?_
        first | refine j_aload_n dX6_takes_47 rfl ?_ | refine j_aload_nN dX6_takes_47 rfl ?_
        first | refine j_aload_n dX6_takes_48 rfl ?_ | refine j_aload_nN dX6_takes_48 rfl ?_
        refine j_getI dX6_takes_49 fl_X6_69 rfl (by first | exact z1 _ | exact z4 _ | exact z5 _ | exact w1 _ | exact w5 _ | exact e5 | exact y1 _ | exact y2 _ | exact y3 _ 2 (by decide) | exact y3 _ 4 (by decide) | exact y3 _ 5 (by decide) | exact y3 _ 6 (by decide) | exact y3 _ 7 (by decide) | exact y3 _ 8 (by decide) | assumption) (by first | exact z1 _ | exact z4 _ | exact z5 _ | exact w1 _ | exact w5 _ | exact e5 | exact y1 _ | exact y2 _ | exact y3 _ 2 (by decide) | exact y3 _ 4 (by decide) | exact y3 _ 5 (by decide) | exact y3 _ 6 (by decide) | exact y3 _ 7 (by decide) | exact y3 _ 8 (by decide) | assumption) ?_
        refine j_putI dX6_takes_52 fl_X6_69 rfl (by first | exact z1 _ | exact z4 _ | exact z5 _ | exact w1 _ | exact w5 _ | exact e5 | exact y1 _ | exact y2 _ | exact y3 _ 2 (by decide) | exact y3 _ 4 (by decide) | exact y3 _ 5 (by decide) | exact y3 _ 6 (by decide) | exact y3 _ 7 (by decide) | exact y3 _ 8 (by decide) | assumption) rfl rfl rfl ?_
        refine j_sg (put_w hL (t6 2 (by decide))) ?_
        first | refine j_aload_n dX6_takes_55 rfl ?_ | refine j_aload_nN dX6_takes_55 rfl ?_
        first | refine j_aload_n dX6_takes_56 rfl ?_ | refine j_aload_nN dX6_takes_56 rfl ?_
        refine j_getI dX6_takes_57 fl_X6_29 rfl (by first | exact z1 _ | exact z4 _ | exact z5 _ | exact w1 _ | exact w5 _ | exact e5 | exact y1 _ | exact y2 _ | exact y3 _ 2 (by decide) | exact y3 _ 4 (by decide) | exact y3 _ 5 (by decide) | exact y3 _ 6 (by decide) | exact y3 _ 7 (by decide) | exact y3 _ 8 (by decide) | assumption) (by first | exact z1 _ | exact z4 _ | exact z5 _ | exact w1 _ | exact w5 _ | exact e5 | exact y1 _ | exact y2 _ | exact y3 _ 2 (by decide) | exact y3 _ 4 (by decide) | exact y3 _ 5 (by decide) | exact y3 _ 6 (by decide) | exact y3 _ 7 (by decide) | exact y3 _ 8 (by decide) | assumption) ?_
        refine j_putI dX6_takes_60 fl_X6_29 rfl (by first | exact z1 _ | exact z4 _ | exact z5 _ | exact w1 _ | exact w5 _ | exact e5 | exact y1 _ | exact y2 _ | exact y3 _ 2 (by decide) | exact y3 _ 4 (by decide) | exact y3 _ 5 (by decide) | exact y3 _ 6 (by decide) | exact y3 _ 7 (by decide) | exact y3 _ 8 (by decide) | assumption) rfl rfl rfl ?_
        refine j_sg (put_w hL (t6 4 (by decide))) ?_
        first | refine j_aload_n dX6_takes_63 rfl ?_ | refine j_aload_nN dX6_takes_63 rfl ?_
        first | refine j_aload_n dX6_takes_64 rfl ?_ | refine j_aload_nN dX6_takes_64 rfl ?_
        refine j_getI dX6_takes_65 fl_X6_33 rfl (by first | exact z1 _ | exact z4 _ | exact z5 _ | exact w1 _ | exact w5 _ | exact e5 | exact y1 _ | exact y2 _ | exact y3 _ 2 (by decide) | exact y3 _ 4 (by decide) | exact y3 _ 5 (by decide) | exact y3 _ 6 (by decide) | exact y3 _ 7 (by decide) | exact y3 _ 8 (by decide) | assumption) (by first | exact z1 _ | exact z4 _ | exact z5 _ | exact w1 _ | exact w5 _ | exact e5 | exact y1 _ | exact y2 _ | exact y3 _ 2 (by decide) | exact y3 _ 4 (by decide) | exact y3 _ 5 (by decide) | exact y3 _ 6 (by decide) | exact y3 _ 7 (by decide) | exact y3 _ 8 (by decide) | assumption) ?_
        refine j_putI dX6_takes_68 fl_X6_33 rfl (by first | exact z1 _ | exact z4 _ | exact z5 _ | exact w1 _ | exact w5 _ | exact e5 | exact y1 _ | exact y2 _ | exact y3 _ 2 (by decide) | exact y3 _ 4 (by decide) | exact y3 _ 5 (by decide) | exact y3 _ 6 (by decide) | exact y3 _ 7 (by decide) | exact y3 _ 8 (by decide) | assumption) rfl rfl rfl ?_
        refine j_sg (put_w hL (t6 5 (by decide))) ?_
        first | refine j_aload_n dX6_takes_71 rfl ?_ | refine j_aload_nN dX6_takes_71 rfl ?_
        first | refine j_aload_n dX6_takes_72 rfl ?_ | refine j_aload_nN dX6_takes_72 rfl ?_
        refine j_getI dX6_takes_73 fl_X6_72 rfl (by first | exact z1 _ | exact z4 _ | exact z5 _ | exact w1 _ | exact w5 _ | exact e5 | exact y1 _ | exact y2 _ | exact y3 _ 2 (by decide) | exact y3 _ 4 (by decide) | exact y3 _ 5 (by decide) | exact y3 _ 6 (by decide) | exact y3 _ 7 (by decide) | exact y3 _ 8 (by decide) | assumption) (by first | exact z1 _ | exact z4 _ | exact z5 _ | exact w1 _ | exact w5 _ | exact e5 | exact y1 _ | exact y2 _ | exact y3 _ 2 (by decide) | exact y3 _ 4 (by decide) | exact y3 _ 5 (by decide) | exact y3 _ 6 (by decide) | exact y3 _ 7 (by decide) | exact y3 _ 8 (by decide) | assumption) ?_
        refine j_putI dX6_takes_76 fl_X6_72 rfl (by first | exact z1 _ | exact z4 _ | exact z5 _ | exact w1 _ | exact w5 _ | exact e5 | exact y1 _ | exact y2 _ | exact y3 _ 2 (by decide) | exact y3 _ 4 (by decide) | exact y3 _ 5 (by decide) | exact y3 _ 6 (by decide) | exact y3 _ 7 (by decide) | exact y3 _ 8 (by decide) | assumption) rfl rfl rfl ?_
        refine j_sg (put_w hL (t6 6 (by decide))) ?_
        first | refine j_aload_n dX6_takes_79 rfl ?_ | refine j_aload_nN dX6_takes_79 rfl ?_
        first | refine j_aload_n dX6_takes_80 rfl ?_ | refine j_aload_nN dX6_takes_80 rfl ?_
        refine j_getI dX6_takes_81 fl_X6_75 rfl (by first | exact z1 _ | exact z4 _ | exact z5 _ | exact w1 _ | exact w5 _ | exact e5 | exact y1 _ | exact y2 _ | exact y3 _ 2 (by decide) | exact y3 _ 4 (by decide) | exact y3 _ 5 (by decide) | exact y3 _ 6 (by decide) | exact y3 _ 7 (by decide) | exact y3 _ 8 (by decide) | assumption) (by first | exact z1 _ | exact z4 _ | exact z5 _ | exact w1 _ | exact w5 _ | exact e5 | exact y1 _ | exact y2 _ | exact y3 _ 2 (by decide) | exact y3 _ 4 (by decide) | exact y3 _ 5 (by decide) | exact y3 _ 6 (by decide) | exact y3 _ 7 (by decide) | exact y3 _ 8 (by decide) | assumption) ?_
        refine j_putI dX6_takes_84 fl_X6_75 rfl (by first | exact z1 _ | exact z4 _ | exact z5 _ | exact w1 _ | exact w5 _ | exact e5 | exact y1 _ | exact y2 _ | exact y3 _ 2 (by decide) | exact y3 _ 4 (by decide) | exact y3 _ 5 (by decide) | exact y3 _ 6 (by decide) | exact y3 _ 7 (by decide) | exact y3 _ 8 (by decide) | assumption) rfl rfl rfl ?_
        refine j_sg (put_w hL (t6 7 (by decide))) ?_
        first | refine j_aload_n dX6_takes_87 rfl ?_ | refine j_aload_nN dX6_takes_87 rfl ?_
        first | refine j_aload_n dX6_takes_88 rfl ?_ | refine j_aload_nN dX6_takes_88 rfl ?_
        refine j_getI dX6_takes_89 fl_X6_78 rfl (by first | exact z1 _ | exact z4 _ | exact z5 _ | exact w1 _ | exact w5 _ | exact e5 | exact y1 _ | exact y2 _ | exact y3 _ 2 (by decide) | exact y3 _ 4 (by decide) | exact y3 _ 5 (by decide) | exact y3 _ 6 (by decide) | exact y3 _ 7 (by decide) | exact y3 _ 8 (by decide) | assumption) (by first | exact z1 _ | exact z4 _ | exact z5 _ | exact w1 _ | exact w5 _ | exact e5 | exact y1 _ | exact y2 _ | exact y3 _ 2 (by decide) | exact y3 _ 4 (by decide) | exact y3 _ 5 (by decide) | exact y3 _ 6 (by decide) | exact y3 _ 7 (by decide) | exact y3 _ 8 (by decide) | assumption) ?_
        refine j_putI dX6_takes_92 fl_X6_78 rfl (by first | exact z1 _ | exact z4 _ | exact z5 _ | exact w1 _ | exact w5 _ | exact e5 | exact y1 _ | exact y2 _ | exact y3 _ 2 (by decide) | exact y3 _ 4 (by decide) | exact y3 _ 5 (by decide) | exact y3 _ 6 (by decide) | exact y3 _ 7 (by decide) | exact y3 _ 8 (by decide) | assumption) rfl rfl rfl ?_
        refine j_sg (put_w hL (t6 8 (by decide))) ?_
        first | refine j_aload_n dX6_takes_95 rfl ?_ | refine j_aload_nN dX6_takes_95 rfl ?_
        refine j_aret (v := some (A2 0)) dX6_takes_96 ⟨_, rfl, Or.inl ⟨_, rfl⟩⟩ (by omega) (by omega) ?_
        exact ⟨rfl, fin⟩
      · exact absurd c_7 hjP
  refine j_iconst (v := nI 0) dX6_takes_0 (by decide +kernel) ?_
  refine j_istore_n dX6_takes_1 (by decide) ?_
  exact key 0 (by omega)
end X21s
