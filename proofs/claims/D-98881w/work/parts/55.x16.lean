/-! X: ONE TAKES WHAT ANOTHER ONE IS -/
set_option maxRecDepth 100000
theorem put_cp8 {σ : Sg} {L : Nat → Nat → Option Nat} {D F G : Nat → Int32} {la o : Nat} (hL : Linj L) (hl : ∀ j, j < 8 → L la j = some (o + j)) (hF : ∀ j, j < 8 → F j = G j) : sU (put σ L D) la (va_cpy F ((put σ L D).2.1 la) 0 0 8) = put σ L (cpO o 8 G D) := by
  refine sg_ext rfl (fun b j => ?_) rfl
  by_cases e : b = la
  · subst e
    rw [sU_e, va_cpy]
    by_cases h8 : j < 8
    · rw [if_pos (by omega), pg (hl j h8), cpO, if_pos (by omega), show 0 + (j - 0) = j by omega, hF j h8, Nat.add_sub_cancel_left]
    · rw [if_neg (by omega), put_at, put_at]
      cases q : L b j with
      | none => rfl
      | some i =>
        have : ¬ (o ≤ i ∧ i < o + 8) := fun z => by
          have z2 := hl (i - o) (by omega)
          rw [show o + (i - o) = i by omega] at z2
          have := (hL _ _ _ _ _ q z2).2
          omega
        show D i = cpO o 8 G D i
        unfold cpO
        rw [if_neg this]
  · rw [sU_n e, put_at, put_at]
    cases q : L b j with
    | none => rfl
    | some i =>
      have : ¬ (o ≤ i ∧ i < o + 8) := fun z => by
        have z2 := hl (i - o) (by omega)
        rw [show o + (i - o) = i by omega] at z2
        exact e (hL _ _ _ _ _ q z2).1
      show D i = cpO o 8 G D i
      unfold cpO
      rw [if_neg this]
/-- D, with the cells of person p of S -/
def tkP (p : Nat) (S D : Nat → Int32) : Nat → Int32 := fun i => if i = 25 + p ∨ i = 31 + p ∨ i = 37 + p ∨ i = 43 + p ∨ (49 + 8 * p ≤ i ∧ i < 57 + 8 * p) ∨ (97 + 8 * p ≤ i ∧ i < 105 + 8 * p) then S i else D i
theorem tkP_y {p i : Nat} {S D : Nat → Int32} (h : pcell p i) : tkP p S D i = S i := if_pos h
theorem tkP_n {p i : Nat} {S D : Nat → Int32} (h : ¬ pcell p i) : tkP p S D i = D i := if_neg h
theorem tkP_eq {p : Nat} {S D : Nat → Int32} (hp : p < 6) : up (up (up (up (cpO (97 + 8 * p) 8 (fun j => S (97 + 8 * p + j)) (cpO (49 + 8 * p) 8 (fun j => S (49 + 8 * p + j)) D)) (25 + p) (S (25 + p))) (37 + p) (S (37 + p))) (43 + p) (S (43 + p))) (31 + p) (S (31 + p)) = tkP p S D := by
  funext i
  by_cases h1 : i = 31 + p
  · subst h1; rw [up_eq, tkP_y (by unfold pcell; omega)]
  · rw [up_ne h1]
    by_cases h2 : i = 43 + p
    · subst h2; rw [up_eq, tkP_y (by unfold pcell; omega)]
    · rw [up_ne h2]
      by_cases h3 : i = 37 + p
      · subst h3; rw [up_eq, tkP_y (by unfold pcell; omega)]
      · rw [up_ne h3]
        by_cases h4 : i = 25 + p
        · subst h4; rw [up_eq, tkP_y (by unfold pcell; omega)]
        · rw [up_ne h4]
          unfold cpO
          by_cases h5 : 97 + 8 * p ≤ i ∧ i < 97 + 8 * p + 8
          · rw [if_pos h5, tkP_y (by unfold pcell; omega)]
            show S (97 + 8 * p + (i - (97 + 8 * p))) = S i
            congr 1
            omega
          · rw [if_neg h5]
            by_cases h6 : 49 + 8 * p ≤ i ∧ i < 49 + 8 * p + 8
            · rw [if_pos h6, tkP_y (by unfold pcell; omega)]
              show S (49 + 8 * p + (i - (49 + 8 * p))) = S i
              congr 1
              omega
            · rw [if_neg h6, tkP_n (by unfold pcell; omega)]
/-- a person whose cells are as in S, apart from the lens -/
def Ps (L : Nat → Nat → Option Nat) (σ : Sg) (b la aa p : Nat) (S : Nat → Int32) : Prop := (σ.1 b = some (8, 0) ∧ σ.1 la = some (20, 8) ∧ σ.1 aa = some (20, 8)) ∧ (σ.2.2.2 b 1 = some la ∧ σ.2.2.2 b 2 = some aa) ∧ (σ.2.1 b 3 = S (25 + p) ∧ σ.2.1 b 4 = S (37 + p) ∧ σ.2.1 b 5 = S (43 + p) ∧ σ.2.1 b 6 = S (31 + p)) ∧ (∀ j, j < 8 → σ.2.1 la j = S (49 + 8 * p + j)) ∧ (∀ j, j < 8 → σ.2.1 aa j = S (97 + 8 * p + j)) ∧ ∀ j, L b j = none ∧ L la j = none ∧ L aa j = none
/-- a person under one lens is such a one for a lens apart -/
theorem Pe.ps {L L2 : Nat → Nat → Option Nat} {σ : Sg} {b la aa p : Nat} {S : Nat → Int32} (h : Pe L σ b la aa p) (hd : ∀ a, (∃ k, L a k ≠ none) → ∀ k, L2 a k = none) : Ps L2 (put σ L S) b la aa p S := by
  refine ⟨h.1, h.2.1, ⟨pg h.l3, pg h.l4, pg h.l5, pg h.l6⟩, fun j hj => pg (h.ll hj), fun j hj => pg (h.lg hj), fun j => ⟨hd b ⟨3, by rw [h.l3]; simp⟩ j, hd la ⟨0, by rw [h.ll (by omega)]; simp⟩ j, hd aa ⟨0, by rw [h.lg (by omega)]; simp⟩ j⟩⟩
section X16s
variable {g : Gx} {l : Launch} {σ τ : Sg} {L : Nat → Nat → Option Nat} {b la aa p b2 la2 aa2 : Nat} {C D S : Nat → Int32}
theorem x_takes (hL : Linj L) (hp : Pe L σ b la aa p) (hs0 : Ps L σ b2 la2 aa2 p S) (hp6 : p < 6) (hb : S (31 + p) = nI 0 ∨ S (31 + p) = nI 1) : Kd g l 0 MX8_takes [.ref b, .ref b2] (put σ L D) (some (.ref b)) (put σ L (tkP p S D)) := by
  obtain ⟨⟨s1, s2, s3⟩, ⟨r1, r2⟩, ⟨i3, i4, i5, i6⟩, v1, v2, hn⟩ := hs0
  have hb' : S (31 + p) = 0 ∨ S (31 + p) = 1 := hb
  have z1 : ∀ D, (put σ L D).1 b2 = some (8, 0) := fun D => s1
  have e3 : ∀ D, (put σ L D).2.1 b2 3 = S (25 + p) := fun D => (pgn (hn 3).1).trans i3
  have e4 : ∀ D, (put σ L D).2.1 b2 4 = S (37 + p) := fun D => (pgn (hn 4).1).trans i4
  have e5 : ∀ D, (put σ L D).2.1 b2 5 = S (43 + p) := fun D => (pgn (hn 5).1).trans i5
  have e6 : ∀ D, (put σ L D).2.1 b2 6 = S (31 + p) := fun D => (pgn (hn 6).1).trans i6
  refine Kt.go (Y := MX8_takes) (ls := [some (.ref b), some (.ref b2)]) (by decide) (Nat.le_of_ble_eq_true rfl) rfl ?_
  first | refine j_aload_n dX8_takes_0 rfl ?_ | refine j_aload_nN dX8_takes_0 rfl ?_
  refine j_getR dX8_takes_1 fl_X8_9 rfl (by first | exact z1 _ | exact r1 | exact r2 | exact e3 _ | exact e4 _ | exact e5 _ | exact e6 _ | exact Pe.sh hp | assumption) (by first | exact z1 _ | exact r1 | exact r2 | exact e3 _ | exact e4 _ | exact e5 _ | exact e6 _ | exact Pe.r1 hp | assumption) ?_
  refine j_iconst (v := nI 0) dX8_takes_4 (by decide +kernel) ?_
  first | refine j_aload_n dX8_takes_5 rfl ?_ | refine j_aload_nN dX8_takes_5 rfl ?_
  refine j_getR dX8_takes_6 fl_X8_9 rfl (by first | exact z1 _ | exact r1 | exact r2 | exact e3 _ | exact e4 _ | exact e5 _ | exact e6 _ | exact Pe.sh hp | assumption) (by first | exact z1 _ | exact r1 | exact r2 | exact e3 _ | exact e4 _ | exact e5 _ | exact e6 _ | exact Pe.r1 hp | assumption) ?_
  refine j_iconst (v := nI 0) dX8_takes_9 (by decide +kernel) ?_
  refine j_bipush (v := nI 8) dX8_takes_10 (by decide +kernel) ?_
  refine j_cpI (sp := 0) (dp := 0) (n := 8) dX8_takes_12 q1303 (show (put σ L D).1 la2 = _ from s2) (Pe.sl hp) (by decide) (by decide) (by decide) (by decide) (Nat.le_of_ble_eq_true rfl) ?_
  refine j_sg (put_cp8 hL (fun j hj => Pe.ll hp hj) (fun j hj => (pgn (hn j).2.1).trans (v1 j hj))) ?_
  first | refine j_aload_n dX8_takes_15 rfl ?_ | refine j_aload_nN dX8_takes_15 rfl ?_
  refine j_getR dX8_takes_16 fl_X8_15 rfl (by first | exact z1 _ | exact r1 | exact r2 | exact e3 _ | exact e4 _ | exact e5 _ | exact e6 _ | exact Pe.sh hp | assumption) (by first | exact z1 _ | exact r1 | exact r2 | exact e3 _ | exact e4 _ | exact e5 _ | exact e6 _ | exact Pe.r2 hp | assumption) ?_
  refine j_iconst (v := nI 0) dX8_takes_19 (by decide +kernel) ?_
  first | refine j_aload_n dX8_takes_20 rfl ?_ | refine j_aload_nN dX8_takes_20 rfl ?_
  refine j_getR dX8_takes_21 fl_X8_15 rfl (by first | exact z1 _ | exact r1 | exact r2 | exact e3 _ | exact e4 _ | exact e5 _ | exact e6 _ | exact Pe.sh hp | assumption) (by first | exact z1 _ | exact r1 | exact r2 | exact e3 _ | exact e4 _ | exact e5 _ | exact e6 _ | exact Pe.r2 hp | assumption) ?_
  refine j_iconst (v := nI 0) dX8_takes_24 (by decide +kernel) ?_
  refine j_bipush (v := nI 8) dX8_takes_25 (by decide +kernel) ?_
  refine j_cpI (sp := 0) (dp := 0) (n := 8) dX8_takes_27 q1303 (show (put σ L _).1 aa2 = _ from s3) (Pe.sa hp) (by decide) (by decide) (by decide) (by decide) (Nat.le_of_ble_eq_true rfl) ?_
  refine j_sg (put_cp8 hL (fun j hj => Pe.lg hp hj) (fun j hj => (pgn (hn j).2.2).trans (v2 j hj))) ?_
  first | refine j_aload_n dX8_takes_30 rfl ?_ | refine j_aload_nN dX8_takes_30 rfl ?_
  first | refine j_aload_n dX8_takes_31 rfl ?_ | refine j_aload_nN dX8_takes_31 rfl ?_
  refine j_getI dX8_takes_32 fl_X8_18 rfl (by first | exact z1 _ | exact r1 | exact r2 | exact e3 _ | exact e4 _ | exact e5 _ | exact e6 _ | exact Pe.sh hp | assumption) (by first | exact z1 _ | exact r1 | exact r2 | exact e3 _ | exact e4 _ | exact e5 _ | exact e6 _ | exact pg (Pe.l3 hp) | assumption) ?_
  refine j_putI dX8_takes_35 fl_X8_18 rfl (by first | exact z1 _ | exact r1 | exact r2 | exact e3 _ | exact e4 _ | exact e5 _ | exact e6 _ | exact Pe.sh hp | assumption) rfl rfl rfl ?_
  first | refine j_sg (put_w hL (Pe.l3 hp)) ?_ | skip
  first | refine j_aload_n dX8_takes_38 rfl ?_ | refine j_aload_nN dX8_takes_38 rfl ?_
  first | refine j_aload_n dX8_takes_39 rfl ?_ | refine j_aload_nN dX8_takes_39 rfl ?_
  refine j_getI dX8_takes_40 fl_X8_39 rfl (by first | exact z1 _ | exact r1 | exact r2 | exact e3 _ | exact e4 _ | exact e5 _ | exact e6 _ | exact Pe.sh hp | assumption) (by first | exact z1 _ | exact r1 | exact r2 | exact e3 _ | exact e4 _ | exact e5 _ | exact e6 _ | exact pg (Pe.l4 hp) | assumption) ?_
  refine j_putI dX8_takes_43 fl_X8_39 rfl (by first | exact z1 _ | exact r1 | exact r2 | exact e3 _ | exact e4 _ | exact e5 _ | exact e6 _ | exact Pe.sh hp | assumption) rfl rfl rfl ?_
  first | refine j_sg (put_w hL (Pe.l4 hp)) ?_ | skip
  first | refine j_aload_n dX8_takes_46 rfl ?_ | refine j_aload_nN dX8_takes_46 rfl ?_
  first | refine j_aload_n dX8_takes_47 rfl ?_ | refine j_aload_nN dX8_takes_47 rfl ?_
  refine j_getI dX8_takes_48 fl_X8_42 rfl (by first | exact z1 _ | exact r1 | exact r2 | exact e3 _ | exact e4 _ | exact e5 _ | exact e6 _ | exact Pe.sh hp | assumption) (by first | exact z1 _ | exact r1 | exact r2 | exact e3 _ | exact e4 _ | exact e5 _ | exact e6 _ | exact pg (Pe.l5 hp) | assumption) ?_
  refine j_putI dX8_takes_51 fl_X8_42 rfl (by first | exact z1 _ | exact r1 | exact r2 | exact e3 _ | exact e4 _ | exact e5 _ | exact e6 _ | exact Pe.sh hp | assumption) rfl rfl rfl ?_
  first | refine j_sg (put_w hL (Pe.l5 hp)) ?_ | skip
  first | refine j_aload_n dX8_takes_54 rfl ?_ | refine j_aload_nN dX8_takes_54 rfl ?_
  first | refine j_aload_n dX8_takes_55 rfl ?_ | refine j_aload_nN dX8_takes_55 rfl ?_
  refine j_getI dX8_takes_56 fl_X8_45 rfl (by first | exact z1 _ | exact r1 | exact r2 | exact e3 _ | exact e4 _ | exact e5 _ | exact e6 _ | exact Pe.sh hp | assumption) (by first | exact z1 _ | exact r1 | exact r2 | exact e3 _ | exact e4 _ | exact e5 _ | exact e6 _ | exact pg (Pe.l6 hp) | assumption) ?_
  refine j_putI dX8_takes_59 fl_X8_45 rfl (by first | exact z1 _ | exact r1 | exact r2 | exact e3 _ | exact e4 _ | exact e5 _ | exact e6 _ | exact Pe.sh hp | assumption) rfl (by first | exact zb_nar hb' | exact zb_fit hb') (by first | exact zb_nar hb' | exact zb_fit hb') ?_
  first | refine j_sg (put_w hL (Pe.l6 hp)) ?_ | skip
  first | refine j_aload_n dX8_takes_62 rfl ?_ | refine j_aload_nN dX8_takes_62 rfl ?_
  refine j_aret (v := some b) dX8_takes_63 ⟨_, rfl, Or.inl ⟨_, rfl⟩⟩ (by omega) (by omega) ?_
  exact ⟨rfl, by rw [← tkP_eq hp6]⟩
end X16s
