/-! X: THE FACE: its cells, its small methods -/
set_option maxRecDepth 100000
/-- arrays of the face, by the number of their field: tag and length -/
def xf : Nat → Option (Nat × Nat)
  | 0 => some (25, 4)
  | 1 => some (2, 0)
  | 2 => some (5, 0)
  | 12 => some (24, 7200)
  | 13 => some (20, 256)
  | 14 => some (20, 8)
  | 15 => some (27, 4)
  | 16 => some (27, 4)
  | 20 => some (20, 5)
  | 21 => some (20, 5)
  | 23 => some (30, 3)
  | _ => none
/-- the face stands at hx: B k the cell of its field k; B (30 + t) its trays; B (40 + i), B (50 + i), B (60 + i) its ones (object, lengths, ages), B (70 + i), B (80 + i), B (90 + i) its twos -/
def Fa (σ : Sg) (hx : Nat) (B : Nat → Nat) : Prop := σ.1 hx = some (0, 0) ∧ (∀ k t n, xf k = some (t, n) → σ.2.2.2 hx k = some (B k) ∧ σ.1 (B k) = some (t, n)) ∧ (∀ t, t < 4 → σ.2.2.2 (B 0) t = some (B (30 + t)) ∧ σ.1 (B (30 + t)) = some (7, 0)) ∧
  (∀ i, i < 4 → (σ.2.2.2 (B 15) i = some (B (40 + i)) ∧ σ.1 (B (40 + i)) = some (8, 0) ∧ σ.1 (B (50 + i)) = some (20, 8) ∧ σ.1 (B (60 + i)) = some (20, 8) ∧ σ.2.2.2 (B (40 + i)) 1 = some (B (50 + i)) ∧ σ.2.2.2 (B (40 + i)) 2 = some (B (60 + i))) ∧ σ.2.2.2 (B 16) i = some (B (70 + i)) ∧ σ.1 (B (70 + i)) = some (8, 0) ∧ σ.1 (B (80 + i)) = some (20, 8) ∧ σ.1 (B (90 + i)) = some (20, 8) ∧ σ.2.2.2 (B (70 + i)) 1 = some (B (80 + i)) ∧ σ.2.2.2 (B (70 + i)) 2 = some (B (90 + i)))
def Fq (σ : Sg) (hx : Nat) (A : Nat → Nat) : Prop := σ.2.2.2 hx 3 = some (A 0)
section FA
variable {σ : Sg} {hx : Nat} {B A : Nat → Nat} {L : Nat → Nat → Option Nat} {C D : Nat → Int32} {t W P Dn Hn : Nat}
theorem Fa.sh (h : Fa σ hx B) : (put σ L D).1 hx = some (0, 0) := h.1
theorem Fa.f0 (h : Fa σ hx B) : (put σ L D).2.2.2 hx 0 = some (B 0) := (h.2.1 0 _ _ rfl).1
theorem Fa.f1 (h : Fa σ hx B) : (put σ L D).2.2.2 hx 1 = some (B 1) := (h.2.1 1 _ _ rfl).1
theorem Fa.f2 (h : Fa σ hx B) : (put σ L D).2.2.2 hx 2 = some (B 2) := (h.2.1 2 _ _ rfl).1
theorem Fa.f12 (h : Fa σ hx B) : (put σ L D).2.2.2 hx 12 = some (B 12) := (h.2.1 12 _ _ rfl).1
theorem Fa.f13 (h : Fa σ hx B) : (put σ L D).2.2.2 hx 13 = some (B 13) := (h.2.1 13 _ _ rfl).1
theorem Fa.f14 (h : Fa σ hx B) : (put σ L D).2.2.2 hx 14 = some (B 14) := (h.2.1 14 _ _ rfl).1
theorem Fa.f15 (h : Fa σ hx B) : (put σ L D).2.2.2 hx 15 = some (B 15) := (h.2.1 15 _ _ rfl).1
theorem Fa.f16 (h : Fa σ hx B) : (put σ L D).2.2.2 hx 16 = some (B 16) := (h.2.1 16 _ _ rfl).1
theorem Fa.f20 (h : Fa σ hx B) : (put σ L D).2.2.2 hx 20 = some (B 20) := (h.2.1 20 _ _ rfl).1
theorem Fa.f21 (h : Fa σ hx B) : (put σ L D).2.2.2 hx 21 = some (B 21) := (h.2.1 21 _ _ rfl).1
theorem Fa.f23 (h : Fa σ hx B) : (put σ L D).2.2.2 hx 23 = some (B 23) := (h.2.1 23 _ _ rfl).1
theorem Fa.s0 (h : Fa σ hx B) : (put σ L D).1 (B 0) = some (25, 4) := (h.2.1 0 _ _ rfl).2
theorem Fa.s1 (h : Fa σ hx B) : (put σ L D).1 (B 1) = some (2, 0) := (h.2.1 1 _ _ rfl).2
theorem Fa.s2 (h : Fa σ hx B) : (put σ L D).1 (B 2) = some (5, 0) := (h.2.1 2 _ _ rfl).2
theorem Fa.s12 (h : Fa σ hx B) : (put σ L D).1 (B 12) = some (24, 7200) := (h.2.1 12 _ _ rfl).2
theorem Fa.s13 (h : Fa σ hx B) : (put σ L D).1 (B 13) = some (20, 256) := (h.2.1 13 _ _ rfl).2
theorem Fa.s14 (h : Fa σ hx B) : (put σ L D).1 (B 14) = some (20, 8) := (h.2.1 14 _ _ rfl).2
theorem Fa.s15 (h : Fa σ hx B) : (put σ L D).1 (B 15) = some (27, 4) := (h.2.1 15 _ _ rfl).2
theorem Fa.s16 (h : Fa σ hx B) : (put σ L D).1 (B 16) = some (27, 4) := (h.2.1 16 _ _ rfl).2
theorem Fa.s20 (h : Fa σ hx B) : (put σ L D).1 (B 20) = some (20, 5) := (h.2.1 20 _ _ rfl).2
theorem Fa.s21 (h : Fa σ hx B) : (put σ L D).1 (B 21) = some (20, 5) := (h.2.1 21 _ _ rfl).2
theorem Fa.s23 (h : Fa σ hx B) : (put σ L D).1 (B 23) = some (30, 3) := (h.2.1 23 _ _ rfl).2
theorem Fa.tr (h : Fa σ hx B) (ht : t < 4) : (put σ L D).2.2.2 (B 0) t = some (B (30 + t)) := (h.2.2.1 t ht).1
theorem Fa.ts (h : Fa σ hx B) (ht : t < 4) : (put σ L D).1 (B (30 + t)) = some (7, 0) := (h.2.2.1 t ht).2
theorem Fq.f3 (h : Fq σ hx A) : (put σ L D).2.2.2 hx 3 = some (A 0) := h
theorem Pv.noL (h : Pv σ L A C W P Dn Hn) {a t n : Nat} (hs : σ.1 a = some (t, n)) (h6 : (t, n) ≠ (6, 0)) (h8 : (t, n) ≠ (8, 0)) (h20 : (t, n) ≠ (20, 8)) : ∀ k, L a k = none := by
  intro k
  cases q : L a k with
  | none => rfl
  | some i =>
    rcases h.dom q with e | e | e
    · rw [hs] at e; exact absurd (Option.some.inj e) h6
    · rw [hs] at e; exact absurd (Option.some.inj e) h8
    · rw [hs] at e; exact absurd (Option.some.inj e) h20
theorem Pv.nf (h : Pv σ L A C W P Dn Hn) (hf : Fa σ hx B) (k : Nat) : L hx k = none := h.noL hf.1 (by decide) (by decide) (by decide) k
end FA
/-- .. behind an answer: the status -/
def xS (σ : Sg) (hx : Nat) (w : Int32) : Sg := sI σ hx 6 w
section PX
variable {σ : Sg} {hx : Nat} {L : Nat → Nat → Option Nat} {C D : Nat → Int32}
theorem pxR (hn : ∀ k, L hx k = none) {o : Int32 × Int32} {v w : Int32} (e : o = (v, w)) : some (Value.int v) = some (Value.int o.1) ∧ sI (put σ L C) hx 6 w = put (xS σ hx o.2) L C := by rw [e]; exact ⟨rfl, put_n (hn 6)⟩
theorem pxD (hn : ∀ k, L hx k = none) {o : Int32 × Int32 × (Nat → Int32)} {v w : Int32} (e : o = (v, w, D)) : some (Value.int v) = some (Value.int o.1) ∧ sI (put σ L D) hx 6 w = put (xS σ hx o.2.1) L o.2.2 := by rw [e]; exact ⟨rfl, put_n (hn 6)⟩
theorem pxB (hn : ∀ k, L hx k = none) {o : Bool × Int32 × (Nat → Int32)} {b : Bool} {v w : Int32} (hv : v = bI b) (e : o = (b, w, D)) : some (Value.int v) = some (Value.int (bI o.1)) ∧ sI (put σ L D) hx 6 w = put (xS σ hx o.2.1) L o.2.2 := by rw [e, hv]; exact ⟨rfl, put_n (hn 6)⟩
end PX
theorem okN_out {w : Int32} {n : Nat} (hn : 1 ≤ n) (h : okN w n = false) : w.toInt < 0 ∨ ((n - 1 : Nat) : Int) < w.toInt := by
  unfold okN at h
  rw [Bool.and_eq_false_iff, decide_eq_false_iff_not, decide_eq_false_iff_not] at h
  omega
theorem lt_nI0 {w : Int32} (h : w < 0) {n : Nat} (hn : n < 2 ^ 31) : okN w n = false := okN_f hn (Or.inl h)
section X6
variable {g : Gx} {l : Launch} {σ τ : Sg} {L : Nat → Nat → Option Nat} {A B : Nat → Nat} {C : Nat → Int32} {W P Dn Hn k p q hx : Nat}
theorem x_is (hs0 : τ.1 hx = some (0, 0)) (w : Int32) : Kd g l 0 MX0_is [.ref hx, .int w] τ (some (.int (bI (decide (w = 0))))) (sI τ hx 6 w) := by
  refine Kt.go (Y := MX0_is) (ls := [some (.ref hx), some (.int w)]) (by decide) (Nat.le_of_ble_eq_true rfl) rfl ?_
  first | refine j_aload_n dX0_is_0 rfl ?_ | refine j_aload_nN dX0_is_0 rfl ?_
  refine j_iload_n dX0_is_1 rfl ?_
  refine j_putI dX0_is_2 fl_X0_92 rfl (by first | exact Fa.sh hf | assumption) rfl rfl rfl ?_
  refine j_iload_n dX0_is_5 rfl ?_
  first | (with_reducible refine j_gB ?_; refine j_if_neB (tgt := 13) dX0_is_6 (by decide) (fun c_6 => ?_) (fun c_6 => ?_)) | (with_reducible refine j_gC ?_; refine j_if_neC (tgt := 13) dX0_is_6 (by decide) (fun c_6 => ?_) (fun c_6 => ?_)) | (with_reducible refine j_gN ?_; refine j_if_neN (tgt := 13) dX0_is_6 (by decide) (by omega) (fun c_6 => ?_) (fun c_6 => ?_)) | refine j_if_ne (tgt := 13) dX0_is_6 (by decide) (fun c_6 => ?_) (fun c_6 => ?_)
  · refine j_iconst (v := nI 0) dX0_is_13 (by decide +kernel) ?_
    refine j_iret dX0_is_14 ⟨_, rfl, rfl⟩ (by omega) (by omega) ?_
    exact ⟨by first | (rw [decide_eq_true c_6]; rfl) | (rw [decide_eq_false c_6]; rfl), rfl⟩
  · refine j_iconst (v := nI 1) dX0_is_9 (by decide +kernel) ?_
    refine j_goto (tgt := 14) dX0_is_10 (by decide) ?_
    refine j_iret dX0_is_14 ⟨_, rfl, rfl⟩ (by omega) (by omega) ?_
    exact ⟨by first | (rw [decide_eq_true c_6]; rfl) | (rw [decide_eq_false c_6]; rfl), rfl⟩
theorem x_none (hs0 : τ.1 hx = some (0, 0)) (w : Int32) : Kd g l 0 MX0_none [.ref hx, .int w] τ (some (.int (-1))) (sI τ hx 6 w) := by
  refine Kt.go (Y := MX0_none) (ls := [some (.ref hx), some (.int w)]) (by decide) (Nat.le_of_ble_eq_true rfl) rfl ?_
  first | refine j_aload_n dX0_none_0 rfl ?_ | refine j_aload_nN dX0_none_0 rfl ?_
  refine j_iload_n dX0_none_1 rfl ?_
  refine j_putI dX0_none_2 fl_X0_92 rfl (by first | exact Fa.sh hf | assumption) rfl rfl rfl ?_
  refine j_iconst (v := -1) dX0_none_5 (by decide +kernel) ?_
  refine j_iret dX0_none_6 ⟨_, rfl, rfl⟩ (by omega) (by omega) ?_
  exact ⟨rfl, rfl⟩
theorem x_gives (hs0 : τ.1 hx = some (0, 0)) (w : Int32) : Kd g l 0 MX0_gives [.ref hx, .int w] τ (some (.int w)) (sI τ hx 6 (nI 0)) := by
  refine Kt.go (Y := MX0_gives) (ls := [some (.ref hx), some (.int w)]) (by decide) (Nat.le_of_ble_eq_true rfl) rfl ?_
  first | refine j_aload_n dX0_gives_0 rfl ?_ | refine j_aload_nN dX0_gives_0 rfl ?_
  refine j_iconst (v := nI 0) dX0_gives_1 (by decide +kernel) ?_
  refine j_putI dX0_gives_2 fl_X0_92 rfl (by first | exact Fa.sh hf | assumption) rfl rfl rfl ?_
  refine j_iload_n dX0_gives_5 rfl ?_
  refine j_iret dX0_gives_6 ⟨_, rfl, rfl⟩ (by omega) (by omega) ?_
  exact ⟨rfl, rfl⟩
theorem x_orNothing (hs0 : τ.1 hx = some (0, 0)) (w : Int32) : Kd g l 1 MX0_orNothing [.ref hx, .int w] τ (some (.int w)) (sI τ hx 6 (if w = -1 then nI 8 else nI 0)) := by
  refine Kt.go (Y := MX0_orNothing) (ls := [some (.ref hx), some (.int w)]) (by decide) (Nat.le_of_ble_eq_true rfl) rfl ?_
  refine j_iload_n dX0_orNothing_0 rfl ?_
  refine j_iconst (v := -1) dX0_orNothing_1 (by decide +kernel) ?_
  first | (with_reducible refine j_gNN ?_; refine j_icmp_neN (tgt := 14) dX0_orNothing_2 (by decide) (by omega) (by omega) (fun c_2 => ?_) (fun c_2 => ?_)) | refine j_icmp_ne (tgt := 14) dX0_orNothing_2 (by decide) (fun c_2 => ?_) (fun c_2 => ?_)
  · first | refine j_aload_n dX0_orNothing_14 rfl ?_ | refine j_aload_nN dX0_orNothing_14 rfl ?_
    refine j_iload_n dX0_orNothing_15 rfl ?_
    refine j_dV1 kl_X0_102 (x_gives hs0 _) dX0_orNothing_16 rfl rfl (by decide) (by first | exact Fa.sh hf | assumption) (Nat.le_of_ble_eq_true rfl) (by first | decide | omega) (by omega) (by omega) ?_
    refine j_iret dX0_orNothing_19 ⟨_, rfl, rfl⟩ (by omega) (by omega) ?_
    exact ⟨by first | rfl | rw [c_2], by first | rw [if_pos c_2] | rw [if_neg c_2]⟩
  · first | refine j_aload_n dX0_orNothing_5 rfl ?_ | refine j_aload_nN dX0_orNothing_5 rfl ?_
    refine j_bipush (v := nI 8) dX0_orNothing_6 (by decide +kernel) ?_
    refine j_dV1 kl_X0_98 (x_none hs0 _) dX0_orNothing_8 rfl rfl (by decide) (by first | exact Fa.sh hf | assumption) (Nat.le_of_ble_eq_true rfl) (by first | decide | omega) (by omega) (by omega) ?_
    refine j_goto (tgt := 19) dX0_orNothing_11 (by decide) ?_
    refine j_iret dX0_orNothing_19 ⟨_, rfl, rfl⟩ (by omega) (by omega) ?_
    exact ⟨by first | rfl | rw [c_2], by first | rw [if_pos c_2] | rw [if_neg c_2]⟩
theorem k_isFrom (v lo hi : Int64) : Kd g l 0 MX0_isFrom [.long v, .long lo, .long hi] τ (some (.int (bI (inL v lo hi)))) τ := by
  refine Kt.go (Y := MX0_isFrom) (ls := [some (.long v), none, some (.long lo), none, some (.long hi), none]) (by decide) (Nat.le_of_ble_eq_true rfl) rfl ?_
  refine j_lload_n dX0_isFrom_0 rfl ?_
  refine j_lload_n dX0_isFrom_1 rfl ?_
  refine j_lcmp dX0_isFrom_2 ?_
  first | (with_reducible refine j_gC ?_; refine j_if_ltC (tgt := 17) dX0_isFrom_3 (by decide) (fun c_3 => ?_) (fun c_3 => ?_)) | refine j_if_lt (tgt := 17) dX0_isFrom_3 (by decide) (fun c_3 => ?_) (fun c_3 => ?_)
  · refine j_iconst (v := nI 0) dX0_isFrom_17 (by decide +kernel) ?_
    refine j_iret dX0_isFrom_18 ⟨_, rfl, rfl⟩ (by omega) (by omega) ?_
    exact ⟨by unfold inL; simp [*, bI], rfl⟩
  · refine j_lload_n dX0_isFrom_6 rfl ?_
    refine j_lload dX0_isFrom_7 rfl ?_
    refine j_lcmp dX0_isFrom_9 ?_
    first | (with_reducible refine j_gC ?_; refine j_if_gtC (tgt := 17) dX0_isFrom_10 (by decide) (fun c_10 => ?_) (fun c_10 => ?_)) | refine j_if_gt (tgt := 17) dX0_isFrom_10 (by decide) (fun c_10 => ?_) (fun c_10 => ?_)
    · refine j_iconst (v := nI 0) dX0_isFrom_17 (by decide +kernel) ?_
      refine j_iret dX0_isFrom_18 ⟨_, rfl, rfl⟩ (by omega) (by omega) ?_
      exact ⟨by unfold inL; simp [*, bI], rfl⟩
    · refine j_iconst (v := nI 1) dX0_isFrom_13 (by decide +kernel) ?_
      refine j_goto (tgt := 18) dX0_isFrom_14 (by decide) ?_
      refine j_iret dX0_isFrom_18 ⟨_, rfl, rfl⟩ (by omega) (by omega) ?_
      exact ⟨by unfold inL; simp [*, bI], rfl⟩
theorem x_isTray (w : Int32) : Kd g l 0 MX0_isTray [.int w] τ (some (.int (bI (okN w 4)))) τ := by
  refine Kt.go (Y := MX0_isTray) (ls := [some (.int w)]) (by decide) (Nat.le_of_ble_eq_true rfl) rfl ?_
  refine j_iload_n dX0_isTray_0 rfl ?_
  first | (with_reducible refine j_gC ?_; refine j_if_ltC (tgt := 13) dX0_isTray_1 (by decide) (fun c_1 => ?_) (fun c_1 => ?_)) | refine j_if_lt (tgt := 13) dX0_isTray_1 (by decide) (fun c_1 => ?_) (fun c_1 => ?_)
  · refine j_iconst (v := nI 0) dX0_isTray_13 (by decide +kernel) ?_
    refine j_iret dX0_isTray_14 ⟨_, rfl, rfl⟩ (by omega) (by omega) ?_
    exact ⟨by first | (rw [lt_nI0 c_1 (by decide)]; rfl) | (rw [okN_f (by decide) (Or.inr c_6)]; rfl) | (rw [okN_t (by decide) c_1 (Int32.not_le.mp c_6)]; rfl), rfl⟩
  · refine j_iload_n dX0_isTray_4 rfl ?_
    refine j_iconst (v := nI 4) dX0_isTray_5 (by decide +kernel) ?_
    first | (with_reducible refine j_gNN ?_; refine j_icmp_geN (tgt := 13) dX0_isTray_6 (by decide) (by omega) (by omega) (fun c_6 => ?_) (fun c_6 => ?_)) | refine j_icmp_ge (tgt := 13) dX0_isTray_6 (by decide) (fun c_6 => ?_) (fun c_6 => ?_)
    · refine j_iconst (v := nI 0) dX0_isTray_13 (by decide +kernel) ?_
      refine j_iret dX0_isTray_14 ⟨_, rfl, rfl⟩ (by omega) (by omega) ?_
      exact ⟨by first | (rw [lt_nI0 c_1 (by decide)]; rfl) | (rw [okN_f (by decide) (Or.inr c_6)]; rfl) | (rw [okN_t (by decide) c_1 (Int32.not_le.mp c_6)]; rfl), rfl⟩
    · refine j_iconst (v := nI 1) dX0_isTray_9 (by decide +kernel) ?_
      refine j_goto (tgt := 14) dX0_isTray_10 (by decide) ?_
      refine j_iret dX0_isTray_14 ⟨_, rfl, rfl⟩ (by omega) (by omega) ?_
      exact ⟨by first | (rw [lt_nI0 c_1 (by decide)]; rfl) | (rw [okN_f (by decide) (Or.inr c_6)]; rfl) | (rw [okN_t (by decide) c_1 (Int32.not_le.mp c_6)]; rfl), rfl⟩
theorem x_isSpan (w : Int32) : Kd g l 1 MX0_isSpan [.int w] τ (some (.int (bI (inL w.toInt64 0 200)))) τ := by
  refine Kt.go (Y := MX0_isSpan) (ls := [some (.int w)]) (by decide) (Nat.le_of_ble_eq_true rfl) rfl ?_
  refine j_iload_n dX0_isSpan_0 rfl ?_
  refine j_i2l dX0_isSpan_1 ?_
  refine j_lconst (v := 0) dX0_isSpan_2 (by decide +kernel) ?_
  refine j_ldc2 (v := 200) dX0_isSpan_3 q1281 ?_
  refine j_dS1 kl_X0_162 (k_isFrom _ _ _) dX0_isSpan_6 rfl rfl (Nat.le_of_ble_eq_true rfl) (by first | decide | omega) (by omega) (by omega) ?_
  refine j_iret dX0_isSpan_9 ⟨_, rfl, bI_nar _⟩ (by omega) (by omega) ?_
  exact ⟨rfl, rfl⟩
theorem x_isWord (hf : Fa σ hx B) (hg : Fq σ hx A) (hR : Pv σ L A C W P Dn Hn) (hW : C 0 = nI W) (hW8 : W ≤ 8) (w : Int32) : Kd g l 0 MX0_isWord [.ref hx, .int w] (put σ L C) (some (.int (bI (okN w W)))) (put σ L C) := by
  refine Kt.go (Y := MX0_isWord) (ls := [some (.ref hx), some (.int w)]) (by decide) (Nat.le_of_ble_eq_true rfl) rfl ?_
  refine j_iload_n dX0_isWord_0 rfl ?_
  first | (with_reducible refine j_gC ?_; refine j_if_ltC (tgt := 19) dX0_isWord_1 (by decide) (fun c_1 => ?_) (fun c_1 => ?_)) | refine j_if_lt (tgt := 19) dX0_isWord_1 (by decide) (fun c_1 => ?_) (fun c_1 => ?_)
  · refine j_iconst (v := nI 0) dX0_isWord_19 (by decide +kernel) ?_
    refine j_iret dX0_isWord_20 ⟨_, rfl, rfl⟩ (by omega) (by omega) ?_
    exact ⟨by first | (rw [lt_nI0 c_1 (by omega)]; rfl) | (rw [okN_f (by omega) (Or.inr c_12)]; rfl) | (rw [okN_t (by omega) c_1 (Int32.not_le.mp c_12)]; rfl), rfl⟩
  · refine j_iload_n dX0_isWord_4 rfl ?_
    first | refine j_aload_n dX0_isWord_5 rfl ?_ | refine j_aload_nN dX0_isWord_5 rfl ?_
    refine j_getR dX0_isWord_6 fl_X0_38 rfl (by first | exact Fa.sh hf | assumption) (by first | exact Fq.f3 hg | assumption) ?_
    refine j_getI dX0_isWord_9 fl_X0_147 rfl (by first | exact Pv.sh hR | assumption) (by first | exact pg (Pv.li hR 4 0 rfl (by decide)) | assumption) ?_
    rw [hW]
    first | (with_reducible refine j_gNN ?_; refine j_icmp_geN (tgt := 19) dX0_isWord_12 (by decide) (by omega) (by omega) (fun c_12 => ?_) (fun c_12 => ?_)) | refine j_icmp_ge (tgt := 19) dX0_isWord_12 (by decide) (fun c_12 => ?_) (fun c_12 => ?_)
    · refine j_iconst (v := nI 0) dX0_isWord_19 (by decide +kernel) ?_
      refine j_iret dX0_isWord_20 ⟨_, rfl, rfl⟩ (by omega) (by omega) ?_
      exact ⟨by first | (rw [lt_nI0 c_1 (by omega)]; rfl) | (rw [okN_f (by omega) (Or.inr c_12)]; rfl) | (rw [okN_t (by omega) c_1 (Int32.not_le.mp c_12)]; rfl), rfl⟩
    · refine j_iconst (v := nI 1) dX0_isWord_15 (by decide +kernel) ?_
      refine j_goto (tgt := 20) dX0_isWord_16 (by decide) ?_
      refine j_iret dX0_isWord_20 ⟨_, rfl, rfl⟩ (by omega) (by omega) ?_
      exact ⟨by first | (rw [lt_nI0 c_1 (by omega)]; rfl) | (rw [okN_f (by omega) (Or.inr c_12)]; rfl) | (rw [okN_t (by omega) c_1 (Int32.not_le.mp c_12)]; rfl), rfl⟩
theorem x_isPerson (hf : Fa σ hx B) (hg : Fq σ hx A) (hR : Pv σ L A C W P Dn Hn) (hW : C 1 = nI P) (hW8 : P ≤ 6) (w : Int32) : Kd g l 0 MX0_isPerson [.ref hx, .int w] (put σ L C) (some (.int (bI (okN w P)))) (put σ L C) := by
  refine Kt.go (Y := MX0_isPerson) (ls := [some (.ref hx), some (.int w)]) (by decide) (Nat.le_of_ble_eq_true rfl) rfl ?_
  refine j_iload_n dX0_isPerson_0 rfl ?_
  first | (with_reducible refine j_gC ?_; refine j_if_ltC (tgt := 19) dX0_isPerson_1 (by decide) (fun c_1 => ?_) (fun c_1 => ?_)) | refine j_if_lt (tgt := 19) dX0_isPerson_1 (by decide) (fun c_1 => ?_) (fun c_1 => ?_)
  · refine j_iconst (v := nI 0) dX0_isPerson_19 (by decide +kernel) ?_
    refine j_iret dX0_isPerson_20 ⟨_, rfl, rfl⟩ (by omega) (by omega) ?_
    exact ⟨by first | (rw [lt_nI0 c_1 (by omega)]; rfl) | (rw [okN_f (by omega) (Or.inr c_12)]; rfl) | (rw [okN_t (by omega) c_1 (Int32.not_le.mp c_12)]; rfl), rfl⟩
  · refine j_iload_n dX0_isPerson_4 rfl ?_
    first | refine j_aload_n dX0_isPerson_5 rfl ?_ | refine j_aload_nN dX0_isPerson_5 rfl ?_
    refine j_getR dX0_isPerson_6 fl_X0_38 rfl (by first | exact Fa.sh hf | assumption) (by first | exact Fq.f3 hg | assumption) ?_
    refine j_getI dX0_isPerson_9 fl_X0_152 rfl (by first | exact Pv.sh hR | assumption) (by first | exact pg (Pv.li hR 5 1 rfl (by decide)) | assumption) ?_
    rw [hW]
    first | (with_reducible refine j_gNN ?_; refine j_icmp_geN (tgt := 19) dX0_isPerson_12 (by decide) (by omega) (by omega) (fun c_12 => ?_) (fun c_12 => ?_)) | refine j_icmp_ge (tgt := 19) dX0_isPerson_12 (by decide) (fun c_12 => ?_) (fun c_12 => ?_)
    · refine j_iconst (v := nI 0) dX0_isPerson_19 (by decide +kernel) ?_
      refine j_iret dX0_isPerson_20 ⟨_, rfl, rfl⟩ (by omega) (by omega) ?_
      exact ⟨by first | (rw [lt_nI0 c_1 (by omega)]; rfl) | (rw [okN_f (by omega) (Or.inr c_12)]; rfl) | (rw [okN_t (by omega) c_1 (Int32.not_le.mp c_12)]; rfl), rfl⟩
    · refine j_iconst (v := nI 1) dX0_isPerson_15 (by decide +kernel) ?_
      refine j_goto (tgt := 20) dX0_isPerson_16 (by decide) ?_
      refine j_iret dX0_isPerson_20 ⟨_, rfl, rfl⟩ (by omega) (by omega) ?_
      exact ⟨by first | (rw [lt_nI0 c_1 (by omega)]; rfl) | (rw [okN_f (by omega) (Or.inr c_12)]; rfl) | (rw [okN_t (by omega) c_1 (Int32.not_le.mp c_12)]; rfl), rfl⟩
theorem x_isDinner (hf : Fa σ hx B) (hg : Fq σ hx A) (hR : Pv σ L A C W P Dn Hn) (hW : C 2 = nI Dn) (hW8 : Dn ≤ 6) (w : Int32) : Kd g l 0 MX0_isDinner [.ref hx, .int w] (put σ L C) (some (.int (bI (okN w Dn)))) (put σ L C) := by
  refine Kt.go (Y := MX0_isDinner) (ls := [some (.ref hx), some (.int w)]) (by decide) (Nat.le_of_ble_eq_true rfl) rfl ?_
  refine j_iload_n dX0_isDinner_0 rfl ?_
  first | (with_reducible refine j_gC ?_; refine j_if_ltC (tgt := 19) dX0_isDinner_1 (by decide) (fun c_1 => ?_) (fun c_1 => ?_)) | refine j_if_lt (tgt := 19) dX0_isDinner_1 (by decide) (fun c_1 => ?_) (fun c_1 => ?_)
  · refine j_iconst (v := nI 0) dX0_isDinner_19 (by decide +kernel) ?_
    refine j_iret dX0_isDinner_20 ⟨_, rfl, rfl⟩ (by omega) (by omega) ?_
    exact ⟨by first | (rw [lt_nI0 c_1 (by omega)]; rfl) | (rw [okN_f (by omega) (Or.inr c_12)]; rfl) | (rw [okN_t (by omega) c_1 (Int32.not_le.mp c_12)]; rfl), rfl⟩
  · refine j_iload_n dX0_isDinner_4 rfl ?_
    first | refine j_aload_n dX0_isDinner_5 rfl ?_ | refine j_aload_nN dX0_isDinner_5 rfl ?_
    refine j_getR dX0_isDinner_6 fl_X0_38 rfl (by first | exact Fa.sh hf | assumption) (by first | exact Fq.f3 hg | assumption) ?_
    refine j_getI dX0_isDinner_9 fl_X0_155 rfl (by first | exact Pv.sh hR | assumption) (by first | exact pg (Pv.li hR 6 2 rfl (by decide)) | assumption) ?_
    rw [hW]
    first | (with_reducible refine j_gNN ?_; refine j_icmp_geN (tgt := 19) dX0_isDinner_12 (by decide) (by omega) (by omega) (fun c_12 => ?_) (fun c_12 => ?_)) | refine j_icmp_ge (tgt := 19) dX0_isDinner_12 (by decide) (fun c_12 => ?_) (fun c_12 => ?_)
    · refine j_iconst (v := nI 0) dX0_isDinner_19 (by decide +kernel) ?_
      refine j_iret dX0_isDinner_20 ⟨_, rfl, rfl⟩ (by omega) (by omega) ?_
      exact ⟨by first | (rw [lt_nI0 c_1 (by omega)]; rfl) | (rw [okN_f (by omega) (Or.inr c_12)]; rfl) | (rw [okN_t (by omega) c_1 (Int32.not_le.mp c_12)]; rfl), rfl⟩
    · refine j_iconst (v := nI 1) dX0_isDinner_15 (by decide +kernel) ?_
      refine j_goto (tgt := 20) dX0_isDinner_16 (by decide) ?_
      refine j_iret dX0_isDinner_20 ⟨_, rfl, rfl⟩ (by omega) (by omega) ?_
      exact ⟨by first | (rw [lt_nI0 c_1 (by omega)]; rfl) | (rw [okN_f (by omega) (Or.inr c_12)]; rfl) | (rw [okN_t (by omega) c_1 (Int32.not_le.mp c_12)]; rfl), rfl⟩
theorem okN_L {w : Int32} {n : Nat} (hn : n ≤ 300) (h1 : 1 ≤ n) {m : Int64} (hm : m.toInt = ((n - 1 : Nat) : Int)) : inL w.toInt64 0 m = okN w n := inL_ok (by rw [hm]; omega)
theorem x_areWords (hf : Fa σ hx B) (hg : Fq σ hx A) (hR : Pv σ L A C W P Dn Hn) (hW : C 0 = nI W) (hW8 : W ≤ 8) (w : Int32) : Kd g l 1 MX0_areWords [.ref hx, .long w.toInt64] (put σ L C) (some (.int (bI (okN w (2 ^ W))))) (put σ L C) := by
  have h8 := pw8 hW8
  refine Kt.go (Y := MX0_areWords) (ls := [some (.ref hx), some (.long w.toInt64), none]) (by decide) (Nat.le_of_ble_eq_true rfl) rfl ?_
  refine j_lload_n dX0_areWords_0 rfl ?_
  refine j_lconst (v := 0) dX0_areWords_1 (by decide +kernel) ?_
  first | refine j_aload_n dX0_areWords_2 rfl ?_ | refine j_aload_nN dX0_areWords_2 rfl ?_
  refine j_getR dX0_areWords_3 fl_X0_38 rfl (by first | exact Fa.sh hf | assumption) (by first | exact Fq.f3 hg | assumption) ?_
  refine j_dV1 kl_X0_158 (x_allWords hR hW hW8) dX0_areWords_6 rfl rfl (by decide) (by first | exact Pv.sh hR | assumption) (Nat.le_of_ble_eq_true rfl) (by first | decide | omega) (by omega) (by omega) ?_
  refine j_i2l dX0_areWords_9 ?_
  refine j_dS1 kl_X0_162 (k_isFrom _ _ _) dX0_areWords_10 rfl rfl (Nat.le_of_ble_eq_true rfl) (by first | decide | omega) (by omega) (by omega) ?_
  refine j_iret dX0_areWords_13 ⟨_, rfl, bI_nar _⟩ (by omega) (by omega) ?_
  exact ⟨by rw [inL_ok (n := 2 ^ W) (by rw [Int32.toInt_toInt64, nI_toInt (by omega)]; have := @pw_pos W; omega)], rfl⟩
theorem ap_eq {P : Nat} (h : P ≤ 6) : (1 : Int64) <<< ((nI P).toInt64 &&& 63) - 1 = lN (2 ^ P - 1) := by
  have : ∀ P, P ≤ 6 → (1 : Int64) <<< ((nI P).toInt64 &&& 63) - 1 = lN (2 ^ P - 1) := by decide +kernel
  exact this P h
theorem x_arePeople (hf : Fa σ hx B) (hg : Fq σ hx A) (hR : Pv σ L A C W P Dn Hn) (hP : C 1 = nI P) (hP6 : P ≤ 6) (w : Int32) : Kd g l 1 MX0_arePeople [.ref hx, .long w.toInt64] (put σ L C) (some (.int (bI (okN w (2 ^ P))))) (put σ L C) := by
  have h8 : 2 ^ P ≤ 64 := pw_le (n := 6) hP6
  refine Kt.go (Y := MX0_arePeople) (ls := [some (.ref hx), some (.long w.toInt64), none]) (by decide) (Nat.le_of_ble_eq_true rfl) rfl ?_
  refine j_lload_n dX0_arePeople_0 rfl ?_
  refine j_lconst (v := 0) dX0_arePeople_1 (by decide +kernel) ?_
  refine j_lconst (v := 1) dX0_arePeople_2 (by decide +kernel) ?_
  first | refine j_aload_n dX0_arePeople_3 rfl ?_ | refine j_aload_nN dX0_arePeople_3 rfl ?_
  refine j_getR dX0_arePeople_4 fl_X0_38 rfl (by first | exact Fa.sh hf | assumption) (by first | exact Fq.f3 hg | assumption) ?_
  refine j_getI dX0_arePeople_7 fl_X0_152 rfl (by first | exact Pv.sh hR | assumption) (by first | exact pg (Pv.li hR 5 1 rfl (by decide)) | assumption) ?_
  rw [hP]
  refine j_lshl dX0_arePeople_10 ?_
  refine j_lconst (v := 1) dX0_arePeople_11 (by decide +kernel) ?_
  refine j_lsub dX0_arePeople_12 ?_
  rw [ap_eq hP6]
  refine j_dS1 kl_X0_162 (k_isFrom _ _ _) dX0_arePeople_13 rfl rfl (Nat.le_of_ble_eq_true rfl) (by first | decide | omega) (by omega) (by omega) ?_
  refine j_iret dX0_arePeople_16 ⟨_, rfl, bI_nar _⟩ (by omega) (by omega) ?_
  exact ⟨by rw [inL_ok (n := 2 ^ P) (by rw [lN_to (by omega)]; have := @pw_pos P; omega)], rfl⟩
theorem x_status (hs0 : τ.1 hx = some (0, 0)) {w : Int32} (h6 : τ.2.1 hx 6 = w) : Kd g l 0 MX0_status [.ref hx] τ (some (.int w)) τ := by
  refine Kt.go (Y := MX0_status) (ls := [some (.ref hx)]) (by decide) (Nat.le_of_ble_eq_true rfl) rfl ?_
  first | refine j_aload_n dX0_status_0 rfl ?_ | refine j_aload_nN dX0_status_0 rfl ?_
  refine j_getI dX0_status_1 fl_X0_92 rfl (by first | exact Fa.sh hf | assumption) (by first | assumption) ?_
  refine j_iret dX0_status_4 ⟨_, rfl, rfl⟩ (by omega) (by omega) ?_
  exact ⟨rfl, rfl⟩
theorem x_top (hs0 : τ.1 hx = some (0, 0)) {w : Int64} (h6 : τ.2.2.1 hx 9 = w) : Kd g l 0 MX0_top [.ref hx] τ (some (.long w)) τ := by
  refine Kt.go (Y := MX0_top) (ls := [some (.ref hx)]) (by decide) (Nat.le_of_ble_eq_true rfl) rfl ?_
  first | refine j_aload_n dX0_top_0 rfl ?_ | refine j_aload_nN dX0_top_0 rfl ?_
  refine j_getL dX0_top_1 fl_X0_95 rfl (by first | exact Fa.sh hf | assumption) (by first | assumption) ?_
  refine j_lret dX0_top_4 rfl (by omega) (by omega) ?_
  exact ⟨rfl, rfl⟩
theorem x_bottom (hs0 : τ.1 hx = some (0, 0)) {w : Int64} (h6 : τ.2.2.1 hx 10 = w) : Kd g l 0 MX0_bottom [.ref hx] τ (some (.long w)) τ := by
  refine Kt.go (Y := MX0_bottom) (ls := [some (.ref hx)]) (by decide) (Nat.le_of_ble_eq_true rfl) rfl ?_
  first | refine j_aload_n dX0_bottom_0 rfl ?_ | refine j_aload_nN dX0_bottom_0 rfl ?_
  refine j_getL dX0_bottom_1 fl_X0_49 rfl (by first | exact Fa.sh hf | assumption) (by first | assumption) ?_
  refine j_lret dX0_bottom_4 rfl (by omega) (by omega) ?_
  exact ⟨rfl, rfl⟩
theorem x_fault (hs0 : τ.1 hx = some (0, 0)) {a b : Int32} (h7 : τ.2.1 hx 7 = a) (h8 : τ.2.1 hx 8 = b) (w : Int32) : Kd g l 0 MX0_fault [.ref hx, .int w] τ (some (.int (oFault a b w))) τ := by
  refine Kt.go (Y := MX0_fault) (ls := [some (.ref hx), some (.int w)]) (by decide) (Nat.le_of_ble_eq_true rfl) rfl ?_
  refine j_iload_n dX0_fault_0 rfl ?_
  first | (with_reducible refine j_gB ?_; refine j_if_neB (tgt := 11) dX0_fault_1 (by decide) (fun c_1 => ?_) (fun c_1 => ?_)) | (with_reducible refine j_gC ?_; refine j_if_neC (tgt := 11) dX0_fault_1 (by decide) (fun c_1 => ?_) (fun c_1 => ?_)) | (with_reducible refine j_gN ?_; refine j_if_neN (tgt := 11) dX0_fault_1 (by decide) (by omega) (fun c_1 => ?_) (fun c_1 => ?_)) | refine j_if_ne (tgt := 11) dX0_fault_1 (by decide) (fun c_1 => ?_) (fun c_1 => ?_)
  · refine j_iload_n dX0_fault_11 rfl ?_
    refine j_iconst (v := nI 1) dX0_fault_12 (by decide +kernel) ?_
    first | (with_reducible refine j_gNN ?_; refine j_icmp_neN (tgt := 23) dX0_fault_13 (by decide) (by omega) (by omega) (fun c_13 => ?_) (fun c_13 => ?_)) | refine j_icmp_ne (tgt := 23) dX0_fault_13 (by decide) (fun c_13 => ?_) (fun c_13 => ?_)
    · refine j_iconst (v := -1) dX0_fault_23 (by decide +kernel) ?_
      refine j_iret dX0_fault_24 ⟨_, rfl, rfl⟩ (by omega) (by omega) ?_
      exact ⟨by unfold oFault; first | rw [if_pos (show w = nI 0 from c_1)] | rw [if_neg (show ¬ w = nI 0 from c_1), if_pos c_13] | rw [if_neg (show ¬ w = nI 0 from c_1), if_neg c_13], rfl⟩
    · first | refine j_aload_n dX0_fault_16 rfl ?_ | refine j_aload_nN dX0_fault_16 rfl ?_
      refine j_getI dX0_fault_17 fl_X0_46 rfl (by first | exact Fa.sh hf | assumption) (by first | assumption) ?_
      refine j_goto (tgt := 24) dX0_fault_20 (by decide) ?_
      refine j_iret dX0_fault_24 ⟨_, rfl, rfl⟩ (by omega) (by omega) ?_
      exact ⟨by unfold oFault; first | rw [if_pos (show w = nI 0 from c_1)] | rw [if_neg (show ¬ w = nI 0 from c_1), if_pos c_13] | rw [if_neg (show ¬ w = nI 0 from c_1), if_neg c_13], rfl⟩
  · first | refine j_aload_n dX0_fault_4 rfl ?_ | refine j_aload_nN dX0_fault_4 rfl ?_
    refine j_getI dX0_fault_5 fl_X0_42 rfl (by first | exact Fa.sh hf | assumption) (by first | assumption) ?_
    refine j_goto (tgt := 24) dX0_fault_8 (by decide) ?_
    refine j_iret dX0_fault_24 ⟨_, rfl, rfl⟩ (by omega) (by omega) ?_
    exact ⟨by unfold oFault; first | rw [if_pos (show w = nI 0 from c_1)] | rw [if_neg (show ¬ w = nI 0 from c_1), if_pos c_13] | rw [if_neg (show ¬ w = nI 0 from c_1), if_neg c_13], rfl⟩
/-- x - 1 at a set bit of a whole number -/
theorem and_pred {s : Nat} (h0 : s ≠ 0) (hs : s < 256) : nI s &&& (nI s - nI 1) = nI (s &&& (s - 1)) ∧ s &&& (s - 1) < s ∧ pop (s &&& (s - 1)) + 1 = pop s := by
  have h : ∀ s, s < 256 → s ≠ 0 → s &&& (s - 1) < s ∧ pop (s &&& (s - 1)) + 1 = pop s := by decide +kernel
  exact ⟨by rw [nI_sub (by omega), nI_and], h s hs h0⟩
theorem k_bits {s : Nat} (hs : s < 256) : Kd g l 0 MX0_bits [.int (nI s)] τ (some (.int (nI (pop s)))) τ := by
  refine Kt.go (Y := MX0_bits) (ls := [some (.int (nI s)), none, none]) (by decide) (Nat.le_of_ble_eq_true rfl) rfl ?_
  have key : ∀ n, ∀ s0, s0 = n → s0 < 256 → ∀ m, m + pop s0 = pop s → Td g l 0 MX0_bits [.int (nI s)] τ (some (.int (nI (pop s)))) 4 [some (.int (nI s)), some (.int (nI m)), some (.int (nI s0))] [] τ := by
    refine loop_dn fun n ih => ?_
    intro s0 e h8 m hm
    refine j_iload_n dX0_bits_4 rfl ?_
    first | (with_reducible refine j_gB ?_; refine j_if_eqB (tgt := 20) dX0_bits_5 (by decide) (fun c_5 => ?_) (fun c_5 => ?_)) | (with_reducible refine j_gC ?_; refine j_if_eqC (tgt := 20) dX0_bits_5 (by decide) (fun c_5 => ?_) (fun c_5 => ?_)) | (with_reducible refine j_gN ?_; refine j_if_eqN (tgt := 20) dX0_bits_5 (by decide) (by omega) (fun c_5 => ?_) (fun c_5 => ?_)) | refine j_if_eq (tgt := 20) dX0_bits_5 (by decide) (fun c_5 => ?_) (fun c_5 => ?_)
    · refine j_iload_n dX0_bits_20 rfl ?_
      refine j_iret dX0_bits_21 ⟨_, rfl, rfl⟩ (by omega) (by omega) ?_
      exact ⟨by
        have : pop s0 = 0 := by rw [c_5]; exact pop_z
        rw [← hm, this, Nat.add_zero], rfl⟩
    · first | refine j_iincN dX0_bits_8 rfl (by decide) ?_ | refine j_iinc dX0_bits_8 rfl rfl (by decide) ?_
      refine j_iload_n dX0_bits_11 rfl ?_
      refine j_iload_n dX0_bits_12 rfl ?_
      refine j_iconst (v := nI 1) dX0_bits_13 (by decide +kernel) ?_
      refine j_isub dX0_bits_14 ?_
      obtain ⟨z1, z2, z3⟩ := and_pred c_5 h8
      refine j_iand dX0_bits_15 ?_
      rw [z1]
      refine j_istore_n dX0_bits_16 (by decide) ?_
      refine j_goto (tgt := 4) dX0_bits_17 (by decide) ?_
      obtain ⟨z1, z2, z3⟩ := and_pred c_5 h8
      have z4 : m + 1 + pop (s0 &&& (s0 - 1)) = pop s := by omega
      exact ih (s0 &&& (s0 - 1)) (by omega) _ rfl (by omega) (m + 1) z4
  refine j_iconst (v := nI 0) dX0_bits_0 (by decide +kernel) ?_
  refine j_istore_n dX0_bits_1 (by decide) ?_
  refine j_iload_n dX0_bits_2 rfl ?_
  refine j_istore_n dX0_bits_3 (by decide) ?_
  exact key s s rfl hs 0 (by omega)
end X6
