/-! X: ROUNDS -/
set_option maxRecDepth 100000
/-- the lowest bit -/
def lb (s : Nat) : Nat := s &&& (64 - s)
theorem lb_ok {s : Nat} (hs : s < 64) (h0 : s ≠ 0) : nI s &&& -(nI s) = nI (lb s) ∧ nI s ^^^ nI (lb s) = nI (dif s (lb s)) ∧ ∃ b, b < 6 ∧ lb s = 2 ^ b ∧ s.testBit b = true := by
  have h : ∀ s, s < 64 → s ≠ 0 → nI s &&& -(nI s) = nI (lb s) ∧ nI s ^^^ nI (lb s) = nI (dif s (lb s)) ∧ ∃ b, b < 6 ∧ lb s = 2 ^ b ∧ s.testBit b = true := by decide +kernel
  exact h s hs h0
theorem subm {r s t : Nat} (hr : r < 64) (hs : sub s r) (ht : sub t r) (h : t < s) : t ≤ (s - 1) &&& r := by
  have h0 : ∀ r, r < 64 → ∀ s, s < 64 → ∀ t, t < 64 → s &&& r = s → t &&& r = t → t < s → t ≤ (s - 1) &&& r := by
    have z : (List.range 64).all (fun r => (List.range 64).all (fun s => !(s &&& r == s) || (List.range 64).all (fun t => !(t &&& r == t) || decide (s ≤ t) || decide (t ≤ (s - 1) &&& r)))) = true := by decide +kernel
    intro r hr s hs t ht h1 h2 h3
    have z1 := List.all_eq_true.mp z r (List.mem_range.mpr hr)
    have z2 := List.all_eq_true.mp z1 s (List.mem_range.mpr hs)
    rw [beq_iff_eq.mpr h1, Bool.not_true, Bool.false_or] at z2
    have z3 := List.all_eq_true.mp z2 t (List.mem_range.mpr ht)
    rw [beq_iff_eq.mpr h2, Bool.not_true, Bool.false_or, decide_eq_false (by omega), Bool.false_or, decide_eq_true_eq] at z3
    exact z3
  have e : ∀ x, sub x r → x &&& r = x := fun x hx => by
    apply Nat.eq_of_testBit_eq
    intro i
    rw [Nat.testBit_and]
    cases q : x.testBit i with
    | false => rfl
    | true => rw [hx i q]; rfl
  have l1 := sub_le hs
  have l2 := sub_le ht
  exact h0 r hr s (by omega) t (by omega) (e s hs) (e t ht) h
theorem and_sub {a r : Nat} : sub (a &&& r) r := fun i h => by rw [Nat.testBit_and] at h; exact (Bool.and_eq_true_iff.mp h).2
theorem pop_lt2 {s t : Nat} (hs : s < 64) (ht : sub t s) (h : t < s) : pop t < pop s := by
  have h0 : ∀ s, s < 64 → ∀ t, t < 64 → t &&& s = t → t < s → pop t < pop s := by decide +kernel
  have e : t &&& s = t := by
    apply Nat.eq_of_testBit_eq
    intro i
    rw [Nat.testBit_and]
    cases q : t.testBit i with
    | false => rfl
    | true => rw [ht i q]; rfl
  exact h0 s hs t (by omega) e h
/-- what roundsOf answers -/
def rQ (ok : Nat → Bool) (s n : Nat) : Prop := n ≤ 7 ∧ (n ≤ 6 → Part ok n s) ∧ ∀ m, m ≤ 6 → Part ok m s → n ≤ m
section X12s
variable {g : Gx} {l : Launch} {σ τ : Sg} {L : Nat → Nat → Option Nat} {A B : Nat → Nat} {C S M : Nat → Int32} {N : Nat → Int64} {W P Dn Hn k p q hx : Nat}
theorem mKept_b (hw : Wx C W P Dn) (s : Int32) : ∃ m, m < 256 ∧ mKept C P s = nI m ∧ ∀ i, m.testBit i = true ↔ ∃ p, p < P ∧ hs s p = true ∧ hs (C (43 + p)) i = true ∧ i < 8 := by
  obtain ⟨⟨⟨hW, hW8⟩, ⟨hP, hP6⟩, ⟨hD, hD6⟩, hdn⟩, hWv, hPp⟩ := id hw
  have hc : ∀ p, p < P → ∃ y, y < 256 ∧ C (43 + p) = nI y := fun p hp => by
    obtain ⟨y, t, e1, e2, e3, e4, e5, e6, -⟩ := (hPp p hp).sets hW8
    exact ⟨y, e5, e1⟩
  have hf : ∀ p, p < P → (if hs s p then C (43 + p) else nI 0) = nI (if hs s p then ixn (C (43 + p)) else 0) := fun p hp => by
    obtain ⟨y, y1, y2⟩ := hc p hp
    rw [y2, ixn_nI (by omega)]
    split <;> rfl
  refine ⟨_, ?_, orTo_N P hf, fun i => ?_⟩
  · refine orN_lt (W := 8) P fun p hp => ?_
    obtain ⟨y, y1, y2⟩ := hc p hp
    rw [y2, ixn_nI (by omega)]
    split
    · exact y1
    · decide
  · rw [orN_bit]
    constructor
    · rintro ⟨p, h1, h2⟩
      obtain ⟨y, y1, y2⟩ := hc p h1
      rw [y2, ixn_nI (by omega)] at h2
      refine ⟨p, h1, ?_⟩
      split at h2
      · next z =>
        have hi : i < 8 := tb_lt (W := 8) y1 h2
        exact ⟨z, by rw [y2, hs_nI y1 (by omega)]; exact h2, hi⟩
      · rw [Nat.zero_testBit] at h2; cases h2
    · rintro ⟨p, h1, h2, h3, h4⟩
      obtain ⟨y, y1, y2⟩ := hc p h1
      refine ⟨p, h1, ?_⟩
      rw [y2, ixn_nI (by omega), if_pos h2]
      rw [y2, hs_nI y1 (by omega)] at h3
      exact h3
theorem x_wordsOf (hf : Fa σ hx B) (hg : Fq σ hx A) (hR : Pv σ L A C W P Dn Hn) (hw : Wx C W P Dn) (s : Int32) : Kd g l 1 MX0_wordsOf [.ref hx, .int s] (put σ L C) (some (.int (mKept C P s))) (put σ L C) := by
  obtain ⟨⟨⟨hW, hW8⟩, ⟨hP, hP6⟩, ⟨hD, hD6⟩, hdn⟩, hWv, hPp⟩ := id hw
  have hL := hR.inj
  refine Kt.go (Y := MX0_wordsOf) (ls := [some (.ref hx), some (.int s), none, none]) (by decide) (Nat.le_of_ble_eq_true rfl) rfl ?_
  have key : ∀ j, j ≤ P → ∀ a, a = orTo (fun p => if hs s p then C (43 + p) else nI 0) j → Td g l 1 MX0_wordsOf [.ref hx, .int s] (put σ L C) (some (.int (mKept C P s))) 4 [some (.ref hx), some (.int s), some (.int a), some (.int (nI j))] [] (put σ L C) := by
    refine loop_up fun j hj ih => ?_
    intro a ha
    refine j_iload_n dX0_wordsOf_4 rfl ?_
    first | refine j_aload_n dX0_wordsOf_5 rfl ?_ | refine j_aload_nN dX0_wordsOf_5 rfl ?_
    refine j_getR dX0_wordsOf_6 fl_X0_38 rfl (by first | exact Fa.sh hf | assumption) (by first | exact Fq.f3 hg | assumption) ?_
    refine j_getI dX0_wordsOf_9 fl_X0_152 rfl (by first | exact Pv.sh hR | assumption) (by first | exact pg (Pv.li hR 5 1 rfl (by decide)) | assumption) ?_
    rw [hP]
    first | (with_reducible refine j_gNN ?_; refine j_icmp_geN (tgt := 48) dX0_wordsOf_12 (by decide) (by omega) (by omega) (fun c_12 => ?_) (fun c_12 => ?_)) | refine j_icmp_ge (tgt := 48) dX0_wordsOf_12 (by decide) (fun c_12 => ?_) (fun c_12 => ?_)
    · refine j_iload_n dX0_wordsOf_48 rfl ?_
      refine j_iret dX0_wordsOf_49 ⟨_, rfl, rfl⟩ (by omega) (by omega) ?_
      exact ⟨by rw [ha, show j = P by omega]; rfl, rfl⟩
    · have hp := hR.pe (p := j) (by omega)
      have hq := hp
      refine j_iload_n dX0_wordsOf_15 rfl ?_
      refine j_iload_n dX0_wordsOf_16 rfl ?_
      refine j_iload_n dX0_wordsOf_17 rfl ?_
      refine j_dS1 kl_X0_279 (k_isIn _ _ _ _ j) dX0_wordsOf_18 rfl rfl (Nat.le_of_ble_eq_true rfl) (by first | decide | omega) (by omega) (by omega) ?_
      first | (with_reducible refine j_gB ?_; refine j_if_eqB (tgt := 39) dX0_wordsOf_21 (by decide) (fun c_21 => ?_) (fun c_21 => ?_)) | (with_reducible refine j_gC ?_; refine j_if_eqC (tgt := 39) dX0_wordsOf_21 (by decide) (fun c_21 => ?_) (fun c_21 => ?_)) | (with_reducible refine j_gN ?_; refine j_if_eqN (tgt := 39) dX0_wordsOf_21 (by decide) (by omega) (fun c_21 => ?_) (fun c_21 => ?_)) | refine j_if_eq (tgt := 39) dX0_wordsOf_21 (by decide) (fun c_21 => ?_) (fun c_21 => ?_)
      · refine j_iconst (v := nI 0) dX0_wordsOf_39 (by decide +kernel) ?_
        refine j_ior dX0_wordsOf_40 ?_
        refine j_istore_n dX0_wordsOf_41 (by decide) ?_
        first | refine j_iincN dX0_wordsOf_42 rfl (by decide) ?_ | refine j_iinc dX0_wordsOf_42 rfl rfl (by decide) ?_
        refine j_goto (tgt := 4) dX0_wordsOf_45 (by decide) ?_
        exact ih (by omega) _ (by rw [ha, orTo, c_21]; rfl)
      · first | refine j_aload_n dX0_wordsOf_24 rfl ?_ | refine j_aload_nN dX0_wordsOf_24 rfl ?_
        refine j_getR dX0_wordsOf_25 fl_X0_38 rfl (by first | exact Fa.sh hf | assumption) (by first | exact Fq.f3 hg | assumption) ?_
        refine j_getR dX0_wordsOf_28 fl_X0_211 rfl (by first | exact Pv.sh hR | assumption) (by first | exact Pv.r1 hR | assumption) ?_
        refine j_iload_n dX0_wordsOf_31 rfl ?_
        refine j_aald (t := 27) dX0_wordsOf_32 (fun _ => rfl) (by decide) (by first | exact Pe.sl hp | exact Pe.sa hp | exact Pe.sl hq | exact Pe.sa hq | exact Pv.sw hR | exact Pv.sp hR | exact Pv.sd hR | exact Fa.s0 hf | exact Fa.s12 hf | exact Fa.s13 hf | exact Fa.s14 hf | exact Fa.s15 hf | exact Fa.s16 hf | exact Fa.s20 hf | exact Fa.s21 hf | exact Fa.s23 hf | assumption) rfl (by omega) (by decide) (by first | exact Pv.rw hR (by omega) | exact Pv.rp hR (by omega) | exact Pv.rd hR (by omega) | exact Fa.tr hf (by omega) | assumption) ?_
        refine j_getI dX0_wordsOf_33 fl_X0_273 rfl (by first | exact Pe.sh hp | exact Pe.sh hq | assumption) (by first | exact pg (Pe.l5 hp) | exact pg (Pe.l5 hq) | assumption) ?_
        refine j_goto (tgt := 40) dX0_wordsOf_36 (by decide) ?_
        refine j_ior dX0_wordsOf_40 ?_
        refine j_istore_n dX0_wordsOf_41 (by decide) ?_
        first | refine j_iincN dX0_wordsOf_42 rfl (by decide) ?_ | refine j_iinc dX0_wordsOf_42 rfl rfl (by decide) ?_
        refine j_goto (tgt := 4) dX0_wordsOf_45 (by decide) ?_
        exact ih (by omega) _ (by rw [ha, orTo, c_21]; rfl)
  refine j_iconst (v := nI 0) dX0_wordsOf_0 (by decide +kernel) ?_
  refine j_istore_n dX0_wordsOf_1 (by decide) ?_
  refine j_iconst (v := nI 0) dX0_wordsOf_2 (by decide +kernel) ?_
  refine j_istore_n dX0_wordsOf_3 (by decide) ?_
  exact key 0 (by omega) _ rfl
theorem x_canCut (hf : Fa σ hx B) (hg : Fq σ hx A) (hR : Pv σ L A C W P Dn Hn) (hw : Wx C W P Dn) (hv : Hv C W Hn) (s : Int32) : Kd g l 2 MX0_canCut [.ref hx, .int s] (put σ L C) (some (.int (bI (mIsOne C P Hn s)))) (put σ L C) := by
  obtain ⟨⟨⟨hW, hW8⟩, ⟨hP, hP6⟩, ⟨hD, hD6⟩, hdn⟩, hWv, hPp⟩ := id hw
  obtain ⟨m, m1, m2, -⟩ := mKept_b hw s
  have e : mIsOne C P Hn s = !xHave C W Hn (mKept C P s) := by rw [mIsOne, m2, have_one hW8 hv m1]
  refine Kt.go (Y := MX0_canCut) (ls := [some (.ref hx), some (.int s)]) (by decide) (Nat.le_of_ble_eq_true rfl) rfl ?_
  first | refine j_aload_n dX0_canCut_0 rfl ?_ | refine j_aload_nN dX0_canCut_0 rfl ?_
  refine j_getR dX0_canCut_1 fl_X0_38 rfl (by first | exact Fa.sh hf | assumption) (by first | exact Fq.f3 hg | assumption) ?_
  first | refine j_aload_n dX0_canCut_4 rfl ?_ | refine j_aload_nN dX0_canCut_4 rfl ?_
  refine j_iload_n dX0_canCut_5 rfl ?_
  refine j_dV1 kl_X0_400 (x_wordsOf hf hg hR hw _) dX0_canCut_6 rfl rfl (by decide) (by first | exact Fa.sh hf | assumption) (Nat.le_of_ble_eq_true rfl) (by first | decide | omega) (by omega) (by omega) ?_
  refine j_dV1 kl_X0_403 (x_haveHalves hR hW hW8 _) dX0_canCut_9 rfl rfl (by decide) (by first | exact Pv.sh hR | assumption) (Nat.le_of_ble_eq_true rfl) (by first | decide | omega) (by omega) (by omega) ?_
  first | (with_reducible refine j_gB ?_; refine j_if_neB (tgt := 19) dX0_canCut_12 (by decide) (fun c_12 => ?_) (fun c_12 => ?_)) | (with_reducible refine j_gC ?_; refine j_if_neC (tgt := 19) dX0_canCut_12 (by decide) (fun c_12 => ?_) (fun c_12 => ?_)) | (with_reducible refine j_gN ?_; refine j_if_neN (tgt := 19) dX0_canCut_12 (by decide) (by omega) (fun c_12 => ?_) (fun c_12 => ?_)) | refine j_if_ne (tgt := 19) dX0_canCut_12 (by decide) (fun c_12 => ?_) (fun c_12 => ?_)
  · refine j_iconst (v := nI 0) dX0_canCut_19 (by decide +kernel) ?_
    refine j_iret dX0_canCut_20 ⟨_, rfl, rfl⟩ (by omega) (by omega) ?_
    exact ⟨by rw [e, c_12]; rfl, rfl⟩
  · refine j_iconst (v := nI 1) dX0_canCut_15 (by decide +kernel) ?_
    refine j_goto (tgt := 20) dX0_canCut_16 (by decide) ?_
    refine j_iret dX0_canCut_20 ⟨_, rfl, rfl⟩ (by omega) (by omega) ?_
    exact ⟨by rw [e, c_12]; rfl, rfl⟩
theorem x_roundsOf (hf : Fa σ hx B) (hg : Fq σ hx A) (hR : Pv σ L A C W P Dn Hn) (hw : Wx C W P Dn) (hv : Hv C W Hn) : ∀ f s, s < 64 → pop s ≤ f → Kt g l (3 + f) MX0_roundsOf [.ref hx, .int (nI s)] (put σ L C) 0 0 (fun r τ => (∃ n, r = some (.int (nI n)) ∧ rQ (fun t => mIsOne C P Hn (nI t)) s n) ∧ τ = put σ L C) (fun _ _ _ => False) := by
  intro f
  induction f with
  | zero =>
    intro s hs hp
    have e : s = 0 := pop_0 (by omega) (by omega)
    subst e
    refine Kt.go (Y := MX0_roundsOf) (ls := [some (.ref hx), some (.int (nI 0)), none, none, none, none]) (by decide) (Nat.le_of_ble_eq_true rfl) rfl ?_
    refine j_iload_n dX0_roundsOf_0 rfl ?_
    first | (with_reducible refine j_gB ?_; refine j_if_neB (tgt := 6) dX0_roundsOf_1 (by decide) (fun c_1 => ?_) (fun c_1 => ?_)) | (with_reducible refine j_gC ?_; refine j_if_neC (tgt := 6) dX0_roundsOf_1 (by decide) (fun c_1 => ?_) (fun c_1 => ?_)) | (with_reducible refine j_gN ?_; refine j_if_neN (tgt := 6) dX0_roundsOf_1 (by decide) (by omega) (fun c_1 => ?_) (fun c_1 => ?_)) | refine j_if_ne (tgt := 6) dX0_roundsOf_1 (by decide) (fun c_1 => ?_) (fun c_1 => ?_)
    · exact absurd rfl c_1
    · refine j_iconst (v := nI 0) dX0_roundsOf_4 (by decide +kernel) ?_
      refine j_iret dX0_roundsOf_5 ⟨_, rfl, rfl⟩ (by omega) (by omega) ?_
      exact ⟨⟨0, rfl, by omega, fun _ => rfl, fun m _ _ => by omega⟩, rfl⟩
  | succ f ih =>
    intro s hs hp
    by_cases h0 : s = 0
    · subst h0
      refine Kt.go (Y := MX0_roundsOf) (ls := [some (.ref hx), some (.int (nI 0)), none, none, none, none]) (by decide) (Nat.le_of_ble_eq_true rfl) rfl ?_
      refine j_iload_n dX0_roundsOf_0 rfl ?_
      first | (with_reducible refine j_gB ?_; refine j_if_neB (tgt := 6) dX0_roundsOf_1 (by decide) (fun c_1 => ?_) (fun c_1 => ?_)) | (with_reducible refine j_gC ?_; refine j_if_neC (tgt := 6) dX0_roundsOf_1 (by decide) (fun c_1 => ?_) (fun c_1 => ?_)) | (with_reducible refine j_gN ?_; refine j_if_neN (tgt := 6) dX0_roundsOf_1 (by decide) (by omega) (fun c_1 => ?_) (fun c_1 => ?_)) | refine j_if_ne (tgt := 6) dX0_roundsOf_1 (by decide) (fun c_1 => ?_) (fun c_1 => ?_)
      · exact absurd rfl c_1
      · refine j_iconst (v := nI 0) dX0_roundsOf_4 (by decide +kernel) ?_
        refine j_iret dX0_roundsOf_5 ⟨_, rfl, rfl⟩ (by omega) (by omega) ?_
        exact ⟨⟨0, rfl, by omega, fun _ => rfl, fun m _ _ => by omega⟩, rfl⟩
    · obtain ⟨l1, l2, b, b1, b2, b3⟩ := lb_ok hs h0
      generalize hrs : dif s (lb s) = rs at l2
      have hrs64 : rs < 64 := by rw [← hrs]; exact Nat.lt_of_le_of_lt (dif_le _ _) hs
      have hsub : sub rs s := by rw [← hrs]; exact dif_sub
      have hlbs : sub (lb s) s := fun i hi => by
        rw [b2, Nat.testBit_two_pow, decide_eq_true_eq] at hi
        rw [← hi]; exact b3
      have hlb0 : lb s ≠ 0 := by rw [b2]; exact Nat.ne_of_gt (Nat.two_pow_pos b)
      have hlt : rs < s := by rw [← hrs]; exact dif_lt hlbs hlb0
      have hrb : rs.testBit b = false := by rw [← hrs, dif_bit, b2, Nat.testBit_two_pow_self, Bool.not_true, Bool.and_false]
      have hun : ∀ t, sub t rs → sub (t ||| lb s) s ∧ dif s (t ||| lb s) = dif rs t ∧ t ||| lb s < 64 := fun t ht => by
        have z : sub (t ||| lb s) s := fun i hi => by
          rw [Nat.testBit_or, Bool.or_eq_true] at hi
          exact hi.elim (fun q => hsub i (ht i q)) (hlbs i)
        refine ⟨z, ?_, Nat.lt_of_le_of_lt (sub_le z) hs⟩
        apply Nat.eq_of_testBit_eq
        intro i
        rw [dif_bit, dif_bit, ← hrs, dif_bit, Nat.testBit_or]
        cases s.testBit i <;> cases t.testBit i <;> cases (lb s).testBit i <;> rfl
      have ok := fun t => mIsOne C P Hn (nI t)
      refine Kt.go (Y := MX0_roundsOf) (ls := [some (.ref hx), some (.int (nI s)), none, none, none, none]) (by decide) (Nat.le_of_ble_eq_true rfl) rfl ?_
      have key : ∀ x, ∀ t, t = x → sub t rs → ∀ n, n ≤ 7 → (n ≤ 6 → Part (fun t => mIsOne C P Hn (nI t)) n s) → (∀ t', sub t' rs → t < t' → mIsOne C P Hn (nI (t' ||| lb s)) = true → ∀ k, k + 1 ≤ 6 → Part (fun t => mIsOne C P Hn (nI t)) k (dif rs t') → n ≤ k + 1) → Tj g l (3 + (f + 1)) MX0_roundsOf [.ref hx, .int (nI s)] 0 0 (fun r τ => (∃ n, r = some (.int (nI n)) ∧ rQ (fun t => mIsOne C P Hn (nI t)) s n) ∧ τ = put σ L C) (fun _ _ _ => False) 0 0 22 [some (.ref hx), some (.int (nI s)), some (.int (nI (lb s))), some (.int (nI rs)), some (.int (nI n)), some (.int (nI t))] [] (put σ L C) := by
        refine loop_dn fun x ihx => ?_
        intro t htx ht n hn7 hn6 hmin
        have htr := sub_le ht
        obtain ⟨u1, u2, u3⟩ := hun t ht
        have fin : ∀ n', n' ≤ 7 → (n' ≤ 6 → Part (fun t => mIsOne C P Hn (nI t)) n' s) → (∀ t', sub t' rs → t ≤ t' → mIsOne C P Hn (nI (t' ||| lb s)) = true → ∀ k, k + 1 ≤ 6 → Part (fun t => mIsOne C P Hn (nI t)) k (dif rs t') → n' ≤ k + 1) → Tj g l (3 + (f + 1)) MX0_roundsOf [.ref hx, .int (nI s)] 0 0 (fun r τ => (∃ n, r = some (.int (nI n)) ∧ rQ (fun t => mIsOne C P Hn (nI t)) s n) ∧ τ = put σ L C) (fun _ _ _ => False) 0 0 52 [some (.ref hx), some (.int (nI s)), some (.int (nI (lb s))), some (.int (nI rs)), some (.int (nI n')), some (.int (nI t))] [] (put σ L C) := by
          intro n' a1 a2 a3
          refine j_iload dX0_roundsOf_52 rfl ?_
          first | (with_reducible refine j_gB ?_; refine j_if_neB (tgt := 60) dX0_roundsOf_54 (by decide) (fun c_54 => ?_) (fun c_54 => ?_)) | (with_reducible refine j_gC ?_; refine j_if_neC (tgt := 60) dX0_roundsOf_54 (by decide) (fun c_54 => ?_) (fun c_54 => ?_)) | (with_reducible refine j_gN ?_; refine j_if_neN (tgt := 60) dX0_roundsOf_54 (by decide) (by omega) (fun c_54 => ?_) (fun c_54 => ?_)) | refine j_if_ne (tgt := 60) dX0_roundsOf_54 (by decide) (fun c_54 => ?_) (fun c_54 => ?_)
          · refine j_iload dX0_roundsOf_60 rfl ?_
            refine j_iconst (v := nI 1) dX0_roundsOf_62 (by decide +kernel) ?_
            refine j_isub dX0_roundsOf_63 ?_
            rw [nI_sub (show 1 ≤ t by omega)]
            refine j_iload_n dX0_roundsOf_64 rfl ?_
            refine j_iand dX0_roundsOf_65 ?_
            rw [nI_and]
            refine j_istore dX0_roundsOf_66 (by decide) ?_
            refine j_goto (tgt := 22) dX0_roundsOf_68 (by decide) ?_
            refine ihx _ (by have := Nat.and_le_left (n := t - 1) (m := rs); omega) _ rfl and_sub n' a1 a2 (fun t' q1 q2 q3 k q4 q5 => a3 t' q1 ?_ q3 k q4 q5)
            refine Nat.not_lt.mp fun q6 => ?_
            have := subm hrs64 ht q1 q6
            omega
          · refine j_iload dX0_roundsOf_57 rfl ?_
            refine j_iret dX0_roundsOf_59 ⟨_, rfl, rfl⟩ (by omega) (by omega) ?_
            refine ⟨⟨n', rfl, a1, a2, fun m hm hpm => ?_⟩, rfl⟩
            cases m with
            | zero => exact absurd hpm h0
            | succ k =>
              obtain ⟨r, r1, r2, r3, r4⟩ := Part.swap k s b b3 hpm
              have e1 : sub (dif r (lb s)) rs := fun i hi => by
                rw [← hrs, dif_bit]
                rw [dif_bit, Bool.and_eq_true] at hi
                rw [r2 i hi.1, hi.2]; rfl
              have e2 : dif r (lb s) ||| lb s = r := by
                apply Nat.eq_of_testBit_eq
                intro i
                rw [Nat.testBit_or, dif_bit]
                cases z : (lb s).testBit i with
                | false => simp
                | true =>
                  rw [b2, Nat.testBit_two_pow, decide_eq_true_eq] at z
                  rw [← z, r1]; rfl
              have e3 := (hun _ e1).2.1
              rw [e2] at e3
              exact a3 _ e1 (by omega) (by rw [e2]; exact r3) k hm (by rw [← e3]; exact r4)
        have hpl : pop (dif rs t) ≤ f := by
          have := pop_lt2 hs (t := dif rs t) (fun i hi => hsub i (dif_sub i hi)) (Nat.lt_of_le_of_lt (dif_le _ _) hlt)
          omega
        first | refine j_aload_n dX0_roundsOf_22 rfl ?_ | refine j_aload_nN dX0_roundsOf_22 rfl ?_
        refine j_iload dX0_roundsOf_23 rfl ?_
        refine j_iload_n dX0_roundsOf_25 rfl ?_
        refine j_ior dX0_roundsOf_26 ?_
        rw [nI_or]
        refine j_dV1 kl_X0_406 (x_canCut hf hg hR hw hv _) dX0_roundsOf_27 rfl rfl (by decide) (by first | exact Fa.sh hf | assumption) (Nat.le_of_ble_eq_true rfl) (by first | decide | omega) (by omega) (by omega) ?_
        first | (with_reducible refine j_gB ?_; refine j_if_eqB (tgt := 52) dX0_roundsOf_30 (by decide) (fun c_30 => ?_) (fun c_30 => ?_)) | (with_reducible refine j_gC ?_; refine j_if_eqC (tgt := 52) dX0_roundsOf_30 (by decide) (fun c_30 => ?_) (fun c_30 => ?_)) | (with_reducible refine j_gN ?_; refine j_if_eqN (tgt := 52) dX0_roundsOf_30 (by decide) (by omega) (fun c_30 => ?_) (fun c_30 => ?_)) | refine j_if_eq (tgt := 52) dX0_roundsOf_30 (by decide) (fun c_30 => ?_) (fun c_30 => ?_)
        · first
          | exact fin n hn7 hn6 (fun t' q1 q2 q3 k q4 q5 => by
              by_cases e : t = t'
              · subst e; rw [q3] at c_30; cases c_30
              · exact hmin t' q1 (by omega) q3 k q4 q5)
          | (refine fin (min n (1 + n2)) (by omega) (fun hm => ?_) (fun t' q1 q2 q3 k q4 q5 => ?_)
             · by_cases e : n ≤ 1 + n2
               · rw [Nat.min_eq_left e] at hm ⊢; exact hn6 hm
               · rw [Nat.min_eq_right (by omega)] at hm ⊢
                 rw [Nat.add_comm]
                 refine ⟨t ||| lb s, ?_, u1, c_30, by rw [u2]; exact r2 (by omega)⟩
                 intro z
                 have := congrArg (fun y => y.testBit b) z
                 simp only [Nat.testBit_or, b2, Nat.testBit_two_pow_self, Bool.or_true, Nat.zero_testBit] at this
                 cases this
             · by_cases e : t = t'
               · subst e
                 have := r3 k (by omega) q5
                 omega
               · have := hmin t' q1 (by omega) q3 k q4 q5
                 omega)
        · refine j_iload dX0_roundsOf_33 rfl ?_
          refine j_iconst (v := nI 1) dX0_roundsOf_35 (by decide +kernel) ?_
          first | refine j_aload_n dX0_roundsOf_36 rfl ?_ | refine j_aload_nN dX0_roundsOf_36 rfl ?_
          refine j_iload_n dX0_roundsOf_37 rfl ?_
          refine j_iload dX0_roundsOf_38 rfl ?_
          refine j_iconst (v := -1) dX0_roundsOf_40 (by decide +kernel) ?_
          refine j_ixor dX0_roundsOf_41 ?_
          refine j_iand dX0_roundsOf_42 ?_
          rw [nI_dif]
          refine j_callV kl_X0_409 (ih (dif rs t) (Nat.lt_of_le_of_lt (dif_le _ _) hrs64) hpl) dX0_roundsOf_43 rfl rfl (by decide) (by first | exact Fa.sh hf | assumption) (Nat.le_of_ble_eq_true rfl) (by first | decide | omega) (by omega) (by omega) (fun v τ hq => ?_) (fun _ _ _ hq => hq.elim)
          obtain ⟨⟨n2, rfl, r1, r2, r3⟩, rfl⟩ := hq
          refine j_eq (st' := [.int (nI n2), .int (nI 1), .int (nI n)]) rfl rfl rfl ?_
          first | (with_reducible refine j_gNN ?_; refine j_iaddN dX0_roundsOf_46 ?_) | refine j_iadd dX0_roundsOf_46 ?_
          refine j_min dX0_roundsOf_47 q1435 q783 q194 q784 (Nat.le_of_ble_eq_true rfl) (by omega) (by omega) ?_
          rw [mn_nI (by omega) (by omega)]
          refine j_istore dX0_roundsOf_50 (by decide) ?_
          first
          | exact fin n hn7 hn6 (fun t' q1 q2 q3 k q4 q5 => by
              by_cases e : t = t'
              · subst e; rw [q3] at c_30; cases c_30
              · exact hmin t' q1 (by omega) q3 k q4 q5)
          | (refine fin (min n (1 + n2)) (by omega) (fun hm => ?_) (fun t' q1 q2 q3 k q4 q5 => ?_)
             · by_cases e : n ≤ 1 + n2
               · rw [Nat.min_eq_left e] at hm ⊢; exact hn6 hm
               · rw [Nat.min_eq_right (by omega)] at hm ⊢
                 rw [Nat.add_comm]
                 refine ⟨t ||| lb s, ?_, u1, c_30, by rw [u2]; exact r2 (by omega)⟩
                 intro z
                 have := congrArg (fun y => y.testBit b) z
                 simp only [Nat.testBit_or, b2, Nat.testBit_two_pow_self, Bool.or_true, Nat.zero_testBit] at this
                 cases this
             · by_cases e : t = t'
               · subst e
                 have := r3 k (by omega) q5
                 omega
               · have := hmin t' q1 (by omega) q3 k q4 q5
                 omega)
      refine j_iload_n dX0_roundsOf_0 rfl ?_
      first | (with_reducible refine j_gB ?_; refine j_if_neB (tgt := 6) dX0_roundsOf_1 (by decide) (fun c_1 => ?_) (fun c_1 => ?_)) | (with_reducible refine j_gC ?_; refine j_if_neC (tgt := 6) dX0_roundsOf_1 (by decide) (fun c_1 => ?_) (fun c_1 => ?_)) | (with_reducible refine j_gN ?_; refine j_if_neN (tgt := 6) dX0_roundsOf_1 (by decide) (by omega) (fun c_1 => ?_) (fun c_1 => ?_)) | refine j_if_ne (tgt := 6) dX0_roundsOf_1 (by decide) (fun c_1 => ?_) (fun c_1 => ?_)
      · refine j_iload_n dX0_roundsOf_6 rfl ?_
        refine j_iload_n dX0_roundsOf_7 rfl ?_
        refine j_ineg dX0_roundsOf_8 ?_
        refine j_iand dX0_roundsOf_9 ?_
        rw [l1]
        refine j_istore_n dX0_roundsOf_10 (by decide) ?_
        refine j_iload_n dX0_roundsOf_11 rfl ?_
        refine j_iload_n dX0_roundsOf_12 rfl ?_
        refine j_ixor dX0_roundsOf_13 ?_
        rw [l2]
        refine j_istore_n dX0_roundsOf_14 (by decide) ?_
        refine j_bipush (v := nI 7) dX0_roundsOf_15 (by decide +kernel) ?_
        refine j_istore dX0_roundsOf_17 (by decide) ?_
        refine j_iload_n dX0_roundsOf_19 rfl ?_
        refine j_istore dX0_roundsOf_20 (by decide) ?_
        exact key rs rs rfl (fun i hi => hi) 7 (by omega) (fun q => by omega) (fun t' q1 q2 => by have := sub_le q1; omega)
      · exact absurd c_1 h0
theorem q_round (hf : Fa σ hx B) (hg : Fq σ hx A) (hR : Pv σ L A C W P Dn Hn) (hw : Wx C W P Dn) (hv : Hv C W Hn) (R : Nat → Int32) (s : Int32) : Kd g l 10 MX0_round [.ref hx, .int s] (put σ L C) (some (.int (oRound C P Hn R s).1)) (put (xS σ hx (oRound C P Hn R s).2) L C) := by
  obtain ⟨⟨⟨hW, hW8⟩, ⟨hP, hP6⟩, ⟨hD, hD6⟩, hdn⟩, hWv, hPp⟩ := id hw
  have hn := hR.nf hf
  by_cases es : okN s (2 ^ P) = true
  · obtain ⟨n, hn2, rfl⟩ := okN_nI es
    have hP2 : 2 ^ P ≤ 64 := pw_le (n := 6) hP6
    have en : ixn (nI n) = n := ixn_nI (by omega)
    have hb := rAll_b (C := C) (P := P) (Hn := Hn) (R := R) n (by omega) n (Nat.le_refl _)
    have mono : ∀ t k, t < 64 → t.testBit k = true → mIsOne C P Hn (nI t) = true → mIsOne C P Hn (nI (2 ^ k)) = true := by
      intro t k ht hk ho
      have hk6 : k < 6 := tb_lt (W := 6) ht hk
      obtain ⟨a, a1, a2, a3⟩ := mKept_b hw (nI t)
      obtain ⟨c, c1, c2, c3⟩ := mKept_b hw (nI (2 ^ k))
      have hsub : ∀ i, c.testBit i = true → a.testBit i = true := fun i hi => by
        obtain ⟨p, p1, p2, p3, p4⟩ := (c3 i).mp hi
        refine (a3 i).mpr ⟨p, p1, ?_, p3, p4⟩
        have h2 : 2 ^ k < 2 ^ 8 := Nat.pow_lt_pow_right (by decide) (by omega)
        rw [hs_nI h2 (by omega), Nat.testBit_two_pow, decide_eq_true_eq] at p2
        rw [hs_nI (by omega) (by omega), ← p2]; exact hk
      unfold mIsOne at ho ⊢
      rw [allB_iff] at ho ⊢
      intro i hi
      have h1 := ho i hi
      obtain ⟨x, y, e1, e2, e3, e4, e5⟩ := hv.2.2 i hi
      unfold mOneF at h1 ⊢
      rw [e1, e3, a2, hsI_nI, hsI_nI, hs_nI a1 (by omega), hs_nI a1 (by omega)] at h1
      rw [e1, e3, c2, hsI_nI, hsI_nI, hs_nI c1 (by omega), hs_nI c1 (by omega)]
      cases z1 : c.testBit x with
      | false => rfl
      | true =>
        cases z2 : c.testBit y with
        | false => rfl
        | true => rw [hsub x z1, hsub y z2] at h1; cases h1
    have bad : (∃ k, n.testBit k = true ∧ mIsOne C P Hn (nI (2 ^ k)) = false) → oRound C P Hn R (nI n) = (-1, nI 8) := by
      rintro ⟨k, k1, k2⟩
      have none' : ∀ m, ¬ Part (fun t => mIsOne C P Hn (nI t)) m n := by
        intro m hm
        cases m with
        | zero =>
          have : n = 0 := hm
          rw [this, Nat.zero_testBit] at k1; cases k1
        | succ m =>
          obtain ⟨t, t1, t2, t3, -⟩ := Part.swap m n k k1 hm
          have := mono t k (Nat.lt_of_le_of_lt (sub_le t2) (by omega)) t1 t3
          rw [k2] at this; cases this
      rcases hb with ⟨b1, -⟩ | ⟨m, -, -, b3, -⟩
      · unfold oRound
        rw [if_pos es, en, b1, if_pos m1_lt]
      · exact absurd b3 (none' m)
    have good : (∀ k, n.testBit k = true → mIsOne C P Hn (nI (2 ^ k)) = true) → ∀ m, rQ (fun t => mIsOne C P Hn (nI t)) n m → oRound C P Hn R (nI n) = (nI m, nI 0) := by
      intro hk m ⟨m1, m2, m3⟩
      have ex : ∀ f s, sub s n → pop s ≤ f → f ≤ 6 → ∃ c, c ≤ f ∧ Part (fun t => mIsOne C P Hn (nI t)) c s := by
        intro f
        induction f with
        | zero =>
          intro s hsn hp _
          have hsle := sub_le hsn
          exact ⟨0, by omega, pop_0 (by omega) (by omega)⟩
        | succ f ih =>
          intro s hsn hp hf6
          have hsle := sub_le hsn
          by_cases z : s = 0
          · exact ⟨0, by omega, z⟩
          · obtain ⟨i, hi⟩ := nz_bit z
            have hi6 : i < 6 := tb_lt (W := 6) (show s < 2 ^ 6 by omega) hi
            have h2 : sub (2 ^ i) s := fun j hj => by
              rw [Nat.testBit_two_pow, decide_eq_true_eq] at hj
              rw [← hj]; exact hi
            have h3 : 2 ^ i ≠ 0 := Nat.ne_of_gt (Nat.two_pow_pos i)
            have h4 := pop_lt (s := s) (k := i) (by omega) (by omega) hi
            obtain ⟨c, c1, c2⟩ := ih (dif s (2 ^ i)) (fun j hj => hsn j (dif_sub j hj)) (by omega) (by omega)
            exact ⟨c + 1, by omega, 2 ^ i, h3, h2, hk i (hsn i hi), c2⟩
      obtain ⟨c, c1, c2⟩ := ex 6 n (fun i hi => hi) (pop_6 (by omega)) (by omega)
      have hm6 := m3 c (by omega) c2
      have hP' := m2 (by omega)
      rcases hb with ⟨-, b2⟩ | ⟨r, r0, r1, r2, r3⟩
      · exact absurd hP' (b2 m)
      · have e1 := r3 m hP'
        have e2 := m3 r (by omega) r2
        have : r = m := by omega
        subst this
        unfold oRound
        rw [if_pos es, en, r1, if_neg (nI_pos (by omega))]
    refine Kt.go (Y := MX0_round) (ls := [some (.ref hx), some (.int (nI n)), none]) (by decide) (Nat.le_of_ble_eq_true rfl) rfl ?_
    have key : ∀ j, j ≤ P → (∀ k, k < j → n.testBit k = true → mIsOne C P Hn (nI (2 ^ k)) = true) → Td g l 10 MX0_round [.ref hx, .int (nI n)] (put (xS σ hx (oRound C P Hn R (nI n)).2) L C) (some (.int (oRound C P Hn R (nI n)).1)) 17 [some (.ref hx), some (.int (nI n)), some (.int (nI j))] [] (put σ L C) := by
      refine loop_up fun j hj ih => ?_
      intro hk
      have hbt : j < P → hs (nI n) j = n.testBit j := fun q => hs_nI (by omega) (by omega)
      have hbt2 : j < P → nI 1 <<< (nI j &&& 31) = nI (2 ^ j) := fun q => bt_nI (by omega)
      refine j_iload_n dX0_round_17 rfl ?_
      first | refine j_aload_n dX0_round_18 rfl ?_ | refine j_aload_nN dX0_round_18 rfl ?_
      refine j_getR dX0_round_19 fl_X0_38 rfl (by first | exact Fa.sh hf | assumption) (by first | exact Fq.f3 hg | assumption) ?_
      refine j_getI dX0_round_22 fl_X0_152 rfl (by first | exact Pv.sh hR | assumption) (by first | exact pg (Pv.li hR 5 1 rfl (by decide)) | assumption) ?_
      rw [hP]
      first | (with_reducible refine j_gNN ?_; refine j_icmp_geN (tgt := 59) dX0_round_25 (by decide) (by omega) (by omega) (fun c_25 => ?_) (fun c_25 => ?_)) | refine j_icmp_ge (tgt := 59) dX0_round_25 (by decide) (fun c_25 => ?_) (fun c_25 => ?_)
      · first | refine j_aload_n dX0_round_59 rfl ?_ | refine j_aload_nN dX0_round_59 rfl ?_
        first | refine j_aload_n dX0_round_60 rfl ?_ | refine j_aload_nN dX0_round_60 rfl ?_
        refine j_iload_n dX0_round_61 rfl ?_
        refine j_callV kl_X0_409 (x_roundsOf hf hg hR hw hv 6 n (by omega) (pop_6 (by omega))) dX0_round_62 rfl rfl (by decide) (by first | exact Fa.sh hf | assumption) (Nat.le_of_ble_eq_true rfl) (by first | decide | omega) (by omega) (by omega) (fun v τ hq => ?_) (fun _ _ _ hq => hq.elim)
        obtain ⟨⟨m, rfl, hm⟩, rfl⟩ := hq
        refine j_eq (st' := [.int (nI m), .ref hx]) rfl rfl rfl ?_
        refine j_dV1 kl_X0_102 (x_gives (Fa.sh hf) _) dX0_round_65 rfl rfl (by decide) (by first | exact Fa.sh hf | assumption) (Nat.le_of_ble_eq_true rfl) (by first | decide | omega) (by omega) (by omega) ?_
        refine j_iret dX0_round_68 ⟨_, rfl, rfl⟩ (by omega) (by omega) ?_
        exact pxR hn (good (fun k hk2 => hk k (by have := tb_lt (W := P) hn2 hk2; omega) hk2) m hm)
      · refine j_iload_n dX0_round_28 rfl ?_
        refine j_iload_n dX0_round_29 rfl ?_
        refine j_dS1 kl_X0_279 (k_isIn _ _ _ _ j) dX0_round_30 rfl rfl (Nat.le_of_ble_eq_true rfl) (by first | decide | omega) (by omega) (by omega) ?_
        rw [hbt (by omega)]
        first | (with_reducible refine j_gB ?_; refine j_if_eqB (tgt := 53) dX0_round_33 (by decide) (fun c_33 => ?_) (fun c_33 => ?_)) | (with_reducible refine j_gC ?_; refine j_if_eqC (tgt := 53) dX0_round_33 (by decide) (fun c_33 => ?_) (fun c_33 => ?_)) | (with_reducible refine j_gN ?_; refine j_if_eqN (tgt := 53) dX0_round_33 (by decide) (by omega) (fun c_33 => ?_) (fun c_33 => ?_)) | refine j_if_eq (tgt := 53) dX0_round_33 (by decide) (fun c_33 => ?_) (fun c_33 => ?_)
        · first | refine j_iincN dX0_round_53 rfl (by decide) ?_ | refine j_iinc dX0_round_53 rfl rfl (by decide) ?_
          refine j_goto (tgt := 17) dX0_round_56 (by decide) ?_
          exact ih (by omega) (fun k k1 k2 => by
            by_cases e : k = j
            · subst e
              first
              | exact c_43
              | (rw [k2] at c_33; cases c_33)
            · exact hk k (by omega) k2)
        · first | refine j_aload_n dX0_round_36 rfl ?_ | refine j_aload_nN dX0_round_36 rfl ?_
          refine j_iconst (v := nI 1) dX0_round_37 (by decide +kernel) ?_
          refine j_iload_n dX0_round_38 rfl ?_
          refine j_ishl dX0_round_39 ?_
          rw [hbt2 (by omega)]
          refine j_dV1 kl_X0_406 (x_canCut hf hg hR hw hv _) dX0_round_40 rfl rfl (by decide) (by first | exact Fa.sh hf | assumption) (Nat.le_of_ble_eq_true rfl) (by first | decide | omega) (by omega) (by omega) ?_
          first | (with_reducible refine j_gB ?_; refine j_if_neB (tgt := 53) dX0_round_43 (by decide) (fun c_43 => ?_) (fun c_43 => ?_)) | (with_reducible refine j_gC ?_; refine j_if_neC (tgt := 53) dX0_round_43 (by decide) (fun c_43 => ?_) (fun c_43 => ?_)) | (with_reducible refine j_gN ?_; refine j_if_neN (tgt := 53) dX0_round_43 (by decide) (by omega) (fun c_43 => ?_) (fun c_43 => ?_)) | refine j_if_ne (tgt := 53) dX0_round_43 (by decide) (fun c_43 => ?_) (fun c_43 => ?_)
          · first | refine j_iincN dX0_round_53 rfl (by decide) ?_ | refine j_iinc dX0_round_53 rfl rfl (by decide) ?_
            refine j_goto (tgt := 17) dX0_round_56 (by decide) ?_
            exact ih (by omega) (fun k k1 k2 => by
              by_cases e : k = j
              · subst e
                first
                | exact c_43
                | (rw [k2] at c_33; cases c_33)
              · exact hk k (by omega) k2)
          · first | refine j_aload_n dX0_round_46 rfl ?_ | refine j_aload_nN dX0_round_46 rfl ?_
            refine j_bipush (v := nI 8) dX0_round_47 (by decide +kernel) ?_
            refine j_dV1 kl_X0_98 (x_none (Fa.sh hf) _) dX0_round_49 rfl rfl (by decide) (by first | exact Fa.sh hf | assumption) (Nat.le_of_ble_eq_true rfl) (by first | decide | omega) (by omega) (by omega) ?_
            refine j_iret dX0_round_52 ⟨_, rfl, rfl⟩ (by omega) (by omega) ?_
            exact pxR hn (bad ⟨j, c_33, c_43⟩)
    first | refine j_aload_n dX0_round_0 rfl ?_ | refine j_aload_nN dX0_round_0 rfl ?_
    refine j_iload_n dX0_round_1 rfl ?_
    refine j_i2l dX0_round_2 ?_
    refine j_dV1 kl_X0_417 (x_arePeople hf hg hR hP hP6 _) dX0_round_3 rfl rfl (by decide) (by first | exact Fa.sh hf | assumption) (Nat.le_of_ble_eq_true rfl) (by first | decide | omega) (by omega) (by omega) ?_
    first | (with_reducible refine j_gB ?_; refine j_if_neB (tgt := 15) dX0_round_6 (by decide) (fun c_6 => ?_) (fun c_6 => ?_)) | (with_reducible refine j_gC ?_; refine j_if_neC (tgt := 15) dX0_round_6 (by decide) (fun c_6 => ?_) (fun c_6 => ?_)) | (with_reducible refine j_gN ?_; refine j_if_neN (tgt := 15) dX0_round_6 (by decide) (by omega) (fun c_6 => ?_) (fun c_6 => ?_)) | refine j_if_ne (tgt := 15) dX0_round_6 (by decide) (fun c_6 => ?_) (fun c_6 => ?_)
    · refine j_iconst (v := nI 0) dX0_round_15 (by decide +kernel) ?_
      refine j_istore_n dX0_round_16 (by decide) ?_
      exact key 0 (by omega) (fun k hk => by omega)
    · rw [es] at c_6; cases c_6
  · skip
    refine Kt.go (Y := MX0_round) (ls := [some (.ref hx), some (.int s), none]) (by decide) (Nat.le_of_ble_eq_true rfl) rfl ?_
    first | refine j_aload_n dX0_round_0 rfl ?_ | refine j_aload_nN dX0_round_0 rfl ?_
    refine j_iload_n dX0_round_1 rfl ?_
    refine j_i2l dX0_round_2 ?_
    refine j_dV1 kl_X0_417 (x_arePeople hf hg hR hP hP6 _) dX0_round_3 rfl rfl (by decide) (by first | exact Fa.sh hf | assumption) (Nat.le_of_ble_eq_true rfl) (by first | decide | omega) (by omega) (by omega) ?_
    first | (with_reducible refine j_gB ?_; refine j_if_neB (tgt := 15) dX0_round_6 (by decide) (fun c_6 => ?_) (fun c_6 => ?_)) | (with_reducible refine j_gC ?_; refine j_if_neC (tgt := 15) dX0_round_6 (by decide) (fun c_6 => ?_) (fun c_6 => ?_)) | (with_reducible refine j_gN ?_; refine j_if_neN (tgt := 15) dX0_round_6 (by decide) (by omega) (fun c_6 => ?_) (fun c_6 => ?_)) | refine j_if_ne (tgt := 15) dX0_round_6 (by decide) (fun c_6 => ?_) (fun c_6 => ?_)
    · exact absurd c_6 es
    · first | refine j_aload_n dX0_round_9 rfl ?_ | refine j_aload_nN dX0_round_9 rfl ?_
      refine j_iconst (v := nI 5) dX0_round_10 (by decide +kernel) ?_
      refine j_dV1 kl_X0_98 (x_none (Fa.sh hf) _) dX0_round_11 rfl rfl (by decide) (by first | exact Fa.sh hf | assumption) (Nat.le_of_ble_eq_true rfl) (by first | decide | omega) (by omega) (by omega) ?_
      refine j_iret dX0_round_14 ⟨_, rfl, rfl⟩ (by omega) (by omega) ?_
      exact pxR hn (by unfold oRound; rw [if_neg es])
theorem q_oneRound (hf : Fa σ hx B) (hg : Fq σ hx A) (hR : Pv σ L A C W P Dn Hn) (hw : Wx C W P Dn) (hv : Hv C W Hn) : Kd g l 5 MX0_oneRound [.ref hx] (put σ L C) (some (.int (itr (oneF C P Hn) (2 ^ P - 1) (nI 0)))) (put (xS σ hx (nI 0)) L C) := by
  obtain ⟨⟨⟨hW, hW8⟩, ⟨hP, hP6⟩, ⟨hD, hD6⟩, hdn⟩, hWv, hPp⟩ := id hw
  have hn := hR.nf hf
  have hP2 : 2 ^ P ≤ 64 := pw_le (n := 6) hP6
  have h1p := @pw_pos P
  have eP : nI 1 <<< (nI P &&& 31) = nI (2 ^ P) := bt_nI (by omega)
  refine Kt.go (Y := MX0_oneRound) (ls := [some (.ref hx), none, none]) (by decide) (Nat.le_of_ble_eq_true rfl) rfl ?_
  have key : ∀ j, j ≤ 2 ^ P - 1 → ∀ b, b < 64 → nI b = itr (oneF C P Hn) j (nI 0) → Td g l 5 MX0_oneRound [.ref hx] (put (xS σ hx (nI 0)) L C) (some (.int (itr (oneF C P Hn) (2 ^ P - 1) (nI 0)))) 4 [some (.ref hx), some (.int (nI b)), some (.int (nI (j + 1)))] [] (put σ L C) := by
    refine loop_up fun j hj ih => ?_
    intro b hb ha
    have hst : itr (oneF C P Hn) (j + 1) (nI 0) = oneF C P Hn j (nI b) := by rw [itr, ← ha]
    have hpl : ∀ x, pop x ≤ 8 := fun x => pop_le
    refine j_iload_n dX0_oneRound_4 rfl ?_
    refine j_iconst (v := nI 1) dX0_oneRound_5 (by decide +kernel) ?_
    first | refine j_aload_n dX0_oneRound_6 rfl ?_ | refine j_aload_nN dX0_oneRound_6 rfl ?_
    refine j_getR dX0_oneRound_7 fl_X0_38 rfl (by first | exact Fa.sh hf | assumption) (by first | exact Fq.f3 hg | assumption) ?_
    refine j_getI dX0_oneRound_10 fl_X0_152 rfl (by first | exact Pv.sh hR | assumption) (by first | exact pg (Pv.li hR 5 1 rfl (by decide)) | assumption) ?_
    rw [hP]
    refine j_ishl dX0_oneRound_13 ?_
    rw [eP]
    first | (with_reducible refine j_gNN ?_; refine j_icmp_geN (tgt := 44) dX0_oneRound_14 (by decide) (by omega) (by omega) (fun c_14 => ?_) (fun c_14 => ?_)) | refine j_icmp_ge (tgt := 44) dX0_oneRound_14 (by decide) (fun c_14 => ?_) (fun c_14 => ?_)
    · first | refine j_aload_n dX0_oneRound_44 rfl ?_ | refine j_aload_nN dX0_oneRound_44 rfl ?_
      refine j_iload_n dX0_oneRound_45 rfl ?_
      refine j_dV1 kl_X0_102 (x_gives (Fa.sh hf) _) dX0_oneRound_46 rfl rfl (by decide) (by first | exact Fa.sh hf | assumption) (Nat.le_of_ble_eq_true rfl) (by first | decide | omega) (by omega) (by omega) ?_
      refine j_iret dX0_oneRound_49 ⟨_, rfl, rfl⟩ (by omega) (by omega) ?_
      have e : j = 2 ^ P - 1 := by omega
      subst e
      exact ⟨by rw [ha], put_n (hn 6)⟩
    · refine j_iload_n dX0_oneRound_17 rfl ?_
      refine j_dS1 kl_X0_326 (k_bits (by omega)) dX0_oneRound_18 rfl rfl (Nat.le_of_ble_eq_true rfl) (by first | decide | omega) (by omega) (by omega) ?_
      refine j_iload_n dX0_oneRound_21 rfl ?_
      refine j_dS1 kl_X0_326 (k_bits (by omega)) dX0_oneRound_22 rfl rfl (Nat.le_of_ble_eq_true rfl) (by first | decide | omega) (by omega) (by omega) ?_
      first | (with_reducible refine j_gNN ?_; refine j_icmp_leN (tgt := 38) dX0_oneRound_25 (by decide) (by omega) (by omega) (fun c_25 => ?_) (fun c_25 => ?_)) | refine j_icmp_le (tgt := 38) dX0_oneRound_25 (by decide) (fun c_25 => ?_) (fun c_25 => ?_)
      · first | refine j_iincN dX0_oneRound_38 rfl (by decide) ?_ | refine j_iinc dX0_oneRound_38 rfl rfl (by decide) ?_
        refine j_goto (tgt := 4) dX0_oneRound_41 (by decide) ?_
        refine ih (by omega) _ (by omega) ?_
        rw [hst, oneF, sz_pop (by omega), sz_pop (by omega)]
        have p1 := hpl (j + 1)
        have p2 := hpl b
        first
        | (rw [if_neg (fun q => absurd q.1 (Int32.not_lt.mpr c_25))]; done)
        | (rw [if_neg (fun q => by rw [c_33] at q; cases q.2)]; done)
        | (rw [if_pos ⟨Int32.not_le.mp c_25, c_33⟩]; done)
      · first | refine j_aload_n dX0_oneRound_28 rfl ?_ | refine j_aload_nN dX0_oneRound_28 rfl ?_
        refine j_iload_n dX0_oneRound_29 rfl ?_
        refine j_dV1 kl_X0_406 (x_canCut hf hg hR hw hv _) dX0_oneRound_30 rfl rfl (by decide) (by first | exact Fa.sh hf | assumption) (Nat.le_of_ble_eq_true rfl) (by first | decide | omega) (by omega) (by omega) ?_
        first | (with_reducible refine j_gB ?_; refine j_if_eqB (tgt := 38) dX0_oneRound_33 (by decide) (fun c_33 => ?_) (fun c_33 => ?_)) | (with_reducible refine j_gC ?_; refine j_if_eqC (tgt := 38) dX0_oneRound_33 (by decide) (fun c_33 => ?_) (fun c_33 => ?_)) | (with_reducible refine j_gN ?_; refine j_if_eqN (tgt := 38) dX0_oneRound_33 (by decide) (by omega) (fun c_33 => ?_) (fun c_33 => ?_)) | refine j_if_eq (tgt := 38) dX0_oneRound_33 (by decide) (fun c_33 => ?_) (fun c_33 => ?_)
        · first | refine j_iincN dX0_oneRound_38 rfl (by decide) ?_ | refine j_iinc dX0_oneRound_38 rfl rfl (by decide) ?_
          refine j_goto (tgt := 4) dX0_oneRound_41 (by decide) ?_
          refine ih (by omega) _ (by omega) ?_
          rw [hst, oneF, sz_pop (by omega), sz_pop (by omega)]
          have p1 := hpl (j + 1)
          have p2 := hpl b
          first
          | (rw [if_neg (fun q => absurd q.1 (Int32.not_lt.mpr c_25))]; done)
          | (rw [if_neg (fun q => by rw [c_33] at q; cases q.2)]; done)
          | (rw [if_pos ⟨Int32.not_le.mp c_25, c_33⟩]; done)
        · refine j_iload_n dX0_oneRound_36 rfl ?_
          refine j_istore_n dX0_oneRound_37 (by decide) ?_
          first | refine j_iincN dX0_oneRound_38 rfl (by decide) ?_ | refine j_iinc dX0_oneRound_38 rfl rfl (by decide) ?_
          refine j_goto (tgt := 4) dX0_oneRound_41 (by decide) ?_
          refine ih (by omega) _ (by omega) ?_
          rw [hst, oneF, sz_pop (by omega), sz_pop (by omega)]
          have p1 := hpl (j + 1)
          have p2 := hpl b
          first
          | (rw [if_neg (fun q => absurd q.1 (Int32.not_lt.mpr c_25))]; done)
          | (rw [if_neg (fun q => by rw [c_33] at q; cases q.2)]; done)
          | (rw [if_pos ⟨Int32.not_le.mp c_25, c_33⟩]; done)
  refine j_iconst (v := nI 0) dX0_oneRound_0 (by decide +kernel) ?_
  refine j_istore_n dX0_oneRound_1 (by decide) ?_
  refine j_iconst (v := nI 1) dX0_oneRound_2 (by decide +kernel) ?_
  refine j_istore_n dX0_oneRound_3 (by decide) ?_
  exact key 0 (by omega) 0 (by omega) rfl
end X12s
