/-! X: PLAITS -/
set_option maxRecDepth 100000
theorem allB_2 {f f2 : Nat → Bool} (h : ∀ k, f2 k = (f (2 * k) && f (2 * k + 1))) : ∀ m, allB f2 m = allB f (2 * m) := by
  intro m
  induction m with
  | zero => rfl
  | succ m ih =>
    rw [show 2 * (m + 1) = 2 * m + 1 + 1 by omega, allB, allB, allB, ih, h, Bool.and_assoc]
theorem xWhyT_nn {M : Nat → Int32} {N : Nat → Int64} {a b : Int64} {tray n : Int32} : xWhyT M N a b tray n = nI 0 ∨ 0 < xWhyT M N a b tray n := by
  unfold xWhyT
  split
  · split
    · exact Or.inl rfl
    · exact Or.inr (by decide)
  · next h => exact mWhy2_nn.resolve_left h |> Or.inr
theorem whyP_eq {W : Nat} {M : Nat → Int32} {N : Nat → Int64} {s tray n : Int32} : mWhyP W M N s tray n = if 0 < xWhyT M N (nI W - nI 1).toInt64 (nI W - nI 1).toInt64 tray n then xWhyT M N (nI W - nI 1).toInt64 (nI W - nI 1).toInt64 tray n else if okN s (2 ^ W) then nI 0 else nI 5 := by
  have e : ∀ t m, allB (twOk N (nI W - nI 1).toInt64 (nI W - nI 1).toInt64 t) m = allB (plOk W N t) (2 * m) := fun t m => allB_2 (f := plOk W N t) (f2 := twOk N (nI W - nI 1).toInt64 (nI W - nI 1).toInt64 t) (fun k => rfl) m
  unfold mWhyP mWhyP0 xWhyT
  rw [e]
  by_cases h : mWhy2 M tray n = nI 0
  · rw [if_pos h]
    by_cases h2 : okN s (2 ^ W) = true
    · rw [if_pos h2, if_pos rfl, if_pos h]
      by_cases h3 : allB (plOk W N (ixn tray)) (2 * ixn n) = true
      · rw [if_pos h3, if_neg (by decide)]
      · rw [if_neg h3, if_pos (by decide)]
    · rw [if_neg h2, if_neg (by decide), if_pos h]
      by_cases h3 : allB (plOk W N (ixn tray)) (2 * ixn n) = true
      · rw [if_pos h3, if_neg (by decide)]
      · rw [if_neg h3, if_pos (by decide)]
  · rw [if_neg h, if_neg h, if_pos (mWhy2_nn.resolve_left h)]
/-- the numbers of a tray that are words -/
def wn (N : Nat → Int64) (t j : Nat) : Nat := ixn (N (60 * t + j)).toInt32
theorem wn_ok {W : Nat} {N : Nat → Int64} {t j : Nat} (hW8 : W ≤ 8) (h : plOk W N t j = true) : wn N t j < W ∧ N (60 * t + j) = (nI (wn N t j)).toInt64 ∧ (N (60 * t + j)).toInt32 = nI (wn N t j) := by
  unfold plOk inL at h
  rw [Bool.and_eq_true, Bool.not_eq_true', Bool.not_eq_true', decide_eq_false_iff_not, decide_eq_false_iff_not] at h
  have e0 : (0 : Int64).toInt = 0 := by decide +kernel
  have h1 : 0 ≤ (N (60 * t + j)).toInt := by
    have := Int64.not_lt.mp h.1
    rw [Int64.le_iff_toInt_le, e0] at this
    exact this
  have hm : (nI W - nI 1).toInt = (W : Int) - 1 := by
    have : ∀ W, W ≤ 8 → (nI W - nI 1).toInt = (W : Int) - 1 := by decide +kernel
    exact this W hW8
  have h2 : (N (60 * t + j)).toInt ≤ (W : Int) - 1 := by
    have := Int64.not_lt.mp h.2
    rw [Int64.le_iff_toInt_le, Int32.toInt_toInt64, hm] at this
    exact this
  have e1 : N (60 * t + j) = (nI (N (60 * t + j)).toInt.toNat).toInt64 := by
    apply Int64.toInt_inj.mp
    rw [Int32.toInt_toInt64, nI_toInt (by omega)]
    omega
  have e2 : (N (60 * t + j)).toInt32 = nI (N (60 * t + j)).toInt.toNat := by
    rw [e1, Int32.toInt32_toInt64]
    congr 1
    rw [Int32.toInt_toInt64, nI_toInt (by omega)]
    omega
  have e3 : wn N t j = (N (60 * t + j)).toInt.toNat := by
    unfold wn
    rw [e2, ixn_nI (by omega)]
  rw [e3]
  exact ⟨by omega, e1, e2⟩
/-- what lies ahead of the word w, of the first m twos, within s0 -/
def ahN (N : Nat → Int64) (t s0 w m : Nat) : Nat := orN (fun i => if wn N t (2 * i + 1) = w ∧ s0.testBit (wn N t (2 * i)) = true ∧ s0.testBit (wn N t (2 * i + 1)) = true then 2 ^ wn N t (2 * i) else 0) m
theorem ahN_next {N : Nat → Int64} {W t s0 w m set : Nat} (hW8 : W ≤ 8) (hp : ∀ j, j < 2 * m → plOk W N t j = true) (hs0 : s0 < 256) (hsub : sub set s0) (hw : set.testBit w = true) (hw8 : w < 8) : ahN N t s0 w m &&& set = 0 ↔ mIsNext N t m w set = true := by
  have hset : set < 256 := Nat.lt_of_le_of_lt (sub_le hsub) hs0
  rw [and_z]
  unfold mIsNext
  rw [allB_iff]
  constructor
  · intro h i hi
    obtain ⟨a1, a2, a3⟩ := wn_ok hW8 (hp (2 * i) (by omega))
    obtain ⟨b1, b2, b3⟩ := wn_ok hW8 (hp (2 * i + 1) (by omega))
    unfold isNF
    rw [show 60 * t + (2 * i + 1) = 60 * t + (2 * i + 1) from rfl, b2, a3, hsI_nI, hs_nI hset (by omega)]
    cases q : set.testBit (wn N t (2 * i)) with
    | false => rw [Bool.and_false]; rfl
    | true =>
      have hne : ¬ (nI (wn N t (2 * i + 1))).toInt64 = (nI w).toInt64 := by
        intro e
        have e1 : wn N t (2 * i + 1) = w := by
          have := congrArg Int64.toInt e
          rw [Int32.toInt_toInt64, Int32.toInt_toInt64, nI_toInt (by omega), nI_toInt (by omega)] at this
          omega
        refine h (wn N t (2 * i)) ⟨?_, q⟩
        unfold ahN
        rw [orN_bit]
        exact ⟨i, hi, by rw [if_pos ⟨e1, hsub _ q, by rw [e1]; exact hsub _ hw⟩]; exact Nat.testBit_two_pow_self⟩
      rw [decide_eq_false hne]
      rfl
  · intro h x q
    obtain ⟨q1, q2⟩ := q
    unfold ahN at q1
    rw [orN_bit] at q1
    obtain ⟨i, hi, hb⟩ := q1
    split at hb
    · next z =>
      rw [Nat.testBit_two_pow, decide_eq_true_eq] at hb
      obtain ⟨a1, a2, a3⟩ := wn_ok hW8 (hp (2 * i) (by omega))
      obtain ⟨b1, b2, b3⟩ := wn_ok hW8 (hp (2 * i + 1) (by omega))
      have h1 := h i hi
      unfold isNF at h1
      rw [b2, a3, hsI_nI, hs_nI hset (by omega), z.1, hb, q2, decide_eq_true rfl] at h1
      cases h1
    · rw [Nat.zero_testBit] at hb; cases hb
theorem ahN_lt {N : Nat → Int64} {W t s0 w m : Nat} (hW8 : W ≤ 8) : ∀ n, n ≤ m → (∀ j, j < 2 * m → plOk W N t j = true) → ahN N t s0 w n < 256 := by
  intro n hn hp
  refine orN_lt (W := 8) n fun i hi => ?_
  obtain ⟨a1, -, -⟩ := wn_ok hW8 (hp (2 * i) (by omega))
  split
  · exact Nat.pow_lt_pow_right (by decide) (by omega)
  · decide
def plF (N : Nat → Int64) (W t m s k : Nat) : Int32 := if hs (nI s) k = true ∧ mIsNext N t m k s = true then mPl N W t m 8 (dif s (2 ^ k)) else nI 0
theorem mPl_sum {N : Nat → Int64} {W t m s : Nat} (hW8 : W ≤ 8) (hs2 : s < 2 ^ W) (h0 : s ≠ 0) : mPl N W t m 8 s = sumTo (plF N W t m s) 8 := by
  have h8 := pw8 hW8
  have e1 : mPl N W t m 8 s = sumTo (fun k => if hs (nI s) k = true ∧ mIsNext N t m k s = true then mPl N W t m 7 (dif s (2 ^ k)) else nI 0) W := by
    show (if s = 0 then nI 1 else _) = _
    rw [if_neg h0]
  rw [e1, sumTo_z (W := W) 8 hW8 (fun i hi h8' => by
    unfold plF
    rw [if_neg]
    intro q
    rw [hs_nI (by omega) (by omega)] at q
    have := tb_lt hs2 q.1
    omega)]
  refine sumTo_eq W fun k hk => ?_
  unfold plF
  by_cases q : hs (nI s) k = true ∧ mIsNext N t m k s = true
  · rw [if_pos q, if_pos q]
    have hb : s.testBit k = true := by rw [← hs_nI (by omega) (by omega)]; exact q.1
    have hp := pop_lt (s := s) (k := k) (by omega) (by omega) hb
    have hp8 := pop_le (s := s)
    exact (mPl_8 hW8 (Nat.lt_of_le_of_lt (dif_le _ _) (by omega)) (f := 7) (by omega) (by omega)).symm
  · rw [if_neg q, if_neg q]
theorem mPl_z {N : Nat → Int64} {W t m : Nat} : mPl N W t m 8 0 = nI 1 := rfl
section X13s
variable {g : Gx} {l : Launch} {σ τ : Sg} {L : Nat → Nat → Option Nat} {A B : Nat → Nat} {C S M : Nat → Int32} {N : Nat → Int64} {W P Dn Hn k p q hx : Nat}
theorem x_wrongPlait (hf : Fa σ hx B) (hg : Fq σ hx A) (hR : Pv σ L A C W P Dn Hn) (hw : Wx C W P Dn) (hT : Tr σ L B S M N) (s tr n : Int32) : Kd g l 2 MX0_wrongPlait [.ref hx, .int s, .int tr, .int n] (put σ L C) (some (.int (mWhyP W M N s tr n))) (put σ L C) := by
  obtain ⟨⟨⟨hW, hW8⟩, ⟨hP, hP6⟩, ⟨hD, hD6⟩, hdn⟩, hWv, hPp⟩ := id hw
  refine Kt.go (Y := MX0_wrongPlait) (ls := [some (.ref hx), some (.int s), some (.int tr), some (.int n), none]) (by decide) (Nat.le_of_ble_eq_true rfl) rfl ?_
  first | refine j_aload_n dX0_wrongPlait_0 rfl ?_ | refine j_aload_nN dX0_wrongPlait_0 rfl ?_
  refine j_iload_n dX0_wrongPlait_1 rfl ?_
  refine j_iload_n dX0_wrongPlait_2 rfl ?_
  first | refine j_aload_n dX0_wrongPlait_3 rfl ?_ | refine j_aload_nN dX0_wrongPlait_3 rfl ?_
  refine j_getR dX0_wrongPlait_4 fl_X0_38 rfl (by first | exact Fa.sh hf | assumption) (by first | exact Fq.f3 hg | assumption) ?_
  refine j_getI dX0_wrongPlait_7 fl_X0_147 rfl (by first | exact Pv.sh hR | assumption) (by first | exact pg (Pv.li hR 4 0 rfl (by decide)) | assumption) ?_
  rw [hW]
  refine j_iconst (v := nI 1) dX0_wrongPlait_10 (by decide +kernel) ?_
  refine j_isub dX0_wrongPlait_11 ?_
  first | refine j_aload_n dX0_wrongPlait_12 rfl ?_ | refine j_aload_nN dX0_wrongPlait_12 rfl ?_
  refine j_getR dX0_wrongPlait_13 fl_X0_38 rfl (by first | exact Fa.sh hf | assumption) (by first | exact Fq.f3 hg | assumption) ?_
  refine j_getI dX0_wrongPlait_16 fl_X0_147 rfl (by first | exact Pv.sh hR | assumption) (by first | exact pg (Pv.li hR 4 0 rfl (by decide)) | assumption) ?_
  rw [hW]
  refine j_iconst (v := nI 1) dX0_wrongPlait_19 (by decide +kernel) ?_
  refine j_isub dX0_wrongPlait_20 ?_
  refine j_i2l dX0_wrongPlait_21 ?_
  refine j_dV1 kl_X0_374 (x_wrongTwos hf hg hR hw hT _ _ _ _) dX0_wrongPlait_22 rfl rfl (by decide) (by first | exact Fa.sh hf | assumption) (Nat.le_of_ble_eq_true rfl) (by first | decide | omega) (by omega) (by omega) ?_
  refine j_istore dX0_wrongPlait_25 (by decide) ?_
  refine j_iload dX0_wrongPlait_27 rfl ?_
  first | (with_reducible refine j_gC ?_; refine j_if_leC (tgt := 37) dX0_wrongPlait_29 (by decide) (fun c_29 => ?_) (fun c_29 => ?_)) | refine j_if_le (tgt := 37) dX0_wrongPlait_29 (by decide) (fun c_29 => ?_) (fun c_29 => ?_)
  · first | refine j_aload_n dX0_wrongPlait_37 rfl ?_ | refine j_aload_nN dX0_wrongPlait_37 rfl ?_
    refine j_iload_n dX0_wrongPlait_38 rfl ?_
    refine j_i2l dX0_wrongPlait_39 ?_
    refine j_dV1 kl_X0_394 (x_areWords hf hg hR hW hW8 _) dX0_wrongPlait_40 rfl rfl (by decide) (by first | exact Fa.sh hf | assumption) (Nat.le_of_ble_eq_true rfl) (by first | decide | omega) (by omega) (by omega) ?_
    first | (with_reducible refine j_gB ?_; refine j_if_eqB (tgt := 50) dX0_wrongPlait_43 (by decide) (fun c_43 => ?_) (fun c_43 => ?_)) | (with_reducible refine j_gC ?_; refine j_if_eqC (tgt := 50) dX0_wrongPlait_43 (by decide) (fun c_43 => ?_) (fun c_43 => ?_)) | (with_reducible refine j_gN ?_; refine j_if_eqN (tgt := 50) dX0_wrongPlait_43 (by decide) (by omega) (fun c_43 => ?_) (fun c_43 => ?_)) | refine j_if_eq (tgt := 50) dX0_wrongPlait_43 (by decide) (fun c_43 => ?_) (fun c_43 => ?_)
    · refine j_iconst (v := nI 5) dX0_wrongPlait_50 (by decide +kernel) ?_
      refine j_iret dX0_wrongPlait_51 ⟨_, rfl, rfl⟩ (by omega) (by omega) ?_
      exact ⟨by
        rw [whyP_eq]
        first
        | rw [if_pos (Int32.not_le.mp c_29)]
        | (rw [if_neg (Int32.not_lt.mpr c_29), c_43]; rfl), rfl⟩
    · refine j_iconst (v := nI 0) dX0_wrongPlait_46 (by decide +kernel) ?_
      refine j_goto (tgt := 51) dX0_wrongPlait_47 (by decide) ?_
      refine j_iret dX0_wrongPlait_51 ⟨_, rfl, rfl⟩ (by omega) (by omega) ?_
      exact ⟨by
        rw [whyP_eq]
        first
        | rw [if_pos (Int32.not_le.mp c_29)]
        | (rw [if_neg (Int32.not_lt.mpr c_29), c_43]; rfl), rfl⟩
  · refine j_iload dX0_wrongPlait_32 rfl ?_
    refine j_goto (tgt := 51) dX0_wrongPlait_34 (by decide) ?_
    refine j_iret dX0_wrongPlait_51 ⟨_, rfl, rfl⟩ (by omega) (by omega) ?_
    exact ⟨by
      rw [whyP_eq]
      first
      | rw [if_pos (Int32.not_le.mp c_29)]
      | (rw [if_neg (Int32.not_lt.mpr c_29), c_43]; rfl), rfl⟩
/-- x with the scratch rows of plaits -/
def s34 (σ : Sg) (B : Nat → Nat) (F G : Nat → Int32) : Sg := sU (sU σ (B 14) F) (B 13) G
def lyQ (B : Nat → Nat) (σ : Sg) (L : Nat → Nat → Option Nat) (C : Nat → Int32) (N : Nat → Int64) (W t m s0 : Nat) (τ : Sg) : Prop := ∃ F G, τ = put (s34 σ B F G) L C ∧ (∀ w, w < 8 → F w = nI (ahN N t s0 w m)) ∧ ∀ e, sub e s0 → G e = mPl N W t m 8 e
theorem x_laysOrders (hf0 : Fa σ hx B) (hg0 : Fq σ hx A) (hR0 : Pv σ L A C W P Dn Hn) (hw : Wx C W P Dn) (hT0 : Tr σ L B S M N) (hl14 : ∀ k, L (B 14) k = none) (hN14 : ∀ t r, t < 4 → σ.2.2.2 (B (30 + t)) 0 = some r → r ≠ B 14) {t m m2 s0 : Nat} (ht : t < 4) (hM : M t = nI m2) (hm2 : m2 ≤ 60) (hm : 2 * m ≤ m2) (hs0 : s0 < 2 ^ W) (hpl : ∀ j, j < 2 * m → plOk W N t j = true) :
    Kt g l 3 MX0_laysOrders [.ref hx, .int (nI s0), .int (nI t), .int (nI m)] (put σ L C) 0 0 (fun r τ => r = none ∧ lyQ B σ L C N W t m s0 τ) (fun _ _ _ => False) := by
  obtain ⟨⟨⟨hW, hW8⟩, ⟨hP, hP6⟩, ⟨hD, hD6⟩, hdn⟩, hWv, hPp⟩ := id hw
  have h8 := pw8 hW8
  have s13 : σ.1 (B 13) = some (20, 256) := Fa.s13 (L := L) (D := C) hf0
  have s14 : σ.1 (B 14) = some (20, 8) := Fa.s14 (L := L) (D := C) hf0
  have ne : B 14 ≠ B 13 := fun e => by rw [e, s13] at s14; cases s14
  have hl13 := hR0.noL s13 (by decide) (by decide) (by decide)
  have hts : ∀ t, t < 4 → σ.1 (B (30 + t)) = some (7, 0) := fun t ht => Fa.ts (L := L) (D := C) hf0 ht
  have hT' : ∀ F G, Tr (s34 σ B F G) L B S M N := fun F G => by
    have h1 : Tr (sU σ (B 14) F) L B S M N := hT0.su (fun t ht e => by have := hts t ht; rw [e, s14] at this; cases this) (fun t r ht hr => hN14 t r ht hr)
    exact h1.su (fun t ht e => by have := hts t ht; rw [e, s13] at this; cases this) (h1.ns (a := B 13) s13 (Or.inr (by decide)))
  have hR' : ∀ F G, Pv (s34 σ B F G) L A C W P Dn Hn := fun F G => (hR0.su s14 (by decide) (by decide)).su (a := B 13) s13 (by decide) (by decide)
  have r14 : ∀ F G w, (put (s34 σ B F G) L C).2.1 (B 14) w = F w := fun F G w => (pgn (hl14 w)).trans ((congrFun (sU_n ne) w).trans (congrFun sU_e w))
  have r13 : ∀ F G w, (put (s34 σ B F G) L C).2.1 (B 13) w = G w := fun F G w => (pgn (hl13 w)).trans (congrFun sU_e w)
  have w14 : ∀ F G w x, sI (put (s34 σ B F G) L C) (B 14) w x = put (s34 σ B (up F w x) G) L C := fun F G w x => by rw [put_n (hl14 w)]; unfold s34; rw [sU2_put ne]
  have w13 : ∀ F G w x, sI (put (s34 σ B F G) L C) (B 13) w x = put (s34 σ B F (up G w x)) L C := fun F G w x => by rw [put_n (hl13 w)]; unfold s34; rw [sU_I]
  refine Kt.go (Y := MX0_laysOrders) (ls := [some (.ref hx), some (.int (nI s0)), some (.int (nI t)), some (.int (nI m)), none, none, none]) (by decide) (Nat.le_of_ble_eq_true rfl) rfl ?_
  have key3 : ∀ F, (∀ w, w < 8 → F w = nI (ahN N t s0 w m)) → ∀ j, j ≤ s0 + 1 → ∀ G, (∀ e, e < j → sub e s0 → G e = mPl N W t m 8 e) → ∀ x5, Tj g l 3 MX0_laysOrders [.ref hx, .int (nI s0), .int (nI t), .int (nI m)] 0 0 (fun r τ => r = none ∧ lyQ B σ L C N W t m s0 τ) (fun _ _ _ => False) 0 0 108 [some (.ref hx), some (.int (nI s0)), some (.int (nI t)), some (.int (nI m)), some (.int (nI j)), x5, none] [] (put (s34 σ B F G) L C) := by
    intro F hF
    refine loop_up fun j hj ih => ?_
    intro G hG x5
    have hf : Fa (s34 σ B F G) hx B := hf0
    have hR := hR' F G
    refine j_iload dX0_laysOrders_108 rfl ?_
    refine j_iload_n dX0_laysOrders_110 rfl ?_
    first | (with_reducible refine j_gNN ?_; refine j_icmp_gtN (tgt := 212) dX0_laysOrders_111 (by decide) (by omega) (by omega) (fun c_111 => ?_) (fun c_111 => ?_)) | refine j_icmp_gt (tgt := 212) dX0_laysOrders_111 (by decide) (fun c_111 => ?_) (fun c_111 => ?_)
    · skip
      refine j_vret dX0_laysOrders_212 rfl (by omega) (by omega) ?_
      exact ⟨rfl, F, G, rfl, hF, fun e he => hG e (by have := sub_le he; omega) he⟩
    · refine j_iload dX0_laysOrders_114 rfl ?_
      refine j_iload_n dX0_laysOrders_116 rfl ?_
      refine j_iconst (v := -1) dX0_laysOrders_117 (by decide +kernel) ?_
      refine j_ixor dX0_laysOrders_118 ?_
      refine j_iand dX0_laysOrders_119 ?_
      rw [nI_dif]
      first | (with_reducible refine j_gB ?_; refine j_if_eqB (tgt := 126) dX0_laysOrders_120 (by decide) (fun c_120 => ?_) (fun c_120 => ?_)) | (with_reducible refine j_gC ?_; refine j_if_eqC (tgt := 126) dX0_laysOrders_120 (by decide) (fun c_120 => ?_) (fun c_120 => ?_)) | (with_reducible refine j_gN ?_; refine j_if_eqN (tgt := 126) dX0_laysOrders_120 (by decide) (by omega) (fun c_120 => ?_) (fun c_120 => ?_)) | refine j_if_eq (tgt := 126) dX0_laysOrders_120 (by decide) (fun c_120 => ?_) (fun c_120 => ?_)
      · have hsub : sub j s0 := dif_z.mp ((nI_z (Nat.lt_of_le_of_lt (dif_le _ _) (by omega))).mp c_120)
        have hj2 : j < 2 ^ W := by omega
        have inner : ∀ i, i ≤ 8 → ∀ G', (∀ e, e < j → sub e s0 → G' e = mPl N W t m 8 e) → G' j = (if j = 0 then nI 1 else nI 0) + sumTo (plF N W t m j) i → Tj g l 3 MX0_laysOrders [.ref hx, .int (nI s0), .int (nI t), .int (nI m)] 0 0 (fun r τ => r = none ∧ lyQ B σ L C N W t m s0 τ) (fun _ _ _ => False) 0 0 146 [some (.ref hx), some (.int (nI s0)), some (.int (nI t)), some (.int (nI m)), some (.int (nI j)), some (.int (nI i)), none] [] (put (s34 σ B F G') L C) := by
          refine loop_up fun i hi ihi => ?_
          intro G' hG' hGj
          have hf : Fa (s34 σ B F G') hx B := hf0
          have e2 : i < 8 → nI 1 <<< (nI i &&& 31) = nI (2 ^ i) := fun q => bt_nI (by omega)
          have rdF : i < 8 → (put (s34 σ B F G') L C).2.1 (B 14) i = nI (ahN N t s0 i m) := fun q => (r14 F G' i).trans (hF i q)
          have hal := ahN_lt (N := N) (t := t) (s0 := s0) (w := i) hW8 m (Nat.le_refl _) hpl
          have hzz : nI (ahN N t s0 i m &&& j) = 0 ↔ ahN N t s0 i m &&& j = 0 := nI_z (Nat.lt_of_le_of_lt Nat.and_le_left hal)
          refine j_iload dX0_laysOrders_146 rfl ?_
          refine j_bipush (v := nI 8) dX0_laysOrders_148 (by decide +kernel) ?_
          first | (with_reducible refine j_gNN ?_; refine j_icmp_geN (tgt := 206) dX0_laysOrders_150 (by decide) (by omega) (by omega) (fun c_150 => ?_) (fun c_150 => ?_)) | refine j_icmp_ge (tgt := 206) dX0_laysOrders_150 (by decide) (fun c_150 => ?_) (fun c_150 => ?_)
          · first | refine j_iincN dX0_laysOrders_206 rfl (by decide) ?_ | refine j_iinc dX0_laysOrders_206 rfl rfl (by decide) ?_
            refine j_goto (tgt := 108) dX0_laysOrders_209 (by decide) ?_
            exact ih (by omega) G' (fun e he hse => by
              by_cases z : e = j
              · subst z
                rw [hGj, show i = 8 by omega]
                by_cases z0 : e = 0
                · rw [if_pos z0]
                  subst z0
                  have : ∀ n, n ≤ 8 → sumTo (plF N W t m 0) n = nI 0 := by
                    intro n
                    induction n with
                    | zero => intro _; rfl
                    | succ n ihn =>
                      intro hn
                      rw [sumTo, ihn (by omega), plF, if_neg, nI_0, Int32.add_zero]
                      intro q
                      rw [hs_nI (by omega) (by omega), Nat.zero_testBit] at q
                      cases q.1
                  rw [this 8 (by omega), mPl_z, nI_0, Int32.add_zero]
                · rw [if_neg z0, mPl_sum hW8 hj2 z0, nI_0, Int32.zero_add]
              · exact hG' e (by omega) hse) _
          · refine j_iload dX0_laysOrders_153 rfl ?_
            refine j_iload dX0_laysOrders_155 rfl ?_
            refine j_dS1 kl_X0_279 (k_isIn _ _ _ _ i) dX0_laysOrders_157 rfl rfl (Nat.le_of_ble_eq_true rfl) (by first | decide | omega) (by omega) (by omega) ?_
            first | (with_reducible refine j_gB ?_; refine j_if_eqB (tgt := 200) dX0_laysOrders_160 (by decide) (fun c_160 => ?_) (fun c_160 => ?_)) | (with_reducible refine j_gC ?_; refine j_if_eqC (tgt := 200) dX0_laysOrders_160 (by decide) (fun c_160 => ?_) (fun c_160 => ?_)) | (with_reducible refine j_gN ?_; refine j_if_eqN (tgt := 200) dX0_laysOrders_160 (by decide) (by omega) (fun c_160 => ?_) (fun c_160 => ?_)) | refine j_if_eq (tgt := 200) dX0_laysOrders_160 (by decide) (fun c_160 => ?_) (fun c_160 => ?_)
            · first | refine j_iincN dX0_laysOrders_200 rfl (by decide) ?_ | refine j_iinc dX0_laysOrders_200 rfl rfl (by decide) ?_
              refine j_goto (tgt := 146) dX0_laysOrders_203 (by decide) ?_
              have hnx : j.testBit i = true → (ahN N t s0 i m &&& j = 0 ↔ mIsNext N t m i j = true) := fun q => ahN_next hW8 hpl (by omega) hsub q (by omega)
              have hsi : hs (nI j) i = j.testBit i := hs_nI (by omega) (by omega)
              first
              | (have z : hs (nI j) i = false := c_160
                 have eF : plF N W t m j i = nI 0 := if_neg (fun q => Bool.false_ne_true (z.symm.trans q.1))
                 refine ihi (by omega) G' hG' ?_
                 rw [sumTo, eF, hGj, nI_0, Int32.add_zero])
              | (have z : nI (ahN N t s0 i m &&& j) = 0 := c_173
                 have eF : plF N W t m j i = mPl N W t m 8 (dif j (2 ^ i)) := if_pos ⟨c_160, (hnx (by rw [← hsi]; exact c_160)).mp (hzz.mp z)⟩
                 refine ihi (by omega) _ (fun e he hse => by rw [up_ne (by omega)]; exact hG' e he hse) ?_
                 rw [up_eq, sumTo, eF, Int32.add_assoc])
              | (have z : ¬ nI (ahN N t s0 i m &&& j) = 0 := c_173
                 have eF : plF N W t m j i = nI 0 := if_neg (fun q => z (hzz.mpr ((hnx (by rw [← hsi]; exact c_160)).mpr q.2)))
                 refine ihi (by omega) G' hG' ?_
                 rw [sumTo, eF, hGj, nI_0, Int32.add_zero])
            · first | refine j_aload_n dX0_laysOrders_163 rfl ?_ | refine j_aload_nN dX0_laysOrders_163 rfl ?_
              refine j_getR dX0_laysOrders_164 fl_X0_64 rfl (by first | exact Fa.sh hf | assumption) (by first | exact Fa.f14 hf | assumption) ?_
              refine j_iload dX0_laysOrders_167 rfl ?_
              refine j_iald dX0_laysOrders_169 (Fa.s14 hf) rfl (show i < 8 by omega) (by decide) (rdF (by omega)) ?_
              refine j_iload dX0_laysOrders_170 rfl ?_
              refine j_iand dX0_laysOrders_172 ?_
              rw [nI_and]
              first | (with_reducible refine j_gB ?_; refine j_if_neB (tgt := 200) dX0_laysOrders_173 (by decide) (fun c_173 => ?_) (fun c_173 => ?_)) | (with_reducible refine j_gC ?_; refine j_if_neC (tgt := 200) dX0_laysOrders_173 (by decide) (fun c_173 => ?_) (fun c_173 => ?_)) | (with_reducible refine j_gN ?_; refine j_if_neN (tgt := 200) dX0_laysOrders_173 (by decide) (by omega) (fun c_173 => ?_) (fun c_173 => ?_)) | refine j_if_ne (tgt := 200) dX0_laysOrders_173 (by decide) (fun c_173 => ?_) (fun c_173 => ?_)
              · first | refine j_iincN dX0_laysOrders_200 rfl (by decide) ?_ | refine j_iinc dX0_laysOrders_200 rfl rfl (by decide) ?_
                refine j_goto (tgt := 146) dX0_laysOrders_203 (by decide) ?_
                have hnx : j.testBit i = true → (ahN N t s0 i m &&& j = 0 ↔ mIsNext N t m i j = true) := fun q => ahN_next hW8 hpl (by omega) hsub q (by omega)
                have hsi : hs (nI j) i = j.testBit i := hs_nI (by omega) (by omega)
                first
                | (have z : hs (nI j) i = false := c_160
                   have eF : plF N W t m j i = nI 0 := if_neg (fun q => Bool.false_ne_true (z.symm.trans q.1))
                   refine ihi (by omega) G' hG' ?_
                   rw [sumTo, eF, hGj, nI_0, Int32.add_zero])
                | (have z : nI (ahN N t s0 i m &&& j) = 0 := c_173
                   have eF : plF N W t m j i = mPl N W t m 8 (dif j (2 ^ i)) := if_pos ⟨c_160, (hnx (by rw [← hsi]; exact c_160)).mp (hzz.mp z)⟩
                   refine ihi (by omega) _ (fun e he hse => by rw [up_ne (by omega)]; exact hG' e he hse) ?_
                   rw [up_eq, sumTo, eF, Int32.add_assoc])
                | (have z : ¬ nI (ahN N t s0 i m &&& j) = 0 := c_173
                   have eF : plF N W t m j i = nI 0 := if_neg (fun q => z (hzz.mpr ((hnx (by rw [← hsi]; exact c_160)).mpr q.2)))
                   refine ihi (by omega) G' hG' ?_
                   rw [sumTo, eF, hGj, nI_0, Int32.add_zero])
              · first | refine j_aload_n dX0_laysOrders_176 rfl ?_ | refine j_aload_nN dX0_laysOrders_176 rfl ?_
                refine j_getR dX0_laysOrders_177 fl_X0_60 rfl (by first | exact Fa.sh hf | assumption) (by first | exact Fa.f13 hf | assumption) ?_
                refine j_iload dX0_laysOrders_180 rfl ?_
                refine j_dup2 dX0_laysOrders_182 rfl rfl ?_
                refine j_iald dX0_laysOrders_183 (Fa.s13 hf) rfl (show j < 256 by omega) (by decide) ((r13 F G' j).trans hGj) ?_
                first | refine j_aload_n dX0_laysOrders_184 rfl ?_ | refine j_aload_nN dX0_laysOrders_184 rfl ?_
                refine j_getR dX0_laysOrders_185 fl_X0_60 rfl (by first | exact Fa.sh hf | assumption) (by first | exact Fa.f13 hf | assumption) ?_
                refine j_iload dX0_laysOrders_188 rfl ?_
                refine j_iconst (v := nI 1) dX0_laysOrders_190 (by decide +kernel) ?_
                refine j_iload dX0_laysOrders_191 rfl ?_
                refine j_ishl dX0_laysOrders_193 ?_
                rw [e2 (by omega)]
                refine j_iconst (v := -1) dX0_laysOrders_194 (by decide +kernel) ?_
                refine j_ixor dX0_laysOrders_195 ?_
                refine j_iand dX0_laysOrders_196 ?_
                rw [nI_dif]
                refine j_iald dX0_laysOrders_197 (Fa.s13 hf) rfl (show dif j (2 ^ i) < 256 from Nat.lt_of_le_of_lt (dif_le _ _) (by omega)) (by decide) ((r13 F G' _).trans (hG' (dif j (2 ^ i)) (by
                  rw [hs_nI (by omega) (by omega)] at c_160
                  exact dif_lt (fun x hx2 => by rw [Nat.testBit_two_pow, decide_eq_true_eq] at hx2; rw [← hx2]; exact c_160) (Nat.ne_of_gt (Nat.two_pow_pos i))) (fun x hx2 => hsub x (dif_sub x hx2)))) ?_
                refine j_iadd dX0_laysOrders_198 ?_
                refine j_iast dX0_laysOrders_199 (Fa.s13 hf) rfl (show j < 256 by omega) (by decide) ?_
                rw [w13]
                first | refine j_iincN dX0_laysOrders_200 rfl (by decide) ?_ | refine j_iinc dX0_laysOrders_200 rfl rfl (by decide) ?_
                refine j_goto (tgt := 146) dX0_laysOrders_203 (by decide) ?_
                have hnx : j.testBit i = true → (ahN N t s0 i m &&& j = 0 ↔ mIsNext N t m i j = true) := fun q => ahN_next hW8 hpl (by omega) hsub q (by omega)
                have hsi : hs (nI j) i = j.testBit i := hs_nI (by omega) (by omega)
                first
                | (have z : hs (nI j) i = false := c_160
                   have eF : plF N W t m j i = nI 0 := if_neg (fun q => Bool.false_ne_true (z.symm.trans q.1))
                   refine ihi (by omega) G' hG' ?_
                   rw [sumTo, eF, hGj, nI_0, Int32.add_zero])
                | (have z : nI (ahN N t s0 i m &&& j) = 0 := c_173
                   have eF : plF N W t m j i = mPl N W t m 8 (dif j (2 ^ i)) := if_pos ⟨c_160, (hnx (by rw [← hsi]; exact c_160)).mp (hzz.mp z)⟩
                   refine ihi (by omega) _ (fun e he hse => by rw [up_ne (by omega)]; exact hG' e he hse) ?_
                   rw [up_eq, sumTo, eF, Int32.add_assoc])
                | (have z : ¬ nI (ahN N t s0 i m &&& j) = 0 := c_173
                   have eF : plF N W t m j i = nI 0 := if_neg (fun q => z (hzz.mpr ((hnx (by rw [← hsi]; exact c_160)).mpr q.2)))
                   refine ihi (by omega) G' hG' ?_
                   rw [sumTo, eF, hGj, nI_0, Int32.add_zero])
        first | refine j_aload_n dX0_laysOrders_126 rfl ?_ | refine j_aload_nN dX0_laysOrders_126 rfl ?_
        refine j_getR dX0_laysOrders_127 fl_X0_60 rfl (by first | exact Fa.sh hf | assumption) (by first | exact Fa.f13 hf | assumption) ?_
        refine j_iload dX0_laysOrders_130 rfl ?_
        refine j_iload dX0_laysOrders_132 rfl ?_
        first | (with_reducible refine j_gB ?_; refine j_if_neB (tgt := 141) dX0_laysOrders_134 (by decide) (fun c_134 => ?_) (fun c_134 => ?_)) | (with_reducible refine j_gC ?_; refine j_if_neC (tgt := 141) dX0_laysOrders_134 (by decide) (fun c_134 => ?_) (fun c_134 => ?_)) | (with_reducible refine j_gN ?_; refine j_if_neN (tgt := 141) dX0_laysOrders_134 (by decide) (by omega) (fun c_134 => ?_) (fun c_134 => ?_)) | refine j_if_ne (tgt := 141) dX0_laysOrders_134 (by decide) (fun c_134 => ?_) (fun c_134 => ?_)
        · refine j_iconst (v := nI 0) dX0_laysOrders_141 (by decide +kernel) ?_
          refine j_iast dX0_laysOrders_142 (Fa.s13 hf) rfl (show j < 256 by omega) (by decide) ?_
          rw [w13]
          refine j_iconst (v := nI 0) dX0_laysOrders_143 (by decide +kernel) ?_
          refine j_istore dX0_laysOrders_144 (by decide) ?_
          first
          | exact inner 0 (by omega) _ (fun e he hse => by rw [up_ne (by omega)]; exact hG e he hse) (by rw [up_eq, if_pos c_134]; rfl)
          | exact inner 0 (by omega) _ (fun e he hse => by rw [up_ne (by omega)]; exact hG e he hse) (by rw [up_eq, if_neg c_134]; rfl)
        · refine j_iconst (v := nI 1) dX0_laysOrders_137 (by decide +kernel) ?_
          refine j_goto (tgt := 142) dX0_laysOrders_138 (by decide) ?_
          refine j_iast dX0_laysOrders_142 (Fa.s13 hf) rfl (show j < 256 by omega) (by decide) ?_
          rw [w13]
          refine j_iconst (v := nI 0) dX0_laysOrders_143 (by decide +kernel) ?_
          refine j_istore dX0_laysOrders_144 (by decide) ?_
          first
          | exact inner 0 (by omega) _ (fun e he hse => by rw [up_ne (by omega)]; exact hG e he hse) (by rw [up_eq, if_pos c_134]; rfl)
          | exact inner 0 (by omega) _ (fun e he hse => by rw [up_ne (by omega)]; exact hG e he hse) (by rw [up_eq, if_neg c_134]; rfl)
      · refine j_goto (tgt := 206) dX0_laysOrders_123 (by decide) ?_
        first | refine j_iincN dX0_laysOrders_206 rfl (by decide) ?_ | refine j_iinc dX0_laysOrders_206 rfl rfl (by decide) ?_
        refine j_goto (tgt := 108) dX0_laysOrders_209 (by decide) ?_
        exact ih (by omega) G (fun e he hse => by
          by_cases z : e = j
          · subst z
            exact absurd ((nI_z (Nat.lt_of_le_of_lt (dif_le _ _) (by omega))).mpr (dif_z.mpr hse)) c_120
          · exact hG e (by omega) hse) _
  have key2 : ∀ j, j ≤ m → ∀ F G, (∀ w, w < 8 → F w = nI (ahN N t s0 w j)) → ∀ x5 x6, Tj g l 3 MX0_laysOrders [.ref hx, .int (nI s0), .int (nI t), .int (nI m)] 0 0 (fun r τ => r = none ∧ lyQ B σ L C N W t m s0 τ) (fun _ _ _ => False) 0 0 27 [some (.ref hx), some (.int (nI s0)), some (.int (nI t)), some (.int (nI m)), some (.int (nI j)), x5, x6] [] (put (s34 σ B F G) L C) := by
    refine loop_up fun j hj ih => ?_
    intro F G hF x5 x6
    have hf : Fa (s34 σ B F G) hx B := hf0
    have hR := hR' F G
    have hT := hT' F G
    have hla : ∀ w, ahN N t s0 w (j + 1) = ahN N t s0 w j ||| (if wn N t (2 * j + 1) = w ∧ s0.testBit (wn N t (2 * j)) = true ∧ s0.testBit (wn N t (2 * j + 1)) = true then 2 ^ wn N t (2 * j) else 0) := fun w => rfl
    refine j_iload dX0_laysOrders_27 rfl ?_
    refine j_iload_n dX0_laysOrders_29 rfl ?_
    first | (with_reducible refine j_gNN ?_; refine j_icmp_geN (tgt := 105) dX0_laysOrders_30 (by decide) (by omega) (by omega) (fun c_30 => ?_) (fun c_30 => ?_)) | refine j_icmp_ge (tgt := 105) dX0_laysOrders_30 (by decide) (fun c_30 => ?_) (fun c_30 => ?_)
    · refine j_iconst (v := nI 0) dX0_laysOrders_105 (by decide +kernel) ?_
      refine j_istore dX0_laysOrders_106 (by decide) ?_
      have e : j = m := by omega
      subst e
      exact Tj.sub (ls' := [some (.ref hx), some (.int (nI s0)), some (.int (nI t)), some (.int (nI j)), some (.int (nI 0)), x5, none]) (fun i v h => by
        match i, h with
        | 0, h => exact h
        | 1, h => exact h
        | 2, h => exact h
        | 3, h => exact h
        | 4, h => exact h
        | 5, h => exact h
        | 6, h => cases h) (key3 F hF 0 (by omega) G (fun e he => by omega) _)
    · obtain ⟨a1, a2, a3⟩ := wn_ok hW8 (hpl (2 * j) (by omega))
      obtain ⟨b1, b2, b3⟩ := wn_ok hW8 (hpl (2 * j + 1) (by omega))
      have rdF : (put (s34 σ B F G) L C).2.1 (B 14) (wn N t (2 * j + 1)) = nI (ahN N t s0 (wn N t (2 * j + 1)) j) := (r14 F G _).trans (hF _ (by omega))
      have hsa : hs (nI s0) (wn N t (2 * j)) = s0.testBit (wn N t (2 * j)) := hs_nI (by omega) (by omega)
      have hsb : hs (nI s0) (wn N t (2 * j + 1)) = s0.testBit (wn N t (2 * j + 1)) := hs_nI (by omega) (by omega)
      have e2 : nI 1 <<< (nI (wn N t (2 * j)) &&& 31) = nI (2 ^ wn N t (2 * j)) := bt_nI (by omega)
      first | refine j_aload_n dX0_laysOrders_33 rfl ?_ | refine j_aload_nN dX0_laysOrders_33 rfl ?_
      refine j_getR dX0_laysOrders_34 fl_X0_11 rfl (by first | exact Fa.sh hf | assumption) (by first | exact Fa.f0 hf | assumption) ?_
      refine j_iload_n dX0_laysOrders_37 rfl ?_
      refine j_aald (t := 25) dX0_laysOrders_38 (fun _ => rfl) (by decide) (by first | exact Pe.sl hp | exact Pe.sa hp | exact Pe.sl hq | exact Pe.sa hq | exact Pv.sw hR | exact Pv.sp hR | exact Pv.sd hR | exact Fa.s0 hf | exact Fa.s12 hf | exact Fa.s13 hf | exact Fa.s14 hf | exact Fa.s15 hf | exact Fa.s16 hf | exact Fa.s20 hf | exact Fa.s21 hf | exact Fa.s23 hf | assumption) rfl (by omega) (by decide) (by first | exact Pv.rw hR (by omega) | exact Pv.rp hR (by omega) | exact Pv.rd hR (by omega) | exact Fa.tr hf (by omega) | assumption) ?_
      refine j_iconst (v := nI 2) dX0_laysOrders_39 (by decide +kernel) ?_
      refine j_iload dX0_laysOrders_40 rfl ?_
      first | (with_reducible refine j_gNN ?_; refine j_imulN dX0_laysOrders_42 ?_) | refine j_imul dX0_laysOrders_42 ?_
      refine j_dV1 kl_X0_126 (x_tget hf hR hT ht hM hm2 (by omega)) dX0_laysOrders_43 rfl rfl (by decide) (by first | exact Fa.ts hf (by omega) | assumption) (Nat.le_of_ble_eq_true rfl) (by first | decide | omega) (by omega) (by omega) ?_
      refine j_l2i dX0_laysOrders_46 ?_
      rw [a3]
      refine j_istore dX0_laysOrders_47 (by decide) ?_
      first | refine j_aload_n dX0_laysOrders_49 rfl ?_ | refine j_aload_nN dX0_laysOrders_49 rfl ?_
      refine j_getR dX0_laysOrders_50 fl_X0_11 rfl (by first | exact Fa.sh hf | assumption) (by first | exact Fa.f0 hf | assumption) ?_
      refine j_iload_n dX0_laysOrders_53 rfl ?_
      refine j_aald (t := 25) dX0_laysOrders_54 (fun _ => rfl) (by decide) (by first | exact Pe.sl hp | exact Pe.sa hp | exact Pe.sl hq | exact Pe.sa hq | exact Pv.sw hR | exact Pv.sp hR | exact Pv.sd hR | exact Fa.s0 hf | exact Fa.s12 hf | exact Fa.s13 hf | exact Fa.s14 hf | exact Fa.s15 hf | exact Fa.s16 hf | exact Fa.s20 hf | exact Fa.s21 hf | exact Fa.s23 hf | assumption) rfl (by omega) (by decide) (by first | exact Pv.rw hR (by omega) | exact Pv.rp hR (by omega) | exact Pv.rd hR (by omega) | exact Fa.tr hf (by omega) | assumption) ?_
      refine j_iconst (v := nI 2) dX0_laysOrders_55 (by decide +kernel) ?_
      refine j_iload dX0_laysOrders_56 rfl ?_
      first | (with_reducible refine j_gNN ?_; refine j_imulN dX0_laysOrders_58 ?_) | refine j_imul dX0_laysOrders_58 ?_
      refine j_iconst (v := nI 1) dX0_laysOrders_59 (by decide +kernel) ?_
      first | (with_reducible refine j_gNN ?_; refine j_iaddN dX0_laysOrders_60 ?_) | refine j_iadd dX0_laysOrders_60 ?_
      refine j_dV1 kl_X0_126 (x_tget hf hR hT ht hM hm2 (by omega)) dX0_laysOrders_61 rfl rfl (by decide) (by first | exact Fa.ts hf (by omega) | assumption) (Nat.le_of_ble_eq_true rfl) (by first | decide | omega) (by omega) (by omega) ?_
      refine j_l2i dX0_laysOrders_64 ?_
      rw [b3]
      refine j_istore dX0_laysOrders_65 (by decide) ?_
      refine j_iload_n dX0_laysOrders_67 rfl ?_
      refine j_iload dX0_laysOrders_68 rfl ?_
      refine j_dS1 kl_X0_279 (k_isIn _ _ _ _ (wn N t (2 * j))) dX0_laysOrders_70 rfl rfl (Nat.le_of_ble_eq_true rfl) (by first | decide | omega) (by omega) (by omega) ?_
      first | (with_reducible refine j_gB ?_; refine j_if_eqB (tgt := 99) dX0_laysOrders_73 (by decide) (fun c_73 => ?_) (fun c_73 => ?_)) | (with_reducible refine j_gC ?_; refine j_if_eqC (tgt := 99) dX0_laysOrders_73 (by decide) (fun c_73 => ?_) (fun c_73 => ?_)) | (with_reducible refine j_gN ?_; refine j_if_eqN (tgt := 99) dX0_laysOrders_73 (by decide) (by omega) (fun c_73 => ?_) (fun c_73 => ?_)) | refine j_if_eq (tgt := 99) dX0_laysOrders_73 (by decide) (fun c_73 => ?_) (fun c_73 => ?_)
      · first | refine j_iincN dX0_laysOrders_99 rfl (by decide) ?_ | refine j_iinc dX0_laysOrders_99 rfl rfl (by decide) ?_
        refine j_goto (tgt := 27) dX0_laysOrders_102 (by decide) ?_
        first
        | (have z : hs (nI s0) (wn N t (2 * j)) = false := c_73
           refine ih (by omega) F G (fun w hw8 => ?_) _ _
           rw [hF w hw8, hla, if_neg (fun q => Bool.false_ne_true ((z.symm.trans hsa).trans q.2.1)), Nat.or_zero])
        | (have z : hs (nI s0) (wn N t (2 * j + 1)) = false := c_82
           refine ih (by omega) F G (fun w hw8 => ?_) _ _
           rw [hF w hw8, hla, if_neg (fun q => Bool.false_ne_true ((z.symm.trans hsb).trans q.2.2)), Nat.or_zero])
        | (refine ih (by omega) _ G (fun w hw8 => ?_) _ _
           rw [hla]
           by_cases z : wn N t (2 * j + 1) = w
           · subst z
             rw [up_eq, if_pos ⟨rfl, by rw [← hsa]; exact c_73, by rw [← hsb]; exact c_82⟩]
           · rw [up_ne (fun q => z q.symm), hF w hw8, if_neg (fun q => z q.1), Nat.or_zero])
      · refine j_iload_n dX0_laysOrders_76 rfl ?_
        refine j_iload dX0_laysOrders_77 rfl ?_
        refine j_dS1 kl_X0_279 (k_isIn _ _ _ _ (wn N t (2 * j + 1))) dX0_laysOrders_79 rfl rfl (Nat.le_of_ble_eq_true rfl) (by first | decide | omega) (by omega) (by omega) ?_
        first | (with_reducible refine j_gB ?_; refine j_if_eqB (tgt := 99) dX0_laysOrders_82 (by decide) (fun c_82 => ?_) (fun c_82 => ?_)) | (with_reducible refine j_gC ?_; refine j_if_eqC (tgt := 99) dX0_laysOrders_82 (by decide) (fun c_82 => ?_) (fun c_82 => ?_)) | (with_reducible refine j_gN ?_; refine j_if_eqN (tgt := 99) dX0_laysOrders_82 (by decide) (by omega) (fun c_82 => ?_) (fun c_82 => ?_)) | refine j_if_eq (tgt := 99) dX0_laysOrders_82 (by decide) (fun c_82 => ?_) (fun c_82 => ?_)
        · first | refine j_iincN dX0_laysOrders_99 rfl (by decide) ?_ | refine j_iinc dX0_laysOrders_99 rfl rfl (by decide) ?_
          refine j_goto (tgt := 27) dX0_laysOrders_102 (by decide) ?_
          first
          | (have z : hs (nI s0) (wn N t (2 * j)) = false := c_73
             refine ih (by omega) F G (fun w hw8 => ?_) _ _
             rw [hF w hw8, hla, if_neg (fun q => Bool.false_ne_true ((z.symm.trans hsa).trans q.2.1)), Nat.or_zero])
          | (have z : hs (nI s0) (wn N t (2 * j + 1)) = false := c_82
             refine ih (by omega) F G (fun w hw8 => ?_) _ _
             rw [hF w hw8, hla, if_neg (fun q => Bool.false_ne_true ((z.symm.trans hsb).trans q.2.2)), Nat.or_zero])
          | (refine ih (by omega) _ G (fun w hw8 => ?_) _ _
             rw [hla]
             by_cases z : wn N t (2 * j + 1) = w
             · subst z
               rw [up_eq, if_pos ⟨rfl, by rw [← hsa]; exact c_73, by rw [← hsb]; exact c_82⟩]
             · rw [up_ne (fun q => z q.symm), hF w hw8, if_neg (fun q => z q.1), Nat.or_zero])
        · first | refine j_aload_n dX0_laysOrders_85 rfl ?_ | refine j_aload_nN dX0_laysOrders_85 rfl ?_
          refine j_getR dX0_laysOrders_86 fl_X0_64 rfl (by first | exact Fa.sh hf | assumption) (by first | exact Fa.f14 hf | assumption) ?_
          refine j_iload dX0_laysOrders_89 rfl ?_
          refine j_dup2 dX0_laysOrders_91 rfl rfl ?_
          refine j_iald dX0_laysOrders_92 (Fa.s14 hf) rfl (show wn N t (2 * j + 1) < 8 by omega) (by decide) rdF ?_
          refine j_iconst (v := nI 1) dX0_laysOrders_93 (by decide +kernel) ?_
          refine j_iload dX0_laysOrders_94 rfl ?_
          refine j_ishl dX0_laysOrders_96 ?_
          rw [e2]
          refine j_ior dX0_laysOrders_97 ?_
          rw [nI_or]
          refine j_iast dX0_laysOrders_98 (Fa.s14 hf) rfl (show wn N t (2 * j + 1) < 8 by omega) (by decide) ?_
          rw [w14]
          first | refine j_iincN dX0_laysOrders_99 rfl (by decide) ?_ | refine j_iinc dX0_laysOrders_99 rfl rfl (by decide) ?_
          refine j_goto (tgt := 27) dX0_laysOrders_102 (by decide) ?_
          first
          | (have z : hs (nI s0) (wn N t (2 * j)) = false := c_73
             refine ih (by omega) F G (fun w hw8 => ?_) _ _
             rw [hF w hw8, hla, if_neg (fun q => Bool.false_ne_true ((z.symm.trans hsa).trans q.2.1)), Nat.or_zero])
          | (have z : hs (nI s0) (wn N t (2 * j + 1)) = false := c_82
             refine ih (by omega) F G (fun w hw8 => ?_) _ _
             rw [hF w hw8, hla, if_neg (fun q => Bool.false_ne_true ((z.symm.trans hsb).trans q.2.2)), Nat.or_zero])
          | (refine ih (by omega) _ G (fun w hw8 => ?_) _ _
             rw [hla]
             by_cases z : wn N t (2 * j + 1) = w
             · subst z
               rw [up_eq, if_pos ⟨rfl, by rw [← hsa]; exact c_73, by rw [← hsb]; exact c_82⟩]
             · rw [up_ne (fun q => z q.symm), hF w hw8, if_neg (fun q => z q.1), Nat.or_zero])
  have key1 : ∀ j, j ≤ 8 → ∀ F G, (∀ w, w < j → F w = nI 0) → Tj g l 3 MX0_laysOrders [.ref hx, .int (nI s0), .int (nI t), .int (nI m)] 0 0 (fun r τ => r = none ∧ lyQ B σ L C N W t m s0 τ) (fun _ _ _ => False) 0 0 3 [some (.ref hx), some (.int (nI s0)), some (.int (nI t)), some (.int (nI m)), some (.int (nI j)), none, none] [] (put (s34 σ B F G) L C) := by
    refine loop_up fun j hj ih => ?_
    intro F G hF
    have hf : Fa (s34 σ B F G) hx B := hf0
    refine j_iload dX0_laysOrders_3 rfl ?_
    refine j_bipush (v := nI 8) dX0_laysOrders_5 (by decide +kernel) ?_
    first | (with_reducible refine j_gNN ?_; refine j_icmp_geN (tgt := 24) dX0_laysOrders_7 (by decide) (by omega) (by omega) (fun c_7 => ?_) (fun c_7 => ?_)) | refine j_icmp_ge (tgt := 24) dX0_laysOrders_7 (by decide) (fun c_7 => ?_) (fun c_7 => ?_)
    · refine j_iconst (v := nI 0) dX0_laysOrders_24 (by decide +kernel) ?_
      refine j_istore dX0_laysOrders_25 (by decide) ?_
      exact key2 0 (by omega) F G (fun w hw8 => hF w (by omega)) _ _
    · first | refine j_aload_n dX0_laysOrders_10 rfl ?_ | refine j_aload_nN dX0_laysOrders_10 rfl ?_
      refine j_getR dX0_laysOrders_11 fl_X0_64 rfl (by first | exact Fa.sh hf | assumption) (by first | exact Fa.f14 hf | assumption) ?_
      refine j_iload dX0_laysOrders_14 rfl ?_
      refine j_iconst (v := nI 0) dX0_laysOrders_16 (by decide +kernel) ?_
      refine j_iast dX0_laysOrders_17 (Fa.s14 hf) rfl (show j < 8 by omega) (by decide) ?_
      rw [w14]
      first | refine j_iincN dX0_laysOrders_18 rfl (by decide) ?_ | refine j_iinc dX0_laysOrders_18 rfl rfl (by decide) ?_
      refine j_goto (tgt := 3) dX0_laysOrders_21 (by decide) ?_
      exact ih (by omega) _ G (fun w hw8 => by
        by_cases e : w = j
        · subst e; rw [up_eq]
        · rw [up_ne e]; exact hF w (by omega))
  have e0 : put σ L C = put (s34 σ B (σ.2.1 (B 14)) (σ.2.1 (B 13))) L C := by
    unfold s34
    rw [sU_self, sU_self]
  refine j_sg e0 ?_
  refine j_iconst (v := nI 0) dX0_laysOrders_0 (by decide +kernel) ?_
  refine j_istore dX0_laysOrders_1 (by decide) ?_
  exact key1 0 (by omega) _ _ (fun w hw8 => by omega)
theorem lyQ_eq {hx : Nat} {B : Nat → Nat} {σ : Sg} {L : Nat → Nat → Option Nat} {C F G : Nat → Int32} (hl14 : ∀ k, L (B 14) k = none) (hl13 : ∀ k, L (B 13) k = none) : Eqx hx B (put (s34 σ B F G) L C) (put σ L C) := by
  unfold s34
  rw [← put_nU hl13, ← put_nU hl14]
  exact (Eqx.su (fun k => Or.inr (Or.inl rfl))).tr (Eqx.su (fun k => Or.inr (Or.inr (Or.inl rfl))))
theorem mWhyP_all {W : Nat} {M : Nat → Int32} {N : Nat → Int64} {s t m : Nat} {set : Int32} (ht : t < 4) (hm : m ≤ 20) (h : mWhyP W M N set (nI t) (nI m) = nI 0) : ∀ j, j < 2 * m → plOk W N t j = true := by
  unfold mWhyP at h
  split at h
  · rw [ixn_nI (by omega), ixn_nI (by omega)] at h
    split at h
    · next q => exact (allB_iff _).mp q
    · exact absurd h (by decide)
  · next q => exact absurd h q
theorem q_plaits (hf0 : Fa σ hx B) (hg0 : Fq σ hx A) (hR0 : Pv σ L A C W P Dn Hn) (hw : Wx C W P Dn) (hT0 : Tr σ L B S M N) (hl14 : ∀ k, L (B 14) k = none) (hN14 : ∀ t r, t < 4 → σ.2.2.2 (B (30 + t)) 0 = some r → r ≠ B 14) (s tr n : Int32) : Kx g l hx B 5 MX0_plaits [.ref hx, .int s, .int tr, .int n] (put σ L C) 0 0 (some (.int (oPlaits W M N s tr n).1)) (put (xS σ hx (oPlaits W M N s tr n).2) L C) := by
  obtain ⟨⟨⟨hW, hW8⟩, ⟨hP, hP6⟩, ⟨hD, hD6⟩, hdn⟩, hWv, hPp⟩ := id hw
  have hf := hf0
  have hg := hg0
  have hR := hR0
  have hn := hR.nf hf
  have h8 := pw8 hW8
  rcases mWhyP_nn (W := W) (M := M) (N := N) (set := s) (tray := tr) (n := n) with h0 | h0
  · obtain ⟨ho, z2⟩ := mWhyP_0 h0
    obtain ⟨t, m, m2, ht, rfl, rfl, hm1, hMt, hm2, hle⟩ := mWhy2_0 hT0.wm z2
    obtain ⟨s, hs, rfl⟩ := okN_nI ho
    have hpl := mWhyP_all (s := s) ht hm1 h0
    have s13 : σ.1 (B 13) = some (20, 256) := Fa.s13 (L := L) (D := C) hf0
    have hl13 := hR0.noL s13 (by decide) (by decide) (by decide)
    refine Kt.go (Y := MX0_plaits) (ls := [some (.ref hx), some (.int (nI s)), some (.int (nI t)), some (.int (nI m)), none]) (by decide) (Nat.le_of_ble_eq_true rfl) rfl ?_
    first | refine j_aload_n dX0_plaits_0 rfl ?_ | refine j_aload_nN dX0_plaits_0 rfl ?_
    refine j_iload_n dX0_plaits_1 rfl ?_
    refine j_iload_n dX0_plaits_2 rfl ?_
    refine j_iload_n dX0_plaits_3 rfl ?_
    refine j_dV1 kl_X0_420 (x_wrongPlait hf hg hR hw hT0 _ _ _) dX0_plaits_4 rfl rfl (by decide) (by first | exact Fa.sh hf | assumption) (Nat.le_of_ble_eq_true rfl) (by first | decide | omega) (by omega) (by omega) ?_
    rw [h0]
    refine j_istore dX0_plaits_7 (by decide) ?_
    refine j_iload dX0_plaits_9 rfl ?_
    first | (with_reducible refine j_gC ?_; refine j_if_leC (tgt := 21) dX0_plaits_11 (by decide) (fun c_11 => ?_) (fun c_11 => ?_)) | refine j_if_le (tgt := 21) dX0_plaits_11 (by decide) (fun c_11 => ?_) (fun c_11 => ?_)
    · first | refine j_aload_n dX0_plaits_21 rfl ?_ | refine j_aload_nN dX0_plaits_21 rfl ?_
      refine j_iload_n dX0_plaits_22 rfl ?_
      refine j_iload_n dX0_plaits_23 rfl ?_
      refine j_iload_n dX0_plaits_24 rfl ?_
      refine j_callV kl_X0_423 (x_laysOrders hf hg hR hw hT0 hl14 hN14 ht hMt hm2 hle hs hpl) dX0_plaits_25 rfl rfl (by decide) (by first | exact Fa.sh hf | assumption) (Nat.le_of_ble_eq_true rfl) (by first | decide | omega) (by omega) (by omega) (fun v τ hq => ?_) (fun _ _ _ hq => hq.elim)
      obtain ⟨rfl, F, G, rfl, hF, hG⟩ := hq
      refine j_eq (st' := []) rfl rfl rfl ?_
      have r13 : (put (s34 σ B F G) L C).2.1 (B 13) s = mPl N W t m 8 s := (pgn (hl13 s)).trans ((congrFun sU_e s).trans (hG s (fun i hi => hi)))
      first | refine j_aload_n dX0_plaits_28 rfl ?_ | refine j_aload_nN dX0_plaits_28 rfl ?_
      first | refine j_aload_n dX0_plaits_29 rfl ?_ | refine j_aload_nN dX0_plaits_29 rfl ?_
      refine j_getR dX0_plaits_30 fl_X0_60 rfl (Fa.sh (σ := s34 σ B F G) hf) (Fa.f13 (σ := s34 σ B F G) hf) ?_
      refine j_iload_n dX0_plaits_33 rfl ?_
      refine j_iald dX0_plaits_34 (Fa.s13 (σ := s34 σ B F G) hf) rfl (show s < 256 by omega) (by decide) r13 ?_
      refine j_dV1 kl_X0_102 (x_gives (Fa.sh (σ := s34 σ B F G) hf) _) dX0_plaits_35 rfl rfl (by decide) (by first | exact Fa.sh hf | assumption) (Nat.le_of_ble_eq_true rfl) (by first | decide | omega) (by omega) (by omega) ?_
      refine j_iret dX0_plaits_38 ⟨_, rfl, rfl⟩ (by omega) (by omega) ?_
      exact pyR hn (by unfold oPlaits; rw [if_pos h0, ixn_nI (by omega), ixn_nI (by omega), ixn_nI (by omega)]) (lyQ_eq hl14 hl13)
    · exact absurd c_11 (by decide)
  · have h1 : ¬ mWhyP W M N s tr n = nI 0 := fun e => by rw [e] at h0; exact absurd h0 (by decide)
    refine Kt.go (Y := MX0_plaits) (ls := [some (.ref hx), some (.int s), some (.int tr), some (.int n), none]) (by decide) (Nat.le_of_ble_eq_true rfl) rfl ?_
    first | refine j_aload_n dX0_plaits_0 rfl ?_ | refine j_aload_nN dX0_plaits_0 rfl ?_
    refine j_iload_n dX0_plaits_1 rfl ?_
    refine j_iload_n dX0_plaits_2 rfl ?_
    refine j_iload_n dX0_plaits_3 rfl ?_
    refine j_dV1 kl_X0_420 (x_wrongPlait hf hg hR hw hT0 _ _ _) dX0_plaits_4 rfl rfl (by decide) (by first | exact Fa.sh hf | assumption) (Nat.le_of_ble_eq_true rfl) (by first | decide | omega) (by omega) (by omega) ?_
    refine j_istore dX0_plaits_7 (by decide) ?_
    refine j_iload dX0_plaits_9 rfl ?_
    first | (with_reducible refine j_gC ?_; refine j_if_leC (tgt := 21) dX0_plaits_11 (by decide) (fun c_11 => ?_) (fun c_11 => ?_)) | refine j_if_le (tgt := 21) dX0_plaits_11 (by decide) (fun c_11 => ?_) (fun c_11 => ?_)
    · exact absurd h0 (Int32.not_lt.mpr c_11)
    · first | refine j_aload_n dX0_plaits_14 rfl ?_ | refine j_aload_nN dX0_plaits_14 rfl ?_
      refine j_iload dX0_plaits_15 rfl ?_
      refine j_dV1 kl_X0_98 (x_none (Fa.sh hf) _) dX0_plaits_17 rfl rfl (by decide) (by first | exact Fa.sh hf | assumption) (Nat.le_of_ble_eq_true rfl) (by first | decide | omega) (by omega) (by omega) ?_
      refine j_iret dX0_plaits_20 ⟨_, rfl, rfl⟩ (by omega) (by omega) ?_
      exact pyR hn (by unfold oPlaits; rw [if_neg h1]) Eqx.rf
end X13s
